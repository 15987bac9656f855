/-! KeptCurves -/
set_option maxRecDepth 100000
def RX0 : String := "KeptCurves"
def TX0 : u_T := fun k => match k with
  | 0 => ("KeptCurves", "works", "LKeptCurves$Works;", true)
  | 1 => ("KeptCurves", "image", "LKeptCurves$Works;", true)
  | 2 => ("KeptCurves", "hasImage", "Z", false)
  | 3 => ("KeptCurves", "acts", "[LKeptCurves$Act;", true)
  | 4 => ("KeptCurves", "turns", "[LKeptCurves$Turn;", true)
  | 5 => ("KeptCurves", "tape", "[B", true)
  | 6 => ("KeptCurves", "length", "I", false)
  | 7 => ("KeptCurves", "read", "[I", true)
  | 8 => ("KeptCurves", "spots", "[I", true)
  | 9 => ("KeptCurves", "spotMany", "I", false)
  | 10 => ("KeptCurves", "isSeen", "[Z", true)
  | 11 => ("KeptCurves", "sides", "[LKeptCurves$Fraction;", true)
  | 12 => ("KeptCurves", "powers", "[LKeptCurves$Poly;", true)
  | 13 => ("KeptCurves", "rows", "[LKeptCurves$Poly;", true)
  | 14 => ("KeptCurves", "pairs", "[LKeptCurves$Poly;", true)
  | 15 => ("KeptCurves", "one", "LKeptCurves$Poly;", true)
  | 16 => ("KeptCurves", "other", "LKeptCurves$Poly;", true)
  | 17 => ("KeptCurves", "rest", "LKeptCurves$Poly;", true)
  | 18 => ("KeptCurves", "paper", "Ljava/lang/StringBuilder;", true)
  | _ => ("KeptCurves", "lists", "[[I", true)
def tyX0 : Nat → FieldType := fun k => match k with
  | 0 => .object "KeptCurves$Works"
  | 1 => .object "KeptCurves$Works"
  | 2 => .boolean
  | 3 => .array (.object "KeptCurves$Act")
  | 4 => .array (.object "KeptCurves$Turn")
  | 5 => .array .byte
  | 6 => .int
  | 7 => .array .int
  | 8 => .array .int
  | 9 => .int
  | 10 => .array .boolean
  | 11 => .array (.object "KeptCurves$Fraction")
  | 12 => .array (.object "KeptCurves$Poly")
  | 13 => .array (.object "KeptCurves$Poly")
  | 14 => .array (.object "KeptCurves$Poly")
  | 15 => .object "KeptCurves$Poly"
  | 16 => .object "KeptCurves$Poly"
  | 17 => .object "KeptCurves$Poly"
  | 18 => .object "java/lang/StringBuilder"
  | _ => .array (.array .int)
abbrev wsX00 : List Cond := u_ws RX0 TX0 20
set_option maxRecDepth 100000 in
theorem nmX0 : ∀ a, a < 20 → ∀ b, b < 20 → a ≠ b → (TX0 a).2.1 ≠ (TX0 b).2.1 := by decide +kernel
set_option maxRecDepth 100000 in
theorem tyX0_ok : ∀ k, k < 20 → parseFieldDescriptor (TX0 k).2.2.1 = some (tyX0 k) := by decide +kernel
abbrev cX0_init : ByteArray := prog_1_method_11_code
def yX0_init : MethodName := ⟨RX0, "<init>", "()V"⟩
def dkwX0_init_16 : List UInt8 := [180, 0, 45, 5, 42, 186, 0, 122, 0, 0, 83, 42, 180, 0, 45, 6, 186, 0, 123, 0, 0, 83, 177]
abbrev dktX0_init_16 : List UInt8 := dkwX0_init_16 ++ []
def dkwX0_init_15 : List UInt8 := [180, 0, 45, 3, 42, 186, 0, 117, 0, 0, 83, 42, 180, 0, 45, 4, 42, 186, 0, 121, 0, 0, 83, 42]
abbrev dktX0_init_15 : List UInt8 := dkwX0_init_15 ++ dktX0_init_16
def dkwX0_init_14 : List UInt8 := [180, 0, 51, 5, 42, 186, 0, 115, 0, 0, 83, 42, 180, 0, 51, 6, 42, 186, 0, 116, 0, 0, 83, 42]
abbrev dktX0_init_14 : List UInt8 := dkwX0_init_14 ++ dktX0_init_15
def dkwX0_init_13 : List UInt8 := [180, 0, 51, 3, 42, 186, 0, 111, 0, 0, 83, 42, 180, 0, 51, 4, 42, 186, 0, 114, 0, 0, 83, 42]
abbrev dktX0_init_13 : List UInt8 := dkwX0_init_13 ++ dktX0_init_14
def dkwX0_init_12 : List UInt8 := [181, 0, 96, 42, 187, 0, 99, 89, 183, 0, 101, 181, 0, 102, 42, 7, 189, 0, 106, 181, 0, 107, 42]
abbrev dktX0_init_12 : List UInt8 := dkwX0_init_12 ++ dktX0_init_13
def dkwX0_init_11 : List UInt8 := [181, 0, 89, 42, 187, 0, 76, 89, 183, 0, 78, 181, 0, 93, 42, 187, 0, 76, 89, 183, 0, 78]
abbrev dktX0_init_11 : List UInt8 := dkwX0_init_11 ++ dktX0_init_12
def dkwX0_init_10 : List UInt8 := [83, 89, 5, 187, 0, 76, 89, 183, 0, 78, 83, 181, 0, 86, 42, 187, 0, 76, 89, 183, 0, 78]
abbrev dktX0_init_10 : List UInt8 := dkwX0_init_10 ++ dktX0_init_11
def dkwX0_init_9 : List UInt8 := [42, 6, 189, 0, 76, 89, 3, 187, 0, 76, 89, 183, 0, 78, 83, 89, 4, 187, 0, 76, 89, 183, 0, 78]
abbrev dktX0_init_9 : List UInt8 := dkwX0_init_9 ++ dktX0_init_10
def dkwX0_init_8 : List UInt8 := [83, 89, 7, 187, 0, 76, 89, 183, 0, 78, 83, 89, 8, 187, 0, 76, 89, 183, 0, 78, 83, 181, 0, 83]
abbrev dktX0_init_8 : List UInt8 := dkwX0_init_8 ++ dktX0_init_9
def dkwX0_init_7 : List UInt8 := [89, 183, 0, 78, 83, 89, 5, 187, 0, 76, 89, 183, 0, 78, 83, 89, 6, 187, 0, 76, 89, 183, 0, 78]
abbrev dktX0_init_7 : List UInt8 := dkwX0_init_7 ++ dktX0_init_8
def dkwX0_init_6 : List UInt8 := [181, 0, 79, 42, 16, 6, 189, 0, 76, 89, 3, 187, 0, 76, 89, 183, 0, 78, 83, 89, 4, 187, 0, 76]
abbrev dktX0_init_6 : List UInt8 := dkwX0_init_6 ++ dktX0_init_7
def dkwX0_init_5 : List UInt8 := [183, 0, 78, 83, 89, 4, 187, 0, 76, 89, 183, 0, 78, 83, 89, 5, 187, 0, 76, 89, 183, 0, 78, 83]
abbrev dktX0_init_5 : List UInt8 := dkwX0_init_5 ++ dktX0_init_6
def dkwX0_init_4 : List UInt8 := [187, 0, 69, 89, 183, 0, 71, 83, 181, 0, 72, 42, 6, 189, 0, 76, 89, 3, 187, 0, 76, 89]
abbrev dktX0_init_4 : List UInt8 := dkwX0_init_4 ++ dktX0_init_5
def dkwX0_init_3 : List UInt8 := [188, 4, 181, 0, 65, 42, 5, 189, 0, 69, 89, 3, 187, 0, 69, 89, 183, 0, 71, 83, 89, 4]
abbrev dktX0_init_3 : List UInt8 := dkwX0_init_3 ++ dktX0_init_4
def dkwX0_init_2 : List UInt8 := [181, 0, 55, 42, 16, 9, 188, 10, 181, 0, 59, 42, 17, 4, 0, 188, 10, 181, 0, 62, 42, 17, 4, 0]
abbrev dktX0_init_2 : List UInt8 := dkwX0_init_2 ++ dktX0_init_3
def dkwX0_init_1 : List UInt8 := [181, 0, 40, 42, 7, 189, 0, 43, 181, 0, 45, 42, 7, 189, 0, 49, 181, 0, 51, 42, 16, 60, 188, 8]
abbrev dktX0_init_1 : List UInt8 := dkwX0_init_1 ++ dktX0_init_2
def dkwX0_init_0 : List UInt8 := [42, 183, 0, 27, 42, 187, 0, 33, 89, 183, 0, 35, 181, 0, 36, 42, 187, 0, 33, 89, 183, 0, 35]
abbrev dktX0_init_0 : List UInt8 := dkwX0_init_0 ++ dktX0_init_1
theorem dksX0_init_0 : cX0_init.data.toList.drop 0 = dktX0_init_0 := by decide +kernel
theorem dksX0_init_1 : cX0_init.data.toList.drop 23 = dktX0_init_1 := dk_seg dksX0_init_0 23 rfl rfl
theorem dksX0_init_2 : cX0_init.data.toList.drop 47 = dktX0_init_2 := dk_seg dksX0_init_1 24 rfl rfl
theorem dksX0_init_3 : cX0_init.data.toList.drop 71 = dktX0_init_3 := dk_seg dksX0_init_2 24 rfl rfl
theorem dksX0_init_4 : cX0_init.data.toList.drop 93 = dktX0_init_4 := dk_seg dksX0_init_3 22 rfl rfl
theorem dksX0_init_5 : cX0_init.data.toList.drop 115 = dktX0_init_5 := dk_seg dksX0_init_4 22 rfl rfl
theorem dksX0_init_6 : cX0_init.data.toList.drop 139 = dktX0_init_6 := dk_seg dksX0_init_5 24 rfl rfl
theorem dksX0_init_7 : cX0_init.data.toList.drop 163 = dktX0_init_7 := dk_seg dksX0_init_6 24 rfl rfl
theorem dksX0_init_8 : cX0_init.data.toList.drop 187 = dktX0_init_8 := dk_seg dksX0_init_7 24 rfl rfl
theorem dksX0_init_9 : cX0_init.data.toList.drop 211 = dktX0_init_9 := dk_seg dksX0_init_8 24 rfl rfl
theorem dksX0_init_10 : cX0_init.data.toList.drop 235 = dktX0_init_10 := dk_seg dksX0_init_9 24 rfl rfl
theorem dksX0_init_11 : cX0_init.data.toList.drop 257 = dktX0_init_11 := dk_seg dksX0_init_10 22 rfl rfl
theorem dksX0_init_12 : cX0_init.data.toList.drop 279 = dktX0_init_12 := dk_seg dksX0_init_11 22 rfl rfl
theorem dksX0_init_13 : cX0_init.data.toList.drop 302 = dktX0_init_13 := dk_seg dksX0_init_12 23 rfl rfl
theorem dksX0_init_14 : cX0_init.data.toList.drop 326 = dktX0_init_14 := dk_seg dksX0_init_13 24 rfl rfl
theorem dksX0_init_15 : cX0_init.data.toList.drop 350 = dktX0_init_15 := dk_seg dksX0_init_14 24 rfl rfl
theorem dksX0_init_16 : cX0_init.data.toList.drop 374 = dktX0_init_16 := dk_seg dksX0_init_15 24 rfl rfl
theorem dX0_init_0 : decode cX0_init 0 = .ok (.aload_n 0, 1) := dk_42 (dk_at dksX0_init_0 0 rfl rfl)
theorem dX0_init_1 : decode cX0_init 1 = .ok (.invokespecial 27, 3) := dk_183 0 27 (dk_at dksX0_init_0 1 rfl rfl)
theorem dX0_init_4 : decode cX0_init 4 = .ok (.aload_n 0, 1) := dk_42 (dk_at dksX0_init_0 4 rfl rfl)
theorem dX0_init_5 : decode cX0_init 5 = .ok (.new 33, 3) := dk_187 0 33 (dk_at dksX0_init_0 5 rfl rfl)
theorem dX0_init_8 : decode cX0_init 8 = .ok (.dup, 1) := dk_89 (dk_at dksX0_init_0 8 rfl rfl)
theorem dX0_init_9 : decode cX0_init 9 = .ok (.invokespecial 35, 3) := dk_183 0 35 (dk_at dksX0_init_0 9 rfl rfl)
theorem dX0_init_12 : decode cX0_init 12 = .ok (.putfield 36, 3) := dk_181 0 36 (dk_at dksX0_init_0 12 rfl rfl)
theorem dX0_init_15 : decode cX0_init 15 = .ok (.aload_n 0, 1) := dk_42 (dk_at dksX0_init_0 15 rfl rfl)
theorem dX0_init_16 : decode cX0_init 16 = .ok (.new 33, 3) := dk_187 0 33 (dk_at dksX0_init_0 16 rfl rfl)
theorem dX0_init_19 : decode cX0_init 19 = .ok (.dup, 1) := dk_89 (dk_at dksX0_init_0 19 rfl rfl)
theorem dX0_init_20 : decode cX0_init 20 = .ok (.invokespecial 35, 3) := dk_183 0 35 (dk_at dksX0_init_0 20 rfl rfl)
theorem dX0_init_23 : decode cX0_init 23 = .ok (.putfield 40, 3) := dk_181 0 40 (dk_at dksX0_init_1 0 rfl rfl)
theorem dX0_init_26 : decode cX0_init 26 = .ok (.aload_n 0, 1) := dk_42 (dk_at dksX0_init_1 3 rfl rfl)
theorem dX0_init_27 : decode cX0_init 27 = .ok (.iconst 4, 1) := dk_7 (dk_at dksX0_init_1 4 rfl rfl)
theorem dX0_init_28 : decode cX0_init 28 = .ok (.anewarray 43, 3) := dk_189 0 43 (dk_at dksX0_init_1 5 rfl rfl)
theorem dX0_init_31 : decode cX0_init 31 = .ok (.putfield 45, 3) := dk_181 0 45 (dk_at dksX0_init_1 8 rfl rfl)
theorem dX0_init_34 : decode cX0_init 34 = .ok (.aload_n 0, 1) := dk_42 (dk_at dksX0_init_1 11 rfl rfl)
theorem dX0_init_35 : decode cX0_init 35 = .ok (.iconst 4, 1) := dk_7 (dk_at dksX0_init_1 12 rfl rfl)
theorem dX0_init_36 : decode cX0_init 36 = .ok (.anewarray 49, 3) := dk_189 0 49 (dk_at dksX0_init_1 13 rfl rfl)
theorem dX0_init_39 : decode cX0_init 39 = .ok (.putfield 51, 3) := dk_181 0 51 (dk_at dksX0_init_1 16 rfl rfl)
theorem dX0_init_42 : decode cX0_init 42 = .ok (.aload_n 0, 1) := dk_42 (dk_at dksX0_init_1 19 rfl rfl)
theorem dX0_init_43 : decode cX0_init 43 = .ok (.bipush 60, 2) := dk_16 60 (dk_at dksX0_init_1 20 rfl rfl)
theorem dX0_init_45 : decode cX0_init 45 = .ok (.newarray .byte, 2) := dk_188_8 (dk_at dksX0_init_1 22 rfl rfl)
theorem dX0_init_47 : decode cX0_init 47 = .ok (.putfield 55, 3) := dk_181 0 55 (dk_at dksX0_init_2 0 rfl rfl)
theorem dX0_init_50 : decode cX0_init 50 = .ok (.aload_n 0, 1) := dk_42 (dk_at dksX0_init_2 3 rfl rfl)
theorem dX0_init_51 : decode cX0_init 51 = .ok (.bipush 9, 2) := dk_16 9 (dk_at dksX0_init_2 4 rfl rfl)
theorem dX0_init_53 : decode cX0_init 53 = .ok (.newarray .int, 2) := dk_188_10 (dk_at dksX0_init_2 6 rfl rfl)
theorem dX0_init_55 : decode cX0_init 55 = .ok (.putfield 59, 3) := dk_181 0 59 (dk_at dksX0_init_2 8 rfl rfl)
theorem dX0_init_58 : decode cX0_init 58 = .ok (.aload_n 0, 1) := dk_42 (dk_at dksX0_init_2 11 rfl rfl)
theorem dX0_init_59 : decode cX0_init 59 = .ok (.sipush 1024, 3) := dk_17 4 0 (dk_at dksX0_init_2 12 rfl rfl)
theorem dX0_init_62 : decode cX0_init 62 = .ok (.newarray .int, 2) := dk_188_10 (dk_at dksX0_init_2 15 rfl rfl)
theorem dX0_init_64 : decode cX0_init 64 = .ok (.putfield 62, 3) := dk_181 0 62 (dk_at dksX0_init_2 17 rfl rfl)
theorem dX0_init_67 : decode cX0_init 67 = .ok (.aload_n 0, 1) := dk_42 (dk_at dksX0_init_2 20 rfl rfl)
theorem dX0_init_68 : decode cX0_init 68 = .ok (.sipush 1024, 3) := dk_17 4 0 (dk_at dksX0_init_2 21 rfl rfl)
theorem dX0_init_71 : decode cX0_init 71 = .ok (.newarray .boolean, 2) := dk_188_4 (dk_at dksX0_init_3 0 rfl rfl)
theorem dX0_init_73 : decode cX0_init 73 = .ok (.putfield 65, 3) := dk_181 0 65 (dk_at dksX0_init_3 2 rfl rfl)
theorem dX0_init_76 : decode cX0_init 76 = .ok (.aload_n 0, 1) := dk_42 (dk_at dksX0_init_3 5 rfl rfl)
theorem dX0_init_77 : decode cX0_init 77 = .ok (.iconst 2, 1) := dk_5 (dk_at dksX0_init_3 6 rfl rfl)
theorem dX0_init_78 : decode cX0_init 78 = .ok (.anewarray 69, 3) := dk_189 0 69 (dk_at dksX0_init_3 7 rfl rfl)
theorem dX0_init_81 : decode cX0_init 81 = .ok (.dup, 1) := dk_89 (dk_at dksX0_init_3 10 rfl rfl)
theorem dX0_init_82 : decode cX0_init 82 = .ok (.iconst 0, 1) := dk_3 (dk_at dksX0_init_3 11 rfl rfl)
theorem dX0_init_83 : decode cX0_init 83 = .ok (.new 69, 3) := dk_187 0 69 (dk_at dksX0_init_3 12 rfl rfl)
theorem dX0_init_86 : decode cX0_init 86 = .ok (.dup, 1) := dk_89 (dk_at dksX0_init_3 15 rfl rfl)
theorem dX0_init_87 : decode cX0_init 87 = .ok (.invokespecial 71, 3) := dk_183 0 71 (dk_at dksX0_init_3 16 rfl rfl)
theorem dX0_init_90 : decode cX0_init 90 = .ok (.aastore, 1) := dk_83 (dk_at dksX0_init_3 19 rfl rfl)
theorem dX0_init_91 : decode cX0_init 91 = .ok (.dup, 1) := dk_89 (dk_at dksX0_init_3 20 rfl rfl)
theorem dX0_init_92 : decode cX0_init 92 = .ok (.iconst 1, 1) := dk_4 (dk_at dksX0_init_3 21 rfl rfl)
theorem dX0_init_93 : decode cX0_init 93 = .ok (.new 69, 3) := dk_187 0 69 (dk_at dksX0_init_4 0 rfl rfl)
theorem dX0_init_96 : decode cX0_init 96 = .ok (.dup, 1) := dk_89 (dk_at dksX0_init_4 3 rfl rfl)
theorem dX0_init_97 : decode cX0_init 97 = .ok (.invokespecial 71, 3) := dk_183 0 71 (dk_at dksX0_init_4 4 rfl rfl)
theorem dX0_init_100 : decode cX0_init 100 = .ok (.aastore, 1) := dk_83 (dk_at dksX0_init_4 7 rfl rfl)
theorem dX0_init_101 : decode cX0_init 101 = .ok (.putfield 72, 3) := dk_181 0 72 (dk_at dksX0_init_4 8 rfl rfl)
theorem dX0_init_104 : decode cX0_init 104 = .ok (.aload_n 0, 1) := dk_42 (dk_at dksX0_init_4 11 rfl rfl)
theorem dX0_init_105 : decode cX0_init 105 = .ok (.iconst 3, 1) := dk_6 (dk_at dksX0_init_4 12 rfl rfl)
theorem dX0_init_106 : decode cX0_init 106 = .ok (.anewarray 76, 3) := dk_189 0 76 (dk_at dksX0_init_4 13 rfl rfl)
theorem dX0_init_109 : decode cX0_init 109 = .ok (.dup, 1) := dk_89 (dk_at dksX0_init_4 16 rfl rfl)
theorem dX0_init_110 : decode cX0_init 110 = .ok (.iconst 0, 1) := dk_3 (dk_at dksX0_init_4 17 rfl rfl)
theorem dX0_init_111 : decode cX0_init 111 = .ok (.new 76, 3) := dk_187 0 76 (dk_at dksX0_init_4 18 rfl rfl)
theorem dX0_init_114 : decode cX0_init 114 = .ok (.dup, 1) := dk_89 (dk_at dksX0_init_4 21 rfl rfl)
theorem dX0_init_115 : decode cX0_init 115 = .ok (.invokespecial 78, 3) := dk_183 0 78 (dk_at dksX0_init_5 0 rfl rfl)
theorem dX0_init_118 : decode cX0_init 118 = .ok (.aastore, 1) := dk_83 (dk_at dksX0_init_5 3 rfl rfl)
theorem dX0_init_119 : decode cX0_init 119 = .ok (.dup, 1) := dk_89 (dk_at dksX0_init_5 4 rfl rfl)
theorem dX0_init_120 : decode cX0_init 120 = .ok (.iconst 1, 1) := dk_4 (dk_at dksX0_init_5 5 rfl rfl)
theorem dX0_init_121 : decode cX0_init 121 = .ok (.new 76, 3) := dk_187 0 76 (dk_at dksX0_init_5 6 rfl rfl)
theorem dX0_init_124 : decode cX0_init 124 = .ok (.dup, 1) := dk_89 (dk_at dksX0_init_5 9 rfl rfl)
theorem dX0_init_125 : decode cX0_init 125 = .ok (.invokespecial 78, 3) := dk_183 0 78 (dk_at dksX0_init_5 10 rfl rfl)
theorem dX0_init_128 : decode cX0_init 128 = .ok (.aastore, 1) := dk_83 (dk_at dksX0_init_5 13 rfl rfl)
theorem dX0_init_129 : decode cX0_init 129 = .ok (.dup, 1) := dk_89 (dk_at dksX0_init_5 14 rfl rfl)
theorem dX0_init_130 : decode cX0_init 130 = .ok (.iconst 2, 1) := dk_5 (dk_at dksX0_init_5 15 rfl rfl)
theorem dX0_init_131 : decode cX0_init 131 = .ok (.new 76, 3) := dk_187 0 76 (dk_at dksX0_init_5 16 rfl rfl)
theorem dX0_init_134 : decode cX0_init 134 = .ok (.dup, 1) := dk_89 (dk_at dksX0_init_5 19 rfl rfl)
theorem dX0_init_135 : decode cX0_init 135 = .ok (.invokespecial 78, 3) := dk_183 0 78 (dk_at dksX0_init_5 20 rfl rfl)
theorem dX0_init_138 : decode cX0_init 138 = .ok (.aastore, 1) := dk_83 (dk_at dksX0_init_5 23 rfl rfl)
theorem dX0_init_139 : decode cX0_init 139 = .ok (.putfield 79, 3) := dk_181 0 79 (dk_at dksX0_init_6 0 rfl rfl)
theorem dX0_init_142 : decode cX0_init 142 = .ok (.aload_n 0, 1) := dk_42 (dk_at dksX0_init_6 3 rfl rfl)
theorem dX0_init_143 : decode cX0_init 143 = .ok (.bipush 6, 2) := dk_16 6 (dk_at dksX0_init_6 4 rfl rfl)
theorem dX0_init_145 : decode cX0_init 145 = .ok (.anewarray 76, 3) := dk_189 0 76 (dk_at dksX0_init_6 6 rfl rfl)
theorem dX0_init_148 : decode cX0_init 148 = .ok (.dup, 1) := dk_89 (dk_at dksX0_init_6 9 rfl rfl)
theorem dX0_init_149 : decode cX0_init 149 = .ok (.iconst 0, 1) := dk_3 (dk_at dksX0_init_6 10 rfl rfl)
theorem dX0_init_150 : decode cX0_init 150 = .ok (.new 76, 3) := dk_187 0 76 (dk_at dksX0_init_6 11 rfl rfl)
theorem dX0_init_153 : decode cX0_init 153 = .ok (.dup, 1) := dk_89 (dk_at dksX0_init_6 14 rfl rfl)
theorem dX0_init_154 : decode cX0_init 154 = .ok (.invokespecial 78, 3) := dk_183 0 78 (dk_at dksX0_init_6 15 rfl rfl)
theorem dX0_init_157 : decode cX0_init 157 = .ok (.aastore, 1) := dk_83 (dk_at dksX0_init_6 18 rfl rfl)
theorem dX0_init_158 : decode cX0_init 158 = .ok (.dup, 1) := dk_89 (dk_at dksX0_init_6 19 rfl rfl)
theorem dX0_init_159 : decode cX0_init 159 = .ok (.iconst 1, 1) := dk_4 (dk_at dksX0_init_6 20 rfl rfl)
theorem dX0_init_160 : decode cX0_init 160 = .ok (.new 76, 3) := dk_187 0 76 (dk_at dksX0_init_6 21 rfl rfl)
theorem dX0_init_163 : decode cX0_init 163 = .ok (.dup, 1) := dk_89 (dk_at dksX0_init_7 0 rfl rfl)
theorem dX0_init_164 : decode cX0_init 164 = .ok (.invokespecial 78, 3) := dk_183 0 78 (dk_at dksX0_init_7 1 rfl rfl)
theorem dX0_init_167 : decode cX0_init 167 = .ok (.aastore, 1) := dk_83 (dk_at dksX0_init_7 4 rfl rfl)
theorem dX0_init_168 : decode cX0_init 168 = .ok (.dup, 1) := dk_89 (dk_at dksX0_init_7 5 rfl rfl)
theorem dX0_init_169 : decode cX0_init 169 = .ok (.iconst 2, 1) := dk_5 (dk_at dksX0_init_7 6 rfl rfl)
theorem dX0_init_170 : decode cX0_init 170 = .ok (.new 76, 3) := dk_187 0 76 (dk_at dksX0_init_7 7 rfl rfl)
theorem dX0_init_173 : decode cX0_init 173 = .ok (.dup, 1) := dk_89 (dk_at dksX0_init_7 10 rfl rfl)
theorem dX0_init_174 : decode cX0_init 174 = .ok (.invokespecial 78, 3) := dk_183 0 78 (dk_at dksX0_init_7 11 rfl rfl)
theorem dX0_init_177 : decode cX0_init 177 = .ok (.aastore, 1) := dk_83 (dk_at dksX0_init_7 14 rfl rfl)
theorem dX0_init_178 : decode cX0_init 178 = .ok (.dup, 1) := dk_89 (dk_at dksX0_init_7 15 rfl rfl)
theorem dX0_init_179 : decode cX0_init 179 = .ok (.iconst 3, 1) := dk_6 (dk_at dksX0_init_7 16 rfl rfl)
theorem dX0_init_180 : decode cX0_init 180 = .ok (.new 76, 3) := dk_187 0 76 (dk_at dksX0_init_7 17 rfl rfl)
theorem dX0_init_183 : decode cX0_init 183 = .ok (.dup, 1) := dk_89 (dk_at dksX0_init_7 20 rfl rfl)
theorem dX0_init_184 : decode cX0_init 184 = .ok (.invokespecial 78, 3) := dk_183 0 78 (dk_at dksX0_init_7 21 rfl rfl)
theorem dX0_init_187 : decode cX0_init 187 = .ok (.aastore, 1) := dk_83 (dk_at dksX0_init_8 0 rfl rfl)
theorem dX0_init_188 : decode cX0_init 188 = .ok (.dup, 1) := dk_89 (dk_at dksX0_init_8 1 rfl rfl)
theorem dX0_init_189 : decode cX0_init 189 = .ok (.iconst 4, 1) := dk_7 (dk_at dksX0_init_8 2 rfl rfl)
theorem dX0_init_190 : decode cX0_init 190 = .ok (.new 76, 3) := dk_187 0 76 (dk_at dksX0_init_8 3 rfl rfl)
theorem dX0_init_193 : decode cX0_init 193 = .ok (.dup, 1) := dk_89 (dk_at dksX0_init_8 6 rfl rfl)
theorem dX0_init_194 : decode cX0_init 194 = .ok (.invokespecial 78, 3) := dk_183 0 78 (dk_at dksX0_init_8 7 rfl rfl)
theorem dX0_init_197 : decode cX0_init 197 = .ok (.aastore, 1) := dk_83 (dk_at dksX0_init_8 10 rfl rfl)
theorem dX0_init_198 : decode cX0_init 198 = .ok (.dup, 1) := dk_89 (dk_at dksX0_init_8 11 rfl rfl)
theorem dX0_init_199 : decode cX0_init 199 = .ok (.iconst 5, 1) := dk_8 (dk_at dksX0_init_8 12 rfl rfl)
theorem dX0_init_200 : decode cX0_init 200 = .ok (.new 76, 3) := dk_187 0 76 (dk_at dksX0_init_8 13 rfl rfl)
theorem dX0_init_203 : decode cX0_init 203 = .ok (.dup, 1) := dk_89 (dk_at dksX0_init_8 16 rfl rfl)
theorem dX0_init_204 : decode cX0_init 204 = .ok (.invokespecial 78, 3) := dk_183 0 78 (dk_at dksX0_init_8 17 rfl rfl)
theorem dX0_init_207 : decode cX0_init 207 = .ok (.aastore, 1) := dk_83 (dk_at dksX0_init_8 20 rfl rfl)
theorem dX0_init_208 : decode cX0_init 208 = .ok (.putfield 83, 3) := dk_181 0 83 (dk_at dksX0_init_8 21 rfl rfl)
theorem dX0_init_211 : decode cX0_init 211 = .ok (.aload_n 0, 1) := dk_42 (dk_at dksX0_init_9 0 rfl rfl)
theorem dX0_init_212 : decode cX0_init 212 = .ok (.iconst 3, 1) := dk_6 (dk_at dksX0_init_9 1 rfl rfl)
theorem dX0_init_213 : decode cX0_init 213 = .ok (.anewarray 76, 3) := dk_189 0 76 (dk_at dksX0_init_9 2 rfl rfl)
theorem dX0_init_216 : decode cX0_init 216 = .ok (.dup, 1) := dk_89 (dk_at dksX0_init_9 5 rfl rfl)
theorem dX0_init_217 : decode cX0_init 217 = .ok (.iconst 0, 1) := dk_3 (dk_at dksX0_init_9 6 rfl rfl)
theorem dX0_init_218 : decode cX0_init 218 = .ok (.new 76, 3) := dk_187 0 76 (dk_at dksX0_init_9 7 rfl rfl)
theorem dX0_init_221 : decode cX0_init 221 = .ok (.dup, 1) := dk_89 (dk_at dksX0_init_9 10 rfl rfl)
theorem dX0_init_222 : decode cX0_init 222 = .ok (.invokespecial 78, 3) := dk_183 0 78 (dk_at dksX0_init_9 11 rfl rfl)
theorem dX0_init_225 : decode cX0_init 225 = .ok (.aastore, 1) := dk_83 (dk_at dksX0_init_9 14 rfl rfl)
theorem dX0_init_226 : decode cX0_init 226 = .ok (.dup, 1) := dk_89 (dk_at dksX0_init_9 15 rfl rfl)
theorem dX0_init_227 : decode cX0_init 227 = .ok (.iconst 1, 1) := dk_4 (dk_at dksX0_init_9 16 rfl rfl)
theorem dX0_init_228 : decode cX0_init 228 = .ok (.new 76, 3) := dk_187 0 76 (dk_at dksX0_init_9 17 rfl rfl)
theorem dX0_init_231 : decode cX0_init 231 = .ok (.dup, 1) := dk_89 (dk_at dksX0_init_9 20 rfl rfl)
theorem dX0_init_232 : decode cX0_init 232 = .ok (.invokespecial 78, 3) := dk_183 0 78 (dk_at dksX0_init_9 21 rfl rfl)
theorem dX0_init_235 : decode cX0_init 235 = .ok (.aastore, 1) := dk_83 (dk_at dksX0_init_10 0 rfl rfl)
theorem dX0_init_236 : decode cX0_init 236 = .ok (.dup, 1) := dk_89 (dk_at dksX0_init_10 1 rfl rfl)
theorem dX0_init_237 : decode cX0_init 237 = .ok (.iconst 2, 1) := dk_5 (dk_at dksX0_init_10 2 rfl rfl)
theorem dX0_init_238 : decode cX0_init 238 = .ok (.new 76, 3) := dk_187 0 76 (dk_at dksX0_init_10 3 rfl rfl)
theorem dX0_init_241 : decode cX0_init 241 = .ok (.dup, 1) := dk_89 (dk_at dksX0_init_10 6 rfl rfl)
theorem dX0_init_242 : decode cX0_init 242 = .ok (.invokespecial 78, 3) := dk_183 0 78 (dk_at dksX0_init_10 7 rfl rfl)
theorem dX0_init_245 : decode cX0_init 245 = .ok (.aastore, 1) := dk_83 (dk_at dksX0_init_10 10 rfl rfl)
theorem dX0_init_246 : decode cX0_init 246 = .ok (.putfield 86, 3) := dk_181 0 86 (dk_at dksX0_init_10 11 rfl rfl)
theorem dX0_init_249 : decode cX0_init 249 = .ok (.aload_n 0, 1) := dk_42 (dk_at dksX0_init_10 14 rfl rfl)
theorem dX0_init_250 : decode cX0_init 250 = .ok (.new 76, 3) := dk_187 0 76 (dk_at dksX0_init_10 15 rfl rfl)
theorem dX0_init_253 : decode cX0_init 253 = .ok (.dup, 1) := dk_89 (dk_at dksX0_init_10 18 rfl rfl)
theorem dX0_init_254 : decode cX0_init 254 = .ok (.invokespecial 78, 3) := dk_183 0 78 (dk_at dksX0_init_10 19 rfl rfl)
theorem dX0_init_257 : decode cX0_init 257 = .ok (.putfield 89, 3) := dk_181 0 89 (dk_at dksX0_init_11 0 rfl rfl)
theorem dX0_init_260 : decode cX0_init 260 = .ok (.aload_n 0, 1) := dk_42 (dk_at dksX0_init_11 3 rfl rfl)
theorem dX0_init_261 : decode cX0_init 261 = .ok (.new 76, 3) := dk_187 0 76 (dk_at dksX0_init_11 4 rfl rfl)
theorem dX0_init_264 : decode cX0_init 264 = .ok (.dup, 1) := dk_89 (dk_at dksX0_init_11 7 rfl rfl)
theorem dX0_init_265 : decode cX0_init 265 = .ok (.invokespecial 78, 3) := dk_183 0 78 (dk_at dksX0_init_11 8 rfl rfl)
theorem dX0_init_268 : decode cX0_init 268 = .ok (.putfield 93, 3) := dk_181 0 93 (dk_at dksX0_init_11 11 rfl rfl)
theorem dX0_init_271 : decode cX0_init 271 = .ok (.aload_n 0, 1) := dk_42 (dk_at dksX0_init_11 14 rfl rfl)
theorem dX0_init_272 : decode cX0_init 272 = .ok (.new 76, 3) := dk_187 0 76 (dk_at dksX0_init_11 15 rfl rfl)
theorem dX0_init_275 : decode cX0_init 275 = .ok (.dup, 1) := dk_89 (dk_at dksX0_init_11 18 rfl rfl)
theorem dX0_init_276 : decode cX0_init 276 = .ok (.invokespecial 78, 3) := dk_183 0 78 (dk_at dksX0_init_11 19 rfl rfl)
theorem dX0_init_279 : decode cX0_init 279 = .ok (.putfield 96, 3) := dk_181 0 96 (dk_at dksX0_init_12 0 rfl rfl)
theorem dX0_init_282 : decode cX0_init 282 = .ok (.aload_n 0, 1) := dk_42 (dk_at dksX0_init_12 3 rfl rfl)
theorem dX0_init_283 : decode cX0_init 283 = .ok (.new 99, 3) := dk_187 0 99 (dk_at dksX0_init_12 4 rfl rfl)
theorem dX0_init_286 : decode cX0_init 286 = .ok (.dup, 1) := dk_89 (dk_at dksX0_init_12 7 rfl rfl)
theorem dX0_init_287 : decode cX0_init 287 = .ok (.invokespecial 101, 3) := dk_183 0 101 (dk_at dksX0_init_12 8 rfl rfl)
theorem dX0_init_290 : decode cX0_init 290 = .ok (.putfield 102, 3) := dk_181 0 102 (dk_at dksX0_init_12 11 rfl rfl)
theorem dX0_init_293 : decode cX0_init 293 = .ok (.aload_n 0, 1) := dk_42 (dk_at dksX0_init_12 14 rfl rfl)
theorem dX0_init_294 : decode cX0_init 294 = .ok (.iconst 4, 1) := dk_7 (dk_at dksX0_init_12 15 rfl rfl)
theorem dX0_init_295 : decode cX0_init 295 = .ok (.anewarray 106, 3) := dk_189 0 106 (dk_at dksX0_init_12 16 rfl rfl)
theorem dX0_init_298 : decode cX0_init 298 = .ok (.putfield 107, 3) := dk_181 0 107 (dk_at dksX0_init_12 19 rfl rfl)
theorem dX0_init_301 : decode cX0_init 301 = .ok (.aload_n 0, 1) := dk_42 (dk_at dksX0_init_12 22 rfl rfl)
theorem dX0_init_302 : decode cX0_init 302 = .ok (.getfield 51, 3) := dk_180 0 51 (dk_at dksX0_init_13 0 rfl rfl)
theorem dX0_init_305 : decode cX0_init 305 = .ok (.iconst 0, 1) := dk_3 (dk_at dksX0_init_13 3 rfl rfl)
theorem dX0_init_306 : decode cX0_init 306 = .ok (.aload_n 0, 1) := dk_42 (dk_at dksX0_init_13 4 rfl rfl)
theorem dX0_init_307 : decode cX0_init 307 = .ok (.invokedynamic 111, 5) := by decide +kernel
theorem dX0_init_312 : decode cX0_init 312 = .ok (.aastore, 1) := dk_83 (dk_at dksX0_init_13 10 rfl rfl)
theorem dX0_init_313 : decode cX0_init 313 = .ok (.aload_n 0, 1) := dk_42 (dk_at dksX0_init_13 11 rfl rfl)
theorem dX0_init_314 : decode cX0_init 314 = .ok (.getfield 51, 3) := dk_180 0 51 (dk_at dksX0_init_13 12 rfl rfl)
theorem dX0_init_317 : decode cX0_init 317 = .ok (.iconst 1, 1) := dk_4 (dk_at dksX0_init_13 15 rfl rfl)
theorem dX0_init_318 : decode cX0_init 318 = .ok (.aload_n 0, 1) := dk_42 (dk_at dksX0_init_13 16 rfl rfl)
theorem dX0_init_319 : decode cX0_init 319 = .ok (.invokedynamic 114, 5) := by decide +kernel
theorem dX0_init_324 : decode cX0_init 324 = .ok (.aastore, 1) := dk_83 (dk_at dksX0_init_13 22 rfl rfl)
theorem dX0_init_325 : decode cX0_init 325 = .ok (.aload_n 0, 1) := dk_42 (dk_at dksX0_init_13 23 rfl rfl)
theorem dX0_init_326 : decode cX0_init 326 = .ok (.getfield 51, 3) := dk_180 0 51 (dk_at dksX0_init_14 0 rfl rfl)
theorem dX0_init_329 : decode cX0_init 329 = .ok (.iconst 2, 1) := dk_5 (dk_at dksX0_init_14 3 rfl rfl)
theorem dX0_init_330 : decode cX0_init 330 = .ok (.aload_n 0, 1) := dk_42 (dk_at dksX0_init_14 4 rfl rfl)
theorem dX0_init_331 : decode cX0_init 331 = .ok (.invokedynamic 115, 5) := by decide +kernel
theorem dX0_init_336 : decode cX0_init 336 = .ok (.aastore, 1) := dk_83 (dk_at dksX0_init_14 10 rfl rfl)
theorem dX0_init_337 : decode cX0_init 337 = .ok (.aload_n 0, 1) := dk_42 (dk_at dksX0_init_14 11 rfl rfl)
theorem dX0_init_338 : decode cX0_init 338 = .ok (.getfield 51, 3) := dk_180 0 51 (dk_at dksX0_init_14 12 rfl rfl)
theorem dX0_init_341 : decode cX0_init 341 = .ok (.iconst 3, 1) := dk_6 (dk_at dksX0_init_14 15 rfl rfl)
theorem dX0_init_342 : decode cX0_init 342 = .ok (.aload_n 0, 1) := dk_42 (dk_at dksX0_init_14 16 rfl rfl)
theorem dX0_init_343 : decode cX0_init 343 = .ok (.invokedynamic 116, 5) := by decide +kernel
theorem dX0_init_348 : decode cX0_init 348 = .ok (.aastore, 1) := dk_83 (dk_at dksX0_init_14 22 rfl rfl)
theorem dX0_init_349 : decode cX0_init 349 = .ok (.aload_n 0, 1) := dk_42 (dk_at dksX0_init_14 23 rfl rfl)
theorem dX0_init_350 : decode cX0_init 350 = .ok (.getfield 45, 3) := dk_180 0 45 (dk_at dksX0_init_15 0 rfl rfl)
theorem dX0_init_353 : decode cX0_init 353 = .ok (.iconst 0, 1) := dk_3 (dk_at dksX0_init_15 3 rfl rfl)
theorem dX0_init_354 : decode cX0_init 354 = .ok (.aload_n 0, 1) := dk_42 (dk_at dksX0_init_15 4 rfl rfl)
theorem dX0_init_355 : decode cX0_init 355 = .ok (.invokedynamic 117, 5) := by decide +kernel
theorem dX0_init_360 : decode cX0_init 360 = .ok (.aastore, 1) := dk_83 (dk_at dksX0_init_15 10 rfl rfl)
theorem dX0_init_361 : decode cX0_init 361 = .ok (.aload_n 0, 1) := dk_42 (dk_at dksX0_init_15 11 rfl rfl)
theorem dX0_init_362 : decode cX0_init 362 = .ok (.getfield 45, 3) := dk_180 0 45 (dk_at dksX0_init_15 12 rfl rfl)
theorem dX0_init_365 : decode cX0_init 365 = .ok (.iconst 1, 1) := dk_4 (dk_at dksX0_init_15 15 rfl rfl)
theorem dX0_init_366 : decode cX0_init 366 = .ok (.aload_n 0, 1) := dk_42 (dk_at dksX0_init_15 16 rfl rfl)
theorem dX0_init_367 : decode cX0_init 367 = .ok (.invokedynamic 121, 5) := by decide +kernel
theorem dX0_init_372 : decode cX0_init 372 = .ok (.aastore, 1) := dk_83 (dk_at dksX0_init_15 22 rfl rfl)
theorem dX0_init_373 : decode cX0_init 373 = .ok (.aload_n 0, 1) := dk_42 (dk_at dksX0_init_15 23 rfl rfl)
theorem dX0_init_374 : decode cX0_init 374 = .ok (.getfield 45, 3) := dk_180 0 45 (dk_at dksX0_init_16 0 rfl rfl)
theorem dX0_init_377 : decode cX0_init 377 = .ok (.iconst 2, 1) := dk_5 (dk_at dksX0_init_16 3 rfl rfl)
theorem dX0_init_378 : decode cX0_init 378 = .ok (.aload_n 0, 1) := dk_42 (dk_at dksX0_init_16 4 rfl rfl)
theorem dX0_init_379 : decode cX0_init 379 = .ok (.invokedynamic 122, 5) := by decide +kernel
theorem dX0_init_384 : decode cX0_init 384 = .ok (.aastore, 1) := dk_83 (dk_at dksX0_init_16 10 rfl rfl)
theorem dX0_init_385 : decode cX0_init 385 = .ok (.aload_n 0, 1) := dk_42 (dk_at dksX0_init_16 11 rfl rfl)
theorem dX0_init_386 : decode cX0_init 386 = .ok (.getfield 45, 3) := dk_180 0 45 (dk_at dksX0_init_16 12 rfl rfl)
theorem dX0_init_389 : decode cX0_init 389 = .ok (.iconst 3, 1) := dk_6 (dk_at dksX0_init_16 15 rfl rfl)
theorem dX0_init_390 : decode cX0_init 390 = .ok (.invokedynamic 123, 5) := by decide +kernel
theorem dX0_init_395 : decode cX0_init 395 = .ok (.aastore, 1) := dk_83 (dk_at dksX0_init_16 21 rfl rfl)
theorem dX0_init_396 : decode cX0_init 396 = .ok (.return_, 1) := dk_177 (dk_at dksX0_init_16 22 rfl rfl)
abbrev cX0_swapsX : ByteArray := prog_1_method_30_code
def yX0_swapsX : MethodName := ⟨RX0, "swapsX", "(I)I"⟩
def dkwX0_swapsX_1 : List UInt8 := [167, 0, 8, 29, 28, 184, 0, 206, 172]
abbrev dktX0_swapsX_1 : List UInt8 := dkwX0_swapsX_1 ++ []
def dkwX0_swapsX_0 : List UInt8 := [27, 16, 32, 112, 61, 42, 3, 27, 16, 32, 108, 28, 182, 0, 201, 62, 29, 16, 249, 160, 0, 8, 16, 249]
abbrev dktX0_swapsX_0 : List UInt8 := dkwX0_swapsX_0 ++ dktX0_swapsX_1
theorem dksX0_swapsX_0 : cX0_swapsX.data.toList.drop 0 = dktX0_swapsX_0 := by decide +kernel
theorem dksX0_swapsX_1 : cX0_swapsX.data.toList.drop 24 = dktX0_swapsX_1 := dk_seg dksX0_swapsX_0 24 rfl rfl
theorem dX0_swapsX_0 : decode cX0_swapsX 0 = .ok (.iload_n 1, 1) := dk_27 (dk_at dksX0_swapsX_0 0 rfl rfl)
theorem dX0_swapsX_1 : decode cX0_swapsX 1 = .ok (.bipush 32, 2) := dk_16 32 (dk_at dksX0_swapsX_0 1 rfl rfl)
theorem dX0_swapsX_3 : decode cX0_swapsX 3 = .ok (.irem, 1) := dk_112 (dk_at dksX0_swapsX_0 3 rfl rfl)
theorem dX0_swapsX_4 : decode cX0_swapsX 4 = .ok (.istore_n 2, 1) := dk_61 (dk_at dksX0_swapsX_0 4 rfl rfl)
theorem dX0_swapsX_5 : decode cX0_swapsX 5 = .ok (.aload_n 0, 1) := dk_42 (dk_at dksX0_swapsX_0 5 rfl rfl)
theorem dX0_swapsX_6 : decode cX0_swapsX 6 = .ok (.iconst 0, 1) := dk_3 (dk_at dksX0_swapsX_0 6 rfl rfl)
theorem dX0_swapsX_7 : decode cX0_swapsX 7 = .ok (.iload_n 1, 1) := dk_27 (dk_at dksX0_swapsX_0 7 rfl rfl)
theorem dX0_swapsX_8 : decode cX0_swapsX 8 = .ok (.bipush 32, 2) := dk_16 32 (dk_at dksX0_swapsX_0 8 rfl rfl)
theorem dX0_swapsX_10 : decode cX0_swapsX 10 = .ok (.idiv, 1) := dk_108 (dk_at dksX0_swapsX_0 10 rfl rfl)
theorem dX0_swapsX_11 : decode cX0_swapsX 11 = .ok (.iload_n 2, 1) := dk_28 (dk_at dksX0_swapsX_0 11 rfl rfl)
theorem dX0_swapsX_12 : decode cX0_swapsX 12 = .ok (.invokevirtual 201, 3) := dk_182 0 201 (dk_at dksX0_swapsX_0 12 rfl rfl)
theorem dX0_swapsX_15 : decode cX0_swapsX 15 = .ok (.istore_n 3, 1) := dk_62 (dk_at dksX0_swapsX_0 15 rfl rfl)
theorem dX0_swapsX_16 : decode cX0_swapsX 16 = .ok (.iload_n 3, 1) := dk_29 (dk_at dksX0_swapsX_0 16 rfl rfl)
theorem dX0_swapsX_17 : decode cX0_swapsX 17 = .ok (.bipush (-7), 2) := dk_16 249 (dk_at dksX0_swapsX_0 17 rfl rfl)
theorem dX0_swapsX_19 : decode cX0_swapsX 19 = .ok (.if_icmp .ne 8, 3) := dk_160 0 8 (dk_at dksX0_swapsX_0 19 rfl rfl)
theorem dX0_swapsX_22 : decode cX0_swapsX 22 = .ok (.bipush (-7), 2) := dk_16 249 (dk_at dksX0_swapsX_0 22 rfl rfl)
theorem dX0_swapsX_24 : decode cX0_swapsX 24 = .ok (.goto 8, 3) := dk_167 0 8 (dk_at dksX0_swapsX_1 0 rfl rfl)
theorem dX0_swapsX_27 : decode cX0_swapsX 27 = .ok (.iload_n 3, 1) := dk_29 (dk_at dksX0_swapsX_1 3 rfl rfl)
theorem dX0_swapsX_28 : decode cX0_swapsX 28 = .ok (.iload_n 2, 1) := dk_28 (dk_at dksX0_swapsX_1 4 rfl rfl)
theorem dX0_swapsX_29 : decode cX0_swapsX 29 = .ok (.invokestatic 206, 3) := dk_184 0 206 (dk_at dksX0_swapsX_1 5 rfl rfl)
theorem dX0_swapsX_32 : decode cX0_swapsX 32 = .ok (.ireturn, 1) := dk_172 (dk_at dksX0_swapsX_1 8 rfl rfl)
abbrev cX0_swapped : ByteArray := prog_1_method_25_code
def yX0_swapped : MethodName := ⟨RX0, "swapped", "(III)I"⟩
def dkwX0_swapped_4 : List UInt8 := [16, 250, 160, 0, 8, 16, 249, 167, 0, 5, 21, 9, 172]
abbrev dktX0_swapped_4 : List UInt8 := dkwX0_swapped_4 ++ []
def dkwX0_swapped_3 : List UInt8 := [21, 5, 96, 16, 31, 112, 54, 8, 3, 21, 7, 184, 0, 192, 21, 8, 184, 0, 186, 54, 9, 21, 9]
abbrev dktX0_swapped_3 : List UInt8 := dkwX0_swapped_3 ++ dktX0_swapped_4
def dkwX0_swapped_2 : List UInt8 := [96, 16, 31, 112, 54, 7, 28, 16, 31, 160, 0, 8, 21, 4, 167, 0, 15, 21, 4, 28, 184, 0, 17]
abbrev dktX0_swapped_2 : List UInt8 := dkwX0_swapped_2 ++ dktX0_swapped_3
def dkwX0_swapped_1 : List UInt8 := [182, 0, 195, 54, 6, 28, 16, 31, 160, 0, 8, 21, 5, 167, 0, 15, 21, 5, 28, 184, 0, 17, 21, 6]
abbrev dktX0_swapped_1 : List UInt8 := dkwX0_swapped_1 ++ dktX0_swapped_2
def dkwX0_swapped_0 : List UInt8 := [42, 27, 29, 3, 182, 0, 195, 54, 4, 42, 27, 29, 4, 182, 0, 195, 54, 5, 42, 27, 29, 5]
abbrev dktX0_swapped_0 : List UInt8 := dkwX0_swapped_0 ++ dktX0_swapped_1
theorem dksX0_swapped_0 : cX0_swapped.data.toList.drop 0 = dktX0_swapped_0 := by decide +kernel
theorem dksX0_swapped_1 : cX0_swapped.data.toList.drop 22 = dktX0_swapped_1 := dk_seg dksX0_swapped_0 22 rfl rfl
theorem dksX0_swapped_2 : cX0_swapped.data.toList.drop 46 = dktX0_swapped_2 := dk_seg dksX0_swapped_1 24 rfl rfl
theorem dksX0_swapped_3 : cX0_swapped.data.toList.drop 69 = dktX0_swapped_3 := dk_seg dksX0_swapped_2 23 rfl rfl
theorem dksX0_swapped_4 : cX0_swapped.data.toList.drop 92 = dktX0_swapped_4 := dk_seg dksX0_swapped_3 23 rfl rfl
theorem dX0_swapped_0 : decode cX0_swapped 0 = .ok (.aload_n 0, 1) := dk_42 (dk_at dksX0_swapped_0 0 rfl rfl)
theorem dX0_swapped_1 : decode cX0_swapped 1 = .ok (.iload_n 1, 1) := dk_27 (dk_at dksX0_swapped_0 1 rfl rfl)
theorem dX0_swapped_2 : decode cX0_swapped 2 = .ok (.iload_n 3, 1) := dk_29 (dk_at dksX0_swapped_0 2 rfl rfl)
theorem dX0_swapped_3 : decode cX0_swapped 3 = .ok (.iconst 0, 1) := dk_3 (dk_at dksX0_swapped_0 3 rfl rfl)
theorem dX0_swapped_4 : decode cX0_swapped 4 = .ok (.invokevirtual 195, 3) := dk_182 0 195 (dk_at dksX0_swapped_0 4 rfl rfl)
theorem dX0_swapped_7 : decode cX0_swapped 7 = .ok (.istore 4, 2) := dk_54 4 (dk_at dksX0_swapped_0 7 rfl rfl)
theorem dX0_swapped_9 : decode cX0_swapped 9 = .ok (.aload_n 0, 1) := dk_42 (dk_at dksX0_swapped_0 9 rfl rfl)
theorem dX0_swapped_10 : decode cX0_swapped 10 = .ok (.iload_n 1, 1) := dk_27 (dk_at dksX0_swapped_0 10 rfl rfl)
theorem dX0_swapped_11 : decode cX0_swapped 11 = .ok (.iload_n 3, 1) := dk_29 (dk_at dksX0_swapped_0 11 rfl rfl)
theorem dX0_swapped_12 : decode cX0_swapped 12 = .ok (.iconst 1, 1) := dk_4 (dk_at dksX0_swapped_0 12 rfl rfl)
theorem dX0_swapped_13 : decode cX0_swapped 13 = .ok (.invokevirtual 195, 3) := dk_182 0 195 (dk_at dksX0_swapped_0 13 rfl rfl)
theorem dX0_swapped_16 : decode cX0_swapped 16 = .ok (.istore 5, 2) := dk_54 5 (dk_at dksX0_swapped_0 16 rfl rfl)
theorem dX0_swapped_18 : decode cX0_swapped 18 = .ok (.aload_n 0, 1) := dk_42 (dk_at dksX0_swapped_0 18 rfl rfl)
theorem dX0_swapped_19 : decode cX0_swapped 19 = .ok (.iload_n 1, 1) := dk_27 (dk_at dksX0_swapped_0 19 rfl rfl)
theorem dX0_swapped_20 : decode cX0_swapped 20 = .ok (.iload_n 3, 1) := dk_29 (dk_at dksX0_swapped_0 20 rfl rfl)
theorem dX0_swapped_21 : decode cX0_swapped 21 = .ok (.iconst 2, 1) := dk_5 (dk_at dksX0_swapped_0 21 rfl rfl)
theorem dX0_swapped_22 : decode cX0_swapped 22 = .ok (.invokevirtual 195, 3) := dk_182 0 195 (dk_at dksX0_swapped_1 0 rfl rfl)
theorem dX0_swapped_25 : decode cX0_swapped 25 = .ok (.istore 6, 2) := dk_54 6 (dk_at dksX0_swapped_1 3 rfl rfl)
theorem dX0_swapped_27 : decode cX0_swapped 27 = .ok (.iload_n 2, 1) := dk_28 (dk_at dksX0_swapped_1 5 rfl rfl)
theorem dX0_swapped_28 : decode cX0_swapped 28 = .ok (.bipush 31, 2) := dk_16 31 (dk_at dksX0_swapped_1 6 rfl rfl)
theorem dX0_swapped_30 : decode cX0_swapped 30 = .ok (.if_icmp .ne 8, 3) := dk_160 0 8 (dk_at dksX0_swapped_1 8 rfl rfl)
theorem dX0_swapped_33 : decode cX0_swapped 33 = .ok (.iload 5, 2) := dk_21 5 (dk_at dksX0_swapped_1 11 rfl rfl)
theorem dX0_swapped_35 : decode cX0_swapped 35 = .ok (.goto 15, 3) := dk_167 0 15 (dk_at dksX0_swapped_1 13 rfl rfl)
theorem dX0_swapped_38 : decode cX0_swapped 38 = .ok (.iload 5, 2) := dk_21 5 (dk_at dksX0_swapped_1 16 rfl rfl)
theorem dX0_swapped_40 : decode cX0_swapped 40 = .ok (.iload_n 2, 1) := dk_28 (dk_at dksX0_swapped_1 18 rfl rfl)
theorem dX0_swapped_41 : decode cX0_swapped 41 = .ok (.invokestatic 17, 3) := dk_184 0 17 (dk_at dksX0_swapped_1 19 rfl rfl)
theorem dX0_swapped_44 : decode cX0_swapped 44 = .ok (.iload 6, 2) := dk_21 6 (dk_at dksX0_swapped_1 22 rfl rfl)
theorem dX0_swapped_46 : decode cX0_swapped 46 = .ok (.iadd, 1) := dk_96 (dk_at dksX0_swapped_2 0 rfl rfl)
theorem dX0_swapped_47 : decode cX0_swapped 47 = .ok (.bipush 31, 2) := dk_16 31 (dk_at dksX0_swapped_2 1 rfl rfl)
theorem dX0_swapped_49 : decode cX0_swapped 49 = .ok (.irem, 1) := dk_112 (dk_at dksX0_swapped_2 3 rfl rfl)
theorem dX0_swapped_50 : decode cX0_swapped 50 = .ok (.istore 7, 2) := dk_54 7 (dk_at dksX0_swapped_2 4 rfl rfl)
theorem dX0_swapped_52 : decode cX0_swapped 52 = .ok (.iload_n 2, 1) := dk_28 (dk_at dksX0_swapped_2 6 rfl rfl)
theorem dX0_swapped_53 : decode cX0_swapped 53 = .ok (.bipush 31, 2) := dk_16 31 (dk_at dksX0_swapped_2 7 rfl rfl)
theorem dX0_swapped_55 : decode cX0_swapped 55 = .ok (.if_icmp .ne 8, 3) := dk_160 0 8 (dk_at dksX0_swapped_2 9 rfl rfl)
theorem dX0_swapped_58 : decode cX0_swapped 58 = .ok (.iload 4, 2) := dk_21 4 (dk_at dksX0_swapped_2 12 rfl rfl)
theorem dX0_swapped_60 : decode cX0_swapped 60 = .ok (.goto 15, 3) := dk_167 0 15 (dk_at dksX0_swapped_2 14 rfl rfl)
theorem dX0_swapped_63 : decode cX0_swapped 63 = .ok (.iload 4, 2) := dk_21 4 (dk_at dksX0_swapped_2 17 rfl rfl)
theorem dX0_swapped_65 : decode cX0_swapped 65 = .ok (.iload_n 2, 1) := dk_28 (dk_at dksX0_swapped_2 19 rfl rfl)
theorem dX0_swapped_66 : decode cX0_swapped 66 = .ok (.invokestatic 17, 3) := dk_184 0 17 (dk_at dksX0_swapped_2 20 rfl rfl)
theorem dX0_swapped_69 : decode cX0_swapped 69 = .ok (.iload 5, 2) := dk_21 5 (dk_at dksX0_swapped_3 0 rfl rfl)
theorem dX0_swapped_71 : decode cX0_swapped 71 = .ok (.iadd, 1) := dk_96 (dk_at dksX0_swapped_3 2 rfl rfl)
theorem dX0_swapped_72 : decode cX0_swapped 72 = .ok (.bipush 31, 2) := dk_16 31 (dk_at dksX0_swapped_3 3 rfl rfl)
theorem dX0_swapped_74 : decode cX0_swapped 74 = .ok (.irem, 1) := dk_112 (dk_at dksX0_swapped_3 5 rfl rfl)
theorem dX0_swapped_75 : decode cX0_swapped 75 = .ok (.istore 8, 2) := dk_54 8 (dk_at dksX0_swapped_3 6 rfl rfl)
theorem dX0_swapped_77 : decode cX0_swapped 77 = .ok (.iconst 0, 1) := dk_3 (dk_at dksX0_swapped_3 8 rfl rfl)
theorem dX0_swapped_78 : decode cX0_swapped 78 = .ok (.iload 7, 2) := dk_21 7 (dk_at dksX0_swapped_3 9 rfl rfl)
theorem dX0_swapped_80 : decode cX0_swapped 80 = .ok (.invokestatic 192, 3) := dk_184 0 192 (dk_at dksX0_swapped_3 11 rfl rfl)
theorem dX0_swapped_83 : decode cX0_swapped 83 = .ok (.iload 8, 2) := dk_21 8 (dk_at dksX0_swapped_3 14 rfl rfl)
theorem dX0_swapped_85 : decode cX0_swapped 85 = .ok (.invokestatic 186, 3) := dk_184 0 186 (dk_at dksX0_swapped_3 16 rfl rfl)
theorem dX0_swapped_88 : decode cX0_swapped 88 = .ok (.istore 9, 2) := dk_54 9 (dk_at dksX0_swapped_3 19 rfl rfl)
theorem dX0_swapped_90 : decode cX0_swapped 90 = .ok (.iload 9, 2) := dk_21 9 (dk_at dksX0_swapped_3 21 rfl rfl)
theorem dX0_swapped_92 : decode cX0_swapped 92 = .ok (.bipush (-6), 2) := dk_16 250 (dk_at dksX0_swapped_4 0 rfl rfl)
theorem dX0_swapped_94 : decode cX0_swapped 94 = .ok (.if_icmp .ne 8, 3) := dk_160 0 8 (dk_at dksX0_swapped_4 2 rfl rfl)
theorem dX0_swapped_97 : decode cX0_swapped 97 = .ok (.bipush (-7), 2) := dk_16 249 (dk_at dksX0_swapped_4 5 rfl rfl)
theorem dX0_swapped_99 : decode cX0_swapped 99 = .ok (.goto 5, 3) := dk_167 0 5 (dk_at dksX0_swapped_4 7 rfl rfl)
theorem dX0_swapped_102 : decode cX0_swapped 102 = .ok (.iload 9, 2) := dk_21 9 (dk_at dksX0_swapped_4 10 rfl rfl)
theorem dX0_swapped_104 : decode cX0_swapped 104 = .ok (.ireturn, 1) := dk_172 (dk_at dksX0_swapped_4 12 rfl rfl)
abbrev cX0_pair : ByteArray := prog_1_method_24_code
def yX0_pair : MethodName := ⟨RX0, "pair", "(III)I"⟩
def dkwX0_pair_2 : List UInt8 := [21, 5, 28, 182, 0, 175, 42, 4, 27, 21, 4, 28, 182, 0, 175, 184, 0, 17, 184, 0, 192, 172]
abbrev dktX0_pair_2 : List UInt8 := dkwX0_pair_2 ++ []
def dkwX0_pair_1 : List UInt8 := [3, 27, 21, 4, 28, 182, 0, 175, 42, 4, 27, 21, 5, 28, 182, 0, 175, 184, 0, 17, 42, 3, 27]
abbrev dktX0_pair_1 : List UInt8 := dkwX0_pair_1 ++ dktX0_pair_2
def dkwX0_pair_0 : List UInt8 := [29, 5, 160, 0, 7, 4, 167, 0, 4, 5, 54, 4, 29, 154, 0, 7, 4, 167, 0, 4, 3, 54, 5, 42]
abbrev dktX0_pair_0 : List UInt8 := dkwX0_pair_0 ++ dktX0_pair_1
theorem dksX0_pair_0 : cX0_pair.data.toList.drop 0 = dktX0_pair_0 := by decide +kernel
theorem dksX0_pair_1 : cX0_pair.data.toList.drop 24 = dktX0_pair_1 := dk_seg dksX0_pair_0 24 rfl rfl
theorem dksX0_pair_2 : cX0_pair.data.toList.drop 47 = dktX0_pair_2 := dk_seg dksX0_pair_1 23 rfl rfl
theorem dX0_pair_0 : decode cX0_pair 0 = .ok (.iload_n 3, 1) := dk_29 (dk_at dksX0_pair_0 0 rfl rfl)
theorem dX0_pair_1 : decode cX0_pair 1 = .ok (.iconst 2, 1) := dk_5 (dk_at dksX0_pair_0 1 rfl rfl)
theorem dX0_pair_2 : decode cX0_pair 2 = .ok (.if_icmp .ne 7, 3) := dk_160 0 7 (dk_at dksX0_pair_0 2 rfl rfl)
theorem dX0_pair_5 : decode cX0_pair 5 = .ok (.iconst 1, 1) := dk_4 (dk_at dksX0_pair_0 5 rfl rfl)
theorem dX0_pair_6 : decode cX0_pair 6 = .ok (.goto 4, 3) := dk_167 0 4 (dk_at dksX0_pair_0 6 rfl rfl)
theorem dX0_pair_9 : decode cX0_pair 9 = .ok (.iconst 2, 1) := dk_5 (dk_at dksX0_pair_0 9 rfl rfl)
theorem dX0_pair_10 : decode cX0_pair 10 = .ok (.istore 4, 2) := dk_54 4 (dk_at dksX0_pair_0 10 rfl rfl)
theorem dX0_pair_12 : decode cX0_pair 12 = .ok (.iload_n 3, 1) := dk_29 (dk_at dksX0_pair_0 12 rfl rfl)
theorem dX0_pair_13 : decode cX0_pair 13 = .ok (.ifCond .ne 7, 3) := dk_154 0 7 (dk_at dksX0_pair_0 13 rfl rfl)
theorem dX0_pair_16 : decode cX0_pair 16 = .ok (.iconst 1, 1) := dk_4 (dk_at dksX0_pair_0 16 rfl rfl)
theorem dX0_pair_17 : decode cX0_pair 17 = .ok (.goto 4, 3) := dk_167 0 4 (dk_at dksX0_pair_0 17 rfl rfl)
theorem dX0_pair_20 : decode cX0_pair 20 = .ok (.iconst 0, 1) := dk_3 (dk_at dksX0_pair_0 20 rfl rfl)
theorem dX0_pair_21 : decode cX0_pair 21 = .ok (.istore 5, 2) := dk_54 5 (dk_at dksX0_pair_0 21 rfl rfl)
theorem dX0_pair_23 : decode cX0_pair 23 = .ok (.aload_n 0, 1) := dk_42 (dk_at dksX0_pair_0 23 rfl rfl)
theorem dX0_pair_24 : decode cX0_pair 24 = .ok (.iconst 0, 1) := dk_3 (dk_at dksX0_pair_1 0 rfl rfl)
theorem dX0_pair_25 : decode cX0_pair 25 = .ok (.iload_n 1, 1) := dk_27 (dk_at dksX0_pair_1 1 rfl rfl)
theorem dX0_pair_26 : decode cX0_pair 26 = .ok (.iload 4, 2) := dk_21 4 (dk_at dksX0_pair_1 2 rfl rfl)
theorem dX0_pair_28 : decode cX0_pair 28 = .ok (.iload_n 2, 1) := dk_28 (dk_at dksX0_pair_1 4 rfl rfl)
theorem dX0_pair_29 : decode cX0_pair 29 = .ok (.invokevirtual 175, 3) := dk_182 0 175 (dk_at dksX0_pair_1 5 rfl rfl)
theorem dX0_pair_32 : decode cX0_pair 32 = .ok (.aload_n 0, 1) := dk_42 (dk_at dksX0_pair_1 8 rfl rfl)
theorem dX0_pair_33 : decode cX0_pair 33 = .ok (.iconst 1, 1) := dk_4 (dk_at dksX0_pair_1 9 rfl rfl)
theorem dX0_pair_34 : decode cX0_pair 34 = .ok (.iload_n 1, 1) := dk_27 (dk_at dksX0_pair_1 10 rfl rfl)
theorem dX0_pair_35 : decode cX0_pair 35 = .ok (.iload 5, 2) := dk_21 5 (dk_at dksX0_pair_1 11 rfl rfl)
theorem dX0_pair_37 : decode cX0_pair 37 = .ok (.iload_n 2, 1) := dk_28 (dk_at dksX0_pair_1 13 rfl rfl)
theorem dX0_pair_38 : decode cX0_pair 38 = .ok (.invokevirtual 175, 3) := dk_182 0 175 (dk_at dksX0_pair_1 14 rfl rfl)
theorem dX0_pair_41 : decode cX0_pair 41 = .ok (.invokestatic 17, 3) := dk_184 0 17 (dk_at dksX0_pair_1 17 rfl rfl)
theorem dX0_pair_44 : decode cX0_pair 44 = .ok (.aload_n 0, 1) := dk_42 (dk_at dksX0_pair_1 20 rfl rfl)
theorem dX0_pair_45 : decode cX0_pair 45 = .ok (.iconst 0, 1) := dk_3 (dk_at dksX0_pair_1 21 rfl rfl)
theorem dX0_pair_46 : decode cX0_pair 46 = .ok (.iload_n 1, 1) := dk_27 (dk_at dksX0_pair_1 22 rfl rfl)
theorem dX0_pair_47 : decode cX0_pair 47 = .ok (.iload 5, 2) := dk_21 5 (dk_at dksX0_pair_2 0 rfl rfl)
theorem dX0_pair_49 : decode cX0_pair 49 = .ok (.iload_n 2, 1) := dk_28 (dk_at dksX0_pair_2 2 rfl rfl)
theorem dX0_pair_50 : decode cX0_pair 50 = .ok (.invokevirtual 175, 3) := dk_182 0 175 (dk_at dksX0_pair_2 3 rfl rfl)
theorem dX0_pair_53 : decode cX0_pair 53 = .ok (.aload_n 0, 1) := dk_42 (dk_at dksX0_pair_2 6 rfl rfl)
theorem dX0_pair_54 : decode cX0_pair 54 = .ok (.iconst 1, 1) := dk_4 (dk_at dksX0_pair_2 7 rfl rfl)
theorem dX0_pair_55 : decode cX0_pair 55 = .ok (.iload_n 1, 1) := dk_27 (dk_at dksX0_pair_2 8 rfl rfl)
theorem dX0_pair_56 : decode cX0_pair 56 = .ok (.iload 4, 2) := dk_21 4 (dk_at dksX0_pair_2 9 rfl rfl)
theorem dX0_pair_58 : decode cX0_pair 58 = .ok (.iload_n 2, 1) := dk_28 (dk_at dksX0_pair_2 11 rfl rfl)
theorem dX0_pair_59 : decode cX0_pair 59 = .ok (.invokevirtual 175, 3) := dk_182 0 175 (dk_at dksX0_pair_2 12 rfl rfl)
theorem dX0_pair_62 : decode cX0_pair 62 = .ok (.invokestatic 17, 3) := dk_184 0 17 (dk_at dksX0_pair_2 15 rfl rfl)
theorem dX0_pair_65 : decode cX0_pair 65 = .ok (.invokestatic 192, 3) := dk_184 0 192 (dk_at dksX0_pair_2 18 rfl rfl)
theorem dX0_pair_68 : decode cX0_pair 68 = .ok (.ireturn, 1) := dk_172 (dk_at dksX0_pair_2 21 rfl rfl)
abbrev cX0_rowAt : ByteArray := prog_1_method_19_code
def yX0_rowAt : MethodName := ⟨RX0, "rowAt", "(IIII)I"⟩
def dkwX0_rowAt_3 : List UInt8 := [167, 255, 191, 21, 5, 16, 31, 112, 172]
abbrev dktX0_rowAt_3 : List UInt8 := dkwX0_rowAt_3 ++ []
def dkwX0_rowAt_2 : List UInt8 := [46, 54, 7, 21, 5, 21, 7, 21, 4, 21, 6, 184, 0, 172, 184, 0, 17, 96, 54, 5, 132, 6, 1]
abbrev dktX0_rowAt_2 : List UInt8 := dkwX0_rowAt_2 ++ dktX0_rowAt_3
def dkwX0_rowAt_1 : List UInt8 := [29, 21, 6, 184, 0, 142, 46, 167, 0, 18, 42, 180, 0, 36, 180, 0, 139, 27, 21, 6, 29, 184, 0, 142]
abbrev dktX0_rowAt_1 : List UInt8 := dkwX0_rowAt_1 ++ dktX0_rowAt_2
def dkwX0_rowAt_0 : List UInt8 := [3, 54, 5, 3, 54, 6, 21, 6, 6, 162, 0, 65, 28, 154, 0, 21, 42, 180, 0, 36, 180, 0, 139, 27]
abbrev dktX0_rowAt_0 : List UInt8 := dkwX0_rowAt_0 ++ dktX0_rowAt_1
theorem dksX0_rowAt_0 : cX0_rowAt.data.toList.drop 0 = dktX0_rowAt_0 := by decide +kernel
theorem dksX0_rowAt_1 : cX0_rowAt.data.toList.drop 24 = dktX0_rowAt_1 := dk_seg dksX0_rowAt_0 24 rfl rfl
theorem dksX0_rowAt_2 : cX0_rowAt.data.toList.drop 48 = dktX0_rowAt_2 := dk_seg dksX0_rowAt_1 24 rfl rfl
theorem dksX0_rowAt_3 : cX0_rowAt.data.toList.drop 71 = dktX0_rowAt_3 := dk_seg dksX0_rowAt_2 23 rfl rfl
theorem dX0_rowAt_0 : decode cX0_rowAt 0 = .ok (.iconst 0, 1) := dk_3 (dk_at dksX0_rowAt_0 0 rfl rfl)
theorem dX0_rowAt_1 : decode cX0_rowAt 1 = .ok (.istore 5, 2) := dk_54 5 (dk_at dksX0_rowAt_0 1 rfl rfl)
theorem dX0_rowAt_3 : decode cX0_rowAt 3 = .ok (.iconst 0, 1) := dk_3 (dk_at dksX0_rowAt_0 3 rfl rfl)
theorem dX0_rowAt_4 : decode cX0_rowAt 4 = .ok (.istore 6, 2) := dk_54 6 (dk_at dksX0_rowAt_0 4 rfl rfl)
theorem dX0_rowAt_6 : decode cX0_rowAt 6 = .ok (.iload 6, 2) := dk_21 6 (dk_at dksX0_rowAt_0 6 rfl rfl)
theorem dX0_rowAt_8 : decode cX0_rowAt 8 = .ok (.iconst 3, 1) := dk_6 (dk_at dksX0_rowAt_0 8 rfl rfl)
theorem dX0_rowAt_9 : decode cX0_rowAt 9 = .ok (.if_icmp .ge 65, 3) := dk_162 0 65 (dk_at dksX0_rowAt_0 9 rfl rfl)
theorem dX0_rowAt_12 : decode cX0_rowAt 12 = .ok (.iload_n 2, 1) := dk_28 (dk_at dksX0_rowAt_0 12 rfl rfl)
theorem dX0_rowAt_13 : decode cX0_rowAt 13 = .ok (.ifCond .ne 21, 3) := dk_154 0 21 (dk_at dksX0_rowAt_0 13 rfl rfl)
theorem dX0_rowAt_16 : decode cX0_rowAt 16 = .ok (.aload_n 0, 1) := dk_42 (dk_at dksX0_rowAt_0 16 rfl rfl)
theorem dX0_rowAt_17 : decode cX0_rowAt 17 = .ok (.getfield 36, 3) := dk_180 0 36 (dk_at dksX0_rowAt_0 17 rfl rfl)
theorem dX0_rowAt_20 : decode cX0_rowAt 20 = .ok (.getfield 139, 3) := dk_180 0 139 (dk_at dksX0_rowAt_0 20 rfl rfl)
theorem dX0_rowAt_23 : decode cX0_rowAt 23 = .ok (.iload_n 1, 1) := dk_27 (dk_at dksX0_rowAt_0 23 rfl rfl)
theorem dX0_rowAt_24 : decode cX0_rowAt 24 = .ok (.iload_n 3, 1) := dk_29 (dk_at dksX0_rowAt_1 0 rfl rfl)
theorem dX0_rowAt_25 : decode cX0_rowAt 25 = .ok (.iload 6, 2) := dk_21 6 (dk_at dksX0_rowAt_1 1 rfl rfl)
theorem dX0_rowAt_27 : decode cX0_rowAt 27 = .ok (.invokestatic 142, 3) := dk_184 0 142 (dk_at dksX0_rowAt_1 3 rfl rfl)
theorem dX0_rowAt_30 : decode cX0_rowAt 30 = .ok (.iaload, 1) := dk_46 (dk_at dksX0_rowAt_1 6 rfl rfl)
theorem dX0_rowAt_31 : decode cX0_rowAt 31 = .ok (.goto 18, 3) := dk_167 0 18 (dk_at dksX0_rowAt_1 7 rfl rfl)
theorem dX0_rowAt_34 : decode cX0_rowAt 34 = .ok (.aload_n 0, 1) := dk_42 (dk_at dksX0_rowAt_1 10 rfl rfl)
theorem dX0_rowAt_35 : decode cX0_rowAt 35 = .ok (.getfield 36, 3) := dk_180 0 36 (dk_at dksX0_rowAt_1 11 rfl rfl)
theorem dX0_rowAt_38 : decode cX0_rowAt 38 = .ok (.getfield 139, 3) := dk_180 0 139 (dk_at dksX0_rowAt_1 14 rfl rfl)
theorem dX0_rowAt_41 : decode cX0_rowAt 41 = .ok (.iload_n 1, 1) := dk_27 (dk_at dksX0_rowAt_1 17 rfl rfl)
theorem dX0_rowAt_42 : decode cX0_rowAt 42 = .ok (.iload 6, 2) := dk_21 6 (dk_at dksX0_rowAt_1 18 rfl rfl)
theorem dX0_rowAt_44 : decode cX0_rowAt 44 = .ok (.iload_n 3, 1) := dk_29 (dk_at dksX0_rowAt_1 20 rfl rfl)
theorem dX0_rowAt_45 : decode cX0_rowAt 45 = .ok (.invokestatic 142, 3) := dk_184 0 142 (dk_at dksX0_rowAt_1 21 rfl rfl)
theorem dX0_rowAt_48 : decode cX0_rowAt 48 = .ok (.iaload, 1) := dk_46 (dk_at dksX0_rowAt_2 0 rfl rfl)
theorem dX0_rowAt_49 : decode cX0_rowAt 49 = .ok (.istore 7, 2) := dk_54 7 (dk_at dksX0_rowAt_2 1 rfl rfl)
theorem dX0_rowAt_51 : decode cX0_rowAt 51 = .ok (.iload 5, 2) := dk_21 5 (dk_at dksX0_rowAt_2 3 rfl rfl)
theorem dX0_rowAt_53 : decode cX0_rowAt 53 = .ok (.iload 7, 2) := dk_21 7 (dk_at dksX0_rowAt_2 5 rfl rfl)
theorem dX0_rowAt_55 : decode cX0_rowAt 55 = .ok (.iload 4, 2) := dk_21 4 (dk_at dksX0_rowAt_2 7 rfl rfl)
theorem dX0_rowAt_57 : decode cX0_rowAt 57 = .ok (.iload 6, 2) := dk_21 6 (dk_at dksX0_rowAt_2 9 rfl rfl)
theorem dX0_rowAt_59 : decode cX0_rowAt 59 = .ok (.invokestatic 172, 3) := dk_184 0 172 (dk_at dksX0_rowAt_2 11 rfl rfl)
theorem dX0_rowAt_62 : decode cX0_rowAt 62 = .ok (.invokestatic 17, 3) := dk_184 0 17 (dk_at dksX0_rowAt_2 14 rfl rfl)
theorem dX0_rowAt_65 : decode cX0_rowAt 65 = .ok (.iadd, 1) := dk_96 (dk_at dksX0_rowAt_2 17 rfl rfl)
theorem dX0_rowAt_66 : decode cX0_rowAt 66 = .ok (.istore 5, 2) := dk_54 5 (dk_at dksX0_rowAt_2 18 rfl rfl)
theorem dX0_rowAt_68 : decode cX0_rowAt 68 = .ok (.iinc 6 1, 3) := dk_132 6 1 (dk_at dksX0_rowAt_2 20 rfl rfl)
theorem dX0_rowAt_71 : decode cX0_rowAt 71 = .ok (.goto (-65), 3) := dk_167 255 191 (dk_at dksX0_rowAt_3 0 rfl rfl)
theorem dX0_rowAt_74 : decode cX0_rowAt 74 = .ok (.iload 5, 2) := dk_21 5 (dk_at dksX0_rowAt_3 3 rfl rfl)
theorem dX0_rowAt_76 : decode cX0_rowAt 76 = .ok (.bipush 31, 2) := dk_16 31 (dk_at dksX0_rowAt_3 5 rfl rfl)
theorem dX0_rowAt_78 : decode cX0_rowAt 78 = .ok (.irem, 1) := dk_112 (dk_at dksX0_rowAt_3 7 rfl rfl)
theorem dX0_rowAt_79 : decode cX0_rowAt 79 = .ok (.ireturn, 1) := dk_172 (dk_at dksX0_rowAt_3 8 rfl rfl)
abbrev cX0_cell : ByteArray := prog_1_method_12_code
def yX0_cell : MethodName := ⟨RX0, "cell", "(III)I"⟩
def dkwX0_cell_0 : List UInt8 := [16, 9, 26, 104, 6, 27, 104, 96, 28, 96, 172]
abbrev dktX0_cell_0 : List UInt8 := dkwX0_cell_0 ++ []
theorem dksX0_cell_0 : cX0_cell.data.toList.drop 0 = dktX0_cell_0 := by decide +kernel
theorem dX0_cell_0 : decode cX0_cell 0 = .ok (.bipush 9, 2) := dk_16 9 (dk_at dksX0_cell_0 0 rfl rfl)
theorem dX0_cell_2 : decode cX0_cell 2 = .ok (.iload_n 0, 1) := dk_26 (dk_at dksX0_cell_0 2 rfl rfl)
theorem dX0_cell_3 : decode cX0_cell 3 = .ok (.imul, 1) := dk_104 (dk_at dksX0_cell_0 3 rfl rfl)
theorem dX0_cell_4 : decode cX0_cell 4 = .ok (.iconst 3, 1) := dk_6 (dk_at dksX0_cell_0 4 rfl rfl)
theorem dX0_cell_5 : decode cX0_cell 5 = .ok (.iload_n 1, 1) := dk_27 (dk_at dksX0_cell_0 5 rfl rfl)
theorem dX0_cell_6 : decode cX0_cell 6 = .ok (.imul, 1) := dk_104 (dk_at dksX0_cell_0 6 rfl rfl)
theorem dX0_cell_7 : decode cX0_cell 7 = .ok (.iadd, 1) := dk_96 (dk_at dksX0_cell_0 7 rfl rfl)
theorem dX0_cell_8 : decode cX0_cell 8 = .ok (.iload_n 2, 1) := dk_28 (dk_at dksX0_cell_0 8 rfl rfl)
theorem dX0_cell_9 : decode cX0_cell 9 = .ok (.iadd, 1) := dk_96 (dk_at dksX0_cell_0 9 rfl rfl)
theorem dX0_cell_10 : decode cX0_cell 10 = .ok (.ireturn, 1) := dk_172 (dk_at dksX0_cell_0 10 rfl rfl)
abbrev cX0_power : ByteArray := prog_1_method_18_code
def yX0_power : MethodName := ⟨RX0, "power", "(II)I"⟩
def dkwX0_power_1 : List UInt8 := [162, 0, 15, 28, 26, 184, 0, 17, 61, 132, 3, 1, 167, 255, 242, 28, 172]
abbrev dktX0_power_1 : List UInt8 := dkwX0_power_1 ++ []
def dkwX0_power_0 : List UInt8 := [26, 16, 31, 160, 0, 14, 27, 5, 160, 0, 7, 4, 167, 0, 4, 3, 172, 4, 61, 3, 62, 29, 27]
abbrev dktX0_power_0 : List UInt8 := dkwX0_power_0 ++ dktX0_power_1
theorem dksX0_power_0 : cX0_power.data.toList.drop 0 = dktX0_power_0 := by decide +kernel
theorem dksX0_power_1 : cX0_power.data.toList.drop 23 = dktX0_power_1 := dk_seg dksX0_power_0 23 rfl rfl
theorem dX0_power_0 : decode cX0_power 0 = .ok (.iload_n 0, 1) := dk_26 (dk_at dksX0_power_0 0 rfl rfl)
theorem dX0_power_1 : decode cX0_power 1 = .ok (.bipush 31, 2) := dk_16 31 (dk_at dksX0_power_0 1 rfl rfl)
theorem dX0_power_3 : decode cX0_power 3 = .ok (.if_icmp .ne 14, 3) := dk_160 0 14 (dk_at dksX0_power_0 3 rfl rfl)
theorem dX0_power_6 : decode cX0_power 6 = .ok (.iload_n 1, 1) := dk_27 (dk_at dksX0_power_0 6 rfl rfl)
theorem dX0_power_7 : decode cX0_power 7 = .ok (.iconst 2, 1) := dk_5 (dk_at dksX0_power_0 7 rfl rfl)
theorem dX0_power_8 : decode cX0_power 8 = .ok (.if_icmp .ne 7, 3) := dk_160 0 7 (dk_at dksX0_power_0 8 rfl rfl)
theorem dX0_power_11 : decode cX0_power 11 = .ok (.iconst 1, 1) := dk_4 (dk_at dksX0_power_0 11 rfl rfl)
theorem dX0_power_12 : decode cX0_power 12 = .ok (.goto 4, 3) := dk_167 0 4 (dk_at dksX0_power_0 12 rfl rfl)
theorem dX0_power_15 : decode cX0_power 15 = .ok (.iconst 0, 1) := dk_3 (dk_at dksX0_power_0 15 rfl rfl)
theorem dX0_power_16 : decode cX0_power 16 = .ok (.ireturn, 1) := dk_172 (dk_at dksX0_power_0 16 rfl rfl)
theorem dX0_power_17 : decode cX0_power 17 = .ok (.iconst 1, 1) := dk_4 (dk_at dksX0_power_0 17 rfl rfl)
theorem dX0_power_18 : decode cX0_power 18 = .ok (.istore_n 2, 1) := dk_61 (dk_at dksX0_power_0 18 rfl rfl)
theorem dX0_power_19 : decode cX0_power 19 = .ok (.iconst 0, 1) := dk_3 (dk_at dksX0_power_0 19 rfl rfl)
theorem dX0_power_20 : decode cX0_power 20 = .ok (.istore_n 3, 1) := dk_62 (dk_at dksX0_power_0 20 rfl rfl)
theorem dX0_power_21 : decode cX0_power 21 = .ok (.iload_n 3, 1) := dk_29 (dk_at dksX0_power_0 21 rfl rfl)
theorem dX0_power_22 : decode cX0_power 22 = .ok (.iload_n 1, 1) := dk_27 (dk_at dksX0_power_0 22 rfl rfl)
theorem dX0_power_23 : decode cX0_power 23 = .ok (.if_icmp .ge 15, 3) := dk_162 0 15 (dk_at dksX0_power_1 0 rfl rfl)
theorem dX0_power_26 : decode cX0_power 26 = .ok (.iload_n 2, 1) := dk_28 (dk_at dksX0_power_1 3 rfl rfl)
theorem dX0_power_27 : decode cX0_power 27 = .ok (.iload_n 0, 1) := dk_26 (dk_at dksX0_power_1 4 rfl rfl)
theorem dX0_power_28 : decode cX0_power 28 = .ok (.invokestatic 17, 3) := dk_184 0 17 (dk_at dksX0_power_1 5 rfl rfl)
theorem dX0_power_31 : decode cX0_power 31 = .ok (.istore_n 2, 1) := dk_61 (dk_at dksX0_power_1 8 rfl rfl)
theorem dX0_power_32 : decode cX0_power 32 = .ok (.iinc 3 1, 3) := dk_132 3 1 (dk_at dksX0_power_1 9 rfl rfl)
theorem dX0_power_35 : decode cX0_power 35 = .ok (.goto (-14), 3) := dk_167 255 242 (dk_at dksX0_power_1 12 rfl rfl)
theorem dX0_power_38 : decode cX0_power 38 = .ok (.iload_n 2, 1) := dk_28 (dk_at dksX0_power_1 15 rfl rfl)
theorem dX0_power_39 : decode cX0_power 39 = .ok (.ireturn, 1) := dk_172 (dk_at dksX0_power_1 16 rfl rfl)
abbrev cX0_times : ByteArray := prog_1_method_4_code
def yX0_times : MethodName := ⟨RX0, "times", "(II)I"⟩
def dkwX0_times_0 : List UInt8 := [26, 27, 104, 16, 31, 112, 172]
abbrev dktX0_times_0 : List UInt8 := dkwX0_times_0 ++ []
theorem dksX0_times_0 : cX0_times.data.toList.drop 0 = dktX0_times_0 := by decide +kernel
theorem dX0_times_0 : decode cX0_times 0 = .ok (.iload_n 0, 1) := dk_26 (dk_at dksX0_times_0 0 rfl rfl)
theorem dX0_times_1 : decode cX0_times 1 = .ok (.iload_n 1, 1) := dk_27 (dk_at dksX0_times_0 1 rfl rfl)
theorem dX0_times_2 : decode cX0_times 2 = .ok (.imul, 1) := dk_104 (dk_at dksX0_times_0 2 rfl rfl)
theorem dX0_times_3 : decode cX0_times 3 = .ok (.bipush 31, 2) := dk_16 31 (dk_at dksX0_times_0 3 rfl rfl)
theorem dX0_times_5 : decode cX0_times 5 = .ok (.irem, 1) := dk_112 (dk_at dksX0_times_0 5 rfl rfl)
theorem dX0_times_6 : decode cX0_times 6 = .ok (.ireturn, 1) := dk_172 (dk_at dksX0_times_0 6 rfl rfl)
abbrev cX0_less : ByteArray := prog_1_method_5_code
def yX0_less : MethodName := ⟨RX0, "less", "(II)I"⟩
def dkwX0_less_0 : List UInt8 := [26, 16, 31, 96, 27, 100, 16, 31, 112, 172]
abbrev dktX0_less_0 : List UInt8 := dkwX0_less_0 ++ []
theorem dksX0_less_0 : cX0_less.data.toList.drop 0 = dktX0_less_0 := by decide +kernel
theorem dX0_less_0 : decode cX0_less 0 = .ok (.iload_n 0, 1) := dk_26 (dk_at dksX0_less_0 0 rfl rfl)
theorem dX0_less_1 : decode cX0_less 1 = .ok (.bipush 31, 2) := dk_16 31 (dk_at dksX0_less_0 1 rfl rfl)
theorem dX0_less_3 : decode cX0_less 3 = .ok (.iadd, 1) := dk_96 (dk_at dksX0_less_0 3 rfl rfl)
theorem dX0_less_4 : decode cX0_less 4 = .ok (.iload_n 1, 1) := dk_27 (dk_at dksX0_less_0 4 rfl rfl)
theorem dX0_less_5 : decode cX0_less 5 = .ok (.isub, 1) := dk_100 (dk_at dksX0_less_0 5 rfl rfl)
theorem dX0_less_6 : decode cX0_less 6 = .ok (.bipush 31, 2) := dk_16 31 (dk_at dksX0_less_0 6 rfl rfl)
theorem dX0_less_8 : decode cX0_less 8 = .ok (.irem, 1) := dk_112 (dk_at dksX0_less_0 8 rfl rfl)
theorem dX0_less_9 : decode cX0_less 9 = .ok (.ireturn, 1) := dk_172 (dk_at dksX0_less_0 9 rfl rfl)
abbrev cX0_by : ByteArray := prog_1_method_6_code
def yX0_by : MethodName := ⟨RX0, "by", "(II)I"⟩
def dkwX0_by_1 : List UInt8 := [167, 0, 5, 16, 250, 172]
abbrev dktX0_by_1 : List UInt8 := dkwX0_by_1 ++ []
def dkwX0_by_0 : List UInt8 := [27, 153, 0, 15, 26, 178, 0, 13, 27, 46, 184, 0, 17, 167, 0, 14, 26, 153, 0, 8, 16, 31]
abbrev dktX0_by_0 : List UInt8 := dkwX0_by_0 ++ dktX0_by_1
theorem dksX0_by_0 : cX0_by.data.toList.drop 0 = dktX0_by_0 := by decide +kernel
theorem dksX0_by_1 : cX0_by.data.toList.drop 22 = dktX0_by_1 := dk_seg dksX0_by_0 22 rfl rfl
theorem dX0_by_0 : decode cX0_by 0 = .ok (.iload_n 1, 1) := dk_27 (dk_at dksX0_by_0 0 rfl rfl)
theorem dX0_by_1 : decode cX0_by 1 = .ok (.ifCond .eq 15, 3) := dk_153 0 15 (dk_at dksX0_by_0 1 rfl rfl)
theorem dX0_by_4 : decode cX0_by 4 = .ok (.iload_n 0, 1) := dk_26 (dk_at dksX0_by_0 4 rfl rfl)
theorem dX0_by_5 : decode cX0_by 5 = .ok (.getstatic 13, 3) := dk_178 0 13 (dk_at dksX0_by_0 5 rfl rfl)
theorem dX0_by_8 : decode cX0_by 8 = .ok (.iload_n 1, 1) := dk_27 (dk_at dksX0_by_0 8 rfl rfl)
theorem dX0_by_9 : decode cX0_by 9 = .ok (.iaload, 1) := dk_46 (dk_at dksX0_by_0 9 rfl rfl)
theorem dX0_by_10 : decode cX0_by 10 = .ok (.invokestatic 17, 3) := dk_184 0 17 (dk_at dksX0_by_0 10 rfl rfl)
theorem dX0_by_13 : decode cX0_by 13 = .ok (.goto 14, 3) := dk_167 0 14 (dk_at dksX0_by_0 13 rfl rfl)
theorem dX0_by_16 : decode cX0_by 16 = .ok (.iload_n 0, 1) := dk_26 (dk_at dksX0_by_0 16 rfl rfl)
theorem dX0_by_17 : decode cX0_by 17 = .ok (.ifCond .eq 8, 3) := dk_153 0 8 (dk_at dksX0_by_0 17 rfl rfl)
theorem dX0_by_20 : decode cX0_by 20 = .ok (.bipush 31, 2) := dk_16 31 (dk_at dksX0_by_0 20 rfl rfl)
theorem dX0_by_22 : decode cX0_by 22 = .ok (.goto 5, 3) := dk_167 0 5 (dk_at dksX0_by_1 0 rfl rfl)
theorem dX0_by_25 : decode cX0_by 25 = .ok (.bipush (-6), 2) := dk_16 250 (dk_at dksX0_by_1 3 rfl rfl)
theorem dX0_by_27 : decode cX0_by 27 = .ok (.ireturn, 1) := dk_172 (dk_at dksX0_by_1 5 rfl rfl)
abbrev cX0_codeOf : ByteArray := prog_1_method_7_code
def yX0_codeOf : MethodName := ⟨RX0, "codeOf", "(II)I"⟩
def dkwX0_codeOf_0 : List UInt8 := [16, 32, 26, 104, 27, 96, 172]
abbrev dktX0_codeOf_0 : List UInt8 := dkwX0_codeOf_0 ++ []
theorem dksX0_codeOf_0 : cX0_codeOf.data.toList.drop 0 = dktX0_codeOf_0 := by decide +kernel
theorem dX0_codeOf_0 : decode cX0_codeOf 0 = .ok (.bipush 32, 2) := dk_16 32 (dk_at dksX0_codeOf_0 0 rfl rfl)
theorem dX0_codeOf_2 : decode cX0_codeOf 2 = .ok (.iload_n 0, 1) := dk_26 (dk_at dksX0_codeOf_0 2 rfl rfl)
theorem dX0_codeOf_3 : decode cX0_codeOf 3 = .ok (.imul, 1) := dk_104 (dk_at dksX0_codeOf_0 3 rfl rfl)
theorem dX0_codeOf_4 : decode cX0_codeOf 4 = .ok (.iload_n 1, 1) := dk_27 (dk_at dksX0_codeOf_0 4 rfl rfl)
theorem dX0_codeOf_5 : decode cX0_codeOf 5 = .ok (.iadd, 1) := dk_96 (dk_at dksX0_codeOf_0 5 rfl rfl)
theorem dX0_codeOf_6 : decode cX0_codeOf 6 = .ok (.ireturn, 1) := dk_172 (dk_at dksX0_codeOf_0 6 rfl rfl)
abbrev cX0_swapsY : ByteArray := prog_1_method_31_code
def yX0_swapsY : MethodName := ⟨RX0, "swapsY", "(I)I"⟩
def dkwX0_swapsY_1 : List UInt8 := [167, 0, 8, 28, 29, 184, 0, 206, 172]
abbrev dktX0_swapsY_1 : List UInt8 := dkwX0_swapsY_1 ++ []
def dkwX0_swapsY_0 : List UInt8 := [27, 16, 32, 108, 61, 42, 4, 27, 16, 32, 112, 28, 182, 0, 201, 62, 29, 16, 249, 160, 0, 8, 16, 249]
abbrev dktX0_swapsY_0 : List UInt8 := dkwX0_swapsY_0 ++ dktX0_swapsY_1
theorem dksX0_swapsY_0 : cX0_swapsY.data.toList.drop 0 = dktX0_swapsY_0 := by decide +kernel
theorem dksX0_swapsY_1 : cX0_swapsY.data.toList.drop 24 = dktX0_swapsY_1 := dk_seg dksX0_swapsY_0 24 rfl rfl
theorem dX0_swapsY_0 : decode cX0_swapsY 0 = .ok (.iload_n 1, 1) := dk_27 (dk_at dksX0_swapsY_0 0 rfl rfl)
theorem dX0_swapsY_1 : decode cX0_swapsY 1 = .ok (.bipush 32, 2) := dk_16 32 (dk_at dksX0_swapsY_0 1 rfl rfl)
theorem dX0_swapsY_3 : decode cX0_swapsY 3 = .ok (.idiv, 1) := dk_108 (dk_at dksX0_swapsY_0 3 rfl rfl)
theorem dX0_swapsY_4 : decode cX0_swapsY 4 = .ok (.istore_n 2, 1) := dk_61 (dk_at dksX0_swapsY_0 4 rfl rfl)
theorem dX0_swapsY_5 : decode cX0_swapsY 5 = .ok (.aload_n 0, 1) := dk_42 (dk_at dksX0_swapsY_0 5 rfl rfl)
theorem dX0_swapsY_6 : decode cX0_swapsY 6 = .ok (.iconst 1, 1) := dk_4 (dk_at dksX0_swapsY_0 6 rfl rfl)
theorem dX0_swapsY_7 : decode cX0_swapsY 7 = .ok (.iload_n 1, 1) := dk_27 (dk_at dksX0_swapsY_0 7 rfl rfl)
theorem dX0_swapsY_8 : decode cX0_swapsY 8 = .ok (.bipush 32, 2) := dk_16 32 (dk_at dksX0_swapsY_0 8 rfl rfl)
theorem dX0_swapsY_10 : decode cX0_swapsY 10 = .ok (.irem, 1) := dk_112 (dk_at dksX0_swapsY_0 10 rfl rfl)
theorem dX0_swapsY_11 : decode cX0_swapsY 11 = .ok (.iload_n 2, 1) := dk_28 (dk_at dksX0_swapsY_0 11 rfl rfl)
theorem dX0_swapsY_12 : decode cX0_swapsY 12 = .ok (.invokevirtual 201, 3) := dk_182 0 201 (dk_at dksX0_swapsY_0 12 rfl rfl)
theorem dX0_swapsY_15 : decode cX0_swapsY 15 = .ok (.istore_n 3, 1) := dk_62 (dk_at dksX0_swapsY_0 15 rfl rfl)
theorem dX0_swapsY_16 : decode cX0_swapsY 16 = .ok (.iload_n 3, 1) := dk_29 (dk_at dksX0_swapsY_0 16 rfl rfl)
theorem dX0_swapsY_17 : decode cX0_swapsY 17 = .ok (.bipush (-7), 2) := dk_16 249 (dk_at dksX0_swapsY_0 17 rfl rfl)
theorem dX0_swapsY_19 : decode cX0_swapsY 19 = .ok (.if_icmp .ne 8, 3) := dk_160 0 8 (dk_at dksX0_swapsY_0 19 rfl rfl)
theorem dX0_swapsY_22 : decode cX0_swapsY 22 = .ok (.bipush (-7), 2) := dk_16 249 (dk_at dksX0_swapsY_0 22 rfl rfl)
theorem dX0_swapsY_24 : decode cX0_swapsY 24 = .ok (.goto 8, 3) := dk_167 0 8 (dk_at dksX0_swapsY_1 0 rfl rfl)
theorem dX0_swapsY_27 : decode cX0_swapsY 27 = .ok (.iload_n 2, 1) := dk_28 (dk_at dksX0_swapsY_1 3 rfl rfl)
theorem dX0_swapsY_28 : decode cX0_swapsY 28 = .ok (.iload_n 3, 1) := dk_29 (dk_at dksX0_swapsY_1 4 rfl rfl)
theorem dX0_swapsY_29 : decode cX0_swapsY 29 = .ok (.invokestatic 206, 3) := dk_184 0 206 (dk_at dksX0_swapsY_1 5 rfl rfl)
theorem dX0_swapsY_32 : decode cX0_swapsY 32 = .ok (.ireturn, 1) := dk_172 (dk_at dksX0_swapsY_1 8 rfl rfl)
abbrev cX0_steps : ByteArray := prog_1_method_33_code
def yX0_steps : MethodName := ⟨RX0, "steps", "(I)I"⟩
def dkwX0_steps_0 : List UInt8 := [42, 180, 0, 51, 3, 50, 42, 180, 0, 51, 4, 50, 27, 184, 0, 212, 172]
abbrev dktX0_steps_0 : List UInt8 := dkwX0_steps_0 ++ []
theorem dksX0_steps_0 : cX0_steps.data.toList.drop 0 = dktX0_steps_0 := by decide +kernel
theorem dX0_steps_0 : decode cX0_steps 0 = .ok (.aload_n 0, 1) := dk_42 (dk_at dksX0_steps_0 0 rfl rfl)
theorem dX0_steps_1 : decode cX0_steps 1 = .ok (.getfield 51, 3) := dk_180 0 51 (dk_at dksX0_steps_0 1 rfl rfl)
theorem dX0_steps_4 : decode cX0_steps 4 = .ok (.iconst 0, 1) := dk_3 (dk_at dksX0_steps_0 4 rfl rfl)
theorem dX0_steps_5 : decode cX0_steps 5 = .ok (.aaload, 1) := dk_50 (dk_at dksX0_steps_0 5 rfl rfl)
theorem dX0_steps_6 : decode cX0_steps 6 = .ok (.aload_n 0, 1) := dk_42 (dk_at dksX0_steps_0 6 rfl rfl)
theorem dX0_steps_7 : decode cX0_steps 7 = .ok (.getfield 51, 3) := dk_180 0 51 (dk_at dksX0_steps_0 7 rfl rfl)
theorem dX0_steps_10 : decode cX0_steps 10 = .ok (.iconst 1, 1) := dk_4 (dk_at dksX0_steps_0 10 rfl rfl)
theorem dX0_steps_11 : decode cX0_steps 11 = .ok (.aaload, 1) := dk_50 (dk_at dksX0_steps_0 11 rfl rfl)
theorem dX0_steps_12 : decode cX0_steps 12 = .ok (.iload_n 1, 1) := dk_27 (dk_at dksX0_steps_0 12 rfl rfl)
theorem dX0_steps_13 : decode cX0_steps 13 = .ok (.invokestatic 212, 3) := dk_184 0 212 (dk_at dksX0_steps_0 13 rfl rfl)
theorem dX0_steps_16 : decode cX0_steps 16 = .ok (.ireturn, 1) := dk_172 (dk_at dksX0_steps_0 16 rfl rfl)
abbrev cX0_both : ByteArray := prog_1_method_32_code
def yX0_both : MethodName := ⟨RX0, "both", "(LKeptCurves$Turn;LKeptCurves$Turn;I)I"⟩
def dkwX0_both_1 : List UInt8 := [185, 0, 209, 2, 0, 172]
abbrev dktX0_both_1 : List UInt8 := dkwX0_both_1 ++ []
def dkwX0_both_0 : List UInt8 := [42, 28, 185, 0, 209, 2, 0, 62, 29, 16, 249, 160, 0, 8, 16, 249, 167, 0, 10, 43, 29]
abbrev dktX0_both_0 : List UInt8 := dkwX0_both_0 ++ dktX0_both_1
theorem dksX0_both_0 : cX0_both.data.toList.drop 0 = dktX0_both_0 := by decide +kernel
theorem dksX0_both_1 : cX0_both.data.toList.drop 21 = dktX0_both_1 := dk_seg dksX0_both_0 21 rfl rfl
theorem dX0_both_0 : decode cX0_both 0 = .ok (.aload_n 0, 1) := dk_42 (dk_at dksX0_both_0 0 rfl rfl)
theorem dX0_both_1 : decode cX0_both 1 = .ok (.iload_n 2, 1) := dk_28 (dk_at dksX0_both_0 1 rfl rfl)
theorem dX0_both_2 : decode cX0_both 2 = .ok (.invokeinterface 209 2, 5) := by decide +kernel
theorem dX0_both_7 : decode cX0_both 7 = .ok (.istore_n 3, 1) := dk_62 (dk_at dksX0_both_0 7 rfl rfl)
theorem dX0_both_8 : decode cX0_both 8 = .ok (.iload_n 3, 1) := dk_29 (dk_at dksX0_both_0 8 rfl rfl)
theorem dX0_both_9 : decode cX0_both 9 = .ok (.bipush (-7), 2) := dk_16 249 (dk_at dksX0_both_0 9 rfl rfl)
theorem dX0_both_11 : decode cX0_both 11 = .ok (.if_icmp .ne 8, 3) := dk_160 0 8 (dk_at dksX0_both_0 11 rfl rfl)
theorem dX0_both_14 : decode cX0_both 14 = .ok (.bipush (-7), 2) := dk_16 249 (dk_at dksX0_both_0 14 rfl rfl)
theorem dX0_both_16 : decode cX0_both 16 = .ok (.goto 10, 3) := dk_167 0 10 (dk_at dksX0_both_0 16 rfl rfl)
theorem dX0_both_19 : decode cX0_both 19 = .ok (.aload_n 1, 1) := dk_43 (dk_at dksX0_both_0 19 rfl rfl)
theorem dX0_both_20 : decode cX0_both 20 = .ok (.iload_n 3, 1) := dk_29 (dk_at dksX0_both_0 20 rfl rfl)
theorem dX0_both_21 : decode cX0_both 21 = .ok (.invokeinterface 209 2, 5) := by decide +kernel
theorem dX0_both_26 : decode cX0_both 26 = .ok (.ireturn, 1) := dk_172 (dk_at dksX0_both_1 5 rfl rfl)
abbrev cX0_stepsBack : ByteArray := prog_1_method_34_code
def yX0_stepsBack : MethodName := ⟨RX0, "stepsBack", "(I)I"⟩
def dkwX0_stepsBack_0 : List UInt8 := [42, 180, 0, 51, 4, 50, 42, 180, 0, 51, 3, 50, 27, 184, 0, 212, 172]
abbrev dktX0_stepsBack_0 : List UInt8 := dkwX0_stepsBack_0 ++ []
theorem dksX0_stepsBack_0 : cX0_stepsBack.data.toList.drop 0 = dktX0_stepsBack_0 := by decide +kernel
theorem dX0_stepsBack_0 : decode cX0_stepsBack 0 = .ok (.aload_n 0, 1) := dk_42 (dk_at dksX0_stepsBack_0 0 rfl rfl)
theorem dX0_stepsBack_1 : decode cX0_stepsBack 1 = .ok (.getfield 51, 3) := dk_180 0 51 (dk_at dksX0_stepsBack_0 1 rfl rfl)
theorem dX0_stepsBack_4 : decode cX0_stepsBack 4 = .ok (.iconst 1, 1) := dk_4 (dk_at dksX0_stepsBack_0 4 rfl rfl)
theorem dX0_stepsBack_5 : decode cX0_stepsBack 5 = .ok (.aaload, 1) := dk_50 (dk_at dksX0_stepsBack_0 5 rfl rfl)
theorem dX0_stepsBack_6 : decode cX0_stepsBack 6 = .ok (.aload_n 0, 1) := dk_42 (dk_at dksX0_stepsBack_0 6 rfl rfl)
theorem dX0_stepsBack_7 : decode cX0_stepsBack 7 = .ok (.getfield 51, 3) := dk_180 0 51 (dk_at dksX0_stepsBack_0 7 rfl rfl)
theorem dX0_stepsBack_10 : decode cX0_stepsBack 10 = .ok (.iconst 0, 1) := dk_3 (dk_at dksX0_stepsBack_0 10 rfl rfl)
theorem dX0_stepsBack_11 : decode cX0_stepsBack 11 = .ok (.aaload, 1) := dk_50 (dk_at dksX0_stepsBack_0 11 rfl rfl)
theorem dX0_stepsBack_12 : decode cX0_stepsBack 12 = .ok (.iload_n 1, 1) := dk_27 (dk_at dksX0_stepsBack_0 12 rfl rfl)
theorem dX0_stepsBack_13 : decode cX0_stepsBack 13 = .ok (.invokestatic 212, 3) := dk_184 0 212 (dk_at dksX0_stepsBack_0 13 rfl rfl)
theorem dX0_stepsBack_16 : decode cX0_stepsBack 16 = .ok (.ireturn, 1) := dk_172 (dk_at dksX0_stepsBack_0 16 rfl rfl)
abbrev cX0_lambda_new_0 : ByteArray := prog_1_method_90_code
def yX0_lambda_new_0 : MethodName := ⟨RX0, "lambda$new$0", "(II)I"⟩
def dkwX0_lambda_new_0_0 : List UInt8 := [42, 180, 0, 51, 5, 50, 27, 28, 184, 1, 191, 172]
abbrev dktX0_lambda_new_0_0 : List UInt8 := dkwX0_lambda_new_0_0 ++ []
theorem dksX0_lambda_new_0_0 : cX0_lambda_new_0.data.toList.drop 0 = dktX0_lambda_new_0_0 := by decide +kernel
theorem dX0_lambda_new_0_0 : decode cX0_lambda_new_0 0 = .ok (.aload_n 0, 1) := dk_42 (dk_at dksX0_lambda_new_0_0 0 rfl rfl)
theorem dX0_lambda_new_0_1 : decode cX0_lambda_new_0 1 = .ok (.getfield 51, 3) := dk_180 0 51 (dk_at dksX0_lambda_new_0_0 1 rfl rfl)
theorem dX0_lambda_new_0_4 : decode cX0_lambda_new_0 4 = .ok (.iconst 2, 1) := dk_5 (dk_at dksX0_lambda_new_0_0 4 rfl rfl)
theorem dX0_lambda_new_0_5 : decode cX0_lambda_new_0 5 = .ok (.aaload, 1) := dk_50 (dk_at dksX0_lambda_new_0_0 5 rfl rfl)
theorem dX0_lambda_new_0_6 : decode cX0_lambda_new_0 6 = .ok (.iload_n 1, 1) := dk_27 (dk_at dksX0_lambda_new_0_0 6 rfl rfl)
theorem dX0_lambda_new_0_7 : decode cX0_lambda_new_0 7 = .ok (.iload_n 2, 1) := dk_28 (dk_at dksX0_lambda_new_0_0 7 rfl rfl)
theorem dX0_lambda_new_0_8 : decode cX0_lambda_new_0 8 = .ok (.invokestatic 447, 3) := dk_184 1 191 (dk_at dksX0_lambda_new_0_0 8 rfl rfl)
theorem dX0_lambda_new_0_11 : decode cX0_lambda_new_0 11 = .ok (.ireturn, 1) := dk_172 (dk_at dksX0_lambda_new_0_0 11 rfl rfl)
abbrev cX0_untilLost : ByteArray := prog_1_method_68_code
def yX0_untilLost : MethodName := ⟨RX0, "untilLost", "(LKeptCurves$Turn;II)I"⟩
def dkwX0_untilLost_1 : List UInt8 := [160, 0, 5, 29, 172, 21, 5, 62, 132, 4, 1, 167, 255, 226, 29, 172]
abbrev dktX0_untilLost_1 : List UInt8 := dkwX0_untilLost_1 ++ []
def dkwX0_untilLost_0 : List UInt8 := [27, 62, 3, 54, 4, 21, 4, 28, 162, 0, 30, 42, 29, 185, 0, 209, 2, 0, 54, 5, 21, 5, 16, 249]
abbrev dktX0_untilLost_0 : List UInt8 := dkwX0_untilLost_0 ++ dktX0_untilLost_1
theorem dksX0_untilLost_0 : cX0_untilLost.data.toList.drop 0 = dktX0_untilLost_0 := by decide +kernel
theorem dksX0_untilLost_1 : cX0_untilLost.data.toList.drop 24 = dktX0_untilLost_1 := dk_seg dksX0_untilLost_0 24 rfl rfl
theorem dX0_untilLost_0 : decode cX0_untilLost 0 = .ok (.iload_n 1, 1) := dk_27 (dk_at dksX0_untilLost_0 0 rfl rfl)
theorem dX0_untilLost_1 : decode cX0_untilLost 1 = .ok (.istore_n 3, 1) := dk_62 (dk_at dksX0_untilLost_0 1 rfl rfl)
theorem dX0_untilLost_2 : decode cX0_untilLost 2 = .ok (.iconst 0, 1) := dk_3 (dk_at dksX0_untilLost_0 2 rfl rfl)
theorem dX0_untilLost_3 : decode cX0_untilLost 3 = .ok (.istore 4, 2) := dk_54 4 (dk_at dksX0_untilLost_0 3 rfl rfl)
theorem dX0_untilLost_5 : decode cX0_untilLost 5 = .ok (.iload 4, 2) := dk_21 4 (dk_at dksX0_untilLost_0 5 rfl rfl)
theorem dX0_untilLost_7 : decode cX0_untilLost 7 = .ok (.iload_n 2, 1) := dk_28 (dk_at dksX0_untilLost_0 7 rfl rfl)
theorem dX0_untilLost_8 : decode cX0_untilLost 8 = .ok (.if_icmp .ge 30, 3) := dk_162 0 30 (dk_at dksX0_untilLost_0 8 rfl rfl)
theorem dX0_untilLost_11 : decode cX0_untilLost 11 = .ok (.aload_n 0, 1) := dk_42 (dk_at dksX0_untilLost_0 11 rfl rfl)
theorem dX0_untilLost_12 : decode cX0_untilLost 12 = .ok (.iload_n 3, 1) := dk_29 (dk_at dksX0_untilLost_0 12 rfl rfl)
theorem dX0_untilLost_13 : decode cX0_untilLost 13 = .ok (.invokeinterface 209 2, 5) := by decide +kernel
theorem dX0_untilLost_18 : decode cX0_untilLost 18 = .ok (.istore 5, 2) := dk_54 5 (dk_at dksX0_untilLost_0 18 rfl rfl)
theorem dX0_untilLost_20 : decode cX0_untilLost 20 = .ok (.iload 5, 2) := dk_21 5 (dk_at dksX0_untilLost_0 20 rfl rfl)
theorem dX0_untilLost_22 : decode cX0_untilLost 22 = .ok (.bipush (-7), 2) := dk_16 249 (dk_at dksX0_untilLost_0 22 rfl rfl)
theorem dX0_untilLost_24 : decode cX0_untilLost 24 = .ok (.if_icmp .ne 5, 3) := dk_160 0 5 (dk_at dksX0_untilLost_1 0 rfl rfl)
theorem dX0_untilLost_27 : decode cX0_untilLost 27 = .ok (.iload_n 3, 1) := dk_29 (dk_at dksX0_untilLost_1 3 rfl rfl)
theorem dX0_untilLost_28 : decode cX0_untilLost 28 = .ok (.ireturn, 1) := dk_172 (dk_at dksX0_untilLost_1 4 rfl rfl)
theorem dX0_untilLost_29 : decode cX0_untilLost 29 = .ok (.iload 5, 2) := dk_21 5 (dk_at dksX0_untilLost_1 5 rfl rfl)
theorem dX0_untilLost_31 : decode cX0_untilLost 31 = .ok (.istore_n 3, 1) := dk_62 (dk_at dksX0_untilLost_1 7 rfl rfl)
theorem dX0_untilLost_32 : decode cX0_untilLost 32 = .ok (.iinc 4 1, 3) := dk_132 4 1 (dk_at dksX0_untilLost_1 8 rfl rfl)
theorem dX0_untilLost_35 : decode cX0_untilLost 35 = .ok (.goto (-30), 3) := dk_167 255 226 (dk_at dksX0_untilLost_1 11 rfl rfl)
theorem dX0_untilLost_38 : decode cX0_untilLost 38 = .ok (.iload_n 3, 1) := dk_29 (dk_at dksX0_untilLost_1 14 rfl rfl)
theorem dX0_untilLost_39 : decode cX0_untilLost 39 = .ok (.ireturn, 1) := dk_172 (dk_at dksX0_untilLost_1 15 rfl rfl)
abbrev cX0_lambda_new_1 : ByteArray := prog_1_method_89_code
def yX0_lambda_new_1 : MethodName := ⟨RX0, "lambda$new$1", "(II)I"⟩
def dkwX0_lambda_new_1_0 : List UInt8 := [42, 180, 0, 51, 6, 50, 27, 28, 184, 1, 191, 172]
abbrev dktX0_lambda_new_1_0 : List UInt8 := dkwX0_lambda_new_1_0 ++ []
theorem dksX0_lambda_new_1_0 : cX0_lambda_new_1.data.toList.drop 0 = dktX0_lambda_new_1_0 := by decide +kernel
theorem dX0_lambda_new_1_0 : decode cX0_lambda_new_1 0 = .ok (.aload_n 0, 1) := dk_42 (dk_at dksX0_lambda_new_1_0 0 rfl rfl)
theorem dX0_lambda_new_1_1 : decode cX0_lambda_new_1 1 = .ok (.getfield 51, 3) := dk_180 0 51 (dk_at dksX0_lambda_new_1_0 1 rfl rfl)
theorem dX0_lambda_new_1_4 : decode cX0_lambda_new_1 4 = .ok (.iconst 3, 1) := dk_6 (dk_at dksX0_lambda_new_1_0 4 rfl rfl)
theorem dX0_lambda_new_1_5 : decode cX0_lambda_new_1 5 = .ok (.aaload, 1) := dk_50 (dk_at dksX0_lambda_new_1_0 5 rfl rfl)
theorem dX0_lambda_new_1_6 : decode cX0_lambda_new_1 6 = .ok (.iload_n 1, 1) := dk_27 (dk_at dksX0_lambda_new_1_0 6 rfl rfl)
theorem dX0_lambda_new_1_7 : decode cX0_lambda_new_1 7 = .ok (.iload_n 2, 1) := dk_28 (dk_at dksX0_lambda_new_1_0 7 rfl rfl)
theorem dX0_lambda_new_1_8 : decode cX0_lambda_new_1 8 = .ok (.invokestatic 447, 3) := dk_184 1 191 (dk_at dksX0_lambda_new_1_0 8 rfl rfl)
theorem dX0_lambda_new_1_11 : decode cX0_lambda_new_1 11 = .ok (.ireturn, 1) := dk_172 (dk_at dksX0_lambda_new_1_0 11 rfl rfl)
abbrev cX0_swapsOne : ByteArray := prog_1_method_69_code
def yX0_swapsOne : MethodName := ⟨RX0, "swapsOne", "(II)I"⟩
def dkwX0_swapsOne_0 : List UInt8 := [42, 180, 0, 51, 28, 50, 27, 4, 184, 1, 191, 172]
abbrev dktX0_swapsOne_0 : List UInt8 := dkwX0_swapsOne_0 ++ []
theorem dksX0_swapsOne_0 : cX0_swapsOne.data.toList.drop 0 = dktX0_swapsOne_0 := by decide +kernel
theorem dX0_swapsOne_0 : decode cX0_swapsOne 0 = .ok (.aload_n 0, 1) := dk_42 (dk_at dksX0_swapsOne_0 0 rfl rfl)
theorem dX0_swapsOne_1 : decode cX0_swapsOne 1 = .ok (.getfield 51, 3) := dk_180 0 51 (dk_at dksX0_swapsOne_0 1 rfl rfl)
theorem dX0_swapsOne_4 : decode cX0_swapsOne 4 = .ok (.iload_n 2, 1) := dk_28 (dk_at dksX0_swapsOne_0 4 rfl rfl)
theorem dX0_swapsOne_5 : decode cX0_swapsOne 5 = .ok (.aaload, 1) := dk_50 (dk_at dksX0_swapsOne_0 5 rfl rfl)
theorem dX0_swapsOne_6 : decode cX0_swapsOne 6 = .ok (.iload_n 1, 1) := dk_27 (dk_at dksX0_swapsOne_0 6 rfl rfl)
theorem dX0_swapsOne_7 : decode cX0_swapsOne 7 = .ok (.iconst 1, 1) := dk_4 (dk_at dksX0_swapsOne_0 7 rfl rfl)
theorem dX0_swapsOne_8 : decode cX0_swapsOne 8 = .ok (.invokestatic 447, 3) := dk_184 1 191 (dk_at dksX0_swapsOne_0 8 rfl rfl)
theorem dX0_swapsOne_11 : decode cX0_swapsOne 11 = .ok (.ireturn, 1) := dk_172 (dk_at dksX0_swapsOne_0 11 rfl rfl)
abbrev cX0_turnedOver : ByteArray := prog_1_method_70_code
def yX0_turnedOver : MethodName := ⟨RX0, "turnedOver", "(II)I"⟩
def dkwX0_turnedOver_0 : List UInt8 := [26, 16, 32, 112, 26, 16, 32, 108, 184, 0, 206, 172]
abbrev dktX0_turnedOver_0 : List UInt8 := dkwX0_turnedOver_0 ++ []
theorem dksX0_turnedOver_0 : cX0_turnedOver.data.toList.drop 0 = dktX0_turnedOver_0 := by decide +kernel
theorem dX0_turnedOver_0 : decode cX0_turnedOver 0 = .ok (.iload_n 0, 1) := dk_26 (dk_at dksX0_turnedOver_0 0 rfl rfl)
theorem dX0_turnedOver_1 : decode cX0_turnedOver 1 = .ok (.bipush 32, 2) := dk_16 32 (dk_at dksX0_turnedOver_0 1 rfl rfl)
theorem dX0_turnedOver_3 : decode cX0_turnedOver 3 = .ok (.irem, 1) := dk_112 (dk_at dksX0_turnedOver_0 3 rfl rfl)
theorem dX0_turnedOver_4 : decode cX0_turnedOver 4 = .ok (.iload_n 0, 1) := dk_26 (dk_at dksX0_turnedOver_0 4 rfl rfl)
theorem dX0_turnedOver_5 : decode cX0_turnedOver 5 = .ok (.bipush 32, 2) := dk_16 32 (dk_at dksX0_turnedOver_0 5 rfl rfl)
theorem dX0_turnedOver_7 : decode cX0_turnedOver 7 = .ok (.idiv, 1) := dk_108 (dk_at dksX0_turnedOver_0 7 rfl rfl)
theorem dX0_turnedOver_8 : decode cX0_turnedOver 8 = .ok (.invokestatic 206, 3) := dk_184 0 206 (dk_at dksX0_turnedOver_0 8 rfl rfl)
theorem dX0_turnedOver_11 : decode cX0_turnedOver 11 = .ok (.ireturn, 1) := dk_172 (dk_at dksX0_turnedOver_0 11 rfl rfl)
abbrev cX0_set : ByteArray := prog_1_method_14_code
def yX0_set : MethodName := ⟨RX0, "set", "(IIII)I"⟩
def dkwX0_set_2 : List UInt8 := [29, 184, 0, 142, 21, 4, 79, 21, 5, 172]
abbrev dktX0_set_2 : List UInt8 := dkwX0_set_2 ++ []
def dkwX0_set_1 : List UInt8 := [180, 0, 36, 180, 0, 139, 27, 28, 29, 184, 0, 142, 46, 54, 5, 42, 180, 0, 36, 180, 0, 139, 27, 28]
abbrev dktX0_set_1 : List UInt8 := dkwX0_set_1 ++ dktX0_set_2
def dkwX0_set_0 : List UInt8 := [27, 28, 29, 184, 0, 132, 154, 0, 5, 2, 172, 21, 4, 184, 0, 136, 154, 0, 6, 16, 254, 172, 42]
abbrev dktX0_set_0 : List UInt8 := dkwX0_set_0 ++ dktX0_set_1
theorem dksX0_set_0 : cX0_set.data.toList.drop 0 = dktX0_set_0 := by decide +kernel
theorem dksX0_set_1 : cX0_set.data.toList.drop 23 = dktX0_set_1 := dk_seg dksX0_set_0 23 rfl rfl
theorem dksX0_set_2 : cX0_set.data.toList.drop 47 = dktX0_set_2 := dk_seg dksX0_set_1 24 rfl rfl
theorem dX0_set_0 : decode cX0_set 0 = .ok (.iload_n 1, 1) := dk_27 (dk_at dksX0_set_0 0 rfl rfl)
theorem dX0_set_1 : decode cX0_set 1 = .ok (.iload_n 2, 1) := dk_28 (dk_at dksX0_set_0 1 rfl rfl)
theorem dX0_set_2 : decode cX0_set 2 = .ok (.iload_n 3, 1) := dk_29 (dk_at dksX0_set_0 2 rfl rfl)
theorem dX0_set_3 : decode cX0_set 3 = .ok (.invokestatic 132, 3) := dk_184 0 132 (dk_at dksX0_set_0 3 rfl rfl)
theorem dX0_set_6 : decode cX0_set 6 = .ok (.ifCond .ne 5, 3) := dk_154 0 5 (dk_at dksX0_set_0 6 rfl rfl)
theorem dX0_set_9 : decode cX0_set 9 = .ok (.iconst (-1), 1) := dk_2 (dk_at dksX0_set_0 9 rfl rfl)
theorem dX0_set_10 : decode cX0_set 10 = .ok (.ireturn, 1) := dk_172 (dk_at dksX0_set_0 10 rfl rfl)
theorem dX0_set_11 : decode cX0_set 11 = .ok (.iload 4, 2) := dk_21 4 (dk_at dksX0_set_0 11 rfl rfl)
theorem dX0_set_13 : decode cX0_set 13 = .ok (.invokestatic 136, 3) := dk_184 0 136 (dk_at dksX0_set_0 13 rfl rfl)
theorem dX0_set_16 : decode cX0_set 16 = .ok (.ifCond .ne 6, 3) := dk_154 0 6 (dk_at dksX0_set_0 16 rfl rfl)
theorem dX0_set_19 : decode cX0_set 19 = .ok (.bipush (-2), 2) := dk_16 254 (dk_at dksX0_set_0 19 rfl rfl)
theorem dX0_set_21 : decode cX0_set 21 = .ok (.ireturn, 1) := dk_172 (dk_at dksX0_set_0 21 rfl rfl)
theorem dX0_set_22 : decode cX0_set 22 = .ok (.aload_n 0, 1) := dk_42 (dk_at dksX0_set_0 22 rfl rfl)
theorem dX0_set_23 : decode cX0_set 23 = .ok (.getfield 36, 3) := dk_180 0 36 (dk_at dksX0_set_1 0 rfl rfl)
theorem dX0_set_26 : decode cX0_set 26 = .ok (.getfield 139, 3) := dk_180 0 139 (dk_at dksX0_set_1 3 rfl rfl)
theorem dX0_set_29 : decode cX0_set 29 = .ok (.iload_n 1, 1) := dk_27 (dk_at dksX0_set_1 6 rfl rfl)
theorem dX0_set_30 : decode cX0_set 30 = .ok (.iload_n 2, 1) := dk_28 (dk_at dksX0_set_1 7 rfl rfl)
theorem dX0_set_31 : decode cX0_set 31 = .ok (.iload_n 3, 1) := dk_29 (dk_at dksX0_set_1 8 rfl rfl)
theorem dX0_set_32 : decode cX0_set 32 = .ok (.invokestatic 142, 3) := dk_184 0 142 (dk_at dksX0_set_1 9 rfl rfl)
theorem dX0_set_35 : decode cX0_set 35 = .ok (.iaload, 1) := dk_46 (dk_at dksX0_set_1 12 rfl rfl)
theorem dX0_set_36 : decode cX0_set 36 = .ok (.istore 5, 2) := dk_54 5 (dk_at dksX0_set_1 13 rfl rfl)
theorem dX0_set_38 : decode cX0_set 38 = .ok (.aload_n 0, 1) := dk_42 (dk_at dksX0_set_1 15 rfl rfl)
theorem dX0_set_39 : decode cX0_set 39 = .ok (.getfield 36, 3) := dk_180 0 36 (dk_at dksX0_set_1 16 rfl rfl)
theorem dX0_set_42 : decode cX0_set 42 = .ok (.getfield 139, 3) := dk_180 0 139 (dk_at dksX0_set_1 19 rfl rfl)
theorem dX0_set_45 : decode cX0_set 45 = .ok (.iload_n 1, 1) := dk_27 (dk_at dksX0_set_1 22 rfl rfl)
theorem dX0_set_46 : decode cX0_set 46 = .ok (.iload_n 2, 1) := dk_28 (dk_at dksX0_set_1 23 rfl rfl)
theorem dX0_set_47 : decode cX0_set 47 = .ok (.iload_n 3, 1) := dk_29 (dk_at dksX0_set_2 0 rfl rfl)
theorem dX0_set_48 : decode cX0_set 48 = .ok (.invokestatic 142, 3) := dk_184 0 142 (dk_at dksX0_set_2 1 rfl rfl)
theorem dX0_set_51 : decode cX0_set 51 = .ok (.iload 4, 2) := dk_21 4 (dk_at dksX0_set_2 4 rfl rfl)
theorem dX0_set_53 : decode cX0_set 53 = .ok (.iastore, 1) := dk_79 (dk_at dksX0_set_2 6 rfl rfl)
theorem dX0_set_54 : decode cX0_set 54 = .ok (.iload 5, 2) := dk_21 5 (dk_at dksX0_set_2 7 rfl rfl)
theorem dX0_set_56 : decode cX0_set 56 = .ok (.ireturn, 1) := dk_172 (dk_at dksX0_set_2 9 rfl rfl)
abbrev cX0_isCell : ByteArray := prog_1_method_13_code
def yX0_isCell : MethodName := ⟨RX0, "isCell", "(III)Z"⟩
def dkwX0_isCell_1 : List UInt8 := [167, 0, 4, 3, 172]
abbrev dktX0_isCell_1 : List UInt8 := dkwX0_isCell_1 ++ []
def dkwX0_isCell_0 : List UInt8 := [26, 184, 0, 126, 153, 0, 21, 27, 184, 0, 129, 153, 0, 14, 28, 184, 0, 129, 153, 0, 7, 4]
abbrev dktX0_isCell_0 : List UInt8 := dkwX0_isCell_0 ++ dktX0_isCell_1
theorem dksX0_isCell_0 : cX0_isCell.data.toList.drop 0 = dktX0_isCell_0 := by decide +kernel
theorem dksX0_isCell_1 : cX0_isCell.data.toList.drop 22 = dktX0_isCell_1 := dk_seg dksX0_isCell_0 22 rfl rfl
theorem dX0_isCell_0 : decode cX0_isCell 0 = .ok (.iload_n 0, 1) := dk_26 (dk_at dksX0_isCell_0 0 rfl rfl)
theorem dX0_isCell_1 : decode cX0_isCell 1 = .ok (.invokestatic 126, 3) := dk_184 0 126 (dk_at dksX0_isCell_0 1 rfl rfl)
theorem dX0_isCell_4 : decode cX0_isCell 4 = .ok (.ifCond .eq 21, 3) := dk_153 0 21 (dk_at dksX0_isCell_0 4 rfl rfl)
theorem dX0_isCell_7 : decode cX0_isCell 7 = .ok (.iload_n 1, 1) := dk_27 (dk_at dksX0_isCell_0 7 rfl rfl)
theorem dX0_isCell_8 : decode cX0_isCell 8 = .ok (.invokestatic 129, 3) := dk_184 0 129 (dk_at dksX0_isCell_0 8 rfl rfl)
theorem dX0_isCell_11 : decode cX0_isCell 11 = .ok (.ifCond .eq 14, 3) := dk_153 0 14 (dk_at dksX0_isCell_0 11 rfl rfl)
theorem dX0_isCell_14 : decode cX0_isCell 14 = .ok (.iload_n 2, 1) := dk_28 (dk_at dksX0_isCell_0 14 rfl rfl)
theorem dX0_isCell_15 : decode cX0_isCell 15 = .ok (.invokestatic 129, 3) := dk_184 0 129 (dk_at dksX0_isCell_0 15 rfl rfl)
theorem dX0_isCell_18 : decode cX0_isCell 18 = .ok (.ifCond .eq 7, 3) := dk_153 0 7 (dk_at dksX0_isCell_0 18 rfl rfl)
theorem dX0_isCell_21 : decode cX0_isCell 21 = .ok (.iconst 1, 1) := dk_4 (dk_at dksX0_isCell_0 21 rfl rfl)
theorem dX0_isCell_22 : decode cX0_isCell 22 = .ok (.goto 4, 3) := dk_167 0 4 (dk_at dksX0_isCell_1 0 rfl rfl)
theorem dX0_isCell_25 : decode cX0_isCell 25 = .ok (.iconst 0, 1) := dk_3 (dk_at dksX0_isCell_1 3 rfl rfl)
theorem dX0_isCell_26 : decode cX0_isCell 26 = .ok (.ireturn, 1) := dk_172 (dk_at dksX0_isCell_1 4 rfl rfl)
abbrev cX0_isTable : ByteArray := prog_1_method_9_code
def yX0_isTable : MethodName := ⟨RX0, "isTable", "(I)Z"⟩
def dkwX0_isTable_0 : List UInt8 := [26, 133, 9, 10, 184, 0, 7, 172]
abbrev dktX0_isTable_0 : List UInt8 := dkwX0_isTable_0 ++ []
theorem dksX0_isTable_0 : cX0_isTable.data.toList.drop 0 = dktX0_isTable_0 := by decide +kernel
theorem dX0_isTable_0 : decode cX0_isTable 0 = .ok (.iload_n 0, 1) := dk_26 (dk_at dksX0_isTable_0 0 rfl rfl)
theorem dX0_isTable_1 : decode cX0_isTable 1 = .ok (.i2l, 1) := dk_133 (dk_at dksX0_isTable_0 1 rfl rfl)
theorem dX0_isTable_2 : decode cX0_isTable 2 = .ok (.lconst 0, 1) := dk_9 (dk_at dksX0_isTable_0 2 rfl rfl)
theorem dX0_isTable_3 : decode cX0_isTable 3 = .ok (.lconst 1, 1) := dk_10 (dk_at dksX0_isTable_0 3 rfl rfl)
theorem dX0_isTable_4 : decode cX0_isTable 4 = .ok (.invokestatic 7, 3) := dk_184 0 7 (dk_at dksX0_isTable_0 4 rfl rfl)
theorem dX0_isTable_7 : decode cX0_isTable 7 = .ok (.ireturn, 1) := dk_172 (dk_at dksX0_isTable_0 7 rfl rfl)
abbrev cX0_isIn : ByteArray := prog_1_method_1_code
def yX0_isIn : MethodName := ⟨RX0, "isIn", "(JJJ)Z"⟩
def dkwX0_isIn_0 : List UInt8 := [30, 32, 148, 155, 0, 14, 30, 22, 4, 148, 157, 0, 7, 4, 167, 0, 4, 3, 172]
abbrev dktX0_isIn_0 : List UInt8 := dkwX0_isIn_0 ++ []
theorem dksX0_isIn_0 : cX0_isIn.data.toList.drop 0 = dktX0_isIn_0 := by decide +kernel
theorem dX0_isIn_0 : decode cX0_isIn 0 = .ok (.lload_n 0, 1) := dk_30 (dk_at dksX0_isIn_0 0 rfl rfl)
theorem dX0_isIn_1 : decode cX0_isIn 1 = .ok (.lload_n 2, 1) := dk_32 (dk_at dksX0_isIn_0 1 rfl rfl)
theorem dX0_isIn_2 : decode cX0_isIn 2 = .ok (.lcmp, 1) := dk_148 (dk_at dksX0_isIn_0 2 rfl rfl)
theorem dX0_isIn_3 : decode cX0_isIn 3 = .ok (.ifCond .lt 14, 3) := dk_155 0 14 (dk_at dksX0_isIn_0 3 rfl rfl)
theorem dX0_isIn_6 : decode cX0_isIn 6 = .ok (.lload_n 0, 1) := dk_30 (dk_at dksX0_isIn_0 6 rfl rfl)
theorem dX0_isIn_7 : decode cX0_isIn 7 = .ok (.lload 4, 2) := dk_22 4 (dk_at dksX0_isIn_0 7 rfl rfl)
theorem dX0_isIn_9 : decode cX0_isIn 9 = .ok (.lcmp, 1) := dk_148 (dk_at dksX0_isIn_0 9 rfl rfl)
theorem dX0_isIn_10 : decode cX0_isIn 10 = .ok (.ifCond .gt 7, 3) := dk_157 0 7 (dk_at dksX0_isIn_0 10 rfl rfl)
theorem dX0_isIn_13 : decode cX0_isIn 13 = .ok (.iconst 1, 1) := dk_4 (dk_at dksX0_isIn_0 13 rfl rfl)
theorem dX0_isIn_14 : decode cX0_isIn 14 = .ok (.goto 4, 3) := dk_167 0 4 (dk_at dksX0_isIn_0 14 rfl rfl)
theorem dX0_isIn_17 : decode cX0_isIn 17 = .ok (.iconst 0, 1) := dk_3 (dk_at dksX0_isIn_0 17 rfl rfl)
theorem dX0_isIn_18 : decode cX0_isIn 18 = .ok (.ireturn, 1) := dk_172 (dk_at dksX0_isIn_0 18 rfl rfl)
abbrev cX0_isPower : ByteArray := prog_1_method_10_code
def yX0_isPower : MethodName := ⟨RX0, "isPower", "(I)Z"⟩
def dkwX0_isPower_0 : List UInt8 := [26, 133, 9, 20, 0, 25, 184, 0, 7, 172]
abbrev dktX0_isPower_0 : List UInt8 := dkwX0_isPower_0 ++ []
theorem dksX0_isPower_0 : cX0_isPower.data.toList.drop 0 = dktX0_isPower_0 := by decide +kernel
theorem dX0_isPower_0 : decode cX0_isPower 0 = .ok (.iload_n 0, 1) := dk_26 (dk_at dksX0_isPower_0 0 rfl rfl)
theorem dX0_isPower_1 : decode cX0_isPower 1 = .ok (.i2l, 1) := dk_133 (dk_at dksX0_isPower_0 1 rfl rfl)
theorem dX0_isPower_2 : decode cX0_isPower 2 = .ok (.lconst 0, 1) := dk_9 (dk_at dksX0_isPower_0 2 rfl rfl)
theorem dX0_isPower_3 : decode cX0_isPower 3 = .ok (.ldc2_w 25, 3) := dk_20 0 25 (dk_at dksX0_isPower_0 3 rfl rfl)
theorem dX0_isPower_6 : decode cX0_isPower 6 = .ok (.invokestatic 7, 3) := dk_184 0 7 (dk_at dksX0_isPower_0 6 rfl rfl)
theorem dX0_isPower_9 : decode cX0_isPower 9 = .ok (.ireturn, 1) := dk_172 (dk_at dksX0_isPower_0 9 rfl rfl)
abbrev cX0_isNumber : ByteArray := prog_1_method_3_code
def yX0_isNumber : MethodName := ⟨RX0, "isNumber", "(I)Z"⟩
def dkwX0_isNumber_0 : List UInt8 := [26, 133, 9, 20, 0, 11, 184, 0, 7, 172]
abbrev dktX0_isNumber_0 : List UInt8 := dkwX0_isNumber_0 ++ []
theorem dksX0_isNumber_0 : cX0_isNumber.data.toList.drop 0 = dktX0_isNumber_0 := by decide +kernel
theorem dX0_isNumber_0 : decode cX0_isNumber 0 = .ok (.iload_n 0, 1) := dk_26 (dk_at dksX0_isNumber_0 0 rfl rfl)
theorem dX0_isNumber_1 : decode cX0_isNumber 1 = .ok (.i2l, 1) := dk_133 (dk_at dksX0_isNumber_0 1 rfl rfl)
theorem dX0_isNumber_2 : decode cX0_isNumber 2 = .ok (.lconst 0, 1) := dk_9 (dk_at dksX0_isNumber_0 2 rfl rfl)
theorem dX0_isNumber_3 : decode cX0_isNumber 3 = .ok (.ldc2_w 11, 3) := dk_20 0 11 (dk_at dksX0_isNumber_0 3 rfl rfl)
theorem dX0_isNumber_6 : decode cX0_isNumber 6 = .ok (.invokestatic 7, 3) := dk_184 0 7 (dk_at dksX0_isNumber_0 6 rfl rfl)
theorem dX0_isNumber_9 : decode cX0_isNumber 9 = .ok (.ireturn, 1) := dk_172 (dk_at dksX0_isNumber_0 9 rfl rfl)
abbrev cX0_of : ByteArray := prog_1_method_15_code
def yX0_of : MethodName := ⟨RX0, "of", "(III)I"⟩
def dkwX0_of_1 : List UInt8 := [167, 0, 4, 2, 172]
abbrev dktX0_of_1 : List UInt8 := dkwX0_of_1 ++ []
def dkwX0_of_0 : List UInt8 := [27, 28, 29, 184, 0, 132, 153, 0, 20, 42, 180, 0, 36, 180, 0, 139, 27, 28, 29, 184, 0, 142, 46]
abbrev dktX0_of_0 : List UInt8 := dkwX0_of_0 ++ dktX0_of_1
theorem dksX0_of_0 : cX0_of.data.toList.drop 0 = dktX0_of_0 := by decide +kernel
theorem dksX0_of_1 : cX0_of.data.toList.drop 23 = dktX0_of_1 := dk_seg dksX0_of_0 23 rfl rfl
theorem dX0_of_0 : decode cX0_of 0 = .ok (.iload_n 1, 1) := dk_27 (dk_at dksX0_of_0 0 rfl rfl)
theorem dX0_of_1 : decode cX0_of 1 = .ok (.iload_n 2, 1) := dk_28 (dk_at dksX0_of_0 1 rfl rfl)
theorem dX0_of_2 : decode cX0_of 2 = .ok (.iload_n 3, 1) := dk_29 (dk_at dksX0_of_0 2 rfl rfl)
theorem dX0_of_3 : decode cX0_of 3 = .ok (.invokestatic 132, 3) := dk_184 0 132 (dk_at dksX0_of_0 3 rfl rfl)
theorem dX0_of_6 : decode cX0_of 6 = .ok (.ifCond .eq 20, 3) := dk_153 0 20 (dk_at dksX0_of_0 6 rfl rfl)
theorem dX0_of_9 : decode cX0_of 9 = .ok (.aload_n 0, 1) := dk_42 (dk_at dksX0_of_0 9 rfl rfl)
theorem dX0_of_10 : decode cX0_of 10 = .ok (.getfield 36, 3) := dk_180 0 36 (dk_at dksX0_of_0 10 rfl rfl)
theorem dX0_of_13 : decode cX0_of 13 = .ok (.getfield 139, 3) := dk_180 0 139 (dk_at dksX0_of_0 13 rfl rfl)
theorem dX0_of_16 : decode cX0_of 16 = .ok (.iload_n 1, 1) := dk_27 (dk_at dksX0_of_0 16 rfl rfl)
theorem dX0_of_17 : decode cX0_of 17 = .ok (.iload_n 2, 1) := dk_28 (dk_at dksX0_of_0 17 rfl rfl)
theorem dX0_of_18 : decode cX0_of 18 = .ok (.iload_n 3, 1) := dk_29 (dk_at dksX0_of_0 18 rfl rfl)
theorem dX0_of_19 : decode cX0_of 19 = .ok (.invokestatic 142, 3) := dk_184 0 142 (dk_at dksX0_of_0 19 rfl rfl)
theorem dX0_of_22 : decode cX0_of 22 = .ok (.iaload, 1) := dk_46 (dk_at dksX0_of_0 22 rfl rfl)
theorem dX0_of_23 : decode cX0_of 23 = .ok (.goto 4, 3) := dk_167 0 4 (dk_at dksX0_of_1 0 rfl rfl)
theorem dX0_of_26 : decode cX0_of 26 = .ok (.iconst (-1), 1) := dk_2 (dk_at dksX0_of_1 3 rfl rfl)
theorem dX0_of_27 : decode cX0_of 27 = .ok (.ireturn, 1) := dk_172 (dk_at dksX0_of_1 4 rfl rfl)
abbrev cX0_feed : ByteArray := prog_1_method_16_code
def yX0_feed : MethodName := ⟨RX0, "feed", "(I)I"⟩
def dkwX0_feed_2 : List UInt8 := [42, 180, 0, 148, 172]
abbrev dktX0_feed_2 : List UInt8 := dkwX0_feed_2 ++ []
def dkwX0_feed_1 : List UInt8 := [16, 252, 172, 42, 180, 0, 55, 42, 180, 0, 148, 27, 145, 84, 42, 89, 180, 0, 148, 4, 96, 181, 0, 148]
abbrev dktX0_feed_1 : List UInt8 := dkwX0_feed_1 ++ dktX0_feed_2
def dkwX0_feed_0 : List UInt8 := [27, 133, 10, 20, 0, 146, 184, 0, 7, 154, 0, 6, 16, 254, 172, 42, 180, 0, 148, 16, 60, 160, 0, 6]
abbrev dktX0_feed_0 : List UInt8 := dkwX0_feed_0 ++ dktX0_feed_1
theorem dksX0_feed_0 : cX0_feed.data.toList.drop 0 = dktX0_feed_0 := by decide +kernel
theorem dksX0_feed_1 : cX0_feed.data.toList.drop 24 = dktX0_feed_1 := dk_seg dksX0_feed_0 24 rfl rfl
theorem dksX0_feed_2 : cX0_feed.data.toList.drop 48 = dktX0_feed_2 := dk_seg dksX0_feed_1 24 rfl rfl
theorem dX0_feed_0 : decode cX0_feed 0 = .ok (.iload_n 1, 1) := dk_27 (dk_at dksX0_feed_0 0 rfl rfl)
theorem dX0_feed_1 : decode cX0_feed 1 = .ok (.i2l, 1) := dk_133 (dk_at dksX0_feed_0 1 rfl rfl)
theorem dX0_feed_2 : decode cX0_feed 2 = .ok (.lconst 1, 1) := dk_10 (dk_at dksX0_feed_0 2 rfl rfl)
theorem dX0_feed_3 : decode cX0_feed 3 = .ok (.ldc2_w 146, 3) := dk_20 0 146 (dk_at dksX0_feed_0 3 rfl rfl)
theorem dX0_feed_6 : decode cX0_feed 6 = .ok (.invokestatic 7, 3) := dk_184 0 7 (dk_at dksX0_feed_0 6 rfl rfl)
theorem dX0_feed_9 : decode cX0_feed 9 = .ok (.ifCond .ne 6, 3) := dk_154 0 6 (dk_at dksX0_feed_0 9 rfl rfl)
theorem dX0_feed_12 : decode cX0_feed 12 = .ok (.bipush (-2), 2) := dk_16 254 (dk_at dksX0_feed_0 12 rfl rfl)
theorem dX0_feed_14 : decode cX0_feed 14 = .ok (.ireturn, 1) := dk_172 (dk_at dksX0_feed_0 14 rfl rfl)
theorem dX0_feed_15 : decode cX0_feed 15 = .ok (.aload_n 0, 1) := dk_42 (dk_at dksX0_feed_0 15 rfl rfl)
theorem dX0_feed_16 : decode cX0_feed 16 = .ok (.getfield 148, 3) := dk_180 0 148 (dk_at dksX0_feed_0 16 rfl rfl)
theorem dX0_feed_19 : decode cX0_feed 19 = .ok (.bipush 60, 2) := dk_16 60 (dk_at dksX0_feed_0 19 rfl rfl)
theorem dX0_feed_21 : decode cX0_feed 21 = .ok (.if_icmp .ne 6, 3) := dk_160 0 6 (dk_at dksX0_feed_0 21 rfl rfl)
theorem dX0_feed_24 : decode cX0_feed 24 = .ok (.bipush (-4), 2) := dk_16 252 (dk_at dksX0_feed_1 0 rfl rfl)
theorem dX0_feed_26 : decode cX0_feed 26 = .ok (.ireturn, 1) := dk_172 (dk_at dksX0_feed_1 2 rfl rfl)
theorem dX0_feed_27 : decode cX0_feed 27 = .ok (.aload_n 0, 1) := dk_42 (dk_at dksX0_feed_1 3 rfl rfl)
theorem dX0_feed_28 : decode cX0_feed 28 = .ok (.getfield 55, 3) := dk_180 0 55 (dk_at dksX0_feed_1 4 rfl rfl)
theorem dX0_feed_31 : decode cX0_feed 31 = .ok (.aload_n 0, 1) := dk_42 (dk_at dksX0_feed_1 7 rfl rfl)
theorem dX0_feed_32 : decode cX0_feed 32 = .ok (.getfield 148, 3) := dk_180 0 148 (dk_at dksX0_feed_1 8 rfl rfl)
theorem dX0_feed_35 : decode cX0_feed 35 = .ok (.iload_n 1, 1) := dk_27 (dk_at dksX0_feed_1 11 rfl rfl)
theorem dX0_feed_36 : decode cX0_feed 36 = .ok (.i2b, 1) := dk_145 (dk_at dksX0_feed_1 12 rfl rfl)
theorem dX0_feed_37 : decode cX0_feed 37 = .ok (.bastore, 1) := dk_84 (dk_at dksX0_feed_1 13 rfl rfl)
theorem dX0_feed_38 : decode cX0_feed 38 = .ok (.aload_n 0, 1) := dk_42 (dk_at dksX0_feed_1 14 rfl rfl)
theorem dX0_feed_39 : decode cX0_feed 39 = .ok (.dup, 1) := dk_89 (dk_at dksX0_feed_1 15 rfl rfl)
theorem dX0_feed_40 : decode cX0_feed 40 = .ok (.getfield 148, 3) := dk_180 0 148 (dk_at dksX0_feed_1 16 rfl rfl)
theorem dX0_feed_43 : decode cX0_feed 43 = .ok (.iconst 1, 1) := dk_4 (dk_at dksX0_feed_1 19 rfl rfl)
theorem dX0_feed_44 : decode cX0_feed 44 = .ok (.iadd, 1) := dk_96 (dk_at dksX0_feed_1 20 rfl rfl)
theorem dX0_feed_45 : decode cX0_feed 45 = .ok (.putfield 148, 3) := dk_181 0 148 (dk_at dksX0_feed_1 21 rfl rfl)
theorem dX0_feed_48 : decode cX0_feed 48 = .ok (.aload_n 0, 1) := dk_42 (dk_at dksX0_feed_2 0 rfl rfl)
theorem dX0_feed_49 : decode cX0_feed 49 = .ok (.getfield 148, 3) := dk_180 0 148 (dk_at dksX0_feed_2 1 rfl rfl)
theorem dX0_feed_52 : decode cX0_feed 52 = .ok (.ireturn, 1) := dk_172 (dk_at dksX0_feed_2 4 rfl rfl)
abbrev cX0_table : ByteArray := prog_1_method_17_code
def yX0_table : MethodName := ⟨RX0, "table", "(I)I"⟩
def dkwX0_table_3 : List UInt8 := [3, 181, 0, 148, 25, 4, 191]
abbrev dktX0_table_3 : List UInt8 := dkwX0_table_3 ++ []
def dkwX0_table_2 : List UInt8 := [181, 0, 148, 29, 172, 77, 16, 156, 44, 180, 0, 169, 100, 62, 42, 3, 181, 0, 148, 29, 172, 58, 4, 42]
abbrev dktX0_table_2 : List UInt8 := dkwX0_table_2 ++ dktX0_table_3
def dkwX0_table_1 : List UInt8 := [180, 0, 59, 3, 42, 180, 0, 36, 180, 0, 139, 16, 9, 27, 104, 16, 9, 184, 0, 161, 28, 62, 42, 3]
abbrev dktX0_table_1 : List UInt8 := dkwX0_table_1 ++ dktX0_table_2
def dkwX0_table_0 : List UInt8 := [27, 184, 0, 126, 154, 0, 5, 2, 172, 187, 0, 152, 89, 42, 183, 0, 154, 182, 0, 157, 61, 42]
abbrev dktX0_table_0 : List UInt8 := dkwX0_table_0 ++ dktX0_table_1
theorem dksX0_table_0 : cX0_table.data.toList.drop 0 = dktX0_table_0 := by decide +kernel
theorem dksX0_table_1 : cX0_table.data.toList.drop 22 = dktX0_table_1 := dk_seg dksX0_table_0 22 rfl rfl
theorem dksX0_table_2 : cX0_table.data.toList.drop 46 = dktX0_table_2 := dk_seg dksX0_table_1 24 rfl rfl
theorem dksX0_table_3 : cX0_table.data.toList.drop 70 = dktX0_table_3 := dk_seg dksX0_table_2 24 rfl rfl
theorem dX0_table_0 : decode cX0_table 0 = .ok (.iload_n 1, 1) := dk_27 (dk_at dksX0_table_0 0 rfl rfl)
theorem dX0_table_1 : decode cX0_table 1 = .ok (.invokestatic 126, 3) := dk_184 0 126 (dk_at dksX0_table_0 1 rfl rfl)
theorem dX0_table_4 : decode cX0_table 4 = .ok (.ifCond .ne 5, 3) := dk_154 0 5 (dk_at dksX0_table_0 4 rfl rfl)
theorem dX0_table_7 : decode cX0_table 7 = .ok (.iconst (-1), 1) := dk_2 (dk_at dksX0_table_0 7 rfl rfl)
theorem dX0_table_8 : decode cX0_table 8 = .ok (.ireturn, 1) := dk_172 (dk_at dksX0_table_0 8 rfl rfl)
theorem dX0_table_9 : decode cX0_table 9 = .ok (.new 152, 3) := dk_187 0 152 (dk_at dksX0_table_0 9 rfl rfl)
theorem dX0_table_12 : decode cX0_table 12 = .ok (.dup, 1) := dk_89 (dk_at dksX0_table_0 12 rfl rfl)
theorem dX0_table_13 : decode cX0_table 13 = .ok (.aload_n 0, 1) := dk_42 (dk_at dksX0_table_0 13 rfl rfl)
theorem dX0_table_14 : decode cX0_table 14 = .ok (.invokespecial 154, 3) := dk_183 0 154 (dk_at dksX0_table_0 14 rfl rfl)
theorem dX0_table_17 : decode cX0_table 17 = .ok (.invokevirtual 157, 3) := dk_182 0 157 (dk_at dksX0_table_0 17 rfl rfl)
theorem dX0_table_20 : decode cX0_table 20 = .ok (.istore_n 2, 1) := dk_61 (dk_at dksX0_table_0 20 rfl rfl)
theorem dX0_table_21 : decode cX0_table 21 = .ok (.aload_n 0, 1) := dk_42 (dk_at dksX0_table_0 21 rfl rfl)
theorem dX0_table_22 : decode cX0_table 22 = .ok (.getfield 59, 3) := dk_180 0 59 (dk_at dksX0_table_1 0 rfl rfl)
theorem dX0_table_25 : decode cX0_table 25 = .ok (.iconst 0, 1) := dk_3 (dk_at dksX0_table_1 3 rfl rfl)
theorem dX0_table_26 : decode cX0_table 26 = .ok (.aload_n 0, 1) := dk_42 (dk_at dksX0_table_1 4 rfl rfl)
theorem dX0_table_27 : decode cX0_table 27 = .ok (.getfield 36, 3) := dk_180 0 36 (dk_at dksX0_table_1 5 rfl rfl)
theorem dX0_table_30 : decode cX0_table 30 = .ok (.getfield 139, 3) := dk_180 0 139 (dk_at dksX0_table_1 8 rfl rfl)
theorem dX0_table_33 : decode cX0_table 33 = .ok (.bipush 9, 2) := dk_16 9 (dk_at dksX0_table_1 11 rfl rfl)
theorem dX0_table_35 : decode cX0_table 35 = .ok (.iload_n 1, 1) := dk_27 (dk_at dksX0_table_1 13 rfl rfl)
theorem dX0_table_36 : decode cX0_table 36 = .ok (.imul, 1) := dk_104 (dk_at dksX0_table_1 14 rfl rfl)
theorem dX0_table_37 : decode cX0_table 37 = .ok (.bipush 9, 2) := dk_16 9 (dk_at dksX0_table_1 15 rfl rfl)
theorem dX0_table_39 : decode cX0_table 39 = .ok (.invokestatic 161, 3) := dk_184 0 161 (dk_at dksX0_table_1 17 rfl rfl)
theorem dX0_table_42 : decode cX0_table 42 = .ok (.iload_n 2, 1) := dk_28 (dk_at dksX0_table_1 20 rfl rfl)
theorem dX0_table_43 : decode cX0_table 43 = .ok (.istore_n 3, 1) := dk_62 (dk_at dksX0_table_1 21 rfl rfl)
theorem dX0_table_44 : decode cX0_table 44 = .ok (.aload_n 0, 1) := dk_42 (dk_at dksX0_table_1 22 rfl rfl)
theorem dX0_table_45 : decode cX0_table 45 = .ok (.iconst 0, 1) := dk_3 (dk_at dksX0_table_1 23 rfl rfl)
theorem dX0_table_46 : decode cX0_table 46 = .ok (.putfield 148, 3) := dk_181 0 148 (dk_at dksX0_table_2 0 rfl rfl)
theorem dX0_table_49 : decode cX0_table 49 = .ok (.iload_n 3, 1) := dk_29 (dk_at dksX0_table_2 3 rfl rfl)
theorem dX0_table_50 : decode cX0_table 50 = .ok (.ireturn, 1) := dk_172 (dk_at dksX0_table_2 4 rfl rfl)
theorem dX0_table_51 : decode cX0_table 51 = .ok (.astore_n 2, 1) := dk_77 (dk_at dksX0_table_2 5 rfl rfl)
theorem dX0_table_52 : decode cX0_table 52 = .ok (.bipush (-100), 2) := dk_16 156 (dk_at dksX0_table_2 6 rfl rfl)
theorem dX0_table_54 : decode cX0_table 54 = .ok (.aload_n 2, 1) := dk_44 (dk_at dksX0_table_2 8 rfl rfl)
theorem dX0_table_55 : decode cX0_table 55 = .ok (.getfield 169, 3) := dk_180 0 169 (dk_at dksX0_table_2 9 rfl rfl)
theorem dX0_table_58 : decode cX0_table 58 = .ok (.isub, 1) := dk_100 (dk_at dksX0_table_2 12 rfl rfl)
theorem dX0_table_59 : decode cX0_table 59 = .ok (.istore_n 3, 1) := dk_62 (dk_at dksX0_table_2 13 rfl rfl)
theorem dX0_table_60 : decode cX0_table 60 = .ok (.aload_n 0, 1) := dk_42 (dk_at dksX0_table_2 14 rfl rfl)
theorem dX0_table_61 : decode cX0_table 61 = .ok (.iconst 0, 1) := dk_3 (dk_at dksX0_table_2 15 rfl rfl)
theorem dX0_table_62 : decode cX0_table 62 = .ok (.putfield 148, 3) := dk_181 0 148 (dk_at dksX0_table_2 16 rfl rfl)
theorem dX0_table_65 : decode cX0_table 65 = .ok (.iload_n 3, 1) := dk_29 (dk_at dksX0_table_2 19 rfl rfl)
theorem dX0_table_66 : decode cX0_table 66 = .ok (.ireturn, 1) := dk_172 (dk_at dksX0_table_2 20 rfl rfl)
theorem dX0_table_67 : decode cX0_table 67 = .ok (.astore 4, 2) := dk_58 4 (dk_at dksX0_table_2 21 rfl rfl)
theorem dX0_table_69 : decode cX0_table 69 = .ok (.aload_n 0, 1) := dk_42 (dk_at dksX0_table_2 23 rfl rfl)
theorem dX0_table_70 : decode cX0_table 70 = .ok (.iconst 0, 1) := dk_3 (dk_at dksX0_table_3 0 rfl rfl)
theorem dX0_table_71 : decode cX0_table 71 = .ok (.putfield 148, 3) := dk_181 0 148 (dk_at dksX0_table_3 1 rfl rfl)
theorem dX0_table_74 : decode cX0_table 74 = .ok (.aload 4, 2) := dk_25 4 (dk_at dksX0_table_3 4 rfl rfl)
theorem dX0_table_76 : decode cX0_table 76 = .ok (.athrow, 1) := dk_191 (dk_at dksX0_table_3 6 rfl rfl)
abbrev cX0_value : ByteArray := prog_1_method_21_code
def yX0_value : MethodName := ⟨RX0, "value", "(III)I"⟩
def dkwX0_value_1 : List UInt8 := [167, 0, 4, 2, 172]
abbrev dktX0_value_1 : List UInt8 := dkwX0_value_1 ++ []
def dkwX0_value_0 : List UInt8 := [27, 184, 0, 126, 153, 0, 21, 28, 29, 184, 0, 179, 153, 0, 13, 42, 27, 28, 29, 182, 0, 183]
abbrev dktX0_value_0 : List UInt8 := dkwX0_value_0 ++ dktX0_value_1
theorem dksX0_value_0 : cX0_value.data.toList.drop 0 = dktX0_value_0 := by decide +kernel
theorem dksX0_value_1 : cX0_value.data.toList.drop 22 = dktX0_value_1 := dk_seg dksX0_value_0 22 rfl rfl
theorem dX0_value_0 : decode cX0_value 0 = .ok (.iload_n 1, 1) := dk_27 (dk_at dksX0_value_0 0 rfl rfl)
theorem dX0_value_1 : decode cX0_value 1 = .ok (.invokestatic 126, 3) := dk_184 0 126 (dk_at dksX0_value_0 1 rfl rfl)
theorem dX0_value_4 : decode cX0_value 4 = .ok (.ifCond .eq 21, 3) := dk_153 0 21 (dk_at dksX0_value_0 4 rfl rfl)
theorem dX0_value_7 : decode cX0_value 7 = .ok (.iload_n 2, 1) := dk_28 (dk_at dksX0_value_0 7 rfl rfl)
theorem dX0_value_8 : decode cX0_value 8 = .ok (.iload_n 3, 1) := dk_29 (dk_at dksX0_value_0 8 rfl rfl)
theorem dX0_value_9 : decode cX0_value 9 = .ok (.invokestatic 179, 3) := dk_184 0 179 (dk_at dksX0_value_0 9 rfl rfl)
theorem dX0_value_12 : decode cX0_value 12 = .ok (.ifCond .eq 13, 3) := dk_153 0 13 (dk_at dksX0_value_0 12 rfl rfl)
theorem dX0_value_15 : decode cX0_value 15 = .ok (.aload_n 0, 1) := dk_42 (dk_at dksX0_value_0 15 rfl rfl)
theorem dX0_value_16 : decode cX0_value 16 = .ok (.iload_n 1, 1) := dk_27 (dk_at dksX0_value_0 16 rfl rfl)
theorem dX0_value_17 : decode cX0_value 17 = .ok (.iload_n 2, 1) := dk_28 (dk_at dksX0_value_0 17 rfl rfl)
theorem dX0_value_18 : decode cX0_value 18 = .ok (.iload_n 3, 1) := dk_29 (dk_at dksX0_value_0 18 rfl rfl)
theorem dX0_value_19 : decode cX0_value 19 = .ok (.invokevirtual 183, 3) := dk_182 0 183 (dk_at dksX0_value_0 19 rfl rfl)
theorem dX0_value_22 : decode cX0_value 22 = .ok (.goto 4, 3) := dk_167 0 4 (dk_at dksX0_value_1 0 rfl rfl)
theorem dX0_value_25 : decode cX0_value 25 = .ok (.iconst (-1), 1) := dk_2 (dk_at dksX0_value_1 3 rfl rfl)
theorem dX0_value_26 : decode cX0_value 26 = .ok (.ireturn, 1) := dk_172 (dk_at dksX0_value_1 4 rfl rfl)
abbrev cX0_isSpot : ByteArray := prog_1_method_8_code
def yX0_isSpot : MethodName := ⟨RX0, "isSpot", "(II)Z"⟩
def dkwX0_isSpot_0 : List UInt8 := [26, 184, 0, 21, 153, 0, 14, 27, 184, 0, 21, 153, 0, 7, 4, 167, 0, 4, 3, 172]
abbrev dktX0_isSpot_0 : List UInt8 := dkwX0_isSpot_0 ++ []
theorem dksX0_isSpot_0 : cX0_isSpot.data.toList.drop 0 = dktX0_isSpot_0 := by decide +kernel
theorem dX0_isSpot_0 : decode cX0_isSpot 0 = .ok (.iload_n 0, 1) := dk_26 (dk_at dksX0_isSpot_0 0 rfl rfl)
theorem dX0_isSpot_1 : decode cX0_isSpot 1 = .ok (.invokestatic 21, 3) := dk_184 0 21 (dk_at dksX0_isSpot_0 1 rfl rfl)
theorem dX0_isSpot_4 : decode cX0_isSpot 4 = .ok (.ifCond .eq 14, 3) := dk_153 0 14 (dk_at dksX0_isSpot_0 4 rfl rfl)
theorem dX0_isSpot_7 : decode cX0_isSpot 7 = .ok (.iload_n 1, 1) := dk_27 (dk_at dksX0_isSpot_0 7 rfl rfl)
theorem dX0_isSpot_8 : decode cX0_isSpot 8 = .ok (.invokestatic 21, 3) := dk_184 0 21 (dk_at dksX0_isSpot_0 8 rfl rfl)
theorem dX0_isSpot_11 : decode cX0_isSpot 11 = .ok (.ifCond .eq 7, 3) := dk_153 0 7 (dk_at dksX0_isSpot_0 11 rfl rfl)
theorem dX0_isSpot_14 : decode cX0_isSpot 14 = .ok (.iconst 1, 1) := dk_4 (dk_at dksX0_isSpot_0 14 rfl rfl)
theorem dX0_isSpot_15 : decode cX0_isSpot 15 = .ok (.goto 4, 3) := dk_167 0 4 (dk_at dksX0_isSpot_0 15 rfl rfl)
theorem dX0_isSpot_18 : decode cX0_isSpot 18 = .ok (.iconst 0, 1) := dk_3 (dk_at dksX0_isSpot_0 18 rfl rfl)
theorem dX0_isSpot_19 : decode cX0_isSpot 19 = .ok (.ireturn, 1) := dk_172 (dk_at dksX0_isSpot_0 19 rfl rfl)
abbrev cX0_isCoordinate : ByteArray := prog_1_method_2_code
def yX0_isCoordinate : MethodName := ⟨RX0, "isCoordinate", "(I)Z"⟩
def dkwX0_isCoordinate_0 : List UInt8 := [26, 133, 9, 20, 0, 5, 184, 0, 7, 172]
abbrev dktX0_isCoordinate_0 : List UInt8 := dkwX0_isCoordinate_0 ++ []
theorem dksX0_isCoordinate_0 : cX0_isCoordinate.data.toList.drop 0 = dktX0_isCoordinate_0 := by decide +kernel
theorem dX0_isCoordinate_0 : decode cX0_isCoordinate 0 = .ok (.iload_n 0, 1) := dk_26 (dk_at dksX0_isCoordinate_0 0 rfl rfl)
theorem dX0_isCoordinate_1 : decode cX0_isCoordinate 1 = .ok (.i2l, 1) := dk_133 (dk_at dksX0_isCoordinate_0 1 rfl rfl)
theorem dX0_isCoordinate_2 : decode cX0_isCoordinate 2 = .ok (.lconst 0, 1) := dk_9 (dk_at dksX0_isCoordinate_0 2 rfl rfl)
theorem dX0_isCoordinate_3 : decode cX0_isCoordinate 3 = .ok (.ldc2_w 5, 3) := dk_20 0 5 (dk_at dksX0_isCoordinate_0 3 rfl rfl)
theorem dX0_isCoordinate_6 : decode cX0_isCoordinate 6 = .ok (.invokestatic 7, 3) := dk_184 0 7 (dk_at dksX0_isCoordinate_0 6 rfl rfl)
theorem dX0_isCoordinate_9 : decode cX0_isCoordinate 9 = .ok (.ireturn, 1) := dk_172 (dk_at dksX0_isCoordinate_0 9 rfl rfl)
abbrev cX0_valueAt : ByteArray := prog_1_method_20_code
def yX0_valueAt : MethodName := ⟨RX0, "valueAt", "(III)I"⟩
def dkwX0_valueAt_1 : List UInt8 := [21, 5, 184, 0, 172, 184, 0, 17, 96, 54, 4, 132, 5, 1, 167, 255, 224, 21, 4, 16, 31, 112, 172]
abbrev dktX0_valueAt_1 : List UInt8 := dkwX0_valueAt_1 ++ []
def dkwX0_valueAt_0 : List UInt8 := [3, 54, 4, 3, 54, 5, 21, 5, 6, 162, 0, 32, 21, 4, 42, 27, 3, 21, 5, 29, 182, 0, 175, 28]
abbrev dktX0_valueAt_0 : List UInt8 := dkwX0_valueAt_0 ++ dktX0_valueAt_1
theorem dksX0_valueAt_0 : cX0_valueAt.data.toList.drop 0 = dktX0_valueAt_0 := by decide +kernel
theorem dksX0_valueAt_1 : cX0_valueAt.data.toList.drop 24 = dktX0_valueAt_1 := dk_seg dksX0_valueAt_0 24 rfl rfl
theorem dX0_valueAt_0 : decode cX0_valueAt 0 = .ok (.iconst 0, 1) := dk_3 (dk_at dksX0_valueAt_0 0 rfl rfl)
theorem dX0_valueAt_1 : decode cX0_valueAt 1 = .ok (.istore 4, 2) := dk_54 4 (dk_at dksX0_valueAt_0 1 rfl rfl)
theorem dX0_valueAt_3 : decode cX0_valueAt 3 = .ok (.iconst 0, 1) := dk_3 (dk_at dksX0_valueAt_0 3 rfl rfl)
theorem dX0_valueAt_4 : decode cX0_valueAt 4 = .ok (.istore 5, 2) := dk_54 5 (dk_at dksX0_valueAt_0 4 rfl rfl)
theorem dX0_valueAt_6 : decode cX0_valueAt 6 = .ok (.iload 5, 2) := dk_21 5 (dk_at dksX0_valueAt_0 6 rfl rfl)
theorem dX0_valueAt_8 : decode cX0_valueAt 8 = .ok (.iconst 3, 1) := dk_6 (dk_at dksX0_valueAt_0 8 rfl rfl)
theorem dX0_valueAt_9 : decode cX0_valueAt 9 = .ok (.if_icmp .ge 32, 3) := dk_162 0 32 (dk_at dksX0_valueAt_0 9 rfl rfl)
theorem dX0_valueAt_12 : decode cX0_valueAt 12 = .ok (.iload 4, 2) := dk_21 4 (dk_at dksX0_valueAt_0 12 rfl rfl)
theorem dX0_valueAt_14 : decode cX0_valueAt 14 = .ok (.aload_n 0, 1) := dk_42 (dk_at dksX0_valueAt_0 14 rfl rfl)
theorem dX0_valueAt_15 : decode cX0_valueAt 15 = .ok (.iload_n 1, 1) := dk_27 (dk_at dksX0_valueAt_0 15 rfl rfl)
theorem dX0_valueAt_16 : decode cX0_valueAt 16 = .ok (.iconst 0, 1) := dk_3 (dk_at dksX0_valueAt_0 16 rfl rfl)
theorem dX0_valueAt_17 : decode cX0_valueAt 17 = .ok (.iload 5, 2) := dk_21 5 (dk_at dksX0_valueAt_0 17 rfl rfl)
theorem dX0_valueAt_19 : decode cX0_valueAt 19 = .ok (.iload_n 3, 1) := dk_29 (dk_at dksX0_valueAt_0 19 rfl rfl)
theorem dX0_valueAt_20 : decode cX0_valueAt 20 = .ok (.invokevirtual 175, 3) := dk_182 0 175 (dk_at dksX0_valueAt_0 20 rfl rfl)
theorem dX0_valueAt_23 : decode cX0_valueAt 23 = .ok (.iload_n 2, 1) := dk_28 (dk_at dksX0_valueAt_0 23 rfl rfl)
theorem dX0_valueAt_24 : decode cX0_valueAt 24 = .ok (.iload 5, 2) := dk_21 5 (dk_at dksX0_valueAt_1 0 rfl rfl)
theorem dX0_valueAt_26 : decode cX0_valueAt 26 = .ok (.invokestatic 172, 3) := dk_184 0 172 (dk_at dksX0_valueAt_1 2 rfl rfl)
theorem dX0_valueAt_29 : decode cX0_valueAt 29 = .ok (.invokestatic 17, 3) := dk_184 0 17 (dk_at dksX0_valueAt_1 5 rfl rfl)
theorem dX0_valueAt_32 : decode cX0_valueAt 32 = .ok (.iadd, 1) := dk_96 (dk_at dksX0_valueAt_1 8 rfl rfl)
theorem dX0_valueAt_33 : decode cX0_valueAt 33 = .ok (.istore 4, 2) := dk_54 4 (dk_at dksX0_valueAt_1 9 rfl rfl)
theorem dX0_valueAt_35 : decode cX0_valueAt 35 = .ok (.iinc 5 1, 3) := dk_132 5 1 (dk_at dksX0_valueAt_1 11 rfl rfl)
theorem dX0_valueAt_38 : decode cX0_valueAt 38 = .ok (.goto (-32), 3) := dk_167 255 224 (dk_at dksX0_valueAt_1 14 rfl rfl)
theorem dX0_valueAt_41 : decode cX0_valueAt 41 = .ok (.iload 4, 2) := dk_21 4 (dk_at dksX0_valueAt_1 17 rfl rfl)
theorem dX0_valueAt_43 : decode cX0_valueAt 43 = .ok (.bipush 31, 2) := dk_16 31 (dk_at dksX0_valueAt_1 19 rfl rfl)
theorem dX0_valueAt_45 : decode cX0_valueAt 45 = .ok (.irem, 1) := dk_112 (dk_at dksX0_valueAt_1 21 rfl rfl)
theorem dX0_valueAt_46 : decode cX0_valueAt 46 = .ok (.ireturn, 1) := dk_172 (dk_at dksX0_valueAt_1 22 rfl rfl)
abbrev cX0_kept : ByteArray := prog_1_method_23_code
def yX0_kept : MethodName := ⟨RX0, "kept", "(II)I"⟩
def dkwX0_kept_0 : List UInt8 := [27, 28, 184, 0, 179, 153, 0, 12, 42, 27, 28, 182, 0, 189, 167, 0, 4, 2, 172]
abbrev dktX0_kept_0 : List UInt8 := dkwX0_kept_0 ++ []
theorem dksX0_kept_0 : cX0_kept.data.toList.drop 0 = dktX0_kept_0 := by decide +kernel
theorem dX0_kept_0 : decode cX0_kept 0 = .ok (.iload_n 1, 1) := dk_27 (dk_at dksX0_kept_0 0 rfl rfl)
theorem dX0_kept_1 : decode cX0_kept 1 = .ok (.iload_n 2, 1) := dk_28 (dk_at dksX0_kept_0 1 rfl rfl)
theorem dX0_kept_2 : decode cX0_kept 2 = .ok (.invokestatic 179, 3) := dk_184 0 179 (dk_at dksX0_kept_0 2 rfl rfl)
theorem dX0_kept_5 : decode cX0_kept 5 = .ok (.ifCond .eq 12, 3) := dk_153 0 12 (dk_at dksX0_kept_0 5 rfl rfl)
theorem dX0_kept_8 : decode cX0_kept 8 = .ok (.aload_n 0, 1) := dk_42 (dk_at dksX0_kept_0 8 rfl rfl)
theorem dX0_kept_9 : decode cX0_kept 9 = .ok (.iload_n 1, 1) := dk_27 (dk_at dksX0_kept_0 9 rfl rfl)
theorem dX0_kept_10 : decode cX0_kept 10 = .ok (.iload_n 2, 1) := dk_28 (dk_at dksX0_kept_0 10 rfl rfl)
theorem dX0_kept_11 : decode cX0_kept 11 = .ok (.invokevirtual 189, 3) := dk_182 0 189 (dk_at dksX0_kept_0 11 rfl rfl)
theorem dX0_kept_14 : decode cX0_kept 14 = .ok (.goto 4, 3) := dk_167 0 4 (dk_at dksX0_kept_0 14 rfl rfl)
theorem dX0_kept_17 : decode cX0_kept 17 = .ok (.iconst (-1), 1) := dk_2 (dk_at dksX0_kept_0 17 rfl rfl)
theorem dX0_kept_18 : decode cX0_kept 18 = .ok (.ireturn, 1) := dk_172 (dk_at dksX0_kept_0 18 rfl rfl)
abbrev cX0_keptAt : ByteArray := prog_1_method_22_code
def yX0_keptAt : MethodName := ⟨RX0, "keptAt", "(II)I"⟩
def dkwX0_keptAt_0 : List UInt8 := [42, 3, 27, 28, 182, 0, 183, 42, 4, 27, 28, 182, 0, 183, 184, 0, 186, 172]
abbrev dktX0_keptAt_0 : List UInt8 := dkwX0_keptAt_0 ++ []
theorem dksX0_keptAt_0 : cX0_keptAt.data.toList.drop 0 = dktX0_keptAt_0 := by decide +kernel
theorem dX0_keptAt_0 : decode cX0_keptAt 0 = .ok (.aload_n 0, 1) := dk_42 (dk_at dksX0_keptAt_0 0 rfl rfl)
theorem dX0_keptAt_1 : decode cX0_keptAt 1 = .ok (.iconst 0, 1) := dk_3 (dk_at dksX0_keptAt_0 1 rfl rfl)
theorem dX0_keptAt_2 : decode cX0_keptAt 2 = .ok (.iload_n 1, 1) := dk_27 (dk_at dksX0_keptAt_0 2 rfl rfl)
theorem dX0_keptAt_3 : decode cX0_keptAt 3 = .ok (.iload_n 2, 1) := dk_28 (dk_at dksX0_keptAt_0 3 rfl rfl)
theorem dX0_keptAt_4 : decode cX0_keptAt 4 = .ok (.invokevirtual 183, 3) := dk_182 0 183 (dk_at dksX0_keptAt_0 4 rfl rfl)
theorem dX0_keptAt_7 : decode cX0_keptAt 7 = .ok (.aload_n 0, 1) := dk_42 (dk_at dksX0_keptAt_0 7 rfl rfl)
theorem dX0_keptAt_8 : decode cX0_keptAt 8 = .ok (.iconst 1, 1) := dk_4 (dk_at dksX0_keptAt_0 8 rfl rfl)
theorem dX0_keptAt_9 : decode cX0_keptAt 9 = .ok (.iload_n 1, 1) := dk_27 (dk_at dksX0_keptAt_0 9 rfl rfl)
theorem dX0_keptAt_10 : decode cX0_keptAt 10 = .ok (.iload_n 2, 1) := dk_28 (dk_at dksX0_keptAt_0 10 rfl rfl)
theorem dX0_keptAt_11 : decode cX0_keptAt 11 = .ok (.invokevirtual 183, 3) := dk_182 0 183 (dk_at dksX0_keptAt_0 11 rfl rfl)
theorem dX0_keptAt_14 : decode cX0_keptAt 14 = .ok (.invokestatic 186, 3) := dk_184 0 186 (dk_at dksX0_keptAt_0 14 rfl rfl)
theorem dX0_keptAt_17 : decode cX0_keptAt 17 = .ok (.ireturn, 1) := dk_172 (dk_at dksX0_keptAt_0 17 rfl rfl)
abbrev cX0_swap : ByteArray := prog_1_method_27_code
def yX0_swap : MethodName := ⟨RX0, "swap", "(III)I"⟩
def dkwX0_swap_1 : List UInt8 := [29, 182, 0, 201, 167, 0, 10, 42, 4, 29, 28, 182, 0, 201, 172]
abbrev dktX0_swap_1 : List UInt8 := dkwX0_swap_1 ++ []
def dkwX0_swap_0 : List UInt8 := [27, 184, 0, 198, 153, 0, 11, 28, 29, 184, 0, 179, 154, 0, 5, 2, 172, 27, 154, 0, 13, 42, 3, 28]
abbrev dktX0_swap_0 : List UInt8 := dkwX0_swap_0 ++ dktX0_swap_1
theorem dksX0_swap_0 : cX0_swap.data.toList.drop 0 = dktX0_swap_0 := by decide +kernel
theorem dksX0_swap_1 : cX0_swap.data.toList.drop 24 = dktX0_swap_1 := dk_seg dksX0_swap_0 24 rfl rfl
theorem dX0_swap_0 : decode cX0_swap 0 = .ok (.iload_n 1, 1) := dk_27 (dk_at dksX0_swap_0 0 rfl rfl)
theorem dX0_swap_1 : decode cX0_swap 1 = .ok (.invokestatic 198, 3) := dk_184 0 198 (dk_at dksX0_swap_0 1 rfl rfl)
theorem dX0_swap_4 : decode cX0_swap 4 = .ok (.ifCond .eq 11, 3) := dk_153 0 11 (dk_at dksX0_swap_0 4 rfl rfl)
theorem dX0_swap_7 : decode cX0_swap 7 = .ok (.iload_n 2, 1) := dk_28 (dk_at dksX0_swap_0 7 rfl rfl)
theorem dX0_swap_8 : decode cX0_swap 8 = .ok (.iload_n 3, 1) := dk_29 (dk_at dksX0_swap_0 8 rfl rfl)
theorem dX0_swap_9 : decode cX0_swap 9 = .ok (.invokestatic 179, 3) := dk_184 0 179 (dk_at dksX0_swap_0 9 rfl rfl)
theorem dX0_swap_12 : decode cX0_swap 12 = .ok (.ifCond .ne 5, 3) := dk_154 0 5 (dk_at dksX0_swap_0 12 rfl rfl)
theorem dX0_swap_15 : decode cX0_swap 15 = .ok (.iconst (-1), 1) := dk_2 (dk_at dksX0_swap_0 15 rfl rfl)
theorem dX0_swap_16 : decode cX0_swap 16 = .ok (.ireturn, 1) := dk_172 (dk_at dksX0_swap_0 16 rfl rfl)
theorem dX0_swap_17 : decode cX0_swap 17 = .ok (.iload_n 1, 1) := dk_27 (dk_at dksX0_swap_0 17 rfl rfl)
theorem dX0_swap_18 : decode cX0_swap 18 = .ok (.ifCond .ne 13, 3) := dk_154 0 13 (dk_at dksX0_swap_0 18 rfl rfl)
theorem dX0_swap_21 : decode cX0_swap 21 = .ok (.aload_n 0, 1) := dk_42 (dk_at dksX0_swap_0 21 rfl rfl)
theorem dX0_swap_22 : decode cX0_swap 22 = .ok (.iconst 0, 1) := dk_3 (dk_at dksX0_swap_0 22 rfl rfl)
theorem dX0_swap_23 : decode cX0_swap 23 = .ok (.iload_n 2, 1) := dk_28 (dk_at dksX0_swap_0 23 rfl rfl)
theorem dX0_swap_24 : decode cX0_swap 24 = .ok (.iload_n 3, 1) := dk_29 (dk_at dksX0_swap_1 0 rfl rfl)
theorem dX0_swap_25 : decode cX0_swap 25 = .ok (.invokevirtual 201, 3) := dk_182 0 201 (dk_at dksX0_swap_1 1 rfl rfl)
theorem dX0_swap_28 : decode cX0_swap 28 = .ok (.goto 10, 3) := dk_167 0 10 (dk_at dksX0_swap_1 4 rfl rfl)
theorem dX0_swap_31 : decode cX0_swap 31 = .ok (.aload_n 0, 1) := dk_42 (dk_at dksX0_swap_1 7 rfl rfl)
theorem dX0_swap_32 : decode cX0_swap 32 = .ok (.iconst 1, 1) := dk_4 (dk_at dksX0_swap_1 8 rfl rfl)
theorem dX0_swap_33 : decode cX0_swap 33 = .ok (.iload_n 3, 1) := dk_29 (dk_at dksX0_swap_1 9 rfl rfl)
theorem dX0_swap_34 : decode cX0_swap 34 = .ok (.iload_n 2, 1) := dk_28 (dk_at dksX0_swap_1 10 rfl rfl)
theorem dX0_swap_35 : decode cX0_swap 35 = .ok (.invokevirtual 201, 3) := dk_182 0 201 (dk_at dksX0_swap_1 11 rfl rfl)
theorem dX0_swap_38 : decode cX0_swap 38 = .ok (.ireturn, 1) := dk_172 (dk_at dksX0_swap_1 14 rfl rfl)
abbrev cX0_isWhich : ByteArray := prog_1_method_26_code
def yX0_isWhich : MethodName := ⟨RX0, "isWhich", "(I)Z"⟩
def dkwX0_isWhich_0 : List UInt8 := [26, 133, 9, 10, 184, 0, 7, 172]
abbrev dktX0_isWhich_0 : List UInt8 := dkwX0_isWhich_0 ++ []
theorem dksX0_isWhich_0 : cX0_isWhich.data.toList.drop 0 = dktX0_isWhich_0 := by decide +kernel
theorem dX0_isWhich_0 : decode cX0_isWhich 0 = .ok (.iload_n 0, 1) := dk_26 (dk_at dksX0_isWhich_0 0 rfl rfl)
theorem dX0_isWhich_1 : decode cX0_isWhich 1 = .ok (.i2l, 1) := dk_133 (dk_at dksX0_isWhich_0 1 rfl rfl)
theorem dX0_isWhich_2 : decode cX0_isWhich 2 = .ok (.lconst 0, 1) := dk_9 (dk_at dksX0_isWhich_0 2 rfl rfl)
theorem dX0_isWhich_3 : decode cX0_isWhich 3 = .ok (.lconst 1, 1) := dk_10 (dk_at dksX0_isWhich_0 3 rfl rfl)
theorem dX0_isWhich_4 : decode cX0_isWhich 4 = .ok (.invokestatic 7, 3) := dk_184 0 7 (dk_at dksX0_isWhich_0 4 rfl rfl)
theorem dX0_isWhich_7 : decode cX0_isWhich 7 = .ok (.ireturn, 1) := dk_172 (dk_at dksX0_isWhich_0 7 rfl rfl)
abbrev cX0_row : ByteArray := prog_1_method_28_code
def yX0_row : MethodName := ⟨RX0, "row", "(III)I"⟩
def dkwX0_row_1 : List UInt8 := [153, 0, 13, 42, 27, 28, 29, 182, 0, 195, 167, 0, 4, 2, 172]
abbrev dktX0_row_1 : List UInt8 := dkwX0_row_1 ++ []
def dkwX0_row_0 : List UInt8 := [27, 184, 0, 198, 153, 0, 32, 28, 184, 0, 21, 153, 0, 25, 29, 133, 9, 20, 0, 25, 184, 0, 7]
abbrev dktX0_row_0 : List UInt8 := dkwX0_row_0 ++ dktX0_row_1
theorem dksX0_row_0 : cX0_row.data.toList.drop 0 = dktX0_row_0 := by decide +kernel
theorem dksX0_row_1 : cX0_row.data.toList.drop 23 = dktX0_row_1 := dk_seg dksX0_row_0 23 rfl rfl
theorem dX0_row_0 : decode cX0_row 0 = .ok (.iload_n 1, 1) := dk_27 (dk_at dksX0_row_0 0 rfl rfl)
theorem dX0_row_1 : decode cX0_row 1 = .ok (.invokestatic 198, 3) := dk_184 0 198 (dk_at dksX0_row_0 1 rfl rfl)
theorem dX0_row_4 : decode cX0_row 4 = .ok (.ifCond .eq 32, 3) := dk_153 0 32 (dk_at dksX0_row_0 4 rfl rfl)
theorem dX0_row_7 : decode cX0_row 7 = .ok (.iload_n 2, 1) := dk_28 (dk_at dksX0_row_0 7 rfl rfl)
theorem dX0_row_8 : decode cX0_row 8 = .ok (.invokestatic 21, 3) := dk_184 0 21 (dk_at dksX0_row_0 8 rfl rfl)
theorem dX0_row_11 : decode cX0_row 11 = .ok (.ifCond .eq 25, 3) := dk_153 0 25 (dk_at dksX0_row_0 11 rfl rfl)
theorem dX0_row_14 : decode cX0_row 14 = .ok (.iload_n 3, 1) := dk_29 (dk_at dksX0_row_0 14 rfl rfl)
theorem dX0_row_15 : decode cX0_row 15 = .ok (.i2l, 1) := dk_133 (dk_at dksX0_row_0 15 rfl rfl)
theorem dX0_row_16 : decode cX0_row 16 = .ok (.lconst 0, 1) := dk_9 (dk_at dksX0_row_0 16 rfl rfl)
theorem dX0_row_17 : decode cX0_row 17 = .ok (.ldc2_w 25, 3) := dk_20 0 25 (dk_at dksX0_row_0 17 rfl rfl)
theorem dX0_row_20 : decode cX0_row 20 = .ok (.invokestatic 7, 3) := dk_184 0 7 (dk_at dksX0_row_0 20 rfl rfl)
theorem dX0_row_23 : decode cX0_row 23 = .ok (.ifCond .eq 13, 3) := dk_153 0 13 (dk_at dksX0_row_1 0 rfl rfl)
theorem dX0_row_26 : decode cX0_row 26 = .ok (.aload_n 0, 1) := dk_42 (dk_at dksX0_row_1 3 rfl rfl)
theorem dX0_row_27 : decode cX0_row 27 = .ok (.iload_n 1, 1) := dk_27 (dk_at dksX0_row_1 4 rfl rfl)
theorem dX0_row_28 : decode cX0_row 28 = .ok (.iload_n 2, 1) := dk_28 (dk_at dksX0_row_1 5 rfl rfl)
theorem dX0_row_29 : decode cX0_row 29 = .ok (.iload_n 3, 1) := dk_29 (dk_at dksX0_row_1 6 rfl rfl)
theorem dX0_row_30 : decode cX0_row 30 = .ok (.invokevirtual 195, 3) := dk_182 0 195 (dk_at dksX0_row_1 7 rfl rfl)
theorem dX0_row_33 : decode cX0_row 33 = .ok (.goto 4, 3) := dk_167 0 4 (dk_at dksX0_row_1 10 rfl rfl)
theorem dX0_row_36 : decode cX0_row 36 = .ok (.iconst (-1), 1) := dk_2 (dk_at dksX0_row_1 13 rfl rfl)
theorem dX0_row_37 : decode cX0_row 37 = .ok (.ireturn, 1) := dk_172 (dk_at dksX0_row_1 14 rfl rfl)
abbrev cX0_pinched : ByteArray := prog_1_method_29_code
def yX0_pinched : MethodName := ⟨RX0, "pinched", "(I)J"⟩
def dkwX0_pinched_3 : List UInt8 := [9, 129, 65, 132, 4, 1, 167, 255, 196, 32, 173]
abbrev dktX0_pinched_3 : List UInt8 := dkwX0_pinched_3 ++ []
def dkwX0_pinched_2 : List UInt8 := [182, 0, 195, 42, 27, 21, 4, 5, 182, 0, 195, 184, 0, 17, 160, 0, 10, 10, 21, 4, 121, 167, 0, 4]
abbrev dktX0_pinched_2 : List UInt8 := dkwX0_pinched_2 ++ dktX0_pinched_3
def dkwX0_pinched_1 : List UInt8 := [27, 21, 4, 4, 182, 0, 195, 54, 5, 32, 21, 5, 21, 5, 184, 0, 17, 42, 27, 21, 4, 3]
abbrev dktX0_pinched_1 : List UInt8 := dkwX0_pinched_1 ++ dktX0_pinched_2
def dkwX0_pinched_0 : List UInt8 := [27, 184, 0, 198, 154, 0, 7, 20, 0, 204, 173, 9, 65, 3, 54, 4, 21, 4, 16, 32, 162, 0, 59, 42]
abbrev dktX0_pinched_0 : List UInt8 := dkwX0_pinched_0 ++ dktX0_pinched_1
theorem dksX0_pinched_0 : cX0_pinched.data.toList.drop 0 = dktX0_pinched_0 := by decide +kernel
theorem dksX0_pinched_1 : cX0_pinched.data.toList.drop 24 = dktX0_pinched_1 := dk_seg dksX0_pinched_0 24 rfl rfl
theorem dksX0_pinched_2 : cX0_pinched.data.toList.drop 46 = dktX0_pinched_2 := dk_seg dksX0_pinched_1 22 rfl rfl
theorem dksX0_pinched_3 : cX0_pinched.data.toList.drop 70 = dktX0_pinched_3 := dk_seg dksX0_pinched_2 24 rfl rfl
theorem dX0_pinched_0 : decode cX0_pinched 0 = .ok (.iload_n 1, 1) := dk_27 (dk_at dksX0_pinched_0 0 rfl rfl)
theorem dX0_pinched_1 : decode cX0_pinched 1 = .ok (.invokestatic 198, 3) := dk_184 0 198 (dk_at dksX0_pinched_0 1 rfl rfl)
theorem dX0_pinched_4 : decode cX0_pinched 4 = .ok (.ifCond .ne 7, 3) := dk_154 0 7 (dk_at dksX0_pinched_0 4 rfl rfl)
theorem dX0_pinched_7 : decode cX0_pinched 7 = .ok (.ldc2_w 204, 3) := dk_20 0 204 (dk_at dksX0_pinched_0 7 rfl rfl)
theorem dX0_pinched_10 : decode cX0_pinched 10 = .ok (.lreturn, 1) := dk_173 (dk_at dksX0_pinched_0 10 rfl rfl)
theorem dX0_pinched_11 : decode cX0_pinched 11 = .ok (.lconst 0, 1) := dk_9 (dk_at dksX0_pinched_0 11 rfl rfl)
theorem dX0_pinched_12 : decode cX0_pinched 12 = .ok (.lstore_n 2, 1) := dk_65 (dk_at dksX0_pinched_0 12 rfl rfl)
theorem dX0_pinched_13 : decode cX0_pinched 13 = .ok (.iconst 0, 1) := dk_3 (dk_at dksX0_pinched_0 13 rfl rfl)
theorem dX0_pinched_14 : decode cX0_pinched 14 = .ok (.istore 4, 2) := dk_54 4 (dk_at dksX0_pinched_0 14 rfl rfl)
theorem dX0_pinched_16 : decode cX0_pinched 16 = .ok (.iload 4, 2) := dk_21 4 (dk_at dksX0_pinched_0 16 rfl rfl)
theorem dX0_pinched_18 : decode cX0_pinched 18 = .ok (.bipush 32, 2) := dk_16 32 (dk_at dksX0_pinched_0 18 rfl rfl)
theorem dX0_pinched_20 : decode cX0_pinched 20 = .ok (.if_icmp .ge 59, 3) := dk_162 0 59 (dk_at dksX0_pinched_0 20 rfl rfl)
theorem dX0_pinched_23 : decode cX0_pinched 23 = .ok (.aload_n 0, 1) := dk_42 (dk_at dksX0_pinched_0 23 rfl rfl)
theorem dX0_pinched_24 : decode cX0_pinched 24 = .ok (.iload_n 1, 1) := dk_27 (dk_at dksX0_pinched_1 0 rfl rfl)
theorem dX0_pinched_25 : decode cX0_pinched 25 = .ok (.iload 4, 2) := dk_21 4 (dk_at dksX0_pinched_1 1 rfl rfl)
theorem dX0_pinched_27 : decode cX0_pinched 27 = .ok (.iconst 1, 1) := dk_4 (dk_at dksX0_pinched_1 3 rfl rfl)
theorem dX0_pinched_28 : decode cX0_pinched 28 = .ok (.invokevirtual 195, 3) := dk_182 0 195 (dk_at dksX0_pinched_1 4 rfl rfl)
theorem dX0_pinched_31 : decode cX0_pinched 31 = .ok (.istore 5, 2) := dk_54 5 (dk_at dksX0_pinched_1 7 rfl rfl)
theorem dX0_pinched_33 : decode cX0_pinched 33 = .ok (.lload_n 2, 1) := dk_32 (dk_at dksX0_pinched_1 9 rfl rfl)
theorem dX0_pinched_34 : decode cX0_pinched 34 = .ok (.iload 5, 2) := dk_21 5 (dk_at dksX0_pinched_1 10 rfl rfl)
theorem dX0_pinched_36 : decode cX0_pinched 36 = .ok (.iload 5, 2) := dk_21 5 (dk_at dksX0_pinched_1 12 rfl rfl)
theorem dX0_pinched_38 : decode cX0_pinched 38 = .ok (.invokestatic 17, 3) := dk_184 0 17 (dk_at dksX0_pinched_1 14 rfl rfl)
theorem dX0_pinched_41 : decode cX0_pinched 41 = .ok (.aload_n 0, 1) := dk_42 (dk_at dksX0_pinched_1 17 rfl rfl)
theorem dX0_pinched_42 : decode cX0_pinched 42 = .ok (.iload_n 1, 1) := dk_27 (dk_at dksX0_pinched_1 18 rfl rfl)
theorem dX0_pinched_43 : decode cX0_pinched 43 = .ok (.iload 4, 2) := dk_21 4 (dk_at dksX0_pinched_1 19 rfl rfl)
theorem dX0_pinched_45 : decode cX0_pinched 45 = .ok (.iconst 0, 1) := dk_3 (dk_at dksX0_pinched_1 21 rfl rfl)
theorem dX0_pinched_46 : decode cX0_pinched 46 = .ok (.invokevirtual 195, 3) := dk_182 0 195 (dk_at dksX0_pinched_2 0 rfl rfl)
theorem dX0_pinched_49 : decode cX0_pinched 49 = .ok (.aload_n 0, 1) := dk_42 (dk_at dksX0_pinched_2 3 rfl rfl)
theorem dX0_pinched_50 : decode cX0_pinched 50 = .ok (.iload_n 1, 1) := dk_27 (dk_at dksX0_pinched_2 4 rfl rfl)
theorem dX0_pinched_51 : decode cX0_pinched 51 = .ok (.iload 4, 2) := dk_21 4 (dk_at dksX0_pinched_2 5 rfl rfl)
theorem dX0_pinched_53 : decode cX0_pinched 53 = .ok (.iconst 2, 1) := dk_5 (dk_at dksX0_pinched_2 7 rfl rfl)
theorem dX0_pinched_54 : decode cX0_pinched 54 = .ok (.invokevirtual 195, 3) := dk_182 0 195 (dk_at dksX0_pinched_2 8 rfl rfl)
theorem dX0_pinched_57 : decode cX0_pinched 57 = .ok (.invokestatic 17, 3) := dk_184 0 17 (dk_at dksX0_pinched_2 11 rfl rfl)
theorem dX0_pinched_60 : decode cX0_pinched 60 = .ok (.if_icmp .ne 10, 3) := dk_160 0 10 (dk_at dksX0_pinched_2 14 rfl rfl)
theorem dX0_pinched_63 : decode cX0_pinched 63 = .ok (.lconst 1, 1) := dk_10 (dk_at dksX0_pinched_2 17 rfl rfl)
theorem dX0_pinched_64 : decode cX0_pinched 64 = .ok (.iload 4, 2) := dk_21 4 (dk_at dksX0_pinched_2 18 rfl rfl)
theorem dX0_pinched_66 : decode cX0_pinched 66 = .ok (.lshl, 1) := dk_121 (dk_at dksX0_pinched_2 20 rfl rfl)
theorem dX0_pinched_67 : decode cX0_pinched 67 = .ok (.goto 4, 3) := dk_167 0 4 (dk_at dksX0_pinched_2 21 rfl rfl)
theorem dX0_pinched_70 : decode cX0_pinched 70 = .ok (.lconst 0, 1) := dk_9 (dk_at dksX0_pinched_3 0 rfl rfl)
theorem dX0_pinched_71 : decode cX0_pinched 71 = .ok (.lor, 1) := dk_129 (dk_at dksX0_pinched_3 1 rfl rfl)
theorem dX0_pinched_72 : decode cX0_pinched 72 = .ok (.lstore_n 2, 1) := dk_65 (dk_at dksX0_pinched_3 2 rfl rfl)
theorem dX0_pinched_73 : decode cX0_pinched 73 = .ok (.iinc 4 1, 3) := dk_132 4 1 (dk_at dksX0_pinched_3 3 rfl rfl)
theorem dX0_pinched_76 : decode cX0_pinched 76 = .ok (.goto (-60), 3) := dk_167 255 196 (dk_at dksX0_pinched_3 6 rfl rfl)
theorem dX0_pinched_79 : decode cX0_pinched 79 = .ok (.lload_n 2, 1) := dk_32 (dk_at dksX0_pinched_3 9 rfl rfl)
theorem dX0_pinched_80 : decode cX0_pinched 80 = .ok (.lreturn, 1) := dk_173 (dk_at dksX0_pinched_3 10 rfl rfl)
abbrev cX0_behind : ByteArray := prog_1_method_36_code
def yX0_behind : MethodName := ⟨RX0, "behind", "(III)I"⟩
def dkwX0_behind_2 : List UInt8 := [167, 0, 18, 42, 180, 0, 51, 5, 50, 27, 28, 184, 0, 206, 29, 184, 0, 220, 172]
abbrev dktX0_behind_2 : List UInt8 := dkwX0_behind_2 ++ []
def dkwX0_behind_1 : List UInt8 := [16, 254, 172, 29, 156, 0, 22, 42, 180, 0, 51, 6, 50, 27, 28, 184, 0, 206, 29, 116, 184, 0, 220]
abbrev dktX0_behind_1 : List UInt8 := dkwX0_behind_1 ++ dktX0_behind_2
def dkwX0_behind_0 : List UInt8 := [27, 28, 184, 0, 179, 154, 0, 5, 2, 172, 29, 133, 20, 0, 216, 20, 0, 218, 184, 0, 7, 154, 0, 6]
abbrev dktX0_behind_0 : List UInt8 := dkwX0_behind_0 ++ dktX0_behind_1
theorem dksX0_behind_0 : cX0_behind.data.toList.drop 0 = dktX0_behind_0 := by decide +kernel
theorem dksX0_behind_1 : cX0_behind.data.toList.drop 24 = dktX0_behind_1 := dk_seg dksX0_behind_0 24 rfl rfl
theorem dksX0_behind_2 : cX0_behind.data.toList.drop 47 = dktX0_behind_2 := dk_seg dksX0_behind_1 23 rfl rfl
theorem dX0_behind_0 : decode cX0_behind 0 = .ok (.iload_n 1, 1) := dk_27 (dk_at dksX0_behind_0 0 rfl rfl)
theorem dX0_behind_1 : decode cX0_behind 1 = .ok (.iload_n 2, 1) := dk_28 (dk_at dksX0_behind_0 1 rfl rfl)
theorem dX0_behind_2 : decode cX0_behind 2 = .ok (.invokestatic 179, 3) := dk_184 0 179 (dk_at dksX0_behind_0 2 rfl rfl)
theorem dX0_behind_5 : decode cX0_behind 5 = .ok (.ifCond .ne 5, 3) := dk_154 0 5 (dk_at dksX0_behind_0 5 rfl rfl)
theorem dX0_behind_8 : decode cX0_behind 8 = .ok (.iconst (-1), 1) := dk_2 (dk_at dksX0_behind_0 8 rfl rfl)
theorem dX0_behind_9 : decode cX0_behind 9 = .ok (.ireturn, 1) := dk_172 (dk_at dksX0_behind_0 9 rfl rfl)
theorem dX0_behind_10 : decode cX0_behind 10 = .ok (.iload_n 3, 1) := dk_29 (dk_at dksX0_behind_0 10 rfl rfl)
theorem dX0_behind_11 : decode cX0_behind 11 = .ok (.i2l, 1) := dk_133 (dk_at dksX0_behind_0 11 rfl rfl)
theorem dX0_behind_12 : decode cX0_behind 12 = .ok (.ldc2_w 216, 3) := dk_20 0 216 (dk_at dksX0_behind_0 12 rfl rfl)
theorem dX0_behind_15 : decode cX0_behind 15 = .ok (.ldc2_w 218, 3) := dk_20 0 218 (dk_at dksX0_behind_0 15 rfl rfl)
theorem dX0_behind_18 : decode cX0_behind 18 = .ok (.invokestatic 7, 3) := dk_184 0 7 (dk_at dksX0_behind_0 18 rfl rfl)
theorem dX0_behind_21 : decode cX0_behind 21 = .ok (.ifCond .ne 6, 3) := dk_154 0 6 (dk_at dksX0_behind_0 21 rfl rfl)
theorem dX0_behind_24 : decode cX0_behind 24 = .ok (.bipush (-2), 2) := dk_16 254 (dk_at dksX0_behind_1 0 rfl rfl)
theorem dX0_behind_26 : decode cX0_behind 26 = .ok (.ireturn, 1) := dk_172 (dk_at dksX0_behind_1 2 rfl rfl)
theorem dX0_behind_27 : decode cX0_behind 27 = .ok (.iload_n 3, 1) := dk_29 (dk_at dksX0_behind_1 3 rfl rfl)
theorem dX0_behind_28 : decode cX0_behind 28 = .ok (.ifCond .ge 22, 3) := dk_156 0 22 (dk_at dksX0_behind_1 4 rfl rfl)
theorem dX0_behind_31 : decode cX0_behind 31 = .ok (.aload_n 0, 1) := dk_42 (dk_at dksX0_behind_1 7 rfl rfl)
theorem dX0_behind_32 : decode cX0_behind 32 = .ok (.getfield 51, 3) := dk_180 0 51 (dk_at dksX0_behind_1 8 rfl rfl)
theorem dX0_behind_35 : decode cX0_behind 35 = .ok (.iconst 3, 1) := dk_6 (dk_at dksX0_behind_1 11 rfl rfl)
theorem dX0_behind_36 : decode cX0_behind 36 = .ok (.aaload, 1) := dk_50 (dk_at dksX0_behind_1 12 rfl rfl)
theorem dX0_behind_37 : decode cX0_behind 37 = .ok (.iload_n 1, 1) := dk_27 (dk_at dksX0_behind_1 13 rfl rfl)
theorem dX0_behind_38 : decode cX0_behind 38 = .ok (.iload_n 2, 1) := dk_28 (dk_at dksX0_behind_1 14 rfl rfl)
theorem dX0_behind_39 : decode cX0_behind 39 = .ok (.invokestatic 206, 3) := dk_184 0 206 (dk_at dksX0_behind_1 15 rfl rfl)
theorem dX0_behind_42 : decode cX0_behind 42 = .ok (.iload_n 3, 1) := dk_29 (dk_at dksX0_behind_1 18 rfl rfl)
theorem dX0_behind_43 : decode cX0_behind 43 = .ok (.ineg, 1) := dk_116 (dk_at dksX0_behind_1 19 rfl rfl)
theorem dX0_behind_44 : decode cX0_behind 44 = .ok (.invokestatic 220, 3) := dk_184 0 220 (dk_at dksX0_behind_1 20 rfl rfl)
theorem dX0_behind_47 : decode cX0_behind 47 = .ok (.goto 18, 3) := dk_167 0 18 (dk_at dksX0_behind_2 0 rfl rfl)
theorem dX0_behind_50 : decode cX0_behind 50 = .ok (.aload_n 0, 1) := dk_42 (dk_at dksX0_behind_2 3 rfl rfl)
theorem dX0_behind_51 : decode cX0_behind 51 = .ok (.getfield 51, 3) := dk_180 0 51 (dk_at dksX0_behind_2 4 rfl rfl)
theorem dX0_behind_54 : decode cX0_behind 54 = .ok (.iconst 2, 1) := dk_5 (dk_at dksX0_behind_2 7 rfl rfl)
theorem dX0_behind_55 : decode cX0_behind 55 = .ok (.aaload, 1) := dk_50 (dk_at dksX0_behind_2 8 rfl rfl)
theorem dX0_behind_56 : decode cX0_behind 56 = .ok (.iload_n 1, 1) := dk_27 (dk_at dksX0_behind_2 9 rfl rfl)
theorem dX0_behind_57 : decode cX0_behind 57 = .ok (.iload_n 2, 1) := dk_28 (dk_at dksX0_behind_2 10 rfl rfl)
theorem dX0_behind_58 : decode cX0_behind 58 = .ok (.invokestatic 206, 3) := dk_184 0 206 (dk_at dksX0_behind_2 11 rfl rfl)
theorem dX0_behind_61 : decode cX0_behind 61 = .ok (.iload_n 3, 1) := dk_29 (dk_at dksX0_behind_2 14 rfl rfl)
theorem dX0_behind_62 : decode cX0_behind 62 = .ok (.invokestatic 220, 3) := dk_184 0 220 (dk_at dksX0_behind_2 15 rfl rfl)
theorem dX0_behind_65 : decode cX0_behind 65 = .ok (.ireturn, 1) := dk_172 (dk_at dksX0_behind_2 18 rfl rfl)
abbrev cX0_often : ByteArray := prog_1_method_35_code
def yX0_often : MethodName := ⟨RX0, "often", "(LKeptCurves$Turn;II)I"⟩
def dkwX0_often_1 : List UInt8 := [62, 132, 4, 1, 167, 255, 233, 29, 172]
abbrev dktX0_often_1 : List UInt8 := dkwX0_often_1 ++ []
def dkwX0_often_0 : List UInt8 := [27, 62, 3, 54, 4, 21, 4, 28, 162, 0, 23, 29, 16, 249, 159, 0, 17, 42, 29, 185, 0, 209, 2, 0]
abbrev dktX0_often_0 : List UInt8 := dkwX0_often_0 ++ dktX0_often_1
theorem dksX0_often_0 : cX0_often.data.toList.drop 0 = dktX0_often_0 := by decide +kernel
theorem dksX0_often_1 : cX0_often.data.toList.drop 24 = dktX0_often_1 := dk_seg dksX0_often_0 24 rfl rfl
theorem dX0_often_0 : decode cX0_often 0 = .ok (.iload_n 1, 1) := dk_27 (dk_at dksX0_often_0 0 rfl rfl)
theorem dX0_often_1 : decode cX0_often 1 = .ok (.istore_n 3, 1) := dk_62 (dk_at dksX0_often_0 1 rfl rfl)
theorem dX0_often_2 : decode cX0_often 2 = .ok (.iconst 0, 1) := dk_3 (dk_at dksX0_often_0 2 rfl rfl)
theorem dX0_often_3 : decode cX0_often 3 = .ok (.istore 4, 2) := dk_54 4 (dk_at dksX0_often_0 3 rfl rfl)
theorem dX0_often_5 : decode cX0_often 5 = .ok (.iload 4, 2) := dk_21 4 (dk_at dksX0_often_0 5 rfl rfl)
theorem dX0_often_7 : decode cX0_often 7 = .ok (.iload_n 2, 1) := dk_28 (dk_at dksX0_often_0 7 rfl rfl)
theorem dX0_often_8 : decode cX0_often 8 = .ok (.if_icmp .ge 23, 3) := dk_162 0 23 (dk_at dksX0_often_0 8 rfl rfl)
theorem dX0_often_11 : decode cX0_often 11 = .ok (.iload_n 3, 1) := dk_29 (dk_at dksX0_often_0 11 rfl rfl)
theorem dX0_often_12 : decode cX0_often 12 = .ok (.bipush (-7), 2) := dk_16 249 (dk_at dksX0_often_0 12 rfl rfl)
theorem dX0_often_14 : decode cX0_often 14 = .ok (.if_icmp .eq 17, 3) := dk_159 0 17 (dk_at dksX0_often_0 14 rfl rfl)
theorem dX0_often_17 : decode cX0_often 17 = .ok (.aload_n 0, 1) := dk_42 (dk_at dksX0_often_0 17 rfl rfl)
theorem dX0_often_18 : decode cX0_often 18 = .ok (.iload_n 3, 1) := dk_29 (dk_at dksX0_often_0 18 rfl rfl)
theorem dX0_often_19 : decode cX0_often 19 = .ok (.invokeinterface 209 2, 5) := by decide +kernel
theorem dX0_often_24 : decode cX0_often 24 = .ok (.istore_n 3, 1) := dk_62 (dk_at dksX0_often_1 0 rfl rfl)
theorem dX0_often_25 : decode cX0_often 25 = .ok (.iinc 4 1, 3) := dk_132 4 1 (dk_at dksX0_often_1 1 rfl rfl)
theorem dX0_often_28 : decode cX0_often 28 = .ok (.goto (-23), 3) := dk_167 255 233 (dk_at dksX0_often_1 4 rfl rfl)
theorem dX0_often_31 : decode cX0_often 31 = .ok (.iload_n 3, 1) := dk_29 (dk_at dksX0_often_1 7 rfl rfl)
theorem dX0_often_32 : decode cX0_often 32 = .ok (.ireturn, 1) := dk_172 (dk_at dksX0_often_1 8 rfl rfl)
abbrev cX0_period : ByteArray := prog_1_method_38_code
def yX0_period : MethodName := ⟨RX0, "period", "(II)I"⟩
def dkwX0_period_0 : List UInt8 := [27, 28, 184, 0, 179, 153, 0, 15, 42, 27, 28, 184, 0, 206, 182, 0, 227, 167, 0, 4, 2, 172]
abbrev dktX0_period_0 : List UInt8 := dkwX0_period_0 ++ []
theorem dksX0_period_0 : cX0_period.data.toList.drop 0 = dktX0_period_0 := by decide +kernel
theorem dX0_period_0 : decode cX0_period 0 = .ok (.iload_n 1, 1) := dk_27 (dk_at dksX0_period_0 0 rfl rfl)
theorem dX0_period_1 : decode cX0_period 1 = .ok (.iload_n 2, 1) := dk_28 (dk_at dksX0_period_0 1 rfl rfl)
theorem dX0_period_2 : decode cX0_period 2 = .ok (.invokestatic 179, 3) := dk_184 0 179 (dk_at dksX0_period_0 2 rfl rfl)
theorem dX0_period_5 : decode cX0_period 5 = .ok (.ifCond .eq 15, 3) := dk_153 0 15 (dk_at dksX0_period_0 5 rfl rfl)
theorem dX0_period_8 : decode cX0_period 8 = .ok (.aload_n 0, 1) := dk_42 (dk_at dksX0_period_0 8 rfl rfl)
theorem dX0_period_9 : decode cX0_period 9 = .ok (.iload_n 1, 1) := dk_27 (dk_at dksX0_period_0 9 rfl rfl)
theorem dX0_period_10 : decode cX0_period 10 = .ok (.iload_n 2, 1) := dk_28 (dk_at dksX0_period_0 10 rfl rfl)
theorem dX0_period_11 : decode cX0_period 11 = .ok (.invokestatic 206, 3) := dk_184 0 206 (dk_at dksX0_period_0 11 rfl rfl)
theorem dX0_period_14 : decode cX0_period 14 = .ok (.invokevirtual 227, 3) := dk_182 0 227 (dk_at dksX0_period_0 14 rfl rfl)
theorem dX0_period_17 : decode cX0_period 17 = .ok (.goto 4, 3) := dk_167 0 4 (dk_at dksX0_period_0 17 rfl rfl)
theorem dX0_period_20 : decode cX0_period 20 = .ok (.iconst (-1), 1) := dk_2 (dk_at dksX0_period_0 20 rfl rfl)
theorem dX0_period_21 : decode cX0_period 21 = .ok (.ireturn, 1) := dk_172 (dk_at dksX0_period_0 21 rfl rfl)
abbrev cX0_periodOf : ByteArray := prog_1_method_37_code
def yX0_periodOf : MethodName := ⟨RX0, "periodOf", "(I)I"⟩
def dkwX0_periodOf_2 : List UInt8 := [16, 251, 172]
abbrev dktX0_periodOf_2 : List UInt8 := dkwX0_periodOf_2 ++ []
def dkwX0_periodOf_1 : List UInt8 := [27, 160, 0, 16, 28, 16, 249, 160, 0, 8, 16, 249, 167, 0, 4, 29, 172, 132, 3, 1, 167, 255, 216]
abbrev dktX0_periodOf_1 : List UInt8 := dkwX0_periodOf_1 ++ dktX0_periodOf_2
def dkwX0_periodOf_0 : List UInt8 := [27, 61, 4, 62, 29, 17, 4, 0, 163, 0, 39, 42, 28, 182, 0, 224, 61, 28, 16, 249, 159, 0, 8, 28]
abbrev dktX0_periodOf_0 : List UInt8 := dkwX0_periodOf_0 ++ dktX0_periodOf_1
theorem dksX0_periodOf_0 : cX0_periodOf.data.toList.drop 0 = dktX0_periodOf_0 := by decide +kernel
theorem dksX0_periodOf_1 : cX0_periodOf.data.toList.drop 24 = dktX0_periodOf_1 := dk_seg dksX0_periodOf_0 24 rfl rfl
theorem dksX0_periodOf_2 : cX0_periodOf.data.toList.drop 47 = dktX0_periodOf_2 := dk_seg dksX0_periodOf_1 23 rfl rfl
theorem dX0_periodOf_0 : decode cX0_periodOf 0 = .ok (.iload_n 1, 1) := dk_27 (dk_at dksX0_periodOf_0 0 rfl rfl)
theorem dX0_periodOf_1 : decode cX0_periodOf 1 = .ok (.istore_n 2, 1) := dk_61 (dk_at dksX0_periodOf_0 1 rfl rfl)
theorem dX0_periodOf_2 : decode cX0_periodOf 2 = .ok (.iconst 1, 1) := dk_4 (dk_at dksX0_periodOf_0 2 rfl rfl)
theorem dX0_periodOf_3 : decode cX0_periodOf 3 = .ok (.istore_n 3, 1) := dk_62 (dk_at dksX0_periodOf_0 3 rfl rfl)
theorem dX0_periodOf_4 : decode cX0_periodOf 4 = .ok (.iload_n 3, 1) := dk_29 (dk_at dksX0_periodOf_0 4 rfl rfl)
theorem dX0_periodOf_5 : decode cX0_periodOf 5 = .ok (.sipush 1024, 3) := dk_17 4 0 (dk_at dksX0_periodOf_0 5 rfl rfl)
theorem dX0_periodOf_8 : decode cX0_periodOf 8 = .ok (.if_icmp .gt 39, 3) := dk_163 0 39 (dk_at dksX0_periodOf_0 8 rfl rfl)
theorem dX0_periodOf_11 : decode cX0_periodOf 11 = .ok (.aload_n 0, 1) := dk_42 (dk_at dksX0_periodOf_0 11 rfl rfl)
theorem dX0_periodOf_12 : decode cX0_periodOf 12 = .ok (.iload_n 2, 1) := dk_28 (dk_at dksX0_periodOf_0 12 rfl rfl)
theorem dX0_periodOf_13 : decode cX0_periodOf 13 = .ok (.invokevirtual 224, 3) := dk_182 0 224 (dk_at dksX0_periodOf_0 13 rfl rfl)
theorem dX0_periodOf_16 : decode cX0_periodOf 16 = .ok (.istore_n 2, 1) := dk_61 (dk_at dksX0_periodOf_0 16 rfl rfl)
theorem dX0_periodOf_17 : decode cX0_periodOf 17 = .ok (.iload_n 2, 1) := dk_28 (dk_at dksX0_periodOf_0 17 rfl rfl)
theorem dX0_periodOf_18 : decode cX0_periodOf 18 = .ok (.bipush (-7), 2) := dk_16 249 (dk_at dksX0_periodOf_0 18 rfl rfl)
theorem dX0_periodOf_20 : decode cX0_periodOf 20 = .ok (.if_icmp .eq 8, 3) := dk_159 0 8 (dk_at dksX0_periodOf_0 20 rfl rfl)
theorem dX0_periodOf_23 : decode cX0_periodOf 23 = .ok (.iload_n 2, 1) := dk_28 (dk_at dksX0_periodOf_0 23 rfl rfl)
theorem dX0_periodOf_24 : decode cX0_periodOf 24 = .ok (.iload_n 1, 1) := dk_27 (dk_at dksX0_periodOf_1 0 rfl rfl)
theorem dX0_periodOf_25 : decode cX0_periodOf 25 = .ok (.if_icmp .ne 16, 3) := dk_160 0 16 (dk_at dksX0_periodOf_1 1 rfl rfl)
theorem dX0_periodOf_28 : decode cX0_periodOf 28 = .ok (.iload_n 2, 1) := dk_28 (dk_at dksX0_periodOf_1 4 rfl rfl)
theorem dX0_periodOf_29 : decode cX0_periodOf 29 = .ok (.bipush (-7), 2) := dk_16 249 (dk_at dksX0_periodOf_1 5 rfl rfl)
theorem dX0_periodOf_31 : decode cX0_periodOf 31 = .ok (.if_icmp .ne 8, 3) := dk_160 0 8 (dk_at dksX0_periodOf_1 7 rfl rfl)
theorem dX0_periodOf_34 : decode cX0_periodOf 34 = .ok (.bipush (-7), 2) := dk_16 249 (dk_at dksX0_periodOf_1 10 rfl rfl)
theorem dX0_periodOf_36 : decode cX0_periodOf 36 = .ok (.goto 4, 3) := dk_167 0 4 (dk_at dksX0_periodOf_1 12 rfl rfl)
theorem dX0_periodOf_39 : decode cX0_periodOf 39 = .ok (.iload_n 3, 1) := dk_29 (dk_at dksX0_periodOf_1 15 rfl rfl)
theorem dX0_periodOf_40 : decode cX0_periodOf 40 = .ok (.ireturn, 1) := dk_172 (dk_at dksX0_periodOf_1 16 rfl rfl)
theorem dX0_periodOf_41 : decode cX0_periodOf 41 = .ok (.iinc 3 1, 3) := dk_132 3 1 (dk_at dksX0_periodOf_1 17 rfl rfl)
theorem dX0_periodOf_44 : decode cX0_periodOf 44 = .ok (.goto (-40), 3) := dk_167 255 216 (dk_at dksX0_periodOf_1 20 rfl rfl)
theorem dX0_periodOf_47 : decode cX0_periodOf 47 = .ok (.bipush (-5), 2) := dk_16 251 (dk_at dksX0_periodOf_2 0 rfl rfl)
theorem dX0_periodOf_49 : decode cX0_periodOf 49 = .ok (.ireturn, 1) := dk_172 (dk_at dksX0_periodOf_2 2 rfl rfl)
abbrev cX0_fibre : ByteArray := prog_1_method_43_code
def yX0_fibre : MethodName := ⟨RX0, "fibre", "(II)I"⟩
def dkwX0_fibre_0 : List UInt8 := [27, 184, 0, 21, 154, 0, 5, 2, 172, 42, 27, 182, 0, 246, 42, 28, 182, 0, 250, 172]
abbrev dktX0_fibre_0 : List UInt8 := dkwX0_fibre_0 ++ []
theorem dksX0_fibre_0 : cX0_fibre.data.toList.drop 0 = dktX0_fibre_0 := by decide +kernel
theorem dX0_fibre_0 : decode cX0_fibre 0 = .ok (.iload_n 1, 1) := dk_27 (dk_at dksX0_fibre_0 0 rfl rfl)
theorem dX0_fibre_1 : decode cX0_fibre 1 = .ok (.invokestatic 21, 3) := dk_184 0 21 (dk_at dksX0_fibre_0 1 rfl rfl)
theorem dX0_fibre_4 : decode cX0_fibre 4 = .ok (.ifCond .ne 5, 3) := dk_154 0 5 (dk_at dksX0_fibre_0 4 rfl rfl)
theorem dX0_fibre_7 : decode cX0_fibre 7 = .ok (.iconst (-1), 1) := dk_2 (dk_at dksX0_fibre_0 7 rfl rfl)
theorem dX0_fibre_8 : decode cX0_fibre 8 = .ok (.ireturn, 1) := dk_172 (dk_at dksX0_fibre_0 8 rfl rfl)
theorem dX0_fibre_9 : decode cX0_fibre 9 = .ok (.aload_n 0, 1) := dk_42 (dk_at dksX0_fibre_0 9 rfl rfl)
theorem dX0_fibre_10 : decode cX0_fibre 10 = .ok (.iload_n 1, 1) := dk_27 (dk_at dksX0_fibre_0 10 rfl rfl)
theorem dX0_fibre_11 : decode cX0_fibre 11 = .ok (.invokevirtual 246, 3) := dk_182 0 246 (dk_at dksX0_fibre_0 11 rfl rfl)
theorem dX0_fibre_14 : decode cX0_fibre 14 = .ok (.aload_n 0, 1) := dk_42 (dk_at dksX0_fibre_0 14 rfl rfl)
theorem dX0_fibre_15 : decode cX0_fibre 15 = .ok (.iload_n 2, 1) := dk_28 (dk_at dksX0_fibre_0 15 rfl rfl)
theorem dX0_fibre_16 : decode cX0_fibre 16 = .ok (.invokevirtual 250, 3) := dk_182 0 250 (dk_at dksX0_fibre_0 16 rfl rfl)
theorem dX0_fibre_19 : decode cX0_fibre 19 = .ok (.ireturn, 1) := dk_172 (dk_at dksX0_fibre_0 19 rfl rfl)
abbrev cX0_gathers : ByteArray := prog_1_method_41_code
def yX0_gathers : MethodName := ⟨RX0, "gathers", "(I)V"⟩
def dkwX0_gathers_0 : List UInt8 := [42, 3, 181, 0, 236, 42, 42, 27, 186, 0, 239, 0, 0, 182, 0, 242, 177]
abbrev dktX0_gathers_0 : List UInt8 := dkwX0_gathers_0 ++ []
theorem dksX0_gathers_0 : cX0_gathers.data.toList.drop 0 = dktX0_gathers_0 := by decide +kernel
theorem dX0_gathers_0 : decode cX0_gathers 0 = .ok (.aload_n 0, 1) := dk_42 (dk_at dksX0_gathers_0 0 rfl rfl)
theorem dX0_gathers_1 : decode cX0_gathers 1 = .ok (.iconst 0, 1) := dk_3 (dk_at dksX0_gathers_0 1 rfl rfl)
theorem dX0_gathers_2 : decode cX0_gathers 2 = .ok (.putfield 236, 3) := dk_181 0 236 (dk_at dksX0_gathers_0 2 rfl rfl)
theorem dX0_gathers_5 : decode cX0_gathers 5 = .ok (.aload_n 0, 1) := dk_42 (dk_at dksX0_gathers_0 5 rfl rfl)
theorem dX0_gathers_6 : decode cX0_gathers 6 = .ok (.aload_n 0, 1) := dk_42 (dk_at dksX0_gathers_0 6 rfl rfl)
theorem dX0_gathers_7 : decode cX0_gathers 7 = .ok (.iload_n 1, 1) := dk_27 (dk_at dksX0_gathers_0 7 rfl rfl)
theorem dX0_gathers_8 : decode cX0_gathers 8 = .ok (.invokedynamic 239, 5) := by decide +kernel
theorem dX0_gathers_13 : decode cX0_gathers 13 = .ok (.invokevirtual 242, 3) := dk_182 0 242 (dk_at dksX0_gathers_0 13 rfl rfl)
theorem dX0_gathers_16 : decode cX0_gathers 16 = .ok (.return_, 1) := dk_177 (dk_at dksX0_gathers_0 16 rfl rfl)
abbrev cX0_lambda_gathers_2 : ByteArray := prog_1_method_88_code
def yX0_lambda_gathers_2 : MethodName := ⟨RX0, "lambda$gathers$2", "(III)V"⟩
def dkwX0_lambda_gathers_2_0 : List UInt8 := [29, 27, 160, 0, 8, 42, 28, 182, 1, 179, 177]
abbrev dktX0_lambda_gathers_2_0 : List UInt8 := dkwX0_lambda_gathers_2_0 ++ []
theorem dksX0_lambda_gathers_2_0 : cX0_lambda_gathers_2.data.toList.drop 0 = dktX0_lambda_gathers_2_0 := by decide +kernel
theorem dX0_lambda_gathers_2_0 : decode cX0_lambda_gathers_2 0 = .ok (.iload_n 3, 1) := dk_29 (dk_at dksX0_lambda_gathers_2_0 0 rfl rfl)
theorem dX0_lambda_gathers_2_1 : decode cX0_lambda_gathers_2 1 = .ok (.iload_n 1, 1) := dk_27 (dk_at dksX0_lambda_gathers_2_0 1 rfl rfl)
theorem dX0_lambda_gathers_2_2 : decode cX0_lambda_gathers_2 2 = .ok (.if_icmp .ne 8, 3) := dk_160 0 8 (dk_at dksX0_lambda_gathers_2_0 2 rfl rfl)
theorem dX0_lambda_gathers_2_5 : decode cX0_lambda_gathers_2 5 = .ok (.aload_n 0, 1) := dk_42 (dk_at dksX0_lambda_gathers_2_0 5 rfl rfl)
theorem dX0_lambda_gathers_2_6 : decode cX0_lambda_gathers_2 6 = .ok (.iload_n 2, 1) := dk_28 (dk_at dksX0_lambda_gathers_2_0 6 rfl rfl)
theorem dX0_lambda_gathers_2_7 : decode cX0_lambda_gathers_2 7 = .ok (.invokevirtual 435, 3) := dk_182 1 179 (dk_at dksX0_lambda_gathers_2_0 7 rfl rfl)
theorem dX0_lambda_gathers_2_10 : decode cX0_lambda_gathers_2 10 = .ok (.return_, 1) := dk_177 (dk_at dksX0_lambda_gathers_2_0 10 rfl rfl)
abbrev cX0_adds : ByteArray := prog_1_method_40_code
def yX0_adds : MethodName := ⟨RX0, "adds", "(I)V"⟩
def dkwX0_adds_0 : List UInt8 := [42, 180, 0, 62, 42, 180, 0, 236, 27, 79, 42, 89, 180, 0, 236, 4, 96, 181, 0, 236, 177]
abbrev dktX0_adds_0 : List UInt8 := dkwX0_adds_0 ++ []
theorem dksX0_adds_0 : cX0_adds.data.toList.drop 0 = dktX0_adds_0 := by decide +kernel
theorem dX0_adds_0 : decode cX0_adds 0 = .ok (.aload_n 0, 1) := dk_42 (dk_at dksX0_adds_0 0 rfl rfl)
theorem dX0_adds_1 : decode cX0_adds 1 = .ok (.getfield 62, 3) := dk_180 0 62 (dk_at dksX0_adds_0 1 rfl rfl)
theorem dX0_adds_4 : decode cX0_adds 4 = .ok (.aload_n 0, 1) := dk_42 (dk_at dksX0_adds_0 4 rfl rfl)
theorem dX0_adds_5 : decode cX0_adds 5 = .ok (.getfield 236, 3) := dk_180 0 236 (dk_at dksX0_adds_0 5 rfl rfl)
theorem dX0_adds_8 : decode cX0_adds 8 = .ok (.iload_n 1, 1) := dk_27 (dk_at dksX0_adds_0 8 rfl rfl)
theorem dX0_adds_9 : decode cX0_adds 9 = .ok (.iastore, 1) := dk_79 (dk_at dksX0_adds_0 9 rfl rfl)
theorem dX0_adds_10 : decode cX0_adds 10 = .ok (.aload_n 0, 1) := dk_42 (dk_at dksX0_adds_0 10 rfl rfl)
theorem dX0_adds_11 : decode cX0_adds 11 = .ok (.dup, 1) := dk_89 (dk_at dksX0_adds_0 11 rfl rfl)
theorem dX0_adds_12 : decode cX0_adds 12 = .ok (.getfield 236, 3) := dk_180 0 236 (dk_at dksX0_adds_0 12 rfl rfl)
theorem dX0_adds_15 : decode cX0_adds 15 = .ok (.iconst 1, 1) := dk_4 (dk_at dksX0_adds_0 15 rfl rfl)
theorem dX0_adds_16 : decode cX0_adds 16 = .ok (.iadd, 1) := dk_96 (dk_at dksX0_adds_0 16 rfl rfl)
theorem dX0_adds_17 : decode cX0_adds 17 = .ok (.putfield 236, 3) := dk_181 0 236 (dk_at dksX0_adds_0 17 rfl rfl)
theorem dX0_adds_20 : decode cX0_adds 20 = .ok (.return_, 1) := dk_177 (dk_at dksX0_adds_0 20 rfl rfl)
abbrev cX0_goesThrough : ByteArray := prog_1_method_39_code
def yX0_goesThrough : MethodName := ⟨RX0, "goesThrough", "(LKeptCurves$Looks;)V"⟩
def dkwX0_goesThrough_1 : List UInt8 := [29, 182, 0, 189, 185, 0, 230, 3, 0, 132, 3, 1, 167, 255, 230, 132, 2, 1, 167, 255, 216, 177]
abbrev dktX0_goesThrough_1 : List UInt8 := dkwX0_goesThrough_1 ++ []
def dkwX0_goesThrough_0 : List UInt8 := [3, 61, 28, 16, 32, 162, 0, 40, 3, 62, 29, 16, 32, 162, 0, 26, 43, 28, 29, 184, 0, 206, 42, 28]
abbrev dktX0_goesThrough_0 : List UInt8 := dkwX0_goesThrough_0 ++ dktX0_goesThrough_1
theorem dksX0_goesThrough_0 : cX0_goesThrough.data.toList.drop 0 = dktX0_goesThrough_0 := by decide +kernel
theorem dksX0_goesThrough_1 : cX0_goesThrough.data.toList.drop 24 = dktX0_goesThrough_1 := dk_seg dksX0_goesThrough_0 24 rfl rfl
theorem dX0_goesThrough_0 : decode cX0_goesThrough 0 = .ok (.iconst 0, 1) := dk_3 (dk_at dksX0_goesThrough_0 0 rfl rfl)
theorem dX0_goesThrough_1 : decode cX0_goesThrough 1 = .ok (.istore_n 2, 1) := dk_61 (dk_at dksX0_goesThrough_0 1 rfl rfl)
theorem dX0_goesThrough_2 : decode cX0_goesThrough 2 = .ok (.iload_n 2, 1) := dk_28 (dk_at dksX0_goesThrough_0 2 rfl rfl)
theorem dX0_goesThrough_3 : decode cX0_goesThrough 3 = .ok (.bipush 32, 2) := dk_16 32 (dk_at dksX0_goesThrough_0 3 rfl rfl)
theorem dX0_goesThrough_5 : decode cX0_goesThrough 5 = .ok (.if_icmp .ge 40, 3) := dk_162 0 40 (dk_at dksX0_goesThrough_0 5 rfl rfl)
theorem dX0_goesThrough_8 : decode cX0_goesThrough 8 = .ok (.iconst 0, 1) := dk_3 (dk_at dksX0_goesThrough_0 8 rfl rfl)
theorem dX0_goesThrough_9 : decode cX0_goesThrough 9 = .ok (.istore_n 3, 1) := dk_62 (dk_at dksX0_goesThrough_0 9 rfl rfl)
theorem dX0_goesThrough_10 : decode cX0_goesThrough 10 = .ok (.iload_n 3, 1) := dk_29 (dk_at dksX0_goesThrough_0 10 rfl rfl)
theorem dX0_goesThrough_11 : decode cX0_goesThrough 11 = .ok (.bipush 32, 2) := dk_16 32 (dk_at dksX0_goesThrough_0 11 rfl rfl)
theorem dX0_goesThrough_13 : decode cX0_goesThrough 13 = .ok (.if_icmp .ge 26, 3) := dk_162 0 26 (dk_at dksX0_goesThrough_0 13 rfl rfl)
theorem dX0_goesThrough_16 : decode cX0_goesThrough 16 = .ok (.aload_n 1, 1) := dk_43 (dk_at dksX0_goesThrough_0 16 rfl rfl)
theorem dX0_goesThrough_17 : decode cX0_goesThrough 17 = .ok (.iload_n 2, 1) := dk_28 (dk_at dksX0_goesThrough_0 17 rfl rfl)
theorem dX0_goesThrough_18 : decode cX0_goesThrough 18 = .ok (.iload_n 3, 1) := dk_29 (dk_at dksX0_goesThrough_0 18 rfl rfl)
theorem dX0_goesThrough_19 : decode cX0_goesThrough 19 = .ok (.invokestatic 206, 3) := dk_184 0 206 (dk_at dksX0_goesThrough_0 19 rfl rfl)
theorem dX0_goesThrough_22 : decode cX0_goesThrough 22 = .ok (.aload_n 0, 1) := dk_42 (dk_at dksX0_goesThrough_0 22 rfl rfl)
theorem dX0_goesThrough_23 : decode cX0_goesThrough 23 = .ok (.iload_n 2, 1) := dk_28 (dk_at dksX0_goesThrough_0 23 rfl rfl)
theorem dX0_goesThrough_24 : decode cX0_goesThrough 24 = .ok (.iload_n 3, 1) := dk_29 (dk_at dksX0_goesThrough_1 0 rfl rfl)
theorem dX0_goesThrough_25 : decode cX0_goesThrough 25 = .ok (.invokevirtual 189, 3) := dk_182 0 189 (dk_at dksX0_goesThrough_1 1 rfl rfl)
theorem dX0_goesThrough_28 : decode cX0_goesThrough 28 = .ok (.invokeinterface 230 3, 5) := by decide +kernel
theorem dX0_goesThrough_33 : decode cX0_goesThrough 33 = .ok (.iinc 3 1, 3) := dk_132 3 1 (dk_at dksX0_goesThrough_1 9 rfl rfl)
theorem dX0_goesThrough_36 : decode cX0_goesThrough 36 = .ok (.goto (-26), 3) := dk_167 255 230 (dk_at dksX0_goesThrough_1 12 rfl rfl)
theorem dX0_goesThrough_39 : decode cX0_goesThrough 39 = .ok (.iinc 2 1, 3) := dk_132 2 1 (dk_at dksX0_goesThrough_1 15 rfl rfl)
theorem dX0_goesThrough_42 : decode cX0_goesThrough 42 = .ok (.goto (-40), 3) := dk_167 255 216 (dk_at dksX0_goesThrough_1 18 rfl rfl)
theorem dX0_goesThrough_45 : decode cX0_goesThrough 45 = .ok (.return_, 1) := dk_177 (dk_at dksX0_goesThrough_1 21 rfl rfl)
abbrev cX0_spotOf : ByteArray := prog_1_method_42_code
def yX0_spotOf : MethodName := ⟨RX0, "spotOf", "(I)I"⟩
def dkwX0_spotOf_1 : List UInt8 := [184, 0, 7, 153, 0, 12, 42, 180, 0, 62, 27, 46, 167, 0, 5, 16, 251, 172]
abbrev dktX0_spotOf_1 : List UInt8 := dkwX0_spotOf_1 ++ []
def dkwX0_spotOf_0 : List UInt8 := [27, 2, 160, 0, 10, 42, 180, 0, 236, 167, 0, 30, 27, 133, 9, 42, 180, 0, 236, 4, 100, 133]
abbrev dktX0_spotOf_0 : List UInt8 := dkwX0_spotOf_0 ++ dktX0_spotOf_1
theorem dksX0_spotOf_0 : cX0_spotOf.data.toList.drop 0 = dktX0_spotOf_0 := by decide +kernel
theorem dksX0_spotOf_1 : cX0_spotOf.data.toList.drop 22 = dktX0_spotOf_1 := dk_seg dksX0_spotOf_0 22 rfl rfl
theorem dX0_spotOf_0 : decode cX0_spotOf 0 = .ok (.iload_n 1, 1) := dk_27 (dk_at dksX0_spotOf_0 0 rfl rfl)
theorem dX0_spotOf_1 : decode cX0_spotOf 1 = .ok (.iconst (-1), 1) := dk_2 (dk_at dksX0_spotOf_0 1 rfl rfl)
theorem dX0_spotOf_2 : decode cX0_spotOf 2 = .ok (.if_icmp .ne 10, 3) := dk_160 0 10 (dk_at dksX0_spotOf_0 2 rfl rfl)
theorem dX0_spotOf_5 : decode cX0_spotOf 5 = .ok (.aload_n 0, 1) := dk_42 (dk_at dksX0_spotOf_0 5 rfl rfl)
theorem dX0_spotOf_6 : decode cX0_spotOf 6 = .ok (.getfield 236, 3) := dk_180 0 236 (dk_at dksX0_spotOf_0 6 rfl rfl)
theorem dX0_spotOf_9 : decode cX0_spotOf 9 = .ok (.goto 30, 3) := dk_167 0 30 (dk_at dksX0_spotOf_0 9 rfl rfl)
theorem dX0_spotOf_12 : decode cX0_spotOf 12 = .ok (.iload_n 1, 1) := dk_27 (dk_at dksX0_spotOf_0 12 rfl rfl)
theorem dX0_spotOf_13 : decode cX0_spotOf 13 = .ok (.i2l, 1) := dk_133 (dk_at dksX0_spotOf_0 13 rfl rfl)
theorem dX0_spotOf_14 : decode cX0_spotOf 14 = .ok (.lconst 0, 1) := dk_9 (dk_at dksX0_spotOf_0 14 rfl rfl)
theorem dX0_spotOf_15 : decode cX0_spotOf 15 = .ok (.aload_n 0, 1) := dk_42 (dk_at dksX0_spotOf_0 15 rfl rfl)
theorem dX0_spotOf_16 : decode cX0_spotOf 16 = .ok (.getfield 236, 3) := dk_180 0 236 (dk_at dksX0_spotOf_0 16 rfl rfl)
theorem dX0_spotOf_19 : decode cX0_spotOf 19 = .ok (.iconst 1, 1) := dk_4 (dk_at dksX0_spotOf_0 19 rfl rfl)
theorem dX0_spotOf_20 : decode cX0_spotOf 20 = .ok (.isub, 1) := dk_100 (dk_at dksX0_spotOf_0 20 rfl rfl)
theorem dX0_spotOf_21 : decode cX0_spotOf 21 = .ok (.i2l, 1) := dk_133 (dk_at dksX0_spotOf_0 21 rfl rfl)
theorem dX0_spotOf_22 : decode cX0_spotOf 22 = .ok (.invokestatic 7, 3) := dk_184 0 7 (dk_at dksX0_spotOf_1 0 rfl rfl)
theorem dX0_spotOf_25 : decode cX0_spotOf 25 = .ok (.ifCond .eq 12, 3) := dk_153 0 12 (dk_at dksX0_spotOf_1 3 rfl rfl)
theorem dX0_spotOf_28 : decode cX0_spotOf 28 = .ok (.aload_n 0, 1) := dk_42 (dk_at dksX0_spotOf_1 6 rfl rfl)
theorem dX0_spotOf_29 : decode cX0_spotOf 29 = .ok (.getfield 62, 3) := dk_180 0 62 (dk_at dksX0_spotOf_1 7 rfl rfl)
theorem dX0_spotOf_32 : decode cX0_spotOf 32 = .ok (.iload_n 1, 1) := dk_27 (dk_at dksX0_spotOf_1 10 rfl rfl)
theorem dX0_spotOf_33 : decode cX0_spotOf 33 = .ok (.iaload, 1) := dk_46 (dk_at dksX0_spotOf_1 11 rfl rfl)
theorem dX0_spotOf_34 : decode cX0_spotOf 34 = .ok (.goto 5, 3) := dk_167 0 5 (dk_at dksX0_spotOf_1 12 rfl rfl)
theorem dX0_spotOf_37 : decode cX0_spotOf 37 = .ok (.bipush (-5), 2) := dk_16 251 (dk_at dksX0_spotOf_1 15 rfl rfl)
theorem dX0_spotOf_39 : decode cX0_spotOf 39 = .ok (.ireturn, 1) := dk_172 (dk_at dksX0_spotOf_1 17 rfl rfl)
abbrev cX0_base : ByteArray := prog_1_method_44_code
def yX0_base : MethodName := ⟨RX0, "base", "(I)I"⟩
def dkwX0_base_0 : List UInt8 := [42, 16, 250, 182, 0, 246, 42, 27, 182, 0, 250, 172]
abbrev dktX0_base_0 : List UInt8 := dkwX0_base_0 ++ []
theorem dksX0_base_0 : cX0_base.data.toList.drop 0 = dktX0_base_0 := by decide +kernel
theorem dX0_base_0 : decode cX0_base 0 = .ok (.aload_n 0, 1) := dk_42 (dk_at dksX0_base_0 0 rfl rfl)
theorem dX0_base_1 : decode cX0_base 1 = .ok (.bipush (-6), 2) := dk_16 250 (dk_at dksX0_base_0 1 rfl rfl)
theorem dX0_base_3 : decode cX0_base 3 = .ok (.invokevirtual 246, 3) := dk_182 0 246 (dk_at dksX0_base_0 3 rfl rfl)
theorem dX0_base_6 : decode cX0_base 6 = .ok (.aload_n 0, 1) := dk_42 (dk_at dksX0_base_0 6 rfl rfl)
theorem dX0_base_7 : decode cX0_base 7 = .ok (.iload_n 1, 1) := dk_27 (dk_at dksX0_base_0 7 rfl rfl)
theorem dX0_base_8 : decode cX0_base 8 = .ok (.invokevirtual 250, 3) := dk_182 0 250 (dk_at dksX0_base_0 8 rfl rfl)
theorem dX0_base_11 : decode cX0_base 11 = .ok (.ireturn, 1) := dk_172 (dk_at dksX0_base_0 11 rfl rfl)
abbrev cX0_rank : ByteArray := prog_1_method_45_code
def yX0_rank : MethodName := ⟨RX0, "rank", "(I)I"⟩
def dkwX0_rank_5 : List UInt8 := [182, 1, 16, 87, 132, 4, 1, 167, 255, 242, 45, 182, 1, 16, 192, 0, 253, 180, 1, 20, 172]
abbrev dktX0_rank_5 : List UInt8 := dkwX0_rank_5 ++ []
def dkwX0_rank_4 : List UInt8 := [25, 7, 182, 1, 12, 87, 132, 6, 1, 167, 255, 232, 3, 54, 4, 21, 4, 27, 162, 0, 14, 45]
abbrev dktX0_rank_4 : List UInt8 := dkwX0_rank_4 ++ dktX0_rank_5
def dkwX0_rank_3 : List UInt8 := [25, 4, 190, 54, 5, 3, 54, 6, 21, 6, 21, 5, 162, 0, 23, 25, 4, 21, 6, 50, 58, 7, 45]
abbrev dktX0_rank_3 : List UInt8 := dkwX0_rank_3 ++ dktX0_rank_4
def dkwX0_rank_2 : List UInt8 := [182, 0, 242, 187, 1, 4, 89, 16, 32, 187, 1, 6, 89, 183, 1, 8, 183, 1, 9, 78, 44, 58, 4]
abbrev dktX0_rank_2 : List UInt8 := dkwX0_rank_2 ++ dktX0_rank_3
def dkwX0_rank_1 : List UInt8 := [29, 187, 0, 253, 89, 29, 183, 0, 255, 83, 132, 3, 1, 167, 255, 236, 42, 44, 186, 1, 1, 0, 0]
abbrev dktX0_rank_1 : List UInt8 := dkwX0_rank_1 ++ dktX0_rank_2
def dkwX0_rank_0 : List UInt8 := [27, 184, 0, 21, 154, 0, 5, 2, 172, 16, 32, 189, 0, 253, 77, 3, 62, 29, 16, 32, 162, 0, 20, 44]
abbrev dktX0_rank_0 : List UInt8 := dkwX0_rank_0 ++ dktX0_rank_1
theorem dksX0_rank_0 : cX0_rank.data.toList.drop 0 = dktX0_rank_0 := by decide +kernel
theorem dksX0_rank_1 : cX0_rank.data.toList.drop 24 = dktX0_rank_1 := dk_seg dksX0_rank_0 24 rfl rfl
theorem dksX0_rank_2 : cX0_rank.data.toList.drop 47 = dktX0_rank_2 := dk_seg dksX0_rank_1 23 rfl rfl
theorem dksX0_rank_3 : cX0_rank.data.toList.drop 70 = dktX0_rank_3 := dk_seg dksX0_rank_2 23 rfl rfl
theorem dksX0_rank_4 : cX0_rank.data.toList.drop 93 = dktX0_rank_4 := dk_seg dksX0_rank_3 23 rfl rfl
theorem dksX0_rank_5 : cX0_rank.data.toList.drop 115 = dktX0_rank_5 := dk_seg dksX0_rank_4 22 rfl rfl
theorem dX0_rank_0 : decode cX0_rank 0 = .ok (.iload_n 1, 1) := dk_27 (dk_at dksX0_rank_0 0 rfl rfl)
theorem dX0_rank_1 : decode cX0_rank 1 = .ok (.invokestatic 21, 3) := dk_184 0 21 (dk_at dksX0_rank_0 1 rfl rfl)
theorem dX0_rank_4 : decode cX0_rank 4 = .ok (.ifCond .ne 5, 3) := dk_154 0 5 (dk_at dksX0_rank_0 4 rfl rfl)
theorem dX0_rank_7 : decode cX0_rank 7 = .ok (.iconst (-1), 1) := dk_2 (dk_at dksX0_rank_0 7 rfl rfl)
theorem dX0_rank_8 : decode cX0_rank 8 = .ok (.ireturn, 1) := dk_172 (dk_at dksX0_rank_0 8 rfl rfl)
theorem dX0_rank_9 : decode cX0_rank 9 = .ok (.bipush 32, 2) := dk_16 32 (dk_at dksX0_rank_0 9 rfl rfl)
theorem dX0_rank_11 : decode cX0_rank 11 = .ok (.anewarray 253, 3) := dk_189 0 253 (dk_at dksX0_rank_0 11 rfl rfl)
theorem dX0_rank_14 : decode cX0_rank 14 = .ok (.astore_n 2, 1) := dk_77 (dk_at dksX0_rank_0 14 rfl rfl)
theorem dX0_rank_15 : decode cX0_rank 15 = .ok (.iconst 0, 1) := dk_3 (dk_at dksX0_rank_0 15 rfl rfl)
theorem dX0_rank_16 : decode cX0_rank 16 = .ok (.istore_n 3, 1) := dk_62 (dk_at dksX0_rank_0 16 rfl rfl)
theorem dX0_rank_17 : decode cX0_rank 17 = .ok (.iload_n 3, 1) := dk_29 (dk_at dksX0_rank_0 17 rfl rfl)
theorem dX0_rank_18 : decode cX0_rank 18 = .ok (.bipush 32, 2) := dk_16 32 (dk_at dksX0_rank_0 18 rfl rfl)
theorem dX0_rank_20 : decode cX0_rank 20 = .ok (.if_icmp .ge 20, 3) := dk_162 0 20 (dk_at dksX0_rank_0 20 rfl rfl)
theorem dX0_rank_23 : decode cX0_rank 23 = .ok (.aload_n 2, 1) := dk_44 (dk_at dksX0_rank_0 23 rfl rfl)
theorem dX0_rank_24 : decode cX0_rank 24 = .ok (.iload_n 3, 1) := dk_29 (dk_at dksX0_rank_1 0 rfl rfl)
theorem dX0_rank_25 : decode cX0_rank 25 = .ok (.new 253, 3) := dk_187 0 253 (dk_at dksX0_rank_1 1 rfl rfl)
theorem dX0_rank_28 : decode cX0_rank 28 = .ok (.dup, 1) := dk_89 (dk_at dksX0_rank_1 4 rfl rfl)
theorem dX0_rank_29 : decode cX0_rank 29 = .ok (.iload_n 3, 1) := dk_29 (dk_at dksX0_rank_1 5 rfl rfl)
theorem dX0_rank_30 : decode cX0_rank 30 = .ok (.invokespecial 255, 3) := dk_183 0 255 (dk_at dksX0_rank_1 6 rfl rfl)
theorem dX0_rank_33 : decode cX0_rank 33 = .ok (.aastore, 1) := dk_83 (dk_at dksX0_rank_1 9 rfl rfl)
theorem dX0_rank_34 : decode cX0_rank 34 = .ok (.iinc 3 1, 3) := dk_132 3 1 (dk_at dksX0_rank_1 10 rfl rfl)
theorem dX0_rank_37 : decode cX0_rank 37 = .ok (.goto (-20), 3) := dk_167 255 236 (dk_at dksX0_rank_1 13 rfl rfl)
theorem dX0_rank_40 : decode cX0_rank 40 = .ok (.aload_n 0, 1) := dk_42 (dk_at dksX0_rank_1 16 rfl rfl)
theorem dX0_rank_41 : decode cX0_rank 41 = .ok (.aload_n 2, 1) := dk_44 (dk_at dksX0_rank_1 17 rfl rfl)
theorem dX0_rank_42 : decode cX0_rank 42 = .ok (.invokedynamic 257, 5) := by decide +kernel
theorem dX0_rank_47 : decode cX0_rank 47 = .ok (.invokevirtual 242, 3) := dk_182 0 242 (dk_at dksX0_rank_2 0 rfl rfl)
theorem dX0_rank_50 : decode cX0_rank 50 = .ok (.new 260, 3) := dk_187 1 4 (dk_at dksX0_rank_2 3 rfl rfl)
theorem dX0_rank_53 : decode cX0_rank 53 = .ok (.dup, 1) := dk_89 (dk_at dksX0_rank_2 6 rfl rfl)
theorem dX0_rank_54 : decode cX0_rank 54 = .ok (.bipush 32, 2) := dk_16 32 (dk_at dksX0_rank_2 7 rfl rfl)
theorem dX0_rank_56 : decode cX0_rank 56 = .ok (.new 262, 3) := dk_187 1 6 (dk_at dksX0_rank_2 9 rfl rfl)
theorem dX0_rank_59 : decode cX0_rank 59 = .ok (.dup, 1) := dk_89 (dk_at dksX0_rank_2 12 rfl rfl)
theorem dX0_rank_60 : decode cX0_rank 60 = .ok (.invokespecial 264, 3) := dk_183 1 8 (dk_at dksX0_rank_2 13 rfl rfl)
theorem dX0_rank_63 : decode cX0_rank 63 = .ok (.invokespecial 265, 3) := dk_183 1 9 (dk_at dksX0_rank_2 16 rfl rfl)
theorem dX0_rank_66 : decode cX0_rank 66 = .ok (.astore_n 3, 1) := dk_78 (dk_at dksX0_rank_2 19 rfl rfl)
theorem dX0_rank_67 : decode cX0_rank 67 = .ok (.aload_n 2, 1) := dk_44 (dk_at dksX0_rank_2 20 rfl rfl)
theorem dX0_rank_68 : decode cX0_rank 68 = .ok (.astore 4, 2) := dk_58 4 (dk_at dksX0_rank_2 21 rfl rfl)
theorem dX0_rank_70 : decode cX0_rank 70 = .ok (.aload 4, 2) := dk_25 4 (dk_at dksX0_rank_3 0 rfl rfl)
theorem dX0_rank_72 : decode cX0_rank 72 = .ok (.arraylength, 1) := dk_190 (dk_at dksX0_rank_3 2 rfl rfl)
theorem dX0_rank_73 : decode cX0_rank 73 = .ok (.istore 5, 2) := dk_54 5 (dk_at dksX0_rank_3 3 rfl rfl)
theorem dX0_rank_75 : decode cX0_rank 75 = .ok (.iconst 0, 1) := dk_3 (dk_at dksX0_rank_3 5 rfl rfl)
theorem dX0_rank_76 : decode cX0_rank 76 = .ok (.istore 6, 2) := dk_54 6 (dk_at dksX0_rank_3 6 rfl rfl)
theorem dX0_rank_78 : decode cX0_rank 78 = .ok (.iload 6, 2) := dk_21 6 (dk_at dksX0_rank_3 8 rfl rfl)
theorem dX0_rank_80 : decode cX0_rank 80 = .ok (.iload 5, 2) := dk_21 5 (dk_at dksX0_rank_3 10 rfl rfl)
theorem dX0_rank_82 : decode cX0_rank 82 = .ok (.if_icmp .ge 23, 3) := dk_162 0 23 (dk_at dksX0_rank_3 12 rfl rfl)
theorem dX0_rank_85 : decode cX0_rank 85 = .ok (.aload 4, 2) := dk_25 4 (dk_at dksX0_rank_3 15 rfl rfl)
theorem dX0_rank_87 : decode cX0_rank 87 = .ok (.iload 6, 2) := dk_21 6 (dk_at dksX0_rank_3 17 rfl rfl)
theorem dX0_rank_89 : decode cX0_rank 89 = .ok (.aaload, 1) := dk_50 (dk_at dksX0_rank_3 19 rfl rfl)
theorem dX0_rank_90 : decode cX0_rank 90 = .ok (.astore 7, 2) := dk_58 7 (dk_at dksX0_rank_3 20 rfl rfl)
theorem dX0_rank_92 : decode cX0_rank 92 = .ok (.aload_n 3, 1) := dk_45 (dk_at dksX0_rank_3 22 rfl rfl)
theorem dX0_rank_93 : decode cX0_rank 93 = .ok (.aload 7, 2) := dk_25 7 (dk_at dksX0_rank_4 0 rfl rfl)
theorem dX0_rank_95 : decode cX0_rank 95 = .ok (.invokevirtual 268, 3) := dk_182 1 12 (dk_at dksX0_rank_4 2 rfl rfl)
theorem dX0_rank_98 : decode cX0_rank 98 = .ok (.pop, 1) := dk_87 (dk_at dksX0_rank_4 5 rfl rfl)
theorem dX0_rank_99 : decode cX0_rank 99 = .ok (.iinc 6 1, 3) := dk_132 6 1 (dk_at dksX0_rank_4 6 rfl rfl)
theorem dX0_rank_102 : decode cX0_rank 102 = .ok (.goto (-24), 3) := dk_167 255 232 (dk_at dksX0_rank_4 9 rfl rfl)
theorem dX0_rank_105 : decode cX0_rank 105 = .ok (.iconst 0, 1) := dk_3 (dk_at dksX0_rank_4 12 rfl rfl)
theorem dX0_rank_106 : decode cX0_rank 106 = .ok (.istore 4, 2) := dk_54 4 (dk_at dksX0_rank_4 13 rfl rfl)
theorem dX0_rank_108 : decode cX0_rank 108 = .ok (.iload 4, 2) := dk_21 4 (dk_at dksX0_rank_4 15 rfl rfl)
theorem dX0_rank_110 : decode cX0_rank 110 = .ok (.iload_n 1, 1) := dk_27 (dk_at dksX0_rank_4 17 rfl rfl)
theorem dX0_rank_111 : decode cX0_rank 111 = .ok (.if_icmp .ge 14, 3) := dk_162 0 14 (dk_at dksX0_rank_4 18 rfl rfl)
theorem dX0_rank_114 : decode cX0_rank 114 = .ok (.aload_n 3, 1) := dk_45 (dk_at dksX0_rank_4 21 rfl rfl)
theorem dX0_rank_115 : decode cX0_rank 115 = .ok (.invokevirtual 272, 3) := dk_182 1 16 (dk_at dksX0_rank_5 0 rfl rfl)
theorem dX0_rank_118 : decode cX0_rank 118 = .ok (.pop, 1) := dk_87 (dk_at dksX0_rank_5 3 rfl rfl)
theorem dX0_rank_119 : decode cX0_rank 119 = .ok (.iinc 4 1, 3) := dk_132 4 1 (dk_at dksX0_rank_5 4 rfl rfl)
theorem dX0_rank_122 : decode cX0_rank 122 = .ok (.goto (-14), 3) := dk_167 255 242 (dk_at dksX0_rank_5 7 rfl rfl)
theorem dX0_rank_125 : decode cX0_rank 125 = .ok (.aload_n 3, 1) := dk_45 (dk_at dksX0_rank_5 10 rfl rfl)
theorem dX0_rank_126 : decode cX0_rank 126 = .ok (.invokevirtual 272, 3) := dk_182 1 16 (dk_at dksX0_rank_5 11 rfl rfl)
theorem dX0_rank_129 : decode cX0_rank 129 = .ok (.checkcast 253, 3) := dk_192 0 253 (dk_at dksX0_rank_5 14 rfl rfl)
theorem dX0_rank_132 : decode cX0_rank 132 = .ok (.getfield 276, 3) := dk_180 1 20 (dk_at dksX0_rank_5 17 rfl rfl)
theorem dX0_rank_135 : decode cX0_rank 135 = .ok (.ireturn, 1) := dk_172 (dk_at dksX0_rank_5 20 rfl rfl)
abbrev cX0_lambda_rank_3 : ByteArray := prog_1_method_87_code
def yX0_lambda_rank_3 : MethodName := ⟨RX0, "lambda$rank$3", "([LKeptCurves$Fibre;II)V"⟩
def dkwX0_lambda_rank_3_0 : List UInt8 := [28, 16, 250, 159, 0, 15, 42, 28, 50, 89, 180, 1, 254, 4, 96, 181, 1, 254, 177]
abbrev dktX0_lambda_rank_3_0 : List UInt8 := dkwX0_lambda_rank_3_0 ++ []
theorem dksX0_lambda_rank_3_0 : cX0_lambda_rank_3.data.toList.drop 0 = dktX0_lambda_rank_3_0 := by decide +kernel
theorem dX0_lambda_rank_3_0 : decode cX0_lambda_rank_3 0 = .ok (.iload_n 2, 1) := dk_28 (dk_at dksX0_lambda_rank_3_0 0 rfl rfl)
theorem dX0_lambda_rank_3_1 : decode cX0_lambda_rank_3 1 = .ok (.bipush (-6), 2) := dk_16 250 (dk_at dksX0_lambda_rank_3_0 1 rfl rfl)
theorem dX0_lambda_rank_3_3 : decode cX0_lambda_rank_3 3 = .ok (.if_icmp .eq 15, 3) := dk_159 0 15 (dk_at dksX0_lambda_rank_3_0 3 rfl rfl)
theorem dX0_lambda_rank_3_6 : decode cX0_lambda_rank_3 6 = .ok (.aload_n 0, 1) := dk_42 (dk_at dksX0_lambda_rank_3_0 6 rfl rfl)
theorem dX0_lambda_rank_3_7 : decode cX0_lambda_rank_3 7 = .ok (.iload_n 2, 1) := dk_28 (dk_at dksX0_lambda_rank_3_0 7 rfl rfl)
theorem dX0_lambda_rank_3_8 : decode cX0_lambda_rank_3 8 = .ok (.aaload, 1) := dk_50 (dk_at dksX0_lambda_rank_3_0 8 rfl rfl)
theorem dX0_lambda_rank_3_9 : decode cX0_lambda_rank_3 9 = .ok (.dup, 1) := dk_89 (dk_at dksX0_lambda_rank_3_0 9 rfl rfl)
theorem dX0_lambda_rank_3_10 : decode cX0_lambda_rank_3 10 = .ok (.getfield 510, 3) := dk_180 1 254 (dk_at dksX0_lambda_rank_3_0 10 rfl rfl)
theorem dX0_lambda_rank_3_13 : decode cX0_lambda_rank_3 13 = .ok (.iconst 1, 1) := dk_4 (dk_at dksX0_lambda_rank_3_0 13 rfl rfl)
theorem dX0_lambda_rank_3_14 : decode cX0_lambda_rank_3 14 = .ok (.iadd, 1) := dk_96 (dk_at dksX0_lambda_rank_3_0 14 rfl rfl)
theorem dX0_lambda_rank_3_15 : decode cX0_lambda_rank_3 15 = .ok (.putfield 510, 3) := dk_181 1 254 (dk_at dksX0_lambda_rank_3_0 15 rfl rfl)
theorem dX0_lambda_rank_3_18 : decode cX0_lambda_rank_3 18 = .ok (.return_, 1) := dk_177 (dk_at dksX0_lambda_rank_3_0 18 rfl rfl)
abbrev cX0_cycles : ByteArray := prog_1_method_50_code
def yX0_cycles : MethodName := ⟨RX0, "cycles", "(II)I"⟩
def dkwX0_cycles_4 : List UInt8 := [4, 184, 1, 94, 167, 0, 12, 45, 28, 16, 50, 100, 3, 184, 1, 94, 172]
abbrev dktX0_cycles_4 : List UInt8 := dkwX0_cycles_4 ++ []
def dkwX0_cycles_3 : List UInt8 := [4, 160, 0, 7, 4, 167, 0, 4, 3, 184, 1, 90, 172, 28, 16, 50, 162, 0, 15, 45, 28, 16, 10, 100]
abbrev dktX0_cycles_3 : List UInt8 := dkwX0_cycles_3 ++ dktX0_cycles_4
def dkwX0_cycles_2 : List UInt8 := [172, 42, 27, 182, 1, 83, 78, 28, 5, 160, 0, 8, 45, 182, 1, 87, 172, 28, 5, 162, 0, 18, 45, 28]
abbrev dktX0_cycles_2 : List UInt8 := dkwX0_cycles_2 ++ dktX0_cycles_3
def dkwX0_cycles_1 : List UInt8 := [20, 1, 77, 184, 0, 7, 154, 0, 19, 28, 133, 20, 1, 79, 20, 1, 81, 184, 0, 7, 154, 0, 5, 2]
abbrev dktX0_cycles_1 : List UInt8 := dkwX0_cycles_1 ++ dktX0_cycles_2
def dkwX0_cycles_0 : List UInt8 := [27, 184, 0, 21, 153, 0, 43, 28, 133, 9, 20, 0, 25, 184, 0, 7, 154, 0, 33, 28, 133, 20, 1, 75]
abbrev dktX0_cycles_0 : List UInt8 := dkwX0_cycles_0 ++ dktX0_cycles_1
theorem dksX0_cycles_0 : cX0_cycles.data.toList.drop 0 = dktX0_cycles_0 := by decide +kernel
theorem dksX0_cycles_1 : cX0_cycles.data.toList.drop 24 = dktX0_cycles_1 := dk_seg dksX0_cycles_0 24 rfl rfl
theorem dksX0_cycles_2 : cX0_cycles.data.toList.drop 48 = dktX0_cycles_2 := dk_seg dksX0_cycles_1 24 rfl rfl
theorem dksX0_cycles_3 : cX0_cycles.data.toList.drop 72 = dktX0_cycles_3 := dk_seg dksX0_cycles_2 24 rfl rfl
theorem dksX0_cycles_4 : cX0_cycles.data.toList.drop 96 = dktX0_cycles_4 := dk_seg dksX0_cycles_3 24 rfl rfl
theorem dX0_cycles_0 : decode cX0_cycles 0 = .ok (.iload_n 1, 1) := dk_27 (dk_at dksX0_cycles_0 0 rfl rfl)
theorem dX0_cycles_1 : decode cX0_cycles 1 = .ok (.invokestatic 21, 3) := dk_184 0 21 (dk_at dksX0_cycles_0 1 rfl rfl)
theorem dX0_cycles_4 : decode cX0_cycles 4 = .ok (.ifCond .eq 43, 3) := dk_153 0 43 (dk_at dksX0_cycles_0 4 rfl rfl)
theorem dX0_cycles_7 : decode cX0_cycles 7 = .ok (.iload_n 2, 1) := dk_28 (dk_at dksX0_cycles_0 7 rfl rfl)
theorem dX0_cycles_8 : decode cX0_cycles 8 = .ok (.i2l, 1) := dk_133 (dk_at dksX0_cycles_0 8 rfl rfl)
theorem dX0_cycles_9 : decode cX0_cycles 9 = .ok (.lconst 0, 1) := dk_9 (dk_at dksX0_cycles_0 9 rfl rfl)
theorem dX0_cycles_10 : decode cX0_cycles 10 = .ok (.ldc2_w 25, 3) := dk_20 0 25 (dk_at dksX0_cycles_0 10 rfl rfl)
theorem dX0_cycles_13 : decode cX0_cycles 13 = .ok (.invokestatic 7, 3) := dk_184 0 7 (dk_at dksX0_cycles_0 13 rfl rfl)
theorem dX0_cycles_16 : decode cX0_cycles 16 = .ok (.ifCond .ne 33, 3) := dk_154 0 33 (dk_at dksX0_cycles_0 16 rfl rfl)
theorem dX0_cycles_19 : decode cX0_cycles 19 = .ok (.iload_n 2, 1) := dk_28 (dk_at dksX0_cycles_0 19 rfl rfl)
theorem dX0_cycles_20 : decode cX0_cycles 20 = .ok (.i2l, 1) := dk_133 (dk_at dksX0_cycles_0 20 rfl rfl)
theorem dX0_cycles_21 : decode cX0_cycles 21 = .ok (.ldc2_w 331, 3) := dk_20 1 75 (dk_at dksX0_cycles_0 21 rfl rfl)
theorem dX0_cycles_24 : decode cX0_cycles 24 = .ok (.ldc2_w 333, 3) := dk_20 1 77 (dk_at dksX0_cycles_1 0 rfl rfl)
theorem dX0_cycles_27 : decode cX0_cycles 27 = .ok (.invokestatic 7, 3) := dk_184 0 7 (dk_at dksX0_cycles_1 3 rfl rfl)
theorem dX0_cycles_30 : decode cX0_cycles 30 = .ok (.ifCond .ne 19, 3) := dk_154 0 19 (dk_at dksX0_cycles_1 6 rfl rfl)
theorem dX0_cycles_33 : decode cX0_cycles 33 = .ok (.iload_n 2, 1) := dk_28 (dk_at dksX0_cycles_1 9 rfl rfl)
theorem dX0_cycles_34 : decode cX0_cycles 34 = .ok (.i2l, 1) := dk_133 (dk_at dksX0_cycles_1 10 rfl rfl)
theorem dX0_cycles_35 : decode cX0_cycles 35 = .ok (.ldc2_w 335, 3) := dk_20 1 79 (dk_at dksX0_cycles_1 11 rfl rfl)
theorem dX0_cycles_38 : decode cX0_cycles 38 = .ok (.ldc2_w 337, 3) := dk_20 1 81 (dk_at dksX0_cycles_1 14 rfl rfl)
theorem dX0_cycles_41 : decode cX0_cycles 41 = .ok (.invokestatic 7, 3) := dk_184 0 7 (dk_at dksX0_cycles_1 17 rfl rfl)
theorem dX0_cycles_44 : decode cX0_cycles 44 = .ok (.ifCond .ne 5, 3) := dk_154 0 5 (dk_at dksX0_cycles_1 20 rfl rfl)
theorem dX0_cycles_47 : decode cX0_cycles 47 = .ok (.iconst (-1), 1) := dk_2 (dk_at dksX0_cycles_1 23 rfl rfl)
theorem dX0_cycles_48 : decode cX0_cycles 48 = .ok (.ireturn, 1) := dk_172 (dk_at dksX0_cycles_2 0 rfl rfl)
theorem dX0_cycles_49 : decode cX0_cycles 49 = .ok (.aload_n 0, 1) := dk_42 (dk_at dksX0_cycles_2 1 rfl rfl)
theorem dX0_cycles_50 : decode cX0_cycles 50 = .ok (.iload_n 1, 1) := dk_27 (dk_at dksX0_cycles_2 2 rfl rfl)
theorem dX0_cycles_51 : decode cX0_cycles 51 = .ok (.invokevirtual 339, 3) := dk_182 1 83 (dk_at dksX0_cycles_2 3 rfl rfl)
theorem dX0_cycles_54 : decode cX0_cycles 54 = .ok (.astore_n 3, 1) := dk_78 (dk_at dksX0_cycles_2 6 rfl rfl)
theorem dX0_cycles_55 : decode cX0_cycles 55 = .ok (.iload_n 2, 1) := dk_28 (dk_at dksX0_cycles_2 7 rfl rfl)
theorem dX0_cycles_56 : decode cX0_cycles 56 = .ok (.iconst 2, 1) := dk_5 (dk_at dksX0_cycles_2 8 rfl rfl)
theorem dX0_cycles_57 : decode cX0_cycles 57 = .ok (.if_icmp .ne 8, 3) := dk_160 0 8 (dk_at dksX0_cycles_2 9 rfl rfl)
theorem dX0_cycles_60 : decode cX0_cycles 60 = .ok (.aload_n 3, 1) := dk_45 (dk_at dksX0_cycles_2 12 rfl rfl)
theorem dX0_cycles_61 : decode cX0_cycles 61 = .ok (.invokevirtual 343, 3) := dk_182 1 87 (dk_at dksX0_cycles_2 13 rfl rfl)
theorem dX0_cycles_64 : decode cX0_cycles 64 = .ok (.ireturn, 1) := dk_172 (dk_at dksX0_cycles_2 16 rfl rfl)
theorem dX0_cycles_65 : decode cX0_cycles 65 = .ok (.iload_n 2, 1) := dk_28 (dk_at dksX0_cycles_2 17 rfl rfl)
theorem dX0_cycles_66 : decode cX0_cycles 66 = .ok (.iconst 2, 1) := dk_5 (dk_at dksX0_cycles_2 18 rfl rfl)
theorem dX0_cycles_67 : decode cX0_cycles 67 = .ok (.if_icmp .ge 18, 3) := dk_162 0 18 (dk_at dksX0_cycles_2 19 rfl rfl)
theorem dX0_cycles_70 : decode cX0_cycles 70 = .ok (.aload_n 3, 1) := dk_45 (dk_at dksX0_cycles_2 22 rfl rfl)
theorem dX0_cycles_71 : decode cX0_cycles 71 = .ok (.iload_n 2, 1) := dk_28 (dk_at dksX0_cycles_2 23 rfl rfl)
theorem dX0_cycles_72 : decode cX0_cycles 72 = .ok (.iconst 1, 1) := dk_4 (dk_at dksX0_cycles_3 0 rfl rfl)
theorem dX0_cycles_73 : decode cX0_cycles 73 = .ok (.if_icmp .ne 7, 3) := dk_160 0 7 (dk_at dksX0_cycles_3 1 rfl rfl)
theorem dX0_cycles_76 : decode cX0_cycles 76 = .ok (.iconst 1, 1) := dk_4 (dk_at dksX0_cycles_3 4 rfl rfl)
theorem dX0_cycles_77 : decode cX0_cycles 77 = .ok (.goto 4, 3) := dk_167 0 4 (dk_at dksX0_cycles_3 5 rfl rfl)
theorem dX0_cycles_80 : decode cX0_cycles 80 = .ok (.iconst 0, 1) := dk_3 (dk_at dksX0_cycles_3 8 rfl rfl)
theorem dX0_cycles_81 : decode cX0_cycles 81 = .ok (.invokestatic 346, 3) := dk_184 1 90 (dk_at dksX0_cycles_3 9 rfl rfl)
theorem dX0_cycles_84 : decode cX0_cycles 84 = .ok (.ireturn, 1) := dk_172 (dk_at dksX0_cycles_3 12 rfl rfl)
theorem dX0_cycles_85 : decode cX0_cycles 85 = .ok (.iload_n 2, 1) := dk_28 (dk_at dksX0_cycles_3 13 rfl rfl)
theorem dX0_cycles_86 : decode cX0_cycles 86 = .ok (.bipush 50, 2) := dk_16 50 (dk_at dksX0_cycles_3 14 rfl rfl)
theorem dX0_cycles_88 : decode cX0_cycles 88 = .ok (.if_icmp .ge 15, 3) := dk_162 0 15 (dk_at dksX0_cycles_3 16 rfl rfl)
theorem dX0_cycles_91 : decode cX0_cycles 91 = .ok (.aload_n 3, 1) := dk_45 (dk_at dksX0_cycles_3 19 rfl rfl)
theorem dX0_cycles_92 : decode cX0_cycles 92 = .ok (.iload_n 2, 1) := dk_28 (dk_at dksX0_cycles_3 20 rfl rfl)
theorem dX0_cycles_93 : decode cX0_cycles 93 = .ok (.bipush 10, 2) := dk_16 10 (dk_at dksX0_cycles_3 21 rfl rfl)
theorem dX0_cycles_95 : decode cX0_cycles 95 = .ok (.isub, 1) := dk_100 (dk_at dksX0_cycles_3 23 rfl rfl)
theorem dX0_cycles_96 : decode cX0_cycles 96 = .ok (.iconst 1, 1) := dk_4 (dk_at dksX0_cycles_4 0 rfl rfl)
theorem dX0_cycles_97 : decode cX0_cycles 97 = .ok (.invokestatic 350, 3) := dk_184 1 94 (dk_at dksX0_cycles_4 1 rfl rfl)
theorem dX0_cycles_100 : decode cX0_cycles 100 = .ok (.goto 12, 3) := dk_167 0 12 (dk_at dksX0_cycles_4 4 rfl rfl)
theorem dX0_cycles_103 : decode cX0_cycles 103 = .ok (.aload_n 3, 1) := dk_45 (dk_at dksX0_cycles_4 7 rfl rfl)
theorem dX0_cycles_104 : decode cX0_cycles 104 = .ok (.iload_n 2, 1) := dk_28 (dk_at dksX0_cycles_4 8 rfl rfl)
theorem dX0_cycles_105 : decode cX0_cycles 105 = .ok (.bipush 50, 2) := dk_16 50 (dk_at dksX0_cycles_4 9 rfl rfl)
theorem dX0_cycles_107 : decode cX0_cycles 107 = .ok (.isub, 1) := dk_100 (dk_at dksX0_cycles_4 11 rfl rfl)
theorem dX0_cycles_108 : decode cX0_cycles 108 = .ok (.iconst 0, 1) := dk_3 (dk_at dksX0_cycles_4 12 rfl rfl)
theorem dX0_cycles_109 : decode cX0_cycles 109 = .ok (.invokestatic 350, 3) := dk_184 1 94 (dk_at dksX0_cycles_4 13 rfl rfl)
theorem dX0_cycles_112 : decode cX0_cycles 112 = .ok (.ireturn, 1) := dk_172 (dk_at dksX0_cycles_4 16 rfl rfl)
abbrev cX0_cyclesOf : ByteArray := prog_1_method_47_code
def yX0_cyclesOf : MethodName := ⟨RX0, "cyclesOf", "(I)Ljava/util/TreeMap;"⟩
def dkwX0_cyclesOf_6 : List UInt8 := [180, 1, 43, 4, 96, 181, 1, 43, 132, 3, 1, 167, 255, 141, 44, 176]
abbrev dktX0_cyclesOf_6 : List UInt8 := dkwX0_cyclesOf_6 ++ []
def dkwX0_cyclesOf_5 : List UInt8 := [199, 0, 21, 187, 1, 36, 89, 183, 1, 38, 58, 6, 44, 25, 5, 25, 6, 182, 1, 39, 87, 25, 6, 89]
abbrev dktX0_cyclesOf_5 : List UInt8 := dkwX0_cyclesOf_5 ++ dktX0_cyclesOf_6
def dkwX0_cyclesOf_4 : List UInt8 := [187, 1, 29, 89, 21, 4, 183, 1, 31, 58, 5, 44, 25, 5, 182, 1, 32, 192, 1, 36, 58, 6, 25, 6]
abbrev dktX0_cyclesOf_4 : List UInt8 := dkwX0_cyclesOf_4 ++ dktX0_cyclesOf_5
def dkwX0_cyclesOf_3 : List UInt8 := [46, 182, 0, 227, 54, 4, 21, 4, 158, 0, 71, 42, 42, 180, 0, 62, 29, 46, 21, 4, 182, 1, 26]
abbrev dktX0_cyclesOf_3 : List UInt8 := dkwX0_cyclesOf_3 ++ dktX0_cyclesOf_4
def dkwX0_cyclesOf_2 : List UInt8 := [180, 0, 65, 42, 180, 0, 62, 29, 46, 51, 153, 0, 8, 16, 251, 167, 0, 13, 42, 42, 180, 0, 62, 29]
abbrev dktX0_cyclesOf_2 : List UInt8 := dkwX0_cyclesOf_2 ++ dktX0_cyclesOf_3
def dkwX0_cyclesOf_1 : List UInt8 := [180, 0, 65, 29, 3, 84, 132, 3, 1, 167, 255, 239, 3, 62, 29, 42, 180, 0, 236, 162, 0, 113, 42]
abbrev dktX0_cyclesOf_1 : List UInt8 := dkwX0_cyclesOf_1 ++ dktX0_cyclesOf_2
def dkwX0_cyclesOf_0 : List UInt8 := [187, 1, 23, 89, 183, 1, 25, 77, 42, 27, 182, 0, 246, 3, 62, 29, 17, 4, 0, 162, 0, 16, 42]
abbrev dktX0_cyclesOf_0 : List UInt8 := dkwX0_cyclesOf_0 ++ dktX0_cyclesOf_1
theorem dksX0_cyclesOf_0 : cX0_cyclesOf.data.toList.drop 0 = dktX0_cyclesOf_0 := by decide +kernel
theorem dksX0_cyclesOf_1 : cX0_cyclesOf.data.toList.drop 23 = dktX0_cyclesOf_1 := dk_seg dksX0_cyclesOf_0 23 rfl rfl
theorem dksX0_cyclesOf_2 : cX0_cyclesOf.data.toList.drop 46 = dktX0_cyclesOf_2 := dk_seg dksX0_cyclesOf_1 23 rfl rfl
theorem dksX0_cyclesOf_3 : cX0_cyclesOf.data.toList.drop 70 = dktX0_cyclesOf_3 := dk_seg dksX0_cyclesOf_2 24 rfl rfl
theorem dksX0_cyclesOf_4 : cX0_cyclesOf.data.toList.drop 93 = dktX0_cyclesOf_4 := dk_seg dksX0_cyclesOf_3 23 rfl rfl
theorem dksX0_cyclesOf_5 : cX0_cyclesOf.data.toList.drop 117 = dktX0_cyclesOf_5 := dk_seg dksX0_cyclesOf_4 24 rfl rfl
theorem dksX0_cyclesOf_6 : cX0_cyclesOf.data.toList.drop 141 = dktX0_cyclesOf_6 := dk_seg dksX0_cyclesOf_5 24 rfl rfl
theorem dX0_cyclesOf_0 : decode cX0_cyclesOf 0 = .ok (.new 279, 3) := dk_187 1 23 (dk_at dksX0_cyclesOf_0 0 rfl rfl)
theorem dX0_cyclesOf_3 : decode cX0_cyclesOf 3 = .ok (.dup, 1) := dk_89 (dk_at dksX0_cyclesOf_0 3 rfl rfl)
theorem dX0_cyclesOf_4 : decode cX0_cyclesOf 4 = .ok (.invokespecial 281, 3) := dk_183 1 25 (dk_at dksX0_cyclesOf_0 4 rfl rfl)
theorem dX0_cyclesOf_7 : decode cX0_cyclesOf 7 = .ok (.astore_n 2, 1) := dk_77 (dk_at dksX0_cyclesOf_0 7 rfl rfl)
theorem dX0_cyclesOf_8 : decode cX0_cyclesOf 8 = .ok (.aload_n 0, 1) := dk_42 (dk_at dksX0_cyclesOf_0 8 rfl rfl)
theorem dX0_cyclesOf_9 : decode cX0_cyclesOf 9 = .ok (.iload_n 1, 1) := dk_27 (dk_at dksX0_cyclesOf_0 9 rfl rfl)
theorem dX0_cyclesOf_10 : decode cX0_cyclesOf 10 = .ok (.invokevirtual 246, 3) := dk_182 0 246 (dk_at dksX0_cyclesOf_0 10 rfl rfl)
theorem dX0_cyclesOf_13 : decode cX0_cyclesOf 13 = .ok (.iconst 0, 1) := dk_3 (dk_at dksX0_cyclesOf_0 13 rfl rfl)
theorem dX0_cyclesOf_14 : decode cX0_cyclesOf 14 = .ok (.istore_n 3, 1) := dk_62 (dk_at dksX0_cyclesOf_0 14 rfl rfl)
theorem dX0_cyclesOf_15 : decode cX0_cyclesOf 15 = .ok (.iload_n 3, 1) := dk_29 (dk_at dksX0_cyclesOf_0 15 rfl rfl)
theorem dX0_cyclesOf_16 : decode cX0_cyclesOf 16 = .ok (.sipush 1024, 3) := dk_17 4 0 (dk_at dksX0_cyclesOf_0 16 rfl rfl)
theorem dX0_cyclesOf_19 : decode cX0_cyclesOf 19 = .ok (.if_icmp .ge 16, 3) := dk_162 0 16 (dk_at dksX0_cyclesOf_0 19 rfl rfl)
theorem dX0_cyclesOf_22 : decode cX0_cyclesOf 22 = .ok (.aload_n 0, 1) := dk_42 (dk_at dksX0_cyclesOf_0 22 rfl rfl)
theorem dX0_cyclesOf_23 : decode cX0_cyclesOf 23 = .ok (.getfield 65, 3) := dk_180 0 65 (dk_at dksX0_cyclesOf_1 0 rfl rfl)
theorem dX0_cyclesOf_26 : decode cX0_cyclesOf 26 = .ok (.iload_n 3, 1) := dk_29 (dk_at dksX0_cyclesOf_1 3 rfl rfl)
theorem dX0_cyclesOf_27 : decode cX0_cyclesOf 27 = .ok (.iconst 0, 1) := dk_3 (dk_at dksX0_cyclesOf_1 4 rfl rfl)
theorem dX0_cyclesOf_28 : decode cX0_cyclesOf 28 = .ok (.bastore, 1) := dk_84 (dk_at dksX0_cyclesOf_1 5 rfl rfl)
theorem dX0_cyclesOf_29 : decode cX0_cyclesOf 29 = .ok (.iinc 3 1, 3) := dk_132 3 1 (dk_at dksX0_cyclesOf_1 6 rfl rfl)
theorem dX0_cyclesOf_32 : decode cX0_cyclesOf 32 = .ok (.goto (-17), 3) := dk_167 255 239 (dk_at dksX0_cyclesOf_1 9 rfl rfl)
theorem dX0_cyclesOf_35 : decode cX0_cyclesOf 35 = .ok (.iconst 0, 1) := dk_3 (dk_at dksX0_cyclesOf_1 12 rfl rfl)
theorem dX0_cyclesOf_36 : decode cX0_cyclesOf 36 = .ok (.istore_n 3, 1) := dk_62 (dk_at dksX0_cyclesOf_1 13 rfl rfl)
theorem dX0_cyclesOf_37 : decode cX0_cyclesOf 37 = .ok (.iload_n 3, 1) := dk_29 (dk_at dksX0_cyclesOf_1 14 rfl rfl)
theorem dX0_cyclesOf_38 : decode cX0_cyclesOf 38 = .ok (.aload_n 0, 1) := dk_42 (dk_at dksX0_cyclesOf_1 15 rfl rfl)
theorem dX0_cyclesOf_39 : decode cX0_cyclesOf 39 = .ok (.getfield 236, 3) := dk_180 0 236 (dk_at dksX0_cyclesOf_1 16 rfl rfl)
theorem dX0_cyclesOf_42 : decode cX0_cyclesOf 42 = .ok (.if_icmp .ge 113, 3) := dk_162 0 113 (dk_at dksX0_cyclesOf_1 19 rfl rfl)
theorem dX0_cyclesOf_45 : decode cX0_cyclesOf 45 = .ok (.aload_n 0, 1) := dk_42 (dk_at dksX0_cyclesOf_1 22 rfl rfl)
theorem dX0_cyclesOf_46 : decode cX0_cyclesOf 46 = .ok (.getfield 65, 3) := dk_180 0 65 (dk_at dksX0_cyclesOf_2 0 rfl rfl)
theorem dX0_cyclesOf_49 : decode cX0_cyclesOf 49 = .ok (.aload_n 0, 1) := dk_42 (dk_at dksX0_cyclesOf_2 3 rfl rfl)
theorem dX0_cyclesOf_50 : decode cX0_cyclesOf 50 = .ok (.getfield 62, 3) := dk_180 0 62 (dk_at dksX0_cyclesOf_2 4 rfl rfl)
theorem dX0_cyclesOf_53 : decode cX0_cyclesOf 53 = .ok (.iload_n 3, 1) := dk_29 (dk_at dksX0_cyclesOf_2 7 rfl rfl)
theorem dX0_cyclesOf_54 : decode cX0_cyclesOf 54 = .ok (.iaload, 1) := dk_46 (dk_at dksX0_cyclesOf_2 8 rfl rfl)
theorem dX0_cyclesOf_55 : decode cX0_cyclesOf 55 = .ok (.baload, 1) := dk_51 (dk_at dksX0_cyclesOf_2 9 rfl rfl)
theorem dX0_cyclesOf_56 : decode cX0_cyclesOf 56 = .ok (.ifCond .eq 8, 3) := dk_153 0 8 (dk_at dksX0_cyclesOf_2 10 rfl rfl)
theorem dX0_cyclesOf_59 : decode cX0_cyclesOf 59 = .ok (.bipush (-5), 2) := dk_16 251 (dk_at dksX0_cyclesOf_2 13 rfl rfl)
theorem dX0_cyclesOf_61 : decode cX0_cyclesOf 61 = .ok (.goto 13, 3) := dk_167 0 13 (dk_at dksX0_cyclesOf_2 15 rfl rfl)
theorem dX0_cyclesOf_64 : decode cX0_cyclesOf 64 = .ok (.aload_n 0, 1) := dk_42 (dk_at dksX0_cyclesOf_2 18 rfl rfl)
theorem dX0_cyclesOf_65 : decode cX0_cyclesOf 65 = .ok (.aload_n 0, 1) := dk_42 (dk_at dksX0_cyclesOf_2 19 rfl rfl)
theorem dX0_cyclesOf_66 : decode cX0_cyclesOf 66 = .ok (.getfield 62, 3) := dk_180 0 62 (dk_at dksX0_cyclesOf_2 20 rfl rfl)
theorem dX0_cyclesOf_69 : decode cX0_cyclesOf 69 = .ok (.iload_n 3, 1) := dk_29 (dk_at dksX0_cyclesOf_2 23 rfl rfl)
theorem dX0_cyclesOf_70 : decode cX0_cyclesOf 70 = .ok (.iaload, 1) := dk_46 (dk_at dksX0_cyclesOf_3 0 rfl rfl)
theorem dX0_cyclesOf_71 : decode cX0_cyclesOf 71 = .ok (.invokevirtual 227, 3) := dk_182 0 227 (dk_at dksX0_cyclesOf_3 1 rfl rfl)
theorem dX0_cyclesOf_74 : decode cX0_cyclesOf 74 = .ok (.istore 4, 2) := dk_54 4 (dk_at dksX0_cyclesOf_3 4 rfl rfl)
theorem dX0_cyclesOf_76 : decode cX0_cyclesOf 76 = .ok (.iload 4, 2) := dk_21 4 (dk_at dksX0_cyclesOf_3 6 rfl rfl)
theorem dX0_cyclesOf_78 : decode cX0_cyclesOf 78 = .ok (.ifCond .le 71, 3) := dk_158 0 71 (dk_at dksX0_cyclesOf_3 8 rfl rfl)
theorem dX0_cyclesOf_81 : decode cX0_cyclesOf 81 = .ok (.aload_n 0, 1) := dk_42 (dk_at dksX0_cyclesOf_3 11 rfl rfl)
theorem dX0_cyclesOf_82 : decode cX0_cyclesOf 82 = .ok (.aload_n 0, 1) := dk_42 (dk_at dksX0_cyclesOf_3 12 rfl rfl)
theorem dX0_cyclesOf_83 : decode cX0_cyclesOf 83 = .ok (.getfield 62, 3) := dk_180 0 62 (dk_at dksX0_cyclesOf_3 13 rfl rfl)
theorem dX0_cyclesOf_86 : decode cX0_cyclesOf 86 = .ok (.iload_n 3, 1) := dk_29 (dk_at dksX0_cyclesOf_3 16 rfl rfl)
theorem dX0_cyclesOf_87 : decode cX0_cyclesOf 87 = .ok (.iaload, 1) := dk_46 (dk_at dksX0_cyclesOf_3 17 rfl rfl)
theorem dX0_cyclesOf_88 : decode cX0_cyclesOf 88 = .ok (.iload 4, 2) := dk_21 4 (dk_at dksX0_cyclesOf_3 18 rfl rfl)
theorem dX0_cyclesOf_90 : decode cX0_cyclesOf 90 = .ok (.invokevirtual 282, 3) := dk_182 1 26 (dk_at dksX0_cyclesOf_3 20 rfl rfl)
theorem dX0_cyclesOf_93 : decode cX0_cyclesOf 93 = .ok (.new 285, 3) := dk_187 1 29 (dk_at dksX0_cyclesOf_4 0 rfl rfl)
theorem dX0_cyclesOf_96 : decode cX0_cyclesOf 96 = .ok (.dup, 1) := dk_89 (dk_at dksX0_cyclesOf_4 3 rfl rfl)
theorem dX0_cyclesOf_97 : decode cX0_cyclesOf 97 = .ok (.iload 4, 2) := dk_21 4 (dk_at dksX0_cyclesOf_4 4 rfl rfl)
theorem dX0_cyclesOf_99 : decode cX0_cyclesOf 99 = .ok (.invokespecial 287, 3) := dk_183 1 31 (dk_at dksX0_cyclesOf_4 6 rfl rfl)
theorem dX0_cyclesOf_102 : decode cX0_cyclesOf 102 = .ok (.astore 5, 2) := dk_58 5 (dk_at dksX0_cyclesOf_4 9 rfl rfl)
theorem dX0_cyclesOf_104 : decode cX0_cyclesOf 104 = .ok (.aload_n 2, 1) := dk_44 (dk_at dksX0_cyclesOf_4 11 rfl rfl)
theorem dX0_cyclesOf_105 : decode cX0_cyclesOf 105 = .ok (.aload 5, 2) := dk_25 5 (dk_at dksX0_cyclesOf_4 12 rfl rfl)
theorem dX0_cyclesOf_107 : decode cX0_cyclesOf 107 = .ok (.invokevirtual 288, 3) := dk_182 1 32 (dk_at dksX0_cyclesOf_4 14 rfl rfl)
theorem dX0_cyclesOf_110 : decode cX0_cyclesOf 110 = .ok (.checkcast 292, 3) := dk_192 1 36 (dk_at dksX0_cyclesOf_4 17 rfl rfl)
theorem dX0_cyclesOf_113 : decode cX0_cyclesOf 113 = .ok (.astore 6, 2) := dk_58 6 (dk_at dksX0_cyclesOf_4 20 rfl rfl)
theorem dX0_cyclesOf_115 : decode cX0_cyclesOf 115 = .ok (.aload 6, 2) := dk_25 6 (dk_at dksX0_cyclesOf_4 22 rfl rfl)
theorem dX0_cyclesOf_117 : decode cX0_cyclesOf 117 = .ok (.ifnonnull 21, 3) := dk_199 0 21 (dk_at dksX0_cyclesOf_5 0 rfl rfl)
theorem dX0_cyclesOf_120 : decode cX0_cyclesOf 120 = .ok (.new 292, 3) := dk_187 1 36 (dk_at dksX0_cyclesOf_5 3 rfl rfl)
theorem dX0_cyclesOf_123 : decode cX0_cyclesOf 123 = .ok (.dup, 1) := dk_89 (dk_at dksX0_cyclesOf_5 6 rfl rfl)
theorem dX0_cyclesOf_124 : decode cX0_cyclesOf 124 = .ok (.invokespecial 294, 3) := dk_183 1 38 (dk_at dksX0_cyclesOf_5 7 rfl rfl)
theorem dX0_cyclesOf_127 : decode cX0_cyclesOf 127 = .ok (.astore 6, 2) := dk_58 6 (dk_at dksX0_cyclesOf_5 10 rfl rfl)
theorem dX0_cyclesOf_129 : decode cX0_cyclesOf 129 = .ok (.aload_n 2, 1) := dk_44 (dk_at dksX0_cyclesOf_5 12 rfl rfl)
theorem dX0_cyclesOf_130 : decode cX0_cyclesOf 130 = .ok (.aload 5, 2) := dk_25 5 (dk_at dksX0_cyclesOf_5 13 rfl rfl)
theorem dX0_cyclesOf_132 : decode cX0_cyclesOf 132 = .ok (.aload 6, 2) := dk_25 6 (dk_at dksX0_cyclesOf_5 15 rfl rfl)
theorem dX0_cyclesOf_134 : decode cX0_cyclesOf 134 = .ok (.invokevirtual 295, 3) := dk_182 1 39 (dk_at dksX0_cyclesOf_5 17 rfl rfl)
theorem dX0_cyclesOf_137 : decode cX0_cyclesOf 137 = .ok (.pop, 1) := dk_87 (dk_at dksX0_cyclesOf_5 20 rfl rfl)
theorem dX0_cyclesOf_138 : decode cX0_cyclesOf 138 = .ok (.aload 6, 2) := dk_25 6 (dk_at dksX0_cyclesOf_5 21 rfl rfl)
theorem dX0_cyclesOf_140 : decode cX0_cyclesOf 140 = .ok (.dup, 1) := dk_89 (dk_at dksX0_cyclesOf_5 23 rfl rfl)
theorem dX0_cyclesOf_141 : decode cX0_cyclesOf 141 = .ok (.getfield 299, 3) := dk_180 1 43 (dk_at dksX0_cyclesOf_6 0 rfl rfl)
theorem dX0_cyclesOf_144 : decode cX0_cyclesOf 144 = .ok (.iconst 1, 1) := dk_4 (dk_at dksX0_cyclesOf_6 3 rfl rfl)
theorem dX0_cyclesOf_145 : decode cX0_cyclesOf 145 = .ok (.iadd, 1) := dk_96 (dk_at dksX0_cyclesOf_6 4 rfl rfl)
theorem dX0_cyclesOf_146 : decode cX0_cyclesOf 146 = .ok (.putfield 299, 3) := dk_181 1 43 (dk_at dksX0_cyclesOf_6 5 rfl rfl)
theorem dX0_cyclesOf_149 : decode cX0_cyclesOf 149 = .ok (.iinc 3 1, 3) := dk_132 3 1 (dk_at dksX0_cyclesOf_6 8 rfl rfl)
theorem dX0_cyclesOf_152 : decode cX0_cyclesOf 152 = .ok (.goto (-115), 3) := dk_167 255 141 (dk_at dksX0_cyclesOf_6 11 rfl rfl)
theorem dX0_cyclesOf_155 : decode cX0_cyclesOf 155 = .ok (.aload_n 2, 1) := dk_44 (dk_at dksX0_cyclesOf_6 14 rfl rfl)
theorem dX0_cyclesOf_156 : decode cX0_cyclesOf 156 = .ok (.areturn, 1) := dk_176 (dk_at dksX0_cyclesOf_6 15 rfl rfl)
abbrev cX0_marks : ByteArray := prog_1_method_46_code
def yX0_marks : MethodName := ⟨RX0, "marks", "(II)V"⟩
def dkwX0_marks_1 : List UInt8 := [132, 4, 1, 167, 255, 234, 177]
abbrev dktX0_marks_1 : List UInt8 := dkwX0_marks_1 ++ []
def dkwX0_marks_0 : List UInt8 := [27, 62, 3, 54, 4, 21, 4, 28, 162, 0, 22, 42, 180, 0, 65, 29, 4, 84, 42, 29, 182, 0, 224, 62]
abbrev dktX0_marks_0 : List UInt8 := dkwX0_marks_0 ++ dktX0_marks_1
theorem dksX0_marks_0 : cX0_marks.data.toList.drop 0 = dktX0_marks_0 := by decide +kernel
theorem dksX0_marks_1 : cX0_marks.data.toList.drop 24 = dktX0_marks_1 := dk_seg dksX0_marks_0 24 rfl rfl
theorem dX0_marks_0 : decode cX0_marks 0 = .ok (.iload_n 1, 1) := dk_27 (dk_at dksX0_marks_0 0 rfl rfl)
theorem dX0_marks_1 : decode cX0_marks 1 = .ok (.istore_n 3, 1) := dk_62 (dk_at dksX0_marks_0 1 rfl rfl)
theorem dX0_marks_2 : decode cX0_marks 2 = .ok (.iconst 0, 1) := dk_3 (dk_at dksX0_marks_0 2 rfl rfl)
theorem dX0_marks_3 : decode cX0_marks 3 = .ok (.istore 4, 2) := dk_54 4 (dk_at dksX0_marks_0 3 rfl rfl)
theorem dX0_marks_5 : decode cX0_marks 5 = .ok (.iload 4, 2) := dk_21 4 (dk_at dksX0_marks_0 5 rfl rfl)
theorem dX0_marks_7 : decode cX0_marks 7 = .ok (.iload_n 2, 1) := dk_28 (dk_at dksX0_marks_0 7 rfl rfl)
theorem dX0_marks_8 : decode cX0_marks 8 = .ok (.if_icmp .ge 22, 3) := dk_162 0 22 (dk_at dksX0_marks_0 8 rfl rfl)
theorem dX0_marks_11 : decode cX0_marks 11 = .ok (.aload_n 0, 1) := dk_42 (dk_at dksX0_marks_0 11 rfl rfl)
theorem dX0_marks_12 : decode cX0_marks 12 = .ok (.getfield 65, 3) := dk_180 0 65 (dk_at dksX0_marks_0 12 rfl rfl)
theorem dX0_marks_15 : decode cX0_marks 15 = .ok (.iload_n 3, 1) := dk_29 (dk_at dksX0_marks_0 15 rfl rfl)
theorem dX0_marks_16 : decode cX0_marks 16 = .ok (.iconst 1, 1) := dk_4 (dk_at dksX0_marks_0 16 rfl rfl)
theorem dX0_marks_17 : decode cX0_marks 17 = .ok (.bastore, 1) := dk_84 (dk_at dksX0_marks_0 17 rfl rfl)
theorem dX0_marks_18 : decode cX0_marks 18 = .ok (.aload_n 0, 1) := dk_42 (dk_at dksX0_marks_0 18 rfl rfl)
theorem dX0_marks_19 : decode cX0_marks 19 = .ok (.iload_n 3, 1) := dk_29 (dk_at dksX0_marks_0 19 rfl rfl)
theorem dX0_marks_20 : decode cX0_marks 20 = .ok (.invokevirtual 224, 3) := dk_182 0 224 (dk_at dksX0_marks_0 20 rfl rfl)
theorem dX0_marks_23 : decode cX0_marks 23 = .ok (.istore_n 3, 1) := dk_62 (dk_at dksX0_marks_0 23 rfl rfl)
theorem dX0_marks_24 : decode cX0_marks 24 = .ok (.iinc 4 1, 3) := dk_132 4 1 (dk_at dksX0_marks_1 0 rfl rfl)
theorem dX0_marks_27 : decode cX0_marks 27 = .ok (.goto (-22), 3) := dk_167 255 234 (dk_at dksX0_marks_1 3 rfl rfl)
theorem dX0_marks_30 : decode cX0_marks 30 = .ok (.return_, 1) := dk_177 (dk_at dksX0_marks_1 6 rfl rfl)
abbrev cX0_sumOf : ByteArray := prog_1_method_48_code
def yX0_sumOf : MethodName := ⟨RX0, "sumOf", "(Ljava/util/TreeMap;Z)I"⟩
def dkwX0_sumOf_3 : List UInt8 := [25, 4, 185, 1, 72, 1, 0, 192, 1, 36, 180, 1, 43, 96, 61, 167, 255, 186, 28, 172]
abbrev dktX0_sumOf_3 : List UInt8 := dkwX0_sumOf_3 ++ []
def dkwX0_sumOf_2 : List UInt8 := [192, 1, 29, 180, 1, 70, 25, 4, 185, 1, 72, 1, 0, 192, 1, 36, 180, 1, 43, 104, 167, 0, 16]
abbrev dktX0_sumOf_2 : List UInt8 := dkwX0_sumOf_2 ++ dktX0_sumOf_3
def dkwX0_sumOf_1 : List UInt8 := [185, 1, 62, 1, 0, 192, 1, 65, 58, 4, 28, 27, 153, 0, 33, 25, 4, 185, 1, 67, 1, 0]
abbrev dktX0_sumOf_1 : List UInt8 := dkwX0_sumOf_1 ++ dktX0_sumOf_2
def dkwX0_sumOf_0 : List UInt8 := [3, 61, 42, 182, 1, 46, 185, 1, 50, 1, 0, 78, 45, 185, 1, 56, 1, 0, 153, 0, 67, 45]
abbrev dktX0_sumOf_0 : List UInt8 := dkwX0_sumOf_0 ++ dktX0_sumOf_1
theorem dksX0_sumOf_0 : cX0_sumOf.data.toList.drop 0 = dktX0_sumOf_0 := by decide +kernel
theorem dksX0_sumOf_1 : cX0_sumOf.data.toList.drop 22 = dktX0_sumOf_1 := dk_seg dksX0_sumOf_0 22 rfl rfl
theorem dksX0_sumOf_2 : cX0_sumOf.data.toList.drop 44 = dktX0_sumOf_2 := dk_seg dksX0_sumOf_1 22 rfl rfl
theorem dksX0_sumOf_3 : cX0_sumOf.data.toList.drop 67 = dktX0_sumOf_3 := dk_seg dksX0_sumOf_2 23 rfl rfl
theorem dX0_sumOf_0 : decode cX0_sumOf 0 = .ok (.iconst 0, 1) := dk_3 (dk_at dksX0_sumOf_0 0 rfl rfl)
theorem dX0_sumOf_1 : decode cX0_sumOf 1 = .ok (.istore_n 2, 1) := dk_61 (dk_at dksX0_sumOf_0 1 rfl rfl)
theorem dX0_sumOf_2 : decode cX0_sumOf 2 = .ok (.aload_n 0, 1) := dk_42 (dk_at dksX0_sumOf_0 2 rfl rfl)
theorem dX0_sumOf_3 : decode cX0_sumOf 3 = .ok (.invokevirtual 302, 3) := dk_182 1 46 (dk_at dksX0_sumOf_0 3 rfl rfl)
theorem dX0_sumOf_6 : decode cX0_sumOf 6 = .ok (.invokeinterface 306 1, 5) := by decide +kernel
theorem dX0_sumOf_11 : decode cX0_sumOf 11 = .ok (.astore_n 3, 1) := dk_78 (dk_at dksX0_sumOf_0 11 rfl rfl)
theorem dX0_sumOf_12 : decode cX0_sumOf 12 = .ok (.aload_n 3, 1) := dk_45 (dk_at dksX0_sumOf_0 12 rfl rfl)
theorem dX0_sumOf_13 : decode cX0_sumOf 13 = .ok (.invokeinterface 312 1, 5) := by decide +kernel
theorem dX0_sumOf_18 : decode cX0_sumOf 18 = .ok (.ifCond .eq 67, 3) := dk_153 0 67 (dk_at dksX0_sumOf_0 18 rfl rfl)
theorem dX0_sumOf_21 : decode cX0_sumOf 21 = .ok (.aload_n 3, 1) := dk_45 (dk_at dksX0_sumOf_0 21 rfl rfl)
theorem dX0_sumOf_22 : decode cX0_sumOf 22 = .ok (.invokeinterface 318 1, 5) := by decide +kernel
theorem dX0_sumOf_27 : decode cX0_sumOf 27 = .ok (.checkcast 321, 3) := dk_192 1 65 (dk_at dksX0_sumOf_1 5 rfl rfl)
theorem dX0_sumOf_30 : decode cX0_sumOf 30 = .ok (.astore 4, 2) := dk_58 4 (dk_at dksX0_sumOf_1 8 rfl rfl)
theorem dX0_sumOf_32 : decode cX0_sumOf 32 = .ok (.iload_n 2, 1) := dk_28 (dk_at dksX0_sumOf_1 10 rfl rfl)
theorem dX0_sumOf_33 : decode cX0_sumOf 33 = .ok (.iload_n 1, 1) := dk_27 (dk_at dksX0_sumOf_1 11 rfl rfl)
theorem dX0_sumOf_34 : decode cX0_sumOf 34 = .ok (.ifCond .eq 33, 3) := dk_153 0 33 (dk_at dksX0_sumOf_1 12 rfl rfl)
theorem dX0_sumOf_37 : decode cX0_sumOf 37 = .ok (.aload 4, 2) := dk_25 4 (dk_at dksX0_sumOf_1 15 rfl rfl)
theorem dX0_sumOf_39 : decode cX0_sumOf 39 = .ok (.invokeinterface 323 1, 5) := by decide +kernel
theorem dX0_sumOf_44 : decode cX0_sumOf 44 = .ok (.checkcast 285, 3) := dk_192 1 29 (dk_at dksX0_sumOf_2 0 rfl rfl)
theorem dX0_sumOf_47 : decode cX0_sumOf 47 = .ok (.getfield 326, 3) := dk_180 1 70 (dk_at dksX0_sumOf_2 3 rfl rfl)
theorem dX0_sumOf_50 : decode cX0_sumOf 50 = .ok (.aload 4, 2) := dk_25 4 (dk_at dksX0_sumOf_2 6 rfl rfl)
theorem dX0_sumOf_52 : decode cX0_sumOf 52 = .ok (.invokeinterface 328 1, 5) := by decide +kernel
theorem dX0_sumOf_57 : decode cX0_sumOf 57 = .ok (.checkcast 292, 3) := dk_192 1 36 (dk_at dksX0_sumOf_2 13 rfl rfl)
theorem dX0_sumOf_60 : decode cX0_sumOf 60 = .ok (.getfield 299, 3) := dk_180 1 43 (dk_at dksX0_sumOf_2 16 rfl rfl)
theorem dX0_sumOf_63 : decode cX0_sumOf 63 = .ok (.imul, 1) := dk_104 (dk_at dksX0_sumOf_2 19 rfl rfl)
theorem dX0_sumOf_64 : decode cX0_sumOf 64 = .ok (.goto 16, 3) := dk_167 0 16 (dk_at dksX0_sumOf_2 20 rfl rfl)
theorem dX0_sumOf_67 : decode cX0_sumOf 67 = .ok (.aload 4, 2) := dk_25 4 (dk_at dksX0_sumOf_3 0 rfl rfl)
theorem dX0_sumOf_69 : decode cX0_sumOf 69 = .ok (.invokeinterface 328 1, 5) := by decide +kernel
theorem dX0_sumOf_74 : decode cX0_sumOf 74 = .ok (.checkcast 292, 3) := dk_192 1 36 (dk_at dksX0_sumOf_3 7 rfl rfl)
theorem dX0_sumOf_77 : decode cX0_sumOf 77 = .ok (.getfield 299, 3) := dk_180 1 43 (dk_at dksX0_sumOf_3 10 rfl rfl)
theorem dX0_sumOf_80 : decode cX0_sumOf 80 = .ok (.iadd, 1) := dk_96 (dk_at dksX0_sumOf_3 13 rfl rfl)
theorem dX0_sumOf_81 : decode cX0_sumOf 81 = .ok (.istore_n 2, 1) := dk_61 (dk_at dksX0_sumOf_3 14 rfl rfl)
theorem dX0_sumOf_82 : decode cX0_sumOf 82 = .ok (.goto (-70), 3) := dk_167 255 186 (dk_at dksX0_sumOf_3 15 rfl rfl)
theorem dX0_sumOf_85 : decode cX0_sumOf 85 = .ok (.iload_n 2, 1) := dk_28 (dk_at dksX0_sumOf_3 18 rfl rfl)
theorem dX0_sumOf_86 : decode cX0_sumOf 86 = .ok (.ireturn, 1) := dk_172 (dk_at dksX0_sumOf_3 19 rfl rfl)
abbrev cX0_nthOf : ByteArray := prog_1_method_49_code
def yX0_nthOf : MethodName := ⟨RX0, "nthOf", "(Ljava/util/TreeMap;IZ)I"⟩
def dkwX0_nthOf_3 : List UInt8 := [180, 1, 43, 172, 132, 3, 1, 167, 255, 192, 16, 251, 172]
abbrev dktX0_nthOf_3 : List UInt8 := dkwX0_nthOf_3 ++ []
def dkwX0_nthOf_2 : List UInt8 := [185, 1, 67, 1, 0, 192, 1, 29, 180, 1, 70, 167, 0, 16, 25, 5, 185, 1, 72, 1, 0, 192, 1, 36]
abbrev dktX0_nthOf_2 : List UInt8 := dkwX0_nthOf_2 ++ dktX0_nthOf_3
def dkwX0_nthOf_1 : List UInt8 := [25, 4, 185, 1, 62, 1, 0, 192, 1, 65, 58, 5, 29, 27, 160, 0, 37, 28, 153, 0, 19, 25, 5]
abbrev dktX0_nthOf_1 : List UInt8 := dkwX0_nthOf_1 ++ dktX0_nthOf_2
def dkwX0_nthOf_0 : List UInt8 := [3, 62, 42, 182, 1, 46, 185, 1, 50, 1, 0, 58, 4, 25, 4, 185, 1, 56, 1, 0, 153, 0, 60]
abbrev dktX0_nthOf_0 : List UInt8 := dkwX0_nthOf_0 ++ dktX0_nthOf_1
theorem dksX0_nthOf_0 : cX0_nthOf.data.toList.drop 0 = dktX0_nthOf_0 := by decide +kernel
theorem dksX0_nthOf_1 : cX0_nthOf.data.toList.drop 23 = dktX0_nthOf_1 := dk_seg dksX0_nthOf_0 23 rfl rfl
theorem dksX0_nthOf_2 : cX0_nthOf.data.toList.drop 46 = dktX0_nthOf_2 := dk_seg dksX0_nthOf_1 23 rfl rfl
theorem dksX0_nthOf_3 : cX0_nthOf.data.toList.drop 70 = dktX0_nthOf_3 := dk_seg dksX0_nthOf_2 24 rfl rfl
theorem dX0_nthOf_0 : decode cX0_nthOf 0 = .ok (.iconst 0, 1) := dk_3 (dk_at dksX0_nthOf_0 0 rfl rfl)
theorem dX0_nthOf_1 : decode cX0_nthOf 1 = .ok (.istore_n 3, 1) := dk_62 (dk_at dksX0_nthOf_0 1 rfl rfl)
theorem dX0_nthOf_2 : decode cX0_nthOf 2 = .ok (.aload_n 0, 1) := dk_42 (dk_at dksX0_nthOf_0 2 rfl rfl)
theorem dX0_nthOf_3 : decode cX0_nthOf 3 = .ok (.invokevirtual 302, 3) := dk_182 1 46 (dk_at dksX0_nthOf_0 3 rfl rfl)
theorem dX0_nthOf_6 : decode cX0_nthOf 6 = .ok (.invokeinterface 306 1, 5) := by decide +kernel
theorem dX0_nthOf_11 : decode cX0_nthOf 11 = .ok (.astore 4, 2) := dk_58 4 (dk_at dksX0_nthOf_0 11 rfl rfl)
theorem dX0_nthOf_13 : decode cX0_nthOf 13 = .ok (.aload 4, 2) := dk_25 4 (dk_at dksX0_nthOf_0 13 rfl rfl)
theorem dX0_nthOf_15 : decode cX0_nthOf 15 = .ok (.invokeinterface 312 1, 5) := by decide +kernel
theorem dX0_nthOf_20 : decode cX0_nthOf 20 = .ok (.ifCond .eq 60, 3) := dk_153 0 60 (dk_at dksX0_nthOf_0 20 rfl rfl)
theorem dX0_nthOf_23 : decode cX0_nthOf 23 = .ok (.aload 4, 2) := dk_25 4 (dk_at dksX0_nthOf_1 0 rfl rfl)
theorem dX0_nthOf_25 : decode cX0_nthOf 25 = .ok (.invokeinterface 318 1, 5) := by decide +kernel
theorem dX0_nthOf_30 : decode cX0_nthOf 30 = .ok (.checkcast 321, 3) := dk_192 1 65 (dk_at dksX0_nthOf_1 7 rfl rfl)
theorem dX0_nthOf_33 : decode cX0_nthOf 33 = .ok (.astore 5, 2) := dk_58 5 (dk_at dksX0_nthOf_1 10 rfl rfl)
theorem dX0_nthOf_35 : decode cX0_nthOf 35 = .ok (.iload_n 3, 1) := dk_29 (dk_at dksX0_nthOf_1 12 rfl rfl)
theorem dX0_nthOf_36 : decode cX0_nthOf 36 = .ok (.iload_n 1, 1) := dk_27 (dk_at dksX0_nthOf_1 13 rfl rfl)
theorem dX0_nthOf_37 : decode cX0_nthOf 37 = .ok (.if_icmp .ne 37, 3) := dk_160 0 37 (dk_at dksX0_nthOf_1 14 rfl rfl)
theorem dX0_nthOf_40 : decode cX0_nthOf 40 = .ok (.iload_n 2, 1) := dk_28 (dk_at dksX0_nthOf_1 17 rfl rfl)
theorem dX0_nthOf_41 : decode cX0_nthOf 41 = .ok (.ifCond .eq 19, 3) := dk_153 0 19 (dk_at dksX0_nthOf_1 18 rfl rfl)
theorem dX0_nthOf_44 : decode cX0_nthOf 44 = .ok (.aload 5, 2) := dk_25 5 (dk_at dksX0_nthOf_1 21 rfl rfl)
theorem dX0_nthOf_46 : decode cX0_nthOf 46 = .ok (.invokeinterface 323 1, 5) := by decide +kernel
theorem dX0_nthOf_51 : decode cX0_nthOf 51 = .ok (.checkcast 285, 3) := dk_192 1 29 (dk_at dksX0_nthOf_2 5 rfl rfl)
theorem dX0_nthOf_54 : decode cX0_nthOf 54 = .ok (.getfield 326, 3) := dk_180 1 70 (dk_at dksX0_nthOf_2 8 rfl rfl)
theorem dX0_nthOf_57 : decode cX0_nthOf 57 = .ok (.goto 16, 3) := dk_167 0 16 (dk_at dksX0_nthOf_2 11 rfl rfl)
theorem dX0_nthOf_60 : decode cX0_nthOf 60 = .ok (.aload 5, 2) := dk_25 5 (dk_at dksX0_nthOf_2 14 rfl rfl)
theorem dX0_nthOf_62 : decode cX0_nthOf 62 = .ok (.invokeinterface 328 1, 5) := by decide +kernel
theorem dX0_nthOf_67 : decode cX0_nthOf 67 = .ok (.checkcast 292, 3) := dk_192 1 36 (dk_at dksX0_nthOf_2 21 rfl rfl)
theorem dX0_nthOf_70 : decode cX0_nthOf 70 = .ok (.getfield 299, 3) := dk_180 1 43 (dk_at dksX0_nthOf_3 0 rfl rfl)
theorem dX0_nthOf_73 : decode cX0_nthOf 73 = .ok (.ireturn, 1) := dk_172 (dk_at dksX0_nthOf_3 3 rfl rfl)
theorem dX0_nthOf_74 : decode cX0_nthOf 74 = .ok (.iinc 3 1, 3) := dk_132 3 1 (dk_at dksX0_nthOf_3 4 rfl rfl)
theorem dX0_nthOf_77 : decode cX0_nthOf 77 = .ok (.goto (-64), 3) := dk_167 255 192 (dk_at dksX0_nthOf_3 7 rfl rfl)
theorem dX0_nthOf_80 : decode cX0_nthOf 80 = .ok (.bipush (-5), 2) := dk_16 251 (dk_at dksX0_nthOf_3 10 rfl rfl)
theorem dX0_nthOf_82 : decode cX0_nthOf 82 = .ok (.ireturn, 1) := dk_172 (dk_at dksX0_nthOf_3 12 rfl rfl)
abbrev cX0_degree : ByteArray := prog_1_method_55_code
def yX0_degree : MethodName := ⟨RX0, "degree", "(III)I"⟩
def dkwX0_degree_5 : List UInt8 := [132, 4, 1, 167, 255, 228, 42, 180, 0, 72, 29, 50, 182, 1, 145, 172]
abbrev dktX0_degree_5 : List UInt8 := dkwX0_degree_5 ++ []
def dkwX0_degree_4 : List UInt8 := [162, 0, 28, 42, 3, 182, 1, 142, 153, 0, 11, 42, 4, 182, 1, 142, 154, 0, 6, 16, 249, 172]
abbrev dktX0_degree_4 : List UInt8 := dkwX0_degree_4 ++ dktX0_degree_5
def dkwX0_degree_3 : List UInt8 := [182, 1, 140, 42, 180, 0, 72, 4, 50, 180, 1, 103, 4, 182, 1, 140, 3, 54, 4, 21, 4, 27]
abbrev dktX0_degree_3 : List UInt8 := dkwX0_degree_3 ++ dktX0_degree_4
def dkwX0_degree_2 : List UInt8 := [180, 0, 72, 3, 50, 180, 1, 103, 4, 182, 1, 140, 42, 180, 0, 72, 4, 50, 180, 1, 110, 28]
abbrev dktX0_degree_2 : List UInt8 := dkwX0_degree_2 ++ dktX0_degree_3
def dkwX0_degree_1 : List UInt8 := [184, 0, 7, 154, 0, 6, 16, 254, 172, 42, 180, 0, 72, 3, 50, 180, 1, 110, 182, 1, 137, 42]
abbrev dktX0_degree_1 : List UInt8 := dkwX0_degree_1 ++ dktX0_degree_2
def dkwX0_degree_0 : List UInt8 := [29, 184, 0, 198, 153, 0, 10, 28, 184, 0, 136, 154, 0, 5, 2, 172, 27, 133, 9, 20, 1, 135]
abbrev dktX0_degree_0 : List UInt8 := dkwX0_degree_0 ++ dktX0_degree_1
theorem dksX0_degree_0 : cX0_degree.data.toList.drop 0 = dktX0_degree_0 := by decide +kernel
theorem dksX0_degree_1 : cX0_degree.data.toList.drop 22 = dktX0_degree_1 := dk_seg dksX0_degree_0 22 rfl rfl
theorem dksX0_degree_2 : cX0_degree.data.toList.drop 44 = dktX0_degree_2 := dk_seg dksX0_degree_1 22 rfl rfl
theorem dksX0_degree_3 : cX0_degree.data.toList.drop 66 = dktX0_degree_3 := dk_seg dksX0_degree_2 22 rfl rfl
theorem dksX0_degree_4 : cX0_degree.data.toList.drop 88 = dktX0_degree_4 := dk_seg dksX0_degree_3 22 rfl rfl
theorem dksX0_degree_5 : cX0_degree.data.toList.drop 110 = dktX0_degree_5 := dk_seg dksX0_degree_4 22 rfl rfl
theorem dX0_degree_0 : decode cX0_degree 0 = .ok (.iload_n 3, 1) := dk_29 (dk_at dksX0_degree_0 0 rfl rfl)
theorem dX0_degree_1 : decode cX0_degree 1 = .ok (.invokestatic 198, 3) := dk_184 0 198 (dk_at dksX0_degree_0 1 rfl rfl)
theorem dX0_degree_4 : decode cX0_degree 4 = .ok (.ifCond .eq 10, 3) := dk_153 0 10 (dk_at dksX0_degree_0 4 rfl rfl)
theorem dX0_degree_7 : decode cX0_degree 7 = .ok (.iload_n 2, 1) := dk_28 (dk_at dksX0_degree_0 7 rfl rfl)
theorem dX0_degree_8 : decode cX0_degree 8 = .ok (.invokestatic 136, 3) := dk_184 0 136 (dk_at dksX0_degree_0 8 rfl rfl)
theorem dX0_degree_11 : decode cX0_degree 11 = .ok (.ifCond .ne 5, 3) := dk_154 0 5 (dk_at dksX0_degree_0 11 rfl rfl)
theorem dX0_degree_14 : decode cX0_degree 14 = .ok (.iconst (-1), 1) := dk_2 (dk_at dksX0_degree_0 14 rfl rfl)
theorem dX0_degree_15 : decode cX0_degree 15 = .ok (.ireturn, 1) := dk_172 (dk_at dksX0_degree_0 15 rfl rfl)
theorem dX0_degree_16 : decode cX0_degree 16 = .ok (.iload_n 1, 1) := dk_27 (dk_at dksX0_degree_0 16 rfl rfl)
theorem dX0_degree_17 : decode cX0_degree 17 = .ok (.i2l, 1) := dk_133 (dk_at dksX0_degree_0 17 rfl rfl)
theorem dX0_degree_18 : decode cX0_degree 18 = .ok (.lconst 0, 1) := dk_9 (dk_at dksX0_degree_0 18 rfl rfl)
theorem dX0_degree_19 : decode cX0_degree 19 = .ok (.ldc2_w 391, 3) := dk_20 1 135 (dk_at dksX0_degree_0 19 rfl rfl)
theorem dX0_degree_22 : decode cX0_degree 22 = .ok (.invokestatic 7, 3) := dk_184 0 7 (dk_at dksX0_degree_1 0 rfl rfl)
theorem dX0_degree_25 : decode cX0_degree 25 = .ok (.ifCond .ne 6, 3) := dk_154 0 6 (dk_at dksX0_degree_1 3 rfl rfl)
theorem dX0_degree_28 : decode cX0_degree 28 = .ok (.bipush (-2), 2) := dk_16 254 (dk_at dksX0_degree_1 6 rfl rfl)
theorem dX0_degree_30 : decode cX0_degree 30 = .ok (.ireturn, 1) := dk_172 (dk_at dksX0_degree_1 8 rfl rfl)
theorem dX0_degree_31 : decode cX0_degree 31 = .ok (.aload_n 0, 1) := dk_42 (dk_at dksX0_degree_1 9 rfl rfl)
theorem dX0_degree_32 : decode cX0_degree 32 = .ok (.getfield 72, 3) := dk_180 0 72 (dk_at dksX0_degree_1 10 rfl rfl)
theorem dX0_degree_35 : decode cX0_degree 35 = .ok (.iconst 0, 1) := dk_3 (dk_at dksX0_degree_1 13 rfl rfl)
theorem dX0_degree_36 : decode cX0_degree 36 = .ok (.aaload, 1) := dk_50 (dk_at dksX0_degree_1 14 rfl rfl)
theorem dX0_degree_37 : decode cX0_degree 37 = .ok (.getfield 366, 3) := dk_180 1 110 (dk_at dksX0_degree_1 15 rfl rfl)
theorem dX0_degree_40 : decode cX0_degree 40 = .ok (.invokevirtual 393, 3) := dk_182 1 137 (dk_at dksX0_degree_1 18 rfl rfl)
theorem dX0_degree_43 : decode cX0_degree 43 = .ok (.aload_n 0, 1) := dk_42 (dk_at dksX0_degree_1 21 rfl rfl)
theorem dX0_degree_44 : decode cX0_degree 44 = .ok (.getfield 72, 3) := dk_180 0 72 (dk_at dksX0_degree_2 0 rfl rfl)
theorem dX0_degree_47 : decode cX0_degree 47 = .ok (.iconst 0, 1) := dk_3 (dk_at dksX0_degree_2 3 rfl rfl)
theorem dX0_degree_48 : decode cX0_degree 48 = .ok (.aaload, 1) := dk_50 (dk_at dksX0_degree_2 4 rfl rfl)
theorem dX0_degree_49 : decode cX0_degree 49 = .ok (.getfield 359, 3) := dk_180 1 103 (dk_at dksX0_degree_2 5 rfl rfl)
theorem dX0_degree_52 : decode cX0_degree 52 = .ok (.iconst 1, 1) := dk_4 (dk_at dksX0_degree_2 8 rfl rfl)
theorem dX0_degree_53 : decode cX0_degree 53 = .ok (.invokevirtual 396, 3) := dk_182 1 140 (dk_at dksX0_degree_2 9 rfl rfl)
theorem dX0_degree_56 : decode cX0_degree 56 = .ok (.aload_n 0, 1) := dk_42 (dk_at dksX0_degree_2 12 rfl rfl)
theorem dX0_degree_57 : decode cX0_degree 57 = .ok (.getfield 72, 3) := dk_180 0 72 (dk_at dksX0_degree_2 13 rfl rfl)
theorem dX0_degree_60 : decode cX0_degree 60 = .ok (.iconst 1, 1) := dk_4 (dk_at dksX0_degree_2 16 rfl rfl)
theorem dX0_degree_61 : decode cX0_degree 61 = .ok (.aaload, 1) := dk_50 (dk_at dksX0_degree_2 17 rfl rfl)
theorem dX0_degree_62 : decode cX0_degree 62 = .ok (.getfield 366, 3) := dk_180 1 110 (dk_at dksX0_degree_2 18 rfl rfl)
theorem dX0_degree_65 : decode cX0_degree 65 = .ok (.iload_n 2, 1) := dk_28 (dk_at dksX0_degree_2 21 rfl rfl)
theorem dX0_degree_66 : decode cX0_degree 66 = .ok (.invokevirtual 396, 3) := dk_182 1 140 (dk_at dksX0_degree_3 0 rfl rfl)
theorem dX0_degree_69 : decode cX0_degree 69 = .ok (.aload_n 0, 1) := dk_42 (dk_at dksX0_degree_3 3 rfl rfl)
theorem dX0_degree_70 : decode cX0_degree 70 = .ok (.getfield 72, 3) := dk_180 0 72 (dk_at dksX0_degree_3 4 rfl rfl)
theorem dX0_degree_73 : decode cX0_degree 73 = .ok (.iconst 1, 1) := dk_4 (dk_at dksX0_degree_3 7 rfl rfl)
theorem dX0_degree_74 : decode cX0_degree 74 = .ok (.aaload, 1) := dk_50 (dk_at dksX0_degree_3 8 rfl rfl)
theorem dX0_degree_75 : decode cX0_degree 75 = .ok (.getfield 359, 3) := dk_180 1 103 (dk_at dksX0_degree_3 9 rfl rfl)
theorem dX0_degree_78 : decode cX0_degree 78 = .ok (.iconst 1, 1) := dk_4 (dk_at dksX0_degree_3 12 rfl rfl)
theorem dX0_degree_79 : decode cX0_degree 79 = .ok (.invokevirtual 396, 3) := dk_182 1 140 (dk_at dksX0_degree_3 13 rfl rfl)
theorem dX0_degree_82 : decode cX0_degree 82 = .ok (.iconst 0, 1) := dk_3 (dk_at dksX0_degree_3 16 rfl rfl)
theorem dX0_degree_83 : decode cX0_degree 83 = .ok (.istore 4, 2) := dk_54 4 (dk_at dksX0_degree_3 17 rfl rfl)
theorem dX0_degree_85 : decode cX0_degree 85 = .ok (.iload 4, 2) := dk_21 4 (dk_at dksX0_degree_3 19 rfl rfl)
theorem dX0_degree_87 : decode cX0_degree 87 = .ok (.iload_n 1, 1) := dk_27 (dk_at dksX0_degree_3 21 rfl rfl)
theorem dX0_degree_88 : decode cX0_degree 88 = .ok (.if_icmp .ge 28, 3) := dk_162 0 28 (dk_at dksX0_degree_4 0 rfl rfl)
theorem dX0_degree_91 : decode cX0_degree 91 = .ok (.aload_n 0, 1) := dk_42 (dk_at dksX0_degree_4 3 rfl rfl)
theorem dX0_degree_92 : decode cX0_degree 92 = .ok (.iconst 0, 1) := dk_3 (dk_at dksX0_degree_4 4 rfl rfl)
theorem dX0_degree_93 : decode cX0_degree 93 = .ok (.invokevirtual 398, 3) := dk_182 1 142 (dk_at dksX0_degree_4 5 rfl rfl)
theorem dX0_degree_96 : decode cX0_degree 96 = .ok (.ifCond .eq 11, 3) := dk_153 0 11 (dk_at dksX0_degree_4 8 rfl rfl)
theorem dX0_degree_99 : decode cX0_degree 99 = .ok (.aload_n 0, 1) := dk_42 (dk_at dksX0_degree_4 11 rfl rfl)
theorem dX0_degree_100 : decode cX0_degree 100 = .ok (.iconst 1, 1) := dk_4 (dk_at dksX0_degree_4 12 rfl rfl)
theorem dX0_degree_101 : decode cX0_degree 101 = .ok (.invokevirtual 398, 3) := dk_182 1 142 (dk_at dksX0_degree_4 13 rfl rfl)
theorem dX0_degree_104 : decode cX0_degree 104 = .ok (.ifCond .ne 6, 3) := dk_154 0 6 (dk_at dksX0_degree_4 16 rfl rfl)
theorem dX0_degree_107 : decode cX0_degree 107 = .ok (.bipush (-7), 2) := dk_16 249 (dk_at dksX0_degree_4 19 rfl rfl)
theorem dX0_degree_109 : decode cX0_degree 109 = .ok (.ireturn, 1) := dk_172 (dk_at dksX0_degree_4 21 rfl rfl)
theorem dX0_degree_110 : decode cX0_degree 110 = .ok (.iinc 4 1, 3) := dk_132 4 1 (dk_at dksX0_degree_5 0 rfl rfl)
theorem dX0_degree_113 : decode cX0_degree 113 = .ok (.goto (-28), 3) := dk_167 255 228 (dk_at dksX0_degree_5 3 rfl rfl)
theorem dX0_degree_116 : decode cX0_degree 116 = .ok (.aload_n 0, 1) := dk_42 (dk_at dksX0_degree_5 6 rfl rfl)
theorem dX0_degree_117 : decode cX0_degree 117 = .ok (.getfield 72, 3) := dk_180 0 72 (dk_at dksX0_degree_5 7 rfl rfl)
theorem dX0_degree_120 : decode cX0_degree 120 = .ok (.iload_n 3, 1) := dk_29 (dk_at dksX0_degree_5 10 rfl rfl)
theorem dX0_degree_121 : decode cX0_degree 121 = .ok (.aaload, 1) := dk_50 (dk_at dksX0_degree_5 11 rfl rfl)
theorem dX0_degree_122 : decode cX0_degree 122 = .ok (.invokevirtual 401, 3) := dk_182 1 145 (dk_at dksX0_degree_5 12 rfl rfl)
theorem dX0_degree_125 : decode cX0_degree 125 = .ok (.ireturn, 1) := dk_172 (dk_at dksX0_degree_5 15 rfl rfl)
abbrev cX0_swapsSide : ByteArray := prog_1_method_54_code
def yX0_swapsSide : MethodName := ⟨RX0, "swapsSide", "(I)Z"⟩
def dkwX0_swapsSide_6 : List UInt8 := [182, 1, 116, 44, 180, 1, 103, 42, 180, 0, 93, 182, 1, 116, 42, 44, 182, 1, 131, 4, 172]
abbrev dktX0_swapsSide_6 : List UInt8 := dkwX0_swapsSide_6 ++ []
def dkwX0_swapsSide_5 : List UInt8 := [154, 0, 15, 42, 180, 0, 93, 180, 1, 98, 154, 0, 5, 3, 172, 44, 180, 1, 110, 42, 180, 0, 89]
abbrev dktX0_swapsSide_5 : List UInt8 := dkwX0_swapsSide_5 ++ dktX0_swapsSide_6
def dkwX0_swapsSide_4 : List UInt8 := [180, 0, 93, 42, 180, 0, 86, 4, 50, 44, 180, 1, 103, 4, 182, 1, 99, 42, 180, 0, 89, 180, 1, 98]
abbrev dktX0_swapsSide_4 : List UInt8 := dkwX0_swapsSide_4 ++ dktX0_swapsSide_5
def dkwX0_swapsSide_3 : List UInt8 := [181, 1, 98, 42, 180, 0, 93, 42, 180, 0, 86, 3, 50, 44, 180, 1, 110, 4, 182, 1, 99, 42]
abbrev dktX0_swapsSide_3 : List UInt8 := dkwX0_swapsSide_3 ++ dktX0_swapsSide_4
def dkwX0_swapsSide_2 : List UInt8 := [180, 0, 89, 42, 180, 0, 86, 5, 50, 44, 180, 1, 103, 16, 30, 182, 1, 99, 42, 180, 0, 93, 3]
abbrev dktX0_swapsSide_2 : List UInt8 := dkwX0_swapsSide_2 ++ dktX0_swapsSide_3
def dkwX0_swapsSide_1 : List UInt8 := [3, 181, 1, 98, 42, 180, 0, 89, 42, 180, 0, 86, 4, 50, 44, 180, 1, 110, 16, 30, 182, 1, 99, 42]
abbrev dktX0_swapsSide_1 : List UInt8 := dkwX0_swapsSide_1 ++ dktX0_swapsSide_2
def dkwX0_swapsSide_0 : List UInt8 := [42, 27, 42, 180, 0, 72, 4, 27, 100, 50, 182, 1, 127, 42, 180, 0, 72, 27, 50, 77, 42, 180, 0, 89]
abbrev dktX0_swapsSide_0 : List UInt8 := dkwX0_swapsSide_0 ++ dktX0_swapsSide_1
theorem dksX0_swapsSide_0 : cX0_swapsSide.data.toList.drop 0 = dktX0_swapsSide_0 := by decide +kernel
theorem dksX0_swapsSide_1 : cX0_swapsSide.data.toList.drop 24 = dktX0_swapsSide_1 := dk_seg dksX0_swapsSide_0 24 rfl rfl
theorem dksX0_swapsSide_2 : cX0_swapsSide.data.toList.drop 48 = dktX0_swapsSide_2 := dk_seg dksX0_swapsSide_1 24 rfl rfl
theorem dksX0_swapsSide_3 : cX0_swapsSide.data.toList.drop 71 = dktX0_swapsSide_3 := dk_seg dksX0_swapsSide_2 23 rfl rfl
theorem dksX0_swapsSide_4 : cX0_swapsSide.data.toList.drop 93 = dktX0_swapsSide_4 := dk_seg dksX0_swapsSide_3 22 rfl rfl
theorem dksX0_swapsSide_5 : cX0_swapsSide.data.toList.drop 117 = dktX0_swapsSide_5 := dk_seg dksX0_swapsSide_4 24 rfl rfl
theorem dksX0_swapsSide_6 : cX0_swapsSide.data.toList.drop 140 = dktX0_swapsSide_6 := dk_seg dksX0_swapsSide_5 23 rfl rfl
theorem dX0_swapsSide_0 : decode cX0_swapsSide 0 = .ok (.aload_n 0, 1) := dk_42 (dk_at dksX0_swapsSide_0 0 rfl rfl)
theorem dX0_swapsSide_1 : decode cX0_swapsSide 1 = .ok (.iload_n 1, 1) := dk_27 (dk_at dksX0_swapsSide_0 1 rfl rfl)
theorem dX0_swapsSide_2 : decode cX0_swapsSide 2 = .ok (.aload_n 0, 1) := dk_42 (dk_at dksX0_swapsSide_0 2 rfl rfl)
theorem dX0_swapsSide_3 : decode cX0_swapsSide 3 = .ok (.getfield 72, 3) := dk_180 0 72 (dk_at dksX0_swapsSide_0 3 rfl rfl)
theorem dX0_swapsSide_6 : decode cX0_swapsSide 6 = .ok (.iconst 1, 1) := dk_4 (dk_at dksX0_swapsSide_0 6 rfl rfl)
theorem dX0_swapsSide_7 : decode cX0_swapsSide 7 = .ok (.iload_n 1, 1) := dk_27 (dk_at dksX0_swapsSide_0 7 rfl rfl)
theorem dX0_swapsSide_8 : decode cX0_swapsSide 8 = .ok (.isub, 1) := dk_100 (dk_at dksX0_swapsSide_0 8 rfl rfl)
theorem dX0_swapsSide_9 : decode cX0_swapsSide 9 = .ok (.aaload, 1) := dk_50 (dk_at dksX0_swapsSide_0 9 rfl rfl)
theorem dX0_swapsSide_10 : decode cX0_swapsSide 10 = .ok (.invokevirtual 383, 3) := dk_182 1 127 (dk_at dksX0_swapsSide_0 10 rfl rfl)
theorem dX0_swapsSide_13 : decode cX0_swapsSide 13 = .ok (.aload_n 0, 1) := dk_42 (dk_at dksX0_swapsSide_0 13 rfl rfl)
theorem dX0_swapsSide_14 : decode cX0_swapsSide 14 = .ok (.getfield 72, 3) := dk_180 0 72 (dk_at dksX0_swapsSide_0 14 rfl rfl)
theorem dX0_swapsSide_17 : decode cX0_swapsSide 17 = .ok (.iload_n 1, 1) := dk_27 (dk_at dksX0_swapsSide_0 17 rfl rfl)
theorem dX0_swapsSide_18 : decode cX0_swapsSide 18 = .ok (.aaload, 1) := dk_50 (dk_at dksX0_swapsSide_0 18 rfl rfl)
theorem dX0_swapsSide_19 : decode cX0_swapsSide 19 = .ok (.astore_n 2, 1) := dk_77 (dk_at dksX0_swapsSide_0 19 rfl rfl)
theorem dX0_swapsSide_20 : decode cX0_swapsSide 20 = .ok (.aload_n 0, 1) := dk_42 (dk_at dksX0_swapsSide_0 20 rfl rfl)
theorem dX0_swapsSide_21 : decode cX0_swapsSide 21 = .ok (.getfield 89, 3) := dk_180 0 89 (dk_at dksX0_swapsSide_0 21 rfl rfl)
theorem dX0_swapsSide_24 : decode cX0_swapsSide 24 = .ok (.iconst 0, 1) := dk_3 (dk_at dksX0_swapsSide_1 0 rfl rfl)
theorem dX0_swapsSide_25 : decode cX0_swapsSide 25 = .ok (.putfield 354, 3) := dk_181 1 98 (dk_at dksX0_swapsSide_1 1 rfl rfl)
theorem dX0_swapsSide_28 : decode cX0_swapsSide 28 = .ok (.aload_n 0, 1) := dk_42 (dk_at dksX0_swapsSide_1 4 rfl rfl)
theorem dX0_swapsSide_29 : decode cX0_swapsSide 29 = .ok (.getfield 89, 3) := dk_180 0 89 (dk_at dksX0_swapsSide_1 5 rfl rfl)
theorem dX0_swapsSide_32 : decode cX0_swapsSide 32 = .ok (.aload_n 0, 1) := dk_42 (dk_at dksX0_swapsSide_1 8 rfl rfl)
theorem dX0_swapsSide_33 : decode cX0_swapsSide 33 = .ok (.getfield 86, 3) := dk_180 0 86 (dk_at dksX0_swapsSide_1 9 rfl rfl)
theorem dX0_swapsSide_36 : decode cX0_swapsSide 36 = .ok (.iconst 1, 1) := dk_4 (dk_at dksX0_swapsSide_1 12 rfl rfl)
theorem dX0_swapsSide_37 : decode cX0_swapsSide 37 = .ok (.aaload, 1) := dk_50 (dk_at dksX0_swapsSide_1 13 rfl rfl)
theorem dX0_swapsSide_38 : decode cX0_swapsSide 38 = .ok (.aload_n 2, 1) := dk_44 (dk_at dksX0_swapsSide_1 14 rfl rfl)
theorem dX0_swapsSide_39 : decode cX0_swapsSide 39 = .ok (.getfield 366, 3) := dk_180 1 110 (dk_at dksX0_swapsSide_1 15 rfl rfl)
theorem dX0_swapsSide_42 : decode cX0_swapsSide 42 = .ok (.bipush 30, 2) := dk_16 30 (dk_at dksX0_swapsSide_1 18 rfl rfl)
theorem dX0_swapsSide_44 : decode cX0_swapsSide 44 = .ok (.invokevirtual 355, 3) := dk_182 1 99 (dk_at dksX0_swapsSide_1 20 rfl rfl)
theorem dX0_swapsSide_47 : decode cX0_swapsSide 47 = .ok (.aload_n 0, 1) := dk_42 (dk_at dksX0_swapsSide_1 23 rfl rfl)
theorem dX0_swapsSide_48 : decode cX0_swapsSide 48 = .ok (.getfield 89, 3) := dk_180 0 89 (dk_at dksX0_swapsSide_2 0 rfl rfl)
theorem dX0_swapsSide_51 : decode cX0_swapsSide 51 = .ok (.aload_n 0, 1) := dk_42 (dk_at dksX0_swapsSide_2 3 rfl rfl)
theorem dX0_swapsSide_52 : decode cX0_swapsSide 52 = .ok (.getfield 86, 3) := dk_180 0 86 (dk_at dksX0_swapsSide_2 4 rfl rfl)
theorem dX0_swapsSide_55 : decode cX0_swapsSide 55 = .ok (.iconst 2, 1) := dk_5 (dk_at dksX0_swapsSide_2 7 rfl rfl)
theorem dX0_swapsSide_56 : decode cX0_swapsSide 56 = .ok (.aaload, 1) := dk_50 (dk_at dksX0_swapsSide_2 8 rfl rfl)
theorem dX0_swapsSide_57 : decode cX0_swapsSide 57 = .ok (.aload_n 2, 1) := dk_44 (dk_at dksX0_swapsSide_2 9 rfl rfl)
theorem dX0_swapsSide_58 : decode cX0_swapsSide 58 = .ok (.getfield 359, 3) := dk_180 1 103 (dk_at dksX0_swapsSide_2 10 rfl rfl)
theorem dX0_swapsSide_61 : decode cX0_swapsSide 61 = .ok (.bipush 30, 2) := dk_16 30 (dk_at dksX0_swapsSide_2 13 rfl rfl)
theorem dX0_swapsSide_63 : decode cX0_swapsSide 63 = .ok (.invokevirtual 355, 3) := dk_182 1 99 (dk_at dksX0_swapsSide_2 15 rfl rfl)
theorem dX0_swapsSide_66 : decode cX0_swapsSide 66 = .ok (.aload_n 0, 1) := dk_42 (dk_at dksX0_swapsSide_2 18 rfl rfl)
theorem dX0_swapsSide_67 : decode cX0_swapsSide 67 = .ok (.getfield 93, 3) := dk_180 0 93 (dk_at dksX0_swapsSide_2 19 rfl rfl)
theorem dX0_swapsSide_70 : decode cX0_swapsSide 70 = .ok (.iconst 0, 1) := dk_3 (dk_at dksX0_swapsSide_2 22 rfl rfl)
theorem dX0_swapsSide_71 : decode cX0_swapsSide 71 = .ok (.putfield 354, 3) := dk_181 1 98 (dk_at dksX0_swapsSide_3 0 rfl rfl)
theorem dX0_swapsSide_74 : decode cX0_swapsSide 74 = .ok (.aload_n 0, 1) := dk_42 (dk_at dksX0_swapsSide_3 3 rfl rfl)
theorem dX0_swapsSide_75 : decode cX0_swapsSide 75 = .ok (.getfield 93, 3) := dk_180 0 93 (dk_at dksX0_swapsSide_3 4 rfl rfl)
theorem dX0_swapsSide_78 : decode cX0_swapsSide 78 = .ok (.aload_n 0, 1) := dk_42 (dk_at dksX0_swapsSide_3 7 rfl rfl)
theorem dX0_swapsSide_79 : decode cX0_swapsSide 79 = .ok (.getfield 86, 3) := dk_180 0 86 (dk_at dksX0_swapsSide_3 8 rfl rfl)
theorem dX0_swapsSide_82 : decode cX0_swapsSide 82 = .ok (.iconst 0, 1) := dk_3 (dk_at dksX0_swapsSide_3 11 rfl rfl)
theorem dX0_swapsSide_83 : decode cX0_swapsSide 83 = .ok (.aaload, 1) := dk_50 (dk_at dksX0_swapsSide_3 12 rfl rfl)
theorem dX0_swapsSide_84 : decode cX0_swapsSide 84 = .ok (.aload_n 2, 1) := dk_44 (dk_at dksX0_swapsSide_3 13 rfl rfl)
theorem dX0_swapsSide_85 : decode cX0_swapsSide 85 = .ok (.getfield 366, 3) := dk_180 1 110 (dk_at dksX0_swapsSide_3 14 rfl rfl)
theorem dX0_swapsSide_88 : decode cX0_swapsSide 88 = .ok (.iconst 1, 1) := dk_4 (dk_at dksX0_swapsSide_3 17 rfl rfl)
theorem dX0_swapsSide_89 : decode cX0_swapsSide 89 = .ok (.invokevirtual 355, 3) := dk_182 1 99 (dk_at dksX0_swapsSide_3 18 rfl rfl)
theorem dX0_swapsSide_92 : decode cX0_swapsSide 92 = .ok (.aload_n 0, 1) := dk_42 (dk_at dksX0_swapsSide_3 21 rfl rfl)
theorem dX0_swapsSide_93 : decode cX0_swapsSide 93 = .ok (.getfield 93, 3) := dk_180 0 93 (dk_at dksX0_swapsSide_4 0 rfl rfl)
theorem dX0_swapsSide_96 : decode cX0_swapsSide 96 = .ok (.aload_n 0, 1) := dk_42 (dk_at dksX0_swapsSide_4 3 rfl rfl)
theorem dX0_swapsSide_97 : decode cX0_swapsSide 97 = .ok (.getfield 86, 3) := dk_180 0 86 (dk_at dksX0_swapsSide_4 4 rfl rfl)
theorem dX0_swapsSide_100 : decode cX0_swapsSide 100 = .ok (.iconst 1, 1) := dk_4 (dk_at dksX0_swapsSide_4 7 rfl rfl)
theorem dX0_swapsSide_101 : decode cX0_swapsSide 101 = .ok (.aaload, 1) := dk_50 (dk_at dksX0_swapsSide_4 8 rfl rfl)
theorem dX0_swapsSide_102 : decode cX0_swapsSide 102 = .ok (.aload_n 2, 1) := dk_44 (dk_at dksX0_swapsSide_4 9 rfl rfl)
theorem dX0_swapsSide_103 : decode cX0_swapsSide 103 = .ok (.getfield 359, 3) := dk_180 1 103 (dk_at dksX0_swapsSide_4 10 rfl rfl)
theorem dX0_swapsSide_106 : decode cX0_swapsSide 106 = .ok (.iconst 1, 1) := dk_4 (dk_at dksX0_swapsSide_4 13 rfl rfl)
theorem dX0_swapsSide_107 : decode cX0_swapsSide 107 = .ok (.invokevirtual 355, 3) := dk_182 1 99 (dk_at dksX0_swapsSide_4 14 rfl rfl)
theorem dX0_swapsSide_110 : decode cX0_swapsSide 110 = .ok (.aload_n 0, 1) := dk_42 (dk_at dksX0_swapsSide_4 17 rfl rfl)
theorem dX0_swapsSide_111 : decode cX0_swapsSide 111 = .ok (.getfield 89, 3) := dk_180 0 89 (dk_at dksX0_swapsSide_4 18 rfl rfl)
theorem dX0_swapsSide_114 : decode cX0_swapsSide 114 = .ok (.getfield 354, 3) := dk_180 1 98 (dk_at dksX0_swapsSide_4 21 rfl rfl)
theorem dX0_swapsSide_117 : decode cX0_swapsSide 117 = .ok (.ifCond .ne 15, 3) := dk_154 0 15 (dk_at dksX0_swapsSide_5 0 rfl rfl)
theorem dX0_swapsSide_120 : decode cX0_swapsSide 120 = .ok (.aload_n 0, 1) := dk_42 (dk_at dksX0_swapsSide_5 3 rfl rfl)
theorem dX0_swapsSide_121 : decode cX0_swapsSide 121 = .ok (.getfield 93, 3) := dk_180 0 93 (dk_at dksX0_swapsSide_5 4 rfl rfl)
theorem dX0_swapsSide_124 : decode cX0_swapsSide 124 = .ok (.getfield 354, 3) := dk_180 1 98 (dk_at dksX0_swapsSide_5 7 rfl rfl)
theorem dX0_swapsSide_127 : decode cX0_swapsSide 127 = .ok (.ifCond .ne 5, 3) := dk_154 0 5 (dk_at dksX0_swapsSide_5 10 rfl rfl)
theorem dX0_swapsSide_130 : decode cX0_swapsSide 130 = .ok (.iconst 0, 1) := dk_3 (dk_at dksX0_swapsSide_5 13 rfl rfl)
theorem dX0_swapsSide_131 : decode cX0_swapsSide 131 = .ok (.ireturn, 1) := dk_172 (dk_at dksX0_swapsSide_5 14 rfl rfl)
theorem dX0_swapsSide_132 : decode cX0_swapsSide 132 = .ok (.aload_n 2, 1) := dk_44 (dk_at dksX0_swapsSide_5 15 rfl rfl)
theorem dX0_swapsSide_133 : decode cX0_swapsSide 133 = .ok (.getfield 366, 3) := dk_180 1 110 (dk_at dksX0_swapsSide_5 16 rfl rfl)
theorem dX0_swapsSide_136 : decode cX0_swapsSide 136 = .ok (.aload_n 0, 1) := dk_42 (dk_at dksX0_swapsSide_5 19 rfl rfl)
theorem dX0_swapsSide_137 : decode cX0_swapsSide 137 = .ok (.getfield 89, 3) := dk_180 0 89 (dk_at dksX0_swapsSide_5 20 rfl rfl)
theorem dX0_swapsSide_140 : decode cX0_swapsSide 140 = .ok (.invokevirtual 372, 3) := dk_182 1 116 (dk_at dksX0_swapsSide_6 0 rfl rfl)
theorem dX0_swapsSide_143 : decode cX0_swapsSide 143 = .ok (.aload_n 2, 1) := dk_44 (dk_at dksX0_swapsSide_6 3 rfl rfl)
theorem dX0_swapsSide_144 : decode cX0_swapsSide 144 = .ok (.getfield 359, 3) := dk_180 1 103 (dk_at dksX0_swapsSide_6 4 rfl rfl)
theorem dX0_swapsSide_147 : decode cX0_swapsSide 147 = .ok (.aload_n 0, 1) := dk_42 (dk_at dksX0_swapsSide_6 7 rfl rfl)
theorem dX0_swapsSide_148 : decode cX0_swapsSide 148 = .ok (.getfield 93, 3) := dk_180 0 93 (dk_at dksX0_swapsSide_6 8 rfl rfl)
theorem dX0_swapsSide_151 : decode cX0_swapsSide 151 = .ok (.invokevirtual 372, 3) := dk_182 1 116 (dk_at dksX0_swapsSide_6 11 rfl rfl)
theorem dX0_swapsSide_154 : decode cX0_swapsSide 154 = .ok (.aload_n 0, 1) := dk_42 (dk_at dksX0_swapsSide_6 14 rfl rfl)
theorem dX0_swapsSide_155 : decode cX0_swapsSide 155 = .ok (.aload_n 2, 1) := dk_44 (dk_at dksX0_swapsSide_6 15 rfl rfl)
theorem dX0_swapsSide_156 : decode cX0_swapsSide 156 = .ok (.invokevirtual 387, 3) := dk_182 1 131 (dk_at dksX0_swapsSide_6 16 rfl rfl)
theorem dX0_swapsSide_159 : decode cX0_swapsSide 159 = .ok (.iconst 1, 1) := dk_4 (dk_at dksX0_swapsSide_6 19 rfl rfl)
theorem dX0_swapsSide_160 : decode cX0_swapsSide 160 = .ok (.ireturn, 1) := dk_172 (dk_at dksX0_swapsSide_6 20 rfl rfl)
abbrev cX0_tellsRows : ByteArray := prog_1_method_52_code
def yX0_tellsRows : MethodName := ⟨RX0, "tellsRows", "(ILKeptCurves$Fraction;)V"⟩
def dkwX0_tellsRows_11 : List UInt8 := [132, 3, 1, 167, 255, 162, 177]
abbrev dktX0_tellsRows_11 : List UInt8 := dkwX0_tellsRows_11 ++ []
def dkwX0_tellsRows_10 : List UInt8 := [50, 42, 180, 0, 83, 21, 5, 50, 42, 180, 0, 83, 6, 21, 4, 96, 50, 16, 30, 182, 1, 99]
abbrev dktX0_tellsRows_10 : List UInt8 := dkwX0_tellsRows_10 ++ dktX0_tellsRows_11
def dkwX0_tellsRows_9 : List UInt8 := [180, 0, 83, 21, 4, 50, 42, 180, 0, 83, 6, 21, 5, 96, 50, 4, 182, 1, 99, 42, 180, 0, 86, 29]
abbrev dktX0_tellsRows_9 : List UInt8 := dkwX0_tellsRows_9 ++ dktX0_tellsRows_10
def dkwX0_tellsRows_8 : List UInt8 := [167, 0, 4, 3, 54, 5, 42, 180, 0, 86, 29, 50, 3, 181, 1, 98, 42, 180, 0, 86, 29, 50, 42]
abbrev dktX0_tellsRows_8 : List UInt8 := dkwX0_tellsRows_8 ++ dktX0_tellsRows_9
def dkwX0_tellsRows_7 : List UInt8 := [62, 29, 6, 162, 0, 95, 29, 5, 160, 0, 7, 4, 167, 0, 4, 5, 54, 4, 29, 154, 0, 7, 4]
abbrev dktX0_tellsRows_7 : List UInt8 := dkwX0_tellsRows_7 ++ dktX0_tellsRows_8
def dkwX0_tellsRows_6 : List UInt8 := [46, 3, 182, 1, 113, 132, 6, 1, 167, 255, 195, 132, 4, 1, 167, 255, 161, 132, 3, 1, 167, 255, 147, 3]
abbrev dktX0_tellsRows_6 : List UInt8 := dkwX0_tellsRows_6 ++ dktX0_tellsRows_7
def dkwX0_tellsRows_5 : List UInt8 := [21, 6, 184, 0, 142, 46, 167, 0, 19, 42, 180, 0, 36, 180, 0, 139, 29, 21, 6, 21, 4, 184, 0, 142]
abbrev dktX0_tellsRows_5 : List UInt8 := dkwX0_tellsRows_5 ++ dktX0_tellsRows_6
def dkwX0_tellsRows_4 : List UInt8 := [25, 5, 42, 180, 0, 79, 21, 6, 50, 27, 154, 0, 22, 42, 180, 0, 36, 180, 0, 139, 29, 21, 4]
abbrev dktX0_tellsRows_4 : List UInt8 := dkwX0_tellsRows_4 ++ dktX0_tellsRows_5
def dkwX0_tellsRows_3 : List UInt8 := [29, 104, 21, 4, 96, 50, 58, 5, 25, 5, 3, 181, 1, 98, 3, 54, 6, 21, 6, 6, 162, 0, 61]
abbrev dktX0_tellsRows_3 : List UInt8 := dkwX0_tellsRows_3 ++ dktX0_tellsRows_4
def dkwX0_tellsRows_2 : List UInt8 := [184, 1, 106, 3, 62, 29, 5, 162, 0, 110, 3, 54, 4, 21, 4, 6, 162, 0, 95, 42, 180, 0, 83, 6]
abbrev dktX0_tellsRows_2 : List UInt8 := dkwX0_tellsRows_2 ++ dktX0_tellsRows_3
def dkwX0_tellsRows_1 : List UInt8 := [180, 1, 110, 44, 180, 1, 103, 184, 1, 106, 42, 180, 0, 79, 5, 50, 44, 180, 1, 110, 44, 180, 1, 110]
abbrev dktX0_tellsRows_1 : List UInt8 := dkwX0_tellsRows_1 ++ dktX0_tellsRows_2
def dkwX0_tellsRows_0 : List UInt8 := [42, 180, 0, 79, 3, 50, 44, 180, 1, 103, 44, 180, 1, 103, 184, 1, 106, 42, 180, 0, 79, 4, 50, 44]
abbrev dktX0_tellsRows_0 : List UInt8 := dkwX0_tellsRows_0 ++ dktX0_tellsRows_1
theorem dksX0_tellsRows_0 : cX0_tellsRows.data.toList.drop 0 = dktX0_tellsRows_0 := by decide +kernel
theorem dksX0_tellsRows_1 : cX0_tellsRows.data.toList.drop 24 = dktX0_tellsRows_1 := dk_seg dksX0_tellsRows_0 24 rfl rfl
theorem dksX0_tellsRows_2 : cX0_tellsRows.data.toList.drop 48 = dktX0_tellsRows_2 := dk_seg dksX0_tellsRows_1 24 rfl rfl
theorem dksX0_tellsRows_3 : cX0_tellsRows.data.toList.drop 72 = dktX0_tellsRows_3 := dk_seg dksX0_tellsRows_2 24 rfl rfl
theorem dksX0_tellsRows_4 : cX0_tellsRows.data.toList.drop 95 = dktX0_tellsRows_4 := dk_seg dksX0_tellsRows_3 23 rfl rfl
theorem dksX0_tellsRows_5 : cX0_tellsRows.data.toList.drop 118 = dktX0_tellsRows_5 := dk_seg dksX0_tellsRows_4 23 rfl rfl
theorem dksX0_tellsRows_6 : cX0_tellsRows.data.toList.drop 142 = dktX0_tellsRows_6 := dk_seg dksX0_tellsRows_5 24 rfl rfl
theorem dksX0_tellsRows_7 : cX0_tellsRows.data.toList.drop 166 = dktX0_tellsRows_7 := dk_seg dksX0_tellsRows_6 24 rfl rfl
theorem dksX0_tellsRows_8 : cX0_tellsRows.data.toList.drop 189 = dktX0_tellsRows_8 := dk_seg dksX0_tellsRows_7 23 rfl rfl
theorem dksX0_tellsRows_9 : cX0_tellsRows.data.toList.drop 212 = dktX0_tellsRows_9 := dk_seg dksX0_tellsRows_8 23 rfl rfl
theorem dksX0_tellsRows_10 : cX0_tellsRows.data.toList.drop 236 = dktX0_tellsRows_10 := dk_seg dksX0_tellsRows_9 24 rfl rfl
theorem dksX0_tellsRows_11 : cX0_tellsRows.data.toList.drop 258 = dktX0_tellsRows_11 := dk_seg dksX0_tellsRows_10 22 rfl rfl
theorem dX0_tellsRows_0 : decode cX0_tellsRows 0 = .ok (.aload_n 0, 1) := dk_42 (dk_at dksX0_tellsRows_0 0 rfl rfl)
theorem dX0_tellsRows_1 : decode cX0_tellsRows 1 = .ok (.getfield 79, 3) := dk_180 0 79 (dk_at dksX0_tellsRows_0 1 rfl rfl)
theorem dX0_tellsRows_4 : decode cX0_tellsRows 4 = .ok (.iconst 0, 1) := dk_3 (dk_at dksX0_tellsRows_0 4 rfl rfl)
theorem dX0_tellsRows_5 : decode cX0_tellsRows 5 = .ok (.aaload, 1) := dk_50 (dk_at dksX0_tellsRows_0 5 rfl rfl)
theorem dX0_tellsRows_6 : decode cX0_tellsRows 6 = .ok (.aload_n 2, 1) := dk_44 (dk_at dksX0_tellsRows_0 6 rfl rfl)
theorem dX0_tellsRows_7 : decode cX0_tellsRows 7 = .ok (.getfield 359, 3) := dk_180 1 103 (dk_at dksX0_tellsRows_0 7 rfl rfl)
theorem dX0_tellsRows_10 : decode cX0_tellsRows 10 = .ok (.aload_n 2, 1) := dk_44 (dk_at dksX0_tellsRows_0 10 rfl rfl)
theorem dX0_tellsRows_11 : decode cX0_tellsRows 11 = .ok (.getfield 359, 3) := dk_180 1 103 (dk_at dksX0_tellsRows_0 11 rfl rfl)
theorem dX0_tellsRows_14 : decode cX0_tellsRows 14 = .ok (.invokestatic 362, 3) := dk_184 1 106 (dk_at dksX0_tellsRows_0 14 rfl rfl)
theorem dX0_tellsRows_17 : decode cX0_tellsRows 17 = .ok (.aload_n 0, 1) := dk_42 (dk_at dksX0_tellsRows_0 17 rfl rfl)
theorem dX0_tellsRows_18 : decode cX0_tellsRows 18 = .ok (.getfield 79, 3) := dk_180 0 79 (dk_at dksX0_tellsRows_0 18 rfl rfl)
theorem dX0_tellsRows_21 : decode cX0_tellsRows 21 = .ok (.iconst 1, 1) := dk_4 (dk_at dksX0_tellsRows_0 21 rfl rfl)
theorem dX0_tellsRows_22 : decode cX0_tellsRows 22 = .ok (.aaload, 1) := dk_50 (dk_at dksX0_tellsRows_0 22 rfl rfl)
theorem dX0_tellsRows_23 : decode cX0_tellsRows 23 = .ok (.aload_n 2, 1) := dk_44 (dk_at dksX0_tellsRows_0 23 rfl rfl)
theorem dX0_tellsRows_24 : decode cX0_tellsRows 24 = .ok (.getfield 366, 3) := dk_180 1 110 (dk_at dksX0_tellsRows_1 0 rfl rfl)
theorem dX0_tellsRows_27 : decode cX0_tellsRows 27 = .ok (.aload_n 2, 1) := dk_44 (dk_at dksX0_tellsRows_1 3 rfl rfl)
theorem dX0_tellsRows_28 : decode cX0_tellsRows 28 = .ok (.getfield 359, 3) := dk_180 1 103 (dk_at dksX0_tellsRows_1 4 rfl rfl)
theorem dX0_tellsRows_31 : decode cX0_tellsRows 31 = .ok (.invokestatic 362, 3) := dk_184 1 106 (dk_at dksX0_tellsRows_1 7 rfl rfl)
theorem dX0_tellsRows_34 : decode cX0_tellsRows 34 = .ok (.aload_n 0, 1) := dk_42 (dk_at dksX0_tellsRows_1 10 rfl rfl)
theorem dX0_tellsRows_35 : decode cX0_tellsRows 35 = .ok (.getfield 79, 3) := dk_180 0 79 (dk_at dksX0_tellsRows_1 11 rfl rfl)
theorem dX0_tellsRows_38 : decode cX0_tellsRows 38 = .ok (.iconst 2, 1) := dk_5 (dk_at dksX0_tellsRows_1 14 rfl rfl)
theorem dX0_tellsRows_39 : decode cX0_tellsRows 39 = .ok (.aaload, 1) := dk_50 (dk_at dksX0_tellsRows_1 15 rfl rfl)
theorem dX0_tellsRows_40 : decode cX0_tellsRows 40 = .ok (.aload_n 2, 1) := dk_44 (dk_at dksX0_tellsRows_1 16 rfl rfl)
theorem dX0_tellsRows_41 : decode cX0_tellsRows 41 = .ok (.getfield 366, 3) := dk_180 1 110 (dk_at dksX0_tellsRows_1 17 rfl rfl)
theorem dX0_tellsRows_44 : decode cX0_tellsRows 44 = .ok (.aload_n 2, 1) := dk_44 (dk_at dksX0_tellsRows_1 20 rfl rfl)
theorem dX0_tellsRows_45 : decode cX0_tellsRows 45 = .ok (.getfield 366, 3) := dk_180 1 110 (dk_at dksX0_tellsRows_1 21 rfl rfl)
theorem dX0_tellsRows_48 : decode cX0_tellsRows 48 = .ok (.invokestatic 362, 3) := dk_184 1 106 (dk_at dksX0_tellsRows_2 0 rfl rfl)
theorem dX0_tellsRows_51 : decode cX0_tellsRows 51 = .ok (.iconst 0, 1) := dk_3 (dk_at dksX0_tellsRows_2 3 rfl rfl)
theorem dX0_tellsRows_52 : decode cX0_tellsRows 52 = .ok (.istore_n 3, 1) := dk_62 (dk_at dksX0_tellsRows_2 4 rfl rfl)
theorem dX0_tellsRows_53 : decode cX0_tellsRows 53 = .ok (.iload_n 3, 1) := dk_29 (dk_at dksX0_tellsRows_2 5 rfl rfl)
theorem dX0_tellsRows_54 : decode cX0_tellsRows 54 = .ok (.iconst 2, 1) := dk_5 (dk_at dksX0_tellsRows_2 6 rfl rfl)
theorem dX0_tellsRows_55 : decode cX0_tellsRows 55 = .ok (.if_icmp .ge 110, 3) := dk_162 0 110 (dk_at dksX0_tellsRows_2 7 rfl rfl)
theorem dX0_tellsRows_58 : decode cX0_tellsRows 58 = .ok (.iconst 0, 1) := dk_3 (dk_at dksX0_tellsRows_2 10 rfl rfl)
theorem dX0_tellsRows_59 : decode cX0_tellsRows 59 = .ok (.istore 4, 2) := dk_54 4 (dk_at dksX0_tellsRows_2 11 rfl rfl)
theorem dX0_tellsRows_61 : decode cX0_tellsRows 61 = .ok (.iload 4, 2) := dk_21 4 (dk_at dksX0_tellsRows_2 13 rfl rfl)
theorem dX0_tellsRows_63 : decode cX0_tellsRows 63 = .ok (.iconst 3, 1) := dk_6 (dk_at dksX0_tellsRows_2 15 rfl rfl)
theorem dX0_tellsRows_64 : decode cX0_tellsRows 64 = .ok (.if_icmp .ge 95, 3) := dk_162 0 95 (dk_at dksX0_tellsRows_2 16 rfl rfl)
theorem dX0_tellsRows_67 : decode cX0_tellsRows 67 = .ok (.aload_n 0, 1) := dk_42 (dk_at dksX0_tellsRows_2 19 rfl rfl)
theorem dX0_tellsRows_68 : decode cX0_tellsRows 68 = .ok (.getfield 83, 3) := dk_180 0 83 (dk_at dksX0_tellsRows_2 20 rfl rfl)
theorem dX0_tellsRows_71 : decode cX0_tellsRows 71 = .ok (.iconst 3, 1) := dk_6 (dk_at dksX0_tellsRows_2 23 rfl rfl)
theorem dX0_tellsRows_72 : decode cX0_tellsRows 72 = .ok (.iload_n 3, 1) := dk_29 (dk_at dksX0_tellsRows_3 0 rfl rfl)
theorem dX0_tellsRows_73 : decode cX0_tellsRows 73 = .ok (.imul, 1) := dk_104 (dk_at dksX0_tellsRows_3 1 rfl rfl)
theorem dX0_tellsRows_74 : decode cX0_tellsRows 74 = .ok (.iload 4, 2) := dk_21 4 (dk_at dksX0_tellsRows_3 2 rfl rfl)
theorem dX0_tellsRows_76 : decode cX0_tellsRows 76 = .ok (.iadd, 1) := dk_96 (dk_at dksX0_tellsRows_3 4 rfl rfl)
theorem dX0_tellsRows_77 : decode cX0_tellsRows 77 = .ok (.aaload, 1) := dk_50 (dk_at dksX0_tellsRows_3 5 rfl rfl)
theorem dX0_tellsRows_78 : decode cX0_tellsRows 78 = .ok (.astore 5, 2) := dk_58 5 (dk_at dksX0_tellsRows_3 6 rfl rfl)
theorem dX0_tellsRows_80 : decode cX0_tellsRows 80 = .ok (.aload 5, 2) := dk_25 5 (dk_at dksX0_tellsRows_3 8 rfl rfl)
theorem dX0_tellsRows_82 : decode cX0_tellsRows 82 = .ok (.iconst 0, 1) := dk_3 (dk_at dksX0_tellsRows_3 10 rfl rfl)
theorem dX0_tellsRows_83 : decode cX0_tellsRows 83 = .ok (.putfield 354, 3) := dk_181 1 98 (dk_at dksX0_tellsRows_3 11 rfl rfl)
theorem dX0_tellsRows_86 : decode cX0_tellsRows 86 = .ok (.iconst 0, 1) := dk_3 (dk_at dksX0_tellsRows_3 14 rfl rfl)
theorem dX0_tellsRows_87 : decode cX0_tellsRows 87 = .ok (.istore 6, 2) := dk_54 6 (dk_at dksX0_tellsRows_3 15 rfl rfl)
theorem dX0_tellsRows_89 : decode cX0_tellsRows 89 = .ok (.iload 6, 2) := dk_21 6 (dk_at dksX0_tellsRows_3 17 rfl rfl)
theorem dX0_tellsRows_91 : decode cX0_tellsRows 91 = .ok (.iconst 3, 1) := dk_6 (dk_at dksX0_tellsRows_3 19 rfl rfl)
theorem dX0_tellsRows_92 : decode cX0_tellsRows 92 = .ok (.if_icmp .ge 61, 3) := dk_162 0 61 (dk_at dksX0_tellsRows_3 20 rfl rfl)
theorem dX0_tellsRows_95 : decode cX0_tellsRows 95 = .ok (.aload 5, 2) := dk_25 5 (dk_at dksX0_tellsRows_4 0 rfl rfl)
theorem dX0_tellsRows_97 : decode cX0_tellsRows 97 = .ok (.aload_n 0, 1) := dk_42 (dk_at dksX0_tellsRows_4 2 rfl rfl)
theorem dX0_tellsRows_98 : decode cX0_tellsRows 98 = .ok (.getfield 79, 3) := dk_180 0 79 (dk_at dksX0_tellsRows_4 3 rfl rfl)
theorem dX0_tellsRows_101 : decode cX0_tellsRows 101 = .ok (.iload 6, 2) := dk_21 6 (dk_at dksX0_tellsRows_4 6 rfl rfl)
theorem dX0_tellsRows_103 : decode cX0_tellsRows 103 = .ok (.aaload, 1) := dk_50 (dk_at dksX0_tellsRows_4 8 rfl rfl)
theorem dX0_tellsRows_104 : decode cX0_tellsRows 104 = .ok (.iload_n 1, 1) := dk_27 (dk_at dksX0_tellsRows_4 9 rfl rfl)
theorem dX0_tellsRows_105 : decode cX0_tellsRows 105 = .ok (.ifCond .ne 22, 3) := dk_154 0 22 (dk_at dksX0_tellsRows_4 10 rfl rfl)
theorem dX0_tellsRows_108 : decode cX0_tellsRows 108 = .ok (.aload_n 0, 1) := dk_42 (dk_at dksX0_tellsRows_4 13 rfl rfl)
theorem dX0_tellsRows_109 : decode cX0_tellsRows 109 = .ok (.getfield 36, 3) := dk_180 0 36 (dk_at dksX0_tellsRows_4 14 rfl rfl)
theorem dX0_tellsRows_112 : decode cX0_tellsRows 112 = .ok (.getfield 139, 3) := dk_180 0 139 (dk_at dksX0_tellsRows_4 17 rfl rfl)
theorem dX0_tellsRows_115 : decode cX0_tellsRows 115 = .ok (.iload_n 3, 1) := dk_29 (dk_at dksX0_tellsRows_4 20 rfl rfl)
theorem dX0_tellsRows_116 : decode cX0_tellsRows 116 = .ok (.iload 4, 2) := dk_21 4 (dk_at dksX0_tellsRows_4 21 rfl rfl)
theorem dX0_tellsRows_118 : decode cX0_tellsRows 118 = .ok (.iload 6, 2) := dk_21 6 (dk_at dksX0_tellsRows_5 0 rfl rfl)
theorem dX0_tellsRows_120 : decode cX0_tellsRows 120 = .ok (.invokestatic 142, 3) := dk_184 0 142 (dk_at dksX0_tellsRows_5 2 rfl rfl)
theorem dX0_tellsRows_123 : decode cX0_tellsRows 123 = .ok (.iaload, 1) := dk_46 (dk_at dksX0_tellsRows_5 5 rfl rfl)
theorem dX0_tellsRows_124 : decode cX0_tellsRows 124 = .ok (.goto 19, 3) := dk_167 0 19 (dk_at dksX0_tellsRows_5 6 rfl rfl)
theorem dX0_tellsRows_127 : decode cX0_tellsRows 127 = .ok (.aload_n 0, 1) := dk_42 (dk_at dksX0_tellsRows_5 9 rfl rfl)
theorem dX0_tellsRows_128 : decode cX0_tellsRows 128 = .ok (.getfield 36, 3) := dk_180 0 36 (dk_at dksX0_tellsRows_5 10 rfl rfl)
theorem dX0_tellsRows_131 : decode cX0_tellsRows 131 = .ok (.getfield 139, 3) := dk_180 0 139 (dk_at dksX0_tellsRows_5 13 rfl rfl)
theorem dX0_tellsRows_134 : decode cX0_tellsRows 134 = .ok (.iload_n 3, 1) := dk_29 (dk_at dksX0_tellsRows_5 16 rfl rfl)
theorem dX0_tellsRows_135 : decode cX0_tellsRows 135 = .ok (.iload 6, 2) := dk_21 6 (dk_at dksX0_tellsRows_5 17 rfl rfl)
theorem dX0_tellsRows_137 : decode cX0_tellsRows 137 = .ok (.iload 4, 2) := dk_21 4 (dk_at dksX0_tellsRows_5 19 rfl rfl)
theorem dX0_tellsRows_139 : decode cX0_tellsRows 139 = .ok (.invokestatic 142, 3) := dk_184 0 142 (dk_at dksX0_tellsRows_5 21 rfl rfl)
theorem dX0_tellsRows_142 : decode cX0_tellsRows 142 = .ok (.iaload, 1) := dk_46 (dk_at dksX0_tellsRows_6 0 rfl rfl)
theorem dX0_tellsRows_143 : decode cX0_tellsRows 143 = .ok (.iconst 0, 1) := dk_3 (dk_at dksX0_tellsRows_6 1 rfl rfl)
theorem dX0_tellsRows_144 : decode cX0_tellsRows 144 = .ok (.invokevirtual 369, 3) := dk_182 1 113 (dk_at dksX0_tellsRows_6 2 rfl rfl)
theorem dX0_tellsRows_147 : decode cX0_tellsRows 147 = .ok (.iinc 6 1, 3) := dk_132 6 1 (dk_at dksX0_tellsRows_6 5 rfl rfl)
theorem dX0_tellsRows_150 : decode cX0_tellsRows 150 = .ok (.goto (-61), 3) := dk_167 255 195 (dk_at dksX0_tellsRows_6 8 rfl rfl)
theorem dX0_tellsRows_153 : decode cX0_tellsRows 153 = .ok (.iinc 4 1, 3) := dk_132 4 1 (dk_at dksX0_tellsRows_6 11 rfl rfl)
theorem dX0_tellsRows_156 : decode cX0_tellsRows 156 = .ok (.goto (-95), 3) := dk_167 255 161 (dk_at dksX0_tellsRows_6 14 rfl rfl)
theorem dX0_tellsRows_159 : decode cX0_tellsRows 159 = .ok (.iinc 3 1, 3) := dk_132 3 1 (dk_at dksX0_tellsRows_6 17 rfl rfl)
theorem dX0_tellsRows_162 : decode cX0_tellsRows 162 = .ok (.goto (-109), 3) := dk_167 255 147 (dk_at dksX0_tellsRows_6 20 rfl rfl)
theorem dX0_tellsRows_165 : decode cX0_tellsRows 165 = .ok (.iconst 0, 1) := dk_3 (dk_at dksX0_tellsRows_6 23 rfl rfl)
theorem dX0_tellsRows_166 : decode cX0_tellsRows 166 = .ok (.istore_n 3, 1) := dk_62 (dk_at dksX0_tellsRows_7 0 rfl rfl)
theorem dX0_tellsRows_167 : decode cX0_tellsRows 167 = .ok (.iload_n 3, 1) := dk_29 (dk_at dksX0_tellsRows_7 1 rfl rfl)
theorem dX0_tellsRows_168 : decode cX0_tellsRows 168 = .ok (.iconst 3, 1) := dk_6 (dk_at dksX0_tellsRows_7 2 rfl rfl)
theorem dX0_tellsRows_169 : decode cX0_tellsRows 169 = .ok (.if_icmp .ge 95, 3) := dk_162 0 95 (dk_at dksX0_tellsRows_7 3 rfl rfl)
theorem dX0_tellsRows_172 : decode cX0_tellsRows 172 = .ok (.iload_n 3, 1) := dk_29 (dk_at dksX0_tellsRows_7 6 rfl rfl)
theorem dX0_tellsRows_173 : decode cX0_tellsRows 173 = .ok (.iconst 2, 1) := dk_5 (dk_at dksX0_tellsRows_7 7 rfl rfl)
theorem dX0_tellsRows_174 : decode cX0_tellsRows 174 = .ok (.if_icmp .ne 7, 3) := dk_160 0 7 (dk_at dksX0_tellsRows_7 8 rfl rfl)
theorem dX0_tellsRows_177 : decode cX0_tellsRows 177 = .ok (.iconst 1, 1) := dk_4 (dk_at dksX0_tellsRows_7 11 rfl rfl)
theorem dX0_tellsRows_178 : decode cX0_tellsRows 178 = .ok (.goto 4, 3) := dk_167 0 4 (dk_at dksX0_tellsRows_7 12 rfl rfl)
theorem dX0_tellsRows_181 : decode cX0_tellsRows 181 = .ok (.iconst 2, 1) := dk_5 (dk_at dksX0_tellsRows_7 15 rfl rfl)
theorem dX0_tellsRows_182 : decode cX0_tellsRows 182 = .ok (.istore 4, 2) := dk_54 4 (dk_at dksX0_tellsRows_7 16 rfl rfl)
theorem dX0_tellsRows_184 : decode cX0_tellsRows 184 = .ok (.iload_n 3, 1) := dk_29 (dk_at dksX0_tellsRows_7 18 rfl rfl)
theorem dX0_tellsRows_185 : decode cX0_tellsRows 185 = .ok (.ifCond .ne 7, 3) := dk_154 0 7 (dk_at dksX0_tellsRows_7 19 rfl rfl)
theorem dX0_tellsRows_188 : decode cX0_tellsRows 188 = .ok (.iconst 1, 1) := dk_4 (dk_at dksX0_tellsRows_7 22 rfl rfl)
theorem dX0_tellsRows_189 : decode cX0_tellsRows 189 = .ok (.goto 4, 3) := dk_167 0 4 (dk_at dksX0_tellsRows_8 0 rfl rfl)
theorem dX0_tellsRows_192 : decode cX0_tellsRows 192 = .ok (.iconst 0, 1) := dk_3 (dk_at dksX0_tellsRows_8 3 rfl rfl)
theorem dX0_tellsRows_193 : decode cX0_tellsRows 193 = .ok (.istore 5, 2) := dk_54 5 (dk_at dksX0_tellsRows_8 4 rfl rfl)
theorem dX0_tellsRows_195 : decode cX0_tellsRows 195 = .ok (.aload_n 0, 1) := dk_42 (dk_at dksX0_tellsRows_8 6 rfl rfl)
theorem dX0_tellsRows_196 : decode cX0_tellsRows 196 = .ok (.getfield 86, 3) := dk_180 0 86 (dk_at dksX0_tellsRows_8 7 rfl rfl)
theorem dX0_tellsRows_199 : decode cX0_tellsRows 199 = .ok (.iload_n 3, 1) := dk_29 (dk_at dksX0_tellsRows_8 10 rfl rfl)
theorem dX0_tellsRows_200 : decode cX0_tellsRows 200 = .ok (.aaload, 1) := dk_50 (dk_at dksX0_tellsRows_8 11 rfl rfl)
theorem dX0_tellsRows_201 : decode cX0_tellsRows 201 = .ok (.iconst 0, 1) := dk_3 (dk_at dksX0_tellsRows_8 12 rfl rfl)
theorem dX0_tellsRows_202 : decode cX0_tellsRows 202 = .ok (.putfield 354, 3) := dk_181 1 98 (dk_at dksX0_tellsRows_8 13 rfl rfl)
theorem dX0_tellsRows_205 : decode cX0_tellsRows 205 = .ok (.aload_n 0, 1) := dk_42 (dk_at dksX0_tellsRows_8 16 rfl rfl)
theorem dX0_tellsRows_206 : decode cX0_tellsRows 206 = .ok (.getfield 86, 3) := dk_180 0 86 (dk_at dksX0_tellsRows_8 17 rfl rfl)
theorem dX0_tellsRows_209 : decode cX0_tellsRows 209 = .ok (.iload_n 3, 1) := dk_29 (dk_at dksX0_tellsRows_8 20 rfl rfl)
theorem dX0_tellsRows_210 : decode cX0_tellsRows 210 = .ok (.aaload, 1) := dk_50 (dk_at dksX0_tellsRows_8 21 rfl rfl)
theorem dX0_tellsRows_211 : decode cX0_tellsRows 211 = .ok (.aload_n 0, 1) := dk_42 (dk_at dksX0_tellsRows_8 22 rfl rfl)
theorem dX0_tellsRows_212 : decode cX0_tellsRows 212 = .ok (.getfield 83, 3) := dk_180 0 83 (dk_at dksX0_tellsRows_9 0 rfl rfl)
theorem dX0_tellsRows_215 : decode cX0_tellsRows 215 = .ok (.iload 4, 2) := dk_21 4 (dk_at dksX0_tellsRows_9 3 rfl rfl)
theorem dX0_tellsRows_217 : decode cX0_tellsRows 217 = .ok (.aaload, 1) := dk_50 (dk_at dksX0_tellsRows_9 5 rfl rfl)
theorem dX0_tellsRows_218 : decode cX0_tellsRows 218 = .ok (.aload_n 0, 1) := dk_42 (dk_at dksX0_tellsRows_9 6 rfl rfl)
theorem dX0_tellsRows_219 : decode cX0_tellsRows 219 = .ok (.getfield 83, 3) := dk_180 0 83 (dk_at dksX0_tellsRows_9 7 rfl rfl)
theorem dX0_tellsRows_222 : decode cX0_tellsRows 222 = .ok (.iconst 3, 1) := dk_6 (dk_at dksX0_tellsRows_9 10 rfl rfl)
theorem dX0_tellsRows_223 : decode cX0_tellsRows 223 = .ok (.iload 5, 2) := dk_21 5 (dk_at dksX0_tellsRows_9 11 rfl rfl)
theorem dX0_tellsRows_225 : decode cX0_tellsRows 225 = .ok (.iadd, 1) := dk_96 (dk_at dksX0_tellsRows_9 13 rfl rfl)
theorem dX0_tellsRows_226 : decode cX0_tellsRows 226 = .ok (.aaload, 1) := dk_50 (dk_at dksX0_tellsRows_9 14 rfl rfl)
theorem dX0_tellsRows_227 : decode cX0_tellsRows 227 = .ok (.iconst 1, 1) := dk_4 (dk_at dksX0_tellsRows_9 15 rfl rfl)
theorem dX0_tellsRows_228 : decode cX0_tellsRows 228 = .ok (.invokevirtual 355, 3) := dk_182 1 99 (dk_at dksX0_tellsRows_9 16 rfl rfl)
theorem dX0_tellsRows_231 : decode cX0_tellsRows 231 = .ok (.aload_n 0, 1) := dk_42 (dk_at dksX0_tellsRows_9 19 rfl rfl)
theorem dX0_tellsRows_232 : decode cX0_tellsRows 232 = .ok (.getfield 86, 3) := dk_180 0 86 (dk_at dksX0_tellsRows_9 20 rfl rfl)
theorem dX0_tellsRows_235 : decode cX0_tellsRows 235 = .ok (.iload_n 3, 1) := dk_29 (dk_at dksX0_tellsRows_9 23 rfl rfl)
theorem dX0_tellsRows_236 : decode cX0_tellsRows 236 = .ok (.aaload, 1) := dk_50 (dk_at dksX0_tellsRows_10 0 rfl rfl)
theorem dX0_tellsRows_237 : decode cX0_tellsRows 237 = .ok (.aload_n 0, 1) := dk_42 (dk_at dksX0_tellsRows_10 1 rfl rfl)
theorem dX0_tellsRows_238 : decode cX0_tellsRows 238 = .ok (.getfield 83, 3) := dk_180 0 83 (dk_at dksX0_tellsRows_10 2 rfl rfl)
theorem dX0_tellsRows_241 : decode cX0_tellsRows 241 = .ok (.iload 5, 2) := dk_21 5 (dk_at dksX0_tellsRows_10 5 rfl rfl)
theorem dX0_tellsRows_243 : decode cX0_tellsRows 243 = .ok (.aaload, 1) := dk_50 (dk_at dksX0_tellsRows_10 7 rfl rfl)
theorem dX0_tellsRows_244 : decode cX0_tellsRows 244 = .ok (.aload_n 0, 1) := dk_42 (dk_at dksX0_tellsRows_10 8 rfl rfl)
theorem dX0_tellsRows_245 : decode cX0_tellsRows 245 = .ok (.getfield 83, 3) := dk_180 0 83 (dk_at dksX0_tellsRows_10 9 rfl rfl)
theorem dX0_tellsRows_248 : decode cX0_tellsRows 248 = .ok (.iconst 3, 1) := dk_6 (dk_at dksX0_tellsRows_10 12 rfl rfl)
theorem dX0_tellsRows_249 : decode cX0_tellsRows 249 = .ok (.iload 4, 2) := dk_21 4 (dk_at dksX0_tellsRows_10 13 rfl rfl)
theorem dX0_tellsRows_251 : decode cX0_tellsRows 251 = .ok (.iadd, 1) := dk_96 (dk_at dksX0_tellsRows_10 15 rfl rfl)
theorem dX0_tellsRows_252 : decode cX0_tellsRows 252 = .ok (.aaload, 1) := dk_50 (dk_at dksX0_tellsRows_10 16 rfl rfl)
theorem dX0_tellsRows_253 : decode cX0_tellsRows 253 = .ok (.bipush 30, 2) := dk_16 30 (dk_at dksX0_tellsRows_10 17 rfl rfl)
theorem dX0_tellsRows_255 : decode cX0_tellsRows 255 = .ok (.invokevirtual 355, 3) := dk_182 1 99 (dk_at dksX0_tellsRows_10 19 rfl rfl)
theorem dX0_tellsRows_258 : decode cX0_tellsRows 258 = .ok (.iinc 3 1, 3) := dk_132 3 1 (dk_at dksX0_tellsRows_11 0 rfl rfl)
theorem dX0_tellsRows_261 : decode cX0_tellsRows 261 = .ok (.goto (-94), 3) := dk_167 255 162 (dk_at dksX0_tellsRows_11 3 rfl rfl)
theorem dX0_tellsRows_264 : decode cX0_tellsRows 264 = .ok (.return_, 1) := dk_177 (dk_at dksX0_tellsRows_11 6 rfl rfl)
abbrev cX0_becomes : ByteArray := prog_1_method_51_code
def yX0_becomes : MethodName := ⟨RX0, "becomes", "(LKeptCurves$Poly;LKeptCurves$Poly;LKeptCurves$Poly;)V"⟩
def dkwX0_becomes_0 : List UInt8 := [42, 3, 181, 1, 98, 42, 43, 44, 4, 182, 1, 99, 177]
abbrev dktX0_becomes_0 : List UInt8 := dkwX0_becomes_0 ++ []
theorem dksX0_becomes_0 : cX0_becomes.data.toList.drop 0 = dktX0_becomes_0 := by decide +kernel
theorem dX0_becomes_0 : decode cX0_becomes 0 = .ok (.aload_n 0, 1) := dk_42 (dk_at dksX0_becomes_0 0 rfl rfl)
theorem dX0_becomes_1 : decode cX0_becomes 1 = .ok (.iconst 0, 1) := dk_3 (dk_at dksX0_becomes_0 1 rfl rfl)
theorem dX0_becomes_2 : decode cX0_becomes 2 = .ok (.putfield 354, 3) := dk_181 1 98 (dk_at dksX0_becomes_0 2 rfl rfl)
theorem dX0_becomes_5 : decode cX0_becomes 5 = .ok (.aload_n 0, 1) := dk_42 (dk_at dksX0_becomes_0 5 rfl rfl)
theorem dX0_becomes_6 : decode cX0_becomes 6 = .ok (.aload_n 1, 1) := dk_43 (dk_at dksX0_becomes_0 6 rfl rfl)
theorem dX0_becomes_7 : decode cX0_becomes 7 = .ok (.aload_n 2, 1) := dk_44 (dk_at dksX0_becomes_0 7 rfl rfl)
theorem dX0_becomes_8 : decode cX0_becomes 8 = .ok (.iconst 1, 1) := dk_4 (dk_at dksX0_becomes_0 8 rfl rfl)
theorem dX0_becomes_9 : decode cX0_becomes 9 = .ok (.invokevirtual 355, 3) := dk_182 1 99 (dk_at dksX0_becomes_0 9 rfl rfl)
theorem dX0_becomes_12 : decode cX0_becomes 12 = .ok (.return_, 1) := dk_177 (dk_at dksX0_becomes_0 12 rfl rfl)
abbrev cX0_lowers : ByteArray := prog_1_method_53_code
def yX0_lowers : MethodName := ⟨RX0, "lowers", "(LKeptCurves$Fraction;)V"⟩
def dkwX0_lowers_6 : List UInt8 := [182, 1, 123, 177]
abbrev dktX0_lowers_6 : List UInt8 := dkwX0_lowers_6 ++ []
def dkwX0_lowers_5 : List UInt8 := [180, 0, 96, 43, 180, 1, 103, 182, 1, 116, 42, 180, 0, 96, 42, 180, 0, 89, 43, 180, 1, 103]
abbrev dktX0_lowers_5 : List UInt8 := dkwX0_lowers_5 ++ dktX0_lowers_6
def dkwX0_lowers_4 : List UInt8 := [43, 180, 1, 110, 182, 1, 116, 42, 180, 0, 96, 42, 180, 0, 89, 43, 180, 1, 110, 182, 1, 123, 42]
abbrev dktX0_lowers_4 : List UInt8 := dkwX0_lowers_4 ++ dktX0_lowers_5
def dkwX0_lowers_3 : List UInt8 := [180, 0, 96, 182, 1, 116, 167, 255, 202, 42, 180, 0, 89, 180, 1, 98, 4, 164, 0, 55, 42, 180, 0, 96]
abbrev dktX0_lowers_3 : List UInt8 := dkwX0_lowers_3 ++ dktX0_lowers_4
def dkwX0_lowers_2 : List UInt8 := [42, 180, 0, 89, 182, 1, 116, 42, 180, 0, 89, 42, 180, 0, 93, 182, 1, 116, 42, 180, 0, 93, 42]
abbrev dktX0_lowers_2 : List UInt8 := dkwX0_lowers_2 ++ dktX0_lowers_3
def dkwX0_lowers_1 : List UInt8 := [180, 0, 93, 180, 1, 98, 158, 0, 50, 42, 180, 0, 89, 42, 180, 0, 93, 182, 1, 120, 42, 180, 0, 96]
abbrev dktX0_lowers_1 : List UInt8 := dkwX0_lowers_1 ++ dktX0_lowers_2
def dkwX0_lowers_0 : List UInt8 := [42, 180, 0, 89, 43, 180, 1, 110, 182, 1, 116, 42, 180, 0, 93, 43, 180, 1, 103, 182, 1, 116, 42]
abbrev dktX0_lowers_0 : List UInt8 := dkwX0_lowers_0 ++ dktX0_lowers_1
theorem dksX0_lowers_0 : cX0_lowers.data.toList.drop 0 = dktX0_lowers_0 := by decide +kernel
theorem dksX0_lowers_1 : cX0_lowers.data.toList.drop 23 = dktX0_lowers_1 := dk_seg dksX0_lowers_0 23 rfl rfl
theorem dksX0_lowers_2 : cX0_lowers.data.toList.drop 47 = dktX0_lowers_2 := dk_seg dksX0_lowers_1 24 rfl rfl
theorem dksX0_lowers_3 : cX0_lowers.data.toList.drop 70 = dktX0_lowers_3 := dk_seg dksX0_lowers_2 23 rfl rfl
theorem dksX0_lowers_4 : cX0_lowers.data.toList.drop 94 = dktX0_lowers_4 := dk_seg dksX0_lowers_3 24 rfl rfl
theorem dksX0_lowers_5 : cX0_lowers.data.toList.drop 117 = dktX0_lowers_5 := dk_seg dksX0_lowers_4 23 rfl rfl
theorem dksX0_lowers_6 : cX0_lowers.data.toList.drop 139 = dktX0_lowers_6 := dk_seg dksX0_lowers_5 22 rfl rfl
theorem dX0_lowers_0 : decode cX0_lowers 0 = .ok (.aload_n 0, 1) := dk_42 (dk_at dksX0_lowers_0 0 rfl rfl)
theorem dX0_lowers_1 : decode cX0_lowers 1 = .ok (.getfield 89, 3) := dk_180 0 89 (dk_at dksX0_lowers_0 1 rfl rfl)
theorem dX0_lowers_4 : decode cX0_lowers 4 = .ok (.aload_n 1, 1) := dk_43 (dk_at dksX0_lowers_0 4 rfl rfl)
theorem dX0_lowers_5 : decode cX0_lowers 5 = .ok (.getfield 366, 3) := dk_180 1 110 (dk_at dksX0_lowers_0 5 rfl rfl)
theorem dX0_lowers_8 : decode cX0_lowers 8 = .ok (.invokevirtual 372, 3) := dk_182 1 116 (dk_at dksX0_lowers_0 8 rfl rfl)
theorem dX0_lowers_11 : decode cX0_lowers 11 = .ok (.aload_n 0, 1) := dk_42 (dk_at dksX0_lowers_0 11 rfl rfl)
theorem dX0_lowers_12 : decode cX0_lowers 12 = .ok (.getfield 93, 3) := dk_180 0 93 (dk_at dksX0_lowers_0 12 rfl rfl)
theorem dX0_lowers_15 : decode cX0_lowers 15 = .ok (.aload_n 1, 1) := dk_43 (dk_at dksX0_lowers_0 15 rfl rfl)
theorem dX0_lowers_16 : decode cX0_lowers 16 = .ok (.getfield 359, 3) := dk_180 1 103 (dk_at dksX0_lowers_0 16 rfl rfl)
theorem dX0_lowers_19 : decode cX0_lowers 19 = .ok (.invokevirtual 372, 3) := dk_182 1 116 (dk_at dksX0_lowers_0 19 rfl rfl)
theorem dX0_lowers_22 : decode cX0_lowers 22 = .ok (.aload_n 0, 1) := dk_42 (dk_at dksX0_lowers_0 22 rfl rfl)
theorem dX0_lowers_23 : decode cX0_lowers 23 = .ok (.getfield 93, 3) := dk_180 0 93 (dk_at dksX0_lowers_1 0 rfl rfl)
theorem dX0_lowers_26 : decode cX0_lowers 26 = .ok (.getfield 354, 3) := dk_180 1 98 (dk_at dksX0_lowers_1 3 rfl rfl)
theorem dX0_lowers_29 : decode cX0_lowers 29 = .ok (.ifCond .le 50, 3) := dk_158 0 50 (dk_at dksX0_lowers_1 6 rfl rfl)
theorem dX0_lowers_32 : decode cX0_lowers 32 = .ok (.aload_n 0, 1) := dk_42 (dk_at dksX0_lowers_1 9 rfl rfl)
theorem dX0_lowers_33 : decode cX0_lowers 33 = .ok (.getfield 89, 3) := dk_180 0 89 (dk_at dksX0_lowers_1 10 rfl rfl)
theorem dX0_lowers_36 : decode cX0_lowers 36 = .ok (.aload_n 0, 1) := dk_42 (dk_at dksX0_lowers_1 13 rfl rfl)
theorem dX0_lowers_37 : decode cX0_lowers 37 = .ok (.getfield 93, 3) := dk_180 0 93 (dk_at dksX0_lowers_1 14 rfl rfl)
theorem dX0_lowers_40 : decode cX0_lowers 40 = .ok (.invokevirtual 376, 3) := dk_182 1 120 (dk_at dksX0_lowers_1 17 rfl rfl)
theorem dX0_lowers_43 : decode cX0_lowers 43 = .ok (.aload_n 0, 1) := dk_42 (dk_at dksX0_lowers_1 20 rfl rfl)
theorem dX0_lowers_44 : decode cX0_lowers 44 = .ok (.getfield 96, 3) := dk_180 0 96 (dk_at dksX0_lowers_1 21 rfl rfl)
theorem dX0_lowers_47 : decode cX0_lowers 47 = .ok (.aload_n 0, 1) := dk_42 (dk_at dksX0_lowers_2 0 rfl rfl)
theorem dX0_lowers_48 : decode cX0_lowers 48 = .ok (.getfield 89, 3) := dk_180 0 89 (dk_at dksX0_lowers_2 1 rfl rfl)
theorem dX0_lowers_51 : decode cX0_lowers 51 = .ok (.invokevirtual 372, 3) := dk_182 1 116 (dk_at dksX0_lowers_2 4 rfl rfl)
theorem dX0_lowers_54 : decode cX0_lowers 54 = .ok (.aload_n 0, 1) := dk_42 (dk_at dksX0_lowers_2 7 rfl rfl)
theorem dX0_lowers_55 : decode cX0_lowers 55 = .ok (.getfield 89, 3) := dk_180 0 89 (dk_at dksX0_lowers_2 8 rfl rfl)
theorem dX0_lowers_58 : decode cX0_lowers 58 = .ok (.aload_n 0, 1) := dk_42 (dk_at dksX0_lowers_2 11 rfl rfl)
theorem dX0_lowers_59 : decode cX0_lowers 59 = .ok (.getfield 93, 3) := dk_180 0 93 (dk_at dksX0_lowers_2 12 rfl rfl)
theorem dX0_lowers_62 : decode cX0_lowers 62 = .ok (.invokevirtual 372, 3) := dk_182 1 116 (dk_at dksX0_lowers_2 15 rfl rfl)
theorem dX0_lowers_65 : decode cX0_lowers 65 = .ok (.aload_n 0, 1) := dk_42 (dk_at dksX0_lowers_2 18 rfl rfl)
theorem dX0_lowers_66 : decode cX0_lowers 66 = .ok (.getfield 93, 3) := dk_180 0 93 (dk_at dksX0_lowers_2 19 rfl rfl)
theorem dX0_lowers_69 : decode cX0_lowers 69 = .ok (.aload_n 0, 1) := dk_42 (dk_at dksX0_lowers_2 22 rfl rfl)
theorem dX0_lowers_70 : decode cX0_lowers 70 = .ok (.getfield 96, 3) := dk_180 0 96 (dk_at dksX0_lowers_3 0 rfl rfl)
theorem dX0_lowers_73 : decode cX0_lowers 73 = .ok (.invokevirtual 372, 3) := dk_182 1 116 (dk_at dksX0_lowers_3 3 rfl rfl)
theorem dX0_lowers_76 : decode cX0_lowers 76 = .ok (.goto (-54), 3) := dk_167 255 202 (dk_at dksX0_lowers_3 6 rfl rfl)
theorem dX0_lowers_79 : decode cX0_lowers 79 = .ok (.aload_n 0, 1) := dk_42 (dk_at dksX0_lowers_3 9 rfl rfl)
theorem dX0_lowers_80 : decode cX0_lowers 80 = .ok (.getfield 89, 3) := dk_180 0 89 (dk_at dksX0_lowers_3 10 rfl rfl)
theorem dX0_lowers_83 : decode cX0_lowers 83 = .ok (.getfield 354, 3) := dk_180 1 98 (dk_at dksX0_lowers_3 13 rfl rfl)
theorem dX0_lowers_86 : decode cX0_lowers 86 = .ok (.iconst 1, 1) := dk_4 (dk_at dksX0_lowers_3 16 rfl rfl)
theorem dX0_lowers_87 : decode cX0_lowers 87 = .ok (.if_icmp .le 55, 3) := dk_164 0 55 (dk_at dksX0_lowers_3 17 rfl rfl)
theorem dX0_lowers_90 : decode cX0_lowers 90 = .ok (.aload_n 0, 1) := dk_42 (dk_at dksX0_lowers_3 20 rfl rfl)
theorem dX0_lowers_91 : decode cX0_lowers 91 = .ok (.getfield 96, 3) := dk_180 0 96 (dk_at dksX0_lowers_3 21 rfl rfl)
theorem dX0_lowers_94 : decode cX0_lowers 94 = .ok (.aload_n 1, 1) := dk_43 (dk_at dksX0_lowers_4 0 rfl rfl)
theorem dX0_lowers_95 : decode cX0_lowers 95 = .ok (.getfield 366, 3) := dk_180 1 110 (dk_at dksX0_lowers_4 1 rfl rfl)
theorem dX0_lowers_98 : decode cX0_lowers 98 = .ok (.invokevirtual 372, 3) := dk_182 1 116 (dk_at dksX0_lowers_4 4 rfl rfl)
theorem dX0_lowers_101 : decode cX0_lowers 101 = .ok (.aload_n 0, 1) := dk_42 (dk_at dksX0_lowers_4 7 rfl rfl)
theorem dX0_lowers_102 : decode cX0_lowers 102 = .ok (.getfield 96, 3) := dk_180 0 96 (dk_at dksX0_lowers_4 8 rfl rfl)
theorem dX0_lowers_105 : decode cX0_lowers 105 = .ok (.aload_n 0, 1) := dk_42 (dk_at dksX0_lowers_4 11 rfl rfl)
theorem dX0_lowers_106 : decode cX0_lowers 106 = .ok (.getfield 89, 3) := dk_180 0 89 (dk_at dksX0_lowers_4 12 rfl rfl)
theorem dX0_lowers_109 : decode cX0_lowers 109 = .ok (.aload_n 1, 1) := dk_43 (dk_at dksX0_lowers_4 15 rfl rfl)
theorem dX0_lowers_110 : decode cX0_lowers 110 = .ok (.getfield 366, 3) := dk_180 1 110 (dk_at dksX0_lowers_4 16 rfl rfl)
theorem dX0_lowers_113 : decode cX0_lowers 113 = .ok (.invokevirtual 379, 3) := dk_182 1 123 (dk_at dksX0_lowers_4 19 rfl rfl)
theorem dX0_lowers_116 : decode cX0_lowers 116 = .ok (.aload_n 0, 1) := dk_42 (dk_at dksX0_lowers_4 22 rfl rfl)
theorem dX0_lowers_117 : decode cX0_lowers 117 = .ok (.getfield 96, 3) := dk_180 0 96 (dk_at dksX0_lowers_5 0 rfl rfl)
theorem dX0_lowers_120 : decode cX0_lowers 120 = .ok (.aload_n 1, 1) := dk_43 (dk_at dksX0_lowers_5 3 rfl rfl)
theorem dX0_lowers_121 : decode cX0_lowers 121 = .ok (.getfield 359, 3) := dk_180 1 103 (dk_at dksX0_lowers_5 4 rfl rfl)
theorem dX0_lowers_124 : decode cX0_lowers 124 = .ok (.invokevirtual 372, 3) := dk_182 1 116 (dk_at dksX0_lowers_5 7 rfl rfl)
theorem dX0_lowers_127 : decode cX0_lowers 127 = .ok (.aload_n 0, 1) := dk_42 (dk_at dksX0_lowers_5 10 rfl rfl)
theorem dX0_lowers_128 : decode cX0_lowers 128 = .ok (.getfield 96, 3) := dk_180 0 96 (dk_at dksX0_lowers_5 11 rfl rfl)
theorem dX0_lowers_131 : decode cX0_lowers 131 = .ok (.aload_n 0, 1) := dk_42 (dk_at dksX0_lowers_5 14 rfl rfl)
theorem dX0_lowers_132 : decode cX0_lowers 132 = .ok (.getfield 89, 3) := dk_180 0 89 (dk_at dksX0_lowers_5 15 rfl rfl)
theorem dX0_lowers_135 : decode cX0_lowers 135 = .ok (.aload_n 1, 1) := dk_43 (dk_at dksX0_lowers_5 18 rfl rfl)
theorem dX0_lowers_136 : decode cX0_lowers 136 = .ok (.getfield 359, 3) := dk_180 1 103 (dk_at dksX0_lowers_5 19 rfl rfl)
theorem dX0_lowers_139 : decode cX0_lowers 139 = .ok (.invokevirtual 379, 3) := dk_182 1 123 (dk_at dksX0_lowers_6 0 rfl rfl)
theorem dX0_lowers_142 : decode cX0_lowers 142 = .ok (.return_, 1) := dk_177 (dk_at dksX0_lowers_6 3 rfl rfl)
abbrev cX0_tell : ByteArray := prog_1_method_56_code
def yX0_tell : MethodName := ⟨RX0, "tell", "(II)I"⟩
def dkwX0_tell_3 : List UInt8 := [180, 0, 36, 180, 1, 151, 182, 1, 160, 172]
abbrev dktX0_tell_3 : List UInt8 := dkwX0_tell_3 ++ []
def dkwX0_tell_2 : List UInt8 := [182, 1, 160, 16, 12, 160, 0, 6, 16, 252, 172, 42, 180, 0, 36, 180, 1, 151, 45, 182, 1, 161, 87, 42]
abbrev dktX0_tell_2 : List UInt8 := dkwX0_tell_2 ++ dktX0_tell_3
def dkwX0_tell_1 : List UInt8 := [180, 0, 36, 180, 1, 151, 45, 182, 1, 155, 153, 0, 6, 16, 253, 172, 42, 180, 0, 36, 180, 1, 151]
abbrev dktX0_tell_1 : List UInt8 := dkwX0_tell_1 ++ dktX0_tell_2
def dkwX0_tell_0 : List UInt8 := [27, 28, 184, 0, 179, 154, 0, 5, 2, 172, 187, 1, 148, 89, 27, 28, 184, 0, 206, 183, 1, 150, 78, 42]
abbrev dktX0_tell_0 : List UInt8 := dkwX0_tell_0 ++ dktX0_tell_1
theorem dksX0_tell_0 : cX0_tell.data.toList.drop 0 = dktX0_tell_0 := by decide +kernel
theorem dksX0_tell_1 : cX0_tell.data.toList.drop 24 = dktX0_tell_1 := dk_seg dksX0_tell_0 24 rfl rfl
theorem dksX0_tell_2 : cX0_tell.data.toList.drop 47 = dktX0_tell_2 := dk_seg dksX0_tell_1 23 rfl rfl
theorem dksX0_tell_3 : cX0_tell.data.toList.drop 71 = dktX0_tell_3 := dk_seg dksX0_tell_2 24 rfl rfl
theorem dX0_tell_0 : decode cX0_tell 0 = .ok (.iload_n 1, 1) := dk_27 (dk_at dksX0_tell_0 0 rfl rfl)
theorem dX0_tell_1 : decode cX0_tell 1 = .ok (.iload_n 2, 1) := dk_28 (dk_at dksX0_tell_0 1 rfl rfl)
theorem dX0_tell_2 : decode cX0_tell 2 = .ok (.invokestatic 179, 3) := dk_184 0 179 (dk_at dksX0_tell_0 2 rfl rfl)
theorem dX0_tell_5 : decode cX0_tell 5 = .ok (.ifCond .ne 5, 3) := dk_154 0 5 (dk_at dksX0_tell_0 5 rfl rfl)
theorem dX0_tell_8 : decode cX0_tell 8 = .ok (.iconst (-1), 1) := dk_2 (dk_at dksX0_tell_0 8 rfl rfl)
theorem dX0_tell_9 : decode cX0_tell 9 = .ok (.ireturn, 1) := dk_172 (dk_at dksX0_tell_0 9 rfl rfl)
theorem dX0_tell_10 : decode cX0_tell 10 = .ok (.new 404, 3) := dk_187 1 148 (dk_at dksX0_tell_0 10 rfl rfl)
theorem dX0_tell_13 : decode cX0_tell 13 = .ok (.dup, 1) := dk_89 (dk_at dksX0_tell_0 13 rfl rfl)
theorem dX0_tell_14 : decode cX0_tell 14 = .ok (.iload_n 1, 1) := dk_27 (dk_at dksX0_tell_0 14 rfl rfl)
theorem dX0_tell_15 : decode cX0_tell 15 = .ok (.iload_n 2, 1) := dk_28 (dk_at dksX0_tell_0 15 rfl rfl)
theorem dX0_tell_16 : decode cX0_tell 16 = .ok (.invokestatic 206, 3) := dk_184 0 206 (dk_at dksX0_tell_0 16 rfl rfl)
theorem dX0_tell_19 : decode cX0_tell 19 = .ok (.invokespecial 406, 3) := dk_183 1 150 (dk_at dksX0_tell_0 19 rfl rfl)
theorem dX0_tell_22 : decode cX0_tell 22 = .ok (.astore_n 3, 1) := dk_78 (dk_at dksX0_tell_0 22 rfl rfl)
theorem dX0_tell_23 : decode cX0_tell 23 = .ok (.aload_n 0, 1) := dk_42 (dk_at dksX0_tell_0 23 rfl rfl)
theorem dX0_tell_24 : decode cX0_tell 24 = .ok (.getfield 36, 3) := dk_180 0 36 (dk_at dksX0_tell_1 0 rfl rfl)
theorem dX0_tell_27 : decode cX0_tell 27 = .ok (.getfield 407, 3) := dk_180 1 151 (dk_at dksX0_tell_1 3 rfl rfl)
theorem dX0_tell_30 : decode cX0_tell 30 = .ok (.aload_n 3, 1) := dk_45 (dk_at dksX0_tell_1 6 rfl rfl)
theorem dX0_tell_31 : decode cX0_tell 31 = .ok (.invokevirtual 411, 3) := dk_182 1 155 (dk_at dksX0_tell_1 7 rfl rfl)
theorem dX0_tell_34 : decode cX0_tell 34 = .ok (.ifCond .eq 6, 3) := dk_153 0 6 (dk_at dksX0_tell_1 10 rfl rfl)
theorem dX0_tell_37 : decode cX0_tell 37 = .ok (.bipush (-3), 2) := dk_16 253 (dk_at dksX0_tell_1 13 rfl rfl)
theorem dX0_tell_39 : decode cX0_tell 39 = .ok (.ireturn, 1) := dk_172 (dk_at dksX0_tell_1 15 rfl rfl)
theorem dX0_tell_40 : decode cX0_tell 40 = .ok (.aload_n 0, 1) := dk_42 (dk_at dksX0_tell_1 16 rfl rfl)
theorem dX0_tell_41 : decode cX0_tell 41 = .ok (.getfield 36, 3) := dk_180 0 36 (dk_at dksX0_tell_1 17 rfl rfl)
theorem dX0_tell_44 : decode cX0_tell 44 = .ok (.getfield 407, 3) := dk_180 1 151 (dk_at dksX0_tell_1 20 rfl rfl)
theorem dX0_tell_47 : decode cX0_tell 47 = .ok (.invokevirtual 416, 3) := dk_182 1 160 (dk_at dksX0_tell_2 0 rfl rfl)
theorem dX0_tell_50 : decode cX0_tell 50 = .ok (.bipush 12, 2) := dk_16 12 (dk_at dksX0_tell_2 3 rfl rfl)
theorem dX0_tell_52 : decode cX0_tell 52 = .ok (.if_icmp .ne 6, 3) := dk_160 0 6 (dk_at dksX0_tell_2 5 rfl rfl)
theorem dX0_tell_55 : decode cX0_tell 55 = .ok (.bipush (-4), 2) := dk_16 252 (dk_at dksX0_tell_2 8 rfl rfl)
theorem dX0_tell_57 : decode cX0_tell 57 = .ok (.ireturn, 1) := dk_172 (dk_at dksX0_tell_2 10 rfl rfl)
theorem dX0_tell_58 : decode cX0_tell 58 = .ok (.aload_n 0, 1) := dk_42 (dk_at dksX0_tell_2 11 rfl rfl)
theorem dX0_tell_59 : decode cX0_tell 59 = .ok (.getfield 36, 3) := dk_180 0 36 (dk_at dksX0_tell_2 12 rfl rfl)
theorem dX0_tell_62 : decode cX0_tell 62 = .ok (.getfield 407, 3) := dk_180 1 151 (dk_at dksX0_tell_2 15 rfl rfl)
theorem dX0_tell_65 : decode cX0_tell 65 = .ok (.aload_n 3, 1) := dk_45 (dk_at dksX0_tell_2 18 rfl rfl)
theorem dX0_tell_66 : decode cX0_tell 66 = .ok (.invokevirtual 417, 3) := dk_182 1 161 (dk_at dksX0_tell_2 19 rfl rfl)
theorem dX0_tell_69 : decode cX0_tell 69 = .ok (.pop, 1) := dk_87 (dk_at dksX0_tell_2 22 rfl rfl)
theorem dX0_tell_70 : decode cX0_tell 70 = .ok (.aload_n 0, 1) := dk_42 (dk_at dksX0_tell_2 23 rfl rfl)
theorem dX0_tell_71 : decode cX0_tell 71 = .ok (.getfield 36, 3) := dk_180 0 36 (dk_at dksX0_tell_3 0 rfl rfl)
theorem dX0_tell_74 : decode cX0_tell 74 = .ok (.getfield 407, 3) := dk_180 1 151 (dk_at dksX0_tell_3 3 rfl rfl)
theorem dX0_tell_77 : decode cX0_tell 77 = .ok (.invokevirtual 416, 3) := dk_182 1 160 (dk_at dksX0_tell_3 6 rfl rfl)
theorem dX0_tell_80 : decode cX0_tell 80 = .ok (.ireturn, 1) := dk_172 (dk_at dksX0_tell_3 9 rfl rfl)
abbrev cX0_forget : ByteArray := prog_1_method_57_code
def yX0_forget : MethodName := ⟨RX0, "forget", "(II)I"⟩
def dkwX0_forget_2 : List UInt8 := [167, 0, 5, 16, 253, 172]
abbrev dktX0_forget_2 : List UInt8 := dkwX0_forget_2 ++ []
def dkwX0_forget_1 : List UInt8 := [184, 0, 206, 183, 1, 150, 182, 1, 162, 153, 0, 16, 42, 180, 0, 36, 180, 1, 151, 182, 1, 160]
abbrev dktX0_forget_1 : List UInt8 := dkwX0_forget_1 ++ dktX0_forget_2
def dkwX0_forget_0 : List UInt8 := [27, 28, 184, 0, 179, 154, 0, 5, 2, 172, 42, 180, 0, 36, 180, 1, 151, 187, 1, 148, 89, 27, 28]
abbrev dktX0_forget_0 : List UInt8 := dkwX0_forget_0 ++ dktX0_forget_1
theorem dksX0_forget_0 : cX0_forget.data.toList.drop 0 = dktX0_forget_0 := by decide +kernel
theorem dksX0_forget_1 : cX0_forget.data.toList.drop 23 = dktX0_forget_1 := dk_seg dksX0_forget_0 23 rfl rfl
theorem dksX0_forget_2 : cX0_forget.data.toList.drop 45 = dktX0_forget_2 := dk_seg dksX0_forget_1 22 rfl rfl
theorem dX0_forget_0 : decode cX0_forget 0 = .ok (.iload_n 1, 1) := dk_27 (dk_at dksX0_forget_0 0 rfl rfl)
theorem dX0_forget_1 : decode cX0_forget 1 = .ok (.iload_n 2, 1) := dk_28 (dk_at dksX0_forget_0 1 rfl rfl)
theorem dX0_forget_2 : decode cX0_forget 2 = .ok (.invokestatic 179, 3) := dk_184 0 179 (dk_at dksX0_forget_0 2 rfl rfl)
theorem dX0_forget_5 : decode cX0_forget 5 = .ok (.ifCond .ne 5, 3) := dk_154 0 5 (dk_at dksX0_forget_0 5 rfl rfl)
theorem dX0_forget_8 : decode cX0_forget 8 = .ok (.iconst (-1), 1) := dk_2 (dk_at dksX0_forget_0 8 rfl rfl)
theorem dX0_forget_9 : decode cX0_forget 9 = .ok (.ireturn, 1) := dk_172 (dk_at dksX0_forget_0 9 rfl rfl)
theorem dX0_forget_10 : decode cX0_forget 10 = .ok (.aload_n 0, 1) := dk_42 (dk_at dksX0_forget_0 10 rfl rfl)
theorem dX0_forget_11 : decode cX0_forget 11 = .ok (.getfield 36, 3) := dk_180 0 36 (dk_at dksX0_forget_0 11 rfl rfl)
theorem dX0_forget_14 : decode cX0_forget 14 = .ok (.getfield 407, 3) := dk_180 1 151 (dk_at dksX0_forget_0 14 rfl rfl)
theorem dX0_forget_17 : decode cX0_forget 17 = .ok (.new 404, 3) := dk_187 1 148 (dk_at dksX0_forget_0 17 rfl rfl)
theorem dX0_forget_20 : decode cX0_forget 20 = .ok (.dup, 1) := dk_89 (dk_at dksX0_forget_0 20 rfl rfl)
theorem dX0_forget_21 : decode cX0_forget 21 = .ok (.iload_n 1, 1) := dk_27 (dk_at dksX0_forget_0 21 rfl rfl)
theorem dX0_forget_22 : decode cX0_forget 22 = .ok (.iload_n 2, 1) := dk_28 (dk_at dksX0_forget_0 22 rfl rfl)
theorem dX0_forget_23 : decode cX0_forget 23 = .ok (.invokestatic 206, 3) := dk_184 0 206 (dk_at dksX0_forget_1 0 rfl rfl)
theorem dX0_forget_26 : decode cX0_forget 26 = .ok (.invokespecial 406, 3) := dk_183 1 150 (dk_at dksX0_forget_1 3 rfl rfl)
theorem dX0_forget_29 : decode cX0_forget 29 = .ok (.invokevirtual 418, 3) := dk_182 1 162 (dk_at dksX0_forget_1 6 rfl rfl)
theorem dX0_forget_32 : decode cX0_forget 32 = .ok (.ifCond .eq 16, 3) := dk_153 0 16 (dk_at dksX0_forget_1 9 rfl rfl)
theorem dX0_forget_35 : decode cX0_forget 35 = .ok (.aload_n 0, 1) := dk_42 (dk_at dksX0_forget_1 12 rfl rfl)
theorem dX0_forget_36 : decode cX0_forget 36 = .ok (.getfield 36, 3) := dk_180 0 36 (dk_at dksX0_forget_1 13 rfl rfl)
theorem dX0_forget_39 : decode cX0_forget 39 = .ok (.getfield 407, 3) := dk_180 1 151 (dk_at dksX0_forget_1 16 rfl rfl)
theorem dX0_forget_42 : decode cX0_forget 42 = .ok (.invokevirtual 416, 3) := dk_182 1 160 (dk_at dksX0_forget_1 19 rfl rfl)
theorem dX0_forget_45 : decode cX0_forget 45 = .ok (.goto 5, 3) := dk_167 0 5 (dk_at dksX0_forget_2 0 rfl rfl)
theorem dX0_forget_48 : decode cX0_forget 48 = .ok (.bipush (-3), 2) := dk_16 253 (dk_at dksX0_forget_2 3 rfl rfl)
theorem dX0_forget_50 : decode cX0_forget 50 = .ok (.ireturn, 1) := dk_172 (dk_at dksX0_forget_2 5 rfl rfl)
abbrev cX0_told : ByteArray := prog_1_method_59_code
def yX0_told : MethodName := ⟨RX0, "told", "(I)I"⟩
def dkwX0_told_0 : List UInt8 := [42, 180, 0, 36, 180, 1, 151, 27, 184, 1, 168, 172]
abbrev dktX0_told_0 : List UInt8 := dkwX0_told_0 ++ []
theorem dksX0_told_0 : cX0_told.data.toList.drop 0 = dktX0_told_0 := by decide +kernel
theorem dX0_told_0 : decode cX0_told 0 = .ok (.aload_n 0, 1) := dk_42 (dk_at dksX0_told_0 0 rfl rfl)
theorem dX0_told_1 : decode cX0_told 1 = .ok (.getfield 36, 3) := dk_180 0 36 (dk_at dksX0_told_0 1 rfl rfl)
theorem dX0_told_4 : decode cX0_told 4 = .ok (.getfield 407, 3) := dk_180 1 151 (dk_at dksX0_told_0 4 rfl rfl)
theorem dX0_told_7 : decode cX0_told 7 = .ok (.iload_n 1, 1) := dk_27 (dk_at dksX0_told_0 7 rfl rfl)
theorem dX0_told_8 : decode cX0_told 8 = .ok (.invokestatic 424, 3) := dk_184 1 168 (dk_at dksX0_told_0 8 rfl rfl)
theorem dX0_told_11 : decode cX0_told 11 = .ok (.ireturn, 1) := dk_172 (dk_at dksX0_told_0 11 rfl rfl)
abbrev cX0_nthOf_2 : ByteArray := prog_1_method_58_code
def yX0_nthOf_2 : MethodName := ⟨RX0, "nthOf", "(Ljava/util/TreeSet;I)I"⟩
def dkwX0_nthOf_2_2 : List UInt8 := [172]
abbrev dktX0_nthOf_2_2 : List UInt8 := dkwX0_nthOf_2_2 ++ []
def dkwX0_nthOf_2_1 : List UInt8 := [192, 1, 148, 58, 4, 28, 27, 160, 0, 9, 25, 4, 180, 1, 165, 172, 132, 2, 1, 167, 255, 222, 16, 251]
abbrev dktX0_nthOf_2_1 : List UInt8 := dkwX0_nthOf_2_1 ++ dktX0_nthOf_2_2
def dkwX0_nthOf_2_0 : List UInt8 := [3, 61, 42, 182, 1, 164, 78, 45, 185, 1, 56, 1, 0, 153, 0, 31, 45, 185, 1, 62, 1, 0]
abbrev dktX0_nthOf_2_0 : List UInt8 := dkwX0_nthOf_2_0 ++ dktX0_nthOf_2_1
theorem dksX0_nthOf_2_0 : cX0_nthOf_2.data.toList.drop 0 = dktX0_nthOf_2_0 := by decide +kernel
theorem dksX0_nthOf_2_1 : cX0_nthOf_2.data.toList.drop 22 = dktX0_nthOf_2_1 := dk_seg dksX0_nthOf_2_0 22 rfl rfl
theorem dksX0_nthOf_2_2 : cX0_nthOf_2.data.toList.drop 46 = dktX0_nthOf_2_2 := dk_seg dksX0_nthOf_2_1 24 rfl rfl
theorem dX0_nthOf_2_0 : decode cX0_nthOf_2 0 = .ok (.iconst 0, 1) := dk_3 (dk_at dksX0_nthOf_2_0 0 rfl rfl)
theorem dX0_nthOf_2_1 : decode cX0_nthOf_2 1 = .ok (.istore_n 2, 1) := dk_61 (dk_at dksX0_nthOf_2_0 1 rfl rfl)
theorem dX0_nthOf_2_2 : decode cX0_nthOf_2 2 = .ok (.aload_n 0, 1) := dk_42 (dk_at dksX0_nthOf_2_0 2 rfl rfl)
theorem dX0_nthOf_2_3 : decode cX0_nthOf_2 3 = .ok (.invokevirtual 420, 3) := dk_182 1 164 (dk_at dksX0_nthOf_2_0 3 rfl rfl)
theorem dX0_nthOf_2_6 : decode cX0_nthOf_2 6 = .ok (.astore_n 3, 1) := dk_78 (dk_at dksX0_nthOf_2_0 6 rfl rfl)
theorem dX0_nthOf_2_7 : decode cX0_nthOf_2 7 = .ok (.aload_n 3, 1) := dk_45 (dk_at dksX0_nthOf_2_0 7 rfl rfl)
theorem dX0_nthOf_2_8 : decode cX0_nthOf_2 8 = .ok (.invokeinterface 312 1, 5) := by decide +kernel
theorem dX0_nthOf_2_13 : decode cX0_nthOf_2 13 = .ok (.ifCond .eq 31, 3) := dk_153 0 31 (dk_at dksX0_nthOf_2_0 13 rfl rfl)
theorem dX0_nthOf_2_16 : decode cX0_nthOf_2 16 = .ok (.aload_n 3, 1) := dk_45 (dk_at dksX0_nthOf_2_0 16 rfl rfl)
theorem dX0_nthOf_2_17 : decode cX0_nthOf_2 17 = .ok (.invokeinterface 318 1, 5) := by decide +kernel
theorem dX0_nthOf_2_22 : decode cX0_nthOf_2 22 = .ok (.checkcast 404, 3) := dk_192 1 148 (dk_at dksX0_nthOf_2_1 0 rfl rfl)
theorem dX0_nthOf_2_25 : decode cX0_nthOf_2 25 = .ok (.astore 4, 2) := dk_58 4 (dk_at dksX0_nthOf_2_1 3 rfl rfl)
theorem dX0_nthOf_2_27 : decode cX0_nthOf_2 27 = .ok (.iload_n 2, 1) := dk_28 (dk_at dksX0_nthOf_2_1 5 rfl rfl)
theorem dX0_nthOf_2_28 : decode cX0_nthOf_2 28 = .ok (.iload_n 1, 1) := dk_27 (dk_at dksX0_nthOf_2_1 6 rfl rfl)
theorem dX0_nthOf_2_29 : decode cX0_nthOf_2 29 = .ok (.if_icmp .ne 9, 3) := dk_160 0 9 (dk_at dksX0_nthOf_2_1 7 rfl rfl)
theorem dX0_nthOf_2_32 : decode cX0_nthOf_2 32 = .ok (.aload 4, 2) := dk_25 4 (dk_at dksX0_nthOf_2_1 10 rfl rfl)
theorem dX0_nthOf_2_34 : decode cX0_nthOf_2 34 = .ok (.getfield 421, 3) := dk_180 1 165 (dk_at dksX0_nthOf_2_1 12 rfl rfl)
theorem dX0_nthOf_2_37 : decode cX0_nthOf_2 37 = .ok (.ireturn, 1) := dk_172 (dk_at dksX0_nthOf_2_1 15 rfl rfl)
theorem dX0_nthOf_2_38 : decode cX0_nthOf_2 38 = .ok (.iinc 2 1, 3) := dk_132 2 1 (dk_at dksX0_nthOf_2_1 16 rfl rfl)
theorem dX0_nthOf_2_41 : decode cX0_nthOf_2 41 = .ok (.goto (-34), 3) := dk_167 255 222 (dk_at dksX0_nthOf_2_1 19 rfl rfl)
theorem dX0_nthOf_2_44 : decode cX0_nthOf_2 44 = .ok (.bipush (-5), 2) := dk_16 251 (dk_at dksX0_nthOf_2_1 22 rfl rfl)
theorem dX0_nthOf_2_46 : decode cX0_nthOf_2 46 = .ok (.ireturn, 1) := dk_172 (dk_at dksX0_nthOf_2_2 0 rfl rfl)
abbrev cX0_moved : ByteArray := prog_1_method_61_code
def yX0_moved : MethodName := ⟨RX0, "moved", "(I)I"⟩
def dkwX0_moved_0 : List UInt8 := [42, 182, 1, 172, 77, 27, 2, 160, 0, 10, 44, 182, 1, 160, 167, 0, 8, 44, 27, 184, 1, 168, 172]
abbrev dktX0_moved_0 : List UInt8 := dkwX0_moved_0 ++ []
theorem dksX0_moved_0 : cX0_moved.data.toList.drop 0 = dktX0_moved_0 := by decide +kernel
theorem dX0_moved_0 : decode cX0_moved 0 = .ok (.aload_n 0, 1) := dk_42 (dk_at dksX0_moved_0 0 rfl rfl)
theorem dX0_moved_1 : decode cX0_moved 1 = .ok (.invokevirtual 428, 3) := dk_182 1 172 (dk_at dksX0_moved_0 1 rfl rfl)
theorem dX0_moved_4 : decode cX0_moved 4 = .ok (.astore_n 2, 1) := dk_77 (dk_at dksX0_moved_0 4 rfl rfl)
theorem dX0_moved_5 : decode cX0_moved 5 = .ok (.iload_n 1, 1) := dk_27 (dk_at dksX0_moved_0 5 rfl rfl)
theorem dX0_moved_6 : decode cX0_moved 6 = .ok (.iconst (-1), 1) := dk_2 (dk_at dksX0_moved_0 6 rfl rfl)
theorem dX0_moved_7 : decode cX0_moved 7 = .ok (.if_icmp .ne 10, 3) := dk_160 0 10 (dk_at dksX0_moved_0 7 rfl rfl)
theorem dX0_moved_10 : decode cX0_moved 10 = .ok (.aload_n 2, 1) := dk_44 (dk_at dksX0_moved_0 10 rfl rfl)
theorem dX0_moved_11 : decode cX0_moved 11 = .ok (.invokevirtual 416, 3) := dk_182 1 160 (dk_at dksX0_moved_0 11 rfl rfl)
theorem dX0_moved_14 : decode cX0_moved 14 = .ok (.goto 8, 3) := dk_167 0 8 (dk_at dksX0_moved_0 14 rfl rfl)
theorem dX0_moved_17 : decode cX0_moved 17 = .ok (.aload_n 2, 1) := dk_44 (dk_at dksX0_moved_0 17 rfl rfl)
theorem dX0_moved_18 : decode cX0_moved 18 = .ok (.iload_n 1, 1) := dk_27 (dk_at dksX0_moved_0 18 rfl rfl)
theorem dX0_moved_19 : decode cX0_moved 19 = .ok (.invokestatic 424, 3) := dk_184 1 168 (dk_at dksX0_moved_0 19 rfl rfl)
theorem dX0_moved_22 : decode cX0_moved 22 = .ok (.ireturn, 1) := dk_172 (dk_at dksX0_moved_0 22 rfl rfl)
abbrev cX0_movedSet : ByteArray := prog_1_method_60_code
def yX0_movedSet : MethodName := ⟨RX0, "movedSet", "()Ljava/util/TreeSet;"⟩
def dkwX0_movedSet_3 : List UInt8 := [182, 1, 161, 87, 167, 255, 206, 43, 176]
abbrev dktX0_movedSet_3 : List UInt8 := dkwX0_movedSet_3 ++ []
def dkwX0_movedSet_2 : List UInt8 := [182, 0, 224, 54, 4, 21, 4, 16, 249, 159, 0, 17, 43, 187, 1, 148, 89, 21, 4, 183, 1, 150]
abbrev dktX0_movedSet_2 : List UInt8 := dkwX0_movedSet_2 ++ dktX0_movedSet_3
def dkwX0_movedSet_1 : List UInt8 := [185, 1, 56, 1, 0, 153, 0, 47, 44, 185, 1, 62, 1, 0, 192, 1, 148, 78, 42, 45, 180, 1, 165]
abbrev dktX0_movedSet_1 : List UInt8 := dkwX0_movedSet_1 ++ dktX0_movedSet_2
def dkwX0_movedSet_0 : List UInt8 := [187, 1, 156, 89, 183, 1, 171, 76, 42, 180, 0, 36, 180, 1, 151, 182, 1, 164, 77, 44]
abbrev dktX0_movedSet_0 : List UInt8 := dkwX0_movedSet_0 ++ dktX0_movedSet_1
theorem dksX0_movedSet_0 : cX0_movedSet.data.toList.drop 0 = dktX0_movedSet_0 := by decide +kernel
theorem dksX0_movedSet_1 : cX0_movedSet.data.toList.drop 20 = dktX0_movedSet_1 := dk_seg dksX0_movedSet_0 20 rfl rfl
theorem dksX0_movedSet_2 : cX0_movedSet.data.toList.drop 43 = dktX0_movedSet_2 := dk_seg dksX0_movedSet_1 23 rfl rfl
theorem dksX0_movedSet_3 : cX0_movedSet.data.toList.drop 65 = dktX0_movedSet_3 := dk_seg dksX0_movedSet_2 22 rfl rfl
theorem dX0_movedSet_0 : decode cX0_movedSet 0 = .ok (.new 412, 3) := dk_187 1 156 (dk_at dksX0_movedSet_0 0 rfl rfl)
theorem dX0_movedSet_3 : decode cX0_movedSet 3 = .ok (.dup, 1) := dk_89 (dk_at dksX0_movedSet_0 3 rfl rfl)
theorem dX0_movedSet_4 : decode cX0_movedSet 4 = .ok (.invokespecial 427, 3) := dk_183 1 171 (dk_at dksX0_movedSet_0 4 rfl rfl)
theorem dX0_movedSet_7 : decode cX0_movedSet 7 = .ok (.astore_n 1, 1) := dk_76 (dk_at dksX0_movedSet_0 7 rfl rfl)
theorem dX0_movedSet_8 : decode cX0_movedSet 8 = .ok (.aload_n 0, 1) := dk_42 (dk_at dksX0_movedSet_0 8 rfl rfl)
theorem dX0_movedSet_9 : decode cX0_movedSet 9 = .ok (.getfield 36, 3) := dk_180 0 36 (dk_at dksX0_movedSet_0 9 rfl rfl)
theorem dX0_movedSet_12 : decode cX0_movedSet 12 = .ok (.getfield 407, 3) := dk_180 1 151 (dk_at dksX0_movedSet_0 12 rfl rfl)
theorem dX0_movedSet_15 : decode cX0_movedSet 15 = .ok (.invokevirtual 420, 3) := dk_182 1 164 (dk_at dksX0_movedSet_0 15 rfl rfl)
theorem dX0_movedSet_18 : decode cX0_movedSet 18 = .ok (.astore_n 2, 1) := dk_77 (dk_at dksX0_movedSet_0 18 rfl rfl)
theorem dX0_movedSet_19 : decode cX0_movedSet 19 = .ok (.aload_n 2, 1) := dk_44 (dk_at dksX0_movedSet_0 19 rfl rfl)
theorem dX0_movedSet_20 : decode cX0_movedSet 20 = .ok (.invokeinterface 312 1, 5) := by decide +kernel
theorem dX0_movedSet_25 : decode cX0_movedSet 25 = .ok (.ifCond .eq 47, 3) := dk_153 0 47 (dk_at dksX0_movedSet_1 5 rfl rfl)
theorem dX0_movedSet_28 : decode cX0_movedSet 28 = .ok (.aload_n 2, 1) := dk_44 (dk_at dksX0_movedSet_1 8 rfl rfl)
theorem dX0_movedSet_29 : decode cX0_movedSet 29 = .ok (.invokeinterface 318 1, 5) := by decide +kernel
theorem dX0_movedSet_34 : decode cX0_movedSet 34 = .ok (.checkcast 404, 3) := dk_192 1 148 (dk_at dksX0_movedSet_1 14 rfl rfl)
theorem dX0_movedSet_37 : decode cX0_movedSet 37 = .ok (.astore_n 3, 1) := dk_78 (dk_at dksX0_movedSet_1 17 rfl rfl)
theorem dX0_movedSet_38 : decode cX0_movedSet 38 = .ok (.aload_n 0, 1) := dk_42 (dk_at dksX0_movedSet_1 18 rfl rfl)
theorem dX0_movedSet_39 : decode cX0_movedSet 39 = .ok (.aload_n 3, 1) := dk_45 (dk_at dksX0_movedSet_1 19 rfl rfl)
theorem dX0_movedSet_40 : decode cX0_movedSet 40 = .ok (.getfield 421, 3) := dk_180 1 165 (dk_at dksX0_movedSet_1 20 rfl rfl)
theorem dX0_movedSet_43 : decode cX0_movedSet 43 = .ok (.invokevirtual 224, 3) := dk_182 0 224 (dk_at dksX0_movedSet_2 0 rfl rfl)
theorem dX0_movedSet_46 : decode cX0_movedSet 46 = .ok (.istore 4, 2) := dk_54 4 (dk_at dksX0_movedSet_2 3 rfl rfl)
theorem dX0_movedSet_48 : decode cX0_movedSet 48 = .ok (.iload 4, 2) := dk_21 4 (dk_at dksX0_movedSet_2 5 rfl rfl)
theorem dX0_movedSet_50 : decode cX0_movedSet 50 = .ok (.bipush (-7), 2) := dk_16 249 (dk_at dksX0_movedSet_2 7 rfl rfl)
theorem dX0_movedSet_52 : decode cX0_movedSet 52 = .ok (.if_icmp .eq 17, 3) := dk_159 0 17 (dk_at dksX0_movedSet_2 9 rfl rfl)
theorem dX0_movedSet_55 : decode cX0_movedSet 55 = .ok (.aload_n 1, 1) := dk_43 (dk_at dksX0_movedSet_2 12 rfl rfl)
theorem dX0_movedSet_56 : decode cX0_movedSet 56 = .ok (.new 404, 3) := dk_187 1 148 (dk_at dksX0_movedSet_2 13 rfl rfl)
theorem dX0_movedSet_59 : decode cX0_movedSet 59 = .ok (.dup, 1) := dk_89 (dk_at dksX0_movedSet_2 16 rfl rfl)
theorem dX0_movedSet_60 : decode cX0_movedSet 60 = .ok (.iload 4, 2) := dk_21 4 (dk_at dksX0_movedSet_2 17 rfl rfl)
theorem dX0_movedSet_62 : decode cX0_movedSet 62 = .ok (.invokespecial 406, 3) := dk_183 1 150 (dk_at dksX0_movedSet_2 19 rfl rfl)
theorem dX0_movedSet_65 : decode cX0_movedSet 65 = .ok (.invokevirtual 417, 3) := dk_182 1 161 (dk_at dksX0_movedSet_3 0 rfl rfl)
theorem dX0_movedSet_68 : decode cX0_movedSet 68 = .ok (.pop, 1) := dk_87 (dk_at dksX0_movedSet_3 3 rfl rfl)
theorem dX0_movedSet_69 : decode cX0_movedSet 69 = .ok (.goto (-50), 3) := dk_167 255 206 (dk_at dksX0_movedSet_3 4 rfl rfl)
theorem dX0_movedSet_72 : decode cX0_movedSet 72 = .ok (.aload_n 1, 1) := dk_43 (dk_at dksX0_movedSet_3 7 rfl rfl)
theorem dX0_movedSet_73 : decode cX0_movedSet 73 = .ok (.areturn, 1) := dk_176 (dk_at dksX0_movedSet_3 8 rfl rfl)
abbrev cX0_move : ByteArray := prog_1_method_62_code
def yX0_move : MethodName := ⟨RX0, "move", "()I"⟩
def dkwX0_move_0 : List UInt8 := [42, 180, 0, 36, 42, 182, 1, 172, 182, 1, 176, 42, 180, 0, 36, 180, 1, 151, 182, 1, 160, 172]
abbrev dktX0_move_0 : List UInt8 := dkwX0_move_0 ++ []
theorem dksX0_move_0 : cX0_move.data.toList.drop 0 = dktX0_move_0 := by decide +kernel
theorem dX0_move_0 : decode cX0_move 0 = .ok (.aload_n 0, 1) := dk_42 (dk_at dksX0_move_0 0 rfl rfl)
theorem dX0_move_1 : decode cX0_move 1 = .ok (.getfield 36, 3) := dk_180 0 36 (dk_at dksX0_move_0 1 rfl rfl)
theorem dX0_move_4 : decode cX0_move 4 = .ok (.aload_n 0, 1) := dk_42 (dk_at dksX0_move_0 4 rfl rfl)
theorem dX0_move_5 : decode cX0_move 5 = .ok (.invokevirtual 428, 3) := dk_182 1 172 (dk_at dksX0_move_0 5 rfl rfl)
theorem dX0_move_8 : decode cX0_move 8 = .ok (.invokevirtual 432, 3) := dk_182 1 176 (dk_at dksX0_move_0 8 rfl rfl)
theorem dX0_move_11 : decode cX0_move 11 = .ok (.aload_n 0, 1) := dk_42 (dk_at dksX0_move_0 11 rfl rfl)
theorem dX0_move_12 : decode cX0_move 12 = .ok (.getfield 36, 3) := dk_180 0 36 (dk_at dksX0_move_0 12 rfl rfl)
theorem dX0_move_15 : decode cX0_move 15 = .ok (.getfield 407, 3) := dk_180 1 151 (dk_at dksX0_move_0 15 rfl rfl)
theorem dX0_move_18 : decode cX0_move 18 = .ok (.invokevirtual 416, 3) := dk_182 1 160 (dk_at dksX0_move_0 18 rfl rfl)
theorem dX0_move_21 : decode cX0_move 21 = .ok (.ireturn, 1) := dk_172 (dk_at dksX0_move_0 21 rfl rfl)
abbrev cX0_grows : ByteArray := prog_1_method_64_code
def yX0_grows : MethodName := ⟨RX0, "grows", "(I)I"⟩
def dkwX0_grows_6 : List UInt8 := [21, 4, 61, 132, 3, 1, 167, 255, 197, 42, 180, 0, 236, 172]
abbrev dktX0_grows_6 : List UInt8 := dkwX0_grows_6 ++ []
def dkwX0_grows_5 : List UInt8 := [182, 0, 224, 54, 6, 21, 6, 16, 249, 159, 0, 9, 42, 21, 6, 182, 1, 183, 132, 5, 1, 167, 255, 220]
abbrev dktX0_grows_5 : List UInt8 := dkwX0_grows_5 ++ dktX0_grows_6
def dkwX0_grows_4 : List UInt8 := [42, 180, 0, 236, 54, 4, 28, 54, 5, 21, 5, 21, 4, 162, 0, 35, 42, 42, 180, 0, 62, 21, 5, 46]
abbrev dktX0_grows_4 : List UInt8 := dkwX0_grows_4 ++ dktX0_grows_5
def dkwX0_grows_3 : List UInt8 := [192, 1, 148, 78, 42, 45, 180, 1, 165, 182, 1, 183, 167, 255, 229, 3, 61, 3, 62, 29, 27, 162, 0, 60]
abbrev dktX0_grows_3 : List UInt8 := dkwX0_grows_3 ++ dktX0_grows_4
def dkwX0_grows_2 : List UInt8 := [180, 1, 151, 182, 1, 164, 77, 44, 185, 1, 56, 1, 0, 153, 0, 24, 44, 185, 1, 62, 1, 0]
abbrev dktX0_grows_2 : List UInt8 := dkwX0_grows_2 ++ dktX0_grows_3
def dkwX0_grows_1 : List UInt8 := [17, 4, 0, 162, 0, 16, 42, 180, 0, 65, 28, 3, 84, 132, 2, 1, 167, 255, 239, 42, 180, 0, 36]
abbrev dktX0_grows_1 : List UInt8 := dkwX0_grows_1 ++ dktX0_grows_2
def dkwX0_grows_0 : List UInt8 := [27, 133, 9, 20, 1, 181, 184, 0, 7, 154, 0, 6, 16, 254, 172, 42, 3, 181, 0, 236, 3, 61, 28]
abbrev dktX0_grows_0 : List UInt8 := dkwX0_grows_0 ++ dktX0_grows_1
theorem dksX0_grows_0 : cX0_grows.data.toList.drop 0 = dktX0_grows_0 := by decide +kernel
theorem dksX0_grows_1 : cX0_grows.data.toList.drop 23 = dktX0_grows_1 := dk_seg dksX0_grows_0 23 rfl rfl
theorem dksX0_grows_2 : cX0_grows.data.toList.drop 46 = dktX0_grows_2 := dk_seg dksX0_grows_1 23 rfl rfl
theorem dksX0_grows_3 : cX0_grows.data.toList.drop 68 = dktX0_grows_3 := dk_seg dksX0_grows_2 22 rfl rfl
theorem dksX0_grows_4 : cX0_grows.data.toList.drop 92 = dktX0_grows_4 := dk_seg dksX0_grows_3 24 rfl rfl
theorem dksX0_grows_5 : cX0_grows.data.toList.drop 116 = dktX0_grows_5 := dk_seg dksX0_grows_4 24 rfl rfl
theorem dksX0_grows_6 : cX0_grows.data.toList.drop 140 = dktX0_grows_6 := dk_seg dksX0_grows_5 24 rfl rfl
theorem dX0_grows_0 : decode cX0_grows 0 = .ok (.iload_n 1, 1) := dk_27 (dk_at dksX0_grows_0 0 rfl rfl)
theorem dX0_grows_1 : decode cX0_grows 1 = .ok (.i2l, 1) := dk_133 (dk_at dksX0_grows_0 1 rfl rfl)
theorem dX0_grows_2 : decode cX0_grows 2 = .ok (.lconst 0, 1) := dk_9 (dk_at dksX0_grows_0 2 rfl rfl)
theorem dX0_grows_3 : decode cX0_grows 3 = .ok (.ldc2_w 437, 3) := dk_20 1 181 (dk_at dksX0_grows_0 3 rfl rfl)
theorem dX0_grows_6 : decode cX0_grows 6 = .ok (.invokestatic 7, 3) := dk_184 0 7 (dk_at dksX0_grows_0 6 rfl rfl)
theorem dX0_grows_9 : decode cX0_grows 9 = .ok (.ifCond .ne 6, 3) := dk_154 0 6 (dk_at dksX0_grows_0 9 rfl rfl)
theorem dX0_grows_12 : decode cX0_grows 12 = .ok (.bipush (-2), 2) := dk_16 254 (dk_at dksX0_grows_0 12 rfl rfl)
theorem dX0_grows_14 : decode cX0_grows 14 = .ok (.ireturn, 1) := dk_172 (dk_at dksX0_grows_0 14 rfl rfl)
theorem dX0_grows_15 : decode cX0_grows 15 = .ok (.aload_n 0, 1) := dk_42 (dk_at dksX0_grows_0 15 rfl rfl)
theorem dX0_grows_16 : decode cX0_grows 16 = .ok (.iconst 0, 1) := dk_3 (dk_at dksX0_grows_0 16 rfl rfl)
theorem dX0_grows_17 : decode cX0_grows 17 = .ok (.putfield 236, 3) := dk_181 0 236 (dk_at dksX0_grows_0 17 rfl rfl)
theorem dX0_grows_20 : decode cX0_grows 20 = .ok (.iconst 0, 1) := dk_3 (dk_at dksX0_grows_0 20 rfl rfl)
theorem dX0_grows_21 : decode cX0_grows 21 = .ok (.istore_n 2, 1) := dk_61 (dk_at dksX0_grows_0 21 rfl rfl)
theorem dX0_grows_22 : decode cX0_grows 22 = .ok (.iload_n 2, 1) := dk_28 (dk_at dksX0_grows_0 22 rfl rfl)
theorem dX0_grows_23 : decode cX0_grows 23 = .ok (.sipush 1024, 3) := dk_17 4 0 (dk_at dksX0_grows_1 0 rfl rfl)
theorem dX0_grows_26 : decode cX0_grows 26 = .ok (.if_icmp .ge 16, 3) := dk_162 0 16 (dk_at dksX0_grows_1 3 rfl rfl)
theorem dX0_grows_29 : decode cX0_grows 29 = .ok (.aload_n 0, 1) := dk_42 (dk_at dksX0_grows_1 6 rfl rfl)
theorem dX0_grows_30 : decode cX0_grows 30 = .ok (.getfield 65, 3) := dk_180 0 65 (dk_at dksX0_grows_1 7 rfl rfl)
theorem dX0_grows_33 : decode cX0_grows 33 = .ok (.iload_n 2, 1) := dk_28 (dk_at dksX0_grows_1 10 rfl rfl)
theorem dX0_grows_34 : decode cX0_grows 34 = .ok (.iconst 0, 1) := dk_3 (dk_at dksX0_grows_1 11 rfl rfl)
theorem dX0_grows_35 : decode cX0_grows 35 = .ok (.bastore, 1) := dk_84 (dk_at dksX0_grows_1 12 rfl rfl)
theorem dX0_grows_36 : decode cX0_grows 36 = .ok (.iinc 2 1, 3) := dk_132 2 1 (dk_at dksX0_grows_1 13 rfl rfl)
theorem dX0_grows_39 : decode cX0_grows 39 = .ok (.goto (-17), 3) := dk_167 255 239 (dk_at dksX0_grows_1 16 rfl rfl)
theorem dX0_grows_42 : decode cX0_grows 42 = .ok (.aload_n 0, 1) := dk_42 (dk_at dksX0_grows_1 19 rfl rfl)
theorem dX0_grows_43 : decode cX0_grows 43 = .ok (.getfield 36, 3) := dk_180 0 36 (dk_at dksX0_grows_1 20 rfl rfl)
theorem dX0_grows_46 : decode cX0_grows 46 = .ok (.getfield 407, 3) := dk_180 1 151 (dk_at dksX0_grows_2 0 rfl rfl)
theorem dX0_grows_49 : decode cX0_grows 49 = .ok (.invokevirtual 420, 3) := dk_182 1 164 (dk_at dksX0_grows_2 3 rfl rfl)
theorem dX0_grows_52 : decode cX0_grows 52 = .ok (.astore_n 2, 1) := dk_77 (dk_at dksX0_grows_2 6 rfl rfl)
theorem dX0_grows_53 : decode cX0_grows 53 = .ok (.aload_n 2, 1) := dk_44 (dk_at dksX0_grows_2 7 rfl rfl)
theorem dX0_grows_54 : decode cX0_grows 54 = .ok (.invokeinterface 312 1, 5) := by decide +kernel
theorem dX0_grows_59 : decode cX0_grows 59 = .ok (.ifCond .eq 24, 3) := dk_153 0 24 (dk_at dksX0_grows_2 13 rfl rfl)
theorem dX0_grows_62 : decode cX0_grows 62 = .ok (.aload_n 2, 1) := dk_44 (dk_at dksX0_grows_2 16 rfl rfl)
theorem dX0_grows_63 : decode cX0_grows 63 = .ok (.invokeinterface 318 1, 5) := by decide +kernel
theorem dX0_grows_68 : decode cX0_grows 68 = .ok (.checkcast 404, 3) := dk_192 1 148 (dk_at dksX0_grows_3 0 rfl rfl)
theorem dX0_grows_71 : decode cX0_grows 71 = .ok (.astore_n 3, 1) := dk_78 (dk_at dksX0_grows_3 3 rfl rfl)
theorem dX0_grows_72 : decode cX0_grows 72 = .ok (.aload_n 0, 1) := dk_42 (dk_at dksX0_grows_3 4 rfl rfl)
theorem dX0_grows_73 : decode cX0_grows 73 = .ok (.aload_n 3, 1) := dk_45 (dk_at dksX0_grows_3 5 rfl rfl)
theorem dX0_grows_74 : decode cX0_grows 74 = .ok (.getfield 421, 3) := dk_180 1 165 (dk_at dksX0_grows_3 6 rfl rfl)
theorem dX0_grows_77 : decode cX0_grows 77 = .ok (.invokevirtual 439, 3) := dk_182 1 183 (dk_at dksX0_grows_3 9 rfl rfl)
theorem dX0_grows_80 : decode cX0_grows 80 = .ok (.goto (-27), 3) := dk_167 255 229 (dk_at dksX0_grows_3 12 rfl rfl)
theorem dX0_grows_83 : decode cX0_grows 83 = .ok (.iconst 0, 1) := dk_3 (dk_at dksX0_grows_3 15 rfl rfl)
theorem dX0_grows_84 : decode cX0_grows 84 = .ok (.istore_n 2, 1) := dk_61 (dk_at dksX0_grows_3 16 rfl rfl)
theorem dX0_grows_85 : decode cX0_grows 85 = .ok (.iconst 0, 1) := dk_3 (dk_at dksX0_grows_3 17 rfl rfl)
theorem dX0_grows_86 : decode cX0_grows 86 = .ok (.istore_n 3, 1) := dk_62 (dk_at dksX0_grows_3 18 rfl rfl)
theorem dX0_grows_87 : decode cX0_grows 87 = .ok (.iload_n 3, 1) := dk_29 (dk_at dksX0_grows_3 19 rfl rfl)
theorem dX0_grows_88 : decode cX0_grows 88 = .ok (.iload_n 1, 1) := dk_27 (dk_at dksX0_grows_3 20 rfl rfl)
theorem dX0_grows_89 : decode cX0_grows 89 = .ok (.if_icmp .ge 60, 3) := dk_162 0 60 (dk_at dksX0_grows_3 21 rfl rfl)
theorem dX0_grows_92 : decode cX0_grows 92 = .ok (.aload_n 0, 1) := dk_42 (dk_at dksX0_grows_4 0 rfl rfl)
theorem dX0_grows_93 : decode cX0_grows 93 = .ok (.getfield 236, 3) := dk_180 0 236 (dk_at dksX0_grows_4 1 rfl rfl)
theorem dX0_grows_96 : decode cX0_grows 96 = .ok (.istore 4, 2) := dk_54 4 (dk_at dksX0_grows_4 4 rfl rfl)
theorem dX0_grows_98 : decode cX0_grows 98 = .ok (.iload_n 2, 1) := dk_28 (dk_at dksX0_grows_4 6 rfl rfl)
theorem dX0_grows_99 : decode cX0_grows 99 = .ok (.istore 5, 2) := dk_54 5 (dk_at dksX0_grows_4 7 rfl rfl)
theorem dX0_grows_101 : decode cX0_grows 101 = .ok (.iload 5, 2) := dk_21 5 (dk_at dksX0_grows_4 9 rfl rfl)
theorem dX0_grows_103 : decode cX0_grows 103 = .ok (.iload 4, 2) := dk_21 4 (dk_at dksX0_grows_4 11 rfl rfl)
theorem dX0_grows_105 : decode cX0_grows 105 = .ok (.if_icmp .ge 35, 3) := dk_162 0 35 (dk_at dksX0_grows_4 13 rfl rfl)
theorem dX0_grows_108 : decode cX0_grows 108 = .ok (.aload_n 0, 1) := dk_42 (dk_at dksX0_grows_4 16 rfl rfl)
theorem dX0_grows_109 : decode cX0_grows 109 = .ok (.aload_n 0, 1) := dk_42 (dk_at dksX0_grows_4 17 rfl rfl)
theorem dX0_grows_110 : decode cX0_grows 110 = .ok (.getfield 62, 3) := dk_180 0 62 (dk_at dksX0_grows_4 18 rfl rfl)
theorem dX0_grows_113 : decode cX0_grows 113 = .ok (.iload 5, 2) := dk_21 5 (dk_at dksX0_grows_4 21 rfl rfl)
theorem dX0_grows_115 : decode cX0_grows 115 = .ok (.iaload, 1) := dk_46 (dk_at dksX0_grows_4 23 rfl rfl)
theorem dX0_grows_116 : decode cX0_grows 116 = .ok (.invokevirtual 224, 3) := dk_182 0 224 (dk_at dksX0_grows_5 0 rfl rfl)
theorem dX0_grows_119 : decode cX0_grows 119 = .ok (.istore 6, 2) := dk_54 6 (dk_at dksX0_grows_5 3 rfl rfl)
theorem dX0_grows_121 : decode cX0_grows 121 = .ok (.iload 6, 2) := dk_21 6 (dk_at dksX0_grows_5 5 rfl rfl)
theorem dX0_grows_123 : decode cX0_grows 123 = .ok (.bipush (-7), 2) := dk_16 249 (dk_at dksX0_grows_5 7 rfl rfl)
theorem dX0_grows_125 : decode cX0_grows 125 = .ok (.if_icmp .eq 9, 3) := dk_159 0 9 (dk_at dksX0_grows_5 9 rfl rfl)
theorem dX0_grows_128 : decode cX0_grows 128 = .ok (.aload_n 0, 1) := dk_42 (dk_at dksX0_grows_5 12 rfl rfl)
theorem dX0_grows_129 : decode cX0_grows 129 = .ok (.iload 6, 2) := dk_21 6 (dk_at dksX0_grows_5 13 rfl rfl)
theorem dX0_grows_131 : decode cX0_grows 131 = .ok (.invokevirtual 439, 3) := dk_182 1 183 (dk_at dksX0_grows_5 15 rfl rfl)
theorem dX0_grows_134 : decode cX0_grows 134 = .ok (.iinc 5 1, 3) := dk_132 5 1 (dk_at dksX0_grows_5 18 rfl rfl)
theorem dX0_grows_137 : decode cX0_grows 137 = .ok (.goto (-36), 3) := dk_167 255 220 (dk_at dksX0_grows_5 21 rfl rfl)
theorem dX0_grows_140 : decode cX0_grows 140 = .ok (.iload 4, 2) := dk_21 4 (dk_at dksX0_grows_6 0 rfl rfl)
theorem dX0_grows_142 : decode cX0_grows 142 = .ok (.istore_n 2, 1) := dk_61 (dk_at dksX0_grows_6 2 rfl rfl)
theorem dX0_grows_143 : decode cX0_grows 143 = .ok (.iinc 3 1, 3) := dk_132 3 1 (dk_at dksX0_grows_6 3 rfl rfl)
theorem dX0_grows_146 : decode cX0_grows 146 = .ok (.goto (-59), 3) := dk_167 255 197 (dk_at dksX0_grows_6 6 rfl rfl)
theorem dX0_grows_149 : decode cX0_grows 149 = .ok (.aload_n 0, 1) := dk_42 (dk_at dksX0_grows_6 9 rfl rfl)
theorem dX0_grows_150 : decode cX0_grows 150 = .ok (.getfield 236, 3) := dk_180 0 236 (dk_at dksX0_grows_6 10 rfl rfl)
theorem dX0_grows_153 : decode cX0_grows 153 = .ok (.ireturn, 1) := dk_172 (dk_at dksX0_grows_6 13 rfl rfl)
abbrev cX0_sees : ByteArray := prog_1_method_63_code
def yX0_sees : MethodName := ⟨RX0, "sees", "(I)V"⟩
def dkwX0_sees_0 : List UInt8 := [42, 180, 0, 65, 27, 51, 154, 0, 15, 42, 180, 0, 65, 27, 4, 84, 42, 27, 182, 1, 179, 177]
abbrev dktX0_sees_0 : List UInt8 := dkwX0_sees_0 ++ []
theorem dksX0_sees_0 : cX0_sees.data.toList.drop 0 = dktX0_sees_0 := by decide +kernel
theorem dX0_sees_0 : decode cX0_sees 0 = .ok (.aload_n 0, 1) := dk_42 (dk_at dksX0_sees_0 0 rfl rfl)
theorem dX0_sees_1 : decode cX0_sees 1 = .ok (.getfield 65, 3) := dk_180 0 65 (dk_at dksX0_sees_0 1 rfl rfl)
theorem dX0_sees_4 : decode cX0_sees 4 = .ok (.iload_n 1, 1) := dk_27 (dk_at dksX0_sees_0 4 rfl rfl)
theorem dX0_sees_5 : decode cX0_sees 5 = .ok (.baload, 1) := dk_51 (dk_at dksX0_sees_0 5 rfl rfl)
theorem dX0_sees_6 : decode cX0_sees 6 = .ok (.ifCond .ne 15, 3) := dk_154 0 15 (dk_at dksX0_sees_0 6 rfl rfl)
theorem dX0_sees_9 : decode cX0_sees 9 = .ok (.aload_n 0, 1) := dk_42 (dk_at dksX0_sees_0 9 rfl rfl)
theorem dX0_sees_10 : decode cX0_sees 10 = .ok (.getfield 65, 3) := dk_180 0 65 (dk_at dksX0_sees_0 10 rfl rfl)
theorem dX0_sees_13 : decode cX0_sees 13 = .ok (.iload_n 1, 1) := dk_27 (dk_at dksX0_sees_0 13 rfl rfl)
theorem dX0_sees_14 : decode cX0_sees 14 = .ok (.iconst 1, 1) := dk_4 (dk_at dksX0_sees_0 14 rfl rfl)
theorem dX0_sees_15 : decode cX0_sees 15 = .ok (.bastore, 1) := dk_84 (dk_at dksX0_sees_0 15 rfl rfl)
theorem dX0_sees_16 : decode cX0_sees 16 = .ok (.aload_n 0, 1) := dk_42 (dk_at dksX0_sees_0 16 rfl rfl)
theorem dX0_sees_17 : decode cX0_sees 17 = .ok (.iload_n 1, 1) := dk_27 (dk_at dksX0_sees_0 17 rfl rfl)
theorem dX0_sees_18 : decode cX0_sees 18 = .ok (.invokevirtual 435, 3) := dk_182 1 179 (dk_at dksX0_sees_0 18 rfl rfl)
theorem dX0_sees_21 : decode cX0_sees 21 = .ok (.return_, 1) := dk_177 (dk_at dksX0_sees_0 21 rfl rfl)
abbrev cX0_were : ByteArray := prog_1_method_65_code
def yX0_were : MethodName := ⟨RX0, "were", "(IIIIII)J"⟩
def dkwX0_were_5 : List UInt8 := [79, 167, 0, 20, 58, 12, 42, 180, 0, 36, 180, 0, 139, 21, 7, 21, 8, 79, 25, 12, 191, 22, 9, 173]
abbrev dktX0_were_5 : List UInt8 := dkwX0_were_5 ++ []
def dkwX0_were_4 : List UInt8 := [167, 0, 4, 9, 129, 55, 9, 132, 11, 1, 167, 255, 208, 42, 180, 0, 36, 180, 0, 139, 21, 7, 21, 8]
abbrev dktX0_were_4 : List UInt8 := dkwX0_were_4 ++ dktX0_were_5
def dkwX0_were_3 : List UInt8 := [21, 7, 21, 11, 79, 22, 9, 42, 21, 4, 21, 5, 182, 0, 189, 21, 6, 160, 0, 10, 10, 21, 11, 121]
abbrev dktX0_were_3 : List UInt8 := dkwX0_were_3 ++ dktX0_were_4
def dkwX0_were_2 : List UInt8 := [46, 54, 8, 9, 55, 9, 3, 54, 11, 21, 11, 16, 31, 162, 0, 47, 42, 180, 0, 36, 180, 0, 139]
abbrev dktX0_were_2 : List UInt8 := dkwX0_were_2 ++ dktX0_were_3
def dkwX0_were_1 : List UInt8 := [154, 0, 7, 20, 0, 204, 173, 27, 28, 29, 184, 0, 142, 54, 7, 42, 180, 0, 36, 180, 0, 139, 21, 7]
abbrev dktX0_were_1 : List UInt8 := dkwX0_were_1 ++ dktX0_were_2
def dkwX0_were_0 : List UInt8 := [27, 28, 29, 184, 0, 132, 153, 0, 21, 21, 4, 21, 5, 184, 0, 179, 153, 0, 11, 21, 6, 184, 0, 21]
abbrev dktX0_were_0 : List UInt8 := dkwX0_were_0 ++ dktX0_were_1
theorem dksX0_were_0 : cX0_were.data.toList.drop 0 = dktX0_were_0 := by decide +kernel
theorem dksX0_were_1 : cX0_were.data.toList.drop 24 = dktX0_were_1 := dk_seg dksX0_were_0 24 rfl rfl
theorem dksX0_were_2 : cX0_were.data.toList.drop 48 = dktX0_were_2 := dk_seg dksX0_were_1 24 rfl rfl
theorem dksX0_were_3 : cX0_were.data.toList.drop 71 = dktX0_were_3 := dk_seg dksX0_were_2 23 rfl rfl
theorem dksX0_were_4 : cX0_were.data.toList.drop 95 = dktX0_were_4 := dk_seg dksX0_were_3 24 rfl rfl
theorem dksX0_were_5 : cX0_were.data.toList.drop 119 = dktX0_were_5 := dk_seg dksX0_were_4 24 rfl rfl
theorem dX0_were_0 : decode cX0_were 0 = .ok (.iload_n 1, 1) := dk_27 (dk_at dksX0_were_0 0 rfl rfl)
theorem dX0_were_1 : decode cX0_were 1 = .ok (.iload_n 2, 1) := dk_28 (dk_at dksX0_were_0 1 rfl rfl)
theorem dX0_were_2 : decode cX0_were 2 = .ok (.iload_n 3, 1) := dk_29 (dk_at dksX0_were_0 2 rfl rfl)
theorem dX0_were_3 : decode cX0_were 3 = .ok (.invokestatic 132, 3) := dk_184 0 132 (dk_at dksX0_were_0 3 rfl rfl)
theorem dX0_were_6 : decode cX0_were 6 = .ok (.ifCond .eq 21, 3) := dk_153 0 21 (dk_at dksX0_were_0 6 rfl rfl)
theorem dX0_were_9 : decode cX0_were 9 = .ok (.iload 4, 2) := dk_21 4 (dk_at dksX0_were_0 9 rfl rfl)
theorem dX0_were_11 : decode cX0_were 11 = .ok (.iload 5, 2) := dk_21 5 (dk_at dksX0_were_0 11 rfl rfl)
theorem dX0_were_13 : decode cX0_were 13 = .ok (.invokestatic 179, 3) := dk_184 0 179 (dk_at dksX0_were_0 13 rfl rfl)
theorem dX0_were_16 : decode cX0_were 16 = .ok (.ifCond .eq 11, 3) := dk_153 0 11 (dk_at dksX0_were_0 16 rfl rfl)
theorem dX0_were_19 : decode cX0_were 19 = .ok (.iload 6, 2) := dk_21 6 (dk_at dksX0_were_0 19 rfl rfl)
theorem dX0_were_21 : decode cX0_were 21 = .ok (.invokestatic 21, 3) := dk_184 0 21 (dk_at dksX0_were_0 21 rfl rfl)
theorem dX0_were_24 : decode cX0_were 24 = .ok (.ifCond .ne 7, 3) := dk_154 0 7 (dk_at dksX0_were_1 0 rfl rfl)
theorem dX0_were_27 : decode cX0_were 27 = .ok (.ldc2_w 204, 3) := dk_20 0 204 (dk_at dksX0_were_1 3 rfl rfl)
theorem dX0_were_30 : decode cX0_were 30 = .ok (.lreturn, 1) := dk_173 (dk_at dksX0_were_1 6 rfl rfl)
theorem dX0_were_31 : decode cX0_were 31 = .ok (.iload_n 1, 1) := dk_27 (dk_at dksX0_were_1 7 rfl rfl)
theorem dX0_were_32 : decode cX0_were 32 = .ok (.iload_n 2, 1) := dk_28 (dk_at dksX0_were_1 8 rfl rfl)
theorem dX0_were_33 : decode cX0_were 33 = .ok (.iload_n 3, 1) := dk_29 (dk_at dksX0_were_1 9 rfl rfl)
theorem dX0_were_34 : decode cX0_were 34 = .ok (.invokestatic 142, 3) := dk_184 0 142 (dk_at dksX0_were_1 10 rfl rfl)
theorem dX0_were_37 : decode cX0_were 37 = .ok (.istore 7, 2) := dk_54 7 (dk_at dksX0_were_1 13 rfl rfl)
theorem dX0_were_39 : decode cX0_were 39 = .ok (.aload_n 0, 1) := dk_42 (dk_at dksX0_were_1 15 rfl rfl)
theorem dX0_were_40 : decode cX0_were 40 = .ok (.getfield 36, 3) := dk_180 0 36 (dk_at dksX0_were_1 16 rfl rfl)
theorem dX0_were_43 : decode cX0_were 43 = .ok (.getfield 139, 3) := dk_180 0 139 (dk_at dksX0_were_1 19 rfl rfl)
theorem dX0_were_46 : decode cX0_were 46 = .ok (.iload 7, 2) := dk_21 7 (dk_at dksX0_were_1 22 rfl rfl)
theorem dX0_were_48 : decode cX0_were 48 = .ok (.iaload, 1) := dk_46 (dk_at dksX0_were_2 0 rfl rfl)
theorem dX0_were_49 : decode cX0_were 49 = .ok (.istore 8, 2) := dk_54 8 (dk_at dksX0_were_2 1 rfl rfl)
theorem dX0_were_51 : decode cX0_were 51 = .ok (.lconst 0, 1) := dk_9 (dk_at dksX0_were_2 3 rfl rfl)
theorem dX0_were_52 : decode cX0_were 52 = .ok (.lstore 9, 2) := dk_55 9 (dk_at dksX0_were_2 4 rfl rfl)
theorem dX0_were_54 : decode cX0_were 54 = .ok (.iconst 0, 1) := dk_3 (dk_at dksX0_were_2 6 rfl rfl)
theorem dX0_were_55 : decode cX0_were 55 = .ok (.istore 11, 2) := dk_54 11 (dk_at dksX0_were_2 7 rfl rfl)
theorem dX0_were_57 : decode cX0_were 57 = .ok (.iload 11, 2) := dk_21 11 (dk_at dksX0_were_2 9 rfl rfl)
theorem dX0_were_59 : decode cX0_were 59 = .ok (.bipush 31, 2) := dk_16 31 (dk_at dksX0_were_2 11 rfl rfl)
theorem dX0_were_61 : decode cX0_were 61 = .ok (.if_icmp .ge 47, 3) := dk_162 0 47 (dk_at dksX0_were_2 13 rfl rfl)
theorem dX0_were_64 : decode cX0_were 64 = .ok (.aload_n 0, 1) := dk_42 (dk_at dksX0_were_2 16 rfl rfl)
theorem dX0_were_65 : decode cX0_were 65 = .ok (.getfield 36, 3) := dk_180 0 36 (dk_at dksX0_were_2 17 rfl rfl)
theorem dX0_were_68 : decode cX0_were 68 = .ok (.getfield 139, 3) := dk_180 0 139 (dk_at dksX0_were_2 20 rfl rfl)
theorem dX0_were_71 : decode cX0_were 71 = .ok (.iload 7, 2) := dk_21 7 (dk_at dksX0_were_3 0 rfl rfl)
theorem dX0_were_73 : decode cX0_were 73 = .ok (.iload 11, 2) := dk_21 11 (dk_at dksX0_were_3 2 rfl rfl)
theorem dX0_were_75 : decode cX0_were 75 = .ok (.iastore, 1) := dk_79 (dk_at dksX0_were_3 4 rfl rfl)
theorem dX0_were_76 : decode cX0_were 76 = .ok (.lload 9, 2) := dk_22 9 (dk_at dksX0_were_3 5 rfl rfl)
theorem dX0_were_78 : decode cX0_were 78 = .ok (.aload_n 0, 1) := dk_42 (dk_at dksX0_were_3 7 rfl rfl)
theorem dX0_were_79 : decode cX0_were 79 = .ok (.iload 4, 2) := dk_21 4 (dk_at dksX0_were_3 8 rfl rfl)
theorem dX0_were_81 : decode cX0_were 81 = .ok (.iload 5, 2) := dk_21 5 (dk_at dksX0_were_3 10 rfl rfl)
theorem dX0_were_83 : decode cX0_were 83 = .ok (.invokevirtual 189, 3) := dk_182 0 189 (dk_at dksX0_were_3 12 rfl rfl)
theorem dX0_were_86 : decode cX0_were 86 = .ok (.iload 6, 2) := dk_21 6 (dk_at dksX0_were_3 15 rfl rfl)
theorem dX0_were_88 : decode cX0_were 88 = .ok (.if_icmp .ne 10, 3) := dk_160 0 10 (dk_at dksX0_were_3 17 rfl rfl)
theorem dX0_were_91 : decode cX0_were 91 = .ok (.lconst 1, 1) := dk_10 (dk_at dksX0_were_3 20 rfl rfl)
theorem dX0_were_92 : decode cX0_were 92 = .ok (.iload 11, 2) := dk_21 11 (dk_at dksX0_were_3 21 rfl rfl)
theorem dX0_were_94 : decode cX0_were 94 = .ok (.lshl, 1) := dk_121 (dk_at dksX0_were_3 23 rfl rfl)
theorem dX0_were_95 : decode cX0_were 95 = .ok (.goto 4, 3) := dk_167 0 4 (dk_at dksX0_were_4 0 rfl rfl)
theorem dX0_were_98 : decode cX0_were 98 = .ok (.lconst 0, 1) := dk_9 (dk_at dksX0_were_4 3 rfl rfl)
theorem dX0_were_99 : decode cX0_were 99 = .ok (.lor, 1) := dk_129 (dk_at dksX0_were_4 4 rfl rfl)
theorem dX0_were_100 : decode cX0_were 100 = .ok (.lstore 9, 2) := dk_55 9 (dk_at dksX0_were_4 5 rfl rfl)
theorem dX0_were_102 : decode cX0_were 102 = .ok (.iinc 11 1, 3) := dk_132 11 1 (dk_at dksX0_were_4 7 rfl rfl)
theorem dX0_were_105 : decode cX0_were 105 = .ok (.goto (-48), 3) := dk_167 255 208 (dk_at dksX0_were_4 10 rfl rfl)
theorem dX0_were_108 : decode cX0_were 108 = .ok (.aload_n 0, 1) := dk_42 (dk_at dksX0_were_4 13 rfl rfl)
theorem dX0_were_109 : decode cX0_were 109 = .ok (.getfield 36, 3) := dk_180 0 36 (dk_at dksX0_were_4 14 rfl rfl)
theorem dX0_were_112 : decode cX0_were 112 = .ok (.getfield 139, 3) := dk_180 0 139 (dk_at dksX0_were_4 17 rfl rfl)
theorem dX0_were_115 : decode cX0_were 115 = .ok (.iload 7, 2) := dk_21 7 (dk_at dksX0_were_4 20 rfl rfl)
theorem dX0_were_117 : decode cX0_were 117 = .ok (.iload 8, 2) := dk_21 8 (dk_at dksX0_were_4 22 rfl rfl)
theorem dX0_were_119 : decode cX0_were 119 = .ok (.iastore, 1) := dk_79 (dk_at dksX0_were_5 0 rfl rfl)
theorem dX0_were_120 : decode cX0_were 120 = .ok (.goto 20, 3) := dk_167 0 20 (dk_at dksX0_were_5 1 rfl rfl)
theorem dX0_were_123 : decode cX0_were 123 = .ok (.astore 12, 2) := dk_58 12 (dk_at dksX0_were_5 4 rfl rfl)
theorem dX0_were_125 : decode cX0_were 125 = .ok (.aload_n 0, 1) := dk_42 (dk_at dksX0_were_5 6 rfl rfl)
theorem dX0_were_126 : decode cX0_were 126 = .ok (.getfield 36, 3) := dk_180 0 36 (dk_at dksX0_were_5 7 rfl rfl)
theorem dX0_were_129 : decode cX0_were 129 = .ok (.getfield 139, 3) := dk_180 0 139 (dk_at dksX0_were_5 10 rfl rfl)
theorem dX0_were_132 : decode cX0_were 132 = .ok (.iload 7, 2) := dk_21 7 (dk_at dksX0_were_5 13 rfl rfl)
theorem dX0_were_134 : decode cX0_were 134 = .ok (.iload 8, 2) := dk_21 8 (dk_at dksX0_were_5 15 rfl rfl)
theorem dX0_were_136 : decode cX0_were 136 = .ok (.iastore, 1) := dk_79 (dk_at dksX0_were_5 17 rfl rfl)
theorem dX0_were_137 : decode cX0_were 137 = .ok (.aload 12, 2) := dk_25 12 (dk_at dksX0_were_5 18 rfl rfl)
theorem dX0_were_139 : decode cX0_were 139 = .ok (.athrow, 1) := dk_191 (dk_at dksX0_were_5 20 rfl rfl)
theorem dX0_were_140 : decode cX0_were 140 = .ok (.lload 9, 2) := dk_22 9 (dk_at dksX0_were_5 21 rfl rfl)
theorem dX0_were_142 : decode cX0_were 142 = .ok (.lreturn, 1) := dk_173 (dk_at dksX0_were_5 23 rfl rfl)
abbrev cX0_odds : ByteArray := prog_1_method_67_code
def yX0_odds : MethodName := ⟨RX0, "odds", "(IIII)J"⟩
def dkwX0_odds_5 : List UInt8 := [133, 29, 133, 21, 4, 184, 1, 187, 173]
abbrev dktX0_odds_5 : List UInt8 := dkwX0_odds_5 ++ []
def dkwX0_odds_4 : List UInt8 := [112, 182, 0, 189, 27, 160, 0, 7, 4, 167, 0, 4, 3, 96, 54, 5, 132, 6, 1, 167, 255, 183, 21, 5]
abbrev dktX0_odds_4 : List UInt8 := dkwX0_odds_4 ++ dktX0_odds_5
def dkwX0_odds_3 : List UInt8 := [21, 7, 19, 1, 186, 104, 17, 48, 57, 96, 54, 7, 21, 5, 42, 21, 8, 21, 7, 16, 16, 124, 16, 32]
abbrev dktX0_odds_3 : List UInt8 := dkwX0_odds_3 ++ dktX0_odds_4
def dkwX0_odds_2 : List UInt8 := [21, 6, 96, 19, 1, 186, 104, 17, 48, 57, 96, 54, 7, 21, 7, 16, 16, 124, 16, 32, 112, 54, 8]
abbrev dktX0_odds_2 : List UInt8 := dkwX0_odds_2 ++ dktX0_odds_3
def dkwX0_odds_1 : List UInt8 := [184, 0, 7, 154, 0, 7, 20, 0, 204, 173, 3, 54, 5, 3, 54, 6, 21, 6, 29, 162, 0, 73, 28]
abbrev dktX0_odds_1 : List UInt8 := dkwX0_odds_1 ++ dktX0_odds_2
def dkwX0_odds_0 : List UInt8 := [27, 184, 0, 21, 153, 0, 26, 29, 133, 10, 20, 0, 11, 184, 0, 7, 153, 0, 14, 21, 4, 133, 9, 10]
abbrev dktX0_odds_0 : List UInt8 := dkwX0_odds_0 ++ dktX0_odds_1
theorem dksX0_odds_0 : cX0_odds.data.toList.drop 0 = dktX0_odds_0 := by decide +kernel
theorem dksX0_odds_1 : cX0_odds.data.toList.drop 24 = dktX0_odds_1 := dk_seg dksX0_odds_0 24 rfl rfl
theorem dksX0_odds_2 : cX0_odds.data.toList.drop 47 = dktX0_odds_2 := dk_seg dksX0_odds_1 23 rfl rfl
theorem dksX0_odds_3 : cX0_odds.data.toList.drop 70 = dktX0_odds_3 := dk_seg dksX0_odds_2 23 rfl rfl
theorem dksX0_odds_4 : cX0_odds.data.toList.drop 94 = dktX0_odds_4 := dk_seg dksX0_odds_3 24 rfl rfl
theorem dksX0_odds_5 : cX0_odds.data.toList.drop 118 = dktX0_odds_5 := dk_seg dksX0_odds_4 24 rfl rfl
theorem dX0_odds_0 : decode cX0_odds 0 = .ok (.iload_n 1, 1) := dk_27 (dk_at dksX0_odds_0 0 rfl rfl)
theorem dX0_odds_1 : decode cX0_odds 1 = .ok (.invokestatic 21, 3) := dk_184 0 21 (dk_at dksX0_odds_0 1 rfl rfl)
theorem dX0_odds_4 : decode cX0_odds 4 = .ok (.ifCond .eq 26, 3) := dk_153 0 26 (dk_at dksX0_odds_0 4 rfl rfl)
theorem dX0_odds_7 : decode cX0_odds 7 = .ok (.iload_n 3, 1) := dk_29 (dk_at dksX0_odds_0 7 rfl rfl)
theorem dX0_odds_8 : decode cX0_odds 8 = .ok (.i2l, 1) := dk_133 (dk_at dksX0_odds_0 8 rfl rfl)
theorem dX0_odds_9 : decode cX0_odds 9 = .ok (.lconst 1, 1) := dk_10 (dk_at dksX0_odds_0 9 rfl rfl)
theorem dX0_odds_10 : decode cX0_odds 10 = .ok (.ldc2_w 11, 3) := dk_20 0 11 (dk_at dksX0_odds_0 10 rfl rfl)
theorem dX0_odds_13 : decode cX0_odds 13 = .ok (.invokestatic 7, 3) := dk_184 0 7 (dk_at dksX0_odds_0 13 rfl rfl)
theorem dX0_odds_16 : decode cX0_odds 16 = .ok (.ifCond .eq 14, 3) := dk_153 0 14 (dk_at dksX0_odds_0 16 rfl rfl)
theorem dX0_odds_19 : decode cX0_odds 19 = .ok (.iload 4, 2) := dk_21 4 (dk_at dksX0_odds_0 19 rfl rfl)
theorem dX0_odds_21 : decode cX0_odds 21 = .ok (.i2l, 1) := dk_133 (dk_at dksX0_odds_0 21 rfl rfl)
theorem dX0_odds_22 : decode cX0_odds 22 = .ok (.lconst 0, 1) := dk_9 (dk_at dksX0_odds_0 22 rfl rfl)
theorem dX0_odds_23 : decode cX0_odds 23 = .ok (.lconst 1, 1) := dk_10 (dk_at dksX0_odds_0 23 rfl rfl)
theorem dX0_odds_24 : decode cX0_odds 24 = .ok (.invokestatic 7, 3) := dk_184 0 7 (dk_at dksX0_odds_1 0 rfl rfl)
theorem dX0_odds_27 : decode cX0_odds 27 = .ok (.ifCond .ne 7, 3) := dk_154 0 7 (dk_at dksX0_odds_1 3 rfl rfl)
theorem dX0_odds_30 : decode cX0_odds 30 = .ok (.ldc2_w 204, 3) := dk_20 0 204 (dk_at dksX0_odds_1 6 rfl rfl)
theorem dX0_odds_33 : decode cX0_odds 33 = .ok (.lreturn, 1) := dk_173 (dk_at dksX0_odds_1 9 rfl rfl)
theorem dX0_odds_34 : decode cX0_odds 34 = .ok (.iconst 0, 1) := dk_3 (dk_at dksX0_odds_1 10 rfl rfl)
theorem dX0_odds_35 : decode cX0_odds 35 = .ok (.istore 5, 2) := dk_54 5 (dk_at dksX0_odds_1 11 rfl rfl)
theorem dX0_odds_37 : decode cX0_odds 37 = .ok (.iconst 0, 1) := dk_3 (dk_at dksX0_odds_1 13 rfl rfl)
theorem dX0_odds_38 : decode cX0_odds 38 = .ok (.istore 6, 2) := dk_54 6 (dk_at dksX0_odds_1 14 rfl rfl)
theorem dX0_odds_40 : decode cX0_odds 40 = .ok (.iload 6, 2) := dk_21 6 (dk_at dksX0_odds_1 16 rfl rfl)
theorem dX0_odds_42 : decode cX0_odds 42 = .ok (.iload_n 3, 1) := dk_29 (dk_at dksX0_odds_1 18 rfl rfl)
theorem dX0_odds_43 : decode cX0_odds 43 = .ok (.if_icmp .ge 73, 3) := dk_162 0 73 (dk_at dksX0_odds_1 19 rfl rfl)
theorem dX0_odds_46 : decode cX0_odds 46 = .ok (.iload_n 2, 1) := dk_28 (dk_at dksX0_odds_1 22 rfl rfl)
theorem dX0_odds_47 : decode cX0_odds 47 = .ok (.iload 6, 2) := dk_21 6 (dk_at dksX0_odds_2 0 rfl rfl)
theorem dX0_odds_49 : decode cX0_odds 49 = .ok (.iadd, 1) := dk_96 (dk_at dksX0_odds_2 2 rfl rfl)
theorem dX0_odds_50 : decode cX0_odds 50 = .ok (.ldc_w 442, 3) := dk_19 1 186 (dk_at dksX0_odds_2 3 rfl rfl)
theorem dX0_odds_53 : decode cX0_odds 53 = .ok (.imul, 1) := dk_104 (dk_at dksX0_odds_2 6 rfl rfl)
theorem dX0_odds_54 : decode cX0_odds 54 = .ok (.sipush 12345, 3) := dk_17 48 57 (dk_at dksX0_odds_2 7 rfl rfl)
theorem dX0_odds_57 : decode cX0_odds 57 = .ok (.iadd, 1) := dk_96 (dk_at dksX0_odds_2 10 rfl rfl)
theorem dX0_odds_58 : decode cX0_odds 58 = .ok (.istore 7, 2) := dk_54 7 (dk_at dksX0_odds_2 11 rfl rfl)
theorem dX0_odds_60 : decode cX0_odds 60 = .ok (.iload 7, 2) := dk_21 7 (dk_at dksX0_odds_2 13 rfl rfl)
theorem dX0_odds_62 : decode cX0_odds 62 = .ok (.bipush 16, 2) := dk_16 16 (dk_at dksX0_odds_2 15 rfl rfl)
theorem dX0_odds_64 : decode cX0_odds 64 = .ok (.iushr, 1) := dk_124 (dk_at dksX0_odds_2 17 rfl rfl)
theorem dX0_odds_65 : decode cX0_odds 65 = .ok (.bipush 32, 2) := dk_16 32 (dk_at dksX0_odds_2 18 rfl rfl)
theorem dX0_odds_67 : decode cX0_odds 67 = .ok (.irem, 1) := dk_112 (dk_at dksX0_odds_2 20 rfl rfl)
theorem dX0_odds_68 : decode cX0_odds 68 = .ok (.istore 8, 2) := dk_54 8 (dk_at dksX0_odds_2 21 rfl rfl)
theorem dX0_odds_70 : decode cX0_odds 70 = .ok (.iload 7, 2) := dk_21 7 (dk_at dksX0_odds_3 0 rfl rfl)
theorem dX0_odds_72 : decode cX0_odds 72 = .ok (.ldc_w 442, 3) := dk_19 1 186 (dk_at dksX0_odds_3 2 rfl rfl)
theorem dX0_odds_75 : decode cX0_odds 75 = .ok (.imul, 1) := dk_104 (dk_at dksX0_odds_3 5 rfl rfl)
theorem dX0_odds_76 : decode cX0_odds 76 = .ok (.sipush 12345, 3) := dk_17 48 57 (dk_at dksX0_odds_3 6 rfl rfl)
theorem dX0_odds_79 : decode cX0_odds 79 = .ok (.iadd, 1) := dk_96 (dk_at dksX0_odds_3 9 rfl rfl)
theorem dX0_odds_80 : decode cX0_odds 80 = .ok (.istore 7, 2) := dk_54 7 (dk_at dksX0_odds_3 10 rfl rfl)
theorem dX0_odds_82 : decode cX0_odds 82 = .ok (.iload 5, 2) := dk_21 5 (dk_at dksX0_odds_3 12 rfl rfl)
theorem dX0_odds_84 : decode cX0_odds 84 = .ok (.aload_n 0, 1) := dk_42 (dk_at dksX0_odds_3 14 rfl rfl)
theorem dX0_odds_85 : decode cX0_odds 85 = .ok (.iload 8, 2) := dk_21 8 (dk_at dksX0_odds_3 15 rfl rfl)
theorem dX0_odds_87 : decode cX0_odds 87 = .ok (.iload 7, 2) := dk_21 7 (dk_at dksX0_odds_3 17 rfl rfl)
theorem dX0_odds_89 : decode cX0_odds 89 = .ok (.bipush 16, 2) := dk_16 16 (dk_at dksX0_odds_3 19 rfl rfl)
theorem dX0_odds_91 : decode cX0_odds 91 = .ok (.iushr, 1) := dk_124 (dk_at dksX0_odds_3 21 rfl rfl)
theorem dX0_odds_92 : decode cX0_odds 92 = .ok (.bipush 32, 2) := dk_16 32 (dk_at dksX0_odds_3 22 rfl rfl)
theorem dX0_odds_94 : decode cX0_odds 94 = .ok (.irem, 1) := dk_112 (dk_at dksX0_odds_4 0 rfl rfl)
theorem dX0_odds_95 : decode cX0_odds 95 = .ok (.invokevirtual 189, 3) := dk_182 0 189 (dk_at dksX0_odds_4 1 rfl rfl)
theorem dX0_odds_98 : decode cX0_odds 98 = .ok (.iload_n 1, 1) := dk_27 (dk_at dksX0_odds_4 4 rfl rfl)
theorem dX0_odds_99 : decode cX0_odds 99 = .ok (.if_icmp .ne 7, 3) := dk_160 0 7 (dk_at dksX0_odds_4 5 rfl rfl)
theorem dX0_odds_102 : decode cX0_odds 102 = .ok (.iconst 1, 1) := dk_4 (dk_at dksX0_odds_4 8 rfl rfl)
theorem dX0_odds_103 : decode cX0_odds 103 = .ok (.goto 4, 3) := dk_167 0 4 (dk_at dksX0_odds_4 9 rfl rfl)
theorem dX0_odds_106 : decode cX0_odds 106 = .ok (.iconst 0, 1) := dk_3 (dk_at dksX0_odds_4 12 rfl rfl)
theorem dX0_odds_107 : decode cX0_odds 107 = .ok (.iadd, 1) := dk_96 (dk_at dksX0_odds_4 13 rfl rfl)
theorem dX0_odds_108 : decode cX0_odds 108 = .ok (.istore 5, 2) := dk_54 5 (dk_at dksX0_odds_4 14 rfl rfl)
theorem dX0_odds_110 : decode cX0_odds 110 = .ok (.iinc 6 1, 3) := dk_132 6 1 (dk_at dksX0_odds_4 16 rfl rfl)
theorem dX0_odds_113 : decode cX0_odds 113 = .ok (.goto (-73), 3) := dk_167 255 183 (dk_at dksX0_odds_4 19 rfl rfl)
theorem dX0_odds_116 : decode cX0_odds 116 = .ok (.iload 5, 2) := dk_21 5 (dk_at dksX0_odds_4 22 rfl rfl)
theorem dX0_odds_118 : decode cX0_odds 118 = .ok (.i2l, 1) := dk_133 (dk_at dksX0_odds_5 0 rfl rfl)
theorem dX0_odds_119 : decode cX0_odds 119 = .ok (.iload_n 3, 1) := dk_29 (dk_at dksX0_odds_5 1 rfl rfl)
theorem dX0_odds_120 : decode cX0_odds 120 = .ok (.i2l, 1) := dk_133 (dk_at dksX0_odds_5 2 rfl rfl)
theorem dX0_odds_121 : decode cX0_odds 121 = .ok (.iload 4, 2) := dk_21 4 (dk_at dksX0_odds_5 3 rfl rfl)
theorem dX0_odds_123 : decode cX0_odds 123 = .ok (.invokestatic 443, 3) := dk_184 1 187 (dk_at dksX0_odds_5 5 rfl rfl)
theorem dX0_odds_126 : decode cX0_odds 126 = .ok (.lreturn, 1) := dk_173 (dk_at dksX0_odds_5 8 rfl rfl)
abbrev cX0_lowest : ByteArray := prog_1_method_66_code
def yX0_lowest : MethodName := ⟨RX0, "lowest", "(JJI)J"⟩
def dkwX0_lowest_1 : List UInt8 := [22, 9, 55, 7, 167, 255, 234, 21, 4, 154, 0, 7, 30, 167, 0, 4, 32, 22, 5, 109, 173]
abbrev dktX0_lowest_1 : List UInt8 := dkwX0_lowest_1 ++ []
def dkwX0_lowest_0 : List UInt8 := [30, 55, 5, 32, 55, 7, 22, 7, 9, 148, 153, 0, 21, 22, 5, 22, 7, 113, 55, 9, 22, 7, 55, 5]
abbrev dktX0_lowest_0 : List UInt8 := dkwX0_lowest_0 ++ dktX0_lowest_1
theorem dksX0_lowest_0 : cX0_lowest.data.toList.drop 0 = dktX0_lowest_0 := by decide +kernel
theorem dksX0_lowest_1 : cX0_lowest.data.toList.drop 24 = dktX0_lowest_1 := dk_seg dksX0_lowest_0 24 rfl rfl
theorem dX0_lowest_0 : decode cX0_lowest 0 = .ok (.lload_n 0, 1) := dk_30 (dk_at dksX0_lowest_0 0 rfl rfl)
theorem dX0_lowest_1 : decode cX0_lowest 1 = .ok (.lstore 5, 2) := dk_55 5 (dk_at dksX0_lowest_0 1 rfl rfl)
theorem dX0_lowest_3 : decode cX0_lowest 3 = .ok (.lload_n 2, 1) := dk_32 (dk_at dksX0_lowest_0 3 rfl rfl)
theorem dX0_lowest_4 : decode cX0_lowest 4 = .ok (.lstore 7, 2) := dk_55 7 (dk_at dksX0_lowest_0 4 rfl rfl)
theorem dX0_lowest_6 : decode cX0_lowest 6 = .ok (.lload 7, 2) := dk_22 7 (dk_at dksX0_lowest_0 6 rfl rfl)
theorem dX0_lowest_8 : decode cX0_lowest 8 = .ok (.lconst 0, 1) := dk_9 (dk_at dksX0_lowest_0 8 rfl rfl)
theorem dX0_lowest_9 : decode cX0_lowest 9 = .ok (.lcmp, 1) := dk_148 (dk_at dksX0_lowest_0 9 rfl rfl)
theorem dX0_lowest_10 : decode cX0_lowest 10 = .ok (.ifCond .eq 21, 3) := dk_153 0 21 (dk_at dksX0_lowest_0 10 rfl rfl)
theorem dX0_lowest_13 : decode cX0_lowest 13 = .ok (.lload 5, 2) := dk_22 5 (dk_at dksX0_lowest_0 13 rfl rfl)
theorem dX0_lowest_15 : decode cX0_lowest 15 = .ok (.lload 7, 2) := dk_22 7 (dk_at dksX0_lowest_0 15 rfl rfl)
theorem dX0_lowest_17 : decode cX0_lowest 17 = .ok (.lrem, 1) := dk_113 (dk_at dksX0_lowest_0 17 rfl rfl)
theorem dX0_lowest_18 : decode cX0_lowest 18 = .ok (.lstore 9, 2) := dk_55 9 (dk_at dksX0_lowest_0 18 rfl rfl)
theorem dX0_lowest_20 : decode cX0_lowest 20 = .ok (.lload 7, 2) := dk_22 7 (dk_at dksX0_lowest_0 20 rfl rfl)
theorem dX0_lowest_22 : decode cX0_lowest 22 = .ok (.lstore 5, 2) := dk_55 5 (dk_at dksX0_lowest_0 22 rfl rfl)
theorem dX0_lowest_24 : decode cX0_lowest 24 = .ok (.lload 9, 2) := dk_22 9 (dk_at dksX0_lowest_1 0 rfl rfl)
theorem dX0_lowest_26 : decode cX0_lowest 26 = .ok (.lstore 7, 2) := dk_55 7 (dk_at dksX0_lowest_1 2 rfl rfl)
theorem dX0_lowest_28 : decode cX0_lowest 28 = .ok (.goto (-22), 3) := dk_167 255 234 (dk_at dksX0_lowest_1 4 rfl rfl)
theorem dX0_lowest_31 : decode cX0_lowest 31 = .ok (.iload 4, 2) := dk_21 4 (dk_at dksX0_lowest_1 7 rfl rfl)
theorem dX0_lowest_33 : decode cX0_lowest 33 = .ok (.ifCond .ne 7, 3) := dk_154 0 7 (dk_at dksX0_lowest_1 9 rfl rfl)
theorem dX0_lowest_36 : decode cX0_lowest 36 = .ok (.lload_n 0, 1) := dk_30 (dk_at dksX0_lowest_1 12 rfl rfl)
theorem dX0_lowest_37 : decode cX0_lowest 37 = .ok (.goto 4, 3) := dk_167 0 4 (dk_at dksX0_lowest_1 13 rfl rfl)
theorem dX0_lowest_40 : decode cX0_lowest 40 = .ok (.lload_n 2, 1) := dk_32 (dk_at dksX0_lowest_1 16 rfl rfl)
theorem dX0_lowest_41 : decode cX0_lowest 41 = .ok (.lload 5, 2) := dk_22 5 (dk_at dksX0_lowest_1 17 rfl rfl)
theorem dX0_lowest_43 : decode cX0_lowest 43 = .ok (.ldiv, 1) := dk_109 (dk_at dksX0_lowest_1 19 rfl rfl)
theorem dX0_lowest_44 : decode cX0_lowest 44 = .ok (.lreturn, 1) := dk_173 (dk_at dksX0_lowest_1 20 rfl rfl)
abbrev cX0_plan : ByteArray := prog_1_method_72_code
def yX0_plan : MethodName := ⟨RX0, "plan", "(II)I"⟩
def dkwX0_plan_5 : List UInt8 := [180, 1, 196, 172]
abbrev dktX0_plan_5 : List UInt8 := dkwX0_plan_5 ++ []
def dkwX0_plan_4 : List UInt8 := [104, 4, 96, 28, 79, 42, 180, 0, 36, 89, 180, 1, 196, 4, 96, 181, 1, 196, 42, 180, 0, 36]
abbrev dktX0_plan_4 : List UInt8 := dkwX0_plan_4 ++ dktX0_plan_5
def dkwX0_plan_3 : List UInt8 := [180, 0, 36, 180, 1, 196, 104, 27, 79, 42, 180, 0, 36, 180, 1, 202, 5, 42, 180, 0, 36, 180, 1, 196]
abbrev dktX0_plan_3 : List UInt8 := dkwX0_plan_3 ++ dktX0_plan_4
def dkwX0_plan_2 : List UInt8 := [180, 0, 36, 180, 1, 196, 16, 8, 160, 0, 6, 16, 252, 172, 42, 180, 0, 36, 180, 1, 202, 5, 42]
abbrev dktX0_plan_2 : List UInt8 := dkwX0_plan_2 ++ dktX0_plan_3
def dkwX0_plan_1 : List UInt8 := [100, 133, 184, 0, 7, 154, 0, 5, 2, 172, 27, 28, 184, 1, 199, 154, 0, 6, 16, 254, 172, 42]
abbrev dktX0_plan_1 : List UInt8 := dkwX0_plan_1 ++ dktX0_plan_2
def dkwX0_plan_0 : List UInt8 := [27, 2, 160, 0, 13, 42, 180, 0, 36, 3, 181, 1, 196, 3, 172, 27, 133, 9, 42, 180, 0, 45, 190, 4]
abbrev dktX0_plan_0 : List UInt8 := dkwX0_plan_0 ++ dktX0_plan_1
theorem dksX0_plan_0 : cX0_plan.data.toList.drop 0 = dktX0_plan_0 := by decide +kernel
theorem dksX0_plan_1 : cX0_plan.data.toList.drop 24 = dktX0_plan_1 := dk_seg dksX0_plan_0 24 rfl rfl
theorem dksX0_plan_2 : cX0_plan.data.toList.drop 46 = dktX0_plan_2 := dk_seg dksX0_plan_1 22 rfl rfl
theorem dksX0_plan_3 : cX0_plan.data.toList.drop 69 = dktX0_plan_3 := dk_seg dksX0_plan_2 23 rfl rfl
theorem dksX0_plan_4 : cX0_plan.data.toList.drop 93 = dktX0_plan_4 := dk_seg dksX0_plan_3 24 rfl rfl
theorem dksX0_plan_5 : cX0_plan.data.toList.drop 115 = dktX0_plan_5 := dk_seg dksX0_plan_4 22 rfl rfl
theorem dX0_plan_0 : decode cX0_plan 0 = .ok (.iload_n 1, 1) := dk_27 (dk_at dksX0_plan_0 0 rfl rfl)
theorem dX0_plan_1 : decode cX0_plan 1 = .ok (.iconst (-1), 1) := dk_2 (dk_at dksX0_plan_0 1 rfl rfl)
theorem dX0_plan_2 : decode cX0_plan 2 = .ok (.if_icmp .ne 13, 3) := dk_160 0 13 (dk_at dksX0_plan_0 2 rfl rfl)
theorem dX0_plan_5 : decode cX0_plan 5 = .ok (.aload_n 0, 1) := dk_42 (dk_at dksX0_plan_0 5 rfl rfl)
theorem dX0_plan_6 : decode cX0_plan 6 = .ok (.getfield 36, 3) := dk_180 0 36 (dk_at dksX0_plan_0 6 rfl rfl)
theorem dX0_plan_9 : decode cX0_plan 9 = .ok (.iconst 0, 1) := dk_3 (dk_at dksX0_plan_0 9 rfl rfl)
theorem dX0_plan_10 : decode cX0_plan 10 = .ok (.putfield 452, 3) := dk_181 1 196 (dk_at dksX0_plan_0 10 rfl rfl)
theorem dX0_plan_13 : decode cX0_plan 13 = .ok (.iconst 0, 1) := dk_3 (dk_at dksX0_plan_0 13 rfl rfl)
theorem dX0_plan_14 : decode cX0_plan 14 = .ok (.ireturn, 1) := dk_172 (dk_at dksX0_plan_0 14 rfl rfl)
theorem dX0_plan_15 : decode cX0_plan 15 = .ok (.iload_n 1, 1) := dk_27 (dk_at dksX0_plan_0 15 rfl rfl)
theorem dX0_plan_16 : decode cX0_plan 16 = .ok (.i2l, 1) := dk_133 (dk_at dksX0_plan_0 16 rfl rfl)
theorem dX0_plan_17 : decode cX0_plan 17 = .ok (.lconst 0, 1) := dk_9 (dk_at dksX0_plan_0 17 rfl rfl)
theorem dX0_plan_18 : decode cX0_plan 18 = .ok (.aload_n 0, 1) := dk_42 (dk_at dksX0_plan_0 18 rfl rfl)
theorem dX0_plan_19 : decode cX0_plan 19 = .ok (.getfield 45, 3) := dk_180 0 45 (dk_at dksX0_plan_0 19 rfl rfl)
theorem dX0_plan_22 : decode cX0_plan 22 = .ok (.arraylength, 1) := dk_190 (dk_at dksX0_plan_0 22 rfl rfl)
theorem dX0_plan_23 : decode cX0_plan 23 = .ok (.iconst 1, 1) := dk_4 (dk_at dksX0_plan_0 23 rfl rfl)
theorem dX0_plan_24 : decode cX0_plan 24 = .ok (.isub, 1) := dk_100 (dk_at dksX0_plan_1 0 rfl rfl)
theorem dX0_plan_25 : decode cX0_plan 25 = .ok (.i2l, 1) := dk_133 (dk_at dksX0_plan_1 1 rfl rfl)
theorem dX0_plan_26 : decode cX0_plan 26 = .ok (.invokestatic 7, 3) := dk_184 0 7 (dk_at dksX0_plan_1 2 rfl rfl)
theorem dX0_plan_29 : decode cX0_plan 29 = .ok (.ifCond .ne 5, 3) := dk_154 0 5 (dk_at dksX0_plan_1 5 rfl rfl)
theorem dX0_plan_32 : decode cX0_plan 32 = .ok (.iconst (-1), 1) := dk_2 (dk_at dksX0_plan_1 8 rfl rfl)
theorem dX0_plan_33 : decode cX0_plan 33 = .ok (.ireturn, 1) := dk_172 (dk_at dksX0_plan_1 9 rfl rfl)
theorem dX0_plan_34 : decode cX0_plan 34 = .ok (.iload_n 1, 1) := dk_27 (dk_at dksX0_plan_1 10 rfl rfl)
theorem dX0_plan_35 : decode cX0_plan 35 = .ok (.iload_n 2, 1) := dk_28 (dk_at dksX0_plan_1 11 rfl rfl)
theorem dX0_plan_36 : decode cX0_plan 36 = .ok (.invokestatic 455, 3) := dk_184 1 199 (dk_at dksX0_plan_1 12 rfl rfl)
theorem dX0_plan_39 : decode cX0_plan 39 = .ok (.ifCond .ne 6, 3) := dk_154 0 6 (dk_at dksX0_plan_1 15 rfl rfl)
theorem dX0_plan_42 : decode cX0_plan 42 = .ok (.bipush (-2), 2) := dk_16 254 (dk_at dksX0_plan_1 18 rfl rfl)
theorem dX0_plan_44 : decode cX0_plan 44 = .ok (.ireturn, 1) := dk_172 (dk_at dksX0_plan_1 20 rfl rfl)
theorem dX0_plan_45 : decode cX0_plan 45 = .ok (.aload_n 0, 1) := dk_42 (dk_at dksX0_plan_1 21 rfl rfl)
theorem dX0_plan_46 : decode cX0_plan 46 = .ok (.getfield 36, 3) := dk_180 0 36 (dk_at dksX0_plan_2 0 rfl rfl)
theorem dX0_plan_49 : decode cX0_plan 49 = .ok (.getfield 452, 3) := dk_180 1 196 (dk_at dksX0_plan_2 3 rfl rfl)
theorem dX0_plan_52 : decode cX0_plan 52 = .ok (.bipush 8, 2) := dk_16 8 (dk_at dksX0_plan_2 6 rfl rfl)
theorem dX0_plan_54 : decode cX0_plan 54 = .ok (.if_icmp .ne 6, 3) := dk_160 0 6 (dk_at dksX0_plan_2 8 rfl rfl)
theorem dX0_plan_57 : decode cX0_plan 57 = .ok (.bipush (-4), 2) := dk_16 252 (dk_at dksX0_plan_2 11 rfl rfl)
theorem dX0_plan_59 : decode cX0_plan 59 = .ok (.ireturn, 1) := dk_172 (dk_at dksX0_plan_2 13 rfl rfl)
theorem dX0_plan_60 : decode cX0_plan 60 = .ok (.aload_n 0, 1) := dk_42 (dk_at dksX0_plan_2 14 rfl rfl)
theorem dX0_plan_61 : decode cX0_plan 61 = .ok (.getfield 36, 3) := dk_180 0 36 (dk_at dksX0_plan_2 15 rfl rfl)
theorem dX0_plan_64 : decode cX0_plan 64 = .ok (.getfield 458, 3) := dk_180 1 202 (dk_at dksX0_plan_2 18 rfl rfl)
theorem dX0_plan_67 : decode cX0_plan 67 = .ok (.iconst 2, 1) := dk_5 (dk_at dksX0_plan_2 21 rfl rfl)
theorem dX0_plan_68 : decode cX0_plan 68 = .ok (.aload_n 0, 1) := dk_42 (dk_at dksX0_plan_2 22 rfl rfl)
theorem dX0_plan_69 : decode cX0_plan 69 = .ok (.getfield 36, 3) := dk_180 0 36 (dk_at dksX0_plan_3 0 rfl rfl)
theorem dX0_plan_72 : decode cX0_plan 72 = .ok (.getfield 452, 3) := dk_180 1 196 (dk_at dksX0_plan_3 3 rfl rfl)
theorem dX0_plan_75 : decode cX0_plan 75 = .ok (.imul, 1) := dk_104 (dk_at dksX0_plan_3 6 rfl rfl)
theorem dX0_plan_76 : decode cX0_plan 76 = .ok (.iload_n 1, 1) := dk_27 (dk_at dksX0_plan_3 7 rfl rfl)
theorem dX0_plan_77 : decode cX0_plan 77 = .ok (.iastore, 1) := dk_79 (dk_at dksX0_plan_3 8 rfl rfl)
theorem dX0_plan_78 : decode cX0_plan 78 = .ok (.aload_n 0, 1) := dk_42 (dk_at dksX0_plan_3 9 rfl rfl)
theorem dX0_plan_79 : decode cX0_plan 79 = .ok (.getfield 36, 3) := dk_180 0 36 (dk_at dksX0_plan_3 10 rfl rfl)
theorem dX0_plan_82 : decode cX0_plan 82 = .ok (.getfield 458, 3) := dk_180 1 202 (dk_at dksX0_plan_3 13 rfl rfl)
theorem dX0_plan_85 : decode cX0_plan 85 = .ok (.iconst 2, 1) := dk_5 (dk_at dksX0_plan_3 16 rfl rfl)
theorem dX0_plan_86 : decode cX0_plan 86 = .ok (.aload_n 0, 1) := dk_42 (dk_at dksX0_plan_3 17 rfl rfl)
theorem dX0_plan_87 : decode cX0_plan 87 = .ok (.getfield 36, 3) := dk_180 0 36 (dk_at dksX0_plan_3 18 rfl rfl)
theorem dX0_plan_90 : decode cX0_plan 90 = .ok (.getfield 452, 3) := dk_180 1 196 (dk_at dksX0_plan_3 21 rfl rfl)
theorem dX0_plan_93 : decode cX0_plan 93 = .ok (.imul, 1) := dk_104 (dk_at dksX0_plan_4 0 rfl rfl)
theorem dX0_plan_94 : decode cX0_plan 94 = .ok (.iconst 1, 1) := dk_4 (dk_at dksX0_plan_4 1 rfl rfl)
theorem dX0_plan_95 : decode cX0_plan 95 = .ok (.iadd, 1) := dk_96 (dk_at dksX0_plan_4 2 rfl rfl)
theorem dX0_plan_96 : decode cX0_plan 96 = .ok (.iload_n 2, 1) := dk_28 (dk_at dksX0_plan_4 3 rfl rfl)
theorem dX0_plan_97 : decode cX0_plan 97 = .ok (.iastore, 1) := dk_79 (dk_at dksX0_plan_4 4 rfl rfl)
theorem dX0_plan_98 : decode cX0_plan 98 = .ok (.aload_n 0, 1) := dk_42 (dk_at dksX0_plan_4 5 rfl rfl)
theorem dX0_plan_99 : decode cX0_plan 99 = .ok (.getfield 36, 3) := dk_180 0 36 (dk_at dksX0_plan_4 6 rfl rfl)
theorem dX0_plan_102 : decode cX0_plan 102 = .ok (.dup, 1) := dk_89 (dk_at dksX0_plan_4 9 rfl rfl)
theorem dX0_plan_103 : decode cX0_plan 103 = .ok (.getfield 452, 3) := dk_180 1 196 (dk_at dksX0_plan_4 10 rfl rfl)
theorem dX0_plan_106 : decode cX0_plan 106 = .ok (.iconst 1, 1) := dk_4 (dk_at dksX0_plan_4 13 rfl rfl)
theorem dX0_plan_107 : decode cX0_plan 107 = .ok (.iadd, 1) := dk_96 (dk_at dksX0_plan_4 14 rfl rfl)
theorem dX0_plan_108 : decode cX0_plan 108 = .ok (.putfield 452, 3) := dk_181 1 196 (dk_at dksX0_plan_4 15 rfl rfl)
theorem dX0_plan_111 : decode cX0_plan 111 = .ok (.aload_n 0, 1) := dk_42 (dk_at dksX0_plan_4 18 rfl rfl)
theorem dX0_plan_112 : decode cX0_plan 112 = .ok (.getfield 36, 3) := dk_180 0 36 (dk_at dksX0_plan_4 19 rfl rfl)
theorem dX0_plan_115 : decode cX0_plan 115 = .ok (.getfield 452, 3) := dk_180 1 196 (dk_at dksX0_plan_5 0 rfl rfl)
theorem dX0_plan_118 : decode cX0_plan 118 = .ok (.ireturn, 1) := dk_172 (dk_at dksX0_plan_5 3 rfl rfl)
abbrev cX0_isSo : ByteArray := prog_1_method_71_code
def yX0_isSo : MethodName := ⟨RX0, "isSo", "(II)Z"⟩
def dkwX0_isSo_1 : List UInt8 := [20, 1, 194, 184, 0, 7, 153, 0, 7, 4, 167, 0, 4, 3, 172]
abbrev dktX0_isSo_1 : List UInt8 := dkwX0_isSo_1 ++ []
def dkwX0_isSo_0 : List UInt8 := [26, 6, 159, 0, 30, 26, 5, 160, 0, 13, 27, 184, 0, 198, 153, 0, 22, 167, 0, 15, 27, 133, 10]
abbrev dktX0_isSo_0 : List UInt8 := dkwX0_isSo_0 ++ dktX0_isSo_1
theorem dksX0_isSo_0 : cX0_isSo.data.toList.drop 0 = dktX0_isSo_0 := by decide +kernel
theorem dksX0_isSo_1 : cX0_isSo.data.toList.drop 23 = dktX0_isSo_1 := dk_seg dksX0_isSo_0 23 rfl rfl
theorem dX0_isSo_0 : decode cX0_isSo 0 = .ok (.iload_n 0, 1) := dk_26 (dk_at dksX0_isSo_0 0 rfl rfl)
theorem dX0_isSo_1 : decode cX0_isSo 1 = .ok (.iconst 3, 1) := dk_6 (dk_at dksX0_isSo_0 1 rfl rfl)
theorem dX0_isSo_2 : decode cX0_isSo 2 = .ok (.if_icmp .eq 30, 3) := dk_159 0 30 (dk_at dksX0_isSo_0 2 rfl rfl)
theorem dX0_isSo_5 : decode cX0_isSo 5 = .ok (.iload_n 0, 1) := dk_26 (dk_at dksX0_isSo_0 5 rfl rfl)
theorem dX0_isSo_6 : decode cX0_isSo 6 = .ok (.iconst 2, 1) := dk_5 (dk_at dksX0_isSo_0 6 rfl rfl)
theorem dX0_isSo_7 : decode cX0_isSo 7 = .ok (.if_icmp .ne 13, 3) := dk_160 0 13 (dk_at dksX0_isSo_0 7 rfl rfl)
theorem dX0_isSo_10 : decode cX0_isSo 10 = .ok (.iload_n 1, 1) := dk_27 (dk_at dksX0_isSo_0 10 rfl rfl)
theorem dX0_isSo_11 : decode cX0_isSo 11 = .ok (.invokestatic 198, 3) := dk_184 0 198 (dk_at dksX0_isSo_0 11 rfl rfl)
theorem dX0_isSo_14 : decode cX0_isSo 14 = .ok (.ifCond .eq 22, 3) := dk_153 0 22 (dk_at dksX0_isSo_0 14 rfl rfl)
theorem dX0_isSo_17 : decode cX0_isSo 17 = .ok (.goto 15, 3) := dk_167 0 15 (dk_at dksX0_isSo_0 17 rfl rfl)
theorem dX0_isSo_20 : decode cX0_isSo 20 = .ok (.iload_n 1, 1) := dk_27 (dk_at dksX0_isSo_0 20 rfl rfl)
theorem dX0_isSo_21 : decode cX0_isSo 21 = .ok (.i2l, 1) := dk_133 (dk_at dksX0_isSo_0 21 rfl rfl)
theorem dX0_isSo_22 : decode cX0_isSo 22 = .ok (.lconst 1, 1) := dk_10 (dk_at dksX0_isSo_0 22 rfl rfl)
theorem dX0_isSo_23 : decode cX0_isSo 23 = .ok (.ldc2_w 450, 3) := dk_20 1 194 (dk_at dksX0_isSo_1 0 rfl rfl)
theorem dX0_isSo_26 : decode cX0_isSo 26 = .ok (.invokestatic 7, 3) := dk_184 0 7 (dk_at dksX0_isSo_1 3 rfl rfl)
theorem dX0_isSo_29 : decode cX0_isSo 29 = .ok (.ifCond .eq 7, 3) := dk_153 0 7 (dk_at dksX0_isSo_1 6 rfl rfl)
theorem dX0_isSo_32 : decode cX0_isSo 32 = .ok (.iconst 1, 1) := dk_4 (dk_at dksX0_isSo_1 9 rfl rfl)
theorem dX0_isSo_33 : decode cX0_isSo 33 = .ok (.goto 4, 3) := dk_167 0 4 (dk_at dksX0_isSo_1 10 rfl rfl)
theorem dX0_isSo_36 : decode cX0_isSo 36 = .ok (.iconst 0, 1) := dk_3 (dk_at dksX0_isSo_1 13 rfl rfl)
theorem dX0_isSo_37 : decode cX0_isSo 37 = .ok (.ireturn, 1) := dk_172 (dk_at dksX0_isSo_1 14 rfl rfl)
abbrev cX0_ends : ByteArray := prog_1_method_73_code
def yX0_ends : MethodName := ⟨RX0, "ends", "(II)I"⟩
def dkwX0_ends_3 : List UInt8 := [132, 4, 1, 167, 255, 203, 29, 172]
abbrev dktX0_ends_3 : List UInt8 := dkwX0_ends_3 ++ []
def dkwX0_ends_2 : List UInt8 := [46, 50, 29, 42, 180, 0, 36, 180, 1, 202, 5, 21, 4, 104, 4, 96, 46, 185, 1, 205, 3, 0, 62]
abbrev dktX0_ends_2 : List UInt8 := dkwX0_ends_2 ++ dktX0_ends_3
def dkwX0_ends_1 : List UInt8 := [180, 0, 36, 180, 1, 196, 162, 0, 47, 42, 180, 0, 45, 42, 180, 0, 36, 180, 1, 202, 5, 21, 4, 104]
abbrev dktX0_ends_1 : List UInt8 := dkwX0_ends_1 ++ dktX0_ends_2
def dkwX0_ends_0 : List UInt8 := [27, 28, 184, 0, 179, 154, 0, 5, 2, 172, 27, 28, 184, 0, 206, 62, 3, 54, 4, 21, 4, 42]
abbrev dktX0_ends_0 : List UInt8 := dkwX0_ends_0 ++ dktX0_ends_1
theorem dksX0_ends_0 : cX0_ends.data.toList.drop 0 = dktX0_ends_0 := by decide +kernel
theorem dksX0_ends_1 : cX0_ends.data.toList.drop 22 = dktX0_ends_1 := dk_seg dksX0_ends_0 22 rfl rfl
theorem dksX0_ends_2 : cX0_ends.data.toList.drop 46 = dktX0_ends_2 := dk_seg dksX0_ends_1 24 rfl rfl
theorem dksX0_ends_3 : cX0_ends.data.toList.drop 69 = dktX0_ends_3 := dk_seg dksX0_ends_2 23 rfl rfl
theorem dX0_ends_0 : decode cX0_ends 0 = .ok (.iload_n 1, 1) := dk_27 (dk_at dksX0_ends_0 0 rfl rfl)
theorem dX0_ends_1 : decode cX0_ends 1 = .ok (.iload_n 2, 1) := dk_28 (dk_at dksX0_ends_0 1 rfl rfl)
theorem dX0_ends_2 : decode cX0_ends 2 = .ok (.invokestatic 179, 3) := dk_184 0 179 (dk_at dksX0_ends_0 2 rfl rfl)
theorem dX0_ends_5 : decode cX0_ends 5 = .ok (.ifCond .ne 5, 3) := dk_154 0 5 (dk_at dksX0_ends_0 5 rfl rfl)
theorem dX0_ends_8 : decode cX0_ends 8 = .ok (.iconst (-1), 1) := dk_2 (dk_at dksX0_ends_0 8 rfl rfl)
theorem dX0_ends_9 : decode cX0_ends 9 = .ok (.ireturn, 1) := dk_172 (dk_at dksX0_ends_0 9 rfl rfl)
theorem dX0_ends_10 : decode cX0_ends 10 = .ok (.iload_n 1, 1) := dk_27 (dk_at dksX0_ends_0 10 rfl rfl)
theorem dX0_ends_11 : decode cX0_ends 11 = .ok (.iload_n 2, 1) := dk_28 (dk_at dksX0_ends_0 11 rfl rfl)
theorem dX0_ends_12 : decode cX0_ends 12 = .ok (.invokestatic 206, 3) := dk_184 0 206 (dk_at dksX0_ends_0 12 rfl rfl)
theorem dX0_ends_15 : decode cX0_ends 15 = .ok (.istore_n 3, 1) := dk_62 (dk_at dksX0_ends_0 15 rfl rfl)
theorem dX0_ends_16 : decode cX0_ends 16 = .ok (.iconst 0, 1) := dk_3 (dk_at dksX0_ends_0 16 rfl rfl)
theorem dX0_ends_17 : decode cX0_ends 17 = .ok (.istore 4, 2) := dk_54 4 (dk_at dksX0_ends_0 17 rfl rfl)
theorem dX0_ends_19 : decode cX0_ends 19 = .ok (.iload 4, 2) := dk_21 4 (dk_at dksX0_ends_0 19 rfl rfl)
theorem dX0_ends_21 : decode cX0_ends 21 = .ok (.aload_n 0, 1) := dk_42 (dk_at dksX0_ends_0 21 rfl rfl)
theorem dX0_ends_22 : decode cX0_ends 22 = .ok (.getfield 36, 3) := dk_180 0 36 (dk_at dksX0_ends_1 0 rfl rfl)
theorem dX0_ends_25 : decode cX0_ends 25 = .ok (.getfield 452, 3) := dk_180 1 196 (dk_at dksX0_ends_1 3 rfl rfl)
theorem dX0_ends_28 : decode cX0_ends 28 = .ok (.if_icmp .ge 47, 3) := dk_162 0 47 (dk_at dksX0_ends_1 6 rfl rfl)
theorem dX0_ends_31 : decode cX0_ends 31 = .ok (.aload_n 0, 1) := dk_42 (dk_at dksX0_ends_1 9 rfl rfl)
theorem dX0_ends_32 : decode cX0_ends 32 = .ok (.getfield 45, 3) := dk_180 0 45 (dk_at dksX0_ends_1 10 rfl rfl)
theorem dX0_ends_35 : decode cX0_ends 35 = .ok (.aload_n 0, 1) := dk_42 (dk_at dksX0_ends_1 13 rfl rfl)
theorem dX0_ends_36 : decode cX0_ends 36 = .ok (.getfield 36, 3) := dk_180 0 36 (dk_at dksX0_ends_1 14 rfl rfl)
theorem dX0_ends_39 : decode cX0_ends 39 = .ok (.getfield 458, 3) := dk_180 1 202 (dk_at dksX0_ends_1 17 rfl rfl)
theorem dX0_ends_42 : decode cX0_ends 42 = .ok (.iconst 2, 1) := dk_5 (dk_at dksX0_ends_1 20 rfl rfl)
theorem dX0_ends_43 : decode cX0_ends 43 = .ok (.iload 4, 2) := dk_21 4 (dk_at dksX0_ends_1 21 rfl rfl)
theorem dX0_ends_45 : decode cX0_ends 45 = .ok (.imul, 1) := dk_104 (dk_at dksX0_ends_1 23 rfl rfl)
theorem dX0_ends_46 : decode cX0_ends 46 = .ok (.iaload, 1) := dk_46 (dk_at dksX0_ends_2 0 rfl rfl)
theorem dX0_ends_47 : decode cX0_ends 47 = .ok (.aaload, 1) := dk_50 (dk_at dksX0_ends_2 1 rfl rfl)
theorem dX0_ends_48 : decode cX0_ends 48 = .ok (.iload_n 3, 1) := dk_29 (dk_at dksX0_ends_2 2 rfl rfl)
theorem dX0_ends_49 : decode cX0_ends 49 = .ok (.aload_n 0, 1) := dk_42 (dk_at dksX0_ends_2 3 rfl rfl)
theorem dX0_ends_50 : decode cX0_ends 50 = .ok (.getfield 36, 3) := dk_180 0 36 (dk_at dksX0_ends_2 4 rfl rfl)
theorem dX0_ends_53 : decode cX0_ends 53 = .ok (.getfield 458, 3) := dk_180 1 202 (dk_at dksX0_ends_2 7 rfl rfl)
theorem dX0_ends_56 : decode cX0_ends 56 = .ok (.iconst 2, 1) := dk_5 (dk_at dksX0_ends_2 10 rfl rfl)
theorem dX0_ends_57 : decode cX0_ends 57 = .ok (.iload 4, 2) := dk_21 4 (dk_at dksX0_ends_2 11 rfl rfl)
theorem dX0_ends_59 : decode cX0_ends 59 = .ok (.imul, 1) := dk_104 (dk_at dksX0_ends_2 13 rfl rfl)
theorem dX0_ends_60 : decode cX0_ends 60 = .ok (.iconst 1, 1) := dk_4 (dk_at dksX0_ends_2 14 rfl rfl)
theorem dX0_ends_61 : decode cX0_ends 61 = .ok (.iadd, 1) := dk_96 (dk_at dksX0_ends_2 15 rfl rfl)
theorem dX0_ends_62 : decode cX0_ends 62 = .ok (.iaload, 1) := dk_46 (dk_at dksX0_ends_2 16 rfl rfl)
theorem dX0_ends_63 : decode cX0_ends 63 = .ok (.invokeinterface 461 3, 5) := by decide +kernel
theorem dX0_ends_68 : decode cX0_ends 68 = .ok (.istore_n 3, 1) := dk_62 (dk_at dksX0_ends_2 22 rfl rfl)
theorem dX0_ends_69 : decode cX0_ends 69 = .ok (.iinc 4 1, 3) := dk_132 4 1 (dk_at dksX0_ends_3 0 rfl rfl)
theorem dX0_ends_72 : decode cX0_ends 72 = .ok (.goto (-53), 3) := dk_167 255 203 (dk_at dksX0_ends_3 3 rfl rfl)
theorem dX0_ends_75 : decode cX0_ends 75 = .ok (.iload_n 3, 1) := dk_29 (dk_at dksX0_ends_3 6 rfl rfl)
theorem dX0_ends_76 : decode cX0_ends 76 = .ok (.ireturn, 1) := dk_172 (dk_at dksX0_ends_3 7 rfl rfl)
abbrev cX0_write : ByteArray := prog_1_method_75_code
def yX0_write : MethodName := ⟨RX0, "write", "(I)I"⟩
def dkwX0_write_4 : List UInt8 := [167, 255, 187, 132, 2, 255, 167, 255, 175, 42, 180, 0, 102, 182, 1, 214, 172]
abbrev dktX0_write_4 : List UInt8 := dkwX0_write_4 ++ []
def dkwX0_write_3 : List UInt8 := [21, 4, 182, 1, 225, 87, 42, 16, 120, 28, 182, 1, 221, 42, 16, 121, 29, 182, 1, 221, 132, 3, 255]
abbrev dktX0_write_3 : List UInt8 := dkwX0_write_3 ++ dktX0_write_4
def dkwX0_write_2 : List UInt8 := [153, 0, 44, 42, 16, 43, 4, 42, 180, 0, 102, 182, 1, 214, 184, 1, 216, 182, 1, 221, 42, 180, 0, 102]
abbrev dktX0_write_2 : List UInt8 := dkwX0_write_2 ++ dktX0_write_3
def dkwX0_write_1 : List UInt8 := [62, 29, 155, 0, 71, 42, 180, 0, 36, 180, 0, 139, 27, 28, 29, 184, 0, 142, 46, 54, 4, 21, 4]
abbrev dktX0_write_1 : List UInt8 := dkwX0_write_1 ++ dktX0_write_2
def dkwX0_write_0 : List UInt8 := [27, 184, 0, 126, 154, 0, 5, 2, 172, 42, 180, 0, 102, 3, 182, 1, 211, 5, 61, 28, 155, 0, 83, 5]
abbrev dktX0_write_0 : List UInt8 := dkwX0_write_0 ++ dktX0_write_1
theorem dksX0_write_0 : cX0_write.data.toList.drop 0 = dktX0_write_0 := by decide +kernel
theorem dksX0_write_1 : cX0_write.data.toList.drop 24 = dktX0_write_1 := dk_seg dksX0_write_0 24 rfl rfl
theorem dksX0_write_2 : cX0_write.data.toList.drop 47 = dktX0_write_2 := dk_seg dksX0_write_1 23 rfl rfl
theorem dksX0_write_3 : cX0_write.data.toList.drop 71 = dktX0_write_3 := dk_seg dksX0_write_2 24 rfl rfl
theorem dksX0_write_4 : cX0_write.data.toList.drop 94 = dktX0_write_4 := dk_seg dksX0_write_3 23 rfl rfl
theorem dX0_write_0 : decode cX0_write 0 = .ok (.iload_n 1, 1) := dk_27 (dk_at dksX0_write_0 0 rfl rfl)
theorem dX0_write_1 : decode cX0_write 1 = .ok (.invokestatic 126, 3) := dk_184 0 126 (dk_at dksX0_write_0 1 rfl rfl)
theorem dX0_write_4 : decode cX0_write 4 = .ok (.ifCond .ne 5, 3) := dk_154 0 5 (dk_at dksX0_write_0 4 rfl rfl)
theorem dX0_write_7 : decode cX0_write 7 = .ok (.iconst (-1), 1) := dk_2 (dk_at dksX0_write_0 7 rfl rfl)
theorem dX0_write_8 : decode cX0_write 8 = .ok (.ireturn, 1) := dk_172 (dk_at dksX0_write_0 8 rfl rfl)
theorem dX0_write_9 : decode cX0_write 9 = .ok (.aload_n 0, 1) := dk_42 (dk_at dksX0_write_0 9 rfl rfl)
theorem dX0_write_10 : decode cX0_write 10 = .ok (.getfield 102, 3) := dk_180 0 102 (dk_at dksX0_write_0 10 rfl rfl)
theorem dX0_write_13 : decode cX0_write 13 = .ok (.iconst 0, 1) := dk_3 (dk_at dksX0_write_0 13 rfl rfl)
theorem dX0_write_14 : decode cX0_write 14 = .ok (.invokevirtual 467, 3) := dk_182 1 211 (dk_at dksX0_write_0 14 rfl rfl)
theorem dX0_write_17 : decode cX0_write 17 = .ok (.iconst 2, 1) := dk_5 (dk_at dksX0_write_0 17 rfl rfl)
theorem dX0_write_18 : decode cX0_write 18 = .ok (.istore_n 2, 1) := dk_61 (dk_at dksX0_write_0 18 rfl rfl)
theorem dX0_write_19 : decode cX0_write 19 = .ok (.iload_n 2, 1) := dk_28 (dk_at dksX0_write_0 19 rfl rfl)
theorem dX0_write_20 : decode cX0_write 20 = .ok (.ifCond .lt 83, 3) := dk_155 0 83 (dk_at dksX0_write_0 20 rfl rfl)
theorem dX0_write_23 : decode cX0_write 23 = .ok (.iconst 2, 1) := dk_5 (dk_at dksX0_write_0 23 rfl rfl)
theorem dX0_write_24 : decode cX0_write 24 = .ok (.istore_n 3, 1) := dk_62 (dk_at dksX0_write_1 0 rfl rfl)
theorem dX0_write_25 : decode cX0_write 25 = .ok (.iload_n 3, 1) := dk_29 (dk_at dksX0_write_1 1 rfl rfl)
theorem dX0_write_26 : decode cX0_write 26 = .ok (.ifCond .lt 71, 3) := dk_155 0 71 (dk_at dksX0_write_1 2 rfl rfl)
theorem dX0_write_29 : decode cX0_write 29 = .ok (.aload_n 0, 1) := dk_42 (dk_at dksX0_write_1 5 rfl rfl)
theorem dX0_write_30 : decode cX0_write 30 = .ok (.getfield 36, 3) := dk_180 0 36 (dk_at dksX0_write_1 6 rfl rfl)
theorem dX0_write_33 : decode cX0_write 33 = .ok (.getfield 139, 3) := dk_180 0 139 (dk_at dksX0_write_1 9 rfl rfl)
theorem dX0_write_36 : decode cX0_write 36 = .ok (.iload_n 1, 1) := dk_27 (dk_at dksX0_write_1 12 rfl rfl)
theorem dX0_write_37 : decode cX0_write 37 = .ok (.iload_n 2, 1) := dk_28 (dk_at dksX0_write_1 13 rfl rfl)
theorem dX0_write_38 : decode cX0_write 38 = .ok (.iload_n 3, 1) := dk_29 (dk_at dksX0_write_1 14 rfl rfl)
theorem dX0_write_39 : decode cX0_write 39 = .ok (.invokestatic 142, 3) := dk_184 0 142 (dk_at dksX0_write_1 15 rfl rfl)
theorem dX0_write_42 : decode cX0_write 42 = .ok (.iaload, 1) := dk_46 (dk_at dksX0_write_1 18 rfl rfl)
theorem dX0_write_43 : decode cX0_write 43 = .ok (.istore 4, 2) := dk_54 4 (dk_at dksX0_write_1 19 rfl rfl)
theorem dX0_write_45 : decode cX0_write 45 = .ok (.iload 4, 2) := dk_21 4 (dk_at dksX0_write_1 21 rfl rfl)
theorem dX0_write_47 : decode cX0_write 47 = .ok (.ifCond .eq 44, 3) := dk_153 0 44 (dk_at dksX0_write_2 0 rfl rfl)
theorem dX0_write_50 : decode cX0_write 50 = .ok (.aload_n 0, 1) := dk_42 (dk_at dksX0_write_2 3 rfl rfl)
theorem dX0_write_51 : decode cX0_write 51 = .ok (.bipush 43, 2) := dk_16 43 (dk_at dksX0_write_2 4 rfl rfl)
theorem dX0_write_53 : decode cX0_write 53 = .ok (.iconst 1, 1) := dk_4 (dk_at dksX0_write_2 6 rfl rfl)
theorem dX0_write_54 : decode cX0_write 54 = .ok (.aload_n 0, 1) := dk_42 (dk_at dksX0_write_2 7 rfl rfl)
theorem dX0_write_55 : decode cX0_write 55 = .ok (.getfield 102, 3) := dk_180 0 102 (dk_at dksX0_write_2 8 rfl rfl)
theorem dX0_write_58 : decode cX0_write 58 = .ok (.invokevirtual 470, 3) := dk_182 1 214 (dk_at dksX0_write_2 11 rfl rfl)
theorem dX0_write_61 : decode cX0_write 61 = .ok (.invokestatic 472, 3) := dk_184 1 216 (dk_at dksX0_write_2 14 rfl rfl)
theorem dX0_write_64 : decode cX0_write 64 = .ok (.invokevirtual 477, 3) := dk_182 1 221 (dk_at dksX0_write_2 17 rfl rfl)
theorem dX0_write_67 : decode cX0_write 67 = .ok (.aload_n 0, 1) := dk_42 (dk_at dksX0_write_2 20 rfl rfl)
theorem dX0_write_68 : decode cX0_write 68 = .ok (.getfield 102, 3) := dk_180 0 102 (dk_at dksX0_write_2 21 rfl rfl)
theorem dX0_write_71 : decode cX0_write 71 = .ok (.iload 4, 2) := dk_21 4 (dk_at dksX0_write_3 0 rfl rfl)
theorem dX0_write_73 : decode cX0_write 73 = .ok (.invokevirtual 481, 3) := dk_182 1 225 (dk_at dksX0_write_3 2 rfl rfl)
theorem dX0_write_76 : decode cX0_write 76 = .ok (.pop, 1) := dk_87 (dk_at dksX0_write_3 5 rfl rfl)
theorem dX0_write_77 : decode cX0_write 77 = .ok (.aload_n 0, 1) := dk_42 (dk_at dksX0_write_3 6 rfl rfl)
theorem dX0_write_78 : decode cX0_write 78 = .ok (.bipush 120, 2) := dk_16 120 (dk_at dksX0_write_3 7 rfl rfl)
theorem dX0_write_80 : decode cX0_write 80 = .ok (.iload_n 2, 1) := dk_28 (dk_at dksX0_write_3 9 rfl rfl)
theorem dX0_write_81 : decode cX0_write 81 = .ok (.invokevirtual 477, 3) := dk_182 1 221 (dk_at dksX0_write_3 10 rfl rfl)
theorem dX0_write_84 : decode cX0_write 84 = .ok (.aload_n 0, 1) := dk_42 (dk_at dksX0_write_3 13 rfl rfl)
theorem dX0_write_85 : decode cX0_write 85 = .ok (.bipush 121, 2) := dk_16 121 (dk_at dksX0_write_3 14 rfl rfl)
theorem dX0_write_87 : decode cX0_write 87 = .ok (.iload_n 3, 1) := dk_29 (dk_at dksX0_write_3 16 rfl rfl)
theorem dX0_write_88 : decode cX0_write 88 = .ok (.invokevirtual 477, 3) := dk_182 1 221 (dk_at dksX0_write_3 17 rfl rfl)
theorem dX0_write_91 : decode cX0_write 91 = .ok (.iinc 3 (-1), 3) := dk_132 3 255 (dk_at dksX0_write_3 20 rfl rfl)
theorem dX0_write_94 : decode cX0_write 94 = .ok (.goto (-69), 3) := dk_167 255 187 (dk_at dksX0_write_4 0 rfl rfl)
theorem dX0_write_97 : decode cX0_write 97 = .ok (.iinc 2 (-1), 3) := dk_132 2 255 (dk_at dksX0_write_4 3 rfl rfl)
theorem dX0_write_100 : decode cX0_write 100 = .ok (.goto (-81), 3) := dk_167 255 175 (dk_at dksX0_write_4 6 rfl rfl)
theorem dX0_write_103 : decode cX0_write 103 = .ok (.aload_n 0, 1) := dk_42 (dk_at dksX0_write_4 9 rfl rfl)
theorem dX0_write_104 : decode cX0_write 104 = .ok (.getfield 102, 3) := dk_180 0 102 (dk_at dksX0_write_4 10 rfl rfl)
theorem dX0_write_107 : decode cX0_write 107 = .ok (.invokevirtual 470, 3) := dk_182 1 214 (dk_at dksX0_write_4 13 rfl rfl)
theorem dX0_write_110 : decode cX0_write 110 = .ok (.ireturn, 1) := dk_172 (dk_at dksX0_write_4 16 rfl rfl)
abbrev cX0_writes : ByteArray := prog_1_method_74_code
def yX0_writes : MethodName := ⟨RX0, "writes", "(CI)V"⟩
def dkwX0_writes_0 : List UInt8 := [3, 62, 29, 28, 162, 0, 18, 42, 180, 0, 102, 27, 182, 1, 207, 87, 132, 3, 1, 167, 255, 239, 177]
abbrev dktX0_writes_0 : List UInt8 := dkwX0_writes_0 ++ []
theorem dksX0_writes_0 : cX0_writes.data.toList.drop 0 = dktX0_writes_0 := by decide +kernel
theorem dX0_writes_0 : decode cX0_writes 0 = .ok (.iconst 0, 1) := dk_3 (dk_at dksX0_writes_0 0 rfl rfl)
theorem dX0_writes_1 : decode cX0_writes 1 = .ok (.istore_n 3, 1) := dk_62 (dk_at dksX0_writes_0 1 rfl rfl)
theorem dX0_writes_2 : decode cX0_writes 2 = .ok (.iload_n 3, 1) := dk_29 (dk_at dksX0_writes_0 2 rfl rfl)
theorem dX0_writes_3 : decode cX0_writes 3 = .ok (.iload_n 2, 1) := dk_28 (dk_at dksX0_writes_0 3 rfl rfl)
theorem dX0_writes_4 : decode cX0_writes 4 = .ok (.if_icmp .ge 18, 3) := dk_162 0 18 (dk_at dksX0_writes_0 4 rfl rfl)
theorem dX0_writes_7 : decode cX0_writes 7 = .ok (.aload_n 0, 1) := dk_42 (dk_at dksX0_writes_0 7 rfl rfl)
theorem dX0_writes_8 : decode cX0_writes 8 = .ok (.getfield 102, 3) := dk_180 0 102 (dk_at dksX0_writes_0 8 rfl rfl)
theorem dX0_writes_11 : decode cX0_writes 11 = .ok (.iload_n 1, 1) := dk_27 (dk_at dksX0_writes_0 11 rfl rfl)
theorem dX0_writes_12 : decode cX0_writes 12 = .ok (.invokevirtual 463, 3) := dk_182 1 207 (dk_at dksX0_writes_0 12 rfl rfl)
theorem dX0_writes_15 : decode cX0_writes 15 = .ok (.pop, 1) := dk_87 (dk_at dksX0_writes_0 15 rfl rfl)
theorem dX0_writes_16 : decode cX0_writes 16 = .ok (.iinc 3 1, 3) := dk_132 3 1 (dk_at dksX0_writes_0 16 rfl rfl)
theorem dX0_writes_19 : decode cX0_writes 19 = .ok (.goto (-17), 3) := dk_167 255 239 (dk_at dksX0_writes_0 19 rfl rfl)
theorem dX0_writes_22 : decode cX0_writes 22 = .ok (.return_, 1) := dk_177 (dk_at dksX0_writes_0 22 rfl rfl)
abbrev cX0_paper : ByteArray := prog_1_method_76_code
def yX0_paper : MethodName := ⟨RX0, "paper", "(I)I"⟩
def dkwX0_paper_1 : List UInt8 := [182, 1, 228, 167, 0, 4, 2, 172]
abbrev dktX0_paper_1 : List UInt8 := dkwX0_paper_1 ++ []
def dkwX0_paper_0 : List UInt8 := [27, 133, 9, 42, 180, 0, 102, 182, 1, 214, 4, 100, 133, 184, 0, 7, 153, 0, 14, 42, 180, 0, 102, 27]
abbrev dktX0_paper_0 : List UInt8 := dkwX0_paper_0 ++ dktX0_paper_1
theorem dksX0_paper_0 : cX0_paper.data.toList.drop 0 = dktX0_paper_0 := by decide +kernel
theorem dksX0_paper_1 : cX0_paper.data.toList.drop 24 = dktX0_paper_1 := dk_seg dksX0_paper_0 24 rfl rfl
theorem dX0_paper_0 : decode cX0_paper 0 = .ok (.iload_n 1, 1) := dk_27 (dk_at dksX0_paper_0 0 rfl rfl)
theorem dX0_paper_1 : decode cX0_paper 1 = .ok (.i2l, 1) := dk_133 (dk_at dksX0_paper_0 1 rfl rfl)
theorem dX0_paper_2 : decode cX0_paper 2 = .ok (.lconst 0, 1) := dk_9 (dk_at dksX0_paper_0 2 rfl rfl)
theorem dX0_paper_3 : decode cX0_paper 3 = .ok (.aload_n 0, 1) := dk_42 (dk_at dksX0_paper_0 3 rfl rfl)
theorem dX0_paper_4 : decode cX0_paper 4 = .ok (.getfield 102, 3) := dk_180 0 102 (dk_at dksX0_paper_0 4 rfl rfl)
theorem dX0_paper_7 : decode cX0_paper 7 = .ok (.invokevirtual 470, 3) := dk_182 1 214 (dk_at dksX0_paper_0 7 rfl rfl)
theorem dX0_paper_10 : decode cX0_paper 10 = .ok (.iconst 1, 1) := dk_4 (dk_at dksX0_paper_0 10 rfl rfl)
theorem dX0_paper_11 : decode cX0_paper 11 = .ok (.isub, 1) := dk_100 (dk_at dksX0_paper_0 11 rfl rfl)
theorem dX0_paper_12 : decode cX0_paper 12 = .ok (.i2l, 1) := dk_133 (dk_at dksX0_paper_0 12 rfl rfl)
theorem dX0_paper_13 : decode cX0_paper 13 = .ok (.invokestatic 7, 3) := dk_184 0 7 (dk_at dksX0_paper_0 13 rfl rfl)
theorem dX0_paper_16 : decode cX0_paper 16 = .ok (.ifCond .eq 14, 3) := dk_153 0 14 (dk_at dksX0_paper_0 16 rfl rfl)
theorem dX0_paper_19 : decode cX0_paper 19 = .ok (.aload_n 0, 1) := dk_42 (dk_at dksX0_paper_0 19 rfl rfl)
theorem dX0_paper_20 : decode cX0_paper 20 = .ok (.getfield 102, 3) := dk_180 0 102 (dk_at dksX0_paper_0 20 rfl rfl)
theorem dX0_paper_23 : decode cX0_paper 23 = .ok (.iload_n 1, 1) := dk_27 (dk_at dksX0_paper_0 23 rfl rfl)
theorem dX0_paper_24 : decode cX0_paper 24 = .ok (.invokevirtual 484, 3) := dk_182 1 228 (dk_at dksX0_paper_1 0 rfl rfl)
theorem dX0_paper_27 : decode cX0_paper 27 = .ok (.goto 4, 3) := dk_167 0 4 (dk_at dksX0_paper_1 3 rfl rfl)
theorem dX0_paper_30 : decode cX0_paper 30 = .ok (.iconst (-1), 1) := dk_2 (dk_at dksX0_paper_1 6 rfl rfl)
theorem dX0_paper_31 : decode cX0_paper 31 = .ok (.ireturn, 1) := dk_172 (dk_at dksX0_paper_1 7 rfl rfl)
abbrev cX0_judge : ByteArray := prog_1_method_79_code
def yX0_judge : MethodName := ⟨RX0, "judge", "(III)I"⟩
def dkwX0_judge_4 : List UInt8 := [16, 251, 172, 58, 6, 16, 245, 172]
abbrev dktX0_judge_4 : List UInt8 := dkwX0_judge_4 ++ []
def dkwX0_judge_3 : List UInt8 := [21, 5, 21, 6, 184, 1, 235, 25, 4, 21, 6, 46, 159, 0, 6, 21, 6, 172, 132, 6, 1, 167, 255, 199]
abbrev dktX0_judge_3 : List UInt8 := dkwX0_judge_3 ++ dktX0_judge_4
def dkwX0_judge_2 : List UInt8 := [4, 159, 0, 10, 21, 5, 16, 249, 160, 0, 8, 21, 5, 167, 0, 9, 42, 21, 5, 182, 0, 224, 54, 5]
abbrev dktX0_judge_2 : List UInt8 := dkwX0_judge_2 ++ dktX0_judge_3
def dkwX0_judge_1 : List UInt8 := [58, 4, 28, 29, 184, 0, 206, 54, 5, 3, 54, 6, 21, 6, 25, 4, 190, 162, 0, 55, 21, 6, 5, 112]
abbrev dktX0_judge_1 : List UInt8 := dkwX0_judge_1 ++ dktX0_judge_2
def dkwX0_judge_0 : List UInt8 := [27, 184, 1, 232, 153, 0, 11, 28, 29, 184, 0, 179, 154, 0, 5, 2, 172, 42, 180, 0, 107, 27, 50]
abbrev dktX0_judge_0 : List UInt8 := dkwX0_judge_0 ++ dktX0_judge_1
theorem dksX0_judge_0 : cX0_judge.data.toList.drop 0 = dktX0_judge_0 := by decide +kernel
theorem dksX0_judge_1 : cX0_judge.data.toList.drop 23 = dktX0_judge_1 := dk_seg dksX0_judge_0 23 rfl rfl
theorem dksX0_judge_2 : cX0_judge.data.toList.drop 47 = dktX0_judge_2 := dk_seg dksX0_judge_1 24 rfl rfl
theorem dksX0_judge_3 : cX0_judge.data.toList.drop 71 = dktX0_judge_3 := dk_seg dksX0_judge_2 24 rfl rfl
theorem dksX0_judge_4 : cX0_judge.data.toList.drop 95 = dktX0_judge_4 := dk_seg dksX0_judge_3 24 rfl rfl
theorem dX0_judge_0 : decode cX0_judge 0 = .ok (.iload_n 1, 1) := dk_27 (dk_at dksX0_judge_0 0 rfl rfl)
theorem dX0_judge_1 : decode cX0_judge 1 = .ok (.invokestatic 488, 3) := dk_184 1 232 (dk_at dksX0_judge_0 1 rfl rfl)
theorem dX0_judge_4 : decode cX0_judge 4 = .ok (.ifCond .eq 11, 3) := dk_153 0 11 (dk_at dksX0_judge_0 4 rfl rfl)
theorem dX0_judge_7 : decode cX0_judge 7 = .ok (.iload_n 2, 1) := dk_28 (dk_at dksX0_judge_0 7 rfl rfl)
theorem dX0_judge_8 : decode cX0_judge 8 = .ok (.iload_n 3, 1) := dk_29 (dk_at dksX0_judge_0 8 rfl rfl)
theorem dX0_judge_9 : decode cX0_judge 9 = .ok (.invokestatic 179, 3) := dk_184 0 179 (dk_at dksX0_judge_0 9 rfl rfl)
theorem dX0_judge_12 : decode cX0_judge 12 = .ok (.ifCond .ne 5, 3) := dk_154 0 5 (dk_at dksX0_judge_0 12 rfl rfl)
theorem dX0_judge_15 : decode cX0_judge 15 = .ok (.iconst (-1), 1) := dk_2 (dk_at dksX0_judge_0 15 rfl rfl)
theorem dX0_judge_16 : decode cX0_judge 16 = .ok (.ireturn, 1) := dk_172 (dk_at dksX0_judge_0 16 rfl rfl)
theorem dX0_judge_17 : decode cX0_judge 17 = .ok (.aload_n 0, 1) := dk_42 (dk_at dksX0_judge_0 17 rfl rfl)
theorem dX0_judge_18 : decode cX0_judge 18 = .ok (.getfield 107, 3) := dk_180 0 107 (dk_at dksX0_judge_0 18 rfl rfl)
theorem dX0_judge_21 : decode cX0_judge 21 = .ok (.iload_n 1, 1) := dk_27 (dk_at dksX0_judge_0 21 rfl rfl)
theorem dX0_judge_22 : decode cX0_judge 22 = .ok (.aaload, 1) := dk_50 (dk_at dksX0_judge_0 22 rfl rfl)
theorem dX0_judge_23 : decode cX0_judge 23 = .ok (.astore 4, 2) := dk_58 4 (dk_at dksX0_judge_1 0 rfl rfl)
theorem dX0_judge_25 : decode cX0_judge 25 = .ok (.iload_n 2, 1) := dk_28 (dk_at dksX0_judge_1 2 rfl rfl)
theorem dX0_judge_26 : decode cX0_judge 26 = .ok (.iload_n 3, 1) := dk_29 (dk_at dksX0_judge_1 3 rfl rfl)
theorem dX0_judge_27 : decode cX0_judge 27 = .ok (.invokestatic 206, 3) := dk_184 0 206 (dk_at dksX0_judge_1 4 rfl rfl)
theorem dX0_judge_30 : decode cX0_judge 30 = .ok (.istore 5, 2) := dk_54 5 (dk_at dksX0_judge_1 7 rfl rfl)
theorem dX0_judge_32 : decode cX0_judge 32 = .ok (.iconst 0, 1) := dk_3 (dk_at dksX0_judge_1 9 rfl rfl)
theorem dX0_judge_33 : decode cX0_judge 33 = .ok (.istore 6, 2) := dk_54 6 (dk_at dksX0_judge_1 10 rfl rfl)
theorem dX0_judge_35 : decode cX0_judge 35 = .ok (.iload 6, 2) := dk_21 6 (dk_at dksX0_judge_1 12 rfl rfl)
theorem dX0_judge_37 : decode cX0_judge 37 = .ok (.aload 4, 2) := dk_25 4 (dk_at dksX0_judge_1 14 rfl rfl)
theorem dX0_judge_39 : decode cX0_judge 39 = .ok (.arraylength, 1) := dk_190 (dk_at dksX0_judge_1 16 rfl rfl)
theorem dX0_judge_40 : decode cX0_judge 40 = .ok (.if_icmp .ge 55, 3) := dk_162 0 55 (dk_at dksX0_judge_1 17 rfl rfl)
theorem dX0_judge_43 : decode cX0_judge 43 = .ok (.iload 6, 2) := dk_21 6 (dk_at dksX0_judge_1 20 rfl rfl)
theorem dX0_judge_45 : decode cX0_judge 45 = .ok (.iconst 2, 1) := dk_5 (dk_at dksX0_judge_1 22 rfl rfl)
theorem dX0_judge_46 : decode cX0_judge 46 = .ok (.irem, 1) := dk_112 (dk_at dksX0_judge_1 23 rfl rfl)
theorem dX0_judge_47 : decode cX0_judge 47 = .ok (.iconst 1, 1) := dk_4 (dk_at dksX0_judge_2 0 rfl rfl)
theorem dX0_judge_48 : decode cX0_judge 48 = .ok (.if_icmp .eq 10, 3) := dk_159 0 10 (dk_at dksX0_judge_2 1 rfl rfl)
theorem dX0_judge_51 : decode cX0_judge 51 = .ok (.iload 5, 2) := dk_21 5 (dk_at dksX0_judge_2 4 rfl rfl)
theorem dX0_judge_53 : decode cX0_judge 53 = .ok (.bipush (-7), 2) := dk_16 249 (dk_at dksX0_judge_2 6 rfl rfl)
theorem dX0_judge_55 : decode cX0_judge 55 = .ok (.if_icmp .ne 8, 3) := dk_160 0 8 (dk_at dksX0_judge_2 8 rfl rfl)
theorem dX0_judge_58 : decode cX0_judge 58 = .ok (.iload 5, 2) := dk_21 5 (dk_at dksX0_judge_2 11 rfl rfl)
theorem dX0_judge_60 : decode cX0_judge 60 = .ok (.goto 9, 3) := dk_167 0 9 (dk_at dksX0_judge_2 13 rfl rfl)
theorem dX0_judge_63 : decode cX0_judge 63 = .ok (.aload_n 0, 1) := dk_42 (dk_at dksX0_judge_2 16 rfl rfl)
theorem dX0_judge_64 : decode cX0_judge 64 = .ok (.iload 5, 2) := dk_21 5 (dk_at dksX0_judge_2 17 rfl rfl)
theorem dX0_judge_66 : decode cX0_judge 66 = .ok (.invokevirtual 224, 3) := dk_182 0 224 (dk_at dksX0_judge_2 19 rfl rfl)
theorem dX0_judge_69 : decode cX0_judge 69 = .ok (.istore 5, 2) := dk_54 5 (dk_at dksX0_judge_2 22 rfl rfl)
theorem dX0_judge_71 : decode cX0_judge 71 = .ok (.iload 5, 2) := dk_21 5 (dk_at dksX0_judge_3 0 rfl rfl)
theorem dX0_judge_73 : decode cX0_judge 73 = .ok (.iload 6, 2) := dk_21 6 (dk_at dksX0_judge_3 2 rfl rfl)
theorem dX0_judge_75 : decode cX0_judge 75 = .ok (.invokestatic 491, 3) := dk_184 1 235 (dk_at dksX0_judge_3 4 rfl rfl)
theorem dX0_judge_78 : decode cX0_judge 78 = .ok (.aload 4, 2) := dk_25 4 (dk_at dksX0_judge_3 7 rfl rfl)
theorem dX0_judge_80 : decode cX0_judge 80 = .ok (.iload 6, 2) := dk_21 6 (dk_at dksX0_judge_3 9 rfl rfl)
theorem dX0_judge_82 : decode cX0_judge 82 = .ok (.iaload, 1) := dk_46 (dk_at dksX0_judge_3 11 rfl rfl)
theorem dX0_judge_83 : decode cX0_judge 83 = .ok (.if_icmp .eq 6, 3) := dk_159 0 6 (dk_at dksX0_judge_3 12 rfl rfl)
theorem dX0_judge_86 : decode cX0_judge 86 = .ok (.iload 6, 2) := dk_21 6 (dk_at dksX0_judge_3 15 rfl rfl)
theorem dX0_judge_88 : decode cX0_judge 88 = .ok (.ireturn, 1) := dk_172 (dk_at dksX0_judge_3 17 rfl rfl)
theorem dX0_judge_89 : decode cX0_judge 89 = .ok (.iinc 6 1, 3) := dk_132 6 1 (dk_at dksX0_judge_3 18 rfl rfl)
theorem dX0_judge_92 : decode cX0_judge 92 = .ok (.goto (-57), 3) := dk_167 255 199 (dk_at dksX0_judge_3 21 rfl rfl)
theorem dX0_judge_95 : decode cX0_judge 95 = .ok (.bipush (-5), 2) := dk_16 251 (dk_at dksX0_judge_4 0 rfl rfl)
theorem dX0_judge_97 : decode cX0_judge 97 = .ok (.ireturn, 1) := dk_172 (dk_at dksX0_judge_4 2 rfl rfl)
theorem dX0_judge_98 : decode cX0_judge 98 = .ok (.astore 6, 2) := dk_58 6 (dk_at dksX0_judge_4 3 rfl rfl)
theorem dX0_judge_100 : decode cX0_judge 100 = .ok (.bipush (-11), 2) := dk_16 245 (dk_at dksX0_judge_4 5 rfl rfl)
theorem dX0_judge_102 : decode cX0_judge 102 = .ok (.ireturn, 1) := dk_172 (dk_at dksX0_judge_4 7 rfl rfl)
abbrev cX0_isList : ByteArray := prog_1_method_77_code
def yX0_isList : MethodName := ⟨RX0, "isList", "(I)Z"⟩
def dkwX0_isList_0 : List UInt8 := [26, 133, 9, 20, 1, 135, 184, 0, 7, 172]
abbrev dktX0_isList_0 : List UInt8 := dkwX0_isList_0 ++ []
theorem dksX0_isList_0 : cX0_isList.data.toList.drop 0 = dktX0_isList_0 := by decide +kernel
theorem dX0_isList_0 : decode cX0_isList 0 = .ok (.iload_n 0, 1) := dk_26 (dk_at dksX0_isList_0 0 rfl rfl)
theorem dX0_isList_1 : decode cX0_isList 1 = .ok (.i2l, 1) := dk_133 (dk_at dksX0_isList_0 1 rfl rfl)
theorem dX0_isList_2 : decode cX0_isList 2 = .ok (.lconst 0, 1) := dk_9 (dk_at dksX0_isList_0 2 rfl rfl)
theorem dX0_isList_3 : decode cX0_isList 3 = .ok (.ldc2_w 391, 3) := dk_20 1 135 (dk_at dksX0_isList_0 3 rfl rfl)
theorem dX0_isList_6 : decode cX0_isList 6 = .ok (.invokestatic 7, 3) := dk_184 0 7 (dk_at dksX0_isList_0 6 rfl rfl)
theorem dX0_isList_9 : decode cX0_isList 9 = .ok (.ireturn, 1) := dk_172 (dk_at dksX0_isList_0 9 rfl rfl)
abbrev cX0_told_2 : ByteArray := prog_1_method_78_code
def yX0_told_2 : MethodName := ⟨RX0, "told", "(II)I"⟩
def dkwX0_told_2_1 : List UInt8 := [16, 32, 112, 172]
abbrev dktX0_told_2_1 : List UInt8 := dkwX0_told_2_1 ++ []
def dkwX0_told_2_0 : List UInt8 := [26, 16, 249, 160, 0, 7, 2, 167, 0, 20, 27, 5, 112, 154, 0, 10, 26, 16, 32, 108, 167, 0, 7, 26]
abbrev dktX0_told_2_0 : List UInt8 := dkwX0_told_2_0 ++ dktX0_told_2_1
theorem dksX0_told_2_0 : cX0_told_2.data.toList.drop 0 = dktX0_told_2_0 := by decide +kernel
theorem dksX0_told_2_1 : cX0_told_2.data.toList.drop 24 = dktX0_told_2_1 := dk_seg dksX0_told_2_0 24 rfl rfl
theorem dX0_told_2_0 : decode cX0_told_2 0 = .ok (.iload_n 0, 1) := dk_26 (dk_at dksX0_told_2_0 0 rfl rfl)
theorem dX0_told_2_1 : decode cX0_told_2 1 = .ok (.bipush (-7), 2) := dk_16 249 (dk_at dksX0_told_2_0 1 rfl rfl)
theorem dX0_told_2_3 : decode cX0_told_2 3 = .ok (.if_icmp .ne 7, 3) := dk_160 0 7 (dk_at dksX0_told_2_0 3 rfl rfl)
theorem dX0_told_2_6 : decode cX0_told_2 6 = .ok (.iconst (-1), 1) := dk_2 (dk_at dksX0_told_2_0 6 rfl rfl)
theorem dX0_told_2_7 : decode cX0_told_2 7 = .ok (.goto 20, 3) := dk_167 0 20 (dk_at dksX0_told_2_0 7 rfl rfl)
theorem dX0_told_2_10 : decode cX0_told_2 10 = .ok (.iload_n 1, 1) := dk_27 (dk_at dksX0_told_2_0 10 rfl rfl)
theorem dX0_told_2_11 : decode cX0_told_2 11 = .ok (.iconst 2, 1) := dk_5 (dk_at dksX0_told_2_0 11 rfl rfl)
theorem dX0_told_2_12 : decode cX0_told_2 12 = .ok (.irem, 1) := dk_112 (dk_at dksX0_told_2_0 12 rfl rfl)
theorem dX0_told_2_13 : decode cX0_told_2 13 = .ok (.ifCond .ne 10, 3) := dk_154 0 10 (dk_at dksX0_told_2_0 13 rfl rfl)
theorem dX0_told_2_16 : decode cX0_told_2 16 = .ok (.iload_n 0, 1) := dk_26 (dk_at dksX0_told_2_0 16 rfl rfl)
theorem dX0_told_2_17 : decode cX0_told_2 17 = .ok (.bipush 32, 2) := dk_16 32 (dk_at dksX0_told_2_0 17 rfl rfl)
theorem dX0_told_2_19 : decode cX0_told_2 19 = .ok (.idiv, 1) := dk_108 (dk_at dksX0_told_2_0 19 rfl rfl)
theorem dX0_told_2_20 : decode cX0_told_2 20 = .ok (.goto 7, 3) := dk_167 0 7 (dk_at dksX0_told_2_0 20 rfl rfl)
theorem dX0_told_2_23 : decode cX0_told_2 23 = .ok (.iload_n 0, 1) := dk_26 (dk_at dksX0_told_2_0 23 rfl rfl)
theorem dX0_told_2_24 : decode cX0_told_2 24 = .ok (.bipush 32, 2) := dk_16 32 (dk_at dksX0_told_2_1 0 rfl rfl)
theorem dX0_told_2_26 : decode cX0_told_2 26 = .ok (.irem, 1) := dk_112 (dk_at dksX0_told_2_1 2 rfl rfl)
theorem dX0_told_2_27 : decode cX0_told_2 27 = .ok (.ireturn, 1) := dk_172 (dk_at dksX0_told_2_1 3 rfl rfl)
abbrev cX0_list : ByteArray := prog_1_method_80_code
def yX0_list : MethodName := ⟨RX0, "list", "(II)I"⟩
def dkwX0_list_1 : List UInt8 := [188, 10, 83, 4, 172, 78, 16, 242, 172]
abbrev dktX0_list_1 : List UInt8 := dkwX0_list_1 ++ []
def dkwX0_list_0 : List UInt8 := [27, 184, 1, 232, 154, 0, 5, 2, 172, 28, 16, 12, 164, 0, 6, 16, 254, 172, 42, 180, 0, 107, 27, 28]
abbrev dktX0_list_0 : List UInt8 := dkwX0_list_0 ++ dktX0_list_1
theorem dksX0_list_0 : cX0_list.data.toList.drop 0 = dktX0_list_0 := by decide +kernel
theorem dksX0_list_1 : cX0_list.data.toList.drop 24 = dktX0_list_1 := dk_seg dksX0_list_0 24 rfl rfl
theorem dX0_list_0 : decode cX0_list 0 = .ok (.iload_n 1, 1) := dk_27 (dk_at dksX0_list_0 0 rfl rfl)
theorem dX0_list_1 : decode cX0_list 1 = .ok (.invokestatic 488, 3) := dk_184 1 232 (dk_at dksX0_list_0 1 rfl rfl)
theorem dX0_list_4 : decode cX0_list 4 = .ok (.ifCond .ne 5, 3) := dk_154 0 5 (dk_at dksX0_list_0 4 rfl rfl)
theorem dX0_list_7 : decode cX0_list 7 = .ok (.iconst (-1), 1) := dk_2 (dk_at dksX0_list_0 7 rfl rfl)
theorem dX0_list_8 : decode cX0_list 8 = .ok (.ireturn, 1) := dk_172 (dk_at dksX0_list_0 8 rfl rfl)
theorem dX0_list_9 : decode cX0_list 9 = .ok (.iload_n 2, 1) := dk_28 (dk_at dksX0_list_0 9 rfl rfl)
theorem dX0_list_10 : decode cX0_list 10 = .ok (.bipush 12, 2) := dk_16 12 (dk_at dksX0_list_0 10 rfl rfl)
theorem dX0_list_12 : decode cX0_list 12 = .ok (.if_icmp .le 6, 3) := dk_164 0 6 (dk_at dksX0_list_0 12 rfl rfl)
theorem dX0_list_15 : decode cX0_list 15 = .ok (.bipush (-2), 2) := dk_16 254 (dk_at dksX0_list_0 15 rfl rfl)
theorem dX0_list_17 : decode cX0_list 17 = .ok (.ireturn, 1) := dk_172 (dk_at dksX0_list_0 17 rfl rfl)
theorem dX0_list_18 : decode cX0_list 18 = .ok (.aload_n 0, 1) := dk_42 (dk_at dksX0_list_0 18 rfl rfl)
theorem dX0_list_19 : decode cX0_list 19 = .ok (.getfield 107, 3) := dk_180 0 107 (dk_at dksX0_list_0 19 rfl rfl)
theorem dX0_list_22 : decode cX0_list 22 = .ok (.iload_n 1, 1) := dk_27 (dk_at dksX0_list_0 22 rfl rfl)
theorem dX0_list_23 : decode cX0_list 23 = .ok (.iload_n 2, 1) := dk_28 (dk_at dksX0_list_0 23 rfl rfl)
theorem dX0_list_24 : decode cX0_list 24 = .ok (.newarray .int, 2) := dk_188_10 (dk_at dksX0_list_1 0 rfl rfl)
theorem dX0_list_26 : decode cX0_list 26 = .ok (.aastore, 1) := dk_83 (dk_at dksX0_list_1 2 rfl rfl)
theorem dX0_list_27 : decode cX0_list 27 = .ok (.iconst 1, 1) := dk_4 (dk_at dksX0_list_1 3 rfl rfl)
theorem dX0_list_28 : decode cX0_list 28 = .ok (.ireturn, 1) := dk_172 (dk_at dksX0_list_1 4 rfl rfl)
theorem dX0_list_29 : decode cX0_list 29 = .ok (.astore_n 3, 1) := dk_78 (dk_at dksX0_list_1 5 rfl rfl)
theorem dX0_list_30 : decode cX0_list 30 = .ok (.bipush (-14), 2) := dk_16 242 (dk_at dksX0_list_1 6 rfl rfl)
theorem dX0_list_32 : decode cX0_list 32 = .ok (.ireturn, 1) := dk_172 (dk_at dksX0_list_1 8 rfl rfl)
abbrev cX0_put : ByteArray := prog_1_method_81_code
def yX0_put : MethodName := ⟨RX0, "put", "(III)I"⟩
def dkwX0_put_1 : List UInt8 := [172, 58, 4, 16, 243, 172]
abbrev dktX0_put_1 : List UInt8 := dkwX0_put_1 ++ []
def dkwX0_put_0 : List UInt8 := [27, 184, 1, 232, 154, 0, 5, 2, 172, 42, 180, 0, 107, 27, 50, 28, 29, 79, 4, 172, 58, 4, 16, 245]
abbrev dktX0_put_0 : List UInt8 := dkwX0_put_0 ++ dktX0_put_1
theorem dksX0_put_0 : cX0_put.data.toList.drop 0 = dktX0_put_0 := by decide +kernel
theorem dksX0_put_1 : cX0_put.data.toList.drop 24 = dktX0_put_1 := dk_seg dksX0_put_0 24 rfl rfl
theorem dX0_put_0 : decode cX0_put 0 = .ok (.iload_n 1, 1) := dk_27 (dk_at dksX0_put_0 0 rfl rfl)
theorem dX0_put_1 : decode cX0_put 1 = .ok (.invokestatic 488, 3) := dk_184 1 232 (dk_at dksX0_put_0 1 rfl rfl)
theorem dX0_put_4 : decode cX0_put 4 = .ok (.ifCond .ne 5, 3) := dk_154 0 5 (dk_at dksX0_put_0 4 rfl rfl)
theorem dX0_put_7 : decode cX0_put 7 = .ok (.iconst (-1), 1) := dk_2 (dk_at dksX0_put_0 7 rfl rfl)
theorem dX0_put_8 : decode cX0_put 8 = .ok (.ireturn, 1) := dk_172 (dk_at dksX0_put_0 8 rfl rfl)
theorem dX0_put_9 : decode cX0_put 9 = .ok (.aload_n 0, 1) := dk_42 (dk_at dksX0_put_0 9 rfl rfl)
theorem dX0_put_10 : decode cX0_put 10 = .ok (.getfield 107, 3) := dk_180 0 107 (dk_at dksX0_put_0 10 rfl rfl)
theorem dX0_put_13 : decode cX0_put 13 = .ok (.iload_n 1, 1) := dk_27 (dk_at dksX0_put_0 13 rfl rfl)
theorem dX0_put_14 : decode cX0_put 14 = .ok (.aaload, 1) := dk_50 (dk_at dksX0_put_0 14 rfl rfl)
theorem dX0_put_15 : decode cX0_put 15 = .ok (.iload_n 2, 1) := dk_28 (dk_at dksX0_put_0 15 rfl rfl)
theorem dX0_put_16 : decode cX0_put 16 = .ok (.iload_n 3, 1) := dk_29 (dk_at dksX0_put_0 16 rfl rfl)
theorem dX0_put_17 : decode cX0_put 17 = .ok (.iastore, 1) := dk_79 (dk_at dksX0_put_0 17 rfl rfl)
theorem dX0_put_18 : decode cX0_put 18 = .ok (.iconst 1, 1) := dk_4 (dk_at dksX0_put_0 18 rfl rfl)
theorem dX0_put_19 : decode cX0_put 19 = .ok (.ireturn, 1) := dk_172 (dk_at dksX0_put_0 19 rfl rfl)
theorem dX0_put_20 : decode cX0_put 20 = .ok (.astore 4, 2) := dk_58 4 (dk_at dksX0_put_0 20 rfl rfl)
theorem dX0_put_22 : decode cX0_put 22 = .ok (.bipush (-11), 2) := dk_16 245 (dk_at dksX0_put_0 22 rfl rfl)
theorem dX0_put_24 : decode cX0_put 24 = .ok (.ireturn, 1) := dk_172 (dk_at dksX0_put_1 0 rfl rfl)
theorem dX0_put_25 : decode cX0_put 25 = .ok (.astore 4, 2) := dk_58 4 (dk_at dksX0_put_1 1 rfl rfl)
theorem dX0_put_27 : decode cX0_put 27 = .ok (.bipush (-13), 2) := dk_16 243 (dk_at dksX0_put_1 3 rfl rfl)
theorem dX0_put_29 : decode cX0_put 29 = .ok (.ireturn, 1) := dk_172 (dk_at dksX0_put_1 5 rfl rfl)
abbrev cX0_get : ByteArray := prog_1_method_82_code
def yX0_get : MethodName := ⟨RX0, "get", "(II)J"⟩
def dkwX0_get_0 : List UInt8 := [42, 180, 0, 107, 27, 50, 28, 46, 133, 173, 78, 20, 0, 204, 173]
abbrev dktX0_get_0 : List UInt8 := dkwX0_get_0 ++ []
theorem dksX0_get_0 : cX0_get.data.toList.drop 0 = dktX0_get_0 := by decide +kernel
theorem dX0_get_0 : decode cX0_get 0 = .ok (.aload_n 0, 1) := dk_42 (dk_at dksX0_get_0 0 rfl rfl)
theorem dX0_get_1 : decode cX0_get 1 = .ok (.getfield 107, 3) := dk_180 0 107 (dk_at dksX0_get_0 1 rfl rfl)
theorem dX0_get_4 : decode cX0_get 4 = .ok (.iload_n 1, 1) := dk_27 (dk_at dksX0_get_0 4 rfl rfl)
theorem dX0_get_5 : decode cX0_get 5 = .ok (.aaload, 1) := dk_50 (dk_at dksX0_get_0 5 rfl rfl)
theorem dX0_get_6 : decode cX0_get 6 = .ok (.iload_n 2, 1) := dk_28 (dk_at dksX0_get_0 6 rfl rfl)
theorem dX0_get_7 : decode cX0_get 7 = .ok (.iaload, 1) := dk_46 (dk_at dksX0_get_0 7 rfl rfl)
theorem dX0_get_8 : decode cX0_get 8 = .ok (.i2l, 1) := dk_133 (dk_at dksX0_get_0 8 rfl rfl)
theorem dX0_get_9 : decode cX0_get 9 = .ok (.lreturn, 1) := dk_173 (dk_at dksX0_get_0 9 rfl rfl)
theorem dX0_get_10 : decode cX0_get 10 = .ok (.astore_n 3, 1) := dk_78 (dk_at dksX0_get_0 10 rfl rfl)
theorem dX0_get_11 : decode cX0_get 11 = .ok (.ldc2_w 204, 3) := dk_20 0 204 (dk_at dksX0_get_0 11 rfl rfl)
theorem dX0_get_14 : decode cX0_get 14 = .ok (.lreturn, 1) := dk_173 (dk_at dksX0_get_0 14 rfl rfl)
abbrev cX0_image : ByteArray := prog_1_method_83_code
def yX0_image : MethodName := ⟨RX0, "image", "()I"⟩
def dkwX0_image_1 : List UInt8 := [182, 1, 160, 172]
abbrev dktX0_image_1 : List UInt8 := dkwX0_image_1 ++ []
def dkwX0_image_0 : List UInt8 := [42, 180, 0, 40, 42, 180, 0, 36, 182, 1, 244, 42, 4, 181, 1, 247, 42, 180, 0, 36, 180, 1, 151]
abbrev dktX0_image_0 : List UInt8 := dkwX0_image_0 ++ dktX0_image_1
theorem dksX0_image_0 : cX0_image.data.toList.drop 0 = dktX0_image_0 := by decide +kernel
theorem dksX0_image_1 : cX0_image.data.toList.drop 23 = dktX0_image_1 := dk_seg dksX0_image_0 23 rfl rfl
theorem dX0_image_0 : decode cX0_image 0 = .ok (.aload_n 0, 1) := dk_42 (dk_at dksX0_image_0 0 rfl rfl)
theorem dX0_image_1 : decode cX0_image 1 = .ok (.getfield 40, 3) := dk_180 0 40 (dk_at dksX0_image_0 1 rfl rfl)
theorem dX0_image_4 : decode cX0_image 4 = .ok (.aload_n 0, 1) := dk_42 (dk_at dksX0_image_0 4 rfl rfl)
theorem dX0_image_5 : decode cX0_image 5 = .ok (.getfield 36, 3) := dk_180 0 36 (dk_at dksX0_image_0 5 rfl rfl)
theorem dX0_image_8 : decode cX0_image 8 = .ok (.invokevirtual 500, 3) := dk_182 1 244 (dk_at dksX0_image_0 8 rfl rfl)
theorem dX0_image_11 : decode cX0_image 11 = .ok (.aload_n 0, 1) := dk_42 (dk_at dksX0_image_0 11 rfl rfl)
theorem dX0_image_12 : decode cX0_image 12 = .ok (.iconst 1, 1) := dk_4 (dk_at dksX0_image_0 12 rfl rfl)
theorem dX0_image_13 : decode cX0_image 13 = .ok (.putfield 503, 3) := dk_181 1 247 (dk_at dksX0_image_0 13 rfl rfl)
theorem dX0_image_16 : decode cX0_image 16 = .ok (.aload_n 0, 1) := dk_42 (dk_at dksX0_image_0 16 rfl rfl)
theorem dX0_image_17 : decode cX0_image 17 = .ok (.getfield 36, 3) := dk_180 0 36 (dk_at dksX0_image_0 17 rfl rfl)
theorem dX0_image_20 : decode cX0_image 20 = .ok (.getfield 407, 3) := dk_180 1 151 (dk_at dksX0_image_0 20 rfl rfl)
theorem dX0_image_23 : decode cX0_image 23 = .ok (.invokevirtual 416, 3) := dk_182 1 160 (dk_at dksX0_image_1 0 rfl rfl)
theorem dX0_image_26 : decode cX0_image 26 = .ok (.ireturn, 1) := dk_172 (dk_at dksX0_image_1 3 rfl rfl)
abbrev cX0_undo : ByteArray := prog_1_method_84_code
def yX0_undo : MethodName := ⟨RX0, "undo", "()I"⟩
def dkwX0_undo_1 : List UInt8 := [180, 0, 36, 180, 1, 151, 182, 1, 160, 172]
abbrev dktX0_undo_1 : List UInt8 := dkwX0_undo_1 ++ []
def dkwX0_undo_0 : List UInt8 := [42, 180, 1, 247, 154, 0, 6, 16, 253, 172, 42, 180, 0, 36, 42, 180, 0, 40, 182, 1, 244, 42]
abbrev dktX0_undo_0 : List UInt8 := dkwX0_undo_0 ++ dktX0_undo_1
theorem dksX0_undo_0 : cX0_undo.data.toList.drop 0 = dktX0_undo_0 := by decide +kernel
theorem dksX0_undo_1 : cX0_undo.data.toList.drop 22 = dktX0_undo_1 := dk_seg dksX0_undo_0 22 rfl rfl
theorem dX0_undo_0 : decode cX0_undo 0 = .ok (.aload_n 0, 1) := dk_42 (dk_at dksX0_undo_0 0 rfl rfl)
theorem dX0_undo_1 : decode cX0_undo 1 = .ok (.getfield 503, 3) := dk_180 1 247 (dk_at dksX0_undo_0 1 rfl rfl)
theorem dX0_undo_4 : decode cX0_undo 4 = .ok (.ifCond .ne 6, 3) := dk_154 0 6 (dk_at dksX0_undo_0 4 rfl rfl)
theorem dX0_undo_7 : decode cX0_undo 7 = .ok (.bipush (-3), 2) := dk_16 253 (dk_at dksX0_undo_0 7 rfl rfl)
theorem dX0_undo_9 : decode cX0_undo 9 = .ok (.ireturn, 1) := dk_172 (dk_at dksX0_undo_0 9 rfl rfl)
theorem dX0_undo_10 : decode cX0_undo 10 = .ok (.aload_n 0, 1) := dk_42 (dk_at dksX0_undo_0 10 rfl rfl)
theorem dX0_undo_11 : decode cX0_undo 11 = .ok (.getfield 36, 3) := dk_180 0 36 (dk_at dksX0_undo_0 11 rfl rfl)
theorem dX0_undo_14 : decode cX0_undo 14 = .ok (.aload_n 0, 1) := dk_42 (dk_at dksX0_undo_0 14 rfl rfl)
theorem dX0_undo_15 : decode cX0_undo 15 = .ok (.getfield 40, 3) := dk_180 0 40 (dk_at dksX0_undo_0 15 rfl rfl)
theorem dX0_undo_18 : decode cX0_undo 18 = .ok (.invokevirtual 500, 3) := dk_182 1 244 (dk_at dksX0_undo_0 18 rfl rfl)
theorem dX0_undo_21 : decode cX0_undo 21 = .ok (.aload_n 0, 1) := dk_42 (dk_at dksX0_undo_0 21 rfl rfl)
theorem dX0_undo_22 : decode cX0_undo 22 = .ok (.getfield 36, 3) := dk_180 0 36 (dk_at dksX0_undo_1 0 rfl rfl)
theorem dX0_undo_25 : decode cX0_undo 25 = .ok (.getfield 407, 3) := dk_180 1 151 (dk_at dksX0_undo_1 3 rfl rfl)
theorem dX0_undo_28 : decode cX0_undo 28 = .ok (.invokevirtual 416, 3) := dk_182 1 160 (dk_at dksX0_undo_1 6 rfl rfl)
theorem dX0_undo_31 : decode cX0_undo 31 = .ok (.ireturn, 1) := dk_172 (dk_at dksX0_undo_1 9 rfl rfl)
abbrev cX0_count : ByteArray := prog_1_method_86_code
def yX0_count : MethodName := ⟨RX0, "count", "(I)I"⟩
def dkwX0_count_3 : List UInt8 := [180, 0, 102, 182, 1, 214, 172, 42, 180, 0, 36, 180, 1, 196, 172, 16, 254, 172]
abbrev dktX0_count_3 : List UInt8 := dkwX0_count_3 ++ []
def dkwX0_count_2 : List UInt8 := [42, 180, 0, 36, 180, 1, 151, 182, 1, 160, 172, 42, 182, 1, 251, 172, 42, 180, 0, 148, 172, 42]
abbrev dktX0_count_2 : List UInt8 := dkwX0_count_2 ++ dktX0_count_3
def dkwX0_count_1 : List UInt8 := [170, 0, 0, 0, 0, 0, 72, 0, 0, 0, 0, 0, 0, 0, 4, 0, 0, 0, 35, 0, 0, 0, 46, 0, 0, 0, 51, 0, 0, 0, 56, 0, 0, 0, 64]
abbrev dktX0_count_1 : List UInt8 := dkwX0_count_1 ++ dktX0_count_2
def dkwX0_count_0 : List UInt8 := [27]
abbrev dktX0_count_0 : List UInt8 := dkwX0_count_0 ++ dktX0_count_1
theorem dksX0_count_0 : cX0_count.data.toList.drop 0 = dktX0_count_0 := by decide +kernel
theorem dksX0_count_1 : cX0_count.data.toList.drop 1 = dktX0_count_1 := dk_seg dksX0_count_0 1 rfl rfl
theorem dksX0_count_2 : cX0_count.data.toList.drop 36 = dktX0_count_2 := dk_seg dksX0_count_1 35 rfl rfl
theorem dksX0_count_3 : cX0_count.data.toList.drop 58 = dktX0_count_3 := dk_seg dksX0_count_2 22 rfl rfl
theorem dX0_count_0 : decode cX0_count 0 = .ok (.iload_n 1, 1) := dk_27 (dk_at dksX0_count_0 0 rfl rfl)
theorem dX0_count_1 : decode cX0_count 1 = .ok (.tableswitch 72 0 4 #[35, 46, 51, 56, 64], 35) := by decide +kernel
theorem dX0_count_36 : decode cX0_count 36 = .ok (.aload_n 0, 1) := dk_42 (dk_at dksX0_count_2 0 rfl rfl)
theorem dX0_count_37 : decode cX0_count 37 = .ok (.getfield 36, 3) := dk_180 0 36 (dk_at dksX0_count_2 1 rfl rfl)
theorem dX0_count_40 : decode cX0_count 40 = .ok (.getfield 407, 3) := dk_180 1 151 (dk_at dksX0_count_2 4 rfl rfl)
theorem dX0_count_43 : decode cX0_count 43 = .ok (.invokevirtual 416, 3) := dk_182 1 160 (dk_at dksX0_count_2 7 rfl rfl)
theorem dX0_count_46 : decode cX0_count 46 = .ok (.ireturn, 1) := dk_172 (dk_at dksX0_count_2 10 rfl rfl)
theorem dX0_count_47 : decode cX0_count 47 = .ok (.aload_n 0, 1) := dk_42 (dk_at dksX0_count_2 11 rfl rfl)
theorem dX0_count_48 : decode cX0_count 48 = .ok (.invokevirtual 507, 3) := dk_182 1 251 (dk_at dksX0_count_2 12 rfl rfl)
theorem dX0_count_51 : decode cX0_count 51 = .ok (.ireturn, 1) := dk_172 (dk_at dksX0_count_2 15 rfl rfl)
theorem dX0_count_52 : decode cX0_count 52 = .ok (.aload_n 0, 1) := dk_42 (dk_at dksX0_count_2 16 rfl rfl)
theorem dX0_count_53 : decode cX0_count 53 = .ok (.getfield 148, 3) := dk_180 0 148 (dk_at dksX0_count_2 17 rfl rfl)
theorem dX0_count_56 : decode cX0_count 56 = .ok (.ireturn, 1) := dk_172 (dk_at dksX0_count_2 20 rfl rfl)
theorem dX0_count_57 : decode cX0_count 57 = .ok (.aload_n 0, 1) := dk_42 (dk_at dksX0_count_2 21 rfl rfl)
theorem dX0_count_58 : decode cX0_count 58 = .ok (.getfield 102, 3) := dk_180 0 102 (dk_at dksX0_count_3 0 rfl rfl)
theorem dX0_count_61 : decode cX0_count 61 = .ok (.invokevirtual 470, 3) := dk_182 1 214 (dk_at dksX0_count_3 3 rfl rfl)
theorem dX0_count_64 : decode cX0_count 64 = .ok (.ireturn, 1) := dk_172 (dk_at dksX0_count_3 6 rfl rfl)
theorem dX0_count_65 : decode cX0_count 65 = .ok (.aload_n 0, 1) := dk_42 (dk_at dksX0_count_3 7 rfl rfl)
theorem dX0_count_66 : decode cX0_count 66 = .ok (.getfield 36, 3) := dk_180 0 36 (dk_at dksX0_count_3 8 rfl rfl)
theorem dX0_count_69 : decode cX0_count 69 = .ok (.getfield 452, 3) := dk_180 1 196 (dk_at dksX0_count_3 11 rfl rfl)
theorem dX0_count_72 : decode cX0_count 72 = .ok (.ireturn, 1) := dk_172 (dk_at dksX0_count_3 14 rfl rfl)
theorem dX0_count_73 : decode cX0_count 73 = .ok (.bipush (-2), 2) := dk_16 254 (dk_at dksX0_count_3 15 rfl rfl)
theorem dX0_count_75 : decode cX0_count 75 = .ok (.ireturn, 1) := dk_172 (dk_at dksX0_count_3 17 rfl rfl)
abbrev cX0_others : ByteArray := prog_1_method_85_code
def yX0_others : MethodName := ⟨RX0, "others", "()I"⟩
def dkwX0_others_2 : List UInt8 := [27, 172]
abbrev dktX0_others_2 : List UInt8 := dkwX0_others_2 ++ []
def dkwX0_others_1 : List UInt8 := [21, 4, 46, 54, 5, 27, 21, 5, 154, 0, 7, 3, 167, 0, 4, 4, 96, 60, 132, 4, 1, 167, 255, 228]
abbrev dktX0_others_1 : List UInt8 := dkwX0_others_1 ++ dktX0_others_2
def dkwX0_others_0 : List UInt8 := [3, 60, 42, 180, 0, 36, 180, 0, 139, 77, 44, 190, 62, 3, 54, 4, 21, 4, 29, 162, 0, 28, 44]
abbrev dktX0_others_0 : List UInt8 := dkwX0_others_0 ++ dktX0_others_1
theorem dksX0_others_0 : cX0_others.data.toList.drop 0 = dktX0_others_0 := by decide +kernel
theorem dksX0_others_1 : cX0_others.data.toList.drop 23 = dktX0_others_1 := dk_seg dksX0_others_0 23 rfl rfl
theorem dksX0_others_2 : cX0_others.data.toList.drop 47 = dktX0_others_2 := dk_seg dksX0_others_1 24 rfl rfl
theorem dX0_others_0 : decode cX0_others 0 = .ok (.iconst 0, 1) := dk_3 (dk_at dksX0_others_0 0 rfl rfl)
theorem dX0_others_1 : decode cX0_others 1 = .ok (.istore_n 1, 1) := dk_60 (dk_at dksX0_others_0 1 rfl rfl)
theorem dX0_others_2 : decode cX0_others 2 = .ok (.aload_n 0, 1) := dk_42 (dk_at dksX0_others_0 2 rfl rfl)
theorem dX0_others_3 : decode cX0_others 3 = .ok (.getfield 36, 3) := dk_180 0 36 (dk_at dksX0_others_0 3 rfl rfl)
theorem dX0_others_6 : decode cX0_others 6 = .ok (.getfield 139, 3) := dk_180 0 139 (dk_at dksX0_others_0 6 rfl rfl)
theorem dX0_others_9 : decode cX0_others 9 = .ok (.astore_n 2, 1) := dk_77 (dk_at dksX0_others_0 9 rfl rfl)
theorem dX0_others_10 : decode cX0_others 10 = .ok (.aload_n 2, 1) := dk_44 (dk_at dksX0_others_0 10 rfl rfl)
theorem dX0_others_11 : decode cX0_others 11 = .ok (.arraylength, 1) := dk_190 (dk_at dksX0_others_0 11 rfl rfl)
theorem dX0_others_12 : decode cX0_others 12 = .ok (.istore_n 3, 1) := dk_62 (dk_at dksX0_others_0 12 rfl rfl)
theorem dX0_others_13 : decode cX0_others 13 = .ok (.iconst 0, 1) := dk_3 (dk_at dksX0_others_0 13 rfl rfl)
theorem dX0_others_14 : decode cX0_others 14 = .ok (.istore 4, 2) := dk_54 4 (dk_at dksX0_others_0 14 rfl rfl)
theorem dX0_others_16 : decode cX0_others 16 = .ok (.iload 4, 2) := dk_21 4 (dk_at dksX0_others_0 16 rfl rfl)
theorem dX0_others_18 : decode cX0_others 18 = .ok (.iload_n 3, 1) := dk_29 (dk_at dksX0_others_0 18 rfl rfl)
theorem dX0_others_19 : decode cX0_others 19 = .ok (.if_icmp .ge 28, 3) := dk_162 0 28 (dk_at dksX0_others_0 19 rfl rfl)
theorem dX0_others_22 : decode cX0_others 22 = .ok (.aload_n 2, 1) := dk_44 (dk_at dksX0_others_0 22 rfl rfl)
theorem dX0_others_23 : decode cX0_others 23 = .ok (.iload 4, 2) := dk_21 4 (dk_at dksX0_others_1 0 rfl rfl)
theorem dX0_others_25 : decode cX0_others 25 = .ok (.iaload, 1) := dk_46 (dk_at dksX0_others_1 2 rfl rfl)
theorem dX0_others_26 : decode cX0_others 26 = .ok (.istore 5, 2) := dk_54 5 (dk_at dksX0_others_1 3 rfl rfl)
theorem dX0_others_28 : decode cX0_others 28 = .ok (.iload_n 1, 1) := dk_27 (dk_at dksX0_others_1 5 rfl rfl)
theorem dX0_others_29 : decode cX0_others 29 = .ok (.iload 5, 2) := dk_21 5 (dk_at dksX0_others_1 6 rfl rfl)
theorem dX0_others_31 : decode cX0_others 31 = .ok (.ifCond .ne 7, 3) := dk_154 0 7 (dk_at dksX0_others_1 8 rfl rfl)
theorem dX0_others_34 : decode cX0_others 34 = .ok (.iconst 0, 1) := dk_3 (dk_at dksX0_others_1 11 rfl rfl)
theorem dX0_others_35 : decode cX0_others 35 = .ok (.goto 4, 3) := dk_167 0 4 (dk_at dksX0_others_1 12 rfl rfl)
theorem dX0_others_38 : decode cX0_others 38 = .ok (.iconst 1, 1) := dk_4 (dk_at dksX0_others_1 15 rfl rfl)
theorem dX0_others_39 : decode cX0_others 39 = .ok (.iadd, 1) := dk_96 (dk_at dksX0_others_1 16 rfl rfl)
theorem dX0_others_40 : decode cX0_others 40 = .ok (.istore_n 1, 1) := dk_60 (dk_at dksX0_others_1 17 rfl rfl)
theorem dX0_others_41 : decode cX0_others 41 = .ok (.iinc 4 1, 3) := dk_132 4 1 (dk_at dksX0_others_1 18 rfl rfl)
theorem dX0_others_44 : decode cX0_others 44 = .ok (.goto (-28), 3) := dk_167 255 228 (dk_at dksX0_others_1 21 rfl rfl)
theorem dX0_others_47 : decode cX0_others 47 = .ok (.iload_n 1, 1) := dk_27 (dk_at dksX0_others_2 0 rfl rfl)
theorem dX0_others_48 : decode cX0_others 48 = .ok (.ireturn, 1) := dk_172 (dk_at dksX0_others_2 1 rfl rfl)
theorem q69 : (Jvm.Cond.initialized "KeptCurves") ∈ lw_all := lw_g (lw_at lw_m1 1 rfl) rfl
theorem q118 : (Jvm.Cond.instantiable "KeptCurves" (20 : Nat)) ∈ lw_all := lw_g (lw_at lw_m1 50 rfl) rfl
theorem q120 : (Jvm.Cond.instanceMethod ({ cls := "KeptCurves", name := "<init>", desc := "()V" } : Jvm.MethodName)) ∈ lw_all := lw_g (lw_at lw_m1 52 rfl) rfl
theorem q121 : (Jvm.Cond.code ({ cls := "KeptCurves", name := "<init>", desc := "()V" } : Jvm.MethodName) prog_1_method_11_code (1 : Nat) (Option.none : Option Jvm.ClassFile.FieldType)) ∈ lw_all := lw_g (lw_at lw_m1 53 rfl) rfl
theorem q122 : (Jvm.Cond.methodLink "KeptCurves" (27 : Nat) ({ cls := "java/lang/Object", name := "<init>", desc := "()V" } : Jvm.MethodName)) ∈ lw_all := lw_g (lw_at lw_m1 54 rfl) rfl
theorem q125 : (Jvm.Cond.classLink "KeptCurves" (33 : Nat) "KeptCurves$Works") ∈ lw_all := lw_g (lw_at lw_m1 57 rfl) rfl
theorem q127 : (Jvm.Cond.methodLinkNest "KeptCurves" (35 : Nat) ({ cls := "KeptCurves$Works", name := "<init>", desc := "()V" } : Jvm.MethodName) "KeptCurves") ∈ lw_tbl := lw_at lw_m1 59 rfl
theorem q187 : (Jvm.Cond.fieldLinkNest "KeptCurves" (139 : Nat) "KeptCurves$Works" "tables" "[I" "KeptCurves") ∈ lw_tbl := lw_at lw_m1 119 rfl
theorem q189 : (Jvm.Cond.fieldLinkNest "KeptCurves" (407 : Nat) "KeptCurves$Works" "set" "Ljava/util/TreeSet;" "KeptCurves") ∈ lw_tbl := lw_at lw_m1 121 rfl
theorem q191 : (Jvm.Cond.fieldLinkNest "KeptCurves" (458 : Nat) "KeptCurves$Works" "plan" "[I" "KeptCurves") ∈ lw_tbl := lw_at lw_m1 123 rfl
theorem q193 : (Jvm.Cond.fieldLinkNest "KeptCurves" (452 : Nat) "KeptCurves$Works" "planned" "I" "KeptCurves") ∈ lw_tbl := lw_at lw_m1 125 rfl
theorem q203 : (Jvm.Cond.classLink "KeptCurves" (43 : Nat) "KeptCurves$Act") ∈ lw_all := lw_g (lw_at lw_m1 135 rfl) rfl
theorem q205 : (Jvm.Cond.classLink "KeptCurves" (49 : Nat) "KeptCurves$Turn") ∈ lw_all := lw_g (lw_at lw_m1 137 rfl) rfl
theorem q207 : (Jvm.Cond.classLink "KeptCurves" (69 : Nat) "KeptCurves$Fraction") ∈ lw_all := lw_g (lw_at lw_m1 139 rfl) rfl
theorem q210 : (Jvm.Cond.methodLinkNest "KeptCurves" (71 : Nat) ({ cls := "KeptCurves$Fraction", name := "<init>", desc := "()V" } : Jvm.MethodName) "KeptCurves") ∈ lw_tbl := lw_at lw_m1 142 rfl
theorem q223 : (Jvm.Cond.fieldLinkNest "KeptCurves" (354 : Nat) "KeptCurves$Poly" "many" "I" "KeptCurves") ∈ lw_tbl := lw_at lw_m1 155 rfl
theorem q232 : (Jvm.Cond.fieldLinkNest "KeptCurves" (366 : Nat) "KeptCurves$Fraction" "above" "LKeptCurves$Poly;" "KeptCurves") ∈ lw_tbl := lw_at lw_m1 164 rfl
theorem q234 : (Jvm.Cond.fieldLinkNest "KeptCurves" (359 : Nat) "KeptCurves$Fraction" "below" "LKeptCurves$Poly;" "KeptCurves") ∈ lw_tbl := lw_at lw_m1 166 rfl
theorem q240 : (Jvm.Cond.classLink "KeptCurves" (76 : Nat) "KeptCurves$Poly") ∈ lw_all := lw_g (lw_at lw_m1 172 rfl) rfl
theorem q242 : (Jvm.Cond.methodLinkNest "KeptCurves" (78 : Nat) ({ cls := "KeptCurves$Poly", name := "<init>", desc := "()V" } : Jvm.MethodName) "KeptCurves") ∈ lw_tbl := lw_at lw_m1 174 rfl
theorem q243 : (Jvm.Cond.classLink "KeptCurves" (99 : Nat) "java/lang/StringBuilder") ∈ lw_all := lw_g (lw_at lw_m1 175 rfl) rfl
theorem q245 : (Jvm.Cond.methodLink "KeptCurves" (101 : Nat) ({ cls := "java/lang/StringBuilder", name := "<init>", desc := "()V" } : Jvm.MethodName)) ∈ lw_all := lw_g (lw_at lw_m1 177 rfl) rfl
theorem q353 : (Jvm.Cond.classLink "KeptCurves" (106 : Nat) "[I") ∈ lw_all := lw_g (lw_at lw_m2 45 rfl) rfl
theorem q355 : (Jvm.Cond.privateMethod ({ cls := "KeptCurves", name := "swapsX", desc := "(I)I" } : Jvm.MethodName)) ∈ lw_tbl := lw_at lw_m2 47 rfl
theorem q356 : (Jvm.Cond.instanceMethod ({ cls := "KeptCurves", name := "swapsX", desc := "(I)I" } : Jvm.MethodName)) ∈ lw_all := lw_g (lw_at lw_m2 48 rfl) rfl
theorem q357 : (Jvm.Cond.code ({ cls := "KeptCurves", name := "swapsX", desc := "(I)I" } : Jvm.MethodName) prog_1_method_30_code (4 : Nat) (Option.some Jvm.ClassFile.FieldType.int)) ∈ lw_all := lw_g (lw_at lw_m2 49 rfl) rfl
theorem q358 : (Jvm.Cond.methodLink "KeptCurves" (201 : Nat) ({ cls := "KeptCurves", name := "swapped", desc := "(III)I" } : Jvm.MethodName)) ∈ lw_all := lw_g (lw_at lw_m2 50 rfl) rfl
theorem q359 : (Jvm.Cond.privateMethod ({ cls := "KeptCurves", name := "swapped", desc := "(III)I" } : Jvm.MethodName)) ∈ lw_tbl := lw_at lw_m2 51 rfl
theorem q360 : (Jvm.Cond.instanceMethod ({ cls := "KeptCurves", name := "swapped", desc := "(III)I" } : Jvm.MethodName)) ∈ lw_all := lw_g (lw_at lw_m2 52 rfl) rfl
theorem q361 : (Jvm.Cond.code ({ cls := "KeptCurves", name := "swapped", desc := "(III)I" } : Jvm.MethodName) prog_1_method_25_code (10 : Nat) (Option.some Jvm.ClassFile.FieldType.int)) ∈ lw_all := lw_g (lw_at lw_m2 53 rfl) rfl
theorem q362 : (Jvm.Cond.methodLink "KeptCurves" (195 : Nat) ({ cls := "KeptCurves", name := "pair", desc := "(III)I" } : Jvm.MethodName)) ∈ lw_all := lw_g (lw_at lw_m2 54 rfl) rfl
theorem q363 : (Jvm.Cond.privateMethod ({ cls := "KeptCurves", name := "pair", desc := "(III)I" } : Jvm.MethodName)) ∈ lw_tbl := lw_at lw_m2 55 rfl
theorem q364 : (Jvm.Cond.instanceMethod ({ cls := "KeptCurves", name := "pair", desc := "(III)I" } : Jvm.MethodName)) ∈ lw_all := lw_g (lw_at lw_m2 56 rfl) rfl
theorem q365 : (Jvm.Cond.code ({ cls := "KeptCurves", name := "pair", desc := "(III)I" } : Jvm.MethodName) prog_1_method_24_code (6 : Nat) (Option.some Jvm.ClassFile.FieldType.int)) ∈ lw_all := lw_g (lw_at lw_m2 57 rfl) rfl
theorem q366 : (Jvm.Cond.methodLink "KeptCurves" (175 : Nat) ({ cls := "KeptCurves", name := "rowAt", desc := "(IIII)I" } : Jvm.MethodName)) ∈ lw_all := lw_g (lw_at lw_m2 58 rfl) rfl
theorem q367 : (Jvm.Cond.privateMethod ({ cls := "KeptCurves", name := "rowAt", desc := "(IIII)I" } : Jvm.MethodName)) ∈ lw_tbl := lw_at lw_m2 59 rfl
theorem q368 : (Jvm.Cond.instanceMethod ({ cls := "KeptCurves", name := "rowAt", desc := "(IIII)I" } : Jvm.MethodName)) ∈ lw_all := lw_g (lw_at lw_m2 60 rfl) rfl
theorem q369 : (Jvm.Cond.code ({ cls := "KeptCurves", name := "rowAt", desc := "(IIII)I" } : Jvm.MethodName) prog_1_method_19_code (8 : Nat) (Option.some Jvm.ClassFile.FieldType.int)) ∈ lw_all := lw_g (lw_at lw_m2 61 rfl) rfl
theorem q370 : (Jvm.Cond.methodLink "KeptCurves" (142 : Nat) ({ cls := "KeptCurves", name := "cell", desc := "(III)I" } : Jvm.MethodName)) ∈ lw_all := lw_g (lw_at lw_m2 62 rfl) rfl
theorem q371 : (Jvm.Cond.static ({ cls := "KeptCurves", name := "cell", desc := "(III)I" } : Jvm.MethodName)) ∈ lw_all := lw_g (lw_at lw_m2 63 rfl) rfl
theorem q372 : (Jvm.Cond.code ({ cls := "KeptCurves", name := "cell", desc := "(III)I" } : Jvm.MethodName) prog_1_method_12_code (3 : Nat) (Option.some Jvm.ClassFile.FieldType.int)) ∈ lw_all := lw_g (lw_at lw_m2 64 rfl) rfl
theorem q373 : (Jvm.Cond.methodLink "KeptCurves" (172 : Nat) ({ cls := "KeptCurves", name := "power", desc := "(II)I" } : Jvm.MethodName)) ∈ lw_all := lw_g (lw_at lw_m2 65 rfl) rfl
theorem q374 : (Jvm.Cond.static ({ cls := "KeptCurves", name := "power", desc := "(II)I" } : Jvm.MethodName)) ∈ lw_all := lw_g (lw_at lw_m2 66 rfl) rfl
theorem q375 : (Jvm.Cond.code ({ cls := "KeptCurves", name := "power", desc := "(II)I" } : Jvm.MethodName) prog_1_method_18_code (4 : Nat) (Option.some Jvm.ClassFile.FieldType.int)) ∈ lw_all := lw_g (lw_at lw_m2 67 rfl) rfl
theorem q376 : (Jvm.Cond.methodLink "KeptCurves" (17 : Nat) ({ cls := "KeptCurves", name := "times", desc := "(II)I" } : Jvm.MethodName)) ∈ lw_all := lw_g (lw_at lw_m2 68 rfl) rfl
theorem q377 : (Jvm.Cond.static ({ cls := "KeptCurves", name := "times", desc := "(II)I" } : Jvm.MethodName)) ∈ lw_all := lw_g (lw_at lw_m2 69 rfl) rfl
theorem q378 : (Jvm.Cond.code ({ cls := "KeptCurves", name := "times", desc := "(II)I" } : Jvm.MethodName) prog_1_method_4_code (2 : Nat) (Option.some Jvm.ClassFile.FieldType.int)) ∈ lw_all := lw_g (lw_at lw_m2 70 rfl) rfl
theorem q379 : (Jvm.Cond.methodLink "KeptCurves" (192 : Nat) ({ cls := "KeptCurves", name := "less", desc := "(II)I" } : Jvm.MethodName)) ∈ lw_all := lw_g (lw_at lw_m2 71 rfl) rfl
theorem q380 : (Jvm.Cond.static ({ cls := "KeptCurves", name := "less", desc := "(II)I" } : Jvm.MethodName)) ∈ lw_all := lw_g (lw_at lw_m2 72 rfl) rfl
theorem q381 : (Jvm.Cond.code ({ cls := "KeptCurves", name := "less", desc := "(II)I" } : Jvm.MethodName) prog_1_method_5_code (2 : Nat) (Option.some Jvm.ClassFile.FieldType.int)) ∈ lw_all := lw_g (lw_at lw_m2 73 rfl) rfl
theorem q382 : (Jvm.Cond.methodLink "KeptCurves" (186 : Nat) ({ cls := "KeptCurves", name := "by", desc := "(II)I" } : Jvm.MethodName)) ∈ lw_all := lw_g (lw_at lw_m2 74 rfl) rfl
theorem q383 : (Jvm.Cond.static ({ cls := "KeptCurves", name := "by", desc := "(II)I" } : Jvm.MethodName)) ∈ lw_all := lw_g (lw_at lw_m2 75 rfl) rfl
theorem q384 : (Jvm.Cond.code ({ cls := "KeptCurves", name := "by", desc := "(II)I" } : Jvm.MethodName) prog_1_method_6_code (2 : Nat) (Option.some Jvm.ClassFile.FieldType.int)) ∈ lw_all := lw_g (lw_at lw_m2 76 rfl) rfl
theorem q385 : (Jvm.Cond.fieldLink "KeptCurves" (13 : Nat) "KeptCurves" "INVERSE" "[I") ∈ lw_all := lw_g (lw_at lw_m2 77 rfl) rfl
theorem q386 : (Jvm.Cond.laysStatic "KeptCurves" "INVERSE" "[I") ∈ lw_tbl := lw_at lw_m2 78 rfl
theorem q387 : (Jvm.Cond.methodLink "KeptCurves" (206 : Nat) ({ cls := "KeptCurves", name := "codeOf", desc := "(II)I" } : Jvm.MethodName)) ∈ lw_all := lw_g (lw_at lw_m2 79 rfl) rfl
theorem q388 : (Jvm.Cond.static ({ cls := "KeptCurves", name := "codeOf", desc := "(II)I" } : Jvm.MethodName)) ∈ lw_all := lw_g (lw_at lw_m2 80 rfl) rfl
theorem q389 : (Jvm.Cond.code ({ cls := "KeptCurves", name := "codeOf", desc := "(II)I" } : Jvm.MethodName) prog_1_method_7_code (2 : Nat) (Option.some Jvm.ClassFile.FieldType.int)) ∈ lw_all := lw_g (lw_at lw_m2 81 rfl) rfl
theorem q390 : (Jvm.Cond.privateMethod ({ cls := "KeptCurves", name := "swapsY", desc := "(I)I" } : Jvm.MethodName)) ∈ lw_tbl := lw_at lw_m2 82 rfl
theorem q391 : (Jvm.Cond.instanceMethod ({ cls := "KeptCurves", name := "swapsY", desc := "(I)I" } : Jvm.MethodName)) ∈ lw_all := lw_g (lw_at lw_m2 83 rfl) rfl
theorem q392 : (Jvm.Cond.code ({ cls := "KeptCurves", name := "swapsY", desc := "(I)I" } : Jvm.MethodName) prog_1_method_31_code (4 : Nat) (Option.some Jvm.ClassFile.FieldType.int)) ∈ lw_all := lw_g (lw_at lw_m2 84 rfl) rfl
theorem q393 : (Jvm.Cond.privateMethod ({ cls := "KeptCurves", name := "steps", desc := "(I)I" } : Jvm.MethodName)) ∈ lw_tbl := lw_at lw_m2 85 rfl
theorem q394 : (Jvm.Cond.instanceMethod ({ cls := "KeptCurves", name := "steps", desc := "(I)I" } : Jvm.MethodName)) ∈ lw_all := lw_g (lw_at lw_m2 86 rfl) rfl
theorem q395 : (Jvm.Cond.code ({ cls := "KeptCurves", name := "steps", desc := "(I)I" } : Jvm.MethodName) prog_1_method_33_code (2 : Nat) (Option.some Jvm.ClassFile.FieldType.int)) ∈ lw_all := lw_g (lw_at lw_m2 87 rfl) rfl
theorem q396 : (Jvm.Cond.methodLink "KeptCurves" (212 : Nat) ({ cls := "KeptCurves", name := "both", desc := "(LKeptCurves$Turn;LKeptCurves$Turn;I)I" } : Jvm.MethodName)) ∈ lw_all := lw_g (lw_at lw_m2 88 rfl) rfl
theorem q397 : (Jvm.Cond.static ({ cls := "KeptCurves", name := "both", desc := "(LKeptCurves$Turn;LKeptCurves$Turn;I)I" } : Jvm.MethodName)) ∈ lw_all := lw_g (lw_at lw_m2 89 rfl) rfl
theorem q398 : (Jvm.Cond.code ({ cls := "KeptCurves", name := "both", desc := "(LKeptCurves$Turn;LKeptCurves$Turn;I)I" } : Jvm.MethodName) prog_1_method_32_code (4 : Nat) (Option.some Jvm.ClassFile.FieldType.int)) ∈ lw_all := lw_g (lw_at lw_m2 90 rfl) rfl
theorem q399 : (Jvm.Cond.interfaceEntry "KeptCurves" (209 : Nat)) ∈ lw_tbl := lw_at lw_m2 91 rfl
theorem q400 : (Jvm.Cond.methodLink "KeptCurves" (209 : Nat) ({ cls := "KeptCurves$Turn", name := "turns", desc := "(I)I" } : Jvm.MethodName)) ∈ lw_all := lw_g (lw_at lw_m2 92 rfl) rfl
theorem q403 : (Jvm.Cond.privateMethod ({ cls := "KeptCurves", name := "stepsBack", desc := "(I)I" } : Jvm.MethodName)) ∈ lw_tbl := lw_at lw_m2 95 rfl
theorem q404 : (Jvm.Cond.instanceMethod ({ cls := "KeptCurves", name := "stepsBack", desc := "(I)I" } : Jvm.MethodName)) ∈ lw_all := lw_g (lw_at lw_m2 96 rfl) rfl
theorem q405 : (Jvm.Cond.code ({ cls := "KeptCurves", name := "stepsBack", desc := "(I)I" } : Jvm.MethodName) prog_1_method_34_code (2 : Nat) (Option.some Jvm.ClassFile.FieldType.int)) ∈ lw_all := lw_g (lw_at lw_m2 97 rfl) rfl
theorem q406 : (Jvm.Cond.privateMethod ({ cls := "KeptCurves", name := "lambda$new$0", desc := "(II)I" } : Jvm.MethodName)) ∈ lw_tbl := lw_at lw_m2 98 rfl
theorem q407 : (Jvm.Cond.instanceMethod ({ cls := "KeptCurves", name := "lambda$new$0", desc := "(II)I" } : Jvm.MethodName)) ∈ lw_all := lw_g (lw_at lw_m2 99 rfl) rfl
theorem q408 : (Jvm.Cond.code ({ cls := "KeptCurves", name := "lambda$new$0", desc := "(II)I" } : Jvm.MethodName) prog_1_method_90_code (3 : Nat) (Option.some Jvm.ClassFile.FieldType.int)) ∈ lw_all := lw_g (lw_at lw_m2 100 rfl) rfl
theorem q409 : (Jvm.Cond.methodLink "KeptCurves" (447 : Nat) ({ cls := "KeptCurves", name := "untilLost", desc := "(LKeptCurves$Turn;II)I" } : Jvm.MethodName)) ∈ lw_all := lw_g (lw_at lw_m2 101 rfl) rfl
theorem q410 : (Jvm.Cond.static ({ cls := "KeptCurves", name := "untilLost", desc := "(LKeptCurves$Turn;II)I" } : Jvm.MethodName)) ∈ lw_all := lw_g (lw_at lw_m2 102 rfl) rfl
theorem q411 : (Jvm.Cond.code ({ cls := "KeptCurves", name := "untilLost", desc := "(LKeptCurves$Turn;II)I" } : Jvm.MethodName) prog_1_method_68_code (6 : Nat) (Option.some Jvm.ClassFile.FieldType.int)) ∈ lw_all := lw_g (lw_at lw_m2 103 rfl) rfl
theorem q412 : (Jvm.Cond.privateMethod ({ cls := "KeptCurves", name := "lambda$new$1", desc := "(II)I" } : Jvm.MethodName)) ∈ lw_tbl := lw_at lw_m2 104 rfl
theorem q413 : (Jvm.Cond.instanceMethod ({ cls := "KeptCurves", name := "lambda$new$1", desc := "(II)I" } : Jvm.MethodName)) ∈ lw_all := lw_g (lw_at lw_m2 105 rfl) rfl
theorem q414 : (Jvm.Cond.code ({ cls := "KeptCurves", name := "lambda$new$1", desc := "(II)I" } : Jvm.MethodName) prog_1_method_89_code (3 : Nat) (Option.some Jvm.ClassFile.FieldType.int)) ∈ lw_all := lw_g (lw_at lw_m2 106 rfl) rfl
theorem q415 : (Jvm.Cond.privateMethod ({ cls := "KeptCurves", name := "swapsOne", desc := "(II)I" } : Jvm.MethodName)) ∈ lw_tbl := lw_at lw_m2 107 rfl
theorem q416 : (Jvm.Cond.instanceMethod ({ cls := "KeptCurves", name := "swapsOne", desc := "(II)I" } : Jvm.MethodName)) ∈ lw_all := lw_g (lw_at lw_m2 108 rfl) rfl
theorem q417 : (Jvm.Cond.code ({ cls := "KeptCurves", name := "swapsOne", desc := "(II)I" } : Jvm.MethodName) prog_1_method_69_code (3 : Nat) (Option.some Jvm.ClassFile.FieldType.int)) ∈ lw_all := lw_g (lw_at lw_m2 109 rfl) rfl
theorem q418 : (Jvm.Cond.static ({ cls := "KeptCurves", name := "turnedOver", desc := "(II)I" } : Jvm.MethodName)) ∈ lw_all := lw_g (lw_at lw_m2 110 rfl) rfl
theorem q419 : (Jvm.Cond.code ({ cls := "KeptCurves", name := "turnedOver", desc := "(II)I" } : Jvm.MethodName) prog_1_method_70_code (2 : Nat) (Option.some Jvm.ClassFile.FieldType.int)) ∈ lw_all := lw_g (lw_at lw_m2 111 rfl) rfl
theorem q420 : (Jvm.Cond.fieldLink "KeptCurves" (36 : Nat) "KeptCurves" "works" "LKeptCurves$Works;") ∈ lw_all := lw_g (lw_at lw_m2 112 rfl) rfl
theorem q421 : (Jvm.Cond.fieldLink "KeptCurves" (40 : Nat) "KeptCurves" "image" "LKeptCurves$Works;") ∈ lw_all := lw_g (lw_at lw_m2 113 rfl) rfl
theorem q422 : (Jvm.Cond.fieldLink "KeptCurves" (503 : Nat) "KeptCurves" "hasImage" "Z") ∈ lw_all := lw_g (lw_at lw_m2 114 rfl) rfl
theorem q423 : (Jvm.Cond.fieldLink "KeptCurves" (45 : Nat) "KeptCurves" "acts" "[LKeptCurves$Act;") ∈ lw_all := lw_g (lw_at lw_m2 115 rfl) rfl
theorem q424 : (Jvm.Cond.fieldLink "KeptCurves" (51 : Nat) "KeptCurves" "turns" "[LKeptCurves$Turn;") ∈ lw_all := lw_g (lw_at lw_m2 116 rfl) rfl
theorem q426 : (Jvm.Cond.fieldLink "KeptCurves" (55 : Nat) "KeptCurves" "tape" "[B") ∈ lw_all := lw_g (lw_at lw_m2 118 rfl) rfl
theorem q428 : (Jvm.Cond.fieldLink "KeptCurves" (148 : Nat) "KeptCurves" "length" "I") ∈ lw_all := lw_g (lw_at lw_m2 120 rfl) rfl
theorem q430 : (Jvm.Cond.fieldLink "KeptCurves" (59 : Nat) "KeptCurves" "read" "[I") ∈ lw_all := lw_g (lw_at lw_m2 122 rfl) rfl
theorem q431 : (Jvm.Cond.fieldLink "KeptCurves" (62 : Nat) "KeptCurves" "spots" "[I") ∈ lw_all := lw_g (lw_at lw_m2 123 rfl) rfl
theorem q432 : (Jvm.Cond.fieldLink "KeptCurves" (236 : Nat) "KeptCurves" "spotMany" "I") ∈ lw_all := lw_g (lw_at lw_m2 124 rfl) rfl
theorem q433 : (Jvm.Cond.fieldLink "KeptCurves" (65 : Nat) "KeptCurves" "isSeen" "[Z") ∈ lw_all := lw_g (lw_at lw_m2 125 rfl) rfl
theorem q434 : (Jvm.Cond.fieldLink "KeptCurves" (72 : Nat) "KeptCurves" "sides" "[LKeptCurves$Fraction;") ∈ lw_all := lw_g (lw_at lw_m2 126 rfl) rfl
theorem q435 : (Jvm.Cond.fieldLink "KeptCurves" (79 : Nat) "KeptCurves" "powers" "[LKeptCurves$Poly;") ∈ lw_all := lw_g (lw_at lw_m2 127 rfl) rfl
theorem q436 : (Jvm.Cond.fieldLink "KeptCurves" (83 : Nat) "KeptCurves" "rows" "[LKeptCurves$Poly;") ∈ lw_all := lw_g (lw_at lw_m2 128 rfl) rfl
theorem q437 : (Jvm.Cond.fieldLink "KeptCurves" (86 : Nat) "KeptCurves" "pairs" "[LKeptCurves$Poly;") ∈ lw_all := lw_g (lw_at lw_m2 129 rfl) rfl
theorem q438 : (Jvm.Cond.fieldLink "KeptCurves" (89 : Nat) "KeptCurves" "one" "LKeptCurves$Poly;") ∈ lw_all := lw_g (lw_at lw_m2 130 rfl) rfl
theorem q439 : (Jvm.Cond.fieldLink "KeptCurves" (93 : Nat) "KeptCurves" "other" "LKeptCurves$Poly;") ∈ lw_all := lw_g (lw_at lw_m2 131 rfl) rfl
theorem q440 : (Jvm.Cond.fieldLink "KeptCurves" (96 : Nat) "KeptCurves" "rest" "LKeptCurves$Poly;") ∈ lw_all := lw_g (lw_at lw_m2 132 rfl) rfl
theorem q441 : (Jvm.Cond.fieldLink "KeptCurves" (102 : Nat) "KeptCurves" "paper" "Ljava/lang/StringBuilder;") ∈ lw_all := lw_g (lw_at lw_m2 133 rfl) rfl
theorem q442 : (Jvm.Cond.fieldLink "KeptCurves" (107 : Nat) "KeptCurves" "lists" "[[I") ∈ lw_all := lw_g (lw_at lw_m2 134 rfl) rfl
theorem q443 : (Jvm.Cond.laysFinal "KeptCurves" "KeptCurves" "works" "LKeptCurves$Works;") ∈ lw_all := lw_g (lw_at lw_m2 135 rfl) rfl
theorem q444 : (Jvm.Cond.soleField "KeptCurves" "works") ∈ lw_all := lw_g (lw_at lw_m2 136 rfl) rfl
theorem q445 : (Jvm.Cond.laysFinal "KeptCurves" "KeptCurves" "image" "LKeptCurves$Works;") ∈ lw_all := lw_g (lw_at lw_m2 137 rfl) rfl
theorem q446 : (Jvm.Cond.soleField "KeptCurves" "image") ∈ lw_all := lw_g (lw_at lw_m2 138 rfl) rfl
theorem q447 : (Jvm.Cond.lays "KeptCurves" "KeptCurves" "hasImage" "Z") ∈ lw_all := lw_g (lw_at lw_m2 139 rfl) rfl
theorem q448 : (Jvm.Cond.soleField "KeptCurves" "hasImage") ∈ lw_all := lw_g (lw_at lw_m2 140 rfl) rfl
theorem q449 : (Jvm.Cond.laysFinal "KeptCurves" "KeptCurves" "acts" "[LKeptCurves$Act;") ∈ lw_all := lw_g (lw_at lw_m2 141 rfl) rfl
theorem q450 : (Jvm.Cond.soleField "KeptCurves" "acts") ∈ lw_all := lw_g (lw_at lw_m2 142 rfl) rfl
theorem q451 : (Jvm.Cond.laysFinal "KeptCurves" "KeptCurves" "turns" "[LKeptCurves$Turn;") ∈ lw_all := lw_g (lw_at lw_m2 143 rfl) rfl
theorem q452 : (Jvm.Cond.soleField "KeptCurves" "turns") ∈ lw_all := lw_g (lw_at lw_m2 144 rfl) rfl
theorem q453 : (Jvm.Cond.laysFinal "KeptCurves" "KeptCurves" "tape" "[B") ∈ lw_all := lw_g (lw_at lw_m2 145 rfl) rfl
theorem q454 : (Jvm.Cond.soleField "KeptCurves" "tape") ∈ lw_all := lw_g (lw_at lw_m2 146 rfl) rfl
theorem q455 : (Jvm.Cond.lays "KeptCurves" "KeptCurves" "length" "I") ∈ lw_all := lw_g (lw_at lw_m2 147 rfl) rfl
theorem q456 : (Jvm.Cond.soleField "KeptCurves" "length") ∈ lw_all := lw_g (lw_at lw_m2 148 rfl) rfl
theorem q457 : (Jvm.Cond.laysFinal "KeptCurves" "KeptCurves" "read" "[I") ∈ lw_all := lw_g (lw_at lw_m2 149 rfl) rfl
theorem q458 : (Jvm.Cond.soleField "KeptCurves" "read") ∈ lw_all := lw_g (lw_at lw_m2 150 rfl) rfl
theorem q459 : (Jvm.Cond.laysFinal "KeptCurves" "KeptCurves" "spots" "[I") ∈ lw_all := lw_g (lw_at lw_m2 151 rfl) rfl
theorem q460 : (Jvm.Cond.soleField "KeptCurves" "spots") ∈ lw_all := lw_g (lw_at lw_m2 152 rfl) rfl
theorem q461 : (Jvm.Cond.lays "KeptCurves" "KeptCurves" "spotMany" "I") ∈ lw_all := lw_g (lw_at lw_m2 153 rfl) rfl
theorem q462 : (Jvm.Cond.soleField "KeptCurves" "spotMany") ∈ lw_all := lw_g (lw_at lw_m2 154 rfl) rfl
theorem q463 : (Jvm.Cond.laysFinal "KeptCurves" "KeptCurves" "isSeen" "[Z") ∈ lw_all := lw_g (lw_at lw_m2 155 rfl) rfl
theorem q464 : (Jvm.Cond.soleField "KeptCurves" "isSeen") ∈ lw_all := lw_g (lw_at lw_m2 156 rfl) rfl
theorem q465 : (Jvm.Cond.laysFinal "KeptCurves" "KeptCurves" "sides" "[LKeptCurves$Fraction;") ∈ lw_all := lw_g (lw_at lw_m2 157 rfl) rfl
theorem q466 : (Jvm.Cond.soleField "KeptCurves" "sides") ∈ lw_all := lw_g (lw_at lw_m2 158 rfl) rfl
theorem q467 : (Jvm.Cond.laysFinal "KeptCurves" "KeptCurves" "powers" "[LKeptCurves$Poly;") ∈ lw_all := lw_g (lw_at lw_m2 159 rfl) rfl
theorem q468 : (Jvm.Cond.soleField "KeptCurves" "powers") ∈ lw_all := lw_g (lw_at lw_m2 160 rfl) rfl
theorem q469 : (Jvm.Cond.laysFinal "KeptCurves" "KeptCurves" "rows" "[LKeptCurves$Poly;") ∈ lw_all := lw_g (lw_at lw_m2 161 rfl) rfl
theorem q470 : (Jvm.Cond.soleField "KeptCurves" "rows") ∈ lw_all := lw_g (lw_at lw_m2 162 rfl) rfl
theorem q471 : (Jvm.Cond.laysFinal "KeptCurves" "KeptCurves" "pairs" "[LKeptCurves$Poly;") ∈ lw_all := lw_g (lw_at lw_m2 163 rfl) rfl
theorem q472 : (Jvm.Cond.soleField "KeptCurves" "pairs") ∈ lw_all := lw_g (lw_at lw_m2 164 rfl) rfl
theorem q473 : (Jvm.Cond.laysFinal "KeptCurves" "KeptCurves" "one" "LKeptCurves$Poly;") ∈ lw_all := lw_g (lw_at lw_m2 165 rfl) rfl
theorem q474 : (Jvm.Cond.soleField "KeptCurves" "one") ∈ lw_all := lw_g (lw_at lw_m2 166 rfl) rfl
theorem q475 : (Jvm.Cond.laysFinal "KeptCurves" "KeptCurves" "other" "LKeptCurves$Poly;") ∈ lw_all := lw_g (lw_at lw_m2 167 rfl) rfl
theorem q476 : (Jvm.Cond.soleField "KeptCurves" "other") ∈ lw_all := lw_g (lw_at lw_m2 168 rfl) rfl
theorem q477 : (Jvm.Cond.laysFinal "KeptCurves" "KeptCurves" "rest" "LKeptCurves$Poly;") ∈ lw_all := lw_g (lw_at lw_m2 169 rfl) rfl
theorem q478 : (Jvm.Cond.soleField "KeptCurves" "rest") ∈ lw_all := lw_g (lw_at lw_m2 170 rfl) rfl
theorem q479 : (Jvm.Cond.laysFinal "KeptCurves" "KeptCurves" "paper" "Ljava/lang/StringBuilder;") ∈ lw_all := lw_g (lw_at lw_m2 171 rfl) rfl
theorem q480 : (Jvm.Cond.soleField "KeptCurves" "paper") ∈ lw_all := lw_g (lw_at lw_m2 172 rfl) rfl
theorem q481 : (Jvm.Cond.laysFinal "KeptCurves" "KeptCurves" "lists" "[[I") ∈ lw_all := lw_g (lw_at lw_m2 173 rfl) rfl
theorem q482 : (Jvm.Cond.soleField "KeptCurves" "lists") ∈ lw_all := lw_g (lw_at lw_m2 174 rfl) rfl
theorem q483 : (Jvm.Cond.superclass "KeptCurves" "java/lang/Object") ∈ lw_all := lw_g (lw_at lw_m2 175 rfl) rfl
theorem q485 : (Jvm.Cond.instanceMethod ({ cls := "KeptCurves", name := "set", desc := "(IIII)I" } : Jvm.MethodName)) ∈ lw_all := lw_g (lw_at lw_m2 177 rfl) rfl
theorem q486 : (Jvm.Cond.selects "KeptCurves" ({ cls := "KeptCurves", name := "set", desc := "(IIII)I" } : Jvm.MethodName) ({ cls := "KeptCurves", name := "set", desc := "(IIII)I" } : Jvm.MethodName)) ∈ lw_all := lw_g (lw_at lw_m2 178 rfl) rfl
theorem q487 : (Jvm.Cond.code ({ cls := "KeptCurves", name := "set", desc := "(IIII)I" } : Jvm.MethodName) prog_1_method_14_code (6 : Nat) (Option.some Jvm.ClassFile.FieldType.int)) ∈ lw_all := lw_g (lw_at lw_m2 179 rfl) rfl
theorem q488 : (Jvm.Cond.methodLink "KeptCurves" (132 : Nat) ({ cls := "KeptCurves", name := "isCell", desc := "(III)Z" } : Jvm.MethodName)) ∈ lw_all := lw_g (lw_at lw_m2 180 rfl) rfl
theorem q489 : (Jvm.Cond.static ({ cls := "KeptCurves", name := "isCell", desc := "(III)Z" } : Jvm.MethodName)) ∈ lw_all := lw_g (lw_at lw_m2 181 rfl) rfl
theorem q490 : (Jvm.Cond.code ({ cls := "KeptCurves", name := "isCell", desc := "(III)Z" } : Jvm.MethodName) prog_1_method_13_code (3 : Nat) (Option.some Jvm.ClassFile.FieldType.boolean)) ∈ lw_all := lw_g (lw_at lw_m2 182 rfl) rfl
theorem q491 : (Jvm.Cond.methodLink "KeptCurves" (126 : Nat) ({ cls := "KeptCurves", name := "isTable", desc := "(I)Z" } : Jvm.MethodName)) ∈ lw_all := lw_g (lw_at lw_m2 183 rfl) rfl
theorem q492 : (Jvm.Cond.static ({ cls := "KeptCurves", name := "isTable", desc := "(I)Z" } : Jvm.MethodName)) ∈ lw_all := lw_g (lw_at lw_m2 184 rfl) rfl
theorem q493 : (Jvm.Cond.code ({ cls := "KeptCurves", name := "isTable", desc := "(I)Z" } : Jvm.MethodName) prog_1_method_9_code (1 : Nat) (Option.some Jvm.ClassFile.FieldType.boolean)) ∈ lw_all := lw_g (lw_at lw_m2 185 rfl) rfl
theorem q494 : (Jvm.Cond.methodLink "KeptCurves" (7 : Nat) ({ cls := "KeptCurves", name := "isIn", desc := "(JJJ)Z" } : Jvm.MethodName)) ∈ lw_all := lw_g (lw_at lw_m2 186 rfl) rfl
theorem q495 : (Jvm.Cond.static ({ cls := "KeptCurves", name := "isIn", desc := "(JJJ)Z" } : Jvm.MethodName)) ∈ lw_all := lw_g (lw_at lw_m2 187 rfl) rfl
theorem q496 : (Jvm.Cond.code ({ cls := "KeptCurves", name := "isIn", desc := "(JJJ)Z" } : Jvm.MethodName) prog_1_method_1_code (6 : Nat) (Option.some Jvm.ClassFile.FieldType.boolean)) ∈ lw_all := lw_g (lw_at lw_m2 188 rfl) rfl
theorem q497 : (Jvm.Cond.methodLink "KeptCurves" (129 : Nat) ({ cls := "KeptCurves", name := "isPower", desc := "(I)Z" } : Jvm.MethodName)) ∈ lw_all := lw_g (lw_at lw_m2 189 rfl) rfl
theorem q498 : (Jvm.Cond.static ({ cls := "KeptCurves", name := "isPower", desc := "(I)Z" } : Jvm.MethodName)) ∈ lw_all := lw_g (lw_at lw_m2 190 rfl) rfl
theorem q499 : (Jvm.Cond.code ({ cls := "KeptCurves", name := "isPower", desc := "(I)Z" } : Jvm.MethodName) prog_1_method_10_code (1 : Nat) (Option.some Jvm.ClassFile.FieldType.boolean)) ∈ lw_all := lw_g (lw_at lw_m2 191 rfl) rfl
theorem q500 : (Jvm.Cond.constantLong "KeptCurves" (25 : Nat) (2 : Int64)) ∈ lw_all := lw_g (lw_at lw_m2 192 rfl) rfl
theorem q501 : (Jvm.Cond.methodLink "KeptCurves" (136 : Nat) ({ cls := "KeptCurves", name := "isNumber", desc := "(I)Z" } : Jvm.MethodName)) ∈ lw_all := lw_g (lw_at lw_m2 193 rfl) rfl
theorem q502 : (Jvm.Cond.static ({ cls := "KeptCurves", name := "isNumber", desc := "(I)Z" } : Jvm.MethodName)) ∈ lw_all := lw_g (lw_at lw_m2 194 rfl) rfl
theorem q503 : (Jvm.Cond.code ({ cls := "KeptCurves", name := "isNumber", desc := "(I)Z" } : Jvm.MethodName) prog_1_method_3_code (1 : Nat) (Option.some Jvm.ClassFile.FieldType.boolean)) ∈ lw_all := lw_g (lw_at lw_m2 195 rfl) rfl
theorem q504 : (Jvm.Cond.constantLong "KeptCurves" (11 : Nat) (30 : Int64)) ∈ lw_all := lw_g (lw_at lw_m2 196 rfl) rfl
theorem q506 : (Jvm.Cond.instanceMethod ({ cls := "KeptCurves", name := "of", desc := "(III)I" } : Jvm.MethodName)) ∈ lw_all := lw_g (lw_at lw_m2 198 rfl) rfl
theorem q507 : (Jvm.Cond.selects "KeptCurves" ({ cls := "KeptCurves", name := "of", desc := "(III)I" } : Jvm.MethodName) ({ cls := "KeptCurves", name := "of", desc := "(III)I" } : Jvm.MethodName)) ∈ lw_all := lw_g (lw_at lw_m2 199 rfl) rfl
theorem q508 : (Jvm.Cond.code ({ cls := "KeptCurves", name := "of", desc := "(III)I" } : Jvm.MethodName) prog_1_method_15_code (4 : Nat) (Option.some Jvm.ClassFile.FieldType.int)) ∈ lw_all := lw_g (lw_at lw_m2 200 rfl) rfl
theorem q510 : (Jvm.Cond.instanceMethod ({ cls := "KeptCurves", name := "feed", desc := "(I)I" } : Jvm.MethodName)) ∈ lw_all := lw_g (lw_at lw_m2 202 rfl) rfl
theorem q511 : (Jvm.Cond.selects "KeptCurves" ({ cls := "KeptCurves", name := "feed", desc := "(I)I" } : Jvm.MethodName) ({ cls := "KeptCurves", name := "feed", desc := "(I)I" } : Jvm.MethodName)) ∈ lw_all := lw_g (lw_at lw_m2 203 rfl) rfl
theorem q512 : (Jvm.Cond.code ({ cls := "KeptCurves", name := "feed", desc := "(I)I" } : Jvm.MethodName) prog_1_method_16_code (2 : Nat) (Option.some Jvm.ClassFile.FieldType.int)) ∈ lw_all := lw_g (lw_at lw_m2 204 rfl) rfl
theorem q513 : (Jvm.Cond.constantLong "KeptCurves" (146 : Nat) (127 : Int64)) ∈ lw_all := lw_g (lw_at lw_m2 205 rfl) rfl
theorem q515 : (Jvm.Cond.instanceMethod ({ cls := "KeptCurves", name := "table", desc := "(I)I" } : Jvm.MethodName)) ∈ lw_all := lw_g (lw_at lw_m2 207 rfl) rfl
theorem q516 : (Jvm.Cond.selects "KeptCurves" ({ cls := "KeptCurves", name := "table", desc := "(I)I" } : Jvm.MethodName) ({ cls := "KeptCurves", name := "table", desc := "(I)I" } : Jvm.MethodName)) ∈ lw_all := lw_g (lw_at lw_m2 208 rfl) rfl
theorem q517 : (Jvm.Cond.codeWith ({ cls := "KeptCurves", name := "table", desc := "(I)I" } : Jvm.MethodName) prog_1_method_17_code (5 : Nat) (Option.some Jvm.ClassFile.FieldType.int) [((9 : Nat), (44 : Nat), (51 : Nat), (167 : Nat)), ((9 : Nat), (44 : Nat), (67 : Nat), (0 : Nat)), ((51 : Nat), (60 : Nat), (67 : Nat), (0 : Nat)), ((67 : Nat), (69 : Nat), (67 : Nat), (0 : Nat))]) ∈ lw_all := lw_g (lw_at lw_m2 209 rfl) rfl
theorem q518 : (Jvm.Cond.classLink "KeptCurves" (167 : Nat) "KeptCurves$Fault") ∈ lw_all := lw_g (lw_at lw_m2 210 rfl) rfl
theorem q519 : (Jvm.Cond.classLink "KeptCurves" (152 : Nat) "KeptCurves$Reader") ∈ lw_all := lw_g (lw_at lw_m2 211 rfl) rfl
theorem q521 : (Jvm.Cond.methodLinkNest "KeptCurves" (154 : Nat) ({ cls := "KeptCurves$Reader", name := "<init>", desc := "(LKeptCurves;)V" } : Jvm.MethodName) "KeptCurves") ∈ lw_tbl := lw_at lw_m2 213 rfl
theorem q532 : (Jvm.Cond.methodLink "KeptCurves" (157 : Nat) ({ cls := "KeptCurves$Reader", name := "all", desc := "()I" } : Jvm.MethodName)) ∈ lw_all := lw_g (lw_at lw_m2 224 rfl) rfl
theorem q574 : (Jvm.Cond.fieldLinkNest "KeptCurves" (169 : Nat) "KeptCurves$Fault" "place" "I" "KeptCurves") ∈ lw_tbl := lw_at lw_m3 26 rfl
theorem q584 : (Jvm.Cond.methodLink "KeptCurves" (161 : Nat) ({ cls := "java/lang/System", name := "arraycopy", desc := "(Ljava/lang/Object;ILjava/lang/Object;II)V" } : Jvm.MethodName)) ∈ lw_all := lw_g (lw_at lw_m3 36 rfl) rfl
theorem q588 : (Jvm.Cond.instanceMethod ({ cls := "KeptCurves", name := "value", desc := "(III)I" } : Jvm.MethodName)) ∈ lw_all := lw_g (lw_at lw_m3 40 rfl) rfl
theorem q589 : (Jvm.Cond.selects "KeptCurves" ({ cls := "KeptCurves", name := "value", desc := "(III)I" } : Jvm.MethodName) ({ cls := "KeptCurves", name := "value", desc := "(III)I" } : Jvm.MethodName)) ∈ lw_all := lw_g (lw_at lw_m3 41 rfl) rfl
theorem q590 : (Jvm.Cond.code ({ cls := "KeptCurves", name := "value", desc := "(III)I" } : Jvm.MethodName) prog_1_method_21_code (4 : Nat) (Option.some Jvm.ClassFile.FieldType.int)) ∈ lw_all := lw_g (lw_at lw_m3 42 rfl) rfl
theorem q591 : (Jvm.Cond.methodLink "KeptCurves" (179 : Nat) ({ cls := "KeptCurves", name := "isSpot", desc := "(II)Z" } : Jvm.MethodName)) ∈ lw_all := lw_g (lw_at lw_m3 43 rfl) rfl
theorem q592 : (Jvm.Cond.static ({ cls := "KeptCurves", name := "isSpot", desc := "(II)Z" } : Jvm.MethodName)) ∈ lw_all := lw_g (lw_at lw_m3 44 rfl) rfl
theorem q593 : (Jvm.Cond.code ({ cls := "KeptCurves", name := "isSpot", desc := "(II)Z" } : Jvm.MethodName) prog_1_method_8_code (2 : Nat) (Option.some Jvm.ClassFile.FieldType.boolean)) ∈ lw_all := lw_g (lw_at lw_m3 45 rfl) rfl
theorem q594 : (Jvm.Cond.methodLink "KeptCurves" (21 : Nat) ({ cls := "KeptCurves", name := "isCoordinate", desc := "(I)Z" } : Jvm.MethodName)) ∈ lw_all := lw_g (lw_at lw_m3 46 rfl) rfl
theorem q595 : (Jvm.Cond.static ({ cls := "KeptCurves", name := "isCoordinate", desc := "(I)Z" } : Jvm.MethodName)) ∈ lw_all := lw_g (lw_at lw_m3 47 rfl) rfl
theorem q596 : (Jvm.Cond.code ({ cls := "KeptCurves", name := "isCoordinate", desc := "(I)Z" } : Jvm.MethodName) prog_1_method_2_code (1 : Nat) (Option.some Jvm.ClassFile.FieldType.boolean)) ∈ lw_all := lw_g (lw_at lw_m3 48 rfl) rfl
theorem q597 : (Jvm.Cond.constantLong "KeptCurves" (5 : Nat) (31 : Int64)) ∈ lw_all := lw_g (lw_at lw_m3 49 rfl) rfl
theorem q598 : (Jvm.Cond.methodLink "KeptCurves" (183 : Nat) ({ cls := "KeptCurves", name := "valueAt", desc := "(III)I" } : Jvm.MethodName)) ∈ lw_all := lw_g (lw_at lw_m3 50 rfl) rfl
theorem q599 : (Jvm.Cond.privateMethod ({ cls := "KeptCurves", name := "valueAt", desc := "(III)I" } : Jvm.MethodName)) ∈ lw_tbl := lw_at lw_m3 51 rfl
theorem q600 : (Jvm.Cond.instanceMethod ({ cls := "KeptCurves", name := "valueAt", desc := "(III)I" } : Jvm.MethodName)) ∈ lw_all := lw_g (lw_at lw_m3 52 rfl) rfl
theorem q601 : (Jvm.Cond.code ({ cls := "KeptCurves", name := "valueAt", desc := "(III)I" } : Jvm.MethodName) prog_1_method_20_code (6 : Nat) (Option.some Jvm.ClassFile.FieldType.int)) ∈ lw_all := lw_g (lw_at lw_m3 53 rfl) rfl
theorem q603 : (Jvm.Cond.instanceMethod ({ cls := "KeptCurves", name := "kept", desc := "(II)I" } : Jvm.MethodName)) ∈ lw_all := lw_g (lw_at lw_m3 55 rfl) rfl
theorem q604 : (Jvm.Cond.selects "KeptCurves" ({ cls := "KeptCurves", name := "kept", desc := "(II)I" } : Jvm.MethodName) ({ cls := "KeptCurves", name := "kept", desc := "(II)I" } : Jvm.MethodName)) ∈ lw_all := lw_g (lw_at lw_m3 56 rfl) rfl
theorem q605 : (Jvm.Cond.code ({ cls := "KeptCurves", name := "kept", desc := "(II)I" } : Jvm.MethodName) prog_1_method_23_code (3 : Nat) (Option.some Jvm.ClassFile.FieldType.int)) ∈ lw_all := lw_g (lw_at lw_m3 57 rfl) rfl
theorem q606 : (Jvm.Cond.methodLink "KeptCurves" (189 : Nat) ({ cls := "KeptCurves", name := "keptAt", desc := "(II)I" } : Jvm.MethodName)) ∈ lw_all := lw_g (lw_at lw_m3 58 rfl) rfl
theorem q607 : (Jvm.Cond.privateMethod ({ cls := "KeptCurves", name := "keptAt", desc := "(II)I" } : Jvm.MethodName)) ∈ lw_tbl := lw_at lw_m3 59 rfl
theorem q608 : (Jvm.Cond.instanceMethod ({ cls := "KeptCurves", name := "keptAt", desc := "(II)I" } : Jvm.MethodName)) ∈ lw_all := lw_g (lw_at lw_m3 60 rfl) rfl
theorem q609 : (Jvm.Cond.code ({ cls := "KeptCurves", name := "keptAt", desc := "(II)I" } : Jvm.MethodName) prog_1_method_22_code (3 : Nat) (Option.some Jvm.ClassFile.FieldType.int)) ∈ lw_all := lw_g (lw_at lw_m3 61 rfl) rfl
theorem q611 : (Jvm.Cond.instanceMethod ({ cls := "KeptCurves", name := "swap", desc := "(III)I" } : Jvm.MethodName)) ∈ lw_all := lw_g (lw_at lw_m3 63 rfl) rfl
theorem q612 : (Jvm.Cond.selects "KeptCurves" ({ cls := "KeptCurves", name := "swap", desc := "(III)I" } : Jvm.MethodName) ({ cls := "KeptCurves", name := "swap", desc := "(III)I" } : Jvm.MethodName)) ∈ lw_all := lw_g (lw_at lw_m3 64 rfl) rfl
theorem q613 : (Jvm.Cond.code ({ cls := "KeptCurves", name := "swap", desc := "(III)I" } : Jvm.MethodName) prog_1_method_27_code (4 : Nat) (Option.some Jvm.ClassFile.FieldType.int)) ∈ lw_all := lw_g (lw_at lw_m3 65 rfl) rfl
theorem q614 : (Jvm.Cond.methodLink "KeptCurves" (198 : Nat) ({ cls := "KeptCurves", name := "isWhich", desc := "(I)Z" } : Jvm.MethodName)) ∈ lw_all := lw_g (lw_at lw_m3 66 rfl) rfl
theorem q615 : (Jvm.Cond.static ({ cls := "KeptCurves", name := "isWhich", desc := "(I)Z" } : Jvm.MethodName)) ∈ lw_all := lw_g (lw_at lw_m3 67 rfl) rfl
theorem q616 : (Jvm.Cond.code ({ cls := "KeptCurves", name := "isWhich", desc := "(I)Z" } : Jvm.MethodName) prog_1_method_26_code (1 : Nat) (Option.some Jvm.ClassFile.FieldType.boolean)) ∈ lw_all := lw_g (lw_at lw_m3 68 rfl) rfl
theorem q618 : (Jvm.Cond.instanceMethod ({ cls := "KeptCurves", name := "row", desc := "(III)I" } : Jvm.MethodName)) ∈ lw_all := lw_g (lw_at lw_m3 70 rfl) rfl
theorem q619 : (Jvm.Cond.selects "KeptCurves" ({ cls := "KeptCurves", name := "row", desc := "(III)I" } : Jvm.MethodName) ({ cls := "KeptCurves", name := "row", desc := "(III)I" } : Jvm.MethodName)) ∈ lw_all := lw_g (lw_at lw_m3 71 rfl) rfl
theorem q620 : (Jvm.Cond.code ({ cls := "KeptCurves", name := "row", desc := "(III)I" } : Jvm.MethodName) prog_1_method_28_code (4 : Nat) (Option.some Jvm.ClassFile.FieldType.int)) ∈ lw_all := lw_g (lw_at lw_m3 72 rfl) rfl
theorem q622 : (Jvm.Cond.instanceMethod ({ cls := "KeptCurves", name := "pinched", desc := "(I)J" } : Jvm.MethodName)) ∈ lw_all := lw_g (lw_at lw_m3 74 rfl) rfl
theorem q623 : (Jvm.Cond.selects "KeptCurves" ({ cls := "KeptCurves", name := "pinched", desc := "(I)J" } : Jvm.MethodName) ({ cls := "KeptCurves", name := "pinched", desc := "(I)J" } : Jvm.MethodName)) ∈ lw_all := lw_g (lw_at lw_m3 75 rfl) rfl
theorem q624 : (Jvm.Cond.code ({ cls := "KeptCurves", name := "pinched", desc := "(I)J" } : Jvm.MethodName) prog_1_method_29_code (6 : Nat) (Option.some Jvm.ClassFile.FieldType.long)) ∈ lw_all := lw_g (lw_at lw_m3 76 rfl) rfl
theorem q625 : (Jvm.Cond.constantLong "KeptCurves" (204 : Nat) (-9223372036854775808 : Int64)) ∈ lw_all := lw_g (lw_at lw_m3 77 rfl) rfl
theorem q627 : (Jvm.Cond.instanceMethod ({ cls := "KeptCurves", name := "behind", desc := "(III)I" } : Jvm.MethodName)) ∈ lw_all := lw_g (lw_at lw_m3 79 rfl) rfl
theorem q628 : (Jvm.Cond.selects "KeptCurves" ({ cls := "KeptCurves", name := "behind", desc := "(III)I" } : Jvm.MethodName) ({ cls := "KeptCurves", name := "behind", desc := "(III)I" } : Jvm.MethodName)) ∈ lw_all := lw_g (lw_at lw_m3 80 rfl) rfl
theorem q629 : (Jvm.Cond.code ({ cls := "KeptCurves", name := "behind", desc := "(III)I" } : Jvm.MethodName) prog_1_method_36_code (4 : Nat) (Option.some Jvm.ClassFile.FieldType.int)) ∈ lw_all := lw_g (lw_at lw_m3 81 rfl) rfl
theorem q630 : (Jvm.Cond.constantLong "KeptCurves" (216 : Nat) (-99 : Int64)) ∈ lw_all := lw_g (lw_at lw_m3 82 rfl) rfl
theorem q631 : (Jvm.Cond.constantLong "KeptCurves" (218 : Nat) (99 : Int64)) ∈ lw_all := lw_g (lw_at lw_m3 83 rfl) rfl
theorem q632 : (Jvm.Cond.methodLink "KeptCurves" (220 : Nat) ({ cls := "KeptCurves", name := "often", desc := "(LKeptCurves$Turn;II)I" } : Jvm.MethodName)) ∈ lw_all := lw_g (lw_at lw_m3 84 rfl) rfl
theorem q633 : (Jvm.Cond.static ({ cls := "KeptCurves", name := "often", desc := "(LKeptCurves$Turn;II)I" } : Jvm.MethodName)) ∈ lw_all := lw_g (lw_at lw_m3 85 rfl) rfl
theorem q634 : (Jvm.Cond.code ({ cls := "KeptCurves", name := "often", desc := "(LKeptCurves$Turn;II)I" } : Jvm.MethodName) prog_1_method_35_code (5 : Nat) (Option.some Jvm.ClassFile.FieldType.int)) ∈ lw_all := lw_g (lw_at lw_m3 86 rfl) rfl
theorem q636 : (Jvm.Cond.instanceMethod ({ cls := "KeptCurves", name := "period", desc := "(II)I" } : Jvm.MethodName)) ∈ lw_all := lw_g (lw_at lw_m3 88 rfl) rfl
theorem q637 : (Jvm.Cond.selects "KeptCurves" ({ cls := "KeptCurves", name := "period", desc := "(II)I" } : Jvm.MethodName) ({ cls := "KeptCurves", name := "period", desc := "(II)I" } : Jvm.MethodName)) ∈ lw_all := lw_g (lw_at lw_m3 89 rfl) rfl
theorem q638 : (Jvm.Cond.code ({ cls := "KeptCurves", name := "period", desc := "(II)I" } : Jvm.MethodName) prog_1_method_38_code (3 : Nat) (Option.some Jvm.ClassFile.FieldType.int)) ∈ lw_all := lw_g (lw_at lw_m3 90 rfl) rfl
theorem q639 : (Jvm.Cond.methodLink "KeptCurves" (227 : Nat) ({ cls := "KeptCurves", name := "periodOf", desc := "(I)I" } : Jvm.MethodName)) ∈ lw_all := lw_g (lw_at lw_m3 91 rfl) rfl
theorem q640 : (Jvm.Cond.privateMethod ({ cls := "KeptCurves", name := "periodOf", desc := "(I)I" } : Jvm.MethodName)) ∈ lw_tbl := lw_at lw_m3 92 rfl
theorem q641 : (Jvm.Cond.instanceMethod ({ cls := "KeptCurves", name := "periodOf", desc := "(I)I" } : Jvm.MethodName)) ∈ lw_all := lw_g (lw_at lw_m3 93 rfl) rfl
theorem q642 : (Jvm.Cond.code ({ cls := "KeptCurves", name := "periodOf", desc := "(I)I" } : Jvm.MethodName) prog_1_method_37_code (4 : Nat) (Option.some Jvm.ClassFile.FieldType.int)) ∈ lw_all := lw_g (lw_at lw_m3 94 rfl) rfl
theorem q643 : (Jvm.Cond.methodLink "KeptCurves" (224 : Nat) ({ cls := "KeptCurves", name := "steps", desc := "(I)I" } : Jvm.MethodName)) ∈ lw_all := lw_g (lw_at lw_m3 95 rfl) rfl
theorem q645 : (Jvm.Cond.instanceMethod ({ cls := "KeptCurves", name := "fibre", desc := "(II)I" } : Jvm.MethodName)) ∈ lw_all := lw_g (lw_at lw_m3 97 rfl) rfl
theorem q646 : (Jvm.Cond.selects "KeptCurves" ({ cls := "KeptCurves", name := "fibre", desc := "(II)I" } : Jvm.MethodName) ({ cls := "KeptCurves", name := "fibre", desc := "(II)I" } : Jvm.MethodName)) ∈ lw_all := lw_g (lw_at lw_m3 98 rfl) rfl
theorem q647 : (Jvm.Cond.code ({ cls := "KeptCurves", name := "fibre", desc := "(II)I" } : Jvm.MethodName) prog_1_method_43_code (3 : Nat) (Option.some Jvm.ClassFile.FieldType.int)) ∈ lw_all := lw_g (lw_at lw_m3 99 rfl) rfl
theorem q648 : (Jvm.Cond.methodLink "KeptCurves" (246 : Nat) ({ cls := "KeptCurves", name := "gathers", desc := "(I)V" } : Jvm.MethodName)) ∈ lw_all := lw_g (lw_at lw_m3 100 rfl) rfl
theorem q649 : (Jvm.Cond.privateMethod ({ cls := "KeptCurves", name := "gathers", desc := "(I)V" } : Jvm.MethodName)) ∈ lw_tbl := lw_at lw_m3 101 rfl
theorem q650 : (Jvm.Cond.instanceMethod ({ cls := "KeptCurves", name := "gathers", desc := "(I)V" } : Jvm.MethodName)) ∈ lw_all := lw_g (lw_at lw_m3 102 rfl) rfl
theorem q651 : (Jvm.Cond.code ({ cls := "KeptCurves", name := "gathers", desc := "(I)V" } : Jvm.MethodName) prog_1_method_41_code (2 : Nat) (Option.none : Option Jvm.ClassFile.FieldType)) ∈ lw_all := lw_g (lw_at lw_m3 103 rfl) rfl
theorem q652 : (Jvm.Cond.privateMethod ({ cls := "KeptCurves", name := "lambda$gathers$2", desc := "(III)V" } : Jvm.MethodName)) ∈ lw_tbl := lw_at lw_m3 104 rfl
theorem q653 : (Jvm.Cond.instanceMethod ({ cls := "KeptCurves", name := "lambda$gathers$2", desc := "(III)V" } : Jvm.MethodName)) ∈ lw_all := lw_g (lw_at lw_m3 105 rfl) rfl
theorem q654 : (Jvm.Cond.code ({ cls := "KeptCurves", name := "lambda$gathers$2", desc := "(III)V" } : Jvm.MethodName) prog_1_method_88_code (4 : Nat) (Option.none : Option Jvm.ClassFile.FieldType)) ∈ lw_all := lw_g (lw_at lw_m3 106 rfl) rfl
theorem q655 : (Jvm.Cond.methodLink "KeptCurves" (435 : Nat) ({ cls := "KeptCurves", name := "adds", desc := "(I)V" } : Jvm.MethodName)) ∈ lw_all := lw_g (lw_at lw_m3 107 rfl) rfl
theorem q656 : (Jvm.Cond.privateMethod ({ cls := "KeptCurves", name := "adds", desc := "(I)V" } : Jvm.MethodName)) ∈ lw_tbl := lw_at lw_m3 108 rfl
theorem q657 : (Jvm.Cond.instanceMethod ({ cls := "KeptCurves", name := "adds", desc := "(I)V" } : Jvm.MethodName)) ∈ lw_all := lw_g (lw_at lw_m3 109 rfl) rfl
theorem q658 : (Jvm.Cond.code ({ cls := "KeptCurves", name := "adds", desc := "(I)V" } : Jvm.MethodName) prog_1_method_40_code (2 : Nat) (Option.none : Option Jvm.ClassFile.FieldType)) ∈ lw_all := lw_g (lw_at lw_m3 110 rfl) rfl
theorem q659 : (Jvm.Cond.methodLink "KeptCurves" (242 : Nat) ({ cls := "KeptCurves", name := "goesThrough", desc := "(LKeptCurves$Looks;)V" } : Jvm.MethodName)) ∈ lw_all := lw_g (lw_at lw_m3 111 rfl) rfl
theorem q660 : (Jvm.Cond.privateMethod ({ cls := "KeptCurves", name := "goesThrough", desc := "(LKeptCurves$Looks;)V" } : Jvm.MethodName)) ∈ lw_tbl := lw_at lw_m3 112 rfl
theorem q661 : (Jvm.Cond.instanceMethod ({ cls := "KeptCurves", name := "goesThrough", desc := "(LKeptCurves$Looks;)V" } : Jvm.MethodName)) ∈ lw_all := lw_g (lw_at lw_m3 113 rfl) rfl
theorem q662 : (Jvm.Cond.code ({ cls := "KeptCurves", name := "goesThrough", desc := "(LKeptCurves$Looks;)V" } : Jvm.MethodName) prog_1_method_39_code (4 : Nat) (Option.none : Option Jvm.ClassFile.FieldType)) ∈ lw_all := lw_g (lw_at lw_m3 114 rfl) rfl
theorem q663 : (Jvm.Cond.interfaceEntry "KeptCurves" (230 : Nat)) ∈ lw_tbl := lw_at lw_m3 115 rfl
theorem q664 : (Jvm.Cond.methodLink "KeptCurves" (230 : Nat) ({ cls := "KeptCurves$Looks", name := "looks", desc := "(II)V" } : Jvm.MethodName)) ∈ lw_all := lw_g (lw_at lw_m3 116 rfl) rfl
theorem q667 : (Jvm.Cond.methodLink "KeptCurves" (250 : Nat) ({ cls := "KeptCurves", name := "spotOf", desc := "(I)I" } : Jvm.MethodName)) ∈ lw_all := lw_g (lw_at lw_m3 119 rfl) rfl
theorem q668 : (Jvm.Cond.privateMethod ({ cls := "KeptCurves", name := "spotOf", desc := "(I)I" } : Jvm.MethodName)) ∈ lw_tbl := lw_at lw_m3 120 rfl
theorem q669 : (Jvm.Cond.instanceMethod ({ cls := "KeptCurves", name := "spotOf", desc := "(I)I" } : Jvm.MethodName)) ∈ lw_all := lw_g (lw_at lw_m3 121 rfl) rfl
theorem q670 : (Jvm.Cond.code ({ cls := "KeptCurves", name := "spotOf", desc := "(I)I" } : Jvm.MethodName) prog_1_method_42_code (2 : Nat) (Option.some Jvm.ClassFile.FieldType.int)) ∈ lw_all := lw_g (lw_at lw_m3 122 rfl) rfl
theorem q672 : (Jvm.Cond.instanceMethod ({ cls := "KeptCurves", name := "base", desc := "(I)I" } : Jvm.MethodName)) ∈ lw_all := lw_g (lw_at lw_m3 124 rfl) rfl
theorem q673 : (Jvm.Cond.selects "KeptCurves" ({ cls := "KeptCurves", name := "base", desc := "(I)I" } : Jvm.MethodName) ({ cls := "KeptCurves", name := "base", desc := "(I)I" } : Jvm.MethodName)) ∈ lw_all := lw_g (lw_at lw_m3 125 rfl) rfl
theorem q674 : (Jvm.Cond.code ({ cls := "KeptCurves", name := "base", desc := "(I)I" } : Jvm.MethodName) prog_1_method_44_code (2 : Nat) (Option.some Jvm.ClassFile.FieldType.int)) ∈ lw_all := lw_g (lw_at lw_m3 126 rfl) rfl
theorem q676 : (Jvm.Cond.instanceMethod ({ cls := "KeptCurves", name := "rank", desc := "(I)I" } : Jvm.MethodName)) ∈ lw_all := lw_g (lw_at lw_m3 128 rfl) rfl
theorem q677 : (Jvm.Cond.selects "KeptCurves" ({ cls := "KeptCurves", name := "rank", desc := "(I)I" } : Jvm.MethodName) ({ cls := "KeptCurves", name := "rank", desc := "(I)I" } : Jvm.MethodName)) ∈ lw_all := lw_g (lw_at lw_m3 129 rfl) rfl
theorem q678 : (Jvm.Cond.code ({ cls := "KeptCurves", name := "rank", desc := "(I)I" } : Jvm.MethodName) prog_1_method_45_code (8 : Nat) (Option.some Jvm.ClassFile.FieldType.int)) ∈ lw_all := lw_g (lw_at lw_m3 130 rfl) rfl
theorem q679 : (Jvm.Cond.classLink "KeptCurves" (253 : Nat) "KeptCurves$Fibre") ∈ lw_all := lw_g (lw_at lw_m3 131 rfl) rfl
theorem q682 : (Jvm.Cond.methodLink "KeptCurves" (255 : Nat) ({ cls := "KeptCurves$Fibre", name := "<init>", desc := "(I)V" } : Jvm.MethodName)) ∈ lw_all := lw_g (lw_at lw_m3 134 rfl) rfl
theorem q688 : (Jvm.Cond.fieldLinkNest "KeptCurves" (276 : Nat) "KeptCurves$Fibre" "k" "I" "KeptCurves") ∈ lw_tbl := lw_at lw_m3 140 rfl
theorem q690 : (Jvm.Cond.fieldLinkNest "KeptCurves" (510 : Nat) "KeptCurves$Fibre" "many" "I" "KeptCurves") ∈ lw_tbl := lw_at lw_m3 142 rfl
theorem q696 : (Jvm.Cond.static ({ cls := "KeptCurves", name := "lambda$rank$3", desc := "([LKeptCurves$Fibre;II)V" } : Jvm.MethodName)) ∈ lw_all := lw_g (lw_at lw_m3 148 rfl) rfl
theorem q697 : (Jvm.Cond.code ({ cls := "KeptCurves", name := "lambda$rank$3", desc := "([LKeptCurves$Fibre;II)V" } : Jvm.MethodName) prog_1_method_87_code (3 : Nat) (Option.none : Option Jvm.ClassFile.FieldType)) ∈ lw_all := lw_g (lw_at lw_m3 149 rfl) rfl
theorem q698 : (Jvm.Cond.classLink "KeptCurves" (260 : Nat) "java/util/PriorityQueue") ∈ lw_all := lw_g (lw_at lw_m3 150 rfl) rfl
theorem q700 : (Jvm.Cond.classLink "KeptCurves" (262 : Nat) "KeptCurves$Fuller") ∈ lw_all := lw_g (lw_at lw_m3 152 rfl) rfl
theorem q702 : (Jvm.Cond.methodLinkNest "KeptCurves" (264 : Nat) ({ cls := "KeptCurves$Fuller", name := "<init>", desc := "()V" } : Jvm.MethodName) "KeptCurves") ∈ lw_tbl := lw_at lw_m3 154 rfl
theorem q707 : (Jvm.Cond.methodLink "KeptCurves" (265 : Nat) ({ cls := "java/util/PriorityQueue", name := "<init>", desc := "(ILjava/util/Comparator;)V" } : Jvm.MethodName)) ∈ lw_all := lw_g (lw_at lw_m3 159 rfl) rfl
theorem q729 : (Jvm.Cond.methodLink "KeptCurves" (268 : Nat) ({ cls := "java/util/PriorityQueue", name := "add", desc := "(Ljava/lang/Object;)Z" } : Jvm.MethodName)) ∈ lw_all := lw_g (lw_at lw_m3 181 rfl) rfl
theorem q776 : (Jvm.Cond.selects "KeptCurves" ({ cls := "java/lang/Object", name := "getClass", desc := "()Ljava/lang/Class;" } : Jvm.MethodName) ({ cls := "java/lang/Object", name := "getClass", desc := "()Ljava/lang/Class;" } : Jvm.MethodName)) ∈ lw_all := lw_g (lw_at lw_m3 228 rfl) rfl
theorem q1075 : (Jvm.Cond.methodLink "KeptCurves" (272 : Nat) ({ cls := "java/util/PriorityQueue", name := "remove", desc := "()Ljava/lang/Object;" } : Jvm.MethodName)) ∈ lw_all := lw_g (lw_at lw_m5 47 rfl) rfl
theorem q1093 : (Jvm.Cond.instanceMethod ({ cls := "KeptCurves", name := "cycles", desc := "(II)I" } : Jvm.MethodName)) ∈ lw_all := lw_g (lw_at lw_m5 65 rfl) rfl
theorem q1094 : (Jvm.Cond.selects "KeptCurves" ({ cls := "KeptCurves", name := "cycles", desc := "(II)I" } : Jvm.MethodName) ({ cls := "KeptCurves", name := "cycles", desc := "(II)I" } : Jvm.MethodName)) ∈ lw_all := lw_g (lw_at lw_m5 66 rfl) rfl
theorem q1095 : (Jvm.Cond.code ({ cls := "KeptCurves", name := "cycles", desc := "(II)I" } : Jvm.MethodName) prog_1_method_50_code (4 : Nat) (Option.some Jvm.ClassFile.FieldType.int)) ∈ lw_all := lw_g (lw_at lw_m5 67 rfl) rfl
theorem q1096 : (Jvm.Cond.constantLong "KeptCurves" (331 : Nat) (10 : Int64)) ∈ lw_all := lw_g (lw_at lw_m5 68 rfl) rfl
theorem q1097 : (Jvm.Cond.constantLong "KeptCurves" (333 : Nat) (49 : Int64)) ∈ lw_all := lw_g (lw_at lw_m5 69 rfl) rfl
theorem q1098 : (Jvm.Cond.constantLong "KeptCurves" (335 : Nat) (50 : Int64)) ∈ lw_all := lw_g (lw_at lw_m5 70 rfl) rfl
theorem q1099 : (Jvm.Cond.constantLong "KeptCurves" (337 : Nat) (89 : Int64)) ∈ lw_all := lw_g (lw_at lw_m5 71 rfl) rfl
theorem q1100 : (Jvm.Cond.methodLink "KeptCurves" (339 : Nat) ({ cls := "KeptCurves", name := "cyclesOf", desc := "(I)Ljava/util/TreeMap;" } : Jvm.MethodName)) ∈ lw_all := lw_g (lw_at lw_m5 72 rfl) rfl
theorem q1101 : (Jvm.Cond.privateMethod ({ cls := "KeptCurves", name := "cyclesOf", desc := "(I)Ljava/util/TreeMap;" } : Jvm.MethodName)) ∈ lw_tbl := lw_at lw_m5 73 rfl
theorem q1102 : (Jvm.Cond.instanceMethod ({ cls := "KeptCurves", name := "cyclesOf", desc := "(I)Ljava/util/TreeMap;" } : Jvm.MethodName)) ∈ lw_all := lw_g (lw_at lw_m5 74 rfl) rfl
theorem q1103 : (Jvm.Cond.code ({ cls := "KeptCurves", name := "cyclesOf", desc := "(I)Ljava/util/TreeMap;" } : Jvm.MethodName) prog_1_method_47_code (7 : Nat) (Option.some (Jvm.ClassFile.FieldType.object "java/util/TreeMap"))) ∈ lw_all := lw_g (lw_at lw_m5 75 rfl) rfl
theorem q1104 : (Jvm.Cond.classLink "KeptCurves" (279 : Nat) "java/util/TreeMap") ∈ lw_all := lw_g (lw_at lw_m5 76 rfl) rfl
theorem q1105 : (Jvm.Cond.methodLink "KeptCurves" (281 : Nat) ({ cls := "java/util/TreeMap", name := "<init>", desc := "()V" } : Jvm.MethodName)) ∈ lw_all := lw_g (lw_at lw_m5 77 rfl) rfl
theorem q1106 : (Jvm.Cond.methodLink "KeptCurves" (282 : Nat) ({ cls := "KeptCurves", name := "marks", desc := "(II)V" } : Jvm.MethodName)) ∈ lw_all := lw_g (lw_at lw_m5 78 rfl) rfl
theorem q1107 : (Jvm.Cond.privateMethod ({ cls := "KeptCurves", name := "marks", desc := "(II)V" } : Jvm.MethodName)) ∈ lw_tbl := lw_at lw_m5 79 rfl
theorem q1108 : (Jvm.Cond.instanceMethod ({ cls := "KeptCurves", name := "marks", desc := "(II)V" } : Jvm.MethodName)) ∈ lw_all := lw_g (lw_at lw_m5 80 rfl) rfl
theorem q1109 : (Jvm.Cond.code ({ cls := "KeptCurves", name := "marks", desc := "(II)V" } : Jvm.MethodName) prog_1_method_46_code (5 : Nat) (Option.none : Option Jvm.ClassFile.FieldType)) ∈ lw_all := lw_g (lw_at lw_m5 81 rfl) rfl
theorem q1110 : (Jvm.Cond.classLink "KeptCurves" (285 : Nat) "KeptCurves$Length") ∈ lw_all := lw_g (lw_at lw_m5 82 rfl) rfl
theorem q1112 : (Jvm.Cond.methodLink "KeptCurves" (287 : Nat) ({ cls := "KeptCurves$Length", name := "<init>", desc := "(I)V" } : Jvm.MethodName)) ∈ lw_all := lw_g (lw_at lw_m5 84 rfl) rfl
theorem q1117 : (Jvm.Cond.fieldLinkNest "KeptCurves" (326 : Nat) "KeptCurves$Length" "steps" "I" "KeptCurves") ∈ lw_tbl := lw_at lw_m5 89 rfl
theorem q1121 : (Jvm.Cond.methodLink "KeptCurves" (288 : Nat) ({ cls := "java/util/TreeMap", name := "get", desc := "(Ljava/lang/Object;)Ljava/lang/Object;" } : Jvm.MethodName)) ∈ lw_all := lw_g (lw_at lw_m5 93 rfl) rfl
theorem q1143 : (Jvm.Cond.classLink "KeptCurves" (292 : Nat) "KeptCurves$Count") ∈ lw_all := lw_g (lw_at lw_m5 115 rfl) rfl
theorem q1145 : (Jvm.Cond.methodLinkNest "KeptCurves" (294 : Nat) ({ cls := "KeptCurves$Count", name := "<init>", desc := "()V" } : Jvm.MethodName) "KeptCurves") ∈ lw_tbl := lw_at lw_m5 117 rfl
theorem q1149 : (Jvm.Cond.fieldLinkNest "KeptCurves" (299 : Nat) "KeptCurves$Count" "many" "I" "KeptCurves") ∈ lw_tbl := lw_at lw_m5 121 rfl
theorem q1153 : (Jvm.Cond.methodLink "KeptCurves" (295 : Nat) ({ cls := "java/util/TreeMap", name := "put", desc := "(Ljava/lang/Object;Ljava/lang/Object;)Ljava/lang/Object;" } : Jvm.MethodName)) ∈ lw_all := lw_g (lw_at lw_m5 125 rfl) rfl
theorem q1230 : (Jvm.Cond.methodLink "KeptCurves" (343 : Nat) ({ cls := "java/util/TreeMap", name := "size", desc := "()I" } : Jvm.MethodName)) ∈ lw_all := lw_g (lw_at lw_m5 202 rfl) rfl
theorem q1234 : (Jvm.Cond.methodLink "KeptCurves" (346 : Nat) ({ cls := "KeptCurves", name := "sumOf", desc := "(Ljava/util/TreeMap;Z)I" } : Jvm.MethodName)) ∈ lw_all := lw_g (lw_at lw_m5 206 rfl) rfl
theorem q1235 : (Jvm.Cond.static ({ cls := "KeptCurves", name := "sumOf", desc := "(Ljava/util/TreeMap;Z)I" } : Jvm.MethodName)) ∈ lw_all := lw_g (lw_at lw_m5 207 rfl) rfl
theorem q1236 : (Jvm.Cond.code ({ cls := "KeptCurves", name := "sumOf", desc := "(Ljava/util/TreeMap;Z)I" } : Jvm.MethodName) prog_1_method_48_code (5 : Nat) (Option.some Jvm.ClassFile.FieldType.int)) ∈ lw_all := lw_g (lw_at lw_m5 208 rfl) rfl
theorem q1237 : (Jvm.Cond.methodLink "KeptCurves" (302 : Nat) ({ cls := "java/util/TreeMap", name := "entrySet", desc := "()Ljava/util/Set;" } : Jvm.MethodName)) ∈ lw_all := lw_g (lw_at lw_m5 209 rfl) rfl
theorem q1251 : (Jvm.Cond.interfaceEntry "KeptCurves" (306 : Nat)) ∈ lw_tbl := lw_at lw_m5 223 rfl
theorem q1252 : (Jvm.Cond.methodLink "KeptCurves" (306 : Nat) ({ cls := "java/util/Set", name := "iterator", desc := "()Ljava/util/Iterator;" } : Jvm.MethodName)) ∈ lw_all := lw_g (lw_at lw_m5 224 rfl) rfl
theorem q1348 : (Jvm.Cond.interfaceEntry "KeptCurves" (312 : Nat)) ∈ lw_tbl := lw_at lw_m6 80 rfl
theorem q1349 : (Jvm.Cond.methodLink "KeptCurves" (312 : Nat) ({ cls := "java/util/Iterator", name := "hasNext", desc := "()Z" } : Jvm.MethodName)) ∈ lw_all := lw_g (lw_at lw_m6 81 rfl) rfl
theorem q1361 : (Jvm.Cond.interfaceEntry "KeptCurves" (318 : Nat)) ∈ lw_tbl := lw_at lw_m6 93 rfl
theorem q1362 : (Jvm.Cond.methodLink "KeptCurves" (318 : Nat) ({ cls := "java/util/Iterator", name := "next", desc := "()Ljava/lang/Object;" } : Jvm.MethodName)) ∈ lw_all := lw_g (lw_at lw_m6 94 rfl) rfl
theorem q1391 : (Jvm.Cond.classLink "KeptCurves" (321 : Nat) "java/util/Map$Entry") ∈ lw_all := lw_g (lw_at lw_m6 123 rfl) rfl
theorem q1392 : (Jvm.Cond.interfaceEntry "KeptCurves" (323 : Nat)) ∈ lw_tbl := lw_at lw_m6 124 rfl
theorem q1393 : (Jvm.Cond.methodLink "KeptCurves" (323 : Nat) ({ cls := "java/util/Map$Entry", name := "getKey", desc := "()Ljava/lang/Object;" } : Jvm.MethodName)) ∈ lw_all := lw_g (lw_at lw_m6 125 rfl) rfl
theorem q1402 : (Jvm.Cond.interfaceEntry "KeptCurves" (328 : Nat)) ∈ lw_tbl := lw_at lw_m6 134 rfl
theorem q1403 : (Jvm.Cond.methodLink "KeptCurves" (328 : Nat) ({ cls := "java/util/Map$Entry", name := "getValue", desc := "()Ljava/lang/Object;" } : Jvm.MethodName)) ∈ lw_all := lw_g (lw_at lw_m6 135 rfl) rfl
theorem q1411 : (Jvm.Cond.methodLink "KeptCurves" (350 : Nat) ({ cls := "KeptCurves", name := "nthOf", desc := "(Ljava/util/TreeMap;IZ)I" } : Jvm.MethodName)) ∈ lw_all := lw_g (lw_at lw_m6 143 rfl) rfl
theorem q1412 : (Jvm.Cond.static ({ cls := "KeptCurves", name := "nthOf", desc := "(Ljava/util/TreeMap;IZ)I" } : Jvm.MethodName)) ∈ lw_all := lw_g (lw_at lw_m6 144 rfl) rfl
theorem q1413 : (Jvm.Cond.code ({ cls := "KeptCurves", name := "nthOf", desc := "(Ljava/util/TreeMap;IZ)I" } : Jvm.MethodName) prog_1_method_49_code (6 : Nat) (Option.some Jvm.ClassFile.FieldType.int)) ∈ lw_all := lw_g (lw_at lw_m6 145 rfl) rfl
theorem q1415 : (Jvm.Cond.instanceMethod ({ cls := "KeptCurves", name := "degree", desc := "(III)I" } : Jvm.MethodName)) ∈ lw_all := lw_g (lw_at lw_m6 147 rfl) rfl
theorem q1416 : (Jvm.Cond.selects "KeptCurves" ({ cls := "KeptCurves", name := "degree", desc := "(III)I" } : Jvm.MethodName) ({ cls := "KeptCurves", name := "degree", desc := "(III)I" } : Jvm.MethodName)) ∈ lw_all := lw_g (lw_at lw_m6 148 rfl) rfl
theorem q1417 : (Jvm.Cond.code ({ cls := "KeptCurves", name := "degree", desc := "(III)I" } : Jvm.MethodName) prog_1_method_55_code (5 : Nat) (Option.some Jvm.ClassFile.FieldType.int)) ∈ lw_all := lw_g (lw_at lw_m6 149 rfl) rfl
theorem q1418 : (Jvm.Cond.constantLong "KeptCurves" (391 : Nat) (3 : Int64)) ∈ lw_all := lw_g (lw_at lw_m6 150 rfl) rfl
theorem q1419 : (Jvm.Cond.methodLink "KeptCurves" (393 : Nat) ({ cls := "KeptCurves$Poly", name := "becomesUnknown", desc := "()V" } : Jvm.MethodName)) ∈ lw_all := lw_g (lw_at lw_m6 151 rfl) rfl
theorem q1423 : (Jvm.Cond.methodLink "KeptCurves" (396 : Nat) ({ cls := "KeptCurves$Poly", name := "becomes", desc := "(I)V" } : Jvm.MethodName)) ∈ lw_all := lw_g (lw_at lw_m6 155 rfl) rfl
theorem q1427 : (Jvm.Cond.methodLink "KeptCurves" (398 : Nat) ({ cls := "KeptCurves", name := "swapsSide", desc := "(I)Z" } : Jvm.MethodName)) ∈ lw_all := lw_g (lw_at lw_m6 159 rfl) rfl
theorem q1428 : (Jvm.Cond.privateMethod ({ cls := "KeptCurves", name := "swapsSide", desc := "(I)Z" } : Jvm.MethodName)) ∈ lw_tbl := lw_at lw_m6 160 rfl
theorem q1429 : (Jvm.Cond.instanceMethod ({ cls := "KeptCurves", name := "swapsSide", desc := "(I)Z" } : Jvm.MethodName)) ∈ lw_all := lw_g (lw_at lw_m6 161 rfl) rfl
theorem q1430 : (Jvm.Cond.code ({ cls := "KeptCurves", name := "swapsSide", desc := "(I)Z" } : Jvm.MethodName) prog_1_method_54_code (3 : Nat) (Option.some Jvm.ClassFile.FieldType.boolean)) ∈ lw_all := lw_g (lw_at lw_m6 162 rfl) rfl
theorem q1431 : (Jvm.Cond.methodLink "KeptCurves" (383 : Nat) ({ cls := "KeptCurves", name := "tellsRows", desc := "(ILKeptCurves$Fraction;)V" } : Jvm.MethodName)) ∈ lw_all := lw_g (lw_at lw_m6 163 rfl) rfl
theorem q1432 : (Jvm.Cond.privateMethod ({ cls := "KeptCurves", name := "tellsRows", desc := "(ILKeptCurves$Fraction;)V" } : Jvm.MethodName)) ∈ lw_tbl := lw_at lw_m6 164 rfl
theorem q1433 : (Jvm.Cond.instanceMethod ({ cls := "KeptCurves", name := "tellsRows", desc := "(ILKeptCurves$Fraction;)V" } : Jvm.MethodName)) ∈ lw_all := lw_g (lw_at lw_m6 165 rfl) rfl
theorem q1434 : (Jvm.Cond.code ({ cls := "KeptCurves", name := "tellsRows", desc := "(ILKeptCurves$Fraction;)V" } : Jvm.MethodName) prog_1_method_52_code (7 : Nat) (Option.none : Option Jvm.ClassFile.FieldType)) ∈ lw_all := lw_g (lw_at lw_m6 166 rfl) rfl
theorem q1435 : (Jvm.Cond.methodLink "KeptCurves" (362 : Nat) ({ cls := "KeptCurves", name := "becomes", desc := "(LKeptCurves$Poly;LKeptCurves$Poly;LKeptCurves$Poly;)V" } : Jvm.MethodName)) ∈ lw_all := lw_g (lw_at lw_m6 167 rfl) rfl
theorem q1436 : (Jvm.Cond.static ({ cls := "KeptCurves", name := "becomes", desc := "(LKeptCurves$Poly;LKeptCurves$Poly;LKeptCurves$Poly;)V" } : Jvm.MethodName)) ∈ lw_all := lw_g (lw_at lw_m6 168 rfl) rfl
theorem q1437 : (Jvm.Cond.code ({ cls := "KeptCurves", name := "becomes", desc := "(LKeptCurves$Poly;LKeptCurves$Poly;LKeptCurves$Poly;)V" } : Jvm.MethodName) prog_1_method_51_code (3 : Nat) (Option.none : Option Jvm.ClassFile.FieldType)) ∈ lw_all := lw_g (lw_at lw_m6 169 rfl) rfl
theorem q1438 : (Jvm.Cond.methodLink "KeptCurves" (355 : Nat) ({ cls := "KeptCurves$Poly", name := "adds", desc := "(LKeptCurves$Poly;LKeptCurves$Poly;I)V" } : Jvm.MethodName)) ∈ lw_all := lw_g (lw_at lw_m6 170 rfl) rfl
theorem q1456 : (Jvm.Cond.methodLink "KeptCurves" (369 : Nat) ({ cls := "KeptCurves$Poly", name := "adds", desc := "(LKeptCurves$Poly;II)V" } : Jvm.MethodName)) ∈ lw_all := lw_g (lw_at lw_m6 188 rfl) rfl
theorem q1457 : (Jvm.Cond.methodLink "KeptCurves" (372 : Nat) ({ cls := "KeptCurves$Poly", name := "like", desc := "(LKeptCurves$Poly;)V" } : Jvm.MethodName)) ∈ lw_all := lw_g (lw_at lw_m6 189 rfl) rfl
theorem q1462 : (Jvm.Cond.methodLink "KeptCurves" (387 : Nat) ({ cls := "KeptCurves", name := "lowers", desc := "(LKeptCurves$Fraction;)V" } : Jvm.MethodName)) ∈ lw_all := lw_g (lw_at lw_m6 194 rfl) rfl
theorem q1463 : (Jvm.Cond.privateMethod ({ cls := "KeptCurves", name := "lowers", desc := "(LKeptCurves$Fraction;)V" } : Jvm.MethodName)) ∈ lw_tbl := lw_at lw_m6 195 rfl
theorem q1464 : (Jvm.Cond.instanceMethod ({ cls := "KeptCurves", name := "lowers", desc := "(LKeptCurves$Fraction;)V" } : Jvm.MethodName)) ∈ lw_all := lw_g (lw_at lw_m6 196 rfl) rfl
theorem q1465 : (Jvm.Cond.code ({ cls := "KeptCurves", name := "lowers", desc := "(LKeptCurves$Fraction;)V" } : Jvm.MethodName) prog_1_method_53_code (2 : Nat) (Option.none : Option Jvm.ClassFile.FieldType)) ∈ lw_all := lw_g (lw_at lw_m6 197 rfl) rfl
theorem q1466 : (Jvm.Cond.methodLink "KeptCurves" (376 : Nat) ({ cls := "KeptCurves$Poly", name := "remains", desc := "(LKeptCurves$Poly;)V" } : Jvm.MethodName)) ∈ lw_all := lw_g (lw_at lw_m6 198 rfl) rfl
theorem q1472 : (Jvm.Cond.methodLink "KeptCurves" (379 : Nat) ({ cls := "KeptCurves$Poly", name := "quotient", desc := "(LKeptCurves$Poly;LKeptCurves$Poly;)V" } : Jvm.MethodName)) ∈ lw_all := lw_g (lw_at lw_m6 204 rfl) rfl
theorem q1476 : (Jvm.Cond.methodLink "KeptCurves" (401 : Nat) ({ cls := "KeptCurves$Fraction", name := "degree", desc := "()I" } : Jvm.MethodName)) ∈ lw_all := lw_g (lw_at lw_m6 208 rfl) rfl
theorem q1482 : (Jvm.Cond.instanceMethod ({ cls := "KeptCurves", name := "tell", desc := "(II)I" } : Jvm.MethodName)) ∈ lw_all := lw_g (lw_at lw_m6 214 rfl) rfl
theorem q1483 : (Jvm.Cond.selects "KeptCurves" ({ cls := "KeptCurves", name := "tell", desc := "(II)I" } : Jvm.MethodName) ({ cls := "KeptCurves", name := "tell", desc := "(II)I" } : Jvm.MethodName)) ∈ lw_all := lw_g (lw_at lw_m6 215 rfl) rfl
theorem q1484 : (Jvm.Cond.code ({ cls := "KeptCurves", name := "tell", desc := "(II)I" } : Jvm.MethodName) prog_1_method_56_code (4 : Nat) (Option.some Jvm.ClassFile.FieldType.int)) ∈ lw_all := lw_g (lw_at lw_m6 216 rfl) rfl
theorem q1485 : (Jvm.Cond.classLink "KeptCurves" (404 : Nat) "KeptCurves$Spot") ∈ lw_all := lw_g (lw_at lw_m6 217 rfl) rfl
theorem q1487 : (Jvm.Cond.methodLink "KeptCurves" (406 : Nat) ({ cls := "KeptCurves$Spot", name := "<init>", desc := "(I)V" } : Jvm.MethodName)) ∈ lw_all := lw_g (lw_at lw_m6 219 rfl) rfl
theorem q1492 : (Jvm.Cond.fieldLinkNest "KeptCurves" (421 : Nat) "KeptCurves$Spot" "code" "I" "KeptCurves") ∈ lw_tbl := lw_at lw_m6 224 rfl
theorem q1496 : (Jvm.Cond.methodLink "KeptCurves" (411 : Nat) ({ cls := "java/util/TreeSet", name := "contains", desc := "(Ljava/lang/Object;)Z" } : Jvm.MethodName)) ∈ lw_all := lw_g (lw_at lw_m6 228 rfl) rfl
theorem q1508 : (Jvm.Cond.methodLink "KeptCurves" (416 : Nat) ({ cls := "java/util/TreeSet", name := "size", desc := "()I" } : Jvm.MethodName)) ∈ lw_all := lw_g (lw_at lw_m7 0 rfl) rfl
theorem q1518 : (Jvm.Cond.methodLink "KeptCurves" (417 : Nat) ({ cls := "java/util/TreeSet", name := "add", desc := "(Ljava/lang/Object;)Z" } : Jvm.MethodName)) ∈ lw_all := lw_g (lw_at lw_m7 10 rfl) rfl
theorem q1531 : (Jvm.Cond.instanceMethod ({ cls := "KeptCurves", name := "forget", desc := "(II)I" } : Jvm.MethodName)) ∈ lw_all := lw_g (lw_at lw_m7 23 rfl) rfl
theorem q1532 : (Jvm.Cond.selects "KeptCurves" ({ cls := "KeptCurves", name := "forget", desc := "(II)I" } : Jvm.MethodName) ({ cls := "KeptCurves", name := "forget", desc := "(II)I" } : Jvm.MethodName)) ∈ lw_all := lw_g (lw_at lw_m7 24 rfl) rfl
theorem q1533 : (Jvm.Cond.code ({ cls := "KeptCurves", name := "forget", desc := "(II)I" } : Jvm.MethodName) prog_1_method_57_code (3 : Nat) (Option.some Jvm.ClassFile.FieldType.int)) ∈ lw_all := lw_g (lw_at lw_m7 25 rfl) rfl
theorem q1534 : (Jvm.Cond.methodLink "KeptCurves" (418 : Nat) ({ cls := "java/util/TreeSet", name := "remove", desc := "(Ljava/lang/Object;)Z" } : Jvm.MethodName)) ∈ lw_all := lw_g (lw_at lw_m7 26 rfl) rfl
theorem q1556 : (Jvm.Cond.instanceMethod ({ cls := "KeptCurves", name := "told", desc := "(I)I" } : Jvm.MethodName)) ∈ lw_all := lw_g (lw_at lw_m7 48 rfl) rfl
theorem q1557 : (Jvm.Cond.selects "KeptCurves" ({ cls := "KeptCurves", name := "told", desc := "(I)I" } : Jvm.MethodName) ({ cls := "KeptCurves", name := "told", desc := "(I)I" } : Jvm.MethodName)) ∈ lw_all := lw_g (lw_at lw_m7 49 rfl) rfl
theorem q1558 : (Jvm.Cond.code ({ cls := "KeptCurves", name := "told", desc := "(I)I" } : Jvm.MethodName) prog_1_method_59_code (2 : Nat) (Option.some Jvm.ClassFile.FieldType.int)) ∈ lw_all := lw_g (lw_at lw_m7 50 rfl) rfl
theorem q1559 : (Jvm.Cond.methodLink "KeptCurves" (424 : Nat) ({ cls := "KeptCurves", name := "nthOf", desc := "(Ljava/util/TreeSet;I)I" } : Jvm.MethodName)) ∈ lw_all := lw_g (lw_at lw_m7 51 rfl) rfl
theorem q1560 : (Jvm.Cond.static ({ cls := "KeptCurves", name := "nthOf", desc := "(Ljava/util/TreeSet;I)I" } : Jvm.MethodName)) ∈ lw_all := lw_g (lw_at lw_m7 52 rfl) rfl
theorem q1561 : (Jvm.Cond.code ({ cls := "KeptCurves", name := "nthOf", desc := "(Ljava/util/TreeSet;I)I" } : Jvm.MethodName) prog_1_method_58_code (5 : Nat) (Option.some Jvm.ClassFile.FieldType.int)) ∈ lw_all := lw_g (lw_at lw_m7 53 rfl) rfl
theorem q1562 : (Jvm.Cond.methodLink "KeptCurves" (420 : Nat) ({ cls := "java/util/TreeSet", name := "iterator", desc := "()Ljava/util/Iterator;" } : Jvm.MethodName)) ∈ lw_all := lw_g (lw_at lw_m7 54 rfl) rfl
theorem q1564 : (Jvm.Cond.instanceMethod ({ cls := "KeptCurves", name := "moved", desc := "(I)I" } : Jvm.MethodName)) ∈ lw_all := lw_g (lw_at lw_m7 56 rfl) rfl
theorem q1565 : (Jvm.Cond.selects "KeptCurves" ({ cls := "KeptCurves", name := "moved", desc := "(I)I" } : Jvm.MethodName) ({ cls := "KeptCurves", name := "moved", desc := "(I)I" } : Jvm.MethodName)) ∈ lw_all := lw_g (lw_at lw_m7 57 rfl) rfl
theorem q1566 : (Jvm.Cond.code ({ cls := "KeptCurves", name := "moved", desc := "(I)I" } : Jvm.MethodName) prog_1_method_61_code (3 : Nat) (Option.some Jvm.ClassFile.FieldType.int)) ∈ lw_all := lw_g (lw_at lw_m7 58 rfl) rfl
theorem q1567 : (Jvm.Cond.methodLink "KeptCurves" (428 : Nat) ({ cls := "KeptCurves", name := "movedSet", desc := "()Ljava/util/TreeSet;" } : Jvm.MethodName)) ∈ lw_all := lw_g (lw_at lw_m7 59 rfl) rfl
theorem q1568 : (Jvm.Cond.privateMethod ({ cls := "KeptCurves", name := "movedSet", desc := "()Ljava/util/TreeSet;" } : Jvm.MethodName)) ∈ lw_tbl := lw_at lw_m7 60 rfl
theorem q1569 : (Jvm.Cond.instanceMethod ({ cls := "KeptCurves", name := "movedSet", desc := "()Ljava/util/TreeSet;" } : Jvm.MethodName)) ∈ lw_all := lw_g (lw_at lw_m7 61 rfl) rfl
theorem q1570 : (Jvm.Cond.code ({ cls := "KeptCurves", name := "movedSet", desc := "()Ljava/util/TreeSet;" } : Jvm.MethodName) prog_1_method_60_code (5 : Nat) (Option.some (Jvm.ClassFile.FieldType.object "java/util/TreeSet"))) ∈ lw_all := lw_g (lw_at lw_m7 62 rfl) rfl
theorem q1571 : (Jvm.Cond.classLink "KeptCurves" (412 : Nat) "java/util/TreeSet") ∈ lw_all := lw_g (lw_at lw_m7 63 rfl) rfl
theorem q1572 : (Jvm.Cond.methodLink "KeptCurves" (427 : Nat) ({ cls := "java/util/TreeSet", name := "<init>", desc := "()V" } : Jvm.MethodName)) ∈ lw_all := lw_g (lw_at lw_m7 64 rfl) rfl
theorem q1574 : (Jvm.Cond.instanceMethod ({ cls := "KeptCurves", name := "move", desc := "()I" } : Jvm.MethodName)) ∈ lw_all := lw_g (lw_at lw_m7 66 rfl) rfl
theorem q1575 : (Jvm.Cond.selects "KeptCurves" ({ cls := "KeptCurves", name := "move", desc := "()I" } : Jvm.MethodName) ({ cls := "KeptCurves", name := "move", desc := "()I" } : Jvm.MethodName)) ∈ lw_all := lw_g (lw_at lw_m7 67 rfl) rfl
theorem q1576 : (Jvm.Cond.code ({ cls := "KeptCurves", name := "move", desc := "()I" } : Jvm.MethodName) prog_1_method_62_code (1 : Nat) (Option.some Jvm.ClassFile.FieldType.int)) ∈ lw_all := lw_g (lw_at lw_m7 68 rfl) rfl
theorem q1577 : (Jvm.Cond.methodLink "KeptCurves" (432 : Nat) ({ cls := "KeptCurves$Works", name := "becomes", desc := "(Ljava/util/TreeSet;)V" } : Jvm.MethodName)) ∈ lw_all := lw_g (lw_at lw_m7 69 rfl) rfl
theorem q1601 : (Jvm.Cond.instanceMethod ({ cls := "KeptCurves", name := "grows", desc := "(I)I" } : Jvm.MethodName)) ∈ lw_all := lw_g (lw_at lw_m7 93 rfl) rfl
theorem q1602 : (Jvm.Cond.selects "KeptCurves" ({ cls := "KeptCurves", name := "grows", desc := "(I)I" } : Jvm.MethodName) ({ cls := "KeptCurves", name := "grows", desc := "(I)I" } : Jvm.MethodName)) ∈ lw_all := lw_g (lw_at lw_m7 94 rfl) rfl
theorem q1603 : (Jvm.Cond.code ({ cls := "KeptCurves", name := "grows", desc := "(I)I" } : Jvm.MethodName) prog_1_method_64_code (7 : Nat) (Option.some Jvm.ClassFile.FieldType.int)) ∈ lw_all := lw_g (lw_at lw_m7 95 rfl) rfl
theorem q1604 : (Jvm.Cond.constantLong "KeptCurves" (437 : Nat) (40 : Int64)) ∈ lw_all := lw_g (lw_at lw_m7 96 rfl) rfl
theorem q1605 : (Jvm.Cond.methodLink "KeptCurves" (439 : Nat) ({ cls := "KeptCurves", name := "sees", desc := "(I)V" } : Jvm.MethodName)) ∈ lw_all := lw_g (lw_at lw_m7 97 rfl) rfl
theorem q1606 : (Jvm.Cond.privateMethod ({ cls := "KeptCurves", name := "sees", desc := "(I)V" } : Jvm.MethodName)) ∈ lw_tbl := lw_at lw_m7 98 rfl
theorem q1607 : (Jvm.Cond.instanceMethod ({ cls := "KeptCurves", name := "sees", desc := "(I)V" } : Jvm.MethodName)) ∈ lw_all := lw_g (lw_at lw_m7 99 rfl) rfl
theorem q1608 : (Jvm.Cond.code ({ cls := "KeptCurves", name := "sees", desc := "(I)V" } : Jvm.MethodName) prog_1_method_63_code (2 : Nat) (Option.none : Option Jvm.ClassFile.FieldType)) ∈ lw_all := lw_g (lw_at lw_m7 100 rfl) rfl
theorem q1610 : (Jvm.Cond.instanceMethod ({ cls := "KeptCurves", name := "were", desc := "(IIIIII)J" } : Jvm.MethodName)) ∈ lw_all := lw_g (lw_at lw_m7 102 rfl) rfl
theorem q1611 : (Jvm.Cond.selects "KeptCurves" ({ cls := "KeptCurves", name := "were", desc := "(IIIIII)J" } : Jvm.MethodName) ({ cls := "KeptCurves", name := "were", desc := "(IIIIII)J" } : Jvm.MethodName)) ∈ lw_all := lw_g (lw_at lw_m7 103 rfl) rfl
theorem q1612 : (Jvm.Cond.codeWith ({ cls := "KeptCurves", name := "were", desc := "(IIIIII)J" } : Jvm.MethodName) prog_1_method_65_code (13 : Nat) (Option.some Jvm.ClassFile.FieldType.long) [((54 : Nat), (108 : Nat), (123 : Nat), (0 : Nat)), ((123 : Nat), (125 : Nat), (123 : Nat), (0 : Nat))]) ∈ lw_all := lw_g (lw_at lw_m7 104 rfl) rfl
theorem q1614 : (Jvm.Cond.instanceMethod ({ cls := "KeptCurves", name := "odds", desc := "(IIII)J" } : Jvm.MethodName)) ∈ lw_all := lw_g (lw_at lw_m7 106 rfl) rfl
theorem q1615 : (Jvm.Cond.selects "KeptCurves" ({ cls := "KeptCurves", name := "odds", desc := "(IIII)J" } : Jvm.MethodName) ({ cls := "KeptCurves", name := "odds", desc := "(IIII)J" } : Jvm.MethodName)) ∈ lw_all := lw_g (lw_at lw_m7 107 rfl) rfl
theorem q1616 : (Jvm.Cond.code ({ cls := "KeptCurves", name := "odds", desc := "(IIII)J" } : Jvm.MethodName) prog_1_method_67_code (9 : Nat) (Option.some Jvm.ClassFile.FieldType.long)) ∈ lw_all := lw_g (lw_at lw_m7 108 rfl) rfl
theorem q1617 : (Jvm.Cond.constant "KeptCurves" (442 : Nat) (1103515245 : Int32)) ∈ lw_all := lw_g (lw_at lw_m7 109 rfl) rfl
theorem q1618 : (Jvm.Cond.methodLink "KeptCurves" (443 : Nat) ({ cls := "KeptCurves", name := "lowest", desc := "(JJI)J" } : Jvm.MethodName)) ∈ lw_all := lw_g (lw_at lw_m7 110 rfl) rfl
theorem q1619 : (Jvm.Cond.static ({ cls := "KeptCurves", name := "lowest", desc := "(JJI)J" } : Jvm.MethodName)) ∈ lw_all := lw_g (lw_at lw_m7 111 rfl) rfl
theorem q1620 : (Jvm.Cond.code ({ cls := "KeptCurves", name := "lowest", desc := "(JJI)J" } : Jvm.MethodName) prog_1_method_66_code (11 : Nat) (Option.some Jvm.ClassFile.FieldType.long)) ∈ lw_all := lw_g (lw_at lw_m7 112 rfl) rfl
theorem q1622 : (Jvm.Cond.instanceMethod ({ cls := "KeptCurves", name := "plan", desc := "(II)I" } : Jvm.MethodName)) ∈ lw_all := lw_g (lw_at lw_m7 114 rfl) rfl
theorem q1623 : (Jvm.Cond.selects "KeptCurves" ({ cls := "KeptCurves", name := "plan", desc := "(II)I" } : Jvm.MethodName) ({ cls := "KeptCurves", name := "plan", desc := "(II)I" } : Jvm.MethodName)) ∈ lw_all := lw_g (lw_at lw_m7 115 rfl) rfl
theorem q1624 : (Jvm.Cond.code ({ cls := "KeptCurves", name := "plan", desc := "(II)I" } : Jvm.MethodName) prog_1_method_72_code (3 : Nat) (Option.some Jvm.ClassFile.FieldType.int)) ∈ lw_all := lw_g (lw_at lw_m7 116 rfl) rfl
theorem q1625 : (Jvm.Cond.methodLink "KeptCurves" (455 : Nat) ({ cls := "KeptCurves", name := "isSo", desc := "(II)Z" } : Jvm.MethodName)) ∈ lw_all := lw_g (lw_at lw_m7 117 rfl) rfl
theorem q1626 : (Jvm.Cond.static ({ cls := "KeptCurves", name := "isSo", desc := "(II)Z" } : Jvm.MethodName)) ∈ lw_all := lw_g (lw_at lw_m7 118 rfl) rfl
theorem q1627 : (Jvm.Cond.code ({ cls := "KeptCurves", name := "isSo", desc := "(II)Z" } : Jvm.MethodName) prog_1_method_71_code (2 : Nat) (Option.some Jvm.ClassFile.FieldType.boolean)) ∈ lw_all := lw_g (lw_at lw_m7 119 rfl) rfl
theorem q1628 : (Jvm.Cond.constantLong "KeptCurves" (450 : Nat) (9 : Int64)) ∈ lw_all := lw_g (lw_at lw_m7 120 rfl) rfl
theorem q1630 : (Jvm.Cond.instanceMethod ({ cls := "KeptCurves", name := "ends", desc := "(II)I" } : Jvm.MethodName)) ∈ lw_all := lw_g (lw_at lw_m7 122 rfl) rfl
theorem q1631 : (Jvm.Cond.selects "KeptCurves" ({ cls := "KeptCurves", name := "ends", desc := "(II)I" } : Jvm.MethodName) ({ cls := "KeptCurves", name := "ends", desc := "(II)I" } : Jvm.MethodName)) ∈ lw_all := lw_g (lw_at lw_m7 123 rfl) rfl
theorem q1632 : (Jvm.Cond.code ({ cls := "KeptCurves", name := "ends", desc := "(II)I" } : Jvm.MethodName) prog_1_method_73_code (5 : Nat) (Option.some Jvm.ClassFile.FieldType.int)) ∈ lw_all := lw_g (lw_at lw_m7 124 rfl) rfl
theorem q1633 : (Jvm.Cond.interfaceEntry "KeptCurves" (461 : Nat)) ∈ lw_tbl := lw_at lw_m7 125 rfl
theorem q1634 : (Jvm.Cond.methodLink "KeptCurves" (461 : Nat) ({ cls := "KeptCurves$Act", name := "does", desc := "(II)I" } : Jvm.MethodName)) ∈ lw_all := lw_g (lw_at lw_m7 126 rfl) rfl
theorem q1638 : (Jvm.Cond.instanceMethod ({ cls := "KeptCurves", name := "write", desc := "(I)I" } : Jvm.MethodName)) ∈ lw_all := lw_g (lw_at lw_m7 130 rfl) rfl
theorem q1639 : (Jvm.Cond.selects "KeptCurves" ({ cls := "KeptCurves", name := "write", desc := "(I)I" } : Jvm.MethodName) ({ cls := "KeptCurves", name := "write", desc := "(I)I" } : Jvm.MethodName)) ∈ lw_all := lw_g (lw_at lw_m7 131 rfl) rfl
theorem q1640 : (Jvm.Cond.code ({ cls := "KeptCurves", name := "write", desc := "(I)I" } : Jvm.MethodName) prog_1_method_75_code (5 : Nat) (Option.some Jvm.ClassFile.FieldType.int)) ∈ lw_all := lw_g (lw_at lw_m7 132 rfl) rfl
theorem q1641 : (Jvm.Cond.methodLink "KeptCurves" (467 : Nat) ({ cls := "java/lang/StringBuilder", name := "setLength", desc := "(I)V" } : Jvm.MethodName)) ∈ lw_all := lw_g (lw_at lw_m7 133 rfl) rfl
theorem q1855 : (Jvm.Cond.methodLink "KeptCurves" (470 : Nat) ({ cls := "java/lang/StringBuilder", name := "length", desc := "()I" } : Jvm.MethodName)) ∈ lw_all := lw_g (lw_at lw_m8 107 rfl) rfl
theorem q1856 : (Jvm.Cond.methodLink "KeptCurves" (472 : Nat) ({ cls := "java/lang/Math", name := "min", desc := "(II)I" } : Jvm.MethodName)) ∈ lw_all := lw_g (lw_at lw_m8 108 rfl) rfl
theorem q1857 : (Jvm.Cond.methodLink "KeptCurves" (477 : Nat) ({ cls := "KeptCurves", name := "writes", desc := "(CI)V" } : Jvm.MethodName)) ∈ lw_all := lw_g (lw_at lw_m8 109 rfl) rfl
theorem q1858 : (Jvm.Cond.privateMethod ({ cls := "KeptCurves", name := "writes", desc := "(CI)V" } : Jvm.MethodName)) ∈ lw_tbl := lw_at lw_m8 110 rfl
theorem q1859 : (Jvm.Cond.instanceMethod ({ cls := "KeptCurves", name := "writes", desc := "(CI)V" } : Jvm.MethodName)) ∈ lw_all := lw_g (lw_at lw_m8 111 rfl) rfl
theorem q1860 : (Jvm.Cond.code ({ cls := "KeptCurves", name := "writes", desc := "(CI)V" } : Jvm.MethodName) prog_1_method_74_code (4 : Nat) (Option.none : Option Jvm.ClassFile.FieldType)) ∈ lw_all := lw_g (lw_at lw_m8 112 rfl) rfl
theorem q1861 : (Jvm.Cond.methodLink "KeptCurves" (463 : Nat) ({ cls := "java/lang/StringBuilder", name := "append", desc := "(C)Ljava/lang/StringBuilder;" } : Jvm.MethodName)) ∈ lw_all := lw_g (lw_at lw_m8 113 rfl) rfl
theorem q1883 : (Jvm.Cond.methodLink "KeptCurves" (481 : Nat) ({ cls := "java/lang/StringBuilder", name := "append", desc := "(I)Ljava/lang/StringBuilder;" } : Jvm.MethodName)) ∈ lw_all := lw_g (lw_at lw_m8 135 rfl) rfl
theorem q1885 : (Jvm.Cond.instanceMethod ({ cls := "KeptCurves", name := "paper", desc := "(I)I" } : Jvm.MethodName)) ∈ lw_all := lw_g (lw_at lw_m8 137 rfl) rfl
theorem q1886 : (Jvm.Cond.selects "KeptCurves" ({ cls := "KeptCurves", name := "paper", desc := "(I)I" } : Jvm.MethodName) ({ cls := "KeptCurves", name := "paper", desc := "(I)I" } : Jvm.MethodName)) ∈ lw_all := lw_g (lw_at lw_m8 138 rfl) rfl
theorem q1887 : (Jvm.Cond.code ({ cls := "KeptCurves", name := "paper", desc := "(I)I" } : Jvm.MethodName) prog_1_method_76_code (2 : Nat) (Option.some Jvm.ClassFile.FieldType.int)) ∈ lw_all := lw_g (lw_at lw_m8 139 rfl) rfl
theorem q1888 : (Jvm.Cond.methodLink "KeptCurves" (484 : Nat) ({ cls := "java/lang/StringBuilder", name := "charAt", desc := "(I)C" } : Jvm.MethodName)) ∈ lw_all := lw_g (lw_at lw_m8 140 rfl) rfl
theorem q1899 : (Jvm.Cond.instanceMethod ({ cls := "KeptCurves", name := "judge", desc := "(III)I" } : Jvm.MethodName)) ∈ lw_all := lw_g (lw_at lw_m8 151 rfl) rfl
theorem q1900 : (Jvm.Cond.selects "KeptCurves" ({ cls := "KeptCurves", name := "judge", desc := "(III)I" } : Jvm.MethodName) ({ cls := "KeptCurves", name := "judge", desc := "(III)I" } : Jvm.MethodName)) ∈ lw_all := lw_g (lw_at lw_m8 152 rfl) rfl
theorem q1901 : (Jvm.Cond.codeWith ({ cls := "KeptCurves", name := "judge", desc := "(III)I" } : Jvm.MethodName) prog_1_method_79_code (7 : Nat) (Option.some Jvm.ClassFile.FieldType.int) [((32 : Nat), (88 : Nat), (98 : Nat), (494 : Nat)), ((89 : Nat), (97 : Nat), (98 : Nat), (494 : Nat))]) ∈ lw_all := lw_g (lw_at lw_m8 153 rfl) rfl
theorem q1902 : (Jvm.Cond.classLink "KeptCurves" (494 : Nat) "java/lang/NullPointerException") ∈ lw_all := lw_g (lw_at lw_m8 154 rfl) rfl
theorem q1904 : (Jvm.Cond.methodLink "KeptCurves" (488 : Nat) ({ cls := "KeptCurves", name := "isList", desc := "(I)Z" } : Jvm.MethodName)) ∈ lw_all := lw_g (lw_at lw_m8 156 rfl) rfl
theorem q1905 : (Jvm.Cond.static ({ cls := "KeptCurves", name := "isList", desc := "(I)Z" } : Jvm.MethodName)) ∈ lw_all := lw_g (lw_at lw_m8 157 rfl) rfl
theorem q1906 : (Jvm.Cond.code ({ cls := "KeptCurves", name := "isList", desc := "(I)Z" } : Jvm.MethodName) prog_1_method_77_code (1 : Nat) (Option.some Jvm.ClassFile.FieldType.boolean)) ∈ lw_all := lw_g (lw_at lw_m8 158 rfl) rfl
theorem q1907 : (Jvm.Cond.methodLink "KeptCurves" (491 : Nat) ({ cls := "KeptCurves", name := "told", desc := "(II)I" } : Jvm.MethodName)) ∈ lw_all := lw_g (lw_at lw_m8 159 rfl) rfl
theorem q1908 : (Jvm.Cond.static ({ cls := "KeptCurves", name := "told", desc := "(II)I" } : Jvm.MethodName)) ∈ lw_all := lw_g (lw_at lw_m8 160 rfl) rfl
theorem q1909 : (Jvm.Cond.code ({ cls := "KeptCurves", name := "told", desc := "(II)I" } : Jvm.MethodName) prog_1_method_78_code (2 : Nat) (Option.some Jvm.ClassFile.FieldType.int)) ∈ lw_all := lw_g (lw_at lw_m8 161 rfl) rfl
theorem q1911 : (Jvm.Cond.instanceMethod ({ cls := "KeptCurves", name := "list", desc := "(II)I" } : Jvm.MethodName)) ∈ lw_all := lw_g (lw_at lw_m8 163 rfl) rfl
theorem q1912 : (Jvm.Cond.selects "KeptCurves" ({ cls := "KeptCurves", name := "list", desc := "(II)I" } : Jvm.MethodName) ({ cls := "KeptCurves", name := "list", desc := "(II)I" } : Jvm.MethodName)) ∈ lw_all := lw_g (lw_at lw_m8 164 rfl) rfl
theorem q1913 : (Jvm.Cond.codeWith ({ cls := "KeptCurves", name := "list", desc := "(II)I" } : Jvm.MethodName) prog_1_method_80_code (4 : Nat) (Option.some Jvm.ClassFile.FieldType.int) [((18 : Nat), (28 : Nat), (29 : Nat), (496 : Nat))]) ∈ lw_all := lw_g (lw_at lw_m8 165 rfl) rfl
theorem q1914 : (Jvm.Cond.classLink "KeptCurves" (496 : Nat) "java/lang/NegativeArraySizeException") ∈ lw_all := lw_g (lw_at lw_m8 166 rfl) rfl
theorem q1919 : (Jvm.Cond.instanceMethod ({ cls := "KeptCurves", name := "put", desc := "(III)I" } : Jvm.MethodName)) ∈ lw_all := lw_g (lw_at lw_m8 171 rfl) rfl
theorem q1920 : (Jvm.Cond.selects "KeptCurves" ({ cls := "KeptCurves", name := "put", desc := "(III)I" } : Jvm.MethodName) ({ cls := "KeptCurves", name := "put", desc := "(III)I" } : Jvm.MethodName)) ∈ lw_all := lw_g (lw_at lw_m8 172 rfl) rfl
theorem q1921 : (Jvm.Cond.codeWith ({ cls := "KeptCurves", name := "put", desc := "(III)I" } : Jvm.MethodName) prog_1_method_81_code (5 : Nat) (Option.some Jvm.ClassFile.FieldType.int) [((9 : Nat), (19 : Nat), (20 : Nat), (494 : Nat)), ((9 : Nat), (19 : Nat), (25 : Nat), (498 : Nat))]) ∈ lw_all := lw_g (lw_at lw_m8 173 rfl) rfl
theorem q1922 : (Jvm.Cond.classLink "KeptCurves" (498 : Nat) "java/lang/ArrayIndexOutOfBoundsException") ∈ lw_all := lw_g (lw_at lw_m8 174 rfl) rfl
theorem q1926 : (Jvm.Cond.instanceMethod ({ cls := "KeptCurves", name := "get", desc := "(II)J" } : Jvm.MethodName)) ∈ lw_all := lw_g (lw_at lw_m8 178 rfl) rfl
theorem q1927 : (Jvm.Cond.selects "KeptCurves" ({ cls := "KeptCurves", name := "get", desc := "(II)J" } : Jvm.MethodName) ({ cls := "KeptCurves", name := "get", desc := "(II)J" } : Jvm.MethodName)) ∈ lw_all := lw_g (lw_at lw_m8 179 rfl) rfl
theorem q1928 : (Jvm.Cond.codeWith ({ cls := "KeptCurves", name := "get", desc := "(II)J" } : Jvm.MethodName) prog_1_method_82_code (4 : Nat) (Option.some Jvm.ClassFile.FieldType.long) [((0 : Nat), (9 : Nat), (10 : Nat), (494 : Nat)), ((0 : Nat), (9 : Nat), (10 : Nat), (498 : Nat))]) ∈ lw_all := lw_g (lw_at lw_m8 180 rfl) rfl
theorem q1930 : (Jvm.Cond.instanceMethod ({ cls := "KeptCurves", name := "image", desc := "()I" } : Jvm.MethodName)) ∈ lw_all := lw_g (lw_at lw_m8 182 rfl) rfl
theorem q1931 : (Jvm.Cond.selects "KeptCurves" ({ cls := "KeptCurves", name := "image", desc := "()I" } : Jvm.MethodName) ({ cls := "KeptCurves", name := "image", desc := "()I" } : Jvm.MethodName)) ∈ lw_all := lw_g (lw_at lw_m8 183 rfl) rfl
theorem q1932 : (Jvm.Cond.code ({ cls := "KeptCurves", name := "image", desc := "()I" } : Jvm.MethodName) prog_1_method_83_code (1 : Nat) (Option.some Jvm.ClassFile.FieldType.int)) ∈ lw_all := lw_g (lw_at lw_m8 184 rfl) rfl
theorem q1933 : (Jvm.Cond.methodLink "KeptCurves" (500 : Nat) ({ cls := "KeptCurves$Works", name := "like", desc := "(LKeptCurves$Works;)V" } : Jvm.MethodName)) ∈ lw_all := lw_g (lw_at lw_m8 185 rfl) rfl
theorem q1940 : (Jvm.Cond.instanceMethod ({ cls := "KeptCurves", name := "undo", desc := "()I" } : Jvm.MethodName)) ∈ lw_all := lw_g (lw_at lw_m8 192 rfl) rfl
theorem q1941 : (Jvm.Cond.selects "KeptCurves" ({ cls := "KeptCurves", name := "undo", desc := "()I" } : Jvm.MethodName) ({ cls := "KeptCurves", name := "undo", desc := "()I" } : Jvm.MethodName)) ∈ lw_all := lw_g (lw_at lw_m8 193 rfl) rfl
theorem q1942 : (Jvm.Cond.code ({ cls := "KeptCurves", name := "undo", desc := "()I" } : Jvm.MethodName) prog_1_method_84_code (1 : Nat) (Option.some Jvm.ClassFile.FieldType.int)) ∈ lw_all := lw_g (lw_at lw_m8 194 rfl) rfl
theorem q1944 : (Jvm.Cond.instanceMethod ({ cls := "KeptCurves", name := "count", desc := "(I)I" } : Jvm.MethodName)) ∈ lw_all := lw_g (lw_at lw_m8 196 rfl) rfl
theorem q1945 : (Jvm.Cond.selects "KeptCurves" ({ cls := "KeptCurves", name := "count", desc := "(I)I" } : Jvm.MethodName) ({ cls := "KeptCurves", name := "count", desc := "(I)I" } : Jvm.MethodName)) ∈ lw_all := lw_g (lw_at lw_m8 197 rfl) rfl
theorem q1946 : (Jvm.Cond.code ({ cls := "KeptCurves", name := "count", desc := "(I)I" } : Jvm.MethodName) prog_1_method_86_code (2 : Nat) (Option.some Jvm.ClassFile.FieldType.int)) ∈ lw_all := lw_g (lw_at lw_m8 198 rfl) rfl
theorem q1947 : (Jvm.Cond.methodLink "KeptCurves" (507 : Nat) ({ cls := "KeptCurves", name := "others", desc := "()I" } : Jvm.MethodName)) ∈ lw_all := lw_g (lw_at lw_m8 199 rfl) rfl
theorem q1948 : (Jvm.Cond.privateMethod ({ cls := "KeptCurves", name := "others", desc := "()I" } : Jvm.MethodName)) ∈ lw_tbl := lw_at lw_m8 200 rfl
theorem q1949 : (Jvm.Cond.instanceMethod ({ cls := "KeptCurves", name := "others", desc := "()I" } : Jvm.MethodName)) ∈ lw_all := lw_g (lw_at lw_m8 201 rfl) rfl
theorem q1950 : (Jvm.Cond.code ({ cls := "KeptCurves", name := "others", desc := "()I" } : Jvm.MethodName) prog_1_method_85_code (6 : Nat) (Option.some Jvm.ClassFile.FieldType.int)) ∈ lw_all := lw_g (lw_at lw_m8 202 rfl) rfl
theorem q2365 : (Jvm.Cond.castable "KeptCurves" "java/lang/Object") ∈ lw_tbl := lw_at lw_m10 137 rfl
theorem in_X0 : ∀ w ∈ wsX00, w ∈ lw_all := lw_in wsX00 [443, 445, 447, 449, 451, 453, 455, 457, 459, 461, 463, 465, 467, 469, 471, 473, 475, 477, 479, 481] (by decide +kernel) (by decide +kernel)
