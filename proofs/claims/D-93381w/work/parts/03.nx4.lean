/-! KeptCurvesModel -/
set_option maxRecDepth 100000
def RX4 : String := "KeptCurvesModel"
def TX4 : u_T := fun k => match k with
  | 0 => ("KeptCurvesModel", "g", "[I", true)
  | 1 => ("KeptCurvesModel", "kept", "[I", true)
  | 2 => ("KeptCurvesModel", "isKept", "Z", false)
  | 3 => ("KeptCurvesModel", "keeps", "[I", true)
  | 4 => ("KeptCurvesModel", "sizes", "[I", true)
  | 5 => ("KeptCurvesModel", "to", "[I", true)
  | 6 => ("KeptCurvesModel", "isSeen", "[Z", true)
  | 7 => ("KeptCurvesModel", "often", "[I", true)
  | 8 => ("KeptCurvesModel", "xUp", "[I", true)
  | 9 => ("KeptCurvesModel", "xDown", "[I", true)
  | 10 => ("KeptCurvesModel", "yUp", "[I", true)
  | 11 => ("KeptCurvesModel", "yDown", "[I", true)
  | 12 => ("KeptCurvesModel", "rows", "[[I", true)
  | 13 => ("KeptCurvesModel", "p", "[I", true)
  | 14 => ("KeptCurvesModel", "q", "[I", true)
  | 15 => ("KeptCurvesModel", "r", "[I", true)
  | 16 => ("KeptCurvesModel", "first", "[I", true)
  | 17 => ("KeptCurvesModel", "second", "[I", true)
  | 18 => ("KeptCurvesModel", "third", "[I", true)
  | 19 => ("KeptCurvesModel", "u", "[I", true)
  | 20 => ("KeptCurvesModel", "v", "[I", true)
  | 21 => ("KeptCurvesModel", "has", "[Z", true)
  | 22 => ("KeptCurvesModel", "tape", "[I", true)
  | 23 => ("KeptCurvesModel", "taped", "I", false)
  | 24 => ("KeptCurvesModel", "at", "I", false)
  | 25 => ("KeptCurvesModel", "read", "[I", true)
  | 26 => ("KeptCurvesModel", "paper", "[I", true)
  | 27 => ("KeptCurvesModel", "signs", "I", false)
  | 28 => ("KeptCurvesModel", "lengths", "[I", true)
  | _ => ("KeptCurvesModel", "items", "[[I", true)
def tyX4 : Nat → FieldType := fun k => match k with
  | 0 => .array .int
  | 1 => .array .int
  | 2 => .boolean
  | 3 => .array .int
  | 4 => .array .int
  | 5 => .array .int
  | 6 => .array .boolean
  | 7 => .array .int
  | 8 => .array .int
  | 9 => .array .int
  | 10 => .array .int
  | 11 => .array .int
  | 12 => .array (.array .int)
  | 13 => .array .int
  | 14 => .array .int
  | 15 => .array .int
  | 16 => .array .int
  | 17 => .array .int
  | 18 => .array .int
  | 19 => .array .int
  | 20 => .array .int
  | 21 => .array .boolean
  | 22 => .array .int
  | 23 => .int
  | 24 => .int
  | 25 => .array .int
  | 26 => .array .int
  | 27 => .int
  | 28 => .array .int
  | _ => .array (.array .int)
abbrev wsX40 : List Cond := u_ws RX4 TX4 30
set_option maxRecDepth 100000 in
theorem nmX4 : ∀ a, a < 30 → ∀ b, b < 30 → a ≠ b → (TX4 a).2.1 ≠ (TX4 b).2.1 := by decide +kernel
set_option maxRecDepth 100000 in
theorem tyX4_ok : ∀ k, k < 30 → parseFieldDescriptor (TX4 k).2.2.1 = some (tyX4 k) := by decide +kernel
abbrev cX4_init : ByteArray := prog_16_method_1_code
def yX4_init : MethodName := ⟨RX4, "<init>", "()V"⟩
def dkwX4_init_10 : List UInt8 := [79, 89, 5, 2, 79, 89, 6, 2, 79, 181, 0, 87, 42, 7, 16, 12, 197, 0, 46, 2, 181, 0, 90, 177]
abbrev dktX4_init_10 : List UInt8 := dkwX4_init_10 ++ []
def dkwX4_init_9 : List UInt8 := [188, 10, 181, 0, 81, 42, 16, 120, 188, 10, 181, 0, 84, 42, 7, 188, 10, 89, 3, 2, 79, 89, 4, 2]
abbrev dktX4_init_9 : List UInt8 := dkwX4_init_9 ++ dktX4_init_10
def dkwX4_init_8 : List UInt8 := [181, 0, 72, 42, 17, 4, 0, 188, 4, 181, 0, 75, 42, 16, 60, 188, 10, 181, 0, 78, 42, 16, 9]
abbrev dktX4_init_8 : List UInt8 := dkwX4_init_8 ++ dktX4_init_9
def dkwX4_init_7 : List UInt8 := [17, 9, 196, 188, 10, 181, 0, 66, 42, 17, 9, 196, 188, 10, 181, 0, 69, 42, 17, 9, 196, 188, 10]
abbrev dktX4_init_7 : List UInt8 := dkwX4_init_7 ++ dktX4_init_8
def dkwX4_init_6 : List UInt8 := [181, 0, 57, 42, 17, 9, 196, 188, 10, 181, 0, 60, 42, 17, 9, 196, 188, 10, 181, 0, 63, 42]
abbrev dktX4_init_6 : List UInt8 := dkwX4_init_6 ++ dktX4_init_7
def dkwX4_init_5 : List UInt8 := [17, 9, 196, 188, 10, 181, 0, 51, 42, 17, 9, 196, 188, 10, 181, 0, 54, 42, 17, 9, 196, 188, 10]
abbrev dktX4_init_5 : List UInt8 := dkwX4_init_5 ++ dktX4_init_6
def dkwX4_init_4 : List UInt8 := [17, 9, 196, 188, 10, 181, 0, 43, 42, 16, 6, 17, 9, 196, 197, 0, 46, 2, 181, 0, 48, 42]
abbrev dktX4_init_4 : List UInt8 := dkwX4_init_4 ++ dktX4_init_5
def dkwX4_init_3 : List UInt8 := [181, 0, 34, 42, 17, 9, 196, 188, 10, 181, 0, 37, 42, 17, 9, 196, 188, 10, 181, 0, 40, 42]
abbrev dktX4_init_3 : List UInt8 := dkwX4_init_3 ++ dktX4_init_4
def dkwX4_init_2 : List UInt8 := [17, 4, 0, 188, 4, 181, 0, 27, 42, 17, 4, 1, 188, 10, 181, 0, 31, 42, 17, 9, 196, 188, 10]
abbrev dktX4_init_2 : List UInt8 := dkwX4_init_2 ++ dktX4_init_3
def dkwX4_init_1 : List UInt8 := [188, 10, 181, 0, 18, 42, 16, 32, 188, 10, 181, 0, 21, 42, 17, 4, 0, 188, 10, 181, 0, 24, 42]
abbrev dktX4_init_1 : List UInt8 := dkwX4_init_1 ++ dktX4_init_2
def dkwX4_init_0 : List UInt8 := [42, 183, 0, 3, 42, 16, 48, 188, 10, 181, 0, 11, 42, 16, 48, 188, 10, 181, 0, 15, 42, 17, 4, 0]
abbrev dktX4_init_0 : List UInt8 := dkwX4_init_0 ++ dktX4_init_1
theorem dksX4_init_0 : cX4_init.data.toList.drop 0 = dktX4_init_0 := by decide +kernel
theorem dksX4_init_1 : cX4_init.data.toList.drop 24 = dktX4_init_1 := dk_seg dksX4_init_0 24 rfl rfl
theorem dksX4_init_2 : cX4_init.data.toList.drop 47 = dktX4_init_2 := dk_seg dksX4_init_1 23 rfl rfl
theorem dksX4_init_3 : cX4_init.data.toList.drop 70 = dktX4_init_3 := dk_seg dksX4_init_2 23 rfl rfl
theorem dksX4_init_4 : cX4_init.data.toList.drop 92 = dktX4_init_4 := dk_seg dksX4_init_3 22 rfl rfl
theorem dksX4_init_5 : cX4_init.data.toList.drop 114 = dktX4_init_5 := dk_seg dksX4_init_4 22 rfl rfl
theorem dksX4_init_6 : cX4_init.data.toList.drop 137 = dktX4_init_6 := dk_seg dksX4_init_5 23 rfl rfl
theorem dksX4_init_7 : cX4_init.data.toList.drop 159 = dktX4_init_7 := dk_seg dksX4_init_6 22 rfl rfl
theorem dksX4_init_8 : cX4_init.data.toList.drop 182 = dktX4_init_8 := dk_seg dksX4_init_7 23 rfl rfl
theorem dksX4_init_9 : cX4_init.data.toList.drop 205 = dktX4_init_9 := dk_seg dksX4_init_8 23 rfl rfl
theorem dksX4_init_10 : cX4_init.data.toList.drop 229 = dktX4_init_10 := dk_seg dksX4_init_9 24 rfl rfl
theorem dX4_init_0 : decode cX4_init 0 = .ok (.aload_n 0, 1) := dk_42 (dk_at dksX4_init_0 0 rfl rfl)
theorem dX4_init_1 : decode cX4_init 1 = .ok (.invokespecial 3, 3) := dk_183 0 3 (dk_at dksX4_init_0 1 rfl rfl)
theorem dX4_init_4 : decode cX4_init 4 = .ok (.aload_n 0, 1) := dk_42 (dk_at dksX4_init_0 4 rfl rfl)
theorem dX4_init_5 : decode cX4_init 5 = .ok (.bipush 48, 2) := dk_16 48 (dk_at dksX4_init_0 5 rfl rfl)
theorem dX4_init_7 : decode cX4_init 7 = .ok (.newarray .int, 2) := dk_188_10 (dk_at dksX4_init_0 7 rfl rfl)
theorem dX4_init_9 : decode cX4_init 9 = .ok (.putfield 11, 3) := dk_181 0 11 (dk_at dksX4_init_0 9 rfl rfl)
theorem dX4_init_12 : decode cX4_init 12 = .ok (.aload_n 0, 1) := dk_42 (dk_at dksX4_init_0 12 rfl rfl)
theorem dX4_init_13 : decode cX4_init 13 = .ok (.bipush 48, 2) := dk_16 48 (dk_at dksX4_init_0 13 rfl rfl)
theorem dX4_init_15 : decode cX4_init 15 = .ok (.newarray .int, 2) := dk_188_10 (dk_at dksX4_init_0 15 rfl rfl)
theorem dX4_init_17 : decode cX4_init 17 = .ok (.putfield 15, 3) := dk_181 0 15 (dk_at dksX4_init_0 17 rfl rfl)
theorem dX4_init_20 : decode cX4_init 20 = .ok (.aload_n 0, 1) := dk_42 (dk_at dksX4_init_0 20 rfl rfl)
theorem dX4_init_21 : decode cX4_init 21 = .ok (.sipush 1024, 3) := dk_17 4 0 (dk_at dksX4_init_0 21 rfl rfl)
theorem dX4_init_24 : decode cX4_init 24 = .ok (.newarray .int, 2) := dk_188_10 (dk_at dksX4_init_1 0 rfl rfl)
theorem dX4_init_26 : decode cX4_init 26 = .ok (.putfield 18, 3) := dk_181 0 18 (dk_at dksX4_init_1 2 rfl rfl)
theorem dX4_init_29 : decode cX4_init 29 = .ok (.aload_n 0, 1) := dk_42 (dk_at dksX4_init_1 5 rfl rfl)
theorem dX4_init_30 : decode cX4_init 30 = .ok (.bipush 32, 2) := dk_16 32 (dk_at dksX4_init_1 6 rfl rfl)
theorem dX4_init_32 : decode cX4_init 32 = .ok (.newarray .int, 2) := dk_188_10 (dk_at dksX4_init_1 8 rfl rfl)
theorem dX4_init_34 : decode cX4_init 34 = .ok (.putfield 21, 3) := dk_181 0 21 (dk_at dksX4_init_1 10 rfl rfl)
theorem dX4_init_37 : decode cX4_init 37 = .ok (.aload_n 0, 1) := dk_42 (dk_at dksX4_init_1 13 rfl rfl)
theorem dX4_init_38 : decode cX4_init 38 = .ok (.sipush 1024, 3) := dk_17 4 0 (dk_at dksX4_init_1 14 rfl rfl)
theorem dX4_init_41 : decode cX4_init 41 = .ok (.newarray .int, 2) := dk_188_10 (dk_at dksX4_init_1 17 rfl rfl)
theorem dX4_init_43 : decode cX4_init 43 = .ok (.putfield 24, 3) := dk_181 0 24 (dk_at dksX4_init_1 19 rfl rfl)
theorem dX4_init_46 : decode cX4_init 46 = .ok (.aload_n 0, 1) := dk_42 (dk_at dksX4_init_1 22 rfl rfl)
theorem dX4_init_47 : decode cX4_init 47 = .ok (.sipush 1024, 3) := dk_17 4 0 (dk_at dksX4_init_2 0 rfl rfl)
theorem dX4_init_50 : decode cX4_init 50 = .ok (.newarray .boolean, 2) := dk_188_4 (dk_at dksX4_init_2 3 rfl rfl)
theorem dX4_init_52 : decode cX4_init 52 = .ok (.putfield 27, 3) := dk_181 0 27 (dk_at dksX4_init_2 5 rfl rfl)
theorem dX4_init_55 : decode cX4_init 55 = .ok (.aload_n 0, 1) := dk_42 (dk_at dksX4_init_2 8 rfl rfl)
theorem dX4_init_56 : decode cX4_init 56 = .ok (.sipush 1025, 3) := dk_17 4 1 (dk_at dksX4_init_2 9 rfl rfl)
theorem dX4_init_59 : decode cX4_init 59 = .ok (.newarray .int, 2) := dk_188_10 (dk_at dksX4_init_2 12 rfl rfl)
theorem dX4_init_61 : decode cX4_init 61 = .ok (.putfield 31, 3) := dk_181 0 31 (dk_at dksX4_init_2 14 rfl rfl)
theorem dX4_init_64 : decode cX4_init 64 = .ok (.aload_n 0, 1) := dk_42 (dk_at dksX4_init_2 17 rfl rfl)
theorem dX4_init_65 : decode cX4_init 65 = .ok (.sipush 2500, 3) := dk_17 9 196 (dk_at dksX4_init_2 18 rfl rfl)
theorem dX4_init_68 : decode cX4_init 68 = .ok (.newarray .int, 2) := dk_188_10 (dk_at dksX4_init_2 21 rfl rfl)
theorem dX4_init_70 : decode cX4_init 70 = .ok (.putfield 34, 3) := dk_181 0 34 (dk_at dksX4_init_3 0 rfl rfl)
theorem dX4_init_73 : decode cX4_init 73 = .ok (.aload_n 0, 1) := dk_42 (dk_at dksX4_init_3 3 rfl rfl)
theorem dX4_init_74 : decode cX4_init 74 = .ok (.sipush 2500, 3) := dk_17 9 196 (dk_at dksX4_init_3 4 rfl rfl)
theorem dX4_init_77 : decode cX4_init 77 = .ok (.newarray .int, 2) := dk_188_10 (dk_at dksX4_init_3 7 rfl rfl)
theorem dX4_init_79 : decode cX4_init 79 = .ok (.putfield 37, 3) := dk_181 0 37 (dk_at dksX4_init_3 9 rfl rfl)
theorem dX4_init_82 : decode cX4_init 82 = .ok (.aload_n 0, 1) := dk_42 (dk_at dksX4_init_3 12 rfl rfl)
theorem dX4_init_83 : decode cX4_init 83 = .ok (.sipush 2500, 3) := dk_17 9 196 (dk_at dksX4_init_3 13 rfl rfl)
theorem dX4_init_86 : decode cX4_init 86 = .ok (.newarray .int, 2) := dk_188_10 (dk_at dksX4_init_3 16 rfl rfl)
theorem dX4_init_88 : decode cX4_init 88 = .ok (.putfield 40, 3) := dk_181 0 40 (dk_at dksX4_init_3 18 rfl rfl)
theorem dX4_init_91 : decode cX4_init 91 = .ok (.aload_n 0, 1) := dk_42 (dk_at dksX4_init_3 21 rfl rfl)
theorem dX4_init_92 : decode cX4_init 92 = .ok (.sipush 2500, 3) := dk_17 9 196 (dk_at dksX4_init_4 0 rfl rfl)
theorem dX4_init_95 : decode cX4_init 95 = .ok (.newarray .int, 2) := dk_188_10 (dk_at dksX4_init_4 3 rfl rfl)
theorem dX4_init_97 : decode cX4_init 97 = .ok (.putfield 43, 3) := dk_181 0 43 (dk_at dksX4_init_4 5 rfl rfl)
theorem dX4_init_100 : decode cX4_init 100 = .ok (.aload_n 0, 1) := dk_42 (dk_at dksX4_init_4 8 rfl rfl)
theorem dX4_init_101 : decode cX4_init 101 = .ok (.bipush 6, 2) := dk_16 6 (dk_at dksX4_init_4 9 rfl rfl)
theorem dX4_init_103 : decode cX4_init 103 = .ok (.sipush 2500, 3) := dk_17 9 196 (dk_at dksX4_init_4 11 rfl rfl)
theorem dX4_init_106 : decode cX4_init 106 = .ok (.multianewarray 46 2, 4) := by decide +kernel
theorem dX4_init_110 : decode cX4_init 110 = .ok (.putfield 48, 3) := dk_181 0 48 (dk_at dksX4_init_4 18 rfl rfl)
theorem dX4_init_113 : decode cX4_init 113 = .ok (.aload_n 0, 1) := dk_42 (dk_at dksX4_init_4 21 rfl rfl)
theorem dX4_init_114 : decode cX4_init 114 = .ok (.sipush 2500, 3) := dk_17 9 196 (dk_at dksX4_init_5 0 rfl rfl)
theorem dX4_init_117 : decode cX4_init 117 = .ok (.newarray .int, 2) := dk_188_10 (dk_at dksX4_init_5 3 rfl rfl)
theorem dX4_init_119 : decode cX4_init 119 = .ok (.putfield 51, 3) := dk_181 0 51 (dk_at dksX4_init_5 5 rfl rfl)
theorem dX4_init_122 : decode cX4_init 122 = .ok (.aload_n 0, 1) := dk_42 (dk_at dksX4_init_5 8 rfl rfl)
theorem dX4_init_123 : decode cX4_init 123 = .ok (.sipush 2500, 3) := dk_17 9 196 (dk_at dksX4_init_5 9 rfl rfl)
theorem dX4_init_126 : decode cX4_init 126 = .ok (.newarray .int, 2) := dk_188_10 (dk_at dksX4_init_5 12 rfl rfl)
theorem dX4_init_128 : decode cX4_init 128 = .ok (.putfield 54, 3) := dk_181 0 54 (dk_at dksX4_init_5 14 rfl rfl)
theorem dX4_init_131 : decode cX4_init 131 = .ok (.aload_n 0, 1) := dk_42 (dk_at dksX4_init_5 17 rfl rfl)
theorem dX4_init_132 : decode cX4_init 132 = .ok (.sipush 2500, 3) := dk_17 9 196 (dk_at dksX4_init_5 18 rfl rfl)
theorem dX4_init_135 : decode cX4_init 135 = .ok (.newarray .int, 2) := dk_188_10 (dk_at dksX4_init_5 21 rfl rfl)
theorem dX4_init_137 : decode cX4_init 137 = .ok (.putfield 57, 3) := dk_181 0 57 (dk_at dksX4_init_6 0 rfl rfl)
theorem dX4_init_140 : decode cX4_init 140 = .ok (.aload_n 0, 1) := dk_42 (dk_at dksX4_init_6 3 rfl rfl)
theorem dX4_init_141 : decode cX4_init 141 = .ok (.sipush 2500, 3) := dk_17 9 196 (dk_at dksX4_init_6 4 rfl rfl)
theorem dX4_init_144 : decode cX4_init 144 = .ok (.newarray .int, 2) := dk_188_10 (dk_at dksX4_init_6 7 rfl rfl)
theorem dX4_init_146 : decode cX4_init 146 = .ok (.putfield 60, 3) := dk_181 0 60 (dk_at dksX4_init_6 9 rfl rfl)
theorem dX4_init_149 : decode cX4_init 149 = .ok (.aload_n 0, 1) := dk_42 (dk_at dksX4_init_6 12 rfl rfl)
theorem dX4_init_150 : decode cX4_init 150 = .ok (.sipush 2500, 3) := dk_17 9 196 (dk_at dksX4_init_6 13 rfl rfl)
theorem dX4_init_153 : decode cX4_init 153 = .ok (.newarray .int, 2) := dk_188_10 (dk_at dksX4_init_6 16 rfl rfl)
theorem dX4_init_155 : decode cX4_init 155 = .ok (.putfield 63, 3) := dk_181 0 63 (dk_at dksX4_init_6 18 rfl rfl)
theorem dX4_init_158 : decode cX4_init 158 = .ok (.aload_n 0, 1) := dk_42 (dk_at dksX4_init_6 21 rfl rfl)
theorem dX4_init_159 : decode cX4_init 159 = .ok (.sipush 2500, 3) := dk_17 9 196 (dk_at dksX4_init_7 0 rfl rfl)
theorem dX4_init_162 : decode cX4_init 162 = .ok (.newarray .int, 2) := dk_188_10 (dk_at dksX4_init_7 3 rfl rfl)
theorem dX4_init_164 : decode cX4_init 164 = .ok (.putfield 66, 3) := dk_181 0 66 (dk_at dksX4_init_7 5 rfl rfl)
theorem dX4_init_167 : decode cX4_init 167 = .ok (.aload_n 0, 1) := dk_42 (dk_at dksX4_init_7 8 rfl rfl)
theorem dX4_init_168 : decode cX4_init 168 = .ok (.sipush 2500, 3) := dk_17 9 196 (dk_at dksX4_init_7 9 rfl rfl)
theorem dX4_init_171 : decode cX4_init 171 = .ok (.newarray .int, 2) := dk_188_10 (dk_at dksX4_init_7 12 rfl rfl)
theorem dX4_init_173 : decode cX4_init 173 = .ok (.putfield 69, 3) := dk_181 0 69 (dk_at dksX4_init_7 14 rfl rfl)
theorem dX4_init_176 : decode cX4_init 176 = .ok (.aload_n 0, 1) := dk_42 (dk_at dksX4_init_7 17 rfl rfl)
theorem dX4_init_177 : decode cX4_init 177 = .ok (.sipush 2500, 3) := dk_17 9 196 (dk_at dksX4_init_7 18 rfl rfl)
theorem dX4_init_180 : decode cX4_init 180 = .ok (.newarray .int, 2) := dk_188_10 (dk_at dksX4_init_7 21 rfl rfl)
theorem dX4_init_182 : decode cX4_init 182 = .ok (.putfield 72, 3) := dk_181 0 72 (dk_at dksX4_init_8 0 rfl rfl)
theorem dX4_init_185 : decode cX4_init 185 = .ok (.aload_n 0, 1) := dk_42 (dk_at dksX4_init_8 3 rfl rfl)
theorem dX4_init_186 : decode cX4_init 186 = .ok (.sipush 1024, 3) := dk_17 4 0 (dk_at dksX4_init_8 4 rfl rfl)
theorem dX4_init_189 : decode cX4_init 189 = .ok (.newarray .boolean, 2) := dk_188_4 (dk_at dksX4_init_8 7 rfl rfl)
theorem dX4_init_191 : decode cX4_init 191 = .ok (.putfield 75, 3) := dk_181 0 75 (dk_at dksX4_init_8 9 rfl rfl)
theorem dX4_init_194 : decode cX4_init 194 = .ok (.aload_n 0, 1) := dk_42 (dk_at dksX4_init_8 12 rfl rfl)
theorem dX4_init_195 : decode cX4_init 195 = .ok (.bipush 60, 2) := dk_16 60 (dk_at dksX4_init_8 13 rfl rfl)
theorem dX4_init_197 : decode cX4_init 197 = .ok (.newarray .int, 2) := dk_188_10 (dk_at dksX4_init_8 15 rfl rfl)
theorem dX4_init_199 : decode cX4_init 199 = .ok (.putfield 78, 3) := dk_181 0 78 (dk_at dksX4_init_8 17 rfl rfl)
theorem dX4_init_202 : decode cX4_init 202 = .ok (.aload_n 0, 1) := dk_42 (dk_at dksX4_init_8 20 rfl rfl)
theorem dX4_init_203 : decode cX4_init 203 = .ok (.bipush 9, 2) := dk_16 9 (dk_at dksX4_init_8 21 rfl rfl)
theorem dX4_init_205 : decode cX4_init 205 = .ok (.newarray .int, 2) := dk_188_10 (dk_at dksX4_init_9 0 rfl rfl)
theorem dX4_init_207 : decode cX4_init 207 = .ok (.putfield 81, 3) := dk_181 0 81 (dk_at dksX4_init_9 2 rfl rfl)
theorem dX4_init_210 : decode cX4_init 210 = .ok (.aload_n 0, 1) := dk_42 (dk_at dksX4_init_9 5 rfl rfl)
theorem dX4_init_211 : decode cX4_init 211 = .ok (.bipush 120, 2) := dk_16 120 (dk_at dksX4_init_9 6 rfl rfl)
theorem dX4_init_213 : decode cX4_init 213 = .ok (.newarray .int, 2) := dk_188_10 (dk_at dksX4_init_9 8 rfl rfl)
theorem dX4_init_215 : decode cX4_init 215 = .ok (.putfield 84, 3) := dk_181 0 84 (dk_at dksX4_init_9 10 rfl rfl)
theorem dX4_init_218 : decode cX4_init 218 = .ok (.aload_n 0, 1) := dk_42 (dk_at dksX4_init_9 13 rfl rfl)
theorem dX4_init_219 : decode cX4_init 219 = .ok (.iconst 4, 1) := dk_7 (dk_at dksX4_init_9 14 rfl rfl)
theorem dX4_init_220 : decode cX4_init 220 = .ok (.newarray .int, 2) := dk_188_10 (dk_at dksX4_init_9 15 rfl rfl)
theorem dX4_init_222 : decode cX4_init 222 = .ok (.dup, 1) := dk_89 (dk_at dksX4_init_9 17 rfl rfl)
theorem dX4_init_223 : decode cX4_init 223 = .ok (.iconst 0, 1) := dk_3 (dk_at dksX4_init_9 18 rfl rfl)
theorem dX4_init_224 : decode cX4_init 224 = .ok (.iconst (-1), 1) := dk_2 (dk_at dksX4_init_9 19 rfl rfl)
theorem dX4_init_225 : decode cX4_init 225 = .ok (.iastore, 1) := dk_79 (dk_at dksX4_init_9 20 rfl rfl)
theorem dX4_init_226 : decode cX4_init 226 = .ok (.dup, 1) := dk_89 (dk_at dksX4_init_9 21 rfl rfl)
theorem dX4_init_227 : decode cX4_init 227 = .ok (.iconst 1, 1) := dk_4 (dk_at dksX4_init_9 22 rfl rfl)
theorem dX4_init_228 : decode cX4_init 228 = .ok (.iconst (-1), 1) := dk_2 (dk_at dksX4_init_9 23 rfl rfl)
theorem dX4_init_229 : decode cX4_init 229 = .ok (.iastore, 1) := dk_79 (dk_at dksX4_init_10 0 rfl rfl)
theorem dX4_init_230 : decode cX4_init 230 = .ok (.dup, 1) := dk_89 (dk_at dksX4_init_10 1 rfl rfl)
theorem dX4_init_231 : decode cX4_init 231 = .ok (.iconst 2, 1) := dk_5 (dk_at dksX4_init_10 2 rfl rfl)
theorem dX4_init_232 : decode cX4_init 232 = .ok (.iconst (-1), 1) := dk_2 (dk_at dksX4_init_10 3 rfl rfl)
theorem dX4_init_233 : decode cX4_init 233 = .ok (.iastore, 1) := dk_79 (dk_at dksX4_init_10 4 rfl rfl)
theorem dX4_init_234 : decode cX4_init 234 = .ok (.dup, 1) := dk_89 (dk_at dksX4_init_10 5 rfl rfl)
theorem dX4_init_235 : decode cX4_init 235 = .ok (.iconst 3, 1) := dk_6 (dk_at dksX4_init_10 6 rfl rfl)
theorem dX4_init_236 : decode cX4_init 236 = .ok (.iconst (-1), 1) := dk_2 (dk_at dksX4_init_10 7 rfl rfl)
theorem dX4_init_237 : decode cX4_init 237 = .ok (.iastore, 1) := dk_79 (dk_at dksX4_init_10 8 rfl rfl)
theorem dX4_init_238 : decode cX4_init 238 = .ok (.putfield 87, 3) := dk_181 0 87 (dk_at dksX4_init_10 9 rfl rfl)
theorem dX4_init_241 : decode cX4_init 241 = .ok (.aload_n 0, 1) := dk_42 (dk_at dksX4_init_10 12 rfl rfl)
theorem dX4_init_242 : decode cX4_init 242 = .ok (.iconst 4, 1) := dk_7 (dk_at dksX4_init_10 13 rfl rfl)
theorem dX4_init_243 : decode cX4_init 243 = .ok (.bipush 12, 2) := dk_16 12 (dk_at dksX4_init_10 14 rfl rfl)
theorem dX4_init_245 : decode cX4_init 245 = .ok (.multianewarray 46 2, 4) := by decide +kernel
theorem dX4_init_249 : decode cX4_init 249 = .ok (.putfield 90, 3) := dk_181 0 90 (dk_at dksX4_init_10 20 rfl rfl)
theorem dX4_init_252 : decode cX4_init 252 = .ok (.return_, 1) := dk_177 (dk_at dksX4_init_10 23 rfl rfl)
abbrev cX4_set : ByteArray := prog_16_method_10_code
def yX4_set : MethodName := ⟨RX4, "set", "(IIII)I"⟩
def dkwX4_set_2 : List UInt8 := [21, 5, 21, 4, 79, 21, 6, 172]
abbrev dktX4_set_2 : List UInt8 := dkwX4_set_2 ++ []
def dkwX4_set_1 : List UInt8 := [16, 254, 172, 27, 28, 29, 184, 0, 115, 54, 5, 42, 180, 0, 11, 21, 5, 46, 54, 6, 42, 180, 0, 11]
abbrev dktX4_set_1 : List UInt8 := dkwX4_set_1 ++ dktX4_set_2
def dkwX4_set_0 : List UInt8 := [27, 28, 29, 184, 0, 109, 154, 0, 5, 2, 172, 21, 4, 133, 9, 20, 0, 113, 184, 0, 99, 154, 0, 6]
abbrev dktX4_set_0 : List UInt8 := dkwX4_set_0 ++ dktX4_set_1
theorem dksX4_set_0 : cX4_set.data.toList.drop 0 = dktX4_set_0 := by decide +kernel
theorem dksX4_set_1 : cX4_set.data.toList.drop 24 = dktX4_set_1 := dk_seg dksX4_set_0 24 rfl rfl
theorem dksX4_set_2 : cX4_set.data.toList.drop 48 = dktX4_set_2 := dk_seg dksX4_set_1 24 rfl rfl
theorem dX4_set_0 : decode cX4_set 0 = .ok (.iload_n 1, 1) := dk_27 (dk_at dksX4_set_0 0 rfl rfl)
theorem dX4_set_1 : decode cX4_set 1 = .ok (.iload_n 2, 1) := dk_28 (dk_at dksX4_set_0 1 rfl rfl)
theorem dX4_set_2 : decode cX4_set 2 = .ok (.iload_n 3, 1) := dk_29 (dk_at dksX4_set_0 2 rfl rfl)
theorem dX4_set_3 : decode cX4_set 3 = .ok (.invokestatic 109, 3) := dk_184 0 109 (dk_at dksX4_set_0 3 rfl rfl)
theorem dX4_set_6 : decode cX4_set 6 = .ok (.ifCond .ne 5, 3) := dk_154 0 5 (dk_at dksX4_set_0 6 rfl rfl)
theorem dX4_set_9 : decode cX4_set 9 = .ok (.iconst (-1), 1) := dk_2 (dk_at dksX4_set_0 9 rfl rfl)
theorem dX4_set_10 : decode cX4_set 10 = .ok (.ireturn, 1) := dk_172 (dk_at dksX4_set_0 10 rfl rfl)
theorem dX4_set_11 : decode cX4_set 11 = .ok (.iload 4, 2) := dk_21 4 (dk_at dksX4_set_0 11 rfl rfl)
theorem dX4_set_13 : decode cX4_set 13 = .ok (.i2l, 1) := dk_133 (dk_at dksX4_set_0 13 rfl rfl)
theorem dX4_set_14 : decode cX4_set 14 = .ok (.lconst 0, 1) := dk_9 (dk_at dksX4_set_0 14 rfl rfl)
theorem dX4_set_15 : decode cX4_set 15 = .ok (.ldc2_w 113, 3) := dk_20 0 113 (dk_at dksX4_set_0 15 rfl rfl)
theorem dX4_set_18 : decode cX4_set 18 = .ok (.invokestatic 99, 3) := dk_184 0 99 (dk_at dksX4_set_0 18 rfl rfl)
theorem dX4_set_21 : decode cX4_set 21 = .ok (.ifCond .ne 6, 3) := dk_154 0 6 (dk_at dksX4_set_0 21 rfl rfl)
theorem dX4_set_24 : decode cX4_set 24 = .ok (.bipush (-2), 2) := dk_16 254 (dk_at dksX4_set_1 0 rfl rfl)
theorem dX4_set_26 : decode cX4_set 26 = .ok (.ireturn, 1) := dk_172 (dk_at dksX4_set_1 2 rfl rfl)
theorem dX4_set_27 : decode cX4_set 27 = .ok (.iload_n 1, 1) := dk_27 (dk_at dksX4_set_1 3 rfl rfl)
theorem dX4_set_28 : decode cX4_set 28 = .ok (.iload_n 2, 1) := dk_28 (dk_at dksX4_set_1 4 rfl rfl)
theorem dX4_set_29 : decode cX4_set 29 = .ok (.iload_n 3, 1) := dk_29 (dk_at dksX4_set_1 5 rfl rfl)
theorem dX4_set_30 : decode cX4_set 30 = .ok (.invokestatic 115, 3) := dk_184 0 115 (dk_at dksX4_set_1 6 rfl rfl)
theorem dX4_set_33 : decode cX4_set 33 = .ok (.istore 5, 2) := dk_54 5 (dk_at dksX4_set_1 9 rfl rfl)
theorem dX4_set_35 : decode cX4_set 35 = .ok (.aload_n 0, 1) := dk_42 (dk_at dksX4_set_1 11 rfl rfl)
theorem dX4_set_36 : decode cX4_set 36 = .ok (.getfield 11, 3) := dk_180 0 11 (dk_at dksX4_set_1 12 rfl rfl)
theorem dX4_set_39 : decode cX4_set 39 = .ok (.iload 5, 2) := dk_21 5 (dk_at dksX4_set_1 15 rfl rfl)
theorem dX4_set_41 : decode cX4_set 41 = .ok (.iaload, 1) := dk_46 (dk_at dksX4_set_1 17 rfl rfl)
theorem dX4_set_42 : decode cX4_set 42 = .ok (.istore 6, 2) := dk_54 6 (dk_at dksX4_set_1 18 rfl rfl)
theorem dX4_set_44 : decode cX4_set 44 = .ok (.aload_n 0, 1) := dk_42 (dk_at dksX4_set_1 20 rfl rfl)
theorem dX4_set_45 : decode cX4_set 45 = .ok (.getfield 11, 3) := dk_180 0 11 (dk_at dksX4_set_1 21 rfl rfl)
theorem dX4_set_48 : decode cX4_set 48 = .ok (.iload 5, 2) := dk_21 5 (dk_at dksX4_set_2 0 rfl rfl)
theorem dX4_set_50 : decode cX4_set 50 = .ok (.iload 4, 2) := dk_21 4 (dk_at dksX4_set_2 2 rfl rfl)
theorem dX4_set_52 : decode cX4_set 52 = .ok (.iastore, 1) := dk_79 (dk_at dksX4_set_2 4 rfl rfl)
theorem dX4_set_53 : decode cX4_set 53 = .ok (.iload 6, 2) := dk_21 6 (dk_at dksX4_set_2 5 rfl rfl)
theorem dX4_set_55 : decode cX4_set 55 = .ok (.ireturn, 1) := dk_172 (dk_at dksX4_set_2 7 rfl rfl)
abbrev cX4_isPlace : ByteArray := prog_16_method_9_code
def yX4_isPlace : MethodName := ⟨RX4, "isPlace", "(III)Z"⟩
def dkwX4_isPlace_1 : List UInt8 := [9, 20, 0, 107, 184, 0, 99, 153, 0, 7, 4, 167, 0, 4, 3, 172]
abbrev dktX4_isPlace_1 : List UInt8 := dkwX4_isPlace_1 ++ []
def dkwX4_isPlace_0 : List UInt8 := [26, 133, 9, 10, 184, 0, 99, 153, 0, 31, 27, 133, 9, 20, 0, 107, 184, 0, 99, 153, 0, 19, 28, 133]
abbrev dktX4_isPlace_0 : List UInt8 := dkwX4_isPlace_0 ++ dktX4_isPlace_1
theorem dksX4_isPlace_0 : cX4_isPlace.data.toList.drop 0 = dktX4_isPlace_0 := by decide +kernel
theorem dksX4_isPlace_1 : cX4_isPlace.data.toList.drop 24 = dktX4_isPlace_1 := dk_seg dksX4_isPlace_0 24 rfl rfl
theorem dX4_isPlace_0 : decode cX4_isPlace 0 = .ok (.iload_n 0, 1) := dk_26 (dk_at dksX4_isPlace_0 0 rfl rfl)
theorem dX4_isPlace_1 : decode cX4_isPlace 1 = .ok (.i2l, 1) := dk_133 (dk_at dksX4_isPlace_0 1 rfl rfl)
theorem dX4_isPlace_2 : decode cX4_isPlace 2 = .ok (.lconst 0, 1) := dk_9 (dk_at dksX4_isPlace_0 2 rfl rfl)
theorem dX4_isPlace_3 : decode cX4_isPlace 3 = .ok (.lconst 1, 1) := dk_10 (dk_at dksX4_isPlace_0 3 rfl rfl)
theorem dX4_isPlace_4 : decode cX4_isPlace 4 = .ok (.invokestatic 99, 3) := dk_184 0 99 (dk_at dksX4_isPlace_0 4 rfl rfl)
theorem dX4_isPlace_7 : decode cX4_isPlace 7 = .ok (.ifCond .eq 31, 3) := dk_153 0 31 (dk_at dksX4_isPlace_0 7 rfl rfl)
theorem dX4_isPlace_10 : decode cX4_isPlace 10 = .ok (.iload_n 1, 1) := dk_27 (dk_at dksX4_isPlace_0 10 rfl rfl)
theorem dX4_isPlace_11 : decode cX4_isPlace 11 = .ok (.i2l, 1) := dk_133 (dk_at dksX4_isPlace_0 11 rfl rfl)
theorem dX4_isPlace_12 : decode cX4_isPlace 12 = .ok (.lconst 0, 1) := dk_9 (dk_at dksX4_isPlace_0 12 rfl rfl)
theorem dX4_isPlace_13 : decode cX4_isPlace 13 = .ok (.ldc2_w 107, 3) := dk_20 0 107 (dk_at dksX4_isPlace_0 13 rfl rfl)
theorem dX4_isPlace_16 : decode cX4_isPlace 16 = .ok (.invokestatic 99, 3) := dk_184 0 99 (dk_at dksX4_isPlace_0 16 rfl rfl)
theorem dX4_isPlace_19 : decode cX4_isPlace 19 = .ok (.ifCond .eq 19, 3) := dk_153 0 19 (dk_at dksX4_isPlace_0 19 rfl rfl)
theorem dX4_isPlace_22 : decode cX4_isPlace 22 = .ok (.iload_n 2, 1) := dk_28 (dk_at dksX4_isPlace_0 22 rfl rfl)
theorem dX4_isPlace_23 : decode cX4_isPlace 23 = .ok (.i2l, 1) := dk_133 (dk_at dksX4_isPlace_0 23 rfl rfl)
theorem dX4_isPlace_24 : decode cX4_isPlace 24 = .ok (.lconst 0, 1) := dk_9 (dk_at dksX4_isPlace_1 0 rfl rfl)
theorem dX4_isPlace_25 : decode cX4_isPlace 25 = .ok (.ldc2_w 107, 3) := dk_20 0 107 (dk_at dksX4_isPlace_1 1 rfl rfl)
theorem dX4_isPlace_28 : decode cX4_isPlace 28 = .ok (.invokestatic 99, 3) := dk_184 0 99 (dk_at dksX4_isPlace_1 4 rfl rfl)
theorem dX4_isPlace_31 : decode cX4_isPlace 31 = .ok (.ifCond .eq 7, 3) := dk_153 0 7 (dk_at dksX4_isPlace_1 7 rfl rfl)
theorem dX4_isPlace_34 : decode cX4_isPlace 34 = .ok (.iconst 1, 1) := dk_4 (dk_at dksX4_isPlace_1 10 rfl rfl)
theorem dX4_isPlace_35 : decode cX4_isPlace 35 = .ok (.goto 4, 3) := dk_167 0 4 (dk_at dksX4_isPlace_1 11 rfl rfl)
theorem dX4_isPlace_38 : decode cX4_isPlace 38 = .ok (.iconst 0, 1) := dk_3 (dk_at dksX4_isPlace_1 14 rfl rfl)
theorem dX4_isPlace_39 : decode cX4_isPlace 39 = .ok (.ireturn, 1) := dk_172 (dk_at dksX4_isPlace_1 15 rfl rfl)
abbrev cX4_in : ByteArray := prog_16_method_2_code
def yX4_in : MethodName := ⟨RX4, "in", "(JJJ)Z"⟩
def dkwX4_in_0 : List UInt8 := [30, 32, 148, 155, 0, 14, 30, 22, 4, 148, 157, 0, 7, 4, 167, 0, 4, 3, 172]
abbrev dktX4_in_0 : List UInt8 := dkwX4_in_0 ++ []
theorem dksX4_in_0 : cX4_in.data.toList.drop 0 = dktX4_in_0 := by decide +kernel
theorem dX4_in_0 : decode cX4_in 0 = .ok (.lload_n 0, 1) := dk_30 (dk_at dksX4_in_0 0 rfl rfl)
theorem dX4_in_1 : decode cX4_in 1 = .ok (.lload_n 2, 1) := dk_32 (dk_at dksX4_in_0 1 rfl rfl)
theorem dX4_in_2 : decode cX4_in 2 = .ok (.lcmp, 1) := dk_148 (dk_at dksX4_in_0 2 rfl rfl)
theorem dX4_in_3 : decode cX4_in 3 = .ok (.ifCond .lt 14, 3) := dk_155 0 14 (dk_at dksX4_in_0 3 rfl rfl)
theorem dX4_in_6 : decode cX4_in 6 = .ok (.lload_n 0, 1) := dk_30 (dk_at dksX4_in_0 6 rfl rfl)
theorem dX4_in_7 : decode cX4_in 7 = .ok (.lload 4, 2) := dk_22 4 (dk_at dksX4_in_0 7 rfl rfl)
theorem dX4_in_9 : decode cX4_in 9 = .ok (.lcmp, 1) := dk_148 (dk_at dksX4_in_0 9 rfl rfl)
theorem dX4_in_10 : decode cX4_in 10 = .ok (.ifCond .gt 7, 3) := dk_157 0 7 (dk_at dksX4_in_0 10 rfl rfl)
theorem dX4_in_13 : decode cX4_in 13 = .ok (.iconst 1, 1) := dk_4 (dk_at dksX4_in_0 13 rfl rfl)
theorem dX4_in_14 : decode cX4_in 14 = .ok (.goto 4, 3) := dk_167 0 4 (dk_at dksX4_in_0 14 rfl rfl)
theorem dX4_in_17 : decode cX4_in 17 = .ok (.iconst 0, 1) := dk_3 (dk_at dksX4_in_0 17 rfl rfl)
theorem dX4_in_18 : decode cX4_in 18 = .ok (.ireturn, 1) := dk_172 (dk_at dksX4_in_0 18 rfl rfl)
abbrev cX4_placeOf : ByteArray := prog_16_method_8_code
def yX4_placeOf : MethodName := ⟨RX4, "placeOf", "(III)I"⟩
def dkwX4_placeOf_0 : List UInt8 := [16, 9, 26, 104, 6, 27, 104, 96, 28, 96, 172]
abbrev dktX4_placeOf_0 : List UInt8 := dkwX4_placeOf_0 ++ []
theorem dksX4_placeOf_0 : cX4_placeOf.data.toList.drop 0 = dktX4_placeOf_0 := by decide +kernel
theorem dX4_placeOf_0 : decode cX4_placeOf 0 = .ok (.bipush 9, 2) := dk_16 9 (dk_at dksX4_placeOf_0 0 rfl rfl)
theorem dX4_placeOf_2 : decode cX4_placeOf 2 = .ok (.iload_n 0, 1) := dk_26 (dk_at dksX4_placeOf_0 2 rfl rfl)
theorem dX4_placeOf_3 : decode cX4_placeOf 3 = .ok (.imul, 1) := dk_104 (dk_at dksX4_placeOf_0 3 rfl rfl)
theorem dX4_placeOf_4 : decode cX4_placeOf 4 = .ok (.iconst 3, 1) := dk_6 (dk_at dksX4_placeOf_0 4 rfl rfl)
theorem dX4_placeOf_5 : decode cX4_placeOf 5 = .ok (.iload_n 1, 1) := dk_27 (dk_at dksX4_placeOf_0 5 rfl rfl)
theorem dX4_placeOf_6 : decode cX4_placeOf 6 = .ok (.imul, 1) := dk_104 (dk_at dksX4_placeOf_0 6 rfl rfl)
theorem dX4_placeOf_7 : decode cX4_placeOf 7 = .ok (.iadd, 1) := dk_96 (dk_at dksX4_placeOf_0 7 rfl rfl)
theorem dX4_placeOf_8 : decode cX4_placeOf 8 = .ok (.iload_n 2, 1) := dk_28 (dk_at dksX4_placeOf_0 8 rfl rfl)
theorem dX4_placeOf_9 : decode cX4_placeOf 9 = .ok (.iadd, 1) := dk_96 (dk_at dksX4_placeOf_0 9 rfl rfl)
theorem dX4_placeOf_10 : decode cX4_placeOf 10 = .ok (.ireturn, 1) := dk_172 (dk_at dksX4_placeOf_0 10 rfl rfl)
abbrev cX4_of : ByteArray := prog_16_method_11_code
def yX4_of : MethodName := ⟨RX4, "of", "(III)I"⟩
def dkwX4_of_1 : List UInt8 := [172]
abbrev dktX4_of_1 : List UInt8 := dkwX4_of_1 ++ []
def dkwX4_of_0 : List UInt8 := [27, 28, 29, 184, 0, 109, 153, 0, 17, 42, 180, 0, 11, 27, 28, 29, 184, 0, 115, 46, 167, 0, 4, 2]
abbrev dktX4_of_0 : List UInt8 := dkwX4_of_0 ++ dktX4_of_1
theorem dksX4_of_0 : cX4_of.data.toList.drop 0 = dktX4_of_0 := by decide +kernel
theorem dksX4_of_1 : cX4_of.data.toList.drop 24 = dktX4_of_1 := dk_seg dksX4_of_0 24 rfl rfl
theorem dX4_of_0 : decode cX4_of 0 = .ok (.iload_n 1, 1) := dk_27 (dk_at dksX4_of_0 0 rfl rfl)
theorem dX4_of_1 : decode cX4_of 1 = .ok (.iload_n 2, 1) := dk_28 (dk_at dksX4_of_0 1 rfl rfl)
theorem dX4_of_2 : decode cX4_of 2 = .ok (.iload_n 3, 1) := dk_29 (dk_at dksX4_of_0 2 rfl rfl)
theorem dX4_of_3 : decode cX4_of 3 = .ok (.invokestatic 109, 3) := dk_184 0 109 (dk_at dksX4_of_0 3 rfl rfl)
theorem dX4_of_6 : decode cX4_of 6 = .ok (.ifCond .eq 17, 3) := dk_153 0 17 (dk_at dksX4_of_0 6 rfl rfl)
theorem dX4_of_9 : decode cX4_of 9 = .ok (.aload_n 0, 1) := dk_42 (dk_at dksX4_of_0 9 rfl rfl)
theorem dX4_of_10 : decode cX4_of 10 = .ok (.getfield 11, 3) := dk_180 0 11 (dk_at dksX4_of_0 10 rfl rfl)
theorem dX4_of_13 : decode cX4_of 13 = .ok (.iload_n 1, 1) := dk_27 (dk_at dksX4_of_0 13 rfl rfl)
theorem dX4_of_14 : decode cX4_of 14 = .ok (.iload_n 2, 1) := dk_28 (dk_at dksX4_of_0 14 rfl rfl)
theorem dX4_of_15 : decode cX4_of 15 = .ok (.iload_n 3, 1) := dk_29 (dk_at dksX4_of_0 15 rfl rfl)
theorem dX4_of_16 : decode cX4_of 16 = .ok (.invokestatic 115, 3) := dk_184 0 115 (dk_at dksX4_of_0 16 rfl rfl)
theorem dX4_of_19 : decode cX4_of 19 = .ok (.iaload, 1) := dk_46 (dk_at dksX4_of_0 19 rfl rfl)
theorem dX4_of_20 : decode cX4_of 20 = .ok (.goto 4, 3) := dk_167 0 4 (dk_at dksX4_of_0 20 rfl rfl)
theorem dX4_of_23 : decode cX4_of 23 = .ok (.iconst (-1), 1) := dk_2 (dk_at dksX4_of_0 23 rfl rfl)
theorem dX4_of_24 : decode cX4_of 24 = .ok (.ireturn, 1) := dk_172 (dk_at dksX4_of_1 0 rfl rfl)
abbrev cX4_value : ByteArray := prog_16_method_14_code
def yX4_value : MethodName := ⟨RX4, "value", "(III)I"⟩
def dkwX4_value_1 : List UInt8 := [182, 0, 127, 167, 0, 4, 2, 172]
abbrev dktX4_value_1 : List UInt8 := dkwX4_value_1 ++ []
def dkwX4_value_0 : List UInt8 := [27, 133, 9, 10, 184, 0, 99, 153, 0, 21, 28, 29, 184, 0, 123, 153, 0, 13, 42, 27, 28, 29]
abbrev dktX4_value_0 : List UInt8 := dkwX4_value_0 ++ dktX4_value_1
theorem dksX4_value_0 : cX4_value.data.toList.drop 0 = dktX4_value_0 := by decide +kernel
theorem dksX4_value_1 : cX4_value.data.toList.drop 22 = dktX4_value_1 := dk_seg dksX4_value_0 22 rfl rfl
theorem dX4_value_0 : decode cX4_value 0 = .ok (.iload_n 1, 1) := dk_27 (dk_at dksX4_value_0 0 rfl rfl)
theorem dX4_value_1 : decode cX4_value 1 = .ok (.i2l, 1) := dk_133 (dk_at dksX4_value_0 1 rfl rfl)
theorem dX4_value_2 : decode cX4_value 2 = .ok (.lconst 0, 1) := dk_9 (dk_at dksX4_value_0 2 rfl rfl)
theorem dX4_value_3 : decode cX4_value 3 = .ok (.lconst 1, 1) := dk_10 (dk_at dksX4_value_0 3 rfl rfl)
theorem dX4_value_4 : decode cX4_value 4 = .ok (.invokestatic 99, 3) := dk_184 0 99 (dk_at dksX4_value_0 4 rfl rfl)
theorem dX4_value_7 : decode cX4_value 7 = .ok (.ifCond .eq 21, 3) := dk_153 0 21 (dk_at dksX4_value_0 7 rfl rfl)
theorem dX4_value_10 : decode cX4_value 10 = .ok (.iload_n 2, 1) := dk_28 (dk_at dksX4_value_0 10 rfl rfl)
theorem dX4_value_11 : decode cX4_value 11 = .ok (.iload_n 3, 1) := dk_29 (dk_at dksX4_value_0 11 rfl rfl)
theorem dX4_value_12 : decode cX4_value 12 = .ok (.invokestatic 123, 3) := dk_184 0 123 (dk_at dksX4_value_0 12 rfl rfl)
theorem dX4_value_15 : decode cX4_value 15 = .ok (.ifCond .eq 13, 3) := dk_153 0 13 (dk_at dksX4_value_0 15 rfl rfl)
theorem dX4_value_18 : decode cX4_value 18 = .ok (.aload_n 0, 1) := dk_42 (dk_at dksX4_value_0 18 rfl rfl)
theorem dX4_value_19 : decode cX4_value 19 = .ok (.iload_n 1, 1) := dk_27 (dk_at dksX4_value_0 19 rfl rfl)
theorem dX4_value_20 : decode cX4_value 20 = .ok (.iload_n 2, 1) := dk_28 (dk_at dksX4_value_0 20 rfl rfl)
theorem dX4_value_21 : decode cX4_value 21 = .ok (.iload_n 3, 1) := dk_29 (dk_at dksX4_value_0 21 rfl rfl)
theorem dX4_value_22 : decode cX4_value 22 = .ok (.invokevirtual 127, 3) := dk_182 0 127 (dk_at dksX4_value_1 0 rfl rfl)
theorem dX4_value_25 : decode cX4_value 25 = .ok (.goto 4, 3) := dk_167 0 4 (dk_at dksX4_value_1 3 rfl rfl)
theorem dX4_value_28 : decode cX4_value 28 = .ok (.iconst (-1), 1) := dk_2 (dk_at dksX4_value_1 6 rfl rfl)
theorem dX4_value_29 : decode cX4_value 29 = .ok (.ireturn, 1) := dk_172 (dk_at dksX4_value_1 7 rfl rfl)
abbrev cX4_isSpot : ByteArray := prog_16_method_7_code
def yX4_isSpot : MethodName := ⟨RX4, "isSpot", "(II)Z"⟩
def dkwX4_isSpot_0 : List UInt8 := [26, 184, 0, 103, 153, 0, 14, 27, 184, 0, 103, 153, 0, 7, 4, 167, 0, 4, 3, 172]
abbrev dktX4_isSpot_0 : List UInt8 := dkwX4_isSpot_0 ++ []
theorem dksX4_isSpot_0 : cX4_isSpot.data.toList.drop 0 = dktX4_isSpot_0 := by decide +kernel
theorem dX4_isSpot_0 : decode cX4_isSpot 0 = .ok (.iload_n 0, 1) := dk_26 (dk_at dksX4_isSpot_0 0 rfl rfl)
theorem dX4_isSpot_1 : decode cX4_isSpot 1 = .ok (.invokestatic 103, 3) := dk_184 0 103 (dk_at dksX4_isSpot_0 1 rfl rfl)
theorem dX4_isSpot_4 : decode cX4_isSpot 4 = .ok (.ifCond .eq 14, 3) := dk_153 0 14 (dk_at dksX4_isSpot_0 4 rfl rfl)
theorem dX4_isSpot_7 : decode cX4_isSpot 7 = .ok (.iload_n 1, 1) := dk_27 (dk_at dksX4_isSpot_0 7 rfl rfl)
theorem dX4_isSpot_8 : decode cX4_isSpot 8 = .ok (.invokestatic 103, 3) := dk_184 0 103 (dk_at dksX4_isSpot_0 8 rfl rfl)
theorem dX4_isSpot_11 : decode cX4_isSpot 11 = .ok (.ifCond .eq 7, 3) := dk_153 0 7 (dk_at dksX4_isSpot_0 11 rfl rfl)
theorem dX4_isSpot_14 : decode cX4_isSpot 14 = .ok (.iconst 1, 1) := dk_4 (dk_at dksX4_isSpot_0 14 rfl rfl)
theorem dX4_isSpot_15 : decode cX4_isSpot 15 = .ok (.goto 4, 3) := dk_167 0 4 (dk_at dksX4_isSpot_0 15 rfl rfl)
theorem dX4_isSpot_18 : decode cX4_isSpot 18 = .ok (.iconst 0, 1) := dk_3 (dk_at dksX4_isSpot_0 18 rfl rfl)
theorem dX4_isSpot_19 : decode cX4_isSpot 19 = .ok (.ireturn, 1) := dk_172 (dk_at dksX4_isSpot_0 19 rfl rfl)
abbrev cX4_isCoordinate : ByteArray := prog_16_method_6_code
def yX4_isCoordinate : MethodName := ⟨RX4, "isCoordinate", "(I)Z"⟩
def dkwX4_isCoordinate_0 : List UInt8 := [26, 133, 9, 20, 0, 97, 184, 0, 99, 172]
abbrev dktX4_isCoordinate_0 : List UInt8 := dkwX4_isCoordinate_0 ++ []
theorem dksX4_isCoordinate_0 : cX4_isCoordinate.data.toList.drop 0 = dktX4_isCoordinate_0 := by decide +kernel
theorem dX4_isCoordinate_0 : decode cX4_isCoordinate 0 = .ok (.iload_n 0, 1) := dk_26 (dk_at dksX4_isCoordinate_0 0 rfl rfl)
theorem dX4_isCoordinate_1 : decode cX4_isCoordinate 1 = .ok (.i2l, 1) := dk_133 (dk_at dksX4_isCoordinate_0 1 rfl rfl)
theorem dX4_isCoordinate_2 : decode cX4_isCoordinate 2 = .ok (.lconst 0, 1) := dk_9 (dk_at dksX4_isCoordinate_0 2 rfl rfl)
theorem dX4_isCoordinate_3 : decode cX4_isCoordinate 3 = .ok (.ldc2_w 97, 3) := dk_20 0 97 (dk_at dksX4_isCoordinate_0 3 rfl rfl)
theorem dX4_isCoordinate_6 : decode cX4_isCoordinate 6 = .ok (.invokestatic 99, 3) := dk_184 0 99 (dk_at dksX4_isCoordinate_0 6 rfl rfl)
theorem dX4_isCoordinate_9 : decode cX4_isCoordinate 9 = .ok (.ireturn, 1) := dk_172 (dk_at dksX4_isCoordinate_0 9 rfl rfl)
abbrev cX4_valueAt : ByteArray := prog_16_method_13_code
def yX4_valueAt : MethodName := ⟨RX4, "valueAt", "(III)I"⟩
def dkwX4_valueAt_3 : List UInt8 := [21, 4, 16, 31, 112, 172]
abbrev dktX4_valueAt_3 : List UInt8 := dkwX4_valueAt_3 ++ []
def dkwX4_valueAt_2 : List UInt8 := [21, 6, 184, 0, 119, 104, 16, 31, 112, 96, 54, 4, 132, 6, 1, 167, 255, 209, 132, 5, 1, 167, 255, 194]
abbrev dktX4_valueAt_2 : List UInt8 := dkwX4_valueAt_2 ++ dktX4_valueAt_3
def dkwX4_valueAt_1 : List UInt8 := [180, 0, 11, 27, 21, 5, 21, 6, 184, 0, 115, 46, 28, 21, 5, 184, 0, 119, 104, 16, 31, 112, 29]
abbrev dktX4_valueAt_1 : List UInt8 := dkwX4_valueAt_1 ++ dktX4_valueAt_2
def dkwX4_valueAt_0 : List UInt8 := [3, 54, 4, 3, 54, 5, 21, 5, 6, 162, 0, 62, 3, 54, 6, 21, 6, 6, 162, 0, 47, 21, 4, 42]
abbrev dktX4_valueAt_0 : List UInt8 := dkwX4_valueAt_0 ++ dktX4_valueAt_1
theorem dksX4_valueAt_0 : cX4_valueAt.data.toList.drop 0 = dktX4_valueAt_0 := by decide +kernel
theorem dksX4_valueAt_1 : cX4_valueAt.data.toList.drop 24 = dktX4_valueAt_1 := dk_seg dksX4_valueAt_0 24 rfl rfl
theorem dksX4_valueAt_2 : cX4_valueAt.data.toList.drop 47 = dktX4_valueAt_2 := dk_seg dksX4_valueAt_1 23 rfl rfl
theorem dksX4_valueAt_3 : cX4_valueAt.data.toList.drop 71 = dktX4_valueAt_3 := dk_seg dksX4_valueAt_2 24 rfl rfl
theorem dX4_valueAt_0 : decode cX4_valueAt 0 = .ok (.iconst 0, 1) := dk_3 (dk_at dksX4_valueAt_0 0 rfl rfl)
theorem dX4_valueAt_1 : decode cX4_valueAt 1 = .ok (.istore 4, 2) := dk_54 4 (dk_at dksX4_valueAt_0 1 rfl rfl)
theorem dX4_valueAt_3 : decode cX4_valueAt 3 = .ok (.iconst 0, 1) := dk_3 (dk_at dksX4_valueAt_0 3 rfl rfl)
theorem dX4_valueAt_4 : decode cX4_valueAt 4 = .ok (.istore 5, 2) := dk_54 5 (dk_at dksX4_valueAt_0 4 rfl rfl)
theorem dX4_valueAt_6 : decode cX4_valueAt 6 = .ok (.iload 5, 2) := dk_21 5 (dk_at dksX4_valueAt_0 6 rfl rfl)
theorem dX4_valueAt_8 : decode cX4_valueAt 8 = .ok (.iconst 3, 1) := dk_6 (dk_at dksX4_valueAt_0 8 rfl rfl)
theorem dX4_valueAt_9 : decode cX4_valueAt 9 = .ok (.if_icmp .ge 62, 3) := dk_162 0 62 (dk_at dksX4_valueAt_0 9 rfl rfl)
theorem dX4_valueAt_12 : decode cX4_valueAt 12 = .ok (.iconst 0, 1) := dk_3 (dk_at dksX4_valueAt_0 12 rfl rfl)
theorem dX4_valueAt_13 : decode cX4_valueAt 13 = .ok (.istore 6, 2) := dk_54 6 (dk_at dksX4_valueAt_0 13 rfl rfl)
theorem dX4_valueAt_15 : decode cX4_valueAt 15 = .ok (.iload 6, 2) := dk_21 6 (dk_at dksX4_valueAt_0 15 rfl rfl)
theorem dX4_valueAt_17 : decode cX4_valueAt 17 = .ok (.iconst 3, 1) := dk_6 (dk_at dksX4_valueAt_0 17 rfl rfl)
theorem dX4_valueAt_18 : decode cX4_valueAt 18 = .ok (.if_icmp .ge 47, 3) := dk_162 0 47 (dk_at dksX4_valueAt_0 18 rfl rfl)
theorem dX4_valueAt_21 : decode cX4_valueAt 21 = .ok (.iload 4, 2) := dk_21 4 (dk_at dksX4_valueAt_0 21 rfl rfl)
theorem dX4_valueAt_23 : decode cX4_valueAt 23 = .ok (.aload_n 0, 1) := dk_42 (dk_at dksX4_valueAt_0 23 rfl rfl)
theorem dX4_valueAt_24 : decode cX4_valueAt 24 = .ok (.getfield 11, 3) := dk_180 0 11 (dk_at dksX4_valueAt_1 0 rfl rfl)
theorem dX4_valueAt_27 : decode cX4_valueAt 27 = .ok (.iload_n 1, 1) := dk_27 (dk_at dksX4_valueAt_1 3 rfl rfl)
theorem dX4_valueAt_28 : decode cX4_valueAt 28 = .ok (.iload 5, 2) := dk_21 5 (dk_at dksX4_valueAt_1 4 rfl rfl)
theorem dX4_valueAt_30 : decode cX4_valueAt 30 = .ok (.iload 6, 2) := dk_21 6 (dk_at dksX4_valueAt_1 6 rfl rfl)
theorem dX4_valueAt_32 : decode cX4_valueAt 32 = .ok (.invokestatic 115, 3) := dk_184 0 115 (dk_at dksX4_valueAt_1 8 rfl rfl)
theorem dX4_valueAt_35 : decode cX4_valueAt 35 = .ok (.iaload, 1) := dk_46 (dk_at dksX4_valueAt_1 11 rfl rfl)
theorem dX4_valueAt_36 : decode cX4_valueAt 36 = .ok (.iload_n 2, 1) := dk_28 (dk_at dksX4_valueAt_1 12 rfl rfl)
theorem dX4_valueAt_37 : decode cX4_valueAt 37 = .ok (.iload 5, 2) := dk_21 5 (dk_at dksX4_valueAt_1 13 rfl rfl)
theorem dX4_valueAt_39 : decode cX4_valueAt 39 = .ok (.invokestatic 119, 3) := dk_184 0 119 (dk_at dksX4_valueAt_1 15 rfl rfl)
theorem dX4_valueAt_42 : decode cX4_valueAt 42 = .ok (.imul, 1) := dk_104 (dk_at dksX4_valueAt_1 18 rfl rfl)
theorem dX4_valueAt_43 : decode cX4_valueAt 43 = .ok (.bipush 31, 2) := dk_16 31 (dk_at dksX4_valueAt_1 19 rfl rfl)
theorem dX4_valueAt_45 : decode cX4_valueAt 45 = .ok (.irem, 1) := dk_112 (dk_at dksX4_valueAt_1 21 rfl rfl)
theorem dX4_valueAt_46 : decode cX4_valueAt 46 = .ok (.iload_n 3, 1) := dk_29 (dk_at dksX4_valueAt_1 22 rfl rfl)
theorem dX4_valueAt_47 : decode cX4_valueAt 47 = .ok (.iload 6, 2) := dk_21 6 (dk_at dksX4_valueAt_2 0 rfl rfl)
theorem dX4_valueAt_49 : decode cX4_valueAt 49 = .ok (.invokestatic 119, 3) := dk_184 0 119 (dk_at dksX4_valueAt_2 2 rfl rfl)
theorem dX4_valueAt_52 : decode cX4_valueAt 52 = .ok (.imul, 1) := dk_104 (dk_at dksX4_valueAt_2 5 rfl rfl)
theorem dX4_valueAt_53 : decode cX4_valueAt 53 = .ok (.bipush 31, 2) := dk_16 31 (dk_at dksX4_valueAt_2 6 rfl rfl)
theorem dX4_valueAt_55 : decode cX4_valueAt 55 = .ok (.irem, 1) := dk_112 (dk_at dksX4_valueAt_2 8 rfl rfl)
theorem dX4_valueAt_56 : decode cX4_valueAt 56 = .ok (.iadd, 1) := dk_96 (dk_at dksX4_valueAt_2 9 rfl rfl)
theorem dX4_valueAt_57 : decode cX4_valueAt 57 = .ok (.istore 4, 2) := dk_54 4 (dk_at dksX4_valueAt_2 10 rfl rfl)
theorem dX4_valueAt_59 : decode cX4_valueAt 59 = .ok (.iinc 6 1, 3) := dk_132 6 1 (dk_at dksX4_valueAt_2 12 rfl rfl)
theorem dX4_valueAt_62 : decode cX4_valueAt 62 = .ok (.goto (-47), 3) := dk_167 255 209 (dk_at dksX4_valueAt_2 15 rfl rfl)
theorem dX4_valueAt_65 : decode cX4_valueAt 65 = .ok (.iinc 5 1, 3) := dk_132 5 1 (dk_at dksX4_valueAt_2 18 rfl rfl)
theorem dX4_valueAt_68 : decode cX4_valueAt 68 = .ok (.goto (-62), 3) := dk_167 255 194 (dk_at dksX4_valueAt_2 21 rfl rfl)
theorem dX4_valueAt_71 : decode cX4_valueAt 71 = .ok (.iload 4, 2) := dk_21 4 (dk_at dksX4_valueAt_3 0 rfl rfl)
theorem dX4_valueAt_73 : decode cX4_valueAt 73 = .ok (.bipush 31, 2) := dk_16 31 (dk_at dksX4_valueAt_3 2 rfl rfl)
theorem dX4_valueAt_75 : decode cX4_valueAt 75 = .ok (.irem, 1) := dk_112 (dk_at dksX4_valueAt_3 4 rfl rfl)
theorem dX4_valueAt_76 : decode cX4_valueAt 76 = .ok (.ireturn, 1) := dk_172 (dk_at dksX4_valueAt_3 5 rfl rfl)
abbrev cX4_power : ByteArray := prog_16_method_12_code
def yX4_power : MethodName := ⟨RX4, "power", "(II)I"⟩
def dkwX4_power_1 : List UInt8 := [167, 0, 18, 27, 4, 160, 0, 7, 26, 167, 0, 9, 26, 26, 104, 16, 31, 112, 172]
abbrev dktX4_power_1 : List UInt8 := dkwX4_power_1 ++ []
def dkwX4_power_0 : List UInt8 := [26, 16, 31, 160, 0, 14, 27, 5, 160, 0, 7, 4, 167, 0, 4, 3, 172, 27, 154, 0, 7, 4]
abbrev dktX4_power_0 : List UInt8 := dkwX4_power_0 ++ dktX4_power_1
theorem dksX4_power_0 : cX4_power.data.toList.drop 0 = dktX4_power_0 := by decide +kernel
theorem dksX4_power_1 : cX4_power.data.toList.drop 22 = dktX4_power_1 := dk_seg dksX4_power_0 22 rfl rfl
theorem dX4_power_0 : decode cX4_power 0 = .ok (.iload_n 0, 1) := dk_26 (dk_at dksX4_power_0 0 rfl rfl)
theorem dX4_power_1 : decode cX4_power 1 = .ok (.bipush 31, 2) := dk_16 31 (dk_at dksX4_power_0 1 rfl rfl)
theorem dX4_power_3 : decode cX4_power 3 = .ok (.if_icmp .ne 14, 3) := dk_160 0 14 (dk_at dksX4_power_0 3 rfl rfl)
theorem dX4_power_6 : decode cX4_power 6 = .ok (.iload_n 1, 1) := dk_27 (dk_at dksX4_power_0 6 rfl rfl)
theorem dX4_power_7 : decode cX4_power 7 = .ok (.iconst 2, 1) := dk_5 (dk_at dksX4_power_0 7 rfl rfl)
theorem dX4_power_8 : decode cX4_power 8 = .ok (.if_icmp .ne 7, 3) := dk_160 0 7 (dk_at dksX4_power_0 8 rfl rfl)
theorem dX4_power_11 : decode cX4_power 11 = .ok (.iconst 1, 1) := dk_4 (dk_at dksX4_power_0 11 rfl rfl)
theorem dX4_power_12 : decode cX4_power 12 = .ok (.goto 4, 3) := dk_167 0 4 (dk_at dksX4_power_0 12 rfl rfl)
theorem dX4_power_15 : decode cX4_power 15 = .ok (.iconst 0, 1) := dk_3 (dk_at dksX4_power_0 15 rfl rfl)
theorem dX4_power_16 : decode cX4_power 16 = .ok (.ireturn, 1) := dk_172 (dk_at dksX4_power_0 16 rfl rfl)
theorem dX4_power_17 : decode cX4_power 17 = .ok (.iload_n 1, 1) := dk_27 (dk_at dksX4_power_0 17 rfl rfl)
theorem dX4_power_18 : decode cX4_power 18 = .ok (.ifCond .ne 7, 3) := dk_154 0 7 (dk_at dksX4_power_0 18 rfl rfl)
theorem dX4_power_21 : decode cX4_power 21 = .ok (.iconst 1, 1) := dk_4 (dk_at dksX4_power_0 21 rfl rfl)
theorem dX4_power_22 : decode cX4_power 22 = .ok (.goto 18, 3) := dk_167 0 18 (dk_at dksX4_power_1 0 rfl rfl)
theorem dX4_power_25 : decode cX4_power 25 = .ok (.iload_n 1, 1) := dk_27 (dk_at dksX4_power_1 3 rfl rfl)
theorem dX4_power_26 : decode cX4_power 26 = .ok (.iconst 1, 1) := dk_4 (dk_at dksX4_power_1 4 rfl rfl)
theorem dX4_power_27 : decode cX4_power 27 = .ok (.if_icmp .ne 7, 3) := dk_160 0 7 (dk_at dksX4_power_1 5 rfl rfl)
theorem dX4_power_30 : decode cX4_power 30 = .ok (.iload_n 0, 1) := dk_26 (dk_at dksX4_power_1 8 rfl rfl)
theorem dX4_power_31 : decode cX4_power 31 = .ok (.goto 9, 3) := dk_167 0 9 (dk_at dksX4_power_1 9 rfl rfl)
theorem dX4_power_34 : decode cX4_power 34 = .ok (.iload_n 0, 1) := dk_26 (dk_at dksX4_power_1 12 rfl rfl)
theorem dX4_power_35 : decode cX4_power 35 = .ok (.iload_n 0, 1) := dk_26 (dk_at dksX4_power_1 13 rfl rfl)
theorem dX4_power_36 : decode cX4_power 36 = .ok (.imul, 1) := dk_104 (dk_at dksX4_power_1 14 rfl rfl)
theorem dX4_power_37 : decode cX4_power 37 = .ok (.bipush 31, 2) := dk_16 31 (dk_at dksX4_power_1 15 rfl rfl)
theorem dX4_power_39 : decode cX4_power 39 = .ok (.irem, 1) := dk_112 (dk_at dksX4_power_1 17 rfl rfl)
theorem dX4_power_40 : decode cX4_power 40 = .ok (.ireturn, 1) := dk_172 (dk_at dksX4_power_1 18 rfl rfl)
abbrev cX4_kept : ByteArray := prog_16_method_16_code
def yX4_kept : MethodName := ⟨RX4, "kept", "(II)I"⟩
def dkwX4_kept_0 : List UInt8 := [27, 28, 184, 0, 123, 153, 0, 12, 42, 27, 28, 182, 0, 133, 167, 0, 4, 2, 172]
abbrev dktX4_kept_0 : List UInt8 := dkwX4_kept_0 ++ []
theorem dksX4_kept_0 : cX4_kept.data.toList.drop 0 = dktX4_kept_0 := by decide +kernel
theorem dX4_kept_0 : decode cX4_kept 0 = .ok (.iload_n 1, 1) := dk_27 (dk_at dksX4_kept_0 0 rfl rfl)
theorem dX4_kept_1 : decode cX4_kept 1 = .ok (.iload_n 2, 1) := dk_28 (dk_at dksX4_kept_0 1 rfl rfl)
theorem dX4_kept_2 : decode cX4_kept 2 = .ok (.invokestatic 123, 3) := dk_184 0 123 (dk_at dksX4_kept_0 2 rfl rfl)
theorem dX4_kept_5 : decode cX4_kept 5 = .ok (.ifCond .eq 12, 3) := dk_153 0 12 (dk_at dksX4_kept_0 5 rfl rfl)
theorem dX4_kept_8 : decode cX4_kept 8 = .ok (.aload_n 0, 1) := dk_42 (dk_at dksX4_kept_0 8 rfl rfl)
theorem dX4_kept_9 : decode cX4_kept 9 = .ok (.iload_n 1, 1) := dk_27 (dk_at dksX4_kept_0 9 rfl rfl)
theorem dX4_kept_10 : decode cX4_kept 10 = .ok (.iload_n 2, 1) := dk_28 (dk_at dksX4_kept_0 10 rfl rfl)
theorem dX4_kept_11 : decode cX4_kept 11 = .ok (.invokevirtual 133, 3) := dk_182 0 133 (dk_at dksX4_kept_0 11 rfl rfl)
theorem dX4_kept_14 : decode cX4_kept 14 = .ok (.goto 4, 3) := dk_167 0 4 (dk_at dksX4_kept_0 14 rfl rfl)
theorem dX4_kept_17 : decode cX4_kept 17 = .ok (.iconst (-1), 1) := dk_2 (dk_at dksX4_kept_0 17 rfl rfl)
theorem dX4_kept_18 : decode cX4_kept 18 = .ok (.ireturn, 1) := dk_172 (dk_at dksX4_kept_0 18 rfl rfl)
abbrev cX4_keptAt : ByteArray := prog_16_method_15_code
def yX4_keptAt : MethodName := ⟨RX4, "keptAt", "(II)I"⟩
def dkwX4_keptAt_0 : List UInt8 := [42, 3, 27, 28, 182, 0, 127, 42, 4, 27, 28, 182, 0, 127, 184, 0, 130, 172]
abbrev dktX4_keptAt_0 : List UInt8 := dkwX4_keptAt_0 ++ []
theorem dksX4_keptAt_0 : cX4_keptAt.data.toList.drop 0 = dktX4_keptAt_0 := by decide +kernel
theorem dX4_keptAt_0 : decode cX4_keptAt 0 = .ok (.aload_n 0, 1) := dk_42 (dk_at dksX4_keptAt_0 0 rfl rfl)
theorem dX4_keptAt_1 : decode cX4_keptAt 1 = .ok (.iconst 0, 1) := dk_3 (dk_at dksX4_keptAt_0 1 rfl rfl)
theorem dX4_keptAt_2 : decode cX4_keptAt 2 = .ok (.iload_n 1, 1) := dk_27 (dk_at dksX4_keptAt_0 2 rfl rfl)
theorem dX4_keptAt_3 : decode cX4_keptAt 3 = .ok (.iload_n 2, 1) := dk_28 (dk_at dksX4_keptAt_0 3 rfl rfl)
theorem dX4_keptAt_4 : decode cX4_keptAt 4 = .ok (.invokevirtual 127, 3) := dk_182 0 127 (dk_at dksX4_keptAt_0 4 rfl rfl)
theorem dX4_keptAt_7 : decode cX4_keptAt 7 = .ok (.aload_n 0, 1) := dk_42 (dk_at dksX4_keptAt_0 7 rfl rfl)
theorem dX4_keptAt_8 : decode cX4_keptAt 8 = .ok (.iconst 1, 1) := dk_4 (dk_at dksX4_keptAt_0 8 rfl rfl)
theorem dX4_keptAt_9 : decode cX4_keptAt 9 = .ok (.iload_n 1, 1) := dk_27 (dk_at dksX4_keptAt_0 9 rfl rfl)
theorem dX4_keptAt_10 : decode cX4_keptAt 10 = .ok (.iload_n 2, 1) := dk_28 (dk_at dksX4_keptAt_0 10 rfl rfl)
theorem dX4_keptAt_11 : decode cX4_keptAt 11 = .ok (.invokevirtual 127, 3) := dk_182 0 127 (dk_at dksX4_keptAt_0 11 rfl rfl)
theorem dX4_keptAt_14 : decode cX4_keptAt 14 = .ok (.invokestatic 130, 3) := dk_184 0 130 (dk_at dksX4_keptAt_0 14 rfl rfl)
theorem dX4_keptAt_17 : decode cX4_keptAt 17 = .ok (.ireturn, 1) := dk_172 (dk_at dksX4_keptAt_0 17 rfl rfl)
abbrev cX4_by : ByteArray := prog_16_method_5_code
def yX4_by : MethodName := ⟨RX4, "by", "(II)I"⟩
def dkwX4_by_1 : List UInt8 := [167, 0, 5, 16, 250, 172]
abbrev dktX4_by_1 : List UInt8 := dkwX4_by_1 ++ []
def dkwX4_by_0 : List UInt8 := [27, 153, 0, 15, 26, 27, 184, 0, 93, 104, 16, 31, 112, 167, 0, 14, 26, 153, 0, 8, 16, 31]
abbrev dktX4_by_0 : List UInt8 := dkwX4_by_0 ++ dktX4_by_1
theorem dksX4_by_0 : cX4_by.data.toList.drop 0 = dktX4_by_0 := by decide +kernel
theorem dksX4_by_1 : cX4_by.data.toList.drop 22 = dktX4_by_1 := dk_seg dksX4_by_0 22 rfl rfl
theorem dX4_by_0 : decode cX4_by 0 = .ok (.iload_n 1, 1) := dk_27 (dk_at dksX4_by_0 0 rfl rfl)
theorem dX4_by_1 : decode cX4_by 1 = .ok (.ifCond .eq 15, 3) := dk_153 0 15 (dk_at dksX4_by_0 1 rfl rfl)
theorem dX4_by_4 : decode cX4_by 4 = .ok (.iload_n 0, 1) := dk_26 (dk_at dksX4_by_0 4 rfl rfl)
theorem dX4_by_5 : decode cX4_by 5 = .ok (.iload_n 1, 1) := dk_27 (dk_at dksX4_by_0 5 rfl rfl)
theorem dX4_by_6 : decode cX4_by 6 = .ok (.invokestatic 93, 3) := dk_184 0 93 (dk_at dksX4_by_0 6 rfl rfl)
theorem dX4_by_9 : decode cX4_by 9 = .ok (.imul, 1) := dk_104 (dk_at dksX4_by_0 9 rfl rfl)
theorem dX4_by_10 : decode cX4_by 10 = .ok (.bipush 31, 2) := dk_16 31 (dk_at dksX4_by_0 10 rfl rfl)
theorem dX4_by_12 : decode cX4_by 12 = .ok (.irem, 1) := dk_112 (dk_at dksX4_by_0 12 rfl rfl)
theorem dX4_by_13 : decode cX4_by 13 = .ok (.goto 14, 3) := dk_167 0 14 (dk_at dksX4_by_0 13 rfl rfl)
theorem dX4_by_16 : decode cX4_by 16 = .ok (.iload_n 0, 1) := dk_26 (dk_at dksX4_by_0 16 rfl rfl)
theorem dX4_by_17 : decode cX4_by 17 = .ok (.ifCond .eq 8, 3) := dk_153 0 8 (dk_at dksX4_by_0 17 rfl rfl)
theorem dX4_by_20 : decode cX4_by 20 = .ok (.bipush 31, 2) := dk_16 31 (dk_at dksX4_by_0 20 rfl rfl)
theorem dX4_by_22 : decode cX4_by 22 = .ok (.goto 5, 3) := dk_167 0 5 (dk_at dksX4_by_1 0 rfl rfl)
theorem dX4_by_25 : decode cX4_by 25 = .ok (.bipush (-6), 2) := dk_16 250 (dk_at dksX4_by_1 3 rfl rfl)
theorem dX4_by_27 : decode cX4_by 27 = .ok (.ireturn, 1) := dk_172 (dk_at dksX4_by_1 5 rfl rfl)
abbrev cX4_inverse : ByteArray := prog_16_method_4_code
def yX4_inverse : MethodName := ⟨RX4, "inverse", "(I)I"⟩
def dkwX4_inverse_1 : List UInt8 := [172]
abbrev dktX4_inverse_1 : List UInt8 := dkwX4_inverse_1 ++ []
def dkwX4_inverse_0 : List UInt8 := [4, 60, 3, 61, 28, 16, 29, 162, 0, 16, 27, 26, 104, 16, 31, 112, 60, 132, 2, 1, 167, 255, 240, 27]
abbrev dktX4_inverse_0 : List UInt8 := dkwX4_inverse_0 ++ dktX4_inverse_1
theorem dksX4_inverse_0 : cX4_inverse.data.toList.drop 0 = dktX4_inverse_0 := by decide +kernel
theorem dksX4_inverse_1 : cX4_inverse.data.toList.drop 24 = dktX4_inverse_1 := dk_seg dksX4_inverse_0 24 rfl rfl
theorem dX4_inverse_0 : decode cX4_inverse 0 = .ok (.iconst 1, 1) := dk_4 (dk_at dksX4_inverse_0 0 rfl rfl)
theorem dX4_inverse_1 : decode cX4_inverse 1 = .ok (.istore_n 1, 1) := dk_60 (dk_at dksX4_inverse_0 1 rfl rfl)
theorem dX4_inverse_2 : decode cX4_inverse 2 = .ok (.iconst 0, 1) := dk_3 (dk_at dksX4_inverse_0 2 rfl rfl)
theorem dX4_inverse_3 : decode cX4_inverse 3 = .ok (.istore_n 2, 1) := dk_61 (dk_at dksX4_inverse_0 3 rfl rfl)
theorem dX4_inverse_4 : decode cX4_inverse 4 = .ok (.iload_n 2, 1) := dk_28 (dk_at dksX4_inverse_0 4 rfl rfl)
theorem dX4_inverse_5 : decode cX4_inverse 5 = .ok (.bipush 29, 2) := dk_16 29 (dk_at dksX4_inverse_0 5 rfl rfl)
theorem dX4_inverse_7 : decode cX4_inverse 7 = .ok (.if_icmp .ge 16, 3) := dk_162 0 16 (dk_at dksX4_inverse_0 7 rfl rfl)
theorem dX4_inverse_10 : decode cX4_inverse 10 = .ok (.iload_n 1, 1) := dk_27 (dk_at dksX4_inverse_0 10 rfl rfl)
theorem dX4_inverse_11 : decode cX4_inverse 11 = .ok (.iload_n 0, 1) := dk_26 (dk_at dksX4_inverse_0 11 rfl rfl)
theorem dX4_inverse_12 : decode cX4_inverse 12 = .ok (.imul, 1) := dk_104 (dk_at dksX4_inverse_0 12 rfl rfl)
theorem dX4_inverse_13 : decode cX4_inverse 13 = .ok (.bipush 31, 2) := dk_16 31 (dk_at dksX4_inverse_0 13 rfl rfl)
theorem dX4_inverse_15 : decode cX4_inverse 15 = .ok (.irem, 1) := dk_112 (dk_at dksX4_inverse_0 15 rfl rfl)
theorem dX4_inverse_16 : decode cX4_inverse 16 = .ok (.istore_n 1, 1) := dk_60 (dk_at dksX4_inverse_0 16 rfl rfl)
theorem dX4_inverse_17 : decode cX4_inverse 17 = .ok (.iinc 2 1, 3) := dk_132 2 1 (dk_at dksX4_inverse_0 17 rfl rfl)
theorem dX4_inverse_20 : decode cX4_inverse 20 = .ok (.goto (-16), 3) := dk_167 255 240 (dk_at dksX4_inverse_0 20 rfl rfl)
theorem dX4_inverse_23 : decode cX4_inverse 23 = .ok (.iload_n 1, 1) := dk_27 (dk_at dksX4_inverse_0 23 rfl rfl)
theorem dX4_inverse_24 : decode cX4_inverse 24 = .ok (.ireturn, 1) := dk_172 (dk_at dksX4_inverse_1 0 rfl rfl)
abbrev cX4_row : ByteArray := prog_16_method_19_code
def yX4_row : MethodName := ⟨RX4, "row", "(III)I"⟩
def dkwX4_row_1 : List UInt8 := [184, 0, 99, 153, 0, 13, 42, 27, 28, 29, 182, 0, 143, 167, 0, 4, 2, 172]
abbrev dktX4_row_1 : List UInt8 := dkwX4_row_1 ++ []
def dkwX4_row_0 : List UInt8 := [27, 133, 9, 10, 184, 0, 99, 153, 0, 32, 28, 184, 0, 103, 153, 0, 25, 29, 133, 9, 20, 0, 107]
abbrev dktX4_row_0 : List UInt8 := dkwX4_row_0 ++ dktX4_row_1
theorem dksX4_row_0 : cX4_row.data.toList.drop 0 = dktX4_row_0 := by decide +kernel
theorem dksX4_row_1 : cX4_row.data.toList.drop 23 = dktX4_row_1 := dk_seg dksX4_row_0 23 rfl rfl
theorem dX4_row_0 : decode cX4_row 0 = .ok (.iload_n 1, 1) := dk_27 (dk_at dksX4_row_0 0 rfl rfl)
theorem dX4_row_1 : decode cX4_row 1 = .ok (.i2l, 1) := dk_133 (dk_at dksX4_row_0 1 rfl rfl)
theorem dX4_row_2 : decode cX4_row 2 = .ok (.lconst 0, 1) := dk_9 (dk_at dksX4_row_0 2 rfl rfl)
theorem dX4_row_3 : decode cX4_row 3 = .ok (.lconst 1, 1) := dk_10 (dk_at dksX4_row_0 3 rfl rfl)
theorem dX4_row_4 : decode cX4_row 4 = .ok (.invokestatic 99, 3) := dk_184 0 99 (dk_at dksX4_row_0 4 rfl rfl)
theorem dX4_row_7 : decode cX4_row 7 = .ok (.ifCond .eq 32, 3) := dk_153 0 32 (dk_at dksX4_row_0 7 rfl rfl)
theorem dX4_row_10 : decode cX4_row 10 = .ok (.iload_n 2, 1) := dk_28 (dk_at dksX4_row_0 10 rfl rfl)
theorem dX4_row_11 : decode cX4_row 11 = .ok (.invokestatic 103, 3) := dk_184 0 103 (dk_at dksX4_row_0 11 rfl rfl)
theorem dX4_row_14 : decode cX4_row 14 = .ok (.ifCond .eq 25, 3) := dk_153 0 25 (dk_at dksX4_row_0 14 rfl rfl)
theorem dX4_row_17 : decode cX4_row 17 = .ok (.iload_n 3, 1) := dk_29 (dk_at dksX4_row_0 17 rfl rfl)
theorem dX4_row_18 : decode cX4_row 18 = .ok (.i2l, 1) := dk_133 (dk_at dksX4_row_0 18 rfl rfl)
theorem dX4_row_19 : decode cX4_row 19 = .ok (.lconst 0, 1) := dk_9 (dk_at dksX4_row_0 19 rfl rfl)
theorem dX4_row_20 : decode cX4_row 20 = .ok (.ldc2_w 107, 3) := dk_20 0 107 (dk_at dksX4_row_0 20 rfl rfl)
theorem dX4_row_23 : decode cX4_row 23 = .ok (.invokestatic 99, 3) := dk_184 0 99 (dk_at dksX4_row_1 0 rfl rfl)
theorem dX4_row_26 : decode cX4_row 26 = .ok (.ifCond .eq 13, 3) := dk_153 0 13 (dk_at dksX4_row_1 3 rfl rfl)
theorem dX4_row_29 : decode cX4_row 29 = .ok (.aload_n 0, 1) := dk_42 (dk_at dksX4_row_1 6 rfl rfl)
theorem dX4_row_30 : decode cX4_row 30 = .ok (.iload_n 1, 1) := dk_27 (dk_at dksX4_row_1 7 rfl rfl)
theorem dX4_row_31 : decode cX4_row 31 = .ok (.iload_n 2, 1) := dk_28 (dk_at dksX4_row_1 8 rfl rfl)
theorem dX4_row_32 : decode cX4_row 32 = .ok (.iload_n 3, 1) := dk_29 (dk_at dksX4_row_1 9 rfl rfl)
theorem dX4_row_33 : decode cX4_row 33 = .ok (.invokevirtual 143, 3) := dk_182 0 143 (dk_at dksX4_row_1 10 rfl rfl)
theorem dX4_row_36 : decode cX4_row 36 = .ok (.goto 4, 3) := dk_167 0 4 (dk_at dksX4_row_1 13 rfl rfl)
theorem dX4_row_39 : decode cX4_row 39 = .ok (.iconst (-1), 1) := dk_2 (dk_at dksX4_row_1 16 rfl rfl)
theorem dX4_row_40 : decode cX4_row 40 = .ok (.ireturn, 1) := dk_172 (dk_at dksX4_row_1 17 rfl rfl)
abbrev cX4_crossed : ByteArray := prog_16_method_18_code
def yX4_crossed : MethodName := ⟨RX4, "crossed", "(III)I"⟩
def dkwX4_crossed_2 : List UInt8 := [182, 0, 136, 42, 4, 27, 21, 4, 28, 182, 0, 136, 104, 100, 184, 0, 140, 172]
abbrev dktX4_crossed_2 : List UInt8 := dkwX4_crossed_2 ++ []
def dkwX4_crossed_1 : List UInt8 := [3, 27, 21, 4, 28, 182, 0, 136, 42, 4, 27, 21, 5, 28, 182, 0, 136, 104, 42, 3, 27, 21, 5, 28]
abbrev dktX4_crossed_1 : List UInt8 := dkwX4_crossed_1 ++ dktX4_crossed_2
def dkwX4_crossed_0 : List UInt8 := [29, 5, 160, 0, 7, 4, 167, 0, 4, 5, 54, 4, 29, 154, 0, 7, 4, 167, 0, 4, 3, 54, 5, 42]
abbrev dktX4_crossed_0 : List UInt8 := dkwX4_crossed_0 ++ dktX4_crossed_1
theorem dksX4_crossed_0 : cX4_crossed.data.toList.drop 0 = dktX4_crossed_0 := by decide +kernel
theorem dksX4_crossed_1 : cX4_crossed.data.toList.drop 24 = dktX4_crossed_1 := dk_seg dksX4_crossed_0 24 rfl rfl
theorem dksX4_crossed_2 : cX4_crossed.data.toList.drop 48 = dktX4_crossed_2 := dk_seg dksX4_crossed_1 24 rfl rfl
theorem dX4_crossed_0 : decode cX4_crossed 0 = .ok (.iload_n 3, 1) := dk_29 (dk_at dksX4_crossed_0 0 rfl rfl)
theorem dX4_crossed_1 : decode cX4_crossed 1 = .ok (.iconst 2, 1) := dk_5 (dk_at dksX4_crossed_0 1 rfl rfl)
theorem dX4_crossed_2 : decode cX4_crossed 2 = .ok (.if_icmp .ne 7, 3) := dk_160 0 7 (dk_at dksX4_crossed_0 2 rfl rfl)
theorem dX4_crossed_5 : decode cX4_crossed 5 = .ok (.iconst 1, 1) := dk_4 (dk_at dksX4_crossed_0 5 rfl rfl)
theorem dX4_crossed_6 : decode cX4_crossed 6 = .ok (.goto 4, 3) := dk_167 0 4 (dk_at dksX4_crossed_0 6 rfl rfl)
theorem dX4_crossed_9 : decode cX4_crossed 9 = .ok (.iconst 2, 1) := dk_5 (dk_at dksX4_crossed_0 9 rfl rfl)
theorem dX4_crossed_10 : decode cX4_crossed 10 = .ok (.istore 4, 2) := dk_54 4 (dk_at dksX4_crossed_0 10 rfl rfl)
theorem dX4_crossed_12 : decode cX4_crossed 12 = .ok (.iload_n 3, 1) := dk_29 (dk_at dksX4_crossed_0 12 rfl rfl)
theorem dX4_crossed_13 : decode cX4_crossed 13 = .ok (.ifCond .ne 7, 3) := dk_154 0 7 (dk_at dksX4_crossed_0 13 rfl rfl)
theorem dX4_crossed_16 : decode cX4_crossed 16 = .ok (.iconst 1, 1) := dk_4 (dk_at dksX4_crossed_0 16 rfl rfl)
theorem dX4_crossed_17 : decode cX4_crossed 17 = .ok (.goto 4, 3) := dk_167 0 4 (dk_at dksX4_crossed_0 17 rfl rfl)
theorem dX4_crossed_20 : decode cX4_crossed 20 = .ok (.iconst 0, 1) := dk_3 (dk_at dksX4_crossed_0 20 rfl rfl)
theorem dX4_crossed_21 : decode cX4_crossed 21 = .ok (.istore 5, 2) := dk_54 5 (dk_at dksX4_crossed_0 21 rfl rfl)
theorem dX4_crossed_23 : decode cX4_crossed 23 = .ok (.aload_n 0, 1) := dk_42 (dk_at dksX4_crossed_0 23 rfl rfl)
theorem dX4_crossed_24 : decode cX4_crossed 24 = .ok (.iconst 0, 1) := dk_3 (dk_at dksX4_crossed_1 0 rfl rfl)
theorem dX4_crossed_25 : decode cX4_crossed 25 = .ok (.iload_n 1, 1) := dk_27 (dk_at dksX4_crossed_1 1 rfl rfl)
theorem dX4_crossed_26 : decode cX4_crossed 26 = .ok (.iload 4, 2) := dk_21 4 (dk_at dksX4_crossed_1 2 rfl rfl)
theorem dX4_crossed_28 : decode cX4_crossed 28 = .ok (.iload_n 2, 1) := dk_28 (dk_at dksX4_crossed_1 4 rfl rfl)
theorem dX4_crossed_29 : decode cX4_crossed 29 = .ok (.invokevirtual 136, 3) := dk_182 0 136 (dk_at dksX4_crossed_1 5 rfl rfl)
theorem dX4_crossed_32 : decode cX4_crossed 32 = .ok (.aload_n 0, 1) := dk_42 (dk_at dksX4_crossed_1 8 rfl rfl)
theorem dX4_crossed_33 : decode cX4_crossed 33 = .ok (.iconst 1, 1) := dk_4 (dk_at dksX4_crossed_1 9 rfl rfl)
theorem dX4_crossed_34 : decode cX4_crossed 34 = .ok (.iload_n 1, 1) := dk_27 (dk_at dksX4_crossed_1 10 rfl rfl)
theorem dX4_crossed_35 : decode cX4_crossed 35 = .ok (.iload 5, 2) := dk_21 5 (dk_at dksX4_crossed_1 11 rfl rfl)
theorem dX4_crossed_37 : decode cX4_crossed 37 = .ok (.iload_n 2, 1) := dk_28 (dk_at dksX4_crossed_1 13 rfl rfl)
theorem dX4_crossed_38 : decode cX4_crossed 38 = .ok (.invokevirtual 136, 3) := dk_182 0 136 (dk_at dksX4_crossed_1 14 rfl rfl)
theorem dX4_crossed_41 : decode cX4_crossed 41 = .ok (.imul, 1) := dk_104 (dk_at dksX4_crossed_1 17 rfl rfl)
theorem dX4_crossed_42 : decode cX4_crossed 42 = .ok (.aload_n 0, 1) := dk_42 (dk_at dksX4_crossed_1 18 rfl rfl)
theorem dX4_crossed_43 : decode cX4_crossed 43 = .ok (.iconst 0, 1) := dk_3 (dk_at dksX4_crossed_1 19 rfl rfl)
theorem dX4_crossed_44 : decode cX4_crossed 44 = .ok (.iload_n 1, 1) := dk_27 (dk_at dksX4_crossed_1 20 rfl rfl)
theorem dX4_crossed_45 : decode cX4_crossed 45 = .ok (.iload 5, 2) := dk_21 5 (dk_at dksX4_crossed_1 21 rfl rfl)
theorem dX4_crossed_47 : decode cX4_crossed 47 = .ok (.iload_n 2, 1) := dk_28 (dk_at dksX4_crossed_1 23 rfl rfl)
theorem dX4_crossed_48 : decode cX4_crossed 48 = .ok (.invokevirtual 136, 3) := dk_182 0 136 (dk_at dksX4_crossed_2 0 rfl rfl)
theorem dX4_crossed_51 : decode cX4_crossed 51 = .ok (.aload_n 0, 1) := dk_42 (dk_at dksX4_crossed_2 3 rfl rfl)
theorem dX4_crossed_52 : decode cX4_crossed 52 = .ok (.iconst 1, 1) := dk_4 (dk_at dksX4_crossed_2 4 rfl rfl)
theorem dX4_crossed_53 : decode cX4_crossed 53 = .ok (.iload_n 1, 1) := dk_27 (dk_at dksX4_crossed_2 5 rfl rfl)
theorem dX4_crossed_54 : decode cX4_crossed 54 = .ok (.iload 4, 2) := dk_21 4 (dk_at dksX4_crossed_2 6 rfl rfl)
theorem dX4_crossed_56 : decode cX4_crossed 56 = .ok (.iload_n 2, 1) := dk_28 (dk_at dksX4_crossed_2 8 rfl rfl)
theorem dX4_crossed_57 : decode cX4_crossed 57 = .ok (.invokevirtual 136, 3) := dk_182 0 136 (dk_at dksX4_crossed_2 9 rfl rfl)
theorem dX4_crossed_60 : decode cX4_crossed 60 = .ok (.imul, 1) := dk_104 (dk_at dksX4_crossed_2 12 rfl rfl)
theorem dX4_crossed_61 : decode cX4_crossed 61 = .ok (.isub, 1) := dk_100 (dk_at dksX4_crossed_2 13 rfl rfl)
theorem dX4_crossed_62 : decode cX4_crossed 62 = .ok (.invokestatic 140, 3) := dk_184 0 140 (dk_at dksX4_crossed_2 14 rfl rfl)
theorem dX4_crossed_65 : decode cX4_crossed 65 = .ok (.ireturn, 1) := dk_172 (dk_at dksX4_crossed_2 17 rfl rfl)
abbrev cX4_rowAt : ByteArray := prog_16_method_17_code
def yX4_rowAt : MethodName := ⟨RX4, "rowAt", "(IIII)I"⟩
def dkwX4_rowAt_2 : List UInt8 := [21, 6, 184, 0, 119, 104, 96, 54, 5, 132, 6, 1, 167, 255, 203, 21, 5, 16, 31, 112, 172]
abbrev dktX4_rowAt_2 : List UInt8 := dkwX4_rowAt_2 ++ []
def dkwX4_rowAt_1 : List UInt8 := [21, 6, 184, 0, 115, 46, 167, 0, 15, 42, 180, 0, 11, 27, 21, 6, 29, 184, 0, 115, 46, 21, 4]
abbrev dktX4_rowAt_1 : List UInt8 := dkwX4_rowAt_1 ++ dktX4_rowAt_2
def dkwX4_rowAt_0 : List UInt8 := [3, 54, 5, 3, 54, 6, 21, 6, 6, 162, 0, 53, 21, 5, 28, 154, 0, 18, 42, 180, 0, 11, 27, 29]
abbrev dktX4_rowAt_0 : List UInt8 := dkwX4_rowAt_0 ++ dktX4_rowAt_1
theorem dksX4_rowAt_0 : cX4_rowAt.data.toList.drop 0 = dktX4_rowAt_0 := by decide +kernel
theorem dksX4_rowAt_1 : cX4_rowAt.data.toList.drop 24 = dktX4_rowAt_1 := dk_seg dksX4_rowAt_0 24 rfl rfl
theorem dksX4_rowAt_2 : cX4_rowAt.data.toList.drop 47 = dktX4_rowAt_2 := dk_seg dksX4_rowAt_1 23 rfl rfl
theorem dX4_rowAt_0 : decode cX4_rowAt 0 = .ok (.iconst 0, 1) := dk_3 (dk_at dksX4_rowAt_0 0 rfl rfl)
theorem dX4_rowAt_1 : decode cX4_rowAt 1 = .ok (.istore 5, 2) := dk_54 5 (dk_at dksX4_rowAt_0 1 rfl rfl)
theorem dX4_rowAt_3 : decode cX4_rowAt 3 = .ok (.iconst 0, 1) := dk_3 (dk_at dksX4_rowAt_0 3 rfl rfl)
theorem dX4_rowAt_4 : decode cX4_rowAt 4 = .ok (.istore 6, 2) := dk_54 6 (dk_at dksX4_rowAt_0 4 rfl rfl)
theorem dX4_rowAt_6 : decode cX4_rowAt 6 = .ok (.iload 6, 2) := dk_21 6 (dk_at dksX4_rowAt_0 6 rfl rfl)
theorem dX4_rowAt_8 : decode cX4_rowAt 8 = .ok (.iconst 3, 1) := dk_6 (dk_at dksX4_rowAt_0 8 rfl rfl)
theorem dX4_rowAt_9 : decode cX4_rowAt 9 = .ok (.if_icmp .ge 53, 3) := dk_162 0 53 (dk_at dksX4_rowAt_0 9 rfl rfl)
theorem dX4_rowAt_12 : decode cX4_rowAt 12 = .ok (.iload 5, 2) := dk_21 5 (dk_at dksX4_rowAt_0 12 rfl rfl)
theorem dX4_rowAt_14 : decode cX4_rowAt 14 = .ok (.iload_n 2, 1) := dk_28 (dk_at dksX4_rowAt_0 14 rfl rfl)
theorem dX4_rowAt_15 : decode cX4_rowAt 15 = .ok (.ifCond .ne 18, 3) := dk_154 0 18 (dk_at dksX4_rowAt_0 15 rfl rfl)
theorem dX4_rowAt_18 : decode cX4_rowAt 18 = .ok (.aload_n 0, 1) := dk_42 (dk_at dksX4_rowAt_0 18 rfl rfl)
theorem dX4_rowAt_19 : decode cX4_rowAt 19 = .ok (.getfield 11, 3) := dk_180 0 11 (dk_at dksX4_rowAt_0 19 rfl rfl)
theorem dX4_rowAt_22 : decode cX4_rowAt 22 = .ok (.iload_n 1, 1) := dk_27 (dk_at dksX4_rowAt_0 22 rfl rfl)
theorem dX4_rowAt_23 : decode cX4_rowAt 23 = .ok (.iload_n 3, 1) := dk_29 (dk_at dksX4_rowAt_0 23 rfl rfl)
theorem dX4_rowAt_24 : decode cX4_rowAt 24 = .ok (.iload 6, 2) := dk_21 6 (dk_at dksX4_rowAt_1 0 rfl rfl)
theorem dX4_rowAt_26 : decode cX4_rowAt 26 = .ok (.invokestatic 115, 3) := dk_184 0 115 (dk_at dksX4_rowAt_1 2 rfl rfl)
theorem dX4_rowAt_29 : decode cX4_rowAt 29 = .ok (.iaload, 1) := dk_46 (dk_at dksX4_rowAt_1 5 rfl rfl)
theorem dX4_rowAt_30 : decode cX4_rowAt 30 = .ok (.goto 15, 3) := dk_167 0 15 (dk_at dksX4_rowAt_1 6 rfl rfl)
theorem dX4_rowAt_33 : decode cX4_rowAt 33 = .ok (.aload_n 0, 1) := dk_42 (dk_at dksX4_rowAt_1 9 rfl rfl)
theorem dX4_rowAt_34 : decode cX4_rowAt 34 = .ok (.getfield 11, 3) := dk_180 0 11 (dk_at dksX4_rowAt_1 10 rfl rfl)
theorem dX4_rowAt_37 : decode cX4_rowAt 37 = .ok (.iload_n 1, 1) := dk_27 (dk_at dksX4_rowAt_1 13 rfl rfl)
theorem dX4_rowAt_38 : decode cX4_rowAt 38 = .ok (.iload 6, 2) := dk_21 6 (dk_at dksX4_rowAt_1 14 rfl rfl)
theorem dX4_rowAt_40 : decode cX4_rowAt 40 = .ok (.iload_n 3, 1) := dk_29 (dk_at dksX4_rowAt_1 16 rfl rfl)
theorem dX4_rowAt_41 : decode cX4_rowAt 41 = .ok (.invokestatic 115, 3) := dk_184 0 115 (dk_at dksX4_rowAt_1 17 rfl rfl)
theorem dX4_rowAt_44 : decode cX4_rowAt 44 = .ok (.iaload, 1) := dk_46 (dk_at dksX4_rowAt_1 20 rfl rfl)
theorem dX4_rowAt_45 : decode cX4_rowAt 45 = .ok (.iload 4, 2) := dk_21 4 (dk_at dksX4_rowAt_1 21 rfl rfl)
theorem dX4_rowAt_47 : decode cX4_rowAt 47 = .ok (.iload 6, 2) := dk_21 6 (dk_at dksX4_rowAt_2 0 rfl rfl)
theorem dX4_rowAt_49 : decode cX4_rowAt 49 = .ok (.invokestatic 119, 3) := dk_184 0 119 (dk_at dksX4_rowAt_2 2 rfl rfl)
theorem dX4_rowAt_52 : decode cX4_rowAt 52 = .ok (.imul, 1) := dk_104 (dk_at dksX4_rowAt_2 5 rfl rfl)
theorem dX4_rowAt_53 : decode cX4_rowAt 53 = .ok (.iadd, 1) := dk_96 (dk_at dksX4_rowAt_2 6 rfl rfl)
theorem dX4_rowAt_54 : decode cX4_rowAt 54 = .ok (.istore 5, 2) := dk_54 5 (dk_at dksX4_rowAt_2 7 rfl rfl)
theorem dX4_rowAt_56 : decode cX4_rowAt 56 = .ok (.iinc 6 1, 3) := dk_132 6 1 (dk_at dksX4_rowAt_2 9 rfl rfl)
theorem dX4_rowAt_59 : decode cX4_rowAt 59 = .ok (.goto (-53), 3) := dk_167 255 203 (dk_at dksX4_rowAt_2 12 rfl rfl)
theorem dX4_rowAt_62 : decode cX4_rowAt 62 = .ok (.iload 5, 2) := dk_21 5 (dk_at dksX4_rowAt_2 15 rfl rfl)
theorem dX4_rowAt_64 : decode cX4_rowAt 64 = .ok (.bipush 31, 2) := dk_16 31 (dk_at dksX4_rowAt_2 17 rfl rfl)
theorem dX4_rowAt_66 : decode cX4_rowAt 66 = .ok (.irem, 1) := dk_112 (dk_at dksX4_rowAt_2 19 rfl rfl)
theorem dX4_rowAt_67 : decode cX4_rowAt 67 = .ok (.ireturn, 1) := dk_172 (dk_at dksX4_rowAt_2 20 rfl rfl)
abbrev cX4_mod : ByteArray := prog_16_method_3_code
def yX4_mod : MethodName := ⟨RX4, "mod", "(I)I"⟩
def dkwX4_mod_0 : List UInt8 := [26, 16, 31, 112, 60, 27, 156, 0, 10, 27, 16, 31, 96, 167, 0, 4, 27, 172]
abbrev dktX4_mod_0 : List UInt8 := dkwX4_mod_0 ++ []
theorem dksX4_mod_0 : cX4_mod.data.toList.drop 0 = dktX4_mod_0 := by decide +kernel
theorem dX4_mod_0 : decode cX4_mod 0 = .ok (.iload_n 0, 1) := dk_26 (dk_at dksX4_mod_0 0 rfl rfl)
theorem dX4_mod_1 : decode cX4_mod 1 = .ok (.bipush 31, 2) := dk_16 31 (dk_at dksX4_mod_0 1 rfl rfl)
theorem dX4_mod_3 : decode cX4_mod 3 = .ok (.irem, 1) := dk_112 (dk_at dksX4_mod_0 3 rfl rfl)
theorem dX4_mod_4 : decode cX4_mod 4 = .ok (.istore_n 1, 1) := dk_60 (dk_at dksX4_mod_0 4 rfl rfl)
theorem dX4_mod_5 : decode cX4_mod 5 = .ok (.iload_n 1, 1) := dk_27 (dk_at dksX4_mod_0 5 rfl rfl)
theorem dX4_mod_6 : decode cX4_mod 6 = .ok (.ifCond .ge 10, 3) := dk_156 0 10 (dk_at dksX4_mod_0 6 rfl rfl)
theorem dX4_mod_9 : decode cX4_mod 9 = .ok (.iload_n 1, 1) := dk_27 (dk_at dksX4_mod_0 9 rfl rfl)
theorem dX4_mod_10 : decode cX4_mod 10 = .ok (.bipush 31, 2) := dk_16 31 (dk_at dksX4_mod_0 10 rfl rfl)
theorem dX4_mod_12 : decode cX4_mod 12 = .ok (.iadd, 1) := dk_96 (dk_at dksX4_mod_0 12 rfl rfl)
theorem dX4_mod_13 : decode cX4_mod 13 = .ok (.goto 4, 3) := dk_167 0 4 (dk_at dksX4_mod_0 13 rfl rfl)
theorem dX4_mod_16 : decode cX4_mod 16 = .ok (.iload_n 1, 1) := dk_27 (dk_at dksX4_mod_0 16 rfl rfl)
theorem dX4_mod_17 : decode cX4_mod 17 = .ok (.ireturn, 1) := dk_172 (dk_at dksX4_mod_0 17 rfl rfl)
abbrev cX4_swap : ByteArray := prog_16_method_21_code
def yX4_swap : MethodName := ⟨RX4, "swap", "(III)I"⟩
def dkwX4_swap_1 : List UInt8 := [28, 167, 0, 4, 29, 27, 154, 0, 7, 29, 167, 0, 4, 28, 182, 0, 146, 167, 0, 4, 2, 172]
abbrev dktX4_swap_1 : List UInt8 := dkwX4_swap_1 ++ []
def dkwX4_swap_0 : List UInt8 := [27, 133, 9, 10, 184, 0, 99, 153, 0, 37, 28, 29, 184, 0, 123, 153, 0, 29, 42, 27, 27, 154, 0, 7]
abbrev dktX4_swap_0 : List UInt8 := dkwX4_swap_0 ++ dktX4_swap_1
theorem dksX4_swap_0 : cX4_swap.data.toList.drop 0 = dktX4_swap_0 := by decide +kernel
theorem dksX4_swap_1 : cX4_swap.data.toList.drop 24 = dktX4_swap_1 := dk_seg dksX4_swap_0 24 rfl rfl
theorem dX4_swap_0 : decode cX4_swap 0 = .ok (.iload_n 1, 1) := dk_27 (dk_at dksX4_swap_0 0 rfl rfl)
theorem dX4_swap_1 : decode cX4_swap 1 = .ok (.i2l, 1) := dk_133 (dk_at dksX4_swap_0 1 rfl rfl)
theorem dX4_swap_2 : decode cX4_swap 2 = .ok (.lconst 0, 1) := dk_9 (dk_at dksX4_swap_0 2 rfl rfl)
theorem dX4_swap_3 : decode cX4_swap 3 = .ok (.lconst 1, 1) := dk_10 (dk_at dksX4_swap_0 3 rfl rfl)
theorem dX4_swap_4 : decode cX4_swap 4 = .ok (.invokestatic 99, 3) := dk_184 0 99 (dk_at dksX4_swap_0 4 rfl rfl)
theorem dX4_swap_7 : decode cX4_swap 7 = .ok (.ifCond .eq 37, 3) := dk_153 0 37 (dk_at dksX4_swap_0 7 rfl rfl)
theorem dX4_swap_10 : decode cX4_swap 10 = .ok (.iload_n 2, 1) := dk_28 (dk_at dksX4_swap_0 10 rfl rfl)
theorem dX4_swap_11 : decode cX4_swap 11 = .ok (.iload_n 3, 1) := dk_29 (dk_at dksX4_swap_0 11 rfl rfl)
theorem dX4_swap_12 : decode cX4_swap 12 = .ok (.invokestatic 123, 3) := dk_184 0 123 (dk_at dksX4_swap_0 12 rfl rfl)
theorem dX4_swap_15 : decode cX4_swap 15 = .ok (.ifCond .eq 29, 3) := dk_153 0 29 (dk_at dksX4_swap_0 15 rfl rfl)
theorem dX4_swap_18 : decode cX4_swap 18 = .ok (.aload_n 0, 1) := dk_42 (dk_at dksX4_swap_0 18 rfl rfl)
theorem dX4_swap_19 : decode cX4_swap 19 = .ok (.iload_n 1, 1) := dk_27 (dk_at dksX4_swap_0 19 rfl rfl)
theorem dX4_swap_20 : decode cX4_swap 20 = .ok (.iload_n 1, 1) := dk_27 (dk_at dksX4_swap_0 20 rfl rfl)
theorem dX4_swap_21 : decode cX4_swap 21 = .ok (.ifCond .ne 7, 3) := dk_154 0 7 (dk_at dksX4_swap_0 21 rfl rfl)
theorem dX4_swap_24 : decode cX4_swap 24 = .ok (.iload_n 2, 1) := dk_28 (dk_at dksX4_swap_1 0 rfl rfl)
theorem dX4_swap_25 : decode cX4_swap 25 = .ok (.goto 4, 3) := dk_167 0 4 (dk_at dksX4_swap_1 1 rfl rfl)
theorem dX4_swap_28 : decode cX4_swap 28 = .ok (.iload_n 3, 1) := dk_29 (dk_at dksX4_swap_1 4 rfl rfl)
theorem dX4_swap_29 : decode cX4_swap 29 = .ok (.iload_n 1, 1) := dk_27 (dk_at dksX4_swap_1 5 rfl rfl)
theorem dX4_swap_30 : decode cX4_swap 30 = .ok (.ifCond .ne 7, 3) := dk_154 0 7 (dk_at dksX4_swap_1 6 rfl rfl)
theorem dX4_swap_33 : decode cX4_swap 33 = .ok (.iload_n 3, 1) := dk_29 (dk_at dksX4_swap_1 9 rfl rfl)
theorem dX4_swap_34 : decode cX4_swap 34 = .ok (.goto 4, 3) := dk_167 0 4 (dk_at dksX4_swap_1 10 rfl rfl)
theorem dX4_swap_37 : decode cX4_swap 37 = .ok (.iload_n 2, 1) := dk_28 (dk_at dksX4_swap_1 13 rfl rfl)
theorem dX4_swap_38 : decode cX4_swap 38 = .ok (.invokevirtual 146, 3) := dk_182 0 146 (dk_at dksX4_swap_1 14 rfl rfl)
theorem dX4_swap_41 : decode cX4_swap 41 = .ok (.goto 4, 3) := dk_167 0 4 (dk_at dksX4_swap_1 17 rfl rfl)
theorem dX4_swap_44 : decode cX4_swap 44 = .ok (.iconst (-1), 1) := dk_2 (dk_at dksX4_swap_1 20 rfl rfl)
theorem dX4_swap_45 : decode cX4_swap 45 = .ok (.ireturn, 1) := dk_172 (dk_at dksX4_swap_1 21 rfl rfl)
abbrev cX4_other : ByteArray := prog_16_method_20_code
def yX4_other : MethodName := ⟨RX4, "other", "(III)I"⟩
def dkwX4_other_3 : List UInt8 := [184, 0, 130, 54, 7, 21, 7, 16, 250, 160, 0, 8, 16, 249, 167, 0, 5, 21, 7, 172]
abbrev dktX4_other_3 : List UInt8 := dkwX4_other_3 ++ []
def dkwX4_other_2 : List UInt8 := [167, 0, 27, 21, 5, 28, 104, 21, 6, 96, 116, 184, 0, 140, 21, 4, 28, 104, 21, 5, 96, 184, 0, 140]
abbrev dktX4_other_2 : List UInt8 := dkwX4_other_2 ++ dktX4_other_3
def dkwX4_other_1 : List UInt8 := [182, 0, 143, 54, 6, 28, 16, 31, 160, 0, 17, 21, 5, 116, 184, 0, 140, 21, 4, 184, 0, 130]
abbrev dktX4_other_1 : List UInt8 := dkwX4_other_1 ++ dktX4_other_2
def dkwX4_other_0 : List UInt8 := [42, 27, 29, 3, 182, 0, 143, 54, 4, 42, 27, 29, 4, 182, 0, 143, 54, 5, 42, 27, 29, 5]
abbrev dktX4_other_0 : List UInt8 := dkwX4_other_0 ++ dktX4_other_1
theorem dksX4_other_0 : cX4_other.data.toList.drop 0 = dktX4_other_0 := by decide +kernel
theorem dksX4_other_1 : cX4_other.data.toList.drop 22 = dktX4_other_1 := dk_seg dksX4_other_0 22 rfl rfl
theorem dksX4_other_2 : cX4_other.data.toList.drop 44 = dktX4_other_2 := dk_seg dksX4_other_1 22 rfl rfl
theorem dksX4_other_3 : cX4_other.data.toList.drop 68 = dktX4_other_3 := dk_seg dksX4_other_2 24 rfl rfl
theorem dX4_other_0 : decode cX4_other 0 = .ok (.aload_n 0, 1) := dk_42 (dk_at dksX4_other_0 0 rfl rfl)
theorem dX4_other_1 : decode cX4_other 1 = .ok (.iload_n 1, 1) := dk_27 (dk_at dksX4_other_0 1 rfl rfl)
theorem dX4_other_2 : decode cX4_other 2 = .ok (.iload_n 3, 1) := dk_29 (dk_at dksX4_other_0 2 rfl rfl)
theorem dX4_other_3 : decode cX4_other 3 = .ok (.iconst 0, 1) := dk_3 (dk_at dksX4_other_0 3 rfl rfl)
theorem dX4_other_4 : decode cX4_other 4 = .ok (.invokevirtual 143, 3) := dk_182 0 143 (dk_at dksX4_other_0 4 rfl rfl)
theorem dX4_other_7 : decode cX4_other 7 = .ok (.istore 4, 2) := dk_54 4 (dk_at dksX4_other_0 7 rfl rfl)
theorem dX4_other_9 : decode cX4_other 9 = .ok (.aload_n 0, 1) := dk_42 (dk_at dksX4_other_0 9 rfl rfl)
theorem dX4_other_10 : decode cX4_other 10 = .ok (.iload_n 1, 1) := dk_27 (dk_at dksX4_other_0 10 rfl rfl)
theorem dX4_other_11 : decode cX4_other 11 = .ok (.iload_n 3, 1) := dk_29 (dk_at dksX4_other_0 11 rfl rfl)
theorem dX4_other_12 : decode cX4_other 12 = .ok (.iconst 1, 1) := dk_4 (dk_at dksX4_other_0 12 rfl rfl)
theorem dX4_other_13 : decode cX4_other 13 = .ok (.invokevirtual 143, 3) := dk_182 0 143 (dk_at dksX4_other_0 13 rfl rfl)
theorem dX4_other_16 : decode cX4_other 16 = .ok (.istore 5, 2) := dk_54 5 (dk_at dksX4_other_0 16 rfl rfl)
theorem dX4_other_18 : decode cX4_other 18 = .ok (.aload_n 0, 1) := dk_42 (dk_at dksX4_other_0 18 rfl rfl)
theorem dX4_other_19 : decode cX4_other 19 = .ok (.iload_n 1, 1) := dk_27 (dk_at dksX4_other_0 19 rfl rfl)
theorem dX4_other_20 : decode cX4_other 20 = .ok (.iload_n 3, 1) := dk_29 (dk_at dksX4_other_0 20 rfl rfl)
theorem dX4_other_21 : decode cX4_other 21 = .ok (.iconst 2, 1) := dk_5 (dk_at dksX4_other_0 21 rfl rfl)
theorem dX4_other_22 : decode cX4_other 22 = .ok (.invokevirtual 143, 3) := dk_182 0 143 (dk_at dksX4_other_1 0 rfl rfl)
theorem dX4_other_25 : decode cX4_other 25 = .ok (.istore 6, 2) := dk_54 6 (dk_at dksX4_other_1 3 rfl rfl)
theorem dX4_other_27 : decode cX4_other 27 = .ok (.iload_n 2, 1) := dk_28 (dk_at dksX4_other_1 5 rfl rfl)
theorem dX4_other_28 : decode cX4_other 28 = .ok (.bipush 31, 2) := dk_16 31 (dk_at dksX4_other_1 6 rfl rfl)
theorem dX4_other_30 : decode cX4_other 30 = .ok (.if_icmp .ne 17, 3) := dk_160 0 17 (dk_at dksX4_other_1 8 rfl rfl)
theorem dX4_other_33 : decode cX4_other 33 = .ok (.iload 5, 2) := dk_21 5 (dk_at dksX4_other_1 11 rfl rfl)
theorem dX4_other_35 : decode cX4_other 35 = .ok (.ineg, 1) := dk_116 (dk_at dksX4_other_1 13 rfl rfl)
theorem dX4_other_36 : decode cX4_other 36 = .ok (.invokestatic 140, 3) := dk_184 0 140 (dk_at dksX4_other_1 14 rfl rfl)
theorem dX4_other_39 : decode cX4_other 39 = .ok (.iload 4, 2) := dk_21 4 (dk_at dksX4_other_1 17 rfl rfl)
theorem dX4_other_41 : decode cX4_other 41 = .ok (.invokestatic 130, 3) := dk_184 0 130 (dk_at dksX4_other_1 19 rfl rfl)
theorem dX4_other_44 : decode cX4_other 44 = .ok (.goto 27, 3) := dk_167 0 27 (dk_at dksX4_other_2 0 rfl rfl)
theorem dX4_other_47 : decode cX4_other 47 = .ok (.iload 5, 2) := dk_21 5 (dk_at dksX4_other_2 3 rfl rfl)
theorem dX4_other_49 : decode cX4_other 49 = .ok (.iload_n 2, 1) := dk_28 (dk_at dksX4_other_2 5 rfl rfl)
theorem dX4_other_50 : decode cX4_other 50 = .ok (.imul, 1) := dk_104 (dk_at dksX4_other_2 6 rfl rfl)
theorem dX4_other_51 : decode cX4_other 51 = .ok (.iload 6, 2) := dk_21 6 (dk_at dksX4_other_2 7 rfl rfl)
theorem dX4_other_53 : decode cX4_other 53 = .ok (.iadd, 1) := dk_96 (dk_at dksX4_other_2 9 rfl rfl)
theorem dX4_other_54 : decode cX4_other 54 = .ok (.ineg, 1) := dk_116 (dk_at dksX4_other_2 10 rfl rfl)
theorem dX4_other_55 : decode cX4_other 55 = .ok (.invokestatic 140, 3) := dk_184 0 140 (dk_at dksX4_other_2 11 rfl rfl)
theorem dX4_other_58 : decode cX4_other 58 = .ok (.iload 4, 2) := dk_21 4 (dk_at dksX4_other_2 14 rfl rfl)
theorem dX4_other_60 : decode cX4_other 60 = .ok (.iload_n 2, 1) := dk_28 (dk_at dksX4_other_2 16 rfl rfl)
theorem dX4_other_61 : decode cX4_other 61 = .ok (.imul, 1) := dk_104 (dk_at dksX4_other_2 17 rfl rfl)
theorem dX4_other_62 : decode cX4_other 62 = .ok (.iload 5, 2) := dk_21 5 (dk_at dksX4_other_2 18 rfl rfl)
theorem dX4_other_64 : decode cX4_other 64 = .ok (.iadd, 1) := dk_96 (dk_at dksX4_other_2 20 rfl rfl)
theorem dX4_other_65 : decode cX4_other 65 = .ok (.invokestatic 140, 3) := dk_184 0 140 (dk_at dksX4_other_2 21 rfl rfl)
theorem dX4_other_68 : decode cX4_other 68 = .ok (.invokestatic 130, 3) := dk_184 0 130 (dk_at dksX4_other_3 0 rfl rfl)
theorem dX4_other_71 : decode cX4_other 71 = .ok (.istore 7, 2) := dk_54 7 (dk_at dksX4_other_3 3 rfl rfl)
theorem dX4_other_73 : decode cX4_other 73 = .ok (.iload 7, 2) := dk_21 7 (dk_at dksX4_other_3 5 rfl rfl)
theorem dX4_other_75 : decode cX4_other 75 = .ok (.bipush (-6), 2) := dk_16 250 (dk_at dksX4_other_3 7 rfl rfl)
theorem dX4_other_77 : decode cX4_other 77 = .ok (.if_icmp .ne 8, 3) := dk_160 0 8 (dk_at dksX4_other_3 9 rfl rfl)
theorem dX4_other_80 : decode cX4_other 80 = .ok (.bipush (-7), 2) := dk_16 249 (dk_at dksX4_other_3 12 rfl rfl)
theorem dX4_other_82 : decode cX4_other 82 = .ok (.goto 5, 3) := dk_167 0 5 (dk_at dksX4_other_3 14 rfl rfl)
theorem dX4_other_85 : decode cX4_other 85 = .ok (.iload 7, 2) := dk_21 7 (dk_at dksX4_other_3 17 rfl rfl)
theorem dX4_other_87 : decode cX4_other 87 = .ok (.ireturn, 1) := dk_172 (dk_at dksX4_other_3 19 rfl rfl)
abbrev cX4_pinched : ByteArray := prog_16_method_22_code
def yX4_pinched : MethodName := ⟨RX4, "pinched", "(I)J"⟩
def dkwX4_pinched_3 : List UInt8 := [121, 167, 0, 4, 9, 129, 65, 132, 4, 1, 167, 255, 194, 32, 173]
abbrev dktX4_pinched_3 : List UInt8 := dkwX4_pinched_3 ++ []
def dkwX4_pinched_2 : List UInt8 := [21, 4, 3, 182, 0, 143, 42, 27, 21, 4, 5, 182, 0, 143, 104, 16, 31, 112, 160, 0, 10, 10, 21, 4]
abbrev dktX4_pinched_2 : List UInt8 := dkwX4_pinched_2 ++ dktX4_pinched_3
def dkwX4_pinched_1 : List UInt8 := [163, 0, 61, 42, 27, 21, 4, 4, 182, 0, 143, 54, 5, 32, 21, 5, 21, 5, 104, 16, 31, 112, 42, 27]
abbrev dktX4_pinched_1 : List UInt8 := dkwX4_pinched_1 ++ dktX4_pinched_2
def dkwX4_pinched_0 : List UInt8 := [27, 133, 9, 10, 184, 0, 99, 154, 0, 7, 20, 0, 149, 173, 9, 65, 3, 54, 4, 21, 4, 16, 31]
abbrev dktX4_pinched_0 : List UInt8 := dkwX4_pinched_0 ++ dktX4_pinched_1
theorem dksX4_pinched_0 : cX4_pinched.data.toList.drop 0 = dktX4_pinched_0 := by decide +kernel
theorem dksX4_pinched_1 : cX4_pinched.data.toList.drop 23 = dktX4_pinched_1 := dk_seg dksX4_pinched_0 23 rfl rfl
theorem dksX4_pinched_2 : cX4_pinched.data.toList.drop 47 = dktX4_pinched_2 := dk_seg dksX4_pinched_1 24 rfl rfl
theorem dksX4_pinched_3 : cX4_pinched.data.toList.drop 71 = dktX4_pinched_3 := dk_seg dksX4_pinched_2 24 rfl rfl
theorem dX4_pinched_0 : decode cX4_pinched 0 = .ok (.iload_n 1, 1) := dk_27 (dk_at dksX4_pinched_0 0 rfl rfl)
theorem dX4_pinched_1 : decode cX4_pinched 1 = .ok (.i2l, 1) := dk_133 (dk_at dksX4_pinched_0 1 rfl rfl)
theorem dX4_pinched_2 : decode cX4_pinched 2 = .ok (.lconst 0, 1) := dk_9 (dk_at dksX4_pinched_0 2 rfl rfl)
theorem dX4_pinched_3 : decode cX4_pinched 3 = .ok (.lconst 1, 1) := dk_10 (dk_at dksX4_pinched_0 3 rfl rfl)
theorem dX4_pinched_4 : decode cX4_pinched 4 = .ok (.invokestatic 99, 3) := dk_184 0 99 (dk_at dksX4_pinched_0 4 rfl rfl)
theorem dX4_pinched_7 : decode cX4_pinched 7 = .ok (.ifCond .ne 7, 3) := dk_154 0 7 (dk_at dksX4_pinched_0 7 rfl rfl)
theorem dX4_pinched_10 : decode cX4_pinched 10 = .ok (.ldc2_w 149, 3) := dk_20 0 149 (dk_at dksX4_pinched_0 10 rfl rfl)
theorem dX4_pinched_13 : decode cX4_pinched 13 = .ok (.lreturn, 1) := dk_173 (dk_at dksX4_pinched_0 13 rfl rfl)
theorem dX4_pinched_14 : decode cX4_pinched 14 = .ok (.lconst 0, 1) := dk_9 (dk_at dksX4_pinched_0 14 rfl rfl)
theorem dX4_pinched_15 : decode cX4_pinched 15 = .ok (.lstore_n 2, 1) := dk_65 (dk_at dksX4_pinched_0 15 rfl rfl)
theorem dX4_pinched_16 : decode cX4_pinched 16 = .ok (.iconst 0, 1) := dk_3 (dk_at dksX4_pinched_0 16 rfl rfl)
theorem dX4_pinched_17 : decode cX4_pinched 17 = .ok (.istore 4, 2) := dk_54 4 (dk_at dksX4_pinched_0 17 rfl rfl)
theorem dX4_pinched_19 : decode cX4_pinched 19 = .ok (.iload 4, 2) := dk_21 4 (dk_at dksX4_pinched_0 19 rfl rfl)
theorem dX4_pinched_21 : decode cX4_pinched 21 = .ok (.bipush 31, 2) := dk_16 31 (dk_at dksX4_pinched_0 21 rfl rfl)
theorem dX4_pinched_23 : decode cX4_pinched 23 = .ok (.if_icmp .gt 61, 3) := dk_163 0 61 (dk_at dksX4_pinched_1 0 rfl rfl)
theorem dX4_pinched_26 : decode cX4_pinched 26 = .ok (.aload_n 0, 1) := dk_42 (dk_at dksX4_pinched_1 3 rfl rfl)
theorem dX4_pinched_27 : decode cX4_pinched 27 = .ok (.iload_n 1, 1) := dk_27 (dk_at dksX4_pinched_1 4 rfl rfl)
theorem dX4_pinched_28 : decode cX4_pinched 28 = .ok (.iload 4, 2) := dk_21 4 (dk_at dksX4_pinched_1 5 rfl rfl)
theorem dX4_pinched_30 : decode cX4_pinched 30 = .ok (.iconst 1, 1) := dk_4 (dk_at dksX4_pinched_1 7 rfl rfl)
theorem dX4_pinched_31 : decode cX4_pinched 31 = .ok (.invokevirtual 143, 3) := dk_182 0 143 (dk_at dksX4_pinched_1 8 rfl rfl)
theorem dX4_pinched_34 : decode cX4_pinched 34 = .ok (.istore 5, 2) := dk_54 5 (dk_at dksX4_pinched_1 11 rfl rfl)
theorem dX4_pinched_36 : decode cX4_pinched 36 = .ok (.lload_n 2, 1) := dk_32 (dk_at dksX4_pinched_1 13 rfl rfl)
theorem dX4_pinched_37 : decode cX4_pinched 37 = .ok (.iload 5, 2) := dk_21 5 (dk_at dksX4_pinched_1 14 rfl rfl)
theorem dX4_pinched_39 : decode cX4_pinched 39 = .ok (.iload 5, 2) := dk_21 5 (dk_at dksX4_pinched_1 16 rfl rfl)
theorem dX4_pinched_41 : decode cX4_pinched 41 = .ok (.imul, 1) := dk_104 (dk_at dksX4_pinched_1 18 rfl rfl)
theorem dX4_pinched_42 : decode cX4_pinched 42 = .ok (.bipush 31, 2) := dk_16 31 (dk_at dksX4_pinched_1 19 rfl rfl)
theorem dX4_pinched_44 : decode cX4_pinched 44 = .ok (.irem, 1) := dk_112 (dk_at dksX4_pinched_1 21 rfl rfl)
theorem dX4_pinched_45 : decode cX4_pinched 45 = .ok (.aload_n 0, 1) := dk_42 (dk_at dksX4_pinched_1 22 rfl rfl)
theorem dX4_pinched_46 : decode cX4_pinched 46 = .ok (.iload_n 1, 1) := dk_27 (dk_at dksX4_pinched_1 23 rfl rfl)
theorem dX4_pinched_47 : decode cX4_pinched 47 = .ok (.iload 4, 2) := dk_21 4 (dk_at dksX4_pinched_2 0 rfl rfl)
theorem dX4_pinched_49 : decode cX4_pinched 49 = .ok (.iconst 0, 1) := dk_3 (dk_at dksX4_pinched_2 2 rfl rfl)
theorem dX4_pinched_50 : decode cX4_pinched 50 = .ok (.invokevirtual 143, 3) := dk_182 0 143 (dk_at dksX4_pinched_2 3 rfl rfl)
theorem dX4_pinched_53 : decode cX4_pinched 53 = .ok (.aload_n 0, 1) := dk_42 (dk_at dksX4_pinched_2 6 rfl rfl)
theorem dX4_pinched_54 : decode cX4_pinched 54 = .ok (.iload_n 1, 1) := dk_27 (dk_at dksX4_pinched_2 7 rfl rfl)
theorem dX4_pinched_55 : decode cX4_pinched 55 = .ok (.iload 4, 2) := dk_21 4 (dk_at dksX4_pinched_2 8 rfl rfl)
theorem dX4_pinched_57 : decode cX4_pinched 57 = .ok (.iconst 2, 1) := dk_5 (dk_at dksX4_pinched_2 10 rfl rfl)
theorem dX4_pinched_58 : decode cX4_pinched 58 = .ok (.invokevirtual 143, 3) := dk_182 0 143 (dk_at dksX4_pinched_2 11 rfl rfl)
theorem dX4_pinched_61 : decode cX4_pinched 61 = .ok (.imul, 1) := dk_104 (dk_at dksX4_pinched_2 14 rfl rfl)
theorem dX4_pinched_62 : decode cX4_pinched 62 = .ok (.bipush 31, 2) := dk_16 31 (dk_at dksX4_pinched_2 15 rfl rfl)
theorem dX4_pinched_64 : decode cX4_pinched 64 = .ok (.irem, 1) := dk_112 (dk_at dksX4_pinched_2 17 rfl rfl)
theorem dX4_pinched_65 : decode cX4_pinched 65 = .ok (.if_icmp .ne 10, 3) := dk_160 0 10 (dk_at dksX4_pinched_2 18 rfl rfl)
theorem dX4_pinched_68 : decode cX4_pinched 68 = .ok (.lconst 1, 1) := dk_10 (dk_at dksX4_pinched_2 21 rfl rfl)
theorem dX4_pinched_69 : decode cX4_pinched 69 = .ok (.iload 4, 2) := dk_21 4 (dk_at dksX4_pinched_2 22 rfl rfl)
theorem dX4_pinched_71 : decode cX4_pinched 71 = .ok (.lshl, 1) := dk_121 (dk_at dksX4_pinched_3 0 rfl rfl)
theorem dX4_pinched_72 : decode cX4_pinched 72 = .ok (.goto 4, 3) := dk_167 0 4 (dk_at dksX4_pinched_3 1 rfl rfl)
theorem dX4_pinched_75 : decode cX4_pinched 75 = .ok (.lconst 0, 1) := dk_9 (dk_at dksX4_pinched_3 4 rfl rfl)
theorem dX4_pinched_76 : decode cX4_pinched 76 = .ok (.lor, 1) := dk_129 (dk_at dksX4_pinched_3 5 rfl rfl)
theorem dX4_pinched_77 : decode cX4_pinched 77 = .ok (.lstore_n 2, 1) := dk_65 (dk_at dksX4_pinched_3 6 rfl rfl)
theorem dX4_pinched_78 : decode cX4_pinched 78 = .ok (.iinc 4 1, 3) := dk_132 4 1 (dk_at dksX4_pinched_3 7 rfl rfl)
theorem dX4_pinched_81 : decode cX4_pinched 81 = .ok (.goto (-62), 3) := dk_167 255 194 (dk_at dksX4_pinched_3 10 rfl rfl)
theorem dX4_pinched_84 : decode cX4_pinched 84 = .ok (.lload_n 2, 1) := dk_32 (dk_at dksX4_pinched_3 13 rfl rfl)
theorem dX4_pinched_85 : decode cX4_pinched 85 = .ok (.lreturn, 1) := dk_173 (dk_at dksX4_pinched_3 14 rfl rfl)
abbrev cX4_behind : ByteArray := prog_16_method_25_code
def yX4_behind : MethodName := ⟨RX4, "behind", "(III)I"⟩
def dkwX4_behind_3 : List UInt8 := [182, 0, 158, 54, 4, 132, 5, 255, 167, 255, 224, 21, 4, 172]
abbrev dktX4_behind_3 : List UInt8 := dkwX4_behind_3 ++ []
def dkwX4_behind_2 : List UInt8 := [21, 5, 158, 0, 33, 21, 4, 16, 249, 159, 0, 26, 42, 21, 4, 29, 156, 0, 7, 4, 167, 0, 4, 3]
abbrev dktX4_behind_2 : List UInt8 := dkwX4_behind_2 ++ dktX4_behind_3
def dkwX4_behind_1 : List UInt8 := [16, 254, 172, 16, 32, 27, 104, 28, 96, 54, 4, 29, 156, 0, 8, 29, 116, 167, 0, 4, 29, 54, 5]
abbrev dktX4_behind_1 : List UInt8 := dkwX4_behind_1 ++ dktX4_behind_2
def dkwX4_behind_0 : List UInt8 := [27, 28, 184, 0, 123, 154, 0, 5, 2, 172, 29, 133, 20, 0, 154, 20, 0, 156, 184, 0, 99, 154, 0, 6]
abbrev dktX4_behind_0 : List UInt8 := dkwX4_behind_0 ++ dktX4_behind_1
theorem dksX4_behind_0 : cX4_behind.data.toList.drop 0 = dktX4_behind_0 := by decide +kernel
theorem dksX4_behind_1 : cX4_behind.data.toList.drop 24 = dktX4_behind_1 := dk_seg dksX4_behind_0 24 rfl rfl
theorem dksX4_behind_2 : cX4_behind.data.toList.drop 47 = dktX4_behind_2 := dk_seg dksX4_behind_1 23 rfl rfl
theorem dksX4_behind_3 : cX4_behind.data.toList.drop 71 = dktX4_behind_3 := dk_seg dksX4_behind_2 24 rfl rfl
theorem dX4_behind_0 : decode cX4_behind 0 = .ok (.iload_n 1, 1) := dk_27 (dk_at dksX4_behind_0 0 rfl rfl)
theorem dX4_behind_1 : decode cX4_behind 1 = .ok (.iload_n 2, 1) := dk_28 (dk_at dksX4_behind_0 1 rfl rfl)
theorem dX4_behind_2 : decode cX4_behind 2 = .ok (.invokestatic 123, 3) := dk_184 0 123 (dk_at dksX4_behind_0 2 rfl rfl)
theorem dX4_behind_5 : decode cX4_behind 5 = .ok (.ifCond .ne 5, 3) := dk_154 0 5 (dk_at dksX4_behind_0 5 rfl rfl)
theorem dX4_behind_8 : decode cX4_behind 8 = .ok (.iconst (-1), 1) := dk_2 (dk_at dksX4_behind_0 8 rfl rfl)
theorem dX4_behind_9 : decode cX4_behind 9 = .ok (.ireturn, 1) := dk_172 (dk_at dksX4_behind_0 9 rfl rfl)
theorem dX4_behind_10 : decode cX4_behind 10 = .ok (.iload_n 3, 1) := dk_29 (dk_at dksX4_behind_0 10 rfl rfl)
theorem dX4_behind_11 : decode cX4_behind 11 = .ok (.i2l, 1) := dk_133 (dk_at dksX4_behind_0 11 rfl rfl)
theorem dX4_behind_12 : decode cX4_behind 12 = .ok (.ldc2_w 154, 3) := dk_20 0 154 (dk_at dksX4_behind_0 12 rfl rfl)
theorem dX4_behind_15 : decode cX4_behind 15 = .ok (.ldc2_w 156, 3) := dk_20 0 156 (dk_at dksX4_behind_0 15 rfl rfl)
theorem dX4_behind_18 : decode cX4_behind 18 = .ok (.invokestatic 99, 3) := dk_184 0 99 (dk_at dksX4_behind_0 18 rfl rfl)
theorem dX4_behind_21 : decode cX4_behind 21 = .ok (.ifCond .ne 6, 3) := dk_154 0 6 (dk_at dksX4_behind_0 21 rfl rfl)
theorem dX4_behind_24 : decode cX4_behind 24 = .ok (.bipush (-2), 2) := dk_16 254 (dk_at dksX4_behind_1 0 rfl rfl)
theorem dX4_behind_26 : decode cX4_behind 26 = .ok (.ireturn, 1) := dk_172 (dk_at dksX4_behind_1 2 rfl rfl)
theorem dX4_behind_27 : decode cX4_behind 27 = .ok (.bipush 32, 2) := dk_16 32 (dk_at dksX4_behind_1 3 rfl rfl)
theorem dX4_behind_29 : decode cX4_behind 29 = .ok (.iload_n 1, 1) := dk_27 (dk_at dksX4_behind_1 5 rfl rfl)
theorem dX4_behind_30 : decode cX4_behind 30 = .ok (.imul, 1) := dk_104 (dk_at dksX4_behind_1 6 rfl rfl)
theorem dX4_behind_31 : decode cX4_behind 31 = .ok (.iload_n 2, 1) := dk_28 (dk_at dksX4_behind_1 7 rfl rfl)
theorem dX4_behind_32 : decode cX4_behind 32 = .ok (.iadd, 1) := dk_96 (dk_at dksX4_behind_1 8 rfl rfl)
theorem dX4_behind_33 : decode cX4_behind 33 = .ok (.istore 4, 2) := dk_54 4 (dk_at dksX4_behind_1 9 rfl rfl)
theorem dX4_behind_35 : decode cX4_behind 35 = .ok (.iload_n 3, 1) := dk_29 (dk_at dksX4_behind_1 11 rfl rfl)
theorem dX4_behind_36 : decode cX4_behind 36 = .ok (.ifCond .ge 8, 3) := dk_156 0 8 (dk_at dksX4_behind_1 12 rfl rfl)
theorem dX4_behind_39 : decode cX4_behind 39 = .ok (.iload_n 3, 1) := dk_29 (dk_at dksX4_behind_1 15 rfl rfl)
theorem dX4_behind_40 : decode cX4_behind 40 = .ok (.ineg, 1) := dk_116 (dk_at dksX4_behind_1 16 rfl rfl)
theorem dX4_behind_41 : decode cX4_behind 41 = .ok (.goto 4, 3) := dk_167 0 4 (dk_at dksX4_behind_1 17 rfl rfl)
theorem dX4_behind_44 : decode cX4_behind 44 = .ok (.iload_n 3, 1) := dk_29 (dk_at dksX4_behind_1 20 rfl rfl)
theorem dX4_behind_45 : decode cX4_behind 45 = .ok (.istore 5, 2) := dk_54 5 (dk_at dksX4_behind_1 21 rfl rfl)
theorem dX4_behind_47 : decode cX4_behind 47 = .ok (.iload 5, 2) := dk_21 5 (dk_at dksX4_behind_2 0 rfl rfl)
theorem dX4_behind_49 : decode cX4_behind 49 = .ok (.ifCond .le 33, 3) := dk_158 0 33 (dk_at dksX4_behind_2 2 rfl rfl)
theorem dX4_behind_52 : decode cX4_behind 52 = .ok (.iload 4, 2) := dk_21 4 (dk_at dksX4_behind_2 5 rfl rfl)
theorem dX4_behind_54 : decode cX4_behind 54 = .ok (.bipush (-7), 2) := dk_16 249 (dk_at dksX4_behind_2 7 rfl rfl)
theorem dX4_behind_56 : decode cX4_behind 56 = .ok (.if_icmp .eq 26, 3) := dk_159 0 26 (dk_at dksX4_behind_2 9 rfl rfl)
theorem dX4_behind_59 : decode cX4_behind 59 = .ok (.aload_n 0, 1) := dk_42 (dk_at dksX4_behind_2 12 rfl rfl)
theorem dX4_behind_60 : decode cX4_behind 60 = .ok (.iload 4, 2) := dk_21 4 (dk_at dksX4_behind_2 13 rfl rfl)
theorem dX4_behind_62 : decode cX4_behind 62 = .ok (.iload_n 3, 1) := dk_29 (dk_at dksX4_behind_2 15 rfl rfl)
theorem dX4_behind_63 : decode cX4_behind 63 = .ok (.ifCond .ge 7, 3) := dk_156 0 7 (dk_at dksX4_behind_2 16 rfl rfl)
theorem dX4_behind_66 : decode cX4_behind 66 = .ok (.iconst 1, 1) := dk_4 (dk_at dksX4_behind_2 19 rfl rfl)
theorem dX4_behind_67 : decode cX4_behind 67 = .ok (.goto 4, 3) := dk_167 0 4 (dk_at dksX4_behind_2 20 rfl rfl)
theorem dX4_behind_70 : decode cX4_behind 70 = .ok (.iconst 0, 1) := dk_3 (dk_at dksX4_behind_2 23 rfl rfl)
theorem dX4_behind_71 : decode cX4_behind 71 = .ok (.invokevirtual 158, 3) := dk_182 0 158 (dk_at dksX4_behind_3 0 rfl rfl)
theorem dX4_behind_74 : decode cX4_behind 74 = .ok (.istore 4, 2) := dk_54 4 (dk_at dksX4_behind_3 3 rfl rfl)
theorem dX4_behind_76 : decode cX4_behind 76 = .ok (.iinc 5 (-1), 3) := dk_132 5 255 (dk_at dksX4_behind_3 5 rfl rfl)
theorem dX4_behind_79 : decode cX4_behind 79 = .ok (.goto (-32), 3) := dk_167 255 224 (dk_at dksX4_behind_3 8 rfl rfl)
theorem dX4_behind_82 : decode cX4_behind 82 = .ok (.iload 4, 2) := dk_21 4 (dk_at dksX4_behind_3 11 rfl rfl)
theorem dX4_behind_84 : decode cX4_behind 84 = .ok (.ireturn, 1) := dk_172 (dk_at dksX4_behind_3 13 rfl rfl)
abbrev cX4_step : ByteArray := prog_16_method_24_code
def yX4_step : MethodName := ⟨RX4, "step", "(IZ)I"⟩
def dkwX4_step_1 : List UInt8 := [167, 0, 17, 42, 29, 28, 153, 0, 7, 3, 167, 0, 4, 4, 182, 0, 151, 172]
abbrev dktX4_step_1 : List UInt8 := dkwX4_step_1 ++ []
def dkwX4_step_0 : List UInt8 := [42, 27, 28, 153, 0, 7, 4, 167, 0, 4, 3, 182, 0, 151, 62, 29, 16, 249, 160, 0, 8, 16, 249]
abbrev dktX4_step_0 : List UInt8 := dkwX4_step_0 ++ dktX4_step_1
theorem dksX4_step_0 : cX4_step.data.toList.drop 0 = dktX4_step_0 := by decide +kernel
theorem dksX4_step_1 : cX4_step.data.toList.drop 23 = dktX4_step_1 := dk_seg dksX4_step_0 23 rfl rfl
theorem dX4_step_0 : decode cX4_step 0 = .ok (.aload_n 0, 1) := dk_42 (dk_at dksX4_step_0 0 rfl rfl)
theorem dX4_step_1 : decode cX4_step 1 = .ok (.iload_n 1, 1) := dk_27 (dk_at dksX4_step_0 1 rfl rfl)
theorem dX4_step_2 : decode cX4_step 2 = .ok (.iload_n 2, 1) := dk_28 (dk_at dksX4_step_0 2 rfl rfl)
theorem dX4_step_3 : decode cX4_step 3 = .ok (.ifCond .eq 7, 3) := dk_153 0 7 (dk_at dksX4_step_0 3 rfl rfl)
theorem dX4_step_6 : decode cX4_step 6 = .ok (.iconst 1, 1) := dk_4 (dk_at dksX4_step_0 6 rfl rfl)
theorem dX4_step_7 : decode cX4_step 7 = .ok (.goto 4, 3) := dk_167 0 4 (dk_at dksX4_step_0 7 rfl rfl)
theorem dX4_step_10 : decode cX4_step 10 = .ok (.iconst 0, 1) := dk_3 (dk_at dksX4_step_0 10 rfl rfl)
theorem dX4_step_11 : decode cX4_step 11 = .ok (.invokevirtual 151, 3) := dk_182 0 151 (dk_at dksX4_step_0 11 rfl rfl)
theorem dX4_step_14 : decode cX4_step 14 = .ok (.istore_n 3, 1) := dk_62 (dk_at dksX4_step_0 14 rfl rfl)
theorem dX4_step_15 : decode cX4_step 15 = .ok (.iload_n 3, 1) := dk_29 (dk_at dksX4_step_0 15 rfl rfl)
theorem dX4_step_16 : decode cX4_step 16 = .ok (.bipush (-7), 2) := dk_16 249 (dk_at dksX4_step_0 16 rfl rfl)
theorem dX4_step_18 : decode cX4_step 18 = .ok (.if_icmp .ne 8, 3) := dk_160 0 8 (dk_at dksX4_step_0 18 rfl rfl)
theorem dX4_step_21 : decode cX4_step 21 = .ok (.bipush (-7), 2) := dk_16 249 (dk_at dksX4_step_0 21 rfl rfl)
theorem dX4_step_23 : decode cX4_step 23 = .ok (.goto 17, 3) := dk_167 0 17 (dk_at dksX4_step_1 0 rfl rfl)
theorem dX4_step_26 : decode cX4_step 26 = .ok (.aload_n 0, 1) := dk_42 (dk_at dksX4_step_1 3 rfl rfl)
theorem dX4_step_27 : decode cX4_step 27 = .ok (.iload_n 3, 1) := dk_29 (dk_at dksX4_step_1 4 rfl rfl)
theorem dX4_step_28 : decode cX4_step 28 = .ok (.iload_n 2, 1) := dk_28 (dk_at dksX4_step_1 5 rfl rfl)
theorem dX4_step_29 : decode cX4_step 29 = .ok (.ifCond .eq 7, 3) := dk_153 0 7 (dk_at dksX4_step_1 6 rfl rfl)
theorem dX4_step_32 : decode cX4_step 32 = .ok (.iconst 0, 1) := dk_3 (dk_at dksX4_step_1 9 rfl rfl)
theorem dX4_step_33 : decode cX4_step 33 = .ok (.goto 4, 3) := dk_167 0 4 (dk_at dksX4_step_1 10 rfl rfl)
theorem dX4_step_36 : decode cX4_step 36 = .ok (.iconst 1, 1) := dk_4 (dk_at dksX4_step_1 13 rfl rfl)
theorem dX4_step_37 : decode cX4_step 37 = .ok (.invokevirtual 151, 3) := dk_182 0 151 (dk_at dksX4_step_1 14 rfl rfl)
theorem dX4_step_40 : decode cX4_step 40 = .ok (.ireturn, 1) := dk_172 (dk_at dksX4_step_1 17 rfl rfl)
abbrev cX4_swapped : ByteArray := prog_16_method_23_code
def yX4_swapped : MethodName := ⟨RX4, "swapped", "(II)I"⟩
def dkwX4_swapped_3 : List UInt8 := [96, 172]
abbrev dktX4_swapped_3 : List UInt8 := dkwX4_swapped_3 ++ []
def dkwX4_swapped_2 : List UInt8 := [167, 0, 25, 28, 154, 0, 14, 16, 32, 21, 5, 104, 21, 4, 96, 167, 0, 10, 16, 32, 29, 104, 21, 5]
abbrev dktX4_swapped_2 : List UInt8 := dkwX4_swapped_2 ++ dktX4_swapped_3
def dkwX4_swapped_1 : List UInt8 := [167, 0, 11, 42, 4, 21, 4, 29, 182, 0, 146, 54, 5, 21, 5, 16, 249, 160, 0, 8, 16, 249]
abbrev dktX4_swapped_1 : List UInt8 := dkwX4_swapped_1 ++ dktX4_swapped_2
def dkwX4_swapped_0 : List UInt8 := [27, 16, 32, 108, 62, 27, 16, 32, 112, 54, 4, 28, 154, 0, 14, 42, 3, 29, 21, 4, 182, 0, 146]
abbrev dktX4_swapped_0 : List UInt8 := dkwX4_swapped_0 ++ dktX4_swapped_1
theorem dksX4_swapped_0 : cX4_swapped.data.toList.drop 0 = dktX4_swapped_0 := by decide +kernel
theorem dksX4_swapped_1 : cX4_swapped.data.toList.drop 23 = dktX4_swapped_1 := dk_seg dksX4_swapped_0 23 rfl rfl
theorem dksX4_swapped_2 : cX4_swapped.data.toList.drop 45 = dktX4_swapped_2 := dk_seg dksX4_swapped_1 22 rfl rfl
theorem dksX4_swapped_3 : cX4_swapped.data.toList.drop 69 = dktX4_swapped_3 := dk_seg dksX4_swapped_2 24 rfl rfl
theorem dX4_swapped_0 : decode cX4_swapped 0 = .ok (.iload_n 1, 1) := dk_27 (dk_at dksX4_swapped_0 0 rfl rfl)
theorem dX4_swapped_1 : decode cX4_swapped 1 = .ok (.bipush 32, 2) := dk_16 32 (dk_at dksX4_swapped_0 1 rfl rfl)
theorem dX4_swapped_3 : decode cX4_swapped 3 = .ok (.idiv, 1) := dk_108 (dk_at dksX4_swapped_0 3 rfl rfl)
theorem dX4_swapped_4 : decode cX4_swapped 4 = .ok (.istore_n 3, 1) := dk_62 (dk_at dksX4_swapped_0 4 rfl rfl)
theorem dX4_swapped_5 : decode cX4_swapped 5 = .ok (.iload_n 1, 1) := dk_27 (dk_at dksX4_swapped_0 5 rfl rfl)
theorem dX4_swapped_6 : decode cX4_swapped 6 = .ok (.bipush 32, 2) := dk_16 32 (dk_at dksX4_swapped_0 6 rfl rfl)
theorem dX4_swapped_8 : decode cX4_swapped 8 = .ok (.irem, 1) := dk_112 (dk_at dksX4_swapped_0 8 rfl rfl)
theorem dX4_swapped_9 : decode cX4_swapped 9 = .ok (.istore 4, 2) := dk_54 4 (dk_at dksX4_swapped_0 9 rfl rfl)
theorem dX4_swapped_11 : decode cX4_swapped 11 = .ok (.iload_n 2, 1) := dk_28 (dk_at dksX4_swapped_0 11 rfl rfl)
theorem dX4_swapped_12 : decode cX4_swapped 12 = .ok (.ifCond .ne 14, 3) := dk_154 0 14 (dk_at dksX4_swapped_0 12 rfl rfl)
theorem dX4_swapped_15 : decode cX4_swapped 15 = .ok (.aload_n 0, 1) := dk_42 (dk_at dksX4_swapped_0 15 rfl rfl)
theorem dX4_swapped_16 : decode cX4_swapped 16 = .ok (.iconst 0, 1) := dk_3 (dk_at dksX4_swapped_0 16 rfl rfl)
theorem dX4_swapped_17 : decode cX4_swapped 17 = .ok (.iload_n 3, 1) := dk_29 (dk_at dksX4_swapped_0 17 rfl rfl)
theorem dX4_swapped_18 : decode cX4_swapped 18 = .ok (.iload 4, 2) := dk_21 4 (dk_at dksX4_swapped_0 18 rfl rfl)
theorem dX4_swapped_20 : decode cX4_swapped 20 = .ok (.invokevirtual 146, 3) := dk_182 0 146 (dk_at dksX4_swapped_0 20 rfl rfl)
theorem dX4_swapped_23 : decode cX4_swapped 23 = .ok (.goto 11, 3) := dk_167 0 11 (dk_at dksX4_swapped_1 0 rfl rfl)
theorem dX4_swapped_26 : decode cX4_swapped 26 = .ok (.aload_n 0, 1) := dk_42 (dk_at dksX4_swapped_1 3 rfl rfl)
theorem dX4_swapped_27 : decode cX4_swapped 27 = .ok (.iconst 1, 1) := dk_4 (dk_at dksX4_swapped_1 4 rfl rfl)
theorem dX4_swapped_28 : decode cX4_swapped 28 = .ok (.iload 4, 2) := dk_21 4 (dk_at dksX4_swapped_1 5 rfl rfl)
theorem dX4_swapped_30 : decode cX4_swapped 30 = .ok (.iload_n 3, 1) := dk_29 (dk_at dksX4_swapped_1 7 rfl rfl)
theorem dX4_swapped_31 : decode cX4_swapped 31 = .ok (.invokevirtual 146, 3) := dk_182 0 146 (dk_at dksX4_swapped_1 8 rfl rfl)
theorem dX4_swapped_34 : decode cX4_swapped 34 = .ok (.istore 5, 2) := dk_54 5 (dk_at dksX4_swapped_1 11 rfl rfl)
theorem dX4_swapped_36 : decode cX4_swapped 36 = .ok (.iload 5, 2) := dk_21 5 (dk_at dksX4_swapped_1 13 rfl rfl)
theorem dX4_swapped_38 : decode cX4_swapped 38 = .ok (.bipush (-7), 2) := dk_16 249 (dk_at dksX4_swapped_1 15 rfl rfl)
theorem dX4_swapped_40 : decode cX4_swapped 40 = .ok (.if_icmp .ne 8, 3) := dk_160 0 8 (dk_at dksX4_swapped_1 17 rfl rfl)
theorem dX4_swapped_43 : decode cX4_swapped 43 = .ok (.bipush (-7), 2) := dk_16 249 (dk_at dksX4_swapped_1 20 rfl rfl)
theorem dX4_swapped_45 : decode cX4_swapped 45 = .ok (.goto 25, 3) := dk_167 0 25 (dk_at dksX4_swapped_2 0 rfl rfl)
theorem dX4_swapped_48 : decode cX4_swapped 48 = .ok (.iload_n 2, 1) := dk_28 (dk_at dksX4_swapped_2 3 rfl rfl)
theorem dX4_swapped_49 : decode cX4_swapped 49 = .ok (.ifCond .ne 14, 3) := dk_154 0 14 (dk_at dksX4_swapped_2 4 rfl rfl)
theorem dX4_swapped_52 : decode cX4_swapped 52 = .ok (.bipush 32, 2) := dk_16 32 (dk_at dksX4_swapped_2 7 rfl rfl)
theorem dX4_swapped_54 : decode cX4_swapped 54 = .ok (.iload 5, 2) := dk_21 5 (dk_at dksX4_swapped_2 9 rfl rfl)
theorem dX4_swapped_56 : decode cX4_swapped 56 = .ok (.imul, 1) := dk_104 (dk_at dksX4_swapped_2 11 rfl rfl)
theorem dX4_swapped_57 : decode cX4_swapped 57 = .ok (.iload 4, 2) := dk_21 4 (dk_at dksX4_swapped_2 12 rfl rfl)
theorem dX4_swapped_59 : decode cX4_swapped 59 = .ok (.iadd, 1) := dk_96 (dk_at dksX4_swapped_2 14 rfl rfl)
theorem dX4_swapped_60 : decode cX4_swapped 60 = .ok (.goto 10, 3) := dk_167 0 10 (dk_at dksX4_swapped_2 15 rfl rfl)
theorem dX4_swapped_63 : decode cX4_swapped 63 = .ok (.bipush 32, 2) := dk_16 32 (dk_at dksX4_swapped_2 18 rfl rfl)
theorem dX4_swapped_65 : decode cX4_swapped 65 = .ok (.iload_n 3, 1) := dk_29 (dk_at dksX4_swapped_2 20 rfl rfl)
theorem dX4_swapped_66 : decode cX4_swapped 66 = .ok (.imul, 1) := dk_104 (dk_at dksX4_swapped_2 21 rfl rfl)
theorem dX4_swapped_67 : decode cX4_swapped 67 = .ok (.iload 5, 2) := dk_21 5 (dk_at dksX4_swapped_2 22 rfl rfl)
theorem dX4_swapped_69 : decode cX4_swapped 69 = .ok (.iadd, 1) := dk_96 (dk_at dksX4_swapped_3 0 rfl rfl)
theorem dX4_swapped_70 : decode cX4_swapped 70 = .ok (.ireturn, 1) := dk_172 (dk_at dksX4_swapped_3 1 rfl rfl)
abbrev cX4_period : ByteArray := prog_16_method_26_code
def yX4_period : MethodName := ⟨RX4, "period", "(II)I"⟩
def dkwX4_period_2 : List UInt8 := [16, 32, 27, 104, 28, 96, 160, 0, 6, 21, 4, 172, 132, 4, 1, 167, 255, 216, 16, 251, 172]
abbrev dktX4_period_2 : List UInt8 := dkwX4_period_2 ++ []
def dkwX4_period_1 : List UInt8 := [17, 4, 0, 163, 0, 38, 42, 29, 3, 182, 0, 158, 62, 29, 16, 249, 160, 0, 6, 16, 249, 172, 29]
abbrev dktX4_period_1 : List UInt8 := dkwX4_period_1 ++ dktX4_period_2
def dkwX4_period_0 : List UInt8 := [27, 28, 184, 0, 123, 154, 0, 5, 2, 172, 16, 32, 27, 104, 28, 96, 62, 4, 54, 4, 21, 4]
abbrev dktX4_period_0 : List UInt8 := dkwX4_period_0 ++ dktX4_period_1
theorem dksX4_period_0 : cX4_period.data.toList.drop 0 = dktX4_period_0 := by decide +kernel
theorem dksX4_period_1 : cX4_period.data.toList.drop 22 = dktX4_period_1 := dk_seg dksX4_period_0 22 rfl rfl
theorem dksX4_period_2 : cX4_period.data.toList.drop 45 = dktX4_period_2 := dk_seg dksX4_period_1 23 rfl rfl
theorem dX4_period_0 : decode cX4_period 0 = .ok (.iload_n 1, 1) := dk_27 (dk_at dksX4_period_0 0 rfl rfl)
theorem dX4_period_1 : decode cX4_period 1 = .ok (.iload_n 2, 1) := dk_28 (dk_at dksX4_period_0 1 rfl rfl)
theorem dX4_period_2 : decode cX4_period 2 = .ok (.invokestatic 123, 3) := dk_184 0 123 (dk_at dksX4_period_0 2 rfl rfl)
theorem dX4_period_5 : decode cX4_period 5 = .ok (.ifCond .ne 5, 3) := dk_154 0 5 (dk_at dksX4_period_0 5 rfl rfl)
theorem dX4_period_8 : decode cX4_period 8 = .ok (.iconst (-1), 1) := dk_2 (dk_at dksX4_period_0 8 rfl rfl)
theorem dX4_period_9 : decode cX4_period 9 = .ok (.ireturn, 1) := dk_172 (dk_at dksX4_period_0 9 rfl rfl)
theorem dX4_period_10 : decode cX4_period 10 = .ok (.bipush 32, 2) := dk_16 32 (dk_at dksX4_period_0 10 rfl rfl)
theorem dX4_period_12 : decode cX4_period 12 = .ok (.iload_n 1, 1) := dk_27 (dk_at dksX4_period_0 12 rfl rfl)
theorem dX4_period_13 : decode cX4_period 13 = .ok (.imul, 1) := dk_104 (dk_at dksX4_period_0 13 rfl rfl)
theorem dX4_period_14 : decode cX4_period 14 = .ok (.iload_n 2, 1) := dk_28 (dk_at dksX4_period_0 14 rfl rfl)
theorem dX4_period_15 : decode cX4_period 15 = .ok (.iadd, 1) := dk_96 (dk_at dksX4_period_0 15 rfl rfl)
theorem dX4_period_16 : decode cX4_period 16 = .ok (.istore_n 3, 1) := dk_62 (dk_at dksX4_period_0 16 rfl rfl)
theorem dX4_period_17 : decode cX4_period 17 = .ok (.iconst 1, 1) := dk_4 (dk_at dksX4_period_0 17 rfl rfl)
theorem dX4_period_18 : decode cX4_period 18 = .ok (.istore 4, 2) := dk_54 4 (dk_at dksX4_period_0 18 rfl rfl)
theorem dX4_period_20 : decode cX4_period 20 = .ok (.iload 4, 2) := dk_21 4 (dk_at dksX4_period_0 20 rfl rfl)
theorem dX4_period_22 : decode cX4_period 22 = .ok (.sipush 1024, 3) := dk_17 4 0 (dk_at dksX4_period_1 0 rfl rfl)
theorem dX4_period_25 : decode cX4_period 25 = .ok (.if_icmp .gt 38, 3) := dk_163 0 38 (dk_at dksX4_period_1 3 rfl rfl)
theorem dX4_period_28 : decode cX4_period 28 = .ok (.aload_n 0, 1) := dk_42 (dk_at dksX4_period_1 6 rfl rfl)
theorem dX4_period_29 : decode cX4_period 29 = .ok (.iload_n 3, 1) := dk_29 (dk_at dksX4_period_1 7 rfl rfl)
theorem dX4_period_30 : decode cX4_period 30 = .ok (.iconst 0, 1) := dk_3 (dk_at dksX4_period_1 8 rfl rfl)
theorem dX4_period_31 : decode cX4_period 31 = .ok (.invokevirtual 158, 3) := dk_182 0 158 (dk_at dksX4_period_1 9 rfl rfl)
theorem dX4_period_34 : decode cX4_period 34 = .ok (.istore_n 3, 1) := dk_62 (dk_at dksX4_period_1 12 rfl rfl)
theorem dX4_period_35 : decode cX4_period 35 = .ok (.iload_n 3, 1) := dk_29 (dk_at dksX4_period_1 13 rfl rfl)
theorem dX4_period_36 : decode cX4_period 36 = .ok (.bipush (-7), 2) := dk_16 249 (dk_at dksX4_period_1 14 rfl rfl)
theorem dX4_period_38 : decode cX4_period 38 = .ok (.if_icmp .ne 6, 3) := dk_160 0 6 (dk_at dksX4_period_1 16 rfl rfl)
theorem dX4_period_41 : decode cX4_period 41 = .ok (.bipush (-7), 2) := dk_16 249 (dk_at dksX4_period_1 19 rfl rfl)
theorem dX4_period_43 : decode cX4_period 43 = .ok (.ireturn, 1) := dk_172 (dk_at dksX4_period_1 21 rfl rfl)
theorem dX4_period_44 : decode cX4_period 44 = .ok (.iload_n 3, 1) := dk_29 (dk_at dksX4_period_1 22 rfl rfl)
theorem dX4_period_45 : decode cX4_period 45 = .ok (.bipush 32, 2) := dk_16 32 (dk_at dksX4_period_2 0 rfl rfl)
theorem dX4_period_47 : decode cX4_period 47 = .ok (.iload_n 1, 1) := dk_27 (dk_at dksX4_period_2 2 rfl rfl)
theorem dX4_period_48 : decode cX4_period 48 = .ok (.imul, 1) := dk_104 (dk_at dksX4_period_2 3 rfl rfl)
theorem dX4_period_49 : decode cX4_period 49 = .ok (.iload_n 2, 1) := dk_28 (dk_at dksX4_period_2 4 rfl rfl)
theorem dX4_period_50 : decode cX4_period 50 = .ok (.iadd, 1) := dk_96 (dk_at dksX4_period_2 5 rfl rfl)
theorem dX4_period_51 : decode cX4_period 51 = .ok (.if_icmp .ne 6, 3) := dk_160 0 6 (dk_at dksX4_period_2 6 rfl rfl)
theorem dX4_period_54 : decode cX4_period 54 = .ok (.iload 4, 2) := dk_21 4 (dk_at dksX4_period_2 9 rfl rfl)
theorem dX4_period_56 : decode cX4_period 56 = .ok (.ireturn, 1) := dk_172 (dk_at dksX4_period_2 11 rfl rfl)
theorem dX4_period_57 : decode cX4_period 57 = .ok (.iinc 4 1, 3) := dk_132 4 1 (dk_at dksX4_period_2 12 rfl rfl)
theorem dX4_period_60 : decode cX4_period 60 = .ok (.goto (-40), 3) := dk_167 255 216 (dk_at dksX4_period_2 15 rfl rfl)
theorem dX4_period_63 : decode cX4_period 63 = .ok (.bipush (-5), 2) := dk_16 251 (dk_at dksX4_period_2 18 rfl rfl)
theorem dX4_period_65 : decode cX4_period 65 = .ok (.ireturn, 1) := dk_172 (dk_at dksX4_period_2 20 rfl rfl)
abbrev cX4_fibre : ByteArray := prog_16_method_29_code
def yX4_fibre : MethodName := ⟨RX4, "fibre", "(II)I"⟩
def dkwX4_fibre_0 : List UInt8 := [27, 184, 0, 103, 153, 0, 12, 42, 27, 28, 182, 0, 165, 167, 0, 4, 2, 172]
abbrev dktX4_fibre_0 : List UInt8 := dkwX4_fibre_0 ++ []
theorem dksX4_fibre_0 : cX4_fibre.data.toList.drop 0 = dktX4_fibre_0 := by decide +kernel
theorem dX4_fibre_0 : decode cX4_fibre 0 = .ok (.iload_n 1, 1) := dk_27 (dk_at dksX4_fibre_0 0 rfl rfl)
theorem dX4_fibre_1 : decode cX4_fibre 1 = .ok (.invokestatic 103, 3) := dk_184 0 103 (dk_at dksX4_fibre_0 1 rfl rfl)
theorem dX4_fibre_4 : decode cX4_fibre 4 = .ok (.ifCond .eq 12, 3) := dk_153 0 12 (dk_at dksX4_fibre_0 4 rfl rfl)
theorem dX4_fibre_7 : decode cX4_fibre 7 = .ok (.aload_n 0, 1) := dk_42 (dk_at dksX4_fibre_0 7 rfl rfl)
theorem dX4_fibre_8 : decode cX4_fibre 8 = .ok (.iload_n 1, 1) := dk_27 (dk_at dksX4_fibre_0 8 rfl rfl)
theorem dX4_fibre_9 : decode cX4_fibre 9 = .ok (.iload_n 2, 1) := dk_28 (dk_at dksX4_fibre_0 9 rfl rfl)
theorem dX4_fibre_10 : decode cX4_fibre 10 = .ok (.invokevirtual 165, 3) := dk_182 0 165 (dk_at dksX4_fibre_0 10 rfl rfl)
theorem dX4_fibre_13 : decode cX4_fibre 13 = .ok (.goto 4, 3) := dk_167 0 4 (dk_at dksX4_fibre_0 13 rfl rfl)
theorem dX4_fibre_16 : decode cX4_fibre 16 = .ok (.iconst (-1), 1) := dk_2 (dk_at dksX4_fibre_0 16 rfl rfl)
theorem dX4_fibre_17 : decode cX4_fibre 17 = .ok (.ireturn, 1) := dk_172 (dk_at dksX4_fibre_0 17 rfl rfl)
abbrev cX4_nth : ByteArray := prog_16_method_28_code
def yX4_nth : MethodName := ⟨RX4, "nth", "(II)I"⟩
def dkwX4_nth_2 : List UInt8 := [160, 0, 7, 29, 167, 0, 5, 16, 251, 172]
abbrev dktX4_nth_2 : List UInt8 := dkwX4_nth_2 ++ []
def dkwX4_nth_1 : List UInt8 := [27, 160, 0, 14, 29, 28, 160, 0, 6, 21, 4, 172, 132, 3, 1, 132, 4, 1, 167, 255, 223, 28, 2]
abbrev dktX4_nth_1 : List UInt8 := dkwX4_nth_1 ++ dktX4_nth_2
def dkwX4_nth_0 : List UInt8 := [42, 182, 0, 162, 3, 62, 3, 54, 4, 21, 4, 17, 4, 0, 162, 0, 31, 42, 180, 0, 18, 21, 4, 46]
abbrev dktX4_nth_0 : List UInt8 := dkwX4_nth_0 ++ dktX4_nth_1
theorem dksX4_nth_0 : cX4_nth.data.toList.drop 0 = dktX4_nth_0 := by decide +kernel
theorem dksX4_nth_1 : cX4_nth.data.toList.drop 24 = dktX4_nth_1 := dk_seg dksX4_nth_0 24 rfl rfl
theorem dksX4_nth_2 : cX4_nth.data.toList.drop 47 = dktX4_nth_2 := dk_seg dksX4_nth_1 23 rfl rfl
theorem dX4_nth_0 : decode cX4_nth 0 = .ok (.aload_n 0, 1) := dk_42 (dk_at dksX4_nth_0 0 rfl rfl)
theorem dX4_nth_1 : decode cX4_nth 1 = .ok (.invokevirtual 162, 3) := dk_182 0 162 (dk_at dksX4_nth_0 1 rfl rfl)
theorem dX4_nth_4 : decode cX4_nth 4 = .ok (.iconst 0, 1) := dk_3 (dk_at dksX4_nth_0 4 rfl rfl)
theorem dX4_nth_5 : decode cX4_nth 5 = .ok (.istore_n 3, 1) := dk_62 (dk_at dksX4_nth_0 5 rfl rfl)
theorem dX4_nth_6 : decode cX4_nth 6 = .ok (.iconst 0, 1) := dk_3 (dk_at dksX4_nth_0 6 rfl rfl)
theorem dX4_nth_7 : decode cX4_nth 7 = .ok (.istore 4, 2) := dk_54 4 (dk_at dksX4_nth_0 7 rfl rfl)
theorem dX4_nth_9 : decode cX4_nth 9 = .ok (.iload 4, 2) := dk_21 4 (dk_at dksX4_nth_0 9 rfl rfl)
theorem dX4_nth_11 : decode cX4_nth 11 = .ok (.sipush 1024, 3) := dk_17 4 0 (dk_at dksX4_nth_0 11 rfl rfl)
theorem dX4_nth_14 : decode cX4_nth 14 = .ok (.if_icmp .ge 31, 3) := dk_162 0 31 (dk_at dksX4_nth_0 14 rfl rfl)
theorem dX4_nth_17 : decode cX4_nth 17 = .ok (.aload_n 0, 1) := dk_42 (dk_at dksX4_nth_0 17 rfl rfl)
theorem dX4_nth_18 : decode cX4_nth 18 = .ok (.getfield 18, 3) := dk_180 0 18 (dk_at dksX4_nth_0 18 rfl rfl)
theorem dX4_nth_21 : decode cX4_nth 21 = .ok (.iload 4, 2) := dk_21 4 (dk_at dksX4_nth_0 21 rfl rfl)
theorem dX4_nth_23 : decode cX4_nth 23 = .ok (.iaload, 1) := dk_46 (dk_at dksX4_nth_0 23 rfl rfl)
theorem dX4_nth_24 : decode cX4_nth 24 = .ok (.iload_n 1, 1) := dk_27 (dk_at dksX4_nth_1 0 rfl rfl)
theorem dX4_nth_25 : decode cX4_nth 25 = .ok (.if_icmp .ne 14, 3) := dk_160 0 14 (dk_at dksX4_nth_1 1 rfl rfl)
theorem dX4_nth_28 : decode cX4_nth 28 = .ok (.iload_n 3, 1) := dk_29 (dk_at dksX4_nth_1 4 rfl rfl)
theorem dX4_nth_29 : decode cX4_nth 29 = .ok (.iload_n 2, 1) := dk_28 (dk_at dksX4_nth_1 5 rfl rfl)
theorem dX4_nth_30 : decode cX4_nth 30 = .ok (.if_icmp .ne 6, 3) := dk_160 0 6 (dk_at dksX4_nth_1 6 rfl rfl)
theorem dX4_nth_33 : decode cX4_nth 33 = .ok (.iload 4, 2) := dk_21 4 (dk_at dksX4_nth_1 9 rfl rfl)
theorem dX4_nth_35 : decode cX4_nth 35 = .ok (.ireturn, 1) := dk_172 (dk_at dksX4_nth_1 11 rfl rfl)
theorem dX4_nth_36 : decode cX4_nth 36 = .ok (.iinc 3 1, 3) := dk_132 3 1 (dk_at dksX4_nth_1 12 rfl rfl)
theorem dX4_nth_39 : decode cX4_nth 39 = .ok (.iinc 4 1, 3) := dk_132 4 1 (dk_at dksX4_nth_1 15 rfl rfl)
theorem dX4_nth_42 : decode cX4_nth 42 = .ok (.goto (-33), 3) := dk_167 255 223 (dk_at dksX4_nth_1 18 rfl rfl)
theorem dX4_nth_45 : decode cX4_nth 45 = .ok (.iload_n 2, 1) := dk_28 (dk_at dksX4_nth_1 21 rfl rfl)
theorem dX4_nth_46 : decode cX4_nth 46 = .ok (.iconst (-1), 1) := dk_2 (dk_at dksX4_nth_1 22 rfl rfl)
theorem dX4_nth_47 : decode cX4_nth 47 = .ok (.if_icmp .ne 7, 3) := dk_160 0 7 (dk_at dksX4_nth_2 0 rfl rfl)
theorem dX4_nth_50 : decode cX4_nth 50 = .ok (.iload_n 3, 1) := dk_29 (dk_at dksX4_nth_2 3 rfl rfl)
theorem dX4_nth_51 : decode cX4_nth 51 = .ok (.goto 5, 3) := dk_167 0 5 (dk_at dksX4_nth_2 4 rfl rfl)
theorem dX4_nth_54 : decode cX4_nth 54 = .ok (.bipush (-5), 2) := dk_16 251 (dk_at dksX4_nth_2 7 rfl rfl)
theorem dX4_nth_56 : decode cX4_nth 56 = .ok (.ireturn, 1) := dk_172 (dk_at dksX4_nth_2 9 rfl rfl)
abbrev cX4_findsKept : ByteArray := prog_16_method_27_code
def yX4_findsKept : MethodName := ⟨RX4, "findsKept", "()V"⟩
def dkwX4_findsKept_1 : List UInt8 := [182, 0, 133, 79, 132, 1, 1, 167, 255, 228, 177]
abbrev dktX4_findsKept_1 : List UInt8 := dkwX4_findsKept_1 ++ []
def dkwX4_findsKept_0 : List UInt8 := [3, 60, 27, 17, 4, 0, 162, 0, 27, 42, 180, 0, 18, 27, 42, 27, 16, 32, 108, 27, 16, 32, 112]
abbrev dktX4_findsKept_0 : List UInt8 := dkwX4_findsKept_0 ++ dktX4_findsKept_1
theorem dksX4_findsKept_0 : cX4_findsKept.data.toList.drop 0 = dktX4_findsKept_0 := by decide +kernel
theorem dksX4_findsKept_1 : cX4_findsKept.data.toList.drop 23 = dktX4_findsKept_1 := dk_seg dksX4_findsKept_0 23 rfl rfl
theorem dX4_findsKept_0 : decode cX4_findsKept 0 = .ok (.iconst 0, 1) := dk_3 (dk_at dksX4_findsKept_0 0 rfl rfl)
theorem dX4_findsKept_1 : decode cX4_findsKept 1 = .ok (.istore_n 1, 1) := dk_60 (dk_at dksX4_findsKept_0 1 rfl rfl)
theorem dX4_findsKept_2 : decode cX4_findsKept 2 = .ok (.iload_n 1, 1) := dk_27 (dk_at dksX4_findsKept_0 2 rfl rfl)
theorem dX4_findsKept_3 : decode cX4_findsKept 3 = .ok (.sipush 1024, 3) := dk_17 4 0 (dk_at dksX4_findsKept_0 3 rfl rfl)
theorem dX4_findsKept_6 : decode cX4_findsKept 6 = .ok (.if_icmp .ge 27, 3) := dk_162 0 27 (dk_at dksX4_findsKept_0 6 rfl rfl)
theorem dX4_findsKept_9 : decode cX4_findsKept 9 = .ok (.aload_n 0, 1) := dk_42 (dk_at dksX4_findsKept_0 9 rfl rfl)
theorem dX4_findsKept_10 : decode cX4_findsKept 10 = .ok (.getfield 18, 3) := dk_180 0 18 (dk_at dksX4_findsKept_0 10 rfl rfl)
theorem dX4_findsKept_13 : decode cX4_findsKept 13 = .ok (.iload_n 1, 1) := dk_27 (dk_at dksX4_findsKept_0 13 rfl rfl)
theorem dX4_findsKept_14 : decode cX4_findsKept 14 = .ok (.aload_n 0, 1) := dk_42 (dk_at dksX4_findsKept_0 14 rfl rfl)
theorem dX4_findsKept_15 : decode cX4_findsKept 15 = .ok (.iload_n 1, 1) := dk_27 (dk_at dksX4_findsKept_0 15 rfl rfl)
theorem dX4_findsKept_16 : decode cX4_findsKept 16 = .ok (.bipush 32, 2) := dk_16 32 (dk_at dksX4_findsKept_0 16 rfl rfl)
theorem dX4_findsKept_18 : decode cX4_findsKept 18 = .ok (.idiv, 1) := dk_108 (dk_at dksX4_findsKept_0 18 rfl rfl)
theorem dX4_findsKept_19 : decode cX4_findsKept 19 = .ok (.iload_n 1, 1) := dk_27 (dk_at dksX4_findsKept_0 19 rfl rfl)
theorem dX4_findsKept_20 : decode cX4_findsKept 20 = .ok (.bipush 32, 2) := dk_16 32 (dk_at dksX4_findsKept_0 20 rfl rfl)
theorem dX4_findsKept_22 : decode cX4_findsKept 22 = .ok (.irem, 1) := dk_112 (dk_at dksX4_findsKept_0 22 rfl rfl)
theorem dX4_findsKept_23 : decode cX4_findsKept 23 = .ok (.invokevirtual 133, 3) := dk_182 0 133 (dk_at dksX4_findsKept_1 0 rfl rfl)
theorem dX4_findsKept_26 : decode cX4_findsKept 26 = .ok (.iastore, 1) := dk_79 (dk_at dksX4_findsKept_1 3 rfl rfl)
theorem dX4_findsKept_27 : decode cX4_findsKept 27 = .ok (.iinc 1 1, 3) := dk_132 1 1 (dk_at dksX4_findsKept_1 4 rfl rfl)
theorem dX4_findsKept_30 : decode cX4_findsKept 30 = .ok (.goto (-28), 3) := dk_167 255 228 (dk_at dksX4_findsKept_1 7 rfl rfl)
theorem dX4_findsKept_33 : decode cX4_findsKept 33 = .ok (.return_, 1) := dk_177 (dk_at dksX4_findsKept_1 10 rfl rfl)
abbrev cX4_base : ByteArray := prog_16_method_30_code
def yX4_base : MethodName := ⟨RX4, "base", "(I)I"⟩
def dkwX4_base_0 : List UInt8 := [42, 16, 250, 27, 182, 0, 165, 172]
abbrev dktX4_base_0 : List UInt8 := dkwX4_base_0 ++ []
theorem dksX4_base_0 : cX4_base.data.toList.drop 0 = dktX4_base_0 := by decide +kernel
theorem dX4_base_0 : decode cX4_base 0 = .ok (.aload_n 0, 1) := dk_42 (dk_at dksX4_base_0 0 rfl rfl)
theorem dX4_base_1 : decode cX4_base 1 = .ok (.bipush (-6), 2) := dk_16 250 (dk_at dksX4_base_0 1 rfl rfl)
theorem dX4_base_3 : decode cX4_base 3 = .ok (.iload_n 1, 1) := dk_27 (dk_at dksX4_base_0 3 rfl rfl)
theorem dX4_base_4 : decode cX4_base 4 = .ok (.invokevirtual 165, 3) := dk_182 0 165 (dk_at dksX4_base_0 4 rfl rfl)
theorem dX4_base_7 : decode cX4_base 7 = .ok (.ireturn, 1) := dk_172 (dk_at dksX4_base_0 7 rfl rfl)
abbrev cX4_rank : ByteArray := prog_16_method_31_code
def yX4_rank : MethodName := ⟨RX4, "rank", "(I)I"⟩
def dkwX4_rank_6 : List UInt8 := [62, 132, 4, 1, 167, 255, 200, 29, 27, 160, 0, 5, 28, 172, 132, 2, 1, 167, 255, 176, 2, 172]
abbrev dktX4_rank_6 : List UInt8 := dkwX4_rank_6 ++ []
def dkwX4_rank_5 : List UInt8 := [21, 4, 46, 42, 180, 0, 21, 28, 46, 160, 0, 13, 21, 4, 28, 162, 0, 7, 4, 167, 0, 4, 3, 96]
abbrev dktX4_rank_5 : List UInt8 := dkwX4_rank_5 ++ dktX4_rank_6
def dkwX4_rank_4 : List UInt8 := [163, 0, 55, 29, 42, 180, 0, 21, 21, 4, 46, 42, 180, 0, 21, 28, 46, 163, 0, 25, 42, 180, 0, 21]
abbrev dktX4_rank_4 : List UInt8 := dkwX4_rank_4 ++ dktX4_rank_5
def dkwX4_rank_3 : List UInt8 := [79, 132, 2, 1, 167, 255, 220, 3, 61, 28, 16, 31, 163, 0, 80, 3, 62, 3, 54, 4, 21, 4, 16, 31]
abbrev dktX4_rank_3 : List UInt8 := dkwX4_rank_3 ++ dktX4_rank_4
def dkwX4_rank_2 : List UInt8 := [180, 0, 18, 28, 46, 16, 250, 159, 0, 18, 42, 180, 0, 21, 42, 180, 0, 18, 28, 46, 92, 46, 4, 96]
abbrev dktX4_rank_2 : List UInt8 := dkwX4_rank_2 ++ dktX4_rank_3
def dkwX4_rank_1 : List UInt8 := [180, 0, 21, 28, 3, 79, 132, 2, 1, 167, 255, 240, 3, 61, 28, 17, 4, 0, 162, 0, 35, 42]
abbrev dktX4_rank_1 : List UInt8 := dkwX4_rank_1 ++ dktX4_rank_2
def dkwX4_rank_0 : List UInt8 := [27, 184, 0, 103, 154, 0, 5, 2, 172, 42, 182, 0, 162, 3, 61, 28, 16, 31, 163, 0, 16, 42]
abbrev dktX4_rank_0 : List UInt8 := dkwX4_rank_0 ++ dktX4_rank_1
theorem dksX4_rank_0 : cX4_rank.data.toList.drop 0 = dktX4_rank_0 := by decide +kernel
theorem dksX4_rank_1 : cX4_rank.data.toList.drop 22 = dktX4_rank_1 := dk_seg dksX4_rank_0 22 rfl rfl
theorem dksX4_rank_2 : cX4_rank.data.toList.drop 44 = dktX4_rank_2 := dk_seg dksX4_rank_1 22 rfl rfl
theorem dksX4_rank_3 : cX4_rank.data.toList.drop 68 = dktX4_rank_3 := dk_seg dksX4_rank_2 24 rfl rfl
theorem dksX4_rank_4 : cX4_rank.data.toList.drop 92 = dktX4_rank_4 := dk_seg dksX4_rank_3 24 rfl rfl
theorem dksX4_rank_5 : cX4_rank.data.toList.drop 116 = dktX4_rank_5 := dk_seg dksX4_rank_4 24 rfl rfl
theorem dksX4_rank_6 : cX4_rank.data.toList.drop 140 = dktX4_rank_6 := dk_seg dksX4_rank_5 24 rfl rfl
theorem dX4_rank_0 : decode cX4_rank 0 = .ok (.iload_n 1, 1) := dk_27 (dk_at dksX4_rank_0 0 rfl rfl)
theorem dX4_rank_1 : decode cX4_rank 1 = .ok (.invokestatic 103, 3) := dk_184 0 103 (dk_at dksX4_rank_0 1 rfl rfl)
theorem dX4_rank_4 : decode cX4_rank 4 = .ok (.ifCond .ne 5, 3) := dk_154 0 5 (dk_at dksX4_rank_0 4 rfl rfl)
theorem dX4_rank_7 : decode cX4_rank 7 = .ok (.iconst (-1), 1) := dk_2 (dk_at dksX4_rank_0 7 rfl rfl)
theorem dX4_rank_8 : decode cX4_rank 8 = .ok (.ireturn, 1) := dk_172 (dk_at dksX4_rank_0 8 rfl rfl)
theorem dX4_rank_9 : decode cX4_rank 9 = .ok (.aload_n 0, 1) := dk_42 (dk_at dksX4_rank_0 9 rfl rfl)
theorem dX4_rank_10 : decode cX4_rank 10 = .ok (.invokevirtual 162, 3) := dk_182 0 162 (dk_at dksX4_rank_0 10 rfl rfl)
theorem dX4_rank_13 : decode cX4_rank 13 = .ok (.iconst 0, 1) := dk_3 (dk_at dksX4_rank_0 13 rfl rfl)
theorem dX4_rank_14 : decode cX4_rank 14 = .ok (.istore_n 2, 1) := dk_61 (dk_at dksX4_rank_0 14 rfl rfl)
theorem dX4_rank_15 : decode cX4_rank 15 = .ok (.iload_n 2, 1) := dk_28 (dk_at dksX4_rank_0 15 rfl rfl)
theorem dX4_rank_16 : decode cX4_rank 16 = .ok (.bipush 31, 2) := dk_16 31 (dk_at dksX4_rank_0 16 rfl rfl)
theorem dX4_rank_18 : decode cX4_rank 18 = .ok (.if_icmp .gt 16, 3) := dk_163 0 16 (dk_at dksX4_rank_0 18 rfl rfl)
theorem dX4_rank_21 : decode cX4_rank 21 = .ok (.aload_n 0, 1) := dk_42 (dk_at dksX4_rank_0 21 rfl rfl)
theorem dX4_rank_22 : decode cX4_rank 22 = .ok (.getfield 21, 3) := dk_180 0 21 (dk_at dksX4_rank_1 0 rfl rfl)
theorem dX4_rank_25 : decode cX4_rank 25 = .ok (.iload_n 2, 1) := dk_28 (dk_at dksX4_rank_1 3 rfl rfl)
theorem dX4_rank_26 : decode cX4_rank 26 = .ok (.iconst 0, 1) := dk_3 (dk_at dksX4_rank_1 4 rfl rfl)
theorem dX4_rank_27 : decode cX4_rank 27 = .ok (.iastore, 1) := dk_79 (dk_at dksX4_rank_1 5 rfl rfl)
theorem dX4_rank_28 : decode cX4_rank 28 = .ok (.iinc 2 1, 3) := dk_132 2 1 (dk_at dksX4_rank_1 6 rfl rfl)
theorem dX4_rank_31 : decode cX4_rank 31 = .ok (.goto (-16), 3) := dk_167 255 240 (dk_at dksX4_rank_1 9 rfl rfl)
theorem dX4_rank_34 : decode cX4_rank 34 = .ok (.iconst 0, 1) := dk_3 (dk_at dksX4_rank_1 12 rfl rfl)
theorem dX4_rank_35 : decode cX4_rank 35 = .ok (.istore_n 2, 1) := dk_61 (dk_at dksX4_rank_1 13 rfl rfl)
theorem dX4_rank_36 : decode cX4_rank 36 = .ok (.iload_n 2, 1) := dk_28 (dk_at dksX4_rank_1 14 rfl rfl)
theorem dX4_rank_37 : decode cX4_rank 37 = .ok (.sipush 1024, 3) := dk_17 4 0 (dk_at dksX4_rank_1 15 rfl rfl)
theorem dX4_rank_40 : decode cX4_rank 40 = .ok (.if_icmp .ge 35, 3) := dk_162 0 35 (dk_at dksX4_rank_1 18 rfl rfl)
theorem dX4_rank_43 : decode cX4_rank 43 = .ok (.aload_n 0, 1) := dk_42 (dk_at dksX4_rank_1 21 rfl rfl)
theorem dX4_rank_44 : decode cX4_rank 44 = .ok (.getfield 18, 3) := dk_180 0 18 (dk_at dksX4_rank_2 0 rfl rfl)
theorem dX4_rank_47 : decode cX4_rank 47 = .ok (.iload_n 2, 1) := dk_28 (dk_at dksX4_rank_2 3 rfl rfl)
theorem dX4_rank_48 : decode cX4_rank 48 = .ok (.iaload, 1) := dk_46 (dk_at dksX4_rank_2 4 rfl rfl)
theorem dX4_rank_49 : decode cX4_rank 49 = .ok (.bipush (-6), 2) := dk_16 250 (dk_at dksX4_rank_2 5 rfl rfl)
theorem dX4_rank_51 : decode cX4_rank 51 = .ok (.if_icmp .eq 18, 3) := dk_159 0 18 (dk_at dksX4_rank_2 7 rfl rfl)
theorem dX4_rank_54 : decode cX4_rank 54 = .ok (.aload_n 0, 1) := dk_42 (dk_at dksX4_rank_2 10 rfl rfl)
theorem dX4_rank_55 : decode cX4_rank 55 = .ok (.getfield 21, 3) := dk_180 0 21 (dk_at dksX4_rank_2 11 rfl rfl)
theorem dX4_rank_58 : decode cX4_rank 58 = .ok (.aload_n 0, 1) := dk_42 (dk_at dksX4_rank_2 14 rfl rfl)
theorem dX4_rank_59 : decode cX4_rank 59 = .ok (.getfield 18, 3) := dk_180 0 18 (dk_at dksX4_rank_2 15 rfl rfl)
theorem dX4_rank_62 : decode cX4_rank 62 = .ok (.iload_n 2, 1) := dk_28 (dk_at dksX4_rank_2 18 rfl rfl)
theorem dX4_rank_63 : decode cX4_rank 63 = .ok (.iaload, 1) := dk_46 (dk_at dksX4_rank_2 19 rfl rfl)
theorem dX4_rank_64 : decode cX4_rank 64 = .ok (.dup2, 1) := dk_92 (dk_at dksX4_rank_2 20 rfl rfl)
theorem dX4_rank_65 : decode cX4_rank 65 = .ok (.iaload, 1) := dk_46 (dk_at dksX4_rank_2 21 rfl rfl)
theorem dX4_rank_66 : decode cX4_rank 66 = .ok (.iconst 1, 1) := dk_4 (dk_at dksX4_rank_2 22 rfl rfl)
theorem dX4_rank_67 : decode cX4_rank 67 = .ok (.iadd, 1) := dk_96 (dk_at dksX4_rank_2 23 rfl rfl)
theorem dX4_rank_68 : decode cX4_rank 68 = .ok (.iastore, 1) := dk_79 (dk_at dksX4_rank_3 0 rfl rfl)
theorem dX4_rank_69 : decode cX4_rank 69 = .ok (.iinc 2 1, 3) := dk_132 2 1 (dk_at dksX4_rank_3 1 rfl rfl)
theorem dX4_rank_72 : decode cX4_rank 72 = .ok (.goto (-36), 3) := dk_167 255 220 (dk_at dksX4_rank_3 4 rfl rfl)
theorem dX4_rank_75 : decode cX4_rank 75 = .ok (.iconst 0, 1) := dk_3 (dk_at dksX4_rank_3 7 rfl rfl)
theorem dX4_rank_76 : decode cX4_rank 76 = .ok (.istore_n 2, 1) := dk_61 (dk_at dksX4_rank_3 8 rfl rfl)
theorem dX4_rank_77 : decode cX4_rank 77 = .ok (.iload_n 2, 1) := dk_28 (dk_at dksX4_rank_3 9 rfl rfl)
theorem dX4_rank_78 : decode cX4_rank 78 = .ok (.bipush 31, 2) := dk_16 31 (dk_at dksX4_rank_3 10 rfl rfl)
theorem dX4_rank_80 : decode cX4_rank 80 = .ok (.if_icmp .gt 80, 3) := dk_163 0 80 (dk_at dksX4_rank_3 12 rfl rfl)
theorem dX4_rank_83 : decode cX4_rank 83 = .ok (.iconst 0, 1) := dk_3 (dk_at dksX4_rank_3 15 rfl rfl)
theorem dX4_rank_84 : decode cX4_rank 84 = .ok (.istore_n 3, 1) := dk_62 (dk_at dksX4_rank_3 16 rfl rfl)
theorem dX4_rank_85 : decode cX4_rank 85 = .ok (.iconst 0, 1) := dk_3 (dk_at dksX4_rank_3 17 rfl rfl)
theorem dX4_rank_86 : decode cX4_rank 86 = .ok (.istore 4, 2) := dk_54 4 (dk_at dksX4_rank_3 18 rfl rfl)
theorem dX4_rank_88 : decode cX4_rank 88 = .ok (.iload 4, 2) := dk_21 4 (dk_at dksX4_rank_3 20 rfl rfl)
theorem dX4_rank_90 : decode cX4_rank 90 = .ok (.bipush 31, 2) := dk_16 31 (dk_at dksX4_rank_3 22 rfl rfl)
theorem dX4_rank_92 : decode cX4_rank 92 = .ok (.if_icmp .gt 55, 3) := dk_163 0 55 (dk_at dksX4_rank_4 0 rfl rfl)
theorem dX4_rank_95 : decode cX4_rank 95 = .ok (.iload_n 3, 1) := dk_29 (dk_at dksX4_rank_4 3 rfl rfl)
theorem dX4_rank_96 : decode cX4_rank 96 = .ok (.aload_n 0, 1) := dk_42 (dk_at dksX4_rank_4 4 rfl rfl)
theorem dX4_rank_97 : decode cX4_rank 97 = .ok (.getfield 21, 3) := dk_180 0 21 (dk_at dksX4_rank_4 5 rfl rfl)
theorem dX4_rank_100 : decode cX4_rank 100 = .ok (.iload 4, 2) := dk_21 4 (dk_at dksX4_rank_4 8 rfl rfl)
theorem dX4_rank_102 : decode cX4_rank 102 = .ok (.iaload, 1) := dk_46 (dk_at dksX4_rank_4 10 rfl rfl)
theorem dX4_rank_103 : decode cX4_rank 103 = .ok (.aload_n 0, 1) := dk_42 (dk_at dksX4_rank_4 11 rfl rfl)
theorem dX4_rank_104 : decode cX4_rank 104 = .ok (.getfield 21, 3) := dk_180 0 21 (dk_at dksX4_rank_4 12 rfl rfl)
theorem dX4_rank_107 : decode cX4_rank 107 = .ok (.iload_n 2, 1) := dk_28 (dk_at dksX4_rank_4 15 rfl rfl)
theorem dX4_rank_108 : decode cX4_rank 108 = .ok (.iaload, 1) := dk_46 (dk_at dksX4_rank_4 16 rfl rfl)
theorem dX4_rank_109 : decode cX4_rank 109 = .ok (.if_icmp .gt 25, 3) := dk_163 0 25 (dk_at dksX4_rank_4 17 rfl rfl)
theorem dX4_rank_112 : decode cX4_rank 112 = .ok (.aload_n 0, 1) := dk_42 (dk_at dksX4_rank_4 20 rfl rfl)
theorem dX4_rank_113 : decode cX4_rank 113 = .ok (.getfield 21, 3) := dk_180 0 21 (dk_at dksX4_rank_4 21 rfl rfl)
theorem dX4_rank_116 : decode cX4_rank 116 = .ok (.iload 4, 2) := dk_21 4 (dk_at dksX4_rank_5 0 rfl rfl)
theorem dX4_rank_118 : decode cX4_rank 118 = .ok (.iaload, 1) := dk_46 (dk_at dksX4_rank_5 2 rfl rfl)
theorem dX4_rank_119 : decode cX4_rank 119 = .ok (.aload_n 0, 1) := dk_42 (dk_at dksX4_rank_5 3 rfl rfl)
theorem dX4_rank_120 : decode cX4_rank 120 = .ok (.getfield 21, 3) := dk_180 0 21 (dk_at dksX4_rank_5 4 rfl rfl)
theorem dX4_rank_123 : decode cX4_rank 123 = .ok (.iload_n 2, 1) := dk_28 (dk_at dksX4_rank_5 7 rfl rfl)
theorem dX4_rank_124 : decode cX4_rank 124 = .ok (.iaload, 1) := dk_46 (dk_at dksX4_rank_5 8 rfl rfl)
theorem dX4_rank_125 : decode cX4_rank 125 = .ok (.if_icmp .ne 13, 3) := dk_160 0 13 (dk_at dksX4_rank_5 9 rfl rfl)
theorem dX4_rank_128 : decode cX4_rank 128 = .ok (.iload 4, 2) := dk_21 4 (dk_at dksX4_rank_5 12 rfl rfl)
theorem dX4_rank_130 : decode cX4_rank 130 = .ok (.iload_n 2, 1) := dk_28 (dk_at dksX4_rank_5 14 rfl rfl)
theorem dX4_rank_131 : decode cX4_rank 131 = .ok (.if_icmp .ge 7, 3) := dk_162 0 7 (dk_at dksX4_rank_5 15 rfl rfl)
theorem dX4_rank_134 : decode cX4_rank 134 = .ok (.iconst 1, 1) := dk_4 (dk_at dksX4_rank_5 18 rfl rfl)
theorem dX4_rank_135 : decode cX4_rank 135 = .ok (.goto 4, 3) := dk_167 0 4 (dk_at dksX4_rank_5 19 rfl rfl)
theorem dX4_rank_138 : decode cX4_rank 138 = .ok (.iconst 0, 1) := dk_3 (dk_at dksX4_rank_5 22 rfl rfl)
theorem dX4_rank_139 : decode cX4_rank 139 = .ok (.iadd, 1) := dk_96 (dk_at dksX4_rank_5 23 rfl rfl)
theorem dX4_rank_140 : decode cX4_rank 140 = .ok (.istore_n 3, 1) := dk_62 (dk_at dksX4_rank_6 0 rfl rfl)
theorem dX4_rank_141 : decode cX4_rank 141 = .ok (.iinc 4 1, 3) := dk_132 4 1 (dk_at dksX4_rank_6 1 rfl rfl)
theorem dX4_rank_144 : decode cX4_rank 144 = .ok (.goto (-56), 3) := dk_167 255 200 (dk_at dksX4_rank_6 4 rfl rfl)
theorem dX4_rank_147 : decode cX4_rank 147 = .ok (.iload_n 3, 1) := dk_29 (dk_at dksX4_rank_6 7 rfl rfl)
theorem dX4_rank_148 : decode cX4_rank 148 = .ok (.iload_n 1, 1) := dk_27 (dk_at dksX4_rank_6 8 rfl rfl)
theorem dX4_rank_149 : decode cX4_rank 149 = .ok (.if_icmp .ne 5, 3) := dk_160 0 5 (dk_at dksX4_rank_6 9 rfl rfl)
theorem dX4_rank_152 : decode cX4_rank 152 = .ok (.iload_n 2, 1) := dk_28 (dk_at dksX4_rank_6 12 rfl rfl)
theorem dX4_rank_153 : decode cX4_rank 153 = .ok (.ireturn, 1) := dk_172 (dk_at dksX4_rank_6 13 rfl rfl)
theorem dX4_rank_154 : decode cX4_rank 154 = .ok (.iinc 2 1, 3) := dk_132 2 1 (dk_at dksX4_rank_6 14 rfl rfl)
theorem dX4_rank_157 : decode cX4_rank 157 = .ok (.goto (-80), 3) := dk_167 255 176 (dk_at dksX4_rank_6 17 rfl rfl)
theorem dX4_rank_160 : decode cX4_rank 160 = .ok (.iconst (-1), 1) := dk_2 (dk_at dksX4_rank_6 20 rfl rfl)
theorem dX4_rank_161 : decode cX4_rank 161 = .ok (.ireturn, 1) := dk_172 (dk_at dksX4_rank_6 21 rfl rfl)
abbrev cX4_cycles : ByteArray := prog_16_method_34_code
def yX4_cycles : MethodName := ⟨RX4, "cycles", "(II)I"⟩
def dkwX4_cycles_8 : List UInt8 := [160, 0, 8, 21, 5, 167, 0, 5, 21, 6, 172]
abbrev dktX4_cycles_8 : List UInt8 := dkwX4_cycles_8 ++ []
def dkwX4_cycles_7 : List UInt8 := [167, 255, 175, 28, 154, 0, 7, 29, 167, 0, 25, 28, 4, 160, 0, 8, 21, 4, 167, 0, 15, 28, 5]
abbrev dktX4_cycles_7 : List UInt8 := dkwX4_cycles_7 ++ dktX4_cycles_8
def dkwX4_cycles_6 : List UInt8 := [167, 0, 15, 42, 180, 0, 31, 21, 8, 46, 167, 0, 5, 21, 6, 54, 6, 132, 5, 1, 132, 8, 1]
abbrev dktX4_cycles_6 : List UInt8 := dkwX4_cycles_6 ++ dktX4_cycles_7
def dkwX4_cycles_5 : List UInt8 := [21, 8, 46, 104, 96, 54, 4, 21, 5, 21, 7, 160, 0, 24, 28, 16, 50, 162, 0, 8, 21, 8]
abbrev dktX4_cycles_5 : List UInt8 := dkwX4_cycles_5 ++ dktX4_cycles_6
def dkwX4_cycles_4 : List UInt8 := [21, 8, 46, 158, 0, 63, 29, 42, 180, 0, 31, 21, 8, 46, 96, 62, 21, 4, 21, 8, 42, 180, 0, 31]
abbrev dktX4_cycles_4 : List UInt8 := dkwX4_cycles_4 ++ dktX4_cycles_5
def dkwX4_cycles_3 : List UInt8 := [167, 0, 7, 28, 16, 50, 100, 54, 7, 4, 54, 8, 21, 8, 17, 4, 0, 163, 0, 79, 42, 180, 0, 31]
abbrev dktX4_cycles_3 : List UInt8 := dkwX4_cycles_3 ++ dktX4_cycles_4
def dkwX4_cycles_2 : List UInt8 := [16, 251, 54, 6, 28, 16, 10, 162, 0, 7, 2, 167, 0, 20, 28, 16, 50, 162, 0, 10, 28, 16, 10, 100]
abbrev dktX4_cycles_2 : List UInt8 := dkwX4_cycles_2 ++ dktX4_cycles_3
def dkwX4_cycles_1 : List UInt8 := [20, 0, 173, 184, 0, 99, 154, 0, 5, 2, 172, 42, 27, 182, 0, 175, 3, 62, 3, 54, 4, 3, 54, 5]
abbrev dktX4_cycles_1 : List UInt8 := dkwX4_cycles_1 ++ dktX4_cycles_2
def dkwX4_cycles_0 : List UInt8 := [27, 184, 0, 103, 153, 0, 29, 28, 133, 9, 20, 0, 107, 184, 0, 99, 154, 0, 19, 28, 133, 20, 0, 171]
abbrev dktX4_cycles_0 : List UInt8 := dkwX4_cycles_0 ++ dktX4_cycles_1
theorem dksX4_cycles_0 : cX4_cycles.data.toList.drop 0 = dktX4_cycles_0 := by decide +kernel
theorem dksX4_cycles_1 : cX4_cycles.data.toList.drop 24 = dktX4_cycles_1 := dk_seg dksX4_cycles_0 24 rfl rfl
theorem dksX4_cycles_2 : cX4_cycles.data.toList.drop 48 = dktX4_cycles_2 := dk_seg dksX4_cycles_1 24 rfl rfl
theorem dksX4_cycles_3 : cX4_cycles.data.toList.drop 72 = dktX4_cycles_3 := dk_seg dksX4_cycles_2 24 rfl rfl
theorem dksX4_cycles_4 : cX4_cycles.data.toList.drop 96 = dktX4_cycles_4 := dk_seg dksX4_cycles_3 24 rfl rfl
theorem dksX4_cycles_5 : cX4_cycles.data.toList.drop 120 = dktX4_cycles_5 := dk_seg dksX4_cycles_4 24 rfl rfl
theorem dksX4_cycles_6 : cX4_cycles.data.toList.drop 142 = dktX4_cycles_6 := dk_seg dksX4_cycles_5 22 rfl rfl
theorem dksX4_cycles_7 : cX4_cycles.data.toList.drop 165 = dktX4_cycles_7 := dk_seg dksX4_cycles_6 23 rfl rfl
theorem dksX4_cycles_8 : cX4_cycles.data.toList.drop 188 = dktX4_cycles_8 := dk_seg dksX4_cycles_7 23 rfl rfl
theorem dX4_cycles_0 : decode cX4_cycles 0 = .ok (.iload_n 1, 1) := dk_27 (dk_at dksX4_cycles_0 0 rfl rfl)
theorem dX4_cycles_1 : decode cX4_cycles 1 = .ok (.invokestatic 103, 3) := dk_184 0 103 (dk_at dksX4_cycles_0 1 rfl rfl)
theorem dX4_cycles_4 : decode cX4_cycles 4 = .ok (.ifCond .eq 29, 3) := dk_153 0 29 (dk_at dksX4_cycles_0 4 rfl rfl)
theorem dX4_cycles_7 : decode cX4_cycles 7 = .ok (.iload_n 2, 1) := dk_28 (dk_at dksX4_cycles_0 7 rfl rfl)
theorem dX4_cycles_8 : decode cX4_cycles 8 = .ok (.i2l, 1) := dk_133 (dk_at dksX4_cycles_0 8 rfl rfl)
theorem dX4_cycles_9 : decode cX4_cycles 9 = .ok (.lconst 0, 1) := dk_9 (dk_at dksX4_cycles_0 9 rfl rfl)
theorem dX4_cycles_10 : decode cX4_cycles 10 = .ok (.ldc2_w 107, 3) := dk_20 0 107 (dk_at dksX4_cycles_0 10 rfl rfl)
theorem dX4_cycles_13 : decode cX4_cycles 13 = .ok (.invokestatic 99, 3) := dk_184 0 99 (dk_at dksX4_cycles_0 13 rfl rfl)
theorem dX4_cycles_16 : decode cX4_cycles 16 = .ok (.ifCond .ne 19, 3) := dk_154 0 19 (dk_at dksX4_cycles_0 16 rfl rfl)
theorem dX4_cycles_19 : decode cX4_cycles 19 = .ok (.iload_n 2, 1) := dk_28 (dk_at dksX4_cycles_0 19 rfl rfl)
theorem dX4_cycles_20 : decode cX4_cycles 20 = .ok (.i2l, 1) := dk_133 (dk_at dksX4_cycles_0 20 rfl rfl)
theorem dX4_cycles_21 : decode cX4_cycles 21 = .ok (.ldc2_w 171, 3) := dk_20 0 171 (dk_at dksX4_cycles_0 21 rfl rfl)
theorem dX4_cycles_24 : decode cX4_cycles 24 = .ok (.ldc2_w 173, 3) := dk_20 0 173 (dk_at dksX4_cycles_1 0 rfl rfl)
theorem dX4_cycles_27 : decode cX4_cycles 27 = .ok (.invokestatic 99, 3) := dk_184 0 99 (dk_at dksX4_cycles_1 3 rfl rfl)
theorem dX4_cycles_30 : decode cX4_cycles 30 = .ok (.ifCond .ne 5, 3) := dk_154 0 5 (dk_at dksX4_cycles_1 6 rfl rfl)
theorem dX4_cycles_33 : decode cX4_cycles 33 = .ok (.iconst (-1), 1) := dk_2 (dk_at dksX4_cycles_1 9 rfl rfl)
theorem dX4_cycles_34 : decode cX4_cycles 34 = .ok (.ireturn, 1) := dk_172 (dk_at dksX4_cycles_1 10 rfl rfl)
theorem dX4_cycles_35 : decode cX4_cycles 35 = .ok (.aload_n 0, 1) := dk_42 (dk_at dksX4_cycles_1 11 rfl rfl)
theorem dX4_cycles_36 : decode cX4_cycles 36 = .ok (.iload_n 1, 1) := dk_27 (dk_at dksX4_cycles_1 12 rfl rfl)
theorem dX4_cycles_37 : decode cX4_cycles 37 = .ok (.invokevirtual 175, 3) := dk_182 0 175 (dk_at dksX4_cycles_1 13 rfl rfl)
theorem dX4_cycles_40 : decode cX4_cycles 40 = .ok (.iconst 0, 1) := dk_3 (dk_at dksX4_cycles_1 16 rfl rfl)
theorem dX4_cycles_41 : decode cX4_cycles 41 = .ok (.istore_n 3, 1) := dk_62 (dk_at dksX4_cycles_1 17 rfl rfl)
theorem dX4_cycles_42 : decode cX4_cycles 42 = .ok (.iconst 0, 1) := dk_3 (dk_at dksX4_cycles_1 18 rfl rfl)
theorem dX4_cycles_43 : decode cX4_cycles 43 = .ok (.istore 4, 2) := dk_54 4 (dk_at dksX4_cycles_1 19 rfl rfl)
theorem dX4_cycles_45 : decode cX4_cycles 45 = .ok (.iconst 0, 1) := dk_3 (dk_at dksX4_cycles_1 21 rfl rfl)
theorem dX4_cycles_46 : decode cX4_cycles 46 = .ok (.istore 5, 2) := dk_54 5 (dk_at dksX4_cycles_1 22 rfl rfl)
theorem dX4_cycles_48 : decode cX4_cycles 48 = .ok (.bipush (-5), 2) := dk_16 251 (dk_at dksX4_cycles_2 0 rfl rfl)
theorem dX4_cycles_50 : decode cX4_cycles 50 = .ok (.istore 6, 2) := dk_54 6 (dk_at dksX4_cycles_2 2 rfl rfl)
theorem dX4_cycles_52 : decode cX4_cycles 52 = .ok (.iload_n 2, 1) := dk_28 (dk_at dksX4_cycles_2 4 rfl rfl)
theorem dX4_cycles_53 : decode cX4_cycles 53 = .ok (.bipush 10, 2) := dk_16 10 (dk_at dksX4_cycles_2 5 rfl rfl)
theorem dX4_cycles_55 : decode cX4_cycles 55 = .ok (.if_icmp .ge 7, 3) := dk_162 0 7 (dk_at dksX4_cycles_2 7 rfl rfl)
theorem dX4_cycles_58 : decode cX4_cycles 58 = .ok (.iconst (-1), 1) := dk_2 (dk_at dksX4_cycles_2 10 rfl rfl)
theorem dX4_cycles_59 : decode cX4_cycles 59 = .ok (.goto 20, 3) := dk_167 0 20 (dk_at dksX4_cycles_2 11 rfl rfl)
theorem dX4_cycles_62 : decode cX4_cycles 62 = .ok (.iload_n 2, 1) := dk_28 (dk_at dksX4_cycles_2 14 rfl rfl)
theorem dX4_cycles_63 : decode cX4_cycles 63 = .ok (.bipush 50, 2) := dk_16 50 (dk_at dksX4_cycles_2 15 rfl rfl)
theorem dX4_cycles_65 : decode cX4_cycles 65 = .ok (.if_icmp .ge 10, 3) := dk_162 0 10 (dk_at dksX4_cycles_2 17 rfl rfl)
theorem dX4_cycles_68 : decode cX4_cycles 68 = .ok (.iload_n 2, 1) := dk_28 (dk_at dksX4_cycles_2 20 rfl rfl)
theorem dX4_cycles_69 : decode cX4_cycles 69 = .ok (.bipush 10, 2) := dk_16 10 (dk_at dksX4_cycles_2 21 rfl rfl)
theorem dX4_cycles_71 : decode cX4_cycles 71 = .ok (.isub, 1) := dk_100 (dk_at dksX4_cycles_2 23 rfl rfl)
theorem dX4_cycles_72 : decode cX4_cycles 72 = .ok (.goto 7, 3) := dk_167 0 7 (dk_at dksX4_cycles_3 0 rfl rfl)
theorem dX4_cycles_75 : decode cX4_cycles 75 = .ok (.iload_n 2, 1) := dk_28 (dk_at dksX4_cycles_3 3 rfl rfl)
theorem dX4_cycles_76 : decode cX4_cycles 76 = .ok (.bipush 50, 2) := dk_16 50 (dk_at dksX4_cycles_3 4 rfl rfl)
theorem dX4_cycles_78 : decode cX4_cycles 78 = .ok (.isub, 1) := dk_100 (dk_at dksX4_cycles_3 6 rfl rfl)
theorem dX4_cycles_79 : decode cX4_cycles 79 = .ok (.istore 7, 2) := dk_54 7 (dk_at dksX4_cycles_3 7 rfl rfl)
theorem dX4_cycles_81 : decode cX4_cycles 81 = .ok (.iconst 1, 1) := dk_4 (dk_at dksX4_cycles_3 9 rfl rfl)
theorem dX4_cycles_82 : decode cX4_cycles 82 = .ok (.istore 8, 2) := dk_54 8 (dk_at dksX4_cycles_3 10 rfl rfl)
theorem dX4_cycles_84 : decode cX4_cycles 84 = .ok (.iload 8, 2) := dk_21 8 (dk_at dksX4_cycles_3 12 rfl rfl)
theorem dX4_cycles_86 : decode cX4_cycles 86 = .ok (.sipush 1024, 3) := dk_17 4 0 (dk_at dksX4_cycles_3 14 rfl rfl)
theorem dX4_cycles_89 : decode cX4_cycles 89 = .ok (.if_icmp .gt 79, 3) := dk_163 0 79 (dk_at dksX4_cycles_3 17 rfl rfl)
theorem dX4_cycles_92 : decode cX4_cycles 92 = .ok (.aload_n 0, 1) := dk_42 (dk_at dksX4_cycles_3 20 rfl rfl)
theorem dX4_cycles_93 : decode cX4_cycles 93 = .ok (.getfield 31, 3) := dk_180 0 31 (dk_at dksX4_cycles_3 21 rfl rfl)
theorem dX4_cycles_96 : decode cX4_cycles 96 = .ok (.iload 8, 2) := dk_21 8 (dk_at dksX4_cycles_4 0 rfl rfl)
theorem dX4_cycles_98 : decode cX4_cycles 98 = .ok (.iaload, 1) := dk_46 (dk_at dksX4_cycles_4 2 rfl rfl)
theorem dX4_cycles_99 : decode cX4_cycles 99 = .ok (.ifCond .le 63, 3) := dk_158 0 63 (dk_at dksX4_cycles_4 3 rfl rfl)
theorem dX4_cycles_102 : decode cX4_cycles 102 = .ok (.iload_n 3, 1) := dk_29 (dk_at dksX4_cycles_4 6 rfl rfl)
theorem dX4_cycles_103 : decode cX4_cycles 103 = .ok (.aload_n 0, 1) := dk_42 (dk_at dksX4_cycles_4 7 rfl rfl)
theorem dX4_cycles_104 : decode cX4_cycles 104 = .ok (.getfield 31, 3) := dk_180 0 31 (dk_at dksX4_cycles_4 8 rfl rfl)
theorem dX4_cycles_107 : decode cX4_cycles 107 = .ok (.iload 8, 2) := dk_21 8 (dk_at dksX4_cycles_4 11 rfl rfl)
theorem dX4_cycles_109 : decode cX4_cycles 109 = .ok (.iaload, 1) := dk_46 (dk_at dksX4_cycles_4 13 rfl rfl)
theorem dX4_cycles_110 : decode cX4_cycles 110 = .ok (.iadd, 1) := dk_96 (dk_at dksX4_cycles_4 14 rfl rfl)
theorem dX4_cycles_111 : decode cX4_cycles 111 = .ok (.istore_n 3, 1) := dk_62 (dk_at dksX4_cycles_4 15 rfl rfl)
theorem dX4_cycles_112 : decode cX4_cycles 112 = .ok (.iload 4, 2) := dk_21 4 (dk_at dksX4_cycles_4 16 rfl rfl)
theorem dX4_cycles_114 : decode cX4_cycles 114 = .ok (.iload 8, 2) := dk_21 8 (dk_at dksX4_cycles_4 18 rfl rfl)
theorem dX4_cycles_116 : decode cX4_cycles 116 = .ok (.aload_n 0, 1) := dk_42 (dk_at dksX4_cycles_4 20 rfl rfl)
theorem dX4_cycles_117 : decode cX4_cycles 117 = .ok (.getfield 31, 3) := dk_180 0 31 (dk_at dksX4_cycles_4 21 rfl rfl)
theorem dX4_cycles_120 : decode cX4_cycles 120 = .ok (.iload 8, 2) := dk_21 8 (dk_at dksX4_cycles_5 0 rfl rfl)
theorem dX4_cycles_122 : decode cX4_cycles 122 = .ok (.iaload, 1) := dk_46 (dk_at dksX4_cycles_5 2 rfl rfl)
theorem dX4_cycles_123 : decode cX4_cycles 123 = .ok (.imul, 1) := dk_104 (dk_at dksX4_cycles_5 3 rfl rfl)
theorem dX4_cycles_124 : decode cX4_cycles 124 = .ok (.iadd, 1) := dk_96 (dk_at dksX4_cycles_5 4 rfl rfl)
theorem dX4_cycles_125 : decode cX4_cycles 125 = .ok (.istore 4, 2) := dk_54 4 (dk_at dksX4_cycles_5 5 rfl rfl)
theorem dX4_cycles_127 : decode cX4_cycles 127 = .ok (.iload 5, 2) := dk_21 5 (dk_at dksX4_cycles_5 7 rfl rfl)
theorem dX4_cycles_129 : decode cX4_cycles 129 = .ok (.iload 7, 2) := dk_21 7 (dk_at dksX4_cycles_5 9 rfl rfl)
theorem dX4_cycles_131 : decode cX4_cycles 131 = .ok (.if_icmp .ne 24, 3) := dk_160 0 24 (dk_at dksX4_cycles_5 11 rfl rfl)
theorem dX4_cycles_134 : decode cX4_cycles 134 = .ok (.iload_n 2, 1) := dk_28 (dk_at dksX4_cycles_5 14 rfl rfl)
theorem dX4_cycles_135 : decode cX4_cycles 135 = .ok (.bipush 50, 2) := dk_16 50 (dk_at dksX4_cycles_5 15 rfl rfl)
theorem dX4_cycles_137 : decode cX4_cycles 137 = .ok (.if_icmp .ge 8, 3) := dk_162 0 8 (dk_at dksX4_cycles_5 17 rfl rfl)
theorem dX4_cycles_140 : decode cX4_cycles 140 = .ok (.iload 8, 2) := dk_21 8 (dk_at dksX4_cycles_5 20 rfl rfl)
theorem dX4_cycles_142 : decode cX4_cycles 142 = .ok (.goto 15, 3) := dk_167 0 15 (dk_at dksX4_cycles_6 0 rfl rfl)
theorem dX4_cycles_145 : decode cX4_cycles 145 = .ok (.aload_n 0, 1) := dk_42 (dk_at dksX4_cycles_6 3 rfl rfl)
theorem dX4_cycles_146 : decode cX4_cycles 146 = .ok (.getfield 31, 3) := dk_180 0 31 (dk_at dksX4_cycles_6 4 rfl rfl)
theorem dX4_cycles_149 : decode cX4_cycles 149 = .ok (.iload 8, 2) := dk_21 8 (dk_at dksX4_cycles_6 7 rfl rfl)
theorem dX4_cycles_151 : decode cX4_cycles 151 = .ok (.iaload, 1) := dk_46 (dk_at dksX4_cycles_6 9 rfl rfl)
theorem dX4_cycles_152 : decode cX4_cycles 152 = .ok (.goto 5, 3) := dk_167 0 5 (dk_at dksX4_cycles_6 10 rfl rfl)
theorem dX4_cycles_155 : decode cX4_cycles 155 = .ok (.iload 6, 2) := dk_21 6 (dk_at dksX4_cycles_6 13 rfl rfl)
theorem dX4_cycles_157 : decode cX4_cycles 157 = .ok (.istore 6, 2) := dk_54 6 (dk_at dksX4_cycles_6 15 rfl rfl)
theorem dX4_cycles_159 : decode cX4_cycles 159 = .ok (.iinc 5 1, 3) := dk_132 5 1 (dk_at dksX4_cycles_6 17 rfl rfl)
theorem dX4_cycles_162 : decode cX4_cycles 162 = .ok (.iinc 8 1, 3) := dk_132 8 1 (dk_at dksX4_cycles_6 20 rfl rfl)
theorem dX4_cycles_165 : decode cX4_cycles 165 = .ok (.goto (-81), 3) := dk_167 255 175 (dk_at dksX4_cycles_7 0 rfl rfl)
theorem dX4_cycles_168 : decode cX4_cycles 168 = .ok (.iload_n 2, 1) := dk_28 (dk_at dksX4_cycles_7 3 rfl rfl)
theorem dX4_cycles_169 : decode cX4_cycles 169 = .ok (.ifCond .ne 7, 3) := dk_154 0 7 (dk_at dksX4_cycles_7 4 rfl rfl)
theorem dX4_cycles_172 : decode cX4_cycles 172 = .ok (.iload_n 3, 1) := dk_29 (dk_at dksX4_cycles_7 7 rfl rfl)
theorem dX4_cycles_173 : decode cX4_cycles 173 = .ok (.goto 25, 3) := dk_167 0 25 (dk_at dksX4_cycles_7 8 rfl rfl)
theorem dX4_cycles_176 : decode cX4_cycles 176 = .ok (.iload_n 2, 1) := dk_28 (dk_at dksX4_cycles_7 11 rfl rfl)
theorem dX4_cycles_177 : decode cX4_cycles 177 = .ok (.iconst 1, 1) := dk_4 (dk_at dksX4_cycles_7 12 rfl rfl)
theorem dX4_cycles_178 : decode cX4_cycles 178 = .ok (.if_icmp .ne 8, 3) := dk_160 0 8 (dk_at dksX4_cycles_7 13 rfl rfl)
theorem dX4_cycles_181 : decode cX4_cycles 181 = .ok (.iload 4, 2) := dk_21 4 (dk_at dksX4_cycles_7 16 rfl rfl)
theorem dX4_cycles_183 : decode cX4_cycles 183 = .ok (.goto 15, 3) := dk_167 0 15 (dk_at dksX4_cycles_7 18 rfl rfl)
theorem dX4_cycles_186 : decode cX4_cycles 186 = .ok (.iload_n 2, 1) := dk_28 (dk_at dksX4_cycles_7 21 rfl rfl)
theorem dX4_cycles_187 : decode cX4_cycles 187 = .ok (.iconst 2, 1) := dk_5 (dk_at dksX4_cycles_7 22 rfl rfl)
theorem dX4_cycles_188 : decode cX4_cycles 188 = .ok (.if_icmp .ne 8, 3) := dk_160 0 8 (dk_at dksX4_cycles_8 0 rfl rfl)
theorem dX4_cycles_191 : decode cX4_cycles 191 = .ok (.iload 5, 2) := dk_21 5 (dk_at dksX4_cycles_8 3 rfl rfl)
theorem dX4_cycles_193 : decode cX4_cycles 193 = .ok (.goto 5, 3) := dk_167 0 5 (dk_at dksX4_cycles_8 5 rfl rfl)
theorem dX4_cycles_196 : decode cX4_cycles 196 = .ok (.iload 6, 2) := dk_21 6 (dk_at dksX4_cycles_8 8 rfl rfl)
theorem dX4_cycles_198 : decode cX4_cycles 198 = .ok (.ireturn, 1) := dk_172 (dk_at dksX4_cycles_8 10 rfl rfl)
abbrev cX4_findsCycles : ByteArray := prog_16_method_33_code
def yX4_findsCycles : MethodName := ⟨RX4, "findsCycles", "(I)V"⟩
def dkwX4_findsCycles_5 : List UInt8 := [180, 0, 24, 21, 4, 46, 54, 4, 132, 5, 1, 167, 255, 230, 132, 2, 1, 167, 255, 168, 177]
abbrev dktX4_findsCycles_5 : List UInt8 := dkwX4_findsCycles_5 ++ []
def dkwX4_findsCycles_4 : List UInt8 := [4, 96, 79, 28, 54, 4, 3, 54, 5, 21, 5, 29, 162, 0, 26, 42, 180, 0, 27, 21, 4, 4, 84, 42]
abbrev dktX4_findsCycles_4 : List UInt8 := dkwX4_findsCycles_4 ++ dktX4_findsCycles_5
def dkwX4_findsCycles_3 : List UInt8 := [154, 0, 11, 42, 28, 182, 0, 168, 167, 0, 4, 3, 62, 29, 158, 0, 48, 42, 180, 0, 31, 29, 92, 46]
abbrev dktX4_findsCycles_3 : List UInt8 := dkwX4_findsCycles_3 ++ dktX4_findsCycles_4
def dkwX4_findsCycles_2 : List UInt8 := [61, 28, 17, 4, 0, 162, 0, 87, 42, 180, 0, 18, 28, 46, 27, 160, 0, 20, 42, 180, 0, 27, 28, 51]
abbrev dktX4_findsCycles_2 : List UInt8 := dkwX4_findsCycles_2 ++ dktX4_findsCycles_3
def dkwX4_findsCycles_1 : List UInt8 := [79, 42, 180, 0, 27, 28, 3, 84, 42, 180, 0, 31, 28, 4, 96, 3, 79, 132, 2, 1, 167, 255, 218, 3]
abbrev dktX4_findsCycles_1 : List UInt8 := dkwX4_findsCycles_1 ++ dktX4_findsCycles_2
def dkwX4_findsCycles_0 : List UInt8 := [42, 182, 0, 162, 3, 61, 28, 17, 4, 0, 162, 0, 37, 42, 180, 0, 24, 28, 42, 28, 3, 182, 0, 158]
abbrev dktX4_findsCycles_0 : List UInt8 := dkwX4_findsCycles_0 ++ dktX4_findsCycles_1
theorem dksX4_findsCycles_0 : cX4_findsCycles.data.toList.drop 0 = dktX4_findsCycles_0 := by decide +kernel
theorem dksX4_findsCycles_1 : cX4_findsCycles.data.toList.drop 24 = dktX4_findsCycles_1 := dk_seg dksX4_findsCycles_0 24 rfl rfl
theorem dksX4_findsCycles_2 : cX4_findsCycles.data.toList.drop 48 = dktX4_findsCycles_2 := dk_seg dksX4_findsCycles_1 24 rfl rfl
theorem dksX4_findsCycles_3 : cX4_findsCycles.data.toList.drop 72 = dktX4_findsCycles_3 := dk_seg dksX4_findsCycles_2 24 rfl rfl
theorem dksX4_findsCycles_4 : cX4_findsCycles.data.toList.drop 96 = dktX4_findsCycles_4 := dk_seg dksX4_findsCycles_3 24 rfl rfl
theorem dksX4_findsCycles_5 : cX4_findsCycles.data.toList.drop 120 = dktX4_findsCycles_5 := dk_seg dksX4_findsCycles_4 24 rfl rfl
theorem dX4_findsCycles_0 : decode cX4_findsCycles 0 = .ok (.aload_n 0, 1) := dk_42 (dk_at dksX4_findsCycles_0 0 rfl rfl)
theorem dX4_findsCycles_1 : decode cX4_findsCycles 1 = .ok (.invokevirtual 162, 3) := dk_182 0 162 (dk_at dksX4_findsCycles_0 1 rfl rfl)
theorem dX4_findsCycles_4 : decode cX4_findsCycles 4 = .ok (.iconst 0, 1) := dk_3 (dk_at dksX4_findsCycles_0 4 rfl rfl)
theorem dX4_findsCycles_5 : decode cX4_findsCycles 5 = .ok (.istore_n 2, 1) := dk_61 (dk_at dksX4_findsCycles_0 5 rfl rfl)
theorem dX4_findsCycles_6 : decode cX4_findsCycles 6 = .ok (.iload_n 2, 1) := dk_28 (dk_at dksX4_findsCycles_0 6 rfl rfl)
theorem dX4_findsCycles_7 : decode cX4_findsCycles 7 = .ok (.sipush 1024, 3) := dk_17 4 0 (dk_at dksX4_findsCycles_0 7 rfl rfl)
theorem dX4_findsCycles_10 : decode cX4_findsCycles 10 = .ok (.if_icmp .ge 37, 3) := dk_162 0 37 (dk_at dksX4_findsCycles_0 10 rfl rfl)
theorem dX4_findsCycles_13 : decode cX4_findsCycles 13 = .ok (.aload_n 0, 1) := dk_42 (dk_at dksX4_findsCycles_0 13 rfl rfl)
theorem dX4_findsCycles_14 : decode cX4_findsCycles 14 = .ok (.getfield 24, 3) := dk_180 0 24 (dk_at dksX4_findsCycles_0 14 rfl rfl)
theorem dX4_findsCycles_17 : decode cX4_findsCycles 17 = .ok (.iload_n 2, 1) := dk_28 (dk_at dksX4_findsCycles_0 17 rfl rfl)
theorem dX4_findsCycles_18 : decode cX4_findsCycles 18 = .ok (.aload_n 0, 1) := dk_42 (dk_at dksX4_findsCycles_0 18 rfl rfl)
theorem dX4_findsCycles_19 : decode cX4_findsCycles 19 = .ok (.iload_n 2, 1) := dk_28 (dk_at dksX4_findsCycles_0 19 rfl rfl)
theorem dX4_findsCycles_20 : decode cX4_findsCycles 20 = .ok (.iconst 0, 1) := dk_3 (dk_at dksX4_findsCycles_0 20 rfl rfl)
theorem dX4_findsCycles_21 : decode cX4_findsCycles 21 = .ok (.invokevirtual 158, 3) := dk_182 0 158 (dk_at dksX4_findsCycles_0 21 rfl rfl)
theorem dX4_findsCycles_24 : decode cX4_findsCycles 24 = .ok (.iastore, 1) := dk_79 (dk_at dksX4_findsCycles_1 0 rfl rfl)
theorem dX4_findsCycles_25 : decode cX4_findsCycles 25 = .ok (.aload_n 0, 1) := dk_42 (dk_at dksX4_findsCycles_1 1 rfl rfl)
theorem dX4_findsCycles_26 : decode cX4_findsCycles 26 = .ok (.getfield 27, 3) := dk_180 0 27 (dk_at dksX4_findsCycles_1 2 rfl rfl)
theorem dX4_findsCycles_29 : decode cX4_findsCycles 29 = .ok (.iload_n 2, 1) := dk_28 (dk_at dksX4_findsCycles_1 5 rfl rfl)
theorem dX4_findsCycles_30 : decode cX4_findsCycles 30 = .ok (.iconst 0, 1) := dk_3 (dk_at dksX4_findsCycles_1 6 rfl rfl)
theorem dX4_findsCycles_31 : decode cX4_findsCycles 31 = .ok (.bastore, 1) := dk_84 (dk_at dksX4_findsCycles_1 7 rfl rfl)
theorem dX4_findsCycles_32 : decode cX4_findsCycles 32 = .ok (.aload_n 0, 1) := dk_42 (dk_at dksX4_findsCycles_1 8 rfl rfl)
theorem dX4_findsCycles_33 : decode cX4_findsCycles 33 = .ok (.getfield 31, 3) := dk_180 0 31 (dk_at dksX4_findsCycles_1 9 rfl rfl)
theorem dX4_findsCycles_36 : decode cX4_findsCycles 36 = .ok (.iload_n 2, 1) := dk_28 (dk_at dksX4_findsCycles_1 12 rfl rfl)
theorem dX4_findsCycles_37 : decode cX4_findsCycles 37 = .ok (.iconst 1, 1) := dk_4 (dk_at dksX4_findsCycles_1 13 rfl rfl)
theorem dX4_findsCycles_38 : decode cX4_findsCycles 38 = .ok (.iadd, 1) := dk_96 (dk_at dksX4_findsCycles_1 14 rfl rfl)
theorem dX4_findsCycles_39 : decode cX4_findsCycles 39 = .ok (.iconst 0, 1) := dk_3 (dk_at dksX4_findsCycles_1 15 rfl rfl)
theorem dX4_findsCycles_40 : decode cX4_findsCycles 40 = .ok (.iastore, 1) := dk_79 (dk_at dksX4_findsCycles_1 16 rfl rfl)
theorem dX4_findsCycles_41 : decode cX4_findsCycles 41 = .ok (.iinc 2 1, 3) := dk_132 2 1 (dk_at dksX4_findsCycles_1 17 rfl rfl)
theorem dX4_findsCycles_44 : decode cX4_findsCycles 44 = .ok (.goto (-38), 3) := dk_167 255 218 (dk_at dksX4_findsCycles_1 20 rfl rfl)
theorem dX4_findsCycles_47 : decode cX4_findsCycles 47 = .ok (.iconst 0, 1) := dk_3 (dk_at dksX4_findsCycles_1 23 rfl rfl)
theorem dX4_findsCycles_48 : decode cX4_findsCycles 48 = .ok (.istore_n 2, 1) := dk_61 (dk_at dksX4_findsCycles_2 0 rfl rfl)
theorem dX4_findsCycles_49 : decode cX4_findsCycles 49 = .ok (.iload_n 2, 1) := dk_28 (dk_at dksX4_findsCycles_2 1 rfl rfl)
theorem dX4_findsCycles_50 : decode cX4_findsCycles 50 = .ok (.sipush 1024, 3) := dk_17 4 0 (dk_at dksX4_findsCycles_2 2 rfl rfl)
theorem dX4_findsCycles_53 : decode cX4_findsCycles 53 = .ok (.if_icmp .ge 87, 3) := dk_162 0 87 (dk_at dksX4_findsCycles_2 5 rfl rfl)
theorem dX4_findsCycles_56 : decode cX4_findsCycles 56 = .ok (.aload_n 0, 1) := dk_42 (dk_at dksX4_findsCycles_2 8 rfl rfl)
theorem dX4_findsCycles_57 : decode cX4_findsCycles 57 = .ok (.getfield 18, 3) := dk_180 0 18 (dk_at dksX4_findsCycles_2 9 rfl rfl)
theorem dX4_findsCycles_60 : decode cX4_findsCycles 60 = .ok (.iload_n 2, 1) := dk_28 (dk_at dksX4_findsCycles_2 12 rfl rfl)
theorem dX4_findsCycles_61 : decode cX4_findsCycles 61 = .ok (.iaload, 1) := dk_46 (dk_at dksX4_findsCycles_2 13 rfl rfl)
theorem dX4_findsCycles_62 : decode cX4_findsCycles 62 = .ok (.iload_n 1, 1) := dk_27 (dk_at dksX4_findsCycles_2 14 rfl rfl)
theorem dX4_findsCycles_63 : decode cX4_findsCycles 63 = .ok (.if_icmp .ne 20, 3) := dk_160 0 20 (dk_at dksX4_findsCycles_2 15 rfl rfl)
theorem dX4_findsCycles_66 : decode cX4_findsCycles 66 = .ok (.aload_n 0, 1) := dk_42 (dk_at dksX4_findsCycles_2 18 rfl rfl)
theorem dX4_findsCycles_67 : decode cX4_findsCycles 67 = .ok (.getfield 27, 3) := dk_180 0 27 (dk_at dksX4_findsCycles_2 19 rfl rfl)
theorem dX4_findsCycles_70 : decode cX4_findsCycles 70 = .ok (.iload_n 2, 1) := dk_28 (dk_at dksX4_findsCycles_2 22 rfl rfl)
theorem dX4_findsCycles_71 : decode cX4_findsCycles 71 = .ok (.baload, 1) := dk_51 (dk_at dksX4_findsCycles_2 23 rfl rfl)
theorem dX4_findsCycles_72 : decode cX4_findsCycles 72 = .ok (.ifCond .ne 11, 3) := dk_154 0 11 (dk_at dksX4_findsCycles_3 0 rfl rfl)
theorem dX4_findsCycles_75 : decode cX4_findsCycles 75 = .ok (.aload_n 0, 1) := dk_42 (dk_at dksX4_findsCycles_3 3 rfl rfl)
theorem dX4_findsCycles_76 : decode cX4_findsCycles 76 = .ok (.iload_n 2, 1) := dk_28 (dk_at dksX4_findsCycles_3 4 rfl rfl)
theorem dX4_findsCycles_77 : decode cX4_findsCycles 77 = .ok (.invokevirtual 168, 3) := dk_182 0 168 (dk_at dksX4_findsCycles_3 5 rfl rfl)
theorem dX4_findsCycles_80 : decode cX4_findsCycles 80 = .ok (.goto 4, 3) := dk_167 0 4 (dk_at dksX4_findsCycles_3 8 rfl rfl)
theorem dX4_findsCycles_83 : decode cX4_findsCycles 83 = .ok (.iconst 0, 1) := dk_3 (dk_at dksX4_findsCycles_3 11 rfl rfl)
theorem dX4_findsCycles_84 : decode cX4_findsCycles 84 = .ok (.istore_n 3, 1) := dk_62 (dk_at dksX4_findsCycles_3 12 rfl rfl)
theorem dX4_findsCycles_85 : decode cX4_findsCycles 85 = .ok (.iload_n 3, 1) := dk_29 (dk_at dksX4_findsCycles_3 13 rfl rfl)
theorem dX4_findsCycles_86 : decode cX4_findsCycles 86 = .ok (.ifCond .le 48, 3) := dk_158 0 48 (dk_at dksX4_findsCycles_3 14 rfl rfl)
theorem dX4_findsCycles_89 : decode cX4_findsCycles 89 = .ok (.aload_n 0, 1) := dk_42 (dk_at dksX4_findsCycles_3 17 rfl rfl)
theorem dX4_findsCycles_90 : decode cX4_findsCycles 90 = .ok (.getfield 31, 3) := dk_180 0 31 (dk_at dksX4_findsCycles_3 18 rfl rfl)
theorem dX4_findsCycles_93 : decode cX4_findsCycles 93 = .ok (.iload_n 3, 1) := dk_29 (dk_at dksX4_findsCycles_3 21 rfl rfl)
theorem dX4_findsCycles_94 : decode cX4_findsCycles 94 = .ok (.dup2, 1) := dk_92 (dk_at dksX4_findsCycles_3 22 rfl rfl)
theorem dX4_findsCycles_95 : decode cX4_findsCycles 95 = .ok (.iaload, 1) := dk_46 (dk_at dksX4_findsCycles_3 23 rfl rfl)
theorem dX4_findsCycles_96 : decode cX4_findsCycles 96 = .ok (.iconst 1, 1) := dk_4 (dk_at dksX4_findsCycles_4 0 rfl rfl)
theorem dX4_findsCycles_97 : decode cX4_findsCycles 97 = .ok (.iadd, 1) := dk_96 (dk_at dksX4_findsCycles_4 1 rfl rfl)
theorem dX4_findsCycles_98 : decode cX4_findsCycles 98 = .ok (.iastore, 1) := dk_79 (dk_at dksX4_findsCycles_4 2 rfl rfl)
theorem dX4_findsCycles_99 : decode cX4_findsCycles 99 = .ok (.iload_n 2, 1) := dk_28 (dk_at dksX4_findsCycles_4 3 rfl rfl)
theorem dX4_findsCycles_100 : decode cX4_findsCycles 100 = .ok (.istore 4, 2) := dk_54 4 (dk_at dksX4_findsCycles_4 4 rfl rfl)
theorem dX4_findsCycles_102 : decode cX4_findsCycles 102 = .ok (.iconst 0, 1) := dk_3 (dk_at dksX4_findsCycles_4 6 rfl rfl)
theorem dX4_findsCycles_103 : decode cX4_findsCycles 103 = .ok (.istore 5, 2) := dk_54 5 (dk_at dksX4_findsCycles_4 7 rfl rfl)
theorem dX4_findsCycles_105 : decode cX4_findsCycles 105 = .ok (.iload 5, 2) := dk_21 5 (dk_at dksX4_findsCycles_4 9 rfl rfl)
theorem dX4_findsCycles_107 : decode cX4_findsCycles 107 = .ok (.iload_n 3, 1) := dk_29 (dk_at dksX4_findsCycles_4 11 rfl rfl)
theorem dX4_findsCycles_108 : decode cX4_findsCycles 108 = .ok (.if_icmp .ge 26, 3) := dk_162 0 26 (dk_at dksX4_findsCycles_4 12 rfl rfl)
theorem dX4_findsCycles_111 : decode cX4_findsCycles 111 = .ok (.aload_n 0, 1) := dk_42 (dk_at dksX4_findsCycles_4 15 rfl rfl)
theorem dX4_findsCycles_112 : decode cX4_findsCycles 112 = .ok (.getfield 27, 3) := dk_180 0 27 (dk_at dksX4_findsCycles_4 16 rfl rfl)
theorem dX4_findsCycles_115 : decode cX4_findsCycles 115 = .ok (.iload 4, 2) := dk_21 4 (dk_at dksX4_findsCycles_4 19 rfl rfl)
theorem dX4_findsCycles_117 : decode cX4_findsCycles 117 = .ok (.iconst 1, 1) := dk_4 (dk_at dksX4_findsCycles_4 21 rfl rfl)
theorem dX4_findsCycles_118 : decode cX4_findsCycles 118 = .ok (.bastore, 1) := dk_84 (dk_at dksX4_findsCycles_4 22 rfl rfl)
theorem dX4_findsCycles_119 : decode cX4_findsCycles 119 = .ok (.aload_n 0, 1) := dk_42 (dk_at dksX4_findsCycles_4 23 rfl rfl)
theorem dX4_findsCycles_120 : decode cX4_findsCycles 120 = .ok (.getfield 24, 3) := dk_180 0 24 (dk_at dksX4_findsCycles_5 0 rfl rfl)
theorem dX4_findsCycles_123 : decode cX4_findsCycles 123 = .ok (.iload 4, 2) := dk_21 4 (dk_at dksX4_findsCycles_5 3 rfl rfl)
theorem dX4_findsCycles_125 : decode cX4_findsCycles 125 = .ok (.iaload, 1) := dk_46 (dk_at dksX4_findsCycles_5 5 rfl rfl)
theorem dX4_findsCycles_126 : decode cX4_findsCycles 126 = .ok (.istore 4, 2) := dk_54 4 (dk_at dksX4_findsCycles_5 6 rfl rfl)
theorem dX4_findsCycles_128 : decode cX4_findsCycles 128 = .ok (.iinc 5 1, 3) := dk_132 5 1 (dk_at dksX4_findsCycles_5 8 rfl rfl)
theorem dX4_findsCycles_131 : decode cX4_findsCycles 131 = .ok (.goto (-26), 3) := dk_167 255 230 (dk_at dksX4_findsCycles_5 11 rfl rfl)
theorem dX4_findsCycles_134 : decode cX4_findsCycles 134 = .ok (.iinc 2 1, 3) := dk_132 2 1 (dk_at dksX4_findsCycles_5 14 rfl rfl)
theorem dX4_findsCycles_137 : decode cX4_findsCycles 137 = .ok (.goto (-88), 3) := dk_167 255 168 (dk_at dksX4_findsCycles_5 17 rfl rfl)
theorem dX4_findsCycles_140 : decode cX4_findsCycles 140 = .ok (.return_, 1) := dk_177 (dk_at dksX4_findsCycles_5 20 rfl rfl)
abbrev cX4_lengthOf : ByteArray := prog_16_method_32_code
def yX4_lengthOf : MethodName := ⟨RX4, "lengthOf", "(I)I"⟩
def dkwX4_lengthOf_2 : List UInt8 := [17, 4, 0, 163, 0, 7, 29, 167, 0, 4, 3, 172]
abbrev dktX4_lengthOf_2 : List UInt8 := dkwX4_lengthOf_2 ++ []
def dkwX4_lengthOf_1 : List UInt8 := [163, 0, 16, 42, 180, 0, 24, 28, 46, 61, 132, 3, 1, 167, 255, 230, 28, 27, 160, 0, 14, 29]
abbrev dktX4_lengthOf_1 : List UInt8 := dkwX4_lengthOf_1 ++ dktX4_lengthOf_2
def dkwX4_lengthOf_0 : List UInt8 := [42, 180, 0, 24, 27, 46, 61, 4, 62, 28, 155, 0, 28, 28, 27, 159, 0, 23, 29, 17, 4, 0]
abbrev dktX4_lengthOf_0 : List UInt8 := dkwX4_lengthOf_0 ++ dktX4_lengthOf_1
theorem dksX4_lengthOf_0 : cX4_lengthOf.data.toList.drop 0 = dktX4_lengthOf_0 := by decide +kernel
theorem dksX4_lengthOf_1 : cX4_lengthOf.data.toList.drop 22 = dktX4_lengthOf_1 := dk_seg dksX4_lengthOf_0 22 rfl rfl
theorem dksX4_lengthOf_2 : cX4_lengthOf.data.toList.drop 44 = dktX4_lengthOf_2 := dk_seg dksX4_lengthOf_1 22 rfl rfl
theorem dX4_lengthOf_0 : decode cX4_lengthOf 0 = .ok (.aload_n 0, 1) := dk_42 (dk_at dksX4_lengthOf_0 0 rfl rfl)
theorem dX4_lengthOf_1 : decode cX4_lengthOf 1 = .ok (.getfield 24, 3) := dk_180 0 24 (dk_at dksX4_lengthOf_0 1 rfl rfl)
theorem dX4_lengthOf_4 : decode cX4_lengthOf 4 = .ok (.iload_n 1, 1) := dk_27 (dk_at dksX4_lengthOf_0 4 rfl rfl)
theorem dX4_lengthOf_5 : decode cX4_lengthOf 5 = .ok (.iaload, 1) := dk_46 (dk_at dksX4_lengthOf_0 5 rfl rfl)
theorem dX4_lengthOf_6 : decode cX4_lengthOf 6 = .ok (.istore_n 2, 1) := dk_61 (dk_at dksX4_lengthOf_0 6 rfl rfl)
theorem dX4_lengthOf_7 : decode cX4_lengthOf 7 = .ok (.iconst 1, 1) := dk_4 (dk_at dksX4_lengthOf_0 7 rfl rfl)
theorem dX4_lengthOf_8 : decode cX4_lengthOf 8 = .ok (.istore_n 3, 1) := dk_62 (dk_at dksX4_lengthOf_0 8 rfl rfl)
theorem dX4_lengthOf_9 : decode cX4_lengthOf 9 = .ok (.iload_n 2, 1) := dk_28 (dk_at dksX4_lengthOf_0 9 rfl rfl)
theorem dX4_lengthOf_10 : decode cX4_lengthOf 10 = .ok (.ifCond .lt 28, 3) := dk_155 0 28 (dk_at dksX4_lengthOf_0 10 rfl rfl)
theorem dX4_lengthOf_13 : decode cX4_lengthOf 13 = .ok (.iload_n 2, 1) := dk_28 (dk_at dksX4_lengthOf_0 13 rfl rfl)
theorem dX4_lengthOf_14 : decode cX4_lengthOf 14 = .ok (.iload_n 1, 1) := dk_27 (dk_at dksX4_lengthOf_0 14 rfl rfl)
theorem dX4_lengthOf_15 : decode cX4_lengthOf 15 = .ok (.if_icmp .eq 23, 3) := dk_159 0 23 (dk_at dksX4_lengthOf_0 15 rfl rfl)
theorem dX4_lengthOf_18 : decode cX4_lengthOf 18 = .ok (.iload_n 3, 1) := dk_29 (dk_at dksX4_lengthOf_0 18 rfl rfl)
theorem dX4_lengthOf_19 : decode cX4_lengthOf 19 = .ok (.sipush 1024, 3) := dk_17 4 0 (dk_at dksX4_lengthOf_0 19 rfl rfl)
theorem dX4_lengthOf_22 : decode cX4_lengthOf 22 = .ok (.if_icmp .gt 16, 3) := dk_163 0 16 (dk_at dksX4_lengthOf_1 0 rfl rfl)
theorem dX4_lengthOf_25 : decode cX4_lengthOf 25 = .ok (.aload_n 0, 1) := dk_42 (dk_at dksX4_lengthOf_1 3 rfl rfl)
theorem dX4_lengthOf_26 : decode cX4_lengthOf 26 = .ok (.getfield 24, 3) := dk_180 0 24 (dk_at dksX4_lengthOf_1 4 rfl rfl)
theorem dX4_lengthOf_29 : decode cX4_lengthOf 29 = .ok (.iload_n 2, 1) := dk_28 (dk_at dksX4_lengthOf_1 7 rfl rfl)
theorem dX4_lengthOf_30 : decode cX4_lengthOf 30 = .ok (.iaload, 1) := dk_46 (dk_at dksX4_lengthOf_1 8 rfl rfl)
theorem dX4_lengthOf_31 : decode cX4_lengthOf 31 = .ok (.istore_n 2, 1) := dk_61 (dk_at dksX4_lengthOf_1 9 rfl rfl)
theorem dX4_lengthOf_32 : decode cX4_lengthOf 32 = .ok (.iinc 3 1, 3) := dk_132 3 1 (dk_at dksX4_lengthOf_1 10 rfl rfl)
theorem dX4_lengthOf_35 : decode cX4_lengthOf 35 = .ok (.goto (-26), 3) := dk_167 255 230 (dk_at dksX4_lengthOf_1 13 rfl rfl)
theorem dX4_lengthOf_38 : decode cX4_lengthOf 38 = .ok (.iload_n 2, 1) := dk_28 (dk_at dksX4_lengthOf_1 16 rfl rfl)
theorem dX4_lengthOf_39 : decode cX4_lengthOf 39 = .ok (.iload_n 1, 1) := dk_27 (dk_at dksX4_lengthOf_1 17 rfl rfl)
theorem dX4_lengthOf_40 : decode cX4_lengthOf 40 = .ok (.if_icmp .ne 14, 3) := dk_160 0 14 (dk_at dksX4_lengthOf_1 18 rfl rfl)
theorem dX4_lengthOf_43 : decode cX4_lengthOf 43 = .ok (.iload_n 3, 1) := dk_29 (dk_at dksX4_lengthOf_1 21 rfl rfl)
theorem dX4_lengthOf_44 : decode cX4_lengthOf 44 = .ok (.sipush 1024, 3) := dk_17 4 0 (dk_at dksX4_lengthOf_2 0 rfl rfl)
theorem dX4_lengthOf_47 : decode cX4_lengthOf 47 = .ok (.if_icmp .gt 7, 3) := dk_163 0 7 (dk_at dksX4_lengthOf_2 3 rfl rfl)
theorem dX4_lengthOf_50 : decode cX4_lengthOf 50 = .ok (.iload_n 3, 1) := dk_29 (dk_at dksX4_lengthOf_2 6 rfl rfl)
theorem dX4_lengthOf_51 : decode cX4_lengthOf 51 = .ok (.goto 4, 3) := dk_167 0 4 (dk_at dksX4_lengthOf_2 7 rfl rfl)
theorem dX4_lengthOf_54 : decode cX4_lengthOf 54 = .ok (.iconst 0, 1) := dk_3 (dk_at dksX4_lengthOf_2 10 rfl rfl)
theorem dX4_lengthOf_55 : decode cX4_lengthOf 55 = .ok (.ireturn, 1) := dk_172 (dk_at dksX4_lengthOf_2 11 rfl rfl)
abbrev cX4_degree : ByteArray := prog_16_method_45_code
def yX4_degree : MethodName := ⟨RX4, "degree", "(III)I"⟩
def dkwX4_degree_9 : List UInt8 := [164, 0, 8, 21, 4, 167, 0, 5, 21, 5, 172]
abbrev dktX4_degree_9 : List UInt8 := dkwX4_degree_9 ++ []
def dkwX4_degree_8 : List UInt8 := [3, 46, 54, 5, 21, 4, 155, 0, 8, 21, 5, 156, 0, 7, 3, 167, 0, 17, 21, 4, 21, 5]
abbrev dktX4_degree_8 : List UInt8 := dkwX4_degree_8 ++ dktX4_degree_9
def dkwX4_degree_7 : List UInt8 := [180, 0, 40, 3, 46, 54, 4, 29, 154, 0, 12, 42, 180, 0, 37, 3, 46, 167, 0, 9, 42, 180, 0, 43]
abbrev dktX4_degree_7 : List UInt8 := dkwX4_degree_7 ++ dktX4_degree_8
def dkwX4_degree_6 : List UInt8 := [16, 249, 172, 132, 4, 1, 167, 255, 196, 29, 154, 0, 12, 42, 180, 0, 34, 3, 46, 167, 0, 9, 42]
abbrev dktX4_degree_6 : List UInt8 := dkwX4_degree_6 ++ dktX4_degree_7
def dkwX4_degree_5 : List UInt8 := [42, 4, 42, 180, 0, 40, 42, 180, 0, 43, 42, 180, 0, 34, 42, 180, 0, 37, 182, 0, 214, 154, 0, 6]
abbrev dktX4_degree_5 : List UInt8 := dkwX4_degree_5 ++ dktX4_degree_6
def dkwX4_degree_4 : List UInt8 := [42, 3, 42, 180, 0, 34, 42, 180, 0, 37, 42, 180, 0, 40, 42, 180, 0, 43, 182, 0, 214, 153, 0, 27]
abbrev dktX4_degree_4 : List UInt8 := dkwX4_degree_4 ++ dktX4_degree_5
def dkwX4_degree_3 : List UInt8 := [180, 0, 40, 28, 184, 0, 191, 42, 180, 0, 43, 4, 184, 0, 191, 3, 54, 4, 21, 4, 27, 162, 0, 60]
abbrev dktX4_degree_3 : List UInt8 := dkwX4_degree_3 ++ dktX4_degree_4
def dkwX4_degree_2 : List UInt8 := [180, 0, 34, 4, 3, 79, 42, 180, 0, 34, 5, 4, 79, 42, 180, 0, 37, 4, 184, 0, 191, 42]
abbrev dktX4_degree_2 : List UInt8 := dkwX4_degree_2 ++ dktX4_degree_3
def dkwX4_degree_1 : List UInt8 := [27, 133, 9, 20, 0, 212, 184, 0, 99, 154, 0, 6, 16, 254, 172, 42, 180, 0, 34, 3, 4, 79, 42]
abbrev dktX4_degree_1 : List UInt8 := dkwX4_degree_1 ++ dktX4_degree_2
def dkwX4_degree_0 : List UInt8 := [29, 133, 9, 10, 184, 0, 99, 153, 0, 15, 28, 133, 9, 20, 0, 113, 184, 0, 99, 154, 0, 5, 2, 172]
abbrev dktX4_degree_0 : List UInt8 := dkwX4_degree_0 ++ dktX4_degree_1
theorem dksX4_degree_0 : cX4_degree.data.toList.drop 0 = dktX4_degree_0 := by decide +kernel
theorem dksX4_degree_1 : cX4_degree.data.toList.drop 24 = dktX4_degree_1 := dk_seg dksX4_degree_0 24 rfl rfl
theorem dksX4_degree_2 : cX4_degree.data.toList.drop 47 = dktX4_degree_2 := dk_seg dksX4_degree_1 23 rfl rfl
theorem dksX4_degree_3 : cX4_degree.data.toList.drop 69 = dktX4_degree_3 := dk_seg dksX4_degree_2 22 rfl rfl
theorem dksX4_degree_4 : cX4_degree.data.toList.drop 93 = dktX4_degree_4 := dk_seg dksX4_degree_3 24 rfl rfl
theorem dksX4_degree_5 : cX4_degree.data.toList.drop 117 = dktX4_degree_5 := dk_seg dksX4_degree_4 24 rfl rfl
theorem dksX4_degree_6 : cX4_degree.data.toList.drop 141 = dktX4_degree_6 := dk_seg dksX4_degree_5 24 rfl rfl
theorem dksX4_degree_7 : cX4_degree.data.toList.drop 164 = dktX4_degree_7 := dk_seg dksX4_degree_6 23 rfl rfl
theorem dksX4_degree_8 : cX4_degree.data.toList.drop 188 = dktX4_degree_8 := dk_seg dksX4_degree_7 24 rfl rfl
theorem dksX4_degree_9 : cX4_degree.data.toList.drop 210 = dktX4_degree_9 := dk_seg dksX4_degree_8 22 rfl rfl
theorem dX4_degree_0 : decode cX4_degree 0 = .ok (.iload_n 3, 1) := dk_29 (dk_at dksX4_degree_0 0 rfl rfl)
theorem dX4_degree_1 : decode cX4_degree 1 = .ok (.i2l, 1) := dk_133 (dk_at dksX4_degree_0 1 rfl rfl)
theorem dX4_degree_2 : decode cX4_degree 2 = .ok (.lconst 0, 1) := dk_9 (dk_at dksX4_degree_0 2 rfl rfl)
theorem dX4_degree_3 : decode cX4_degree 3 = .ok (.lconst 1, 1) := dk_10 (dk_at dksX4_degree_0 3 rfl rfl)
theorem dX4_degree_4 : decode cX4_degree 4 = .ok (.invokestatic 99, 3) := dk_184 0 99 (dk_at dksX4_degree_0 4 rfl rfl)
theorem dX4_degree_7 : decode cX4_degree 7 = .ok (.ifCond .eq 15, 3) := dk_153 0 15 (dk_at dksX4_degree_0 7 rfl rfl)
theorem dX4_degree_10 : decode cX4_degree 10 = .ok (.iload_n 2, 1) := dk_28 (dk_at dksX4_degree_0 10 rfl rfl)
theorem dX4_degree_11 : decode cX4_degree 11 = .ok (.i2l, 1) := dk_133 (dk_at dksX4_degree_0 11 rfl rfl)
theorem dX4_degree_12 : decode cX4_degree 12 = .ok (.lconst 0, 1) := dk_9 (dk_at dksX4_degree_0 12 rfl rfl)
theorem dX4_degree_13 : decode cX4_degree 13 = .ok (.ldc2_w 113, 3) := dk_20 0 113 (dk_at dksX4_degree_0 13 rfl rfl)
theorem dX4_degree_16 : decode cX4_degree 16 = .ok (.invokestatic 99, 3) := dk_184 0 99 (dk_at dksX4_degree_0 16 rfl rfl)
theorem dX4_degree_19 : decode cX4_degree 19 = .ok (.ifCond .ne 5, 3) := dk_154 0 5 (dk_at dksX4_degree_0 19 rfl rfl)
theorem dX4_degree_22 : decode cX4_degree 22 = .ok (.iconst (-1), 1) := dk_2 (dk_at dksX4_degree_0 22 rfl rfl)
theorem dX4_degree_23 : decode cX4_degree 23 = .ok (.ireturn, 1) := dk_172 (dk_at dksX4_degree_0 23 rfl rfl)
theorem dX4_degree_24 : decode cX4_degree 24 = .ok (.iload_n 1, 1) := dk_27 (dk_at dksX4_degree_1 0 rfl rfl)
theorem dX4_degree_25 : decode cX4_degree 25 = .ok (.i2l, 1) := dk_133 (dk_at dksX4_degree_1 1 rfl rfl)
theorem dX4_degree_26 : decode cX4_degree 26 = .ok (.lconst 0, 1) := dk_9 (dk_at dksX4_degree_1 2 rfl rfl)
theorem dX4_degree_27 : decode cX4_degree 27 = .ok (.ldc2_w 212, 3) := dk_20 0 212 (dk_at dksX4_degree_1 3 rfl rfl)
theorem dX4_degree_30 : decode cX4_degree 30 = .ok (.invokestatic 99, 3) := dk_184 0 99 (dk_at dksX4_degree_1 6 rfl rfl)
theorem dX4_degree_33 : decode cX4_degree 33 = .ok (.ifCond .ne 6, 3) := dk_154 0 6 (dk_at dksX4_degree_1 9 rfl rfl)
theorem dX4_degree_36 : decode cX4_degree 36 = .ok (.bipush (-2), 2) := dk_16 254 (dk_at dksX4_degree_1 12 rfl rfl)
theorem dX4_degree_38 : decode cX4_degree 38 = .ok (.ireturn, 1) := dk_172 (dk_at dksX4_degree_1 14 rfl rfl)
theorem dX4_degree_39 : decode cX4_degree 39 = .ok (.aload_n 0, 1) := dk_42 (dk_at dksX4_degree_1 15 rfl rfl)
theorem dX4_degree_40 : decode cX4_degree 40 = .ok (.getfield 34, 3) := dk_180 0 34 (dk_at dksX4_degree_1 16 rfl rfl)
theorem dX4_degree_43 : decode cX4_degree 43 = .ok (.iconst 0, 1) := dk_3 (dk_at dksX4_degree_1 19 rfl rfl)
theorem dX4_degree_44 : decode cX4_degree 44 = .ok (.iconst 1, 1) := dk_4 (dk_at dksX4_degree_1 20 rfl rfl)
theorem dX4_degree_45 : decode cX4_degree 45 = .ok (.iastore, 1) := dk_79 (dk_at dksX4_degree_1 21 rfl rfl)
theorem dX4_degree_46 : decode cX4_degree 46 = .ok (.aload_n 0, 1) := dk_42 (dk_at dksX4_degree_1 22 rfl rfl)
theorem dX4_degree_47 : decode cX4_degree 47 = .ok (.getfield 34, 3) := dk_180 0 34 (dk_at dksX4_degree_2 0 rfl rfl)
theorem dX4_degree_50 : decode cX4_degree 50 = .ok (.iconst 1, 1) := dk_4 (dk_at dksX4_degree_2 3 rfl rfl)
theorem dX4_degree_51 : decode cX4_degree 51 = .ok (.iconst 0, 1) := dk_3 (dk_at dksX4_degree_2 4 rfl rfl)
theorem dX4_degree_52 : decode cX4_degree 52 = .ok (.iastore, 1) := dk_79 (dk_at dksX4_degree_2 5 rfl rfl)
theorem dX4_degree_53 : decode cX4_degree 53 = .ok (.aload_n 0, 1) := dk_42 (dk_at dksX4_degree_2 6 rfl rfl)
theorem dX4_degree_54 : decode cX4_degree 54 = .ok (.getfield 34, 3) := dk_180 0 34 (dk_at dksX4_degree_2 7 rfl rfl)
theorem dX4_degree_57 : decode cX4_degree 57 = .ok (.iconst 2, 1) := dk_5 (dk_at dksX4_degree_2 10 rfl rfl)
theorem dX4_degree_58 : decode cX4_degree 58 = .ok (.iconst 1, 1) := dk_4 (dk_at dksX4_degree_2 11 rfl rfl)
theorem dX4_degree_59 : decode cX4_degree 59 = .ok (.iastore, 1) := dk_79 (dk_at dksX4_degree_2 12 rfl rfl)
theorem dX4_degree_60 : decode cX4_degree 60 = .ok (.aload_n 0, 1) := dk_42 (dk_at dksX4_degree_2 13 rfl rfl)
theorem dX4_degree_61 : decode cX4_degree 61 = .ok (.getfield 37, 3) := dk_180 0 37 (dk_at dksX4_degree_2 14 rfl rfl)
theorem dX4_degree_64 : decode cX4_degree 64 = .ok (.iconst 1, 1) := dk_4 (dk_at dksX4_degree_2 17 rfl rfl)
theorem dX4_degree_65 : decode cX4_degree 65 = .ok (.invokestatic 191, 3) := dk_184 0 191 (dk_at dksX4_degree_2 18 rfl rfl)
theorem dX4_degree_68 : decode cX4_degree 68 = .ok (.aload_n 0, 1) := dk_42 (dk_at dksX4_degree_2 21 rfl rfl)
theorem dX4_degree_69 : decode cX4_degree 69 = .ok (.getfield 40, 3) := dk_180 0 40 (dk_at dksX4_degree_3 0 rfl rfl)
theorem dX4_degree_72 : decode cX4_degree 72 = .ok (.iload_n 2, 1) := dk_28 (dk_at dksX4_degree_3 3 rfl rfl)
theorem dX4_degree_73 : decode cX4_degree 73 = .ok (.invokestatic 191, 3) := dk_184 0 191 (dk_at dksX4_degree_3 4 rfl rfl)
theorem dX4_degree_76 : decode cX4_degree 76 = .ok (.aload_n 0, 1) := dk_42 (dk_at dksX4_degree_3 7 rfl rfl)
theorem dX4_degree_77 : decode cX4_degree 77 = .ok (.getfield 43, 3) := dk_180 0 43 (dk_at dksX4_degree_3 8 rfl rfl)
theorem dX4_degree_80 : decode cX4_degree 80 = .ok (.iconst 1, 1) := dk_4 (dk_at dksX4_degree_3 11 rfl rfl)
theorem dX4_degree_81 : decode cX4_degree 81 = .ok (.invokestatic 191, 3) := dk_184 0 191 (dk_at dksX4_degree_3 12 rfl rfl)
theorem dX4_degree_84 : decode cX4_degree 84 = .ok (.iconst 0, 1) := dk_3 (dk_at dksX4_degree_3 15 rfl rfl)
theorem dX4_degree_85 : decode cX4_degree 85 = .ok (.istore 4, 2) := dk_54 4 (dk_at dksX4_degree_3 16 rfl rfl)
theorem dX4_degree_87 : decode cX4_degree 87 = .ok (.iload 4, 2) := dk_21 4 (dk_at dksX4_degree_3 18 rfl rfl)
theorem dX4_degree_89 : decode cX4_degree 89 = .ok (.iload_n 1, 1) := dk_27 (dk_at dksX4_degree_3 20 rfl rfl)
theorem dX4_degree_90 : decode cX4_degree 90 = .ok (.if_icmp .ge 60, 3) := dk_162 0 60 (dk_at dksX4_degree_3 21 rfl rfl)
theorem dX4_degree_93 : decode cX4_degree 93 = .ok (.aload_n 0, 1) := dk_42 (dk_at dksX4_degree_4 0 rfl rfl)
theorem dX4_degree_94 : decode cX4_degree 94 = .ok (.iconst 0, 1) := dk_3 (dk_at dksX4_degree_4 1 rfl rfl)
theorem dX4_degree_95 : decode cX4_degree 95 = .ok (.aload_n 0, 1) := dk_42 (dk_at dksX4_degree_4 2 rfl rfl)
theorem dX4_degree_96 : decode cX4_degree 96 = .ok (.getfield 34, 3) := dk_180 0 34 (dk_at dksX4_degree_4 3 rfl rfl)
theorem dX4_degree_99 : decode cX4_degree 99 = .ok (.aload_n 0, 1) := dk_42 (dk_at dksX4_degree_4 6 rfl rfl)
theorem dX4_degree_100 : decode cX4_degree 100 = .ok (.getfield 37, 3) := dk_180 0 37 (dk_at dksX4_degree_4 7 rfl rfl)
theorem dX4_degree_103 : decode cX4_degree 103 = .ok (.aload_n 0, 1) := dk_42 (dk_at dksX4_degree_4 10 rfl rfl)
theorem dX4_degree_104 : decode cX4_degree 104 = .ok (.getfield 40, 3) := dk_180 0 40 (dk_at dksX4_degree_4 11 rfl rfl)
theorem dX4_degree_107 : decode cX4_degree 107 = .ok (.aload_n 0, 1) := dk_42 (dk_at dksX4_degree_4 14 rfl rfl)
theorem dX4_degree_108 : decode cX4_degree 108 = .ok (.getfield 43, 3) := dk_180 0 43 (dk_at dksX4_degree_4 15 rfl rfl)
theorem dX4_degree_111 : decode cX4_degree 111 = .ok (.invokevirtual 214, 3) := dk_182 0 214 (dk_at dksX4_degree_4 18 rfl rfl)
theorem dX4_degree_114 : decode cX4_degree 114 = .ok (.ifCond .eq 27, 3) := dk_153 0 27 (dk_at dksX4_degree_4 21 rfl rfl)
theorem dX4_degree_117 : decode cX4_degree 117 = .ok (.aload_n 0, 1) := dk_42 (dk_at dksX4_degree_5 0 rfl rfl)
theorem dX4_degree_118 : decode cX4_degree 118 = .ok (.iconst 1, 1) := dk_4 (dk_at dksX4_degree_5 1 rfl rfl)
theorem dX4_degree_119 : decode cX4_degree 119 = .ok (.aload_n 0, 1) := dk_42 (dk_at dksX4_degree_5 2 rfl rfl)
theorem dX4_degree_120 : decode cX4_degree 120 = .ok (.getfield 40, 3) := dk_180 0 40 (dk_at dksX4_degree_5 3 rfl rfl)
theorem dX4_degree_123 : decode cX4_degree 123 = .ok (.aload_n 0, 1) := dk_42 (dk_at dksX4_degree_5 6 rfl rfl)
theorem dX4_degree_124 : decode cX4_degree 124 = .ok (.getfield 43, 3) := dk_180 0 43 (dk_at dksX4_degree_5 7 rfl rfl)
theorem dX4_degree_127 : decode cX4_degree 127 = .ok (.aload_n 0, 1) := dk_42 (dk_at dksX4_degree_5 10 rfl rfl)
theorem dX4_degree_128 : decode cX4_degree 128 = .ok (.getfield 34, 3) := dk_180 0 34 (dk_at dksX4_degree_5 11 rfl rfl)
theorem dX4_degree_131 : decode cX4_degree 131 = .ok (.aload_n 0, 1) := dk_42 (dk_at dksX4_degree_5 14 rfl rfl)
theorem dX4_degree_132 : decode cX4_degree 132 = .ok (.getfield 37, 3) := dk_180 0 37 (dk_at dksX4_degree_5 15 rfl rfl)
theorem dX4_degree_135 : decode cX4_degree 135 = .ok (.invokevirtual 214, 3) := dk_182 0 214 (dk_at dksX4_degree_5 18 rfl rfl)
theorem dX4_degree_138 : decode cX4_degree 138 = .ok (.ifCond .ne 6, 3) := dk_154 0 6 (dk_at dksX4_degree_5 21 rfl rfl)
theorem dX4_degree_141 : decode cX4_degree 141 = .ok (.bipush (-7), 2) := dk_16 249 (dk_at dksX4_degree_6 0 rfl rfl)
theorem dX4_degree_143 : decode cX4_degree 143 = .ok (.ireturn, 1) := dk_172 (dk_at dksX4_degree_6 2 rfl rfl)
theorem dX4_degree_144 : decode cX4_degree 144 = .ok (.iinc 4 1, 3) := dk_132 4 1 (dk_at dksX4_degree_6 3 rfl rfl)
theorem dX4_degree_147 : decode cX4_degree 147 = .ok (.goto (-60), 3) := dk_167 255 196 (dk_at dksX4_degree_6 6 rfl rfl)
theorem dX4_degree_150 : decode cX4_degree 150 = .ok (.iload_n 3, 1) := dk_29 (dk_at dksX4_degree_6 9 rfl rfl)
theorem dX4_degree_151 : decode cX4_degree 151 = .ok (.ifCond .ne 12, 3) := dk_154 0 12 (dk_at dksX4_degree_6 10 rfl rfl)
theorem dX4_degree_154 : decode cX4_degree 154 = .ok (.aload_n 0, 1) := dk_42 (dk_at dksX4_degree_6 13 rfl rfl)
theorem dX4_degree_155 : decode cX4_degree 155 = .ok (.getfield 34, 3) := dk_180 0 34 (dk_at dksX4_degree_6 14 rfl rfl)
theorem dX4_degree_158 : decode cX4_degree 158 = .ok (.iconst 0, 1) := dk_3 (dk_at dksX4_degree_6 17 rfl rfl)
theorem dX4_degree_159 : decode cX4_degree 159 = .ok (.iaload, 1) := dk_46 (dk_at dksX4_degree_6 18 rfl rfl)
theorem dX4_degree_160 : decode cX4_degree 160 = .ok (.goto 9, 3) := dk_167 0 9 (dk_at dksX4_degree_6 19 rfl rfl)
theorem dX4_degree_163 : decode cX4_degree 163 = .ok (.aload_n 0, 1) := dk_42 (dk_at dksX4_degree_6 22 rfl rfl)
theorem dX4_degree_164 : decode cX4_degree 164 = .ok (.getfield 40, 3) := dk_180 0 40 (dk_at dksX4_degree_7 0 rfl rfl)
theorem dX4_degree_167 : decode cX4_degree 167 = .ok (.iconst 0, 1) := dk_3 (dk_at dksX4_degree_7 3 rfl rfl)
theorem dX4_degree_168 : decode cX4_degree 168 = .ok (.iaload, 1) := dk_46 (dk_at dksX4_degree_7 4 rfl rfl)
theorem dX4_degree_169 : decode cX4_degree 169 = .ok (.istore 4, 2) := dk_54 4 (dk_at dksX4_degree_7 5 rfl rfl)
theorem dX4_degree_171 : decode cX4_degree 171 = .ok (.iload_n 3, 1) := dk_29 (dk_at dksX4_degree_7 7 rfl rfl)
theorem dX4_degree_172 : decode cX4_degree 172 = .ok (.ifCond .ne 12, 3) := dk_154 0 12 (dk_at dksX4_degree_7 8 rfl rfl)
theorem dX4_degree_175 : decode cX4_degree 175 = .ok (.aload_n 0, 1) := dk_42 (dk_at dksX4_degree_7 11 rfl rfl)
theorem dX4_degree_176 : decode cX4_degree 176 = .ok (.getfield 37, 3) := dk_180 0 37 (dk_at dksX4_degree_7 12 rfl rfl)
theorem dX4_degree_179 : decode cX4_degree 179 = .ok (.iconst 0, 1) := dk_3 (dk_at dksX4_degree_7 15 rfl rfl)
theorem dX4_degree_180 : decode cX4_degree 180 = .ok (.iaload, 1) := dk_46 (dk_at dksX4_degree_7 16 rfl rfl)
theorem dX4_degree_181 : decode cX4_degree 181 = .ok (.goto 9, 3) := dk_167 0 9 (dk_at dksX4_degree_7 17 rfl rfl)
theorem dX4_degree_184 : decode cX4_degree 184 = .ok (.aload_n 0, 1) := dk_42 (dk_at dksX4_degree_7 20 rfl rfl)
theorem dX4_degree_185 : decode cX4_degree 185 = .ok (.getfield 43, 3) := dk_180 0 43 (dk_at dksX4_degree_7 21 rfl rfl)
theorem dX4_degree_188 : decode cX4_degree 188 = .ok (.iconst 0, 1) := dk_3 (dk_at dksX4_degree_8 0 rfl rfl)
theorem dX4_degree_189 : decode cX4_degree 189 = .ok (.iaload, 1) := dk_46 (dk_at dksX4_degree_8 1 rfl rfl)
theorem dX4_degree_190 : decode cX4_degree 190 = .ok (.istore 5, 2) := dk_54 5 (dk_at dksX4_degree_8 2 rfl rfl)
theorem dX4_degree_192 : decode cX4_degree 192 = .ok (.iload 4, 2) := dk_21 4 (dk_at dksX4_degree_8 4 rfl rfl)
theorem dX4_degree_194 : decode cX4_degree 194 = .ok (.ifCond .lt 8, 3) := dk_155 0 8 (dk_at dksX4_degree_8 6 rfl rfl)
theorem dX4_degree_197 : decode cX4_degree 197 = .ok (.iload 5, 2) := dk_21 5 (dk_at dksX4_degree_8 9 rfl rfl)
theorem dX4_degree_199 : decode cX4_degree 199 = .ok (.ifCond .ge 7, 3) := dk_156 0 7 (dk_at dksX4_degree_8 11 rfl rfl)
theorem dX4_degree_202 : decode cX4_degree 202 = .ok (.iconst 0, 1) := dk_3 (dk_at dksX4_degree_8 14 rfl rfl)
theorem dX4_degree_203 : decode cX4_degree 203 = .ok (.goto 17, 3) := dk_167 0 17 (dk_at dksX4_degree_8 15 rfl rfl)
theorem dX4_degree_206 : decode cX4_degree 206 = .ok (.iload 4, 2) := dk_21 4 (dk_at dksX4_degree_8 18 rfl rfl)
theorem dX4_degree_208 : decode cX4_degree 208 = .ok (.iload 5, 2) := dk_21 5 (dk_at dksX4_degree_8 20 rfl rfl)
theorem dX4_degree_210 : decode cX4_degree 210 = .ok (.if_icmp .le 8, 3) := dk_164 0 8 (dk_at dksX4_degree_9 0 rfl rfl)
theorem dX4_degree_213 : decode cX4_degree 213 = .ok (.iload 4, 2) := dk_21 4 (dk_at dksX4_degree_9 3 rfl rfl)
theorem dX4_degree_215 : decode cX4_degree 215 = .ok (.goto 5, 3) := dk_167 0 5 (dk_at dksX4_degree_9 5 rfl rfl)
theorem dX4_degree_218 : decode cX4_degree 218 = .ok (.iload 5, 2) := dk_21 5 (dk_at dksX4_degree_9 8 rfl rfl)
theorem dX4_degree_220 : decode cX4_degree 220 = .ok (.ireturn, 1) := dk_172 (dk_at dksX4_degree_9 10 rfl rfl)
abbrev cX4_constant : ByteArray := prog_16_method_36_code
def yX4_constant : MethodName := ⟨RX4, "constant", "([II)V"⟩
def dkwX4_constant_0 : List UInt8 := [42, 3, 27, 154, 0, 7, 2, 167, 0, 4, 3, 79, 42, 4, 27, 79, 177]
abbrev dktX4_constant_0 : List UInt8 := dkwX4_constant_0 ++ []
theorem dksX4_constant_0 : cX4_constant.data.toList.drop 0 = dktX4_constant_0 := by decide +kernel
theorem dX4_constant_0 : decode cX4_constant 0 = .ok (.aload_n 0, 1) := dk_42 (dk_at dksX4_constant_0 0 rfl rfl)
theorem dX4_constant_1 : decode cX4_constant 1 = .ok (.iconst 0, 1) := dk_3 (dk_at dksX4_constant_0 1 rfl rfl)
theorem dX4_constant_2 : decode cX4_constant 2 = .ok (.iload_n 1, 1) := dk_27 (dk_at dksX4_constant_0 2 rfl rfl)
theorem dX4_constant_3 : decode cX4_constant 3 = .ok (.ifCond .ne 7, 3) := dk_154 0 7 (dk_at dksX4_constant_0 3 rfl rfl)
theorem dX4_constant_6 : decode cX4_constant 6 = .ok (.iconst (-1), 1) := dk_2 (dk_at dksX4_constant_0 6 rfl rfl)
theorem dX4_constant_7 : decode cX4_constant 7 = .ok (.goto 4, 3) := dk_167 0 4 (dk_at dksX4_constant_0 7 rfl rfl)
theorem dX4_constant_10 : decode cX4_constant 10 = .ok (.iconst 0, 1) := dk_3 (dk_at dksX4_constant_0 10 rfl rfl)
theorem dX4_constant_11 : decode cX4_constant 11 = .ok (.iastore, 1) := dk_79 (dk_at dksX4_constant_0 11 rfl rfl)
theorem dX4_constant_12 : decode cX4_constant 12 = .ok (.aload_n 0, 1) := dk_42 (dk_at dksX4_constant_0 12 rfl rfl)
theorem dX4_constant_13 : decode cX4_constant 13 = .ok (.iconst 1, 1) := dk_4 (dk_at dksX4_constant_0 13 rfl rfl)
theorem dX4_constant_14 : decode cX4_constant 14 = .ok (.iload_n 1, 1) := dk_27 (dk_at dksX4_constant_0 14 rfl rfl)
theorem dX4_constant_15 : decode cX4_constant 15 = .ok (.iastore, 1) := dk_79 (dk_at dksX4_constant_0 15 rfl rfl)
theorem dX4_constant_16 : decode cX4_constant 16 = .ok (.return_, 1) := dk_177 (dk_at dksX4_constant_0 16 rfl rfl)
abbrev cX4_isSwapped : ByteArray := prog_16_method_44_code
def yX4_isSwapped : MethodName := ⟨RX4, "isSwapped", "(I[I[I[I[I)Z"⟩
def dkwX4_isSwapped_7 : List UInt8 := [4, 172]
abbrev dktX4_isSwapped_7 : List UInt8 := dkwX4_isSwapped_7 ++ []
def dkwX4_isSwapped_6 : List UInt8 := [3, 172, 44, 42, 180, 0, 69, 184, 0, 183, 45, 42, 180, 0, 72, 184, 0, 183, 42, 44, 45, 182, 0, 209]
abbrev dktX4_isSwapped_6 : List UInt8 := dkwX4_isSwapped_6 ++ dktX4_isSwapped_7
def dkwX4_isSwapped_5 : List UInt8 := [180, 0, 63, 184, 0, 197, 42, 180, 0, 69, 3, 46, 156, 0, 14, 42, 180, 0, 72, 3, 46, 156, 0, 5]
abbrev dktX4_isSwapped_5 : List UInt8 := dkwX4_isSwapped_5 ++ dktX4_isSwapped_6
def dkwX4_isSwapped_4 : List UInt8 := [42, 180, 0, 63, 42, 180, 0, 54, 45, 184, 0, 194, 42, 180, 0, 72, 4, 42, 180, 0, 60, 4, 42]
abbrev dktX4_isSwapped_4 : List UInt8 := dkwX4_isSwapped_4 ++ dktX4_isSwapped_5
def dkwX4_isSwapped_3 : List UInt8 := [180, 0, 60, 16, 30, 42, 180, 0, 63, 184, 0, 197, 42, 180, 0, 60, 42, 180, 0, 51, 44, 184, 0, 194]
abbrev dktX4_isSwapped_3 : List UInt8 := dkwX4_isSwapped_3 ++ dktX4_isSwapped_4
def dkwX4_isSwapped_2 : List UInt8 := [184, 0, 194, 42, 180, 0, 63, 42, 180, 0, 57, 45, 184, 0, 194, 42, 180, 0, 69, 16, 30, 42]
abbrev dktX4_isSwapped_2 : List UInt8 := dkwX4_isSwapped_2 ++ dktX4_isSwapped_3
def dkwX4_isSwapped_1 : List UInt8 := [5, 3, 182, 0, 205, 42, 42, 180, 0, 57, 4, 3, 182, 0, 205, 42, 180, 0, 60, 42, 180, 0, 54, 44]
abbrev dktX4_isSwapped_1 : List UInt8 := dkwX4_isSwapped_1 ++ dktX4_isSwapped_2
def dkwX4_isSwapped_0 : List UInt8 := [42, 27, 25, 4, 25, 5, 182, 0, 201, 42, 42, 180, 0, 51, 5, 4, 182, 0, 205, 42, 42, 180, 0, 54]
abbrev dktX4_isSwapped_0 : List UInt8 := dkwX4_isSwapped_0 ++ dktX4_isSwapped_1
theorem dksX4_isSwapped_0 : cX4_isSwapped.data.toList.drop 0 = dktX4_isSwapped_0 := by decide +kernel
theorem dksX4_isSwapped_1 : cX4_isSwapped.data.toList.drop 24 = dktX4_isSwapped_1 := dk_seg dksX4_isSwapped_0 24 rfl rfl
theorem dksX4_isSwapped_2 : cX4_isSwapped.data.toList.drop 48 = dktX4_isSwapped_2 := dk_seg dksX4_isSwapped_1 24 rfl rfl
theorem dksX4_isSwapped_3 : cX4_isSwapped.data.toList.drop 70 = dktX4_isSwapped_3 := dk_seg dksX4_isSwapped_2 22 rfl rfl
theorem dksX4_isSwapped_4 : cX4_isSwapped.data.toList.drop 94 = dktX4_isSwapped_4 := dk_seg dksX4_isSwapped_3 24 rfl rfl
theorem dksX4_isSwapped_5 : cX4_isSwapped.data.toList.drop 117 = dktX4_isSwapped_5 := dk_seg dksX4_isSwapped_4 23 rfl rfl
theorem dksX4_isSwapped_6 : cX4_isSwapped.data.toList.drop 141 = dktX4_isSwapped_6 := dk_seg dksX4_isSwapped_5 24 rfl rfl
theorem dksX4_isSwapped_7 : cX4_isSwapped.data.toList.drop 165 = dktX4_isSwapped_7 := dk_seg dksX4_isSwapped_6 24 rfl rfl
theorem dX4_isSwapped_0 : decode cX4_isSwapped 0 = .ok (.aload_n 0, 1) := dk_42 (dk_at dksX4_isSwapped_0 0 rfl rfl)
theorem dX4_isSwapped_1 : decode cX4_isSwapped 1 = .ok (.iload_n 1, 1) := dk_27 (dk_at dksX4_isSwapped_0 1 rfl rfl)
theorem dX4_isSwapped_2 : decode cX4_isSwapped 2 = .ok (.aload 4, 2) := dk_25 4 (dk_at dksX4_isSwapped_0 2 rfl rfl)
theorem dX4_isSwapped_4 : decode cX4_isSwapped 4 = .ok (.aload 5, 2) := dk_25 5 (dk_at dksX4_isSwapped_0 4 rfl rfl)
theorem dX4_isSwapped_6 : decode cX4_isSwapped 6 = .ok (.invokevirtual 201, 3) := dk_182 0 201 (dk_at dksX4_isSwapped_0 6 rfl rfl)
theorem dX4_isSwapped_9 : decode cX4_isSwapped 9 = .ok (.aload_n 0, 1) := dk_42 (dk_at dksX4_isSwapped_0 9 rfl rfl)
theorem dX4_isSwapped_10 : decode cX4_isSwapped 10 = .ok (.aload_n 0, 1) := dk_42 (dk_at dksX4_isSwapped_0 10 rfl rfl)
theorem dX4_isSwapped_11 : decode cX4_isSwapped 11 = .ok (.getfield 51, 3) := dk_180 0 51 (dk_at dksX4_isSwapped_0 11 rfl rfl)
theorem dX4_isSwapped_14 : decode cX4_isSwapped 14 = .ok (.iconst 2, 1) := dk_5 (dk_at dksX4_isSwapped_0 14 rfl rfl)
theorem dX4_isSwapped_15 : decode cX4_isSwapped 15 = .ok (.iconst 1, 1) := dk_4 (dk_at dksX4_isSwapped_0 15 rfl rfl)
theorem dX4_isSwapped_16 : decode cX4_isSwapped 16 = .ok (.invokevirtual 205, 3) := dk_182 0 205 (dk_at dksX4_isSwapped_0 16 rfl rfl)
theorem dX4_isSwapped_19 : decode cX4_isSwapped 19 = .ok (.aload_n 0, 1) := dk_42 (dk_at dksX4_isSwapped_0 19 rfl rfl)
theorem dX4_isSwapped_20 : decode cX4_isSwapped 20 = .ok (.aload_n 0, 1) := dk_42 (dk_at dksX4_isSwapped_0 20 rfl rfl)
theorem dX4_isSwapped_21 : decode cX4_isSwapped 21 = .ok (.getfield 54, 3) := dk_180 0 54 (dk_at dksX4_isSwapped_0 21 rfl rfl)
theorem dX4_isSwapped_24 : decode cX4_isSwapped 24 = .ok (.iconst 2, 1) := dk_5 (dk_at dksX4_isSwapped_1 0 rfl rfl)
theorem dX4_isSwapped_25 : decode cX4_isSwapped 25 = .ok (.iconst 0, 1) := dk_3 (dk_at dksX4_isSwapped_1 1 rfl rfl)
theorem dX4_isSwapped_26 : decode cX4_isSwapped 26 = .ok (.invokevirtual 205, 3) := dk_182 0 205 (dk_at dksX4_isSwapped_1 2 rfl rfl)
theorem dX4_isSwapped_29 : decode cX4_isSwapped 29 = .ok (.aload_n 0, 1) := dk_42 (dk_at dksX4_isSwapped_1 5 rfl rfl)
theorem dX4_isSwapped_30 : decode cX4_isSwapped 30 = .ok (.aload_n 0, 1) := dk_42 (dk_at dksX4_isSwapped_1 6 rfl rfl)
theorem dX4_isSwapped_31 : decode cX4_isSwapped 31 = .ok (.getfield 57, 3) := dk_180 0 57 (dk_at dksX4_isSwapped_1 7 rfl rfl)
theorem dX4_isSwapped_34 : decode cX4_isSwapped 34 = .ok (.iconst 1, 1) := dk_4 (dk_at dksX4_isSwapped_1 10 rfl rfl)
theorem dX4_isSwapped_35 : decode cX4_isSwapped 35 = .ok (.iconst 0, 1) := dk_3 (dk_at dksX4_isSwapped_1 11 rfl rfl)
theorem dX4_isSwapped_36 : decode cX4_isSwapped 36 = .ok (.invokevirtual 205, 3) := dk_182 0 205 (dk_at dksX4_isSwapped_1 12 rfl rfl)
theorem dX4_isSwapped_39 : decode cX4_isSwapped 39 = .ok (.aload_n 0, 1) := dk_42 (dk_at dksX4_isSwapped_1 15 rfl rfl)
theorem dX4_isSwapped_40 : decode cX4_isSwapped 40 = .ok (.getfield 60, 3) := dk_180 0 60 (dk_at dksX4_isSwapped_1 16 rfl rfl)
theorem dX4_isSwapped_43 : decode cX4_isSwapped 43 = .ok (.aload_n 0, 1) := dk_42 (dk_at dksX4_isSwapped_1 19 rfl rfl)
theorem dX4_isSwapped_44 : decode cX4_isSwapped 44 = .ok (.getfield 54, 3) := dk_180 0 54 (dk_at dksX4_isSwapped_1 20 rfl rfl)
theorem dX4_isSwapped_47 : decode cX4_isSwapped 47 = .ok (.aload_n 2, 1) := dk_44 (dk_at dksX4_isSwapped_1 23 rfl rfl)
theorem dX4_isSwapped_48 : decode cX4_isSwapped 48 = .ok (.invokestatic 194, 3) := dk_184 0 194 (dk_at dksX4_isSwapped_2 0 rfl rfl)
theorem dX4_isSwapped_51 : decode cX4_isSwapped 51 = .ok (.aload_n 0, 1) := dk_42 (dk_at dksX4_isSwapped_2 3 rfl rfl)
theorem dX4_isSwapped_52 : decode cX4_isSwapped 52 = .ok (.getfield 63, 3) := dk_180 0 63 (dk_at dksX4_isSwapped_2 4 rfl rfl)
theorem dX4_isSwapped_55 : decode cX4_isSwapped 55 = .ok (.aload_n 0, 1) := dk_42 (dk_at dksX4_isSwapped_2 7 rfl rfl)
theorem dX4_isSwapped_56 : decode cX4_isSwapped 56 = .ok (.getfield 57, 3) := dk_180 0 57 (dk_at dksX4_isSwapped_2 8 rfl rfl)
theorem dX4_isSwapped_59 : decode cX4_isSwapped 59 = .ok (.aload_n 3, 1) := dk_45 (dk_at dksX4_isSwapped_2 11 rfl rfl)
theorem dX4_isSwapped_60 : decode cX4_isSwapped 60 = .ok (.invokestatic 194, 3) := dk_184 0 194 (dk_at dksX4_isSwapped_2 12 rfl rfl)
theorem dX4_isSwapped_63 : decode cX4_isSwapped 63 = .ok (.aload_n 0, 1) := dk_42 (dk_at dksX4_isSwapped_2 15 rfl rfl)
theorem dX4_isSwapped_64 : decode cX4_isSwapped 64 = .ok (.getfield 69, 3) := dk_180 0 69 (dk_at dksX4_isSwapped_2 16 rfl rfl)
theorem dX4_isSwapped_67 : decode cX4_isSwapped 67 = .ok (.bipush 30, 2) := dk_16 30 (dk_at dksX4_isSwapped_2 19 rfl rfl)
theorem dX4_isSwapped_69 : decode cX4_isSwapped 69 = .ok (.aload_n 0, 1) := dk_42 (dk_at dksX4_isSwapped_2 21 rfl rfl)
theorem dX4_isSwapped_70 : decode cX4_isSwapped 70 = .ok (.getfield 60, 3) := dk_180 0 60 (dk_at dksX4_isSwapped_3 0 rfl rfl)
theorem dX4_isSwapped_73 : decode cX4_isSwapped 73 = .ok (.bipush 30, 2) := dk_16 30 (dk_at dksX4_isSwapped_3 3 rfl rfl)
theorem dX4_isSwapped_75 : decode cX4_isSwapped 75 = .ok (.aload_n 0, 1) := dk_42 (dk_at dksX4_isSwapped_3 5 rfl rfl)
theorem dX4_isSwapped_76 : decode cX4_isSwapped 76 = .ok (.getfield 63, 3) := dk_180 0 63 (dk_at dksX4_isSwapped_3 6 rfl rfl)
theorem dX4_isSwapped_79 : decode cX4_isSwapped 79 = .ok (.invokestatic 197, 3) := dk_184 0 197 (dk_at dksX4_isSwapped_3 9 rfl rfl)
theorem dX4_isSwapped_82 : decode cX4_isSwapped 82 = .ok (.aload_n 0, 1) := dk_42 (dk_at dksX4_isSwapped_3 12 rfl rfl)
theorem dX4_isSwapped_83 : decode cX4_isSwapped 83 = .ok (.getfield 60, 3) := dk_180 0 60 (dk_at dksX4_isSwapped_3 13 rfl rfl)
theorem dX4_isSwapped_86 : decode cX4_isSwapped 86 = .ok (.aload_n 0, 1) := dk_42 (dk_at dksX4_isSwapped_3 16 rfl rfl)
theorem dX4_isSwapped_87 : decode cX4_isSwapped 87 = .ok (.getfield 51, 3) := dk_180 0 51 (dk_at dksX4_isSwapped_3 17 rfl rfl)
theorem dX4_isSwapped_90 : decode cX4_isSwapped 90 = .ok (.aload_n 2, 1) := dk_44 (dk_at dksX4_isSwapped_3 20 rfl rfl)
theorem dX4_isSwapped_91 : decode cX4_isSwapped 91 = .ok (.invokestatic 194, 3) := dk_184 0 194 (dk_at dksX4_isSwapped_3 21 rfl rfl)
theorem dX4_isSwapped_94 : decode cX4_isSwapped 94 = .ok (.aload_n 0, 1) := dk_42 (dk_at dksX4_isSwapped_4 0 rfl rfl)
theorem dX4_isSwapped_95 : decode cX4_isSwapped 95 = .ok (.getfield 63, 3) := dk_180 0 63 (dk_at dksX4_isSwapped_4 1 rfl rfl)
theorem dX4_isSwapped_98 : decode cX4_isSwapped 98 = .ok (.aload_n 0, 1) := dk_42 (dk_at dksX4_isSwapped_4 4 rfl rfl)
theorem dX4_isSwapped_99 : decode cX4_isSwapped 99 = .ok (.getfield 54, 3) := dk_180 0 54 (dk_at dksX4_isSwapped_4 5 rfl rfl)
theorem dX4_isSwapped_102 : decode cX4_isSwapped 102 = .ok (.aload_n 3, 1) := dk_45 (dk_at dksX4_isSwapped_4 8 rfl rfl)
theorem dX4_isSwapped_103 : decode cX4_isSwapped 103 = .ok (.invokestatic 194, 3) := dk_184 0 194 (dk_at dksX4_isSwapped_4 9 rfl rfl)
theorem dX4_isSwapped_106 : decode cX4_isSwapped 106 = .ok (.aload_n 0, 1) := dk_42 (dk_at dksX4_isSwapped_4 12 rfl rfl)
theorem dX4_isSwapped_107 : decode cX4_isSwapped 107 = .ok (.getfield 72, 3) := dk_180 0 72 (dk_at dksX4_isSwapped_4 13 rfl rfl)
theorem dX4_isSwapped_110 : decode cX4_isSwapped 110 = .ok (.iconst 1, 1) := dk_4 (dk_at dksX4_isSwapped_4 16 rfl rfl)
theorem dX4_isSwapped_111 : decode cX4_isSwapped 111 = .ok (.aload_n 0, 1) := dk_42 (dk_at dksX4_isSwapped_4 17 rfl rfl)
theorem dX4_isSwapped_112 : decode cX4_isSwapped 112 = .ok (.getfield 60, 3) := dk_180 0 60 (dk_at dksX4_isSwapped_4 18 rfl rfl)
theorem dX4_isSwapped_115 : decode cX4_isSwapped 115 = .ok (.iconst 1, 1) := dk_4 (dk_at dksX4_isSwapped_4 21 rfl rfl)
theorem dX4_isSwapped_116 : decode cX4_isSwapped 116 = .ok (.aload_n 0, 1) := dk_42 (dk_at dksX4_isSwapped_4 22 rfl rfl)
theorem dX4_isSwapped_117 : decode cX4_isSwapped 117 = .ok (.getfield 63, 3) := dk_180 0 63 (dk_at dksX4_isSwapped_5 0 rfl rfl)
theorem dX4_isSwapped_120 : decode cX4_isSwapped 120 = .ok (.invokestatic 197, 3) := dk_184 0 197 (dk_at dksX4_isSwapped_5 3 rfl rfl)
theorem dX4_isSwapped_123 : decode cX4_isSwapped 123 = .ok (.aload_n 0, 1) := dk_42 (dk_at dksX4_isSwapped_5 6 rfl rfl)
theorem dX4_isSwapped_124 : decode cX4_isSwapped 124 = .ok (.getfield 69, 3) := dk_180 0 69 (dk_at dksX4_isSwapped_5 7 rfl rfl)
theorem dX4_isSwapped_127 : decode cX4_isSwapped 127 = .ok (.iconst 0, 1) := dk_3 (dk_at dksX4_isSwapped_5 10 rfl rfl)
theorem dX4_isSwapped_128 : decode cX4_isSwapped 128 = .ok (.iaload, 1) := dk_46 (dk_at dksX4_isSwapped_5 11 rfl rfl)
theorem dX4_isSwapped_129 : decode cX4_isSwapped 129 = .ok (.ifCond .ge 14, 3) := dk_156 0 14 (dk_at dksX4_isSwapped_5 12 rfl rfl)
theorem dX4_isSwapped_132 : decode cX4_isSwapped 132 = .ok (.aload_n 0, 1) := dk_42 (dk_at dksX4_isSwapped_5 15 rfl rfl)
theorem dX4_isSwapped_133 : decode cX4_isSwapped 133 = .ok (.getfield 72, 3) := dk_180 0 72 (dk_at dksX4_isSwapped_5 16 rfl rfl)
theorem dX4_isSwapped_136 : decode cX4_isSwapped 136 = .ok (.iconst 0, 1) := dk_3 (dk_at dksX4_isSwapped_5 19 rfl rfl)
theorem dX4_isSwapped_137 : decode cX4_isSwapped 137 = .ok (.iaload, 1) := dk_46 (dk_at dksX4_isSwapped_5 20 rfl rfl)
theorem dX4_isSwapped_138 : decode cX4_isSwapped 138 = .ok (.ifCond .ge 5, 3) := dk_156 0 5 (dk_at dksX4_isSwapped_5 21 rfl rfl)
theorem dX4_isSwapped_141 : decode cX4_isSwapped 141 = .ok (.iconst 0, 1) := dk_3 (dk_at dksX4_isSwapped_6 0 rfl rfl)
theorem dX4_isSwapped_142 : decode cX4_isSwapped 142 = .ok (.ireturn, 1) := dk_172 (dk_at dksX4_isSwapped_6 1 rfl rfl)
theorem dX4_isSwapped_143 : decode cX4_isSwapped 143 = .ok (.aload_n 2, 1) := dk_44 (dk_at dksX4_isSwapped_6 2 rfl rfl)
theorem dX4_isSwapped_144 : decode cX4_isSwapped 144 = .ok (.aload_n 0, 1) := dk_42 (dk_at dksX4_isSwapped_6 3 rfl rfl)
theorem dX4_isSwapped_145 : decode cX4_isSwapped 145 = .ok (.getfield 69, 3) := dk_180 0 69 (dk_at dksX4_isSwapped_6 4 rfl rfl)
theorem dX4_isSwapped_148 : decode cX4_isSwapped 148 = .ok (.invokestatic 183, 3) := dk_184 0 183 (dk_at dksX4_isSwapped_6 7 rfl rfl)
theorem dX4_isSwapped_151 : decode cX4_isSwapped 151 = .ok (.aload_n 3, 1) := dk_45 (dk_at dksX4_isSwapped_6 10 rfl rfl)
theorem dX4_isSwapped_152 : decode cX4_isSwapped 152 = .ok (.aload_n 0, 1) := dk_42 (dk_at dksX4_isSwapped_6 11 rfl rfl)
theorem dX4_isSwapped_153 : decode cX4_isSwapped 153 = .ok (.getfield 72, 3) := dk_180 0 72 (dk_at dksX4_isSwapped_6 12 rfl rfl)
theorem dX4_isSwapped_156 : decode cX4_isSwapped 156 = .ok (.invokestatic 183, 3) := dk_184 0 183 (dk_at dksX4_isSwapped_6 15 rfl rfl)
theorem dX4_isSwapped_159 : decode cX4_isSwapped 159 = .ok (.aload_n 0, 1) := dk_42 (dk_at dksX4_isSwapped_6 18 rfl rfl)
theorem dX4_isSwapped_160 : decode cX4_isSwapped 160 = .ok (.aload_n 2, 1) := dk_44 (dk_at dksX4_isSwapped_6 19 rfl rfl)
theorem dX4_isSwapped_161 : decode cX4_isSwapped 161 = .ok (.aload_n 3, 1) := dk_45 (dk_at dksX4_isSwapped_6 20 rfl rfl)
theorem dX4_isSwapped_162 : decode cX4_isSwapped 162 = .ok (.invokevirtual 209, 3) := dk_182 0 209 (dk_at dksX4_isSwapped_6 21 rfl rfl)
theorem dX4_isSwapped_165 : decode cX4_isSwapped 165 = .ok (.iconst 1, 1) := dk_4 (dk_at dksX4_isSwapped_7 0 rfl rfl)
theorem dX4_isSwapped_166 : decode cX4_isSwapped 166 = .ok (.ireturn, 1) := dk_172 (dk_at dksX4_isSwapped_7 1 rfl rfl)
abbrev cX4_rowsAt : ByteArray := prog_16_method_42_code
def yX4_rowsAt : MethodName := ⟨RX4, "rowsAt", "(I[I[I)V"⟩
def dkwX4_rowsAt_6 : List UInt8 := [167, 255, 157, 132, 5, 1, 167, 255, 122, 132, 4, 1, 167, 255, 107, 177]
abbrev dktX4_rowsAt_6 : List UInt8 := dkwX4_rowsAt_6 ++ []
def dkwX4_rowsAt_5 : List UInt8 := [46, 54, 8, 25, 6, 4, 42, 180, 0, 60, 21, 8, 42, 180, 0, 63, 184, 0, 197, 132, 7, 1]
abbrev dktX4_rowsAt_5 : List UInt8 := dkwX4_rowsAt_5 ++ dktX4_rowsAt_6
def dkwX4_rowsAt_4 : List UInt8 := [21, 5, 21, 7, 184, 0, 115, 46, 167, 0, 17, 42, 180, 0, 11, 21, 4, 21, 7, 21, 5, 184, 0, 115]
abbrev dktX4_rowsAt_4 : List UInt8 := dkwX4_rowsAt_4 ++ dktX4_rowsAt_5
def dkwX4_rowsAt_3 : List UInt8 := [45, 184, 0, 194, 42, 180, 0, 60, 25, 6, 184, 0, 183, 27, 154, 0, 20, 42, 180, 0, 11, 21, 4]
abbrev dktX4_rowsAt_3 : List UInt8 := dkwX4_rowsAt_3 ++ dktX4_rowsAt_4
def dkwX4_rowsAt_2 : List UInt8 := [42, 180, 0, 63, 21, 7, 154, 0, 7, 45, 167, 0, 4, 44, 21, 7, 5, 160, 0, 7, 44, 167, 0, 4]
abbrev dktX4_rowsAt_2 : List UInt8 := dkwX4_rowsAt_2 ++ dktX4_rowsAt_3
def dkwX4_rowsAt_1 : List UInt8 := [21, 4, 104, 21, 5, 96, 50, 58, 6, 25, 6, 3, 184, 0, 191, 3, 54, 7, 21, 7, 6, 162, 0, 99]
abbrev dktX4_rowsAt_1 : List UInt8 := dkwX4_rowsAt_1 ++ dktX4_rowsAt_2
def dkwX4_rowsAt_0 : List UInt8 := [3, 54, 4, 21, 4, 5, 162, 0, 149, 3, 54, 5, 21, 5, 6, 162, 0, 134, 42, 180, 0, 48, 6]
abbrev dktX4_rowsAt_0 : List UInt8 := dkwX4_rowsAt_0 ++ dktX4_rowsAt_1
theorem dksX4_rowsAt_0 : cX4_rowsAt.data.toList.drop 0 = dktX4_rowsAt_0 := by decide +kernel
theorem dksX4_rowsAt_1 : cX4_rowsAt.data.toList.drop 23 = dktX4_rowsAt_1 := dk_seg dksX4_rowsAt_0 23 rfl rfl
theorem dksX4_rowsAt_2 : cX4_rowsAt.data.toList.drop 47 = dktX4_rowsAt_2 := dk_seg dksX4_rowsAt_1 24 rfl rfl
theorem dksX4_rowsAt_3 : cX4_rowsAt.data.toList.drop 71 = dktX4_rowsAt_3 := dk_seg dksX4_rowsAt_2 24 rfl rfl
theorem dksX4_rowsAt_4 : cX4_rowsAt.data.toList.drop 94 = dktX4_rowsAt_4 := dk_seg dksX4_rowsAt_3 23 rfl rfl
theorem dksX4_rowsAt_5 : cX4_rowsAt.data.toList.drop 118 = dktX4_rowsAt_5 := dk_seg dksX4_rowsAt_4 24 rfl rfl
theorem dksX4_rowsAt_6 : cX4_rowsAt.data.toList.drop 140 = dktX4_rowsAt_6 := dk_seg dksX4_rowsAt_5 22 rfl rfl
theorem dX4_rowsAt_0 : decode cX4_rowsAt 0 = .ok (.iconst 0, 1) := dk_3 (dk_at dksX4_rowsAt_0 0 rfl rfl)
theorem dX4_rowsAt_1 : decode cX4_rowsAt 1 = .ok (.istore 4, 2) := dk_54 4 (dk_at dksX4_rowsAt_0 1 rfl rfl)
theorem dX4_rowsAt_3 : decode cX4_rowsAt 3 = .ok (.iload 4, 2) := dk_21 4 (dk_at dksX4_rowsAt_0 3 rfl rfl)
theorem dX4_rowsAt_5 : decode cX4_rowsAt 5 = .ok (.iconst 2, 1) := dk_5 (dk_at dksX4_rowsAt_0 5 rfl rfl)
theorem dX4_rowsAt_6 : decode cX4_rowsAt 6 = .ok (.if_icmp .ge 149, 3) := dk_162 0 149 (dk_at dksX4_rowsAt_0 6 rfl rfl)
theorem dX4_rowsAt_9 : decode cX4_rowsAt 9 = .ok (.iconst 0, 1) := dk_3 (dk_at dksX4_rowsAt_0 9 rfl rfl)
theorem dX4_rowsAt_10 : decode cX4_rowsAt 10 = .ok (.istore 5, 2) := dk_54 5 (dk_at dksX4_rowsAt_0 10 rfl rfl)
theorem dX4_rowsAt_12 : decode cX4_rowsAt 12 = .ok (.iload 5, 2) := dk_21 5 (dk_at dksX4_rowsAt_0 12 rfl rfl)
theorem dX4_rowsAt_14 : decode cX4_rowsAt 14 = .ok (.iconst 3, 1) := dk_6 (dk_at dksX4_rowsAt_0 14 rfl rfl)
theorem dX4_rowsAt_15 : decode cX4_rowsAt 15 = .ok (.if_icmp .ge 134, 3) := dk_162 0 134 (dk_at dksX4_rowsAt_0 15 rfl rfl)
theorem dX4_rowsAt_18 : decode cX4_rowsAt 18 = .ok (.aload_n 0, 1) := dk_42 (dk_at dksX4_rowsAt_0 18 rfl rfl)
theorem dX4_rowsAt_19 : decode cX4_rowsAt 19 = .ok (.getfield 48, 3) := dk_180 0 48 (dk_at dksX4_rowsAt_0 19 rfl rfl)
theorem dX4_rowsAt_22 : decode cX4_rowsAt 22 = .ok (.iconst 3, 1) := dk_6 (dk_at dksX4_rowsAt_0 22 rfl rfl)
theorem dX4_rowsAt_23 : decode cX4_rowsAt 23 = .ok (.iload 4, 2) := dk_21 4 (dk_at dksX4_rowsAt_1 0 rfl rfl)
theorem dX4_rowsAt_25 : decode cX4_rowsAt 25 = .ok (.imul, 1) := dk_104 (dk_at dksX4_rowsAt_1 2 rfl rfl)
theorem dX4_rowsAt_26 : decode cX4_rowsAt 26 = .ok (.iload 5, 2) := dk_21 5 (dk_at dksX4_rowsAt_1 3 rfl rfl)
theorem dX4_rowsAt_28 : decode cX4_rowsAt 28 = .ok (.iadd, 1) := dk_96 (dk_at dksX4_rowsAt_1 5 rfl rfl)
theorem dX4_rowsAt_29 : decode cX4_rowsAt 29 = .ok (.aaload, 1) := dk_50 (dk_at dksX4_rowsAt_1 6 rfl rfl)
theorem dX4_rowsAt_30 : decode cX4_rowsAt 30 = .ok (.astore 6, 2) := dk_58 6 (dk_at dksX4_rowsAt_1 7 rfl rfl)
theorem dX4_rowsAt_32 : decode cX4_rowsAt 32 = .ok (.aload 6, 2) := dk_25 6 (dk_at dksX4_rowsAt_1 9 rfl rfl)
theorem dX4_rowsAt_34 : decode cX4_rowsAt 34 = .ok (.iconst 0, 1) := dk_3 (dk_at dksX4_rowsAt_1 11 rfl rfl)
theorem dX4_rowsAt_35 : decode cX4_rowsAt 35 = .ok (.invokestatic 191, 3) := dk_184 0 191 (dk_at dksX4_rowsAt_1 12 rfl rfl)
theorem dX4_rowsAt_38 : decode cX4_rowsAt 38 = .ok (.iconst 0, 1) := dk_3 (dk_at dksX4_rowsAt_1 15 rfl rfl)
theorem dX4_rowsAt_39 : decode cX4_rowsAt 39 = .ok (.istore 7, 2) := dk_54 7 (dk_at dksX4_rowsAt_1 16 rfl rfl)
theorem dX4_rowsAt_41 : decode cX4_rowsAt 41 = .ok (.iload 7, 2) := dk_21 7 (dk_at dksX4_rowsAt_1 18 rfl rfl)
theorem dX4_rowsAt_43 : decode cX4_rowsAt 43 = .ok (.iconst 3, 1) := dk_6 (dk_at dksX4_rowsAt_1 20 rfl rfl)
theorem dX4_rowsAt_44 : decode cX4_rowsAt 44 = .ok (.if_icmp .ge 99, 3) := dk_162 0 99 (dk_at dksX4_rowsAt_1 21 rfl rfl)
theorem dX4_rowsAt_47 : decode cX4_rowsAt 47 = .ok (.aload_n 0, 1) := dk_42 (dk_at dksX4_rowsAt_2 0 rfl rfl)
theorem dX4_rowsAt_48 : decode cX4_rowsAt 48 = .ok (.getfield 63, 3) := dk_180 0 63 (dk_at dksX4_rowsAt_2 1 rfl rfl)
theorem dX4_rowsAt_51 : decode cX4_rowsAt 51 = .ok (.iload 7, 2) := dk_21 7 (dk_at dksX4_rowsAt_2 4 rfl rfl)
theorem dX4_rowsAt_53 : decode cX4_rowsAt 53 = .ok (.ifCond .ne 7, 3) := dk_154 0 7 (dk_at dksX4_rowsAt_2 6 rfl rfl)
theorem dX4_rowsAt_56 : decode cX4_rowsAt 56 = .ok (.aload_n 3, 1) := dk_45 (dk_at dksX4_rowsAt_2 9 rfl rfl)
theorem dX4_rowsAt_57 : decode cX4_rowsAt 57 = .ok (.goto 4, 3) := dk_167 0 4 (dk_at dksX4_rowsAt_2 10 rfl rfl)
theorem dX4_rowsAt_60 : decode cX4_rowsAt 60 = .ok (.aload_n 2, 1) := dk_44 (dk_at dksX4_rowsAt_2 13 rfl rfl)
theorem dX4_rowsAt_61 : decode cX4_rowsAt 61 = .ok (.iload 7, 2) := dk_21 7 (dk_at dksX4_rowsAt_2 14 rfl rfl)
theorem dX4_rowsAt_63 : decode cX4_rowsAt 63 = .ok (.iconst 2, 1) := dk_5 (dk_at dksX4_rowsAt_2 16 rfl rfl)
theorem dX4_rowsAt_64 : decode cX4_rowsAt 64 = .ok (.if_icmp .ne 7, 3) := dk_160 0 7 (dk_at dksX4_rowsAt_2 17 rfl rfl)
theorem dX4_rowsAt_67 : decode cX4_rowsAt 67 = .ok (.aload_n 2, 1) := dk_44 (dk_at dksX4_rowsAt_2 20 rfl rfl)
theorem dX4_rowsAt_68 : decode cX4_rowsAt 68 = .ok (.goto 4, 3) := dk_167 0 4 (dk_at dksX4_rowsAt_2 21 rfl rfl)
theorem dX4_rowsAt_71 : decode cX4_rowsAt 71 = .ok (.aload_n 3, 1) := dk_45 (dk_at dksX4_rowsAt_3 0 rfl rfl)
theorem dX4_rowsAt_72 : decode cX4_rowsAt 72 = .ok (.invokestatic 194, 3) := dk_184 0 194 (dk_at dksX4_rowsAt_3 1 rfl rfl)
theorem dX4_rowsAt_75 : decode cX4_rowsAt 75 = .ok (.aload_n 0, 1) := dk_42 (dk_at dksX4_rowsAt_3 4 rfl rfl)
theorem dX4_rowsAt_76 : decode cX4_rowsAt 76 = .ok (.getfield 60, 3) := dk_180 0 60 (dk_at dksX4_rowsAt_3 5 rfl rfl)
theorem dX4_rowsAt_79 : decode cX4_rowsAt 79 = .ok (.aload 6, 2) := dk_25 6 (dk_at dksX4_rowsAt_3 8 rfl rfl)
theorem dX4_rowsAt_81 : decode cX4_rowsAt 81 = .ok (.invokestatic 183, 3) := dk_184 0 183 (dk_at dksX4_rowsAt_3 10 rfl rfl)
theorem dX4_rowsAt_84 : decode cX4_rowsAt 84 = .ok (.iload_n 1, 1) := dk_27 (dk_at dksX4_rowsAt_3 13 rfl rfl)
theorem dX4_rowsAt_85 : decode cX4_rowsAt 85 = .ok (.ifCond .ne 20, 3) := dk_154 0 20 (dk_at dksX4_rowsAt_3 14 rfl rfl)
theorem dX4_rowsAt_88 : decode cX4_rowsAt 88 = .ok (.aload_n 0, 1) := dk_42 (dk_at dksX4_rowsAt_3 17 rfl rfl)
theorem dX4_rowsAt_89 : decode cX4_rowsAt 89 = .ok (.getfield 11, 3) := dk_180 0 11 (dk_at dksX4_rowsAt_3 18 rfl rfl)
theorem dX4_rowsAt_92 : decode cX4_rowsAt 92 = .ok (.iload 4, 2) := dk_21 4 (dk_at dksX4_rowsAt_3 21 rfl rfl)
theorem dX4_rowsAt_94 : decode cX4_rowsAt 94 = .ok (.iload 5, 2) := dk_21 5 (dk_at dksX4_rowsAt_4 0 rfl rfl)
theorem dX4_rowsAt_96 : decode cX4_rowsAt 96 = .ok (.iload 7, 2) := dk_21 7 (dk_at dksX4_rowsAt_4 2 rfl rfl)
theorem dX4_rowsAt_98 : decode cX4_rowsAt 98 = .ok (.invokestatic 115, 3) := dk_184 0 115 (dk_at dksX4_rowsAt_4 4 rfl rfl)
theorem dX4_rowsAt_101 : decode cX4_rowsAt 101 = .ok (.iaload, 1) := dk_46 (dk_at dksX4_rowsAt_4 7 rfl rfl)
theorem dX4_rowsAt_102 : decode cX4_rowsAt 102 = .ok (.goto 17, 3) := dk_167 0 17 (dk_at dksX4_rowsAt_4 8 rfl rfl)
theorem dX4_rowsAt_105 : decode cX4_rowsAt 105 = .ok (.aload_n 0, 1) := dk_42 (dk_at dksX4_rowsAt_4 11 rfl rfl)
theorem dX4_rowsAt_106 : decode cX4_rowsAt 106 = .ok (.getfield 11, 3) := dk_180 0 11 (dk_at dksX4_rowsAt_4 12 rfl rfl)
theorem dX4_rowsAt_109 : decode cX4_rowsAt 109 = .ok (.iload 4, 2) := dk_21 4 (dk_at dksX4_rowsAt_4 15 rfl rfl)
theorem dX4_rowsAt_111 : decode cX4_rowsAt 111 = .ok (.iload 7, 2) := dk_21 7 (dk_at dksX4_rowsAt_4 17 rfl rfl)
theorem dX4_rowsAt_113 : decode cX4_rowsAt 113 = .ok (.iload 5, 2) := dk_21 5 (dk_at dksX4_rowsAt_4 19 rfl rfl)
theorem dX4_rowsAt_115 : decode cX4_rowsAt 115 = .ok (.invokestatic 115, 3) := dk_184 0 115 (dk_at dksX4_rowsAt_4 21 rfl rfl)
theorem dX4_rowsAt_118 : decode cX4_rowsAt 118 = .ok (.iaload, 1) := dk_46 (dk_at dksX4_rowsAt_5 0 rfl rfl)
theorem dX4_rowsAt_119 : decode cX4_rowsAt 119 = .ok (.istore 8, 2) := dk_54 8 (dk_at dksX4_rowsAt_5 1 rfl rfl)
theorem dX4_rowsAt_121 : decode cX4_rowsAt 121 = .ok (.aload 6, 2) := dk_25 6 (dk_at dksX4_rowsAt_5 3 rfl rfl)
theorem dX4_rowsAt_123 : decode cX4_rowsAt 123 = .ok (.iconst 1, 1) := dk_4 (dk_at dksX4_rowsAt_5 5 rfl rfl)
theorem dX4_rowsAt_124 : decode cX4_rowsAt 124 = .ok (.aload_n 0, 1) := dk_42 (dk_at dksX4_rowsAt_5 6 rfl rfl)
theorem dX4_rowsAt_125 : decode cX4_rowsAt 125 = .ok (.getfield 60, 3) := dk_180 0 60 (dk_at dksX4_rowsAt_5 7 rfl rfl)
theorem dX4_rowsAt_128 : decode cX4_rowsAt 128 = .ok (.iload 8, 2) := dk_21 8 (dk_at dksX4_rowsAt_5 10 rfl rfl)
theorem dX4_rowsAt_130 : decode cX4_rowsAt 130 = .ok (.aload_n 0, 1) := dk_42 (dk_at dksX4_rowsAt_5 12 rfl rfl)
theorem dX4_rowsAt_131 : decode cX4_rowsAt 131 = .ok (.getfield 63, 3) := dk_180 0 63 (dk_at dksX4_rowsAt_5 13 rfl rfl)
theorem dX4_rowsAt_134 : decode cX4_rowsAt 134 = .ok (.invokestatic 197, 3) := dk_184 0 197 (dk_at dksX4_rowsAt_5 16 rfl rfl)
theorem dX4_rowsAt_137 : decode cX4_rowsAt 137 = .ok (.iinc 7 1, 3) := dk_132 7 1 (dk_at dksX4_rowsAt_5 19 rfl rfl)
theorem dX4_rowsAt_140 : decode cX4_rowsAt 140 = .ok (.goto (-99), 3) := dk_167 255 157 (dk_at dksX4_rowsAt_6 0 rfl rfl)
theorem dX4_rowsAt_143 : decode cX4_rowsAt 143 = .ok (.iinc 5 1, 3) := dk_132 5 1 (dk_at dksX4_rowsAt_6 3 rfl rfl)
theorem dX4_rowsAt_146 : decode cX4_rowsAt 146 = .ok (.goto (-134), 3) := dk_167 255 122 (dk_at dksX4_rowsAt_6 6 rfl rfl)
theorem dX4_rowsAt_149 : decode cX4_rowsAt 149 = .ok (.iinc 4 1, 3) := dk_132 4 1 (dk_at dksX4_rowsAt_6 9 rfl rfl)
theorem dX4_rowsAt_152 : decode cX4_rowsAt 152 = .ok (.goto (-149), 3) := dk_167 255 107 (dk_at dksX4_rowsAt_6 12 rfl rfl)
theorem dX4_rowsAt_155 : decode cX4_rowsAt 155 = .ok (.return_, 1) := dk_177 (dk_at dksX4_rowsAt_6 15 rfl rfl)
abbrev cX4_times : ByteArray := prog_16_method_39_code
def yX4_times : MethodName := ⟨RX4, "times", "([I[I[I)V"⟩
def dkwX4_times_5 : List UInt8 := [184, 0, 179, 177]
abbrev dktX4_times_5 : List UInt8 := dkwX4_times_5 ++ []
def dkwX4_times_4 : List UInt8 := [96, 46, 104, 96, 16, 31, 112, 79, 132, 5, 1, 167, 255, 210, 132, 4, 1, 167, 255, 193, 42, 29]
abbrev dktX4_times_4 : List UInt8 := dkwX4_times_4 ++ dktX4_times_5
def dkwX4_times_3 : List UInt8 := [21, 5, 96, 4, 96, 42, 21, 4, 21, 5, 96, 4, 96, 46, 43, 21, 4, 4, 96, 46, 44, 21, 5, 4]
abbrev dktX4_times_3 : List UInt8 := dkwX4_times_3 ++ dktX4_times_4
def dkwX4_times_2 : List UInt8 := [54, 4, 21, 4, 43, 3, 46, 163, 0, 61, 3, 54, 5, 21, 5, 44, 3, 46, 163, 0, 44, 42, 21, 4]
abbrev dktX4_times_2 : List UInt8 := dkwX4_times_2 ++ dktX4_times_3
def dkwX4_times_1 : List UInt8 := [3, 54, 4, 21, 4, 29, 163, 0, 16, 42, 21, 4, 4, 96, 3, 79, 132, 4, 1, 167, 255, 240, 3]
abbrev dktX4_times_1 : List UInt8 := dkwX4_times_1 ++ dktX4_times_2
def dkwX4_times_0 : List UInt8 := [43, 3, 46, 155, 0, 9, 44, 3, 46, 156, 0, 7, 2, 167, 0, 10, 43, 3, 46, 44, 3, 46, 96, 62]
abbrev dktX4_times_0 : List UInt8 := dkwX4_times_0 ++ dktX4_times_1
theorem dksX4_times_0 : cX4_times.data.toList.drop 0 = dktX4_times_0 := by decide +kernel
theorem dksX4_times_1 : cX4_times.data.toList.drop 24 = dktX4_times_1 := dk_seg dksX4_times_0 24 rfl rfl
theorem dksX4_times_2 : cX4_times.data.toList.drop 47 = dktX4_times_2 := dk_seg dksX4_times_1 23 rfl rfl
theorem dksX4_times_3 : cX4_times.data.toList.drop 71 = dktX4_times_3 := dk_seg dksX4_times_2 24 rfl rfl
theorem dksX4_times_4 : cX4_times.data.toList.drop 95 = dktX4_times_4 := dk_seg dksX4_times_3 24 rfl rfl
theorem dksX4_times_5 : cX4_times.data.toList.drop 117 = dktX4_times_5 := dk_seg dksX4_times_4 22 rfl rfl
theorem dX4_times_0 : decode cX4_times 0 = .ok (.aload_n 1, 1) := dk_43 (dk_at dksX4_times_0 0 rfl rfl)
theorem dX4_times_1 : decode cX4_times 1 = .ok (.iconst 0, 1) := dk_3 (dk_at dksX4_times_0 1 rfl rfl)
theorem dX4_times_2 : decode cX4_times 2 = .ok (.iaload, 1) := dk_46 (dk_at dksX4_times_0 2 rfl rfl)
theorem dX4_times_3 : decode cX4_times 3 = .ok (.ifCond .lt 9, 3) := dk_155 0 9 (dk_at dksX4_times_0 3 rfl rfl)
theorem dX4_times_6 : decode cX4_times 6 = .ok (.aload_n 2, 1) := dk_44 (dk_at dksX4_times_0 6 rfl rfl)
theorem dX4_times_7 : decode cX4_times 7 = .ok (.iconst 0, 1) := dk_3 (dk_at dksX4_times_0 7 rfl rfl)
theorem dX4_times_8 : decode cX4_times 8 = .ok (.iaload, 1) := dk_46 (dk_at dksX4_times_0 8 rfl rfl)
theorem dX4_times_9 : decode cX4_times 9 = .ok (.ifCond .ge 7, 3) := dk_156 0 7 (dk_at dksX4_times_0 9 rfl rfl)
theorem dX4_times_12 : decode cX4_times 12 = .ok (.iconst (-1), 1) := dk_2 (dk_at dksX4_times_0 12 rfl rfl)
theorem dX4_times_13 : decode cX4_times 13 = .ok (.goto 10, 3) := dk_167 0 10 (dk_at dksX4_times_0 13 rfl rfl)
theorem dX4_times_16 : decode cX4_times 16 = .ok (.aload_n 1, 1) := dk_43 (dk_at dksX4_times_0 16 rfl rfl)
theorem dX4_times_17 : decode cX4_times 17 = .ok (.iconst 0, 1) := dk_3 (dk_at dksX4_times_0 17 rfl rfl)
theorem dX4_times_18 : decode cX4_times 18 = .ok (.iaload, 1) := dk_46 (dk_at dksX4_times_0 18 rfl rfl)
theorem dX4_times_19 : decode cX4_times 19 = .ok (.aload_n 2, 1) := dk_44 (dk_at dksX4_times_0 19 rfl rfl)
theorem dX4_times_20 : decode cX4_times 20 = .ok (.iconst 0, 1) := dk_3 (dk_at dksX4_times_0 20 rfl rfl)
theorem dX4_times_21 : decode cX4_times 21 = .ok (.iaload, 1) := dk_46 (dk_at dksX4_times_0 21 rfl rfl)
theorem dX4_times_22 : decode cX4_times 22 = .ok (.iadd, 1) := dk_96 (dk_at dksX4_times_0 22 rfl rfl)
theorem dX4_times_23 : decode cX4_times 23 = .ok (.istore_n 3, 1) := dk_62 (dk_at dksX4_times_0 23 rfl rfl)
theorem dX4_times_24 : decode cX4_times 24 = .ok (.iconst 0, 1) := dk_3 (dk_at dksX4_times_1 0 rfl rfl)
theorem dX4_times_25 : decode cX4_times 25 = .ok (.istore 4, 2) := dk_54 4 (dk_at dksX4_times_1 1 rfl rfl)
theorem dX4_times_27 : decode cX4_times 27 = .ok (.iload 4, 2) := dk_21 4 (dk_at dksX4_times_1 3 rfl rfl)
theorem dX4_times_29 : decode cX4_times 29 = .ok (.iload_n 3, 1) := dk_29 (dk_at dksX4_times_1 5 rfl rfl)
theorem dX4_times_30 : decode cX4_times 30 = .ok (.if_icmp .gt 16, 3) := dk_163 0 16 (dk_at dksX4_times_1 6 rfl rfl)
theorem dX4_times_33 : decode cX4_times 33 = .ok (.aload_n 0, 1) := dk_42 (dk_at dksX4_times_1 9 rfl rfl)
theorem dX4_times_34 : decode cX4_times 34 = .ok (.iload 4, 2) := dk_21 4 (dk_at dksX4_times_1 10 rfl rfl)
theorem dX4_times_36 : decode cX4_times 36 = .ok (.iconst 1, 1) := dk_4 (dk_at dksX4_times_1 12 rfl rfl)
theorem dX4_times_37 : decode cX4_times 37 = .ok (.iadd, 1) := dk_96 (dk_at dksX4_times_1 13 rfl rfl)
theorem dX4_times_38 : decode cX4_times 38 = .ok (.iconst 0, 1) := dk_3 (dk_at dksX4_times_1 14 rfl rfl)
theorem dX4_times_39 : decode cX4_times 39 = .ok (.iastore, 1) := dk_79 (dk_at dksX4_times_1 15 rfl rfl)
theorem dX4_times_40 : decode cX4_times 40 = .ok (.iinc 4 1, 3) := dk_132 4 1 (dk_at dksX4_times_1 16 rfl rfl)
theorem dX4_times_43 : decode cX4_times 43 = .ok (.goto (-16), 3) := dk_167 255 240 (dk_at dksX4_times_1 19 rfl rfl)
theorem dX4_times_46 : decode cX4_times 46 = .ok (.iconst 0, 1) := dk_3 (dk_at dksX4_times_1 22 rfl rfl)
theorem dX4_times_47 : decode cX4_times 47 = .ok (.istore 4, 2) := dk_54 4 (dk_at dksX4_times_2 0 rfl rfl)
theorem dX4_times_49 : decode cX4_times 49 = .ok (.iload 4, 2) := dk_21 4 (dk_at dksX4_times_2 2 rfl rfl)
theorem dX4_times_51 : decode cX4_times 51 = .ok (.aload_n 1, 1) := dk_43 (dk_at dksX4_times_2 4 rfl rfl)
theorem dX4_times_52 : decode cX4_times 52 = .ok (.iconst 0, 1) := dk_3 (dk_at dksX4_times_2 5 rfl rfl)
theorem dX4_times_53 : decode cX4_times 53 = .ok (.iaload, 1) := dk_46 (dk_at dksX4_times_2 6 rfl rfl)
theorem dX4_times_54 : decode cX4_times 54 = .ok (.if_icmp .gt 61, 3) := dk_163 0 61 (dk_at dksX4_times_2 7 rfl rfl)
theorem dX4_times_57 : decode cX4_times 57 = .ok (.iconst 0, 1) := dk_3 (dk_at dksX4_times_2 10 rfl rfl)
theorem dX4_times_58 : decode cX4_times 58 = .ok (.istore 5, 2) := dk_54 5 (dk_at dksX4_times_2 11 rfl rfl)
theorem dX4_times_60 : decode cX4_times 60 = .ok (.iload 5, 2) := dk_21 5 (dk_at dksX4_times_2 13 rfl rfl)
theorem dX4_times_62 : decode cX4_times 62 = .ok (.aload_n 2, 1) := dk_44 (dk_at dksX4_times_2 15 rfl rfl)
theorem dX4_times_63 : decode cX4_times 63 = .ok (.iconst 0, 1) := dk_3 (dk_at dksX4_times_2 16 rfl rfl)
theorem dX4_times_64 : decode cX4_times 64 = .ok (.iaload, 1) := dk_46 (dk_at dksX4_times_2 17 rfl rfl)
theorem dX4_times_65 : decode cX4_times 65 = .ok (.if_icmp .gt 44, 3) := dk_163 0 44 (dk_at dksX4_times_2 18 rfl rfl)
theorem dX4_times_68 : decode cX4_times 68 = .ok (.aload_n 0, 1) := dk_42 (dk_at dksX4_times_2 21 rfl rfl)
theorem dX4_times_69 : decode cX4_times 69 = .ok (.iload 4, 2) := dk_21 4 (dk_at dksX4_times_2 22 rfl rfl)
theorem dX4_times_71 : decode cX4_times 71 = .ok (.iload 5, 2) := dk_21 5 (dk_at dksX4_times_3 0 rfl rfl)
theorem dX4_times_73 : decode cX4_times 73 = .ok (.iadd, 1) := dk_96 (dk_at dksX4_times_3 2 rfl rfl)
theorem dX4_times_74 : decode cX4_times 74 = .ok (.iconst 1, 1) := dk_4 (dk_at dksX4_times_3 3 rfl rfl)
theorem dX4_times_75 : decode cX4_times 75 = .ok (.iadd, 1) := dk_96 (dk_at dksX4_times_3 4 rfl rfl)
theorem dX4_times_76 : decode cX4_times 76 = .ok (.aload_n 0, 1) := dk_42 (dk_at dksX4_times_3 5 rfl rfl)
theorem dX4_times_77 : decode cX4_times 77 = .ok (.iload 4, 2) := dk_21 4 (dk_at dksX4_times_3 6 rfl rfl)
theorem dX4_times_79 : decode cX4_times 79 = .ok (.iload 5, 2) := dk_21 5 (dk_at dksX4_times_3 8 rfl rfl)
theorem dX4_times_81 : decode cX4_times 81 = .ok (.iadd, 1) := dk_96 (dk_at dksX4_times_3 10 rfl rfl)
theorem dX4_times_82 : decode cX4_times 82 = .ok (.iconst 1, 1) := dk_4 (dk_at dksX4_times_3 11 rfl rfl)
theorem dX4_times_83 : decode cX4_times 83 = .ok (.iadd, 1) := dk_96 (dk_at dksX4_times_3 12 rfl rfl)
theorem dX4_times_84 : decode cX4_times 84 = .ok (.iaload, 1) := dk_46 (dk_at dksX4_times_3 13 rfl rfl)
theorem dX4_times_85 : decode cX4_times 85 = .ok (.aload_n 1, 1) := dk_43 (dk_at dksX4_times_3 14 rfl rfl)
theorem dX4_times_86 : decode cX4_times 86 = .ok (.iload 4, 2) := dk_21 4 (dk_at dksX4_times_3 15 rfl rfl)
theorem dX4_times_88 : decode cX4_times 88 = .ok (.iconst 1, 1) := dk_4 (dk_at dksX4_times_3 17 rfl rfl)
theorem dX4_times_89 : decode cX4_times 89 = .ok (.iadd, 1) := dk_96 (dk_at dksX4_times_3 18 rfl rfl)
theorem dX4_times_90 : decode cX4_times 90 = .ok (.iaload, 1) := dk_46 (dk_at dksX4_times_3 19 rfl rfl)
theorem dX4_times_91 : decode cX4_times 91 = .ok (.aload_n 2, 1) := dk_44 (dk_at dksX4_times_3 20 rfl rfl)
theorem dX4_times_92 : decode cX4_times 92 = .ok (.iload 5, 2) := dk_21 5 (dk_at dksX4_times_3 21 rfl rfl)
theorem dX4_times_94 : decode cX4_times 94 = .ok (.iconst 1, 1) := dk_4 (dk_at dksX4_times_3 23 rfl rfl)
theorem dX4_times_95 : decode cX4_times 95 = .ok (.iadd, 1) := dk_96 (dk_at dksX4_times_4 0 rfl rfl)
theorem dX4_times_96 : decode cX4_times 96 = .ok (.iaload, 1) := dk_46 (dk_at dksX4_times_4 1 rfl rfl)
theorem dX4_times_97 : decode cX4_times 97 = .ok (.imul, 1) := dk_104 (dk_at dksX4_times_4 2 rfl rfl)
theorem dX4_times_98 : decode cX4_times 98 = .ok (.iadd, 1) := dk_96 (dk_at dksX4_times_4 3 rfl rfl)
theorem dX4_times_99 : decode cX4_times 99 = .ok (.bipush 31, 2) := dk_16 31 (dk_at dksX4_times_4 4 rfl rfl)
theorem dX4_times_101 : decode cX4_times 101 = .ok (.irem, 1) := dk_112 (dk_at dksX4_times_4 6 rfl rfl)
theorem dX4_times_102 : decode cX4_times 102 = .ok (.iastore, 1) := dk_79 (dk_at dksX4_times_4 7 rfl rfl)
theorem dX4_times_103 : decode cX4_times 103 = .ok (.iinc 5 1, 3) := dk_132 5 1 (dk_at dksX4_times_4 8 rfl rfl)
theorem dX4_times_106 : decode cX4_times 106 = .ok (.goto (-46), 3) := dk_167 255 210 (dk_at dksX4_times_4 11 rfl rfl)
theorem dX4_times_109 : decode cX4_times 109 = .ok (.iinc 4 1, 3) := dk_132 4 1 (dk_at dksX4_times_4 14 rfl rfl)
theorem dX4_times_112 : decode cX4_times 112 = .ok (.goto (-63), 3) := dk_167 255 193 (dk_at dksX4_times_4 17 rfl rfl)
theorem dX4_times_115 : decode cX4_times 115 = .ok (.aload_n 0, 1) := dk_42 (dk_at dksX4_times_4 20 rfl rfl)
theorem dX4_times_116 : decode cX4_times 116 = .ok (.iload_n 3, 1) := dk_29 (dk_at dksX4_times_4 21 rfl rfl)
theorem dX4_times_117 : decode cX4_times 117 = .ok (.invokestatic 179, 3) := dk_184 0 179 (dk_at dksX4_times_5 0 rfl rfl)
theorem dX4_times_120 : decode cX4_times 120 = .ok (.return_, 1) := dk_177 (dk_at dksX4_times_5 3 rfl rfl)
abbrev cX4_trims : ByteArray := prog_16_method_37_code
def yX4_trims : MethodName := ⟨RX4, "trims", "([II)V"⟩
def dkwX4_trims_1 : List UInt8 := [4, 100, 79, 167, 255, 233, 177]
abbrev dktX4_trims_1 : List UInt8 := dkwX4_trims_1 ++ []
def dkwX4_trims_0 : List UInt8 := [42, 3, 27, 79, 42, 3, 46, 155, 0, 23, 42, 42, 3, 46, 4, 96, 46, 154, 0, 13, 42, 3, 92, 46]
abbrev dktX4_trims_0 : List UInt8 := dkwX4_trims_0 ++ dktX4_trims_1
theorem dksX4_trims_0 : cX4_trims.data.toList.drop 0 = dktX4_trims_0 := by decide +kernel
theorem dksX4_trims_1 : cX4_trims.data.toList.drop 24 = dktX4_trims_1 := dk_seg dksX4_trims_0 24 rfl rfl
theorem dX4_trims_0 : decode cX4_trims 0 = .ok (.aload_n 0, 1) := dk_42 (dk_at dksX4_trims_0 0 rfl rfl)
theorem dX4_trims_1 : decode cX4_trims 1 = .ok (.iconst 0, 1) := dk_3 (dk_at dksX4_trims_0 1 rfl rfl)
theorem dX4_trims_2 : decode cX4_trims 2 = .ok (.iload_n 1, 1) := dk_27 (dk_at dksX4_trims_0 2 rfl rfl)
theorem dX4_trims_3 : decode cX4_trims 3 = .ok (.iastore, 1) := dk_79 (dk_at dksX4_trims_0 3 rfl rfl)
theorem dX4_trims_4 : decode cX4_trims 4 = .ok (.aload_n 0, 1) := dk_42 (dk_at dksX4_trims_0 4 rfl rfl)
theorem dX4_trims_5 : decode cX4_trims 5 = .ok (.iconst 0, 1) := dk_3 (dk_at dksX4_trims_0 5 rfl rfl)
theorem dX4_trims_6 : decode cX4_trims 6 = .ok (.iaload, 1) := dk_46 (dk_at dksX4_trims_0 6 rfl rfl)
theorem dX4_trims_7 : decode cX4_trims 7 = .ok (.ifCond .lt 23, 3) := dk_155 0 23 (dk_at dksX4_trims_0 7 rfl rfl)
theorem dX4_trims_10 : decode cX4_trims 10 = .ok (.aload_n 0, 1) := dk_42 (dk_at dksX4_trims_0 10 rfl rfl)
theorem dX4_trims_11 : decode cX4_trims 11 = .ok (.aload_n 0, 1) := dk_42 (dk_at dksX4_trims_0 11 rfl rfl)
theorem dX4_trims_12 : decode cX4_trims 12 = .ok (.iconst 0, 1) := dk_3 (dk_at dksX4_trims_0 12 rfl rfl)
theorem dX4_trims_13 : decode cX4_trims 13 = .ok (.iaload, 1) := dk_46 (dk_at dksX4_trims_0 13 rfl rfl)
theorem dX4_trims_14 : decode cX4_trims 14 = .ok (.iconst 1, 1) := dk_4 (dk_at dksX4_trims_0 14 rfl rfl)
theorem dX4_trims_15 : decode cX4_trims 15 = .ok (.iadd, 1) := dk_96 (dk_at dksX4_trims_0 15 rfl rfl)
theorem dX4_trims_16 : decode cX4_trims 16 = .ok (.iaload, 1) := dk_46 (dk_at dksX4_trims_0 16 rfl rfl)
theorem dX4_trims_17 : decode cX4_trims 17 = .ok (.ifCond .ne 13, 3) := dk_154 0 13 (dk_at dksX4_trims_0 17 rfl rfl)
theorem dX4_trims_20 : decode cX4_trims 20 = .ok (.aload_n 0, 1) := dk_42 (dk_at dksX4_trims_0 20 rfl rfl)
theorem dX4_trims_21 : decode cX4_trims 21 = .ok (.iconst 0, 1) := dk_3 (dk_at dksX4_trims_0 21 rfl rfl)
theorem dX4_trims_22 : decode cX4_trims 22 = .ok (.dup2, 1) := dk_92 (dk_at dksX4_trims_0 22 rfl rfl)
theorem dX4_trims_23 : decode cX4_trims 23 = .ok (.iaload, 1) := dk_46 (dk_at dksX4_trims_0 23 rfl rfl)
theorem dX4_trims_24 : decode cX4_trims 24 = .ok (.iconst 1, 1) := dk_4 (dk_at dksX4_trims_1 0 rfl rfl)
theorem dX4_trims_25 : decode cX4_trims 25 = .ok (.isub, 1) := dk_100 (dk_at dksX4_trims_1 1 rfl rfl)
theorem dX4_trims_26 : decode cX4_trims 26 = .ok (.iastore, 1) := dk_79 (dk_at dksX4_trims_1 2 rfl rfl)
theorem dX4_trims_27 : decode cX4_trims 27 = .ok (.goto (-23), 3) := dk_167 255 233 (dk_at dksX4_trims_1 3 rfl rfl)
theorem dX4_trims_30 : decode cX4_trims 30 = .ok (.return_, 1) := dk_177 (dk_at dksX4_trims_1 6 rfl rfl)
abbrev cX4_becomes : ByteArray := prog_16_method_35_code
def yX4_becomes : MethodName := ⟨RX4, "becomes", "([I[I)V"⟩
def dkwX4_becomes_0 : List UInt8 := [3, 61, 28, 43, 3, 46, 4, 96, 163, 0, 15, 42, 28, 43, 28, 46, 79, 132, 2, 1, 167, 255, 238, 177]
abbrev dktX4_becomes_0 : List UInt8 := dkwX4_becomes_0 ++ []
theorem dksX4_becomes_0 : cX4_becomes.data.toList.drop 0 = dktX4_becomes_0 := by decide +kernel
theorem dX4_becomes_0 : decode cX4_becomes 0 = .ok (.iconst 0, 1) := dk_3 (dk_at dksX4_becomes_0 0 rfl rfl)
theorem dX4_becomes_1 : decode cX4_becomes 1 = .ok (.istore_n 2, 1) := dk_61 (dk_at dksX4_becomes_0 1 rfl rfl)
theorem dX4_becomes_2 : decode cX4_becomes 2 = .ok (.iload_n 2, 1) := dk_28 (dk_at dksX4_becomes_0 2 rfl rfl)
theorem dX4_becomes_3 : decode cX4_becomes 3 = .ok (.aload_n 1, 1) := dk_43 (dk_at dksX4_becomes_0 3 rfl rfl)
theorem dX4_becomes_4 : decode cX4_becomes 4 = .ok (.iconst 0, 1) := dk_3 (dk_at dksX4_becomes_0 4 rfl rfl)
theorem dX4_becomes_5 : decode cX4_becomes 5 = .ok (.iaload, 1) := dk_46 (dk_at dksX4_becomes_0 5 rfl rfl)
theorem dX4_becomes_6 : decode cX4_becomes 6 = .ok (.iconst 1, 1) := dk_4 (dk_at dksX4_becomes_0 6 rfl rfl)
theorem dX4_becomes_7 : decode cX4_becomes 7 = .ok (.iadd, 1) := dk_96 (dk_at dksX4_becomes_0 7 rfl rfl)
theorem dX4_becomes_8 : decode cX4_becomes 8 = .ok (.if_icmp .gt 15, 3) := dk_163 0 15 (dk_at dksX4_becomes_0 8 rfl rfl)
theorem dX4_becomes_11 : decode cX4_becomes 11 = .ok (.aload_n 0, 1) := dk_42 (dk_at dksX4_becomes_0 11 rfl rfl)
theorem dX4_becomes_12 : decode cX4_becomes 12 = .ok (.iload_n 2, 1) := dk_28 (dk_at dksX4_becomes_0 12 rfl rfl)
theorem dX4_becomes_13 : decode cX4_becomes 13 = .ok (.aload_n 1, 1) := dk_43 (dk_at dksX4_becomes_0 13 rfl rfl)
theorem dX4_becomes_14 : decode cX4_becomes 14 = .ok (.iload_n 2, 1) := dk_28 (dk_at dksX4_becomes_0 14 rfl rfl)
theorem dX4_becomes_15 : decode cX4_becomes 15 = .ok (.iaload, 1) := dk_46 (dk_at dksX4_becomes_0 15 rfl rfl)
theorem dX4_becomes_16 : decode cX4_becomes 16 = .ok (.iastore, 1) := dk_79 (dk_at dksX4_becomes_0 16 rfl rfl)
theorem dX4_becomes_17 : decode cX4_becomes 17 = .ok (.iinc 2 1, 3) := dk_132 2 1 (dk_at dksX4_becomes_0 17 rfl rfl)
theorem dX4_becomes_20 : decode cX4_becomes 20 = .ok (.goto (-18), 3) := dk_167 255 238 (dk_at dksX4_becomes_0 20 rfl rfl)
theorem dX4_becomes_23 : decode cX4_becomes 23 = .ok (.return_, 1) := dk_177 (dk_at dksX4_becomes_0 23 rfl rfl)
abbrev cX4_sums : ByteArray := prog_16_method_38_code
def yX4_sums : MethodName := ⟨RX4, "sums", "([II[II[I)V"⟩
def dkwX4_sums_4 : List UInt8 := [184, 0, 179, 177]
abbrev dktX4_sums_4 : List UInt8 := dkwX4_sums_4 ++ []
def dkwX4_sums_3 : List UInt8 := [4, 96, 46, 167, 0, 4, 3, 104, 96, 184, 0, 140, 79, 132, 6, 1, 167, 255, 194, 42, 21, 5]
abbrev dktX4_sums_3 : List UInt8 := dkwX4_sums_3 ++ dktX4_sums_4
def dkwX4_sums_2 : List UInt8 := [21, 6, 4, 96, 46, 167, 0, 4, 3, 104, 29, 21, 6, 25, 4, 3, 46, 163, 0, 13, 25, 4, 21, 6]
abbrev dktX4_sums_2 : List UInt8 := dkwX4_sums_2 ++ dktX4_sums_3
def dkwX4_sums_1 : List UInt8 := [54, 6, 21, 6, 21, 5, 163, 0, 61, 42, 21, 6, 4, 96, 27, 21, 6, 44, 3, 46, 163, 0, 12, 44]
abbrev dktX4_sums_1 : List UInt8 := dkwX4_sums_1 ++ dktX4_sums_2
def dkwX4_sums_0 : List UInt8 := [44, 3, 46, 25, 4, 3, 46, 164, 0, 9, 44, 3, 46, 167, 0, 7, 25, 4, 3, 46, 54, 5, 3]
abbrev dktX4_sums_0 : List UInt8 := dkwX4_sums_0 ++ dktX4_sums_1
theorem dksX4_sums_0 : cX4_sums.data.toList.drop 0 = dktX4_sums_0 := by decide +kernel
theorem dksX4_sums_1 : cX4_sums.data.toList.drop 23 = dktX4_sums_1 := dk_seg dksX4_sums_0 23 rfl rfl
theorem dksX4_sums_2 : cX4_sums.data.toList.drop 47 = dktX4_sums_2 := dk_seg dksX4_sums_1 24 rfl rfl
theorem dksX4_sums_3 : cX4_sums.data.toList.drop 71 = dktX4_sums_3 := dk_seg dksX4_sums_2 24 rfl rfl
theorem dksX4_sums_4 : cX4_sums.data.toList.drop 93 = dktX4_sums_4 := dk_seg dksX4_sums_3 22 rfl rfl
theorem dX4_sums_0 : decode cX4_sums 0 = .ok (.aload_n 2, 1) := dk_44 (dk_at dksX4_sums_0 0 rfl rfl)
theorem dX4_sums_1 : decode cX4_sums 1 = .ok (.iconst 0, 1) := dk_3 (dk_at dksX4_sums_0 1 rfl rfl)
theorem dX4_sums_2 : decode cX4_sums 2 = .ok (.iaload, 1) := dk_46 (dk_at dksX4_sums_0 2 rfl rfl)
theorem dX4_sums_3 : decode cX4_sums 3 = .ok (.aload 4, 2) := dk_25 4 (dk_at dksX4_sums_0 3 rfl rfl)
theorem dX4_sums_5 : decode cX4_sums 5 = .ok (.iconst 0, 1) := dk_3 (dk_at dksX4_sums_0 5 rfl rfl)
theorem dX4_sums_6 : decode cX4_sums 6 = .ok (.iaload, 1) := dk_46 (dk_at dksX4_sums_0 6 rfl rfl)
theorem dX4_sums_7 : decode cX4_sums 7 = .ok (.if_icmp .le 9, 3) := dk_164 0 9 (dk_at dksX4_sums_0 7 rfl rfl)
theorem dX4_sums_10 : decode cX4_sums 10 = .ok (.aload_n 2, 1) := dk_44 (dk_at dksX4_sums_0 10 rfl rfl)
theorem dX4_sums_11 : decode cX4_sums 11 = .ok (.iconst 0, 1) := dk_3 (dk_at dksX4_sums_0 11 rfl rfl)
theorem dX4_sums_12 : decode cX4_sums 12 = .ok (.iaload, 1) := dk_46 (dk_at dksX4_sums_0 12 rfl rfl)
theorem dX4_sums_13 : decode cX4_sums 13 = .ok (.goto 7, 3) := dk_167 0 7 (dk_at dksX4_sums_0 13 rfl rfl)
theorem dX4_sums_16 : decode cX4_sums 16 = .ok (.aload 4, 2) := dk_25 4 (dk_at dksX4_sums_0 16 rfl rfl)
theorem dX4_sums_18 : decode cX4_sums 18 = .ok (.iconst 0, 1) := dk_3 (dk_at dksX4_sums_0 18 rfl rfl)
theorem dX4_sums_19 : decode cX4_sums 19 = .ok (.iaload, 1) := dk_46 (dk_at dksX4_sums_0 19 rfl rfl)
theorem dX4_sums_20 : decode cX4_sums 20 = .ok (.istore 5, 2) := dk_54 5 (dk_at dksX4_sums_0 20 rfl rfl)
theorem dX4_sums_22 : decode cX4_sums 22 = .ok (.iconst 0, 1) := dk_3 (dk_at dksX4_sums_0 22 rfl rfl)
theorem dX4_sums_23 : decode cX4_sums 23 = .ok (.istore 6, 2) := dk_54 6 (dk_at dksX4_sums_1 0 rfl rfl)
theorem dX4_sums_25 : decode cX4_sums 25 = .ok (.iload 6, 2) := dk_21 6 (dk_at dksX4_sums_1 2 rfl rfl)
theorem dX4_sums_27 : decode cX4_sums 27 = .ok (.iload 5, 2) := dk_21 5 (dk_at dksX4_sums_1 4 rfl rfl)
theorem dX4_sums_29 : decode cX4_sums 29 = .ok (.if_icmp .gt 61, 3) := dk_163 0 61 (dk_at dksX4_sums_1 6 rfl rfl)
theorem dX4_sums_32 : decode cX4_sums 32 = .ok (.aload_n 0, 1) := dk_42 (dk_at dksX4_sums_1 9 rfl rfl)
theorem dX4_sums_33 : decode cX4_sums 33 = .ok (.iload 6, 2) := dk_21 6 (dk_at dksX4_sums_1 10 rfl rfl)
theorem dX4_sums_35 : decode cX4_sums 35 = .ok (.iconst 1, 1) := dk_4 (dk_at dksX4_sums_1 12 rfl rfl)
theorem dX4_sums_36 : decode cX4_sums 36 = .ok (.iadd, 1) := dk_96 (dk_at dksX4_sums_1 13 rfl rfl)
theorem dX4_sums_37 : decode cX4_sums 37 = .ok (.iload_n 1, 1) := dk_27 (dk_at dksX4_sums_1 14 rfl rfl)
theorem dX4_sums_38 : decode cX4_sums 38 = .ok (.iload 6, 2) := dk_21 6 (dk_at dksX4_sums_1 15 rfl rfl)
theorem dX4_sums_40 : decode cX4_sums 40 = .ok (.aload_n 2, 1) := dk_44 (dk_at dksX4_sums_1 17 rfl rfl)
theorem dX4_sums_41 : decode cX4_sums 41 = .ok (.iconst 0, 1) := dk_3 (dk_at dksX4_sums_1 18 rfl rfl)
theorem dX4_sums_42 : decode cX4_sums 42 = .ok (.iaload, 1) := dk_46 (dk_at dksX4_sums_1 19 rfl rfl)
theorem dX4_sums_43 : decode cX4_sums 43 = .ok (.if_icmp .gt 12, 3) := dk_163 0 12 (dk_at dksX4_sums_1 20 rfl rfl)
theorem dX4_sums_46 : decode cX4_sums 46 = .ok (.aload_n 2, 1) := dk_44 (dk_at dksX4_sums_1 23 rfl rfl)
theorem dX4_sums_47 : decode cX4_sums 47 = .ok (.iload 6, 2) := dk_21 6 (dk_at dksX4_sums_2 0 rfl rfl)
theorem dX4_sums_49 : decode cX4_sums 49 = .ok (.iconst 1, 1) := dk_4 (dk_at dksX4_sums_2 2 rfl rfl)
theorem dX4_sums_50 : decode cX4_sums 50 = .ok (.iadd, 1) := dk_96 (dk_at dksX4_sums_2 3 rfl rfl)
theorem dX4_sums_51 : decode cX4_sums 51 = .ok (.iaload, 1) := dk_46 (dk_at dksX4_sums_2 4 rfl rfl)
theorem dX4_sums_52 : decode cX4_sums 52 = .ok (.goto 4, 3) := dk_167 0 4 (dk_at dksX4_sums_2 5 rfl rfl)
theorem dX4_sums_55 : decode cX4_sums 55 = .ok (.iconst 0, 1) := dk_3 (dk_at dksX4_sums_2 8 rfl rfl)
theorem dX4_sums_56 : decode cX4_sums 56 = .ok (.imul, 1) := dk_104 (dk_at dksX4_sums_2 9 rfl rfl)
theorem dX4_sums_57 : decode cX4_sums 57 = .ok (.iload_n 3, 1) := dk_29 (dk_at dksX4_sums_2 10 rfl rfl)
theorem dX4_sums_58 : decode cX4_sums 58 = .ok (.iload 6, 2) := dk_21 6 (dk_at dksX4_sums_2 11 rfl rfl)
theorem dX4_sums_60 : decode cX4_sums 60 = .ok (.aload 4, 2) := dk_25 4 (dk_at dksX4_sums_2 13 rfl rfl)
theorem dX4_sums_62 : decode cX4_sums 62 = .ok (.iconst 0, 1) := dk_3 (dk_at dksX4_sums_2 15 rfl rfl)
theorem dX4_sums_63 : decode cX4_sums 63 = .ok (.iaload, 1) := dk_46 (dk_at dksX4_sums_2 16 rfl rfl)
theorem dX4_sums_64 : decode cX4_sums 64 = .ok (.if_icmp .gt 13, 3) := dk_163 0 13 (dk_at dksX4_sums_2 17 rfl rfl)
theorem dX4_sums_67 : decode cX4_sums 67 = .ok (.aload 4, 2) := dk_25 4 (dk_at dksX4_sums_2 20 rfl rfl)
theorem dX4_sums_69 : decode cX4_sums 69 = .ok (.iload 6, 2) := dk_21 6 (dk_at dksX4_sums_2 22 rfl rfl)
theorem dX4_sums_71 : decode cX4_sums 71 = .ok (.iconst 1, 1) := dk_4 (dk_at dksX4_sums_3 0 rfl rfl)
theorem dX4_sums_72 : decode cX4_sums 72 = .ok (.iadd, 1) := dk_96 (dk_at dksX4_sums_3 1 rfl rfl)
theorem dX4_sums_73 : decode cX4_sums 73 = .ok (.iaload, 1) := dk_46 (dk_at dksX4_sums_3 2 rfl rfl)
theorem dX4_sums_74 : decode cX4_sums 74 = .ok (.goto 4, 3) := dk_167 0 4 (dk_at dksX4_sums_3 3 rfl rfl)
theorem dX4_sums_77 : decode cX4_sums 77 = .ok (.iconst 0, 1) := dk_3 (dk_at dksX4_sums_3 6 rfl rfl)
theorem dX4_sums_78 : decode cX4_sums 78 = .ok (.imul, 1) := dk_104 (dk_at dksX4_sums_3 7 rfl rfl)
theorem dX4_sums_79 : decode cX4_sums 79 = .ok (.iadd, 1) := dk_96 (dk_at dksX4_sums_3 8 rfl rfl)
theorem dX4_sums_80 : decode cX4_sums 80 = .ok (.invokestatic 140, 3) := dk_184 0 140 (dk_at dksX4_sums_3 9 rfl rfl)
theorem dX4_sums_83 : decode cX4_sums 83 = .ok (.iastore, 1) := dk_79 (dk_at dksX4_sums_3 12 rfl rfl)
theorem dX4_sums_84 : decode cX4_sums 84 = .ok (.iinc 6 1, 3) := dk_132 6 1 (dk_at dksX4_sums_3 13 rfl rfl)
theorem dX4_sums_87 : decode cX4_sums 87 = .ok (.goto (-62), 3) := dk_167 255 194 (dk_at dksX4_sums_3 16 rfl rfl)
theorem dX4_sums_90 : decode cX4_sums 90 = .ok (.aload_n 0, 1) := dk_42 (dk_at dksX4_sums_3 19 rfl rfl)
theorem dX4_sums_91 : decode cX4_sums 91 = .ok (.iload 5, 2) := dk_21 5 (dk_at dksX4_sums_3 20 rfl rfl)
theorem dX4_sums_93 : decode cX4_sums 93 = .ok (.invokestatic 179, 3) := dk_184 0 179 (dk_at dksX4_sums_4 0 rfl rfl)
theorem dX4_sums_96 : decode cX4_sums 96 = .ok (.return_, 1) := dk_177 (dk_at dksX4_sums_4 3 rfl rfl)
abbrev cX4_crosses : ByteArray := prog_16_method_43_code
def yX4_crosses : MethodName := ⟨RX4, "crosses", "([III)V"⟩
def dkwX4_crosses_2 : List UInt8 := [180, 0, 60, 16, 30, 42, 180, 0, 63, 184, 0, 197, 177]
abbrev dktX4_crosses_2 : List UInt8 := dkwX4_crosses_2 ++ []
def dkwX4_crosses_1 : List UInt8 := [180, 0, 63, 42, 180, 0, 48, 29, 50, 42, 180, 0, 48, 6, 28, 96, 50, 184, 0, 194, 43, 4, 42]
abbrev dktX4_crosses_1 : List UInt8 := dkwX4_crosses_1 ++ dktX4_crosses_2
def dkwX4_crosses_0 : List UInt8 := [42, 180, 0, 60, 42, 180, 0, 48, 28, 50, 42, 180, 0, 48, 6, 29, 96, 50, 184, 0, 194, 42]
abbrev dktX4_crosses_0 : List UInt8 := dkwX4_crosses_0 ++ dktX4_crosses_1
theorem dksX4_crosses_0 : cX4_crosses.data.toList.drop 0 = dktX4_crosses_0 := by decide +kernel
theorem dksX4_crosses_1 : cX4_crosses.data.toList.drop 22 = dktX4_crosses_1 := dk_seg dksX4_crosses_0 22 rfl rfl
theorem dksX4_crosses_2 : cX4_crosses.data.toList.drop 45 = dktX4_crosses_2 := dk_seg dksX4_crosses_1 23 rfl rfl
theorem dX4_crosses_0 : decode cX4_crosses 0 = .ok (.aload_n 0, 1) := dk_42 (dk_at dksX4_crosses_0 0 rfl rfl)
theorem dX4_crosses_1 : decode cX4_crosses 1 = .ok (.getfield 60, 3) := dk_180 0 60 (dk_at dksX4_crosses_0 1 rfl rfl)
theorem dX4_crosses_4 : decode cX4_crosses 4 = .ok (.aload_n 0, 1) := dk_42 (dk_at dksX4_crosses_0 4 rfl rfl)
theorem dX4_crosses_5 : decode cX4_crosses 5 = .ok (.getfield 48, 3) := dk_180 0 48 (dk_at dksX4_crosses_0 5 rfl rfl)
theorem dX4_crosses_8 : decode cX4_crosses 8 = .ok (.iload_n 2, 1) := dk_28 (dk_at dksX4_crosses_0 8 rfl rfl)
theorem dX4_crosses_9 : decode cX4_crosses 9 = .ok (.aaload, 1) := dk_50 (dk_at dksX4_crosses_0 9 rfl rfl)
theorem dX4_crosses_10 : decode cX4_crosses 10 = .ok (.aload_n 0, 1) := dk_42 (dk_at dksX4_crosses_0 10 rfl rfl)
theorem dX4_crosses_11 : decode cX4_crosses 11 = .ok (.getfield 48, 3) := dk_180 0 48 (dk_at dksX4_crosses_0 11 rfl rfl)
theorem dX4_crosses_14 : decode cX4_crosses 14 = .ok (.iconst 3, 1) := dk_6 (dk_at dksX4_crosses_0 14 rfl rfl)
theorem dX4_crosses_15 : decode cX4_crosses 15 = .ok (.iload_n 3, 1) := dk_29 (dk_at dksX4_crosses_0 15 rfl rfl)
theorem dX4_crosses_16 : decode cX4_crosses 16 = .ok (.iadd, 1) := dk_96 (dk_at dksX4_crosses_0 16 rfl rfl)
theorem dX4_crosses_17 : decode cX4_crosses 17 = .ok (.aaload, 1) := dk_50 (dk_at dksX4_crosses_0 17 rfl rfl)
theorem dX4_crosses_18 : decode cX4_crosses 18 = .ok (.invokestatic 194, 3) := dk_184 0 194 (dk_at dksX4_crosses_0 18 rfl rfl)
theorem dX4_crosses_21 : decode cX4_crosses 21 = .ok (.aload_n 0, 1) := dk_42 (dk_at dksX4_crosses_0 21 rfl rfl)
theorem dX4_crosses_22 : decode cX4_crosses 22 = .ok (.getfield 63, 3) := dk_180 0 63 (dk_at dksX4_crosses_1 0 rfl rfl)
theorem dX4_crosses_25 : decode cX4_crosses 25 = .ok (.aload_n 0, 1) := dk_42 (dk_at dksX4_crosses_1 3 rfl rfl)
theorem dX4_crosses_26 : decode cX4_crosses 26 = .ok (.getfield 48, 3) := dk_180 0 48 (dk_at dksX4_crosses_1 4 rfl rfl)
theorem dX4_crosses_29 : decode cX4_crosses 29 = .ok (.iload_n 3, 1) := dk_29 (dk_at dksX4_crosses_1 7 rfl rfl)
theorem dX4_crosses_30 : decode cX4_crosses 30 = .ok (.aaload, 1) := dk_50 (dk_at dksX4_crosses_1 8 rfl rfl)
theorem dX4_crosses_31 : decode cX4_crosses 31 = .ok (.aload_n 0, 1) := dk_42 (dk_at dksX4_crosses_1 9 rfl rfl)
theorem dX4_crosses_32 : decode cX4_crosses 32 = .ok (.getfield 48, 3) := dk_180 0 48 (dk_at dksX4_crosses_1 10 rfl rfl)
theorem dX4_crosses_35 : decode cX4_crosses 35 = .ok (.iconst 3, 1) := dk_6 (dk_at dksX4_crosses_1 13 rfl rfl)
theorem dX4_crosses_36 : decode cX4_crosses 36 = .ok (.iload_n 2, 1) := dk_28 (dk_at dksX4_crosses_1 14 rfl rfl)
theorem dX4_crosses_37 : decode cX4_crosses 37 = .ok (.iadd, 1) := dk_96 (dk_at dksX4_crosses_1 15 rfl rfl)
theorem dX4_crosses_38 : decode cX4_crosses 38 = .ok (.aaload, 1) := dk_50 (dk_at dksX4_crosses_1 16 rfl rfl)
theorem dX4_crosses_39 : decode cX4_crosses 39 = .ok (.invokestatic 194, 3) := dk_184 0 194 (dk_at dksX4_crosses_1 17 rfl rfl)
theorem dX4_crosses_42 : decode cX4_crosses 42 = .ok (.aload_n 1, 1) := dk_43 (dk_at dksX4_crosses_1 20 rfl rfl)
theorem dX4_crosses_43 : decode cX4_crosses 43 = .ok (.iconst 1, 1) := dk_4 (dk_at dksX4_crosses_1 21 rfl rfl)
theorem dX4_crosses_44 : decode cX4_crosses 44 = .ok (.aload_n 0, 1) := dk_42 (dk_at dksX4_crosses_1 22 rfl rfl)
theorem dX4_crosses_45 : decode cX4_crosses 45 = .ok (.getfield 60, 3) := dk_180 0 60 (dk_at dksX4_crosses_2 0 rfl rfl)
theorem dX4_crosses_48 : decode cX4_crosses 48 = .ok (.bipush 30, 2) := dk_16 30 (dk_at dksX4_crosses_2 3 rfl rfl)
theorem dX4_crosses_50 : decode cX4_crosses 50 = .ok (.aload_n 0, 1) := dk_42 (dk_at dksX4_crosses_2 5 rfl rfl)
theorem dX4_crosses_51 : decode cX4_crosses 51 = .ok (.getfield 63, 3) := dk_180 0 63 (dk_at dksX4_crosses_2 6 rfl rfl)
theorem dX4_crosses_54 : decode cX4_crosses 54 = .ok (.invokestatic 197, 3) := dk_184 0 197 (dk_at dksX4_crosses_2 9 rfl rfl)
theorem dX4_crosses_57 : decode cX4_crosses 57 = .ok (.return_, 1) := dk_177 (dk_at dksX4_crosses_2 12 rfl rfl)
abbrev cX4_lowers : ByteArray := prog_16_method_41_code
def yX4_lowers : MethodName := ⟨RX4, "lowers", "([I[I)V"⟩
def dkwX4_lowers_6 : List UInt8 := [184, 0, 183, 177]
abbrev dktX4_lowers_6 : List UInt8 := dkwX4_lowers_6 ++ []
def dkwX4_lowers_5 : List UInt8 := [184, 0, 183, 42, 180, 0, 63, 42, 180, 0, 60, 42, 180, 0, 66, 184, 0, 187, 44, 42, 180, 0, 66]
abbrev dktX4_lowers_5 : List UInt8 := dkwX4_lowers_5 ++ dktX4_lowers_6
def dkwX4_lowers_4 : List UInt8 := [180, 0, 60, 42, 180, 0, 66, 184, 0, 187, 43, 42, 180, 0, 66, 184, 0, 183, 42, 180, 0, 63, 44]
abbrev dktX4_lowers_4 : List UInt8 := dkwX4_lowers_4 ++ dktX4_lowers_5
def dkwX4_lowers_3 : List UInt8 := [180, 0, 66, 184, 0, 183, 167, 255, 199, 42, 180, 0, 63, 43, 184, 0, 183, 42, 180, 0, 63, 42]
abbrev dktX4_lowers_3 : List UInt8 := dkwX4_lowers_3 ++ dktX4_lowers_4
def dkwX4_lowers_2 : List UInt8 := [180, 0, 60, 184, 0, 183, 42, 180, 0, 60, 42, 180, 0, 63, 184, 0, 183, 42, 180, 0, 63, 42]
abbrev dktX4_lowers_2 : List UInt8 := dkwX4_lowers_2 ++ dktX4_lowers_3
def dkwX4_lowers_1 : List UInt8 := [155, 0, 54, 42, 180, 0, 60, 42, 180, 0, 63, 42, 180, 0, 66, 184, 0, 187, 42, 180, 0, 66, 42]
abbrev dktX4_lowers_1 : List UInt8 := dkwX4_lowers_1 ++ dktX4_lowers_2
def dkwX4_lowers_0 : List UInt8 := [42, 180, 0, 60, 43, 184, 0, 183, 42, 180, 0, 63, 44, 184, 0, 183, 42, 180, 0, 63, 3, 46]
abbrev dktX4_lowers_0 : List UInt8 := dkwX4_lowers_0 ++ dktX4_lowers_1
theorem dksX4_lowers_0 : cX4_lowers.data.toList.drop 0 = dktX4_lowers_0 := by decide +kernel
theorem dksX4_lowers_1 : cX4_lowers.data.toList.drop 22 = dktX4_lowers_1 := dk_seg dksX4_lowers_0 22 rfl rfl
theorem dksX4_lowers_2 : cX4_lowers.data.toList.drop 45 = dktX4_lowers_2 := dk_seg dksX4_lowers_1 23 rfl rfl
theorem dksX4_lowers_3 : cX4_lowers.data.toList.drop 67 = dktX4_lowers_3 := dk_seg dksX4_lowers_2 22 rfl rfl
theorem dksX4_lowers_4 : cX4_lowers.data.toList.drop 89 = dktX4_lowers_4 := dk_seg dksX4_lowers_3 22 rfl rfl
theorem dksX4_lowers_5 : cX4_lowers.data.toList.drop 112 = dktX4_lowers_5 := dk_seg dksX4_lowers_4 23 rfl rfl
theorem dksX4_lowers_6 : cX4_lowers.data.toList.drop 135 = dktX4_lowers_6 := dk_seg dksX4_lowers_5 23 rfl rfl
theorem dX4_lowers_0 : decode cX4_lowers 0 = .ok (.aload_n 0, 1) := dk_42 (dk_at dksX4_lowers_0 0 rfl rfl)
theorem dX4_lowers_1 : decode cX4_lowers 1 = .ok (.getfield 60, 3) := dk_180 0 60 (dk_at dksX4_lowers_0 1 rfl rfl)
theorem dX4_lowers_4 : decode cX4_lowers 4 = .ok (.aload_n 1, 1) := dk_43 (dk_at dksX4_lowers_0 4 rfl rfl)
theorem dX4_lowers_5 : decode cX4_lowers 5 = .ok (.invokestatic 183, 3) := dk_184 0 183 (dk_at dksX4_lowers_0 5 rfl rfl)
theorem dX4_lowers_8 : decode cX4_lowers 8 = .ok (.aload_n 0, 1) := dk_42 (dk_at dksX4_lowers_0 8 rfl rfl)
theorem dX4_lowers_9 : decode cX4_lowers 9 = .ok (.getfield 63, 3) := dk_180 0 63 (dk_at dksX4_lowers_0 9 rfl rfl)
theorem dX4_lowers_12 : decode cX4_lowers 12 = .ok (.aload_n 2, 1) := dk_44 (dk_at dksX4_lowers_0 12 rfl rfl)
theorem dX4_lowers_13 : decode cX4_lowers 13 = .ok (.invokestatic 183, 3) := dk_184 0 183 (dk_at dksX4_lowers_0 13 rfl rfl)
theorem dX4_lowers_16 : decode cX4_lowers 16 = .ok (.aload_n 0, 1) := dk_42 (dk_at dksX4_lowers_0 16 rfl rfl)
theorem dX4_lowers_17 : decode cX4_lowers 17 = .ok (.getfield 63, 3) := dk_180 0 63 (dk_at dksX4_lowers_0 17 rfl rfl)
theorem dX4_lowers_20 : decode cX4_lowers 20 = .ok (.iconst 0, 1) := dk_3 (dk_at dksX4_lowers_0 20 rfl rfl)
theorem dX4_lowers_21 : decode cX4_lowers 21 = .ok (.iaload, 1) := dk_46 (dk_at dksX4_lowers_0 21 rfl rfl)
theorem dX4_lowers_22 : decode cX4_lowers 22 = .ok (.ifCond .lt 54, 3) := dk_155 0 54 (dk_at dksX4_lowers_1 0 rfl rfl)
theorem dX4_lowers_25 : decode cX4_lowers 25 = .ok (.aload_n 0, 1) := dk_42 (dk_at dksX4_lowers_1 3 rfl rfl)
theorem dX4_lowers_26 : decode cX4_lowers 26 = .ok (.getfield 60, 3) := dk_180 0 60 (dk_at dksX4_lowers_1 4 rfl rfl)
theorem dX4_lowers_29 : decode cX4_lowers 29 = .ok (.aload_n 0, 1) := dk_42 (dk_at dksX4_lowers_1 7 rfl rfl)
theorem dX4_lowers_30 : decode cX4_lowers 30 = .ok (.getfield 63, 3) := dk_180 0 63 (dk_at dksX4_lowers_1 8 rfl rfl)
theorem dX4_lowers_33 : decode cX4_lowers 33 = .ok (.aload_n 0, 1) := dk_42 (dk_at dksX4_lowers_1 11 rfl rfl)
theorem dX4_lowers_34 : decode cX4_lowers 34 = .ok (.getfield 66, 3) := dk_180 0 66 (dk_at dksX4_lowers_1 12 rfl rfl)
theorem dX4_lowers_37 : decode cX4_lowers 37 = .ok (.invokestatic 187, 3) := dk_184 0 187 (dk_at dksX4_lowers_1 15 rfl rfl)
theorem dX4_lowers_40 : decode cX4_lowers 40 = .ok (.aload_n 0, 1) := dk_42 (dk_at dksX4_lowers_1 18 rfl rfl)
theorem dX4_lowers_41 : decode cX4_lowers 41 = .ok (.getfield 66, 3) := dk_180 0 66 (dk_at dksX4_lowers_1 19 rfl rfl)
theorem dX4_lowers_44 : decode cX4_lowers 44 = .ok (.aload_n 0, 1) := dk_42 (dk_at dksX4_lowers_1 22 rfl rfl)
theorem dX4_lowers_45 : decode cX4_lowers 45 = .ok (.getfield 60, 3) := dk_180 0 60 (dk_at dksX4_lowers_2 0 rfl rfl)
theorem dX4_lowers_48 : decode cX4_lowers 48 = .ok (.invokestatic 183, 3) := dk_184 0 183 (dk_at dksX4_lowers_2 3 rfl rfl)
theorem dX4_lowers_51 : decode cX4_lowers 51 = .ok (.aload_n 0, 1) := dk_42 (dk_at dksX4_lowers_2 6 rfl rfl)
theorem dX4_lowers_52 : decode cX4_lowers 52 = .ok (.getfield 60, 3) := dk_180 0 60 (dk_at dksX4_lowers_2 7 rfl rfl)
theorem dX4_lowers_55 : decode cX4_lowers 55 = .ok (.aload_n 0, 1) := dk_42 (dk_at dksX4_lowers_2 10 rfl rfl)
theorem dX4_lowers_56 : decode cX4_lowers 56 = .ok (.getfield 63, 3) := dk_180 0 63 (dk_at dksX4_lowers_2 11 rfl rfl)
theorem dX4_lowers_59 : decode cX4_lowers 59 = .ok (.invokestatic 183, 3) := dk_184 0 183 (dk_at dksX4_lowers_2 14 rfl rfl)
theorem dX4_lowers_62 : decode cX4_lowers 62 = .ok (.aload_n 0, 1) := dk_42 (dk_at dksX4_lowers_2 17 rfl rfl)
theorem dX4_lowers_63 : decode cX4_lowers 63 = .ok (.getfield 63, 3) := dk_180 0 63 (dk_at dksX4_lowers_2 18 rfl rfl)
theorem dX4_lowers_66 : decode cX4_lowers 66 = .ok (.aload_n 0, 1) := dk_42 (dk_at dksX4_lowers_2 21 rfl rfl)
theorem dX4_lowers_67 : decode cX4_lowers 67 = .ok (.getfield 66, 3) := dk_180 0 66 (dk_at dksX4_lowers_3 0 rfl rfl)
theorem dX4_lowers_70 : decode cX4_lowers 70 = .ok (.invokestatic 183, 3) := dk_184 0 183 (dk_at dksX4_lowers_3 3 rfl rfl)
theorem dX4_lowers_73 : decode cX4_lowers 73 = .ok (.goto (-57), 3) := dk_167 255 199 (dk_at dksX4_lowers_3 6 rfl rfl)
theorem dX4_lowers_76 : decode cX4_lowers 76 = .ok (.aload_n 0, 1) := dk_42 (dk_at dksX4_lowers_3 9 rfl rfl)
theorem dX4_lowers_77 : decode cX4_lowers 77 = .ok (.getfield 63, 3) := dk_180 0 63 (dk_at dksX4_lowers_3 10 rfl rfl)
theorem dX4_lowers_80 : decode cX4_lowers 80 = .ok (.aload_n 1, 1) := dk_43 (dk_at dksX4_lowers_3 13 rfl rfl)
theorem dX4_lowers_81 : decode cX4_lowers 81 = .ok (.invokestatic 183, 3) := dk_184 0 183 (dk_at dksX4_lowers_3 14 rfl rfl)
theorem dX4_lowers_84 : decode cX4_lowers 84 = .ok (.aload_n 0, 1) := dk_42 (dk_at dksX4_lowers_3 17 rfl rfl)
theorem dX4_lowers_85 : decode cX4_lowers 85 = .ok (.getfield 63, 3) := dk_180 0 63 (dk_at dksX4_lowers_3 18 rfl rfl)
theorem dX4_lowers_88 : decode cX4_lowers 88 = .ok (.aload_n 0, 1) := dk_42 (dk_at dksX4_lowers_3 21 rfl rfl)
theorem dX4_lowers_89 : decode cX4_lowers 89 = .ok (.getfield 60, 3) := dk_180 0 60 (dk_at dksX4_lowers_4 0 rfl rfl)
theorem dX4_lowers_92 : decode cX4_lowers 92 = .ok (.aload_n 0, 1) := dk_42 (dk_at dksX4_lowers_4 3 rfl rfl)
theorem dX4_lowers_93 : decode cX4_lowers 93 = .ok (.getfield 66, 3) := dk_180 0 66 (dk_at dksX4_lowers_4 4 rfl rfl)
theorem dX4_lowers_96 : decode cX4_lowers 96 = .ok (.invokestatic 187, 3) := dk_184 0 187 (dk_at dksX4_lowers_4 7 rfl rfl)
theorem dX4_lowers_99 : decode cX4_lowers 99 = .ok (.aload_n 1, 1) := dk_43 (dk_at dksX4_lowers_4 10 rfl rfl)
theorem dX4_lowers_100 : decode cX4_lowers 100 = .ok (.aload_n 0, 1) := dk_42 (dk_at dksX4_lowers_4 11 rfl rfl)
theorem dX4_lowers_101 : decode cX4_lowers 101 = .ok (.getfield 66, 3) := dk_180 0 66 (dk_at dksX4_lowers_4 12 rfl rfl)
theorem dX4_lowers_104 : decode cX4_lowers 104 = .ok (.invokestatic 183, 3) := dk_184 0 183 (dk_at dksX4_lowers_4 15 rfl rfl)
theorem dX4_lowers_107 : decode cX4_lowers 107 = .ok (.aload_n 0, 1) := dk_42 (dk_at dksX4_lowers_4 18 rfl rfl)
theorem dX4_lowers_108 : decode cX4_lowers 108 = .ok (.getfield 63, 3) := dk_180 0 63 (dk_at dksX4_lowers_4 19 rfl rfl)
theorem dX4_lowers_111 : decode cX4_lowers 111 = .ok (.aload_n 2, 1) := dk_44 (dk_at dksX4_lowers_4 22 rfl rfl)
theorem dX4_lowers_112 : decode cX4_lowers 112 = .ok (.invokestatic 183, 3) := dk_184 0 183 (dk_at dksX4_lowers_5 0 rfl rfl)
theorem dX4_lowers_115 : decode cX4_lowers 115 = .ok (.aload_n 0, 1) := dk_42 (dk_at dksX4_lowers_5 3 rfl rfl)
theorem dX4_lowers_116 : decode cX4_lowers 116 = .ok (.getfield 63, 3) := dk_180 0 63 (dk_at dksX4_lowers_5 4 rfl rfl)
theorem dX4_lowers_119 : decode cX4_lowers 119 = .ok (.aload_n 0, 1) := dk_42 (dk_at dksX4_lowers_5 7 rfl rfl)
theorem dX4_lowers_120 : decode cX4_lowers 120 = .ok (.getfield 60, 3) := dk_180 0 60 (dk_at dksX4_lowers_5 8 rfl rfl)
theorem dX4_lowers_123 : decode cX4_lowers 123 = .ok (.aload_n 0, 1) := dk_42 (dk_at dksX4_lowers_5 11 rfl rfl)
theorem dX4_lowers_124 : decode cX4_lowers 124 = .ok (.getfield 66, 3) := dk_180 0 66 (dk_at dksX4_lowers_5 12 rfl rfl)
theorem dX4_lowers_127 : decode cX4_lowers 127 = .ok (.invokestatic 187, 3) := dk_184 0 187 (dk_at dksX4_lowers_5 15 rfl rfl)
theorem dX4_lowers_130 : decode cX4_lowers 130 = .ok (.aload_n 2, 1) := dk_44 (dk_at dksX4_lowers_5 18 rfl rfl)
theorem dX4_lowers_131 : decode cX4_lowers 131 = .ok (.aload_n 0, 1) := dk_42 (dk_at dksX4_lowers_5 19 rfl rfl)
theorem dX4_lowers_132 : decode cX4_lowers 132 = .ok (.getfield 66, 3) := dk_180 0 66 (dk_at dksX4_lowers_5 20 rfl rfl)
theorem dX4_lowers_135 : decode cX4_lowers 135 = .ok (.invokestatic 183, 3) := dk_184 0 183 (dk_at dksX4_lowers_6 0 rfl rfl)
theorem dX4_lowers_138 : decode cX4_lowers 138 = .ok (.return_, 1) := dk_177 (dk_at dksX4_lowers_6 3 rfl rfl)
abbrev cX4_divides : ByteArray := prog_16_method_40_code
def yX4_divides : MethodName := ⟨RX4, "divides", "([I[I[I)V"⟩
def dkwX4_divides_6 : List UInt8 := [42, 3, 46, 184, 0, 179, 167, 255, 160, 177]
abbrev dktX4_divides_6 : List UInt8 := dkwX4_divides_6 ++ []
def dkwX4_divides_5 : List UInt8 := [4, 96, 46, 21, 5, 43, 21, 7, 4, 96, 46, 104, 100, 184, 0, 140, 79, 132, 7, 1, 167, 255, 214, 42]
abbrev dktX4_divides_5 : List UInt8 := dkwX4_divides_5 ++ dktX4_divides_6
def dkwX4_divides_4 : List UInt8 := [54, 7, 21, 7, 43, 3, 46, 163, 0, 40, 42, 21, 6, 21, 7, 96, 4, 96, 42, 21, 6, 21, 7, 96]
abbrev dktX4_divides_4 : List UInt8 := dkwX4_divides_4 ++ dktX4_divides_5
def dkwX4_divides_3 : List UInt8 := [104, 16, 31, 112, 54, 5, 42, 3, 46, 43, 3, 46, 100, 54, 6, 44, 21, 6, 4, 96, 21, 5, 79, 3]
abbrev dktX4_divides_3 : List UInt8 := dkwX4_divides_3 ++ dktX4_divides_4
def dkwX4_divides_2 : List UInt8 := [46, 184, 0, 93, 54, 4, 42, 3, 46, 43, 3, 46, 161, 0, 93, 42, 42, 3, 46, 4, 96, 46, 21, 4]
abbrev dktX4_divides_2 : List UInt8 := dkwX4_divides_2 ++ dktX4_divides_3
def dkwX4_divides_1 : List UInt8 := [132, 4, 1, 167, 255, 240, 44, 3, 29, 156, 0, 7, 2, 167, 0, 4, 29, 79, 43, 43, 3, 46, 4, 96]
abbrev dktX4_divides_1 : List UInt8 := dkwX4_divides_1 ++ dktX4_divides_2
def dkwX4_divides_0 : List UInt8 := [42, 3, 46, 43, 3, 46, 100, 62, 3, 54, 4, 21, 4, 29, 163, 0, 16, 44, 21, 4, 4, 96, 3, 79]
abbrev dktX4_divides_0 : List UInt8 := dkwX4_divides_0 ++ dktX4_divides_1
theorem dksX4_divides_0 : cX4_divides.data.toList.drop 0 = dktX4_divides_0 := by decide +kernel
theorem dksX4_divides_1 : cX4_divides.data.toList.drop 24 = dktX4_divides_1 := dk_seg dksX4_divides_0 24 rfl rfl
theorem dksX4_divides_2 : cX4_divides.data.toList.drop 48 = dktX4_divides_2 := dk_seg dksX4_divides_1 24 rfl rfl
theorem dksX4_divides_3 : cX4_divides.data.toList.drop 72 = dktX4_divides_3 := dk_seg dksX4_divides_2 24 rfl rfl
theorem dksX4_divides_4 : cX4_divides.data.toList.drop 96 = dktX4_divides_4 := dk_seg dksX4_divides_3 24 rfl rfl
theorem dksX4_divides_5 : cX4_divides.data.toList.drop 120 = dktX4_divides_5 := dk_seg dksX4_divides_4 24 rfl rfl
theorem dksX4_divides_6 : cX4_divides.data.toList.drop 144 = dktX4_divides_6 := dk_seg dksX4_divides_5 24 rfl rfl
theorem dX4_divides_0 : decode cX4_divides 0 = .ok (.aload_n 0, 1) := dk_42 (dk_at dksX4_divides_0 0 rfl rfl)
theorem dX4_divides_1 : decode cX4_divides 1 = .ok (.iconst 0, 1) := dk_3 (dk_at dksX4_divides_0 1 rfl rfl)
theorem dX4_divides_2 : decode cX4_divides 2 = .ok (.iaload, 1) := dk_46 (dk_at dksX4_divides_0 2 rfl rfl)
theorem dX4_divides_3 : decode cX4_divides 3 = .ok (.aload_n 1, 1) := dk_43 (dk_at dksX4_divides_0 3 rfl rfl)
theorem dX4_divides_4 : decode cX4_divides 4 = .ok (.iconst 0, 1) := dk_3 (dk_at dksX4_divides_0 4 rfl rfl)
theorem dX4_divides_5 : decode cX4_divides 5 = .ok (.iaload, 1) := dk_46 (dk_at dksX4_divides_0 5 rfl rfl)
theorem dX4_divides_6 : decode cX4_divides 6 = .ok (.isub, 1) := dk_100 (dk_at dksX4_divides_0 6 rfl rfl)
theorem dX4_divides_7 : decode cX4_divides 7 = .ok (.istore_n 3, 1) := dk_62 (dk_at dksX4_divides_0 7 rfl rfl)
theorem dX4_divides_8 : decode cX4_divides 8 = .ok (.iconst 0, 1) := dk_3 (dk_at dksX4_divides_0 8 rfl rfl)
theorem dX4_divides_9 : decode cX4_divides 9 = .ok (.istore 4, 2) := dk_54 4 (dk_at dksX4_divides_0 9 rfl rfl)
theorem dX4_divides_11 : decode cX4_divides 11 = .ok (.iload 4, 2) := dk_21 4 (dk_at dksX4_divides_0 11 rfl rfl)
theorem dX4_divides_13 : decode cX4_divides 13 = .ok (.iload_n 3, 1) := dk_29 (dk_at dksX4_divides_0 13 rfl rfl)
theorem dX4_divides_14 : decode cX4_divides 14 = .ok (.if_icmp .gt 16, 3) := dk_163 0 16 (dk_at dksX4_divides_0 14 rfl rfl)
theorem dX4_divides_17 : decode cX4_divides 17 = .ok (.aload_n 2, 1) := dk_44 (dk_at dksX4_divides_0 17 rfl rfl)
theorem dX4_divides_18 : decode cX4_divides 18 = .ok (.iload 4, 2) := dk_21 4 (dk_at dksX4_divides_0 18 rfl rfl)
theorem dX4_divides_20 : decode cX4_divides 20 = .ok (.iconst 1, 1) := dk_4 (dk_at dksX4_divides_0 20 rfl rfl)
theorem dX4_divides_21 : decode cX4_divides 21 = .ok (.iadd, 1) := dk_96 (dk_at dksX4_divides_0 21 rfl rfl)
theorem dX4_divides_22 : decode cX4_divides 22 = .ok (.iconst 0, 1) := dk_3 (dk_at dksX4_divides_0 22 rfl rfl)
theorem dX4_divides_23 : decode cX4_divides 23 = .ok (.iastore, 1) := dk_79 (dk_at dksX4_divides_0 23 rfl rfl)
theorem dX4_divides_24 : decode cX4_divides 24 = .ok (.iinc 4 1, 3) := dk_132 4 1 (dk_at dksX4_divides_1 0 rfl rfl)
theorem dX4_divides_27 : decode cX4_divides 27 = .ok (.goto (-16), 3) := dk_167 255 240 (dk_at dksX4_divides_1 3 rfl rfl)
theorem dX4_divides_30 : decode cX4_divides 30 = .ok (.aload_n 2, 1) := dk_44 (dk_at dksX4_divides_1 6 rfl rfl)
theorem dX4_divides_31 : decode cX4_divides 31 = .ok (.iconst 0, 1) := dk_3 (dk_at dksX4_divides_1 7 rfl rfl)
theorem dX4_divides_32 : decode cX4_divides 32 = .ok (.iload_n 3, 1) := dk_29 (dk_at dksX4_divides_1 8 rfl rfl)
theorem dX4_divides_33 : decode cX4_divides 33 = .ok (.ifCond .ge 7, 3) := dk_156 0 7 (dk_at dksX4_divides_1 9 rfl rfl)
theorem dX4_divides_36 : decode cX4_divides 36 = .ok (.iconst (-1), 1) := dk_2 (dk_at dksX4_divides_1 12 rfl rfl)
theorem dX4_divides_37 : decode cX4_divides 37 = .ok (.goto 4, 3) := dk_167 0 4 (dk_at dksX4_divides_1 13 rfl rfl)
theorem dX4_divides_40 : decode cX4_divides 40 = .ok (.iload_n 3, 1) := dk_29 (dk_at dksX4_divides_1 16 rfl rfl)
theorem dX4_divides_41 : decode cX4_divides 41 = .ok (.iastore, 1) := dk_79 (dk_at dksX4_divides_1 17 rfl rfl)
theorem dX4_divides_42 : decode cX4_divides 42 = .ok (.aload_n 1, 1) := dk_43 (dk_at dksX4_divides_1 18 rfl rfl)
theorem dX4_divides_43 : decode cX4_divides 43 = .ok (.aload_n 1, 1) := dk_43 (dk_at dksX4_divides_1 19 rfl rfl)
theorem dX4_divides_44 : decode cX4_divides 44 = .ok (.iconst 0, 1) := dk_3 (dk_at dksX4_divides_1 20 rfl rfl)
theorem dX4_divides_45 : decode cX4_divides 45 = .ok (.iaload, 1) := dk_46 (dk_at dksX4_divides_1 21 rfl rfl)
theorem dX4_divides_46 : decode cX4_divides 46 = .ok (.iconst 1, 1) := dk_4 (dk_at dksX4_divides_1 22 rfl rfl)
theorem dX4_divides_47 : decode cX4_divides 47 = .ok (.iadd, 1) := dk_96 (dk_at dksX4_divides_1 23 rfl rfl)
theorem dX4_divides_48 : decode cX4_divides 48 = .ok (.iaload, 1) := dk_46 (dk_at dksX4_divides_2 0 rfl rfl)
theorem dX4_divides_49 : decode cX4_divides 49 = .ok (.invokestatic 93, 3) := dk_184 0 93 (dk_at dksX4_divides_2 1 rfl rfl)
theorem dX4_divides_52 : decode cX4_divides 52 = .ok (.istore 4, 2) := dk_54 4 (dk_at dksX4_divides_2 4 rfl rfl)
theorem dX4_divides_54 : decode cX4_divides 54 = .ok (.aload_n 0, 1) := dk_42 (dk_at dksX4_divides_2 6 rfl rfl)
theorem dX4_divides_55 : decode cX4_divides 55 = .ok (.iconst 0, 1) := dk_3 (dk_at dksX4_divides_2 7 rfl rfl)
theorem dX4_divides_56 : decode cX4_divides 56 = .ok (.iaload, 1) := dk_46 (dk_at dksX4_divides_2 8 rfl rfl)
theorem dX4_divides_57 : decode cX4_divides 57 = .ok (.aload_n 1, 1) := dk_43 (dk_at dksX4_divides_2 9 rfl rfl)
theorem dX4_divides_58 : decode cX4_divides 58 = .ok (.iconst 0, 1) := dk_3 (dk_at dksX4_divides_2 10 rfl rfl)
theorem dX4_divides_59 : decode cX4_divides 59 = .ok (.iaload, 1) := dk_46 (dk_at dksX4_divides_2 11 rfl rfl)
theorem dX4_divides_60 : decode cX4_divides 60 = .ok (.if_icmp .lt 93, 3) := dk_161 0 93 (dk_at dksX4_divides_2 12 rfl rfl)
theorem dX4_divides_63 : decode cX4_divides 63 = .ok (.aload_n 0, 1) := dk_42 (dk_at dksX4_divides_2 15 rfl rfl)
theorem dX4_divides_64 : decode cX4_divides 64 = .ok (.aload_n 0, 1) := dk_42 (dk_at dksX4_divides_2 16 rfl rfl)
theorem dX4_divides_65 : decode cX4_divides 65 = .ok (.iconst 0, 1) := dk_3 (dk_at dksX4_divides_2 17 rfl rfl)
theorem dX4_divides_66 : decode cX4_divides 66 = .ok (.iaload, 1) := dk_46 (dk_at dksX4_divides_2 18 rfl rfl)
theorem dX4_divides_67 : decode cX4_divides 67 = .ok (.iconst 1, 1) := dk_4 (dk_at dksX4_divides_2 19 rfl rfl)
theorem dX4_divides_68 : decode cX4_divides 68 = .ok (.iadd, 1) := dk_96 (dk_at dksX4_divides_2 20 rfl rfl)
theorem dX4_divides_69 : decode cX4_divides 69 = .ok (.iaload, 1) := dk_46 (dk_at dksX4_divides_2 21 rfl rfl)
theorem dX4_divides_70 : decode cX4_divides 70 = .ok (.iload 4, 2) := dk_21 4 (dk_at dksX4_divides_2 22 rfl rfl)
theorem dX4_divides_72 : decode cX4_divides 72 = .ok (.imul, 1) := dk_104 (dk_at dksX4_divides_3 0 rfl rfl)
theorem dX4_divides_73 : decode cX4_divides 73 = .ok (.bipush 31, 2) := dk_16 31 (dk_at dksX4_divides_3 1 rfl rfl)
theorem dX4_divides_75 : decode cX4_divides 75 = .ok (.irem, 1) := dk_112 (dk_at dksX4_divides_3 3 rfl rfl)
theorem dX4_divides_76 : decode cX4_divides 76 = .ok (.istore 5, 2) := dk_54 5 (dk_at dksX4_divides_3 4 rfl rfl)
theorem dX4_divides_78 : decode cX4_divides 78 = .ok (.aload_n 0, 1) := dk_42 (dk_at dksX4_divides_3 6 rfl rfl)
theorem dX4_divides_79 : decode cX4_divides 79 = .ok (.iconst 0, 1) := dk_3 (dk_at dksX4_divides_3 7 rfl rfl)
theorem dX4_divides_80 : decode cX4_divides 80 = .ok (.iaload, 1) := dk_46 (dk_at dksX4_divides_3 8 rfl rfl)
theorem dX4_divides_81 : decode cX4_divides 81 = .ok (.aload_n 1, 1) := dk_43 (dk_at dksX4_divides_3 9 rfl rfl)
theorem dX4_divides_82 : decode cX4_divides 82 = .ok (.iconst 0, 1) := dk_3 (dk_at dksX4_divides_3 10 rfl rfl)
theorem dX4_divides_83 : decode cX4_divides 83 = .ok (.iaload, 1) := dk_46 (dk_at dksX4_divides_3 11 rfl rfl)
theorem dX4_divides_84 : decode cX4_divides 84 = .ok (.isub, 1) := dk_100 (dk_at dksX4_divides_3 12 rfl rfl)
theorem dX4_divides_85 : decode cX4_divides 85 = .ok (.istore 6, 2) := dk_54 6 (dk_at dksX4_divides_3 13 rfl rfl)
theorem dX4_divides_87 : decode cX4_divides 87 = .ok (.aload_n 2, 1) := dk_44 (dk_at dksX4_divides_3 15 rfl rfl)
theorem dX4_divides_88 : decode cX4_divides 88 = .ok (.iload 6, 2) := dk_21 6 (dk_at dksX4_divides_3 16 rfl rfl)
theorem dX4_divides_90 : decode cX4_divides 90 = .ok (.iconst 1, 1) := dk_4 (dk_at dksX4_divides_3 18 rfl rfl)
theorem dX4_divides_91 : decode cX4_divides 91 = .ok (.iadd, 1) := dk_96 (dk_at dksX4_divides_3 19 rfl rfl)
theorem dX4_divides_92 : decode cX4_divides 92 = .ok (.iload 5, 2) := dk_21 5 (dk_at dksX4_divides_3 20 rfl rfl)
theorem dX4_divides_94 : decode cX4_divides 94 = .ok (.iastore, 1) := dk_79 (dk_at dksX4_divides_3 22 rfl rfl)
theorem dX4_divides_95 : decode cX4_divides 95 = .ok (.iconst 0, 1) := dk_3 (dk_at dksX4_divides_3 23 rfl rfl)
theorem dX4_divides_96 : decode cX4_divides 96 = .ok (.istore 7, 2) := dk_54 7 (dk_at dksX4_divides_4 0 rfl rfl)
theorem dX4_divides_98 : decode cX4_divides 98 = .ok (.iload 7, 2) := dk_21 7 (dk_at dksX4_divides_4 2 rfl rfl)
theorem dX4_divides_100 : decode cX4_divides 100 = .ok (.aload_n 1, 1) := dk_43 (dk_at dksX4_divides_4 4 rfl rfl)
theorem dX4_divides_101 : decode cX4_divides 101 = .ok (.iconst 0, 1) := dk_3 (dk_at dksX4_divides_4 5 rfl rfl)
theorem dX4_divides_102 : decode cX4_divides 102 = .ok (.iaload, 1) := dk_46 (dk_at dksX4_divides_4 6 rfl rfl)
theorem dX4_divides_103 : decode cX4_divides 103 = .ok (.if_icmp .gt 40, 3) := dk_163 0 40 (dk_at dksX4_divides_4 7 rfl rfl)
theorem dX4_divides_106 : decode cX4_divides 106 = .ok (.aload_n 0, 1) := dk_42 (dk_at dksX4_divides_4 10 rfl rfl)
theorem dX4_divides_107 : decode cX4_divides 107 = .ok (.iload 6, 2) := dk_21 6 (dk_at dksX4_divides_4 11 rfl rfl)
theorem dX4_divides_109 : decode cX4_divides 109 = .ok (.iload 7, 2) := dk_21 7 (dk_at dksX4_divides_4 13 rfl rfl)
theorem dX4_divides_111 : decode cX4_divides 111 = .ok (.iadd, 1) := dk_96 (dk_at dksX4_divides_4 15 rfl rfl)
theorem dX4_divides_112 : decode cX4_divides 112 = .ok (.iconst 1, 1) := dk_4 (dk_at dksX4_divides_4 16 rfl rfl)
theorem dX4_divides_113 : decode cX4_divides 113 = .ok (.iadd, 1) := dk_96 (dk_at dksX4_divides_4 17 rfl rfl)
theorem dX4_divides_114 : decode cX4_divides 114 = .ok (.aload_n 0, 1) := dk_42 (dk_at dksX4_divides_4 18 rfl rfl)
theorem dX4_divides_115 : decode cX4_divides 115 = .ok (.iload 6, 2) := dk_21 6 (dk_at dksX4_divides_4 19 rfl rfl)
theorem dX4_divides_117 : decode cX4_divides 117 = .ok (.iload 7, 2) := dk_21 7 (dk_at dksX4_divides_4 21 rfl rfl)
theorem dX4_divides_119 : decode cX4_divides 119 = .ok (.iadd, 1) := dk_96 (dk_at dksX4_divides_4 23 rfl rfl)
theorem dX4_divides_120 : decode cX4_divides 120 = .ok (.iconst 1, 1) := dk_4 (dk_at dksX4_divides_5 0 rfl rfl)
theorem dX4_divides_121 : decode cX4_divides 121 = .ok (.iadd, 1) := dk_96 (dk_at dksX4_divides_5 1 rfl rfl)
theorem dX4_divides_122 : decode cX4_divides 122 = .ok (.iaload, 1) := dk_46 (dk_at dksX4_divides_5 2 rfl rfl)
theorem dX4_divides_123 : decode cX4_divides 123 = .ok (.iload 5, 2) := dk_21 5 (dk_at dksX4_divides_5 3 rfl rfl)
theorem dX4_divides_125 : decode cX4_divides 125 = .ok (.aload_n 1, 1) := dk_43 (dk_at dksX4_divides_5 5 rfl rfl)
theorem dX4_divides_126 : decode cX4_divides 126 = .ok (.iload 7, 2) := dk_21 7 (dk_at dksX4_divides_5 6 rfl rfl)
theorem dX4_divides_128 : decode cX4_divides 128 = .ok (.iconst 1, 1) := dk_4 (dk_at dksX4_divides_5 8 rfl rfl)
theorem dX4_divides_129 : decode cX4_divides 129 = .ok (.iadd, 1) := dk_96 (dk_at dksX4_divides_5 9 rfl rfl)
theorem dX4_divides_130 : decode cX4_divides 130 = .ok (.iaload, 1) := dk_46 (dk_at dksX4_divides_5 10 rfl rfl)
theorem dX4_divides_131 : decode cX4_divides 131 = .ok (.imul, 1) := dk_104 (dk_at dksX4_divides_5 11 rfl rfl)
theorem dX4_divides_132 : decode cX4_divides 132 = .ok (.isub, 1) := dk_100 (dk_at dksX4_divides_5 12 rfl rfl)
theorem dX4_divides_133 : decode cX4_divides 133 = .ok (.invokestatic 140, 3) := dk_184 0 140 (dk_at dksX4_divides_5 13 rfl rfl)
theorem dX4_divides_136 : decode cX4_divides 136 = .ok (.iastore, 1) := dk_79 (dk_at dksX4_divides_5 16 rfl rfl)
theorem dX4_divides_137 : decode cX4_divides 137 = .ok (.iinc 7 1, 3) := dk_132 7 1 (dk_at dksX4_divides_5 17 rfl rfl)
theorem dX4_divides_140 : decode cX4_divides 140 = .ok (.goto (-42), 3) := dk_167 255 214 (dk_at dksX4_divides_5 20 rfl rfl)
theorem dX4_divides_143 : decode cX4_divides 143 = .ok (.aload_n 0, 1) := dk_42 (dk_at dksX4_divides_5 23 rfl rfl)
theorem dX4_divides_144 : decode cX4_divides 144 = .ok (.aload_n 0, 1) := dk_42 (dk_at dksX4_divides_6 0 rfl rfl)
theorem dX4_divides_145 : decode cX4_divides 145 = .ok (.iconst 0, 1) := dk_3 (dk_at dksX4_divides_6 1 rfl rfl)
theorem dX4_divides_146 : decode cX4_divides 146 = .ok (.iaload, 1) := dk_46 (dk_at dksX4_divides_6 2 rfl rfl)
theorem dX4_divides_147 : decode cX4_divides 147 = .ok (.invokestatic 179, 3) := dk_184 0 179 (dk_at dksX4_divides_6 3 rfl rfl)
theorem dX4_divides_150 : decode cX4_divides 150 = .ok (.goto (-96), 3) := dk_167 255 160 (dk_at dksX4_divides_6 6 rfl rfl)
theorem dX4_divides_153 : decode cX4_divides 153 = .ok (.return_, 1) := dk_177 (dk_at dksX4_divides_6 9 rfl rfl)
abbrev cX4_tell : ByteArray := prog_16_method_48_code
def yX4_tell : MethodName := ⟨RX4, "tell", "(II)I"⟩
def dkwX4_tell_5 : List UInt8 := [79, 42, 180, 0, 11, 16, 18, 46, 172]
abbrev dktX4_tell_5 : List UInt8 := dkwX4_tell_5 ++ []
def dkwX4_tell_4 : List UInt8 := [167, 255, 224, 42, 180, 0, 11, 16, 19, 21, 4, 96, 29, 79, 42, 180, 0, 11, 16, 18, 92, 46, 4, 96]
abbrev dktX4_tell_4 : List UInt8 := dkwX4_tell_4 ++ dktX4_tell_5
def dkwX4_tell_3 : List UInt8 := [180, 0, 11, 16, 19, 21, 5, 96, 42, 180, 0, 11, 16, 19, 21, 5, 96, 4, 100, 46, 79, 132, 5, 255]
abbrev dktX4_tell_3 : List UInt8 := dkwX4_tell_3 ++ dktX4_tell_4
def dkwX4_tell_2 : List UInt8 := [182, 0, 218, 54, 4, 42, 180, 0, 11, 16, 18, 46, 54, 5, 21, 5, 21, 4, 164, 0, 31, 42]
abbrev dktX4_tell_2 : List UInt8 := dkwX4_tell_2 ++ dktX4_tell_3
def dkwX4_tell_1 : List UInt8 := [153, 0, 6, 16, 253, 172, 42, 180, 0, 11, 16, 18, 46, 16, 12, 160, 0, 6, 16, 252, 172, 42, 29]
abbrev dktX4_tell_1 : List UInt8 := dkwX4_tell_1 ++ dktX4_tell_2
def dkwX4_tell_0 : List UInt8 := [27, 28, 184, 0, 123, 154, 0, 5, 2, 172, 16, 32, 27, 104, 28, 96, 62, 42, 29, 182, 0, 221]
abbrev dktX4_tell_0 : List UInt8 := dkwX4_tell_0 ++ dktX4_tell_1
theorem dksX4_tell_0 : cX4_tell.data.toList.drop 0 = dktX4_tell_0 := by decide +kernel
theorem dksX4_tell_1 : cX4_tell.data.toList.drop 22 = dktX4_tell_1 := dk_seg dksX4_tell_0 22 rfl rfl
theorem dksX4_tell_2 : cX4_tell.data.toList.drop 45 = dktX4_tell_2 := dk_seg dksX4_tell_1 23 rfl rfl
theorem dksX4_tell_3 : cX4_tell.data.toList.drop 67 = dktX4_tell_3 := dk_seg dksX4_tell_2 22 rfl rfl
theorem dksX4_tell_4 : cX4_tell.data.toList.drop 91 = dktX4_tell_4 := dk_seg dksX4_tell_3 24 rfl rfl
theorem dksX4_tell_5 : cX4_tell.data.toList.drop 115 = dktX4_tell_5 := dk_seg dksX4_tell_4 24 rfl rfl
theorem dX4_tell_0 : decode cX4_tell 0 = .ok (.iload_n 1, 1) := dk_27 (dk_at dksX4_tell_0 0 rfl rfl)
theorem dX4_tell_1 : decode cX4_tell 1 = .ok (.iload_n 2, 1) := dk_28 (dk_at dksX4_tell_0 1 rfl rfl)
theorem dX4_tell_2 : decode cX4_tell 2 = .ok (.invokestatic 123, 3) := dk_184 0 123 (dk_at dksX4_tell_0 2 rfl rfl)
theorem dX4_tell_5 : decode cX4_tell 5 = .ok (.ifCond .ne 5, 3) := dk_154 0 5 (dk_at dksX4_tell_0 5 rfl rfl)
theorem dX4_tell_8 : decode cX4_tell 8 = .ok (.iconst (-1), 1) := dk_2 (dk_at dksX4_tell_0 8 rfl rfl)
theorem dX4_tell_9 : decode cX4_tell 9 = .ok (.ireturn, 1) := dk_172 (dk_at dksX4_tell_0 9 rfl rfl)
theorem dX4_tell_10 : decode cX4_tell 10 = .ok (.bipush 32, 2) := dk_16 32 (dk_at dksX4_tell_0 10 rfl rfl)
theorem dX4_tell_12 : decode cX4_tell 12 = .ok (.iload_n 1, 1) := dk_27 (dk_at dksX4_tell_0 12 rfl rfl)
theorem dX4_tell_13 : decode cX4_tell 13 = .ok (.imul, 1) := dk_104 (dk_at dksX4_tell_0 13 rfl rfl)
theorem dX4_tell_14 : decode cX4_tell 14 = .ok (.iload_n 2, 1) := dk_28 (dk_at dksX4_tell_0 14 rfl rfl)
theorem dX4_tell_15 : decode cX4_tell 15 = .ok (.iadd, 1) := dk_96 (dk_at dksX4_tell_0 15 rfl rfl)
theorem dX4_tell_16 : decode cX4_tell 16 = .ok (.istore_n 3, 1) := dk_62 (dk_at dksX4_tell_0 16 rfl rfl)
theorem dX4_tell_17 : decode cX4_tell 17 = .ok (.aload_n 0, 1) := dk_42 (dk_at dksX4_tell_0 17 rfl rfl)
theorem dX4_tell_18 : decode cX4_tell 18 = .ok (.iload_n 3, 1) := dk_29 (dk_at dksX4_tell_0 18 rfl rfl)
theorem dX4_tell_19 : decode cX4_tell 19 = .ok (.invokevirtual 221, 3) := dk_182 0 221 (dk_at dksX4_tell_0 19 rfl rfl)
theorem dX4_tell_22 : decode cX4_tell 22 = .ok (.ifCond .eq 6, 3) := dk_153 0 6 (dk_at dksX4_tell_1 0 rfl rfl)
theorem dX4_tell_25 : decode cX4_tell 25 = .ok (.bipush (-3), 2) := dk_16 253 (dk_at dksX4_tell_1 3 rfl rfl)
theorem dX4_tell_27 : decode cX4_tell 27 = .ok (.ireturn, 1) := dk_172 (dk_at dksX4_tell_1 5 rfl rfl)
theorem dX4_tell_28 : decode cX4_tell 28 = .ok (.aload_n 0, 1) := dk_42 (dk_at dksX4_tell_1 6 rfl rfl)
theorem dX4_tell_29 : decode cX4_tell 29 = .ok (.getfield 11, 3) := dk_180 0 11 (dk_at dksX4_tell_1 7 rfl rfl)
theorem dX4_tell_32 : decode cX4_tell 32 = .ok (.bipush 18, 2) := dk_16 18 (dk_at dksX4_tell_1 10 rfl rfl)
theorem dX4_tell_34 : decode cX4_tell 34 = .ok (.iaload, 1) := dk_46 (dk_at dksX4_tell_1 12 rfl rfl)
theorem dX4_tell_35 : decode cX4_tell 35 = .ok (.bipush 12, 2) := dk_16 12 (dk_at dksX4_tell_1 13 rfl rfl)
theorem dX4_tell_37 : decode cX4_tell 37 = .ok (.if_icmp .ne 6, 3) := dk_160 0 6 (dk_at dksX4_tell_1 15 rfl rfl)
theorem dX4_tell_40 : decode cX4_tell 40 = .ok (.bipush (-4), 2) := dk_16 252 (dk_at dksX4_tell_1 18 rfl rfl)
theorem dX4_tell_42 : decode cX4_tell 42 = .ok (.ireturn, 1) := dk_172 (dk_at dksX4_tell_1 20 rfl rfl)
theorem dX4_tell_43 : decode cX4_tell 43 = .ok (.aload_n 0, 1) := dk_42 (dk_at dksX4_tell_1 21 rfl rfl)
theorem dX4_tell_44 : decode cX4_tell 44 = .ok (.iload_n 3, 1) := dk_29 (dk_at dksX4_tell_1 22 rfl rfl)
theorem dX4_tell_45 : decode cX4_tell 45 = .ok (.invokevirtual 218, 3) := dk_182 0 218 (dk_at dksX4_tell_2 0 rfl rfl)
theorem dX4_tell_48 : decode cX4_tell 48 = .ok (.istore 4, 2) := dk_54 4 (dk_at dksX4_tell_2 3 rfl rfl)
theorem dX4_tell_50 : decode cX4_tell 50 = .ok (.aload_n 0, 1) := dk_42 (dk_at dksX4_tell_2 5 rfl rfl)
theorem dX4_tell_51 : decode cX4_tell 51 = .ok (.getfield 11, 3) := dk_180 0 11 (dk_at dksX4_tell_2 6 rfl rfl)
theorem dX4_tell_54 : decode cX4_tell 54 = .ok (.bipush 18, 2) := dk_16 18 (dk_at dksX4_tell_2 9 rfl rfl)
theorem dX4_tell_56 : decode cX4_tell 56 = .ok (.iaload, 1) := dk_46 (dk_at dksX4_tell_2 11 rfl rfl)
theorem dX4_tell_57 : decode cX4_tell 57 = .ok (.istore 5, 2) := dk_54 5 (dk_at dksX4_tell_2 12 rfl rfl)
theorem dX4_tell_59 : decode cX4_tell 59 = .ok (.iload 5, 2) := dk_21 5 (dk_at dksX4_tell_2 14 rfl rfl)
theorem dX4_tell_61 : decode cX4_tell 61 = .ok (.iload 4, 2) := dk_21 4 (dk_at dksX4_tell_2 16 rfl rfl)
theorem dX4_tell_63 : decode cX4_tell 63 = .ok (.if_icmp .le 31, 3) := dk_164 0 31 (dk_at dksX4_tell_2 18 rfl rfl)
theorem dX4_tell_66 : decode cX4_tell 66 = .ok (.aload_n 0, 1) := dk_42 (dk_at dksX4_tell_2 21 rfl rfl)
theorem dX4_tell_67 : decode cX4_tell 67 = .ok (.getfield 11, 3) := dk_180 0 11 (dk_at dksX4_tell_3 0 rfl rfl)
theorem dX4_tell_70 : decode cX4_tell 70 = .ok (.bipush 19, 2) := dk_16 19 (dk_at dksX4_tell_3 3 rfl rfl)
theorem dX4_tell_72 : decode cX4_tell 72 = .ok (.iload 5, 2) := dk_21 5 (dk_at dksX4_tell_3 5 rfl rfl)
theorem dX4_tell_74 : decode cX4_tell 74 = .ok (.iadd, 1) := dk_96 (dk_at dksX4_tell_3 7 rfl rfl)
theorem dX4_tell_75 : decode cX4_tell 75 = .ok (.aload_n 0, 1) := dk_42 (dk_at dksX4_tell_3 8 rfl rfl)
theorem dX4_tell_76 : decode cX4_tell 76 = .ok (.getfield 11, 3) := dk_180 0 11 (dk_at dksX4_tell_3 9 rfl rfl)
theorem dX4_tell_79 : decode cX4_tell 79 = .ok (.bipush 19, 2) := dk_16 19 (dk_at dksX4_tell_3 12 rfl rfl)
theorem dX4_tell_81 : decode cX4_tell 81 = .ok (.iload 5, 2) := dk_21 5 (dk_at dksX4_tell_3 14 rfl rfl)
theorem dX4_tell_83 : decode cX4_tell 83 = .ok (.iadd, 1) := dk_96 (dk_at dksX4_tell_3 16 rfl rfl)
theorem dX4_tell_84 : decode cX4_tell 84 = .ok (.iconst 1, 1) := dk_4 (dk_at dksX4_tell_3 17 rfl rfl)
theorem dX4_tell_85 : decode cX4_tell 85 = .ok (.isub, 1) := dk_100 (dk_at dksX4_tell_3 18 rfl rfl)
theorem dX4_tell_86 : decode cX4_tell 86 = .ok (.iaload, 1) := dk_46 (dk_at dksX4_tell_3 19 rfl rfl)
theorem dX4_tell_87 : decode cX4_tell 87 = .ok (.iastore, 1) := dk_79 (dk_at dksX4_tell_3 20 rfl rfl)
theorem dX4_tell_88 : decode cX4_tell 88 = .ok (.iinc 5 (-1), 3) := dk_132 5 255 (dk_at dksX4_tell_3 21 rfl rfl)
theorem dX4_tell_91 : decode cX4_tell 91 = .ok (.goto (-32), 3) := dk_167 255 224 (dk_at dksX4_tell_4 0 rfl rfl)
theorem dX4_tell_94 : decode cX4_tell 94 = .ok (.aload_n 0, 1) := dk_42 (dk_at dksX4_tell_4 3 rfl rfl)
theorem dX4_tell_95 : decode cX4_tell 95 = .ok (.getfield 11, 3) := dk_180 0 11 (dk_at dksX4_tell_4 4 rfl rfl)
theorem dX4_tell_98 : decode cX4_tell 98 = .ok (.bipush 19, 2) := dk_16 19 (dk_at dksX4_tell_4 7 rfl rfl)
theorem dX4_tell_100 : decode cX4_tell 100 = .ok (.iload 4, 2) := dk_21 4 (dk_at dksX4_tell_4 9 rfl rfl)
theorem dX4_tell_102 : decode cX4_tell 102 = .ok (.iadd, 1) := dk_96 (dk_at dksX4_tell_4 11 rfl rfl)
theorem dX4_tell_103 : decode cX4_tell 103 = .ok (.iload_n 3, 1) := dk_29 (dk_at dksX4_tell_4 12 rfl rfl)
theorem dX4_tell_104 : decode cX4_tell 104 = .ok (.iastore, 1) := dk_79 (dk_at dksX4_tell_4 13 rfl rfl)
theorem dX4_tell_105 : decode cX4_tell 105 = .ok (.aload_n 0, 1) := dk_42 (dk_at dksX4_tell_4 14 rfl rfl)
theorem dX4_tell_106 : decode cX4_tell 106 = .ok (.getfield 11, 3) := dk_180 0 11 (dk_at dksX4_tell_4 15 rfl rfl)
theorem dX4_tell_109 : decode cX4_tell 109 = .ok (.bipush 18, 2) := dk_16 18 (dk_at dksX4_tell_4 18 rfl rfl)
theorem dX4_tell_111 : decode cX4_tell 111 = .ok (.dup2, 1) := dk_92 (dk_at dksX4_tell_4 20 rfl rfl)
theorem dX4_tell_112 : decode cX4_tell 112 = .ok (.iaload, 1) := dk_46 (dk_at dksX4_tell_4 21 rfl rfl)
theorem dX4_tell_113 : decode cX4_tell 113 = .ok (.iconst 1, 1) := dk_4 (dk_at dksX4_tell_4 22 rfl rfl)
theorem dX4_tell_114 : decode cX4_tell 114 = .ok (.iadd, 1) := dk_96 (dk_at dksX4_tell_4 23 rfl rfl)
theorem dX4_tell_115 : decode cX4_tell 115 = .ok (.iastore, 1) := dk_79 (dk_at dksX4_tell_5 0 rfl rfl)
theorem dX4_tell_116 : decode cX4_tell 116 = .ok (.aload_n 0, 1) := dk_42 (dk_at dksX4_tell_5 1 rfl rfl)
theorem dX4_tell_117 : decode cX4_tell 117 = .ok (.getfield 11, 3) := dk_180 0 11 (dk_at dksX4_tell_5 2 rfl rfl)
theorem dX4_tell_120 : decode cX4_tell 120 = .ok (.bipush 18, 2) := dk_16 18 (dk_at dksX4_tell_5 5 rfl rfl)
theorem dX4_tell_122 : decode cX4_tell 122 = .ok (.iaload, 1) := dk_46 (dk_at dksX4_tell_5 7 rfl rfl)
theorem dX4_tell_123 : decode cX4_tell 123 = .ok (.ireturn, 1) := dk_172 (dk_at dksX4_tell_5 8 rfl rfl)
abbrev cX4_isTold : ByteArray := prog_16_method_47_code
def yX4_isTold : MethodName := ⟨RX4, "isTold", "(I)Z"⟩
def dkwX4_isTold_1 : List UInt8 := [96, 46, 27, 160, 0, 7, 4, 167, 0, 4, 3, 172]
abbrev dktX4_isTold_1 : List UInt8 := dkwX4_isTold_1 ++ []
def dkwX4_isTold_0 : List UInt8 := [42, 27, 182, 0, 218, 61, 28, 42, 180, 0, 11, 16, 18, 46, 162, 0, 20, 42, 180, 0, 11, 16, 19, 28]
abbrev dktX4_isTold_0 : List UInt8 := dkwX4_isTold_0 ++ dktX4_isTold_1
theorem dksX4_isTold_0 : cX4_isTold.data.toList.drop 0 = dktX4_isTold_0 := by decide +kernel
theorem dksX4_isTold_1 : cX4_isTold.data.toList.drop 24 = dktX4_isTold_1 := dk_seg dksX4_isTold_0 24 rfl rfl
theorem dX4_isTold_0 : decode cX4_isTold 0 = .ok (.aload_n 0, 1) := dk_42 (dk_at dksX4_isTold_0 0 rfl rfl)
theorem dX4_isTold_1 : decode cX4_isTold 1 = .ok (.iload_n 1, 1) := dk_27 (dk_at dksX4_isTold_0 1 rfl rfl)
theorem dX4_isTold_2 : decode cX4_isTold 2 = .ok (.invokevirtual 218, 3) := dk_182 0 218 (dk_at dksX4_isTold_0 2 rfl rfl)
theorem dX4_isTold_5 : decode cX4_isTold 5 = .ok (.istore_n 2, 1) := dk_61 (dk_at dksX4_isTold_0 5 rfl rfl)
theorem dX4_isTold_6 : decode cX4_isTold 6 = .ok (.iload_n 2, 1) := dk_28 (dk_at dksX4_isTold_0 6 rfl rfl)
theorem dX4_isTold_7 : decode cX4_isTold 7 = .ok (.aload_n 0, 1) := dk_42 (dk_at dksX4_isTold_0 7 rfl rfl)
theorem dX4_isTold_8 : decode cX4_isTold 8 = .ok (.getfield 11, 3) := dk_180 0 11 (dk_at dksX4_isTold_0 8 rfl rfl)
theorem dX4_isTold_11 : decode cX4_isTold 11 = .ok (.bipush 18, 2) := dk_16 18 (dk_at dksX4_isTold_0 11 rfl rfl)
theorem dX4_isTold_13 : decode cX4_isTold 13 = .ok (.iaload, 1) := dk_46 (dk_at dksX4_isTold_0 13 rfl rfl)
theorem dX4_isTold_14 : decode cX4_isTold 14 = .ok (.if_icmp .ge 20, 3) := dk_162 0 20 (dk_at dksX4_isTold_0 14 rfl rfl)
theorem dX4_isTold_17 : decode cX4_isTold 17 = .ok (.aload_n 0, 1) := dk_42 (dk_at dksX4_isTold_0 17 rfl rfl)
theorem dX4_isTold_18 : decode cX4_isTold 18 = .ok (.getfield 11, 3) := dk_180 0 11 (dk_at dksX4_isTold_0 18 rfl rfl)
theorem dX4_isTold_21 : decode cX4_isTold 21 = .ok (.bipush 19, 2) := dk_16 19 (dk_at dksX4_isTold_0 21 rfl rfl)
theorem dX4_isTold_23 : decode cX4_isTold 23 = .ok (.iload_n 2, 1) := dk_28 (dk_at dksX4_isTold_0 23 rfl rfl)
theorem dX4_isTold_24 : decode cX4_isTold 24 = .ok (.iadd, 1) := dk_96 (dk_at dksX4_isTold_1 0 rfl rfl)
theorem dX4_isTold_25 : decode cX4_isTold 25 = .ok (.iaload, 1) := dk_46 (dk_at dksX4_isTold_1 1 rfl rfl)
theorem dX4_isTold_26 : decode cX4_isTold 26 = .ok (.iload_n 1, 1) := dk_27 (dk_at dksX4_isTold_1 2 rfl rfl)
theorem dX4_isTold_27 : decode cX4_isTold 27 = .ok (.if_icmp .ne 7, 3) := dk_160 0 7 (dk_at dksX4_isTold_1 3 rfl rfl)
theorem dX4_isTold_30 : decode cX4_isTold 30 = .ok (.iconst 1, 1) := dk_4 (dk_at dksX4_isTold_1 6 rfl rfl)
theorem dX4_isTold_31 : decode cX4_isTold 31 = .ok (.goto 4, 3) := dk_167 0 4 (dk_at dksX4_isTold_1 7 rfl rfl)
theorem dX4_isTold_34 : decode cX4_isTold 34 = .ok (.iconst 0, 1) := dk_3 (dk_at dksX4_isTold_1 10 rfl rfl)
theorem dX4_isTold_35 : decode cX4_isTold 35 = .ok (.ireturn, 1) := dk_172 (dk_at dksX4_isTold_1 11 rfl rfl)
abbrev cX4_placeIn : ByteArray := prog_16_method_46_code
def yX4_placeIn : MethodName := ⟨RX4, "placeIn", "(I)I"⟩
def dkwX4_placeIn_1 : List UInt8 := [162, 0, 9, 132, 2, 1, 167, 255, 229, 28, 172]
abbrev dktX4_placeIn_1 : List UInt8 := dkwX4_placeIn_1 ++ []
def dkwX4_placeIn_0 : List UInt8 := [3, 61, 28, 42, 180, 0, 11, 16, 18, 46, 162, 0, 22, 42, 180, 0, 11, 16, 19, 28, 96, 46, 27]
abbrev dktX4_placeIn_0 : List UInt8 := dkwX4_placeIn_0 ++ dktX4_placeIn_1
theorem dksX4_placeIn_0 : cX4_placeIn.data.toList.drop 0 = dktX4_placeIn_0 := by decide +kernel
theorem dksX4_placeIn_1 : cX4_placeIn.data.toList.drop 23 = dktX4_placeIn_1 := dk_seg dksX4_placeIn_0 23 rfl rfl
theorem dX4_placeIn_0 : decode cX4_placeIn 0 = .ok (.iconst 0, 1) := dk_3 (dk_at dksX4_placeIn_0 0 rfl rfl)
theorem dX4_placeIn_1 : decode cX4_placeIn 1 = .ok (.istore_n 2, 1) := dk_61 (dk_at dksX4_placeIn_0 1 rfl rfl)
theorem dX4_placeIn_2 : decode cX4_placeIn 2 = .ok (.iload_n 2, 1) := dk_28 (dk_at dksX4_placeIn_0 2 rfl rfl)
theorem dX4_placeIn_3 : decode cX4_placeIn 3 = .ok (.aload_n 0, 1) := dk_42 (dk_at dksX4_placeIn_0 3 rfl rfl)
theorem dX4_placeIn_4 : decode cX4_placeIn 4 = .ok (.getfield 11, 3) := dk_180 0 11 (dk_at dksX4_placeIn_0 4 rfl rfl)
theorem dX4_placeIn_7 : decode cX4_placeIn 7 = .ok (.bipush 18, 2) := dk_16 18 (dk_at dksX4_placeIn_0 7 rfl rfl)
theorem dX4_placeIn_9 : decode cX4_placeIn 9 = .ok (.iaload, 1) := dk_46 (dk_at dksX4_placeIn_0 9 rfl rfl)
theorem dX4_placeIn_10 : decode cX4_placeIn 10 = .ok (.if_icmp .ge 22, 3) := dk_162 0 22 (dk_at dksX4_placeIn_0 10 rfl rfl)
theorem dX4_placeIn_13 : decode cX4_placeIn 13 = .ok (.aload_n 0, 1) := dk_42 (dk_at dksX4_placeIn_0 13 rfl rfl)
theorem dX4_placeIn_14 : decode cX4_placeIn 14 = .ok (.getfield 11, 3) := dk_180 0 11 (dk_at dksX4_placeIn_0 14 rfl rfl)
theorem dX4_placeIn_17 : decode cX4_placeIn 17 = .ok (.bipush 19, 2) := dk_16 19 (dk_at dksX4_placeIn_0 17 rfl rfl)
theorem dX4_placeIn_19 : decode cX4_placeIn 19 = .ok (.iload_n 2, 1) := dk_28 (dk_at dksX4_placeIn_0 19 rfl rfl)
theorem dX4_placeIn_20 : decode cX4_placeIn 20 = .ok (.iadd, 1) := dk_96 (dk_at dksX4_placeIn_0 20 rfl rfl)
theorem dX4_placeIn_21 : decode cX4_placeIn 21 = .ok (.iaload, 1) := dk_46 (dk_at dksX4_placeIn_0 21 rfl rfl)
theorem dX4_placeIn_22 : decode cX4_placeIn 22 = .ok (.iload_n 1, 1) := dk_27 (dk_at dksX4_placeIn_0 22 rfl rfl)
theorem dX4_placeIn_23 : decode cX4_placeIn 23 = .ok (.if_icmp .ge 9, 3) := dk_162 0 9 (dk_at dksX4_placeIn_1 0 rfl rfl)
theorem dX4_placeIn_26 : decode cX4_placeIn 26 = .ok (.iinc 2 1, 3) := dk_132 2 1 (dk_at dksX4_placeIn_1 3 rfl rfl)
theorem dX4_placeIn_29 : decode cX4_placeIn 29 = .ok (.goto (-27), 3) := dk_167 255 229 (dk_at dksX4_placeIn_1 6 rfl rfl)
theorem dX4_placeIn_32 : decode cX4_placeIn 32 = .ok (.iload_n 2, 1) := dk_28 (dk_at dksX4_placeIn_1 9 rfl rfl)
theorem dX4_placeIn_33 : decode cX4_placeIn 33 = .ok (.ireturn, 1) := dk_172 (dk_at dksX4_placeIn_1 10 rfl rfl)
abbrev cX4_forget : ByteArray := prog_16_method_49_code
def yX4_forget : MethodName := ⟨RX4, "forget", "(II)I"⟩
def dkwX4_forget_4 : List UInt8 := [42, 180, 0, 11, 16, 18, 46, 96, 3, 79, 42, 180, 0, 11, 16, 18, 46, 172]
abbrev dktX4_forget_4 : List UInt8 := dkwX4_forget_4 ++ []
def dkwX4_forget_3 : List UInt8 := [180, 0, 11, 16, 19, 21, 4, 96, 4, 96, 46, 79, 132, 4, 1, 167, 255, 219, 42, 180, 0, 11, 16, 19]
abbrev dktX4_forget_3 : List UInt8 := dkwX4_forget_3 ++ dktX4_forget_4
def dkwX4_forget_2 : List UInt8 := [21, 4, 42, 180, 0, 11, 16, 18, 46, 162, 0, 31, 42, 180, 0, 11, 16, 19, 21, 4, 96, 42]
abbrev dktX4_forget_2 : List UInt8 := dkwX4_forget_2 ++ dktX4_forget_3
def dkwX4_forget_1 : List UInt8 := [154, 0, 6, 16, 253, 172, 42, 180, 0, 11, 16, 18, 92, 46, 4, 100, 79, 42, 29, 182, 0, 218, 54, 4]
abbrev dktX4_forget_1 : List UInt8 := dkwX4_forget_1 ++ dktX4_forget_2
def dkwX4_forget_0 : List UInt8 := [27, 28, 184, 0, 123, 154, 0, 5, 2, 172, 16, 32, 27, 104, 28, 96, 62, 42, 29, 182, 0, 221]
abbrev dktX4_forget_0 : List UInt8 := dkwX4_forget_0 ++ dktX4_forget_1
theorem dksX4_forget_0 : cX4_forget.data.toList.drop 0 = dktX4_forget_0 := by decide +kernel
theorem dksX4_forget_1 : cX4_forget.data.toList.drop 22 = dktX4_forget_1 := dk_seg dksX4_forget_0 22 rfl rfl
theorem dksX4_forget_2 : cX4_forget.data.toList.drop 46 = dktX4_forget_2 := dk_seg dksX4_forget_1 24 rfl rfl
theorem dksX4_forget_3 : cX4_forget.data.toList.drop 68 = dktX4_forget_3 := dk_seg dksX4_forget_2 22 rfl rfl
theorem dksX4_forget_4 : cX4_forget.data.toList.drop 92 = dktX4_forget_4 := dk_seg dksX4_forget_3 24 rfl rfl
theorem dX4_forget_0 : decode cX4_forget 0 = .ok (.iload_n 1, 1) := dk_27 (dk_at dksX4_forget_0 0 rfl rfl)
theorem dX4_forget_1 : decode cX4_forget 1 = .ok (.iload_n 2, 1) := dk_28 (dk_at dksX4_forget_0 1 rfl rfl)
theorem dX4_forget_2 : decode cX4_forget 2 = .ok (.invokestatic 123, 3) := dk_184 0 123 (dk_at dksX4_forget_0 2 rfl rfl)
theorem dX4_forget_5 : decode cX4_forget 5 = .ok (.ifCond .ne 5, 3) := dk_154 0 5 (dk_at dksX4_forget_0 5 rfl rfl)
theorem dX4_forget_8 : decode cX4_forget 8 = .ok (.iconst (-1), 1) := dk_2 (dk_at dksX4_forget_0 8 rfl rfl)
theorem dX4_forget_9 : decode cX4_forget 9 = .ok (.ireturn, 1) := dk_172 (dk_at dksX4_forget_0 9 rfl rfl)
theorem dX4_forget_10 : decode cX4_forget 10 = .ok (.bipush 32, 2) := dk_16 32 (dk_at dksX4_forget_0 10 rfl rfl)
theorem dX4_forget_12 : decode cX4_forget 12 = .ok (.iload_n 1, 1) := dk_27 (dk_at dksX4_forget_0 12 rfl rfl)
theorem dX4_forget_13 : decode cX4_forget 13 = .ok (.imul, 1) := dk_104 (dk_at dksX4_forget_0 13 rfl rfl)
theorem dX4_forget_14 : decode cX4_forget 14 = .ok (.iload_n 2, 1) := dk_28 (dk_at dksX4_forget_0 14 rfl rfl)
theorem dX4_forget_15 : decode cX4_forget 15 = .ok (.iadd, 1) := dk_96 (dk_at dksX4_forget_0 15 rfl rfl)
theorem dX4_forget_16 : decode cX4_forget 16 = .ok (.istore_n 3, 1) := dk_62 (dk_at dksX4_forget_0 16 rfl rfl)
theorem dX4_forget_17 : decode cX4_forget 17 = .ok (.aload_n 0, 1) := dk_42 (dk_at dksX4_forget_0 17 rfl rfl)
theorem dX4_forget_18 : decode cX4_forget 18 = .ok (.iload_n 3, 1) := dk_29 (dk_at dksX4_forget_0 18 rfl rfl)
theorem dX4_forget_19 : decode cX4_forget 19 = .ok (.invokevirtual 221, 3) := dk_182 0 221 (dk_at dksX4_forget_0 19 rfl rfl)
theorem dX4_forget_22 : decode cX4_forget 22 = .ok (.ifCond .ne 6, 3) := dk_154 0 6 (dk_at dksX4_forget_1 0 rfl rfl)
theorem dX4_forget_25 : decode cX4_forget 25 = .ok (.bipush (-3), 2) := dk_16 253 (dk_at dksX4_forget_1 3 rfl rfl)
theorem dX4_forget_27 : decode cX4_forget 27 = .ok (.ireturn, 1) := dk_172 (dk_at dksX4_forget_1 5 rfl rfl)
theorem dX4_forget_28 : decode cX4_forget 28 = .ok (.aload_n 0, 1) := dk_42 (dk_at dksX4_forget_1 6 rfl rfl)
theorem dX4_forget_29 : decode cX4_forget 29 = .ok (.getfield 11, 3) := dk_180 0 11 (dk_at dksX4_forget_1 7 rfl rfl)
theorem dX4_forget_32 : decode cX4_forget 32 = .ok (.bipush 18, 2) := dk_16 18 (dk_at dksX4_forget_1 10 rfl rfl)
theorem dX4_forget_34 : decode cX4_forget 34 = .ok (.dup2, 1) := dk_92 (dk_at dksX4_forget_1 12 rfl rfl)
theorem dX4_forget_35 : decode cX4_forget 35 = .ok (.iaload, 1) := dk_46 (dk_at dksX4_forget_1 13 rfl rfl)
theorem dX4_forget_36 : decode cX4_forget 36 = .ok (.iconst 1, 1) := dk_4 (dk_at dksX4_forget_1 14 rfl rfl)
theorem dX4_forget_37 : decode cX4_forget 37 = .ok (.isub, 1) := dk_100 (dk_at dksX4_forget_1 15 rfl rfl)
theorem dX4_forget_38 : decode cX4_forget 38 = .ok (.iastore, 1) := dk_79 (dk_at dksX4_forget_1 16 rfl rfl)
theorem dX4_forget_39 : decode cX4_forget 39 = .ok (.aload_n 0, 1) := dk_42 (dk_at dksX4_forget_1 17 rfl rfl)
theorem dX4_forget_40 : decode cX4_forget 40 = .ok (.iload_n 3, 1) := dk_29 (dk_at dksX4_forget_1 18 rfl rfl)
theorem dX4_forget_41 : decode cX4_forget 41 = .ok (.invokevirtual 218, 3) := dk_182 0 218 (dk_at dksX4_forget_1 19 rfl rfl)
theorem dX4_forget_44 : decode cX4_forget 44 = .ok (.istore 4, 2) := dk_54 4 (dk_at dksX4_forget_1 22 rfl rfl)
theorem dX4_forget_46 : decode cX4_forget 46 = .ok (.iload 4, 2) := dk_21 4 (dk_at dksX4_forget_2 0 rfl rfl)
theorem dX4_forget_48 : decode cX4_forget 48 = .ok (.aload_n 0, 1) := dk_42 (dk_at dksX4_forget_2 2 rfl rfl)
theorem dX4_forget_49 : decode cX4_forget 49 = .ok (.getfield 11, 3) := dk_180 0 11 (dk_at dksX4_forget_2 3 rfl rfl)
theorem dX4_forget_52 : decode cX4_forget 52 = .ok (.bipush 18, 2) := dk_16 18 (dk_at dksX4_forget_2 6 rfl rfl)
theorem dX4_forget_54 : decode cX4_forget 54 = .ok (.iaload, 1) := dk_46 (dk_at dksX4_forget_2 8 rfl rfl)
theorem dX4_forget_55 : decode cX4_forget 55 = .ok (.if_icmp .ge 31, 3) := dk_162 0 31 (dk_at dksX4_forget_2 9 rfl rfl)
theorem dX4_forget_58 : decode cX4_forget 58 = .ok (.aload_n 0, 1) := dk_42 (dk_at dksX4_forget_2 12 rfl rfl)
theorem dX4_forget_59 : decode cX4_forget 59 = .ok (.getfield 11, 3) := dk_180 0 11 (dk_at dksX4_forget_2 13 rfl rfl)
theorem dX4_forget_62 : decode cX4_forget 62 = .ok (.bipush 19, 2) := dk_16 19 (dk_at dksX4_forget_2 16 rfl rfl)
theorem dX4_forget_64 : decode cX4_forget 64 = .ok (.iload 4, 2) := dk_21 4 (dk_at dksX4_forget_2 18 rfl rfl)
theorem dX4_forget_66 : decode cX4_forget 66 = .ok (.iadd, 1) := dk_96 (dk_at dksX4_forget_2 20 rfl rfl)
theorem dX4_forget_67 : decode cX4_forget 67 = .ok (.aload_n 0, 1) := dk_42 (dk_at dksX4_forget_2 21 rfl rfl)
theorem dX4_forget_68 : decode cX4_forget 68 = .ok (.getfield 11, 3) := dk_180 0 11 (dk_at dksX4_forget_3 0 rfl rfl)
theorem dX4_forget_71 : decode cX4_forget 71 = .ok (.bipush 19, 2) := dk_16 19 (dk_at dksX4_forget_3 3 rfl rfl)
theorem dX4_forget_73 : decode cX4_forget 73 = .ok (.iload 4, 2) := dk_21 4 (dk_at dksX4_forget_3 5 rfl rfl)
theorem dX4_forget_75 : decode cX4_forget 75 = .ok (.iadd, 1) := dk_96 (dk_at dksX4_forget_3 7 rfl rfl)
theorem dX4_forget_76 : decode cX4_forget 76 = .ok (.iconst 1, 1) := dk_4 (dk_at dksX4_forget_3 8 rfl rfl)
theorem dX4_forget_77 : decode cX4_forget 77 = .ok (.iadd, 1) := dk_96 (dk_at dksX4_forget_3 9 rfl rfl)
theorem dX4_forget_78 : decode cX4_forget 78 = .ok (.iaload, 1) := dk_46 (dk_at dksX4_forget_3 10 rfl rfl)
theorem dX4_forget_79 : decode cX4_forget 79 = .ok (.iastore, 1) := dk_79 (dk_at dksX4_forget_3 11 rfl rfl)
theorem dX4_forget_80 : decode cX4_forget 80 = .ok (.iinc 4 1, 3) := dk_132 4 1 (dk_at dksX4_forget_3 12 rfl rfl)
theorem dX4_forget_83 : decode cX4_forget 83 = .ok (.goto (-37), 3) := dk_167 255 219 (dk_at dksX4_forget_3 15 rfl rfl)
theorem dX4_forget_86 : decode cX4_forget 86 = .ok (.aload_n 0, 1) := dk_42 (dk_at dksX4_forget_3 18 rfl rfl)
theorem dX4_forget_87 : decode cX4_forget 87 = .ok (.getfield 11, 3) := dk_180 0 11 (dk_at dksX4_forget_3 19 rfl rfl)
theorem dX4_forget_90 : decode cX4_forget 90 = .ok (.bipush 19, 2) := dk_16 19 (dk_at dksX4_forget_3 22 rfl rfl)
theorem dX4_forget_92 : decode cX4_forget 92 = .ok (.aload_n 0, 1) := dk_42 (dk_at dksX4_forget_4 0 rfl rfl)
theorem dX4_forget_93 : decode cX4_forget 93 = .ok (.getfield 11, 3) := dk_180 0 11 (dk_at dksX4_forget_4 1 rfl rfl)
theorem dX4_forget_96 : decode cX4_forget 96 = .ok (.bipush 18, 2) := dk_16 18 (dk_at dksX4_forget_4 4 rfl rfl)
theorem dX4_forget_98 : decode cX4_forget 98 = .ok (.iaload, 1) := dk_46 (dk_at dksX4_forget_4 6 rfl rfl)
theorem dX4_forget_99 : decode cX4_forget 99 = .ok (.iadd, 1) := dk_96 (dk_at dksX4_forget_4 7 rfl rfl)
theorem dX4_forget_100 : decode cX4_forget 100 = .ok (.iconst 0, 1) := dk_3 (dk_at dksX4_forget_4 8 rfl rfl)
theorem dX4_forget_101 : decode cX4_forget 101 = .ok (.iastore, 1) := dk_79 (dk_at dksX4_forget_4 9 rfl rfl)
theorem dX4_forget_102 : decode cX4_forget 102 = .ok (.aload_n 0, 1) := dk_42 (dk_at dksX4_forget_4 10 rfl rfl)
theorem dX4_forget_103 : decode cX4_forget 103 = .ok (.getfield 11, 3) := dk_180 0 11 (dk_at dksX4_forget_4 11 rfl rfl)
theorem dX4_forget_106 : decode cX4_forget 106 = .ok (.bipush 18, 2) := dk_16 18 (dk_at dksX4_forget_4 14 rfl rfl)
theorem dX4_forget_108 : decode cX4_forget 108 = .ok (.iaload, 1) := dk_46 (dk_at dksX4_forget_4 16 rfl rfl)
theorem dX4_forget_109 : decode cX4_forget 109 = .ok (.ireturn, 1) := dk_172 (dk_at dksX4_forget_4 17 rfl rfl)
abbrev cX4_told : ByteArray := prog_16_method_50_code
def yX4_told : MethodName := ⟨RX4, "told", "(I)I"⟩
def dkwX4_told_1 : List UInt8 := [16, 19, 27, 96, 46, 167, 0, 5, 16, 251, 172]
abbrev dktX4_told_1 : List UInt8 := dkwX4_told_1 ++ []
def dkwX4_told_0 : List UInt8 := [27, 133, 9, 42, 180, 0, 11, 16, 18, 46, 4, 100, 133, 184, 0, 99, 153, 0, 15, 42, 180, 0, 11]
abbrev dktX4_told_0 : List UInt8 := dkwX4_told_0 ++ dktX4_told_1
theorem dksX4_told_0 : cX4_told.data.toList.drop 0 = dktX4_told_0 := by decide +kernel
theorem dksX4_told_1 : cX4_told.data.toList.drop 23 = dktX4_told_1 := dk_seg dksX4_told_0 23 rfl rfl
theorem dX4_told_0 : decode cX4_told 0 = .ok (.iload_n 1, 1) := dk_27 (dk_at dksX4_told_0 0 rfl rfl)
theorem dX4_told_1 : decode cX4_told 1 = .ok (.i2l, 1) := dk_133 (dk_at dksX4_told_0 1 rfl rfl)
theorem dX4_told_2 : decode cX4_told 2 = .ok (.lconst 0, 1) := dk_9 (dk_at dksX4_told_0 2 rfl rfl)
theorem dX4_told_3 : decode cX4_told 3 = .ok (.aload_n 0, 1) := dk_42 (dk_at dksX4_told_0 3 rfl rfl)
theorem dX4_told_4 : decode cX4_told 4 = .ok (.getfield 11, 3) := dk_180 0 11 (dk_at dksX4_told_0 4 rfl rfl)
theorem dX4_told_7 : decode cX4_told 7 = .ok (.bipush 18, 2) := dk_16 18 (dk_at dksX4_told_0 7 rfl rfl)
theorem dX4_told_9 : decode cX4_told 9 = .ok (.iaload, 1) := dk_46 (dk_at dksX4_told_0 9 rfl rfl)
theorem dX4_told_10 : decode cX4_told 10 = .ok (.iconst 1, 1) := dk_4 (dk_at dksX4_told_0 10 rfl rfl)
theorem dX4_told_11 : decode cX4_told 11 = .ok (.isub, 1) := dk_100 (dk_at dksX4_told_0 11 rfl rfl)
theorem dX4_told_12 : decode cX4_told 12 = .ok (.i2l, 1) := dk_133 (dk_at dksX4_told_0 12 rfl rfl)
theorem dX4_told_13 : decode cX4_told 13 = .ok (.invokestatic 99, 3) := dk_184 0 99 (dk_at dksX4_told_0 13 rfl rfl)
theorem dX4_told_16 : decode cX4_told 16 = .ok (.ifCond .eq 15, 3) := dk_153 0 15 (dk_at dksX4_told_0 16 rfl rfl)
theorem dX4_told_19 : decode cX4_told 19 = .ok (.aload_n 0, 1) := dk_42 (dk_at dksX4_told_0 19 rfl rfl)
theorem dX4_told_20 : decode cX4_told 20 = .ok (.getfield 11, 3) := dk_180 0 11 (dk_at dksX4_told_0 20 rfl rfl)
theorem dX4_told_23 : decode cX4_told 23 = .ok (.bipush 19, 2) := dk_16 19 (dk_at dksX4_told_1 0 rfl rfl)
theorem dX4_told_25 : decode cX4_told 25 = .ok (.iload_n 1, 1) := dk_27 (dk_at dksX4_told_1 2 rfl rfl)
theorem dX4_told_26 : decode cX4_told 26 = .ok (.iadd, 1) := dk_96 (dk_at dksX4_told_1 3 rfl rfl)
theorem dX4_told_27 : decode cX4_told 27 = .ok (.iaload, 1) := dk_46 (dk_at dksX4_told_1 4 rfl rfl)
theorem dX4_told_28 : decode cX4_told 28 = .ok (.goto 5, 3) := dk_167 0 5 (dk_at dksX4_told_1 5 rfl rfl)
theorem dX4_told_31 : decode cX4_told 31 = .ok (.bipush (-5), 2) := dk_16 251 (dk_at dksX4_told_1 8 rfl rfl)
theorem dX4_told_33 : decode cX4_told 33 = .ok (.ireturn, 1) := dk_172 (dk_at dksX4_told_1 10 rfl rfl)
abbrev cX4_moved : ByteArray := prog_16_method_52_code
def yX4_moved : MethodName := ⟨RX4, "moved", "(I)I"⟩
def dkwX4_moved_2 : List UInt8 := [167, 0, 5, 16, 251, 172]
abbrev dktX4_moved_2 : List UInt8 := dkwX4_moved_2 ++ []
def dkwX4_moved_1 : List UInt8 := [28, 27, 160, 0, 5, 29, 172, 132, 2, 1, 132, 3, 1, 167, 255, 227, 27, 2, 160, 0, 7, 28]
abbrev dktX4_moved_1 : List UInt8 := dkwX4_moved_1 ++ dktX4_moved_2
def dkwX4_moved_0 : List UInt8 := [42, 182, 0, 224, 3, 61, 3, 62, 29, 17, 4, 0, 162, 0, 28, 42, 180, 0, 75, 29, 51, 153, 0, 13]
abbrev dktX4_moved_0 : List UInt8 := dkwX4_moved_0 ++ dktX4_moved_1
theorem dksX4_moved_0 : cX4_moved.data.toList.drop 0 = dktX4_moved_0 := by decide +kernel
theorem dksX4_moved_1 : cX4_moved.data.toList.drop 24 = dktX4_moved_1 := dk_seg dksX4_moved_0 24 rfl rfl
theorem dksX4_moved_2 : cX4_moved.data.toList.drop 46 = dktX4_moved_2 := dk_seg dksX4_moved_1 22 rfl rfl
theorem dX4_moved_0 : decode cX4_moved 0 = .ok (.aload_n 0, 1) := dk_42 (dk_at dksX4_moved_0 0 rfl rfl)
theorem dX4_moved_1 : decode cX4_moved 1 = .ok (.invokevirtual 224, 3) := dk_182 0 224 (dk_at dksX4_moved_0 1 rfl rfl)
theorem dX4_moved_4 : decode cX4_moved 4 = .ok (.iconst 0, 1) := dk_3 (dk_at dksX4_moved_0 4 rfl rfl)
theorem dX4_moved_5 : decode cX4_moved 5 = .ok (.istore_n 2, 1) := dk_61 (dk_at dksX4_moved_0 5 rfl rfl)
theorem dX4_moved_6 : decode cX4_moved 6 = .ok (.iconst 0, 1) := dk_3 (dk_at dksX4_moved_0 6 rfl rfl)
theorem dX4_moved_7 : decode cX4_moved 7 = .ok (.istore_n 3, 1) := dk_62 (dk_at dksX4_moved_0 7 rfl rfl)
theorem dX4_moved_8 : decode cX4_moved 8 = .ok (.iload_n 3, 1) := dk_29 (dk_at dksX4_moved_0 8 rfl rfl)
theorem dX4_moved_9 : decode cX4_moved 9 = .ok (.sipush 1024, 3) := dk_17 4 0 (dk_at dksX4_moved_0 9 rfl rfl)
theorem dX4_moved_12 : decode cX4_moved 12 = .ok (.if_icmp .ge 28, 3) := dk_162 0 28 (dk_at dksX4_moved_0 12 rfl rfl)
theorem dX4_moved_15 : decode cX4_moved 15 = .ok (.aload_n 0, 1) := dk_42 (dk_at dksX4_moved_0 15 rfl rfl)
theorem dX4_moved_16 : decode cX4_moved 16 = .ok (.getfield 75, 3) := dk_180 0 75 (dk_at dksX4_moved_0 16 rfl rfl)
theorem dX4_moved_19 : decode cX4_moved 19 = .ok (.iload_n 3, 1) := dk_29 (dk_at dksX4_moved_0 19 rfl rfl)
theorem dX4_moved_20 : decode cX4_moved 20 = .ok (.baload, 1) := dk_51 (dk_at dksX4_moved_0 20 rfl rfl)
theorem dX4_moved_21 : decode cX4_moved 21 = .ok (.ifCond .eq 13, 3) := dk_153 0 13 (dk_at dksX4_moved_0 21 rfl rfl)
theorem dX4_moved_24 : decode cX4_moved 24 = .ok (.iload_n 2, 1) := dk_28 (dk_at dksX4_moved_1 0 rfl rfl)
theorem dX4_moved_25 : decode cX4_moved 25 = .ok (.iload_n 1, 1) := dk_27 (dk_at dksX4_moved_1 1 rfl rfl)
theorem dX4_moved_26 : decode cX4_moved 26 = .ok (.if_icmp .ne 5, 3) := dk_160 0 5 (dk_at dksX4_moved_1 2 rfl rfl)
theorem dX4_moved_29 : decode cX4_moved 29 = .ok (.iload_n 3, 1) := dk_29 (dk_at dksX4_moved_1 5 rfl rfl)
theorem dX4_moved_30 : decode cX4_moved 30 = .ok (.ireturn, 1) := dk_172 (dk_at dksX4_moved_1 6 rfl rfl)
theorem dX4_moved_31 : decode cX4_moved 31 = .ok (.iinc 2 1, 3) := dk_132 2 1 (dk_at dksX4_moved_1 7 rfl rfl)
theorem dX4_moved_34 : decode cX4_moved 34 = .ok (.iinc 3 1, 3) := dk_132 3 1 (dk_at dksX4_moved_1 10 rfl rfl)
theorem dX4_moved_37 : decode cX4_moved 37 = .ok (.goto (-29), 3) := dk_167 255 227 (dk_at dksX4_moved_1 13 rfl rfl)
theorem dX4_moved_40 : decode cX4_moved 40 = .ok (.iload_n 1, 1) := dk_27 (dk_at dksX4_moved_1 16 rfl rfl)
theorem dX4_moved_41 : decode cX4_moved 41 = .ok (.iconst (-1), 1) := dk_2 (dk_at dksX4_moved_1 17 rfl rfl)
theorem dX4_moved_42 : decode cX4_moved 42 = .ok (.if_icmp .ne 7, 3) := dk_160 0 7 (dk_at dksX4_moved_1 18 rfl rfl)
theorem dX4_moved_45 : decode cX4_moved 45 = .ok (.iload_n 2, 1) := dk_28 (dk_at dksX4_moved_1 21 rfl rfl)
theorem dX4_moved_46 : decode cX4_moved 46 = .ok (.goto 5, 3) := dk_167 0 5 (dk_at dksX4_moved_2 0 rfl rfl)
theorem dX4_moved_49 : decode cX4_moved 49 = .ok (.bipush (-5), 2) := dk_16 251 (dk_at dksX4_moved_2 3 rfl rfl)
theorem dX4_moved_51 : decode cX4_moved 51 = .ok (.ireturn, 1) := dk_172 (dk_at dksX4_moved_2 5 rfl rfl)
abbrev cX4_moves : ByteArray := prog_16_method_51_code
def yX4_moves : MethodName := ⟨RX4, "moves", "()V"⟩
def dkwX4_moves_2 : List UInt8 := [182, 0, 158, 61, 28, 16, 249, 159, 0, 10, 42, 180, 0, 75, 28, 4, 84, 132, 1, 1, 167, 255, 214, 177]
abbrev dktX4_moves_2 : List UInt8 := dkwX4_moves_2 ++ []
def dkwX4_moves_1 : List UInt8 := [27, 42, 180, 0, 11, 16, 18, 46, 162, 0, 37, 42, 42, 180, 0, 11, 16, 19, 27, 96, 46, 3]
abbrev dktX4_moves_1 : List UInt8 := dkwX4_moves_1 ++ dktX4_moves_2
def dkwX4_moves_0 : List UInt8 := [3, 60, 27, 17, 4, 0, 162, 0, 16, 42, 180, 0, 75, 27, 3, 84, 132, 1, 1, 167, 255, 239, 3, 60]
abbrev dktX4_moves_0 : List UInt8 := dkwX4_moves_0 ++ dktX4_moves_1
theorem dksX4_moves_0 : cX4_moves.data.toList.drop 0 = dktX4_moves_0 := by decide +kernel
theorem dksX4_moves_1 : cX4_moves.data.toList.drop 24 = dktX4_moves_1 := dk_seg dksX4_moves_0 24 rfl rfl
theorem dksX4_moves_2 : cX4_moves.data.toList.drop 46 = dktX4_moves_2 := dk_seg dksX4_moves_1 22 rfl rfl
theorem dX4_moves_0 : decode cX4_moves 0 = .ok (.iconst 0, 1) := dk_3 (dk_at dksX4_moves_0 0 rfl rfl)
theorem dX4_moves_1 : decode cX4_moves 1 = .ok (.istore_n 1, 1) := dk_60 (dk_at dksX4_moves_0 1 rfl rfl)
theorem dX4_moves_2 : decode cX4_moves 2 = .ok (.iload_n 1, 1) := dk_27 (dk_at dksX4_moves_0 2 rfl rfl)
theorem dX4_moves_3 : decode cX4_moves 3 = .ok (.sipush 1024, 3) := dk_17 4 0 (dk_at dksX4_moves_0 3 rfl rfl)
theorem dX4_moves_6 : decode cX4_moves 6 = .ok (.if_icmp .ge 16, 3) := dk_162 0 16 (dk_at dksX4_moves_0 6 rfl rfl)
theorem dX4_moves_9 : decode cX4_moves 9 = .ok (.aload_n 0, 1) := dk_42 (dk_at dksX4_moves_0 9 rfl rfl)
theorem dX4_moves_10 : decode cX4_moves 10 = .ok (.getfield 75, 3) := dk_180 0 75 (dk_at dksX4_moves_0 10 rfl rfl)
theorem dX4_moves_13 : decode cX4_moves 13 = .ok (.iload_n 1, 1) := dk_27 (dk_at dksX4_moves_0 13 rfl rfl)
theorem dX4_moves_14 : decode cX4_moves 14 = .ok (.iconst 0, 1) := dk_3 (dk_at dksX4_moves_0 14 rfl rfl)
theorem dX4_moves_15 : decode cX4_moves 15 = .ok (.bastore, 1) := dk_84 (dk_at dksX4_moves_0 15 rfl rfl)
theorem dX4_moves_16 : decode cX4_moves 16 = .ok (.iinc 1 1, 3) := dk_132 1 1 (dk_at dksX4_moves_0 16 rfl rfl)
theorem dX4_moves_19 : decode cX4_moves 19 = .ok (.goto (-17), 3) := dk_167 255 239 (dk_at dksX4_moves_0 19 rfl rfl)
theorem dX4_moves_22 : decode cX4_moves 22 = .ok (.iconst 0, 1) := dk_3 (dk_at dksX4_moves_0 22 rfl rfl)
theorem dX4_moves_23 : decode cX4_moves 23 = .ok (.istore_n 1, 1) := dk_60 (dk_at dksX4_moves_0 23 rfl rfl)
theorem dX4_moves_24 : decode cX4_moves 24 = .ok (.iload_n 1, 1) := dk_27 (dk_at dksX4_moves_1 0 rfl rfl)
theorem dX4_moves_25 : decode cX4_moves 25 = .ok (.aload_n 0, 1) := dk_42 (dk_at dksX4_moves_1 1 rfl rfl)
theorem dX4_moves_26 : decode cX4_moves 26 = .ok (.getfield 11, 3) := dk_180 0 11 (dk_at dksX4_moves_1 2 rfl rfl)
theorem dX4_moves_29 : decode cX4_moves 29 = .ok (.bipush 18, 2) := dk_16 18 (dk_at dksX4_moves_1 5 rfl rfl)
theorem dX4_moves_31 : decode cX4_moves 31 = .ok (.iaload, 1) := dk_46 (dk_at dksX4_moves_1 7 rfl rfl)
theorem dX4_moves_32 : decode cX4_moves 32 = .ok (.if_icmp .ge 37, 3) := dk_162 0 37 (dk_at dksX4_moves_1 8 rfl rfl)
theorem dX4_moves_35 : decode cX4_moves 35 = .ok (.aload_n 0, 1) := dk_42 (dk_at dksX4_moves_1 11 rfl rfl)
theorem dX4_moves_36 : decode cX4_moves 36 = .ok (.aload_n 0, 1) := dk_42 (dk_at dksX4_moves_1 12 rfl rfl)
theorem dX4_moves_37 : decode cX4_moves 37 = .ok (.getfield 11, 3) := dk_180 0 11 (dk_at dksX4_moves_1 13 rfl rfl)
theorem dX4_moves_40 : decode cX4_moves 40 = .ok (.bipush 19, 2) := dk_16 19 (dk_at dksX4_moves_1 16 rfl rfl)
theorem dX4_moves_42 : decode cX4_moves 42 = .ok (.iload_n 1, 1) := dk_27 (dk_at dksX4_moves_1 18 rfl rfl)
theorem dX4_moves_43 : decode cX4_moves 43 = .ok (.iadd, 1) := dk_96 (dk_at dksX4_moves_1 19 rfl rfl)
theorem dX4_moves_44 : decode cX4_moves 44 = .ok (.iaload, 1) := dk_46 (dk_at dksX4_moves_1 20 rfl rfl)
theorem dX4_moves_45 : decode cX4_moves 45 = .ok (.iconst 0, 1) := dk_3 (dk_at dksX4_moves_1 21 rfl rfl)
theorem dX4_moves_46 : decode cX4_moves 46 = .ok (.invokevirtual 158, 3) := dk_182 0 158 (dk_at dksX4_moves_2 0 rfl rfl)
theorem dX4_moves_49 : decode cX4_moves 49 = .ok (.istore_n 2, 1) := dk_61 (dk_at dksX4_moves_2 3 rfl rfl)
theorem dX4_moves_50 : decode cX4_moves 50 = .ok (.iload_n 2, 1) := dk_28 (dk_at dksX4_moves_2 4 rfl rfl)
theorem dX4_moves_51 : decode cX4_moves 51 = .ok (.bipush (-7), 2) := dk_16 249 (dk_at dksX4_moves_2 5 rfl rfl)
theorem dX4_moves_53 : decode cX4_moves 53 = .ok (.if_icmp .eq 10, 3) := dk_159 0 10 (dk_at dksX4_moves_2 7 rfl rfl)
theorem dX4_moves_56 : decode cX4_moves 56 = .ok (.aload_n 0, 1) := dk_42 (dk_at dksX4_moves_2 10 rfl rfl)
theorem dX4_moves_57 : decode cX4_moves 57 = .ok (.getfield 75, 3) := dk_180 0 75 (dk_at dksX4_moves_2 11 rfl rfl)
theorem dX4_moves_60 : decode cX4_moves 60 = .ok (.iload_n 2, 1) := dk_28 (dk_at dksX4_moves_2 14 rfl rfl)
theorem dX4_moves_61 : decode cX4_moves 61 = .ok (.iconst 1, 1) := dk_4 (dk_at dksX4_moves_2 15 rfl rfl)
theorem dX4_moves_62 : decode cX4_moves 62 = .ok (.bastore, 1) := dk_84 (dk_at dksX4_moves_2 16 rfl rfl)
theorem dX4_moves_63 : decode cX4_moves 63 = .ok (.iinc 1 1, 3) := dk_132 1 1 (dk_at dksX4_moves_2 17 rfl rfl)
theorem dX4_moves_66 : decode cX4_moves 66 = .ok (.goto (-42), 3) := dk_167 255 214 (dk_at dksX4_moves_2 20 rfl rfl)
theorem dX4_moves_69 : decode cX4_moves 69 = .ok (.return_, 1) := dk_177 (dk_at dksX4_moves_2 23 rfl rfl)
abbrev cX4_move : ByteArray := prog_16_method_53_code
def yX4_move : MethodName := ⟨RX4, "move", "()I"⟩
def dkwX4_move_4 : List UInt8 := [172]
abbrev dktX4_move_4 : List UInt8 := dkwX4_move_4 ++ []
def dkwX4_move_3 : List UInt8 := [42, 180, 0, 11, 16, 18, 92, 46, 4, 96, 79, 132, 1, 1, 167, 255, 210, 42, 180, 0, 11, 16, 18, 46]
abbrev dktX4_move_3 : List UInt8 := dkwX4_move_3 ++ dktX4_move_4
def dkwX4_move_2 : List UInt8 := [180, 0, 75, 27, 51, 153, 0, 30, 42, 180, 0, 11, 16, 19, 42, 180, 0, 11, 16, 18, 46, 96, 27, 79]
abbrev dktX4_move_2 : List UInt8 := dkwX4_move_2 ++ dktX4_move_3
def dkwX4_move_1 : List UInt8 := [132, 1, 1, 167, 255, 237, 42, 180, 0, 11, 16, 18, 3, 79, 3, 60, 27, 17, 4, 0, 162, 0, 45, 42]
abbrev dktX4_move_1 : List UInt8 := dkwX4_move_1 ++ dktX4_move_2
def dkwX4_move_0 : List UInt8 := [42, 182, 0, 224, 3, 60, 27, 16, 12, 162, 0, 19, 42, 180, 0, 11, 16, 19, 27, 96, 3, 79]
abbrev dktX4_move_0 : List UInt8 := dkwX4_move_0 ++ dktX4_move_1
theorem dksX4_move_0 : cX4_move.data.toList.drop 0 = dktX4_move_0 := by decide +kernel
theorem dksX4_move_1 : cX4_move.data.toList.drop 22 = dktX4_move_1 := dk_seg dksX4_move_0 22 rfl rfl
theorem dksX4_move_2 : cX4_move.data.toList.drop 46 = dktX4_move_2 := dk_seg dksX4_move_1 24 rfl rfl
theorem dksX4_move_3 : cX4_move.data.toList.drop 70 = dktX4_move_3 := dk_seg dksX4_move_2 24 rfl rfl
theorem dksX4_move_4 : cX4_move.data.toList.drop 94 = dktX4_move_4 := dk_seg dksX4_move_3 24 rfl rfl
theorem dX4_move_0 : decode cX4_move 0 = .ok (.aload_n 0, 1) := dk_42 (dk_at dksX4_move_0 0 rfl rfl)
theorem dX4_move_1 : decode cX4_move 1 = .ok (.invokevirtual 224, 3) := dk_182 0 224 (dk_at dksX4_move_0 1 rfl rfl)
theorem dX4_move_4 : decode cX4_move 4 = .ok (.iconst 0, 1) := dk_3 (dk_at dksX4_move_0 4 rfl rfl)
theorem dX4_move_5 : decode cX4_move 5 = .ok (.istore_n 1, 1) := dk_60 (dk_at dksX4_move_0 5 rfl rfl)
theorem dX4_move_6 : decode cX4_move 6 = .ok (.iload_n 1, 1) := dk_27 (dk_at dksX4_move_0 6 rfl rfl)
theorem dX4_move_7 : decode cX4_move 7 = .ok (.bipush 12, 2) := dk_16 12 (dk_at dksX4_move_0 7 rfl rfl)
theorem dX4_move_9 : decode cX4_move 9 = .ok (.if_icmp .ge 19, 3) := dk_162 0 19 (dk_at dksX4_move_0 9 rfl rfl)
theorem dX4_move_12 : decode cX4_move 12 = .ok (.aload_n 0, 1) := dk_42 (dk_at dksX4_move_0 12 rfl rfl)
theorem dX4_move_13 : decode cX4_move 13 = .ok (.getfield 11, 3) := dk_180 0 11 (dk_at dksX4_move_0 13 rfl rfl)
theorem dX4_move_16 : decode cX4_move 16 = .ok (.bipush 19, 2) := dk_16 19 (dk_at dksX4_move_0 16 rfl rfl)
theorem dX4_move_18 : decode cX4_move 18 = .ok (.iload_n 1, 1) := dk_27 (dk_at dksX4_move_0 18 rfl rfl)
theorem dX4_move_19 : decode cX4_move 19 = .ok (.iadd, 1) := dk_96 (dk_at dksX4_move_0 19 rfl rfl)
theorem dX4_move_20 : decode cX4_move 20 = .ok (.iconst 0, 1) := dk_3 (dk_at dksX4_move_0 20 rfl rfl)
theorem dX4_move_21 : decode cX4_move 21 = .ok (.iastore, 1) := dk_79 (dk_at dksX4_move_0 21 rfl rfl)
theorem dX4_move_22 : decode cX4_move 22 = .ok (.iinc 1 1, 3) := dk_132 1 1 (dk_at dksX4_move_1 0 rfl rfl)
theorem dX4_move_25 : decode cX4_move 25 = .ok (.goto (-19), 3) := dk_167 255 237 (dk_at dksX4_move_1 3 rfl rfl)
theorem dX4_move_28 : decode cX4_move 28 = .ok (.aload_n 0, 1) := dk_42 (dk_at dksX4_move_1 6 rfl rfl)
theorem dX4_move_29 : decode cX4_move 29 = .ok (.getfield 11, 3) := dk_180 0 11 (dk_at dksX4_move_1 7 rfl rfl)
theorem dX4_move_32 : decode cX4_move 32 = .ok (.bipush 18, 2) := dk_16 18 (dk_at dksX4_move_1 10 rfl rfl)
theorem dX4_move_34 : decode cX4_move 34 = .ok (.iconst 0, 1) := dk_3 (dk_at dksX4_move_1 12 rfl rfl)
theorem dX4_move_35 : decode cX4_move 35 = .ok (.iastore, 1) := dk_79 (dk_at dksX4_move_1 13 rfl rfl)
theorem dX4_move_36 : decode cX4_move 36 = .ok (.iconst 0, 1) := dk_3 (dk_at dksX4_move_1 14 rfl rfl)
theorem dX4_move_37 : decode cX4_move 37 = .ok (.istore_n 1, 1) := dk_60 (dk_at dksX4_move_1 15 rfl rfl)
theorem dX4_move_38 : decode cX4_move 38 = .ok (.iload_n 1, 1) := dk_27 (dk_at dksX4_move_1 16 rfl rfl)
theorem dX4_move_39 : decode cX4_move 39 = .ok (.sipush 1024, 3) := dk_17 4 0 (dk_at dksX4_move_1 17 rfl rfl)
theorem dX4_move_42 : decode cX4_move 42 = .ok (.if_icmp .ge 45, 3) := dk_162 0 45 (dk_at dksX4_move_1 20 rfl rfl)
theorem dX4_move_45 : decode cX4_move 45 = .ok (.aload_n 0, 1) := dk_42 (dk_at dksX4_move_1 23 rfl rfl)
theorem dX4_move_46 : decode cX4_move 46 = .ok (.getfield 75, 3) := dk_180 0 75 (dk_at dksX4_move_2 0 rfl rfl)
theorem dX4_move_49 : decode cX4_move 49 = .ok (.iload_n 1, 1) := dk_27 (dk_at dksX4_move_2 3 rfl rfl)
theorem dX4_move_50 : decode cX4_move 50 = .ok (.baload, 1) := dk_51 (dk_at dksX4_move_2 4 rfl rfl)
theorem dX4_move_51 : decode cX4_move 51 = .ok (.ifCond .eq 30, 3) := dk_153 0 30 (dk_at dksX4_move_2 5 rfl rfl)
theorem dX4_move_54 : decode cX4_move 54 = .ok (.aload_n 0, 1) := dk_42 (dk_at dksX4_move_2 8 rfl rfl)
theorem dX4_move_55 : decode cX4_move 55 = .ok (.getfield 11, 3) := dk_180 0 11 (dk_at dksX4_move_2 9 rfl rfl)
theorem dX4_move_58 : decode cX4_move 58 = .ok (.bipush 19, 2) := dk_16 19 (dk_at dksX4_move_2 12 rfl rfl)
theorem dX4_move_60 : decode cX4_move 60 = .ok (.aload_n 0, 1) := dk_42 (dk_at dksX4_move_2 14 rfl rfl)
theorem dX4_move_61 : decode cX4_move 61 = .ok (.getfield 11, 3) := dk_180 0 11 (dk_at dksX4_move_2 15 rfl rfl)
theorem dX4_move_64 : decode cX4_move 64 = .ok (.bipush 18, 2) := dk_16 18 (dk_at dksX4_move_2 18 rfl rfl)
theorem dX4_move_66 : decode cX4_move 66 = .ok (.iaload, 1) := dk_46 (dk_at dksX4_move_2 20 rfl rfl)
theorem dX4_move_67 : decode cX4_move 67 = .ok (.iadd, 1) := dk_96 (dk_at dksX4_move_2 21 rfl rfl)
theorem dX4_move_68 : decode cX4_move 68 = .ok (.iload_n 1, 1) := dk_27 (dk_at dksX4_move_2 22 rfl rfl)
theorem dX4_move_69 : decode cX4_move 69 = .ok (.iastore, 1) := dk_79 (dk_at dksX4_move_2 23 rfl rfl)
theorem dX4_move_70 : decode cX4_move 70 = .ok (.aload_n 0, 1) := dk_42 (dk_at dksX4_move_3 0 rfl rfl)
theorem dX4_move_71 : decode cX4_move 71 = .ok (.getfield 11, 3) := dk_180 0 11 (dk_at dksX4_move_3 1 rfl rfl)
theorem dX4_move_74 : decode cX4_move 74 = .ok (.bipush 18, 2) := dk_16 18 (dk_at dksX4_move_3 4 rfl rfl)
theorem dX4_move_76 : decode cX4_move 76 = .ok (.dup2, 1) := dk_92 (dk_at dksX4_move_3 6 rfl rfl)
theorem dX4_move_77 : decode cX4_move 77 = .ok (.iaload, 1) := dk_46 (dk_at dksX4_move_3 7 rfl rfl)
theorem dX4_move_78 : decode cX4_move 78 = .ok (.iconst 1, 1) := dk_4 (dk_at dksX4_move_3 8 rfl rfl)
theorem dX4_move_79 : decode cX4_move 79 = .ok (.iadd, 1) := dk_96 (dk_at dksX4_move_3 9 rfl rfl)
theorem dX4_move_80 : decode cX4_move 80 = .ok (.iastore, 1) := dk_79 (dk_at dksX4_move_3 10 rfl rfl)
theorem dX4_move_81 : decode cX4_move 81 = .ok (.iinc 1 1, 3) := dk_132 1 1 (dk_at dksX4_move_3 11 rfl rfl)
theorem dX4_move_84 : decode cX4_move 84 = .ok (.goto (-46), 3) := dk_167 255 210 (dk_at dksX4_move_3 14 rfl rfl)
theorem dX4_move_87 : decode cX4_move 87 = .ok (.aload_n 0, 1) := dk_42 (dk_at dksX4_move_3 17 rfl rfl)
theorem dX4_move_88 : decode cX4_move 88 = .ok (.getfield 11, 3) := dk_180 0 11 (dk_at dksX4_move_3 18 rfl rfl)
theorem dX4_move_91 : decode cX4_move 91 = .ok (.bipush 18, 2) := dk_16 18 (dk_at dksX4_move_3 21 rfl rfl)
theorem dX4_move_93 : decode cX4_move 93 = .ok (.iaload, 1) := dk_46 (dk_at dksX4_move_3 23 rfl rfl)
theorem dX4_move_94 : decode cX4_move 94 = .ok (.ireturn, 1) := dk_172 (dk_at dksX4_move_4 0 rfl rfl)
abbrev cX4_grows : ByteArray := prog_16_method_54_code
def yX4_grows : MethodName := ⟨RX4, "grows", "(I)I"⟩
def dkwX4_grows_7 : List UInt8 := [132, 6, 1, 167, 255, 196, 21, 5, 62, 132, 4, 1, 167, 255, 175, 28, 172]
abbrev dktX4_grows_7 : List UInt8 := dkwX4_grows_7 ++ []
def dkwX4_grows_6 : List UInt8 := [154, 0, 22, 42, 180, 0, 75, 21, 7, 4, 84, 42, 180, 0, 24, 28, 21, 7, 79, 132, 2, 1]
abbrev dktX4_grows_6 : List UInt8 := dkwX4_grows_6 ++ dktX4_grows_7
def dkwX4_grows_5 : List UInt8 := [21, 6, 46, 3, 182, 0, 158, 54, 7, 21, 7, 16, 249, 159, 0, 32, 42, 180, 0, 75, 21, 7, 51]
abbrev dktX4_grows_5 : List UInt8 := dkwX4_grows_5 ++ dktX4_grows_6
def dkwX4_grows_4 : List UInt8 := [21, 4, 27, 162, 0, 81, 28, 54, 5, 29, 54, 6, 21, 6, 21, 5, 162, 0, 59, 42, 42, 180, 0, 24]
abbrev dktX4_grows_4 : List UInt8 := dkwX4_grows_4 ++ dktX4_grows_5
def dkwX4_grows_3 : List UInt8 := [42, 180, 0, 11, 16, 19, 29, 96, 46, 79, 132, 2, 1, 132, 3, 1, 167, 255, 209, 3, 62, 3, 54, 4]
abbrev dktX4_grows_3 : List UInt8 := dkwX4_grows_3 ++ dktX4_grows_4
def dkwX4_grows_2 : List UInt8 := [46, 162, 0, 42, 42, 180, 0, 75, 42, 180, 0, 11, 16, 19, 29, 96, 46, 4, 84, 42, 180, 0, 24, 28]
abbrev dktX4_grows_2 : List UInt8 := dkwX4_grows_2 ++ dktX4_grows_3
def dkwX4_grows_1 : List UInt8 := [42, 180, 0, 75, 28, 3, 84, 132, 2, 1, 167, 255, 239, 3, 61, 3, 62, 29, 42, 180, 0, 11, 16, 18]
abbrev dktX4_grows_1 : List UInt8 := dkwX4_grows_1 ++ dktX4_grows_2
def dkwX4_grows_0 : List UInt8 := [27, 133, 9, 20, 0, 227, 184, 0, 99, 154, 0, 6, 16, 254, 172, 3, 61, 28, 17, 4, 0, 162, 0, 16]
abbrev dktX4_grows_0 : List UInt8 := dkwX4_grows_0 ++ dktX4_grows_1
theorem dksX4_grows_0 : cX4_grows.data.toList.drop 0 = dktX4_grows_0 := by decide +kernel
theorem dksX4_grows_1 : cX4_grows.data.toList.drop 24 = dktX4_grows_1 := dk_seg dksX4_grows_0 24 rfl rfl
theorem dksX4_grows_2 : cX4_grows.data.toList.drop 48 = dktX4_grows_2 := dk_seg dksX4_grows_1 24 rfl rfl
theorem dksX4_grows_3 : cX4_grows.data.toList.drop 72 = dktX4_grows_3 := dk_seg dksX4_grows_2 24 rfl rfl
theorem dksX4_grows_4 : cX4_grows.data.toList.drop 96 = dktX4_grows_4 := dk_seg dksX4_grows_3 24 rfl rfl
theorem dksX4_grows_5 : cX4_grows.data.toList.drop 120 = dktX4_grows_5 := dk_seg dksX4_grows_4 24 rfl rfl
theorem dksX4_grows_6 : cX4_grows.data.toList.drop 143 = dktX4_grows_6 := dk_seg dksX4_grows_5 23 rfl rfl
theorem dksX4_grows_7 : cX4_grows.data.toList.drop 165 = dktX4_grows_7 := dk_seg dksX4_grows_6 22 rfl rfl
theorem dX4_grows_0 : decode cX4_grows 0 = .ok (.iload_n 1, 1) := dk_27 (dk_at dksX4_grows_0 0 rfl rfl)
theorem dX4_grows_1 : decode cX4_grows 1 = .ok (.i2l, 1) := dk_133 (dk_at dksX4_grows_0 1 rfl rfl)
theorem dX4_grows_2 : decode cX4_grows 2 = .ok (.lconst 0, 1) := dk_9 (dk_at dksX4_grows_0 2 rfl rfl)
theorem dX4_grows_3 : decode cX4_grows 3 = .ok (.ldc2_w 227, 3) := dk_20 0 227 (dk_at dksX4_grows_0 3 rfl rfl)
theorem dX4_grows_6 : decode cX4_grows 6 = .ok (.invokestatic 99, 3) := dk_184 0 99 (dk_at dksX4_grows_0 6 rfl rfl)
theorem dX4_grows_9 : decode cX4_grows 9 = .ok (.ifCond .ne 6, 3) := dk_154 0 6 (dk_at dksX4_grows_0 9 rfl rfl)
theorem dX4_grows_12 : decode cX4_grows 12 = .ok (.bipush (-2), 2) := dk_16 254 (dk_at dksX4_grows_0 12 rfl rfl)
theorem dX4_grows_14 : decode cX4_grows 14 = .ok (.ireturn, 1) := dk_172 (dk_at dksX4_grows_0 14 rfl rfl)
theorem dX4_grows_15 : decode cX4_grows 15 = .ok (.iconst 0, 1) := dk_3 (dk_at dksX4_grows_0 15 rfl rfl)
theorem dX4_grows_16 : decode cX4_grows 16 = .ok (.istore_n 2, 1) := dk_61 (dk_at dksX4_grows_0 16 rfl rfl)
theorem dX4_grows_17 : decode cX4_grows 17 = .ok (.iload_n 2, 1) := dk_28 (dk_at dksX4_grows_0 17 rfl rfl)
theorem dX4_grows_18 : decode cX4_grows 18 = .ok (.sipush 1024, 3) := dk_17 4 0 (dk_at dksX4_grows_0 18 rfl rfl)
theorem dX4_grows_21 : decode cX4_grows 21 = .ok (.if_icmp .ge 16, 3) := dk_162 0 16 (dk_at dksX4_grows_0 21 rfl rfl)
theorem dX4_grows_24 : decode cX4_grows 24 = .ok (.aload_n 0, 1) := dk_42 (dk_at dksX4_grows_1 0 rfl rfl)
theorem dX4_grows_25 : decode cX4_grows 25 = .ok (.getfield 75, 3) := dk_180 0 75 (dk_at dksX4_grows_1 1 rfl rfl)
theorem dX4_grows_28 : decode cX4_grows 28 = .ok (.iload_n 2, 1) := dk_28 (dk_at dksX4_grows_1 4 rfl rfl)
theorem dX4_grows_29 : decode cX4_grows 29 = .ok (.iconst 0, 1) := dk_3 (dk_at dksX4_grows_1 5 rfl rfl)
theorem dX4_grows_30 : decode cX4_grows 30 = .ok (.bastore, 1) := dk_84 (dk_at dksX4_grows_1 6 rfl rfl)
theorem dX4_grows_31 : decode cX4_grows 31 = .ok (.iinc 2 1, 3) := dk_132 2 1 (dk_at dksX4_grows_1 7 rfl rfl)
theorem dX4_grows_34 : decode cX4_grows 34 = .ok (.goto (-17), 3) := dk_167 255 239 (dk_at dksX4_grows_1 10 rfl rfl)
theorem dX4_grows_37 : decode cX4_grows 37 = .ok (.iconst 0, 1) := dk_3 (dk_at dksX4_grows_1 13 rfl rfl)
theorem dX4_grows_38 : decode cX4_grows 38 = .ok (.istore_n 2, 1) := dk_61 (dk_at dksX4_grows_1 14 rfl rfl)
theorem dX4_grows_39 : decode cX4_grows 39 = .ok (.iconst 0, 1) := dk_3 (dk_at dksX4_grows_1 15 rfl rfl)
theorem dX4_grows_40 : decode cX4_grows 40 = .ok (.istore_n 3, 1) := dk_62 (dk_at dksX4_grows_1 16 rfl rfl)
theorem dX4_grows_41 : decode cX4_grows 41 = .ok (.iload_n 3, 1) := dk_29 (dk_at dksX4_grows_1 17 rfl rfl)
theorem dX4_grows_42 : decode cX4_grows 42 = .ok (.aload_n 0, 1) := dk_42 (dk_at dksX4_grows_1 18 rfl rfl)
theorem dX4_grows_43 : decode cX4_grows 43 = .ok (.getfield 11, 3) := dk_180 0 11 (dk_at dksX4_grows_1 19 rfl rfl)
theorem dX4_grows_46 : decode cX4_grows 46 = .ok (.bipush 18, 2) := dk_16 18 (dk_at dksX4_grows_1 22 rfl rfl)
theorem dX4_grows_48 : decode cX4_grows 48 = .ok (.iaload, 1) := dk_46 (dk_at dksX4_grows_2 0 rfl rfl)
theorem dX4_grows_49 : decode cX4_grows 49 = .ok (.if_icmp .ge 42, 3) := dk_162 0 42 (dk_at dksX4_grows_2 1 rfl rfl)
theorem dX4_grows_52 : decode cX4_grows 52 = .ok (.aload_n 0, 1) := dk_42 (dk_at dksX4_grows_2 4 rfl rfl)
theorem dX4_grows_53 : decode cX4_grows 53 = .ok (.getfield 75, 3) := dk_180 0 75 (dk_at dksX4_grows_2 5 rfl rfl)
theorem dX4_grows_56 : decode cX4_grows 56 = .ok (.aload_n 0, 1) := dk_42 (dk_at dksX4_grows_2 8 rfl rfl)
theorem dX4_grows_57 : decode cX4_grows 57 = .ok (.getfield 11, 3) := dk_180 0 11 (dk_at dksX4_grows_2 9 rfl rfl)
theorem dX4_grows_60 : decode cX4_grows 60 = .ok (.bipush 19, 2) := dk_16 19 (dk_at dksX4_grows_2 12 rfl rfl)
theorem dX4_grows_62 : decode cX4_grows 62 = .ok (.iload_n 3, 1) := dk_29 (dk_at dksX4_grows_2 14 rfl rfl)
theorem dX4_grows_63 : decode cX4_grows 63 = .ok (.iadd, 1) := dk_96 (dk_at dksX4_grows_2 15 rfl rfl)
theorem dX4_grows_64 : decode cX4_grows 64 = .ok (.iaload, 1) := dk_46 (dk_at dksX4_grows_2 16 rfl rfl)
theorem dX4_grows_65 : decode cX4_grows 65 = .ok (.iconst 1, 1) := dk_4 (dk_at dksX4_grows_2 17 rfl rfl)
theorem dX4_grows_66 : decode cX4_grows 66 = .ok (.bastore, 1) := dk_84 (dk_at dksX4_grows_2 18 rfl rfl)
theorem dX4_grows_67 : decode cX4_grows 67 = .ok (.aload_n 0, 1) := dk_42 (dk_at dksX4_grows_2 19 rfl rfl)
theorem dX4_grows_68 : decode cX4_grows 68 = .ok (.getfield 24, 3) := dk_180 0 24 (dk_at dksX4_grows_2 20 rfl rfl)
theorem dX4_grows_71 : decode cX4_grows 71 = .ok (.iload_n 2, 1) := dk_28 (dk_at dksX4_grows_2 23 rfl rfl)
theorem dX4_grows_72 : decode cX4_grows 72 = .ok (.aload_n 0, 1) := dk_42 (dk_at dksX4_grows_3 0 rfl rfl)
theorem dX4_grows_73 : decode cX4_grows 73 = .ok (.getfield 11, 3) := dk_180 0 11 (dk_at dksX4_grows_3 1 rfl rfl)
theorem dX4_grows_76 : decode cX4_grows 76 = .ok (.bipush 19, 2) := dk_16 19 (dk_at dksX4_grows_3 4 rfl rfl)
theorem dX4_grows_78 : decode cX4_grows 78 = .ok (.iload_n 3, 1) := dk_29 (dk_at dksX4_grows_3 6 rfl rfl)
theorem dX4_grows_79 : decode cX4_grows 79 = .ok (.iadd, 1) := dk_96 (dk_at dksX4_grows_3 7 rfl rfl)
theorem dX4_grows_80 : decode cX4_grows 80 = .ok (.iaload, 1) := dk_46 (dk_at dksX4_grows_3 8 rfl rfl)
theorem dX4_grows_81 : decode cX4_grows 81 = .ok (.iastore, 1) := dk_79 (dk_at dksX4_grows_3 9 rfl rfl)
theorem dX4_grows_82 : decode cX4_grows 82 = .ok (.iinc 2 1, 3) := dk_132 2 1 (dk_at dksX4_grows_3 10 rfl rfl)
theorem dX4_grows_85 : decode cX4_grows 85 = .ok (.iinc 3 1, 3) := dk_132 3 1 (dk_at dksX4_grows_3 13 rfl rfl)
theorem dX4_grows_88 : decode cX4_grows 88 = .ok (.goto (-47), 3) := dk_167 255 209 (dk_at dksX4_grows_3 16 rfl rfl)
theorem dX4_grows_91 : decode cX4_grows 91 = .ok (.iconst 0, 1) := dk_3 (dk_at dksX4_grows_3 19 rfl rfl)
theorem dX4_grows_92 : decode cX4_grows 92 = .ok (.istore_n 3, 1) := dk_62 (dk_at dksX4_grows_3 20 rfl rfl)
theorem dX4_grows_93 : decode cX4_grows 93 = .ok (.iconst 0, 1) := dk_3 (dk_at dksX4_grows_3 21 rfl rfl)
theorem dX4_grows_94 : decode cX4_grows 94 = .ok (.istore 4, 2) := dk_54 4 (dk_at dksX4_grows_3 22 rfl rfl)
theorem dX4_grows_96 : decode cX4_grows 96 = .ok (.iload 4, 2) := dk_21 4 (dk_at dksX4_grows_4 0 rfl rfl)
theorem dX4_grows_98 : decode cX4_grows 98 = .ok (.iload_n 1, 1) := dk_27 (dk_at dksX4_grows_4 2 rfl rfl)
theorem dX4_grows_99 : decode cX4_grows 99 = .ok (.if_icmp .ge 81, 3) := dk_162 0 81 (dk_at dksX4_grows_4 3 rfl rfl)
theorem dX4_grows_102 : decode cX4_grows 102 = .ok (.iload_n 2, 1) := dk_28 (dk_at dksX4_grows_4 6 rfl rfl)
theorem dX4_grows_103 : decode cX4_grows 103 = .ok (.istore 5, 2) := dk_54 5 (dk_at dksX4_grows_4 7 rfl rfl)
theorem dX4_grows_105 : decode cX4_grows 105 = .ok (.iload_n 3, 1) := dk_29 (dk_at dksX4_grows_4 9 rfl rfl)
theorem dX4_grows_106 : decode cX4_grows 106 = .ok (.istore 6, 2) := dk_54 6 (dk_at dksX4_grows_4 10 rfl rfl)
theorem dX4_grows_108 : decode cX4_grows 108 = .ok (.iload 6, 2) := dk_21 6 (dk_at dksX4_grows_4 12 rfl rfl)
theorem dX4_grows_110 : decode cX4_grows 110 = .ok (.iload 5, 2) := dk_21 5 (dk_at dksX4_grows_4 14 rfl rfl)
theorem dX4_grows_112 : decode cX4_grows 112 = .ok (.if_icmp .ge 59, 3) := dk_162 0 59 (dk_at dksX4_grows_4 16 rfl rfl)
theorem dX4_grows_115 : decode cX4_grows 115 = .ok (.aload_n 0, 1) := dk_42 (dk_at dksX4_grows_4 19 rfl rfl)
theorem dX4_grows_116 : decode cX4_grows 116 = .ok (.aload_n 0, 1) := dk_42 (dk_at dksX4_grows_4 20 rfl rfl)
theorem dX4_grows_117 : decode cX4_grows 117 = .ok (.getfield 24, 3) := dk_180 0 24 (dk_at dksX4_grows_4 21 rfl rfl)
theorem dX4_grows_120 : decode cX4_grows 120 = .ok (.iload 6, 2) := dk_21 6 (dk_at dksX4_grows_5 0 rfl rfl)
theorem dX4_grows_122 : decode cX4_grows 122 = .ok (.iaload, 1) := dk_46 (dk_at dksX4_grows_5 2 rfl rfl)
theorem dX4_grows_123 : decode cX4_grows 123 = .ok (.iconst 0, 1) := dk_3 (dk_at dksX4_grows_5 3 rfl rfl)
theorem dX4_grows_124 : decode cX4_grows 124 = .ok (.invokevirtual 158, 3) := dk_182 0 158 (dk_at dksX4_grows_5 4 rfl rfl)
theorem dX4_grows_127 : decode cX4_grows 127 = .ok (.istore 7, 2) := dk_54 7 (dk_at dksX4_grows_5 7 rfl rfl)
theorem dX4_grows_129 : decode cX4_grows 129 = .ok (.iload 7, 2) := dk_21 7 (dk_at dksX4_grows_5 9 rfl rfl)
theorem dX4_grows_131 : decode cX4_grows 131 = .ok (.bipush (-7), 2) := dk_16 249 (dk_at dksX4_grows_5 11 rfl rfl)
theorem dX4_grows_133 : decode cX4_grows 133 = .ok (.if_icmp .eq 32, 3) := dk_159 0 32 (dk_at dksX4_grows_5 13 rfl rfl)
theorem dX4_grows_136 : decode cX4_grows 136 = .ok (.aload_n 0, 1) := dk_42 (dk_at dksX4_grows_5 16 rfl rfl)
theorem dX4_grows_137 : decode cX4_grows 137 = .ok (.getfield 75, 3) := dk_180 0 75 (dk_at dksX4_grows_5 17 rfl rfl)
theorem dX4_grows_140 : decode cX4_grows 140 = .ok (.iload 7, 2) := dk_21 7 (dk_at dksX4_grows_5 20 rfl rfl)
theorem dX4_grows_142 : decode cX4_grows 142 = .ok (.baload, 1) := dk_51 (dk_at dksX4_grows_5 22 rfl rfl)
theorem dX4_grows_143 : decode cX4_grows 143 = .ok (.ifCond .ne 22, 3) := dk_154 0 22 (dk_at dksX4_grows_6 0 rfl rfl)
theorem dX4_grows_146 : decode cX4_grows 146 = .ok (.aload_n 0, 1) := dk_42 (dk_at dksX4_grows_6 3 rfl rfl)
theorem dX4_grows_147 : decode cX4_grows 147 = .ok (.getfield 75, 3) := dk_180 0 75 (dk_at dksX4_grows_6 4 rfl rfl)
theorem dX4_grows_150 : decode cX4_grows 150 = .ok (.iload 7, 2) := dk_21 7 (dk_at dksX4_grows_6 7 rfl rfl)
theorem dX4_grows_152 : decode cX4_grows 152 = .ok (.iconst 1, 1) := dk_4 (dk_at dksX4_grows_6 9 rfl rfl)
theorem dX4_grows_153 : decode cX4_grows 153 = .ok (.bastore, 1) := dk_84 (dk_at dksX4_grows_6 10 rfl rfl)
theorem dX4_grows_154 : decode cX4_grows 154 = .ok (.aload_n 0, 1) := dk_42 (dk_at dksX4_grows_6 11 rfl rfl)
theorem dX4_grows_155 : decode cX4_grows 155 = .ok (.getfield 24, 3) := dk_180 0 24 (dk_at dksX4_grows_6 12 rfl rfl)
theorem dX4_grows_158 : decode cX4_grows 158 = .ok (.iload_n 2, 1) := dk_28 (dk_at dksX4_grows_6 15 rfl rfl)
theorem dX4_grows_159 : decode cX4_grows 159 = .ok (.iload 7, 2) := dk_21 7 (dk_at dksX4_grows_6 16 rfl rfl)
theorem dX4_grows_161 : decode cX4_grows 161 = .ok (.iastore, 1) := dk_79 (dk_at dksX4_grows_6 18 rfl rfl)
theorem dX4_grows_162 : decode cX4_grows 162 = .ok (.iinc 2 1, 3) := dk_132 2 1 (dk_at dksX4_grows_6 19 rfl rfl)
theorem dX4_grows_165 : decode cX4_grows 165 = .ok (.iinc 6 1, 3) := dk_132 6 1 (dk_at dksX4_grows_7 0 rfl rfl)
theorem dX4_grows_168 : decode cX4_grows 168 = .ok (.goto (-60), 3) := dk_167 255 196 (dk_at dksX4_grows_7 3 rfl rfl)
theorem dX4_grows_171 : decode cX4_grows 171 = .ok (.iload 5, 2) := dk_21 5 (dk_at dksX4_grows_7 6 rfl rfl)
theorem dX4_grows_173 : decode cX4_grows 173 = .ok (.istore_n 3, 1) := dk_62 (dk_at dksX4_grows_7 8 rfl rfl)
theorem dX4_grows_174 : decode cX4_grows 174 = .ok (.iinc 4 1, 3) := dk_132 4 1 (dk_at dksX4_grows_7 9 rfl rfl)
theorem dX4_grows_177 : decode cX4_grows 177 = .ok (.goto (-81), 3) := dk_167 255 175 (dk_at dksX4_grows_7 12 rfl rfl)
theorem dX4_grows_180 : decode cX4_grows 180 = .ok (.iload_n 2, 1) := dk_28 (dk_at dksX4_grows_7 15 rfl rfl)
theorem dX4_grows_181 : decode cX4_grows 181 = .ok (.ireturn, 1) := dk_172 (dk_at dksX4_grows_7 16 rfl rfl)
abbrev cX4_were : ByteArray := prog_16_method_55_code
def yX4_were : MethodName := ⟨RX4, "were", "(IIIIII)J"⟩
def dkwX4_were_4 : List UInt8 := [132, 11, 1, 167, 255, 211, 42, 180, 0, 11, 21, 7, 21, 8, 79, 22, 9, 173]
abbrev dktX4_were_4 : List UInt8 := dkwX4_were_4 ++ []
def dkwX4_were_3 : List UInt8 := [42, 21, 4, 21, 5, 182, 0, 133, 21, 6, 160, 0, 10, 10, 21, 11, 121, 167, 0, 4, 9, 129, 55, 9]
abbrev dktX4_were_3 : List UInt8 := dkwX4_were_3 ++ dktX4_were_4
def dkwX4_were_2 : List UInt8 := [9, 55, 9, 3, 54, 11, 21, 11, 16, 31, 162, 0, 44, 42, 180, 0, 11, 21, 7, 21, 11, 79, 22, 9]
abbrev dktX4_were_2 : List UInt8 := dkwX4_were_2 ++ dktX4_were_3
def dkwX4_were_1 : List UInt8 := [154, 0, 7, 20, 0, 149, 173, 27, 28, 29, 184, 0, 115, 54, 7, 42, 180, 0, 11, 21, 7, 46, 54, 8]
abbrev dktX4_were_1 : List UInt8 := dkwX4_were_1 ++ dktX4_were_2
def dkwX4_were_0 : List UInt8 := [27, 28, 29, 184, 0, 109, 153, 0, 21, 21, 4, 21, 5, 184, 0, 123, 153, 0, 11, 21, 6, 184, 0, 103]
abbrev dktX4_were_0 : List UInt8 := dkwX4_were_0 ++ dktX4_were_1
theorem dksX4_were_0 : cX4_were.data.toList.drop 0 = dktX4_were_0 := by decide +kernel
theorem dksX4_were_1 : cX4_were.data.toList.drop 24 = dktX4_were_1 := dk_seg dksX4_were_0 24 rfl rfl
theorem dksX4_were_2 : cX4_were.data.toList.drop 48 = dktX4_were_2 := dk_seg dksX4_were_1 24 rfl rfl
theorem dksX4_were_3 : cX4_were.data.toList.drop 72 = dktX4_were_3 := dk_seg dksX4_were_2 24 rfl rfl
theorem dksX4_were_4 : cX4_were.data.toList.drop 96 = dktX4_were_4 := dk_seg dksX4_were_3 24 rfl rfl
theorem dX4_were_0 : decode cX4_were 0 = .ok (.iload_n 1, 1) := dk_27 (dk_at dksX4_were_0 0 rfl rfl)
theorem dX4_were_1 : decode cX4_were 1 = .ok (.iload_n 2, 1) := dk_28 (dk_at dksX4_were_0 1 rfl rfl)
theorem dX4_were_2 : decode cX4_were 2 = .ok (.iload_n 3, 1) := dk_29 (dk_at dksX4_were_0 2 rfl rfl)
theorem dX4_were_3 : decode cX4_were 3 = .ok (.invokestatic 109, 3) := dk_184 0 109 (dk_at dksX4_were_0 3 rfl rfl)
theorem dX4_were_6 : decode cX4_were 6 = .ok (.ifCond .eq 21, 3) := dk_153 0 21 (dk_at dksX4_were_0 6 rfl rfl)
theorem dX4_were_9 : decode cX4_were 9 = .ok (.iload 4, 2) := dk_21 4 (dk_at dksX4_were_0 9 rfl rfl)
theorem dX4_were_11 : decode cX4_were 11 = .ok (.iload 5, 2) := dk_21 5 (dk_at dksX4_were_0 11 rfl rfl)
theorem dX4_were_13 : decode cX4_were 13 = .ok (.invokestatic 123, 3) := dk_184 0 123 (dk_at dksX4_were_0 13 rfl rfl)
theorem dX4_were_16 : decode cX4_were 16 = .ok (.ifCond .eq 11, 3) := dk_153 0 11 (dk_at dksX4_were_0 16 rfl rfl)
theorem dX4_were_19 : decode cX4_were 19 = .ok (.iload 6, 2) := dk_21 6 (dk_at dksX4_were_0 19 rfl rfl)
theorem dX4_were_21 : decode cX4_were 21 = .ok (.invokestatic 103, 3) := dk_184 0 103 (dk_at dksX4_were_0 21 rfl rfl)
theorem dX4_were_24 : decode cX4_were 24 = .ok (.ifCond .ne 7, 3) := dk_154 0 7 (dk_at dksX4_were_1 0 rfl rfl)
theorem dX4_were_27 : decode cX4_were 27 = .ok (.ldc2_w 149, 3) := dk_20 0 149 (dk_at dksX4_were_1 3 rfl rfl)
theorem dX4_were_30 : decode cX4_were 30 = .ok (.lreturn, 1) := dk_173 (dk_at dksX4_were_1 6 rfl rfl)
theorem dX4_were_31 : decode cX4_were 31 = .ok (.iload_n 1, 1) := dk_27 (dk_at dksX4_were_1 7 rfl rfl)
theorem dX4_were_32 : decode cX4_were 32 = .ok (.iload_n 2, 1) := dk_28 (dk_at dksX4_were_1 8 rfl rfl)
theorem dX4_were_33 : decode cX4_were 33 = .ok (.iload_n 3, 1) := dk_29 (dk_at dksX4_were_1 9 rfl rfl)
theorem dX4_were_34 : decode cX4_were 34 = .ok (.invokestatic 115, 3) := dk_184 0 115 (dk_at dksX4_were_1 10 rfl rfl)
theorem dX4_were_37 : decode cX4_were 37 = .ok (.istore 7, 2) := dk_54 7 (dk_at dksX4_were_1 13 rfl rfl)
theorem dX4_were_39 : decode cX4_were 39 = .ok (.aload_n 0, 1) := dk_42 (dk_at dksX4_were_1 15 rfl rfl)
theorem dX4_were_40 : decode cX4_were 40 = .ok (.getfield 11, 3) := dk_180 0 11 (dk_at dksX4_were_1 16 rfl rfl)
theorem dX4_were_43 : decode cX4_were 43 = .ok (.iload 7, 2) := dk_21 7 (dk_at dksX4_were_1 19 rfl rfl)
theorem dX4_were_45 : decode cX4_were 45 = .ok (.iaload, 1) := dk_46 (dk_at dksX4_were_1 21 rfl rfl)
theorem dX4_were_46 : decode cX4_were 46 = .ok (.istore 8, 2) := dk_54 8 (dk_at dksX4_were_1 22 rfl rfl)
theorem dX4_were_48 : decode cX4_were 48 = .ok (.lconst 0, 1) := dk_9 (dk_at dksX4_were_2 0 rfl rfl)
theorem dX4_were_49 : decode cX4_were 49 = .ok (.lstore 9, 2) := dk_55 9 (dk_at dksX4_were_2 1 rfl rfl)
theorem dX4_were_51 : decode cX4_were 51 = .ok (.iconst 0, 1) := dk_3 (dk_at dksX4_were_2 3 rfl rfl)
theorem dX4_were_52 : decode cX4_were 52 = .ok (.istore 11, 2) := dk_54 11 (dk_at dksX4_were_2 4 rfl rfl)
theorem dX4_were_54 : decode cX4_were 54 = .ok (.iload 11, 2) := dk_21 11 (dk_at dksX4_were_2 6 rfl rfl)
theorem dX4_were_56 : decode cX4_were 56 = .ok (.bipush 31, 2) := dk_16 31 (dk_at dksX4_were_2 8 rfl rfl)
theorem dX4_were_58 : decode cX4_were 58 = .ok (.if_icmp .ge 44, 3) := dk_162 0 44 (dk_at dksX4_were_2 10 rfl rfl)
theorem dX4_were_61 : decode cX4_were 61 = .ok (.aload_n 0, 1) := dk_42 (dk_at dksX4_were_2 13 rfl rfl)
theorem dX4_were_62 : decode cX4_were 62 = .ok (.getfield 11, 3) := dk_180 0 11 (dk_at dksX4_were_2 14 rfl rfl)
theorem dX4_were_65 : decode cX4_were 65 = .ok (.iload 7, 2) := dk_21 7 (dk_at dksX4_were_2 17 rfl rfl)
theorem dX4_were_67 : decode cX4_were 67 = .ok (.iload 11, 2) := dk_21 11 (dk_at dksX4_were_2 19 rfl rfl)
theorem dX4_were_69 : decode cX4_were 69 = .ok (.iastore, 1) := dk_79 (dk_at dksX4_were_2 21 rfl rfl)
theorem dX4_were_70 : decode cX4_were 70 = .ok (.lload 9, 2) := dk_22 9 (dk_at dksX4_were_2 22 rfl rfl)
theorem dX4_were_72 : decode cX4_were 72 = .ok (.aload_n 0, 1) := dk_42 (dk_at dksX4_were_3 0 rfl rfl)
theorem dX4_were_73 : decode cX4_were 73 = .ok (.iload 4, 2) := dk_21 4 (dk_at dksX4_were_3 1 rfl rfl)
theorem dX4_were_75 : decode cX4_were 75 = .ok (.iload 5, 2) := dk_21 5 (dk_at dksX4_were_3 3 rfl rfl)
theorem dX4_were_77 : decode cX4_were 77 = .ok (.invokevirtual 133, 3) := dk_182 0 133 (dk_at dksX4_were_3 5 rfl rfl)
theorem dX4_were_80 : decode cX4_were 80 = .ok (.iload 6, 2) := dk_21 6 (dk_at dksX4_were_3 8 rfl rfl)
theorem dX4_were_82 : decode cX4_were 82 = .ok (.if_icmp .ne 10, 3) := dk_160 0 10 (dk_at dksX4_were_3 10 rfl rfl)
theorem dX4_were_85 : decode cX4_were 85 = .ok (.lconst 1, 1) := dk_10 (dk_at dksX4_were_3 13 rfl rfl)
theorem dX4_were_86 : decode cX4_were 86 = .ok (.iload 11, 2) := dk_21 11 (dk_at dksX4_were_3 14 rfl rfl)
theorem dX4_were_88 : decode cX4_were 88 = .ok (.lshl, 1) := dk_121 (dk_at dksX4_were_3 16 rfl rfl)
theorem dX4_were_89 : decode cX4_were 89 = .ok (.goto 4, 3) := dk_167 0 4 (dk_at dksX4_were_3 17 rfl rfl)
theorem dX4_were_92 : decode cX4_were 92 = .ok (.lconst 0, 1) := dk_9 (dk_at dksX4_were_3 20 rfl rfl)
theorem dX4_were_93 : decode cX4_were 93 = .ok (.lor, 1) := dk_129 (dk_at dksX4_were_3 21 rfl rfl)
theorem dX4_were_94 : decode cX4_were 94 = .ok (.lstore 9, 2) := dk_55 9 (dk_at dksX4_were_3 22 rfl rfl)
theorem dX4_were_96 : decode cX4_were 96 = .ok (.iinc 11 1, 3) := dk_132 11 1 (dk_at dksX4_were_4 0 rfl rfl)
theorem dX4_were_99 : decode cX4_were 99 = .ok (.goto (-45), 3) := dk_167 255 211 (dk_at dksX4_were_4 3 rfl rfl)
theorem dX4_were_102 : decode cX4_were 102 = .ok (.aload_n 0, 1) := dk_42 (dk_at dksX4_were_4 6 rfl rfl)
theorem dX4_were_103 : decode cX4_were 103 = .ok (.getfield 11, 3) := dk_180 0 11 (dk_at dksX4_were_4 7 rfl rfl)
theorem dX4_were_106 : decode cX4_were 106 = .ok (.iload 7, 2) := dk_21 7 (dk_at dksX4_were_4 10 rfl rfl)
theorem dX4_were_108 : decode cX4_were 108 = .ok (.iload 8, 2) := dk_21 8 (dk_at dksX4_were_4 12 rfl rfl)
theorem dX4_were_110 : decode cX4_were 110 = .ok (.iastore, 1) := dk_79 (dk_at dksX4_were_4 14 rfl rfl)
theorem dX4_were_111 : decode cX4_were 111 = .ok (.lload 9, 2) := dk_22 9 (dk_at dksX4_were_4 15 rfl rfl)
theorem dX4_were_113 : decode cX4_were 113 = .ok (.lreturn, 1) := dk_173 (dk_at dksX4_were_4 17 rfl rfl)
abbrev cX4_odds : ByteArray := prog_16_method_57_code
def yX4_odds : MethodName := ⟨RX4, "odds", "(IIII)J"⟩
def dkwX4_odds_5 : List UInt8 := [154, 0, 8, 21, 5, 167, 0, 4, 29, 29, 21, 5, 184, 0, 229, 108, 133, 173]
abbrev dktX4_odds_5 : List UInt8 := dkwX4_odds_5 ++ []
def dkwX4_odds_4 : List UInt8 := [182, 0, 133, 27, 160, 0, 7, 4, 167, 0, 4, 3, 96, 54, 5, 132, 6, 1, 167, 255, 185, 21, 4]
abbrev dktX4_odds_4 : List UInt8 := dkwX4_odds_4 ++ dktX4_odds_5
def dkwX4_odds_3 : List UInt8 := [18, 232, 104, 17, 48, 57, 96, 54, 7, 21, 5, 42, 21, 8, 21, 7, 16, 16, 124, 16, 32, 112]
abbrev dktX4_odds_3 : List UInt8 := dkwX4_odds_3 ++ dktX4_odds_4
def dkwX4_odds_2 : List UInt8 := [21, 6, 96, 18, 232, 104, 17, 48, 57, 96, 54, 7, 21, 7, 16, 16, 124, 16, 32, 112, 54, 8, 21, 7]
abbrev dktX4_odds_2 : List UInt8 := dkwX4_odds_2 ++ dktX4_odds_3
def dkwX4_odds_1 : List UInt8 := [184, 0, 99, 154, 0, 7, 20, 0, 149, 173, 3, 54, 5, 3, 54, 6, 21, 6, 29, 162, 0, 71, 28]
abbrev dktX4_odds_1 : List UInt8 := dkwX4_odds_1 ++ dktX4_odds_2
def dkwX4_odds_0 : List UInt8 := [27, 184, 0, 103, 153, 0, 26, 29, 133, 10, 20, 0, 113, 184, 0, 99, 153, 0, 14, 21, 4, 133, 9, 10]
abbrev dktX4_odds_0 : List UInt8 := dkwX4_odds_0 ++ dktX4_odds_1
theorem dksX4_odds_0 : cX4_odds.data.toList.drop 0 = dktX4_odds_0 := by decide +kernel
theorem dksX4_odds_1 : cX4_odds.data.toList.drop 24 = dktX4_odds_1 := dk_seg dksX4_odds_0 24 rfl rfl
theorem dksX4_odds_2 : cX4_odds.data.toList.drop 47 = dktX4_odds_2 := dk_seg dksX4_odds_1 23 rfl rfl
theorem dksX4_odds_3 : cX4_odds.data.toList.drop 71 = dktX4_odds_3 := dk_seg dksX4_odds_2 24 rfl rfl
theorem dksX4_odds_4 : cX4_odds.data.toList.drop 93 = dktX4_odds_4 := dk_seg dksX4_odds_3 22 rfl rfl
theorem dksX4_odds_5 : cX4_odds.data.toList.drop 116 = dktX4_odds_5 := dk_seg dksX4_odds_4 23 rfl rfl
theorem dX4_odds_0 : decode cX4_odds 0 = .ok (.iload_n 1, 1) := dk_27 (dk_at dksX4_odds_0 0 rfl rfl)
theorem dX4_odds_1 : decode cX4_odds 1 = .ok (.invokestatic 103, 3) := dk_184 0 103 (dk_at dksX4_odds_0 1 rfl rfl)
theorem dX4_odds_4 : decode cX4_odds 4 = .ok (.ifCond .eq 26, 3) := dk_153 0 26 (dk_at dksX4_odds_0 4 rfl rfl)
theorem dX4_odds_7 : decode cX4_odds 7 = .ok (.iload_n 3, 1) := dk_29 (dk_at dksX4_odds_0 7 rfl rfl)
theorem dX4_odds_8 : decode cX4_odds 8 = .ok (.i2l, 1) := dk_133 (dk_at dksX4_odds_0 8 rfl rfl)
theorem dX4_odds_9 : decode cX4_odds 9 = .ok (.lconst 1, 1) := dk_10 (dk_at dksX4_odds_0 9 rfl rfl)
theorem dX4_odds_10 : decode cX4_odds 10 = .ok (.ldc2_w 113, 3) := dk_20 0 113 (dk_at dksX4_odds_0 10 rfl rfl)
theorem dX4_odds_13 : decode cX4_odds 13 = .ok (.invokestatic 99, 3) := dk_184 0 99 (dk_at dksX4_odds_0 13 rfl rfl)
theorem dX4_odds_16 : decode cX4_odds 16 = .ok (.ifCond .eq 14, 3) := dk_153 0 14 (dk_at dksX4_odds_0 16 rfl rfl)
theorem dX4_odds_19 : decode cX4_odds 19 = .ok (.iload 4, 2) := dk_21 4 (dk_at dksX4_odds_0 19 rfl rfl)
theorem dX4_odds_21 : decode cX4_odds 21 = .ok (.i2l, 1) := dk_133 (dk_at dksX4_odds_0 21 rfl rfl)
theorem dX4_odds_22 : decode cX4_odds 22 = .ok (.lconst 0, 1) := dk_9 (dk_at dksX4_odds_0 22 rfl rfl)
theorem dX4_odds_23 : decode cX4_odds 23 = .ok (.lconst 1, 1) := dk_10 (dk_at dksX4_odds_0 23 rfl rfl)
theorem dX4_odds_24 : decode cX4_odds 24 = .ok (.invokestatic 99, 3) := dk_184 0 99 (dk_at dksX4_odds_1 0 rfl rfl)
theorem dX4_odds_27 : decode cX4_odds 27 = .ok (.ifCond .ne 7, 3) := dk_154 0 7 (dk_at dksX4_odds_1 3 rfl rfl)
theorem dX4_odds_30 : decode cX4_odds 30 = .ok (.ldc2_w 149, 3) := dk_20 0 149 (dk_at dksX4_odds_1 6 rfl rfl)
theorem dX4_odds_33 : decode cX4_odds 33 = .ok (.lreturn, 1) := dk_173 (dk_at dksX4_odds_1 9 rfl rfl)
theorem dX4_odds_34 : decode cX4_odds 34 = .ok (.iconst 0, 1) := dk_3 (dk_at dksX4_odds_1 10 rfl rfl)
theorem dX4_odds_35 : decode cX4_odds 35 = .ok (.istore 5, 2) := dk_54 5 (dk_at dksX4_odds_1 11 rfl rfl)
theorem dX4_odds_37 : decode cX4_odds 37 = .ok (.iconst 0, 1) := dk_3 (dk_at dksX4_odds_1 13 rfl rfl)
theorem dX4_odds_38 : decode cX4_odds 38 = .ok (.istore 6, 2) := dk_54 6 (dk_at dksX4_odds_1 14 rfl rfl)
theorem dX4_odds_40 : decode cX4_odds 40 = .ok (.iload 6, 2) := dk_21 6 (dk_at dksX4_odds_1 16 rfl rfl)
theorem dX4_odds_42 : decode cX4_odds 42 = .ok (.iload_n 3, 1) := dk_29 (dk_at dksX4_odds_1 18 rfl rfl)
theorem dX4_odds_43 : decode cX4_odds 43 = .ok (.if_icmp .ge 71, 3) := dk_162 0 71 (dk_at dksX4_odds_1 19 rfl rfl)
theorem dX4_odds_46 : decode cX4_odds 46 = .ok (.iload_n 2, 1) := dk_28 (dk_at dksX4_odds_1 22 rfl rfl)
theorem dX4_odds_47 : decode cX4_odds 47 = .ok (.iload 6, 2) := dk_21 6 (dk_at dksX4_odds_2 0 rfl rfl)
theorem dX4_odds_49 : decode cX4_odds 49 = .ok (.iadd, 1) := dk_96 (dk_at dksX4_odds_2 2 rfl rfl)
theorem dX4_odds_50 : decode cX4_odds 50 = .ok (.ldc 232, 2) := dk_18 232 (dk_at dksX4_odds_2 3 rfl rfl)
theorem dX4_odds_52 : decode cX4_odds 52 = .ok (.imul, 1) := dk_104 (dk_at dksX4_odds_2 5 rfl rfl)
theorem dX4_odds_53 : decode cX4_odds 53 = .ok (.sipush 12345, 3) := dk_17 48 57 (dk_at dksX4_odds_2 6 rfl rfl)
theorem dX4_odds_56 : decode cX4_odds 56 = .ok (.iadd, 1) := dk_96 (dk_at dksX4_odds_2 9 rfl rfl)
theorem dX4_odds_57 : decode cX4_odds 57 = .ok (.istore 7, 2) := dk_54 7 (dk_at dksX4_odds_2 10 rfl rfl)
theorem dX4_odds_59 : decode cX4_odds 59 = .ok (.iload 7, 2) := dk_21 7 (dk_at dksX4_odds_2 12 rfl rfl)
theorem dX4_odds_61 : decode cX4_odds 61 = .ok (.bipush 16, 2) := dk_16 16 (dk_at dksX4_odds_2 14 rfl rfl)
theorem dX4_odds_63 : decode cX4_odds 63 = .ok (.iushr, 1) := dk_124 (dk_at dksX4_odds_2 16 rfl rfl)
theorem dX4_odds_64 : decode cX4_odds 64 = .ok (.bipush 32, 2) := dk_16 32 (dk_at dksX4_odds_2 17 rfl rfl)
theorem dX4_odds_66 : decode cX4_odds 66 = .ok (.irem, 1) := dk_112 (dk_at dksX4_odds_2 19 rfl rfl)
theorem dX4_odds_67 : decode cX4_odds 67 = .ok (.istore 8, 2) := dk_54 8 (dk_at dksX4_odds_2 20 rfl rfl)
theorem dX4_odds_69 : decode cX4_odds 69 = .ok (.iload 7, 2) := dk_21 7 (dk_at dksX4_odds_2 22 rfl rfl)
theorem dX4_odds_71 : decode cX4_odds 71 = .ok (.ldc 232, 2) := dk_18 232 (dk_at dksX4_odds_3 0 rfl rfl)
theorem dX4_odds_73 : decode cX4_odds 73 = .ok (.imul, 1) := dk_104 (dk_at dksX4_odds_3 2 rfl rfl)
theorem dX4_odds_74 : decode cX4_odds 74 = .ok (.sipush 12345, 3) := dk_17 48 57 (dk_at dksX4_odds_3 3 rfl rfl)
theorem dX4_odds_77 : decode cX4_odds 77 = .ok (.iadd, 1) := dk_96 (dk_at dksX4_odds_3 6 rfl rfl)
theorem dX4_odds_78 : decode cX4_odds 78 = .ok (.istore 7, 2) := dk_54 7 (dk_at dksX4_odds_3 7 rfl rfl)
theorem dX4_odds_80 : decode cX4_odds 80 = .ok (.iload 5, 2) := dk_21 5 (dk_at dksX4_odds_3 9 rfl rfl)
theorem dX4_odds_82 : decode cX4_odds 82 = .ok (.aload_n 0, 1) := dk_42 (dk_at dksX4_odds_3 11 rfl rfl)
theorem dX4_odds_83 : decode cX4_odds 83 = .ok (.iload 8, 2) := dk_21 8 (dk_at dksX4_odds_3 12 rfl rfl)
theorem dX4_odds_85 : decode cX4_odds 85 = .ok (.iload 7, 2) := dk_21 7 (dk_at dksX4_odds_3 14 rfl rfl)
theorem dX4_odds_87 : decode cX4_odds 87 = .ok (.bipush 16, 2) := dk_16 16 (dk_at dksX4_odds_3 16 rfl rfl)
theorem dX4_odds_89 : decode cX4_odds 89 = .ok (.iushr, 1) := dk_124 (dk_at dksX4_odds_3 18 rfl rfl)
theorem dX4_odds_90 : decode cX4_odds 90 = .ok (.bipush 32, 2) := dk_16 32 (dk_at dksX4_odds_3 19 rfl rfl)
theorem dX4_odds_92 : decode cX4_odds 92 = .ok (.irem, 1) := dk_112 (dk_at dksX4_odds_3 21 rfl rfl)
theorem dX4_odds_93 : decode cX4_odds 93 = .ok (.invokevirtual 133, 3) := dk_182 0 133 (dk_at dksX4_odds_4 0 rfl rfl)
theorem dX4_odds_96 : decode cX4_odds 96 = .ok (.iload_n 1, 1) := dk_27 (dk_at dksX4_odds_4 3 rfl rfl)
theorem dX4_odds_97 : decode cX4_odds 97 = .ok (.if_icmp .ne 7, 3) := dk_160 0 7 (dk_at dksX4_odds_4 4 rfl rfl)
theorem dX4_odds_100 : decode cX4_odds 100 = .ok (.iconst 1, 1) := dk_4 (dk_at dksX4_odds_4 7 rfl rfl)
theorem dX4_odds_101 : decode cX4_odds 101 = .ok (.goto 4, 3) := dk_167 0 4 (dk_at dksX4_odds_4 8 rfl rfl)
theorem dX4_odds_104 : decode cX4_odds 104 = .ok (.iconst 0, 1) := dk_3 (dk_at dksX4_odds_4 11 rfl rfl)
theorem dX4_odds_105 : decode cX4_odds 105 = .ok (.iadd, 1) := dk_96 (dk_at dksX4_odds_4 12 rfl rfl)
theorem dX4_odds_106 : decode cX4_odds 106 = .ok (.istore 5, 2) := dk_54 5 (dk_at dksX4_odds_4 13 rfl rfl)
theorem dX4_odds_108 : decode cX4_odds 108 = .ok (.iinc 6 1, 3) := dk_132 6 1 (dk_at dksX4_odds_4 15 rfl rfl)
theorem dX4_odds_111 : decode cX4_odds 111 = .ok (.goto (-71), 3) := dk_167 255 185 (dk_at dksX4_odds_4 18 rfl rfl)
theorem dX4_odds_114 : decode cX4_odds 114 = .ok (.iload 4, 2) := dk_21 4 (dk_at dksX4_odds_4 21 rfl rfl)
theorem dX4_odds_116 : decode cX4_odds 116 = .ok (.ifCond .ne 8, 3) := dk_154 0 8 (dk_at dksX4_odds_5 0 rfl rfl)
theorem dX4_odds_119 : decode cX4_odds 119 = .ok (.iload 5, 2) := dk_21 5 (dk_at dksX4_odds_5 3 rfl rfl)
theorem dX4_odds_121 : decode cX4_odds 121 = .ok (.goto 4, 3) := dk_167 0 4 (dk_at dksX4_odds_5 5 rfl rfl)
theorem dX4_odds_124 : decode cX4_odds 124 = .ok (.iload_n 3, 1) := dk_29 (dk_at dksX4_odds_5 8 rfl rfl)
theorem dX4_odds_125 : decode cX4_odds 125 = .ok (.iload_n 3, 1) := dk_29 (dk_at dksX4_odds_5 9 rfl rfl)
theorem dX4_odds_126 : decode cX4_odds 126 = .ok (.iload 5, 2) := dk_21 5 (dk_at dksX4_odds_5 10 rfl rfl)
theorem dX4_odds_128 : decode cX4_odds 128 = .ok (.invokestatic 229, 3) := dk_184 0 229 (dk_at dksX4_odds_5 12 rfl rfl)
theorem dX4_odds_131 : decode cX4_odds 131 = .ok (.idiv, 1) := dk_108 (dk_at dksX4_odds_5 15 rfl rfl)
theorem dX4_odds_132 : decode cX4_odds 132 = .ok (.i2l, 1) := dk_133 (dk_at dksX4_odds_5 16 rfl rfl)
theorem dX4_odds_133 : decode cX4_odds 133 = .ok (.lreturn, 1) := dk_173 (dk_at dksX4_odds_5 17 rfl rfl)
abbrev cX4_common : ByteArray := prog_16_method_56_code
def yX4_common : MethodName := ⟨RX4, "common", "(II)I"⟩
def dkwX4_common_0 : List UInt8 := [27, 154, 0, 7, 26, 167, 0, 10, 27, 26, 27, 112, 184, 0, 229, 172]
abbrev dktX4_common_0 : List UInt8 := dkwX4_common_0 ++ []
theorem dksX4_common_0 : cX4_common.data.toList.drop 0 = dktX4_common_0 := by decide +kernel
theorem dX4_common_0 : decode cX4_common 0 = .ok (.iload_n 1, 1) := dk_27 (dk_at dksX4_common_0 0 rfl rfl)
theorem dX4_common_1 : decode cX4_common 1 = .ok (.ifCond .ne 7, 3) := dk_154 0 7 (dk_at dksX4_common_0 1 rfl rfl)
theorem dX4_common_4 : decode cX4_common 4 = .ok (.iload_n 0, 1) := dk_26 (dk_at dksX4_common_0 4 rfl rfl)
theorem dX4_common_5 : decode cX4_common 5 = .ok (.goto 10, 3) := dk_167 0 10 (dk_at dksX4_common_0 5 rfl rfl)
theorem dX4_common_8 : decode cX4_common 8 = .ok (.iload_n 1, 1) := dk_27 (dk_at dksX4_common_0 8 rfl rfl)
theorem dX4_common_9 : decode cX4_common 9 = .ok (.iload_n 0, 1) := dk_26 (dk_at dksX4_common_0 9 rfl rfl)
theorem dX4_common_10 : decode cX4_common 10 = .ok (.iload_n 1, 1) := dk_27 (dk_at dksX4_common_0 10 rfl rfl)
theorem dX4_common_11 : decode cX4_common 11 = .ok (.irem, 1) := dk_112 (dk_at dksX4_common_0 11 rfl rfl)
theorem dX4_common_12 : decode cX4_common 12 = .ok (.invokestatic 229, 3) := dk_184 0 229 (dk_at dksX4_common_0 12 rfl rfl)
theorem dX4_common_15 : decode cX4_common 15 = .ok (.ireturn, 1) := dk_172 (dk_at dksX4_common_0 15 rfl rfl)
abbrev cX4_plan : ByteArray := prog_16_method_58_code
def yX4_plan : MethodName := ⟨RX4, "plan", "(II)I"⟩
def dkwX4_plan_6 : List UInt8 := [16, 31, 46, 172]
abbrev dktX4_plan_6 : List UInt8 := dkwX4_plan_6 ++ []
def dkwX4_plan_5 : List UInt8 := [180, 0, 11, 16, 31, 46, 96, 28, 79, 42, 180, 0, 11, 16, 31, 92, 46, 4, 96, 79, 42, 180, 0, 11]
abbrev dktX4_plan_5 : List UInt8 := dkwX4_plan_5 ++ dktX4_plan_6
def dkwX4_plan_4 : List UInt8 := [180, 0, 11, 16, 32, 42, 180, 0, 11, 16, 31, 46, 96, 27, 79, 42, 180, 0, 11, 16, 40, 42]
abbrev dktX4_plan_4 : List UInt8 := dkwX4_plan_4 ++ dktX4_plan_5
def dkwX4_plan_3 : List UInt8 := [154, 0, 6, 16, 254, 172, 42, 180, 0, 11, 16, 31, 46, 16, 8, 160, 0, 6, 16, 252, 172, 42]
abbrev dktX4_plan_3 : List UInt8 := dkwX4_plan_3 ++ dktX4_plan_4
def dkwX4_plan_2 : List UInt8 := [28, 133, 10, 20, 0, 233, 184, 0, 99, 153, 0, 18, 27, 5, 160, 0, 16, 28, 133, 9, 10, 184, 0, 99]
abbrev dktX4_plan_2 : List UInt8 := dkwX4_plan_2 ++ dktX4_plan_3
def dkwX4_plan_1 : List UInt8 := [167, 255, 240, 3, 172, 27, 133, 9, 20, 0, 212, 184, 0, 99, 154, 0, 5, 2, 172, 27, 5, 162, 0, 15]
abbrev dktX4_plan_1 : List UInt8 := dkwX4_plan_1 ++ dktX4_plan_2
def dkwX4_plan_0 : List UInt8 := [27, 2, 160, 0, 27, 16, 31, 62, 29, 16, 48, 162, 0, 16, 42, 180, 0, 11, 29, 3, 79, 132, 3, 1]
abbrev dktX4_plan_0 : List UInt8 := dkwX4_plan_0 ++ dktX4_plan_1
theorem dksX4_plan_0 : cX4_plan.data.toList.drop 0 = dktX4_plan_0 := by decide +kernel
theorem dksX4_plan_1 : cX4_plan.data.toList.drop 24 = dktX4_plan_1 := dk_seg dksX4_plan_0 24 rfl rfl
theorem dksX4_plan_2 : cX4_plan.data.toList.drop 48 = dktX4_plan_2 := dk_seg dksX4_plan_1 24 rfl rfl
theorem dksX4_plan_3 : cX4_plan.data.toList.drop 72 = dktX4_plan_3 := dk_seg dksX4_plan_2 24 rfl rfl
theorem dksX4_plan_4 : cX4_plan.data.toList.drop 94 = dktX4_plan_4 := dk_seg dksX4_plan_3 22 rfl rfl
theorem dksX4_plan_5 : cX4_plan.data.toList.drop 116 = dktX4_plan_5 := dk_seg dksX4_plan_4 22 rfl rfl
theorem dksX4_plan_6 : cX4_plan.data.toList.drop 140 = dktX4_plan_6 := dk_seg dksX4_plan_5 24 rfl rfl
theorem dX4_plan_0 : decode cX4_plan 0 = .ok (.iload_n 1, 1) := dk_27 (dk_at dksX4_plan_0 0 rfl rfl)
theorem dX4_plan_1 : decode cX4_plan 1 = .ok (.iconst (-1), 1) := dk_2 (dk_at dksX4_plan_0 1 rfl rfl)
theorem dX4_plan_2 : decode cX4_plan 2 = .ok (.if_icmp .ne 27, 3) := dk_160 0 27 (dk_at dksX4_plan_0 2 rfl rfl)
theorem dX4_plan_5 : decode cX4_plan 5 = .ok (.bipush 31, 2) := dk_16 31 (dk_at dksX4_plan_0 5 rfl rfl)
theorem dX4_plan_7 : decode cX4_plan 7 = .ok (.istore_n 3, 1) := dk_62 (dk_at dksX4_plan_0 7 rfl rfl)
theorem dX4_plan_8 : decode cX4_plan 8 = .ok (.iload_n 3, 1) := dk_29 (dk_at dksX4_plan_0 8 rfl rfl)
theorem dX4_plan_9 : decode cX4_plan 9 = .ok (.bipush 48, 2) := dk_16 48 (dk_at dksX4_plan_0 9 rfl rfl)
theorem dX4_plan_11 : decode cX4_plan 11 = .ok (.if_icmp .ge 16, 3) := dk_162 0 16 (dk_at dksX4_plan_0 11 rfl rfl)
theorem dX4_plan_14 : decode cX4_plan 14 = .ok (.aload_n 0, 1) := dk_42 (dk_at dksX4_plan_0 14 rfl rfl)
theorem dX4_plan_15 : decode cX4_plan 15 = .ok (.getfield 11, 3) := dk_180 0 11 (dk_at dksX4_plan_0 15 rfl rfl)
theorem dX4_plan_18 : decode cX4_plan 18 = .ok (.iload_n 3, 1) := dk_29 (dk_at dksX4_plan_0 18 rfl rfl)
theorem dX4_plan_19 : decode cX4_plan 19 = .ok (.iconst 0, 1) := dk_3 (dk_at dksX4_plan_0 19 rfl rfl)
theorem dX4_plan_20 : decode cX4_plan 20 = .ok (.iastore, 1) := dk_79 (dk_at dksX4_plan_0 20 rfl rfl)
theorem dX4_plan_21 : decode cX4_plan 21 = .ok (.iinc 3 1, 3) := dk_132 3 1 (dk_at dksX4_plan_0 21 rfl rfl)
theorem dX4_plan_24 : decode cX4_plan 24 = .ok (.goto (-16), 3) := dk_167 255 240 (dk_at dksX4_plan_1 0 rfl rfl)
theorem dX4_plan_27 : decode cX4_plan 27 = .ok (.iconst 0, 1) := dk_3 (dk_at dksX4_plan_1 3 rfl rfl)
theorem dX4_plan_28 : decode cX4_plan 28 = .ok (.ireturn, 1) := dk_172 (dk_at dksX4_plan_1 4 rfl rfl)
theorem dX4_plan_29 : decode cX4_plan 29 = .ok (.iload_n 1, 1) := dk_27 (dk_at dksX4_plan_1 5 rfl rfl)
theorem dX4_plan_30 : decode cX4_plan 30 = .ok (.i2l, 1) := dk_133 (dk_at dksX4_plan_1 6 rfl rfl)
theorem dX4_plan_31 : decode cX4_plan 31 = .ok (.lconst 0, 1) := dk_9 (dk_at dksX4_plan_1 7 rfl rfl)
theorem dX4_plan_32 : decode cX4_plan 32 = .ok (.ldc2_w 212, 3) := dk_20 0 212 (dk_at dksX4_plan_1 8 rfl rfl)
theorem dX4_plan_35 : decode cX4_plan 35 = .ok (.invokestatic 99, 3) := dk_184 0 99 (dk_at dksX4_plan_1 11 rfl rfl)
theorem dX4_plan_38 : decode cX4_plan 38 = .ok (.ifCond .ne 5, 3) := dk_154 0 5 (dk_at dksX4_plan_1 14 rfl rfl)
theorem dX4_plan_41 : decode cX4_plan 41 = .ok (.iconst (-1), 1) := dk_2 (dk_at dksX4_plan_1 17 rfl rfl)
theorem dX4_plan_42 : decode cX4_plan 42 = .ok (.ireturn, 1) := dk_172 (dk_at dksX4_plan_1 18 rfl rfl)
theorem dX4_plan_43 : decode cX4_plan 43 = .ok (.iload_n 1, 1) := dk_27 (dk_at dksX4_plan_1 19 rfl rfl)
theorem dX4_plan_44 : decode cX4_plan 44 = .ok (.iconst 2, 1) := dk_5 (dk_at dksX4_plan_1 20 rfl rfl)
theorem dX4_plan_45 : decode cX4_plan 45 = .ok (.if_icmp .ge 15, 3) := dk_162 0 15 (dk_at dksX4_plan_1 21 rfl rfl)
theorem dX4_plan_48 : decode cX4_plan 48 = .ok (.iload_n 2, 1) := dk_28 (dk_at dksX4_plan_2 0 rfl rfl)
theorem dX4_plan_49 : decode cX4_plan 49 = .ok (.i2l, 1) := dk_133 (dk_at dksX4_plan_2 1 rfl rfl)
theorem dX4_plan_50 : decode cX4_plan 50 = .ok (.lconst 1, 1) := dk_10 (dk_at dksX4_plan_2 2 rfl rfl)
theorem dX4_plan_51 : decode cX4_plan 51 = .ok (.ldc2_w 233, 3) := dk_20 0 233 (dk_at dksX4_plan_2 3 rfl rfl)
theorem dX4_plan_54 : decode cX4_plan 54 = .ok (.invokestatic 99, 3) := dk_184 0 99 (dk_at dksX4_plan_2 6 rfl rfl)
theorem dX4_plan_57 : decode cX4_plan 57 = .ok (.ifCond .eq 18, 3) := dk_153 0 18 (dk_at dksX4_plan_2 9 rfl rfl)
theorem dX4_plan_60 : decode cX4_plan 60 = .ok (.iload_n 1, 1) := dk_27 (dk_at dksX4_plan_2 12 rfl rfl)
theorem dX4_plan_61 : decode cX4_plan 61 = .ok (.iconst 2, 1) := dk_5 (dk_at dksX4_plan_2 13 rfl rfl)
theorem dX4_plan_62 : decode cX4_plan 62 = .ok (.if_icmp .ne 16, 3) := dk_160 0 16 (dk_at dksX4_plan_2 14 rfl rfl)
theorem dX4_plan_65 : decode cX4_plan 65 = .ok (.iload_n 2, 1) := dk_28 (dk_at dksX4_plan_2 17 rfl rfl)
theorem dX4_plan_66 : decode cX4_plan 66 = .ok (.i2l, 1) := dk_133 (dk_at dksX4_plan_2 18 rfl rfl)
theorem dX4_plan_67 : decode cX4_plan 67 = .ok (.lconst 0, 1) := dk_9 (dk_at dksX4_plan_2 19 rfl rfl)
theorem dX4_plan_68 : decode cX4_plan 68 = .ok (.lconst 1, 1) := dk_10 (dk_at dksX4_plan_2 20 rfl rfl)
theorem dX4_plan_69 : decode cX4_plan 69 = .ok (.invokestatic 99, 3) := dk_184 0 99 (dk_at dksX4_plan_2 21 rfl rfl)
theorem dX4_plan_72 : decode cX4_plan 72 = .ok (.ifCond .ne 6, 3) := dk_154 0 6 (dk_at dksX4_plan_3 0 rfl rfl)
theorem dX4_plan_75 : decode cX4_plan 75 = .ok (.bipush (-2), 2) := dk_16 254 (dk_at dksX4_plan_3 3 rfl rfl)
theorem dX4_plan_77 : decode cX4_plan 77 = .ok (.ireturn, 1) := dk_172 (dk_at dksX4_plan_3 5 rfl rfl)
theorem dX4_plan_78 : decode cX4_plan 78 = .ok (.aload_n 0, 1) := dk_42 (dk_at dksX4_plan_3 6 rfl rfl)
theorem dX4_plan_79 : decode cX4_plan 79 = .ok (.getfield 11, 3) := dk_180 0 11 (dk_at dksX4_plan_3 7 rfl rfl)
theorem dX4_plan_82 : decode cX4_plan 82 = .ok (.bipush 31, 2) := dk_16 31 (dk_at dksX4_plan_3 10 rfl rfl)
theorem dX4_plan_84 : decode cX4_plan 84 = .ok (.iaload, 1) := dk_46 (dk_at dksX4_plan_3 12 rfl rfl)
theorem dX4_plan_85 : decode cX4_plan 85 = .ok (.bipush 8, 2) := dk_16 8 (dk_at dksX4_plan_3 13 rfl rfl)
theorem dX4_plan_87 : decode cX4_plan 87 = .ok (.if_icmp .ne 6, 3) := dk_160 0 6 (dk_at dksX4_plan_3 15 rfl rfl)
theorem dX4_plan_90 : decode cX4_plan 90 = .ok (.bipush (-4), 2) := dk_16 252 (dk_at dksX4_plan_3 18 rfl rfl)
theorem dX4_plan_92 : decode cX4_plan 92 = .ok (.ireturn, 1) := dk_172 (dk_at dksX4_plan_3 20 rfl rfl)
theorem dX4_plan_93 : decode cX4_plan 93 = .ok (.aload_n 0, 1) := dk_42 (dk_at dksX4_plan_3 21 rfl rfl)
theorem dX4_plan_94 : decode cX4_plan 94 = .ok (.getfield 11, 3) := dk_180 0 11 (dk_at dksX4_plan_4 0 rfl rfl)
theorem dX4_plan_97 : decode cX4_plan 97 = .ok (.bipush 32, 2) := dk_16 32 (dk_at dksX4_plan_4 3 rfl rfl)
theorem dX4_plan_99 : decode cX4_plan 99 = .ok (.aload_n 0, 1) := dk_42 (dk_at dksX4_plan_4 5 rfl rfl)
theorem dX4_plan_100 : decode cX4_plan 100 = .ok (.getfield 11, 3) := dk_180 0 11 (dk_at dksX4_plan_4 6 rfl rfl)
theorem dX4_plan_103 : decode cX4_plan 103 = .ok (.bipush 31, 2) := dk_16 31 (dk_at dksX4_plan_4 9 rfl rfl)
theorem dX4_plan_105 : decode cX4_plan 105 = .ok (.iaload, 1) := dk_46 (dk_at dksX4_plan_4 11 rfl rfl)
theorem dX4_plan_106 : decode cX4_plan 106 = .ok (.iadd, 1) := dk_96 (dk_at dksX4_plan_4 12 rfl rfl)
theorem dX4_plan_107 : decode cX4_plan 107 = .ok (.iload_n 1, 1) := dk_27 (dk_at dksX4_plan_4 13 rfl rfl)
theorem dX4_plan_108 : decode cX4_plan 108 = .ok (.iastore, 1) := dk_79 (dk_at dksX4_plan_4 14 rfl rfl)
theorem dX4_plan_109 : decode cX4_plan 109 = .ok (.aload_n 0, 1) := dk_42 (dk_at dksX4_plan_4 15 rfl rfl)
theorem dX4_plan_110 : decode cX4_plan 110 = .ok (.getfield 11, 3) := dk_180 0 11 (dk_at dksX4_plan_4 16 rfl rfl)
theorem dX4_plan_113 : decode cX4_plan 113 = .ok (.bipush 40, 2) := dk_16 40 (dk_at dksX4_plan_4 19 rfl rfl)
theorem dX4_plan_115 : decode cX4_plan 115 = .ok (.aload_n 0, 1) := dk_42 (dk_at dksX4_plan_4 21 rfl rfl)
theorem dX4_plan_116 : decode cX4_plan 116 = .ok (.getfield 11, 3) := dk_180 0 11 (dk_at dksX4_plan_5 0 rfl rfl)
theorem dX4_plan_119 : decode cX4_plan 119 = .ok (.bipush 31, 2) := dk_16 31 (dk_at dksX4_plan_5 3 rfl rfl)
theorem dX4_plan_121 : decode cX4_plan 121 = .ok (.iaload, 1) := dk_46 (dk_at dksX4_plan_5 5 rfl rfl)
theorem dX4_plan_122 : decode cX4_plan 122 = .ok (.iadd, 1) := dk_96 (dk_at dksX4_plan_5 6 rfl rfl)
theorem dX4_plan_123 : decode cX4_plan 123 = .ok (.iload_n 2, 1) := dk_28 (dk_at dksX4_plan_5 7 rfl rfl)
theorem dX4_plan_124 : decode cX4_plan 124 = .ok (.iastore, 1) := dk_79 (dk_at dksX4_plan_5 8 rfl rfl)
theorem dX4_plan_125 : decode cX4_plan 125 = .ok (.aload_n 0, 1) := dk_42 (dk_at dksX4_plan_5 9 rfl rfl)
theorem dX4_plan_126 : decode cX4_plan 126 = .ok (.getfield 11, 3) := dk_180 0 11 (dk_at dksX4_plan_5 10 rfl rfl)
theorem dX4_plan_129 : decode cX4_plan 129 = .ok (.bipush 31, 2) := dk_16 31 (dk_at dksX4_plan_5 13 rfl rfl)
theorem dX4_plan_131 : decode cX4_plan 131 = .ok (.dup2, 1) := dk_92 (dk_at dksX4_plan_5 15 rfl rfl)
theorem dX4_plan_132 : decode cX4_plan 132 = .ok (.iaload, 1) := dk_46 (dk_at dksX4_plan_5 16 rfl rfl)
theorem dX4_plan_133 : decode cX4_plan 133 = .ok (.iconst 1, 1) := dk_4 (dk_at dksX4_plan_5 17 rfl rfl)
theorem dX4_plan_134 : decode cX4_plan 134 = .ok (.iadd, 1) := dk_96 (dk_at dksX4_plan_5 18 rfl rfl)
theorem dX4_plan_135 : decode cX4_plan 135 = .ok (.iastore, 1) := dk_79 (dk_at dksX4_plan_5 19 rfl rfl)
theorem dX4_plan_136 : decode cX4_plan 136 = .ok (.aload_n 0, 1) := dk_42 (dk_at dksX4_plan_5 20 rfl rfl)
theorem dX4_plan_137 : decode cX4_plan 137 = .ok (.getfield 11, 3) := dk_180 0 11 (dk_at dksX4_plan_5 21 rfl rfl)
theorem dX4_plan_140 : decode cX4_plan 140 = .ok (.bipush 31, 2) := dk_16 31 (dk_at dksX4_plan_6 0 rfl rfl)
theorem dX4_plan_142 : decode cX4_plan 142 = .ok (.iaload, 1) := dk_46 (dk_at dksX4_plan_6 2 rfl rfl)
theorem dX4_plan_143 : decode cX4_plan 143 = .ok (.ireturn, 1) := dk_172 (dk_at dksX4_plan_6 3 rfl rfl)
abbrev cX4_ends : ByteArray := prog_16_method_59_code
def yX4_ends : MethodName := ⟨RX4, "ends", "(II)I"⟩
def dkwX4_ends_7 : List UInt8 := [29, 62, 132, 7, 255, 167, 255, 154, 132, 4, 1, 167, 255, 99, 29, 172]
abbrev dktX4_ends_7 : List UInt8 := dkwX4_ends_7 ++ []
def dkwX4_ends_6 : List UInt8 := [21, 8, 16, 249, 159, 0, 7, 4, 167, 0, 4, 3, 54, 6, 21, 6, 153, 0, 8, 21, 8, 167, 0, 4]
abbrev dktX4_ends_6 : List UInt8 := dkwX4_ends_6 ++ dktX4_ends_7
def dkwX4_ends_5 : List UInt8 := [21, 4, 96, 46, 182, 0, 151, 167, 0, 15, 16, 32, 29, 16, 32, 112, 104, 29, 16, 32, 108, 96, 54, 8]
abbrev dktX4_ends_5 : List UInt8 := dkwX4_ends_5 ++ dktX4_ends_6
def dkwX4_ends_4 : List UInt8 := [167, 0, 4, 3, 182, 0, 158, 167, 0, 39, 21, 5, 5, 160, 0, 21, 42, 29, 42, 180, 0, 11, 16, 40]
abbrev dktX4_ends_4 : List UInt8 := dkwX4_ends_4 ++ dktX4_ends_5
def dkwX4_ends_3 : List UInt8 := [158, 0, 103, 21, 6, 153, 0, 98, 21, 5, 5, 162, 0, 22, 42, 29, 21, 5, 4, 160, 0, 7, 4]
abbrev dktX4_ends_3 : List UInt8 := dkwX4_ends_3 ++ dktX4_ends_4
def dkwX4_ends_2 : List UInt8 := [21, 5, 5, 162, 0, 16, 42, 180, 0, 11, 16, 40, 21, 4, 96, 46, 167, 0, 4, 4, 54, 7, 21, 7]
abbrev dktX4_ends_2 : List UInt8 := dkwX4_ends_2 ++ dktX4_ends_3
def dkwX4_ends_1 : List UInt8 := [180, 0, 11, 16, 31, 46, 162, 0, 151, 42, 180, 0, 11, 16, 32, 21, 4, 96, 46, 54, 5, 4, 54, 6]
abbrev dktX4_ends_1 : List UInt8 := dkwX4_ends_1 ++ dktX4_ends_2
def dkwX4_ends_0 : List UInt8 := [27, 28, 184, 0, 123, 154, 0, 5, 2, 172, 16, 32, 27, 104, 28, 96, 62, 3, 54, 4, 21, 4, 42]
abbrev dktX4_ends_0 : List UInt8 := dkwX4_ends_0 ++ dktX4_ends_1
theorem dksX4_ends_0 : cX4_ends.data.toList.drop 0 = dktX4_ends_0 := by decide +kernel
theorem dksX4_ends_1 : cX4_ends.data.toList.drop 23 = dktX4_ends_1 := dk_seg dksX4_ends_0 23 rfl rfl
theorem dksX4_ends_2 : cX4_ends.data.toList.drop 47 = dktX4_ends_2 := dk_seg dksX4_ends_1 24 rfl rfl
theorem dksX4_ends_3 : cX4_ends.data.toList.drop 71 = dktX4_ends_3 := dk_seg dksX4_ends_2 24 rfl rfl
theorem dksX4_ends_4 : cX4_ends.data.toList.drop 94 = dktX4_ends_4 := dk_seg dksX4_ends_3 23 rfl rfl
theorem dksX4_ends_5 : cX4_ends.data.toList.drop 118 = dktX4_ends_5 := dk_seg dksX4_ends_4 24 rfl rfl
theorem dksX4_ends_6 : cX4_ends.data.toList.drop 142 = dktX4_ends_6 := dk_seg dksX4_ends_5 24 rfl rfl
theorem dksX4_ends_7 : cX4_ends.data.toList.drop 166 = dktX4_ends_7 := dk_seg dksX4_ends_6 24 rfl rfl
theorem dX4_ends_0 : decode cX4_ends 0 = .ok (.iload_n 1, 1) := dk_27 (dk_at dksX4_ends_0 0 rfl rfl)
theorem dX4_ends_1 : decode cX4_ends 1 = .ok (.iload_n 2, 1) := dk_28 (dk_at dksX4_ends_0 1 rfl rfl)
theorem dX4_ends_2 : decode cX4_ends 2 = .ok (.invokestatic 123, 3) := dk_184 0 123 (dk_at dksX4_ends_0 2 rfl rfl)
theorem dX4_ends_5 : decode cX4_ends 5 = .ok (.ifCond .ne 5, 3) := dk_154 0 5 (dk_at dksX4_ends_0 5 rfl rfl)
theorem dX4_ends_8 : decode cX4_ends 8 = .ok (.iconst (-1), 1) := dk_2 (dk_at dksX4_ends_0 8 rfl rfl)
theorem dX4_ends_9 : decode cX4_ends 9 = .ok (.ireturn, 1) := dk_172 (dk_at dksX4_ends_0 9 rfl rfl)
theorem dX4_ends_10 : decode cX4_ends 10 = .ok (.bipush 32, 2) := dk_16 32 (dk_at dksX4_ends_0 10 rfl rfl)
theorem dX4_ends_12 : decode cX4_ends 12 = .ok (.iload_n 1, 1) := dk_27 (dk_at dksX4_ends_0 12 rfl rfl)
theorem dX4_ends_13 : decode cX4_ends 13 = .ok (.imul, 1) := dk_104 (dk_at dksX4_ends_0 13 rfl rfl)
theorem dX4_ends_14 : decode cX4_ends 14 = .ok (.iload_n 2, 1) := dk_28 (dk_at dksX4_ends_0 14 rfl rfl)
theorem dX4_ends_15 : decode cX4_ends 15 = .ok (.iadd, 1) := dk_96 (dk_at dksX4_ends_0 15 rfl rfl)
theorem dX4_ends_16 : decode cX4_ends 16 = .ok (.istore_n 3, 1) := dk_62 (dk_at dksX4_ends_0 16 rfl rfl)
theorem dX4_ends_17 : decode cX4_ends 17 = .ok (.iconst 0, 1) := dk_3 (dk_at dksX4_ends_0 17 rfl rfl)
theorem dX4_ends_18 : decode cX4_ends 18 = .ok (.istore 4, 2) := dk_54 4 (dk_at dksX4_ends_0 18 rfl rfl)
theorem dX4_ends_20 : decode cX4_ends 20 = .ok (.iload 4, 2) := dk_21 4 (dk_at dksX4_ends_0 20 rfl rfl)
theorem dX4_ends_22 : decode cX4_ends 22 = .ok (.aload_n 0, 1) := dk_42 (dk_at dksX4_ends_0 22 rfl rfl)
theorem dX4_ends_23 : decode cX4_ends 23 = .ok (.getfield 11, 3) := dk_180 0 11 (dk_at dksX4_ends_1 0 rfl rfl)
theorem dX4_ends_26 : decode cX4_ends 26 = .ok (.bipush 31, 2) := dk_16 31 (dk_at dksX4_ends_1 3 rfl rfl)
theorem dX4_ends_28 : decode cX4_ends 28 = .ok (.iaload, 1) := dk_46 (dk_at dksX4_ends_1 5 rfl rfl)
theorem dX4_ends_29 : decode cX4_ends 29 = .ok (.if_icmp .ge 151, 3) := dk_162 0 151 (dk_at dksX4_ends_1 6 rfl rfl)
theorem dX4_ends_32 : decode cX4_ends 32 = .ok (.aload_n 0, 1) := dk_42 (dk_at dksX4_ends_1 9 rfl rfl)
theorem dX4_ends_33 : decode cX4_ends 33 = .ok (.getfield 11, 3) := dk_180 0 11 (dk_at dksX4_ends_1 10 rfl rfl)
theorem dX4_ends_36 : decode cX4_ends 36 = .ok (.bipush 32, 2) := dk_16 32 (dk_at dksX4_ends_1 13 rfl rfl)
theorem dX4_ends_38 : decode cX4_ends 38 = .ok (.iload 4, 2) := dk_21 4 (dk_at dksX4_ends_1 15 rfl rfl)
theorem dX4_ends_40 : decode cX4_ends 40 = .ok (.iadd, 1) := dk_96 (dk_at dksX4_ends_1 17 rfl rfl)
theorem dX4_ends_41 : decode cX4_ends 41 = .ok (.iaload, 1) := dk_46 (dk_at dksX4_ends_1 18 rfl rfl)
theorem dX4_ends_42 : decode cX4_ends 42 = .ok (.istore 5, 2) := dk_54 5 (dk_at dksX4_ends_1 19 rfl rfl)
theorem dX4_ends_44 : decode cX4_ends 44 = .ok (.iconst 1, 1) := dk_4 (dk_at dksX4_ends_1 21 rfl rfl)
theorem dX4_ends_45 : decode cX4_ends 45 = .ok (.istore 6, 2) := dk_54 6 (dk_at dksX4_ends_1 22 rfl rfl)
theorem dX4_ends_47 : decode cX4_ends 47 = .ok (.iload 5, 2) := dk_21 5 (dk_at dksX4_ends_2 0 rfl rfl)
theorem dX4_ends_49 : decode cX4_ends 49 = .ok (.iconst 2, 1) := dk_5 (dk_at dksX4_ends_2 2 rfl rfl)
theorem dX4_ends_50 : decode cX4_ends 50 = .ok (.if_icmp .ge 16, 3) := dk_162 0 16 (dk_at dksX4_ends_2 3 rfl rfl)
theorem dX4_ends_53 : decode cX4_ends 53 = .ok (.aload_n 0, 1) := dk_42 (dk_at dksX4_ends_2 6 rfl rfl)
theorem dX4_ends_54 : decode cX4_ends 54 = .ok (.getfield 11, 3) := dk_180 0 11 (dk_at dksX4_ends_2 7 rfl rfl)
theorem dX4_ends_57 : decode cX4_ends 57 = .ok (.bipush 40, 2) := dk_16 40 (dk_at dksX4_ends_2 10 rfl rfl)
theorem dX4_ends_59 : decode cX4_ends 59 = .ok (.iload 4, 2) := dk_21 4 (dk_at dksX4_ends_2 12 rfl rfl)
theorem dX4_ends_61 : decode cX4_ends 61 = .ok (.iadd, 1) := dk_96 (dk_at dksX4_ends_2 14 rfl rfl)
theorem dX4_ends_62 : decode cX4_ends 62 = .ok (.iaload, 1) := dk_46 (dk_at dksX4_ends_2 15 rfl rfl)
theorem dX4_ends_63 : decode cX4_ends 63 = .ok (.goto 4, 3) := dk_167 0 4 (dk_at dksX4_ends_2 16 rfl rfl)
theorem dX4_ends_66 : decode cX4_ends 66 = .ok (.iconst 1, 1) := dk_4 (dk_at dksX4_ends_2 19 rfl rfl)
theorem dX4_ends_67 : decode cX4_ends 67 = .ok (.istore 7, 2) := dk_54 7 (dk_at dksX4_ends_2 20 rfl rfl)
theorem dX4_ends_69 : decode cX4_ends 69 = .ok (.iload 7, 2) := dk_21 7 (dk_at dksX4_ends_2 22 rfl rfl)
theorem dX4_ends_71 : decode cX4_ends 71 = .ok (.ifCond .le 103, 3) := dk_158 0 103 (dk_at dksX4_ends_3 0 rfl rfl)
theorem dX4_ends_74 : decode cX4_ends 74 = .ok (.iload 6, 2) := dk_21 6 (dk_at dksX4_ends_3 3 rfl rfl)
theorem dX4_ends_76 : decode cX4_ends 76 = .ok (.ifCond .eq 98, 3) := dk_153 0 98 (dk_at dksX4_ends_3 5 rfl rfl)
theorem dX4_ends_79 : decode cX4_ends 79 = .ok (.iload 5, 2) := dk_21 5 (dk_at dksX4_ends_3 8 rfl rfl)
theorem dX4_ends_81 : decode cX4_ends 81 = .ok (.iconst 2, 1) := dk_5 (dk_at dksX4_ends_3 10 rfl rfl)
theorem dX4_ends_82 : decode cX4_ends 82 = .ok (.if_icmp .ge 22, 3) := dk_162 0 22 (dk_at dksX4_ends_3 11 rfl rfl)
theorem dX4_ends_85 : decode cX4_ends 85 = .ok (.aload_n 0, 1) := dk_42 (dk_at dksX4_ends_3 14 rfl rfl)
theorem dX4_ends_86 : decode cX4_ends 86 = .ok (.iload_n 3, 1) := dk_29 (dk_at dksX4_ends_3 15 rfl rfl)
theorem dX4_ends_87 : decode cX4_ends 87 = .ok (.iload 5, 2) := dk_21 5 (dk_at dksX4_ends_3 16 rfl rfl)
theorem dX4_ends_89 : decode cX4_ends 89 = .ok (.iconst 1, 1) := dk_4 (dk_at dksX4_ends_3 18 rfl rfl)
theorem dX4_ends_90 : decode cX4_ends 90 = .ok (.if_icmp .ne 7, 3) := dk_160 0 7 (dk_at dksX4_ends_3 19 rfl rfl)
theorem dX4_ends_93 : decode cX4_ends 93 = .ok (.iconst 1, 1) := dk_4 (dk_at dksX4_ends_3 22 rfl rfl)
theorem dX4_ends_94 : decode cX4_ends 94 = .ok (.goto 4, 3) := dk_167 0 4 (dk_at dksX4_ends_4 0 rfl rfl)
theorem dX4_ends_97 : decode cX4_ends 97 = .ok (.iconst 0, 1) := dk_3 (dk_at dksX4_ends_4 3 rfl rfl)
theorem dX4_ends_98 : decode cX4_ends 98 = .ok (.invokevirtual 158, 3) := dk_182 0 158 (dk_at dksX4_ends_4 4 rfl rfl)
theorem dX4_ends_101 : decode cX4_ends 101 = .ok (.goto 39, 3) := dk_167 0 39 (dk_at dksX4_ends_4 7 rfl rfl)
theorem dX4_ends_104 : decode cX4_ends 104 = .ok (.iload 5, 2) := dk_21 5 (dk_at dksX4_ends_4 10 rfl rfl)
theorem dX4_ends_106 : decode cX4_ends 106 = .ok (.iconst 2, 1) := dk_5 (dk_at dksX4_ends_4 12 rfl rfl)
theorem dX4_ends_107 : decode cX4_ends 107 = .ok (.if_icmp .ne 21, 3) := dk_160 0 21 (dk_at dksX4_ends_4 13 rfl rfl)
theorem dX4_ends_110 : decode cX4_ends 110 = .ok (.aload_n 0, 1) := dk_42 (dk_at dksX4_ends_4 16 rfl rfl)
theorem dX4_ends_111 : decode cX4_ends 111 = .ok (.iload_n 3, 1) := dk_29 (dk_at dksX4_ends_4 17 rfl rfl)
theorem dX4_ends_112 : decode cX4_ends 112 = .ok (.aload_n 0, 1) := dk_42 (dk_at dksX4_ends_4 18 rfl rfl)
theorem dX4_ends_113 : decode cX4_ends 113 = .ok (.getfield 11, 3) := dk_180 0 11 (dk_at dksX4_ends_4 19 rfl rfl)
theorem dX4_ends_116 : decode cX4_ends 116 = .ok (.bipush 40, 2) := dk_16 40 (dk_at dksX4_ends_4 22 rfl rfl)
theorem dX4_ends_118 : decode cX4_ends 118 = .ok (.iload 4, 2) := dk_21 4 (dk_at dksX4_ends_5 0 rfl rfl)
theorem dX4_ends_120 : decode cX4_ends 120 = .ok (.iadd, 1) := dk_96 (dk_at dksX4_ends_5 2 rfl rfl)
theorem dX4_ends_121 : decode cX4_ends 121 = .ok (.iaload, 1) := dk_46 (dk_at dksX4_ends_5 3 rfl rfl)
theorem dX4_ends_122 : decode cX4_ends 122 = .ok (.invokevirtual 151, 3) := dk_182 0 151 (dk_at dksX4_ends_5 4 rfl rfl)
theorem dX4_ends_125 : decode cX4_ends 125 = .ok (.goto 15, 3) := dk_167 0 15 (dk_at dksX4_ends_5 7 rfl rfl)
theorem dX4_ends_128 : decode cX4_ends 128 = .ok (.bipush 32, 2) := dk_16 32 (dk_at dksX4_ends_5 10 rfl rfl)
theorem dX4_ends_130 : decode cX4_ends 130 = .ok (.iload_n 3, 1) := dk_29 (dk_at dksX4_ends_5 12 rfl rfl)
theorem dX4_ends_131 : decode cX4_ends 131 = .ok (.bipush 32, 2) := dk_16 32 (dk_at dksX4_ends_5 13 rfl rfl)
theorem dX4_ends_133 : decode cX4_ends 133 = .ok (.irem, 1) := dk_112 (dk_at dksX4_ends_5 15 rfl rfl)
theorem dX4_ends_134 : decode cX4_ends 134 = .ok (.imul, 1) := dk_104 (dk_at dksX4_ends_5 16 rfl rfl)
theorem dX4_ends_135 : decode cX4_ends 135 = .ok (.iload_n 3, 1) := dk_29 (dk_at dksX4_ends_5 17 rfl rfl)
theorem dX4_ends_136 : decode cX4_ends 136 = .ok (.bipush 32, 2) := dk_16 32 (dk_at dksX4_ends_5 18 rfl rfl)
theorem dX4_ends_138 : decode cX4_ends 138 = .ok (.idiv, 1) := dk_108 (dk_at dksX4_ends_5 20 rfl rfl)
theorem dX4_ends_139 : decode cX4_ends 139 = .ok (.iadd, 1) := dk_96 (dk_at dksX4_ends_5 21 rfl rfl)
theorem dX4_ends_140 : decode cX4_ends 140 = .ok (.istore 8, 2) := dk_54 8 (dk_at dksX4_ends_5 22 rfl rfl)
theorem dX4_ends_142 : decode cX4_ends 142 = .ok (.iload 8, 2) := dk_21 8 (dk_at dksX4_ends_6 0 rfl rfl)
theorem dX4_ends_144 : decode cX4_ends 144 = .ok (.bipush (-7), 2) := dk_16 249 (dk_at dksX4_ends_6 2 rfl rfl)
theorem dX4_ends_146 : decode cX4_ends 146 = .ok (.if_icmp .eq 7, 3) := dk_159 0 7 (dk_at dksX4_ends_6 4 rfl rfl)
theorem dX4_ends_149 : decode cX4_ends 149 = .ok (.iconst 1, 1) := dk_4 (dk_at dksX4_ends_6 7 rfl rfl)
theorem dX4_ends_150 : decode cX4_ends 150 = .ok (.goto 4, 3) := dk_167 0 4 (dk_at dksX4_ends_6 8 rfl rfl)
theorem dX4_ends_153 : decode cX4_ends 153 = .ok (.iconst 0, 1) := dk_3 (dk_at dksX4_ends_6 11 rfl rfl)
theorem dX4_ends_154 : decode cX4_ends 154 = .ok (.istore 6, 2) := dk_54 6 (dk_at dksX4_ends_6 12 rfl rfl)
theorem dX4_ends_156 : decode cX4_ends 156 = .ok (.iload 6, 2) := dk_21 6 (dk_at dksX4_ends_6 14 rfl rfl)
theorem dX4_ends_158 : decode cX4_ends 158 = .ok (.ifCond .eq 8, 3) := dk_153 0 8 (dk_at dksX4_ends_6 16 rfl rfl)
theorem dX4_ends_161 : decode cX4_ends 161 = .ok (.iload 8, 2) := dk_21 8 (dk_at dksX4_ends_6 19 rfl rfl)
theorem dX4_ends_163 : decode cX4_ends 163 = .ok (.goto 4, 3) := dk_167 0 4 (dk_at dksX4_ends_6 21 rfl rfl)
theorem dX4_ends_166 : decode cX4_ends 166 = .ok (.iload_n 3, 1) := dk_29 (dk_at dksX4_ends_7 0 rfl rfl)
theorem dX4_ends_167 : decode cX4_ends 167 = .ok (.istore_n 3, 1) := dk_62 (dk_at dksX4_ends_7 1 rfl rfl)
theorem dX4_ends_168 : decode cX4_ends 168 = .ok (.iinc 7 (-1), 3) := dk_132 7 255 (dk_at dksX4_ends_7 2 rfl rfl)
theorem dX4_ends_171 : decode cX4_ends 171 = .ok (.goto (-102), 3) := dk_167 255 154 (dk_at dksX4_ends_7 5 rfl rfl)
theorem dX4_ends_174 : decode cX4_ends 174 = .ok (.iinc 4 1, 3) := dk_132 4 1 (dk_at dksX4_ends_7 8 rfl rfl)
theorem dX4_ends_177 : decode cX4_ends 177 = .ok (.goto (-157), 3) := dk_167 255 99 (dk_at dksX4_ends_7 11 rfl rfl)
theorem dX4_ends_180 : decode cX4_ends 180 = .ok (.iload_n 3, 1) := dk_29 (dk_at dksX4_ends_7 14 rfl rfl)
theorem dX4_ends_181 : decode cX4_ends 181 = .ok (.ireturn, 1) := dk_172 (dk_at dksX4_ends_7 15 rfl rfl)
abbrev cX4_feed : ByteArray := prog_16_method_60_code
def yX4_feed : MethodName := ⟨RX4, "feed", "(I)I"⟩
def dkwX4_feed_2 : List UInt8 := [180, 0, 237, 172]
abbrev dktX4_feed_2 : List UInt8 := dkwX4_feed_2 ++ []
def dkwX4_feed_1 : List UInt8 := [16, 252, 172, 42, 180, 0, 78, 42, 180, 0, 237, 27, 79, 42, 89, 180, 0, 237, 4, 96, 181, 0, 237, 42]
abbrev dktX4_feed_1 : List UInt8 := dkwX4_feed_1 ++ dktX4_feed_2
def dkwX4_feed_0 : List UInt8 := [27, 133, 10, 20, 0, 235, 184, 0, 99, 154, 0, 6, 16, 254, 172, 42, 180, 0, 237, 16, 60, 160, 0, 6]
abbrev dktX4_feed_0 : List UInt8 := dkwX4_feed_0 ++ dktX4_feed_1
theorem dksX4_feed_0 : cX4_feed.data.toList.drop 0 = dktX4_feed_0 := by decide +kernel
theorem dksX4_feed_1 : cX4_feed.data.toList.drop 24 = dktX4_feed_1 := dk_seg dksX4_feed_0 24 rfl rfl
theorem dksX4_feed_2 : cX4_feed.data.toList.drop 48 = dktX4_feed_2 := dk_seg dksX4_feed_1 24 rfl rfl
theorem dX4_feed_0 : decode cX4_feed 0 = .ok (.iload_n 1, 1) := dk_27 (dk_at dksX4_feed_0 0 rfl rfl)
theorem dX4_feed_1 : decode cX4_feed 1 = .ok (.i2l, 1) := dk_133 (dk_at dksX4_feed_0 1 rfl rfl)
theorem dX4_feed_2 : decode cX4_feed 2 = .ok (.lconst 1, 1) := dk_10 (dk_at dksX4_feed_0 2 rfl rfl)
theorem dX4_feed_3 : decode cX4_feed 3 = .ok (.ldc2_w 235, 3) := dk_20 0 235 (dk_at dksX4_feed_0 3 rfl rfl)
theorem dX4_feed_6 : decode cX4_feed 6 = .ok (.invokestatic 99, 3) := dk_184 0 99 (dk_at dksX4_feed_0 6 rfl rfl)
theorem dX4_feed_9 : decode cX4_feed 9 = .ok (.ifCond .ne 6, 3) := dk_154 0 6 (dk_at dksX4_feed_0 9 rfl rfl)
theorem dX4_feed_12 : decode cX4_feed 12 = .ok (.bipush (-2), 2) := dk_16 254 (dk_at dksX4_feed_0 12 rfl rfl)
theorem dX4_feed_14 : decode cX4_feed 14 = .ok (.ireturn, 1) := dk_172 (dk_at dksX4_feed_0 14 rfl rfl)
theorem dX4_feed_15 : decode cX4_feed 15 = .ok (.aload_n 0, 1) := dk_42 (dk_at dksX4_feed_0 15 rfl rfl)
theorem dX4_feed_16 : decode cX4_feed 16 = .ok (.getfield 237, 3) := dk_180 0 237 (dk_at dksX4_feed_0 16 rfl rfl)
theorem dX4_feed_19 : decode cX4_feed 19 = .ok (.bipush 60, 2) := dk_16 60 (dk_at dksX4_feed_0 19 rfl rfl)
theorem dX4_feed_21 : decode cX4_feed 21 = .ok (.if_icmp .ne 6, 3) := dk_160 0 6 (dk_at dksX4_feed_0 21 rfl rfl)
theorem dX4_feed_24 : decode cX4_feed 24 = .ok (.bipush (-4), 2) := dk_16 252 (dk_at dksX4_feed_1 0 rfl rfl)
theorem dX4_feed_26 : decode cX4_feed 26 = .ok (.ireturn, 1) := dk_172 (dk_at dksX4_feed_1 2 rfl rfl)
theorem dX4_feed_27 : decode cX4_feed 27 = .ok (.aload_n 0, 1) := dk_42 (dk_at dksX4_feed_1 3 rfl rfl)
theorem dX4_feed_28 : decode cX4_feed 28 = .ok (.getfield 78, 3) := dk_180 0 78 (dk_at dksX4_feed_1 4 rfl rfl)
theorem dX4_feed_31 : decode cX4_feed 31 = .ok (.aload_n 0, 1) := dk_42 (dk_at dksX4_feed_1 7 rfl rfl)
theorem dX4_feed_32 : decode cX4_feed 32 = .ok (.getfield 237, 3) := dk_180 0 237 (dk_at dksX4_feed_1 8 rfl rfl)
theorem dX4_feed_35 : decode cX4_feed 35 = .ok (.iload_n 1, 1) := dk_27 (dk_at dksX4_feed_1 11 rfl rfl)
theorem dX4_feed_36 : decode cX4_feed 36 = .ok (.iastore, 1) := dk_79 (dk_at dksX4_feed_1 12 rfl rfl)
theorem dX4_feed_37 : decode cX4_feed 37 = .ok (.aload_n 0, 1) := dk_42 (dk_at dksX4_feed_1 13 rfl rfl)
theorem dX4_feed_38 : decode cX4_feed 38 = .ok (.dup, 1) := dk_89 (dk_at dksX4_feed_1 14 rfl rfl)
theorem dX4_feed_39 : decode cX4_feed 39 = .ok (.getfield 237, 3) := dk_180 0 237 (dk_at dksX4_feed_1 15 rfl rfl)
theorem dX4_feed_42 : decode cX4_feed 42 = .ok (.iconst 1, 1) := dk_4 (dk_at dksX4_feed_1 18 rfl rfl)
theorem dX4_feed_43 : decode cX4_feed 43 = .ok (.iadd, 1) := dk_96 (dk_at dksX4_feed_1 19 rfl rfl)
theorem dX4_feed_44 : decode cX4_feed 44 = .ok (.putfield 237, 3) := dk_181 0 237 (dk_at dksX4_feed_1 20 rfl rfl)
theorem dX4_feed_47 : decode cX4_feed 47 = .ok (.aload_n 0, 1) := dk_42 (dk_at dksX4_feed_1 23 rfl rfl)
theorem dX4_feed_48 : decode cX4_feed 48 = .ok (.getfield 237, 3) := dk_180 0 237 (dk_at dksX4_feed_2 0 rfl rfl)
theorem dX4_feed_51 : decode cX4_feed 51 = .ok (.ireturn, 1) := dk_172 (dk_at dksX4_feed_2 3 rfl rfl)
abbrev cX4_table : ByteArray := prog_16_method_64_code
def yX4_table : MethodName := ⟨RX4, "table", "(I)I"⟩
def dkwX4_table_7 : List UInt8 := [46, 79, 132, 4, 1, 167, 255, 227, 28, 172]
abbrev dktX4_table_7 : List UInt8 := dkwX4_table_7 ++ []
def dkwX4_table_6 : List UInt8 := [21, 4, 16, 9, 162, 0, 28, 42, 180, 0, 11, 16, 9, 27, 104, 21, 4, 96, 42, 180, 0, 81, 21, 4]
abbrev dktX4_table_6 : List UInt8 := dkwX4_table_6 ++ dktX4_table_7
def dkwX4_table_5 : List UInt8 := [167, 255, 180, 42, 3, 181, 0, 237, 29, 154, 0, 11, 16, 156, 42, 180, 0, 241, 100, 172, 3, 54, 4]
abbrev dktX4_table_5 : List UInt8 := dkwX4_table_5 ++ dktX4_table_6
def dkwX4_table_4 : List UInt8 := [181, 0, 241, 29, 153, 0, 14, 42, 182, 1, 0, 153, 0, 7, 4, 167, 0, 4, 3, 62, 132, 2, 1]
abbrev dktX4_table_4 : List UInt8 := dkwX4_table_4 ++ dktX4_table_5
def dkwX4_table_3 : List UInt8 := [160, 0, 7, 4, 167, 0, 4, 3, 62, 42, 89, 180, 0, 241, 29, 153, 0, 7, 4, 167, 0, 4, 3, 96]
abbrev dktX4_table_3 : List UInt8 := dkwX4_table_3 ++ dktX4_table_4
def dkwX4_table_2 : List UInt8 := [153, 0, 14, 42, 180, 0, 241, 42, 180, 0, 237, 162, 0, 63, 28, 158, 0, 36, 42, 182, 0, 244, 16, 43]
abbrev dktX4_table_2 : List UInt8 := dkwX4_table_2 ++ dktX4_table_3
def dkwX4_table_1 : List UInt8 := [28, 3, 79, 132, 2, 1, 167, 255, 240, 42, 3, 181, 0, 241, 3, 61, 4, 62, 29, 153, 0, 78, 28]
abbrev dktX4_table_1 : List UInt8 := dkwX4_table_1 ++ dktX4_table_2
def dkwX4_table_0 : List UInt8 := [27, 133, 9, 10, 184, 0, 99, 154, 0, 5, 2, 172, 3, 61, 28, 16, 9, 162, 0, 16, 42, 180, 0, 81]
abbrev dktX4_table_0 : List UInt8 := dkwX4_table_0 ++ dktX4_table_1
theorem dksX4_table_0 : cX4_table.data.toList.drop 0 = dktX4_table_0 := by decide +kernel
theorem dksX4_table_1 : cX4_table.data.toList.drop 24 = dktX4_table_1 := dk_seg dksX4_table_0 24 rfl rfl
theorem dksX4_table_2 : cX4_table.data.toList.drop 47 = dktX4_table_2 := dk_seg dksX4_table_1 23 rfl rfl
theorem dksX4_table_3 : cX4_table.data.toList.drop 71 = dktX4_table_3 := dk_seg dksX4_table_2 24 rfl rfl
theorem dksX4_table_4 : cX4_table.data.toList.drop 95 = dktX4_table_4 := dk_seg dksX4_table_3 24 rfl rfl
theorem dksX4_table_5 : cX4_table.data.toList.drop 118 = dktX4_table_5 := dk_seg dksX4_table_4 23 rfl rfl
theorem dksX4_table_6 : cX4_table.data.toList.drop 141 = dktX4_table_6 := dk_seg dksX4_table_5 23 rfl rfl
theorem dksX4_table_7 : cX4_table.data.toList.drop 165 = dktX4_table_7 := dk_seg dksX4_table_6 24 rfl rfl
theorem dX4_table_0 : decode cX4_table 0 = .ok (.iload_n 1, 1) := dk_27 (dk_at dksX4_table_0 0 rfl rfl)
theorem dX4_table_1 : decode cX4_table 1 = .ok (.i2l, 1) := dk_133 (dk_at dksX4_table_0 1 rfl rfl)
theorem dX4_table_2 : decode cX4_table 2 = .ok (.lconst 0, 1) := dk_9 (dk_at dksX4_table_0 2 rfl rfl)
theorem dX4_table_3 : decode cX4_table 3 = .ok (.lconst 1, 1) := dk_10 (dk_at dksX4_table_0 3 rfl rfl)
theorem dX4_table_4 : decode cX4_table 4 = .ok (.invokestatic 99, 3) := dk_184 0 99 (dk_at dksX4_table_0 4 rfl rfl)
theorem dX4_table_7 : decode cX4_table 7 = .ok (.ifCond .ne 5, 3) := dk_154 0 5 (dk_at dksX4_table_0 7 rfl rfl)
theorem dX4_table_10 : decode cX4_table 10 = .ok (.iconst (-1), 1) := dk_2 (dk_at dksX4_table_0 10 rfl rfl)
theorem dX4_table_11 : decode cX4_table 11 = .ok (.ireturn, 1) := dk_172 (dk_at dksX4_table_0 11 rfl rfl)
theorem dX4_table_12 : decode cX4_table 12 = .ok (.iconst 0, 1) := dk_3 (dk_at dksX4_table_0 12 rfl rfl)
theorem dX4_table_13 : decode cX4_table 13 = .ok (.istore_n 2, 1) := dk_61 (dk_at dksX4_table_0 13 rfl rfl)
theorem dX4_table_14 : decode cX4_table 14 = .ok (.iload_n 2, 1) := dk_28 (dk_at dksX4_table_0 14 rfl rfl)
theorem dX4_table_15 : decode cX4_table 15 = .ok (.bipush 9, 2) := dk_16 9 (dk_at dksX4_table_0 15 rfl rfl)
theorem dX4_table_17 : decode cX4_table 17 = .ok (.if_icmp .ge 16, 3) := dk_162 0 16 (dk_at dksX4_table_0 17 rfl rfl)
theorem dX4_table_20 : decode cX4_table 20 = .ok (.aload_n 0, 1) := dk_42 (dk_at dksX4_table_0 20 rfl rfl)
theorem dX4_table_21 : decode cX4_table 21 = .ok (.getfield 81, 3) := dk_180 0 81 (dk_at dksX4_table_0 21 rfl rfl)
theorem dX4_table_24 : decode cX4_table 24 = .ok (.iload_n 2, 1) := dk_28 (dk_at dksX4_table_1 0 rfl rfl)
theorem dX4_table_25 : decode cX4_table 25 = .ok (.iconst 0, 1) := dk_3 (dk_at dksX4_table_1 1 rfl rfl)
theorem dX4_table_26 : decode cX4_table 26 = .ok (.iastore, 1) := dk_79 (dk_at dksX4_table_1 2 rfl rfl)
theorem dX4_table_27 : decode cX4_table 27 = .ok (.iinc 2 1, 3) := dk_132 2 1 (dk_at dksX4_table_1 3 rfl rfl)
theorem dX4_table_30 : decode cX4_table 30 = .ok (.goto (-16), 3) := dk_167 255 240 (dk_at dksX4_table_1 6 rfl rfl)
theorem dX4_table_33 : decode cX4_table 33 = .ok (.aload_n 0, 1) := dk_42 (dk_at dksX4_table_1 9 rfl rfl)
theorem dX4_table_34 : decode cX4_table 34 = .ok (.iconst 0, 1) := dk_3 (dk_at dksX4_table_1 10 rfl rfl)
theorem dX4_table_35 : decode cX4_table 35 = .ok (.putfield 241, 3) := dk_181 0 241 (dk_at dksX4_table_1 11 rfl rfl)
theorem dX4_table_38 : decode cX4_table 38 = .ok (.iconst 0, 1) := dk_3 (dk_at dksX4_table_1 14 rfl rfl)
theorem dX4_table_39 : decode cX4_table 39 = .ok (.istore_n 2, 1) := dk_61 (dk_at dksX4_table_1 15 rfl rfl)
theorem dX4_table_40 : decode cX4_table 40 = .ok (.iconst 1, 1) := dk_4 (dk_at dksX4_table_1 16 rfl rfl)
theorem dX4_table_41 : decode cX4_table 41 = .ok (.istore_n 3, 1) := dk_62 (dk_at dksX4_table_1 17 rfl rfl)
theorem dX4_table_42 : decode cX4_table 42 = .ok (.iload_n 3, 1) := dk_29 (dk_at dksX4_table_1 18 rfl rfl)
theorem dX4_table_43 : decode cX4_table 43 = .ok (.ifCond .eq 78, 3) := dk_153 0 78 (dk_at dksX4_table_1 19 rfl rfl)
theorem dX4_table_46 : decode cX4_table 46 = .ok (.iload_n 2, 1) := dk_28 (dk_at dksX4_table_1 22 rfl rfl)
theorem dX4_table_47 : decode cX4_table 47 = .ok (.ifCond .eq 14, 3) := dk_153 0 14 (dk_at dksX4_table_2 0 rfl rfl)
theorem dX4_table_50 : decode cX4_table 50 = .ok (.aload_n 0, 1) := dk_42 (dk_at dksX4_table_2 3 rfl rfl)
theorem dX4_table_51 : decode cX4_table 51 = .ok (.getfield 241, 3) := dk_180 0 241 (dk_at dksX4_table_2 4 rfl rfl)
theorem dX4_table_54 : decode cX4_table 54 = .ok (.aload_n 0, 1) := dk_42 (dk_at dksX4_table_2 7 rfl rfl)
theorem dX4_table_55 : decode cX4_table 55 = .ok (.getfield 237, 3) := dk_180 0 237 (dk_at dksX4_table_2 8 rfl rfl)
theorem dX4_table_58 : decode cX4_table 58 = .ok (.if_icmp .ge 63, 3) := dk_162 0 63 (dk_at dksX4_table_2 11 rfl rfl)
theorem dX4_table_61 : decode cX4_table 61 = .ok (.iload_n 2, 1) := dk_28 (dk_at dksX4_table_2 14 rfl rfl)
theorem dX4_table_62 : decode cX4_table 62 = .ok (.ifCond .le 36, 3) := dk_158 0 36 (dk_at dksX4_table_2 15 rfl rfl)
theorem dX4_table_65 : decode cX4_table 65 = .ok (.aload_n 0, 1) := dk_42 (dk_at dksX4_table_2 18 rfl rfl)
theorem dX4_table_66 : decode cX4_table 66 = .ok (.invokevirtual 244, 3) := dk_182 0 244 (dk_at dksX4_table_2 19 rfl rfl)
theorem dX4_table_69 : decode cX4_table 69 = .ok (.bipush 43, 2) := dk_16 43 (dk_at dksX4_table_2 22 rfl rfl)
theorem dX4_table_71 : decode cX4_table 71 = .ok (.if_icmp .ne 7, 3) := dk_160 0 7 (dk_at dksX4_table_3 0 rfl rfl)
theorem dX4_table_74 : decode cX4_table 74 = .ok (.iconst 1, 1) := dk_4 (dk_at dksX4_table_3 3 rfl rfl)
theorem dX4_table_75 : decode cX4_table 75 = .ok (.goto 4, 3) := dk_167 0 4 (dk_at dksX4_table_3 4 rfl rfl)
theorem dX4_table_78 : decode cX4_table 78 = .ok (.iconst 0, 1) := dk_3 (dk_at dksX4_table_3 7 rfl rfl)
theorem dX4_table_79 : decode cX4_table 79 = .ok (.istore_n 3, 1) := dk_62 (dk_at dksX4_table_3 8 rfl rfl)
theorem dX4_table_80 : decode cX4_table 80 = .ok (.aload_n 0, 1) := dk_42 (dk_at dksX4_table_3 9 rfl rfl)
theorem dX4_table_81 : decode cX4_table 81 = .ok (.dup, 1) := dk_89 (dk_at dksX4_table_3 10 rfl rfl)
theorem dX4_table_82 : decode cX4_table 82 = .ok (.getfield 241, 3) := dk_180 0 241 (dk_at dksX4_table_3 11 rfl rfl)
theorem dX4_table_85 : decode cX4_table 85 = .ok (.iload_n 3, 1) := dk_29 (dk_at dksX4_table_3 14 rfl rfl)
theorem dX4_table_86 : decode cX4_table 86 = .ok (.ifCond .eq 7, 3) := dk_153 0 7 (dk_at dksX4_table_3 15 rfl rfl)
theorem dX4_table_89 : decode cX4_table 89 = .ok (.iconst 1, 1) := dk_4 (dk_at dksX4_table_3 18 rfl rfl)
theorem dX4_table_90 : decode cX4_table 90 = .ok (.goto 4, 3) := dk_167 0 4 (dk_at dksX4_table_3 19 rfl rfl)
theorem dX4_table_93 : decode cX4_table 93 = .ok (.iconst 0, 1) := dk_3 (dk_at dksX4_table_3 22 rfl rfl)
theorem dX4_table_94 : decode cX4_table 94 = .ok (.iadd, 1) := dk_96 (dk_at dksX4_table_3 23 rfl rfl)
theorem dX4_table_95 : decode cX4_table 95 = .ok (.putfield 241, 3) := dk_181 0 241 (dk_at dksX4_table_4 0 rfl rfl)
theorem dX4_table_98 : decode cX4_table 98 = .ok (.iload_n 3, 1) := dk_29 (dk_at dksX4_table_4 3 rfl rfl)
theorem dX4_table_99 : decode cX4_table 99 = .ok (.ifCond .eq 14, 3) := dk_153 0 14 (dk_at dksX4_table_4 4 rfl rfl)
theorem dX4_table_102 : decode cX4_table 102 = .ok (.aload_n 0, 1) := dk_42 (dk_at dksX4_table_4 7 rfl rfl)
theorem dX4_table_103 : decode cX4_table 103 = .ok (.invokevirtual 256, 3) := dk_182 1 0 (dk_at dksX4_table_4 8 rfl rfl)
theorem dX4_table_106 : decode cX4_table 106 = .ok (.ifCond .eq 7, 3) := dk_153 0 7 (dk_at dksX4_table_4 11 rfl rfl)
theorem dX4_table_109 : decode cX4_table 109 = .ok (.iconst 1, 1) := dk_4 (dk_at dksX4_table_4 14 rfl rfl)
theorem dX4_table_110 : decode cX4_table 110 = .ok (.goto 4, 3) := dk_167 0 4 (dk_at dksX4_table_4 15 rfl rfl)
theorem dX4_table_113 : decode cX4_table 113 = .ok (.iconst 0, 1) := dk_3 (dk_at dksX4_table_4 18 rfl rfl)
theorem dX4_table_114 : decode cX4_table 114 = .ok (.istore_n 3, 1) := dk_62 (dk_at dksX4_table_4 19 rfl rfl)
theorem dX4_table_115 : decode cX4_table 115 = .ok (.iinc 2 1, 3) := dk_132 2 1 (dk_at dksX4_table_4 20 rfl rfl)
theorem dX4_table_118 : decode cX4_table 118 = .ok (.goto (-76), 3) := dk_167 255 180 (dk_at dksX4_table_5 0 rfl rfl)
theorem dX4_table_121 : decode cX4_table 121 = .ok (.aload_n 0, 1) := dk_42 (dk_at dksX4_table_5 3 rfl rfl)
theorem dX4_table_122 : decode cX4_table 122 = .ok (.iconst 0, 1) := dk_3 (dk_at dksX4_table_5 4 rfl rfl)
theorem dX4_table_123 : decode cX4_table 123 = .ok (.putfield 237, 3) := dk_181 0 237 (dk_at dksX4_table_5 5 rfl rfl)
theorem dX4_table_126 : decode cX4_table 126 = .ok (.iload_n 3, 1) := dk_29 (dk_at dksX4_table_5 8 rfl rfl)
theorem dX4_table_127 : decode cX4_table 127 = .ok (.ifCond .ne 11, 3) := dk_154 0 11 (dk_at dksX4_table_5 9 rfl rfl)
theorem dX4_table_130 : decode cX4_table 130 = .ok (.bipush (-100), 2) := dk_16 156 (dk_at dksX4_table_5 12 rfl rfl)
theorem dX4_table_132 : decode cX4_table 132 = .ok (.aload_n 0, 1) := dk_42 (dk_at dksX4_table_5 14 rfl rfl)
theorem dX4_table_133 : decode cX4_table 133 = .ok (.getfield 241, 3) := dk_180 0 241 (dk_at dksX4_table_5 15 rfl rfl)
theorem dX4_table_136 : decode cX4_table 136 = .ok (.isub, 1) := dk_100 (dk_at dksX4_table_5 18 rfl rfl)
theorem dX4_table_137 : decode cX4_table 137 = .ok (.ireturn, 1) := dk_172 (dk_at dksX4_table_5 19 rfl rfl)
theorem dX4_table_138 : decode cX4_table 138 = .ok (.iconst 0, 1) := dk_3 (dk_at dksX4_table_5 20 rfl rfl)
theorem dX4_table_139 : decode cX4_table 139 = .ok (.istore 4, 2) := dk_54 4 (dk_at dksX4_table_5 21 rfl rfl)
theorem dX4_table_141 : decode cX4_table 141 = .ok (.iload 4, 2) := dk_21 4 (dk_at dksX4_table_6 0 rfl rfl)
theorem dX4_table_143 : decode cX4_table 143 = .ok (.bipush 9, 2) := dk_16 9 (dk_at dksX4_table_6 2 rfl rfl)
theorem dX4_table_145 : decode cX4_table 145 = .ok (.if_icmp .ge 28, 3) := dk_162 0 28 (dk_at dksX4_table_6 4 rfl rfl)
theorem dX4_table_148 : decode cX4_table 148 = .ok (.aload_n 0, 1) := dk_42 (dk_at dksX4_table_6 7 rfl rfl)
theorem dX4_table_149 : decode cX4_table 149 = .ok (.getfield 11, 3) := dk_180 0 11 (dk_at dksX4_table_6 8 rfl rfl)
theorem dX4_table_152 : decode cX4_table 152 = .ok (.bipush 9, 2) := dk_16 9 (dk_at dksX4_table_6 11 rfl rfl)
theorem dX4_table_154 : decode cX4_table 154 = .ok (.iload_n 1, 1) := dk_27 (dk_at dksX4_table_6 13 rfl rfl)
theorem dX4_table_155 : decode cX4_table 155 = .ok (.imul, 1) := dk_104 (dk_at dksX4_table_6 14 rfl rfl)
theorem dX4_table_156 : decode cX4_table 156 = .ok (.iload 4, 2) := dk_21 4 (dk_at dksX4_table_6 15 rfl rfl)
theorem dX4_table_158 : decode cX4_table 158 = .ok (.iadd, 1) := dk_96 (dk_at dksX4_table_6 17 rfl rfl)
theorem dX4_table_159 : decode cX4_table 159 = .ok (.aload_n 0, 1) := dk_42 (dk_at dksX4_table_6 18 rfl rfl)
theorem dX4_table_160 : decode cX4_table 160 = .ok (.getfield 81, 3) := dk_180 0 81 (dk_at dksX4_table_6 19 rfl rfl)
theorem dX4_table_163 : decode cX4_table 163 = .ok (.iload 4, 2) := dk_21 4 (dk_at dksX4_table_6 22 rfl rfl)
theorem dX4_table_165 : decode cX4_table 165 = .ok (.iaload, 1) := dk_46 (dk_at dksX4_table_7 0 rfl rfl)
theorem dX4_table_166 : decode cX4_table 166 = .ok (.iastore, 1) := dk_79 (dk_at dksX4_table_7 1 rfl rfl)
theorem dX4_table_167 : decode cX4_table 167 = .ok (.iinc 4 1, 3) := dk_132 4 1 (dk_at dksX4_table_7 2 rfl rfl)
theorem dX4_table_170 : decode cX4_table 170 = .ok (.goto (-29), 3) := dk_167 255 227 (dk_at dksX4_table_7 5 rfl rfl)
theorem dX4_table_173 : decode cX4_table 173 = .ok (.iload_n 2, 1) := dk_28 (dk_at dksX4_table_7 8 rfl rfl)
theorem dX4_table_174 : decode cX4_table 174 = .ok (.ireturn, 1) := dk_172 (dk_at dksX4_table_7 9 rfl rfl)
abbrev cX4_here : ByteArray := prog_16_method_61_code
def yX4_here : MethodName := ⟨RX4, "here", "()I"⟩
def dkwX4_here_1 : List UInt8 := [172]
abbrev dktX4_here_1 : List UInt8 := dkwX4_here_1 ++ []
def dkwX4_here_0 : List UInt8 := [42, 180, 0, 241, 42, 180, 0, 237, 162, 0, 15, 42, 180, 0, 78, 42, 180, 0, 241, 46, 167, 0, 4, 3]
abbrev dktX4_here_0 : List UInt8 := dkwX4_here_0 ++ dktX4_here_1
theorem dksX4_here_0 : cX4_here.data.toList.drop 0 = dktX4_here_0 := by decide +kernel
theorem dksX4_here_1 : cX4_here.data.toList.drop 24 = dktX4_here_1 := dk_seg dksX4_here_0 24 rfl rfl
theorem dX4_here_0 : decode cX4_here 0 = .ok (.aload_n 0, 1) := dk_42 (dk_at dksX4_here_0 0 rfl rfl)
theorem dX4_here_1 : decode cX4_here 1 = .ok (.getfield 241, 3) := dk_180 0 241 (dk_at dksX4_here_0 1 rfl rfl)
theorem dX4_here_4 : decode cX4_here 4 = .ok (.aload_n 0, 1) := dk_42 (dk_at dksX4_here_0 4 rfl rfl)
theorem dX4_here_5 : decode cX4_here 5 = .ok (.getfield 237, 3) := dk_180 0 237 (dk_at dksX4_here_0 5 rfl rfl)
theorem dX4_here_8 : decode cX4_here 8 = .ok (.if_icmp .ge 15, 3) := dk_162 0 15 (dk_at dksX4_here_0 8 rfl rfl)
theorem dX4_here_11 : decode cX4_here 11 = .ok (.aload_n 0, 1) := dk_42 (dk_at dksX4_here_0 11 rfl rfl)
theorem dX4_here_12 : decode cX4_here 12 = .ok (.getfield 78, 3) := dk_180 0 78 (dk_at dksX4_here_0 12 rfl rfl)
theorem dX4_here_15 : decode cX4_here 15 = .ok (.aload_n 0, 1) := dk_42 (dk_at dksX4_here_0 15 rfl rfl)
theorem dX4_here_16 : decode cX4_here 16 = .ok (.getfield 241, 3) := dk_180 0 241 (dk_at dksX4_here_0 16 rfl rfl)
theorem dX4_here_19 : decode cX4_here 19 = .ok (.iaload, 1) := dk_46 (dk_at dksX4_here_0 19 rfl rfl)
theorem dX4_here_20 : decode cX4_here 20 = .ok (.goto 4, 3) := dk_167 0 4 (dk_at dksX4_here_0 20 rfl rfl)
theorem dX4_here_23 : decode cX4_here 23 = .ok (.iconst 0, 1) := dk_3 (dk_at dksX4_here_0 23 rfl rfl)
theorem dX4_here_24 : decode cX4_here 24 = .ok (.ireturn, 1) := dk_172 (dk_at dksX4_here_1 0 rfl rfl)
abbrev cX4_isTerm : ByteArray := prog_16_method_63_code
def yX4_isTerm : MethodName := ⟨RX4, "isTerm", "()Z"⟩
def dkwX4_isTerm_5 : List UInt8 := [96, 46, 27, 96, 16, 31, 112, 79, 4, 172]
abbrev dktX4_isTerm_5 : List UInt8 := dkwX4_isTerm_5 ++ []
def dkwX4_isTerm_4 : List UInt8 := [42, 16, 121, 182, 0, 254, 62, 42, 180, 0, 81, 6, 28, 104, 29, 96, 42, 180, 0, 81, 6, 28, 104, 29]
abbrev dktX4_isTerm_4 : List UInt8 := dkwX4_isTerm_4 ++ dktX4_isTerm_5
def dkwX4_isTerm_3 : List UInt8 := [16, 31, 161, 0, 5, 3, 172, 42, 89, 180, 0, 241, 4, 96, 181, 0, 241, 42, 16, 120, 182, 0, 254, 61]
abbrev dktX4_isTerm_3 : List UInt8 := dkwX4_isTerm_3 ++ dktX4_isTerm_4
def dkwX4_isTerm_2 : List UInt8 := [20, 0, 250, 184, 0, 99, 153, 0, 34, 16, 10, 27, 104, 42, 182, 0, 244, 96, 16, 48, 100, 60, 27]
abbrev dktX4_isTerm_2 : List UInt8 := dkwX4_isTerm_2 ++ dktX4_isTerm_3
def dkwX4_isTerm_1 : List UInt8 := [16, 48, 100, 60, 42, 89, 180, 0, 241, 4, 96, 181, 0, 241, 42, 182, 0, 244, 133, 20, 0, 252]
abbrev dktX4_isTerm_1 : List UInt8 := dkwX4_isTerm_1 ++ dktX4_isTerm_2
def dkwX4_isTerm_0 : List UInt8 := [42, 182, 0, 244, 133, 20, 0, 248, 20, 0, 250, 184, 0, 99, 154, 0, 5, 3, 172, 42, 182, 0, 244]
abbrev dktX4_isTerm_0 : List UInt8 := dkwX4_isTerm_0 ++ dktX4_isTerm_1
theorem dksX4_isTerm_0 : cX4_isTerm.data.toList.drop 0 = dktX4_isTerm_0 := by decide +kernel
theorem dksX4_isTerm_1 : cX4_isTerm.data.toList.drop 23 = dktX4_isTerm_1 := dk_seg dksX4_isTerm_0 23 rfl rfl
theorem dksX4_isTerm_2 : cX4_isTerm.data.toList.drop 45 = dktX4_isTerm_2 := dk_seg dksX4_isTerm_1 22 rfl rfl
theorem dksX4_isTerm_3 : cX4_isTerm.data.toList.drop 68 = dktX4_isTerm_3 := dk_seg dksX4_isTerm_2 23 rfl rfl
theorem dksX4_isTerm_4 : cX4_isTerm.data.toList.drop 92 = dktX4_isTerm_4 := dk_seg dksX4_isTerm_3 24 rfl rfl
theorem dksX4_isTerm_5 : cX4_isTerm.data.toList.drop 116 = dktX4_isTerm_5 := dk_seg dksX4_isTerm_4 24 rfl rfl
theorem dX4_isTerm_0 : decode cX4_isTerm 0 = .ok (.aload_n 0, 1) := dk_42 (dk_at dksX4_isTerm_0 0 rfl rfl)
theorem dX4_isTerm_1 : decode cX4_isTerm 1 = .ok (.invokevirtual 244, 3) := dk_182 0 244 (dk_at dksX4_isTerm_0 1 rfl rfl)
theorem dX4_isTerm_4 : decode cX4_isTerm 4 = .ok (.i2l, 1) := dk_133 (dk_at dksX4_isTerm_0 4 rfl rfl)
theorem dX4_isTerm_5 : decode cX4_isTerm 5 = .ok (.ldc2_w 248, 3) := dk_20 0 248 (dk_at dksX4_isTerm_0 5 rfl rfl)
theorem dX4_isTerm_8 : decode cX4_isTerm 8 = .ok (.ldc2_w 250, 3) := dk_20 0 250 (dk_at dksX4_isTerm_0 8 rfl rfl)
theorem dX4_isTerm_11 : decode cX4_isTerm 11 = .ok (.invokestatic 99, 3) := dk_184 0 99 (dk_at dksX4_isTerm_0 11 rfl rfl)
theorem dX4_isTerm_14 : decode cX4_isTerm 14 = .ok (.ifCond .ne 5, 3) := dk_154 0 5 (dk_at dksX4_isTerm_0 14 rfl rfl)
theorem dX4_isTerm_17 : decode cX4_isTerm 17 = .ok (.iconst 0, 1) := dk_3 (dk_at dksX4_isTerm_0 17 rfl rfl)
theorem dX4_isTerm_18 : decode cX4_isTerm 18 = .ok (.ireturn, 1) := dk_172 (dk_at dksX4_isTerm_0 18 rfl rfl)
theorem dX4_isTerm_19 : decode cX4_isTerm 19 = .ok (.aload_n 0, 1) := dk_42 (dk_at dksX4_isTerm_0 19 rfl rfl)
theorem dX4_isTerm_20 : decode cX4_isTerm 20 = .ok (.invokevirtual 244, 3) := dk_182 0 244 (dk_at dksX4_isTerm_0 20 rfl rfl)
theorem dX4_isTerm_23 : decode cX4_isTerm 23 = .ok (.bipush 48, 2) := dk_16 48 (dk_at dksX4_isTerm_1 0 rfl rfl)
theorem dX4_isTerm_25 : decode cX4_isTerm 25 = .ok (.isub, 1) := dk_100 (dk_at dksX4_isTerm_1 2 rfl rfl)
theorem dX4_isTerm_26 : decode cX4_isTerm 26 = .ok (.istore_n 1, 1) := dk_60 (dk_at dksX4_isTerm_1 3 rfl rfl)
theorem dX4_isTerm_27 : decode cX4_isTerm 27 = .ok (.aload_n 0, 1) := dk_42 (dk_at dksX4_isTerm_1 4 rfl rfl)
theorem dX4_isTerm_28 : decode cX4_isTerm 28 = .ok (.dup, 1) := dk_89 (dk_at dksX4_isTerm_1 5 rfl rfl)
theorem dX4_isTerm_29 : decode cX4_isTerm 29 = .ok (.getfield 241, 3) := dk_180 0 241 (dk_at dksX4_isTerm_1 6 rfl rfl)
theorem dX4_isTerm_32 : decode cX4_isTerm 32 = .ok (.iconst 1, 1) := dk_4 (dk_at dksX4_isTerm_1 9 rfl rfl)
theorem dX4_isTerm_33 : decode cX4_isTerm 33 = .ok (.iadd, 1) := dk_96 (dk_at dksX4_isTerm_1 10 rfl rfl)
theorem dX4_isTerm_34 : decode cX4_isTerm 34 = .ok (.putfield 241, 3) := dk_181 0 241 (dk_at dksX4_isTerm_1 11 rfl rfl)
theorem dX4_isTerm_37 : decode cX4_isTerm 37 = .ok (.aload_n 0, 1) := dk_42 (dk_at dksX4_isTerm_1 14 rfl rfl)
theorem dX4_isTerm_38 : decode cX4_isTerm 38 = .ok (.invokevirtual 244, 3) := dk_182 0 244 (dk_at dksX4_isTerm_1 15 rfl rfl)
theorem dX4_isTerm_41 : decode cX4_isTerm 41 = .ok (.i2l, 1) := dk_133 (dk_at dksX4_isTerm_1 18 rfl rfl)
theorem dX4_isTerm_42 : decode cX4_isTerm 42 = .ok (.ldc2_w 252, 3) := dk_20 0 252 (dk_at dksX4_isTerm_1 19 rfl rfl)
theorem dX4_isTerm_45 : decode cX4_isTerm 45 = .ok (.ldc2_w 250, 3) := dk_20 0 250 (dk_at dksX4_isTerm_2 0 rfl rfl)
theorem dX4_isTerm_48 : decode cX4_isTerm 48 = .ok (.invokestatic 99, 3) := dk_184 0 99 (dk_at dksX4_isTerm_2 3 rfl rfl)
theorem dX4_isTerm_51 : decode cX4_isTerm 51 = .ok (.ifCond .eq 34, 3) := dk_153 0 34 (dk_at dksX4_isTerm_2 6 rfl rfl)
theorem dX4_isTerm_54 : decode cX4_isTerm 54 = .ok (.bipush 10, 2) := dk_16 10 (dk_at dksX4_isTerm_2 9 rfl rfl)
theorem dX4_isTerm_56 : decode cX4_isTerm 56 = .ok (.iload_n 1, 1) := dk_27 (dk_at dksX4_isTerm_2 11 rfl rfl)
theorem dX4_isTerm_57 : decode cX4_isTerm 57 = .ok (.imul, 1) := dk_104 (dk_at dksX4_isTerm_2 12 rfl rfl)
theorem dX4_isTerm_58 : decode cX4_isTerm 58 = .ok (.aload_n 0, 1) := dk_42 (dk_at dksX4_isTerm_2 13 rfl rfl)
theorem dX4_isTerm_59 : decode cX4_isTerm 59 = .ok (.invokevirtual 244, 3) := dk_182 0 244 (dk_at dksX4_isTerm_2 14 rfl rfl)
theorem dX4_isTerm_62 : decode cX4_isTerm 62 = .ok (.iadd, 1) := dk_96 (dk_at dksX4_isTerm_2 17 rfl rfl)
theorem dX4_isTerm_63 : decode cX4_isTerm 63 = .ok (.bipush 48, 2) := dk_16 48 (dk_at dksX4_isTerm_2 18 rfl rfl)
theorem dX4_isTerm_65 : decode cX4_isTerm 65 = .ok (.isub, 1) := dk_100 (dk_at dksX4_isTerm_2 20 rfl rfl)
theorem dX4_isTerm_66 : decode cX4_isTerm 66 = .ok (.istore_n 1, 1) := dk_60 (dk_at dksX4_isTerm_2 21 rfl rfl)
theorem dX4_isTerm_67 : decode cX4_isTerm 67 = .ok (.iload_n 1, 1) := dk_27 (dk_at dksX4_isTerm_2 22 rfl rfl)
theorem dX4_isTerm_68 : decode cX4_isTerm 68 = .ok (.bipush 31, 2) := dk_16 31 (dk_at dksX4_isTerm_3 0 rfl rfl)
theorem dX4_isTerm_70 : decode cX4_isTerm 70 = .ok (.if_icmp .lt 5, 3) := dk_161 0 5 (dk_at dksX4_isTerm_3 2 rfl rfl)
theorem dX4_isTerm_73 : decode cX4_isTerm 73 = .ok (.iconst 0, 1) := dk_3 (dk_at dksX4_isTerm_3 5 rfl rfl)
theorem dX4_isTerm_74 : decode cX4_isTerm 74 = .ok (.ireturn, 1) := dk_172 (dk_at dksX4_isTerm_3 6 rfl rfl)
theorem dX4_isTerm_75 : decode cX4_isTerm 75 = .ok (.aload_n 0, 1) := dk_42 (dk_at dksX4_isTerm_3 7 rfl rfl)
theorem dX4_isTerm_76 : decode cX4_isTerm 76 = .ok (.dup, 1) := dk_89 (dk_at dksX4_isTerm_3 8 rfl rfl)
theorem dX4_isTerm_77 : decode cX4_isTerm 77 = .ok (.getfield 241, 3) := dk_180 0 241 (dk_at dksX4_isTerm_3 9 rfl rfl)
theorem dX4_isTerm_80 : decode cX4_isTerm 80 = .ok (.iconst 1, 1) := dk_4 (dk_at dksX4_isTerm_3 12 rfl rfl)
theorem dX4_isTerm_81 : decode cX4_isTerm 81 = .ok (.iadd, 1) := dk_96 (dk_at dksX4_isTerm_3 13 rfl rfl)
theorem dX4_isTerm_82 : decode cX4_isTerm 82 = .ok (.putfield 241, 3) := dk_181 0 241 (dk_at dksX4_isTerm_3 14 rfl rfl)
theorem dX4_isTerm_85 : decode cX4_isTerm 85 = .ok (.aload_n 0, 1) := dk_42 (dk_at dksX4_isTerm_3 17 rfl rfl)
theorem dX4_isTerm_86 : decode cX4_isTerm 86 = .ok (.bipush 120, 2) := dk_16 120 (dk_at dksX4_isTerm_3 18 rfl rfl)
theorem dX4_isTerm_88 : decode cX4_isTerm 88 = .ok (.invokevirtual 254, 3) := dk_182 0 254 (dk_at dksX4_isTerm_3 20 rfl rfl)
theorem dX4_isTerm_91 : decode cX4_isTerm 91 = .ok (.istore_n 2, 1) := dk_61 (dk_at dksX4_isTerm_3 23 rfl rfl)
theorem dX4_isTerm_92 : decode cX4_isTerm 92 = .ok (.aload_n 0, 1) := dk_42 (dk_at dksX4_isTerm_4 0 rfl rfl)
theorem dX4_isTerm_93 : decode cX4_isTerm 93 = .ok (.bipush 121, 2) := dk_16 121 (dk_at dksX4_isTerm_4 1 rfl rfl)
theorem dX4_isTerm_95 : decode cX4_isTerm 95 = .ok (.invokevirtual 254, 3) := dk_182 0 254 (dk_at dksX4_isTerm_4 3 rfl rfl)
theorem dX4_isTerm_98 : decode cX4_isTerm 98 = .ok (.istore_n 3, 1) := dk_62 (dk_at dksX4_isTerm_4 6 rfl rfl)
theorem dX4_isTerm_99 : decode cX4_isTerm 99 = .ok (.aload_n 0, 1) := dk_42 (dk_at dksX4_isTerm_4 7 rfl rfl)
theorem dX4_isTerm_100 : decode cX4_isTerm 100 = .ok (.getfield 81, 3) := dk_180 0 81 (dk_at dksX4_isTerm_4 8 rfl rfl)
theorem dX4_isTerm_103 : decode cX4_isTerm 103 = .ok (.iconst 3, 1) := dk_6 (dk_at dksX4_isTerm_4 11 rfl rfl)
theorem dX4_isTerm_104 : decode cX4_isTerm 104 = .ok (.iload_n 2, 1) := dk_28 (dk_at dksX4_isTerm_4 12 rfl rfl)
theorem dX4_isTerm_105 : decode cX4_isTerm 105 = .ok (.imul, 1) := dk_104 (dk_at dksX4_isTerm_4 13 rfl rfl)
theorem dX4_isTerm_106 : decode cX4_isTerm 106 = .ok (.iload_n 3, 1) := dk_29 (dk_at dksX4_isTerm_4 14 rfl rfl)
theorem dX4_isTerm_107 : decode cX4_isTerm 107 = .ok (.iadd, 1) := dk_96 (dk_at dksX4_isTerm_4 15 rfl rfl)
theorem dX4_isTerm_108 : decode cX4_isTerm 108 = .ok (.aload_n 0, 1) := dk_42 (dk_at dksX4_isTerm_4 16 rfl rfl)
theorem dX4_isTerm_109 : decode cX4_isTerm 109 = .ok (.getfield 81, 3) := dk_180 0 81 (dk_at dksX4_isTerm_4 17 rfl rfl)
theorem dX4_isTerm_112 : decode cX4_isTerm 112 = .ok (.iconst 3, 1) := dk_6 (dk_at dksX4_isTerm_4 20 rfl rfl)
theorem dX4_isTerm_113 : decode cX4_isTerm 113 = .ok (.iload_n 2, 1) := dk_28 (dk_at dksX4_isTerm_4 21 rfl rfl)
theorem dX4_isTerm_114 : decode cX4_isTerm 114 = .ok (.imul, 1) := dk_104 (dk_at dksX4_isTerm_4 22 rfl rfl)
theorem dX4_isTerm_115 : decode cX4_isTerm 115 = .ok (.iload_n 3, 1) := dk_29 (dk_at dksX4_isTerm_4 23 rfl rfl)
theorem dX4_isTerm_116 : decode cX4_isTerm 116 = .ok (.iadd, 1) := dk_96 (dk_at dksX4_isTerm_5 0 rfl rfl)
theorem dX4_isTerm_117 : decode cX4_isTerm 117 = .ok (.iaload, 1) := dk_46 (dk_at dksX4_isTerm_5 1 rfl rfl)
theorem dX4_isTerm_118 : decode cX4_isTerm 118 = .ok (.iload_n 1, 1) := dk_27 (dk_at dksX4_isTerm_5 2 rfl rfl)
theorem dX4_isTerm_119 : decode cX4_isTerm 119 = .ok (.iadd, 1) := dk_96 (dk_at dksX4_isTerm_5 3 rfl rfl)
theorem dX4_isTerm_120 : decode cX4_isTerm 120 = .ok (.bipush 31, 2) := dk_16 31 (dk_at dksX4_isTerm_5 4 rfl rfl)
theorem dX4_isTerm_122 : decode cX4_isTerm 122 = .ok (.irem, 1) := dk_112 (dk_at dksX4_isTerm_5 6 rfl rfl)
theorem dX4_isTerm_123 : decode cX4_isTerm 123 = .ok (.iastore, 1) := dk_79 (dk_at dksX4_isTerm_5 7 rfl rfl)
theorem dX4_isTerm_124 : decode cX4_isTerm 124 = .ok (.iconst 1, 1) := dk_4 (dk_at dksX4_isTerm_5 8 rfl rfl)
theorem dX4_isTerm_125 : decode cX4_isTerm 125 = .ok (.ireturn, 1) := dk_172 (dk_at dksX4_isTerm_5 9 rfl rfl)
abbrev cX4_often : ByteArray := prog_16_method_62_code
def yX4_often : MethodName := ⟨RX4, "often", "(I)I"⟩
def dkwX4_often_1 : List UInt8 := [96, 181, 0, 241, 167, 255, 230, 28, 172]
abbrev dktX4_often_1 : List UInt8 := dkwX4_often_1 ++ []
def dkwX4_often_0 : List UInt8 := [3, 61, 28, 5, 162, 0, 27, 42, 182, 0, 244, 27, 160, 0, 19, 132, 2, 1, 42, 89, 180, 0, 241, 4]
abbrev dktX4_often_0 : List UInt8 := dkwX4_often_0 ++ dktX4_often_1
theorem dksX4_often_0 : cX4_often.data.toList.drop 0 = dktX4_often_0 := by decide +kernel
theorem dksX4_often_1 : cX4_often.data.toList.drop 24 = dktX4_often_1 := dk_seg dksX4_often_0 24 rfl rfl
theorem dX4_often_0 : decode cX4_often 0 = .ok (.iconst 0, 1) := dk_3 (dk_at dksX4_often_0 0 rfl rfl)
theorem dX4_often_1 : decode cX4_often 1 = .ok (.istore_n 2, 1) := dk_61 (dk_at dksX4_often_0 1 rfl rfl)
theorem dX4_often_2 : decode cX4_often 2 = .ok (.iload_n 2, 1) := dk_28 (dk_at dksX4_often_0 2 rfl rfl)
theorem dX4_often_3 : decode cX4_often 3 = .ok (.iconst 2, 1) := dk_5 (dk_at dksX4_often_0 3 rfl rfl)
theorem dX4_often_4 : decode cX4_often 4 = .ok (.if_icmp .ge 27, 3) := dk_162 0 27 (dk_at dksX4_often_0 4 rfl rfl)
theorem dX4_often_7 : decode cX4_often 7 = .ok (.aload_n 0, 1) := dk_42 (dk_at dksX4_often_0 7 rfl rfl)
theorem dX4_often_8 : decode cX4_often 8 = .ok (.invokevirtual 244, 3) := dk_182 0 244 (dk_at dksX4_often_0 8 rfl rfl)
theorem dX4_often_11 : decode cX4_often 11 = .ok (.iload_n 1, 1) := dk_27 (dk_at dksX4_often_0 11 rfl rfl)
theorem dX4_often_12 : decode cX4_often 12 = .ok (.if_icmp .ne 19, 3) := dk_160 0 19 (dk_at dksX4_often_0 12 rfl rfl)
theorem dX4_often_15 : decode cX4_often 15 = .ok (.iinc 2 1, 3) := dk_132 2 1 (dk_at dksX4_often_0 15 rfl rfl)
theorem dX4_often_18 : decode cX4_often 18 = .ok (.aload_n 0, 1) := dk_42 (dk_at dksX4_often_0 18 rfl rfl)
theorem dX4_often_19 : decode cX4_often 19 = .ok (.dup, 1) := dk_89 (dk_at dksX4_often_0 19 rfl rfl)
theorem dX4_often_20 : decode cX4_often 20 = .ok (.getfield 241, 3) := dk_180 0 241 (dk_at dksX4_often_0 20 rfl rfl)
theorem dX4_often_23 : decode cX4_often 23 = .ok (.iconst 1, 1) := dk_4 (dk_at dksX4_often_0 23 rfl rfl)
theorem dX4_often_24 : decode cX4_often 24 = .ok (.iadd, 1) := dk_96 (dk_at dksX4_often_1 0 rfl rfl)
theorem dX4_often_25 : decode cX4_often 25 = .ok (.putfield 241, 3) := dk_181 0 241 (dk_at dksX4_often_1 1 rfl rfl)
theorem dX4_often_28 : decode cX4_often 28 = .ok (.goto (-26), 3) := dk_167 255 230 (dk_at dksX4_often_1 4 rfl rfl)
theorem dX4_often_31 : decode cX4_often 31 = .ok (.iload_n 2, 1) := dk_28 (dk_at dksX4_often_1 7 rfl rfl)
theorem dX4_often_32 : decode cX4_often 32 = .ok (.ireturn, 1) := dk_172 (dk_at dksX4_often_1 8 rfl rfl)
abbrev cX4_write : ByteArray := prog_16_method_66_code
def yX4_write : MethodName := ⟨RX4, "write", "(I)I"⟩
def dkwX4_write_5 : List UInt8 := [180, 1, 4, 172]
abbrev dktX4_write_5 : List UInt8 := dkwX4_write_5 ++ []
def dkwX4_write_4 : List UInt8 := [16, 120, 28, 6, 108, 182, 1, 7, 42, 16, 121, 28, 6, 112, 182, 1, 7, 132, 2, 255, 167, 255, 163, 42]
abbrev dktX4_write_4 : List UInt8 := dkwX4_write_4 ++ dktX4_write_5
def dkwX4_write_3 : List UInt8 := [164, 0, 7, 4, 167, 0, 4, 3, 182, 1, 7, 42, 16, 48, 29, 16, 10, 112, 96, 4, 182, 1, 7, 42]
abbrev dktX4_write_3 : List UInt8 := dkwX4_write_3 ++ dktX4_write_4
def dkwX4_write_2 : List UInt8 := [158, 0, 7, 4, 167, 0, 4, 3, 182, 1, 7, 42, 16, 48, 29, 16, 10, 108, 96, 29, 16, 9]
abbrev dktX4_write_2 : List UInt8 := dkwX4_write_2 ++ dktX4_write_3
def dkwX4_write_1 : List UInt8 := [42, 180, 0, 11, 16, 9, 27, 104, 28, 96, 46, 62, 29, 158, 0, 73, 42, 16, 43, 42, 180, 1, 4]
abbrev dktX4_write_1 : List UInt8 := dkwX4_write_1 ++ dktX4_write_2
def dkwX4_write_0 : List UInt8 := [27, 133, 9, 10, 184, 0, 99, 154, 0, 5, 2, 172, 42, 3, 181, 1, 4, 16, 8, 61, 28, 155, 0, 95]
abbrev dktX4_write_0 : List UInt8 := dkwX4_write_0 ++ dktX4_write_1
theorem dksX4_write_0 : cX4_write.data.toList.drop 0 = dktX4_write_0 := by decide +kernel
theorem dksX4_write_1 : cX4_write.data.toList.drop 24 = dktX4_write_1 := dk_seg dksX4_write_0 24 rfl rfl
theorem dksX4_write_2 : cX4_write.data.toList.drop 47 = dktX4_write_2 := dk_seg dksX4_write_1 23 rfl rfl
theorem dksX4_write_3 : cX4_write.data.toList.drop 69 = dktX4_write_3 := dk_seg dksX4_write_2 22 rfl rfl
theorem dksX4_write_4 : cX4_write.data.toList.drop 93 = dktX4_write_4 := dk_seg dksX4_write_3 24 rfl rfl
theorem dksX4_write_5 : cX4_write.data.toList.drop 117 = dktX4_write_5 := dk_seg dksX4_write_4 24 rfl rfl
theorem dX4_write_0 : decode cX4_write 0 = .ok (.iload_n 1, 1) := dk_27 (dk_at dksX4_write_0 0 rfl rfl)
theorem dX4_write_1 : decode cX4_write 1 = .ok (.i2l, 1) := dk_133 (dk_at dksX4_write_0 1 rfl rfl)
theorem dX4_write_2 : decode cX4_write 2 = .ok (.lconst 0, 1) := dk_9 (dk_at dksX4_write_0 2 rfl rfl)
theorem dX4_write_3 : decode cX4_write 3 = .ok (.lconst 1, 1) := dk_10 (dk_at dksX4_write_0 3 rfl rfl)
theorem dX4_write_4 : decode cX4_write 4 = .ok (.invokestatic 99, 3) := dk_184 0 99 (dk_at dksX4_write_0 4 rfl rfl)
theorem dX4_write_7 : decode cX4_write 7 = .ok (.ifCond .ne 5, 3) := dk_154 0 5 (dk_at dksX4_write_0 7 rfl rfl)
theorem dX4_write_10 : decode cX4_write 10 = .ok (.iconst (-1), 1) := dk_2 (dk_at dksX4_write_0 10 rfl rfl)
theorem dX4_write_11 : decode cX4_write 11 = .ok (.ireturn, 1) := dk_172 (dk_at dksX4_write_0 11 rfl rfl)
theorem dX4_write_12 : decode cX4_write 12 = .ok (.aload_n 0, 1) := dk_42 (dk_at dksX4_write_0 12 rfl rfl)
theorem dX4_write_13 : decode cX4_write 13 = .ok (.iconst 0, 1) := dk_3 (dk_at dksX4_write_0 13 rfl rfl)
theorem dX4_write_14 : decode cX4_write 14 = .ok (.putfield 260, 3) := dk_181 1 4 (dk_at dksX4_write_0 14 rfl rfl)
theorem dX4_write_17 : decode cX4_write 17 = .ok (.bipush 8, 2) := dk_16 8 (dk_at dksX4_write_0 17 rfl rfl)
theorem dX4_write_19 : decode cX4_write 19 = .ok (.istore_n 2, 1) := dk_61 (dk_at dksX4_write_0 19 rfl rfl)
theorem dX4_write_20 : decode cX4_write 20 = .ok (.iload_n 2, 1) := dk_28 (dk_at dksX4_write_0 20 rfl rfl)
theorem dX4_write_21 : decode cX4_write 21 = .ok (.ifCond .lt 95, 3) := dk_155 0 95 (dk_at dksX4_write_0 21 rfl rfl)
theorem dX4_write_24 : decode cX4_write 24 = .ok (.aload_n 0, 1) := dk_42 (dk_at dksX4_write_1 0 rfl rfl)
theorem dX4_write_25 : decode cX4_write 25 = .ok (.getfield 11, 3) := dk_180 0 11 (dk_at dksX4_write_1 1 rfl rfl)
theorem dX4_write_28 : decode cX4_write 28 = .ok (.bipush 9, 2) := dk_16 9 (dk_at dksX4_write_1 4 rfl rfl)
theorem dX4_write_30 : decode cX4_write 30 = .ok (.iload_n 1, 1) := dk_27 (dk_at dksX4_write_1 6 rfl rfl)
theorem dX4_write_31 : decode cX4_write 31 = .ok (.imul, 1) := dk_104 (dk_at dksX4_write_1 7 rfl rfl)
theorem dX4_write_32 : decode cX4_write 32 = .ok (.iload_n 2, 1) := dk_28 (dk_at dksX4_write_1 8 rfl rfl)
theorem dX4_write_33 : decode cX4_write 33 = .ok (.iadd, 1) := dk_96 (dk_at dksX4_write_1 9 rfl rfl)
theorem dX4_write_34 : decode cX4_write 34 = .ok (.iaload, 1) := dk_46 (dk_at dksX4_write_1 10 rfl rfl)
theorem dX4_write_35 : decode cX4_write 35 = .ok (.istore_n 3, 1) := dk_62 (dk_at dksX4_write_1 11 rfl rfl)
theorem dX4_write_36 : decode cX4_write 36 = .ok (.iload_n 3, 1) := dk_29 (dk_at dksX4_write_1 12 rfl rfl)
theorem dX4_write_37 : decode cX4_write 37 = .ok (.ifCond .le 73, 3) := dk_158 0 73 (dk_at dksX4_write_1 13 rfl rfl)
theorem dX4_write_40 : decode cX4_write 40 = .ok (.aload_n 0, 1) := dk_42 (dk_at dksX4_write_1 16 rfl rfl)
theorem dX4_write_41 : decode cX4_write 41 = .ok (.bipush 43, 2) := dk_16 43 (dk_at dksX4_write_1 17 rfl rfl)
theorem dX4_write_43 : decode cX4_write 43 = .ok (.aload_n 0, 1) := dk_42 (dk_at dksX4_write_1 19 rfl rfl)
theorem dX4_write_44 : decode cX4_write 44 = .ok (.getfield 260, 3) := dk_180 1 4 (dk_at dksX4_write_1 20 rfl rfl)
theorem dX4_write_47 : decode cX4_write 47 = .ok (.ifCond .le 7, 3) := dk_158 0 7 (dk_at dksX4_write_2 0 rfl rfl)
theorem dX4_write_50 : decode cX4_write 50 = .ok (.iconst 1, 1) := dk_4 (dk_at dksX4_write_2 3 rfl rfl)
theorem dX4_write_51 : decode cX4_write 51 = .ok (.goto 4, 3) := dk_167 0 4 (dk_at dksX4_write_2 4 rfl rfl)
theorem dX4_write_54 : decode cX4_write 54 = .ok (.iconst 0, 1) := dk_3 (dk_at dksX4_write_2 7 rfl rfl)
theorem dX4_write_55 : decode cX4_write 55 = .ok (.invokevirtual 263, 3) := dk_182 1 7 (dk_at dksX4_write_2 8 rfl rfl)
theorem dX4_write_58 : decode cX4_write 58 = .ok (.aload_n 0, 1) := dk_42 (dk_at dksX4_write_2 11 rfl rfl)
theorem dX4_write_59 : decode cX4_write 59 = .ok (.bipush 48, 2) := dk_16 48 (dk_at dksX4_write_2 12 rfl rfl)
theorem dX4_write_61 : decode cX4_write 61 = .ok (.iload_n 3, 1) := dk_29 (dk_at dksX4_write_2 14 rfl rfl)
theorem dX4_write_62 : decode cX4_write 62 = .ok (.bipush 10, 2) := dk_16 10 (dk_at dksX4_write_2 15 rfl rfl)
theorem dX4_write_64 : decode cX4_write 64 = .ok (.idiv, 1) := dk_108 (dk_at dksX4_write_2 17 rfl rfl)
theorem dX4_write_65 : decode cX4_write 65 = .ok (.iadd, 1) := dk_96 (dk_at dksX4_write_2 18 rfl rfl)
theorem dX4_write_66 : decode cX4_write 66 = .ok (.iload_n 3, 1) := dk_29 (dk_at dksX4_write_2 19 rfl rfl)
theorem dX4_write_67 : decode cX4_write 67 = .ok (.bipush 9, 2) := dk_16 9 (dk_at dksX4_write_2 20 rfl rfl)
theorem dX4_write_69 : decode cX4_write 69 = .ok (.if_icmp .le 7, 3) := dk_164 0 7 (dk_at dksX4_write_3 0 rfl rfl)
theorem dX4_write_72 : decode cX4_write 72 = .ok (.iconst 1, 1) := dk_4 (dk_at dksX4_write_3 3 rfl rfl)
theorem dX4_write_73 : decode cX4_write 73 = .ok (.goto 4, 3) := dk_167 0 4 (dk_at dksX4_write_3 4 rfl rfl)
theorem dX4_write_76 : decode cX4_write 76 = .ok (.iconst 0, 1) := dk_3 (dk_at dksX4_write_3 7 rfl rfl)
theorem dX4_write_77 : decode cX4_write 77 = .ok (.invokevirtual 263, 3) := dk_182 1 7 (dk_at dksX4_write_3 8 rfl rfl)
theorem dX4_write_80 : decode cX4_write 80 = .ok (.aload_n 0, 1) := dk_42 (dk_at dksX4_write_3 11 rfl rfl)
theorem dX4_write_81 : decode cX4_write 81 = .ok (.bipush 48, 2) := dk_16 48 (dk_at dksX4_write_3 12 rfl rfl)
theorem dX4_write_83 : decode cX4_write 83 = .ok (.iload_n 3, 1) := dk_29 (dk_at dksX4_write_3 14 rfl rfl)
theorem dX4_write_84 : decode cX4_write 84 = .ok (.bipush 10, 2) := dk_16 10 (dk_at dksX4_write_3 15 rfl rfl)
theorem dX4_write_86 : decode cX4_write 86 = .ok (.irem, 1) := dk_112 (dk_at dksX4_write_3 17 rfl rfl)
theorem dX4_write_87 : decode cX4_write 87 = .ok (.iadd, 1) := dk_96 (dk_at dksX4_write_3 18 rfl rfl)
theorem dX4_write_88 : decode cX4_write 88 = .ok (.iconst 1, 1) := dk_4 (dk_at dksX4_write_3 19 rfl rfl)
theorem dX4_write_89 : decode cX4_write 89 = .ok (.invokevirtual 263, 3) := dk_182 1 7 (dk_at dksX4_write_3 20 rfl rfl)
theorem dX4_write_92 : decode cX4_write 92 = .ok (.aload_n 0, 1) := dk_42 (dk_at dksX4_write_3 23 rfl rfl)
theorem dX4_write_93 : decode cX4_write 93 = .ok (.bipush 120, 2) := dk_16 120 (dk_at dksX4_write_4 0 rfl rfl)
theorem dX4_write_95 : decode cX4_write 95 = .ok (.iload_n 2, 1) := dk_28 (dk_at dksX4_write_4 2 rfl rfl)
theorem dX4_write_96 : decode cX4_write 96 = .ok (.iconst 3, 1) := dk_6 (dk_at dksX4_write_4 3 rfl rfl)
theorem dX4_write_97 : decode cX4_write 97 = .ok (.idiv, 1) := dk_108 (dk_at dksX4_write_4 4 rfl rfl)
theorem dX4_write_98 : decode cX4_write 98 = .ok (.invokevirtual 263, 3) := dk_182 1 7 (dk_at dksX4_write_4 5 rfl rfl)
theorem dX4_write_101 : decode cX4_write 101 = .ok (.aload_n 0, 1) := dk_42 (dk_at dksX4_write_4 8 rfl rfl)
theorem dX4_write_102 : decode cX4_write 102 = .ok (.bipush 121, 2) := dk_16 121 (dk_at dksX4_write_4 9 rfl rfl)
theorem dX4_write_104 : decode cX4_write 104 = .ok (.iload_n 2, 1) := dk_28 (dk_at dksX4_write_4 11 rfl rfl)
theorem dX4_write_105 : decode cX4_write 105 = .ok (.iconst 3, 1) := dk_6 (dk_at dksX4_write_4 12 rfl rfl)
theorem dX4_write_106 : decode cX4_write 106 = .ok (.irem, 1) := dk_112 (dk_at dksX4_write_4 13 rfl rfl)
theorem dX4_write_107 : decode cX4_write 107 = .ok (.invokevirtual 263, 3) := dk_182 1 7 (dk_at dksX4_write_4 14 rfl rfl)
theorem dX4_write_110 : decode cX4_write 110 = .ok (.iinc 2 (-1), 3) := dk_132 2 255 (dk_at dksX4_write_4 17 rfl rfl)
theorem dX4_write_113 : decode cX4_write 113 = .ok (.goto (-93), 3) := dk_167 255 163 (dk_at dksX4_write_4 20 rfl rfl)
theorem dX4_write_116 : decode cX4_write 116 = .ok (.aload_n 0, 1) := dk_42 (dk_at dksX4_write_4 23 rfl rfl)
theorem dX4_write_117 : decode cX4_write 117 = .ok (.getfield 260, 3) := dk_180 1 4 (dk_at dksX4_write_5 0 rfl rfl)
theorem dX4_write_120 : decode cX4_write 120 = .ok (.ireturn, 1) := dk_172 (dk_at dksX4_write_5 3 rfl rfl)
abbrev cX4_writes : ByteArray := prog_16_method_65_code
def yX4_writes : MethodName := ⟨RX4, "writes", "(II)V"⟩
def dkwX4_writes_1 : List UInt8 := [181, 1, 4, 132, 3, 1, 167, 255, 228, 177]
abbrev dktX4_writes_1 : List UInt8 := dkwX4_writes_1 ++ []
def dkwX4_writes_0 : List UInt8 := [3, 62, 29, 28, 162, 0, 29, 42, 180, 0, 84, 42, 180, 1, 4, 27, 79, 42, 89, 180, 1, 4, 4, 96]
abbrev dktX4_writes_0 : List UInt8 := dkwX4_writes_0 ++ dktX4_writes_1
theorem dksX4_writes_0 : cX4_writes.data.toList.drop 0 = dktX4_writes_0 := by decide +kernel
theorem dksX4_writes_1 : cX4_writes.data.toList.drop 24 = dktX4_writes_1 := dk_seg dksX4_writes_0 24 rfl rfl
theorem dX4_writes_0 : decode cX4_writes 0 = .ok (.iconst 0, 1) := dk_3 (dk_at dksX4_writes_0 0 rfl rfl)
theorem dX4_writes_1 : decode cX4_writes 1 = .ok (.istore_n 3, 1) := dk_62 (dk_at dksX4_writes_0 1 rfl rfl)
theorem dX4_writes_2 : decode cX4_writes 2 = .ok (.iload_n 3, 1) := dk_29 (dk_at dksX4_writes_0 2 rfl rfl)
theorem dX4_writes_3 : decode cX4_writes 3 = .ok (.iload_n 2, 1) := dk_28 (dk_at dksX4_writes_0 3 rfl rfl)
theorem dX4_writes_4 : decode cX4_writes 4 = .ok (.if_icmp .ge 29, 3) := dk_162 0 29 (dk_at dksX4_writes_0 4 rfl rfl)
theorem dX4_writes_7 : decode cX4_writes 7 = .ok (.aload_n 0, 1) := dk_42 (dk_at dksX4_writes_0 7 rfl rfl)
theorem dX4_writes_8 : decode cX4_writes 8 = .ok (.getfield 84, 3) := dk_180 0 84 (dk_at dksX4_writes_0 8 rfl rfl)
theorem dX4_writes_11 : decode cX4_writes 11 = .ok (.aload_n 0, 1) := dk_42 (dk_at dksX4_writes_0 11 rfl rfl)
theorem dX4_writes_12 : decode cX4_writes 12 = .ok (.getfield 260, 3) := dk_180 1 4 (dk_at dksX4_writes_0 12 rfl rfl)
theorem dX4_writes_15 : decode cX4_writes 15 = .ok (.iload_n 1, 1) := dk_27 (dk_at dksX4_writes_0 15 rfl rfl)
theorem dX4_writes_16 : decode cX4_writes 16 = .ok (.iastore, 1) := dk_79 (dk_at dksX4_writes_0 16 rfl rfl)
theorem dX4_writes_17 : decode cX4_writes 17 = .ok (.aload_n 0, 1) := dk_42 (dk_at dksX4_writes_0 17 rfl rfl)
theorem dX4_writes_18 : decode cX4_writes 18 = .ok (.dup, 1) := dk_89 (dk_at dksX4_writes_0 18 rfl rfl)
theorem dX4_writes_19 : decode cX4_writes 19 = .ok (.getfield 260, 3) := dk_180 1 4 (dk_at dksX4_writes_0 19 rfl rfl)
theorem dX4_writes_22 : decode cX4_writes 22 = .ok (.iconst 1, 1) := dk_4 (dk_at dksX4_writes_0 22 rfl rfl)
theorem dX4_writes_23 : decode cX4_writes 23 = .ok (.iadd, 1) := dk_96 (dk_at dksX4_writes_0 23 rfl rfl)
theorem dX4_writes_24 : decode cX4_writes 24 = .ok (.putfield 260, 3) := dk_181 1 4 (dk_at dksX4_writes_1 0 rfl rfl)
theorem dX4_writes_27 : decode cX4_writes 27 = .ok (.iinc 3 1, 3) := dk_132 3 1 (dk_at dksX4_writes_1 3 rfl rfl)
theorem dX4_writes_30 : decode cX4_writes 30 = .ok (.goto (-28), 3) := dk_167 255 228 (dk_at dksX4_writes_1 6 rfl rfl)
theorem dX4_writes_33 : decode cX4_writes 33 = .ok (.return_, 1) := dk_177 (dk_at dksX4_writes_1 9 rfl rfl)
abbrev cX4_paper : ByteArray := prog_16_method_67_code
def yX4_paper : MethodName := ⟨RX4, "paper", "(I)I"⟩
def dkwX4_paper_1 : List UInt8 := [167, 0, 4, 2, 172]
abbrev dktX4_paper_1 : List UInt8 := dkwX4_paper_1 ++ []
def dkwX4_paper_0 : List UInt8 := [27, 133, 9, 42, 180, 1, 4, 4, 100, 133, 184, 0, 99, 153, 0, 12, 42, 180, 0, 84, 27, 46]
abbrev dktX4_paper_0 : List UInt8 := dkwX4_paper_0 ++ dktX4_paper_1
theorem dksX4_paper_0 : cX4_paper.data.toList.drop 0 = dktX4_paper_0 := by decide +kernel
theorem dksX4_paper_1 : cX4_paper.data.toList.drop 22 = dktX4_paper_1 := dk_seg dksX4_paper_0 22 rfl rfl
theorem dX4_paper_0 : decode cX4_paper 0 = .ok (.iload_n 1, 1) := dk_27 (dk_at dksX4_paper_0 0 rfl rfl)
theorem dX4_paper_1 : decode cX4_paper 1 = .ok (.i2l, 1) := dk_133 (dk_at dksX4_paper_0 1 rfl rfl)
theorem dX4_paper_2 : decode cX4_paper 2 = .ok (.lconst 0, 1) := dk_9 (dk_at dksX4_paper_0 2 rfl rfl)
theorem dX4_paper_3 : decode cX4_paper 3 = .ok (.aload_n 0, 1) := dk_42 (dk_at dksX4_paper_0 3 rfl rfl)
theorem dX4_paper_4 : decode cX4_paper 4 = .ok (.getfield 260, 3) := dk_180 1 4 (dk_at dksX4_paper_0 4 rfl rfl)
theorem dX4_paper_7 : decode cX4_paper 7 = .ok (.iconst 1, 1) := dk_4 (dk_at dksX4_paper_0 7 rfl rfl)
theorem dX4_paper_8 : decode cX4_paper 8 = .ok (.isub, 1) := dk_100 (dk_at dksX4_paper_0 8 rfl rfl)
theorem dX4_paper_9 : decode cX4_paper 9 = .ok (.i2l, 1) := dk_133 (dk_at dksX4_paper_0 9 rfl rfl)
theorem dX4_paper_10 : decode cX4_paper 10 = .ok (.invokestatic 99, 3) := dk_184 0 99 (dk_at dksX4_paper_0 10 rfl rfl)
theorem dX4_paper_13 : decode cX4_paper 13 = .ok (.ifCond .eq 12, 3) := dk_153 0 12 (dk_at dksX4_paper_0 13 rfl rfl)
theorem dX4_paper_16 : decode cX4_paper 16 = .ok (.aload_n 0, 1) := dk_42 (dk_at dksX4_paper_0 16 rfl rfl)
theorem dX4_paper_17 : decode cX4_paper 17 = .ok (.getfield 84, 3) := dk_180 0 84 (dk_at dksX4_paper_0 17 rfl rfl)
theorem dX4_paper_20 : decode cX4_paper 20 = .ok (.iload_n 1, 1) := dk_27 (dk_at dksX4_paper_0 20 rfl rfl)
theorem dX4_paper_21 : decode cX4_paper 21 = .ok (.iaload, 1) := dk_46 (dk_at dksX4_paper_0 21 rfl rfl)
theorem dX4_paper_22 : decode cX4_paper 22 = .ok (.goto 4, 3) := dk_167 0 4 (dk_at dksX4_paper_1 0 rfl rfl)
theorem dX4_paper_25 : decode cX4_paper 25 = .ok (.iconst (-1), 1) := dk_2 (dk_at dksX4_paper_1 3 rfl rfl)
theorem dX4_paper_26 : decode cX4_paper 26 = .ok (.ireturn, 1) := dk_172 (dk_at dksX4_paper_1 4 rfl rfl)
abbrev cX4_judge : ByteArray := prog_16_method_69_code
def yX4_judge : MethodName := ⟨RX4, "judge", "(III)I"⟩
def dkwX4_judge_5 : List UInt8 := [50, 21, 5, 46, 21, 6, 159, 0, 6, 21, 5, 172, 132, 5, 1, 167, 255, 164, 16, 251, 172]
abbrev dktX4_judge_5 : List UInt8 := dkwX4_judge_5 ++ []
def dkwX4_judge_4 : List UInt8 := [112, 154, 0, 11, 21, 4, 16, 32, 108, 167, 0, 8, 21, 4, 16, 32, 112, 54, 6, 42, 180, 0, 90, 27]
abbrev dktX4_judge_4 : List UInt8 := dkwX4_judge_4 ++ dktX4_judge_5
def dkwX4_judge_3 : List UInt8 := [182, 0, 158, 167, 0, 5, 21, 4, 54, 4, 21, 4, 16, 249, 160, 0, 7, 2, 167, 0, 23, 21, 5, 5]
abbrev dktX4_judge_3 : List UInt8 := dkwX4_judge_3 ++ dktX4_judge_4
def dkwX4_judge_2 : List UInt8 := [46, 162, 0, 87, 21, 5, 5, 112, 154, 0, 20, 21, 4, 16, 249, 159, 0, 13, 42, 21, 4, 3]
abbrev dktX4_judge_2 : List UInt8 := dkwX4_judge_2 ++ dktX4_judge_3
def dkwX4_judge_1 : List UInt8 := [156, 0, 6, 16, 245, 172, 16, 32, 28, 104, 29, 96, 54, 4, 3, 54, 5, 21, 5, 42, 180, 0, 87, 27]
abbrev dktX4_judge_1 : List UInt8 := dkwX4_judge_1 ++ dktX4_judge_2
def dkwX4_judge_0 : List UInt8 := [27, 184, 1, 11, 153, 0, 11, 28, 29, 184, 0, 123, 154, 0, 5, 2, 172, 42, 180, 0, 87, 27, 46]
abbrev dktX4_judge_0 : List UInt8 := dkwX4_judge_0 ++ dktX4_judge_1
theorem dksX4_judge_0 : cX4_judge.data.toList.drop 0 = dktX4_judge_0 := by decide +kernel
theorem dksX4_judge_1 : cX4_judge.data.toList.drop 23 = dktX4_judge_1 := dk_seg dksX4_judge_0 23 rfl rfl
theorem dksX4_judge_2 : cX4_judge.data.toList.drop 47 = dktX4_judge_2 := dk_seg dksX4_judge_1 24 rfl rfl
theorem dksX4_judge_3 : cX4_judge.data.toList.drop 69 = dktX4_judge_3 := dk_seg dksX4_judge_2 22 rfl rfl
theorem dksX4_judge_4 : cX4_judge.data.toList.drop 93 = dktX4_judge_4 := dk_seg dksX4_judge_3 24 rfl rfl
theorem dksX4_judge_5 : cX4_judge.data.toList.drop 117 = dktX4_judge_5 := dk_seg dksX4_judge_4 24 rfl rfl
theorem dX4_judge_0 : decode cX4_judge 0 = .ok (.iload_n 1, 1) := dk_27 (dk_at dksX4_judge_0 0 rfl rfl)
theorem dX4_judge_1 : decode cX4_judge 1 = .ok (.invokestatic 267, 3) := dk_184 1 11 (dk_at dksX4_judge_0 1 rfl rfl)
theorem dX4_judge_4 : decode cX4_judge 4 = .ok (.ifCond .eq 11, 3) := dk_153 0 11 (dk_at dksX4_judge_0 4 rfl rfl)
theorem dX4_judge_7 : decode cX4_judge 7 = .ok (.iload_n 2, 1) := dk_28 (dk_at dksX4_judge_0 7 rfl rfl)
theorem dX4_judge_8 : decode cX4_judge 8 = .ok (.iload_n 3, 1) := dk_29 (dk_at dksX4_judge_0 8 rfl rfl)
theorem dX4_judge_9 : decode cX4_judge 9 = .ok (.invokestatic 123, 3) := dk_184 0 123 (dk_at dksX4_judge_0 9 rfl rfl)
theorem dX4_judge_12 : decode cX4_judge 12 = .ok (.ifCond .ne 5, 3) := dk_154 0 5 (dk_at dksX4_judge_0 12 rfl rfl)
theorem dX4_judge_15 : decode cX4_judge 15 = .ok (.iconst (-1), 1) := dk_2 (dk_at dksX4_judge_0 15 rfl rfl)
theorem dX4_judge_16 : decode cX4_judge 16 = .ok (.ireturn, 1) := dk_172 (dk_at dksX4_judge_0 16 rfl rfl)
theorem dX4_judge_17 : decode cX4_judge 17 = .ok (.aload_n 0, 1) := dk_42 (dk_at dksX4_judge_0 17 rfl rfl)
theorem dX4_judge_18 : decode cX4_judge 18 = .ok (.getfield 87, 3) := dk_180 0 87 (dk_at dksX4_judge_0 18 rfl rfl)
theorem dX4_judge_21 : decode cX4_judge 21 = .ok (.iload_n 1, 1) := dk_27 (dk_at dksX4_judge_0 21 rfl rfl)
theorem dX4_judge_22 : decode cX4_judge 22 = .ok (.iaload, 1) := dk_46 (dk_at dksX4_judge_0 22 rfl rfl)
theorem dX4_judge_23 : decode cX4_judge 23 = .ok (.ifCond .ge 6, 3) := dk_156 0 6 (dk_at dksX4_judge_1 0 rfl rfl)
theorem dX4_judge_26 : decode cX4_judge 26 = .ok (.bipush (-11), 2) := dk_16 245 (dk_at dksX4_judge_1 3 rfl rfl)
theorem dX4_judge_28 : decode cX4_judge 28 = .ok (.ireturn, 1) := dk_172 (dk_at dksX4_judge_1 5 rfl rfl)
theorem dX4_judge_29 : decode cX4_judge 29 = .ok (.bipush 32, 2) := dk_16 32 (dk_at dksX4_judge_1 6 rfl rfl)
theorem dX4_judge_31 : decode cX4_judge 31 = .ok (.iload_n 2, 1) := dk_28 (dk_at dksX4_judge_1 8 rfl rfl)
theorem dX4_judge_32 : decode cX4_judge 32 = .ok (.imul, 1) := dk_104 (dk_at dksX4_judge_1 9 rfl rfl)
theorem dX4_judge_33 : decode cX4_judge 33 = .ok (.iload_n 3, 1) := dk_29 (dk_at dksX4_judge_1 10 rfl rfl)
theorem dX4_judge_34 : decode cX4_judge 34 = .ok (.iadd, 1) := dk_96 (dk_at dksX4_judge_1 11 rfl rfl)
theorem dX4_judge_35 : decode cX4_judge 35 = .ok (.istore 4, 2) := dk_54 4 (dk_at dksX4_judge_1 12 rfl rfl)
theorem dX4_judge_37 : decode cX4_judge 37 = .ok (.iconst 0, 1) := dk_3 (dk_at dksX4_judge_1 14 rfl rfl)
theorem dX4_judge_38 : decode cX4_judge 38 = .ok (.istore 5, 2) := dk_54 5 (dk_at dksX4_judge_1 15 rfl rfl)
theorem dX4_judge_40 : decode cX4_judge 40 = .ok (.iload 5, 2) := dk_21 5 (dk_at dksX4_judge_1 17 rfl rfl)
theorem dX4_judge_42 : decode cX4_judge 42 = .ok (.aload_n 0, 1) := dk_42 (dk_at dksX4_judge_1 19 rfl rfl)
theorem dX4_judge_43 : decode cX4_judge 43 = .ok (.getfield 87, 3) := dk_180 0 87 (dk_at dksX4_judge_1 20 rfl rfl)
theorem dX4_judge_46 : decode cX4_judge 46 = .ok (.iload_n 1, 1) := dk_27 (dk_at dksX4_judge_1 23 rfl rfl)
theorem dX4_judge_47 : decode cX4_judge 47 = .ok (.iaload, 1) := dk_46 (dk_at dksX4_judge_2 0 rfl rfl)
theorem dX4_judge_48 : decode cX4_judge 48 = .ok (.if_icmp .ge 87, 3) := dk_162 0 87 (dk_at dksX4_judge_2 1 rfl rfl)
theorem dX4_judge_51 : decode cX4_judge 51 = .ok (.iload 5, 2) := dk_21 5 (dk_at dksX4_judge_2 4 rfl rfl)
theorem dX4_judge_53 : decode cX4_judge 53 = .ok (.iconst 2, 1) := dk_5 (dk_at dksX4_judge_2 6 rfl rfl)
theorem dX4_judge_54 : decode cX4_judge 54 = .ok (.irem, 1) := dk_112 (dk_at dksX4_judge_2 7 rfl rfl)
theorem dX4_judge_55 : decode cX4_judge 55 = .ok (.ifCond .ne 20, 3) := dk_154 0 20 (dk_at dksX4_judge_2 8 rfl rfl)
theorem dX4_judge_58 : decode cX4_judge 58 = .ok (.iload 4, 2) := dk_21 4 (dk_at dksX4_judge_2 11 rfl rfl)
theorem dX4_judge_60 : decode cX4_judge 60 = .ok (.bipush (-7), 2) := dk_16 249 (dk_at dksX4_judge_2 13 rfl rfl)
theorem dX4_judge_62 : decode cX4_judge 62 = .ok (.if_icmp .eq 13, 3) := dk_159 0 13 (dk_at dksX4_judge_2 15 rfl rfl)
theorem dX4_judge_65 : decode cX4_judge 65 = .ok (.aload_n 0, 1) := dk_42 (dk_at dksX4_judge_2 18 rfl rfl)
theorem dX4_judge_66 : decode cX4_judge 66 = .ok (.iload 4, 2) := dk_21 4 (dk_at dksX4_judge_2 19 rfl rfl)
theorem dX4_judge_68 : decode cX4_judge 68 = .ok (.iconst 0, 1) := dk_3 (dk_at dksX4_judge_2 21 rfl rfl)
theorem dX4_judge_69 : decode cX4_judge 69 = .ok (.invokevirtual 158, 3) := dk_182 0 158 (dk_at dksX4_judge_3 0 rfl rfl)
theorem dX4_judge_72 : decode cX4_judge 72 = .ok (.goto 5, 3) := dk_167 0 5 (dk_at dksX4_judge_3 3 rfl rfl)
theorem dX4_judge_75 : decode cX4_judge 75 = .ok (.iload 4, 2) := dk_21 4 (dk_at dksX4_judge_3 6 rfl rfl)
theorem dX4_judge_77 : decode cX4_judge 77 = .ok (.istore 4, 2) := dk_54 4 (dk_at dksX4_judge_3 8 rfl rfl)
theorem dX4_judge_79 : decode cX4_judge 79 = .ok (.iload 4, 2) := dk_21 4 (dk_at dksX4_judge_3 10 rfl rfl)
theorem dX4_judge_81 : decode cX4_judge 81 = .ok (.bipush (-7), 2) := dk_16 249 (dk_at dksX4_judge_3 12 rfl rfl)
theorem dX4_judge_83 : decode cX4_judge 83 = .ok (.if_icmp .ne 7, 3) := dk_160 0 7 (dk_at dksX4_judge_3 14 rfl rfl)
theorem dX4_judge_86 : decode cX4_judge 86 = .ok (.iconst (-1), 1) := dk_2 (dk_at dksX4_judge_3 17 rfl rfl)
theorem dX4_judge_87 : decode cX4_judge 87 = .ok (.goto 23, 3) := dk_167 0 23 (dk_at dksX4_judge_3 18 rfl rfl)
theorem dX4_judge_90 : decode cX4_judge 90 = .ok (.iload 5, 2) := dk_21 5 (dk_at dksX4_judge_3 21 rfl rfl)
theorem dX4_judge_92 : decode cX4_judge 92 = .ok (.iconst 2, 1) := dk_5 (dk_at dksX4_judge_3 23 rfl rfl)
theorem dX4_judge_93 : decode cX4_judge 93 = .ok (.irem, 1) := dk_112 (dk_at dksX4_judge_4 0 rfl rfl)
theorem dX4_judge_94 : decode cX4_judge 94 = .ok (.ifCond .ne 11, 3) := dk_154 0 11 (dk_at dksX4_judge_4 1 rfl rfl)
theorem dX4_judge_97 : decode cX4_judge 97 = .ok (.iload 4, 2) := dk_21 4 (dk_at dksX4_judge_4 4 rfl rfl)
theorem dX4_judge_99 : decode cX4_judge 99 = .ok (.bipush 32, 2) := dk_16 32 (dk_at dksX4_judge_4 6 rfl rfl)
theorem dX4_judge_101 : decode cX4_judge 101 = .ok (.idiv, 1) := dk_108 (dk_at dksX4_judge_4 8 rfl rfl)
theorem dX4_judge_102 : decode cX4_judge 102 = .ok (.goto 8, 3) := dk_167 0 8 (dk_at dksX4_judge_4 9 rfl rfl)
theorem dX4_judge_105 : decode cX4_judge 105 = .ok (.iload 4, 2) := dk_21 4 (dk_at dksX4_judge_4 12 rfl rfl)
theorem dX4_judge_107 : decode cX4_judge 107 = .ok (.bipush 32, 2) := dk_16 32 (dk_at dksX4_judge_4 14 rfl rfl)
theorem dX4_judge_109 : decode cX4_judge 109 = .ok (.irem, 1) := dk_112 (dk_at dksX4_judge_4 16 rfl rfl)
theorem dX4_judge_110 : decode cX4_judge 110 = .ok (.istore 6, 2) := dk_54 6 (dk_at dksX4_judge_4 17 rfl rfl)
theorem dX4_judge_112 : decode cX4_judge 112 = .ok (.aload_n 0, 1) := dk_42 (dk_at dksX4_judge_4 19 rfl rfl)
theorem dX4_judge_113 : decode cX4_judge 113 = .ok (.getfield 90, 3) := dk_180 0 90 (dk_at dksX4_judge_4 20 rfl rfl)
theorem dX4_judge_116 : decode cX4_judge 116 = .ok (.iload_n 1, 1) := dk_27 (dk_at dksX4_judge_4 23 rfl rfl)
theorem dX4_judge_117 : decode cX4_judge 117 = .ok (.aaload, 1) := dk_50 (dk_at dksX4_judge_5 0 rfl rfl)
theorem dX4_judge_118 : decode cX4_judge 118 = .ok (.iload 5, 2) := dk_21 5 (dk_at dksX4_judge_5 1 rfl rfl)
theorem dX4_judge_120 : decode cX4_judge 120 = .ok (.iaload, 1) := dk_46 (dk_at dksX4_judge_5 3 rfl rfl)
theorem dX4_judge_121 : decode cX4_judge 121 = .ok (.iload 6, 2) := dk_21 6 (dk_at dksX4_judge_5 4 rfl rfl)
theorem dX4_judge_123 : decode cX4_judge 123 = .ok (.if_icmp .eq 6, 3) := dk_159 0 6 (dk_at dksX4_judge_5 6 rfl rfl)
theorem dX4_judge_126 : decode cX4_judge 126 = .ok (.iload 5, 2) := dk_21 5 (dk_at dksX4_judge_5 9 rfl rfl)
theorem dX4_judge_128 : decode cX4_judge 128 = .ok (.ireturn, 1) := dk_172 (dk_at dksX4_judge_5 11 rfl rfl)
theorem dX4_judge_129 : decode cX4_judge 129 = .ok (.iinc 5 1, 3) := dk_132 5 1 (dk_at dksX4_judge_5 12 rfl rfl)
theorem dX4_judge_132 : decode cX4_judge 132 = .ok (.goto (-92), 3) := dk_167 255 164 (dk_at dksX4_judge_5 15 rfl rfl)
theorem dX4_judge_135 : decode cX4_judge 135 = .ok (.bipush (-5), 2) := dk_16 251 (dk_at dksX4_judge_5 18 rfl rfl)
theorem dX4_judge_137 : decode cX4_judge 137 = .ok (.ireturn, 1) := dk_172 (dk_at dksX4_judge_5 20 rfl rfl)
abbrev cX4_isList : ByteArray := prog_16_method_68_code
def yX4_isList : MethodName := ⟨RX4, "isList", "(I)Z"⟩
def dkwX4_isList_0 : List UInt8 := [26, 133, 9, 20, 0, 212, 184, 0, 99, 172]
abbrev dktX4_isList_0 : List UInt8 := dkwX4_isList_0 ++ []
theorem dksX4_isList_0 : cX4_isList.data.toList.drop 0 = dktX4_isList_0 := by decide +kernel
theorem dX4_isList_0 : decode cX4_isList 0 = .ok (.iload_n 0, 1) := dk_26 (dk_at dksX4_isList_0 0 rfl rfl)
theorem dX4_isList_1 : decode cX4_isList 1 = .ok (.i2l, 1) := dk_133 (dk_at dksX4_isList_0 1 rfl rfl)
theorem dX4_isList_2 : decode cX4_isList 2 = .ok (.lconst 0, 1) := dk_9 (dk_at dksX4_isList_0 2 rfl rfl)
theorem dX4_isList_3 : decode cX4_isList 3 = .ok (.ldc2_w 212, 3) := dk_20 0 212 (dk_at dksX4_isList_0 3 rfl rfl)
theorem dX4_isList_6 : decode cX4_isList 6 = .ok (.invokestatic 99, 3) := dk_184 0 99 (dk_at dksX4_isList_0 6 rfl rfl)
theorem dX4_isList_9 : decode cX4_isList 9 = .ok (.ireturn, 1) := dk_172 (dk_at dksX4_isList_0 9 rfl rfl)
abbrev cX4_list : ByteArray := prog_16_method_70_code
def yX4_list : MethodName := ⟨RX4, "list", "(II)I"⟩
def dkwX4_list_2 : List UInt8 := [79, 132, 3, 1, 167, 255, 238, 4, 172]
abbrev dktX4_list_2 : List UInt8 := dkwX4_list_2 ++ []
def dkwX4_list_1 : List UInt8 := [172, 42, 180, 0, 87, 27, 28, 79, 3, 62, 29, 16, 12, 162, 0, 18, 42, 180, 0, 90, 27, 50, 29, 3]
abbrev dktX4_list_1 : List UInt8 := dkwX4_list_1 ++ dktX4_list_2
def dkwX4_list_0 : List UInt8 := [27, 184, 1, 11, 154, 0, 5, 2, 172, 28, 16, 12, 164, 0, 6, 16, 254, 172, 28, 156, 0, 6, 16, 242]
abbrev dktX4_list_0 : List UInt8 := dkwX4_list_0 ++ dktX4_list_1
theorem dksX4_list_0 : cX4_list.data.toList.drop 0 = dktX4_list_0 := by decide +kernel
theorem dksX4_list_1 : cX4_list.data.toList.drop 24 = dktX4_list_1 := dk_seg dksX4_list_0 24 rfl rfl
theorem dksX4_list_2 : cX4_list.data.toList.drop 48 = dktX4_list_2 := dk_seg dksX4_list_1 24 rfl rfl
theorem dX4_list_0 : decode cX4_list 0 = .ok (.iload_n 1, 1) := dk_27 (dk_at dksX4_list_0 0 rfl rfl)
theorem dX4_list_1 : decode cX4_list 1 = .ok (.invokestatic 267, 3) := dk_184 1 11 (dk_at dksX4_list_0 1 rfl rfl)
theorem dX4_list_4 : decode cX4_list 4 = .ok (.ifCond .ne 5, 3) := dk_154 0 5 (dk_at dksX4_list_0 4 rfl rfl)
theorem dX4_list_7 : decode cX4_list 7 = .ok (.iconst (-1), 1) := dk_2 (dk_at dksX4_list_0 7 rfl rfl)
theorem dX4_list_8 : decode cX4_list 8 = .ok (.ireturn, 1) := dk_172 (dk_at dksX4_list_0 8 rfl rfl)
theorem dX4_list_9 : decode cX4_list 9 = .ok (.iload_n 2, 1) := dk_28 (dk_at dksX4_list_0 9 rfl rfl)
theorem dX4_list_10 : decode cX4_list 10 = .ok (.bipush 12, 2) := dk_16 12 (dk_at dksX4_list_0 10 rfl rfl)
theorem dX4_list_12 : decode cX4_list 12 = .ok (.if_icmp .le 6, 3) := dk_164 0 6 (dk_at dksX4_list_0 12 rfl rfl)
theorem dX4_list_15 : decode cX4_list 15 = .ok (.bipush (-2), 2) := dk_16 254 (dk_at dksX4_list_0 15 rfl rfl)
theorem dX4_list_17 : decode cX4_list 17 = .ok (.ireturn, 1) := dk_172 (dk_at dksX4_list_0 17 rfl rfl)
theorem dX4_list_18 : decode cX4_list 18 = .ok (.iload_n 2, 1) := dk_28 (dk_at dksX4_list_0 18 rfl rfl)
theorem dX4_list_19 : decode cX4_list 19 = .ok (.ifCond .ge 6, 3) := dk_156 0 6 (dk_at dksX4_list_0 19 rfl rfl)
theorem dX4_list_22 : decode cX4_list 22 = .ok (.bipush (-14), 2) := dk_16 242 (dk_at dksX4_list_0 22 rfl rfl)
theorem dX4_list_24 : decode cX4_list 24 = .ok (.ireturn, 1) := dk_172 (dk_at dksX4_list_1 0 rfl rfl)
theorem dX4_list_25 : decode cX4_list 25 = .ok (.aload_n 0, 1) := dk_42 (dk_at dksX4_list_1 1 rfl rfl)
theorem dX4_list_26 : decode cX4_list 26 = .ok (.getfield 87, 3) := dk_180 0 87 (dk_at dksX4_list_1 2 rfl rfl)
theorem dX4_list_29 : decode cX4_list 29 = .ok (.iload_n 1, 1) := dk_27 (dk_at dksX4_list_1 5 rfl rfl)
theorem dX4_list_30 : decode cX4_list 30 = .ok (.iload_n 2, 1) := dk_28 (dk_at dksX4_list_1 6 rfl rfl)
theorem dX4_list_31 : decode cX4_list 31 = .ok (.iastore, 1) := dk_79 (dk_at dksX4_list_1 7 rfl rfl)
theorem dX4_list_32 : decode cX4_list 32 = .ok (.iconst 0, 1) := dk_3 (dk_at dksX4_list_1 8 rfl rfl)
theorem dX4_list_33 : decode cX4_list 33 = .ok (.istore_n 3, 1) := dk_62 (dk_at dksX4_list_1 9 rfl rfl)
theorem dX4_list_34 : decode cX4_list 34 = .ok (.iload_n 3, 1) := dk_29 (dk_at dksX4_list_1 10 rfl rfl)
theorem dX4_list_35 : decode cX4_list 35 = .ok (.bipush 12, 2) := dk_16 12 (dk_at dksX4_list_1 11 rfl rfl)
theorem dX4_list_37 : decode cX4_list 37 = .ok (.if_icmp .ge 18, 3) := dk_162 0 18 (dk_at dksX4_list_1 13 rfl rfl)
theorem dX4_list_40 : decode cX4_list 40 = .ok (.aload_n 0, 1) := dk_42 (dk_at dksX4_list_1 16 rfl rfl)
theorem dX4_list_41 : decode cX4_list 41 = .ok (.getfield 90, 3) := dk_180 0 90 (dk_at dksX4_list_1 17 rfl rfl)
theorem dX4_list_44 : decode cX4_list 44 = .ok (.iload_n 1, 1) := dk_27 (dk_at dksX4_list_1 20 rfl rfl)
theorem dX4_list_45 : decode cX4_list 45 = .ok (.aaload, 1) := dk_50 (dk_at dksX4_list_1 21 rfl rfl)
theorem dX4_list_46 : decode cX4_list 46 = .ok (.iload_n 3, 1) := dk_29 (dk_at dksX4_list_1 22 rfl rfl)
theorem dX4_list_47 : decode cX4_list 47 = .ok (.iconst 0, 1) := dk_3 (dk_at dksX4_list_1 23 rfl rfl)
theorem dX4_list_48 : decode cX4_list 48 = .ok (.iastore, 1) := dk_79 (dk_at dksX4_list_2 0 rfl rfl)
theorem dX4_list_49 : decode cX4_list 49 = .ok (.iinc 3 1, 3) := dk_132 3 1 (dk_at dksX4_list_2 1 rfl rfl)
theorem dX4_list_52 : decode cX4_list 52 = .ok (.goto (-18), 3) := dk_167 255 238 (dk_at dksX4_list_2 4 rfl rfl)
theorem dX4_list_55 : decode cX4_list 55 = .ok (.iconst 1, 1) := dk_4 (dk_at dksX4_list_2 7 rfl rfl)
theorem dX4_list_56 : decode cX4_list 56 = .ok (.ireturn, 1) := dk_172 (dk_at dksX4_list_2 8 rfl rfl)
abbrev cX4_put : ByteArray := prog_16_method_71_code
def yX4_put : MethodName := ⟨RX4, "put", "(III)I"⟩
def dkwX4_put_2 : List UInt8 := [28, 29, 79, 4, 172]
abbrev dktX4_put_2 : List UInt8 := dkwX4_put_2 ++ []
def dkwX4_put_1 : List UInt8 := [42, 180, 0, 87, 27, 46, 4, 100, 133, 184, 0, 99, 154, 0, 6, 16, 243, 172, 42, 180, 0, 90, 27, 50]
abbrev dktX4_put_1 : List UInt8 := dkwX4_put_1 ++ dktX4_put_2
def dkwX4_put_0 : List UInt8 := [27, 184, 1, 11, 154, 0, 5, 2, 172, 42, 180, 0, 87, 27, 46, 156, 0, 6, 16, 245, 172, 28, 133, 9]
abbrev dktX4_put_0 : List UInt8 := dkwX4_put_0 ++ dktX4_put_1
theorem dksX4_put_0 : cX4_put.data.toList.drop 0 = dktX4_put_0 := by decide +kernel
theorem dksX4_put_1 : cX4_put.data.toList.drop 24 = dktX4_put_1 := dk_seg dksX4_put_0 24 rfl rfl
theorem dksX4_put_2 : cX4_put.data.toList.drop 48 = dktX4_put_2 := dk_seg dksX4_put_1 24 rfl rfl
theorem dX4_put_0 : decode cX4_put 0 = .ok (.iload_n 1, 1) := dk_27 (dk_at dksX4_put_0 0 rfl rfl)
theorem dX4_put_1 : decode cX4_put 1 = .ok (.invokestatic 267, 3) := dk_184 1 11 (dk_at dksX4_put_0 1 rfl rfl)
theorem dX4_put_4 : decode cX4_put 4 = .ok (.ifCond .ne 5, 3) := dk_154 0 5 (dk_at dksX4_put_0 4 rfl rfl)
theorem dX4_put_7 : decode cX4_put 7 = .ok (.iconst (-1), 1) := dk_2 (dk_at dksX4_put_0 7 rfl rfl)
theorem dX4_put_8 : decode cX4_put 8 = .ok (.ireturn, 1) := dk_172 (dk_at dksX4_put_0 8 rfl rfl)
theorem dX4_put_9 : decode cX4_put 9 = .ok (.aload_n 0, 1) := dk_42 (dk_at dksX4_put_0 9 rfl rfl)
theorem dX4_put_10 : decode cX4_put 10 = .ok (.getfield 87, 3) := dk_180 0 87 (dk_at dksX4_put_0 10 rfl rfl)
theorem dX4_put_13 : decode cX4_put 13 = .ok (.iload_n 1, 1) := dk_27 (dk_at dksX4_put_0 13 rfl rfl)
theorem dX4_put_14 : decode cX4_put 14 = .ok (.iaload, 1) := dk_46 (dk_at dksX4_put_0 14 rfl rfl)
theorem dX4_put_15 : decode cX4_put 15 = .ok (.ifCond .ge 6, 3) := dk_156 0 6 (dk_at dksX4_put_0 15 rfl rfl)
theorem dX4_put_18 : decode cX4_put 18 = .ok (.bipush (-11), 2) := dk_16 245 (dk_at dksX4_put_0 18 rfl rfl)
theorem dX4_put_20 : decode cX4_put 20 = .ok (.ireturn, 1) := dk_172 (dk_at dksX4_put_0 20 rfl rfl)
theorem dX4_put_21 : decode cX4_put 21 = .ok (.iload_n 2, 1) := dk_28 (dk_at dksX4_put_0 21 rfl rfl)
theorem dX4_put_22 : decode cX4_put 22 = .ok (.i2l, 1) := dk_133 (dk_at dksX4_put_0 22 rfl rfl)
theorem dX4_put_23 : decode cX4_put 23 = .ok (.lconst 0, 1) := dk_9 (dk_at dksX4_put_0 23 rfl rfl)
theorem dX4_put_24 : decode cX4_put 24 = .ok (.aload_n 0, 1) := dk_42 (dk_at dksX4_put_1 0 rfl rfl)
theorem dX4_put_25 : decode cX4_put 25 = .ok (.getfield 87, 3) := dk_180 0 87 (dk_at dksX4_put_1 1 rfl rfl)
theorem dX4_put_28 : decode cX4_put 28 = .ok (.iload_n 1, 1) := dk_27 (dk_at dksX4_put_1 4 rfl rfl)
theorem dX4_put_29 : decode cX4_put 29 = .ok (.iaload, 1) := dk_46 (dk_at dksX4_put_1 5 rfl rfl)
theorem dX4_put_30 : decode cX4_put 30 = .ok (.iconst 1, 1) := dk_4 (dk_at dksX4_put_1 6 rfl rfl)
theorem dX4_put_31 : decode cX4_put 31 = .ok (.isub, 1) := dk_100 (dk_at dksX4_put_1 7 rfl rfl)
theorem dX4_put_32 : decode cX4_put 32 = .ok (.i2l, 1) := dk_133 (dk_at dksX4_put_1 8 rfl rfl)
theorem dX4_put_33 : decode cX4_put 33 = .ok (.invokestatic 99, 3) := dk_184 0 99 (dk_at dksX4_put_1 9 rfl rfl)
theorem dX4_put_36 : decode cX4_put 36 = .ok (.ifCond .ne 6, 3) := dk_154 0 6 (dk_at dksX4_put_1 12 rfl rfl)
theorem dX4_put_39 : decode cX4_put 39 = .ok (.bipush (-13), 2) := dk_16 243 (dk_at dksX4_put_1 15 rfl rfl)
theorem dX4_put_41 : decode cX4_put 41 = .ok (.ireturn, 1) := dk_172 (dk_at dksX4_put_1 17 rfl rfl)
theorem dX4_put_42 : decode cX4_put 42 = .ok (.aload_n 0, 1) := dk_42 (dk_at dksX4_put_1 18 rfl rfl)
theorem dX4_put_43 : decode cX4_put 43 = .ok (.getfield 90, 3) := dk_180 0 90 (dk_at dksX4_put_1 19 rfl rfl)
theorem dX4_put_46 : decode cX4_put 46 = .ok (.iload_n 1, 1) := dk_27 (dk_at dksX4_put_1 22 rfl rfl)
theorem dX4_put_47 : decode cX4_put 47 = .ok (.aaload, 1) := dk_50 (dk_at dksX4_put_1 23 rfl rfl)
theorem dX4_put_48 : decode cX4_put 48 = .ok (.iload_n 2, 1) := dk_28 (dk_at dksX4_put_2 0 rfl rfl)
theorem dX4_put_49 : decode cX4_put 49 = .ok (.iload_n 3, 1) := dk_29 (dk_at dksX4_put_2 1 rfl rfl)
theorem dX4_put_50 : decode cX4_put 50 = .ok (.iastore, 1) := dk_79 (dk_at dksX4_put_2 2 rfl rfl)
theorem dX4_put_51 : decode cX4_put 51 = .ok (.iconst 1, 1) := dk_4 (dk_at dksX4_put_2 3 rfl rfl)
theorem dX4_put_52 : decode cX4_put 52 = .ok (.ireturn, 1) := dk_172 (dk_at dksX4_put_2 4 rfl rfl)
abbrev cX4_get : ByteArray := prog_16_method_72_code
def yX4_get : MethodName := ⟨RX4, "get", "(II)J"⟩
def dkwX4_get_1 : List UInt8 := [153, 0, 15, 42, 180, 0, 90, 27, 50, 28, 46, 133, 167, 0, 6, 20, 0, 149, 173]
abbrev dktX4_get_1 : List UInt8 := dkwX4_get_1 ++ []
def dkwX4_get_0 : List UInt8 := [27, 184, 1, 11, 153, 0, 33, 28, 133, 9, 42, 180, 0, 87, 27, 46, 4, 100, 133, 184, 0, 99]
abbrev dktX4_get_0 : List UInt8 := dkwX4_get_0 ++ dktX4_get_1
theorem dksX4_get_0 : cX4_get.data.toList.drop 0 = dktX4_get_0 := by decide +kernel
theorem dksX4_get_1 : cX4_get.data.toList.drop 22 = dktX4_get_1 := dk_seg dksX4_get_0 22 rfl rfl
theorem dX4_get_0 : decode cX4_get 0 = .ok (.iload_n 1, 1) := dk_27 (dk_at dksX4_get_0 0 rfl rfl)
theorem dX4_get_1 : decode cX4_get 1 = .ok (.invokestatic 267, 3) := dk_184 1 11 (dk_at dksX4_get_0 1 rfl rfl)
theorem dX4_get_4 : decode cX4_get 4 = .ok (.ifCond .eq 33, 3) := dk_153 0 33 (dk_at dksX4_get_0 4 rfl rfl)
theorem dX4_get_7 : decode cX4_get 7 = .ok (.iload_n 2, 1) := dk_28 (dk_at dksX4_get_0 7 rfl rfl)
theorem dX4_get_8 : decode cX4_get 8 = .ok (.i2l, 1) := dk_133 (dk_at dksX4_get_0 8 rfl rfl)
theorem dX4_get_9 : decode cX4_get 9 = .ok (.lconst 0, 1) := dk_9 (dk_at dksX4_get_0 9 rfl rfl)
theorem dX4_get_10 : decode cX4_get 10 = .ok (.aload_n 0, 1) := dk_42 (dk_at dksX4_get_0 10 rfl rfl)
theorem dX4_get_11 : decode cX4_get 11 = .ok (.getfield 87, 3) := dk_180 0 87 (dk_at dksX4_get_0 11 rfl rfl)
theorem dX4_get_14 : decode cX4_get 14 = .ok (.iload_n 1, 1) := dk_27 (dk_at dksX4_get_0 14 rfl rfl)
theorem dX4_get_15 : decode cX4_get 15 = .ok (.iaload, 1) := dk_46 (dk_at dksX4_get_0 15 rfl rfl)
theorem dX4_get_16 : decode cX4_get 16 = .ok (.iconst 1, 1) := dk_4 (dk_at dksX4_get_0 16 rfl rfl)
theorem dX4_get_17 : decode cX4_get 17 = .ok (.isub, 1) := dk_100 (dk_at dksX4_get_0 17 rfl rfl)
theorem dX4_get_18 : decode cX4_get 18 = .ok (.i2l, 1) := dk_133 (dk_at dksX4_get_0 18 rfl rfl)
theorem dX4_get_19 : decode cX4_get 19 = .ok (.invokestatic 99, 3) := dk_184 0 99 (dk_at dksX4_get_0 19 rfl rfl)
theorem dX4_get_22 : decode cX4_get 22 = .ok (.ifCond .eq 15, 3) := dk_153 0 15 (dk_at dksX4_get_1 0 rfl rfl)
theorem dX4_get_25 : decode cX4_get 25 = .ok (.aload_n 0, 1) := dk_42 (dk_at dksX4_get_1 3 rfl rfl)
theorem dX4_get_26 : decode cX4_get 26 = .ok (.getfield 90, 3) := dk_180 0 90 (dk_at dksX4_get_1 4 rfl rfl)
theorem dX4_get_29 : decode cX4_get 29 = .ok (.iload_n 1, 1) := dk_27 (dk_at dksX4_get_1 7 rfl rfl)
theorem dX4_get_30 : decode cX4_get 30 = .ok (.aaload, 1) := dk_50 (dk_at dksX4_get_1 8 rfl rfl)
theorem dX4_get_31 : decode cX4_get 31 = .ok (.iload_n 2, 1) := dk_28 (dk_at dksX4_get_1 9 rfl rfl)
theorem dX4_get_32 : decode cX4_get 32 = .ok (.iaload, 1) := dk_46 (dk_at dksX4_get_1 10 rfl rfl)
theorem dX4_get_33 : decode cX4_get 33 = .ok (.i2l, 1) := dk_133 (dk_at dksX4_get_1 11 rfl rfl)
theorem dX4_get_34 : decode cX4_get 34 = .ok (.goto 6, 3) := dk_167 0 6 (dk_at dksX4_get_1 12 rfl rfl)
theorem dX4_get_37 : decode cX4_get 37 = .ok (.ldc2_w 149, 3) := dk_20 0 149 (dk_at dksX4_get_1 15 rfl rfl)
theorem dX4_get_40 : decode cX4_get 40 = .ok (.lreturn, 1) := dk_173 (dk_at dksX4_get_1 18 rfl rfl)
abbrev cX4_image : ByteArray := prog_16_method_73_code
def yX4_image : MethodName := ⟨RX4, "image", "()I"⟩
def dkwX4_image_1 : List UInt8 := [167, 255, 235, 42, 4, 181, 1, 14, 42, 180, 0, 11, 16, 18, 46, 172]
abbrev dktX4_image_1 : List UInt8 := dkwX4_image_1 ++ []
def dkwX4_image_0 : List UInt8 := [3, 60, 27, 16, 48, 162, 0, 21, 42, 180, 0, 15, 27, 42, 180, 0, 11, 27, 46, 79, 132, 1, 1]
abbrev dktX4_image_0 : List UInt8 := dkwX4_image_0 ++ dktX4_image_1
theorem dksX4_image_0 : cX4_image.data.toList.drop 0 = dktX4_image_0 := by decide +kernel
theorem dksX4_image_1 : cX4_image.data.toList.drop 23 = dktX4_image_1 := dk_seg dksX4_image_0 23 rfl rfl
theorem dX4_image_0 : decode cX4_image 0 = .ok (.iconst 0, 1) := dk_3 (dk_at dksX4_image_0 0 rfl rfl)
theorem dX4_image_1 : decode cX4_image 1 = .ok (.istore_n 1, 1) := dk_60 (dk_at dksX4_image_0 1 rfl rfl)
theorem dX4_image_2 : decode cX4_image 2 = .ok (.iload_n 1, 1) := dk_27 (dk_at dksX4_image_0 2 rfl rfl)
theorem dX4_image_3 : decode cX4_image 3 = .ok (.bipush 48, 2) := dk_16 48 (dk_at dksX4_image_0 3 rfl rfl)
theorem dX4_image_5 : decode cX4_image 5 = .ok (.if_icmp .ge 21, 3) := dk_162 0 21 (dk_at dksX4_image_0 5 rfl rfl)
theorem dX4_image_8 : decode cX4_image 8 = .ok (.aload_n 0, 1) := dk_42 (dk_at dksX4_image_0 8 rfl rfl)
theorem dX4_image_9 : decode cX4_image 9 = .ok (.getfield 15, 3) := dk_180 0 15 (dk_at dksX4_image_0 9 rfl rfl)
theorem dX4_image_12 : decode cX4_image 12 = .ok (.iload_n 1, 1) := dk_27 (dk_at dksX4_image_0 12 rfl rfl)
theorem dX4_image_13 : decode cX4_image 13 = .ok (.aload_n 0, 1) := dk_42 (dk_at dksX4_image_0 13 rfl rfl)
theorem dX4_image_14 : decode cX4_image 14 = .ok (.getfield 11, 3) := dk_180 0 11 (dk_at dksX4_image_0 14 rfl rfl)
theorem dX4_image_17 : decode cX4_image 17 = .ok (.iload_n 1, 1) := dk_27 (dk_at dksX4_image_0 17 rfl rfl)
theorem dX4_image_18 : decode cX4_image 18 = .ok (.iaload, 1) := dk_46 (dk_at dksX4_image_0 18 rfl rfl)
theorem dX4_image_19 : decode cX4_image 19 = .ok (.iastore, 1) := dk_79 (dk_at dksX4_image_0 19 rfl rfl)
theorem dX4_image_20 : decode cX4_image 20 = .ok (.iinc 1 1, 3) := dk_132 1 1 (dk_at dksX4_image_0 20 rfl rfl)
theorem dX4_image_23 : decode cX4_image 23 = .ok (.goto (-21), 3) := dk_167 255 235 (dk_at dksX4_image_1 0 rfl rfl)
theorem dX4_image_26 : decode cX4_image 26 = .ok (.aload_n 0, 1) := dk_42 (dk_at dksX4_image_1 3 rfl rfl)
theorem dX4_image_27 : decode cX4_image 27 = .ok (.iconst 1, 1) := dk_4 (dk_at dksX4_image_1 4 rfl rfl)
theorem dX4_image_28 : decode cX4_image 28 = .ok (.putfield 270, 3) := dk_181 1 14 (dk_at dksX4_image_1 5 rfl rfl)
theorem dX4_image_31 : decode cX4_image 31 = .ok (.aload_n 0, 1) := dk_42 (dk_at dksX4_image_1 8 rfl rfl)
theorem dX4_image_32 : decode cX4_image 32 = .ok (.getfield 11, 3) := dk_180 0 11 (dk_at dksX4_image_1 9 rfl rfl)
theorem dX4_image_35 : decode cX4_image 35 = .ok (.bipush 18, 2) := dk_16 18 (dk_at dksX4_image_1 12 rfl rfl)
theorem dX4_image_37 : decode cX4_image 37 = .ok (.iaload, 1) := dk_46 (dk_at dksX4_image_1 14 rfl rfl)
theorem dX4_image_38 : decode cX4_image 38 = .ok (.ireturn, 1) := dk_172 (dk_at dksX4_image_1 15 rfl rfl)
abbrev cX4_undo : ByteArray := prog_16_method_74_code
def yX4_undo : MethodName := ⟨RX4, "undo", "()I"⟩
def dkwX4_undo_1 : List UInt8 := [180, 0, 15, 27, 46, 79, 132, 1, 1, 167, 255, 235, 42, 180, 0, 11, 16, 18, 46, 172]
abbrev dktX4_undo_1 : List UInt8 := dkwX4_undo_1 ++ []
def dkwX4_undo_0 : List UInt8 := [42, 180, 1, 14, 154, 0, 6, 16, 253, 172, 3, 60, 27, 16, 48, 162, 0, 21, 42, 180, 0, 11, 27, 42]
abbrev dktX4_undo_0 : List UInt8 := dkwX4_undo_0 ++ dktX4_undo_1
theorem dksX4_undo_0 : cX4_undo.data.toList.drop 0 = dktX4_undo_0 := by decide +kernel
theorem dksX4_undo_1 : cX4_undo.data.toList.drop 24 = dktX4_undo_1 := dk_seg dksX4_undo_0 24 rfl rfl
theorem dX4_undo_0 : decode cX4_undo 0 = .ok (.aload_n 0, 1) := dk_42 (dk_at dksX4_undo_0 0 rfl rfl)
theorem dX4_undo_1 : decode cX4_undo 1 = .ok (.getfield 270, 3) := dk_180 1 14 (dk_at dksX4_undo_0 1 rfl rfl)
theorem dX4_undo_4 : decode cX4_undo 4 = .ok (.ifCond .ne 6, 3) := dk_154 0 6 (dk_at dksX4_undo_0 4 rfl rfl)
theorem dX4_undo_7 : decode cX4_undo 7 = .ok (.bipush (-3), 2) := dk_16 253 (dk_at dksX4_undo_0 7 rfl rfl)
theorem dX4_undo_9 : decode cX4_undo 9 = .ok (.ireturn, 1) := dk_172 (dk_at dksX4_undo_0 9 rfl rfl)
theorem dX4_undo_10 : decode cX4_undo 10 = .ok (.iconst 0, 1) := dk_3 (dk_at dksX4_undo_0 10 rfl rfl)
theorem dX4_undo_11 : decode cX4_undo 11 = .ok (.istore_n 1, 1) := dk_60 (dk_at dksX4_undo_0 11 rfl rfl)
theorem dX4_undo_12 : decode cX4_undo 12 = .ok (.iload_n 1, 1) := dk_27 (dk_at dksX4_undo_0 12 rfl rfl)
theorem dX4_undo_13 : decode cX4_undo 13 = .ok (.bipush 48, 2) := dk_16 48 (dk_at dksX4_undo_0 13 rfl rfl)
theorem dX4_undo_15 : decode cX4_undo 15 = .ok (.if_icmp .ge 21, 3) := dk_162 0 21 (dk_at dksX4_undo_0 15 rfl rfl)
theorem dX4_undo_18 : decode cX4_undo 18 = .ok (.aload_n 0, 1) := dk_42 (dk_at dksX4_undo_0 18 rfl rfl)
theorem dX4_undo_19 : decode cX4_undo 19 = .ok (.getfield 11, 3) := dk_180 0 11 (dk_at dksX4_undo_0 19 rfl rfl)
theorem dX4_undo_22 : decode cX4_undo 22 = .ok (.iload_n 1, 1) := dk_27 (dk_at dksX4_undo_0 22 rfl rfl)
theorem dX4_undo_23 : decode cX4_undo 23 = .ok (.aload_n 0, 1) := dk_42 (dk_at dksX4_undo_0 23 rfl rfl)
theorem dX4_undo_24 : decode cX4_undo 24 = .ok (.getfield 15, 3) := dk_180 0 15 (dk_at dksX4_undo_1 0 rfl rfl)
theorem dX4_undo_27 : decode cX4_undo 27 = .ok (.iload_n 1, 1) := dk_27 (dk_at dksX4_undo_1 3 rfl rfl)
theorem dX4_undo_28 : decode cX4_undo 28 = .ok (.iaload, 1) := dk_46 (dk_at dksX4_undo_1 4 rfl rfl)
theorem dX4_undo_29 : decode cX4_undo 29 = .ok (.iastore, 1) := dk_79 (dk_at dksX4_undo_1 5 rfl rfl)
theorem dX4_undo_30 : decode cX4_undo 30 = .ok (.iinc 1 1, 3) := dk_132 1 1 (dk_at dksX4_undo_1 6 rfl rfl)
theorem dX4_undo_33 : decode cX4_undo 33 = .ok (.goto (-21), 3) := dk_167 255 235 (dk_at dksX4_undo_1 9 rfl rfl)
theorem dX4_undo_36 : decode cX4_undo 36 = .ok (.aload_n 0, 1) := dk_42 (dk_at dksX4_undo_1 12 rfl rfl)
theorem dX4_undo_37 : decode cX4_undo 37 = .ok (.getfield 11, 3) := dk_180 0 11 (dk_at dksX4_undo_1 13 rfl rfl)
theorem dX4_undo_40 : decode cX4_undo 40 = .ok (.bipush 18, 2) := dk_16 18 (dk_at dksX4_undo_1 16 rfl rfl)
theorem dX4_undo_42 : decode cX4_undo 42 = .ok (.iaload, 1) := dk_46 (dk_at dksX4_undo_1 18 rfl rfl)
theorem dX4_undo_43 : decode cX4_undo 43 = .ok (.ireturn, 1) := dk_172 (dk_at dksX4_undo_1 19 rfl rfl)
abbrev cX4_count : ByteArray := prog_16_method_75_code
def yX4_count : MethodName := ⟨RX4, "count", "(I)I"⟩
def dkwX4_count_4 : List UInt8 := [42, 180, 1, 4, 172, 42, 180, 0, 11, 16, 31, 46, 172, 16, 254, 172]
abbrev dktX4_count_4 : List UInt8 := dkwX4_count_4 ++ []
def dkwX4_count_3 : List UInt8 := [46, 153, 0, 7, 4, 167, 0, 4, 3, 96, 61, 132, 3, 1, 167, 255, 230, 28, 172, 42, 180, 0, 237, 172]
abbrev dktX4_count_3 : List UInt8 := dkwX4_count_3 ++ dktX4_count_4
def dkwX4_count_2 : List UInt8 := [42, 180, 0, 11, 16, 18, 46, 172, 3, 61, 3, 62, 29, 16, 18, 162, 0, 26, 28, 42, 180, 0, 11, 29]
abbrev dktX4_count_2 : List UInt8 := dkwX4_count_2 ++ dktX4_count_3
def dkwX4_count_1 : List UInt8 := [170, 0, 0, 0, 0, 0, 96, 0, 0, 0, 0, 0, 0, 0, 4, 0, 0, 0, 35, 0, 0, 0, 43, 0, 0, 0, 78, 0, 0, 0, 83, 0, 0, 0, 88]
abbrev dktX4_count_1 : List UInt8 := dkwX4_count_1 ++ dktX4_count_2
def dkwX4_count_0 : List UInt8 := [27]
abbrev dktX4_count_0 : List UInt8 := dkwX4_count_0 ++ dktX4_count_1
theorem dksX4_count_0 : cX4_count.data.toList.drop 0 = dktX4_count_0 := by decide +kernel
theorem dksX4_count_1 : cX4_count.data.toList.drop 1 = dktX4_count_1 := dk_seg dksX4_count_0 1 rfl rfl
theorem dksX4_count_2 : cX4_count.data.toList.drop 36 = dktX4_count_2 := dk_seg dksX4_count_1 35 rfl rfl
theorem dksX4_count_3 : cX4_count.data.toList.drop 60 = dktX4_count_3 := dk_seg dksX4_count_2 24 rfl rfl
theorem dksX4_count_4 : cX4_count.data.toList.drop 84 = dktX4_count_4 := dk_seg dksX4_count_3 24 rfl rfl
theorem dX4_count_0 : decode cX4_count 0 = .ok (.iload_n 1, 1) := dk_27 (dk_at dksX4_count_0 0 rfl rfl)
theorem dX4_count_1 : decode cX4_count 1 = .ok (.tableswitch 96 0 4 #[35, 43, 78, 83, 88], 35) := by decide +kernel
theorem dX4_count_36 : decode cX4_count 36 = .ok (.aload_n 0, 1) := dk_42 (dk_at dksX4_count_2 0 rfl rfl)
theorem dX4_count_37 : decode cX4_count 37 = .ok (.getfield 11, 3) := dk_180 0 11 (dk_at dksX4_count_2 1 rfl rfl)
theorem dX4_count_40 : decode cX4_count 40 = .ok (.bipush 18, 2) := dk_16 18 (dk_at dksX4_count_2 4 rfl rfl)
theorem dX4_count_42 : decode cX4_count 42 = .ok (.iaload, 1) := dk_46 (dk_at dksX4_count_2 6 rfl rfl)
theorem dX4_count_43 : decode cX4_count 43 = .ok (.ireturn, 1) := dk_172 (dk_at dksX4_count_2 7 rfl rfl)
theorem dX4_count_44 : decode cX4_count 44 = .ok (.iconst 0, 1) := dk_3 (dk_at dksX4_count_2 8 rfl rfl)
theorem dX4_count_45 : decode cX4_count 45 = .ok (.istore_n 2, 1) := dk_61 (dk_at dksX4_count_2 9 rfl rfl)
theorem dX4_count_46 : decode cX4_count 46 = .ok (.iconst 0, 1) := dk_3 (dk_at dksX4_count_2 10 rfl rfl)
theorem dX4_count_47 : decode cX4_count 47 = .ok (.istore_n 3, 1) := dk_62 (dk_at dksX4_count_2 11 rfl rfl)
theorem dX4_count_48 : decode cX4_count 48 = .ok (.iload_n 3, 1) := dk_29 (dk_at dksX4_count_2 12 rfl rfl)
theorem dX4_count_49 : decode cX4_count 49 = .ok (.bipush 18, 2) := dk_16 18 (dk_at dksX4_count_2 13 rfl rfl)
theorem dX4_count_51 : decode cX4_count 51 = .ok (.if_icmp .ge 26, 3) := dk_162 0 26 (dk_at dksX4_count_2 15 rfl rfl)
theorem dX4_count_54 : decode cX4_count 54 = .ok (.iload_n 2, 1) := dk_28 (dk_at dksX4_count_2 18 rfl rfl)
theorem dX4_count_55 : decode cX4_count 55 = .ok (.aload_n 0, 1) := dk_42 (dk_at dksX4_count_2 19 rfl rfl)
theorem dX4_count_56 : decode cX4_count 56 = .ok (.getfield 11, 3) := dk_180 0 11 (dk_at dksX4_count_2 20 rfl rfl)
theorem dX4_count_59 : decode cX4_count 59 = .ok (.iload_n 3, 1) := dk_29 (dk_at dksX4_count_2 23 rfl rfl)
theorem dX4_count_60 : decode cX4_count 60 = .ok (.iaload, 1) := dk_46 (dk_at dksX4_count_3 0 rfl rfl)
theorem dX4_count_61 : decode cX4_count 61 = .ok (.ifCond .eq 7, 3) := dk_153 0 7 (dk_at dksX4_count_3 1 rfl rfl)
theorem dX4_count_64 : decode cX4_count 64 = .ok (.iconst 1, 1) := dk_4 (dk_at dksX4_count_3 4 rfl rfl)
theorem dX4_count_65 : decode cX4_count 65 = .ok (.goto 4, 3) := dk_167 0 4 (dk_at dksX4_count_3 5 rfl rfl)
theorem dX4_count_68 : decode cX4_count 68 = .ok (.iconst 0, 1) := dk_3 (dk_at dksX4_count_3 8 rfl rfl)
theorem dX4_count_69 : decode cX4_count 69 = .ok (.iadd, 1) := dk_96 (dk_at dksX4_count_3 9 rfl rfl)
theorem dX4_count_70 : decode cX4_count 70 = .ok (.istore_n 2, 1) := dk_61 (dk_at dksX4_count_3 10 rfl rfl)
theorem dX4_count_71 : decode cX4_count 71 = .ok (.iinc 3 1, 3) := dk_132 3 1 (dk_at dksX4_count_3 11 rfl rfl)
theorem dX4_count_74 : decode cX4_count 74 = .ok (.goto (-26), 3) := dk_167 255 230 (dk_at dksX4_count_3 14 rfl rfl)
theorem dX4_count_77 : decode cX4_count 77 = .ok (.iload_n 2, 1) := dk_28 (dk_at dksX4_count_3 17 rfl rfl)
theorem dX4_count_78 : decode cX4_count 78 = .ok (.ireturn, 1) := dk_172 (dk_at dksX4_count_3 18 rfl rfl)
theorem dX4_count_79 : decode cX4_count 79 = .ok (.aload_n 0, 1) := dk_42 (dk_at dksX4_count_3 19 rfl rfl)
theorem dX4_count_80 : decode cX4_count 80 = .ok (.getfield 237, 3) := dk_180 0 237 (dk_at dksX4_count_3 20 rfl rfl)
theorem dX4_count_83 : decode cX4_count 83 = .ok (.ireturn, 1) := dk_172 (dk_at dksX4_count_3 23 rfl rfl)
theorem dX4_count_84 : decode cX4_count 84 = .ok (.aload_n 0, 1) := dk_42 (dk_at dksX4_count_4 0 rfl rfl)
theorem dX4_count_85 : decode cX4_count 85 = .ok (.getfield 260, 3) := dk_180 1 4 (dk_at dksX4_count_4 1 rfl rfl)
theorem dX4_count_88 : decode cX4_count 88 = .ok (.ireturn, 1) := dk_172 (dk_at dksX4_count_4 4 rfl rfl)
theorem dX4_count_89 : decode cX4_count 89 = .ok (.aload_n 0, 1) := dk_42 (dk_at dksX4_count_4 5 rfl rfl)
theorem dX4_count_90 : decode cX4_count 90 = .ok (.getfield 11, 3) := dk_180 0 11 (dk_at dksX4_count_4 6 rfl rfl)
theorem dX4_count_93 : decode cX4_count 93 = .ok (.bipush 31, 2) := dk_16 31 (dk_at dksX4_count_4 9 rfl rfl)
theorem dX4_count_95 : decode cX4_count 95 = .ok (.iaload, 1) := dk_46 (dk_at dksX4_count_4 11 rfl rfl)
theorem dX4_count_96 : decode cX4_count 96 = .ok (.ireturn, 1) := dk_172 (dk_at dksX4_count_4 12 rfl rfl)
theorem dX4_count_97 : decode cX4_count 97 = .ok (.bipush (-2), 2) := dk_16 254 (dk_at dksX4_count_4 13 rfl rfl)
theorem dX4_count_99 : decode cX4_count 99 = .ok (.ireturn, 1) := dk_172 (dk_at dksX4_count_4 15 rfl rfl)
theorem q86 : (Jvm.Cond.initialized "KeptCurvesModel") ∈ lw_all := lw_g (lw_at lw_m1 18 rfl) rfl
theorem q787 : (Jvm.Cond.selects "KeptCurvesModel" ({ cls := "java/lang/Object", name := "getClass", desc := "()Ljava/lang/Class;" } : Jvm.MethodName) ({ cls := "java/lang/Object", name := "getClass", desc := "()Ljava/lang/Class;" } : Jvm.MethodName)) ∈ lw_all := lw_g (lw_at lw_m3 239 rfl) rfl
theorem q1952 : (Jvm.Cond.instantiable "KeptCurvesModel" (30 : Nat)) ∈ lw_all := lw_g (lw_at lw_m8 204 rfl) rfl
theorem q1954 : (Jvm.Cond.instanceMethod ({ cls := "KeptCurvesModel", name := "<init>", desc := "()V" } : Jvm.MethodName)) ∈ lw_all := lw_g (lw_at lw_m8 206 rfl) rfl
theorem q1955 : (Jvm.Cond.code ({ cls := "KeptCurvesModel", name := "<init>", desc := "()V" } : Jvm.MethodName) prog_16_method_1_code (1 : Nat) (Option.none : Option Jvm.ClassFile.FieldType)) ∈ lw_all := lw_g (lw_at lw_m8 207 rfl) rfl
theorem q1956 : (Jvm.Cond.methodLink "KeptCurvesModel" (3 : Nat) ({ cls := "java/lang/Object", name := "<init>", desc := "()V" } : Jvm.MethodName)) ∈ lw_all := lw_g (lw_at lw_m8 208 rfl) rfl
theorem q1957 : (Jvm.Cond.classLink "KeptCurvesModel" (46 : Nat) "[[I") ∈ lw_all := lw_g (lw_at lw_m8 209 rfl) rfl
theorem q1958 : (Jvm.Cond.fieldLink "KeptCurvesModel" (11 : Nat) "KeptCurvesModel" "g" "[I") ∈ lw_all := lw_g (lw_at lw_m8 210 rfl) rfl
theorem q1959 : (Jvm.Cond.fieldLink "KeptCurvesModel" (15 : Nat) "KeptCurvesModel" "kept" "[I") ∈ lw_all := lw_g (lw_at lw_m8 211 rfl) rfl
theorem q1960 : (Jvm.Cond.fieldLink "KeptCurvesModel" (270 : Nat) "KeptCurvesModel" "isKept" "Z") ∈ lw_all := lw_g (lw_at lw_m8 212 rfl) rfl
theorem q1961 : (Jvm.Cond.fieldLink "KeptCurvesModel" (18 : Nat) "KeptCurvesModel" "keeps" "[I") ∈ lw_all := lw_g (lw_at lw_m8 213 rfl) rfl
theorem q1962 : (Jvm.Cond.fieldLink "KeptCurvesModel" (21 : Nat) "KeptCurvesModel" "sizes" "[I") ∈ lw_all := lw_g (lw_at lw_m8 214 rfl) rfl
theorem q1963 : (Jvm.Cond.fieldLink "KeptCurvesModel" (24 : Nat) "KeptCurvesModel" "to" "[I") ∈ lw_all := lw_g (lw_at lw_m8 215 rfl) rfl
theorem q1964 : (Jvm.Cond.fieldLink "KeptCurvesModel" (27 : Nat) "KeptCurvesModel" "isSeen" "[Z") ∈ lw_all := lw_g (lw_at lw_m8 216 rfl) rfl
theorem q1965 : (Jvm.Cond.fieldLink "KeptCurvesModel" (31 : Nat) "KeptCurvesModel" "often" "[I") ∈ lw_all := lw_g (lw_at lw_m8 217 rfl) rfl
theorem q1966 : (Jvm.Cond.fieldLink "KeptCurvesModel" (34 : Nat) "KeptCurvesModel" "xUp" "[I") ∈ lw_all := lw_g (lw_at lw_m8 218 rfl) rfl
theorem q1967 : (Jvm.Cond.fieldLink "KeptCurvesModel" (37 : Nat) "KeptCurvesModel" "xDown" "[I") ∈ lw_all := lw_g (lw_at lw_m8 219 rfl) rfl
theorem q1968 : (Jvm.Cond.fieldLink "KeptCurvesModel" (40 : Nat) "KeptCurvesModel" "yUp" "[I") ∈ lw_all := lw_g (lw_at lw_m8 220 rfl) rfl
theorem q1969 : (Jvm.Cond.fieldLink "KeptCurvesModel" (43 : Nat) "KeptCurvesModel" "yDown" "[I") ∈ lw_all := lw_g (lw_at lw_m8 221 rfl) rfl
theorem q1970 : (Jvm.Cond.fieldLink "KeptCurvesModel" (48 : Nat) "KeptCurvesModel" "rows" "[[I") ∈ lw_all := lw_g (lw_at lw_m8 222 rfl) rfl
theorem q1971 : (Jvm.Cond.fieldLink "KeptCurvesModel" (51 : Nat) "KeptCurvesModel" "p" "[I") ∈ lw_all := lw_g (lw_at lw_m8 223 rfl) rfl
theorem q1972 : (Jvm.Cond.fieldLink "KeptCurvesModel" (54 : Nat) "KeptCurvesModel" "q" "[I") ∈ lw_all := lw_g (lw_at lw_m8 224 rfl) rfl
theorem q1973 : (Jvm.Cond.fieldLink "KeptCurvesModel" (57 : Nat) "KeptCurvesModel" "r" "[I") ∈ lw_all := lw_g (lw_at lw_m8 225 rfl) rfl
theorem q1974 : (Jvm.Cond.fieldLink "KeptCurvesModel" (60 : Nat) "KeptCurvesModel" "first" "[I") ∈ lw_all := lw_g (lw_at lw_m8 226 rfl) rfl
theorem q1975 : (Jvm.Cond.fieldLink "KeptCurvesModel" (63 : Nat) "KeptCurvesModel" "second" "[I") ∈ lw_all := lw_g (lw_at lw_m8 227 rfl) rfl
theorem q1976 : (Jvm.Cond.fieldLink "KeptCurvesModel" (66 : Nat) "KeptCurvesModel" "third" "[I") ∈ lw_all := lw_g (lw_at lw_m8 228 rfl) rfl
theorem q1977 : (Jvm.Cond.fieldLink "KeptCurvesModel" (69 : Nat) "KeptCurvesModel" "u" "[I") ∈ lw_all := lw_g (lw_at lw_m8 229 rfl) rfl
theorem q1978 : (Jvm.Cond.fieldLink "KeptCurvesModel" (72 : Nat) "KeptCurvesModel" "v" "[I") ∈ lw_all := lw_g (lw_at lw_m8 230 rfl) rfl
theorem q1979 : (Jvm.Cond.fieldLink "KeptCurvesModel" (75 : Nat) "KeptCurvesModel" "has" "[Z") ∈ lw_all := lw_g (lw_at lw_m8 231 rfl) rfl
theorem q1980 : (Jvm.Cond.fieldLink "KeptCurvesModel" (78 : Nat) "KeptCurvesModel" "tape" "[I") ∈ lw_all := lw_g (lw_at lw_m8 232 rfl) rfl
theorem q1981 : (Jvm.Cond.fieldLink "KeptCurvesModel" (237 : Nat) "KeptCurvesModel" "taped" "I") ∈ lw_all := lw_g (lw_at lw_m8 233 rfl) rfl
theorem q1982 : (Jvm.Cond.fieldLink "KeptCurvesModel" (241 : Nat) "KeptCurvesModel" "at" "I") ∈ lw_all := lw_g (lw_at lw_m8 234 rfl) rfl
theorem q1983 : (Jvm.Cond.fieldLink "KeptCurvesModel" (81 : Nat) "KeptCurvesModel" "read" "[I") ∈ lw_all := lw_g (lw_at lw_m8 235 rfl) rfl
theorem q1984 : (Jvm.Cond.fieldLink "KeptCurvesModel" (84 : Nat) "KeptCurvesModel" "paper" "[I") ∈ lw_all := lw_g (lw_at lw_m8 236 rfl) rfl
theorem q1985 : (Jvm.Cond.fieldLink "KeptCurvesModel" (260 : Nat) "KeptCurvesModel" "signs" "I") ∈ lw_all := lw_g (lw_at lw_m8 237 rfl) rfl
theorem q1986 : (Jvm.Cond.fieldLink "KeptCurvesModel" (87 : Nat) "KeptCurvesModel" "lengths" "[I") ∈ lw_all := lw_g (lw_at lw_m8 238 rfl) rfl
theorem q1987 : (Jvm.Cond.fieldLink "KeptCurvesModel" (90 : Nat) "KeptCurvesModel" "items" "[[I") ∈ lw_all := lw_g (lw_at lw_m8 239 rfl) rfl
theorem q1988 : (Jvm.Cond.laysFinal "KeptCurvesModel" "KeptCurvesModel" "g" "[I") ∈ lw_all := lw_g (lw_at lw_m9 0 rfl) rfl
theorem q1989 : (Jvm.Cond.soleField "KeptCurvesModel" "g") ∈ lw_all := lw_g (lw_at lw_m9 1 rfl) rfl
theorem q1990 : (Jvm.Cond.laysFinal "KeptCurvesModel" "KeptCurvesModel" "kept" "[I") ∈ lw_all := lw_g (lw_at lw_m9 2 rfl) rfl
theorem q1991 : (Jvm.Cond.soleField "KeptCurvesModel" "kept") ∈ lw_all := lw_g (lw_at lw_m9 3 rfl) rfl
theorem q1992 : (Jvm.Cond.lays "KeptCurvesModel" "KeptCurvesModel" "isKept" "Z") ∈ lw_all := lw_g (lw_at lw_m9 4 rfl) rfl
theorem q1993 : (Jvm.Cond.soleField "KeptCurvesModel" "isKept") ∈ lw_all := lw_g (lw_at lw_m9 5 rfl) rfl
theorem q1994 : (Jvm.Cond.laysFinal "KeptCurvesModel" "KeptCurvesModel" "keeps" "[I") ∈ lw_all := lw_g (lw_at lw_m9 6 rfl) rfl
theorem q1995 : (Jvm.Cond.soleField "KeptCurvesModel" "keeps") ∈ lw_all := lw_g (lw_at lw_m9 7 rfl) rfl
theorem q1996 : (Jvm.Cond.laysFinal "KeptCurvesModel" "KeptCurvesModel" "sizes" "[I") ∈ lw_all := lw_g (lw_at lw_m9 8 rfl) rfl
theorem q1997 : (Jvm.Cond.soleField "KeptCurvesModel" "sizes") ∈ lw_all := lw_g (lw_at lw_m9 9 rfl) rfl
theorem q1998 : (Jvm.Cond.laysFinal "KeptCurvesModel" "KeptCurvesModel" "to" "[I") ∈ lw_all := lw_g (lw_at lw_m9 10 rfl) rfl
theorem q1999 : (Jvm.Cond.soleField "KeptCurvesModel" "to") ∈ lw_all := lw_g (lw_at lw_m9 11 rfl) rfl
theorem q2000 : (Jvm.Cond.laysFinal "KeptCurvesModel" "KeptCurvesModel" "isSeen" "[Z") ∈ lw_all := lw_g (lw_at lw_m9 12 rfl) rfl
theorem q2001 : (Jvm.Cond.soleField "KeptCurvesModel" "isSeen") ∈ lw_all := lw_g (lw_at lw_m9 13 rfl) rfl
theorem q2002 : (Jvm.Cond.laysFinal "KeptCurvesModel" "KeptCurvesModel" "often" "[I") ∈ lw_all := lw_g (lw_at lw_m9 14 rfl) rfl
theorem q2003 : (Jvm.Cond.soleField "KeptCurvesModel" "often") ∈ lw_all := lw_g (lw_at lw_m9 15 rfl) rfl
theorem q2004 : (Jvm.Cond.laysFinal "KeptCurvesModel" "KeptCurvesModel" "xUp" "[I") ∈ lw_all := lw_g (lw_at lw_m9 16 rfl) rfl
theorem q2005 : (Jvm.Cond.soleField "KeptCurvesModel" "xUp") ∈ lw_all := lw_g (lw_at lw_m9 17 rfl) rfl
theorem q2006 : (Jvm.Cond.laysFinal "KeptCurvesModel" "KeptCurvesModel" "xDown" "[I") ∈ lw_all := lw_g (lw_at lw_m9 18 rfl) rfl
theorem q2007 : (Jvm.Cond.soleField "KeptCurvesModel" "xDown") ∈ lw_all := lw_g (lw_at lw_m9 19 rfl) rfl
theorem q2008 : (Jvm.Cond.laysFinal "KeptCurvesModel" "KeptCurvesModel" "yUp" "[I") ∈ lw_all := lw_g (lw_at lw_m9 20 rfl) rfl
theorem q2009 : (Jvm.Cond.soleField "KeptCurvesModel" "yUp") ∈ lw_all := lw_g (lw_at lw_m9 21 rfl) rfl
theorem q2010 : (Jvm.Cond.laysFinal "KeptCurvesModel" "KeptCurvesModel" "yDown" "[I") ∈ lw_all := lw_g (lw_at lw_m9 22 rfl) rfl
theorem q2011 : (Jvm.Cond.soleField "KeptCurvesModel" "yDown") ∈ lw_all := lw_g (lw_at lw_m9 23 rfl) rfl
theorem q2012 : (Jvm.Cond.laysFinal "KeptCurvesModel" "KeptCurvesModel" "rows" "[[I") ∈ lw_all := lw_g (lw_at lw_m9 24 rfl) rfl
theorem q2013 : (Jvm.Cond.soleField "KeptCurvesModel" "rows") ∈ lw_all := lw_g (lw_at lw_m9 25 rfl) rfl
theorem q2014 : (Jvm.Cond.laysFinal "KeptCurvesModel" "KeptCurvesModel" "p" "[I") ∈ lw_all := lw_g (lw_at lw_m9 26 rfl) rfl
theorem q2015 : (Jvm.Cond.soleField "KeptCurvesModel" "p") ∈ lw_all := lw_g (lw_at lw_m9 27 rfl) rfl
theorem q2016 : (Jvm.Cond.laysFinal "KeptCurvesModel" "KeptCurvesModel" "q" "[I") ∈ lw_all := lw_g (lw_at lw_m9 28 rfl) rfl
theorem q2017 : (Jvm.Cond.soleField "KeptCurvesModel" "q") ∈ lw_all := lw_g (lw_at lw_m9 29 rfl) rfl
theorem q2018 : (Jvm.Cond.laysFinal "KeptCurvesModel" "KeptCurvesModel" "r" "[I") ∈ lw_all := lw_g (lw_at lw_m9 30 rfl) rfl
theorem q2019 : (Jvm.Cond.soleField "KeptCurvesModel" "r") ∈ lw_all := lw_g (lw_at lw_m9 31 rfl) rfl
theorem q2020 : (Jvm.Cond.laysFinal "KeptCurvesModel" "KeptCurvesModel" "first" "[I") ∈ lw_all := lw_g (lw_at lw_m9 32 rfl) rfl
theorem q2021 : (Jvm.Cond.soleField "KeptCurvesModel" "first") ∈ lw_all := lw_g (lw_at lw_m9 33 rfl) rfl
theorem q2022 : (Jvm.Cond.laysFinal "KeptCurvesModel" "KeptCurvesModel" "second" "[I") ∈ lw_all := lw_g (lw_at lw_m9 34 rfl) rfl
theorem q2023 : (Jvm.Cond.soleField "KeptCurvesModel" "second") ∈ lw_all := lw_g (lw_at lw_m9 35 rfl) rfl
theorem q2024 : (Jvm.Cond.laysFinal "KeptCurvesModel" "KeptCurvesModel" "third" "[I") ∈ lw_all := lw_g (lw_at lw_m9 36 rfl) rfl
theorem q2025 : (Jvm.Cond.soleField "KeptCurvesModel" "third") ∈ lw_all := lw_g (lw_at lw_m9 37 rfl) rfl
theorem q2026 : (Jvm.Cond.laysFinal "KeptCurvesModel" "KeptCurvesModel" "u" "[I") ∈ lw_all := lw_g (lw_at lw_m9 38 rfl) rfl
theorem q2027 : (Jvm.Cond.soleField "KeptCurvesModel" "u") ∈ lw_all := lw_g (lw_at lw_m9 39 rfl) rfl
theorem q2028 : (Jvm.Cond.laysFinal "KeptCurvesModel" "KeptCurvesModel" "v" "[I") ∈ lw_all := lw_g (lw_at lw_m9 40 rfl) rfl
theorem q2029 : (Jvm.Cond.soleField "KeptCurvesModel" "v") ∈ lw_all := lw_g (lw_at lw_m9 41 rfl) rfl
theorem q2030 : (Jvm.Cond.laysFinal "KeptCurvesModel" "KeptCurvesModel" "has" "[Z") ∈ lw_all := lw_g (lw_at lw_m9 42 rfl) rfl
theorem q2031 : (Jvm.Cond.soleField "KeptCurvesModel" "has") ∈ lw_all := lw_g (lw_at lw_m9 43 rfl) rfl
theorem q2032 : (Jvm.Cond.laysFinal "KeptCurvesModel" "KeptCurvesModel" "tape" "[I") ∈ lw_all := lw_g (lw_at lw_m9 44 rfl) rfl
theorem q2033 : (Jvm.Cond.soleField "KeptCurvesModel" "tape") ∈ lw_all := lw_g (lw_at lw_m9 45 rfl) rfl
theorem q2034 : (Jvm.Cond.lays "KeptCurvesModel" "KeptCurvesModel" "taped" "I") ∈ lw_all := lw_g (lw_at lw_m9 46 rfl) rfl
theorem q2035 : (Jvm.Cond.soleField "KeptCurvesModel" "taped") ∈ lw_all := lw_g (lw_at lw_m9 47 rfl) rfl
theorem q2036 : (Jvm.Cond.lays "KeptCurvesModel" "KeptCurvesModel" "at" "I") ∈ lw_all := lw_g (lw_at lw_m9 48 rfl) rfl
theorem q2037 : (Jvm.Cond.soleField "KeptCurvesModel" "at") ∈ lw_all := lw_g (lw_at lw_m9 49 rfl) rfl
theorem q2038 : (Jvm.Cond.laysFinal "KeptCurvesModel" "KeptCurvesModel" "read" "[I") ∈ lw_all := lw_g (lw_at lw_m9 50 rfl) rfl
theorem q2039 : (Jvm.Cond.soleField "KeptCurvesModel" "read") ∈ lw_all := lw_g (lw_at lw_m9 51 rfl) rfl
theorem q2040 : (Jvm.Cond.laysFinal "KeptCurvesModel" "KeptCurvesModel" "paper" "[I") ∈ lw_all := lw_g (lw_at lw_m9 52 rfl) rfl
theorem q2041 : (Jvm.Cond.soleField "KeptCurvesModel" "paper") ∈ lw_all := lw_g (lw_at lw_m9 53 rfl) rfl
theorem q2042 : (Jvm.Cond.lays "KeptCurvesModel" "KeptCurvesModel" "signs" "I") ∈ lw_all := lw_g (lw_at lw_m9 54 rfl) rfl
theorem q2043 : (Jvm.Cond.soleField "KeptCurvesModel" "signs") ∈ lw_all := lw_g (lw_at lw_m9 55 rfl) rfl
theorem q2044 : (Jvm.Cond.laysFinal "KeptCurvesModel" "KeptCurvesModel" "lengths" "[I") ∈ lw_all := lw_g (lw_at lw_m9 56 rfl) rfl
theorem q2045 : (Jvm.Cond.soleField "KeptCurvesModel" "lengths") ∈ lw_all := lw_g (lw_at lw_m9 57 rfl) rfl
theorem q2046 : (Jvm.Cond.laysFinal "KeptCurvesModel" "KeptCurvesModel" "items" "[[I") ∈ lw_all := lw_g (lw_at lw_m9 58 rfl) rfl
theorem q2047 : (Jvm.Cond.soleField "KeptCurvesModel" "items") ∈ lw_all := lw_g (lw_at lw_m9 59 rfl) rfl
theorem q2048 : (Jvm.Cond.superclass "KeptCurvesModel" "java/lang/Object") ∈ lw_all := lw_g (lw_at lw_m9 60 rfl) rfl
theorem q2050 : (Jvm.Cond.instanceMethod ({ cls := "KeptCurvesModel", name := "set", desc := "(IIII)I" } : Jvm.MethodName)) ∈ lw_all := lw_g (lw_at lw_m9 62 rfl) rfl
theorem q2051 : (Jvm.Cond.selects "KeptCurvesModel" ({ cls := "KeptCurvesModel", name := "set", desc := "(IIII)I" } : Jvm.MethodName) ({ cls := "KeptCurvesModel", name := "set", desc := "(IIII)I" } : Jvm.MethodName)) ∈ lw_all := lw_g (lw_at lw_m9 63 rfl) rfl
theorem q2052 : (Jvm.Cond.code ({ cls := "KeptCurvesModel", name := "set", desc := "(IIII)I" } : Jvm.MethodName) prog_16_method_10_code (7 : Nat) (Option.some Jvm.ClassFile.FieldType.int)) ∈ lw_all := lw_g (lw_at lw_m9 64 rfl) rfl
theorem q2053 : (Jvm.Cond.methodLink "KeptCurvesModel" (109 : Nat) ({ cls := "KeptCurvesModel", name := "isPlace", desc := "(III)Z" } : Jvm.MethodName)) ∈ lw_all := lw_g (lw_at lw_m9 65 rfl) rfl
theorem q2054 : (Jvm.Cond.static ({ cls := "KeptCurvesModel", name := "isPlace", desc := "(III)Z" } : Jvm.MethodName)) ∈ lw_all := lw_g (lw_at lw_m9 66 rfl) rfl
theorem q2055 : (Jvm.Cond.code ({ cls := "KeptCurvesModel", name := "isPlace", desc := "(III)Z" } : Jvm.MethodName) prog_16_method_9_code (3 : Nat) (Option.some Jvm.ClassFile.FieldType.boolean)) ∈ lw_all := lw_g (lw_at lw_m9 67 rfl) rfl
theorem q2056 : (Jvm.Cond.methodLink "KeptCurvesModel" (99 : Nat) ({ cls := "KeptCurvesModel", name := "in", desc := "(JJJ)Z" } : Jvm.MethodName)) ∈ lw_all := lw_g (lw_at lw_m9 68 rfl) rfl
theorem q2057 : (Jvm.Cond.static ({ cls := "KeptCurvesModel", name := "in", desc := "(JJJ)Z" } : Jvm.MethodName)) ∈ lw_all := lw_g (lw_at lw_m9 69 rfl) rfl
theorem q2058 : (Jvm.Cond.code ({ cls := "KeptCurvesModel", name := "in", desc := "(JJJ)Z" } : Jvm.MethodName) prog_16_method_2_code (6 : Nat) (Option.some Jvm.ClassFile.FieldType.boolean)) ∈ lw_all := lw_g (lw_at lw_m9 70 rfl) rfl
theorem q2059 : (Jvm.Cond.constantLong "KeptCurvesModel" (107 : Nat) (2 : Int64)) ∈ lw_all := lw_g (lw_at lw_m9 71 rfl) rfl
theorem q2060 : (Jvm.Cond.constantLong "KeptCurvesModel" (113 : Nat) (30 : Int64)) ∈ lw_all := lw_g (lw_at lw_m9 72 rfl) rfl
theorem q2061 : (Jvm.Cond.methodLink "KeptCurvesModel" (115 : Nat) ({ cls := "KeptCurvesModel", name := "placeOf", desc := "(III)I" } : Jvm.MethodName)) ∈ lw_all := lw_g (lw_at lw_m9 73 rfl) rfl
theorem q2062 : (Jvm.Cond.static ({ cls := "KeptCurvesModel", name := "placeOf", desc := "(III)I" } : Jvm.MethodName)) ∈ lw_all := lw_g (lw_at lw_m9 74 rfl) rfl
theorem q2063 : (Jvm.Cond.code ({ cls := "KeptCurvesModel", name := "placeOf", desc := "(III)I" } : Jvm.MethodName) prog_16_method_8_code (3 : Nat) (Option.some Jvm.ClassFile.FieldType.int)) ∈ lw_all := lw_g (lw_at lw_m9 75 rfl) rfl
theorem q2065 : (Jvm.Cond.instanceMethod ({ cls := "KeptCurvesModel", name := "of", desc := "(III)I" } : Jvm.MethodName)) ∈ lw_all := lw_g (lw_at lw_m9 77 rfl) rfl
theorem q2066 : (Jvm.Cond.selects "KeptCurvesModel" ({ cls := "KeptCurvesModel", name := "of", desc := "(III)I" } : Jvm.MethodName) ({ cls := "KeptCurvesModel", name := "of", desc := "(III)I" } : Jvm.MethodName)) ∈ lw_all := lw_g (lw_at lw_m9 78 rfl) rfl
theorem q2067 : (Jvm.Cond.code ({ cls := "KeptCurvesModel", name := "of", desc := "(III)I" } : Jvm.MethodName) prog_16_method_11_code (4 : Nat) (Option.some Jvm.ClassFile.FieldType.int)) ∈ lw_all := lw_g (lw_at lw_m9 79 rfl) rfl
theorem q2069 : (Jvm.Cond.instanceMethod ({ cls := "KeptCurvesModel", name := "value", desc := "(III)I" } : Jvm.MethodName)) ∈ lw_all := lw_g (lw_at lw_m9 81 rfl) rfl
theorem q2070 : (Jvm.Cond.selects "KeptCurvesModel" ({ cls := "KeptCurvesModel", name := "value", desc := "(III)I" } : Jvm.MethodName) ({ cls := "KeptCurvesModel", name := "value", desc := "(III)I" } : Jvm.MethodName)) ∈ lw_all := lw_g (lw_at lw_m9 82 rfl) rfl
theorem q2071 : (Jvm.Cond.code ({ cls := "KeptCurvesModel", name := "value", desc := "(III)I" } : Jvm.MethodName) prog_16_method_14_code (4 : Nat) (Option.some Jvm.ClassFile.FieldType.int)) ∈ lw_all := lw_g (lw_at lw_m9 83 rfl) rfl
theorem q2072 : (Jvm.Cond.methodLink "KeptCurvesModel" (123 : Nat) ({ cls := "KeptCurvesModel", name := "isSpot", desc := "(II)Z" } : Jvm.MethodName)) ∈ lw_all := lw_g (lw_at lw_m9 84 rfl) rfl
theorem q2073 : (Jvm.Cond.static ({ cls := "KeptCurvesModel", name := "isSpot", desc := "(II)Z" } : Jvm.MethodName)) ∈ lw_all := lw_g (lw_at lw_m9 85 rfl) rfl
theorem q2074 : (Jvm.Cond.code ({ cls := "KeptCurvesModel", name := "isSpot", desc := "(II)Z" } : Jvm.MethodName) prog_16_method_7_code (2 : Nat) (Option.some Jvm.ClassFile.FieldType.boolean)) ∈ lw_all := lw_g (lw_at lw_m9 86 rfl) rfl
theorem q2075 : (Jvm.Cond.methodLink "KeptCurvesModel" (103 : Nat) ({ cls := "KeptCurvesModel", name := "isCoordinate", desc := "(I)Z" } : Jvm.MethodName)) ∈ lw_all := lw_g (lw_at lw_m9 87 rfl) rfl
theorem q2076 : (Jvm.Cond.static ({ cls := "KeptCurvesModel", name := "isCoordinate", desc := "(I)Z" } : Jvm.MethodName)) ∈ lw_all := lw_g (lw_at lw_m9 88 rfl) rfl
theorem q2077 : (Jvm.Cond.code ({ cls := "KeptCurvesModel", name := "isCoordinate", desc := "(I)Z" } : Jvm.MethodName) prog_16_method_6_code (1 : Nat) (Option.some Jvm.ClassFile.FieldType.boolean)) ∈ lw_all := lw_g (lw_at lw_m9 89 rfl) rfl
theorem q2078 : (Jvm.Cond.constantLong "KeptCurvesModel" (97 : Nat) (31 : Int64)) ∈ lw_all := lw_g (lw_at lw_m9 90 rfl) rfl
theorem q2079 : (Jvm.Cond.methodLink "KeptCurvesModel" (127 : Nat) ({ cls := "KeptCurvesModel", name := "valueAt", desc := "(III)I" } : Jvm.MethodName)) ∈ lw_all := lw_g (lw_at lw_m9 91 rfl) rfl
theorem q2080 : (Jvm.Cond.privateMethod ({ cls := "KeptCurvesModel", name := "valueAt", desc := "(III)I" } : Jvm.MethodName)) ∈ lw_tbl := lw_at lw_m9 92 rfl
theorem q2081 : (Jvm.Cond.instanceMethod ({ cls := "KeptCurvesModel", name := "valueAt", desc := "(III)I" } : Jvm.MethodName)) ∈ lw_all := lw_g (lw_at lw_m9 93 rfl) rfl
theorem q2082 : (Jvm.Cond.code ({ cls := "KeptCurvesModel", name := "valueAt", desc := "(III)I" } : Jvm.MethodName) prog_16_method_13_code (7 : Nat) (Option.some Jvm.ClassFile.FieldType.int)) ∈ lw_all := lw_g (lw_at lw_m9 94 rfl) rfl
theorem q2083 : (Jvm.Cond.methodLink "KeptCurvesModel" (119 : Nat) ({ cls := "KeptCurvesModel", name := "power", desc := "(II)I" } : Jvm.MethodName)) ∈ lw_all := lw_g (lw_at lw_m9 95 rfl) rfl
theorem q2084 : (Jvm.Cond.static ({ cls := "KeptCurvesModel", name := "power", desc := "(II)I" } : Jvm.MethodName)) ∈ lw_all := lw_g (lw_at lw_m9 96 rfl) rfl
theorem q2085 : (Jvm.Cond.code ({ cls := "KeptCurvesModel", name := "power", desc := "(II)I" } : Jvm.MethodName) prog_16_method_12_code (2 : Nat) (Option.some Jvm.ClassFile.FieldType.int)) ∈ lw_all := lw_g (lw_at lw_m9 97 rfl) rfl
theorem q2087 : (Jvm.Cond.instanceMethod ({ cls := "KeptCurvesModel", name := "kept", desc := "(II)I" } : Jvm.MethodName)) ∈ lw_all := lw_g (lw_at lw_m9 99 rfl) rfl
theorem q2088 : (Jvm.Cond.selects "KeptCurvesModel" ({ cls := "KeptCurvesModel", name := "kept", desc := "(II)I" } : Jvm.MethodName) ({ cls := "KeptCurvesModel", name := "kept", desc := "(II)I" } : Jvm.MethodName)) ∈ lw_all := lw_g (lw_at lw_m9 100 rfl) rfl
theorem q2089 : (Jvm.Cond.code ({ cls := "KeptCurvesModel", name := "kept", desc := "(II)I" } : Jvm.MethodName) prog_16_method_16_code (3 : Nat) (Option.some Jvm.ClassFile.FieldType.int)) ∈ lw_all := lw_g (lw_at lw_m9 101 rfl) rfl
theorem q2090 : (Jvm.Cond.methodLink "KeptCurvesModel" (133 : Nat) ({ cls := "KeptCurvesModel", name := "keptAt", desc := "(II)I" } : Jvm.MethodName)) ∈ lw_all := lw_g (lw_at lw_m9 102 rfl) rfl
theorem q2091 : (Jvm.Cond.privateMethod ({ cls := "KeptCurvesModel", name := "keptAt", desc := "(II)I" } : Jvm.MethodName)) ∈ lw_tbl := lw_at lw_m9 103 rfl
theorem q2092 : (Jvm.Cond.instanceMethod ({ cls := "KeptCurvesModel", name := "keptAt", desc := "(II)I" } : Jvm.MethodName)) ∈ lw_all := lw_g (lw_at lw_m9 104 rfl) rfl
theorem q2093 : (Jvm.Cond.code ({ cls := "KeptCurvesModel", name := "keptAt", desc := "(II)I" } : Jvm.MethodName) prog_16_method_15_code (3 : Nat) (Option.some Jvm.ClassFile.FieldType.int)) ∈ lw_all := lw_g (lw_at lw_m9 105 rfl) rfl
theorem q2094 : (Jvm.Cond.methodLink "KeptCurvesModel" (130 : Nat) ({ cls := "KeptCurvesModel", name := "by", desc := "(II)I" } : Jvm.MethodName)) ∈ lw_all := lw_g (lw_at lw_m9 106 rfl) rfl
theorem q2095 : (Jvm.Cond.static ({ cls := "KeptCurvesModel", name := "by", desc := "(II)I" } : Jvm.MethodName)) ∈ lw_all := lw_g (lw_at lw_m9 107 rfl) rfl
theorem q2096 : (Jvm.Cond.code ({ cls := "KeptCurvesModel", name := "by", desc := "(II)I" } : Jvm.MethodName) prog_16_method_5_code (2 : Nat) (Option.some Jvm.ClassFile.FieldType.int)) ∈ lw_all := lw_g (lw_at lw_m9 108 rfl) rfl
theorem q2097 : (Jvm.Cond.methodLink "KeptCurvesModel" (93 : Nat) ({ cls := "KeptCurvesModel", name := "inverse", desc := "(I)I" } : Jvm.MethodName)) ∈ lw_all := lw_g (lw_at lw_m9 109 rfl) rfl
theorem q2098 : (Jvm.Cond.static ({ cls := "KeptCurvesModel", name := "inverse", desc := "(I)I" } : Jvm.MethodName)) ∈ lw_all := lw_g (lw_at lw_m9 110 rfl) rfl
theorem q2099 : (Jvm.Cond.code ({ cls := "KeptCurvesModel", name := "inverse", desc := "(I)I" } : Jvm.MethodName) prog_16_method_4_code (3 : Nat) (Option.some Jvm.ClassFile.FieldType.int)) ∈ lw_all := lw_g (lw_at lw_m9 111 rfl) rfl
theorem q2101 : (Jvm.Cond.instanceMethod ({ cls := "KeptCurvesModel", name := "row", desc := "(III)I" } : Jvm.MethodName)) ∈ lw_all := lw_g (lw_at lw_m9 113 rfl) rfl
theorem q2102 : (Jvm.Cond.selects "KeptCurvesModel" ({ cls := "KeptCurvesModel", name := "row", desc := "(III)I" } : Jvm.MethodName) ({ cls := "KeptCurvesModel", name := "row", desc := "(III)I" } : Jvm.MethodName)) ∈ lw_all := lw_g (lw_at lw_m9 114 rfl) rfl
theorem q2103 : (Jvm.Cond.code ({ cls := "KeptCurvesModel", name := "row", desc := "(III)I" } : Jvm.MethodName) prog_16_method_19_code (4 : Nat) (Option.some Jvm.ClassFile.FieldType.int)) ∈ lw_all := lw_g (lw_at lw_m9 115 rfl) rfl
theorem q2104 : (Jvm.Cond.methodLink "KeptCurvesModel" (143 : Nat) ({ cls := "KeptCurvesModel", name := "crossed", desc := "(III)I" } : Jvm.MethodName)) ∈ lw_all := lw_g (lw_at lw_m9 116 rfl) rfl
theorem q2105 : (Jvm.Cond.privateMethod ({ cls := "KeptCurvesModel", name := "crossed", desc := "(III)I" } : Jvm.MethodName)) ∈ lw_tbl := lw_at lw_m9 117 rfl
theorem q2106 : (Jvm.Cond.instanceMethod ({ cls := "KeptCurvesModel", name := "crossed", desc := "(III)I" } : Jvm.MethodName)) ∈ lw_all := lw_g (lw_at lw_m9 118 rfl) rfl
theorem q2107 : (Jvm.Cond.code ({ cls := "KeptCurvesModel", name := "crossed", desc := "(III)I" } : Jvm.MethodName) prog_16_method_18_code (6 : Nat) (Option.some Jvm.ClassFile.FieldType.int)) ∈ lw_all := lw_g (lw_at lw_m9 119 rfl) rfl
theorem q2108 : (Jvm.Cond.methodLink "KeptCurvesModel" (136 : Nat) ({ cls := "KeptCurvesModel", name := "rowAt", desc := "(IIII)I" } : Jvm.MethodName)) ∈ lw_all := lw_g (lw_at lw_m9 120 rfl) rfl
theorem q2109 : (Jvm.Cond.privateMethod ({ cls := "KeptCurvesModel", name := "rowAt", desc := "(IIII)I" } : Jvm.MethodName)) ∈ lw_tbl := lw_at lw_m9 121 rfl
theorem q2110 : (Jvm.Cond.instanceMethod ({ cls := "KeptCurvesModel", name := "rowAt", desc := "(IIII)I" } : Jvm.MethodName)) ∈ lw_all := lw_g (lw_at lw_m9 122 rfl) rfl
theorem q2111 : (Jvm.Cond.code ({ cls := "KeptCurvesModel", name := "rowAt", desc := "(IIII)I" } : Jvm.MethodName) prog_16_method_17_code (7 : Nat) (Option.some Jvm.ClassFile.FieldType.int)) ∈ lw_all := lw_g (lw_at lw_m9 123 rfl) rfl
theorem q2112 : (Jvm.Cond.methodLink "KeptCurvesModel" (140 : Nat) ({ cls := "KeptCurvesModel", name := "mod", desc := "(I)I" } : Jvm.MethodName)) ∈ lw_all := lw_g (lw_at lw_m9 124 rfl) rfl
theorem q2113 : (Jvm.Cond.static ({ cls := "KeptCurvesModel", name := "mod", desc := "(I)I" } : Jvm.MethodName)) ∈ lw_all := lw_g (lw_at lw_m9 125 rfl) rfl
theorem q2114 : (Jvm.Cond.code ({ cls := "KeptCurvesModel", name := "mod", desc := "(I)I" } : Jvm.MethodName) prog_16_method_3_code (2 : Nat) (Option.some Jvm.ClassFile.FieldType.int)) ∈ lw_all := lw_g (lw_at lw_m9 126 rfl) rfl
theorem q2116 : (Jvm.Cond.instanceMethod ({ cls := "KeptCurvesModel", name := "swap", desc := "(III)I" } : Jvm.MethodName)) ∈ lw_all := lw_g (lw_at lw_m9 128 rfl) rfl
theorem q2117 : (Jvm.Cond.selects "KeptCurvesModel" ({ cls := "KeptCurvesModel", name := "swap", desc := "(III)I" } : Jvm.MethodName) ({ cls := "KeptCurvesModel", name := "swap", desc := "(III)I" } : Jvm.MethodName)) ∈ lw_all := lw_g (lw_at lw_m9 129 rfl) rfl
theorem q2118 : (Jvm.Cond.code ({ cls := "KeptCurvesModel", name := "swap", desc := "(III)I" } : Jvm.MethodName) prog_16_method_21_code (4 : Nat) (Option.some Jvm.ClassFile.FieldType.int)) ∈ lw_all := lw_g (lw_at lw_m9 130 rfl) rfl
theorem q2119 : (Jvm.Cond.methodLink "KeptCurvesModel" (146 : Nat) ({ cls := "KeptCurvesModel", name := "other", desc := "(III)I" } : Jvm.MethodName)) ∈ lw_all := lw_g (lw_at lw_m9 131 rfl) rfl
theorem q2120 : (Jvm.Cond.privateMethod ({ cls := "KeptCurvesModel", name := "other", desc := "(III)I" } : Jvm.MethodName)) ∈ lw_tbl := lw_at lw_m9 132 rfl
theorem q2121 : (Jvm.Cond.instanceMethod ({ cls := "KeptCurvesModel", name := "other", desc := "(III)I" } : Jvm.MethodName)) ∈ lw_all := lw_g (lw_at lw_m9 133 rfl) rfl
theorem q2122 : (Jvm.Cond.code ({ cls := "KeptCurvesModel", name := "other", desc := "(III)I" } : Jvm.MethodName) prog_16_method_20_code (8 : Nat) (Option.some Jvm.ClassFile.FieldType.int)) ∈ lw_all := lw_g (lw_at lw_m9 134 rfl) rfl
theorem q2124 : (Jvm.Cond.instanceMethod ({ cls := "KeptCurvesModel", name := "pinched", desc := "(I)J" } : Jvm.MethodName)) ∈ lw_all := lw_g (lw_at lw_m9 136 rfl) rfl
theorem q2125 : (Jvm.Cond.selects "KeptCurvesModel" ({ cls := "KeptCurvesModel", name := "pinched", desc := "(I)J" } : Jvm.MethodName) ({ cls := "KeptCurvesModel", name := "pinched", desc := "(I)J" } : Jvm.MethodName)) ∈ lw_all := lw_g (lw_at lw_m9 137 rfl) rfl
theorem q2126 : (Jvm.Cond.code ({ cls := "KeptCurvesModel", name := "pinched", desc := "(I)J" } : Jvm.MethodName) prog_16_method_22_code (6 : Nat) (Option.some Jvm.ClassFile.FieldType.long)) ∈ lw_all := lw_g (lw_at lw_m9 138 rfl) rfl
theorem q2127 : (Jvm.Cond.constantLong "KeptCurvesModel" (149 : Nat) (-9223372036854775808 : Int64)) ∈ lw_all := lw_g (lw_at lw_m9 139 rfl) rfl
theorem q2129 : (Jvm.Cond.instanceMethod ({ cls := "KeptCurvesModel", name := "behind", desc := "(III)I" } : Jvm.MethodName)) ∈ lw_all := lw_g (lw_at lw_m9 141 rfl) rfl
theorem q2130 : (Jvm.Cond.selects "KeptCurvesModel" ({ cls := "KeptCurvesModel", name := "behind", desc := "(III)I" } : Jvm.MethodName) ({ cls := "KeptCurvesModel", name := "behind", desc := "(III)I" } : Jvm.MethodName)) ∈ lw_all := lw_g (lw_at lw_m9 142 rfl) rfl
theorem q2131 : (Jvm.Cond.code ({ cls := "KeptCurvesModel", name := "behind", desc := "(III)I" } : Jvm.MethodName) prog_16_method_25_code (6 : Nat) (Option.some Jvm.ClassFile.FieldType.int)) ∈ lw_all := lw_g (lw_at lw_m9 143 rfl) rfl
theorem q2132 : (Jvm.Cond.constantLong "KeptCurvesModel" (154 : Nat) (-99 : Int64)) ∈ lw_all := lw_g (lw_at lw_m9 144 rfl) rfl
theorem q2133 : (Jvm.Cond.constantLong "KeptCurvesModel" (156 : Nat) (99 : Int64)) ∈ lw_all := lw_g (lw_at lw_m9 145 rfl) rfl
theorem q2134 : (Jvm.Cond.methodLink "KeptCurvesModel" (158 : Nat) ({ cls := "KeptCurvesModel", name := "step", desc := "(IZ)I" } : Jvm.MethodName)) ∈ lw_all := lw_g (lw_at lw_m9 146 rfl) rfl
theorem q2135 : (Jvm.Cond.privateMethod ({ cls := "KeptCurvesModel", name := "step", desc := "(IZ)I" } : Jvm.MethodName)) ∈ lw_tbl := lw_at lw_m9 147 rfl
theorem q2136 : (Jvm.Cond.instanceMethod ({ cls := "KeptCurvesModel", name := "step", desc := "(IZ)I" } : Jvm.MethodName)) ∈ lw_all := lw_g (lw_at lw_m9 148 rfl) rfl
theorem q2137 : (Jvm.Cond.code ({ cls := "KeptCurvesModel", name := "step", desc := "(IZ)I" } : Jvm.MethodName) prog_16_method_24_code (4 : Nat) (Option.some Jvm.ClassFile.FieldType.int)) ∈ lw_all := lw_g (lw_at lw_m9 149 rfl) rfl
theorem q2138 : (Jvm.Cond.methodLink "KeptCurvesModel" (151 : Nat) ({ cls := "KeptCurvesModel", name := "swapped", desc := "(II)I" } : Jvm.MethodName)) ∈ lw_all := lw_g (lw_at lw_m9 150 rfl) rfl
theorem q2139 : (Jvm.Cond.privateMethod ({ cls := "KeptCurvesModel", name := "swapped", desc := "(II)I" } : Jvm.MethodName)) ∈ lw_tbl := lw_at lw_m9 151 rfl
theorem q2140 : (Jvm.Cond.instanceMethod ({ cls := "KeptCurvesModel", name := "swapped", desc := "(II)I" } : Jvm.MethodName)) ∈ lw_all := lw_g (lw_at lw_m9 152 rfl) rfl
theorem q2141 : (Jvm.Cond.code ({ cls := "KeptCurvesModel", name := "swapped", desc := "(II)I" } : Jvm.MethodName) prog_16_method_23_code (6 : Nat) (Option.some Jvm.ClassFile.FieldType.int)) ∈ lw_all := lw_g (lw_at lw_m9 153 rfl) rfl
theorem q2143 : (Jvm.Cond.instanceMethod ({ cls := "KeptCurvesModel", name := "period", desc := "(II)I" } : Jvm.MethodName)) ∈ lw_all := lw_g (lw_at lw_m9 155 rfl) rfl
theorem q2144 : (Jvm.Cond.selects "KeptCurvesModel" ({ cls := "KeptCurvesModel", name := "period", desc := "(II)I" } : Jvm.MethodName) ({ cls := "KeptCurvesModel", name := "period", desc := "(II)I" } : Jvm.MethodName)) ∈ lw_all := lw_g (lw_at lw_m9 156 rfl) rfl
theorem q2145 : (Jvm.Cond.code ({ cls := "KeptCurvesModel", name := "period", desc := "(II)I" } : Jvm.MethodName) prog_16_method_26_code (5 : Nat) (Option.some Jvm.ClassFile.FieldType.int)) ∈ lw_all := lw_g (lw_at lw_m9 157 rfl) rfl
theorem q2147 : (Jvm.Cond.instanceMethod ({ cls := "KeptCurvesModel", name := "fibre", desc := "(II)I" } : Jvm.MethodName)) ∈ lw_all := lw_g (lw_at lw_m9 159 rfl) rfl
theorem q2148 : (Jvm.Cond.selects "KeptCurvesModel" ({ cls := "KeptCurvesModel", name := "fibre", desc := "(II)I" } : Jvm.MethodName) ({ cls := "KeptCurvesModel", name := "fibre", desc := "(II)I" } : Jvm.MethodName)) ∈ lw_all := lw_g (lw_at lw_m9 160 rfl) rfl
theorem q2149 : (Jvm.Cond.code ({ cls := "KeptCurvesModel", name := "fibre", desc := "(II)I" } : Jvm.MethodName) prog_16_method_29_code (3 : Nat) (Option.some Jvm.ClassFile.FieldType.int)) ∈ lw_all := lw_g (lw_at lw_m9 161 rfl) rfl
theorem q2150 : (Jvm.Cond.methodLink "KeptCurvesModel" (165 : Nat) ({ cls := "KeptCurvesModel", name := "nth", desc := "(II)I" } : Jvm.MethodName)) ∈ lw_all := lw_g (lw_at lw_m9 162 rfl) rfl
theorem q2151 : (Jvm.Cond.privateMethod ({ cls := "KeptCurvesModel", name := "nth", desc := "(II)I" } : Jvm.MethodName)) ∈ lw_tbl := lw_at lw_m9 163 rfl
theorem q2152 : (Jvm.Cond.instanceMethod ({ cls := "KeptCurvesModel", name := "nth", desc := "(II)I" } : Jvm.MethodName)) ∈ lw_all := lw_g (lw_at lw_m9 164 rfl) rfl
theorem q2153 : (Jvm.Cond.code ({ cls := "KeptCurvesModel", name := "nth", desc := "(II)I" } : Jvm.MethodName) prog_16_method_28_code (5 : Nat) (Option.some Jvm.ClassFile.FieldType.int)) ∈ lw_all := lw_g (lw_at lw_m9 165 rfl) rfl
theorem q2154 : (Jvm.Cond.methodLink "KeptCurvesModel" (162 : Nat) ({ cls := "KeptCurvesModel", name := "findsKept", desc := "()V" } : Jvm.MethodName)) ∈ lw_all := lw_g (lw_at lw_m9 166 rfl) rfl
theorem q2155 : (Jvm.Cond.privateMethod ({ cls := "KeptCurvesModel", name := "findsKept", desc := "()V" } : Jvm.MethodName)) ∈ lw_tbl := lw_at lw_m9 167 rfl
theorem q2156 : (Jvm.Cond.instanceMethod ({ cls := "KeptCurvesModel", name := "findsKept", desc := "()V" } : Jvm.MethodName)) ∈ lw_all := lw_g (lw_at lw_m9 168 rfl) rfl
theorem q2157 : (Jvm.Cond.code ({ cls := "KeptCurvesModel", name := "findsKept", desc := "()V" } : Jvm.MethodName) prog_16_method_27_code (2 : Nat) (Option.none : Option Jvm.ClassFile.FieldType)) ∈ lw_all := lw_g (lw_at lw_m9 169 rfl) rfl
theorem q2159 : (Jvm.Cond.instanceMethod ({ cls := "KeptCurvesModel", name := "base", desc := "(I)I" } : Jvm.MethodName)) ∈ lw_all := lw_g (lw_at lw_m9 171 rfl) rfl
theorem q2160 : (Jvm.Cond.selects "KeptCurvesModel" ({ cls := "KeptCurvesModel", name := "base", desc := "(I)I" } : Jvm.MethodName) ({ cls := "KeptCurvesModel", name := "base", desc := "(I)I" } : Jvm.MethodName)) ∈ lw_all := lw_g (lw_at lw_m9 172 rfl) rfl
theorem q2161 : (Jvm.Cond.code ({ cls := "KeptCurvesModel", name := "base", desc := "(I)I" } : Jvm.MethodName) prog_16_method_30_code (2 : Nat) (Option.some Jvm.ClassFile.FieldType.int)) ∈ lw_all := lw_g (lw_at lw_m9 173 rfl) rfl
theorem q2163 : (Jvm.Cond.instanceMethod ({ cls := "KeptCurvesModel", name := "rank", desc := "(I)I" } : Jvm.MethodName)) ∈ lw_all := lw_g (lw_at lw_m9 175 rfl) rfl
theorem q2164 : (Jvm.Cond.selects "KeptCurvesModel" ({ cls := "KeptCurvesModel", name := "rank", desc := "(I)I" } : Jvm.MethodName) ({ cls := "KeptCurvesModel", name := "rank", desc := "(I)I" } : Jvm.MethodName)) ∈ lw_all := lw_g (lw_at lw_m9 176 rfl) rfl
theorem q2165 : (Jvm.Cond.code ({ cls := "KeptCurvesModel", name := "rank", desc := "(I)I" } : Jvm.MethodName) prog_16_method_31_code (5 : Nat) (Option.some Jvm.ClassFile.FieldType.int)) ∈ lw_all := lw_g (lw_at lw_m9 177 rfl) rfl
theorem q2167 : (Jvm.Cond.instanceMethod ({ cls := "KeptCurvesModel", name := "cycles", desc := "(II)I" } : Jvm.MethodName)) ∈ lw_all := lw_g (lw_at lw_m9 179 rfl) rfl
theorem q2168 : (Jvm.Cond.selects "KeptCurvesModel" ({ cls := "KeptCurvesModel", name := "cycles", desc := "(II)I" } : Jvm.MethodName) ({ cls := "KeptCurvesModel", name := "cycles", desc := "(II)I" } : Jvm.MethodName)) ∈ lw_all := lw_g (lw_at lw_m9 180 rfl) rfl
theorem q2169 : (Jvm.Cond.code ({ cls := "KeptCurvesModel", name := "cycles", desc := "(II)I" } : Jvm.MethodName) prog_16_method_34_code (9 : Nat) (Option.some Jvm.ClassFile.FieldType.int)) ∈ lw_all := lw_g (lw_at lw_m9 181 rfl) rfl
theorem q2170 : (Jvm.Cond.constantLong "KeptCurvesModel" (171 : Nat) (10 : Int64)) ∈ lw_all := lw_g (lw_at lw_m9 182 rfl) rfl
theorem q2171 : (Jvm.Cond.constantLong "KeptCurvesModel" (173 : Nat) (89 : Int64)) ∈ lw_all := lw_g (lw_at lw_m9 183 rfl) rfl
theorem q2172 : (Jvm.Cond.methodLink "KeptCurvesModel" (175 : Nat) ({ cls := "KeptCurvesModel", name := "findsCycles", desc := "(I)V" } : Jvm.MethodName)) ∈ lw_all := lw_g (lw_at lw_m9 184 rfl) rfl
theorem q2173 : (Jvm.Cond.privateMethod ({ cls := "KeptCurvesModel", name := "findsCycles", desc := "(I)V" } : Jvm.MethodName)) ∈ lw_tbl := lw_at lw_m9 185 rfl
theorem q2174 : (Jvm.Cond.instanceMethod ({ cls := "KeptCurvesModel", name := "findsCycles", desc := "(I)V" } : Jvm.MethodName)) ∈ lw_all := lw_g (lw_at lw_m9 186 rfl) rfl
theorem q2175 : (Jvm.Cond.code ({ cls := "KeptCurvesModel", name := "findsCycles", desc := "(I)V" } : Jvm.MethodName) prog_16_method_33_code (6 : Nat) (Option.none : Option Jvm.ClassFile.FieldType)) ∈ lw_all := lw_g (lw_at lw_m9 187 rfl) rfl
theorem q2176 : (Jvm.Cond.methodLink "KeptCurvesModel" (168 : Nat) ({ cls := "KeptCurvesModel", name := "lengthOf", desc := "(I)I" } : Jvm.MethodName)) ∈ lw_all := lw_g (lw_at lw_m9 188 rfl) rfl
theorem q2177 : (Jvm.Cond.privateMethod ({ cls := "KeptCurvesModel", name := "lengthOf", desc := "(I)I" } : Jvm.MethodName)) ∈ lw_tbl := lw_at lw_m9 189 rfl
theorem q2178 : (Jvm.Cond.instanceMethod ({ cls := "KeptCurvesModel", name := "lengthOf", desc := "(I)I" } : Jvm.MethodName)) ∈ lw_all := lw_g (lw_at lw_m9 190 rfl) rfl
theorem q2179 : (Jvm.Cond.code ({ cls := "KeptCurvesModel", name := "lengthOf", desc := "(I)I" } : Jvm.MethodName) prog_16_method_32_code (4 : Nat) (Option.some Jvm.ClassFile.FieldType.int)) ∈ lw_all := lw_g (lw_at lw_m9 191 rfl) rfl
theorem q2181 : (Jvm.Cond.instanceMethod ({ cls := "KeptCurvesModel", name := "degree", desc := "(III)I" } : Jvm.MethodName)) ∈ lw_all := lw_g (lw_at lw_m9 193 rfl) rfl
theorem q2182 : (Jvm.Cond.selects "KeptCurvesModel" ({ cls := "KeptCurvesModel", name := "degree", desc := "(III)I" } : Jvm.MethodName) ({ cls := "KeptCurvesModel", name := "degree", desc := "(III)I" } : Jvm.MethodName)) ∈ lw_all := lw_g (lw_at lw_m9 194 rfl) rfl
theorem q2183 : (Jvm.Cond.code ({ cls := "KeptCurvesModel", name := "degree", desc := "(III)I" } : Jvm.MethodName) prog_16_method_45_code (6 : Nat) (Option.some Jvm.ClassFile.FieldType.int)) ∈ lw_all := lw_g (lw_at lw_m9 195 rfl) rfl
theorem q2184 : (Jvm.Cond.constantLong "KeptCurvesModel" (212 : Nat) (3 : Int64)) ∈ lw_all := lw_g (lw_at lw_m9 196 rfl) rfl
theorem q2185 : (Jvm.Cond.methodLink "KeptCurvesModel" (191 : Nat) ({ cls := "KeptCurvesModel", name := "constant", desc := "([II)V" } : Jvm.MethodName)) ∈ lw_all := lw_g (lw_at lw_m9 197 rfl) rfl
theorem q2186 : (Jvm.Cond.static ({ cls := "KeptCurvesModel", name := "constant", desc := "([II)V" } : Jvm.MethodName)) ∈ lw_all := lw_g (lw_at lw_m9 198 rfl) rfl
theorem q2187 : (Jvm.Cond.code ({ cls := "KeptCurvesModel", name := "constant", desc := "([II)V" } : Jvm.MethodName) prog_16_method_36_code (2 : Nat) (Option.none : Option Jvm.ClassFile.FieldType)) ∈ lw_all := lw_g (lw_at lw_m9 199 rfl) rfl
theorem q2188 : (Jvm.Cond.methodLink "KeptCurvesModel" (214 : Nat) ({ cls := "KeptCurvesModel", name := "isSwapped", desc := "(I[I[I[I[I)Z" } : Jvm.MethodName)) ∈ lw_all := lw_g (lw_at lw_m9 200 rfl) rfl
theorem q2189 : (Jvm.Cond.privateMethod ({ cls := "KeptCurvesModel", name := "isSwapped", desc := "(I[I[I[I[I)Z" } : Jvm.MethodName)) ∈ lw_tbl := lw_at lw_m9 201 rfl
theorem q2190 : (Jvm.Cond.instanceMethod ({ cls := "KeptCurvesModel", name := "isSwapped", desc := "(I[I[I[I[I)Z" } : Jvm.MethodName)) ∈ lw_all := lw_g (lw_at lw_m9 202 rfl) rfl
theorem q2191 : (Jvm.Cond.code ({ cls := "KeptCurvesModel", name := "isSwapped", desc := "(I[I[I[I[I)Z" } : Jvm.MethodName) prog_16_method_44_code (6 : Nat) (Option.some Jvm.ClassFile.FieldType.boolean)) ∈ lw_all := lw_g (lw_at lw_m9 203 rfl) rfl
theorem q2192 : (Jvm.Cond.methodLink "KeptCurvesModel" (201 : Nat) ({ cls := "KeptCurvesModel", name := "rowsAt", desc := "(I[I[I)V" } : Jvm.MethodName)) ∈ lw_all := lw_g (lw_at lw_m9 204 rfl) rfl
theorem q2193 : (Jvm.Cond.privateMethod ({ cls := "KeptCurvesModel", name := "rowsAt", desc := "(I[I[I)V" } : Jvm.MethodName)) ∈ lw_tbl := lw_at lw_m9 205 rfl
theorem q2194 : (Jvm.Cond.instanceMethod ({ cls := "KeptCurvesModel", name := "rowsAt", desc := "(I[I[I)V" } : Jvm.MethodName)) ∈ lw_all := lw_g (lw_at lw_m9 206 rfl) rfl
theorem q2195 : (Jvm.Cond.code ({ cls := "KeptCurvesModel", name := "rowsAt", desc := "(I[I[I)V" } : Jvm.MethodName) prog_16_method_42_code (9 : Nat) (Option.none : Option Jvm.ClassFile.FieldType)) ∈ lw_all := lw_g (lw_at lw_m9 207 rfl) rfl
theorem q2196 : (Jvm.Cond.methodLink "KeptCurvesModel" (194 : Nat) ({ cls := "KeptCurvesModel", name := "times", desc := "([I[I[I)V" } : Jvm.MethodName)) ∈ lw_all := lw_g (lw_at lw_m9 208 rfl) rfl
theorem q2197 : (Jvm.Cond.static ({ cls := "KeptCurvesModel", name := "times", desc := "([I[I[I)V" } : Jvm.MethodName)) ∈ lw_all := lw_g (lw_at lw_m9 209 rfl) rfl
theorem q2198 : (Jvm.Cond.code ({ cls := "KeptCurvesModel", name := "times", desc := "([I[I[I)V" } : Jvm.MethodName) prog_16_method_39_code (6 : Nat) (Option.none : Option Jvm.ClassFile.FieldType)) ∈ lw_all := lw_g (lw_at lw_m9 210 rfl) rfl
theorem q2199 : (Jvm.Cond.methodLink "KeptCurvesModel" (179 : Nat) ({ cls := "KeptCurvesModel", name := "trims", desc := "([II)V" } : Jvm.MethodName)) ∈ lw_all := lw_g (lw_at lw_m9 211 rfl) rfl
theorem q2200 : (Jvm.Cond.static ({ cls := "KeptCurvesModel", name := "trims", desc := "([II)V" } : Jvm.MethodName)) ∈ lw_all := lw_g (lw_at lw_m9 212 rfl) rfl
theorem q2201 : (Jvm.Cond.code ({ cls := "KeptCurvesModel", name := "trims", desc := "([II)V" } : Jvm.MethodName) prog_16_method_37_code (2 : Nat) (Option.none : Option Jvm.ClassFile.FieldType)) ∈ lw_all := lw_g (lw_at lw_m9 213 rfl) rfl
theorem q2202 : (Jvm.Cond.methodLink "KeptCurvesModel" (183 : Nat) ({ cls := "KeptCurvesModel", name := "becomes", desc := "([I[I)V" } : Jvm.MethodName)) ∈ lw_all := lw_g (lw_at lw_m9 214 rfl) rfl
theorem q2203 : (Jvm.Cond.static ({ cls := "KeptCurvesModel", name := "becomes", desc := "([I[I)V" } : Jvm.MethodName)) ∈ lw_all := lw_g (lw_at lw_m9 215 rfl) rfl
theorem q2204 : (Jvm.Cond.code ({ cls := "KeptCurvesModel", name := "becomes", desc := "([I[I)V" } : Jvm.MethodName) prog_16_method_35_code (3 : Nat) (Option.none : Option Jvm.ClassFile.FieldType)) ∈ lw_all := lw_g (lw_at lw_m9 216 rfl) rfl
theorem q2205 : (Jvm.Cond.methodLink "KeptCurvesModel" (197 : Nat) ({ cls := "KeptCurvesModel", name := "sums", desc := "([II[II[I)V" } : Jvm.MethodName)) ∈ lw_all := lw_g (lw_at lw_m9 217 rfl) rfl
theorem q2206 : (Jvm.Cond.static ({ cls := "KeptCurvesModel", name := "sums", desc := "([II[II[I)V" } : Jvm.MethodName)) ∈ lw_all := lw_g (lw_at lw_m9 218 rfl) rfl
theorem q2207 : (Jvm.Cond.code ({ cls := "KeptCurvesModel", name := "sums", desc := "([II[II[I)V" } : Jvm.MethodName) prog_16_method_38_code (7 : Nat) (Option.none : Option Jvm.ClassFile.FieldType)) ∈ lw_all := lw_g (lw_at lw_m9 219 rfl) rfl
theorem q2208 : (Jvm.Cond.methodLink "KeptCurvesModel" (205 : Nat) ({ cls := "KeptCurvesModel", name := "crosses", desc := "([III)V" } : Jvm.MethodName)) ∈ lw_all := lw_g (lw_at lw_m9 220 rfl) rfl
theorem q2209 : (Jvm.Cond.privateMethod ({ cls := "KeptCurvesModel", name := "crosses", desc := "([III)V" } : Jvm.MethodName)) ∈ lw_tbl := lw_at lw_m9 221 rfl
theorem q2210 : (Jvm.Cond.instanceMethod ({ cls := "KeptCurvesModel", name := "crosses", desc := "([III)V" } : Jvm.MethodName)) ∈ lw_all := lw_g (lw_at lw_m9 222 rfl) rfl
theorem q2211 : (Jvm.Cond.code ({ cls := "KeptCurvesModel", name := "crosses", desc := "([III)V" } : Jvm.MethodName) prog_16_method_43_code (4 : Nat) (Option.none : Option Jvm.ClassFile.FieldType)) ∈ lw_all := lw_g (lw_at lw_m9 223 rfl) rfl
theorem q2212 : (Jvm.Cond.methodLink "KeptCurvesModel" (209 : Nat) ({ cls := "KeptCurvesModel", name := "lowers", desc := "([I[I)V" } : Jvm.MethodName)) ∈ lw_all := lw_g (lw_at lw_m9 224 rfl) rfl
theorem q2213 : (Jvm.Cond.privateMethod ({ cls := "KeptCurvesModel", name := "lowers", desc := "([I[I)V" } : Jvm.MethodName)) ∈ lw_tbl := lw_at lw_m9 225 rfl
theorem q2214 : (Jvm.Cond.instanceMethod ({ cls := "KeptCurvesModel", name := "lowers", desc := "([I[I)V" } : Jvm.MethodName)) ∈ lw_all := lw_g (lw_at lw_m9 226 rfl) rfl
theorem q2215 : (Jvm.Cond.code ({ cls := "KeptCurvesModel", name := "lowers", desc := "([I[I)V" } : Jvm.MethodName) prog_16_method_41_code (3 : Nat) (Option.none : Option Jvm.ClassFile.FieldType)) ∈ lw_all := lw_g (lw_at lw_m9 227 rfl) rfl
theorem q2216 : (Jvm.Cond.methodLink "KeptCurvesModel" (187 : Nat) ({ cls := "KeptCurvesModel", name := "divides", desc := "([I[I[I)V" } : Jvm.MethodName)) ∈ lw_all := lw_g (lw_at lw_m9 228 rfl) rfl
theorem q2217 : (Jvm.Cond.static ({ cls := "KeptCurvesModel", name := "divides", desc := "([I[I[I)V" } : Jvm.MethodName)) ∈ lw_all := lw_g (lw_at lw_m9 229 rfl) rfl
theorem q2218 : (Jvm.Cond.code ({ cls := "KeptCurvesModel", name := "divides", desc := "([I[I[I)V" } : Jvm.MethodName) prog_16_method_40_code (8 : Nat) (Option.none : Option Jvm.ClassFile.FieldType)) ∈ lw_all := lw_g (lw_at lw_m9 230 rfl) rfl
theorem q2220 : (Jvm.Cond.instanceMethod ({ cls := "KeptCurvesModel", name := "tell", desc := "(II)I" } : Jvm.MethodName)) ∈ lw_all := lw_g (lw_at lw_m9 232 rfl) rfl
theorem q2221 : (Jvm.Cond.selects "KeptCurvesModel" ({ cls := "KeptCurvesModel", name := "tell", desc := "(II)I" } : Jvm.MethodName) ({ cls := "KeptCurvesModel", name := "tell", desc := "(II)I" } : Jvm.MethodName)) ∈ lw_all := lw_g (lw_at lw_m9 233 rfl) rfl
theorem q2222 : (Jvm.Cond.code ({ cls := "KeptCurvesModel", name := "tell", desc := "(II)I" } : Jvm.MethodName) prog_16_method_48_code (6 : Nat) (Option.some Jvm.ClassFile.FieldType.int)) ∈ lw_all := lw_g (lw_at lw_m9 234 rfl) rfl
theorem q2223 : (Jvm.Cond.methodLink "KeptCurvesModel" (221 : Nat) ({ cls := "KeptCurvesModel", name := "isTold", desc := "(I)Z" } : Jvm.MethodName)) ∈ lw_all := lw_g (lw_at lw_m9 235 rfl) rfl
theorem q2224 : (Jvm.Cond.privateMethod ({ cls := "KeptCurvesModel", name := "isTold", desc := "(I)Z" } : Jvm.MethodName)) ∈ lw_tbl := lw_at lw_m9 236 rfl
theorem q2225 : (Jvm.Cond.instanceMethod ({ cls := "KeptCurvesModel", name := "isTold", desc := "(I)Z" } : Jvm.MethodName)) ∈ lw_all := lw_g (lw_at lw_m9 237 rfl) rfl
theorem q2226 : (Jvm.Cond.code ({ cls := "KeptCurvesModel", name := "isTold", desc := "(I)Z" } : Jvm.MethodName) prog_16_method_47_code (3 : Nat) (Option.some Jvm.ClassFile.FieldType.boolean)) ∈ lw_all := lw_g (lw_at lw_m9 238 rfl) rfl
theorem q2227 : (Jvm.Cond.methodLink "KeptCurvesModel" (218 : Nat) ({ cls := "KeptCurvesModel", name := "placeIn", desc := "(I)I" } : Jvm.MethodName)) ∈ lw_all := lw_g (lw_at lw_m9 239 rfl) rfl
theorem q2228 : (Jvm.Cond.privateMethod ({ cls := "KeptCurvesModel", name := "placeIn", desc := "(I)I" } : Jvm.MethodName)) ∈ lw_tbl := lw_at lw_m10 0 rfl
theorem q2229 : (Jvm.Cond.instanceMethod ({ cls := "KeptCurvesModel", name := "placeIn", desc := "(I)I" } : Jvm.MethodName)) ∈ lw_all := lw_g (lw_at lw_m10 1 rfl) rfl
theorem q2230 : (Jvm.Cond.code ({ cls := "KeptCurvesModel", name := "placeIn", desc := "(I)I" } : Jvm.MethodName) prog_16_method_46_code (3 : Nat) (Option.some Jvm.ClassFile.FieldType.int)) ∈ lw_all := lw_g (lw_at lw_m10 2 rfl) rfl
theorem q2232 : (Jvm.Cond.instanceMethod ({ cls := "KeptCurvesModel", name := "forget", desc := "(II)I" } : Jvm.MethodName)) ∈ lw_all := lw_g (lw_at lw_m10 4 rfl) rfl
theorem q2233 : (Jvm.Cond.selects "KeptCurvesModel" ({ cls := "KeptCurvesModel", name := "forget", desc := "(II)I" } : Jvm.MethodName) ({ cls := "KeptCurvesModel", name := "forget", desc := "(II)I" } : Jvm.MethodName)) ∈ lw_all := lw_g (lw_at lw_m10 5 rfl) rfl
theorem q2234 : (Jvm.Cond.code ({ cls := "KeptCurvesModel", name := "forget", desc := "(II)I" } : Jvm.MethodName) prog_16_method_49_code (5 : Nat) (Option.some Jvm.ClassFile.FieldType.int)) ∈ lw_all := lw_g (lw_at lw_m10 6 rfl) rfl
theorem q2236 : (Jvm.Cond.instanceMethod ({ cls := "KeptCurvesModel", name := "told", desc := "(I)I" } : Jvm.MethodName)) ∈ lw_all := lw_g (lw_at lw_m10 8 rfl) rfl
theorem q2237 : (Jvm.Cond.selects "KeptCurvesModel" ({ cls := "KeptCurvesModel", name := "told", desc := "(I)I" } : Jvm.MethodName) ({ cls := "KeptCurvesModel", name := "told", desc := "(I)I" } : Jvm.MethodName)) ∈ lw_all := lw_g (lw_at lw_m10 9 rfl) rfl
theorem q2238 : (Jvm.Cond.code ({ cls := "KeptCurvesModel", name := "told", desc := "(I)I" } : Jvm.MethodName) prog_16_method_50_code (2 : Nat) (Option.some Jvm.ClassFile.FieldType.int)) ∈ lw_all := lw_g (lw_at lw_m10 10 rfl) rfl
theorem q2240 : (Jvm.Cond.instanceMethod ({ cls := "KeptCurvesModel", name := "moved", desc := "(I)I" } : Jvm.MethodName)) ∈ lw_all := lw_g (lw_at lw_m10 12 rfl) rfl
theorem q2241 : (Jvm.Cond.selects "KeptCurvesModel" ({ cls := "KeptCurvesModel", name := "moved", desc := "(I)I" } : Jvm.MethodName) ({ cls := "KeptCurvesModel", name := "moved", desc := "(I)I" } : Jvm.MethodName)) ∈ lw_all := lw_g (lw_at lw_m10 13 rfl) rfl
theorem q2242 : (Jvm.Cond.code ({ cls := "KeptCurvesModel", name := "moved", desc := "(I)I" } : Jvm.MethodName) prog_16_method_52_code (4 : Nat) (Option.some Jvm.ClassFile.FieldType.int)) ∈ lw_all := lw_g (lw_at lw_m10 14 rfl) rfl
theorem q2243 : (Jvm.Cond.methodLink "KeptCurvesModel" (224 : Nat) ({ cls := "KeptCurvesModel", name := "moves", desc := "()V" } : Jvm.MethodName)) ∈ lw_all := lw_g (lw_at lw_m10 15 rfl) rfl
theorem q2244 : (Jvm.Cond.privateMethod ({ cls := "KeptCurvesModel", name := "moves", desc := "()V" } : Jvm.MethodName)) ∈ lw_tbl := lw_at lw_m10 16 rfl
theorem q2245 : (Jvm.Cond.instanceMethod ({ cls := "KeptCurvesModel", name := "moves", desc := "()V" } : Jvm.MethodName)) ∈ lw_all := lw_g (lw_at lw_m10 17 rfl) rfl
theorem q2246 : (Jvm.Cond.code ({ cls := "KeptCurvesModel", name := "moves", desc := "()V" } : Jvm.MethodName) prog_16_method_51_code (3 : Nat) (Option.none : Option Jvm.ClassFile.FieldType)) ∈ lw_all := lw_g (lw_at lw_m10 18 rfl) rfl
theorem q2248 : (Jvm.Cond.instanceMethod ({ cls := "KeptCurvesModel", name := "move", desc := "()I" } : Jvm.MethodName)) ∈ lw_all := lw_g (lw_at lw_m10 20 rfl) rfl
theorem q2249 : (Jvm.Cond.selects "KeptCurvesModel" ({ cls := "KeptCurvesModel", name := "move", desc := "()I" } : Jvm.MethodName) ({ cls := "KeptCurvesModel", name := "move", desc := "()I" } : Jvm.MethodName)) ∈ lw_all := lw_g (lw_at lw_m10 21 rfl) rfl
theorem q2250 : (Jvm.Cond.code ({ cls := "KeptCurvesModel", name := "move", desc := "()I" } : Jvm.MethodName) prog_16_method_53_code (2 : Nat) (Option.some Jvm.ClassFile.FieldType.int)) ∈ lw_all := lw_g (lw_at lw_m10 22 rfl) rfl
theorem q2252 : (Jvm.Cond.instanceMethod ({ cls := "KeptCurvesModel", name := "grows", desc := "(I)I" } : Jvm.MethodName)) ∈ lw_all := lw_g (lw_at lw_m10 24 rfl) rfl
theorem q2253 : (Jvm.Cond.selects "KeptCurvesModel" ({ cls := "KeptCurvesModel", name := "grows", desc := "(I)I" } : Jvm.MethodName) ({ cls := "KeptCurvesModel", name := "grows", desc := "(I)I" } : Jvm.MethodName)) ∈ lw_all := lw_g (lw_at lw_m10 25 rfl) rfl
theorem q2254 : (Jvm.Cond.code ({ cls := "KeptCurvesModel", name := "grows", desc := "(I)I" } : Jvm.MethodName) prog_16_method_54_code (8 : Nat) (Option.some Jvm.ClassFile.FieldType.int)) ∈ lw_all := lw_g (lw_at lw_m10 26 rfl) rfl
theorem q2255 : (Jvm.Cond.constantLong "KeptCurvesModel" (227 : Nat) (40 : Int64)) ∈ lw_all := lw_g (lw_at lw_m10 27 rfl) rfl
theorem q2257 : (Jvm.Cond.instanceMethod ({ cls := "KeptCurvesModel", name := "were", desc := "(IIIIII)J" } : Jvm.MethodName)) ∈ lw_all := lw_g (lw_at lw_m10 29 rfl) rfl
theorem q2258 : (Jvm.Cond.selects "KeptCurvesModel" ({ cls := "KeptCurvesModel", name := "were", desc := "(IIIIII)J" } : Jvm.MethodName) ({ cls := "KeptCurvesModel", name := "were", desc := "(IIIIII)J" } : Jvm.MethodName)) ∈ lw_all := lw_g (lw_at lw_m10 30 rfl) rfl
theorem q2259 : (Jvm.Cond.code ({ cls := "KeptCurvesModel", name := "were", desc := "(IIIIII)J" } : Jvm.MethodName) prog_16_method_55_code (12 : Nat) (Option.some Jvm.ClassFile.FieldType.long)) ∈ lw_all := lw_g (lw_at lw_m10 31 rfl) rfl
theorem q2261 : (Jvm.Cond.instanceMethod ({ cls := "KeptCurvesModel", name := "odds", desc := "(IIII)J" } : Jvm.MethodName)) ∈ lw_all := lw_g (lw_at lw_m10 33 rfl) rfl
theorem q2262 : (Jvm.Cond.selects "KeptCurvesModel" ({ cls := "KeptCurvesModel", name := "odds", desc := "(IIII)J" } : Jvm.MethodName) ({ cls := "KeptCurvesModel", name := "odds", desc := "(IIII)J" } : Jvm.MethodName)) ∈ lw_all := lw_g (lw_at lw_m10 34 rfl) rfl
theorem q2263 : (Jvm.Cond.code ({ cls := "KeptCurvesModel", name := "odds", desc := "(IIII)J" } : Jvm.MethodName) prog_16_method_57_code (9 : Nat) (Option.some Jvm.ClassFile.FieldType.long)) ∈ lw_all := lw_g (lw_at lw_m10 35 rfl) rfl
theorem q2264 : (Jvm.Cond.constant "KeptCurvesModel" (232 : Nat) (1103515245 : Int32)) ∈ lw_all := lw_g (lw_at lw_m10 36 rfl) rfl
theorem q2265 : (Jvm.Cond.methodLink "KeptCurvesModel" (229 : Nat) ({ cls := "KeptCurvesModel", name := "common", desc := "(II)I" } : Jvm.MethodName)) ∈ lw_all := lw_g (lw_at lw_m10 37 rfl) rfl
theorem q2266 : (Jvm.Cond.static ({ cls := "KeptCurvesModel", name := "common", desc := "(II)I" } : Jvm.MethodName)) ∈ lw_all := lw_g (lw_at lw_m10 38 rfl) rfl
theorem q2267 : (Jvm.Cond.code ({ cls := "KeptCurvesModel", name := "common", desc := "(II)I" } : Jvm.MethodName) prog_16_method_56_code (2 : Nat) (Option.some Jvm.ClassFile.FieldType.int)) ∈ lw_all := lw_g (lw_at lw_m10 39 rfl) rfl
theorem q2269 : (Jvm.Cond.instanceMethod ({ cls := "KeptCurvesModel", name := "plan", desc := "(II)I" } : Jvm.MethodName)) ∈ lw_all := lw_g (lw_at lw_m10 41 rfl) rfl
theorem q2270 : (Jvm.Cond.selects "KeptCurvesModel" ({ cls := "KeptCurvesModel", name := "plan", desc := "(II)I" } : Jvm.MethodName) ({ cls := "KeptCurvesModel", name := "plan", desc := "(II)I" } : Jvm.MethodName)) ∈ lw_all := lw_g (lw_at lw_m10 42 rfl) rfl
theorem q2271 : (Jvm.Cond.code ({ cls := "KeptCurvesModel", name := "plan", desc := "(II)I" } : Jvm.MethodName) prog_16_method_58_code (4 : Nat) (Option.some Jvm.ClassFile.FieldType.int)) ∈ lw_all := lw_g (lw_at lw_m10 43 rfl) rfl
theorem q2272 : (Jvm.Cond.constantLong "KeptCurvesModel" (233 : Nat) (9 : Int64)) ∈ lw_all := lw_g (lw_at lw_m10 44 rfl) rfl
theorem q2274 : (Jvm.Cond.instanceMethod ({ cls := "KeptCurvesModel", name := "ends", desc := "(II)I" } : Jvm.MethodName)) ∈ lw_all := lw_g (lw_at lw_m10 46 rfl) rfl
theorem q2275 : (Jvm.Cond.selects "KeptCurvesModel" ({ cls := "KeptCurvesModel", name := "ends", desc := "(II)I" } : Jvm.MethodName) ({ cls := "KeptCurvesModel", name := "ends", desc := "(II)I" } : Jvm.MethodName)) ∈ lw_all := lw_g (lw_at lw_m10 47 rfl) rfl
theorem q2276 : (Jvm.Cond.code ({ cls := "KeptCurvesModel", name := "ends", desc := "(II)I" } : Jvm.MethodName) prog_16_method_59_code (9 : Nat) (Option.some Jvm.ClassFile.FieldType.int)) ∈ lw_all := lw_g (lw_at lw_m10 48 rfl) rfl
theorem q2278 : (Jvm.Cond.instanceMethod ({ cls := "KeptCurvesModel", name := "feed", desc := "(I)I" } : Jvm.MethodName)) ∈ lw_all := lw_g (lw_at lw_m10 50 rfl) rfl
theorem q2279 : (Jvm.Cond.selects "KeptCurvesModel" ({ cls := "KeptCurvesModel", name := "feed", desc := "(I)I" } : Jvm.MethodName) ({ cls := "KeptCurvesModel", name := "feed", desc := "(I)I" } : Jvm.MethodName)) ∈ lw_all := lw_g (lw_at lw_m10 51 rfl) rfl
theorem q2280 : (Jvm.Cond.code ({ cls := "KeptCurvesModel", name := "feed", desc := "(I)I" } : Jvm.MethodName) prog_16_method_60_code (2 : Nat) (Option.some Jvm.ClassFile.FieldType.int)) ∈ lw_all := lw_g (lw_at lw_m10 52 rfl) rfl
theorem q2281 : (Jvm.Cond.constantLong "KeptCurvesModel" (235 : Nat) (127 : Int64)) ∈ lw_all := lw_g (lw_at lw_m10 53 rfl) rfl
theorem q2283 : (Jvm.Cond.instanceMethod ({ cls := "KeptCurvesModel", name := "table", desc := "(I)I" } : Jvm.MethodName)) ∈ lw_all := lw_g (lw_at lw_m10 55 rfl) rfl
theorem q2284 : (Jvm.Cond.selects "KeptCurvesModel" ({ cls := "KeptCurvesModel", name := "table", desc := "(I)I" } : Jvm.MethodName) ({ cls := "KeptCurvesModel", name := "table", desc := "(I)I" } : Jvm.MethodName)) ∈ lw_all := lw_g (lw_at lw_m10 56 rfl) rfl
theorem q2285 : (Jvm.Cond.code ({ cls := "KeptCurvesModel", name := "table", desc := "(I)I" } : Jvm.MethodName) prog_16_method_64_code (5 : Nat) (Option.some Jvm.ClassFile.FieldType.int)) ∈ lw_all := lw_g (lw_at lw_m10 57 rfl) rfl
theorem q2286 : (Jvm.Cond.methodLink "KeptCurvesModel" (244 : Nat) ({ cls := "KeptCurvesModel", name := "here", desc := "()I" } : Jvm.MethodName)) ∈ lw_all := lw_g (lw_at lw_m10 58 rfl) rfl
theorem q2287 : (Jvm.Cond.privateMethod ({ cls := "KeptCurvesModel", name := "here", desc := "()I" } : Jvm.MethodName)) ∈ lw_tbl := lw_at lw_m10 59 rfl
theorem q2288 : (Jvm.Cond.instanceMethod ({ cls := "KeptCurvesModel", name := "here", desc := "()I" } : Jvm.MethodName)) ∈ lw_all := lw_g (lw_at lw_m10 60 rfl) rfl
theorem q2289 : (Jvm.Cond.code ({ cls := "KeptCurvesModel", name := "here", desc := "()I" } : Jvm.MethodName) prog_16_method_61_code (1 : Nat) (Option.some Jvm.ClassFile.FieldType.int)) ∈ lw_all := lw_g (lw_at lw_m10 61 rfl) rfl
theorem q2290 : (Jvm.Cond.methodLink "KeptCurvesModel" (256 : Nat) ({ cls := "KeptCurvesModel", name := "isTerm", desc := "()Z" } : Jvm.MethodName)) ∈ lw_all := lw_g (lw_at lw_m10 62 rfl) rfl
theorem q2291 : (Jvm.Cond.privateMethod ({ cls := "KeptCurvesModel", name := "isTerm", desc := "()Z" } : Jvm.MethodName)) ∈ lw_tbl := lw_at lw_m10 63 rfl
theorem q2292 : (Jvm.Cond.instanceMethod ({ cls := "KeptCurvesModel", name := "isTerm", desc := "()Z" } : Jvm.MethodName)) ∈ lw_all := lw_g (lw_at lw_m10 64 rfl) rfl
theorem q2293 : (Jvm.Cond.code ({ cls := "KeptCurvesModel", name := "isTerm", desc := "()Z" } : Jvm.MethodName) prog_16_method_63_code (4 : Nat) (Option.some Jvm.ClassFile.FieldType.boolean)) ∈ lw_all := lw_g (lw_at lw_m10 65 rfl) rfl
theorem q2294 : (Jvm.Cond.constantLong "KeptCurvesModel" (248 : Nat) (49 : Int64)) ∈ lw_all := lw_g (lw_at lw_m10 66 rfl) rfl
theorem q2295 : (Jvm.Cond.constantLong "KeptCurvesModel" (250 : Nat) (57 : Int64)) ∈ lw_all := lw_g (lw_at lw_m10 67 rfl) rfl
theorem q2296 : (Jvm.Cond.constantLong "KeptCurvesModel" (252 : Nat) (48 : Int64)) ∈ lw_all := lw_g (lw_at lw_m10 68 rfl) rfl
theorem q2297 : (Jvm.Cond.methodLink "KeptCurvesModel" (254 : Nat) ({ cls := "KeptCurvesModel", name := "often", desc := "(I)I" } : Jvm.MethodName)) ∈ lw_all := lw_g (lw_at lw_m10 69 rfl) rfl
theorem q2298 : (Jvm.Cond.privateMethod ({ cls := "KeptCurvesModel", name := "often", desc := "(I)I" } : Jvm.MethodName)) ∈ lw_tbl := lw_at lw_m10 70 rfl
theorem q2299 : (Jvm.Cond.instanceMethod ({ cls := "KeptCurvesModel", name := "often", desc := "(I)I" } : Jvm.MethodName)) ∈ lw_all := lw_g (lw_at lw_m10 71 rfl) rfl
theorem q2300 : (Jvm.Cond.code ({ cls := "KeptCurvesModel", name := "often", desc := "(I)I" } : Jvm.MethodName) prog_16_method_62_code (3 : Nat) (Option.some Jvm.ClassFile.FieldType.int)) ∈ lw_all := lw_g (lw_at lw_m10 72 rfl) rfl
theorem q2302 : (Jvm.Cond.instanceMethod ({ cls := "KeptCurvesModel", name := "write", desc := "(I)I" } : Jvm.MethodName)) ∈ lw_all := lw_g (lw_at lw_m10 74 rfl) rfl
theorem q2303 : (Jvm.Cond.selects "KeptCurvesModel" ({ cls := "KeptCurvesModel", name := "write", desc := "(I)I" } : Jvm.MethodName) ({ cls := "KeptCurvesModel", name := "write", desc := "(I)I" } : Jvm.MethodName)) ∈ lw_all := lw_g (lw_at lw_m10 75 rfl) rfl
theorem q2304 : (Jvm.Cond.code ({ cls := "KeptCurvesModel", name := "write", desc := "(I)I" } : Jvm.MethodName) prog_16_method_66_code (4 : Nat) (Option.some Jvm.ClassFile.FieldType.int)) ∈ lw_all := lw_g (lw_at lw_m10 76 rfl) rfl
theorem q2305 : (Jvm.Cond.methodLink "KeptCurvesModel" (263 : Nat) ({ cls := "KeptCurvesModel", name := "writes", desc := "(II)V" } : Jvm.MethodName)) ∈ lw_all := lw_g (lw_at lw_m10 77 rfl) rfl
theorem q2306 : (Jvm.Cond.privateMethod ({ cls := "KeptCurvesModel", name := "writes", desc := "(II)V" } : Jvm.MethodName)) ∈ lw_tbl := lw_at lw_m10 78 rfl
theorem q2307 : (Jvm.Cond.instanceMethod ({ cls := "KeptCurvesModel", name := "writes", desc := "(II)V" } : Jvm.MethodName)) ∈ lw_all := lw_g (lw_at lw_m10 79 rfl) rfl
theorem q2308 : (Jvm.Cond.code ({ cls := "KeptCurvesModel", name := "writes", desc := "(II)V" } : Jvm.MethodName) prog_16_method_65_code (4 : Nat) (Option.none : Option Jvm.ClassFile.FieldType)) ∈ lw_all := lw_g (lw_at lw_m10 80 rfl) rfl
theorem q2310 : (Jvm.Cond.instanceMethod ({ cls := "KeptCurvesModel", name := "paper", desc := "(I)I" } : Jvm.MethodName)) ∈ lw_all := lw_g (lw_at lw_m10 82 rfl) rfl
theorem q2311 : (Jvm.Cond.selects "KeptCurvesModel" ({ cls := "KeptCurvesModel", name := "paper", desc := "(I)I" } : Jvm.MethodName) ({ cls := "KeptCurvesModel", name := "paper", desc := "(I)I" } : Jvm.MethodName)) ∈ lw_all := lw_g (lw_at lw_m10 83 rfl) rfl
theorem q2312 : (Jvm.Cond.code ({ cls := "KeptCurvesModel", name := "paper", desc := "(I)I" } : Jvm.MethodName) prog_16_method_67_code (2 : Nat) (Option.some Jvm.ClassFile.FieldType.int)) ∈ lw_all := lw_g (lw_at lw_m10 84 rfl) rfl
theorem q2314 : (Jvm.Cond.instanceMethod ({ cls := "KeptCurvesModel", name := "judge", desc := "(III)I" } : Jvm.MethodName)) ∈ lw_all := lw_g (lw_at lw_m10 86 rfl) rfl
theorem q2315 : (Jvm.Cond.selects "KeptCurvesModel" ({ cls := "KeptCurvesModel", name := "judge", desc := "(III)I" } : Jvm.MethodName) ({ cls := "KeptCurvesModel", name := "judge", desc := "(III)I" } : Jvm.MethodName)) ∈ lw_all := lw_g (lw_at lw_m10 87 rfl) rfl
theorem q2316 : (Jvm.Cond.code ({ cls := "KeptCurvesModel", name := "judge", desc := "(III)I" } : Jvm.MethodName) prog_16_method_69_code (7 : Nat) (Option.some Jvm.ClassFile.FieldType.int)) ∈ lw_all := lw_g (lw_at lw_m10 88 rfl) rfl
theorem q2317 : (Jvm.Cond.methodLink "KeptCurvesModel" (267 : Nat) ({ cls := "KeptCurvesModel", name := "isList", desc := "(I)Z" } : Jvm.MethodName)) ∈ lw_all := lw_g (lw_at lw_m10 89 rfl) rfl
theorem q2318 : (Jvm.Cond.static ({ cls := "KeptCurvesModel", name := "isList", desc := "(I)Z" } : Jvm.MethodName)) ∈ lw_all := lw_g (lw_at lw_m10 90 rfl) rfl
theorem q2319 : (Jvm.Cond.code ({ cls := "KeptCurvesModel", name := "isList", desc := "(I)Z" } : Jvm.MethodName) prog_16_method_68_code (1 : Nat) (Option.some Jvm.ClassFile.FieldType.boolean)) ∈ lw_all := lw_g (lw_at lw_m10 91 rfl) rfl
theorem q2321 : (Jvm.Cond.instanceMethod ({ cls := "KeptCurvesModel", name := "list", desc := "(II)I" } : Jvm.MethodName)) ∈ lw_all := lw_g (lw_at lw_m10 93 rfl) rfl
theorem q2322 : (Jvm.Cond.selects "KeptCurvesModel" ({ cls := "KeptCurvesModel", name := "list", desc := "(II)I" } : Jvm.MethodName) ({ cls := "KeptCurvesModel", name := "list", desc := "(II)I" } : Jvm.MethodName)) ∈ lw_all := lw_g (lw_at lw_m10 94 rfl) rfl
theorem q2323 : (Jvm.Cond.code ({ cls := "KeptCurvesModel", name := "list", desc := "(II)I" } : Jvm.MethodName) prog_16_method_70_code (4 : Nat) (Option.some Jvm.ClassFile.FieldType.int)) ∈ lw_all := lw_g (lw_at lw_m10 95 rfl) rfl
theorem q2325 : (Jvm.Cond.instanceMethod ({ cls := "KeptCurvesModel", name := "put", desc := "(III)I" } : Jvm.MethodName)) ∈ lw_all := lw_g (lw_at lw_m10 97 rfl) rfl
theorem q2326 : (Jvm.Cond.selects "KeptCurvesModel" ({ cls := "KeptCurvesModel", name := "put", desc := "(III)I" } : Jvm.MethodName) ({ cls := "KeptCurvesModel", name := "put", desc := "(III)I" } : Jvm.MethodName)) ∈ lw_all := lw_g (lw_at lw_m10 98 rfl) rfl
theorem q2327 : (Jvm.Cond.code ({ cls := "KeptCurvesModel", name := "put", desc := "(III)I" } : Jvm.MethodName) prog_16_method_71_code (4 : Nat) (Option.some Jvm.ClassFile.FieldType.int)) ∈ lw_all := lw_g (lw_at lw_m10 99 rfl) rfl
theorem q2329 : (Jvm.Cond.instanceMethod ({ cls := "KeptCurvesModel", name := "get", desc := "(II)J" } : Jvm.MethodName)) ∈ lw_all := lw_g (lw_at lw_m10 101 rfl) rfl
theorem q2330 : (Jvm.Cond.selects "KeptCurvesModel" ({ cls := "KeptCurvesModel", name := "get", desc := "(II)J" } : Jvm.MethodName) ({ cls := "KeptCurvesModel", name := "get", desc := "(II)J" } : Jvm.MethodName)) ∈ lw_all := lw_g (lw_at lw_m10 102 rfl) rfl
theorem q2331 : (Jvm.Cond.code ({ cls := "KeptCurvesModel", name := "get", desc := "(II)J" } : Jvm.MethodName) prog_16_method_72_code (3 : Nat) (Option.some Jvm.ClassFile.FieldType.long)) ∈ lw_all := lw_g (lw_at lw_m10 103 rfl) rfl
theorem q2333 : (Jvm.Cond.instanceMethod ({ cls := "KeptCurvesModel", name := "image", desc := "()I" } : Jvm.MethodName)) ∈ lw_all := lw_g (lw_at lw_m10 105 rfl) rfl
theorem q2334 : (Jvm.Cond.selects "KeptCurvesModel" ({ cls := "KeptCurvesModel", name := "image", desc := "()I" } : Jvm.MethodName) ({ cls := "KeptCurvesModel", name := "image", desc := "()I" } : Jvm.MethodName)) ∈ lw_all := lw_g (lw_at lw_m10 106 rfl) rfl
theorem q2335 : (Jvm.Cond.code ({ cls := "KeptCurvesModel", name := "image", desc := "()I" } : Jvm.MethodName) prog_16_method_73_code (2 : Nat) (Option.some Jvm.ClassFile.FieldType.int)) ∈ lw_all := lw_g (lw_at lw_m10 107 rfl) rfl
theorem q2337 : (Jvm.Cond.instanceMethod ({ cls := "KeptCurvesModel", name := "undo", desc := "()I" } : Jvm.MethodName)) ∈ lw_all := lw_g (lw_at lw_m10 109 rfl) rfl
theorem q2338 : (Jvm.Cond.selects "KeptCurvesModel" ({ cls := "KeptCurvesModel", name := "undo", desc := "()I" } : Jvm.MethodName) ({ cls := "KeptCurvesModel", name := "undo", desc := "()I" } : Jvm.MethodName)) ∈ lw_all := lw_g (lw_at lw_m10 110 rfl) rfl
theorem q2339 : (Jvm.Cond.code ({ cls := "KeptCurvesModel", name := "undo", desc := "()I" } : Jvm.MethodName) prog_16_method_74_code (2 : Nat) (Option.some Jvm.ClassFile.FieldType.int)) ∈ lw_all := lw_g (lw_at lw_m10 111 rfl) rfl
theorem q2341 : (Jvm.Cond.instanceMethod ({ cls := "KeptCurvesModel", name := "count", desc := "(I)I" } : Jvm.MethodName)) ∈ lw_all := lw_g (lw_at lw_m10 113 rfl) rfl
theorem q2342 : (Jvm.Cond.selects "KeptCurvesModel" ({ cls := "KeptCurvesModel", name := "count", desc := "(I)I" } : Jvm.MethodName) ({ cls := "KeptCurvesModel", name := "count", desc := "(I)I" } : Jvm.MethodName)) ∈ lw_all := lw_g (lw_at lw_m10 114 rfl) rfl
theorem q2343 : (Jvm.Cond.code ({ cls := "KeptCurvesModel", name := "count", desc := "(I)I" } : Jvm.MethodName) prog_16_method_75_code (4 : Nat) (Option.some Jvm.ClassFile.FieldType.int)) ∈ lw_all := lw_g (lw_at lw_m10 115 rfl) rfl
theorem q2371 : (Jvm.Cond.castable "KeptCurvesModel" "java/lang/Object") ∈ lw_tbl := lw_at lw_m10 143 rfl
theorem in_X4 : ∀ w ∈ wsX40, w ∈ lw_all := lw_in wsX40 [1988, 1990, 1992, 1994, 1996, 1998, 2000, 2002, 2004, 2006, 2008, 2010, 2012, 2014, 2016, 2018, 2020, 2022, 2024, 2026, 2028, 2030, 2032, 2034, 2036, 2038, 2040, 2042, 2044, 2046] (by decide +kernel) (by decide +kernel)
