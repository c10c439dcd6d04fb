/-! MissCurves -/
set_option maxRecDepth 100000
def RX0 : String := "MissCurves"
def TX0 : u_T := fun k => match k with
  | 0 => ("MissCurves", "shop", "LMissCurves$Shop;", false)
  | 1 => ("MissCurves", "images", "[LMissCurves$Shop;", true)
  | 2 => ("MissCurves", "undos", "LMissCurves$Steps;", true)
  | 3 => ("MissCurves", "before", "LMissCurves$Steps;", true)
  | 4 => ("MissCurves", "ahead", "LMissCurves$Books;", true)
  | 5 => ("MissCurves", "real", "LMissCurves$Books;", true)
  | 6 => ("MissCurves", "asked", "LMissCurves$Asked;", true)
  | 7 => ("MissCurves", "inOrders", "LMissCurves$Asked;", true)
  | 8 => ("MissCurves", "nothingTold", "LMissCurves$Text;", true)
  | 9 => ("MissCurves", "refused", "[I", true)
  | 10 => ("MissCurves", "status", "I", false)
  | 11 => ("MissCurves", "fault", "I", false)
  | 12 => ("MissCurves", "blanks", "I", false)
  | 13 => ("MissCurves", "stopped", "I", false)
  | 14 => ("MissCurves", "tape", "[B", true)
  | 15 => ("MissCurves", "taped", "I", false)
  | 16 => ("MissCurves", "curve", "[I", true)
  | 17 => ("MissCurves", "bends", "[I", true)
  | 18 => ("MissCurves", "nBends", "I", false)
  | 19 => ("MissCurves", "report", "Ljava/lang/String;", false)
  | 20 => ("MissCurves", "shares", "[I", true)
  | 21 => ("MissCurves", "falls", "[[J", true)
  | 22 => ("MissCurves", "over", "[[I", true)
  | 23 => ("MissCurves", "fewestFrom", "[[I", true)
  | 24 => ("MissCurves", "done", "I", false)
  | 25 => ("MissCurves", "latest", "I", false)
  | 26 => ("MissCurves", "drawn", "LMissCurves$Books;", true)
  | _ => ("MissCurves", "isDrawn", "Z", false)
def tyX0 : Nat → FieldType := fun k => match k with
  | 0 => .object "MissCurves$Shop"
  | 1 => .array (.object "MissCurves$Shop")
  | 2 => .object "MissCurves$Steps"
  | 3 => .object "MissCurves$Steps"
  | 4 => .object "MissCurves$Books"
  | 5 => .object "MissCurves$Books"
  | 6 => .object "MissCurves$Asked"
  | 7 => .object "MissCurves$Asked"
  | 8 => .object "MissCurves$Text"
  | 9 => .array .int
  | 10 => .int
  | 11 => .int
  | 12 => .int
  | 13 => .int
  | 14 => .array .byte
  | 15 => .int
  | 16 => .array .int
  | 17 => .array .int
  | 18 => .int
  | 19 => .object "java/lang/String"
  | 20 => .array .int
  | 21 => .array (.array .long)
  | 22 => .array (.array .int)
  | 23 => .array (.array .int)
  | 24 => .int
  | 25 => .int
  | 26 => .object "MissCurves$Books"
  | _ => .boolean
abbrev wsX00 : List Cond := u_ws RX0 TX0 28
set_option maxRecDepth 100000 in
theorem nmX0 : ∀ a, a < 28 → ∀ b, b < 28 → a ≠ b → (TX0 a).2.1 ≠ (TX0 b).2.1 := by decide +kernel
set_option maxRecDepth 100000 in
theorem tyX0_ok : ∀ k, k < 28 → parseFieldDescriptor (TX0 k).2.2.1 = some (tyX0 k) := by decide +kernel
abbrev cX0_init : ByteArray := prog_1_method_7_code
def yX0_init : MethodName := ⟨RX0, "<init>", "()V"⟩
def dkwX0_init_8 : List UInt8 := [16, 49, 197, 0, 106, 2, 181, 0, 111, 42, 187, 0, 40, 89, 183, 0, 42, 181, 0, 114, 177]
abbrev dktX0_init_8 : List UInt8 := dkwX0_init_8 ++ []
def dkwX0_init_7 : List UInt8 := [42, 7, 16, 24, 197, 0, 101, 2, 181, 0, 103, 42, 7, 16, 24, 197, 0, 106, 2, 181, 0, 108, 42, 8]
abbrev dktX0_init_7 : List UInt8 := dkwX0_init_7 ++ dktX0_init_8
def dkwX0_init_6 : List UInt8 := [181, 0, 86, 42, 16, 25, 188, 10, 181, 0, 89, 42, 18, 92, 181, 0, 94, 42, 7, 188, 10, 181, 0, 98]
abbrev dktX0_init_6 : List UInt8 := dkwX0_init_6 ++ dktX0_init_7
def dkwX0_init_5 : List UInt8 := [181, 0, 75, 42, 2, 181, 0, 79, 42, 17, 1, 144, 188, 8, 181, 0, 82, 42, 16, 25, 188, 10]
abbrev dktX0_init_5 : List UInt8 := dkwX0_init_5 ++ dktX0_init_6
def dkwX0_init_4 : List UInt8 := [187, 0, 60, 89, 3, 189, 0, 62, 183, 0, 64, 181, 0, 67, 42, 16, 7, 188, 10, 181, 0, 71, 42, 2]
abbrev dktX0_init_4 : List UInt8 := dkwX0_init_4 ++ dktX0_init_5
def dkwX0_init_3 : List UInt8 := [187, 0, 50, 89, 183, 0, 52, 181, 0, 53, 42, 187, 0, 50, 89, 183, 0, 52, 181, 0, 57, 42]
abbrev dktX0_init_3 : List UInt8 := dkwX0_init_3 ++ dktX0_init_4
def dkwX0_init_2 : List UInt8 := [187, 0, 40, 89, 183, 0, 42, 181, 0, 43, 42, 187, 0, 40, 89, 183, 0, 42, 181, 0, 47, 42]
abbrev dktX0_init_2 : List UInt8 := dkwX0_init_2 ++ dktX0_init_3
def dkwX0_init_1 : List UInt8 := [187, 0, 30, 89, 183, 0, 32, 181, 0, 33, 42, 187, 0, 30, 89, 183, 0, 32, 181, 0, 37, 42]
abbrev dktX0_init_1 : List UInt8 := dkwX0_init_1 ++ dktX0_init_2
def dkwX0_init_0 : List UInt8 := [42, 183, 0, 13, 42, 187, 0, 19, 89, 183, 0, 21, 181, 0, 22, 42, 5, 189, 0, 19, 181, 0, 26, 42]
abbrev dktX0_init_0 : List UInt8 := dkwX0_init_0 ++ dktX0_init_1
theorem dksX0_init_0 : cX0_init.data.toList.drop 0 = dktX0_init_0 := by decide +kernel
theorem dksX0_init_1 : cX0_init.data.toList.drop 24 = dktX0_init_1 := dk_seg dksX0_init_0 24 rfl rfl
theorem dksX0_init_2 : cX0_init.data.toList.drop 46 = dktX0_init_2 := dk_seg dksX0_init_1 22 rfl rfl
theorem dksX0_init_3 : cX0_init.data.toList.drop 68 = dktX0_init_3 := dk_seg dksX0_init_2 22 rfl rfl
theorem dksX0_init_4 : cX0_init.data.toList.drop 90 = dktX0_init_4 := dk_seg dksX0_init_3 22 rfl rfl
theorem dksX0_init_5 : cX0_init.data.toList.drop 114 = dktX0_init_5 := dk_seg dksX0_init_4 24 rfl rfl
theorem dksX0_init_6 : cX0_init.data.toList.drop 136 = dktX0_init_6 := dk_seg dksX0_init_5 22 rfl rfl
theorem dksX0_init_7 : cX0_init.data.toList.drop 160 = dktX0_init_7 := dk_seg dksX0_init_6 24 rfl rfl
theorem dksX0_init_8 : cX0_init.data.toList.drop 184 = dktX0_init_8 := dk_seg dksX0_init_7 24 rfl rfl
theorem dX0_init_0 : decode cX0_init 0 = .ok (.aload_n 0, 1) := dk_42 (dk_at dksX0_init_0 0 rfl rfl)
theorem dX0_init_1 : decode cX0_init 1 = .ok (.invokespecial 13, 3) := dk_183 0 13 (dk_at dksX0_init_0 1 rfl rfl)
theorem dX0_init_4 : decode cX0_init 4 = .ok (.aload_n 0, 1) := dk_42 (dk_at dksX0_init_0 4 rfl rfl)
theorem dX0_init_5 : decode cX0_init 5 = .ok (.new 19, 3) := dk_187 0 19 (dk_at dksX0_init_0 5 rfl rfl)
theorem dX0_init_8 : decode cX0_init 8 = .ok (.dup, 1) := dk_89 (dk_at dksX0_init_0 8 rfl rfl)
theorem dX0_init_9 : decode cX0_init 9 = .ok (.invokespecial 21, 3) := dk_183 0 21 (dk_at dksX0_init_0 9 rfl rfl)
theorem dX0_init_12 : decode cX0_init 12 = .ok (.putfield 22, 3) := dk_181 0 22 (dk_at dksX0_init_0 12 rfl rfl)
theorem dX0_init_15 : decode cX0_init 15 = .ok (.aload_n 0, 1) := dk_42 (dk_at dksX0_init_0 15 rfl rfl)
theorem dX0_init_16 : decode cX0_init 16 = .ok (.iconst 2, 1) := dk_5 (dk_at dksX0_init_0 16 rfl rfl)
theorem dX0_init_17 : decode cX0_init 17 = .ok (.anewarray 19, 3) := dk_189 0 19 (dk_at dksX0_init_0 17 rfl rfl)
theorem dX0_init_20 : decode cX0_init 20 = .ok (.putfield 26, 3) := dk_181 0 26 (dk_at dksX0_init_0 20 rfl rfl)
theorem dX0_init_23 : decode cX0_init 23 = .ok (.aload_n 0, 1) := dk_42 (dk_at dksX0_init_0 23 rfl rfl)
theorem dX0_init_24 : decode cX0_init 24 = .ok (.new 30, 3) := dk_187 0 30 (dk_at dksX0_init_1 0 rfl rfl)
theorem dX0_init_27 : decode cX0_init 27 = .ok (.dup, 1) := dk_89 (dk_at dksX0_init_1 3 rfl rfl)
theorem dX0_init_28 : decode cX0_init 28 = .ok (.invokespecial 32, 3) := dk_183 0 32 (dk_at dksX0_init_1 4 rfl rfl)
theorem dX0_init_31 : decode cX0_init 31 = .ok (.putfield 33, 3) := dk_181 0 33 (dk_at dksX0_init_1 7 rfl rfl)
theorem dX0_init_34 : decode cX0_init 34 = .ok (.aload_n 0, 1) := dk_42 (dk_at dksX0_init_1 10 rfl rfl)
theorem dX0_init_35 : decode cX0_init 35 = .ok (.new 30, 3) := dk_187 0 30 (dk_at dksX0_init_1 11 rfl rfl)
theorem dX0_init_38 : decode cX0_init 38 = .ok (.dup, 1) := dk_89 (dk_at dksX0_init_1 14 rfl rfl)
theorem dX0_init_39 : decode cX0_init 39 = .ok (.invokespecial 32, 3) := dk_183 0 32 (dk_at dksX0_init_1 15 rfl rfl)
theorem dX0_init_42 : decode cX0_init 42 = .ok (.putfield 37, 3) := dk_181 0 37 (dk_at dksX0_init_1 18 rfl rfl)
theorem dX0_init_45 : decode cX0_init 45 = .ok (.aload_n 0, 1) := dk_42 (dk_at dksX0_init_1 21 rfl rfl)
theorem dX0_init_46 : decode cX0_init 46 = .ok (.new 40, 3) := dk_187 0 40 (dk_at dksX0_init_2 0 rfl rfl)
theorem dX0_init_49 : decode cX0_init 49 = .ok (.dup, 1) := dk_89 (dk_at dksX0_init_2 3 rfl rfl)
theorem dX0_init_50 : decode cX0_init 50 = .ok (.invokespecial 42, 3) := dk_183 0 42 (dk_at dksX0_init_2 4 rfl rfl)
theorem dX0_init_53 : decode cX0_init 53 = .ok (.putfield 43, 3) := dk_181 0 43 (dk_at dksX0_init_2 7 rfl rfl)
theorem dX0_init_56 : decode cX0_init 56 = .ok (.aload_n 0, 1) := dk_42 (dk_at dksX0_init_2 10 rfl rfl)
theorem dX0_init_57 : decode cX0_init 57 = .ok (.new 40, 3) := dk_187 0 40 (dk_at dksX0_init_2 11 rfl rfl)
theorem dX0_init_60 : decode cX0_init 60 = .ok (.dup, 1) := dk_89 (dk_at dksX0_init_2 14 rfl rfl)
theorem dX0_init_61 : decode cX0_init 61 = .ok (.invokespecial 42, 3) := dk_183 0 42 (dk_at dksX0_init_2 15 rfl rfl)
theorem dX0_init_64 : decode cX0_init 64 = .ok (.putfield 47, 3) := dk_181 0 47 (dk_at dksX0_init_2 18 rfl rfl)
theorem dX0_init_67 : decode cX0_init 67 = .ok (.aload_n 0, 1) := dk_42 (dk_at dksX0_init_2 21 rfl rfl)
theorem dX0_init_68 : decode cX0_init 68 = .ok (.new 50, 3) := dk_187 0 50 (dk_at dksX0_init_3 0 rfl rfl)
theorem dX0_init_71 : decode cX0_init 71 = .ok (.dup, 1) := dk_89 (dk_at dksX0_init_3 3 rfl rfl)
theorem dX0_init_72 : decode cX0_init 72 = .ok (.invokespecial 52, 3) := dk_183 0 52 (dk_at dksX0_init_3 4 rfl rfl)
theorem dX0_init_75 : decode cX0_init 75 = .ok (.putfield 53, 3) := dk_181 0 53 (dk_at dksX0_init_3 7 rfl rfl)
theorem dX0_init_78 : decode cX0_init 78 = .ok (.aload_n 0, 1) := dk_42 (dk_at dksX0_init_3 10 rfl rfl)
theorem dX0_init_79 : decode cX0_init 79 = .ok (.new 50, 3) := dk_187 0 50 (dk_at dksX0_init_3 11 rfl rfl)
theorem dX0_init_82 : decode cX0_init 82 = .ok (.dup, 1) := dk_89 (dk_at dksX0_init_3 14 rfl rfl)
theorem dX0_init_83 : decode cX0_init 83 = .ok (.invokespecial 52, 3) := dk_183 0 52 (dk_at dksX0_init_3 15 rfl rfl)
theorem dX0_init_86 : decode cX0_init 86 = .ok (.putfield 57, 3) := dk_181 0 57 (dk_at dksX0_init_3 18 rfl rfl)
theorem dX0_init_89 : decode cX0_init 89 = .ok (.aload_n 0, 1) := dk_42 (dk_at dksX0_init_3 21 rfl rfl)
theorem dX0_init_90 : decode cX0_init 90 = .ok (.new 60, 3) := dk_187 0 60 (dk_at dksX0_init_4 0 rfl rfl)
theorem dX0_init_93 : decode cX0_init 93 = .ok (.dup, 1) := dk_89 (dk_at dksX0_init_4 3 rfl rfl)
theorem dX0_init_94 : decode cX0_init 94 = .ok (.iconst 0, 1) := dk_3 (dk_at dksX0_init_4 4 rfl rfl)
theorem dX0_init_95 : decode cX0_init 95 = .ok (.anewarray 62, 3) := dk_189 0 62 (dk_at dksX0_init_4 5 rfl rfl)
theorem dX0_init_98 : decode cX0_init 98 = .ok (.invokespecial 64, 3) := dk_183 0 64 (dk_at dksX0_init_4 8 rfl rfl)
theorem dX0_init_101 : decode cX0_init 101 = .ok (.putfield 67, 3) := dk_181 0 67 (dk_at dksX0_init_4 11 rfl rfl)
theorem dX0_init_104 : decode cX0_init 104 = .ok (.aload_n 0, 1) := dk_42 (dk_at dksX0_init_4 14 rfl rfl)
theorem dX0_init_105 : decode cX0_init 105 = .ok (.bipush 7, 2) := dk_16 7 (dk_at dksX0_init_4 15 rfl rfl)
theorem dX0_init_107 : decode cX0_init 107 = .ok (.newarray .int, 2) := dk_188_10 (dk_at dksX0_init_4 17 rfl rfl)
theorem dX0_init_109 : decode cX0_init 109 = .ok (.putfield 71, 3) := dk_181 0 71 (dk_at dksX0_init_4 19 rfl rfl)
theorem dX0_init_112 : decode cX0_init 112 = .ok (.aload_n 0, 1) := dk_42 (dk_at dksX0_init_4 22 rfl rfl)
theorem dX0_init_113 : decode cX0_init 113 = .ok (.iconst (-1), 1) := dk_2 (dk_at dksX0_init_4 23 rfl rfl)
theorem dX0_init_114 : decode cX0_init 114 = .ok (.putfield 75, 3) := dk_181 0 75 (dk_at dksX0_init_5 0 rfl rfl)
theorem dX0_init_117 : decode cX0_init 117 = .ok (.aload_n 0, 1) := dk_42 (dk_at dksX0_init_5 3 rfl rfl)
theorem dX0_init_118 : decode cX0_init 118 = .ok (.iconst (-1), 1) := dk_2 (dk_at dksX0_init_5 4 rfl rfl)
theorem dX0_init_119 : decode cX0_init 119 = .ok (.putfield 79, 3) := dk_181 0 79 (dk_at dksX0_init_5 5 rfl rfl)
theorem dX0_init_122 : decode cX0_init 122 = .ok (.aload_n 0, 1) := dk_42 (dk_at dksX0_init_5 8 rfl rfl)
theorem dX0_init_123 : decode cX0_init 123 = .ok (.sipush 400, 3) := dk_17 1 144 (dk_at dksX0_init_5 9 rfl rfl)
theorem dX0_init_126 : decode cX0_init 126 = .ok (.newarray .byte, 2) := dk_188_8 (dk_at dksX0_init_5 12 rfl rfl)
theorem dX0_init_128 : decode cX0_init 128 = .ok (.putfield 82, 3) := dk_181 0 82 (dk_at dksX0_init_5 14 rfl rfl)
theorem dX0_init_131 : decode cX0_init 131 = .ok (.aload_n 0, 1) := dk_42 (dk_at dksX0_init_5 17 rfl rfl)
theorem dX0_init_132 : decode cX0_init 132 = .ok (.bipush 25, 2) := dk_16 25 (dk_at dksX0_init_5 18 rfl rfl)
theorem dX0_init_134 : decode cX0_init 134 = .ok (.newarray .int, 2) := dk_188_10 (dk_at dksX0_init_5 20 rfl rfl)
theorem dX0_init_136 : decode cX0_init 136 = .ok (.putfield 86, 3) := dk_181 0 86 (dk_at dksX0_init_6 0 rfl rfl)
theorem dX0_init_139 : decode cX0_init 139 = .ok (.aload_n 0, 1) := dk_42 (dk_at dksX0_init_6 3 rfl rfl)
theorem dX0_init_140 : decode cX0_init 140 = .ok (.bipush 25, 2) := dk_16 25 (dk_at dksX0_init_6 4 rfl rfl)
theorem dX0_init_142 : decode cX0_init 142 = .ok (.newarray .int, 2) := dk_188_10 (dk_at dksX0_init_6 6 rfl rfl)
theorem dX0_init_144 : decode cX0_init 144 = .ok (.putfield 89, 3) := dk_181 0 89 (dk_at dksX0_init_6 8 rfl rfl)
theorem dX0_init_147 : decode cX0_init 147 = .ok (.aload_n 0, 1) := dk_42 (dk_at dksX0_init_6 11 rfl rfl)
theorem dX0_init_148 : decode cX0_init 148 = .ok (.ldc 92, 2) := dk_18 92 (dk_at dksX0_init_6 12 rfl rfl)
theorem dX0_init_150 : decode cX0_init 150 = .ok (.putfield 94, 3) := dk_181 0 94 (dk_at dksX0_init_6 14 rfl rfl)
theorem dX0_init_153 : decode cX0_init 153 = .ok (.aload_n 0, 1) := dk_42 (dk_at dksX0_init_6 17 rfl rfl)
theorem dX0_init_154 : decode cX0_init 154 = .ok (.iconst 4, 1) := dk_7 (dk_at dksX0_init_6 18 rfl rfl)
theorem dX0_init_155 : decode cX0_init 155 = .ok (.newarray .int, 2) := dk_188_10 (dk_at dksX0_init_6 19 rfl rfl)
theorem dX0_init_157 : decode cX0_init 157 = .ok (.putfield 98, 3) := dk_181 0 98 (dk_at dksX0_init_6 21 rfl rfl)
theorem dX0_init_160 : decode cX0_init 160 = .ok (.aload_n 0, 1) := dk_42 (dk_at dksX0_init_7 0 rfl rfl)
theorem dX0_init_161 : decode cX0_init 161 = .ok (.iconst 4, 1) := dk_7 (dk_at dksX0_init_7 1 rfl rfl)
theorem dX0_init_162 : decode cX0_init 162 = .ok (.bipush 24, 2) := dk_16 24 (dk_at dksX0_init_7 2 rfl rfl)
theorem dX0_init_164 : decode cX0_init 164 = .ok (.multianewarray 101 2, 4) := by decide +kernel
theorem dX0_init_168 : decode cX0_init 168 = .ok (.putfield 103, 3) := dk_181 0 103 (dk_at dksX0_init_7 8 rfl rfl)
theorem dX0_init_171 : decode cX0_init 171 = .ok (.aload_n 0, 1) := dk_42 (dk_at dksX0_init_7 11 rfl rfl)
theorem dX0_init_172 : decode cX0_init 172 = .ok (.iconst 4, 1) := dk_7 (dk_at dksX0_init_7 12 rfl rfl)
theorem dX0_init_173 : decode cX0_init 173 = .ok (.bipush 24, 2) := dk_16 24 (dk_at dksX0_init_7 13 rfl rfl)
theorem dX0_init_175 : decode cX0_init 175 = .ok (.multianewarray 106 2, 4) := by decide +kernel
theorem dX0_init_179 : decode cX0_init 179 = .ok (.putfield 108, 3) := dk_181 0 108 (dk_at dksX0_init_7 19 rfl rfl)
theorem dX0_init_182 : decode cX0_init 182 = .ok (.aload_n 0, 1) := dk_42 (dk_at dksX0_init_7 22 rfl rfl)
theorem dX0_init_183 : decode cX0_init 183 = .ok (.iconst 5, 1) := dk_8 (dk_at dksX0_init_7 23 rfl rfl)
theorem dX0_init_184 : decode cX0_init 184 = .ok (.bipush 49, 2) := dk_16 49 (dk_at dksX0_init_8 0 rfl rfl)
theorem dX0_init_186 : decode cX0_init 186 = .ok (.multianewarray 106 2, 4) := by decide +kernel
theorem dX0_init_190 : decode cX0_init 190 = .ok (.putfield 111, 3) := dk_181 0 111 (dk_at dksX0_init_8 6 rfl rfl)
theorem dX0_init_193 : decode cX0_init 193 = .ok (.aload_n 0, 1) := dk_42 (dk_at dksX0_init_8 9 rfl rfl)
theorem dX0_init_194 : decode cX0_init 194 = .ok (.new 40, 3) := dk_187 0 40 (dk_at dksX0_init_8 10 rfl rfl)
theorem dX0_init_197 : decode cX0_init 197 = .ok (.dup, 1) := dk_89 (dk_at dksX0_init_8 13 rfl rfl)
theorem dX0_init_198 : decode cX0_init 198 = .ok (.invokespecial 42, 3) := dk_183 0 42 (dk_at dksX0_init_8 14 rfl rfl)
theorem dX0_init_201 : decode cX0_init 201 = .ok (.putfield 114, 3) := dk_181 0 114 (dk_at dksX0_init_8 17 rfl rfl)
theorem dX0_init_204 : decode cX0_init 204 = .ok (.return_, 1) := dk_177 (dk_at dksX0_init_8 20 rfl rfl)
abbrev cX0_feed : ByteArray := prog_1_method_14_code
def yX0_feed : MethodName := ⟨RX0, "feed", "(IIIII)I"⟩
def dkwX0_feed_2 : List UInt8 := [172]
abbrev dktX0_feed_2 : List UInt8 := dkwX0_feed_2 ++ []
def dkwX0_feed_1 : List UInt8 := [182, 0, 146, 42, 29, 182, 0, 146, 42, 21, 4, 182, 0, 146, 42, 21, 5, 182, 0, 146, 42, 180, 0, 143]
abbrev dktX0_feed_1 : List UInt8 := dkwX0_feed_1 ++ dktX0_feed_2
def dkwX0_feed_0 : List UInt8 := [42, 180, 0, 143, 16, 20, 96, 17, 1, 144, 164, 0, 5, 2, 172, 42, 27, 182, 0, 146, 42, 28]
abbrev dktX0_feed_0 : List UInt8 := dkwX0_feed_0 ++ dktX0_feed_1
theorem dksX0_feed_0 : cX0_feed.data.toList.drop 0 = dktX0_feed_0 := by decide +kernel
theorem dksX0_feed_1 : cX0_feed.data.toList.drop 22 = dktX0_feed_1 := dk_seg dksX0_feed_0 22 rfl rfl
theorem dksX0_feed_2 : cX0_feed.data.toList.drop 46 = dktX0_feed_2 := dk_seg dksX0_feed_1 24 rfl rfl
theorem dX0_feed_0 : decode cX0_feed 0 = .ok (.aload_n 0, 1) := dk_42 (dk_at dksX0_feed_0 0 rfl rfl)
theorem dX0_feed_1 : decode cX0_feed 1 = .ok (.getfield 143, 3) := dk_180 0 143 (dk_at dksX0_feed_0 1 rfl rfl)
theorem dX0_feed_4 : decode cX0_feed 4 = .ok (.bipush 20, 2) := dk_16 20 (dk_at dksX0_feed_0 4 rfl rfl)
theorem dX0_feed_6 : decode cX0_feed 6 = .ok (.iadd, 1) := dk_96 (dk_at dksX0_feed_0 6 rfl rfl)
theorem dX0_feed_7 : decode cX0_feed 7 = .ok (.sipush 400, 3) := dk_17 1 144 (dk_at dksX0_feed_0 7 rfl rfl)
theorem dX0_feed_10 : decode cX0_feed 10 = .ok (.if_icmp .le 5, 3) := dk_164 0 5 (dk_at dksX0_feed_0 10 rfl rfl)
theorem dX0_feed_13 : decode cX0_feed 13 = .ok (.iconst (-1), 1) := dk_2 (dk_at dksX0_feed_0 13 rfl rfl)
theorem dX0_feed_14 : decode cX0_feed 14 = .ok (.ireturn, 1) := dk_172 (dk_at dksX0_feed_0 14 rfl rfl)
theorem dX0_feed_15 : decode cX0_feed 15 = .ok (.aload_n 0, 1) := dk_42 (dk_at dksX0_feed_0 15 rfl rfl)
theorem dX0_feed_16 : decode cX0_feed 16 = .ok (.iload_n 1, 1) := dk_27 (dk_at dksX0_feed_0 16 rfl rfl)
theorem dX0_feed_17 : decode cX0_feed 17 = .ok (.invokevirtual 146, 3) := dk_182 0 146 (dk_at dksX0_feed_0 17 rfl rfl)
theorem dX0_feed_20 : decode cX0_feed 20 = .ok (.aload_n 0, 1) := dk_42 (dk_at dksX0_feed_0 20 rfl rfl)
theorem dX0_feed_21 : decode cX0_feed 21 = .ok (.iload_n 2, 1) := dk_28 (dk_at dksX0_feed_0 21 rfl rfl)
theorem dX0_feed_22 : decode cX0_feed 22 = .ok (.invokevirtual 146, 3) := dk_182 0 146 (dk_at dksX0_feed_1 0 rfl rfl)
theorem dX0_feed_25 : decode cX0_feed 25 = .ok (.aload_n 0, 1) := dk_42 (dk_at dksX0_feed_1 3 rfl rfl)
theorem dX0_feed_26 : decode cX0_feed 26 = .ok (.iload_n 3, 1) := dk_29 (dk_at dksX0_feed_1 4 rfl rfl)
theorem dX0_feed_27 : decode cX0_feed 27 = .ok (.invokevirtual 146, 3) := dk_182 0 146 (dk_at dksX0_feed_1 5 rfl rfl)
theorem dX0_feed_30 : decode cX0_feed 30 = .ok (.aload_n 0, 1) := dk_42 (dk_at dksX0_feed_1 8 rfl rfl)
theorem dX0_feed_31 : decode cX0_feed 31 = .ok (.iload 4, 2) := dk_21 4 (dk_at dksX0_feed_1 9 rfl rfl)
theorem dX0_feed_33 : decode cX0_feed 33 = .ok (.invokevirtual 146, 3) := dk_182 0 146 (dk_at dksX0_feed_1 11 rfl rfl)
theorem dX0_feed_36 : decode cX0_feed 36 = .ok (.aload_n 0, 1) := dk_42 (dk_at dksX0_feed_1 14 rfl rfl)
theorem dX0_feed_37 : decode cX0_feed 37 = .ok (.iload 5, 2) := dk_21 5 (dk_at dksX0_feed_1 15 rfl rfl)
theorem dX0_feed_39 : decode cX0_feed 39 = .ok (.invokevirtual 146, 3) := dk_182 0 146 (dk_at dksX0_feed_1 17 rfl rfl)
theorem dX0_feed_42 : decode cX0_feed 42 = .ok (.aload_n 0, 1) := dk_42 (dk_at dksX0_feed_1 20 rfl rfl)
theorem dX0_feed_43 : decode cX0_feed 43 = .ok (.getfield 143, 3) := dk_180 0 143 (dk_at dksX0_feed_1 21 rfl rfl)
theorem dX0_feed_46 : decode cX0_feed 46 = .ok (.ireturn, 1) := dk_172 (dk_at dksX0_feed_2 0 rfl rfl)
abbrev cX0_four : ByteArray := prog_1_method_13_code
def yX0_four : MethodName := ⟨RX0, "four", "(I)V"⟩
def dkwX0_four_1 : List UInt8 := [180, 0, 143, 4, 96, 181, 0, 143, 132, 2, 248, 167, 255, 226, 177]
abbrev dktX0_four_1 : List UInt8 := dkwX0_four_1 ++ []
def dkwX0_four_0 : List UInt8 := [16, 24, 61, 28, 155, 0, 32, 42, 180, 0, 82, 42, 180, 0, 143, 27, 28, 122, 145, 84, 42, 89]
abbrev dktX0_four_0 : List UInt8 := dkwX0_four_0 ++ dktX0_four_1
theorem dksX0_four_0 : cX0_four.data.toList.drop 0 = dktX0_four_0 := by decide +kernel
theorem dksX0_four_1 : cX0_four.data.toList.drop 22 = dktX0_four_1 := dk_seg dksX0_four_0 22 rfl rfl
theorem dX0_four_0 : decode cX0_four 0 = .ok (.bipush 24, 2) := dk_16 24 (dk_at dksX0_four_0 0 rfl rfl)
theorem dX0_four_2 : decode cX0_four 2 = .ok (.istore_n 2, 1) := dk_61 (dk_at dksX0_four_0 2 rfl rfl)
theorem dX0_four_3 : decode cX0_four 3 = .ok (.iload_n 2, 1) := dk_28 (dk_at dksX0_four_0 3 rfl rfl)
theorem dX0_four_4 : decode cX0_four 4 = .ok (.ifCond .lt 32, 3) := dk_155 0 32 (dk_at dksX0_four_0 4 rfl rfl)
theorem dX0_four_7 : decode cX0_four 7 = .ok (.aload_n 0, 1) := dk_42 (dk_at dksX0_four_0 7 rfl rfl)
theorem dX0_four_8 : decode cX0_four 8 = .ok (.getfield 82, 3) := dk_180 0 82 (dk_at dksX0_four_0 8 rfl rfl)
theorem dX0_four_11 : decode cX0_four 11 = .ok (.aload_n 0, 1) := dk_42 (dk_at dksX0_four_0 11 rfl rfl)
theorem dX0_four_12 : decode cX0_four 12 = .ok (.getfield 143, 3) := dk_180 0 143 (dk_at dksX0_four_0 12 rfl rfl)
theorem dX0_four_15 : decode cX0_four 15 = .ok (.iload_n 1, 1) := dk_27 (dk_at dksX0_four_0 15 rfl rfl)
theorem dX0_four_16 : decode cX0_four 16 = .ok (.iload_n 2, 1) := dk_28 (dk_at dksX0_four_0 16 rfl rfl)
theorem dX0_four_17 : decode cX0_four 17 = .ok (.ishr, 1) := dk_122 (dk_at dksX0_four_0 17 rfl rfl)
theorem dX0_four_18 : decode cX0_four 18 = .ok (.i2b, 1) := dk_145 (dk_at dksX0_four_0 18 rfl rfl)
theorem dX0_four_19 : decode cX0_four 19 = .ok (.bastore, 1) := dk_84 (dk_at dksX0_four_0 19 rfl rfl)
theorem dX0_four_20 : decode cX0_four 20 = .ok (.aload_n 0, 1) := dk_42 (dk_at dksX0_four_0 20 rfl rfl)
theorem dX0_four_21 : decode cX0_four 21 = .ok (.dup, 1) := dk_89 (dk_at dksX0_four_0 21 rfl rfl)
theorem dX0_four_22 : decode cX0_four 22 = .ok (.getfield 143, 3) := dk_180 0 143 (dk_at dksX0_four_1 0 rfl rfl)
theorem dX0_four_25 : decode cX0_four 25 = .ok (.iconst 1, 1) := dk_4 (dk_at dksX0_four_1 3 rfl rfl)
theorem dX0_four_26 : decode cX0_four 26 = .ok (.iadd, 1) := dk_96 (dk_at dksX0_four_1 4 rfl rfl)
theorem dX0_four_27 : decode cX0_four 27 = .ok (.putfield 143, 3) := dk_181 0 143 (dk_at dksX0_four_1 5 rfl rfl)
theorem dX0_four_30 : decode cX0_four 30 = .ok (.iinc 2 (-8), 3) := dk_132 2 248 (dk_at dksX0_four_1 8 rfl rfl)
theorem dX0_four_33 : decode cX0_four 33 = .ok (.goto (-30), 3) := dk_167 255 226 (dk_at dksX0_four_1 11 rfl rfl)
theorem dX0_four_36 : decode cX0_four 36 = .ok (.return_, 1) := dk_177 (dk_at dksX0_four_1 14 rfl rfl)
abbrev cX0_end : ByteArray := prog_1_method_15_code
def yX0_end : MethodName := ⟨RX0, "end", "(I)I"⟩
def dkwX0_end_0 : List UInt8 := [27, 133, 9, 42, 180, 0, 143, 133, 184, 0, 5, 154, 0, 5, 2, 172, 42, 27, 181, 0, 143, 27, 172]
abbrev dktX0_end_0 : List UInt8 := dkwX0_end_0 ++ []
theorem dksX0_end_0 : cX0_end.data.toList.drop 0 = dktX0_end_0 := by decide +kernel
theorem dX0_end_0 : decode cX0_end 0 = .ok (.iload_n 1, 1) := dk_27 (dk_at dksX0_end_0 0 rfl rfl)
theorem dX0_end_1 : decode cX0_end 1 = .ok (.i2l, 1) := dk_133 (dk_at dksX0_end_0 1 rfl rfl)
theorem dX0_end_2 : decode cX0_end 2 = .ok (.lconst 0, 1) := dk_9 (dk_at dksX0_end_0 2 rfl rfl)
theorem dX0_end_3 : decode cX0_end 3 = .ok (.aload_n 0, 1) := dk_42 (dk_at dksX0_end_0 3 rfl rfl)
theorem dX0_end_4 : decode cX0_end 4 = .ok (.getfield 143, 3) := dk_180 0 143 (dk_at dksX0_end_0 4 rfl rfl)
theorem dX0_end_7 : decode cX0_end 7 = .ok (.i2l, 1) := dk_133 (dk_at dksX0_end_0 7 rfl rfl)
theorem dX0_end_8 : decode cX0_end 8 = .ok (.invokestatic 5, 3) := dk_184 0 5 (dk_at dksX0_end_0 8 rfl rfl)
theorem dX0_end_11 : decode cX0_end 11 = .ok (.ifCond .ne 5, 3) := dk_154 0 5 (dk_at dksX0_end_0 11 rfl rfl)
theorem dX0_end_14 : decode cX0_end 14 = .ok (.iconst (-1), 1) := dk_2 (dk_at dksX0_end_0 14 rfl rfl)
theorem dX0_end_15 : decode cX0_end 15 = .ok (.ireturn, 1) := dk_172 (dk_at dksX0_end_0 15 rfl rfl)
theorem dX0_end_16 : decode cX0_end 16 = .ok (.aload_n 0, 1) := dk_42 (dk_at dksX0_end_0 16 rfl rfl)
theorem dX0_end_17 : decode cX0_end 17 = .ok (.iload_n 1, 1) := dk_27 (dk_at dksX0_end_0 17 rfl rfl)
theorem dX0_end_18 : decode cX0_end 18 = .ok (.putfield 143, 3) := dk_181 0 143 (dk_at dksX0_end_0 18 rfl rfl)
theorem dX0_end_21 : decode cX0_end 21 = .ok (.iload_n 1, 1) := dk_27 (dk_at dksX0_end_0 21 rfl rfl)
theorem dX0_end_22 : decode cX0_end 22 = .ok (.ireturn, 1) := dk_172 (dk_at dksX0_end_0 22 rfl rfl)
abbrev cX0_in : ByteArray := prog_1_method_1_code
def yX0_in : MethodName := ⟨RX0, "in", "(JJJ)Z"⟩
def dkwX0_in_0 : List UInt8 := [30, 32, 148, 155, 0, 14, 30, 22, 4, 148, 157, 0, 7, 4, 167, 0, 4, 3, 172]
abbrev dktX0_in_0 : List UInt8 := dkwX0_in_0 ++ []
theorem dksX0_in_0 : cX0_in.data.toList.drop 0 = dktX0_in_0 := by decide +kernel
theorem dX0_in_0 : decode cX0_in 0 = .ok (.lload_n 0, 1) := dk_30 (dk_at dksX0_in_0 0 rfl rfl)
theorem dX0_in_1 : decode cX0_in 1 = .ok (.lload_n 2, 1) := dk_32 (dk_at dksX0_in_0 1 rfl rfl)
theorem dX0_in_2 : decode cX0_in 2 = .ok (.lcmp, 1) := dk_148 (dk_at dksX0_in_0 2 rfl rfl)
theorem dX0_in_3 : decode cX0_in 3 = .ok (.ifCond .lt 14, 3) := dk_155 0 14 (dk_at dksX0_in_0 3 rfl rfl)
theorem dX0_in_6 : decode cX0_in 6 = .ok (.lload_n 0, 1) := dk_30 (dk_at dksX0_in_0 6 rfl rfl)
theorem dX0_in_7 : decode cX0_in 7 = .ok (.lload 4, 2) := dk_22 4 (dk_at dksX0_in_0 7 rfl rfl)
theorem dX0_in_9 : decode cX0_in 9 = .ok (.lcmp, 1) := dk_148 (dk_at dksX0_in_0 9 rfl rfl)
theorem dX0_in_10 : decode cX0_in 10 = .ok (.ifCond .gt 7, 3) := dk_157 0 7 (dk_at dksX0_in_0 10 rfl rfl)
theorem dX0_in_13 : decode cX0_in 13 = .ok (.iconst 1, 1) := dk_4 (dk_at dksX0_in_0 13 rfl rfl)
theorem dX0_in_14 : decode cX0_in 14 = .ok (.goto 4, 3) := dk_167 0 4 (dk_at dksX0_in_0 14 rfl rfl)
theorem dX0_in_17 : decode cX0_in 17 = .ok (.iconst 0, 1) := dk_3 (dk_at dksX0_in_0 17 rfl rfl)
theorem dX0_in_18 : decode cX0_in 18 = .ok (.ireturn, 1) := dk_172 (dk_at dksX0_in_0 18 rfl rfl)
abbrev cX0_of : ByteArray := prog_1_method_18_code
def yX0_of : MethodName := ⟨RX0, "of", "(II)I"⟩
def dkwX0_of_4 : List UInt8 := [172]
abbrev dktX0_of_4 : List UInt8 := dkwX0_of_4 ++ []
def dkwX0_of_3 : List UInt8 := [20, 0, 170, 20, 0, 172, 184, 0, 5, 153, 0, 14, 45, 180, 0, 174, 28, 7, 100, 46, 167, 0, 4, 2]
abbrev dktX0_of_3 : List UInt8 := dkwX0_of_3 ++ dktX0_of_4
def dkwX0_of_2 : List UInt8 := [45, 180, 0, 158, 172, 45, 180, 0, 161, 172, 45, 180, 0, 164, 172, 45, 180, 0, 167, 172, 28, 133]
abbrev dktX0_of_2 : List UInt8 := dkwX0_of_2 ++ dktX0_of_3
def dkwX0_of_1 : List UInt8 := [170, 0, 0, 0, 0, 0, 0, 52, 0, 0, 0, 0, 0, 0, 0, 3, 0, 0, 0, 32, 0, 0, 0, 37, 0, 0, 0, 42, 0, 0, 0, 47]
abbrev dktX0_of_1 : List UInt8 := dkwX0_of_1 ++ dktX0_of_2
def dkwX0_of_0 : List UInt8 := [27, 184, 0, 150, 154, 0, 5, 2, 172, 42, 27, 182, 0, 154, 78, 28]
abbrev dktX0_of_0 : List UInt8 := dkwX0_of_0 ++ dktX0_of_1
theorem dksX0_of_0 : cX0_of.data.toList.drop 0 = dktX0_of_0 := by decide +kernel
theorem dksX0_of_1 : cX0_of.data.toList.drop 16 = dktX0_of_1 := dk_seg dksX0_of_0 16 rfl rfl
theorem dksX0_of_2 : cX0_of.data.toList.drop 48 = dktX0_of_2 := dk_seg dksX0_of_1 32 rfl rfl
theorem dksX0_of_3 : cX0_of.data.toList.drop 70 = dktX0_of_3 := dk_seg dksX0_of_2 22 rfl rfl
theorem dksX0_of_4 : cX0_of.data.toList.drop 94 = dktX0_of_4 := dk_seg dksX0_of_3 24 rfl rfl
theorem dX0_of_0 : decode cX0_of 0 = .ok (.iload_n 1, 1) := dk_27 (dk_at dksX0_of_0 0 rfl rfl)
theorem dX0_of_1 : decode cX0_of 1 = .ok (.invokestatic 150, 3) := dk_184 0 150 (dk_at dksX0_of_0 1 rfl rfl)
theorem dX0_of_4 : decode cX0_of 4 = .ok (.ifCond .ne 5, 3) := dk_154 0 5 (dk_at dksX0_of_0 4 rfl rfl)
theorem dX0_of_7 : decode cX0_of 7 = .ok (.iconst (-1), 1) := dk_2 (dk_at dksX0_of_0 7 rfl rfl)
theorem dX0_of_8 : decode cX0_of 8 = .ok (.ireturn, 1) := dk_172 (dk_at dksX0_of_0 8 rfl rfl)
theorem dX0_of_9 : decode cX0_of 9 = .ok (.aload_n 0, 1) := dk_42 (dk_at dksX0_of_0 9 rfl rfl)
theorem dX0_of_10 : decode cX0_of 10 = .ok (.iload_n 1, 1) := dk_27 (dk_at dksX0_of_0 10 rfl rfl)
theorem dX0_of_11 : decode cX0_of 11 = .ok (.invokevirtual 154, 3) := dk_182 0 154 (dk_at dksX0_of_0 11 rfl rfl)
theorem dX0_of_14 : decode cX0_of 14 = .ok (.astore_n 3, 1) := dk_78 (dk_at dksX0_of_0 14 rfl rfl)
theorem dX0_of_15 : decode cX0_of 15 = .ok (.iload_n 2, 1) := dk_28 (dk_at dksX0_of_0 15 rfl rfl)
theorem dX0_of_16 : decode cX0_of 16 = .ok (.tableswitch 52 0 3 #[32, 37, 42, 47], 32) := by decide +kernel
theorem dX0_of_48 : decode cX0_of 48 = .ok (.aload_n 3, 1) := dk_45 (dk_at dksX0_of_2 0 rfl rfl)
theorem dX0_of_49 : decode cX0_of 49 = .ok (.getfield 158, 3) := dk_180 0 158 (dk_at dksX0_of_2 1 rfl rfl)
theorem dX0_of_52 : decode cX0_of 52 = .ok (.ireturn, 1) := dk_172 (dk_at dksX0_of_2 4 rfl rfl)
theorem dX0_of_53 : decode cX0_of 53 = .ok (.aload_n 3, 1) := dk_45 (dk_at dksX0_of_2 5 rfl rfl)
theorem dX0_of_54 : decode cX0_of 54 = .ok (.getfield 161, 3) := dk_180 0 161 (dk_at dksX0_of_2 6 rfl rfl)
theorem dX0_of_57 : decode cX0_of 57 = .ok (.ireturn, 1) := dk_172 (dk_at dksX0_of_2 9 rfl rfl)
theorem dX0_of_58 : decode cX0_of 58 = .ok (.aload_n 3, 1) := dk_45 (dk_at dksX0_of_2 10 rfl rfl)
theorem dX0_of_59 : decode cX0_of 59 = .ok (.getfield 164, 3) := dk_180 0 164 (dk_at dksX0_of_2 11 rfl rfl)
theorem dX0_of_62 : decode cX0_of 62 = .ok (.ireturn, 1) := dk_172 (dk_at dksX0_of_2 14 rfl rfl)
theorem dX0_of_63 : decode cX0_of 63 = .ok (.aload_n 3, 1) := dk_45 (dk_at dksX0_of_2 15 rfl rfl)
theorem dX0_of_64 : decode cX0_of 64 = .ok (.getfield 167, 3) := dk_180 0 167 (dk_at dksX0_of_2 16 rfl rfl)
theorem dX0_of_67 : decode cX0_of 67 = .ok (.ireturn, 1) := dk_172 (dk_at dksX0_of_2 19 rfl rfl)
theorem dX0_of_68 : decode cX0_of 68 = .ok (.iload_n 2, 1) := dk_28 (dk_at dksX0_of_2 20 rfl rfl)
theorem dX0_of_69 : decode cX0_of 69 = .ok (.i2l, 1) := dk_133 (dk_at dksX0_of_2 21 rfl rfl)
theorem dX0_of_70 : decode cX0_of 70 = .ok (.ldc2_w 170, 3) := dk_20 0 170 (dk_at dksX0_of_3 0 rfl rfl)
theorem dX0_of_73 : decode cX0_of 73 = .ok (.ldc2_w 172, 3) := dk_20 0 172 (dk_at dksX0_of_3 3 rfl rfl)
theorem dX0_of_76 : decode cX0_of 76 = .ok (.invokestatic 5, 3) := dk_184 0 5 (dk_at dksX0_of_3 6 rfl rfl)
theorem dX0_of_79 : decode cX0_of 79 = .ok (.ifCond .eq 14, 3) := dk_153 0 14 (dk_at dksX0_of_3 9 rfl rfl)
theorem dX0_of_82 : decode cX0_of 82 = .ok (.aload_n 3, 1) := dk_45 (dk_at dksX0_of_3 12 rfl rfl)
theorem dX0_of_83 : decode cX0_of 83 = .ok (.getfield 174, 3) := dk_180 0 174 (dk_at dksX0_of_3 13 rfl rfl)
theorem dX0_of_86 : decode cX0_of 86 = .ok (.iload_n 2, 1) := dk_28 (dk_at dksX0_of_3 16 rfl rfl)
theorem dX0_of_87 : decode cX0_of 87 = .ok (.iconst 4, 1) := dk_7 (dk_at dksX0_of_3 17 rfl rfl)
theorem dX0_of_88 : decode cX0_of 88 = .ok (.isub, 1) := dk_100 (dk_at dksX0_of_3 18 rfl rfl)
theorem dX0_of_89 : decode cX0_of 89 = .ok (.iaload, 1) := dk_46 (dk_at dksX0_of_3 19 rfl rfl)
theorem dX0_of_90 : decode cX0_of 90 = .ok (.goto 4, 3) := dk_167 0 4 (dk_at dksX0_of_3 20 rfl rfl)
theorem dX0_of_93 : decode cX0_of 93 = .ok (.iconst (-1), 1) := dk_2 (dk_at dksX0_of_3 23 rfl rfl)
theorem dX0_of_94 : decode cX0_of 94 = .ok (.ireturn, 1) := dk_172 (dk_at dksX0_of_4 0 rfl rfl)
abbrev cX0_isTenant : ByteArray := prog_1_method_3_code
def yX0_isTenant : MethodName := ⟨RX0, "isTenant", "(I)Z"⟩
def dkwX0_isTenant_0 : List UInt8 := [26, 133, 9, 20, 0, 3, 184, 0, 5, 172]
abbrev dktX0_isTenant_0 : List UInt8 := dkwX0_isTenant_0 ++ []
theorem dksX0_isTenant_0 : cX0_isTenant.data.toList.drop 0 = dktX0_isTenant_0 := by decide +kernel
theorem dX0_isTenant_0 : decode cX0_isTenant 0 = .ok (.iload_n 0, 1) := dk_26 (dk_at dksX0_isTenant_0 0 rfl rfl)
theorem dX0_isTenant_1 : decode cX0_isTenant 1 = .ok (.i2l, 1) := dk_133 (dk_at dksX0_isTenant_0 1 rfl rfl)
theorem dX0_isTenant_2 : decode cX0_isTenant 2 = .ok (.lconst 0, 1) := dk_9 (dk_at dksX0_isTenant_0 2 rfl rfl)
theorem dX0_isTenant_3 : decode cX0_isTenant 3 = .ok (.ldc2_w 3, 3) := dk_20 0 3 (dk_at dksX0_isTenant_0 3 rfl rfl)
theorem dX0_isTenant_6 : decode cX0_isTenant 6 = .ok (.invokestatic 5, 3) := dk_184 0 5 (dk_at dksX0_isTenant_0 6 rfl rfl)
theorem dX0_isTenant_9 : decode cX0_isTenant 9 = .ok (.ireturn, 1) := dk_172 (dk_at dksX0_isTenant_0 9 rfl rfl)
abbrev cX0_book : ByteArray := prog_1_method_12_code
def yX0_book : MethodName := ⟨RX0, "book", "(I)LMissCurves$Book;"⟩
def dkwX0_book_0 : List UInt8 := [42, 182, 0, 136, 180, 0, 139, 27, 50, 176]
abbrev dktX0_book_0 : List UInt8 := dkwX0_book_0 ++ []
theorem dksX0_book_0 : cX0_book.data.toList.drop 0 = dktX0_book_0 := by decide +kernel
theorem dX0_book_0 : decode cX0_book 0 = .ok (.aload_n 0, 1) := dk_42 (dk_at dksX0_book_0 0 rfl rfl)
theorem dX0_book_1 : decode cX0_book 1 = .ok (.invokevirtual 136, 3) := dk_182 0 136 (dk_at dksX0_book_0 1 rfl rfl)
theorem dX0_book_4 : decode cX0_book 4 = .ok (.getfield 139, 3) := dk_180 0 139 (dk_at dksX0_book_0 4 rfl rfl)
theorem dX0_book_7 : decode cX0_book 7 = .ok (.iload_n 1, 1) := dk_27 (dk_at dksX0_book_0 7 rfl rfl)
theorem dX0_book_8 : decode cX0_book 8 = .ok (.aaload, 1) := dk_50 (dk_at dksX0_book_0 8 rfl rfl)
theorem dX0_book_9 : decode cX0_book 9 = .ok (.areturn, 1) := dk_176 (dk_at dksX0_book_0 9 rfl rfl)
abbrev cX0_books : ByteArray := prog_1_method_11_code
def yX0_books : MethodName := ⟨RX0, "books", "()LMissCurves$Books;"⟩
def dkwX0_books_0 : List UInt8 := [42, 180, 0, 22, 180, 0, 133, 176]
abbrev dktX0_books_0 : List UInt8 := dkwX0_books_0 ++ []
theorem dksX0_books_0 : cX0_books.data.toList.drop 0 = dktX0_books_0 := by decide +kernel
theorem dX0_books_0 : decode cX0_books 0 = .ok (.aload_n 0, 1) := dk_42 (dk_at dksX0_books_0 0 rfl rfl)
theorem dX0_books_1 : decode cX0_books 1 = .ok (.getfield 22, 3) := dk_180 0 22 (dk_at dksX0_books_0 1 rfl rfl)
theorem dX0_books_4 : decode cX0_books 4 = .ok (.getfield 133, 3) := dk_180 0 133 (dk_at dksX0_books_0 4 rfl rfl)
theorem dX0_books_7 : decode cX0_books 7 = .ok (.areturn, 1) := dk_176 (dk_at dksX0_books_0 7 rfl rfl)
abbrev cX0_top : ByteArray := prog_1_method_19_code
def yX0_top : MethodName := ⟨RX0, "top", "(II)I"⟩
def dkwX0_top_1 : List UInt8 := [153, 0, 18, 42, 27, 182, 0, 154, 180, 0, 177, 28, 4, 100, 46, 167, 0, 4, 2, 172]
abbrev dktX0_top_1 : List UInt8 := dkwX0_top_1 ++ []
def dkwX0_top_0 : List UInt8 := [27, 184, 0, 150, 153, 0, 36, 28, 133, 10, 42, 27, 182, 0, 154, 180, 0, 158, 133, 184, 0, 5]
abbrev dktX0_top_0 : List UInt8 := dkwX0_top_0 ++ dktX0_top_1
theorem dksX0_top_0 : cX0_top.data.toList.drop 0 = dktX0_top_0 := by decide +kernel
theorem dksX0_top_1 : cX0_top.data.toList.drop 22 = dktX0_top_1 := dk_seg dksX0_top_0 22 rfl rfl
theorem dX0_top_0 : decode cX0_top 0 = .ok (.iload_n 1, 1) := dk_27 (dk_at dksX0_top_0 0 rfl rfl)
theorem dX0_top_1 : decode cX0_top 1 = .ok (.invokestatic 150, 3) := dk_184 0 150 (dk_at dksX0_top_0 1 rfl rfl)
theorem dX0_top_4 : decode cX0_top 4 = .ok (.ifCond .eq 36, 3) := dk_153 0 36 (dk_at dksX0_top_0 4 rfl rfl)
theorem dX0_top_7 : decode cX0_top 7 = .ok (.iload_n 2, 1) := dk_28 (dk_at dksX0_top_0 7 rfl rfl)
theorem dX0_top_8 : decode cX0_top 8 = .ok (.i2l, 1) := dk_133 (dk_at dksX0_top_0 8 rfl rfl)
theorem dX0_top_9 : decode cX0_top 9 = .ok (.lconst 1, 1) := dk_10 (dk_at dksX0_top_0 9 rfl rfl)
theorem dX0_top_10 : decode cX0_top 10 = .ok (.aload_n 0, 1) := dk_42 (dk_at dksX0_top_0 10 rfl rfl)
theorem dX0_top_11 : decode cX0_top 11 = .ok (.iload_n 1, 1) := dk_27 (dk_at dksX0_top_0 11 rfl rfl)
theorem dX0_top_12 : decode cX0_top 12 = .ok (.invokevirtual 154, 3) := dk_182 0 154 (dk_at dksX0_top_0 12 rfl rfl)
theorem dX0_top_15 : decode cX0_top 15 = .ok (.getfield 158, 3) := dk_180 0 158 (dk_at dksX0_top_0 15 rfl rfl)
theorem dX0_top_18 : decode cX0_top 18 = .ok (.i2l, 1) := dk_133 (dk_at dksX0_top_0 18 rfl rfl)
theorem dX0_top_19 : decode cX0_top 19 = .ok (.invokestatic 5, 3) := dk_184 0 5 (dk_at dksX0_top_0 19 rfl rfl)
theorem dX0_top_22 : decode cX0_top 22 = .ok (.ifCond .eq 18, 3) := dk_153 0 18 (dk_at dksX0_top_1 0 rfl rfl)
theorem dX0_top_25 : decode cX0_top 25 = .ok (.aload_n 0, 1) := dk_42 (dk_at dksX0_top_1 3 rfl rfl)
theorem dX0_top_26 : decode cX0_top 26 = .ok (.iload_n 1, 1) := dk_27 (dk_at dksX0_top_1 4 rfl rfl)
theorem dX0_top_27 : decode cX0_top 27 = .ok (.invokevirtual 154, 3) := dk_182 0 154 (dk_at dksX0_top_1 5 rfl rfl)
theorem dX0_top_30 : decode cX0_top 30 = .ok (.getfield 177, 3) := dk_180 0 177 (dk_at dksX0_top_1 8 rfl rfl)
theorem dX0_top_33 : decode cX0_top 33 = .ok (.iload_n 2, 1) := dk_28 (dk_at dksX0_top_1 11 rfl rfl)
theorem dX0_top_34 : decode cX0_top 34 = .ok (.iconst 1, 1) := dk_4 (dk_at dksX0_top_1 12 rfl rfl)
theorem dX0_top_35 : decode cX0_top 35 = .ok (.isub, 1) := dk_100 (dk_at dksX0_top_1 13 rfl rfl)
theorem dX0_top_36 : decode cX0_top 36 = .ok (.iaload, 1) := dk_46 (dk_at dksX0_top_1 14 rfl rfl)
theorem dX0_top_37 : decode cX0_top 37 = .ok (.goto 4, 3) := dk_167 0 4 (dk_at dksX0_top_1 15 rfl rfl)
theorem dX0_top_40 : decode cX0_top 40 = .ok (.iconst (-1), 1) := dk_2 (dk_at dksX0_top_1 18 rfl rfl)
theorem dX0_top_41 : decode cX0_top 41 = .ok (.ireturn, 1) := dk_172 (dk_at dksX0_top_1 19 rfl rfl)
abbrev cX0_key : ByteArray := prog_1_method_20_code
def yX0_key : MethodName := ⟨RX0, "key", "(III)I"⟩
def dkwX0_key_4 : List UInt8 := [182, 0, 197, 153, 0, 7, 4, 167, 0, 4, 3, 172, 2, 172]
abbrev dktX0_key_4 : List UInt8 := dkwX0_key_4 ++ []
def dkwX0_key_3 : List UInt8 := [180, 0, 22, 180, 0, 189, 6, 46, 184, 0, 192, 172, 42, 27, 28, 182, 0, 195, 172, 42, 27, 28]
abbrev dktX0_key_3 : List UInt8 := dkwX0_key_3 ++ dktX0_key_4
def dkwX0_key_2 : List UInt8 := [42, 27, 182, 0, 154, 28, 182, 0, 183, 172, 42, 27, 182, 0, 154, 28, 182, 0, 186, 172, 28, 42]
abbrev dktX0_key_2 : List UInt8 := dkwX0_key_2 ++ dktX0_key_3
def dkwX0_key_1 : List UInt8 := [170, 0, 0, 0, 0, 0, 91, 0, 0, 0, 0, 0, 0, 0, 4, 0, 0, 0, 35, 0, 0, 0, 45, 0, 0, 0, 55, 0, 0, 0, 69, 0, 0, 0, 76]
abbrev dktX0_key_1 : List UInt8 := dkwX0_key_1 ++ dktX0_key_2
def dkwX0_key_0 : List UInt8 := [27, 184, 0, 150, 153, 0, 10, 28, 184, 0, 180, 154, 0, 5, 2, 172, 29]
abbrev dktX0_key_0 : List UInt8 := dkwX0_key_0 ++ dktX0_key_1
theorem dksX0_key_0 : cX0_key.data.toList.drop 0 = dktX0_key_0 := by decide +kernel
theorem dksX0_key_1 : cX0_key.data.toList.drop 17 = dktX0_key_1 := dk_seg dksX0_key_0 17 rfl rfl
theorem dksX0_key_2 : cX0_key.data.toList.drop 52 = dktX0_key_2 := dk_seg dksX0_key_1 35 rfl rfl
theorem dksX0_key_3 : cX0_key.data.toList.drop 74 = dktX0_key_3 := dk_seg dksX0_key_2 22 rfl rfl
theorem dksX0_key_4 : cX0_key.data.toList.drop 96 = dktX0_key_4 := dk_seg dksX0_key_3 22 rfl rfl
theorem dX0_key_0 : decode cX0_key 0 = .ok (.iload_n 1, 1) := dk_27 (dk_at dksX0_key_0 0 rfl rfl)
theorem dX0_key_1 : decode cX0_key 1 = .ok (.invokestatic 150, 3) := dk_184 0 150 (dk_at dksX0_key_0 1 rfl rfl)
theorem dX0_key_4 : decode cX0_key 4 = .ok (.ifCond .eq 10, 3) := dk_153 0 10 (dk_at dksX0_key_0 4 rfl rfl)
theorem dX0_key_7 : decode cX0_key 7 = .ok (.iload_n 2, 1) := dk_28 (dk_at dksX0_key_0 7 rfl rfl)
theorem dX0_key_8 : decode cX0_key 8 = .ok (.invokestatic 180, 3) := dk_184 0 180 (dk_at dksX0_key_0 8 rfl rfl)
theorem dX0_key_11 : decode cX0_key 11 = .ok (.ifCond .ne 5, 3) := dk_154 0 5 (dk_at dksX0_key_0 11 rfl rfl)
theorem dX0_key_14 : decode cX0_key 14 = .ok (.iconst (-1), 1) := dk_2 (dk_at dksX0_key_0 14 rfl rfl)
theorem dX0_key_15 : decode cX0_key 15 = .ok (.ireturn, 1) := dk_172 (dk_at dksX0_key_0 15 rfl rfl)
theorem dX0_key_16 : decode cX0_key 16 = .ok (.iload_n 3, 1) := dk_29 (dk_at dksX0_key_0 16 rfl rfl)
theorem dX0_key_17 : decode cX0_key 17 = .ok (.tableswitch 91 0 4 #[35, 45, 55, 69, 76], 35) := by decide +kernel
theorem dX0_key_52 : decode cX0_key 52 = .ok (.aload_n 0, 1) := dk_42 (dk_at dksX0_key_2 0 rfl rfl)
theorem dX0_key_53 : decode cX0_key 53 = .ok (.iload_n 1, 1) := dk_27 (dk_at dksX0_key_2 1 rfl rfl)
theorem dX0_key_54 : decode cX0_key 54 = .ok (.invokevirtual 154, 3) := dk_182 0 154 (dk_at dksX0_key_2 2 rfl rfl)
theorem dX0_key_57 : decode cX0_key 57 = .ok (.iload_n 2, 1) := dk_28 (dk_at dksX0_key_2 5 rfl rfl)
theorem dX0_key_58 : decode cX0_key 58 = .ok (.invokevirtual 183, 3) := dk_182 0 183 (dk_at dksX0_key_2 6 rfl rfl)
theorem dX0_key_61 : decode cX0_key 61 = .ok (.ireturn, 1) := dk_172 (dk_at dksX0_key_2 9 rfl rfl)
theorem dX0_key_62 : decode cX0_key 62 = .ok (.aload_n 0, 1) := dk_42 (dk_at dksX0_key_2 10 rfl rfl)
theorem dX0_key_63 : decode cX0_key 63 = .ok (.iload_n 1, 1) := dk_27 (dk_at dksX0_key_2 11 rfl rfl)
theorem dX0_key_64 : decode cX0_key 64 = .ok (.invokevirtual 154, 3) := dk_182 0 154 (dk_at dksX0_key_2 12 rfl rfl)
theorem dX0_key_67 : decode cX0_key 67 = .ok (.iload_n 2, 1) := dk_28 (dk_at dksX0_key_2 15 rfl rfl)
theorem dX0_key_68 : decode cX0_key 68 = .ok (.invokevirtual 186, 3) := dk_182 0 186 (dk_at dksX0_key_2 16 rfl rfl)
theorem dX0_key_71 : decode cX0_key 71 = .ok (.ireturn, 1) := dk_172 (dk_at dksX0_key_2 19 rfl rfl)
theorem dX0_key_72 : decode cX0_key 72 = .ok (.iload_n 2, 1) := dk_28 (dk_at dksX0_key_2 20 rfl rfl)
theorem dX0_key_73 : decode cX0_key 73 = .ok (.aload_n 0, 1) := dk_42 (dk_at dksX0_key_2 21 rfl rfl)
theorem dX0_key_74 : decode cX0_key 74 = .ok (.getfield 22, 3) := dk_180 0 22 (dk_at dksX0_key_3 0 rfl rfl)
theorem dX0_key_77 : decode cX0_key 77 = .ok (.getfield 189, 3) := dk_180 0 189 (dk_at dksX0_key_3 3 rfl rfl)
theorem dX0_key_80 : decode cX0_key 80 = .ok (.iconst 3, 1) := dk_6 (dk_at dksX0_key_3 6 rfl rfl)
theorem dX0_key_81 : decode cX0_key 81 = .ok (.iaload, 1) := dk_46 (dk_at dksX0_key_3 7 rfl rfl)
theorem dX0_key_82 : decode cX0_key 82 = .ok (.invokestatic 192, 3) := dk_184 0 192 (dk_at dksX0_key_3 8 rfl rfl)
theorem dX0_key_85 : decode cX0_key 85 = .ok (.ireturn, 1) := dk_172 (dk_at dksX0_key_3 11 rfl rfl)
theorem dX0_key_86 : decode cX0_key 86 = .ok (.aload_n 0, 1) := dk_42 (dk_at dksX0_key_3 12 rfl rfl)
theorem dX0_key_87 : decode cX0_key 87 = .ok (.iload_n 1, 1) := dk_27 (dk_at dksX0_key_3 13 rfl rfl)
theorem dX0_key_88 : decode cX0_key 88 = .ok (.iload_n 2, 1) := dk_28 (dk_at dksX0_key_3 14 rfl rfl)
theorem dX0_key_89 : decode cX0_key 89 = .ok (.invokevirtual 195, 3) := dk_182 0 195 (dk_at dksX0_key_3 15 rfl rfl)
theorem dX0_key_92 : decode cX0_key 92 = .ok (.ireturn, 1) := dk_172 (dk_at dksX0_key_3 18 rfl rfl)
theorem dX0_key_93 : decode cX0_key 93 = .ok (.aload_n 0, 1) := dk_42 (dk_at dksX0_key_3 19 rfl rfl)
theorem dX0_key_94 : decode cX0_key 94 = .ok (.iload_n 1, 1) := dk_27 (dk_at dksX0_key_3 20 rfl rfl)
theorem dX0_key_95 : decode cX0_key 95 = .ok (.iload_n 2, 1) := dk_28 (dk_at dksX0_key_3 21 rfl rfl)
theorem dX0_key_96 : decode cX0_key 96 = .ok (.invokevirtual 197, 3) := dk_182 0 197 (dk_at dksX0_key_4 0 rfl rfl)
theorem dX0_key_99 : decode cX0_key 99 = .ok (.ifCond .eq 7, 3) := dk_153 0 7 (dk_at dksX0_key_4 3 rfl rfl)
theorem dX0_key_102 : decode cX0_key 102 = .ok (.iconst 1, 1) := dk_4 (dk_at dksX0_key_4 6 rfl rfl)
theorem dX0_key_103 : decode cX0_key 103 = .ok (.goto 4, 3) := dk_167 0 4 (dk_at dksX0_key_4 7 rfl rfl)
theorem dX0_key_106 : decode cX0_key 106 = .ok (.iconst 0, 1) := dk_3 (dk_at dksX0_key_4 10 rfl rfl)
theorem dX0_key_107 : decode cX0_key 107 = .ok (.ireturn, 1) := dk_172 (dk_at dksX0_key_4 11 rfl rfl)
theorem dX0_key_108 : decode cX0_key 108 = .ok (.iconst (-1), 1) := dk_2 (dk_at dksX0_key_4 12 rfl rfl)
theorem dX0_key_109 : decode cX0_key 109 = .ok (.ireturn, 1) := dk_172 (dk_at dksX0_key_4 13 rfl rfl)
abbrev cX0_isKey : ByteArray := prog_1_method_4_code
def yX0_isKey : MethodName := ⟨RX0, "isKey", "(I)Z"⟩
def dkwX0_isKey_0 : List UInt8 := [26, 133, 9, 20, 0, 9, 184, 0, 5, 172]
abbrev dktX0_isKey_0 : List UInt8 := dkwX0_isKey_0 ++ []
theorem dksX0_isKey_0 : cX0_isKey.data.toList.drop 0 = dktX0_isKey_0 := by decide +kernel
theorem dX0_isKey_0 : decode cX0_isKey 0 = .ok (.iload_n 0, 1) := dk_26 (dk_at dksX0_isKey_0 0 rfl rfl)
theorem dX0_isKey_1 : decode cX0_isKey 1 = .ok (.i2l, 1) := dk_133 (dk_at dksX0_isKey_0 1 rfl rfl)
theorem dX0_isKey_2 : decode cX0_isKey 2 = .ok (.lconst 0, 1) := dk_9 (dk_at dksX0_isKey_0 2 rfl rfl)
theorem dX0_isKey_3 : decode cX0_isKey 3 = .ok (.ldc2_w 9, 3) := dk_20 0 9 (dk_at dksX0_isKey_0 3 rfl rfl)
theorem dX0_isKey_6 : decode cX0_isKey 6 = .ok (.invokestatic 5, 3) := dk_184 0 5 (dk_at dksX0_isKey_0 6 rfl rfl)
theorem dX0_isKey_9 : decode cX0_isKey 9 = .ok (.ireturn, 1) := dk_172 (dk_at dksX0_isKey_0 9 rfl rfl)
abbrev cX0_hashOf : ByteArray := prog_1_method_6_code
def yX0_hashOf : MethodName := ⟨RX0, "hashOf", "(II)I"⟩
def dkwX0_hashOf_0 : List UInt8 := [17, 2, 105, 26, 104, 27, 96, 17, 3, 232, 112, 172]
abbrev dktX0_hashOf_0 : List UInt8 := dkwX0_hashOf_0 ++ []
theorem dksX0_hashOf_0 : cX0_hashOf.data.toList.drop 0 = dktX0_hashOf_0 := by decide +kernel
theorem dX0_hashOf_0 : decode cX0_hashOf 0 = .ok (.sipush 617, 3) := dk_17 2 105 (dk_at dksX0_hashOf_0 0 rfl rfl)
theorem dX0_hashOf_3 : decode cX0_hashOf 3 = .ok (.iload_n 0, 1) := dk_26 (dk_at dksX0_hashOf_0 3 rfl rfl)
theorem dX0_hashOf_4 : decode cX0_hashOf 4 = .ok (.imul, 1) := dk_104 (dk_at dksX0_hashOf_0 4 rfl rfl)
theorem dX0_hashOf_5 : decode cX0_hashOf 5 = .ok (.iload_n 1, 1) := dk_27 (dk_at dksX0_hashOf_0 5 rfl rfl)
theorem dX0_hashOf_6 : decode cX0_hashOf 6 = .ok (.iadd, 1) := dk_96 (dk_at dksX0_hashOf_0 6 rfl rfl)
theorem dX0_hashOf_7 : decode cX0_hashOf 7 = .ok (.sipush 1000, 3) := dk_17 3 232 (dk_at dksX0_hashOf_0 7 rfl rfl)
theorem dX0_hashOf_10 : decode cX0_hashOf 10 = .ok (.irem, 1) := dk_112 (dk_at dksX0_hashOf_0 10 rfl rfl)
theorem dX0_hashOf_11 : decode cX0_hashOf 11 = .ok (.ireturn, 1) := dk_172 (dk_at dksX0_hashOf_0 11 rfl rfl)
abbrev cX0_costs : ByteArray := prog_1_method_36_code
def yX0_costs : MethodName := ⟨RX0, "costs", "(II)I"⟩
def dkwX0_costs_0 : List UInt8 := [42, 27, 28, 182, 1, 51, 42, 182, 1, 55, 3, 42, 180, 0, 53, 4, 16, 99, 182, 1, 58, 172]
abbrev dktX0_costs_0 : List UInt8 := dkwX0_costs_0 ++ []
theorem dksX0_costs_0 : cX0_costs.data.toList.drop 0 = dktX0_costs_0 := by decide +kernel
theorem dX0_costs_0 : decode cX0_costs 0 = .ok (.aload_n 0, 1) := dk_42 (dk_at dksX0_costs_0 0 rfl rfl)
theorem dX0_costs_1 : decode cX0_costs 1 = .ok (.iload_n 1, 1) := dk_27 (dk_at dksX0_costs_0 1 rfl rfl)
theorem dX0_costs_2 : decode cX0_costs 2 = .ok (.iload_n 2, 1) := dk_28 (dk_at dksX0_costs_0 2 rfl rfl)
theorem dX0_costs_3 : decode cX0_costs 3 = .ok (.invokevirtual 307, 3) := dk_182 1 51 (dk_at dksX0_costs_0 3 rfl rfl)
theorem dX0_costs_6 : decode cX0_costs 6 = .ok (.aload_n 0, 1) := dk_42 (dk_at dksX0_costs_0 6 rfl rfl)
theorem dX0_costs_7 : decode cX0_costs 7 = .ok (.invokevirtual 311, 3) := dk_182 1 55 (dk_at dksX0_costs_0 7 rfl rfl)
theorem dX0_costs_10 : decode cX0_costs 10 = .ok (.iconst 0, 1) := dk_3 (dk_at dksX0_costs_0 10 rfl rfl)
theorem dX0_costs_11 : decode cX0_costs 11 = .ok (.aload_n 0, 1) := dk_42 (dk_at dksX0_costs_0 11 rfl rfl)
theorem dX0_costs_12 : decode cX0_costs 12 = .ok (.getfield 53, 3) := dk_180 0 53 (dk_at dksX0_costs_0 12 rfl rfl)
theorem dX0_costs_15 : decode cX0_costs 15 = .ok (.iconst 1, 1) := dk_4 (dk_at dksX0_costs_0 15 rfl rfl)
theorem dX0_costs_16 : decode cX0_costs 16 = .ok (.bipush 99, 2) := dk_16 99 (dk_at dksX0_costs_0 16 rfl rfl)
theorem dX0_costs_18 : decode cX0_costs 18 = .ok (.invokevirtual 314, 3) := dk_182 1 58 (dk_at dksX0_costs_0 18 rfl rfl)
theorem dX0_costs_21 : decode cX0_costs 21 = .ok (.ireturn, 1) := dk_172 (dk_at dksX0_costs_0 21 rfl rfl)
abbrev cX0_about : ByteArray := prog_1_method_35_code
def yX0_about : MethodName := ⟨RX0, "about", "(II)V"⟩
def dkwX0_about_4 : List UInt8 := [46, 133, 80, 177]
abbrev dktX0_about_4 : List UInt8 := dkwX0_about_4 ++ []
def dkwX0_about_3 : List UInt8 := [182, 0, 136, 180, 0, 205, 133, 80, 42, 180, 0, 53, 180, 1, 44, 8, 42, 180, 0, 22, 180, 0, 189, 5]
abbrev dktX0_about_3 : List UInt8 := dkwX0_about_3 ++ dktX0_about_4
def dkwX0_about_2 : List UInt8 := [180, 1, 44, 6, 42, 27, 182, 0, 154, 28, 182, 0, 183, 133, 80, 42, 180, 0, 53, 180, 1, 44, 7, 42]
abbrev dktX0_about_2 : List UInt8 := dkwX0_about_2 ++ dktX0_about_3
def dkwX0_about_1 : List UInt8 := [180, 0, 53, 180, 1, 44, 5, 42, 27, 182, 0, 154, 28, 182, 1, 48, 133, 80, 42, 180, 0, 53]
abbrev dktX0_about_1 : List UInt8 := dkwX0_about_1 ++ dktX0_about_2
def dkwX0_about_0 : List UInt8 := [42, 180, 0, 53, 180, 1, 44, 3, 27, 133, 80, 42, 180, 0, 53, 180, 1, 44, 4, 28, 133, 80, 42]
abbrev dktX0_about_0 : List UInt8 := dkwX0_about_0 ++ dktX0_about_1
theorem dksX0_about_0 : cX0_about.data.toList.drop 0 = dktX0_about_0 := by decide +kernel
theorem dksX0_about_1 : cX0_about.data.toList.drop 23 = dktX0_about_1 := dk_seg dksX0_about_0 23 rfl rfl
theorem dksX0_about_2 : cX0_about.data.toList.drop 45 = dktX0_about_2 := dk_seg dksX0_about_1 22 rfl rfl
theorem dksX0_about_3 : cX0_about.data.toList.drop 69 = dktX0_about_3 := dk_seg dksX0_about_2 24 rfl rfl
theorem dksX0_about_4 : cX0_about.data.toList.drop 93 = dktX0_about_4 := dk_seg dksX0_about_3 24 rfl rfl
theorem dX0_about_0 : decode cX0_about 0 = .ok (.aload_n 0, 1) := dk_42 (dk_at dksX0_about_0 0 rfl rfl)
theorem dX0_about_1 : decode cX0_about 1 = .ok (.getfield 53, 3) := dk_180 0 53 (dk_at dksX0_about_0 1 rfl rfl)
theorem dX0_about_4 : decode cX0_about 4 = .ok (.getfield 300, 3) := dk_180 1 44 (dk_at dksX0_about_0 4 rfl rfl)
theorem dX0_about_7 : decode cX0_about 7 = .ok (.iconst 0, 1) := dk_3 (dk_at dksX0_about_0 7 rfl rfl)
theorem dX0_about_8 : decode cX0_about 8 = .ok (.iload_n 1, 1) := dk_27 (dk_at dksX0_about_0 8 rfl rfl)
theorem dX0_about_9 : decode cX0_about 9 = .ok (.i2l, 1) := dk_133 (dk_at dksX0_about_0 9 rfl rfl)
theorem dX0_about_10 : decode cX0_about 10 = .ok (.lastore, 1) := dk_80 (dk_at dksX0_about_0 10 rfl rfl)
theorem dX0_about_11 : decode cX0_about 11 = .ok (.aload_n 0, 1) := dk_42 (dk_at dksX0_about_0 11 rfl rfl)
theorem dX0_about_12 : decode cX0_about 12 = .ok (.getfield 53, 3) := dk_180 0 53 (dk_at dksX0_about_0 12 rfl rfl)
theorem dX0_about_15 : decode cX0_about 15 = .ok (.getfield 300, 3) := dk_180 1 44 (dk_at dksX0_about_0 15 rfl rfl)
theorem dX0_about_18 : decode cX0_about 18 = .ok (.iconst 1, 1) := dk_4 (dk_at dksX0_about_0 18 rfl rfl)
theorem dX0_about_19 : decode cX0_about 19 = .ok (.iload_n 2, 1) := dk_28 (dk_at dksX0_about_0 19 rfl rfl)
theorem dX0_about_20 : decode cX0_about 20 = .ok (.i2l, 1) := dk_133 (dk_at dksX0_about_0 20 rfl rfl)
theorem dX0_about_21 : decode cX0_about 21 = .ok (.lastore, 1) := dk_80 (dk_at dksX0_about_0 21 rfl rfl)
theorem dX0_about_22 : decode cX0_about 22 = .ok (.aload_n 0, 1) := dk_42 (dk_at dksX0_about_0 22 rfl rfl)
theorem dX0_about_23 : decode cX0_about 23 = .ok (.getfield 53, 3) := dk_180 0 53 (dk_at dksX0_about_1 0 rfl rfl)
theorem dX0_about_26 : decode cX0_about 26 = .ok (.getfield 300, 3) := dk_180 1 44 (dk_at dksX0_about_1 3 rfl rfl)
theorem dX0_about_29 : decode cX0_about 29 = .ok (.iconst 2, 1) := dk_5 (dk_at dksX0_about_1 6 rfl rfl)
theorem dX0_about_30 : decode cX0_about 30 = .ok (.aload_n 0, 1) := dk_42 (dk_at dksX0_about_1 7 rfl rfl)
theorem dX0_about_31 : decode cX0_about 31 = .ok (.iload_n 1, 1) := dk_27 (dk_at dksX0_about_1 8 rfl rfl)
theorem dX0_about_32 : decode cX0_about 32 = .ok (.invokevirtual 154, 3) := dk_182 0 154 (dk_at dksX0_about_1 9 rfl rfl)
theorem dX0_about_35 : decode cX0_about 35 = .ok (.iload_n 2, 1) := dk_28 (dk_at dksX0_about_1 12 rfl rfl)
theorem dX0_about_36 : decode cX0_about 36 = .ok (.invokevirtual 304, 3) := dk_182 1 48 (dk_at dksX0_about_1 13 rfl rfl)
theorem dX0_about_39 : decode cX0_about 39 = .ok (.i2l, 1) := dk_133 (dk_at dksX0_about_1 16 rfl rfl)
theorem dX0_about_40 : decode cX0_about 40 = .ok (.lastore, 1) := dk_80 (dk_at dksX0_about_1 17 rfl rfl)
theorem dX0_about_41 : decode cX0_about 41 = .ok (.aload_n 0, 1) := dk_42 (dk_at dksX0_about_1 18 rfl rfl)
theorem dX0_about_42 : decode cX0_about 42 = .ok (.getfield 53, 3) := dk_180 0 53 (dk_at dksX0_about_1 19 rfl rfl)
theorem dX0_about_45 : decode cX0_about 45 = .ok (.getfield 300, 3) := dk_180 1 44 (dk_at dksX0_about_2 0 rfl rfl)
theorem dX0_about_48 : decode cX0_about 48 = .ok (.iconst 3, 1) := dk_6 (dk_at dksX0_about_2 3 rfl rfl)
theorem dX0_about_49 : decode cX0_about 49 = .ok (.aload_n 0, 1) := dk_42 (dk_at dksX0_about_2 4 rfl rfl)
theorem dX0_about_50 : decode cX0_about 50 = .ok (.iload_n 1, 1) := dk_27 (dk_at dksX0_about_2 5 rfl rfl)
theorem dX0_about_51 : decode cX0_about 51 = .ok (.invokevirtual 154, 3) := dk_182 0 154 (dk_at dksX0_about_2 6 rfl rfl)
theorem dX0_about_54 : decode cX0_about 54 = .ok (.iload_n 2, 1) := dk_28 (dk_at dksX0_about_2 9 rfl rfl)
theorem dX0_about_55 : decode cX0_about 55 = .ok (.invokevirtual 183, 3) := dk_182 0 183 (dk_at dksX0_about_2 10 rfl rfl)
theorem dX0_about_58 : decode cX0_about 58 = .ok (.i2l, 1) := dk_133 (dk_at dksX0_about_2 13 rfl rfl)
theorem dX0_about_59 : decode cX0_about 59 = .ok (.lastore, 1) := dk_80 (dk_at dksX0_about_2 14 rfl rfl)
theorem dX0_about_60 : decode cX0_about 60 = .ok (.aload_n 0, 1) := dk_42 (dk_at dksX0_about_2 15 rfl rfl)
theorem dX0_about_61 : decode cX0_about 61 = .ok (.getfield 53, 3) := dk_180 0 53 (dk_at dksX0_about_2 16 rfl rfl)
theorem dX0_about_64 : decode cX0_about 64 = .ok (.getfield 300, 3) := dk_180 1 44 (dk_at dksX0_about_2 19 rfl rfl)
theorem dX0_about_67 : decode cX0_about 67 = .ok (.iconst 4, 1) := dk_7 (dk_at dksX0_about_2 22 rfl rfl)
theorem dX0_about_68 : decode cX0_about 68 = .ok (.aload_n 0, 1) := dk_42 (dk_at dksX0_about_2 23 rfl rfl)
theorem dX0_about_69 : decode cX0_about 69 = .ok (.invokevirtual 136, 3) := dk_182 0 136 (dk_at dksX0_about_3 0 rfl rfl)
theorem dX0_about_72 : decode cX0_about 72 = .ok (.getfield 205, 3) := dk_180 0 205 (dk_at dksX0_about_3 3 rfl rfl)
theorem dX0_about_75 : decode cX0_about 75 = .ok (.i2l, 1) := dk_133 (dk_at dksX0_about_3 6 rfl rfl)
theorem dX0_about_76 : decode cX0_about 76 = .ok (.lastore, 1) := dk_80 (dk_at dksX0_about_3 7 rfl rfl)
theorem dX0_about_77 : decode cX0_about 77 = .ok (.aload_n 0, 1) := dk_42 (dk_at dksX0_about_3 8 rfl rfl)
theorem dX0_about_78 : decode cX0_about 78 = .ok (.getfield 53, 3) := dk_180 0 53 (dk_at dksX0_about_3 9 rfl rfl)
theorem dX0_about_81 : decode cX0_about 81 = .ok (.getfield 300, 3) := dk_180 1 44 (dk_at dksX0_about_3 12 rfl rfl)
theorem dX0_about_84 : decode cX0_about 84 = .ok (.iconst 5, 1) := dk_8 (dk_at dksX0_about_3 15 rfl rfl)
theorem dX0_about_85 : decode cX0_about 85 = .ok (.aload_n 0, 1) := dk_42 (dk_at dksX0_about_3 16 rfl rfl)
theorem dX0_about_86 : decode cX0_about 86 = .ok (.getfield 22, 3) := dk_180 0 22 (dk_at dksX0_about_3 17 rfl rfl)
theorem dX0_about_89 : decode cX0_about 89 = .ok (.getfield 189, 3) := dk_180 0 189 (dk_at dksX0_about_3 20 rfl rfl)
theorem dX0_about_92 : decode cX0_about 92 = .ok (.iconst 2, 1) := dk_5 (dk_at dksX0_about_3 23 rfl rfl)
theorem dX0_about_93 : decode cX0_about 93 = .ok (.iaload, 1) := dk_46 (dk_at dksX0_about_4 0 rfl rfl)
theorem dX0_about_94 : decode cX0_about 94 = .ok (.i2l, 1) := dk_133 (dk_at dksX0_about_4 1 rfl rfl)
theorem dX0_about_95 : decode cX0_about 95 = .ok (.lastore, 1) := dk_80 (dk_at dksX0_about_4 2 rfl rfl)
theorem dX0_about_96 : decode cX0_about 96 = .ok (.return_, 1) := dk_177 (dk_at dksX0_about_4 3 rfl rfl)
abbrev cX0_law1 : ByteArray := prog_1_method_34_code
def yX0_law1 : MethodName := ⟨RX0, "law1", "()LMissCurves$Text;"⟩
def dkwX0_law1_1 : List UInt8 := [180, 1, 8, 42, 180, 0, 22, 180, 1, 37, 182, 1, 40, 192, 0, 60, 176]
abbrev dktX0_law1_1 : List UInt8 := dkwX0_law1_1 ++ []
def dkwX0_law1_0 : List UInt8 := [42, 180, 0, 22, 180, 1, 37, 2, 160, 0, 10, 42, 180, 0, 67, 167, 0, 23, 42, 180, 0, 22]
abbrev dktX0_law1_0 : List UInt8 := dkwX0_law1_0 ++ dktX0_law1_1
theorem dksX0_law1_0 : cX0_law1.data.toList.drop 0 = dktX0_law1_0 := by decide +kernel
theorem dksX0_law1_1 : cX0_law1.data.toList.drop 22 = dktX0_law1_1 := dk_seg dksX0_law1_0 22 rfl rfl
theorem dX0_law1_0 : decode cX0_law1 0 = .ok (.aload_n 0, 1) := dk_42 (dk_at dksX0_law1_0 0 rfl rfl)
theorem dX0_law1_1 : decode cX0_law1 1 = .ok (.getfield 22, 3) := dk_180 0 22 (dk_at dksX0_law1_0 1 rfl rfl)
theorem dX0_law1_4 : decode cX0_law1 4 = .ok (.getfield 293, 3) := dk_180 1 37 (dk_at dksX0_law1_0 4 rfl rfl)
theorem dX0_law1_7 : decode cX0_law1 7 = .ok (.iconst (-1), 1) := dk_2 (dk_at dksX0_law1_0 7 rfl rfl)
theorem dX0_law1_8 : decode cX0_law1 8 = .ok (.if_icmp .ne 10, 3) := dk_160 0 10 (dk_at dksX0_law1_0 8 rfl rfl)
theorem dX0_law1_11 : decode cX0_law1 11 = .ok (.aload_n 0, 1) := dk_42 (dk_at dksX0_law1_0 11 rfl rfl)
theorem dX0_law1_12 : decode cX0_law1 12 = .ok (.getfield 67, 3) := dk_180 0 67 (dk_at dksX0_law1_0 12 rfl rfl)
theorem dX0_law1_15 : decode cX0_law1 15 = .ok (.goto 23, 3) := dk_167 0 23 (dk_at dksX0_law1_0 15 rfl rfl)
theorem dX0_law1_18 : decode cX0_law1 18 = .ok (.aload_n 0, 1) := dk_42 (dk_at dksX0_law1_0 18 rfl rfl)
theorem dX0_law1_19 : decode cX0_law1 19 = .ok (.getfield 22, 3) := dk_180 0 22 (dk_at dksX0_law1_0 19 rfl rfl)
theorem dX0_law1_22 : decode cX0_law1 22 = .ok (.getfield 264, 3) := dk_180 1 8 (dk_at dksX0_law1_1 0 rfl rfl)
theorem dX0_law1_25 : decode cX0_law1 25 = .ok (.aload_n 0, 1) := dk_42 (dk_at dksX0_law1_1 3 rfl rfl)
theorem dX0_law1_26 : decode cX0_law1 26 = .ok (.getfield 22, 3) := dk_180 0 22 (dk_at dksX0_law1_1 4 rfl rfl)
theorem dX0_law1_29 : decode cX0_law1 29 = .ok (.getfield 293, 3) := dk_180 1 37 (dk_at dksX0_law1_1 7 rfl rfl)
theorem dX0_law1_32 : decode cX0_law1 32 = .ok (.invokevirtual 296, 3) := dk_182 1 40 (dk_at dksX0_law1_1 10 rfl rfl)
theorem dX0_law1_35 : decode cX0_law1 35 = .ok (.checkcast 60, 3) := dk_192 0 60 (dk_at dksX0_law1_1 13 rfl rfl)
theorem dX0_law1_38 : decode cX0_law1 38 = .ok (.areturn, 1) := dk_176 (dk_at dksX0_law1_1 16 rfl rfl)
abbrev cX0_isBarred : ByteArray := prog_1_method_37_code
def yX0_isBarred : MethodName := ⟨RX0, "isBarred", "(II)Z"⟩
def dkwX0_isBarred_0 : List UInt8 := [42, 27, 28, 182, 1, 51, 42, 182, 1, 55, 4, 42, 180, 0, 53, 182, 1, 62, 172]
abbrev dktX0_isBarred_0 : List UInt8 := dkwX0_isBarred_0 ++ []
theorem dksX0_isBarred_0 : cX0_isBarred.data.toList.drop 0 = dktX0_isBarred_0 := by decide +kernel
theorem dX0_isBarred_0 : decode cX0_isBarred 0 = .ok (.aload_n 0, 1) := dk_42 (dk_at dksX0_isBarred_0 0 rfl rfl)
theorem dX0_isBarred_1 : decode cX0_isBarred 1 = .ok (.iload_n 1, 1) := dk_27 (dk_at dksX0_isBarred_0 1 rfl rfl)
theorem dX0_isBarred_2 : decode cX0_isBarred 2 = .ok (.iload_n 2, 1) := dk_28 (dk_at dksX0_isBarred_0 2 rfl rfl)
theorem dX0_isBarred_3 : decode cX0_isBarred 3 = .ok (.invokevirtual 307, 3) := dk_182 1 51 (dk_at dksX0_isBarred_0 3 rfl rfl)
theorem dX0_isBarred_6 : decode cX0_isBarred 6 = .ok (.aload_n 0, 1) := dk_42 (dk_at dksX0_isBarred_0 6 rfl rfl)
theorem dX0_isBarred_7 : decode cX0_isBarred 7 = .ok (.invokevirtual 311, 3) := dk_182 1 55 (dk_at dksX0_isBarred_0 7 rfl rfl)
theorem dX0_isBarred_10 : decode cX0_isBarred 10 = .ok (.iconst 1, 1) := dk_4 (dk_at dksX0_isBarred_0 10 rfl rfl)
theorem dX0_isBarred_11 : decode cX0_isBarred 11 = .ok (.aload_n 0, 1) := dk_42 (dk_at dksX0_isBarred_0 11 rfl rfl)
theorem dX0_isBarred_12 : decode cX0_isBarred 12 = .ok (.getfield 53, 3) := dk_180 0 53 (dk_at dksX0_isBarred_0 12 rfl rfl)
theorem dX0_isBarred_15 : decode cX0_isBarred 15 = .ok (.invokevirtual 318, 3) := dk_182 1 62 (dk_at dksX0_isBarred_0 15 rfl rfl)
theorem dX0_isBarred_18 : decode cX0_isBarred 18 = .ok (.ireturn, 1) := dk_172 (dk_at dksX0_isBarred_0 18 rfl rfl)
abbrev cX0_terms : ByteArray := prog_1_method_23_code
def yX0_terms : MethodName := ⟨RX0, "terms", "(II)I"⟩
def dkwX0_terms_4 : List UInt8 := [180, 0, 33, 3, 181, 0, 126, 42, 29, 182, 0, 217, 172]
abbrev dktX0_terms_4 : List UInt8 := dkwX0_terms_4 ++ []
def dkwX0_terms_3 : List UInt8 := [162, 0, 21, 25, 4, 21, 6, 50, 58, 7, 25, 7, 182, 0, 214, 132, 6, 1, 167, 255, 234, 42]
abbrev dktX0_terms_3 : List UInt8 := dkwX0_terms_3 ++ dktX0_terms_4
def dkwX0_terms_2 : List UInt8 := [160, 0, 45, 42, 182, 0, 136, 180, 0, 139, 58, 4, 25, 4, 190, 54, 5, 3, 54, 6, 21, 6, 21, 5]
abbrev dktX0_terms_2 : List UInt8 := dkwX0_terms_2 ++ dktX0_terms_3
def dkwX0_terms_1 : List UInt8 := [42, 182, 0, 136, 28, 181, 0, 205, 167, 0, 13, 42, 180, 0, 22, 180, 0, 189, 27, 28, 79, 27, 6]
abbrev dktX0_terms_1 : List UInt8 := dkwX0_terms_1 ++ dktX0_terms_2
def dkwX0_terms_0 : List UInt8 := [27, 28, 184, 0, 208, 154, 0, 9, 42, 2, 182, 0, 129, 172, 42, 27, 182, 0, 211, 62, 27, 154, 0, 14]
abbrev dktX0_terms_0 : List UInt8 := dkwX0_terms_0 ++ dktX0_terms_1
theorem dksX0_terms_0 : cX0_terms.data.toList.drop 0 = dktX0_terms_0 := by decide +kernel
theorem dksX0_terms_1 : cX0_terms.data.toList.drop 24 = dktX0_terms_1 := dk_seg dksX0_terms_0 24 rfl rfl
theorem dksX0_terms_2 : cX0_terms.data.toList.drop 47 = dktX0_terms_2 := dk_seg dksX0_terms_1 23 rfl rfl
theorem dksX0_terms_3 : cX0_terms.data.toList.drop 71 = dktX0_terms_3 := dk_seg dksX0_terms_2 24 rfl rfl
theorem dksX0_terms_4 : cX0_terms.data.toList.drop 93 = dktX0_terms_4 := dk_seg dksX0_terms_3 22 rfl rfl
theorem dX0_terms_0 : decode cX0_terms 0 = .ok (.iload_n 1, 1) := dk_27 (dk_at dksX0_terms_0 0 rfl rfl)
theorem dX0_terms_1 : decode cX0_terms 1 = .ok (.iload_n 2, 1) := dk_28 (dk_at dksX0_terms_0 1 rfl rfl)
theorem dX0_terms_2 : decode cX0_terms 2 = .ok (.invokestatic 208, 3) := dk_184 0 208 (dk_at dksX0_terms_0 2 rfl rfl)
theorem dX0_terms_5 : decode cX0_terms 5 = .ok (.ifCond .ne 9, 3) := dk_154 0 9 (dk_at dksX0_terms_0 5 rfl rfl)
theorem dX0_terms_8 : decode cX0_terms 8 = .ok (.aload_n 0, 1) := dk_42 (dk_at dksX0_terms_0 8 rfl rfl)
theorem dX0_terms_9 : decode cX0_terms 9 = .ok (.iconst (-1), 1) := dk_2 (dk_at dksX0_terms_0 9 rfl rfl)
theorem dX0_terms_10 : decode cX0_terms 10 = .ok (.invokevirtual 129, 3) := dk_182 0 129 (dk_at dksX0_terms_0 10 rfl rfl)
theorem dX0_terms_13 : decode cX0_terms 13 = .ok (.ireturn, 1) := dk_172 (dk_at dksX0_terms_0 13 rfl rfl)
theorem dX0_terms_14 : decode cX0_terms 14 = .ok (.aload_n 0, 1) := dk_42 (dk_at dksX0_terms_0 14 rfl rfl)
theorem dX0_terms_15 : decode cX0_terms 15 = .ok (.iload_n 1, 1) := dk_27 (dk_at dksX0_terms_0 15 rfl rfl)
theorem dX0_terms_16 : decode cX0_terms 16 = .ok (.invokevirtual 211, 3) := dk_182 0 211 (dk_at dksX0_terms_0 16 rfl rfl)
theorem dX0_terms_19 : decode cX0_terms 19 = .ok (.istore_n 3, 1) := dk_62 (dk_at dksX0_terms_0 19 rfl rfl)
theorem dX0_terms_20 : decode cX0_terms 20 = .ok (.iload_n 1, 1) := dk_27 (dk_at dksX0_terms_0 20 rfl rfl)
theorem dX0_terms_21 : decode cX0_terms 21 = .ok (.ifCond .ne 14, 3) := dk_154 0 14 (dk_at dksX0_terms_0 21 rfl rfl)
theorem dX0_terms_24 : decode cX0_terms 24 = .ok (.aload_n 0, 1) := dk_42 (dk_at dksX0_terms_1 0 rfl rfl)
theorem dX0_terms_25 : decode cX0_terms 25 = .ok (.invokevirtual 136, 3) := dk_182 0 136 (dk_at dksX0_terms_1 1 rfl rfl)
theorem dX0_terms_28 : decode cX0_terms 28 = .ok (.iload_n 2, 1) := dk_28 (dk_at dksX0_terms_1 4 rfl rfl)
theorem dX0_terms_29 : decode cX0_terms 29 = .ok (.putfield 205, 3) := dk_181 0 205 (dk_at dksX0_terms_1 5 rfl rfl)
theorem dX0_terms_32 : decode cX0_terms 32 = .ok (.goto 13, 3) := dk_167 0 13 (dk_at dksX0_terms_1 8 rfl rfl)
theorem dX0_terms_35 : decode cX0_terms 35 = .ok (.aload_n 0, 1) := dk_42 (dk_at dksX0_terms_1 11 rfl rfl)
theorem dX0_terms_36 : decode cX0_terms 36 = .ok (.getfield 22, 3) := dk_180 0 22 (dk_at dksX0_terms_1 12 rfl rfl)
theorem dX0_terms_39 : decode cX0_terms 39 = .ok (.getfield 189, 3) := dk_180 0 189 (dk_at dksX0_terms_1 15 rfl rfl)
theorem dX0_terms_42 : decode cX0_terms 42 = .ok (.iload_n 1, 1) := dk_27 (dk_at dksX0_terms_1 18 rfl rfl)
theorem dX0_terms_43 : decode cX0_terms 43 = .ok (.iload_n 2, 1) := dk_28 (dk_at dksX0_terms_1 19 rfl rfl)
theorem dX0_terms_44 : decode cX0_terms 44 = .ok (.iastore, 1) := dk_79 (dk_at dksX0_terms_1 20 rfl rfl)
theorem dX0_terms_45 : decode cX0_terms 45 = .ok (.iload_n 1, 1) := dk_27 (dk_at dksX0_terms_1 21 rfl rfl)
theorem dX0_terms_46 : decode cX0_terms 46 = .ok (.iconst 3, 1) := dk_6 (dk_at dksX0_terms_1 22 rfl rfl)
theorem dX0_terms_47 : decode cX0_terms 47 = .ok (.if_icmp .ne 45, 3) := dk_160 0 45 (dk_at dksX0_terms_2 0 rfl rfl)
theorem dX0_terms_50 : decode cX0_terms 50 = .ok (.aload_n 0, 1) := dk_42 (dk_at dksX0_terms_2 3 rfl rfl)
theorem dX0_terms_51 : decode cX0_terms 51 = .ok (.invokevirtual 136, 3) := dk_182 0 136 (dk_at dksX0_terms_2 4 rfl rfl)
theorem dX0_terms_54 : decode cX0_terms 54 = .ok (.getfield 139, 3) := dk_180 0 139 (dk_at dksX0_terms_2 7 rfl rfl)
theorem dX0_terms_57 : decode cX0_terms 57 = .ok (.astore 4, 2) := dk_58 4 (dk_at dksX0_terms_2 10 rfl rfl)
theorem dX0_terms_59 : decode cX0_terms 59 = .ok (.aload 4, 2) := dk_25 4 (dk_at dksX0_terms_2 12 rfl rfl)
theorem dX0_terms_61 : decode cX0_terms 61 = .ok (.arraylength, 1) := dk_190 (dk_at dksX0_terms_2 14 rfl rfl)
theorem dX0_terms_62 : decode cX0_terms 62 = .ok (.istore 5, 2) := dk_54 5 (dk_at dksX0_terms_2 15 rfl rfl)
theorem dX0_terms_64 : decode cX0_terms 64 = .ok (.iconst 0, 1) := dk_3 (dk_at dksX0_terms_2 17 rfl rfl)
theorem dX0_terms_65 : decode cX0_terms 65 = .ok (.istore 6, 2) := dk_54 6 (dk_at dksX0_terms_2 18 rfl rfl)
theorem dX0_terms_67 : decode cX0_terms 67 = .ok (.iload 6, 2) := dk_21 6 (dk_at dksX0_terms_2 20 rfl rfl)
theorem dX0_terms_69 : decode cX0_terms 69 = .ok (.iload 5, 2) := dk_21 5 (dk_at dksX0_terms_2 22 rfl rfl)
theorem dX0_terms_71 : decode cX0_terms 71 = .ok (.if_icmp .ge 21, 3) := dk_162 0 21 (dk_at dksX0_terms_3 0 rfl rfl)
theorem dX0_terms_74 : decode cX0_terms 74 = .ok (.aload 4, 2) := dk_25 4 (dk_at dksX0_terms_3 3 rfl rfl)
theorem dX0_terms_76 : decode cX0_terms 76 = .ok (.iload 6, 2) := dk_21 6 (dk_at dksX0_terms_3 5 rfl rfl)
theorem dX0_terms_78 : decode cX0_terms 78 = .ok (.aaload, 1) := dk_50 (dk_at dksX0_terms_3 7 rfl rfl)
theorem dX0_terms_79 : decode cX0_terms 79 = .ok (.astore 7, 2) := dk_58 7 (dk_at dksX0_terms_3 8 rfl rfl)
theorem dX0_terms_81 : decode cX0_terms 81 = .ok (.aload 7, 2) := dk_25 7 (dk_at dksX0_terms_3 10 rfl rfl)
theorem dX0_terms_83 : decode cX0_terms 83 = .ok (.invokevirtual 214, 3) := dk_182 0 214 (dk_at dksX0_terms_3 12 rfl rfl)
theorem dX0_terms_86 : decode cX0_terms 86 = .ok (.iinc 6 1, 3) := dk_132 6 1 (dk_at dksX0_terms_3 15 rfl rfl)
theorem dX0_terms_89 : decode cX0_terms 89 = .ok (.goto (-22), 3) := dk_167 255 234 (dk_at dksX0_terms_3 18 rfl rfl)
theorem dX0_terms_92 : decode cX0_terms 92 = .ok (.aload_n 0, 1) := dk_42 (dk_at dksX0_terms_3 21 rfl rfl)
theorem dX0_terms_93 : decode cX0_terms 93 = .ok (.getfield 33, 3) := dk_180 0 33 (dk_at dksX0_terms_4 0 rfl rfl)
theorem dX0_terms_96 : decode cX0_terms 96 = .ok (.iconst 0, 1) := dk_3 (dk_at dksX0_terms_4 3 rfl rfl)
theorem dX0_terms_97 : decode cX0_terms 97 = .ok (.putfield 126, 3) := dk_181 0 126 (dk_at dksX0_terms_4 4 rfl rfl)
theorem dX0_terms_100 : decode cX0_terms 100 = .ok (.aload_n 0, 1) := dk_42 (dk_at dksX0_terms_4 7 rfl rfl)
theorem dX0_terms_101 : decode cX0_terms 101 = .ok (.iload_n 3, 1) := dk_29 (dk_at dksX0_terms_4 8 rfl rfl)
theorem dX0_terms_102 : decode cX0_terms 102 = .ok (.invokevirtual 217, 3) := dk_182 0 217 (dk_at dksX0_terms_4 9 rfl rfl)
theorem dX0_terms_105 : decode cX0_terms 105 = .ok (.ireturn, 1) := dk_172 (dk_at dksX0_terms_4 12 rfl rfl)
abbrev cX0_isTerm : ByteArray := prog_1_method_21_code
def yX0_isTerm : MethodName := ⟨RX0, "isTerm", "(II)Z"⟩
def dkwX0_isTerm_3 : List UInt8 := [20, 0, 203, 184, 0, 5, 172, 3, 172]
abbrev dktX0_isTerm_3 : List UInt8 := dkwX0_isTerm_3 ++ []
def dkwX0_isTerm_2 : List UInt8 := [27, 133, 9, 20, 0, 9, 184, 0, 5, 172, 27, 133, 9, 20, 0, 201, 184, 0, 5, 172, 27, 133, 9]
abbrev dktX0_isTerm_2 : List UInt8 := dkwX0_isTerm_2 ++ dktX0_isTerm_3
def dkwX0_isTerm_1 : List UInt8 := [170, 0, 0, 0, 0, 0, 61, 0, 0, 0, 0, 0, 0, 0, 3, 0, 0, 0, 31, 0, 0, 0, 41, 0, 0, 0, 51, 0, 0, 0, 31]
abbrev dktX0_isTerm_1 : List UInt8 := dkwX0_isTerm_1 ++ dktX0_isTerm_2
def dkwX0_isTerm_0 : List UInt8 := [26]
abbrev dktX0_isTerm_0 : List UInt8 := dkwX0_isTerm_0 ++ dktX0_isTerm_1
theorem dksX0_isTerm_0 : cX0_isTerm.data.toList.drop 0 = dktX0_isTerm_0 := by decide +kernel
theorem dksX0_isTerm_1 : cX0_isTerm.data.toList.drop 1 = dktX0_isTerm_1 := dk_seg dksX0_isTerm_0 1 rfl rfl
theorem dksX0_isTerm_2 : cX0_isTerm.data.toList.drop 32 = dktX0_isTerm_2 := dk_seg dksX0_isTerm_1 31 rfl rfl
theorem dksX0_isTerm_3 : cX0_isTerm.data.toList.drop 55 = dktX0_isTerm_3 := dk_seg dksX0_isTerm_2 23 rfl rfl
theorem dX0_isTerm_0 : decode cX0_isTerm 0 = .ok (.iload_n 0, 1) := dk_26 (dk_at dksX0_isTerm_0 0 rfl rfl)
theorem dX0_isTerm_1 : decode cX0_isTerm 1 = .ok (.tableswitch 61 0 3 #[31, 41, 51, 31], 31) := by decide +kernel
theorem dX0_isTerm_32 : decode cX0_isTerm 32 = .ok (.iload_n 1, 1) := dk_27 (dk_at dksX0_isTerm_2 0 rfl rfl)
theorem dX0_isTerm_33 : decode cX0_isTerm 33 = .ok (.i2l, 1) := dk_133 (dk_at dksX0_isTerm_2 1 rfl rfl)
theorem dX0_isTerm_34 : decode cX0_isTerm 34 = .ok (.lconst 0, 1) := dk_9 (dk_at dksX0_isTerm_2 2 rfl rfl)
theorem dX0_isTerm_35 : decode cX0_isTerm 35 = .ok (.ldc2_w 9, 3) := dk_20 0 9 (dk_at dksX0_isTerm_2 3 rfl rfl)
theorem dX0_isTerm_38 : decode cX0_isTerm 38 = .ok (.invokestatic 5, 3) := dk_184 0 5 (dk_at dksX0_isTerm_2 6 rfl rfl)
theorem dX0_isTerm_41 : decode cX0_isTerm 41 = .ok (.ireturn, 1) := dk_172 (dk_at dksX0_isTerm_2 9 rfl rfl)
theorem dX0_isTerm_42 : decode cX0_isTerm 42 = .ok (.iload_n 1, 1) := dk_27 (dk_at dksX0_isTerm_2 10 rfl rfl)
theorem dX0_isTerm_43 : decode cX0_isTerm 43 = .ok (.i2l, 1) := dk_133 (dk_at dksX0_isTerm_2 11 rfl rfl)
theorem dX0_isTerm_44 : decode cX0_isTerm 44 = .ok (.lconst 0, 1) := dk_9 (dk_at dksX0_isTerm_2 12 rfl rfl)
theorem dX0_isTerm_45 : decode cX0_isTerm 45 = .ok (.ldc2_w 201, 3) := dk_20 0 201 (dk_at dksX0_isTerm_2 13 rfl rfl)
theorem dX0_isTerm_48 : decode cX0_isTerm 48 = .ok (.invokestatic 5, 3) := dk_184 0 5 (dk_at dksX0_isTerm_2 16 rfl rfl)
theorem dX0_isTerm_51 : decode cX0_isTerm 51 = .ok (.ireturn, 1) := dk_172 (dk_at dksX0_isTerm_2 19 rfl rfl)
theorem dX0_isTerm_52 : decode cX0_isTerm 52 = .ok (.iload_n 1, 1) := dk_27 (dk_at dksX0_isTerm_2 20 rfl rfl)
theorem dX0_isTerm_53 : decode cX0_isTerm 53 = .ok (.i2l, 1) := dk_133 (dk_at dksX0_isTerm_2 21 rfl rfl)
theorem dX0_isTerm_54 : decode cX0_isTerm 54 = .ok (.lconst 0, 1) := dk_9 (dk_at dksX0_isTerm_2 22 rfl rfl)
theorem dX0_isTerm_55 : decode cX0_isTerm 55 = .ok (.ldc2_w 203, 3) := dk_20 0 203 (dk_at dksX0_isTerm_3 0 rfl rfl)
theorem dX0_isTerm_58 : decode cX0_isTerm 58 = .ok (.invokestatic 5, 3) := dk_184 0 5 (dk_at dksX0_isTerm_3 3 rfl rfl)
theorem dX0_isTerm_61 : decode cX0_isTerm 61 = .ok (.ireturn, 1) := dk_172 (dk_at dksX0_isTerm_3 6 rfl rfl)
theorem dX0_isTerm_62 : decode cX0_isTerm 62 = .ok (.iconst 0, 1) := dk_3 (dk_at dksX0_isTerm_3 7 rfl rfl)
theorem dX0_isTerm_63 : decode cX0_isTerm 63 = .ok (.ireturn, 1) := dk_172 (dk_at dksX0_isTerm_3 8 rfl rfl)
abbrev cX0_tell : ByteArray := prog_1_method_8_code
def yX0_tell : MethodName := ⟨RX0, "tell", "(I)I"⟩
def dkwX0_tell_1 : List UInt8 := [27, 172]
abbrev dktX0_tell_1 : List UInt8 := dkwX0_tell_1 ++ []
def dkwX0_tell_0 : List UInt8 := [42, 27, 3, 184, 0, 117, 181, 0, 123, 27, 156, 0, 14, 42, 180, 0, 71, 27, 116, 92, 46, 4, 96, 79]
abbrev dktX0_tell_0 : List UInt8 := dkwX0_tell_0 ++ dktX0_tell_1
theorem dksX0_tell_0 : cX0_tell.data.toList.drop 0 = dktX0_tell_0 := by decide +kernel
theorem dksX0_tell_1 : cX0_tell.data.toList.drop 24 = dktX0_tell_1 := dk_seg dksX0_tell_0 24 rfl rfl
theorem dX0_tell_0 : decode cX0_tell 0 = .ok (.aload_n 0, 1) := dk_42 (dk_at dksX0_tell_0 0 rfl rfl)
theorem dX0_tell_1 : decode cX0_tell 1 = .ok (.iload_n 1, 1) := dk_27 (dk_at dksX0_tell_0 1 rfl rfl)
theorem dX0_tell_2 : decode cX0_tell 2 = .ok (.iconst 0, 1) := dk_3 (dk_at dksX0_tell_0 2 rfl rfl)
theorem dX0_tell_3 : decode cX0_tell 3 = .ok (.invokestatic 117, 3) := dk_184 0 117 (dk_at dksX0_tell_0 3 rfl rfl)
theorem dX0_tell_6 : decode cX0_tell 6 = .ok (.putfield 123, 3) := dk_181 0 123 (dk_at dksX0_tell_0 6 rfl rfl)
theorem dX0_tell_9 : decode cX0_tell 9 = .ok (.iload_n 1, 1) := dk_27 (dk_at dksX0_tell_0 9 rfl rfl)
theorem dX0_tell_10 : decode cX0_tell 10 = .ok (.ifCond .ge 14, 3) := dk_156 0 14 (dk_at dksX0_tell_0 10 rfl rfl)
theorem dX0_tell_13 : decode cX0_tell 13 = .ok (.aload_n 0, 1) := dk_42 (dk_at dksX0_tell_0 13 rfl rfl)
theorem dX0_tell_14 : decode cX0_tell 14 = .ok (.getfield 71, 3) := dk_180 0 71 (dk_at dksX0_tell_0 14 rfl rfl)
theorem dX0_tell_17 : decode cX0_tell 17 = .ok (.iload_n 1, 1) := dk_27 (dk_at dksX0_tell_0 17 rfl rfl)
theorem dX0_tell_18 : decode cX0_tell 18 = .ok (.ineg, 1) := dk_116 (dk_at dksX0_tell_0 18 rfl rfl)
theorem dX0_tell_19 : decode cX0_tell 19 = .ok (.dup2, 1) := dk_92 (dk_at dksX0_tell_0 19 rfl rfl)
theorem dX0_tell_20 : decode cX0_tell 20 = .ok (.iaload, 1) := dk_46 (dk_at dksX0_tell_0 20 rfl rfl)
theorem dX0_tell_21 : decode cX0_tell 21 = .ok (.iconst 1, 1) := dk_4 (dk_at dksX0_tell_0 21 rfl rfl)
theorem dX0_tell_22 : decode cX0_tell 22 = .ok (.iadd, 1) := dk_96 (dk_at dksX0_tell_0 22 rfl rfl)
theorem dX0_tell_23 : decode cX0_tell 23 = .ok (.iastore, 1) := dk_79 (dk_at dksX0_tell_0 23 rfl rfl)
theorem dX0_tell_24 : decode cX0_tell 24 = .ok (.iload_n 1, 1) := dk_27 (dk_at dksX0_tell_1 0 rfl rfl)
theorem dX0_tell_25 : decode cX0_tell 25 = .ok (.ireturn, 1) := dk_172 (dk_at dksX0_tell_1 1 rfl rfl)
abbrev cX0_term : ByteArray := prog_1_method_22_code
def yX0_term : MethodName := ⟨RX0, "term", "(I)I"⟩
def dkwX0_term_0 : List UInt8 := [27, 154, 0, 13, 42, 182, 0, 136, 180, 0, 205, 167, 0, 12, 42, 180, 0, 22, 180, 0, 189, 27, 46, 172]
abbrev dktX0_term_0 : List UInt8 := dkwX0_term_0 ++ []
theorem dksX0_term_0 : cX0_term.data.toList.drop 0 = dktX0_term_0 := by decide +kernel
theorem dX0_term_0 : decode cX0_term 0 = .ok (.iload_n 1, 1) := dk_27 (dk_at dksX0_term_0 0 rfl rfl)
theorem dX0_term_1 : decode cX0_term 1 = .ok (.ifCond .ne 13, 3) := dk_154 0 13 (dk_at dksX0_term_0 1 rfl rfl)
theorem dX0_term_4 : decode cX0_term 4 = .ok (.aload_n 0, 1) := dk_42 (dk_at dksX0_term_0 4 rfl rfl)
theorem dX0_term_5 : decode cX0_term 5 = .ok (.invokevirtual 136, 3) := dk_182 0 136 (dk_at dksX0_term_0 5 rfl rfl)
theorem dX0_term_8 : decode cX0_term 8 = .ok (.getfield 205, 3) := dk_180 0 205 (dk_at dksX0_term_0 8 rfl rfl)
theorem dX0_term_11 : decode cX0_term 11 = .ok (.goto 12, 3) := dk_167 0 12 (dk_at dksX0_term_0 11 rfl rfl)
theorem dX0_term_14 : decode cX0_term 14 = .ok (.aload_n 0, 1) := dk_42 (dk_at dksX0_term_0 14 rfl rfl)
theorem dX0_term_15 : decode cX0_term 15 = .ok (.getfield 22, 3) := dk_180 0 22 (dk_at dksX0_term_0 15 rfl rfl)
theorem dX0_term_18 : decode cX0_term 18 = .ok (.getfield 189, 3) := dk_180 0 189 (dk_at dksX0_term_0 18 rfl rfl)
theorem dX0_term_21 : decode cX0_term 21 = .ok (.iload_n 1, 1) := dk_27 (dk_at dksX0_term_0 21 rfl rfl)
theorem dX0_term_22 : decode cX0_term 22 = .ok (.iaload, 1) := dk_46 (dk_at dksX0_term_0 22 rfl rfl)
theorem dX0_term_23 : decode cX0_term 23 = .ok (.ireturn, 1) := dk_172 (dk_at dksX0_term_0 23 rfl rfl)
abbrev cX0_had : ByteArray := prog_1_method_10_code
def yX0_had : MethodName := ⟨RX0, "had", "(I)I"⟩
def dkwX0_had_0 : List UInt8 := [42, 3, 181, 0, 123, 27, 172]
abbrev dktX0_had_0 : List UInt8 := dkwX0_had_0 ++ []
theorem dksX0_had_0 : cX0_had.data.toList.drop 0 = dktX0_had_0 := by decide +kernel
theorem dX0_had_0 : decode cX0_had 0 = .ok (.aload_n 0, 1) := dk_42 (dk_at dksX0_had_0 0 rfl rfl)
theorem dX0_had_1 : decode cX0_had 1 = .ok (.iconst 0, 1) := dk_3 (dk_at dksX0_had_0 1 rfl rfl)
theorem dX0_had_2 : decode cX0_had 2 = .ok (.putfield 123, 3) := dk_181 0 123 (dk_at dksX0_had_0 2 rfl rfl)
theorem dX0_had_5 : decode cX0_had 5 = .ok (.iload_n 1, 1) := dk_27 (dk_at dksX0_had_0 5 rfl rfl)
theorem dX0_had_6 : decode cX0_had 6 = .ok (.ireturn, 1) := dk_172 (dk_at dksX0_had_0 6 rfl rfl)
abbrev cX0_row : ByteArray := prog_1_method_25_code
def yX0_row : MethodName := ⟨RX0, "row", "()I"⟩
def dkwX0_row_9 : List UInt8 := [167, 255, 95, 42, 28, 182, 0, 238, 172]
abbrev dktX0_row_9 : List UInt8 := dkwX0_row_9 ++ []
def dkwX0_row_8 : List UInt8 := [89, 180, 0, 226, 21, 4, 153, 0, 7, 3, 167, 0, 4, 4, 96, 181, 0, 226, 25, 7, 191, 132, 3, 2]
abbrev dktX0_row_8 : List UInt8 := dkwX0_row_8 ++ dktX0_row_9
def dkwX0_row_7 : List UInt8 := [4, 96, 181, 0, 226, 167, 0, 40, 58, 7, 28, 21, 4, 153, 0, 7, 4, 167, 0, 4, 3, 96, 61, 42]
abbrev dktX0_row_7 : List UInt8 := dkwX0_row_7 ++ dktX0_row_8
def dkwX0_row_6 : List UInt8 := [153, 0, 7, 4, 167, 0, 4, 3, 96, 61, 42, 89, 180, 0, 226, 21, 4, 153, 0, 7, 3, 167, 0, 4]
abbrev dktX0_row_6 : List UInt8 := dkwX0_row_6 ++ dktX0_row_7
def dkwX0_row_5 : List UInt8 := [153, 0, 7, 3, 167, 0, 4, 4, 96, 181, 0, 226, 167, 0, 80, 58, 5, 3, 54, 4, 28, 21, 4]
abbrev dktX0_row_5 : List UInt8 := dkwX0_row_5 ++ dktX0_row_6
def dkwX0_row_4 : List UInt8 := [182, 0, 233, 87, 28, 21, 4, 153, 0, 7, 4, 167, 0, 4, 3, 96, 61, 42, 89, 180, 0, 226, 21, 4]
abbrev dktX0_row_4 : List UInt8 := dkwX0_row_4 ++ dktX0_row_5
def dkwX0_row_3 : List UInt8 := [184, 0, 229, 54, 6, 21, 5, 184, 0, 150, 54, 4, 21, 4, 153, 0, 12, 42, 21, 5, 21, 6]
abbrev dktX0_row_3 : List UInt8 := dkwX0_row_3 ++ dktX0_row_4
def dkwX0_row_2 : List UInt8 := [61, 3, 62, 29, 43, 190, 162, 0, 161, 3, 54, 4, 43, 29, 184, 0, 229, 54, 5, 43, 29, 4, 96]
abbrev dktX0_row_2 : List UInt8 := dkwX0_row_2 ++ dktX0_row_3
def dkwX0_row_1 : List UInt8 := [180, 0, 82, 3, 43, 3, 42, 180, 0, 143, 184, 0, 220, 42, 3, 181, 0, 143, 42, 3, 181, 0, 226, 3]
abbrev dktX0_row_1 : List UInt8 := dkwX0_row_1 ++ dktX0_row_2
def dkwX0_row_0 : List UInt8 := [42, 180, 0, 143, 154, 0, 10, 42, 16, 250, 182, 0, 129, 172, 42, 180, 0, 143, 188, 8, 76, 42]
abbrev dktX0_row_0 : List UInt8 := dkwX0_row_0 ++ dktX0_row_1
theorem dksX0_row_0 : cX0_row.data.toList.drop 0 = dktX0_row_0 := by decide +kernel
theorem dksX0_row_1 : cX0_row.data.toList.drop 22 = dktX0_row_1 := dk_seg dksX0_row_0 22 rfl rfl
theorem dksX0_row_2 : cX0_row.data.toList.drop 46 = dktX0_row_2 := dk_seg dksX0_row_1 24 rfl rfl
theorem dksX0_row_3 : cX0_row.data.toList.drop 69 = dktX0_row_3 := dk_seg dksX0_row_2 23 rfl rfl
theorem dksX0_row_4 : cX0_row.data.toList.drop 91 = dktX0_row_4 := dk_seg dksX0_row_3 22 rfl rfl
theorem dksX0_row_5 : cX0_row.data.toList.drop 115 = dktX0_row_5 := dk_seg dksX0_row_4 24 rfl rfl
theorem dksX0_row_6 : cX0_row.data.toList.drop 138 = dktX0_row_6 := dk_seg dksX0_row_5 23 rfl rfl
theorem dksX0_row_7 : cX0_row.data.toList.drop 162 = dktX0_row_7 := dk_seg dksX0_row_6 24 rfl rfl
theorem dksX0_row_8 : cX0_row.data.toList.drop 186 = dktX0_row_8 := dk_seg dksX0_row_7 24 rfl rfl
theorem dksX0_row_9 : cX0_row.data.toList.drop 210 = dktX0_row_9 := dk_seg dksX0_row_8 24 rfl rfl
theorem dX0_row_0 : decode cX0_row 0 = .ok (.aload_n 0, 1) := dk_42 (dk_at dksX0_row_0 0 rfl rfl)
theorem dX0_row_1 : decode cX0_row 1 = .ok (.getfield 143, 3) := dk_180 0 143 (dk_at dksX0_row_0 1 rfl rfl)
theorem dX0_row_4 : decode cX0_row 4 = .ok (.ifCond .ne 10, 3) := dk_154 0 10 (dk_at dksX0_row_0 4 rfl rfl)
theorem dX0_row_7 : decode cX0_row 7 = .ok (.aload_n 0, 1) := dk_42 (dk_at dksX0_row_0 7 rfl rfl)
theorem dX0_row_8 : decode cX0_row 8 = .ok (.bipush (-6), 2) := dk_16 250 (dk_at dksX0_row_0 8 rfl rfl)
theorem dX0_row_10 : decode cX0_row 10 = .ok (.invokevirtual 129, 3) := dk_182 0 129 (dk_at dksX0_row_0 10 rfl rfl)
theorem dX0_row_13 : decode cX0_row 13 = .ok (.ireturn, 1) := dk_172 (dk_at dksX0_row_0 13 rfl rfl)
theorem dX0_row_14 : decode cX0_row 14 = .ok (.aload_n 0, 1) := dk_42 (dk_at dksX0_row_0 14 rfl rfl)
theorem dX0_row_15 : decode cX0_row 15 = .ok (.getfield 143, 3) := dk_180 0 143 (dk_at dksX0_row_0 15 rfl rfl)
theorem dX0_row_18 : decode cX0_row 18 = .ok (.newarray .byte, 2) := dk_188_8 (dk_at dksX0_row_0 18 rfl rfl)
theorem dX0_row_20 : decode cX0_row 20 = .ok (.astore_n 1, 1) := dk_76 (dk_at dksX0_row_0 20 rfl rfl)
theorem dX0_row_21 : decode cX0_row 21 = .ok (.aload_n 0, 1) := dk_42 (dk_at dksX0_row_0 21 rfl rfl)
theorem dX0_row_22 : decode cX0_row 22 = .ok (.getfield 82, 3) := dk_180 0 82 (dk_at dksX0_row_1 0 rfl rfl)
theorem dX0_row_25 : decode cX0_row 25 = .ok (.iconst 0, 1) := dk_3 (dk_at dksX0_row_1 3 rfl rfl)
theorem dX0_row_26 : decode cX0_row 26 = .ok (.aload_n 1, 1) := dk_43 (dk_at dksX0_row_1 4 rfl rfl)
theorem dX0_row_27 : decode cX0_row 27 = .ok (.iconst 0, 1) := dk_3 (dk_at dksX0_row_1 5 rfl rfl)
theorem dX0_row_28 : decode cX0_row 28 = .ok (.aload_n 0, 1) := dk_42 (dk_at dksX0_row_1 6 rfl rfl)
theorem dX0_row_29 : decode cX0_row 29 = .ok (.getfield 143, 3) := dk_180 0 143 (dk_at dksX0_row_1 7 rfl rfl)
theorem dX0_row_32 : decode cX0_row 32 = .ok (.invokestatic 220, 3) := dk_184 0 220 (dk_at dksX0_row_1 10 rfl rfl)
theorem dX0_row_35 : decode cX0_row 35 = .ok (.aload_n 0, 1) := dk_42 (dk_at dksX0_row_1 13 rfl rfl)
theorem dX0_row_36 : decode cX0_row 36 = .ok (.iconst 0, 1) := dk_3 (dk_at dksX0_row_1 14 rfl rfl)
theorem dX0_row_37 : decode cX0_row 37 = .ok (.putfield 143, 3) := dk_181 0 143 (dk_at dksX0_row_1 15 rfl rfl)
theorem dX0_row_40 : decode cX0_row 40 = .ok (.aload_n 0, 1) := dk_42 (dk_at dksX0_row_1 18 rfl rfl)
theorem dX0_row_41 : decode cX0_row 41 = .ok (.iconst 0, 1) := dk_3 (dk_at dksX0_row_1 19 rfl rfl)
theorem dX0_row_42 : decode cX0_row 42 = .ok (.putfield 226, 3) := dk_181 0 226 (dk_at dksX0_row_1 20 rfl rfl)
theorem dX0_row_45 : decode cX0_row 45 = .ok (.iconst 0, 1) := dk_3 (dk_at dksX0_row_1 23 rfl rfl)
theorem dX0_row_46 : decode cX0_row 46 = .ok (.istore_n 2, 1) := dk_61 (dk_at dksX0_row_2 0 rfl rfl)
theorem dX0_row_47 : decode cX0_row 47 = .ok (.iconst 0, 1) := dk_3 (dk_at dksX0_row_2 1 rfl rfl)
theorem dX0_row_48 : decode cX0_row 48 = .ok (.istore_n 3, 1) := dk_62 (dk_at dksX0_row_2 2 rfl rfl)
theorem dX0_row_49 : decode cX0_row 49 = .ok (.iload_n 3, 1) := dk_29 (dk_at dksX0_row_2 3 rfl rfl)
theorem dX0_row_50 : decode cX0_row 50 = .ok (.aload_n 1, 1) := dk_43 (dk_at dksX0_row_2 4 rfl rfl)
theorem dX0_row_51 : decode cX0_row 51 = .ok (.arraylength, 1) := dk_190 (dk_at dksX0_row_2 5 rfl rfl)
theorem dX0_row_52 : decode cX0_row 52 = .ok (.if_icmp .ge 161, 3) := dk_162 0 161 (dk_at dksX0_row_2 6 rfl rfl)
theorem dX0_row_55 : decode cX0_row 55 = .ok (.iconst 0, 1) := dk_3 (dk_at dksX0_row_2 9 rfl rfl)
theorem dX0_row_56 : decode cX0_row 56 = .ok (.istore 4, 2) := dk_54 4 (dk_at dksX0_row_2 10 rfl rfl)
theorem dX0_row_58 : decode cX0_row 58 = .ok (.aload_n 1, 1) := dk_43 (dk_at dksX0_row_2 12 rfl rfl)
theorem dX0_row_59 : decode cX0_row 59 = .ok (.iload_n 3, 1) := dk_29 (dk_at dksX0_row_2 13 rfl rfl)
theorem dX0_row_60 : decode cX0_row 60 = .ok (.invokestatic 229, 3) := dk_184 0 229 (dk_at dksX0_row_2 14 rfl rfl)
theorem dX0_row_63 : decode cX0_row 63 = .ok (.istore 5, 2) := dk_54 5 (dk_at dksX0_row_2 17 rfl rfl)
theorem dX0_row_65 : decode cX0_row 65 = .ok (.aload_n 1, 1) := dk_43 (dk_at dksX0_row_2 19 rfl rfl)
theorem dX0_row_66 : decode cX0_row 66 = .ok (.iload_n 3, 1) := dk_29 (dk_at dksX0_row_2 20 rfl rfl)
theorem dX0_row_67 : decode cX0_row 67 = .ok (.iconst 1, 1) := dk_4 (dk_at dksX0_row_2 21 rfl rfl)
theorem dX0_row_68 : decode cX0_row 68 = .ok (.iadd, 1) := dk_96 (dk_at dksX0_row_2 22 rfl rfl)
theorem dX0_row_69 : decode cX0_row 69 = .ok (.invokestatic 229, 3) := dk_184 0 229 (dk_at dksX0_row_3 0 rfl rfl)
theorem dX0_row_72 : decode cX0_row 72 = .ok (.istore 6, 2) := dk_54 6 (dk_at dksX0_row_3 3 rfl rfl)
theorem dX0_row_74 : decode cX0_row 74 = .ok (.iload 5, 2) := dk_21 5 (dk_at dksX0_row_3 5 rfl rfl)
theorem dX0_row_76 : decode cX0_row 76 = .ok (.invokestatic 150, 3) := dk_184 0 150 (dk_at dksX0_row_3 7 rfl rfl)
theorem dX0_row_79 : decode cX0_row 79 = .ok (.istore 4, 2) := dk_54 4 (dk_at dksX0_row_3 10 rfl rfl)
theorem dX0_row_81 : decode cX0_row 81 = .ok (.iload 4, 2) := dk_21 4 (dk_at dksX0_row_3 12 rfl rfl)
theorem dX0_row_83 : decode cX0_row 83 = .ok (.ifCond .eq 12, 3) := dk_153 0 12 (dk_at dksX0_row_3 14 rfl rfl)
theorem dX0_row_86 : decode cX0_row 86 = .ok (.aload_n 0, 1) := dk_42 (dk_at dksX0_row_3 17 rfl rfl)
theorem dX0_row_87 : decode cX0_row 87 = .ok (.iload 5, 2) := dk_21 5 (dk_at dksX0_row_3 18 rfl rfl)
theorem dX0_row_89 : decode cX0_row 89 = .ok (.iload 6, 2) := dk_21 6 (dk_at dksX0_row_3 20 rfl rfl)
theorem dX0_row_91 : decode cX0_row 91 = .ok (.invokevirtual 233, 3) := dk_182 0 233 (dk_at dksX0_row_4 0 rfl rfl)
theorem dX0_row_94 : decode cX0_row 94 = .ok (.pop, 1) := dk_87 (dk_at dksX0_row_4 3 rfl rfl)
theorem dX0_row_95 : decode cX0_row 95 = .ok (.iload_n 2, 1) := dk_28 (dk_at dksX0_row_4 4 rfl rfl)
theorem dX0_row_96 : decode cX0_row 96 = .ok (.iload 4, 2) := dk_21 4 (dk_at dksX0_row_4 5 rfl rfl)
theorem dX0_row_98 : decode cX0_row 98 = .ok (.ifCond .eq 7, 3) := dk_153 0 7 (dk_at dksX0_row_4 7 rfl rfl)
theorem dX0_row_101 : decode cX0_row 101 = .ok (.iconst 1, 1) := dk_4 (dk_at dksX0_row_4 10 rfl rfl)
theorem dX0_row_102 : decode cX0_row 102 = .ok (.goto 4, 3) := dk_167 0 4 (dk_at dksX0_row_4 11 rfl rfl)
theorem dX0_row_105 : decode cX0_row 105 = .ok (.iconst 0, 1) := dk_3 (dk_at dksX0_row_4 14 rfl rfl)
theorem dX0_row_106 : decode cX0_row 106 = .ok (.iadd, 1) := dk_96 (dk_at dksX0_row_4 15 rfl rfl)
theorem dX0_row_107 : decode cX0_row 107 = .ok (.istore_n 2, 1) := dk_61 (dk_at dksX0_row_4 16 rfl rfl)
theorem dX0_row_108 : decode cX0_row 108 = .ok (.aload_n 0, 1) := dk_42 (dk_at dksX0_row_4 17 rfl rfl)
theorem dX0_row_109 : decode cX0_row 109 = .ok (.dup, 1) := dk_89 (dk_at dksX0_row_4 18 rfl rfl)
theorem dX0_row_110 : decode cX0_row 110 = .ok (.getfield 226, 3) := dk_180 0 226 (dk_at dksX0_row_4 19 rfl rfl)
theorem dX0_row_113 : decode cX0_row 113 = .ok (.iload 4, 2) := dk_21 4 (dk_at dksX0_row_4 22 rfl rfl)
theorem dX0_row_115 : decode cX0_row 115 = .ok (.ifCond .eq 7, 3) := dk_153 0 7 (dk_at dksX0_row_5 0 rfl rfl)
theorem dX0_row_118 : decode cX0_row 118 = .ok (.iconst 0, 1) := dk_3 (dk_at dksX0_row_5 3 rfl rfl)
theorem dX0_row_119 : decode cX0_row 119 = .ok (.goto 4, 3) := dk_167 0 4 (dk_at dksX0_row_5 4 rfl rfl)
theorem dX0_row_122 : decode cX0_row 122 = .ok (.iconst 1, 1) := dk_4 (dk_at dksX0_row_5 7 rfl rfl)
theorem dX0_row_123 : decode cX0_row 123 = .ok (.iadd, 1) := dk_96 (dk_at dksX0_row_5 8 rfl rfl)
theorem dX0_row_124 : decode cX0_row 124 = .ok (.putfield 226, 3) := dk_181 0 226 (dk_at dksX0_row_5 9 rfl rfl)
theorem dX0_row_127 : decode cX0_row 127 = .ok (.goto 80, 3) := dk_167 0 80 (dk_at dksX0_row_5 12 rfl rfl)
theorem dX0_row_130 : decode cX0_row 130 = .ok (.astore 5, 2) := dk_58 5 (dk_at dksX0_row_5 15 rfl rfl)
theorem dX0_row_132 : decode cX0_row 132 = .ok (.iconst 0, 1) := dk_3 (dk_at dksX0_row_5 17 rfl rfl)
theorem dX0_row_133 : decode cX0_row 133 = .ok (.istore 4, 2) := dk_54 4 (dk_at dksX0_row_5 18 rfl rfl)
theorem dX0_row_135 : decode cX0_row 135 = .ok (.iload_n 2, 1) := dk_28 (dk_at dksX0_row_5 20 rfl rfl)
theorem dX0_row_136 : decode cX0_row 136 = .ok (.iload 4, 2) := dk_21 4 (dk_at dksX0_row_5 21 rfl rfl)
theorem dX0_row_138 : decode cX0_row 138 = .ok (.ifCond .eq 7, 3) := dk_153 0 7 (dk_at dksX0_row_6 0 rfl rfl)
theorem dX0_row_141 : decode cX0_row 141 = .ok (.iconst 1, 1) := dk_4 (dk_at dksX0_row_6 3 rfl rfl)
theorem dX0_row_142 : decode cX0_row 142 = .ok (.goto 4, 3) := dk_167 0 4 (dk_at dksX0_row_6 4 rfl rfl)
theorem dX0_row_145 : decode cX0_row 145 = .ok (.iconst 0, 1) := dk_3 (dk_at dksX0_row_6 7 rfl rfl)
theorem dX0_row_146 : decode cX0_row 146 = .ok (.iadd, 1) := dk_96 (dk_at dksX0_row_6 8 rfl rfl)
theorem dX0_row_147 : decode cX0_row 147 = .ok (.istore_n 2, 1) := dk_61 (dk_at dksX0_row_6 9 rfl rfl)
theorem dX0_row_148 : decode cX0_row 148 = .ok (.aload_n 0, 1) := dk_42 (dk_at dksX0_row_6 10 rfl rfl)
theorem dX0_row_149 : decode cX0_row 149 = .ok (.dup, 1) := dk_89 (dk_at dksX0_row_6 11 rfl rfl)
theorem dX0_row_150 : decode cX0_row 150 = .ok (.getfield 226, 3) := dk_180 0 226 (dk_at dksX0_row_6 12 rfl rfl)
theorem dX0_row_153 : decode cX0_row 153 = .ok (.iload 4, 2) := dk_21 4 (dk_at dksX0_row_6 15 rfl rfl)
theorem dX0_row_155 : decode cX0_row 155 = .ok (.ifCond .eq 7, 3) := dk_153 0 7 (dk_at dksX0_row_6 17 rfl rfl)
theorem dX0_row_158 : decode cX0_row 158 = .ok (.iconst 0, 1) := dk_3 (dk_at dksX0_row_6 20 rfl rfl)
theorem dX0_row_159 : decode cX0_row 159 = .ok (.goto 4, 3) := dk_167 0 4 (dk_at dksX0_row_6 21 rfl rfl)
theorem dX0_row_162 : decode cX0_row 162 = .ok (.iconst 1, 1) := dk_4 (dk_at dksX0_row_7 0 rfl rfl)
theorem dX0_row_163 : decode cX0_row 163 = .ok (.iadd, 1) := dk_96 (dk_at dksX0_row_7 1 rfl rfl)
theorem dX0_row_164 : decode cX0_row 164 = .ok (.putfield 226, 3) := dk_181 0 226 (dk_at dksX0_row_7 2 rfl rfl)
theorem dX0_row_167 : decode cX0_row 167 = .ok (.goto 40, 3) := dk_167 0 40 (dk_at dksX0_row_7 5 rfl rfl)
theorem dX0_row_170 : decode cX0_row 170 = .ok (.astore 7, 2) := dk_58 7 (dk_at dksX0_row_7 8 rfl rfl)
theorem dX0_row_172 : decode cX0_row 172 = .ok (.iload_n 2, 1) := dk_28 (dk_at dksX0_row_7 10 rfl rfl)
theorem dX0_row_173 : decode cX0_row 173 = .ok (.iload 4, 2) := dk_21 4 (dk_at dksX0_row_7 11 rfl rfl)
theorem dX0_row_175 : decode cX0_row 175 = .ok (.ifCond .eq 7, 3) := dk_153 0 7 (dk_at dksX0_row_7 13 rfl rfl)
theorem dX0_row_178 : decode cX0_row 178 = .ok (.iconst 1, 1) := dk_4 (dk_at dksX0_row_7 16 rfl rfl)
theorem dX0_row_179 : decode cX0_row 179 = .ok (.goto 4, 3) := dk_167 0 4 (dk_at dksX0_row_7 17 rfl rfl)
theorem dX0_row_182 : decode cX0_row 182 = .ok (.iconst 0, 1) := dk_3 (dk_at dksX0_row_7 20 rfl rfl)
theorem dX0_row_183 : decode cX0_row 183 = .ok (.iadd, 1) := dk_96 (dk_at dksX0_row_7 21 rfl rfl)
theorem dX0_row_184 : decode cX0_row 184 = .ok (.istore_n 2, 1) := dk_61 (dk_at dksX0_row_7 22 rfl rfl)
theorem dX0_row_185 : decode cX0_row 185 = .ok (.aload_n 0, 1) := dk_42 (dk_at dksX0_row_7 23 rfl rfl)
theorem dX0_row_186 : decode cX0_row 186 = .ok (.dup, 1) := dk_89 (dk_at dksX0_row_8 0 rfl rfl)
theorem dX0_row_187 : decode cX0_row 187 = .ok (.getfield 226, 3) := dk_180 0 226 (dk_at dksX0_row_8 1 rfl rfl)
theorem dX0_row_190 : decode cX0_row 190 = .ok (.iload 4, 2) := dk_21 4 (dk_at dksX0_row_8 4 rfl rfl)
theorem dX0_row_192 : decode cX0_row 192 = .ok (.ifCond .eq 7, 3) := dk_153 0 7 (dk_at dksX0_row_8 6 rfl rfl)
theorem dX0_row_195 : decode cX0_row 195 = .ok (.iconst 0, 1) := dk_3 (dk_at dksX0_row_8 9 rfl rfl)
theorem dX0_row_196 : decode cX0_row 196 = .ok (.goto 4, 3) := dk_167 0 4 (dk_at dksX0_row_8 10 rfl rfl)
theorem dX0_row_199 : decode cX0_row 199 = .ok (.iconst 1, 1) := dk_4 (dk_at dksX0_row_8 13 rfl rfl)
theorem dX0_row_200 : decode cX0_row 200 = .ok (.iadd, 1) := dk_96 (dk_at dksX0_row_8 14 rfl rfl)
theorem dX0_row_201 : decode cX0_row 201 = .ok (.putfield 226, 3) := dk_181 0 226 (dk_at dksX0_row_8 15 rfl rfl)
theorem dX0_row_204 : decode cX0_row 204 = .ok (.aload 7, 2) := dk_25 7 (dk_at dksX0_row_8 18 rfl rfl)
theorem dX0_row_206 : decode cX0_row 206 = .ok (.athrow, 1) := dk_191 (dk_at dksX0_row_8 20 rfl rfl)
theorem dX0_row_207 : decode cX0_row 207 = .ok (.iinc 3 2, 3) := dk_132 3 2 (dk_at dksX0_row_8 21 rfl rfl)
theorem dX0_row_210 : decode cX0_row 210 = .ok (.goto (-161), 3) := dk_167 255 95 (dk_at dksX0_row_9 0 rfl rfl)
theorem dX0_row_213 : decode cX0_row 213 = .ok (.aload_n 0, 1) := dk_42 (dk_at dksX0_row_9 3 rfl rfl)
theorem dX0_row_214 : decode cX0_row 214 = .ok (.iload_n 2, 1) := dk_28 (dk_at dksX0_row_9 4 rfl rfl)
theorem dX0_row_215 : decode cX0_row 215 = .ok (.invokevirtual 238, 3) := dk_182 0 238 (dk_at dksX0_row_9 5 rfl rfl)
theorem dX0_row_218 : decode cX0_row 218 = .ok (.ireturn, 1) := dk_172 (dk_at dksX0_row_9 8 rfl rfl)
abbrev cX0_byteAt : ByteArray := prog_1_method_24_code
def yX0_byteAt : MethodName := ⟨RX0, "byteAt", "([BI)I"⟩
def dkwX0_byteAt_0 : List UInt8 := [42, 27, 51, 17, 0, 255, 126, 172]
abbrev dktX0_byteAt_0 : List UInt8 := dkwX0_byteAt_0 ++ []
theorem dksX0_byteAt_0 : cX0_byteAt.data.toList.drop 0 = dktX0_byteAt_0 := by decide +kernel
theorem dX0_byteAt_0 : decode cX0_byteAt 0 = .ok (.aload_n 0, 1) := dk_42 (dk_at dksX0_byteAt_0 0 rfl rfl)
theorem dX0_byteAt_1 : decode cX0_byteAt 1 = .ok (.iload_n 1, 1) := dk_27 (dk_at dksX0_byteAt_0 1 rfl rfl)
theorem dX0_byteAt_2 : decode cX0_byteAt 2 = .ok (.baload, 1) := dk_51 (dk_at dksX0_byteAt_0 2 rfl rfl)
theorem dX0_byteAt_3 : decode cX0_byteAt 3 = .ok (.sipush 255, 3) := dk_17 0 255 (dk_at dksX0_byteAt_0 3 rfl rfl)
theorem dX0_byteAt_6 : decode cX0_byteAt 6 = .ok (.iand, 1) := dk_126 (dk_at dksX0_byteAt_0 6 rfl rfl)
theorem dX0_byteAt_7 : decode cX0_byteAt 7 = .ok (.ireturn, 1) := dk_172 (dk_at dksX0_byteAt_0 7 rfl rfl)
abbrev cX0_readIt : ByteArray := prog_1_method_38_code
def yX0_readIt : MethodName := ⟨RX0, "readIt", "(II)I"⟩
def dkwX0_readIt_4 : List UInt8 := [21, 4, 21, 6, 182, 1, 72, 21, 5, 172]
abbrev dktX0_readIt_4 : List UInt8 := dkwX0_readIt_4 ++ []
def dkwX0_readIt_3 : List UInt8 := [160, 0, 5, 3, 172, 45, 28, 182, 1, 69, 21, 7, 45, 180, 0, 164, 162, 0, 14, 45, 28, 21, 7]
abbrev dktX0_readIt_3 : List UInt8 := dkwX0_readIt_3 ++ dktX0_readIt_4
def dkwX0_readIt_2 : List UInt8 := [184, 0, 192, 54, 7, 45, 180, 0, 174, 3, 21, 5, 184, 1, 66, 92, 46, 21, 4, 96, 79, 21, 5, 2]
abbrev dktX0_readIt_2 : List UInt8 := dkwX0_readIt_2 ++ dktX0_readIt_3
def dkwX0_readIt_1 : List UInt8 := [167, 0, 8, 45, 28, 182, 0, 183, 54, 5, 42, 180, 0, 22, 180, 0, 189, 6, 46, 54, 6, 28, 21, 6]
abbrev dktX0_readIt_1 : List UInt8 := dkwX0_readIt_1 ++ dktX0_readIt_2
def dkwX0_readIt_0 : List UInt8 := [42, 27, 182, 0, 154, 78, 42, 27, 28, 182, 0, 195, 54, 4, 42, 27, 28, 182, 0, 197, 153, 0, 7, 2]
abbrev dktX0_readIt_0 : List UInt8 := dkwX0_readIt_0 ++ dktX0_readIt_1
theorem dksX0_readIt_0 : cX0_readIt.data.toList.drop 0 = dktX0_readIt_0 := by decide +kernel
theorem dksX0_readIt_1 : cX0_readIt.data.toList.drop 24 = dktX0_readIt_1 := dk_seg dksX0_readIt_0 24 rfl rfl
theorem dksX0_readIt_2 : cX0_readIt.data.toList.drop 48 = dktX0_readIt_2 := dk_seg dksX0_readIt_1 24 rfl rfl
theorem dksX0_readIt_3 : cX0_readIt.data.toList.drop 72 = dktX0_readIt_3 := dk_seg dksX0_readIt_2 24 rfl rfl
theorem dksX0_readIt_4 : cX0_readIt.data.toList.drop 95 = dktX0_readIt_4 := dk_seg dksX0_readIt_3 23 rfl rfl
theorem dX0_readIt_0 : decode cX0_readIt 0 = .ok (.aload_n 0, 1) := dk_42 (dk_at dksX0_readIt_0 0 rfl rfl)
theorem dX0_readIt_1 : decode cX0_readIt 1 = .ok (.iload_n 1, 1) := dk_27 (dk_at dksX0_readIt_0 1 rfl rfl)
theorem dX0_readIt_2 : decode cX0_readIt 2 = .ok (.invokevirtual 154, 3) := dk_182 0 154 (dk_at dksX0_readIt_0 2 rfl rfl)
theorem dX0_readIt_5 : decode cX0_readIt 5 = .ok (.astore_n 3, 1) := dk_78 (dk_at dksX0_readIt_0 5 rfl rfl)
theorem dX0_readIt_6 : decode cX0_readIt 6 = .ok (.aload_n 0, 1) := dk_42 (dk_at dksX0_readIt_0 6 rfl rfl)
theorem dX0_readIt_7 : decode cX0_readIt 7 = .ok (.iload_n 1, 1) := dk_27 (dk_at dksX0_readIt_0 7 rfl rfl)
theorem dX0_readIt_8 : decode cX0_readIt 8 = .ok (.iload_n 2, 1) := dk_28 (dk_at dksX0_readIt_0 8 rfl rfl)
theorem dX0_readIt_9 : decode cX0_readIt 9 = .ok (.invokevirtual 195, 3) := dk_182 0 195 (dk_at dksX0_readIt_0 9 rfl rfl)
theorem dX0_readIt_12 : decode cX0_readIt 12 = .ok (.istore 4, 2) := dk_54 4 (dk_at dksX0_readIt_0 12 rfl rfl)
theorem dX0_readIt_14 : decode cX0_readIt 14 = .ok (.aload_n 0, 1) := dk_42 (dk_at dksX0_readIt_0 14 rfl rfl)
theorem dX0_readIt_15 : decode cX0_readIt 15 = .ok (.iload_n 1, 1) := dk_27 (dk_at dksX0_readIt_0 15 rfl rfl)
theorem dX0_readIt_16 : decode cX0_readIt 16 = .ok (.iload_n 2, 1) := dk_28 (dk_at dksX0_readIt_0 16 rfl rfl)
theorem dX0_readIt_17 : decode cX0_readIt 17 = .ok (.invokevirtual 197, 3) := dk_182 0 197 (dk_at dksX0_readIt_0 17 rfl rfl)
theorem dX0_readIt_20 : decode cX0_readIt 20 = .ok (.ifCond .eq 7, 3) := dk_153 0 7 (dk_at dksX0_readIt_0 20 rfl rfl)
theorem dX0_readIt_23 : decode cX0_readIt 23 = .ok (.iconst (-1), 1) := dk_2 (dk_at dksX0_readIt_0 23 rfl rfl)
theorem dX0_readIt_24 : decode cX0_readIt 24 = .ok (.goto 8, 3) := dk_167 0 8 (dk_at dksX0_readIt_1 0 rfl rfl)
theorem dX0_readIt_27 : decode cX0_readIt 27 = .ok (.aload_n 3, 1) := dk_45 (dk_at dksX0_readIt_1 3 rfl rfl)
theorem dX0_readIt_28 : decode cX0_readIt 28 = .ok (.iload_n 2, 1) := dk_28 (dk_at dksX0_readIt_1 4 rfl rfl)
theorem dX0_readIt_29 : decode cX0_readIt 29 = .ok (.invokevirtual 183, 3) := dk_182 0 183 (dk_at dksX0_readIt_1 5 rfl rfl)
theorem dX0_readIt_32 : decode cX0_readIt 32 = .ok (.istore 5, 2) := dk_54 5 (dk_at dksX0_readIt_1 8 rfl rfl)
theorem dX0_readIt_34 : decode cX0_readIt 34 = .ok (.aload_n 0, 1) := dk_42 (dk_at dksX0_readIt_1 10 rfl rfl)
theorem dX0_readIt_35 : decode cX0_readIt 35 = .ok (.getfield 22, 3) := dk_180 0 22 (dk_at dksX0_readIt_1 11 rfl rfl)
theorem dX0_readIt_38 : decode cX0_readIt 38 = .ok (.getfield 189, 3) := dk_180 0 189 (dk_at dksX0_readIt_1 14 rfl rfl)
theorem dX0_readIt_41 : decode cX0_readIt 41 = .ok (.iconst 3, 1) := dk_6 (dk_at dksX0_readIt_1 17 rfl rfl)
theorem dX0_readIt_42 : decode cX0_readIt 42 = .ok (.iaload, 1) := dk_46 (dk_at dksX0_readIt_1 18 rfl rfl)
theorem dX0_readIt_43 : decode cX0_readIt 43 = .ok (.istore 6, 2) := dk_54 6 (dk_at dksX0_readIt_1 19 rfl rfl)
theorem dX0_readIt_45 : decode cX0_readIt 45 = .ok (.iload_n 2, 1) := dk_28 (dk_at dksX0_readIt_1 21 rfl rfl)
theorem dX0_readIt_46 : decode cX0_readIt 46 = .ok (.iload 6, 2) := dk_21 6 (dk_at dksX0_readIt_1 22 rfl rfl)
theorem dX0_readIt_48 : decode cX0_readIt 48 = .ok (.invokestatic 192, 3) := dk_184 0 192 (dk_at dksX0_readIt_2 0 rfl rfl)
theorem dX0_readIt_51 : decode cX0_readIt 51 = .ok (.istore 7, 2) := dk_54 7 (dk_at dksX0_readIt_2 3 rfl rfl)
theorem dX0_readIt_53 : decode cX0_readIt 53 = .ok (.aload_n 3, 1) := dk_45 (dk_at dksX0_readIt_2 5 rfl rfl)
theorem dX0_readIt_54 : decode cX0_readIt 54 = .ok (.getfield 174, 3) := dk_180 0 174 (dk_at dksX0_readIt_2 6 rfl rfl)
theorem dX0_readIt_57 : decode cX0_readIt 57 = .ok (.iconst 0, 1) := dk_3 (dk_at dksX0_readIt_2 9 rfl rfl)
theorem dX0_readIt_58 : decode cX0_readIt 58 = .ok (.iload 5, 2) := dk_21 5 (dk_at dksX0_readIt_2 10 rfl rfl)
theorem dX0_readIt_60 : decode cX0_readIt 60 = .ok (.invokestatic 322, 3) := dk_184 1 66 (dk_at dksX0_readIt_2 12 rfl rfl)
theorem dX0_readIt_63 : decode cX0_readIt 63 = .ok (.dup2, 1) := dk_92 (dk_at dksX0_readIt_2 15 rfl rfl)
theorem dX0_readIt_64 : decode cX0_readIt 64 = .ok (.iaload, 1) := dk_46 (dk_at dksX0_readIt_2 16 rfl rfl)
theorem dX0_readIt_65 : decode cX0_readIt 65 = .ok (.iload 4, 2) := dk_21 4 (dk_at dksX0_readIt_2 17 rfl rfl)
theorem dX0_readIt_67 : decode cX0_readIt 67 = .ok (.iadd, 1) := dk_96 (dk_at dksX0_readIt_2 19 rfl rfl)
theorem dX0_readIt_68 : decode cX0_readIt 68 = .ok (.iastore, 1) := dk_79 (dk_at dksX0_readIt_2 20 rfl rfl)
theorem dX0_readIt_69 : decode cX0_readIt 69 = .ok (.iload 5, 2) := dk_21 5 (dk_at dksX0_readIt_2 21 rfl rfl)
theorem dX0_readIt_71 : decode cX0_readIt 71 = .ok (.iconst (-1), 1) := dk_2 (dk_at dksX0_readIt_2 23 rfl rfl)
theorem dX0_readIt_72 : decode cX0_readIt 72 = .ok (.if_icmp .ne 5, 3) := dk_160 0 5 (dk_at dksX0_readIt_3 0 rfl rfl)
theorem dX0_readIt_75 : decode cX0_readIt 75 = .ok (.iconst 0, 1) := dk_3 (dk_at dksX0_readIt_3 3 rfl rfl)
theorem dX0_readIt_76 : decode cX0_readIt 76 = .ok (.ireturn, 1) := dk_172 (dk_at dksX0_readIt_3 4 rfl rfl)
theorem dX0_readIt_77 : decode cX0_readIt 77 = .ok (.aload_n 3, 1) := dk_45 (dk_at dksX0_readIt_3 5 rfl rfl)
theorem dX0_readIt_78 : decode cX0_readIt 78 = .ok (.iload_n 2, 1) := dk_28 (dk_at dksX0_readIt_3 6 rfl rfl)
theorem dX0_readIt_79 : decode cX0_readIt 79 = .ok (.invokevirtual 325, 3) := dk_182 1 69 (dk_at dksX0_readIt_3 7 rfl rfl)
theorem dX0_readIt_82 : decode cX0_readIt 82 = .ok (.iload 7, 2) := dk_21 7 (dk_at dksX0_readIt_3 10 rfl rfl)
theorem dX0_readIt_84 : decode cX0_readIt 84 = .ok (.aload_n 3, 1) := dk_45 (dk_at dksX0_readIt_3 12 rfl rfl)
theorem dX0_readIt_85 : decode cX0_readIt 85 = .ok (.getfield 164, 3) := dk_180 0 164 (dk_at dksX0_readIt_3 13 rfl rfl)
theorem dX0_readIt_88 : decode cX0_readIt 88 = .ok (.if_icmp .ge 14, 3) := dk_162 0 14 (dk_at dksX0_readIt_3 16 rfl rfl)
theorem dX0_readIt_91 : decode cX0_readIt 91 = .ok (.aload_n 3, 1) := dk_45 (dk_at dksX0_readIt_3 19 rfl rfl)
theorem dX0_readIt_92 : decode cX0_readIt 92 = .ok (.iload_n 2, 1) := dk_28 (dk_at dksX0_readIt_3 20 rfl rfl)
theorem dX0_readIt_93 : decode cX0_readIt 93 = .ok (.iload 7, 2) := dk_21 7 (dk_at dksX0_readIt_3 21 rfl rfl)
theorem dX0_readIt_95 : decode cX0_readIt 95 = .ok (.iload 4, 2) := dk_21 4 (dk_at dksX0_readIt_4 0 rfl rfl)
theorem dX0_readIt_97 : decode cX0_readIt 97 = .ok (.iload 6, 2) := dk_21 6 (dk_at dksX0_readIt_4 2 rfl rfl)
theorem dX0_readIt_99 : decode cX0_readIt 99 = .ok (.invokevirtual 328, 3) := dk_182 1 72 (dk_at dksX0_readIt_4 4 rfl rfl)
theorem dX0_readIt_102 : decode cX0_readIt 102 = .ok (.iload 5, 2) := dk_21 5 (dk_at dksX0_readIt_4 7 rfl rfl)
theorem dX0_readIt_104 : decode cX0_readIt 104 = .ok (.ireturn, 1) := dk_172 (dk_at dksX0_readIt_4 9 rfl rfl)
abbrev cX0_settled : ByteArray := prog_1_method_9_code
def yX0_settled : MethodName := ⟨RX0, "settled", "(I)I"⟩
def dkwX0_settled_0 : List UInt8 := [27, 155, 0, 11, 42, 180, 0, 33, 3, 181, 0, 126, 42, 27, 182, 0, 129, 172]
abbrev dktX0_settled_0 : List UInt8 := dkwX0_settled_0 ++ []
theorem dksX0_settled_0 : cX0_settled.data.toList.drop 0 = dktX0_settled_0 := by decide +kernel
theorem dX0_settled_0 : decode cX0_settled 0 = .ok (.iload_n 1, 1) := dk_27 (dk_at dksX0_settled_0 0 rfl rfl)
theorem dX0_settled_1 : decode cX0_settled 1 = .ok (.ifCond .lt 11, 3) := dk_155 0 11 (dk_at dksX0_settled_0 1 rfl rfl)
theorem dX0_settled_4 : decode cX0_settled 4 = .ok (.aload_n 0, 1) := dk_42 (dk_at dksX0_settled_0 4 rfl rfl)
theorem dX0_settled_5 : decode cX0_settled 5 = .ok (.getfield 33, 3) := dk_180 0 33 (dk_at dksX0_settled_0 5 rfl rfl)
theorem dX0_settled_8 : decode cX0_settled 8 = .ok (.iconst 0, 1) := dk_3 (dk_at dksX0_settled_0 8 rfl rfl)
theorem dX0_settled_9 : decode cX0_settled 9 = .ok (.putfield 126, 3) := dk_181 0 126 (dk_at dksX0_settled_0 9 rfl rfl)
theorem dX0_settled_12 : decode cX0_settled 12 = .ok (.aload_n 0, 1) := dk_42 (dk_at dksX0_settled_0 12 rfl rfl)
theorem dX0_settled_13 : decode cX0_settled 13 = .ok (.iload_n 1, 1) := dk_27 (dk_at dksX0_settled_0 13 rfl rfl)
theorem dX0_settled_14 : decode cX0_settled 14 = .ok (.invokevirtual 129, 3) := dk_182 0 129 (dk_at dksX0_settled_0 14 rfl rfl)
theorem dX0_settled_17 : decode cX0_settled 17 = .ok (.ireturn, 1) := dk_172 (dk_at dksX0_settled_0 17 rfl rfl)
abbrev cX0_blanks : ByteArray := prog_1_method_26_code
def yX0_blanks : MethodName := ⟨RX0, "blanks", "()I"⟩
theorem dX0_blanks_0 : decode cX0_blanks 0 = .ok (.aload_n 0, 1) := by decide +kernel
theorem dX0_blanks_1 : decode cX0_blanks 1 = .ok (.getfield 226, 3) := by decide +kernel
theorem dX0_blanks_4 : decode cX0_blanks 4 = .ok (.ireturn, 1) := by decide +kernel
abbrev cX0_policy : ByteArray := prog_1_method_29_code
def yX0_policy : MethodName := ⟨RX0, "policy", "()I"⟩
def dkwX0_policy_1 : List UInt8 := [180, 0, 22, 27, 181, 1, 5, 42, 27, 182, 0, 129, 172]
abbrev dktX0_policy_1 : List UInt8 := dkwX0_policy_1 ++ []
def dkwX0_policy_0 : List UInt8 := [42, 182, 1, 1, 60, 42, 3, 181, 0, 143, 27, 2, 160, 0, 10, 42, 16, 250, 182, 0, 129, 172, 42]
abbrev dktX0_policy_0 : List UInt8 := dkwX0_policy_0 ++ dktX0_policy_1
theorem dksX0_policy_0 : cX0_policy.data.toList.drop 0 = dktX0_policy_0 := by decide +kernel
theorem dksX0_policy_1 : cX0_policy.data.toList.drop 23 = dktX0_policy_1 := dk_seg dksX0_policy_0 23 rfl rfl
theorem dX0_policy_0 : decode cX0_policy 0 = .ok (.aload_n 0, 1) := dk_42 (dk_at dksX0_policy_0 0 rfl rfl)
theorem dX0_policy_1 : decode cX0_policy 1 = .ok (.invokevirtual 257, 3) := dk_182 1 1 (dk_at dksX0_policy_0 1 rfl rfl)
theorem dX0_policy_4 : decode cX0_policy 4 = .ok (.istore_n 1, 1) := dk_60 (dk_at dksX0_policy_0 4 rfl rfl)
theorem dX0_policy_5 : decode cX0_policy 5 = .ok (.aload_n 0, 1) := dk_42 (dk_at dksX0_policy_0 5 rfl rfl)
theorem dX0_policy_6 : decode cX0_policy 6 = .ok (.iconst 0, 1) := dk_3 (dk_at dksX0_policy_0 6 rfl rfl)
theorem dX0_policy_7 : decode cX0_policy 7 = .ok (.putfield 143, 3) := dk_181 0 143 (dk_at dksX0_policy_0 7 rfl rfl)
theorem dX0_policy_10 : decode cX0_policy 10 = .ok (.iload_n 1, 1) := dk_27 (dk_at dksX0_policy_0 10 rfl rfl)
theorem dX0_policy_11 : decode cX0_policy 11 = .ok (.iconst (-1), 1) := dk_2 (dk_at dksX0_policy_0 11 rfl rfl)
theorem dX0_policy_12 : decode cX0_policy 12 = .ok (.if_icmp .ne 10, 3) := dk_160 0 10 (dk_at dksX0_policy_0 12 rfl rfl)
theorem dX0_policy_15 : decode cX0_policy 15 = .ok (.aload_n 0, 1) := dk_42 (dk_at dksX0_policy_0 15 rfl rfl)
theorem dX0_policy_16 : decode cX0_policy 16 = .ok (.bipush (-6), 2) := dk_16 250 (dk_at dksX0_policy_0 16 rfl rfl)
theorem dX0_policy_18 : decode cX0_policy 18 = .ok (.invokevirtual 129, 3) := dk_182 0 129 (dk_at dksX0_policy_0 18 rfl rfl)
theorem dX0_policy_21 : decode cX0_policy 21 = .ok (.ireturn, 1) := dk_172 (dk_at dksX0_policy_0 21 rfl rfl)
theorem dX0_policy_22 : decode cX0_policy 22 = .ok (.aload_n 0, 1) := dk_42 (dk_at dksX0_policy_0 22 rfl rfl)
theorem dX0_policy_23 : decode cX0_policy 23 = .ok (.getfield 22, 3) := dk_180 0 22 (dk_at dksX0_policy_1 0 rfl rfl)
theorem dX0_policy_26 : decode cX0_policy 26 = .ok (.iload_n 1, 1) := dk_27 (dk_at dksX0_policy_1 3 rfl rfl)
theorem dX0_policy_27 : decode cX0_policy 27 = .ok (.putfield 261, 3) := dk_181 1 5 (dk_at dksX0_policy_1 4 rfl rfl)
theorem dX0_policy_30 : decode cX0_policy 30 = .ok (.aload_n 0, 1) := dk_42 (dk_at dksX0_policy_1 7 rfl rfl)
theorem dX0_policy_31 : decode cX0_policy 31 = .ok (.iload_n 1, 1) := dk_27 (dk_at dksX0_policy_1 8 rfl rfl)
theorem dX0_policy_32 : decode cX0_policy 32 = .ok (.invokevirtual 129, 3) := dk_182 0 129 (dk_at dksX0_policy_1 9 rfl rfl)
theorem dX0_policy_35 : decode cX0_policy 35 = .ok (.ireturn, 1) := dk_172 (dk_at dksX0_policy_1 12 rfl rfl)
abbrev cX0_readPolicy : ByteArray := prog_1_method_28_code
def yX0_readPolicy : MethodName := ⟨RX0, "readPolicy", "()I"⟩
def dkwX0_readPolicy_5 : List UInt8 := [167, 0, 4, 2, 172]
abbrev dktX0_readPolicy_5 : List UInt8 := dkwX0_readPolicy_5 ++ []
def dkwX0_readPolicy_4 : List UInt8 := [162, 0, 8, 21, 5, 167, 0, 4, 2, 181, 0, 75, 42, 180, 0, 75, 2, 160, 0, 8, 21, 4]
abbrev dktX0_readPolicy_4 : List UInt8 := dkwX0_readPolicy_4 ++ dktX0_readPolicy_5
def dkwX0_readPolicy_3 : List UInt8 := [182, 0, 241, 54, 5, 42, 21, 4, 2, 160, 0, 7, 27, 167, 0, 18, 21, 5, 42, 180, 0, 143]
abbrev dktX0_readPolicy_3 : List UInt8 := dkwX0_readPolicy_3 ++ dktX0_readPolicy_4
def dkwX0_readPolicy_2 : List UInt8 := [180, 0, 82, 28, 132, 2, 1, 51, 146, 182, 0, 247, 87, 167, 255, 211, 45, 184, 0, 251, 54, 4, 42, 28]
abbrev dktX0_readPolicy_2 : List UInt8 := dkwX0_readPolicy_2 ++ dktX0_readPolicy_3
def dkwX0_readPolicy_1 : List UInt8 := [42, 180, 0, 82, 28, 51, 16, 97, 161, 0, 32, 42, 180, 0, 82, 28, 51, 16, 122, 163, 0, 21, 45, 42]
abbrev dktX0_readPolicy_1 : List UInt8 := dkwX0_readPolicy_1 ++ dktX0_readPolicy_2
def dkwX0_readPolicy_0 : List UInt8 := [42, 3, 182, 0, 241, 60, 27, 61, 187, 0, 244, 89, 183, 0, 246, 78, 28, 42, 180, 0, 143, 162, 0, 43]
abbrev dktX0_readPolicy_0 : List UInt8 := dkwX0_readPolicy_0 ++ dktX0_readPolicy_1
theorem dksX0_readPolicy_0 : cX0_readPolicy.data.toList.drop 0 = dktX0_readPolicy_0 := by decide +kernel
theorem dksX0_readPolicy_1 : cX0_readPolicy.data.toList.drop 24 = dktX0_readPolicy_1 := dk_seg dksX0_readPolicy_0 24 rfl rfl
theorem dksX0_readPolicy_2 : cX0_readPolicy.data.toList.drop 48 = dktX0_readPolicy_2 := dk_seg dksX0_readPolicy_1 24 rfl rfl
theorem dksX0_readPolicy_3 : cX0_readPolicy.data.toList.drop 72 = dktX0_readPolicy_3 := dk_seg dksX0_readPolicy_2 24 rfl rfl
theorem dksX0_readPolicy_4 : cX0_readPolicy.data.toList.drop 94 = dktX0_readPolicy_4 := dk_seg dksX0_readPolicy_3 22 rfl rfl
theorem dksX0_readPolicy_5 : cX0_readPolicy.data.toList.drop 116 = dktX0_readPolicy_5 := dk_seg dksX0_readPolicy_4 22 rfl rfl
theorem dX0_readPolicy_0 : decode cX0_readPolicy 0 = .ok (.aload_n 0, 1) := dk_42 (dk_at dksX0_readPolicy_0 0 rfl rfl)
theorem dX0_readPolicy_1 : decode cX0_readPolicy 1 = .ok (.iconst 0, 1) := dk_3 (dk_at dksX0_readPolicy_0 1 rfl rfl)
theorem dX0_readPolicy_2 : decode cX0_readPolicy 2 = .ok (.invokevirtual 241, 3) := dk_182 0 241 (dk_at dksX0_readPolicy_0 2 rfl rfl)
theorem dX0_readPolicy_5 : decode cX0_readPolicy 5 = .ok (.istore_n 1, 1) := dk_60 (dk_at dksX0_readPolicy_0 5 rfl rfl)
theorem dX0_readPolicy_6 : decode cX0_readPolicy 6 = .ok (.iload_n 1, 1) := dk_27 (dk_at dksX0_readPolicy_0 6 rfl rfl)
theorem dX0_readPolicy_7 : decode cX0_readPolicy 7 = .ok (.istore_n 2, 1) := dk_61 (dk_at dksX0_readPolicy_0 7 rfl rfl)
theorem dX0_readPolicy_8 : decode cX0_readPolicy 8 = .ok (.new 244, 3) := dk_187 0 244 (dk_at dksX0_readPolicy_0 8 rfl rfl)
theorem dX0_readPolicy_11 : decode cX0_readPolicy 11 = .ok (.dup, 1) := dk_89 (dk_at dksX0_readPolicy_0 11 rfl rfl)
theorem dX0_readPolicy_12 : decode cX0_readPolicy 12 = .ok (.invokespecial 246, 3) := dk_183 0 246 (dk_at dksX0_readPolicy_0 12 rfl rfl)
theorem dX0_readPolicy_15 : decode cX0_readPolicy 15 = .ok (.astore_n 3, 1) := dk_78 (dk_at dksX0_readPolicy_0 15 rfl rfl)
theorem dX0_readPolicy_16 : decode cX0_readPolicy 16 = .ok (.iload_n 2, 1) := dk_28 (dk_at dksX0_readPolicy_0 16 rfl rfl)
theorem dX0_readPolicy_17 : decode cX0_readPolicy 17 = .ok (.aload_n 0, 1) := dk_42 (dk_at dksX0_readPolicy_0 17 rfl rfl)
theorem dX0_readPolicy_18 : decode cX0_readPolicy 18 = .ok (.getfield 143, 3) := dk_180 0 143 (dk_at dksX0_readPolicy_0 18 rfl rfl)
theorem dX0_readPolicy_21 : decode cX0_readPolicy 21 = .ok (.if_icmp .ge 43, 3) := dk_162 0 43 (dk_at dksX0_readPolicy_0 21 rfl rfl)
theorem dX0_readPolicy_24 : decode cX0_readPolicy 24 = .ok (.aload_n 0, 1) := dk_42 (dk_at dksX0_readPolicy_1 0 rfl rfl)
theorem dX0_readPolicy_25 : decode cX0_readPolicy 25 = .ok (.getfield 82, 3) := dk_180 0 82 (dk_at dksX0_readPolicy_1 1 rfl rfl)
theorem dX0_readPolicy_28 : decode cX0_readPolicy 28 = .ok (.iload_n 2, 1) := dk_28 (dk_at dksX0_readPolicy_1 4 rfl rfl)
theorem dX0_readPolicy_29 : decode cX0_readPolicy 29 = .ok (.baload, 1) := dk_51 (dk_at dksX0_readPolicy_1 5 rfl rfl)
theorem dX0_readPolicy_30 : decode cX0_readPolicy 30 = .ok (.bipush 97, 2) := dk_16 97 (dk_at dksX0_readPolicy_1 6 rfl rfl)
theorem dX0_readPolicy_32 : decode cX0_readPolicy 32 = .ok (.if_icmp .lt 32, 3) := dk_161 0 32 (dk_at dksX0_readPolicy_1 8 rfl rfl)
theorem dX0_readPolicy_35 : decode cX0_readPolicy 35 = .ok (.aload_n 0, 1) := dk_42 (dk_at dksX0_readPolicy_1 11 rfl rfl)
theorem dX0_readPolicy_36 : decode cX0_readPolicy 36 = .ok (.getfield 82, 3) := dk_180 0 82 (dk_at dksX0_readPolicy_1 12 rfl rfl)
theorem dX0_readPolicy_39 : decode cX0_readPolicy 39 = .ok (.iload_n 2, 1) := dk_28 (dk_at dksX0_readPolicy_1 15 rfl rfl)
theorem dX0_readPolicy_40 : decode cX0_readPolicy 40 = .ok (.baload, 1) := dk_51 (dk_at dksX0_readPolicy_1 16 rfl rfl)
theorem dX0_readPolicy_41 : decode cX0_readPolicy 41 = .ok (.bipush 122, 2) := dk_16 122 (dk_at dksX0_readPolicy_1 17 rfl rfl)
theorem dX0_readPolicy_43 : decode cX0_readPolicy 43 = .ok (.if_icmp .gt 21, 3) := dk_163 0 21 (dk_at dksX0_readPolicy_1 19 rfl rfl)
theorem dX0_readPolicy_46 : decode cX0_readPolicy 46 = .ok (.aload_n 3, 1) := dk_45 (dk_at dksX0_readPolicy_1 22 rfl rfl)
theorem dX0_readPolicy_47 : decode cX0_readPolicy 47 = .ok (.aload_n 0, 1) := dk_42 (dk_at dksX0_readPolicy_1 23 rfl rfl)
theorem dX0_readPolicy_48 : decode cX0_readPolicy 48 = .ok (.getfield 82, 3) := dk_180 0 82 (dk_at dksX0_readPolicy_2 0 rfl rfl)
theorem dX0_readPolicy_51 : decode cX0_readPolicy 51 = .ok (.iload_n 2, 1) := dk_28 (dk_at dksX0_readPolicy_2 3 rfl rfl)
theorem dX0_readPolicy_52 : decode cX0_readPolicy 52 = .ok (.iinc 2 1, 3) := dk_132 2 1 (dk_at dksX0_readPolicy_2 4 rfl rfl)
theorem dX0_readPolicy_55 : decode cX0_readPolicy 55 = .ok (.baload, 1) := dk_51 (dk_at dksX0_readPolicy_2 7 rfl rfl)
theorem dX0_readPolicy_56 : decode cX0_readPolicy 56 = .ok (.i2c, 1) := dk_146 (dk_at dksX0_readPolicy_2 8 rfl rfl)
theorem dX0_readPolicy_57 : decode cX0_readPolicy 57 = .ok (.invokevirtual 247, 3) := dk_182 0 247 (dk_at dksX0_readPolicy_2 9 rfl rfl)
theorem dX0_readPolicy_60 : decode cX0_readPolicy 60 = .ok (.pop, 1) := dk_87 (dk_at dksX0_readPolicy_2 12 rfl rfl)
theorem dX0_readPolicy_61 : decode cX0_readPolicy 61 = .ok (.goto (-45), 3) := dk_167 255 211 (dk_at dksX0_readPolicy_2 13 rfl rfl)
theorem dX0_readPolicy_64 : decode cX0_readPolicy 64 = .ok (.aload_n 3, 1) := dk_45 (dk_at dksX0_readPolicy_2 16 rfl rfl)
theorem dX0_readPolicy_65 : decode cX0_readPolicy 65 = .ok (.invokestatic 251, 3) := dk_184 0 251 (dk_at dksX0_readPolicy_2 17 rfl rfl)
theorem dX0_readPolicy_68 : decode cX0_readPolicy 68 = .ok (.istore 4, 2) := dk_54 4 (dk_at dksX0_readPolicy_2 20 rfl rfl)
theorem dX0_readPolicy_70 : decode cX0_readPolicy 70 = .ok (.aload_n 0, 1) := dk_42 (dk_at dksX0_readPolicy_2 22 rfl rfl)
theorem dX0_readPolicy_71 : decode cX0_readPolicy 71 = .ok (.iload_n 2, 1) := dk_28 (dk_at dksX0_readPolicy_2 23 rfl rfl)
theorem dX0_readPolicy_72 : decode cX0_readPolicy 72 = .ok (.invokevirtual 241, 3) := dk_182 0 241 (dk_at dksX0_readPolicy_3 0 rfl rfl)
theorem dX0_readPolicy_75 : decode cX0_readPolicy 75 = .ok (.istore 5, 2) := dk_54 5 (dk_at dksX0_readPolicy_3 3 rfl rfl)
theorem dX0_readPolicy_77 : decode cX0_readPolicy 77 = .ok (.aload_n 0, 1) := dk_42 (dk_at dksX0_readPolicy_3 5 rfl rfl)
theorem dX0_readPolicy_78 : decode cX0_readPolicy 78 = .ok (.iload 4, 2) := dk_21 4 (dk_at dksX0_readPolicy_3 6 rfl rfl)
theorem dX0_readPolicy_80 : decode cX0_readPolicy 80 = .ok (.iconst (-1), 1) := dk_2 (dk_at dksX0_readPolicy_3 8 rfl rfl)
theorem dX0_readPolicy_81 : decode cX0_readPolicy 81 = .ok (.if_icmp .ne 7, 3) := dk_160 0 7 (dk_at dksX0_readPolicy_3 9 rfl rfl)
theorem dX0_readPolicy_84 : decode cX0_readPolicy 84 = .ok (.iload_n 1, 1) := dk_27 (dk_at dksX0_readPolicy_3 12 rfl rfl)
theorem dX0_readPolicy_85 : decode cX0_readPolicy 85 = .ok (.goto 18, 3) := dk_167 0 18 (dk_at dksX0_readPolicy_3 13 rfl rfl)
theorem dX0_readPolicy_88 : decode cX0_readPolicy 88 = .ok (.iload 5, 2) := dk_21 5 (dk_at dksX0_readPolicy_3 16 rfl rfl)
theorem dX0_readPolicy_90 : decode cX0_readPolicy 90 = .ok (.aload_n 0, 1) := dk_42 (dk_at dksX0_readPolicy_3 18 rfl rfl)
theorem dX0_readPolicy_91 : decode cX0_readPolicy 91 = .ok (.getfield 143, 3) := dk_180 0 143 (dk_at dksX0_readPolicy_3 19 rfl rfl)
theorem dX0_readPolicy_94 : decode cX0_readPolicy 94 = .ok (.if_icmp .ge 8, 3) := dk_162 0 8 (dk_at dksX0_readPolicy_4 0 rfl rfl)
theorem dX0_readPolicy_97 : decode cX0_readPolicy 97 = .ok (.iload 5, 2) := dk_21 5 (dk_at dksX0_readPolicy_4 3 rfl rfl)
theorem dX0_readPolicy_99 : decode cX0_readPolicy 99 = .ok (.goto 4, 3) := dk_167 0 4 (dk_at dksX0_readPolicy_4 5 rfl rfl)
theorem dX0_readPolicy_102 : decode cX0_readPolicy 102 = .ok (.iconst (-1), 1) := dk_2 (dk_at dksX0_readPolicy_4 8 rfl rfl)
theorem dX0_readPolicy_103 : decode cX0_readPolicy 103 = .ok (.putfield 75, 3) := dk_181 0 75 (dk_at dksX0_readPolicy_4 9 rfl rfl)
theorem dX0_readPolicy_106 : decode cX0_readPolicy 106 = .ok (.aload_n 0, 1) := dk_42 (dk_at dksX0_readPolicy_4 12 rfl rfl)
theorem dX0_readPolicy_107 : decode cX0_readPolicy 107 = .ok (.getfield 75, 3) := dk_180 0 75 (dk_at dksX0_readPolicy_4 13 rfl rfl)
theorem dX0_readPolicy_110 : decode cX0_readPolicy 110 = .ok (.iconst (-1), 1) := dk_2 (dk_at dksX0_readPolicy_4 16 rfl rfl)
theorem dX0_readPolicy_111 : decode cX0_readPolicy 111 = .ok (.if_icmp .ne 8, 3) := dk_160 0 8 (dk_at dksX0_readPolicy_4 17 rfl rfl)
theorem dX0_readPolicy_114 : decode cX0_readPolicy 114 = .ok (.iload 4, 2) := dk_21 4 (dk_at dksX0_readPolicy_4 20 rfl rfl)
theorem dX0_readPolicy_116 : decode cX0_readPolicy 116 = .ok (.goto 4, 3) := dk_167 0 4 (dk_at dksX0_readPolicy_5 0 rfl rfl)
theorem dX0_readPolicy_119 : decode cX0_readPolicy 119 = .ok (.iconst (-1), 1) := dk_2 (dk_at dksX0_readPolicy_5 3 rfl rfl)
theorem dX0_readPolicy_120 : decode cX0_readPolicy 120 = .ok (.ireturn, 1) := dk_172 (dk_at dksX0_readPolicy_5 4 rfl rfl)
abbrev cX0_behindBlanks : ByteArray := prog_1_method_27_code
def yX0_behindBlanks : MethodName := ⟨RX0, "behindBlanks", "(I)I"⟩
def dkwX0_behindBlanks_1 : List UInt8 := [167, 255, 234, 28, 172]
abbrev dktX0_behindBlanks_1 : List UInt8 := dkwX0_behindBlanks_1 ++ []
def dkwX0_behindBlanks_0 : List UInt8 := [27, 61, 28, 42, 180, 0, 143, 162, 0, 20, 42, 180, 0, 82, 28, 51, 16, 32, 160, 0, 9, 132, 2, 1]
abbrev dktX0_behindBlanks_0 : List UInt8 := dkwX0_behindBlanks_0 ++ dktX0_behindBlanks_1
theorem dksX0_behindBlanks_0 : cX0_behindBlanks.data.toList.drop 0 = dktX0_behindBlanks_0 := by decide +kernel
theorem dksX0_behindBlanks_1 : cX0_behindBlanks.data.toList.drop 24 = dktX0_behindBlanks_1 := dk_seg dksX0_behindBlanks_0 24 rfl rfl
theorem dX0_behindBlanks_0 : decode cX0_behindBlanks 0 = .ok (.iload_n 1, 1) := dk_27 (dk_at dksX0_behindBlanks_0 0 rfl rfl)
theorem dX0_behindBlanks_1 : decode cX0_behindBlanks 1 = .ok (.istore_n 2, 1) := dk_61 (dk_at dksX0_behindBlanks_0 1 rfl rfl)
theorem dX0_behindBlanks_2 : decode cX0_behindBlanks 2 = .ok (.iload_n 2, 1) := dk_28 (dk_at dksX0_behindBlanks_0 2 rfl rfl)
theorem dX0_behindBlanks_3 : decode cX0_behindBlanks 3 = .ok (.aload_n 0, 1) := dk_42 (dk_at dksX0_behindBlanks_0 3 rfl rfl)
theorem dX0_behindBlanks_4 : decode cX0_behindBlanks 4 = .ok (.getfield 143, 3) := dk_180 0 143 (dk_at dksX0_behindBlanks_0 4 rfl rfl)
theorem dX0_behindBlanks_7 : decode cX0_behindBlanks 7 = .ok (.if_icmp .ge 20, 3) := dk_162 0 20 (dk_at dksX0_behindBlanks_0 7 rfl rfl)
theorem dX0_behindBlanks_10 : decode cX0_behindBlanks 10 = .ok (.aload_n 0, 1) := dk_42 (dk_at dksX0_behindBlanks_0 10 rfl rfl)
theorem dX0_behindBlanks_11 : decode cX0_behindBlanks 11 = .ok (.getfield 82, 3) := dk_180 0 82 (dk_at dksX0_behindBlanks_0 11 rfl rfl)
theorem dX0_behindBlanks_14 : decode cX0_behindBlanks 14 = .ok (.iload_n 2, 1) := dk_28 (dk_at dksX0_behindBlanks_0 14 rfl rfl)
theorem dX0_behindBlanks_15 : decode cX0_behindBlanks 15 = .ok (.baload, 1) := dk_51 (dk_at dksX0_behindBlanks_0 15 rfl rfl)
theorem dX0_behindBlanks_16 : decode cX0_behindBlanks 16 = .ok (.bipush 32, 2) := dk_16 32 (dk_at dksX0_behindBlanks_0 16 rfl rfl)
theorem dX0_behindBlanks_18 : decode cX0_behindBlanks 18 = .ok (.if_icmp .ne 9, 3) := dk_160 0 9 (dk_at dksX0_behindBlanks_0 18 rfl rfl)
theorem dX0_behindBlanks_21 : decode cX0_behindBlanks 21 = .ok (.iinc 2 1, 3) := dk_132 2 1 (dk_at dksX0_behindBlanks_0 21 rfl rfl)
theorem dX0_behindBlanks_24 : decode cX0_behindBlanks 24 = .ok (.goto (-22), 3) := dk_167 255 234 (dk_at dksX0_behindBlanks_1 0 rfl rfl)
theorem dX0_behindBlanks_27 : decode cX0_behindBlanks 27 = .ok (.iload_n 2, 1) := dk_28 (dk_at dksX0_behindBlanks_1 3 rfl rfl)
theorem dX0_behindBlanks_28 : decode cX0_behindBlanks 28 = .ok (.ireturn, 1) := dk_172 (dk_at dksX0_behindBlanks_1 4 rfl rfl)
abbrev cX0_law : ByteArray := prog_1_method_30_code
def yX0_law : MethodName := ⟨RX0, "law", "()I"⟩
def dkwX0_law_4 : List UInt8 := [182, 0, 129, 61, 42, 3, 181, 0, 143, 28, 172, 78, 42, 3, 181, 0, 143, 45, 191]
abbrev dktX0_law_4 : List UInt8 := dkwX0_law_4 ++ []
def dkwX0_law_3 : List UInt8 := [182, 0, 129, 60, 42, 3, 181, 0, 143, 27, 172, 76, 42, 43, 180, 1, 32, 181, 0, 75, 42, 16, 250]
abbrev dktX0_law_3 : List UInt8 := dkwX0_law_3 ++ dktX0_law_4
def dkwX0_law_2 : List UInt8 := [182, 1, 26, 87, 42, 2, 181, 0, 75, 42, 42, 180, 0, 22, 180, 1, 8, 182, 1, 12, 4, 100]
abbrev dktX0_law_2 : List UInt8 := dkwX0_law_2 ++ dktX0_law_3
def dkwX0_law_1 : List UInt8 := [182, 0, 129, 172, 42, 180, 0, 22, 180, 1, 8, 187, 1, 17, 89, 42, 183, 1, 19, 182, 1, 22]
abbrev dktX0_law_1 : List UInt8 := dkwX0_law_1 ++ dktX0_law_2
def dkwX0_law_0 : List UInt8 := [42, 180, 0, 22, 180, 1, 8, 182, 1, 12, 16, 6, 160, 0, 15, 42, 3, 181, 0, 143, 42, 16, 251]
abbrev dktX0_law_0 : List UInt8 := dkwX0_law_0 ++ dktX0_law_1
theorem dksX0_law_0 : cX0_law.data.toList.drop 0 = dktX0_law_0 := by decide +kernel
theorem dksX0_law_1 : cX0_law.data.toList.drop 23 = dktX0_law_1 := dk_seg dksX0_law_0 23 rfl rfl
theorem dksX0_law_2 : cX0_law.data.toList.drop 45 = dktX0_law_2 := dk_seg dksX0_law_1 22 rfl rfl
theorem dksX0_law_3 : cX0_law.data.toList.drop 67 = dktX0_law_3 := dk_seg dksX0_law_2 22 rfl rfl
theorem dksX0_law_4 : cX0_law.data.toList.drop 90 = dktX0_law_4 := dk_seg dksX0_law_3 23 rfl rfl
theorem dX0_law_0 : decode cX0_law 0 = .ok (.aload_n 0, 1) := dk_42 (dk_at dksX0_law_0 0 rfl rfl)
theorem dX0_law_1 : decode cX0_law 1 = .ok (.getfield 22, 3) := dk_180 0 22 (dk_at dksX0_law_0 1 rfl rfl)
theorem dX0_law_4 : decode cX0_law 4 = .ok (.getfield 264, 3) := dk_180 1 8 (dk_at dksX0_law_0 4 rfl rfl)
theorem dX0_law_7 : decode cX0_law 7 = .ok (.invokevirtual 268, 3) := dk_182 1 12 (dk_at dksX0_law_0 7 rfl rfl)
theorem dX0_law_10 : decode cX0_law 10 = .ok (.bipush 6, 2) := dk_16 6 (dk_at dksX0_law_0 10 rfl rfl)
theorem dX0_law_12 : decode cX0_law 12 = .ok (.if_icmp .ne 15, 3) := dk_160 0 15 (dk_at dksX0_law_0 12 rfl rfl)
theorem dX0_law_15 : decode cX0_law 15 = .ok (.aload_n 0, 1) := dk_42 (dk_at dksX0_law_0 15 rfl rfl)
theorem dX0_law_16 : decode cX0_law 16 = .ok (.iconst 0, 1) := dk_3 (dk_at dksX0_law_0 16 rfl rfl)
theorem dX0_law_17 : decode cX0_law 17 = .ok (.putfield 143, 3) := dk_181 0 143 (dk_at dksX0_law_0 17 rfl rfl)
theorem dX0_law_20 : decode cX0_law 20 = .ok (.aload_n 0, 1) := dk_42 (dk_at dksX0_law_0 20 rfl rfl)
theorem dX0_law_21 : decode cX0_law 21 = .ok (.bipush (-5), 2) := dk_16 251 (dk_at dksX0_law_0 21 rfl rfl)
theorem dX0_law_23 : decode cX0_law 23 = .ok (.invokevirtual 129, 3) := dk_182 0 129 (dk_at dksX0_law_1 0 rfl rfl)
theorem dX0_law_26 : decode cX0_law 26 = .ok (.ireturn, 1) := dk_172 (dk_at dksX0_law_1 3 rfl rfl)
theorem dX0_law_27 : decode cX0_law 27 = .ok (.aload_n 0, 1) := dk_42 (dk_at dksX0_law_1 4 rfl rfl)
theorem dX0_law_28 : decode cX0_law 28 = .ok (.getfield 22, 3) := dk_180 0 22 (dk_at dksX0_law_1 5 rfl rfl)
theorem dX0_law_31 : decode cX0_law 31 = .ok (.getfield 264, 3) := dk_180 1 8 (dk_at dksX0_law_1 8 rfl rfl)
theorem dX0_law_34 : decode cX0_law 34 = .ok (.new 273, 3) := dk_187 1 17 (dk_at dksX0_law_1 11 rfl rfl)
theorem dX0_law_37 : decode cX0_law 37 = .ok (.dup, 1) := dk_89 (dk_at dksX0_law_1 14 rfl rfl)
theorem dX0_law_38 : decode cX0_law 38 = .ok (.aload_n 0, 1) := dk_42 (dk_at dksX0_law_1 15 rfl rfl)
theorem dX0_law_39 : decode cX0_law 39 = .ok (.invokespecial 275, 3) := dk_183 1 19 (dk_at dksX0_law_1 16 rfl rfl)
theorem dX0_law_42 : decode cX0_law 42 = .ok (.invokevirtual 278, 3) := dk_182 1 22 (dk_at dksX0_law_1 19 rfl rfl)
theorem dX0_law_45 : decode cX0_law 45 = .ok (.invokevirtual 282, 3) := dk_182 1 26 (dk_at dksX0_law_2 0 rfl rfl)
theorem dX0_law_48 : decode cX0_law 48 = .ok (.pop, 1) := dk_87 (dk_at dksX0_law_2 3 rfl rfl)
theorem dX0_law_49 : decode cX0_law 49 = .ok (.aload_n 0, 1) := dk_42 (dk_at dksX0_law_2 4 rfl rfl)
theorem dX0_law_50 : decode cX0_law 50 = .ok (.iconst (-1), 1) := dk_2 (dk_at dksX0_law_2 5 rfl rfl)
theorem dX0_law_51 : decode cX0_law 51 = .ok (.putfield 75, 3) := dk_181 0 75 (dk_at dksX0_law_2 6 rfl rfl)
theorem dX0_law_54 : decode cX0_law 54 = .ok (.aload_n 0, 1) := dk_42 (dk_at dksX0_law_2 9 rfl rfl)
theorem dX0_law_55 : decode cX0_law 55 = .ok (.aload_n 0, 1) := dk_42 (dk_at dksX0_law_2 10 rfl rfl)
theorem dX0_law_56 : decode cX0_law 56 = .ok (.getfield 22, 3) := dk_180 0 22 (dk_at dksX0_law_2 11 rfl rfl)
theorem dX0_law_59 : decode cX0_law 59 = .ok (.getfield 264, 3) := dk_180 1 8 (dk_at dksX0_law_2 14 rfl rfl)
theorem dX0_law_62 : decode cX0_law 62 = .ok (.invokevirtual 268, 3) := dk_182 1 12 (dk_at dksX0_law_2 17 rfl rfl)
theorem dX0_law_65 : decode cX0_law 65 = .ok (.iconst 1, 1) := dk_4 (dk_at dksX0_law_2 20 rfl rfl)
theorem dX0_law_66 : decode cX0_law 66 = .ok (.isub, 1) := dk_100 (dk_at dksX0_law_2 21 rfl rfl)
theorem dX0_law_67 : decode cX0_law 67 = .ok (.invokevirtual 129, 3) := dk_182 0 129 (dk_at dksX0_law_3 0 rfl rfl)
theorem dX0_law_70 : decode cX0_law 70 = .ok (.istore_n 1, 1) := dk_60 (dk_at dksX0_law_3 3 rfl rfl)
theorem dX0_law_71 : decode cX0_law 71 = .ok (.aload_n 0, 1) := dk_42 (dk_at dksX0_law_3 4 rfl rfl)
theorem dX0_law_72 : decode cX0_law 72 = .ok (.iconst 0, 1) := dk_3 (dk_at dksX0_law_3 5 rfl rfl)
theorem dX0_law_73 : decode cX0_law 73 = .ok (.putfield 143, 3) := dk_181 0 143 (dk_at dksX0_law_3 6 rfl rfl)
theorem dX0_law_76 : decode cX0_law 76 = .ok (.iload_n 1, 1) := dk_27 (dk_at dksX0_law_3 9 rfl rfl)
theorem dX0_law_77 : decode cX0_law 77 = .ok (.ireturn, 1) := dk_172 (dk_at dksX0_law_3 10 rfl rfl)
theorem dX0_law_78 : decode cX0_law 78 = .ok (.astore_n 1, 1) := dk_76 (dk_at dksX0_law_3 11 rfl rfl)
theorem dX0_law_79 : decode cX0_law 79 = .ok (.aload_n 0, 1) := dk_42 (dk_at dksX0_law_3 12 rfl rfl)
theorem dX0_law_80 : decode cX0_law 80 = .ok (.aload_n 1, 1) := dk_43 (dk_at dksX0_law_3 13 rfl rfl)
theorem dX0_law_81 : decode cX0_law 81 = .ok (.getfield 288, 3) := dk_180 1 32 (dk_at dksX0_law_3 14 rfl rfl)
theorem dX0_law_84 : decode cX0_law 84 = .ok (.putfield 75, 3) := dk_181 0 75 (dk_at dksX0_law_3 17 rfl rfl)
theorem dX0_law_87 : decode cX0_law 87 = .ok (.aload_n 0, 1) := dk_42 (dk_at dksX0_law_3 20 rfl rfl)
theorem dX0_law_88 : decode cX0_law 88 = .ok (.bipush (-6), 2) := dk_16 250 (dk_at dksX0_law_3 21 rfl rfl)
theorem dX0_law_90 : decode cX0_law 90 = .ok (.invokevirtual 129, 3) := dk_182 0 129 (dk_at dksX0_law_4 0 rfl rfl)
theorem dX0_law_93 : decode cX0_law 93 = .ok (.istore_n 2, 1) := dk_61 (dk_at dksX0_law_4 3 rfl rfl)
theorem dX0_law_94 : decode cX0_law 94 = .ok (.aload_n 0, 1) := dk_42 (dk_at dksX0_law_4 4 rfl rfl)
theorem dX0_law_95 : decode cX0_law 95 = .ok (.iconst 0, 1) := dk_3 (dk_at dksX0_law_4 5 rfl rfl)
theorem dX0_law_96 : decode cX0_law 96 = .ok (.putfield 143, 3) := dk_181 0 143 (dk_at dksX0_law_4 6 rfl rfl)
theorem dX0_law_99 : decode cX0_law 99 = .ok (.iload_n 2, 1) := dk_28 (dk_at dksX0_law_4 9 rfl rfl)
theorem dX0_law_100 : decode cX0_law 100 = .ok (.ireturn, 1) := dk_172 (dk_at dksX0_law_4 10 rfl rfl)
theorem dX0_law_101 : decode cX0_law 101 = .ok (.astore_n 3, 1) := dk_78 (dk_at dksX0_law_4 11 rfl rfl)
theorem dX0_law_102 : decode cX0_law 102 = .ok (.aload_n 0, 1) := dk_42 (dk_at dksX0_law_4 12 rfl rfl)
theorem dX0_law_103 : decode cX0_law 103 = .ok (.iconst 0, 1) := dk_3 (dk_at dksX0_law_4 13 rfl rfl)
theorem dX0_law_104 : decode cX0_law 104 = .ok (.putfield 143, 3) := dk_181 0 143 (dk_at dksX0_law_4 14 rfl rfl)
theorem dX0_law_107 : decode cX0_law 107 = .ok (.aload_n 3, 1) := dk_45 (dk_at dksX0_law_4 17 rfl rfl)
theorem dX0_law_108 : decode cX0_law 108 = .ok (.athrow, 1) := dk_191 (dk_at dksX0_law_4 18 rfl rfl)
abbrev cX0_isLetter : ByteArray := prog_1_method_16_code
def yX0_isLetter : MethodName := ⟨RX0, "isLetter", "(I)Z"⟩
def dkwX0_isLetter_0 : List UInt8 := [26, 16, 97, 161, 0, 13, 26, 16, 122, 163, 0, 7, 4, 167, 0, 4, 3, 172]
abbrev dktX0_isLetter_0 : List UInt8 := dkwX0_isLetter_0 ++ []
theorem dksX0_isLetter_0 : cX0_isLetter.data.toList.drop 0 = dktX0_isLetter_0 := by decide +kernel
theorem dX0_isLetter_0 : decode cX0_isLetter 0 = .ok (.iload_n 0, 1) := dk_26 (dk_at dksX0_isLetter_0 0 rfl rfl)
theorem dX0_isLetter_1 : decode cX0_isLetter 1 = .ok (.bipush 97, 2) := dk_16 97 (dk_at dksX0_isLetter_0 1 rfl rfl)
theorem dX0_isLetter_3 : decode cX0_isLetter 3 = .ok (.if_icmp .lt 13, 3) := dk_161 0 13 (dk_at dksX0_isLetter_0 3 rfl rfl)
theorem dX0_isLetter_6 : decode cX0_isLetter 6 = .ok (.iload_n 0, 1) := dk_26 (dk_at dksX0_isLetter_0 6 rfl rfl)
theorem dX0_isLetter_7 : decode cX0_isLetter 7 = .ok (.bipush 122, 2) := dk_16 122 (dk_at dksX0_isLetter_0 7 rfl rfl)
theorem dX0_isLetter_9 : decode cX0_isLetter 9 = .ok (.if_icmp .gt 7, 3) := dk_163 0 7 (dk_at dksX0_isLetter_0 9 rfl rfl)
theorem dX0_isLetter_12 : decode cX0_isLetter 12 = .ok (.iconst 1, 1) := dk_4 (dk_at dksX0_isLetter_0 12 rfl rfl)
theorem dX0_isLetter_13 : decode cX0_isLetter 13 = .ok (.goto 4, 3) := dk_167 0 4 (dk_at dksX0_isLetter_0 13 rfl rfl)
theorem dX0_isLetter_16 : decode cX0_isLetter 16 = .ok (.iconst 0, 1) := dk_3 (dk_at dksX0_isLetter_0 16 rfl rfl)
theorem dX0_isLetter_17 : decode cX0_isLetter 17 = .ok (.ireturn, 1) := dk_172 (dk_at dksX0_isLetter_0 17 rfl rfl)
abbrev cX0_isDigit : ByteArray := prog_1_method_17_code
def yX0_isDigit : MethodName := ⟨RX0, "isDigit", "(I)Z"⟩
def dkwX0_isDigit_0 : List UInt8 := [26, 16, 48, 161, 0, 13, 26, 16, 57, 163, 0, 7, 4, 167, 0, 4, 3, 172]
abbrev dktX0_isDigit_0 : List UInt8 := dkwX0_isDigit_0 ++ []
theorem dksX0_isDigit_0 : cX0_isDigit.data.toList.drop 0 = dktX0_isDigit_0 := by decide +kernel
theorem dX0_isDigit_0 : decode cX0_isDigit 0 = .ok (.iload_n 0, 1) := dk_26 (dk_at dksX0_isDigit_0 0 rfl rfl)
theorem dX0_isDigit_1 : decode cX0_isDigit 1 = .ok (.bipush 48, 2) := dk_16 48 (dk_at dksX0_isDigit_0 1 rfl rfl)
theorem dX0_isDigit_3 : decode cX0_isDigit 3 = .ok (.if_icmp .lt 13, 3) := dk_161 0 13 (dk_at dksX0_isDigit_0 3 rfl rfl)
theorem dX0_isDigit_6 : decode cX0_isDigit 6 = .ok (.iload_n 0, 1) := dk_26 (dk_at dksX0_isDigit_0 6 rfl rfl)
theorem dX0_isDigit_7 : decode cX0_isDigit 7 = .ok (.bipush 57, 2) := dk_16 57 (dk_at dksX0_isDigit_0 7 rfl rfl)
theorem dX0_isDigit_9 : decode cX0_isDigit 9 = .ok (.if_icmp .gt 7, 3) := dk_163 0 7 (dk_at dksX0_isDigit_0 9 rfl rfl)
theorem dX0_isDigit_12 : decode cX0_isDigit 12 = .ok (.iconst 1, 1) := dk_4 (dk_at dksX0_isDigit_0 12 rfl rfl)
theorem dX0_isDigit_13 : decode cX0_isDigit 13 = .ok (.goto 4, 3) := dk_167 0 4 (dk_at dksX0_isDigit_0 13 rfl rfl)
theorem dX0_isDigit_16 : decode cX0_isDigit 16 = .ok (.iconst 0, 1) := dk_3 (dk_at dksX0_isDigit_0 16 rfl rfl)
theorem dX0_isDigit_17 : decode cX0_isDigit 17 = .ok (.ireturn, 1) := dk_172 (dk_at dksX0_isDigit_0 17 rfl rfl)
abbrev cX0_fault : ByteArray := prog_1_method_31_code
def yX0_fault : MethodName := ⟨RX0, "fault", "()I"⟩
theorem dX0_fault_0 : decode cX0_fault 0 = .ok (.aload_n 0, 1) := by decide +kernel
theorem dX0_fault_1 : decode cX0_fault 1 = .ok (.getfield 75, 3) := by decide +kernel
theorem dX0_fault_4 : decode cX0_fault 4 = .ok (.ireturn, 1) := by decide +kernel
abbrev cX0_force : ByteArray := prog_1_method_33_code
def yX0_force : MethodName := ⟨RX0, "force", "(I)I"⟩
def dkwX0_force_1 : List UInt8 := [180, 0, 22, 27, 181, 1, 37, 42, 28, 182, 0, 217, 172]
abbrev dktX0_force_1 : List UInt8 := dkwX0_force_1 ++ []
def dkwX0_force_0 : List UInt8 := [42, 27, 182, 1, 34, 154, 0, 10, 42, 16, 254, 182, 0, 129, 172, 42, 180, 0, 22, 180, 1, 37, 61, 42]
abbrev dktX0_force_0 : List UInt8 := dkwX0_force_0 ++ dktX0_force_1
theorem dksX0_force_0 : cX0_force.data.toList.drop 0 = dktX0_force_0 := by decide +kernel
theorem dksX0_force_1 : cX0_force.data.toList.drop 24 = dktX0_force_1 := dk_seg dksX0_force_0 24 rfl rfl
theorem dX0_force_0 : decode cX0_force 0 = .ok (.aload_n 0, 1) := dk_42 (dk_at dksX0_force_0 0 rfl rfl)
theorem dX0_force_1 : decode cX0_force 1 = .ok (.iload_n 1, 1) := dk_27 (dk_at dksX0_force_0 1 rfl rfl)
theorem dX0_force_2 : decode cX0_force 2 = .ok (.invokevirtual 290, 3) := dk_182 1 34 (dk_at dksX0_force_0 2 rfl rfl)
theorem dX0_force_5 : decode cX0_force 5 = .ok (.ifCond .ne 10, 3) := dk_154 0 10 (dk_at dksX0_force_0 5 rfl rfl)
theorem dX0_force_8 : decode cX0_force 8 = .ok (.aload_n 0, 1) := dk_42 (dk_at dksX0_force_0 8 rfl rfl)
theorem dX0_force_9 : decode cX0_force 9 = .ok (.bipush (-2), 2) := dk_16 254 (dk_at dksX0_force_0 9 rfl rfl)
theorem dX0_force_11 : decode cX0_force 11 = .ok (.invokevirtual 129, 3) := dk_182 0 129 (dk_at dksX0_force_0 11 rfl rfl)
theorem dX0_force_14 : decode cX0_force 14 = .ok (.ireturn, 1) := dk_172 (dk_at dksX0_force_0 14 rfl rfl)
theorem dX0_force_15 : decode cX0_force 15 = .ok (.aload_n 0, 1) := dk_42 (dk_at dksX0_force_0 15 rfl rfl)
theorem dX0_force_16 : decode cX0_force 16 = .ok (.getfield 22, 3) := dk_180 0 22 (dk_at dksX0_force_0 16 rfl rfl)
theorem dX0_force_19 : decode cX0_force 19 = .ok (.getfield 293, 3) := dk_180 1 37 (dk_at dksX0_force_0 19 rfl rfl)
theorem dX0_force_22 : decode cX0_force 22 = .ok (.istore_n 2, 1) := dk_61 (dk_at dksX0_force_0 22 rfl rfl)
theorem dX0_force_23 : decode cX0_force 23 = .ok (.aload_n 0, 1) := dk_42 (dk_at dksX0_force_0 23 rfl rfl)
theorem dX0_force_24 : decode cX0_force 24 = .ok (.getfield 22, 3) := dk_180 0 22 (dk_at dksX0_force_1 0 rfl rfl)
theorem dX0_force_27 : decode cX0_force 27 = .ok (.iload_n 1, 1) := dk_27 (dk_at dksX0_force_1 3 rfl rfl)
theorem dX0_force_28 : decode cX0_force 28 = .ok (.putfield 293, 3) := dk_181 1 37 (dk_at dksX0_force_1 4 rfl rfl)
theorem dX0_force_31 : decode cX0_force 31 = .ok (.aload_n 0, 1) := dk_42 (dk_at dksX0_force_1 7 rfl rfl)
theorem dX0_force_32 : decode cX0_force 32 = .ok (.iload_n 2, 1) := dk_28 (dk_at dksX0_force_1 8 rfl rfl)
theorem dX0_force_33 : decode cX0_force 33 = .ok (.invokevirtual 217, 3) := dk_182 0 217 (dk_at dksX0_force_1 9 rfl rfl)
theorem dX0_force_36 : decode cX0_force 36 = .ok (.ireturn, 1) := dk_172 (dk_at dksX0_force_1 12 rfl rfl)
abbrev cX0_isLaw : ByteArray := prog_1_method_32_code
def yX0_isLaw : MethodName := ⟨RX0, "isLaw", "(I)Z"⟩
def dkwX0_isLaw_1 : List UInt8 := [153, 0, 7, 4, 167, 0, 4, 3, 172]
abbrev dktX0_isLaw_1 : List UInt8 := dkwX0_isLaw_1 ++ []
def dkwX0_isLaw_0 : List UInt8 := [27, 2, 159, 0, 25, 27, 133, 9, 42, 180, 0, 22, 180, 1, 8, 182, 1, 12, 4, 100, 133, 184, 0, 5]
abbrev dktX0_isLaw_0 : List UInt8 := dkwX0_isLaw_0 ++ dktX0_isLaw_1
theorem dksX0_isLaw_0 : cX0_isLaw.data.toList.drop 0 = dktX0_isLaw_0 := by decide +kernel
theorem dksX0_isLaw_1 : cX0_isLaw.data.toList.drop 24 = dktX0_isLaw_1 := dk_seg dksX0_isLaw_0 24 rfl rfl
theorem dX0_isLaw_0 : decode cX0_isLaw 0 = .ok (.iload_n 1, 1) := dk_27 (dk_at dksX0_isLaw_0 0 rfl rfl)
theorem dX0_isLaw_1 : decode cX0_isLaw 1 = .ok (.iconst (-1), 1) := dk_2 (dk_at dksX0_isLaw_0 1 rfl rfl)
theorem dX0_isLaw_2 : decode cX0_isLaw 2 = .ok (.if_icmp .eq 25, 3) := dk_159 0 25 (dk_at dksX0_isLaw_0 2 rfl rfl)
theorem dX0_isLaw_5 : decode cX0_isLaw 5 = .ok (.iload_n 1, 1) := dk_27 (dk_at dksX0_isLaw_0 5 rfl rfl)
theorem dX0_isLaw_6 : decode cX0_isLaw 6 = .ok (.i2l, 1) := dk_133 (dk_at dksX0_isLaw_0 6 rfl rfl)
theorem dX0_isLaw_7 : decode cX0_isLaw 7 = .ok (.lconst 0, 1) := dk_9 (dk_at dksX0_isLaw_0 7 rfl rfl)
theorem dX0_isLaw_8 : decode cX0_isLaw 8 = .ok (.aload_n 0, 1) := dk_42 (dk_at dksX0_isLaw_0 8 rfl rfl)
theorem dX0_isLaw_9 : decode cX0_isLaw 9 = .ok (.getfield 22, 3) := dk_180 0 22 (dk_at dksX0_isLaw_0 9 rfl rfl)
theorem dX0_isLaw_12 : decode cX0_isLaw 12 = .ok (.getfield 264, 3) := dk_180 1 8 (dk_at dksX0_isLaw_0 12 rfl rfl)
theorem dX0_isLaw_15 : decode cX0_isLaw 15 = .ok (.invokevirtual 268, 3) := dk_182 1 12 (dk_at dksX0_isLaw_0 15 rfl rfl)
theorem dX0_isLaw_18 : decode cX0_isLaw 18 = .ok (.iconst 1, 1) := dk_4 (dk_at dksX0_isLaw_0 18 rfl rfl)
theorem dX0_isLaw_19 : decode cX0_isLaw 19 = .ok (.isub, 1) := dk_100 (dk_at dksX0_isLaw_0 19 rfl rfl)
theorem dX0_isLaw_20 : decode cX0_isLaw 20 = .ok (.i2l, 1) := dk_133 (dk_at dksX0_isLaw_0 20 rfl rfl)
theorem dX0_isLaw_21 : decode cX0_isLaw 21 = .ok (.invokestatic 5, 3) := dk_184 0 5 (dk_at dksX0_isLaw_0 21 rfl rfl)
theorem dX0_isLaw_24 : decode cX0_isLaw 24 = .ok (.ifCond .eq 7, 3) := dk_153 0 7 (dk_at dksX0_isLaw_1 0 rfl rfl)
theorem dX0_isLaw_27 : decode cX0_isLaw 27 = .ok (.iconst 1, 1) := dk_4 (dk_at dksX0_isLaw_1 3 rfl rfl)
theorem dX0_isLaw_28 : decode cX0_isLaw 28 = .ok (.goto 4, 3) := dk_167 0 4 (dk_at dksX0_isLaw_1 4 rfl rfl)
theorem dX0_isLaw_31 : decode cX0_isLaw 31 = .ok (.iconst 0, 1) := dk_3 (dk_at dksX0_isLaw_1 7 rfl rfl)
theorem dX0_isLaw_32 : decode cX0_isLaw 32 = .ok (.ireturn, 1) := dk_172 (dk_at dksX0_isLaw_1 8 rfl rfl)
abbrev cX0_read : ByteArray := prog_1_method_40_code
def yX0_read : MethodName := ⟨RX0, "read", "(II)I"⟩
def dkwX0_read_0 : List UInt8 := [42, 42, 27, 28, 182, 1, 79, 182, 0, 129, 172]
abbrev dktX0_read_0 : List UInt8 := dkwX0_read_0 ++ []
theorem dksX0_read_0 : cX0_read.data.toList.drop 0 = dktX0_read_0 := by decide +kernel
theorem dX0_read_0 : decode cX0_read 0 = .ok (.aload_n 0, 1) := dk_42 (dk_at dksX0_read_0 0 rfl rfl)
theorem dX0_read_1 : decode cX0_read 1 = .ok (.aload_n 0, 1) := dk_42 (dk_at dksX0_read_0 1 rfl rfl)
theorem dX0_read_2 : decode cX0_read 2 = .ok (.iload_n 1, 1) := dk_27 (dk_at dksX0_read_0 2 rfl rfl)
theorem dX0_read_3 : decode cX0_read 3 = .ok (.iload_n 2, 1) := dk_28 (dk_at dksX0_read_0 3 rfl rfl)
theorem dX0_read_4 : decode cX0_read 4 = .ok (.invokevirtual 335, 3) := dk_182 1 79 (dk_at dksX0_read_0 4 rfl rfl)
theorem dX0_read_7 : decode cX0_read 7 = .ok (.invokevirtual 129, 3) := dk_182 0 129 (dk_at dksX0_read_0 7 rfl rfl)
theorem dX0_read_10 : decode cX0_read 10 = .ok (.ireturn, 1) := dk_172 (dk_at dksX0_read_0 10 rfl rfl)
abbrev cX0_readNow : ByteArray := prog_1_method_39_code
def yX0_readNow : MethodName := ⟨RX0, "readNow", "(II)I"⟩
def dkwX0_readNow_1 : List UInt8 := [3, 182, 1, 76, 42, 27, 28, 182, 0, 233, 172]
abbrev dktX0_readNow_1 : List UInt8 := dkwX0_readNow_1 ++ []
def dkwX0_readNow_0 : List UInt8 := [27, 184, 0, 150, 153, 0, 10, 28, 184, 0, 180, 154, 0, 5, 2, 172, 42, 180, 0, 33, 42, 182, 0, 136]
abbrev dktX0_readNow_0 : List UInt8 := dkwX0_readNow_0 ++ dktX0_readNow_1
theorem dksX0_readNow_0 : cX0_readNow.data.toList.drop 0 = dktX0_readNow_0 := by decide +kernel
theorem dksX0_readNow_1 : cX0_readNow.data.toList.drop 24 = dktX0_readNow_1 := dk_seg dksX0_readNow_0 24 rfl rfl
theorem dX0_readNow_0 : decode cX0_readNow 0 = .ok (.iload_n 1, 1) := dk_27 (dk_at dksX0_readNow_0 0 rfl rfl)
theorem dX0_readNow_1 : decode cX0_readNow 1 = .ok (.invokestatic 150, 3) := dk_184 0 150 (dk_at dksX0_readNow_0 1 rfl rfl)
theorem dX0_readNow_4 : decode cX0_readNow 4 = .ok (.ifCond .eq 10, 3) := dk_153 0 10 (dk_at dksX0_readNow_0 4 rfl rfl)
theorem dX0_readNow_7 : decode cX0_readNow 7 = .ok (.iload_n 2, 1) := dk_28 (dk_at dksX0_readNow_0 7 rfl rfl)
theorem dX0_readNow_8 : decode cX0_readNow 8 = .ok (.invokestatic 180, 3) := dk_184 0 180 (dk_at dksX0_readNow_0 8 rfl rfl)
theorem dX0_readNow_11 : decode cX0_readNow 11 = .ok (.ifCond .ne 5, 3) := dk_154 0 5 (dk_at dksX0_readNow_0 11 rfl rfl)
theorem dX0_readNow_14 : decode cX0_readNow 14 = .ok (.iconst (-1), 1) := dk_2 (dk_at dksX0_readNow_0 14 rfl rfl)
theorem dX0_readNow_15 : decode cX0_readNow 15 = .ok (.ireturn, 1) := dk_172 (dk_at dksX0_readNow_0 15 rfl rfl)
theorem dX0_readNow_16 : decode cX0_readNow 16 = .ok (.aload_n 0, 1) := dk_42 (dk_at dksX0_readNow_0 16 rfl rfl)
theorem dX0_readNow_17 : decode cX0_readNow 17 = .ok (.getfield 33, 3) := dk_180 0 33 (dk_at dksX0_readNow_0 17 rfl rfl)
theorem dX0_readNow_20 : decode cX0_readNow 20 = .ok (.aload_n 0, 1) := dk_42 (dk_at dksX0_readNow_0 20 rfl rfl)
theorem dX0_readNow_21 : decode cX0_readNow 21 = .ok (.invokevirtual 136, 3) := dk_182 0 136 (dk_at dksX0_readNow_0 21 rfl rfl)
theorem dX0_readNow_24 : decode cX0_readNow 24 = .ok (.iconst 0, 1) := dk_3 (dk_at dksX0_readNow_1 0 rfl rfl)
theorem dX0_readNow_25 : decode cX0_readNow 25 = .ok (.invokevirtual 332, 3) := dk_182 1 76 (dk_at dksX0_readNow_1 1 rfl rfl)
theorem dX0_readNow_28 : decode cX0_readNow 28 = .ok (.aload_n 0, 1) := dk_42 (dk_at dksX0_readNow_1 4 rfl rfl)
theorem dX0_readNow_29 : decode cX0_readNow 29 = .ok (.iload_n 1, 1) := dk_27 (dk_at dksX0_readNow_1 5 rfl rfl)
theorem dX0_readNow_30 : decode cX0_readNow 30 = .ok (.iload_n 2, 1) := dk_28 (dk_at dksX0_readNow_1 6 rfl rfl)
theorem dX0_readNow_31 : decode cX0_readNow 31 = .ok (.invokevirtual 233, 3) := dk_182 0 233 (dk_at dksX0_readNow_1 7 rfl rfl)
theorem dX0_readNow_34 : decode cX0_readNow 34 = .ok (.ireturn, 1) := dk_172 (dk_at dksX0_readNow_1 10 rfl rfl)
abbrev cX0_loop : ByteArray := prog_1_method_42_code
def yX0_loop : MethodName := ⟨RX0, "loop", "(III)I"⟩
def dkwX0_loop_0 : List UInt8 := [42, 42, 27, 28, 29, 182, 1, 82, 182, 0, 129, 172]
abbrev dktX0_loop_0 : List UInt8 := dkwX0_loop_0 ++ []
theorem dksX0_loop_0 : cX0_loop.data.toList.drop 0 = dktX0_loop_0 := by decide +kernel
theorem dX0_loop_0 : decode cX0_loop 0 = .ok (.aload_n 0, 1) := dk_42 (dk_at dksX0_loop_0 0 rfl rfl)
theorem dX0_loop_1 : decode cX0_loop 1 = .ok (.aload_n 0, 1) := dk_42 (dk_at dksX0_loop_0 1 rfl rfl)
theorem dX0_loop_2 : decode cX0_loop 2 = .ok (.iload_n 1, 1) := dk_27 (dk_at dksX0_loop_0 2 rfl rfl)
theorem dX0_loop_3 : decode cX0_loop 3 = .ok (.iload_n 2, 1) := dk_28 (dk_at dksX0_loop_0 3 rfl rfl)
theorem dX0_loop_4 : decode cX0_loop 4 = .ok (.iload_n 3, 1) := dk_29 (dk_at dksX0_loop_0 4 rfl rfl)
theorem dX0_loop_5 : decode cX0_loop 5 = .ok (.invokevirtual 338, 3) := dk_182 1 82 (dk_at dksX0_loop_0 5 rfl rfl)
theorem dX0_loop_8 : decode cX0_loop 8 = .ok (.invokevirtual 129, 3) := dk_182 0 129 (dk_at dksX0_loop_0 8 rfl rfl)
theorem dX0_loop_11 : decode cX0_loop 11 = .ok (.ireturn, 1) := dk_172 (dk_at dksX0_loop_0 11 rfl rfl)
abbrev cX0_loopNow : ByteArray := prog_1_method_41_code
def yX0_loopNow : MethodName := ⟨RX0, "loopNow", "(III)I"⟩
def dkwX0_loopNow_3 : List UInt8 := [154, 0, 7, 4, 167, 0, 4, 3, 96, 54, 4, 132, 5, 1, 167, 255, 227, 21, 4, 172]
abbrev dktX0_loopNow_3 : List UInt8 := dkwX0_loopNow_3 ++ []
def dkwX0_loopNow_2 : List UInt8 := [182, 1, 76, 3, 54, 4, 28, 54, 5, 21, 5, 29, 163, 0, 29, 21, 4, 42, 27, 21, 5, 182, 0, 233]
abbrev dktX0_loopNow_2 : List UInt8 := dkwX0_loopNow_2 ++ dktX0_loopNow_3
def dkwX0_loopNow_1 : List UInt8 := [161, 0, 11, 29, 28, 100, 16, 32, 161, 0, 5, 2, 172, 42, 180, 0, 33, 42, 182, 0, 136, 4]
abbrev dktX0_loopNow_1 : List UInt8 := dkwX0_loopNow_1 ++ dktX0_loopNow_2
def dkwX0_loopNow_0 : List UInt8 := [27, 184, 0, 150, 153, 0, 30, 28, 184, 0, 180, 153, 0, 23, 29, 184, 0, 180, 153, 0, 16, 29, 28]
abbrev dktX0_loopNow_0 : List UInt8 := dkwX0_loopNow_0 ++ dktX0_loopNow_1
theorem dksX0_loopNow_0 : cX0_loopNow.data.toList.drop 0 = dktX0_loopNow_0 := by decide +kernel
theorem dksX0_loopNow_1 : cX0_loopNow.data.toList.drop 23 = dktX0_loopNow_1 := dk_seg dksX0_loopNow_0 23 rfl rfl
theorem dksX0_loopNow_2 : cX0_loopNow.data.toList.drop 45 = dktX0_loopNow_2 := dk_seg dksX0_loopNow_1 22 rfl rfl
theorem dksX0_loopNow_3 : cX0_loopNow.data.toList.drop 69 = dktX0_loopNow_3 := dk_seg dksX0_loopNow_2 24 rfl rfl
theorem dX0_loopNow_0 : decode cX0_loopNow 0 = .ok (.iload_n 1, 1) := dk_27 (dk_at dksX0_loopNow_0 0 rfl rfl)
theorem dX0_loopNow_1 : decode cX0_loopNow 1 = .ok (.invokestatic 150, 3) := dk_184 0 150 (dk_at dksX0_loopNow_0 1 rfl rfl)
theorem dX0_loopNow_4 : decode cX0_loopNow 4 = .ok (.ifCond .eq 30, 3) := dk_153 0 30 (dk_at dksX0_loopNow_0 4 rfl rfl)
theorem dX0_loopNow_7 : decode cX0_loopNow 7 = .ok (.iload_n 2, 1) := dk_28 (dk_at dksX0_loopNow_0 7 rfl rfl)
theorem dX0_loopNow_8 : decode cX0_loopNow 8 = .ok (.invokestatic 180, 3) := dk_184 0 180 (dk_at dksX0_loopNow_0 8 rfl rfl)
theorem dX0_loopNow_11 : decode cX0_loopNow 11 = .ok (.ifCond .eq 23, 3) := dk_153 0 23 (dk_at dksX0_loopNow_0 11 rfl rfl)
theorem dX0_loopNow_14 : decode cX0_loopNow 14 = .ok (.iload_n 3, 1) := dk_29 (dk_at dksX0_loopNow_0 14 rfl rfl)
theorem dX0_loopNow_15 : decode cX0_loopNow 15 = .ok (.invokestatic 180, 3) := dk_184 0 180 (dk_at dksX0_loopNow_0 15 rfl rfl)
theorem dX0_loopNow_18 : decode cX0_loopNow 18 = .ok (.ifCond .eq 16, 3) := dk_153 0 16 (dk_at dksX0_loopNow_0 18 rfl rfl)
theorem dX0_loopNow_21 : decode cX0_loopNow 21 = .ok (.iload_n 3, 1) := dk_29 (dk_at dksX0_loopNow_0 21 rfl rfl)
theorem dX0_loopNow_22 : decode cX0_loopNow 22 = .ok (.iload_n 2, 1) := dk_28 (dk_at dksX0_loopNow_0 22 rfl rfl)
theorem dX0_loopNow_23 : decode cX0_loopNow 23 = .ok (.if_icmp .lt 11, 3) := dk_161 0 11 (dk_at dksX0_loopNow_1 0 rfl rfl)
theorem dX0_loopNow_26 : decode cX0_loopNow 26 = .ok (.iload_n 3, 1) := dk_29 (dk_at dksX0_loopNow_1 3 rfl rfl)
theorem dX0_loopNow_27 : decode cX0_loopNow 27 = .ok (.iload_n 2, 1) := dk_28 (dk_at dksX0_loopNow_1 4 rfl rfl)
theorem dX0_loopNow_28 : decode cX0_loopNow 28 = .ok (.isub, 1) := dk_100 (dk_at dksX0_loopNow_1 5 rfl rfl)
theorem dX0_loopNow_29 : decode cX0_loopNow 29 = .ok (.bipush 32, 2) := dk_16 32 (dk_at dksX0_loopNow_1 6 rfl rfl)
theorem dX0_loopNow_31 : decode cX0_loopNow 31 = .ok (.if_icmp .lt 5, 3) := dk_161 0 5 (dk_at dksX0_loopNow_1 8 rfl rfl)
theorem dX0_loopNow_34 : decode cX0_loopNow 34 = .ok (.iconst (-1), 1) := dk_2 (dk_at dksX0_loopNow_1 11 rfl rfl)
theorem dX0_loopNow_35 : decode cX0_loopNow 35 = .ok (.ireturn, 1) := dk_172 (dk_at dksX0_loopNow_1 12 rfl rfl)
theorem dX0_loopNow_36 : decode cX0_loopNow 36 = .ok (.aload_n 0, 1) := dk_42 (dk_at dksX0_loopNow_1 13 rfl rfl)
theorem dX0_loopNow_37 : decode cX0_loopNow 37 = .ok (.getfield 33, 3) := dk_180 0 33 (dk_at dksX0_loopNow_1 14 rfl rfl)
theorem dX0_loopNow_40 : decode cX0_loopNow 40 = .ok (.aload_n 0, 1) := dk_42 (dk_at dksX0_loopNow_1 17 rfl rfl)
theorem dX0_loopNow_41 : decode cX0_loopNow 41 = .ok (.invokevirtual 136, 3) := dk_182 0 136 (dk_at dksX0_loopNow_1 18 rfl rfl)
theorem dX0_loopNow_44 : decode cX0_loopNow 44 = .ok (.iconst 1, 1) := dk_4 (dk_at dksX0_loopNow_1 21 rfl rfl)
theorem dX0_loopNow_45 : decode cX0_loopNow 45 = .ok (.invokevirtual 332, 3) := dk_182 1 76 (dk_at dksX0_loopNow_2 0 rfl rfl)
theorem dX0_loopNow_48 : decode cX0_loopNow 48 = .ok (.iconst 0, 1) := dk_3 (dk_at dksX0_loopNow_2 3 rfl rfl)
theorem dX0_loopNow_49 : decode cX0_loopNow 49 = .ok (.istore 4, 2) := dk_54 4 (dk_at dksX0_loopNow_2 4 rfl rfl)
theorem dX0_loopNow_51 : decode cX0_loopNow 51 = .ok (.iload_n 2, 1) := dk_28 (dk_at dksX0_loopNow_2 6 rfl rfl)
theorem dX0_loopNow_52 : decode cX0_loopNow 52 = .ok (.istore 5, 2) := dk_54 5 (dk_at dksX0_loopNow_2 7 rfl rfl)
theorem dX0_loopNow_54 : decode cX0_loopNow 54 = .ok (.iload 5, 2) := dk_21 5 (dk_at dksX0_loopNow_2 9 rfl rfl)
theorem dX0_loopNow_56 : decode cX0_loopNow 56 = .ok (.iload_n 3, 1) := dk_29 (dk_at dksX0_loopNow_2 11 rfl rfl)
theorem dX0_loopNow_57 : decode cX0_loopNow 57 = .ok (.if_icmp .gt 29, 3) := dk_163 0 29 (dk_at dksX0_loopNow_2 12 rfl rfl)
theorem dX0_loopNow_60 : decode cX0_loopNow 60 = .ok (.iload 4, 2) := dk_21 4 (dk_at dksX0_loopNow_2 15 rfl rfl)
theorem dX0_loopNow_62 : decode cX0_loopNow 62 = .ok (.aload_n 0, 1) := dk_42 (dk_at dksX0_loopNow_2 17 rfl rfl)
theorem dX0_loopNow_63 : decode cX0_loopNow 63 = .ok (.iload_n 1, 1) := dk_27 (dk_at dksX0_loopNow_2 18 rfl rfl)
theorem dX0_loopNow_64 : decode cX0_loopNow 64 = .ok (.iload 5, 2) := dk_21 5 (dk_at dksX0_loopNow_2 19 rfl rfl)
theorem dX0_loopNow_66 : decode cX0_loopNow 66 = .ok (.invokevirtual 233, 3) := dk_182 0 233 (dk_at dksX0_loopNow_2 21 rfl rfl)
theorem dX0_loopNow_69 : decode cX0_loopNow 69 = .ok (.ifCond .ne 7, 3) := dk_154 0 7 (dk_at dksX0_loopNow_3 0 rfl rfl)
theorem dX0_loopNow_72 : decode cX0_loopNow 72 = .ok (.iconst 1, 1) := dk_4 (dk_at dksX0_loopNow_3 3 rfl rfl)
theorem dX0_loopNow_73 : decode cX0_loopNow 73 = .ok (.goto 4, 3) := dk_167 0 4 (dk_at dksX0_loopNow_3 4 rfl rfl)
theorem dX0_loopNow_76 : decode cX0_loopNow 76 = .ok (.iconst 0, 1) := dk_3 (dk_at dksX0_loopNow_3 7 rfl rfl)
theorem dX0_loopNow_77 : decode cX0_loopNow 77 = .ok (.iadd, 1) := dk_96 (dk_at dksX0_loopNow_3 8 rfl rfl)
theorem dX0_loopNow_78 : decode cX0_loopNow 78 = .ok (.istore 4, 2) := dk_54 4 (dk_at dksX0_loopNow_3 9 rfl rfl)
theorem dX0_loopNow_80 : decode cX0_loopNow 80 = .ok (.iinc 5 1, 3) := dk_132 5 1 (dk_at dksX0_loopNow_3 11 rfl rfl)
theorem dX0_loopNow_83 : decode cX0_loopNow 83 = .ok (.goto (-29), 3) := dk_167 255 227 (dk_at dksX0_loopNow_3 14 rfl rfl)
theorem dX0_loopNow_86 : decode cX0_loopNow 86 = .ok (.iload 4, 2) := dk_21 4 (dk_at dksX0_loopNow_3 17 rfl rfl)
theorem dX0_loopNow_88 : decode cX0_loopNow 88 = .ok (.ireturn, 1) := dk_172 (dk_at dksX0_loopNow_3 19 rfl rfl)
abbrev cX0_drop : ByteArray := prog_1_method_44_code
def yX0_drop : MethodName := ⟨RX0, "drop", "(II)I"⟩
def dkwX0_drop_0 : List UInt8 := [42, 42, 27, 28, 182, 1, 89, 182, 0, 129, 172]
abbrev dktX0_drop_0 : List UInt8 := dkwX0_drop_0 ++ []
theorem dksX0_drop_0 : cX0_drop.data.toList.drop 0 = dktX0_drop_0 := by decide +kernel
theorem dX0_drop_0 : decode cX0_drop 0 = .ok (.aload_n 0, 1) := dk_42 (dk_at dksX0_drop_0 0 rfl rfl)
theorem dX0_drop_1 : decode cX0_drop 1 = .ok (.aload_n 0, 1) := dk_42 (dk_at dksX0_drop_0 1 rfl rfl)
theorem dX0_drop_2 : decode cX0_drop 2 = .ok (.iload_n 1, 1) := dk_27 (dk_at dksX0_drop_0 2 rfl rfl)
theorem dX0_drop_3 : decode cX0_drop 3 = .ok (.iload_n 2, 1) := dk_28 (dk_at dksX0_drop_0 3 rfl rfl)
theorem dX0_drop_4 : decode cX0_drop 4 = .ok (.invokevirtual 345, 3) := dk_182 1 89 (dk_at dksX0_drop_0 4 rfl rfl)
theorem dX0_drop_7 : decode cX0_drop 7 = .ok (.invokevirtual 129, 3) := dk_182 0 129 (dk_at dksX0_drop_0 7 rfl rfl)
theorem dX0_drop_10 : decode cX0_drop 10 = .ok (.ireturn, 1) := dk_172 (dk_at dksX0_drop_0 10 rfl rfl)
abbrev cX0_dropNow : ByteArray := prog_1_method_43_code
def yX0_dropNow : MethodName := ⟨RX0, "dropNow", "(II)I"⟩
def dkwX0_dropNow_2 : List UInt8 := [27, 182, 0, 154, 28, 182, 1, 86, 29, 172]
abbrev dktX0_dropNow_2 : List UInt8 := dkwX0_dropNow_2 ++ []
def dkwX0_dropNow_1 : List UInt8 := [182, 0, 183, 62, 29, 154, 0, 6, 16, 253, 172, 42, 180, 0, 33, 42, 182, 0, 136, 5, 182, 1, 76, 42]
abbrev dktX0_dropNow_1 : List UInt8 := dkwX0_dropNow_1 ++ dktX0_dropNow_2
def dkwX0_dropNow_0 : List UInt8 := [27, 184, 0, 150, 153, 0, 10, 28, 184, 0, 180, 154, 0, 5, 2, 172, 42, 27, 182, 0, 154, 28]
abbrev dktX0_dropNow_0 : List UInt8 := dkwX0_dropNow_0 ++ dktX0_dropNow_1
theorem dksX0_dropNow_0 : cX0_dropNow.data.toList.drop 0 = dktX0_dropNow_0 := by decide +kernel
theorem dksX0_dropNow_1 : cX0_dropNow.data.toList.drop 22 = dktX0_dropNow_1 := dk_seg dksX0_dropNow_0 22 rfl rfl
theorem dksX0_dropNow_2 : cX0_dropNow.data.toList.drop 46 = dktX0_dropNow_2 := dk_seg dksX0_dropNow_1 24 rfl rfl
theorem dX0_dropNow_0 : decode cX0_dropNow 0 = .ok (.iload_n 1, 1) := dk_27 (dk_at dksX0_dropNow_0 0 rfl rfl)
theorem dX0_dropNow_1 : decode cX0_dropNow 1 = .ok (.invokestatic 150, 3) := dk_184 0 150 (dk_at dksX0_dropNow_0 1 rfl rfl)
theorem dX0_dropNow_4 : decode cX0_dropNow 4 = .ok (.ifCond .eq 10, 3) := dk_153 0 10 (dk_at dksX0_dropNow_0 4 rfl rfl)
theorem dX0_dropNow_7 : decode cX0_dropNow 7 = .ok (.iload_n 2, 1) := dk_28 (dk_at dksX0_dropNow_0 7 rfl rfl)
theorem dX0_dropNow_8 : decode cX0_dropNow 8 = .ok (.invokestatic 180, 3) := dk_184 0 180 (dk_at dksX0_dropNow_0 8 rfl rfl)
theorem dX0_dropNow_11 : decode cX0_dropNow 11 = .ok (.ifCond .ne 5, 3) := dk_154 0 5 (dk_at dksX0_dropNow_0 11 rfl rfl)
theorem dX0_dropNow_14 : decode cX0_dropNow 14 = .ok (.iconst (-1), 1) := dk_2 (dk_at dksX0_dropNow_0 14 rfl rfl)
theorem dX0_dropNow_15 : decode cX0_dropNow 15 = .ok (.ireturn, 1) := dk_172 (dk_at dksX0_dropNow_0 15 rfl rfl)
theorem dX0_dropNow_16 : decode cX0_dropNow 16 = .ok (.aload_n 0, 1) := dk_42 (dk_at dksX0_dropNow_0 16 rfl rfl)
theorem dX0_dropNow_17 : decode cX0_dropNow 17 = .ok (.iload_n 1, 1) := dk_27 (dk_at dksX0_dropNow_0 17 rfl rfl)
theorem dX0_dropNow_18 : decode cX0_dropNow 18 = .ok (.invokevirtual 154, 3) := dk_182 0 154 (dk_at dksX0_dropNow_0 18 rfl rfl)
theorem dX0_dropNow_21 : decode cX0_dropNow 21 = .ok (.iload_n 2, 1) := dk_28 (dk_at dksX0_dropNow_0 21 rfl rfl)
theorem dX0_dropNow_22 : decode cX0_dropNow 22 = .ok (.invokevirtual 183, 3) := dk_182 0 183 (dk_at dksX0_dropNow_1 0 rfl rfl)
theorem dX0_dropNow_25 : decode cX0_dropNow 25 = .ok (.istore_n 3, 1) := dk_62 (dk_at dksX0_dropNow_1 3 rfl rfl)
theorem dX0_dropNow_26 : decode cX0_dropNow 26 = .ok (.iload_n 3, 1) := dk_29 (dk_at dksX0_dropNow_1 4 rfl rfl)
theorem dX0_dropNow_27 : decode cX0_dropNow 27 = .ok (.ifCond .ne 6, 3) := dk_154 0 6 (dk_at dksX0_dropNow_1 5 rfl rfl)
theorem dX0_dropNow_30 : decode cX0_dropNow 30 = .ok (.bipush (-3), 2) := dk_16 253 (dk_at dksX0_dropNow_1 8 rfl rfl)
theorem dX0_dropNow_32 : decode cX0_dropNow 32 = .ok (.ireturn, 1) := dk_172 (dk_at dksX0_dropNow_1 10 rfl rfl)
theorem dX0_dropNow_33 : decode cX0_dropNow 33 = .ok (.aload_n 0, 1) := dk_42 (dk_at dksX0_dropNow_1 11 rfl rfl)
theorem dX0_dropNow_34 : decode cX0_dropNow 34 = .ok (.getfield 33, 3) := dk_180 0 33 (dk_at dksX0_dropNow_1 12 rfl rfl)
theorem dX0_dropNow_37 : decode cX0_dropNow 37 = .ok (.aload_n 0, 1) := dk_42 (dk_at dksX0_dropNow_1 15 rfl rfl)
theorem dX0_dropNow_38 : decode cX0_dropNow 38 = .ok (.invokevirtual 136, 3) := dk_182 0 136 (dk_at dksX0_dropNow_1 16 rfl rfl)
theorem dX0_dropNow_41 : decode cX0_dropNow 41 = .ok (.iconst 2, 1) := dk_5 (dk_at dksX0_dropNow_1 19 rfl rfl)
theorem dX0_dropNow_42 : decode cX0_dropNow 42 = .ok (.invokevirtual 332, 3) := dk_182 1 76 (dk_at dksX0_dropNow_1 20 rfl rfl)
theorem dX0_dropNow_45 : decode cX0_dropNow 45 = .ok (.aload_n 0, 1) := dk_42 (dk_at dksX0_dropNow_1 23 rfl rfl)
theorem dX0_dropNow_46 : decode cX0_dropNow 46 = .ok (.iload_n 1, 1) := dk_27 (dk_at dksX0_dropNow_2 0 rfl rfl)
theorem dX0_dropNow_47 : decode cX0_dropNow 47 = .ok (.invokevirtual 154, 3) := dk_182 0 154 (dk_at dksX0_dropNow_2 1 rfl rfl)
theorem dX0_dropNow_50 : decode cX0_dropNow 50 = .ok (.iload_n 2, 1) := dk_28 (dk_at dksX0_dropNow_2 4 rfl rfl)
theorem dX0_dropNow_51 : decode cX0_dropNow 51 = .ok (.invokevirtual 342, 3) := dk_182 1 86 (dk_at dksX0_dropNow_2 5 rfl rfl)
theorem dX0_dropNow_54 : decode cX0_dropNow 54 = .ok (.iload_n 3, 1) := dk_29 (dk_at dksX0_dropNow_2 8 rfl rfl)
theorem dX0_dropNow_55 : decode cX0_dropNow 55 = .ok (.ireturn, 1) := dk_172 (dk_at dksX0_dropNow_2 9 rfl rfl)
abbrev cX0_pass : ByteArray := prog_1_method_47_code
def yX0_pass : MethodName := ⟨RX0, "pass", "()I"⟩
def dkwX0_pass_0 : List UInt8 := [42, 42, 182, 1, 98, 182, 0, 129, 172]
abbrev dktX0_pass_0 : List UInt8 := dkwX0_pass_0 ++ []
theorem dksX0_pass_0 : cX0_pass.data.toList.drop 0 = dktX0_pass_0 := by decide +kernel
theorem dX0_pass_0 : decode cX0_pass 0 = .ok (.aload_n 0, 1) := dk_42 (dk_at dksX0_pass_0 0 rfl rfl)
theorem dX0_pass_1 : decode cX0_pass 1 = .ok (.aload_n 0, 1) := dk_42 (dk_at dksX0_pass_0 1 rfl rfl)
theorem dX0_pass_2 : decode cX0_pass 2 = .ok (.invokevirtual 354, 3) := dk_182 1 98 (dk_at dksX0_pass_0 2 rfl rfl)
theorem dX0_pass_5 : decode cX0_pass 5 = .ok (.invokevirtual 129, 3) := dk_182 0 129 (dk_at dksX0_pass_0 5 rfl rfl)
theorem dX0_pass_8 : decode cX0_pass 8 = .ok (.ireturn, 1) := dk_172 (dk_at dksX0_pass_0 8 rfl rfl)
abbrev cX0_passNow : ByteArray := prog_1_method_46_code
def yX0_passNow : MethodName := ⟨RX0, "passNow", "()I"⟩
def dkwX0_passNow_1 : List UInt8 := [6, 182, 1, 76, 42, 182, 1, 95, 172]
abbrev dktX0_passNow_1 : List UInt8 := dkwX0_passNow_1 ++ []
def dkwX0_passNow_0 : List UInt8 := [42, 182, 0, 136, 180, 0, 205, 17, 3, 231, 160, 0, 6, 16, 253, 172, 42, 180, 0, 33, 42, 182, 0, 136]
abbrev dktX0_passNow_0 : List UInt8 := dkwX0_passNow_0 ++ dktX0_passNow_1
theorem dksX0_passNow_0 : cX0_passNow.data.toList.drop 0 = dktX0_passNow_0 := by decide +kernel
theorem dksX0_passNow_1 : cX0_passNow.data.toList.drop 24 = dktX0_passNow_1 := dk_seg dksX0_passNow_0 24 rfl rfl
theorem dX0_passNow_0 : decode cX0_passNow 0 = .ok (.aload_n 0, 1) := dk_42 (dk_at dksX0_passNow_0 0 rfl rfl)
theorem dX0_passNow_1 : decode cX0_passNow 1 = .ok (.invokevirtual 136, 3) := dk_182 0 136 (dk_at dksX0_passNow_0 1 rfl rfl)
theorem dX0_passNow_4 : decode cX0_passNow 4 = .ok (.getfield 205, 3) := dk_180 0 205 (dk_at dksX0_passNow_0 4 rfl rfl)
theorem dX0_passNow_7 : decode cX0_passNow 7 = .ok (.sipush 999, 3) := dk_17 3 231 (dk_at dksX0_passNow_0 7 rfl rfl)
theorem dX0_passNow_10 : decode cX0_passNow 10 = .ok (.if_icmp .ne 6, 3) := dk_160 0 6 (dk_at dksX0_passNow_0 10 rfl rfl)
theorem dX0_passNow_13 : decode cX0_passNow 13 = .ok (.bipush (-3), 2) := dk_16 253 (dk_at dksX0_passNow_0 13 rfl rfl)
theorem dX0_passNow_15 : decode cX0_passNow 15 = .ok (.ireturn, 1) := dk_172 (dk_at dksX0_passNow_0 15 rfl rfl)
theorem dX0_passNow_16 : decode cX0_passNow 16 = .ok (.aload_n 0, 1) := dk_42 (dk_at dksX0_passNow_0 16 rfl rfl)
theorem dX0_passNow_17 : decode cX0_passNow 17 = .ok (.getfield 33, 3) := dk_180 0 33 (dk_at dksX0_passNow_0 17 rfl rfl)
theorem dX0_passNow_20 : decode cX0_passNow 20 = .ok (.aload_n 0, 1) := dk_42 (dk_at dksX0_passNow_0 20 rfl rfl)
theorem dX0_passNow_21 : decode cX0_passNow 21 = .ok (.invokevirtual 136, 3) := dk_182 0 136 (dk_at dksX0_passNow_0 21 rfl rfl)
theorem dX0_passNow_24 : decode cX0_passNow 24 = .ok (.iconst 3, 1) := dk_6 (dk_at dksX0_passNow_1 0 rfl rfl)
theorem dX0_passNow_25 : decode cX0_passNow 25 = .ok (.invokevirtual 332, 3) := dk_182 1 76 (dk_at dksX0_passNow_1 1 rfl rfl)
theorem dX0_passNow_28 : decode cX0_passNow 28 = .ok (.aload_n 0, 1) := dk_42 (dk_at dksX0_passNow_1 4 rfl rfl)
theorem dX0_passNow_29 : decode cX0_passNow 29 = .ok (.invokevirtual 351, 3) := dk_182 1 95 (dk_at dksX0_passNow_1 5 rfl rfl)
theorem dX0_passNow_32 : decode cX0_passNow 32 = .ok (.ireturn, 1) := dk_172 (dk_at dksX0_passNow_1 8 rfl rfl)
abbrev cX0_passIt : ByteArray := prog_1_method_45_code
def yX0_passIt : MethodName := ⟨RX0, "passIt", "()I"⟩
def dkwX0_passIt_2 : List UInt8 := [180, 0, 205, 4, 96, 181, 0, 205, 27, 172]
abbrev dktX0_passIt_2 : List UInt8 := dkwX0_passIt_2 ++ []
def dkwX0_passIt_1 : List UInt8 := [21, 4, 50, 58, 5, 27, 25, 5, 182, 1, 92, 96, 60, 132, 4, 1, 167, 255, 233, 42, 182, 0, 136, 89]
abbrev dktX0_passIt_1 : List UInt8 := dkwX0_passIt_1 ++ dktX0_passIt_2
def dkwX0_passIt_0 : List UInt8 := [3, 60, 42, 182, 0, 136, 180, 0, 139, 77, 44, 190, 62, 3, 54, 4, 21, 4, 29, 162, 0, 23, 44]
abbrev dktX0_passIt_0 : List UInt8 := dkwX0_passIt_0 ++ dktX0_passIt_1
theorem dksX0_passIt_0 : cX0_passIt.data.toList.drop 0 = dktX0_passIt_0 := by decide +kernel
theorem dksX0_passIt_1 : cX0_passIt.data.toList.drop 23 = dktX0_passIt_1 := dk_seg dksX0_passIt_0 23 rfl rfl
theorem dksX0_passIt_2 : cX0_passIt.data.toList.drop 47 = dktX0_passIt_2 := dk_seg dksX0_passIt_1 24 rfl rfl
theorem dX0_passIt_0 : decode cX0_passIt 0 = .ok (.iconst 0, 1) := dk_3 (dk_at dksX0_passIt_0 0 rfl rfl)
theorem dX0_passIt_1 : decode cX0_passIt 1 = .ok (.istore_n 1, 1) := dk_60 (dk_at dksX0_passIt_0 1 rfl rfl)
theorem dX0_passIt_2 : decode cX0_passIt 2 = .ok (.aload_n 0, 1) := dk_42 (dk_at dksX0_passIt_0 2 rfl rfl)
theorem dX0_passIt_3 : decode cX0_passIt 3 = .ok (.invokevirtual 136, 3) := dk_182 0 136 (dk_at dksX0_passIt_0 3 rfl rfl)
theorem dX0_passIt_6 : decode cX0_passIt 6 = .ok (.getfield 139, 3) := dk_180 0 139 (dk_at dksX0_passIt_0 6 rfl rfl)
theorem dX0_passIt_9 : decode cX0_passIt 9 = .ok (.astore_n 2, 1) := dk_77 (dk_at dksX0_passIt_0 9 rfl rfl)
theorem dX0_passIt_10 : decode cX0_passIt 10 = .ok (.aload_n 2, 1) := dk_44 (dk_at dksX0_passIt_0 10 rfl rfl)
theorem dX0_passIt_11 : decode cX0_passIt 11 = .ok (.arraylength, 1) := dk_190 (dk_at dksX0_passIt_0 11 rfl rfl)
theorem dX0_passIt_12 : decode cX0_passIt 12 = .ok (.istore_n 3, 1) := dk_62 (dk_at dksX0_passIt_0 12 rfl rfl)
theorem dX0_passIt_13 : decode cX0_passIt 13 = .ok (.iconst 0, 1) := dk_3 (dk_at dksX0_passIt_0 13 rfl rfl)
theorem dX0_passIt_14 : decode cX0_passIt 14 = .ok (.istore 4, 2) := dk_54 4 (dk_at dksX0_passIt_0 14 rfl rfl)
theorem dX0_passIt_16 : decode cX0_passIt 16 = .ok (.iload 4, 2) := dk_21 4 (dk_at dksX0_passIt_0 16 rfl rfl)
theorem dX0_passIt_18 : decode cX0_passIt 18 = .ok (.iload_n 3, 1) := dk_29 (dk_at dksX0_passIt_0 18 rfl rfl)
theorem dX0_passIt_19 : decode cX0_passIt 19 = .ok (.if_icmp .ge 23, 3) := dk_162 0 23 (dk_at dksX0_passIt_0 19 rfl rfl)
theorem dX0_passIt_22 : decode cX0_passIt 22 = .ok (.aload_n 2, 1) := dk_44 (dk_at dksX0_passIt_0 22 rfl rfl)
theorem dX0_passIt_23 : decode cX0_passIt 23 = .ok (.iload 4, 2) := dk_21 4 (dk_at dksX0_passIt_1 0 rfl rfl)
theorem dX0_passIt_25 : decode cX0_passIt 25 = .ok (.aaload, 1) := dk_50 (dk_at dksX0_passIt_1 2 rfl rfl)
theorem dX0_passIt_26 : decode cX0_passIt 26 = .ok (.astore 5, 2) := dk_58 5 (dk_at dksX0_passIt_1 3 rfl rfl)
theorem dX0_passIt_28 : decode cX0_passIt 28 = .ok (.iload_n 1, 1) := dk_27 (dk_at dksX0_passIt_1 5 rfl rfl)
theorem dX0_passIt_29 : decode cX0_passIt 29 = .ok (.aload 5, 2) := dk_25 5 (dk_at dksX0_passIt_1 6 rfl rfl)
theorem dX0_passIt_31 : decode cX0_passIt 31 = .ok (.invokevirtual 348, 3) := dk_182 1 92 (dk_at dksX0_passIt_1 8 rfl rfl)
theorem dX0_passIt_34 : decode cX0_passIt 34 = .ok (.iadd, 1) := dk_96 (dk_at dksX0_passIt_1 11 rfl rfl)
theorem dX0_passIt_35 : decode cX0_passIt 35 = .ok (.istore_n 1, 1) := dk_60 (dk_at dksX0_passIt_1 12 rfl rfl)
theorem dX0_passIt_36 : decode cX0_passIt 36 = .ok (.iinc 4 1, 3) := dk_132 4 1 (dk_at dksX0_passIt_1 13 rfl rfl)
theorem dX0_passIt_39 : decode cX0_passIt 39 = .ok (.goto (-23), 3) := dk_167 255 233 (dk_at dksX0_passIt_1 16 rfl rfl)
theorem dX0_passIt_42 : decode cX0_passIt 42 = .ok (.aload_n 0, 1) := dk_42 (dk_at dksX0_passIt_1 19 rfl rfl)
theorem dX0_passIt_43 : decode cX0_passIt 43 = .ok (.invokevirtual 136, 3) := dk_182 0 136 (dk_at dksX0_passIt_1 20 rfl rfl)
theorem dX0_passIt_46 : decode cX0_passIt 46 = .ok (.dup, 1) := dk_89 (dk_at dksX0_passIt_1 23 rfl rfl)
theorem dX0_passIt_47 : decode cX0_passIt 47 = .ok (.getfield 205, 3) := dk_180 0 205 (dk_at dksX0_passIt_2 0 rfl rfl)
theorem dX0_passIt_50 : decode cX0_passIt 50 = .ok (.iconst 1, 1) := dk_4 (dk_at dksX0_passIt_2 3 rfl rfl)
theorem dX0_passIt_51 : decode cX0_passIt 51 = .ok (.iadd, 1) := dk_96 (dk_at dksX0_passIt_2 4 rfl rfl)
theorem dX0_passIt_52 : decode cX0_passIt 52 = .ok (.putfield 205, 3) := dk_181 0 205 (dk_at dksX0_passIt_2 5 rfl rfl)
theorem dX0_passIt_55 : decode cX0_passIt 55 = .ok (.iload_n 1, 1) := dk_27 (dk_at dksX0_passIt_2 8 rfl rfl)
theorem dX0_passIt_56 : decode cX0_passIt 56 = .ok (.ireturn, 1) := dk_172 (dk_at dksX0_passIt_2 9 rfl rfl)
abbrev cX0_undo : ByteArray := prog_1_method_48_code
def yX0_undo : MethodName := ⟨RX0, "undo", "()I"⟩
def dkwX0_undo_3 : List UInt8 := [180, 1, 108, 182, 0, 129, 172]
abbrev dktX0_undo_3 : List UInt8 := dkwX0_undo_3 ++ []
def dkwX0_undo_2 : List UInt8 := [180, 0, 126, 50, 182, 1, 104, 87, 42, 42, 180, 0, 33, 180, 1, 101, 42, 180, 0, 33, 180, 0, 126, 50]
abbrev dktX0_undo_2 : List UInt8 := dkwX0_undo_2 ++ dktX0_undo_3
def dkwX0_undo_1 : List UInt8 := [180, 0, 126, 4, 100, 181, 0, 126, 42, 182, 0, 136, 42, 180, 0, 33, 180, 1, 101, 42, 180, 0, 33]
abbrev dktX0_undo_1 : List UInt8 := dkwX0_undo_1 ++ dktX0_undo_2
def dkwX0_undo_0 : List UInt8 := [42, 180, 0, 33, 180, 0, 126, 154, 0, 10, 42, 16, 253, 182, 0, 129, 172, 42, 180, 0, 33, 89]
abbrev dktX0_undo_0 : List UInt8 := dkwX0_undo_0 ++ dktX0_undo_1
theorem dksX0_undo_0 : cX0_undo.data.toList.drop 0 = dktX0_undo_0 := by decide +kernel
theorem dksX0_undo_1 : cX0_undo.data.toList.drop 22 = dktX0_undo_1 := dk_seg dksX0_undo_0 22 rfl rfl
theorem dksX0_undo_2 : cX0_undo.data.toList.drop 45 = dktX0_undo_2 := dk_seg dksX0_undo_1 23 rfl rfl
theorem dksX0_undo_3 : cX0_undo.data.toList.drop 69 = dktX0_undo_3 := dk_seg dksX0_undo_2 24 rfl rfl
theorem dX0_undo_0 : decode cX0_undo 0 = .ok (.aload_n 0, 1) := dk_42 (dk_at dksX0_undo_0 0 rfl rfl)
theorem dX0_undo_1 : decode cX0_undo 1 = .ok (.getfield 33, 3) := dk_180 0 33 (dk_at dksX0_undo_0 1 rfl rfl)
theorem dX0_undo_4 : decode cX0_undo 4 = .ok (.getfield 126, 3) := dk_180 0 126 (dk_at dksX0_undo_0 4 rfl rfl)
theorem dX0_undo_7 : decode cX0_undo 7 = .ok (.ifCond .ne 10, 3) := dk_154 0 10 (dk_at dksX0_undo_0 7 rfl rfl)
theorem dX0_undo_10 : decode cX0_undo 10 = .ok (.aload_n 0, 1) := dk_42 (dk_at dksX0_undo_0 10 rfl rfl)
theorem dX0_undo_11 : decode cX0_undo 11 = .ok (.bipush (-3), 2) := dk_16 253 (dk_at dksX0_undo_0 11 rfl rfl)
theorem dX0_undo_13 : decode cX0_undo 13 = .ok (.invokevirtual 129, 3) := dk_182 0 129 (dk_at dksX0_undo_0 13 rfl rfl)
theorem dX0_undo_16 : decode cX0_undo 16 = .ok (.ireturn, 1) := dk_172 (dk_at dksX0_undo_0 16 rfl rfl)
theorem dX0_undo_17 : decode cX0_undo 17 = .ok (.aload_n 0, 1) := dk_42 (dk_at dksX0_undo_0 17 rfl rfl)
theorem dX0_undo_18 : decode cX0_undo 18 = .ok (.getfield 33, 3) := dk_180 0 33 (dk_at dksX0_undo_0 18 rfl rfl)
theorem dX0_undo_21 : decode cX0_undo 21 = .ok (.dup, 1) := dk_89 (dk_at dksX0_undo_0 21 rfl rfl)
theorem dX0_undo_22 : decode cX0_undo 22 = .ok (.getfield 126, 3) := dk_180 0 126 (dk_at dksX0_undo_1 0 rfl rfl)
theorem dX0_undo_25 : decode cX0_undo 25 = .ok (.iconst 1, 1) := dk_4 (dk_at dksX0_undo_1 3 rfl rfl)
theorem dX0_undo_26 : decode cX0_undo 26 = .ok (.isub, 1) := dk_100 (dk_at dksX0_undo_1 4 rfl rfl)
theorem dX0_undo_27 : decode cX0_undo 27 = .ok (.putfield 126, 3) := dk_181 0 126 (dk_at dksX0_undo_1 5 rfl rfl)
theorem dX0_undo_30 : decode cX0_undo 30 = .ok (.aload_n 0, 1) := dk_42 (dk_at dksX0_undo_1 8 rfl rfl)
theorem dX0_undo_31 : decode cX0_undo 31 = .ok (.invokevirtual 136, 3) := dk_182 0 136 (dk_at dksX0_undo_1 9 rfl rfl)
theorem dX0_undo_34 : decode cX0_undo 34 = .ok (.aload_n 0, 1) := dk_42 (dk_at dksX0_undo_1 12 rfl rfl)
theorem dX0_undo_35 : decode cX0_undo 35 = .ok (.getfield 33, 3) := dk_180 0 33 (dk_at dksX0_undo_1 13 rfl rfl)
theorem dX0_undo_38 : decode cX0_undo 38 = .ok (.getfield 357, 3) := dk_180 1 101 (dk_at dksX0_undo_1 16 rfl rfl)
theorem dX0_undo_41 : decode cX0_undo 41 = .ok (.aload_n 0, 1) := dk_42 (dk_at dksX0_undo_1 19 rfl rfl)
theorem dX0_undo_42 : decode cX0_undo 42 = .ok (.getfield 33, 3) := dk_180 0 33 (dk_at dksX0_undo_1 20 rfl rfl)
theorem dX0_undo_45 : decode cX0_undo 45 = .ok (.getfield 126, 3) := dk_180 0 126 (dk_at dksX0_undo_2 0 rfl rfl)
theorem dX0_undo_48 : decode cX0_undo 48 = .ok (.aaload, 1) := dk_50 (dk_at dksX0_undo_2 3 rfl rfl)
theorem dX0_undo_49 : decode cX0_undo 49 = .ok (.invokevirtual 360, 3) := dk_182 1 104 (dk_at dksX0_undo_2 4 rfl rfl)
theorem dX0_undo_52 : decode cX0_undo 52 = .ok (.pop, 1) := dk_87 (dk_at dksX0_undo_2 7 rfl rfl)
theorem dX0_undo_53 : decode cX0_undo 53 = .ok (.aload_n 0, 1) := dk_42 (dk_at dksX0_undo_2 8 rfl rfl)
theorem dX0_undo_54 : decode cX0_undo 54 = .ok (.aload_n 0, 1) := dk_42 (dk_at dksX0_undo_2 9 rfl rfl)
theorem dX0_undo_55 : decode cX0_undo 55 = .ok (.getfield 33, 3) := dk_180 0 33 (dk_at dksX0_undo_2 10 rfl rfl)
theorem dX0_undo_58 : decode cX0_undo 58 = .ok (.getfield 357, 3) := dk_180 1 101 (dk_at dksX0_undo_2 13 rfl rfl)
theorem dX0_undo_61 : decode cX0_undo 61 = .ok (.aload_n 0, 1) := dk_42 (dk_at dksX0_undo_2 16 rfl rfl)
theorem dX0_undo_62 : decode cX0_undo 62 = .ok (.getfield 33, 3) := dk_180 0 33 (dk_at dksX0_undo_2 17 rfl rfl)
theorem dX0_undo_65 : decode cX0_undo 65 = .ok (.getfield 126, 3) := dk_180 0 126 (dk_at dksX0_undo_2 20 rfl rfl)
theorem dX0_undo_68 : decode cX0_undo 68 = .ok (.aaload, 1) := dk_50 (dk_at dksX0_undo_2 23 rfl rfl)
theorem dX0_undo_69 : decode cX0_undo 69 = .ok (.getfield 364, 3) := dk_180 1 108 (dk_at dksX0_undo_3 0 rfl rfl)
theorem dX0_undo_72 : decode cX0_undo 72 = .ok (.invokevirtual 129, 3) := dk_182 0 129 (dk_at dksX0_undo_3 3 rfl rfl)
theorem dX0_undo_75 : decode cX0_undo 75 = .ok (.ireturn, 1) := dk_172 (dk_at dksX0_undo_3 6 rfl rfl)
abbrev cX0_misses : ByteArray := prog_1_method_49_code
def yX0_misses : MethodName := ⟨RX0, "misses", "(II)I"⟩
def dkwX0_misses_1 : List UInt8 := [167, 0, 4, 2, 172]
abbrev dktX0_misses_1 : List UInt8 := dkwX0_misses_1 ++ []
def dkwX0_misses_0 : List UInt8 := [27, 184, 0, 150, 153, 0, 22, 28, 184, 1, 111, 153, 0, 15, 42, 27, 182, 0, 154, 28, 182, 1, 114]
abbrev dktX0_misses_0 : List UInt8 := dkwX0_misses_0 ++ dktX0_misses_1
theorem dksX0_misses_0 : cX0_misses.data.toList.drop 0 = dktX0_misses_0 := by decide +kernel
theorem dksX0_misses_1 : cX0_misses.data.toList.drop 23 = dktX0_misses_1 := dk_seg dksX0_misses_0 23 rfl rfl
theorem dX0_misses_0 : decode cX0_misses 0 = .ok (.iload_n 1, 1) := dk_27 (dk_at dksX0_misses_0 0 rfl rfl)
theorem dX0_misses_1 : decode cX0_misses 1 = .ok (.invokestatic 150, 3) := dk_184 0 150 (dk_at dksX0_misses_0 1 rfl rfl)
theorem dX0_misses_4 : decode cX0_misses 4 = .ok (.ifCond .eq 22, 3) := dk_153 0 22 (dk_at dksX0_misses_0 4 rfl rfl)
theorem dX0_misses_7 : decode cX0_misses 7 = .ok (.iload_n 2, 1) := dk_28 (dk_at dksX0_misses_0 7 rfl rfl)
theorem dX0_misses_8 : decode cX0_misses 8 = .ok (.invokestatic 367, 3) := dk_184 1 111 (dk_at dksX0_misses_0 8 rfl rfl)
theorem dX0_misses_11 : decode cX0_misses 11 = .ok (.ifCond .eq 15, 3) := dk_153 0 15 (dk_at dksX0_misses_0 11 rfl rfl)
theorem dX0_misses_14 : decode cX0_misses 14 = .ok (.aload_n 0, 1) := dk_42 (dk_at dksX0_misses_0 14 rfl rfl)
theorem dX0_misses_15 : decode cX0_misses 15 = .ok (.iload_n 1, 1) := dk_27 (dk_at dksX0_misses_0 15 rfl rfl)
theorem dX0_misses_16 : decode cX0_misses 16 = .ok (.invokevirtual 154, 3) := dk_182 0 154 (dk_at dksX0_misses_0 16 rfl rfl)
theorem dX0_misses_19 : decode cX0_misses 19 = .ok (.iload_n 2, 1) := dk_28 (dk_at dksX0_misses_0 19 rfl rfl)
theorem dX0_misses_20 : decode cX0_misses 20 = .ok (.invokevirtual 370, 3) := dk_182 1 114 (dk_at dksX0_misses_0 20 rfl rfl)
theorem dX0_misses_23 : decode cX0_misses 23 = .ok (.goto 4, 3) := dk_167 0 4 (dk_at dksX0_misses_1 0 rfl rfl)
theorem dX0_misses_26 : decode cX0_misses 26 = .ok (.iconst (-1), 1) := dk_2 (dk_at dksX0_misses_1 3 rfl rfl)
theorem dX0_misses_27 : decode cX0_misses 27 = .ok (.ireturn, 1) := dk_172 (dk_at dksX0_misses_1 4 rfl rfl)
abbrev cX0_isSize : ByteArray := prog_1_method_5_code
def yX0_isSize : MethodName := ⟨RX0, "isSize", "(I)Z"⟩
def dkwX0_isSize_0 : List UInt8 := [26, 133, 9, 20, 0, 11, 184, 0, 5, 172]
abbrev dktX0_isSize_0 : List UInt8 := dkwX0_isSize_0 ++ []
theorem dksX0_isSize_0 : cX0_isSize.data.toList.drop 0 = dktX0_isSize_0 := by decide +kernel
theorem dX0_isSize_0 : decode cX0_isSize 0 = .ok (.iload_n 0, 1) := dk_26 (dk_at dksX0_isSize_0 0 rfl rfl)
theorem dX0_isSize_1 : decode cX0_isSize 1 = .ok (.i2l, 1) := dk_133 (dk_at dksX0_isSize_0 1 rfl rfl)
theorem dX0_isSize_2 : decode cX0_isSize 2 = .ok (.lconst 0, 1) := dk_9 (dk_at dksX0_isSize_0 2 rfl rfl)
theorem dX0_isSize_3 : decode cX0_isSize 3 = .ok (.ldc2_w 11, 3) := dk_20 0 11 (dk_at dksX0_isSize_0 3 rfl rfl)
theorem dX0_isSize_6 : decode cX0_isSize 6 = .ok (.invokestatic 5, 3) := dk_184 0 5 (dk_at dksX0_isSize_0 6 rfl rfl)
theorem dX0_isSize_9 : decode cX0_isSize 9 = .ok (.ireturn, 1) := dk_172 (dk_at dksX0_isSize_0 9 rfl rfl)
abbrev cX0_hull : ByteArray := prog_1_method_53_code
def yX0_hull : MethodName := ⟨RX0, "hull", "(II)J"⟩
def dkwX0_hull_3 : List UInt8 := [28, 29, 100, 133, 105, 97, 105, 21, 4, 29, 100, 133, 109, 173]
abbrev dktX0_hull_3 : List UInt8 := dkwX0_hull_3 ++ []
def dkwX0_hull_2 : List UInt8 := [20, 1, 132, 42, 180, 0, 86, 29, 46, 133, 21, 4, 28, 100, 133, 105, 42, 180, 0, 86, 21, 4, 46, 133]
abbrev dktX0_hull_2 : List UInt8 := dkwX0_hull_2 ++ dktX0_hull_3
def dkwX0_hull_1 : List UInt8 := [180, 0, 89, 42, 28, 182, 1, 129, 46, 62, 42, 180, 0, 89, 42, 28, 182, 1, 129, 4, 96, 46, 54, 4]
abbrev dktX0_hull_1 : List UInt8 := dkwX0_hull_1 ++ dktX0_hull_2
def dkwX0_hull_0 : List UInt8 := [27, 184, 0, 150, 153, 0, 10, 28, 184, 1, 111, 154, 0, 7, 20, 1, 124, 173, 42, 27, 182, 1, 126, 42]
abbrev dktX0_hull_0 : List UInt8 := dkwX0_hull_0 ++ dktX0_hull_1
theorem dksX0_hull_0 : cX0_hull.data.toList.drop 0 = dktX0_hull_0 := by decide +kernel
theorem dksX0_hull_1 : cX0_hull.data.toList.drop 24 = dktX0_hull_1 := dk_seg dksX0_hull_0 24 rfl rfl
theorem dksX0_hull_2 : cX0_hull.data.toList.drop 48 = dktX0_hull_2 := dk_seg dksX0_hull_1 24 rfl rfl
theorem dksX0_hull_3 : cX0_hull.data.toList.drop 72 = dktX0_hull_3 := dk_seg dksX0_hull_2 24 rfl rfl
theorem dX0_hull_0 : decode cX0_hull 0 = .ok (.iload_n 1, 1) := dk_27 (dk_at dksX0_hull_0 0 rfl rfl)
theorem dX0_hull_1 : decode cX0_hull 1 = .ok (.invokestatic 150, 3) := dk_184 0 150 (dk_at dksX0_hull_0 1 rfl rfl)
theorem dX0_hull_4 : decode cX0_hull 4 = .ok (.ifCond .eq 10, 3) := dk_153 0 10 (dk_at dksX0_hull_0 4 rfl rfl)
theorem dX0_hull_7 : decode cX0_hull 7 = .ok (.iload_n 2, 1) := dk_28 (dk_at dksX0_hull_0 7 rfl rfl)
theorem dX0_hull_8 : decode cX0_hull 8 = .ok (.invokestatic 367, 3) := dk_184 1 111 (dk_at dksX0_hull_0 8 rfl rfl)
theorem dX0_hull_11 : decode cX0_hull 11 = .ok (.ifCond .ne 7, 3) := dk_154 0 7 (dk_at dksX0_hull_0 11 rfl rfl)
theorem dX0_hull_14 : decode cX0_hull 14 = .ok (.ldc2_w 380, 3) := dk_20 1 124 (dk_at dksX0_hull_0 14 rfl rfl)
theorem dX0_hull_17 : decode cX0_hull 17 = .ok (.lreturn, 1) := dk_173 (dk_at dksX0_hull_0 17 rfl rfl)
theorem dX0_hull_18 : decode cX0_hull 18 = .ok (.aload_n 0, 1) := dk_42 (dk_at dksX0_hull_0 18 rfl rfl)
theorem dX0_hull_19 : decode cX0_hull 19 = .ok (.iload_n 1, 1) := dk_27 (dk_at dksX0_hull_0 19 rfl rfl)
theorem dX0_hull_20 : decode cX0_hull 20 = .ok (.invokevirtual 382, 3) := dk_182 1 126 (dk_at dksX0_hull_0 20 rfl rfl)
theorem dX0_hull_23 : decode cX0_hull 23 = .ok (.aload_n 0, 1) := dk_42 (dk_at dksX0_hull_0 23 rfl rfl)
theorem dX0_hull_24 : decode cX0_hull 24 = .ok (.getfield 89, 3) := dk_180 0 89 (dk_at dksX0_hull_1 0 rfl rfl)
theorem dX0_hull_27 : decode cX0_hull 27 = .ok (.aload_n 0, 1) := dk_42 (dk_at dksX0_hull_1 3 rfl rfl)
theorem dX0_hull_28 : decode cX0_hull 28 = .ok (.iload_n 2, 1) := dk_28 (dk_at dksX0_hull_1 4 rfl rfl)
theorem dX0_hull_29 : decode cX0_hull 29 = .ok (.invokevirtual 385, 3) := dk_182 1 129 (dk_at dksX0_hull_1 5 rfl rfl)
theorem dX0_hull_32 : decode cX0_hull 32 = .ok (.iaload, 1) := dk_46 (dk_at dksX0_hull_1 8 rfl rfl)
theorem dX0_hull_33 : decode cX0_hull 33 = .ok (.istore_n 3, 1) := dk_62 (dk_at dksX0_hull_1 9 rfl rfl)
theorem dX0_hull_34 : decode cX0_hull 34 = .ok (.aload_n 0, 1) := dk_42 (dk_at dksX0_hull_1 10 rfl rfl)
theorem dX0_hull_35 : decode cX0_hull 35 = .ok (.getfield 89, 3) := dk_180 0 89 (dk_at dksX0_hull_1 11 rfl rfl)
theorem dX0_hull_38 : decode cX0_hull 38 = .ok (.aload_n 0, 1) := dk_42 (dk_at dksX0_hull_1 14 rfl rfl)
theorem dX0_hull_39 : decode cX0_hull 39 = .ok (.iload_n 2, 1) := dk_28 (dk_at dksX0_hull_1 15 rfl rfl)
theorem dX0_hull_40 : decode cX0_hull 40 = .ok (.invokevirtual 385, 3) := dk_182 1 129 (dk_at dksX0_hull_1 16 rfl rfl)
theorem dX0_hull_43 : decode cX0_hull 43 = .ok (.iconst 1, 1) := dk_4 (dk_at dksX0_hull_1 19 rfl rfl)
theorem dX0_hull_44 : decode cX0_hull 44 = .ok (.iadd, 1) := dk_96 (dk_at dksX0_hull_1 20 rfl rfl)
theorem dX0_hull_45 : decode cX0_hull 45 = .ok (.iaload, 1) := dk_46 (dk_at dksX0_hull_1 21 rfl rfl)
theorem dX0_hull_46 : decode cX0_hull 46 = .ok (.istore 4, 2) := dk_54 4 (dk_at dksX0_hull_1 22 rfl rfl)
theorem dX0_hull_48 : decode cX0_hull 48 = .ok (.ldc2_w 388, 3) := dk_20 1 132 (dk_at dksX0_hull_2 0 rfl rfl)
theorem dX0_hull_51 : decode cX0_hull 51 = .ok (.aload_n 0, 1) := dk_42 (dk_at dksX0_hull_2 3 rfl rfl)
theorem dX0_hull_52 : decode cX0_hull 52 = .ok (.getfield 86, 3) := dk_180 0 86 (dk_at dksX0_hull_2 4 rfl rfl)
theorem dX0_hull_55 : decode cX0_hull 55 = .ok (.iload_n 3, 1) := dk_29 (dk_at dksX0_hull_2 7 rfl rfl)
theorem dX0_hull_56 : decode cX0_hull 56 = .ok (.iaload, 1) := dk_46 (dk_at dksX0_hull_2 8 rfl rfl)
theorem dX0_hull_57 : decode cX0_hull 57 = .ok (.i2l, 1) := dk_133 (dk_at dksX0_hull_2 9 rfl rfl)
theorem dX0_hull_58 : decode cX0_hull 58 = .ok (.iload 4, 2) := dk_21 4 (dk_at dksX0_hull_2 10 rfl rfl)
theorem dX0_hull_60 : decode cX0_hull 60 = .ok (.iload_n 2, 1) := dk_28 (dk_at dksX0_hull_2 12 rfl rfl)
theorem dX0_hull_61 : decode cX0_hull 61 = .ok (.isub, 1) := dk_100 (dk_at dksX0_hull_2 13 rfl rfl)
theorem dX0_hull_62 : decode cX0_hull 62 = .ok (.i2l, 1) := dk_133 (dk_at dksX0_hull_2 14 rfl rfl)
theorem dX0_hull_63 : decode cX0_hull 63 = .ok (.lmul, 1) := dk_105 (dk_at dksX0_hull_2 15 rfl rfl)
theorem dX0_hull_64 : decode cX0_hull 64 = .ok (.aload_n 0, 1) := dk_42 (dk_at dksX0_hull_2 16 rfl rfl)
theorem dX0_hull_65 : decode cX0_hull 65 = .ok (.getfield 86, 3) := dk_180 0 86 (dk_at dksX0_hull_2 17 rfl rfl)
theorem dX0_hull_68 : decode cX0_hull 68 = .ok (.iload 4, 2) := dk_21 4 (dk_at dksX0_hull_2 20 rfl rfl)
theorem dX0_hull_70 : decode cX0_hull 70 = .ok (.iaload, 1) := dk_46 (dk_at dksX0_hull_2 22 rfl rfl)
theorem dX0_hull_71 : decode cX0_hull 71 = .ok (.i2l, 1) := dk_133 (dk_at dksX0_hull_2 23 rfl rfl)
theorem dX0_hull_72 : decode cX0_hull 72 = .ok (.iload_n 2, 1) := dk_28 (dk_at dksX0_hull_3 0 rfl rfl)
theorem dX0_hull_73 : decode cX0_hull 73 = .ok (.iload_n 3, 1) := dk_29 (dk_at dksX0_hull_3 1 rfl rfl)
theorem dX0_hull_74 : decode cX0_hull 74 = .ok (.isub, 1) := dk_100 (dk_at dksX0_hull_3 2 rfl rfl)
theorem dX0_hull_75 : decode cX0_hull 75 = .ok (.i2l, 1) := dk_133 (dk_at dksX0_hull_3 3 rfl rfl)
theorem dX0_hull_76 : decode cX0_hull 76 = .ok (.lmul, 1) := dk_105 (dk_at dksX0_hull_3 4 rfl rfl)
theorem dX0_hull_77 : decode cX0_hull 77 = .ok (.ladd, 1) := dk_97 (dk_at dksX0_hull_3 5 rfl rfl)
theorem dX0_hull_78 : decode cX0_hull 78 = .ok (.lmul, 1) := dk_105 (dk_at dksX0_hull_3 6 rfl rfl)
theorem dX0_hull_79 : decode cX0_hull 79 = .ok (.iload 4, 2) := dk_21 4 (dk_at dksX0_hull_3 7 rfl rfl)
theorem dX0_hull_81 : decode cX0_hull 81 = .ok (.iload_n 3, 1) := dk_29 (dk_at dksX0_hull_3 9 rfl rfl)
theorem dX0_hull_82 : decode cX0_hull 82 = .ok (.isub, 1) := dk_100 (dk_at dksX0_hull_3 10 rfl rfl)
theorem dX0_hull_83 : decode cX0_hull 83 = .ok (.i2l, 1) := dk_133 (dk_at dksX0_hull_3 11 rfl rfl)
theorem dX0_hull_84 : decode cX0_hull 84 = .ok (.ldiv, 1) := dk_109 (dk_at dksX0_hull_3 12 rfl rfl)
theorem dX0_hull_85 : decode cX0_hull 85 = .ok (.lreturn, 1) := dk_173 (dk_at dksX0_hull_3 13 rfl rfl)
abbrev cX0_layCurve : ByteArray := prog_1_method_50_code
def yX0_layCurve : MethodName := ⟨RX0, "layCurve", "(I)V"⟩
def dkwX0_layCurve_4 : List UInt8 := [180, 0, 89, 42, 89, 180, 1, 117, 90, 4, 96, 181, 1, 117, 28, 79, 132, 2, 1, 167, 255, 179, 177]
abbrev dktX0_layCurve_4 : List UInt8 := dkwX0_layCurve_4 ++ []
def dkwX0_layCurve_3 : List UInt8 := [100, 46, 28, 182, 1, 120, 154, 0, 16, 42, 89, 180, 1, 117, 4, 100, 181, 1, 117, 167, 255, 208, 42]
abbrev dktX0_layCurve_3 : List UInt8 := dkwX0_layCurve_3 ++ dktX0_layCurve_4
def dkwX0_layCurve_2 : List UInt8 := [164, 0, 46, 42, 42, 180, 0, 89, 42, 180, 1, 117, 5, 100, 46, 42, 180, 0, 89, 42, 180, 1, 117, 4]
abbrev dktX0_layCurve_2 : List UInt8 := dkwX0_layCurve_2 ++ dktX0_layCurve_3
def dkwX0_layCurve_1 : List UInt8 := [132, 2, 1, 167, 255, 232, 42, 3, 181, 1, 117, 3, 61, 28, 16, 24, 163, 0, 77, 42, 180, 1, 117, 4]
abbrev dktX0_layCurve_1 : List UInt8 := dkwX0_layCurve_1 ++ dktX0_layCurve_2
def dkwX0_layCurve_0 : List UInt8 := [3, 61, 28, 16, 24, 163, 0, 24, 42, 180, 0, 86, 28, 42, 27, 182, 0, 154, 28, 182, 1, 114, 79]
abbrev dktX0_layCurve_0 : List UInt8 := dkwX0_layCurve_0 ++ dktX0_layCurve_1
theorem dksX0_layCurve_0 : cX0_layCurve.data.toList.drop 0 = dktX0_layCurve_0 := by decide +kernel
theorem dksX0_layCurve_1 : cX0_layCurve.data.toList.drop 23 = dktX0_layCurve_1 := dk_seg dksX0_layCurve_0 23 rfl rfl
theorem dksX0_layCurve_2 : cX0_layCurve.data.toList.drop 47 = dktX0_layCurve_2 := dk_seg dksX0_layCurve_1 24 rfl rfl
theorem dksX0_layCurve_3 : cX0_layCurve.data.toList.drop 71 = dktX0_layCurve_3 := dk_seg dksX0_layCurve_2 24 rfl rfl
theorem dksX0_layCurve_4 : cX0_layCurve.data.toList.drop 94 = dktX0_layCurve_4 := dk_seg dksX0_layCurve_3 23 rfl rfl
theorem dX0_layCurve_0 : decode cX0_layCurve 0 = .ok (.iconst 0, 1) := dk_3 (dk_at dksX0_layCurve_0 0 rfl rfl)
theorem dX0_layCurve_1 : decode cX0_layCurve 1 = .ok (.istore_n 2, 1) := dk_61 (dk_at dksX0_layCurve_0 1 rfl rfl)
theorem dX0_layCurve_2 : decode cX0_layCurve 2 = .ok (.iload_n 2, 1) := dk_28 (dk_at dksX0_layCurve_0 2 rfl rfl)
theorem dX0_layCurve_3 : decode cX0_layCurve 3 = .ok (.bipush 24, 2) := dk_16 24 (dk_at dksX0_layCurve_0 3 rfl rfl)
theorem dX0_layCurve_5 : decode cX0_layCurve 5 = .ok (.if_icmp .gt 24, 3) := dk_163 0 24 (dk_at dksX0_layCurve_0 5 rfl rfl)
theorem dX0_layCurve_8 : decode cX0_layCurve 8 = .ok (.aload_n 0, 1) := dk_42 (dk_at dksX0_layCurve_0 8 rfl rfl)
theorem dX0_layCurve_9 : decode cX0_layCurve 9 = .ok (.getfield 86, 3) := dk_180 0 86 (dk_at dksX0_layCurve_0 9 rfl rfl)
theorem dX0_layCurve_12 : decode cX0_layCurve 12 = .ok (.iload_n 2, 1) := dk_28 (dk_at dksX0_layCurve_0 12 rfl rfl)
theorem dX0_layCurve_13 : decode cX0_layCurve 13 = .ok (.aload_n 0, 1) := dk_42 (dk_at dksX0_layCurve_0 13 rfl rfl)
theorem dX0_layCurve_14 : decode cX0_layCurve 14 = .ok (.iload_n 1, 1) := dk_27 (dk_at dksX0_layCurve_0 14 rfl rfl)
theorem dX0_layCurve_15 : decode cX0_layCurve 15 = .ok (.invokevirtual 154, 3) := dk_182 0 154 (dk_at dksX0_layCurve_0 15 rfl rfl)
theorem dX0_layCurve_18 : decode cX0_layCurve 18 = .ok (.iload_n 2, 1) := dk_28 (dk_at dksX0_layCurve_0 18 rfl rfl)
theorem dX0_layCurve_19 : decode cX0_layCurve 19 = .ok (.invokevirtual 370, 3) := dk_182 1 114 (dk_at dksX0_layCurve_0 19 rfl rfl)
theorem dX0_layCurve_22 : decode cX0_layCurve 22 = .ok (.iastore, 1) := dk_79 (dk_at dksX0_layCurve_0 22 rfl rfl)
theorem dX0_layCurve_23 : decode cX0_layCurve 23 = .ok (.iinc 2 1, 3) := dk_132 2 1 (dk_at dksX0_layCurve_1 0 rfl rfl)
theorem dX0_layCurve_26 : decode cX0_layCurve 26 = .ok (.goto (-24), 3) := dk_167 255 232 (dk_at dksX0_layCurve_1 3 rfl rfl)
theorem dX0_layCurve_29 : decode cX0_layCurve 29 = .ok (.aload_n 0, 1) := dk_42 (dk_at dksX0_layCurve_1 6 rfl rfl)
theorem dX0_layCurve_30 : decode cX0_layCurve 30 = .ok (.iconst 0, 1) := dk_3 (dk_at dksX0_layCurve_1 7 rfl rfl)
theorem dX0_layCurve_31 : decode cX0_layCurve 31 = .ok (.putfield 373, 3) := dk_181 1 117 (dk_at dksX0_layCurve_1 8 rfl rfl)
theorem dX0_layCurve_34 : decode cX0_layCurve 34 = .ok (.iconst 0, 1) := dk_3 (dk_at dksX0_layCurve_1 11 rfl rfl)
theorem dX0_layCurve_35 : decode cX0_layCurve 35 = .ok (.istore_n 2, 1) := dk_61 (dk_at dksX0_layCurve_1 12 rfl rfl)
theorem dX0_layCurve_36 : decode cX0_layCurve 36 = .ok (.iload_n 2, 1) := dk_28 (dk_at dksX0_layCurve_1 13 rfl rfl)
theorem dX0_layCurve_37 : decode cX0_layCurve 37 = .ok (.bipush 24, 2) := dk_16 24 (dk_at dksX0_layCurve_1 14 rfl rfl)
theorem dX0_layCurve_39 : decode cX0_layCurve 39 = .ok (.if_icmp .gt 77, 3) := dk_163 0 77 (dk_at dksX0_layCurve_1 16 rfl rfl)
theorem dX0_layCurve_42 : decode cX0_layCurve 42 = .ok (.aload_n 0, 1) := dk_42 (dk_at dksX0_layCurve_1 19 rfl rfl)
theorem dX0_layCurve_43 : decode cX0_layCurve 43 = .ok (.getfield 373, 3) := dk_180 1 117 (dk_at dksX0_layCurve_1 20 rfl rfl)
theorem dX0_layCurve_46 : decode cX0_layCurve 46 = .ok (.iconst 1, 1) := dk_4 (dk_at dksX0_layCurve_1 23 rfl rfl)
theorem dX0_layCurve_47 : decode cX0_layCurve 47 = .ok (.if_icmp .le 46, 3) := dk_164 0 46 (dk_at dksX0_layCurve_2 0 rfl rfl)
theorem dX0_layCurve_50 : decode cX0_layCurve 50 = .ok (.aload_n 0, 1) := dk_42 (dk_at dksX0_layCurve_2 3 rfl rfl)
theorem dX0_layCurve_51 : decode cX0_layCurve 51 = .ok (.aload_n 0, 1) := dk_42 (dk_at dksX0_layCurve_2 4 rfl rfl)
theorem dX0_layCurve_52 : decode cX0_layCurve 52 = .ok (.getfield 89, 3) := dk_180 0 89 (dk_at dksX0_layCurve_2 5 rfl rfl)
theorem dX0_layCurve_55 : decode cX0_layCurve 55 = .ok (.aload_n 0, 1) := dk_42 (dk_at dksX0_layCurve_2 8 rfl rfl)
theorem dX0_layCurve_56 : decode cX0_layCurve 56 = .ok (.getfield 373, 3) := dk_180 1 117 (dk_at dksX0_layCurve_2 9 rfl rfl)
theorem dX0_layCurve_59 : decode cX0_layCurve 59 = .ok (.iconst 2, 1) := dk_5 (dk_at dksX0_layCurve_2 12 rfl rfl)
theorem dX0_layCurve_60 : decode cX0_layCurve 60 = .ok (.isub, 1) := dk_100 (dk_at dksX0_layCurve_2 13 rfl rfl)
theorem dX0_layCurve_61 : decode cX0_layCurve 61 = .ok (.iaload, 1) := dk_46 (dk_at dksX0_layCurve_2 14 rfl rfl)
theorem dX0_layCurve_62 : decode cX0_layCurve 62 = .ok (.aload_n 0, 1) := dk_42 (dk_at dksX0_layCurve_2 15 rfl rfl)
theorem dX0_layCurve_63 : decode cX0_layCurve 63 = .ok (.getfield 89, 3) := dk_180 0 89 (dk_at dksX0_layCurve_2 16 rfl rfl)
theorem dX0_layCurve_66 : decode cX0_layCurve 66 = .ok (.aload_n 0, 1) := dk_42 (dk_at dksX0_layCurve_2 19 rfl rfl)
theorem dX0_layCurve_67 : decode cX0_layCurve 67 = .ok (.getfield 373, 3) := dk_180 1 117 (dk_at dksX0_layCurve_2 20 rfl rfl)
theorem dX0_layCurve_70 : decode cX0_layCurve 70 = .ok (.iconst 1, 1) := dk_4 (dk_at dksX0_layCurve_2 23 rfl rfl)
theorem dX0_layCurve_71 : decode cX0_layCurve 71 = .ok (.isub, 1) := dk_100 (dk_at dksX0_layCurve_3 0 rfl rfl)
theorem dX0_layCurve_72 : decode cX0_layCurve 72 = .ok (.iaload, 1) := dk_46 (dk_at dksX0_layCurve_3 1 rfl rfl)
theorem dX0_layCurve_73 : decode cX0_layCurve 73 = .ok (.iload_n 2, 1) := dk_28 (dk_at dksX0_layCurve_3 2 rfl rfl)
theorem dX0_layCurve_74 : decode cX0_layCurve 74 = .ok (.invokevirtual 376, 3) := dk_182 1 120 (dk_at dksX0_layCurve_3 3 rfl rfl)
theorem dX0_layCurve_77 : decode cX0_layCurve 77 = .ok (.ifCond .ne 16, 3) := dk_154 0 16 (dk_at dksX0_layCurve_3 6 rfl rfl)
theorem dX0_layCurve_80 : decode cX0_layCurve 80 = .ok (.aload_n 0, 1) := dk_42 (dk_at dksX0_layCurve_3 9 rfl rfl)
theorem dX0_layCurve_81 : decode cX0_layCurve 81 = .ok (.dup, 1) := dk_89 (dk_at dksX0_layCurve_3 10 rfl rfl)
theorem dX0_layCurve_82 : decode cX0_layCurve 82 = .ok (.getfield 373, 3) := dk_180 1 117 (dk_at dksX0_layCurve_3 11 rfl rfl)
theorem dX0_layCurve_85 : decode cX0_layCurve 85 = .ok (.iconst 1, 1) := dk_4 (dk_at dksX0_layCurve_3 14 rfl rfl)
theorem dX0_layCurve_86 : decode cX0_layCurve 86 = .ok (.isub, 1) := dk_100 (dk_at dksX0_layCurve_3 15 rfl rfl)
theorem dX0_layCurve_87 : decode cX0_layCurve 87 = .ok (.putfield 373, 3) := dk_181 1 117 (dk_at dksX0_layCurve_3 16 rfl rfl)
theorem dX0_layCurve_90 : decode cX0_layCurve 90 = .ok (.goto (-48), 3) := dk_167 255 208 (dk_at dksX0_layCurve_3 19 rfl rfl)
theorem dX0_layCurve_93 : decode cX0_layCurve 93 = .ok (.aload_n 0, 1) := dk_42 (dk_at dksX0_layCurve_3 22 rfl rfl)
theorem dX0_layCurve_94 : decode cX0_layCurve 94 = .ok (.getfield 89, 3) := dk_180 0 89 (dk_at dksX0_layCurve_4 0 rfl rfl)
theorem dX0_layCurve_97 : decode cX0_layCurve 97 = .ok (.aload_n 0, 1) := dk_42 (dk_at dksX0_layCurve_4 3 rfl rfl)
theorem dX0_layCurve_98 : decode cX0_layCurve 98 = .ok (.dup, 1) := dk_89 (dk_at dksX0_layCurve_4 4 rfl rfl)
theorem dX0_layCurve_99 : decode cX0_layCurve 99 = .ok (.getfield 373, 3) := dk_180 1 117 (dk_at dksX0_layCurve_4 5 rfl rfl)
theorem dX0_layCurve_102 : decode cX0_layCurve 102 = .ok (.dup_x1, 1) := dk_90 (dk_at dksX0_layCurve_4 8 rfl rfl)
theorem dX0_layCurve_103 : decode cX0_layCurve 103 = .ok (.iconst 1, 1) := dk_4 (dk_at dksX0_layCurve_4 9 rfl rfl)
theorem dX0_layCurve_104 : decode cX0_layCurve 104 = .ok (.iadd, 1) := dk_96 (dk_at dksX0_layCurve_4 10 rfl rfl)
theorem dX0_layCurve_105 : decode cX0_layCurve 105 = .ok (.putfield 373, 3) := dk_181 1 117 (dk_at dksX0_layCurve_4 11 rfl rfl)
theorem dX0_layCurve_108 : decode cX0_layCurve 108 = .ok (.iload_n 2, 1) := dk_28 (dk_at dksX0_layCurve_4 14 rfl rfl)
theorem dX0_layCurve_109 : decode cX0_layCurve 109 = .ok (.iastore, 1) := dk_79 (dk_at dksX0_layCurve_4 15 rfl rfl)
theorem dX0_layCurve_110 : decode cX0_layCurve 110 = .ok (.iinc 2 1, 3) := dk_132 2 1 (dk_at dksX0_layCurve_4 16 rfl rfl)
theorem dX0_layCurve_113 : decode cX0_layCurve 113 = .ok (.goto (-77), 3) := dk_167 255 179 (dk_at dksX0_layCurve_4 19 rfl rfl)
theorem dX0_layCurve_116 : decode cX0_layCurve 116 = .ok (.return_, 1) := dk_177 (dk_at dksX0_layCurve_4 22 rfl rfl)
abbrev cX0_isBelow : ByteArray := prog_1_method_51_code
def yX0_isBelow : MethodName := ⟨RX0, "isBelow", "(III)Z"⟩
def dkwX0_isBelow_1 : List UInt8 := [42, 180, 0, 86, 29, 46, 133, 28, 27, 100, 133, 105, 97, 148, 156, 0, 7, 4, 167, 0, 4, 3, 172]
abbrev dktX0_isBelow_1 : List UInt8 := dkwX0_isBelow_1 ++ []
def dkwX0_isBelow_0 : List UInt8 := [42, 180, 0, 86, 28, 46, 133, 29, 27, 100, 133, 105, 42, 180, 0, 86, 27, 46, 133, 29, 28, 100, 133, 105]
abbrev dktX0_isBelow_0 : List UInt8 := dkwX0_isBelow_0 ++ dktX0_isBelow_1
theorem dksX0_isBelow_0 : cX0_isBelow.data.toList.drop 0 = dktX0_isBelow_0 := by decide +kernel
theorem dksX0_isBelow_1 : cX0_isBelow.data.toList.drop 24 = dktX0_isBelow_1 := dk_seg dksX0_isBelow_0 24 rfl rfl
theorem dX0_isBelow_0 : decode cX0_isBelow 0 = .ok (.aload_n 0, 1) := dk_42 (dk_at dksX0_isBelow_0 0 rfl rfl)
theorem dX0_isBelow_1 : decode cX0_isBelow 1 = .ok (.getfield 86, 3) := dk_180 0 86 (dk_at dksX0_isBelow_0 1 rfl rfl)
theorem dX0_isBelow_4 : decode cX0_isBelow 4 = .ok (.iload_n 2, 1) := dk_28 (dk_at dksX0_isBelow_0 4 rfl rfl)
theorem dX0_isBelow_5 : decode cX0_isBelow 5 = .ok (.iaload, 1) := dk_46 (dk_at dksX0_isBelow_0 5 rfl rfl)
theorem dX0_isBelow_6 : decode cX0_isBelow 6 = .ok (.i2l, 1) := dk_133 (dk_at dksX0_isBelow_0 6 rfl rfl)
theorem dX0_isBelow_7 : decode cX0_isBelow 7 = .ok (.iload_n 3, 1) := dk_29 (dk_at dksX0_isBelow_0 7 rfl rfl)
theorem dX0_isBelow_8 : decode cX0_isBelow 8 = .ok (.iload_n 1, 1) := dk_27 (dk_at dksX0_isBelow_0 8 rfl rfl)
theorem dX0_isBelow_9 : decode cX0_isBelow 9 = .ok (.isub, 1) := dk_100 (dk_at dksX0_isBelow_0 9 rfl rfl)
theorem dX0_isBelow_10 : decode cX0_isBelow 10 = .ok (.i2l, 1) := dk_133 (dk_at dksX0_isBelow_0 10 rfl rfl)
theorem dX0_isBelow_11 : decode cX0_isBelow 11 = .ok (.lmul, 1) := dk_105 (dk_at dksX0_isBelow_0 11 rfl rfl)
theorem dX0_isBelow_12 : decode cX0_isBelow 12 = .ok (.aload_n 0, 1) := dk_42 (dk_at dksX0_isBelow_0 12 rfl rfl)
theorem dX0_isBelow_13 : decode cX0_isBelow 13 = .ok (.getfield 86, 3) := dk_180 0 86 (dk_at dksX0_isBelow_0 13 rfl rfl)
theorem dX0_isBelow_16 : decode cX0_isBelow 16 = .ok (.iload_n 1, 1) := dk_27 (dk_at dksX0_isBelow_0 16 rfl rfl)
theorem dX0_isBelow_17 : decode cX0_isBelow 17 = .ok (.iaload, 1) := dk_46 (dk_at dksX0_isBelow_0 17 rfl rfl)
theorem dX0_isBelow_18 : decode cX0_isBelow 18 = .ok (.i2l, 1) := dk_133 (dk_at dksX0_isBelow_0 18 rfl rfl)
theorem dX0_isBelow_19 : decode cX0_isBelow 19 = .ok (.iload_n 3, 1) := dk_29 (dk_at dksX0_isBelow_0 19 rfl rfl)
theorem dX0_isBelow_20 : decode cX0_isBelow 20 = .ok (.iload_n 2, 1) := dk_28 (dk_at dksX0_isBelow_0 20 rfl rfl)
theorem dX0_isBelow_21 : decode cX0_isBelow 21 = .ok (.isub, 1) := dk_100 (dk_at dksX0_isBelow_0 21 rfl rfl)
theorem dX0_isBelow_22 : decode cX0_isBelow 22 = .ok (.i2l, 1) := dk_133 (dk_at dksX0_isBelow_0 22 rfl rfl)
theorem dX0_isBelow_23 : decode cX0_isBelow 23 = .ok (.lmul, 1) := dk_105 (dk_at dksX0_isBelow_0 23 rfl rfl)
theorem dX0_isBelow_24 : decode cX0_isBelow 24 = .ok (.aload_n 0, 1) := dk_42 (dk_at dksX0_isBelow_1 0 rfl rfl)
theorem dX0_isBelow_25 : decode cX0_isBelow 25 = .ok (.getfield 86, 3) := dk_180 0 86 (dk_at dksX0_isBelow_1 1 rfl rfl)
theorem dX0_isBelow_28 : decode cX0_isBelow 28 = .ok (.iload_n 3, 1) := dk_29 (dk_at dksX0_isBelow_1 4 rfl rfl)
theorem dX0_isBelow_29 : decode cX0_isBelow 29 = .ok (.iaload, 1) := dk_46 (dk_at dksX0_isBelow_1 5 rfl rfl)
theorem dX0_isBelow_30 : decode cX0_isBelow 30 = .ok (.i2l, 1) := dk_133 (dk_at dksX0_isBelow_1 6 rfl rfl)
theorem dX0_isBelow_31 : decode cX0_isBelow 31 = .ok (.iload_n 2, 1) := dk_28 (dk_at dksX0_isBelow_1 7 rfl rfl)
theorem dX0_isBelow_32 : decode cX0_isBelow 32 = .ok (.iload_n 1, 1) := dk_27 (dk_at dksX0_isBelow_1 8 rfl rfl)
theorem dX0_isBelow_33 : decode cX0_isBelow 33 = .ok (.isub, 1) := dk_100 (dk_at dksX0_isBelow_1 9 rfl rfl)
theorem dX0_isBelow_34 : decode cX0_isBelow 34 = .ok (.i2l, 1) := dk_133 (dk_at dksX0_isBelow_1 10 rfl rfl)
theorem dX0_isBelow_35 : decode cX0_isBelow 35 = .ok (.lmul, 1) := dk_105 (dk_at dksX0_isBelow_1 11 rfl rfl)
theorem dX0_isBelow_36 : decode cX0_isBelow 36 = .ok (.ladd, 1) := dk_97 (dk_at dksX0_isBelow_1 12 rfl rfl)
theorem dX0_isBelow_37 : decode cX0_isBelow 37 = .ok (.lcmp, 1) := dk_148 (dk_at dksX0_isBelow_1 13 rfl rfl)
theorem dX0_isBelow_38 : decode cX0_isBelow 38 = .ok (.ifCond .ge 7, 3) := dk_156 0 7 (dk_at dksX0_isBelow_1 14 rfl rfl)
theorem dX0_isBelow_41 : decode cX0_isBelow 41 = .ok (.iconst 1, 1) := dk_4 (dk_at dksX0_isBelow_1 17 rfl rfl)
theorem dX0_isBelow_42 : decode cX0_isBelow 42 = .ok (.goto 4, 3) := dk_167 0 4 (dk_at dksX0_isBelow_1 18 rfl rfl)
theorem dX0_isBelow_45 : decode cX0_isBelow 45 = .ok (.iconst 0, 1) := dk_3 (dk_at dksX0_isBelow_1 21 rfl rfl)
theorem dX0_isBelow_46 : decode cX0_isBelow 46 = .ok (.ireturn, 1) := dk_172 (dk_at dksX0_isBelow_1 22 rfl rfl)
abbrev cX0_bendOf : ByteArray := prog_1_method_52_code
def yX0_bendOf : MethodName := ⟨RX0, "bendOf", "(I)I"⟩
def dkwX0_bendOf_1 : List UInt8 := [132, 2, 1, 167, 255, 231, 28, 172]
abbrev dktX0_bendOf_1 : List UInt8 := dkwX0_bendOf_1 ++ []
def dkwX0_bendOf_0 : List UInt8 := [3, 61, 28, 5, 96, 42, 180, 1, 117, 162, 0, 21, 42, 180, 0, 89, 28, 4, 96, 46, 27, 163, 0, 9]
abbrev dktX0_bendOf_0 : List UInt8 := dkwX0_bendOf_0 ++ dktX0_bendOf_1
theorem dksX0_bendOf_0 : cX0_bendOf.data.toList.drop 0 = dktX0_bendOf_0 := by decide +kernel
theorem dksX0_bendOf_1 : cX0_bendOf.data.toList.drop 24 = dktX0_bendOf_1 := dk_seg dksX0_bendOf_0 24 rfl rfl
theorem dX0_bendOf_0 : decode cX0_bendOf 0 = .ok (.iconst 0, 1) := dk_3 (dk_at dksX0_bendOf_0 0 rfl rfl)
theorem dX0_bendOf_1 : decode cX0_bendOf 1 = .ok (.istore_n 2, 1) := dk_61 (dk_at dksX0_bendOf_0 1 rfl rfl)
theorem dX0_bendOf_2 : decode cX0_bendOf 2 = .ok (.iload_n 2, 1) := dk_28 (dk_at dksX0_bendOf_0 2 rfl rfl)
theorem dX0_bendOf_3 : decode cX0_bendOf 3 = .ok (.iconst 2, 1) := dk_5 (dk_at dksX0_bendOf_0 3 rfl rfl)
theorem dX0_bendOf_4 : decode cX0_bendOf 4 = .ok (.iadd, 1) := dk_96 (dk_at dksX0_bendOf_0 4 rfl rfl)
theorem dX0_bendOf_5 : decode cX0_bendOf 5 = .ok (.aload_n 0, 1) := dk_42 (dk_at dksX0_bendOf_0 5 rfl rfl)
theorem dX0_bendOf_6 : decode cX0_bendOf 6 = .ok (.getfield 373, 3) := dk_180 1 117 (dk_at dksX0_bendOf_0 6 rfl rfl)
theorem dX0_bendOf_9 : decode cX0_bendOf 9 = .ok (.if_icmp .ge 21, 3) := dk_162 0 21 (dk_at dksX0_bendOf_0 9 rfl rfl)
theorem dX0_bendOf_12 : decode cX0_bendOf 12 = .ok (.aload_n 0, 1) := dk_42 (dk_at dksX0_bendOf_0 12 rfl rfl)
theorem dX0_bendOf_13 : decode cX0_bendOf 13 = .ok (.getfield 89, 3) := dk_180 0 89 (dk_at dksX0_bendOf_0 13 rfl rfl)
theorem dX0_bendOf_16 : decode cX0_bendOf 16 = .ok (.iload_n 2, 1) := dk_28 (dk_at dksX0_bendOf_0 16 rfl rfl)
theorem dX0_bendOf_17 : decode cX0_bendOf 17 = .ok (.iconst 1, 1) := dk_4 (dk_at dksX0_bendOf_0 17 rfl rfl)
theorem dX0_bendOf_18 : decode cX0_bendOf 18 = .ok (.iadd, 1) := dk_96 (dk_at dksX0_bendOf_0 18 rfl rfl)
theorem dX0_bendOf_19 : decode cX0_bendOf 19 = .ok (.iaload, 1) := dk_46 (dk_at dksX0_bendOf_0 19 rfl rfl)
theorem dX0_bendOf_20 : decode cX0_bendOf 20 = .ok (.iload_n 1, 1) := dk_27 (dk_at dksX0_bendOf_0 20 rfl rfl)
theorem dX0_bendOf_21 : decode cX0_bendOf 21 = .ok (.if_icmp .gt 9, 3) := dk_163 0 9 (dk_at dksX0_bendOf_0 21 rfl rfl)
theorem dX0_bendOf_24 : decode cX0_bendOf 24 = .ok (.iinc 2 1, 3) := dk_132 2 1 (dk_at dksX0_bendOf_1 0 rfl rfl)
theorem dX0_bendOf_27 : decode cX0_bendOf 27 = .ok (.goto (-25), 3) := dk_167 255 231 (dk_at dksX0_bendOf_1 3 rfl rfl)
theorem dX0_bendOf_30 : decode cX0_bendOf 30 = .ok (.iload_n 2, 1) := dk_28 (dk_at dksX0_bendOf_1 6 rfl rfl)
theorem dX0_bendOf_31 : decode cX0_bendOf 31 = .ok (.ireturn, 1) := dk_172 (dk_at dksX0_bendOf_1 7 rfl rfl)
abbrev cX0_bend : ByteArray := prog_1_method_54_code
def yX0_bend : MethodName := ⟨RX0, "bend", "(II)I"⟩
def dkwX0_bend_2 : List UInt8 := [2, 172]
abbrev dktX0_bend_2 : List UInt8 := dkwX0_bend_2 ++ []
def dkwX0_bend_1 : List UInt8 := [42, 180, 1, 117, 167, 0, 21, 28, 42, 180, 1, 117, 162, 0, 12, 42, 180, 0, 89, 28, 46, 167, 0, 4]
abbrev dktX0_bend_1 : List UInt8 := dkwX0_bend_1 ++ dktX0_bend_2
def dkwX0_bend_0 : List UInt8 := [27, 184, 0, 150, 153, 0, 8, 28, 2, 162, 0, 5, 2, 172, 42, 27, 182, 1, 126, 28, 2, 160, 0, 10]
abbrev dktX0_bend_0 : List UInt8 := dkwX0_bend_0 ++ dktX0_bend_1
theorem dksX0_bend_0 : cX0_bend.data.toList.drop 0 = dktX0_bend_0 := by decide +kernel
theorem dksX0_bend_1 : cX0_bend.data.toList.drop 24 = dktX0_bend_1 := dk_seg dksX0_bend_0 24 rfl rfl
theorem dksX0_bend_2 : cX0_bend.data.toList.drop 48 = dktX0_bend_2 := dk_seg dksX0_bend_1 24 rfl rfl
theorem dX0_bend_0 : decode cX0_bend 0 = .ok (.iload_n 1, 1) := dk_27 (dk_at dksX0_bend_0 0 rfl rfl)
theorem dX0_bend_1 : decode cX0_bend 1 = .ok (.invokestatic 150, 3) := dk_184 0 150 (dk_at dksX0_bend_0 1 rfl rfl)
theorem dX0_bend_4 : decode cX0_bend 4 = .ok (.ifCond .eq 8, 3) := dk_153 0 8 (dk_at dksX0_bend_0 4 rfl rfl)
theorem dX0_bend_7 : decode cX0_bend 7 = .ok (.iload_n 2, 1) := dk_28 (dk_at dksX0_bend_0 7 rfl rfl)
theorem dX0_bend_8 : decode cX0_bend 8 = .ok (.iconst (-1), 1) := dk_2 (dk_at dksX0_bend_0 8 rfl rfl)
theorem dX0_bend_9 : decode cX0_bend 9 = .ok (.if_icmp .ge 5, 3) := dk_162 0 5 (dk_at dksX0_bend_0 9 rfl rfl)
theorem dX0_bend_12 : decode cX0_bend 12 = .ok (.iconst (-1), 1) := dk_2 (dk_at dksX0_bend_0 12 rfl rfl)
theorem dX0_bend_13 : decode cX0_bend 13 = .ok (.ireturn, 1) := dk_172 (dk_at dksX0_bend_0 13 rfl rfl)
theorem dX0_bend_14 : decode cX0_bend 14 = .ok (.aload_n 0, 1) := dk_42 (dk_at dksX0_bend_0 14 rfl rfl)
theorem dX0_bend_15 : decode cX0_bend 15 = .ok (.iload_n 1, 1) := dk_27 (dk_at dksX0_bend_0 15 rfl rfl)
theorem dX0_bend_16 : decode cX0_bend 16 = .ok (.invokevirtual 382, 3) := dk_182 1 126 (dk_at dksX0_bend_0 16 rfl rfl)
theorem dX0_bend_19 : decode cX0_bend 19 = .ok (.iload_n 2, 1) := dk_28 (dk_at dksX0_bend_0 19 rfl rfl)
theorem dX0_bend_20 : decode cX0_bend 20 = .ok (.iconst (-1), 1) := dk_2 (dk_at dksX0_bend_0 20 rfl rfl)
theorem dX0_bend_21 : decode cX0_bend 21 = .ok (.if_icmp .ne 10, 3) := dk_160 0 10 (dk_at dksX0_bend_0 21 rfl rfl)
theorem dX0_bend_24 : decode cX0_bend 24 = .ok (.aload_n 0, 1) := dk_42 (dk_at dksX0_bend_1 0 rfl rfl)
theorem dX0_bend_25 : decode cX0_bend 25 = .ok (.getfield 373, 3) := dk_180 1 117 (dk_at dksX0_bend_1 1 rfl rfl)
theorem dX0_bend_28 : decode cX0_bend 28 = .ok (.goto 21, 3) := dk_167 0 21 (dk_at dksX0_bend_1 4 rfl rfl)
theorem dX0_bend_31 : decode cX0_bend 31 = .ok (.iload_n 2, 1) := dk_28 (dk_at dksX0_bend_1 7 rfl rfl)
theorem dX0_bend_32 : decode cX0_bend 32 = .ok (.aload_n 0, 1) := dk_42 (dk_at dksX0_bend_1 8 rfl rfl)
theorem dX0_bend_33 : decode cX0_bend 33 = .ok (.getfield 373, 3) := dk_180 1 117 (dk_at dksX0_bend_1 9 rfl rfl)
theorem dX0_bend_36 : decode cX0_bend 36 = .ok (.if_icmp .ge 12, 3) := dk_162 0 12 (dk_at dksX0_bend_1 12 rfl rfl)
theorem dX0_bend_39 : decode cX0_bend 39 = .ok (.aload_n 0, 1) := dk_42 (dk_at dksX0_bend_1 15 rfl rfl)
theorem dX0_bend_40 : decode cX0_bend 40 = .ok (.getfield 89, 3) := dk_180 0 89 (dk_at dksX0_bend_1 16 rfl rfl)
theorem dX0_bend_43 : decode cX0_bend 43 = .ok (.iload_n 2, 1) := dk_28 (dk_at dksX0_bend_1 19 rfl rfl)
theorem dX0_bend_44 : decode cX0_bend 44 = .ok (.iaload, 1) := dk_46 (dk_at dksX0_bend_1 20 rfl rfl)
theorem dX0_bend_45 : decode cX0_bend 45 = .ok (.goto 4, 3) := dk_167 0 4 (dk_at dksX0_bend_1 21 rfl rfl)
theorem dX0_bend_48 : decode cX0_bend 48 = .ok (.iconst (-1), 1) := dk_2 (dk_at dksX0_bend_2 0 rfl rfl)
theorem dX0_bend_49 : decode cX0_bend 49 = .ok (.ireturn, 1) := dk_172 (dk_at dksX0_bend_2 1 rfl rfl)
abbrev cX0_report : ByteArray := prog_1_method_55_code
def yX0_report : MethodName := ⟨RX0, "report", "(I)I"⟩
def dkwX0_report_5 : List UInt8 := [181, 0, 94, 42, 180, 0, 94, 182, 1, 153, 172]
abbrev dktX0_report_5 : List UInt8 := dkwX0_report_5 ++ []
def dkwX0_report_4 : List UInt8 := [167, 255, 186, 42, 187, 0, 244, 89, 183, 0, 246, 44, 182, 1, 148, 19, 1, 151, 182, 1, 136, 182, 1, 144]
abbrev dktX0_report_4 : List UInt8 := dkwX0_report_4 ++ dktX0_report_5
def dkwX0_report_3 : List UInt8 := [180, 0, 86, 42, 180, 0, 89, 29, 46, 46, 182, 1, 139, 182, 1, 144, 182, 1, 136, 87, 132, 3, 1]
abbrev dktX0_report_3 : List UInt8 := dkwX0_report_3 ++ dktX0_report_4
def dkwX0_report_2 : List UInt8 := [187, 0, 244, 89, 183, 0, 246, 42, 180, 0, 89, 29, 46, 182, 1, 139, 19, 1, 142, 182, 1, 136, 42]
abbrev dktX0_report_2 : List UInt8 := dkwX0_report_2 ++ dktX0_report_3
def dkwX0_report_1 : List UInt8 := [29, 42, 180, 1, 117, 162, 0, 68, 44, 29, 154, 0, 8, 18, 92, 167, 0, 6, 19, 1, 134, 182, 1, 136]
abbrev dktX0_report_1 : List UInt8 := dkwX0_report_1 ++ dktX0_report_2
def dkwX0_report_0 : List UInt8 := [27, 184, 0, 150, 154, 0, 5, 2, 172, 42, 27, 182, 1, 126, 187, 0, 244, 89, 183, 0, 246, 77, 3, 62]
abbrev dktX0_report_0 : List UInt8 := dkwX0_report_0 ++ dktX0_report_1
theorem dksX0_report_0 : cX0_report.data.toList.drop 0 = dktX0_report_0 := by decide +kernel
theorem dksX0_report_1 : cX0_report.data.toList.drop 24 = dktX0_report_1 := dk_seg dksX0_report_0 24 rfl rfl
theorem dksX0_report_2 : cX0_report.data.toList.drop 48 = dktX0_report_2 := dk_seg dksX0_report_1 24 rfl rfl
theorem dksX0_report_3 : cX0_report.data.toList.drop 71 = dktX0_report_3 := dk_seg dksX0_report_2 23 rfl rfl
theorem dksX0_report_4 : cX0_report.data.toList.drop 94 = dktX0_report_4 := dk_seg dksX0_report_3 23 rfl rfl
theorem dksX0_report_5 : cX0_report.data.toList.drop 118 = dktX0_report_5 := dk_seg dksX0_report_4 24 rfl rfl
theorem dX0_report_0 : decode cX0_report 0 = .ok (.iload_n 1, 1) := dk_27 (dk_at dksX0_report_0 0 rfl rfl)
theorem dX0_report_1 : decode cX0_report 1 = .ok (.invokestatic 150, 3) := dk_184 0 150 (dk_at dksX0_report_0 1 rfl rfl)
theorem dX0_report_4 : decode cX0_report 4 = .ok (.ifCond .ne 5, 3) := dk_154 0 5 (dk_at dksX0_report_0 4 rfl rfl)
theorem dX0_report_7 : decode cX0_report 7 = .ok (.iconst (-1), 1) := dk_2 (dk_at dksX0_report_0 7 rfl rfl)
theorem dX0_report_8 : decode cX0_report 8 = .ok (.ireturn, 1) := dk_172 (dk_at dksX0_report_0 8 rfl rfl)
theorem dX0_report_9 : decode cX0_report 9 = .ok (.aload_n 0, 1) := dk_42 (dk_at dksX0_report_0 9 rfl rfl)
theorem dX0_report_10 : decode cX0_report 10 = .ok (.iload_n 1, 1) := dk_27 (dk_at dksX0_report_0 10 rfl rfl)
theorem dX0_report_11 : decode cX0_report 11 = .ok (.invokevirtual 382, 3) := dk_182 1 126 (dk_at dksX0_report_0 11 rfl rfl)
theorem dX0_report_14 : decode cX0_report 14 = .ok (.new 244, 3) := dk_187 0 244 (dk_at dksX0_report_0 14 rfl rfl)
theorem dX0_report_17 : decode cX0_report 17 = .ok (.dup, 1) := dk_89 (dk_at dksX0_report_0 17 rfl rfl)
theorem dX0_report_18 : decode cX0_report 18 = .ok (.invokespecial 246, 3) := dk_183 0 246 (dk_at dksX0_report_0 18 rfl rfl)
theorem dX0_report_21 : decode cX0_report 21 = .ok (.astore_n 2, 1) := dk_77 (dk_at dksX0_report_0 21 rfl rfl)
theorem dX0_report_22 : decode cX0_report 22 = .ok (.iconst 0, 1) := dk_3 (dk_at dksX0_report_0 22 rfl rfl)
theorem dX0_report_23 : decode cX0_report 23 = .ok (.istore_n 3, 1) := dk_62 (dk_at dksX0_report_0 23 rfl rfl)
theorem dX0_report_24 : decode cX0_report 24 = .ok (.iload_n 3, 1) := dk_29 (dk_at dksX0_report_1 0 rfl rfl)
theorem dX0_report_25 : decode cX0_report 25 = .ok (.aload_n 0, 1) := dk_42 (dk_at dksX0_report_1 1 rfl rfl)
theorem dX0_report_26 : decode cX0_report 26 = .ok (.getfield 373, 3) := dk_180 1 117 (dk_at dksX0_report_1 2 rfl rfl)
theorem dX0_report_29 : decode cX0_report 29 = .ok (.if_icmp .ge 68, 3) := dk_162 0 68 (dk_at dksX0_report_1 5 rfl rfl)
theorem dX0_report_32 : decode cX0_report 32 = .ok (.aload_n 2, 1) := dk_44 (dk_at dksX0_report_1 8 rfl rfl)
theorem dX0_report_33 : decode cX0_report 33 = .ok (.iload_n 3, 1) := dk_29 (dk_at dksX0_report_1 9 rfl rfl)
theorem dX0_report_34 : decode cX0_report 34 = .ok (.ifCond .ne 8, 3) := dk_154 0 8 (dk_at dksX0_report_1 10 rfl rfl)
theorem dX0_report_37 : decode cX0_report 37 = .ok (.ldc 92, 2) := dk_18 92 (dk_at dksX0_report_1 13 rfl rfl)
theorem dX0_report_39 : decode cX0_report 39 = .ok (.goto 6, 3) := dk_167 0 6 (dk_at dksX0_report_1 15 rfl rfl)
theorem dX0_report_42 : decode cX0_report 42 = .ok (.ldc_w 390, 3) := dk_19 1 134 (dk_at dksX0_report_1 18 rfl rfl)
theorem dX0_report_45 : decode cX0_report 45 = .ok (.invokevirtual 392, 3) := dk_182 1 136 (dk_at dksX0_report_1 21 rfl rfl)
theorem dX0_report_48 : decode cX0_report 48 = .ok (.new 244, 3) := dk_187 0 244 (dk_at dksX0_report_2 0 rfl rfl)
theorem dX0_report_51 : decode cX0_report 51 = .ok (.dup, 1) := dk_89 (dk_at dksX0_report_2 3 rfl rfl)
theorem dX0_report_52 : decode cX0_report 52 = .ok (.invokespecial 246, 3) := dk_183 0 246 (dk_at dksX0_report_2 4 rfl rfl)
theorem dX0_report_55 : decode cX0_report 55 = .ok (.aload_n 0, 1) := dk_42 (dk_at dksX0_report_2 7 rfl rfl)
theorem dX0_report_56 : decode cX0_report 56 = .ok (.getfield 89, 3) := dk_180 0 89 (dk_at dksX0_report_2 8 rfl rfl)
theorem dX0_report_59 : decode cX0_report 59 = .ok (.iload_n 3, 1) := dk_29 (dk_at dksX0_report_2 11 rfl rfl)
theorem dX0_report_60 : decode cX0_report 60 = .ok (.iaload, 1) := dk_46 (dk_at dksX0_report_2 12 rfl rfl)
theorem dX0_report_61 : decode cX0_report 61 = .ok (.invokevirtual 395, 3) := dk_182 1 139 (dk_at dksX0_report_2 13 rfl rfl)
theorem dX0_report_64 : decode cX0_report 64 = .ok (.ldc_w 398, 3) := dk_19 1 142 (dk_at dksX0_report_2 16 rfl rfl)
theorem dX0_report_67 : decode cX0_report 67 = .ok (.invokevirtual 392, 3) := dk_182 1 136 (dk_at dksX0_report_2 19 rfl rfl)
theorem dX0_report_70 : decode cX0_report 70 = .ok (.aload_n 0, 1) := dk_42 (dk_at dksX0_report_2 22 rfl rfl)
theorem dX0_report_71 : decode cX0_report 71 = .ok (.getfield 86, 3) := dk_180 0 86 (dk_at dksX0_report_3 0 rfl rfl)
theorem dX0_report_74 : decode cX0_report 74 = .ok (.aload_n 0, 1) := dk_42 (dk_at dksX0_report_3 3 rfl rfl)
theorem dX0_report_75 : decode cX0_report 75 = .ok (.getfield 89, 3) := dk_180 0 89 (dk_at dksX0_report_3 4 rfl rfl)
theorem dX0_report_78 : decode cX0_report 78 = .ok (.iload_n 3, 1) := dk_29 (dk_at dksX0_report_3 7 rfl rfl)
theorem dX0_report_79 : decode cX0_report 79 = .ok (.iaload, 1) := dk_46 (dk_at dksX0_report_3 8 rfl rfl)
theorem dX0_report_80 : decode cX0_report 80 = .ok (.iaload, 1) := dk_46 (dk_at dksX0_report_3 9 rfl rfl)
theorem dX0_report_81 : decode cX0_report 81 = .ok (.invokevirtual 395, 3) := dk_182 1 139 (dk_at dksX0_report_3 10 rfl rfl)
theorem dX0_report_84 : decode cX0_report 84 = .ok (.invokevirtual 400, 3) := dk_182 1 144 (dk_at dksX0_report_3 13 rfl rfl)
theorem dX0_report_87 : decode cX0_report 87 = .ok (.invokevirtual 392, 3) := dk_182 1 136 (dk_at dksX0_report_3 16 rfl rfl)
theorem dX0_report_90 : decode cX0_report 90 = .ok (.pop, 1) := dk_87 (dk_at dksX0_report_3 19 rfl rfl)
theorem dX0_report_91 : decode cX0_report 91 = .ok (.iinc 3 1, 3) := dk_132 3 1 (dk_at dksX0_report_3 20 rfl rfl)
theorem dX0_report_94 : decode cX0_report 94 = .ok (.goto (-70), 3) := dk_167 255 186 (dk_at dksX0_report_4 0 rfl rfl)
theorem dX0_report_97 : decode cX0_report 97 = .ok (.aload_n 0, 1) := dk_42 (dk_at dksX0_report_4 3 rfl rfl)
theorem dX0_report_98 : decode cX0_report 98 = .ok (.new 244, 3) := dk_187 0 244 (dk_at dksX0_report_4 4 rfl rfl)
theorem dX0_report_101 : decode cX0_report 101 = .ok (.dup, 1) := dk_89 (dk_at dksX0_report_4 7 rfl rfl)
theorem dX0_report_102 : decode cX0_report 102 = .ok (.invokespecial 246, 3) := dk_183 0 246 (dk_at dksX0_report_4 8 rfl rfl)
theorem dX0_report_105 : decode cX0_report 105 = .ok (.aload_n 2, 1) := dk_44 (dk_at dksX0_report_4 11 rfl rfl)
theorem dX0_report_106 : decode cX0_report 106 = .ok (.invokevirtual 404, 3) := dk_182 1 148 (dk_at dksX0_report_4 12 rfl rfl)
theorem dX0_report_109 : decode cX0_report 109 = .ok (.ldc_w 407, 3) := dk_19 1 151 (dk_at dksX0_report_4 15 rfl rfl)
theorem dX0_report_112 : decode cX0_report 112 = .ok (.invokevirtual 392, 3) := dk_182 1 136 (dk_at dksX0_report_4 18 rfl rfl)
theorem dX0_report_115 : decode cX0_report 115 = .ok (.invokevirtual 400, 3) := dk_182 1 144 (dk_at dksX0_report_4 21 rfl rfl)
theorem dX0_report_118 : decode cX0_report 118 = .ok (.putfield 94, 3) := dk_181 0 94 (dk_at dksX0_report_5 0 rfl rfl)
theorem dX0_report_121 : decode cX0_report 121 = .ok (.aload_n 0, 1) := dk_42 (dk_at dksX0_report_5 3 rfl rfl)
theorem dX0_report_122 : decode cX0_report 122 = .ok (.getfield 94, 3) := dk_180 0 94 (dk_at dksX0_report_5 4 rfl rfl)
theorem dX0_report_125 : decode cX0_report 125 = .ok (.invokevirtual 409, 3) := dk_182 1 153 (dk_at dksX0_report_5 7 rfl rfl)
theorem dX0_report_128 : decode cX0_report 128 = .ok (.ireturn, 1) := dk_172 (dk_at dksX0_report_5 10 rfl rfl)
abbrev cX0_sign : ByteArray := prog_1_method_56_code
def yX0_sign : MethodName := ⟨RX0, "sign", "(I)I"⟩
def dkwX0_sign_1 : List UInt8 := [182, 1, 158, 167, 0, 4, 2, 172]
abbrev dktX0_sign_1 : List UInt8 := dkwX0_sign_1 ++ []
def dkwX0_sign_0 : List UInt8 := [27, 133, 9, 42, 180, 0, 94, 182, 1, 153, 4, 100, 133, 184, 0, 5, 153, 0, 14, 42, 180, 0, 94, 27]
abbrev dktX0_sign_0 : List UInt8 := dkwX0_sign_0 ++ dktX0_sign_1
theorem dksX0_sign_0 : cX0_sign.data.toList.drop 0 = dktX0_sign_0 := by decide +kernel
theorem dksX0_sign_1 : cX0_sign.data.toList.drop 24 = dktX0_sign_1 := dk_seg dksX0_sign_0 24 rfl rfl
theorem dX0_sign_0 : decode cX0_sign 0 = .ok (.iload_n 1, 1) := dk_27 (dk_at dksX0_sign_0 0 rfl rfl)
theorem dX0_sign_1 : decode cX0_sign 1 = .ok (.i2l, 1) := dk_133 (dk_at dksX0_sign_0 1 rfl rfl)
theorem dX0_sign_2 : decode cX0_sign 2 = .ok (.lconst 0, 1) := dk_9 (dk_at dksX0_sign_0 2 rfl rfl)
theorem dX0_sign_3 : decode cX0_sign 3 = .ok (.aload_n 0, 1) := dk_42 (dk_at dksX0_sign_0 3 rfl rfl)
theorem dX0_sign_4 : decode cX0_sign 4 = .ok (.getfield 94, 3) := dk_180 0 94 (dk_at dksX0_sign_0 4 rfl rfl)
theorem dX0_sign_7 : decode cX0_sign 7 = .ok (.invokevirtual 409, 3) := dk_182 1 153 (dk_at dksX0_sign_0 7 rfl rfl)
theorem dX0_sign_10 : decode cX0_sign 10 = .ok (.iconst 1, 1) := dk_4 (dk_at dksX0_sign_0 10 rfl rfl)
theorem dX0_sign_11 : decode cX0_sign 11 = .ok (.isub, 1) := dk_100 (dk_at dksX0_sign_0 11 rfl rfl)
theorem dX0_sign_12 : decode cX0_sign 12 = .ok (.i2l, 1) := dk_133 (dk_at dksX0_sign_0 12 rfl rfl)
theorem dX0_sign_13 : decode cX0_sign 13 = .ok (.invokestatic 5, 3) := dk_184 0 5 (dk_at dksX0_sign_0 13 rfl rfl)
theorem dX0_sign_16 : decode cX0_sign 16 = .ok (.ifCond .eq 14, 3) := dk_153 0 14 (dk_at dksX0_sign_0 16 rfl rfl)
theorem dX0_sign_19 : decode cX0_sign 19 = .ok (.aload_n 0, 1) := dk_42 (dk_at dksX0_sign_0 19 rfl rfl)
theorem dX0_sign_20 : decode cX0_sign 20 = .ok (.getfield 94, 3) := dk_180 0 94 (dk_at dksX0_sign_0 20 rfl rfl)
theorem dX0_sign_23 : decode cX0_sign 23 = .ok (.iload_n 1, 1) := dk_27 (dk_at dksX0_sign_0 23 rfl rfl)
theorem dX0_sign_24 : decode cX0_sign 24 = .ok (.invokevirtual 414, 3) := dk_182 1 158 (dk_at dksX0_sign_1 0 rfl rfl)
theorem dX0_sign_27 : decode cX0_sign 27 = .ok (.goto 4, 3) := dk_167 0 4 (dk_at dksX0_sign_1 3 rfl rfl)
theorem dX0_sign_30 : decode cX0_sign 30 = .ok (.iconst (-1), 1) := dk_2 (dk_at dksX0_sign_1 6 rfl rfl)
theorem dX0_sign_31 : decode cX0_sign 31 = .ok (.ireturn, 1) := dk_172 (dk_at dksX0_sign_1 7 rfl rfl)
abbrev cX0_guess : ByteArray := prog_1_method_57_code
def yX0_guess : MethodName := ⟨RX0, "guess", "(II)I"⟩
def dkwX0_guess_2 : List UInt8 := [167, 255, 232, 20, 1, 165, 33, 20, 1, 132, 109, 184, 1, 167, 136, 172]
abbrev dktX0_guess_2 : List UInt8 := dkwX0_guess_2 ++ []
def dkwX0_guess_1 : List UInt8 := [21, 5, 16, 25, 163, 0, 23, 33, 42, 27, 182, 0, 154, 180, 1, 162, 21, 5, 47, 97, 66, 132, 5, 1]
abbrev dktX0_guess_1 : List UInt8 := dkwX0_guess_1 ++ dktX0_guess_2
def dkwX0_guess_0 : List UInt8 := [27, 184, 0, 150, 153, 0, 10, 28, 184, 1, 111, 154, 0, 5, 2, 172, 9, 66, 28, 4, 96, 54, 5]
abbrev dktX0_guess_0 : List UInt8 := dkwX0_guess_0 ++ dktX0_guess_1
theorem dksX0_guess_0 : cX0_guess.data.toList.drop 0 = dktX0_guess_0 := by decide +kernel
theorem dksX0_guess_1 : cX0_guess.data.toList.drop 23 = dktX0_guess_1 := dk_seg dksX0_guess_0 23 rfl rfl
theorem dksX0_guess_2 : cX0_guess.data.toList.drop 47 = dktX0_guess_2 := dk_seg dksX0_guess_1 24 rfl rfl
theorem dX0_guess_0 : decode cX0_guess 0 = .ok (.iload_n 1, 1) := dk_27 (dk_at dksX0_guess_0 0 rfl rfl)
theorem dX0_guess_1 : decode cX0_guess 1 = .ok (.invokestatic 150, 3) := dk_184 0 150 (dk_at dksX0_guess_0 1 rfl rfl)
theorem dX0_guess_4 : decode cX0_guess 4 = .ok (.ifCond .eq 10, 3) := dk_153 0 10 (dk_at dksX0_guess_0 4 rfl rfl)
theorem dX0_guess_7 : decode cX0_guess 7 = .ok (.iload_n 2, 1) := dk_28 (dk_at dksX0_guess_0 7 rfl rfl)
theorem dX0_guess_8 : decode cX0_guess 8 = .ok (.invokestatic 367, 3) := dk_184 1 111 (dk_at dksX0_guess_0 8 rfl rfl)
theorem dX0_guess_11 : decode cX0_guess 11 = .ok (.ifCond .ne 5, 3) := dk_154 0 5 (dk_at dksX0_guess_0 11 rfl rfl)
theorem dX0_guess_14 : decode cX0_guess 14 = .ok (.iconst (-1), 1) := dk_2 (dk_at dksX0_guess_0 14 rfl rfl)
theorem dX0_guess_15 : decode cX0_guess 15 = .ok (.ireturn, 1) := dk_172 (dk_at dksX0_guess_0 15 rfl rfl)
theorem dX0_guess_16 : decode cX0_guess 16 = .ok (.lconst 0, 1) := dk_9 (dk_at dksX0_guess_0 16 rfl rfl)
theorem dX0_guess_17 : decode cX0_guess 17 = .ok (.lstore_n 3, 1) := dk_66 (dk_at dksX0_guess_0 17 rfl rfl)
theorem dX0_guess_18 : decode cX0_guess 18 = .ok (.iload_n 2, 1) := dk_28 (dk_at dksX0_guess_0 18 rfl rfl)
theorem dX0_guess_19 : decode cX0_guess 19 = .ok (.iconst 1, 1) := dk_4 (dk_at dksX0_guess_0 19 rfl rfl)
theorem dX0_guess_20 : decode cX0_guess 20 = .ok (.iadd, 1) := dk_96 (dk_at dksX0_guess_0 20 rfl rfl)
theorem dX0_guess_21 : decode cX0_guess 21 = .ok (.istore 5, 2) := dk_54 5 (dk_at dksX0_guess_0 21 rfl rfl)
theorem dX0_guess_23 : decode cX0_guess 23 = .ok (.iload 5, 2) := dk_21 5 (dk_at dksX0_guess_1 0 rfl rfl)
theorem dX0_guess_25 : decode cX0_guess 25 = .ok (.bipush 25, 2) := dk_16 25 (dk_at dksX0_guess_1 2 rfl rfl)
theorem dX0_guess_27 : decode cX0_guess 27 = .ok (.if_icmp .gt 23, 3) := dk_163 0 23 (dk_at dksX0_guess_1 4 rfl rfl)
theorem dX0_guess_30 : decode cX0_guess 30 = .ok (.lload_n 3, 1) := dk_33 (dk_at dksX0_guess_1 7 rfl rfl)
theorem dX0_guess_31 : decode cX0_guess 31 = .ok (.aload_n 0, 1) := dk_42 (dk_at dksX0_guess_1 8 rfl rfl)
theorem dX0_guess_32 : decode cX0_guess 32 = .ok (.iload_n 1, 1) := dk_27 (dk_at dksX0_guess_1 9 rfl rfl)
theorem dX0_guess_33 : decode cX0_guess 33 = .ok (.invokevirtual 154, 3) := dk_182 0 154 (dk_at dksX0_guess_1 10 rfl rfl)
theorem dX0_guess_36 : decode cX0_guess 36 = .ok (.getfield 418, 3) := dk_180 1 162 (dk_at dksX0_guess_1 13 rfl rfl)
theorem dX0_guess_39 : decode cX0_guess 39 = .ok (.iload 5, 2) := dk_21 5 (dk_at dksX0_guess_1 16 rfl rfl)
theorem dX0_guess_41 : decode cX0_guess 41 = .ok (.laload, 1) := dk_47 (dk_at dksX0_guess_1 18 rfl rfl)
theorem dX0_guess_42 : decode cX0_guess 42 = .ok (.ladd, 1) := dk_97 (dk_at dksX0_guess_1 19 rfl rfl)
theorem dX0_guess_43 : decode cX0_guess 43 = .ok (.lstore_n 3, 1) := dk_66 (dk_at dksX0_guess_1 20 rfl rfl)
theorem dX0_guess_44 : decode cX0_guess 44 = .ok (.iinc 5 1, 3) := dk_132 5 1 (dk_at dksX0_guess_1 21 rfl rfl)
theorem dX0_guess_47 : decode cX0_guess 47 = .ok (.goto (-24), 3) := dk_167 255 232 (dk_at dksX0_guess_2 0 rfl rfl)
theorem dX0_guess_50 : decode cX0_guess 50 = .ok (.ldc2_w 421, 3) := dk_20 1 165 (dk_at dksX0_guess_2 3 rfl rfl)
theorem dX0_guess_53 : decode cX0_guess 53 = .ok (.lload_n 3, 1) := dk_33 (dk_at dksX0_guess_2 6 rfl rfl)
theorem dX0_guess_54 : decode cX0_guess 54 = .ok (.ldc2_w 388, 3) := dk_20 1 132 (dk_at dksX0_guess_2 7 rfl rfl)
theorem dX0_guess_57 : decode cX0_guess 57 = .ok (.ldiv, 1) := dk_109 (dk_at dksX0_guess_2 10 rfl rfl)
theorem dX0_guess_58 : decode cX0_guess 58 = .ok (.invokestatic 423, 3) := dk_184 1 167 (dk_at dksX0_guess_2 11 rfl rfl)
theorem dX0_guess_61 : decode cX0_guess 61 = .ok (.l2i, 1) := dk_136 (dk_at dksX0_guess_2 14 rfl rfl)
theorem dX0_guess_62 : decode cX0_guess 62 = .ok (.ireturn, 1) := dk_172 (dk_at dksX0_guess_2 15 rfl rfl)
abbrev cX0_salted : ByteArray := prog_1_method_58_code
def yX0_salted : MethodName := ⟨RX0, "salted", "(II)I"⟩
def dkwX0_salted_3 : List UInt8 := [4, 167, 0, 4, 3, 96, 54, 4, 132, 6, 1, 167, 255, 219, 132, 5, 1, 167, 255, 201, 21, 4, 172]
abbrev dktX0_salted_3 : List UInt8 := dkwX0_salted_3 ++ []
def dkwX0_salted_2 : List UInt8 := [17, 3, 232, 162, 0, 35, 21, 4, 45, 180, 1, 170, 21, 5, 46, 21, 6, 184, 0, 192, 28, 162, 0, 7]
abbrev dktX0_salted_2 : List UInt8 := dkwX0_salted_2 ++ dktX0_salted_3
def dkwX0_salted_1 : List UInt8 := [182, 0, 154, 78, 3, 54, 4, 3, 54, 5, 21, 5, 45, 180, 0, 167, 162, 0, 52, 3, 54, 6, 21, 6]
abbrev dktX0_salted_1 : List UInt8 := dkwX0_salted_1 ++ dktX0_salted_2
def dkwX0_salted_0 : List UInt8 := [27, 184, 0, 150, 153, 0, 15, 28, 133, 10, 20, 1, 132, 184, 0, 5, 154, 0, 5, 2, 172, 42, 27]
abbrev dktX0_salted_0 : List UInt8 := dkwX0_salted_0 ++ dktX0_salted_1
theorem dksX0_salted_0 : cX0_salted.data.toList.drop 0 = dktX0_salted_0 := by decide +kernel
theorem dksX0_salted_1 : cX0_salted.data.toList.drop 23 = dktX0_salted_1 := dk_seg dksX0_salted_0 23 rfl rfl
theorem dksX0_salted_2 : cX0_salted.data.toList.drop 47 = dktX0_salted_2 := dk_seg dksX0_salted_1 24 rfl rfl
theorem dksX0_salted_3 : cX0_salted.data.toList.drop 71 = dktX0_salted_3 := dk_seg dksX0_salted_2 24 rfl rfl
theorem dX0_salted_0 : decode cX0_salted 0 = .ok (.iload_n 1, 1) := dk_27 (dk_at dksX0_salted_0 0 rfl rfl)
theorem dX0_salted_1 : decode cX0_salted 1 = .ok (.invokestatic 150, 3) := dk_184 0 150 (dk_at dksX0_salted_0 1 rfl rfl)
theorem dX0_salted_4 : decode cX0_salted 4 = .ok (.ifCond .eq 15, 3) := dk_153 0 15 (dk_at dksX0_salted_0 4 rfl rfl)
theorem dX0_salted_7 : decode cX0_salted 7 = .ok (.iload_n 2, 1) := dk_28 (dk_at dksX0_salted_0 7 rfl rfl)
theorem dX0_salted_8 : decode cX0_salted 8 = .ok (.i2l, 1) := dk_133 (dk_at dksX0_salted_0 8 rfl rfl)
theorem dX0_salted_9 : decode cX0_salted 9 = .ok (.lconst 1, 1) := dk_10 (dk_at dksX0_salted_0 9 rfl rfl)
theorem dX0_salted_10 : decode cX0_salted 10 = .ok (.ldc2_w 388, 3) := dk_20 1 132 (dk_at dksX0_salted_0 10 rfl rfl)
theorem dX0_salted_13 : decode cX0_salted 13 = .ok (.invokestatic 5, 3) := dk_184 0 5 (dk_at dksX0_salted_0 13 rfl rfl)
theorem dX0_salted_16 : decode cX0_salted 16 = .ok (.ifCond .ne 5, 3) := dk_154 0 5 (dk_at dksX0_salted_0 16 rfl rfl)
theorem dX0_salted_19 : decode cX0_salted 19 = .ok (.iconst (-1), 1) := dk_2 (dk_at dksX0_salted_0 19 rfl rfl)
theorem dX0_salted_20 : decode cX0_salted 20 = .ok (.ireturn, 1) := dk_172 (dk_at dksX0_salted_0 20 rfl rfl)
theorem dX0_salted_21 : decode cX0_salted 21 = .ok (.aload_n 0, 1) := dk_42 (dk_at dksX0_salted_0 21 rfl rfl)
theorem dX0_salted_22 : decode cX0_salted 22 = .ok (.iload_n 1, 1) := dk_27 (dk_at dksX0_salted_0 22 rfl rfl)
theorem dX0_salted_23 : decode cX0_salted 23 = .ok (.invokevirtual 154, 3) := dk_182 0 154 (dk_at dksX0_salted_1 0 rfl rfl)
theorem dX0_salted_26 : decode cX0_salted 26 = .ok (.astore_n 3, 1) := dk_78 (dk_at dksX0_salted_1 3 rfl rfl)
theorem dX0_salted_27 : decode cX0_salted 27 = .ok (.iconst 0, 1) := dk_3 (dk_at dksX0_salted_1 4 rfl rfl)
theorem dX0_salted_28 : decode cX0_salted 28 = .ok (.istore 4, 2) := dk_54 4 (dk_at dksX0_salted_1 5 rfl rfl)
theorem dX0_salted_30 : decode cX0_salted 30 = .ok (.iconst 0, 1) := dk_3 (dk_at dksX0_salted_1 7 rfl rfl)
theorem dX0_salted_31 : decode cX0_salted 31 = .ok (.istore 5, 2) := dk_54 5 (dk_at dksX0_salted_1 8 rfl rfl)
theorem dX0_salted_33 : decode cX0_salted 33 = .ok (.iload 5, 2) := dk_21 5 (dk_at dksX0_salted_1 10 rfl rfl)
theorem dX0_salted_35 : decode cX0_salted 35 = .ok (.aload_n 3, 1) := dk_45 (dk_at dksX0_salted_1 12 rfl rfl)
theorem dX0_salted_36 : decode cX0_salted 36 = .ok (.getfield 167, 3) := dk_180 0 167 (dk_at dksX0_salted_1 13 rfl rfl)
theorem dX0_salted_39 : decode cX0_salted 39 = .ok (.if_icmp .ge 52, 3) := dk_162 0 52 (dk_at dksX0_salted_1 16 rfl rfl)
theorem dX0_salted_42 : decode cX0_salted 42 = .ok (.iconst 0, 1) := dk_3 (dk_at dksX0_salted_1 19 rfl rfl)
theorem dX0_salted_43 : decode cX0_salted 43 = .ok (.istore 6, 2) := dk_54 6 (dk_at dksX0_salted_1 20 rfl rfl)
theorem dX0_salted_45 : decode cX0_salted 45 = .ok (.iload 6, 2) := dk_21 6 (dk_at dksX0_salted_1 22 rfl rfl)
theorem dX0_salted_47 : decode cX0_salted 47 = .ok (.sipush 1000, 3) := dk_17 3 232 (dk_at dksX0_salted_2 0 rfl rfl)
theorem dX0_salted_50 : decode cX0_salted 50 = .ok (.if_icmp .ge 35, 3) := dk_162 0 35 (dk_at dksX0_salted_2 3 rfl rfl)
theorem dX0_salted_53 : decode cX0_salted 53 = .ok (.iload 4, 2) := dk_21 4 (dk_at dksX0_salted_2 6 rfl rfl)
theorem dX0_salted_55 : decode cX0_salted 55 = .ok (.aload_n 3, 1) := dk_45 (dk_at dksX0_salted_2 8 rfl rfl)
theorem dX0_salted_56 : decode cX0_salted 56 = .ok (.getfield 426, 3) := dk_180 1 170 (dk_at dksX0_salted_2 9 rfl rfl)
theorem dX0_salted_59 : decode cX0_salted 59 = .ok (.iload 5, 2) := dk_21 5 (dk_at dksX0_salted_2 12 rfl rfl)
theorem dX0_salted_61 : decode cX0_salted 61 = .ok (.iaload, 1) := dk_46 (dk_at dksX0_salted_2 14 rfl rfl)
theorem dX0_salted_62 : decode cX0_salted 62 = .ok (.iload 6, 2) := dk_21 6 (dk_at dksX0_salted_2 15 rfl rfl)
theorem dX0_salted_64 : decode cX0_salted 64 = .ok (.invokestatic 192, 3) := dk_184 0 192 (dk_at dksX0_salted_2 17 rfl rfl)
theorem dX0_salted_67 : decode cX0_salted 67 = .ok (.iload_n 2, 1) := dk_28 (dk_at dksX0_salted_2 20 rfl rfl)
theorem dX0_salted_68 : decode cX0_salted 68 = .ok (.if_icmp .ge 7, 3) := dk_162 0 7 (dk_at dksX0_salted_2 21 rfl rfl)
theorem dX0_salted_71 : decode cX0_salted 71 = .ok (.iconst 1, 1) := dk_4 (dk_at dksX0_salted_3 0 rfl rfl)
theorem dX0_salted_72 : decode cX0_salted 72 = .ok (.goto 4, 3) := dk_167 0 4 (dk_at dksX0_salted_3 1 rfl rfl)
theorem dX0_salted_75 : decode cX0_salted 75 = .ok (.iconst 0, 1) := dk_3 (dk_at dksX0_salted_3 4 rfl rfl)
theorem dX0_salted_76 : decode cX0_salted 76 = .ok (.iadd, 1) := dk_96 (dk_at dksX0_salted_3 5 rfl rfl)
theorem dX0_salted_77 : decode cX0_salted 77 = .ok (.istore 4, 2) := dk_54 4 (dk_at dksX0_salted_3 6 rfl rfl)
theorem dX0_salted_79 : decode cX0_salted 79 = .ok (.iinc 6 1, 3) := dk_132 6 1 (dk_at dksX0_salted_3 8 rfl rfl)
theorem dX0_salted_82 : decode cX0_salted 82 = .ok (.goto (-37), 3) := dk_167 255 219 (dk_at dksX0_salted_3 11 rfl rfl)
theorem dX0_salted_85 : decode cX0_salted 85 = .ok (.iinc 5 1, 3) := dk_132 5 1 (dk_at dksX0_salted_3 14 rfl rfl)
theorem dX0_salted_88 : decode cX0_salted 88 = .ok (.goto (-55), 3) := dk_167 255 201 (dk_at dksX0_salted_3 17 rfl rfl)
theorem dX0_salted_91 : decode cX0_salted 91 = .ok (.iload 4, 2) := dk_21 4 (dk_at dksX0_salted_3 20 rfl rfl)
theorem dX0_salted_93 : decode cX0_salted 93 = .ok (.ireturn, 1) := dk_172 (dk_at dksX0_salted_3 22 rfl rfl)
abbrev cX0_share : ByteArray := prog_1_method_60_code
def yX0_share : MethodName := ⟨RX0, "share", "(II)I"⟩
def dkwX0_share_7 : List UInt8 := [167, 255, 126, 42, 180, 0, 98, 28, 46, 172]
abbrev dktX0_share_7 : List UInt8 := dkwX0_share_7 ++ []
def dkwX0_share_6 : List UInt8 := [21, 5, 54, 4, 132, 5, 1, 167, 255, 154, 42, 180, 0, 98, 21, 4, 92, 46, 4, 96, 79, 132, 3, 1]
abbrev dktX0_share_6 : List UInt8 := dkwX0_share_6 ++ dktX0_share_7
def dkwX0_share_5 : List UInt8 := [46, 47, 42, 180, 0, 108, 21, 5, 50, 42, 180, 0, 98, 21, 5, 46, 46, 133, 105, 148, 158, 0, 7]
abbrev dktX0_share_5 : List UInt8 := dkwX0_share_5 ++ dktX0_share_6
def dkwX0_share_4 : List UInt8 := [50, 42, 180, 0, 98, 21, 4, 46, 46, 133, 105, 42, 180, 0, 103, 21, 4, 50, 42, 180, 0, 98, 21, 4]
abbrev dktX0_share_4 : List UInt8 := dkwX0_share_4 ++ dktX0_share_5
def dkwX0_share_3 : List UInt8 := [159, 0, 71, 42, 180, 0, 103, 21, 5, 50, 42, 180, 0, 98, 21, 5, 46, 47, 42, 180, 0, 108, 21, 4]
abbrev dktX0_share_3 : List UInt8 := dkwX0_share_3 ++ dktX0_share_4
def dkwX0_share_2 : List UInt8 := [21, 5, 7, 162, 0, 102, 42, 180, 0, 98, 21, 5, 46, 16, 24, 160, 0, 6, 167, 0, 81, 21, 4, 2]
abbrev dktX0_share_2 : List UInt8 := dkwX0_share_2 ++ dktX0_share_3
def dkwX0_share_1 : List UInt8 := [182, 1, 175, 42, 180, 0, 98, 3, 184, 1, 178, 3, 62, 29, 27, 162, 0, 131, 2, 54, 4, 3, 54, 5]
abbrev dktX0_share_1 : List UInt8 := dkwX0_share_1 ++ dktX0_share_2
def dkwX0_share_0 : List UInt8 := [27, 133, 9, 20, 1, 173, 184, 0, 5, 153, 0, 10, 28, 184, 0, 150, 154, 0, 5, 2, 172, 42]
abbrev dktX0_share_0 : List UInt8 := dkwX0_share_0 ++ dktX0_share_1
theorem dksX0_share_0 : cX0_share.data.toList.drop 0 = dktX0_share_0 := by decide +kernel
theorem dksX0_share_1 : cX0_share.data.toList.drop 22 = dktX0_share_1 := dk_seg dksX0_share_0 22 rfl rfl
theorem dksX0_share_2 : cX0_share.data.toList.drop 46 = dktX0_share_2 := dk_seg dksX0_share_1 24 rfl rfl
theorem dksX0_share_3 : cX0_share.data.toList.drop 70 = dktX0_share_3 := dk_seg dksX0_share_2 24 rfl rfl
theorem dksX0_share_4 : cX0_share.data.toList.drop 94 = dktX0_share_4 := dk_seg dksX0_share_3 24 rfl rfl
theorem dksX0_share_5 : cX0_share.data.toList.drop 118 = dktX0_share_5 := dk_seg dksX0_share_4 24 rfl rfl
theorem dksX0_share_6 : cX0_share.data.toList.drop 141 = dktX0_share_6 := dk_seg dksX0_share_5 23 rfl rfl
theorem dksX0_share_7 : cX0_share.data.toList.drop 165 = dktX0_share_7 := dk_seg dksX0_share_6 24 rfl rfl
theorem dX0_share_0 : decode cX0_share 0 = .ok (.iload_n 1, 1) := dk_27 (dk_at dksX0_share_0 0 rfl rfl)
theorem dX0_share_1 : decode cX0_share 1 = .ok (.i2l, 1) := dk_133 (dk_at dksX0_share_0 1 rfl rfl)
theorem dX0_share_2 : decode cX0_share 2 = .ok (.lconst 0, 1) := dk_9 (dk_at dksX0_share_0 2 rfl rfl)
theorem dX0_share_3 : decode cX0_share 3 = .ok (.ldc2_w 429, 3) := dk_20 1 173 (dk_at dksX0_share_0 3 rfl rfl)
theorem dX0_share_6 : decode cX0_share 6 = .ok (.invokestatic 5, 3) := dk_184 0 5 (dk_at dksX0_share_0 6 rfl rfl)
theorem dX0_share_9 : decode cX0_share 9 = .ok (.ifCond .eq 10, 3) := dk_153 0 10 (dk_at dksX0_share_0 9 rfl rfl)
theorem dX0_share_12 : decode cX0_share 12 = .ok (.iload_n 2, 1) := dk_28 (dk_at dksX0_share_0 12 rfl rfl)
theorem dX0_share_13 : decode cX0_share 13 = .ok (.invokestatic 150, 3) := dk_184 0 150 (dk_at dksX0_share_0 13 rfl rfl)
theorem dX0_share_16 : decode cX0_share 16 = .ok (.ifCond .ne 5, 3) := dk_154 0 5 (dk_at dksX0_share_0 16 rfl rfl)
theorem dX0_share_19 : decode cX0_share 19 = .ok (.iconst (-1), 1) := dk_2 (dk_at dksX0_share_0 19 rfl rfl)
theorem dX0_share_20 : decode cX0_share 20 = .ok (.ireturn, 1) := dk_172 (dk_at dksX0_share_0 20 rfl rfl)
theorem dX0_share_21 : decode cX0_share 21 = .ok (.aload_n 0, 1) := dk_42 (dk_at dksX0_share_0 21 rfl rfl)
theorem dX0_share_22 : decode cX0_share 22 = .ok (.invokevirtual 431, 3) := dk_182 1 175 (dk_at dksX0_share_1 0 rfl rfl)
theorem dX0_share_25 : decode cX0_share 25 = .ok (.aload_n 0, 1) := dk_42 (dk_at dksX0_share_1 3 rfl rfl)
theorem dX0_share_26 : decode cX0_share 26 = .ok (.getfield 98, 3) := dk_180 0 98 (dk_at dksX0_share_1 4 rfl rfl)
theorem dX0_share_29 : decode cX0_share 29 = .ok (.iconst 0, 1) := dk_3 (dk_at dksX0_share_1 7 rfl rfl)
theorem dX0_share_30 : decode cX0_share 30 = .ok (.invokestatic 434, 3) := dk_184 1 178 (dk_at dksX0_share_1 8 rfl rfl)
theorem dX0_share_33 : decode cX0_share 33 = .ok (.iconst 0, 1) := dk_3 (dk_at dksX0_share_1 11 rfl rfl)
theorem dX0_share_34 : decode cX0_share 34 = .ok (.istore_n 3, 1) := dk_62 (dk_at dksX0_share_1 12 rfl rfl)
theorem dX0_share_35 : decode cX0_share 35 = .ok (.iload_n 3, 1) := dk_29 (dk_at dksX0_share_1 13 rfl rfl)
theorem dX0_share_36 : decode cX0_share 36 = .ok (.iload_n 1, 1) := dk_27 (dk_at dksX0_share_1 14 rfl rfl)
theorem dX0_share_37 : decode cX0_share 37 = .ok (.if_icmp .ge 131, 3) := dk_162 0 131 (dk_at dksX0_share_1 15 rfl rfl)
theorem dX0_share_40 : decode cX0_share 40 = .ok (.iconst (-1), 1) := dk_2 (dk_at dksX0_share_1 18 rfl rfl)
theorem dX0_share_41 : decode cX0_share 41 = .ok (.istore 4, 2) := dk_54 4 (dk_at dksX0_share_1 19 rfl rfl)
theorem dX0_share_43 : decode cX0_share 43 = .ok (.iconst 0, 1) := dk_3 (dk_at dksX0_share_1 21 rfl rfl)
theorem dX0_share_44 : decode cX0_share 44 = .ok (.istore 5, 2) := dk_54 5 (dk_at dksX0_share_1 22 rfl rfl)
theorem dX0_share_46 : decode cX0_share 46 = .ok (.iload 5, 2) := dk_21 5 (dk_at dksX0_share_2 0 rfl rfl)
theorem dX0_share_48 : decode cX0_share 48 = .ok (.iconst 4, 1) := dk_7 (dk_at dksX0_share_2 2 rfl rfl)
theorem dX0_share_49 : decode cX0_share 49 = .ok (.if_icmp .ge 102, 3) := dk_162 0 102 (dk_at dksX0_share_2 3 rfl rfl)
theorem dX0_share_52 : decode cX0_share 52 = .ok (.aload_n 0, 1) := dk_42 (dk_at dksX0_share_2 6 rfl rfl)
theorem dX0_share_53 : decode cX0_share 53 = .ok (.getfield 98, 3) := dk_180 0 98 (dk_at dksX0_share_2 7 rfl rfl)
theorem dX0_share_56 : decode cX0_share 56 = .ok (.iload 5, 2) := dk_21 5 (dk_at dksX0_share_2 10 rfl rfl)
theorem dX0_share_58 : decode cX0_share 58 = .ok (.iaload, 1) := dk_46 (dk_at dksX0_share_2 12 rfl rfl)
theorem dX0_share_59 : decode cX0_share 59 = .ok (.bipush 24, 2) := dk_16 24 (dk_at dksX0_share_2 13 rfl rfl)
theorem dX0_share_61 : decode cX0_share 61 = .ok (.if_icmp .ne 6, 3) := dk_160 0 6 (dk_at dksX0_share_2 15 rfl rfl)
theorem dX0_share_64 : decode cX0_share 64 = .ok (.goto 81, 3) := dk_167 0 81 (dk_at dksX0_share_2 18 rfl rfl)
theorem dX0_share_67 : decode cX0_share 67 = .ok (.iload 4, 2) := dk_21 4 (dk_at dksX0_share_2 21 rfl rfl)
theorem dX0_share_69 : decode cX0_share 69 = .ok (.iconst (-1), 1) := dk_2 (dk_at dksX0_share_2 23 rfl rfl)
theorem dX0_share_70 : decode cX0_share 70 = .ok (.if_icmp .eq 71, 3) := dk_159 0 71 (dk_at dksX0_share_3 0 rfl rfl)
theorem dX0_share_73 : decode cX0_share 73 = .ok (.aload_n 0, 1) := dk_42 (dk_at dksX0_share_3 3 rfl rfl)
theorem dX0_share_74 : decode cX0_share 74 = .ok (.getfield 103, 3) := dk_180 0 103 (dk_at dksX0_share_3 4 rfl rfl)
theorem dX0_share_77 : decode cX0_share 77 = .ok (.iload 5, 2) := dk_21 5 (dk_at dksX0_share_3 7 rfl rfl)
theorem dX0_share_79 : decode cX0_share 79 = .ok (.aaload, 1) := dk_50 (dk_at dksX0_share_3 9 rfl rfl)
theorem dX0_share_80 : decode cX0_share 80 = .ok (.aload_n 0, 1) := dk_42 (dk_at dksX0_share_3 10 rfl rfl)
theorem dX0_share_81 : decode cX0_share 81 = .ok (.getfield 98, 3) := dk_180 0 98 (dk_at dksX0_share_3 11 rfl rfl)
theorem dX0_share_84 : decode cX0_share 84 = .ok (.iload 5, 2) := dk_21 5 (dk_at dksX0_share_3 14 rfl rfl)
theorem dX0_share_86 : decode cX0_share 86 = .ok (.iaload, 1) := dk_46 (dk_at dksX0_share_3 16 rfl rfl)
theorem dX0_share_87 : decode cX0_share 87 = .ok (.laload, 1) := dk_47 (dk_at dksX0_share_3 17 rfl rfl)
theorem dX0_share_88 : decode cX0_share 88 = .ok (.aload_n 0, 1) := dk_42 (dk_at dksX0_share_3 18 rfl rfl)
theorem dX0_share_89 : decode cX0_share 89 = .ok (.getfield 108, 3) := dk_180 0 108 (dk_at dksX0_share_3 19 rfl rfl)
theorem dX0_share_92 : decode cX0_share 92 = .ok (.iload 4, 2) := dk_21 4 (dk_at dksX0_share_3 22 rfl rfl)
theorem dX0_share_94 : decode cX0_share 94 = .ok (.aaload, 1) := dk_50 (dk_at dksX0_share_4 0 rfl rfl)
theorem dX0_share_95 : decode cX0_share 95 = .ok (.aload_n 0, 1) := dk_42 (dk_at dksX0_share_4 1 rfl rfl)
theorem dX0_share_96 : decode cX0_share 96 = .ok (.getfield 98, 3) := dk_180 0 98 (dk_at dksX0_share_4 2 rfl rfl)
theorem dX0_share_99 : decode cX0_share 99 = .ok (.iload 4, 2) := dk_21 4 (dk_at dksX0_share_4 5 rfl rfl)
theorem dX0_share_101 : decode cX0_share 101 = .ok (.iaload, 1) := dk_46 (dk_at dksX0_share_4 7 rfl rfl)
theorem dX0_share_102 : decode cX0_share 102 = .ok (.iaload, 1) := dk_46 (dk_at dksX0_share_4 8 rfl rfl)
theorem dX0_share_103 : decode cX0_share 103 = .ok (.i2l, 1) := dk_133 (dk_at dksX0_share_4 9 rfl rfl)
theorem dX0_share_104 : decode cX0_share 104 = .ok (.lmul, 1) := dk_105 (dk_at dksX0_share_4 10 rfl rfl)
theorem dX0_share_105 : decode cX0_share 105 = .ok (.aload_n 0, 1) := dk_42 (dk_at dksX0_share_4 11 rfl rfl)
theorem dX0_share_106 : decode cX0_share 106 = .ok (.getfield 103, 3) := dk_180 0 103 (dk_at dksX0_share_4 12 rfl rfl)
theorem dX0_share_109 : decode cX0_share 109 = .ok (.iload 4, 2) := dk_21 4 (dk_at dksX0_share_4 15 rfl rfl)
theorem dX0_share_111 : decode cX0_share 111 = .ok (.aaload, 1) := dk_50 (dk_at dksX0_share_4 17 rfl rfl)
theorem dX0_share_112 : decode cX0_share 112 = .ok (.aload_n 0, 1) := dk_42 (dk_at dksX0_share_4 18 rfl rfl)
theorem dX0_share_113 : decode cX0_share 113 = .ok (.getfield 98, 3) := dk_180 0 98 (dk_at dksX0_share_4 19 rfl rfl)
theorem dX0_share_116 : decode cX0_share 116 = .ok (.iload 4, 2) := dk_21 4 (dk_at dksX0_share_4 22 rfl rfl)
theorem dX0_share_118 : decode cX0_share 118 = .ok (.iaload, 1) := dk_46 (dk_at dksX0_share_5 0 rfl rfl)
theorem dX0_share_119 : decode cX0_share 119 = .ok (.laload, 1) := dk_47 (dk_at dksX0_share_5 1 rfl rfl)
theorem dX0_share_120 : decode cX0_share 120 = .ok (.aload_n 0, 1) := dk_42 (dk_at dksX0_share_5 2 rfl rfl)
theorem dX0_share_121 : decode cX0_share 121 = .ok (.getfield 108, 3) := dk_180 0 108 (dk_at dksX0_share_5 3 rfl rfl)
theorem dX0_share_124 : decode cX0_share 124 = .ok (.iload 5, 2) := dk_21 5 (dk_at dksX0_share_5 6 rfl rfl)
theorem dX0_share_126 : decode cX0_share 126 = .ok (.aaload, 1) := dk_50 (dk_at dksX0_share_5 8 rfl rfl)
theorem dX0_share_127 : decode cX0_share 127 = .ok (.aload_n 0, 1) := dk_42 (dk_at dksX0_share_5 9 rfl rfl)
theorem dX0_share_128 : decode cX0_share 128 = .ok (.getfield 98, 3) := dk_180 0 98 (dk_at dksX0_share_5 10 rfl rfl)
theorem dX0_share_131 : decode cX0_share 131 = .ok (.iload 5, 2) := dk_21 5 (dk_at dksX0_share_5 13 rfl rfl)
theorem dX0_share_133 : decode cX0_share 133 = .ok (.iaload, 1) := dk_46 (dk_at dksX0_share_5 15 rfl rfl)
theorem dX0_share_134 : decode cX0_share 134 = .ok (.iaload, 1) := dk_46 (dk_at dksX0_share_5 16 rfl rfl)
theorem dX0_share_135 : decode cX0_share 135 = .ok (.i2l, 1) := dk_133 (dk_at dksX0_share_5 17 rfl rfl)
theorem dX0_share_136 : decode cX0_share 136 = .ok (.lmul, 1) := dk_105 (dk_at dksX0_share_5 18 rfl rfl)
theorem dX0_share_137 : decode cX0_share 137 = .ok (.lcmp, 1) := dk_148 (dk_at dksX0_share_5 19 rfl rfl)
theorem dX0_share_138 : decode cX0_share 138 = .ok (.ifCond .le 7, 3) := dk_158 0 7 (dk_at dksX0_share_5 20 rfl rfl)
theorem dX0_share_141 : decode cX0_share 141 = .ok (.iload 5, 2) := dk_21 5 (dk_at dksX0_share_6 0 rfl rfl)
theorem dX0_share_143 : decode cX0_share 143 = .ok (.istore 4, 2) := dk_54 4 (dk_at dksX0_share_6 2 rfl rfl)
theorem dX0_share_145 : decode cX0_share 145 = .ok (.iinc 5 1, 3) := dk_132 5 1 (dk_at dksX0_share_6 4 rfl rfl)
theorem dX0_share_148 : decode cX0_share 148 = .ok (.goto (-102), 3) := dk_167 255 154 (dk_at dksX0_share_6 7 rfl rfl)
theorem dX0_share_151 : decode cX0_share 151 = .ok (.aload_n 0, 1) := dk_42 (dk_at dksX0_share_6 10 rfl rfl)
theorem dX0_share_152 : decode cX0_share 152 = .ok (.getfield 98, 3) := dk_180 0 98 (dk_at dksX0_share_6 11 rfl rfl)
theorem dX0_share_155 : decode cX0_share 155 = .ok (.iload 4, 2) := dk_21 4 (dk_at dksX0_share_6 14 rfl rfl)
theorem dX0_share_157 : decode cX0_share 157 = .ok (.dup2, 1) := dk_92 (dk_at dksX0_share_6 16 rfl rfl)
theorem dX0_share_158 : decode cX0_share 158 = .ok (.iaload, 1) := dk_46 (dk_at dksX0_share_6 17 rfl rfl)
theorem dX0_share_159 : decode cX0_share 159 = .ok (.iconst 1, 1) := dk_4 (dk_at dksX0_share_6 18 rfl rfl)
theorem dX0_share_160 : decode cX0_share 160 = .ok (.iadd, 1) := dk_96 (dk_at dksX0_share_6 19 rfl rfl)
theorem dX0_share_161 : decode cX0_share 161 = .ok (.iastore, 1) := dk_79 (dk_at dksX0_share_6 20 rfl rfl)
theorem dX0_share_162 : decode cX0_share 162 = .ok (.iinc 3 1, 3) := dk_132 3 1 (dk_at dksX0_share_6 21 rfl rfl)
theorem dX0_share_165 : decode cX0_share 165 = .ok (.goto (-130), 3) := dk_167 255 126 (dk_at dksX0_share_7 0 rfl rfl)
theorem dX0_share_168 : decode cX0_share 168 = .ok (.aload_n 0, 1) := dk_42 (dk_at dksX0_share_7 3 rfl rfl)
theorem dX0_share_169 : decode cX0_share 169 = .ok (.getfield 98, 3) := dk_180 0 98 (dk_at dksX0_share_7 4 rfl rfl)
theorem dX0_share_172 : decode cX0_share 172 = .ok (.iload_n 2, 1) := dk_28 (dk_at dksX0_share_7 7 rfl rfl)
theorem dX0_share_173 : decode cX0_share 173 = .ok (.iaload, 1) := dk_46 (dk_at dksX0_share_7 8 rfl rfl)
theorem dX0_share_174 : decode cX0_share 174 = .ok (.ireturn, 1) := dk_172 (dk_at dksX0_share_7 9 rfl rfl)
abbrev cX0_layFalls : ByteArray := prog_1_method_59_code
def yX0_layFalls : MethodName := ⟨RX0, "layFalls", "()V"⟩
def dkwX0_layFalls_3 : List UInt8 := [180, 0, 108, 27, 50, 28, 21, 4, 29, 100, 79, 132, 2, 1, 167, 255, 187, 132, 1, 1, 167, 255, 169, 177]
abbrev dktX0_layFalls_3 : List UInt8 := dkwX0_layFalls_3 ++ []
def dkwX0_layFalls_2 : List UInt8 := [180, 0, 103, 27, 50, 28, 42, 180, 0, 86, 29, 46, 42, 180, 0, 86, 21, 4, 46, 100, 133, 80, 42]
abbrev dktX0_layFalls_2 : List UInt8 := dkwX0_layFalls_2 ++ dktX0_layFalls_3
def dkwX0_layFalls_1 : List UInt8 := [42, 28, 182, 1, 129, 46, 62, 42, 180, 0, 89, 42, 28, 182, 1, 129, 4, 96, 46, 54, 4, 42]
abbrev dktX0_layFalls_1 : List UInt8 := dkwX0_layFalls_1 ++ dktX0_layFalls_2
def dkwX0_layFalls_0 : List UInt8 := [3, 60, 27, 7, 162, 0, 88, 42, 27, 182, 1, 126, 3, 61, 28, 16, 24, 162, 0, 69, 42, 180, 0, 89]
abbrev dktX0_layFalls_0 : List UInt8 := dkwX0_layFalls_0 ++ dktX0_layFalls_1
theorem dksX0_layFalls_0 : cX0_layFalls.data.toList.drop 0 = dktX0_layFalls_0 := by decide +kernel
theorem dksX0_layFalls_1 : cX0_layFalls.data.toList.drop 24 = dktX0_layFalls_1 := dk_seg dksX0_layFalls_0 24 rfl rfl
theorem dksX0_layFalls_2 : cX0_layFalls.data.toList.drop 46 = dktX0_layFalls_2 := dk_seg dksX0_layFalls_1 22 rfl rfl
theorem dksX0_layFalls_3 : cX0_layFalls.data.toList.drop 69 = dktX0_layFalls_3 := dk_seg dksX0_layFalls_2 23 rfl rfl
theorem dX0_layFalls_0 : decode cX0_layFalls 0 = .ok (.iconst 0, 1) := dk_3 (dk_at dksX0_layFalls_0 0 rfl rfl)
theorem dX0_layFalls_1 : decode cX0_layFalls 1 = .ok (.istore_n 1, 1) := dk_60 (dk_at dksX0_layFalls_0 1 rfl rfl)
theorem dX0_layFalls_2 : decode cX0_layFalls 2 = .ok (.iload_n 1, 1) := dk_27 (dk_at dksX0_layFalls_0 2 rfl rfl)
theorem dX0_layFalls_3 : decode cX0_layFalls 3 = .ok (.iconst 4, 1) := dk_7 (dk_at dksX0_layFalls_0 3 rfl rfl)
theorem dX0_layFalls_4 : decode cX0_layFalls 4 = .ok (.if_icmp .ge 88, 3) := dk_162 0 88 (dk_at dksX0_layFalls_0 4 rfl rfl)
theorem dX0_layFalls_7 : decode cX0_layFalls 7 = .ok (.aload_n 0, 1) := dk_42 (dk_at dksX0_layFalls_0 7 rfl rfl)
theorem dX0_layFalls_8 : decode cX0_layFalls 8 = .ok (.iload_n 1, 1) := dk_27 (dk_at dksX0_layFalls_0 8 rfl rfl)
theorem dX0_layFalls_9 : decode cX0_layFalls 9 = .ok (.invokevirtual 382, 3) := dk_182 1 126 (dk_at dksX0_layFalls_0 9 rfl rfl)
theorem dX0_layFalls_12 : decode cX0_layFalls 12 = .ok (.iconst 0, 1) := dk_3 (dk_at dksX0_layFalls_0 12 rfl rfl)
theorem dX0_layFalls_13 : decode cX0_layFalls 13 = .ok (.istore_n 2, 1) := dk_61 (dk_at dksX0_layFalls_0 13 rfl rfl)
theorem dX0_layFalls_14 : decode cX0_layFalls 14 = .ok (.iload_n 2, 1) := dk_28 (dk_at dksX0_layFalls_0 14 rfl rfl)
theorem dX0_layFalls_15 : decode cX0_layFalls 15 = .ok (.bipush 24, 2) := dk_16 24 (dk_at dksX0_layFalls_0 15 rfl rfl)
theorem dX0_layFalls_17 : decode cX0_layFalls 17 = .ok (.if_icmp .ge 69, 3) := dk_162 0 69 (dk_at dksX0_layFalls_0 17 rfl rfl)
theorem dX0_layFalls_20 : decode cX0_layFalls 20 = .ok (.aload_n 0, 1) := dk_42 (dk_at dksX0_layFalls_0 20 rfl rfl)
theorem dX0_layFalls_21 : decode cX0_layFalls 21 = .ok (.getfield 89, 3) := dk_180 0 89 (dk_at dksX0_layFalls_0 21 rfl rfl)
theorem dX0_layFalls_24 : decode cX0_layFalls 24 = .ok (.aload_n 0, 1) := dk_42 (dk_at dksX0_layFalls_1 0 rfl rfl)
theorem dX0_layFalls_25 : decode cX0_layFalls 25 = .ok (.iload_n 2, 1) := dk_28 (dk_at dksX0_layFalls_1 1 rfl rfl)
theorem dX0_layFalls_26 : decode cX0_layFalls 26 = .ok (.invokevirtual 385, 3) := dk_182 1 129 (dk_at dksX0_layFalls_1 2 rfl rfl)
theorem dX0_layFalls_29 : decode cX0_layFalls 29 = .ok (.iaload, 1) := dk_46 (dk_at dksX0_layFalls_1 5 rfl rfl)
theorem dX0_layFalls_30 : decode cX0_layFalls 30 = .ok (.istore_n 3, 1) := dk_62 (dk_at dksX0_layFalls_1 6 rfl rfl)
theorem dX0_layFalls_31 : decode cX0_layFalls 31 = .ok (.aload_n 0, 1) := dk_42 (dk_at dksX0_layFalls_1 7 rfl rfl)
theorem dX0_layFalls_32 : decode cX0_layFalls 32 = .ok (.getfield 89, 3) := dk_180 0 89 (dk_at dksX0_layFalls_1 8 rfl rfl)
theorem dX0_layFalls_35 : decode cX0_layFalls 35 = .ok (.aload_n 0, 1) := dk_42 (dk_at dksX0_layFalls_1 11 rfl rfl)
theorem dX0_layFalls_36 : decode cX0_layFalls 36 = .ok (.iload_n 2, 1) := dk_28 (dk_at dksX0_layFalls_1 12 rfl rfl)
theorem dX0_layFalls_37 : decode cX0_layFalls 37 = .ok (.invokevirtual 385, 3) := dk_182 1 129 (dk_at dksX0_layFalls_1 13 rfl rfl)
theorem dX0_layFalls_40 : decode cX0_layFalls 40 = .ok (.iconst 1, 1) := dk_4 (dk_at dksX0_layFalls_1 16 rfl rfl)
theorem dX0_layFalls_41 : decode cX0_layFalls 41 = .ok (.iadd, 1) := dk_96 (dk_at dksX0_layFalls_1 17 rfl rfl)
theorem dX0_layFalls_42 : decode cX0_layFalls 42 = .ok (.iaload, 1) := dk_46 (dk_at dksX0_layFalls_1 18 rfl rfl)
theorem dX0_layFalls_43 : decode cX0_layFalls 43 = .ok (.istore 4, 2) := dk_54 4 (dk_at dksX0_layFalls_1 19 rfl rfl)
theorem dX0_layFalls_45 : decode cX0_layFalls 45 = .ok (.aload_n 0, 1) := dk_42 (dk_at dksX0_layFalls_1 21 rfl rfl)
theorem dX0_layFalls_46 : decode cX0_layFalls 46 = .ok (.getfield 103, 3) := dk_180 0 103 (dk_at dksX0_layFalls_2 0 rfl rfl)
theorem dX0_layFalls_49 : decode cX0_layFalls 49 = .ok (.iload_n 1, 1) := dk_27 (dk_at dksX0_layFalls_2 3 rfl rfl)
theorem dX0_layFalls_50 : decode cX0_layFalls 50 = .ok (.aaload, 1) := dk_50 (dk_at dksX0_layFalls_2 4 rfl rfl)
theorem dX0_layFalls_51 : decode cX0_layFalls 51 = .ok (.iload_n 2, 1) := dk_28 (dk_at dksX0_layFalls_2 5 rfl rfl)
theorem dX0_layFalls_52 : decode cX0_layFalls 52 = .ok (.aload_n 0, 1) := dk_42 (dk_at dksX0_layFalls_2 6 rfl rfl)
theorem dX0_layFalls_53 : decode cX0_layFalls 53 = .ok (.getfield 86, 3) := dk_180 0 86 (dk_at dksX0_layFalls_2 7 rfl rfl)
theorem dX0_layFalls_56 : decode cX0_layFalls 56 = .ok (.iload_n 3, 1) := dk_29 (dk_at dksX0_layFalls_2 10 rfl rfl)
theorem dX0_layFalls_57 : decode cX0_layFalls 57 = .ok (.iaload, 1) := dk_46 (dk_at dksX0_layFalls_2 11 rfl rfl)
theorem dX0_layFalls_58 : decode cX0_layFalls 58 = .ok (.aload_n 0, 1) := dk_42 (dk_at dksX0_layFalls_2 12 rfl rfl)
theorem dX0_layFalls_59 : decode cX0_layFalls 59 = .ok (.getfield 86, 3) := dk_180 0 86 (dk_at dksX0_layFalls_2 13 rfl rfl)
theorem dX0_layFalls_62 : decode cX0_layFalls 62 = .ok (.iload 4, 2) := dk_21 4 (dk_at dksX0_layFalls_2 16 rfl rfl)
theorem dX0_layFalls_64 : decode cX0_layFalls 64 = .ok (.iaload, 1) := dk_46 (dk_at dksX0_layFalls_2 18 rfl rfl)
theorem dX0_layFalls_65 : decode cX0_layFalls 65 = .ok (.isub, 1) := dk_100 (dk_at dksX0_layFalls_2 19 rfl rfl)
theorem dX0_layFalls_66 : decode cX0_layFalls 66 = .ok (.i2l, 1) := dk_133 (dk_at dksX0_layFalls_2 20 rfl rfl)
theorem dX0_layFalls_67 : decode cX0_layFalls 67 = .ok (.lastore, 1) := dk_80 (dk_at dksX0_layFalls_2 21 rfl rfl)
theorem dX0_layFalls_68 : decode cX0_layFalls 68 = .ok (.aload_n 0, 1) := dk_42 (dk_at dksX0_layFalls_2 22 rfl rfl)
theorem dX0_layFalls_69 : decode cX0_layFalls 69 = .ok (.getfield 108, 3) := dk_180 0 108 (dk_at dksX0_layFalls_3 0 rfl rfl)
theorem dX0_layFalls_72 : decode cX0_layFalls 72 = .ok (.iload_n 1, 1) := dk_27 (dk_at dksX0_layFalls_3 3 rfl rfl)
theorem dX0_layFalls_73 : decode cX0_layFalls 73 = .ok (.aaload, 1) := dk_50 (dk_at dksX0_layFalls_3 4 rfl rfl)
theorem dX0_layFalls_74 : decode cX0_layFalls 74 = .ok (.iload_n 2, 1) := dk_28 (dk_at dksX0_layFalls_3 5 rfl rfl)
theorem dX0_layFalls_75 : decode cX0_layFalls 75 = .ok (.iload 4, 2) := dk_21 4 (dk_at dksX0_layFalls_3 6 rfl rfl)
theorem dX0_layFalls_77 : decode cX0_layFalls 77 = .ok (.iload_n 3, 1) := dk_29 (dk_at dksX0_layFalls_3 8 rfl rfl)
theorem dX0_layFalls_78 : decode cX0_layFalls 78 = .ok (.isub, 1) := dk_100 (dk_at dksX0_layFalls_3 9 rfl rfl)
theorem dX0_layFalls_79 : decode cX0_layFalls 79 = .ok (.iastore, 1) := dk_79 (dk_at dksX0_layFalls_3 10 rfl rfl)
theorem dX0_layFalls_80 : decode cX0_layFalls 80 = .ok (.iinc 2 1, 3) := dk_132 2 1 (dk_at dksX0_layFalls_3 11 rfl rfl)
theorem dX0_layFalls_83 : decode cX0_layFalls 83 = .ok (.goto (-69), 3) := dk_167 255 187 (dk_at dksX0_layFalls_3 14 rfl rfl)
theorem dX0_layFalls_86 : decode cX0_layFalls 86 = .ok (.iinc 1 1, 3) := dk_132 1 1 (dk_at dksX0_layFalls_3 17 rfl rfl)
theorem dX0_layFalls_89 : decode cX0_layFalls 89 = .ok (.goto (-87), 3) := dk_167 255 169 (dk_at dksX0_layFalls_3 20 rfl rfl)
theorem dX0_layFalls_92 : decode cX0_layFalls 92 = .ok (.return_, 1) := dk_177 (dk_at dksX0_layFalls_3 23 rfl rfl)
abbrev cX0_best : ByteArray := prog_1_method_62_code
def yX0_best : MethodName := ⟨RX0, "best", "(II)I"⟩
def dkwX0_best_5 : List UInt8 := [21, 4, 172]
abbrev dktX0_best_5 : List UInt8 := dkwX0_best_5 ++ []
def dkwX0_best_4 : List UInt8 := [50, 29, 46, 159, 0, 9, 132, 4, 1, 167, 255, 215, 29, 21, 4, 100, 62, 132, 5, 1, 167, 255, 195]
abbrev dktX0_best_4 : List UInt8 := dkwX0_best_4 ++ dktX0_best_5
def dkwX0_best_3 : List UInt8 := [182, 1, 114, 42, 180, 0, 111, 21, 5, 4, 96, 50, 29, 21, 4, 100, 46, 96, 42, 180, 0, 111, 21, 5]
abbrev dktX0_best_3 : List UInt8 := dkwX0_best_3 ++ dktX0_best_4
def dkwX0_best_2 : List UInt8 := [54, 4, 3, 54, 5, 21, 5, 28, 163, 0, 61, 3, 54, 4, 42, 21, 5, 182, 0, 154, 21, 4]
abbrev dktX0_best_2 : List UInt8 := dkwX0_best_2 ++ dktX0_best_3
def dkwX0_best_1 : List UInt8 := [2, 172, 42, 182, 1, 185, 28, 2, 160, 0, 12, 42, 180, 0, 111, 3, 50, 27, 46, 172, 27, 62, 3]
abbrev dktX0_best_1 : List UInt8 := dkwX0_best_1 ++ dktX0_best_2
def dkwX0_best_0 : List UInt8 := [27, 133, 9, 20, 1, 173, 184, 0, 5, 153, 0, 15, 28, 2, 159, 0, 12, 28, 184, 0, 150, 154, 0, 5]
abbrev dktX0_best_0 : List UInt8 := dkwX0_best_0 ++ dktX0_best_1
theorem dksX0_best_0 : cX0_best.data.toList.drop 0 = dktX0_best_0 := by decide +kernel
theorem dksX0_best_1 : cX0_best.data.toList.drop 24 = dktX0_best_1 := dk_seg dksX0_best_0 24 rfl rfl
theorem dksX0_best_2 : cX0_best.data.toList.drop 47 = dktX0_best_2 := dk_seg dksX0_best_1 23 rfl rfl
theorem dksX0_best_3 : cX0_best.data.toList.drop 69 = dktX0_best_3 := dk_seg dksX0_best_2 22 rfl rfl
theorem dksX0_best_4 : cX0_best.data.toList.drop 93 = dktX0_best_4 := dk_seg dksX0_best_3 24 rfl rfl
theorem dksX0_best_5 : cX0_best.data.toList.drop 116 = dktX0_best_5 := dk_seg dksX0_best_4 23 rfl rfl
theorem dX0_best_0 : decode cX0_best 0 = .ok (.iload_n 1, 1) := dk_27 (dk_at dksX0_best_0 0 rfl rfl)
theorem dX0_best_1 : decode cX0_best 1 = .ok (.i2l, 1) := dk_133 (dk_at dksX0_best_0 1 rfl rfl)
theorem dX0_best_2 : decode cX0_best 2 = .ok (.lconst 0, 1) := dk_9 (dk_at dksX0_best_0 2 rfl rfl)
theorem dX0_best_3 : decode cX0_best 3 = .ok (.ldc2_w 429, 3) := dk_20 1 173 (dk_at dksX0_best_0 3 rfl rfl)
theorem dX0_best_6 : decode cX0_best 6 = .ok (.invokestatic 5, 3) := dk_184 0 5 (dk_at dksX0_best_0 6 rfl rfl)
theorem dX0_best_9 : decode cX0_best 9 = .ok (.ifCond .eq 15, 3) := dk_153 0 15 (dk_at dksX0_best_0 9 rfl rfl)
theorem dX0_best_12 : decode cX0_best 12 = .ok (.iload_n 2, 1) := dk_28 (dk_at dksX0_best_0 12 rfl rfl)
theorem dX0_best_13 : decode cX0_best 13 = .ok (.iconst (-1), 1) := dk_2 (dk_at dksX0_best_0 13 rfl rfl)
theorem dX0_best_14 : decode cX0_best 14 = .ok (.if_icmp .eq 12, 3) := dk_159 0 12 (dk_at dksX0_best_0 14 rfl rfl)
theorem dX0_best_17 : decode cX0_best 17 = .ok (.iload_n 2, 1) := dk_28 (dk_at dksX0_best_0 17 rfl rfl)
theorem dX0_best_18 : decode cX0_best 18 = .ok (.invokestatic 150, 3) := dk_184 0 150 (dk_at dksX0_best_0 18 rfl rfl)
theorem dX0_best_21 : decode cX0_best 21 = .ok (.ifCond .ne 5, 3) := dk_154 0 5 (dk_at dksX0_best_0 21 rfl rfl)
theorem dX0_best_24 : decode cX0_best 24 = .ok (.iconst (-1), 1) := dk_2 (dk_at dksX0_best_1 0 rfl rfl)
theorem dX0_best_25 : decode cX0_best 25 = .ok (.ireturn, 1) := dk_172 (dk_at dksX0_best_1 1 rfl rfl)
theorem dX0_best_26 : decode cX0_best 26 = .ok (.aload_n 0, 1) := dk_42 (dk_at dksX0_best_1 2 rfl rfl)
theorem dX0_best_27 : decode cX0_best 27 = .ok (.invokevirtual 441, 3) := dk_182 1 185 (dk_at dksX0_best_1 3 rfl rfl)
theorem dX0_best_30 : decode cX0_best 30 = .ok (.iload_n 2, 1) := dk_28 (dk_at dksX0_best_1 6 rfl rfl)
theorem dX0_best_31 : decode cX0_best 31 = .ok (.iconst (-1), 1) := dk_2 (dk_at dksX0_best_1 7 rfl rfl)
theorem dX0_best_32 : decode cX0_best 32 = .ok (.if_icmp .ne 12, 3) := dk_160 0 12 (dk_at dksX0_best_1 8 rfl rfl)
theorem dX0_best_35 : decode cX0_best 35 = .ok (.aload_n 0, 1) := dk_42 (dk_at dksX0_best_1 11 rfl rfl)
theorem dX0_best_36 : decode cX0_best 36 = .ok (.getfield 111, 3) := dk_180 0 111 (dk_at dksX0_best_1 12 rfl rfl)
theorem dX0_best_39 : decode cX0_best 39 = .ok (.iconst 0, 1) := dk_3 (dk_at dksX0_best_1 15 rfl rfl)
theorem dX0_best_40 : decode cX0_best 40 = .ok (.aaload, 1) := dk_50 (dk_at dksX0_best_1 16 rfl rfl)
theorem dX0_best_41 : decode cX0_best 41 = .ok (.iload_n 1, 1) := dk_27 (dk_at dksX0_best_1 17 rfl rfl)
theorem dX0_best_42 : decode cX0_best 42 = .ok (.iaload, 1) := dk_46 (dk_at dksX0_best_1 18 rfl rfl)
theorem dX0_best_43 : decode cX0_best 43 = .ok (.ireturn, 1) := dk_172 (dk_at dksX0_best_1 19 rfl rfl)
theorem dX0_best_44 : decode cX0_best 44 = .ok (.iload_n 1, 1) := dk_27 (dk_at dksX0_best_1 20 rfl rfl)
theorem dX0_best_45 : decode cX0_best 45 = .ok (.istore_n 3, 1) := dk_62 (dk_at dksX0_best_1 21 rfl rfl)
theorem dX0_best_46 : decode cX0_best 46 = .ok (.iconst 0, 1) := dk_3 (dk_at dksX0_best_1 22 rfl rfl)
theorem dX0_best_47 : decode cX0_best 47 = .ok (.istore 4, 2) := dk_54 4 (dk_at dksX0_best_2 0 rfl rfl)
theorem dX0_best_49 : decode cX0_best 49 = .ok (.iconst 0, 1) := dk_3 (dk_at dksX0_best_2 2 rfl rfl)
theorem dX0_best_50 : decode cX0_best 50 = .ok (.istore 5, 2) := dk_54 5 (dk_at dksX0_best_2 3 rfl rfl)
theorem dX0_best_52 : decode cX0_best 52 = .ok (.iload 5, 2) := dk_21 5 (dk_at dksX0_best_2 5 rfl rfl)
theorem dX0_best_54 : decode cX0_best 54 = .ok (.iload_n 2, 1) := dk_28 (dk_at dksX0_best_2 7 rfl rfl)
theorem dX0_best_55 : decode cX0_best 55 = .ok (.if_icmp .gt 61, 3) := dk_163 0 61 (dk_at dksX0_best_2 8 rfl rfl)
theorem dX0_best_58 : decode cX0_best 58 = .ok (.iconst 0, 1) := dk_3 (dk_at dksX0_best_2 11 rfl rfl)
theorem dX0_best_59 : decode cX0_best 59 = .ok (.istore 4, 2) := dk_54 4 (dk_at dksX0_best_2 12 rfl rfl)
theorem dX0_best_61 : decode cX0_best 61 = .ok (.aload_n 0, 1) := dk_42 (dk_at dksX0_best_2 14 rfl rfl)
theorem dX0_best_62 : decode cX0_best 62 = .ok (.iload 5, 2) := dk_21 5 (dk_at dksX0_best_2 15 rfl rfl)
theorem dX0_best_64 : decode cX0_best 64 = .ok (.invokevirtual 154, 3) := dk_182 0 154 (dk_at dksX0_best_2 17 rfl rfl)
theorem dX0_best_67 : decode cX0_best 67 = .ok (.iload 4, 2) := dk_21 4 (dk_at dksX0_best_2 20 rfl rfl)
theorem dX0_best_69 : decode cX0_best 69 = .ok (.invokevirtual 370, 3) := dk_182 1 114 (dk_at dksX0_best_3 0 rfl rfl)
theorem dX0_best_72 : decode cX0_best 72 = .ok (.aload_n 0, 1) := dk_42 (dk_at dksX0_best_3 3 rfl rfl)
theorem dX0_best_73 : decode cX0_best 73 = .ok (.getfield 111, 3) := dk_180 0 111 (dk_at dksX0_best_3 4 rfl rfl)
theorem dX0_best_76 : decode cX0_best 76 = .ok (.iload 5, 2) := dk_21 5 (dk_at dksX0_best_3 7 rfl rfl)
theorem dX0_best_78 : decode cX0_best 78 = .ok (.iconst 1, 1) := dk_4 (dk_at dksX0_best_3 9 rfl rfl)
theorem dX0_best_79 : decode cX0_best 79 = .ok (.iadd, 1) := dk_96 (dk_at dksX0_best_3 10 rfl rfl)
theorem dX0_best_80 : decode cX0_best 80 = .ok (.aaload, 1) := dk_50 (dk_at dksX0_best_3 11 rfl rfl)
theorem dX0_best_81 : decode cX0_best 81 = .ok (.iload_n 3, 1) := dk_29 (dk_at dksX0_best_3 12 rfl rfl)
theorem dX0_best_82 : decode cX0_best 82 = .ok (.iload 4, 2) := dk_21 4 (dk_at dksX0_best_3 13 rfl rfl)
theorem dX0_best_84 : decode cX0_best 84 = .ok (.isub, 1) := dk_100 (dk_at dksX0_best_3 15 rfl rfl)
theorem dX0_best_85 : decode cX0_best 85 = .ok (.iaload, 1) := dk_46 (dk_at dksX0_best_3 16 rfl rfl)
theorem dX0_best_86 : decode cX0_best 86 = .ok (.iadd, 1) := dk_96 (dk_at dksX0_best_3 17 rfl rfl)
theorem dX0_best_87 : decode cX0_best 87 = .ok (.aload_n 0, 1) := dk_42 (dk_at dksX0_best_3 18 rfl rfl)
theorem dX0_best_88 : decode cX0_best 88 = .ok (.getfield 111, 3) := dk_180 0 111 (dk_at dksX0_best_3 19 rfl rfl)
theorem dX0_best_91 : decode cX0_best 91 = .ok (.iload 5, 2) := dk_21 5 (dk_at dksX0_best_3 22 rfl rfl)
theorem dX0_best_93 : decode cX0_best 93 = .ok (.aaload, 1) := dk_50 (dk_at dksX0_best_4 0 rfl rfl)
theorem dX0_best_94 : decode cX0_best 94 = .ok (.iload_n 3, 1) := dk_29 (dk_at dksX0_best_4 1 rfl rfl)
theorem dX0_best_95 : decode cX0_best 95 = .ok (.iaload, 1) := dk_46 (dk_at dksX0_best_4 2 rfl rfl)
theorem dX0_best_96 : decode cX0_best 96 = .ok (.if_icmp .eq 9, 3) := dk_159 0 9 (dk_at dksX0_best_4 3 rfl rfl)
theorem dX0_best_99 : decode cX0_best 99 = .ok (.iinc 4 1, 3) := dk_132 4 1 (dk_at dksX0_best_4 6 rfl rfl)
theorem dX0_best_102 : decode cX0_best 102 = .ok (.goto (-41), 3) := dk_167 255 215 (dk_at dksX0_best_4 9 rfl rfl)
theorem dX0_best_105 : decode cX0_best 105 = .ok (.iload_n 3, 1) := dk_29 (dk_at dksX0_best_4 12 rfl rfl)
theorem dX0_best_106 : decode cX0_best 106 = .ok (.iload 4, 2) := dk_21 4 (dk_at dksX0_best_4 13 rfl rfl)
theorem dX0_best_108 : decode cX0_best 108 = .ok (.isub, 1) := dk_100 (dk_at dksX0_best_4 15 rfl rfl)
theorem dX0_best_109 : decode cX0_best 109 = .ok (.istore_n 3, 1) := dk_62 (dk_at dksX0_best_4 16 rfl rfl)
theorem dX0_best_110 : decode cX0_best 110 = .ok (.iinc 5 1, 3) := dk_132 5 1 (dk_at dksX0_best_4 17 rfl rfl)
theorem dX0_best_113 : decode cX0_best 113 = .ok (.goto (-61), 3) := dk_167 255 195 (dk_at dksX0_best_4 20 rfl rfl)
theorem dX0_best_116 : decode cX0_best 116 = .ok (.iload 4, 2) := dk_21 4 (dk_at dksX0_best_5 0 rfl rfl)
theorem dX0_best_118 : decode cX0_best 118 = .ok (.ireturn, 1) := dk_172 (dk_at dksX0_best_5 2 rfl rfl)
abbrev cX0_layBest : ByteArray := prog_1_method_61_code
def yX0_layBest : MethodName := ⟨RX0, "layBest", "()V"⟩
def dkwX0_layBest_4 : List UInt8 := [132, 2, 1, 167, 255, 176, 132, 1, 255, 167, 255, 164, 177]
abbrev dktX0_layBest_4 : List UInt8 := dkwX0_layBest_4 ++ []
def dkwX0_layBest_3 : List UInt8 := [42, 180, 0, 111, 27, 4, 96, 50, 28, 29, 100, 46, 96, 184, 0, 117, 79, 132, 3, 1, 167, 255, 201]
abbrev dktX0_layBest_3 : List UInt8 := dkwX0_layBest_3 ++ dktX0_layBest_4
def dkwX0_layBest_2 : List UInt8 := [42, 180, 0, 111, 27, 50, 28, 42, 180, 0, 111, 27, 50, 28, 46, 42, 27, 182, 0, 154, 29, 182, 1, 114]
abbrev dktX0_layBest_2 : List UInt8 := dkwX0_layBest_2 ++ dktX0_layBest_3
def dkwX0_layBest_1 : List UInt8 := [42, 180, 0, 111, 27, 50, 28, 19, 1, 184, 79, 3, 62, 29, 16, 24, 163, 0, 55, 29, 28, 163, 0, 50]
abbrev dktX0_layBest_1 : List UInt8 := dkwX0_layBest_1 ++ dktX0_layBest_2
def dkwX0_layBest_0 : List UInt8 := [42, 180, 0, 111, 7, 50, 3, 184, 1, 178, 6, 60, 27, 155, 0, 94, 3, 61, 28, 16, 48, 163, 0, 80]
abbrev dktX0_layBest_0 : List UInt8 := dkwX0_layBest_0 ++ dktX0_layBest_1
theorem dksX0_layBest_0 : cX0_layBest.data.toList.drop 0 = dktX0_layBest_0 := by decide +kernel
theorem dksX0_layBest_1 : cX0_layBest.data.toList.drop 24 = dktX0_layBest_1 := dk_seg dksX0_layBest_0 24 rfl rfl
theorem dksX0_layBest_2 : cX0_layBest.data.toList.drop 48 = dktX0_layBest_2 := dk_seg dksX0_layBest_1 24 rfl rfl
theorem dksX0_layBest_3 : cX0_layBest.data.toList.drop 72 = dktX0_layBest_3 := dk_seg dksX0_layBest_2 24 rfl rfl
theorem dksX0_layBest_4 : cX0_layBest.data.toList.drop 95 = dktX0_layBest_4 := dk_seg dksX0_layBest_3 23 rfl rfl
theorem dX0_layBest_0 : decode cX0_layBest 0 = .ok (.aload_n 0, 1) := dk_42 (dk_at dksX0_layBest_0 0 rfl rfl)
theorem dX0_layBest_1 : decode cX0_layBest 1 = .ok (.getfield 111, 3) := dk_180 0 111 (dk_at dksX0_layBest_0 1 rfl rfl)
theorem dX0_layBest_4 : decode cX0_layBest 4 = .ok (.iconst 4, 1) := dk_7 (dk_at dksX0_layBest_0 4 rfl rfl)
theorem dX0_layBest_5 : decode cX0_layBest 5 = .ok (.aaload, 1) := dk_50 (dk_at dksX0_layBest_0 5 rfl rfl)
theorem dX0_layBest_6 : decode cX0_layBest 6 = .ok (.iconst 0, 1) := dk_3 (dk_at dksX0_layBest_0 6 rfl rfl)
theorem dX0_layBest_7 : decode cX0_layBest 7 = .ok (.invokestatic 434, 3) := dk_184 1 178 (dk_at dksX0_layBest_0 7 rfl rfl)
theorem dX0_layBest_10 : decode cX0_layBest 10 = .ok (.iconst 3, 1) := dk_6 (dk_at dksX0_layBest_0 10 rfl rfl)
theorem dX0_layBest_11 : decode cX0_layBest 11 = .ok (.istore_n 1, 1) := dk_60 (dk_at dksX0_layBest_0 11 rfl rfl)
theorem dX0_layBest_12 : decode cX0_layBest 12 = .ok (.iload_n 1, 1) := dk_27 (dk_at dksX0_layBest_0 12 rfl rfl)
theorem dX0_layBest_13 : decode cX0_layBest 13 = .ok (.ifCond .lt 94, 3) := dk_155 0 94 (dk_at dksX0_layBest_0 13 rfl rfl)
theorem dX0_layBest_16 : decode cX0_layBest 16 = .ok (.iconst 0, 1) := dk_3 (dk_at dksX0_layBest_0 16 rfl rfl)
theorem dX0_layBest_17 : decode cX0_layBest 17 = .ok (.istore_n 2, 1) := dk_61 (dk_at dksX0_layBest_0 17 rfl rfl)
theorem dX0_layBest_18 : decode cX0_layBest 18 = .ok (.iload_n 2, 1) := dk_28 (dk_at dksX0_layBest_0 18 rfl rfl)
theorem dX0_layBest_19 : decode cX0_layBest 19 = .ok (.bipush 48, 2) := dk_16 48 (dk_at dksX0_layBest_0 19 rfl rfl)
theorem dX0_layBest_21 : decode cX0_layBest 21 = .ok (.if_icmp .gt 80, 3) := dk_163 0 80 (dk_at dksX0_layBest_0 21 rfl rfl)
theorem dX0_layBest_24 : decode cX0_layBest 24 = .ok (.aload_n 0, 1) := dk_42 (dk_at dksX0_layBest_1 0 rfl rfl)
theorem dX0_layBest_25 : decode cX0_layBest 25 = .ok (.getfield 111, 3) := dk_180 0 111 (dk_at dksX0_layBest_1 1 rfl rfl)
theorem dX0_layBest_28 : decode cX0_layBest 28 = .ok (.iload_n 1, 1) := dk_27 (dk_at dksX0_layBest_1 4 rfl rfl)
theorem dX0_layBest_29 : decode cX0_layBest 29 = .ok (.aaload, 1) := dk_50 (dk_at dksX0_layBest_1 5 rfl rfl)
theorem dX0_layBest_30 : decode cX0_layBest 30 = .ok (.iload_n 2, 1) := dk_28 (dk_at dksX0_layBest_1 6 rfl rfl)
theorem dX0_layBest_31 : decode cX0_layBest 31 = .ok (.ldc_w 440, 3) := dk_19 1 184 (dk_at dksX0_layBest_1 7 rfl rfl)
theorem dX0_layBest_34 : decode cX0_layBest 34 = .ok (.iastore, 1) := dk_79 (dk_at dksX0_layBest_1 10 rfl rfl)
theorem dX0_layBest_35 : decode cX0_layBest 35 = .ok (.iconst 0, 1) := dk_3 (dk_at dksX0_layBest_1 11 rfl rfl)
theorem dX0_layBest_36 : decode cX0_layBest 36 = .ok (.istore_n 3, 1) := dk_62 (dk_at dksX0_layBest_1 12 rfl rfl)
theorem dX0_layBest_37 : decode cX0_layBest 37 = .ok (.iload_n 3, 1) := dk_29 (dk_at dksX0_layBest_1 13 rfl rfl)
theorem dX0_layBest_38 : decode cX0_layBest 38 = .ok (.bipush 24, 2) := dk_16 24 (dk_at dksX0_layBest_1 14 rfl rfl)
theorem dX0_layBest_40 : decode cX0_layBest 40 = .ok (.if_icmp .gt 55, 3) := dk_163 0 55 (dk_at dksX0_layBest_1 16 rfl rfl)
theorem dX0_layBest_43 : decode cX0_layBest 43 = .ok (.iload_n 3, 1) := dk_29 (dk_at dksX0_layBest_1 19 rfl rfl)
theorem dX0_layBest_44 : decode cX0_layBest 44 = .ok (.iload_n 2, 1) := dk_28 (dk_at dksX0_layBest_1 20 rfl rfl)
theorem dX0_layBest_45 : decode cX0_layBest 45 = .ok (.if_icmp .gt 50, 3) := dk_163 0 50 (dk_at dksX0_layBest_1 21 rfl rfl)
theorem dX0_layBest_48 : decode cX0_layBest 48 = .ok (.aload_n 0, 1) := dk_42 (dk_at dksX0_layBest_2 0 rfl rfl)
theorem dX0_layBest_49 : decode cX0_layBest 49 = .ok (.getfield 111, 3) := dk_180 0 111 (dk_at dksX0_layBest_2 1 rfl rfl)
theorem dX0_layBest_52 : decode cX0_layBest 52 = .ok (.iload_n 1, 1) := dk_27 (dk_at dksX0_layBest_2 4 rfl rfl)
theorem dX0_layBest_53 : decode cX0_layBest 53 = .ok (.aaload, 1) := dk_50 (dk_at dksX0_layBest_2 5 rfl rfl)
theorem dX0_layBest_54 : decode cX0_layBest 54 = .ok (.iload_n 2, 1) := dk_28 (dk_at dksX0_layBest_2 6 rfl rfl)
theorem dX0_layBest_55 : decode cX0_layBest 55 = .ok (.aload_n 0, 1) := dk_42 (dk_at dksX0_layBest_2 7 rfl rfl)
theorem dX0_layBest_56 : decode cX0_layBest 56 = .ok (.getfield 111, 3) := dk_180 0 111 (dk_at dksX0_layBest_2 8 rfl rfl)
theorem dX0_layBest_59 : decode cX0_layBest 59 = .ok (.iload_n 1, 1) := dk_27 (dk_at dksX0_layBest_2 11 rfl rfl)
theorem dX0_layBest_60 : decode cX0_layBest 60 = .ok (.aaload, 1) := dk_50 (dk_at dksX0_layBest_2 12 rfl rfl)
theorem dX0_layBest_61 : decode cX0_layBest 61 = .ok (.iload_n 2, 1) := dk_28 (dk_at dksX0_layBest_2 13 rfl rfl)
theorem dX0_layBest_62 : decode cX0_layBest 62 = .ok (.iaload, 1) := dk_46 (dk_at dksX0_layBest_2 14 rfl rfl)
theorem dX0_layBest_63 : decode cX0_layBest 63 = .ok (.aload_n 0, 1) := dk_42 (dk_at dksX0_layBest_2 15 rfl rfl)
theorem dX0_layBest_64 : decode cX0_layBest 64 = .ok (.iload_n 1, 1) := dk_27 (dk_at dksX0_layBest_2 16 rfl rfl)
theorem dX0_layBest_65 : decode cX0_layBest 65 = .ok (.invokevirtual 154, 3) := dk_182 0 154 (dk_at dksX0_layBest_2 17 rfl rfl)
theorem dX0_layBest_68 : decode cX0_layBest 68 = .ok (.iload_n 3, 1) := dk_29 (dk_at dksX0_layBest_2 20 rfl rfl)
theorem dX0_layBest_69 : decode cX0_layBest 69 = .ok (.invokevirtual 370, 3) := dk_182 1 114 (dk_at dksX0_layBest_2 21 rfl rfl)
theorem dX0_layBest_72 : decode cX0_layBest 72 = .ok (.aload_n 0, 1) := dk_42 (dk_at dksX0_layBest_3 0 rfl rfl)
theorem dX0_layBest_73 : decode cX0_layBest 73 = .ok (.getfield 111, 3) := dk_180 0 111 (dk_at dksX0_layBest_3 1 rfl rfl)
theorem dX0_layBest_76 : decode cX0_layBest 76 = .ok (.iload_n 1, 1) := dk_27 (dk_at dksX0_layBest_3 4 rfl rfl)
theorem dX0_layBest_77 : decode cX0_layBest 77 = .ok (.iconst 1, 1) := dk_4 (dk_at dksX0_layBest_3 5 rfl rfl)
theorem dX0_layBest_78 : decode cX0_layBest 78 = .ok (.iadd, 1) := dk_96 (dk_at dksX0_layBest_3 6 rfl rfl)
theorem dX0_layBest_79 : decode cX0_layBest 79 = .ok (.aaload, 1) := dk_50 (dk_at dksX0_layBest_3 7 rfl rfl)
theorem dX0_layBest_80 : decode cX0_layBest 80 = .ok (.iload_n 2, 1) := dk_28 (dk_at dksX0_layBest_3 8 rfl rfl)
theorem dX0_layBest_81 : decode cX0_layBest 81 = .ok (.iload_n 3, 1) := dk_29 (dk_at dksX0_layBest_3 9 rfl rfl)
theorem dX0_layBest_82 : decode cX0_layBest 82 = .ok (.isub, 1) := dk_100 (dk_at dksX0_layBest_3 10 rfl rfl)
theorem dX0_layBest_83 : decode cX0_layBest 83 = .ok (.iaload, 1) := dk_46 (dk_at dksX0_layBest_3 11 rfl rfl)
theorem dX0_layBest_84 : decode cX0_layBest 84 = .ok (.iadd, 1) := dk_96 (dk_at dksX0_layBest_3 12 rfl rfl)
theorem dX0_layBest_85 : decode cX0_layBest 85 = .ok (.invokestatic 117, 3) := dk_184 0 117 (dk_at dksX0_layBest_3 13 rfl rfl)
theorem dX0_layBest_88 : decode cX0_layBest 88 = .ok (.iastore, 1) := dk_79 (dk_at dksX0_layBest_3 16 rfl rfl)
theorem dX0_layBest_89 : decode cX0_layBest 89 = .ok (.iinc 3 1, 3) := dk_132 3 1 (dk_at dksX0_layBest_3 17 rfl rfl)
theorem dX0_layBest_92 : decode cX0_layBest 92 = .ok (.goto (-55), 3) := dk_167 255 201 (dk_at dksX0_layBest_3 20 rfl rfl)
theorem dX0_layBest_95 : decode cX0_layBest 95 = .ok (.iinc 2 1, 3) := dk_132 2 1 (dk_at dksX0_layBest_4 0 rfl rfl)
theorem dX0_layBest_98 : decode cX0_layBest 98 = .ok (.goto (-80), 3) := dk_167 255 176 (dk_at dksX0_layBest_4 3 rfl rfl)
theorem dX0_layBest_101 : decode cX0_layBest 101 = .ok (.iinc 1 (-1), 3) := dk_132 1 255 (dk_at dksX0_layBest_4 6 rfl rfl)
theorem dX0_layBest_104 : decode cX0_layBest 104 = .ok (.goto (-92), 3) := dk_167 255 164 (dk_at dksX0_layBest_4 9 rfl rfl)
theorem dX0_layBest_107 : decode cX0_layBest 107 = .ok (.return_, 1) := dk_177 (dk_at dksX0_layBest_4 12 rfl rfl)
abbrev cX0_replay : ByteArray := prog_1_method_64_code
def yX0_replay : MethodName := ⟨RX0, "replay", "(II)I"⟩
def dkwX0_replay_1 : List UInt8 := [167, 0, 4, 2, 172]
abbrev dktX0_replay_1 : List UInt8 := dkwX0_replay_1 ++ []
def dkwX0_replay_0 : List UInt8 := [27, 184, 0, 150, 153, 0, 23, 28, 184, 1, 111, 153, 0, 16, 42, 42, 27, 182, 0, 154, 28, 182, 1, 200]
abbrev dktX0_replay_0 : List UInt8 := dkwX0_replay_0 ++ dktX0_replay_1
theorem dksX0_replay_0 : cX0_replay.data.toList.drop 0 = dktX0_replay_0 := by decide +kernel
theorem dksX0_replay_1 : cX0_replay.data.toList.drop 24 = dktX0_replay_1 := dk_seg dksX0_replay_0 24 rfl rfl
theorem dX0_replay_0 : decode cX0_replay 0 = .ok (.iload_n 1, 1) := dk_27 (dk_at dksX0_replay_0 0 rfl rfl)
theorem dX0_replay_1 : decode cX0_replay 1 = .ok (.invokestatic 150, 3) := dk_184 0 150 (dk_at dksX0_replay_0 1 rfl rfl)
theorem dX0_replay_4 : decode cX0_replay 4 = .ok (.ifCond .eq 23, 3) := dk_153 0 23 (dk_at dksX0_replay_0 4 rfl rfl)
theorem dX0_replay_7 : decode cX0_replay 7 = .ok (.iload_n 2, 1) := dk_28 (dk_at dksX0_replay_0 7 rfl rfl)
theorem dX0_replay_8 : decode cX0_replay 8 = .ok (.invokestatic 367, 3) := dk_184 1 111 (dk_at dksX0_replay_0 8 rfl rfl)
theorem dX0_replay_11 : decode cX0_replay 11 = .ok (.ifCond .eq 16, 3) := dk_153 0 16 (dk_at dksX0_replay_0 11 rfl rfl)
theorem dX0_replay_14 : decode cX0_replay 14 = .ok (.aload_n 0, 1) := dk_42 (dk_at dksX0_replay_0 14 rfl rfl)
theorem dX0_replay_15 : decode cX0_replay 15 = .ok (.aload_n 0, 1) := dk_42 (dk_at dksX0_replay_0 15 rfl rfl)
theorem dX0_replay_16 : decode cX0_replay 16 = .ok (.iload_n 1, 1) := dk_27 (dk_at dksX0_replay_0 16 rfl rfl)
theorem dX0_replay_17 : decode cX0_replay 17 = .ok (.invokevirtual 154, 3) := dk_182 0 154 (dk_at dksX0_replay_0 17 rfl rfl)
theorem dX0_replay_20 : decode cX0_replay 20 = .ok (.iload_n 2, 1) := dk_28 (dk_at dksX0_replay_0 20 rfl rfl)
theorem dX0_replay_21 : decode cX0_replay 21 = .ok (.invokevirtual 456, 3) := dk_182 1 200 (dk_at dksX0_replay_0 21 rfl rfl)
theorem dX0_replay_24 : decode cX0_replay 24 = .ok (.goto 4, 3) := dk_167 0 4 (dk_at dksX0_replay_1 0 rfl rfl)
theorem dX0_replay_27 : decode cX0_replay 27 = .ok (.iconst (-1), 1) := dk_2 (dk_at dksX0_replay_1 3 rfl rfl)
theorem dX0_replay_28 : decode cX0_replay 28 = .ok (.ireturn, 1) := dk_172 (dk_at dksX0_replay_1 4 rfl rfl)
abbrev cX0_replayed : ByteArray := prog_1_method_63_code
def yX0_replayed : MethodName := ⟨RX0, "replayed", "(LMissCurves$Book;I)I"⟩
def dkwX0_replayed_2 : List UInt8 := [153, 0, 7, 4, 167, 0, 4, 3, 96, 54, 5, 132, 6, 1, 167, 255, 225, 21, 5, 172]
abbrev dktX0_replayed_2 : List UInt8 := dkwX0_replayed_2 ++ []
def dkwX0_replayed_1 : List UInt8 := [54, 5, 3, 54, 6, 21, 6, 43, 180, 0, 167, 162, 0, 28, 21, 5, 45, 25, 4, 182, 1, 197]
abbrev dktX0_replayed_1 : List UInt8 := dkwX0_replayed_1 ++ dktX0_replayed_2
def dkwX0_replayed_0 : List UInt8 := [187, 1, 188, 89, 43, 28, 183, 1, 190, 78, 42, 180, 0, 22, 180, 1, 5, 184, 1, 193, 58, 4, 3]
abbrev dktX0_replayed_0 : List UInt8 := dkwX0_replayed_0 ++ dktX0_replayed_1
theorem dksX0_replayed_0 : cX0_replayed.data.toList.drop 0 = dktX0_replayed_0 := by decide +kernel
theorem dksX0_replayed_1 : cX0_replayed.data.toList.drop 23 = dktX0_replayed_1 := dk_seg dksX0_replayed_0 23 rfl rfl
theorem dksX0_replayed_2 : cX0_replayed.data.toList.drop 45 = dktX0_replayed_2 := dk_seg dksX0_replayed_1 22 rfl rfl
theorem dX0_replayed_0 : decode cX0_replayed 0 = .ok (.new 444, 3) := dk_187 1 188 (dk_at dksX0_replayed_0 0 rfl rfl)
theorem dX0_replayed_3 : decode cX0_replayed 3 = .ok (.dup, 1) := dk_89 (dk_at dksX0_replayed_0 3 rfl rfl)
theorem dX0_replayed_4 : decode cX0_replayed 4 = .ok (.aload_n 1, 1) := dk_43 (dk_at dksX0_replayed_0 4 rfl rfl)
theorem dX0_replayed_5 : decode cX0_replayed 5 = .ok (.iload_n 2, 1) := dk_28 (dk_at dksX0_replayed_0 5 rfl rfl)
theorem dX0_replayed_6 : decode cX0_replayed 6 = .ok (.invokespecial 446, 3) := dk_183 1 190 (dk_at dksX0_replayed_0 6 rfl rfl)
theorem dX0_replayed_9 : decode cX0_replayed 9 = .ok (.astore_n 3, 1) := dk_78 (dk_at dksX0_replayed_0 9 rfl rfl)
theorem dX0_replayed_10 : decode cX0_replayed 10 = .ok (.aload_n 0, 1) := dk_42 (dk_at dksX0_replayed_0 10 rfl rfl)
theorem dX0_replayed_11 : decode cX0_replayed 11 = .ok (.getfield 22, 3) := dk_180 0 22 (dk_at dksX0_replayed_0 11 rfl rfl)
theorem dX0_replayed_14 : decode cX0_replayed 14 = .ok (.getfield 261, 3) := dk_180 1 5 (dk_at dksX0_replayed_0 14 rfl rfl)
theorem dX0_replayed_17 : decode cX0_replayed 17 = .ok (.invokestatic 449, 3) := dk_184 1 193 (dk_at dksX0_replayed_0 17 rfl rfl)
theorem dX0_replayed_20 : decode cX0_replayed 20 = .ok (.astore 4, 2) := dk_58 4 (dk_at dksX0_replayed_0 20 rfl rfl)
theorem dX0_replayed_22 : decode cX0_replayed 22 = .ok (.iconst 0, 1) := dk_3 (dk_at dksX0_replayed_0 22 rfl rfl)
theorem dX0_replayed_23 : decode cX0_replayed 23 = .ok (.istore 5, 2) := dk_54 5 (dk_at dksX0_replayed_1 0 rfl rfl)
theorem dX0_replayed_25 : decode cX0_replayed 25 = .ok (.iconst 0, 1) := dk_3 (dk_at dksX0_replayed_1 2 rfl rfl)
theorem dX0_replayed_26 : decode cX0_replayed 26 = .ok (.istore 6, 2) := dk_54 6 (dk_at dksX0_replayed_1 3 rfl rfl)
theorem dX0_replayed_28 : decode cX0_replayed 28 = .ok (.iload 6, 2) := dk_21 6 (dk_at dksX0_replayed_1 5 rfl rfl)
theorem dX0_replayed_30 : decode cX0_replayed 30 = .ok (.aload_n 1, 1) := dk_43 (dk_at dksX0_replayed_1 7 rfl rfl)
theorem dX0_replayed_31 : decode cX0_replayed 31 = .ok (.getfield 167, 3) := dk_180 0 167 (dk_at dksX0_replayed_1 8 rfl rfl)
theorem dX0_replayed_34 : decode cX0_replayed 34 = .ok (.if_icmp .ge 28, 3) := dk_162 0 28 (dk_at dksX0_replayed_1 11 rfl rfl)
theorem dX0_replayed_37 : decode cX0_replayed 37 = .ok (.iload 5, 2) := dk_21 5 (dk_at dksX0_replayed_1 14 rfl rfl)
theorem dX0_replayed_39 : decode cX0_replayed 39 = .ok (.aload_n 3, 1) := dk_45 (dk_at dksX0_replayed_1 16 rfl rfl)
theorem dX0_replayed_40 : decode cX0_replayed 40 = .ok (.aload 4, 2) := dk_25 4 (dk_at dksX0_replayed_1 17 rfl rfl)
theorem dX0_replayed_42 : decode cX0_replayed 42 = .ok (.invokevirtual 453, 3) := dk_182 1 197 (dk_at dksX0_replayed_1 19 rfl rfl)
theorem dX0_replayed_45 : decode cX0_replayed 45 = .ok (.ifCond .eq 7, 3) := dk_153 0 7 (dk_at dksX0_replayed_2 0 rfl rfl)
theorem dX0_replayed_48 : decode cX0_replayed 48 = .ok (.iconst 1, 1) := dk_4 (dk_at dksX0_replayed_2 3 rfl rfl)
theorem dX0_replayed_49 : decode cX0_replayed 49 = .ok (.goto 4, 3) := dk_167 0 4 (dk_at dksX0_replayed_2 4 rfl rfl)
theorem dX0_replayed_52 : decode cX0_replayed 52 = .ok (.iconst 0, 1) := dk_3 (dk_at dksX0_replayed_2 7 rfl rfl)
theorem dX0_replayed_53 : decode cX0_replayed 53 = .ok (.iadd, 1) := dk_96 (dk_at dksX0_replayed_2 8 rfl rfl)
theorem dX0_replayed_54 : decode cX0_replayed 54 = .ok (.istore 5, 2) := dk_54 5 (dk_at dksX0_replayed_2 9 rfl rfl)
theorem dX0_replayed_56 : decode cX0_replayed 56 = .ok (.iinc 6 1, 3) := dk_132 6 1 (dk_at dksX0_replayed_2 11 rfl rfl)
theorem dX0_replayed_59 : decode cX0_replayed 59 = .ok (.goto (-31), 3) := dk_167 255 225 (dk_at dksX0_replayed_2 14 rfl rfl)
theorem dX0_replayed_62 : decode cX0_replayed 62 = .ok (.iload 5, 2) := dk_21 5 (dk_at dksX0_replayed_2 17 rfl rfl)
theorem dX0_replayed_64 : decode cX0_replayed 64 = .ok (.ireturn, 1) := dk_172 (dk_at dksX0_replayed_2 19 rfl rfl)
abbrev cX0_odd : ByteArray := prog_1_method_65_code
def yX0_odd : MethodName := ⟨RX0, "odd", "(I)I"⟩
def dkwX0_odd_2 : List UInt8 := [167, 255, 220, 2, 172]
abbrev dktX0_odd_2 : List UInt8 := dkwX0_odd_2 ++ []
def dkwX0_odd_1 : List UInt8 := [4, 96, 182, 1, 200, 42, 42, 27, 182, 0, 154, 28, 182, 1, 200, 164, 0, 5, 28, 172, 132, 2, 1]
abbrev dktX0_odd_1 : List UInt8 := dkwX0_odd_1 ++ dktX0_odd_2
def dkwX0_odd_0 : List UInt8 := [27, 184, 0, 150, 154, 0, 5, 2, 172, 3, 61, 28, 16, 24, 162, 0, 36, 42, 42, 27, 182, 0, 154, 28]
abbrev dktX0_odd_0 : List UInt8 := dkwX0_odd_0 ++ dktX0_odd_1
theorem dksX0_odd_0 : cX0_odd.data.toList.drop 0 = dktX0_odd_0 := by decide +kernel
theorem dksX0_odd_1 : cX0_odd.data.toList.drop 24 = dktX0_odd_1 := dk_seg dksX0_odd_0 24 rfl rfl
theorem dksX0_odd_2 : cX0_odd.data.toList.drop 47 = dktX0_odd_2 := dk_seg dksX0_odd_1 23 rfl rfl
theorem dX0_odd_0 : decode cX0_odd 0 = .ok (.iload_n 1, 1) := dk_27 (dk_at dksX0_odd_0 0 rfl rfl)
theorem dX0_odd_1 : decode cX0_odd 1 = .ok (.invokestatic 150, 3) := dk_184 0 150 (dk_at dksX0_odd_0 1 rfl rfl)
theorem dX0_odd_4 : decode cX0_odd 4 = .ok (.ifCond .ne 5, 3) := dk_154 0 5 (dk_at dksX0_odd_0 4 rfl rfl)
theorem dX0_odd_7 : decode cX0_odd 7 = .ok (.iconst (-1), 1) := dk_2 (dk_at dksX0_odd_0 7 rfl rfl)
theorem dX0_odd_8 : decode cX0_odd 8 = .ok (.ireturn, 1) := dk_172 (dk_at dksX0_odd_0 8 rfl rfl)
theorem dX0_odd_9 : decode cX0_odd 9 = .ok (.iconst 0, 1) := dk_3 (dk_at dksX0_odd_0 9 rfl rfl)
theorem dX0_odd_10 : decode cX0_odd 10 = .ok (.istore_n 2, 1) := dk_61 (dk_at dksX0_odd_0 10 rfl rfl)
theorem dX0_odd_11 : decode cX0_odd 11 = .ok (.iload_n 2, 1) := dk_28 (dk_at dksX0_odd_0 11 rfl rfl)
theorem dX0_odd_12 : decode cX0_odd 12 = .ok (.bipush 24, 2) := dk_16 24 (dk_at dksX0_odd_0 12 rfl rfl)
theorem dX0_odd_14 : decode cX0_odd 14 = .ok (.if_icmp .ge 36, 3) := dk_162 0 36 (dk_at dksX0_odd_0 14 rfl rfl)
theorem dX0_odd_17 : decode cX0_odd 17 = .ok (.aload_n 0, 1) := dk_42 (dk_at dksX0_odd_0 17 rfl rfl)
theorem dX0_odd_18 : decode cX0_odd 18 = .ok (.aload_n 0, 1) := dk_42 (dk_at dksX0_odd_0 18 rfl rfl)
theorem dX0_odd_19 : decode cX0_odd 19 = .ok (.iload_n 1, 1) := dk_27 (dk_at dksX0_odd_0 19 rfl rfl)
theorem dX0_odd_20 : decode cX0_odd 20 = .ok (.invokevirtual 154, 3) := dk_182 0 154 (dk_at dksX0_odd_0 20 rfl rfl)
theorem dX0_odd_23 : decode cX0_odd 23 = .ok (.iload_n 2, 1) := dk_28 (dk_at dksX0_odd_0 23 rfl rfl)
theorem dX0_odd_24 : decode cX0_odd 24 = .ok (.iconst 1, 1) := dk_4 (dk_at dksX0_odd_1 0 rfl rfl)
theorem dX0_odd_25 : decode cX0_odd 25 = .ok (.iadd, 1) := dk_96 (dk_at dksX0_odd_1 1 rfl rfl)
theorem dX0_odd_26 : decode cX0_odd 26 = .ok (.invokevirtual 456, 3) := dk_182 1 200 (dk_at dksX0_odd_1 2 rfl rfl)
theorem dX0_odd_29 : decode cX0_odd 29 = .ok (.aload_n 0, 1) := dk_42 (dk_at dksX0_odd_1 5 rfl rfl)
theorem dX0_odd_30 : decode cX0_odd 30 = .ok (.aload_n 0, 1) := dk_42 (dk_at dksX0_odd_1 6 rfl rfl)
theorem dX0_odd_31 : decode cX0_odd 31 = .ok (.iload_n 1, 1) := dk_27 (dk_at dksX0_odd_1 7 rfl rfl)
theorem dX0_odd_32 : decode cX0_odd 32 = .ok (.invokevirtual 154, 3) := dk_182 0 154 (dk_at dksX0_odd_1 8 rfl rfl)
theorem dX0_odd_35 : decode cX0_odd 35 = .ok (.iload_n 2, 1) := dk_28 (dk_at dksX0_odd_1 11 rfl rfl)
theorem dX0_odd_36 : decode cX0_odd 36 = .ok (.invokevirtual 456, 3) := dk_182 1 200 (dk_at dksX0_odd_1 12 rfl rfl)
theorem dX0_odd_39 : decode cX0_odd 39 = .ok (.if_icmp .le 5, 3) := dk_164 0 5 (dk_at dksX0_odd_1 15 rfl rfl)
theorem dX0_odd_42 : decode cX0_odd 42 = .ok (.iload_n 2, 1) := dk_28 (dk_at dksX0_odd_1 18 rfl rfl)
theorem dX0_odd_43 : decode cX0_odd 43 = .ok (.ireturn, 1) := dk_172 (dk_at dksX0_odd_1 19 rfl rfl)
theorem dX0_odd_44 : decode cX0_odd 44 = .ok (.iinc 2 1, 3) := dk_132 2 1 (dk_at dksX0_odd_1 20 rfl rfl)
theorem dX0_odd_47 : decode cX0_odd 47 = .ok (.goto (-36), 3) := dk_167 255 220 (dk_at dksX0_odd_2 0 rfl rfl)
theorem dX0_odd_50 : decode cX0_odd 50 = .ok (.iconst (-1), 1) := dk_2 (dk_at dksX0_odd_2 3 rfl rfl)
theorem dX0_odd_51 : decode cX0_odd 51 = .ok (.ireturn, 1) := dk_172 (dk_at dksX0_odd_2 4 rfl rfl)
abbrev cX0_spilt : ByteArray := prog_1_method_66_code
def yX0_spilt : MethodName := ⟨RX0, "spilt", "(I)I"⟩
def dkwX0_spilt_6 : List UInt8 := [167, 255, 223, 132, 5, 1, 167, 255, 179, 2, 172]
abbrev dktX0_spilt_6 : List UInt8 := dkwX0_spilt_6 ++ []
def dkwX0_spilt_5 : List UInt8 := [25, 4, 21, 6, 50, 25, 4, 21, 6, 4, 96, 50, 182, 1, 204, 154, 0, 6, 21, 5, 172, 132, 6, 1]
abbrev dktX0_spilt_5 : List UInt8 := dkwX0_spilt_5 ++ dktX0_spilt_6
def dkwX0_spilt_4 : List UInt8 := [45, 182, 1, 197, 87, 132, 6, 1, 167, 255, 236, 3, 54, 6, 21, 6, 4, 96, 16, 24, 162, 0, 30]
abbrev dktX0_spilt_4 : List UInt8 := dkwX0_spilt_4 ++ dktX0_spilt_5
def dkwX0_spilt_3 : List UInt8 := [21, 5, 44, 180, 0, 167, 162, 0, 74, 3, 54, 6, 21, 6, 16, 24, 162, 0, 19, 25, 4, 21, 6, 50]
abbrev dktX0_spilt_3 : List UInt8 := dkwX0_spilt_3 ++ dktX0_spilt_4
def dkwX0_spilt_2 : List UInt8 := [21, 5, 187, 1, 188, 89, 44, 21, 5, 4, 96, 183, 1, 190, 83, 132, 5, 1, 167, 255, 229, 3, 54, 5]
abbrev dktX0_spilt_2 : List UInt8 := dkwX0_spilt_2 ++ dktX0_spilt_3
def dkwX0_spilt_1 : List UInt8 := [184, 1, 193, 78, 16, 24, 189, 1, 188, 58, 4, 3, 54, 5, 21, 5, 16, 24, 162, 0, 26, 25, 4]
abbrev dktX0_spilt_1 : List UInt8 := dkwX0_spilt_1 ++ dktX0_spilt_2
def dkwX0_spilt_0 : List UInt8 := [27, 184, 0, 150, 154, 0, 5, 2, 172, 42, 27, 182, 0, 154, 77, 42, 180, 0, 22, 180, 1, 5]
abbrev dktX0_spilt_0 : List UInt8 := dkwX0_spilt_0 ++ dktX0_spilt_1
theorem dksX0_spilt_0 : cX0_spilt.data.toList.drop 0 = dktX0_spilt_0 := by decide +kernel
theorem dksX0_spilt_1 : cX0_spilt.data.toList.drop 22 = dktX0_spilt_1 := dk_seg dksX0_spilt_0 22 rfl rfl
theorem dksX0_spilt_2 : cX0_spilt.data.toList.drop 45 = dktX0_spilt_2 := dk_seg dksX0_spilt_1 23 rfl rfl
theorem dksX0_spilt_3 : cX0_spilt.data.toList.drop 69 = dktX0_spilt_3 := dk_seg dksX0_spilt_2 24 rfl rfl
theorem dksX0_spilt_4 : cX0_spilt.data.toList.drop 93 = dktX0_spilt_4 := dk_seg dksX0_spilt_3 24 rfl rfl
theorem dksX0_spilt_5 : cX0_spilt.data.toList.drop 116 = dktX0_spilt_5 := dk_seg dksX0_spilt_4 23 rfl rfl
theorem dksX0_spilt_6 : cX0_spilt.data.toList.drop 140 = dktX0_spilt_6 := dk_seg dksX0_spilt_5 24 rfl rfl
theorem dX0_spilt_0 : decode cX0_spilt 0 = .ok (.iload_n 1, 1) := dk_27 (dk_at dksX0_spilt_0 0 rfl rfl)
theorem dX0_spilt_1 : decode cX0_spilt 1 = .ok (.invokestatic 150, 3) := dk_184 0 150 (dk_at dksX0_spilt_0 1 rfl rfl)
theorem dX0_spilt_4 : decode cX0_spilt 4 = .ok (.ifCond .ne 5, 3) := dk_154 0 5 (dk_at dksX0_spilt_0 4 rfl rfl)
theorem dX0_spilt_7 : decode cX0_spilt 7 = .ok (.iconst (-1), 1) := dk_2 (dk_at dksX0_spilt_0 7 rfl rfl)
theorem dX0_spilt_8 : decode cX0_spilt 8 = .ok (.ireturn, 1) := dk_172 (dk_at dksX0_spilt_0 8 rfl rfl)
theorem dX0_spilt_9 : decode cX0_spilt 9 = .ok (.aload_n 0, 1) := dk_42 (dk_at dksX0_spilt_0 9 rfl rfl)
theorem dX0_spilt_10 : decode cX0_spilt 10 = .ok (.iload_n 1, 1) := dk_27 (dk_at dksX0_spilt_0 10 rfl rfl)
theorem dX0_spilt_11 : decode cX0_spilt 11 = .ok (.invokevirtual 154, 3) := dk_182 0 154 (dk_at dksX0_spilt_0 11 rfl rfl)
theorem dX0_spilt_14 : decode cX0_spilt 14 = .ok (.astore_n 2, 1) := dk_77 (dk_at dksX0_spilt_0 14 rfl rfl)
theorem dX0_spilt_15 : decode cX0_spilt 15 = .ok (.aload_n 0, 1) := dk_42 (dk_at dksX0_spilt_0 15 rfl rfl)
theorem dX0_spilt_16 : decode cX0_spilt 16 = .ok (.getfield 22, 3) := dk_180 0 22 (dk_at dksX0_spilt_0 16 rfl rfl)
theorem dX0_spilt_19 : decode cX0_spilt 19 = .ok (.getfield 261, 3) := dk_180 1 5 (dk_at dksX0_spilt_0 19 rfl rfl)
theorem dX0_spilt_22 : decode cX0_spilt 22 = .ok (.invokestatic 449, 3) := dk_184 1 193 (dk_at dksX0_spilt_1 0 rfl rfl)
theorem dX0_spilt_25 : decode cX0_spilt 25 = .ok (.astore_n 3, 1) := dk_78 (dk_at dksX0_spilt_1 3 rfl rfl)
theorem dX0_spilt_26 : decode cX0_spilt 26 = .ok (.bipush 24, 2) := dk_16 24 (dk_at dksX0_spilt_1 4 rfl rfl)
theorem dX0_spilt_28 : decode cX0_spilt 28 = .ok (.anewarray 444, 3) := dk_189 1 188 (dk_at dksX0_spilt_1 6 rfl rfl)
theorem dX0_spilt_31 : decode cX0_spilt 31 = .ok (.astore 4, 2) := dk_58 4 (dk_at dksX0_spilt_1 9 rfl rfl)
theorem dX0_spilt_33 : decode cX0_spilt 33 = .ok (.iconst 0, 1) := dk_3 (dk_at dksX0_spilt_1 11 rfl rfl)
theorem dX0_spilt_34 : decode cX0_spilt 34 = .ok (.istore 5, 2) := dk_54 5 (dk_at dksX0_spilt_1 12 rfl rfl)
theorem dX0_spilt_36 : decode cX0_spilt 36 = .ok (.iload 5, 2) := dk_21 5 (dk_at dksX0_spilt_1 14 rfl rfl)
theorem dX0_spilt_38 : decode cX0_spilt 38 = .ok (.bipush 24, 2) := dk_16 24 (dk_at dksX0_spilt_1 16 rfl rfl)
theorem dX0_spilt_40 : decode cX0_spilt 40 = .ok (.if_icmp .ge 26, 3) := dk_162 0 26 (dk_at dksX0_spilt_1 18 rfl rfl)
theorem dX0_spilt_43 : decode cX0_spilt 43 = .ok (.aload 4, 2) := dk_25 4 (dk_at dksX0_spilt_1 21 rfl rfl)
theorem dX0_spilt_45 : decode cX0_spilt 45 = .ok (.iload 5, 2) := dk_21 5 (dk_at dksX0_spilt_2 0 rfl rfl)
theorem dX0_spilt_47 : decode cX0_spilt 47 = .ok (.new 444, 3) := dk_187 1 188 (dk_at dksX0_spilt_2 2 rfl rfl)
theorem dX0_spilt_50 : decode cX0_spilt 50 = .ok (.dup, 1) := dk_89 (dk_at dksX0_spilt_2 5 rfl rfl)
theorem dX0_spilt_51 : decode cX0_spilt 51 = .ok (.aload_n 2, 1) := dk_44 (dk_at dksX0_spilt_2 6 rfl rfl)
theorem dX0_spilt_52 : decode cX0_spilt 52 = .ok (.iload 5, 2) := dk_21 5 (dk_at dksX0_spilt_2 7 rfl rfl)
theorem dX0_spilt_54 : decode cX0_spilt 54 = .ok (.iconst 1, 1) := dk_4 (dk_at dksX0_spilt_2 9 rfl rfl)
theorem dX0_spilt_55 : decode cX0_spilt 55 = .ok (.iadd, 1) := dk_96 (dk_at dksX0_spilt_2 10 rfl rfl)
theorem dX0_spilt_56 : decode cX0_spilt 56 = .ok (.invokespecial 446, 3) := dk_183 1 190 (dk_at dksX0_spilt_2 11 rfl rfl)
theorem dX0_spilt_59 : decode cX0_spilt 59 = .ok (.aastore, 1) := dk_83 (dk_at dksX0_spilt_2 14 rfl rfl)
theorem dX0_spilt_60 : decode cX0_spilt 60 = .ok (.iinc 5 1, 3) := dk_132 5 1 (dk_at dksX0_spilt_2 15 rfl rfl)
theorem dX0_spilt_63 : decode cX0_spilt 63 = .ok (.goto (-27), 3) := dk_167 255 229 (dk_at dksX0_spilt_2 18 rfl rfl)
theorem dX0_spilt_66 : decode cX0_spilt 66 = .ok (.iconst 0, 1) := dk_3 (dk_at dksX0_spilt_2 21 rfl rfl)
theorem dX0_spilt_67 : decode cX0_spilt 67 = .ok (.istore 5, 2) := dk_54 5 (dk_at dksX0_spilt_2 22 rfl rfl)
theorem dX0_spilt_69 : decode cX0_spilt 69 = .ok (.iload 5, 2) := dk_21 5 (dk_at dksX0_spilt_3 0 rfl rfl)
theorem dX0_spilt_71 : decode cX0_spilt 71 = .ok (.aload_n 2, 1) := dk_44 (dk_at dksX0_spilt_3 2 rfl rfl)
theorem dX0_spilt_72 : decode cX0_spilt 72 = .ok (.getfield 167, 3) := dk_180 0 167 (dk_at dksX0_spilt_3 3 rfl rfl)
theorem dX0_spilt_75 : decode cX0_spilt 75 = .ok (.if_icmp .ge 74, 3) := dk_162 0 74 (dk_at dksX0_spilt_3 6 rfl rfl)
theorem dX0_spilt_78 : decode cX0_spilt 78 = .ok (.iconst 0, 1) := dk_3 (dk_at dksX0_spilt_3 9 rfl rfl)
theorem dX0_spilt_79 : decode cX0_spilt 79 = .ok (.istore 6, 2) := dk_54 6 (dk_at dksX0_spilt_3 10 rfl rfl)
theorem dX0_spilt_81 : decode cX0_spilt 81 = .ok (.iload 6, 2) := dk_21 6 (dk_at dksX0_spilt_3 12 rfl rfl)
theorem dX0_spilt_83 : decode cX0_spilt 83 = .ok (.bipush 24, 2) := dk_16 24 (dk_at dksX0_spilt_3 14 rfl rfl)
theorem dX0_spilt_85 : decode cX0_spilt 85 = .ok (.if_icmp .ge 19, 3) := dk_162 0 19 (dk_at dksX0_spilt_3 16 rfl rfl)
theorem dX0_spilt_88 : decode cX0_spilt 88 = .ok (.aload 4, 2) := dk_25 4 (dk_at dksX0_spilt_3 19 rfl rfl)
theorem dX0_spilt_90 : decode cX0_spilt 90 = .ok (.iload 6, 2) := dk_21 6 (dk_at dksX0_spilt_3 21 rfl rfl)
theorem dX0_spilt_92 : decode cX0_spilt 92 = .ok (.aaload, 1) := dk_50 (dk_at dksX0_spilt_3 23 rfl rfl)
theorem dX0_spilt_93 : decode cX0_spilt 93 = .ok (.aload_n 3, 1) := dk_45 (dk_at dksX0_spilt_4 0 rfl rfl)
theorem dX0_spilt_94 : decode cX0_spilt 94 = .ok (.invokevirtual 453, 3) := dk_182 1 197 (dk_at dksX0_spilt_4 1 rfl rfl)
theorem dX0_spilt_97 : decode cX0_spilt 97 = .ok (.pop, 1) := dk_87 (dk_at dksX0_spilt_4 4 rfl rfl)
theorem dX0_spilt_98 : decode cX0_spilt 98 = .ok (.iinc 6 1, 3) := dk_132 6 1 (dk_at dksX0_spilt_4 5 rfl rfl)
theorem dX0_spilt_101 : decode cX0_spilt 101 = .ok (.goto (-20), 3) := dk_167 255 236 (dk_at dksX0_spilt_4 8 rfl rfl)
theorem dX0_spilt_104 : decode cX0_spilt 104 = .ok (.iconst 0, 1) := dk_3 (dk_at dksX0_spilt_4 11 rfl rfl)
theorem dX0_spilt_105 : decode cX0_spilt 105 = .ok (.istore 6, 2) := dk_54 6 (dk_at dksX0_spilt_4 12 rfl rfl)
theorem dX0_spilt_107 : decode cX0_spilt 107 = .ok (.iload 6, 2) := dk_21 6 (dk_at dksX0_spilt_4 14 rfl rfl)
theorem dX0_spilt_109 : decode cX0_spilt 109 = .ok (.iconst 1, 1) := dk_4 (dk_at dksX0_spilt_4 16 rfl rfl)
theorem dX0_spilt_110 : decode cX0_spilt 110 = .ok (.iadd, 1) := dk_96 (dk_at dksX0_spilt_4 17 rfl rfl)
theorem dX0_spilt_111 : decode cX0_spilt 111 = .ok (.bipush 24, 2) := dk_16 24 (dk_at dksX0_spilt_4 18 rfl rfl)
theorem dX0_spilt_113 : decode cX0_spilt 113 = .ok (.if_icmp .ge 30, 3) := dk_162 0 30 (dk_at dksX0_spilt_4 20 rfl rfl)
theorem dX0_spilt_116 : decode cX0_spilt 116 = .ok (.aload 4, 2) := dk_25 4 (dk_at dksX0_spilt_5 0 rfl rfl)
theorem dX0_spilt_118 : decode cX0_spilt 118 = .ok (.iload 6, 2) := dk_21 6 (dk_at dksX0_spilt_5 2 rfl rfl)
theorem dX0_spilt_120 : decode cX0_spilt 120 = .ok (.aaload, 1) := dk_50 (dk_at dksX0_spilt_5 4 rfl rfl)
theorem dX0_spilt_121 : decode cX0_spilt 121 = .ok (.aload 4, 2) := dk_25 4 (dk_at dksX0_spilt_5 5 rfl rfl)
theorem dX0_spilt_123 : decode cX0_spilt 123 = .ok (.iload 6, 2) := dk_21 6 (dk_at dksX0_spilt_5 7 rfl rfl)
theorem dX0_spilt_125 : decode cX0_spilt 125 = .ok (.iconst 1, 1) := dk_4 (dk_at dksX0_spilt_5 9 rfl rfl)
theorem dX0_spilt_126 : decode cX0_spilt 126 = .ok (.iadd, 1) := dk_96 (dk_at dksX0_spilt_5 10 rfl rfl)
theorem dX0_spilt_127 : decode cX0_spilt 127 = .ok (.aaload, 1) := dk_50 (dk_at dksX0_spilt_5 11 rfl rfl)
theorem dX0_spilt_128 : decode cX0_spilt 128 = .ok (.invokevirtual 460, 3) := dk_182 1 204 (dk_at dksX0_spilt_5 12 rfl rfl)
theorem dX0_spilt_131 : decode cX0_spilt 131 = .ok (.ifCond .ne 6, 3) := dk_154 0 6 (dk_at dksX0_spilt_5 15 rfl rfl)
theorem dX0_spilt_134 : decode cX0_spilt 134 = .ok (.iload 5, 2) := dk_21 5 (dk_at dksX0_spilt_5 18 rfl rfl)
theorem dX0_spilt_136 : decode cX0_spilt 136 = .ok (.ireturn, 1) := dk_172 (dk_at dksX0_spilt_5 20 rfl rfl)
theorem dX0_spilt_137 : decode cX0_spilt 137 = .ok (.iinc 6 1, 3) := dk_132 6 1 (dk_at dksX0_spilt_5 21 rfl rfl)
theorem dX0_spilt_140 : decode cX0_spilt 140 = .ok (.goto (-33), 3) := dk_167 255 223 (dk_at dksX0_spilt_6 0 rfl rfl)
theorem dX0_spilt_143 : decode cX0_spilt 143 = .ok (.iinc 5 1, 3) := dk_132 5 1 (dk_at dksX0_spilt_6 3 rfl rfl)
theorem dX0_spilt_146 : decode cX0_spilt 146 = .ok (.goto (-77), 3) := dk_167 255 179 (dk_at dksX0_spilt_6 6 rfl rfl)
theorem dX0_spilt_149 : decode cX0_spilt 149 = .ok (.iconst (-1), 1) := dk_2 (dk_at dksX0_spilt_6 9 rfl rfl)
theorem dX0_spilt_150 : decode cX0_spilt 150 = .ok (.ireturn, 1) := dk_172 (dk_at dksX0_spilt_6 10 rfl rfl)
abbrev cX0_seen : ByteArray := prog_1_method_67_code
def yX0_seen : MethodName := ⟨RX0, "seen", "(II)I"⟩
def dkwX0_seen_3 : List UInt8 := [4, 28, 79, 42, 42, 180, 0, 22, 180, 1, 210, 182, 0, 129, 172]
abbrev dktX0_seen_3 : List UInt8 := dkwX0_seen_3 ++ []
def dkwX0_seen_2 : List UInt8 := [180, 1, 213, 42, 180, 0, 22, 89, 180, 1, 210, 90, 4, 96, 181, 1, 210, 50, 78, 45, 3, 27, 79, 45]
abbrev dktX0_seen_2 : List UInt8 := dkwX0_seen_2 ++ dktX0_seen_3
def dkwX0_seen_1 : List UInt8 := [172, 42, 180, 0, 22, 180, 1, 210, 16, 6, 160, 0, 10, 42, 16, 251, 182, 0, 129, 172, 42, 180, 0, 22]
abbrev dktX0_seen_1 : List UInt8 := dkwX0_seen_1 ++ dktX0_seen_2
def dkwX0_seen_0 : List UInt8 := [27, 184, 1, 111, 153, 0, 15, 28, 133, 9, 20, 1, 208, 184, 0, 5, 154, 0, 9, 42, 2, 182, 0, 129]
abbrev dktX0_seen_0 : List UInt8 := dkwX0_seen_0 ++ dktX0_seen_1
theorem dksX0_seen_0 : cX0_seen.data.toList.drop 0 = dktX0_seen_0 := by decide +kernel
theorem dksX0_seen_1 : cX0_seen.data.toList.drop 24 = dktX0_seen_1 := dk_seg dksX0_seen_0 24 rfl rfl
theorem dksX0_seen_2 : cX0_seen.data.toList.drop 48 = dktX0_seen_2 := dk_seg dksX0_seen_1 24 rfl rfl
theorem dksX0_seen_3 : cX0_seen.data.toList.drop 72 = dktX0_seen_3 := dk_seg dksX0_seen_2 24 rfl rfl
theorem dX0_seen_0 : decode cX0_seen 0 = .ok (.iload_n 1, 1) := dk_27 (dk_at dksX0_seen_0 0 rfl rfl)
theorem dX0_seen_1 : decode cX0_seen 1 = .ok (.invokestatic 367, 3) := dk_184 1 111 (dk_at dksX0_seen_0 1 rfl rfl)
theorem dX0_seen_4 : decode cX0_seen 4 = .ok (.ifCond .eq 15, 3) := dk_153 0 15 (dk_at dksX0_seen_0 4 rfl rfl)
theorem dX0_seen_7 : decode cX0_seen 7 = .ok (.iload_n 2, 1) := dk_28 (dk_at dksX0_seen_0 7 rfl rfl)
theorem dX0_seen_8 : decode cX0_seen 8 = .ok (.i2l, 1) := dk_133 (dk_at dksX0_seen_0 8 rfl rfl)
theorem dX0_seen_9 : decode cX0_seen 9 = .ok (.lconst 0, 1) := dk_9 (dk_at dksX0_seen_0 9 rfl rfl)
theorem dX0_seen_10 : decode cX0_seen 10 = .ok (.ldc2_w 464, 3) := dk_20 1 208 (dk_at dksX0_seen_0 10 rfl rfl)
theorem dX0_seen_13 : decode cX0_seen 13 = .ok (.invokestatic 5, 3) := dk_184 0 5 (dk_at dksX0_seen_0 13 rfl rfl)
theorem dX0_seen_16 : decode cX0_seen 16 = .ok (.ifCond .ne 9, 3) := dk_154 0 9 (dk_at dksX0_seen_0 16 rfl rfl)
theorem dX0_seen_19 : decode cX0_seen 19 = .ok (.aload_n 0, 1) := dk_42 (dk_at dksX0_seen_0 19 rfl rfl)
theorem dX0_seen_20 : decode cX0_seen 20 = .ok (.iconst (-1), 1) := dk_2 (dk_at dksX0_seen_0 20 rfl rfl)
theorem dX0_seen_21 : decode cX0_seen 21 = .ok (.invokevirtual 129, 3) := dk_182 0 129 (dk_at dksX0_seen_0 21 rfl rfl)
theorem dX0_seen_24 : decode cX0_seen 24 = .ok (.ireturn, 1) := dk_172 (dk_at dksX0_seen_1 0 rfl rfl)
theorem dX0_seen_25 : decode cX0_seen 25 = .ok (.aload_n 0, 1) := dk_42 (dk_at dksX0_seen_1 1 rfl rfl)
theorem dX0_seen_26 : decode cX0_seen 26 = .ok (.getfield 22, 3) := dk_180 0 22 (dk_at dksX0_seen_1 2 rfl rfl)
theorem dX0_seen_29 : decode cX0_seen 29 = .ok (.getfield 466, 3) := dk_180 1 210 (dk_at dksX0_seen_1 5 rfl rfl)
theorem dX0_seen_32 : decode cX0_seen 32 = .ok (.bipush 6, 2) := dk_16 6 (dk_at dksX0_seen_1 8 rfl rfl)
theorem dX0_seen_34 : decode cX0_seen 34 = .ok (.if_icmp .ne 10, 3) := dk_160 0 10 (dk_at dksX0_seen_1 10 rfl rfl)
theorem dX0_seen_37 : decode cX0_seen 37 = .ok (.aload_n 0, 1) := dk_42 (dk_at dksX0_seen_1 13 rfl rfl)
theorem dX0_seen_38 : decode cX0_seen 38 = .ok (.bipush (-5), 2) := dk_16 251 (dk_at dksX0_seen_1 14 rfl rfl)
theorem dX0_seen_40 : decode cX0_seen 40 = .ok (.invokevirtual 129, 3) := dk_182 0 129 (dk_at dksX0_seen_1 16 rfl rfl)
theorem dX0_seen_43 : decode cX0_seen 43 = .ok (.ireturn, 1) := dk_172 (dk_at dksX0_seen_1 19 rfl rfl)
theorem dX0_seen_44 : decode cX0_seen 44 = .ok (.aload_n 0, 1) := dk_42 (dk_at dksX0_seen_1 20 rfl rfl)
theorem dX0_seen_45 : decode cX0_seen 45 = .ok (.getfield 22, 3) := dk_180 0 22 (dk_at dksX0_seen_1 21 rfl rfl)
theorem dX0_seen_48 : decode cX0_seen 48 = .ok (.getfield 469, 3) := dk_180 1 213 (dk_at dksX0_seen_2 0 rfl rfl)
theorem dX0_seen_51 : decode cX0_seen 51 = .ok (.aload_n 0, 1) := dk_42 (dk_at dksX0_seen_2 3 rfl rfl)
theorem dX0_seen_52 : decode cX0_seen 52 = .ok (.getfield 22, 3) := dk_180 0 22 (dk_at dksX0_seen_2 4 rfl rfl)
theorem dX0_seen_55 : decode cX0_seen 55 = .ok (.dup, 1) := dk_89 (dk_at dksX0_seen_2 7 rfl rfl)
theorem dX0_seen_56 : decode cX0_seen 56 = .ok (.getfield 466, 3) := dk_180 1 210 (dk_at dksX0_seen_2 8 rfl rfl)
theorem dX0_seen_59 : decode cX0_seen 59 = .ok (.dup_x1, 1) := dk_90 (dk_at dksX0_seen_2 11 rfl rfl)
theorem dX0_seen_60 : decode cX0_seen 60 = .ok (.iconst 1, 1) := dk_4 (dk_at dksX0_seen_2 12 rfl rfl)
theorem dX0_seen_61 : decode cX0_seen 61 = .ok (.iadd, 1) := dk_96 (dk_at dksX0_seen_2 13 rfl rfl)
theorem dX0_seen_62 : decode cX0_seen 62 = .ok (.putfield 466, 3) := dk_181 1 210 (dk_at dksX0_seen_2 14 rfl rfl)
theorem dX0_seen_65 : decode cX0_seen 65 = .ok (.aaload, 1) := dk_50 (dk_at dksX0_seen_2 17 rfl rfl)
theorem dX0_seen_66 : decode cX0_seen 66 = .ok (.astore_n 3, 1) := dk_78 (dk_at dksX0_seen_2 18 rfl rfl)
theorem dX0_seen_67 : decode cX0_seen 67 = .ok (.aload_n 3, 1) := dk_45 (dk_at dksX0_seen_2 19 rfl rfl)
theorem dX0_seen_68 : decode cX0_seen 68 = .ok (.iconst 0, 1) := dk_3 (dk_at dksX0_seen_2 20 rfl rfl)
theorem dX0_seen_69 : decode cX0_seen 69 = .ok (.iload_n 1, 1) := dk_27 (dk_at dksX0_seen_2 21 rfl rfl)
theorem dX0_seen_70 : decode cX0_seen 70 = .ok (.iastore, 1) := dk_79 (dk_at dksX0_seen_2 22 rfl rfl)
theorem dX0_seen_71 : decode cX0_seen 71 = .ok (.aload_n 3, 1) := dk_45 (dk_at dksX0_seen_2 23 rfl rfl)
theorem dX0_seen_72 : decode cX0_seen 72 = .ok (.iconst 1, 1) := dk_4 (dk_at dksX0_seen_3 0 rfl rfl)
theorem dX0_seen_73 : decode cX0_seen 73 = .ok (.iload_n 2, 1) := dk_28 (dk_at dksX0_seen_3 1 rfl rfl)
theorem dX0_seen_74 : decode cX0_seen 74 = .ok (.iastore, 1) := dk_79 (dk_at dksX0_seen_3 2 rfl rfl)
theorem dX0_seen_75 : decode cX0_seen 75 = .ok (.aload_n 0, 1) := dk_42 (dk_at dksX0_seen_3 3 rfl rfl)
theorem dX0_seen_76 : decode cX0_seen 76 = .ok (.aload_n 0, 1) := dk_42 (dk_at dksX0_seen_3 4 rfl rfl)
theorem dX0_seen_77 : decode cX0_seen 77 = .ok (.getfield 22, 3) := dk_180 0 22 (dk_at dksX0_seen_3 5 rfl rfl)
theorem dX0_seen_80 : decode cX0_seen 80 = .ok (.getfield 466, 3) := dk_180 1 210 (dk_at dksX0_seen_3 8 rfl rfl)
theorem dX0_seen_83 : decode cX0_seen 83 = .ok (.invokevirtual 129, 3) := dk_182 0 129 (dk_at dksX0_seen_3 11 rfl rfl)
theorem dX0_seen_86 : decode cX0_seen 86 = .ok (.ireturn, 1) := dk_172 (dk_at dksX0_seen_3 14 rfl rfl)
abbrev cX0_forget : ByteArray := prog_1_method_68_code
def yX0_forget : MethodName := ⟨RX0, "forget", "()I"⟩
def dkwX0_forget_0 : List UInt8 := [42, 180, 0, 22, 180, 1, 210, 60, 42, 180, 0, 22, 3, 181, 1, 210, 27, 172]
abbrev dktX0_forget_0 : List UInt8 := dkwX0_forget_0 ++ []
theorem dksX0_forget_0 : cX0_forget.data.toList.drop 0 = dktX0_forget_0 := by decide +kernel
theorem dX0_forget_0 : decode cX0_forget 0 = .ok (.aload_n 0, 1) := dk_42 (dk_at dksX0_forget_0 0 rfl rfl)
theorem dX0_forget_1 : decode cX0_forget 1 = .ok (.getfield 22, 3) := dk_180 0 22 (dk_at dksX0_forget_0 1 rfl rfl)
theorem dX0_forget_4 : decode cX0_forget 4 = .ok (.getfield 466, 3) := dk_180 1 210 (dk_at dksX0_forget_0 4 rfl rfl)
theorem dX0_forget_7 : decode cX0_forget 7 = .ok (.istore_n 1, 1) := dk_60 (dk_at dksX0_forget_0 7 rfl rfl)
theorem dX0_forget_8 : decode cX0_forget 8 = .ok (.aload_n 0, 1) := dk_42 (dk_at dksX0_forget_0 8 rfl rfl)
theorem dX0_forget_9 : decode cX0_forget 9 = .ok (.getfield 22, 3) := dk_180 0 22 (dk_at dksX0_forget_0 9 rfl rfl)
theorem dX0_forget_12 : decode cX0_forget 12 = .ok (.iconst 0, 1) := dk_3 (dk_at dksX0_forget_0 12 rfl rfl)
theorem dX0_forget_13 : decode cX0_forget 13 = .ok (.putfield 466, 3) := dk_181 1 210 (dk_at dksX0_forget_0 13 rfl rfl)
theorem dX0_forget_16 : decode cX0_forget 16 = .ok (.iload_n 1, 1) := dk_27 (dk_at dksX0_forget_0 16 rfl rfl)
theorem dX0_forget_17 : decode cX0_forget 17 = .ok (.ireturn, 1) := dk_172 (dk_at dksX0_forget_0 17 rfl rfl)
abbrev cX0_canBe : ByteArray := prog_1_method_69_code
def yX0_canBe : MethodName := ⟨RX0, "canBe", "()I"⟩
def dkwX0_canBe_4 : List UInt8 := [167, 255, 168, 27, 172]
abbrev dktX0_canBe_4 : List UInt8 := dkwX0_canBe_4 ++ []
def dkwX0_canBe_3 : List UInt8 := [132, 4, 1, 167, 255, 198, 27, 29, 153, 0, 9, 4, 28, 120, 167, 0, 4, 3, 128, 60, 132, 2, 1]
abbrev dktX0_canBe_3 : List UInt8 := dkwX0_canBe_3 ++ dktX0_canBe_4
def dkwX0_canBe_2 : List UInt8 := [42, 180, 0, 22, 180, 1, 213, 21, 4, 50, 4, 46, 160, 0, 7, 4, 167, 0, 4, 3, 126, 62]
abbrev dktX0_canBe_2 : List UInt8 := dkwX0_canBe_2 ++ dktX0_canBe_3
def dkwX0_canBe_1 : List UInt8 := [162, 0, 52, 29, 42, 28, 182, 0, 154, 42, 180, 0, 22, 180, 1, 213, 21, 4, 50, 3, 46, 182, 1, 114]
abbrev dktX0_canBe_1 : List UInt8 := dkwX0_canBe_1 ++ dktX0_canBe_2
def dkwX0_canBe_0 : List UInt8 := [3, 60, 3, 61, 28, 7, 162, 0, 89, 4, 62, 3, 54, 4, 21, 4, 42, 180, 0, 22, 180, 1, 210]
abbrev dktX0_canBe_0 : List UInt8 := dkwX0_canBe_0 ++ dktX0_canBe_1
theorem dksX0_canBe_0 : cX0_canBe.data.toList.drop 0 = dktX0_canBe_0 := by decide +kernel
theorem dksX0_canBe_1 : cX0_canBe.data.toList.drop 23 = dktX0_canBe_1 := dk_seg dksX0_canBe_0 23 rfl rfl
theorem dksX0_canBe_2 : cX0_canBe.data.toList.drop 47 = dktX0_canBe_2 := dk_seg dksX0_canBe_1 24 rfl rfl
theorem dksX0_canBe_3 : cX0_canBe.data.toList.drop 69 = dktX0_canBe_3 := dk_seg dksX0_canBe_2 22 rfl rfl
theorem dksX0_canBe_4 : cX0_canBe.data.toList.drop 92 = dktX0_canBe_4 := dk_seg dksX0_canBe_3 23 rfl rfl
theorem dX0_canBe_0 : decode cX0_canBe 0 = .ok (.iconst 0, 1) := dk_3 (dk_at dksX0_canBe_0 0 rfl rfl)
theorem dX0_canBe_1 : decode cX0_canBe 1 = .ok (.istore_n 1, 1) := dk_60 (dk_at dksX0_canBe_0 1 rfl rfl)
theorem dX0_canBe_2 : decode cX0_canBe 2 = .ok (.iconst 0, 1) := dk_3 (dk_at dksX0_canBe_0 2 rfl rfl)
theorem dX0_canBe_3 : decode cX0_canBe 3 = .ok (.istore_n 2, 1) := dk_61 (dk_at dksX0_canBe_0 3 rfl rfl)
theorem dX0_canBe_4 : decode cX0_canBe 4 = .ok (.iload_n 2, 1) := dk_28 (dk_at dksX0_canBe_0 4 rfl rfl)
theorem dX0_canBe_5 : decode cX0_canBe 5 = .ok (.iconst 4, 1) := dk_7 (dk_at dksX0_canBe_0 5 rfl rfl)
theorem dX0_canBe_6 : decode cX0_canBe 6 = .ok (.if_icmp .ge 89, 3) := dk_162 0 89 (dk_at dksX0_canBe_0 6 rfl rfl)
theorem dX0_canBe_9 : decode cX0_canBe 9 = .ok (.iconst 1, 1) := dk_4 (dk_at dksX0_canBe_0 9 rfl rfl)
theorem dX0_canBe_10 : decode cX0_canBe 10 = .ok (.istore_n 3, 1) := dk_62 (dk_at dksX0_canBe_0 10 rfl rfl)
theorem dX0_canBe_11 : decode cX0_canBe 11 = .ok (.iconst 0, 1) := dk_3 (dk_at dksX0_canBe_0 11 rfl rfl)
theorem dX0_canBe_12 : decode cX0_canBe 12 = .ok (.istore 4, 2) := dk_54 4 (dk_at dksX0_canBe_0 12 rfl rfl)
theorem dX0_canBe_14 : decode cX0_canBe 14 = .ok (.iload 4, 2) := dk_21 4 (dk_at dksX0_canBe_0 14 rfl rfl)
theorem dX0_canBe_16 : decode cX0_canBe 16 = .ok (.aload_n 0, 1) := dk_42 (dk_at dksX0_canBe_0 16 rfl rfl)
theorem dX0_canBe_17 : decode cX0_canBe 17 = .ok (.getfield 22, 3) := dk_180 0 22 (dk_at dksX0_canBe_0 17 rfl rfl)
theorem dX0_canBe_20 : decode cX0_canBe 20 = .ok (.getfield 466, 3) := dk_180 1 210 (dk_at dksX0_canBe_0 20 rfl rfl)
theorem dX0_canBe_23 : decode cX0_canBe 23 = .ok (.if_icmp .ge 52, 3) := dk_162 0 52 (dk_at dksX0_canBe_1 0 rfl rfl)
theorem dX0_canBe_26 : decode cX0_canBe 26 = .ok (.iload_n 3, 1) := dk_29 (dk_at dksX0_canBe_1 3 rfl rfl)
theorem dX0_canBe_27 : decode cX0_canBe 27 = .ok (.aload_n 0, 1) := dk_42 (dk_at dksX0_canBe_1 4 rfl rfl)
theorem dX0_canBe_28 : decode cX0_canBe 28 = .ok (.iload_n 2, 1) := dk_28 (dk_at dksX0_canBe_1 5 rfl rfl)
theorem dX0_canBe_29 : decode cX0_canBe 29 = .ok (.invokevirtual 154, 3) := dk_182 0 154 (dk_at dksX0_canBe_1 6 rfl rfl)
theorem dX0_canBe_32 : decode cX0_canBe 32 = .ok (.aload_n 0, 1) := dk_42 (dk_at dksX0_canBe_1 9 rfl rfl)
theorem dX0_canBe_33 : decode cX0_canBe 33 = .ok (.getfield 22, 3) := dk_180 0 22 (dk_at dksX0_canBe_1 10 rfl rfl)
theorem dX0_canBe_36 : decode cX0_canBe 36 = .ok (.getfield 469, 3) := dk_180 1 213 (dk_at dksX0_canBe_1 13 rfl rfl)
theorem dX0_canBe_39 : decode cX0_canBe 39 = .ok (.iload 4, 2) := dk_21 4 (dk_at dksX0_canBe_1 16 rfl rfl)
theorem dX0_canBe_41 : decode cX0_canBe 41 = .ok (.aaload, 1) := dk_50 (dk_at dksX0_canBe_1 18 rfl rfl)
theorem dX0_canBe_42 : decode cX0_canBe 42 = .ok (.iconst 0, 1) := dk_3 (dk_at dksX0_canBe_1 19 rfl rfl)
theorem dX0_canBe_43 : decode cX0_canBe 43 = .ok (.iaload, 1) := dk_46 (dk_at dksX0_canBe_1 20 rfl rfl)
theorem dX0_canBe_44 : decode cX0_canBe 44 = .ok (.invokevirtual 370, 3) := dk_182 1 114 (dk_at dksX0_canBe_1 21 rfl rfl)
theorem dX0_canBe_47 : decode cX0_canBe 47 = .ok (.aload_n 0, 1) := dk_42 (dk_at dksX0_canBe_2 0 rfl rfl)
theorem dX0_canBe_48 : decode cX0_canBe 48 = .ok (.getfield 22, 3) := dk_180 0 22 (dk_at dksX0_canBe_2 1 rfl rfl)
theorem dX0_canBe_51 : decode cX0_canBe 51 = .ok (.getfield 469, 3) := dk_180 1 213 (dk_at dksX0_canBe_2 4 rfl rfl)
theorem dX0_canBe_54 : decode cX0_canBe 54 = .ok (.iload 4, 2) := dk_21 4 (dk_at dksX0_canBe_2 7 rfl rfl)
theorem dX0_canBe_56 : decode cX0_canBe 56 = .ok (.aaload, 1) := dk_50 (dk_at dksX0_canBe_2 9 rfl rfl)
theorem dX0_canBe_57 : decode cX0_canBe 57 = .ok (.iconst 1, 1) := dk_4 (dk_at dksX0_canBe_2 10 rfl rfl)
theorem dX0_canBe_58 : decode cX0_canBe 58 = .ok (.iaload, 1) := dk_46 (dk_at dksX0_canBe_2 11 rfl rfl)
theorem dX0_canBe_59 : decode cX0_canBe 59 = .ok (.if_icmp .ne 7, 3) := dk_160 0 7 (dk_at dksX0_canBe_2 12 rfl rfl)
theorem dX0_canBe_62 : decode cX0_canBe 62 = .ok (.iconst 1, 1) := dk_4 (dk_at dksX0_canBe_2 15 rfl rfl)
theorem dX0_canBe_63 : decode cX0_canBe 63 = .ok (.goto 4, 3) := dk_167 0 4 (dk_at dksX0_canBe_2 16 rfl rfl)
theorem dX0_canBe_66 : decode cX0_canBe 66 = .ok (.iconst 0, 1) := dk_3 (dk_at dksX0_canBe_2 19 rfl rfl)
theorem dX0_canBe_67 : decode cX0_canBe 67 = .ok (.iand, 1) := dk_126 (dk_at dksX0_canBe_2 20 rfl rfl)
theorem dX0_canBe_68 : decode cX0_canBe 68 = .ok (.istore_n 3, 1) := dk_62 (dk_at dksX0_canBe_2 21 rfl rfl)
theorem dX0_canBe_69 : decode cX0_canBe 69 = .ok (.iinc 4 1, 3) := dk_132 4 1 (dk_at dksX0_canBe_3 0 rfl rfl)
theorem dX0_canBe_72 : decode cX0_canBe 72 = .ok (.goto (-58), 3) := dk_167 255 198 (dk_at dksX0_canBe_3 3 rfl rfl)
theorem dX0_canBe_75 : decode cX0_canBe 75 = .ok (.iload_n 1, 1) := dk_27 (dk_at dksX0_canBe_3 6 rfl rfl)
theorem dX0_canBe_76 : decode cX0_canBe 76 = .ok (.iload_n 3, 1) := dk_29 (dk_at dksX0_canBe_3 7 rfl rfl)
theorem dX0_canBe_77 : decode cX0_canBe 77 = .ok (.ifCond .eq 9, 3) := dk_153 0 9 (dk_at dksX0_canBe_3 8 rfl rfl)
theorem dX0_canBe_80 : decode cX0_canBe 80 = .ok (.iconst 1, 1) := dk_4 (dk_at dksX0_canBe_3 11 rfl rfl)
theorem dX0_canBe_81 : decode cX0_canBe 81 = .ok (.iload_n 2, 1) := dk_28 (dk_at dksX0_canBe_3 12 rfl rfl)
theorem dX0_canBe_82 : decode cX0_canBe 82 = .ok (.ishl, 1) := dk_120 (dk_at dksX0_canBe_3 13 rfl rfl)
theorem dX0_canBe_83 : decode cX0_canBe 83 = .ok (.goto 4, 3) := dk_167 0 4 (dk_at dksX0_canBe_3 14 rfl rfl)
theorem dX0_canBe_86 : decode cX0_canBe 86 = .ok (.iconst 0, 1) := dk_3 (dk_at dksX0_canBe_3 17 rfl rfl)
theorem dX0_canBe_87 : decode cX0_canBe 87 = .ok (.ior, 1) := dk_128 (dk_at dksX0_canBe_3 18 rfl rfl)
theorem dX0_canBe_88 : decode cX0_canBe 88 = .ok (.istore_n 1, 1) := dk_60 (dk_at dksX0_canBe_3 19 rfl rfl)
theorem dX0_canBe_89 : decode cX0_canBe 89 = .ok (.iinc 2 1, 3) := dk_132 2 1 (dk_at dksX0_canBe_3 20 rfl rfl)
theorem dX0_canBe_92 : decode cX0_canBe 92 = .ok (.goto (-88), 3) := dk_167 255 168 (dk_at dksX0_canBe_4 0 rfl rfl)
theorem dX0_canBe_95 : decode cX0_canBe 95 = .ok (.iload_n 1, 1) := dk_27 (dk_at dksX0_canBe_4 3 rfl rfl)
theorem dX0_canBe_96 : decode cX0_canBe 96 = .ok (.ireturn, 1) := dk_172 (dk_at dksX0_canBe_4 4 rfl rfl)
abbrev cX0_ask : ByteArray := prog_1_method_71_code
def yX0_ask : MethodName := ⟨RX0, "ask", "(I)I"⟩
def dkwX0_ask_3 : List UInt8 := [154, 0, 8, 21, 4, 167, 0, 4, 29, 172]
abbrev dktX0_ask_3 : List UInt8 := dkwX0_ask_3 ++ []
def dkwX0_ask_2 : List UInt8 := [21, 6, 29, 161, 0, 6, 167, 0, 10, 21, 6, 62, 21, 5, 54, 4, 132, 5, 1, 167, 255, 221, 27]
abbrev dktX0_ask_2 : List UInt8 := dkwX0_ask_2 ++ dktX0_ask_3
def dkwX0_ask_1 : List UInt8 := [154, 0, 5, 2, 172, 3, 54, 5, 21, 5, 16, 24, 163, 0, 34, 42, 28, 21, 5, 182, 1, 221, 54, 6]
abbrev dktX0_ask_1 : List UInt8 := dkwX0_ask_1 ++ dktX0_ask_2
def dkwX0_ask_0 : List UInt8 := [42, 182, 1, 218, 61, 19, 1, 184, 62, 2, 54, 4, 27, 133, 9, 10, 184, 0, 5, 153, 0, 7, 28]
abbrev dktX0_ask_0 : List UInt8 := dkwX0_ask_0 ++ dktX0_ask_1
theorem dksX0_ask_0 : cX0_ask.data.toList.drop 0 = dktX0_ask_0 := by decide +kernel
theorem dksX0_ask_1 : cX0_ask.data.toList.drop 23 = dktX0_ask_1 := dk_seg dksX0_ask_0 23 rfl rfl
theorem dksX0_ask_2 : cX0_ask.data.toList.drop 47 = dktX0_ask_2 := dk_seg dksX0_ask_1 24 rfl rfl
theorem dksX0_ask_3 : cX0_ask.data.toList.drop 70 = dktX0_ask_3 := dk_seg dksX0_ask_2 23 rfl rfl
theorem dX0_ask_0 : decode cX0_ask 0 = .ok (.aload_n 0, 1) := dk_42 (dk_at dksX0_ask_0 0 rfl rfl)
theorem dX0_ask_1 : decode cX0_ask 1 = .ok (.invokevirtual 474, 3) := dk_182 1 218 (dk_at dksX0_ask_0 1 rfl rfl)
theorem dX0_ask_4 : decode cX0_ask 4 = .ok (.istore_n 2, 1) := dk_61 (dk_at dksX0_ask_0 4 rfl rfl)
theorem dX0_ask_5 : decode cX0_ask 5 = .ok (.ldc_w 440, 3) := dk_19 1 184 (dk_at dksX0_ask_0 5 rfl rfl)
theorem dX0_ask_8 : decode cX0_ask 8 = .ok (.istore_n 3, 1) := dk_62 (dk_at dksX0_ask_0 8 rfl rfl)
theorem dX0_ask_9 : decode cX0_ask 9 = .ok (.iconst (-1), 1) := dk_2 (dk_at dksX0_ask_0 9 rfl rfl)
theorem dX0_ask_10 : decode cX0_ask 10 = .ok (.istore 4, 2) := dk_54 4 (dk_at dksX0_ask_0 10 rfl rfl)
theorem dX0_ask_12 : decode cX0_ask 12 = .ok (.iload_n 1, 1) := dk_27 (dk_at dksX0_ask_0 12 rfl rfl)
theorem dX0_ask_13 : decode cX0_ask 13 = .ok (.i2l, 1) := dk_133 (dk_at dksX0_ask_0 13 rfl rfl)
theorem dX0_ask_14 : decode cX0_ask 14 = .ok (.lconst 0, 1) := dk_9 (dk_at dksX0_ask_0 14 rfl rfl)
theorem dX0_ask_15 : decode cX0_ask 15 = .ok (.lconst 1, 1) := dk_10 (dk_at dksX0_ask_0 15 rfl rfl)
theorem dX0_ask_16 : decode cX0_ask 16 = .ok (.invokestatic 5, 3) := dk_184 0 5 (dk_at dksX0_ask_0 16 rfl rfl)
theorem dX0_ask_19 : decode cX0_ask 19 = .ok (.ifCond .eq 7, 3) := dk_153 0 7 (dk_at dksX0_ask_0 19 rfl rfl)
theorem dX0_ask_22 : decode cX0_ask 22 = .ok (.iload_n 2, 1) := dk_28 (dk_at dksX0_ask_0 22 rfl rfl)
theorem dX0_ask_23 : decode cX0_ask 23 = .ok (.ifCond .ne 5, 3) := dk_154 0 5 (dk_at dksX0_ask_1 0 rfl rfl)
theorem dX0_ask_26 : decode cX0_ask 26 = .ok (.iconst (-1), 1) := dk_2 (dk_at dksX0_ask_1 3 rfl rfl)
theorem dX0_ask_27 : decode cX0_ask 27 = .ok (.ireturn, 1) := dk_172 (dk_at dksX0_ask_1 4 rfl rfl)
theorem dX0_ask_28 : decode cX0_ask 28 = .ok (.iconst 0, 1) := dk_3 (dk_at dksX0_ask_1 5 rfl rfl)
theorem dX0_ask_29 : decode cX0_ask 29 = .ok (.istore 5, 2) := dk_54 5 (dk_at dksX0_ask_1 6 rfl rfl)
theorem dX0_ask_31 : decode cX0_ask 31 = .ok (.iload 5, 2) := dk_21 5 (dk_at dksX0_ask_1 8 rfl rfl)
theorem dX0_ask_33 : decode cX0_ask 33 = .ok (.bipush 24, 2) := dk_16 24 (dk_at dksX0_ask_1 10 rfl rfl)
theorem dX0_ask_35 : decode cX0_ask 35 = .ok (.if_icmp .gt 34, 3) := dk_163 0 34 (dk_at dksX0_ask_1 12 rfl rfl)
theorem dX0_ask_38 : decode cX0_ask 38 = .ok (.aload_n 0, 1) := dk_42 (dk_at dksX0_ask_1 15 rfl rfl)
theorem dX0_ask_39 : decode cX0_ask 39 = .ok (.iload_n 2, 1) := dk_28 (dk_at dksX0_ask_1 16 rfl rfl)
theorem dX0_ask_40 : decode cX0_ask 40 = .ok (.iload 5, 2) := dk_21 5 (dk_at dksX0_ask_1 17 rfl rfl)
theorem dX0_ask_42 : decode cX0_ask 42 = .ok (.invokevirtual 477, 3) := dk_182 1 221 (dk_at dksX0_ask_1 19 rfl rfl)
theorem dX0_ask_45 : decode cX0_ask 45 = .ok (.istore 6, 2) := dk_54 6 (dk_at dksX0_ask_1 22 rfl rfl)
theorem dX0_ask_47 : decode cX0_ask 47 = .ok (.iload 6, 2) := dk_21 6 (dk_at dksX0_ask_2 0 rfl rfl)
theorem dX0_ask_49 : decode cX0_ask 49 = .ok (.iload_n 3, 1) := dk_29 (dk_at dksX0_ask_2 2 rfl rfl)
theorem dX0_ask_50 : decode cX0_ask 50 = .ok (.if_icmp .lt 6, 3) := dk_161 0 6 (dk_at dksX0_ask_2 3 rfl rfl)
theorem dX0_ask_53 : decode cX0_ask 53 = .ok (.goto 10, 3) := dk_167 0 10 (dk_at dksX0_ask_2 6 rfl rfl)
theorem dX0_ask_56 : decode cX0_ask 56 = .ok (.iload 6, 2) := dk_21 6 (dk_at dksX0_ask_2 9 rfl rfl)
theorem dX0_ask_58 : decode cX0_ask 58 = .ok (.istore_n 3, 1) := dk_62 (dk_at dksX0_ask_2 11 rfl rfl)
theorem dX0_ask_59 : decode cX0_ask 59 = .ok (.iload 5, 2) := dk_21 5 (dk_at dksX0_ask_2 12 rfl rfl)
theorem dX0_ask_61 : decode cX0_ask 61 = .ok (.istore 4, 2) := dk_54 4 (dk_at dksX0_ask_2 14 rfl rfl)
theorem dX0_ask_63 : decode cX0_ask 63 = .ok (.iinc 5 1, 3) := dk_132 5 1 (dk_at dksX0_ask_2 16 rfl rfl)
theorem dX0_ask_66 : decode cX0_ask 66 = .ok (.goto (-35), 3) := dk_167 255 221 (dk_at dksX0_ask_2 19 rfl rfl)
theorem dX0_ask_69 : decode cX0_ask 69 = .ok (.iload_n 1, 1) := dk_27 (dk_at dksX0_ask_2 22 rfl rfl)
theorem dX0_ask_70 : decode cX0_ask 70 = .ok (.ifCond .ne 8, 3) := dk_154 0 8 (dk_at dksX0_ask_3 0 rfl rfl)
theorem dX0_ask_73 : decode cX0_ask 73 = .ok (.iload 4, 2) := dk_21 4 (dk_at dksX0_ask_3 3 rfl rfl)
theorem dX0_ask_75 : decode cX0_ask 75 = .ok (.goto 4, 3) := dk_167 0 4 (dk_at dksX0_ask_3 5 rfl rfl)
theorem dX0_ask_78 : decode cX0_ask 78 = .ok (.iload_n 3, 1) := dk_29 (dk_at dksX0_ask_3 8 rfl rfl)
theorem dX0_ask_79 : decode cX0_ask 79 = .ok (.ireturn, 1) := dk_172 (dk_at dksX0_ask_3 9 rfl rfl)
abbrev cX0_mostAlike : ByteArray := prog_1_method_70_code
def yX0_mostAlike : MethodName := ⟨RX0, "mostAlike", "(II)I"⟩
def dkwX0_mostAlike_4 : List UInt8 := [172]
abbrev dktX0_mostAlike_4 : List UInt8 := dkwX0_mostAlike_4 ++ []
def dkwX0_mostAlike_3 : List UInt8 := [3, 96, 54, 5, 132, 6, 1, 167, 255, 196, 29, 21, 5, 184, 1, 66, 62, 132, 4, 1, 167, 255, 171, 29]
abbrev dktX0_mostAlike_3 : List UInt8 := dkwX0_mostAlike_3 ++ dktX0_mostAlike_4
def dkwX0_mostAlike_2 : List UInt8 := [182, 0, 154, 28, 182, 1, 114, 42, 21, 6, 182, 0, 154, 28, 182, 1, 114, 160, 0, 7, 4, 167, 0, 4]
abbrev dktX0_mostAlike_2 : List UInt8 := dkwX0_mostAlike_2 ++ dktX0_mostAlike_3
def dkwX0_mostAlike_1 : List UInt8 := [21, 5, 27, 21, 4, 184, 1, 216, 153, 0, 39, 27, 21, 6, 184, 1, 216, 153, 0, 30, 42, 21, 4]
abbrev dktX0_mostAlike_1 : List UInt8 := dkwX0_mostAlike_1 ++ dktX0_mostAlike_2
def dkwX0_mostAlike_0 : List UInt8 := [3, 62, 3, 54, 4, 21, 4, 7, 162, 0, 85, 3, 54, 5, 3, 54, 6, 21, 6, 7, 162, 0, 60]
abbrev dktX0_mostAlike_0 : List UInt8 := dkwX0_mostAlike_0 ++ dktX0_mostAlike_1
theorem dksX0_mostAlike_0 : cX0_mostAlike.data.toList.drop 0 = dktX0_mostAlike_0 := by decide +kernel
theorem dksX0_mostAlike_1 : cX0_mostAlike.data.toList.drop 23 = dktX0_mostAlike_1 := dk_seg dksX0_mostAlike_0 23 rfl rfl
theorem dksX0_mostAlike_2 : cX0_mostAlike.data.toList.drop 46 = dktX0_mostAlike_2 := dk_seg dksX0_mostAlike_1 23 rfl rfl
theorem dksX0_mostAlike_3 : cX0_mostAlike.data.toList.drop 70 = dktX0_mostAlike_3 := dk_seg dksX0_mostAlike_2 24 rfl rfl
theorem dksX0_mostAlike_4 : cX0_mostAlike.data.toList.drop 94 = dktX0_mostAlike_4 := dk_seg dksX0_mostAlike_3 24 rfl rfl
theorem dX0_mostAlike_0 : decode cX0_mostAlike 0 = .ok (.iconst 0, 1) := dk_3 (dk_at dksX0_mostAlike_0 0 rfl rfl)
theorem dX0_mostAlike_1 : decode cX0_mostAlike 1 = .ok (.istore_n 3, 1) := dk_62 (dk_at dksX0_mostAlike_0 1 rfl rfl)
theorem dX0_mostAlike_2 : decode cX0_mostAlike 2 = .ok (.iconst 0, 1) := dk_3 (dk_at dksX0_mostAlike_0 2 rfl rfl)
theorem dX0_mostAlike_3 : decode cX0_mostAlike 3 = .ok (.istore 4, 2) := dk_54 4 (dk_at dksX0_mostAlike_0 3 rfl rfl)
theorem dX0_mostAlike_5 : decode cX0_mostAlike 5 = .ok (.iload 4, 2) := dk_21 4 (dk_at dksX0_mostAlike_0 5 rfl rfl)
theorem dX0_mostAlike_7 : decode cX0_mostAlike 7 = .ok (.iconst 4, 1) := dk_7 (dk_at dksX0_mostAlike_0 7 rfl rfl)
theorem dX0_mostAlike_8 : decode cX0_mostAlike 8 = .ok (.if_icmp .ge 85, 3) := dk_162 0 85 (dk_at dksX0_mostAlike_0 8 rfl rfl)
theorem dX0_mostAlike_11 : decode cX0_mostAlike 11 = .ok (.iconst 0, 1) := dk_3 (dk_at dksX0_mostAlike_0 11 rfl rfl)
theorem dX0_mostAlike_12 : decode cX0_mostAlike 12 = .ok (.istore 5, 2) := dk_54 5 (dk_at dksX0_mostAlike_0 12 rfl rfl)
theorem dX0_mostAlike_14 : decode cX0_mostAlike 14 = .ok (.iconst 0, 1) := dk_3 (dk_at dksX0_mostAlike_0 14 rfl rfl)
theorem dX0_mostAlike_15 : decode cX0_mostAlike 15 = .ok (.istore 6, 2) := dk_54 6 (dk_at dksX0_mostAlike_0 15 rfl rfl)
theorem dX0_mostAlike_17 : decode cX0_mostAlike 17 = .ok (.iload 6, 2) := dk_21 6 (dk_at dksX0_mostAlike_0 17 rfl rfl)
theorem dX0_mostAlike_19 : decode cX0_mostAlike 19 = .ok (.iconst 4, 1) := dk_7 (dk_at dksX0_mostAlike_0 19 rfl rfl)
theorem dX0_mostAlike_20 : decode cX0_mostAlike 20 = .ok (.if_icmp .ge 60, 3) := dk_162 0 60 (dk_at dksX0_mostAlike_0 20 rfl rfl)
theorem dX0_mostAlike_23 : decode cX0_mostAlike 23 = .ok (.iload 5, 2) := dk_21 5 (dk_at dksX0_mostAlike_1 0 rfl rfl)
theorem dX0_mostAlike_25 : decode cX0_mostAlike 25 = .ok (.iload_n 1, 1) := dk_27 (dk_at dksX0_mostAlike_1 2 rfl rfl)
theorem dX0_mostAlike_26 : decode cX0_mostAlike 26 = .ok (.iload 4, 2) := dk_21 4 (dk_at dksX0_mostAlike_1 3 rfl rfl)
theorem dX0_mostAlike_28 : decode cX0_mostAlike 28 = .ok (.invokestatic 472, 3) := dk_184 1 216 (dk_at dksX0_mostAlike_1 5 rfl rfl)
theorem dX0_mostAlike_31 : decode cX0_mostAlike 31 = .ok (.ifCond .eq 39, 3) := dk_153 0 39 (dk_at dksX0_mostAlike_1 8 rfl rfl)
theorem dX0_mostAlike_34 : decode cX0_mostAlike 34 = .ok (.iload_n 1, 1) := dk_27 (dk_at dksX0_mostAlike_1 11 rfl rfl)
theorem dX0_mostAlike_35 : decode cX0_mostAlike 35 = .ok (.iload 6, 2) := dk_21 6 (dk_at dksX0_mostAlike_1 12 rfl rfl)
theorem dX0_mostAlike_37 : decode cX0_mostAlike 37 = .ok (.invokestatic 472, 3) := dk_184 1 216 (dk_at dksX0_mostAlike_1 14 rfl rfl)
theorem dX0_mostAlike_40 : decode cX0_mostAlike 40 = .ok (.ifCond .eq 30, 3) := dk_153 0 30 (dk_at dksX0_mostAlike_1 17 rfl rfl)
theorem dX0_mostAlike_43 : decode cX0_mostAlike 43 = .ok (.aload_n 0, 1) := dk_42 (dk_at dksX0_mostAlike_1 20 rfl rfl)
theorem dX0_mostAlike_44 : decode cX0_mostAlike 44 = .ok (.iload 4, 2) := dk_21 4 (dk_at dksX0_mostAlike_1 21 rfl rfl)
theorem dX0_mostAlike_46 : decode cX0_mostAlike 46 = .ok (.invokevirtual 154, 3) := dk_182 0 154 (dk_at dksX0_mostAlike_2 0 rfl rfl)
theorem dX0_mostAlike_49 : decode cX0_mostAlike 49 = .ok (.iload_n 2, 1) := dk_28 (dk_at dksX0_mostAlike_2 3 rfl rfl)
theorem dX0_mostAlike_50 : decode cX0_mostAlike 50 = .ok (.invokevirtual 370, 3) := dk_182 1 114 (dk_at dksX0_mostAlike_2 4 rfl rfl)
theorem dX0_mostAlike_53 : decode cX0_mostAlike 53 = .ok (.aload_n 0, 1) := dk_42 (dk_at dksX0_mostAlike_2 7 rfl rfl)
theorem dX0_mostAlike_54 : decode cX0_mostAlike 54 = .ok (.iload 6, 2) := dk_21 6 (dk_at dksX0_mostAlike_2 8 rfl rfl)
theorem dX0_mostAlike_56 : decode cX0_mostAlike 56 = .ok (.invokevirtual 154, 3) := dk_182 0 154 (dk_at dksX0_mostAlike_2 10 rfl rfl)
theorem dX0_mostAlike_59 : decode cX0_mostAlike 59 = .ok (.iload_n 2, 1) := dk_28 (dk_at dksX0_mostAlike_2 13 rfl rfl)
theorem dX0_mostAlike_60 : decode cX0_mostAlike 60 = .ok (.invokevirtual 370, 3) := dk_182 1 114 (dk_at dksX0_mostAlike_2 14 rfl rfl)
theorem dX0_mostAlike_63 : decode cX0_mostAlike 63 = .ok (.if_icmp .ne 7, 3) := dk_160 0 7 (dk_at dksX0_mostAlike_2 17 rfl rfl)
theorem dX0_mostAlike_66 : decode cX0_mostAlike 66 = .ok (.iconst 1, 1) := dk_4 (dk_at dksX0_mostAlike_2 20 rfl rfl)
theorem dX0_mostAlike_67 : decode cX0_mostAlike 67 = .ok (.goto 4, 3) := dk_167 0 4 (dk_at dksX0_mostAlike_2 21 rfl rfl)
theorem dX0_mostAlike_70 : decode cX0_mostAlike 70 = .ok (.iconst 0, 1) := dk_3 (dk_at dksX0_mostAlike_3 0 rfl rfl)
theorem dX0_mostAlike_71 : decode cX0_mostAlike 71 = .ok (.iadd, 1) := dk_96 (dk_at dksX0_mostAlike_3 1 rfl rfl)
theorem dX0_mostAlike_72 : decode cX0_mostAlike 72 = .ok (.istore 5, 2) := dk_54 5 (dk_at dksX0_mostAlike_3 2 rfl rfl)
theorem dX0_mostAlike_74 : decode cX0_mostAlike 74 = .ok (.iinc 6 1, 3) := dk_132 6 1 (dk_at dksX0_mostAlike_3 4 rfl rfl)
theorem dX0_mostAlike_77 : decode cX0_mostAlike 77 = .ok (.goto (-60), 3) := dk_167 255 196 (dk_at dksX0_mostAlike_3 7 rfl rfl)
theorem dX0_mostAlike_80 : decode cX0_mostAlike 80 = .ok (.iload_n 3, 1) := dk_29 (dk_at dksX0_mostAlike_3 10 rfl rfl)
theorem dX0_mostAlike_81 : decode cX0_mostAlike 81 = .ok (.iload 5, 2) := dk_21 5 (dk_at dksX0_mostAlike_3 11 rfl rfl)
theorem dX0_mostAlike_83 : decode cX0_mostAlike 83 = .ok (.invokestatic 322, 3) := dk_184 1 66 (dk_at dksX0_mostAlike_3 13 rfl rfl)
theorem dX0_mostAlike_86 : decode cX0_mostAlike 86 = .ok (.istore_n 3, 1) := dk_62 (dk_at dksX0_mostAlike_3 16 rfl rfl)
theorem dX0_mostAlike_87 : decode cX0_mostAlike 87 = .ok (.iinc 4 1, 3) := dk_132 4 1 (dk_at dksX0_mostAlike_3 17 rfl rfl)
theorem dX0_mostAlike_90 : decode cX0_mostAlike 90 = .ok (.goto (-85), 3) := dk_167 255 171 (dk_at dksX0_mostAlike_3 20 rfl rfl)
theorem dX0_mostAlike_93 : decode cX0_mostAlike 93 = .ok (.iload_n 3, 1) := dk_29 (dk_at dksX0_mostAlike_3 23 rfl rfl)
theorem dX0_mostAlike_94 : decode cX0_mostAlike 94 = .ok (.ireturn, 1) := dk_172 (dk_at dksX0_mostAlike_4 0 rfl rfl)
abbrev cX0_has : ByteArray := prog_1_method_2_code
def yX0_has : MethodName := ⟨RX0, "has", "(II)Z"⟩
def dkwX0_has_0 : List UInt8 := [26, 27, 122, 4, 126, 4, 160, 0, 7, 4, 167, 0, 4, 3, 172]
abbrev dktX0_has_0 : List UInt8 := dkwX0_has_0 ++ []
theorem dksX0_has_0 : cX0_has.data.toList.drop 0 = dktX0_has_0 := by decide +kernel
theorem dX0_has_0 : decode cX0_has 0 = .ok (.iload_n 0, 1) := dk_26 (dk_at dksX0_has_0 0 rfl rfl)
theorem dX0_has_1 : decode cX0_has 1 = .ok (.iload_n 1, 1) := dk_27 (dk_at dksX0_has_0 1 rfl rfl)
theorem dX0_has_2 : decode cX0_has 2 = .ok (.ishr, 1) := dk_122 (dk_at dksX0_has_0 2 rfl rfl)
theorem dX0_has_3 : decode cX0_has 3 = .ok (.iconst 1, 1) := dk_4 (dk_at dksX0_has_0 3 rfl rfl)
theorem dX0_has_4 : decode cX0_has 4 = .ok (.iand, 1) := dk_126 (dk_at dksX0_has_0 4 rfl rfl)
theorem dX0_has_5 : decode cX0_has 5 = .ok (.iconst 1, 1) := dk_4 (dk_at dksX0_has_0 5 rfl rfl)
theorem dX0_has_6 : decode cX0_has 6 = .ok (.if_icmp .ne 7, 3) := dk_160 0 7 (dk_at dksX0_has_0 6 rfl rfl)
theorem dX0_has_9 : decode cX0_has 9 = .ok (.iconst 1, 1) := dk_4 (dk_at dksX0_has_0 9 rfl rfl)
theorem dX0_has_10 : decode cX0_has 10 = .ok (.goto 4, 3) := dk_167 0 4 (dk_at dksX0_has_0 10 rfl rfl)
theorem dX0_has_13 : decode cX0_has 13 = .ok (.iconst 0, 1) := dk_3 (dk_at dksX0_has_0 13 rfl rfl)
theorem dX0_has_14 : decode cX0_has 14 = .ok (.ireturn, 1) := dk_172 (dk_at dksX0_has_0 14 rfl rfl)
abbrev cX0_few : ByteArray := prog_1_method_72_code
def yX0_few : MethodName := ⟨RX0, "few", "(II)J"⟩
def dkwX0_few_6 : List UInt8 := [132, 7, 1, 167, 255, 238, 22, 5, 173]
abbrev dktX0_few_6 : List UInt8 := dkwX0_few_6 ++ []
def dkwX0_few_5 : List UInt8 := [167, 255, 191, 9, 55, 5, 3, 54, 7, 21, 7, 27, 162, 0, 18, 22, 5, 45, 21, 7, 47, 97, 55, 5]
abbrev dktX0_few_5 : List UInt8 := dkwX0_few_5 ++ dktX0_few_6
def dkwX0_few_4 : List UInt8 := [47, 16, 10, 21, 4, 100, 133, 105, 20, 0, 201, 109, 80, 132, 6, 255, 167, 255, 208, 132, 5, 1]
abbrev dktX0_few_4 : List UInt8 := dkwX0_few_4 ++ dktX0_few_5
def dkwX0_few_3 : List UInt8 := [4, 96, 92, 47, 45, 21, 6, 47, 21, 4, 133, 105, 20, 0, 201, 109, 97, 80, 45, 21, 6, 45, 21, 6]
abbrev dktX0_few_3 : List UInt8 := dkwX0_few_3 ++ dktX0_few_4
def dkwX0_few_2 : List UInt8 := [54, 4, 3, 54, 5, 21, 5, 28, 162, 0, 65, 27, 4, 100, 54, 6, 21, 6, 155, 0, 49, 45, 21, 6]
abbrev dktX0_few_2 : List UInt8 := dkwX0_few_2 ++ dktX0_few_3
def dkwX0_few_1 : List UInt8 := [20, 1, 124, 173, 16, 21, 188, 11, 78, 45, 3, 20, 1, 228, 80, 42, 180, 0, 22, 180, 0, 189, 4, 46]
abbrev dktX0_few_1 : List UInt8 := dkwX0_few_1 ++ dktX0_few_2
def dkwX0_few_0 : List UInt8 := [27, 133, 10, 20, 1, 224, 184, 0, 5, 153, 0, 15, 28, 133, 9, 20, 1, 226, 184, 0, 5, 154, 0, 7]
abbrev dktX0_few_0 : List UInt8 := dkwX0_few_0 ++ dktX0_few_1
theorem dksX0_few_0 : cX0_few.data.toList.drop 0 = dktX0_few_0 := by decide +kernel
theorem dksX0_few_1 : cX0_few.data.toList.drop 24 = dktX0_few_1 := dk_seg dksX0_few_0 24 rfl rfl
theorem dksX0_few_2 : cX0_few.data.toList.drop 48 = dktX0_few_2 := dk_seg dksX0_few_1 24 rfl rfl
theorem dksX0_few_3 : cX0_few.data.toList.drop 72 = dktX0_few_3 := dk_seg dksX0_few_2 24 rfl rfl
theorem dksX0_few_4 : cX0_few.data.toList.drop 96 = dktX0_few_4 := dk_seg dksX0_few_3 24 rfl rfl
theorem dksX0_few_5 : cX0_few.data.toList.drop 118 = dktX0_few_5 := dk_seg dksX0_few_4 22 rfl rfl
theorem dksX0_few_6 : cX0_few.data.toList.drop 142 = dktX0_few_6 := dk_seg dksX0_few_5 24 rfl rfl
theorem dX0_few_0 : decode cX0_few 0 = .ok (.iload_n 1, 1) := dk_27 (dk_at dksX0_few_0 0 rfl rfl)
theorem dX0_few_1 : decode cX0_few 1 = .ok (.i2l, 1) := dk_133 (dk_at dksX0_few_0 1 rfl rfl)
theorem dX0_few_2 : decode cX0_few 2 = .ok (.lconst 1, 1) := dk_10 (dk_at dksX0_few_0 2 rfl rfl)
theorem dX0_few_3 : decode cX0_few 3 = .ok (.ldc2_w 480, 3) := dk_20 1 224 (dk_at dksX0_few_0 3 rfl rfl)
theorem dX0_few_6 : decode cX0_few 6 = .ok (.invokestatic 5, 3) := dk_184 0 5 (dk_at dksX0_few_0 6 rfl rfl)
theorem dX0_few_9 : decode cX0_few 9 = .ok (.ifCond .eq 15, 3) := dk_153 0 15 (dk_at dksX0_few_0 9 rfl rfl)
theorem dX0_few_12 : decode cX0_few 12 = .ok (.iload_n 2, 1) := dk_28 (dk_at dksX0_few_0 12 rfl rfl)
theorem dX0_few_13 : decode cX0_few 13 = .ok (.i2l, 1) := dk_133 (dk_at dksX0_few_0 13 rfl rfl)
theorem dX0_few_14 : decode cX0_few 14 = .ok (.lconst 0, 1) := dk_9 (dk_at dksX0_few_0 14 rfl rfl)
theorem dX0_few_15 : decode cX0_few 15 = .ok (.ldc2_w 482, 3) := dk_20 1 226 (dk_at dksX0_few_0 15 rfl rfl)
theorem dX0_few_18 : decode cX0_few 18 = .ok (.invokestatic 5, 3) := dk_184 0 5 (dk_at dksX0_few_0 18 rfl rfl)
theorem dX0_few_21 : decode cX0_few 21 = .ok (.ifCond .ne 7, 3) := dk_154 0 7 (dk_at dksX0_few_0 21 rfl rfl)
theorem dX0_few_24 : decode cX0_few 24 = .ok (.ldc2_w 380, 3) := dk_20 1 124 (dk_at dksX0_few_1 0 rfl rfl)
theorem dX0_few_27 : decode cX0_few 27 = .ok (.lreturn, 1) := dk_173 (dk_at dksX0_few_1 3 rfl rfl)
theorem dX0_few_28 : decode cX0_few 28 = .ok (.bipush 21, 2) := dk_16 21 (dk_at dksX0_few_1 4 rfl rfl)
theorem dX0_few_30 : decode cX0_few 30 = .ok (.newarray .long, 2) := dk_188_11 (dk_at dksX0_few_1 6 rfl rfl)
theorem dX0_few_32 : decode cX0_few 32 = .ok (.astore_n 3, 1) := dk_78 (dk_at dksX0_few_1 8 rfl rfl)
theorem dX0_few_33 : decode cX0_few 33 = .ok (.aload_n 3, 1) := dk_45 (dk_at dksX0_few_1 9 rfl rfl)
theorem dX0_few_34 : decode cX0_few 34 = .ok (.iconst 0, 1) := dk_3 (dk_at dksX0_few_1 10 rfl rfl)
theorem dX0_few_35 : decode cX0_few 35 = .ok (.ldc2_w 484, 3) := dk_20 1 228 (dk_at dksX0_few_1 11 rfl rfl)
theorem dX0_few_38 : decode cX0_few 38 = .ok (.lastore, 1) := dk_80 (dk_at dksX0_few_1 14 rfl rfl)
theorem dX0_few_39 : decode cX0_few 39 = .ok (.aload_n 0, 1) := dk_42 (dk_at dksX0_few_1 15 rfl rfl)
theorem dX0_few_40 : decode cX0_few 40 = .ok (.getfield 22, 3) := dk_180 0 22 (dk_at dksX0_few_1 16 rfl rfl)
theorem dX0_few_43 : decode cX0_few 43 = .ok (.getfield 189, 3) := dk_180 0 189 (dk_at dksX0_few_1 19 rfl rfl)
theorem dX0_few_46 : decode cX0_few 46 = .ok (.iconst 1, 1) := dk_4 (dk_at dksX0_few_1 22 rfl rfl)
theorem dX0_few_47 : decode cX0_few 47 = .ok (.iaload, 1) := dk_46 (dk_at dksX0_few_1 23 rfl rfl)
theorem dX0_few_48 : decode cX0_few 48 = .ok (.istore 4, 2) := dk_54 4 (dk_at dksX0_few_2 0 rfl rfl)
theorem dX0_few_50 : decode cX0_few 50 = .ok (.iconst 0, 1) := dk_3 (dk_at dksX0_few_2 2 rfl rfl)
theorem dX0_few_51 : decode cX0_few 51 = .ok (.istore 5, 2) := dk_54 5 (dk_at dksX0_few_2 3 rfl rfl)
theorem dX0_few_53 : decode cX0_few 53 = .ok (.iload 5, 2) := dk_21 5 (dk_at dksX0_few_2 5 rfl rfl)
theorem dX0_few_55 : decode cX0_few 55 = .ok (.iload_n 2, 1) := dk_28 (dk_at dksX0_few_2 7 rfl rfl)
theorem dX0_few_56 : decode cX0_few 56 = .ok (.if_icmp .ge 65, 3) := dk_162 0 65 (dk_at dksX0_few_2 8 rfl rfl)
theorem dX0_few_59 : decode cX0_few 59 = .ok (.iload_n 1, 1) := dk_27 (dk_at dksX0_few_2 11 rfl rfl)
theorem dX0_few_60 : decode cX0_few 60 = .ok (.iconst 1, 1) := dk_4 (dk_at dksX0_few_2 12 rfl rfl)
theorem dX0_few_61 : decode cX0_few 61 = .ok (.isub, 1) := dk_100 (dk_at dksX0_few_2 13 rfl rfl)
theorem dX0_few_62 : decode cX0_few 62 = .ok (.istore 6, 2) := dk_54 6 (dk_at dksX0_few_2 14 rfl rfl)
theorem dX0_few_64 : decode cX0_few 64 = .ok (.iload 6, 2) := dk_21 6 (dk_at dksX0_few_2 16 rfl rfl)
theorem dX0_few_66 : decode cX0_few 66 = .ok (.ifCond .lt 49, 3) := dk_155 0 49 (dk_at dksX0_few_2 18 rfl rfl)
theorem dX0_few_69 : decode cX0_few 69 = .ok (.aload_n 3, 1) := dk_45 (dk_at dksX0_few_2 21 rfl rfl)
theorem dX0_few_70 : decode cX0_few 70 = .ok (.iload 6, 2) := dk_21 6 (dk_at dksX0_few_2 22 rfl rfl)
theorem dX0_few_72 : decode cX0_few 72 = .ok (.iconst 1, 1) := dk_4 (dk_at dksX0_few_3 0 rfl rfl)
theorem dX0_few_73 : decode cX0_few 73 = .ok (.iadd, 1) := dk_96 (dk_at dksX0_few_3 1 rfl rfl)
theorem dX0_few_74 : decode cX0_few 74 = .ok (.dup2, 1) := dk_92 (dk_at dksX0_few_3 2 rfl rfl)
theorem dX0_few_75 : decode cX0_few 75 = .ok (.laload, 1) := dk_47 (dk_at dksX0_few_3 3 rfl rfl)
theorem dX0_few_76 : decode cX0_few 76 = .ok (.aload_n 3, 1) := dk_45 (dk_at dksX0_few_3 4 rfl rfl)
theorem dX0_few_77 : decode cX0_few 77 = .ok (.iload 6, 2) := dk_21 6 (dk_at dksX0_few_3 5 rfl rfl)
theorem dX0_few_79 : decode cX0_few 79 = .ok (.laload, 1) := dk_47 (dk_at dksX0_few_3 7 rfl rfl)
theorem dX0_few_80 : decode cX0_few 80 = .ok (.iload 4, 2) := dk_21 4 (dk_at dksX0_few_3 8 rfl rfl)
theorem dX0_few_82 : decode cX0_few 82 = .ok (.i2l, 1) := dk_133 (dk_at dksX0_few_3 10 rfl rfl)
theorem dX0_few_83 : decode cX0_few 83 = .ok (.lmul, 1) := dk_105 (dk_at dksX0_few_3 11 rfl rfl)
theorem dX0_few_84 : decode cX0_few 84 = .ok (.ldc2_w 201, 3) := dk_20 0 201 (dk_at dksX0_few_3 12 rfl rfl)
theorem dX0_few_87 : decode cX0_few 87 = .ok (.ldiv, 1) := dk_109 (dk_at dksX0_few_3 15 rfl rfl)
theorem dX0_few_88 : decode cX0_few 88 = .ok (.ladd, 1) := dk_97 (dk_at dksX0_few_3 16 rfl rfl)
theorem dX0_few_89 : decode cX0_few 89 = .ok (.lastore, 1) := dk_80 (dk_at dksX0_few_3 17 rfl rfl)
theorem dX0_few_90 : decode cX0_few 90 = .ok (.aload_n 3, 1) := dk_45 (dk_at dksX0_few_3 18 rfl rfl)
theorem dX0_few_91 : decode cX0_few 91 = .ok (.iload 6, 2) := dk_21 6 (dk_at dksX0_few_3 19 rfl rfl)
theorem dX0_few_93 : decode cX0_few 93 = .ok (.aload_n 3, 1) := dk_45 (dk_at dksX0_few_3 21 rfl rfl)
theorem dX0_few_94 : decode cX0_few 94 = .ok (.iload 6, 2) := dk_21 6 (dk_at dksX0_few_3 22 rfl rfl)
theorem dX0_few_96 : decode cX0_few 96 = .ok (.laload, 1) := dk_47 (dk_at dksX0_few_4 0 rfl rfl)
theorem dX0_few_97 : decode cX0_few 97 = .ok (.bipush 10, 2) := dk_16 10 (dk_at dksX0_few_4 1 rfl rfl)
theorem dX0_few_99 : decode cX0_few 99 = .ok (.iload 4, 2) := dk_21 4 (dk_at dksX0_few_4 3 rfl rfl)
theorem dX0_few_101 : decode cX0_few 101 = .ok (.isub, 1) := dk_100 (dk_at dksX0_few_4 5 rfl rfl)
theorem dX0_few_102 : decode cX0_few 102 = .ok (.i2l, 1) := dk_133 (dk_at dksX0_few_4 6 rfl rfl)
theorem dX0_few_103 : decode cX0_few 103 = .ok (.lmul, 1) := dk_105 (dk_at dksX0_few_4 7 rfl rfl)
theorem dX0_few_104 : decode cX0_few 104 = .ok (.ldc2_w 201, 3) := dk_20 0 201 (dk_at dksX0_few_4 8 rfl rfl)
theorem dX0_few_107 : decode cX0_few 107 = .ok (.ldiv, 1) := dk_109 (dk_at dksX0_few_4 11 rfl rfl)
theorem dX0_few_108 : decode cX0_few 108 = .ok (.lastore, 1) := dk_80 (dk_at dksX0_few_4 12 rfl rfl)
theorem dX0_few_109 : decode cX0_few 109 = .ok (.iinc 6 (-1), 3) := dk_132 6 255 (dk_at dksX0_few_4 13 rfl rfl)
theorem dX0_few_112 : decode cX0_few 112 = .ok (.goto (-48), 3) := dk_167 255 208 (dk_at dksX0_few_4 16 rfl rfl)
theorem dX0_few_115 : decode cX0_few 115 = .ok (.iinc 5 1, 3) := dk_132 5 1 (dk_at dksX0_few_4 19 rfl rfl)
theorem dX0_few_118 : decode cX0_few 118 = .ok (.goto (-65), 3) := dk_167 255 191 (dk_at dksX0_few_5 0 rfl rfl)
theorem dX0_few_121 : decode cX0_few 121 = .ok (.lconst 0, 1) := dk_9 (dk_at dksX0_few_5 3 rfl rfl)
theorem dX0_few_122 : decode cX0_few 122 = .ok (.lstore 5, 2) := dk_55 5 (dk_at dksX0_few_5 4 rfl rfl)
theorem dX0_few_124 : decode cX0_few 124 = .ok (.iconst 0, 1) := dk_3 (dk_at dksX0_few_5 6 rfl rfl)
theorem dX0_few_125 : decode cX0_few 125 = .ok (.istore 7, 2) := dk_54 7 (dk_at dksX0_few_5 7 rfl rfl)
theorem dX0_few_127 : decode cX0_few 127 = .ok (.iload 7, 2) := dk_21 7 (dk_at dksX0_few_5 9 rfl rfl)
theorem dX0_few_129 : decode cX0_few 129 = .ok (.iload_n 1, 1) := dk_27 (dk_at dksX0_few_5 11 rfl rfl)
theorem dX0_few_130 : decode cX0_few 130 = .ok (.if_icmp .ge 18, 3) := dk_162 0 18 (dk_at dksX0_few_5 12 rfl rfl)
theorem dX0_few_133 : decode cX0_few 133 = .ok (.lload 5, 2) := dk_22 5 (dk_at dksX0_few_5 15 rfl rfl)
theorem dX0_few_135 : decode cX0_few 135 = .ok (.aload_n 3, 1) := dk_45 (dk_at dksX0_few_5 17 rfl rfl)
theorem dX0_few_136 : decode cX0_few 136 = .ok (.iload 7, 2) := dk_21 7 (dk_at dksX0_few_5 18 rfl rfl)
theorem dX0_few_138 : decode cX0_few 138 = .ok (.laload, 1) := dk_47 (dk_at dksX0_few_5 20 rfl rfl)
theorem dX0_few_139 : decode cX0_few 139 = .ok (.ladd, 1) := dk_97 (dk_at dksX0_few_5 21 rfl rfl)
theorem dX0_few_140 : decode cX0_few 140 = .ok (.lstore 5, 2) := dk_55 5 (dk_at dksX0_few_5 22 rfl rfl)
theorem dX0_few_142 : decode cX0_few 142 = .ok (.iinc 7 1, 3) := dk_132 7 1 (dk_at dksX0_few_6 0 rfl rfl)
theorem dX0_few_145 : decode cX0_few 145 = .ok (.goto (-18), 3) := dk_167 255 238 (dk_at dksX0_few_6 3 rfl rfl)
theorem dX0_few_148 : decode cX0_few 148 = .ok (.lload 5, 2) := dk_22 5 (dk_at dksX0_few_6 6 rfl rfl)
theorem dX0_few_150 : decode cX0_few 150 = .ok (.lreturn, 1) := dk_173 (dk_at dksX0_few_6 8 rfl rfl)
abbrev cX0_compare : ByteArray := prog_1_method_73_code
def yX0_compare : MethodName := ⟨RX0, "compare", "(III)I"⟩
def dkwX0_compare_2 : List UInt8 := [54, 5, 42, 180, 0, 22, 21, 4, 181, 1, 37, 21, 5, 172]
abbrev dktX0_compare_2 : List UInt8 := dkwX0_compare_2 ++ []
def dkwX0_compare_1 : List UInt8 := [42, 180, 0, 22, 180, 1, 37, 54, 4, 42, 180, 0, 22, 27, 181, 1, 37, 42, 28, 29, 182, 0, 195]
abbrev dktX0_compare_1 : List UInt8 := dkwX0_compare_1 ++ dktX0_compare_2
def dkwX0_compare_0 : List UInt8 := [42, 27, 182, 1, 34, 153, 0, 17, 28, 184, 0, 150, 153, 0, 10, 29, 184, 0, 180, 154, 0, 5, 2, 172]
abbrev dktX0_compare_0 : List UInt8 := dkwX0_compare_0 ++ dktX0_compare_1
theorem dksX0_compare_0 : cX0_compare.data.toList.drop 0 = dktX0_compare_0 := by decide +kernel
theorem dksX0_compare_1 : cX0_compare.data.toList.drop 24 = dktX0_compare_1 := dk_seg dksX0_compare_0 24 rfl rfl
theorem dksX0_compare_2 : cX0_compare.data.toList.drop 47 = dktX0_compare_2 := dk_seg dksX0_compare_1 23 rfl rfl
theorem dX0_compare_0 : decode cX0_compare 0 = .ok (.aload_n 0, 1) := dk_42 (dk_at dksX0_compare_0 0 rfl rfl)
theorem dX0_compare_1 : decode cX0_compare 1 = .ok (.iload_n 1, 1) := dk_27 (dk_at dksX0_compare_0 1 rfl rfl)
theorem dX0_compare_2 : decode cX0_compare 2 = .ok (.invokevirtual 290, 3) := dk_182 1 34 (dk_at dksX0_compare_0 2 rfl rfl)
theorem dX0_compare_5 : decode cX0_compare 5 = .ok (.ifCond .eq 17, 3) := dk_153 0 17 (dk_at dksX0_compare_0 5 rfl rfl)
theorem dX0_compare_8 : decode cX0_compare 8 = .ok (.iload_n 2, 1) := dk_28 (dk_at dksX0_compare_0 8 rfl rfl)
theorem dX0_compare_9 : decode cX0_compare 9 = .ok (.invokestatic 150, 3) := dk_184 0 150 (dk_at dksX0_compare_0 9 rfl rfl)
theorem dX0_compare_12 : decode cX0_compare 12 = .ok (.ifCond .eq 10, 3) := dk_153 0 10 (dk_at dksX0_compare_0 12 rfl rfl)
theorem dX0_compare_15 : decode cX0_compare 15 = .ok (.iload_n 3, 1) := dk_29 (dk_at dksX0_compare_0 15 rfl rfl)
theorem dX0_compare_16 : decode cX0_compare 16 = .ok (.invokestatic 180, 3) := dk_184 0 180 (dk_at dksX0_compare_0 16 rfl rfl)
theorem dX0_compare_19 : decode cX0_compare 19 = .ok (.ifCond .ne 5, 3) := dk_154 0 5 (dk_at dksX0_compare_0 19 rfl rfl)
theorem dX0_compare_22 : decode cX0_compare 22 = .ok (.iconst (-1), 1) := dk_2 (dk_at dksX0_compare_0 22 rfl rfl)
theorem dX0_compare_23 : decode cX0_compare 23 = .ok (.ireturn, 1) := dk_172 (dk_at dksX0_compare_0 23 rfl rfl)
theorem dX0_compare_24 : decode cX0_compare 24 = .ok (.aload_n 0, 1) := dk_42 (dk_at dksX0_compare_1 0 rfl rfl)
theorem dX0_compare_25 : decode cX0_compare 25 = .ok (.getfield 22, 3) := dk_180 0 22 (dk_at dksX0_compare_1 1 rfl rfl)
theorem dX0_compare_28 : decode cX0_compare 28 = .ok (.getfield 293, 3) := dk_180 1 37 (dk_at dksX0_compare_1 4 rfl rfl)
theorem dX0_compare_31 : decode cX0_compare 31 = .ok (.istore 4, 2) := dk_54 4 (dk_at dksX0_compare_1 7 rfl rfl)
theorem dX0_compare_33 : decode cX0_compare 33 = .ok (.aload_n 0, 1) := dk_42 (dk_at dksX0_compare_1 9 rfl rfl)
theorem dX0_compare_34 : decode cX0_compare 34 = .ok (.getfield 22, 3) := dk_180 0 22 (dk_at dksX0_compare_1 10 rfl rfl)
theorem dX0_compare_37 : decode cX0_compare 37 = .ok (.iload_n 1, 1) := dk_27 (dk_at dksX0_compare_1 13 rfl rfl)
theorem dX0_compare_38 : decode cX0_compare 38 = .ok (.putfield 293, 3) := dk_181 1 37 (dk_at dksX0_compare_1 14 rfl rfl)
theorem dX0_compare_41 : decode cX0_compare 41 = .ok (.aload_n 0, 1) := dk_42 (dk_at dksX0_compare_1 17 rfl rfl)
theorem dX0_compare_42 : decode cX0_compare 42 = .ok (.iload_n 2, 1) := dk_28 (dk_at dksX0_compare_1 18 rfl rfl)
theorem dX0_compare_43 : decode cX0_compare 43 = .ok (.iload_n 3, 1) := dk_29 (dk_at dksX0_compare_1 19 rfl rfl)
theorem dX0_compare_44 : decode cX0_compare 44 = .ok (.invokevirtual 195, 3) := dk_182 0 195 (dk_at dksX0_compare_1 20 rfl rfl)
theorem dX0_compare_47 : decode cX0_compare 47 = .ok (.istore 5, 2) := dk_54 5 (dk_at dksX0_compare_2 0 rfl rfl)
theorem dX0_compare_49 : decode cX0_compare 49 = .ok (.aload_n 0, 1) := dk_42 (dk_at dksX0_compare_2 2 rfl rfl)
theorem dX0_compare_50 : decode cX0_compare 50 = .ok (.getfield 22, 3) := dk_180 0 22 (dk_at dksX0_compare_2 3 rfl rfl)
theorem dX0_compare_53 : decode cX0_compare 53 = .ok (.iload 4, 2) := dk_21 4 (dk_at dksX0_compare_2 6 rfl rfl)
theorem dX0_compare_55 : decode cX0_compare 55 = .ok (.putfield 293, 3) := dk_181 1 37 (dk_at dksX0_compare_2 8 rfl rfl)
theorem dX0_compare_58 : decode cX0_compare 58 = .ok (.iload 5, 2) := dk_21 5 (dk_at dksX0_compare_2 11 rfl rfl)
theorem dX0_compare_60 : decode cX0_compare 60 = .ok (.ireturn, 1) := dk_172 (dk_at dksX0_compare_2 13 rfl rfl)
abbrev cX0_orders : ByteArray := prog_1_method_75_code
def yX0_orders : MethodName := ⟨RX0, "orders", "()I"⟩
def dkwX0_orders_5 : List UInt8 := [87, 42, 180, 0, 33, 42, 180, 0, 37, 182, 1, 247, 42, 28, 182, 0, 129, 172]
abbrev dktX0_orders_5 : List UInt8 := dkwX0_orders_5 ++ []
def dkwX0_orders_4 : List UInt8 := [181, 1, 250, 42, 43, 182, 1, 253, 61, 28, 156, 0, 26, 42, 182, 0, 136, 42, 180, 0, 43, 182, 1, 104]
abbrev dktX0_orders_4 : List UInt8 := dkwX0_orders_4 ++ dktX0_orders_5
def dkwX0_orders_3 : List UInt8 := [182, 1, 104, 87, 42, 180, 0, 37, 42, 180, 0, 33, 182, 1, 247, 42, 3, 181, 1, 238, 42, 2]
abbrev dktX0_orders_3 : List UInt8 := dkwX0_orders_3 ++ dktX0_orders_4
def dkwX0_orders_2 : List UInt8 := [181, 0, 143, 29, 172, 58, 4, 42, 3, 181, 0, 143, 25, 4, 191, 42, 180, 0, 43, 42, 182, 0, 136]
abbrev dktX0_orders_2 : List UInt8 := dkwX0_orders_2 ++ dktX0_orders_3
def dkwX0_orders_1 : List UInt8 := [181, 0, 143, 167, 0, 36, 77, 42, 44, 180, 1, 32, 181, 0, 75, 42, 16, 250, 182, 0, 129, 62, 42, 3]
abbrev dktX0_orders_1 : List UInt8 := dkwX0_orders_1 ++ dktX0_orders_2
def dkwX0_orders_0 : List UInt8 := [42, 2, 181, 0, 79, 187, 1, 241, 89, 42, 183, 1, 243, 182, 1, 244, 76, 42, 2, 181, 0, 75, 42, 3]
abbrev dktX0_orders_0 : List UInt8 := dkwX0_orders_0 ++ dktX0_orders_1
theorem dksX0_orders_0 : cX0_orders.data.toList.drop 0 = dktX0_orders_0 := by decide +kernel
theorem dksX0_orders_1 : cX0_orders.data.toList.drop 24 = dktX0_orders_1 := dk_seg dksX0_orders_0 24 rfl rfl
theorem dksX0_orders_2 : cX0_orders.data.toList.drop 48 = dktX0_orders_2 := dk_seg dksX0_orders_1 24 rfl rfl
theorem dksX0_orders_3 : cX0_orders.data.toList.drop 71 = dktX0_orders_3 := dk_seg dksX0_orders_2 23 rfl rfl
theorem dksX0_orders_4 : cX0_orders.data.toList.drop 93 = dktX0_orders_4 := dk_seg dksX0_orders_3 22 rfl rfl
theorem dksX0_orders_5 : cX0_orders.data.toList.drop 117 = dktX0_orders_5 := dk_seg dksX0_orders_4 24 rfl rfl
theorem dX0_orders_0 : decode cX0_orders 0 = .ok (.aload_n 0, 1) := dk_42 (dk_at dksX0_orders_0 0 rfl rfl)
theorem dX0_orders_1 : decode cX0_orders 1 = .ok (.iconst (-1), 1) := dk_2 (dk_at dksX0_orders_0 1 rfl rfl)
theorem dX0_orders_2 : decode cX0_orders 2 = .ok (.putfield 79, 3) := dk_181 0 79 (dk_at dksX0_orders_0 2 rfl rfl)
theorem dX0_orders_5 : decode cX0_orders 5 = .ok (.new 497, 3) := dk_187 1 241 (dk_at dksX0_orders_0 5 rfl rfl)
theorem dX0_orders_8 : decode cX0_orders 8 = .ok (.dup, 1) := dk_89 (dk_at dksX0_orders_0 8 rfl rfl)
theorem dX0_orders_9 : decode cX0_orders 9 = .ok (.aload_n 0, 1) := dk_42 (dk_at dksX0_orders_0 9 rfl rfl)
theorem dX0_orders_10 : decode cX0_orders 10 = .ok (.invokespecial 499, 3) := dk_183 1 243 (dk_at dksX0_orders_0 10 rfl rfl)
theorem dX0_orders_13 : decode cX0_orders 13 = .ok (.invokevirtual 500, 3) := dk_182 1 244 (dk_at dksX0_orders_0 13 rfl rfl)
theorem dX0_orders_16 : decode cX0_orders 16 = .ok (.astore_n 1, 1) := dk_76 (dk_at dksX0_orders_0 16 rfl rfl)
theorem dX0_orders_17 : decode cX0_orders 17 = .ok (.aload_n 0, 1) := dk_42 (dk_at dksX0_orders_0 17 rfl rfl)
theorem dX0_orders_18 : decode cX0_orders 18 = .ok (.iconst (-1), 1) := dk_2 (dk_at dksX0_orders_0 18 rfl rfl)
theorem dX0_orders_19 : decode cX0_orders 19 = .ok (.putfield 75, 3) := dk_181 0 75 (dk_at dksX0_orders_0 19 rfl rfl)
theorem dX0_orders_22 : decode cX0_orders 22 = .ok (.aload_n 0, 1) := dk_42 (dk_at dksX0_orders_0 22 rfl rfl)
theorem dX0_orders_23 : decode cX0_orders 23 = .ok (.iconst 0, 1) := dk_3 (dk_at dksX0_orders_0 23 rfl rfl)
theorem dX0_orders_24 : decode cX0_orders 24 = .ok (.putfield 143, 3) := dk_181 0 143 (dk_at dksX0_orders_1 0 rfl rfl)
theorem dX0_orders_27 : decode cX0_orders 27 = .ok (.goto 36, 3) := dk_167 0 36 (dk_at dksX0_orders_1 3 rfl rfl)
theorem dX0_orders_30 : decode cX0_orders 30 = .ok (.astore_n 2, 1) := dk_77 (dk_at dksX0_orders_1 6 rfl rfl)
theorem dX0_orders_31 : decode cX0_orders 31 = .ok (.aload_n 0, 1) := dk_42 (dk_at dksX0_orders_1 7 rfl rfl)
theorem dX0_orders_32 : decode cX0_orders 32 = .ok (.aload_n 2, 1) := dk_44 (dk_at dksX0_orders_1 8 rfl rfl)
theorem dX0_orders_33 : decode cX0_orders 33 = .ok (.getfield 288, 3) := dk_180 1 32 (dk_at dksX0_orders_1 9 rfl rfl)
theorem dX0_orders_36 : decode cX0_orders 36 = .ok (.putfield 75, 3) := dk_181 0 75 (dk_at dksX0_orders_1 12 rfl rfl)
theorem dX0_orders_39 : decode cX0_orders 39 = .ok (.aload_n 0, 1) := dk_42 (dk_at dksX0_orders_1 15 rfl rfl)
theorem dX0_orders_40 : decode cX0_orders 40 = .ok (.bipush (-6), 2) := dk_16 250 (dk_at dksX0_orders_1 16 rfl rfl)
theorem dX0_orders_42 : decode cX0_orders 42 = .ok (.invokevirtual 129, 3) := dk_182 0 129 (dk_at dksX0_orders_1 18 rfl rfl)
theorem dX0_orders_45 : decode cX0_orders 45 = .ok (.istore_n 3, 1) := dk_62 (dk_at dksX0_orders_1 21 rfl rfl)
theorem dX0_orders_46 : decode cX0_orders 46 = .ok (.aload_n 0, 1) := dk_42 (dk_at dksX0_orders_1 22 rfl rfl)
theorem dX0_orders_47 : decode cX0_orders 47 = .ok (.iconst 0, 1) := dk_3 (dk_at dksX0_orders_1 23 rfl rfl)
theorem dX0_orders_48 : decode cX0_orders 48 = .ok (.putfield 143, 3) := dk_181 0 143 (dk_at dksX0_orders_2 0 rfl rfl)
theorem dX0_orders_51 : decode cX0_orders 51 = .ok (.iload_n 3, 1) := dk_29 (dk_at dksX0_orders_2 3 rfl rfl)
theorem dX0_orders_52 : decode cX0_orders 52 = .ok (.ireturn, 1) := dk_172 (dk_at dksX0_orders_2 4 rfl rfl)
theorem dX0_orders_53 : decode cX0_orders 53 = .ok (.astore 4, 2) := dk_58 4 (dk_at dksX0_orders_2 5 rfl rfl)
theorem dX0_orders_55 : decode cX0_orders 55 = .ok (.aload_n 0, 1) := dk_42 (dk_at dksX0_orders_2 7 rfl rfl)
theorem dX0_orders_56 : decode cX0_orders 56 = .ok (.iconst 0, 1) := dk_3 (dk_at dksX0_orders_2 8 rfl rfl)
theorem dX0_orders_57 : decode cX0_orders 57 = .ok (.putfield 143, 3) := dk_181 0 143 (dk_at dksX0_orders_2 9 rfl rfl)
theorem dX0_orders_60 : decode cX0_orders 60 = .ok (.aload 4, 2) := dk_25 4 (dk_at dksX0_orders_2 12 rfl rfl)
theorem dX0_orders_62 : decode cX0_orders 62 = .ok (.athrow, 1) := dk_191 (dk_at dksX0_orders_2 14 rfl rfl)
theorem dX0_orders_63 : decode cX0_orders 63 = .ok (.aload_n 0, 1) := dk_42 (dk_at dksX0_orders_2 15 rfl rfl)
theorem dX0_orders_64 : decode cX0_orders 64 = .ok (.getfield 43, 3) := dk_180 0 43 (dk_at dksX0_orders_2 16 rfl rfl)
theorem dX0_orders_67 : decode cX0_orders 67 = .ok (.aload_n 0, 1) := dk_42 (dk_at dksX0_orders_2 19 rfl rfl)
theorem dX0_orders_68 : decode cX0_orders 68 = .ok (.invokevirtual 136, 3) := dk_182 0 136 (dk_at dksX0_orders_2 20 rfl rfl)
theorem dX0_orders_71 : decode cX0_orders 71 = .ok (.invokevirtual 360, 3) := dk_182 1 104 (dk_at dksX0_orders_3 0 rfl rfl)
theorem dX0_orders_74 : decode cX0_orders 74 = .ok (.pop, 1) := dk_87 (dk_at dksX0_orders_3 3 rfl rfl)
theorem dX0_orders_75 : decode cX0_orders 75 = .ok (.aload_n 0, 1) := dk_42 (dk_at dksX0_orders_3 4 rfl rfl)
theorem dX0_orders_76 : decode cX0_orders 76 = .ok (.getfield 37, 3) := dk_180 0 37 (dk_at dksX0_orders_3 5 rfl rfl)
theorem dX0_orders_79 : decode cX0_orders 79 = .ok (.aload_n 0, 1) := dk_42 (dk_at dksX0_orders_3 8 rfl rfl)
theorem dX0_orders_80 : decode cX0_orders 80 = .ok (.getfield 33, 3) := dk_180 0 33 (dk_at dksX0_orders_3 9 rfl rfl)
theorem dX0_orders_83 : decode cX0_orders 83 = .ok (.invokevirtual 503, 3) := dk_182 1 247 (dk_at dksX0_orders_3 12 rfl rfl)
theorem dX0_orders_86 : decode cX0_orders 86 = .ok (.aload_n 0, 1) := dk_42 (dk_at dksX0_orders_3 15 rfl rfl)
theorem dX0_orders_87 : decode cX0_orders 87 = .ok (.iconst 0, 1) := dk_3 (dk_at dksX0_orders_3 16 rfl rfl)
theorem dX0_orders_88 : decode cX0_orders 88 = .ok (.putfield 494, 3) := dk_181 1 238 (dk_at dksX0_orders_3 17 rfl rfl)
theorem dX0_orders_91 : decode cX0_orders 91 = .ok (.aload_n 0, 1) := dk_42 (dk_at dksX0_orders_3 20 rfl rfl)
theorem dX0_orders_92 : decode cX0_orders 92 = .ok (.iconst (-1), 1) := dk_2 (dk_at dksX0_orders_3 21 rfl rfl)
theorem dX0_orders_93 : decode cX0_orders 93 = .ok (.putfield 506, 3) := dk_181 1 250 (dk_at dksX0_orders_4 0 rfl rfl)
theorem dX0_orders_96 : decode cX0_orders 96 = .ok (.aload_n 0, 1) := dk_42 (dk_at dksX0_orders_4 3 rfl rfl)
theorem dX0_orders_97 : decode cX0_orders 97 = .ok (.aload_n 1, 1) := dk_43 (dk_at dksX0_orders_4 4 rfl rfl)
theorem dX0_orders_98 : decode cX0_orders 98 = .ok (.invokevirtual 509, 3) := dk_182 1 253 (dk_at dksX0_orders_4 5 rfl rfl)
theorem dX0_orders_101 : decode cX0_orders 101 = .ok (.istore_n 2, 1) := dk_61 (dk_at dksX0_orders_4 8 rfl rfl)
theorem dX0_orders_102 : decode cX0_orders 102 = .ok (.iload_n 2, 1) := dk_28 (dk_at dksX0_orders_4 9 rfl rfl)
theorem dX0_orders_103 : decode cX0_orders 103 = .ok (.ifCond .ge 26, 3) := dk_156 0 26 (dk_at dksX0_orders_4 10 rfl rfl)
theorem dX0_orders_106 : decode cX0_orders 106 = .ok (.aload_n 0, 1) := dk_42 (dk_at dksX0_orders_4 13 rfl rfl)
theorem dX0_orders_107 : decode cX0_orders 107 = .ok (.invokevirtual 136, 3) := dk_182 0 136 (dk_at dksX0_orders_4 14 rfl rfl)
theorem dX0_orders_110 : decode cX0_orders 110 = .ok (.aload_n 0, 1) := dk_42 (dk_at dksX0_orders_4 17 rfl rfl)
theorem dX0_orders_111 : decode cX0_orders 111 = .ok (.getfield 43, 3) := dk_180 0 43 (dk_at dksX0_orders_4 18 rfl rfl)
theorem dX0_orders_114 : decode cX0_orders 114 = .ok (.invokevirtual 360, 3) := dk_182 1 104 (dk_at dksX0_orders_4 21 rfl rfl)
theorem dX0_orders_117 : decode cX0_orders 117 = .ok (.pop, 1) := dk_87 (dk_at dksX0_orders_5 0 rfl rfl)
theorem dX0_orders_118 : decode cX0_orders 118 = .ok (.aload_n 0, 1) := dk_42 (dk_at dksX0_orders_5 1 rfl rfl)
theorem dX0_orders_119 : decode cX0_orders 119 = .ok (.getfield 33, 3) := dk_180 0 33 (dk_at dksX0_orders_5 2 rfl rfl)
theorem dX0_orders_122 : decode cX0_orders 122 = .ok (.aload_n 0, 1) := dk_42 (dk_at dksX0_orders_5 5 rfl rfl)
theorem dX0_orders_123 : decode cX0_orders 123 = .ok (.getfield 37, 3) := dk_180 0 37 (dk_at dksX0_orders_5 6 rfl rfl)
theorem dX0_orders_126 : decode cX0_orders 126 = .ok (.invokevirtual 503, 3) := dk_182 1 247 (dk_at dksX0_orders_5 9 rfl rfl)
theorem dX0_orders_129 : decode cX0_orders 129 = .ok (.aload_n 0, 1) := dk_42 (dk_at dksX0_orders_5 12 rfl rfl)
theorem dX0_orders_130 : decode cX0_orders 130 = .ok (.iload_n 2, 1) := dk_28 (dk_at dksX0_orders_5 13 rfl rfl)
theorem dX0_orders_131 : decode cX0_orders 131 = .ok (.invokevirtual 129, 3) := dk_182 0 129 (dk_at dksX0_orders_5 14 rfl rfl)
theorem dX0_orders_134 : decode cX0_orders 134 = .ok (.ireturn, 1) := dk_172 (dk_at dksX0_orders_5 17 rfl rfl)
abbrev cX0_runAll : ByteArray := prog_1_method_74_code
def yX0_runAll : MethodName := ⟨RX0, "runAll", "([LMissCurves$Act;)I"⟩
def dkwX0_runAll_2 : List UInt8 := [132, 2, 1, 167, 255, 209, 42, 180, 1, 238, 172]
abbrev dktX0_runAll_2 : List UInt8 := dkwX0_runAll_2 ++ []
def dkwX0_runAll_1 : List UInt8 := [182, 1, 235, 154, 0, 6, 167, 0, 11, 42, 28, 181, 0, 79, 16, 253, 172, 132, 3, 1, 167, 255, 223]
abbrev dktX0_runAll_1 : List UInt8 := dkwX0_runAll_1 ++ dktX0_runAll_2
def dkwX0_runAll_0 : List UInt8 := [3, 61, 28, 43, 190, 162, 0, 47, 3, 62, 29, 43, 28, 50, 180, 1, 230, 162, 0, 29, 43, 28, 50]
abbrev dktX0_runAll_0 : List UInt8 := dkwX0_runAll_0 ++ dktX0_runAll_1
theorem dksX0_runAll_0 : cX0_runAll.data.toList.drop 0 = dktX0_runAll_0 := by decide +kernel
theorem dksX0_runAll_1 : cX0_runAll.data.toList.drop 23 = dktX0_runAll_1 := dk_seg dksX0_runAll_0 23 rfl rfl
theorem dksX0_runAll_2 : cX0_runAll.data.toList.drop 46 = dktX0_runAll_2 := dk_seg dksX0_runAll_1 23 rfl rfl
theorem dX0_runAll_0 : decode cX0_runAll 0 = .ok (.iconst 0, 1) := dk_3 (dk_at dksX0_runAll_0 0 rfl rfl)
theorem dX0_runAll_1 : decode cX0_runAll 1 = .ok (.istore_n 2, 1) := dk_61 (dk_at dksX0_runAll_0 1 rfl rfl)
theorem dX0_runAll_2 : decode cX0_runAll 2 = .ok (.iload_n 2, 1) := dk_28 (dk_at dksX0_runAll_0 2 rfl rfl)
theorem dX0_runAll_3 : decode cX0_runAll 3 = .ok (.aload_n 1, 1) := dk_43 (dk_at dksX0_runAll_0 3 rfl rfl)
theorem dX0_runAll_4 : decode cX0_runAll 4 = .ok (.arraylength, 1) := dk_190 (dk_at dksX0_runAll_0 4 rfl rfl)
theorem dX0_runAll_5 : decode cX0_runAll 5 = .ok (.if_icmp .ge 47, 3) := dk_162 0 47 (dk_at dksX0_runAll_0 5 rfl rfl)
theorem dX0_runAll_8 : decode cX0_runAll 8 = .ok (.iconst 0, 1) := dk_3 (dk_at dksX0_runAll_0 8 rfl rfl)
theorem dX0_runAll_9 : decode cX0_runAll 9 = .ok (.istore_n 3, 1) := dk_62 (dk_at dksX0_runAll_0 9 rfl rfl)
theorem dX0_runAll_10 : decode cX0_runAll 10 = .ok (.iload_n 3, 1) := dk_29 (dk_at dksX0_runAll_0 10 rfl rfl)
theorem dX0_runAll_11 : decode cX0_runAll 11 = .ok (.aload_n 1, 1) := dk_43 (dk_at dksX0_runAll_0 11 rfl rfl)
theorem dX0_runAll_12 : decode cX0_runAll 12 = .ok (.iload_n 2, 1) := dk_28 (dk_at dksX0_runAll_0 12 rfl rfl)
theorem dX0_runAll_13 : decode cX0_runAll 13 = .ok (.aaload, 1) := dk_50 (dk_at dksX0_runAll_0 13 rfl rfl)
theorem dX0_runAll_14 : decode cX0_runAll 14 = .ok (.getfield 486, 3) := dk_180 1 230 (dk_at dksX0_runAll_0 14 rfl rfl)
theorem dX0_runAll_17 : decode cX0_runAll 17 = .ok (.if_icmp .ge 29, 3) := dk_162 0 29 (dk_at dksX0_runAll_0 17 rfl rfl)
theorem dX0_runAll_20 : decode cX0_runAll 20 = .ok (.aload_n 1, 1) := dk_43 (dk_at dksX0_runAll_0 20 rfl rfl)
theorem dX0_runAll_21 : decode cX0_runAll 21 = .ok (.iload_n 2, 1) := dk_28 (dk_at dksX0_runAll_0 21 rfl rfl)
theorem dX0_runAll_22 : decode cX0_runAll 22 = .ok (.aaload, 1) := dk_50 (dk_at dksX0_runAll_0 22 rfl rfl)
theorem dX0_runAll_23 : decode cX0_runAll 23 = .ok (.invokevirtual 491, 3) := dk_182 1 235 (dk_at dksX0_runAll_1 0 rfl rfl)
theorem dX0_runAll_26 : decode cX0_runAll 26 = .ok (.ifCond .ne 6, 3) := dk_154 0 6 (dk_at dksX0_runAll_1 3 rfl rfl)
theorem dX0_runAll_29 : decode cX0_runAll 29 = .ok (.goto 11, 3) := dk_167 0 11 (dk_at dksX0_runAll_1 6 rfl rfl)
theorem dX0_runAll_32 : decode cX0_runAll 32 = .ok (.aload_n 0, 1) := dk_42 (dk_at dksX0_runAll_1 9 rfl rfl)
theorem dX0_runAll_33 : decode cX0_runAll 33 = .ok (.iload_n 2, 1) := dk_28 (dk_at dksX0_runAll_1 10 rfl rfl)
theorem dX0_runAll_34 : decode cX0_runAll 34 = .ok (.putfield 79, 3) := dk_181 0 79 (dk_at dksX0_runAll_1 11 rfl rfl)
theorem dX0_runAll_37 : decode cX0_runAll 37 = .ok (.bipush (-3), 2) := dk_16 253 (dk_at dksX0_runAll_1 14 rfl rfl)
theorem dX0_runAll_39 : decode cX0_runAll 39 = .ok (.ireturn, 1) := dk_172 (dk_at dksX0_runAll_1 16 rfl rfl)
theorem dX0_runAll_40 : decode cX0_runAll 40 = .ok (.iinc 3 1, 3) := dk_132 3 1 (dk_at dksX0_runAll_1 17 rfl rfl)
theorem dX0_runAll_43 : decode cX0_runAll 43 = .ok (.goto (-33), 3) := dk_167 255 223 (dk_at dksX0_runAll_1 20 rfl rfl)
theorem dX0_runAll_46 : decode cX0_runAll 46 = .ok (.iinc 2 1, 3) := dk_132 2 1 (dk_at dksX0_runAll_2 0 rfl rfl)
theorem dX0_runAll_49 : decode cX0_runAll 49 = .ok (.goto (-47), 3) := dk_167 255 209 (dk_at dksX0_runAll_2 3 rfl rfl)
theorem dX0_runAll_52 : decode cX0_runAll 52 = .ok (.aload_n 0, 1) := dk_42 (dk_at dksX0_runAll_2 6 rfl rfl)
theorem dX0_runAll_53 : decode cX0_runAll 53 = .ok (.getfield 494, 3) := dk_180 1 238 (dk_at dksX0_runAll_2 7 rfl rfl)
theorem dX0_runAll_56 : decode cX0_runAll 56 = .ok (.ireturn, 1) := dk_172 (dk_at dksX0_runAll_2 10 rfl rfl)
abbrev cX0_stopped : ByteArray := prog_1_method_76_code
def yX0_stopped : MethodName := ⟨RX0, "stopped", "()I"⟩
theorem dX0_stopped_0 : decode cX0_stopped 0 = .ok (.aload_n 0, 1) := by decide +kernel
theorem dX0_stopped_1 : decode cX0_stopped 1 = .ok (.getfield 79, 3) := by decide +kernel
theorem dX0_stopped_4 : decode cX0_stopped 4 = .ok (.ireturn, 1) := by decide +kernel
abbrev cX0_months : ByteArray := prog_1_method_77_code
def yX0_months : MethodName := ⟨RX0, "months", "(II)I"⟩
def dkwX0_months_9 : List UInt8 := [182, 0, 129, 172]
abbrev dktX0_months_9 : List UInt8 := dkwX0_months_9 ++ []
def dkwX0_months_8 : List UInt8 := [182, 1, 104, 87, 42, 4, 181, 2, 12, 42, 182, 0, 136, 42, 180, 0, 47, 182, 1, 104, 87, 42, 21, 4]
abbrev dktX0_months_8 : List UInt8 := dkwX0_months_8 ++ dktX0_months_9
def dkwX0_months_7 : List UInt8 := [160, 0, 8, 42, 182, 1, 95, 87, 132, 5, 1, 167, 255, 139, 42, 180, 0, 114, 42, 182, 0, 136]
abbrev dktX0_months_7 : List UInt8 := dkwX0_months_7 ++ dktX0_months_8
def dkwX0_months_6 : List UInt8 := [21, 7, 182, 0, 183, 158, 0, 14, 42, 21, 6, 182, 0, 154, 21, 7, 182, 1, 86, 21, 8, 16, 7]
abbrev dktX0_months_6 : List UInt8 := dkwX0_months_6 ++ dktX0_months_7
def dkwX0_months_5 : List UInt8 := [154, 0, 7, 4, 167, 0, 4, 3, 96, 54, 4, 21, 8, 16, 6, 160, 0, 28, 42, 21, 6, 182, 0, 154]
abbrev dktX0_months_5 : List UInt8 := dkwX0_months_5 ++ dktX0_months_6
def dkwX0_months_4 : List UInt8 := [182, 2, 9, 54, 8, 21, 8, 16, 6, 162, 0, 24, 21, 4, 42, 21, 6, 21, 7, 182, 0, 233]
abbrev dktX0_months_4 : List UInt8 := dkwX0_months_4 ++ dktX0_months_5
def dkwX0_months_3 : List UInt8 := [17, 3, 231, 162, 0, 104, 45, 7, 182, 2, 9, 54, 6, 45, 16, 20, 182, 2, 9, 54, 7, 45, 16, 8]
abbrev dktX0_months_3 : List UInt8 := dkwX0_months_3 ++ dktX0_months_4
def dkwX0_months_2 : List UInt8 := [182, 1, 104, 87, 3, 54, 4, 3, 54, 5, 21, 5, 28, 162, 0, 117, 42, 182, 0, 136, 180, 0, 205]
abbrev dktX0_months_2 : List UInt8 := dkwX0_months_2 ++ dktX0_months_3
def dkwX0_months_1 : List UInt8 := [42, 2, 182, 0, 129, 172, 187, 2, 5, 89, 27, 183, 2, 7, 78, 42, 180, 0, 47, 42, 182, 0, 136]
abbrev dktX0_months_1 : List UInt8 := dkwX0_months_1 ++ dktX0_months_2
def dkwX0_months_0 : List UInt8 := [27, 133, 9, 20, 2, 1, 184, 0, 5, 153, 0, 15, 28, 133, 10, 20, 2, 3, 184, 0, 5, 154, 0, 9]
abbrev dktX0_months_0 : List UInt8 := dkwX0_months_0 ++ dktX0_months_1
theorem dksX0_months_0 : cX0_months.data.toList.drop 0 = dktX0_months_0 := by decide +kernel
theorem dksX0_months_1 : cX0_months.data.toList.drop 24 = dktX0_months_1 := dk_seg dksX0_months_0 24 rfl rfl
theorem dksX0_months_2 : cX0_months.data.toList.drop 47 = dktX0_months_2 := dk_seg dksX0_months_1 23 rfl rfl
theorem dksX0_months_3 : cX0_months.data.toList.drop 70 = dktX0_months_3 := dk_seg dksX0_months_2 23 rfl rfl
theorem dksX0_months_4 : cX0_months.data.toList.drop 94 = dktX0_months_4 := dk_seg dksX0_months_3 24 rfl rfl
theorem dksX0_months_5 : cX0_months.data.toList.drop 116 = dktX0_months_5 := dk_seg dksX0_months_4 22 rfl rfl
theorem dksX0_months_6 : cX0_months.data.toList.drop 140 = dktX0_months_6 := dk_seg dksX0_months_5 24 rfl rfl
theorem dksX0_months_7 : cX0_months.data.toList.drop 163 = dktX0_months_7 := dk_seg dksX0_months_6 23 rfl rfl
theorem dksX0_months_8 : cX0_months.data.toList.drop 185 = dktX0_months_8 := dk_seg dksX0_months_7 22 rfl rfl
theorem dksX0_months_9 : cX0_months.data.toList.drop 209 = dktX0_months_9 := dk_seg dksX0_months_8 24 rfl rfl
theorem dX0_months_0 : decode cX0_months 0 = .ok (.iload_n 1, 1) := dk_27 (dk_at dksX0_months_0 0 rfl rfl)
theorem dX0_months_1 : decode cX0_months 1 = .ok (.i2l, 1) := dk_133 (dk_at dksX0_months_0 1 rfl rfl)
theorem dX0_months_2 : decode cX0_months 2 = .ok (.lconst 0, 1) := dk_9 (dk_at dksX0_months_0 2 rfl rfl)
theorem dX0_months_3 : decode cX0_months 3 = .ok (.ldc2_w 513, 3) := dk_20 2 1 (dk_at dksX0_months_0 3 rfl rfl)
theorem dX0_months_6 : decode cX0_months 6 = .ok (.invokestatic 5, 3) := dk_184 0 5 (dk_at dksX0_months_0 6 rfl rfl)
theorem dX0_months_9 : decode cX0_months 9 = .ok (.ifCond .eq 15, 3) := dk_153 0 15 (dk_at dksX0_months_0 9 rfl rfl)
theorem dX0_months_12 : decode cX0_months 12 = .ok (.iload_n 2, 1) := dk_28 (dk_at dksX0_months_0 12 rfl rfl)
theorem dX0_months_13 : decode cX0_months 13 = .ok (.i2l, 1) := dk_133 (dk_at dksX0_months_0 13 rfl rfl)
theorem dX0_months_14 : decode cX0_months 14 = .ok (.lconst 1, 1) := dk_10 (dk_at dksX0_months_0 14 rfl rfl)
theorem dX0_months_15 : decode cX0_months 15 = .ok (.ldc2_w 515, 3) := dk_20 2 3 (dk_at dksX0_months_0 15 rfl rfl)
theorem dX0_months_18 : decode cX0_months 18 = .ok (.invokestatic 5, 3) := dk_184 0 5 (dk_at dksX0_months_0 18 rfl rfl)
theorem dX0_months_21 : decode cX0_months 21 = .ok (.ifCond .ne 9, 3) := dk_154 0 9 (dk_at dksX0_months_0 21 rfl rfl)
theorem dX0_months_24 : decode cX0_months 24 = .ok (.aload_n 0, 1) := dk_42 (dk_at dksX0_months_1 0 rfl rfl)
theorem dX0_months_25 : decode cX0_months 25 = .ok (.iconst (-1), 1) := dk_2 (dk_at dksX0_months_1 1 rfl rfl)
theorem dX0_months_26 : decode cX0_months 26 = .ok (.invokevirtual 129, 3) := dk_182 0 129 (dk_at dksX0_months_1 2 rfl rfl)
theorem dX0_months_29 : decode cX0_months 29 = .ok (.ireturn, 1) := dk_172 (dk_at dksX0_months_1 5 rfl rfl)
theorem dX0_months_30 : decode cX0_months 30 = .ok (.new 517, 3) := dk_187 2 5 (dk_at dksX0_months_1 6 rfl rfl)
theorem dX0_months_33 : decode cX0_months 33 = .ok (.dup, 1) := dk_89 (dk_at dksX0_months_1 9 rfl rfl)
theorem dX0_months_34 : decode cX0_months 34 = .ok (.iload_n 1, 1) := dk_27 (dk_at dksX0_months_1 10 rfl rfl)
theorem dX0_months_35 : decode cX0_months 35 = .ok (.invokespecial 519, 3) := dk_183 2 7 (dk_at dksX0_months_1 11 rfl rfl)
theorem dX0_months_38 : decode cX0_months 38 = .ok (.astore_n 3, 1) := dk_78 (dk_at dksX0_months_1 14 rfl rfl)
theorem dX0_months_39 : decode cX0_months 39 = .ok (.aload_n 0, 1) := dk_42 (dk_at dksX0_months_1 15 rfl rfl)
theorem dX0_months_40 : decode cX0_months 40 = .ok (.getfield 47, 3) := dk_180 0 47 (dk_at dksX0_months_1 16 rfl rfl)
theorem dX0_months_43 : decode cX0_months 43 = .ok (.aload_n 0, 1) := dk_42 (dk_at dksX0_months_1 19 rfl rfl)
theorem dX0_months_44 : decode cX0_months 44 = .ok (.invokevirtual 136, 3) := dk_182 0 136 (dk_at dksX0_months_1 20 rfl rfl)
theorem dX0_months_47 : decode cX0_months 47 = .ok (.invokevirtual 360, 3) := dk_182 1 104 (dk_at dksX0_months_2 0 rfl rfl)
theorem dX0_months_50 : decode cX0_months 50 = .ok (.pop, 1) := dk_87 (dk_at dksX0_months_2 3 rfl rfl)
theorem dX0_months_51 : decode cX0_months 51 = .ok (.iconst 0, 1) := dk_3 (dk_at dksX0_months_2 4 rfl rfl)
theorem dX0_months_52 : decode cX0_months 52 = .ok (.istore 4, 2) := dk_54 4 (dk_at dksX0_months_2 5 rfl rfl)
theorem dX0_months_54 : decode cX0_months 54 = .ok (.iconst 0, 1) := dk_3 (dk_at dksX0_months_2 7 rfl rfl)
theorem dX0_months_55 : decode cX0_months 55 = .ok (.istore 5, 2) := dk_54 5 (dk_at dksX0_months_2 8 rfl rfl)
theorem dX0_months_57 : decode cX0_months 57 = .ok (.iload 5, 2) := dk_21 5 (dk_at dksX0_months_2 10 rfl rfl)
theorem dX0_months_59 : decode cX0_months 59 = .ok (.iload_n 2, 1) := dk_28 (dk_at dksX0_months_2 12 rfl rfl)
theorem dX0_months_60 : decode cX0_months 60 = .ok (.if_icmp .ge 117, 3) := dk_162 0 117 (dk_at dksX0_months_2 13 rfl rfl)
theorem dX0_months_63 : decode cX0_months 63 = .ok (.aload_n 0, 1) := dk_42 (dk_at dksX0_months_2 16 rfl rfl)
theorem dX0_months_64 : decode cX0_months 64 = .ok (.invokevirtual 136, 3) := dk_182 0 136 (dk_at dksX0_months_2 17 rfl rfl)
theorem dX0_months_67 : decode cX0_months 67 = .ok (.getfield 205, 3) := dk_180 0 205 (dk_at dksX0_months_2 20 rfl rfl)
theorem dX0_months_70 : decode cX0_months 70 = .ok (.sipush 999, 3) := dk_17 3 231 (dk_at dksX0_months_3 0 rfl rfl)
theorem dX0_months_73 : decode cX0_months 73 = .ok (.if_icmp .ge 104, 3) := dk_162 0 104 (dk_at dksX0_months_3 3 rfl rfl)
theorem dX0_months_76 : decode cX0_months 76 = .ok (.aload_n 3, 1) := dk_45 (dk_at dksX0_months_3 6 rfl rfl)
theorem dX0_months_77 : decode cX0_months 77 = .ok (.iconst 4, 1) := dk_7 (dk_at dksX0_months_3 7 rfl rfl)
theorem dX0_months_78 : decode cX0_months 78 = .ok (.invokevirtual 521, 3) := dk_182 2 9 (dk_at dksX0_months_3 8 rfl rfl)
theorem dX0_months_81 : decode cX0_months 81 = .ok (.istore 6, 2) := dk_54 6 (dk_at dksX0_months_3 11 rfl rfl)
theorem dX0_months_83 : decode cX0_months 83 = .ok (.aload_n 3, 1) := dk_45 (dk_at dksX0_months_3 13 rfl rfl)
theorem dX0_months_84 : decode cX0_months 84 = .ok (.bipush 20, 2) := dk_16 20 (dk_at dksX0_months_3 14 rfl rfl)
theorem dX0_months_86 : decode cX0_months 86 = .ok (.invokevirtual 521, 3) := dk_182 2 9 (dk_at dksX0_months_3 16 rfl rfl)
theorem dX0_months_89 : decode cX0_months 89 = .ok (.istore 7, 2) := dk_54 7 (dk_at dksX0_months_3 19 rfl rfl)
theorem dX0_months_91 : decode cX0_months 91 = .ok (.aload_n 3, 1) := dk_45 (dk_at dksX0_months_3 21 rfl rfl)
theorem dX0_months_92 : decode cX0_months 92 = .ok (.bipush 8, 2) := dk_16 8 (dk_at dksX0_months_3 22 rfl rfl)
theorem dX0_months_94 : decode cX0_months 94 = .ok (.invokevirtual 521, 3) := dk_182 2 9 (dk_at dksX0_months_4 0 rfl rfl)
theorem dX0_months_97 : decode cX0_months 97 = .ok (.istore 8, 2) := dk_54 8 (dk_at dksX0_months_4 3 rfl rfl)
theorem dX0_months_99 : decode cX0_months 99 = .ok (.iload 8, 2) := dk_21 8 (dk_at dksX0_months_4 5 rfl rfl)
theorem dX0_months_101 : decode cX0_months 101 = .ok (.bipush 6, 2) := dk_16 6 (dk_at dksX0_months_4 7 rfl rfl)
theorem dX0_months_103 : decode cX0_months 103 = .ok (.if_icmp .ge 24, 3) := dk_162 0 24 (dk_at dksX0_months_4 9 rfl rfl)
theorem dX0_months_106 : decode cX0_months 106 = .ok (.iload 4, 2) := dk_21 4 (dk_at dksX0_months_4 12 rfl rfl)
theorem dX0_months_108 : decode cX0_months 108 = .ok (.aload_n 0, 1) := dk_42 (dk_at dksX0_months_4 14 rfl rfl)
theorem dX0_months_109 : decode cX0_months 109 = .ok (.iload 6, 2) := dk_21 6 (dk_at dksX0_months_4 15 rfl rfl)
theorem dX0_months_111 : decode cX0_months 111 = .ok (.iload 7, 2) := dk_21 7 (dk_at dksX0_months_4 17 rfl rfl)
theorem dX0_months_113 : decode cX0_months 113 = .ok (.invokevirtual 233, 3) := dk_182 0 233 (dk_at dksX0_months_4 19 rfl rfl)
theorem dX0_months_116 : decode cX0_months 116 = .ok (.ifCond .ne 7, 3) := dk_154 0 7 (dk_at dksX0_months_5 0 rfl rfl)
theorem dX0_months_119 : decode cX0_months 119 = .ok (.iconst 1, 1) := dk_4 (dk_at dksX0_months_5 3 rfl rfl)
theorem dX0_months_120 : decode cX0_months 120 = .ok (.goto 4, 3) := dk_167 0 4 (dk_at dksX0_months_5 4 rfl rfl)
theorem dX0_months_123 : decode cX0_months 123 = .ok (.iconst 0, 1) := dk_3 (dk_at dksX0_months_5 7 rfl rfl)
theorem dX0_months_124 : decode cX0_months 124 = .ok (.iadd, 1) := dk_96 (dk_at dksX0_months_5 8 rfl rfl)
theorem dX0_months_125 : decode cX0_months 125 = .ok (.istore 4, 2) := dk_54 4 (dk_at dksX0_months_5 9 rfl rfl)
theorem dX0_months_127 : decode cX0_months 127 = .ok (.iload 8, 2) := dk_21 8 (dk_at dksX0_months_5 11 rfl rfl)
theorem dX0_months_129 : decode cX0_months 129 = .ok (.bipush 6, 2) := dk_16 6 (dk_at dksX0_months_5 13 rfl rfl)
theorem dX0_months_131 : decode cX0_months 131 = .ok (.if_icmp .ne 28, 3) := dk_160 0 28 (dk_at dksX0_months_5 15 rfl rfl)
theorem dX0_months_134 : decode cX0_months 134 = .ok (.aload_n 0, 1) := dk_42 (dk_at dksX0_months_5 18 rfl rfl)
theorem dX0_months_135 : decode cX0_months 135 = .ok (.iload 6, 2) := dk_21 6 (dk_at dksX0_months_5 19 rfl rfl)
theorem dX0_months_137 : decode cX0_months 137 = .ok (.invokevirtual 154, 3) := dk_182 0 154 (dk_at dksX0_months_5 21 rfl rfl)
theorem dX0_months_140 : decode cX0_months 140 = .ok (.iload 7, 2) := dk_21 7 (dk_at dksX0_months_6 0 rfl rfl)
theorem dX0_months_142 : decode cX0_months 142 = .ok (.invokevirtual 183, 3) := dk_182 0 183 (dk_at dksX0_months_6 2 rfl rfl)
theorem dX0_months_145 : decode cX0_months 145 = .ok (.ifCond .le 14, 3) := dk_158 0 14 (dk_at dksX0_months_6 5 rfl rfl)
theorem dX0_months_148 : decode cX0_months 148 = .ok (.aload_n 0, 1) := dk_42 (dk_at dksX0_months_6 8 rfl rfl)
theorem dX0_months_149 : decode cX0_months 149 = .ok (.iload 6, 2) := dk_21 6 (dk_at dksX0_months_6 9 rfl rfl)
theorem dX0_months_151 : decode cX0_months 151 = .ok (.invokevirtual 154, 3) := dk_182 0 154 (dk_at dksX0_months_6 11 rfl rfl)
theorem dX0_months_154 : decode cX0_months 154 = .ok (.iload 7, 2) := dk_21 7 (dk_at dksX0_months_6 14 rfl rfl)
theorem dX0_months_156 : decode cX0_months 156 = .ok (.invokevirtual 342, 3) := dk_182 1 86 (dk_at dksX0_months_6 16 rfl rfl)
theorem dX0_months_159 : decode cX0_months 159 = .ok (.iload 8, 2) := dk_21 8 (dk_at dksX0_months_6 19 rfl rfl)
theorem dX0_months_161 : decode cX0_months 161 = .ok (.bipush 7, 2) := dk_16 7 (dk_at dksX0_months_6 21 rfl rfl)
theorem dX0_months_163 : decode cX0_months 163 = .ok (.if_icmp .ne 8, 3) := dk_160 0 8 (dk_at dksX0_months_7 0 rfl rfl)
theorem dX0_months_166 : decode cX0_months 166 = .ok (.aload_n 0, 1) := dk_42 (dk_at dksX0_months_7 3 rfl rfl)
theorem dX0_months_167 : decode cX0_months 167 = .ok (.invokevirtual 351, 3) := dk_182 1 95 (dk_at dksX0_months_7 4 rfl rfl)
theorem dX0_months_170 : decode cX0_months 170 = .ok (.pop, 1) := dk_87 (dk_at dksX0_months_7 7 rfl rfl)
theorem dX0_months_171 : decode cX0_months 171 = .ok (.iinc 5 1, 3) := dk_132 5 1 (dk_at dksX0_months_7 8 rfl rfl)
theorem dX0_months_174 : decode cX0_months 174 = .ok (.goto (-117), 3) := dk_167 255 139 (dk_at dksX0_months_7 11 rfl rfl)
theorem dX0_months_177 : decode cX0_months 177 = .ok (.aload_n 0, 1) := dk_42 (dk_at dksX0_months_7 14 rfl rfl)
theorem dX0_months_178 : decode cX0_months 178 = .ok (.getfield 114, 3) := dk_180 0 114 (dk_at dksX0_months_7 15 rfl rfl)
theorem dX0_months_181 : decode cX0_months 181 = .ok (.aload_n 0, 1) := dk_42 (dk_at dksX0_months_7 18 rfl rfl)
theorem dX0_months_182 : decode cX0_months 182 = .ok (.invokevirtual 136, 3) := dk_182 0 136 (dk_at dksX0_months_7 19 rfl rfl)
theorem dX0_months_185 : decode cX0_months 185 = .ok (.invokevirtual 360, 3) := dk_182 1 104 (dk_at dksX0_months_8 0 rfl rfl)
theorem dX0_months_188 : decode cX0_months 188 = .ok (.pop, 1) := dk_87 (dk_at dksX0_months_8 3 rfl rfl)
theorem dX0_months_189 : decode cX0_months 189 = .ok (.aload_n 0, 1) := dk_42 (dk_at dksX0_months_8 4 rfl rfl)
theorem dX0_months_190 : decode cX0_months 190 = .ok (.iconst 1, 1) := dk_4 (dk_at dksX0_months_8 5 rfl rfl)
theorem dX0_months_191 : decode cX0_months 191 = .ok (.putfield 524, 3) := dk_181 2 12 (dk_at dksX0_months_8 6 rfl rfl)
theorem dX0_months_194 : decode cX0_months 194 = .ok (.aload_n 0, 1) := dk_42 (dk_at dksX0_months_8 9 rfl rfl)
theorem dX0_months_195 : decode cX0_months 195 = .ok (.invokevirtual 136, 3) := dk_182 0 136 (dk_at dksX0_months_8 10 rfl rfl)
theorem dX0_months_198 : decode cX0_months 198 = .ok (.aload_n 0, 1) := dk_42 (dk_at dksX0_months_8 13 rfl rfl)
theorem dX0_months_199 : decode cX0_months 199 = .ok (.getfield 47, 3) := dk_180 0 47 (dk_at dksX0_months_8 14 rfl rfl)
theorem dX0_months_202 : decode cX0_months 202 = .ok (.invokevirtual 360, 3) := dk_182 1 104 (dk_at dksX0_months_8 17 rfl rfl)
theorem dX0_months_205 : decode cX0_months 205 = .ok (.pop, 1) := dk_87 (dk_at dksX0_months_8 20 rfl rfl)
theorem dX0_months_206 : decode cX0_months 206 = .ok (.aload_n 0, 1) := dk_42 (dk_at dksX0_months_8 21 rfl rfl)
theorem dX0_months_207 : decode cX0_months 207 = .ok (.iload 4, 2) := dk_21 4 (dk_at dksX0_months_8 22 rfl rfl)
theorem dX0_months_209 : decode cX0_months 209 = .ok (.invokevirtual 129, 3) := dk_182 0 129 (dk_at dksX0_months_9 0 rfl rfl)
theorem dX0_months_212 : decode cX0_months 212 = .ok (.ireturn, 1) := dk_172 (dk_at dksX0_months_9 3 rfl rfl)
abbrev cX0_drawn : ByteArray := prog_1_method_78_code
def yX0_drawn : MethodName := ⟨RX0, "drawn", "(II)I"⟩
def dkwX0_drawn_1 : List UInt8 := [180, 0, 114, 180, 0, 139, 27, 50, 28, 182, 1, 114, 167, 0, 4, 2, 172]
abbrev dktX0_drawn_1 : List UInt8 := dkwX0_drawn_1 ++ []
def dkwX0_drawn_0 : List UInt8 := [42, 180, 2, 12, 153, 0, 33, 27, 184, 0, 150, 153, 0, 26, 28, 184, 1, 111, 153, 0, 19, 42]
abbrev dktX0_drawn_0 : List UInt8 := dkwX0_drawn_0 ++ dktX0_drawn_1
theorem dksX0_drawn_0 : cX0_drawn.data.toList.drop 0 = dktX0_drawn_0 := by decide +kernel
theorem dksX0_drawn_1 : cX0_drawn.data.toList.drop 22 = dktX0_drawn_1 := dk_seg dksX0_drawn_0 22 rfl rfl
theorem dX0_drawn_0 : decode cX0_drawn 0 = .ok (.aload_n 0, 1) := dk_42 (dk_at dksX0_drawn_0 0 rfl rfl)
theorem dX0_drawn_1 : decode cX0_drawn 1 = .ok (.getfield 524, 3) := dk_180 2 12 (dk_at dksX0_drawn_0 1 rfl rfl)
theorem dX0_drawn_4 : decode cX0_drawn 4 = .ok (.ifCond .eq 33, 3) := dk_153 0 33 (dk_at dksX0_drawn_0 4 rfl rfl)
theorem dX0_drawn_7 : decode cX0_drawn 7 = .ok (.iload_n 1, 1) := dk_27 (dk_at dksX0_drawn_0 7 rfl rfl)
theorem dX0_drawn_8 : decode cX0_drawn 8 = .ok (.invokestatic 150, 3) := dk_184 0 150 (dk_at dksX0_drawn_0 8 rfl rfl)
theorem dX0_drawn_11 : decode cX0_drawn 11 = .ok (.ifCond .eq 26, 3) := dk_153 0 26 (dk_at dksX0_drawn_0 11 rfl rfl)
theorem dX0_drawn_14 : decode cX0_drawn 14 = .ok (.iload_n 2, 1) := dk_28 (dk_at dksX0_drawn_0 14 rfl rfl)
theorem dX0_drawn_15 : decode cX0_drawn 15 = .ok (.invokestatic 367, 3) := dk_184 1 111 (dk_at dksX0_drawn_0 15 rfl rfl)
theorem dX0_drawn_18 : decode cX0_drawn 18 = .ok (.ifCond .eq 19, 3) := dk_153 0 19 (dk_at dksX0_drawn_0 18 rfl rfl)
theorem dX0_drawn_21 : decode cX0_drawn 21 = .ok (.aload_n 0, 1) := dk_42 (dk_at dksX0_drawn_0 21 rfl rfl)
theorem dX0_drawn_22 : decode cX0_drawn 22 = .ok (.getfield 114, 3) := dk_180 0 114 (dk_at dksX0_drawn_1 0 rfl rfl)
theorem dX0_drawn_25 : decode cX0_drawn 25 = .ok (.getfield 139, 3) := dk_180 0 139 (dk_at dksX0_drawn_1 3 rfl rfl)
theorem dX0_drawn_28 : decode cX0_drawn 28 = .ok (.iload_n 1, 1) := dk_27 (dk_at dksX0_drawn_1 6 rfl rfl)
theorem dX0_drawn_29 : decode cX0_drawn 29 = .ok (.aaload, 1) := dk_50 (dk_at dksX0_drawn_1 7 rfl rfl)
theorem dX0_drawn_30 : decode cX0_drawn 30 = .ok (.iload_n 2, 1) := dk_28 (dk_at dksX0_drawn_1 8 rfl rfl)
theorem dX0_drawn_31 : decode cX0_drawn 31 = .ok (.invokevirtual 370, 3) := dk_182 1 114 (dk_at dksX0_drawn_1 9 rfl rfl)
theorem dX0_drawn_34 : decode cX0_drawn 34 = .ok (.goto 4, 3) := dk_167 0 4 (dk_at dksX0_drawn_1 12 rfl rfl)
theorem dX0_drawn_37 : decode cX0_drawn 37 = .ok (.iconst (-1), 1) := dk_2 (dk_at dksX0_drawn_1 15 rfl rfl)
theorem dX0_drawn_38 : decode cX0_drawn 38 = .ok (.ireturn, 1) := dk_172 (dk_at dksX0_drawn_1 16 rfl rfl)
abbrev cX0_image : ByteArray := prog_1_method_79_code
def yX0_image : MethodName := ⟨RX0, "image", "(I)I"⟩
def dkwX0_image_1 : List UInt8 := [180, 0, 22, 182, 2, 16, 83, 42, 3, 182, 0, 129, 172]
abbrev dktX0_image_1 : List UInt8 := dkwX0_image_1 ++ []
def dkwX0_image_0 : List UInt8 := [27, 133, 9, 10, 184, 0, 5, 154, 0, 9, 42, 2, 182, 0, 129, 172, 42, 180, 0, 26, 27, 42]
abbrev dktX0_image_0 : List UInt8 := dkwX0_image_0 ++ dktX0_image_1
theorem dksX0_image_0 : cX0_image.data.toList.drop 0 = dktX0_image_0 := by decide +kernel
theorem dksX0_image_1 : cX0_image.data.toList.drop 22 = dktX0_image_1 := dk_seg dksX0_image_0 22 rfl rfl
theorem dX0_image_0 : decode cX0_image 0 = .ok (.iload_n 1, 1) := dk_27 (dk_at dksX0_image_0 0 rfl rfl)
theorem dX0_image_1 : decode cX0_image 1 = .ok (.i2l, 1) := dk_133 (dk_at dksX0_image_0 1 rfl rfl)
theorem dX0_image_2 : decode cX0_image 2 = .ok (.lconst 0, 1) := dk_9 (dk_at dksX0_image_0 2 rfl rfl)
theorem dX0_image_3 : decode cX0_image 3 = .ok (.lconst 1, 1) := dk_10 (dk_at dksX0_image_0 3 rfl rfl)
theorem dX0_image_4 : decode cX0_image 4 = .ok (.invokestatic 5, 3) := dk_184 0 5 (dk_at dksX0_image_0 4 rfl rfl)
theorem dX0_image_7 : decode cX0_image 7 = .ok (.ifCond .ne 9, 3) := dk_154 0 9 (dk_at dksX0_image_0 7 rfl rfl)
theorem dX0_image_10 : decode cX0_image 10 = .ok (.aload_n 0, 1) := dk_42 (dk_at dksX0_image_0 10 rfl rfl)
theorem dX0_image_11 : decode cX0_image 11 = .ok (.iconst (-1), 1) := dk_2 (dk_at dksX0_image_0 11 rfl rfl)
theorem dX0_image_12 : decode cX0_image 12 = .ok (.invokevirtual 129, 3) := dk_182 0 129 (dk_at dksX0_image_0 12 rfl rfl)
theorem dX0_image_15 : decode cX0_image 15 = .ok (.ireturn, 1) := dk_172 (dk_at dksX0_image_0 15 rfl rfl)
theorem dX0_image_16 : decode cX0_image 16 = .ok (.aload_n 0, 1) := dk_42 (dk_at dksX0_image_0 16 rfl rfl)
theorem dX0_image_17 : decode cX0_image 17 = .ok (.getfield 26, 3) := dk_180 0 26 (dk_at dksX0_image_0 17 rfl rfl)
theorem dX0_image_20 : decode cX0_image 20 = .ok (.iload_n 1, 1) := dk_27 (dk_at dksX0_image_0 20 rfl rfl)
theorem dX0_image_21 : decode cX0_image 21 = .ok (.aload_n 0, 1) := dk_42 (dk_at dksX0_image_0 21 rfl rfl)
theorem dX0_image_22 : decode cX0_image 22 = .ok (.getfield 22, 3) := dk_180 0 22 (dk_at dksX0_image_1 0 rfl rfl)
theorem dX0_image_25 : decode cX0_image 25 = .ok (.invokevirtual 528, 3) := dk_182 2 16 (dk_at dksX0_image_1 3 rfl rfl)
theorem dX0_image_28 : decode cX0_image 28 = .ok (.aastore, 1) := dk_83 (dk_at dksX0_image_1 6 rfl rfl)
theorem dX0_image_29 : decode cX0_image 29 = .ok (.aload_n 0, 1) := dk_42 (dk_at dksX0_image_1 7 rfl rfl)
theorem dX0_image_30 : decode cX0_image 30 = .ok (.iconst 0, 1) := dk_3 (dk_at dksX0_image_1 8 rfl rfl)
theorem dX0_image_31 : decode cX0_image 31 = .ok (.invokevirtual 129, 3) := dk_182 0 129 (dk_at dksX0_image_1 9 rfl rfl)
theorem dX0_image_34 : decode cX0_image 34 = .ok (.ireturn, 1) := dk_172 (dk_at dksX0_image_1 12 rfl rfl)
abbrev cX0_back : ByteArray := prog_1_method_80_code
def yX0_back : MethodName := ⟨RX0, "back", "(I)I"⟩
def dkwX0_back_2 : List UInt8 := [3, 182, 0, 238, 172]
abbrev dktX0_back_2 : List UInt8 := dkwX0_back_2 ++ []
def dkwX0_back_1 : List UInt8 := [199, 0, 10, 42, 16, 254, 182, 0, 129, 172, 42, 42, 180, 0, 26, 27, 50, 182, 2, 16, 181, 0, 22, 42]
abbrev dktX0_back_1 : List UInt8 := dkwX0_back_1 ++ dktX0_back_2
def dkwX0_back_0 : List UInt8 := [27, 133, 9, 10, 184, 0, 5, 154, 0, 9, 42, 2, 182, 0, 129, 172, 42, 180, 0, 26, 27, 50]
abbrev dktX0_back_0 : List UInt8 := dkwX0_back_0 ++ dktX0_back_1
theorem dksX0_back_0 : cX0_back.data.toList.drop 0 = dktX0_back_0 := by decide +kernel
theorem dksX0_back_1 : cX0_back.data.toList.drop 22 = dktX0_back_1 := dk_seg dksX0_back_0 22 rfl rfl
theorem dksX0_back_2 : cX0_back.data.toList.drop 46 = dktX0_back_2 := dk_seg dksX0_back_1 24 rfl rfl
theorem dX0_back_0 : decode cX0_back 0 = .ok (.iload_n 1, 1) := dk_27 (dk_at dksX0_back_0 0 rfl rfl)
theorem dX0_back_1 : decode cX0_back 1 = .ok (.i2l, 1) := dk_133 (dk_at dksX0_back_0 1 rfl rfl)
theorem dX0_back_2 : decode cX0_back 2 = .ok (.lconst 0, 1) := dk_9 (dk_at dksX0_back_0 2 rfl rfl)
theorem dX0_back_3 : decode cX0_back 3 = .ok (.lconst 1, 1) := dk_10 (dk_at dksX0_back_0 3 rfl rfl)
theorem dX0_back_4 : decode cX0_back 4 = .ok (.invokestatic 5, 3) := dk_184 0 5 (dk_at dksX0_back_0 4 rfl rfl)
theorem dX0_back_7 : decode cX0_back 7 = .ok (.ifCond .ne 9, 3) := dk_154 0 9 (dk_at dksX0_back_0 7 rfl rfl)
theorem dX0_back_10 : decode cX0_back 10 = .ok (.aload_n 0, 1) := dk_42 (dk_at dksX0_back_0 10 rfl rfl)
theorem dX0_back_11 : decode cX0_back 11 = .ok (.iconst (-1), 1) := dk_2 (dk_at dksX0_back_0 11 rfl rfl)
theorem dX0_back_12 : decode cX0_back 12 = .ok (.invokevirtual 129, 3) := dk_182 0 129 (dk_at dksX0_back_0 12 rfl rfl)
theorem dX0_back_15 : decode cX0_back 15 = .ok (.ireturn, 1) := dk_172 (dk_at dksX0_back_0 15 rfl rfl)
theorem dX0_back_16 : decode cX0_back 16 = .ok (.aload_n 0, 1) := dk_42 (dk_at dksX0_back_0 16 rfl rfl)
theorem dX0_back_17 : decode cX0_back 17 = .ok (.getfield 26, 3) := dk_180 0 26 (dk_at dksX0_back_0 17 rfl rfl)
theorem dX0_back_20 : decode cX0_back 20 = .ok (.iload_n 1, 1) := dk_27 (dk_at dksX0_back_0 20 rfl rfl)
theorem dX0_back_21 : decode cX0_back 21 = .ok (.aaload, 1) := dk_50 (dk_at dksX0_back_0 21 rfl rfl)
theorem dX0_back_22 : decode cX0_back 22 = .ok (.ifnonnull 10, 3) := dk_199 0 10 (dk_at dksX0_back_1 0 rfl rfl)
theorem dX0_back_25 : decode cX0_back 25 = .ok (.aload_n 0, 1) := dk_42 (dk_at dksX0_back_1 3 rfl rfl)
theorem dX0_back_26 : decode cX0_back 26 = .ok (.bipush (-2), 2) := dk_16 254 (dk_at dksX0_back_1 4 rfl rfl)
theorem dX0_back_28 : decode cX0_back 28 = .ok (.invokevirtual 129, 3) := dk_182 0 129 (dk_at dksX0_back_1 6 rfl rfl)
theorem dX0_back_31 : decode cX0_back 31 = .ok (.ireturn, 1) := dk_172 (dk_at dksX0_back_1 9 rfl rfl)
theorem dX0_back_32 : decode cX0_back 32 = .ok (.aload_n 0, 1) := dk_42 (dk_at dksX0_back_1 10 rfl rfl)
theorem dX0_back_33 : decode cX0_back 33 = .ok (.aload_n 0, 1) := dk_42 (dk_at dksX0_back_1 11 rfl rfl)
theorem dX0_back_34 : decode cX0_back 34 = .ok (.getfield 26, 3) := dk_180 0 26 (dk_at dksX0_back_1 12 rfl rfl)
theorem dX0_back_37 : decode cX0_back 37 = .ok (.iload_n 1, 1) := dk_27 (dk_at dksX0_back_1 15 rfl rfl)
theorem dX0_back_38 : decode cX0_back 38 = .ok (.aaload, 1) := dk_50 (dk_at dksX0_back_1 16 rfl rfl)
theorem dX0_back_39 : decode cX0_back 39 = .ok (.invokevirtual 528, 3) := dk_182 2 16 (dk_at dksX0_back_1 17 rfl rfl)
theorem dX0_back_42 : decode cX0_back 42 = .ok (.putfield 22, 3) := dk_181 0 22 (dk_at dksX0_back_1 20 rfl rfl)
theorem dX0_back_45 : decode cX0_back 45 = .ok (.aload_n 0, 1) := dk_42 (dk_at dksX0_back_1 23 rfl rfl)
theorem dX0_back_46 : decode cX0_back 46 = .ok (.iconst 0, 1) := dk_3 (dk_at dksX0_back_2 0 rfl rfl)
theorem dX0_back_47 : decode cX0_back 47 = .ok (.invokevirtual 238, 3) := dk_182 0 238 (dk_at dksX0_back_2 1 rfl rfl)
theorem dX0_back_50 : decode cX0_back 50 = .ok (.ireturn, 1) := dk_172 (dk_at dksX0_back_2 4 rfl rfl)
abbrev cX0_count : ByteArray := prog_1_method_81_code
def yX0_count : MethodName := ⟨RX0, "count", "(I)I"⟩
def dkwX0_count_7 : List UInt8 := [153, 0, 14, 42, 27, 16, 11, 100, 182, 0, 211, 167, 0, 4, 2, 172]
abbrev dktX0_count_7 : List UInt8 := dkwX0_count_7 ++ []
def dkwX0_count_6 : List UInt8 := [167, 0, 39, 42, 180, 0, 22, 180, 1, 37, 167, 0, 29, 27, 133, 20, 2, 20, 20, 2, 22, 184, 0, 5]
abbrev dktX0_count_6 : List UInt8 := dkwX0_count_6 ++ dktX0_count_7
def dkwX0_count_5 : List UInt8 := [180, 0, 71, 6, 46, 167, 0, 58, 42, 180, 0, 71, 8, 46, 167, 0, 49, 42, 180, 0, 71, 16, 6, 46]
abbrev dktX0_count_5 : List UInt8 := dkwX0_count_5 ++ dktX0_count_6
def dkwX0_count_4 : List UInt8 := [167, 0, 85, 42, 180, 0, 71, 4, 46, 167, 0, 76, 42, 180, 0, 71, 5, 46, 167, 0, 67, 42]
abbrev dktX0_count_4 : List UInt8 := dkwX0_count_4 ++ dktX0_count_5
def dkwX0_count_3 : List UInt8 := [180, 1, 8, 182, 1, 12, 167, 0, 102, 42, 180, 0, 33, 180, 0, 126, 167, 0, 92, 42, 180, 0, 143]
abbrev dktX0_count_3 : List UInt8 := dkwX0_count_3 ++ dktX0_count_4
def dkwX0_count_2 : List UInt8 := [42, 180, 0, 22, 180, 1, 5, 167, 0, 125, 42, 180, 0, 22, 180, 1, 210, 167, 0, 115, 42, 180, 0, 22]
abbrev dktX0_count_2 : List UInt8 := dkwX0_count_2 ++ dktX0_count_3
def dkwX0_count_1 : List UInt8 := [170, 0, 0, 0, 0, 0, 165, 0, 0, 0, 0, 0, 0, 0, 10, 0, 0, 0, 59, 0, 0, 0, 69, 0, 0, 0, 79, 0, 0, 0, 92, 0, 0, 0, 102, 0, 0, 0, 109, 0, 0, 0, 118, 0, 0, 0, 127, 0, 0, 0, 136, 0, 0, 0, 145, 0, 0, 0, 155]
abbrev dktX0_count_1 : List UInt8 := dkwX0_count_1 ++ dktX0_count_2
def dkwX0_count_0 : List UInt8 := [27]
abbrev dktX0_count_0 : List UInt8 := dkwX0_count_0 ++ dktX0_count_1
theorem dksX0_count_0 : cX0_count.data.toList.drop 0 = dktX0_count_0 := by decide +kernel
theorem dksX0_count_1 : cX0_count.data.toList.drop 1 = dktX0_count_1 := dk_seg dksX0_count_0 1 rfl rfl
theorem dksX0_count_2 : cX0_count.data.toList.drop 60 = dktX0_count_2 := dk_seg dksX0_count_1 59 rfl rfl
theorem dksX0_count_3 : cX0_count.data.toList.drop 84 = dktX0_count_3 := dk_seg dksX0_count_2 24 rfl rfl
theorem dksX0_count_4 : cX0_count.data.toList.drop 107 = dktX0_count_4 := dk_seg dksX0_count_3 23 rfl rfl
theorem dksX0_count_5 : cX0_count.data.toList.drop 129 = dktX0_count_5 := dk_seg dksX0_count_4 22 rfl rfl
theorem dksX0_count_6 : cX0_count.data.toList.drop 153 = dktX0_count_6 := dk_seg dksX0_count_5 24 rfl rfl
theorem dksX0_count_7 : cX0_count.data.toList.drop 177 = dktX0_count_7 := dk_seg dksX0_count_6 24 rfl rfl
theorem dX0_count_0 : decode cX0_count 0 = .ok (.iload_n 1, 1) := dk_27 (dk_at dksX0_count_0 0 rfl rfl)
theorem dX0_count_1 : decode cX0_count 1 = .ok (.tableswitch 165 0 10 #[59, 69, 79, 92, 102, 109, 118, 127, 136, 145, 155], 59) := by decide +kernel
theorem dX0_count_60 : decode cX0_count 60 = .ok (.aload_n 0, 1) := dk_42 (dk_at dksX0_count_2 0 rfl rfl)
theorem dX0_count_61 : decode cX0_count 61 = .ok (.getfield 22, 3) := dk_180 0 22 (dk_at dksX0_count_2 1 rfl rfl)
theorem dX0_count_64 : decode cX0_count 64 = .ok (.getfield 261, 3) := dk_180 1 5 (dk_at dksX0_count_2 4 rfl rfl)
theorem dX0_count_67 : decode cX0_count 67 = .ok (.goto 125, 3) := dk_167 0 125 (dk_at dksX0_count_2 7 rfl rfl)
theorem dX0_count_70 : decode cX0_count 70 = .ok (.aload_n 0, 1) := dk_42 (dk_at dksX0_count_2 10 rfl rfl)
theorem dX0_count_71 : decode cX0_count 71 = .ok (.getfield 22, 3) := dk_180 0 22 (dk_at dksX0_count_2 11 rfl rfl)
theorem dX0_count_74 : decode cX0_count 74 = .ok (.getfield 466, 3) := dk_180 1 210 (dk_at dksX0_count_2 14 rfl rfl)
theorem dX0_count_77 : decode cX0_count 77 = .ok (.goto 115, 3) := dk_167 0 115 (dk_at dksX0_count_2 17 rfl rfl)
theorem dX0_count_80 : decode cX0_count 80 = .ok (.aload_n 0, 1) := dk_42 (dk_at dksX0_count_2 20 rfl rfl)
theorem dX0_count_81 : decode cX0_count 81 = .ok (.getfield 22, 3) := dk_180 0 22 (dk_at dksX0_count_2 21 rfl rfl)
theorem dX0_count_84 : decode cX0_count 84 = .ok (.getfield 264, 3) := dk_180 1 8 (dk_at dksX0_count_3 0 rfl rfl)
theorem dX0_count_87 : decode cX0_count 87 = .ok (.invokevirtual 268, 3) := dk_182 1 12 (dk_at dksX0_count_3 3 rfl rfl)
theorem dX0_count_90 : decode cX0_count 90 = .ok (.goto 102, 3) := dk_167 0 102 (dk_at dksX0_count_3 6 rfl rfl)
theorem dX0_count_93 : decode cX0_count 93 = .ok (.aload_n 0, 1) := dk_42 (dk_at dksX0_count_3 9 rfl rfl)
theorem dX0_count_94 : decode cX0_count 94 = .ok (.getfield 33, 3) := dk_180 0 33 (dk_at dksX0_count_3 10 rfl rfl)
theorem dX0_count_97 : decode cX0_count 97 = .ok (.getfield 126, 3) := dk_180 0 126 (dk_at dksX0_count_3 13 rfl rfl)
theorem dX0_count_100 : decode cX0_count 100 = .ok (.goto 92, 3) := dk_167 0 92 (dk_at dksX0_count_3 16 rfl rfl)
theorem dX0_count_103 : decode cX0_count 103 = .ok (.aload_n 0, 1) := dk_42 (dk_at dksX0_count_3 19 rfl rfl)
theorem dX0_count_104 : decode cX0_count 104 = .ok (.getfield 143, 3) := dk_180 0 143 (dk_at dksX0_count_3 20 rfl rfl)
theorem dX0_count_107 : decode cX0_count 107 = .ok (.goto 85, 3) := dk_167 0 85 (dk_at dksX0_count_4 0 rfl rfl)
theorem dX0_count_110 : decode cX0_count 110 = .ok (.aload_n 0, 1) := dk_42 (dk_at dksX0_count_4 3 rfl rfl)
theorem dX0_count_111 : decode cX0_count 111 = .ok (.getfield 71, 3) := dk_180 0 71 (dk_at dksX0_count_4 4 rfl rfl)
theorem dX0_count_114 : decode cX0_count 114 = .ok (.iconst 1, 1) := dk_4 (dk_at dksX0_count_4 7 rfl rfl)
theorem dX0_count_115 : decode cX0_count 115 = .ok (.iaload, 1) := dk_46 (dk_at dksX0_count_4 8 rfl rfl)
theorem dX0_count_116 : decode cX0_count 116 = .ok (.goto 76, 3) := dk_167 0 76 (dk_at dksX0_count_4 9 rfl rfl)
theorem dX0_count_119 : decode cX0_count 119 = .ok (.aload_n 0, 1) := dk_42 (dk_at dksX0_count_4 12 rfl rfl)
theorem dX0_count_120 : decode cX0_count 120 = .ok (.getfield 71, 3) := dk_180 0 71 (dk_at dksX0_count_4 13 rfl rfl)
theorem dX0_count_123 : decode cX0_count 123 = .ok (.iconst 2, 1) := dk_5 (dk_at dksX0_count_4 16 rfl rfl)
theorem dX0_count_124 : decode cX0_count 124 = .ok (.iaload, 1) := dk_46 (dk_at dksX0_count_4 17 rfl rfl)
theorem dX0_count_125 : decode cX0_count 125 = .ok (.goto 67, 3) := dk_167 0 67 (dk_at dksX0_count_4 18 rfl rfl)
theorem dX0_count_128 : decode cX0_count 128 = .ok (.aload_n 0, 1) := dk_42 (dk_at dksX0_count_4 21 rfl rfl)
theorem dX0_count_129 : decode cX0_count 129 = .ok (.getfield 71, 3) := dk_180 0 71 (dk_at dksX0_count_5 0 rfl rfl)
theorem dX0_count_132 : decode cX0_count 132 = .ok (.iconst 3, 1) := dk_6 (dk_at dksX0_count_5 3 rfl rfl)
theorem dX0_count_133 : decode cX0_count 133 = .ok (.iaload, 1) := dk_46 (dk_at dksX0_count_5 4 rfl rfl)
theorem dX0_count_134 : decode cX0_count 134 = .ok (.goto 58, 3) := dk_167 0 58 (dk_at dksX0_count_5 5 rfl rfl)
theorem dX0_count_137 : decode cX0_count 137 = .ok (.aload_n 0, 1) := dk_42 (dk_at dksX0_count_5 8 rfl rfl)
theorem dX0_count_138 : decode cX0_count 138 = .ok (.getfield 71, 3) := dk_180 0 71 (dk_at dksX0_count_5 9 rfl rfl)
theorem dX0_count_141 : decode cX0_count 141 = .ok (.iconst 5, 1) := dk_8 (dk_at dksX0_count_5 12 rfl rfl)
theorem dX0_count_142 : decode cX0_count 142 = .ok (.iaload, 1) := dk_46 (dk_at dksX0_count_5 13 rfl rfl)
theorem dX0_count_143 : decode cX0_count 143 = .ok (.goto 49, 3) := dk_167 0 49 (dk_at dksX0_count_5 14 rfl rfl)
theorem dX0_count_146 : decode cX0_count 146 = .ok (.aload_n 0, 1) := dk_42 (dk_at dksX0_count_5 17 rfl rfl)
theorem dX0_count_147 : decode cX0_count 147 = .ok (.getfield 71, 3) := dk_180 0 71 (dk_at dksX0_count_5 18 rfl rfl)
theorem dX0_count_150 : decode cX0_count 150 = .ok (.bipush 6, 2) := dk_16 6 (dk_at dksX0_count_5 21 rfl rfl)
theorem dX0_count_152 : decode cX0_count 152 = .ok (.iaload, 1) := dk_46 (dk_at dksX0_count_5 23 rfl rfl)
theorem dX0_count_153 : decode cX0_count 153 = .ok (.goto 39, 3) := dk_167 0 39 (dk_at dksX0_count_6 0 rfl rfl)
theorem dX0_count_156 : decode cX0_count 156 = .ok (.aload_n 0, 1) := dk_42 (dk_at dksX0_count_6 3 rfl rfl)
theorem dX0_count_157 : decode cX0_count 157 = .ok (.getfield 22, 3) := dk_180 0 22 (dk_at dksX0_count_6 4 rfl rfl)
theorem dX0_count_160 : decode cX0_count 160 = .ok (.getfield 293, 3) := dk_180 1 37 (dk_at dksX0_count_6 7 rfl rfl)
theorem dX0_count_163 : decode cX0_count 163 = .ok (.goto 29, 3) := dk_167 0 29 (dk_at dksX0_count_6 10 rfl rfl)
theorem dX0_count_166 : decode cX0_count 166 = .ok (.iload_n 1, 1) := dk_27 (dk_at dksX0_count_6 13 rfl rfl)
theorem dX0_count_167 : decode cX0_count 167 = .ok (.i2l, 1) := dk_133 (dk_at dksX0_count_6 14 rfl rfl)
theorem dX0_count_168 : decode cX0_count 168 = .ok (.ldc2_w 532, 3) := dk_20 2 20 (dk_at dksX0_count_6 15 rfl rfl)
theorem dX0_count_171 : decode cX0_count 171 = .ok (.ldc2_w 534, 3) := dk_20 2 22 (dk_at dksX0_count_6 18 rfl rfl)
theorem dX0_count_174 : decode cX0_count 174 = .ok (.invokestatic 5, 3) := dk_184 0 5 (dk_at dksX0_count_6 21 rfl rfl)
theorem dX0_count_177 : decode cX0_count 177 = .ok (.ifCond .eq 14, 3) := dk_153 0 14 (dk_at dksX0_count_7 0 rfl rfl)
theorem dX0_count_180 : decode cX0_count 180 = .ok (.aload_n 0, 1) := dk_42 (dk_at dksX0_count_7 3 rfl rfl)
theorem dX0_count_181 : decode cX0_count 181 = .ok (.iload_n 1, 1) := dk_27 (dk_at dksX0_count_7 4 rfl rfl)
theorem dX0_count_182 : decode cX0_count 182 = .ok (.bipush 11, 2) := dk_16 11 (dk_at dksX0_count_7 5 rfl rfl)
theorem dX0_count_184 : decode cX0_count 184 = .ok (.isub, 1) := dk_100 (dk_at dksX0_count_7 7 rfl rfl)
theorem dX0_count_185 : decode cX0_count 185 = .ok (.invokevirtual 211, 3) := dk_182 0 211 (dk_at dksX0_count_7 8 rfl rfl)
theorem dX0_count_188 : decode cX0_count 188 = .ok (.goto 4, 3) := dk_167 0 4 (dk_at dksX0_count_7 11 rfl rfl)
theorem dX0_count_191 : decode cX0_count 191 = .ok (.iconst (-1), 1) := dk_2 (dk_at dksX0_count_7 14 rfl rfl)
theorem dX0_count_192 : decode cX0_count 192 = .ok (.ireturn, 1) := dk_172 (dk_at dksX0_count_7 15 rfl rfl)
abbrev cX0_status : ByteArray := prog_1_method_82_code
def yX0_status : MethodName := ⟨RX0, "status", "()I"⟩
theorem dX0_status_0 : decode cX0_status 0 = .ok (.aload_n 0, 1) := by decide +kernel
theorem dX0_status_1 : decode cX0_status 1 = .ok (.getfield 123, 3) := by decide +kernel
theorem dX0_status_4 : decode cX0_status 4 = .ok (.ireturn, 1) := by decide +kernel
theorem q128 : (Jvm.Cond.initialized "MissCurves") ∈ lw_all := lw_g (lw_at lw_m1 1 rfl) rfl
theorem q181 : (Jvm.Cond.instantiable "MissCurves" (28 : Nat)) ∈ lw_all := lw_g (lw_at lw_m1 54 rfl) rfl
theorem q183 : (Jvm.Cond.instanceMethod ({ cls := "MissCurves", name := "<init>", desc := "()V" } : Jvm.MethodName)) ∈ lw_all := lw_g (lw_at lw_m1 56 rfl) rfl
theorem q184 : (Jvm.Cond.code ({ cls := "MissCurves", name := "<init>", desc := "()V" } : Jvm.MethodName) prog_1_method_7_code (1 : Nat) (Option.none : Option Jvm.ClassFile.FieldType)) ∈ lw_all := lw_g (lw_at lw_m1 57 rfl) rfl
theorem q185 : (Jvm.Cond.methodLink "MissCurves" (13 : Nat) ({ cls := "java/lang/Object", name := "<init>", desc := "()V" } : Jvm.MethodName)) ∈ lw_all := lw_g (lw_at lw_m1 58 rfl) rfl
theorem q188 : (Jvm.Cond.classLink "MissCurves" (19 : Nat) "MissCurves$Shop") ∈ lw_all := lw_g (lw_at lw_m1 61 rfl) rfl
theorem q190 : (Jvm.Cond.methodLinkNest "MissCurves" (21 : Nat) ({ cls := "MissCurves$Shop", name := "<init>", desc := "()V" } : Jvm.MethodName) "MissCurves") ∈ lw_tbl := lw_at lw_m1 63 rfl
theorem q236 : (Jvm.Cond.fieldLinkNest "MissCurves" (177 : Nat) "MissCurves$Book" "stack" "[I" "MissCurves") ∈ lw_tbl := lw_at lw_m1 109 rfl
theorem q239 : (Jvm.Cond.fieldLinkNest "MissCurves" (174 : Nat) "MissCurves$Book" "costs" "[I" "MissCurves") ∈ lw_tbl := lw_at lw_m1 112 rfl
theorem q243 : (Jvm.Cond.fieldLinkNest "MissCurves" (426 : Nat) "MissCurves$Book" "record" "[I" "MissCurves") ∈ lw_tbl := lw_at lw_m1 116 rfl
theorem q245 : (Jvm.Cond.fieldLinkNest "MissCurves" (418 : Nat) "MissCurves$Book" "parts" "[J" "MissCurves") ∈ lw_tbl := lw_at lw_m1 118 rfl
theorem q248 : (Jvm.Cond.fieldLinkNest "MissCurves" (158 : Nat) "MissCurves$Book" "n" "I" "MissCurves") ∈ lw_tbl := lw_at lw_m1 121 rfl
theorem q250 : (Jvm.Cond.fieldLinkNest "MissCurves" (161 : Nat) "MissCurves$Book" "nSample" "I" "MissCurves") ∈ lw_tbl := lw_at lw_m1 123 rfl
theorem q253 : (Jvm.Cond.fieldLinkNest "MissCurves" (167 : Nat) "MissCurves$Book" "nRecord" "I" "MissCurves") ∈ lw_tbl := lw_at lw_m1 126 rfl
theorem q255 : (Jvm.Cond.fieldLinkNest "MissCurves" (164 : Nat) "MissCurves$Book" "limit" "I" "MissCurves") ∈ lw_tbl := lw_at lw_m1 128 rfl
theorem q278 : (Jvm.Cond.fieldLinkNest "MissCurves" (139 : Nat) "MissCurves$Books" "row" "[LMissCurves$Book;" "MissCurves") ∈ lw_tbl := lw_at lw_m1 151 rfl
theorem q281 : (Jvm.Cond.fieldLinkNest "MissCurves" (205 : Nat) "MissCurves$Books" "time" "I" "MissCurves") ∈ lw_tbl := lw_at lw_m1 154 rfl
theorem q284 : (Jvm.Cond.fieldLinkNest "MissCurves" (364 : Nat) "MissCurves$Books" "sort" "I" "MissCurves") ∈ lw_tbl := lw_at lw_m1 157 rfl
theorem q293 : (Jvm.Cond.fieldLinkNest "MissCurves" (264 : Nat) "MissCurves$Shop" "laws" "Ljava/util/ArrayList;" "MissCurves") ∈ lw_tbl := lw_at lw_m1 166 rfl
theorem q295 : (Jvm.Cond.fieldLinkNest "MissCurves" (189 : Nat) "MissCurves$Shop" "terms" "[I" "MissCurves") ∈ lw_tbl := lw_at lw_m1 168 rfl
theorem q297 : (Jvm.Cond.fieldLinkNest "MissCurves" (469 : Nat) "MissCurves$Shop" "seen" "[[I" "MissCurves") ∈ lw_tbl := lw_at lw_m1 170 rfl
theorem q299 : (Jvm.Cond.fieldLinkNest "MissCurves" (133 : Nat) "MissCurves$Shop" "books" "LMissCurves$Books;" "MissCurves") ∈ lw_tbl := lw_at lw_m1 172 rfl
theorem q301 : (Jvm.Cond.fieldLinkNest "MissCurves" (261 : Nat) "MissCurves$Shop" "policy" "I" "MissCurves") ∈ lw_tbl := lw_at lw_m1 174 rfl
theorem q303 : (Jvm.Cond.fieldLinkNest "MissCurves" (466 : Nat) "MissCurves$Shop" "nSeen" "I" "MissCurves") ∈ lw_tbl := lw_at lw_m1 176 rfl
theorem q305 : (Jvm.Cond.fieldLinkNest "MissCurves" (293 : Nat) "MissCurves$Shop" "inForce" "I" "MissCurves") ∈ lw_tbl := lw_at lw_m1 178 rfl
theorem q322 : (Jvm.Cond.classLink "MissCurves" (30 : Nat) "MissCurves$Steps") ∈ lw_all := lw_g (lw_at lw_m1 195 rfl) rfl
theorem q324 : (Jvm.Cond.methodLink "MissCurves" (32 : Nat) ({ cls := "MissCurves$Steps", name := "<init>", desc := "()V" } : Jvm.MethodName)) ∈ lw_all := lw_g (lw_at lw_m1 197 rfl) rfl
theorem q332 : (Jvm.Cond.fieldLinkNest "MissCurves" (357 : Nat) "MissCurves$Steps" "row" "[LMissCurves$Books;" "MissCurves") ∈ lw_tbl := lw_at lw_m1 205 rfl
theorem q334 : (Jvm.Cond.fieldLinkNest "MissCurves" (126 : Nat) "MissCurves$Steps" "n" "I" "MissCurves") ∈ lw_tbl := lw_at lw_m1 207 rfl
theorem q340 : (Jvm.Cond.classLink "MissCurves" (40 : Nat) "MissCurves$Books") ∈ lw_all := lw_g (lw_at lw_m1 213 rfl) rfl
theorem q341 : (Jvm.Cond.methodLink "MissCurves" (42 : Nat) ({ cls := "MissCurves$Books", name := "<init>", desc := "()V" } : Jvm.MethodName)) ∈ lw_all := lw_g (lw_at lw_m1 214 rfl) rfl
theorem q342 : (Jvm.Cond.classLink "MissCurves" (50 : Nat) "MissCurves$Asked") ∈ lw_all := lw_g (lw_at lw_m1 215 rfl) rfl
theorem q344 : (Jvm.Cond.methodLinkNest "MissCurves" (52 : Nat) ({ cls := "MissCurves$Asked", name := "<init>", desc := "()V" } : Jvm.MethodName) "MissCurves") ∈ lw_tbl := lw_at lw_m1 217 rfl
theorem q351 : (Jvm.Cond.fieldLinkNest "MissCurves" (300 : Nat) "MissCurves$Asked" "numbers" "[J" "MissCurves") ∈ lw_tbl := lw_at lw_m1 224 rfl
theorem q364 : (Jvm.Cond.classLink "MissCurves" (60 : Nat) "MissCurves$Text") ∈ lw_all := lw_g (lw_at lw_m1 237 rfl) rfl
theorem q366 : (Jvm.Cond.classLink "MissCurves" (62 : Nat) "MissCurves$Clause") ∈ lw_all := lw_g (lw_at lw_m1 239 rfl) rfl
theorem q368 : (Jvm.Cond.methodLink "MissCurves" (64 : Nat) ({ cls := "MissCurves$Text", name := "<init>", desc := "([LMissCurves$Clause;)V" } : Jvm.MethodName)) ∈ lw_all := lw_g (lw_at lw_m2 1 rfl) rfl
theorem q376 : (Jvm.Cond.stringRef "MissCurves" (92 : Nat) "") ∈ lw_tbl := lw_at lw_m2 9 rfl
theorem q377 : (Jvm.Cond.classLink "MissCurves" (101 : Nat) "[[J") ∈ lw_all := lw_g (lw_at lw_m2 10 rfl) rfl
theorem q379 : (Jvm.Cond.classLink "MissCurves" (106 : Nat) "[[I") ∈ lw_all := lw_g (lw_at lw_m2 12 rfl) rfl
theorem q380 : (Jvm.Cond.fieldLink "MissCurves" (22 : Nat) "MissCurves" "shop" "LMissCurves$Shop;") ∈ lw_all := lw_g (lw_at lw_m2 13 rfl) rfl
theorem q381 : (Jvm.Cond.fieldLink "MissCurves" (26 : Nat) "MissCurves" "images" "[LMissCurves$Shop;") ∈ lw_all := lw_g (lw_at lw_m2 14 rfl) rfl
theorem q382 : (Jvm.Cond.fieldLink "MissCurves" (33 : Nat) "MissCurves" "undos" "LMissCurves$Steps;") ∈ lw_all := lw_g (lw_at lw_m2 15 rfl) rfl
theorem q383 : (Jvm.Cond.fieldLink "MissCurves" (37 : Nat) "MissCurves" "before" "LMissCurves$Steps;") ∈ lw_all := lw_g (lw_at lw_m2 16 rfl) rfl
theorem q384 : (Jvm.Cond.fieldLink "MissCurves" (43 : Nat) "MissCurves" "ahead" "LMissCurves$Books;") ∈ lw_all := lw_g (lw_at lw_m2 17 rfl) rfl
theorem q385 : (Jvm.Cond.fieldLink "MissCurves" (47 : Nat) "MissCurves" "real" "LMissCurves$Books;") ∈ lw_all := lw_g (lw_at lw_m2 18 rfl) rfl
theorem q386 : (Jvm.Cond.fieldLink "MissCurves" (53 : Nat) "MissCurves" "asked" "LMissCurves$Asked;") ∈ lw_all := lw_g (lw_at lw_m2 19 rfl) rfl
theorem q388 : (Jvm.Cond.fieldLink "MissCurves" (57 : Nat) "MissCurves" "inOrders" "LMissCurves$Asked;") ∈ lw_all := lw_g (lw_at lw_m2 21 rfl) rfl
theorem q389 : (Jvm.Cond.fieldLink "MissCurves" (67 : Nat) "MissCurves" "nothingTold" "LMissCurves$Text;") ∈ lw_all := lw_g (lw_at lw_m2 22 rfl) rfl
theorem q390 : (Jvm.Cond.fieldLink "MissCurves" (71 : Nat) "MissCurves" "refused" "[I") ∈ lw_all := lw_g (lw_at lw_m2 23 rfl) rfl
theorem q391 : (Jvm.Cond.fieldLink "MissCurves" (123 : Nat) "MissCurves" "status" "I") ∈ lw_all := lw_g (lw_at lw_m2 24 rfl) rfl
theorem q392 : (Jvm.Cond.fieldLink "MissCurves" (75 : Nat) "MissCurves" "fault" "I") ∈ lw_all := lw_g (lw_at lw_m2 25 rfl) rfl
theorem q393 : (Jvm.Cond.fieldLink "MissCurves" (226 : Nat) "MissCurves" "blanks" "I") ∈ lw_all := lw_g (lw_at lw_m2 26 rfl) rfl
theorem q394 : (Jvm.Cond.fieldLink "MissCurves" (79 : Nat) "MissCurves" "stopped" "I") ∈ lw_all := lw_g (lw_at lw_m2 27 rfl) rfl
theorem q397 : (Jvm.Cond.fieldLink "MissCurves" (82 : Nat) "MissCurves" "tape" "[B") ∈ lw_all := lw_g (lw_at lw_m2 30 rfl) rfl
theorem q399 : (Jvm.Cond.fieldLink "MissCurves" (143 : Nat) "MissCurves" "taped" "I") ∈ lw_all := lw_g (lw_at lw_m2 32 rfl) rfl
theorem q400 : (Jvm.Cond.fieldLink "MissCurves" (86 : Nat) "MissCurves" "curve" "[I") ∈ lw_all := lw_g (lw_at lw_m2 33 rfl) rfl
theorem q401 : (Jvm.Cond.fieldLink "MissCurves" (89 : Nat) "MissCurves" "bends" "[I") ∈ lw_all := lw_g (lw_at lw_m2 34 rfl) rfl
theorem q402 : (Jvm.Cond.fieldLink "MissCurves" (373 : Nat) "MissCurves" "nBends" "I") ∈ lw_all := lw_g (lw_at lw_m2 35 rfl) rfl
theorem q403 : (Jvm.Cond.fieldLink "MissCurves" (94 : Nat) "MissCurves" "report" "Ljava/lang/String;") ∈ lw_all := lw_g (lw_at lw_m2 36 rfl) rfl
theorem q404 : (Jvm.Cond.fieldLink "MissCurves" (98 : Nat) "MissCurves" "shares" "[I") ∈ lw_all := lw_g (lw_at lw_m2 37 rfl) rfl
theorem q405 : (Jvm.Cond.fieldLink "MissCurves" (103 : Nat) "MissCurves" "falls" "[[J") ∈ lw_all := lw_g (lw_at lw_m2 38 rfl) rfl
theorem q406 : (Jvm.Cond.fieldLink "MissCurves" (108 : Nat) "MissCurves" "over" "[[I") ∈ lw_all := lw_g (lw_at lw_m2 39 rfl) rfl
theorem q407 : (Jvm.Cond.fieldLink "MissCurves" (111 : Nat) "MissCurves" "fewestFrom" "[[I") ∈ lw_all := lw_g (lw_at lw_m2 40 rfl) rfl
theorem q409 : (Jvm.Cond.fieldLink "MissCurves" (494 : Nat) "MissCurves" "done" "I") ∈ lw_all := lw_g (lw_at lw_m2 42 rfl) rfl
theorem q411 : (Jvm.Cond.fieldLink "MissCurves" (506 : Nat) "MissCurves" "latest" "I") ∈ lw_all := lw_g (lw_at lw_m2 44 rfl) rfl
theorem q412 : (Jvm.Cond.fieldLink "MissCurves" (114 : Nat) "MissCurves" "drawn" "LMissCurves$Books;") ∈ lw_all := lw_g (lw_at lw_m2 45 rfl) rfl
theorem q413 : (Jvm.Cond.fieldLink "MissCurves" (524 : Nat) "MissCurves" "isDrawn" "Z") ∈ lw_all := lw_g (lw_at lw_m2 46 rfl) rfl
theorem q414 : (Jvm.Cond.lays "MissCurves" "MissCurves" "shop" "LMissCurves$Shop;") ∈ lw_all := lw_g (lw_at lw_m2 47 rfl) rfl
theorem q415 : (Jvm.Cond.soleField "MissCurves" "shop") ∈ lw_all := lw_g (lw_at lw_m2 48 rfl) rfl
theorem q416 : (Jvm.Cond.laysFinal "MissCurves" "MissCurves" "images" "[LMissCurves$Shop;") ∈ lw_all := lw_g (lw_at lw_m2 49 rfl) rfl
theorem q417 : (Jvm.Cond.soleField "MissCurves" "images") ∈ lw_all := lw_g (lw_at lw_m2 50 rfl) rfl
theorem q418 : (Jvm.Cond.laysFinal "MissCurves" "MissCurves" "undos" "LMissCurves$Steps;") ∈ lw_all := lw_g (lw_at lw_m2 51 rfl) rfl
theorem q419 : (Jvm.Cond.soleField "MissCurves" "undos") ∈ lw_all := lw_g (lw_at lw_m2 52 rfl) rfl
theorem q420 : (Jvm.Cond.laysFinal "MissCurves" "MissCurves" "before" "LMissCurves$Steps;") ∈ lw_all := lw_g (lw_at lw_m2 53 rfl) rfl
theorem q421 : (Jvm.Cond.soleField "MissCurves" "before") ∈ lw_all := lw_g (lw_at lw_m2 54 rfl) rfl
theorem q422 : (Jvm.Cond.laysFinal "MissCurves" "MissCurves" "ahead" "LMissCurves$Books;") ∈ lw_all := lw_g (lw_at lw_m2 55 rfl) rfl
theorem q423 : (Jvm.Cond.soleField "MissCurves" "ahead") ∈ lw_all := lw_g (lw_at lw_m2 56 rfl) rfl
theorem q424 : (Jvm.Cond.laysFinal "MissCurves" "MissCurves" "real" "LMissCurves$Books;") ∈ lw_all := lw_g (lw_at lw_m2 57 rfl) rfl
theorem q425 : (Jvm.Cond.soleField "MissCurves" "real") ∈ lw_all := lw_g (lw_at lw_m2 58 rfl) rfl
theorem q426 : (Jvm.Cond.laysFinal "MissCurves" "MissCurves" "asked" "LMissCurves$Asked;") ∈ lw_all := lw_g (lw_at lw_m2 59 rfl) rfl
theorem q427 : (Jvm.Cond.soleField "MissCurves" "asked") ∈ lw_all := lw_g (lw_at lw_m2 60 rfl) rfl
theorem q428 : (Jvm.Cond.laysFinal "MissCurves" "MissCurves" "inOrders" "LMissCurves$Asked;") ∈ lw_all := lw_g (lw_at lw_m2 61 rfl) rfl
theorem q429 : (Jvm.Cond.soleField "MissCurves" "inOrders") ∈ lw_all := lw_g (lw_at lw_m2 62 rfl) rfl
theorem q430 : (Jvm.Cond.laysFinal "MissCurves" "MissCurves" "nothingTold" "LMissCurves$Text;") ∈ lw_all := lw_g (lw_at lw_m2 63 rfl) rfl
theorem q431 : (Jvm.Cond.soleField "MissCurves" "nothingTold") ∈ lw_all := lw_g (lw_at lw_m2 64 rfl) rfl
theorem q432 : (Jvm.Cond.laysFinal "MissCurves" "MissCurves" "refused" "[I") ∈ lw_all := lw_g (lw_at lw_m2 65 rfl) rfl
theorem q433 : (Jvm.Cond.soleField "MissCurves" "refused") ∈ lw_all := lw_g (lw_at lw_m2 66 rfl) rfl
theorem q434 : (Jvm.Cond.lays "MissCurves" "MissCurves" "status" "I") ∈ lw_all := lw_g (lw_at lw_m2 67 rfl) rfl
theorem q435 : (Jvm.Cond.soleField "MissCurves" "status") ∈ lw_all := lw_g (lw_at lw_m2 68 rfl) rfl
theorem q436 : (Jvm.Cond.lays "MissCurves" "MissCurves" "fault" "I") ∈ lw_all := lw_g (lw_at lw_m2 69 rfl) rfl
theorem q437 : (Jvm.Cond.soleField "MissCurves" "fault") ∈ lw_all := lw_g (lw_at lw_m2 70 rfl) rfl
theorem q438 : (Jvm.Cond.lays "MissCurves" "MissCurves" "blanks" "I") ∈ lw_all := lw_g (lw_at lw_m2 71 rfl) rfl
theorem q439 : (Jvm.Cond.soleField "MissCurves" "blanks") ∈ lw_all := lw_g (lw_at lw_m2 72 rfl) rfl
theorem q440 : (Jvm.Cond.lays "MissCurves" "MissCurves" "stopped" "I") ∈ lw_all := lw_g (lw_at lw_m2 73 rfl) rfl
theorem q441 : (Jvm.Cond.soleField "MissCurves" "stopped") ∈ lw_all := lw_g (lw_at lw_m2 74 rfl) rfl
theorem q442 : (Jvm.Cond.laysFinal "MissCurves" "MissCurves" "tape" "[B") ∈ lw_all := lw_g (lw_at lw_m2 75 rfl) rfl
theorem q443 : (Jvm.Cond.soleField "MissCurves" "tape") ∈ lw_all := lw_g (lw_at lw_m2 76 rfl) rfl
theorem q444 : (Jvm.Cond.lays "MissCurves" "MissCurves" "taped" "I") ∈ lw_all := lw_g (lw_at lw_m2 77 rfl) rfl
theorem q445 : (Jvm.Cond.soleField "MissCurves" "taped") ∈ lw_all := lw_g (lw_at lw_m2 78 rfl) rfl
theorem q446 : (Jvm.Cond.laysFinal "MissCurves" "MissCurves" "curve" "[I") ∈ lw_all := lw_g (lw_at lw_m2 79 rfl) rfl
theorem q447 : (Jvm.Cond.soleField "MissCurves" "curve") ∈ lw_all := lw_g (lw_at lw_m2 80 rfl) rfl
theorem q448 : (Jvm.Cond.laysFinal "MissCurves" "MissCurves" "bends" "[I") ∈ lw_all := lw_g (lw_at lw_m2 81 rfl) rfl
theorem q449 : (Jvm.Cond.soleField "MissCurves" "bends") ∈ lw_all := lw_g (lw_at lw_m2 82 rfl) rfl
theorem q450 : (Jvm.Cond.lays "MissCurves" "MissCurves" "nBends" "I") ∈ lw_all := lw_g (lw_at lw_m2 83 rfl) rfl
theorem q451 : (Jvm.Cond.soleField "MissCurves" "nBends") ∈ lw_all := lw_g (lw_at lw_m2 84 rfl) rfl
theorem q452 : (Jvm.Cond.lays "MissCurves" "MissCurves" "report" "Ljava/lang/String;") ∈ lw_all := lw_g (lw_at lw_m2 85 rfl) rfl
theorem q453 : (Jvm.Cond.soleField "MissCurves" "report") ∈ lw_all := lw_g (lw_at lw_m2 86 rfl) rfl
theorem q454 : (Jvm.Cond.laysFinal "MissCurves" "MissCurves" "shares" "[I") ∈ lw_all := lw_g (lw_at lw_m2 87 rfl) rfl
theorem q455 : (Jvm.Cond.soleField "MissCurves" "shares") ∈ lw_all := lw_g (lw_at lw_m2 88 rfl) rfl
theorem q456 : (Jvm.Cond.laysFinal "MissCurves" "MissCurves" "falls" "[[J") ∈ lw_all := lw_g (lw_at lw_m2 89 rfl) rfl
theorem q457 : (Jvm.Cond.soleField "MissCurves" "falls") ∈ lw_all := lw_g (lw_at lw_m2 90 rfl) rfl
theorem q458 : (Jvm.Cond.laysFinal "MissCurves" "MissCurves" "over" "[[I") ∈ lw_all := lw_g (lw_at lw_m2 91 rfl) rfl
theorem q459 : (Jvm.Cond.soleField "MissCurves" "over") ∈ lw_all := lw_g (lw_at lw_m2 92 rfl) rfl
theorem q460 : (Jvm.Cond.laysFinal "MissCurves" "MissCurves" "fewestFrom" "[[I") ∈ lw_all := lw_g (lw_at lw_m2 93 rfl) rfl
theorem q461 : (Jvm.Cond.soleField "MissCurves" "fewestFrom") ∈ lw_all := lw_g (lw_at lw_m2 94 rfl) rfl
theorem q462 : (Jvm.Cond.lays "MissCurves" "MissCurves" "done" "I") ∈ lw_all := lw_g (lw_at lw_m2 95 rfl) rfl
theorem q463 : (Jvm.Cond.soleField "MissCurves" "done") ∈ lw_all := lw_g (lw_at lw_m2 96 rfl) rfl
theorem q464 : (Jvm.Cond.lays "MissCurves" "MissCurves" "latest" "I") ∈ lw_all := lw_g (lw_at lw_m2 97 rfl) rfl
theorem q465 : (Jvm.Cond.soleField "MissCurves" "latest") ∈ lw_all := lw_g (lw_at lw_m2 98 rfl) rfl
theorem q466 : (Jvm.Cond.laysFinal "MissCurves" "MissCurves" "drawn" "LMissCurves$Books;") ∈ lw_all := lw_g (lw_at lw_m2 99 rfl) rfl
theorem q467 : (Jvm.Cond.soleField "MissCurves" "drawn") ∈ lw_all := lw_g (lw_at lw_m2 100 rfl) rfl
theorem q468 : (Jvm.Cond.lays "MissCurves" "MissCurves" "isDrawn" "Z") ∈ lw_all := lw_g (lw_at lw_m2 101 rfl) rfl
theorem q469 : (Jvm.Cond.soleField "MissCurves" "isDrawn") ∈ lw_all := lw_g (lw_at lw_m2 102 rfl) rfl
theorem q470 : (Jvm.Cond.superclass "MissCurves" "java/lang/Object") ∈ lw_all := lw_g (lw_at lw_m2 103 rfl) rfl
theorem q473 : (Jvm.Cond.instanceMethod ({ cls := "MissCurves", name := "feed", desc := "(IIIII)I" } : Jvm.MethodName)) ∈ lw_all := lw_g (lw_at lw_m2 106 rfl) rfl
theorem q474 : (Jvm.Cond.selects "MissCurves" ({ cls := "MissCurves", name := "feed", desc := "(IIIII)I" } : Jvm.MethodName) ({ cls := "MissCurves", name := "feed", desc := "(IIIII)I" } : Jvm.MethodName)) ∈ lw_all := lw_g (lw_at lw_m2 107 rfl) rfl
theorem q475 : (Jvm.Cond.code ({ cls := "MissCurves", name := "feed", desc := "(IIIII)I" } : Jvm.MethodName) prog_1_method_14_code (6 : Nat) (Option.some Jvm.ClassFile.FieldType.int)) ∈ lw_all := lw_g (lw_at lw_m2 108 rfl) rfl
theorem q476 : (Jvm.Cond.methodLink "MissCurves" (146 : Nat) ({ cls := "MissCurves", name := "four", desc := "(I)V" } : Jvm.MethodName)) ∈ lw_all := lw_g (lw_at lw_m2 109 rfl) rfl
theorem q477 : (Jvm.Cond.privateMethod ({ cls := "MissCurves", name := "four", desc := "(I)V" } : Jvm.MethodName)) ∈ lw_tbl := lw_at lw_m2 110 rfl
theorem q478 : (Jvm.Cond.instanceMethod ({ cls := "MissCurves", name := "four", desc := "(I)V" } : Jvm.MethodName)) ∈ lw_all := lw_g (lw_at lw_m2 111 rfl) rfl
theorem q479 : (Jvm.Cond.code ({ cls := "MissCurves", name := "four", desc := "(I)V" } : Jvm.MethodName) prog_1_method_13_code (3 : Nat) (Option.none : Option Jvm.ClassFile.FieldType)) ∈ lw_all := lw_g (lw_at lw_m2 112 rfl) rfl
theorem q481 : (Jvm.Cond.instanceMethod ({ cls := "MissCurves", name := "end", desc := "(I)I" } : Jvm.MethodName)) ∈ lw_all := lw_g (lw_at lw_m2 114 rfl) rfl
theorem q482 : (Jvm.Cond.selects "MissCurves" ({ cls := "MissCurves", name := "end", desc := "(I)I" } : Jvm.MethodName) ({ cls := "MissCurves", name := "end", desc := "(I)I" } : Jvm.MethodName)) ∈ lw_all := lw_g (lw_at lw_m2 115 rfl) rfl
theorem q483 : (Jvm.Cond.code ({ cls := "MissCurves", name := "end", desc := "(I)I" } : Jvm.MethodName) prog_1_method_15_code (2 : Nat) (Option.some Jvm.ClassFile.FieldType.int)) ∈ lw_all := lw_g (lw_at lw_m2 116 rfl) rfl
theorem q484 : (Jvm.Cond.methodLink "MissCurves" (5 : Nat) ({ cls := "MissCurves", name := "in", desc := "(JJJ)Z" } : Jvm.MethodName)) ∈ lw_all := lw_g (lw_at lw_m2 117 rfl) rfl
theorem q485 : (Jvm.Cond.static ({ cls := "MissCurves", name := "in", desc := "(JJJ)Z" } : Jvm.MethodName)) ∈ lw_all := lw_g (lw_at lw_m2 118 rfl) rfl
theorem q486 : (Jvm.Cond.code ({ cls := "MissCurves", name := "in", desc := "(JJJ)Z" } : Jvm.MethodName) prog_1_method_1_code (6 : Nat) (Option.some Jvm.ClassFile.FieldType.boolean)) ∈ lw_all := lw_g (lw_at lw_m2 119 rfl) rfl
theorem q488 : (Jvm.Cond.instanceMethod ({ cls := "MissCurves", name := "of", desc := "(II)I" } : Jvm.MethodName)) ∈ lw_all := lw_g (lw_at lw_m2 121 rfl) rfl
theorem q489 : (Jvm.Cond.selects "MissCurves" ({ cls := "MissCurves", name := "of", desc := "(II)I" } : Jvm.MethodName) ({ cls := "MissCurves", name := "of", desc := "(II)I" } : Jvm.MethodName)) ∈ lw_all := lw_g (lw_at lw_m2 122 rfl) rfl
theorem q490 : (Jvm.Cond.code ({ cls := "MissCurves", name := "of", desc := "(II)I" } : Jvm.MethodName) prog_1_method_18_code (4 : Nat) (Option.some Jvm.ClassFile.FieldType.int)) ∈ lw_all := lw_g (lw_at lw_m2 123 rfl) rfl
theorem q491 : (Jvm.Cond.methodLink "MissCurves" (150 : Nat) ({ cls := "MissCurves", name := "isTenant", desc := "(I)Z" } : Jvm.MethodName)) ∈ lw_all := lw_g (lw_at lw_m2 124 rfl) rfl
theorem q492 : (Jvm.Cond.static ({ cls := "MissCurves", name := "isTenant", desc := "(I)Z" } : Jvm.MethodName)) ∈ lw_all := lw_g (lw_at lw_m2 125 rfl) rfl
theorem q493 : (Jvm.Cond.code ({ cls := "MissCurves", name := "isTenant", desc := "(I)Z" } : Jvm.MethodName) prog_1_method_3_code (1 : Nat) (Option.some Jvm.ClassFile.FieldType.boolean)) ∈ lw_all := lw_g (lw_at lw_m2 126 rfl) rfl
theorem q494 : (Jvm.Cond.constantLong "MissCurves" (3 : Nat) (3 : Int64)) ∈ lw_all := lw_g (lw_at lw_m2 127 rfl) rfl
theorem q495 : (Jvm.Cond.methodLink "MissCurves" (154 : Nat) ({ cls := "MissCurves", name := "book", desc := "(I)LMissCurves$Book;" } : Jvm.MethodName)) ∈ lw_all := lw_g (lw_at lw_m2 128 rfl) rfl
theorem q496 : (Jvm.Cond.privateMethod ({ cls := "MissCurves", name := "book", desc := "(I)LMissCurves$Book;" } : Jvm.MethodName)) ∈ lw_tbl := lw_at lw_m2 129 rfl
theorem q497 : (Jvm.Cond.instanceMethod ({ cls := "MissCurves", name := "book", desc := "(I)LMissCurves$Book;" } : Jvm.MethodName)) ∈ lw_all := lw_g (lw_at lw_m2 130 rfl) rfl
theorem q498 : (Jvm.Cond.code ({ cls := "MissCurves", name := "book", desc := "(I)LMissCurves$Book;" } : Jvm.MethodName) prog_1_method_12_code (2 : Nat) (Option.some (Jvm.ClassFile.FieldType.object "MissCurves$Book"))) ∈ lw_all := lw_g (lw_at lw_m2 131 rfl) rfl
theorem q499 : (Jvm.Cond.methodLink "MissCurves" (136 : Nat) ({ cls := "MissCurves", name := "books", desc := "()LMissCurves$Books;" } : Jvm.MethodName)) ∈ lw_all := lw_g (lw_at lw_m2 132 rfl) rfl
theorem q500 : (Jvm.Cond.privateMethod ({ cls := "MissCurves", name := "books", desc := "()LMissCurves$Books;" } : Jvm.MethodName)) ∈ lw_tbl := lw_at lw_m2 133 rfl
theorem q501 : (Jvm.Cond.instanceMethod ({ cls := "MissCurves", name := "books", desc := "()LMissCurves$Books;" } : Jvm.MethodName)) ∈ lw_all := lw_g (lw_at lw_m2 134 rfl) rfl
theorem q502 : (Jvm.Cond.code ({ cls := "MissCurves", name := "books", desc := "()LMissCurves$Books;" } : Jvm.MethodName) prog_1_method_11_code (1 : Nat) (Option.some (Jvm.ClassFile.FieldType.object "MissCurves$Books"))) ∈ lw_all := lw_g (lw_at lw_m2 135 rfl) rfl
theorem q503 : (Jvm.Cond.constantLong "MissCurves" (170 : Nat) (4 : Int64)) ∈ lw_all := lw_g (lw_at lw_m2 136 rfl) rfl
theorem q504 : (Jvm.Cond.constantLong "MissCurves" (172 : Nat) (28 : Int64)) ∈ lw_all := lw_g (lw_at lw_m2 137 rfl) rfl
theorem q506 : (Jvm.Cond.instanceMethod ({ cls := "MissCurves", name := "top", desc := "(II)I" } : Jvm.MethodName)) ∈ lw_all := lw_g (lw_at lw_m2 139 rfl) rfl
theorem q507 : (Jvm.Cond.selects "MissCurves" ({ cls := "MissCurves", name := "top", desc := "(II)I" } : Jvm.MethodName) ({ cls := "MissCurves", name := "top", desc := "(II)I" } : Jvm.MethodName)) ∈ lw_all := lw_g (lw_at lw_m2 140 rfl) rfl
theorem q508 : (Jvm.Cond.code ({ cls := "MissCurves", name := "top", desc := "(II)I" } : Jvm.MethodName) prog_1_method_19_code (3 : Nat) (Option.some Jvm.ClassFile.FieldType.int)) ∈ lw_all := lw_g (lw_at lw_m2 141 rfl) rfl
theorem q510 : (Jvm.Cond.instanceMethod ({ cls := "MissCurves", name := "key", desc := "(III)I" } : Jvm.MethodName)) ∈ lw_all := lw_g (lw_at lw_m2 143 rfl) rfl
theorem q511 : (Jvm.Cond.selects "MissCurves" ({ cls := "MissCurves", name := "key", desc := "(III)I" } : Jvm.MethodName) ({ cls := "MissCurves", name := "key", desc := "(III)I" } : Jvm.MethodName)) ∈ lw_all := lw_g (lw_at lw_m2 144 rfl) rfl
theorem q512 : (Jvm.Cond.code ({ cls := "MissCurves", name := "key", desc := "(III)I" } : Jvm.MethodName) prog_1_method_20_code (4 : Nat) (Option.some Jvm.ClassFile.FieldType.int)) ∈ lw_all := lw_g (lw_at lw_m2 145 rfl) rfl
theorem q513 : (Jvm.Cond.methodLink "MissCurves" (180 : Nat) ({ cls := "MissCurves", name := "isKey", desc := "(I)Z" } : Jvm.MethodName)) ∈ lw_all := lw_g (lw_at lw_m2 146 rfl) rfl
theorem q514 : (Jvm.Cond.static ({ cls := "MissCurves", name := "isKey", desc := "(I)Z" } : Jvm.MethodName)) ∈ lw_all := lw_g (lw_at lw_m2 147 rfl) rfl
theorem q515 : (Jvm.Cond.code ({ cls := "MissCurves", name := "isKey", desc := "(I)Z" } : Jvm.MethodName) prog_1_method_4_code (1 : Nat) (Option.some Jvm.ClassFile.FieldType.boolean)) ∈ lw_all := lw_g (lw_at lw_m2 148 rfl) rfl
theorem q516 : (Jvm.Cond.constantLong "MissCurves" (9 : Nat) (999 : Int64)) ∈ lw_all := lw_g (lw_at lw_m2 149 rfl) rfl
theorem q517 : (Jvm.Cond.methodLink "MissCurves" (183 : Nat) ({ cls := "MissCurves$Book", name := "place", desc := "(I)I" } : Jvm.MethodName)) ∈ lw_all := lw_g (lw_at lw_m2 150 rfl) rfl
theorem q524 : (Jvm.Cond.methodLink "MissCurves" (186 : Nat) ({ cls := "MissCurves$Book", name := "placeSampled", desc := "(I)I" } : Jvm.MethodName)) ∈ lw_all := lw_g (lw_at lw_m2 157 rfl) rfl
theorem q528 : (Jvm.Cond.methodLink "MissCurves" (192 : Nat) ({ cls := "MissCurves", name := "hashOf", desc := "(II)I" } : Jvm.MethodName)) ∈ lw_all := lw_g (lw_at lw_m2 161 rfl) rfl
theorem q529 : (Jvm.Cond.static ({ cls := "MissCurves", name := "hashOf", desc := "(II)I" } : Jvm.MethodName)) ∈ lw_all := lw_g (lw_at lw_m2 162 rfl) rfl
theorem q530 : (Jvm.Cond.code ({ cls := "MissCurves", name := "hashOf", desc := "(II)I" } : Jvm.MethodName) prog_1_method_6_code (2 : Nat) (Option.some Jvm.ClassFile.FieldType.int)) ∈ lw_all := lw_g (lw_at lw_m2 163 rfl) rfl
theorem q531 : (Jvm.Cond.methodLink "MissCurves" (195 : Nat) ({ cls := "MissCurves", name := "costs", desc := "(II)I" } : Jvm.MethodName)) ∈ lw_all := lw_g (lw_at lw_m2 164 rfl) rfl
theorem q532 : (Jvm.Cond.privateMethod ({ cls := "MissCurves", name := "costs", desc := "(II)I" } : Jvm.MethodName)) ∈ lw_tbl := lw_at lw_m2 165 rfl
theorem q533 : (Jvm.Cond.instanceMethod ({ cls := "MissCurves", name := "costs", desc := "(II)I" } : Jvm.MethodName)) ∈ lw_all := lw_g (lw_at lw_m2 166 rfl) rfl
theorem q534 : (Jvm.Cond.code ({ cls := "MissCurves", name := "costs", desc := "(II)I" } : Jvm.MethodName) prog_1_method_36_code (3 : Nat) (Option.some Jvm.ClassFile.FieldType.int)) ∈ lw_all := lw_g (lw_at lw_m2 167 rfl) rfl
theorem q535 : (Jvm.Cond.methodLink "MissCurves" (307 : Nat) ({ cls := "MissCurves", name := "about", desc := "(II)V" } : Jvm.MethodName)) ∈ lw_all := lw_g (lw_at lw_m2 168 rfl) rfl
theorem q536 : (Jvm.Cond.privateMethod ({ cls := "MissCurves", name := "about", desc := "(II)V" } : Jvm.MethodName)) ∈ lw_tbl := lw_at lw_m2 169 rfl
theorem q537 : (Jvm.Cond.instanceMethod ({ cls := "MissCurves", name := "about", desc := "(II)V" } : Jvm.MethodName)) ∈ lw_all := lw_g (lw_at lw_m2 170 rfl) rfl
theorem q538 : (Jvm.Cond.code ({ cls := "MissCurves", name := "about", desc := "(II)V" } : Jvm.MethodName) prog_1_method_35_code (3 : Nat) (Option.none : Option Jvm.ClassFile.FieldType)) ∈ lw_all := lw_g (lw_at lw_m2 171 rfl) rfl
theorem q539 : (Jvm.Cond.methodLink "MissCurves" (304 : Nat) ({ cls := "MissCurves$Book", name := "often", desc := "(I)I" } : Jvm.MethodName)) ∈ lw_all := lw_g (lw_at lw_m2 172 rfl) rfl
theorem q543 : (Jvm.Cond.methodLink "MissCurves" (311 : Nat) ({ cls := "MissCurves", name := "law1", desc := "()LMissCurves$Text;" } : Jvm.MethodName)) ∈ lw_all := lw_g (lw_at lw_m2 176 rfl) rfl
theorem q544 : (Jvm.Cond.privateMethod ({ cls := "MissCurves", name := "law1", desc := "()LMissCurves$Text;" } : Jvm.MethodName)) ∈ lw_tbl := lw_at lw_m2 177 rfl
theorem q545 : (Jvm.Cond.instanceMethod ({ cls := "MissCurves", name := "law1", desc := "()LMissCurves$Text;" } : Jvm.MethodName)) ∈ lw_all := lw_g (lw_at lw_m2 178 rfl) rfl
theorem q546 : (Jvm.Cond.code ({ cls := "MissCurves", name := "law1", desc := "()LMissCurves$Text;" } : Jvm.MethodName) prog_1_method_34_code (1 : Nat) (Option.some (Jvm.ClassFile.FieldType.object "MissCurves$Text"))) ∈ lw_all := lw_g (lw_at lw_m2 179 rfl) rfl
theorem q547 : (Jvm.Cond.methodLink "MissCurves" (296 : Nat) ({ cls := "java/util/ArrayList", name := "get", desc := "(I)Ljava/lang/Object;" } : Jvm.MethodName)) ∈ lw_all := lw_g (lw_at lw_m2 180 rfl) rfl
theorem q561 : (Jvm.Cond.methodLink "MissCurves" (314 : Nat) ({ cls := "MissCurves$Text", name := "tells", desc := "(ILMissCurves$Asked;II)I" } : Jvm.MethodName)) ∈ lw_all := lw_g (lw_at lw_m2 194 rfl) rfl
theorem q613 : (Jvm.Cond.methodLink "MissCurves" (197 : Nat) ({ cls := "MissCurves", name := "isBarred", desc := "(II)Z" } : Jvm.MethodName)) ∈ lw_all := lw_g (lw_at lw_m3 6 rfl) rfl
theorem q614 : (Jvm.Cond.privateMethod ({ cls := "MissCurves", name := "isBarred", desc := "(II)Z" } : Jvm.MethodName)) ∈ lw_tbl := lw_at lw_m3 7 rfl
theorem q615 : (Jvm.Cond.instanceMethod ({ cls := "MissCurves", name := "isBarred", desc := "(II)Z" } : Jvm.MethodName)) ∈ lw_all := lw_g (lw_at lw_m3 8 rfl) rfl
theorem q616 : (Jvm.Cond.code ({ cls := "MissCurves", name := "isBarred", desc := "(II)Z" } : Jvm.MethodName) prog_1_method_37_code (3 : Nat) (Option.some Jvm.ClassFile.FieldType.boolean)) ∈ lw_all := lw_g (lw_at lw_m3 9 rfl) rfl
theorem q617 : (Jvm.Cond.methodLink "MissCurves" (318 : Nat) ({ cls := "MissCurves$Text", name := "has", desc := "(ILMissCurves$Asked;)Z" } : Jvm.MethodName)) ∈ lw_all := lw_g (lw_at lw_m3 10 rfl) rfl
theorem q622 : (Jvm.Cond.instanceMethod ({ cls := "MissCurves", name := "terms", desc := "(II)I" } : Jvm.MethodName)) ∈ lw_all := lw_g (lw_at lw_m3 15 rfl) rfl
theorem q623 : (Jvm.Cond.selects "MissCurves" ({ cls := "MissCurves", name := "terms", desc := "(II)I" } : Jvm.MethodName) ({ cls := "MissCurves", name := "terms", desc := "(II)I" } : Jvm.MethodName)) ∈ lw_all := lw_g (lw_at lw_m3 16 rfl) rfl
theorem q624 : (Jvm.Cond.code ({ cls := "MissCurves", name := "terms", desc := "(II)I" } : Jvm.MethodName) prog_1_method_23_code (8 : Nat) (Option.some Jvm.ClassFile.FieldType.int)) ∈ lw_all := lw_g (lw_at lw_m3 17 rfl) rfl
theorem q625 : (Jvm.Cond.methodLink "MissCurves" (208 : Nat) ({ cls := "MissCurves", name := "isTerm", desc := "(II)Z" } : Jvm.MethodName)) ∈ lw_all := lw_g (lw_at lw_m3 18 rfl) rfl
theorem q626 : (Jvm.Cond.static ({ cls := "MissCurves", name := "isTerm", desc := "(II)Z" } : Jvm.MethodName)) ∈ lw_all := lw_g (lw_at lw_m3 19 rfl) rfl
theorem q627 : (Jvm.Cond.code ({ cls := "MissCurves", name := "isTerm", desc := "(II)Z" } : Jvm.MethodName) prog_1_method_21_code (2 : Nat) (Option.some Jvm.ClassFile.FieldType.boolean)) ∈ lw_all := lw_g (lw_at lw_m3 20 rfl) rfl
theorem q628 : (Jvm.Cond.constantLong "MissCurves" (201 : Nat) (10 : Int64)) ∈ lw_all := lw_g (lw_at lw_m3 21 rfl) rfl
theorem q629 : (Jvm.Cond.constantLong "MissCurves" (203 : Nat) (9 : Int64)) ∈ lw_all := lw_g (lw_at lw_m3 22 rfl) rfl
theorem q630 : (Jvm.Cond.methodLink "MissCurves" (129 : Nat) ({ cls := "MissCurves", name := "tell", desc := "(I)I" } : Jvm.MethodName)) ∈ lw_all := lw_g (lw_at lw_m3 23 rfl) rfl
theorem q631 : (Jvm.Cond.privateMethod ({ cls := "MissCurves", name := "tell", desc := "(I)I" } : Jvm.MethodName)) ∈ lw_tbl := lw_at lw_m3 24 rfl
theorem q632 : (Jvm.Cond.instanceMethod ({ cls := "MissCurves", name := "tell", desc := "(I)I" } : Jvm.MethodName)) ∈ lw_all := lw_g (lw_at lw_m3 25 rfl) rfl
theorem q633 : (Jvm.Cond.code ({ cls := "MissCurves", name := "tell", desc := "(I)I" } : Jvm.MethodName) prog_1_method_8_code (2 : Nat) (Option.some Jvm.ClassFile.FieldType.int)) ∈ lw_all := lw_g (lw_at lw_m3 26 rfl) rfl
theorem q634 : (Jvm.Cond.methodLink "MissCurves" (117 : Nat) ({ cls := "java/lang/Math", name := "min", desc := "(II)I" } : Jvm.MethodName)) ∈ lw_all := lw_g (lw_at lw_m3 27 rfl) rfl
theorem q637 : (Jvm.Cond.methodLink "MissCurves" (211 : Nat) ({ cls := "MissCurves", name := "term", desc := "(I)I" } : Jvm.MethodName)) ∈ lw_all := lw_g (lw_at lw_m3 30 rfl) rfl
theorem q638 : (Jvm.Cond.privateMethod ({ cls := "MissCurves", name := "term", desc := "(I)I" } : Jvm.MethodName)) ∈ lw_tbl := lw_at lw_m3 31 rfl
theorem q639 : (Jvm.Cond.instanceMethod ({ cls := "MissCurves", name := "term", desc := "(I)I" } : Jvm.MethodName)) ∈ lw_all := lw_g (lw_at lw_m3 32 rfl) rfl
theorem q640 : (Jvm.Cond.code ({ cls := "MissCurves", name := "term", desc := "(I)I" } : Jvm.MethodName) prog_1_method_22_code (2 : Nat) (Option.some Jvm.ClassFile.FieldType.int)) ∈ lw_all := lw_g (lw_at lw_m3 33 rfl) rfl
theorem q641 : (Jvm.Cond.methodLink "MissCurves" (214 : Nat) ({ cls := "MissCurves$Book", name := "forgetSample", desc := "()V" } : Jvm.MethodName)) ∈ lw_all := lw_g (lw_at lw_m3 34 rfl) rfl
theorem q648 : (Jvm.Cond.methodLink "MissCurves" (217 : Nat) ({ cls := "MissCurves", name := "had", desc := "(I)I" } : Jvm.MethodName)) ∈ lw_all := lw_g (lw_at lw_m3 41 rfl) rfl
theorem q649 : (Jvm.Cond.privateMethod ({ cls := "MissCurves", name := "had", desc := "(I)I" } : Jvm.MethodName)) ∈ lw_tbl := lw_at lw_m3 42 rfl
theorem q650 : (Jvm.Cond.instanceMethod ({ cls := "MissCurves", name := "had", desc := "(I)I" } : Jvm.MethodName)) ∈ lw_all := lw_g (lw_at lw_m3 43 rfl) rfl
theorem q651 : (Jvm.Cond.code ({ cls := "MissCurves", name := "had", desc := "(I)I" } : Jvm.MethodName) prog_1_method_10_code (2 : Nat) (Option.some Jvm.ClassFile.FieldType.int)) ∈ lw_all := lw_g (lw_at lw_m3 44 rfl) rfl
theorem q653 : (Jvm.Cond.instanceMethod ({ cls := "MissCurves", name := "row", desc := "()I" } : Jvm.MethodName)) ∈ lw_all := lw_g (lw_at lw_m3 46 rfl) rfl
theorem q654 : (Jvm.Cond.selects "MissCurves" ({ cls := "MissCurves", name := "row", desc := "()I" } : Jvm.MethodName) ({ cls := "MissCurves", name := "row", desc := "()I" } : Jvm.MethodName)) ∈ lw_all := lw_g (lw_at lw_m3 47 rfl) rfl
theorem q655 : (Jvm.Cond.codeWith ({ cls := "MissCurves", name := "row", desc := "()I" } : Jvm.MethodName) prog_1_method_25_code (8 : Nat) (Option.some Jvm.ClassFile.FieldType.int) [((58 : Nat), (95 : Nat), (130 : Nat), (236 : Nat)), ((58 : Nat), (95 : Nat), (170 : Nat), (0 : Nat)), ((130 : Nat), (135 : Nat), (170 : Nat), (0 : Nat)), ((170 : Nat), (172 : Nat), (170 : Nat), (0 : Nat))]) ∈ lw_all := lw_g (lw_at lw_m3 48 rfl) rfl
theorem q656 : (Jvm.Cond.classLink "MissCurves" (236 : Nat) "java/lang/ArrayIndexOutOfBoundsException") ∈ lw_all := lw_g (lw_at lw_m3 49 rfl) rfl
theorem q730 : (Jvm.Cond.methodLink "MissCurves" (220 : Nat) ({ cls := "java/lang/System", name := "arraycopy", desc := "(Ljava/lang/Object;ILjava/lang/Object;II)V" } : Jvm.MethodName)) ∈ lw_all := lw_g (lw_at lw_m3 123 rfl) rfl
theorem q733 : (Jvm.Cond.methodLink "MissCurves" (229 : Nat) ({ cls := "MissCurves", name := "byteAt", desc := "([BI)I" } : Jvm.MethodName)) ∈ lw_all := lw_g (lw_at lw_m3 126 rfl) rfl
theorem q734 : (Jvm.Cond.static ({ cls := "MissCurves", name := "byteAt", desc := "([BI)I" } : Jvm.MethodName)) ∈ lw_all := lw_g (lw_at lw_m3 127 rfl) rfl
theorem q735 : (Jvm.Cond.code ({ cls := "MissCurves", name := "byteAt", desc := "([BI)I" } : Jvm.MethodName) prog_1_method_24_code (2 : Nat) (Option.some Jvm.ClassFile.FieldType.int)) ∈ lw_all := lw_g (lw_at lw_m3 128 rfl) rfl
theorem q736 : (Jvm.Cond.methodLink "MissCurves" (233 : Nat) ({ cls := "MissCurves", name := "readIt", desc := "(II)I" } : Jvm.MethodName)) ∈ lw_all := lw_g (lw_at lw_m3 129 rfl) rfl
theorem q737 : (Jvm.Cond.privateMethod ({ cls := "MissCurves", name := "readIt", desc := "(II)I" } : Jvm.MethodName)) ∈ lw_tbl := lw_at lw_m3 130 rfl
theorem q738 : (Jvm.Cond.instanceMethod ({ cls := "MissCurves", name := "readIt", desc := "(II)I" } : Jvm.MethodName)) ∈ lw_all := lw_g (lw_at lw_m3 131 rfl) rfl
theorem q739 : (Jvm.Cond.code ({ cls := "MissCurves", name := "readIt", desc := "(II)I" } : Jvm.MethodName) prog_1_method_38_code (8 : Nat) (Option.some Jvm.ClassFile.FieldType.int)) ∈ lw_all := lw_g (lw_at lw_m3 132 rfl) rfl
theorem q740 : (Jvm.Cond.methodLink "MissCurves" (322 : Nat) ({ cls := "java/lang/Math", name := "max", desc := "(II)I" } : Jvm.MethodName)) ∈ lw_all := lw_g (lw_at lw_m3 133 rfl) rfl
theorem q743 : (Jvm.Cond.methodLink "MissCurves" (325 : Nat) ({ cls := "MissCurves$Book", name := "push", desc := "(I)V" } : Jvm.MethodName)) ∈ lw_all := lw_g (lw_at lw_m3 136 rfl) rfl
theorem q756 : (Jvm.Cond.methodLink "MissCurves" (328 : Nat) ({ cls := "MissCurves$Book", name := "sampleIt", desc := "(IIII)V" } : Jvm.MethodName)) ∈ lw_all := lw_g (lw_at lw_m3 149 rfl) rfl
theorem q764 : (Jvm.Cond.methodLink "MissCurves" (238 : Nat) ({ cls := "MissCurves", name := "settled", desc := "(I)I" } : Jvm.MethodName)) ∈ lw_all := lw_g (lw_at lw_m3 157 rfl) rfl
theorem q765 : (Jvm.Cond.privateMethod ({ cls := "MissCurves", name := "settled", desc := "(I)I" } : Jvm.MethodName)) ∈ lw_tbl := lw_at lw_m3 158 rfl
theorem q766 : (Jvm.Cond.instanceMethod ({ cls := "MissCurves", name := "settled", desc := "(I)I" } : Jvm.MethodName)) ∈ lw_all := lw_g (lw_at lw_m3 159 rfl) rfl
theorem q767 : (Jvm.Cond.code ({ cls := "MissCurves", name := "settled", desc := "(I)I" } : Jvm.MethodName) prog_1_method_9_code (2 : Nat) (Option.some Jvm.ClassFile.FieldType.int)) ∈ lw_all := lw_g (lw_at lw_m3 160 rfl) rfl
theorem q769 : (Jvm.Cond.instanceMethod ({ cls := "MissCurves", name := "blanks", desc := "()I" } : Jvm.MethodName)) ∈ lw_all := lw_g (lw_at lw_m3 162 rfl) rfl
theorem q770 : (Jvm.Cond.selects "MissCurves" ({ cls := "MissCurves", name := "blanks", desc := "()I" } : Jvm.MethodName) ({ cls := "MissCurves", name := "blanks", desc := "()I" } : Jvm.MethodName)) ∈ lw_all := lw_g (lw_at lw_m3 163 rfl) rfl
theorem q771 : (Jvm.Cond.code ({ cls := "MissCurves", name := "blanks", desc := "()I" } : Jvm.MethodName) prog_1_method_26_code (1 : Nat) (Option.some Jvm.ClassFile.FieldType.int)) ∈ lw_all := lw_g (lw_at lw_m3 164 rfl) rfl
theorem q773 : (Jvm.Cond.instanceMethod ({ cls := "MissCurves", name := "policy", desc := "()I" } : Jvm.MethodName)) ∈ lw_all := lw_g (lw_at lw_m3 166 rfl) rfl
theorem q774 : (Jvm.Cond.selects "MissCurves" ({ cls := "MissCurves", name := "policy", desc := "()I" } : Jvm.MethodName) ({ cls := "MissCurves", name := "policy", desc := "()I" } : Jvm.MethodName)) ∈ lw_all := lw_g (lw_at lw_m3 167 rfl) rfl
theorem q775 : (Jvm.Cond.code ({ cls := "MissCurves", name := "policy", desc := "()I" } : Jvm.MethodName) prog_1_method_29_code (2 : Nat) (Option.some Jvm.ClassFile.FieldType.int)) ∈ lw_all := lw_g (lw_at lw_m3 168 rfl) rfl
theorem q776 : (Jvm.Cond.methodLink "MissCurves" (257 : Nat) ({ cls := "MissCurves", name := "readPolicy", desc := "()I" } : Jvm.MethodName)) ∈ lw_all := lw_g (lw_at lw_m3 169 rfl) rfl
theorem q777 : (Jvm.Cond.privateMethod ({ cls := "MissCurves", name := "readPolicy", desc := "()I" } : Jvm.MethodName)) ∈ lw_tbl := lw_at lw_m3 170 rfl
theorem q778 : (Jvm.Cond.instanceMethod ({ cls := "MissCurves", name := "readPolicy", desc := "()I" } : Jvm.MethodName)) ∈ lw_all := lw_g (lw_at lw_m3 171 rfl) rfl
theorem q779 : (Jvm.Cond.code ({ cls := "MissCurves", name := "readPolicy", desc := "()I" } : Jvm.MethodName) prog_1_method_28_code (6 : Nat) (Option.some Jvm.ClassFile.FieldType.int)) ∈ lw_all := lw_g (lw_at lw_m3 172 rfl) rfl
theorem q780 : (Jvm.Cond.methodLink "MissCurves" (241 : Nat) ({ cls := "MissCurves", name := "behindBlanks", desc := "(I)I" } : Jvm.MethodName)) ∈ lw_all := lw_g (lw_at lw_m3 173 rfl) rfl
theorem q781 : (Jvm.Cond.privateMethod ({ cls := "MissCurves", name := "behindBlanks", desc := "(I)I" } : Jvm.MethodName)) ∈ lw_tbl := lw_at lw_m3 174 rfl
theorem q782 : (Jvm.Cond.instanceMethod ({ cls := "MissCurves", name := "behindBlanks", desc := "(I)I" } : Jvm.MethodName)) ∈ lw_all := lw_g (lw_at lw_m3 175 rfl) rfl
theorem q783 : (Jvm.Cond.code ({ cls := "MissCurves", name := "behindBlanks", desc := "(I)I" } : Jvm.MethodName) prog_1_method_27_code (3 : Nat) (Option.some Jvm.ClassFile.FieldType.int)) ∈ lw_all := lw_g (lw_at lw_m3 176 rfl) rfl
theorem q784 : (Jvm.Cond.classLink "MissCurves" (244 : Nat) "java/lang/StringBuilder") ∈ lw_all := lw_g (lw_at lw_m3 177 rfl) rfl
theorem q786 : (Jvm.Cond.methodLink "MissCurves" (246 : Nat) ({ cls := "java/lang/StringBuilder", name := "<init>", desc := "()V" } : Jvm.MethodName)) ∈ lw_all := lw_g (lw_at lw_m3 179 rfl) rfl
theorem q815 : (Jvm.Cond.methodLink "MissCurves" (247 : Nat) ({ cls := "java/lang/StringBuilder", name := "append", desc := "(C)Ljava/lang/StringBuilder;" } : Jvm.MethodName)) ∈ lw_all := lw_g (lw_at lw_m3 208 rfl) rfl
theorem q902 : (Jvm.Cond.methodLink "MissCurves" (251 : Nat) ({ cls := "MissCurves$Leaving", name := "numberOf", desc := "(Ljava/lang/CharSequence;)I" } : Jvm.MethodName)) ∈ lw_all := lw_g (lw_at lw_m4 55 rfl) rfl
theorem q1042 : (Jvm.Cond.instanceMethod ({ cls := "MissCurves", name := "law", desc := "()I" } : Jvm.MethodName)) ∈ lw_all := lw_g (lw_at lw_m4 195 rfl) rfl
theorem q1043 : (Jvm.Cond.selects "MissCurves" ({ cls := "MissCurves", name := "law", desc := "()I" } : Jvm.MethodName) ({ cls := "MissCurves", name := "law", desc := "()I" } : Jvm.MethodName)) ∈ lw_all := lw_g (lw_at lw_m4 196 rfl) rfl
theorem q1044 : (Jvm.Cond.codeWith ({ cls := "MissCurves", name := "law", desc := "()I" } : Jvm.MethodName) prog_1_method_30_code (4 : Nat) (Option.some Jvm.ClassFile.FieldType.int) [((27 : Nat), (71 : Nat), (78 : Nat), (286 : Nat)), ((27 : Nat), (71 : Nat), (101 : Nat), (0 : Nat)), ((78 : Nat), (94 : Nat), (101 : Nat), (0 : Nat))]) ∈ lw_all := lw_g (lw_at lw_m4 197 rfl) rfl
theorem q1045 : (Jvm.Cond.classLink "MissCurves" (286 : Nat) "MissCurves$Wrong") ∈ lw_all := lw_g (lw_at lw_m4 198 rfl) rfl
theorem q1046 : (Jvm.Cond.methodLink "MissCurves" (268 : Nat) ({ cls := "java/util/ArrayList", name := "size", desc := "()I" } : Jvm.MethodName)) ∈ lw_all := lw_g (lw_at lw_m4 199 rfl) rfl
theorem q1050 : (Jvm.Cond.classLink "MissCurves" (273 : Nat) "MissCurves$LawReader") ∈ lw_all := lw_g (lw_at lw_m4 203 rfl) rfl
theorem q1052 : (Jvm.Cond.methodLink "MissCurves" (275 : Nat) ({ cls := "MissCurves$LawReader", name := "<init>", desc := "(LMissCurves;)V" } : Jvm.MethodName)) ∈ lw_all := lw_g (lw_at lw_m4 205 rfl) rfl
theorem q1110 : (Jvm.Cond.methodLink "MissCurves" (278 : Nat) ({ cls := "MissCurves$LawReader", name := "read", desc := "()LMissCurves$Text;" } : Jvm.MethodName)) ∈ lw_all := lw_g (lw_at lw_m5 23 rfl) rfl
theorem q1127 : (Jvm.Cond.static ({ cls := "MissCurves", name := "isLetter", desc := "(I)Z" } : Jvm.MethodName)) ∈ lw_all := lw_g (lw_at lw_m5 40 rfl) rfl
theorem q1128 : (Jvm.Cond.code ({ cls := "MissCurves", name := "isLetter", desc := "(I)Z" } : Jvm.MethodName) prog_1_method_16_code (1 : Nat) (Option.some Jvm.ClassFile.FieldType.boolean)) ∈ lw_all := lw_g (lw_at lw_m5 41 rfl) rfl
theorem q1130 : (Jvm.Cond.static ({ cls := "MissCurves", name := "isDigit", desc := "(I)Z" } : Jvm.MethodName)) ∈ lw_all := lw_g (lw_at lw_m5 43 rfl) rfl
theorem q1131 : (Jvm.Cond.code ({ cls := "MissCurves", name := "isDigit", desc := "(I)Z" } : Jvm.MethodName) prog_1_method_17_code (1 : Nat) (Option.some Jvm.ClassFile.FieldType.boolean)) ∈ lw_all := lw_g (lw_at lw_m5 44 rfl) rfl
theorem q1157 : (Jvm.Cond.fieldLinkNest "MissCurves" (288 : Nat) "MissCurves$Wrong" "place" "I" "MissCurves") ∈ lw_tbl := lw_at lw_m5 70 rfl
theorem q1448 : (Jvm.Cond.fieldLinkNest "MissCurves" (486 : Nat) "MissCurves$Act" "times" "I" "MissCurves") ∈ lw_tbl := lw_at lw_m6 121 rfl
theorem q1496 : (Jvm.Cond.methodLink "MissCurves" (282 : Nat) ({ cls := "java/util/ArrayList", name := "add", desc := "(Ljava/lang/Object;)Z" } : Jvm.MethodName)) ∈ lw_all := lw_g (lw_at lw_m6 169 rfl) rfl
theorem q1519 : (Jvm.Cond.selects "MissCurves" ({ cls := "java/lang/Object", name := "getClass", desc := "()Ljava/lang/Class;" } : Jvm.MethodName) ({ cls := "java/lang/Object", name := "getClass", desc := "()Ljava/lang/Class;" } : Jvm.MethodName)) ∈ lw_all := lw_g (lw_at lw_m6 192 rfl) rfl
theorem q1561 : (Jvm.Cond.instanceMethod ({ cls := "MissCurves", name := "fault", desc := "()I" } : Jvm.MethodName)) ∈ lw_all := lw_g (lw_at lw_m6 234 rfl) rfl
theorem q1562 : (Jvm.Cond.selects "MissCurves" ({ cls := "MissCurves", name := "fault", desc := "()I" } : Jvm.MethodName) ({ cls := "MissCurves", name := "fault", desc := "()I" } : Jvm.MethodName)) ∈ lw_all := lw_g (lw_at lw_m6 235 rfl) rfl
theorem q1563 : (Jvm.Cond.code ({ cls := "MissCurves", name := "fault", desc := "()I" } : Jvm.MethodName) prog_1_method_31_code (1 : Nat) (Option.some Jvm.ClassFile.FieldType.int)) ∈ lw_all := lw_g (lw_at lw_m6 236 rfl) rfl
theorem q1565 : (Jvm.Cond.instanceMethod ({ cls := "MissCurves", name := "force", desc := "(I)I" } : Jvm.MethodName)) ∈ lw_all := lw_g (lw_at lw_m6 238 rfl) rfl
theorem q1566 : (Jvm.Cond.selects "MissCurves" ({ cls := "MissCurves", name := "force", desc := "(I)I" } : Jvm.MethodName) ({ cls := "MissCurves", name := "force", desc := "(I)I" } : Jvm.MethodName)) ∈ lw_all := lw_g (lw_at lw_m6 239 rfl) rfl
theorem q1567 : (Jvm.Cond.code ({ cls := "MissCurves", name := "force", desc := "(I)I" } : Jvm.MethodName) prog_1_method_33_code (3 : Nat) (Option.some Jvm.ClassFile.FieldType.int)) ∈ lw_all := lw_g (lw_at lw_m7 0 rfl) rfl
theorem q1568 : (Jvm.Cond.methodLink "MissCurves" (290 : Nat) ({ cls := "MissCurves", name := "isLaw", desc := "(I)Z" } : Jvm.MethodName)) ∈ lw_all := lw_g (lw_at lw_m7 1 rfl) rfl
theorem q1569 : (Jvm.Cond.privateMethod ({ cls := "MissCurves", name := "isLaw", desc := "(I)Z" } : Jvm.MethodName)) ∈ lw_tbl := lw_at lw_m7 2 rfl
theorem q1570 : (Jvm.Cond.instanceMethod ({ cls := "MissCurves", name := "isLaw", desc := "(I)Z" } : Jvm.MethodName)) ∈ lw_all := lw_g (lw_at lw_m7 3 rfl) rfl
theorem q1571 : (Jvm.Cond.code ({ cls := "MissCurves", name := "isLaw", desc := "(I)Z" } : Jvm.MethodName) prog_1_method_32_code (2 : Nat) (Option.some Jvm.ClassFile.FieldType.boolean)) ∈ lw_all := lw_g (lw_at lw_m7 4 rfl) rfl
theorem q1573 : (Jvm.Cond.instanceMethod ({ cls := "MissCurves", name := "read", desc := "(II)I" } : Jvm.MethodName)) ∈ lw_all := lw_g (lw_at lw_m7 6 rfl) rfl
theorem q1574 : (Jvm.Cond.selects "MissCurves" ({ cls := "MissCurves", name := "read", desc := "(II)I" } : Jvm.MethodName) ({ cls := "MissCurves", name := "read", desc := "(II)I" } : Jvm.MethodName)) ∈ lw_all := lw_g (lw_at lw_m7 7 rfl) rfl
theorem q1575 : (Jvm.Cond.code ({ cls := "MissCurves", name := "read", desc := "(II)I" } : Jvm.MethodName) prog_1_method_40_code (3 : Nat) (Option.some Jvm.ClassFile.FieldType.int)) ∈ lw_all := lw_g (lw_at lw_m7 8 rfl) rfl
theorem q1576 : (Jvm.Cond.methodLink "MissCurves" (335 : Nat) ({ cls := "MissCurves", name := "readNow", desc := "(II)I" } : Jvm.MethodName)) ∈ lw_all := lw_g (lw_at lw_m7 9 rfl) rfl
theorem q1577 : (Jvm.Cond.privateMethod ({ cls := "MissCurves", name := "readNow", desc := "(II)I" } : Jvm.MethodName)) ∈ lw_tbl := lw_at lw_m7 10 rfl
theorem q1578 : (Jvm.Cond.instanceMethod ({ cls := "MissCurves", name := "readNow", desc := "(II)I" } : Jvm.MethodName)) ∈ lw_all := lw_g (lw_at lw_m7 11 rfl) rfl
theorem q1579 : (Jvm.Cond.code ({ cls := "MissCurves", name := "readNow", desc := "(II)I" } : Jvm.MethodName) prog_1_method_39_code (3 : Nat) (Option.some Jvm.ClassFile.FieldType.int)) ∈ lw_all := lw_g (lw_at lw_m7 12 rfl) rfl
theorem q1580 : (Jvm.Cond.methodLink "MissCurves" (332 : Nat) ({ cls := "MissCurves$Steps", name := "append", desc := "(LMissCurves$Books;I)V" } : Jvm.MethodName)) ∈ lw_all := lw_g (lw_at lw_m7 13 rfl) rfl
theorem q1594 : (Jvm.Cond.instanceMethod ({ cls := "MissCurves", name := "loop", desc := "(III)I" } : Jvm.MethodName)) ∈ lw_all := lw_g (lw_at lw_m7 27 rfl) rfl
theorem q1595 : (Jvm.Cond.selects "MissCurves" ({ cls := "MissCurves", name := "loop", desc := "(III)I" } : Jvm.MethodName) ({ cls := "MissCurves", name := "loop", desc := "(III)I" } : Jvm.MethodName)) ∈ lw_all := lw_g (lw_at lw_m7 28 rfl) rfl
theorem q1596 : (Jvm.Cond.code ({ cls := "MissCurves", name := "loop", desc := "(III)I" } : Jvm.MethodName) prog_1_method_42_code (4 : Nat) (Option.some Jvm.ClassFile.FieldType.int)) ∈ lw_all := lw_g (lw_at lw_m7 29 rfl) rfl
theorem q1597 : (Jvm.Cond.methodLink "MissCurves" (338 : Nat) ({ cls := "MissCurves", name := "loopNow", desc := "(III)I" } : Jvm.MethodName)) ∈ lw_all := lw_g (lw_at lw_m7 30 rfl) rfl
theorem q1598 : (Jvm.Cond.privateMethod ({ cls := "MissCurves", name := "loopNow", desc := "(III)I" } : Jvm.MethodName)) ∈ lw_tbl := lw_at lw_m7 31 rfl
theorem q1599 : (Jvm.Cond.instanceMethod ({ cls := "MissCurves", name := "loopNow", desc := "(III)I" } : Jvm.MethodName)) ∈ lw_all := lw_g (lw_at lw_m7 32 rfl) rfl
theorem q1600 : (Jvm.Cond.code ({ cls := "MissCurves", name := "loopNow", desc := "(III)I" } : Jvm.MethodName) prog_1_method_41_code (6 : Nat) (Option.some Jvm.ClassFile.FieldType.int)) ∈ lw_all := lw_g (lw_at lw_m7 33 rfl) rfl
theorem q1602 : (Jvm.Cond.instanceMethod ({ cls := "MissCurves", name := "drop", desc := "(II)I" } : Jvm.MethodName)) ∈ lw_all := lw_g (lw_at lw_m7 35 rfl) rfl
theorem q1603 : (Jvm.Cond.selects "MissCurves" ({ cls := "MissCurves", name := "drop", desc := "(II)I" } : Jvm.MethodName) ({ cls := "MissCurves", name := "drop", desc := "(II)I" } : Jvm.MethodName)) ∈ lw_all := lw_g (lw_at lw_m7 36 rfl) rfl
theorem q1604 : (Jvm.Cond.code ({ cls := "MissCurves", name := "drop", desc := "(II)I" } : Jvm.MethodName) prog_1_method_44_code (3 : Nat) (Option.some Jvm.ClassFile.FieldType.int)) ∈ lw_all := lw_g (lw_at lw_m7 37 rfl) rfl
theorem q1605 : (Jvm.Cond.methodLink "MissCurves" (345 : Nat) ({ cls := "MissCurves", name := "dropNow", desc := "(II)I" } : Jvm.MethodName)) ∈ lw_all := lw_g (lw_at lw_m7 38 rfl) rfl
theorem q1606 : (Jvm.Cond.privateMethod ({ cls := "MissCurves", name := "dropNow", desc := "(II)I" } : Jvm.MethodName)) ∈ lw_tbl := lw_at lw_m7 39 rfl
theorem q1607 : (Jvm.Cond.instanceMethod ({ cls := "MissCurves", name := "dropNow", desc := "(II)I" } : Jvm.MethodName)) ∈ lw_all := lw_g (lw_at lw_m7 40 rfl) rfl
theorem q1608 : (Jvm.Cond.code ({ cls := "MissCurves", name := "dropNow", desc := "(II)I" } : Jvm.MethodName) prog_1_method_43_code (4 : Nat) (Option.some Jvm.ClassFile.FieldType.int)) ∈ lw_all := lw_g (lw_at lw_m7 41 rfl) rfl
theorem q1609 : (Jvm.Cond.methodLink "MissCurves" (342 : Nat) ({ cls := "MissCurves$Book", name := "drop", desc := "(I)V" } : Jvm.MethodName)) ∈ lw_all := lw_g (lw_at lw_m7 42 rfl) rfl
theorem q1614 : (Jvm.Cond.instanceMethod ({ cls := "MissCurves", name := "pass", desc := "()I" } : Jvm.MethodName)) ∈ lw_all := lw_g (lw_at lw_m7 47 rfl) rfl
theorem q1615 : (Jvm.Cond.selects "MissCurves" ({ cls := "MissCurves", name := "pass", desc := "()I" } : Jvm.MethodName) ({ cls := "MissCurves", name := "pass", desc := "()I" } : Jvm.MethodName)) ∈ lw_all := lw_g (lw_at lw_m7 48 rfl) rfl
theorem q1616 : (Jvm.Cond.code ({ cls := "MissCurves", name := "pass", desc := "()I" } : Jvm.MethodName) prog_1_method_47_code (1 : Nat) (Option.some Jvm.ClassFile.FieldType.int)) ∈ lw_all := lw_g (lw_at lw_m7 49 rfl) rfl
theorem q1617 : (Jvm.Cond.methodLink "MissCurves" (354 : Nat) ({ cls := "MissCurves", name := "passNow", desc := "()I" } : Jvm.MethodName)) ∈ lw_all := lw_g (lw_at lw_m7 50 rfl) rfl
theorem q1618 : (Jvm.Cond.privateMethod ({ cls := "MissCurves", name := "passNow", desc := "()I" } : Jvm.MethodName)) ∈ lw_tbl := lw_at lw_m7 51 rfl
theorem q1619 : (Jvm.Cond.instanceMethod ({ cls := "MissCurves", name := "passNow", desc := "()I" } : Jvm.MethodName)) ∈ lw_all := lw_g (lw_at lw_m7 52 rfl) rfl
theorem q1620 : (Jvm.Cond.code ({ cls := "MissCurves", name := "passNow", desc := "()I" } : Jvm.MethodName) prog_1_method_46_code (1 : Nat) (Option.some Jvm.ClassFile.FieldType.int)) ∈ lw_all := lw_g (lw_at lw_m7 53 rfl) rfl
theorem q1621 : (Jvm.Cond.methodLink "MissCurves" (351 : Nat) ({ cls := "MissCurves", name := "passIt", desc := "()I" } : Jvm.MethodName)) ∈ lw_all := lw_g (lw_at lw_m7 54 rfl) rfl
theorem q1622 : (Jvm.Cond.privateMethod ({ cls := "MissCurves", name := "passIt", desc := "()I" } : Jvm.MethodName)) ∈ lw_tbl := lw_at lw_m7 55 rfl
theorem q1623 : (Jvm.Cond.instanceMethod ({ cls := "MissCurves", name := "passIt", desc := "()I" } : Jvm.MethodName)) ∈ lw_all := lw_g (lw_at lw_m7 56 rfl) rfl
theorem q1624 : (Jvm.Cond.code ({ cls := "MissCurves", name := "passIt", desc := "()I" } : Jvm.MethodName) prog_1_method_45_code (6 : Nat) (Option.some Jvm.ClassFile.FieldType.int)) ∈ lw_all := lw_g (lw_at lw_m7 57 rfl) rfl
theorem q1625 : (Jvm.Cond.methodLink "MissCurves" (348 : Nat) ({ cls := "MissCurves$Book", name := "halve", desc := "()I" } : Jvm.MethodName)) ∈ lw_all := lw_g (lw_at lw_m7 58 rfl) rfl
theorem q1631 : (Jvm.Cond.instanceMethod ({ cls := "MissCurves", name := "undo", desc := "()I" } : Jvm.MethodName)) ∈ lw_all := lw_g (lw_at lw_m7 64 rfl) rfl
theorem q1632 : (Jvm.Cond.selects "MissCurves" ({ cls := "MissCurves", name := "undo", desc := "()I" } : Jvm.MethodName) ({ cls := "MissCurves", name := "undo", desc := "()I" } : Jvm.MethodName)) ∈ lw_all := lw_g (lw_at lw_m7 65 rfl) rfl
theorem q1633 : (Jvm.Cond.code ({ cls := "MissCurves", name := "undo", desc := "()I" } : Jvm.MethodName) prog_1_method_48_code (1 : Nat) (Option.some Jvm.ClassFile.FieldType.int)) ∈ lw_all := lw_g (lw_at lw_m7 66 rfl) rfl
theorem q1634 : (Jvm.Cond.methodLink "MissCurves" (360 : Nat) ({ cls := "MissCurves$Books", name := "as", desc := "(LMissCurves$Books;)LMissCurves$Books;" } : Jvm.MethodName)) ∈ lw_all := lw_g (lw_at lw_m7 67 rfl) rfl
theorem q1636 : (Jvm.Cond.instanceMethod ({ cls := "MissCurves", name := "misses", desc := "(II)I" } : Jvm.MethodName)) ∈ lw_all := lw_g (lw_at lw_m7 69 rfl) rfl
theorem q1637 : (Jvm.Cond.selects "MissCurves" ({ cls := "MissCurves", name := "misses", desc := "(II)I" } : Jvm.MethodName) ({ cls := "MissCurves", name := "misses", desc := "(II)I" } : Jvm.MethodName)) ∈ lw_all := lw_g (lw_at lw_m7 70 rfl) rfl
theorem q1638 : (Jvm.Cond.code ({ cls := "MissCurves", name := "misses", desc := "(II)I" } : Jvm.MethodName) prog_1_method_49_code (3 : Nat) (Option.some Jvm.ClassFile.FieldType.int)) ∈ lw_all := lw_g (lw_at lw_m7 71 rfl) rfl
theorem q1639 : (Jvm.Cond.methodLink "MissCurves" (367 : Nat) ({ cls := "MissCurves", name := "isSize", desc := "(I)Z" } : Jvm.MethodName)) ∈ lw_all := lw_g (lw_at lw_m7 72 rfl) rfl
theorem q1640 : (Jvm.Cond.static ({ cls := "MissCurves", name := "isSize", desc := "(I)Z" } : Jvm.MethodName)) ∈ lw_all := lw_g (lw_at lw_m7 73 rfl) rfl
theorem q1641 : (Jvm.Cond.code ({ cls := "MissCurves", name := "isSize", desc := "(I)Z" } : Jvm.MethodName) prog_1_method_5_code (1 : Nat) (Option.some Jvm.ClassFile.FieldType.boolean)) ∈ lw_all := lw_g (lw_at lw_m7 74 rfl) rfl
theorem q1642 : (Jvm.Cond.constantLong "MissCurves" (11 : Nat) (24 : Int64)) ∈ lw_all := lw_g (lw_at lw_m7 75 rfl) rfl
theorem q1643 : (Jvm.Cond.methodLink "MissCurves" (370 : Nat) ({ cls := "MissCurves$Book", name := "misses", desc := "(I)I" } : Jvm.MethodName)) ∈ lw_all := lw_g (lw_at lw_m7 76 rfl) rfl
theorem q1648 : (Jvm.Cond.instanceMethod ({ cls := "MissCurves", name := "hull", desc := "(II)J" } : Jvm.MethodName)) ∈ lw_all := lw_g (lw_at lw_m7 81 rfl) rfl
theorem q1649 : (Jvm.Cond.selects "MissCurves" ({ cls := "MissCurves", name := "hull", desc := "(II)J" } : Jvm.MethodName) ({ cls := "MissCurves", name := "hull", desc := "(II)J" } : Jvm.MethodName)) ∈ lw_all := lw_g (lw_at lw_m7 82 rfl) rfl
theorem q1650 : (Jvm.Cond.code ({ cls := "MissCurves", name := "hull", desc := "(II)J" } : Jvm.MethodName) prog_1_method_53_code (5 : Nat) (Option.some Jvm.ClassFile.FieldType.long)) ∈ lw_all := lw_g (lw_at lw_m7 83 rfl) rfl
theorem q1651 : (Jvm.Cond.constantLong "MissCurves" (380 : Nat) (-1 : Int64)) ∈ lw_all := lw_g (lw_at lw_m7 84 rfl) rfl
theorem q1652 : (Jvm.Cond.methodLink "MissCurves" (382 : Nat) ({ cls := "MissCurves", name := "layCurve", desc := "(I)V" } : Jvm.MethodName)) ∈ lw_all := lw_g (lw_at lw_m7 85 rfl) rfl
theorem q1653 : (Jvm.Cond.privateMethod ({ cls := "MissCurves", name := "layCurve", desc := "(I)V" } : Jvm.MethodName)) ∈ lw_tbl := lw_at lw_m7 86 rfl
theorem q1654 : (Jvm.Cond.instanceMethod ({ cls := "MissCurves", name := "layCurve", desc := "(I)V" } : Jvm.MethodName)) ∈ lw_all := lw_g (lw_at lw_m7 87 rfl) rfl
theorem q1655 : (Jvm.Cond.code ({ cls := "MissCurves", name := "layCurve", desc := "(I)V" } : Jvm.MethodName) prog_1_method_50_code (3 : Nat) (Option.none : Option Jvm.ClassFile.FieldType)) ∈ lw_all := lw_g (lw_at lw_m7 88 rfl) rfl
theorem q1656 : (Jvm.Cond.methodLink "MissCurves" (376 : Nat) ({ cls := "MissCurves", name := "isBelow", desc := "(III)Z" } : Jvm.MethodName)) ∈ lw_all := lw_g (lw_at lw_m7 89 rfl) rfl
theorem q1657 : (Jvm.Cond.privateMethod ({ cls := "MissCurves", name := "isBelow", desc := "(III)Z" } : Jvm.MethodName)) ∈ lw_tbl := lw_at lw_m7 90 rfl
theorem q1658 : (Jvm.Cond.instanceMethod ({ cls := "MissCurves", name := "isBelow", desc := "(III)Z" } : Jvm.MethodName)) ∈ lw_all := lw_g (lw_at lw_m7 91 rfl) rfl
theorem q1659 : (Jvm.Cond.code ({ cls := "MissCurves", name := "isBelow", desc := "(III)Z" } : Jvm.MethodName) prog_1_method_51_code (4 : Nat) (Option.some Jvm.ClassFile.FieldType.boolean)) ∈ lw_all := lw_g (lw_at lw_m7 92 rfl) rfl
theorem q1660 : (Jvm.Cond.methodLink "MissCurves" (385 : Nat) ({ cls := "MissCurves", name := "bendOf", desc := "(I)I" } : Jvm.MethodName)) ∈ lw_all := lw_g (lw_at lw_m7 93 rfl) rfl
theorem q1661 : (Jvm.Cond.privateMethod ({ cls := "MissCurves", name := "bendOf", desc := "(I)I" } : Jvm.MethodName)) ∈ lw_tbl := lw_at lw_m7 94 rfl
theorem q1662 : (Jvm.Cond.instanceMethod ({ cls := "MissCurves", name := "bendOf", desc := "(I)I" } : Jvm.MethodName)) ∈ lw_all := lw_g (lw_at lw_m7 95 rfl) rfl
theorem q1663 : (Jvm.Cond.code ({ cls := "MissCurves", name := "bendOf", desc := "(I)I" } : Jvm.MethodName) prog_1_method_52_code (3 : Nat) (Option.some Jvm.ClassFile.FieldType.int)) ∈ lw_all := lw_g (lw_at lw_m7 96 rfl) rfl
theorem q1664 : (Jvm.Cond.constantLong "MissCurves" (388 : Nat) (1000 : Int64)) ∈ lw_all := lw_g (lw_at lw_m7 97 rfl) rfl
theorem q1666 : (Jvm.Cond.instanceMethod ({ cls := "MissCurves", name := "bend", desc := "(II)I" } : Jvm.MethodName)) ∈ lw_all := lw_g (lw_at lw_m7 99 rfl) rfl
theorem q1667 : (Jvm.Cond.selects "MissCurves" ({ cls := "MissCurves", name := "bend", desc := "(II)I" } : Jvm.MethodName) ({ cls := "MissCurves", name := "bend", desc := "(II)I" } : Jvm.MethodName)) ∈ lw_all := lw_g (lw_at lw_m7 100 rfl) rfl
theorem q1668 : (Jvm.Cond.code ({ cls := "MissCurves", name := "bend", desc := "(II)I" } : Jvm.MethodName) prog_1_method_54_code (3 : Nat) (Option.some Jvm.ClassFile.FieldType.int)) ∈ lw_all := lw_g (lw_at lw_m7 101 rfl) rfl
theorem q1670 : (Jvm.Cond.instanceMethod ({ cls := "MissCurves", name := "report", desc := "(I)I" } : Jvm.MethodName)) ∈ lw_all := lw_g (lw_at lw_m7 103 rfl) rfl
theorem q1671 : (Jvm.Cond.selects "MissCurves" ({ cls := "MissCurves", name := "report", desc := "(I)I" } : Jvm.MethodName) ({ cls := "MissCurves", name := "report", desc := "(I)I" } : Jvm.MethodName)) ∈ lw_all := lw_g (lw_at lw_m7 104 rfl) rfl
theorem q1672 : (Jvm.Cond.code ({ cls := "MissCurves", name := "report", desc := "(I)I" } : Jvm.MethodName) prog_1_method_55_code (4 : Nat) (Option.some Jvm.ClassFile.FieldType.int)) ∈ lw_all := lw_g (lw_at lw_m7 105 rfl) rfl
theorem q1673 : (Jvm.Cond.stringRef "MissCurves" (390 : Nat) ",") ∈ lw_tbl := lw_at lw_m7 106 rfl
theorem q1674 : (Jvm.Cond.methodLink "MissCurves" (392 : Nat) ({ cls := "java/lang/StringBuilder", name := "append", desc := "(Ljava/lang/String;)Ljava/lang/StringBuilder;" } : Jvm.MethodName)) ∈ lw_all := lw_g (lw_at lw_m7 107 rfl) rfl
theorem q1713 : (Jvm.Cond.methodLink "MissCurves" (395 : Nat) ({ cls := "java/lang/StringBuilder", name := "append", desc := "(I)Ljava/lang/StringBuilder;" } : Jvm.MethodName)) ∈ lw_all := lw_g (lw_at lw_m7 146 rfl) rfl
theorem q1738 : (Jvm.Cond.stringRef "MissCurves" (398 : Nat) ":") ∈ lw_tbl := lw_at lw_m7 171 rfl
theorem q1739 : (Jvm.Cond.methodLink "MissCurves" (400 : Nat) ({ cls := "java/lang/StringBuilder", name := "toString", desc := "()Ljava/lang/String;" } : Jvm.MethodName)) ∈ lw_all := lw_g (lw_at lw_m7 172 rfl) rfl
theorem q1740 : (Jvm.Cond.methodLink "MissCurves" (404 : Nat) ({ cls := "java/lang/StringBuilder", name := "append", desc := "(Ljava/lang/Object;)Ljava/lang/StringBuilder;" } : Jvm.MethodName)) ∈ lw_all := lw_g (lw_at lw_m7 173 rfl) rfl
theorem q1752 : (Jvm.Cond.selects "MissCurves" ({ cls := "java/lang/Object", name := "toString", desc := "()Ljava/lang/String;" } : Jvm.MethodName) ({ cls := "java/lang/Object", name := "toString", desc := "()Ljava/lang/String;" } : Jvm.MethodName)) ∈ lw_all := lw_g (lw_at lw_m7 185 rfl) rfl
theorem q1804 : (Jvm.Cond.stringRef "MissCurves" (407 : Nat) ".") ∈ lw_tbl := lw_at lw_m7 237 rfl
theorem q1805 : (Jvm.Cond.methodLink "MissCurves" (409 : Nat) ({ cls := "java/lang/String", name := "length", desc := "()I" } : Jvm.MethodName)) ∈ lw_all := lw_g (lw_at lw_m7 238 rfl) rfl
theorem q1807 : (Jvm.Cond.instanceMethod ({ cls := "MissCurves", name := "sign", desc := "(I)I" } : Jvm.MethodName)) ∈ lw_all := lw_g (lw_at lw_m8 0 rfl) rfl
theorem q1808 : (Jvm.Cond.selects "MissCurves" ({ cls := "MissCurves", name := "sign", desc := "(I)I" } : Jvm.MethodName) ({ cls := "MissCurves", name := "sign", desc := "(I)I" } : Jvm.MethodName)) ∈ lw_all := lw_g (lw_at lw_m8 1 rfl) rfl
theorem q1809 : (Jvm.Cond.code ({ cls := "MissCurves", name := "sign", desc := "(I)I" } : Jvm.MethodName) prog_1_method_56_code (2 : Nat) (Option.some Jvm.ClassFile.FieldType.int)) ∈ lw_all := lw_g (lw_at lw_m8 2 rfl) rfl
theorem q1810 : (Jvm.Cond.methodLink "MissCurves" (414 : Nat) ({ cls := "java/lang/String", name := "charAt", desc := "(I)C" } : Jvm.MethodName)) ∈ lw_all := lw_g (lw_at lw_m8 3 rfl) rfl
theorem q1812 : (Jvm.Cond.instanceMethod ({ cls := "MissCurves", name := "guess", desc := "(II)I" } : Jvm.MethodName)) ∈ lw_all := lw_g (lw_at lw_m8 5 rfl) rfl
theorem q1813 : (Jvm.Cond.selects "MissCurves" ({ cls := "MissCurves", name := "guess", desc := "(II)I" } : Jvm.MethodName) ({ cls := "MissCurves", name := "guess", desc := "(II)I" } : Jvm.MethodName)) ∈ lw_all := lw_g (lw_at lw_m8 6 rfl) rfl
theorem q1814 : (Jvm.Cond.code ({ cls := "MissCurves", name := "guess", desc := "(II)I" } : Jvm.MethodName) prog_1_method_57_code (6 : Nat) (Option.some Jvm.ClassFile.FieldType.int)) ∈ lw_all := lw_g (lw_at lw_m8 7 rfl) rfl
theorem q1815 : (Jvm.Cond.constantLong "MissCurves" (421 : Nat) (2000000000 : Int64)) ∈ lw_all := lw_g (lw_at lw_m8 8 rfl) rfl
theorem q1816 : (Jvm.Cond.methodLink "MissCurves" (423 : Nat) ({ cls := "java/lang/Math", name := "min", desc := "(JJ)J" } : Jvm.MethodName)) ∈ lw_all := lw_g (lw_at lw_m8 9 rfl) rfl
theorem q1818 : (Jvm.Cond.instanceMethod ({ cls := "MissCurves", name := "salted", desc := "(II)I" } : Jvm.MethodName)) ∈ lw_all := lw_g (lw_at lw_m8 11 rfl) rfl
theorem q1819 : (Jvm.Cond.selects "MissCurves" ({ cls := "MissCurves", name := "salted", desc := "(II)I" } : Jvm.MethodName) ({ cls := "MissCurves", name := "salted", desc := "(II)I" } : Jvm.MethodName)) ∈ lw_all := lw_g (lw_at lw_m8 12 rfl) rfl
theorem q1820 : (Jvm.Cond.code ({ cls := "MissCurves", name := "salted", desc := "(II)I" } : Jvm.MethodName) prog_1_method_58_code (7 : Nat) (Option.some Jvm.ClassFile.FieldType.int)) ∈ lw_all := lw_g (lw_at lw_m8 13 rfl) rfl
theorem q1822 : (Jvm.Cond.instanceMethod ({ cls := "MissCurves", name := "share", desc := "(II)I" } : Jvm.MethodName)) ∈ lw_all := lw_g (lw_at lw_m8 15 rfl) rfl
theorem q1823 : (Jvm.Cond.selects "MissCurves" ({ cls := "MissCurves", name := "share", desc := "(II)I" } : Jvm.MethodName) ({ cls := "MissCurves", name := "share", desc := "(II)I" } : Jvm.MethodName)) ∈ lw_all := lw_g (lw_at lw_m8 16 rfl) rfl
theorem q1824 : (Jvm.Cond.code ({ cls := "MissCurves", name := "share", desc := "(II)I" } : Jvm.MethodName) prog_1_method_60_code (6 : Nat) (Option.some Jvm.ClassFile.FieldType.int)) ∈ lw_all := lw_g (lw_at lw_m8 17 rfl) rfl
theorem q1825 : (Jvm.Cond.constantLong "MissCurves" (429 : Nat) (48 : Int64)) ∈ lw_all := lw_g (lw_at lw_m8 18 rfl) rfl
theorem q1826 : (Jvm.Cond.methodLink "MissCurves" (431 : Nat) ({ cls := "MissCurves", name := "layFalls", desc := "()V" } : Jvm.MethodName)) ∈ lw_all := lw_g (lw_at lw_m8 19 rfl) rfl
theorem q1827 : (Jvm.Cond.privateMethod ({ cls := "MissCurves", name := "layFalls", desc := "()V" } : Jvm.MethodName)) ∈ lw_tbl := lw_at lw_m8 20 rfl
theorem q1828 : (Jvm.Cond.instanceMethod ({ cls := "MissCurves", name := "layFalls", desc := "()V" } : Jvm.MethodName)) ∈ lw_all := lw_g (lw_at lw_m8 21 rfl) rfl
theorem q1829 : (Jvm.Cond.code ({ cls := "MissCurves", name := "layFalls", desc := "()V" } : Jvm.MethodName) prog_1_method_59_code (5 : Nat) (Option.none : Option Jvm.ClassFile.FieldType)) ∈ lw_all := lw_g (lw_at lw_m8 22 rfl) rfl
theorem q1830 : (Jvm.Cond.methodLink "MissCurves" (434 : Nat) ({ cls := "java/util/Arrays", name := "fill", desc := "([II)V" } : Jvm.MethodName)) ∈ lw_all := lw_g (lw_at lw_m8 23 rfl) rfl
theorem q1834 : (Jvm.Cond.instanceMethod ({ cls := "MissCurves", name := "best", desc := "(II)I" } : Jvm.MethodName)) ∈ lw_all := lw_g (lw_at lw_m8 27 rfl) rfl
theorem q1835 : (Jvm.Cond.selects "MissCurves" ({ cls := "MissCurves", name := "best", desc := "(II)I" } : Jvm.MethodName) ({ cls := "MissCurves", name := "best", desc := "(II)I" } : Jvm.MethodName)) ∈ lw_all := lw_g (lw_at lw_m8 28 rfl) rfl
theorem q1836 : (Jvm.Cond.code ({ cls := "MissCurves", name := "best", desc := "(II)I" } : Jvm.MethodName) prog_1_method_62_code (6 : Nat) (Option.some Jvm.ClassFile.FieldType.int)) ∈ lw_all := lw_g (lw_at lw_m8 29 rfl) rfl
theorem q1837 : (Jvm.Cond.methodLink "MissCurves" (441 : Nat) ({ cls := "MissCurves", name := "layBest", desc := "()V" } : Jvm.MethodName)) ∈ lw_all := lw_g (lw_at lw_m8 30 rfl) rfl
theorem q1838 : (Jvm.Cond.privateMethod ({ cls := "MissCurves", name := "layBest", desc := "()V" } : Jvm.MethodName)) ∈ lw_tbl := lw_at lw_m8 31 rfl
theorem q1839 : (Jvm.Cond.instanceMethod ({ cls := "MissCurves", name := "layBest", desc := "()V" } : Jvm.MethodName)) ∈ lw_all := lw_g (lw_at lw_m8 32 rfl) rfl
theorem q1840 : (Jvm.Cond.code ({ cls := "MissCurves", name := "layBest", desc := "()V" } : Jvm.MethodName) prog_1_method_61_code (4 : Nat) (Option.none : Option Jvm.ClassFile.FieldType)) ∈ lw_all := lw_g (lw_at lw_m8 33 rfl) rfl
theorem q1841 : (Jvm.Cond.constant "MissCurves" (440 : Nat) (100000000 : Int32)) ∈ lw_all := lw_g (lw_at lw_m8 34 rfl) rfl
theorem q1843 : (Jvm.Cond.instanceMethod ({ cls := "MissCurves", name := "replay", desc := "(II)I" } : Jvm.MethodName)) ∈ lw_all := lw_g (lw_at lw_m8 36 rfl) rfl
theorem q1844 : (Jvm.Cond.selects "MissCurves" ({ cls := "MissCurves", name := "replay", desc := "(II)I" } : Jvm.MethodName) ({ cls := "MissCurves", name := "replay", desc := "(II)I" } : Jvm.MethodName)) ∈ lw_all := lw_g (lw_at lw_m8 37 rfl) rfl
theorem q1845 : (Jvm.Cond.code ({ cls := "MissCurves", name := "replay", desc := "(II)I" } : Jvm.MethodName) prog_1_method_64_code (3 : Nat) (Option.some Jvm.ClassFile.FieldType.int)) ∈ lw_all := lw_g (lw_at lw_m8 38 rfl) rfl
theorem q1846 : (Jvm.Cond.methodLink "MissCurves" (456 : Nat) ({ cls := "MissCurves", name := "replayed", desc := "(LMissCurves$Book;I)I" } : Jvm.MethodName)) ∈ lw_all := lw_g (lw_at lw_m8 39 rfl) rfl
theorem q1847 : (Jvm.Cond.privateMethod ({ cls := "MissCurves", name := "replayed", desc := "(LMissCurves$Book;I)I" } : Jvm.MethodName)) ∈ lw_tbl := lw_at lw_m8 40 rfl
theorem q1848 : (Jvm.Cond.instanceMethod ({ cls := "MissCurves", name := "replayed", desc := "(LMissCurves$Book;I)I" } : Jvm.MethodName)) ∈ lw_all := lw_g (lw_at lw_m8 41 rfl) rfl
theorem q1849 : (Jvm.Cond.code ({ cls := "MissCurves", name := "replayed", desc := "(LMissCurves$Book;I)I" } : Jvm.MethodName) prog_1_method_63_code (7 : Nat) (Option.some Jvm.ClassFile.FieldType.int)) ∈ lw_all := lw_g (lw_at lw_m8 42 rfl) rfl
theorem q1850 : (Jvm.Cond.classLink "MissCurves" (444 : Nat) "MissCurves$Held") ∈ lw_all := lw_g (lw_at lw_m8 43 rfl) rfl
theorem q1852 : (Jvm.Cond.methodLink "MissCurves" (446 : Nat) ({ cls := "MissCurves$Held", name := "<init>", desc := "(LMissCurves$Book;I)V" } : Jvm.MethodName)) ∈ lw_all := lw_g (lw_at lw_m8 45 rfl) rfl
theorem q1885 : (Jvm.Cond.methodLink "MissCurves" (449 : Nat) ({ cls := "MissCurves$Leaving", name := "of", desc := "(I)LMissCurves$Leaving;" } : Jvm.MethodName)) ∈ lw_all := lw_g (lw_at lw_m8 78 rfl) rfl
theorem q1923 : (Jvm.Cond.methodLink "MissCurves" (453 : Nat) ({ cls := "MissCurves$Held", name := "read", desc := "(LMissCurves$Leaving;)Z" } : Jvm.MethodName)) ∈ lw_all := lw_g (lw_at lw_m8 116 rfl) rfl
theorem q2006 : (Jvm.Cond.instanceMethod ({ cls := "MissCurves", name := "odd", desc := "(I)I" } : Jvm.MethodName)) ∈ lw_all := lw_g (lw_at lw_m8 199 rfl) rfl
theorem q2007 : (Jvm.Cond.selects "MissCurves" ({ cls := "MissCurves", name := "odd", desc := "(I)I" } : Jvm.MethodName) ({ cls := "MissCurves", name := "odd", desc := "(I)I" } : Jvm.MethodName)) ∈ lw_all := lw_g (lw_at lw_m8 200 rfl) rfl
theorem q2008 : (Jvm.Cond.code ({ cls := "MissCurves", name := "odd", desc := "(I)I" } : Jvm.MethodName) prog_1_method_65_code (3 : Nat) (Option.some Jvm.ClassFile.FieldType.int)) ∈ lw_all := lw_g (lw_at lw_m8 201 rfl) rfl
theorem q2010 : (Jvm.Cond.instanceMethod ({ cls := "MissCurves", name := "spilt", desc := "(I)I" } : Jvm.MethodName)) ∈ lw_all := lw_g (lw_at lw_m8 203 rfl) rfl
theorem q2011 : (Jvm.Cond.selects "MissCurves" ({ cls := "MissCurves", name := "spilt", desc := "(I)I" } : Jvm.MethodName) ({ cls := "MissCurves", name := "spilt", desc := "(I)I" } : Jvm.MethodName)) ∈ lw_all := lw_g (lw_at lw_m8 204 rfl) rfl
theorem q2012 : (Jvm.Cond.code ({ cls := "MissCurves", name := "spilt", desc := "(I)I" } : Jvm.MethodName) prog_1_method_66_code (7 : Nat) (Option.some Jvm.ClassFile.FieldType.int)) ∈ lw_all := lw_g (lw_at lw_m8 205 rfl) rfl
theorem q2014 : (Jvm.Cond.methodLink "MissCurves" (460 : Nat) ({ cls := "MissCurves$Held", name := "isWithin", desc := "(LMissCurves$Held;)Z" } : Jvm.MethodName)) ∈ lw_all := lw_g (lw_at lw_m8 207 rfl) rfl
theorem q2019 : (Jvm.Cond.instanceMethod ({ cls := "MissCurves", name := "seen", desc := "(II)I" } : Jvm.MethodName)) ∈ lw_all := lw_g (lw_at lw_m8 212 rfl) rfl
theorem q2020 : (Jvm.Cond.selects "MissCurves" ({ cls := "MissCurves", name := "seen", desc := "(II)I" } : Jvm.MethodName) ({ cls := "MissCurves", name := "seen", desc := "(II)I" } : Jvm.MethodName)) ∈ lw_all := lw_g (lw_at lw_m8 213 rfl) rfl
theorem q2021 : (Jvm.Cond.code ({ cls := "MissCurves", name := "seen", desc := "(II)I" } : Jvm.MethodName) prog_1_method_67_code (4 : Nat) (Option.some Jvm.ClassFile.FieldType.int)) ∈ lw_all := lw_g (lw_at lw_m8 214 rfl) rfl
theorem q2022 : (Jvm.Cond.constantLong "MissCurves" (464 : Nat) (99999 : Int64)) ∈ lw_all := lw_g (lw_at lw_m8 215 rfl) rfl
theorem q2024 : (Jvm.Cond.instanceMethod ({ cls := "MissCurves", name := "forget", desc := "()I" } : Jvm.MethodName)) ∈ lw_all := lw_g (lw_at lw_m8 217 rfl) rfl
theorem q2025 : (Jvm.Cond.selects "MissCurves" ({ cls := "MissCurves", name := "forget", desc := "()I" } : Jvm.MethodName) ({ cls := "MissCurves", name := "forget", desc := "()I" } : Jvm.MethodName)) ∈ lw_all := lw_g (lw_at lw_m8 218 rfl) rfl
theorem q2026 : (Jvm.Cond.code ({ cls := "MissCurves", name := "forget", desc := "()I" } : Jvm.MethodName) prog_1_method_68_code (2 : Nat) (Option.some Jvm.ClassFile.FieldType.int)) ∈ lw_all := lw_g (lw_at lw_m8 219 rfl) rfl
theorem q2028 : (Jvm.Cond.instanceMethod ({ cls := "MissCurves", name := "canBe", desc := "()I" } : Jvm.MethodName)) ∈ lw_all := lw_g (lw_at lw_m8 221 rfl) rfl
theorem q2029 : (Jvm.Cond.selects "MissCurves" ({ cls := "MissCurves", name := "canBe", desc := "()I" } : Jvm.MethodName) ({ cls := "MissCurves", name := "canBe", desc := "()I" } : Jvm.MethodName)) ∈ lw_all := lw_g (lw_at lw_m8 222 rfl) rfl
theorem q2030 : (Jvm.Cond.code ({ cls := "MissCurves", name := "canBe", desc := "()I" } : Jvm.MethodName) prog_1_method_69_code (5 : Nat) (Option.some Jvm.ClassFile.FieldType.int)) ∈ lw_all := lw_g (lw_at lw_m8 223 rfl) rfl
theorem q2032 : (Jvm.Cond.instanceMethod ({ cls := "MissCurves", name := "ask", desc := "(I)I" } : Jvm.MethodName)) ∈ lw_all := lw_g (lw_at lw_m8 225 rfl) rfl
theorem q2033 : (Jvm.Cond.selects "MissCurves" ({ cls := "MissCurves", name := "ask", desc := "(I)I" } : Jvm.MethodName) ({ cls := "MissCurves", name := "ask", desc := "(I)I" } : Jvm.MethodName)) ∈ lw_all := lw_g (lw_at lw_m8 226 rfl) rfl
theorem q2034 : (Jvm.Cond.code ({ cls := "MissCurves", name := "ask", desc := "(I)I" } : Jvm.MethodName) prog_1_method_71_code (7 : Nat) (Option.some Jvm.ClassFile.FieldType.int)) ∈ lw_all := lw_g (lw_at lw_m8 227 rfl) rfl
theorem q2035 : (Jvm.Cond.methodLink "MissCurves" (474 : Nat) ({ cls := "MissCurves", name := "canBe", desc := "()I" } : Jvm.MethodName)) ∈ lw_all := lw_g (lw_at lw_m8 228 rfl) rfl
theorem q2036 : (Jvm.Cond.methodLink "MissCurves" (477 : Nat) ({ cls := "MissCurves", name := "mostAlike", desc := "(II)I" } : Jvm.MethodName)) ∈ lw_all := lw_g (lw_at lw_m8 229 rfl) rfl
theorem q2037 : (Jvm.Cond.privateMethod ({ cls := "MissCurves", name := "mostAlike", desc := "(II)I" } : Jvm.MethodName)) ∈ lw_tbl := lw_at lw_m8 230 rfl
theorem q2038 : (Jvm.Cond.instanceMethod ({ cls := "MissCurves", name := "mostAlike", desc := "(II)I" } : Jvm.MethodName)) ∈ lw_all := lw_g (lw_at lw_m8 231 rfl) rfl
theorem q2039 : (Jvm.Cond.code ({ cls := "MissCurves", name := "mostAlike", desc := "(II)I" } : Jvm.MethodName) prog_1_method_70_code (7 : Nat) (Option.some Jvm.ClassFile.FieldType.int)) ∈ lw_all := lw_g (lw_at lw_m8 232 rfl) rfl
theorem q2040 : (Jvm.Cond.methodLink "MissCurves" (472 : Nat) ({ cls := "MissCurves", name := "has", desc := "(II)Z" } : Jvm.MethodName)) ∈ lw_all := lw_g (lw_at lw_m8 233 rfl) rfl
theorem q2041 : (Jvm.Cond.static ({ cls := "MissCurves", name := "has", desc := "(II)Z" } : Jvm.MethodName)) ∈ lw_all := lw_g (lw_at lw_m8 234 rfl) rfl
theorem q2042 : (Jvm.Cond.code ({ cls := "MissCurves", name := "has", desc := "(II)Z" } : Jvm.MethodName) prog_1_method_2_code (2 : Nat) (Option.some Jvm.ClassFile.FieldType.boolean)) ∈ lw_all := lw_g (lw_at lw_m8 235 rfl) rfl
theorem q2044 : (Jvm.Cond.instanceMethod ({ cls := "MissCurves", name := "few", desc := "(II)J" } : Jvm.MethodName)) ∈ lw_all := lw_g (lw_at lw_m8 237 rfl) rfl
theorem q2045 : (Jvm.Cond.selects "MissCurves" ({ cls := "MissCurves", name := "few", desc := "(II)J" } : Jvm.MethodName) ({ cls := "MissCurves", name := "few", desc := "(II)J" } : Jvm.MethodName)) ∈ lw_all := lw_g (lw_at lw_m8 238 rfl) rfl
theorem q2046 : (Jvm.Cond.code ({ cls := "MissCurves", name := "few", desc := "(II)J" } : Jvm.MethodName) prog_1_method_72_code (8 : Nat) (Option.some Jvm.ClassFile.FieldType.long)) ∈ lw_all := lw_g (lw_at lw_m8 239 rfl) rfl
theorem q2047 : (Jvm.Cond.constantLong "MissCurves" (480 : Nat) (20 : Int64)) ∈ lw_all := lw_g (lw_at lw_m9 0 rfl) rfl
theorem q2048 : (Jvm.Cond.constantLong "MissCurves" (482 : Nat) (99 : Int64)) ∈ lw_all := lw_g (lw_at lw_m9 1 rfl) rfl
theorem q2049 : (Jvm.Cond.constantLong "MissCurves" (484 : Nat) (1000000000000 : Int64)) ∈ lw_all := lw_g (lw_at lw_m9 2 rfl) rfl
theorem q2051 : (Jvm.Cond.instanceMethod ({ cls := "MissCurves", name := "compare", desc := "(III)I" } : Jvm.MethodName)) ∈ lw_all := lw_g (lw_at lw_m9 4 rfl) rfl
theorem q2052 : (Jvm.Cond.selects "MissCurves" ({ cls := "MissCurves", name := "compare", desc := "(III)I" } : Jvm.MethodName) ({ cls := "MissCurves", name := "compare", desc := "(III)I" } : Jvm.MethodName)) ∈ lw_all := lw_g (lw_at lw_m9 5 rfl) rfl
theorem q2053 : (Jvm.Cond.code ({ cls := "MissCurves", name := "compare", desc := "(III)I" } : Jvm.MethodName) prog_1_method_73_code (6 : Nat) (Option.some Jvm.ClassFile.FieldType.int)) ∈ lw_all := lw_g (lw_at lw_m9 6 rfl) rfl
theorem q2055 : (Jvm.Cond.instanceMethod ({ cls := "MissCurves", name := "orders", desc := "()I" } : Jvm.MethodName)) ∈ lw_all := lw_g (lw_at lw_m9 8 rfl) rfl
theorem q2056 : (Jvm.Cond.selects "MissCurves" ({ cls := "MissCurves", name := "orders", desc := "()I" } : Jvm.MethodName) ({ cls := "MissCurves", name := "orders", desc := "()I" } : Jvm.MethodName)) ∈ lw_all := lw_g (lw_at lw_m9 9 rfl) rfl
theorem q2057 : (Jvm.Cond.codeWith ({ cls := "MissCurves", name := "orders", desc := "()I" } : Jvm.MethodName) prog_1_method_75_code (5 : Nat) (Option.some Jvm.ClassFile.FieldType.int) [((5 : Nat), (22 : Nat), (30 : Nat), (286 : Nat)), ((5 : Nat), (22 : Nat), (53 : Nat), (0 : Nat)), ((30 : Nat), (46 : Nat), (53 : Nat), (0 : Nat)), ((53 : Nat), (55 : Nat), (53 : Nat), (0 : Nat))]) ∈ lw_all := lw_g (lw_at lw_m9 10 rfl) rfl
theorem q2058 : (Jvm.Cond.classLink "MissCurves" (497 : Nat) "MissCurves$OrderReader") ∈ lw_all := lw_g (lw_at lw_m9 11 rfl) rfl
theorem q2059 : (Jvm.Cond.methodLink "MissCurves" (499 : Nat) ({ cls := "MissCurves$OrderReader", name := "<init>", desc := "(LMissCurves;)V" } : Jvm.MethodName)) ∈ lw_all := lw_g (lw_at lw_m9 12 rfl) rfl
theorem q2085 : (Jvm.Cond.methodLink "MissCurves" (500 : Nat) ({ cls := "MissCurves$OrderReader", name := "read", desc := "()[LMissCurves$Act;" } : Jvm.MethodName)) ∈ lw_all := lw_g (lw_at lw_m9 38 rfl) rfl
theorem q2093 : (Jvm.Cond.methodLink "MissCurves" (503 : Nat) ({ cls := "MissCurves$Steps", name := "as", desc := "(LMissCurves$Steps;)V" } : Jvm.MethodName)) ∈ lw_all := lw_g (lw_at lw_m9 46 rfl) rfl
theorem q2097 : (Jvm.Cond.methodLink "MissCurves" (509 : Nat) ({ cls := "MissCurves", name := "runAll", desc := "([LMissCurves$Act;)I" } : Jvm.MethodName)) ∈ lw_all := lw_g (lw_at lw_m9 50 rfl) rfl
theorem q2098 : (Jvm.Cond.privateMethod ({ cls := "MissCurves", name := "runAll", desc := "([LMissCurves$Act;)I" } : Jvm.MethodName)) ∈ lw_tbl := lw_at lw_m9 51 rfl
theorem q2099 : (Jvm.Cond.instanceMethod ({ cls := "MissCurves", name := "runAll", desc := "([LMissCurves$Act;)I" } : Jvm.MethodName)) ∈ lw_all := lw_g (lw_at lw_m9 52 rfl) rfl
theorem q2100 : (Jvm.Cond.code ({ cls := "MissCurves", name := "runAll", desc := "([LMissCurves$Act;)I" } : Jvm.MethodName) prog_1_method_74_code (4 : Nat) (Option.some Jvm.ClassFile.FieldType.int)) ∈ lw_all := lw_g (lw_at lw_m9 53 rfl) rfl
theorem q2101 : (Jvm.Cond.methodLink "MissCurves" (491 : Nat) ({ cls := "MissCurves$Act", name := "run", desc := "()I" } : Jvm.MethodName)) ∈ lw_all := lw_g (lw_at lw_m9 54 rfl) rfl
theorem q2125 : (Jvm.Cond.instanceMethod ({ cls := "MissCurves", name := "stopped", desc := "()I" } : Jvm.MethodName)) ∈ lw_all := lw_g (lw_at lw_m9 78 rfl) rfl
theorem q2126 : (Jvm.Cond.selects "MissCurves" ({ cls := "MissCurves", name := "stopped", desc := "()I" } : Jvm.MethodName) ({ cls := "MissCurves", name := "stopped", desc := "()I" } : Jvm.MethodName)) ∈ lw_all := lw_g (lw_at lw_m9 79 rfl) rfl
theorem q2127 : (Jvm.Cond.code ({ cls := "MissCurves", name := "stopped", desc := "()I" } : Jvm.MethodName) prog_1_method_76_code (1 : Nat) (Option.some Jvm.ClassFile.FieldType.int)) ∈ lw_all := lw_g (lw_at lw_m9 80 rfl) rfl
theorem q2129 : (Jvm.Cond.instanceMethod ({ cls := "MissCurves", name := "months", desc := "(II)I" } : Jvm.MethodName)) ∈ lw_all := lw_g (lw_at lw_m9 82 rfl) rfl
theorem q2130 : (Jvm.Cond.selects "MissCurves" ({ cls := "MissCurves", name := "months", desc := "(II)I" } : Jvm.MethodName) ({ cls := "MissCurves", name := "months", desc := "(II)I" } : Jvm.MethodName)) ∈ lw_all := lw_g (lw_at lw_m9 83 rfl) rfl
theorem q2131 : (Jvm.Cond.code ({ cls := "MissCurves", name := "months", desc := "(II)I" } : Jvm.MethodName) prog_1_method_77_code (9 : Nat) (Option.some Jvm.ClassFile.FieldType.int)) ∈ lw_all := lw_g (lw_at lw_m9 84 rfl) rfl
theorem q2132 : (Jvm.Cond.constantLong "MissCurves" (513 : Nat) (1000000 : Int64)) ∈ lw_all := lw_g (lw_at lw_m9 85 rfl) rfl
theorem q2133 : (Jvm.Cond.constantLong "MissCurves" (515 : Nat) (60 : Int64)) ∈ lw_all := lw_g (lw_at lw_m9 86 rfl) rfl
theorem q2134 : (Jvm.Cond.classLink "MissCurves" (517 : Nat) "MissCurves$Draws") ∈ lw_all := lw_g (lw_at lw_m9 87 rfl) rfl
theorem q2136 : (Jvm.Cond.methodLink "MissCurves" (519 : Nat) ({ cls := "MissCurves$Draws", name := "<init>", desc := "(I)V" } : Jvm.MethodName)) ∈ lw_all := lw_g (lw_at lw_m9 89 rfl) rfl
theorem q2144 : (Jvm.Cond.methodLink "MissCurves" (521 : Nat) ({ cls := "MissCurves$Draws", name := "next", desc := "(I)I" } : Jvm.MethodName)) ∈ lw_all := lw_g (lw_at lw_m9 97 rfl) rfl
theorem q2152 : (Jvm.Cond.instanceMethod ({ cls := "MissCurves", name := "drawn", desc := "(II)I" } : Jvm.MethodName)) ∈ lw_all := lw_g (lw_at lw_m9 105 rfl) rfl
theorem q2153 : (Jvm.Cond.selects "MissCurves" ({ cls := "MissCurves", name := "drawn", desc := "(II)I" } : Jvm.MethodName) ({ cls := "MissCurves", name := "drawn", desc := "(II)I" } : Jvm.MethodName)) ∈ lw_all := lw_g (lw_at lw_m9 106 rfl) rfl
theorem q2154 : (Jvm.Cond.code ({ cls := "MissCurves", name := "drawn", desc := "(II)I" } : Jvm.MethodName) prog_1_method_78_code (3 : Nat) (Option.some Jvm.ClassFile.FieldType.int)) ∈ lw_all := lw_g (lw_at lw_m9 107 rfl) rfl
theorem q2156 : (Jvm.Cond.instanceMethod ({ cls := "MissCurves", name := "image", desc := "(I)I" } : Jvm.MethodName)) ∈ lw_all := lw_g (lw_at lw_m9 109 rfl) rfl
theorem q2157 : (Jvm.Cond.selects "MissCurves" ({ cls := "MissCurves", name := "image", desc := "(I)I" } : Jvm.MethodName) ({ cls := "MissCurves", name := "image", desc := "(I)I" } : Jvm.MethodName)) ∈ lw_all := lw_g (lw_at lw_m9 110 rfl) rfl
theorem q2158 : (Jvm.Cond.code ({ cls := "MissCurves", name := "image", desc := "(I)I" } : Jvm.MethodName) prog_1_method_79_code (2 : Nat) (Option.some Jvm.ClassFile.FieldType.int)) ∈ lw_all := lw_g (lw_at lw_m9 111 rfl) rfl
theorem q2159 : (Jvm.Cond.methodLink "MissCurves" (528 : Nat) ({ cls := "MissCurves$Shop", name := "copy", desc := "()LMissCurves$Shop;" } : Jvm.MethodName)) ∈ lw_all := lw_g (lw_at lw_m9 112 rfl) rfl
theorem q2183 : (Jvm.Cond.instanceMethod ({ cls := "MissCurves", name := "back", desc := "(I)I" } : Jvm.MethodName)) ∈ lw_all := lw_g (lw_at lw_m9 136 rfl) rfl
theorem q2184 : (Jvm.Cond.selects "MissCurves" ({ cls := "MissCurves", name := "back", desc := "(I)I" } : Jvm.MethodName) ({ cls := "MissCurves", name := "back", desc := "(I)I" } : Jvm.MethodName)) ∈ lw_all := lw_g (lw_at lw_m9 137 rfl) rfl
theorem q2185 : (Jvm.Cond.code ({ cls := "MissCurves", name := "back", desc := "(I)I" } : Jvm.MethodName) prog_1_method_80_code (2 : Nat) (Option.some Jvm.ClassFile.FieldType.int)) ∈ lw_all := lw_g (lw_at lw_m9 138 rfl) rfl
theorem q2187 : (Jvm.Cond.instanceMethod ({ cls := "MissCurves", name := "count", desc := "(I)I" } : Jvm.MethodName)) ∈ lw_all := lw_g (lw_at lw_m9 140 rfl) rfl
theorem q2188 : (Jvm.Cond.selects "MissCurves" ({ cls := "MissCurves", name := "count", desc := "(I)I" } : Jvm.MethodName) ({ cls := "MissCurves", name := "count", desc := "(I)I" } : Jvm.MethodName)) ∈ lw_all := lw_g (lw_at lw_m9 141 rfl) rfl
theorem q2189 : (Jvm.Cond.code ({ cls := "MissCurves", name := "count", desc := "(I)I" } : Jvm.MethodName) prog_1_method_81_code (2 : Nat) (Option.some Jvm.ClassFile.FieldType.int)) ∈ lw_all := lw_g (lw_at lw_m9 142 rfl) rfl
theorem q2190 : (Jvm.Cond.constantLong "MissCurves" (532 : Nat) (11 : Int64)) ∈ lw_all := lw_g (lw_at lw_m9 143 rfl) rfl
theorem q2191 : (Jvm.Cond.constantLong "MissCurves" (534 : Nat) (14 : Int64)) ∈ lw_all := lw_g (lw_at lw_m9 144 rfl) rfl
theorem q2193 : (Jvm.Cond.instanceMethod ({ cls := "MissCurves", name := "status", desc := "()I" } : Jvm.MethodName)) ∈ lw_all := lw_g (lw_at lw_m9 146 rfl) rfl
theorem q2194 : (Jvm.Cond.selects "MissCurves" ({ cls := "MissCurves", name := "status", desc := "()I" } : Jvm.MethodName) ({ cls := "MissCurves", name := "status", desc := "()I" } : Jvm.MethodName)) ∈ lw_all := lw_g (lw_at lw_m9 147 rfl) rfl
theorem q2195 : (Jvm.Cond.code ({ cls := "MissCurves", name := "status", desc := "()I" } : Jvm.MethodName) prog_1_method_82_code (1 : Nat) (Option.some Jvm.ClassFile.FieldType.int)) ∈ lw_all := lw_g (lw_at lw_m9 148 rfl) rfl
theorem q3015 : (Jvm.Cond.castable "MissCurves" "java/lang/Object") ∈ lw_tbl := lw_at lw_m13 8 rfl
theorem in_X0 : ∀ w ∈ wsX00, w ∈ lw_all := lw_in wsX00 [414, 416, 418, 420, 422, 424, 426, 428, 430, 432, 434, 436, 438, 440, 442, 444, 446, 448, 450, 452, 454, 456, 458, 460, 462, 464, 466, 468] (by decide +kernel) (by decide +kernel)
