set_option maxRecDepth 100000
/-! FigureTillModel -/
def RX6 : String := "FigureTillModel"
def TX6 : u_T := fun k => match k with
  | 0 => ("FigureTillModel", "s", "[I", true)
  | 1 => ("FigureTillModel", "kept", "[I", true)
  | 2 => ("FigureTillModel", "images", "I", false)
  | 3 => ("FigureTillModel", "errors", "[I", true)
  | 4 => ("FigureTillModel", "at", "I", false)
  | 5 => ("FigureTillModel", "open", "I", false)
  | 6 => ("FigureTillModel", "steps", "I", false)
  | 7 => ("FigureTillModel", "use", "I", false)
  | 8 => ("FigureTillModel", "step", "[I", true)
  | 9 => ("FigureTillModel", "named", "[I", true)
  | 10 => ("FigureTillModel", "pile", "[I", true)
  | 11 => ("FigureTillModel", "told", "[I", true)
  | 12 => ("FigureTillModel", "beside1", "[I", true)
  | 13 => ("FigureTillModel", "row", "[I", true)
  | 14 => ("FigureTillModel", "best", "[I", true)
  | 15 => ("FigureTillModel", "bestNet", "I", false)
  | 16 => ("FigureTillModel", "bestMore", "I", false)
  | 17 => ("FigureTillModel", "worthOf", "[I", true)
  | 18 => ("FigureTillModel", "leastApart", "I", false)
  | 19 => ("FigureTillModel", "found", "I", false)
  | 20 => ("FigureTillModel", "first", "I", false)
  | 21 => ("FigureTillModel", "leastPaid", "I", false)
  | 22 => ("FigureTillModel", "trace", "[I", true)
  | 23 => ("FigureTillModel", "traced", "I", false)
  | 24 => ("FigureTillModel", "speaks", "I", false)
  | 25 => ("FigureTillModel", "isParted", "Z", false)
  | 26 => ("FigureTillModel", "bits", "[I", true)
  | 27 => ("FigureTillModel", "sizes", "[I", true)
  | 28 => ("FigureTillModel", "number", "[I", true)
  | _ => ("FigureTillModel", "aside", "[I", true)
def tyX6 : Nat → FieldType := fun k => match k with
  | 0 => .array .int
  | 1 => .array .int
  | 2 => .int
  | 3 => .array .int
  | 4 => .int
  | 5 => .int
  | 6 => .int
  | 7 => .int
  | 8 => .array .int
  | 9 => .array .int
  | 10 => .array .int
  | 11 => .array .int
  | 12 => .array .int
  | 13 => .array .int
  | 14 => .array .int
  | 15 => .int
  | 16 => .int
  | 17 => .array .int
  | 18 => .int
  | 19 => .int
  | 20 => .int
  | 21 => .int
  | 22 => .array .int
  | 23 => .int
  | 24 => .int
  | 25 => .boolean
  | 26 => .array .int
  | 27 => .array .int
  | 28 => .array .int
  | _ => .array .int
abbrev wsX60 : List Cond := u_ws RX6 TX6 30
set_option maxRecDepth 100000 in
theorem nmX6 : ∀ a, a < 30 → ∀ b, b < 30 → a ≠ b → (TX6 a).2.1 ≠ (TX6 b).2.1 := by decide +kernel
set_option maxRecDepth 100000 in
theorem tyX6_ok : ∀ k, k < 30 → parseFieldDescriptor (TX6 k).2.2.1 = some (tyX6 k) := by decide +kernel
abbrev cX6_init : ByteArray := prog_20_method_1_code
def yX6_init : MethodName := ⟨RX6, "<init>", "()V"⟩
def dkwX6_init_9 : List UInt8 := [132, 2, 1, 167, 255, 224, 42, 180, 0, 7, 8, 4, 79, 177]
abbrev dktX6_init_9 : List UInt8 := dkwX6_init_9 ++ []
def dkwX6_init_8 : List UInt8 := [180, 0, 7, 16, 8, 28, 96, 43, 28, 46, 79, 42, 180, 0, 7, 16, 24, 28, 96, 16, 9, 79]
abbrev dktX6_init_8 : List UInt8 := dkwX6_init_8 ++ dktX6_init_9
def dkwX6_init_7 : List UInt8 := [89, 16, 6, 17, 0, 250, 79, 89, 16, 7, 17, 3, 231, 79, 76, 3, 61, 28, 16, 8, 162, 0, 32, 42]
abbrev dktX6_init_7 : List UInt8 := dkwX6_init_7 ++ dktX6_init_8
def dkwX6_init_6 : List UInt8 := [4, 16, 9, 79, 89, 5, 16, 19, 79, 89, 6, 16, 20, 79, 89, 7, 16, 99, 79, 89, 8, 16, 100, 79]
abbrev dktX6_init_6 : List UInt8 := dkwX6_init_6 ++ dktX6_init_7
def dkwX6_init_5 : List UInt8 := [16, 96, 188, 10, 181, 0, 52, 42, 16, 24, 188, 10, 181, 0, 55, 16, 8, 188, 10, 89, 3, 4, 79, 89]
abbrev dktX6_init_5 : List UInt8 := dkwX6_init_5 ++ dktX6_init_6
def dkwX6_init_4 : List UInt8 := [42, 16, 30, 188, 10, 181, 0, 43, 42, 7, 188, 10, 181, 0, 46, 42, 7, 188, 10, 181, 0, 49, 42]
abbrev dktX6_init_4 : List UInt8 := dkwX6_init_4 ++ dktX6_init_5
def dkwX6_init_3 : List UInt8 := [42, 16, 8, 188, 10, 181, 0, 34, 42, 16, 8, 188, 10, 181, 0, 37, 42, 16, 8, 188, 10, 181, 0, 40]
abbrev dktX6_init_3 : List UInt8 := dkwX6_init_3 ++ dktX6_init_4
def dkwX6_init_2 : List UInt8 := [42, 16, 64, 188, 10, 181, 0, 25, 42, 16, 8, 188, 10, 181, 0, 28, 42, 16, 8, 188, 10, 181, 0, 31]
abbrev dktX6_init_2 : List UInt8 := dkwX6_init_2 ++ dktX6_init_3
def dkwX6_init_1 : List UInt8 := [16, 7, 188, 10, 181, 0, 16, 42, 16, 124, 188, 10, 181, 0, 19, 42, 17, 0, 128, 188, 10, 181, 0, 22]
abbrev dktX6_init_1 : List UInt8 := dkwX6_init_1 ++ dktX6_init_2
def dkwX6_init_0 : List UInt8 := [42, 183, 0, 1, 42, 17, 1, 118, 188, 10, 181, 0, 7, 42, 17, 1, 118, 188, 10, 181, 0, 13, 42]
abbrev dktX6_init_0 : List UInt8 := dkwX6_init_0 ++ dktX6_init_1
theorem dksX6_init_0 : cX6_init.data.toList.drop 0 = dktX6_init_0 := by decide +kernel
theorem dksX6_init_1 : cX6_init.data.toList.drop 23 = dktX6_init_1 := dk_seg dksX6_init_0 23 rfl rfl
theorem dksX6_init_2 : cX6_init.data.toList.drop 47 = dktX6_init_2 := dk_seg dksX6_init_1 24 rfl rfl
theorem dksX6_init_3 : cX6_init.data.toList.drop 71 = dktX6_init_3 := dk_seg dksX6_init_2 24 rfl rfl
theorem dksX6_init_4 : cX6_init.data.toList.drop 95 = dktX6_init_4 := dk_seg dksX6_init_3 24 rfl rfl
theorem dksX6_init_5 : cX6_init.data.toList.drop 118 = dktX6_init_5 := dk_seg dksX6_init_4 23 rfl rfl
theorem dksX6_init_6 : cX6_init.data.toList.drop 142 = dktX6_init_6 := dk_seg dksX6_init_5 24 rfl rfl
theorem dksX6_init_7 : cX6_init.data.toList.drop 166 = dktX6_init_7 := dk_seg dksX6_init_6 24 rfl rfl
theorem dksX6_init_8 : cX6_init.data.toList.drop 190 = dktX6_init_8 := dk_seg dksX6_init_7 24 rfl rfl
theorem dksX6_init_9 : cX6_init.data.toList.drop 212 = dktX6_init_9 := dk_seg dksX6_init_8 22 rfl rfl
theorem dX6_init_0 : decode cX6_init 0 = .ok (.aload_n 0, 1) := dk_42 (dk_at dksX6_init_0 0 rfl rfl)
theorem dX6_init_1 : decode cX6_init 1 = .ok (.invokespecial 1, 3) := dk_183 0 1 (dk_at dksX6_init_0 1 rfl rfl)
theorem dX6_init_4 : decode cX6_init 4 = .ok (.aload_n 0, 1) := dk_42 (dk_at dksX6_init_0 4 rfl rfl)
theorem dX6_init_5 : decode cX6_init 5 = .ok (.sipush 374, 3) := dk_17 1 118 (dk_at dksX6_init_0 5 rfl rfl)
theorem dX6_init_8 : decode cX6_init 8 = .ok (.newarray .int, 2) := dk_188_10 (dk_at dksX6_init_0 8 rfl rfl)
theorem dX6_init_10 : decode cX6_init 10 = .ok (.putfield 7, 3) := dk_181 0 7 (dk_at dksX6_init_0 10 rfl rfl)
theorem dX6_init_13 : decode cX6_init 13 = .ok (.aload_n 0, 1) := dk_42 (dk_at dksX6_init_0 13 rfl rfl)
theorem dX6_init_14 : decode cX6_init 14 = .ok (.sipush 374, 3) := dk_17 1 118 (dk_at dksX6_init_0 14 rfl rfl)
theorem dX6_init_17 : decode cX6_init 17 = .ok (.newarray .int, 2) := dk_188_10 (dk_at dksX6_init_0 17 rfl rfl)
theorem dX6_init_19 : decode cX6_init 19 = .ok (.putfield 13, 3) := dk_181 0 13 (dk_at dksX6_init_0 19 rfl rfl)
theorem dX6_init_22 : decode cX6_init 22 = .ok (.aload_n 0, 1) := dk_42 (dk_at dksX6_init_0 22 rfl rfl)
theorem dX6_init_23 : decode cX6_init 23 = .ok (.bipush 7, 2) := dk_16 7 (dk_at dksX6_init_1 0 rfl rfl)
theorem dX6_init_25 : decode cX6_init 25 = .ok (.newarray .int, 2) := dk_188_10 (dk_at dksX6_init_1 2 rfl rfl)
theorem dX6_init_27 : decode cX6_init 27 = .ok (.putfield 16, 3) := dk_181 0 16 (dk_at dksX6_init_1 4 rfl rfl)
theorem dX6_init_30 : decode cX6_init 30 = .ok (.aload_n 0, 1) := dk_42 (dk_at dksX6_init_1 7 rfl rfl)
theorem dX6_init_31 : decode cX6_init 31 = .ok (.bipush 124, 2) := dk_16 124 (dk_at dksX6_init_1 8 rfl rfl)
theorem dX6_init_33 : decode cX6_init 33 = .ok (.newarray .int, 2) := dk_188_10 (dk_at dksX6_init_1 10 rfl rfl)
theorem dX6_init_35 : decode cX6_init 35 = .ok (.putfield 19, 3) := dk_181 0 19 (dk_at dksX6_init_1 12 rfl rfl)
theorem dX6_init_38 : decode cX6_init 38 = .ok (.aload_n 0, 1) := dk_42 (dk_at dksX6_init_1 15 rfl rfl)
theorem dX6_init_39 : decode cX6_init 39 = .ok (.sipush 128, 3) := dk_17 0 128 (dk_at dksX6_init_1 16 rfl rfl)
theorem dX6_init_42 : decode cX6_init 42 = .ok (.newarray .int, 2) := dk_188_10 (dk_at dksX6_init_1 19 rfl rfl)
theorem dX6_init_44 : decode cX6_init 44 = .ok (.putfield 22, 3) := dk_181 0 22 (dk_at dksX6_init_1 21 rfl rfl)
theorem dX6_init_47 : decode cX6_init 47 = .ok (.aload_n 0, 1) := dk_42 (dk_at dksX6_init_2 0 rfl rfl)
theorem dX6_init_48 : decode cX6_init 48 = .ok (.bipush 64, 2) := dk_16 64 (dk_at dksX6_init_2 1 rfl rfl)
theorem dX6_init_50 : decode cX6_init 50 = .ok (.newarray .int, 2) := dk_188_10 (dk_at dksX6_init_2 3 rfl rfl)
theorem dX6_init_52 : decode cX6_init 52 = .ok (.putfield 25, 3) := dk_181 0 25 (dk_at dksX6_init_2 5 rfl rfl)
theorem dX6_init_55 : decode cX6_init 55 = .ok (.aload_n 0, 1) := dk_42 (dk_at dksX6_init_2 8 rfl rfl)
theorem dX6_init_56 : decode cX6_init 56 = .ok (.bipush 8, 2) := dk_16 8 (dk_at dksX6_init_2 9 rfl rfl)
theorem dX6_init_58 : decode cX6_init 58 = .ok (.newarray .int, 2) := dk_188_10 (dk_at dksX6_init_2 11 rfl rfl)
theorem dX6_init_60 : decode cX6_init 60 = .ok (.putfield 28, 3) := dk_181 0 28 (dk_at dksX6_init_2 13 rfl rfl)
theorem dX6_init_63 : decode cX6_init 63 = .ok (.aload_n 0, 1) := dk_42 (dk_at dksX6_init_2 16 rfl rfl)
theorem dX6_init_64 : decode cX6_init 64 = .ok (.bipush 8, 2) := dk_16 8 (dk_at dksX6_init_2 17 rfl rfl)
theorem dX6_init_66 : decode cX6_init 66 = .ok (.newarray .int, 2) := dk_188_10 (dk_at dksX6_init_2 19 rfl rfl)
theorem dX6_init_68 : decode cX6_init 68 = .ok (.putfield 31, 3) := dk_181 0 31 (dk_at dksX6_init_2 21 rfl rfl)
theorem dX6_init_71 : decode cX6_init 71 = .ok (.aload_n 0, 1) := dk_42 (dk_at dksX6_init_3 0 rfl rfl)
theorem dX6_init_72 : decode cX6_init 72 = .ok (.bipush 8, 2) := dk_16 8 (dk_at dksX6_init_3 1 rfl rfl)
theorem dX6_init_74 : decode cX6_init 74 = .ok (.newarray .int, 2) := dk_188_10 (dk_at dksX6_init_3 3 rfl rfl)
theorem dX6_init_76 : decode cX6_init 76 = .ok (.putfield 34, 3) := dk_181 0 34 (dk_at dksX6_init_3 5 rfl rfl)
theorem dX6_init_79 : decode cX6_init 79 = .ok (.aload_n 0, 1) := dk_42 (dk_at dksX6_init_3 8 rfl rfl)
theorem dX6_init_80 : decode cX6_init 80 = .ok (.bipush 8, 2) := dk_16 8 (dk_at dksX6_init_3 9 rfl rfl)
theorem dX6_init_82 : decode cX6_init 82 = .ok (.newarray .int, 2) := dk_188_10 (dk_at dksX6_init_3 11 rfl rfl)
theorem dX6_init_84 : decode cX6_init 84 = .ok (.putfield 37, 3) := dk_181 0 37 (dk_at dksX6_init_3 13 rfl rfl)
theorem dX6_init_87 : decode cX6_init 87 = .ok (.aload_n 0, 1) := dk_42 (dk_at dksX6_init_3 16 rfl rfl)
theorem dX6_init_88 : decode cX6_init 88 = .ok (.bipush 8, 2) := dk_16 8 (dk_at dksX6_init_3 17 rfl rfl)
theorem dX6_init_90 : decode cX6_init 90 = .ok (.newarray .int, 2) := dk_188_10 (dk_at dksX6_init_3 19 rfl rfl)
theorem dX6_init_92 : decode cX6_init 92 = .ok (.putfield 40, 3) := dk_181 0 40 (dk_at dksX6_init_3 21 rfl rfl)
theorem dX6_init_95 : decode cX6_init 95 = .ok (.aload_n 0, 1) := dk_42 (dk_at dksX6_init_4 0 rfl rfl)
theorem dX6_init_96 : decode cX6_init 96 = .ok (.bipush 30, 2) := dk_16 30 (dk_at dksX6_init_4 1 rfl rfl)
theorem dX6_init_98 : decode cX6_init 98 = .ok (.newarray .int, 2) := dk_188_10 (dk_at dksX6_init_4 3 rfl rfl)
theorem dX6_init_100 : decode cX6_init 100 = .ok (.putfield 43, 3) := dk_181 0 43 (dk_at dksX6_init_4 5 rfl rfl)
theorem dX6_init_103 : decode cX6_init 103 = .ok (.aload_n 0, 1) := dk_42 (dk_at dksX6_init_4 8 rfl rfl)
theorem dX6_init_104 : decode cX6_init 104 = .ok (.iconst 4, 1) := dk_7 (dk_at dksX6_init_4 9 rfl rfl)
theorem dX6_init_105 : decode cX6_init 105 = .ok (.newarray .int, 2) := dk_188_10 (dk_at dksX6_init_4 10 rfl rfl)
theorem dX6_init_107 : decode cX6_init 107 = .ok (.putfield 46, 3) := dk_181 0 46 (dk_at dksX6_init_4 12 rfl rfl)
theorem dX6_init_110 : decode cX6_init 110 = .ok (.aload_n 0, 1) := dk_42 (dk_at dksX6_init_4 15 rfl rfl)
theorem dX6_init_111 : decode cX6_init 111 = .ok (.iconst 4, 1) := dk_7 (dk_at dksX6_init_4 16 rfl rfl)
theorem dX6_init_112 : decode cX6_init 112 = .ok (.newarray .int, 2) := dk_188_10 (dk_at dksX6_init_4 17 rfl rfl)
theorem dX6_init_114 : decode cX6_init 114 = .ok (.putfield 49, 3) := dk_181 0 49 (dk_at dksX6_init_4 19 rfl rfl)
theorem dX6_init_117 : decode cX6_init 117 = .ok (.aload_n 0, 1) := dk_42 (dk_at dksX6_init_4 22 rfl rfl)
theorem dX6_init_118 : decode cX6_init 118 = .ok (.bipush 96, 2) := dk_16 96 (dk_at dksX6_init_5 0 rfl rfl)
theorem dX6_init_120 : decode cX6_init 120 = .ok (.newarray .int, 2) := dk_188_10 (dk_at dksX6_init_5 2 rfl rfl)
theorem dX6_init_122 : decode cX6_init 122 = .ok (.putfield 52, 3) := dk_181 0 52 (dk_at dksX6_init_5 4 rfl rfl)
theorem dX6_init_125 : decode cX6_init 125 = .ok (.aload_n 0, 1) := dk_42 (dk_at dksX6_init_5 7 rfl rfl)
theorem dX6_init_126 : decode cX6_init 126 = .ok (.bipush 24, 2) := dk_16 24 (dk_at dksX6_init_5 8 rfl rfl)
theorem dX6_init_128 : decode cX6_init 128 = .ok (.newarray .int, 2) := dk_188_10 (dk_at dksX6_init_5 10 rfl rfl)
theorem dX6_init_130 : decode cX6_init 130 = .ok (.putfield 55, 3) := dk_181 0 55 (dk_at dksX6_init_5 12 rfl rfl)
theorem dX6_init_133 : decode cX6_init 133 = .ok (.bipush 8, 2) := dk_16 8 (dk_at dksX6_init_5 15 rfl rfl)
theorem dX6_init_135 : decode cX6_init 135 = .ok (.newarray .int, 2) := dk_188_10 (dk_at dksX6_init_5 17 rfl rfl)
theorem dX6_init_137 : decode cX6_init 137 = .ok (.dup, 1) := dk_89 (dk_at dksX6_init_5 19 rfl rfl)
theorem dX6_init_138 : decode cX6_init 138 = .ok (.iconst 0, 1) := dk_3 (dk_at dksX6_init_5 20 rfl rfl)
theorem dX6_init_139 : decode cX6_init 139 = .ok (.iconst 1, 1) := dk_4 (dk_at dksX6_init_5 21 rfl rfl)
theorem dX6_init_140 : decode cX6_init 140 = .ok (.iastore, 1) := dk_79 (dk_at dksX6_init_5 22 rfl rfl)
theorem dX6_init_141 : decode cX6_init 141 = .ok (.dup, 1) := dk_89 (dk_at dksX6_init_5 23 rfl rfl)
theorem dX6_init_142 : decode cX6_init 142 = .ok (.iconst 1, 1) := dk_4 (dk_at dksX6_init_6 0 rfl rfl)
theorem dX6_init_143 : decode cX6_init 143 = .ok (.bipush 9, 2) := dk_16 9 (dk_at dksX6_init_6 1 rfl rfl)
theorem dX6_init_145 : decode cX6_init 145 = .ok (.iastore, 1) := dk_79 (dk_at dksX6_init_6 3 rfl rfl)
theorem dX6_init_146 : decode cX6_init 146 = .ok (.dup, 1) := dk_89 (dk_at dksX6_init_6 4 rfl rfl)
theorem dX6_init_147 : decode cX6_init 147 = .ok (.iconst 2, 1) := dk_5 (dk_at dksX6_init_6 5 rfl rfl)
theorem dX6_init_148 : decode cX6_init 148 = .ok (.bipush 19, 2) := dk_16 19 (dk_at dksX6_init_6 6 rfl rfl)
theorem dX6_init_150 : decode cX6_init 150 = .ok (.iastore, 1) := dk_79 (dk_at dksX6_init_6 8 rfl rfl)
theorem dX6_init_151 : decode cX6_init 151 = .ok (.dup, 1) := dk_89 (dk_at dksX6_init_6 9 rfl rfl)
theorem dX6_init_152 : decode cX6_init 152 = .ok (.iconst 3, 1) := dk_6 (dk_at dksX6_init_6 10 rfl rfl)
theorem dX6_init_153 : decode cX6_init 153 = .ok (.bipush 20, 2) := dk_16 20 (dk_at dksX6_init_6 11 rfl rfl)
theorem dX6_init_155 : decode cX6_init 155 = .ok (.iastore, 1) := dk_79 (dk_at dksX6_init_6 13 rfl rfl)
theorem dX6_init_156 : decode cX6_init 156 = .ok (.dup, 1) := dk_89 (dk_at dksX6_init_6 14 rfl rfl)
theorem dX6_init_157 : decode cX6_init 157 = .ok (.iconst 4, 1) := dk_7 (dk_at dksX6_init_6 15 rfl rfl)
theorem dX6_init_158 : decode cX6_init 158 = .ok (.bipush 99, 2) := dk_16 99 (dk_at dksX6_init_6 16 rfl rfl)
theorem dX6_init_160 : decode cX6_init 160 = .ok (.iastore, 1) := dk_79 (dk_at dksX6_init_6 18 rfl rfl)
theorem dX6_init_161 : decode cX6_init 161 = .ok (.dup, 1) := dk_89 (dk_at dksX6_init_6 19 rfl rfl)
theorem dX6_init_162 : decode cX6_init 162 = .ok (.iconst 5, 1) := dk_8 (dk_at dksX6_init_6 20 rfl rfl)
theorem dX6_init_163 : decode cX6_init 163 = .ok (.bipush 100, 2) := dk_16 100 (dk_at dksX6_init_6 21 rfl rfl)
theorem dX6_init_165 : decode cX6_init 165 = .ok (.iastore, 1) := dk_79 (dk_at dksX6_init_6 23 rfl rfl)
theorem dX6_init_166 : decode cX6_init 166 = .ok (.dup, 1) := dk_89 (dk_at dksX6_init_7 0 rfl rfl)
theorem dX6_init_167 : decode cX6_init 167 = .ok (.bipush 6, 2) := dk_16 6 (dk_at dksX6_init_7 1 rfl rfl)
theorem dX6_init_169 : decode cX6_init 169 = .ok (.sipush 250, 3) := dk_17 0 250 (dk_at dksX6_init_7 3 rfl rfl)
theorem dX6_init_172 : decode cX6_init 172 = .ok (.iastore, 1) := dk_79 (dk_at dksX6_init_7 6 rfl rfl)
theorem dX6_init_173 : decode cX6_init 173 = .ok (.dup, 1) := dk_89 (dk_at dksX6_init_7 7 rfl rfl)
theorem dX6_init_174 : decode cX6_init 174 = .ok (.bipush 7, 2) := dk_16 7 (dk_at dksX6_init_7 8 rfl rfl)
theorem dX6_init_176 : decode cX6_init 176 = .ok (.sipush 999, 3) := dk_17 3 231 (dk_at dksX6_init_7 10 rfl rfl)
theorem dX6_init_179 : decode cX6_init 179 = .ok (.iastore, 1) := dk_79 (dk_at dksX6_init_7 13 rfl rfl)
theorem dX6_init_180 : decode cX6_init 180 = .ok (.astore_n 1, 1) := dk_76 (dk_at dksX6_init_7 14 rfl rfl)
theorem dX6_init_181 : decode cX6_init 181 = .ok (.iconst 0, 1) := dk_3 (dk_at dksX6_init_7 15 rfl rfl)
theorem dX6_init_182 : decode cX6_init 182 = .ok (.istore_n 2, 1) := dk_61 (dk_at dksX6_init_7 16 rfl rfl)
theorem dX6_init_183 : decode cX6_init 183 = .ok (.iload_n 2, 1) := dk_28 (dk_at dksX6_init_7 17 rfl rfl)
theorem dX6_init_184 : decode cX6_init 184 = .ok (.bipush 8, 2) := dk_16 8 (dk_at dksX6_init_7 18 rfl rfl)
theorem dX6_init_186 : decode cX6_init 186 = .ok (.if_icmp .ge 32, 3) := dk_162 0 32 (dk_at dksX6_init_7 20 rfl rfl)
theorem dX6_init_189 : decode cX6_init 189 = .ok (.aload_n 0, 1) := dk_42 (dk_at dksX6_init_7 23 rfl rfl)
theorem dX6_init_190 : decode cX6_init 190 = .ok (.getfield 7, 3) := dk_180 0 7 (dk_at dksX6_init_8 0 rfl rfl)
theorem dX6_init_193 : decode cX6_init 193 = .ok (.bipush 8, 2) := dk_16 8 (dk_at dksX6_init_8 3 rfl rfl)
theorem dX6_init_195 : decode cX6_init 195 = .ok (.iload_n 2, 1) := dk_28 (dk_at dksX6_init_8 5 rfl rfl)
theorem dX6_init_196 : decode cX6_init 196 = .ok (.iadd, 1) := dk_96 (dk_at dksX6_init_8 6 rfl rfl)
theorem dX6_init_197 : decode cX6_init 197 = .ok (.aload_n 1, 1) := dk_43 (dk_at dksX6_init_8 7 rfl rfl)
theorem dX6_init_198 : decode cX6_init 198 = .ok (.iload_n 2, 1) := dk_28 (dk_at dksX6_init_8 8 rfl rfl)
theorem dX6_init_199 : decode cX6_init 199 = .ok (.iaload, 1) := dk_46 (dk_at dksX6_init_8 9 rfl rfl)
theorem dX6_init_200 : decode cX6_init 200 = .ok (.iastore, 1) := dk_79 (dk_at dksX6_init_8 10 rfl rfl)
theorem dX6_init_201 : decode cX6_init 201 = .ok (.aload_n 0, 1) := dk_42 (dk_at dksX6_init_8 11 rfl rfl)
theorem dX6_init_202 : decode cX6_init 202 = .ok (.getfield 7, 3) := dk_180 0 7 (dk_at dksX6_init_8 12 rfl rfl)
theorem dX6_init_205 : decode cX6_init 205 = .ok (.bipush 24, 2) := dk_16 24 (dk_at dksX6_init_8 15 rfl rfl)
theorem dX6_init_207 : decode cX6_init 207 = .ok (.iload_n 2, 1) := dk_28 (dk_at dksX6_init_8 17 rfl rfl)
theorem dX6_init_208 : decode cX6_init 208 = .ok (.iadd, 1) := dk_96 (dk_at dksX6_init_8 18 rfl rfl)
theorem dX6_init_209 : decode cX6_init 209 = .ok (.bipush 9, 2) := dk_16 9 (dk_at dksX6_init_8 19 rfl rfl)
theorem dX6_init_211 : decode cX6_init 211 = .ok (.iastore, 1) := dk_79 (dk_at dksX6_init_8 21 rfl rfl)
theorem dX6_init_212 : decode cX6_init 212 = .ok (.iinc 2 1, 3) := dk_132 2 1 (dk_at dksX6_init_9 0 rfl rfl)
theorem dX6_init_215 : decode cX6_init 215 = .ok (.goto (-32), 3) := dk_167 255 224 (dk_at dksX6_init_9 3 rfl rfl)
theorem dX6_init_218 : decode cX6_init 218 = .ok (.aload_n 0, 1) := dk_42 (dk_at dksX6_init_9 6 rfl rfl)
theorem dX6_init_219 : decode cX6_init 219 = .ok (.getfield 7, 3) := dk_180 0 7 (dk_at dksX6_init_9 7 rfl rfl)
theorem dX6_init_222 : decode cX6_init 222 = .ok (.iconst 5, 1) := dk_8 (dk_at dksX6_init_9 10 rfl rfl)
theorem dX6_init_223 : decode cX6_init 223 = .ok (.iconst 1, 1) := dk_4 (dk_at dksX6_init_9 11 rfl rfl)
theorem dX6_init_224 : decode cX6_init 224 = .ok (.iastore, 1) := dk_79 (dk_at dksX6_init_9 12 rfl rfl)
theorem dX6_init_225 : decode cX6_init 225 = .ok (.return_, 1) := dk_177 (dk_at dksX6_init_9 13 rfl rfl)
abbrev cX6_feed : ByteArray := prog_20_method_11_code
def yX6_feed : MethodName := ⟨RX6, "feed", "(JI)I"⟩
def dkwX6_feed_3 : List UInt8 := [180, 0, 7, 6, 92, 46, 4, 96, 79, 132, 4, 1, 167, 255, 210, 42, 180, 0, 7, 6, 46, 172]
abbrev dktX6_feed_3 : List UInt8 := dkwX6_feed_3 ++ []
def dkwX6_feed_2 : List UInt8 := [17, 1, 34, 42, 180, 0, 7, 6, 46, 96, 31, 16, 8, 21, 4, 104, 123, 20, 0, 67, 127, 136, 79, 42]
abbrev dktX6_feed_2 : List UInt8 := dkwX6_feed_2 ++ dktX6_feed_3
def dkwX6_feed_1 : List UInt8 := [16, 60, 164, 0, 9, 42, 7, 182, 0, 63, 172, 3, 54, 4, 21, 4, 29, 162, 0, 46, 42, 180, 0, 7]
abbrev dktX6_feed_1 : List UInt8 := dkwX6_feed_1 ++ dktX6_feed_2
def dkwX6_feed_0 : List UInt8 := [29, 4, 16, 8, 184, 0, 59, 154, 0, 9, 42, 4, 182, 0, 63, 172, 42, 180, 0, 7, 6, 46, 29, 96]
abbrev dktX6_feed_0 : List UInt8 := dkwX6_feed_0 ++ dktX6_feed_1
theorem dksX6_feed_0 : cX6_feed.data.toList.drop 0 = dktX6_feed_0 := by decide +kernel
theorem dksX6_feed_1 : cX6_feed.data.toList.drop 24 = dktX6_feed_1 := dk_seg dksX6_feed_0 24 rfl rfl
theorem dksX6_feed_2 : cX6_feed.data.toList.drop 48 = dktX6_feed_2 := dk_seg dksX6_feed_1 24 rfl rfl
theorem dksX6_feed_3 : cX6_feed.data.toList.drop 72 = dktX6_feed_3 := dk_seg dksX6_feed_2 24 rfl rfl
theorem dX6_feed_0 : decode cX6_feed 0 = .ok (.iload_n 3, 1) := dk_29 (dk_at dksX6_feed_0 0 rfl rfl)
theorem dX6_feed_1 : decode cX6_feed 1 = .ok (.iconst 1, 1) := dk_4 (dk_at dksX6_feed_0 1 rfl rfl)
theorem dX6_feed_2 : decode cX6_feed 2 = .ok (.bipush 8, 2) := dk_16 8 (dk_at dksX6_feed_0 2 rfl rfl)
theorem dX6_feed_4 : decode cX6_feed 4 = .ok (.invokestatic 59, 3) := dk_184 0 59 (dk_at dksX6_feed_0 4 rfl rfl)
theorem dX6_feed_7 : decode cX6_feed 7 = .ok (.ifCond .ne 9, 3) := dk_154 0 9 (dk_at dksX6_feed_0 7 rfl rfl)
theorem dX6_feed_10 : decode cX6_feed 10 = .ok (.aload_n 0, 1) := dk_42 (dk_at dksX6_feed_0 10 rfl rfl)
theorem dX6_feed_11 : decode cX6_feed 11 = .ok (.iconst 1, 1) := dk_4 (dk_at dksX6_feed_0 11 rfl rfl)
theorem dX6_feed_12 : decode cX6_feed 12 = .ok (.invokevirtual 63, 3) := dk_182 0 63 (dk_at dksX6_feed_0 12 rfl rfl)
theorem dX6_feed_15 : decode cX6_feed 15 = .ok (.ireturn, 1) := dk_172 (dk_at dksX6_feed_0 15 rfl rfl)
theorem dX6_feed_16 : decode cX6_feed 16 = .ok (.aload_n 0, 1) := dk_42 (dk_at dksX6_feed_0 16 rfl rfl)
theorem dX6_feed_17 : decode cX6_feed 17 = .ok (.getfield 7, 3) := dk_180 0 7 (dk_at dksX6_feed_0 17 rfl rfl)
theorem dX6_feed_20 : decode cX6_feed 20 = .ok (.iconst 3, 1) := dk_6 (dk_at dksX6_feed_0 20 rfl rfl)
theorem dX6_feed_21 : decode cX6_feed 21 = .ok (.iaload, 1) := dk_46 (dk_at dksX6_feed_0 21 rfl rfl)
theorem dX6_feed_22 : decode cX6_feed 22 = .ok (.iload_n 3, 1) := dk_29 (dk_at dksX6_feed_0 22 rfl rfl)
theorem dX6_feed_23 : decode cX6_feed 23 = .ok (.iadd, 1) := dk_96 (dk_at dksX6_feed_0 23 rfl rfl)
theorem dX6_feed_24 : decode cX6_feed 24 = .ok (.bipush 60, 2) := dk_16 60 (dk_at dksX6_feed_1 0 rfl rfl)
theorem dX6_feed_26 : decode cX6_feed 26 = .ok (.if_icmp .le 9, 3) := dk_164 0 9 (dk_at dksX6_feed_1 2 rfl rfl)
theorem dX6_feed_29 : decode cX6_feed 29 = .ok (.aload_n 0, 1) := dk_42 (dk_at dksX6_feed_1 5 rfl rfl)
theorem dX6_feed_30 : decode cX6_feed 30 = .ok (.iconst 4, 1) := dk_7 (dk_at dksX6_feed_1 6 rfl rfl)
theorem dX6_feed_31 : decode cX6_feed 31 = .ok (.invokevirtual 63, 3) := dk_182 0 63 (dk_at dksX6_feed_1 7 rfl rfl)
theorem dX6_feed_34 : decode cX6_feed 34 = .ok (.ireturn, 1) := dk_172 (dk_at dksX6_feed_1 10 rfl rfl)
theorem dX6_feed_35 : decode cX6_feed 35 = .ok (.iconst 0, 1) := dk_3 (dk_at dksX6_feed_1 11 rfl rfl)
theorem dX6_feed_36 : decode cX6_feed 36 = .ok (.istore 4, 2) := dk_54 4 (dk_at dksX6_feed_1 12 rfl rfl)
theorem dX6_feed_38 : decode cX6_feed 38 = .ok (.iload 4, 2) := dk_21 4 (dk_at dksX6_feed_1 14 rfl rfl)
theorem dX6_feed_40 : decode cX6_feed 40 = .ok (.iload_n 3, 1) := dk_29 (dk_at dksX6_feed_1 16 rfl rfl)
theorem dX6_feed_41 : decode cX6_feed 41 = .ok (.if_icmp .ge 46, 3) := dk_162 0 46 (dk_at dksX6_feed_1 17 rfl rfl)
theorem dX6_feed_44 : decode cX6_feed 44 = .ok (.aload_n 0, 1) := dk_42 (dk_at dksX6_feed_1 20 rfl rfl)
theorem dX6_feed_45 : decode cX6_feed 45 = .ok (.getfield 7, 3) := dk_180 0 7 (dk_at dksX6_feed_1 21 rfl rfl)
theorem dX6_feed_48 : decode cX6_feed 48 = .ok (.sipush 290, 3) := dk_17 1 34 (dk_at dksX6_feed_2 0 rfl rfl)
theorem dX6_feed_51 : decode cX6_feed 51 = .ok (.aload_n 0, 1) := dk_42 (dk_at dksX6_feed_2 3 rfl rfl)
theorem dX6_feed_52 : decode cX6_feed 52 = .ok (.getfield 7, 3) := dk_180 0 7 (dk_at dksX6_feed_2 4 rfl rfl)
theorem dX6_feed_55 : decode cX6_feed 55 = .ok (.iconst 3, 1) := dk_6 (dk_at dksX6_feed_2 7 rfl rfl)
theorem dX6_feed_56 : decode cX6_feed 56 = .ok (.iaload, 1) := dk_46 (dk_at dksX6_feed_2 8 rfl rfl)
theorem dX6_feed_57 : decode cX6_feed 57 = .ok (.iadd, 1) := dk_96 (dk_at dksX6_feed_2 9 rfl rfl)
theorem dX6_feed_58 : decode cX6_feed 58 = .ok (.lload_n 1, 1) := dk_31 (dk_at dksX6_feed_2 10 rfl rfl)
theorem dX6_feed_59 : decode cX6_feed 59 = .ok (.bipush 8, 2) := dk_16 8 (dk_at dksX6_feed_2 11 rfl rfl)
theorem dX6_feed_61 : decode cX6_feed 61 = .ok (.iload 4, 2) := dk_21 4 (dk_at dksX6_feed_2 13 rfl rfl)
theorem dX6_feed_63 : decode cX6_feed 63 = .ok (.imul, 1) := dk_104 (dk_at dksX6_feed_2 15 rfl rfl)
theorem dX6_feed_64 : decode cX6_feed 64 = .ok (.lshr, 1) := dk_123 (dk_at dksX6_feed_2 16 rfl rfl)
theorem dX6_feed_65 : decode cX6_feed 65 = .ok (.ldc2_w 67, 3) := dk_20 0 67 (dk_at dksX6_feed_2 17 rfl rfl)
theorem dX6_feed_68 : decode cX6_feed 68 = .ok (.land, 1) := dk_127 (dk_at dksX6_feed_2 20 rfl rfl)
theorem dX6_feed_69 : decode cX6_feed 69 = .ok (.l2i, 1) := dk_136 (dk_at dksX6_feed_2 21 rfl rfl)
theorem dX6_feed_70 : decode cX6_feed 70 = .ok (.iastore, 1) := dk_79 (dk_at dksX6_feed_2 22 rfl rfl)
theorem dX6_feed_71 : decode cX6_feed 71 = .ok (.aload_n 0, 1) := dk_42 (dk_at dksX6_feed_2 23 rfl rfl)
theorem dX6_feed_72 : decode cX6_feed 72 = .ok (.getfield 7, 3) := dk_180 0 7 (dk_at dksX6_feed_3 0 rfl rfl)
theorem dX6_feed_75 : decode cX6_feed 75 = .ok (.iconst 3, 1) := dk_6 (dk_at dksX6_feed_3 3 rfl rfl)
theorem dX6_feed_76 : decode cX6_feed 76 = .ok (.dup2, 1) := dk_92 (dk_at dksX6_feed_3 4 rfl rfl)
theorem dX6_feed_77 : decode cX6_feed 77 = .ok (.iaload, 1) := dk_46 (dk_at dksX6_feed_3 5 rfl rfl)
theorem dX6_feed_78 : decode cX6_feed 78 = .ok (.iconst 1, 1) := dk_4 (dk_at dksX6_feed_3 6 rfl rfl)
theorem dX6_feed_79 : decode cX6_feed 79 = .ok (.iadd, 1) := dk_96 (dk_at dksX6_feed_3 7 rfl rfl)
theorem dX6_feed_80 : decode cX6_feed 80 = .ok (.iastore, 1) := dk_79 (dk_at dksX6_feed_3 8 rfl rfl)
theorem dX6_feed_81 : decode cX6_feed 81 = .ok (.iinc 4 1, 3) := dk_132 4 1 (dk_at dksX6_feed_3 9 rfl rfl)
theorem dX6_feed_84 : decode cX6_feed 84 = .ok (.goto (-46), 3) := dk_167 255 210 (dk_at dksX6_feed_3 12 rfl rfl)
theorem dX6_feed_87 : decode cX6_feed 87 = .ok (.aload_n 0, 1) := dk_42 (dk_at dksX6_feed_3 15 rfl rfl)
theorem dX6_feed_88 : decode cX6_feed 88 = .ok (.getfield 7, 3) := dk_180 0 7 (dk_at dksX6_feed_3 16 rfl rfl)
theorem dX6_feed_91 : decode cX6_feed 91 = .ok (.iconst 3, 1) := dk_6 (dk_at dksX6_feed_3 19 rfl rfl)
theorem dX6_feed_92 : decode cX6_feed 92 = .ok (.iaload, 1) := dk_46 (dk_at dksX6_feed_3 20 rfl rfl)
theorem dX6_feed_93 : decode cX6_feed 93 = .ok (.ireturn, 1) := dk_172 (dk_at dksX6_feed_3 21 rfl rfl)
abbrev cX6_in : ByteArray := prog_20_method_3_code
def yX6_in : MethodName := ⟨RX6, "in", "(III)Z"⟩
def dkwX6_in_0 : List UInt8 := [26, 27, 161, 0, 12, 26, 28, 163, 0, 7, 4, 167, 0, 4, 3, 172]
abbrev dktX6_in_0 : List UInt8 := dkwX6_in_0 ++ []
theorem dksX6_in_0 : cX6_in.data.toList.drop 0 = dktX6_in_0 := by decide +kernel
theorem dX6_in_0 : decode cX6_in 0 = .ok (.iload_n 0, 1) := dk_26 (dk_at dksX6_in_0 0 rfl rfl)
theorem dX6_in_1 : decode cX6_in 1 = .ok (.iload_n 1, 1) := dk_27 (dk_at dksX6_in_0 1 rfl rfl)
theorem dX6_in_2 : decode cX6_in 2 = .ok (.if_icmp .lt 12, 3) := dk_161 0 12 (dk_at dksX6_in_0 2 rfl rfl)
theorem dX6_in_5 : decode cX6_in 5 = .ok (.iload_n 0, 1) := dk_26 (dk_at dksX6_in_0 5 rfl rfl)
theorem dX6_in_6 : decode cX6_in 6 = .ok (.iload_n 2, 1) := dk_28 (dk_at dksX6_in_0 6 rfl rfl)
theorem dX6_in_7 : decode cX6_in 7 = .ok (.if_icmp .gt 7, 3) := dk_163 0 7 (dk_at dksX6_in_0 7 rfl rfl)
theorem dX6_in_10 : decode cX6_in 10 = .ok (.iconst 1, 1) := dk_4 (dk_at dksX6_in_0 10 rfl rfl)
theorem dX6_in_11 : decode cX6_in 11 = .ok (.goto 4, 3) := dk_167 0 4 (dk_at dksX6_in_0 11 rfl rfl)
theorem dX6_in_14 : decode cX6_in 14 = .ok (.iconst 0, 1) := dk_3 (dk_at dksX6_in_0 14 rfl rfl)
theorem dX6_in_15 : decode cX6_in 15 = .ok (.ireturn, 1) := dk_172 (dk_at dksX6_in_0 15 rfl rfl)
abbrev cX6_error : ByteArray := prog_20_method_2_code
def yX6_error : MethodName := ⟨RX6, "error", "(I)I"⟩
def dkwX6_error_0 : List UInt8 := [42, 180, 0, 16, 27, 92, 46, 4, 96, 79, 18, 58, 27, 100, 172]
abbrev dktX6_error_0 : List UInt8 := dkwX6_error_0 ++ []
theorem dksX6_error_0 : cX6_error.data.toList.drop 0 = dktX6_error_0 := by decide +kernel
theorem dX6_error_0 : decode cX6_error 0 = .ok (.aload_n 0, 1) := dk_42 (dk_at dksX6_error_0 0 rfl rfl)
theorem dX6_error_1 : decode cX6_error 1 = .ok (.getfield 16, 3) := dk_180 0 16 (dk_at dksX6_error_0 1 rfl rfl)
theorem dX6_error_4 : decode cX6_error 4 = .ok (.iload_n 1, 1) := dk_27 (dk_at dksX6_error_0 4 rfl rfl)
theorem dX6_error_5 : decode cX6_error 5 = .ok (.dup2, 1) := dk_92 (dk_at dksX6_error_0 5 rfl rfl)
theorem dX6_error_6 : decode cX6_error 6 = .ok (.iaload, 1) := dk_46 (dk_at dksX6_error_0 6 rfl rfl)
theorem dX6_error_7 : decode cX6_error 7 = .ok (.iconst 1, 1) := dk_4 (dk_at dksX6_error_0 7 rfl rfl)
theorem dX6_error_8 : decode cX6_error 8 = .ok (.iadd, 1) := dk_96 (dk_at dksX6_error_0 8 rfl rfl)
theorem dX6_error_9 : decode cX6_error 9 = .ok (.iastore, 1) := dk_79 (dk_at dksX6_error_0 9 rfl rfl)
theorem dX6_error_10 : decode cX6_error 10 = .ok (.ldc 58, 2) := dk_18 58 (dk_at dksX6_error_0 10 rfl rfl)
theorem dX6_error_12 : decode cX6_error 12 = .ok (.iload_n 1, 1) := dk_27 (dk_at dksX6_error_0 12 rfl rfl)
theorem dX6_error_13 : decode cX6_error 13 = .ok (.isub, 1) := dk_100 (dk_at dksX6_error_0 13 rfl rfl)
theorem dX6_error_14 : decode cX6_error 14 = .ok (.ireturn, 1) := dk_172 (dk_at dksX6_error_0 14 rfl rfl)
abbrev cX6_text : ByteArray := prog_20_method_23_code
def yX6_text : MethodName := ⟨RX6, "text", "(I)I"⟩
def dkwX6_text_5 : List UInt8 := [4, 96, 21, 4, 96, 42, 180, 0, 19, 21, 4, 46, 79, 132, 4, 1, 167, 255, 224, 4, 172]
abbrev dktX6_text_5 : List UInt8 := dkwX6_text_5 ++ []
def dkwX6_text_4 : List UInt8 := [42, 180, 0, 76, 79, 3, 54, 4, 21, 4, 5, 42, 180, 0, 76, 104, 162, 0, 27, 42, 180, 0, 7, 29]
abbrev dktX6_text_4 : List UInt8 := dkwX6_text_4 ++ dktX6_text_5
def dkwX6_text_3 : List UInt8 := [154, 0, 11, 16, 246, 42, 180, 0, 69, 100, 172, 16, 40, 16, 125, 27, 104, 96, 62, 42, 180, 0, 7, 29]
abbrev dktX6_text_3 : List UInt8 := dkwX6_text_3 ++ dktX6_text_4
def dkwX6_text_2 : List UInt8 := [42, 180, 0, 7, 6, 46, 160, 0, 7, 4, 167, 0, 4, 3, 61, 42, 180, 0, 7, 6, 3, 79, 28]
abbrev dktX6_text_2 : List UInt8 := dkwX6_text_2 ++ dktX6_text_3
def dkwX6_text_1 : List UInt8 := [181, 0, 69, 42, 3, 181, 0, 103, 42, 3, 181, 0, 76, 42, 182, 0, 113, 153, 0, 20, 42, 180, 0, 69]
abbrev dktX6_text_1 : List UInt8 := dkwX6_text_1 ++ dktX6_text_2
def dkwX6_text_0 : List UInt8 := [27, 3, 4, 184, 0, 59, 154, 0, 9, 42, 4, 182, 0, 63, 172, 42, 27, 181, 0, 73, 42, 3]
abbrev dktX6_text_0 : List UInt8 := dkwX6_text_0 ++ dktX6_text_1
theorem dksX6_text_0 : cX6_text.data.toList.drop 0 = dktX6_text_0 := by decide +kernel
theorem dksX6_text_1 : cX6_text.data.toList.drop 22 = dktX6_text_1 := dk_seg dksX6_text_0 22 rfl rfl
theorem dksX6_text_2 : cX6_text.data.toList.drop 46 = dktX6_text_2 := dk_seg dksX6_text_1 24 rfl rfl
theorem dksX6_text_3 : cX6_text.data.toList.drop 69 = dktX6_text_3 := dk_seg dksX6_text_2 23 rfl rfl
theorem dksX6_text_4 : cX6_text.data.toList.drop 93 = dktX6_text_4 := dk_seg dksX6_text_3 24 rfl rfl
theorem dksX6_text_5 : cX6_text.data.toList.drop 117 = dktX6_text_5 := dk_seg dksX6_text_4 24 rfl rfl
theorem dX6_text_0 : decode cX6_text 0 = .ok (.iload_n 1, 1) := dk_27 (dk_at dksX6_text_0 0 rfl rfl)
theorem dX6_text_1 : decode cX6_text 1 = .ok (.iconst 0, 1) := dk_3 (dk_at dksX6_text_0 1 rfl rfl)
theorem dX6_text_2 : decode cX6_text 2 = .ok (.iconst 1, 1) := dk_4 (dk_at dksX6_text_0 2 rfl rfl)
theorem dX6_text_3 : decode cX6_text 3 = .ok (.invokestatic 59, 3) := dk_184 0 59 (dk_at dksX6_text_0 3 rfl rfl)
theorem dX6_text_6 : decode cX6_text 6 = .ok (.ifCond .ne 9, 3) := dk_154 0 9 (dk_at dksX6_text_0 6 rfl rfl)
theorem dX6_text_9 : decode cX6_text 9 = .ok (.aload_n 0, 1) := dk_42 (dk_at dksX6_text_0 9 rfl rfl)
theorem dX6_text_10 : decode cX6_text 10 = .ok (.iconst 1, 1) := dk_4 (dk_at dksX6_text_0 10 rfl rfl)
theorem dX6_text_11 : decode cX6_text 11 = .ok (.invokevirtual 63, 3) := dk_182 0 63 (dk_at dksX6_text_0 11 rfl rfl)
theorem dX6_text_14 : decode cX6_text 14 = .ok (.ireturn, 1) := dk_172 (dk_at dksX6_text_0 14 rfl rfl)
theorem dX6_text_15 : decode cX6_text 15 = .ok (.aload_n 0, 1) := dk_42 (dk_at dksX6_text_0 15 rfl rfl)
theorem dX6_text_16 : decode cX6_text 16 = .ok (.iload_n 1, 1) := dk_27 (dk_at dksX6_text_0 16 rfl rfl)
theorem dX6_text_17 : decode cX6_text 17 = .ok (.putfield 73, 3) := dk_181 0 73 (dk_at dksX6_text_0 17 rfl rfl)
theorem dX6_text_20 : decode cX6_text 20 = .ok (.aload_n 0, 1) := dk_42 (dk_at dksX6_text_0 20 rfl rfl)
theorem dX6_text_21 : decode cX6_text 21 = .ok (.iconst 0, 1) := dk_3 (dk_at dksX6_text_0 21 rfl rfl)
theorem dX6_text_22 : decode cX6_text 22 = .ok (.putfield 69, 3) := dk_181 0 69 (dk_at dksX6_text_1 0 rfl rfl)
theorem dX6_text_25 : decode cX6_text 25 = .ok (.aload_n 0, 1) := dk_42 (dk_at dksX6_text_1 3 rfl rfl)
theorem dX6_text_26 : decode cX6_text 26 = .ok (.iconst 0, 1) := dk_3 (dk_at dksX6_text_1 4 rfl rfl)
theorem dX6_text_27 : decode cX6_text 27 = .ok (.putfield 103, 3) := dk_181 0 103 (dk_at dksX6_text_1 5 rfl rfl)
theorem dX6_text_30 : decode cX6_text 30 = .ok (.aload_n 0, 1) := dk_42 (dk_at dksX6_text_1 8 rfl rfl)
theorem dX6_text_31 : decode cX6_text 31 = .ok (.iconst 0, 1) := dk_3 (dk_at dksX6_text_1 9 rfl rfl)
theorem dX6_text_32 : decode cX6_text 32 = .ok (.putfield 76, 3) := dk_181 0 76 (dk_at dksX6_text_1 10 rfl rfl)
theorem dX6_text_35 : decode cX6_text 35 = .ok (.aload_n 0, 1) := dk_42 (dk_at dksX6_text_1 13 rfl rfl)
theorem dX6_text_36 : decode cX6_text 36 = .ok (.invokevirtual 113, 3) := dk_182 0 113 (dk_at dksX6_text_1 14 rfl rfl)
theorem dX6_text_39 : decode cX6_text 39 = .ok (.ifCond .eq 20, 3) := dk_153 0 20 (dk_at dksX6_text_1 17 rfl rfl)
theorem dX6_text_42 : decode cX6_text 42 = .ok (.aload_n 0, 1) := dk_42 (dk_at dksX6_text_1 20 rfl rfl)
theorem dX6_text_43 : decode cX6_text 43 = .ok (.getfield 69, 3) := dk_180 0 69 (dk_at dksX6_text_1 21 rfl rfl)
theorem dX6_text_46 : decode cX6_text 46 = .ok (.aload_n 0, 1) := dk_42 (dk_at dksX6_text_2 0 rfl rfl)
theorem dX6_text_47 : decode cX6_text 47 = .ok (.getfield 7, 3) := dk_180 0 7 (dk_at dksX6_text_2 1 rfl rfl)
theorem dX6_text_50 : decode cX6_text 50 = .ok (.iconst 3, 1) := dk_6 (dk_at dksX6_text_2 4 rfl rfl)
theorem dX6_text_51 : decode cX6_text 51 = .ok (.iaload, 1) := dk_46 (dk_at dksX6_text_2 5 rfl rfl)
theorem dX6_text_52 : decode cX6_text 52 = .ok (.if_icmp .ne 7, 3) := dk_160 0 7 (dk_at dksX6_text_2 6 rfl rfl)
theorem dX6_text_55 : decode cX6_text 55 = .ok (.iconst 1, 1) := dk_4 (dk_at dksX6_text_2 9 rfl rfl)
theorem dX6_text_56 : decode cX6_text 56 = .ok (.goto 4, 3) := dk_167 0 4 (dk_at dksX6_text_2 10 rfl rfl)
theorem dX6_text_59 : decode cX6_text 59 = .ok (.iconst 0, 1) := dk_3 (dk_at dksX6_text_2 13 rfl rfl)
theorem dX6_text_60 : decode cX6_text 60 = .ok (.istore_n 2, 1) := dk_61 (dk_at dksX6_text_2 14 rfl rfl)
theorem dX6_text_61 : decode cX6_text 61 = .ok (.aload_n 0, 1) := dk_42 (dk_at dksX6_text_2 15 rfl rfl)
theorem dX6_text_62 : decode cX6_text 62 = .ok (.getfield 7, 3) := dk_180 0 7 (dk_at dksX6_text_2 16 rfl rfl)
theorem dX6_text_65 : decode cX6_text 65 = .ok (.iconst 3, 1) := dk_6 (dk_at dksX6_text_2 19 rfl rfl)
theorem dX6_text_66 : decode cX6_text 66 = .ok (.iconst 0, 1) := dk_3 (dk_at dksX6_text_2 20 rfl rfl)
theorem dX6_text_67 : decode cX6_text 67 = .ok (.iastore, 1) := dk_79 (dk_at dksX6_text_2 21 rfl rfl)
theorem dX6_text_68 : decode cX6_text 68 = .ok (.iload_n 2, 1) := dk_28 (dk_at dksX6_text_2 22 rfl rfl)
theorem dX6_text_69 : decode cX6_text 69 = .ok (.ifCond .ne 11, 3) := dk_154 0 11 (dk_at dksX6_text_3 0 rfl rfl)
theorem dX6_text_72 : decode cX6_text 72 = .ok (.bipush (-10), 2) := dk_16 246 (dk_at dksX6_text_3 3 rfl rfl)
theorem dX6_text_74 : decode cX6_text 74 = .ok (.aload_n 0, 1) := dk_42 (dk_at dksX6_text_3 5 rfl rfl)
theorem dX6_text_75 : decode cX6_text 75 = .ok (.getfield 69, 3) := dk_180 0 69 (dk_at dksX6_text_3 6 rfl rfl)
theorem dX6_text_78 : decode cX6_text 78 = .ok (.isub, 1) := dk_100 (dk_at dksX6_text_3 9 rfl rfl)
theorem dX6_text_79 : decode cX6_text 79 = .ok (.ireturn, 1) := dk_172 (dk_at dksX6_text_3 10 rfl rfl)
theorem dX6_text_80 : decode cX6_text 80 = .ok (.bipush 40, 2) := dk_16 40 (dk_at dksX6_text_3 11 rfl rfl)
theorem dX6_text_82 : decode cX6_text 82 = .ok (.bipush 125, 2) := dk_16 125 (dk_at dksX6_text_3 13 rfl rfl)
theorem dX6_text_84 : decode cX6_text 84 = .ok (.iload_n 1, 1) := dk_27 (dk_at dksX6_text_3 15 rfl rfl)
theorem dX6_text_85 : decode cX6_text 85 = .ok (.imul, 1) := dk_104 (dk_at dksX6_text_3 16 rfl rfl)
theorem dX6_text_86 : decode cX6_text 86 = .ok (.iadd, 1) := dk_96 (dk_at dksX6_text_3 17 rfl rfl)
theorem dX6_text_87 : decode cX6_text 87 = .ok (.istore_n 3, 1) := dk_62 (dk_at dksX6_text_3 18 rfl rfl)
theorem dX6_text_88 : decode cX6_text 88 = .ok (.aload_n 0, 1) := dk_42 (dk_at dksX6_text_3 19 rfl rfl)
theorem dX6_text_89 : decode cX6_text 89 = .ok (.getfield 7, 3) := dk_180 0 7 (dk_at dksX6_text_3 20 rfl rfl)
theorem dX6_text_92 : decode cX6_text 92 = .ok (.iload_n 3, 1) := dk_29 (dk_at dksX6_text_3 23 rfl rfl)
theorem dX6_text_93 : decode cX6_text 93 = .ok (.aload_n 0, 1) := dk_42 (dk_at dksX6_text_4 0 rfl rfl)
theorem dX6_text_94 : decode cX6_text 94 = .ok (.getfield 76, 3) := dk_180 0 76 (dk_at dksX6_text_4 1 rfl rfl)
theorem dX6_text_97 : decode cX6_text 97 = .ok (.iastore, 1) := dk_79 (dk_at dksX6_text_4 4 rfl rfl)
theorem dX6_text_98 : decode cX6_text 98 = .ok (.iconst 0, 1) := dk_3 (dk_at dksX6_text_4 5 rfl rfl)
theorem dX6_text_99 : decode cX6_text 99 = .ok (.istore 4, 2) := dk_54 4 (dk_at dksX6_text_4 6 rfl rfl)
theorem dX6_text_101 : decode cX6_text 101 = .ok (.iload 4, 2) := dk_21 4 (dk_at dksX6_text_4 8 rfl rfl)
theorem dX6_text_103 : decode cX6_text 103 = .ok (.iconst 2, 1) := dk_5 (dk_at dksX6_text_4 10 rfl rfl)
theorem dX6_text_104 : decode cX6_text 104 = .ok (.aload_n 0, 1) := dk_42 (dk_at dksX6_text_4 11 rfl rfl)
theorem dX6_text_105 : decode cX6_text 105 = .ok (.getfield 76, 3) := dk_180 0 76 (dk_at dksX6_text_4 12 rfl rfl)
theorem dX6_text_108 : decode cX6_text 108 = .ok (.imul, 1) := dk_104 (dk_at dksX6_text_4 15 rfl rfl)
theorem dX6_text_109 : decode cX6_text 109 = .ok (.if_icmp .ge 27, 3) := dk_162 0 27 (dk_at dksX6_text_4 16 rfl rfl)
theorem dX6_text_112 : decode cX6_text 112 = .ok (.aload_n 0, 1) := dk_42 (dk_at dksX6_text_4 19 rfl rfl)
theorem dX6_text_113 : decode cX6_text 113 = .ok (.getfield 7, 3) := dk_180 0 7 (dk_at dksX6_text_4 20 rfl rfl)
theorem dX6_text_116 : decode cX6_text 116 = .ok (.iload_n 3, 1) := dk_29 (dk_at dksX6_text_4 23 rfl rfl)
theorem dX6_text_117 : decode cX6_text 117 = .ok (.iconst 1, 1) := dk_4 (dk_at dksX6_text_5 0 rfl rfl)
theorem dX6_text_118 : decode cX6_text 118 = .ok (.iadd, 1) := dk_96 (dk_at dksX6_text_5 1 rfl rfl)
theorem dX6_text_119 : decode cX6_text 119 = .ok (.iload 4, 2) := dk_21 4 (dk_at dksX6_text_5 2 rfl rfl)
theorem dX6_text_121 : decode cX6_text 121 = .ok (.iadd, 1) := dk_96 (dk_at dksX6_text_5 4 rfl rfl)
theorem dX6_text_122 : decode cX6_text 122 = .ok (.aload_n 0, 1) := dk_42 (dk_at dksX6_text_5 5 rfl rfl)
theorem dX6_text_123 : decode cX6_text 123 = .ok (.getfield 19, 3) := dk_180 0 19 (dk_at dksX6_text_5 6 rfl rfl)
theorem dX6_text_126 : decode cX6_text 126 = .ok (.iload 4, 2) := dk_21 4 (dk_at dksX6_text_5 9 rfl rfl)
theorem dX6_text_128 : decode cX6_text 128 = .ok (.iaload, 1) := dk_46 (dk_at dksX6_text_5 11 rfl rfl)
theorem dX6_text_129 : decode cX6_text 129 = .ok (.iastore, 1) := dk_79 (dk_at dksX6_text_5 12 rfl rfl)
theorem dX6_text_130 : decode cX6_text 130 = .ok (.iinc 4 1, 3) := dk_132 4 1 (dk_at dksX6_text_5 13 rfl rfl)
theorem dX6_text_133 : decode cX6_text 133 = .ok (.goto (-32), 3) := dk_167 255 224 (dk_at dksX6_text_5 16 rfl rfl)
theorem dX6_text_136 : decode cX6_text 136 = .ok (.iconst 1, 1) := dk_4 (dk_at dksX6_text_5 19 rfl rfl)
theorem dX6_text_137 : decode cX6_text 137 = .ok (.ireturn, 1) := dk_172 (dk_at dksX6_text_5 20 rfl rfl)
abbrev cX6_whole : ByteArray := prog_20_method_15_code
def yX6_whole : MethodName := ⟨RX6, "whole", "()Z"⟩
def dkwX6_whole_2 : List UInt8 := [172]
abbrev dktX6_whole_2 : List UInt8 := dkwX6_whole_2 ++ []
def dkwX6_whole_1 : List UInt8 := [96, 181, 0, 69, 42, 182, 0, 79, 154, 0, 5, 3, 172, 42, 6, 16, 124, 182, 0, 87, 167, 255, 221, 4]
abbrev dktX6_whole_1 : List UInt8 := dkwX6_whole_1 ++ dktX6_whole_2
def dkwX6_whole_0 : List UInt8 := [42, 182, 0, 79, 154, 0, 5, 3, 172, 42, 182, 0, 83, 16, 124, 160, 0, 32, 42, 89, 180, 0, 69, 4]
abbrev dktX6_whole_0 : List UInt8 := dkwX6_whole_0 ++ dktX6_whole_1
theorem dksX6_whole_0 : cX6_whole.data.toList.drop 0 = dktX6_whole_0 := by decide +kernel
theorem dksX6_whole_1 : cX6_whole.data.toList.drop 24 = dktX6_whole_1 := dk_seg dksX6_whole_0 24 rfl rfl
theorem dksX6_whole_2 : cX6_whole.data.toList.drop 48 = dktX6_whole_2 := dk_seg dksX6_whole_1 24 rfl rfl
theorem dX6_whole_0 : decode cX6_whole 0 = .ok (.aload_n 0, 1) := dk_42 (dk_at dksX6_whole_0 0 rfl rfl)
theorem dX6_whole_1 : decode cX6_whole 1 = .ok (.invokevirtual 79, 3) := dk_182 0 79 (dk_at dksX6_whole_0 1 rfl rfl)
theorem dX6_whole_4 : decode cX6_whole 4 = .ok (.ifCond .ne 5, 3) := dk_154 0 5 (dk_at dksX6_whole_0 4 rfl rfl)
theorem dX6_whole_7 : decode cX6_whole 7 = .ok (.iconst 0, 1) := dk_3 (dk_at dksX6_whole_0 7 rfl rfl)
theorem dX6_whole_8 : decode cX6_whole 8 = .ok (.ireturn, 1) := dk_172 (dk_at dksX6_whole_0 8 rfl rfl)
theorem dX6_whole_9 : decode cX6_whole 9 = .ok (.aload_n 0, 1) := dk_42 (dk_at dksX6_whole_0 9 rfl rfl)
theorem dX6_whole_10 : decode cX6_whole 10 = .ok (.invokevirtual 83, 3) := dk_182 0 83 (dk_at dksX6_whole_0 10 rfl rfl)
theorem dX6_whole_13 : decode cX6_whole 13 = .ok (.bipush 124, 2) := dk_16 124 (dk_at dksX6_whole_0 13 rfl rfl)
theorem dX6_whole_15 : decode cX6_whole 15 = .ok (.if_icmp .ne 32, 3) := dk_160 0 32 (dk_at dksX6_whole_0 15 rfl rfl)
theorem dX6_whole_18 : decode cX6_whole 18 = .ok (.aload_n 0, 1) := dk_42 (dk_at dksX6_whole_0 18 rfl rfl)
theorem dX6_whole_19 : decode cX6_whole 19 = .ok (.dup, 1) := dk_89 (dk_at dksX6_whole_0 19 rfl rfl)
theorem dX6_whole_20 : decode cX6_whole 20 = .ok (.getfield 69, 3) := dk_180 0 69 (dk_at dksX6_whole_0 20 rfl rfl)
theorem dX6_whole_23 : decode cX6_whole 23 = .ok (.iconst 1, 1) := dk_4 (dk_at dksX6_whole_0 23 rfl rfl)
theorem dX6_whole_24 : decode cX6_whole 24 = .ok (.iadd, 1) := dk_96 (dk_at dksX6_whole_1 0 rfl rfl)
theorem dX6_whole_25 : decode cX6_whole 25 = .ok (.putfield 69, 3) := dk_181 0 69 (dk_at dksX6_whole_1 1 rfl rfl)
theorem dX6_whole_28 : decode cX6_whole 28 = .ok (.aload_n 0, 1) := dk_42 (dk_at dksX6_whole_1 4 rfl rfl)
theorem dX6_whole_29 : decode cX6_whole 29 = .ok (.invokevirtual 79, 3) := dk_182 0 79 (dk_at dksX6_whole_1 5 rfl rfl)
theorem dX6_whole_32 : decode cX6_whole 32 = .ok (.ifCond .ne 5, 3) := dk_154 0 5 (dk_at dksX6_whole_1 8 rfl rfl)
theorem dX6_whole_35 : decode cX6_whole 35 = .ok (.iconst 0, 1) := dk_3 (dk_at dksX6_whole_1 11 rfl rfl)
theorem dX6_whole_36 : decode cX6_whole 36 = .ok (.ireturn, 1) := dk_172 (dk_at dksX6_whole_1 12 rfl rfl)
theorem dX6_whole_37 : decode cX6_whole 37 = .ok (.aload_n 0, 1) := dk_42 (dk_at dksX6_whole_1 13 rfl rfl)
theorem dX6_whole_38 : decode cX6_whole 38 = .ok (.iconst 3, 1) := dk_6 (dk_at dksX6_whole_1 14 rfl rfl)
theorem dX6_whole_39 : decode cX6_whole 39 = .ok (.bipush 124, 2) := dk_16 124 (dk_at dksX6_whole_1 15 rfl rfl)
theorem dX6_whole_41 : decode cX6_whole 41 = .ok (.invokevirtual 87, 3) := dk_182 0 87 (dk_at dksX6_whole_1 17 rfl rfl)
theorem dX6_whole_44 : decode cX6_whole 44 = .ok (.goto (-35), 3) := dk_167 255 221 (dk_at dksX6_whole_1 20 rfl rfl)
theorem dX6_whole_47 : decode cX6_whole 47 = .ok (.iconst 1, 1) := dk_4 (dk_at dksX6_whole_1 23 rfl rfl)
theorem dX6_whole_48 : decode cX6_whole 48 = .ok (.ireturn, 1) := dk_172 (dk_at dksX6_whole_2 0 rfl rfl)
abbrev cX6_both : ByteArray := prog_20_method_16_code
def yX6_both : MethodName := ⟨RX6, "both", "()Z"⟩
def dkwX6_both_2 : List UInt8 := [172]
abbrev dktX6_both_2 : List UInt8 := dkwX6_both_2 ++ []
def dkwX6_both_1 : List UInt8 := [96, 181, 0, 69, 42, 182, 0, 91, 154, 0, 5, 3, 172, 42, 6, 16, 38, 182, 0, 87, 167, 255, 221, 4]
abbrev dktX6_both_1 : List UInt8 := dkwX6_both_1 ++ dktX6_both_2
def dkwX6_both_0 : List UInt8 := [42, 182, 0, 91, 154, 0, 5, 3, 172, 42, 182, 0, 83, 16, 38, 160, 0, 32, 42, 89, 180, 0, 69, 4]
abbrev dktX6_both_0 : List UInt8 := dkwX6_both_0 ++ dktX6_both_1
theorem dksX6_both_0 : cX6_both.data.toList.drop 0 = dktX6_both_0 := by decide +kernel
theorem dksX6_both_1 : cX6_both.data.toList.drop 24 = dktX6_both_1 := dk_seg dksX6_both_0 24 rfl rfl
theorem dksX6_both_2 : cX6_both.data.toList.drop 48 = dktX6_both_2 := dk_seg dksX6_both_1 24 rfl rfl
theorem dX6_both_0 : decode cX6_both 0 = .ok (.aload_n 0, 1) := dk_42 (dk_at dksX6_both_0 0 rfl rfl)
theorem dX6_both_1 : decode cX6_both 1 = .ok (.invokevirtual 91, 3) := dk_182 0 91 (dk_at dksX6_both_0 1 rfl rfl)
theorem dX6_both_4 : decode cX6_both 4 = .ok (.ifCond .ne 5, 3) := dk_154 0 5 (dk_at dksX6_both_0 4 rfl rfl)
theorem dX6_both_7 : decode cX6_both 7 = .ok (.iconst 0, 1) := dk_3 (dk_at dksX6_both_0 7 rfl rfl)
theorem dX6_both_8 : decode cX6_both 8 = .ok (.ireturn, 1) := dk_172 (dk_at dksX6_both_0 8 rfl rfl)
theorem dX6_both_9 : decode cX6_both 9 = .ok (.aload_n 0, 1) := dk_42 (dk_at dksX6_both_0 9 rfl rfl)
theorem dX6_both_10 : decode cX6_both 10 = .ok (.invokevirtual 83, 3) := dk_182 0 83 (dk_at dksX6_both_0 10 rfl rfl)
theorem dX6_both_13 : decode cX6_both 13 = .ok (.bipush 38, 2) := dk_16 38 (dk_at dksX6_both_0 13 rfl rfl)
theorem dX6_both_15 : decode cX6_both 15 = .ok (.if_icmp .ne 32, 3) := dk_160 0 32 (dk_at dksX6_both_0 15 rfl rfl)
theorem dX6_both_18 : decode cX6_both 18 = .ok (.aload_n 0, 1) := dk_42 (dk_at dksX6_both_0 18 rfl rfl)
theorem dX6_both_19 : decode cX6_both 19 = .ok (.dup, 1) := dk_89 (dk_at dksX6_both_0 19 rfl rfl)
theorem dX6_both_20 : decode cX6_both 20 = .ok (.getfield 69, 3) := dk_180 0 69 (dk_at dksX6_both_0 20 rfl rfl)
theorem dX6_both_23 : decode cX6_both 23 = .ok (.iconst 1, 1) := dk_4 (dk_at dksX6_both_0 23 rfl rfl)
theorem dX6_both_24 : decode cX6_both 24 = .ok (.iadd, 1) := dk_96 (dk_at dksX6_both_1 0 rfl rfl)
theorem dX6_both_25 : decode cX6_both 25 = .ok (.putfield 69, 3) := dk_181 0 69 (dk_at dksX6_both_1 1 rfl rfl)
theorem dX6_both_28 : decode cX6_both 28 = .ok (.aload_n 0, 1) := dk_42 (dk_at dksX6_both_1 4 rfl rfl)
theorem dX6_both_29 : decode cX6_both 29 = .ok (.invokevirtual 91, 3) := dk_182 0 91 (dk_at dksX6_both_1 5 rfl rfl)
theorem dX6_both_32 : decode cX6_both 32 = .ok (.ifCond .ne 5, 3) := dk_154 0 5 (dk_at dksX6_both_1 8 rfl rfl)
theorem dX6_both_35 : decode cX6_both 35 = .ok (.iconst 0, 1) := dk_3 (dk_at dksX6_both_1 11 rfl rfl)
theorem dX6_both_36 : decode cX6_both 36 = .ok (.ireturn, 1) := dk_172 (dk_at dksX6_both_1 12 rfl rfl)
theorem dX6_both_37 : decode cX6_both 37 = .ok (.aload_n 0, 1) := dk_42 (dk_at dksX6_both_1 13 rfl rfl)
theorem dX6_both_38 : decode cX6_both 38 = .ok (.iconst 3, 1) := dk_6 (dk_at dksX6_both_1 14 rfl rfl)
theorem dX6_both_39 : decode cX6_both 39 = .ok (.bipush 38, 2) := dk_16 38 (dk_at dksX6_both_1 15 rfl rfl)
theorem dX6_both_41 : decode cX6_both 41 = .ok (.invokevirtual 87, 3) := dk_182 0 87 (dk_at dksX6_both_1 17 rfl rfl)
theorem dX6_both_44 : decode cX6_both 44 = .ok (.goto (-35), 3) := dk_167 255 221 (dk_at dksX6_both_1 20 rfl rfl)
theorem dX6_both_47 : decode cX6_both 47 = .ok (.iconst 1, 1) := dk_4 (dk_at dksX6_both_1 23 rfl rfl)
theorem dX6_both_48 : decode cX6_both 48 = .ok (.ireturn, 1) := dk_172 (dk_at dksX6_both_2 0 rfl rfl)
abbrev cX6_compared : ByteArray := prog_20_method_17_code
def yX6_compared : MethodName := ⟨RX6, "compared", "()Z"⟩
def dkwX6_compared_2 : List UInt8 := [182, 0, 94, 154, 0, 5, 3, 172, 42, 6, 27, 182, 0, 87, 4, 172]
abbrev dktX6_compared_2 : List UInt8 := dkwX6_compared_2 ++ []
def dkwX6_compared_1 : List UInt8 := [159, 0, 11, 27, 16, 62, 159, 0, 5, 4, 172, 42, 89, 180, 0, 69, 4, 96, 181, 0, 69, 42]
abbrev dktX6_compared_1 : List UInt8 := dkwX6_compared_1 ++ dktX6_compared_2
def dkwX6_compared_0 : List UInt8 := [42, 182, 0, 94, 154, 0, 5, 3, 172, 42, 182, 0, 83, 60, 27, 16, 60, 159, 0, 17, 27, 16, 61]
abbrev dktX6_compared_0 : List UInt8 := dkwX6_compared_0 ++ dktX6_compared_1
theorem dksX6_compared_0 : cX6_compared.data.toList.drop 0 = dktX6_compared_0 := by decide +kernel
theorem dksX6_compared_1 : cX6_compared.data.toList.drop 23 = dktX6_compared_1 := dk_seg dksX6_compared_0 23 rfl rfl
theorem dksX6_compared_2 : cX6_compared.data.toList.drop 45 = dktX6_compared_2 := dk_seg dksX6_compared_1 22 rfl rfl
theorem dX6_compared_0 : decode cX6_compared 0 = .ok (.aload_n 0, 1) := dk_42 (dk_at dksX6_compared_0 0 rfl rfl)
theorem dX6_compared_1 : decode cX6_compared 1 = .ok (.invokevirtual 94, 3) := dk_182 0 94 (dk_at dksX6_compared_0 1 rfl rfl)
theorem dX6_compared_4 : decode cX6_compared 4 = .ok (.ifCond .ne 5, 3) := dk_154 0 5 (dk_at dksX6_compared_0 4 rfl rfl)
theorem dX6_compared_7 : decode cX6_compared 7 = .ok (.iconst 0, 1) := dk_3 (dk_at dksX6_compared_0 7 rfl rfl)
theorem dX6_compared_8 : decode cX6_compared 8 = .ok (.ireturn, 1) := dk_172 (dk_at dksX6_compared_0 8 rfl rfl)
theorem dX6_compared_9 : decode cX6_compared 9 = .ok (.aload_n 0, 1) := dk_42 (dk_at dksX6_compared_0 9 rfl rfl)
theorem dX6_compared_10 : decode cX6_compared 10 = .ok (.invokevirtual 83, 3) := dk_182 0 83 (dk_at dksX6_compared_0 10 rfl rfl)
theorem dX6_compared_13 : decode cX6_compared 13 = .ok (.istore_n 1, 1) := dk_60 (dk_at dksX6_compared_0 13 rfl rfl)
theorem dX6_compared_14 : decode cX6_compared 14 = .ok (.iload_n 1, 1) := dk_27 (dk_at dksX6_compared_0 14 rfl rfl)
theorem dX6_compared_15 : decode cX6_compared 15 = .ok (.bipush 60, 2) := dk_16 60 (dk_at dksX6_compared_0 15 rfl rfl)
theorem dX6_compared_17 : decode cX6_compared 17 = .ok (.if_icmp .eq 17, 3) := dk_159 0 17 (dk_at dksX6_compared_0 17 rfl rfl)
theorem dX6_compared_20 : decode cX6_compared 20 = .ok (.iload_n 1, 1) := dk_27 (dk_at dksX6_compared_0 20 rfl rfl)
theorem dX6_compared_21 : decode cX6_compared 21 = .ok (.bipush 61, 2) := dk_16 61 (dk_at dksX6_compared_0 21 rfl rfl)
theorem dX6_compared_23 : decode cX6_compared 23 = .ok (.if_icmp .eq 11, 3) := dk_159 0 11 (dk_at dksX6_compared_1 0 rfl rfl)
theorem dX6_compared_26 : decode cX6_compared 26 = .ok (.iload_n 1, 1) := dk_27 (dk_at dksX6_compared_1 3 rfl rfl)
theorem dX6_compared_27 : decode cX6_compared 27 = .ok (.bipush 62, 2) := dk_16 62 (dk_at dksX6_compared_1 4 rfl rfl)
theorem dX6_compared_29 : decode cX6_compared 29 = .ok (.if_icmp .eq 5, 3) := dk_159 0 5 (dk_at dksX6_compared_1 6 rfl rfl)
theorem dX6_compared_32 : decode cX6_compared 32 = .ok (.iconst 1, 1) := dk_4 (dk_at dksX6_compared_1 9 rfl rfl)
theorem dX6_compared_33 : decode cX6_compared 33 = .ok (.ireturn, 1) := dk_172 (dk_at dksX6_compared_1 10 rfl rfl)
theorem dX6_compared_34 : decode cX6_compared 34 = .ok (.aload_n 0, 1) := dk_42 (dk_at dksX6_compared_1 11 rfl rfl)
theorem dX6_compared_35 : decode cX6_compared 35 = .ok (.dup, 1) := dk_89 (dk_at dksX6_compared_1 12 rfl rfl)
theorem dX6_compared_36 : decode cX6_compared 36 = .ok (.getfield 69, 3) := dk_180 0 69 (dk_at dksX6_compared_1 13 rfl rfl)
theorem dX6_compared_39 : decode cX6_compared 39 = .ok (.iconst 1, 1) := dk_4 (dk_at dksX6_compared_1 16 rfl rfl)
theorem dX6_compared_40 : decode cX6_compared 40 = .ok (.iadd, 1) := dk_96 (dk_at dksX6_compared_1 17 rfl rfl)
theorem dX6_compared_41 : decode cX6_compared 41 = .ok (.putfield 69, 3) := dk_181 0 69 (dk_at dksX6_compared_1 18 rfl rfl)
theorem dX6_compared_44 : decode cX6_compared 44 = .ok (.aload_n 0, 1) := dk_42 (dk_at dksX6_compared_1 21 rfl rfl)
theorem dX6_compared_45 : decode cX6_compared 45 = .ok (.invokevirtual 94, 3) := dk_182 0 94 (dk_at dksX6_compared_2 0 rfl rfl)
theorem dX6_compared_48 : decode cX6_compared 48 = .ok (.ifCond .ne 5, 3) := dk_154 0 5 (dk_at dksX6_compared_2 3 rfl rfl)
theorem dX6_compared_51 : decode cX6_compared 51 = .ok (.iconst 0, 1) := dk_3 (dk_at dksX6_compared_2 6 rfl rfl)
theorem dX6_compared_52 : decode cX6_compared 52 = .ok (.ireturn, 1) := dk_172 (dk_at dksX6_compared_2 7 rfl rfl)
theorem dX6_compared_53 : decode cX6_compared 53 = .ok (.aload_n 0, 1) := dk_42 (dk_at dksX6_compared_2 8 rfl rfl)
theorem dX6_compared_54 : decode cX6_compared 54 = .ok (.iconst 3, 1) := dk_6 (dk_at dksX6_compared_2 9 rfl rfl)
theorem dX6_compared_55 : decode cX6_compared 55 = .ok (.iload_n 1, 1) := dk_27 (dk_at dksX6_compared_2 10 rfl rfl)
theorem dX6_compared_56 : decode cX6_compared 56 = .ok (.invokevirtual 87, 3) := dk_182 0 87 (dk_at dksX6_compared_2 11 rfl rfl)
theorem dX6_compared_59 : decode cX6_compared 59 = .ok (.iconst 1, 1) := dk_4 (dk_at dksX6_compared_2 14 rfl rfl)
theorem dX6_compared_60 : decode cX6_compared 60 = .ok (.ireturn, 1) := dk_172 (dk_at dksX6_compared_2 15 rfl rfl)
abbrev cX6_sum : ByteArray := prog_20_method_18_code
def yX6_sum : MethodName := ⟨RX6, "sum", "()Z"⟩
def dkwX6_sum_2 : List UInt8 := [154, 0, 5, 3, 172, 42, 6, 27, 182, 0, 87, 167, 255, 208, 4, 172]
abbrev dktX6_sum_2 : List UInt8 := dkwX6_sum_2 ++ []
def dkwX6_sum_1 : List UInt8 := [160, 0, 36, 42, 182, 0, 83, 60, 42, 89, 180, 0, 69, 4, 96, 181, 0, 69, 42, 182, 0, 97]
abbrev dktX6_sum_1 : List UInt8 := dkwX6_sum_1 ++ dktX6_sum_2
def dkwX6_sum_0 : List UInt8 := [42, 182, 0, 97, 154, 0, 5, 3, 172, 42, 182, 0, 83, 16, 43, 159, 0, 12, 42, 182, 0, 83, 16, 45]
abbrev dktX6_sum_0 : List UInt8 := dkwX6_sum_0 ++ dktX6_sum_1
theorem dksX6_sum_0 : cX6_sum.data.toList.drop 0 = dktX6_sum_0 := by decide +kernel
theorem dksX6_sum_1 : cX6_sum.data.toList.drop 24 = dktX6_sum_1 := dk_seg dksX6_sum_0 24 rfl rfl
theorem dksX6_sum_2 : cX6_sum.data.toList.drop 46 = dktX6_sum_2 := dk_seg dksX6_sum_1 22 rfl rfl
theorem dX6_sum_0 : decode cX6_sum 0 = .ok (.aload_n 0, 1) := dk_42 (dk_at dksX6_sum_0 0 rfl rfl)
theorem dX6_sum_1 : decode cX6_sum 1 = .ok (.invokevirtual 97, 3) := dk_182 0 97 (dk_at dksX6_sum_0 1 rfl rfl)
theorem dX6_sum_4 : decode cX6_sum 4 = .ok (.ifCond .ne 5, 3) := dk_154 0 5 (dk_at dksX6_sum_0 4 rfl rfl)
theorem dX6_sum_7 : decode cX6_sum 7 = .ok (.iconst 0, 1) := dk_3 (dk_at dksX6_sum_0 7 rfl rfl)
theorem dX6_sum_8 : decode cX6_sum 8 = .ok (.ireturn, 1) := dk_172 (dk_at dksX6_sum_0 8 rfl rfl)
theorem dX6_sum_9 : decode cX6_sum 9 = .ok (.aload_n 0, 1) := dk_42 (dk_at dksX6_sum_0 9 rfl rfl)
theorem dX6_sum_10 : decode cX6_sum 10 = .ok (.invokevirtual 83, 3) := dk_182 0 83 (dk_at dksX6_sum_0 10 rfl rfl)
theorem dX6_sum_13 : decode cX6_sum 13 = .ok (.bipush 43, 2) := dk_16 43 (dk_at dksX6_sum_0 13 rfl rfl)
theorem dX6_sum_15 : decode cX6_sum 15 = .ok (.if_icmp .eq 12, 3) := dk_159 0 12 (dk_at dksX6_sum_0 15 rfl rfl)
theorem dX6_sum_18 : decode cX6_sum 18 = .ok (.aload_n 0, 1) := dk_42 (dk_at dksX6_sum_0 18 rfl rfl)
theorem dX6_sum_19 : decode cX6_sum 19 = .ok (.invokevirtual 83, 3) := dk_182 0 83 (dk_at dksX6_sum_0 19 rfl rfl)
theorem dX6_sum_22 : decode cX6_sum 22 = .ok (.bipush 45, 2) := dk_16 45 (dk_at dksX6_sum_0 22 rfl rfl)
theorem dX6_sum_24 : decode cX6_sum 24 = .ok (.if_icmp .ne 36, 3) := dk_160 0 36 (dk_at dksX6_sum_1 0 rfl rfl)
theorem dX6_sum_27 : decode cX6_sum 27 = .ok (.aload_n 0, 1) := dk_42 (dk_at dksX6_sum_1 3 rfl rfl)
theorem dX6_sum_28 : decode cX6_sum 28 = .ok (.invokevirtual 83, 3) := dk_182 0 83 (dk_at dksX6_sum_1 4 rfl rfl)
theorem dX6_sum_31 : decode cX6_sum 31 = .ok (.istore_n 1, 1) := dk_60 (dk_at dksX6_sum_1 7 rfl rfl)
theorem dX6_sum_32 : decode cX6_sum 32 = .ok (.aload_n 0, 1) := dk_42 (dk_at dksX6_sum_1 8 rfl rfl)
theorem dX6_sum_33 : decode cX6_sum 33 = .ok (.dup, 1) := dk_89 (dk_at dksX6_sum_1 9 rfl rfl)
theorem dX6_sum_34 : decode cX6_sum 34 = .ok (.getfield 69, 3) := dk_180 0 69 (dk_at dksX6_sum_1 10 rfl rfl)
theorem dX6_sum_37 : decode cX6_sum 37 = .ok (.iconst 1, 1) := dk_4 (dk_at dksX6_sum_1 13 rfl rfl)
theorem dX6_sum_38 : decode cX6_sum 38 = .ok (.iadd, 1) := dk_96 (dk_at dksX6_sum_1 14 rfl rfl)
theorem dX6_sum_39 : decode cX6_sum 39 = .ok (.putfield 69, 3) := dk_181 0 69 (dk_at dksX6_sum_1 15 rfl rfl)
theorem dX6_sum_42 : decode cX6_sum 42 = .ok (.aload_n 0, 1) := dk_42 (dk_at dksX6_sum_1 18 rfl rfl)
theorem dX6_sum_43 : decode cX6_sum 43 = .ok (.invokevirtual 97, 3) := dk_182 0 97 (dk_at dksX6_sum_1 19 rfl rfl)
theorem dX6_sum_46 : decode cX6_sum 46 = .ok (.ifCond .ne 5, 3) := dk_154 0 5 (dk_at dksX6_sum_2 0 rfl rfl)
theorem dX6_sum_49 : decode cX6_sum 49 = .ok (.iconst 0, 1) := dk_3 (dk_at dksX6_sum_2 3 rfl rfl)
theorem dX6_sum_50 : decode cX6_sum 50 = .ok (.ireturn, 1) := dk_172 (dk_at dksX6_sum_2 4 rfl rfl)
theorem dX6_sum_51 : decode cX6_sum 51 = .ok (.aload_n 0, 1) := dk_42 (dk_at dksX6_sum_2 5 rfl rfl)
theorem dX6_sum_52 : decode cX6_sum 52 = .ok (.iconst 3, 1) := dk_6 (dk_at dksX6_sum_2 6 rfl rfl)
theorem dX6_sum_53 : decode cX6_sum 53 = .ok (.iload_n 1, 1) := dk_27 (dk_at dksX6_sum_2 7 rfl rfl)
theorem dX6_sum_54 : decode cX6_sum 54 = .ok (.invokevirtual 87, 3) := dk_182 0 87 (dk_at dksX6_sum_2 8 rfl rfl)
theorem dX6_sum_57 : decode cX6_sum 57 = .ok (.goto (-48), 3) := dk_167 255 208 (dk_at dksX6_sum_2 11 rfl rfl)
theorem dX6_sum_60 : decode cX6_sum 60 = .ok (.iconst 1, 1) := dk_4 (dk_at dksX6_sum_2 14 rfl rfl)
theorem dX6_sum_61 : decode cX6_sum 61 = .ok (.ireturn, 1) := dk_172 (dk_at dksX6_sum_2 15 rfl rfl)
abbrev cX6_product : ByteArray := prog_20_method_19_code
def yX6_product : MethodName := ⟨RX6, "product", "()Z"⟩
def dkwX6_product_2 : List UInt8 := [181, 0, 69, 42, 182, 0, 100, 154, 0, 5, 3, 172, 42, 6, 27, 182, 0, 87, 167, 255, 199, 4, 172]
abbrev dktX6_product_2 : List UInt8 := dkwX6_product_2 ++ []
def dkwX6_product_1 : List UInt8 := [159, 0, 12, 42, 182, 0, 83, 16, 37, 160, 0, 36, 42, 182, 0, 83, 60, 42, 89, 180, 0, 69, 4, 96]
abbrev dktX6_product_1 : List UInt8 := dkwX6_product_1 ++ dktX6_product_2
def dkwX6_product_0 : List UInt8 := [42, 182, 0, 100, 154, 0, 5, 3, 172, 42, 182, 0, 83, 16, 42, 159, 0, 21, 42, 182, 0, 83, 16, 47]
abbrev dktX6_product_0 : List UInt8 := dkwX6_product_0 ++ dktX6_product_1
theorem dksX6_product_0 : cX6_product.data.toList.drop 0 = dktX6_product_0 := by decide +kernel
theorem dksX6_product_1 : cX6_product.data.toList.drop 24 = dktX6_product_1 := dk_seg dksX6_product_0 24 rfl rfl
theorem dksX6_product_2 : cX6_product.data.toList.drop 48 = dktX6_product_2 := dk_seg dksX6_product_1 24 rfl rfl
theorem dX6_product_0 : decode cX6_product 0 = .ok (.aload_n 0, 1) := dk_42 (dk_at dksX6_product_0 0 rfl rfl)
theorem dX6_product_1 : decode cX6_product 1 = .ok (.invokevirtual 100, 3) := dk_182 0 100 (dk_at dksX6_product_0 1 rfl rfl)
theorem dX6_product_4 : decode cX6_product 4 = .ok (.ifCond .ne 5, 3) := dk_154 0 5 (dk_at dksX6_product_0 4 rfl rfl)
theorem dX6_product_7 : decode cX6_product 7 = .ok (.iconst 0, 1) := dk_3 (dk_at dksX6_product_0 7 rfl rfl)
theorem dX6_product_8 : decode cX6_product 8 = .ok (.ireturn, 1) := dk_172 (dk_at dksX6_product_0 8 rfl rfl)
theorem dX6_product_9 : decode cX6_product 9 = .ok (.aload_n 0, 1) := dk_42 (dk_at dksX6_product_0 9 rfl rfl)
theorem dX6_product_10 : decode cX6_product 10 = .ok (.invokevirtual 83, 3) := dk_182 0 83 (dk_at dksX6_product_0 10 rfl rfl)
theorem dX6_product_13 : decode cX6_product 13 = .ok (.bipush 42, 2) := dk_16 42 (dk_at dksX6_product_0 13 rfl rfl)
theorem dX6_product_15 : decode cX6_product 15 = .ok (.if_icmp .eq 21, 3) := dk_159 0 21 (dk_at dksX6_product_0 15 rfl rfl)
theorem dX6_product_18 : decode cX6_product 18 = .ok (.aload_n 0, 1) := dk_42 (dk_at dksX6_product_0 18 rfl rfl)
theorem dX6_product_19 : decode cX6_product 19 = .ok (.invokevirtual 83, 3) := dk_182 0 83 (dk_at dksX6_product_0 19 rfl rfl)
theorem dX6_product_22 : decode cX6_product 22 = .ok (.bipush 47, 2) := dk_16 47 (dk_at dksX6_product_0 22 rfl rfl)
theorem dX6_product_24 : decode cX6_product 24 = .ok (.if_icmp .eq 12, 3) := dk_159 0 12 (dk_at dksX6_product_1 0 rfl rfl)
theorem dX6_product_27 : decode cX6_product 27 = .ok (.aload_n 0, 1) := dk_42 (dk_at dksX6_product_1 3 rfl rfl)
theorem dX6_product_28 : decode cX6_product 28 = .ok (.invokevirtual 83, 3) := dk_182 0 83 (dk_at dksX6_product_1 4 rfl rfl)
theorem dX6_product_31 : decode cX6_product 31 = .ok (.bipush 37, 2) := dk_16 37 (dk_at dksX6_product_1 7 rfl rfl)
theorem dX6_product_33 : decode cX6_product 33 = .ok (.if_icmp .ne 36, 3) := dk_160 0 36 (dk_at dksX6_product_1 9 rfl rfl)
theorem dX6_product_36 : decode cX6_product 36 = .ok (.aload_n 0, 1) := dk_42 (dk_at dksX6_product_1 12 rfl rfl)
theorem dX6_product_37 : decode cX6_product 37 = .ok (.invokevirtual 83, 3) := dk_182 0 83 (dk_at dksX6_product_1 13 rfl rfl)
theorem dX6_product_40 : decode cX6_product 40 = .ok (.istore_n 1, 1) := dk_60 (dk_at dksX6_product_1 16 rfl rfl)
theorem dX6_product_41 : decode cX6_product 41 = .ok (.aload_n 0, 1) := dk_42 (dk_at dksX6_product_1 17 rfl rfl)
theorem dX6_product_42 : decode cX6_product 42 = .ok (.dup, 1) := dk_89 (dk_at dksX6_product_1 18 rfl rfl)
theorem dX6_product_43 : decode cX6_product 43 = .ok (.getfield 69, 3) := dk_180 0 69 (dk_at dksX6_product_1 19 rfl rfl)
theorem dX6_product_46 : decode cX6_product 46 = .ok (.iconst 1, 1) := dk_4 (dk_at dksX6_product_1 22 rfl rfl)
theorem dX6_product_47 : decode cX6_product 47 = .ok (.iadd, 1) := dk_96 (dk_at dksX6_product_1 23 rfl rfl)
theorem dX6_product_48 : decode cX6_product 48 = .ok (.putfield 69, 3) := dk_181 0 69 (dk_at dksX6_product_2 0 rfl rfl)
theorem dX6_product_51 : decode cX6_product 51 = .ok (.aload_n 0, 1) := dk_42 (dk_at dksX6_product_2 3 rfl rfl)
theorem dX6_product_52 : decode cX6_product 52 = .ok (.invokevirtual 100, 3) := dk_182 0 100 (dk_at dksX6_product_2 4 rfl rfl)
theorem dX6_product_55 : decode cX6_product 55 = .ok (.ifCond .ne 5, 3) := dk_154 0 5 (dk_at dksX6_product_2 7 rfl rfl)
theorem dX6_product_58 : decode cX6_product 58 = .ok (.iconst 0, 1) := dk_3 (dk_at dksX6_product_2 10 rfl rfl)
theorem dX6_product_59 : decode cX6_product 59 = .ok (.ireturn, 1) := dk_172 (dk_at dksX6_product_2 11 rfl rfl)
theorem dX6_product_60 : decode cX6_product 60 = .ok (.aload_n 0, 1) := dk_42 (dk_at dksX6_product_2 12 rfl rfl)
theorem dX6_product_61 : decode cX6_product 61 = .ok (.iconst 3, 1) := dk_6 (dk_at dksX6_product_2 13 rfl rfl)
theorem dX6_product_62 : decode cX6_product 62 = .ok (.iload_n 1, 1) := dk_27 (dk_at dksX6_product_2 14 rfl rfl)
theorem dX6_product_63 : decode cX6_product 63 = .ok (.invokevirtual 87, 3) := dk_182 0 87 (dk_at dksX6_product_2 15 rfl rfl)
theorem dX6_product_66 : decode cX6_product 66 = .ok (.goto (-57), 3) := dk_167 255 199 (dk_at dksX6_product_2 18 rfl rfl)
theorem dX6_product_69 : decode cX6_product 69 = .ok (.iconst 1, 1) := dk_4 (dk_at dksX6_product_2 21 rfl rfl)
theorem dX6_product_70 : decode cX6_product 70 = .ok (.ireturn, 1) := dk_172 (dk_at dksX6_product_2 22 rfl rfl)
abbrev cX6_one : ByteArray := prog_20_method_21_code
def yX6_one : MethodName := ⟨RX6, "one", "()Z"⟩
def dkwX6_one_8 : List UInt8 := [180, 0, 103, 4, 100, 181, 0, 103, 4, 172]
abbrev dktX6_one_8 : List UInt8 := dkwX6_one_8 ++ []
def dkwX6_one_7 : List UInt8 := [182, 0, 83, 16, 41, 159, 0, 5, 3, 172, 42, 89, 180, 0, 69, 4, 96, 181, 0, 69, 42, 89]
abbrev dktX6_one_7 : List UInt8 := dkwX6_one_7 ++ dktX6_one_8
def dkwX6_one_6 : List UInt8 := [4, 172, 27, 16, 40, 160, 0, 26, 42, 182, 0, 110, 153, 0, 19, 42, 182, 0, 113, 153, 0, 12, 42]
abbrev dktX6_one_6 : List UInt8 := dkwX6_one_6 ++ dktX6_one_7
def dkwX6_one_5 : List UInt8 := [182, 0, 100, 154, 0, 5, 3, 172, 42, 89, 180, 0, 103, 4, 100, 181, 0, 103, 42, 5, 3, 182, 0, 87]
abbrev dktX6_one_5 : List UInt8 := dkwX6_one_5 ++ dktX6_one_6
def dkwX6_one_4 : List UInt8 := [42, 3, 28, 182, 0, 87, 4, 172, 27, 16, 33, 160, 0, 37, 42, 182, 0, 110, 153, 0, 10, 42]
abbrev dktX6_one_4 : List UInt8 := dkwX6_one_4 ++ dktX6_one_5
def dkwX6_one_3 : List UInt8 := [182, 0, 83, 96, 16, 48, 100, 61, 42, 89, 180, 0, 69, 4, 96, 181, 0, 69, 132, 3, 1, 167, 255, 211]
abbrev dktX6_one_3 : List UInt8 := dkwX6_one_3 ++ dktX6_one_4
def dkwX6_one_2 : List UInt8 := [162, 0, 46, 42, 182, 0, 83, 16, 48, 16, 57, 184, 0, 59, 153, 0, 32, 16, 10, 28, 104, 42]
abbrev dktX6_one_2 : List UInt8 := dkwX6_one_2 ++ dktX6_one_3
def dkwX6_one_1 : List UInt8 := [4, 27, 182, 0, 87, 4, 172, 27, 16, 48, 16, 57, 184, 0, 59, 153, 0, 63, 3, 61, 3, 62, 29, 7]
abbrev dktX6_one_1 : List UInt8 := dkwX6_one_1 ++ dktX6_one_2
def dkwX6_one_0 : List UInt8 := [42, 182, 0, 83, 60, 42, 27, 182, 0, 106, 153, 0, 21, 42, 89, 180, 0, 69, 4, 96, 181, 0, 69, 42]
abbrev dktX6_one_0 : List UInt8 := dkwX6_one_0 ++ dktX6_one_1
theorem dksX6_one_0 : cX6_one.data.toList.drop 0 = dktX6_one_0 := by decide +kernel
theorem dksX6_one_1 : cX6_one.data.toList.drop 24 = dktX6_one_1 := dk_seg dksX6_one_0 24 rfl rfl
theorem dksX6_one_2 : cX6_one.data.toList.drop 48 = dktX6_one_2 := dk_seg dksX6_one_1 24 rfl rfl
theorem dksX6_one_3 : cX6_one.data.toList.drop 70 = dktX6_one_3 := dk_seg dksX6_one_2 22 rfl rfl
theorem dksX6_one_4 : cX6_one.data.toList.drop 94 = dktX6_one_4 := dk_seg dksX6_one_3 24 rfl rfl
theorem dksX6_one_5 : cX6_one.data.toList.drop 116 = dktX6_one_5 := dk_seg dksX6_one_4 22 rfl rfl
theorem dksX6_one_6 : cX6_one.data.toList.drop 140 = dktX6_one_6 := dk_seg dksX6_one_5 24 rfl rfl
theorem dksX6_one_7 : cX6_one.data.toList.drop 163 = dktX6_one_7 := dk_seg dksX6_one_6 23 rfl rfl
theorem dksX6_one_8 : cX6_one.data.toList.drop 185 = dktX6_one_8 := dk_seg dksX6_one_7 22 rfl rfl
theorem dX6_one_0 : decode cX6_one 0 = .ok (.aload_n 0, 1) := dk_42 (dk_at dksX6_one_0 0 rfl rfl)
theorem dX6_one_1 : decode cX6_one 1 = .ok (.invokevirtual 83, 3) := dk_182 0 83 (dk_at dksX6_one_0 1 rfl rfl)
theorem dX6_one_4 : decode cX6_one 4 = .ok (.istore_n 1, 1) := dk_60 (dk_at dksX6_one_0 4 rfl rfl)
theorem dX6_one_5 : decode cX6_one 5 = .ok (.aload_n 0, 1) := dk_42 (dk_at dksX6_one_0 5 rfl rfl)
theorem dX6_one_6 : decode cX6_one 6 = .ok (.iload_n 1, 1) := dk_27 (dk_at dksX6_one_0 6 rfl rfl)
theorem dX6_one_7 : decode cX6_one 7 = .ok (.invokevirtual 106, 3) := dk_182 0 106 (dk_at dksX6_one_0 7 rfl rfl)
theorem dX6_one_10 : decode cX6_one 10 = .ok (.ifCond .eq 21, 3) := dk_153 0 21 (dk_at dksX6_one_0 10 rfl rfl)
theorem dX6_one_13 : decode cX6_one 13 = .ok (.aload_n 0, 1) := dk_42 (dk_at dksX6_one_0 13 rfl rfl)
theorem dX6_one_14 : decode cX6_one 14 = .ok (.dup, 1) := dk_89 (dk_at dksX6_one_0 14 rfl rfl)
theorem dX6_one_15 : decode cX6_one 15 = .ok (.getfield 69, 3) := dk_180 0 69 (dk_at dksX6_one_0 15 rfl rfl)
theorem dX6_one_18 : decode cX6_one 18 = .ok (.iconst 1, 1) := dk_4 (dk_at dksX6_one_0 18 rfl rfl)
theorem dX6_one_19 : decode cX6_one 19 = .ok (.iadd, 1) := dk_96 (dk_at dksX6_one_0 19 rfl rfl)
theorem dX6_one_20 : decode cX6_one 20 = .ok (.putfield 69, 3) := dk_181 0 69 (dk_at dksX6_one_0 20 rfl rfl)
theorem dX6_one_23 : decode cX6_one 23 = .ok (.aload_n 0, 1) := dk_42 (dk_at dksX6_one_0 23 rfl rfl)
theorem dX6_one_24 : decode cX6_one 24 = .ok (.iconst 1, 1) := dk_4 (dk_at dksX6_one_1 0 rfl rfl)
theorem dX6_one_25 : decode cX6_one 25 = .ok (.iload_n 1, 1) := dk_27 (dk_at dksX6_one_1 1 rfl rfl)
theorem dX6_one_26 : decode cX6_one 26 = .ok (.invokevirtual 87, 3) := dk_182 0 87 (dk_at dksX6_one_1 2 rfl rfl)
theorem dX6_one_29 : decode cX6_one 29 = .ok (.iconst 1, 1) := dk_4 (dk_at dksX6_one_1 5 rfl rfl)
theorem dX6_one_30 : decode cX6_one 30 = .ok (.ireturn, 1) := dk_172 (dk_at dksX6_one_1 6 rfl rfl)
theorem dX6_one_31 : decode cX6_one 31 = .ok (.iload_n 1, 1) := dk_27 (dk_at dksX6_one_1 7 rfl rfl)
theorem dX6_one_32 : decode cX6_one 32 = .ok (.bipush 48, 2) := dk_16 48 (dk_at dksX6_one_1 8 rfl rfl)
theorem dX6_one_34 : decode cX6_one 34 = .ok (.bipush 57, 2) := dk_16 57 (dk_at dksX6_one_1 10 rfl rfl)
theorem dX6_one_36 : decode cX6_one 36 = .ok (.invokestatic 59, 3) := dk_184 0 59 (dk_at dksX6_one_1 12 rfl rfl)
theorem dX6_one_39 : decode cX6_one 39 = .ok (.ifCond .eq 63, 3) := dk_153 0 63 (dk_at dksX6_one_1 15 rfl rfl)
theorem dX6_one_42 : decode cX6_one 42 = .ok (.iconst 0, 1) := dk_3 (dk_at dksX6_one_1 18 rfl rfl)
theorem dX6_one_43 : decode cX6_one 43 = .ok (.istore_n 2, 1) := dk_61 (dk_at dksX6_one_1 19 rfl rfl)
theorem dX6_one_44 : decode cX6_one 44 = .ok (.iconst 0, 1) := dk_3 (dk_at dksX6_one_1 20 rfl rfl)
theorem dX6_one_45 : decode cX6_one 45 = .ok (.istore_n 3, 1) := dk_62 (dk_at dksX6_one_1 21 rfl rfl)
theorem dX6_one_46 : decode cX6_one 46 = .ok (.iload_n 3, 1) := dk_29 (dk_at dksX6_one_1 22 rfl rfl)
theorem dX6_one_47 : decode cX6_one 47 = .ok (.iconst 4, 1) := dk_7 (dk_at dksX6_one_1 23 rfl rfl)
theorem dX6_one_48 : decode cX6_one 48 = .ok (.if_icmp .ge 46, 3) := dk_162 0 46 (dk_at dksX6_one_2 0 rfl rfl)
theorem dX6_one_51 : decode cX6_one 51 = .ok (.aload_n 0, 1) := dk_42 (dk_at dksX6_one_2 3 rfl rfl)
theorem dX6_one_52 : decode cX6_one 52 = .ok (.invokevirtual 83, 3) := dk_182 0 83 (dk_at dksX6_one_2 4 rfl rfl)
theorem dX6_one_55 : decode cX6_one 55 = .ok (.bipush 48, 2) := dk_16 48 (dk_at dksX6_one_2 7 rfl rfl)
theorem dX6_one_57 : decode cX6_one 57 = .ok (.bipush 57, 2) := dk_16 57 (dk_at dksX6_one_2 9 rfl rfl)
theorem dX6_one_59 : decode cX6_one 59 = .ok (.invokestatic 59, 3) := dk_184 0 59 (dk_at dksX6_one_2 11 rfl rfl)
theorem dX6_one_62 : decode cX6_one 62 = .ok (.ifCond .eq 32, 3) := dk_153 0 32 (dk_at dksX6_one_2 14 rfl rfl)
theorem dX6_one_65 : decode cX6_one 65 = .ok (.bipush 10, 2) := dk_16 10 (dk_at dksX6_one_2 17 rfl rfl)
theorem dX6_one_67 : decode cX6_one 67 = .ok (.iload_n 2, 1) := dk_28 (dk_at dksX6_one_2 19 rfl rfl)
theorem dX6_one_68 : decode cX6_one 68 = .ok (.imul, 1) := dk_104 (dk_at dksX6_one_2 20 rfl rfl)
theorem dX6_one_69 : decode cX6_one 69 = .ok (.aload_n 0, 1) := dk_42 (dk_at dksX6_one_2 21 rfl rfl)
theorem dX6_one_70 : decode cX6_one 70 = .ok (.invokevirtual 83, 3) := dk_182 0 83 (dk_at dksX6_one_3 0 rfl rfl)
theorem dX6_one_73 : decode cX6_one 73 = .ok (.iadd, 1) := dk_96 (dk_at dksX6_one_3 3 rfl rfl)
theorem dX6_one_74 : decode cX6_one 74 = .ok (.bipush 48, 2) := dk_16 48 (dk_at dksX6_one_3 4 rfl rfl)
theorem dX6_one_76 : decode cX6_one 76 = .ok (.isub, 1) := dk_100 (dk_at dksX6_one_3 6 rfl rfl)
theorem dX6_one_77 : decode cX6_one 77 = .ok (.istore_n 2, 1) := dk_61 (dk_at dksX6_one_3 7 rfl rfl)
theorem dX6_one_78 : decode cX6_one 78 = .ok (.aload_n 0, 1) := dk_42 (dk_at dksX6_one_3 8 rfl rfl)
theorem dX6_one_79 : decode cX6_one 79 = .ok (.dup, 1) := dk_89 (dk_at dksX6_one_3 9 rfl rfl)
theorem dX6_one_80 : decode cX6_one 80 = .ok (.getfield 69, 3) := dk_180 0 69 (dk_at dksX6_one_3 10 rfl rfl)
theorem dX6_one_83 : decode cX6_one 83 = .ok (.iconst 1, 1) := dk_4 (dk_at dksX6_one_3 13 rfl rfl)
theorem dX6_one_84 : decode cX6_one 84 = .ok (.iadd, 1) := dk_96 (dk_at dksX6_one_3 14 rfl rfl)
theorem dX6_one_85 : decode cX6_one 85 = .ok (.putfield 69, 3) := dk_181 0 69 (dk_at dksX6_one_3 15 rfl rfl)
theorem dX6_one_88 : decode cX6_one 88 = .ok (.iinc 3 1, 3) := dk_132 3 1 (dk_at dksX6_one_3 18 rfl rfl)
theorem dX6_one_91 : decode cX6_one 91 = .ok (.goto (-45), 3) := dk_167 255 211 (dk_at dksX6_one_3 21 rfl rfl)
theorem dX6_one_94 : decode cX6_one 94 = .ok (.aload_n 0, 1) := dk_42 (dk_at dksX6_one_4 0 rfl rfl)
theorem dX6_one_95 : decode cX6_one 95 = .ok (.iconst 0, 1) := dk_3 (dk_at dksX6_one_4 1 rfl rfl)
theorem dX6_one_96 : decode cX6_one 96 = .ok (.iload_n 2, 1) := dk_28 (dk_at dksX6_one_4 2 rfl rfl)
theorem dX6_one_97 : decode cX6_one 97 = .ok (.invokevirtual 87, 3) := dk_182 0 87 (dk_at dksX6_one_4 3 rfl rfl)
theorem dX6_one_100 : decode cX6_one 100 = .ok (.iconst 1, 1) := dk_4 (dk_at dksX6_one_4 6 rfl rfl)
theorem dX6_one_101 : decode cX6_one 101 = .ok (.ireturn, 1) := dk_172 (dk_at dksX6_one_4 7 rfl rfl)
theorem dX6_one_102 : decode cX6_one 102 = .ok (.iload_n 1, 1) := dk_27 (dk_at dksX6_one_4 8 rfl rfl)
theorem dX6_one_103 : decode cX6_one 103 = .ok (.bipush 33, 2) := dk_16 33 (dk_at dksX6_one_4 9 rfl rfl)
theorem dX6_one_105 : decode cX6_one 105 = .ok (.if_icmp .ne 37, 3) := dk_160 0 37 (dk_at dksX6_one_4 11 rfl rfl)
theorem dX6_one_108 : decode cX6_one 108 = .ok (.aload_n 0, 1) := dk_42 (dk_at dksX6_one_4 14 rfl rfl)
theorem dX6_one_109 : decode cX6_one 109 = .ok (.invokevirtual 110, 3) := dk_182 0 110 (dk_at dksX6_one_4 15 rfl rfl)
theorem dX6_one_112 : decode cX6_one 112 = .ok (.ifCond .eq 10, 3) := dk_153 0 10 (dk_at dksX6_one_4 18 rfl rfl)
theorem dX6_one_115 : decode cX6_one 115 = .ok (.aload_n 0, 1) := dk_42 (dk_at dksX6_one_4 21 rfl rfl)
theorem dX6_one_116 : decode cX6_one 116 = .ok (.invokevirtual 100, 3) := dk_182 0 100 (dk_at dksX6_one_5 0 rfl rfl)
theorem dX6_one_119 : decode cX6_one 119 = .ok (.ifCond .ne 5, 3) := dk_154 0 5 (dk_at dksX6_one_5 3 rfl rfl)
theorem dX6_one_122 : decode cX6_one 122 = .ok (.iconst 0, 1) := dk_3 (dk_at dksX6_one_5 6 rfl rfl)
theorem dX6_one_123 : decode cX6_one 123 = .ok (.ireturn, 1) := dk_172 (dk_at dksX6_one_5 7 rfl rfl)
theorem dX6_one_124 : decode cX6_one 124 = .ok (.aload_n 0, 1) := dk_42 (dk_at dksX6_one_5 8 rfl rfl)
theorem dX6_one_125 : decode cX6_one 125 = .ok (.dup, 1) := dk_89 (dk_at dksX6_one_5 9 rfl rfl)
theorem dX6_one_126 : decode cX6_one 126 = .ok (.getfield 103, 3) := dk_180 0 103 (dk_at dksX6_one_5 10 rfl rfl)
theorem dX6_one_129 : decode cX6_one 129 = .ok (.iconst 1, 1) := dk_4 (dk_at dksX6_one_5 13 rfl rfl)
theorem dX6_one_130 : decode cX6_one 130 = .ok (.isub, 1) := dk_100 (dk_at dksX6_one_5 14 rfl rfl)
theorem dX6_one_131 : decode cX6_one 131 = .ok (.putfield 103, 3) := dk_181 0 103 (dk_at dksX6_one_5 15 rfl rfl)
theorem dX6_one_134 : decode cX6_one 134 = .ok (.aload_n 0, 1) := dk_42 (dk_at dksX6_one_5 18 rfl rfl)
theorem dX6_one_135 : decode cX6_one 135 = .ok (.iconst 2, 1) := dk_5 (dk_at dksX6_one_5 19 rfl rfl)
theorem dX6_one_136 : decode cX6_one 136 = .ok (.iconst 0, 1) := dk_3 (dk_at dksX6_one_5 20 rfl rfl)
theorem dX6_one_137 : decode cX6_one 137 = .ok (.invokevirtual 87, 3) := dk_182 0 87 (dk_at dksX6_one_5 21 rfl rfl)
theorem dX6_one_140 : decode cX6_one 140 = .ok (.iconst 1, 1) := dk_4 (dk_at dksX6_one_6 0 rfl rfl)
theorem dX6_one_141 : decode cX6_one 141 = .ok (.ireturn, 1) := dk_172 (dk_at dksX6_one_6 1 rfl rfl)
theorem dX6_one_142 : decode cX6_one 142 = .ok (.iload_n 1, 1) := dk_27 (dk_at dksX6_one_6 2 rfl rfl)
theorem dX6_one_143 : decode cX6_one 143 = .ok (.bipush 40, 2) := dk_16 40 (dk_at dksX6_one_6 3 rfl rfl)
theorem dX6_one_145 : decode cX6_one 145 = .ok (.if_icmp .ne 26, 3) := dk_160 0 26 (dk_at dksX6_one_6 5 rfl rfl)
theorem dX6_one_148 : decode cX6_one 148 = .ok (.aload_n 0, 1) := dk_42 (dk_at dksX6_one_6 8 rfl rfl)
theorem dX6_one_149 : decode cX6_one 149 = .ok (.invokevirtual 110, 3) := dk_182 0 110 (dk_at dksX6_one_6 9 rfl rfl)
theorem dX6_one_152 : decode cX6_one 152 = .ok (.ifCond .eq 19, 3) := dk_153 0 19 (dk_at dksX6_one_6 12 rfl rfl)
theorem dX6_one_155 : decode cX6_one 155 = .ok (.aload_n 0, 1) := dk_42 (dk_at dksX6_one_6 15 rfl rfl)
theorem dX6_one_156 : decode cX6_one 156 = .ok (.invokevirtual 113, 3) := dk_182 0 113 (dk_at dksX6_one_6 16 rfl rfl)
theorem dX6_one_159 : decode cX6_one 159 = .ok (.ifCond .eq 12, 3) := dk_153 0 12 (dk_at dksX6_one_6 19 rfl rfl)
theorem dX6_one_162 : decode cX6_one 162 = .ok (.aload_n 0, 1) := dk_42 (dk_at dksX6_one_6 22 rfl rfl)
theorem dX6_one_163 : decode cX6_one 163 = .ok (.invokevirtual 83, 3) := dk_182 0 83 (dk_at dksX6_one_7 0 rfl rfl)
theorem dX6_one_166 : decode cX6_one 166 = .ok (.bipush 41, 2) := dk_16 41 (dk_at dksX6_one_7 3 rfl rfl)
theorem dX6_one_168 : decode cX6_one 168 = .ok (.if_icmp .eq 5, 3) := dk_159 0 5 (dk_at dksX6_one_7 5 rfl rfl)
theorem dX6_one_171 : decode cX6_one 171 = .ok (.iconst 0, 1) := dk_3 (dk_at dksX6_one_7 8 rfl rfl)
theorem dX6_one_172 : decode cX6_one 172 = .ok (.ireturn, 1) := dk_172 (dk_at dksX6_one_7 9 rfl rfl)
theorem dX6_one_173 : decode cX6_one 173 = .ok (.aload_n 0, 1) := dk_42 (dk_at dksX6_one_7 10 rfl rfl)
theorem dX6_one_174 : decode cX6_one 174 = .ok (.dup, 1) := dk_89 (dk_at dksX6_one_7 11 rfl rfl)
theorem dX6_one_175 : decode cX6_one 175 = .ok (.getfield 69, 3) := dk_180 0 69 (dk_at dksX6_one_7 12 rfl rfl)
theorem dX6_one_178 : decode cX6_one 178 = .ok (.iconst 1, 1) := dk_4 (dk_at dksX6_one_7 15 rfl rfl)
theorem dX6_one_179 : decode cX6_one 179 = .ok (.iadd, 1) := dk_96 (dk_at dksX6_one_7 16 rfl rfl)
theorem dX6_one_180 : decode cX6_one 180 = .ok (.putfield 69, 3) := dk_181 0 69 (dk_at dksX6_one_7 17 rfl rfl)
theorem dX6_one_183 : decode cX6_one 183 = .ok (.aload_n 0, 1) := dk_42 (dk_at dksX6_one_7 20 rfl rfl)
theorem dX6_one_184 : decode cX6_one 184 = .ok (.dup, 1) := dk_89 (dk_at dksX6_one_7 21 rfl rfl)
theorem dX6_one_185 : decode cX6_one 185 = .ok (.getfield 103, 3) := dk_180 0 103 (dk_at dksX6_one_8 0 rfl rfl)
theorem dX6_one_188 : decode cX6_one 188 = .ok (.iconst 1, 1) := dk_4 (dk_at dksX6_one_8 3 rfl rfl)
theorem dX6_one_189 : decode cX6_one 189 = .ok (.isub, 1) := dk_100 (dk_at dksX6_one_8 4 rfl rfl)
theorem dX6_one_190 : decode cX6_one 190 = .ok (.putfield 103, 3) := dk_181 0 103 (dk_at dksX6_one_8 5 rfl rfl)
theorem dX6_one_193 : decode cX6_one 193 = .ok (.iconst 1, 1) := dk_4 (dk_at dksX6_one_8 8 rfl rfl)
theorem dX6_one_194 : decode cX6_one 194 = .ok (.ireturn, 1) := dk_172 (dk_at dksX6_one_8 9 rfl rfl)
abbrev cX6_look : ByteArray := prog_20_method_12_code
def yX6_look : MethodName := ⟨RX6, "look", "()I"⟩
def dkwX6_look_1 : List UInt8 := [96, 46, 167, 0, 4, 2, 172]
abbrev dktX6_look_1 : List UInt8 := dkwX6_look_1 ++ []
def dkwX6_look_0 : List UInt8 := [42, 180, 0, 69, 42, 180, 0, 7, 6, 46, 162, 0, 19, 42, 180, 0, 7, 17, 1, 34, 42, 180, 0, 69]
abbrev dktX6_look_0 : List UInt8 := dkwX6_look_0 ++ dktX6_look_1
theorem dksX6_look_0 : cX6_look.data.toList.drop 0 = dktX6_look_0 := by decide +kernel
theorem dksX6_look_1 : cX6_look.data.toList.drop 24 = dktX6_look_1 := dk_seg dksX6_look_0 24 rfl rfl
theorem dX6_look_0 : decode cX6_look 0 = .ok (.aload_n 0, 1) := dk_42 (dk_at dksX6_look_0 0 rfl rfl)
theorem dX6_look_1 : decode cX6_look 1 = .ok (.getfield 69, 3) := dk_180 0 69 (dk_at dksX6_look_0 1 rfl rfl)
theorem dX6_look_4 : decode cX6_look 4 = .ok (.aload_n 0, 1) := dk_42 (dk_at dksX6_look_0 4 rfl rfl)
theorem dX6_look_5 : decode cX6_look 5 = .ok (.getfield 7, 3) := dk_180 0 7 (dk_at dksX6_look_0 5 rfl rfl)
theorem dX6_look_8 : decode cX6_look 8 = .ok (.iconst 3, 1) := dk_6 (dk_at dksX6_look_0 8 rfl rfl)
theorem dX6_look_9 : decode cX6_look 9 = .ok (.iaload, 1) := dk_46 (dk_at dksX6_look_0 9 rfl rfl)
theorem dX6_look_10 : decode cX6_look 10 = .ok (.if_icmp .ge 19, 3) := dk_162 0 19 (dk_at dksX6_look_0 10 rfl rfl)
theorem dX6_look_13 : decode cX6_look 13 = .ok (.aload_n 0, 1) := dk_42 (dk_at dksX6_look_0 13 rfl rfl)
theorem dX6_look_14 : decode cX6_look 14 = .ok (.getfield 7, 3) := dk_180 0 7 (dk_at dksX6_look_0 14 rfl rfl)
theorem dX6_look_17 : decode cX6_look 17 = .ok (.sipush 290, 3) := dk_17 1 34 (dk_at dksX6_look_0 17 rfl rfl)
theorem dX6_look_20 : decode cX6_look 20 = .ok (.aload_n 0, 1) := dk_42 (dk_at dksX6_look_0 20 rfl rfl)
theorem dX6_look_21 : decode cX6_look 21 = .ok (.getfield 69, 3) := dk_180 0 69 (dk_at dksX6_look_0 21 rfl rfl)
theorem dX6_look_24 : decode cX6_look 24 = .ok (.iadd, 1) := dk_96 (dk_at dksX6_look_1 0 rfl rfl)
theorem dX6_look_25 : decode cX6_look 25 = .ok (.iaload, 1) := dk_46 (dk_at dksX6_look_1 1 rfl rfl)
theorem dX6_look_26 : decode cX6_look 26 = .ok (.goto 4, 3) := dk_167 0 4 (dk_at dksX6_look_1 2 rfl rfl)
theorem dX6_look_29 : decode cX6_look 29 = .ok (.iconst (-1), 1) := dk_2 (dk_at dksX6_look_1 5 rfl rfl)
theorem dX6_look_30 : decode cX6_look 30 = .ok (.ireturn, 1) := dk_172 (dk_at dksX6_look_1 6 rfl rfl)
abbrev cX6_isName : ByteArray := prog_20_method_13_code
def yX6_isName : MethodName := ⟨RX6, "isName", "(I)Z"⟩
def dkwX6_isName_2 : List UInt8 := [160, 0, 7, 4, 167, 0, 4, 3, 172]
abbrev dktX6_isName_2 : List UInt8 := dkwX6_isName_2 ++ []
def dkwX6_isName_1 : List UInt8 := [160, 0, 7, 4, 167, 0, 4, 3, 172, 27, 16, 116, 159, 0, 15, 27, 16, 112, 159, 0, 9, 27, 16, 99]
abbrev dktX6_isName_1 : List UInt8 := dkwX6_isName_1 ++ dktX6_isName_2
def dkwX6_isName_0 : List UInt8 := [42, 180, 0, 73, 154, 0, 27, 27, 16, 115, 159, 0, 15, 27, 16, 107, 159, 0, 9, 27, 16, 109]
abbrev dktX6_isName_0 : List UInt8 := dkwX6_isName_0 ++ dktX6_isName_1
theorem dksX6_isName_0 : cX6_isName.data.toList.drop 0 = dktX6_isName_0 := by decide +kernel
theorem dksX6_isName_1 : cX6_isName.data.toList.drop 22 = dktX6_isName_1 := dk_seg dksX6_isName_0 22 rfl rfl
theorem dksX6_isName_2 : cX6_isName.data.toList.drop 46 = dktX6_isName_2 := dk_seg dksX6_isName_1 24 rfl rfl
theorem dX6_isName_0 : decode cX6_isName 0 = .ok (.aload_n 0, 1) := dk_42 (dk_at dksX6_isName_0 0 rfl rfl)
theorem dX6_isName_1 : decode cX6_isName 1 = .ok (.getfield 73, 3) := dk_180 0 73 (dk_at dksX6_isName_0 1 rfl rfl)
theorem dX6_isName_4 : decode cX6_isName 4 = .ok (.ifCond .ne 27, 3) := dk_154 0 27 (dk_at dksX6_isName_0 4 rfl rfl)
theorem dX6_isName_7 : decode cX6_isName 7 = .ok (.iload_n 1, 1) := dk_27 (dk_at dksX6_isName_0 7 rfl rfl)
theorem dX6_isName_8 : decode cX6_isName 8 = .ok (.bipush 115, 2) := dk_16 115 (dk_at dksX6_isName_0 8 rfl rfl)
theorem dX6_isName_10 : decode cX6_isName 10 = .ok (.if_icmp .eq 15, 3) := dk_159 0 15 (dk_at dksX6_isName_0 10 rfl rfl)
theorem dX6_isName_13 : decode cX6_isName 13 = .ok (.iload_n 1, 1) := dk_27 (dk_at dksX6_isName_0 13 rfl rfl)
theorem dX6_isName_14 : decode cX6_isName 14 = .ok (.bipush 107, 2) := dk_16 107 (dk_at dksX6_isName_0 14 rfl rfl)
theorem dX6_isName_16 : decode cX6_isName 16 = .ok (.if_icmp .eq 9, 3) := dk_159 0 9 (dk_at dksX6_isName_0 16 rfl rfl)
theorem dX6_isName_19 : decode cX6_isName 19 = .ok (.iload_n 1, 1) := dk_27 (dk_at dksX6_isName_0 19 rfl rfl)
theorem dX6_isName_20 : decode cX6_isName 20 = .ok (.bipush 109, 2) := dk_16 109 (dk_at dksX6_isName_0 20 rfl rfl)
theorem dX6_isName_22 : decode cX6_isName 22 = .ok (.if_icmp .ne 7, 3) := dk_160 0 7 (dk_at dksX6_isName_1 0 rfl rfl)
theorem dX6_isName_25 : decode cX6_isName 25 = .ok (.iconst 1, 1) := dk_4 (dk_at dksX6_isName_1 3 rfl rfl)
theorem dX6_isName_26 : decode cX6_isName 26 = .ok (.goto 4, 3) := dk_167 0 4 (dk_at dksX6_isName_1 4 rfl rfl)
theorem dX6_isName_29 : decode cX6_isName 29 = .ok (.iconst 0, 1) := dk_3 (dk_at dksX6_isName_1 7 rfl rfl)
theorem dX6_isName_30 : decode cX6_isName 30 = .ok (.ireturn, 1) := dk_172 (dk_at dksX6_isName_1 8 rfl rfl)
theorem dX6_isName_31 : decode cX6_isName 31 = .ok (.iload_n 1, 1) := dk_27 (dk_at dksX6_isName_1 9 rfl rfl)
theorem dX6_isName_32 : decode cX6_isName 32 = .ok (.bipush 116, 2) := dk_16 116 (dk_at dksX6_isName_1 10 rfl rfl)
theorem dX6_isName_34 : decode cX6_isName 34 = .ok (.if_icmp .eq 15, 3) := dk_159 0 15 (dk_at dksX6_isName_1 12 rfl rfl)
theorem dX6_isName_37 : decode cX6_isName 37 = .ok (.iload_n 1, 1) := dk_27 (dk_at dksX6_isName_1 15 rfl rfl)
theorem dX6_isName_38 : decode cX6_isName 38 = .ok (.bipush 112, 2) := dk_16 112 (dk_at dksX6_isName_1 16 rfl rfl)
theorem dX6_isName_40 : decode cX6_isName 40 = .ok (.if_icmp .eq 9, 3) := dk_159 0 9 (dk_at dksX6_isName_1 18 rfl rfl)
theorem dX6_isName_43 : decode cX6_isName 43 = .ok (.iload_n 1, 1) := dk_27 (dk_at dksX6_isName_1 21 rfl rfl)
theorem dX6_isName_44 : decode cX6_isName 44 = .ok (.bipush 99, 2) := dk_16 99 (dk_at dksX6_isName_1 22 rfl rfl)
theorem dX6_isName_46 : decode cX6_isName 46 = .ok (.if_icmp .ne 7, 3) := dk_160 0 7 (dk_at dksX6_isName_2 0 rfl rfl)
theorem dX6_isName_49 : decode cX6_isName 49 = .ok (.iconst 1, 1) := dk_4 (dk_at dksX6_isName_2 3 rfl rfl)
theorem dX6_isName_50 : decode cX6_isName 50 = .ok (.goto 4, 3) := dk_167 0 4 (dk_at dksX6_isName_2 4 rfl rfl)
theorem dX6_isName_53 : decode cX6_isName 53 = .ok (.iconst 0, 1) := dk_3 (dk_at dksX6_isName_2 7 rfl rfl)
theorem dX6_isName_54 : decode cX6_isName 54 = .ok (.ireturn, 1) := dk_172 (dk_at dksX6_isName_2 8 rfl rfl)
abbrev cX6_step1 : ByteArray := prog_20_method_14_code
def yX6_step1 : MethodName := ⟨RX6, "step1", "(II)V"⟩
def dkwX6_step1_1 : List UInt8 := [28, 79, 42, 89, 180, 0, 76, 4, 96, 181, 0, 76, 177]
abbrev dktX6_step1_1 : List UInt8 := dkwX6_step1_1 ++ []
def dkwX6_step1_0 : List UInt8 := [42, 180, 0, 19, 5, 42, 180, 0, 76, 104, 27, 79, 42, 180, 0, 19, 5, 42, 180, 0, 76, 104, 4, 96]
abbrev dktX6_step1_0 : List UInt8 := dkwX6_step1_0 ++ dktX6_step1_1
theorem dksX6_step1_0 : cX6_step1.data.toList.drop 0 = dktX6_step1_0 := by decide +kernel
theorem dksX6_step1_1 : cX6_step1.data.toList.drop 24 = dktX6_step1_1 := dk_seg dksX6_step1_0 24 rfl rfl
theorem dX6_step1_0 : decode cX6_step1 0 = .ok (.aload_n 0, 1) := dk_42 (dk_at dksX6_step1_0 0 rfl rfl)
theorem dX6_step1_1 : decode cX6_step1 1 = .ok (.getfield 19, 3) := dk_180 0 19 (dk_at dksX6_step1_0 1 rfl rfl)
theorem dX6_step1_4 : decode cX6_step1 4 = .ok (.iconst 2, 1) := dk_5 (dk_at dksX6_step1_0 4 rfl rfl)
theorem dX6_step1_5 : decode cX6_step1 5 = .ok (.aload_n 0, 1) := dk_42 (dk_at dksX6_step1_0 5 rfl rfl)
theorem dX6_step1_6 : decode cX6_step1 6 = .ok (.getfield 76, 3) := dk_180 0 76 (dk_at dksX6_step1_0 6 rfl rfl)
theorem dX6_step1_9 : decode cX6_step1 9 = .ok (.imul, 1) := dk_104 (dk_at dksX6_step1_0 9 rfl rfl)
theorem dX6_step1_10 : decode cX6_step1 10 = .ok (.iload_n 1, 1) := dk_27 (dk_at dksX6_step1_0 10 rfl rfl)
theorem dX6_step1_11 : decode cX6_step1 11 = .ok (.iastore, 1) := dk_79 (dk_at dksX6_step1_0 11 rfl rfl)
theorem dX6_step1_12 : decode cX6_step1 12 = .ok (.aload_n 0, 1) := dk_42 (dk_at dksX6_step1_0 12 rfl rfl)
theorem dX6_step1_13 : decode cX6_step1 13 = .ok (.getfield 19, 3) := dk_180 0 19 (dk_at dksX6_step1_0 13 rfl rfl)
theorem dX6_step1_16 : decode cX6_step1 16 = .ok (.iconst 2, 1) := dk_5 (dk_at dksX6_step1_0 16 rfl rfl)
theorem dX6_step1_17 : decode cX6_step1 17 = .ok (.aload_n 0, 1) := dk_42 (dk_at dksX6_step1_0 17 rfl rfl)
theorem dX6_step1_18 : decode cX6_step1 18 = .ok (.getfield 76, 3) := dk_180 0 76 (dk_at dksX6_step1_0 18 rfl rfl)
theorem dX6_step1_21 : decode cX6_step1 21 = .ok (.imul, 1) := dk_104 (dk_at dksX6_step1_0 21 rfl rfl)
theorem dX6_step1_22 : decode cX6_step1 22 = .ok (.iconst 1, 1) := dk_4 (dk_at dksX6_step1_0 22 rfl rfl)
theorem dX6_step1_23 : decode cX6_step1 23 = .ok (.iadd, 1) := dk_96 (dk_at dksX6_step1_0 23 rfl rfl)
theorem dX6_step1_24 : decode cX6_step1 24 = .ok (.iload_n 2, 1) := dk_28 (dk_at dksX6_step1_1 0 rfl rfl)
theorem dX6_step1_25 : decode cX6_step1 25 = .ok (.iastore, 1) := dk_79 (dk_at dksX6_step1_1 1 rfl rfl)
theorem dX6_step1_26 : decode cX6_step1 26 = .ok (.aload_n 0, 1) := dk_42 (dk_at dksX6_step1_1 2 rfl rfl)
theorem dX6_step1_27 : decode cX6_step1 27 = .ok (.dup, 1) := dk_89 (dk_at dksX6_step1_1 3 rfl rfl)
theorem dX6_step1_28 : decode cX6_step1 28 = .ok (.getfield 76, 3) := dk_180 0 76 (dk_at dksX6_step1_1 4 rfl rfl)
theorem dX6_step1_31 : decode cX6_step1 31 = .ok (.iconst 1, 1) := dk_4 (dk_at dksX6_step1_1 7 rfl rfl)
theorem dX6_step1_32 : decode cX6_step1 32 = .ok (.iadd, 1) := dk_96 (dk_at dksX6_step1_1 8 rfl rfl)
theorem dX6_step1_33 : decode cX6_step1 33 = .ok (.putfield 76, 3) := dk_181 0 76 (dk_at dksX6_step1_1 9 rfl rfl)
theorem dX6_step1_36 : decode cX6_step1 36 = .ok (.return_, 1) := dk_177 (dk_at dksX6_step1_1 12 rfl rfl)
abbrev cX6_opens : ByteArray := prog_20_method_20_code
def yX6_opens : MethodName := ⟨RX6, "opens", "()Z"⟩
def dkwX6_opens_1 : List UInt8 := [180, 0, 69, 4, 96, 181, 0, 69, 4, 172]
abbrev dktX6_opens_1 : List UInt8 := dkwX6_opens_1 ++ []
def dkwX6_opens_0 : List UInt8 := [42, 180, 0, 103, 8, 160, 0, 5, 3, 172, 42, 89, 180, 0, 103, 4, 96, 181, 0, 103, 42, 89]
abbrev dktX6_opens_0 : List UInt8 := dkwX6_opens_0 ++ dktX6_opens_1
theorem dksX6_opens_0 : cX6_opens.data.toList.drop 0 = dktX6_opens_0 := by decide +kernel
theorem dksX6_opens_1 : cX6_opens.data.toList.drop 22 = dktX6_opens_1 := dk_seg dksX6_opens_0 22 rfl rfl
theorem dX6_opens_0 : decode cX6_opens 0 = .ok (.aload_n 0, 1) := dk_42 (dk_at dksX6_opens_0 0 rfl rfl)
theorem dX6_opens_1 : decode cX6_opens 1 = .ok (.getfield 103, 3) := dk_180 0 103 (dk_at dksX6_opens_0 1 rfl rfl)
theorem dX6_opens_4 : decode cX6_opens 4 = .ok (.iconst 5, 1) := dk_8 (dk_at dksX6_opens_0 4 rfl rfl)
theorem dX6_opens_5 : decode cX6_opens 5 = .ok (.if_icmp .ne 5, 3) := dk_160 0 5 (dk_at dksX6_opens_0 5 rfl rfl)
theorem dX6_opens_8 : decode cX6_opens 8 = .ok (.iconst 0, 1) := dk_3 (dk_at dksX6_opens_0 8 rfl rfl)
theorem dX6_opens_9 : decode cX6_opens 9 = .ok (.ireturn, 1) := dk_172 (dk_at dksX6_opens_0 9 rfl rfl)
theorem dX6_opens_10 : decode cX6_opens 10 = .ok (.aload_n 0, 1) := dk_42 (dk_at dksX6_opens_0 10 rfl rfl)
theorem dX6_opens_11 : decode cX6_opens 11 = .ok (.dup, 1) := dk_89 (dk_at dksX6_opens_0 11 rfl rfl)
theorem dX6_opens_12 : decode cX6_opens 12 = .ok (.getfield 103, 3) := dk_180 0 103 (dk_at dksX6_opens_0 12 rfl rfl)
theorem dX6_opens_15 : decode cX6_opens 15 = .ok (.iconst 1, 1) := dk_4 (dk_at dksX6_opens_0 15 rfl rfl)
theorem dX6_opens_16 : decode cX6_opens 16 = .ok (.iadd, 1) := dk_96 (dk_at dksX6_opens_0 16 rfl rfl)
theorem dX6_opens_17 : decode cX6_opens 17 = .ok (.putfield 103, 3) := dk_181 0 103 (dk_at dksX6_opens_0 17 rfl rfl)
theorem dX6_opens_20 : decode cX6_opens 20 = .ok (.aload_n 0, 1) := dk_42 (dk_at dksX6_opens_0 20 rfl rfl)
theorem dX6_opens_21 : decode cX6_opens 21 = .ok (.dup, 1) := dk_89 (dk_at dksX6_opens_0 21 rfl rfl)
theorem dX6_opens_22 : decode cX6_opens 22 = .ok (.getfield 69, 3) := dk_180 0 69 (dk_at dksX6_opens_1 0 rfl rfl)
theorem dX6_opens_25 : decode cX6_opens 25 = .ok (.iconst 1, 1) := dk_4 (dk_at dksX6_opens_1 3 rfl rfl)
theorem dX6_opens_26 : decode cX6_opens 26 = .ok (.iadd, 1) := dk_96 (dk_at dksX6_opens_1 4 rfl rfl)
theorem dX6_opens_27 : decode cX6_opens 27 = .ok (.putfield 69, 3) := dk_181 0 69 (dk_at dksX6_opens_1 5 rfl rfl)
theorem dX6_opens_30 : decode cX6_opens 30 = .ok (.iconst 1, 1) := dk_4 (dk_at dksX6_opens_1 8 rfl rfl)
theorem dX6_opens_31 : decode cX6_opens 31 = .ok (.ireturn, 1) := dk_172 (dk_at dksX6_opens_1 9 rfl rfl)
abbrev cX6_untell : ByteArray := prog_20_method_24_code
def yX6_untell : MethodName := ⟨RX6, "untell", "(I)I"⟩
def dkwX6_untell_1 : List UInt8 := [167, 0, 4, 3, 61, 42, 180, 0, 7, 16, 40, 16, 125, 27, 104, 96, 3, 79, 28, 172]
abbrev dktX6_untell_1 : List UInt8 := dkwX6_untell_1 ++ []
def dkwX6_untell_0 : List UInt8 := [27, 3, 4, 184, 0, 59, 154, 0, 9, 42, 4, 182, 0, 63, 172, 42, 27, 182, 0, 116, 153, 0, 7, 4]
abbrev dktX6_untell_0 : List UInt8 := dkwX6_untell_0 ++ dktX6_untell_1
theorem dksX6_untell_0 : cX6_untell.data.toList.drop 0 = dktX6_untell_0 := by decide +kernel
theorem dksX6_untell_1 : cX6_untell.data.toList.drop 24 = dktX6_untell_1 := dk_seg dksX6_untell_0 24 rfl rfl
theorem dX6_untell_0 : decode cX6_untell 0 = .ok (.iload_n 1, 1) := dk_27 (dk_at dksX6_untell_0 0 rfl rfl)
theorem dX6_untell_1 : decode cX6_untell 1 = .ok (.iconst 0, 1) := dk_3 (dk_at dksX6_untell_0 1 rfl rfl)
theorem dX6_untell_2 : decode cX6_untell 2 = .ok (.iconst 1, 1) := dk_4 (dk_at dksX6_untell_0 2 rfl rfl)
theorem dX6_untell_3 : decode cX6_untell 3 = .ok (.invokestatic 59, 3) := dk_184 0 59 (dk_at dksX6_untell_0 3 rfl rfl)
theorem dX6_untell_6 : decode cX6_untell 6 = .ok (.ifCond .ne 9, 3) := dk_154 0 9 (dk_at dksX6_untell_0 6 rfl rfl)
theorem dX6_untell_9 : decode cX6_untell 9 = .ok (.aload_n 0, 1) := dk_42 (dk_at dksX6_untell_0 9 rfl rfl)
theorem dX6_untell_10 : decode cX6_untell 10 = .ok (.iconst 1, 1) := dk_4 (dk_at dksX6_untell_0 10 rfl rfl)
theorem dX6_untell_11 : decode cX6_untell 11 = .ok (.invokevirtual 63, 3) := dk_182 0 63 (dk_at dksX6_untell_0 11 rfl rfl)
theorem dX6_untell_14 : decode cX6_untell 14 = .ok (.ireturn, 1) := dk_172 (dk_at dksX6_untell_0 14 rfl rfl)
theorem dX6_untell_15 : decode cX6_untell 15 = .ok (.aload_n 0, 1) := dk_42 (dk_at dksX6_untell_0 15 rfl rfl)
theorem dX6_untell_16 : decode cX6_untell 16 = .ok (.iload_n 1, 1) := dk_27 (dk_at dksX6_untell_0 16 rfl rfl)
theorem dX6_untell_17 : decode cX6_untell 17 = .ok (.invokevirtual 116, 3) := dk_182 0 116 (dk_at dksX6_untell_0 17 rfl rfl)
theorem dX6_untell_20 : decode cX6_untell 20 = .ok (.ifCond .eq 7, 3) := dk_153 0 7 (dk_at dksX6_untell_0 20 rfl rfl)
theorem dX6_untell_23 : decode cX6_untell 23 = .ok (.iconst 1, 1) := dk_4 (dk_at dksX6_untell_0 23 rfl rfl)
theorem dX6_untell_24 : decode cX6_untell 24 = .ok (.goto 4, 3) := dk_167 0 4 (dk_at dksX6_untell_1 0 rfl rfl)
theorem dX6_untell_27 : decode cX6_untell 27 = .ok (.iconst 0, 1) := dk_3 (dk_at dksX6_untell_1 3 rfl rfl)
theorem dX6_untell_28 : decode cX6_untell 28 = .ok (.istore_n 2, 1) := dk_61 (dk_at dksX6_untell_1 4 rfl rfl)
theorem dX6_untell_29 : decode cX6_untell 29 = .ok (.aload_n 0, 1) := dk_42 (dk_at dksX6_untell_1 5 rfl rfl)
theorem dX6_untell_30 : decode cX6_untell 30 = .ok (.getfield 7, 3) := dk_180 0 7 (dk_at dksX6_untell_1 6 rfl rfl)
theorem dX6_untell_33 : decode cX6_untell 33 = .ok (.bipush 40, 2) := dk_16 40 (dk_at dksX6_untell_1 9 rfl rfl)
theorem dX6_untell_35 : decode cX6_untell 35 = .ok (.bipush 125, 2) := dk_16 125 (dk_at dksX6_untell_1 11 rfl rfl)
theorem dX6_untell_37 : decode cX6_untell 37 = .ok (.iload_n 1, 1) := dk_27 (dk_at dksX6_untell_1 13 rfl rfl)
theorem dX6_untell_38 : decode cX6_untell 38 = .ok (.imul, 1) := dk_104 (dk_at dksX6_untell_1 14 rfl rfl)
theorem dX6_untell_39 : decode cX6_untell 39 = .ok (.iadd, 1) := dk_96 (dk_at dksX6_untell_1 15 rfl rfl)
theorem dX6_untell_40 : decode cX6_untell 40 = .ok (.iconst 0, 1) := dk_3 (dk_at dksX6_untell_1 16 rfl rfl)
theorem dX6_untell_41 : decode cX6_untell 41 = .ok (.iastore, 1) := dk_79 (dk_at dksX6_untell_1 17 rfl rfl)
theorem dX6_untell_42 : decode cX6_untell 42 = .ok (.iload_n 2, 1) := dk_28 (dk_at dksX6_untell_1 18 rfl rfl)
theorem dX6_untell_43 : decode cX6_untell 43 = .ok (.ireturn, 1) := dk_172 (dk_at dksX6_untell_1 19 rfl rfl)
abbrev cX6_hasText : ByteArray := prog_20_method_22_code
def yX6_hasText : MethodName := ⟨RX6, "hasText", "(I)Z"⟩
def dkwX6_hasText_0 : List UInt8 := [42, 180, 0, 7, 16, 40, 16, 125, 27, 104, 96, 46, 158, 0, 7, 4, 167, 0, 4, 3, 172]
abbrev dktX6_hasText_0 : List UInt8 := dkwX6_hasText_0 ++ []
theorem dksX6_hasText_0 : cX6_hasText.data.toList.drop 0 = dktX6_hasText_0 := by decide +kernel
theorem dX6_hasText_0 : decode cX6_hasText 0 = .ok (.aload_n 0, 1) := dk_42 (dk_at dksX6_hasText_0 0 rfl rfl)
theorem dX6_hasText_1 : decode cX6_hasText 1 = .ok (.getfield 7, 3) := dk_180 0 7 (dk_at dksX6_hasText_0 1 rfl rfl)
theorem dX6_hasText_4 : decode cX6_hasText 4 = .ok (.bipush 40, 2) := dk_16 40 (dk_at dksX6_hasText_0 4 rfl rfl)
theorem dX6_hasText_6 : decode cX6_hasText 6 = .ok (.bipush 125, 2) := dk_16 125 (dk_at dksX6_hasText_0 6 rfl rfl)
theorem dX6_hasText_8 : decode cX6_hasText 8 = .ok (.iload_n 1, 1) := dk_27 (dk_at dksX6_hasText_0 8 rfl rfl)
theorem dX6_hasText_9 : decode cX6_hasText 9 = .ok (.imul, 1) := dk_104 (dk_at dksX6_hasText_0 9 rfl rfl)
theorem dX6_hasText_10 : decode cX6_hasText 10 = .ok (.iadd, 1) := dk_96 (dk_at dksX6_hasText_0 10 rfl rfl)
theorem dX6_hasText_11 : decode cX6_hasText 11 = .ok (.iaload, 1) := dk_46 (dk_at dksX6_hasText_0 11 rfl rfl)
theorem dX6_hasText_12 : decode cX6_hasText 12 = .ok (.ifCond .le 7, 3) := dk_158 0 7 (dk_at dksX6_hasText_0 12 rfl rfl)
theorem dX6_hasText_15 : decode cX6_hasText 15 = .ok (.iconst 1, 1) := dk_4 (dk_at dksX6_hasText_0 15 rfl rfl)
theorem dX6_hasText_16 : decode cX6_hasText 16 = .ok (.goto 4, 3) := dk_167 0 4 (dk_at dksX6_hasText_0 16 rfl rfl)
theorem dX6_hasText_19 : decode cX6_hasText 19 = .ok (.iconst 0, 1) := dk_3 (dk_at dksX6_hasText_0 19 rfl rfl)
theorem dX6_hasText_20 : decode cX6_hasText 20 = .ok (.ireturn, 1) := dk_172 (dk_at dksX6_hasText_0 20 rfl rfl)
abbrev cX6_thing : ByteArray := prog_20_method_35_code
def yX6_thing : MethodName := ⟨RX6, "thing", "(III)I"⟩
def dkwX6_thing_2 : List UInt8 := [4, 182, 0, 63, 172, 42, 16, 8, 16, 8, 28, 104, 96, 27, 96, 29, 182, 0, 155, 172]
abbrev dktX6_thing_2 : List UInt8 := dkwX6_thing_2 ++ []
def dkwX6_thing_1 : List UInt8 := [167, 0, 4, 3, 28, 5, 160, 0, 8, 16, 99, 167, 0, 6, 17, 39, 15, 184, 0, 59, 154, 0, 9, 42]
abbrev dktX6_thing_1 : List UInt8 := dkwX6_thing_1 ++ dktX6_thing_2
def dkwX6_thing_0 : List UInt8 := [27, 184, 0, 152, 153, 0, 41, 28, 3, 5, 184, 0, 59, 153, 0, 32, 29, 28, 154, 0, 7, 4]
abbrev dktX6_thing_0 : List UInt8 := dkwX6_thing_0 ++ dktX6_thing_1
theorem dksX6_thing_0 : cX6_thing.data.toList.drop 0 = dktX6_thing_0 := by decide +kernel
theorem dksX6_thing_1 : cX6_thing.data.toList.drop 22 = dktX6_thing_1 := dk_seg dksX6_thing_0 22 rfl rfl
theorem dksX6_thing_2 : cX6_thing.data.toList.drop 46 = dktX6_thing_2 := dk_seg dksX6_thing_1 24 rfl rfl
theorem dX6_thing_0 : decode cX6_thing 0 = .ok (.iload_n 1, 1) := dk_27 (dk_at dksX6_thing_0 0 rfl rfl)
theorem dX6_thing_1 : decode cX6_thing 1 = .ok (.invokestatic 152, 3) := dk_184 0 152 (dk_at dksX6_thing_0 1 rfl rfl)
theorem dX6_thing_4 : decode cX6_thing 4 = .ok (.ifCond .eq 41, 3) := dk_153 0 41 (dk_at dksX6_thing_0 4 rfl rfl)
theorem dX6_thing_7 : decode cX6_thing 7 = .ok (.iload_n 2, 1) := dk_28 (dk_at dksX6_thing_0 7 rfl rfl)
theorem dX6_thing_8 : decode cX6_thing 8 = .ok (.iconst 0, 1) := dk_3 (dk_at dksX6_thing_0 8 rfl rfl)
theorem dX6_thing_9 : decode cX6_thing 9 = .ok (.iconst 2, 1) := dk_5 (dk_at dksX6_thing_0 9 rfl rfl)
theorem dX6_thing_10 : decode cX6_thing 10 = .ok (.invokestatic 59, 3) := dk_184 0 59 (dk_at dksX6_thing_0 10 rfl rfl)
theorem dX6_thing_13 : decode cX6_thing 13 = .ok (.ifCond .eq 32, 3) := dk_153 0 32 (dk_at dksX6_thing_0 13 rfl rfl)
theorem dX6_thing_16 : decode cX6_thing 16 = .ok (.iload_n 3, 1) := dk_29 (dk_at dksX6_thing_0 16 rfl rfl)
theorem dX6_thing_17 : decode cX6_thing 17 = .ok (.iload_n 2, 1) := dk_28 (dk_at dksX6_thing_0 17 rfl rfl)
theorem dX6_thing_18 : decode cX6_thing 18 = .ok (.ifCond .ne 7, 3) := dk_154 0 7 (dk_at dksX6_thing_0 18 rfl rfl)
theorem dX6_thing_21 : decode cX6_thing 21 = .ok (.iconst 1, 1) := dk_4 (dk_at dksX6_thing_0 21 rfl rfl)
theorem dX6_thing_22 : decode cX6_thing 22 = .ok (.goto 4, 3) := dk_167 0 4 (dk_at dksX6_thing_1 0 rfl rfl)
theorem dX6_thing_25 : decode cX6_thing 25 = .ok (.iconst 0, 1) := dk_3 (dk_at dksX6_thing_1 3 rfl rfl)
theorem dX6_thing_26 : decode cX6_thing 26 = .ok (.iload_n 2, 1) := dk_28 (dk_at dksX6_thing_1 4 rfl rfl)
theorem dX6_thing_27 : decode cX6_thing 27 = .ok (.iconst 2, 1) := dk_5 (dk_at dksX6_thing_1 5 rfl rfl)
theorem dX6_thing_28 : decode cX6_thing 28 = .ok (.if_icmp .ne 8, 3) := dk_160 0 8 (dk_at dksX6_thing_1 6 rfl rfl)
theorem dX6_thing_31 : decode cX6_thing 31 = .ok (.bipush 99, 2) := dk_16 99 (dk_at dksX6_thing_1 9 rfl rfl)
theorem dX6_thing_33 : decode cX6_thing 33 = .ok (.goto 6, 3) := dk_167 0 6 (dk_at dksX6_thing_1 11 rfl rfl)
theorem dX6_thing_36 : decode cX6_thing 36 = .ok (.sipush 9999, 3) := dk_17 39 15 (dk_at dksX6_thing_1 14 rfl rfl)
theorem dX6_thing_39 : decode cX6_thing 39 = .ok (.invokestatic 59, 3) := dk_184 0 59 (dk_at dksX6_thing_1 17 rfl rfl)
theorem dX6_thing_42 : decode cX6_thing 42 = .ok (.ifCond .ne 9, 3) := dk_154 0 9 (dk_at dksX6_thing_1 20 rfl rfl)
theorem dX6_thing_45 : decode cX6_thing 45 = .ok (.aload_n 0, 1) := dk_42 (dk_at dksX6_thing_1 23 rfl rfl)
theorem dX6_thing_46 : decode cX6_thing 46 = .ok (.iconst 1, 1) := dk_4 (dk_at dksX6_thing_2 0 rfl rfl)
theorem dX6_thing_47 : decode cX6_thing 47 = .ok (.invokevirtual 63, 3) := dk_182 0 63 (dk_at dksX6_thing_2 1 rfl rfl)
theorem dX6_thing_50 : decode cX6_thing 50 = .ok (.ireturn, 1) := dk_172 (dk_at dksX6_thing_2 4 rfl rfl)
theorem dX6_thing_51 : decode cX6_thing 51 = .ok (.aload_n 0, 1) := dk_42 (dk_at dksX6_thing_2 5 rfl rfl)
theorem dX6_thing_52 : decode cX6_thing 52 = .ok (.bipush 8, 2) := dk_16 8 (dk_at dksX6_thing_2 6 rfl rfl)
theorem dX6_thing_54 : decode cX6_thing 54 = .ok (.bipush 8, 2) := dk_16 8 (dk_at dksX6_thing_2 8 rfl rfl)
theorem dX6_thing_56 : decode cX6_thing 56 = .ok (.iload_n 2, 1) := dk_28 (dk_at dksX6_thing_2 10 rfl rfl)
theorem dX6_thing_57 : decode cX6_thing 57 = .ok (.imul, 1) := dk_104 (dk_at dksX6_thing_2 11 rfl rfl)
theorem dX6_thing_58 : decode cX6_thing 58 = .ok (.iadd, 1) := dk_96 (dk_at dksX6_thing_2 12 rfl rfl)
theorem dX6_thing_59 : decode cX6_thing 59 = .ok (.iload_n 1, 1) := dk_27 (dk_at dksX6_thing_2 13 rfl rfl)
theorem dX6_thing_60 : decode cX6_thing 60 = .ok (.iadd, 1) := dk_96 (dk_at dksX6_thing_2 14 rfl rfl)
theorem dX6_thing_61 : decode cX6_thing 61 = .ok (.iload_n 3, 1) := dk_29 (dk_at dksX6_thing_2 15 rfl rfl)
theorem dX6_thing_62 : decode cX6_thing 62 = .ok (.invokevirtual 155, 3) := dk_182 0 155 (dk_at dksX6_thing_2 16 rfl rfl)
theorem dX6_thing_65 : decode cX6_thing 65 = .ok (.ireturn, 1) := dk_172 (dk_at dksX6_thing_2 19 rfl rfl)
abbrev cX6_isThing : ByteArray := prog_20_method_6_code
def yX6_isThing : MethodName := ⟨RX6, "isThing", "(I)Z"⟩
def dkwX6_isThing_0 : List UInt8 := [26, 3, 16, 7, 184, 0, 59, 172]
abbrev dktX6_isThing_0 : List UInt8 := dkwX6_isThing_0 ++ []
theorem dksX6_isThing_0 : cX6_isThing.data.toList.drop 0 = dktX6_isThing_0 := by decide +kernel
theorem dX6_isThing_0 : decode cX6_isThing 0 = .ok (.iload_n 0, 1) := dk_26 (dk_at dksX6_isThing_0 0 rfl rfl)
theorem dX6_isThing_1 : decode cX6_isThing 1 = .ok (.iconst 0, 1) := dk_3 (dk_at dksX6_isThing_0 1 rfl rfl)
theorem dX6_isThing_2 : decode cX6_isThing 2 = .ok (.bipush 7, 2) := dk_16 7 (dk_at dksX6_isThing_0 2 rfl rfl)
theorem dX6_isThing_4 : decode cX6_isThing 4 = .ok (.invokestatic 59, 3) := dk_184 0 59 (dk_at dksX6_isThing_0 4 rfl rfl)
theorem dX6_isThing_7 : decode cX6_isThing 7 = .ok (.ireturn, 1) := dk_172 (dk_at dksX6_isThing_0 7 rfl rfl)
abbrev cX6_change1 : ByteArray := prog_20_method_10_code
def yX6_change1 : MethodName := ⟨RX6, "change1", "(II)I"⟩
def dkwX6_change1_0 : List UInt8 := [42, 180, 0, 7, 27, 46, 62, 42, 180, 0, 7, 27, 28, 79, 29, 172]
abbrev dktX6_change1_0 : List UInt8 := dkwX6_change1_0 ++ []
theorem dksX6_change1_0 : cX6_change1.data.toList.drop 0 = dktX6_change1_0 := by decide +kernel
theorem dX6_change1_0 : decode cX6_change1 0 = .ok (.aload_n 0, 1) := dk_42 (dk_at dksX6_change1_0 0 rfl rfl)
theorem dX6_change1_1 : decode cX6_change1 1 = .ok (.getfield 7, 3) := dk_180 0 7 (dk_at dksX6_change1_0 1 rfl rfl)
theorem dX6_change1_4 : decode cX6_change1 4 = .ok (.iload_n 1, 1) := dk_27 (dk_at dksX6_change1_0 4 rfl rfl)
theorem dX6_change1_5 : decode cX6_change1 5 = .ok (.iaload, 1) := dk_46 (dk_at dksX6_change1_0 5 rfl rfl)
theorem dX6_change1_6 : decode cX6_change1 6 = .ok (.istore_n 3, 1) := dk_62 (dk_at dksX6_change1_0 6 rfl rfl)
theorem dX6_change1_7 : decode cX6_change1 7 = .ok (.aload_n 0, 1) := dk_42 (dk_at dksX6_change1_0 7 rfl rfl)
theorem dX6_change1_8 : decode cX6_change1 8 = .ok (.getfield 7, 3) := dk_180 0 7 (dk_at dksX6_change1_0 8 rfl rfl)
theorem dX6_change1_11 : decode cX6_change1 11 = .ok (.iload_n 1, 1) := dk_27 (dk_at dksX6_change1_0 11 rfl rfl)
theorem dX6_change1_12 : decode cX6_change1 12 = .ok (.iload_n 2, 1) := dk_28 (dk_at dksX6_change1_0 12 rfl rfl)
theorem dX6_change1_13 : decode cX6_change1 13 = .ok (.iastore, 1) := dk_79 (dk_at dksX6_change1_0 13 rfl rfl)
theorem dX6_change1_14 : decode cX6_change1 14 = .ok (.iload_n 3, 1) := dk_29 (dk_at dksX6_change1_0 14 rfl rfl)
theorem dX6_change1_15 : decode cX6_change1 15 = .ok (.ireturn, 1) := dk_172 (dk_at dksX6_change1_0 15 rfl rfl)
abbrev cX6_thingIs : ByteArray := prog_20_method_36_code
def yX6_thingIs : MethodName := ⟨RX6, "thingIs", "(II)I"⟩
def dkwX6_thingIs_2 : List UInt8 := [46, 172]
abbrev dktX6_thingIs_2 : List UInt8 := dkwX6_thingIs_2 ++ []
def dkwX6_thingIs_1 : List UInt8 := [160, 0, 11, 42, 27, 182, 0, 158, 167, 0, 17, 42, 180, 0, 7, 16, 8, 16, 8, 28, 104, 96, 27, 96]
abbrev dktX6_thingIs_1 : List UInt8 := dkwX6_thingIs_1 ++ dktX6_thingIs_2
def dkwX6_thingIs_0 : List UInt8 := [27, 184, 0, 152, 153, 0, 12, 28, 3, 6, 184, 0, 59, 154, 0, 9, 42, 4, 182, 0, 63, 172, 28, 6]
abbrev dktX6_thingIs_0 : List UInt8 := dkwX6_thingIs_0 ++ dktX6_thingIs_1
theorem dksX6_thingIs_0 : cX6_thingIs.data.toList.drop 0 = dktX6_thingIs_0 := by decide +kernel
theorem dksX6_thingIs_1 : cX6_thingIs.data.toList.drop 24 = dktX6_thingIs_1 := dk_seg dksX6_thingIs_0 24 rfl rfl
theorem dksX6_thingIs_2 : cX6_thingIs.data.toList.drop 48 = dktX6_thingIs_2 := dk_seg dksX6_thingIs_1 24 rfl rfl
theorem dX6_thingIs_0 : decode cX6_thingIs 0 = .ok (.iload_n 1, 1) := dk_27 (dk_at dksX6_thingIs_0 0 rfl rfl)
theorem dX6_thingIs_1 : decode cX6_thingIs 1 = .ok (.invokestatic 152, 3) := dk_184 0 152 (dk_at dksX6_thingIs_0 1 rfl rfl)
theorem dX6_thingIs_4 : decode cX6_thingIs 4 = .ok (.ifCond .eq 12, 3) := dk_153 0 12 (dk_at dksX6_thingIs_0 4 rfl rfl)
theorem dX6_thingIs_7 : decode cX6_thingIs 7 = .ok (.iload_n 2, 1) := dk_28 (dk_at dksX6_thingIs_0 7 rfl rfl)
theorem dX6_thingIs_8 : decode cX6_thingIs 8 = .ok (.iconst 0, 1) := dk_3 (dk_at dksX6_thingIs_0 8 rfl rfl)
theorem dX6_thingIs_9 : decode cX6_thingIs 9 = .ok (.iconst 3, 1) := dk_6 (dk_at dksX6_thingIs_0 9 rfl rfl)
theorem dX6_thingIs_10 : decode cX6_thingIs 10 = .ok (.invokestatic 59, 3) := dk_184 0 59 (dk_at dksX6_thingIs_0 10 rfl rfl)
theorem dX6_thingIs_13 : decode cX6_thingIs 13 = .ok (.ifCond .ne 9, 3) := dk_154 0 9 (dk_at dksX6_thingIs_0 13 rfl rfl)
theorem dX6_thingIs_16 : decode cX6_thingIs 16 = .ok (.aload_n 0, 1) := dk_42 (dk_at dksX6_thingIs_0 16 rfl rfl)
theorem dX6_thingIs_17 : decode cX6_thingIs 17 = .ok (.iconst 1, 1) := dk_4 (dk_at dksX6_thingIs_0 17 rfl rfl)
theorem dX6_thingIs_18 : decode cX6_thingIs 18 = .ok (.invokevirtual 63, 3) := dk_182 0 63 (dk_at dksX6_thingIs_0 18 rfl rfl)
theorem dX6_thingIs_21 : decode cX6_thingIs 21 = .ok (.ireturn, 1) := dk_172 (dk_at dksX6_thingIs_0 21 rfl rfl)
theorem dX6_thingIs_22 : decode cX6_thingIs 22 = .ok (.iload_n 2, 1) := dk_28 (dk_at dksX6_thingIs_0 22 rfl rfl)
theorem dX6_thingIs_23 : decode cX6_thingIs 23 = .ok (.iconst 3, 1) := dk_6 (dk_at dksX6_thingIs_0 23 rfl rfl)
theorem dX6_thingIs_24 : decode cX6_thingIs 24 = .ok (.if_icmp .ne 11, 3) := dk_160 0 11 (dk_at dksX6_thingIs_1 0 rfl rfl)
theorem dX6_thingIs_27 : decode cX6_thingIs 27 = .ok (.aload_n 0, 1) := dk_42 (dk_at dksX6_thingIs_1 3 rfl rfl)
theorem dX6_thingIs_28 : decode cX6_thingIs 28 = .ok (.iload_n 1, 1) := dk_27 (dk_at dksX6_thingIs_1 4 rfl rfl)
theorem dX6_thingIs_29 : decode cX6_thingIs 29 = .ok (.invokevirtual 158, 3) := dk_182 0 158 (dk_at dksX6_thingIs_1 5 rfl rfl)
theorem dX6_thingIs_32 : decode cX6_thingIs 32 = .ok (.goto 17, 3) := dk_167 0 17 (dk_at dksX6_thingIs_1 8 rfl rfl)
theorem dX6_thingIs_35 : decode cX6_thingIs 35 = .ok (.aload_n 0, 1) := dk_42 (dk_at dksX6_thingIs_1 11 rfl rfl)
theorem dX6_thingIs_36 : decode cX6_thingIs 36 = .ok (.getfield 7, 3) := dk_180 0 7 (dk_at dksX6_thingIs_1 12 rfl rfl)
theorem dX6_thingIs_39 : decode cX6_thingIs 39 = .ok (.bipush 8, 2) := dk_16 8 (dk_at dksX6_thingIs_1 15 rfl rfl)
theorem dX6_thingIs_41 : decode cX6_thingIs 41 = .ok (.bipush 8, 2) := dk_16 8 (dk_at dksX6_thingIs_1 17 rfl rfl)
theorem dX6_thingIs_43 : decode cX6_thingIs 43 = .ok (.iload_n 2, 1) := dk_28 (dk_at dksX6_thingIs_1 19 rfl rfl)
theorem dX6_thingIs_44 : decode cX6_thingIs 44 = .ok (.imul, 1) := dk_104 (dk_at dksX6_thingIs_1 20 rfl rfl)
theorem dX6_thingIs_45 : decode cX6_thingIs 45 = .ok (.iadd, 1) := dk_96 (dk_at dksX6_thingIs_1 21 rfl rfl)
theorem dX6_thingIs_46 : decode cX6_thingIs 46 = .ok (.iload_n 1, 1) := dk_27 (dk_at dksX6_thingIs_1 22 rfl rfl)
theorem dX6_thingIs_47 : decode cX6_thingIs 47 = .ok (.iadd, 1) := dk_96 (dk_at dksX6_thingIs_1 23 rfl rfl)
theorem dX6_thingIs_48 : decode cX6_thingIs 48 = .ok (.iaload, 1) := dk_46 (dk_at dksX6_thingIs_2 0 rfl rfl)
theorem dX6_thingIs_49 : decode cX6_thingIs 49 = .ok (.ireturn, 1) := dk_172 (dk_at dksX6_thingIs_2 1 rfl rfl)
abbrev cX6_values : ByteArray := prog_20_method_30_code
def yX6_values : MethodName := ⟨RX6, "values", "(I)I"⟩
def dkwX6_values_2 : List UInt8 := [46, 79, 42, 4, 182, 0, 136, 3, 16, 99, 184, 0, 139, 172]
abbrev dktX6_values_2 : List UInt8 := dkwX6_values_2 ++ []
def dkwX6_values_1 : List UInt8 := [42, 180, 0, 7, 16, 8, 27, 96, 46, 79, 42, 180, 0, 22, 16, 99, 42, 180, 0, 7, 16, 16, 27, 96]
abbrev dktX6_values_1 : List UInt8 := dkwX6_values_1 ++ dktX6_values_2
def dkwX6_values_0 : List UInt8 := [42, 4, 182, 0, 116, 154, 0, 5, 3, 172, 42, 180, 0, 22, 16, 116, 27, 79, 42, 180, 0, 22, 16, 112]
abbrev dktX6_values_0 : List UInt8 := dkwX6_values_0 ++ dktX6_values_1
theorem dksX6_values_0 : cX6_values.data.toList.drop 0 = dktX6_values_0 := by decide +kernel
theorem dksX6_values_1 : cX6_values.data.toList.drop 24 = dktX6_values_1 := dk_seg dksX6_values_0 24 rfl rfl
theorem dksX6_values_2 : cX6_values.data.toList.drop 48 = dktX6_values_2 := dk_seg dksX6_values_1 24 rfl rfl
theorem dX6_values_0 : decode cX6_values 0 = .ok (.aload_n 0, 1) := dk_42 (dk_at dksX6_values_0 0 rfl rfl)
theorem dX6_values_1 : decode cX6_values 1 = .ok (.iconst 1, 1) := dk_4 (dk_at dksX6_values_0 1 rfl rfl)
theorem dX6_values_2 : decode cX6_values 2 = .ok (.invokevirtual 116, 3) := dk_182 0 116 (dk_at dksX6_values_0 2 rfl rfl)
theorem dX6_values_5 : decode cX6_values 5 = .ok (.ifCond .ne 5, 3) := dk_154 0 5 (dk_at dksX6_values_0 5 rfl rfl)
theorem dX6_values_8 : decode cX6_values 8 = .ok (.iconst 0, 1) := dk_3 (dk_at dksX6_values_0 8 rfl rfl)
theorem dX6_values_9 : decode cX6_values 9 = .ok (.ireturn, 1) := dk_172 (dk_at dksX6_values_0 9 rfl rfl)
theorem dX6_values_10 : decode cX6_values 10 = .ok (.aload_n 0, 1) := dk_42 (dk_at dksX6_values_0 10 rfl rfl)
theorem dX6_values_11 : decode cX6_values 11 = .ok (.getfield 22, 3) := dk_180 0 22 (dk_at dksX6_values_0 11 rfl rfl)
theorem dX6_values_14 : decode cX6_values 14 = .ok (.bipush 116, 2) := dk_16 116 (dk_at dksX6_values_0 14 rfl rfl)
theorem dX6_values_16 : decode cX6_values 16 = .ok (.iload_n 1, 1) := dk_27 (dk_at dksX6_values_0 16 rfl rfl)
theorem dX6_values_17 : decode cX6_values 17 = .ok (.iastore, 1) := dk_79 (dk_at dksX6_values_0 17 rfl rfl)
theorem dX6_values_18 : decode cX6_values 18 = .ok (.aload_n 0, 1) := dk_42 (dk_at dksX6_values_0 18 rfl rfl)
theorem dX6_values_19 : decode cX6_values 19 = .ok (.getfield 22, 3) := dk_180 0 22 (dk_at dksX6_values_0 19 rfl rfl)
theorem dX6_values_22 : decode cX6_values 22 = .ok (.bipush 112, 2) := dk_16 112 (dk_at dksX6_values_0 22 rfl rfl)
theorem dX6_values_24 : decode cX6_values 24 = .ok (.aload_n 0, 1) := dk_42 (dk_at dksX6_values_1 0 rfl rfl)
theorem dX6_values_25 : decode cX6_values 25 = .ok (.getfield 7, 3) := dk_180 0 7 (dk_at dksX6_values_1 1 rfl rfl)
theorem dX6_values_28 : decode cX6_values 28 = .ok (.bipush 8, 2) := dk_16 8 (dk_at dksX6_values_1 4 rfl rfl)
theorem dX6_values_30 : decode cX6_values 30 = .ok (.iload_n 1, 1) := dk_27 (dk_at dksX6_values_1 6 rfl rfl)
theorem dX6_values_31 : decode cX6_values 31 = .ok (.iadd, 1) := dk_96 (dk_at dksX6_values_1 7 rfl rfl)
theorem dX6_values_32 : decode cX6_values 32 = .ok (.iaload, 1) := dk_46 (dk_at dksX6_values_1 8 rfl rfl)
theorem dX6_values_33 : decode cX6_values 33 = .ok (.iastore, 1) := dk_79 (dk_at dksX6_values_1 9 rfl rfl)
theorem dX6_values_34 : decode cX6_values 34 = .ok (.aload_n 0, 1) := dk_42 (dk_at dksX6_values_1 10 rfl rfl)
theorem dX6_values_35 : decode cX6_values 35 = .ok (.getfield 22, 3) := dk_180 0 22 (dk_at dksX6_values_1 11 rfl rfl)
theorem dX6_values_38 : decode cX6_values 38 = .ok (.bipush 99, 2) := dk_16 99 (dk_at dksX6_values_1 14 rfl rfl)
theorem dX6_values_40 : decode cX6_values 40 = .ok (.aload_n 0, 1) := dk_42 (dk_at dksX6_values_1 16 rfl rfl)
theorem dX6_values_41 : decode cX6_values 41 = .ok (.getfield 7, 3) := dk_180 0 7 (dk_at dksX6_values_1 17 rfl rfl)
theorem dX6_values_44 : decode cX6_values 44 = .ok (.bipush 16, 2) := dk_16 16 (dk_at dksX6_values_1 20 rfl rfl)
theorem dX6_values_46 : decode cX6_values 46 = .ok (.iload_n 1, 1) := dk_27 (dk_at dksX6_values_1 22 rfl rfl)
theorem dX6_values_47 : decode cX6_values 47 = .ok (.iadd, 1) := dk_96 (dk_at dksX6_values_1 23 rfl rfl)
theorem dX6_values_48 : decode cX6_values 48 = .ok (.iaload, 1) := dk_46 (dk_at dksX6_values_2 0 rfl rfl)
theorem dX6_values_49 : decode cX6_values 49 = .ok (.iastore, 1) := dk_79 (dk_at dksX6_values_2 1 rfl rfl)
theorem dX6_values_50 : decode cX6_values 50 = .ok (.aload_n 0, 1) := dk_42 (dk_at dksX6_values_2 2 rfl rfl)
theorem dX6_values_51 : decode cX6_values 51 = .ok (.iconst 1, 1) := dk_4 (dk_at dksX6_values_2 3 rfl rfl)
theorem dX6_values_52 : decode cX6_values 52 = .ok (.invokevirtual 136, 3) := dk_182 0 136 (dk_at dksX6_values_2 4 rfl rfl)
theorem dX6_values_55 : decode cX6_values 55 = .ok (.iconst 0, 1) := dk_3 (dk_at dksX6_values_2 7 rfl rfl)
theorem dX6_values_56 : decode cX6_values 56 = .ok (.bipush 99, 2) := dk_16 99 (dk_at dksX6_values_2 8 rfl rfl)
theorem dX6_values_58 : decode cX6_values 58 = .ok (.invokestatic 139, 3) := dk_184 0 139 (dk_at dksX6_values_2 10 rfl rfl)
theorem dX6_values_61 : decode cX6_values 61 = .ok (.ireturn, 1) := dk_172 (dk_at dksX6_values_2 13 rfl rfl)
abbrev cX6_worked : ByteArray := prog_20_method_26_code
def yX6_worked : MethodName := ⟨RX6, "worked", "(I)I"⟩
def dkwX6_worked_7 : List UInt8 := [180, 0, 25, 3, 46, 172]
abbrev dktX6_worked_7 : List UInt8 := dkwX6_worked_7 ++ []
def dkwX6_worked_6 : List UInt8 := [180, 0, 25, 29, 4, 100, 46, 42, 180, 0, 25, 29, 46, 184, 0, 119, 79, 132, 4, 1, 167, 255, 109, 42]
abbrev dktX6_worked_6 : List UInt8 := dkwX6_worked_6 ++ dktX6_worked_7
def dkwX6_worked_5 : List UInt8 := [4, 167, 0, 4, 3, 79, 167, 0, 33, 132, 3, 255, 42, 180, 0, 25, 29, 4, 100, 21, 6, 42]
abbrev dktX6_worked_5 : List UInt8 := dkwX6_worked_5 ++ dktX6_worked_6
def dkwX6_worked_4 : List UInt8 := [21, 5, 5, 160, 0, 30, 42, 180, 0, 25, 29, 4, 100, 42, 180, 0, 25, 29, 4, 100, 46, 154, 0, 7]
abbrev dktX6_worked_4 : List UInt8 := dkwX6_worked_4 ++ dktX6_worked_5
def dkwX6_worked_3 : List UInt8 := [21, 5, 154, 0, 8, 21, 6, 167, 0, 10, 42, 180, 0, 22, 21, 6, 46, 79, 132, 3, 1, 167, 0, 66]
abbrev dktX6_worked_3 : List UInt8 := dkwX6_worked_3 ++ dktX6_worked_4
def dkwX6_worked_2 : List UInt8 := [21, 4, 104, 96, 46, 54, 6, 21, 5, 153, 0, 9, 21, 5, 4, 160, 0, 32, 42, 180, 0, 25, 29]
abbrev dktX6_worked_2 : List UInt8 := dkwX6_worked_2 ++ dktX6_worked_3
def dkwX6_worked_1 : List UInt8 := [42, 180, 0, 7, 28, 4, 96, 5, 21, 4, 104, 96, 46, 54, 5, 42, 180, 0, 7, 28, 5, 96, 5]
abbrev dktX6_worked_1 : List UInt8 := dkwX6_worked_1 ++ dktX6_worked_2
def dkwX6_worked_0 : List UInt8 := [16, 40, 16, 125, 27, 104, 96, 61, 3, 62, 3, 54, 4, 21, 4, 42, 180, 0, 7, 28, 46, 162, 0, 142]
abbrev dktX6_worked_0 : List UInt8 := dkwX6_worked_0 ++ dktX6_worked_1
theorem dksX6_worked_0 : cX6_worked.data.toList.drop 0 = dktX6_worked_0 := by decide +kernel
theorem dksX6_worked_1 : cX6_worked.data.toList.drop 24 = dktX6_worked_1 := dk_seg dksX6_worked_0 24 rfl rfl
theorem dksX6_worked_2 : cX6_worked.data.toList.drop 47 = dktX6_worked_2 := dk_seg dksX6_worked_1 23 rfl rfl
theorem dksX6_worked_3 : cX6_worked.data.toList.drop 70 = dktX6_worked_3 := dk_seg dksX6_worked_2 23 rfl rfl
theorem dksX6_worked_4 : cX6_worked.data.toList.drop 94 = dktX6_worked_4 := dk_seg dksX6_worked_3 24 rfl rfl
theorem dksX6_worked_5 : cX6_worked.data.toList.drop 118 = dktX6_worked_5 := dk_seg dksX6_worked_4 24 rfl rfl
theorem dksX6_worked_6 : cX6_worked.data.toList.drop 140 = dktX6_worked_6 := dk_seg dksX6_worked_5 22 rfl rfl
theorem dksX6_worked_7 : cX6_worked.data.toList.drop 164 = dktX6_worked_7 := dk_seg dksX6_worked_6 24 rfl rfl
theorem dX6_worked_0 : decode cX6_worked 0 = .ok (.bipush 40, 2) := dk_16 40 (dk_at dksX6_worked_0 0 rfl rfl)
theorem dX6_worked_2 : decode cX6_worked 2 = .ok (.bipush 125, 2) := dk_16 125 (dk_at dksX6_worked_0 2 rfl rfl)
theorem dX6_worked_4 : decode cX6_worked 4 = .ok (.iload_n 1, 1) := dk_27 (dk_at dksX6_worked_0 4 rfl rfl)
theorem dX6_worked_5 : decode cX6_worked 5 = .ok (.imul, 1) := dk_104 (dk_at dksX6_worked_0 5 rfl rfl)
theorem dX6_worked_6 : decode cX6_worked 6 = .ok (.iadd, 1) := dk_96 (dk_at dksX6_worked_0 6 rfl rfl)
theorem dX6_worked_7 : decode cX6_worked 7 = .ok (.istore_n 2, 1) := dk_61 (dk_at dksX6_worked_0 7 rfl rfl)
theorem dX6_worked_8 : decode cX6_worked 8 = .ok (.iconst 0, 1) := dk_3 (dk_at dksX6_worked_0 8 rfl rfl)
theorem dX6_worked_9 : decode cX6_worked 9 = .ok (.istore_n 3, 1) := dk_62 (dk_at dksX6_worked_0 9 rfl rfl)
theorem dX6_worked_10 : decode cX6_worked 10 = .ok (.iconst 0, 1) := dk_3 (dk_at dksX6_worked_0 10 rfl rfl)
theorem dX6_worked_11 : decode cX6_worked 11 = .ok (.istore 4, 2) := dk_54 4 (dk_at dksX6_worked_0 11 rfl rfl)
theorem dX6_worked_13 : decode cX6_worked 13 = .ok (.iload 4, 2) := dk_21 4 (dk_at dksX6_worked_0 13 rfl rfl)
theorem dX6_worked_15 : decode cX6_worked 15 = .ok (.aload_n 0, 1) := dk_42 (dk_at dksX6_worked_0 15 rfl rfl)
theorem dX6_worked_16 : decode cX6_worked 16 = .ok (.getfield 7, 3) := dk_180 0 7 (dk_at dksX6_worked_0 16 rfl rfl)
theorem dX6_worked_19 : decode cX6_worked 19 = .ok (.iload_n 2, 1) := dk_28 (dk_at dksX6_worked_0 19 rfl rfl)
theorem dX6_worked_20 : decode cX6_worked 20 = .ok (.iaload, 1) := dk_46 (dk_at dksX6_worked_0 20 rfl rfl)
theorem dX6_worked_21 : decode cX6_worked 21 = .ok (.if_icmp .ge 142, 3) := dk_162 0 142 (dk_at dksX6_worked_0 21 rfl rfl)
theorem dX6_worked_24 : decode cX6_worked 24 = .ok (.aload_n 0, 1) := dk_42 (dk_at dksX6_worked_1 0 rfl rfl)
theorem dX6_worked_25 : decode cX6_worked 25 = .ok (.getfield 7, 3) := dk_180 0 7 (dk_at dksX6_worked_1 1 rfl rfl)
theorem dX6_worked_28 : decode cX6_worked 28 = .ok (.iload_n 2, 1) := dk_28 (dk_at dksX6_worked_1 4 rfl rfl)
theorem dX6_worked_29 : decode cX6_worked 29 = .ok (.iconst 1, 1) := dk_4 (dk_at dksX6_worked_1 5 rfl rfl)
theorem dX6_worked_30 : decode cX6_worked 30 = .ok (.iadd, 1) := dk_96 (dk_at dksX6_worked_1 6 rfl rfl)
theorem dX6_worked_31 : decode cX6_worked 31 = .ok (.iconst 2, 1) := dk_5 (dk_at dksX6_worked_1 7 rfl rfl)
theorem dX6_worked_32 : decode cX6_worked 32 = .ok (.iload 4, 2) := dk_21 4 (dk_at dksX6_worked_1 8 rfl rfl)
theorem dX6_worked_34 : decode cX6_worked 34 = .ok (.imul, 1) := dk_104 (dk_at dksX6_worked_1 10 rfl rfl)
theorem dX6_worked_35 : decode cX6_worked 35 = .ok (.iadd, 1) := dk_96 (dk_at dksX6_worked_1 11 rfl rfl)
theorem dX6_worked_36 : decode cX6_worked 36 = .ok (.iaload, 1) := dk_46 (dk_at dksX6_worked_1 12 rfl rfl)
theorem dX6_worked_37 : decode cX6_worked 37 = .ok (.istore 5, 2) := dk_54 5 (dk_at dksX6_worked_1 13 rfl rfl)
theorem dX6_worked_39 : decode cX6_worked 39 = .ok (.aload_n 0, 1) := dk_42 (dk_at dksX6_worked_1 15 rfl rfl)
theorem dX6_worked_40 : decode cX6_worked 40 = .ok (.getfield 7, 3) := dk_180 0 7 (dk_at dksX6_worked_1 16 rfl rfl)
theorem dX6_worked_43 : decode cX6_worked 43 = .ok (.iload_n 2, 1) := dk_28 (dk_at dksX6_worked_1 19 rfl rfl)
theorem dX6_worked_44 : decode cX6_worked 44 = .ok (.iconst 2, 1) := dk_5 (dk_at dksX6_worked_1 20 rfl rfl)
theorem dX6_worked_45 : decode cX6_worked 45 = .ok (.iadd, 1) := dk_96 (dk_at dksX6_worked_1 21 rfl rfl)
theorem dX6_worked_46 : decode cX6_worked 46 = .ok (.iconst 2, 1) := dk_5 (dk_at dksX6_worked_1 22 rfl rfl)
theorem dX6_worked_47 : decode cX6_worked 47 = .ok (.iload 4, 2) := dk_21 4 (dk_at dksX6_worked_2 0 rfl rfl)
theorem dX6_worked_49 : decode cX6_worked 49 = .ok (.imul, 1) := dk_104 (dk_at dksX6_worked_2 2 rfl rfl)
theorem dX6_worked_50 : decode cX6_worked 50 = .ok (.iadd, 1) := dk_96 (dk_at dksX6_worked_2 3 rfl rfl)
theorem dX6_worked_51 : decode cX6_worked 51 = .ok (.iaload, 1) := dk_46 (dk_at dksX6_worked_2 4 rfl rfl)
theorem dX6_worked_52 : decode cX6_worked 52 = .ok (.istore 6, 2) := dk_54 6 (dk_at dksX6_worked_2 5 rfl rfl)
theorem dX6_worked_54 : decode cX6_worked 54 = .ok (.iload 5, 2) := dk_21 5 (dk_at dksX6_worked_2 7 rfl rfl)
theorem dX6_worked_56 : decode cX6_worked 56 = .ok (.ifCond .eq 9, 3) := dk_153 0 9 (dk_at dksX6_worked_2 9 rfl rfl)
theorem dX6_worked_59 : decode cX6_worked 59 = .ok (.iload 5, 2) := dk_21 5 (dk_at dksX6_worked_2 12 rfl rfl)
theorem dX6_worked_61 : decode cX6_worked 61 = .ok (.iconst 1, 1) := dk_4 (dk_at dksX6_worked_2 14 rfl rfl)
theorem dX6_worked_62 : decode cX6_worked 62 = .ok (.if_icmp .ne 32, 3) := dk_160 0 32 (dk_at dksX6_worked_2 15 rfl rfl)
theorem dX6_worked_65 : decode cX6_worked 65 = .ok (.aload_n 0, 1) := dk_42 (dk_at dksX6_worked_2 18 rfl rfl)
theorem dX6_worked_66 : decode cX6_worked 66 = .ok (.getfield 25, 3) := dk_180 0 25 (dk_at dksX6_worked_2 19 rfl rfl)
theorem dX6_worked_69 : decode cX6_worked 69 = .ok (.iload_n 3, 1) := dk_29 (dk_at dksX6_worked_2 22 rfl rfl)
theorem dX6_worked_70 : decode cX6_worked 70 = .ok (.iload 5, 2) := dk_21 5 (dk_at dksX6_worked_3 0 rfl rfl)
theorem dX6_worked_72 : decode cX6_worked 72 = .ok (.ifCond .ne 8, 3) := dk_154 0 8 (dk_at dksX6_worked_3 2 rfl rfl)
theorem dX6_worked_75 : decode cX6_worked 75 = .ok (.iload 6, 2) := dk_21 6 (dk_at dksX6_worked_3 5 rfl rfl)
theorem dX6_worked_77 : decode cX6_worked 77 = .ok (.goto 10, 3) := dk_167 0 10 (dk_at dksX6_worked_3 7 rfl rfl)
theorem dX6_worked_80 : decode cX6_worked 80 = .ok (.aload_n 0, 1) := dk_42 (dk_at dksX6_worked_3 10 rfl rfl)
theorem dX6_worked_81 : decode cX6_worked 81 = .ok (.getfield 22, 3) := dk_180 0 22 (dk_at dksX6_worked_3 11 rfl rfl)
theorem dX6_worked_84 : decode cX6_worked 84 = .ok (.iload 6, 2) := dk_21 6 (dk_at dksX6_worked_3 14 rfl rfl)
theorem dX6_worked_86 : decode cX6_worked 86 = .ok (.iaload, 1) := dk_46 (dk_at dksX6_worked_3 16 rfl rfl)
theorem dX6_worked_87 : decode cX6_worked 87 = .ok (.iastore, 1) := dk_79 (dk_at dksX6_worked_3 17 rfl rfl)
theorem dX6_worked_88 : decode cX6_worked 88 = .ok (.iinc 3 1, 3) := dk_132 3 1 (dk_at dksX6_worked_3 18 rfl rfl)
theorem dX6_worked_91 : decode cX6_worked 91 = .ok (.goto 66, 3) := dk_167 0 66 (dk_at dksX6_worked_3 21 rfl rfl)
theorem dX6_worked_94 : decode cX6_worked 94 = .ok (.iload 5, 2) := dk_21 5 (dk_at dksX6_worked_4 0 rfl rfl)
theorem dX6_worked_96 : decode cX6_worked 96 = .ok (.iconst 2, 1) := dk_5 (dk_at dksX6_worked_4 2 rfl rfl)
theorem dX6_worked_97 : decode cX6_worked 97 = .ok (.if_icmp .ne 30, 3) := dk_160 0 30 (dk_at dksX6_worked_4 3 rfl rfl)
theorem dX6_worked_100 : decode cX6_worked 100 = .ok (.aload_n 0, 1) := dk_42 (dk_at dksX6_worked_4 6 rfl rfl)
theorem dX6_worked_101 : decode cX6_worked 101 = .ok (.getfield 25, 3) := dk_180 0 25 (dk_at dksX6_worked_4 7 rfl rfl)
theorem dX6_worked_104 : decode cX6_worked 104 = .ok (.iload_n 3, 1) := dk_29 (dk_at dksX6_worked_4 10 rfl rfl)
theorem dX6_worked_105 : decode cX6_worked 105 = .ok (.iconst 1, 1) := dk_4 (dk_at dksX6_worked_4 11 rfl rfl)
theorem dX6_worked_106 : decode cX6_worked 106 = .ok (.isub, 1) := dk_100 (dk_at dksX6_worked_4 12 rfl rfl)
theorem dX6_worked_107 : decode cX6_worked 107 = .ok (.aload_n 0, 1) := dk_42 (dk_at dksX6_worked_4 13 rfl rfl)
theorem dX6_worked_108 : decode cX6_worked 108 = .ok (.getfield 25, 3) := dk_180 0 25 (dk_at dksX6_worked_4 14 rfl rfl)
theorem dX6_worked_111 : decode cX6_worked 111 = .ok (.iload_n 3, 1) := dk_29 (dk_at dksX6_worked_4 17 rfl rfl)
theorem dX6_worked_112 : decode cX6_worked 112 = .ok (.iconst 1, 1) := dk_4 (dk_at dksX6_worked_4 18 rfl rfl)
theorem dX6_worked_113 : decode cX6_worked 113 = .ok (.isub, 1) := dk_100 (dk_at dksX6_worked_4 19 rfl rfl)
theorem dX6_worked_114 : decode cX6_worked 114 = .ok (.iaload, 1) := dk_46 (dk_at dksX6_worked_4 20 rfl rfl)
theorem dX6_worked_115 : decode cX6_worked 115 = .ok (.ifCond .ne 7, 3) := dk_154 0 7 (dk_at dksX6_worked_4 21 rfl rfl)
theorem dX6_worked_118 : decode cX6_worked 118 = .ok (.iconst 1, 1) := dk_4 (dk_at dksX6_worked_5 0 rfl rfl)
theorem dX6_worked_119 : decode cX6_worked 119 = .ok (.goto 4, 3) := dk_167 0 4 (dk_at dksX6_worked_5 1 rfl rfl)
theorem dX6_worked_122 : decode cX6_worked 122 = .ok (.iconst 0, 1) := dk_3 (dk_at dksX6_worked_5 4 rfl rfl)
theorem dX6_worked_123 : decode cX6_worked 123 = .ok (.iastore, 1) := dk_79 (dk_at dksX6_worked_5 5 rfl rfl)
theorem dX6_worked_124 : decode cX6_worked 124 = .ok (.goto 33, 3) := dk_167 0 33 (dk_at dksX6_worked_5 6 rfl rfl)
theorem dX6_worked_127 : decode cX6_worked 127 = .ok (.iinc 3 (-1), 3) := dk_132 3 255 (dk_at dksX6_worked_5 9 rfl rfl)
theorem dX6_worked_130 : decode cX6_worked 130 = .ok (.aload_n 0, 1) := dk_42 (dk_at dksX6_worked_5 12 rfl rfl)
theorem dX6_worked_131 : decode cX6_worked 131 = .ok (.getfield 25, 3) := dk_180 0 25 (dk_at dksX6_worked_5 13 rfl rfl)
theorem dX6_worked_134 : decode cX6_worked 134 = .ok (.iload_n 3, 1) := dk_29 (dk_at dksX6_worked_5 16 rfl rfl)
theorem dX6_worked_135 : decode cX6_worked 135 = .ok (.iconst 1, 1) := dk_4 (dk_at dksX6_worked_5 17 rfl rfl)
theorem dX6_worked_136 : decode cX6_worked 136 = .ok (.isub, 1) := dk_100 (dk_at dksX6_worked_5 18 rfl rfl)
theorem dX6_worked_137 : decode cX6_worked 137 = .ok (.iload 6, 2) := dk_21 6 (dk_at dksX6_worked_5 19 rfl rfl)
theorem dX6_worked_139 : decode cX6_worked 139 = .ok (.aload_n 0, 1) := dk_42 (dk_at dksX6_worked_5 21 rfl rfl)
theorem dX6_worked_140 : decode cX6_worked 140 = .ok (.getfield 25, 3) := dk_180 0 25 (dk_at dksX6_worked_6 0 rfl rfl)
theorem dX6_worked_143 : decode cX6_worked 143 = .ok (.iload_n 3, 1) := dk_29 (dk_at dksX6_worked_6 3 rfl rfl)
theorem dX6_worked_144 : decode cX6_worked 144 = .ok (.iconst 1, 1) := dk_4 (dk_at dksX6_worked_6 4 rfl rfl)
theorem dX6_worked_145 : decode cX6_worked 145 = .ok (.isub, 1) := dk_100 (dk_at dksX6_worked_6 5 rfl rfl)
theorem dX6_worked_146 : decode cX6_worked 146 = .ok (.iaload, 1) := dk_46 (dk_at dksX6_worked_6 6 rfl rfl)
theorem dX6_worked_147 : decode cX6_worked 147 = .ok (.aload_n 0, 1) := dk_42 (dk_at dksX6_worked_6 7 rfl rfl)
theorem dX6_worked_148 : decode cX6_worked 148 = .ok (.getfield 25, 3) := dk_180 0 25 (dk_at dksX6_worked_6 8 rfl rfl)
theorem dX6_worked_151 : decode cX6_worked 151 = .ok (.iload_n 3, 1) := dk_29 (dk_at dksX6_worked_6 11 rfl rfl)
theorem dX6_worked_152 : decode cX6_worked 152 = .ok (.iaload, 1) := dk_46 (dk_at dksX6_worked_6 12 rfl rfl)
theorem dX6_worked_153 : decode cX6_worked 153 = .ok (.invokestatic 119, 3) := dk_184 0 119 (dk_at dksX6_worked_6 13 rfl rfl)
theorem dX6_worked_156 : decode cX6_worked 156 = .ok (.iastore, 1) := dk_79 (dk_at dksX6_worked_6 16 rfl rfl)
theorem dX6_worked_157 : decode cX6_worked 157 = .ok (.iinc 4 1, 3) := dk_132 4 1 (dk_at dksX6_worked_6 17 rfl rfl)
theorem dX6_worked_160 : decode cX6_worked 160 = .ok (.goto (-147), 3) := dk_167 255 109 (dk_at dksX6_worked_6 20 rfl rfl)
theorem dX6_worked_163 : decode cX6_worked 163 = .ok (.aload_n 0, 1) := dk_42 (dk_at dksX6_worked_6 23 rfl rfl)
theorem dX6_worked_164 : decode cX6_worked 164 = .ok (.getfield 25, 3) := dk_180 0 25 (dk_at dksX6_worked_7 0 rfl rfl)
theorem dX6_worked_167 : decode cX6_worked 167 = .ok (.iconst 0, 1) := dk_3 (dk_at dksX6_worked_7 3 rfl rfl)
theorem dX6_worked_168 : decode cX6_worked 168 = .ok (.iaload, 1) := dk_46 (dk_at dksX6_worked_7 4 rfl rfl)
theorem dX6_worked_169 : decode cX6_worked 169 = .ok (.ireturn, 1) := dk_172 (dk_at dksX6_worked_7 5 rfl rfl)
abbrev cX6_joined : ByteArray := prog_20_method_25_code
def yX6_joined : MethodName := ⟨RX6, "joined", "(III)I"⟩
def dkwX6_joined_6 : List UInt8 := [4, 167, 0, 4, 3, 172, 27, 154, 0, 7, 28, 153, 0, 7, 4, 167, 0, 4, 3, 172]
abbrev dktX6_joined_6 : List UInt8 := dkwX6_joined_6 ++ []
def dkwX6_joined_5 : List UInt8 := [167, 0, 4, 3, 172, 27, 28, 160, 0, 7, 4, 167, 0, 4, 3, 172, 27, 153, 0, 11, 28, 153, 0, 7]
abbrev dktX6_joined_5 : List UInt8 := dkwX6_joined_5 ++ dktX6_joined_6
def dkwX6_joined_4 : List UInt8 := [167, 0, 6, 27, 28, 112, 172, 27, 28, 162, 0, 7, 4, 167, 0, 4, 3, 172, 27, 28, 164, 0, 7, 4]
abbrev dktX6_joined_4 : List UInt8 := dkwX6_joined_4 ++ dktX6_joined_5
def dkwX6_joined_3 : List UInt8 := [160, 0, 8, 27, 116, 167, 0, 6, 27, 28, 108, 172, 28, 153, 0, 8, 28, 2, 160, 0, 7, 3]
abbrev dktX6_joined_3 : List UInt8 := dkwX6_joined_3 ++ dktX6_joined_4
def dkwX6_joined_2 : List UInt8 := [27, 28, 96, 172, 27, 28, 100, 172, 27, 28, 104, 172, 28, 154, 0, 7, 3, 167, 0, 16, 28, 2]
abbrev dktX6_joined_2 : List UInt8 := dkwX6_joined_2 ++ dktX6_joined_3
def dkwX6_joined_1 : List UInt8 := [170, 0, 0, 0, 0, 0, 217, 0, 0, 0, 37, 0, 0, 0, 62, 0, 0, 0, 153, 0, 0, 0, 203, 0, 0, 0, 217, 0, 0, 0, 217, 0, 0, 0, 217, 0, 0, 0, 127, 0, 0, 0, 119, 0, 0, 0, 217, 0, 0, 0, 123, 0, 0, 0, 217, 0, 0, 0, 131, 0, 0, 0, 217, 0, 0, 0, 217, 0, 0, 0, 217, 0, 0, 0, 217, 0, 0, 0, 217, 0, 0, 0, 217, 0, 0, 0, 217, 0, 0, 0, 217, 0, 0, 0, 217, 0, 0, 0, 217, 0, 0, 0, 217, 0, 0, 0, 217, 0, 0, 0, 170, 0, 0, 0, 192, 0, 0, 0, 181]
abbrev dktX6_joined_1 : List UInt8 := dkwX6_joined_1 ++ dktX6_joined_2
def dkwX6_joined_0 : List UInt8 := [26]
abbrev dktX6_joined_0 : List UInt8 := dkwX6_joined_0 ++ dktX6_joined_1
theorem dksX6_joined_0 : cX6_joined.data.toList.drop 0 = dktX6_joined_0 := by decide +kernel
theorem dksX6_joined_1 : cX6_joined.data.toList.drop 1 = dktX6_joined_1 := dk_seg dksX6_joined_0 1 rfl rfl
theorem dksX6_joined_2 : cX6_joined.data.toList.drop 120 = dktX6_joined_2 := dk_seg dksX6_joined_1 119 rfl rfl
theorem dksX6_joined_3 : cX6_joined.data.toList.drop 142 = dktX6_joined_3 := dk_seg dksX6_joined_2 22 rfl rfl
theorem dksX6_joined_4 : cX6_joined.data.toList.drop 164 = dktX6_joined_4 := dk_seg dksX6_joined_3 22 rfl rfl
theorem dksX6_joined_5 : cX6_joined.data.toList.drop 188 = dktX6_joined_5 := dk_seg dksX6_joined_4 24 rfl rfl
theorem dksX6_joined_6 : cX6_joined.data.toList.drop 212 = dktX6_joined_6 := dk_seg dksX6_joined_5 24 rfl rfl
theorem dX6_joined_0 : decode cX6_joined 0 = .ok (.iload_n 0, 1) := dk_26 (dk_at dksX6_joined_0 0 rfl rfl)
theorem dX6_joined_1 : decode cX6_joined 1 = .ok (.tableswitch 217 37 62 #[153, 203, 217, 217, 217, 127, 119, 217, 123, 217, 131, 217, 217, 217, 217, 217, 217, 217, 217, 217, 217, 217, 217, 170, 192, 181], 119) := by decide +kernel
theorem dX6_joined_120 : decode cX6_joined 120 = .ok (.iload_n 1, 1) := dk_27 (dk_at dksX6_joined_2 0 rfl rfl)
theorem dX6_joined_121 : decode cX6_joined 121 = .ok (.iload_n 2, 1) := dk_28 (dk_at dksX6_joined_2 1 rfl rfl)
theorem dX6_joined_122 : decode cX6_joined 122 = .ok (.iadd, 1) := dk_96 (dk_at dksX6_joined_2 2 rfl rfl)
theorem dX6_joined_123 : decode cX6_joined 123 = .ok (.ireturn, 1) := dk_172 (dk_at dksX6_joined_2 3 rfl rfl)
theorem dX6_joined_124 : decode cX6_joined 124 = .ok (.iload_n 1, 1) := dk_27 (dk_at dksX6_joined_2 4 rfl rfl)
theorem dX6_joined_125 : decode cX6_joined 125 = .ok (.iload_n 2, 1) := dk_28 (dk_at dksX6_joined_2 5 rfl rfl)
theorem dX6_joined_126 : decode cX6_joined 126 = .ok (.isub, 1) := dk_100 (dk_at dksX6_joined_2 6 rfl rfl)
theorem dX6_joined_127 : decode cX6_joined 127 = .ok (.ireturn, 1) := dk_172 (dk_at dksX6_joined_2 7 rfl rfl)
theorem dX6_joined_128 : decode cX6_joined 128 = .ok (.iload_n 1, 1) := dk_27 (dk_at dksX6_joined_2 8 rfl rfl)
theorem dX6_joined_129 : decode cX6_joined 129 = .ok (.iload_n 2, 1) := dk_28 (dk_at dksX6_joined_2 9 rfl rfl)
theorem dX6_joined_130 : decode cX6_joined 130 = .ok (.imul, 1) := dk_104 (dk_at dksX6_joined_2 10 rfl rfl)
theorem dX6_joined_131 : decode cX6_joined 131 = .ok (.ireturn, 1) := dk_172 (dk_at dksX6_joined_2 11 rfl rfl)
theorem dX6_joined_132 : decode cX6_joined 132 = .ok (.iload_n 2, 1) := dk_28 (dk_at dksX6_joined_2 12 rfl rfl)
theorem dX6_joined_133 : decode cX6_joined 133 = .ok (.ifCond .ne 7, 3) := dk_154 0 7 (dk_at dksX6_joined_2 13 rfl rfl)
theorem dX6_joined_136 : decode cX6_joined 136 = .ok (.iconst 0, 1) := dk_3 (dk_at dksX6_joined_2 16 rfl rfl)
theorem dX6_joined_137 : decode cX6_joined 137 = .ok (.goto 16, 3) := dk_167 0 16 (dk_at dksX6_joined_2 17 rfl rfl)
theorem dX6_joined_140 : decode cX6_joined 140 = .ok (.iload_n 2, 1) := dk_28 (dk_at dksX6_joined_2 20 rfl rfl)
theorem dX6_joined_141 : decode cX6_joined 141 = .ok (.iconst (-1), 1) := dk_2 (dk_at dksX6_joined_2 21 rfl rfl)
theorem dX6_joined_142 : decode cX6_joined 142 = .ok (.if_icmp .ne 8, 3) := dk_160 0 8 (dk_at dksX6_joined_3 0 rfl rfl)
theorem dX6_joined_145 : decode cX6_joined 145 = .ok (.iload_n 1, 1) := dk_27 (dk_at dksX6_joined_3 3 rfl rfl)
theorem dX6_joined_146 : decode cX6_joined 146 = .ok (.ineg, 1) := dk_116 (dk_at dksX6_joined_3 4 rfl rfl)
theorem dX6_joined_147 : decode cX6_joined 147 = .ok (.goto 6, 3) := dk_167 0 6 (dk_at dksX6_joined_3 5 rfl rfl)
theorem dX6_joined_150 : decode cX6_joined 150 = .ok (.iload_n 1, 1) := dk_27 (dk_at dksX6_joined_3 8 rfl rfl)
theorem dX6_joined_151 : decode cX6_joined 151 = .ok (.iload_n 2, 1) := dk_28 (dk_at dksX6_joined_3 9 rfl rfl)
theorem dX6_joined_152 : decode cX6_joined 152 = .ok (.idiv, 1) := dk_108 (dk_at dksX6_joined_3 10 rfl rfl)
theorem dX6_joined_153 : decode cX6_joined 153 = .ok (.ireturn, 1) := dk_172 (dk_at dksX6_joined_3 11 rfl rfl)
theorem dX6_joined_154 : decode cX6_joined 154 = .ok (.iload_n 2, 1) := dk_28 (dk_at dksX6_joined_3 12 rfl rfl)
theorem dX6_joined_155 : decode cX6_joined 155 = .ok (.ifCond .eq 8, 3) := dk_153 0 8 (dk_at dksX6_joined_3 13 rfl rfl)
theorem dX6_joined_158 : decode cX6_joined 158 = .ok (.iload_n 2, 1) := dk_28 (dk_at dksX6_joined_3 16 rfl rfl)
theorem dX6_joined_159 : decode cX6_joined 159 = .ok (.iconst (-1), 1) := dk_2 (dk_at dksX6_joined_3 17 rfl rfl)
theorem dX6_joined_160 : decode cX6_joined 160 = .ok (.if_icmp .ne 7, 3) := dk_160 0 7 (dk_at dksX6_joined_3 18 rfl rfl)
theorem dX6_joined_163 : decode cX6_joined 163 = .ok (.iconst 0, 1) := dk_3 (dk_at dksX6_joined_3 21 rfl rfl)
theorem dX6_joined_164 : decode cX6_joined 164 = .ok (.goto 6, 3) := dk_167 0 6 (dk_at dksX6_joined_4 0 rfl rfl)
theorem dX6_joined_167 : decode cX6_joined 167 = .ok (.iload_n 1, 1) := dk_27 (dk_at dksX6_joined_4 3 rfl rfl)
theorem dX6_joined_168 : decode cX6_joined 168 = .ok (.iload_n 2, 1) := dk_28 (dk_at dksX6_joined_4 4 rfl rfl)
theorem dX6_joined_169 : decode cX6_joined 169 = .ok (.irem, 1) := dk_112 (dk_at dksX6_joined_4 5 rfl rfl)
theorem dX6_joined_170 : decode cX6_joined 170 = .ok (.ireturn, 1) := dk_172 (dk_at dksX6_joined_4 6 rfl rfl)
theorem dX6_joined_171 : decode cX6_joined 171 = .ok (.iload_n 1, 1) := dk_27 (dk_at dksX6_joined_4 7 rfl rfl)
theorem dX6_joined_172 : decode cX6_joined 172 = .ok (.iload_n 2, 1) := dk_28 (dk_at dksX6_joined_4 8 rfl rfl)
theorem dX6_joined_173 : decode cX6_joined 173 = .ok (.if_icmp .ge 7, 3) := dk_162 0 7 (dk_at dksX6_joined_4 9 rfl rfl)
theorem dX6_joined_176 : decode cX6_joined 176 = .ok (.iconst 1, 1) := dk_4 (dk_at dksX6_joined_4 12 rfl rfl)
theorem dX6_joined_177 : decode cX6_joined 177 = .ok (.goto 4, 3) := dk_167 0 4 (dk_at dksX6_joined_4 13 rfl rfl)
theorem dX6_joined_180 : decode cX6_joined 180 = .ok (.iconst 0, 1) := dk_3 (dk_at dksX6_joined_4 16 rfl rfl)
theorem dX6_joined_181 : decode cX6_joined 181 = .ok (.ireturn, 1) := dk_172 (dk_at dksX6_joined_4 17 rfl rfl)
theorem dX6_joined_182 : decode cX6_joined 182 = .ok (.iload_n 1, 1) := dk_27 (dk_at dksX6_joined_4 18 rfl rfl)
theorem dX6_joined_183 : decode cX6_joined 183 = .ok (.iload_n 2, 1) := dk_28 (dk_at dksX6_joined_4 19 rfl rfl)
theorem dX6_joined_184 : decode cX6_joined 184 = .ok (.if_icmp .le 7, 3) := dk_164 0 7 (dk_at dksX6_joined_4 20 rfl rfl)
theorem dX6_joined_187 : decode cX6_joined 187 = .ok (.iconst 1, 1) := dk_4 (dk_at dksX6_joined_4 23 rfl rfl)
theorem dX6_joined_188 : decode cX6_joined 188 = .ok (.goto 4, 3) := dk_167 0 4 (dk_at dksX6_joined_5 0 rfl rfl)
theorem dX6_joined_191 : decode cX6_joined 191 = .ok (.iconst 0, 1) := dk_3 (dk_at dksX6_joined_5 3 rfl rfl)
theorem dX6_joined_192 : decode cX6_joined 192 = .ok (.ireturn, 1) := dk_172 (dk_at dksX6_joined_5 4 rfl rfl)
theorem dX6_joined_193 : decode cX6_joined 193 = .ok (.iload_n 1, 1) := dk_27 (dk_at dksX6_joined_5 5 rfl rfl)
theorem dX6_joined_194 : decode cX6_joined 194 = .ok (.iload_n 2, 1) := dk_28 (dk_at dksX6_joined_5 6 rfl rfl)
theorem dX6_joined_195 : decode cX6_joined 195 = .ok (.if_icmp .ne 7, 3) := dk_160 0 7 (dk_at dksX6_joined_5 7 rfl rfl)
theorem dX6_joined_198 : decode cX6_joined 198 = .ok (.iconst 1, 1) := dk_4 (dk_at dksX6_joined_5 10 rfl rfl)
theorem dX6_joined_199 : decode cX6_joined 199 = .ok (.goto 4, 3) := dk_167 0 4 (dk_at dksX6_joined_5 11 rfl rfl)
theorem dX6_joined_202 : decode cX6_joined 202 = .ok (.iconst 0, 1) := dk_3 (dk_at dksX6_joined_5 14 rfl rfl)
theorem dX6_joined_203 : decode cX6_joined 203 = .ok (.ireturn, 1) := dk_172 (dk_at dksX6_joined_5 15 rfl rfl)
theorem dX6_joined_204 : decode cX6_joined 204 = .ok (.iload_n 1, 1) := dk_27 (dk_at dksX6_joined_5 16 rfl rfl)
theorem dX6_joined_205 : decode cX6_joined 205 = .ok (.ifCond .eq 11, 3) := dk_153 0 11 (dk_at dksX6_joined_5 17 rfl rfl)
theorem dX6_joined_208 : decode cX6_joined 208 = .ok (.iload_n 2, 1) := dk_28 (dk_at dksX6_joined_5 20 rfl rfl)
theorem dX6_joined_209 : decode cX6_joined 209 = .ok (.ifCond .eq 7, 3) := dk_153 0 7 (dk_at dksX6_joined_5 21 rfl rfl)
theorem dX6_joined_212 : decode cX6_joined 212 = .ok (.iconst 1, 1) := dk_4 (dk_at dksX6_joined_6 0 rfl rfl)
theorem dX6_joined_213 : decode cX6_joined 213 = .ok (.goto 4, 3) := dk_167 0 4 (dk_at dksX6_joined_6 1 rfl rfl)
theorem dX6_joined_216 : decode cX6_joined 216 = .ok (.iconst 0, 1) := dk_3 (dk_at dksX6_joined_6 4 rfl rfl)
theorem dX6_joined_217 : decode cX6_joined 217 = .ok (.ireturn, 1) := dk_172 (dk_at dksX6_joined_6 5 rfl rfl)
theorem dX6_joined_218 : decode cX6_joined 218 = .ok (.iload_n 1, 1) := dk_27 (dk_at dksX6_joined_6 6 rfl rfl)
theorem dX6_joined_219 : decode cX6_joined 219 = .ok (.ifCond .ne 7, 3) := dk_154 0 7 (dk_at dksX6_joined_6 7 rfl rfl)
theorem dX6_joined_222 : decode cX6_joined 222 = .ok (.iload_n 2, 1) := dk_28 (dk_at dksX6_joined_6 10 rfl rfl)
theorem dX6_joined_223 : decode cX6_joined 223 = .ok (.ifCond .eq 7, 3) := dk_153 0 7 (dk_at dksX6_joined_6 11 rfl rfl)
theorem dX6_joined_226 : decode cX6_joined 226 = .ok (.iconst 1, 1) := dk_4 (dk_at dksX6_joined_6 14 rfl rfl)
theorem dX6_joined_227 : decode cX6_joined 227 = .ok (.goto 4, 3) := dk_167 0 4 (dk_at dksX6_joined_6 15 rfl rfl)
theorem dX6_joined_230 : decode cX6_joined 230 = .ok (.iconst 0, 1) := dk_3 (dk_at dksX6_joined_6 18 rfl rfl)
theorem dX6_joined_231 : decode cX6_joined 231 = .ok (.ireturn, 1) := dk_172 (dk_at dksX6_joined_6 19 rfl rfl)
abbrev cX6_held : ByteArray := prog_20_method_4_code
def yX6_held : MethodName := ⟨RX6, "held", "(III)I"⟩
def dkwX6_held_0 : List UInt8 := [26, 27, 162, 0, 7, 27, 167, 0, 13, 26, 28, 164, 0, 7, 28, 167, 0, 4, 26, 172]
abbrev dktX6_held_0 : List UInt8 := dkwX6_held_0 ++ []
theorem dksX6_held_0 : cX6_held.data.toList.drop 0 = dktX6_held_0 := by decide +kernel
theorem dX6_held_0 : decode cX6_held 0 = .ok (.iload_n 0, 1) := dk_26 (dk_at dksX6_held_0 0 rfl rfl)
theorem dX6_held_1 : decode cX6_held 1 = .ok (.iload_n 1, 1) := dk_27 (dk_at dksX6_held_0 1 rfl rfl)
theorem dX6_held_2 : decode cX6_held 2 = .ok (.if_icmp .ge 7, 3) := dk_162 0 7 (dk_at dksX6_held_0 2 rfl rfl)
theorem dX6_held_5 : decode cX6_held 5 = .ok (.iload_n 1, 1) := dk_27 (dk_at dksX6_held_0 5 rfl rfl)
theorem dX6_held_6 : decode cX6_held 6 = .ok (.goto 13, 3) := dk_167 0 13 (dk_at dksX6_held_0 6 rfl rfl)
theorem dX6_held_9 : decode cX6_held 9 = .ok (.iload_n 0, 1) := dk_26 (dk_at dksX6_held_0 9 rfl rfl)
theorem dX6_held_10 : decode cX6_held 10 = .ok (.iload_n 2, 1) := dk_28 (dk_at dksX6_held_0 10 rfl rfl)
theorem dX6_held_11 : decode cX6_held 11 = .ok (.if_icmp .le 7, 3) := dk_164 0 7 (dk_at dksX6_held_0 11 rfl rfl)
theorem dX6_held_14 : decode cX6_held 14 = .ok (.iload_n 2, 1) := dk_28 (dk_at dksX6_held_0 14 rfl rfl)
theorem dX6_held_15 : decode cX6_held 15 = .ok (.goto 4, 3) := dk_167 0 4 (dk_at dksX6_held_0 15 rfl rfl)
theorem dX6_held_18 : decode cX6_held 18 = .ok (.iload_n 0, 1) := dk_26 (dk_at dksX6_held_0 18 rfl rfl)
theorem dX6_held_19 : decode cX6_held 19 = .ok (.ireturn, 1) := dk_172 (dk_at dksX6_held_0 19 rfl rfl)
abbrev cX6_till : ByteArray := prog_20_method_37_code
def yX6_till : MethodName := ⟨RX6, "till", "(II)I"⟩
def dkwX6_till_3 : List UInt8 := [172]
abbrev dktX6_till_3 : List UInt8 := dkwX6_till_3 ++ []
def dkwX6_till_2 : List UInt8 := [96, 28, 16, 10, 108, 79, 42, 180, 0, 7, 16, 32, 5, 27, 104, 96, 4, 96, 28, 16, 10, 112, 79, 29]
abbrev dktX6_till_2 : List UInt8 := dkwX6_till_2 ++ dktX6_till_3
def dkwX6_till_1 : List UInt8 := [16, 10, 42, 27, 182, 0, 130, 104, 42, 27, 182, 0, 127, 96, 62, 42, 180, 0, 7, 16, 32, 5, 27, 104]
abbrev dktX6_till_1 : List UInt8 := dkwX6_till_1 ++ dktX6_till_2
def dkwX6_till_0 : List UInt8 := [27, 184, 0, 161, 153, 0, 13, 28, 3, 16, 69, 184, 0, 59, 154, 0, 9, 42, 4, 182, 0, 63, 172]
abbrev dktX6_till_0 : List UInt8 := dkwX6_till_0 ++ dktX6_till_1
theorem dksX6_till_0 : cX6_till.data.toList.drop 0 = dktX6_till_0 := by decide +kernel
theorem dksX6_till_1 : cX6_till.data.toList.drop 23 = dktX6_till_1 := dk_seg dksX6_till_0 23 rfl rfl
theorem dksX6_till_2 : cX6_till.data.toList.drop 47 = dktX6_till_2 := dk_seg dksX6_till_1 24 rfl rfl
theorem dksX6_till_3 : cX6_till.data.toList.drop 71 = dktX6_till_3 := dk_seg dksX6_till_2 24 rfl rfl
theorem dX6_till_0 : decode cX6_till 0 = .ok (.iload_n 1, 1) := dk_27 (dk_at dksX6_till_0 0 rfl rfl)
theorem dX6_till_1 : decode cX6_till 1 = .ok (.invokestatic 161, 3) := dk_184 0 161 (dk_at dksX6_till_0 1 rfl rfl)
theorem dX6_till_4 : decode cX6_till 4 = .ok (.ifCond .eq 13, 3) := dk_153 0 13 (dk_at dksX6_till_0 4 rfl rfl)
theorem dX6_till_7 : decode cX6_till 7 = .ok (.iload_n 2, 1) := dk_28 (dk_at dksX6_till_0 7 rfl rfl)
theorem dX6_till_8 : decode cX6_till 8 = .ok (.iconst 0, 1) := dk_3 (dk_at dksX6_till_0 8 rfl rfl)
theorem dX6_till_9 : decode cX6_till 9 = .ok (.bipush 69, 2) := dk_16 69 (dk_at dksX6_till_0 9 rfl rfl)
theorem dX6_till_11 : decode cX6_till 11 = .ok (.invokestatic 59, 3) := dk_184 0 59 (dk_at dksX6_till_0 11 rfl rfl)
theorem dX6_till_14 : decode cX6_till 14 = .ok (.ifCond .ne 9, 3) := dk_154 0 9 (dk_at dksX6_till_0 14 rfl rfl)
theorem dX6_till_17 : decode cX6_till 17 = .ok (.aload_n 0, 1) := dk_42 (dk_at dksX6_till_0 17 rfl rfl)
theorem dX6_till_18 : decode cX6_till 18 = .ok (.iconst 1, 1) := dk_4 (dk_at dksX6_till_0 18 rfl rfl)
theorem dX6_till_19 : decode cX6_till 19 = .ok (.invokevirtual 63, 3) := dk_182 0 63 (dk_at dksX6_till_0 19 rfl rfl)
theorem dX6_till_22 : decode cX6_till 22 = .ok (.ireturn, 1) := dk_172 (dk_at dksX6_till_0 22 rfl rfl)
theorem dX6_till_23 : decode cX6_till 23 = .ok (.bipush 10, 2) := dk_16 10 (dk_at dksX6_till_1 0 rfl rfl)
theorem dX6_till_25 : decode cX6_till 25 = .ok (.aload_n 0, 1) := dk_42 (dk_at dksX6_till_1 2 rfl rfl)
theorem dX6_till_26 : decode cX6_till 26 = .ok (.iload_n 1, 1) := dk_27 (dk_at dksX6_till_1 3 rfl rfl)
theorem dX6_till_27 : decode cX6_till 27 = .ok (.invokevirtual 130, 3) := dk_182 0 130 (dk_at dksX6_till_1 4 rfl rfl)
theorem dX6_till_30 : decode cX6_till 30 = .ok (.imul, 1) := dk_104 (dk_at dksX6_till_1 7 rfl rfl)
theorem dX6_till_31 : decode cX6_till 31 = .ok (.aload_n 0, 1) := dk_42 (dk_at dksX6_till_1 8 rfl rfl)
theorem dX6_till_32 : decode cX6_till 32 = .ok (.iload_n 1, 1) := dk_27 (dk_at dksX6_till_1 9 rfl rfl)
theorem dX6_till_33 : decode cX6_till 33 = .ok (.invokevirtual 127, 3) := dk_182 0 127 (dk_at dksX6_till_1 10 rfl rfl)
theorem dX6_till_36 : decode cX6_till 36 = .ok (.iadd, 1) := dk_96 (dk_at dksX6_till_1 13 rfl rfl)
theorem dX6_till_37 : decode cX6_till 37 = .ok (.istore_n 3, 1) := dk_62 (dk_at dksX6_till_1 14 rfl rfl)
theorem dX6_till_38 : decode cX6_till 38 = .ok (.aload_n 0, 1) := dk_42 (dk_at dksX6_till_1 15 rfl rfl)
theorem dX6_till_39 : decode cX6_till 39 = .ok (.getfield 7, 3) := dk_180 0 7 (dk_at dksX6_till_1 16 rfl rfl)
theorem dX6_till_42 : decode cX6_till 42 = .ok (.bipush 32, 2) := dk_16 32 (dk_at dksX6_till_1 19 rfl rfl)
theorem dX6_till_44 : decode cX6_till 44 = .ok (.iconst 2, 1) := dk_5 (dk_at dksX6_till_1 21 rfl rfl)
theorem dX6_till_45 : decode cX6_till 45 = .ok (.iload_n 1, 1) := dk_27 (dk_at dksX6_till_1 22 rfl rfl)
theorem dX6_till_46 : decode cX6_till 46 = .ok (.imul, 1) := dk_104 (dk_at dksX6_till_1 23 rfl rfl)
theorem dX6_till_47 : decode cX6_till 47 = .ok (.iadd, 1) := dk_96 (dk_at dksX6_till_2 0 rfl rfl)
theorem dX6_till_48 : decode cX6_till 48 = .ok (.iload_n 2, 1) := dk_28 (dk_at dksX6_till_2 1 rfl rfl)
theorem dX6_till_49 : decode cX6_till 49 = .ok (.bipush 10, 2) := dk_16 10 (dk_at dksX6_till_2 2 rfl rfl)
theorem dX6_till_51 : decode cX6_till 51 = .ok (.idiv, 1) := dk_108 (dk_at dksX6_till_2 4 rfl rfl)
theorem dX6_till_52 : decode cX6_till 52 = .ok (.iastore, 1) := dk_79 (dk_at dksX6_till_2 5 rfl rfl)
theorem dX6_till_53 : decode cX6_till 53 = .ok (.aload_n 0, 1) := dk_42 (dk_at dksX6_till_2 6 rfl rfl)
theorem dX6_till_54 : decode cX6_till 54 = .ok (.getfield 7, 3) := dk_180 0 7 (dk_at dksX6_till_2 7 rfl rfl)
theorem dX6_till_57 : decode cX6_till 57 = .ok (.bipush 32, 2) := dk_16 32 (dk_at dksX6_till_2 10 rfl rfl)
theorem dX6_till_59 : decode cX6_till 59 = .ok (.iconst 2, 1) := dk_5 (dk_at dksX6_till_2 12 rfl rfl)
theorem dX6_till_60 : decode cX6_till 60 = .ok (.iload_n 1, 1) := dk_27 (dk_at dksX6_till_2 13 rfl rfl)
theorem dX6_till_61 : decode cX6_till 61 = .ok (.imul, 1) := dk_104 (dk_at dksX6_till_2 14 rfl rfl)
theorem dX6_till_62 : decode cX6_till 62 = .ok (.iadd, 1) := dk_96 (dk_at dksX6_till_2 15 rfl rfl)
theorem dX6_till_63 : decode cX6_till 63 = .ok (.iconst 1, 1) := dk_4 (dk_at dksX6_till_2 16 rfl rfl)
theorem dX6_till_64 : decode cX6_till 64 = .ok (.iadd, 1) := dk_96 (dk_at dksX6_till_2 17 rfl rfl)
theorem dX6_till_65 : decode cX6_till 65 = .ok (.iload_n 2, 1) := dk_28 (dk_at dksX6_till_2 18 rfl rfl)
theorem dX6_till_66 : decode cX6_till 66 = .ok (.bipush 10, 2) := dk_16 10 (dk_at dksX6_till_2 19 rfl rfl)
theorem dX6_till_68 : decode cX6_till 68 = .ok (.irem, 1) := dk_112 (dk_at dksX6_till_2 21 rfl rfl)
theorem dX6_till_69 : decode cX6_till 69 = .ok (.iastore, 1) := dk_79 (dk_at dksX6_till_2 22 rfl rfl)
theorem dX6_till_70 : decode cX6_till 70 = .ok (.iload_n 3, 1) := dk_29 (dk_at dksX6_till_2 23 rfl rfl)
theorem dX6_till_71 : decode cX6_till 71 = .ok (.ireturn, 1) := dk_172 (dk_at dksX6_till_3 0 rfl rfl)
abbrev cX6_isTill : ByteArray := prog_20_method_7_code
def yX6_isTill : MethodName := ⟨RX6, "isTill", "(I)Z"⟩
def dkwX6_isTill_0 : List UInt8 := [26, 3, 6, 184, 0, 59, 172]
abbrev dktX6_isTill_0 : List UInt8 := dkwX6_isTill_0 ++ []
theorem dksX6_isTill_0 : cX6_isTill.data.toList.drop 0 = dktX6_isTill_0 := by decide +kernel
theorem dX6_isTill_0 : decode cX6_isTill 0 = .ok (.iload_n 0, 1) := dk_26 (dk_at dksX6_isTill_0 0 rfl rfl)
theorem dX6_isTill_1 : decode cX6_isTill 1 = .ok (.iconst 0, 1) := dk_3 (dk_at dksX6_isTill_0 1 rfl rfl)
theorem dX6_isTill_2 : decode cX6_isTill 2 = .ok (.iconst 3, 1) := dk_6 (dk_at dksX6_isTill_0 2 rfl rfl)
theorem dX6_isTill_3 : decode cX6_isTill 3 = .ok (.invokestatic 59, 3) := dk_184 0 59 (dk_at dksX6_isTill_0 3 rfl rfl)
theorem dX6_isTill_6 : decode cX6_isTill 6 = .ok (.ireturn, 1) := dk_172 (dk_at dksX6_isTill_0 6 rfl rfl)
abbrev cX6_kindOf : ByteArray := prog_20_method_8_code
def yX6_kindOf : MethodName := ⟨RX6, "kindOf", "(I)I"⟩
def dkwX6_kindOf_0 : List UInt8 := [42, 180, 0, 7, 16, 32, 5, 27, 104, 96, 46, 172]
abbrev dktX6_kindOf_0 : List UInt8 := dkwX6_kindOf_0 ++ []
theorem dksX6_kindOf_0 : cX6_kindOf.data.toList.drop 0 = dktX6_kindOf_0 := by decide +kernel
theorem dX6_kindOf_0 : decode cX6_kindOf 0 = .ok (.aload_n 0, 1) := dk_42 (dk_at dksX6_kindOf_0 0 rfl rfl)
theorem dX6_kindOf_1 : decode cX6_kindOf 1 = .ok (.getfield 7, 3) := dk_180 0 7 (dk_at dksX6_kindOf_0 1 rfl rfl)
theorem dX6_kindOf_4 : decode cX6_kindOf 4 = .ok (.bipush 32, 2) := dk_16 32 (dk_at dksX6_kindOf_0 4 rfl rfl)
theorem dX6_kindOf_6 : decode cX6_kindOf 6 = .ok (.iconst 2, 1) := dk_5 (dk_at dksX6_kindOf_0 6 rfl rfl)
theorem dX6_kindOf_7 : decode cX6_kindOf 7 = .ok (.iload_n 1, 1) := dk_27 (dk_at dksX6_kindOf_0 7 rfl rfl)
theorem dX6_kindOf_8 : decode cX6_kindOf 8 = .ok (.imul, 1) := dk_104 (dk_at dksX6_kindOf_0 8 rfl rfl)
theorem dX6_kindOf_9 : decode cX6_kindOf 9 = .ok (.iadd, 1) := dk_96 (dk_at dksX6_kindOf_0 9 rfl rfl)
theorem dX6_kindOf_10 : decode cX6_kindOf 10 = .ok (.iaload, 1) := dk_46 (dk_at dksX6_kindOf_0 10 rfl rfl)
theorem dX6_kindOf_11 : decode cX6_kindOf 11 = .ok (.ireturn, 1) := dk_172 (dk_at dksX6_kindOf_0 11 rfl rfl)
abbrev cX6_mOf : ByteArray := prog_20_method_9_code
def yX6_mOf : MethodName := ⟨RX6, "mOf", "(I)I"⟩
def dkwX6_mOf_0 : List UInt8 := [42, 180, 0, 7, 16, 32, 5, 27, 104, 96, 4, 96, 46, 172]
abbrev dktX6_mOf_0 : List UInt8 := dkwX6_mOf_0 ++ []
theorem dksX6_mOf_0 : cX6_mOf.data.toList.drop 0 = dktX6_mOf_0 := by decide +kernel
theorem dX6_mOf_0 : decode cX6_mOf 0 = .ok (.aload_n 0, 1) := dk_42 (dk_at dksX6_mOf_0 0 rfl rfl)
theorem dX6_mOf_1 : decode cX6_mOf 1 = .ok (.getfield 7, 3) := dk_180 0 7 (dk_at dksX6_mOf_0 1 rfl rfl)
theorem dX6_mOf_4 : decode cX6_mOf 4 = .ok (.bipush 32, 2) := dk_16 32 (dk_at dksX6_mOf_0 4 rfl rfl)
theorem dX6_mOf_6 : decode cX6_mOf 6 = .ok (.iconst 2, 1) := dk_5 (dk_at dksX6_mOf_0 6 rfl rfl)
theorem dX6_mOf_7 : decode cX6_mOf 7 = .ok (.iload_n 1, 1) := dk_27 (dk_at dksX6_mOf_0 7 rfl rfl)
theorem dX6_mOf_8 : decode cX6_mOf 8 = .ok (.imul, 1) := dk_104 (dk_at dksX6_mOf_0 8 rfl rfl)
theorem dX6_mOf_9 : decode cX6_mOf 9 = .ok (.iadd, 1) := dk_96 (dk_at dksX6_mOf_0 9 rfl rfl)
theorem dX6_mOf_10 : decode cX6_mOf 10 = .ok (.iconst 1, 1) := dk_4 (dk_at dksX6_mOf_0 10 rfl rfl)
theorem dX6_mOf_11 : decode cX6_mOf 11 = .ok (.iadd, 1) := dk_96 (dk_at dksX6_mOf_0 11 rfl rfl)
theorem dX6_mOf_12 : decode cX6_mOf 12 = .ok (.iaload, 1) := dk_46 (dk_at dksX6_mOf_0 12 rfl rfl)
theorem dX6_mOf_13 : decode cX6_mOf 13 = .ok (.ireturn, 1) := dk_172 (dk_at dksX6_mOf_0 13 rfl rfl)
abbrev cX6_tillIs : ByteArray := prog_20_method_38_code
def yX6_tillIs : MethodName := ⟨RX6, "tillIs", "(II)I"⟩
def dkwX6_tillIs_1 : List UInt8 := [104, 96, 28, 96, 46, 167, 0, 8, 42, 4, 182, 0, 63, 172]
abbrev dktX6_tillIs_1 : List UInt8 := dkwX6_tillIs_1 ++ []
def dkwX6_tillIs_0 : List UInt8 := [27, 184, 0, 161, 153, 0, 28, 28, 3, 4, 184, 0, 59, 153, 0, 19, 42, 180, 0, 7, 16, 32, 5, 27]
abbrev dktX6_tillIs_0 : List UInt8 := dkwX6_tillIs_0 ++ dktX6_tillIs_1
theorem dksX6_tillIs_0 : cX6_tillIs.data.toList.drop 0 = dktX6_tillIs_0 := by decide +kernel
theorem dksX6_tillIs_1 : cX6_tillIs.data.toList.drop 24 = dktX6_tillIs_1 := dk_seg dksX6_tillIs_0 24 rfl rfl
theorem dX6_tillIs_0 : decode cX6_tillIs 0 = .ok (.iload_n 1, 1) := dk_27 (dk_at dksX6_tillIs_0 0 rfl rfl)
theorem dX6_tillIs_1 : decode cX6_tillIs 1 = .ok (.invokestatic 161, 3) := dk_184 0 161 (dk_at dksX6_tillIs_0 1 rfl rfl)
theorem dX6_tillIs_4 : decode cX6_tillIs 4 = .ok (.ifCond .eq 28, 3) := dk_153 0 28 (dk_at dksX6_tillIs_0 4 rfl rfl)
theorem dX6_tillIs_7 : decode cX6_tillIs 7 = .ok (.iload_n 2, 1) := dk_28 (dk_at dksX6_tillIs_0 7 rfl rfl)
theorem dX6_tillIs_8 : decode cX6_tillIs 8 = .ok (.iconst 0, 1) := dk_3 (dk_at dksX6_tillIs_0 8 rfl rfl)
theorem dX6_tillIs_9 : decode cX6_tillIs 9 = .ok (.iconst 1, 1) := dk_4 (dk_at dksX6_tillIs_0 9 rfl rfl)
theorem dX6_tillIs_10 : decode cX6_tillIs 10 = .ok (.invokestatic 59, 3) := dk_184 0 59 (dk_at dksX6_tillIs_0 10 rfl rfl)
theorem dX6_tillIs_13 : decode cX6_tillIs 13 = .ok (.ifCond .eq 19, 3) := dk_153 0 19 (dk_at dksX6_tillIs_0 13 rfl rfl)
theorem dX6_tillIs_16 : decode cX6_tillIs 16 = .ok (.aload_n 0, 1) := dk_42 (dk_at dksX6_tillIs_0 16 rfl rfl)
theorem dX6_tillIs_17 : decode cX6_tillIs 17 = .ok (.getfield 7, 3) := dk_180 0 7 (dk_at dksX6_tillIs_0 17 rfl rfl)
theorem dX6_tillIs_20 : decode cX6_tillIs 20 = .ok (.bipush 32, 2) := dk_16 32 (dk_at dksX6_tillIs_0 20 rfl rfl)
theorem dX6_tillIs_22 : decode cX6_tillIs 22 = .ok (.iconst 2, 1) := dk_5 (dk_at dksX6_tillIs_0 22 rfl rfl)
theorem dX6_tillIs_23 : decode cX6_tillIs 23 = .ok (.iload_n 1, 1) := dk_27 (dk_at dksX6_tillIs_0 23 rfl rfl)
theorem dX6_tillIs_24 : decode cX6_tillIs 24 = .ok (.imul, 1) := dk_104 (dk_at dksX6_tillIs_1 0 rfl rfl)
theorem dX6_tillIs_25 : decode cX6_tillIs 25 = .ok (.iadd, 1) := dk_96 (dk_at dksX6_tillIs_1 1 rfl rfl)
theorem dX6_tillIs_26 : decode cX6_tillIs 26 = .ok (.iload_n 2, 1) := dk_28 (dk_at dksX6_tillIs_1 2 rfl rfl)
theorem dX6_tillIs_27 : decode cX6_tillIs 27 = .ok (.iadd, 1) := dk_96 (dk_at dksX6_tillIs_1 3 rfl rfl)
theorem dX6_tillIs_28 : decode cX6_tillIs 28 = .ok (.iaload, 1) := dk_46 (dk_at dksX6_tillIs_1 4 rfl rfl)
theorem dX6_tillIs_29 : decode cX6_tillIs 29 = .ok (.goto 8, 3) := dk_167 0 8 (dk_at dksX6_tillIs_1 5 rfl rfl)
theorem dX6_tillIs_32 : decode cX6_tillIs 32 = .ok (.aload_n 0, 1) := dk_42 (dk_at dksX6_tillIs_1 8 rfl rfl)
theorem dX6_tillIs_33 : decode cX6_tillIs 33 = .ok (.iconst 1, 1) := dk_4 (dk_at dksX6_tillIs_1 9 rfl rfl)
theorem dX6_tillIs_34 : decode cX6_tillIs 34 = .ok (.invokevirtual 63, 3) := dk_182 0 63 (dk_at dksX6_tillIs_1 10 rfl rfl)
theorem dX6_tillIs_37 : decode cX6_tillIs 37 = .ok (.ireturn, 1) := dk_172 (dk_at dksX6_tillIs_1 13 rfl rfl)
abbrev cX6_as : ByteArray := prog_20_method_40_code
def yX6_as : MethodName := ⟨RX6, "as", "(II)I"⟩
def dkwX6_as_2 : List UInt8 := [172]
abbrev dktX6_as_2 : List UInt8 := dkwX6_as_2 ++ []
def dkwX6_as_1 : List UInt8 := [27, 182, 0, 130, 28, 184, 0, 164, 153, 0, 11, 42, 27, 182, 0, 127, 167, 0, 8, 42, 8, 182, 0, 63]
abbrev dktX6_as_1 : List UInt8 := dkwX6_as_1 ++ dktX6_as_2
def dkwX6_as_0 : List UInt8 := [27, 184, 0, 161, 153, 0, 13, 28, 3, 16, 6, 184, 0, 59, 154, 0, 9, 42, 4, 182, 0, 63, 172, 42]
abbrev dktX6_as_0 : List UInt8 := dkwX6_as_0 ++ dktX6_as_1
theorem dksX6_as_0 : cX6_as.data.toList.drop 0 = dktX6_as_0 := by decide +kernel
theorem dksX6_as_1 : cX6_as.data.toList.drop 24 = dktX6_as_1 := dk_seg dksX6_as_0 24 rfl rfl
theorem dksX6_as_2 : cX6_as.data.toList.drop 48 = dktX6_as_2 := dk_seg dksX6_as_1 24 rfl rfl
theorem dX6_as_0 : decode cX6_as 0 = .ok (.iload_n 1, 1) := dk_27 (dk_at dksX6_as_0 0 rfl rfl)
theorem dX6_as_1 : decode cX6_as 1 = .ok (.invokestatic 161, 3) := dk_184 0 161 (dk_at dksX6_as_0 1 rfl rfl)
theorem dX6_as_4 : decode cX6_as 4 = .ok (.ifCond .eq 13, 3) := dk_153 0 13 (dk_at dksX6_as_0 4 rfl rfl)
theorem dX6_as_7 : decode cX6_as 7 = .ok (.iload_n 2, 1) := dk_28 (dk_at dksX6_as_0 7 rfl rfl)
theorem dX6_as_8 : decode cX6_as 8 = .ok (.iconst 0, 1) := dk_3 (dk_at dksX6_as_0 8 rfl rfl)
theorem dX6_as_9 : decode cX6_as 9 = .ok (.bipush 6, 2) := dk_16 6 (dk_at dksX6_as_0 9 rfl rfl)
theorem dX6_as_11 : decode cX6_as 11 = .ok (.invokestatic 59, 3) := dk_184 0 59 (dk_at dksX6_as_0 11 rfl rfl)
theorem dX6_as_14 : decode cX6_as 14 = .ok (.ifCond .ne 9, 3) := dk_154 0 9 (dk_at dksX6_as_0 14 rfl rfl)
theorem dX6_as_17 : decode cX6_as 17 = .ok (.aload_n 0, 1) := dk_42 (dk_at dksX6_as_0 17 rfl rfl)
theorem dX6_as_18 : decode cX6_as 18 = .ok (.iconst 1, 1) := dk_4 (dk_at dksX6_as_0 18 rfl rfl)
theorem dX6_as_19 : decode cX6_as 19 = .ok (.invokevirtual 63, 3) := dk_182 0 63 (dk_at dksX6_as_0 19 rfl rfl)
theorem dX6_as_22 : decode cX6_as 22 = .ok (.ireturn, 1) := dk_172 (dk_at dksX6_as_0 22 rfl rfl)
theorem dX6_as_23 : decode cX6_as 23 = .ok (.aload_n 0, 1) := dk_42 (dk_at dksX6_as_0 23 rfl rfl)
theorem dX6_as_24 : decode cX6_as 24 = .ok (.iload_n 1, 1) := dk_27 (dk_at dksX6_as_1 0 rfl rfl)
theorem dX6_as_25 : decode cX6_as 25 = .ok (.invokevirtual 130, 3) := dk_182 0 130 (dk_at dksX6_as_1 1 rfl rfl)
theorem dX6_as_28 : decode cX6_as 28 = .ok (.iload_n 2, 1) := dk_28 (dk_at dksX6_as_1 4 rfl rfl)
theorem dX6_as_29 : decode cX6_as 29 = .ok (.invokestatic 164, 3) := dk_184 0 164 (dk_at dksX6_as_1 5 rfl rfl)
theorem dX6_as_32 : decode cX6_as 32 = .ok (.ifCond .eq 11, 3) := dk_153 0 11 (dk_at dksX6_as_1 8 rfl rfl)
theorem dX6_as_35 : decode cX6_as 35 = .ok (.aload_n 0, 1) := dk_42 (dk_at dksX6_as_1 11 rfl rfl)
theorem dX6_as_36 : decode cX6_as 36 = .ok (.iload_n 1, 1) := dk_27 (dk_at dksX6_as_1 12 rfl rfl)
theorem dX6_as_37 : decode cX6_as 37 = .ok (.invokevirtual 127, 3) := dk_182 0 127 (dk_at dksX6_as_1 13 rfl rfl)
theorem dX6_as_40 : decode cX6_as 40 = .ok (.goto 8, 3) := dk_167 0 8 (dk_at dksX6_as_1 16 rfl rfl)
theorem dX6_as_43 : decode cX6_as 43 = .ok (.aload_n 0, 1) := dk_42 (dk_at dksX6_as_1 19 rfl rfl)
theorem dX6_as_44 : decode cX6_as 44 = .ok (.iconst 5, 1) := dk_8 (dk_at dksX6_as_1 20 rfl rfl)
theorem dX6_as_45 : decode cX6_as 45 = .ok (.invokevirtual 63, 3) := dk_182 0 63 (dk_at dksX6_as_1 21 rfl rfl)
theorem dX6_as_48 : decode cX6_as 48 = .ok (.ireturn, 1) := dk_172 (dk_at dksX6_as_2 0 rfl rfl)
abbrev cX6_isUnder : ByteArray := prog_20_method_39_code
def yX6_isUnder : MethodName := ⟨RX6, "isUnder", "(II)Z"⟩
def dkwX6_isUnder_1 : List UInt8 := [26, 8, 160, 0, 7, 4, 167, 0, 4, 3, 172]
abbrev dktX6_isUnder_1 : List UInt8 := dkwX6_isUnder_1 ++ []
def dkwX6_isUnder_0 : List UInt8 := [27, 153, 0, 28, 26, 27, 159, 0, 23, 27, 5, 160, 0, 8, 26, 7, 159, 0, 13, 27, 4, 160, 0, 12]
abbrev dktX6_isUnder_0 : List UInt8 := dkwX6_isUnder_0 ++ dktX6_isUnder_1
theorem dksX6_isUnder_0 : cX6_isUnder.data.toList.drop 0 = dktX6_isUnder_0 := by decide +kernel
theorem dksX6_isUnder_1 : cX6_isUnder.data.toList.drop 24 = dktX6_isUnder_1 := dk_seg dksX6_isUnder_0 24 rfl rfl
theorem dX6_isUnder_0 : decode cX6_isUnder 0 = .ok (.iload_n 1, 1) := dk_27 (dk_at dksX6_isUnder_0 0 rfl rfl)
theorem dX6_isUnder_1 : decode cX6_isUnder 1 = .ok (.ifCond .eq 28, 3) := dk_153 0 28 (dk_at dksX6_isUnder_0 1 rfl rfl)
theorem dX6_isUnder_4 : decode cX6_isUnder 4 = .ok (.iload_n 0, 1) := dk_26 (dk_at dksX6_isUnder_0 4 rfl rfl)
theorem dX6_isUnder_5 : decode cX6_isUnder 5 = .ok (.iload_n 1, 1) := dk_27 (dk_at dksX6_isUnder_0 5 rfl rfl)
theorem dX6_isUnder_6 : decode cX6_isUnder 6 = .ok (.if_icmp .eq 23, 3) := dk_159 0 23 (dk_at dksX6_isUnder_0 6 rfl rfl)
theorem dX6_isUnder_9 : decode cX6_isUnder 9 = .ok (.iload_n 1, 1) := dk_27 (dk_at dksX6_isUnder_0 9 rfl rfl)
theorem dX6_isUnder_10 : decode cX6_isUnder 10 = .ok (.iconst 2, 1) := dk_5 (dk_at dksX6_isUnder_0 10 rfl rfl)
theorem dX6_isUnder_11 : decode cX6_isUnder 11 = .ok (.if_icmp .ne 8, 3) := dk_160 0 8 (dk_at dksX6_isUnder_0 11 rfl rfl)
theorem dX6_isUnder_14 : decode cX6_isUnder 14 = .ok (.iload_n 0, 1) := dk_26 (dk_at dksX6_isUnder_0 14 rfl rfl)
theorem dX6_isUnder_15 : decode cX6_isUnder 15 = .ok (.iconst 4, 1) := dk_7 (dk_at dksX6_isUnder_0 15 rfl rfl)
theorem dX6_isUnder_16 : decode cX6_isUnder 16 = .ok (.if_icmp .eq 13, 3) := dk_159 0 13 (dk_at dksX6_isUnder_0 16 rfl rfl)
theorem dX6_isUnder_19 : decode cX6_isUnder 19 = .ok (.iload_n 1, 1) := dk_27 (dk_at dksX6_isUnder_0 19 rfl rfl)
theorem dX6_isUnder_20 : decode cX6_isUnder 20 = .ok (.iconst 1, 1) := dk_4 (dk_at dksX6_isUnder_0 20 rfl rfl)
theorem dX6_isUnder_21 : decode cX6_isUnder 21 = .ok (.if_icmp .ne 12, 3) := dk_160 0 12 (dk_at dksX6_isUnder_0 21 rfl rfl)
theorem dX6_isUnder_24 : decode cX6_isUnder 24 = .ok (.iload_n 0, 1) := dk_26 (dk_at dksX6_isUnder_1 0 rfl rfl)
theorem dX6_isUnder_25 : decode cX6_isUnder 25 = .ok (.iconst 5, 1) := dk_8 (dk_at dksX6_isUnder_1 1 rfl rfl)
theorem dX6_isUnder_26 : decode cX6_isUnder 26 = .ok (.if_icmp .ne 7, 3) := dk_160 0 7 (dk_at dksX6_isUnder_1 2 rfl rfl)
theorem dX6_isUnder_29 : decode cX6_isUnder 29 = .ok (.iconst 1, 1) := dk_4 (dk_at dksX6_isUnder_1 5 rfl rfl)
theorem dX6_isUnder_30 : decode cX6_isUnder 30 = .ok (.goto 4, 3) := dk_167 0 4 (dk_at dksX6_isUnder_1 6 rfl rfl)
theorem dX6_isUnder_33 : decode cX6_isUnder 33 = .ok (.iconst 0, 1) := dk_3 (dk_at dksX6_isUnder_1 9 rfl rfl)
theorem dX6_isUnder_34 : decode cX6_isUnder 34 = .ok (.ireturn, 1) := dk_172 (dk_at dksX6_isUnder_1 10 rfl rfl)
abbrev cX6_figures : ByteArray := prog_20_method_41_code
def yX6_figures : MethodName := ⟨RX6, "figures", "(II)I"⟩
def dkwX6_figures_1 : List UInt8 := [182, 0, 63, 172]
abbrev dktX6_figures_1 : List UInt8 := dkwX6_figures_1 ++ []
def dkwX6_figures_0 : List UInt8 := [27, 155, 0, 21, 28, 5, 16, 11, 184, 0, 59, 153, 0, 11, 27, 28, 184, 0, 123, 167, 0, 8, 42, 4]
abbrev dktX6_figures_0 : List UInt8 := dkwX6_figures_0 ++ dktX6_figures_1
theorem dksX6_figures_0 : cX6_figures.data.toList.drop 0 = dktX6_figures_0 := by decide +kernel
theorem dksX6_figures_1 : cX6_figures.data.toList.drop 24 = dktX6_figures_1 := dk_seg dksX6_figures_0 24 rfl rfl
theorem dX6_figures_0 : decode cX6_figures 0 = .ok (.iload_n 1, 1) := dk_27 (dk_at dksX6_figures_0 0 rfl rfl)
theorem dX6_figures_1 : decode cX6_figures 1 = .ok (.ifCond .lt 21, 3) := dk_155 0 21 (dk_at dksX6_figures_0 1 rfl rfl)
theorem dX6_figures_4 : decode cX6_figures 4 = .ok (.iload_n 2, 1) := dk_28 (dk_at dksX6_figures_0 4 rfl rfl)
theorem dX6_figures_5 : decode cX6_figures 5 = .ok (.iconst 2, 1) := dk_5 (dk_at dksX6_figures_0 5 rfl rfl)
theorem dX6_figures_6 : decode cX6_figures 6 = .ok (.bipush 11, 2) := dk_16 11 (dk_at dksX6_figures_0 6 rfl rfl)
theorem dX6_figures_8 : decode cX6_figures 8 = .ok (.invokestatic 59, 3) := dk_184 0 59 (dk_at dksX6_figures_0 8 rfl rfl)
theorem dX6_figures_11 : decode cX6_figures 11 = .ok (.ifCond .eq 11, 3) := dk_153 0 11 (dk_at dksX6_figures_0 11 rfl rfl)
theorem dX6_figures_14 : decode cX6_figures 14 = .ok (.iload_n 1, 1) := dk_27 (dk_at dksX6_figures_0 14 rfl rfl)
theorem dX6_figures_15 : decode cX6_figures 15 = .ok (.iload_n 2, 1) := dk_28 (dk_at dksX6_figures_0 15 rfl rfl)
theorem dX6_figures_16 : decode cX6_figures 16 = .ok (.invokestatic 123, 3) := dk_184 0 123 (dk_at dksX6_figures_0 16 rfl rfl)
theorem dX6_figures_19 : decode cX6_figures 19 = .ok (.goto 8, 3) := dk_167 0 8 (dk_at dksX6_figures_0 19 rfl rfl)
theorem dX6_figures_22 : decode cX6_figures 22 = .ok (.aload_n 0, 1) := dk_42 (dk_at dksX6_figures_0 22 rfl rfl)
theorem dX6_figures_23 : decode cX6_figures 23 = .ok (.iconst 1, 1) := dk_4 (dk_at dksX6_figures_0 23 rfl rfl)
theorem dX6_figures_24 : decode cX6_figures 24 = .ok (.invokevirtual 63, 3) := dk_182 0 63 (dk_at dksX6_figures_1 0 rfl rfl)
theorem dX6_figures_27 : decode cX6_figures 27 = .ok (.ireturn, 1) := dk_172 (dk_at dksX6_figures_1 3 rfl rfl)
abbrev cX6_added : ByteArray := prog_20_method_27_code
def yX6_added : MethodName := ⟨RX6, "added", "(II)I"⟩
def dkwX6_added_0 : List UInt8 := [3, 61, 26, 62, 29, 158, 0, 16, 28, 29, 27, 112, 96, 61, 29, 27, 108, 62, 167, 255, 242, 28, 172]
abbrev dktX6_added_0 : List UInt8 := dkwX6_added_0 ++ []
theorem dksX6_added_0 : cX6_added.data.toList.drop 0 = dktX6_added_0 := by decide +kernel
theorem dX6_added_0 : decode cX6_added 0 = .ok (.iconst 0, 1) := dk_3 (dk_at dksX6_added_0 0 rfl rfl)
theorem dX6_added_1 : decode cX6_added 1 = .ok (.istore_n 2, 1) := dk_61 (dk_at dksX6_added_0 1 rfl rfl)
theorem dX6_added_2 : decode cX6_added 2 = .ok (.iload_n 0, 1) := dk_26 (dk_at dksX6_added_0 2 rfl rfl)
theorem dX6_added_3 : decode cX6_added 3 = .ok (.istore_n 3, 1) := dk_62 (dk_at dksX6_added_0 3 rfl rfl)
theorem dX6_added_4 : decode cX6_added 4 = .ok (.iload_n 3, 1) := dk_29 (dk_at dksX6_added_0 4 rfl rfl)
theorem dX6_added_5 : decode cX6_added 5 = .ok (.ifCond .le 16, 3) := dk_158 0 16 (dk_at dksX6_added_0 5 rfl rfl)
theorem dX6_added_8 : decode cX6_added 8 = .ok (.iload_n 2, 1) := dk_28 (dk_at dksX6_added_0 8 rfl rfl)
theorem dX6_added_9 : decode cX6_added 9 = .ok (.iload_n 3, 1) := dk_29 (dk_at dksX6_added_0 9 rfl rfl)
theorem dX6_added_10 : decode cX6_added 10 = .ok (.iload_n 1, 1) := dk_27 (dk_at dksX6_added_0 10 rfl rfl)
theorem dX6_added_11 : decode cX6_added 11 = .ok (.irem, 1) := dk_112 (dk_at dksX6_added_0 11 rfl rfl)
theorem dX6_added_12 : decode cX6_added 12 = .ok (.iadd, 1) := dk_96 (dk_at dksX6_added_0 12 rfl rfl)
theorem dX6_added_13 : decode cX6_added 13 = .ok (.istore_n 2, 1) := dk_61 (dk_at dksX6_added_0 13 rfl rfl)
theorem dX6_added_14 : decode cX6_added 14 = .ok (.iload_n 3, 1) := dk_29 (dk_at dksX6_added_0 14 rfl rfl)
theorem dX6_added_15 : decode cX6_added 15 = .ok (.iload_n 1, 1) := dk_27 (dk_at dksX6_added_0 15 rfl rfl)
theorem dX6_added_16 : decode cX6_added 16 = .ok (.idiv, 1) := dk_108 (dk_at dksX6_added_0 16 rfl rfl)
theorem dX6_added_17 : decode cX6_added 17 = .ok (.istore_n 3, 1) := dk_62 (dk_at dksX6_added_0 17 rfl rfl)
theorem dX6_added_18 : decode cX6_added 18 = .ok (.goto (-14), 3) := dk_167 255 242 (dk_at dksX6_added_0 18 rfl rfl)
theorem dX6_added_21 : decode cX6_added 21 = .ok (.iload_n 2, 1) := dk_28 (dk_at dksX6_added_0 21 rfl rfl)
theorem dX6_added_22 : decode cX6_added 22 = .ok (.ireturn, 1) := dk_172 (dk_at dksX6_added_0 22 rfl rfl)
abbrev cX6_asks : ByteArray := prog_20_method_42_code
def yX6_asks : MethodName := ⟨RX6, "asks", "(III)I"⟩
def dkwX6_asks_1 : List UInt8 := [153, 0, 13, 42, 27, 28, 29, 182, 0, 149, 167, 0, 8, 42, 4, 182, 0, 63, 172]
abbrev dktX6_asks_1 : List UInt8 := dkwX6_asks_1 ++ []
def dkwX6_asks_0 : List UInt8 := [27, 184, 0, 161, 153, 0, 33, 28, 3, 18, 168, 184, 0, 59, 153, 0, 23, 29, 3, 16, 30, 184, 0, 59]
abbrev dktX6_asks_0 : List UInt8 := dkwX6_asks_0 ++ dktX6_asks_1
theorem dksX6_asks_0 : cX6_asks.data.toList.drop 0 = dktX6_asks_0 := by decide +kernel
theorem dksX6_asks_1 : cX6_asks.data.toList.drop 24 = dktX6_asks_1 := dk_seg dksX6_asks_0 24 rfl rfl
theorem dX6_asks_0 : decode cX6_asks 0 = .ok (.iload_n 1, 1) := dk_27 (dk_at dksX6_asks_0 0 rfl rfl)
theorem dX6_asks_1 : decode cX6_asks 1 = .ok (.invokestatic 161, 3) := dk_184 0 161 (dk_at dksX6_asks_0 1 rfl rfl)
theorem dX6_asks_4 : decode cX6_asks 4 = .ok (.ifCond .eq 33, 3) := dk_153 0 33 (dk_at dksX6_asks_0 4 rfl rfl)
theorem dX6_asks_7 : decode cX6_asks 7 = .ok (.iload_n 2, 1) := dk_28 (dk_at dksX6_asks_0 7 rfl rfl)
theorem dX6_asks_8 : decode cX6_asks 8 = .ok (.iconst 0, 1) := dk_3 (dk_at dksX6_asks_0 8 rfl rfl)
theorem dX6_asks_9 : decode cX6_asks 9 = .ok (.ldc 168, 2) := dk_18 168 (dk_at dksX6_asks_0 9 rfl rfl)
theorem dX6_asks_11 : decode cX6_asks 11 = .ok (.invokestatic 59, 3) := dk_184 0 59 (dk_at dksX6_asks_0 11 rfl rfl)
theorem dX6_asks_14 : decode cX6_asks 14 = .ok (.ifCond .eq 23, 3) := dk_153 0 23 (dk_at dksX6_asks_0 14 rfl rfl)
theorem dX6_asks_17 : decode cX6_asks 17 = .ok (.iload_n 3, 1) := dk_29 (dk_at dksX6_asks_0 17 rfl rfl)
theorem dX6_asks_18 : decode cX6_asks 18 = .ok (.iconst 0, 1) := dk_3 (dk_at dksX6_asks_0 18 rfl rfl)
theorem dX6_asks_19 : decode cX6_asks 19 = .ok (.bipush 30, 2) := dk_16 30 (dk_at dksX6_asks_0 19 rfl rfl)
theorem dX6_asks_21 : decode cX6_asks 21 = .ok (.invokestatic 59, 3) := dk_184 0 59 (dk_at dksX6_asks_0 21 rfl rfl)
theorem dX6_asks_24 : decode cX6_asks 24 = .ok (.ifCond .eq 13, 3) := dk_153 0 13 (dk_at dksX6_asks_1 0 rfl rfl)
theorem dX6_asks_27 : decode cX6_asks 27 = .ok (.aload_n 0, 1) := dk_42 (dk_at dksX6_asks_1 3 rfl rfl)
theorem dX6_asks_28 : decode cX6_asks 28 = .ok (.iload_n 1, 1) := dk_27 (dk_at dksX6_asks_1 4 rfl rfl)
theorem dX6_asks_29 : decode cX6_asks 29 = .ok (.iload_n 2, 1) := dk_28 (dk_at dksX6_asks_1 5 rfl rfl)
theorem dX6_asks_30 : decode cX6_asks 30 = .ok (.iload_n 3, 1) := dk_29 (dk_at dksX6_asks_1 6 rfl rfl)
theorem dX6_asks_31 : decode cX6_asks 31 = .ok (.invokevirtual 149, 3) := dk_182 0 149 (dk_at dksX6_asks_1 7 rfl rfl)
theorem dX6_asks_34 : decode cX6_asks 34 = .ok (.goto 8, 3) := dk_167 0 8 (dk_at dksX6_asks_1 10 rfl rfl)
theorem dX6_asks_37 : decode cX6_asks 37 = .ok (.aload_n 0, 1) := dk_42 (dk_at dksX6_asks_1 13 rfl rfl)
theorem dX6_asks_38 : decode cX6_asks 38 = .ok (.iconst 1, 1) := dk_4 (dk_at dksX6_asks_1 14 rfl rfl)
theorem dX6_asks_39 : decode cX6_asks 39 = .ok (.invokevirtual 63, 3) := dk_182 0 63 (dk_at dksX6_asks_1 15 rfl rfl)
theorem dX6_asks_42 : decode cX6_asks 42 = .ok (.ireturn, 1) := dk_172 (dk_at dksX6_asks_1 18 rfl rfl)
abbrev cX6_asked : ByteArray := prog_20_method_29_code
def yX6_asked : MethodName := ⟨RX6, "asked", "(III)I"⟩
def dkwX6_asked_8 : List UInt8 := [184, 0, 139, 172]
abbrev dktX6_asked_8 : List UInt8 := dkwX6_asked_8 ++ []
def dkwX6_asked_7 : List UInt8 := [180, 0, 22, 16, 109, 21, 4, 79, 42, 3, 182, 0, 136, 54, 5, 167, 0, 3, 21, 5, 3, 17, 39, 15]
abbrev dktX6_asked_7 : List UInt8 := dkwX6_asked_7 ++ dktX6_asked_8
def dkwX6_asked_6 : List UInt8 := [182, 0, 116, 153, 0, 38, 42, 180, 0, 22, 16, 115, 28, 79, 42, 180, 0, 22, 16, 107, 29, 79, 42]
abbrev dktX6_asked_6 : List UInt8 := dkwX6_asked_6 ++ dktX6_asked_7
def dkwX6_asked_5 : List UInt8 := [16, 10, 112, 21, 4, 162, 0, 8, 21, 4, 167, 0, 7, 28, 16, 10, 112, 54, 5, 167, 0, 46, 42, 3]
abbrev dktX6_asked_5 : List UInt8 := dkwX6_asked_5 ++ dktX6_asked_6
def dkwX6_asked_4 : List UInt8 := [16, 10, 184, 0, 123, 54, 5, 167, 0, 82, 28, 21, 4, 5, 96, 184, 0, 133, 54, 5, 167, 0, 69, 28]
abbrev dktX6_asked_4 : List UInt8 := dkwX6_asked_4 ++ dktX6_asked_5
def dkwX6_asked_3 : List UInt8 := [28, 16, 10, 112, 54, 5, 167, 0, 107, 28, 16, 10, 184, 0, 133, 54, 5, 167, 0, 96, 28, 21, 4, 96]
abbrev dktX6_asked_3 : List UInt8 := dkwX6_asked_3 ++ dktX6_asked_4
def dkwX6_asked_2 : List UInt8 := [170, 0, 0, 0, 0, 151, 0, 0, 0, 1, 0, 0, 0, 6, 0, 0, 0, 38, 0, 0, 0, 47, 0, 0, 0, 58, 0, 0, 0, 72, 0, 0, 0, 85, 0, 0, 0, 108]
abbrev dktX6_asked_2 : List UInt8 := dkwX6_asked_2 ++ dktX6_asked_3
def dkwX6_asked_1 : List UInt8 := [182, 0, 130]
abbrev dktX6_asked_1 : List UInt8 := dkwX6_asked_1 ++ dktX6_asked_2
def dkwX6_asked_0 : List UInt8 := [29, 154, 0, 5, 3, 172, 42, 27, 182, 0, 127, 54, 4, 28, 16, 10, 184, 0, 123, 54, 5, 42, 27]
abbrev dktX6_asked_0 : List UInt8 := dkwX6_asked_0 ++ dktX6_asked_1
theorem dksX6_asked_0 : cX6_asked.data.toList.drop 0 = dktX6_asked_0 := by decide +kernel
theorem dksX6_asked_1 : cX6_asked.data.toList.drop 23 = dktX6_asked_1 := dk_seg dksX6_asked_0 23 rfl rfl
theorem dksX6_asked_2 : cX6_asked.data.toList.drop 26 = dktX6_asked_2 := dk_seg dksX6_asked_1 3 rfl rfl
theorem dksX6_asked_3 : cX6_asked.data.toList.drop 64 = dktX6_asked_3 := dk_seg dksX6_asked_2 38 rfl rfl
theorem dksX6_asked_4 : cX6_asked.data.toList.drop 88 = dktX6_asked_4 := dk_seg dksX6_asked_3 24 rfl rfl
theorem dksX6_asked_5 : cX6_asked.data.toList.drop 112 = dktX6_asked_5 := dk_seg dksX6_asked_4 24 rfl rfl
theorem dksX6_asked_6 : cX6_asked.data.toList.drop 136 = dktX6_asked_6 := dk_seg dksX6_asked_5 24 rfl rfl
theorem dksX6_asked_7 : cX6_asked.data.toList.drop 159 = dktX6_asked_7 := dk_seg dksX6_asked_6 23 rfl rfl
theorem dksX6_asked_8 : cX6_asked.data.toList.drop 183 = dktX6_asked_8 := dk_seg dksX6_asked_7 24 rfl rfl
theorem dX6_asked_0 : decode cX6_asked 0 = .ok (.iload_n 3, 1) := dk_29 (dk_at dksX6_asked_0 0 rfl rfl)
theorem dX6_asked_1 : decode cX6_asked 1 = .ok (.ifCond .ne 5, 3) := dk_154 0 5 (dk_at dksX6_asked_0 1 rfl rfl)
theorem dX6_asked_4 : decode cX6_asked 4 = .ok (.iconst 0, 1) := dk_3 (dk_at dksX6_asked_0 4 rfl rfl)
theorem dX6_asked_5 : decode cX6_asked 5 = .ok (.ireturn, 1) := dk_172 (dk_at dksX6_asked_0 5 rfl rfl)
theorem dX6_asked_6 : decode cX6_asked 6 = .ok (.aload_n 0, 1) := dk_42 (dk_at dksX6_asked_0 6 rfl rfl)
theorem dX6_asked_7 : decode cX6_asked 7 = .ok (.iload_n 1, 1) := dk_27 (dk_at dksX6_asked_0 7 rfl rfl)
theorem dX6_asked_8 : decode cX6_asked 8 = .ok (.invokevirtual 127, 3) := dk_182 0 127 (dk_at dksX6_asked_0 8 rfl rfl)
theorem dX6_asked_11 : decode cX6_asked 11 = .ok (.istore 4, 2) := dk_54 4 (dk_at dksX6_asked_0 11 rfl rfl)
theorem dX6_asked_13 : decode cX6_asked 13 = .ok (.iload_n 2, 1) := dk_28 (dk_at dksX6_asked_0 13 rfl rfl)
theorem dX6_asked_14 : decode cX6_asked 14 = .ok (.bipush 10, 2) := dk_16 10 (dk_at dksX6_asked_0 14 rfl rfl)
theorem dX6_asked_16 : decode cX6_asked 16 = .ok (.invokestatic 123, 3) := dk_184 0 123 (dk_at dksX6_asked_0 16 rfl rfl)
theorem dX6_asked_19 : decode cX6_asked 19 = .ok (.istore 5, 2) := dk_54 5 (dk_at dksX6_asked_0 19 rfl rfl)
theorem dX6_asked_21 : decode cX6_asked 21 = .ok (.aload_n 0, 1) := dk_42 (dk_at dksX6_asked_0 21 rfl rfl)
theorem dX6_asked_22 : decode cX6_asked 22 = .ok (.iload_n 1, 1) := dk_27 (dk_at dksX6_asked_0 22 rfl rfl)
theorem dX6_asked_23 : decode cX6_asked 23 = .ok (.invokevirtual 130, 3) := dk_182 0 130 (dk_at dksX6_asked_1 0 rfl rfl)
theorem dX6_asked_26 : decode cX6_asked 26 = .ok (.tableswitch 151 1 6 #[38, 47, 58, 72, 85, 108], 38) := by decide +kernel
theorem dX6_asked_64 : decode cX6_asked 64 = .ok (.iload_n 2, 1) := dk_28 (dk_at dksX6_asked_3 0 rfl rfl)
theorem dX6_asked_65 : decode cX6_asked 65 = .ok (.bipush 10, 2) := dk_16 10 (dk_at dksX6_asked_3 1 rfl rfl)
theorem dX6_asked_67 : decode cX6_asked 67 = .ok (.irem, 1) := dk_112 (dk_at dksX6_asked_3 3 rfl rfl)
theorem dX6_asked_68 : decode cX6_asked 68 = .ok (.istore 5, 2) := dk_54 5 (dk_at dksX6_asked_3 4 rfl rfl)
theorem dX6_asked_70 : decode cX6_asked 70 = .ok (.goto 107, 3) := dk_167 0 107 (dk_at dksX6_asked_3 6 rfl rfl)
theorem dX6_asked_73 : decode cX6_asked 73 = .ok (.iload_n 2, 1) := dk_28 (dk_at dksX6_asked_3 9 rfl rfl)
theorem dX6_asked_74 : decode cX6_asked 74 = .ok (.bipush 10, 2) := dk_16 10 (dk_at dksX6_asked_3 10 rfl rfl)
theorem dX6_asked_76 : decode cX6_asked 76 = .ok (.invokestatic 133, 3) := dk_184 0 133 (dk_at dksX6_asked_3 12 rfl rfl)
theorem dX6_asked_79 : decode cX6_asked 79 = .ok (.istore 5, 2) := dk_54 5 (dk_at dksX6_asked_3 15 rfl rfl)
theorem dX6_asked_81 : decode cX6_asked 81 = .ok (.goto 96, 3) := dk_167 0 96 (dk_at dksX6_asked_3 17 rfl rfl)
theorem dX6_asked_84 : decode cX6_asked 84 = .ok (.iload_n 2, 1) := dk_28 (dk_at dksX6_asked_3 20 rfl rfl)
theorem dX6_asked_85 : decode cX6_asked 85 = .ok (.iload 4, 2) := dk_21 4 (dk_at dksX6_asked_3 21 rfl rfl)
theorem dX6_asked_87 : decode cX6_asked 87 = .ok (.iadd, 1) := dk_96 (dk_at dksX6_asked_3 23 rfl rfl)
theorem dX6_asked_88 : decode cX6_asked 88 = .ok (.bipush 10, 2) := dk_16 10 (dk_at dksX6_asked_4 0 rfl rfl)
theorem dX6_asked_90 : decode cX6_asked 90 = .ok (.invokestatic 123, 3) := dk_184 0 123 (dk_at dksX6_asked_4 2 rfl rfl)
theorem dX6_asked_93 : decode cX6_asked 93 = .ok (.istore 5, 2) := dk_54 5 (dk_at dksX6_asked_4 5 rfl rfl)
theorem dX6_asked_95 : decode cX6_asked 95 = .ok (.goto 82, 3) := dk_167 0 82 (dk_at dksX6_asked_4 7 rfl rfl)
theorem dX6_asked_98 : decode cX6_asked 98 = .ok (.iload_n 2, 1) := dk_28 (dk_at dksX6_asked_4 10 rfl rfl)
theorem dX6_asked_99 : decode cX6_asked 99 = .ok (.iload 4, 2) := dk_21 4 (dk_at dksX6_asked_4 11 rfl rfl)
theorem dX6_asked_101 : decode cX6_asked 101 = .ok (.iconst 2, 1) := dk_5 (dk_at dksX6_asked_4 13 rfl rfl)
theorem dX6_asked_102 : decode cX6_asked 102 = .ok (.iadd, 1) := dk_96 (dk_at dksX6_asked_4 14 rfl rfl)
theorem dX6_asked_103 : decode cX6_asked 103 = .ok (.invokestatic 133, 3) := dk_184 0 133 (dk_at dksX6_asked_4 15 rfl rfl)
theorem dX6_asked_106 : decode cX6_asked 106 = .ok (.istore 5, 2) := dk_54 5 (dk_at dksX6_asked_4 18 rfl rfl)
theorem dX6_asked_108 : decode cX6_asked 108 = .ok (.goto 69, 3) := dk_167 0 69 (dk_at dksX6_asked_4 20 rfl rfl)
theorem dX6_asked_111 : decode cX6_asked 111 = .ok (.iload_n 2, 1) := dk_28 (dk_at dksX6_asked_4 23 rfl rfl)
theorem dX6_asked_112 : decode cX6_asked 112 = .ok (.bipush 10, 2) := dk_16 10 (dk_at dksX6_asked_5 0 rfl rfl)
theorem dX6_asked_114 : decode cX6_asked 114 = .ok (.irem, 1) := dk_112 (dk_at dksX6_asked_5 2 rfl rfl)
theorem dX6_asked_115 : decode cX6_asked 115 = .ok (.iload 4, 2) := dk_21 4 (dk_at dksX6_asked_5 3 rfl rfl)
theorem dX6_asked_117 : decode cX6_asked 117 = .ok (.if_icmp .ge 8, 3) := dk_162 0 8 (dk_at dksX6_asked_5 5 rfl rfl)
theorem dX6_asked_120 : decode cX6_asked 120 = .ok (.iload 4, 2) := dk_21 4 (dk_at dksX6_asked_5 8 rfl rfl)
theorem dX6_asked_122 : decode cX6_asked 122 = .ok (.goto 7, 3) := dk_167 0 7 (dk_at dksX6_asked_5 10 rfl rfl)
theorem dX6_asked_125 : decode cX6_asked 125 = .ok (.iload_n 2, 1) := dk_28 (dk_at dksX6_asked_5 13 rfl rfl)
theorem dX6_asked_126 : decode cX6_asked 126 = .ok (.bipush 10, 2) := dk_16 10 (dk_at dksX6_asked_5 14 rfl rfl)
theorem dX6_asked_128 : decode cX6_asked 128 = .ok (.irem, 1) := dk_112 (dk_at dksX6_asked_5 16 rfl rfl)
theorem dX6_asked_129 : decode cX6_asked 129 = .ok (.istore 5, 2) := dk_54 5 (dk_at dksX6_asked_5 17 rfl rfl)
theorem dX6_asked_131 : decode cX6_asked 131 = .ok (.goto 46, 3) := dk_167 0 46 (dk_at dksX6_asked_5 19 rfl rfl)
theorem dX6_asked_134 : decode cX6_asked 134 = .ok (.aload_n 0, 1) := dk_42 (dk_at dksX6_asked_5 22 rfl rfl)
theorem dX6_asked_135 : decode cX6_asked 135 = .ok (.iconst 0, 1) := dk_3 (dk_at dksX6_asked_5 23 rfl rfl)
theorem dX6_asked_136 : decode cX6_asked 136 = .ok (.invokevirtual 116, 3) := dk_182 0 116 (dk_at dksX6_asked_6 0 rfl rfl)
theorem dX6_asked_139 : decode cX6_asked 139 = .ok (.ifCond .eq 38, 3) := dk_153 0 38 (dk_at dksX6_asked_6 3 rfl rfl)
theorem dX6_asked_142 : decode cX6_asked 142 = .ok (.aload_n 0, 1) := dk_42 (dk_at dksX6_asked_6 6 rfl rfl)
theorem dX6_asked_143 : decode cX6_asked 143 = .ok (.getfield 22, 3) := dk_180 0 22 (dk_at dksX6_asked_6 7 rfl rfl)
theorem dX6_asked_146 : decode cX6_asked 146 = .ok (.bipush 115, 2) := dk_16 115 (dk_at dksX6_asked_6 10 rfl rfl)
theorem dX6_asked_148 : decode cX6_asked 148 = .ok (.iload_n 2, 1) := dk_28 (dk_at dksX6_asked_6 12 rfl rfl)
theorem dX6_asked_149 : decode cX6_asked 149 = .ok (.iastore, 1) := dk_79 (dk_at dksX6_asked_6 13 rfl rfl)
theorem dX6_asked_150 : decode cX6_asked 150 = .ok (.aload_n 0, 1) := dk_42 (dk_at dksX6_asked_6 14 rfl rfl)
theorem dX6_asked_151 : decode cX6_asked 151 = .ok (.getfield 22, 3) := dk_180 0 22 (dk_at dksX6_asked_6 15 rfl rfl)
theorem dX6_asked_154 : decode cX6_asked 154 = .ok (.bipush 107, 2) := dk_16 107 (dk_at dksX6_asked_6 18 rfl rfl)
theorem dX6_asked_156 : decode cX6_asked 156 = .ok (.iload_n 3, 1) := dk_29 (dk_at dksX6_asked_6 20 rfl rfl)
theorem dX6_asked_157 : decode cX6_asked 157 = .ok (.iastore, 1) := dk_79 (dk_at dksX6_asked_6 21 rfl rfl)
theorem dX6_asked_158 : decode cX6_asked 158 = .ok (.aload_n 0, 1) := dk_42 (dk_at dksX6_asked_6 22 rfl rfl)
theorem dX6_asked_159 : decode cX6_asked 159 = .ok (.getfield 22, 3) := dk_180 0 22 (dk_at dksX6_asked_7 0 rfl rfl)
theorem dX6_asked_162 : decode cX6_asked 162 = .ok (.bipush 109, 2) := dk_16 109 (dk_at dksX6_asked_7 3 rfl rfl)
theorem dX6_asked_164 : decode cX6_asked 164 = .ok (.iload 4, 2) := dk_21 4 (dk_at dksX6_asked_7 5 rfl rfl)
theorem dX6_asked_166 : decode cX6_asked 166 = .ok (.iastore, 1) := dk_79 (dk_at dksX6_asked_7 7 rfl rfl)
theorem dX6_asked_167 : decode cX6_asked 167 = .ok (.aload_n 0, 1) := dk_42 (dk_at dksX6_asked_7 8 rfl rfl)
theorem dX6_asked_168 : decode cX6_asked 168 = .ok (.iconst 0, 1) := dk_3 (dk_at dksX6_asked_7 9 rfl rfl)
theorem dX6_asked_169 : decode cX6_asked 169 = .ok (.invokevirtual 136, 3) := dk_182 0 136 (dk_at dksX6_asked_7 10 rfl rfl)
theorem dX6_asked_172 : decode cX6_asked 172 = .ok (.istore 5, 2) := dk_54 5 (dk_at dksX6_asked_7 13 rfl rfl)
theorem dX6_asked_174 : decode cX6_asked 174 = .ok (.goto 3, 3) := dk_167 0 3 (dk_at dksX6_asked_7 15 rfl rfl)
theorem dX6_asked_177 : decode cX6_asked 177 = .ok (.iload 5, 2) := dk_21 5 (dk_at dksX6_asked_7 18 rfl rfl)
theorem dX6_asked_179 : decode cX6_asked 179 = .ok (.iconst 0, 1) := dk_3 (dk_at dksX6_asked_7 20 rfl rfl)
theorem dX6_asked_180 : decode cX6_asked 180 = .ok (.sipush 9999, 3) := dk_17 39 15 (dk_at dksX6_asked_7 21 rfl rfl)
theorem dX6_asked_183 : decode cX6_asked 183 = .ok (.invokestatic 139, 3) := dk_184 0 139 (dk_at dksX6_asked_8 0 rfl rfl)
theorem dX6_asked_186 : decode cX6_asked 186 = .ok (.ireturn, 1) := dk_172 (dk_at dksX6_asked_8 3 rfl rfl)
abbrev cX6_rooted : ByteArray := prog_20_method_28_code
def yX6_rooted : MethodName := ⟨RX6, "rooted", "(II)I"⟩
def dkwX6_rooted_0 : List UInt8 := [26, 27, 184, 0, 123, 61, 28, 27, 161, 0, 12, 28, 27, 184, 0, 123, 61, 167, 255, 245, 28, 172]
abbrev dktX6_rooted_0 : List UInt8 := dkwX6_rooted_0 ++ []
theorem dksX6_rooted_0 : cX6_rooted.data.toList.drop 0 = dktX6_rooted_0 := by decide +kernel
theorem dX6_rooted_0 : decode cX6_rooted 0 = .ok (.iload_n 0, 1) := dk_26 (dk_at dksX6_rooted_0 0 rfl rfl)
theorem dX6_rooted_1 : decode cX6_rooted 1 = .ok (.iload_n 1, 1) := dk_27 (dk_at dksX6_rooted_0 1 rfl rfl)
theorem dX6_rooted_2 : decode cX6_rooted 2 = .ok (.invokestatic 123, 3) := dk_184 0 123 (dk_at dksX6_rooted_0 2 rfl rfl)
theorem dX6_rooted_5 : decode cX6_rooted 5 = .ok (.istore_n 2, 1) := dk_61 (dk_at dksX6_rooted_0 5 rfl rfl)
theorem dX6_rooted_6 : decode cX6_rooted 6 = .ok (.iload_n 2, 1) := dk_28 (dk_at dksX6_rooted_0 6 rfl rfl)
theorem dX6_rooted_7 : decode cX6_rooted 7 = .ok (.iload_n 1, 1) := dk_27 (dk_at dksX6_rooted_0 7 rfl rfl)
theorem dX6_rooted_8 : decode cX6_rooted 8 = .ok (.if_icmp .lt 12, 3) := dk_161 0 12 (dk_at dksX6_rooted_0 8 rfl rfl)
theorem dX6_rooted_11 : decode cX6_rooted 11 = .ok (.iload_n 2, 1) := dk_28 (dk_at dksX6_rooted_0 11 rfl rfl)
theorem dX6_rooted_12 : decode cX6_rooted 12 = .ok (.iload_n 1, 1) := dk_27 (dk_at dksX6_rooted_0 12 rfl rfl)
theorem dX6_rooted_13 : decode cX6_rooted 13 = .ok (.invokestatic 123, 3) := dk_184 0 123 (dk_at dksX6_rooted_0 13 rfl rfl)
theorem dX6_rooted_16 : decode cX6_rooted 16 = .ok (.istore_n 2, 1) := dk_61 (dk_at dksX6_rooted_0 16 rfl rfl)
theorem dX6_rooted_17 : decode cX6_rooted 17 = .ok (.goto (-11), 3) := dk_167 255 245 (dk_at dksX6_rooted_0 17 rfl rfl)
theorem dX6_rooted_20 : decode cX6_rooted 20 = .ok (.iload_n 2, 1) := dk_28 (dk_at dksX6_rooted_0 20 rfl rfl)
theorem dX6_rooted_21 : decode cX6_rooted 21 = .ok (.ireturn, 1) := dk_172 (dk_at dksX6_rooted_0 21 rfl rfl)
abbrev cX6_basket : ByteArray := prog_20_method_45_code
def yX6_basket : MethodName := ⟨RX6, "basket", "(II)I"⟩
def dkwX6_basket_2 : List UInt8 := [180, 0, 28, 182, 0, 142, 167, 0, 11, 42, 42, 180, 0, 28, 182, 0, 180, 172]
abbrev dktX6_basket_2 : List UInt8 := dkwX6_basket_2 ++ []
def dkwX6_basket_1 : List UInt8 := [172, 28, 154, 0, 13, 42, 180, 0, 28, 184, 0, 146, 167, 0, 27, 28, 4, 160, 0, 14, 42, 42]
abbrev dktX6_basket_1 : List UInt8 := dkwX6_basket_1 ++ dktX6_basket_2
def dkwX6_basket_0 : List UInt8 := [42, 27, 3, 28, 3, 5, 184, 0, 59, 16, 30, 182, 0, 176, 62, 29, 158, 0, 9, 42, 29, 182, 0, 63]
abbrev dktX6_basket_0 : List UInt8 := dkwX6_basket_0 ++ dktX6_basket_1
theorem dksX6_basket_0 : cX6_basket.data.toList.drop 0 = dktX6_basket_0 := by decide +kernel
theorem dksX6_basket_1 : cX6_basket.data.toList.drop 24 = dktX6_basket_1 := dk_seg dksX6_basket_0 24 rfl rfl
theorem dksX6_basket_2 : cX6_basket.data.toList.drop 46 = dktX6_basket_2 := dk_seg dksX6_basket_1 22 rfl rfl
theorem dX6_basket_0 : decode cX6_basket 0 = .ok (.aload_n 0, 1) := dk_42 (dk_at dksX6_basket_0 0 rfl rfl)
theorem dX6_basket_1 : decode cX6_basket 1 = .ok (.iload_n 1, 1) := dk_27 (dk_at dksX6_basket_0 1 rfl rfl)
theorem dX6_basket_2 : decode cX6_basket 2 = .ok (.iconst 0, 1) := dk_3 (dk_at dksX6_basket_0 2 rfl rfl)
theorem dX6_basket_3 : decode cX6_basket 3 = .ok (.iload_n 2, 1) := dk_28 (dk_at dksX6_basket_0 3 rfl rfl)
theorem dX6_basket_4 : decode cX6_basket 4 = .ok (.iconst 0, 1) := dk_3 (dk_at dksX6_basket_0 4 rfl rfl)
theorem dX6_basket_5 : decode cX6_basket 5 = .ok (.iconst 2, 1) := dk_5 (dk_at dksX6_basket_0 5 rfl rfl)
theorem dX6_basket_6 : decode cX6_basket 6 = .ok (.invokestatic 59, 3) := dk_184 0 59 (dk_at dksX6_basket_0 6 rfl rfl)
theorem dX6_basket_9 : decode cX6_basket 9 = .ok (.bipush 30, 2) := dk_16 30 (dk_at dksX6_basket_0 9 rfl rfl)
theorem dX6_basket_11 : decode cX6_basket 11 = .ok (.invokevirtual 176, 3) := dk_182 0 176 (dk_at dksX6_basket_0 11 rfl rfl)
theorem dX6_basket_14 : decode cX6_basket 14 = .ok (.istore_n 3, 1) := dk_62 (dk_at dksX6_basket_0 14 rfl rfl)
theorem dX6_basket_15 : decode cX6_basket 15 = .ok (.iload_n 3, 1) := dk_29 (dk_at dksX6_basket_0 15 rfl rfl)
theorem dX6_basket_16 : decode cX6_basket 16 = .ok (.ifCond .le 9, 3) := dk_158 0 9 (dk_at dksX6_basket_0 16 rfl rfl)
theorem dX6_basket_19 : decode cX6_basket 19 = .ok (.aload_n 0, 1) := dk_42 (dk_at dksX6_basket_0 19 rfl rfl)
theorem dX6_basket_20 : decode cX6_basket 20 = .ok (.iload_n 3, 1) := dk_29 (dk_at dksX6_basket_0 20 rfl rfl)
theorem dX6_basket_21 : decode cX6_basket 21 = .ok (.invokevirtual 63, 3) := dk_182 0 63 (dk_at dksX6_basket_0 21 rfl rfl)
theorem dX6_basket_24 : decode cX6_basket 24 = .ok (.ireturn, 1) := dk_172 (dk_at dksX6_basket_1 0 rfl rfl)
theorem dX6_basket_25 : decode cX6_basket 25 = .ok (.iload_n 2, 1) := dk_28 (dk_at dksX6_basket_1 1 rfl rfl)
theorem dX6_basket_26 : decode cX6_basket 26 = .ok (.ifCond .ne 13, 3) := dk_154 0 13 (dk_at dksX6_basket_1 2 rfl rfl)
theorem dX6_basket_29 : decode cX6_basket 29 = .ok (.aload_n 0, 1) := dk_42 (dk_at dksX6_basket_1 5 rfl rfl)
theorem dX6_basket_30 : decode cX6_basket 30 = .ok (.getfield 28, 3) := dk_180 0 28 (dk_at dksX6_basket_1 6 rfl rfl)
theorem dX6_basket_33 : decode cX6_basket 33 = .ok (.invokestatic 146, 3) := dk_184 0 146 (dk_at dksX6_basket_1 9 rfl rfl)
theorem dX6_basket_36 : decode cX6_basket 36 = .ok (.goto 27, 3) := dk_167 0 27 (dk_at dksX6_basket_1 12 rfl rfl)
theorem dX6_basket_39 : decode cX6_basket 39 = .ok (.iload_n 2, 1) := dk_28 (dk_at dksX6_basket_1 15 rfl rfl)
theorem dX6_basket_40 : decode cX6_basket 40 = .ok (.iconst 1, 1) := dk_4 (dk_at dksX6_basket_1 16 rfl rfl)
theorem dX6_basket_41 : decode cX6_basket 41 = .ok (.if_icmp .ne 14, 3) := dk_160 0 14 (dk_at dksX6_basket_1 17 rfl rfl)
theorem dX6_basket_44 : decode cX6_basket 44 = .ok (.aload_n 0, 1) := dk_42 (dk_at dksX6_basket_1 20 rfl rfl)
theorem dX6_basket_45 : decode cX6_basket 45 = .ok (.aload_n 0, 1) := dk_42 (dk_at dksX6_basket_1 21 rfl rfl)
theorem dX6_basket_46 : decode cX6_basket 46 = .ok (.getfield 28, 3) := dk_180 0 28 (dk_at dksX6_basket_2 0 rfl rfl)
theorem dX6_basket_49 : decode cX6_basket 49 = .ok (.invokevirtual 142, 3) := dk_182 0 142 (dk_at dksX6_basket_2 3 rfl rfl)
theorem dX6_basket_52 : decode cX6_basket 52 = .ok (.goto 11, 3) := dk_167 0 11 (dk_at dksX6_basket_2 6 rfl rfl)
theorem dX6_basket_55 : decode cX6_basket 55 = .ok (.aload_n 0, 1) := dk_42 (dk_at dksX6_basket_2 9 rfl rfl)
theorem dX6_basket_56 : decode cX6_basket 56 = .ok (.aload_n 0, 1) := dk_42 (dk_at dksX6_basket_2 10 rfl rfl)
theorem dX6_basket_57 : decode cX6_basket 57 = .ok (.getfield 28, 3) := dk_180 0 28 (dk_at dksX6_basket_2 11 rfl rfl)
theorem dX6_basket_60 : decode cX6_basket 60 = .ok (.invokevirtual 180, 3) := dk_182 0 180 (dk_at dksX6_basket_2 14 rfl rfl)
theorem dX6_basket_63 : decode cX6_basket 63 = .ok (.ireturn, 1) := dk_172 (dk_at dksX6_basket_2 17 rfl rfl)
abbrev cX6_lacks : ByteArray := prog_20_method_44_code
def yX6_lacks : MethodName := ⟨RX6, "lacks", "(IIZI)I"⟩
def dkwX6_lacks_1 : List UInt8 := [21, 4, 182, 0, 172, 167, 0, 4, 4, 172]
abbrev dktX6_lacks_1 : List UInt8 := dkwX6_lacks_1 ++ []
def dkwX6_lacks_0 : List UInt8 := [27, 184, 0, 169, 153, 0, 28, 28, 184, 0, 161, 153, 0, 21, 29, 153, 0, 17, 42, 27, 42, 180, 0, 28]
abbrev dktX6_lacks_0 : List UInt8 := dkwX6_lacks_0 ++ dktX6_lacks_1
theorem dksX6_lacks_0 : cX6_lacks.data.toList.drop 0 = dktX6_lacks_0 := by decide +kernel
theorem dksX6_lacks_1 : cX6_lacks.data.toList.drop 24 = dktX6_lacks_1 := dk_seg dksX6_lacks_0 24 rfl rfl
theorem dX6_lacks_0 : decode cX6_lacks 0 = .ok (.iload_n 1, 1) := dk_27 (dk_at dksX6_lacks_0 0 rfl rfl)
theorem dX6_lacks_1 : decode cX6_lacks 1 = .ok (.invokestatic 169, 3) := dk_184 0 169 (dk_at dksX6_lacks_0 1 rfl rfl)
theorem dX6_lacks_4 : decode cX6_lacks 4 = .ok (.ifCond .eq 28, 3) := dk_153 0 28 (dk_at dksX6_lacks_0 4 rfl rfl)
theorem dX6_lacks_7 : decode cX6_lacks 7 = .ok (.iload_n 2, 1) := dk_28 (dk_at dksX6_lacks_0 7 rfl rfl)
theorem dX6_lacks_8 : decode cX6_lacks 8 = .ok (.invokestatic 161, 3) := dk_184 0 161 (dk_at dksX6_lacks_0 8 rfl rfl)
theorem dX6_lacks_11 : decode cX6_lacks 11 = .ok (.ifCond .eq 21, 3) := dk_153 0 21 (dk_at dksX6_lacks_0 11 rfl rfl)
theorem dX6_lacks_14 : decode cX6_lacks 14 = .ok (.iload_n 3, 1) := dk_29 (dk_at dksX6_lacks_0 14 rfl rfl)
theorem dX6_lacks_15 : decode cX6_lacks 15 = .ok (.ifCond .eq 17, 3) := dk_153 0 17 (dk_at dksX6_lacks_0 15 rfl rfl)
theorem dX6_lacks_18 : decode cX6_lacks 18 = .ok (.aload_n 0, 1) := dk_42 (dk_at dksX6_lacks_0 18 rfl rfl)
theorem dX6_lacks_19 : decode cX6_lacks 19 = .ok (.iload_n 1, 1) := dk_27 (dk_at dksX6_lacks_0 19 rfl rfl)
theorem dX6_lacks_20 : decode cX6_lacks 20 = .ok (.aload_n 0, 1) := dk_42 (dk_at dksX6_lacks_0 20 rfl rfl)
theorem dX6_lacks_21 : decode cX6_lacks 21 = .ok (.getfield 28, 3) := dk_180 0 28 (dk_at dksX6_lacks_0 21 rfl rfl)
theorem dX6_lacks_24 : decode cX6_lacks 24 = .ok (.iload 4, 2) := dk_21 4 (dk_at dksX6_lacks_1 0 rfl rfl)
theorem dX6_lacks_26 : decode cX6_lacks 26 = .ok (.invokevirtual 172, 3) := dk_182 0 172 (dk_at dksX6_lacks_1 2 rfl rfl)
theorem dX6_lacks_29 : decode cX6_lacks 29 = .ok (.goto 4, 3) := dk_167 0 4 (dk_at dksX6_lacks_1 5 rfl rfl)
theorem dX6_lacks_32 : decode cX6_lacks 32 = .ok (.iconst 1, 1) := dk_4 (dk_at dksX6_lacks_1 8 rfl rfl)
theorem dX6_lacks_33 : decode cX6_lacks 33 = .ok (.ireturn, 1) := dk_172 (dk_at dksX6_lacks_1 9 rfl rfl)
abbrev cX6_isSheet : ByteArray := prog_20_method_75_code
def yX6_isSheet : MethodName := ⟨RX6, "isSheet", "(I)Z"⟩
def dkwX6_isSheet_0 : List UInt8 := [26, 3, 6, 184, 0, 59, 172]
abbrev dktX6_isSheet_0 : List UInt8 := dkwX6_isSheet_0 ++ []
theorem dksX6_isSheet_0 : cX6_isSheet.data.toList.drop 0 = dktX6_isSheet_0 := by decide +kernel
theorem dX6_isSheet_0 : decode cX6_isSheet 0 = .ok (.iload_n 0, 1) := dk_26 (dk_at dksX6_isSheet_0 0 rfl rfl)
theorem dX6_isSheet_1 : decode cX6_isSheet 1 = .ok (.iconst 0, 1) := dk_3 (dk_at dksX6_isSheet_0 1 rfl rfl)
theorem dX6_isSheet_2 : decode cX6_isSheet 2 = .ok (.iconst 3, 1) := dk_6 (dk_at dksX6_isSheet_0 2 rfl rfl)
theorem dX6_isSheet_3 : decode cX6_isSheet 3 = .ok (.invokestatic 59, 3) := dk_184 0 59 (dk_at dksX6_isSheet_0 3 rfl rfl)
theorem dX6_isSheet_6 : decode cX6_isSheet 6 = .ok (.ireturn, 1) := dk_172 (dk_at dksX6_isSheet_0 6 rfl rfl)
abbrev cX6_tells : ByteArray := prog_20_method_43_code
def yX6_tells : MethodName := ⟨RX6, "tells", "(I[II)I"⟩
def dkwX6_tells_4 : List UInt8 := [164, 0, 7, 7, 167, 0, 4, 3, 172]
abbrev dktX6_tells_4 : List UInt8 := dkwX6_tells_4 ++ []
def dkwX6_tells_3 : List UInt8 := [46, 3, 16, 9, 184, 0, 59, 154, 0, 5, 4, 172, 132, 4, 1, 167, 255, 231, 44, 184, 0, 146, 29]
abbrev dktX6_tells_3 : List UInt8 := dkwX6_tells_3 ++ dktX6_tells_4
def dkwX6_tells_2 : List UInt8 := [167, 0, 4, 3, 79, 132, 4, 1, 167, 255, 215, 3, 54, 4, 21, 4, 16, 8, 162, 0, 24, 44, 21, 4]
abbrev dktX6_tells_2 : List UInt8 := dkwX6_tells_2 ++ dktX6_tells_3
def dkwX6_tells_1 : List UInt8 := [21, 4, 42, 180, 0, 49, 27, 46, 162, 0, 18, 42, 180, 0, 52, 16, 24, 27, 104, 21, 4, 96, 46]
abbrev dktX6_tells_1 : List UInt8 := dkwX6_tells_1 ++ dktX6_tells_2
def dkwX6_tells_0 : List UInt8 := [42, 180, 0, 46, 27, 46, 154, 0, 5, 5, 172, 3, 54, 4, 21, 4, 16, 8, 162, 0, 40, 44, 21, 4]
abbrev dktX6_tells_0 : List UInt8 := dkwX6_tells_0 ++ dktX6_tells_1
theorem dksX6_tells_0 : cX6_tells.data.toList.drop 0 = dktX6_tells_0 := by decide +kernel
theorem dksX6_tells_1 : cX6_tells.data.toList.drop 24 = dktX6_tells_1 := dk_seg dksX6_tells_0 24 rfl rfl
theorem dksX6_tells_2 : cX6_tells.data.toList.drop 47 = dktX6_tells_2 := dk_seg dksX6_tells_1 23 rfl rfl
theorem dksX6_tells_3 : cX6_tells.data.toList.drop 71 = dktX6_tells_3 := dk_seg dksX6_tells_2 24 rfl rfl
theorem dksX6_tells_4 : cX6_tells.data.toList.drop 94 = dktX6_tells_4 := dk_seg dksX6_tells_3 23 rfl rfl
theorem dX6_tells_0 : decode cX6_tells 0 = .ok (.aload_n 0, 1) := dk_42 (dk_at dksX6_tells_0 0 rfl rfl)
theorem dX6_tells_1 : decode cX6_tells 1 = .ok (.getfield 46, 3) := dk_180 0 46 (dk_at dksX6_tells_0 1 rfl rfl)
theorem dX6_tells_4 : decode cX6_tells 4 = .ok (.iload_n 1, 1) := dk_27 (dk_at dksX6_tells_0 4 rfl rfl)
theorem dX6_tells_5 : decode cX6_tells 5 = .ok (.iaload, 1) := dk_46 (dk_at dksX6_tells_0 5 rfl rfl)
theorem dX6_tells_6 : decode cX6_tells 6 = .ok (.ifCond .ne 5, 3) := dk_154 0 5 (dk_at dksX6_tells_0 6 rfl rfl)
theorem dX6_tells_9 : decode cX6_tells 9 = .ok (.iconst 2, 1) := dk_5 (dk_at dksX6_tells_0 9 rfl rfl)
theorem dX6_tells_10 : decode cX6_tells 10 = .ok (.ireturn, 1) := dk_172 (dk_at dksX6_tells_0 10 rfl rfl)
theorem dX6_tells_11 : decode cX6_tells 11 = .ok (.iconst 0, 1) := dk_3 (dk_at dksX6_tells_0 11 rfl rfl)
theorem dX6_tells_12 : decode cX6_tells 12 = .ok (.istore 4, 2) := dk_54 4 (dk_at dksX6_tells_0 12 rfl rfl)
theorem dX6_tells_14 : decode cX6_tells 14 = .ok (.iload 4, 2) := dk_21 4 (dk_at dksX6_tells_0 14 rfl rfl)
theorem dX6_tells_16 : decode cX6_tells 16 = .ok (.bipush 8, 2) := dk_16 8 (dk_at dksX6_tells_0 16 rfl rfl)
theorem dX6_tells_18 : decode cX6_tells 18 = .ok (.if_icmp .ge 40, 3) := dk_162 0 40 (dk_at dksX6_tells_0 18 rfl rfl)
theorem dX6_tells_21 : decode cX6_tells 21 = .ok (.aload_n 2, 1) := dk_44 (dk_at dksX6_tells_0 21 rfl rfl)
theorem dX6_tells_22 : decode cX6_tells 22 = .ok (.iload 4, 2) := dk_21 4 (dk_at dksX6_tells_0 22 rfl rfl)
theorem dX6_tells_24 : decode cX6_tells 24 = .ok (.iload 4, 2) := dk_21 4 (dk_at dksX6_tells_1 0 rfl rfl)
theorem dX6_tells_26 : decode cX6_tells 26 = .ok (.aload_n 0, 1) := dk_42 (dk_at dksX6_tells_1 2 rfl rfl)
theorem dX6_tells_27 : decode cX6_tells 27 = .ok (.getfield 49, 3) := dk_180 0 49 (dk_at dksX6_tells_1 3 rfl rfl)
theorem dX6_tells_30 : decode cX6_tells 30 = .ok (.iload_n 1, 1) := dk_27 (dk_at dksX6_tells_1 6 rfl rfl)
theorem dX6_tells_31 : decode cX6_tells 31 = .ok (.iaload, 1) := dk_46 (dk_at dksX6_tells_1 7 rfl rfl)
theorem dX6_tells_32 : decode cX6_tells 32 = .ok (.if_icmp .ge 18, 3) := dk_162 0 18 (dk_at dksX6_tells_1 8 rfl rfl)
theorem dX6_tells_35 : decode cX6_tells 35 = .ok (.aload_n 0, 1) := dk_42 (dk_at dksX6_tells_1 11 rfl rfl)
theorem dX6_tells_36 : decode cX6_tells 36 = .ok (.getfield 52, 3) := dk_180 0 52 (dk_at dksX6_tells_1 12 rfl rfl)
theorem dX6_tells_39 : decode cX6_tells 39 = .ok (.bipush 24, 2) := dk_16 24 (dk_at dksX6_tells_1 15 rfl rfl)
theorem dX6_tells_41 : decode cX6_tells 41 = .ok (.iload_n 1, 1) := dk_27 (dk_at dksX6_tells_1 17 rfl rfl)
theorem dX6_tells_42 : decode cX6_tells 42 = .ok (.imul, 1) := dk_104 (dk_at dksX6_tells_1 18 rfl rfl)
theorem dX6_tells_43 : decode cX6_tells 43 = .ok (.iload 4, 2) := dk_21 4 (dk_at dksX6_tells_1 19 rfl rfl)
theorem dX6_tells_45 : decode cX6_tells 45 = .ok (.iadd, 1) := dk_96 (dk_at dksX6_tells_1 21 rfl rfl)
theorem dX6_tells_46 : decode cX6_tells 46 = .ok (.iaload, 1) := dk_46 (dk_at dksX6_tells_1 22 rfl rfl)
theorem dX6_tells_47 : decode cX6_tells 47 = .ok (.goto 4, 3) := dk_167 0 4 (dk_at dksX6_tells_2 0 rfl rfl)
theorem dX6_tells_50 : decode cX6_tells 50 = .ok (.iconst 0, 1) := dk_3 (dk_at dksX6_tells_2 3 rfl rfl)
theorem dX6_tells_51 : decode cX6_tells 51 = .ok (.iastore, 1) := dk_79 (dk_at dksX6_tells_2 4 rfl rfl)
theorem dX6_tells_52 : decode cX6_tells 52 = .ok (.iinc 4 1, 3) := dk_132 4 1 (dk_at dksX6_tells_2 5 rfl rfl)
theorem dX6_tells_55 : decode cX6_tells 55 = .ok (.goto (-41), 3) := dk_167 255 215 (dk_at dksX6_tells_2 8 rfl rfl)
theorem dX6_tells_58 : decode cX6_tells 58 = .ok (.iconst 0, 1) := dk_3 (dk_at dksX6_tells_2 11 rfl rfl)
theorem dX6_tells_59 : decode cX6_tells 59 = .ok (.istore 4, 2) := dk_54 4 (dk_at dksX6_tells_2 12 rfl rfl)
theorem dX6_tells_61 : decode cX6_tells 61 = .ok (.iload 4, 2) := dk_21 4 (dk_at dksX6_tells_2 14 rfl rfl)
theorem dX6_tells_63 : decode cX6_tells 63 = .ok (.bipush 8, 2) := dk_16 8 (dk_at dksX6_tells_2 16 rfl rfl)
theorem dX6_tells_65 : decode cX6_tells 65 = .ok (.if_icmp .ge 24, 3) := dk_162 0 24 (dk_at dksX6_tells_2 18 rfl rfl)
theorem dX6_tells_68 : decode cX6_tells 68 = .ok (.aload_n 2, 1) := dk_44 (dk_at dksX6_tells_2 21 rfl rfl)
theorem dX6_tells_69 : decode cX6_tells 69 = .ok (.iload 4, 2) := dk_21 4 (dk_at dksX6_tells_2 22 rfl rfl)
theorem dX6_tells_71 : decode cX6_tells 71 = .ok (.iaload, 1) := dk_46 (dk_at dksX6_tells_3 0 rfl rfl)
theorem dX6_tells_72 : decode cX6_tells 72 = .ok (.iconst 0, 1) := dk_3 (dk_at dksX6_tells_3 1 rfl rfl)
theorem dX6_tells_73 : decode cX6_tells 73 = .ok (.bipush 9, 2) := dk_16 9 (dk_at dksX6_tells_3 2 rfl rfl)
theorem dX6_tells_75 : decode cX6_tells 75 = .ok (.invokestatic 59, 3) := dk_184 0 59 (dk_at dksX6_tells_3 4 rfl rfl)
theorem dX6_tells_78 : decode cX6_tells 78 = .ok (.ifCond .ne 5, 3) := dk_154 0 5 (dk_at dksX6_tells_3 7 rfl rfl)
theorem dX6_tells_81 : decode cX6_tells 81 = .ok (.iconst 1, 1) := dk_4 (dk_at dksX6_tells_3 10 rfl rfl)
theorem dX6_tells_82 : decode cX6_tells 82 = .ok (.ireturn, 1) := dk_172 (dk_at dksX6_tells_3 11 rfl rfl)
theorem dX6_tells_83 : decode cX6_tells 83 = .ok (.iinc 4 1, 3) := dk_132 4 1 (dk_at dksX6_tells_3 12 rfl rfl)
theorem dX6_tells_86 : decode cX6_tells 86 = .ok (.goto (-25), 3) := dk_167 255 231 (dk_at dksX6_tells_3 15 rfl rfl)
theorem dX6_tells_89 : decode cX6_tells 89 = .ok (.aload_n 2, 1) := dk_44 (dk_at dksX6_tells_3 18 rfl rfl)
theorem dX6_tells_90 : decode cX6_tells 90 = .ok (.invokestatic 146, 3) := dk_184 0 146 (dk_at dksX6_tells_3 19 rfl rfl)
theorem dX6_tells_93 : decode cX6_tells 93 = .ok (.iload_n 3, 1) := dk_29 (dk_at dksX6_tells_3 22 rfl rfl)
theorem dX6_tells_94 : decode cX6_tells 94 = .ok (.if_icmp .le 7, 3) := dk_164 0 7 (dk_at dksX6_tells_4 0 rfl rfl)
theorem dX6_tells_97 : decode cX6_tells 97 = .ok (.iconst 4, 1) := dk_7 (dk_at dksX6_tells_4 3 rfl rfl)
theorem dX6_tells_98 : decode cX6_tells 98 = .ok (.goto 4, 3) := dk_167 0 4 (dk_at dksX6_tells_4 4 rfl rfl)
theorem dX6_tells_101 : decode cX6_tells 101 = .ok (.iconst 0, 1) := dk_3 (dk_at dksX6_tells_4 7 rfl rfl)
theorem dX6_tells_102 : decode cX6_tells 102 = .ok (.ireturn, 1) := dk_172 (dk_at dksX6_tells_4 8 rfl rfl)
abbrev cX6_many : ByteArray := prog_20_method_31_code
def yX6_many : MethodName := ⟨RX6, "many", "([I)I"⟩
def dkwX6_many_0 : List UInt8 := [3, 60, 3, 61, 28, 16, 8, 162, 0, 15, 27, 42, 28, 46, 96, 60, 132, 2, 1, 167, 255, 241, 27, 172]
abbrev dktX6_many_0 : List UInt8 := dkwX6_many_0 ++ []
theorem dksX6_many_0 : cX6_many.data.toList.drop 0 = dktX6_many_0 := by decide +kernel
theorem dX6_many_0 : decode cX6_many 0 = .ok (.iconst 0, 1) := dk_3 (dk_at dksX6_many_0 0 rfl rfl)
theorem dX6_many_1 : decode cX6_many 1 = .ok (.istore_n 1, 1) := dk_60 (dk_at dksX6_many_0 1 rfl rfl)
theorem dX6_many_2 : decode cX6_many 2 = .ok (.iconst 0, 1) := dk_3 (dk_at dksX6_many_0 2 rfl rfl)
theorem dX6_many_3 : decode cX6_many 3 = .ok (.istore_n 2, 1) := dk_61 (dk_at dksX6_many_0 3 rfl rfl)
theorem dX6_many_4 : decode cX6_many 4 = .ok (.iload_n 2, 1) := dk_28 (dk_at dksX6_many_0 4 rfl rfl)
theorem dX6_many_5 : decode cX6_many 5 = .ok (.bipush 8, 2) := dk_16 8 (dk_at dksX6_many_0 5 rfl rfl)
theorem dX6_many_7 : decode cX6_many 7 = .ok (.if_icmp .ge 15, 3) := dk_162 0 15 (dk_at dksX6_many_0 7 rfl rfl)
theorem dX6_many_10 : decode cX6_many 10 = .ok (.iload_n 1, 1) := dk_27 (dk_at dksX6_many_0 10 rfl rfl)
theorem dX6_many_11 : decode cX6_many 11 = .ok (.aload_n 0, 1) := dk_42 (dk_at dksX6_many_0 11 rfl rfl)
theorem dX6_many_12 : decode cX6_many 12 = .ok (.iload_n 2, 1) := dk_28 (dk_at dksX6_many_0 12 rfl rfl)
theorem dX6_many_13 : decode cX6_many 13 = .ok (.iaload, 1) := dk_46 (dk_at dksX6_many_0 13 rfl rfl)
theorem dX6_many_14 : decode cX6_many 14 = .ok (.iadd, 1) := dk_96 (dk_at dksX6_many_0 14 rfl rfl)
theorem dX6_many_15 : decode cX6_many 15 = .ok (.istore_n 1, 1) := dk_60 (dk_at dksX6_many_0 15 rfl rfl)
theorem dX6_many_16 : decode cX6_many 16 = .ok (.iinc 2 1, 3) := dk_132 2 1 (dk_at dksX6_many_0 16 rfl rfl)
theorem dX6_many_19 : decode cX6_many 19 = .ok (.goto (-15), 3) := dk_167 255 241 (dk_at dksX6_many_0 19 rfl rfl)
theorem dX6_many_22 : decode cX6_many 22 = .ok (.iload_n 1, 1) := dk_27 (dk_at dksX6_many_0 22 rfl rfl)
theorem dX6_many_23 : decode cX6_many 23 = .ok (.ireturn, 1) := dk_172 (dk_at dksX6_many_0 23 rfl rfl)
abbrev cX6_sumOf : ByteArray := prog_20_method_32_code
def yX6_sumOf : MethodName := ⟨RX6, "sumOf", "([I)I"⟩
def dkwX6_sumOf_1 : List UInt8 := [96, 61, 132, 3, 1, 167, 255, 231, 28, 172]
abbrev dktX6_sumOf_1 : List UInt8 := dkwX6_sumOf_1 ++ []
def dkwX6_sumOf_0 : List UInt8 := [3, 61, 3, 62, 29, 16, 8, 162, 0, 25, 28, 43, 29, 46, 42, 180, 0, 7, 16, 8, 29, 96, 46, 104]
abbrev dktX6_sumOf_0 : List UInt8 := dkwX6_sumOf_0 ++ dktX6_sumOf_1
theorem dksX6_sumOf_0 : cX6_sumOf.data.toList.drop 0 = dktX6_sumOf_0 := by decide +kernel
theorem dksX6_sumOf_1 : cX6_sumOf.data.toList.drop 24 = dktX6_sumOf_1 := dk_seg dksX6_sumOf_0 24 rfl rfl
theorem dX6_sumOf_0 : decode cX6_sumOf 0 = .ok (.iconst 0, 1) := dk_3 (dk_at dksX6_sumOf_0 0 rfl rfl)
theorem dX6_sumOf_1 : decode cX6_sumOf 1 = .ok (.istore_n 2, 1) := dk_61 (dk_at dksX6_sumOf_0 1 rfl rfl)
theorem dX6_sumOf_2 : decode cX6_sumOf 2 = .ok (.iconst 0, 1) := dk_3 (dk_at dksX6_sumOf_0 2 rfl rfl)
theorem dX6_sumOf_3 : decode cX6_sumOf 3 = .ok (.istore_n 3, 1) := dk_62 (dk_at dksX6_sumOf_0 3 rfl rfl)
theorem dX6_sumOf_4 : decode cX6_sumOf 4 = .ok (.iload_n 3, 1) := dk_29 (dk_at dksX6_sumOf_0 4 rfl rfl)
theorem dX6_sumOf_5 : decode cX6_sumOf 5 = .ok (.bipush 8, 2) := dk_16 8 (dk_at dksX6_sumOf_0 5 rfl rfl)
theorem dX6_sumOf_7 : decode cX6_sumOf 7 = .ok (.if_icmp .ge 25, 3) := dk_162 0 25 (dk_at dksX6_sumOf_0 7 rfl rfl)
theorem dX6_sumOf_10 : decode cX6_sumOf 10 = .ok (.iload_n 2, 1) := dk_28 (dk_at dksX6_sumOf_0 10 rfl rfl)
theorem dX6_sumOf_11 : decode cX6_sumOf 11 = .ok (.aload_n 1, 1) := dk_43 (dk_at dksX6_sumOf_0 11 rfl rfl)
theorem dX6_sumOf_12 : decode cX6_sumOf 12 = .ok (.iload_n 3, 1) := dk_29 (dk_at dksX6_sumOf_0 12 rfl rfl)
theorem dX6_sumOf_13 : decode cX6_sumOf 13 = .ok (.iaload, 1) := dk_46 (dk_at dksX6_sumOf_0 13 rfl rfl)
theorem dX6_sumOf_14 : decode cX6_sumOf 14 = .ok (.aload_n 0, 1) := dk_42 (dk_at dksX6_sumOf_0 14 rfl rfl)
theorem dX6_sumOf_15 : decode cX6_sumOf 15 = .ok (.getfield 7, 3) := dk_180 0 7 (dk_at dksX6_sumOf_0 15 rfl rfl)
theorem dX6_sumOf_18 : decode cX6_sumOf 18 = .ok (.bipush 8, 2) := dk_16 8 (dk_at dksX6_sumOf_0 18 rfl rfl)
theorem dX6_sumOf_20 : decode cX6_sumOf 20 = .ok (.iload_n 3, 1) := dk_29 (dk_at dksX6_sumOf_0 20 rfl rfl)
theorem dX6_sumOf_21 : decode cX6_sumOf 21 = .ok (.iadd, 1) := dk_96 (dk_at dksX6_sumOf_0 21 rfl rfl)
theorem dX6_sumOf_22 : decode cX6_sumOf 22 = .ok (.iaload, 1) := dk_46 (dk_at dksX6_sumOf_0 22 rfl rfl)
theorem dX6_sumOf_23 : decode cX6_sumOf 23 = .ok (.imul, 1) := dk_104 (dk_at dksX6_sumOf_0 23 rfl rfl)
theorem dX6_sumOf_24 : decode cX6_sumOf 24 = .ok (.iadd, 1) := dk_96 (dk_at dksX6_sumOf_1 0 rfl rfl)
theorem dX6_sumOf_25 : decode cX6_sumOf 25 = .ok (.istore_n 2, 1) := dk_61 (dk_at dksX6_sumOf_1 1 rfl rfl)
theorem dX6_sumOf_26 : decode cX6_sumOf 26 = .ok (.iinc 3 1, 3) := dk_132 3 1 (dk_at dksX6_sumOf_1 2 rfl rfl)
theorem dX6_sumOf_29 : decode cX6_sumOf 29 = .ok (.goto (-25), 3) := dk_167 255 231 (dk_at dksX6_sumOf_1 5 rfl rfl)
theorem dX6_sumOf_32 : decode cX6_sumOf 32 = .ok (.iload_n 2, 1) := dk_28 (dk_at dksX6_sumOf_1 8 rfl rfl)
theorem dX6_sumOf_33 : decode cX6_sumOf 33 = .ok (.ireturn, 1) := dk_172 (dk_at dksX6_sumOf_1 9 rfl rfl)
abbrev cX6_costOf : ByteArray := prog_20_method_33_code
def yX6_costOf : MethodName := ⟨RX6, "costOf", "([I)I"⟩
def dkwX6_costOf_1 : List UInt8 := [96, 61, 132, 3, 1, 167, 255, 231, 28, 172]
abbrev dktX6_costOf_1 : List UInt8 := dkwX6_costOf_1 ++ []
def dkwX6_costOf_0 : List UInt8 := [3, 61, 3, 62, 29, 16, 8, 162, 0, 25, 28, 43, 29, 46, 42, 180, 0, 7, 16, 16, 29, 96, 46, 104]
abbrev dktX6_costOf_0 : List UInt8 := dkwX6_costOf_0 ++ dktX6_costOf_1
theorem dksX6_costOf_0 : cX6_costOf.data.toList.drop 0 = dktX6_costOf_0 := by decide +kernel
theorem dksX6_costOf_1 : cX6_costOf.data.toList.drop 24 = dktX6_costOf_1 := dk_seg dksX6_costOf_0 24 rfl rfl
theorem dX6_costOf_0 : decode cX6_costOf 0 = .ok (.iconst 0, 1) := dk_3 (dk_at dksX6_costOf_0 0 rfl rfl)
theorem dX6_costOf_1 : decode cX6_costOf 1 = .ok (.istore_n 2, 1) := dk_61 (dk_at dksX6_costOf_0 1 rfl rfl)
theorem dX6_costOf_2 : decode cX6_costOf 2 = .ok (.iconst 0, 1) := dk_3 (dk_at dksX6_costOf_0 2 rfl rfl)
theorem dX6_costOf_3 : decode cX6_costOf 3 = .ok (.istore_n 3, 1) := dk_62 (dk_at dksX6_costOf_0 3 rfl rfl)
theorem dX6_costOf_4 : decode cX6_costOf 4 = .ok (.iload_n 3, 1) := dk_29 (dk_at dksX6_costOf_0 4 rfl rfl)
theorem dX6_costOf_5 : decode cX6_costOf 5 = .ok (.bipush 8, 2) := dk_16 8 (dk_at dksX6_costOf_0 5 rfl rfl)
theorem dX6_costOf_7 : decode cX6_costOf 7 = .ok (.if_icmp .ge 25, 3) := dk_162 0 25 (dk_at dksX6_costOf_0 7 rfl rfl)
theorem dX6_costOf_10 : decode cX6_costOf 10 = .ok (.iload_n 2, 1) := dk_28 (dk_at dksX6_costOf_0 10 rfl rfl)
theorem dX6_costOf_11 : decode cX6_costOf 11 = .ok (.aload_n 1, 1) := dk_43 (dk_at dksX6_costOf_0 11 rfl rfl)
theorem dX6_costOf_12 : decode cX6_costOf 12 = .ok (.iload_n 3, 1) := dk_29 (dk_at dksX6_costOf_0 12 rfl rfl)
theorem dX6_costOf_13 : decode cX6_costOf 13 = .ok (.iaload, 1) := dk_46 (dk_at dksX6_costOf_0 13 rfl rfl)
theorem dX6_costOf_14 : decode cX6_costOf 14 = .ok (.aload_n 0, 1) := dk_42 (dk_at dksX6_costOf_0 14 rfl rfl)
theorem dX6_costOf_15 : decode cX6_costOf 15 = .ok (.getfield 7, 3) := dk_180 0 7 (dk_at dksX6_costOf_0 15 rfl rfl)
theorem dX6_costOf_18 : decode cX6_costOf 18 = .ok (.bipush 16, 2) := dk_16 16 (dk_at dksX6_costOf_0 18 rfl rfl)
theorem dX6_costOf_20 : decode cX6_costOf 20 = .ok (.iload_n 3, 1) := dk_29 (dk_at dksX6_costOf_0 20 rfl rfl)
theorem dX6_costOf_21 : decode cX6_costOf 21 = .ok (.iadd, 1) := dk_96 (dk_at dksX6_costOf_0 21 rfl rfl)
theorem dX6_costOf_22 : decode cX6_costOf 22 = .ok (.iaload, 1) := dk_46 (dk_at dksX6_costOf_0 22 rfl rfl)
theorem dX6_costOf_23 : decode cX6_costOf 23 = .ok (.imul, 1) := dk_104 (dk_at dksX6_costOf_0 23 rfl rfl)
theorem dX6_costOf_24 : decode cX6_costOf 24 = .ok (.iadd, 1) := dk_96 (dk_at dksX6_costOf_1 0 rfl rfl)
theorem dX6_costOf_25 : decode cX6_costOf 25 = .ok (.istore_n 2, 1) := dk_61 (dk_at dksX6_costOf_1 1 rfl rfl)
theorem dX6_costOf_26 : decode cX6_costOf 26 = .ok (.iinc 3 1, 3) := dk_132 3 1 (dk_at dksX6_costOf_1 2 rfl rfl)
theorem dX6_costOf_29 : decode cX6_costOf 29 = .ok (.goto (-25), 3) := dk_167 255 231 (dk_at dksX6_costOf_1 5 rfl rfl)
theorem dX6_costOf_32 : decode cX6_costOf 32 = .ok (.iload_n 2, 1) := dk_28 (dk_at dksX6_costOf_1 8 rfl rfl)
theorem dX6_costOf_33 : decode cX6_costOf 33 = .ok (.ireturn, 1) := dk_172 (dk_at dksX6_costOf_1 9 rfl rfl)
abbrev cX6_pays : ByteArray := prog_20_method_46_code
def yX6_pays : MethodName := ⟨RX6, "pays", "(II)I"⟩
def dkwX6_pays_1 : List UInt8 := [42, 180, 0, 28, 182, 0, 183, 172]
abbrev dktX6_pays_1 : List UInt8 := dkwX6_pays_1 ++ []
def dkwX6_pays_0 : List UInt8 := [42, 27, 28, 4, 16, 30, 182, 0, 176, 62, 29, 158, 0, 11, 42, 29, 182, 0, 63, 167, 0, 12, 42, 28]
abbrev dktX6_pays_0 : List UInt8 := dkwX6_pays_0 ++ dktX6_pays_1
theorem dksX6_pays_0 : cX6_pays.data.toList.drop 0 = dktX6_pays_0 := by decide +kernel
theorem dksX6_pays_1 : cX6_pays.data.toList.drop 24 = dktX6_pays_1 := dk_seg dksX6_pays_0 24 rfl rfl
theorem dX6_pays_0 : decode cX6_pays 0 = .ok (.aload_n 0, 1) := dk_42 (dk_at dksX6_pays_0 0 rfl rfl)
theorem dX6_pays_1 : decode cX6_pays 1 = .ok (.iload_n 1, 1) := dk_27 (dk_at dksX6_pays_0 1 rfl rfl)
theorem dX6_pays_2 : decode cX6_pays 2 = .ok (.iload_n 2, 1) := dk_28 (dk_at dksX6_pays_0 2 rfl rfl)
theorem dX6_pays_3 : decode cX6_pays 3 = .ok (.iconst 1, 1) := dk_4 (dk_at dksX6_pays_0 3 rfl rfl)
theorem dX6_pays_4 : decode cX6_pays 4 = .ok (.bipush 30, 2) := dk_16 30 (dk_at dksX6_pays_0 4 rfl rfl)
theorem dX6_pays_6 : decode cX6_pays 6 = .ok (.invokevirtual 176, 3) := dk_182 0 176 (dk_at dksX6_pays_0 6 rfl rfl)
theorem dX6_pays_9 : decode cX6_pays 9 = .ok (.istore_n 3, 1) := dk_62 (dk_at dksX6_pays_0 9 rfl rfl)
theorem dX6_pays_10 : decode cX6_pays 10 = .ok (.iload_n 3, 1) := dk_29 (dk_at dksX6_pays_0 10 rfl rfl)
theorem dX6_pays_11 : decode cX6_pays 11 = .ok (.ifCond .le 11, 3) := dk_158 0 11 (dk_at dksX6_pays_0 11 rfl rfl)
theorem dX6_pays_14 : decode cX6_pays 14 = .ok (.aload_n 0, 1) := dk_42 (dk_at dksX6_pays_0 14 rfl rfl)
theorem dX6_pays_15 : decode cX6_pays 15 = .ok (.iload_n 3, 1) := dk_29 (dk_at dksX6_pays_0 15 rfl rfl)
theorem dX6_pays_16 : decode cX6_pays 16 = .ok (.invokevirtual 63, 3) := dk_182 0 63 (dk_at dksX6_pays_0 16 rfl rfl)
theorem dX6_pays_19 : decode cX6_pays 19 = .ok (.goto 12, 3) := dk_167 0 12 (dk_at dksX6_pays_0 19 rfl rfl)
theorem dX6_pays_22 : decode cX6_pays 22 = .ok (.aload_n 0, 1) := dk_42 (dk_at dksX6_pays_0 22 rfl rfl)
theorem dX6_pays_23 : decode cX6_pays 23 = .ok (.iload_n 2, 1) := dk_28 (dk_at dksX6_pays_0 23 rfl rfl)
theorem dX6_pays_24 : decode cX6_pays 24 = .ok (.aload_n 0, 1) := dk_42 (dk_at dksX6_pays_1 0 rfl rfl)
theorem dX6_pays_25 : decode cX6_pays 25 = .ok (.getfield 28, 3) := dk_180 0 28 (dk_at dksX6_pays_1 1 rfl rfl)
theorem dX6_pays_28 : decode cX6_pays 28 = .ok (.invokevirtual 183, 3) := dk_182 0 183 (dk_at dksX6_pays_1 4 rfl rfl)
theorem dX6_pays_31 : decode cX6_pays 31 = .ok (.ireturn, 1) := dk_172 (dk_at dksX6_pays_1 7 rfl rfl)
abbrev cX6_paid : ByteArray := prog_20_method_34_code
def yX6_paid : MethodName := ⟨RX6, "paid", "(I[I)I"⟩
def dkwX6_paid_0 : List UInt8 := [42, 27, 42, 44, 182, 0, 142, 44, 184, 0, 146, 182, 0, 149, 172]
abbrev dktX6_paid_0 : List UInt8 := dkwX6_paid_0 ++ []
theorem dksX6_paid_0 : cX6_paid.data.toList.drop 0 = dktX6_paid_0 := by decide +kernel
theorem dX6_paid_0 : decode cX6_paid 0 = .ok (.aload_n 0, 1) := dk_42 (dk_at dksX6_paid_0 0 rfl rfl)
theorem dX6_paid_1 : decode cX6_paid 1 = .ok (.iload_n 1, 1) := dk_27 (dk_at dksX6_paid_0 1 rfl rfl)
theorem dX6_paid_2 : decode cX6_paid 2 = .ok (.aload_n 0, 1) := dk_42 (dk_at dksX6_paid_0 2 rfl rfl)
theorem dX6_paid_3 : decode cX6_paid 3 = .ok (.aload_n 2, 1) := dk_44 (dk_at dksX6_paid_0 3 rfl rfl)
theorem dX6_paid_4 : decode cX6_paid 4 = .ok (.invokevirtual 142, 3) := dk_182 0 142 (dk_at dksX6_paid_0 4 rfl rfl)
theorem dX6_paid_7 : decode cX6_paid 7 = .ok (.aload_n 2, 1) := dk_44 (dk_at dksX6_paid_0 7 rfl rfl)
theorem dX6_paid_8 : decode cX6_paid 8 = .ok (.invokestatic 146, 3) := dk_184 0 146 (dk_at dksX6_paid_0 8 rfl rfl)
theorem dX6_paid_11 : decode cX6_paid 11 = .ok (.invokevirtual 149, 3) := dk_182 0 149 (dk_at dksX6_paid_0 11 rfl rfl)
theorem dX6_paid_14 : decode cX6_paid 14 = .ok (.ireturn, 1) := dk_172 (dk_at dksX6_paid_0 14 rfl rfl)
abbrev cX6_go : ByteArray := prog_20_method_49_code
def yX6_go : MethodName := ⟨RX6, "go", "(II)I"⟩
def dkwX6_go_2 : List UInt8 := [182, 0, 192, 172]
abbrev dktX6_go_2 : List UInt8 := dkwX6_go_2 ++ []
def dkwX6_go_1 : List UInt8 := [154, 0, 5, 6, 62, 29, 158, 0, 11, 42, 29, 182, 0, 63, 167, 0, 12, 42, 28, 42, 180, 0, 28]
abbrev dktX6_go_1 : List UInt8 := dkwX6_go_1 ++ dktX6_go_2
def dkwX6_go_0 : List UInt8 := [42, 27, 28, 4, 16, 30, 182, 0, 176, 62, 29, 154, 0, 16, 42, 42, 180, 0, 28, 182, 0, 188]
abbrev dktX6_go_0 : List UInt8 := dkwX6_go_0 ++ dktX6_go_1
theorem dksX6_go_0 : cX6_go.data.toList.drop 0 = dktX6_go_0 := by decide +kernel
theorem dksX6_go_1 : cX6_go.data.toList.drop 22 = dktX6_go_1 := dk_seg dksX6_go_0 22 rfl rfl
theorem dksX6_go_2 : cX6_go.data.toList.drop 45 = dktX6_go_2 := dk_seg dksX6_go_1 23 rfl rfl
theorem dX6_go_0 : decode cX6_go 0 = .ok (.aload_n 0, 1) := dk_42 (dk_at dksX6_go_0 0 rfl rfl)
theorem dX6_go_1 : decode cX6_go 1 = .ok (.iload_n 1, 1) := dk_27 (dk_at dksX6_go_0 1 rfl rfl)
theorem dX6_go_2 : decode cX6_go 2 = .ok (.iload_n 2, 1) := dk_28 (dk_at dksX6_go_0 2 rfl rfl)
theorem dX6_go_3 : decode cX6_go 3 = .ok (.iconst 1, 1) := dk_4 (dk_at dksX6_go_0 3 rfl rfl)
theorem dX6_go_4 : decode cX6_go 4 = .ok (.bipush 30, 2) := dk_16 30 (dk_at dksX6_go_0 4 rfl rfl)
theorem dX6_go_6 : decode cX6_go 6 = .ok (.invokevirtual 176, 3) := dk_182 0 176 (dk_at dksX6_go_0 6 rfl rfl)
theorem dX6_go_9 : decode cX6_go 9 = .ok (.istore_n 3, 1) := dk_62 (dk_at dksX6_go_0 9 rfl rfl)
theorem dX6_go_10 : decode cX6_go 10 = .ok (.iload_n 3, 1) := dk_29 (dk_at dksX6_go_0 10 rfl rfl)
theorem dX6_go_11 : decode cX6_go 11 = .ok (.ifCond .ne 16, 3) := dk_154 0 16 (dk_at dksX6_go_0 11 rfl rfl)
theorem dX6_go_14 : decode cX6_go 14 = .ok (.aload_n 0, 1) := dk_42 (dk_at dksX6_go_0 14 rfl rfl)
theorem dX6_go_15 : decode cX6_go 15 = .ok (.aload_n 0, 1) := dk_42 (dk_at dksX6_go_0 15 rfl rfl)
theorem dX6_go_16 : decode cX6_go 16 = .ok (.getfield 28, 3) := dk_180 0 28 (dk_at dksX6_go_0 16 rfl rfl)
theorem dX6_go_19 : decode cX6_go 19 = .ok (.invokevirtual 188, 3) := dk_182 0 188 (dk_at dksX6_go_0 19 rfl rfl)
theorem dX6_go_22 : decode cX6_go 22 = .ok (.ifCond .ne 5, 3) := dk_154 0 5 (dk_at dksX6_go_1 0 rfl rfl)
theorem dX6_go_25 : decode cX6_go 25 = .ok (.iconst 3, 1) := dk_6 (dk_at dksX6_go_1 3 rfl rfl)
theorem dX6_go_26 : decode cX6_go 26 = .ok (.istore_n 3, 1) := dk_62 (dk_at dksX6_go_1 4 rfl rfl)
theorem dX6_go_27 : decode cX6_go 27 = .ok (.iload_n 3, 1) := dk_29 (dk_at dksX6_go_1 5 rfl rfl)
theorem dX6_go_28 : decode cX6_go 28 = .ok (.ifCond .le 11, 3) := dk_158 0 11 (dk_at dksX6_go_1 6 rfl rfl)
theorem dX6_go_31 : decode cX6_go 31 = .ok (.aload_n 0, 1) := dk_42 (dk_at dksX6_go_1 9 rfl rfl)
theorem dX6_go_32 : decode cX6_go 32 = .ok (.iload_n 3, 1) := dk_29 (dk_at dksX6_go_1 10 rfl rfl)
theorem dX6_go_33 : decode cX6_go 33 = .ok (.invokevirtual 63, 3) := dk_182 0 63 (dk_at dksX6_go_1 11 rfl rfl)
theorem dX6_go_36 : decode cX6_go 36 = .ok (.goto 12, 3) := dk_167 0 12 (dk_at dksX6_go_1 14 rfl rfl)
theorem dX6_go_39 : decode cX6_go 39 = .ok (.aload_n 0, 1) := dk_42 (dk_at dksX6_go_1 17 rfl rfl)
theorem dX6_go_40 : decode cX6_go 40 = .ok (.iload_n 2, 1) := dk_28 (dk_at dksX6_go_1 18 rfl rfl)
theorem dX6_go_41 : decode cX6_go 41 = .ok (.aload_n 0, 1) := dk_42 (dk_at dksX6_go_1 19 rfl rfl)
theorem dX6_go_42 : decode cX6_go 42 = .ok (.getfield 28, 3) := dk_180 0 28 (dk_at dksX6_go_1 20 rfl rfl)
theorem dX6_go_45 : decode cX6_go 45 = .ok (.invokevirtual 192, 3) := dk_182 0 192 (dk_at dksX6_go_2 0 rfl rfl)
theorem dX6_go_48 : decode cX6_go 48 = .ok (.ireturn, 1) := dk_172 (dk_at dksX6_go_2 3 rfl rfl)
abbrev cX6_isInStock : ByteArray := prog_20_method_47_code
def yX6_isInStock : MethodName := ⟨RX6, "isInStock", "([I)Z"⟩
def dkwX6_isInStock_1 : List UInt8 := [96, 46, 163, 0, 7, 4, 167, 0, 4, 3, 61, 132, 3, 1, 167, 255, 222, 28, 172]
abbrev dktX6_isInStock_1 : List UInt8 := dkwX6_isInStock_1 ++ []
def dkwX6_isInStock_0 : List UInt8 := [4, 61, 3, 62, 29, 16, 8, 162, 0, 34, 28, 153, 0, 22, 43, 29, 46, 42, 180, 0, 7, 16, 24, 29]
abbrev dktX6_isInStock_0 : List UInt8 := dkwX6_isInStock_0 ++ dktX6_isInStock_1
theorem dksX6_isInStock_0 : cX6_isInStock.data.toList.drop 0 = dktX6_isInStock_0 := by decide +kernel
theorem dksX6_isInStock_1 : cX6_isInStock.data.toList.drop 24 = dktX6_isInStock_1 := dk_seg dksX6_isInStock_0 24 rfl rfl
theorem dX6_isInStock_0 : decode cX6_isInStock 0 = .ok (.iconst 1, 1) := dk_4 (dk_at dksX6_isInStock_0 0 rfl rfl)
theorem dX6_isInStock_1 : decode cX6_isInStock 1 = .ok (.istore_n 2, 1) := dk_61 (dk_at dksX6_isInStock_0 1 rfl rfl)
theorem dX6_isInStock_2 : decode cX6_isInStock 2 = .ok (.iconst 0, 1) := dk_3 (dk_at dksX6_isInStock_0 2 rfl rfl)
theorem dX6_isInStock_3 : decode cX6_isInStock 3 = .ok (.istore_n 3, 1) := dk_62 (dk_at dksX6_isInStock_0 3 rfl rfl)
theorem dX6_isInStock_4 : decode cX6_isInStock 4 = .ok (.iload_n 3, 1) := dk_29 (dk_at dksX6_isInStock_0 4 rfl rfl)
theorem dX6_isInStock_5 : decode cX6_isInStock 5 = .ok (.bipush 8, 2) := dk_16 8 (dk_at dksX6_isInStock_0 5 rfl rfl)
theorem dX6_isInStock_7 : decode cX6_isInStock 7 = .ok (.if_icmp .ge 34, 3) := dk_162 0 34 (dk_at dksX6_isInStock_0 7 rfl rfl)
theorem dX6_isInStock_10 : decode cX6_isInStock 10 = .ok (.iload_n 2, 1) := dk_28 (dk_at dksX6_isInStock_0 10 rfl rfl)
theorem dX6_isInStock_11 : decode cX6_isInStock 11 = .ok (.ifCond .eq 22, 3) := dk_153 0 22 (dk_at dksX6_isInStock_0 11 rfl rfl)
theorem dX6_isInStock_14 : decode cX6_isInStock 14 = .ok (.aload_n 1, 1) := dk_43 (dk_at dksX6_isInStock_0 14 rfl rfl)
theorem dX6_isInStock_15 : decode cX6_isInStock 15 = .ok (.iload_n 3, 1) := dk_29 (dk_at dksX6_isInStock_0 15 rfl rfl)
theorem dX6_isInStock_16 : decode cX6_isInStock 16 = .ok (.iaload, 1) := dk_46 (dk_at dksX6_isInStock_0 16 rfl rfl)
theorem dX6_isInStock_17 : decode cX6_isInStock 17 = .ok (.aload_n 0, 1) := dk_42 (dk_at dksX6_isInStock_0 17 rfl rfl)
theorem dX6_isInStock_18 : decode cX6_isInStock 18 = .ok (.getfield 7, 3) := dk_180 0 7 (dk_at dksX6_isInStock_0 18 rfl rfl)
theorem dX6_isInStock_21 : decode cX6_isInStock 21 = .ok (.bipush 24, 2) := dk_16 24 (dk_at dksX6_isInStock_0 21 rfl rfl)
theorem dX6_isInStock_23 : decode cX6_isInStock 23 = .ok (.iload_n 3, 1) := dk_29 (dk_at dksX6_isInStock_0 23 rfl rfl)
theorem dX6_isInStock_24 : decode cX6_isInStock 24 = .ok (.iadd, 1) := dk_96 (dk_at dksX6_isInStock_1 0 rfl rfl)
theorem dX6_isInStock_25 : decode cX6_isInStock 25 = .ok (.iaload, 1) := dk_46 (dk_at dksX6_isInStock_1 1 rfl rfl)
theorem dX6_isInStock_26 : decode cX6_isInStock 26 = .ok (.if_icmp .gt 7, 3) := dk_163 0 7 (dk_at dksX6_isInStock_1 2 rfl rfl)
theorem dX6_isInStock_29 : decode cX6_isInStock 29 = .ok (.iconst 1, 1) := dk_4 (dk_at dksX6_isInStock_1 5 rfl rfl)
theorem dX6_isInStock_30 : decode cX6_isInStock 30 = .ok (.goto 4, 3) := dk_167 0 4 (dk_at dksX6_isInStock_1 6 rfl rfl)
theorem dX6_isInStock_33 : decode cX6_isInStock 33 = .ok (.iconst 0, 1) := dk_3 (dk_at dksX6_isInStock_1 9 rfl rfl)
theorem dX6_isInStock_34 : decode cX6_isInStock 34 = .ok (.istore_n 2, 1) := dk_61 (dk_at dksX6_isInStock_1 10 rfl rfl)
theorem dX6_isInStock_35 : decode cX6_isInStock 35 = .ok (.iinc 3 1, 3) := dk_132 3 1 (dk_at dksX6_isInStock_1 11 rfl rfl)
theorem dX6_isInStock_38 : decode cX6_isInStock 38 = .ok (.goto (-34), 3) := dk_167 255 222 (dk_at dksX6_isInStock_1 14 rfl rfl)
theorem dX6_isInStock_41 : decode cX6_isInStock 41 = .ok (.iload_n 2, 1) := dk_28 (dk_at dksX6_isInStock_1 17 rfl rfl)
theorem dX6_isInStock_42 : decode cX6_isInStock 42 = .ok (.ireturn, 1) := dk_172 (dk_at dksX6_isInStock_1 18 rfl rfl)
abbrev cX6_goes : ByteArray := prog_20_method_48_code
def yX6_goes : MethodName := ⟨RX6, "goes", "(I[I)I"⟩
def dkwX6_goes_4 : List UInt8 := [21, 4, 46, 100, 79, 132, 4, 1, 167, 255, 229, 29, 172]
abbrev dktX6_goes_4 : List UInt8 := dkwX6_goes_4 ++ []
def dkwX6_goes_3 : List UInt8 := [79, 3, 54, 4, 21, 4, 16, 8, 162, 0, 26, 42, 180, 0, 7, 16, 24, 21, 4, 96, 92, 46, 44]
abbrev dktX6_goes_3 : List UInt8 := dkwX6_goes_3 ++ dktX6_goes_4
def dkwX6_goes_2 : List UInt8 := [184, 0, 139, 79, 42, 180, 0, 7, 3, 42, 180, 0, 7, 3, 46, 4, 96, 3, 17, 39, 15, 184, 0, 139]
abbrev dktX6_goes_2 : List UInt8 := dkwX6_goes_2 ++ dktX6_goes_3
def dkwX6_goes_1 : List UInt8 := [184, 0, 139, 79, 42, 180, 0, 7, 5, 42, 180, 0, 7, 5, 46, 42, 44, 182, 0, 180, 96, 3, 18, 187]
abbrev dktX6_goes_1 : List UInt8 := dkwX6_goes_1 ++ dktX6_goes_2
def dkwX6_goes_0 : List UInt8 := [42, 27, 44, 182, 0, 183, 62, 42, 180, 0, 7, 4, 42, 180, 0, 7, 4, 46, 29, 96, 3, 18, 187]
abbrev dktX6_goes_0 : List UInt8 := dkwX6_goes_0 ++ dktX6_goes_1
theorem dksX6_goes_0 : cX6_goes.data.toList.drop 0 = dktX6_goes_0 := by decide +kernel
theorem dksX6_goes_1 : cX6_goes.data.toList.drop 23 = dktX6_goes_1 := dk_seg dksX6_goes_0 23 rfl rfl
theorem dksX6_goes_2 : cX6_goes.data.toList.drop 47 = dktX6_goes_2 := dk_seg dksX6_goes_1 24 rfl rfl
theorem dksX6_goes_3 : cX6_goes.data.toList.drop 71 = dktX6_goes_3 := dk_seg dksX6_goes_2 24 rfl rfl
theorem dksX6_goes_4 : cX6_goes.data.toList.drop 94 = dktX6_goes_4 := dk_seg dksX6_goes_3 23 rfl rfl
theorem dX6_goes_0 : decode cX6_goes 0 = .ok (.aload_n 0, 1) := dk_42 (dk_at dksX6_goes_0 0 rfl rfl)
theorem dX6_goes_1 : decode cX6_goes 1 = .ok (.iload_n 1, 1) := dk_27 (dk_at dksX6_goes_0 1 rfl rfl)
theorem dX6_goes_2 : decode cX6_goes 2 = .ok (.aload_n 2, 1) := dk_44 (dk_at dksX6_goes_0 2 rfl rfl)
theorem dX6_goes_3 : decode cX6_goes 3 = .ok (.invokevirtual 183, 3) := dk_182 0 183 (dk_at dksX6_goes_0 3 rfl rfl)
theorem dX6_goes_6 : decode cX6_goes 6 = .ok (.istore_n 3, 1) := dk_62 (dk_at dksX6_goes_0 6 rfl rfl)
theorem dX6_goes_7 : decode cX6_goes 7 = .ok (.aload_n 0, 1) := dk_42 (dk_at dksX6_goes_0 7 rfl rfl)
theorem dX6_goes_8 : decode cX6_goes 8 = .ok (.getfield 7, 3) := dk_180 0 7 (dk_at dksX6_goes_0 8 rfl rfl)
theorem dX6_goes_11 : decode cX6_goes 11 = .ok (.iconst 1, 1) := dk_4 (dk_at dksX6_goes_0 11 rfl rfl)
theorem dX6_goes_12 : decode cX6_goes 12 = .ok (.aload_n 0, 1) := dk_42 (dk_at dksX6_goes_0 12 rfl rfl)
theorem dX6_goes_13 : decode cX6_goes 13 = .ok (.getfield 7, 3) := dk_180 0 7 (dk_at dksX6_goes_0 13 rfl rfl)
theorem dX6_goes_16 : decode cX6_goes 16 = .ok (.iconst 1, 1) := dk_4 (dk_at dksX6_goes_0 16 rfl rfl)
theorem dX6_goes_17 : decode cX6_goes 17 = .ok (.iaload, 1) := dk_46 (dk_at dksX6_goes_0 17 rfl rfl)
theorem dX6_goes_18 : decode cX6_goes 18 = .ok (.iload_n 3, 1) := dk_29 (dk_at dksX6_goes_0 18 rfl rfl)
theorem dX6_goes_19 : decode cX6_goes 19 = .ok (.iadd, 1) := dk_96 (dk_at dksX6_goes_0 19 rfl rfl)
theorem dX6_goes_20 : decode cX6_goes 20 = .ok (.iconst 0, 1) := dk_3 (dk_at dksX6_goes_0 20 rfl rfl)
theorem dX6_goes_21 : decode cX6_goes 21 = .ok (.ldc 187, 2) := dk_18 187 (dk_at dksX6_goes_0 21 rfl rfl)
theorem dX6_goes_23 : decode cX6_goes 23 = .ok (.invokestatic 139, 3) := dk_184 0 139 (dk_at dksX6_goes_1 0 rfl rfl)
theorem dX6_goes_26 : decode cX6_goes 26 = .ok (.iastore, 1) := dk_79 (dk_at dksX6_goes_1 3 rfl rfl)
theorem dX6_goes_27 : decode cX6_goes 27 = .ok (.aload_n 0, 1) := dk_42 (dk_at dksX6_goes_1 4 rfl rfl)
theorem dX6_goes_28 : decode cX6_goes 28 = .ok (.getfield 7, 3) := dk_180 0 7 (dk_at dksX6_goes_1 5 rfl rfl)
theorem dX6_goes_31 : decode cX6_goes 31 = .ok (.iconst 2, 1) := dk_5 (dk_at dksX6_goes_1 8 rfl rfl)
theorem dX6_goes_32 : decode cX6_goes 32 = .ok (.aload_n 0, 1) := dk_42 (dk_at dksX6_goes_1 9 rfl rfl)
theorem dX6_goes_33 : decode cX6_goes 33 = .ok (.getfield 7, 3) := dk_180 0 7 (dk_at dksX6_goes_1 10 rfl rfl)
theorem dX6_goes_36 : decode cX6_goes 36 = .ok (.iconst 2, 1) := dk_5 (dk_at dksX6_goes_1 13 rfl rfl)
theorem dX6_goes_37 : decode cX6_goes 37 = .ok (.iaload, 1) := dk_46 (dk_at dksX6_goes_1 14 rfl rfl)
theorem dX6_goes_38 : decode cX6_goes 38 = .ok (.aload_n 0, 1) := dk_42 (dk_at dksX6_goes_1 15 rfl rfl)
theorem dX6_goes_39 : decode cX6_goes 39 = .ok (.aload_n 2, 1) := dk_44 (dk_at dksX6_goes_1 16 rfl rfl)
theorem dX6_goes_40 : decode cX6_goes 40 = .ok (.invokevirtual 180, 3) := dk_182 0 180 (dk_at dksX6_goes_1 17 rfl rfl)
theorem dX6_goes_43 : decode cX6_goes 43 = .ok (.iadd, 1) := dk_96 (dk_at dksX6_goes_1 20 rfl rfl)
theorem dX6_goes_44 : decode cX6_goes 44 = .ok (.iconst 0, 1) := dk_3 (dk_at dksX6_goes_1 21 rfl rfl)
theorem dX6_goes_45 : decode cX6_goes 45 = .ok (.ldc 187, 2) := dk_18 187 (dk_at dksX6_goes_1 22 rfl rfl)
theorem dX6_goes_47 : decode cX6_goes 47 = .ok (.invokestatic 139, 3) := dk_184 0 139 (dk_at dksX6_goes_2 0 rfl rfl)
theorem dX6_goes_50 : decode cX6_goes 50 = .ok (.iastore, 1) := dk_79 (dk_at dksX6_goes_2 3 rfl rfl)
theorem dX6_goes_51 : decode cX6_goes 51 = .ok (.aload_n 0, 1) := dk_42 (dk_at dksX6_goes_2 4 rfl rfl)
theorem dX6_goes_52 : decode cX6_goes 52 = .ok (.getfield 7, 3) := dk_180 0 7 (dk_at dksX6_goes_2 5 rfl rfl)
theorem dX6_goes_55 : decode cX6_goes 55 = .ok (.iconst 0, 1) := dk_3 (dk_at dksX6_goes_2 8 rfl rfl)
theorem dX6_goes_56 : decode cX6_goes 56 = .ok (.aload_n 0, 1) := dk_42 (dk_at dksX6_goes_2 9 rfl rfl)
theorem dX6_goes_57 : decode cX6_goes 57 = .ok (.getfield 7, 3) := dk_180 0 7 (dk_at dksX6_goes_2 10 rfl rfl)
theorem dX6_goes_60 : decode cX6_goes 60 = .ok (.iconst 0, 1) := dk_3 (dk_at dksX6_goes_2 13 rfl rfl)
theorem dX6_goes_61 : decode cX6_goes 61 = .ok (.iaload, 1) := dk_46 (dk_at dksX6_goes_2 14 rfl rfl)
theorem dX6_goes_62 : decode cX6_goes 62 = .ok (.iconst 1, 1) := dk_4 (dk_at dksX6_goes_2 15 rfl rfl)
theorem dX6_goes_63 : decode cX6_goes 63 = .ok (.iadd, 1) := dk_96 (dk_at dksX6_goes_2 16 rfl rfl)
theorem dX6_goes_64 : decode cX6_goes 64 = .ok (.iconst 0, 1) := dk_3 (dk_at dksX6_goes_2 17 rfl rfl)
theorem dX6_goes_65 : decode cX6_goes 65 = .ok (.sipush 9999, 3) := dk_17 39 15 (dk_at dksX6_goes_2 18 rfl rfl)
theorem dX6_goes_68 : decode cX6_goes 68 = .ok (.invokestatic 139, 3) := dk_184 0 139 (dk_at dksX6_goes_2 21 rfl rfl)
theorem dX6_goes_71 : decode cX6_goes 71 = .ok (.iastore, 1) := dk_79 (dk_at dksX6_goes_3 0 rfl rfl)
theorem dX6_goes_72 : decode cX6_goes 72 = .ok (.iconst 0, 1) := dk_3 (dk_at dksX6_goes_3 1 rfl rfl)
theorem dX6_goes_73 : decode cX6_goes 73 = .ok (.istore 4, 2) := dk_54 4 (dk_at dksX6_goes_3 2 rfl rfl)
theorem dX6_goes_75 : decode cX6_goes 75 = .ok (.iload 4, 2) := dk_21 4 (dk_at dksX6_goes_3 4 rfl rfl)
theorem dX6_goes_77 : decode cX6_goes 77 = .ok (.bipush 8, 2) := dk_16 8 (dk_at dksX6_goes_3 6 rfl rfl)
theorem dX6_goes_79 : decode cX6_goes 79 = .ok (.if_icmp .ge 26, 3) := dk_162 0 26 (dk_at dksX6_goes_3 8 rfl rfl)
theorem dX6_goes_82 : decode cX6_goes 82 = .ok (.aload_n 0, 1) := dk_42 (dk_at dksX6_goes_3 11 rfl rfl)
theorem dX6_goes_83 : decode cX6_goes 83 = .ok (.getfield 7, 3) := dk_180 0 7 (dk_at dksX6_goes_3 12 rfl rfl)
theorem dX6_goes_86 : decode cX6_goes 86 = .ok (.bipush 24, 2) := dk_16 24 (dk_at dksX6_goes_3 15 rfl rfl)
theorem dX6_goes_88 : decode cX6_goes 88 = .ok (.iload 4, 2) := dk_21 4 (dk_at dksX6_goes_3 17 rfl rfl)
theorem dX6_goes_90 : decode cX6_goes 90 = .ok (.iadd, 1) := dk_96 (dk_at dksX6_goes_3 19 rfl rfl)
theorem dX6_goes_91 : decode cX6_goes 91 = .ok (.dup2, 1) := dk_92 (dk_at dksX6_goes_3 20 rfl rfl)
theorem dX6_goes_92 : decode cX6_goes 92 = .ok (.iaload, 1) := dk_46 (dk_at dksX6_goes_3 21 rfl rfl)
theorem dX6_goes_93 : decode cX6_goes 93 = .ok (.aload_n 2, 1) := dk_44 (dk_at dksX6_goes_3 22 rfl rfl)
theorem dX6_goes_94 : decode cX6_goes 94 = .ok (.iload 4, 2) := dk_21 4 (dk_at dksX6_goes_4 0 rfl rfl)
theorem dX6_goes_96 : decode cX6_goes 96 = .ok (.iaload, 1) := dk_46 (dk_at dksX6_goes_4 2 rfl rfl)
theorem dX6_goes_97 : decode cX6_goes 97 = .ok (.isub, 1) := dk_100 (dk_at dksX6_goes_4 3 rfl rfl)
theorem dX6_goes_98 : decode cX6_goes 98 = .ok (.iastore, 1) := dk_79 (dk_at dksX6_goes_4 4 rfl rfl)
theorem dX6_goes_99 : decode cX6_goes 99 = .ok (.iinc 4 1, 3) := dk_132 4 1 (dk_at dksX6_goes_4 5 rfl rfl)
theorem dX6_goes_102 : decode cX6_goes 102 = .ok (.goto (-27), 3) := dk_167 255 229 (dk_at dksX6_goes_4 8 rfl rfl)
theorem dX6_goes_105 : decode cX6_goes 105 = .ok (.iload_n 3, 1) := dk_29 (dk_at dksX6_goes_4 11 rfl rfl)
theorem dX6_goes_106 : decode cX6_goes 106 = .ok (.ireturn, 1) := dk_172 (dk_at dksX6_goes_4 12 rfl rfl)
abbrev cX6_draws : ByteArray := prog_20_method_51_code
def yX6_draws : MethodName := ⟨RX6, "draws", "(I)I"⟩
def dkwX6_draws_4 : List UInt8 := [21, 5, 42, 180, 0, 28, 182, 0, 192, 54, 6, 132, 2, 1, 132, 3, 1, 167, 255, 166, 28, 172]
abbrev dktX6_draws_4 : List UInt8 := dkwX6_draws_4 ++ []
def dkwX6_draws_3 : List UInt8 := [4, 96, 79, 42, 182, 0, 196, 7, 112, 54, 5, 42, 42, 180, 0, 28, 182, 0, 188, 153, 0, 18, 42]
abbrev dktX6_draws_3 : List UInt8 := dkwX6_draws_3 ++ dktX6_draws_4
def dkwX6_draws_2 : List UInt8 := [167, 255, 238, 42, 182, 0, 196, 16, 8, 112, 54, 4, 42, 180, 0, 28, 21, 4, 42, 182, 0, 196, 7, 112]
abbrev dktX6_draws_2 : List UInt8 := dkwX6_draws_2 ++ dktX6_draws_3
def dkwX6_draws_1 : List UInt8 := [162, 0, 91, 3, 54, 4, 21, 4, 16, 8, 162, 0, 17, 42, 180, 0, 28, 21, 4, 3, 79, 132, 4, 1]
abbrev dktX6_draws_1 : List UInt8 := dkwX6_draws_1 ++ dktX6_draws_2
def dkwX6_draws_0 : List UInt8 := [27, 4, 16, 60, 184, 0, 59, 154, 0, 9, 42, 4, 182, 0, 63, 172, 3, 61, 3, 62, 29, 27]
abbrev dktX6_draws_0 : List UInt8 := dkwX6_draws_0 ++ dktX6_draws_1
theorem dksX6_draws_0 : cX6_draws.data.toList.drop 0 = dktX6_draws_0 := by decide +kernel
theorem dksX6_draws_1 : cX6_draws.data.toList.drop 22 = dktX6_draws_1 := dk_seg dksX6_draws_0 22 rfl rfl
theorem dksX6_draws_2 : cX6_draws.data.toList.drop 46 = dktX6_draws_2 := dk_seg dksX6_draws_1 24 rfl rfl
theorem dksX6_draws_3 : cX6_draws.data.toList.drop 70 = dktX6_draws_3 := dk_seg dksX6_draws_2 24 rfl rfl
theorem dksX6_draws_4 : cX6_draws.data.toList.drop 93 = dktX6_draws_4 := dk_seg dksX6_draws_3 23 rfl rfl
theorem dX6_draws_0 : decode cX6_draws 0 = .ok (.iload_n 1, 1) := dk_27 (dk_at dksX6_draws_0 0 rfl rfl)
theorem dX6_draws_1 : decode cX6_draws 1 = .ok (.iconst 1, 1) := dk_4 (dk_at dksX6_draws_0 1 rfl rfl)
theorem dX6_draws_2 : decode cX6_draws 2 = .ok (.bipush 60, 2) := dk_16 60 (dk_at dksX6_draws_0 2 rfl rfl)
theorem dX6_draws_4 : decode cX6_draws 4 = .ok (.invokestatic 59, 3) := dk_184 0 59 (dk_at dksX6_draws_0 4 rfl rfl)
theorem dX6_draws_7 : decode cX6_draws 7 = .ok (.ifCond .ne 9, 3) := dk_154 0 9 (dk_at dksX6_draws_0 7 rfl rfl)
theorem dX6_draws_10 : decode cX6_draws 10 = .ok (.aload_n 0, 1) := dk_42 (dk_at dksX6_draws_0 10 rfl rfl)
theorem dX6_draws_11 : decode cX6_draws 11 = .ok (.iconst 1, 1) := dk_4 (dk_at dksX6_draws_0 11 rfl rfl)
theorem dX6_draws_12 : decode cX6_draws 12 = .ok (.invokevirtual 63, 3) := dk_182 0 63 (dk_at dksX6_draws_0 12 rfl rfl)
theorem dX6_draws_15 : decode cX6_draws 15 = .ok (.ireturn, 1) := dk_172 (dk_at dksX6_draws_0 15 rfl rfl)
theorem dX6_draws_16 : decode cX6_draws 16 = .ok (.iconst 0, 1) := dk_3 (dk_at dksX6_draws_0 16 rfl rfl)
theorem dX6_draws_17 : decode cX6_draws 17 = .ok (.istore_n 2, 1) := dk_61 (dk_at dksX6_draws_0 17 rfl rfl)
theorem dX6_draws_18 : decode cX6_draws 18 = .ok (.iconst 0, 1) := dk_3 (dk_at dksX6_draws_0 18 rfl rfl)
theorem dX6_draws_19 : decode cX6_draws 19 = .ok (.istore_n 3, 1) := dk_62 (dk_at dksX6_draws_0 19 rfl rfl)
theorem dX6_draws_20 : decode cX6_draws 20 = .ok (.iload_n 3, 1) := dk_29 (dk_at dksX6_draws_0 20 rfl rfl)
theorem dX6_draws_21 : decode cX6_draws 21 = .ok (.iload_n 1, 1) := dk_27 (dk_at dksX6_draws_0 21 rfl rfl)
theorem dX6_draws_22 : decode cX6_draws 22 = .ok (.if_icmp .ge 91, 3) := dk_162 0 91 (dk_at dksX6_draws_1 0 rfl rfl)
theorem dX6_draws_25 : decode cX6_draws 25 = .ok (.iconst 0, 1) := dk_3 (dk_at dksX6_draws_1 3 rfl rfl)
theorem dX6_draws_26 : decode cX6_draws 26 = .ok (.istore 4, 2) := dk_54 4 (dk_at dksX6_draws_1 4 rfl rfl)
theorem dX6_draws_28 : decode cX6_draws 28 = .ok (.iload 4, 2) := dk_21 4 (dk_at dksX6_draws_1 6 rfl rfl)
theorem dX6_draws_30 : decode cX6_draws 30 = .ok (.bipush 8, 2) := dk_16 8 (dk_at dksX6_draws_1 8 rfl rfl)
theorem dX6_draws_32 : decode cX6_draws 32 = .ok (.if_icmp .ge 17, 3) := dk_162 0 17 (dk_at dksX6_draws_1 10 rfl rfl)
theorem dX6_draws_35 : decode cX6_draws 35 = .ok (.aload_n 0, 1) := dk_42 (dk_at dksX6_draws_1 13 rfl rfl)
theorem dX6_draws_36 : decode cX6_draws 36 = .ok (.getfield 28, 3) := dk_180 0 28 (dk_at dksX6_draws_1 14 rfl rfl)
theorem dX6_draws_39 : decode cX6_draws 39 = .ok (.iload 4, 2) := dk_21 4 (dk_at dksX6_draws_1 17 rfl rfl)
theorem dX6_draws_41 : decode cX6_draws 41 = .ok (.iconst 0, 1) := dk_3 (dk_at dksX6_draws_1 19 rfl rfl)
theorem dX6_draws_42 : decode cX6_draws 42 = .ok (.iastore, 1) := dk_79 (dk_at dksX6_draws_1 20 rfl rfl)
theorem dX6_draws_43 : decode cX6_draws 43 = .ok (.iinc 4 1, 3) := dk_132 4 1 (dk_at dksX6_draws_1 21 rfl rfl)
theorem dX6_draws_46 : decode cX6_draws 46 = .ok (.goto (-18), 3) := dk_167 255 238 (dk_at dksX6_draws_2 0 rfl rfl)
theorem dX6_draws_49 : decode cX6_draws 49 = .ok (.aload_n 0, 1) := dk_42 (dk_at dksX6_draws_2 3 rfl rfl)
theorem dX6_draws_50 : decode cX6_draws 50 = .ok (.invokevirtual 196, 3) := dk_182 0 196 (dk_at dksX6_draws_2 4 rfl rfl)
theorem dX6_draws_53 : decode cX6_draws 53 = .ok (.bipush 8, 2) := dk_16 8 (dk_at dksX6_draws_2 7 rfl rfl)
theorem dX6_draws_55 : decode cX6_draws 55 = .ok (.irem, 1) := dk_112 (dk_at dksX6_draws_2 9 rfl rfl)
theorem dX6_draws_56 : decode cX6_draws 56 = .ok (.istore 4, 2) := dk_54 4 (dk_at dksX6_draws_2 10 rfl rfl)
theorem dX6_draws_58 : decode cX6_draws 58 = .ok (.aload_n 0, 1) := dk_42 (dk_at dksX6_draws_2 12 rfl rfl)
theorem dX6_draws_59 : decode cX6_draws 59 = .ok (.getfield 28, 3) := dk_180 0 28 (dk_at dksX6_draws_2 13 rfl rfl)
theorem dX6_draws_62 : decode cX6_draws 62 = .ok (.iload 4, 2) := dk_21 4 (dk_at dksX6_draws_2 16 rfl rfl)
theorem dX6_draws_64 : decode cX6_draws 64 = .ok (.aload_n 0, 1) := dk_42 (dk_at dksX6_draws_2 18 rfl rfl)
theorem dX6_draws_65 : decode cX6_draws 65 = .ok (.invokevirtual 196, 3) := dk_182 0 196 (dk_at dksX6_draws_2 19 rfl rfl)
theorem dX6_draws_68 : decode cX6_draws 68 = .ok (.iconst 4, 1) := dk_7 (dk_at dksX6_draws_2 22 rfl rfl)
theorem dX6_draws_69 : decode cX6_draws 69 = .ok (.irem, 1) := dk_112 (dk_at dksX6_draws_2 23 rfl rfl)
theorem dX6_draws_70 : decode cX6_draws 70 = .ok (.iconst 1, 1) := dk_4 (dk_at dksX6_draws_3 0 rfl rfl)
theorem dX6_draws_71 : decode cX6_draws 71 = .ok (.iadd, 1) := dk_96 (dk_at dksX6_draws_3 1 rfl rfl)
theorem dX6_draws_72 : decode cX6_draws 72 = .ok (.iastore, 1) := dk_79 (dk_at dksX6_draws_3 2 rfl rfl)
theorem dX6_draws_73 : decode cX6_draws 73 = .ok (.aload_n 0, 1) := dk_42 (dk_at dksX6_draws_3 3 rfl rfl)
theorem dX6_draws_74 : decode cX6_draws 74 = .ok (.invokevirtual 196, 3) := dk_182 0 196 (dk_at dksX6_draws_3 4 rfl rfl)
theorem dX6_draws_77 : decode cX6_draws 77 = .ok (.iconst 4, 1) := dk_7 (dk_at dksX6_draws_3 7 rfl rfl)
theorem dX6_draws_78 : decode cX6_draws 78 = .ok (.irem, 1) := dk_112 (dk_at dksX6_draws_3 8 rfl rfl)
theorem dX6_draws_79 : decode cX6_draws 79 = .ok (.istore 5, 2) := dk_54 5 (dk_at dksX6_draws_3 9 rfl rfl)
theorem dX6_draws_81 : decode cX6_draws 81 = .ok (.aload_n 0, 1) := dk_42 (dk_at dksX6_draws_3 11 rfl rfl)
theorem dX6_draws_82 : decode cX6_draws 82 = .ok (.aload_n 0, 1) := dk_42 (dk_at dksX6_draws_3 12 rfl rfl)
theorem dX6_draws_83 : decode cX6_draws 83 = .ok (.getfield 28, 3) := dk_180 0 28 (dk_at dksX6_draws_3 13 rfl rfl)
theorem dX6_draws_86 : decode cX6_draws 86 = .ok (.invokevirtual 188, 3) := dk_182 0 188 (dk_at dksX6_draws_3 16 rfl rfl)
theorem dX6_draws_89 : decode cX6_draws 89 = .ok (.ifCond .eq 18, 3) := dk_153 0 18 (dk_at dksX6_draws_3 19 rfl rfl)
theorem dX6_draws_92 : decode cX6_draws 92 = .ok (.aload_n 0, 1) := dk_42 (dk_at dksX6_draws_3 22 rfl rfl)
theorem dX6_draws_93 : decode cX6_draws 93 = .ok (.iload 5, 2) := dk_21 5 (dk_at dksX6_draws_4 0 rfl rfl)
theorem dX6_draws_95 : decode cX6_draws 95 = .ok (.aload_n 0, 1) := dk_42 (dk_at dksX6_draws_4 2 rfl rfl)
theorem dX6_draws_96 : decode cX6_draws 96 = .ok (.getfield 28, 3) := dk_180 0 28 (dk_at dksX6_draws_4 3 rfl rfl)
theorem dX6_draws_99 : decode cX6_draws 99 = .ok (.invokevirtual 192, 3) := dk_182 0 192 (dk_at dksX6_draws_4 6 rfl rfl)
theorem dX6_draws_102 : decode cX6_draws 102 = .ok (.istore 6, 2) := dk_54 6 (dk_at dksX6_draws_4 9 rfl rfl)
theorem dX6_draws_104 : decode cX6_draws 104 = .ok (.iinc 2 1, 3) := dk_132 2 1 (dk_at dksX6_draws_4 11 rfl rfl)
theorem dX6_draws_107 : decode cX6_draws 107 = .ok (.iinc 3 1, 3) := dk_132 3 1 (dk_at dksX6_draws_4 14 rfl rfl)
theorem dX6_draws_110 : decode cX6_draws 110 = .ok (.goto (-90), 3) := dk_167 255 166 (dk_at dksX6_draws_4 17 rfl rfl)
theorem dX6_draws_113 : decode cX6_draws 113 = .ok (.iload_n 2, 1) := dk_28 (dk_at dksX6_draws_4 20 rfl rfl)
theorem dX6_draws_114 : decode cX6_draws 114 = .ok (.ireturn, 1) := dk_172 (dk_at dksX6_draws_4 21 rfl rfl)
abbrev cX6_draw : ByteArray := prog_20_method_50_code
def yX6_draw : MethodName := ⟨RX6, "draw", "()I"⟩
def dkwX6_draw_1 : List UInt8 := [46, 16, 8, 124, 172]
abbrev dktX6_draw_1 : List UInt8 := dkwX6_draw_1 ++ []
def dkwX6_draw_0 : List UInt8 := [42, 180, 0, 7, 8, 42, 180, 0, 7, 8, 46, 18, 195, 104, 17, 48, 57, 96, 79, 42, 180, 0, 7, 8]
abbrev dktX6_draw_0 : List UInt8 := dkwX6_draw_0 ++ dktX6_draw_1
theorem dksX6_draw_0 : cX6_draw.data.toList.drop 0 = dktX6_draw_0 := by decide +kernel
theorem dksX6_draw_1 : cX6_draw.data.toList.drop 24 = dktX6_draw_1 := dk_seg dksX6_draw_0 24 rfl rfl
theorem dX6_draw_0 : decode cX6_draw 0 = .ok (.aload_n 0, 1) := dk_42 (dk_at dksX6_draw_0 0 rfl rfl)
theorem dX6_draw_1 : decode cX6_draw 1 = .ok (.getfield 7, 3) := dk_180 0 7 (dk_at dksX6_draw_0 1 rfl rfl)
theorem dX6_draw_4 : decode cX6_draw 4 = .ok (.iconst 5, 1) := dk_8 (dk_at dksX6_draw_0 4 rfl rfl)
theorem dX6_draw_5 : decode cX6_draw 5 = .ok (.aload_n 0, 1) := dk_42 (dk_at dksX6_draw_0 5 rfl rfl)
theorem dX6_draw_6 : decode cX6_draw 6 = .ok (.getfield 7, 3) := dk_180 0 7 (dk_at dksX6_draw_0 6 rfl rfl)
theorem dX6_draw_9 : decode cX6_draw 9 = .ok (.iconst 5, 1) := dk_8 (dk_at dksX6_draw_0 9 rfl rfl)
theorem dX6_draw_10 : decode cX6_draw 10 = .ok (.iaload, 1) := dk_46 (dk_at dksX6_draw_0 10 rfl rfl)
theorem dX6_draw_11 : decode cX6_draw 11 = .ok (.ldc 195, 2) := dk_18 195 (dk_at dksX6_draw_0 11 rfl rfl)
theorem dX6_draw_13 : decode cX6_draw 13 = .ok (.imul, 1) := dk_104 (dk_at dksX6_draw_0 13 rfl rfl)
theorem dX6_draw_14 : decode cX6_draw 14 = .ok (.sipush 12345, 3) := dk_17 48 57 (dk_at dksX6_draw_0 14 rfl rfl)
theorem dX6_draw_17 : decode cX6_draw 17 = .ok (.iadd, 1) := dk_96 (dk_at dksX6_draw_0 17 rfl rfl)
theorem dX6_draw_18 : decode cX6_draw 18 = .ok (.iastore, 1) := dk_79 (dk_at dksX6_draw_0 18 rfl rfl)
theorem dX6_draw_19 : decode cX6_draw 19 = .ok (.aload_n 0, 1) := dk_42 (dk_at dksX6_draw_0 19 rfl rfl)
theorem dX6_draw_20 : decode cX6_draw 20 = .ok (.getfield 7, 3) := dk_180 0 7 (dk_at dksX6_draw_0 20 rfl rfl)
theorem dX6_draw_23 : decode cX6_draw 23 = .ok (.iconst 5, 1) := dk_8 (dk_at dksX6_draw_0 23 rfl rfl)
theorem dX6_draw_24 : decode cX6_draw 24 = .ok (.iaload, 1) := dk_46 (dk_at dksX6_draw_1 0 rfl rfl)
theorem dX6_draw_25 : decode cX6_draw 25 = .ok (.bipush 8, 2) := dk_16 8 (dk_at dksX6_draw_1 1 rfl rfl)
theorem dX6_draw_27 : decode cX6_draw 27 = .ok (.iushr, 1) := dk_124 (dk_at dksX6_draw_1 3 rfl rfl)
theorem dX6_draw_28 : decode cX6_draw 28 = .ok (.ireturn, 1) := dk_172 (dk_at dksX6_draw_1 4 rfl rfl)
abbrev cX6_seed : ByteArray := prog_20_method_52_code
def yX6_seed : MethodName := ⟨RX6, "seed", "(I)I"⟩
def dkwX6_seed_0 : List UInt8 := [42, 8, 27, 182, 0, 155, 172]
abbrev dktX6_seed_0 : List UInt8 := dkwX6_seed_0 ++ []
theorem dksX6_seed_0 : cX6_seed.data.toList.drop 0 = dktX6_seed_0 := by decide +kernel
theorem dX6_seed_0 : decode cX6_seed 0 = .ok (.aload_n 0, 1) := dk_42 (dk_at dksX6_seed_0 0 rfl rfl)
theorem dX6_seed_1 : decode cX6_seed 1 = .ok (.iconst 5, 1) := dk_8 (dk_at dksX6_seed_0 1 rfl rfl)
theorem dX6_seed_2 : decode cX6_seed 2 = .ok (.iload_n 1, 1) := dk_27 (dk_at dksX6_seed_0 2 rfl rfl)
theorem dX6_seed_3 : decode cX6_seed 3 = .ok (.invokevirtual 155, 3) := dk_182 0 155 (dk_at dksX6_seed_0 3 rfl rfl)
theorem dX6_seed_6 : decode cX6_seed 6 = .ok (.ireturn, 1) := dk_172 (dk_at dksX6_seed_0 6 rfl rfl)
abbrev cX6_more : ByteArray := prog_20_method_55_code
def yX6_more : MethodName := ⟨RX6, "more", "(IIII)I"⟩
def dkwX6_more_4 : List UInt8 := [180, 0, 28, 21, 4, 46, 100, 172]
abbrev dktX6_more_4 : List UInt8 := dkwX6_more_4 ++ []
def dkwX6_more_3 : List UInt8 := [160, 0, 15, 42, 28, 42, 180, 0, 37, 182, 0, 183, 167, 0, 18, 42, 180, 0, 37, 21, 4, 46, 42]
abbrev dktX6_more_3 : List UInt8 := dkwX6_more_3 ++ dktX6_more_4
def dkwX6_more_2 : List UInt8 := [42, 28, 29, 182, 0, 209, 21, 4, 16, 254, 160, 0, 10, 42, 180, 0, 202, 167, 0, 36, 21, 4, 2]
abbrev dktX6_more_2 : List UInt8 := dkwX6_more_2 ++ dktX6_more_3
def dkwX6_more_1 : List UInt8 := [4, 167, 0, 4, 3, 16, 30, 182, 0, 176, 54, 5, 21, 5, 158, 0, 10, 42, 21, 5, 182, 0, 63, 172]
abbrev dktX6_more_1 : List UInt8 := dkwX6_more_1 ++ dktX6_more_2
def dkwX6_more_0 : List UInt8 := [42, 27, 28, 29, 3, 7, 184, 0, 59, 153, 0, 19, 21, 4, 16, 254, 16, 7, 184, 0, 59, 153, 0, 7]
abbrev dktX6_more_0 : List UInt8 := dkwX6_more_0 ++ dktX6_more_1
theorem dksX6_more_0 : cX6_more.data.toList.drop 0 = dktX6_more_0 := by decide +kernel
theorem dksX6_more_1 : cX6_more.data.toList.drop 24 = dktX6_more_1 := dk_seg dksX6_more_0 24 rfl rfl
theorem dksX6_more_2 : cX6_more.data.toList.drop 48 = dktX6_more_2 := dk_seg dksX6_more_1 24 rfl rfl
theorem dksX6_more_3 : cX6_more.data.toList.drop 71 = dktX6_more_3 := dk_seg dksX6_more_2 23 rfl rfl
theorem dksX6_more_4 : cX6_more.data.toList.drop 94 = dktX6_more_4 := dk_seg dksX6_more_3 23 rfl rfl
theorem dX6_more_0 : decode cX6_more 0 = .ok (.aload_n 0, 1) := dk_42 (dk_at dksX6_more_0 0 rfl rfl)
theorem dX6_more_1 : decode cX6_more 1 = .ok (.iload_n 1, 1) := dk_27 (dk_at dksX6_more_0 1 rfl rfl)
theorem dX6_more_2 : decode cX6_more 2 = .ok (.iload_n 2, 1) := dk_28 (dk_at dksX6_more_0 2 rfl rfl)
theorem dX6_more_3 : decode cX6_more 3 = .ok (.iload_n 3, 1) := dk_29 (dk_at dksX6_more_0 3 rfl rfl)
theorem dX6_more_4 : decode cX6_more 4 = .ok (.iconst 0, 1) := dk_3 (dk_at dksX6_more_0 4 rfl rfl)
theorem dX6_more_5 : decode cX6_more 5 = .ok (.iconst 4, 1) := dk_7 (dk_at dksX6_more_0 5 rfl rfl)
theorem dX6_more_6 : decode cX6_more 6 = .ok (.invokestatic 59, 3) := dk_184 0 59 (dk_at dksX6_more_0 6 rfl rfl)
theorem dX6_more_9 : decode cX6_more 9 = .ok (.ifCond .eq 19, 3) := dk_153 0 19 (dk_at dksX6_more_0 9 rfl rfl)
theorem dX6_more_12 : decode cX6_more 12 = .ok (.iload 4, 2) := dk_21 4 (dk_at dksX6_more_0 12 rfl rfl)
theorem dX6_more_14 : decode cX6_more 14 = .ok (.bipush (-2), 2) := dk_16 254 (dk_at dksX6_more_0 14 rfl rfl)
theorem dX6_more_16 : decode cX6_more 16 = .ok (.bipush 7, 2) := dk_16 7 (dk_at dksX6_more_0 16 rfl rfl)
theorem dX6_more_18 : decode cX6_more 18 = .ok (.invokestatic 59, 3) := dk_184 0 59 (dk_at dksX6_more_0 18 rfl rfl)
theorem dX6_more_21 : decode cX6_more 21 = .ok (.ifCond .eq 7, 3) := dk_153 0 7 (dk_at dksX6_more_0 21 rfl rfl)
theorem dX6_more_24 : decode cX6_more 24 = .ok (.iconst 1, 1) := dk_4 (dk_at dksX6_more_1 0 rfl rfl)
theorem dX6_more_25 : decode cX6_more 25 = .ok (.goto 4, 3) := dk_167 0 4 (dk_at dksX6_more_1 1 rfl rfl)
theorem dX6_more_28 : decode cX6_more 28 = .ok (.iconst 0, 1) := dk_3 (dk_at dksX6_more_1 4 rfl rfl)
theorem dX6_more_29 : decode cX6_more 29 = .ok (.bipush 30, 2) := dk_16 30 (dk_at dksX6_more_1 5 rfl rfl)
theorem dX6_more_31 : decode cX6_more 31 = .ok (.invokevirtual 176, 3) := dk_182 0 176 (dk_at dksX6_more_1 7 rfl rfl)
theorem dX6_more_34 : decode cX6_more 34 = .ok (.istore 5, 2) := dk_54 5 (dk_at dksX6_more_1 10 rfl rfl)
theorem dX6_more_36 : decode cX6_more 36 = .ok (.iload 5, 2) := dk_21 5 (dk_at dksX6_more_1 12 rfl rfl)
theorem dX6_more_38 : decode cX6_more 38 = .ok (.ifCond .le 10, 3) := dk_158 0 10 (dk_at dksX6_more_1 14 rfl rfl)
theorem dX6_more_41 : decode cX6_more 41 = .ok (.aload_n 0, 1) := dk_42 (dk_at dksX6_more_1 17 rfl rfl)
theorem dX6_more_42 : decode cX6_more 42 = .ok (.iload 5, 2) := dk_21 5 (dk_at dksX6_more_1 18 rfl rfl)
theorem dX6_more_44 : decode cX6_more 44 = .ok (.invokevirtual 63, 3) := dk_182 0 63 (dk_at dksX6_more_1 20 rfl rfl)
theorem dX6_more_47 : decode cX6_more 47 = .ok (.ireturn, 1) := dk_172 (dk_at dksX6_more_1 23 rfl rfl)
theorem dX6_more_48 : decode cX6_more 48 = .ok (.aload_n 0, 1) := dk_42 (dk_at dksX6_more_2 0 rfl rfl)
theorem dX6_more_49 : decode cX6_more 49 = .ok (.iload_n 2, 1) := dk_28 (dk_at dksX6_more_2 1 rfl rfl)
theorem dX6_more_50 : decode cX6_more 50 = .ok (.iload_n 3, 1) := dk_29 (dk_at dksX6_more_2 2 rfl rfl)
theorem dX6_more_51 : decode cX6_more 51 = .ok (.invokevirtual 209, 3) := dk_182 0 209 (dk_at dksX6_more_2 3 rfl rfl)
theorem dX6_more_54 : decode cX6_more 54 = .ok (.iload 4, 2) := dk_21 4 (dk_at dksX6_more_2 6 rfl rfl)
theorem dX6_more_56 : decode cX6_more 56 = .ok (.bipush (-2), 2) := dk_16 254 (dk_at dksX6_more_2 8 rfl rfl)
theorem dX6_more_58 : decode cX6_more 58 = .ok (.if_icmp .ne 10, 3) := dk_160 0 10 (dk_at dksX6_more_2 10 rfl rfl)
theorem dX6_more_61 : decode cX6_more 61 = .ok (.aload_n 0, 1) := dk_42 (dk_at dksX6_more_2 13 rfl rfl)
theorem dX6_more_62 : decode cX6_more 62 = .ok (.getfield 202, 3) := dk_180 0 202 (dk_at dksX6_more_2 14 rfl rfl)
theorem dX6_more_65 : decode cX6_more 65 = .ok (.goto 36, 3) := dk_167 0 36 (dk_at dksX6_more_2 17 rfl rfl)
theorem dX6_more_68 : decode cX6_more 68 = .ok (.iload 4, 2) := dk_21 4 (dk_at dksX6_more_2 20 rfl rfl)
theorem dX6_more_70 : decode cX6_more 70 = .ok (.iconst (-1), 1) := dk_2 (dk_at dksX6_more_2 22 rfl rfl)
theorem dX6_more_71 : decode cX6_more 71 = .ok (.if_icmp .ne 15, 3) := dk_160 0 15 (dk_at dksX6_more_3 0 rfl rfl)
theorem dX6_more_74 : decode cX6_more 74 = .ok (.aload_n 0, 1) := dk_42 (dk_at dksX6_more_3 3 rfl rfl)
theorem dX6_more_75 : decode cX6_more 75 = .ok (.iload_n 2, 1) := dk_28 (dk_at dksX6_more_3 4 rfl rfl)
theorem dX6_more_76 : decode cX6_more 76 = .ok (.aload_n 0, 1) := dk_42 (dk_at dksX6_more_3 5 rfl rfl)
theorem dX6_more_77 : decode cX6_more 77 = .ok (.getfield 37, 3) := dk_180 0 37 (dk_at dksX6_more_3 6 rfl rfl)
theorem dX6_more_80 : decode cX6_more 80 = .ok (.invokevirtual 183, 3) := dk_182 0 183 (dk_at dksX6_more_3 9 rfl rfl)
theorem dX6_more_83 : decode cX6_more 83 = .ok (.goto 18, 3) := dk_167 0 18 (dk_at dksX6_more_3 12 rfl rfl)
theorem dX6_more_86 : decode cX6_more 86 = .ok (.aload_n 0, 1) := dk_42 (dk_at dksX6_more_3 15 rfl rfl)
theorem dX6_more_87 : decode cX6_more 87 = .ok (.getfield 37, 3) := dk_180 0 37 (dk_at dksX6_more_3 16 rfl rfl)
theorem dX6_more_90 : decode cX6_more 90 = .ok (.iload 4, 2) := dk_21 4 (dk_at dksX6_more_3 19 rfl rfl)
theorem dX6_more_92 : decode cX6_more 92 = .ok (.iaload, 1) := dk_46 (dk_at dksX6_more_3 21 rfl rfl)
theorem dX6_more_93 : decode cX6_more 93 = .ok (.aload_n 0, 1) := dk_42 (dk_at dksX6_more_3 22 rfl rfl)
theorem dX6_more_94 : decode cX6_more 94 = .ok (.getfield 28, 3) := dk_180 0 28 (dk_at dksX6_more_4 0 rfl rfl)
theorem dX6_more_97 : decode cX6_more 97 = .ok (.iload 4, 2) := dk_21 4 (dk_at dksX6_more_4 3 rfl rfl)
theorem dX6_more_99 : decode cX6_more 99 = .ok (.iaload, 1) := dk_46 (dk_at dksX6_more_4 5 rfl rfl)
theorem dX6_more_100 : decode cX6_more 100 = .ok (.isub, 1) := dk_100 (dk_at dksX6_more_4 6 rfl rfl)
theorem dX6_more_101 : decode cX6_more 101 = .ok (.ireturn, 1) := dk_172 (dk_at dksX6_more_4 7 rfl rfl)
abbrev cX6_seeks : ByteArray := prog_20_method_54_code
def yX6_seeks : MethodName := ⟨RX6, "seeks", "(II)V"⟩
def dkwX6_seeks_2 : List UInt8 := [27, 3, 28, 29, 162, 0, 7, 28, 167, 0, 4, 29, 3, 182, 0, 205, 177]
abbrev dktX6_seeks_2 : List UInt8 := dkwX6_seeks_2 ++ []
def dkwX6_seeks_1 : List UInt8 := [180, 0, 40, 21, 4, 42, 21, 4, 182, 0, 158, 79, 132, 4, 1, 167, 255, 233, 42, 2, 181, 0, 199, 42]
abbrev dktX6_seeks_1 : List UInt8 := dkwX6_seeks_1 ++ dktX6_seeks_2
def dkwX6_seeks_0 : List UInt8 := [16, 30, 42, 180, 0, 28, 184, 0, 146, 100, 62, 3, 54, 4, 21, 4, 16, 8, 162, 0, 22, 42]
abbrev dktX6_seeks_0 : List UInt8 := dkwX6_seeks_0 ++ dktX6_seeks_1
theorem dksX6_seeks_0 : cX6_seeks.data.toList.drop 0 = dktX6_seeks_0 := by decide +kernel
theorem dksX6_seeks_1 : cX6_seeks.data.toList.drop 22 = dktX6_seeks_1 := dk_seg dksX6_seeks_0 22 rfl rfl
theorem dksX6_seeks_2 : cX6_seeks.data.toList.drop 46 = dktX6_seeks_2 := dk_seg dksX6_seeks_1 24 rfl rfl
theorem dX6_seeks_0 : decode cX6_seeks 0 = .ok (.bipush 30, 2) := dk_16 30 (dk_at dksX6_seeks_0 0 rfl rfl)
theorem dX6_seeks_2 : decode cX6_seeks 2 = .ok (.aload_n 0, 1) := dk_42 (dk_at dksX6_seeks_0 2 rfl rfl)
theorem dX6_seeks_3 : decode cX6_seeks 3 = .ok (.getfield 28, 3) := dk_180 0 28 (dk_at dksX6_seeks_0 3 rfl rfl)
theorem dX6_seeks_6 : decode cX6_seeks 6 = .ok (.invokestatic 146, 3) := dk_184 0 146 (dk_at dksX6_seeks_0 6 rfl rfl)
theorem dX6_seeks_9 : decode cX6_seeks 9 = .ok (.isub, 1) := dk_100 (dk_at dksX6_seeks_0 9 rfl rfl)
theorem dX6_seeks_10 : decode cX6_seeks 10 = .ok (.istore_n 3, 1) := dk_62 (dk_at dksX6_seeks_0 10 rfl rfl)
theorem dX6_seeks_11 : decode cX6_seeks 11 = .ok (.iconst 0, 1) := dk_3 (dk_at dksX6_seeks_0 11 rfl rfl)
theorem dX6_seeks_12 : decode cX6_seeks 12 = .ok (.istore 4, 2) := dk_54 4 (dk_at dksX6_seeks_0 12 rfl rfl)
theorem dX6_seeks_14 : decode cX6_seeks 14 = .ok (.iload 4, 2) := dk_21 4 (dk_at dksX6_seeks_0 14 rfl rfl)
theorem dX6_seeks_16 : decode cX6_seeks 16 = .ok (.bipush 8, 2) := dk_16 8 (dk_at dksX6_seeks_0 16 rfl rfl)
theorem dX6_seeks_18 : decode cX6_seeks 18 = .ok (.if_icmp .ge 22, 3) := dk_162 0 22 (dk_at dksX6_seeks_0 18 rfl rfl)
theorem dX6_seeks_21 : decode cX6_seeks 21 = .ok (.aload_n 0, 1) := dk_42 (dk_at dksX6_seeks_0 21 rfl rfl)
theorem dX6_seeks_22 : decode cX6_seeks 22 = .ok (.getfield 40, 3) := dk_180 0 40 (dk_at dksX6_seeks_1 0 rfl rfl)
theorem dX6_seeks_25 : decode cX6_seeks 25 = .ok (.iload 4, 2) := dk_21 4 (dk_at dksX6_seeks_1 3 rfl rfl)
theorem dX6_seeks_27 : decode cX6_seeks 27 = .ok (.aload_n 0, 1) := dk_42 (dk_at dksX6_seeks_1 5 rfl rfl)
theorem dX6_seeks_28 : decode cX6_seeks 28 = .ok (.iload 4, 2) := dk_21 4 (dk_at dksX6_seeks_1 6 rfl rfl)
theorem dX6_seeks_30 : decode cX6_seeks 30 = .ok (.invokevirtual 158, 3) := dk_182 0 158 (dk_at dksX6_seeks_1 8 rfl rfl)
theorem dX6_seeks_33 : decode cX6_seeks 33 = .ok (.iastore, 1) := dk_79 (dk_at dksX6_seeks_1 11 rfl rfl)
theorem dX6_seeks_34 : decode cX6_seeks 34 = .ok (.iinc 4 1, 3) := dk_132 4 1 (dk_at dksX6_seeks_1 12 rfl rfl)
theorem dX6_seeks_37 : decode cX6_seeks 37 = .ok (.goto (-23), 3) := dk_167 255 233 (dk_at dksX6_seeks_1 15 rfl rfl)
theorem dX6_seeks_40 : decode cX6_seeks 40 = .ok (.aload_n 0, 1) := dk_42 (dk_at dksX6_seeks_1 18 rfl rfl)
theorem dX6_seeks_41 : decode cX6_seeks 41 = .ok (.iconst (-1), 1) := dk_2 (dk_at dksX6_seeks_1 19 rfl rfl)
theorem dX6_seeks_42 : decode cX6_seeks 42 = .ok (.putfield 199, 3) := dk_181 0 199 (dk_at dksX6_seeks_1 20 rfl rfl)
theorem dX6_seeks_45 : decode cX6_seeks 45 = .ok (.aload_n 0, 1) := dk_42 (dk_at dksX6_seeks_1 23 rfl rfl)
theorem dX6_seeks_46 : decode cX6_seeks 46 = .ok (.iload_n 1, 1) := dk_27 (dk_at dksX6_seeks_2 0 rfl rfl)
theorem dX6_seeks_47 : decode cX6_seeks 47 = .ok (.iconst 0, 1) := dk_3 (dk_at dksX6_seeks_2 1 rfl rfl)
theorem dX6_seeks_48 : decode cX6_seeks 48 = .ok (.iload_n 2, 1) := dk_28 (dk_at dksX6_seeks_2 2 rfl rfl)
theorem dX6_seeks_49 : decode cX6_seeks 49 = .ok (.iload_n 3, 1) := dk_29 (dk_at dksX6_seeks_2 3 rfl rfl)
theorem dX6_seeks_50 : decode cX6_seeks 50 = .ok (.if_icmp .ge 7, 3) := dk_162 0 7 (dk_at dksX6_seeks_2 4 rfl rfl)
theorem dX6_seeks_53 : decode cX6_seeks 53 = .ok (.iload_n 2, 1) := dk_28 (dk_at dksX6_seeks_2 7 rfl rfl)
theorem dX6_seeks_54 : decode cX6_seeks 54 = .ok (.goto 4, 3) := dk_167 0 4 (dk_at dksX6_seeks_2 8 rfl rfl)
theorem dX6_seeks_57 : decode cX6_seeks 57 = .ok (.iload_n 3, 1) := dk_29 (dk_at dksX6_seeks_2 11 rfl rfl)
theorem dX6_seeks_58 : decode cX6_seeks 58 = .ok (.iconst 0, 1) := dk_3 (dk_at dksX6_seeks_2 12 rfl rfl)
theorem dX6_seeks_59 : decode cX6_seeks 59 = .ok (.invokevirtual 205, 3) := dk_182 0 205 (dk_at dksX6_seeks_2 13 rfl rfl)
theorem dX6_seeks_62 : decode cX6_seeks 62 = .ok (.return_, 1) := dk_177 (dk_at dksX6_seeks_2 16 rfl rfl)
abbrev cX6_tries : ByteArray := prog_20_method_53_code
def yX6_tries : MethodName := ⟨RX6, "tries", "(IIII)V"⟩
def dkwX6_tries_10 : List UInt8 := [42, 180, 0, 34, 28, 42, 180, 0, 28, 28, 46, 79, 177]
abbrev dktX6_tries_10 : List UInt8 := dkwX6_tries_10 ++ []
def dkwX6_tries_9 : List UInt8 := [79, 42, 27, 28, 4, 96, 29, 21, 5, 100, 21, 4, 21, 5, 96, 182, 0, 205, 132, 5, 1, 167, 255, 201]
abbrev dktX6_tries_9 : List UInt8 := dkwX6_tries_9 ++ dktX6_tries_10
def dkwX6_tries_8 : List UInt8 := [28, 46, 21, 5, 96, 16, 9, 163, 0, 41, 42, 180, 0, 34, 28, 42, 180, 0, 28, 28, 46, 21, 5, 96]
abbrev dktX6_tries_8 : List UInt8 := dkwX6_tries_8 ++ dktX6_tries_9
def dkwX6_tries_7 : List UInt8 := [167, 0, 7, 42, 180, 0, 199, 181, 0, 199, 177, 3, 54, 5, 21, 5, 29, 163, 0, 55, 42, 180, 0, 28]
abbrev dktX6_tries_7 : List UInt8 := dkwX6_tries_7 ++ dktX6_tries_8
def dkwX6_tries_6 : List UInt8 := [153, 0, 8, 21, 5, 167, 0, 7, 42, 180, 0, 202, 181, 0, 202, 42, 21, 6, 153, 0, 8, 21, 4]
abbrev dktX6_tries_6 : List UInt8 := dkwX6_tries_6 ++ dktX6_tries_7
def dkwX6_tries_5 : List UInt8 := [180, 0, 37, 21, 7, 42, 180, 0, 34, 21, 7, 46, 79, 132, 7, 1, 167, 255, 227, 42, 21, 6]
abbrev dktX6_tries_5 : List UInt8 := dkwX6_tries_5 ++ dktX6_tries_6
def dkwX6_tries_4 : List UInt8 := [4, 167, 0, 4, 3, 54, 6, 3, 54, 7, 21, 7, 16, 8, 162, 0, 28, 21, 6, 153, 0, 23, 42]
abbrev dktX6_tries_4 : List UInt8 := dkwX6_tries_4 ++ dktX6_tries_5
def dkwX6_tries_3 : List UInt8 := [180, 0, 202, 161, 0, 21, 21, 5, 42, 180, 0, 202, 160, 0, 16, 21, 4, 42, 180, 0, 199, 162, 0, 7]
abbrev dktX6_tries_3 : List UInt8 := dkwX6_tries_3 ++ dktX6_tries_4
def dkwX6_tries_2 : List UInt8 := [21, 6, 46, 104, 100, 54, 5, 132, 6, 1, 167, 255, 218, 42, 180, 0, 199, 2, 159, 0, 30, 21, 5, 42]
abbrev dktX6_tries_2 : List UInt8 := dkwX6_tries_2 ++ dktX6_tries_3
def dkwX6_tries_1 : List UInt8 := [162, 0, 37, 21, 5, 42, 180, 0, 34, 21, 6, 46, 42, 180, 0, 28, 21, 6, 46, 100, 42, 180, 0, 40]
abbrev dktX6_tries_1 : List UInt8 := dkwX6_tries_1 ++ dktX6_tries_2
def dkwX6_tries_0 : List UInt8 := [28, 16, 8, 160, 0, 172, 42, 27, 42, 180, 0, 34, 182, 0, 183, 54, 5, 3, 54, 6, 21, 6, 16, 8]
abbrev dktX6_tries_0 : List UInt8 := dkwX6_tries_0 ++ dktX6_tries_1
theorem dksX6_tries_0 : cX6_tries.data.toList.drop 0 = dktX6_tries_0 := by decide +kernel
theorem dksX6_tries_1 : cX6_tries.data.toList.drop 24 = dktX6_tries_1 := dk_seg dksX6_tries_0 24 rfl rfl
theorem dksX6_tries_2 : cX6_tries.data.toList.drop 48 = dktX6_tries_2 := dk_seg dksX6_tries_1 24 rfl rfl
theorem dksX6_tries_3 : cX6_tries.data.toList.drop 72 = dktX6_tries_3 := dk_seg dksX6_tries_2 24 rfl rfl
theorem dksX6_tries_4 : cX6_tries.data.toList.drop 96 = dktX6_tries_4 := dk_seg dksX6_tries_3 24 rfl rfl
theorem dksX6_tries_5 : cX6_tries.data.toList.drop 119 = dktX6_tries_5 := dk_seg dksX6_tries_4 23 rfl rfl
theorem dksX6_tries_6 : cX6_tries.data.toList.drop 141 = dktX6_tries_6 := dk_seg dksX6_tries_5 22 rfl rfl
theorem dksX6_tries_7 : cX6_tries.data.toList.drop 164 = dktX6_tries_7 := dk_seg dksX6_tries_6 23 rfl rfl
theorem dksX6_tries_8 : cX6_tries.data.toList.drop 188 = dktX6_tries_8 := dk_seg dksX6_tries_7 24 rfl rfl
theorem dksX6_tries_9 : cX6_tries.data.toList.drop 212 = dktX6_tries_9 := dk_seg dksX6_tries_8 24 rfl rfl
theorem dksX6_tries_10 : cX6_tries.data.toList.drop 236 = dktX6_tries_10 := dk_seg dksX6_tries_9 24 rfl rfl
theorem dX6_tries_0 : decode cX6_tries 0 = .ok (.iload_n 2, 1) := dk_28 (dk_at dksX6_tries_0 0 rfl rfl)
theorem dX6_tries_1 : decode cX6_tries 1 = .ok (.bipush 8, 2) := dk_16 8 (dk_at dksX6_tries_0 1 rfl rfl)
theorem dX6_tries_3 : decode cX6_tries 3 = .ok (.if_icmp .ne 172, 3) := dk_160 0 172 (dk_at dksX6_tries_0 3 rfl rfl)
theorem dX6_tries_6 : decode cX6_tries 6 = .ok (.aload_n 0, 1) := dk_42 (dk_at dksX6_tries_0 6 rfl rfl)
theorem dX6_tries_7 : decode cX6_tries 7 = .ok (.iload_n 1, 1) := dk_27 (dk_at dksX6_tries_0 7 rfl rfl)
theorem dX6_tries_8 : decode cX6_tries 8 = .ok (.aload_n 0, 1) := dk_42 (dk_at dksX6_tries_0 8 rfl rfl)
theorem dX6_tries_9 : decode cX6_tries 9 = .ok (.getfield 34, 3) := dk_180 0 34 (dk_at dksX6_tries_0 9 rfl rfl)
theorem dX6_tries_12 : decode cX6_tries 12 = .ok (.invokevirtual 183, 3) := dk_182 0 183 (dk_at dksX6_tries_0 12 rfl rfl)
theorem dX6_tries_15 : decode cX6_tries 15 = .ok (.istore 5, 2) := dk_54 5 (dk_at dksX6_tries_0 15 rfl rfl)
theorem dX6_tries_17 : decode cX6_tries 17 = .ok (.iconst 0, 1) := dk_3 (dk_at dksX6_tries_0 17 rfl rfl)
theorem dX6_tries_18 : decode cX6_tries 18 = .ok (.istore 6, 2) := dk_54 6 (dk_at dksX6_tries_0 18 rfl rfl)
theorem dX6_tries_20 : decode cX6_tries 20 = .ok (.iload 6, 2) := dk_21 6 (dk_at dksX6_tries_0 20 rfl rfl)
theorem dX6_tries_22 : decode cX6_tries 22 = .ok (.bipush 8, 2) := dk_16 8 (dk_at dksX6_tries_0 22 rfl rfl)
theorem dX6_tries_24 : decode cX6_tries 24 = .ok (.if_icmp .ge 37, 3) := dk_162 0 37 (dk_at dksX6_tries_1 0 rfl rfl)
theorem dX6_tries_27 : decode cX6_tries 27 = .ok (.iload 5, 2) := dk_21 5 (dk_at dksX6_tries_1 3 rfl rfl)
theorem dX6_tries_29 : decode cX6_tries 29 = .ok (.aload_n 0, 1) := dk_42 (dk_at dksX6_tries_1 5 rfl rfl)
theorem dX6_tries_30 : decode cX6_tries 30 = .ok (.getfield 34, 3) := dk_180 0 34 (dk_at dksX6_tries_1 6 rfl rfl)
theorem dX6_tries_33 : decode cX6_tries 33 = .ok (.iload 6, 2) := dk_21 6 (dk_at dksX6_tries_1 9 rfl rfl)
theorem dX6_tries_35 : decode cX6_tries 35 = .ok (.iaload, 1) := dk_46 (dk_at dksX6_tries_1 11 rfl rfl)
theorem dX6_tries_36 : decode cX6_tries 36 = .ok (.aload_n 0, 1) := dk_42 (dk_at dksX6_tries_1 12 rfl rfl)
theorem dX6_tries_37 : decode cX6_tries 37 = .ok (.getfield 28, 3) := dk_180 0 28 (dk_at dksX6_tries_1 13 rfl rfl)
theorem dX6_tries_40 : decode cX6_tries 40 = .ok (.iload 6, 2) := dk_21 6 (dk_at dksX6_tries_1 16 rfl rfl)
theorem dX6_tries_42 : decode cX6_tries 42 = .ok (.iaload, 1) := dk_46 (dk_at dksX6_tries_1 18 rfl rfl)
theorem dX6_tries_43 : decode cX6_tries 43 = .ok (.isub, 1) := dk_100 (dk_at dksX6_tries_1 19 rfl rfl)
theorem dX6_tries_44 : decode cX6_tries 44 = .ok (.aload_n 0, 1) := dk_42 (dk_at dksX6_tries_1 20 rfl rfl)
theorem dX6_tries_45 : decode cX6_tries 45 = .ok (.getfield 40, 3) := dk_180 0 40 (dk_at dksX6_tries_1 21 rfl rfl)
theorem dX6_tries_48 : decode cX6_tries 48 = .ok (.iload 6, 2) := dk_21 6 (dk_at dksX6_tries_2 0 rfl rfl)
theorem dX6_tries_50 : decode cX6_tries 50 = .ok (.iaload, 1) := dk_46 (dk_at dksX6_tries_2 2 rfl rfl)
theorem dX6_tries_51 : decode cX6_tries 51 = .ok (.imul, 1) := dk_104 (dk_at dksX6_tries_2 3 rfl rfl)
theorem dX6_tries_52 : decode cX6_tries 52 = .ok (.isub, 1) := dk_100 (dk_at dksX6_tries_2 4 rfl rfl)
theorem dX6_tries_53 : decode cX6_tries 53 = .ok (.istore 5, 2) := dk_54 5 (dk_at dksX6_tries_2 5 rfl rfl)
theorem dX6_tries_55 : decode cX6_tries 55 = .ok (.iinc 6 1, 3) := dk_132 6 1 (dk_at dksX6_tries_2 7 rfl rfl)
theorem dX6_tries_58 : decode cX6_tries 58 = .ok (.goto (-38), 3) := dk_167 255 218 (dk_at dksX6_tries_2 10 rfl rfl)
theorem dX6_tries_61 : decode cX6_tries 61 = .ok (.aload_n 0, 1) := dk_42 (dk_at dksX6_tries_2 13 rfl rfl)
theorem dX6_tries_62 : decode cX6_tries 62 = .ok (.getfield 199, 3) := dk_180 0 199 (dk_at dksX6_tries_2 14 rfl rfl)
theorem dX6_tries_65 : decode cX6_tries 65 = .ok (.iconst (-1), 1) := dk_2 (dk_at dksX6_tries_2 17 rfl rfl)
theorem dX6_tries_66 : decode cX6_tries 66 = .ok (.if_icmp .eq 30, 3) := dk_159 0 30 (dk_at dksX6_tries_2 18 rfl rfl)
theorem dX6_tries_69 : decode cX6_tries 69 = .ok (.iload 5, 2) := dk_21 5 (dk_at dksX6_tries_2 21 rfl rfl)
theorem dX6_tries_71 : decode cX6_tries 71 = .ok (.aload_n 0, 1) := dk_42 (dk_at dksX6_tries_2 23 rfl rfl)
theorem dX6_tries_72 : decode cX6_tries 72 = .ok (.getfield 202, 3) := dk_180 0 202 (dk_at dksX6_tries_3 0 rfl rfl)
theorem dX6_tries_75 : decode cX6_tries 75 = .ok (.if_icmp .lt 21, 3) := dk_161 0 21 (dk_at dksX6_tries_3 3 rfl rfl)
theorem dX6_tries_78 : decode cX6_tries 78 = .ok (.iload 5, 2) := dk_21 5 (dk_at dksX6_tries_3 6 rfl rfl)
theorem dX6_tries_80 : decode cX6_tries 80 = .ok (.aload_n 0, 1) := dk_42 (dk_at dksX6_tries_3 8 rfl rfl)
theorem dX6_tries_81 : decode cX6_tries 81 = .ok (.getfield 202, 3) := dk_180 0 202 (dk_at dksX6_tries_3 9 rfl rfl)
theorem dX6_tries_84 : decode cX6_tries 84 = .ok (.if_icmp .ne 16, 3) := dk_160 0 16 (dk_at dksX6_tries_3 12 rfl rfl)
theorem dX6_tries_87 : decode cX6_tries 87 = .ok (.iload 4, 2) := dk_21 4 (dk_at dksX6_tries_3 15 rfl rfl)
theorem dX6_tries_89 : decode cX6_tries 89 = .ok (.aload_n 0, 1) := dk_42 (dk_at dksX6_tries_3 17 rfl rfl)
theorem dX6_tries_90 : decode cX6_tries 90 = .ok (.getfield 199, 3) := dk_180 0 199 (dk_at dksX6_tries_3 18 rfl rfl)
theorem dX6_tries_93 : decode cX6_tries 93 = .ok (.if_icmp .ge 7, 3) := dk_162 0 7 (dk_at dksX6_tries_3 21 rfl rfl)
theorem dX6_tries_96 : decode cX6_tries 96 = .ok (.iconst 1, 1) := dk_4 (dk_at dksX6_tries_4 0 rfl rfl)
theorem dX6_tries_97 : decode cX6_tries 97 = .ok (.goto 4, 3) := dk_167 0 4 (dk_at dksX6_tries_4 1 rfl rfl)
theorem dX6_tries_100 : decode cX6_tries 100 = .ok (.iconst 0, 1) := dk_3 (dk_at dksX6_tries_4 4 rfl rfl)
theorem dX6_tries_101 : decode cX6_tries 101 = .ok (.istore 6, 2) := dk_54 6 (dk_at dksX6_tries_4 5 rfl rfl)
theorem dX6_tries_103 : decode cX6_tries 103 = .ok (.iconst 0, 1) := dk_3 (dk_at dksX6_tries_4 7 rfl rfl)
theorem dX6_tries_104 : decode cX6_tries 104 = .ok (.istore 7, 2) := dk_54 7 (dk_at dksX6_tries_4 8 rfl rfl)
theorem dX6_tries_106 : decode cX6_tries 106 = .ok (.iload 7, 2) := dk_21 7 (dk_at dksX6_tries_4 10 rfl rfl)
theorem dX6_tries_108 : decode cX6_tries 108 = .ok (.bipush 8, 2) := dk_16 8 (dk_at dksX6_tries_4 12 rfl rfl)
theorem dX6_tries_110 : decode cX6_tries 110 = .ok (.if_icmp .ge 28, 3) := dk_162 0 28 (dk_at dksX6_tries_4 14 rfl rfl)
theorem dX6_tries_113 : decode cX6_tries 113 = .ok (.iload 6, 2) := dk_21 6 (dk_at dksX6_tries_4 17 rfl rfl)
theorem dX6_tries_115 : decode cX6_tries 115 = .ok (.ifCond .eq 23, 3) := dk_153 0 23 (dk_at dksX6_tries_4 19 rfl rfl)
theorem dX6_tries_118 : decode cX6_tries 118 = .ok (.aload_n 0, 1) := dk_42 (dk_at dksX6_tries_4 22 rfl rfl)
theorem dX6_tries_119 : decode cX6_tries 119 = .ok (.getfield 37, 3) := dk_180 0 37 (dk_at dksX6_tries_5 0 rfl rfl)
theorem dX6_tries_122 : decode cX6_tries 122 = .ok (.iload 7, 2) := dk_21 7 (dk_at dksX6_tries_5 3 rfl rfl)
theorem dX6_tries_124 : decode cX6_tries 124 = .ok (.aload_n 0, 1) := dk_42 (dk_at dksX6_tries_5 5 rfl rfl)
theorem dX6_tries_125 : decode cX6_tries 125 = .ok (.getfield 34, 3) := dk_180 0 34 (dk_at dksX6_tries_5 6 rfl rfl)
theorem dX6_tries_128 : decode cX6_tries 128 = .ok (.iload 7, 2) := dk_21 7 (dk_at dksX6_tries_5 9 rfl rfl)
theorem dX6_tries_130 : decode cX6_tries 130 = .ok (.iaload, 1) := dk_46 (dk_at dksX6_tries_5 11 rfl rfl)
theorem dX6_tries_131 : decode cX6_tries 131 = .ok (.iastore, 1) := dk_79 (dk_at dksX6_tries_5 12 rfl rfl)
theorem dX6_tries_132 : decode cX6_tries 132 = .ok (.iinc 7 1, 3) := dk_132 7 1 (dk_at dksX6_tries_5 13 rfl rfl)
theorem dX6_tries_135 : decode cX6_tries 135 = .ok (.goto (-29), 3) := dk_167 255 227 (dk_at dksX6_tries_5 16 rfl rfl)
theorem dX6_tries_138 : decode cX6_tries 138 = .ok (.aload_n 0, 1) := dk_42 (dk_at dksX6_tries_5 19 rfl rfl)
theorem dX6_tries_139 : decode cX6_tries 139 = .ok (.iload 6, 2) := dk_21 6 (dk_at dksX6_tries_5 20 rfl rfl)
theorem dX6_tries_141 : decode cX6_tries 141 = .ok (.ifCond .eq 8, 3) := dk_153 0 8 (dk_at dksX6_tries_6 0 rfl rfl)
theorem dX6_tries_144 : decode cX6_tries 144 = .ok (.iload 5, 2) := dk_21 5 (dk_at dksX6_tries_6 3 rfl rfl)
theorem dX6_tries_146 : decode cX6_tries 146 = .ok (.goto 7, 3) := dk_167 0 7 (dk_at dksX6_tries_6 5 rfl rfl)
theorem dX6_tries_149 : decode cX6_tries 149 = .ok (.aload_n 0, 1) := dk_42 (dk_at dksX6_tries_6 8 rfl rfl)
theorem dX6_tries_150 : decode cX6_tries 150 = .ok (.getfield 202, 3) := dk_180 0 202 (dk_at dksX6_tries_6 9 rfl rfl)
theorem dX6_tries_153 : decode cX6_tries 153 = .ok (.putfield 202, 3) := dk_181 0 202 (dk_at dksX6_tries_6 12 rfl rfl)
theorem dX6_tries_156 : decode cX6_tries 156 = .ok (.aload_n 0, 1) := dk_42 (dk_at dksX6_tries_6 15 rfl rfl)
theorem dX6_tries_157 : decode cX6_tries 157 = .ok (.iload 6, 2) := dk_21 6 (dk_at dksX6_tries_6 16 rfl rfl)
theorem dX6_tries_159 : decode cX6_tries 159 = .ok (.ifCond .eq 8, 3) := dk_153 0 8 (dk_at dksX6_tries_6 18 rfl rfl)
theorem dX6_tries_162 : decode cX6_tries 162 = .ok (.iload 4, 2) := dk_21 4 (dk_at dksX6_tries_6 21 rfl rfl)
theorem dX6_tries_164 : decode cX6_tries 164 = .ok (.goto 7, 3) := dk_167 0 7 (dk_at dksX6_tries_7 0 rfl rfl)
theorem dX6_tries_167 : decode cX6_tries 167 = .ok (.aload_n 0, 1) := dk_42 (dk_at dksX6_tries_7 3 rfl rfl)
theorem dX6_tries_168 : decode cX6_tries 168 = .ok (.getfield 199, 3) := dk_180 0 199 (dk_at dksX6_tries_7 4 rfl rfl)
theorem dX6_tries_171 : decode cX6_tries 171 = .ok (.putfield 199, 3) := dk_181 0 199 (dk_at dksX6_tries_7 7 rfl rfl)
theorem dX6_tries_174 : decode cX6_tries 174 = .ok (.return_, 1) := dk_177 (dk_at dksX6_tries_7 10 rfl rfl)
theorem dX6_tries_175 : decode cX6_tries 175 = .ok (.iconst 0, 1) := dk_3 (dk_at dksX6_tries_7 11 rfl rfl)
theorem dX6_tries_176 : decode cX6_tries 176 = .ok (.istore 5, 2) := dk_54 5 (dk_at dksX6_tries_7 12 rfl rfl)
theorem dX6_tries_178 : decode cX6_tries 178 = .ok (.iload 5, 2) := dk_21 5 (dk_at dksX6_tries_7 14 rfl rfl)
theorem dX6_tries_180 : decode cX6_tries 180 = .ok (.iload_n 3, 1) := dk_29 (dk_at dksX6_tries_7 16 rfl rfl)
theorem dX6_tries_181 : decode cX6_tries 181 = .ok (.if_icmp .gt 55, 3) := dk_163 0 55 (dk_at dksX6_tries_7 17 rfl rfl)
theorem dX6_tries_184 : decode cX6_tries 184 = .ok (.aload_n 0, 1) := dk_42 (dk_at dksX6_tries_7 20 rfl rfl)
theorem dX6_tries_185 : decode cX6_tries 185 = .ok (.getfield 28, 3) := dk_180 0 28 (dk_at dksX6_tries_7 21 rfl rfl)
theorem dX6_tries_188 : decode cX6_tries 188 = .ok (.iload_n 2, 1) := dk_28 (dk_at dksX6_tries_8 0 rfl rfl)
theorem dX6_tries_189 : decode cX6_tries 189 = .ok (.iaload, 1) := dk_46 (dk_at dksX6_tries_8 1 rfl rfl)
theorem dX6_tries_190 : decode cX6_tries 190 = .ok (.iload 5, 2) := dk_21 5 (dk_at dksX6_tries_8 2 rfl rfl)
theorem dX6_tries_192 : decode cX6_tries 192 = .ok (.iadd, 1) := dk_96 (dk_at dksX6_tries_8 4 rfl rfl)
theorem dX6_tries_193 : decode cX6_tries 193 = .ok (.bipush 9, 2) := dk_16 9 (dk_at dksX6_tries_8 5 rfl rfl)
theorem dX6_tries_195 : decode cX6_tries 195 = .ok (.if_icmp .gt 41, 3) := dk_163 0 41 (dk_at dksX6_tries_8 7 rfl rfl)
theorem dX6_tries_198 : decode cX6_tries 198 = .ok (.aload_n 0, 1) := dk_42 (dk_at dksX6_tries_8 10 rfl rfl)
theorem dX6_tries_199 : decode cX6_tries 199 = .ok (.getfield 34, 3) := dk_180 0 34 (dk_at dksX6_tries_8 11 rfl rfl)
theorem dX6_tries_202 : decode cX6_tries 202 = .ok (.iload_n 2, 1) := dk_28 (dk_at dksX6_tries_8 14 rfl rfl)
theorem dX6_tries_203 : decode cX6_tries 203 = .ok (.aload_n 0, 1) := dk_42 (dk_at dksX6_tries_8 15 rfl rfl)
theorem dX6_tries_204 : decode cX6_tries 204 = .ok (.getfield 28, 3) := dk_180 0 28 (dk_at dksX6_tries_8 16 rfl rfl)
theorem dX6_tries_207 : decode cX6_tries 207 = .ok (.iload_n 2, 1) := dk_28 (dk_at dksX6_tries_8 19 rfl rfl)
theorem dX6_tries_208 : decode cX6_tries 208 = .ok (.iaload, 1) := dk_46 (dk_at dksX6_tries_8 20 rfl rfl)
theorem dX6_tries_209 : decode cX6_tries 209 = .ok (.iload 5, 2) := dk_21 5 (dk_at dksX6_tries_8 21 rfl rfl)
theorem dX6_tries_211 : decode cX6_tries 211 = .ok (.iadd, 1) := dk_96 (dk_at dksX6_tries_8 23 rfl rfl)
theorem dX6_tries_212 : decode cX6_tries 212 = .ok (.iastore, 1) := dk_79 (dk_at dksX6_tries_9 0 rfl rfl)
theorem dX6_tries_213 : decode cX6_tries 213 = .ok (.aload_n 0, 1) := dk_42 (dk_at dksX6_tries_9 1 rfl rfl)
theorem dX6_tries_214 : decode cX6_tries 214 = .ok (.iload_n 1, 1) := dk_27 (dk_at dksX6_tries_9 2 rfl rfl)
theorem dX6_tries_215 : decode cX6_tries 215 = .ok (.iload_n 2, 1) := dk_28 (dk_at dksX6_tries_9 3 rfl rfl)
theorem dX6_tries_216 : decode cX6_tries 216 = .ok (.iconst 1, 1) := dk_4 (dk_at dksX6_tries_9 4 rfl rfl)
theorem dX6_tries_217 : decode cX6_tries 217 = .ok (.iadd, 1) := dk_96 (dk_at dksX6_tries_9 5 rfl rfl)
theorem dX6_tries_218 : decode cX6_tries 218 = .ok (.iload_n 3, 1) := dk_29 (dk_at dksX6_tries_9 6 rfl rfl)
theorem dX6_tries_219 : decode cX6_tries 219 = .ok (.iload 5, 2) := dk_21 5 (dk_at dksX6_tries_9 7 rfl rfl)
theorem dX6_tries_221 : decode cX6_tries 221 = .ok (.isub, 1) := dk_100 (dk_at dksX6_tries_9 9 rfl rfl)
theorem dX6_tries_222 : decode cX6_tries 222 = .ok (.iload 4, 2) := dk_21 4 (dk_at dksX6_tries_9 10 rfl rfl)
theorem dX6_tries_224 : decode cX6_tries 224 = .ok (.iload 5, 2) := dk_21 5 (dk_at dksX6_tries_9 12 rfl rfl)
theorem dX6_tries_226 : decode cX6_tries 226 = .ok (.iadd, 1) := dk_96 (dk_at dksX6_tries_9 14 rfl rfl)
theorem dX6_tries_227 : decode cX6_tries 227 = .ok (.invokevirtual 205, 3) := dk_182 0 205 (dk_at dksX6_tries_9 15 rfl rfl)
theorem dX6_tries_230 : decode cX6_tries 230 = .ok (.iinc 5 1, 3) := dk_132 5 1 (dk_at dksX6_tries_9 18 rfl rfl)
theorem dX6_tries_233 : decode cX6_tries 233 = .ok (.goto (-55), 3) := dk_167 255 201 (dk_at dksX6_tries_9 21 rfl rfl)
theorem dX6_tries_236 : decode cX6_tries 236 = .ok (.aload_n 0, 1) := dk_42 (dk_at dksX6_tries_10 0 rfl rfl)
theorem dX6_tries_237 : decode cX6_tries 237 = .ok (.getfield 34, 3) := dk_180 0 34 (dk_at dksX6_tries_10 1 rfl rfl)
theorem dX6_tries_240 : decode cX6_tries 240 = .ok (.iload_n 2, 1) := dk_28 (dk_at dksX6_tries_10 4 rfl rfl)
theorem dX6_tries_241 : decode cX6_tries 241 = .ok (.aload_n 0, 1) := dk_42 (dk_at dksX6_tries_10 5 rfl rfl)
theorem dX6_tries_242 : decode cX6_tries 242 = .ok (.getfield 28, 3) := dk_180 0 28 (dk_at dksX6_tries_10 6 rfl rfl)
theorem dX6_tries_245 : decode cX6_tries 245 = .ok (.iload_n 2, 1) := dk_28 (dk_at dksX6_tries_10 9 rfl rfl)
theorem dX6_tries_246 : decode cX6_tries 246 = .ok (.iaload, 1) := dk_46 (dk_at dksX6_tries_10 10 rfl rfl)
theorem dX6_tries_247 : decode cX6_tries 247 = .ok (.iastore, 1) := dk_79 (dk_at dksX6_tries_10 11 rfl rfl)
theorem dX6_tries_248 : decode cX6_tries 248 = .ok (.return_, 1) := dk_177 (dk_at dksX6_tries_10 12 rfl rfl)
abbrev cX6_inTwo : ByteArray := prog_20_method_57_code
def yX6_inTwo : MethodName := ⟨RX6, "inTwo", "(II)I"⟩
def dkwX6_inTwo_1 : List UInt8 := [181, 0, 212, 42, 28, 3, 182, 0, 215, 42, 180, 0, 212, 172]
abbrev dktX6_inTwo_1 : List UInt8 := dkwX6_inTwo_1 ++ []
def dkwX6_inTwo_0 : List UInt8 := [42, 27, 28, 4, 16, 12, 182, 0, 176, 62, 29, 158, 0, 9, 42, 29, 182, 0, 63, 172, 42, 2]
abbrev dktX6_inTwo_0 : List UInt8 := dkwX6_inTwo_0 ++ dktX6_inTwo_1
theorem dksX6_inTwo_0 : cX6_inTwo.data.toList.drop 0 = dktX6_inTwo_0 := by decide +kernel
theorem dksX6_inTwo_1 : cX6_inTwo.data.toList.drop 22 = dktX6_inTwo_1 := dk_seg dksX6_inTwo_0 22 rfl rfl
theorem dX6_inTwo_0 : decode cX6_inTwo 0 = .ok (.aload_n 0, 1) := dk_42 (dk_at dksX6_inTwo_0 0 rfl rfl)
theorem dX6_inTwo_1 : decode cX6_inTwo 1 = .ok (.iload_n 1, 1) := dk_27 (dk_at dksX6_inTwo_0 1 rfl rfl)
theorem dX6_inTwo_2 : decode cX6_inTwo 2 = .ok (.iload_n 2, 1) := dk_28 (dk_at dksX6_inTwo_0 2 rfl rfl)
theorem dX6_inTwo_3 : decode cX6_inTwo 3 = .ok (.iconst 1, 1) := dk_4 (dk_at dksX6_inTwo_0 3 rfl rfl)
theorem dX6_inTwo_4 : decode cX6_inTwo 4 = .ok (.bipush 12, 2) := dk_16 12 (dk_at dksX6_inTwo_0 4 rfl rfl)
theorem dX6_inTwo_6 : decode cX6_inTwo 6 = .ok (.invokevirtual 176, 3) := dk_182 0 176 (dk_at dksX6_inTwo_0 6 rfl rfl)
theorem dX6_inTwo_9 : decode cX6_inTwo 9 = .ok (.istore_n 3, 1) := dk_62 (dk_at dksX6_inTwo_0 9 rfl rfl)
theorem dX6_inTwo_10 : decode cX6_inTwo 10 = .ok (.iload_n 3, 1) := dk_29 (dk_at dksX6_inTwo_0 10 rfl rfl)
theorem dX6_inTwo_11 : decode cX6_inTwo 11 = .ok (.ifCond .le 9, 3) := dk_158 0 9 (dk_at dksX6_inTwo_0 11 rfl rfl)
theorem dX6_inTwo_14 : decode cX6_inTwo 14 = .ok (.aload_n 0, 1) := dk_42 (dk_at dksX6_inTwo_0 14 rfl rfl)
theorem dX6_inTwo_15 : decode cX6_inTwo 15 = .ok (.iload_n 3, 1) := dk_29 (dk_at dksX6_inTwo_0 15 rfl rfl)
theorem dX6_inTwo_16 : decode cX6_inTwo 16 = .ok (.invokevirtual 63, 3) := dk_182 0 63 (dk_at dksX6_inTwo_0 16 rfl rfl)
theorem dX6_inTwo_19 : decode cX6_inTwo 19 = .ok (.ireturn, 1) := dk_172 (dk_at dksX6_inTwo_0 19 rfl rfl)
theorem dX6_inTwo_20 : decode cX6_inTwo 20 = .ok (.aload_n 0, 1) := dk_42 (dk_at dksX6_inTwo_0 20 rfl rfl)
theorem dX6_inTwo_21 : decode cX6_inTwo 21 = .ok (.iconst (-1), 1) := dk_2 (dk_at dksX6_inTwo_0 21 rfl rfl)
theorem dX6_inTwo_22 : decode cX6_inTwo 22 = .ok (.putfield 212, 3) := dk_181 0 212 (dk_at dksX6_inTwo_1 0 rfl rfl)
theorem dX6_inTwo_25 : decode cX6_inTwo 25 = .ok (.aload_n 0, 1) := dk_42 (dk_at dksX6_inTwo_1 3 rfl rfl)
theorem dX6_inTwo_26 : decode cX6_inTwo 26 = .ok (.iload_n 2, 1) := dk_28 (dk_at dksX6_inTwo_1 4 rfl rfl)
theorem dX6_inTwo_27 : decode cX6_inTwo 27 = .ok (.iconst 0, 1) := dk_3 (dk_at dksX6_inTwo_1 5 rfl rfl)
theorem dX6_inTwo_28 : decode cX6_inTwo 28 = .ok (.invokevirtual 215, 3) := dk_182 0 215 (dk_at dksX6_inTwo_1 6 rfl rfl)
theorem dX6_inTwo_31 : decode cX6_inTwo 31 = .ok (.aload_n 0, 1) := dk_42 (dk_at dksX6_inTwo_1 9 rfl rfl)
theorem dX6_inTwo_32 : decode cX6_inTwo 32 = .ok (.getfield 212, 3) := dk_180 0 212 (dk_at dksX6_inTwo_1 10 rfl rfl)
theorem dX6_inTwo_35 : decode cX6_inTwo 35 = .ok (.ireturn, 1) := dk_172 (dk_at dksX6_inTwo_1 13 rfl rfl)
abbrev cX6_parts : ByteArray := prog_20_method_56_code
def yX6_parts : MethodName := ⟨RX6, "parts", "(II)V"⟩
def dkwX6_parts_4 : List UInt8 := [132, 3, 1, 167, 255, 214, 177]
abbrev dktX6_parts_4 : List UInt8 := dkwX6_parts_4 ++ []
def dkwX6_parts_3 : List UInt8 := [29, 79, 42, 180, 0, 31, 28, 42, 180, 0, 28, 28, 46, 29, 100, 79, 42, 27, 28, 4, 96, 182, 0, 215]
abbrev dktX6_parts_3 : List UInt8 := dkwX6_parts_3 ++ dktX6_parts_4
def dkwX6_parts_2 : List UInt8 := [180, 0, 212, 181, 0, 212, 177, 3, 62, 29, 42, 180, 0, 28, 28, 46, 163, 0, 38, 42, 180, 0, 34, 28]
abbrev dktX6_parts_2 : List UInt8 := dkwX6_parts_2 ++ dktX6_parts_3
def dkwX6_parts_1 : List UInt8 := [96, 62, 42, 42, 180, 0, 212, 2, 159, 0, 11, 29, 42, 180, 0, 212, 162, 0, 7, 29, 167, 0, 7, 42]
abbrev dktX6_parts_1 : List UInt8 := dkwX6_parts_1 ++ dktX6_parts_2
def dkwX6_parts_0 : List UInt8 := [28, 16, 8, 160, 0, 52, 42, 27, 42, 180, 0, 34, 182, 0, 183, 42, 27, 42, 180, 0, 31, 182, 0, 183]
abbrev dktX6_parts_0 : List UInt8 := dkwX6_parts_0 ++ dktX6_parts_1
theorem dksX6_parts_0 : cX6_parts.data.toList.drop 0 = dktX6_parts_0 := by decide +kernel
theorem dksX6_parts_1 : cX6_parts.data.toList.drop 24 = dktX6_parts_1 := dk_seg dksX6_parts_0 24 rfl rfl
theorem dksX6_parts_2 : cX6_parts.data.toList.drop 48 = dktX6_parts_2 := dk_seg dksX6_parts_1 24 rfl rfl
theorem dksX6_parts_3 : cX6_parts.data.toList.drop 72 = dktX6_parts_3 := dk_seg dksX6_parts_2 24 rfl rfl
theorem dksX6_parts_4 : cX6_parts.data.toList.drop 96 = dktX6_parts_4 := dk_seg dksX6_parts_3 24 rfl rfl
theorem dX6_parts_0 : decode cX6_parts 0 = .ok (.iload_n 2, 1) := dk_28 (dk_at dksX6_parts_0 0 rfl rfl)
theorem dX6_parts_1 : decode cX6_parts 1 = .ok (.bipush 8, 2) := dk_16 8 (dk_at dksX6_parts_0 1 rfl rfl)
theorem dX6_parts_3 : decode cX6_parts 3 = .ok (.if_icmp .ne 52, 3) := dk_160 0 52 (dk_at dksX6_parts_0 3 rfl rfl)
theorem dX6_parts_6 : decode cX6_parts 6 = .ok (.aload_n 0, 1) := dk_42 (dk_at dksX6_parts_0 6 rfl rfl)
theorem dX6_parts_7 : decode cX6_parts 7 = .ok (.iload_n 1, 1) := dk_27 (dk_at dksX6_parts_0 7 rfl rfl)
theorem dX6_parts_8 : decode cX6_parts 8 = .ok (.aload_n 0, 1) := dk_42 (dk_at dksX6_parts_0 8 rfl rfl)
theorem dX6_parts_9 : decode cX6_parts 9 = .ok (.getfield 34, 3) := dk_180 0 34 (dk_at dksX6_parts_0 9 rfl rfl)
theorem dX6_parts_12 : decode cX6_parts 12 = .ok (.invokevirtual 183, 3) := dk_182 0 183 (dk_at dksX6_parts_0 12 rfl rfl)
theorem dX6_parts_15 : decode cX6_parts 15 = .ok (.aload_n 0, 1) := dk_42 (dk_at dksX6_parts_0 15 rfl rfl)
theorem dX6_parts_16 : decode cX6_parts 16 = .ok (.iload_n 1, 1) := dk_27 (dk_at dksX6_parts_0 16 rfl rfl)
theorem dX6_parts_17 : decode cX6_parts 17 = .ok (.aload_n 0, 1) := dk_42 (dk_at dksX6_parts_0 17 rfl rfl)
theorem dX6_parts_18 : decode cX6_parts 18 = .ok (.getfield 31, 3) := dk_180 0 31 (dk_at dksX6_parts_0 18 rfl rfl)
theorem dX6_parts_21 : decode cX6_parts 21 = .ok (.invokevirtual 183, 3) := dk_182 0 183 (dk_at dksX6_parts_0 21 rfl rfl)
theorem dX6_parts_24 : decode cX6_parts 24 = .ok (.iadd, 1) := dk_96 (dk_at dksX6_parts_1 0 rfl rfl)
theorem dX6_parts_25 : decode cX6_parts 25 = .ok (.istore_n 3, 1) := dk_62 (dk_at dksX6_parts_1 1 rfl rfl)
theorem dX6_parts_26 : decode cX6_parts 26 = .ok (.aload_n 0, 1) := dk_42 (dk_at dksX6_parts_1 2 rfl rfl)
theorem dX6_parts_27 : decode cX6_parts 27 = .ok (.aload_n 0, 1) := dk_42 (dk_at dksX6_parts_1 3 rfl rfl)
theorem dX6_parts_28 : decode cX6_parts 28 = .ok (.getfield 212, 3) := dk_180 0 212 (dk_at dksX6_parts_1 4 rfl rfl)
theorem dX6_parts_31 : decode cX6_parts 31 = .ok (.iconst (-1), 1) := dk_2 (dk_at dksX6_parts_1 7 rfl rfl)
theorem dX6_parts_32 : decode cX6_parts 32 = .ok (.if_icmp .eq 11, 3) := dk_159 0 11 (dk_at dksX6_parts_1 8 rfl rfl)
theorem dX6_parts_35 : decode cX6_parts 35 = .ok (.iload_n 3, 1) := dk_29 (dk_at dksX6_parts_1 11 rfl rfl)
theorem dX6_parts_36 : decode cX6_parts 36 = .ok (.aload_n 0, 1) := dk_42 (dk_at dksX6_parts_1 12 rfl rfl)
theorem dX6_parts_37 : decode cX6_parts 37 = .ok (.getfield 212, 3) := dk_180 0 212 (dk_at dksX6_parts_1 13 rfl rfl)
theorem dX6_parts_40 : decode cX6_parts 40 = .ok (.if_icmp .ge 7, 3) := dk_162 0 7 (dk_at dksX6_parts_1 16 rfl rfl)
theorem dX6_parts_43 : decode cX6_parts 43 = .ok (.iload_n 3, 1) := dk_29 (dk_at dksX6_parts_1 19 rfl rfl)
theorem dX6_parts_44 : decode cX6_parts 44 = .ok (.goto 7, 3) := dk_167 0 7 (dk_at dksX6_parts_1 20 rfl rfl)
theorem dX6_parts_47 : decode cX6_parts 47 = .ok (.aload_n 0, 1) := dk_42 (dk_at dksX6_parts_1 23 rfl rfl)
theorem dX6_parts_48 : decode cX6_parts 48 = .ok (.getfield 212, 3) := dk_180 0 212 (dk_at dksX6_parts_2 0 rfl rfl)
theorem dX6_parts_51 : decode cX6_parts 51 = .ok (.putfield 212, 3) := dk_181 0 212 (dk_at dksX6_parts_2 3 rfl rfl)
theorem dX6_parts_54 : decode cX6_parts 54 = .ok (.return_, 1) := dk_177 (dk_at dksX6_parts_2 6 rfl rfl)
theorem dX6_parts_55 : decode cX6_parts 55 = .ok (.iconst 0, 1) := dk_3 (dk_at dksX6_parts_2 7 rfl rfl)
theorem dX6_parts_56 : decode cX6_parts 56 = .ok (.istore_n 3, 1) := dk_62 (dk_at dksX6_parts_2 8 rfl rfl)
theorem dX6_parts_57 : decode cX6_parts 57 = .ok (.iload_n 3, 1) := dk_29 (dk_at dksX6_parts_2 9 rfl rfl)
theorem dX6_parts_58 : decode cX6_parts 58 = .ok (.aload_n 0, 1) := dk_42 (dk_at dksX6_parts_2 10 rfl rfl)
theorem dX6_parts_59 : decode cX6_parts 59 = .ok (.getfield 28, 3) := dk_180 0 28 (dk_at dksX6_parts_2 11 rfl rfl)
theorem dX6_parts_62 : decode cX6_parts 62 = .ok (.iload_n 2, 1) := dk_28 (dk_at dksX6_parts_2 14 rfl rfl)
theorem dX6_parts_63 : decode cX6_parts 63 = .ok (.iaload, 1) := dk_46 (dk_at dksX6_parts_2 15 rfl rfl)
theorem dX6_parts_64 : decode cX6_parts 64 = .ok (.if_icmp .gt 38, 3) := dk_163 0 38 (dk_at dksX6_parts_2 16 rfl rfl)
theorem dX6_parts_67 : decode cX6_parts 67 = .ok (.aload_n 0, 1) := dk_42 (dk_at dksX6_parts_2 19 rfl rfl)
theorem dX6_parts_68 : decode cX6_parts 68 = .ok (.getfield 34, 3) := dk_180 0 34 (dk_at dksX6_parts_2 20 rfl rfl)
theorem dX6_parts_71 : decode cX6_parts 71 = .ok (.iload_n 2, 1) := dk_28 (dk_at dksX6_parts_2 23 rfl rfl)
theorem dX6_parts_72 : decode cX6_parts 72 = .ok (.iload_n 3, 1) := dk_29 (dk_at dksX6_parts_3 0 rfl rfl)
theorem dX6_parts_73 : decode cX6_parts 73 = .ok (.iastore, 1) := dk_79 (dk_at dksX6_parts_3 1 rfl rfl)
theorem dX6_parts_74 : decode cX6_parts 74 = .ok (.aload_n 0, 1) := dk_42 (dk_at dksX6_parts_3 2 rfl rfl)
theorem dX6_parts_75 : decode cX6_parts 75 = .ok (.getfield 31, 3) := dk_180 0 31 (dk_at dksX6_parts_3 3 rfl rfl)
theorem dX6_parts_78 : decode cX6_parts 78 = .ok (.iload_n 2, 1) := dk_28 (dk_at dksX6_parts_3 6 rfl rfl)
theorem dX6_parts_79 : decode cX6_parts 79 = .ok (.aload_n 0, 1) := dk_42 (dk_at dksX6_parts_3 7 rfl rfl)
theorem dX6_parts_80 : decode cX6_parts 80 = .ok (.getfield 28, 3) := dk_180 0 28 (dk_at dksX6_parts_3 8 rfl rfl)
theorem dX6_parts_83 : decode cX6_parts 83 = .ok (.iload_n 2, 1) := dk_28 (dk_at dksX6_parts_3 11 rfl rfl)
theorem dX6_parts_84 : decode cX6_parts 84 = .ok (.iaload, 1) := dk_46 (dk_at dksX6_parts_3 12 rfl rfl)
theorem dX6_parts_85 : decode cX6_parts 85 = .ok (.iload_n 3, 1) := dk_29 (dk_at dksX6_parts_3 13 rfl rfl)
theorem dX6_parts_86 : decode cX6_parts 86 = .ok (.isub, 1) := dk_100 (dk_at dksX6_parts_3 14 rfl rfl)
theorem dX6_parts_87 : decode cX6_parts 87 = .ok (.iastore, 1) := dk_79 (dk_at dksX6_parts_3 15 rfl rfl)
theorem dX6_parts_88 : decode cX6_parts 88 = .ok (.aload_n 0, 1) := dk_42 (dk_at dksX6_parts_3 16 rfl rfl)
theorem dX6_parts_89 : decode cX6_parts 89 = .ok (.iload_n 1, 1) := dk_27 (dk_at dksX6_parts_3 17 rfl rfl)
theorem dX6_parts_90 : decode cX6_parts 90 = .ok (.iload_n 2, 1) := dk_28 (dk_at dksX6_parts_3 18 rfl rfl)
theorem dX6_parts_91 : decode cX6_parts 91 = .ok (.iconst 1, 1) := dk_4 (dk_at dksX6_parts_3 19 rfl rfl)
theorem dX6_parts_92 : decode cX6_parts 92 = .ok (.iadd, 1) := dk_96 (dk_at dksX6_parts_3 20 rfl rfl)
theorem dX6_parts_93 : decode cX6_parts 93 = .ok (.invokevirtual 215, 3) := dk_182 0 215 (dk_at dksX6_parts_3 21 rfl rfl)
theorem dX6_parts_96 : decode cX6_parts 96 = .ok (.iinc 3 1, 3) := dk_132 3 1 (dk_at dksX6_parts_4 0 rfl rfl)
theorem dX6_parts_99 : decode cX6_parts 99 = .ok (.goto (-42), 3) := dk_167 255 214 (dk_at dksX6_parts_4 3 rfl rfl)
theorem dX6_parts_102 : decode cX6_parts 102 = .ok (.return_, 1) := dk_177 (dk_at dksX6_parts_4 6 rfl rfl)
abbrev cX6_together : ByteArray := prog_20_method_58_code
def yX6_together : MethodName := ⟨RX6, "together", "(III)I"⟩
def dkwX6_together_7 : List UInt8 := [182, 0, 183, 42, 29, 42, 180, 0, 31, 182, 0, 183, 96, 42, 29, 42, 180, 0, 34, 182, 0, 183, 100, 172]
abbrev dktX6_together_7 : List UInt8 := dkwX6_together_7 ++ []
def dkwX6_together_6 : List UInt8 := [21, 5, 46, 42, 180, 0, 31, 21, 5, 46, 96, 79, 132, 5, 1, 167, 255, 224, 42, 29, 42, 180, 0, 28]
abbrev dktX6_together_6 : List UInt8 := dkwX6_together_6 ++ dktX6_together_7
def dkwX6_together_5 : List UInt8 := [182, 0, 63, 172, 3, 54, 5, 21, 5, 16, 8, 162, 0, 31, 42, 180, 0, 34, 21, 5, 42, 180, 0, 28]
abbrev dktX6_together_5 : List UInt8 := dkwX6_together_5 ++ dktX6_together_6
def dkwX6_together_4 : List UInt8 := [180, 0, 31, 184, 0, 146, 96, 16, 30, 164, 0, 6, 7, 54, 4, 21, 4, 158, 0, 10, 42, 21, 4]
abbrev dktX6_together_4 : List UInt8 := dkwX6_together_4 ++ dktX6_together_5
def dkwX6_together_3 : List UInt8 := [21, 5, 167, 0, 5, 21, 4, 54, 4, 21, 4, 154, 0, 26, 42, 180, 0, 28, 184, 0, 146, 42]
abbrev dktX6_together_3 : List UInt8 := dkwX6_together_3 ++ dktX6_together_4
def dkwX6_together_2 : List UInt8 := [42, 28, 42, 180, 0, 31, 16, 99, 182, 0, 172, 54, 5, 21, 5, 5, 159, 0, 8, 21, 4, 154, 0, 8]
abbrev dktX6_together_2 : List UInt8 := dkwX6_together_2 ++ dktX6_together_3
def dkwX6_together_1 : List UInt8 := [160, 0, 57, 27, 184, 0, 169, 153, 0, 50, 28, 184, 0, 169, 153, 0, 43, 29, 184, 0, 161, 153, 0, 36]
abbrev dktX6_together_1 : List UInt8 := dkwX6_together_1 ++ dktX6_together_2
def dkwX6_together_0 : List UInt8 := [42, 27, 29, 28, 184, 0, 169, 16, 99, 182, 0, 176, 54, 4, 21, 4, 153, 0, 30, 21, 4, 4]
abbrev dktX6_together_0 : List UInt8 := dkwX6_together_0 ++ dktX6_together_1
theorem dksX6_together_0 : cX6_together.data.toList.drop 0 = dktX6_together_0 := by decide +kernel
theorem dksX6_together_1 : cX6_together.data.toList.drop 22 = dktX6_together_1 := dk_seg dksX6_together_0 22 rfl rfl
theorem dksX6_together_2 : cX6_together.data.toList.drop 46 = dktX6_together_2 := dk_seg dksX6_together_1 24 rfl rfl
theorem dksX6_together_3 : cX6_together.data.toList.drop 70 = dktX6_together_3 := dk_seg dksX6_together_2 24 rfl rfl
theorem dksX6_together_4 : cX6_together.data.toList.drop 92 = dktX6_together_4 := dk_seg dksX6_together_3 22 rfl rfl
theorem dksX6_together_5 : cX6_together.data.toList.drop 115 = dktX6_together_5 := dk_seg dksX6_together_4 23 rfl rfl
theorem dksX6_together_6 : cX6_together.data.toList.drop 139 = dktX6_together_6 := dk_seg dksX6_together_5 24 rfl rfl
theorem dksX6_together_7 : cX6_together.data.toList.drop 163 = dktX6_together_7 := dk_seg dksX6_together_6 24 rfl rfl
theorem dX6_together_0 : decode cX6_together 0 = .ok (.aload_n 0, 1) := dk_42 (dk_at dksX6_together_0 0 rfl rfl)
theorem dX6_together_1 : decode cX6_together 1 = .ok (.iload_n 1, 1) := dk_27 (dk_at dksX6_together_0 1 rfl rfl)
theorem dX6_together_2 : decode cX6_together 2 = .ok (.iload_n 3, 1) := dk_29 (dk_at dksX6_together_0 2 rfl rfl)
theorem dX6_together_3 : decode cX6_together 3 = .ok (.iload_n 2, 1) := dk_28 (dk_at dksX6_together_0 3 rfl rfl)
theorem dX6_together_4 : decode cX6_together 4 = .ok (.invokestatic 169, 3) := dk_184 0 169 (dk_at dksX6_together_0 4 rfl rfl)
theorem dX6_together_7 : decode cX6_together 7 = .ok (.bipush 99, 2) := dk_16 99 (dk_at dksX6_together_0 7 rfl rfl)
theorem dX6_together_9 : decode cX6_together 9 = .ok (.invokevirtual 176, 3) := dk_182 0 176 (dk_at dksX6_together_0 9 rfl rfl)
theorem dX6_together_12 : decode cX6_together 12 = .ok (.istore 4, 2) := dk_54 4 (dk_at dksX6_together_0 12 rfl rfl)
theorem dX6_together_14 : decode cX6_together 14 = .ok (.iload 4, 2) := dk_21 4 (dk_at dksX6_together_0 14 rfl rfl)
theorem dX6_together_16 : decode cX6_together 16 = .ok (.ifCond .eq 30, 3) := dk_153 0 30 (dk_at dksX6_together_0 16 rfl rfl)
theorem dX6_together_19 : decode cX6_together 19 = .ok (.iload 4, 2) := dk_21 4 (dk_at dksX6_together_0 19 rfl rfl)
theorem dX6_together_21 : decode cX6_together 21 = .ok (.iconst 1, 1) := dk_4 (dk_at dksX6_together_0 21 rfl rfl)
theorem dX6_together_22 : decode cX6_together 22 = .ok (.if_icmp .ne 57, 3) := dk_160 0 57 (dk_at dksX6_together_1 0 rfl rfl)
theorem dX6_together_25 : decode cX6_together 25 = .ok (.iload_n 1, 1) := dk_27 (dk_at dksX6_together_1 3 rfl rfl)
theorem dX6_together_26 : decode cX6_together 26 = .ok (.invokestatic 169, 3) := dk_184 0 169 (dk_at dksX6_together_1 4 rfl rfl)
theorem dX6_together_29 : decode cX6_together 29 = .ok (.ifCond .eq 50, 3) := dk_153 0 50 (dk_at dksX6_together_1 7 rfl rfl)
theorem dX6_together_32 : decode cX6_together 32 = .ok (.iload_n 2, 1) := dk_28 (dk_at dksX6_together_1 10 rfl rfl)
theorem dX6_together_33 : decode cX6_together 33 = .ok (.invokestatic 169, 3) := dk_184 0 169 (dk_at dksX6_together_1 11 rfl rfl)
theorem dX6_together_36 : decode cX6_together 36 = .ok (.ifCond .eq 43, 3) := dk_153 0 43 (dk_at dksX6_together_1 14 rfl rfl)
theorem dX6_together_39 : decode cX6_together 39 = .ok (.iload_n 3, 1) := dk_29 (dk_at dksX6_together_1 17 rfl rfl)
theorem dX6_together_40 : decode cX6_together 40 = .ok (.invokestatic 161, 3) := dk_184 0 161 (dk_at dksX6_together_1 18 rfl rfl)
theorem dX6_together_43 : decode cX6_together 43 = .ok (.ifCond .eq 36, 3) := dk_153 0 36 (dk_at dksX6_together_1 21 rfl rfl)
theorem dX6_together_46 : decode cX6_together 46 = .ok (.aload_n 0, 1) := dk_42 (dk_at dksX6_together_2 0 rfl rfl)
theorem dX6_together_47 : decode cX6_together 47 = .ok (.iload_n 2, 1) := dk_28 (dk_at dksX6_together_2 1 rfl rfl)
theorem dX6_together_48 : decode cX6_together 48 = .ok (.aload_n 0, 1) := dk_42 (dk_at dksX6_together_2 2 rfl rfl)
theorem dX6_together_49 : decode cX6_together 49 = .ok (.getfield 31, 3) := dk_180 0 31 (dk_at dksX6_together_2 3 rfl rfl)
theorem dX6_together_52 : decode cX6_together 52 = .ok (.bipush 99, 2) := dk_16 99 (dk_at dksX6_together_2 6 rfl rfl)
theorem dX6_together_54 : decode cX6_together 54 = .ok (.invokevirtual 172, 3) := dk_182 0 172 (dk_at dksX6_together_2 8 rfl rfl)
theorem dX6_together_57 : decode cX6_together 57 = .ok (.istore 5, 2) := dk_54 5 (dk_at dksX6_together_2 11 rfl rfl)
theorem dX6_together_59 : decode cX6_together 59 = .ok (.iload 5, 2) := dk_21 5 (dk_at dksX6_together_2 13 rfl rfl)
theorem dX6_together_61 : decode cX6_together 61 = .ok (.iconst 2, 1) := dk_5 (dk_at dksX6_together_2 15 rfl rfl)
theorem dX6_together_62 : decode cX6_together 62 = .ok (.if_icmp .eq 8, 3) := dk_159 0 8 (dk_at dksX6_together_2 16 rfl rfl)
theorem dX6_together_65 : decode cX6_together 65 = .ok (.iload 4, 2) := dk_21 4 (dk_at dksX6_together_2 19 rfl rfl)
theorem dX6_together_67 : decode cX6_together 67 = .ok (.ifCond .ne 8, 3) := dk_154 0 8 (dk_at dksX6_together_2 21 rfl rfl)
theorem dX6_together_70 : decode cX6_together 70 = .ok (.iload 5, 2) := dk_21 5 (dk_at dksX6_together_3 0 rfl rfl)
theorem dX6_together_72 : decode cX6_together 72 = .ok (.goto 5, 3) := dk_167 0 5 (dk_at dksX6_together_3 2 rfl rfl)
theorem dX6_together_75 : decode cX6_together 75 = .ok (.iload 4, 2) := dk_21 4 (dk_at dksX6_together_3 5 rfl rfl)
theorem dX6_together_77 : decode cX6_together 77 = .ok (.istore 4, 2) := dk_54 4 (dk_at dksX6_together_3 7 rfl rfl)
theorem dX6_together_79 : decode cX6_together 79 = .ok (.iload 4, 2) := dk_21 4 (dk_at dksX6_together_3 9 rfl rfl)
theorem dX6_together_81 : decode cX6_together 81 = .ok (.ifCond .ne 26, 3) := dk_154 0 26 (dk_at dksX6_together_3 11 rfl rfl)
theorem dX6_together_84 : decode cX6_together 84 = .ok (.aload_n 0, 1) := dk_42 (dk_at dksX6_together_3 14 rfl rfl)
theorem dX6_together_85 : decode cX6_together 85 = .ok (.getfield 28, 3) := dk_180 0 28 (dk_at dksX6_together_3 15 rfl rfl)
theorem dX6_together_88 : decode cX6_together 88 = .ok (.invokestatic 146, 3) := dk_184 0 146 (dk_at dksX6_together_3 18 rfl rfl)
theorem dX6_together_91 : decode cX6_together 91 = .ok (.aload_n 0, 1) := dk_42 (dk_at dksX6_together_3 21 rfl rfl)
theorem dX6_together_92 : decode cX6_together 92 = .ok (.getfield 31, 3) := dk_180 0 31 (dk_at dksX6_together_4 0 rfl rfl)
theorem dX6_together_95 : decode cX6_together 95 = .ok (.invokestatic 146, 3) := dk_184 0 146 (dk_at dksX6_together_4 3 rfl rfl)
theorem dX6_together_98 : decode cX6_together 98 = .ok (.iadd, 1) := dk_96 (dk_at dksX6_together_4 6 rfl rfl)
theorem dX6_together_99 : decode cX6_together 99 = .ok (.bipush 30, 2) := dk_16 30 (dk_at dksX6_together_4 7 rfl rfl)
theorem dX6_together_101 : decode cX6_together 101 = .ok (.if_icmp .le 6, 3) := dk_164 0 6 (dk_at dksX6_together_4 9 rfl rfl)
theorem dX6_together_104 : decode cX6_together 104 = .ok (.iconst 4, 1) := dk_7 (dk_at dksX6_together_4 12 rfl rfl)
theorem dX6_together_105 : decode cX6_together 105 = .ok (.istore 4, 2) := dk_54 4 (dk_at dksX6_together_4 13 rfl rfl)
theorem dX6_together_107 : decode cX6_together 107 = .ok (.iload 4, 2) := dk_21 4 (dk_at dksX6_together_4 15 rfl rfl)
theorem dX6_together_109 : decode cX6_together 109 = .ok (.ifCond .le 10, 3) := dk_158 0 10 (dk_at dksX6_together_4 17 rfl rfl)
theorem dX6_together_112 : decode cX6_together 112 = .ok (.aload_n 0, 1) := dk_42 (dk_at dksX6_together_4 20 rfl rfl)
theorem dX6_together_113 : decode cX6_together 113 = .ok (.iload 4, 2) := dk_21 4 (dk_at dksX6_together_4 21 rfl rfl)
theorem dX6_together_115 : decode cX6_together 115 = .ok (.invokevirtual 63, 3) := dk_182 0 63 (dk_at dksX6_together_5 0 rfl rfl)
theorem dX6_together_118 : decode cX6_together 118 = .ok (.ireturn, 1) := dk_172 (dk_at dksX6_together_5 3 rfl rfl)
theorem dX6_together_119 : decode cX6_together 119 = .ok (.iconst 0, 1) := dk_3 (dk_at dksX6_together_5 4 rfl rfl)
theorem dX6_together_120 : decode cX6_together 120 = .ok (.istore 5, 2) := dk_54 5 (dk_at dksX6_together_5 5 rfl rfl)
theorem dX6_together_122 : decode cX6_together 122 = .ok (.iload 5, 2) := dk_21 5 (dk_at dksX6_together_5 7 rfl rfl)
theorem dX6_together_124 : decode cX6_together 124 = .ok (.bipush 8, 2) := dk_16 8 (dk_at dksX6_together_5 9 rfl rfl)
theorem dX6_together_126 : decode cX6_together 126 = .ok (.if_icmp .ge 31, 3) := dk_162 0 31 (dk_at dksX6_together_5 11 rfl rfl)
theorem dX6_together_129 : decode cX6_together 129 = .ok (.aload_n 0, 1) := dk_42 (dk_at dksX6_together_5 14 rfl rfl)
theorem dX6_together_130 : decode cX6_together 130 = .ok (.getfield 34, 3) := dk_180 0 34 (dk_at dksX6_together_5 15 rfl rfl)
theorem dX6_together_133 : decode cX6_together 133 = .ok (.iload 5, 2) := dk_21 5 (dk_at dksX6_together_5 18 rfl rfl)
theorem dX6_together_135 : decode cX6_together 135 = .ok (.aload_n 0, 1) := dk_42 (dk_at dksX6_together_5 20 rfl rfl)
theorem dX6_together_136 : decode cX6_together 136 = .ok (.getfield 28, 3) := dk_180 0 28 (dk_at dksX6_together_5 21 rfl rfl)
theorem dX6_together_139 : decode cX6_together 139 = .ok (.iload 5, 2) := dk_21 5 (dk_at dksX6_together_6 0 rfl rfl)
theorem dX6_together_141 : decode cX6_together 141 = .ok (.iaload, 1) := dk_46 (dk_at dksX6_together_6 2 rfl rfl)
theorem dX6_together_142 : decode cX6_together 142 = .ok (.aload_n 0, 1) := dk_42 (dk_at dksX6_together_6 3 rfl rfl)
theorem dX6_together_143 : decode cX6_together 143 = .ok (.getfield 31, 3) := dk_180 0 31 (dk_at dksX6_together_6 4 rfl rfl)
theorem dX6_together_146 : decode cX6_together 146 = .ok (.iload 5, 2) := dk_21 5 (dk_at dksX6_together_6 7 rfl rfl)
theorem dX6_together_148 : decode cX6_together 148 = .ok (.iaload, 1) := dk_46 (dk_at dksX6_together_6 9 rfl rfl)
theorem dX6_together_149 : decode cX6_together 149 = .ok (.iadd, 1) := dk_96 (dk_at dksX6_together_6 10 rfl rfl)
theorem dX6_together_150 : decode cX6_together 150 = .ok (.iastore, 1) := dk_79 (dk_at dksX6_together_6 11 rfl rfl)
theorem dX6_together_151 : decode cX6_together 151 = .ok (.iinc 5 1, 3) := dk_132 5 1 (dk_at dksX6_together_6 12 rfl rfl)
theorem dX6_together_154 : decode cX6_together 154 = .ok (.goto (-32), 3) := dk_167 255 224 (dk_at dksX6_together_6 15 rfl rfl)
theorem dX6_together_157 : decode cX6_together 157 = .ok (.aload_n 0, 1) := dk_42 (dk_at dksX6_together_6 18 rfl rfl)
theorem dX6_together_158 : decode cX6_together 158 = .ok (.iload_n 3, 1) := dk_29 (dk_at dksX6_together_6 19 rfl rfl)
theorem dX6_together_159 : decode cX6_together 159 = .ok (.aload_n 0, 1) := dk_42 (dk_at dksX6_together_6 20 rfl rfl)
theorem dX6_together_160 : decode cX6_together 160 = .ok (.getfield 28, 3) := dk_180 0 28 (dk_at dksX6_together_6 21 rfl rfl)
theorem dX6_together_163 : decode cX6_together 163 = .ok (.invokevirtual 183, 3) := dk_182 0 183 (dk_at dksX6_together_7 0 rfl rfl)
theorem dX6_together_166 : decode cX6_together 166 = .ok (.aload_n 0, 1) := dk_42 (dk_at dksX6_together_7 3 rfl rfl)
theorem dX6_together_167 : decode cX6_together 167 = .ok (.iload_n 3, 1) := dk_29 (dk_at dksX6_together_7 4 rfl rfl)
theorem dX6_together_168 : decode cX6_together 168 = .ok (.aload_n 0, 1) := dk_42 (dk_at dksX6_together_7 5 rfl rfl)
theorem dX6_together_169 : decode cX6_together 169 = .ok (.getfield 31, 3) := dk_180 0 31 (dk_at dksX6_together_7 6 rfl rfl)
theorem dX6_together_172 : decode cX6_together 172 = .ok (.invokevirtual 183, 3) := dk_182 0 183 (dk_at dksX6_together_7 9 rfl rfl)
theorem dX6_together_175 : decode cX6_together 175 = .ok (.iadd, 1) := dk_96 (dk_at dksX6_together_7 12 rfl rfl)
theorem dX6_together_176 : decode cX6_together 176 = .ok (.aload_n 0, 1) := dk_42 (dk_at dksX6_together_7 13 rfl rfl)
theorem dX6_together_177 : decode cX6_together 177 = .ok (.iload_n 3, 1) := dk_29 (dk_at dksX6_together_7 14 rfl rfl)
theorem dX6_together_178 : decode cX6_together 178 = .ok (.aload_n 0, 1) := dk_42 (dk_at dksX6_together_7 15 rfl rfl)
theorem dX6_together_179 : decode cX6_together 179 = .ok (.getfield 34, 3) := dk_180 0 34 (dk_at dksX6_together_7 16 rfl rfl)
theorem dX6_together_182 : decode cX6_together 182 = .ok (.invokevirtual 183, 3) := dk_182 0 183 (dk_at dksX6_together_7 19 rfl rfl)
theorem dX6_together_185 : decode cX6_together 185 = .ok (.isub, 1) := dk_100 (dk_at dksX6_together_7 22 rfl rfl)
theorem dX6_together_186 : decode cX6_together 186 = .ok (.ireturn, 1) := dk_172 (dk_at dksX6_together_7 23 rfl rfl)
abbrev cX6_worth : ByteArray := prog_20_method_59_code
def yX6_worth : MethodName := ⟨RX6, "worth", "(III)I"⟩
def dkwX6_worth_2 : List UInt8 := [79, 21, 5, 42, 28, 42, 180, 0, 28, 182, 0, 183, 100, 172]
abbrev dktX6_worth_2 : List UInt8 := dkwX6_worth_2 ++ []
def dkwX6_worth_1 : List UInt8 := [182, 0, 63, 172, 42, 28, 42, 180, 0, 28, 182, 0, 183, 54, 5, 42, 180, 0, 28, 29, 92, 46, 4, 96]
abbrev dktX6_worth_1 : List UInt8 := dkwX6_worth_1 ++ dktX6_worth_2
def dkwX6_worth_0 : List UInt8 := [42, 27, 28, 29, 184, 0, 152, 16, 29, 182, 0, 176, 54, 4, 21, 4, 158, 0, 10, 42, 21, 4]
abbrev dktX6_worth_0 : List UInt8 := dkwX6_worth_0 ++ dktX6_worth_1
theorem dksX6_worth_0 : cX6_worth.data.toList.drop 0 = dktX6_worth_0 := by decide +kernel
theorem dksX6_worth_1 : cX6_worth.data.toList.drop 22 = dktX6_worth_1 := dk_seg dksX6_worth_0 22 rfl rfl
theorem dksX6_worth_2 : cX6_worth.data.toList.drop 46 = dktX6_worth_2 := dk_seg dksX6_worth_1 24 rfl rfl
theorem dX6_worth_0 : decode cX6_worth 0 = .ok (.aload_n 0, 1) := dk_42 (dk_at dksX6_worth_0 0 rfl rfl)
theorem dX6_worth_1 : decode cX6_worth 1 = .ok (.iload_n 1, 1) := dk_27 (dk_at dksX6_worth_0 1 rfl rfl)
theorem dX6_worth_2 : decode cX6_worth 2 = .ok (.iload_n 2, 1) := dk_28 (dk_at dksX6_worth_0 2 rfl rfl)
theorem dX6_worth_3 : decode cX6_worth 3 = .ok (.iload_n 3, 1) := dk_29 (dk_at dksX6_worth_0 3 rfl rfl)
theorem dX6_worth_4 : decode cX6_worth 4 = .ok (.invokestatic 152, 3) := dk_184 0 152 (dk_at dksX6_worth_0 4 rfl rfl)
theorem dX6_worth_7 : decode cX6_worth 7 = .ok (.bipush 29, 2) := dk_16 29 (dk_at dksX6_worth_0 7 rfl rfl)
theorem dX6_worth_9 : decode cX6_worth 9 = .ok (.invokevirtual 176, 3) := dk_182 0 176 (dk_at dksX6_worth_0 9 rfl rfl)
theorem dX6_worth_12 : decode cX6_worth 12 = .ok (.istore 4, 2) := dk_54 4 (dk_at dksX6_worth_0 12 rfl rfl)
theorem dX6_worth_14 : decode cX6_worth 14 = .ok (.iload 4, 2) := dk_21 4 (dk_at dksX6_worth_0 14 rfl rfl)
theorem dX6_worth_16 : decode cX6_worth 16 = .ok (.ifCond .le 10, 3) := dk_158 0 10 (dk_at dksX6_worth_0 16 rfl rfl)
theorem dX6_worth_19 : decode cX6_worth 19 = .ok (.aload_n 0, 1) := dk_42 (dk_at dksX6_worth_0 19 rfl rfl)
theorem dX6_worth_20 : decode cX6_worth 20 = .ok (.iload 4, 2) := dk_21 4 (dk_at dksX6_worth_0 20 rfl rfl)
theorem dX6_worth_22 : decode cX6_worth 22 = .ok (.invokevirtual 63, 3) := dk_182 0 63 (dk_at dksX6_worth_1 0 rfl rfl)
theorem dX6_worth_25 : decode cX6_worth 25 = .ok (.ireturn, 1) := dk_172 (dk_at dksX6_worth_1 3 rfl rfl)
theorem dX6_worth_26 : decode cX6_worth 26 = .ok (.aload_n 0, 1) := dk_42 (dk_at dksX6_worth_1 4 rfl rfl)
theorem dX6_worth_27 : decode cX6_worth 27 = .ok (.iload_n 2, 1) := dk_28 (dk_at dksX6_worth_1 5 rfl rfl)
theorem dX6_worth_28 : decode cX6_worth 28 = .ok (.aload_n 0, 1) := dk_42 (dk_at dksX6_worth_1 6 rfl rfl)
theorem dX6_worth_29 : decode cX6_worth 29 = .ok (.getfield 28, 3) := dk_180 0 28 (dk_at dksX6_worth_1 7 rfl rfl)
theorem dX6_worth_32 : decode cX6_worth 32 = .ok (.invokevirtual 183, 3) := dk_182 0 183 (dk_at dksX6_worth_1 10 rfl rfl)
theorem dX6_worth_35 : decode cX6_worth 35 = .ok (.istore 5, 2) := dk_54 5 (dk_at dksX6_worth_1 13 rfl rfl)
theorem dX6_worth_37 : decode cX6_worth 37 = .ok (.aload_n 0, 1) := dk_42 (dk_at dksX6_worth_1 15 rfl rfl)
theorem dX6_worth_38 : decode cX6_worth 38 = .ok (.getfield 28, 3) := dk_180 0 28 (dk_at dksX6_worth_1 16 rfl rfl)
theorem dX6_worth_41 : decode cX6_worth 41 = .ok (.iload_n 3, 1) := dk_29 (dk_at dksX6_worth_1 19 rfl rfl)
theorem dX6_worth_42 : decode cX6_worth 42 = .ok (.dup2, 1) := dk_92 (dk_at dksX6_worth_1 20 rfl rfl)
theorem dX6_worth_43 : decode cX6_worth 43 = .ok (.iaload, 1) := dk_46 (dk_at dksX6_worth_1 21 rfl rfl)
theorem dX6_worth_44 : decode cX6_worth 44 = .ok (.iconst 1, 1) := dk_4 (dk_at dksX6_worth_1 22 rfl rfl)
theorem dX6_worth_45 : decode cX6_worth 45 = .ok (.iadd, 1) := dk_96 (dk_at dksX6_worth_1 23 rfl rfl)
theorem dX6_worth_46 : decode cX6_worth 46 = .ok (.iastore, 1) := dk_79 (dk_at dksX6_worth_2 0 rfl rfl)
theorem dX6_worth_47 : decode cX6_worth 47 = .ok (.iload 5, 2) := dk_21 5 (dk_at dksX6_worth_2 1 rfl rfl)
theorem dX6_worth_49 : decode cX6_worth 49 = .ok (.aload_n 0, 1) := dk_42 (dk_at dksX6_worth_2 3 rfl rfl)
theorem dX6_worth_50 : decode cX6_worth 50 = .ok (.iload_n 2, 1) := dk_28 (dk_at dksX6_worth_2 4 rfl rfl)
theorem dX6_worth_51 : decode cX6_worth 51 = .ok (.aload_n 0, 1) := dk_42 (dk_at dksX6_worth_2 5 rfl rfl)
theorem dX6_worth_52 : decode cX6_worth 52 = .ok (.getfield 28, 3) := dk_180 0 28 (dk_at dksX6_worth_2 6 rfl rfl)
theorem dX6_worth_55 : decode cX6_worth 55 = .ok (.invokevirtual 183, 3) := dk_182 0 183 (dk_at dksX6_worth_2 9 rfl rfl)
theorem dX6_worth_58 : decode cX6_worth 58 = .ok (.isub, 1) := dk_100 (dk_at dksX6_worth_2 12 rfl rfl)
theorem dX6_worth_59 : decode cX6_worth 59 = .ok (.ireturn, 1) := dk_172 (dk_at dksX6_worth_2 13 rfl rfl)
abbrev cX6_dearer : ByteArray := prog_20_method_60_code
def yX6_dearer : MethodName := ⟨RX6, "dearer", "(III)I"⟩
def dkwX6_dearer_6 : List UInt8 := [180, 0, 7, 16, 8, 21, 7, 96, 21, 8, 79, 132, 7, 1, 167, 255, 136, 21, 5, 172]
abbrev dktX6_dearer_6 : List UInt8 := dkwX6_dearer_6 ++ []
def dkwX6_dearer_5 : List UInt8 := [164, 0, 17, 16, 10, 21, 7, 104, 21, 9, 96, 54, 5, 21, 10, 54, 6, 132, 9, 1, 167, 255, 176, 42]
abbrev dktX6_dearer_5 : List UInt8 := dkwX6_dearer_5 ++ dktX6_dearer_6
def dkwX6_dearer_4 : List UInt8 := [182, 0, 209, 42, 28, 42, 180, 0, 37, 182, 0, 183, 54, 10, 21, 5, 2, 159, 0, 10, 21, 10, 21, 6]
abbrev dktX6_dearer_4 : List UInt8 := dkwX6_dearer_4 ++ dktX6_dearer_5
def dkwX6_dearer_3 : List UInt8 := [17, 39, 15, 163, 0, 68, 42, 180, 0, 7, 16, 8, 21, 7, 96, 21, 8, 21, 9, 96, 79, 42, 28, 29]
abbrev dktX6_dearer_3 : List UInt8 := dkwX6_dearer_3 ++ dktX6_dearer_4
def dkwX6_dearer_2 : List UInt8 := [16, 8, 21, 7, 96, 46, 54, 8, 3, 54, 9, 21, 9, 16, 10, 162, 0, 79, 21, 8, 21, 9, 96]
abbrev dktX6_dearer_2 : List UInt8 := dkwX6_dearer_2 ++ dktX6_dearer_3
def dkwX6_dearer_1 : List UInt8 := [182, 0, 63, 172, 2, 54, 5, 3, 54, 6, 3, 54, 7, 21, 7, 16, 8, 162, 0, 119, 42, 180, 0, 7]
abbrev dktX6_dearer_1 : List UInt8 := dkwX6_dearer_1 ++ dktX6_dearer_2
def dkwX6_dearer_0 : List UInt8 := [42, 27, 28, 29, 3, 5, 184, 0, 59, 16, 30, 182, 0, 176, 54, 4, 21, 4, 158, 0, 10, 42, 21, 4]
abbrev dktX6_dearer_0 : List UInt8 := dkwX6_dearer_0 ++ dktX6_dearer_1
theorem dksX6_dearer_0 : cX6_dearer.data.toList.drop 0 = dktX6_dearer_0 := by decide +kernel
theorem dksX6_dearer_1 : cX6_dearer.data.toList.drop 24 = dktX6_dearer_1 := dk_seg dksX6_dearer_0 24 rfl rfl
theorem dksX6_dearer_2 : cX6_dearer.data.toList.drop 48 = dktX6_dearer_2 := dk_seg dksX6_dearer_1 24 rfl rfl
theorem dksX6_dearer_3 : cX6_dearer.data.toList.drop 71 = dktX6_dearer_3 := dk_seg dksX6_dearer_2 23 rfl rfl
theorem dksX6_dearer_4 : cX6_dearer.data.toList.drop 95 = dktX6_dearer_4 := dk_seg dksX6_dearer_3 24 rfl rfl
theorem dksX6_dearer_5 : cX6_dearer.data.toList.drop 119 = dktX6_dearer_5 := dk_seg dksX6_dearer_4 24 rfl rfl
theorem dksX6_dearer_6 : cX6_dearer.data.toList.drop 143 = dktX6_dearer_6 := dk_seg dksX6_dearer_5 24 rfl rfl
theorem dX6_dearer_0 : decode cX6_dearer 0 = .ok (.aload_n 0, 1) := dk_42 (dk_at dksX6_dearer_0 0 rfl rfl)
theorem dX6_dearer_1 : decode cX6_dearer 1 = .ok (.iload_n 1, 1) := dk_27 (dk_at dksX6_dearer_0 1 rfl rfl)
theorem dX6_dearer_2 : decode cX6_dearer 2 = .ok (.iload_n 2, 1) := dk_28 (dk_at dksX6_dearer_0 2 rfl rfl)
theorem dX6_dearer_3 : decode cX6_dearer 3 = .ok (.iload_n 3, 1) := dk_29 (dk_at dksX6_dearer_0 3 rfl rfl)
theorem dX6_dearer_4 : decode cX6_dearer 4 = .ok (.iconst 0, 1) := dk_3 (dk_at dksX6_dearer_0 4 rfl rfl)
theorem dX6_dearer_5 : decode cX6_dearer 5 = .ok (.iconst 2, 1) := dk_5 (dk_at dksX6_dearer_0 5 rfl rfl)
theorem dX6_dearer_6 : decode cX6_dearer 6 = .ok (.invokestatic 59, 3) := dk_184 0 59 (dk_at dksX6_dearer_0 6 rfl rfl)
theorem dX6_dearer_9 : decode cX6_dearer 9 = .ok (.bipush 30, 2) := dk_16 30 (dk_at dksX6_dearer_0 9 rfl rfl)
theorem dX6_dearer_11 : decode cX6_dearer 11 = .ok (.invokevirtual 176, 3) := dk_182 0 176 (dk_at dksX6_dearer_0 11 rfl rfl)
theorem dX6_dearer_14 : decode cX6_dearer 14 = .ok (.istore 4, 2) := dk_54 4 (dk_at dksX6_dearer_0 14 rfl rfl)
theorem dX6_dearer_16 : decode cX6_dearer 16 = .ok (.iload 4, 2) := dk_21 4 (dk_at dksX6_dearer_0 16 rfl rfl)
theorem dX6_dearer_18 : decode cX6_dearer 18 = .ok (.ifCond .le 10, 3) := dk_158 0 10 (dk_at dksX6_dearer_0 18 rfl rfl)
theorem dX6_dearer_21 : decode cX6_dearer 21 = .ok (.aload_n 0, 1) := dk_42 (dk_at dksX6_dearer_0 21 rfl rfl)
theorem dX6_dearer_22 : decode cX6_dearer 22 = .ok (.iload 4, 2) := dk_21 4 (dk_at dksX6_dearer_0 22 rfl rfl)
theorem dX6_dearer_24 : decode cX6_dearer 24 = .ok (.invokevirtual 63, 3) := dk_182 0 63 (dk_at dksX6_dearer_1 0 rfl rfl)
theorem dX6_dearer_27 : decode cX6_dearer 27 = .ok (.ireturn, 1) := dk_172 (dk_at dksX6_dearer_1 3 rfl rfl)
theorem dX6_dearer_28 : decode cX6_dearer 28 = .ok (.iconst (-1), 1) := dk_2 (dk_at dksX6_dearer_1 4 rfl rfl)
theorem dX6_dearer_29 : decode cX6_dearer 29 = .ok (.istore 5, 2) := dk_54 5 (dk_at dksX6_dearer_1 5 rfl rfl)
theorem dX6_dearer_31 : decode cX6_dearer 31 = .ok (.iconst 0, 1) := dk_3 (dk_at dksX6_dearer_1 7 rfl rfl)
theorem dX6_dearer_32 : decode cX6_dearer 32 = .ok (.istore 6, 2) := dk_54 6 (dk_at dksX6_dearer_1 8 rfl rfl)
theorem dX6_dearer_34 : decode cX6_dearer 34 = .ok (.iconst 0, 1) := dk_3 (dk_at dksX6_dearer_1 10 rfl rfl)
theorem dX6_dearer_35 : decode cX6_dearer 35 = .ok (.istore 7, 2) := dk_54 7 (dk_at dksX6_dearer_1 11 rfl rfl)
theorem dX6_dearer_37 : decode cX6_dearer 37 = .ok (.iload 7, 2) := dk_21 7 (dk_at dksX6_dearer_1 13 rfl rfl)
theorem dX6_dearer_39 : decode cX6_dearer 39 = .ok (.bipush 8, 2) := dk_16 8 (dk_at dksX6_dearer_1 15 rfl rfl)
theorem dX6_dearer_41 : decode cX6_dearer 41 = .ok (.if_icmp .ge 119, 3) := dk_162 0 119 (dk_at dksX6_dearer_1 17 rfl rfl)
theorem dX6_dearer_44 : decode cX6_dearer 44 = .ok (.aload_n 0, 1) := dk_42 (dk_at dksX6_dearer_1 20 rfl rfl)
theorem dX6_dearer_45 : decode cX6_dearer 45 = .ok (.getfield 7, 3) := dk_180 0 7 (dk_at dksX6_dearer_1 21 rfl rfl)
theorem dX6_dearer_48 : decode cX6_dearer 48 = .ok (.bipush 8, 2) := dk_16 8 (dk_at dksX6_dearer_2 0 rfl rfl)
theorem dX6_dearer_50 : decode cX6_dearer 50 = .ok (.iload 7, 2) := dk_21 7 (dk_at dksX6_dearer_2 2 rfl rfl)
theorem dX6_dearer_52 : decode cX6_dearer 52 = .ok (.iadd, 1) := dk_96 (dk_at dksX6_dearer_2 4 rfl rfl)
theorem dX6_dearer_53 : decode cX6_dearer 53 = .ok (.iaload, 1) := dk_46 (dk_at dksX6_dearer_2 5 rfl rfl)
theorem dX6_dearer_54 : decode cX6_dearer 54 = .ok (.istore 8, 2) := dk_54 8 (dk_at dksX6_dearer_2 6 rfl rfl)
theorem dX6_dearer_56 : decode cX6_dearer 56 = .ok (.iconst 0, 1) := dk_3 (dk_at dksX6_dearer_2 8 rfl rfl)
theorem dX6_dearer_57 : decode cX6_dearer 57 = .ok (.istore 9, 2) := dk_54 9 (dk_at dksX6_dearer_2 9 rfl rfl)
theorem dX6_dearer_59 : decode cX6_dearer 59 = .ok (.iload 9, 2) := dk_21 9 (dk_at dksX6_dearer_2 11 rfl rfl)
theorem dX6_dearer_61 : decode cX6_dearer 61 = .ok (.bipush 10, 2) := dk_16 10 (dk_at dksX6_dearer_2 13 rfl rfl)
theorem dX6_dearer_63 : decode cX6_dearer 63 = .ok (.if_icmp .ge 79, 3) := dk_162 0 79 (dk_at dksX6_dearer_2 15 rfl rfl)
theorem dX6_dearer_66 : decode cX6_dearer 66 = .ok (.iload 8, 2) := dk_21 8 (dk_at dksX6_dearer_2 18 rfl rfl)
theorem dX6_dearer_68 : decode cX6_dearer 68 = .ok (.iload 9, 2) := dk_21 9 (dk_at dksX6_dearer_2 20 rfl rfl)
theorem dX6_dearer_70 : decode cX6_dearer 70 = .ok (.iadd, 1) := dk_96 (dk_at dksX6_dearer_2 22 rfl rfl)
theorem dX6_dearer_71 : decode cX6_dearer 71 = .ok (.sipush 9999, 3) := dk_17 39 15 (dk_at dksX6_dearer_3 0 rfl rfl)
theorem dX6_dearer_74 : decode cX6_dearer 74 = .ok (.if_icmp .gt 68, 3) := dk_163 0 68 (dk_at dksX6_dearer_3 3 rfl rfl)
theorem dX6_dearer_77 : decode cX6_dearer 77 = .ok (.aload_n 0, 1) := dk_42 (dk_at dksX6_dearer_3 6 rfl rfl)
theorem dX6_dearer_78 : decode cX6_dearer 78 = .ok (.getfield 7, 3) := dk_180 0 7 (dk_at dksX6_dearer_3 7 rfl rfl)
theorem dX6_dearer_81 : decode cX6_dearer 81 = .ok (.bipush 8, 2) := dk_16 8 (dk_at dksX6_dearer_3 10 rfl rfl)
theorem dX6_dearer_83 : decode cX6_dearer 83 = .ok (.iload 7, 2) := dk_21 7 (dk_at dksX6_dearer_3 12 rfl rfl)
theorem dX6_dearer_85 : decode cX6_dearer 85 = .ok (.iadd, 1) := dk_96 (dk_at dksX6_dearer_3 14 rfl rfl)
theorem dX6_dearer_86 : decode cX6_dearer 86 = .ok (.iload 8, 2) := dk_21 8 (dk_at dksX6_dearer_3 15 rfl rfl)
theorem dX6_dearer_88 : decode cX6_dearer 88 = .ok (.iload 9, 2) := dk_21 9 (dk_at dksX6_dearer_3 17 rfl rfl)
theorem dX6_dearer_90 : decode cX6_dearer 90 = .ok (.iadd, 1) := dk_96 (dk_at dksX6_dearer_3 19 rfl rfl)
theorem dX6_dearer_91 : decode cX6_dearer 91 = .ok (.iastore, 1) := dk_79 (dk_at dksX6_dearer_3 20 rfl rfl)
theorem dX6_dearer_92 : decode cX6_dearer 92 = .ok (.aload_n 0, 1) := dk_42 (dk_at dksX6_dearer_3 21 rfl rfl)
theorem dX6_dearer_93 : decode cX6_dearer 93 = .ok (.iload_n 2, 1) := dk_28 (dk_at dksX6_dearer_3 22 rfl rfl)
theorem dX6_dearer_94 : decode cX6_dearer 94 = .ok (.iload_n 3, 1) := dk_29 (dk_at dksX6_dearer_3 23 rfl rfl)
theorem dX6_dearer_95 : decode cX6_dearer 95 = .ok (.invokevirtual 209, 3) := dk_182 0 209 (dk_at dksX6_dearer_4 0 rfl rfl)
theorem dX6_dearer_98 : decode cX6_dearer 98 = .ok (.aload_n 0, 1) := dk_42 (dk_at dksX6_dearer_4 3 rfl rfl)
theorem dX6_dearer_99 : decode cX6_dearer 99 = .ok (.iload_n 2, 1) := dk_28 (dk_at dksX6_dearer_4 4 rfl rfl)
theorem dX6_dearer_100 : decode cX6_dearer 100 = .ok (.aload_n 0, 1) := dk_42 (dk_at dksX6_dearer_4 5 rfl rfl)
theorem dX6_dearer_101 : decode cX6_dearer 101 = .ok (.getfield 37, 3) := dk_180 0 37 (dk_at dksX6_dearer_4 6 rfl rfl)
theorem dX6_dearer_104 : decode cX6_dearer 104 = .ok (.invokevirtual 183, 3) := dk_182 0 183 (dk_at dksX6_dearer_4 9 rfl rfl)
theorem dX6_dearer_107 : decode cX6_dearer 107 = .ok (.istore 10, 2) := dk_54 10 (dk_at dksX6_dearer_4 12 rfl rfl)
theorem dX6_dearer_109 : decode cX6_dearer 109 = .ok (.iload 5, 2) := dk_21 5 (dk_at dksX6_dearer_4 14 rfl rfl)
theorem dX6_dearer_111 : decode cX6_dearer 111 = .ok (.iconst (-1), 1) := dk_2 (dk_at dksX6_dearer_4 16 rfl rfl)
theorem dX6_dearer_112 : decode cX6_dearer 112 = .ok (.if_icmp .eq 10, 3) := dk_159 0 10 (dk_at dksX6_dearer_4 17 rfl rfl)
theorem dX6_dearer_115 : decode cX6_dearer 115 = .ok (.iload 10, 2) := dk_21 10 (dk_at dksX6_dearer_4 20 rfl rfl)
theorem dX6_dearer_117 : decode cX6_dearer 117 = .ok (.iload 6, 2) := dk_21 6 (dk_at dksX6_dearer_4 22 rfl rfl)
theorem dX6_dearer_119 : decode cX6_dearer 119 = .ok (.if_icmp .le 17, 3) := dk_164 0 17 (dk_at dksX6_dearer_5 0 rfl rfl)
theorem dX6_dearer_122 : decode cX6_dearer 122 = .ok (.bipush 10, 2) := dk_16 10 (dk_at dksX6_dearer_5 3 rfl rfl)
theorem dX6_dearer_124 : decode cX6_dearer 124 = .ok (.iload 7, 2) := dk_21 7 (dk_at dksX6_dearer_5 5 rfl rfl)
theorem dX6_dearer_126 : decode cX6_dearer 126 = .ok (.imul, 1) := dk_104 (dk_at dksX6_dearer_5 7 rfl rfl)
theorem dX6_dearer_127 : decode cX6_dearer 127 = .ok (.iload 9, 2) := dk_21 9 (dk_at dksX6_dearer_5 8 rfl rfl)
theorem dX6_dearer_129 : decode cX6_dearer 129 = .ok (.iadd, 1) := dk_96 (dk_at dksX6_dearer_5 10 rfl rfl)
theorem dX6_dearer_130 : decode cX6_dearer 130 = .ok (.istore 5, 2) := dk_54 5 (dk_at dksX6_dearer_5 11 rfl rfl)
theorem dX6_dearer_132 : decode cX6_dearer 132 = .ok (.iload 10, 2) := dk_21 10 (dk_at dksX6_dearer_5 13 rfl rfl)
theorem dX6_dearer_134 : decode cX6_dearer 134 = .ok (.istore 6, 2) := dk_54 6 (dk_at dksX6_dearer_5 15 rfl rfl)
theorem dX6_dearer_136 : decode cX6_dearer 136 = .ok (.iinc 9 1, 3) := dk_132 9 1 (dk_at dksX6_dearer_5 17 rfl rfl)
theorem dX6_dearer_139 : decode cX6_dearer 139 = .ok (.goto (-80), 3) := dk_167 255 176 (dk_at dksX6_dearer_5 20 rfl rfl)
theorem dX6_dearer_142 : decode cX6_dearer 142 = .ok (.aload_n 0, 1) := dk_42 (dk_at dksX6_dearer_5 23 rfl rfl)
theorem dX6_dearer_143 : decode cX6_dearer 143 = .ok (.getfield 7, 3) := dk_180 0 7 (dk_at dksX6_dearer_6 0 rfl rfl)
theorem dX6_dearer_146 : decode cX6_dearer 146 = .ok (.bipush 8, 2) := dk_16 8 (dk_at dksX6_dearer_6 3 rfl rfl)
theorem dX6_dearer_148 : decode cX6_dearer 148 = .ok (.iload 7, 2) := dk_21 7 (dk_at dksX6_dearer_6 5 rfl rfl)
theorem dX6_dearer_150 : decode cX6_dearer 150 = .ok (.iadd, 1) := dk_96 (dk_at dksX6_dearer_6 7 rfl rfl)
theorem dX6_dearer_151 : decode cX6_dearer 151 = .ok (.iload 8, 2) := dk_21 8 (dk_at dksX6_dearer_6 8 rfl rfl)
theorem dX6_dearer_153 : decode cX6_dearer 153 = .ok (.iastore, 1) := dk_79 (dk_at dksX6_dearer_6 10 rfl rfl)
theorem dX6_dearer_154 : decode cX6_dearer 154 = .ok (.iinc 7 1, 3) := dk_132 7 1 (dk_at dksX6_dearer_6 11 rfl rfl)
theorem dX6_dearer_157 : decode cX6_dearer 157 = .ok (.goto (-120), 3) := dk_167 255 136 (dk_at dksX6_dearer_6 14 rfl rfl)
theorem dX6_dearer_160 : decode cX6_dearer 160 = .ok (.iload 5, 2) := dk_21 5 (dk_at dksX6_dearer_6 17 rfl rfl)
theorem dX6_dearer_162 : decode cX6_dearer 162 = .ok (.ireturn, 1) := dk_172 (dk_at dksX6_dearer_6 19 rfl rfl)
abbrev cX6_nines : ByteArray := prog_20_method_63_code
def yX6_nines : MethodName := ⟨RX6, "nines", "(I)I"⟩
def dkwX6_nines_3 : List UInt8 := [172, 42, 27, 2, 182, 0, 230, 42, 180, 0, 218, 172]
abbrev dktX6_nines_3 : List UInt8 := dkwX6_nines_3 ++ []
def dkwX6_nines_2 : List UInt8 := [154, 0, 7, 4, 167, 0, 4, 3, 61, 132, 3, 1, 167, 255, 222, 28, 153, 0, 7, 4, 167, 0, 4, 3]
abbrev dktX6_nines_2 : List UInt8 := dkwX6_nines_2 ++ dktX6_nines_3
def dkwX6_nines_1 : List UInt8 := [29, 16, 8, 162, 0, 34, 28, 153, 0, 22, 42, 180, 0, 7, 16, 8, 29, 96, 46, 16, 9, 112]
abbrev dktX6_nines_1 : List UInt8 := dkwX6_nines_1 ++ dktX6_nines_2
def dkwX6_nines_0 : List UInt8 := [27, 2, 6, 184, 0, 59, 154, 0, 9, 42, 4, 182, 0, 63, 172, 27, 2, 160, 0, 54, 4, 61, 3, 62]
abbrev dktX6_nines_0 : List UInt8 := dkwX6_nines_0 ++ dktX6_nines_1
theorem dksX6_nines_0 : cX6_nines.data.toList.drop 0 = dktX6_nines_0 := by decide +kernel
theorem dksX6_nines_1 : cX6_nines.data.toList.drop 24 = dktX6_nines_1 := dk_seg dksX6_nines_0 24 rfl rfl
theorem dksX6_nines_2 : cX6_nines.data.toList.drop 46 = dktX6_nines_2 := dk_seg dksX6_nines_1 22 rfl rfl
theorem dksX6_nines_3 : cX6_nines.data.toList.drop 70 = dktX6_nines_3 := dk_seg dksX6_nines_2 24 rfl rfl
theorem dX6_nines_0 : decode cX6_nines 0 = .ok (.iload_n 1, 1) := dk_27 (dk_at dksX6_nines_0 0 rfl rfl)
theorem dX6_nines_1 : decode cX6_nines 1 = .ok (.iconst (-1), 1) := dk_2 (dk_at dksX6_nines_0 1 rfl rfl)
theorem dX6_nines_2 : decode cX6_nines 2 = .ok (.iconst 3, 1) := dk_6 (dk_at dksX6_nines_0 2 rfl rfl)
theorem dX6_nines_3 : decode cX6_nines 3 = .ok (.invokestatic 59, 3) := dk_184 0 59 (dk_at dksX6_nines_0 3 rfl rfl)
theorem dX6_nines_6 : decode cX6_nines 6 = .ok (.ifCond .ne 9, 3) := dk_154 0 9 (dk_at dksX6_nines_0 6 rfl rfl)
theorem dX6_nines_9 : decode cX6_nines 9 = .ok (.aload_n 0, 1) := dk_42 (dk_at dksX6_nines_0 9 rfl rfl)
theorem dX6_nines_10 : decode cX6_nines 10 = .ok (.iconst 1, 1) := dk_4 (dk_at dksX6_nines_0 10 rfl rfl)
theorem dX6_nines_11 : decode cX6_nines 11 = .ok (.invokevirtual 63, 3) := dk_182 0 63 (dk_at dksX6_nines_0 11 rfl rfl)
theorem dX6_nines_14 : decode cX6_nines 14 = .ok (.ireturn, 1) := dk_172 (dk_at dksX6_nines_0 14 rfl rfl)
theorem dX6_nines_15 : decode cX6_nines 15 = .ok (.iload_n 1, 1) := dk_27 (dk_at dksX6_nines_0 15 rfl rfl)
theorem dX6_nines_16 : decode cX6_nines 16 = .ok (.iconst (-1), 1) := dk_2 (dk_at dksX6_nines_0 16 rfl rfl)
theorem dX6_nines_17 : decode cX6_nines 17 = .ok (.if_icmp .ne 54, 3) := dk_160 0 54 (dk_at dksX6_nines_0 17 rfl rfl)
theorem dX6_nines_20 : decode cX6_nines 20 = .ok (.iconst 1, 1) := dk_4 (dk_at dksX6_nines_0 20 rfl rfl)
theorem dX6_nines_21 : decode cX6_nines 21 = .ok (.istore_n 2, 1) := dk_61 (dk_at dksX6_nines_0 21 rfl rfl)
theorem dX6_nines_22 : decode cX6_nines 22 = .ok (.iconst 0, 1) := dk_3 (dk_at dksX6_nines_0 22 rfl rfl)
theorem dX6_nines_23 : decode cX6_nines 23 = .ok (.istore_n 3, 1) := dk_62 (dk_at dksX6_nines_0 23 rfl rfl)
theorem dX6_nines_24 : decode cX6_nines 24 = .ok (.iload_n 3, 1) := dk_29 (dk_at dksX6_nines_1 0 rfl rfl)
theorem dX6_nines_25 : decode cX6_nines 25 = .ok (.bipush 8, 2) := dk_16 8 (dk_at dksX6_nines_1 1 rfl rfl)
theorem dX6_nines_27 : decode cX6_nines 27 = .ok (.if_icmp .ge 34, 3) := dk_162 0 34 (dk_at dksX6_nines_1 3 rfl rfl)
theorem dX6_nines_30 : decode cX6_nines 30 = .ok (.iload_n 2, 1) := dk_28 (dk_at dksX6_nines_1 6 rfl rfl)
theorem dX6_nines_31 : decode cX6_nines 31 = .ok (.ifCond .eq 22, 3) := dk_153 0 22 (dk_at dksX6_nines_1 7 rfl rfl)
theorem dX6_nines_34 : decode cX6_nines 34 = .ok (.aload_n 0, 1) := dk_42 (dk_at dksX6_nines_1 10 rfl rfl)
theorem dX6_nines_35 : decode cX6_nines 35 = .ok (.getfield 7, 3) := dk_180 0 7 (dk_at dksX6_nines_1 11 rfl rfl)
theorem dX6_nines_38 : decode cX6_nines 38 = .ok (.bipush 8, 2) := dk_16 8 (dk_at dksX6_nines_1 14 rfl rfl)
theorem dX6_nines_40 : decode cX6_nines 40 = .ok (.iload_n 3, 1) := dk_29 (dk_at dksX6_nines_1 16 rfl rfl)
theorem dX6_nines_41 : decode cX6_nines 41 = .ok (.iadd, 1) := dk_96 (dk_at dksX6_nines_1 17 rfl rfl)
theorem dX6_nines_42 : decode cX6_nines 42 = .ok (.iaload, 1) := dk_46 (dk_at dksX6_nines_1 18 rfl rfl)
theorem dX6_nines_43 : decode cX6_nines 43 = .ok (.bipush 9, 2) := dk_16 9 (dk_at dksX6_nines_1 19 rfl rfl)
theorem dX6_nines_45 : decode cX6_nines 45 = .ok (.irem, 1) := dk_112 (dk_at dksX6_nines_1 21 rfl rfl)
theorem dX6_nines_46 : decode cX6_nines 46 = .ok (.ifCond .ne 7, 3) := dk_154 0 7 (dk_at dksX6_nines_2 0 rfl rfl)
theorem dX6_nines_49 : decode cX6_nines 49 = .ok (.iconst 1, 1) := dk_4 (dk_at dksX6_nines_2 3 rfl rfl)
theorem dX6_nines_50 : decode cX6_nines 50 = .ok (.goto 4, 3) := dk_167 0 4 (dk_at dksX6_nines_2 4 rfl rfl)
theorem dX6_nines_53 : decode cX6_nines 53 = .ok (.iconst 0, 1) := dk_3 (dk_at dksX6_nines_2 7 rfl rfl)
theorem dX6_nines_54 : decode cX6_nines 54 = .ok (.istore_n 2, 1) := dk_61 (dk_at dksX6_nines_2 8 rfl rfl)
theorem dX6_nines_55 : decode cX6_nines 55 = .ok (.iinc 3 1, 3) := dk_132 3 1 (dk_at dksX6_nines_2 9 rfl rfl)
theorem dX6_nines_58 : decode cX6_nines 58 = .ok (.goto (-34), 3) := dk_167 255 222 (dk_at dksX6_nines_2 12 rfl rfl)
theorem dX6_nines_61 : decode cX6_nines 61 = .ok (.iload_n 2, 1) := dk_28 (dk_at dksX6_nines_2 15 rfl rfl)
theorem dX6_nines_62 : decode cX6_nines 62 = .ok (.ifCond .eq 7, 3) := dk_153 0 7 (dk_at dksX6_nines_2 16 rfl rfl)
theorem dX6_nines_65 : decode cX6_nines 65 = .ok (.iconst 1, 1) := dk_4 (dk_at dksX6_nines_2 19 rfl rfl)
theorem dX6_nines_66 : decode cX6_nines 66 = .ok (.goto 4, 3) := dk_167 0 4 (dk_at dksX6_nines_2 20 rfl rfl)
theorem dX6_nines_69 : decode cX6_nines 69 = .ok (.iconst 0, 1) := dk_3 (dk_at dksX6_nines_2 23 rfl rfl)
theorem dX6_nines_70 : decode cX6_nines 70 = .ok (.ireturn, 1) := dk_172 (dk_at dksX6_nines_3 0 rfl rfl)
theorem dX6_nines_71 : decode cX6_nines 71 = .ok (.aload_n 0, 1) := dk_42 (dk_at dksX6_nines_3 1 rfl rfl)
theorem dX6_nines_72 : decode cX6_nines 72 = .ok (.iload_n 1, 1) := dk_27 (dk_at dksX6_nines_3 2 rfl rfl)
theorem dX6_nines_73 : decode cX6_nines 73 = .ok (.iconst (-1), 1) := dk_2 (dk_at dksX6_nines_3 3 rfl rfl)
theorem dX6_nines_74 : decode cX6_nines 74 = .ok (.invokevirtual 230, 3) := dk_182 0 230 (dk_at dksX6_nines_3 4 rfl rfl)
theorem dX6_nines_77 : decode cX6_nines 77 = .ok (.aload_n 0, 1) := dk_42 (dk_at dksX6_nines_3 7 rfl rfl)
theorem dX6_nines_78 : decode cX6_nines 78 = .ok (.getfield 218, 3) := dk_180 0 218 (dk_at dksX6_nines_3 8 rfl rfl)
theorem dX6_nines_81 : decode cX6_nines 81 = .ok (.ireturn, 1) := dk_172 (dk_at dksX6_nines_3 11 rfl rfl)
abbrev cX6_allSmall : ByteArray := prog_20_method_62_code
def yX6_allSmall : MethodName := ⟨RX6, "allSmall", "(II)V"⟩
def dkwX6_allSmall_0 : List UInt8 := [42, 3, 181, 0, 221, 42, 2, 181, 0, 224, 42, 2, 181, 0, 218, 42, 27, 3, 6, 28, 182, 0, 227, 177]
abbrev dktX6_allSmall_0 : List UInt8 := dkwX6_allSmall_0 ++ []
theorem dksX6_allSmall_0 : cX6_allSmall.data.toList.drop 0 = dktX6_allSmall_0 := by decide +kernel
theorem dX6_allSmall_0 : decode cX6_allSmall 0 = .ok (.aload_n 0, 1) := dk_42 (dk_at dksX6_allSmall_0 0 rfl rfl)
theorem dX6_allSmall_1 : decode cX6_allSmall 1 = .ok (.iconst 0, 1) := dk_3 (dk_at dksX6_allSmall_0 1 rfl rfl)
theorem dX6_allSmall_2 : decode cX6_allSmall 2 = .ok (.putfield 221, 3) := dk_181 0 221 (dk_at dksX6_allSmall_0 2 rfl rfl)
theorem dX6_allSmall_5 : decode cX6_allSmall 5 = .ok (.aload_n 0, 1) := dk_42 (dk_at dksX6_allSmall_0 5 rfl rfl)
theorem dX6_allSmall_6 : decode cX6_allSmall 6 = .ok (.iconst (-1), 1) := dk_2 (dk_at dksX6_allSmall_0 6 rfl rfl)
theorem dX6_allSmall_7 : decode cX6_allSmall 7 = .ok (.putfield 224, 3) := dk_181 0 224 (dk_at dksX6_allSmall_0 7 rfl rfl)
theorem dX6_allSmall_10 : decode cX6_allSmall 10 = .ok (.aload_n 0, 1) := dk_42 (dk_at dksX6_allSmall_0 10 rfl rfl)
theorem dX6_allSmall_11 : decode cX6_allSmall 11 = .ok (.iconst (-1), 1) := dk_2 (dk_at dksX6_allSmall_0 11 rfl rfl)
theorem dX6_allSmall_12 : decode cX6_allSmall 12 = .ok (.putfield 218, 3) := dk_181 0 218 (dk_at dksX6_allSmall_0 12 rfl rfl)
theorem dX6_allSmall_15 : decode cX6_allSmall 15 = .ok (.aload_n 0, 1) := dk_42 (dk_at dksX6_allSmall_0 15 rfl rfl)
theorem dX6_allSmall_16 : decode cX6_allSmall 16 = .ok (.iload_n 1, 1) := dk_27 (dk_at dksX6_allSmall_0 16 rfl rfl)
theorem dX6_allSmall_17 : decode cX6_allSmall 17 = .ok (.iconst 0, 1) := dk_3 (dk_at dksX6_allSmall_0 17 rfl rfl)
theorem dX6_allSmall_18 : decode cX6_allSmall 18 = .ok (.iconst 3, 1) := dk_6 (dk_at dksX6_allSmall_0 18 rfl rfl)
theorem dX6_allSmall_19 : decode cX6_allSmall 19 = .ok (.iload_n 2, 1) := dk_28 (dk_at dksX6_allSmall_0 19 rfl rfl)
theorem dX6_allSmall_20 : decode cX6_allSmall 20 = .ok (.invokevirtual 227, 3) := dk_182 0 227 (dk_at dksX6_allSmall_0 20 rfl rfl)
theorem dX6_allSmall_23 : decode cX6_allSmall 23 = .ok (.return_, 1) := dk_177 (dk_at dksX6_allSmall_0 23 rfl rfl)
abbrev cX6_small : ByteArray := prog_20_method_61_code
def yX6_small : MethodName := ⟨RX6, "small", "(IIII)V"⟩
def dkwX6_small_7 : List UInt8 := [21, 5, 100, 21, 4, 182, 0, 227, 132, 5, 1, 167, 255, 225, 42, 180, 0, 34, 28, 3, 79, 177]
abbrev dktX6_small_7 : List UInt8 := dkwX6_small_7 ++ []
def dkwX6_small_6 : List UInt8 := [177, 3, 54, 5, 21, 5, 29, 163, 0, 31, 42, 180, 0, 34, 28, 21, 5, 79, 42, 27, 28, 4, 96, 29]
abbrev dktX6_small_6 : List UInt8 := dkwX6_small_6 ++ dktX6_small_7
def dkwX6_small_5 : List UInt8 := [159, 0, 12, 21, 6, 42, 180, 0, 224, 162, 0, 8, 21, 6, 167, 0, 7, 42, 180, 0, 224, 181, 0, 224]
abbrev dktX6_small_5 : List UInt8 := dkwX6_small_5 ++ dktX6_small_6
def dkwX6_small_4 : List UInt8 := [132, 7, 1, 167, 255, 231, 42, 89, 180, 0, 221, 4, 96, 181, 0, 221, 42, 42, 180, 0, 224, 2]
abbrev dktX6_small_4 : List UInt8 := dkwX6_small_4 ++ dktX6_small_5
def dkwX6_small_3 : List UInt8 := [54, 7, 21, 7, 16, 8, 162, 0, 24, 16, 10, 21, 6, 104, 42, 180, 0, 34, 21, 7, 46, 96, 54, 6]
abbrev dktX6_small_3 : List UInt8 := dkwX6_small_3 ++ dktX6_small_4
def dkwX6_small_2 : List UInt8 := [21, 5, 167, 0, 7, 42, 180, 0, 218, 181, 0, 218, 21, 5, 21, 4, 160, 0, 77, 3, 54, 6, 3]
abbrev dktX6_small_2 : List UInt8 := dkwX6_small_2 ++ dktX6_small_3
def dkwX6_small_1 : List UInt8 := [182, 0, 183, 54, 5, 42, 42, 180, 0, 218, 2, 159, 0, 12, 21, 5, 42, 180, 0, 218, 162, 0, 8]
abbrev dktX6_small_1 : List UInt8 := dkwX6_small_1 ++ dktX6_small_2
def dkwX6_small_0 : List UInt8 := [28, 16, 8, 160, 0, 136, 42, 180, 0, 34, 184, 0, 146, 158, 0, 125, 42, 27, 42, 180, 0, 34]
abbrev dktX6_small_0 : List UInt8 := dkwX6_small_0 ++ dktX6_small_1
theorem dksX6_small_0 : cX6_small.data.toList.drop 0 = dktX6_small_0 := by decide +kernel
theorem dksX6_small_1 : cX6_small.data.toList.drop 22 = dktX6_small_1 := dk_seg dksX6_small_0 22 rfl rfl
theorem dksX6_small_2 : cX6_small.data.toList.drop 45 = dktX6_small_2 := dk_seg dksX6_small_1 23 rfl rfl
theorem dksX6_small_3 : cX6_small.data.toList.drop 68 = dktX6_small_3 := dk_seg dksX6_small_2 23 rfl rfl
theorem dksX6_small_4 : cX6_small.data.toList.drop 92 = dktX6_small_4 := dk_seg dksX6_small_3 24 rfl rfl
theorem dksX6_small_5 : cX6_small.data.toList.drop 114 = dktX6_small_5 := dk_seg dksX6_small_4 22 rfl rfl
theorem dksX6_small_6 : cX6_small.data.toList.drop 138 = dktX6_small_6 := dk_seg dksX6_small_5 24 rfl rfl
theorem dksX6_small_7 : cX6_small.data.toList.drop 162 = dktX6_small_7 := dk_seg dksX6_small_6 24 rfl rfl
theorem dX6_small_0 : decode cX6_small 0 = .ok (.iload_n 2, 1) := dk_28 (dk_at dksX6_small_0 0 rfl rfl)
theorem dX6_small_1 : decode cX6_small 1 = .ok (.bipush 8, 2) := dk_16 8 (dk_at dksX6_small_0 1 rfl rfl)
theorem dX6_small_3 : decode cX6_small 3 = .ok (.if_icmp .ne 136, 3) := dk_160 0 136 (dk_at dksX6_small_0 3 rfl rfl)
theorem dX6_small_6 : decode cX6_small 6 = .ok (.aload_n 0, 1) := dk_42 (dk_at dksX6_small_0 6 rfl rfl)
theorem dX6_small_7 : decode cX6_small 7 = .ok (.getfield 34, 3) := dk_180 0 34 (dk_at dksX6_small_0 7 rfl rfl)
theorem dX6_small_10 : decode cX6_small 10 = .ok (.invokestatic 146, 3) := dk_184 0 146 (dk_at dksX6_small_0 10 rfl rfl)
theorem dX6_small_13 : decode cX6_small 13 = .ok (.ifCond .le 125, 3) := dk_158 0 125 (dk_at dksX6_small_0 13 rfl rfl)
theorem dX6_small_16 : decode cX6_small 16 = .ok (.aload_n 0, 1) := dk_42 (dk_at dksX6_small_0 16 rfl rfl)
theorem dX6_small_17 : decode cX6_small 17 = .ok (.iload_n 1, 1) := dk_27 (dk_at dksX6_small_0 17 rfl rfl)
theorem dX6_small_18 : decode cX6_small 18 = .ok (.aload_n 0, 1) := dk_42 (dk_at dksX6_small_0 18 rfl rfl)
theorem dX6_small_19 : decode cX6_small 19 = .ok (.getfield 34, 3) := dk_180 0 34 (dk_at dksX6_small_0 19 rfl rfl)
theorem dX6_small_22 : decode cX6_small 22 = .ok (.invokevirtual 183, 3) := dk_182 0 183 (dk_at dksX6_small_1 0 rfl rfl)
theorem dX6_small_25 : decode cX6_small 25 = .ok (.istore 5, 2) := dk_54 5 (dk_at dksX6_small_1 3 rfl rfl)
theorem dX6_small_27 : decode cX6_small 27 = .ok (.aload_n 0, 1) := dk_42 (dk_at dksX6_small_1 5 rfl rfl)
theorem dX6_small_28 : decode cX6_small 28 = .ok (.aload_n 0, 1) := dk_42 (dk_at dksX6_small_1 6 rfl rfl)
theorem dX6_small_29 : decode cX6_small 29 = .ok (.getfield 218, 3) := dk_180 0 218 (dk_at dksX6_small_1 7 rfl rfl)
theorem dX6_small_32 : decode cX6_small 32 = .ok (.iconst (-1), 1) := dk_2 (dk_at dksX6_small_1 10 rfl rfl)
theorem dX6_small_33 : decode cX6_small 33 = .ok (.if_icmp .eq 12, 3) := dk_159 0 12 (dk_at dksX6_small_1 11 rfl rfl)
theorem dX6_small_36 : decode cX6_small 36 = .ok (.iload 5, 2) := dk_21 5 (dk_at dksX6_small_1 14 rfl rfl)
theorem dX6_small_38 : decode cX6_small 38 = .ok (.aload_n 0, 1) := dk_42 (dk_at dksX6_small_1 16 rfl rfl)
theorem dX6_small_39 : decode cX6_small 39 = .ok (.getfield 218, 3) := dk_180 0 218 (dk_at dksX6_small_1 17 rfl rfl)
theorem dX6_small_42 : decode cX6_small 42 = .ok (.if_icmp .ge 8, 3) := dk_162 0 8 (dk_at dksX6_small_1 20 rfl rfl)
theorem dX6_small_45 : decode cX6_small 45 = .ok (.iload 5, 2) := dk_21 5 (dk_at dksX6_small_2 0 rfl rfl)
theorem dX6_small_47 : decode cX6_small 47 = .ok (.goto 7, 3) := dk_167 0 7 (dk_at dksX6_small_2 2 rfl rfl)
theorem dX6_small_50 : decode cX6_small 50 = .ok (.aload_n 0, 1) := dk_42 (dk_at dksX6_small_2 5 rfl rfl)
theorem dX6_small_51 : decode cX6_small 51 = .ok (.getfield 218, 3) := dk_180 0 218 (dk_at dksX6_small_2 6 rfl rfl)
theorem dX6_small_54 : decode cX6_small 54 = .ok (.putfield 218, 3) := dk_181 0 218 (dk_at dksX6_small_2 9 rfl rfl)
theorem dX6_small_57 : decode cX6_small 57 = .ok (.iload 5, 2) := dk_21 5 (dk_at dksX6_small_2 12 rfl rfl)
theorem dX6_small_59 : decode cX6_small 59 = .ok (.iload 4, 2) := dk_21 4 (dk_at dksX6_small_2 14 rfl rfl)
theorem dX6_small_61 : decode cX6_small 61 = .ok (.if_icmp .ne 77, 3) := dk_160 0 77 (dk_at dksX6_small_2 16 rfl rfl)
theorem dX6_small_64 : decode cX6_small 64 = .ok (.iconst 0, 1) := dk_3 (dk_at dksX6_small_2 19 rfl rfl)
theorem dX6_small_65 : decode cX6_small 65 = .ok (.istore 6, 2) := dk_54 6 (dk_at dksX6_small_2 20 rfl rfl)
theorem dX6_small_67 : decode cX6_small 67 = .ok (.iconst 0, 1) := dk_3 (dk_at dksX6_small_2 22 rfl rfl)
theorem dX6_small_68 : decode cX6_small 68 = .ok (.istore 7, 2) := dk_54 7 (dk_at dksX6_small_3 0 rfl rfl)
theorem dX6_small_70 : decode cX6_small 70 = .ok (.iload 7, 2) := dk_21 7 (dk_at dksX6_small_3 2 rfl rfl)
theorem dX6_small_72 : decode cX6_small 72 = .ok (.bipush 8, 2) := dk_16 8 (dk_at dksX6_small_3 4 rfl rfl)
theorem dX6_small_74 : decode cX6_small 74 = .ok (.if_icmp .ge 24, 3) := dk_162 0 24 (dk_at dksX6_small_3 6 rfl rfl)
theorem dX6_small_77 : decode cX6_small 77 = .ok (.bipush 10, 2) := dk_16 10 (dk_at dksX6_small_3 9 rfl rfl)
theorem dX6_small_79 : decode cX6_small 79 = .ok (.iload 6, 2) := dk_21 6 (dk_at dksX6_small_3 11 rfl rfl)
theorem dX6_small_81 : decode cX6_small 81 = .ok (.imul, 1) := dk_104 (dk_at dksX6_small_3 13 rfl rfl)
theorem dX6_small_82 : decode cX6_small 82 = .ok (.aload_n 0, 1) := dk_42 (dk_at dksX6_small_3 14 rfl rfl)
theorem dX6_small_83 : decode cX6_small 83 = .ok (.getfield 34, 3) := dk_180 0 34 (dk_at dksX6_small_3 15 rfl rfl)
theorem dX6_small_86 : decode cX6_small 86 = .ok (.iload 7, 2) := dk_21 7 (dk_at dksX6_small_3 18 rfl rfl)
theorem dX6_small_88 : decode cX6_small 88 = .ok (.iaload, 1) := dk_46 (dk_at dksX6_small_3 20 rfl rfl)
theorem dX6_small_89 : decode cX6_small 89 = .ok (.iadd, 1) := dk_96 (dk_at dksX6_small_3 21 rfl rfl)
theorem dX6_small_90 : decode cX6_small 90 = .ok (.istore 6, 2) := dk_54 6 (dk_at dksX6_small_3 22 rfl rfl)
theorem dX6_small_92 : decode cX6_small 92 = .ok (.iinc 7 1, 3) := dk_132 7 1 (dk_at dksX6_small_4 0 rfl rfl)
theorem dX6_small_95 : decode cX6_small 95 = .ok (.goto (-25), 3) := dk_167 255 231 (dk_at dksX6_small_4 3 rfl rfl)
theorem dX6_small_98 : decode cX6_small 98 = .ok (.aload_n 0, 1) := dk_42 (dk_at dksX6_small_4 6 rfl rfl)
theorem dX6_small_99 : decode cX6_small 99 = .ok (.dup, 1) := dk_89 (dk_at dksX6_small_4 7 rfl rfl)
theorem dX6_small_100 : decode cX6_small 100 = .ok (.getfield 221, 3) := dk_180 0 221 (dk_at dksX6_small_4 8 rfl rfl)
theorem dX6_small_103 : decode cX6_small 103 = .ok (.iconst 1, 1) := dk_4 (dk_at dksX6_small_4 11 rfl rfl)
theorem dX6_small_104 : decode cX6_small 104 = .ok (.iadd, 1) := dk_96 (dk_at dksX6_small_4 12 rfl rfl)
theorem dX6_small_105 : decode cX6_small 105 = .ok (.putfield 221, 3) := dk_181 0 221 (dk_at dksX6_small_4 13 rfl rfl)
theorem dX6_small_108 : decode cX6_small 108 = .ok (.aload_n 0, 1) := dk_42 (dk_at dksX6_small_4 16 rfl rfl)
theorem dX6_small_109 : decode cX6_small 109 = .ok (.aload_n 0, 1) := dk_42 (dk_at dksX6_small_4 17 rfl rfl)
theorem dX6_small_110 : decode cX6_small 110 = .ok (.getfield 224, 3) := dk_180 0 224 (dk_at dksX6_small_4 18 rfl rfl)
theorem dX6_small_113 : decode cX6_small 113 = .ok (.iconst (-1), 1) := dk_2 (dk_at dksX6_small_4 21 rfl rfl)
theorem dX6_small_114 : decode cX6_small 114 = .ok (.if_icmp .eq 12, 3) := dk_159 0 12 (dk_at dksX6_small_5 0 rfl rfl)
theorem dX6_small_117 : decode cX6_small 117 = .ok (.iload 6, 2) := dk_21 6 (dk_at dksX6_small_5 3 rfl rfl)
theorem dX6_small_119 : decode cX6_small 119 = .ok (.aload_n 0, 1) := dk_42 (dk_at dksX6_small_5 5 rfl rfl)
theorem dX6_small_120 : decode cX6_small 120 = .ok (.getfield 224, 3) := dk_180 0 224 (dk_at dksX6_small_5 6 rfl rfl)
theorem dX6_small_123 : decode cX6_small 123 = .ok (.if_icmp .ge 8, 3) := dk_162 0 8 (dk_at dksX6_small_5 9 rfl rfl)
theorem dX6_small_126 : decode cX6_small 126 = .ok (.iload 6, 2) := dk_21 6 (dk_at dksX6_small_5 12 rfl rfl)
theorem dX6_small_128 : decode cX6_small 128 = .ok (.goto 7, 3) := dk_167 0 7 (dk_at dksX6_small_5 14 rfl rfl)
theorem dX6_small_131 : decode cX6_small 131 = .ok (.aload_n 0, 1) := dk_42 (dk_at dksX6_small_5 17 rfl rfl)
theorem dX6_small_132 : decode cX6_small 132 = .ok (.getfield 224, 3) := dk_180 0 224 (dk_at dksX6_small_5 18 rfl rfl)
theorem dX6_small_135 : decode cX6_small 135 = .ok (.putfield 224, 3) := dk_181 0 224 (dk_at dksX6_small_5 21 rfl rfl)
theorem dX6_small_138 : decode cX6_small 138 = .ok (.return_, 1) := dk_177 (dk_at dksX6_small_6 0 rfl rfl)
theorem dX6_small_139 : decode cX6_small 139 = .ok (.iconst 0, 1) := dk_3 (dk_at dksX6_small_6 1 rfl rfl)
theorem dX6_small_140 : decode cX6_small 140 = .ok (.istore 5, 2) := dk_54 5 (dk_at dksX6_small_6 2 rfl rfl)
theorem dX6_small_142 : decode cX6_small 142 = .ok (.iload 5, 2) := dk_21 5 (dk_at dksX6_small_6 4 rfl rfl)
theorem dX6_small_144 : decode cX6_small 144 = .ok (.iload_n 3, 1) := dk_29 (dk_at dksX6_small_6 6 rfl rfl)
theorem dX6_small_145 : decode cX6_small 145 = .ok (.if_icmp .gt 31, 3) := dk_163 0 31 (dk_at dksX6_small_6 7 rfl rfl)
theorem dX6_small_148 : decode cX6_small 148 = .ok (.aload_n 0, 1) := dk_42 (dk_at dksX6_small_6 10 rfl rfl)
theorem dX6_small_149 : decode cX6_small 149 = .ok (.getfield 34, 3) := dk_180 0 34 (dk_at dksX6_small_6 11 rfl rfl)
theorem dX6_small_152 : decode cX6_small 152 = .ok (.iload_n 2, 1) := dk_28 (dk_at dksX6_small_6 14 rfl rfl)
theorem dX6_small_153 : decode cX6_small 153 = .ok (.iload 5, 2) := dk_21 5 (dk_at dksX6_small_6 15 rfl rfl)
theorem dX6_small_155 : decode cX6_small 155 = .ok (.iastore, 1) := dk_79 (dk_at dksX6_small_6 17 rfl rfl)
theorem dX6_small_156 : decode cX6_small 156 = .ok (.aload_n 0, 1) := dk_42 (dk_at dksX6_small_6 18 rfl rfl)
theorem dX6_small_157 : decode cX6_small 157 = .ok (.iload_n 1, 1) := dk_27 (dk_at dksX6_small_6 19 rfl rfl)
theorem dX6_small_158 : decode cX6_small 158 = .ok (.iload_n 2, 1) := dk_28 (dk_at dksX6_small_6 20 rfl rfl)
theorem dX6_small_159 : decode cX6_small 159 = .ok (.iconst 1, 1) := dk_4 (dk_at dksX6_small_6 21 rfl rfl)
theorem dX6_small_160 : decode cX6_small 160 = .ok (.iadd, 1) := dk_96 (dk_at dksX6_small_6 22 rfl rfl)
theorem dX6_small_161 : decode cX6_small 161 = .ok (.iload_n 3, 1) := dk_29 (dk_at dksX6_small_6 23 rfl rfl)
theorem dX6_small_162 : decode cX6_small 162 = .ok (.iload 5, 2) := dk_21 5 (dk_at dksX6_small_7 0 rfl rfl)
theorem dX6_small_164 : decode cX6_small 164 = .ok (.isub, 1) := dk_100 (dk_at dksX6_small_7 2 rfl rfl)
theorem dX6_small_165 : decode cX6_small 165 = .ok (.iload 4, 2) := dk_21 4 (dk_at dksX6_small_7 3 rfl rfl)
theorem dX6_small_167 : decode cX6_small 167 = .ok (.invokevirtual 227, 3) := dk_182 0 227 (dk_at dksX6_small_7 5 rfl rfl)
theorem dX6_small_170 : decode cX6_small 170 = .ok (.iinc 5 1, 3) := dk_132 5 1 (dk_at dksX6_small_7 8 rfl rfl)
theorem dX6_small_173 : decode cX6_small 173 = .ok (.goto (-31), 3) := dk_167 255 225 (dk_at dksX6_small_7 11 rfl rfl)
theorem dX6_small_176 : decode cX6_small 176 = .ok (.aload_n 0, 1) := dk_42 (dk_at dksX6_small_7 14 rfl rfl)
theorem dX6_small_177 : decode cX6_small 177 = .ok (.getfield 34, 3) := dk_180 0 34 (dk_at dksX6_small_7 15 rfl rfl)
theorem dX6_small_180 : decode cX6_small 180 = .ok (.iload_n 2, 1) := dk_28 (dk_at dksX6_small_7 18 rfl rfl)
theorem dX6_small_181 : decode cX6_small 181 = .ok (.iconst 0, 1) := dk_3 (dk_at dksX6_small_7 19 rfl rfl)
theorem dX6_small_182 : decode cX6_small 182 = .ok (.iastore, 1) := dk_79 (dk_at dksX6_small_7 20 rfl rfl)
theorem dX6_small_183 : decode cX6_small 183 = .ok (.return_, 1) := dk_177 (dk_at dksX6_small_7 21 rfl rfl)
abbrev cX6_erring : ByteArray := prog_20_method_65_code
def yX6_erring : MethodName := ⟨RX6, "erring", "(IIII)J"⟩
def dkwX6_erring_6 : List UInt8 := [167, 0, 9, 16, 16, 21, 9, 108, 133, 173]
abbrev dktX6_erring_6 : List UInt8 := dkwX6_erring_6 ++ []
def dkwX6_erring_5 : List UInt8 := [54, 8, 21, 8, 16, 16, 184, 0, 233, 54, 9, 21, 4, 154, 0, 12, 21, 8, 21, 9, 108, 133]
abbrev dktX6_erring_5 : List UInt8 := dkwX6_erring_5 ++ dktX6_erring_6
def dkwX6_erring_4 : List UInt8 := [16, 16, 21, 7, 104, 29, 16, 17, 108, 96, 21, 7, 158, 0, 10, 29, 16, 17, 112, 167, 0, 4, 3, 100]
abbrev dktX6_erring_4 : List UInt8 := dkwX6_erring_4 ++ dktX6_erring_5
def dkwX6_erring_3 : List UInt8 := [42, 180, 0, 28, 182, 0, 183, 54, 7, 42, 180, 0, 28, 184, 0, 146, 154, 0, 7, 3, 167, 0, 27]
abbrev dktX6_erring_3 : List UInt8 := dkwX6_erring_3 ++ dktX6_erring_4
def dkwX6_erring_2 : List UInt8 := [21, 5, 16, 30, 182, 0, 176, 54, 6, 21, 6, 158, 0, 11, 42, 21, 6, 182, 0, 63, 133, 173, 42, 28]
abbrev dktX6_erring_2 : List UInt8 := dkwX6_erring_2 ++ dktX6_erring_3
def dkwX6_erring_1 : List UInt8 := [163, 0, 17, 21, 4, 3, 4, 184, 0, 59, 153, 0, 7, 4, 167, 0, 4, 3, 54, 5, 42, 27, 28]
abbrev dktX6_erring_1 : List UInt8 := dkwX6_erring_1 ++ dktX6_erring_2
def dkwX6_erring_0 : List UInt8 := [29, 155, 0, 40, 29, 16, 17, 108, 16, 16, 163, 0, 31, 29, 16, 17, 108, 29, 16, 17, 112, 96, 16, 16]
abbrev dktX6_erring_0 : List UInt8 := dkwX6_erring_0 ++ dktX6_erring_1
theorem dksX6_erring_0 : cX6_erring.data.toList.drop 0 = dktX6_erring_0 := by decide +kernel
theorem dksX6_erring_1 : cX6_erring.data.toList.drop 24 = dktX6_erring_1 := dk_seg dksX6_erring_0 24 rfl rfl
theorem dksX6_erring_2 : cX6_erring.data.toList.drop 47 = dktX6_erring_2 := dk_seg dksX6_erring_1 23 rfl rfl
theorem dksX6_erring_3 : cX6_erring.data.toList.drop 71 = dktX6_erring_3 := dk_seg dksX6_erring_2 24 rfl rfl
theorem dksX6_erring_4 : cX6_erring.data.toList.drop 94 = dktX6_erring_4 := dk_seg dksX6_erring_3 23 rfl rfl
theorem dksX6_erring_5 : cX6_erring.data.toList.drop 118 = dktX6_erring_5 := dk_seg dksX6_erring_4 24 rfl rfl
theorem dksX6_erring_6 : cX6_erring.data.toList.drop 140 = dktX6_erring_6 := dk_seg dksX6_erring_5 22 rfl rfl
theorem dX6_erring_0 : decode cX6_erring 0 = .ok (.iload_n 3, 1) := dk_29 (dk_at dksX6_erring_0 0 rfl rfl)
theorem dX6_erring_1 : decode cX6_erring 1 = .ok (.ifCond .lt 40, 3) := dk_155 0 40 (dk_at dksX6_erring_0 1 rfl rfl)
theorem dX6_erring_4 : decode cX6_erring 4 = .ok (.iload_n 3, 1) := dk_29 (dk_at dksX6_erring_0 4 rfl rfl)
theorem dX6_erring_5 : decode cX6_erring 5 = .ok (.bipush 17, 2) := dk_16 17 (dk_at dksX6_erring_0 5 rfl rfl)
theorem dX6_erring_7 : decode cX6_erring 7 = .ok (.idiv, 1) := dk_108 (dk_at dksX6_erring_0 7 rfl rfl)
theorem dX6_erring_8 : decode cX6_erring 8 = .ok (.bipush 16, 2) := dk_16 16 (dk_at dksX6_erring_0 8 rfl rfl)
theorem dX6_erring_10 : decode cX6_erring 10 = .ok (.if_icmp .gt 31, 3) := dk_163 0 31 (dk_at dksX6_erring_0 10 rfl rfl)
theorem dX6_erring_13 : decode cX6_erring 13 = .ok (.iload_n 3, 1) := dk_29 (dk_at dksX6_erring_0 13 rfl rfl)
theorem dX6_erring_14 : decode cX6_erring 14 = .ok (.bipush 17, 2) := dk_16 17 (dk_at dksX6_erring_0 14 rfl rfl)
theorem dX6_erring_16 : decode cX6_erring 16 = .ok (.idiv, 1) := dk_108 (dk_at dksX6_erring_0 16 rfl rfl)
theorem dX6_erring_17 : decode cX6_erring 17 = .ok (.iload_n 3, 1) := dk_29 (dk_at dksX6_erring_0 17 rfl rfl)
theorem dX6_erring_18 : decode cX6_erring 18 = .ok (.bipush 17, 2) := dk_16 17 (dk_at dksX6_erring_0 18 rfl rfl)
theorem dX6_erring_20 : decode cX6_erring 20 = .ok (.irem, 1) := dk_112 (dk_at dksX6_erring_0 20 rfl rfl)
theorem dX6_erring_21 : decode cX6_erring 21 = .ok (.iadd, 1) := dk_96 (dk_at dksX6_erring_0 21 rfl rfl)
theorem dX6_erring_22 : decode cX6_erring 22 = .ok (.bipush 16, 2) := dk_16 16 (dk_at dksX6_erring_0 22 rfl rfl)
theorem dX6_erring_24 : decode cX6_erring 24 = .ok (.if_icmp .gt 17, 3) := dk_163 0 17 (dk_at dksX6_erring_1 0 rfl rfl)
theorem dX6_erring_27 : decode cX6_erring 27 = .ok (.iload 4, 2) := dk_21 4 (dk_at dksX6_erring_1 3 rfl rfl)
theorem dX6_erring_29 : decode cX6_erring 29 = .ok (.iconst 0, 1) := dk_3 (dk_at dksX6_erring_1 5 rfl rfl)
theorem dX6_erring_30 : decode cX6_erring 30 = .ok (.iconst 1, 1) := dk_4 (dk_at dksX6_erring_1 6 rfl rfl)
theorem dX6_erring_31 : decode cX6_erring 31 = .ok (.invokestatic 59, 3) := dk_184 0 59 (dk_at dksX6_erring_1 7 rfl rfl)
theorem dX6_erring_34 : decode cX6_erring 34 = .ok (.ifCond .eq 7, 3) := dk_153 0 7 (dk_at dksX6_erring_1 10 rfl rfl)
theorem dX6_erring_37 : decode cX6_erring 37 = .ok (.iconst 1, 1) := dk_4 (dk_at dksX6_erring_1 13 rfl rfl)
theorem dX6_erring_38 : decode cX6_erring 38 = .ok (.goto 4, 3) := dk_167 0 4 (dk_at dksX6_erring_1 14 rfl rfl)
theorem dX6_erring_41 : decode cX6_erring 41 = .ok (.iconst 0, 1) := dk_3 (dk_at dksX6_erring_1 17 rfl rfl)
theorem dX6_erring_42 : decode cX6_erring 42 = .ok (.istore 5, 2) := dk_54 5 (dk_at dksX6_erring_1 18 rfl rfl)
theorem dX6_erring_44 : decode cX6_erring 44 = .ok (.aload_n 0, 1) := dk_42 (dk_at dksX6_erring_1 20 rfl rfl)
theorem dX6_erring_45 : decode cX6_erring 45 = .ok (.iload_n 1, 1) := dk_27 (dk_at dksX6_erring_1 21 rfl rfl)
theorem dX6_erring_46 : decode cX6_erring 46 = .ok (.iload_n 2, 1) := dk_28 (dk_at dksX6_erring_1 22 rfl rfl)
theorem dX6_erring_47 : decode cX6_erring 47 = .ok (.iload 5, 2) := dk_21 5 (dk_at dksX6_erring_2 0 rfl rfl)
theorem dX6_erring_49 : decode cX6_erring 49 = .ok (.bipush 30, 2) := dk_16 30 (dk_at dksX6_erring_2 2 rfl rfl)
theorem dX6_erring_51 : decode cX6_erring 51 = .ok (.invokevirtual 176, 3) := dk_182 0 176 (dk_at dksX6_erring_2 4 rfl rfl)
theorem dX6_erring_54 : decode cX6_erring 54 = .ok (.istore 6, 2) := dk_54 6 (dk_at dksX6_erring_2 7 rfl rfl)
theorem dX6_erring_56 : decode cX6_erring 56 = .ok (.iload 6, 2) := dk_21 6 (dk_at dksX6_erring_2 9 rfl rfl)
theorem dX6_erring_58 : decode cX6_erring 58 = .ok (.ifCond .le 11, 3) := dk_158 0 11 (dk_at dksX6_erring_2 11 rfl rfl)
theorem dX6_erring_61 : decode cX6_erring 61 = .ok (.aload_n 0, 1) := dk_42 (dk_at dksX6_erring_2 14 rfl rfl)
theorem dX6_erring_62 : decode cX6_erring 62 = .ok (.iload 6, 2) := dk_21 6 (dk_at dksX6_erring_2 15 rfl rfl)
theorem dX6_erring_64 : decode cX6_erring 64 = .ok (.invokevirtual 63, 3) := dk_182 0 63 (dk_at dksX6_erring_2 17 rfl rfl)
theorem dX6_erring_67 : decode cX6_erring 67 = .ok (.i2l, 1) := dk_133 (dk_at dksX6_erring_2 20 rfl rfl)
theorem dX6_erring_68 : decode cX6_erring 68 = .ok (.lreturn, 1) := dk_173 (dk_at dksX6_erring_2 21 rfl rfl)
theorem dX6_erring_69 : decode cX6_erring 69 = .ok (.aload_n 0, 1) := dk_42 (dk_at dksX6_erring_2 22 rfl rfl)
theorem dX6_erring_70 : decode cX6_erring 70 = .ok (.iload_n 2, 1) := dk_28 (dk_at dksX6_erring_2 23 rfl rfl)
theorem dX6_erring_71 : decode cX6_erring 71 = .ok (.aload_n 0, 1) := dk_42 (dk_at dksX6_erring_3 0 rfl rfl)
theorem dX6_erring_72 : decode cX6_erring 72 = .ok (.getfield 28, 3) := dk_180 0 28 (dk_at dksX6_erring_3 1 rfl rfl)
theorem dX6_erring_75 : decode cX6_erring 75 = .ok (.invokevirtual 183, 3) := dk_182 0 183 (dk_at dksX6_erring_3 4 rfl rfl)
theorem dX6_erring_78 : decode cX6_erring 78 = .ok (.istore 7, 2) := dk_54 7 (dk_at dksX6_erring_3 7 rfl rfl)
theorem dX6_erring_80 : decode cX6_erring 80 = .ok (.aload_n 0, 1) := dk_42 (dk_at dksX6_erring_3 9 rfl rfl)
theorem dX6_erring_81 : decode cX6_erring 81 = .ok (.getfield 28, 3) := dk_180 0 28 (dk_at dksX6_erring_3 10 rfl rfl)
theorem dX6_erring_84 : decode cX6_erring 84 = .ok (.invokestatic 146, 3) := dk_184 0 146 (dk_at dksX6_erring_3 13 rfl rfl)
theorem dX6_erring_87 : decode cX6_erring 87 = .ok (.ifCond .ne 7, 3) := dk_154 0 7 (dk_at dksX6_erring_3 16 rfl rfl)
theorem dX6_erring_90 : decode cX6_erring 90 = .ok (.iconst 0, 1) := dk_3 (dk_at dksX6_erring_3 19 rfl rfl)
theorem dX6_erring_91 : decode cX6_erring 91 = .ok (.goto 27, 3) := dk_167 0 27 (dk_at dksX6_erring_3 20 rfl rfl)
theorem dX6_erring_94 : decode cX6_erring 94 = .ok (.bipush 16, 2) := dk_16 16 (dk_at dksX6_erring_4 0 rfl rfl)
theorem dX6_erring_96 : decode cX6_erring 96 = .ok (.iload 7, 2) := dk_21 7 (dk_at dksX6_erring_4 2 rfl rfl)
theorem dX6_erring_98 : decode cX6_erring 98 = .ok (.imul, 1) := dk_104 (dk_at dksX6_erring_4 4 rfl rfl)
theorem dX6_erring_99 : decode cX6_erring 99 = .ok (.iload_n 3, 1) := dk_29 (dk_at dksX6_erring_4 5 rfl rfl)
theorem dX6_erring_100 : decode cX6_erring 100 = .ok (.bipush 17, 2) := dk_16 17 (dk_at dksX6_erring_4 6 rfl rfl)
theorem dX6_erring_102 : decode cX6_erring 102 = .ok (.idiv, 1) := dk_108 (dk_at dksX6_erring_4 8 rfl rfl)
theorem dX6_erring_103 : decode cX6_erring 103 = .ok (.iadd, 1) := dk_96 (dk_at dksX6_erring_4 9 rfl rfl)
theorem dX6_erring_104 : decode cX6_erring 104 = .ok (.iload 7, 2) := dk_21 7 (dk_at dksX6_erring_4 10 rfl rfl)
theorem dX6_erring_106 : decode cX6_erring 106 = .ok (.ifCond .le 10, 3) := dk_158 0 10 (dk_at dksX6_erring_4 12 rfl rfl)
theorem dX6_erring_109 : decode cX6_erring 109 = .ok (.iload_n 3, 1) := dk_29 (dk_at dksX6_erring_4 15 rfl rfl)
theorem dX6_erring_110 : decode cX6_erring 110 = .ok (.bipush 17, 2) := dk_16 17 (dk_at dksX6_erring_4 16 rfl rfl)
theorem dX6_erring_112 : decode cX6_erring 112 = .ok (.irem, 1) := dk_112 (dk_at dksX6_erring_4 18 rfl rfl)
theorem dX6_erring_113 : decode cX6_erring 113 = .ok (.goto 4, 3) := dk_167 0 4 (dk_at dksX6_erring_4 19 rfl rfl)
theorem dX6_erring_116 : decode cX6_erring 116 = .ok (.iconst 0, 1) := dk_3 (dk_at dksX6_erring_4 22 rfl rfl)
theorem dX6_erring_117 : decode cX6_erring 117 = .ok (.isub, 1) := dk_100 (dk_at dksX6_erring_4 23 rfl rfl)
theorem dX6_erring_118 : decode cX6_erring 118 = .ok (.istore 8, 2) := dk_54 8 (dk_at dksX6_erring_5 0 rfl rfl)
theorem dX6_erring_120 : decode cX6_erring 120 = .ok (.iload 8, 2) := dk_21 8 (dk_at dksX6_erring_5 2 rfl rfl)
theorem dX6_erring_122 : decode cX6_erring 122 = .ok (.bipush 16, 2) := dk_16 16 (dk_at dksX6_erring_5 4 rfl rfl)
theorem dX6_erring_124 : decode cX6_erring 124 = .ok (.invokestatic 233, 3) := dk_184 0 233 (dk_at dksX6_erring_5 6 rfl rfl)
theorem dX6_erring_127 : decode cX6_erring 127 = .ok (.istore 9, 2) := dk_54 9 (dk_at dksX6_erring_5 9 rfl rfl)
theorem dX6_erring_129 : decode cX6_erring 129 = .ok (.iload 4, 2) := dk_21 4 (dk_at dksX6_erring_5 11 rfl rfl)
theorem dX6_erring_131 : decode cX6_erring 131 = .ok (.ifCond .ne 12, 3) := dk_154 0 12 (dk_at dksX6_erring_5 13 rfl rfl)
theorem dX6_erring_134 : decode cX6_erring 134 = .ok (.iload 8, 2) := dk_21 8 (dk_at dksX6_erring_5 16 rfl rfl)
theorem dX6_erring_136 : decode cX6_erring 136 = .ok (.iload 9, 2) := dk_21 9 (dk_at dksX6_erring_5 18 rfl rfl)
theorem dX6_erring_138 : decode cX6_erring 138 = .ok (.idiv, 1) := dk_108 (dk_at dksX6_erring_5 20 rfl rfl)
theorem dX6_erring_139 : decode cX6_erring 139 = .ok (.i2l, 1) := dk_133 (dk_at dksX6_erring_5 21 rfl rfl)
theorem dX6_erring_140 : decode cX6_erring 140 = .ok (.goto 9, 3) := dk_167 0 9 (dk_at dksX6_erring_6 0 rfl rfl)
theorem dX6_erring_143 : decode cX6_erring 143 = .ok (.bipush 16, 2) := dk_16 16 (dk_at dksX6_erring_6 3 rfl rfl)
theorem dX6_erring_145 : decode cX6_erring 145 = .ok (.iload 9, 2) := dk_21 9 (dk_at dksX6_erring_6 5 rfl rfl)
theorem dX6_erring_147 : decode cX6_erring 147 = .ok (.idiv, 1) := dk_108 (dk_at dksX6_erring_6 7 rfl rfl)
theorem dX6_erring_148 : decode cX6_erring 148 = .ok (.i2l, 1) := dk_133 (dk_at dksX6_erring_6 8 rfl rfl)
theorem dX6_erring_149 : decode cX6_erring 149 = .ok (.lreturn, 1) := dk_173 (dk_at dksX6_erring_6 9 rfl rfl)
abbrev cX6_divisor : ByteArray := prog_20_method_64_code
def yX6_divisor : MethodName := ⟨RX6, "divisor", "(II)I"⟩
def dkwX6_divisor_0 : List UInt8 := [26, 61, 27, 62, 29, 153, 0, 16, 28, 29, 112, 54, 4, 29, 61, 21, 4, 62, 167, 255, 242, 28, 172]
abbrev dktX6_divisor_0 : List UInt8 := dkwX6_divisor_0 ++ []
theorem dksX6_divisor_0 : cX6_divisor.data.toList.drop 0 = dktX6_divisor_0 := by decide +kernel
theorem dX6_divisor_0 : decode cX6_divisor 0 = .ok (.iload_n 0, 1) := dk_26 (dk_at dksX6_divisor_0 0 rfl rfl)
theorem dX6_divisor_1 : decode cX6_divisor 1 = .ok (.istore_n 2, 1) := dk_61 (dk_at dksX6_divisor_0 1 rfl rfl)
theorem dX6_divisor_2 : decode cX6_divisor 2 = .ok (.iload_n 1, 1) := dk_27 (dk_at dksX6_divisor_0 2 rfl rfl)
theorem dX6_divisor_3 : decode cX6_divisor 3 = .ok (.istore_n 3, 1) := dk_62 (dk_at dksX6_divisor_0 3 rfl rfl)
theorem dX6_divisor_4 : decode cX6_divisor 4 = .ok (.iload_n 3, 1) := dk_29 (dk_at dksX6_divisor_0 4 rfl rfl)
theorem dX6_divisor_5 : decode cX6_divisor 5 = .ok (.ifCond .eq 16, 3) := dk_153 0 16 (dk_at dksX6_divisor_0 5 rfl rfl)
theorem dX6_divisor_8 : decode cX6_divisor 8 = .ok (.iload_n 2, 1) := dk_28 (dk_at dksX6_divisor_0 8 rfl rfl)
theorem dX6_divisor_9 : decode cX6_divisor 9 = .ok (.iload_n 3, 1) := dk_29 (dk_at dksX6_divisor_0 9 rfl rfl)
theorem dX6_divisor_10 : decode cX6_divisor 10 = .ok (.irem, 1) := dk_112 (dk_at dksX6_divisor_0 10 rfl rfl)
theorem dX6_divisor_11 : decode cX6_divisor 11 = .ok (.istore 4, 2) := dk_54 4 (dk_at dksX6_divisor_0 11 rfl rfl)
theorem dX6_divisor_13 : decode cX6_divisor 13 = .ok (.iload_n 3, 1) := dk_29 (dk_at dksX6_divisor_0 13 rfl rfl)
theorem dX6_divisor_14 : decode cX6_divisor 14 = .ok (.istore_n 2, 1) := dk_61 (dk_at dksX6_divisor_0 14 rfl rfl)
theorem dX6_divisor_15 : decode cX6_divisor 15 = .ok (.iload 4, 2) := dk_21 4 (dk_at dksX6_divisor_0 15 rfl rfl)
theorem dX6_divisor_17 : decode cX6_divisor 17 = .ok (.istore_n 3, 1) := dk_62 (dk_at dksX6_divisor_0 17 rfl rfl)
theorem dX6_divisor_18 : decode cX6_divisor 18 = .ok (.goto (-14), 3) := dk_167 255 242 (dk_at dksX6_divisor_0 18 rfl rfl)
theorem dX6_divisor_21 : decode cX6_divisor 21 = .ok (.iload_n 2, 1) := dk_28 (dk_at dksX6_divisor_0 21 rfl rfl)
theorem dX6_divisor_22 : decode cX6_divisor 22 = .ok (.ireturn, 1) := dk_172 (dk_at dksX6_divisor_0 22 rfl rfl)
abbrev cX6_wasIn : ByteArray := prog_20_method_66_code
def yX6_wasIn : MethodName := ⟨RX6, "wasIn", "(III)I"⟩
def dkwX6_wasIn_2 : List UInt8 := [167, 0, 23, 42, 180, 0, 224, 2, 160, 0, 11, 42, 5, 182, 0, 63, 167, 0, 7, 42, 180, 0, 224, 172]
abbrev dktX6_wasIn_2 : List UInt8 := dkwX6_wasIn_2 ++ []
def dkwX6_wasIn_1 : List UInt8 := [154, 0, 9, 42, 4, 182, 0, 63, 172, 42, 27, 28, 182, 0, 230, 29, 154, 0, 10, 42, 180, 0, 221]
abbrev dktX6_wasIn_1 : List UInt8 := dkwX6_wasIn_1 ++ dktX6_wasIn_2
def dkwX6_wasIn_0 : List UInt8 := [27, 184, 0, 161, 153, 0, 23, 28, 3, 17, 39, 15, 184, 0, 59, 153, 0, 12, 29, 3, 4, 184, 0, 59]
abbrev dktX6_wasIn_0 : List UInt8 := dkwX6_wasIn_0 ++ dktX6_wasIn_1
theorem dksX6_wasIn_0 : cX6_wasIn.data.toList.drop 0 = dktX6_wasIn_0 := by decide +kernel
theorem dksX6_wasIn_1 : cX6_wasIn.data.toList.drop 24 = dktX6_wasIn_1 := dk_seg dksX6_wasIn_0 24 rfl rfl
theorem dksX6_wasIn_2 : cX6_wasIn.data.toList.drop 47 = dktX6_wasIn_2 := dk_seg dksX6_wasIn_1 23 rfl rfl
theorem dX6_wasIn_0 : decode cX6_wasIn 0 = .ok (.iload_n 1, 1) := dk_27 (dk_at dksX6_wasIn_0 0 rfl rfl)
theorem dX6_wasIn_1 : decode cX6_wasIn 1 = .ok (.invokestatic 161, 3) := dk_184 0 161 (dk_at dksX6_wasIn_0 1 rfl rfl)
theorem dX6_wasIn_4 : decode cX6_wasIn 4 = .ok (.ifCond .eq 23, 3) := dk_153 0 23 (dk_at dksX6_wasIn_0 4 rfl rfl)
theorem dX6_wasIn_7 : decode cX6_wasIn 7 = .ok (.iload_n 2, 1) := dk_28 (dk_at dksX6_wasIn_0 7 rfl rfl)
theorem dX6_wasIn_8 : decode cX6_wasIn 8 = .ok (.iconst 0, 1) := dk_3 (dk_at dksX6_wasIn_0 8 rfl rfl)
theorem dX6_wasIn_9 : decode cX6_wasIn 9 = .ok (.sipush 9999, 3) := dk_17 39 15 (dk_at dksX6_wasIn_0 9 rfl rfl)
theorem dX6_wasIn_12 : decode cX6_wasIn 12 = .ok (.invokestatic 59, 3) := dk_184 0 59 (dk_at dksX6_wasIn_0 12 rfl rfl)
theorem dX6_wasIn_15 : decode cX6_wasIn 15 = .ok (.ifCond .eq 12, 3) := dk_153 0 12 (dk_at dksX6_wasIn_0 15 rfl rfl)
theorem dX6_wasIn_18 : decode cX6_wasIn 18 = .ok (.iload_n 3, 1) := dk_29 (dk_at dksX6_wasIn_0 18 rfl rfl)
theorem dX6_wasIn_19 : decode cX6_wasIn 19 = .ok (.iconst 0, 1) := dk_3 (dk_at dksX6_wasIn_0 19 rfl rfl)
theorem dX6_wasIn_20 : decode cX6_wasIn 20 = .ok (.iconst 1, 1) := dk_4 (dk_at dksX6_wasIn_0 20 rfl rfl)
theorem dX6_wasIn_21 : decode cX6_wasIn 21 = .ok (.invokestatic 59, 3) := dk_184 0 59 (dk_at dksX6_wasIn_0 21 rfl rfl)
theorem dX6_wasIn_24 : decode cX6_wasIn 24 = .ok (.ifCond .ne 9, 3) := dk_154 0 9 (dk_at dksX6_wasIn_1 0 rfl rfl)
theorem dX6_wasIn_27 : decode cX6_wasIn 27 = .ok (.aload_n 0, 1) := dk_42 (dk_at dksX6_wasIn_1 3 rfl rfl)
theorem dX6_wasIn_28 : decode cX6_wasIn 28 = .ok (.iconst 1, 1) := dk_4 (dk_at dksX6_wasIn_1 4 rfl rfl)
theorem dX6_wasIn_29 : decode cX6_wasIn 29 = .ok (.invokevirtual 63, 3) := dk_182 0 63 (dk_at dksX6_wasIn_1 5 rfl rfl)
theorem dX6_wasIn_32 : decode cX6_wasIn 32 = .ok (.ireturn, 1) := dk_172 (dk_at dksX6_wasIn_1 8 rfl rfl)
theorem dX6_wasIn_33 : decode cX6_wasIn 33 = .ok (.aload_n 0, 1) := dk_42 (dk_at dksX6_wasIn_1 9 rfl rfl)
theorem dX6_wasIn_34 : decode cX6_wasIn 34 = .ok (.iload_n 1, 1) := dk_27 (dk_at dksX6_wasIn_1 10 rfl rfl)
theorem dX6_wasIn_35 : decode cX6_wasIn 35 = .ok (.iload_n 2, 1) := dk_28 (dk_at dksX6_wasIn_1 11 rfl rfl)
theorem dX6_wasIn_36 : decode cX6_wasIn 36 = .ok (.invokevirtual 230, 3) := dk_182 0 230 (dk_at dksX6_wasIn_1 12 rfl rfl)
theorem dX6_wasIn_39 : decode cX6_wasIn 39 = .ok (.iload_n 3, 1) := dk_29 (dk_at dksX6_wasIn_1 15 rfl rfl)
theorem dX6_wasIn_40 : decode cX6_wasIn 40 = .ok (.ifCond .ne 10, 3) := dk_154 0 10 (dk_at dksX6_wasIn_1 16 rfl rfl)
theorem dX6_wasIn_43 : decode cX6_wasIn 43 = .ok (.aload_n 0, 1) := dk_42 (dk_at dksX6_wasIn_1 19 rfl rfl)
theorem dX6_wasIn_44 : decode cX6_wasIn 44 = .ok (.getfield 221, 3) := dk_180 0 221 (dk_at dksX6_wasIn_1 20 rfl rfl)
theorem dX6_wasIn_47 : decode cX6_wasIn 47 = .ok (.goto 23, 3) := dk_167 0 23 (dk_at dksX6_wasIn_2 0 rfl rfl)
theorem dX6_wasIn_50 : decode cX6_wasIn 50 = .ok (.aload_n 0, 1) := dk_42 (dk_at dksX6_wasIn_2 3 rfl rfl)
theorem dX6_wasIn_51 : decode cX6_wasIn 51 = .ok (.getfield 224, 3) := dk_180 0 224 (dk_at dksX6_wasIn_2 4 rfl rfl)
theorem dX6_wasIn_54 : decode cX6_wasIn 54 = .ok (.iconst (-1), 1) := dk_2 (dk_at dksX6_wasIn_2 7 rfl rfl)
theorem dX6_wasIn_55 : decode cX6_wasIn 55 = .ok (.if_icmp .ne 11, 3) := dk_160 0 11 (dk_at dksX6_wasIn_2 8 rfl rfl)
theorem dX6_wasIn_58 : decode cX6_wasIn 58 = .ok (.aload_n 0, 1) := dk_42 (dk_at dksX6_wasIn_2 11 rfl rfl)
theorem dX6_wasIn_59 : decode cX6_wasIn 59 = .ok (.iconst 2, 1) := dk_5 (dk_at dksX6_wasIn_2 12 rfl rfl)
theorem dX6_wasIn_60 : decode cX6_wasIn 60 = .ok (.invokevirtual 63, 3) := dk_182 0 63 (dk_at dksX6_wasIn_2 13 rfl rfl)
theorem dX6_wasIn_63 : decode cX6_wasIn 63 = .ok (.goto 7, 3) := dk_167 0 7 (dk_at dksX6_wasIn_2 16 rfl rfl)
theorem dX6_wasIn_66 : decode cX6_wasIn 66 = .ok (.aload_n 0, 1) := dk_42 (dk_at dksX6_wasIn_2 19 rfl rfl)
theorem dX6_wasIn_67 : decode cX6_wasIn 67 = .ok (.getfield 224, 3) := dk_180 0 224 (dk_at dksX6_wasIn_2 20 rfl rfl)
theorem dX6_wasIn_70 : decode cX6_wasIn 70 = .ok (.ireturn, 1) := dk_172 (dk_at dksX6_wasIn_2 23 rfl rfl)
abbrev cX6_voice : ByteArray := prog_20_method_73_code
def yX6_voice : MethodName := ⟨RX6, "voice", "(III)I"⟩
def dkwX6_voice_4 : List UInt8 := [182, 1, 6, 54, 5, 42, 180, 1, 2, 153, 0, 12, 42, 16, 6, 182, 0, 63, 167, 0, 5, 21, 5, 172]
abbrev dktX6_voice_4 : List UInt8 := dkwX6_voice_4 ++ []
def dkwX6_voice_3 : List UInt8 := [167, 0, 25, 28, 5, 160, 0, 13, 42, 21, 4, 29, 182, 0, 255, 167, 0, 10, 42, 21, 4, 29]
abbrev dktX6_voice_3 : List UInt8 := dkwX6_voice_3 ++ dktX6_voice_4
def dkwX6_voice_2 : List UInt8 := [42, 21, 4, 29, 182, 0, 249, 167, 0, 40, 28, 4, 160, 0, 13, 42, 21, 4, 29, 182, 0, 252]
abbrev dktX6_voice_2 : List UInt8 := dkwX6_voice_2 ++ dktX6_voice_3
def dkwX6_voice_1 : List UInt8 := [181, 0, 236, 42, 27, 181, 0, 243, 42, 3, 181, 1, 2, 42, 27, 182, 0, 130, 54, 4, 28, 154, 0, 13]
abbrev dktX6_voice_1 : List UInt8 := dkwX6_voice_1 ++ dktX6_voice_2
def dkwX6_voice_0 : List UInt8 := [27, 184, 0, 161, 153, 0, 12, 28, 3, 6, 184, 0, 59, 154, 0, 9, 42, 4, 182, 0, 63, 172, 42, 3]
abbrev dktX6_voice_0 : List UInt8 := dkwX6_voice_0 ++ dktX6_voice_1
theorem dksX6_voice_0 : cX6_voice.data.toList.drop 0 = dktX6_voice_0 := by decide +kernel
theorem dksX6_voice_1 : cX6_voice.data.toList.drop 24 = dktX6_voice_1 := dk_seg dksX6_voice_0 24 rfl rfl
theorem dksX6_voice_2 : cX6_voice.data.toList.drop 48 = dktX6_voice_2 := dk_seg dksX6_voice_1 24 rfl rfl
theorem dksX6_voice_3 : cX6_voice.data.toList.drop 70 = dktX6_voice_3 := dk_seg dksX6_voice_2 22 rfl rfl
theorem dksX6_voice_4 : cX6_voice.data.toList.drop 92 = dktX6_voice_4 := dk_seg dksX6_voice_3 22 rfl rfl
theorem dX6_voice_0 : decode cX6_voice 0 = .ok (.iload_n 1, 1) := dk_27 (dk_at dksX6_voice_0 0 rfl rfl)
theorem dX6_voice_1 : decode cX6_voice 1 = .ok (.invokestatic 161, 3) := dk_184 0 161 (dk_at dksX6_voice_0 1 rfl rfl)
theorem dX6_voice_4 : decode cX6_voice 4 = .ok (.ifCond .eq 12, 3) := dk_153 0 12 (dk_at dksX6_voice_0 4 rfl rfl)
theorem dX6_voice_7 : decode cX6_voice 7 = .ok (.iload_n 2, 1) := dk_28 (dk_at dksX6_voice_0 7 rfl rfl)
theorem dX6_voice_8 : decode cX6_voice 8 = .ok (.iconst 0, 1) := dk_3 (dk_at dksX6_voice_0 8 rfl rfl)
theorem dX6_voice_9 : decode cX6_voice 9 = .ok (.iconst 3, 1) := dk_6 (dk_at dksX6_voice_0 9 rfl rfl)
theorem dX6_voice_10 : decode cX6_voice 10 = .ok (.invokestatic 59, 3) := dk_184 0 59 (dk_at dksX6_voice_0 10 rfl rfl)
theorem dX6_voice_13 : decode cX6_voice 13 = .ok (.ifCond .ne 9, 3) := dk_154 0 9 (dk_at dksX6_voice_0 13 rfl rfl)
theorem dX6_voice_16 : decode cX6_voice 16 = .ok (.aload_n 0, 1) := dk_42 (dk_at dksX6_voice_0 16 rfl rfl)
theorem dX6_voice_17 : decode cX6_voice 17 = .ok (.iconst 1, 1) := dk_4 (dk_at dksX6_voice_0 17 rfl rfl)
theorem dX6_voice_18 : decode cX6_voice 18 = .ok (.invokevirtual 63, 3) := dk_182 0 63 (dk_at dksX6_voice_0 18 rfl rfl)
theorem dX6_voice_21 : decode cX6_voice 21 = .ok (.ireturn, 1) := dk_172 (dk_at dksX6_voice_0 21 rfl rfl)
theorem dX6_voice_22 : decode cX6_voice 22 = .ok (.aload_n 0, 1) := dk_42 (dk_at dksX6_voice_0 22 rfl rfl)
theorem dX6_voice_23 : decode cX6_voice 23 = .ok (.iconst 0, 1) := dk_3 (dk_at dksX6_voice_0 23 rfl rfl)
theorem dX6_voice_24 : decode cX6_voice 24 = .ok (.putfield 236, 3) := dk_181 0 236 (dk_at dksX6_voice_1 0 rfl rfl)
theorem dX6_voice_27 : decode cX6_voice 27 = .ok (.aload_n 0, 1) := dk_42 (dk_at dksX6_voice_1 3 rfl rfl)
theorem dX6_voice_28 : decode cX6_voice 28 = .ok (.iload_n 1, 1) := dk_27 (dk_at dksX6_voice_1 4 rfl rfl)
theorem dX6_voice_29 : decode cX6_voice 29 = .ok (.putfield 243, 3) := dk_181 0 243 (dk_at dksX6_voice_1 5 rfl rfl)
theorem dX6_voice_32 : decode cX6_voice 32 = .ok (.aload_n 0, 1) := dk_42 (dk_at dksX6_voice_1 8 rfl rfl)
theorem dX6_voice_33 : decode cX6_voice 33 = .ok (.iconst 0, 1) := dk_3 (dk_at dksX6_voice_1 9 rfl rfl)
theorem dX6_voice_34 : decode cX6_voice 34 = .ok (.putfield 258, 3) := dk_181 1 2 (dk_at dksX6_voice_1 10 rfl rfl)
theorem dX6_voice_37 : decode cX6_voice 37 = .ok (.aload_n 0, 1) := dk_42 (dk_at dksX6_voice_1 13 rfl rfl)
theorem dX6_voice_38 : decode cX6_voice 38 = .ok (.iload_n 1, 1) := dk_27 (dk_at dksX6_voice_1 14 rfl rfl)
theorem dX6_voice_39 : decode cX6_voice 39 = .ok (.invokevirtual 130, 3) := dk_182 0 130 (dk_at dksX6_voice_1 15 rfl rfl)
theorem dX6_voice_42 : decode cX6_voice 42 = .ok (.istore 4, 2) := dk_54 4 (dk_at dksX6_voice_1 18 rfl rfl)
theorem dX6_voice_44 : decode cX6_voice 44 = .ok (.iload_n 2, 1) := dk_28 (dk_at dksX6_voice_1 20 rfl rfl)
theorem dX6_voice_45 : decode cX6_voice 45 = .ok (.ifCond .ne 13, 3) := dk_154 0 13 (dk_at dksX6_voice_1 21 rfl rfl)
theorem dX6_voice_48 : decode cX6_voice 48 = .ok (.aload_n 0, 1) := dk_42 (dk_at dksX6_voice_2 0 rfl rfl)
theorem dX6_voice_49 : decode cX6_voice 49 = .ok (.iload 4, 2) := dk_21 4 (dk_at dksX6_voice_2 1 rfl rfl)
theorem dX6_voice_51 : decode cX6_voice 51 = .ok (.iload_n 3, 1) := dk_29 (dk_at dksX6_voice_2 3 rfl rfl)
theorem dX6_voice_52 : decode cX6_voice 52 = .ok (.invokevirtual 249, 3) := dk_182 0 249 (dk_at dksX6_voice_2 4 rfl rfl)
theorem dX6_voice_55 : decode cX6_voice 55 = .ok (.goto 40, 3) := dk_167 0 40 (dk_at dksX6_voice_2 7 rfl rfl)
theorem dX6_voice_58 : decode cX6_voice 58 = .ok (.iload_n 2, 1) := dk_28 (dk_at dksX6_voice_2 10 rfl rfl)
theorem dX6_voice_59 : decode cX6_voice 59 = .ok (.iconst 1, 1) := dk_4 (dk_at dksX6_voice_2 11 rfl rfl)
theorem dX6_voice_60 : decode cX6_voice 60 = .ok (.if_icmp .ne 13, 3) := dk_160 0 13 (dk_at dksX6_voice_2 12 rfl rfl)
theorem dX6_voice_63 : decode cX6_voice 63 = .ok (.aload_n 0, 1) := dk_42 (dk_at dksX6_voice_2 15 rfl rfl)
theorem dX6_voice_64 : decode cX6_voice 64 = .ok (.iload 4, 2) := dk_21 4 (dk_at dksX6_voice_2 16 rfl rfl)
theorem dX6_voice_66 : decode cX6_voice 66 = .ok (.iload_n 3, 1) := dk_29 (dk_at dksX6_voice_2 18 rfl rfl)
theorem dX6_voice_67 : decode cX6_voice 67 = .ok (.invokevirtual 252, 3) := dk_182 0 252 (dk_at dksX6_voice_2 19 rfl rfl)
theorem dX6_voice_70 : decode cX6_voice 70 = .ok (.goto 25, 3) := dk_167 0 25 (dk_at dksX6_voice_3 0 rfl rfl)
theorem dX6_voice_73 : decode cX6_voice 73 = .ok (.iload_n 2, 1) := dk_28 (dk_at dksX6_voice_3 3 rfl rfl)
theorem dX6_voice_74 : decode cX6_voice 74 = .ok (.iconst 2, 1) := dk_5 (dk_at dksX6_voice_3 4 rfl rfl)
theorem dX6_voice_75 : decode cX6_voice 75 = .ok (.if_icmp .ne 13, 3) := dk_160 0 13 (dk_at dksX6_voice_3 5 rfl rfl)
theorem dX6_voice_78 : decode cX6_voice 78 = .ok (.aload_n 0, 1) := dk_42 (dk_at dksX6_voice_3 8 rfl rfl)
theorem dX6_voice_79 : decode cX6_voice 79 = .ok (.iload 4, 2) := dk_21 4 (dk_at dksX6_voice_3 9 rfl rfl)
theorem dX6_voice_81 : decode cX6_voice 81 = .ok (.iload_n 3, 1) := dk_29 (dk_at dksX6_voice_3 11 rfl rfl)
theorem dX6_voice_82 : decode cX6_voice 82 = .ok (.invokevirtual 255, 3) := dk_182 0 255 (dk_at dksX6_voice_3 12 rfl rfl)
theorem dX6_voice_85 : decode cX6_voice 85 = .ok (.goto 10, 3) := dk_167 0 10 (dk_at dksX6_voice_3 15 rfl rfl)
theorem dX6_voice_88 : decode cX6_voice 88 = .ok (.aload_n 0, 1) := dk_42 (dk_at dksX6_voice_3 18 rfl rfl)
theorem dX6_voice_89 : decode cX6_voice 89 = .ok (.iload 4, 2) := dk_21 4 (dk_at dksX6_voice_3 19 rfl rfl)
theorem dX6_voice_91 : decode cX6_voice 91 = .ok (.iload_n 3, 1) := dk_29 (dk_at dksX6_voice_3 21 rfl rfl)
theorem dX6_voice_92 : decode cX6_voice 92 = .ok (.invokevirtual 262, 3) := dk_182 1 6 (dk_at dksX6_voice_4 0 rfl rfl)
theorem dX6_voice_95 : decode cX6_voice 95 = .ok (.istore 5, 2) := dk_54 5 (dk_at dksX6_voice_4 3 rfl rfl)
theorem dX6_voice_97 : decode cX6_voice 97 = .ok (.aload_n 0, 1) := dk_42 (dk_at dksX6_voice_4 5 rfl rfl)
theorem dX6_voice_98 : decode cX6_voice 98 = .ok (.getfield 258, 3) := dk_180 1 2 (dk_at dksX6_voice_4 6 rfl rfl)
theorem dX6_voice_101 : decode cX6_voice 101 = .ok (.ifCond .eq 12, 3) := dk_153 0 12 (dk_at dksX6_voice_4 9 rfl rfl)
theorem dX6_voice_104 : decode cX6_voice 104 = .ok (.aload_n 0, 1) := dk_42 (dk_at dksX6_voice_4 12 rfl rfl)
theorem dX6_voice_105 : decode cX6_voice 105 = .ok (.bipush 6, 2) := dk_16 6 (dk_at dksX6_voice_4 13 rfl rfl)
theorem dX6_voice_107 : decode cX6_voice 107 = .ok (.invokevirtual 63, 3) := dk_182 0 63 (dk_at dksX6_voice_4 15 rfl rfl)
theorem dX6_voice_110 : decode cX6_voice 110 = .ok (.goto 5, 3) := dk_167 0 5 (dk_at dksX6_voice_4 18 rfl rfl)
theorem dX6_voice_113 : decode cX6_voice 113 = .ok (.iload 5, 2) := dk_21 5 (dk_at dksX6_voice_4 21 rfl rfl)
theorem dX6_voice_115 : decode cX6_voice 115 = .ok (.ireturn, 1) := dk_172 (dk_at dksX6_voice_4 23 rfl rfl)
abbrev cX6_addsAs : ByteArray := prog_20_method_69_code
def yX6_addsAs : MethodName := ⟨RX6, "addsAs", "(II)I"⟩
def dkwX6_addsAs_4 : List UInt8 := [104, 172, 42, 16, 70, 182, 0, 239, 16, 9, 172, 42, 27, 184, 0, 246, 28, 182, 0, 249, 172]
abbrev dktX6_addsAs_4 : List UInt8 := dkwX6_addsAs_4 ++ []
def dkwX6_addsAs_3 : List UInt8 := [28, 182, 0, 249, 16, 9, 100, 172, 42, 16, 50, 182, 0, 239, 42, 8, 184, 0, 246, 28, 182, 0, 249, 6]
abbrev dktX6_addsAs_3 : List UInt8 := dkwX6_addsAs_3 ++ dktX6_addsAs_4
def dkwX6_addsAs_2 : List UInt8 := [42, 16, 10, 182, 0, 239, 28, 42, 180, 0, 243, 96, 172, 42, 16, 20, 182, 0, 239, 42, 4, 184, 0, 246]
abbrev dktX6_addsAs_2 : List UInt8 := dkwX6_addsAs_2 ++ dktX6_addsAs_3
def dkwX6_addsAs_1 : List UInt8 := [170, 0, 0, 0, 0, 0, 102, 0, 0, 0, 0, 0, 0, 0, 6, 0, 0, 0, 43, 0, 0, 0, 56, 0, 0, 0, 102, 0, 0, 0, 102, 0, 0, 0, 102, 0, 0, 0, 75, 0, 0, 0, 93]
abbrev dktX6_addsAs_1 : List UInt8 := dkwX6_addsAs_1 ++ dktX6_addsAs_2
def dkwX6_addsAs_0 : List UInt8 := [27]
abbrev dktX6_addsAs_0 : List UInt8 := dkwX6_addsAs_0 ++ dktX6_addsAs_1
theorem dksX6_addsAs_0 : cX6_addsAs.data.toList.drop 0 = dktX6_addsAs_0 := by decide +kernel
theorem dksX6_addsAs_1 : cX6_addsAs.data.toList.drop 1 = dktX6_addsAs_1 := dk_seg dksX6_addsAs_0 1 rfl rfl
theorem dksX6_addsAs_2 : cX6_addsAs.data.toList.drop 44 = dktX6_addsAs_2 := dk_seg dksX6_addsAs_1 43 rfl rfl
theorem dksX6_addsAs_3 : cX6_addsAs.data.toList.drop 68 = dktX6_addsAs_3 := dk_seg dksX6_addsAs_2 24 rfl rfl
theorem dksX6_addsAs_4 : cX6_addsAs.data.toList.drop 92 = dktX6_addsAs_4 := dk_seg dksX6_addsAs_3 24 rfl rfl
theorem dX6_addsAs_0 : decode cX6_addsAs 0 = .ok (.iload_n 1, 1) := dk_27 (dk_at dksX6_addsAs_0 0 rfl rfl)
theorem dX6_addsAs_1 : decode cX6_addsAs 1 = .ok (.tableswitch 102 0 6 #[43, 56, 102, 102, 102, 75, 93], 43) := by decide +kernel
theorem dX6_addsAs_44 : decode cX6_addsAs 44 = .ok (.aload_n 0, 1) := dk_42 (dk_at dksX6_addsAs_2 0 rfl rfl)
theorem dX6_addsAs_45 : decode cX6_addsAs 45 = .ok (.bipush 10, 2) := dk_16 10 (dk_at dksX6_addsAs_2 1 rfl rfl)
theorem dX6_addsAs_47 : decode cX6_addsAs 47 = .ok (.invokevirtual 239, 3) := dk_182 0 239 (dk_at dksX6_addsAs_2 3 rfl rfl)
theorem dX6_addsAs_50 : decode cX6_addsAs 50 = .ok (.iload_n 2, 1) := dk_28 (dk_at dksX6_addsAs_2 6 rfl rfl)
theorem dX6_addsAs_51 : decode cX6_addsAs 51 = .ok (.aload_n 0, 1) := dk_42 (dk_at dksX6_addsAs_2 7 rfl rfl)
theorem dX6_addsAs_52 : decode cX6_addsAs 52 = .ok (.getfield 243, 3) := dk_180 0 243 (dk_at dksX6_addsAs_2 8 rfl rfl)
theorem dX6_addsAs_55 : decode cX6_addsAs 55 = .ok (.iadd, 1) := dk_96 (dk_at dksX6_addsAs_2 11 rfl rfl)
theorem dX6_addsAs_56 : decode cX6_addsAs 56 = .ok (.ireturn, 1) := dk_172 (dk_at dksX6_addsAs_2 12 rfl rfl)
theorem dX6_addsAs_57 : decode cX6_addsAs 57 = .ok (.aload_n 0, 1) := dk_42 (dk_at dksX6_addsAs_2 13 rfl rfl)
theorem dX6_addsAs_58 : decode cX6_addsAs 58 = .ok (.bipush 20, 2) := dk_16 20 (dk_at dksX6_addsAs_2 14 rfl rfl)
theorem dX6_addsAs_60 : decode cX6_addsAs 60 = .ok (.invokevirtual 239, 3) := dk_182 0 239 (dk_at dksX6_addsAs_2 16 rfl rfl)
theorem dX6_addsAs_63 : decode cX6_addsAs 63 = .ok (.aload_n 0, 1) := dk_42 (dk_at dksX6_addsAs_2 19 rfl rfl)
theorem dX6_addsAs_64 : decode cX6_addsAs 64 = .ok (.iconst 1, 1) := dk_4 (dk_at dksX6_addsAs_2 20 rfl rfl)
theorem dX6_addsAs_65 : decode cX6_addsAs 65 = .ok (.invokestatic 246, 3) := dk_184 0 246 (dk_at dksX6_addsAs_2 21 rfl rfl)
theorem dX6_addsAs_68 : decode cX6_addsAs 68 = .ok (.iload_n 2, 1) := dk_28 (dk_at dksX6_addsAs_3 0 rfl rfl)
theorem dX6_addsAs_69 : decode cX6_addsAs 69 = .ok (.invokevirtual 249, 3) := dk_182 0 249 (dk_at dksX6_addsAs_3 1 rfl rfl)
theorem dX6_addsAs_72 : decode cX6_addsAs 72 = .ok (.bipush 9, 2) := dk_16 9 (dk_at dksX6_addsAs_3 4 rfl rfl)
theorem dX6_addsAs_74 : decode cX6_addsAs 74 = .ok (.isub, 1) := dk_100 (dk_at dksX6_addsAs_3 6 rfl rfl)
theorem dX6_addsAs_75 : decode cX6_addsAs 75 = .ok (.ireturn, 1) := dk_172 (dk_at dksX6_addsAs_3 7 rfl rfl)
theorem dX6_addsAs_76 : decode cX6_addsAs 76 = .ok (.aload_n 0, 1) := dk_42 (dk_at dksX6_addsAs_3 8 rfl rfl)
theorem dX6_addsAs_77 : decode cX6_addsAs 77 = .ok (.bipush 50, 2) := dk_16 50 (dk_at dksX6_addsAs_3 9 rfl rfl)
theorem dX6_addsAs_79 : decode cX6_addsAs 79 = .ok (.invokevirtual 239, 3) := dk_182 0 239 (dk_at dksX6_addsAs_3 11 rfl rfl)
theorem dX6_addsAs_82 : decode cX6_addsAs 82 = .ok (.aload_n 0, 1) := dk_42 (dk_at dksX6_addsAs_3 14 rfl rfl)
theorem dX6_addsAs_83 : decode cX6_addsAs 83 = .ok (.iconst 5, 1) := dk_8 (dk_at dksX6_addsAs_3 15 rfl rfl)
theorem dX6_addsAs_84 : decode cX6_addsAs 84 = .ok (.invokestatic 246, 3) := dk_184 0 246 (dk_at dksX6_addsAs_3 16 rfl rfl)
theorem dX6_addsAs_87 : decode cX6_addsAs 87 = .ok (.iload_n 2, 1) := dk_28 (dk_at dksX6_addsAs_3 19 rfl rfl)
theorem dX6_addsAs_88 : decode cX6_addsAs 88 = .ok (.invokevirtual 249, 3) := dk_182 0 249 (dk_at dksX6_addsAs_3 20 rfl rfl)
theorem dX6_addsAs_91 : decode cX6_addsAs 91 = .ok (.iconst 3, 1) := dk_6 (dk_at dksX6_addsAs_3 23 rfl rfl)
theorem dX6_addsAs_92 : decode cX6_addsAs 92 = .ok (.imul, 1) := dk_104 (dk_at dksX6_addsAs_4 0 rfl rfl)
theorem dX6_addsAs_93 : decode cX6_addsAs 93 = .ok (.ireturn, 1) := dk_172 (dk_at dksX6_addsAs_4 1 rfl rfl)
theorem dX6_addsAs_94 : decode cX6_addsAs 94 = .ok (.aload_n 0, 1) := dk_42 (dk_at dksX6_addsAs_4 2 rfl rfl)
theorem dX6_addsAs_95 : decode cX6_addsAs 95 = .ok (.bipush 70, 2) := dk_16 70 (dk_at dksX6_addsAs_4 3 rfl rfl)
theorem dX6_addsAs_97 : decode cX6_addsAs 97 = .ok (.invokevirtual 239, 3) := dk_182 0 239 (dk_at dksX6_addsAs_4 5 rfl rfl)
theorem dX6_addsAs_100 : decode cX6_addsAs 100 = .ok (.bipush 9, 2) := dk_16 9 (dk_at dksX6_addsAs_4 8 rfl rfl)
theorem dX6_addsAs_102 : decode cX6_addsAs 102 = .ok (.ireturn, 1) := dk_172 (dk_at dksX6_addsAs_4 10 rfl rfl)
theorem dX6_addsAs_103 : decode cX6_addsAs 103 = .ok (.aload_n 0, 1) := dk_42 (dk_at dksX6_addsAs_4 11 rfl rfl)
theorem dX6_addsAs_104 : decode cX6_addsAs 104 = .ok (.iload_n 1, 1) := dk_27 (dk_at dksX6_addsAs_4 12 rfl rfl)
theorem dX6_addsAs_105 : decode cX6_addsAs 105 = .ok (.invokestatic 246, 3) := dk_184 0 246 (dk_at dksX6_addsAs_4 13 rfl rfl)
theorem dX6_addsAs_108 : decode cX6_addsAs 108 = .ok (.iload_n 2, 1) := dk_28 (dk_at dksX6_addsAs_4 16 rfl rfl)
theorem dX6_addsAs_109 : decode cX6_addsAs 109 = .ok (.invokevirtual 249, 3) := dk_182 0 249 (dk_at dksX6_addsAs_4 17 rfl rfl)
theorem dX6_addsAs_112 : decode cX6_addsAs 112 = .ok (.ireturn, 1) := dk_172 (dk_at dksX6_addsAs_4 20 rfl rfl)
abbrev cX6_begins : ByteArray := prog_20_method_67_code
def yX6_begins : MethodName := ⟨RX6, "begins", "(I)V"⟩
def dkwX6_begins_1 : List UInt8 := [4, 96, 181, 0, 236, 177]
abbrev dktX6_begins_1 : List UInt8 := dkwX6_begins_1 ++ []
def dkwX6_begins_0 : List UInt8 := [42, 180, 0, 236, 16, 30, 162, 0, 23, 42, 180, 0, 43, 42, 180, 0, 236, 27, 79, 42, 89, 180, 0, 236]
abbrev dktX6_begins_0 : List UInt8 := dkwX6_begins_0 ++ dktX6_begins_1
theorem dksX6_begins_0 : cX6_begins.data.toList.drop 0 = dktX6_begins_0 := by decide +kernel
theorem dksX6_begins_1 : cX6_begins.data.toList.drop 24 = dktX6_begins_1 := dk_seg dksX6_begins_0 24 rfl rfl
theorem dX6_begins_0 : decode cX6_begins 0 = .ok (.aload_n 0, 1) := dk_42 (dk_at dksX6_begins_0 0 rfl rfl)
theorem dX6_begins_1 : decode cX6_begins 1 = .ok (.getfield 236, 3) := dk_180 0 236 (dk_at dksX6_begins_0 1 rfl rfl)
theorem dX6_begins_4 : decode cX6_begins 4 = .ok (.bipush 30, 2) := dk_16 30 (dk_at dksX6_begins_0 4 rfl rfl)
theorem dX6_begins_6 : decode cX6_begins 6 = .ok (.if_icmp .ge 23, 3) := dk_162 0 23 (dk_at dksX6_begins_0 6 rfl rfl)
theorem dX6_begins_9 : decode cX6_begins 9 = .ok (.aload_n 0, 1) := dk_42 (dk_at dksX6_begins_0 9 rfl rfl)
theorem dX6_begins_10 : decode cX6_begins 10 = .ok (.getfield 43, 3) := dk_180 0 43 (dk_at dksX6_begins_0 10 rfl rfl)
theorem dX6_begins_13 : decode cX6_begins 13 = .ok (.aload_n 0, 1) := dk_42 (dk_at dksX6_begins_0 13 rfl rfl)
theorem dX6_begins_14 : decode cX6_begins 14 = .ok (.getfield 236, 3) := dk_180 0 236 (dk_at dksX6_begins_0 14 rfl rfl)
theorem dX6_begins_17 : decode cX6_begins 17 = .ok (.iload_n 1, 1) := dk_27 (dk_at dksX6_begins_0 17 rfl rfl)
theorem dX6_begins_18 : decode cX6_begins 18 = .ok (.iastore, 1) := dk_79 (dk_at dksX6_begins_0 18 rfl rfl)
theorem dX6_begins_19 : decode cX6_begins 19 = .ok (.aload_n 0, 1) := dk_42 (dk_at dksX6_begins_0 19 rfl rfl)
theorem dX6_begins_20 : decode cX6_begins 20 = .ok (.dup, 1) := dk_89 (dk_at dksX6_begins_0 20 rfl rfl)
theorem dX6_begins_21 : decode cX6_begins 21 = .ok (.getfield 236, 3) := dk_180 0 236 (dk_at dksX6_begins_0 21 rfl rfl)
theorem dX6_begins_24 : decode cX6_begins 24 = .ok (.iconst 1, 1) := dk_4 (dk_at dksX6_begins_1 0 rfl rfl)
theorem dX6_begins_25 : decode cX6_begins 25 = .ok (.iadd, 1) := dk_96 (dk_at dksX6_begins_1 1 rfl rfl)
theorem dX6_begins_26 : decode cX6_begins 26 = .ok (.putfield 236, 3) := dk_181 0 236 (dk_at dksX6_begins_1 2 rfl rfl)
theorem dX6_begins_29 : decode cX6_begins 29 = .ok (.return_, 1) := dk_177 (dk_at dksX6_begins_1 5 rfl rfl)
abbrev cX6_above : ByteArray := prog_20_method_68_code
def yX6_above : MethodName := ⟨RX6, "above", "(I)I"⟩
def dkwX6_above_0 : List UInt8 := [26, 8, 160, 0, 7, 4, 167, 0, 13, 26, 7, 160, 0, 7, 5, 167, 0, 4, 3, 172]
abbrev dktX6_above_0 : List UInt8 := dkwX6_above_0 ++ []
theorem dksX6_above_0 : cX6_above.data.toList.drop 0 = dktX6_above_0 := by decide +kernel
theorem dX6_above_0 : decode cX6_above 0 = .ok (.iload_n 0, 1) := dk_26 (dk_at dksX6_above_0 0 rfl rfl)
theorem dX6_above_1 : decode cX6_above 1 = .ok (.iconst 5, 1) := dk_8 (dk_at dksX6_above_0 1 rfl rfl)
theorem dX6_above_2 : decode cX6_above 2 = .ok (.if_icmp .ne 7, 3) := dk_160 0 7 (dk_at dksX6_above_0 2 rfl rfl)
theorem dX6_above_5 : decode cX6_above 5 = .ok (.iconst 1, 1) := dk_4 (dk_at dksX6_above_0 5 rfl rfl)
theorem dX6_above_6 : decode cX6_above 6 = .ok (.goto 13, 3) := dk_167 0 13 (dk_at dksX6_above_0 6 rfl rfl)
theorem dX6_above_9 : decode cX6_above 9 = .ok (.iload_n 0, 1) := dk_26 (dk_at dksX6_above_0 9 rfl rfl)
theorem dX6_above_10 : decode cX6_above 10 = .ok (.iconst 4, 1) := dk_7 (dk_at dksX6_above_0 10 rfl rfl)
theorem dX6_above_11 : decode cX6_above 11 = .ok (.if_icmp .ne 7, 3) := dk_160 0 7 (dk_at dksX6_above_0 11 rfl rfl)
theorem dX6_above_14 : decode cX6_above 14 = .ok (.iconst 2, 1) := dk_5 (dk_at dksX6_above_0 14 rfl rfl)
theorem dX6_above_15 : decode cX6_above 15 = .ok (.goto 4, 3) := dk_167 0 4 (dk_at dksX6_above_0 15 rfl rfl)
theorem dX6_above_18 : decode cX6_above 18 = .ok (.iconst 0, 1) := dk_3 (dk_at dksX6_above_0 18 rfl rfl)
theorem dX6_above_19 : decode cX6_above 19 = .ok (.ireturn, 1) := dk_172 (dk_at dksX6_above_0 19 rfl rfl)
abbrev cX6_comesAs : ByteArray := prog_20_method_70_code
def yX6_comesAs : MethodName := ⟨RX6, "comesAs", "(II)I"⟩
def dkwX6_comesAs_5 : List UInt8 := [182, 0, 252, 42, 42, 180, 0, 243, 182, 0, 127, 96, 172, 42, 27, 184, 0, 246, 28, 182, 0, 252, 172]
abbrev dktX6_comesAs_5 : List UInt8 := dkwX6_comesAs_5 ++ []
def dkwX6_comesAs_4 : List UInt8 := [7, 184, 0, 246, 28, 4, 96, 182, 0, 252, 172, 42, 16, 71, 182, 0, 239, 42, 16, 6, 184, 0, 246, 28]
abbrev dktX6_comesAs_4 : List UInt8 := dkwX6_comesAs_4 ++ dktX6_comesAs_5
def dkwX6_comesAs_3 : List UInt8 := [16, 30, 182, 0, 239, 3, 42, 5, 184, 0, 246, 28, 182, 0, 252, 100, 172, 42, 16, 60, 182, 0, 239, 42]
abbrev dktX6_comesAs_3 : List UInt8 := dkwX6_comesAs_3 ++ dktX6_comesAs_4
def dkwX6_comesAs_2 : List UInt8 := [42, 16, 11, 182, 0, 239, 42, 42, 42, 180, 0, 243, 182, 0, 130, 28, 182, 0, 249, 5, 104, 172, 42]
abbrev dktX6_comesAs_2 : List UInt8 := dkwX6_comesAs_2 ++ dktX6_comesAs_3
def dkwX6_comesAs_1 : List UInt8 := [170, 0, 0, 0, 0, 0, 127, 0, 0, 0, 0, 0, 0, 0, 6, 0, 0, 0, 43, 0, 0, 0, 127, 0, 0, 0, 65, 0, 0, 0, 127, 0, 0, 0, 83, 0, 0, 0, 127, 0, 0, 0, 101]
abbrev dktX6_comesAs_1 : List UInt8 := dkwX6_comesAs_1 ++ dktX6_comesAs_2
def dkwX6_comesAs_0 : List UInt8 := [27]
abbrev dktX6_comesAs_0 : List UInt8 := dkwX6_comesAs_0 ++ dktX6_comesAs_1
theorem dksX6_comesAs_0 : cX6_comesAs.data.toList.drop 0 = dktX6_comesAs_0 := by decide +kernel
theorem dksX6_comesAs_1 : cX6_comesAs.data.toList.drop 1 = dktX6_comesAs_1 := dk_seg dksX6_comesAs_0 1 rfl rfl
theorem dksX6_comesAs_2 : cX6_comesAs.data.toList.drop 44 = dktX6_comesAs_2 := dk_seg dksX6_comesAs_1 43 rfl rfl
theorem dksX6_comesAs_3 : cX6_comesAs.data.toList.drop 67 = dktX6_comesAs_3 := dk_seg dksX6_comesAs_2 23 rfl rfl
theorem dksX6_comesAs_4 : cX6_comesAs.data.toList.drop 91 = dktX6_comesAs_4 := dk_seg dksX6_comesAs_3 24 rfl rfl
theorem dksX6_comesAs_5 : cX6_comesAs.data.toList.drop 115 = dktX6_comesAs_5 := dk_seg dksX6_comesAs_4 24 rfl rfl
theorem dX6_comesAs_0 : decode cX6_comesAs 0 = .ok (.iload_n 1, 1) := dk_27 (dk_at dksX6_comesAs_0 0 rfl rfl)
theorem dX6_comesAs_1 : decode cX6_comesAs 1 = .ok (.tableswitch 127 0 6 #[43, 127, 65, 127, 83, 127, 101], 43) := by decide +kernel
theorem dX6_comesAs_44 : decode cX6_comesAs 44 = .ok (.aload_n 0, 1) := dk_42 (dk_at dksX6_comesAs_2 0 rfl rfl)
theorem dX6_comesAs_45 : decode cX6_comesAs 45 = .ok (.bipush 11, 2) := dk_16 11 (dk_at dksX6_comesAs_2 1 rfl rfl)
theorem dX6_comesAs_47 : decode cX6_comesAs 47 = .ok (.invokevirtual 239, 3) := dk_182 0 239 (dk_at dksX6_comesAs_2 3 rfl rfl)
theorem dX6_comesAs_50 : decode cX6_comesAs 50 = .ok (.aload_n 0, 1) := dk_42 (dk_at dksX6_comesAs_2 6 rfl rfl)
theorem dX6_comesAs_51 : decode cX6_comesAs 51 = .ok (.aload_n 0, 1) := dk_42 (dk_at dksX6_comesAs_2 7 rfl rfl)
theorem dX6_comesAs_52 : decode cX6_comesAs 52 = .ok (.aload_n 0, 1) := dk_42 (dk_at dksX6_comesAs_2 8 rfl rfl)
theorem dX6_comesAs_53 : decode cX6_comesAs 53 = .ok (.getfield 243, 3) := dk_180 0 243 (dk_at dksX6_comesAs_2 9 rfl rfl)
theorem dX6_comesAs_56 : decode cX6_comesAs 56 = .ok (.invokevirtual 130, 3) := dk_182 0 130 (dk_at dksX6_comesAs_2 12 rfl rfl)
theorem dX6_comesAs_59 : decode cX6_comesAs 59 = .ok (.iload_n 2, 1) := dk_28 (dk_at dksX6_comesAs_2 15 rfl rfl)
theorem dX6_comesAs_60 : decode cX6_comesAs 60 = .ok (.invokevirtual 249, 3) := dk_182 0 249 (dk_at dksX6_comesAs_2 16 rfl rfl)
theorem dX6_comesAs_63 : decode cX6_comesAs 63 = .ok (.iconst 2, 1) := dk_5 (dk_at dksX6_comesAs_2 19 rfl rfl)
theorem dX6_comesAs_64 : decode cX6_comesAs 64 = .ok (.imul, 1) := dk_104 (dk_at dksX6_comesAs_2 20 rfl rfl)
theorem dX6_comesAs_65 : decode cX6_comesAs 65 = .ok (.ireturn, 1) := dk_172 (dk_at dksX6_comesAs_2 21 rfl rfl)
theorem dX6_comesAs_66 : decode cX6_comesAs 66 = .ok (.aload_n 0, 1) := dk_42 (dk_at dksX6_comesAs_2 22 rfl rfl)
theorem dX6_comesAs_67 : decode cX6_comesAs 67 = .ok (.bipush 30, 2) := dk_16 30 (dk_at dksX6_comesAs_3 0 rfl rfl)
theorem dX6_comesAs_69 : decode cX6_comesAs 69 = .ok (.invokevirtual 239, 3) := dk_182 0 239 (dk_at dksX6_comesAs_3 2 rfl rfl)
theorem dX6_comesAs_72 : decode cX6_comesAs 72 = .ok (.iconst 0, 1) := dk_3 (dk_at dksX6_comesAs_3 5 rfl rfl)
theorem dX6_comesAs_73 : decode cX6_comesAs 73 = .ok (.aload_n 0, 1) := dk_42 (dk_at dksX6_comesAs_3 6 rfl rfl)
theorem dX6_comesAs_74 : decode cX6_comesAs 74 = .ok (.iconst 2, 1) := dk_5 (dk_at dksX6_comesAs_3 7 rfl rfl)
theorem dX6_comesAs_75 : decode cX6_comesAs 75 = .ok (.invokestatic 246, 3) := dk_184 0 246 (dk_at dksX6_comesAs_3 8 rfl rfl)
theorem dX6_comesAs_78 : decode cX6_comesAs 78 = .ok (.iload_n 2, 1) := dk_28 (dk_at dksX6_comesAs_3 11 rfl rfl)
theorem dX6_comesAs_79 : decode cX6_comesAs 79 = .ok (.invokevirtual 252, 3) := dk_182 0 252 (dk_at dksX6_comesAs_3 12 rfl rfl)
theorem dX6_comesAs_82 : decode cX6_comesAs 82 = .ok (.isub, 1) := dk_100 (dk_at dksX6_comesAs_3 15 rfl rfl)
theorem dX6_comesAs_83 : decode cX6_comesAs 83 = .ok (.ireturn, 1) := dk_172 (dk_at dksX6_comesAs_3 16 rfl rfl)
theorem dX6_comesAs_84 : decode cX6_comesAs 84 = .ok (.aload_n 0, 1) := dk_42 (dk_at dksX6_comesAs_3 17 rfl rfl)
theorem dX6_comesAs_85 : decode cX6_comesAs 85 = .ok (.bipush 60, 2) := dk_16 60 (dk_at dksX6_comesAs_3 18 rfl rfl)
theorem dX6_comesAs_87 : decode cX6_comesAs 87 = .ok (.invokevirtual 239, 3) := dk_182 0 239 (dk_at dksX6_comesAs_3 20 rfl rfl)
theorem dX6_comesAs_90 : decode cX6_comesAs 90 = .ok (.aload_n 0, 1) := dk_42 (dk_at dksX6_comesAs_3 23 rfl rfl)
theorem dX6_comesAs_91 : decode cX6_comesAs 91 = .ok (.iconst 4, 1) := dk_7 (dk_at dksX6_comesAs_4 0 rfl rfl)
theorem dX6_comesAs_92 : decode cX6_comesAs 92 = .ok (.invokestatic 246, 3) := dk_184 0 246 (dk_at dksX6_comesAs_4 1 rfl rfl)
theorem dX6_comesAs_95 : decode cX6_comesAs 95 = .ok (.iload_n 2, 1) := dk_28 (dk_at dksX6_comesAs_4 4 rfl rfl)
theorem dX6_comesAs_96 : decode cX6_comesAs 96 = .ok (.iconst 1, 1) := dk_4 (dk_at dksX6_comesAs_4 5 rfl rfl)
theorem dX6_comesAs_97 : decode cX6_comesAs 97 = .ok (.iadd, 1) := dk_96 (dk_at dksX6_comesAs_4 6 rfl rfl)
theorem dX6_comesAs_98 : decode cX6_comesAs 98 = .ok (.invokevirtual 252, 3) := dk_182 0 252 (dk_at dksX6_comesAs_4 7 rfl rfl)
theorem dX6_comesAs_101 : decode cX6_comesAs 101 = .ok (.ireturn, 1) := dk_172 (dk_at dksX6_comesAs_4 10 rfl rfl)
theorem dX6_comesAs_102 : decode cX6_comesAs 102 = .ok (.aload_n 0, 1) := dk_42 (dk_at dksX6_comesAs_4 11 rfl rfl)
theorem dX6_comesAs_103 : decode cX6_comesAs 103 = .ok (.bipush 71, 2) := dk_16 71 (dk_at dksX6_comesAs_4 12 rfl rfl)
theorem dX6_comesAs_105 : decode cX6_comesAs 105 = .ok (.invokevirtual 239, 3) := dk_182 0 239 (dk_at dksX6_comesAs_4 14 rfl rfl)
theorem dX6_comesAs_108 : decode cX6_comesAs 108 = .ok (.aload_n 0, 1) := dk_42 (dk_at dksX6_comesAs_4 17 rfl rfl)
theorem dX6_comesAs_109 : decode cX6_comesAs 109 = .ok (.bipush 6, 2) := dk_16 6 (dk_at dksX6_comesAs_4 18 rfl rfl)
theorem dX6_comesAs_111 : decode cX6_comesAs 111 = .ok (.invokestatic 246, 3) := dk_184 0 246 (dk_at dksX6_comesAs_4 20 rfl rfl)
theorem dX6_comesAs_114 : decode cX6_comesAs 114 = .ok (.iload_n 2, 1) := dk_28 (dk_at dksX6_comesAs_4 23 rfl rfl)
theorem dX6_comesAs_115 : decode cX6_comesAs 115 = .ok (.invokevirtual 252, 3) := dk_182 0 252 (dk_at dksX6_comesAs_5 0 rfl rfl)
theorem dX6_comesAs_118 : decode cX6_comesAs 118 = .ok (.aload_n 0, 1) := dk_42 (dk_at dksX6_comesAs_5 3 rfl rfl)
theorem dX6_comesAs_119 : decode cX6_comesAs 119 = .ok (.aload_n 0, 1) := dk_42 (dk_at dksX6_comesAs_5 4 rfl rfl)
theorem dX6_comesAs_120 : decode cX6_comesAs 120 = .ok (.getfield 243, 3) := dk_180 0 243 (dk_at dksX6_comesAs_5 5 rfl rfl)
theorem dX6_comesAs_123 : decode cX6_comesAs 123 = .ok (.invokevirtual 127, 3) := dk_182 0 127 (dk_at dksX6_comesAs_5 8 rfl rfl)
theorem dX6_comesAs_126 : decode cX6_comesAs 126 = .ok (.iadd, 1) := dk_96 (dk_at dksX6_comesAs_5 11 rfl rfl)
theorem dX6_comesAs_127 : decode cX6_comesAs 127 = .ok (.ireturn, 1) := dk_172 (dk_at dksX6_comesAs_5 12 rfl rfl)
theorem dX6_comesAs_128 : decode cX6_comesAs 128 = .ok (.aload_n 0, 1) := dk_42 (dk_at dksX6_comesAs_5 13 rfl rfl)
theorem dX6_comesAs_129 : decode cX6_comesAs 129 = .ok (.iload_n 1, 1) := dk_27 (dk_at dksX6_comesAs_5 14 rfl rfl)
theorem dX6_comesAs_130 : decode cX6_comesAs 130 = .ok (.invokestatic 246, 3) := dk_184 0 246 (dk_at dksX6_comesAs_5 15 rfl rfl)
theorem dX6_comesAs_133 : decode cX6_comesAs 133 = .ok (.iload_n 2, 1) := dk_28 (dk_at dksX6_comesAs_5 18 rfl rfl)
theorem dX6_comesAs_134 : decode cX6_comesAs 134 = .ok (.invokevirtual 252, 3) := dk_182 0 252 (dk_at dksX6_comesAs_5 19 rfl rfl)
theorem dX6_comesAs_137 : decode cX6_comesAs 137 = .ok (.ireturn, 1) := dk_172 (dk_at dksX6_comesAs_5 22 rfl rfl)
abbrev cX6_givesAs : ByteArray := prog_20_method_71_code
def yX6_givesAs : MethodName := ⟨RX6, "givesAs", "(II)I"⟩
def dkwX6_givesAs_5 : List UInt8 := [184, 0, 246, 28, 182, 0, 255, 172]
abbrev dktX6_givesAs_5 : List UInt8 := dkwX6_givesAs_5 ++ []
def dkwX6_givesAs_4 : List UInt8 := [16, 51, 182, 0, 239, 42, 8, 184, 0, 246, 28, 182, 0, 255, 42, 180, 0, 243, 130, 172, 42, 27]
abbrev dktX6_givesAs_4 : List UInt8 := dkwX6_givesAs_4 ++ dktX6_givesAs_5
def dkwX6_givesAs_3 : List UInt8 := [182, 0, 127, 100, 172, 42, 16, 40, 182, 0, 239, 42, 6, 184, 0, 246, 28, 5, 108, 182, 0, 255, 172, 42]
abbrev dktX6_givesAs_3 : List UInt8 := dkwX6_givesAs_3 ++ dktX6_givesAs_4
def dkwX6_givesAs_2 : List UInt8 := [42, 16, 12, 182, 0, 239, 42, 42, 42, 180, 0, 243, 182, 0, 130, 28, 182, 0, 252, 42, 42, 180, 0, 243]
abbrev dktX6_givesAs_2 : List UInt8 := dkwX6_givesAs_2 ++ dktX6_givesAs_3
def dkwX6_givesAs_1 : List UInt8 := [171, 0, 0, 0, 0, 0, 103, 0, 0, 0, 3, 0, 0, 0, 0, 0, 0, 0, 35, 0, 0, 0, 3, 0, 0, 0, 64, 0, 0, 0, 5, 0, 0, 0, 82]
abbrev dktX6_givesAs_1 : List UInt8 := dkwX6_givesAs_1 ++ dktX6_givesAs_2
def dkwX6_givesAs_0 : List UInt8 := [27]
abbrev dktX6_givesAs_0 : List UInt8 := dkwX6_givesAs_0 ++ dktX6_givesAs_1
theorem dksX6_givesAs_0 : cX6_givesAs.data.toList.drop 0 = dktX6_givesAs_0 := by decide +kernel
theorem dksX6_givesAs_1 : cX6_givesAs.data.toList.drop 1 = dktX6_givesAs_1 := dk_seg dksX6_givesAs_0 1 rfl rfl
theorem dksX6_givesAs_2 : cX6_givesAs.data.toList.drop 36 = dktX6_givesAs_2 := dk_seg dksX6_givesAs_1 35 rfl rfl
theorem dksX6_givesAs_3 : cX6_givesAs.data.toList.drop 60 = dktX6_givesAs_3 := dk_seg dksX6_givesAs_2 24 rfl rfl
theorem dksX6_givesAs_4 : cX6_givesAs.data.toList.drop 84 = dktX6_givesAs_4 := dk_seg dksX6_givesAs_3 24 rfl rfl
theorem dksX6_givesAs_5 : cX6_givesAs.data.toList.drop 106 = dktX6_givesAs_5 := dk_seg dksX6_givesAs_4 22 rfl rfl
theorem dX6_givesAs_0 : decode cX6_givesAs 0 = .ok (.iload_n 1, 1) := dk_27 (dk_at dksX6_givesAs_0 0 rfl rfl)
theorem dX6_givesAs_1 : decode cX6_givesAs 1 = .ok (.lookupswitch 103 #[(0, 35), (3, 64), (5, 82)], 35) := by decide +kernel
theorem dX6_givesAs_36 : decode cX6_givesAs 36 = .ok (.aload_n 0, 1) := dk_42 (dk_at dksX6_givesAs_2 0 rfl rfl)
theorem dX6_givesAs_37 : decode cX6_givesAs 37 = .ok (.bipush 12, 2) := dk_16 12 (dk_at dksX6_givesAs_2 1 rfl rfl)
theorem dX6_givesAs_39 : decode cX6_givesAs 39 = .ok (.invokevirtual 239, 3) := dk_182 0 239 (dk_at dksX6_givesAs_2 3 rfl rfl)
theorem dX6_givesAs_42 : decode cX6_givesAs 42 = .ok (.aload_n 0, 1) := dk_42 (dk_at dksX6_givesAs_2 6 rfl rfl)
theorem dX6_givesAs_43 : decode cX6_givesAs 43 = .ok (.aload_n 0, 1) := dk_42 (dk_at dksX6_givesAs_2 7 rfl rfl)
theorem dX6_givesAs_44 : decode cX6_givesAs 44 = .ok (.aload_n 0, 1) := dk_42 (dk_at dksX6_givesAs_2 8 rfl rfl)
theorem dX6_givesAs_45 : decode cX6_givesAs 45 = .ok (.getfield 243, 3) := dk_180 0 243 (dk_at dksX6_givesAs_2 9 rfl rfl)
theorem dX6_givesAs_48 : decode cX6_givesAs 48 = .ok (.invokevirtual 130, 3) := dk_182 0 130 (dk_at dksX6_givesAs_2 12 rfl rfl)
theorem dX6_givesAs_51 : decode cX6_givesAs 51 = .ok (.iload_n 2, 1) := dk_28 (dk_at dksX6_givesAs_2 15 rfl rfl)
theorem dX6_givesAs_52 : decode cX6_givesAs 52 = .ok (.invokevirtual 252, 3) := dk_182 0 252 (dk_at dksX6_givesAs_2 16 rfl rfl)
theorem dX6_givesAs_55 : decode cX6_givesAs 55 = .ok (.aload_n 0, 1) := dk_42 (dk_at dksX6_givesAs_2 19 rfl rfl)
theorem dX6_givesAs_56 : decode cX6_givesAs 56 = .ok (.aload_n 0, 1) := dk_42 (dk_at dksX6_givesAs_2 20 rfl rfl)
theorem dX6_givesAs_57 : decode cX6_givesAs 57 = .ok (.getfield 243, 3) := dk_180 0 243 (dk_at dksX6_givesAs_2 21 rfl rfl)
theorem dX6_givesAs_60 : decode cX6_givesAs 60 = .ok (.invokevirtual 127, 3) := dk_182 0 127 (dk_at dksX6_givesAs_3 0 rfl rfl)
theorem dX6_givesAs_63 : decode cX6_givesAs 63 = .ok (.isub, 1) := dk_100 (dk_at dksX6_givesAs_3 3 rfl rfl)
theorem dX6_givesAs_64 : decode cX6_givesAs 64 = .ok (.ireturn, 1) := dk_172 (dk_at dksX6_givesAs_3 4 rfl rfl)
theorem dX6_givesAs_65 : decode cX6_givesAs 65 = .ok (.aload_n 0, 1) := dk_42 (dk_at dksX6_givesAs_3 5 rfl rfl)
theorem dX6_givesAs_66 : decode cX6_givesAs 66 = .ok (.bipush 40, 2) := dk_16 40 (dk_at dksX6_givesAs_3 6 rfl rfl)
theorem dX6_givesAs_68 : decode cX6_givesAs 68 = .ok (.invokevirtual 239, 3) := dk_182 0 239 (dk_at dksX6_givesAs_3 8 rfl rfl)
theorem dX6_givesAs_71 : decode cX6_givesAs 71 = .ok (.aload_n 0, 1) := dk_42 (dk_at dksX6_givesAs_3 11 rfl rfl)
theorem dX6_givesAs_72 : decode cX6_givesAs 72 = .ok (.iconst 3, 1) := dk_6 (dk_at dksX6_givesAs_3 12 rfl rfl)
theorem dX6_givesAs_73 : decode cX6_givesAs 73 = .ok (.invokestatic 246, 3) := dk_184 0 246 (dk_at dksX6_givesAs_3 13 rfl rfl)
theorem dX6_givesAs_76 : decode cX6_givesAs 76 = .ok (.iload_n 2, 1) := dk_28 (dk_at dksX6_givesAs_3 16 rfl rfl)
theorem dX6_givesAs_77 : decode cX6_givesAs 77 = .ok (.iconst 2, 1) := dk_5 (dk_at dksX6_givesAs_3 17 rfl rfl)
theorem dX6_givesAs_78 : decode cX6_givesAs 78 = .ok (.idiv, 1) := dk_108 (dk_at dksX6_givesAs_3 18 rfl rfl)
theorem dX6_givesAs_79 : decode cX6_givesAs 79 = .ok (.invokevirtual 255, 3) := dk_182 0 255 (dk_at dksX6_givesAs_3 19 rfl rfl)
theorem dX6_givesAs_82 : decode cX6_givesAs 82 = .ok (.ireturn, 1) := dk_172 (dk_at dksX6_givesAs_3 22 rfl rfl)
theorem dX6_givesAs_83 : decode cX6_givesAs 83 = .ok (.aload_n 0, 1) := dk_42 (dk_at dksX6_givesAs_3 23 rfl rfl)
theorem dX6_givesAs_84 : decode cX6_givesAs 84 = .ok (.bipush 51, 2) := dk_16 51 (dk_at dksX6_givesAs_4 0 rfl rfl)
theorem dX6_givesAs_86 : decode cX6_givesAs 86 = .ok (.invokevirtual 239, 3) := dk_182 0 239 (dk_at dksX6_givesAs_4 2 rfl rfl)
theorem dX6_givesAs_89 : decode cX6_givesAs 89 = .ok (.aload_n 0, 1) := dk_42 (dk_at dksX6_givesAs_4 5 rfl rfl)
theorem dX6_givesAs_90 : decode cX6_givesAs 90 = .ok (.iconst 5, 1) := dk_8 (dk_at dksX6_givesAs_4 6 rfl rfl)
theorem dX6_givesAs_91 : decode cX6_givesAs 91 = .ok (.invokestatic 246, 3) := dk_184 0 246 (dk_at dksX6_givesAs_4 7 rfl rfl)
theorem dX6_givesAs_94 : decode cX6_givesAs 94 = .ok (.iload_n 2, 1) := dk_28 (dk_at dksX6_givesAs_4 10 rfl rfl)
theorem dX6_givesAs_95 : decode cX6_givesAs 95 = .ok (.invokevirtual 255, 3) := dk_182 0 255 (dk_at dksX6_givesAs_4 11 rfl rfl)
theorem dX6_givesAs_98 : decode cX6_givesAs 98 = .ok (.aload_n 0, 1) := dk_42 (dk_at dksX6_givesAs_4 14 rfl rfl)
theorem dX6_givesAs_99 : decode cX6_givesAs 99 = .ok (.getfield 243, 3) := dk_180 0 243 (dk_at dksX6_givesAs_4 15 rfl rfl)
theorem dX6_givesAs_102 : decode cX6_givesAs 102 = .ok (.ixor, 1) := dk_130 (dk_at dksX6_givesAs_4 18 rfl rfl)
theorem dX6_givesAs_103 : decode cX6_givesAs 103 = .ok (.ireturn, 1) := dk_172 (dk_at dksX6_givesAs_4 19 rfl rfl)
theorem dX6_givesAs_104 : decode cX6_givesAs 104 = .ok (.aload_n 0, 1) := dk_42 (dk_at dksX6_givesAs_4 20 rfl rfl)
theorem dX6_givesAs_105 : decode cX6_givesAs 105 = .ok (.iload_n 1, 1) := dk_27 (dk_at dksX6_givesAs_4 21 rfl rfl)
theorem dX6_givesAs_106 : decode cX6_givesAs 106 = .ok (.invokestatic 246, 3) := dk_184 0 246 (dk_at dksX6_givesAs_5 0 rfl rfl)
theorem dX6_givesAs_109 : decode cX6_givesAs 109 = .ok (.iload_n 2, 1) := dk_28 (dk_at dksX6_givesAs_5 3 rfl rfl)
theorem dX6_givesAs_110 : decode cX6_givesAs 110 = .ok (.invokevirtual 255, 3) := dk_182 0 255 (dk_at dksX6_givesAs_5 4 rfl rfl)
theorem dX6_givesAs_113 : decode cX6_givesAs 113 = .ok (.ireturn, 1) := dk_172 (dk_at dksX6_givesAs_5 7 rfl rfl)
abbrev cX6_partsAs : ByteArray := prog_20_method_72_code
def yX6_partsAs : MethodName := ⟨RX6, "partsAs", "(II)I"⟩
def dkwX6_partsAs_6 : List UInt8 := [4, 182, 0, 252, 96, 172, 42, 27, 184, 0, 246, 28, 182, 1, 6, 172]
abbrev dktX6_partsAs_6 : List UInt8 := dkwX6_partsAs_6 ++ []
def dkwX6_partsAs_5 : List UInt8 := [54, 4, 42, 180, 1, 2, 153, 0, 7, 3, 167, 0, 19, 21, 4, 42, 42, 42, 180, 0, 243, 182, 0, 130]
abbrev dktX6_partsAs_5 : List UInt8 := dkwX6_partsAs_5 ++ dktX6_partsAs_6
def dkwX6_partsAs_4 : List UInt8 := [28, 116, 167, 0, 6, 28, 29, 108, 172, 42, 16, 21, 182, 0, 239, 42, 4, 184, 0, 246, 28, 182, 1, 6]
abbrev dktX6_partsAs_4 : List UInt8 := dkwX6_partsAs_4 ++ dktX6_partsAs_5
def dkwX6_partsAs_3 : List UInt8 := [154, 0, 7, 4, 167, 0, 4, 3, 181, 1, 2, 29, 154, 0, 7, 3, 167, 0, 16, 29, 2, 160, 0, 8]
abbrev dktX6_partsAs_3 : List UInt8 := dkwX6_partsAs_3 ++ dktX6_partsAs_4
def dkwX6_partsAs_2 : List UInt8 := [42, 16, 13, 182, 0, 239, 42, 42, 180, 0, 243, 182, 0, 127, 42, 180, 0, 243, 100, 62, 42, 29]
abbrev dktX6_partsAs_2 : List UInt8 := dkwX6_partsAs_2 ++ dktX6_partsAs_3
def dkwX6_partsAs_1 : List UInt8 := [171, 0, 0, 0, 0, 0, 127, 0, 0, 0, 2, 0, 0, 0, 0, 0, 0, 0, 27, 0, 0, 0, 1, 0, 0, 0, 82]
abbrev dktX6_partsAs_1 : List UInt8 := dkwX6_partsAs_1 ++ dktX6_partsAs_2
def dkwX6_partsAs_0 : List UInt8 := [27]
abbrev dktX6_partsAs_0 : List UInt8 := dkwX6_partsAs_0 ++ dktX6_partsAs_1
theorem dksX6_partsAs_0 : cX6_partsAs.data.toList.drop 0 = dktX6_partsAs_0 := by decide +kernel
theorem dksX6_partsAs_1 : cX6_partsAs.data.toList.drop 1 = dktX6_partsAs_1 := dk_seg dksX6_partsAs_0 1 rfl rfl
theorem dksX6_partsAs_2 : cX6_partsAs.data.toList.drop 28 = dktX6_partsAs_2 := dk_seg dksX6_partsAs_1 27 rfl rfl
theorem dksX6_partsAs_3 : cX6_partsAs.data.toList.drop 50 = dktX6_partsAs_3 := dk_seg dksX6_partsAs_2 22 rfl rfl
theorem dksX6_partsAs_4 : cX6_partsAs.data.toList.drop 74 = dktX6_partsAs_4 := dk_seg dksX6_partsAs_3 24 rfl rfl
theorem dksX6_partsAs_5 : cX6_partsAs.data.toList.drop 98 = dktX6_partsAs_5 := dk_seg dksX6_partsAs_4 24 rfl rfl
theorem dksX6_partsAs_6 : cX6_partsAs.data.toList.drop 122 = dktX6_partsAs_6 := dk_seg dksX6_partsAs_5 24 rfl rfl
theorem dX6_partsAs_0 : decode cX6_partsAs 0 = .ok (.iload_n 1, 1) := dk_27 (dk_at dksX6_partsAs_0 0 rfl rfl)
theorem dX6_partsAs_1 : decode cX6_partsAs 1 = .ok (.lookupswitch 127 #[(0, 27), (1, 82)], 27) := by decide +kernel
theorem dX6_partsAs_28 : decode cX6_partsAs 28 = .ok (.aload_n 0, 1) := dk_42 (dk_at dksX6_partsAs_2 0 rfl rfl)
theorem dX6_partsAs_29 : decode cX6_partsAs 29 = .ok (.bipush 13, 2) := dk_16 13 (dk_at dksX6_partsAs_2 1 rfl rfl)
theorem dX6_partsAs_31 : decode cX6_partsAs 31 = .ok (.invokevirtual 239, 3) := dk_182 0 239 (dk_at dksX6_partsAs_2 3 rfl rfl)
theorem dX6_partsAs_34 : decode cX6_partsAs 34 = .ok (.aload_n 0, 1) := dk_42 (dk_at dksX6_partsAs_2 6 rfl rfl)
theorem dX6_partsAs_35 : decode cX6_partsAs 35 = .ok (.aload_n 0, 1) := dk_42 (dk_at dksX6_partsAs_2 7 rfl rfl)
theorem dX6_partsAs_36 : decode cX6_partsAs 36 = .ok (.getfield 243, 3) := dk_180 0 243 (dk_at dksX6_partsAs_2 8 rfl rfl)
theorem dX6_partsAs_39 : decode cX6_partsAs 39 = .ok (.invokevirtual 127, 3) := dk_182 0 127 (dk_at dksX6_partsAs_2 11 rfl rfl)
theorem dX6_partsAs_42 : decode cX6_partsAs 42 = .ok (.aload_n 0, 1) := dk_42 (dk_at dksX6_partsAs_2 14 rfl rfl)
theorem dX6_partsAs_43 : decode cX6_partsAs 43 = .ok (.getfield 243, 3) := dk_180 0 243 (dk_at dksX6_partsAs_2 15 rfl rfl)
theorem dX6_partsAs_46 : decode cX6_partsAs 46 = .ok (.isub, 1) := dk_100 (dk_at dksX6_partsAs_2 18 rfl rfl)
theorem dX6_partsAs_47 : decode cX6_partsAs 47 = .ok (.istore_n 3, 1) := dk_62 (dk_at dksX6_partsAs_2 19 rfl rfl)
theorem dX6_partsAs_48 : decode cX6_partsAs 48 = .ok (.aload_n 0, 1) := dk_42 (dk_at dksX6_partsAs_2 20 rfl rfl)
theorem dX6_partsAs_49 : decode cX6_partsAs 49 = .ok (.iload_n 3, 1) := dk_29 (dk_at dksX6_partsAs_2 21 rfl rfl)
theorem dX6_partsAs_50 : decode cX6_partsAs 50 = .ok (.ifCond .ne 7, 3) := dk_154 0 7 (dk_at dksX6_partsAs_3 0 rfl rfl)
theorem dX6_partsAs_53 : decode cX6_partsAs 53 = .ok (.iconst 1, 1) := dk_4 (dk_at dksX6_partsAs_3 3 rfl rfl)
theorem dX6_partsAs_54 : decode cX6_partsAs 54 = .ok (.goto 4, 3) := dk_167 0 4 (dk_at dksX6_partsAs_3 4 rfl rfl)
theorem dX6_partsAs_57 : decode cX6_partsAs 57 = .ok (.iconst 0, 1) := dk_3 (dk_at dksX6_partsAs_3 7 rfl rfl)
theorem dX6_partsAs_58 : decode cX6_partsAs 58 = .ok (.putfield 258, 3) := dk_181 1 2 (dk_at dksX6_partsAs_3 8 rfl rfl)
theorem dX6_partsAs_61 : decode cX6_partsAs 61 = .ok (.iload_n 3, 1) := dk_29 (dk_at dksX6_partsAs_3 11 rfl rfl)
theorem dX6_partsAs_62 : decode cX6_partsAs 62 = .ok (.ifCond .ne 7, 3) := dk_154 0 7 (dk_at dksX6_partsAs_3 12 rfl rfl)
theorem dX6_partsAs_65 : decode cX6_partsAs 65 = .ok (.iconst 0, 1) := dk_3 (dk_at dksX6_partsAs_3 15 rfl rfl)
theorem dX6_partsAs_66 : decode cX6_partsAs 66 = .ok (.goto 16, 3) := dk_167 0 16 (dk_at dksX6_partsAs_3 16 rfl rfl)
theorem dX6_partsAs_69 : decode cX6_partsAs 69 = .ok (.iload_n 3, 1) := dk_29 (dk_at dksX6_partsAs_3 19 rfl rfl)
theorem dX6_partsAs_70 : decode cX6_partsAs 70 = .ok (.iconst (-1), 1) := dk_2 (dk_at dksX6_partsAs_3 20 rfl rfl)
theorem dX6_partsAs_71 : decode cX6_partsAs 71 = .ok (.if_icmp .ne 8, 3) := dk_160 0 8 (dk_at dksX6_partsAs_3 21 rfl rfl)
theorem dX6_partsAs_74 : decode cX6_partsAs 74 = .ok (.iload_n 2, 1) := dk_28 (dk_at dksX6_partsAs_4 0 rfl rfl)
theorem dX6_partsAs_75 : decode cX6_partsAs 75 = .ok (.ineg, 1) := dk_116 (dk_at dksX6_partsAs_4 1 rfl rfl)
theorem dX6_partsAs_76 : decode cX6_partsAs 76 = .ok (.goto 6, 3) := dk_167 0 6 (dk_at dksX6_partsAs_4 2 rfl rfl)
theorem dX6_partsAs_79 : decode cX6_partsAs 79 = .ok (.iload_n 2, 1) := dk_28 (dk_at dksX6_partsAs_4 5 rfl rfl)
theorem dX6_partsAs_80 : decode cX6_partsAs 80 = .ok (.iload_n 3, 1) := dk_29 (dk_at dksX6_partsAs_4 6 rfl rfl)
theorem dX6_partsAs_81 : decode cX6_partsAs 81 = .ok (.idiv, 1) := dk_108 (dk_at dksX6_partsAs_4 7 rfl rfl)
theorem dX6_partsAs_82 : decode cX6_partsAs 82 = .ok (.ireturn, 1) := dk_172 (dk_at dksX6_partsAs_4 8 rfl rfl)
theorem dX6_partsAs_83 : decode cX6_partsAs 83 = .ok (.aload_n 0, 1) := dk_42 (dk_at dksX6_partsAs_4 9 rfl rfl)
theorem dX6_partsAs_84 : decode cX6_partsAs 84 = .ok (.bipush 21, 2) := dk_16 21 (dk_at dksX6_partsAs_4 10 rfl rfl)
theorem dX6_partsAs_86 : decode cX6_partsAs 86 = .ok (.invokevirtual 239, 3) := dk_182 0 239 (dk_at dksX6_partsAs_4 12 rfl rfl)
theorem dX6_partsAs_89 : decode cX6_partsAs 89 = .ok (.aload_n 0, 1) := dk_42 (dk_at dksX6_partsAs_4 15 rfl rfl)
theorem dX6_partsAs_90 : decode cX6_partsAs 90 = .ok (.iconst 1, 1) := dk_4 (dk_at dksX6_partsAs_4 16 rfl rfl)
theorem dX6_partsAs_91 : decode cX6_partsAs 91 = .ok (.invokestatic 246, 3) := dk_184 0 246 (dk_at dksX6_partsAs_4 17 rfl rfl)
theorem dX6_partsAs_94 : decode cX6_partsAs 94 = .ok (.iload_n 2, 1) := dk_28 (dk_at dksX6_partsAs_4 20 rfl rfl)
theorem dX6_partsAs_95 : decode cX6_partsAs 95 = .ok (.invokevirtual 262, 3) := dk_182 1 6 (dk_at dksX6_partsAs_4 21 rfl rfl)
theorem dX6_partsAs_98 : decode cX6_partsAs 98 = .ok (.istore 4, 2) := dk_54 4 (dk_at dksX6_partsAs_5 0 rfl rfl)
theorem dX6_partsAs_100 : decode cX6_partsAs 100 = .ok (.aload_n 0, 1) := dk_42 (dk_at dksX6_partsAs_5 2 rfl rfl)
theorem dX6_partsAs_101 : decode cX6_partsAs 101 = .ok (.getfield 258, 3) := dk_180 1 2 (dk_at dksX6_partsAs_5 3 rfl rfl)
theorem dX6_partsAs_104 : decode cX6_partsAs 104 = .ok (.ifCond .eq 7, 3) := dk_153 0 7 (dk_at dksX6_partsAs_5 6 rfl rfl)
theorem dX6_partsAs_107 : decode cX6_partsAs 107 = .ok (.iconst 0, 1) := dk_3 (dk_at dksX6_partsAs_5 9 rfl rfl)
theorem dX6_partsAs_108 : decode cX6_partsAs 108 = .ok (.goto 19, 3) := dk_167 0 19 (dk_at dksX6_partsAs_5 10 rfl rfl)
theorem dX6_partsAs_111 : decode cX6_partsAs 111 = .ok (.iload 4, 2) := dk_21 4 (dk_at dksX6_partsAs_5 13 rfl rfl)
theorem dX6_partsAs_113 : decode cX6_partsAs 113 = .ok (.aload_n 0, 1) := dk_42 (dk_at dksX6_partsAs_5 15 rfl rfl)
theorem dX6_partsAs_114 : decode cX6_partsAs 114 = .ok (.aload_n 0, 1) := dk_42 (dk_at dksX6_partsAs_5 16 rfl rfl)
theorem dX6_partsAs_115 : decode cX6_partsAs 115 = .ok (.aload_n 0, 1) := dk_42 (dk_at dksX6_partsAs_5 17 rfl rfl)
theorem dX6_partsAs_116 : decode cX6_partsAs 116 = .ok (.getfield 243, 3) := dk_180 0 243 (dk_at dksX6_partsAs_5 18 rfl rfl)
theorem dX6_partsAs_119 : decode cX6_partsAs 119 = .ok (.invokevirtual 130, 3) := dk_182 0 130 (dk_at dksX6_partsAs_5 21 rfl rfl)
theorem dX6_partsAs_122 : decode cX6_partsAs 122 = .ok (.iconst 1, 1) := dk_4 (dk_at dksX6_partsAs_6 0 rfl rfl)
theorem dX6_partsAs_123 : decode cX6_partsAs 123 = .ok (.invokevirtual 252, 3) := dk_182 0 252 (dk_at dksX6_partsAs_6 1 rfl rfl)
theorem dX6_partsAs_126 : decode cX6_partsAs 126 = .ok (.iadd, 1) := dk_96 (dk_at dksX6_partsAs_6 4 rfl rfl)
theorem dX6_partsAs_127 : decode cX6_partsAs 127 = .ok (.ireturn, 1) := dk_172 (dk_at dksX6_partsAs_6 5 rfl rfl)
theorem dX6_partsAs_128 : decode cX6_partsAs 128 = .ok (.aload_n 0, 1) := dk_42 (dk_at dksX6_partsAs_6 6 rfl rfl)
theorem dX6_partsAs_129 : decode cX6_partsAs 129 = .ok (.iload_n 1, 1) := dk_27 (dk_at dksX6_partsAs_6 7 rfl rfl)
theorem dX6_partsAs_130 : decode cX6_partsAs 130 = .ok (.invokestatic 246, 3) := dk_184 0 246 (dk_at dksX6_partsAs_6 8 rfl rfl)
theorem dX6_partsAs_133 : decode cX6_partsAs 133 = .ok (.iload_n 2, 1) := dk_28 (dk_at dksX6_partsAs_6 11 rfl rfl)
theorem dX6_partsAs_134 : decode cX6_partsAs 134 = .ok (.invokevirtual 262, 3) := dk_182 1 6 (dk_at dksX6_partsAs_6 12 rfl rfl)
theorem dX6_partsAs_137 : decode cX6_partsAs 137 = .ok (.ireturn, 1) := dk_172 (dk_at dksX6_partsAs_6 15 rfl rfl)
abbrev cX6_body : ByteArray := prog_20_method_74_code
def yX6_body : MethodName := ⟨RX6, "body", "(I)I"⟩
def dkwX6_body_1 : List UInt8 := [5, 182, 0, 63, 172]
abbrev dktX6_body_1 : List UInt8 := dkwX6_body_1 ++ []
def dkwX6_body_0 : List UInt8 := [27, 3, 42, 180, 0, 236, 4, 100, 184, 0, 59, 153, 0, 12, 42, 180, 0, 43, 27, 46, 167, 0, 8, 42]
abbrev dktX6_body_0 : List UInt8 := dkwX6_body_0 ++ dktX6_body_1
theorem dksX6_body_0 : cX6_body.data.toList.drop 0 = dktX6_body_0 := by decide +kernel
theorem dksX6_body_1 : cX6_body.data.toList.drop 24 = dktX6_body_1 := dk_seg dksX6_body_0 24 rfl rfl
theorem dX6_body_0 : decode cX6_body 0 = .ok (.iload_n 1, 1) := dk_27 (dk_at dksX6_body_0 0 rfl rfl)
theorem dX6_body_1 : decode cX6_body 1 = .ok (.iconst 0, 1) := dk_3 (dk_at dksX6_body_0 1 rfl rfl)
theorem dX6_body_2 : decode cX6_body 2 = .ok (.aload_n 0, 1) := dk_42 (dk_at dksX6_body_0 2 rfl rfl)
theorem dX6_body_3 : decode cX6_body 3 = .ok (.getfield 236, 3) := dk_180 0 236 (dk_at dksX6_body_0 3 rfl rfl)
theorem dX6_body_6 : decode cX6_body 6 = .ok (.iconst 1, 1) := dk_4 (dk_at dksX6_body_0 6 rfl rfl)
theorem dX6_body_7 : decode cX6_body 7 = .ok (.isub, 1) := dk_100 (dk_at dksX6_body_0 7 rfl rfl)
theorem dX6_body_8 : decode cX6_body 8 = .ok (.invokestatic 59, 3) := dk_184 0 59 (dk_at dksX6_body_0 8 rfl rfl)
theorem dX6_body_11 : decode cX6_body 11 = .ok (.ifCond .eq 12, 3) := dk_153 0 12 (dk_at dksX6_body_0 11 rfl rfl)
theorem dX6_body_14 : decode cX6_body 14 = .ok (.aload_n 0, 1) := dk_42 (dk_at dksX6_body_0 14 rfl rfl)
theorem dX6_body_15 : decode cX6_body 15 = .ok (.getfield 43, 3) := dk_180 0 43 (dk_at dksX6_body_0 15 rfl rfl)
theorem dX6_body_18 : decode cX6_body 18 = .ok (.iload_n 1, 1) := dk_27 (dk_at dksX6_body_0 18 rfl rfl)
theorem dX6_body_19 : decode cX6_body 19 = .ok (.iaload, 1) := dk_46 (dk_at dksX6_body_0 19 rfl rfl)
theorem dX6_body_20 : decode cX6_body 20 = .ok (.goto 8, 3) := dk_167 0 8 (dk_at dksX6_body_0 20 rfl rfl)
theorem dX6_body_23 : decode cX6_body 23 = .ok (.aload_n 0, 1) := dk_42 (dk_at dksX6_body_0 23 rfl rfl)
theorem dX6_body_24 : decode cX6_body 24 = .ok (.iconst 2, 1) := dk_5 (dk_at dksX6_body_1 0 rfl rfl)
theorem dX6_body_25 : decode cX6_body 25 = .ok (.invokevirtual 63, 3) := dk_182 0 63 (dk_at dksX6_body_1 1 rfl rfl)
theorem dX6_body_28 : decode cX6_body 28 = .ok (.ireturn, 1) := dk_172 (dk_at dksX6_body_1 4 rfl rfl)
abbrev cX6_sheet : ByteArray := prog_20_method_76_code
def yX6_sheet : MethodName := ⟨RX6, "sheet", "(III)I"⟩
def dkwX6_sheet_4 : List UInt8 := [162, 0, 22, 42, 180, 0, 52, 16, 24, 27, 104, 21, 4, 96, 3, 79, 132, 4, 1, 167, 255, 233, 4, 172]
abbrev dktX6_sheet_4 : List UInt8 := dkwX6_sheet_4 ++ []
def dkwX6_sheet_3 : List UInt8 := [42, 180, 0, 49, 27, 28, 154, 0, 7, 3, 167, 0, 4, 29, 79, 3, 54, 4, 21, 4, 16, 24]
abbrev dktX6_sheet_3 : List UInt8 := dkwX6_sheet_3 ++ dktX6_sheet_4
def dkwX6_sheet_2 : List UInt8 := [172, 28, 153, 0, 15, 29, 16, 24, 164, 0, 9, 42, 4, 182, 0, 63, 172, 42, 180, 0, 46, 27, 28, 79]
abbrev dktX6_sheet_2 : List UInt8 := dkwX6_sheet_2 ++ dktX6_sheet_3
def dkwX6_sheet_1 : List UInt8 := [16, 32, 159, 0, 9, 42, 4, 182, 0, 63, 172, 28, 153, 0, 13, 29, 156, 0, 9, 42, 6, 182, 0, 63]
abbrev dktX6_sheet_1 : List UInt8 := dkwX6_sheet_1 ++ dktX6_sheet_2
def dkwX6_sheet_0 : List UInt8 := [27, 184, 0, 169, 153, 0, 25, 28, 153, 0, 27, 28, 16, 8, 159, 0, 21, 28, 16, 16, 159, 0, 15, 28]
abbrev dktX6_sheet_0 : List UInt8 := dkwX6_sheet_0 ++ dktX6_sheet_1
theorem dksX6_sheet_0 : cX6_sheet.data.toList.drop 0 = dktX6_sheet_0 := by decide +kernel
theorem dksX6_sheet_1 : cX6_sheet.data.toList.drop 24 = dktX6_sheet_1 := dk_seg dksX6_sheet_0 24 rfl rfl
theorem dksX6_sheet_2 : cX6_sheet.data.toList.drop 48 = dktX6_sheet_2 := dk_seg dksX6_sheet_1 24 rfl rfl
theorem dksX6_sheet_3 : cX6_sheet.data.toList.drop 72 = dktX6_sheet_3 := dk_seg dksX6_sheet_2 24 rfl rfl
theorem dksX6_sheet_4 : cX6_sheet.data.toList.drop 94 = dktX6_sheet_4 := dk_seg dksX6_sheet_3 22 rfl rfl
theorem dX6_sheet_0 : decode cX6_sheet 0 = .ok (.iload_n 1, 1) := dk_27 (dk_at dksX6_sheet_0 0 rfl rfl)
theorem dX6_sheet_1 : decode cX6_sheet 1 = .ok (.invokestatic 169, 3) := dk_184 0 169 (dk_at dksX6_sheet_0 1 rfl rfl)
theorem dX6_sheet_4 : decode cX6_sheet 4 = .ok (.ifCond .eq 25, 3) := dk_153 0 25 (dk_at dksX6_sheet_0 4 rfl rfl)
theorem dX6_sheet_7 : decode cX6_sheet 7 = .ok (.iload_n 2, 1) := dk_28 (dk_at dksX6_sheet_0 7 rfl rfl)
theorem dX6_sheet_8 : decode cX6_sheet 8 = .ok (.ifCond .eq 27, 3) := dk_153 0 27 (dk_at dksX6_sheet_0 8 rfl rfl)
theorem dX6_sheet_11 : decode cX6_sheet 11 = .ok (.iload_n 2, 1) := dk_28 (dk_at dksX6_sheet_0 11 rfl rfl)
theorem dX6_sheet_12 : decode cX6_sheet 12 = .ok (.bipush 8, 2) := dk_16 8 (dk_at dksX6_sheet_0 12 rfl rfl)
theorem dX6_sheet_14 : decode cX6_sheet 14 = .ok (.if_icmp .eq 21, 3) := dk_159 0 21 (dk_at dksX6_sheet_0 14 rfl rfl)
theorem dX6_sheet_17 : decode cX6_sheet 17 = .ok (.iload_n 2, 1) := dk_28 (dk_at dksX6_sheet_0 17 rfl rfl)
theorem dX6_sheet_18 : decode cX6_sheet 18 = .ok (.bipush 16, 2) := dk_16 16 (dk_at dksX6_sheet_0 18 rfl rfl)
theorem dX6_sheet_20 : decode cX6_sheet 20 = .ok (.if_icmp .eq 15, 3) := dk_159 0 15 (dk_at dksX6_sheet_0 20 rfl rfl)
theorem dX6_sheet_23 : decode cX6_sheet 23 = .ok (.iload_n 2, 1) := dk_28 (dk_at dksX6_sheet_0 23 rfl rfl)
theorem dX6_sheet_24 : decode cX6_sheet 24 = .ok (.bipush 32, 2) := dk_16 32 (dk_at dksX6_sheet_1 0 rfl rfl)
theorem dX6_sheet_26 : decode cX6_sheet 26 = .ok (.if_icmp .eq 9, 3) := dk_159 0 9 (dk_at dksX6_sheet_1 2 rfl rfl)
theorem dX6_sheet_29 : decode cX6_sheet 29 = .ok (.aload_n 0, 1) := dk_42 (dk_at dksX6_sheet_1 5 rfl rfl)
theorem dX6_sheet_30 : decode cX6_sheet 30 = .ok (.iconst 1, 1) := dk_4 (dk_at dksX6_sheet_1 6 rfl rfl)
theorem dX6_sheet_31 : decode cX6_sheet 31 = .ok (.invokevirtual 63, 3) := dk_182 0 63 (dk_at dksX6_sheet_1 7 rfl rfl)
theorem dX6_sheet_34 : decode cX6_sheet 34 = .ok (.ireturn, 1) := dk_172 (dk_at dksX6_sheet_1 10 rfl rfl)
theorem dX6_sheet_35 : decode cX6_sheet 35 = .ok (.iload_n 2, 1) := dk_28 (dk_at dksX6_sheet_1 11 rfl rfl)
theorem dX6_sheet_36 : decode cX6_sheet 36 = .ok (.ifCond .eq 13, 3) := dk_153 0 13 (dk_at dksX6_sheet_1 12 rfl rfl)
theorem dX6_sheet_39 : decode cX6_sheet 39 = .ok (.iload_n 3, 1) := dk_29 (dk_at dksX6_sheet_1 15 rfl rfl)
theorem dX6_sheet_40 : decode cX6_sheet 40 = .ok (.ifCond .ge 9, 3) := dk_156 0 9 (dk_at dksX6_sheet_1 16 rfl rfl)
theorem dX6_sheet_43 : decode cX6_sheet 43 = .ok (.aload_n 0, 1) := dk_42 (dk_at dksX6_sheet_1 19 rfl rfl)
theorem dX6_sheet_44 : decode cX6_sheet 44 = .ok (.iconst 3, 1) := dk_6 (dk_at dksX6_sheet_1 20 rfl rfl)
theorem dX6_sheet_45 : decode cX6_sheet 45 = .ok (.invokevirtual 63, 3) := dk_182 0 63 (dk_at dksX6_sheet_1 21 rfl rfl)
theorem dX6_sheet_48 : decode cX6_sheet 48 = .ok (.ireturn, 1) := dk_172 (dk_at dksX6_sheet_2 0 rfl rfl)
theorem dX6_sheet_49 : decode cX6_sheet 49 = .ok (.iload_n 2, 1) := dk_28 (dk_at dksX6_sheet_2 1 rfl rfl)
theorem dX6_sheet_50 : decode cX6_sheet 50 = .ok (.ifCond .eq 15, 3) := dk_153 0 15 (dk_at dksX6_sheet_2 2 rfl rfl)
theorem dX6_sheet_53 : decode cX6_sheet 53 = .ok (.iload_n 3, 1) := dk_29 (dk_at dksX6_sheet_2 5 rfl rfl)
theorem dX6_sheet_54 : decode cX6_sheet 54 = .ok (.bipush 24, 2) := dk_16 24 (dk_at dksX6_sheet_2 6 rfl rfl)
theorem dX6_sheet_56 : decode cX6_sheet 56 = .ok (.if_icmp .le 9, 3) := dk_164 0 9 (dk_at dksX6_sheet_2 8 rfl rfl)
theorem dX6_sheet_59 : decode cX6_sheet 59 = .ok (.aload_n 0, 1) := dk_42 (dk_at dksX6_sheet_2 11 rfl rfl)
theorem dX6_sheet_60 : decode cX6_sheet 60 = .ok (.iconst 1, 1) := dk_4 (dk_at dksX6_sheet_2 12 rfl rfl)
theorem dX6_sheet_61 : decode cX6_sheet 61 = .ok (.invokevirtual 63, 3) := dk_182 0 63 (dk_at dksX6_sheet_2 13 rfl rfl)
theorem dX6_sheet_64 : decode cX6_sheet 64 = .ok (.ireturn, 1) := dk_172 (dk_at dksX6_sheet_2 16 rfl rfl)
theorem dX6_sheet_65 : decode cX6_sheet 65 = .ok (.aload_n 0, 1) := dk_42 (dk_at dksX6_sheet_2 17 rfl rfl)
theorem dX6_sheet_66 : decode cX6_sheet 66 = .ok (.getfield 46, 3) := dk_180 0 46 (dk_at dksX6_sheet_2 18 rfl rfl)
theorem dX6_sheet_69 : decode cX6_sheet 69 = .ok (.iload_n 1, 1) := dk_27 (dk_at dksX6_sheet_2 21 rfl rfl)
theorem dX6_sheet_70 : decode cX6_sheet 70 = .ok (.iload_n 2, 1) := dk_28 (dk_at dksX6_sheet_2 22 rfl rfl)
theorem dX6_sheet_71 : decode cX6_sheet 71 = .ok (.iastore, 1) := dk_79 (dk_at dksX6_sheet_2 23 rfl rfl)
theorem dX6_sheet_72 : decode cX6_sheet 72 = .ok (.aload_n 0, 1) := dk_42 (dk_at dksX6_sheet_3 0 rfl rfl)
theorem dX6_sheet_73 : decode cX6_sheet 73 = .ok (.getfield 49, 3) := dk_180 0 49 (dk_at dksX6_sheet_3 1 rfl rfl)
theorem dX6_sheet_76 : decode cX6_sheet 76 = .ok (.iload_n 1, 1) := dk_27 (dk_at dksX6_sheet_3 4 rfl rfl)
theorem dX6_sheet_77 : decode cX6_sheet 77 = .ok (.iload_n 2, 1) := dk_28 (dk_at dksX6_sheet_3 5 rfl rfl)
theorem dX6_sheet_78 : decode cX6_sheet 78 = .ok (.ifCond .ne 7, 3) := dk_154 0 7 (dk_at dksX6_sheet_3 6 rfl rfl)
theorem dX6_sheet_81 : decode cX6_sheet 81 = .ok (.iconst 0, 1) := dk_3 (dk_at dksX6_sheet_3 9 rfl rfl)
theorem dX6_sheet_82 : decode cX6_sheet 82 = .ok (.goto 4, 3) := dk_167 0 4 (dk_at dksX6_sheet_3 10 rfl rfl)
theorem dX6_sheet_85 : decode cX6_sheet 85 = .ok (.iload_n 3, 1) := dk_29 (dk_at dksX6_sheet_3 13 rfl rfl)
theorem dX6_sheet_86 : decode cX6_sheet 86 = .ok (.iastore, 1) := dk_79 (dk_at dksX6_sheet_3 14 rfl rfl)
theorem dX6_sheet_87 : decode cX6_sheet 87 = .ok (.iconst 0, 1) := dk_3 (dk_at dksX6_sheet_3 15 rfl rfl)
theorem dX6_sheet_88 : decode cX6_sheet 88 = .ok (.istore 4, 2) := dk_54 4 (dk_at dksX6_sheet_3 16 rfl rfl)
theorem dX6_sheet_90 : decode cX6_sheet 90 = .ok (.iload 4, 2) := dk_21 4 (dk_at dksX6_sheet_3 18 rfl rfl)
theorem dX6_sheet_92 : decode cX6_sheet 92 = .ok (.bipush 24, 2) := dk_16 24 (dk_at dksX6_sheet_3 20 rfl rfl)
theorem dX6_sheet_94 : decode cX6_sheet 94 = .ok (.if_icmp .ge 22, 3) := dk_162 0 22 (dk_at dksX6_sheet_4 0 rfl rfl)
theorem dX6_sheet_97 : decode cX6_sheet 97 = .ok (.aload_n 0, 1) := dk_42 (dk_at dksX6_sheet_4 3 rfl rfl)
theorem dX6_sheet_98 : decode cX6_sheet 98 = .ok (.getfield 52, 3) := dk_180 0 52 (dk_at dksX6_sheet_4 4 rfl rfl)
theorem dX6_sheet_101 : decode cX6_sheet 101 = .ok (.bipush 24, 2) := dk_16 24 (dk_at dksX6_sheet_4 7 rfl rfl)
theorem dX6_sheet_103 : decode cX6_sheet 103 = .ok (.iload_n 1, 1) := dk_27 (dk_at dksX6_sheet_4 9 rfl rfl)
theorem dX6_sheet_104 : decode cX6_sheet 104 = .ok (.imul, 1) := dk_104 (dk_at dksX6_sheet_4 10 rfl rfl)
theorem dX6_sheet_105 : decode cX6_sheet 105 = .ok (.iload 4, 2) := dk_21 4 (dk_at dksX6_sheet_4 11 rfl rfl)
theorem dX6_sheet_107 : decode cX6_sheet 107 = .ok (.iadd, 1) := dk_96 (dk_at dksX6_sheet_4 13 rfl rfl)
theorem dX6_sheet_108 : decode cX6_sheet 108 = .ok (.iconst 0, 1) := dk_3 (dk_at dksX6_sheet_4 14 rfl rfl)
theorem dX6_sheet_109 : decode cX6_sheet 109 = .ok (.iastore, 1) := dk_79 (dk_at dksX6_sheet_4 15 rfl rfl)
theorem dX6_sheet_110 : decode cX6_sheet 110 = .ok (.iinc 4 1, 3) := dk_132 4 1 (dk_at dksX6_sheet_4 16 rfl rfl)
theorem dX6_sheet_113 : decode cX6_sheet 113 = .ok (.goto (-23), 3) := dk_167 255 233 (dk_at dksX6_sheet_4 19 rfl rfl)
theorem dX6_sheet_116 : decode cX6_sheet 116 = .ok (.iconst 1, 1) := dk_4 (dk_at dksX6_sheet_4 22 rfl rfl)
theorem dX6_sheet_117 : decode cX6_sheet 117 = .ok (.ireturn, 1) := dk_172 (dk_at dksX6_sheet_4 23 rfl rfl)
abbrev cX6_put : ByteArray := prog_20_method_77_code
def yX6_put : MethodName := ⟨RX6, "put", "(III)I"⟩
def dkwX6_put_3 : List UInt8 := [96, 29, 21, 4, 120, 21, 4, 122, 79, 4, 172]
abbrev dktX6_put_3 : List UInt8 := dkwX6_put_3 ++ []
def dkwX6_put_2 : List UInt8 := [182, 0, 63, 172, 16, 32, 42, 180, 0, 46, 27, 46, 100, 54, 4, 42, 180, 0, 52, 16, 24, 27, 104, 28]
abbrev dktX6_put_2 : List UInt8 := dkwX6_put_2 ++ dktX6_put_3
def dkwX6_put_1 : List UInt8 := [182, 0, 63, 172, 28, 3, 42, 180, 0, 49, 27, 46, 4, 100, 184, 0, 59, 154, 0, 9, 42, 4]
abbrev dktX6_put_1 : List UInt8 := dkwX6_put_1 ++ dktX6_put_2
def dkwX6_put_0 : List UInt8 := [27, 184, 0, 169, 154, 0, 9, 42, 4, 182, 0, 63, 172, 42, 180, 0, 46, 27, 46, 154, 0, 9, 42, 5]
abbrev dktX6_put_0 : List UInt8 := dkwX6_put_0 ++ dktX6_put_1
theorem dksX6_put_0 : cX6_put.data.toList.drop 0 = dktX6_put_0 := by decide +kernel
theorem dksX6_put_1 : cX6_put.data.toList.drop 24 = dktX6_put_1 := dk_seg dksX6_put_0 24 rfl rfl
theorem dksX6_put_2 : cX6_put.data.toList.drop 46 = dktX6_put_2 := dk_seg dksX6_put_1 22 rfl rfl
theorem dksX6_put_3 : cX6_put.data.toList.drop 70 = dktX6_put_3 := dk_seg dksX6_put_2 24 rfl rfl
theorem dX6_put_0 : decode cX6_put 0 = .ok (.iload_n 1, 1) := dk_27 (dk_at dksX6_put_0 0 rfl rfl)
theorem dX6_put_1 : decode cX6_put 1 = .ok (.invokestatic 169, 3) := dk_184 0 169 (dk_at dksX6_put_0 1 rfl rfl)
theorem dX6_put_4 : decode cX6_put 4 = .ok (.ifCond .ne 9, 3) := dk_154 0 9 (dk_at dksX6_put_0 4 rfl rfl)
theorem dX6_put_7 : decode cX6_put 7 = .ok (.aload_n 0, 1) := dk_42 (dk_at dksX6_put_0 7 rfl rfl)
theorem dX6_put_8 : decode cX6_put 8 = .ok (.iconst 1, 1) := dk_4 (dk_at dksX6_put_0 8 rfl rfl)
theorem dX6_put_9 : decode cX6_put 9 = .ok (.invokevirtual 63, 3) := dk_182 0 63 (dk_at dksX6_put_0 9 rfl rfl)
theorem dX6_put_12 : decode cX6_put 12 = .ok (.ireturn, 1) := dk_172 (dk_at dksX6_put_0 12 rfl rfl)
theorem dX6_put_13 : decode cX6_put 13 = .ok (.aload_n 0, 1) := dk_42 (dk_at dksX6_put_0 13 rfl rfl)
theorem dX6_put_14 : decode cX6_put 14 = .ok (.getfield 46, 3) := dk_180 0 46 (dk_at dksX6_put_0 14 rfl rfl)
theorem dX6_put_17 : decode cX6_put 17 = .ok (.iload_n 1, 1) := dk_27 (dk_at dksX6_put_0 17 rfl rfl)
theorem dX6_put_18 : decode cX6_put 18 = .ok (.iaload, 1) := dk_46 (dk_at dksX6_put_0 18 rfl rfl)
theorem dX6_put_19 : decode cX6_put 19 = .ok (.ifCond .ne 9, 3) := dk_154 0 9 (dk_at dksX6_put_0 19 rfl rfl)
theorem dX6_put_22 : decode cX6_put 22 = .ok (.aload_n 0, 1) := dk_42 (dk_at dksX6_put_0 22 rfl rfl)
theorem dX6_put_23 : decode cX6_put 23 = .ok (.iconst 2, 1) := dk_5 (dk_at dksX6_put_0 23 rfl rfl)
theorem dX6_put_24 : decode cX6_put 24 = .ok (.invokevirtual 63, 3) := dk_182 0 63 (dk_at dksX6_put_1 0 rfl rfl)
theorem dX6_put_27 : decode cX6_put 27 = .ok (.ireturn, 1) := dk_172 (dk_at dksX6_put_1 3 rfl rfl)
theorem dX6_put_28 : decode cX6_put 28 = .ok (.iload_n 2, 1) := dk_28 (dk_at dksX6_put_1 4 rfl rfl)
theorem dX6_put_29 : decode cX6_put 29 = .ok (.iconst 0, 1) := dk_3 (dk_at dksX6_put_1 5 rfl rfl)
theorem dX6_put_30 : decode cX6_put 30 = .ok (.aload_n 0, 1) := dk_42 (dk_at dksX6_put_1 6 rfl rfl)
theorem dX6_put_31 : decode cX6_put 31 = .ok (.getfield 49, 3) := dk_180 0 49 (dk_at dksX6_put_1 7 rfl rfl)
theorem dX6_put_34 : decode cX6_put 34 = .ok (.iload_n 1, 1) := dk_27 (dk_at dksX6_put_1 10 rfl rfl)
theorem dX6_put_35 : decode cX6_put 35 = .ok (.iaload, 1) := dk_46 (dk_at dksX6_put_1 11 rfl rfl)
theorem dX6_put_36 : decode cX6_put 36 = .ok (.iconst 1, 1) := dk_4 (dk_at dksX6_put_1 12 rfl rfl)
theorem dX6_put_37 : decode cX6_put 37 = .ok (.isub, 1) := dk_100 (dk_at dksX6_put_1 13 rfl rfl)
theorem dX6_put_38 : decode cX6_put 38 = .ok (.invokestatic 59, 3) := dk_184 0 59 (dk_at dksX6_put_1 14 rfl rfl)
theorem dX6_put_41 : decode cX6_put 41 = .ok (.ifCond .ne 9, 3) := dk_154 0 9 (dk_at dksX6_put_1 17 rfl rfl)
theorem dX6_put_44 : decode cX6_put 44 = .ok (.aload_n 0, 1) := dk_42 (dk_at dksX6_put_1 20 rfl rfl)
theorem dX6_put_45 : decode cX6_put 45 = .ok (.iconst 1, 1) := dk_4 (dk_at dksX6_put_1 21 rfl rfl)
theorem dX6_put_46 : decode cX6_put 46 = .ok (.invokevirtual 63, 3) := dk_182 0 63 (dk_at dksX6_put_2 0 rfl rfl)
theorem dX6_put_49 : decode cX6_put 49 = .ok (.ireturn, 1) := dk_172 (dk_at dksX6_put_2 3 rfl rfl)
theorem dX6_put_50 : decode cX6_put 50 = .ok (.bipush 32, 2) := dk_16 32 (dk_at dksX6_put_2 4 rfl rfl)
theorem dX6_put_52 : decode cX6_put 52 = .ok (.aload_n 0, 1) := dk_42 (dk_at dksX6_put_2 6 rfl rfl)
theorem dX6_put_53 : decode cX6_put 53 = .ok (.getfield 46, 3) := dk_180 0 46 (dk_at dksX6_put_2 7 rfl rfl)
theorem dX6_put_56 : decode cX6_put 56 = .ok (.iload_n 1, 1) := dk_27 (dk_at dksX6_put_2 10 rfl rfl)
theorem dX6_put_57 : decode cX6_put 57 = .ok (.iaload, 1) := dk_46 (dk_at dksX6_put_2 11 rfl rfl)
theorem dX6_put_58 : decode cX6_put 58 = .ok (.isub, 1) := dk_100 (dk_at dksX6_put_2 12 rfl rfl)
theorem dX6_put_59 : decode cX6_put 59 = .ok (.istore 4, 2) := dk_54 4 (dk_at dksX6_put_2 13 rfl rfl)
theorem dX6_put_61 : decode cX6_put 61 = .ok (.aload_n 0, 1) := dk_42 (dk_at dksX6_put_2 15 rfl rfl)
theorem dX6_put_62 : decode cX6_put 62 = .ok (.getfield 52, 3) := dk_180 0 52 (dk_at dksX6_put_2 16 rfl rfl)
theorem dX6_put_65 : decode cX6_put 65 = .ok (.bipush 24, 2) := dk_16 24 (dk_at dksX6_put_2 19 rfl rfl)
theorem dX6_put_67 : decode cX6_put 67 = .ok (.iload_n 1, 1) := dk_27 (dk_at dksX6_put_2 21 rfl rfl)
theorem dX6_put_68 : decode cX6_put 68 = .ok (.imul, 1) := dk_104 (dk_at dksX6_put_2 22 rfl rfl)
theorem dX6_put_69 : decode cX6_put 69 = .ok (.iload_n 2, 1) := dk_28 (dk_at dksX6_put_2 23 rfl rfl)
theorem dX6_put_70 : decode cX6_put 70 = .ok (.iadd, 1) := dk_96 (dk_at dksX6_put_3 0 rfl rfl)
theorem dX6_put_71 : decode cX6_put 71 = .ok (.iload_n 3, 1) := dk_29 (dk_at dksX6_put_3 1 rfl rfl)
theorem dX6_put_72 : decode cX6_put 72 = .ok (.iload 4, 2) := dk_21 4 (dk_at dksX6_put_3 2 rfl rfl)
theorem dX6_put_74 : decode cX6_put 74 = .ok (.ishl, 1) := dk_120 (dk_at dksX6_put_3 4 rfl rfl)
theorem dX6_put_75 : decode cX6_put 75 = .ok (.iload 4, 2) := dk_21 4 (dk_at dksX6_put_3 5 rfl rfl)
theorem dX6_put_77 : decode cX6_put 77 = .ok (.ishr, 1) := dk_122 (dk_at dksX6_put_3 7 rfl rfl)
theorem dX6_put_78 : decode cX6_put 78 = .ok (.iastore, 1) := dk_79 (dk_at dksX6_put_3 8 rfl rfl)
theorem dX6_put_79 : decode cX6_put 79 = .ok (.iconst 1, 1) := dk_4 (dk_at dksX6_put_3 9 rfl rfl)
theorem dX6_put_80 : decode cX6_put 80 = .ok (.ireturn, 1) := dk_172 (dk_at dksX6_put_3 10 rfl rfl)
abbrev cX6_move : ByteArray := prog_20_method_78_code
def yX6_move : MethodName := ⟨RX6, "move", "(IIIII)I"⟩
def dkwX6_move_7 : List UInt8 := [21, 4, 96, 21, 6, 96, 42, 180, 0, 55, 21, 6, 46, 79, 132, 6, 1, 167, 255, 224, 21, 5, 172]
abbrev dktX6_move_7 : List UInt8 := dkwX6_move_7 ++ []
def dkwX6_move_6 : List UInt8 := [132, 6, 1, 167, 255, 225, 3, 54, 6, 21, 6, 21, 5, 162, 0, 31, 42, 180, 0, 52, 16, 24, 29, 104]
abbrev dktX6_move_6 : List UInt8 := dkwX6_move_6 ++ dktX6_move_7
def dkwX6_move_5 : List UInt8 := [162, 0, 30, 42, 180, 0, 55, 21, 6, 42, 180, 0, 52, 16, 24, 27, 104, 28, 96, 21, 6, 96, 46, 79]
abbrev dktX6_move_5 : List UInt8 := dkwX6_move_5 ++ dktX6_move_6
def dkwX6_move_4 : List UInt8 := [180, 0, 49, 29, 46, 21, 5, 100, 164, 0, 9, 42, 4, 182, 0, 63, 172, 3, 54, 6, 21, 6, 21, 5]
abbrev dktX6_move_4 : List UInt8 := dkwX6_move_4 ++ dktX6_move_5
def dkwX6_move_3 : List UInt8 := [155, 0, 35, 21, 4, 155, 0, 30, 28, 42, 180, 0, 49, 27, 46, 21, 5, 100, 163, 0, 17, 21, 4, 42]
abbrev dktX6_move_3 : List UInt8 := dkwX6_move_3 ++ dktX6_move_4
def dkwX6_move_2 : List UInt8 := [27, 46, 42, 180, 0, 46, 29, 46, 159, 0, 9, 42, 8, 182, 0, 63, 172, 21, 5, 155, 0, 39, 28]
abbrev dktX6_move_2 : List UInt8 := dkwX6_move_2 ++ dktX6_move_3
def dkwX6_move_1 : List UInt8 := [27, 46, 153, 0, 12, 42, 180, 0, 46, 29, 46, 154, 0, 9, 42, 5, 182, 0, 63, 172, 42, 180, 0, 46]
abbrev dktX6_move_1 : List UInt8 := dkwX6_move_1 ++ dktX6_move_2
def dkwX6_move_0 : List UInt8 := [27, 184, 0, 169, 153, 0, 10, 29, 184, 0, 169, 154, 0, 9, 42, 4, 182, 0, 63, 172, 42, 180, 0, 46]
abbrev dktX6_move_0 : List UInt8 := dkwX6_move_0 ++ dktX6_move_1
theorem dksX6_move_0 : cX6_move.data.toList.drop 0 = dktX6_move_0 := by decide +kernel
theorem dksX6_move_1 : cX6_move.data.toList.drop 24 = dktX6_move_1 := dk_seg dksX6_move_0 24 rfl rfl
theorem dksX6_move_2 : cX6_move.data.toList.drop 48 = dktX6_move_2 := dk_seg dksX6_move_1 24 rfl rfl
theorem dksX6_move_3 : cX6_move.data.toList.drop 71 = dktX6_move_3 := dk_seg dksX6_move_2 23 rfl rfl
theorem dksX6_move_4 : cX6_move.data.toList.drop 95 = dktX6_move_4 := dk_seg dksX6_move_3 24 rfl rfl
theorem dksX6_move_5 : cX6_move.data.toList.drop 119 = dktX6_move_5 := dk_seg dksX6_move_4 24 rfl rfl
theorem dksX6_move_6 : cX6_move.data.toList.drop 143 = dktX6_move_6 := dk_seg dksX6_move_5 24 rfl rfl
theorem dksX6_move_7 : cX6_move.data.toList.drop 167 = dktX6_move_7 := dk_seg dksX6_move_6 24 rfl rfl
theorem dX6_move_0 : decode cX6_move 0 = .ok (.iload_n 1, 1) := dk_27 (dk_at dksX6_move_0 0 rfl rfl)
theorem dX6_move_1 : decode cX6_move 1 = .ok (.invokestatic 169, 3) := dk_184 0 169 (dk_at dksX6_move_0 1 rfl rfl)
theorem dX6_move_4 : decode cX6_move 4 = .ok (.ifCond .eq 10, 3) := dk_153 0 10 (dk_at dksX6_move_0 4 rfl rfl)
theorem dX6_move_7 : decode cX6_move 7 = .ok (.iload_n 3, 1) := dk_29 (dk_at dksX6_move_0 7 rfl rfl)
theorem dX6_move_8 : decode cX6_move 8 = .ok (.invokestatic 169, 3) := dk_184 0 169 (dk_at dksX6_move_0 8 rfl rfl)
theorem dX6_move_11 : decode cX6_move 11 = .ok (.ifCond .ne 9, 3) := dk_154 0 9 (dk_at dksX6_move_0 11 rfl rfl)
theorem dX6_move_14 : decode cX6_move 14 = .ok (.aload_n 0, 1) := dk_42 (dk_at dksX6_move_0 14 rfl rfl)
theorem dX6_move_15 : decode cX6_move 15 = .ok (.iconst 1, 1) := dk_4 (dk_at dksX6_move_0 15 rfl rfl)
theorem dX6_move_16 : decode cX6_move 16 = .ok (.invokevirtual 63, 3) := dk_182 0 63 (dk_at dksX6_move_0 16 rfl rfl)
theorem dX6_move_19 : decode cX6_move 19 = .ok (.ireturn, 1) := dk_172 (dk_at dksX6_move_0 19 rfl rfl)
theorem dX6_move_20 : decode cX6_move 20 = .ok (.aload_n 0, 1) := dk_42 (dk_at dksX6_move_0 20 rfl rfl)
theorem dX6_move_21 : decode cX6_move 21 = .ok (.getfield 46, 3) := dk_180 0 46 (dk_at dksX6_move_0 21 rfl rfl)
theorem dX6_move_24 : decode cX6_move 24 = .ok (.iload_n 1, 1) := dk_27 (dk_at dksX6_move_1 0 rfl rfl)
theorem dX6_move_25 : decode cX6_move 25 = .ok (.iaload, 1) := dk_46 (dk_at dksX6_move_1 1 rfl rfl)
theorem dX6_move_26 : decode cX6_move 26 = .ok (.ifCond .eq 12, 3) := dk_153 0 12 (dk_at dksX6_move_1 2 rfl rfl)
theorem dX6_move_29 : decode cX6_move 29 = .ok (.aload_n 0, 1) := dk_42 (dk_at dksX6_move_1 5 rfl rfl)
theorem dX6_move_30 : decode cX6_move 30 = .ok (.getfield 46, 3) := dk_180 0 46 (dk_at dksX6_move_1 6 rfl rfl)
theorem dX6_move_33 : decode cX6_move 33 = .ok (.iload_n 3, 1) := dk_29 (dk_at dksX6_move_1 9 rfl rfl)
theorem dX6_move_34 : decode cX6_move 34 = .ok (.iaload, 1) := dk_46 (dk_at dksX6_move_1 10 rfl rfl)
theorem dX6_move_35 : decode cX6_move 35 = .ok (.ifCond .ne 9, 3) := dk_154 0 9 (dk_at dksX6_move_1 11 rfl rfl)
theorem dX6_move_38 : decode cX6_move 38 = .ok (.aload_n 0, 1) := dk_42 (dk_at dksX6_move_1 14 rfl rfl)
theorem dX6_move_39 : decode cX6_move 39 = .ok (.iconst 2, 1) := dk_5 (dk_at dksX6_move_1 15 rfl rfl)
theorem dX6_move_40 : decode cX6_move 40 = .ok (.invokevirtual 63, 3) := dk_182 0 63 (dk_at dksX6_move_1 16 rfl rfl)
theorem dX6_move_43 : decode cX6_move 43 = .ok (.ireturn, 1) := dk_172 (dk_at dksX6_move_1 19 rfl rfl)
theorem dX6_move_44 : decode cX6_move 44 = .ok (.aload_n 0, 1) := dk_42 (dk_at dksX6_move_1 20 rfl rfl)
theorem dX6_move_45 : decode cX6_move 45 = .ok (.getfield 46, 3) := dk_180 0 46 (dk_at dksX6_move_1 21 rfl rfl)
theorem dX6_move_48 : decode cX6_move 48 = .ok (.iload_n 1, 1) := dk_27 (dk_at dksX6_move_2 0 rfl rfl)
theorem dX6_move_49 : decode cX6_move 49 = .ok (.iaload, 1) := dk_46 (dk_at dksX6_move_2 1 rfl rfl)
theorem dX6_move_50 : decode cX6_move 50 = .ok (.aload_n 0, 1) := dk_42 (dk_at dksX6_move_2 2 rfl rfl)
theorem dX6_move_51 : decode cX6_move 51 = .ok (.getfield 46, 3) := dk_180 0 46 (dk_at dksX6_move_2 3 rfl rfl)
theorem dX6_move_54 : decode cX6_move 54 = .ok (.iload_n 3, 1) := dk_29 (dk_at dksX6_move_2 6 rfl rfl)
theorem dX6_move_55 : decode cX6_move 55 = .ok (.iaload, 1) := dk_46 (dk_at dksX6_move_2 7 rfl rfl)
theorem dX6_move_56 : decode cX6_move 56 = .ok (.if_icmp .eq 9, 3) := dk_159 0 9 (dk_at dksX6_move_2 8 rfl rfl)
theorem dX6_move_59 : decode cX6_move 59 = .ok (.aload_n 0, 1) := dk_42 (dk_at dksX6_move_2 11 rfl rfl)
theorem dX6_move_60 : decode cX6_move 60 = .ok (.iconst 5, 1) := dk_8 (dk_at dksX6_move_2 12 rfl rfl)
theorem dX6_move_61 : decode cX6_move 61 = .ok (.invokevirtual 63, 3) := dk_182 0 63 (dk_at dksX6_move_2 13 rfl rfl)
theorem dX6_move_64 : decode cX6_move 64 = .ok (.ireturn, 1) := dk_172 (dk_at dksX6_move_2 16 rfl rfl)
theorem dX6_move_65 : decode cX6_move 65 = .ok (.iload 5, 2) := dk_21 5 (dk_at dksX6_move_2 17 rfl rfl)
theorem dX6_move_67 : decode cX6_move 67 = .ok (.ifCond .lt 39, 3) := dk_155 0 39 (dk_at dksX6_move_2 19 rfl rfl)
theorem dX6_move_70 : decode cX6_move 70 = .ok (.iload_n 2, 1) := dk_28 (dk_at dksX6_move_2 22 rfl rfl)
theorem dX6_move_71 : decode cX6_move 71 = .ok (.ifCond .lt 35, 3) := dk_155 0 35 (dk_at dksX6_move_3 0 rfl rfl)
theorem dX6_move_74 : decode cX6_move 74 = .ok (.iload 4, 2) := dk_21 4 (dk_at dksX6_move_3 3 rfl rfl)
theorem dX6_move_76 : decode cX6_move 76 = .ok (.ifCond .lt 30, 3) := dk_155 0 30 (dk_at dksX6_move_3 5 rfl rfl)
theorem dX6_move_79 : decode cX6_move 79 = .ok (.iload_n 2, 1) := dk_28 (dk_at dksX6_move_3 8 rfl rfl)
theorem dX6_move_80 : decode cX6_move 80 = .ok (.aload_n 0, 1) := dk_42 (dk_at dksX6_move_3 9 rfl rfl)
theorem dX6_move_81 : decode cX6_move 81 = .ok (.getfield 49, 3) := dk_180 0 49 (dk_at dksX6_move_3 10 rfl rfl)
theorem dX6_move_84 : decode cX6_move 84 = .ok (.iload_n 1, 1) := dk_27 (dk_at dksX6_move_3 13 rfl rfl)
theorem dX6_move_85 : decode cX6_move 85 = .ok (.iaload, 1) := dk_46 (dk_at dksX6_move_3 14 rfl rfl)
theorem dX6_move_86 : decode cX6_move 86 = .ok (.iload 5, 2) := dk_21 5 (dk_at dksX6_move_3 15 rfl rfl)
theorem dX6_move_88 : decode cX6_move 88 = .ok (.isub, 1) := dk_100 (dk_at dksX6_move_3 17 rfl rfl)
theorem dX6_move_89 : decode cX6_move 89 = .ok (.if_icmp .gt 17, 3) := dk_163 0 17 (dk_at dksX6_move_3 18 rfl rfl)
theorem dX6_move_92 : decode cX6_move 92 = .ok (.iload 4, 2) := dk_21 4 (dk_at dksX6_move_3 21 rfl rfl)
theorem dX6_move_94 : decode cX6_move 94 = .ok (.aload_n 0, 1) := dk_42 (dk_at dksX6_move_3 23 rfl rfl)
theorem dX6_move_95 : decode cX6_move 95 = .ok (.getfield 49, 3) := dk_180 0 49 (dk_at dksX6_move_4 0 rfl rfl)
theorem dX6_move_98 : decode cX6_move 98 = .ok (.iload_n 3, 1) := dk_29 (dk_at dksX6_move_4 3 rfl rfl)
theorem dX6_move_99 : decode cX6_move 99 = .ok (.iaload, 1) := dk_46 (dk_at dksX6_move_4 4 rfl rfl)
theorem dX6_move_100 : decode cX6_move 100 = .ok (.iload 5, 2) := dk_21 5 (dk_at dksX6_move_4 5 rfl rfl)
theorem dX6_move_102 : decode cX6_move 102 = .ok (.isub, 1) := dk_100 (dk_at dksX6_move_4 7 rfl rfl)
theorem dX6_move_103 : decode cX6_move 103 = .ok (.if_icmp .le 9, 3) := dk_164 0 9 (dk_at dksX6_move_4 8 rfl rfl)
theorem dX6_move_106 : decode cX6_move 106 = .ok (.aload_n 0, 1) := dk_42 (dk_at dksX6_move_4 11 rfl rfl)
theorem dX6_move_107 : decode cX6_move 107 = .ok (.iconst 1, 1) := dk_4 (dk_at dksX6_move_4 12 rfl rfl)
theorem dX6_move_108 : decode cX6_move 108 = .ok (.invokevirtual 63, 3) := dk_182 0 63 (dk_at dksX6_move_4 13 rfl rfl)
theorem dX6_move_111 : decode cX6_move 111 = .ok (.ireturn, 1) := dk_172 (dk_at dksX6_move_4 16 rfl rfl)
theorem dX6_move_112 : decode cX6_move 112 = .ok (.iconst 0, 1) := dk_3 (dk_at dksX6_move_4 17 rfl rfl)
theorem dX6_move_113 : decode cX6_move 113 = .ok (.istore 6, 2) := dk_54 6 (dk_at dksX6_move_4 18 rfl rfl)
theorem dX6_move_115 : decode cX6_move 115 = .ok (.iload 6, 2) := dk_21 6 (dk_at dksX6_move_4 20 rfl rfl)
theorem dX6_move_117 : decode cX6_move 117 = .ok (.iload 5, 2) := dk_21 5 (dk_at dksX6_move_4 22 rfl rfl)
theorem dX6_move_119 : decode cX6_move 119 = .ok (.if_icmp .ge 30, 3) := dk_162 0 30 (dk_at dksX6_move_5 0 rfl rfl)
theorem dX6_move_122 : decode cX6_move 122 = .ok (.aload_n 0, 1) := dk_42 (dk_at dksX6_move_5 3 rfl rfl)
theorem dX6_move_123 : decode cX6_move 123 = .ok (.getfield 55, 3) := dk_180 0 55 (dk_at dksX6_move_5 4 rfl rfl)
theorem dX6_move_126 : decode cX6_move 126 = .ok (.iload 6, 2) := dk_21 6 (dk_at dksX6_move_5 7 rfl rfl)
theorem dX6_move_128 : decode cX6_move 128 = .ok (.aload_n 0, 1) := dk_42 (dk_at dksX6_move_5 9 rfl rfl)
theorem dX6_move_129 : decode cX6_move 129 = .ok (.getfield 52, 3) := dk_180 0 52 (dk_at dksX6_move_5 10 rfl rfl)
theorem dX6_move_132 : decode cX6_move 132 = .ok (.bipush 24, 2) := dk_16 24 (dk_at dksX6_move_5 13 rfl rfl)
theorem dX6_move_134 : decode cX6_move 134 = .ok (.iload_n 1, 1) := dk_27 (dk_at dksX6_move_5 15 rfl rfl)
theorem dX6_move_135 : decode cX6_move 135 = .ok (.imul, 1) := dk_104 (dk_at dksX6_move_5 16 rfl rfl)
theorem dX6_move_136 : decode cX6_move 136 = .ok (.iload_n 2, 1) := dk_28 (dk_at dksX6_move_5 17 rfl rfl)
theorem dX6_move_137 : decode cX6_move 137 = .ok (.iadd, 1) := dk_96 (dk_at dksX6_move_5 18 rfl rfl)
theorem dX6_move_138 : decode cX6_move 138 = .ok (.iload 6, 2) := dk_21 6 (dk_at dksX6_move_5 19 rfl rfl)
theorem dX6_move_140 : decode cX6_move 140 = .ok (.iadd, 1) := dk_96 (dk_at dksX6_move_5 21 rfl rfl)
theorem dX6_move_141 : decode cX6_move 141 = .ok (.iaload, 1) := dk_46 (dk_at dksX6_move_5 22 rfl rfl)
theorem dX6_move_142 : decode cX6_move 142 = .ok (.iastore, 1) := dk_79 (dk_at dksX6_move_5 23 rfl rfl)
theorem dX6_move_143 : decode cX6_move 143 = .ok (.iinc 6 1, 3) := dk_132 6 1 (dk_at dksX6_move_6 0 rfl rfl)
theorem dX6_move_146 : decode cX6_move 146 = .ok (.goto (-31), 3) := dk_167 255 225 (dk_at dksX6_move_6 3 rfl rfl)
theorem dX6_move_149 : decode cX6_move 149 = .ok (.iconst 0, 1) := dk_3 (dk_at dksX6_move_6 6 rfl rfl)
theorem dX6_move_150 : decode cX6_move 150 = .ok (.istore 6, 2) := dk_54 6 (dk_at dksX6_move_6 7 rfl rfl)
theorem dX6_move_152 : decode cX6_move 152 = .ok (.iload 6, 2) := dk_21 6 (dk_at dksX6_move_6 9 rfl rfl)
theorem dX6_move_154 : decode cX6_move 154 = .ok (.iload 5, 2) := dk_21 5 (dk_at dksX6_move_6 11 rfl rfl)
theorem dX6_move_156 : decode cX6_move 156 = .ok (.if_icmp .ge 31, 3) := dk_162 0 31 (dk_at dksX6_move_6 13 rfl rfl)
theorem dX6_move_159 : decode cX6_move 159 = .ok (.aload_n 0, 1) := dk_42 (dk_at dksX6_move_6 16 rfl rfl)
theorem dX6_move_160 : decode cX6_move 160 = .ok (.getfield 52, 3) := dk_180 0 52 (dk_at dksX6_move_6 17 rfl rfl)
theorem dX6_move_163 : decode cX6_move 163 = .ok (.bipush 24, 2) := dk_16 24 (dk_at dksX6_move_6 20 rfl rfl)
theorem dX6_move_165 : decode cX6_move 165 = .ok (.iload_n 3, 1) := dk_29 (dk_at dksX6_move_6 22 rfl rfl)
theorem dX6_move_166 : decode cX6_move 166 = .ok (.imul, 1) := dk_104 (dk_at dksX6_move_6 23 rfl rfl)
theorem dX6_move_167 : decode cX6_move 167 = .ok (.iload 4, 2) := dk_21 4 (dk_at dksX6_move_7 0 rfl rfl)
theorem dX6_move_169 : decode cX6_move 169 = .ok (.iadd, 1) := dk_96 (dk_at dksX6_move_7 2 rfl rfl)
theorem dX6_move_170 : decode cX6_move 170 = .ok (.iload 6, 2) := dk_21 6 (dk_at dksX6_move_7 3 rfl rfl)
theorem dX6_move_172 : decode cX6_move 172 = .ok (.iadd, 1) := dk_96 (dk_at dksX6_move_7 5 rfl rfl)
theorem dX6_move_173 : decode cX6_move 173 = .ok (.aload_n 0, 1) := dk_42 (dk_at dksX6_move_7 6 rfl rfl)
theorem dX6_move_174 : decode cX6_move 174 = .ok (.getfield 55, 3) := dk_180 0 55 (dk_at dksX6_move_7 7 rfl rfl)
theorem dX6_move_177 : decode cX6_move 177 = .ok (.iload 6, 2) := dk_21 6 (dk_at dksX6_move_7 10 rfl rfl)
theorem dX6_move_179 : decode cX6_move 179 = .ok (.iaload, 1) := dk_46 (dk_at dksX6_move_7 12 rfl rfl)
theorem dX6_move_180 : decode cX6_move 180 = .ok (.iastore, 1) := dk_79 (dk_at dksX6_move_7 13 rfl rfl)
theorem dX6_move_181 : decode cX6_move 181 = .ok (.iinc 6 1, 3) := dk_132 6 1 (dk_at dksX6_move_7 14 rfl rfl)
theorem dX6_move_184 : decode cX6_move 184 = .ok (.goto (-32), 3) := dk_167 255 224 (dk_at dksX6_move_7 17 rfl rfl)
theorem dX6_move_187 : decode cX6_move 187 = .ok (.iload 5, 2) := dk_21 5 (dk_at dksX6_move_7 20 rfl rfl)
theorem dX6_move_189 : decode cX6_move 189 = .ok (.ireturn, 1) := dk_172 (dk_at dksX6_move_7 22 rfl rfl)
abbrev cX6_prices : ByteArray := prog_20_method_79_code
def yX6_prices : MethodName := ⟨RX6, "prices", "(I)I"⟩
def dkwX6_prices_3 : List UInt8 := [16, 8, 28, 96, 42, 180, 0, 52, 16, 24, 27, 104, 28, 96, 46, 79, 132, 2, 1, 167, 255, 196, 28, 172]
abbrev dktX6_prices_3 : List UInt8 := dkwX6_prices_3 ++ []
def dkwX6_prices_2 : List UInt8 := [180, 0, 52, 16, 24, 27, 104, 28, 96, 46, 4, 17, 39, 15, 184, 0, 59, 153, 0, 29, 42, 180, 0, 7]
abbrev dktX6_prices_2 : List UInt8 := dkwX6_prices_2 ++ dktX6_prices_3
def dkwX6_prices_1 : List UInt8 := [182, 0, 63, 172, 3, 61, 28, 42, 180, 0, 49, 27, 46, 162, 0, 56, 28, 16, 8, 162, 0, 50, 42]
abbrev dktX6_prices_1 : List UInt8 := dkwX6_prices_1 ++ dktX6_prices_2
def dkwX6_prices_0 : List UInt8 := [27, 184, 0, 169, 154, 0, 9, 42, 4, 182, 0, 63, 172, 42, 180, 0, 46, 27, 46, 154, 0, 9, 42, 5]
abbrev dktX6_prices_0 : List UInt8 := dkwX6_prices_0 ++ dktX6_prices_1
theorem dksX6_prices_0 : cX6_prices.data.toList.drop 0 = dktX6_prices_0 := by decide +kernel
theorem dksX6_prices_1 : cX6_prices.data.toList.drop 24 = dktX6_prices_1 := dk_seg dksX6_prices_0 24 rfl rfl
theorem dksX6_prices_2 : cX6_prices.data.toList.drop 47 = dktX6_prices_2 := dk_seg dksX6_prices_1 23 rfl rfl
theorem dksX6_prices_3 : cX6_prices.data.toList.drop 71 = dktX6_prices_3 := dk_seg dksX6_prices_2 24 rfl rfl
theorem dX6_prices_0 : decode cX6_prices 0 = .ok (.iload_n 1, 1) := dk_27 (dk_at dksX6_prices_0 0 rfl rfl)
theorem dX6_prices_1 : decode cX6_prices 1 = .ok (.invokestatic 169, 3) := dk_184 0 169 (dk_at dksX6_prices_0 1 rfl rfl)
theorem dX6_prices_4 : decode cX6_prices 4 = .ok (.ifCond .ne 9, 3) := dk_154 0 9 (dk_at dksX6_prices_0 4 rfl rfl)
theorem dX6_prices_7 : decode cX6_prices 7 = .ok (.aload_n 0, 1) := dk_42 (dk_at dksX6_prices_0 7 rfl rfl)
theorem dX6_prices_8 : decode cX6_prices 8 = .ok (.iconst 1, 1) := dk_4 (dk_at dksX6_prices_0 8 rfl rfl)
theorem dX6_prices_9 : decode cX6_prices 9 = .ok (.invokevirtual 63, 3) := dk_182 0 63 (dk_at dksX6_prices_0 9 rfl rfl)
theorem dX6_prices_12 : decode cX6_prices 12 = .ok (.ireturn, 1) := dk_172 (dk_at dksX6_prices_0 12 rfl rfl)
theorem dX6_prices_13 : decode cX6_prices 13 = .ok (.aload_n 0, 1) := dk_42 (dk_at dksX6_prices_0 13 rfl rfl)
theorem dX6_prices_14 : decode cX6_prices 14 = .ok (.getfield 46, 3) := dk_180 0 46 (dk_at dksX6_prices_0 14 rfl rfl)
theorem dX6_prices_17 : decode cX6_prices 17 = .ok (.iload_n 1, 1) := dk_27 (dk_at dksX6_prices_0 17 rfl rfl)
theorem dX6_prices_18 : decode cX6_prices 18 = .ok (.iaload, 1) := dk_46 (dk_at dksX6_prices_0 18 rfl rfl)
theorem dX6_prices_19 : decode cX6_prices 19 = .ok (.ifCond .ne 9, 3) := dk_154 0 9 (dk_at dksX6_prices_0 19 rfl rfl)
theorem dX6_prices_22 : decode cX6_prices 22 = .ok (.aload_n 0, 1) := dk_42 (dk_at dksX6_prices_0 22 rfl rfl)
theorem dX6_prices_23 : decode cX6_prices 23 = .ok (.iconst 2, 1) := dk_5 (dk_at dksX6_prices_0 23 rfl rfl)
theorem dX6_prices_24 : decode cX6_prices 24 = .ok (.invokevirtual 63, 3) := dk_182 0 63 (dk_at dksX6_prices_1 0 rfl rfl)
theorem dX6_prices_27 : decode cX6_prices 27 = .ok (.ireturn, 1) := dk_172 (dk_at dksX6_prices_1 3 rfl rfl)
theorem dX6_prices_28 : decode cX6_prices 28 = .ok (.iconst 0, 1) := dk_3 (dk_at dksX6_prices_1 4 rfl rfl)
theorem dX6_prices_29 : decode cX6_prices 29 = .ok (.istore_n 2, 1) := dk_61 (dk_at dksX6_prices_1 5 rfl rfl)
theorem dX6_prices_30 : decode cX6_prices 30 = .ok (.iload_n 2, 1) := dk_28 (dk_at dksX6_prices_1 6 rfl rfl)
theorem dX6_prices_31 : decode cX6_prices 31 = .ok (.aload_n 0, 1) := dk_42 (dk_at dksX6_prices_1 7 rfl rfl)
theorem dX6_prices_32 : decode cX6_prices 32 = .ok (.getfield 49, 3) := dk_180 0 49 (dk_at dksX6_prices_1 8 rfl rfl)
theorem dX6_prices_35 : decode cX6_prices 35 = .ok (.iload_n 1, 1) := dk_27 (dk_at dksX6_prices_1 11 rfl rfl)
theorem dX6_prices_36 : decode cX6_prices 36 = .ok (.iaload, 1) := dk_46 (dk_at dksX6_prices_1 12 rfl rfl)
theorem dX6_prices_37 : decode cX6_prices 37 = .ok (.if_icmp .ge 56, 3) := dk_162 0 56 (dk_at dksX6_prices_1 13 rfl rfl)
theorem dX6_prices_40 : decode cX6_prices 40 = .ok (.iload_n 2, 1) := dk_28 (dk_at dksX6_prices_1 16 rfl rfl)
theorem dX6_prices_41 : decode cX6_prices 41 = .ok (.bipush 8, 2) := dk_16 8 (dk_at dksX6_prices_1 17 rfl rfl)
theorem dX6_prices_43 : decode cX6_prices 43 = .ok (.if_icmp .ge 50, 3) := dk_162 0 50 (dk_at dksX6_prices_1 19 rfl rfl)
theorem dX6_prices_46 : decode cX6_prices 46 = .ok (.aload_n 0, 1) := dk_42 (dk_at dksX6_prices_1 22 rfl rfl)
theorem dX6_prices_47 : decode cX6_prices 47 = .ok (.getfield 52, 3) := dk_180 0 52 (dk_at dksX6_prices_2 0 rfl rfl)
theorem dX6_prices_50 : decode cX6_prices 50 = .ok (.bipush 24, 2) := dk_16 24 (dk_at dksX6_prices_2 3 rfl rfl)
theorem dX6_prices_52 : decode cX6_prices 52 = .ok (.iload_n 1, 1) := dk_27 (dk_at dksX6_prices_2 5 rfl rfl)
theorem dX6_prices_53 : decode cX6_prices 53 = .ok (.imul, 1) := dk_104 (dk_at dksX6_prices_2 6 rfl rfl)
theorem dX6_prices_54 : decode cX6_prices 54 = .ok (.iload_n 2, 1) := dk_28 (dk_at dksX6_prices_2 7 rfl rfl)
theorem dX6_prices_55 : decode cX6_prices 55 = .ok (.iadd, 1) := dk_96 (dk_at dksX6_prices_2 8 rfl rfl)
theorem dX6_prices_56 : decode cX6_prices 56 = .ok (.iaload, 1) := dk_46 (dk_at dksX6_prices_2 9 rfl rfl)
theorem dX6_prices_57 : decode cX6_prices 57 = .ok (.iconst 1, 1) := dk_4 (dk_at dksX6_prices_2 10 rfl rfl)
theorem dX6_prices_58 : decode cX6_prices 58 = .ok (.sipush 9999, 3) := dk_17 39 15 (dk_at dksX6_prices_2 11 rfl rfl)
theorem dX6_prices_61 : decode cX6_prices 61 = .ok (.invokestatic 59, 3) := dk_184 0 59 (dk_at dksX6_prices_2 14 rfl rfl)
theorem dX6_prices_64 : decode cX6_prices 64 = .ok (.ifCond .eq 29, 3) := dk_153 0 29 (dk_at dksX6_prices_2 17 rfl rfl)
theorem dX6_prices_67 : decode cX6_prices 67 = .ok (.aload_n 0, 1) := dk_42 (dk_at dksX6_prices_2 20 rfl rfl)
theorem dX6_prices_68 : decode cX6_prices 68 = .ok (.getfield 7, 3) := dk_180 0 7 (dk_at dksX6_prices_2 21 rfl rfl)
theorem dX6_prices_71 : decode cX6_prices 71 = .ok (.bipush 8, 2) := dk_16 8 (dk_at dksX6_prices_3 0 rfl rfl)
theorem dX6_prices_73 : decode cX6_prices 73 = .ok (.iload_n 2, 1) := dk_28 (dk_at dksX6_prices_3 2 rfl rfl)
theorem dX6_prices_74 : decode cX6_prices 74 = .ok (.iadd, 1) := dk_96 (dk_at dksX6_prices_3 3 rfl rfl)
theorem dX6_prices_75 : decode cX6_prices 75 = .ok (.aload_n 0, 1) := dk_42 (dk_at dksX6_prices_3 4 rfl rfl)
theorem dX6_prices_76 : decode cX6_prices 76 = .ok (.getfield 52, 3) := dk_180 0 52 (dk_at dksX6_prices_3 5 rfl rfl)
theorem dX6_prices_79 : decode cX6_prices 79 = .ok (.bipush 24, 2) := dk_16 24 (dk_at dksX6_prices_3 8 rfl rfl)
theorem dX6_prices_81 : decode cX6_prices 81 = .ok (.iload_n 1, 1) := dk_27 (dk_at dksX6_prices_3 10 rfl rfl)
theorem dX6_prices_82 : decode cX6_prices 82 = .ok (.imul, 1) := dk_104 (dk_at dksX6_prices_3 11 rfl rfl)
theorem dX6_prices_83 : decode cX6_prices 83 = .ok (.iload_n 2, 1) := dk_28 (dk_at dksX6_prices_3 12 rfl rfl)
theorem dX6_prices_84 : decode cX6_prices 84 = .ok (.iadd, 1) := dk_96 (dk_at dksX6_prices_3 13 rfl rfl)
theorem dX6_prices_85 : decode cX6_prices 85 = .ok (.iaload, 1) := dk_46 (dk_at dksX6_prices_3 14 rfl rfl)
theorem dX6_prices_86 : decode cX6_prices 86 = .ok (.iastore, 1) := dk_79 (dk_at dksX6_prices_3 15 rfl rfl)
theorem dX6_prices_87 : decode cX6_prices 87 = .ok (.iinc 2 1, 3) := dk_132 2 1 (dk_at dksX6_prices_3 16 rfl rfl)
theorem dX6_prices_90 : decode cX6_prices 90 = .ok (.goto (-60), 3) := dk_167 255 196 (dk_at dksX6_prices_3 19 rfl rfl)
theorem dX6_prices_93 : decode cX6_prices 93 = .ok (.iload_n 2, 1) := dk_28 (dk_at dksX6_prices_3 22 rfl rfl)
theorem dX6_prices_94 : decode cX6_prices 94 = .ok (.ireturn, 1) := dk_172 (dk_at dksX6_prices_3 23 rfl rfl)
abbrev cX6_image : ByteArray := prog_20_method_80_code
def yX6_image : MethodName := ⟨RX6, "image", "()I"⟩
def dkwX6_image_1 : List UInt8 := [180, 1, 13, 172]
abbrev dktX6_image_1 : List UInt8 := dkwX6_image_1 ++ []
def dkwX6_image_0 : List UInt8 := [42, 180, 0, 7, 42, 180, 0, 13, 184, 1, 9, 42, 89, 180, 1, 13, 4, 96, 181, 1, 13, 42]
abbrev dktX6_image_0 : List UInt8 := dkwX6_image_0 ++ dktX6_image_1
theorem dksX6_image_0 : cX6_image.data.toList.drop 0 = dktX6_image_0 := by decide +kernel
theorem dksX6_image_1 : cX6_image.data.toList.drop 22 = dktX6_image_1 := dk_seg dksX6_image_0 22 rfl rfl
theorem dX6_image_0 : decode cX6_image 0 = .ok (.aload_n 0, 1) := dk_42 (dk_at dksX6_image_0 0 rfl rfl)
theorem dX6_image_1 : decode cX6_image 1 = .ok (.getfield 7, 3) := dk_180 0 7 (dk_at dksX6_image_0 1 rfl rfl)
theorem dX6_image_4 : decode cX6_image 4 = .ok (.aload_n 0, 1) := dk_42 (dk_at dksX6_image_0 4 rfl rfl)
theorem dX6_image_5 : decode cX6_image 5 = .ok (.getfield 13, 3) := dk_180 0 13 (dk_at dksX6_image_0 5 rfl rfl)
theorem dX6_image_8 : decode cX6_image 8 = .ok (.invokestatic 265, 3) := dk_184 1 9 (dk_at dksX6_image_0 8 rfl rfl)
theorem dX6_image_11 : decode cX6_image 11 = .ok (.aload_n 0, 1) := dk_42 (dk_at dksX6_image_0 11 rfl rfl)
theorem dX6_image_12 : decode cX6_image 12 = .ok (.dup, 1) := dk_89 (dk_at dksX6_image_0 12 rfl rfl)
theorem dX6_image_13 : decode cX6_image 13 = .ok (.getfield 269, 3) := dk_180 1 13 (dk_at dksX6_image_0 13 rfl rfl)
theorem dX6_image_16 : decode cX6_image 16 = .ok (.iconst 1, 1) := dk_4 (dk_at dksX6_image_0 16 rfl rfl)
theorem dX6_image_17 : decode cX6_image 17 = .ok (.iadd, 1) := dk_96 (dk_at dksX6_image_0 17 rfl rfl)
theorem dX6_image_18 : decode cX6_image 18 = .ok (.putfield 269, 3) := dk_181 1 13 (dk_at dksX6_image_0 18 rfl rfl)
theorem dX6_image_21 : decode cX6_image 21 = .ok (.aload_n 0, 1) := dk_42 (dk_at dksX6_image_0 21 rfl rfl)
theorem dX6_image_22 : decode cX6_image 22 = .ok (.getfield 269, 3) := dk_180 1 13 (dk_at dksX6_image_1 0 rfl rfl)
theorem dX6_image_25 : decode cX6_image 25 = .ok (.ireturn, 1) := dk_172 (dk_at dksX6_image_1 3 rfl rfl)
abbrev cX6_carry : ByteArray := prog_20_method_5_code
def yX6_carry : MethodName := ⟨RX6, "carry", "([I[I)V"⟩
def dkwX6_carry_0 : List UInt8 := [3, 61, 28, 17, 1, 118, 162, 0, 15, 43, 28, 42, 28, 46, 79, 132, 2, 1, 167, 255, 240, 177]
abbrev dktX6_carry_0 : List UInt8 := dkwX6_carry_0 ++ []
theorem dksX6_carry_0 : cX6_carry.data.toList.drop 0 = dktX6_carry_0 := by decide +kernel
theorem dX6_carry_0 : decode cX6_carry 0 = .ok (.iconst 0, 1) := dk_3 (dk_at dksX6_carry_0 0 rfl rfl)
theorem dX6_carry_1 : decode cX6_carry 1 = .ok (.istore_n 2, 1) := dk_61 (dk_at dksX6_carry_0 1 rfl rfl)
theorem dX6_carry_2 : decode cX6_carry 2 = .ok (.iload_n 2, 1) := dk_28 (dk_at dksX6_carry_0 2 rfl rfl)
theorem dX6_carry_3 : decode cX6_carry 3 = .ok (.sipush 374, 3) := dk_17 1 118 (dk_at dksX6_carry_0 3 rfl rfl)
theorem dX6_carry_6 : decode cX6_carry 6 = .ok (.if_icmp .ge 15, 3) := dk_162 0 15 (dk_at dksX6_carry_0 6 rfl rfl)
theorem dX6_carry_9 : decode cX6_carry 9 = .ok (.aload_n 1, 1) := dk_43 (dk_at dksX6_carry_0 9 rfl rfl)
theorem dX6_carry_10 : decode cX6_carry 10 = .ok (.iload_n 2, 1) := dk_28 (dk_at dksX6_carry_0 10 rfl rfl)
theorem dX6_carry_11 : decode cX6_carry 11 = .ok (.aload_n 0, 1) := dk_42 (dk_at dksX6_carry_0 11 rfl rfl)
theorem dX6_carry_12 : decode cX6_carry 12 = .ok (.iload_n 2, 1) := dk_28 (dk_at dksX6_carry_0 12 rfl rfl)
theorem dX6_carry_13 : decode cX6_carry 13 = .ok (.iaload, 1) := dk_46 (dk_at dksX6_carry_0 13 rfl rfl)
theorem dX6_carry_14 : decode cX6_carry 14 = .ok (.iastore, 1) := dk_79 (dk_at dksX6_carry_0 14 rfl rfl)
theorem dX6_carry_15 : decode cX6_carry 15 = .ok (.iinc 2 1, 3) := dk_132 2 1 (dk_at dksX6_carry_0 15 rfl rfl)
theorem dX6_carry_18 : decode cX6_carry 18 = .ok (.goto (-16), 3) := dk_167 255 240 (dk_at dksX6_carry_0 18 rfl rfl)
theorem dX6_carry_21 : decode cX6_carry 21 = .ok (.return_, 1) := dk_177 (dk_at dksX6_carry_0 21 rfl rfl)
abbrev cX6_restore : ByteArray := prog_20_method_81_code
def yX6_restore : MethodName := ⟨RX6, "restore", "()I"⟩
def dkwX6_restore_1 : List UInt8 := [42, 180, 0, 7, 3, 46, 172]
abbrev dktX6_restore_1 : List UInt8 := dkwX6_restore_1 ++ []
def dkwX6_restore_0 : List UInt8 := [42, 180, 1, 13, 154, 0, 9, 42, 5, 182, 0, 63, 172, 42, 180, 0, 13, 42, 180, 0, 7, 184, 1, 9]
abbrev dktX6_restore_0 : List UInt8 := dkwX6_restore_0 ++ dktX6_restore_1
theorem dksX6_restore_0 : cX6_restore.data.toList.drop 0 = dktX6_restore_0 := by decide +kernel
theorem dksX6_restore_1 : cX6_restore.data.toList.drop 24 = dktX6_restore_1 := dk_seg dksX6_restore_0 24 rfl rfl
theorem dX6_restore_0 : decode cX6_restore 0 = .ok (.aload_n 0, 1) := dk_42 (dk_at dksX6_restore_0 0 rfl rfl)
theorem dX6_restore_1 : decode cX6_restore 1 = .ok (.getfield 269, 3) := dk_180 1 13 (dk_at dksX6_restore_0 1 rfl rfl)
theorem dX6_restore_4 : decode cX6_restore 4 = .ok (.ifCond .ne 9, 3) := dk_154 0 9 (dk_at dksX6_restore_0 4 rfl rfl)
theorem dX6_restore_7 : decode cX6_restore 7 = .ok (.aload_n 0, 1) := dk_42 (dk_at dksX6_restore_0 7 rfl rfl)
theorem dX6_restore_8 : decode cX6_restore 8 = .ok (.iconst 2, 1) := dk_5 (dk_at dksX6_restore_0 8 rfl rfl)
theorem dX6_restore_9 : decode cX6_restore 9 = .ok (.invokevirtual 63, 3) := dk_182 0 63 (dk_at dksX6_restore_0 9 rfl rfl)
theorem dX6_restore_12 : decode cX6_restore 12 = .ok (.ireturn, 1) := dk_172 (dk_at dksX6_restore_0 12 rfl rfl)
theorem dX6_restore_13 : decode cX6_restore 13 = .ok (.aload_n 0, 1) := dk_42 (dk_at dksX6_restore_0 13 rfl rfl)
theorem dX6_restore_14 : decode cX6_restore 14 = .ok (.getfield 13, 3) := dk_180 0 13 (dk_at dksX6_restore_0 14 rfl rfl)
theorem dX6_restore_17 : decode cX6_restore 17 = .ok (.aload_n 0, 1) := dk_42 (dk_at dksX6_restore_0 17 rfl rfl)
theorem dX6_restore_18 : decode cX6_restore 18 = .ok (.getfield 7, 3) := dk_180 0 7 (dk_at dksX6_restore_0 18 rfl rfl)
theorem dX6_restore_21 : decode cX6_restore 21 = .ok (.invokestatic 265, 3) := dk_184 1 9 (dk_at dksX6_restore_0 21 rfl rfl)
theorem dX6_restore_24 : decode cX6_restore 24 = .ok (.aload_n 0, 1) := dk_42 (dk_at dksX6_restore_1 0 rfl rfl)
theorem dX6_restore_25 : decode cX6_restore 25 = .ok (.getfield 7, 3) := dk_180 0 7 (dk_at dksX6_restore_1 1 rfl rfl)
theorem dX6_restore_28 : decode cX6_restore 28 = .ok (.iconst 0, 1) := dk_3 (dk_at dksX6_restore_1 4 rfl rfl)
theorem dX6_restore_29 : decode cX6_restore 29 = .ok (.iaload, 1) := dk_46 (dk_at dksX6_restore_1 5 rfl rfl)
theorem dX6_restore_30 : decode cX6_restore 30 = .ok (.ireturn, 1) := dk_172 (dk_at dksX6_restore_1 6 rfl rfl)
abbrev cX6_tell : ByteArray := prog_20_method_82_code
def yX6_tell : MethodName := ⟨RX6, "tell", "(I)I"⟩
def dkwX6_tell_2 : List UInt8 := [46, 172]
abbrev dktX6_tell_2 : List UInt8 := dkwX6_tell_2 ++ []
def dkwX6_tell_1 : List UInt8 := [42, 180, 0, 7, 7, 46, 96, 27, 79, 42, 180, 0, 7, 7, 92, 46, 4, 96, 79, 42, 180, 0, 7, 7]
abbrev dktX6_tell_1 : List UInt8 := dkwX6_tell_1 ++ dktX6_tell_2
def dkwX6_tell_0 : List UInt8 := [42, 180, 0, 7, 7, 46, 16, 24, 160, 0, 9, 42, 7, 182, 0, 63, 172, 42, 180, 0, 7, 17, 1, 94]
abbrev dktX6_tell_0 : List UInt8 := dkwX6_tell_0 ++ dktX6_tell_1
theorem dksX6_tell_0 : cX6_tell.data.toList.drop 0 = dktX6_tell_0 := by decide +kernel
theorem dksX6_tell_1 : cX6_tell.data.toList.drop 24 = dktX6_tell_1 := dk_seg dksX6_tell_0 24 rfl rfl
theorem dksX6_tell_2 : cX6_tell.data.toList.drop 48 = dktX6_tell_2 := dk_seg dksX6_tell_1 24 rfl rfl
theorem dX6_tell_0 : decode cX6_tell 0 = .ok (.aload_n 0, 1) := dk_42 (dk_at dksX6_tell_0 0 rfl rfl)
theorem dX6_tell_1 : decode cX6_tell 1 = .ok (.getfield 7, 3) := dk_180 0 7 (dk_at dksX6_tell_0 1 rfl rfl)
theorem dX6_tell_4 : decode cX6_tell 4 = .ok (.iconst 4, 1) := dk_7 (dk_at dksX6_tell_0 4 rfl rfl)
theorem dX6_tell_5 : decode cX6_tell 5 = .ok (.iaload, 1) := dk_46 (dk_at dksX6_tell_0 5 rfl rfl)
theorem dX6_tell_6 : decode cX6_tell 6 = .ok (.bipush 24, 2) := dk_16 24 (dk_at dksX6_tell_0 6 rfl rfl)
theorem dX6_tell_8 : decode cX6_tell 8 = .ok (.if_icmp .ne 9, 3) := dk_160 0 9 (dk_at dksX6_tell_0 8 rfl rfl)
theorem dX6_tell_11 : decode cX6_tell 11 = .ok (.aload_n 0, 1) := dk_42 (dk_at dksX6_tell_0 11 rfl rfl)
theorem dX6_tell_12 : decode cX6_tell 12 = .ok (.iconst 4, 1) := dk_7 (dk_at dksX6_tell_0 12 rfl rfl)
theorem dX6_tell_13 : decode cX6_tell 13 = .ok (.invokevirtual 63, 3) := dk_182 0 63 (dk_at dksX6_tell_0 13 rfl rfl)
theorem dX6_tell_16 : decode cX6_tell 16 = .ok (.ireturn, 1) := dk_172 (dk_at dksX6_tell_0 16 rfl rfl)
theorem dX6_tell_17 : decode cX6_tell 17 = .ok (.aload_n 0, 1) := dk_42 (dk_at dksX6_tell_0 17 rfl rfl)
theorem dX6_tell_18 : decode cX6_tell 18 = .ok (.getfield 7, 3) := dk_180 0 7 (dk_at dksX6_tell_0 18 rfl rfl)
theorem dX6_tell_21 : decode cX6_tell 21 = .ok (.sipush 350, 3) := dk_17 1 94 (dk_at dksX6_tell_0 21 rfl rfl)
theorem dX6_tell_24 : decode cX6_tell 24 = .ok (.aload_n 0, 1) := dk_42 (dk_at dksX6_tell_1 0 rfl rfl)
theorem dX6_tell_25 : decode cX6_tell 25 = .ok (.getfield 7, 3) := dk_180 0 7 (dk_at dksX6_tell_1 1 rfl rfl)
theorem dX6_tell_28 : decode cX6_tell 28 = .ok (.iconst 4, 1) := dk_7 (dk_at dksX6_tell_1 4 rfl rfl)
theorem dX6_tell_29 : decode cX6_tell 29 = .ok (.iaload, 1) := dk_46 (dk_at dksX6_tell_1 5 rfl rfl)
theorem dX6_tell_30 : decode cX6_tell 30 = .ok (.iadd, 1) := dk_96 (dk_at dksX6_tell_1 6 rfl rfl)
theorem dX6_tell_31 : decode cX6_tell 31 = .ok (.iload_n 1, 1) := dk_27 (dk_at dksX6_tell_1 7 rfl rfl)
theorem dX6_tell_32 : decode cX6_tell 32 = .ok (.iastore, 1) := dk_79 (dk_at dksX6_tell_1 8 rfl rfl)
theorem dX6_tell_33 : decode cX6_tell 33 = .ok (.aload_n 0, 1) := dk_42 (dk_at dksX6_tell_1 9 rfl rfl)
theorem dX6_tell_34 : decode cX6_tell 34 = .ok (.getfield 7, 3) := dk_180 0 7 (dk_at dksX6_tell_1 10 rfl rfl)
theorem dX6_tell_37 : decode cX6_tell 37 = .ok (.iconst 4, 1) := dk_7 (dk_at dksX6_tell_1 13 rfl rfl)
theorem dX6_tell_38 : decode cX6_tell 38 = .ok (.dup2, 1) := dk_92 (dk_at dksX6_tell_1 14 rfl rfl)
theorem dX6_tell_39 : decode cX6_tell 39 = .ok (.iaload, 1) := dk_46 (dk_at dksX6_tell_1 15 rfl rfl)
theorem dX6_tell_40 : decode cX6_tell 40 = .ok (.iconst 1, 1) := dk_4 (dk_at dksX6_tell_1 16 rfl rfl)
theorem dX6_tell_41 : decode cX6_tell 41 = .ok (.iadd, 1) := dk_96 (dk_at dksX6_tell_1 17 rfl rfl)
theorem dX6_tell_42 : decode cX6_tell 42 = .ok (.iastore, 1) := dk_79 (dk_at dksX6_tell_1 18 rfl rfl)
theorem dX6_tell_43 : decode cX6_tell 43 = .ok (.aload_n 0, 1) := dk_42 (dk_at dksX6_tell_1 19 rfl rfl)
theorem dX6_tell_44 : decode cX6_tell 44 = .ok (.getfield 7, 3) := dk_180 0 7 (dk_at dksX6_tell_1 20 rfl rfl)
theorem dX6_tell_47 : decode cX6_tell 47 = .ok (.iconst 4, 1) := dk_7 (dk_at dksX6_tell_1 23 rfl rfl)
theorem dX6_tell_48 : decode cX6_tell 48 = .ok (.iaload, 1) := dk_46 (dk_at dksX6_tell_2 0 rfl rfl)
theorem dX6_tell_49 : decode cX6_tell 49 = .ok (.ireturn, 1) := dk_172 (dk_at dksX6_tell_2 1 rfl rfl)
abbrev cX6_check : ByteArray := prog_20_method_83_code
def yX6_check : MethodName := ⟨RX6, "check", "(I)I"⟩
def dkwX6_check_3 : List UInt8 := [4, 29, 96, 172]
abbrev dktX6_check_3 : List UInt8 := dkwX6_check_3 ++ []
def dkwX6_check_2 : List UInt8 := [29, 96, 4, 182, 0, 149, 160, 0, 9, 132, 3, 1, 167, 255, 226, 29, 28, 160, 0, 7, 3, 167, 0, 6]
abbrev dktX6_check_2 : List UInt8 := dkwX6_check_2 ++ dktX6_check_3
def dkwX6_check_1 : List UInt8 := [182, 0, 63, 172, 3, 62, 29, 28, 162, 0, 31, 42, 180, 0, 7, 17, 1, 94, 29, 96, 46, 42, 27, 4]
abbrev dktX6_check_1 : List UInt8 := dkwX6_check_1 ++ dktX6_check_2
def dkwX6_check_0 : List UInt8 := [42, 180, 0, 7, 7, 46, 61, 42, 180, 0, 7, 7, 3, 79, 27, 184, 0, 161, 154, 0, 9, 42, 4]
abbrev dktX6_check_0 : List UInt8 := dkwX6_check_0 ++ dktX6_check_1
theorem dksX6_check_0 : cX6_check.data.toList.drop 0 = dktX6_check_0 := by decide +kernel
theorem dksX6_check_1 : cX6_check.data.toList.drop 23 = dktX6_check_1 := dk_seg dksX6_check_0 23 rfl rfl
theorem dksX6_check_2 : cX6_check.data.toList.drop 47 = dktX6_check_2 := dk_seg dksX6_check_1 24 rfl rfl
theorem dksX6_check_3 : cX6_check.data.toList.drop 71 = dktX6_check_3 := dk_seg dksX6_check_2 24 rfl rfl
theorem dX6_check_0 : decode cX6_check 0 = .ok (.aload_n 0, 1) := dk_42 (dk_at dksX6_check_0 0 rfl rfl)
theorem dX6_check_1 : decode cX6_check 1 = .ok (.getfield 7, 3) := dk_180 0 7 (dk_at dksX6_check_0 1 rfl rfl)
theorem dX6_check_4 : decode cX6_check 4 = .ok (.iconst 4, 1) := dk_7 (dk_at dksX6_check_0 4 rfl rfl)
theorem dX6_check_5 : decode cX6_check 5 = .ok (.iaload, 1) := dk_46 (dk_at dksX6_check_0 5 rfl rfl)
theorem dX6_check_6 : decode cX6_check 6 = .ok (.istore_n 2, 1) := dk_61 (dk_at dksX6_check_0 6 rfl rfl)
theorem dX6_check_7 : decode cX6_check 7 = .ok (.aload_n 0, 1) := dk_42 (dk_at dksX6_check_0 7 rfl rfl)
theorem dX6_check_8 : decode cX6_check 8 = .ok (.getfield 7, 3) := dk_180 0 7 (dk_at dksX6_check_0 8 rfl rfl)
theorem dX6_check_11 : decode cX6_check 11 = .ok (.iconst 4, 1) := dk_7 (dk_at dksX6_check_0 11 rfl rfl)
theorem dX6_check_12 : decode cX6_check 12 = .ok (.iconst 0, 1) := dk_3 (dk_at dksX6_check_0 12 rfl rfl)
theorem dX6_check_13 : decode cX6_check 13 = .ok (.iastore, 1) := dk_79 (dk_at dksX6_check_0 13 rfl rfl)
theorem dX6_check_14 : decode cX6_check 14 = .ok (.iload_n 1, 1) := dk_27 (dk_at dksX6_check_0 14 rfl rfl)
theorem dX6_check_15 : decode cX6_check 15 = .ok (.invokestatic 161, 3) := dk_184 0 161 (dk_at dksX6_check_0 15 rfl rfl)
theorem dX6_check_18 : decode cX6_check 18 = .ok (.ifCond .ne 9, 3) := dk_154 0 9 (dk_at dksX6_check_0 18 rfl rfl)
theorem dX6_check_21 : decode cX6_check 21 = .ok (.aload_n 0, 1) := dk_42 (dk_at dksX6_check_0 21 rfl rfl)
theorem dX6_check_22 : decode cX6_check 22 = .ok (.iconst 1, 1) := dk_4 (dk_at dksX6_check_0 22 rfl rfl)
theorem dX6_check_23 : decode cX6_check 23 = .ok (.invokevirtual 63, 3) := dk_182 0 63 (dk_at dksX6_check_1 0 rfl rfl)
theorem dX6_check_26 : decode cX6_check 26 = .ok (.ireturn, 1) := dk_172 (dk_at dksX6_check_1 3 rfl rfl)
theorem dX6_check_27 : decode cX6_check 27 = .ok (.iconst 0, 1) := dk_3 (dk_at dksX6_check_1 4 rfl rfl)
theorem dX6_check_28 : decode cX6_check 28 = .ok (.istore_n 3, 1) := dk_62 (dk_at dksX6_check_1 5 rfl rfl)
theorem dX6_check_29 : decode cX6_check 29 = .ok (.iload_n 3, 1) := dk_29 (dk_at dksX6_check_1 6 rfl rfl)
theorem dX6_check_30 : decode cX6_check 30 = .ok (.iload_n 2, 1) := dk_28 (dk_at dksX6_check_1 7 rfl rfl)
theorem dX6_check_31 : decode cX6_check 31 = .ok (.if_icmp .ge 31, 3) := dk_162 0 31 (dk_at dksX6_check_1 8 rfl rfl)
theorem dX6_check_34 : decode cX6_check 34 = .ok (.aload_n 0, 1) := dk_42 (dk_at dksX6_check_1 11 rfl rfl)
theorem dX6_check_35 : decode cX6_check 35 = .ok (.getfield 7, 3) := dk_180 0 7 (dk_at dksX6_check_1 12 rfl rfl)
theorem dX6_check_38 : decode cX6_check 38 = .ok (.sipush 350, 3) := dk_17 1 94 (dk_at dksX6_check_1 15 rfl rfl)
theorem dX6_check_41 : decode cX6_check 41 = .ok (.iload_n 3, 1) := dk_29 (dk_at dksX6_check_1 18 rfl rfl)
theorem dX6_check_42 : decode cX6_check 42 = .ok (.iadd, 1) := dk_96 (dk_at dksX6_check_1 19 rfl rfl)
theorem dX6_check_43 : decode cX6_check 43 = .ok (.iaload, 1) := dk_46 (dk_at dksX6_check_1 20 rfl rfl)
theorem dX6_check_44 : decode cX6_check 44 = .ok (.aload_n 0, 1) := dk_42 (dk_at dksX6_check_1 21 rfl rfl)
theorem dX6_check_45 : decode cX6_check 45 = .ok (.iload_n 1, 1) := dk_27 (dk_at dksX6_check_1 22 rfl rfl)
theorem dX6_check_46 : decode cX6_check 46 = .ok (.iconst 1, 1) := dk_4 (dk_at dksX6_check_1 23 rfl rfl)
theorem dX6_check_47 : decode cX6_check 47 = .ok (.iload_n 3, 1) := dk_29 (dk_at dksX6_check_2 0 rfl rfl)
theorem dX6_check_48 : decode cX6_check 48 = .ok (.iadd, 1) := dk_96 (dk_at dksX6_check_2 1 rfl rfl)
theorem dX6_check_49 : decode cX6_check 49 = .ok (.iconst 1, 1) := dk_4 (dk_at dksX6_check_2 2 rfl rfl)
theorem dX6_check_50 : decode cX6_check 50 = .ok (.invokevirtual 149, 3) := dk_182 0 149 (dk_at dksX6_check_2 3 rfl rfl)
theorem dX6_check_53 : decode cX6_check 53 = .ok (.if_icmp .ne 9, 3) := dk_160 0 9 (dk_at dksX6_check_2 6 rfl rfl)
theorem dX6_check_56 : decode cX6_check 56 = .ok (.iinc 3 1, 3) := dk_132 3 1 (dk_at dksX6_check_2 9 rfl rfl)
theorem dX6_check_59 : decode cX6_check 59 = .ok (.goto (-30), 3) := dk_167 255 226 (dk_at dksX6_check_2 12 rfl rfl)
theorem dX6_check_62 : decode cX6_check 62 = .ok (.iload_n 3, 1) := dk_29 (dk_at dksX6_check_2 15 rfl rfl)
theorem dX6_check_63 : decode cX6_check 63 = .ok (.iload_n 2, 1) := dk_28 (dk_at dksX6_check_2 16 rfl rfl)
theorem dX6_check_64 : decode cX6_check 64 = .ok (.if_icmp .ne 7, 3) := dk_160 0 7 (dk_at dksX6_check_2 17 rfl rfl)
theorem dX6_check_67 : decode cX6_check 67 = .ok (.iconst 0, 1) := dk_3 (dk_at dksX6_check_2 20 rfl rfl)
theorem dX6_check_68 : decode cX6_check 68 = .ok (.goto 6, 3) := dk_167 0 6 (dk_at dksX6_check_2 21 rfl rfl)
theorem dX6_check_71 : decode cX6_check 71 = .ok (.iconst 1, 1) := dk_4 (dk_at dksX6_check_3 0 rfl rfl)
theorem dX6_check_72 : decode cX6_check 72 = .ok (.iload_n 3, 1) := dk_29 (dk_at dksX6_check_3 1 rfl rfl)
theorem dX6_check_73 : decode cX6_check 73 = .ok (.iadd, 1) := dk_96 (dk_at dksX6_check_3 2 rfl rfl)
theorem dX6_check_74 : decode cX6_check 74 = .ok (.ireturn, 1) := dk_172 (dk_at dksX6_check_3 3 rfl rfl)
abbrev cX6_count : ByteArray := prog_20_method_84_code
def yX6_count : MethodName := ⟨RX6, "count", "(I)I"⟩
def dkwX6_count_5 : List UInt8 := [172, 42, 4, 182, 0, 63, 172]
abbrev dktX6_count_5 : List UInt8 := dkwX6_count_5 ++ []
def dkwX6_count_4 : List UInt8 := [180, 0, 7, 6, 46, 172, 42, 180, 0, 7, 7, 46, 172, 42, 180, 0, 236, 172, 42, 180, 0, 7, 8, 46]
abbrev dktX6_count_4 : List UInt8 := dkwX6_count_4 ++ dktX6_count_5
def dkwX6_count_3 : List UInt8 := [42, 180, 0, 7, 3, 46, 172, 42, 180, 0, 7, 4, 46, 172, 42, 180, 0, 7, 5, 46, 172, 28, 172, 42]
abbrev dktX6_count_3 : List UInt8 := dkwX6_count_3 ++ dktX6_count_4
def dkwX6_count_2 : List UInt8 := [170, 0, 0, 0, 0, 0, 96, 0, 0, 0, 0, 0, 0, 0, 7, 0, 0, 0, 47, 0, 0, 0, 54, 0, 0, 0, 61, 0, 0, 0, 68, 0, 0, 0, 70, 0, 0, 0, 77, 0, 0, 0, 84, 0, 0, 0, 89]
abbrev dktX6_count_2 : List UInt8 := dkwX6_count_2 ++ dktX6_count_3
def dkwX6_count_1 : List UInt8 := [132, 3, 1, 167, 255, 235, 27]
abbrev dktX6_count_1 : List UInt8 := dkwX6_count_1 ++ dktX6_count_2
def dkwX6_count_0 : List UInt8 := [3, 61, 3, 62, 29, 16, 8, 162, 0, 21, 28, 42, 180, 0, 7, 16, 24, 29, 96, 46, 96, 61]
abbrev dktX6_count_0 : List UInt8 := dkwX6_count_0 ++ dktX6_count_1
theorem dksX6_count_0 : cX6_count.data.toList.drop 0 = dktX6_count_0 := by decide +kernel
theorem dksX6_count_1 : cX6_count.data.toList.drop 22 = dktX6_count_1 := dk_seg dksX6_count_0 22 rfl rfl
theorem dksX6_count_2 : cX6_count.data.toList.drop 29 = dktX6_count_2 := dk_seg dksX6_count_1 7 rfl rfl
theorem dksX6_count_3 : cX6_count.data.toList.drop 76 = dktX6_count_3 := dk_seg dksX6_count_2 47 rfl rfl
theorem dksX6_count_4 : cX6_count.data.toList.drop 100 = dktX6_count_4 := dk_seg dksX6_count_3 24 rfl rfl
theorem dksX6_count_5 : cX6_count.data.toList.drop 124 = dktX6_count_5 := dk_seg dksX6_count_4 24 rfl rfl
theorem dX6_count_0 : decode cX6_count 0 = .ok (.iconst 0, 1) := dk_3 (dk_at dksX6_count_0 0 rfl rfl)
theorem dX6_count_1 : decode cX6_count 1 = .ok (.istore_n 2, 1) := dk_61 (dk_at dksX6_count_0 1 rfl rfl)
theorem dX6_count_2 : decode cX6_count 2 = .ok (.iconst 0, 1) := dk_3 (dk_at dksX6_count_0 2 rfl rfl)
theorem dX6_count_3 : decode cX6_count 3 = .ok (.istore_n 3, 1) := dk_62 (dk_at dksX6_count_0 3 rfl rfl)
theorem dX6_count_4 : decode cX6_count 4 = .ok (.iload_n 3, 1) := dk_29 (dk_at dksX6_count_0 4 rfl rfl)
theorem dX6_count_5 : decode cX6_count 5 = .ok (.bipush 8, 2) := dk_16 8 (dk_at dksX6_count_0 5 rfl rfl)
theorem dX6_count_7 : decode cX6_count 7 = .ok (.if_icmp .ge 21, 3) := dk_162 0 21 (dk_at dksX6_count_0 7 rfl rfl)
theorem dX6_count_10 : decode cX6_count 10 = .ok (.iload_n 2, 1) := dk_28 (dk_at dksX6_count_0 10 rfl rfl)
theorem dX6_count_11 : decode cX6_count 11 = .ok (.aload_n 0, 1) := dk_42 (dk_at dksX6_count_0 11 rfl rfl)
theorem dX6_count_12 : decode cX6_count 12 = .ok (.getfield 7, 3) := dk_180 0 7 (dk_at dksX6_count_0 12 rfl rfl)
theorem dX6_count_15 : decode cX6_count 15 = .ok (.bipush 24, 2) := dk_16 24 (dk_at dksX6_count_0 15 rfl rfl)
theorem dX6_count_17 : decode cX6_count 17 = .ok (.iload_n 3, 1) := dk_29 (dk_at dksX6_count_0 17 rfl rfl)
theorem dX6_count_18 : decode cX6_count 18 = .ok (.iadd, 1) := dk_96 (dk_at dksX6_count_0 18 rfl rfl)
theorem dX6_count_19 : decode cX6_count 19 = .ok (.iaload, 1) := dk_46 (dk_at dksX6_count_0 19 rfl rfl)
theorem dX6_count_20 : decode cX6_count 20 = .ok (.iadd, 1) := dk_96 (dk_at dksX6_count_0 20 rfl rfl)
theorem dX6_count_21 : decode cX6_count 21 = .ok (.istore_n 2, 1) := dk_61 (dk_at dksX6_count_0 21 rfl rfl)
theorem dX6_count_22 : decode cX6_count 22 = .ok (.iinc 3 1, 3) := dk_132 3 1 (dk_at dksX6_count_1 0 rfl rfl)
theorem dX6_count_25 : decode cX6_count 25 = .ok (.goto (-21), 3) := dk_167 255 235 (dk_at dksX6_count_1 3 rfl rfl)
theorem dX6_count_28 : decode cX6_count 28 = .ok (.iload_n 1, 1) := dk_27 (dk_at dksX6_count_1 6 rfl rfl)
theorem dX6_count_29 : decode cX6_count 29 = .ok (.tableswitch 96 0 7 #[47, 54, 61, 68, 70, 77, 84, 89], 47) := by decide +kernel
theorem dX6_count_76 : decode cX6_count 76 = .ok (.aload_n 0, 1) := dk_42 (dk_at dksX6_count_3 0 rfl rfl)
theorem dX6_count_77 : decode cX6_count 77 = .ok (.getfield 7, 3) := dk_180 0 7 (dk_at dksX6_count_3 1 rfl rfl)
theorem dX6_count_80 : decode cX6_count 80 = .ok (.iconst 0, 1) := dk_3 (dk_at dksX6_count_3 4 rfl rfl)
theorem dX6_count_81 : decode cX6_count 81 = .ok (.iaload, 1) := dk_46 (dk_at dksX6_count_3 5 rfl rfl)
theorem dX6_count_82 : decode cX6_count 82 = .ok (.ireturn, 1) := dk_172 (dk_at dksX6_count_3 6 rfl rfl)
theorem dX6_count_83 : decode cX6_count 83 = .ok (.aload_n 0, 1) := dk_42 (dk_at dksX6_count_3 7 rfl rfl)
theorem dX6_count_84 : decode cX6_count 84 = .ok (.getfield 7, 3) := dk_180 0 7 (dk_at dksX6_count_3 8 rfl rfl)
theorem dX6_count_87 : decode cX6_count 87 = .ok (.iconst 1, 1) := dk_4 (dk_at dksX6_count_3 11 rfl rfl)
theorem dX6_count_88 : decode cX6_count 88 = .ok (.iaload, 1) := dk_46 (dk_at dksX6_count_3 12 rfl rfl)
theorem dX6_count_89 : decode cX6_count 89 = .ok (.ireturn, 1) := dk_172 (dk_at dksX6_count_3 13 rfl rfl)
theorem dX6_count_90 : decode cX6_count 90 = .ok (.aload_n 0, 1) := dk_42 (dk_at dksX6_count_3 14 rfl rfl)
theorem dX6_count_91 : decode cX6_count 91 = .ok (.getfield 7, 3) := dk_180 0 7 (dk_at dksX6_count_3 15 rfl rfl)
theorem dX6_count_94 : decode cX6_count 94 = .ok (.iconst 2, 1) := dk_5 (dk_at dksX6_count_3 18 rfl rfl)
theorem dX6_count_95 : decode cX6_count 95 = .ok (.iaload, 1) := dk_46 (dk_at dksX6_count_3 19 rfl rfl)
theorem dX6_count_96 : decode cX6_count 96 = .ok (.ireturn, 1) := dk_172 (dk_at dksX6_count_3 20 rfl rfl)
theorem dX6_count_97 : decode cX6_count 97 = .ok (.iload_n 2, 1) := dk_28 (dk_at dksX6_count_3 21 rfl rfl)
theorem dX6_count_98 : decode cX6_count 98 = .ok (.ireturn, 1) := dk_172 (dk_at dksX6_count_3 22 rfl rfl)
theorem dX6_count_99 : decode cX6_count 99 = .ok (.aload_n 0, 1) := dk_42 (dk_at dksX6_count_3 23 rfl rfl)
theorem dX6_count_100 : decode cX6_count 100 = .ok (.getfield 7, 3) := dk_180 0 7 (dk_at dksX6_count_4 0 rfl rfl)
theorem dX6_count_103 : decode cX6_count 103 = .ok (.iconst 3, 1) := dk_6 (dk_at dksX6_count_4 3 rfl rfl)
theorem dX6_count_104 : decode cX6_count 104 = .ok (.iaload, 1) := dk_46 (dk_at dksX6_count_4 4 rfl rfl)
theorem dX6_count_105 : decode cX6_count 105 = .ok (.ireturn, 1) := dk_172 (dk_at dksX6_count_4 5 rfl rfl)
theorem dX6_count_106 : decode cX6_count 106 = .ok (.aload_n 0, 1) := dk_42 (dk_at dksX6_count_4 6 rfl rfl)
theorem dX6_count_107 : decode cX6_count 107 = .ok (.getfield 7, 3) := dk_180 0 7 (dk_at dksX6_count_4 7 rfl rfl)
theorem dX6_count_110 : decode cX6_count 110 = .ok (.iconst 4, 1) := dk_7 (dk_at dksX6_count_4 10 rfl rfl)
theorem dX6_count_111 : decode cX6_count 111 = .ok (.iaload, 1) := dk_46 (dk_at dksX6_count_4 11 rfl rfl)
theorem dX6_count_112 : decode cX6_count 112 = .ok (.ireturn, 1) := dk_172 (dk_at dksX6_count_4 12 rfl rfl)
theorem dX6_count_113 : decode cX6_count 113 = .ok (.aload_n 0, 1) := dk_42 (dk_at dksX6_count_4 13 rfl rfl)
theorem dX6_count_114 : decode cX6_count 114 = .ok (.getfield 236, 3) := dk_180 0 236 (dk_at dksX6_count_4 14 rfl rfl)
theorem dX6_count_117 : decode cX6_count 117 = .ok (.ireturn, 1) := dk_172 (dk_at dksX6_count_4 17 rfl rfl)
theorem dX6_count_118 : decode cX6_count 118 = .ok (.aload_n 0, 1) := dk_42 (dk_at dksX6_count_4 18 rfl rfl)
theorem dX6_count_119 : decode cX6_count 119 = .ok (.getfield 7, 3) := dk_180 0 7 (dk_at dksX6_count_4 19 rfl rfl)
theorem dX6_count_122 : decode cX6_count 122 = .ok (.iconst 5, 1) := dk_8 (dk_at dksX6_count_4 22 rfl rfl)
theorem dX6_count_123 : decode cX6_count 123 = .ok (.iaload, 1) := dk_46 (dk_at dksX6_count_4 23 rfl rfl)
theorem dX6_count_124 : decode cX6_count 124 = .ok (.ireturn, 1) := dk_172 (dk_at dksX6_count_5 0 rfl rfl)
theorem dX6_count_125 : decode cX6_count 125 = .ok (.aload_n 0, 1) := dk_42 (dk_at dksX6_count_5 1 rfl rfl)
theorem dX6_count_126 : decode cX6_count 126 = .ok (.iconst 1, 1) := dk_4 (dk_at dksX6_count_5 2 rfl rfl)
theorem dX6_count_127 : decode cX6_count 127 = .ok (.invokevirtual 63, 3) := dk_182 0 63 (dk_at dksX6_count_5 3 rfl rfl)
theorem dX6_count_130 : decode cX6_count 130 = .ok (.ireturn, 1) := dk_172 (dk_at dksX6_count_5 6 rfl rfl)
abbrev cX6_told : ByteArray := prog_20_method_85_code
def yX6_told : MethodName := ⟨RX6, "told", "(I)I"⟩
def dkwX6_told_1 : List UInt8 := [172]
abbrev dktX6_told_1 : List UInt8 := dkwX6_told_1 ++ []
def dkwX6_told_0 : List UInt8 := [27, 4, 16, 6, 184, 0, 59, 153, 0, 12, 42, 180, 0, 16, 27, 46, 167, 0, 8, 42, 4, 182, 0, 63]
abbrev dktX6_told_0 : List UInt8 := dkwX6_told_0 ++ dktX6_told_1
theorem dksX6_told_0 : cX6_told.data.toList.drop 0 = dktX6_told_0 := by decide +kernel
theorem dksX6_told_1 : cX6_told.data.toList.drop 24 = dktX6_told_1 := dk_seg dksX6_told_0 24 rfl rfl
theorem dX6_told_0 : decode cX6_told 0 = .ok (.iload_n 1, 1) := dk_27 (dk_at dksX6_told_0 0 rfl rfl)
theorem dX6_told_1 : decode cX6_told 1 = .ok (.iconst 1, 1) := dk_4 (dk_at dksX6_told_0 1 rfl rfl)
theorem dX6_told_2 : decode cX6_told 2 = .ok (.bipush 6, 2) := dk_16 6 (dk_at dksX6_told_0 2 rfl rfl)
theorem dX6_told_4 : decode cX6_told 4 = .ok (.invokestatic 59, 3) := dk_184 0 59 (dk_at dksX6_told_0 4 rfl rfl)
theorem dX6_told_7 : decode cX6_told 7 = .ok (.ifCond .eq 12, 3) := dk_153 0 12 (dk_at dksX6_told_0 7 rfl rfl)
theorem dX6_told_10 : decode cX6_told 10 = .ok (.aload_n 0, 1) := dk_42 (dk_at dksX6_told_0 10 rfl rfl)
theorem dX6_told_11 : decode cX6_told 11 = .ok (.getfield 16, 3) := dk_180 0 16 (dk_at dksX6_told_0 11 rfl rfl)
theorem dX6_told_14 : decode cX6_told 14 = .ok (.iload_n 1, 1) := dk_27 (dk_at dksX6_told_0 14 rfl rfl)
theorem dX6_told_15 : decode cX6_told 15 = .ok (.iaload, 1) := dk_46 (dk_at dksX6_told_0 15 rfl rfl)
theorem dX6_told_16 : decode cX6_told 16 = .ok (.goto 8, 3) := dk_167 0 8 (dk_at dksX6_told_0 16 rfl rfl)
theorem dX6_told_19 : decode cX6_told 19 = .ok (.aload_n 0, 1) := dk_42 (dk_at dksX6_told_0 19 rfl rfl)
theorem dX6_told_20 : decode cX6_told 20 = .ok (.iconst 1, 1) := dk_4 (dk_at dksX6_told_0 20 rfl rfl)
theorem dX6_told_21 : decode cX6_told 21 = .ok (.invokevirtual 63, 3) := dk_182 0 63 (dk_at dksX6_told_0 21 rfl rfl)
theorem dX6_told_24 : decode cX6_told 24 = .ok (.ireturn, 1) := dk_172 (dk_at dksX6_told_1 0 rfl rfl)
theorem q75 : (Jvm.Cond.initialized "FigureTillModel") ∈ lw_all := lw_g (lw_at lw_m1 7 rfl) rfl
theorem q1163 : (Jvm.Cond.instantiable "FigureTillModel" (30 : Nat)) ∈ lw_all := lw_g (lw_at lw_m5 135 rfl) rfl
theorem q1165 : (Jvm.Cond.instanceMethod ({ cls := "FigureTillModel", name := "<init>", desc := "()V" } : Jvm.MethodName)) ∈ lw_all := lw_g (lw_at lw_m5 137 rfl) rfl
theorem q1166 : (Jvm.Cond.code ({ cls := "FigureTillModel", name := "<init>", desc := "()V" } : Jvm.MethodName) prog_20_method_1_code (3 : Nat) (Option.none : Option Jvm.ClassFile.FieldType)) ∈ lw_all := lw_g (lw_at lw_m5 138 rfl) rfl
theorem q1167 : (Jvm.Cond.methodLink "FigureTillModel" (1 : Nat) ({ cls := "java/lang/Object", name := "<init>", desc := "()V" } : Jvm.MethodName)) ∈ lw_all := lw_g (lw_at lw_m5 139 rfl) rfl
theorem q1168 : (Jvm.Cond.fieldLink "FigureTillModel" (7 : Nat) "FigureTillModel" "s" "[I") ∈ lw_all := lw_g (lw_at lw_m5 140 rfl) rfl
theorem q1169 : (Jvm.Cond.fieldLink "FigureTillModel" (13 : Nat) "FigureTillModel" "kept" "[I") ∈ lw_all := lw_g (lw_at lw_m5 141 rfl) rfl
theorem q1170 : (Jvm.Cond.fieldLink "FigureTillModel" (269 : Nat) "FigureTillModel" "images" "I") ∈ lw_all := lw_g (lw_at lw_m5 142 rfl) rfl
theorem q1171 : (Jvm.Cond.fieldLink "FigureTillModel" (16 : Nat) "FigureTillModel" "errors" "[I") ∈ lw_all := lw_g (lw_at lw_m5 143 rfl) rfl
theorem q1172 : (Jvm.Cond.fieldLink "FigureTillModel" (69 : Nat) "FigureTillModel" "at" "I") ∈ lw_all := lw_g (lw_at lw_m5 144 rfl) rfl
theorem q1173 : (Jvm.Cond.fieldLink "FigureTillModel" (103 : Nat) "FigureTillModel" "open" "I") ∈ lw_all := lw_g (lw_at lw_m5 145 rfl) rfl
theorem q1174 : (Jvm.Cond.fieldLink "FigureTillModel" (76 : Nat) "FigureTillModel" "steps" "I") ∈ lw_all := lw_g (lw_at lw_m5 146 rfl) rfl
theorem q1175 : (Jvm.Cond.fieldLink "FigureTillModel" (73 : Nat) "FigureTillModel" "use" "I") ∈ lw_all := lw_g (lw_at lw_m5 147 rfl) rfl
theorem q1176 : (Jvm.Cond.fieldLink "FigureTillModel" (19 : Nat) "FigureTillModel" "step" "[I") ∈ lw_all := lw_g (lw_at lw_m5 148 rfl) rfl
theorem q1177 : (Jvm.Cond.fieldLink "FigureTillModel" (22 : Nat) "FigureTillModel" "named" "[I") ∈ lw_all := lw_g (lw_at lw_m5 149 rfl) rfl
theorem q1178 : (Jvm.Cond.fieldLink "FigureTillModel" (25 : Nat) "FigureTillModel" "pile" "[I") ∈ lw_all := lw_g (lw_at lw_m5 150 rfl) rfl
theorem q1179 : (Jvm.Cond.fieldLink "FigureTillModel" (28 : Nat) "FigureTillModel" "told" "[I") ∈ lw_all := lw_g (lw_at lw_m5 151 rfl) rfl
theorem q1180 : (Jvm.Cond.fieldLink "FigureTillModel" (31 : Nat) "FigureTillModel" "beside1" "[I") ∈ lw_all := lw_g (lw_at lw_m5 152 rfl) rfl
theorem q1181 : (Jvm.Cond.fieldLink "FigureTillModel" (34 : Nat) "FigureTillModel" "row" "[I") ∈ lw_all := lw_g (lw_at lw_m5 153 rfl) rfl
theorem q1182 : (Jvm.Cond.fieldLink "FigureTillModel" (37 : Nat) "FigureTillModel" "best" "[I") ∈ lw_all := lw_g (lw_at lw_m5 154 rfl) rfl
theorem q1183 : (Jvm.Cond.fieldLink "FigureTillModel" (202 : Nat) "FigureTillModel" "bestNet" "I") ∈ lw_all := lw_g (lw_at lw_m5 155 rfl) rfl
theorem q1184 : (Jvm.Cond.fieldLink "FigureTillModel" (199 : Nat) "FigureTillModel" "bestMore" "I") ∈ lw_all := lw_g (lw_at lw_m5 156 rfl) rfl
theorem q1185 : (Jvm.Cond.fieldLink "FigureTillModel" (40 : Nat) "FigureTillModel" "worthOf" "[I") ∈ lw_all := lw_g (lw_at lw_m5 157 rfl) rfl
theorem q1186 : (Jvm.Cond.fieldLink "FigureTillModel" (212 : Nat) "FigureTillModel" "leastApart" "I") ∈ lw_all := lw_g (lw_at lw_m5 158 rfl) rfl
theorem q1187 : (Jvm.Cond.fieldLink "FigureTillModel" (221 : Nat) "FigureTillModel" "found" "I") ∈ lw_all := lw_g (lw_at lw_m5 159 rfl) rfl
theorem q1188 : (Jvm.Cond.fieldLink "FigureTillModel" (224 : Nat) "FigureTillModel" "first" "I") ∈ lw_all := lw_g (lw_at lw_m5 160 rfl) rfl
theorem q1189 : (Jvm.Cond.fieldLink "FigureTillModel" (218 : Nat) "FigureTillModel" "leastPaid" "I") ∈ lw_all := lw_g (lw_at lw_m5 161 rfl) rfl
theorem q1190 : (Jvm.Cond.fieldLink "FigureTillModel" (43 : Nat) "FigureTillModel" "trace" "[I") ∈ lw_all := lw_g (lw_at lw_m5 162 rfl) rfl
theorem q1191 : (Jvm.Cond.fieldLink "FigureTillModel" (236 : Nat) "FigureTillModel" "traced" "I") ∈ lw_all := lw_g (lw_at lw_m5 163 rfl) rfl
theorem q1192 : (Jvm.Cond.fieldLink "FigureTillModel" (243 : Nat) "FigureTillModel" "speaks" "I") ∈ lw_all := lw_g (lw_at lw_m5 164 rfl) rfl
theorem q1193 : (Jvm.Cond.fieldLink "FigureTillModel" (258 : Nat) "FigureTillModel" "isParted" "Z") ∈ lw_all := lw_g (lw_at lw_m5 165 rfl) rfl
theorem q1194 : (Jvm.Cond.fieldLink "FigureTillModel" (46 : Nat) "FigureTillModel" "bits" "[I") ∈ lw_all := lw_g (lw_at lw_m5 166 rfl) rfl
theorem q1195 : (Jvm.Cond.fieldLink "FigureTillModel" (49 : Nat) "FigureTillModel" "sizes" "[I") ∈ lw_all := lw_g (lw_at lw_m5 167 rfl) rfl
theorem q1196 : (Jvm.Cond.fieldLink "FigureTillModel" (52 : Nat) "FigureTillModel" "number" "[I") ∈ lw_all := lw_g (lw_at lw_m5 168 rfl) rfl
theorem q1197 : (Jvm.Cond.fieldLink "FigureTillModel" (55 : Nat) "FigureTillModel" "aside" "[I") ∈ lw_all := lw_g (lw_at lw_m5 169 rfl) rfl
theorem q1198 : (Jvm.Cond.laysFinal "FigureTillModel" "FigureTillModel" "s" "[I") ∈ lw_all := lw_g (lw_at lw_m5 170 rfl) rfl
theorem q1199 : (Jvm.Cond.soleField "FigureTillModel" "s") ∈ lw_all := lw_g (lw_at lw_m5 171 rfl) rfl
theorem q1200 : (Jvm.Cond.laysFinal "FigureTillModel" "FigureTillModel" "kept" "[I") ∈ lw_all := lw_g (lw_at lw_m5 172 rfl) rfl
theorem q1201 : (Jvm.Cond.soleField "FigureTillModel" "kept") ∈ lw_all := lw_g (lw_at lw_m5 173 rfl) rfl
theorem q1202 : (Jvm.Cond.lays "FigureTillModel" "FigureTillModel" "images" "I") ∈ lw_all := lw_g (lw_at lw_m5 174 rfl) rfl
theorem q1203 : (Jvm.Cond.soleField "FigureTillModel" "images") ∈ lw_all := lw_g (lw_at lw_m5 175 rfl) rfl
theorem q1204 : (Jvm.Cond.laysFinal "FigureTillModel" "FigureTillModel" "errors" "[I") ∈ lw_all := lw_g (lw_at lw_m5 176 rfl) rfl
theorem q1205 : (Jvm.Cond.soleField "FigureTillModel" "errors") ∈ lw_all := lw_g (lw_at lw_m5 177 rfl) rfl
theorem q1206 : (Jvm.Cond.lays "FigureTillModel" "FigureTillModel" "at" "I") ∈ lw_all := lw_g (lw_at lw_m5 178 rfl) rfl
theorem q1207 : (Jvm.Cond.soleField "FigureTillModel" "at") ∈ lw_all := lw_g (lw_at lw_m5 179 rfl) rfl
theorem q1208 : (Jvm.Cond.lays "FigureTillModel" "FigureTillModel" "open" "I") ∈ lw_all := lw_g (lw_at lw_m5 180 rfl) rfl
theorem q1209 : (Jvm.Cond.soleField "FigureTillModel" "open") ∈ lw_all := lw_g (lw_at lw_m5 181 rfl) rfl
theorem q1210 : (Jvm.Cond.lays "FigureTillModel" "FigureTillModel" "steps" "I") ∈ lw_all := lw_g (lw_at lw_m5 182 rfl) rfl
theorem q1211 : (Jvm.Cond.soleField "FigureTillModel" "steps") ∈ lw_all := lw_g (lw_at lw_m5 183 rfl) rfl
theorem q1212 : (Jvm.Cond.lays "FigureTillModel" "FigureTillModel" "use" "I") ∈ lw_all := lw_g (lw_at lw_m5 184 rfl) rfl
theorem q1213 : (Jvm.Cond.soleField "FigureTillModel" "use") ∈ lw_all := lw_g (lw_at lw_m5 185 rfl) rfl
theorem q1214 : (Jvm.Cond.laysFinal "FigureTillModel" "FigureTillModel" "step" "[I") ∈ lw_all := lw_g (lw_at lw_m5 186 rfl) rfl
theorem q1215 : (Jvm.Cond.soleField "FigureTillModel" "step") ∈ lw_all := lw_g (lw_at lw_m5 187 rfl) rfl
theorem q1216 : (Jvm.Cond.laysFinal "FigureTillModel" "FigureTillModel" "named" "[I") ∈ lw_all := lw_g (lw_at lw_m5 188 rfl) rfl
theorem q1217 : (Jvm.Cond.soleField "FigureTillModel" "named") ∈ lw_all := lw_g (lw_at lw_m5 189 rfl) rfl
theorem q1218 : (Jvm.Cond.laysFinal "FigureTillModel" "FigureTillModel" "pile" "[I") ∈ lw_all := lw_g (lw_at lw_m5 190 rfl) rfl
theorem q1219 : (Jvm.Cond.soleField "FigureTillModel" "pile") ∈ lw_all := lw_g (lw_at lw_m5 191 rfl) rfl
theorem q1220 : (Jvm.Cond.laysFinal "FigureTillModel" "FigureTillModel" "told" "[I") ∈ lw_all := lw_g (lw_at lw_m5 192 rfl) rfl
theorem q1221 : (Jvm.Cond.soleField "FigureTillModel" "told") ∈ lw_all := lw_g (lw_at lw_m5 193 rfl) rfl
theorem q1222 : (Jvm.Cond.laysFinal "FigureTillModel" "FigureTillModel" "beside1" "[I") ∈ lw_all := lw_g (lw_at lw_m5 194 rfl) rfl
theorem q1223 : (Jvm.Cond.soleField "FigureTillModel" "beside1") ∈ lw_all := lw_g (lw_at lw_m5 195 rfl) rfl
theorem q1224 : (Jvm.Cond.laysFinal "FigureTillModel" "FigureTillModel" "row" "[I") ∈ lw_all := lw_g (lw_at lw_m5 196 rfl) rfl
theorem q1225 : (Jvm.Cond.soleField "FigureTillModel" "row") ∈ lw_all := lw_g (lw_at lw_m5 197 rfl) rfl
theorem q1226 : (Jvm.Cond.laysFinal "FigureTillModel" "FigureTillModel" "best" "[I") ∈ lw_all := lw_g (lw_at lw_m5 198 rfl) rfl
theorem q1227 : (Jvm.Cond.soleField "FigureTillModel" "best") ∈ lw_all := lw_g (lw_at lw_m5 199 rfl) rfl
theorem q1228 : (Jvm.Cond.lays "FigureTillModel" "FigureTillModel" "bestNet" "I") ∈ lw_all := lw_g (lw_at lw_m5 200 rfl) rfl
theorem q1229 : (Jvm.Cond.soleField "FigureTillModel" "bestNet") ∈ lw_all := lw_g (lw_at lw_m5 201 rfl) rfl
theorem q1230 : (Jvm.Cond.lays "FigureTillModel" "FigureTillModel" "bestMore" "I") ∈ lw_all := lw_g (lw_at lw_m5 202 rfl) rfl
theorem q1231 : (Jvm.Cond.soleField "FigureTillModel" "bestMore") ∈ lw_all := lw_g (lw_at lw_m5 203 rfl) rfl
theorem q1232 : (Jvm.Cond.laysFinal "FigureTillModel" "FigureTillModel" "worthOf" "[I") ∈ lw_all := lw_g (lw_at lw_m5 204 rfl) rfl
theorem q1233 : (Jvm.Cond.soleField "FigureTillModel" "worthOf") ∈ lw_all := lw_g (lw_at lw_m5 205 rfl) rfl
theorem q1234 : (Jvm.Cond.lays "FigureTillModel" "FigureTillModel" "leastApart" "I") ∈ lw_all := lw_g (lw_at lw_m5 206 rfl) rfl
theorem q1235 : (Jvm.Cond.soleField "FigureTillModel" "leastApart") ∈ lw_all := lw_g (lw_at lw_m5 207 rfl) rfl
theorem q1236 : (Jvm.Cond.lays "FigureTillModel" "FigureTillModel" "found" "I") ∈ lw_all := lw_g (lw_at lw_m5 208 rfl) rfl
theorem q1237 : (Jvm.Cond.soleField "FigureTillModel" "found") ∈ lw_all := lw_g (lw_at lw_m5 209 rfl) rfl
theorem q1238 : (Jvm.Cond.lays "FigureTillModel" "FigureTillModel" "first" "I") ∈ lw_all := lw_g (lw_at lw_m5 210 rfl) rfl
theorem q1239 : (Jvm.Cond.soleField "FigureTillModel" "first") ∈ lw_all := lw_g (lw_at lw_m5 211 rfl) rfl
theorem q1240 : (Jvm.Cond.lays "FigureTillModel" "FigureTillModel" "leastPaid" "I") ∈ lw_all := lw_g (lw_at lw_m5 212 rfl) rfl
theorem q1241 : (Jvm.Cond.soleField "FigureTillModel" "leastPaid") ∈ lw_all := lw_g (lw_at lw_m5 213 rfl) rfl
theorem q1242 : (Jvm.Cond.laysFinal "FigureTillModel" "FigureTillModel" "trace" "[I") ∈ lw_all := lw_g (lw_at lw_m5 214 rfl) rfl
theorem q1243 : (Jvm.Cond.soleField "FigureTillModel" "trace") ∈ lw_all := lw_g (lw_at lw_m5 215 rfl) rfl
theorem q1244 : (Jvm.Cond.lays "FigureTillModel" "FigureTillModel" "traced" "I") ∈ lw_all := lw_g (lw_at lw_m5 216 rfl) rfl
theorem q1245 : (Jvm.Cond.soleField "FigureTillModel" "traced") ∈ lw_all := lw_g (lw_at lw_m5 217 rfl) rfl
theorem q1246 : (Jvm.Cond.lays "FigureTillModel" "FigureTillModel" "speaks" "I") ∈ lw_all := lw_g (lw_at lw_m5 218 rfl) rfl
theorem q1247 : (Jvm.Cond.soleField "FigureTillModel" "speaks") ∈ lw_all := lw_g (lw_at lw_m5 219 rfl) rfl
theorem q1248 : (Jvm.Cond.lays "FigureTillModel" "FigureTillModel" "isParted" "Z") ∈ lw_all := lw_g (lw_at lw_m5 220 rfl) rfl
theorem q1249 : (Jvm.Cond.soleField "FigureTillModel" "isParted") ∈ lw_all := lw_g (lw_at lw_m5 221 rfl) rfl
theorem q1250 : (Jvm.Cond.laysFinal "FigureTillModel" "FigureTillModel" "bits" "[I") ∈ lw_all := lw_g (lw_at lw_m5 222 rfl) rfl
theorem q1251 : (Jvm.Cond.soleField "FigureTillModel" "bits") ∈ lw_all := lw_g (lw_at lw_m5 223 rfl) rfl
theorem q1252 : (Jvm.Cond.laysFinal "FigureTillModel" "FigureTillModel" "sizes" "[I") ∈ lw_all := lw_g (lw_at lw_m5 224 rfl) rfl
theorem q1253 : (Jvm.Cond.soleField "FigureTillModel" "sizes") ∈ lw_all := lw_g (lw_at lw_m5 225 rfl) rfl
theorem q1254 : (Jvm.Cond.laysFinal "FigureTillModel" "FigureTillModel" "number" "[I") ∈ lw_all := lw_g (lw_at lw_m5 226 rfl) rfl
theorem q1255 : (Jvm.Cond.soleField "FigureTillModel" "number") ∈ lw_all := lw_g (lw_at lw_m5 227 rfl) rfl
theorem q1256 : (Jvm.Cond.laysFinal "FigureTillModel" "FigureTillModel" "aside" "[I") ∈ lw_all := lw_g (lw_at lw_m5 228 rfl) rfl
theorem q1257 : (Jvm.Cond.soleField "FigureTillModel" "aside") ∈ lw_all := lw_g (lw_at lw_m5 229 rfl) rfl
theorem q1258 : (Jvm.Cond.superclass "FigureTillModel" "java/lang/Object") ∈ lw_all := lw_g (lw_at lw_m5 230 rfl) rfl
theorem q1260 : (Jvm.Cond.instanceMethod ({ cls := "FigureTillModel", name := "feed", desc := "(JI)I" } : Jvm.MethodName)) ∈ lw_all := lw_g (lw_at lw_m5 232 rfl) rfl
theorem q1261 : (Jvm.Cond.selects "FigureTillModel" ({ cls := "FigureTillModel", name := "feed", desc := "(JI)I" } : Jvm.MethodName) ({ cls := "FigureTillModel", name := "feed", desc := "(JI)I" } : Jvm.MethodName)) ∈ lw_all := lw_g (lw_at lw_m5 233 rfl) rfl
theorem q1262 : (Jvm.Cond.code ({ cls := "FigureTillModel", name := "feed", desc := "(JI)I" } : Jvm.MethodName) prog_20_method_11_code (5 : Nat) (Option.some Jvm.ClassFile.FieldType.int)) ∈ lw_all := lw_g (lw_at lw_m5 234 rfl) rfl
theorem q1263 : (Jvm.Cond.methodLink "FigureTillModel" (59 : Nat) ({ cls := "FigureTillModel", name := "in", desc := "(III)Z" } : Jvm.MethodName)) ∈ lw_all := lw_g (lw_at lw_m5 235 rfl) rfl
theorem q1264 : (Jvm.Cond.static ({ cls := "FigureTillModel", name := "in", desc := "(III)Z" } : Jvm.MethodName)) ∈ lw_all := lw_g (lw_at lw_m5 236 rfl) rfl
theorem q1265 : (Jvm.Cond.code ({ cls := "FigureTillModel", name := "in", desc := "(III)Z" } : Jvm.MethodName) prog_20_method_3_code (3 : Nat) (Option.some Jvm.ClassFile.FieldType.boolean)) ∈ lw_all := lw_g (lw_at lw_m5 237 rfl) rfl
theorem q1266 : (Jvm.Cond.methodLink "FigureTillModel" (63 : Nat) ({ cls := "FigureTillModel", name := "error", desc := "(I)I" } : Jvm.MethodName)) ∈ lw_all := lw_g (lw_at lw_m5 238 rfl) rfl
theorem q1267 : (Jvm.Cond.privateMethod ({ cls := "FigureTillModel", name := "error", desc := "(I)I" } : Jvm.MethodName)) ∈ lw_tbl := lw_at lw_m5 239 rfl
theorem q1268 : (Jvm.Cond.instanceMethod ({ cls := "FigureTillModel", name := "error", desc := "(I)I" } : Jvm.MethodName)) ∈ lw_all := lw_g (lw_at lw_m6 0 rfl) rfl
theorem q1269 : (Jvm.Cond.code ({ cls := "FigureTillModel", name := "error", desc := "(I)I" } : Jvm.MethodName) prog_20_method_2_code (2 : Nat) (Option.some Jvm.ClassFile.FieldType.int)) ∈ lw_all := lw_g (lw_at lw_m6 1 rfl) rfl
theorem q1270 : (Jvm.Cond.constant "FigureTillModel" (58 : Nat) (-1000000000 : Int32)) ∈ lw_all := lw_g (lw_at lw_m6 2 rfl) rfl
theorem q1271 : (Jvm.Cond.constantLong "FigureTillModel" (67 : Nat) (255 : Int64)) ∈ lw_all := lw_g (lw_at lw_m6 3 rfl) rfl
theorem q1273 : (Jvm.Cond.instanceMethod ({ cls := "FigureTillModel", name := "text", desc := "(I)I" } : Jvm.MethodName)) ∈ lw_all := lw_g (lw_at lw_m6 5 rfl) rfl
theorem q1274 : (Jvm.Cond.selects "FigureTillModel" ({ cls := "FigureTillModel", name := "text", desc := "(I)I" } : Jvm.MethodName) ({ cls := "FigureTillModel", name := "text", desc := "(I)I" } : Jvm.MethodName)) ∈ lw_all := lw_g (lw_at lw_m6 6 rfl) rfl
theorem q1275 : (Jvm.Cond.code ({ cls := "FigureTillModel", name := "text", desc := "(I)I" } : Jvm.MethodName) prog_20_method_23_code (5 : Nat) (Option.some Jvm.ClassFile.FieldType.int)) ∈ lw_all := lw_g (lw_at lw_m6 7 rfl) rfl
theorem q1276 : (Jvm.Cond.methodLink "FigureTillModel" (113 : Nat) ({ cls := "FigureTillModel", name := "whole", desc := "()Z" } : Jvm.MethodName)) ∈ lw_all := lw_g (lw_at lw_m6 8 rfl) rfl
theorem q1277 : (Jvm.Cond.privateMethod ({ cls := "FigureTillModel", name := "whole", desc := "()Z" } : Jvm.MethodName)) ∈ lw_tbl := lw_at lw_m6 9 rfl
theorem q1278 : (Jvm.Cond.instanceMethod ({ cls := "FigureTillModel", name := "whole", desc := "()Z" } : Jvm.MethodName)) ∈ lw_all := lw_g (lw_at lw_m6 10 rfl) rfl
theorem q1279 : (Jvm.Cond.code ({ cls := "FigureTillModel", name := "whole", desc := "()Z" } : Jvm.MethodName) prog_20_method_15_code (1 : Nat) (Option.some Jvm.ClassFile.FieldType.boolean)) ∈ lw_all := lw_g (lw_at lw_m6 11 rfl) rfl
theorem q1280 : (Jvm.Cond.methodLink "FigureTillModel" (79 : Nat) ({ cls := "FigureTillModel", name := "both", desc := "()Z" } : Jvm.MethodName)) ∈ lw_all := lw_g (lw_at lw_m6 12 rfl) rfl
theorem q1281 : (Jvm.Cond.privateMethod ({ cls := "FigureTillModel", name := "both", desc := "()Z" } : Jvm.MethodName)) ∈ lw_tbl := lw_at lw_m6 13 rfl
theorem q1282 : (Jvm.Cond.instanceMethod ({ cls := "FigureTillModel", name := "both", desc := "()Z" } : Jvm.MethodName)) ∈ lw_all := lw_g (lw_at lw_m6 14 rfl) rfl
theorem q1283 : (Jvm.Cond.code ({ cls := "FigureTillModel", name := "both", desc := "()Z" } : Jvm.MethodName) prog_20_method_16_code (1 : Nat) (Option.some Jvm.ClassFile.FieldType.boolean)) ∈ lw_all := lw_g (lw_at lw_m6 15 rfl) rfl
theorem q1284 : (Jvm.Cond.methodLink "FigureTillModel" (91 : Nat) ({ cls := "FigureTillModel", name := "compared", desc := "()Z" } : Jvm.MethodName)) ∈ lw_all := lw_g (lw_at lw_m6 16 rfl) rfl
theorem q1285 : (Jvm.Cond.privateMethod ({ cls := "FigureTillModel", name := "compared", desc := "()Z" } : Jvm.MethodName)) ∈ lw_tbl := lw_at lw_m6 17 rfl
theorem q1286 : (Jvm.Cond.instanceMethod ({ cls := "FigureTillModel", name := "compared", desc := "()Z" } : Jvm.MethodName)) ∈ lw_all := lw_g (lw_at lw_m6 18 rfl) rfl
theorem q1287 : (Jvm.Cond.code ({ cls := "FigureTillModel", name := "compared", desc := "()Z" } : Jvm.MethodName) prog_20_method_17_code (2 : Nat) (Option.some Jvm.ClassFile.FieldType.boolean)) ∈ lw_all := lw_g (lw_at lw_m6 19 rfl) rfl
theorem q1288 : (Jvm.Cond.methodLink "FigureTillModel" (94 : Nat) ({ cls := "FigureTillModel", name := "sum", desc := "()Z" } : Jvm.MethodName)) ∈ lw_all := lw_g (lw_at lw_m6 20 rfl) rfl
theorem q1289 : (Jvm.Cond.privateMethod ({ cls := "FigureTillModel", name := "sum", desc := "()Z" } : Jvm.MethodName)) ∈ lw_tbl := lw_at lw_m6 21 rfl
theorem q1290 : (Jvm.Cond.instanceMethod ({ cls := "FigureTillModel", name := "sum", desc := "()Z" } : Jvm.MethodName)) ∈ lw_all := lw_g (lw_at lw_m6 22 rfl) rfl
theorem q1291 : (Jvm.Cond.code ({ cls := "FigureTillModel", name := "sum", desc := "()Z" } : Jvm.MethodName) prog_20_method_18_code (2 : Nat) (Option.some Jvm.ClassFile.FieldType.boolean)) ∈ lw_all := lw_g (lw_at lw_m6 23 rfl) rfl
theorem q1292 : (Jvm.Cond.methodLink "FigureTillModel" (97 : Nat) ({ cls := "FigureTillModel", name := "product", desc := "()Z" } : Jvm.MethodName)) ∈ lw_all := lw_g (lw_at lw_m6 24 rfl) rfl
theorem q1293 : (Jvm.Cond.privateMethod ({ cls := "FigureTillModel", name := "product", desc := "()Z" } : Jvm.MethodName)) ∈ lw_tbl := lw_at lw_m6 25 rfl
theorem q1294 : (Jvm.Cond.instanceMethod ({ cls := "FigureTillModel", name := "product", desc := "()Z" } : Jvm.MethodName)) ∈ lw_all := lw_g (lw_at lw_m6 26 rfl) rfl
theorem q1295 : (Jvm.Cond.code ({ cls := "FigureTillModel", name := "product", desc := "()Z" } : Jvm.MethodName) prog_20_method_19_code (2 : Nat) (Option.some Jvm.ClassFile.FieldType.boolean)) ∈ lw_all := lw_g (lw_at lw_m6 27 rfl) rfl
theorem q1296 : (Jvm.Cond.methodLink "FigureTillModel" (100 : Nat) ({ cls := "FigureTillModel", name := "one", desc := "()Z" } : Jvm.MethodName)) ∈ lw_all := lw_g (lw_at lw_m6 28 rfl) rfl
theorem q1297 : (Jvm.Cond.privateMethod ({ cls := "FigureTillModel", name := "one", desc := "()Z" } : Jvm.MethodName)) ∈ lw_tbl := lw_at lw_m6 29 rfl
theorem q1298 : (Jvm.Cond.instanceMethod ({ cls := "FigureTillModel", name := "one", desc := "()Z" } : Jvm.MethodName)) ∈ lw_all := lw_g (lw_at lw_m6 30 rfl) rfl
theorem q1299 : (Jvm.Cond.code ({ cls := "FigureTillModel", name := "one", desc := "()Z" } : Jvm.MethodName) prog_20_method_21_code (4 : Nat) (Option.some Jvm.ClassFile.FieldType.boolean)) ∈ lw_all := lw_g (lw_at lw_m6 31 rfl) rfl
theorem q1300 : (Jvm.Cond.methodLink "FigureTillModel" (83 : Nat) ({ cls := "FigureTillModel", name := "look", desc := "()I" } : Jvm.MethodName)) ∈ lw_all := lw_g (lw_at lw_m6 32 rfl) rfl
theorem q1301 : (Jvm.Cond.privateMethod ({ cls := "FigureTillModel", name := "look", desc := "()I" } : Jvm.MethodName)) ∈ lw_tbl := lw_at lw_m6 33 rfl
theorem q1302 : (Jvm.Cond.instanceMethod ({ cls := "FigureTillModel", name := "look", desc := "()I" } : Jvm.MethodName)) ∈ lw_all := lw_g (lw_at lw_m6 34 rfl) rfl
theorem q1303 : (Jvm.Cond.code ({ cls := "FigureTillModel", name := "look", desc := "()I" } : Jvm.MethodName) prog_20_method_12_code (1 : Nat) (Option.some Jvm.ClassFile.FieldType.int)) ∈ lw_all := lw_g (lw_at lw_m6 35 rfl) rfl
theorem q1304 : (Jvm.Cond.methodLink "FigureTillModel" (106 : Nat) ({ cls := "FigureTillModel", name := "isName", desc := "(I)Z" } : Jvm.MethodName)) ∈ lw_all := lw_g (lw_at lw_m6 36 rfl) rfl
theorem q1305 : (Jvm.Cond.privateMethod ({ cls := "FigureTillModel", name := "isName", desc := "(I)Z" } : Jvm.MethodName)) ∈ lw_tbl := lw_at lw_m6 37 rfl
theorem q1306 : (Jvm.Cond.instanceMethod ({ cls := "FigureTillModel", name := "isName", desc := "(I)Z" } : Jvm.MethodName)) ∈ lw_all := lw_g (lw_at lw_m6 38 rfl) rfl
theorem q1307 : (Jvm.Cond.code ({ cls := "FigureTillModel", name := "isName", desc := "(I)Z" } : Jvm.MethodName) prog_20_method_13_code (2 : Nat) (Option.some Jvm.ClassFile.FieldType.boolean)) ∈ lw_all := lw_g (lw_at lw_m6 39 rfl) rfl
theorem q1308 : (Jvm.Cond.methodLink "FigureTillModel" (87 : Nat) ({ cls := "FigureTillModel", name := "step1", desc := "(II)V" } : Jvm.MethodName)) ∈ lw_all := lw_g (lw_at lw_m6 40 rfl) rfl
theorem q1309 : (Jvm.Cond.privateMethod ({ cls := "FigureTillModel", name := "step1", desc := "(II)V" } : Jvm.MethodName)) ∈ lw_tbl := lw_at lw_m6 41 rfl
theorem q1310 : (Jvm.Cond.instanceMethod ({ cls := "FigureTillModel", name := "step1", desc := "(II)V" } : Jvm.MethodName)) ∈ lw_all := lw_g (lw_at lw_m6 42 rfl) rfl
theorem q1311 : (Jvm.Cond.code ({ cls := "FigureTillModel", name := "step1", desc := "(II)V" } : Jvm.MethodName) prog_20_method_14_code (3 : Nat) (Option.none : Option Jvm.ClassFile.FieldType)) ∈ lw_all := lw_g (lw_at lw_m6 43 rfl) rfl
theorem q1312 : (Jvm.Cond.methodLink "FigureTillModel" (110 : Nat) ({ cls := "FigureTillModel", name := "opens", desc := "()Z" } : Jvm.MethodName)) ∈ lw_all := lw_g (lw_at lw_m6 44 rfl) rfl
theorem q1313 : (Jvm.Cond.privateMethod ({ cls := "FigureTillModel", name := "opens", desc := "()Z" } : Jvm.MethodName)) ∈ lw_tbl := lw_at lw_m6 45 rfl
theorem q1314 : (Jvm.Cond.instanceMethod ({ cls := "FigureTillModel", name := "opens", desc := "()Z" } : Jvm.MethodName)) ∈ lw_all := lw_g (lw_at lw_m6 46 rfl) rfl
theorem q1315 : (Jvm.Cond.code ({ cls := "FigureTillModel", name := "opens", desc := "()Z" } : Jvm.MethodName) prog_20_method_20_code (1 : Nat) (Option.some Jvm.ClassFile.FieldType.boolean)) ∈ lw_all := lw_g (lw_at lw_m6 47 rfl) rfl
theorem q1317 : (Jvm.Cond.instanceMethod ({ cls := "FigureTillModel", name := "untell", desc := "(I)I" } : Jvm.MethodName)) ∈ lw_all := lw_g (lw_at lw_m6 49 rfl) rfl
theorem q1318 : (Jvm.Cond.selects "FigureTillModel" ({ cls := "FigureTillModel", name := "untell", desc := "(I)I" } : Jvm.MethodName) ({ cls := "FigureTillModel", name := "untell", desc := "(I)I" } : Jvm.MethodName)) ∈ lw_all := lw_g (lw_at lw_m6 50 rfl) rfl
theorem q1319 : (Jvm.Cond.code ({ cls := "FigureTillModel", name := "untell", desc := "(I)I" } : Jvm.MethodName) prog_20_method_24_code (3 : Nat) (Option.some Jvm.ClassFile.FieldType.int)) ∈ lw_all := lw_g (lw_at lw_m6 51 rfl) rfl
theorem q1320 : (Jvm.Cond.methodLink "FigureTillModel" (116 : Nat) ({ cls := "FigureTillModel", name := "hasText", desc := "(I)Z" } : Jvm.MethodName)) ∈ lw_all := lw_g (lw_at lw_m6 52 rfl) rfl
theorem q1321 : (Jvm.Cond.privateMethod ({ cls := "FigureTillModel", name := "hasText", desc := "(I)Z" } : Jvm.MethodName)) ∈ lw_tbl := lw_at lw_m6 53 rfl
theorem q1322 : (Jvm.Cond.instanceMethod ({ cls := "FigureTillModel", name := "hasText", desc := "(I)Z" } : Jvm.MethodName)) ∈ lw_all := lw_g (lw_at lw_m6 54 rfl) rfl
theorem q1323 : (Jvm.Cond.code ({ cls := "FigureTillModel", name := "hasText", desc := "(I)Z" } : Jvm.MethodName) prog_20_method_22_code (2 : Nat) (Option.some Jvm.ClassFile.FieldType.boolean)) ∈ lw_all := lw_g (lw_at lw_m6 55 rfl) rfl
theorem q1325 : (Jvm.Cond.instanceMethod ({ cls := "FigureTillModel", name := "thing", desc := "(III)I" } : Jvm.MethodName)) ∈ lw_all := lw_g (lw_at lw_m6 57 rfl) rfl
theorem q1326 : (Jvm.Cond.selects "FigureTillModel" ({ cls := "FigureTillModel", name := "thing", desc := "(III)I" } : Jvm.MethodName) ({ cls := "FigureTillModel", name := "thing", desc := "(III)I" } : Jvm.MethodName)) ∈ lw_all := lw_g (lw_at lw_m6 58 rfl) rfl
theorem q1327 : (Jvm.Cond.code ({ cls := "FigureTillModel", name := "thing", desc := "(III)I" } : Jvm.MethodName) prog_20_method_35_code (4 : Nat) (Option.some Jvm.ClassFile.FieldType.int)) ∈ lw_all := lw_g (lw_at lw_m6 59 rfl) rfl
theorem q1328 : (Jvm.Cond.methodLink "FigureTillModel" (152 : Nat) ({ cls := "FigureTillModel", name := "isThing", desc := "(I)Z" } : Jvm.MethodName)) ∈ lw_all := lw_g (lw_at lw_m6 60 rfl) rfl
theorem q1329 : (Jvm.Cond.static ({ cls := "FigureTillModel", name := "isThing", desc := "(I)Z" } : Jvm.MethodName)) ∈ lw_all := lw_g (lw_at lw_m6 61 rfl) rfl
theorem q1330 : (Jvm.Cond.code ({ cls := "FigureTillModel", name := "isThing", desc := "(I)Z" } : Jvm.MethodName) prog_20_method_6_code (1 : Nat) (Option.some Jvm.ClassFile.FieldType.boolean)) ∈ lw_all := lw_g (lw_at lw_m6 62 rfl) rfl
theorem q1331 : (Jvm.Cond.methodLink "FigureTillModel" (155 : Nat) ({ cls := "FigureTillModel", name := "change1", desc := "(II)I" } : Jvm.MethodName)) ∈ lw_all := lw_g (lw_at lw_m6 63 rfl) rfl
theorem q1332 : (Jvm.Cond.privateMethod ({ cls := "FigureTillModel", name := "change1", desc := "(II)I" } : Jvm.MethodName)) ∈ lw_tbl := lw_at lw_m6 64 rfl
theorem q1333 : (Jvm.Cond.instanceMethod ({ cls := "FigureTillModel", name := "change1", desc := "(II)I" } : Jvm.MethodName)) ∈ lw_all := lw_g (lw_at lw_m6 65 rfl) rfl
theorem q1334 : (Jvm.Cond.code ({ cls := "FigureTillModel", name := "change1", desc := "(II)I" } : Jvm.MethodName) prog_20_method_10_code (4 : Nat) (Option.some Jvm.ClassFile.FieldType.int)) ∈ lw_all := lw_g (lw_at lw_m6 66 rfl) rfl
theorem q1336 : (Jvm.Cond.instanceMethod ({ cls := "FigureTillModel", name := "thingIs", desc := "(II)I" } : Jvm.MethodName)) ∈ lw_all := lw_g (lw_at lw_m6 68 rfl) rfl
theorem q1337 : (Jvm.Cond.selects "FigureTillModel" ({ cls := "FigureTillModel", name := "thingIs", desc := "(II)I" } : Jvm.MethodName) ({ cls := "FigureTillModel", name := "thingIs", desc := "(II)I" } : Jvm.MethodName)) ∈ lw_all := lw_g (lw_at lw_m6 69 rfl) rfl
theorem q1338 : (Jvm.Cond.code ({ cls := "FigureTillModel", name := "thingIs", desc := "(II)I" } : Jvm.MethodName) prog_20_method_36_code (3 : Nat) (Option.some Jvm.ClassFile.FieldType.int)) ∈ lw_all := lw_g (lw_at lw_m6 70 rfl) rfl
theorem q1339 : (Jvm.Cond.methodLink "FigureTillModel" (158 : Nat) ({ cls := "FigureTillModel", name := "values", desc := "(I)I" } : Jvm.MethodName)) ∈ lw_all := lw_g (lw_at lw_m6 71 rfl) rfl
theorem q1340 : (Jvm.Cond.privateMethod ({ cls := "FigureTillModel", name := "values", desc := "(I)I" } : Jvm.MethodName)) ∈ lw_tbl := lw_at lw_m6 72 rfl
theorem q1341 : (Jvm.Cond.instanceMethod ({ cls := "FigureTillModel", name := "values", desc := "(I)I" } : Jvm.MethodName)) ∈ lw_all := lw_g (lw_at lw_m6 73 rfl) rfl
theorem q1342 : (Jvm.Cond.code ({ cls := "FigureTillModel", name := "values", desc := "(I)I" } : Jvm.MethodName) prog_20_method_30_code (2 : Nat) (Option.some Jvm.ClassFile.FieldType.int)) ∈ lw_all := lw_g (lw_at lw_m6 74 rfl) rfl
theorem q1343 : (Jvm.Cond.methodLink "FigureTillModel" (136 : Nat) ({ cls := "FigureTillModel", name := "worked", desc := "(I)I" } : Jvm.MethodName)) ∈ lw_all := lw_g (lw_at lw_m6 75 rfl) rfl
theorem q1344 : (Jvm.Cond.privateMethod ({ cls := "FigureTillModel", name := "worked", desc := "(I)I" } : Jvm.MethodName)) ∈ lw_tbl := lw_at lw_m6 76 rfl
theorem q1345 : (Jvm.Cond.instanceMethod ({ cls := "FigureTillModel", name := "worked", desc := "(I)I" } : Jvm.MethodName)) ∈ lw_all := lw_g (lw_at lw_m6 77 rfl) rfl
theorem q1346 : (Jvm.Cond.code ({ cls := "FigureTillModel", name := "worked", desc := "(I)I" } : Jvm.MethodName) prog_20_method_26_code (7 : Nat) (Option.some Jvm.ClassFile.FieldType.int)) ∈ lw_all := lw_g (lw_at lw_m6 78 rfl) rfl
theorem q1347 : (Jvm.Cond.methodLink "FigureTillModel" (119 : Nat) ({ cls := "FigureTillModel", name := "joined", desc := "(III)I" } : Jvm.MethodName)) ∈ lw_all := lw_g (lw_at lw_m6 79 rfl) rfl
theorem q1348 : (Jvm.Cond.static ({ cls := "FigureTillModel", name := "joined", desc := "(III)I" } : Jvm.MethodName)) ∈ lw_all := lw_g (lw_at lw_m6 80 rfl) rfl
theorem q1349 : (Jvm.Cond.code ({ cls := "FigureTillModel", name := "joined", desc := "(III)I" } : Jvm.MethodName) prog_20_method_25_code (3 : Nat) (Option.some Jvm.ClassFile.FieldType.int)) ∈ lw_all := lw_g (lw_at lw_m6 81 rfl) rfl
theorem q1350 : (Jvm.Cond.methodLink "FigureTillModel" (139 : Nat) ({ cls := "FigureTillModel", name := "held", desc := "(III)I" } : Jvm.MethodName)) ∈ lw_all := lw_g (lw_at lw_m6 82 rfl) rfl
theorem q1351 : (Jvm.Cond.static ({ cls := "FigureTillModel", name := "held", desc := "(III)I" } : Jvm.MethodName)) ∈ lw_all := lw_g (lw_at lw_m6 83 rfl) rfl
theorem q1352 : (Jvm.Cond.code ({ cls := "FigureTillModel", name := "held", desc := "(III)I" } : Jvm.MethodName) prog_20_method_4_code (3 : Nat) (Option.some Jvm.ClassFile.FieldType.int)) ∈ lw_all := lw_g (lw_at lw_m6 84 rfl) rfl
theorem q1354 : (Jvm.Cond.instanceMethod ({ cls := "FigureTillModel", name := "till", desc := "(II)I" } : Jvm.MethodName)) ∈ lw_all := lw_g (lw_at lw_m6 86 rfl) rfl
theorem q1355 : (Jvm.Cond.selects "FigureTillModel" ({ cls := "FigureTillModel", name := "till", desc := "(II)I" } : Jvm.MethodName) ({ cls := "FigureTillModel", name := "till", desc := "(II)I" } : Jvm.MethodName)) ∈ lw_all := lw_g (lw_at lw_m6 87 rfl) rfl
theorem q1356 : (Jvm.Cond.code ({ cls := "FigureTillModel", name := "till", desc := "(II)I" } : Jvm.MethodName) prog_20_method_37_code (4 : Nat) (Option.some Jvm.ClassFile.FieldType.int)) ∈ lw_all := lw_g (lw_at lw_m6 88 rfl) rfl
theorem q1357 : (Jvm.Cond.methodLink "FigureTillModel" (161 : Nat) ({ cls := "FigureTillModel", name := "isTill", desc := "(I)Z" } : Jvm.MethodName)) ∈ lw_all := lw_g (lw_at lw_m6 89 rfl) rfl
theorem q1358 : (Jvm.Cond.static ({ cls := "FigureTillModel", name := "isTill", desc := "(I)Z" } : Jvm.MethodName)) ∈ lw_all := lw_g (lw_at lw_m6 90 rfl) rfl
theorem q1359 : (Jvm.Cond.code ({ cls := "FigureTillModel", name := "isTill", desc := "(I)Z" } : Jvm.MethodName) prog_20_method_7_code (1 : Nat) (Option.some Jvm.ClassFile.FieldType.boolean)) ∈ lw_all := lw_g (lw_at lw_m6 91 rfl) rfl
theorem q1360 : (Jvm.Cond.methodLink "FigureTillModel" (130 : Nat) ({ cls := "FigureTillModel", name := "kindOf", desc := "(I)I" } : Jvm.MethodName)) ∈ lw_all := lw_g (lw_at lw_m6 92 rfl) rfl
theorem q1361 : (Jvm.Cond.privateMethod ({ cls := "FigureTillModel", name := "kindOf", desc := "(I)I" } : Jvm.MethodName)) ∈ lw_tbl := lw_at lw_m6 93 rfl
theorem q1362 : (Jvm.Cond.instanceMethod ({ cls := "FigureTillModel", name := "kindOf", desc := "(I)I" } : Jvm.MethodName)) ∈ lw_all := lw_g (lw_at lw_m6 94 rfl) rfl
theorem q1363 : (Jvm.Cond.code ({ cls := "FigureTillModel", name := "kindOf", desc := "(I)I" } : Jvm.MethodName) prog_20_method_8_code (2 : Nat) (Option.some Jvm.ClassFile.FieldType.int)) ∈ lw_all := lw_g (lw_at lw_m6 95 rfl) rfl
theorem q1364 : (Jvm.Cond.methodLink "FigureTillModel" (127 : Nat) ({ cls := "FigureTillModel", name := "mOf", desc := "(I)I" } : Jvm.MethodName)) ∈ lw_all := lw_g (lw_at lw_m6 96 rfl) rfl
theorem q1365 : (Jvm.Cond.privateMethod ({ cls := "FigureTillModel", name := "mOf", desc := "(I)I" } : Jvm.MethodName)) ∈ lw_tbl := lw_at lw_m6 97 rfl
theorem q1366 : (Jvm.Cond.instanceMethod ({ cls := "FigureTillModel", name := "mOf", desc := "(I)I" } : Jvm.MethodName)) ∈ lw_all := lw_g (lw_at lw_m6 98 rfl) rfl
theorem q1367 : (Jvm.Cond.code ({ cls := "FigureTillModel", name := "mOf", desc := "(I)I" } : Jvm.MethodName) prog_20_method_9_code (2 : Nat) (Option.some Jvm.ClassFile.FieldType.int)) ∈ lw_all := lw_g (lw_at lw_m6 99 rfl) rfl
theorem q1369 : (Jvm.Cond.instanceMethod ({ cls := "FigureTillModel", name := "tillIs", desc := "(II)I" } : Jvm.MethodName)) ∈ lw_all := lw_g (lw_at lw_m6 101 rfl) rfl
theorem q1370 : (Jvm.Cond.selects "FigureTillModel" ({ cls := "FigureTillModel", name := "tillIs", desc := "(II)I" } : Jvm.MethodName) ({ cls := "FigureTillModel", name := "tillIs", desc := "(II)I" } : Jvm.MethodName)) ∈ lw_all := lw_g (lw_at lw_m6 102 rfl) rfl
theorem q1371 : (Jvm.Cond.code ({ cls := "FigureTillModel", name := "tillIs", desc := "(II)I" } : Jvm.MethodName) prog_20_method_38_code (3 : Nat) (Option.some Jvm.ClassFile.FieldType.int)) ∈ lw_all := lw_g (lw_at lw_m6 103 rfl) rfl
theorem q1373 : (Jvm.Cond.instanceMethod ({ cls := "FigureTillModel", name := "as", desc := "(II)I" } : Jvm.MethodName)) ∈ lw_all := lw_g (lw_at lw_m6 105 rfl) rfl
theorem q1374 : (Jvm.Cond.selects "FigureTillModel" ({ cls := "FigureTillModel", name := "as", desc := "(II)I" } : Jvm.MethodName) ({ cls := "FigureTillModel", name := "as", desc := "(II)I" } : Jvm.MethodName)) ∈ lw_all := lw_g (lw_at lw_m6 106 rfl) rfl
theorem q1375 : (Jvm.Cond.code ({ cls := "FigureTillModel", name := "as", desc := "(II)I" } : Jvm.MethodName) prog_20_method_40_code (3 : Nat) (Option.some Jvm.ClassFile.FieldType.int)) ∈ lw_all := lw_g (lw_at lw_m6 107 rfl) rfl
theorem q1376 : (Jvm.Cond.methodLink "FigureTillModel" (164 : Nat) ({ cls := "FigureTillModel", name := "isUnder", desc := "(II)Z" } : Jvm.MethodName)) ∈ lw_all := lw_g (lw_at lw_m6 108 rfl) rfl
theorem q1377 : (Jvm.Cond.static ({ cls := "FigureTillModel", name := "isUnder", desc := "(II)Z" } : Jvm.MethodName)) ∈ lw_all := lw_g (lw_at lw_m6 109 rfl) rfl
theorem q1378 : (Jvm.Cond.code ({ cls := "FigureTillModel", name := "isUnder", desc := "(II)Z" } : Jvm.MethodName) prog_20_method_39_code (2 : Nat) (Option.some Jvm.ClassFile.FieldType.boolean)) ∈ lw_all := lw_g (lw_at lw_m6 110 rfl) rfl
theorem q1380 : (Jvm.Cond.instanceMethod ({ cls := "FigureTillModel", name := "figures", desc := "(II)I" } : Jvm.MethodName)) ∈ lw_all := lw_g (lw_at lw_m6 112 rfl) rfl
theorem q1381 : (Jvm.Cond.selects "FigureTillModel" ({ cls := "FigureTillModel", name := "figures", desc := "(II)I" } : Jvm.MethodName) ({ cls := "FigureTillModel", name := "figures", desc := "(II)I" } : Jvm.MethodName)) ∈ lw_all := lw_g (lw_at lw_m6 113 rfl) rfl
theorem q1382 : (Jvm.Cond.code ({ cls := "FigureTillModel", name := "figures", desc := "(II)I" } : Jvm.MethodName) prog_20_method_41_code (3 : Nat) (Option.some Jvm.ClassFile.FieldType.int)) ∈ lw_all := lw_g (lw_at lw_m6 114 rfl) rfl
theorem q1383 : (Jvm.Cond.methodLink "FigureTillModel" (123 : Nat) ({ cls := "FigureTillModel", name := "added", desc := "(II)I" } : Jvm.MethodName)) ∈ lw_all := lw_g (lw_at lw_m6 115 rfl) rfl
theorem q1384 : (Jvm.Cond.static ({ cls := "FigureTillModel", name := "added", desc := "(II)I" } : Jvm.MethodName)) ∈ lw_all := lw_g (lw_at lw_m6 116 rfl) rfl
theorem q1385 : (Jvm.Cond.code ({ cls := "FigureTillModel", name := "added", desc := "(II)I" } : Jvm.MethodName) prog_20_method_27_code (4 : Nat) (Option.some Jvm.ClassFile.FieldType.int)) ∈ lw_all := lw_g (lw_at lw_m6 117 rfl) rfl
theorem q1387 : (Jvm.Cond.instanceMethod ({ cls := "FigureTillModel", name := "asks", desc := "(III)I" } : Jvm.MethodName)) ∈ lw_all := lw_g (lw_at lw_m6 119 rfl) rfl
theorem q1388 : (Jvm.Cond.selects "FigureTillModel" ({ cls := "FigureTillModel", name := "asks", desc := "(III)I" } : Jvm.MethodName) ({ cls := "FigureTillModel", name := "asks", desc := "(III)I" } : Jvm.MethodName)) ∈ lw_all := lw_g (lw_at lw_m6 120 rfl) rfl
theorem q1389 : (Jvm.Cond.code ({ cls := "FigureTillModel", name := "asks", desc := "(III)I" } : Jvm.MethodName) prog_20_method_42_code (4 : Nat) (Option.some Jvm.ClassFile.FieldType.int)) ∈ lw_all := lw_g (lw_at lw_m6 121 rfl) rfl
theorem q1390 : (Jvm.Cond.constant "FigureTillModel" (168 : Nat) (299970 : Int32)) ∈ lw_all := lw_g (lw_at lw_m6 122 rfl) rfl
theorem q1391 : (Jvm.Cond.methodLink "FigureTillModel" (149 : Nat) ({ cls := "FigureTillModel", name := "asked", desc := "(III)I" } : Jvm.MethodName)) ∈ lw_all := lw_g (lw_at lw_m6 123 rfl) rfl
theorem q1392 : (Jvm.Cond.privateMethod ({ cls := "FigureTillModel", name := "asked", desc := "(III)I" } : Jvm.MethodName)) ∈ lw_tbl := lw_at lw_m6 124 rfl
theorem q1393 : (Jvm.Cond.instanceMethod ({ cls := "FigureTillModel", name := "asked", desc := "(III)I" } : Jvm.MethodName)) ∈ lw_all := lw_g (lw_at lw_m6 125 rfl) rfl
theorem q1394 : (Jvm.Cond.code ({ cls := "FigureTillModel", name := "asked", desc := "(III)I" } : Jvm.MethodName) prog_20_method_29_code (6 : Nat) (Option.some Jvm.ClassFile.FieldType.int)) ∈ lw_all := lw_g (lw_at lw_m6 126 rfl) rfl
theorem q1395 : (Jvm.Cond.methodLink "FigureTillModel" (133 : Nat) ({ cls := "FigureTillModel", name := "rooted", desc := "(II)I" } : Jvm.MethodName)) ∈ lw_all := lw_g (lw_at lw_m6 127 rfl) rfl
theorem q1396 : (Jvm.Cond.static ({ cls := "FigureTillModel", name := "rooted", desc := "(II)I" } : Jvm.MethodName)) ∈ lw_all := lw_g (lw_at lw_m6 128 rfl) rfl
theorem q1397 : (Jvm.Cond.code ({ cls := "FigureTillModel", name := "rooted", desc := "(II)I" } : Jvm.MethodName) prog_20_method_28_code (3 : Nat) (Option.some Jvm.ClassFile.FieldType.int)) ∈ lw_all := lw_g (lw_at lw_m6 129 rfl) rfl
theorem q1399 : (Jvm.Cond.instanceMethod ({ cls := "FigureTillModel", name := "basket", desc := "(II)I" } : Jvm.MethodName)) ∈ lw_all := lw_g (lw_at lw_m6 131 rfl) rfl
theorem q1400 : (Jvm.Cond.selects "FigureTillModel" ({ cls := "FigureTillModel", name := "basket", desc := "(II)I" } : Jvm.MethodName) ({ cls := "FigureTillModel", name := "basket", desc := "(II)I" } : Jvm.MethodName)) ∈ lw_all := lw_g (lw_at lw_m6 132 rfl) rfl
theorem q1401 : (Jvm.Cond.code ({ cls := "FigureTillModel", name := "basket", desc := "(II)I" } : Jvm.MethodName) prog_20_method_45_code (4 : Nat) (Option.some Jvm.ClassFile.FieldType.int)) ∈ lw_all := lw_g (lw_at lw_m6 133 rfl) rfl
theorem q1402 : (Jvm.Cond.methodLink "FigureTillModel" (176 : Nat) ({ cls := "FigureTillModel", name := "lacks", desc := "(IIZI)I" } : Jvm.MethodName)) ∈ lw_all := lw_g (lw_at lw_m6 134 rfl) rfl
theorem q1403 : (Jvm.Cond.privateMethod ({ cls := "FigureTillModel", name := "lacks", desc := "(IIZI)I" } : Jvm.MethodName)) ∈ lw_tbl := lw_at lw_m6 135 rfl
theorem q1404 : (Jvm.Cond.instanceMethod ({ cls := "FigureTillModel", name := "lacks", desc := "(IIZI)I" } : Jvm.MethodName)) ∈ lw_all := lw_g (lw_at lw_m6 136 rfl) rfl
theorem q1405 : (Jvm.Cond.code ({ cls := "FigureTillModel", name := "lacks", desc := "(IIZI)I" } : Jvm.MethodName) prog_20_method_44_code (5 : Nat) (Option.some Jvm.ClassFile.FieldType.int)) ∈ lw_all := lw_g (lw_at lw_m6 137 rfl) rfl
theorem q1406 : (Jvm.Cond.methodLink "FigureTillModel" (169 : Nat) ({ cls := "FigureTillModel", name := "isSheet", desc := "(I)Z" } : Jvm.MethodName)) ∈ lw_all := lw_g (lw_at lw_m6 138 rfl) rfl
theorem q1407 : (Jvm.Cond.static ({ cls := "FigureTillModel", name := "isSheet", desc := "(I)Z" } : Jvm.MethodName)) ∈ lw_all := lw_g (lw_at lw_m6 139 rfl) rfl
theorem q1408 : (Jvm.Cond.code ({ cls := "FigureTillModel", name := "isSheet", desc := "(I)Z" } : Jvm.MethodName) prog_20_method_75_code (1 : Nat) (Option.some Jvm.ClassFile.FieldType.boolean)) ∈ lw_all := lw_g (lw_at lw_m6 140 rfl) rfl
theorem q1409 : (Jvm.Cond.methodLink "FigureTillModel" (172 : Nat) ({ cls := "FigureTillModel", name := "tells", desc := "(I[II)I" } : Jvm.MethodName)) ∈ lw_all := lw_g (lw_at lw_m6 141 rfl) rfl
theorem q1410 : (Jvm.Cond.privateMethod ({ cls := "FigureTillModel", name := "tells", desc := "(I[II)I" } : Jvm.MethodName)) ∈ lw_tbl := lw_at lw_m6 142 rfl
theorem q1411 : (Jvm.Cond.instanceMethod ({ cls := "FigureTillModel", name := "tells", desc := "(I[II)I" } : Jvm.MethodName)) ∈ lw_all := lw_g (lw_at lw_m6 143 rfl) rfl
theorem q1412 : (Jvm.Cond.code ({ cls := "FigureTillModel", name := "tells", desc := "(I[II)I" } : Jvm.MethodName) prog_20_method_43_code (5 : Nat) (Option.some Jvm.ClassFile.FieldType.int)) ∈ lw_all := lw_g (lw_at lw_m6 144 rfl) rfl
theorem q1413 : (Jvm.Cond.methodLink "FigureTillModel" (146 : Nat) ({ cls := "FigureTillModel", name := "many", desc := "([I)I" } : Jvm.MethodName)) ∈ lw_all := lw_g (lw_at lw_m6 145 rfl) rfl
theorem q1414 : (Jvm.Cond.static ({ cls := "FigureTillModel", name := "many", desc := "([I)I" } : Jvm.MethodName)) ∈ lw_all := lw_g (lw_at lw_m6 146 rfl) rfl
theorem q1415 : (Jvm.Cond.code ({ cls := "FigureTillModel", name := "many", desc := "([I)I" } : Jvm.MethodName) prog_20_method_31_code (3 : Nat) (Option.some Jvm.ClassFile.FieldType.int)) ∈ lw_all := lw_g (lw_at lw_m6 147 rfl) rfl
theorem q1416 : (Jvm.Cond.methodLink "FigureTillModel" (142 : Nat) ({ cls := "FigureTillModel", name := "sumOf", desc := "([I)I" } : Jvm.MethodName)) ∈ lw_all := lw_g (lw_at lw_m6 148 rfl) rfl
theorem q1417 : (Jvm.Cond.privateMethod ({ cls := "FigureTillModel", name := "sumOf", desc := "([I)I" } : Jvm.MethodName)) ∈ lw_tbl := lw_at lw_m6 149 rfl
theorem q1418 : (Jvm.Cond.instanceMethod ({ cls := "FigureTillModel", name := "sumOf", desc := "([I)I" } : Jvm.MethodName)) ∈ lw_all := lw_g (lw_at lw_m6 150 rfl) rfl
theorem q1419 : (Jvm.Cond.code ({ cls := "FigureTillModel", name := "sumOf", desc := "([I)I" } : Jvm.MethodName) prog_20_method_32_code (4 : Nat) (Option.some Jvm.ClassFile.FieldType.int)) ∈ lw_all := lw_g (lw_at lw_m6 151 rfl) rfl
theorem q1420 : (Jvm.Cond.methodLink "FigureTillModel" (180 : Nat) ({ cls := "FigureTillModel", name := "costOf", desc := "([I)I" } : Jvm.MethodName)) ∈ lw_all := lw_g (lw_at lw_m6 152 rfl) rfl
theorem q1421 : (Jvm.Cond.privateMethod ({ cls := "FigureTillModel", name := "costOf", desc := "([I)I" } : Jvm.MethodName)) ∈ lw_tbl := lw_at lw_m6 153 rfl
theorem q1422 : (Jvm.Cond.instanceMethod ({ cls := "FigureTillModel", name := "costOf", desc := "([I)I" } : Jvm.MethodName)) ∈ lw_all := lw_g (lw_at lw_m6 154 rfl) rfl
theorem q1423 : (Jvm.Cond.code ({ cls := "FigureTillModel", name := "costOf", desc := "([I)I" } : Jvm.MethodName) prog_20_method_33_code (4 : Nat) (Option.some Jvm.ClassFile.FieldType.int)) ∈ lw_all := lw_g (lw_at lw_m6 155 rfl) rfl
theorem q1425 : (Jvm.Cond.instanceMethod ({ cls := "FigureTillModel", name := "pays", desc := "(II)I" } : Jvm.MethodName)) ∈ lw_all := lw_g (lw_at lw_m6 157 rfl) rfl
theorem q1426 : (Jvm.Cond.selects "FigureTillModel" ({ cls := "FigureTillModel", name := "pays", desc := "(II)I" } : Jvm.MethodName) ({ cls := "FigureTillModel", name := "pays", desc := "(II)I" } : Jvm.MethodName)) ∈ lw_all := lw_g (lw_at lw_m6 158 rfl) rfl
theorem q1427 : (Jvm.Cond.code ({ cls := "FigureTillModel", name := "pays", desc := "(II)I" } : Jvm.MethodName) prog_20_method_46_code (4 : Nat) (Option.some Jvm.ClassFile.FieldType.int)) ∈ lw_all := lw_g (lw_at lw_m6 159 rfl) rfl
theorem q1428 : (Jvm.Cond.methodLink "FigureTillModel" (183 : Nat) ({ cls := "FigureTillModel", name := "paid", desc := "(I[I)I" } : Jvm.MethodName)) ∈ lw_all := lw_g (lw_at lw_m6 160 rfl) rfl
theorem q1429 : (Jvm.Cond.privateMethod ({ cls := "FigureTillModel", name := "paid", desc := "(I[I)I" } : Jvm.MethodName)) ∈ lw_tbl := lw_at lw_m6 161 rfl
theorem q1430 : (Jvm.Cond.instanceMethod ({ cls := "FigureTillModel", name := "paid", desc := "(I[I)I" } : Jvm.MethodName)) ∈ lw_all := lw_g (lw_at lw_m6 162 rfl) rfl
theorem q1431 : (Jvm.Cond.code ({ cls := "FigureTillModel", name := "paid", desc := "(I[I)I" } : Jvm.MethodName) prog_20_method_34_code (3 : Nat) (Option.some Jvm.ClassFile.FieldType.int)) ∈ lw_all := lw_g (lw_at lw_m6 163 rfl) rfl
theorem q1433 : (Jvm.Cond.instanceMethod ({ cls := "FigureTillModel", name := "go", desc := "(II)I" } : Jvm.MethodName)) ∈ lw_all := lw_g (lw_at lw_m6 165 rfl) rfl
theorem q1434 : (Jvm.Cond.selects "FigureTillModel" ({ cls := "FigureTillModel", name := "go", desc := "(II)I" } : Jvm.MethodName) ({ cls := "FigureTillModel", name := "go", desc := "(II)I" } : Jvm.MethodName)) ∈ lw_all := lw_g (lw_at lw_m6 166 rfl) rfl
theorem q1435 : (Jvm.Cond.code ({ cls := "FigureTillModel", name := "go", desc := "(II)I" } : Jvm.MethodName) prog_20_method_49_code (4 : Nat) (Option.some Jvm.ClassFile.FieldType.int)) ∈ lw_all := lw_g (lw_at lw_m6 167 rfl) rfl
theorem q1436 : (Jvm.Cond.methodLink "FigureTillModel" (188 : Nat) ({ cls := "FigureTillModel", name := "isInStock", desc := "([I)Z" } : Jvm.MethodName)) ∈ lw_all := lw_g (lw_at lw_m6 168 rfl) rfl
theorem q1437 : (Jvm.Cond.privateMethod ({ cls := "FigureTillModel", name := "isInStock", desc := "([I)Z" } : Jvm.MethodName)) ∈ lw_tbl := lw_at lw_m6 169 rfl
theorem q1438 : (Jvm.Cond.instanceMethod ({ cls := "FigureTillModel", name := "isInStock", desc := "([I)Z" } : Jvm.MethodName)) ∈ lw_all := lw_g (lw_at lw_m6 170 rfl) rfl
theorem q1439 : (Jvm.Cond.code ({ cls := "FigureTillModel", name := "isInStock", desc := "([I)Z" } : Jvm.MethodName) prog_20_method_47_code (4 : Nat) (Option.some Jvm.ClassFile.FieldType.boolean)) ∈ lw_all := lw_g (lw_at lw_m6 171 rfl) rfl
theorem q1440 : (Jvm.Cond.methodLink "FigureTillModel" (192 : Nat) ({ cls := "FigureTillModel", name := "goes", desc := "(I[I)I" } : Jvm.MethodName)) ∈ lw_all := lw_g (lw_at lw_m6 172 rfl) rfl
theorem q1441 : (Jvm.Cond.privateMethod ({ cls := "FigureTillModel", name := "goes", desc := "(I[I)I" } : Jvm.MethodName)) ∈ lw_tbl := lw_at lw_m6 173 rfl
theorem q1442 : (Jvm.Cond.instanceMethod ({ cls := "FigureTillModel", name := "goes", desc := "(I[I)I" } : Jvm.MethodName)) ∈ lw_all := lw_g (lw_at lw_m6 174 rfl) rfl
theorem q1443 : (Jvm.Cond.code ({ cls := "FigureTillModel", name := "goes", desc := "(I[I)I" } : Jvm.MethodName) prog_20_method_48_code (5 : Nat) (Option.some Jvm.ClassFile.FieldType.int)) ∈ lw_all := lw_g (lw_at lw_m6 175 rfl) rfl
theorem q1444 : (Jvm.Cond.constant "FigureTillModel" (187 : Nat) (99999999 : Int32)) ∈ lw_all := lw_g (lw_at lw_m6 176 rfl) rfl
theorem q1446 : (Jvm.Cond.instanceMethod ({ cls := "FigureTillModel", name := "draws", desc := "(I)I" } : Jvm.MethodName)) ∈ lw_all := lw_g (lw_at lw_m6 178 rfl) rfl
theorem q1447 : (Jvm.Cond.selects "FigureTillModel" ({ cls := "FigureTillModel", name := "draws", desc := "(I)I" } : Jvm.MethodName) ({ cls := "FigureTillModel", name := "draws", desc := "(I)I" } : Jvm.MethodName)) ∈ lw_all := lw_g (lw_at lw_m6 179 rfl) rfl
theorem q1448 : (Jvm.Cond.code ({ cls := "FigureTillModel", name := "draws", desc := "(I)I" } : Jvm.MethodName) prog_20_method_51_code (7 : Nat) (Option.some Jvm.ClassFile.FieldType.int)) ∈ lw_all := lw_g (lw_at lw_m6 180 rfl) rfl
theorem q1449 : (Jvm.Cond.methodLink "FigureTillModel" (196 : Nat) ({ cls := "FigureTillModel", name := "draw", desc := "()I" } : Jvm.MethodName)) ∈ lw_all := lw_g (lw_at lw_m6 181 rfl) rfl
theorem q1450 : (Jvm.Cond.privateMethod ({ cls := "FigureTillModel", name := "draw", desc := "()I" } : Jvm.MethodName)) ∈ lw_tbl := lw_at lw_m6 182 rfl
theorem q1451 : (Jvm.Cond.instanceMethod ({ cls := "FigureTillModel", name := "draw", desc := "()I" } : Jvm.MethodName)) ∈ lw_all := lw_g (lw_at lw_m6 183 rfl) rfl
theorem q1452 : (Jvm.Cond.code ({ cls := "FigureTillModel", name := "draw", desc := "()I" } : Jvm.MethodName) prog_20_method_50_code (1 : Nat) (Option.some Jvm.ClassFile.FieldType.int)) ∈ lw_all := lw_g (lw_at lw_m6 184 rfl) rfl
theorem q1453 : (Jvm.Cond.constant "FigureTillModel" (195 : Nat) (1103515245 : Int32)) ∈ lw_all := lw_g (lw_at lw_m6 185 rfl) rfl
theorem q1455 : (Jvm.Cond.instanceMethod ({ cls := "FigureTillModel", name := "seed", desc := "(I)I" } : Jvm.MethodName)) ∈ lw_all := lw_g (lw_at lw_m6 187 rfl) rfl
theorem q1456 : (Jvm.Cond.selects "FigureTillModel" ({ cls := "FigureTillModel", name := "seed", desc := "(I)I" } : Jvm.MethodName) ({ cls := "FigureTillModel", name := "seed", desc := "(I)I" } : Jvm.MethodName)) ∈ lw_all := lw_g (lw_at lw_m6 188 rfl) rfl
theorem q1457 : (Jvm.Cond.code ({ cls := "FigureTillModel", name := "seed", desc := "(I)I" } : Jvm.MethodName) prog_20_method_52_code (2 : Nat) (Option.some Jvm.ClassFile.FieldType.int)) ∈ lw_all := lw_g (lw_at lw_m6 189 rfl) rfl
theorem q1459 : (Jvm.Cond.instanceMethod ({ cls := "FigureTillModel", name := "more", desc := "(IIII)I" } : Jvm.MethodName)) ∈ lw_all := lw_g (lw_at lw_m6 191 rfl) rfl
theorem q1460 : (Jvm.Cond.selects "FigureTillModel" ({ cls := "FigureTillModel", name := "more", desc := "(IIII)I" } : Jvm.MethodName) ({ cls := "FigureTillModel", name := "more", desc := "(IIII)I" } : Jvm.MethodName)) ∈ lw_all := lw_g (lw_at lw_m6 192 rfl) rfl
theorem q1461 : (Jvm.Cond.code ({ cls := "FigureTillModel", name := "more", desc := "(IIII)I" } : Jvm.MethodName) prog_20_method_55_code (6 : Nat) (Option.some Jvm.ClassFile.FieldType.int)) ∈ lw_all := lw_g (lw_at lw_m6 193 rfl) rfl
theorem q1462 : (Jvm.Cond.methodLink "FigureTillModel" (209 : Nat) ({ cls := "FigureTillModel", name := "seeks", desc := "(II)V" } : Jvm.MethodName)) ∈ lw_all := lw_g (lw_at lw_m6 194 rfl) rfl
theorem q1463 : (Jvm.Cond.privateMethod ({ cls := "FigureTillModel", name := "seeks", desc := "(II)V" } : Jvm.MethodName)) ∈ lw_tbl := lw_at lw_m6 195 rfl
theorem q1464 : (Jvm.Cond.instanceMethod ({ cls := "FigureTillModel", name := "seeks", desc := "(II)V" } : Jvm.MethodName)) ∈ lw_all := lw_g (lw_at lw_m6 196 rfl) rfl
theorem q1465 : (Jvm.Cond.code ({ cls := "FigureTillModel", name := "seeks", desc := "(II)V" } : Jvm.MethodName) prog_20_method_54_code (5 : Nat) (Option.none : Option Jvm.ClassFile.FieldType)) ∈ lw_all := lw_g (lw_at lw_m6 197 rfl) rfl
theorem q1466 : (Jvm.Cond.methodLink "FigureTillModel" (205 : Nat) ({ cls := "FigureTillModel", name := "tries", desc := "(IIII)V" } : Jvm.MethodName)) ∈ lw_all := lw_g (lw_at lw_m6 198 rfl) rfl
theorem q1467 : (Jvm.Cond.privateMethod ({ cls := "FigureTillModel", name := "tries", desc := "(IIII)V" } : Jvm.MethodName)) ∈ lw_tbl := lw_at lw_m6 199 rfl
theorem q1468 : (Jvm.Cond.instanceMethod ({ cls := "FigureTillModel", name := "tries", desc := "(IIII)V" } : Jvm.MethodName)) ∈ lw_all := lw_g (lw_at lw_m6 200 rfl) rfl
theorem q1469 : (Jvm.Cond.code ({ cls := "FigureTillModel", name := "tries", desc := "(IIII)V" } : Jvm.MethodName) prog_20_method_53_code (8 : Nat) (Option.none : Option Jvm.ClassFile.FieldType)) ∈ lw_all := lw_g (lw_at lw_m6 201 rfl) rfl
theorem q1471 : (Jvm.Cond.instanceMethod ({ cls := "FigureTillModel", name := "inTwo", desc := "(II)I" } : Jvm.MethodName)) ∈ lw_all := lw_g (lw_at lw_m6 203 rfl) rfl
theorem q1472 : (Jvm.Cond.selects "FigureTillModel" ({ cls := "FigureTillModel", name := "inTwo", desc := "(II)I" } : Jvm.MethodName) ({ cls := "FigureTillModel", name := "inTwo", desc := "(II)I" } : Jvm.MethodName)) ∈ lw_all := lw_g (lw_at lw_m6 204 rfl) rfl
theorem q1473 : (Jvm.Cond.code ({ cls := "FigureTillModel", name := "inTwo", desc := "(II)I" } : Jvm.MethodName) prog_20_method_57_code (4 : Nat) (Option.some Jvm.ClassFile.FieldType.int)) ∈ lw_all := lw_g (lw_at lw_m6 205 rfl) rfl
theorem q1474 : (Jvm.Cond.methodLink "FigureTillModel" (215 : Nat) ({ cls := "FigureTillModel", name := "parts", desc := "(II)V" } : Jvm.MethodName)) ∈ lw_all := lw_g (lw_at lw_m6 206 rfl) rfl
theorem q1475 : (Jvm.Cond.privateMethod ({ cls := "FigureTillModel", name := "parts", desc := "(II)V" } : Jvm.MethodName)) ∈ lw_tbl := lw_at lw_m6 207 rfl
theorem q1476 : (Jvm.Cond.instanceMethod ({ cls := "FigureTillModel", name := "parts", desc := "(II)V" } : Jvm.MethodName)) ∈ lw_all := lw_g (lw_at lw_m6 208 rfl) rfl
theorem q1477 : (Jvm.Cond.code ({ cls := "FigureTillModel", name := "parts", desc := "(II)V" } : Jvm.MethodName) prog_20_method_56_code (4 : Nat) (Option.none : Option Jvm.ClassFile.FieldType)) ∈ lw_all := lw_g (lw_at lw_m6 209 rfl) rfl
theorem q1479 : (Jvm.Cond.instanceMethod ({ cls := "FigureTillModel", name := "together", desc := "(III)I" } : Jvm.MethodName)) ∈ lw_all := lw_g (lw_at lw_m6 211 rfl) rfl
theorem q1480 : (Jvm.Cond.selects "FigureTillModel" ({ cls := "FigureTillModel", name := "together", desc := "(III)I" } : Jvm.MethodName) ({ cls := "FigureTillModel", name := "together", desc := "(III)I" } : Jvm.MethodName)) ∈ lw_all := lw_g (lw_at lw_m6 212 rfl) rfl
theorem q1481 : (Jvm.Cond.code ({ cls := "FigureTillModel", name := "together", desc := "(III)I" } : Jvm.MethodName) prog_20_method_58_code (6 : Nat) (Option.some Jvm.ClassFile.FieldType.int)) ∈ lw_all := lw_g (lw_at lw_m6 213 rfl) rfl
theorem q1483 : (Jvm.Cond.instanceMethod ({ cls := "FigureTillModel", name := "worth", desc := "(III)I" } : Jvm.MethodName)) ∈ lw_all := lw_g (lw_at lw_m6 215 rfl) rfl
theorem q1484 : (Jvm.Cond.selects "FigureTillModel" ({ cls := "FigureTillModel", name := "worth", desc := "(III)I" } : Jvm.MethodName) ({ cls := "FigureTillModel", name := "worth", desc := "(III)I" } : Jvm.MethodName)) ∈ lw_all := lw_g (lw_at lw_m6 216 rfl) rfl
theorem q1485 : (Jvm.Cond.code ({ cls := "FigureTillModel", name := "worth", desc := "(III)I" } : Jvm.MethodName) prog_20_method_59_code (6 : Nat) (Option.some Jvm.ClassFile.FieldType.int)) ∈ lw_all := lw_g (lw_at lw_m6 217 rfl) rfl
theorem q1487 : (Jvm.Cond.instanceMethod ({ cls := "FigureTillModel", name := "dearer", desc := "(III)I" } : Jvm.MethodName)) ∈ lw_all := lw_g (lw_at lw_m6 219 rfl) rfl
theorem q1488 : (Jvm.Cond.selects "FigureTillModel" ({ cls := "FigureTillModel", name := "dearer", desc := "(III)I" } : Jvm.MethodName) ({ cls := "FigureTillModel", name := "dearer", desc := "(III)I" } : Jvm.MethodName)) ∈ lw_all := lw_g (lw_at lw_m6 220 rfl) rfl
theorem q1489 : (Jvm.Cond.code ({ cls := "FigureTillModel", name := "dearer", desc := "(III)I" } : Jvm.MethodName) prog_20_method_60_code (11 : Nat) (Option.some Jvm.ClassFile.FieldType.int)) ∈ lw_all := lw_g (lw_at lw_m6 221 rfl) rfl
theorem q1491 : (Jvm.Cond.instanceMethod ({ cls := "FigureTillModel", name := "nines", desc := "(I)I" } : Jvm.MethodName)) ∈ lw_all := lw_g (lw_at lw_m6 223 rfl) rfl
theorem q1492 : (Jvm.Cond.selects "FigureTillModel" ({ cls := "FigureTillModel", name := "nines", desc := "(I)I" } : Jvm.MethodName) ({ cls := "FigureTillModel", name := "nines", desc := "(I)I" } : Jvm.MethodName)) ∈ lw_all := lw_g (lw_at lw_m6 224 rfl) rfl
theorem q1493 : (Jvm.Cond.code ({ cls := "FigureTillModel", name := "nines", desc := "(I)I" } : Jvm.MethodName) prog_20_method_63_code (4 : Nat) (Option.some Jvm.ClassFile.FieldType.int)) ∈ lw_all := lw_g (lw_at lw_m6 225 rfl) rfl
theorem q1494 : (Jvm.Cond.methodLink "FigureTillModel" (230 : Nat) ({ cls := "FigureTillModel", name := "allSmall", desc := "(II)V" } : Jvm.MethodName)) ∈ lw_all := lw_g (lw_at lw_m6 226 rfl) rfl
theorem q1495 : (Jvm.Cond.privateMethod ({ cls := "FigureTillModel", name := "allSmall", desc := "(II)V" } : Jvm.MethodName)) ∈ lw_tbl := lw_at lw_m6 227 rfl
theorem q1496 : (Jvm.Cond.instanceMethod ({ cls := "FigureTillModel", name := "allSmall", desc := "(II)V" } : Jvm.MethodName)) ∈ lw_all := lw_g (lw_at lw_m6 228 rfl) rfl
theorem q1497 : (Jvm.Cond.code ({ cls := "FigureTillModel", name := "allSmall", desc := "(II)V" } : Jvm.MethodName) prog_20_method_62_code (3 : Nat) (Option.none : Option Jvm.ClassFile.FieldType)) ∈ lw_all := lw_g (lw_at lw_m6 229 rfl) rfl
theorem q1498 : (Jvm.Cond.methodLink "FigureTillModel" (227 : Nat) ({ cls := "FigureTillModel", name := "small", desc := "(IIII)V" } : Jvm.MethodName)) ∈ lw_all := lw_g (lw_at lw_m6 230 rfl) rfl
theorem q1499 : (Jvm.Cond.privateMethod ({ cls := "FigureTillModel", name := "small", desc := "(IIII)V" } : Jvm.MethodName)) ∈ lw_tbl := lw_at lw_m6 231 rfl
theorem q1500 : (Jvm.Cond.instanceMethod ({ cls := "FigureTillModel", name := "small", desc := "(IIII)V" } : Jvm.MethodName)) ∈ lw_all := lw_g (lw_at lw_m6 232 rfl) rfl
theorem q1501 : (Jvm.Cond.code ({ cls := "FigureTillModel", name := "small", desc := "(IIII)V" } : Jvm.MethodName) prog_20_method_61_code (8 : Nat) (Option.none : Option Jvm.ClassFile.FieldType)) ∈ lw_all := lw_g (lw_at lw_m6 233 rfl) rfl
theorem q1503 : (Jvm.Cond.instanceMethod ({ cls := "FigureTillModel", name := "erring", desc := "(IIII)J" } : Jvm.MethodName)) ∈ lw_all := lw_g (lw_at lw_m6 235 rfl) rfl
theorem q1504 : (Jvm.Cond.selects "FigureTillModel" ({ cls := "FigureTillModel", name := "erring", desc := "(IIII)J" } : Jvm.MethodName) ({ cls := "FigureTillModel", name := "erring", desc := "(IIII)J" } : Jvm.MethodName)) ∈ lw_all := lw_g (lw_at lw_m6 236 rfl) rfl
theorem q1505 : (Jvm.Cond.code ({ cls := "FigureTillModel", name := "erring", desc := "(IIII)J" } : Jvm.MethodName) prog_20_method_65_code (10 : Nat) (Option.some Jvm.ClassFile.FieldType.long)) ∈ lw_all := lw_g (lw_at lw_m6 237 rfl) rfl
theorem q1506 : (Jvm.Cond.methodLink "FigureTillModel" (233 : Nat) ({ cls := "FigureTillModel", name := "divisor", desc := "(II)I" } : Jvm.MethodName)) ∈ lw_all := lw_g (lw_at lw_m6 238 rfl) rfl
theorem q1507 : (Jvm.Cond.static ({ cls := "FigureTillModel", name := "divisor", desc := "(II)I" } : Jvm.MethodName)) ∈ lw_all := lw_g (lw_at lw_m6 239 rfl) rfl
theorem q1508 : (Jvm.Cond.code ({ cls := "FigureTillModel", name := "divisor", desc := "(II)I" } : Jvm.MethodName) prog_20_method_64_code (5 : Nat) (Option.some Jvm.ClassFile.FieldType.int)) ∈ lw_all := lw_g (lw_at lw_m7 0 rfl) rfl
theorem q1510 : (Jvm.Cond.instanceMethod ({ cls := "FigureTillModel", name := "wasIn", desc := "(III)I" } : Jvm.MethodName)) ∈ lw_all := lw_g (lw_at lw_m7 2 rfl) rfl
theorem q1511 : (Jvm.Cond.selects "FigureTillModel" ({ cls := "FigureTillModel", name := "wasIn", desc := "(III)I" } : Jvm.MethodName) ({ cls := "FigureTillModel", name := "wasIn", desc := "(III)I" } : Jvm.MethodName)) ∈ lw_all := lw_g (lw_at lw_m7 3 rfl) rfl
theorem q1512 : (Jvm.Cond.code ({ cls := "FigureTillModel", name := "wasIn", desc := "(III)I" } : Jvm.MethodName) prog_20_method_66_code (4 : Nat) (Option.some Jvm.ClassFile.FieldType.int)) ∈ lw_all := lw_g (lw_at lw_m7 4 rfl) rfl
theorem q1514 : (Jvm.Cond.instanceMethod ({ cls := "FigureTillModel", name := "voice", desc := "(III)I" } : Jvm.MethodName)) ∈ lw_all := lw_g (lw_at lw_m7 6 rfl) rfl
theorem q1515 : (Jvm.Cond.selects "FigureTillModel" ({ cls := "FigureTillModel", name := "voice", desc := "(III)I" } : Jvm.MethodName) ({ cls := "FigureTillModel", name := "voice", desc := "(III)I" } : Jvm.MethodName)) ∈ lw_all := lw_g (lw_at lw_m7 7 rfl) rfl
theorem q1516 : (Jvm.Cond.code ({ cls := "FigureTillModel", name := "voice", desc := "(III)I" } : Jvm.MethodName) prog_20_method_73_code (6 : Nat) (Option.some Jvm.ClassFile.FieldType.int)) ∈ lw_all := lw_g (lw_at lw_m7 8 rfl) rfl
theorem q1517 : (Jvm.Cond.methodLink "FigureTillModel" (249 : Nat) ({ cls := "FigureTillModel", name := "addsAs", desc := "(II)I" } : Jvm.MethodName)) ∈ lw_all := lw_g (lw_at lw_m7 9 rfl) rfl
theorem q1518 : (Jvm.Cond.privateMethod ({ cls := "FigureTillModel", name := "addsAs", desc := "(II)I" } : Jvm.MethodName)) ∈ lw_tbl := lw_at lw_m7 10 rfl
theorem q1519 : (Jvm.Cond.instanceMethod ({ cls := "FigureTillModel", name := "addsAs", desc := "(II)I" } : Jvm.MethodName)) ∈ lw_all := lw_g (lw_at lw_m7 11 rfl) rfl
theorem q1520 : (Jvm.Cond.code ({ cls := "FigureTillModel", name := "addsAs", desc := "(II)I" } : Jvm.MethodName) prog_20_method_69_code (3 : Nat) (Option.some Jvm.ClassFile.FieldType.int)) ∈ lw_all := lw_g (lw_at lw_m7 12 rfl) rfl
theorem q1521 : (Jvm.Cond.methodLink "FigureTillModel" (239 : Nat) ({ cls := "FigureTillModel", name := "begins", desc := "(I)V" } : Jvm.MethodName)) ∈ lw_all := lw_g (lw_at lw_m7 13 rfl) rfl
theorem q1522 : (Jvm.Cond.privateMethod ({ cls := "FigureTillModel", name := "begins", desc := "(I)V" } : Jvm.MethodName)) ∈ lw_tbl := lw_at lw_m7 14 rfl
theorem q1523 : (Jvm.Cond.instanceMethod ({ cls := "FigureTillModel", name := "begins", desc := "(I)V" } : Jvm.MethodName)) ∈ lw_all := lw_g (lw_at lw_m7 15 rfl) rfl
theorem q1524 : (Jvm.Cond.code ({ cls := "FigureTillModel", name := "begins", desc := "(I)V" } : Jvm.MethodName) prog_20_method_67_code (2 : Nat) (Option.none : Option Jvm.ClassFile.FieldType)) ∈ lw_all := lw_g (lw_at lw_m7 16 rfl) rfl
theorem q1525 : (Jvm.Cond.methodLink "FigureTillModel" (246 : Nat) ({ cls := "FigureTillModel", name := "above", desc := "(I)I" } : Jvm.MethodName)) ∈ lw_all := lw_g (lw_at lw_m7 17 rfl) rfl
theorem q1526 : (Jvm.Cond.static ({ cls := "FigureTillModel", name := "above", desc := "(I)I" } : Jvm.MethodName)) ∈ lw_all := lw_g (lw_at lw_m7 18 rfl) rfl
theorem q1527 : (Jvm.Cond.code ({ cls := "FigureTillModel", name := "above", desc := "(I)I" } : Jvm.MethodName) prog_20_method_68_code (1 : Nat) (Option.some Jvm.ClassFile.FieldType.int)) ∈ lw_all := lw_g (lw_at lw_m7 19 rfl) rfl
theorem q1528 : (Jvm.Cond.methodLink "FigureTillModel" (252 : Nat) ({ cls := "FigureTillModel", name := "comesAs", desc := "(II)I" } : Jvm.MethodName)) ∈ lw_all := lw_g (lw_at lw_m7 20 rfl) rfl
theorem q1529 : (Jvm.Cond.privateMethod ({ cls := "FigureTillModel", name := "comesAs", desc := "(II)I" } : Jvm.MethodName)) ∈ lw_tbl := lw_at lw_m7 21 rfl
theorem q1530 : (Jvm.Cond.instanceMethod ({ cls := "FigureTillModel", name := "comesAs", desc := "(II)I" } : Jvm.MethodName)) ∈ lw_all := lw_g (lw_at lw_m7 22 rfl) rfl
theorem q1531 : (Jvm.Cond.code ({ cls := "FigureTillModel", name := "comesAs", desc := "(II)I" } : Jvm.MethodName) prog_20_method_70_code (3 : Nat) (Option.some Jvm.ClassFile.FieldType.int)) ∈ lw_all := lw_g (lw_at lw_m7 23 rfl) rfl
theorem q1532 : (Jvm.Cond.methodLink "FigureTillModel" (255 : Nat) ({ cls := "FigureTillModel", name := "givesAs", desc := "(II)I" } : Jvm.MethodName)) ∈ lw_all := lw_g (lw_at lw_m7 24 rfl) rfl
theorem q1533 : (Jvm.Cond.privateMethod ({ cls := "FigureTillModel", name := "givesAs", desc := "(II)I" } : Jvm.MethodName)) ∈ lw_tbl := lw_at lw_m7 25 rfl
theorem q1534 : (Jvm.Cond.instanceMethod ({ cls := "FigureTillModel", name := "givesAs", desc := "(II)I" } : Jvm.MethodName)) ∈ lw_all := lw_g (lw_at lw_m7 26 rfl) rfl
theorem q1535 : (Jvm.Cond.code ({ cls := "FigureTillModel", name := "givesAs", desc := "(II)I" } : Jvm.MethodName) prog_20_method_71_code (3 : Nat) (Option.some Jvm.ClassFile.FieldType.int)) ∈ lw_all := lw_g (lw_at lw_m7 27 rfl) rfl
theorem q1536 : (Jvm.Cond.methodLink "FigureTillModel" (262 : Nat) ({ cls := "FigureTillModel", name := "partsAs", desc := "(II)I" } : Jvm.MethodName)) ∈ lw_all := lw_g (lw_at lw_m7 28 rfl) rfl
theorem q1537 : (Jvm.Cond.privateMethod ({ cls := "FigureTillModel", name := "partsAs", desc := "(II)I" } : Jvm.MethodName)) ∈ lw_tbl := lw_at lw_m7 29 rfl
theorem q1538 : (Jvm.Cond.instanceMethod ({ cls := "FigureTillModel", name := "partsAs", desc := "(II)I" } : Jvm.MethodName)) ∈ lw_all := lw_g (lw_at lw_m7 30 rfl) rfl
theorem q1539 : (Jvm.Cond.code ({ cls := "FigureTillModel", name := "partsAs", desc := "(II)I" } : Jvm.MethodName) prog_20_method_72_code (5 : Nat) (Option.some Jvm.ClassFile.FieldType.int)) ∈ lw_all := lw_g (lw_at lw_m7 31 rfl) rfl
theorem q1541 : (Jvm.Cond.instanceMethod ({ cls := "FigureTillModel", name := "body", desc := "(I)I" } : Jvm.MethodName)) ∈ lw_all := lw_g (lw_at lw_m7 33 rfl) rfl
theorem q1542 : (Jvm.Cond.selects "FigureTillModel" ({ cls := "FigureTillModel", name := "body", desc := "(I)I" } : Jvm.MethodName) ({ cls := "FigureTillModel", name := "body", desc := "(I)I" } : Jvm.MethodName)) ∈ lw_all := lw_g (lw_at lw_m7 34 rfl) rfl
theorem q1543 : (Jvm.Cond.code ({ cls := "FigureTillModel", name := "body", desc := "(I)I" } : Jvm.MethodName) prog_20_method_74_code (2 : Nat) (Option.some Jvm.ClassFile.FieldType.int)) ∈ lw_all := lw_g (lw_at lw_m7 35 rfl) rfl
theorem q1545 : (Jvm.Cond.instanceMethod ({ cls := "FigureTillModel", name := "sheet", desc := "(III)I" } : Jvm.MethodName)) ∈ lw_all := lw_g (lw_at lw_m7 37 rfl) rfl
theorem q1546 : (Jvm.Cond.selects "FigureTillModel" ({ cls := "FigureTillModel", name := "sheet", desc := "(III)I" } : Jvm.MethodName) ({ cls := "FigureTillModel", name := "sheet", desc := "(III)I" } : Jvm.MethodName)) ∈ lw_all := lw_g (lw_at lw_m7 38 rfl) rfl
theorem q1547 : (Jvm.Cond.code ({ cls := "FigureTillModel", name := "sheet", desc := "(III)I" } : Jvm.MethodName) prog_20_method_76_code (5 : Nat) (Option.some Jvm.ClassFile.FieldType.int)) ∈ lw_all := lw_g (lw_at lw_m7 39 rfl) rfl
theorem q1549 : (Jvm.Cond.instanceMethod ({ cls := "FigureTillModel", name := "put", desc := "(III)I" } : Jvm.MethodName)) ∈ lw_all := lw_g (lw_at lw_m7 41 rfl) rfl
theorem q1550 : (Jvm.Cond.selects "FigureTillModel" ({ cls := "FigureTillModel", name := "put", desc := "(III)I" } : Jvm.MethodName) ({ cls := "FigureTillModel", name := "put", desc := "(III)I" } : Jvm.MethodName)) ∈ lw_all := lw_g (lw_at lw_m7 42 rfl) rfl
theorem q1551 : (Jvm.Cond.code ({ cls := "FigureTillModel", name := "put", desc := "(III)I" } : Jvm.MethodName) prog_20_method_77_code (5 : Nat) (Option.some Jvm.ClassFile.FieldType.int)) ∈ lw_all := lw_g (lw_at lw_m7 43 rfl) rfl
theorem q1553 : (Jvm.Cond.instanceMethod ({ cls := "FigureTillModel", name := "move", desc := "(IIIII)I" } : Jvm.MethodName)) ∈ lw_all := lw_g (lw_at lw_m7 45 rfl) rfl
theorem q1554 : (Jvm.Cond.selects "FigureTillModel" ({ cls := "FigureTillModel", name := "move", desc := "(IIIII)I" } : Jvm.MethodName) ({ cls := "FigureTillModel", name := "move", desc := "(IIIII)I" } : Jvm.MethodName)) ∈ lw_all := lw_g (lw_at lw_m7 46 rfl) rfl
theorem q1555 : (Jvm.Cond.code ({ cls := "FigureTillModel", name := "move", desc := "(IIIII)I" } : Jvm.MethodName) prog_20_method_78_code (7 : Nat) (Option.some Jvm.ClassFile.FieldType.int)) ∈ lw_all := lw_g (lw_at lw_m7 47 rfl) rfl
theorem q1557 : (Jvm.Cond.instanceMethod ({ cls := "FigureTillModel", name := "prices", desc := "(I)I" } : Jvm.MethodName)) ∈ lw_all := lw_g (lw_at lw_m7 49 rfl) rfl
theorem q1558 : (Jvm.Cond.selects "FigureTillModel" ({ cls := "FigureTillModel", name := "prices", desc := "(I)I" } : Jvm.MethodName) ({ cls := "FigureTillModel", name := "prices", desc := "(I)I" } : Jvm.MethodName)) ∈ lw_all := lw_g (lw_at lw_m7 50 rfl) rfl
theorem q1559 : (Jvm.Cond.code ({ cls := "FigureTillModel", name := "prices", desc := "(I)I" } : Jvm.MethodName) prog_20_method_79_code (3 : Nat) (Option.some Jvm.ClassFile.FieldType.int)) ∈ lw_all := lw_g (lw_at lw_m7 51 rfl) rfl
theorem q1561 : (Jvm.Cond.instanceMethod ({ cls := "FigureTillModel", name := "image", desc := "()I" } : Jvm.MethodName)) ∈ lw_all := lw_g (lw_at lw_m7 53 rfl) rfl
theorem q1562 : (Jvm.Cond.selects "FigureTillModel" ({ cls := "FigureTillModel", name := "image", desc := "()I" } : Jvm.MethodName) ({ cls := "FigureTillModel", name := "image", desc := "()I" } : Jvm.MethodName)) ∈ lw_all := lw_g (lw_at lw_m7 54 rfl) rfl
theorem q1563 : (Jvm.Cond.code ({ cls := "FigureTillModel", name := "image", desc := "()I" } : Jvm.MethodName) prog_20_method_80_code (1 : Nat) (Option.some Jvm.ClassFile.FieldType.int)) ∈ lw_all := lw_g (lw_at lw_m7 55 rfl) rfl
theorem q1564 : (Jvm.Cond.methodLink "FigureTillModel" (265 : Nat) ({ cls := "FigureTillModel", name := "carry", desc := "([I[I)V" } : Jvm.MethodName)) ∈ lw_all := lw_g (lw_at lw_m7 56 rfl) rfl
theorem q1565 : (Jvm.Cond.static ({ cls := "FigureTillModel", name := "carry", desc := "([I[I)V" } : Jvm.MethodName)) ∈ lw_all := lw_g (lw_at lw_m7 57 rfl) rfl
theorem q1566 : (Jvm.Cond.code ({ cls := "FigureTillModel", name := "carry", desc := "([I[I)V" } : Jvm.MethodName) prog_20_method_5_code (3 : Nat) (Option.none : Option Jvm.ClassFile.FieldType)) ∈ lw_all := lw_g (lw_at lw_m7 58 rfl) rfl
theorem q1568 : (Jvm.Cond.instanceMethod ({ cls := "FigureTillModel", name := "restore", desc := "()I" } : Jvm.MethodName)) ∈ lw_all := lw_g (lw_at lw_m7 60 rfl) rfl
theorem q1569 : (Jvm.Cond.selects "FigureTillModel" ({ cls := "FigureTillModel", name := "restore", desc := "()I" } : Jvm.MethodName) ({ cls := "FigureTillModel", name := "restore", desc := "()I" } : Jvm.MethodName)) ∈ lw_all := lw_g (lw_at lw_m7 61 rfl) rfl
theorem q1570 : (Jvm.Cond.code ({ cls := "FigureTillModel", name := "restore", desc := "()I" } : Jvm.MethodName) prog_20_method_81_code (1 : Nat) (Option.some Jvm.ClassFile.FieldType.int)) ∈ lw_all := lw_g (lw_at lw_m7 62 rfl) rfl
theorem q1572 : (Jvm.Cond.instanceMethod ({ cls := "FigureTillModel", name := "tell", desc := "(I)I" } : Jvm.MethodName)) ∈ lw_all := lw_g (lw_at lw_m7 64 rfl) rfl
theorem q1573 : (Jvm.Cond.selects "FigureTillModel" ({ cls := "FigureTillModel", name := "tell", desc := "(I)I" } : Jvm.MethodName) ({ cls := "FigureTillModel", name := "tell", desc := "(I)I" } : Jvm.MethodName)) ∈ lw_all := lw_g (lw_at lw_m7 65 rfl) rfl
theorem q1574 : (Jvm.Cond.code ({ cls := "FigureTillModel", name := "tell", desc := "(I)I" } : Jvm.MethodName) prog_20_method_82_code (2 : Nat) (Option.some Jvm.ClassFile.FieldType.int)) ∈ lw_all := lw_g (lw_at lw_m7 66 rfl) rfl
theorem q1576 : (Jvm.Cond.instanceMethod ({ cls := "FigureTillModel", name := "check", desc := "(I)I" } : Jvm.MethodName)) ∈ lw_all := lw_g (lw_at lw_m7 68 rfl) rfl
theorem q1577 : (Jvm.Cond.selects "FigureTillModel" ({ cls := "FigureTillModel", name := "check", desc := "(I)I" } : Jvm.MethodName) ({ cls := "FigureTillModel", name := "check", desc := "(I)I" } : Jvm.MethodName)) ∈ lw_all := lw_g (lw_at lw_m7 69 rfl) rfl
theorem q1578 : (Jvm.Cond.code ({ cls := "FigureTillModel", name := "check", desc := "(I)I" } : Jvm.MethodName) prog_20_method_83_code (4 : Nat) (Option.some Jvm.ClassFile.FieldType.int)) ∈ lw_all := lw_g (lw_at lw_m7 70 rfl) rfl
theorem q1580 : (Jvm.Cond.instanceMethod ({ cls := "FigureTillModel", name := "count", desc := "(I)I" } : Jvm.MethodName)) ∈ lw_all := lw_g (lw_at lw_m7 72 rfl) rfl
theorem q1581 : (Jvm.Cond.selects "FigureTillModel" ({ cls := "FigureTillModel", name := "count", desc := "(I)I" } : Jvm.MethodName) ({ cls := "FigureTillModel", name := "count", desc := "(I)I" } : Jvm.MethodName)) ∈ lw_all := lw_g (lw_at lw_m7 73 rfl) rfl
theorem q1582 : (Jvm.Cond.code ({ cls := "FigureTillModel", name := "count", desc := "(I)I" } : Jvm.MethodName) prog_20_method_84_code (4 : Nat) (Option.some Jvm.ClassFile.FieldType.int)) ∈ lw_all := lw_g (lw_at lw_m7 74 rfl) rfl
theorem q1584 : (Jvm.Cond.instanceMethod ({ cls := "FigureTillModel", name := "told", desc := "(I)I" } : Jvm.MethodName)) ∈ lw_all := lw_g (lw_at lw_m7 76 rfl) rfl
theorem q1585 : (Jvm.Cond.selects "FigureTillModel" ({ cls := "FigureTillModel", name := "told", desc := "(I)I" } : Jvm.MethodName) ({ cls := "FigureTillModel", name := "told", desc := "(I)I" } : Jvm.MethodName)) ∈ lw_all := lw_g (lw_at lw_m7 77 rfl) rfl
theorem q1586 : (Jvm.Cond.code ({ cls := "FigureTillModel", name := "told", desc := "(I)I" } : Jvm.MethodName) prog_20_method_85_code (2 : Nat) (Option.some Jvm.ClassFile.FieldType.int)) ∈ lw_all := lw_g (lw_at lw_m7 78 rfl) rfl
theorem in_X6 : ∀ w ∈ wsX60, w ∈ lw_all := lw_in wsX60 [1198, 1200, 1202, 1204, 1206, 1208, 1210, 1212, 1214, 1216, 1218, 1220, 1222, 1224, 1226, 1228, 1230, 1232, 1234, 1236, 1238, 1240, 1242, 1244, 1246, 1248, 1250, 1252, 1254, 1256] (by decide +kernel) (by decide +kernel)
