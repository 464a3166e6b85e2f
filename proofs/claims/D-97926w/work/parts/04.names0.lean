set_option maxRecDepth 100000
/-! FigureTill -/
def RX0 : String := "FigureTill"
def TX0 : u_T := fun k => match k with
  | 0 => ("FigureTill", "pile", "[I", true)
  | 1 => ("FigureTill", "named", "[I", true)
  | 2 => ("FigureTill", "house", "LFigureTill$House;", true)
  | 3 => ("FigureTill", "kept", "LFigureTill$House;", true)
  | 4 => ("FigureTill", "trace", "LFigureTill$Trace;", true)
  | 5 => ("FigureTill", "found", "[I", true)
  | 6 => ("FigureTill", "sheets", "[LFigureTill$Slot;", true)
  | 7 => ("FigureTill", "eyes", "LFigureTill$Sees;", true)
  | 8 => ("FigureTill", "images", "I", false)
  | 9 => ("FigureTill", "basket", "[B", true)
  | 10 => ("FigureTill", "second", "[B", true)
  | 11 => ("FigureTill", "extra", "[B", true)
  | 12 => ("FigureTill", "bestExtra", "[B", true)
  | 13 => ("FigureTill", "all", "[B", true)
  | 14 => ("FigureTill", "bestNet", "I", false)
  | 15 => ("FigureTill", "bestMany", "I", false)
  | 16 => ("FigureTill", "fewMany", "I", false)
  | 17 => ("FigureTill", "fewFirst", "I", false)
  | _ => ("FigureTill", "fewLeast", "I", false)
def tyX0 : Nat → FieldType := fun k => match k with
  | 0 => .array .int
  | 1 => .array .int
  | 2 => .object "FigureTill$House"
  | 3 => .object "FigureTill$House"
  | 4 => .object "FigureTill$Trace"
  | 5 => .array .int
  | 6 => .array (.object "FigureTill$Slot")
  | 7 => .object "FigureTill$Sees"
  | 8 => .int
  | 9 => .array .byte
  | 10 => .array .byte
  | 11 => .array .byte
  | 12 => .array .byte
  | 13 => .array .byte
  | 14 => .int
  | 15 => .int
  | 16 => .int
  | 17 => .int
  | _ => .int
abbrev wsX00 : List Cond := u_ws RX0 TX0 19
set_option maxRecDepth 100000 in
theorem nmX0 : ∀ a, a < 19 → ∀ b, b < 19 → a ≠ b → (TX0 a).2.1 ≠ (TX0 b).2.1 := by decide +kernel
set_option maxRecDepth 100000 in
theorem tyX0_ok : ∀ k, k < 19 → parseFieldDescriptor (TX0 k).2.2.1 = some (tyX0 k) := by decide +kernel
abbrev cX0_init : ByteArray := prog_1_method_10_code
def yX0_init : MethodName := ⟨RX0, "<init>", "()V"⟩
def dkwX0_init_6 : List UInt8 := [181, 0, 115, 42, 16, 8, 188, 8, 181, 0, 118, 42, 16, 8, 188, 8, 181, 0, 121, 177]
abbrev dktX0_init_6 : List UInt8 := dkwX0_init_6 ++ []
def dkwX0_init_5 : List UInt8 := [181, 0, 105, 42, 16, 8, 188, 8, 181, 0, 109, 42, 16, 8, 188, 8, 181, 0, 112, 42, 16, 8, 188, 8]
abbrev dktX0_init_5 : List UInt8 := dkwX0_init_5 ++ dktX0_init_6
def dkwX0_init_4 : List UInt8 := [83, 89, 6, 187, 0, 93, 89, 183, 0, 95, 83, 181, 0, 96, 42, 187, 0, 100, 89, 42, 183, 0, 102]
abbrev dktX0_init_4 : List UInt8 := dkwX0_init_4 ++ dktX0_init_5
def dkwX0_init_3 : List UInt8 := [89, 183, 0, 95, 83, 89, 4, 187, 0, 93, 89, 183, 0, 95, 83, 89, 5, 187, 0, 93, 89, 183, 0, 95]
abbrev dktX0_init_3 : List UInt8 := dkwX0_init_3 ++ dktX0_init_4
def dkwX0_init_2 : List UInt8 := [183, 0, 85, 181, 0, 86, 42, 16, 7, 188, 10, 181, 0, 90, 42, 7, 189, 0, 93, 89, 3, 187, 0, 93]
abbrev dktX0_init_2 : List UInt8 := dkwX0_init_2 ++ dktX0_init_3
def dkwX0_init_1 : List UInt8 := [183, 0, 75, 181, 0, 76, 42, 187, 0, 73, 89, 183, 0, 75, 181, 0, 80, 42, 187, 0, 83, 89]
abbrev dktX0_init_1 : List UInt8 := dkwX0_init_1 ++ dktX0_init_2
def dkwX0_init_0 : List UInt8 := [42, 183, 0, 68, 42, 16, 60, 188, 10, 181, 0, 53, 42, 6, 188, 10, 181, 0, 61, 42, 187, 0, 73, 89]
abbrev dktX0_init_0 : List UInt8 := dkwX0_init_0 ++ dktX0_init_1
theorem dksX0_init_0 : cX0_init.data.toList.drop 0 = dktX0_init_0 := by decide +kernel
theorem dksX0_init_1 : cX0_init.data.toList.drop 24 = dktX0_init_1 := dk_seg dksX0_init_0 24 rfl rfl
theorem dksX0_init_2 : cX0_init.data.toList.drop 46 = dktX0_init_2 := dk_seg dksX0_init_1 22 rfl rfl
theorem dksX0_init_3 : cX0_init.data.toList.drop 70 = dktX0_init_3 := dk_seg dksX0_init_2 24 rfl rfl
theorem dksX0_init_4 : cX0_init.data.toList.drop 94 = dktX0_init_4 := dk_seg dksX0_init_3 24 rfl rfl
theorem dksX0_init_5 : cX0_init.data.toList.drop 117 = dktX0_init_5 := dk_seg dksX0_init_4 23 rfl rfl
theorem dksX0_init_6 : cX0_init.data.toList.drop 141 = dktX0_init_6 := dk_seg dksX0_init_5 24 rfl rfl
theorem dX0_init_0 : decode cX0_init 0 = .ok (.aload_n 0, 1) := dk_42 (dk_at dksX0_init_0 0 rfl rfl)
theorem dX0_init_1 : decode cX0_init 1 = .ok (.invokespecial 68, 3) := dk_183 0 68 (dk_at dksX0_init_0 1 rfl rfl)
theorem dX0_init_4 : decode cX0_init 4 = .ok (.aload_n 0, 1) := dk_42 (dk_at dksX0_init_0 4 rfl rfl)
theorem dX0_init_5 : decode cX0_init 5 = .ok (.bipush 60, 2) := dk_16 60 (dk_at dksX0_init_0 5 rfl rfl)
theorem dX0_init_7 : decode cX0_init 7 = .ok (.newarray .int, 2) := dk_188_10 (dk_at dksX0_init_0 7 rfl rfl)
theorem dX0_init_9 : decode cX0_init 9 = .ok (.putfield 53, 3) := dk_181 0 53 (dk_at dksX0_init_0 9 rfl rfl)
theorem dX0_init_12 : decode cX0_init 12 = .ok (.aload_n 0, 1) := dk_42 (dk_at dksX0_init_0 12 rfl rfl)
theorem dX0_init_13 : decode cX0_init 13 = .ok (.iconst 3, 1) := dk_6 (dk_at dksX0_init_0 13 rfl rfl)
theorem dX0_init_14 : decode cX0_init 14 = .ok (.newarray .int, 2) := dk_188_10 (dk_at dksX0_init_0 14 rfl rfl)
theorem dX0_init_16 : decode cX0_init 16 = .ok (.putfield 61, 3) := dk_181 0 61 (dk_at dksX0_init_0 16 rfl rfl)
theorem dX0_init_19 : decode cX0_init 19 = .ok (.aload_n 0, 1) := dk_42 (dk_at dksX0_init_0 19 rfl rfl)
theorem dX0_init_20 : decode cX0_init 20 = .ok (.new 73, 3) := dk_187 0 73 (dk_at dksX0_init_0 20 rfl rfl)
theorem dX0_init_23 : decode cX0_init 23 = .ok (.dup, 1) := dk_89 (dk_at dksX0_init_0 23 rfl rfl)
theorem dX0_init_24 : decode cX0_init 24 = .ok (.invokespecial 75, 3) := dk_183 0 75 (dk_at dksX0_init_1 0 rfl rfl)
theorem dX0_init_27 : decode cX0_init 27 = .ok (.putfield 76, 3) := dk_181 0 76 (dk_at dksX0_init_1 3 rfl rfl)
theorem dX0_init_30 : decode cX0_init 30 = .ok (.aload_n 0, 1) := dk_42 (dk_at dksX0_init_1 6 rfl rfl)
theorem dX0_init_31 : decode cX0_init 31 = .ok (.new 73, 3) := dk_187 0 73 (dk_at dksX0_init_1 7 rfl rfl)
theorem dX0_init_34 : decode cX0_init 34 = .ok (.dup, 1) := dk_89 (dk_at dksX0_init_1 10 rfl rfl)
theorem dX0_init_35 : decode cX0_init 35 = .ok (.invokespecial 75, 3) := dk_183 0 75 (dk_at dksX0_init_1 11 rfl rfl)
theorem dX0_init_38 : decode cX0_init 38 = .ok (.putfield 80, 3) := dk_181 0 80 (dk_at dksX0_init_1 14 rfl rfl)
theorem dX0_init_41 : decode cX0_init 41 = .ok (.aload_n 0, 1) := dk_42 (dk_at dksX0_init_1 17 rfl rfl)
theorem dX0_init_42 : decode cX0_init 42 = .ok (.new 83, 3) := dk_187 0 83 (dk_at dksX0_init_1 18 rfl rfl)
theorem dX0_init_45 : decode cX0_init 45 = .ok (.dup, 1) := dk_89 (dk_at dksX0_init_1 21 rfl rfl)
theorem dX0_init_46 : decode cX0_init 46 = .ok (.invokespecial 85, 3) := dk_183 0 85 (dk_at dksX0_init_2 0 rfl rfl)
theorem dX0_init_49 : decode cX0_init 49 = .ok (.putfield 86, 3) := dk_181 0 86 (dk_at dksX0_init_2 3 rfl rfl)
theorem dX0_init_52 : decode cX0_init 52 = .ok (.aload_n 0, 1) := dk_42 (dk_at dksX0_init_2 6 rfl rfl)
theorem dX0_init_53 : decode cX0_init 53 = .ok (.bipush 7, 2) := dk_16 7 (dk_at dksX0_init_2 7 rfl rfl)
theorem dX0_init_55 : decode cX0_init 55 = .ok (.newarray .int, 2) := dk_188_10 (dk_at dksX0_init_2 9 rfl rfl)
theorem dX0_init_57 : decode cX0_init 57 = .ok (.putfield 90, 3) := dk_181 0 90 (dk_at dksX0_init_2 11 rfl rfl)
theorem dX0_init_60 : decode cX0_init 60 = .ok (.aload_n 0, 1) := dk_42 (dk_at dksX0_init_2 14 rfl rfl)
theorem dX0_init_61 : decode cX0_init 61 = .ok (.iconst 4, 1) := dk_7 (dk_at dksX0_init_2 15 rfl rfl)
theorem dX0_init_62 : decode cX0_init 62 = .ok (.anewarray 93, 3) := dk_189 0 93 (dk_at dksX0_init_2 16 rfl rfl)
theorem dX0_init_65 : decode cX0_init 65 = .ok (.dup, 1) := dk_89 (dk_at dksX0_init_2 19 rfl rfl)
theorem dX0_init_66 : decode cX0_init 66 = .ok (.iconst 0, 1) := dk_3 (dk_at dksX0_init_2 20 rfl rfl)
theorem dX0_init_67 : decode cX0_init 67 = .ok (.new 93, 3) := dk_187 0 93 (dk_at dksX0_init_2 21 rfl rfl)
theorem dX0_init_70 : decode cX0_init 70 = .ok (.dup, 1) := dk_89 (dk_at dksX0_init_3 0 rfl rfl)
theorem dX0_init_71 : decode cX0_init 71 = .ok (.invokespecial 95, 3) := dk_183 0 95 (dk_at dksX0_init_3 1 rfl rfl)
theorem dX0_init_74 : decode cX0_init 74 = .ok (.aastore, 1) := dk_83 (dk_at dksX0_init_3 4 rfl rfl)
theorem dX0_init_75 : decode cX0_init 75 = .ok (.dup, 1) := dk_89 (dk_at dksX0_init_3 5 rfl rfl)
theorem dX0_init_76 : decode cX0_init 76 = .ok (.iconst 1, 1) := dk_4 (dk_at dksX0_init_3 6 rfl rfl)
theorem dX0_init_77 : decode cX0_init 77 = .ok (.new 93, 3) := dk_187 0 93 (dk_at dksX0_init_3 7 rfl rfl)
theorem dX0_init_80 : decode cX0_init 80 = .ok (.dup, 1) := dk_89 (dk_at dksX0_init_3 10 rfl rfl)
theorem dX0_init_81 : decode cX0_init 81 = .ok (.invokespecial 95, 3) := dk_183 0 95 (dk_at dksX0_init_3 11 rfl rfl)
theorem dX0_init_84 : decode cX0_init 84 = .ok (.aastore, 1) := dk_83 (dk_at dksX0_init_3 14 rfl rfl)
theorem dX0_init_85 : decode cX0_init 85 = .ok (.dup, 1) := dk_89 (dk_at dksX0_init_3 15 rfl rfl)
theorem dX0_init_86 : decode cX0_init 86 = .ok (.iconst 2, 1) := dk_5 (dk_at dksX0_init_3 16 rfl rfl)
theorem dX0_init_87 : decode cX0_init 87 = .ok (.new 93, 3) := dk_187 0 93 (dk_at dksX0_init_3 17 rfl rfl)
theorem dX0_init_90 : decode cX0_init 90 = .ok (.dup, 1) := dk_89 (dk_at dksX0_init_3 20 rfl rfl)
theorem dX0_init_91 : decode cX0_init 91 = .ok (.invokespecial 95, 3) := dk_183 0 95 (dk_at dksX0_init_3 21 rfl rfl)
theorem dX0_init_94 : decode cX0_init 94 = .ok (.aastore, 1) := dk_83 (dk_at dksX0_init_4 0 rfl rfl)
theorem dX0_init_95 : decode cX0_init 95 = .ok (.dup, 1) := dk_89 (dk_at dksX0_init_4 1 rfl rfl)
theorem dX0_init_96 : decode cX0_init 96 = .ok (.iconst 3, 1) := dk_6 (dk_at dksX0_init_4 2 rfl rfl)
theorem dX0_init_97 : decode cX0_init 97 = .ok (.new 93, 3) := dk_187 0 93 (dk_at dksX0_init_4 3 rfl rfl)
theorem dX0_init_100 : decode cX0_init 100 = .ok (.dup, 1) := dk_89 (dk_at dksX0_init_4 6 rfl rfl)
theorem dX0_init_101 : decode cX0_init 101 = .ok (.invokespecial 95, 3) := dk_183 0 95 (dk_at dksX0_init_4 7 rfl rfl)
theorem dX0_init_104 : decode cX0_init 104 = .ok (.aastore, 1) := dk_83 (dk_at dksX0_init_4 10 rfl rfl)
theorem dX0_init_105 : decode cX0_init 105 = .ok (.putfield 96, 3) := dk_181 0 96 (dk_at dksX0_init_4 11 rfl rfl)
theorem dX0_init_108 : decode cX0_init 108 = .ok (.aload_n 0, 1) := dk_42 (dk_at dksX0_init_4 14 rfl rfl)
theorem dX0_init_109 : decode cX0_init 109 = .ok (.new 100, 3) := dk_187 0 100 (dk_at dksX0_init_4 15 rfl rfl)
theorem dX0_init_112 : decode cX0_init 112 = .ok (.dup, 1) := dk_89 (dk_at dksX0_init_4 18 rfl rfl)
theorem dX0_init_113 : decode cX0_init 113 = .ok (.aload_n 0, 1) := dk_42 (dk_at dksX0_init_4 19 rfl rfl)
theorem dX0_init_114 : decode cX0_init 114 = .ok (.invokespecial 102, 3) := dk_183 0 102 (dk_at dksX0_init_4 20 rfl rfl)
theorem dX0_init_117 : decode cX0_init 117 = .ok (.putfield 105, 3) := dk_181 0 105 (dk_at dksX0_init_5 0 rfl rfl)
theorem dX0_init_120 : decode cX0_init 120 = .ok (.aload_n 0, 1) := dk_42 (dk_at dksX0_init_5 3 rfl rfl)
theorem dX0_init_121 : decode cX0_init 121 = .ok (.bipush 8, 2) := dk_16 8 (dk_at dksX0_init_5 4 rfl rfl)
theorem dX0_init_123 : decode cX0_init 123 = .ok (.newarray .byte, 2) := dk_188_8 (dk_at dksX0_init_5 6 rfl rfl)
theorem dX0_init_125 : decode cX0_init 125 = .ok (.putfield 109, 3) := dk_181 0 109 (dk_at dksX0_init_5 8 rfl rfl)
theorem dX0_init_128 : decode cX0_init 128 = .ok (.aload_n 0, 1) := dk_42 (dk_at dksX0_init_5 11 rfl rfl)
theorem dX0_init_129 : decode cX0_init 129 = .ok (.bipush 8, 2) := dk_16 8 (dk_at dksX0_init_5 12 rfl rfl)
theorem dX0_init_131 : decode cX0_init 131 = .ok (.newarray .byte, 2) := dk_188_8 (dk_at dksX0_init_5 14 rfl rfl)
theorem dX0_init_133 : decode cX0_init 133 = .ok (.putfield 112, 3) := dk_181 0 112 (dk_at dksX0_init_5 16 rfl rfl)
theorem dX0_init_136 : decode cX0_init 136 = .ok (.aload_n 0, 1) := dk_42 (dk_at dksX0_init_5 19 rfl rfl)
theorem dX0_init_137 : decode cX0_init 137 = .ok (.bipush 8, 2) := dk_16 8 (dk_at dksX0_init_5 20 rfl rfl)
theorem dX0_init_139 : decode cX0_init 139 = .ok (.newarray .byte, 2) := dk_188_8 (dk_at dksX0_init_5 22 rfl rfl)
theorem dX0_init_141 : decode cX0_init 141 = .ok (.putfield 115, 3) := dk_181 0 115 (dk_at dksX0_init_6 0 rfl rfl)
theorem dX0_init_144 : decode cX0_init 144 = .ok (.aload_n 0, 1) := dk_42 (dk_at dksX0_init_6 3 rfl rfl)
theorem dX0_init_145 : decode cX0_init 145 = .ok (.bipush 8, 2) := dk_16 8 (dk_at dksX0_init_6 4 rfl rfl)
theorem dX0_init_147 : decode cX0_init 147 = .ok (.newarray .byte, 2) := dk_188_8 (dk_at dksX0_init_6 6 rfl rfl)
theorem dX0_init_149 : decode cX0_init 149 = .ok (.putfield 118, 3) := dk_181 0 118 (dk_at dksX0_init_6 8 rfl rfl)
theorem dX0_init_152 : decode cX0_init 152 = .ok (.aload_n 0, 1) := dk_42 (dk_at dksX0_init_6 11 rfl rfl)
theorem dX0_init_153 : decode cX0_init 153 = .ok (.bipush 8, 2) := dk_16 8 (dk_at dksX0_init_6 12 rfl rfl)
theorem dX0_init_155 : decode cX0_init 155 = .ok (.newarray .byte, 2) := dk_188_8 (dk_at dksX0_init_6 14 rfl rfl)
theorem dX0_init_157 : decode cX0_init 157 = .ok (.putfield 121, 3) := dk_181 0 121 (dk_at dksX0_init_6 16 rfl rfl)
theorem dX0_init_160 : decode cX0_init 160 = .ok (.return_, 1) := dk_177 (dk_at dksX0_init_6 19 rfl rfl)
abbrev cX0_thing : ByteArray := prog_1_method_16_code
def yX0_thing : MethodName := ⟨RX0, "thing", "(III)I"⟩
def dkwX0_thing_4 : List UInt8 := [54, 5, 25, 4, 27, 29, 79, 21, 5, 172]
abbrev dktX0_thing_4 : List UInt8 := dkwX0_thing_4 ++ []
def dkwX0_thing_3 : List UInt8 := [42, 180, 0, 76, 180, 0, 136, 167, 0, 10, 42, 180, 0, 76, 180, 0, 164, 58, 4, 25, 4, 27, 46]
abbrev dktX0_thing_3 : List UInt8 := dkwX0_thing_3 ++ dktX0_thing_4
def dkwX0_thing_2 : List UInt8 := [4, 182, 0, 160, 172, 28, 154, 0, 13, 42, 180, 0, 76, 180, 0, 133, 167, 0, 25, 28, 4, 160, 0, 13]
abbrev dktX0_thing_2 : List UInt8 := dkwX0_thing_2 ++ dktX0_thing_3
def dkwX0_thing_1 : List UInt8 := [167, 0, 4, 3, 28, 5, 160, 0, 8, 16, 99, 167, 0, 6, 17, 39, 15, 184, 0, 125, 154, 0, 9, 42]
abbrev dktX0_thing_1 : List UInt8 := dkwX0_thing_1 ++ dktX0_thing_2
def dkwX0_thing_0 : List UInt8 := [27, 184, 0, 156, 153, 0, 41, 28, 3, 5, 184, 0, 125, 153, 0, 32, 29, 28, 154, 0, 7, 4]
abbrev dktX0_thing_0 : List UInt8 := dkwX0_thing_0 ++ dktX0_thing_1
theorem dksX0_thing_0 : cX0_thing.data.toList.drop 0 = dktX0_thing_0 := by decide +kernel
theorem dksX0_thing_1 : cX0_thing.data.toList.drop 22 = dktX0_thing_1 := dk_seg dksX0_thing_0 22 rfl rfl
theorem dksX0_thing_2 : cX0_thing.data.toList.drop 46 = dktX0_thing_2 := dk_seg dksX0_thing_1 24 rfl rfl
theorem dksX0_thing_3 : cX0_thing.data.toList.drop 70 = dktX0_thing_3 := dk_seg dksX0_thing_2 24 rfl rfl
theorem dksX0_thing_4 : cX0_thing.data.toList.drop 93 = dktX0_thing_4 := dk_seg dksX0_thing_3 23 rfl rfl
theorem dX0_thing_0 : decode cX0_thing 0 = .ok (.iload_n 1, 1) := dk_27 (dk_at dksX0_thing_0 0 rfl rfl)
theorem dX0_thing_1 : decode cX0_thing 1 = .ok (.invokestatic 156, 3) := dk_184 0 156 (dk_at dksX0_thing_0 1 rfl rfl)
theorem dX0_thing_4 : decode cX0_thing 4 = .ok (.ifCond .eq 41, 3) := dk_153 0 41 (dk_at dksX0_thing_0 4 rfl rfl)
theorem dX0_thing_7 : decode cX0_thing 7 = .ok (.iload_n 2, 1) := dk_28 (dk_at dksX0_thing_0 7 rfl rfl)
theorem dX0_thing_8 : decode cX0_thing 8 = .ok (.iconst 0, 1) := dk_3 (dk_at dksX0_thing_0 8 rfl rfl)
theorem dX0_thing_9 : decode cX0_thing 9 = .ok (.iconst 2, 1) := dk_5 (dk_at dksX0_thing_0 9 rfl rfl)
theorem dX0_thing_10 : decode cX0_thing 10 = .ok (.invokestatic 125, 3) := dk_184 0 125 (dk_at dksX0_thing_0 10 rfl rfl)
theorem dX0_thing_13 : decode cX0_thing 13 = .ok (.ifCond .eq 32, 3) := dk_153 0 32 (dk_at dksX0_thing_0 13 rfl rfl)
theorem dX0_thing_16 : decode cX0_thing 16 = .ok (.iload_n 3, 1) := dk_29 (dk_at dksX0_thing_0 16 rfl rfl)
theorem dX0_thing_17 : decode cX0_thing 17 = .ok (.iload_n 2, 1) := dk_28 (dk_at dksX0_thing_0 17 rfl rfl)
theorem dX0_thing_18 : decode cX0_thing 18 = .ok (.ifCond .ne 7, 3) := dk_154 0 7 (dk_at dksX0_thing_0 18 rfl rfl)
theorem dX0_thing_21 : decode cX0_thing 21 = .ok (.iconst 1, 1) := dk_4 (dk_at dksX0_thing_0 21 rfl rfl)
theorem dX0_thing_22 : decode cX0_thing 22 = .ok (.goto 4, 3) := dk_167 0 4 (dk_at dksX0_thing_1 0 rfl rfl)
theorem dX0_thing_25 : decode cX0_thing 25 = .ok (.iconst 0, 1) := dk_3 (dk_at dksX0_thing_1 3 rfl rfl)
theorem dX0_thing_26 : decode cX0_thing 26 = .ok (.iload_n 2, 1) := dk_28 (dk_at dksX0_thing_1 4 rfl rfl)
theorem dX0_thing_27 : decode cX0_thing 27 = .ok (.iconst 2, 1) := dk_5 (dk_at dksX0_thing_1 5 rfl rfl)
theorem dX0_thing_28 : decode cX0_thing 28 = .ok (.if_icmp .ne 8, 3) := dk_160 0 8 (dk_at dksX0_thing_1 6 rfl rfl)
theorem dX0_thing_31 : decode cX0_thing 31 = .ok (.bipush 99, 2) := dk_16 99 (dk_at dksX0_thing_1 9 rfl rfl)
theorem dX0_thing_33 : decode cX0_thing 33 = .ok (.goto 6, 3) := dk_167 0 6 (dk_at dksX0_thing_1 11 rfl rfl)
theorem dX0_thing_36 : decode cX0_thing 36 = .ok (.sipush 9999, 3) := dk_17 39 15 (dk_at dksX0_thing_1 14 rfl rfl)
theorem dX0_thing_39 : decode cX0_thing 39 = .ok (.invokestatic 125, 3) := dk_184 0 125 (dk_at dksX0_thing_1 17 rfl rfl)
theorem dX0_thing_42 : decode cX0_thing 42 = .ok (.ifCond .ne 9, 3) := dk_154 0 9 (dk_at dksX0_thing_1 20 rfl rfl)
theorem dX0_thing_45 : decode cX0_thing 45 = .ok (.aload_n 0, 1) := dk_42 (dk_at dksX0_thing_1 23 rfl rfl)
theorem dX0_thing_46 : decode cX0_thing 46 = .ok (.iconst 1, 1) := dk_4 (dk_at dksX0_thing_2 0 rfl rfl)
theorem dX0_thing_47 : decode cX0_thing 47 = .ok (.invokevirtual 160, 3) := dk_182 0 160 (dk_at dksX0_thing_2 1 rfl rfl)
theorem dX0_thing_50 : decode cX0_thing 50 = .ok (.ireturn, 1) := dk_172 (dk_at dksX0_thing_2 4 rfl rfl)
theorem dX0_thing_51 : decode cX0_thing 51 = .ok (.iload_n 2, 1) := dk_28 (dk_at dksX0_thing_2 5 rfl rfl)
theorem dX0_thing_52 : decode cX0_thing 52 = .ok (.ifCond .ne 13, 3) := dk_154 0 13 (dk_at dksX0_thing_2 6 rfl rfl)
theorem dX0_thing_55 : decode cX0_thing 55 = .ok (.aload_n 0, 1) := dk_42 (dk_at dksX0_thing_2 9 rfl rfl)
theorem dX0_thing_56 : decode cX0_thing 56 = .ok (.getfield 76, 3) := dk_180 0 76 (dk_at dksX0_thing_2 10 rfl rfl)
theorem dX0_thing_59 : decode cX0_thing 59 = .ok (.getfield 133, 3) := dk_180 0 133 (dk_at dksX0_thing_2 13 rfl rfl)
theorem dX0_thing_62 : decode cX0_thing 62 = .ok (.goto 25, 3) := dk_167 0 25 (dk_at dksX0_thing_2 16 rfl rfl)
theorem dX0_thing_65 : decode cX0_thing 65 = .ok (.iload_n 2, 1) := dk_28 (dk_at dksX0_thing_2 19 rfl rfl)
theorem dX0_thing_66 : decode cX0_thing 66 = .ok (.iconst 1, 1) := dk_4 (dk_at dksX0_thing_2 20 rfl rfl)
theorem dX0_thing_67 : decode cX0_thing 67 = .ok (.if_icmp .ne 13, 3) := dk_160 0 13 (dk_at dksX0_thing_2 21 rfl rfl)
theorem dX0_thing_70 : decode cX0_thing 70 = .ok (.aload_n 0, 1) := dk_42 (dk_at dksX0_thing_3 0 rfl rfl)
theorem dX0_thing_71 : decode cX0_thing 71 = .ok (.getfield 76, 3) := dk_180 0 76 (dk_at dksX0_thing_3 1 rfl rfl)
theorem dX0_thing_74 : decode cX0_thing 74 = .ok (.getfield 136, 3) := dk_180 0 136 (dk_at dksX0_thing_3 4 rfl rfl)
theorem dX0_thing_77 : decode cX0_thing 77 = .ok (.goto 10, 3) := dk_167 0 10 (dk_at dksX0_thing_3 7 rfl rfl)
theorem dX0_thing_80 : decode cX0_thing 80 = .ok (.aload_n 0, 1) := dk_42 (dk_at dksX0_thing_3 10 rfl rfl)
theorem dX0_thing_81 : decode cX0_thing 81 = .ok (.getfield 76, 3) := dk_180 0 76 (dk_at dksX0_thing_3 11 rfl rfl)
theorem dX0_thing_84 : decode cX0_thing 84 = .ok (.getfield 164, 3) := dk_180 0 164 (dk_at dksX0_thing_3 14 rfl rfl)
theorem dX0_thing_87 : decode cX0_thing 87 = .ok (.astore 4, 2) := dk_58 4 (dk_at dksX0_thing_3 17 rfl rfl)
theorem dX0_thing_89 : decode cX0_thing 89 = .ok (.aload 4, 2) := dk_25 4 (dk_at dksX0_thing_3 19 rfl rfl)
theorem dX0_thing_91 : decode cX0_thing 91 = .ok (.iload_n 1, 1) := dk_27 (dk_at dksX0_thing_3 21 rfl rfl)
theorem dX0_thing_92 : decode cX0_thing 92 = .ok (.iaload, 1) := dk_46 (dk_at dksX0_thing_3 22 rfl rfl)
theorem dX0_thing_93 : decode cX0_thing 93 = .ok (.istore 5, 2) := dk_54 5 (dk_at dksX0_thing_4 0 rfl rfl)
theorem dX0_thing_95 : decode cX0_thing 95 = .ok (.aload 4, 2) := dk_25 4 (dk_at dksX0_thing_4 2 rfl rfl)
theorem dX0_thing_97 : decode cX0_thing 97 = .ok (.iload_n 1, 1) := dk_27 (dk_at dksX0_thing_4 4 rfl rfl)
theorem dX0_thing_98 : decode cX0_thing 98 = .ok (.iload_n 3, 1) := dk_29 (dk_at dksX0_thing_4 5 rfl rfl)
theorem dX0_thing_99 : decode cX0_thing 99 = .ok (.iastore, 1) := dk_79 (dk_at dksX0_thing_4 6 rfl rfl)
theorem dX0_thing_100 : decode cX0_thing 100 = .ok (.iload 5, 2) := dk_21 5 (dk_at dksX0_thing_4 7 rfl rfl)
theorem dX0_thing_102 : decode cX0_thing 102 = .ok (.ireturn, 1) := dk_172 (dk_at dksX0_thing_4 9 rfl rfl)
abbrev cX0_isThing : ByteArray := prog_1_method_12_code
def yX0_isThing : MethodName := ⟨RX0, "isThing", "(I)Z"⟩
def dkwX0_isThing_0 : List UInt8 := [26, 3, 16, 7, 184, 0, 125, 172]
abbrev dktX0_isThing_0 : List UInt8 := dkwX0_isThing_0 ++ []
theorem dksX0_isThing_0 : cX0_isThing.data.toList.drop 0 = dktX0_isThing_0 := by decide +kernel
theorem dX0_isThing_0 : decode cX0_isThing 0 = .ok (.iload_n 0, 1) := dk_26 (dk_at dksX0_isThing_0 0 rfl rfl)
theorem dX0_isThing_1 : decode cX0_isThing 1 = .ok (.iconst 0, 1) := dk_3 (dk_at dksX0_isThing_0 1 rfl rfl)
theorem dX0_isThing_2 : decode cX0_isThing 2 = .ok (.bipush 7, 2) := dk_16 7 (dk_at dksX0_isThing_0 2 rfl rfl)
theorem dX0_isThing_4 : decode cX0_isThing 4 = .ok (.invokestatic 125, 3) := dk_184 0 125 (dk_at dksX0_isThing_0 4 rfl rfl)
theorem dX0_isThing_7 : decode cX0_isThing 7 = .ok (.ireturn, 1) := dk_172 (dk_at dksX0_isThing_0 7 rfl rfl)
abbrev cX0_isIn : ByteArray := prog_1_method_1_code
def yX0_isIn : MethodName := ⟨RX0, "isIn", "(III)Z"⟩
def dkwX0_isIn_0 : List UInt8 := [26, 27, 161, 0, 12, 26, 28, 163, 0, 7, 4, 167, 0, 4, 3, 172]
abbrev dktX0_isIn_0 : List UInt8 := dkwX0_isIn_0 ++ []
theorem dksX0_isIn_0 : cX0_isIn.data.toList.drop 0 = dktX0_isIn_0 := by decide +kernel
theorem dX0_isIn_0 : decode cX0_isIn 0 = .ok (.iload_n 0, 1) := dk_26 (dk_at dksX0_isIn_0 0 rfl rfl)
theorem dX0_isIn_1 : decode cX0_isIn 1 = .ok (.iload_n 1, 1) := dk_27 (dk_at dksX0_isIn_0 1 rfl rfl)
theorem dX0_isIn_2 : decode cX0_isIn 2 = .ok (.if_icmp .lt 12, 3) := dk_161 0 12 (dk_at dksX0_isIn_0 2 rfl rfl)
theorem dX0_isIn_5 : decode cX0_isIn 5 = .ok (.iload_n 0, 1) := dk_26 (dk_at dksX0_isIn_0 5 rfl rfl)
theorem dX0_isIn_6 : decode cX0_isIn 6 = .ok (.iload_n 2, 1) := dk_28 (dk_at dksX0_isIn_0 6 rfl rfl)
theorem dX0_isIn_7 : decode cX0_isIn 7 = .ok (.if_icmp .gt 7, 3) := dk_163 0 7 (dk_at dksX0_isIn_0 7 rfl rfl)
theorem dX0_isIn_10 : decode cX0_isIn 10 = .ok (.iconst 1, 1) := dk_4 (dk_at dksX0_isIn_0 10 rfl rfl)
theorem dX0_isIn_11 : decode cX0_isIn 11 = .ok (.goto 4, 3) := dk_167 0 4 (dk_at dksX0_isIn_0 11 rfl rfl)
theorem dX0_isIn_14 : decode cX0_isIn 14 = .ok (.iconst 0, 1) := dk_3 (dk_at dksX0_isIn_0 14 rfl rfl)
theorem dX0_isIn_15 : decode cX0_isIn 15 = .ok (.ireturn, 1) := dk_172 (dk_at dksX0_isIn_0 15 rfl rfl)
abbrev cX0_finds : ByteArray := prog_1_method_11_code
def yX0_finds : MethodName := ⟨RX0, "finds", "(I)I"⟩
def dkwX0_finds_0 : List UInt8 := [42, 180, 0, 90, 27, 92, 46, 4, 96, 79, 18, 124, 27, 100, 172]
abbrev dktX0_finds_0 : List UInt8 := dkwX0_finds_0 ++ []
theorem dksX0_finds_0 : cX0_finds.data.toList.drop 0 = dktX0_finds_0 := by decide +kernel
theorem dX0_finds_0 : decode cX0_finds 0 = .ok (.aload_n 0, 1) := dk_42 (dk_at dksX0_finds_0 0 rfl rfl)
theorem dX0_finds_1 : decode cX0_finds 1 = .ok (.getfield 90, 3) := dk_180 0 90 (dk_at dksX0_finds_0 1 rfl rfl)
theorem dX0_finds_4 : decode cX0_finds 4 = .ok (.iload_n 1, 1) := dk_27 (dk_at dksX0_finds_0 4 rfl rfl)
theorem dX0_finds_5 : decode cX0_finds 5 = .ok (.dup2, 1) := dk_92 (dk_at dksX0_finds_0 5 rfl rfl)
theorem dX0_finds_6 : decode cX0_finds 6 = .ok (.iaload, 1) := dk_46 (dk_at dksX0_finds_0 6 rfl rfl)
theorem dX0_finds_7 : decode cX0_finds 7 = .ok (.iconst 1, 1) := dk_4 (dk_at dksX0_finds_0 7 rfl rfl)
theorem dX0_finds_8 : decode cX0_finds 8 = .ok (.iadd, 1) := dk_96 (dk_at dksX0_finds_0 8 rfl rfl)
theorem dX0_finds_9 : decode cX0_finds 9 = .ok (.iastore, 1) := dk_79 (dk_at dksX0_finds_0 9 rfl rfl)
theorem dX0_finds_10 : decode cX0_finds 10 = .ok (.ldc 124, 2) := dk_18 124 (dk_at dksX0_finds_0 10 rfl rfl)
theorem dX0_finds_12 : decode cX0_finds 12 = .ok (.iload_n 1, 1) := dk_27 (dk_at dksX0_finds_0 12 rfl rfl)
theorem dX0_finds_13 : decode cX0_finds 13 = .ok (.isub, 1) := dk_100 (dk_at dksX0_finds_0 13 rfl rfl)
theorem dX0_finds_14 : decode cX0_finds 14 = .ok (.ireturn, 1) := dk_172 (dk_at dksX0_finds_0 14 rfl rfl)
abbrev cX0_thingIs : ByteArray := prog_1_method_17_code
def yX0_thingIs : MethodName := ⟨RX0, "thingIs", "(II)I"⟩
def dkwX0_thingIs_3 : List UInt8 := [167, 0, 8, 42, 27, 182, 0, 167, 172]
abbrev dktX0_thingIs_3 : List UInt8 := dkwX0_thingIs_3 ++ []
def dkwX0_thingIs_2 : List UInt8 := [180, 0, 136, 27, 46, 167, 0, 25, 28, 5, 160, 0, 15, 42, 180, 0, 76, 180, 0, 164, 27, 46]
abbrev dktX0_thingIs_2 : List UInt8 := dkwX0_thingIs_2 ++ dktX0_thingIs_3
def dkwX0_thingIs_1 : List UInt8 := [154, 0, 15, 42, 180, 0, 76, 180, 0, 133, 27, 46, 167, 0, 42, 28, 4, 160, 0, 15, 42, 180, 0, 76]
abbrev dktX0_thingIs_1 : List UInt8 := dkwX0_thingIs_1 ++ dktX0_thingIs_2
def dkwX0_thingIs_0 : List UInt8 := [27, 184, 0, 156, 153, 0, 12, 28, 3, 6, 184, 0, 125, 154, 0, 9, 42, 4, 182, 0, 160, 172, 28]
abbrev dktX0_thingIs_0 : List UInt8 := dkwX0_thingIs_0 ++ dktX0_thingIs_1
theorem dksX0_thingIs_0 : cX0_thingIs.data.toList.drop 0 = dktX0_thingIs_0 := by decide +kernel
theorem dksX0_thingIs_1 : cX0_thingIs.data.toList.drop 23 = dktX0_thingIs_1 := dk_seg dksX0_thingIs_0 23 rfl rfl
theorem dksX0_thingIs_2 : cX0_thingIs.data.toList.drop 47 = dktX0_thingIs_2 := dk_seg dksX0_thingIs_1 24 rfl rfl
theorem dksX0_thingIs_3 : cX0_thingIs.data.toList.drop 69 = dktX0_thingIs_3 := dk_seg dksX0_thingIs_2 22 rfl rfl
theorem dX0_thingIs_0 : decode cX0_thingIs 0 = .ok (.iload_n 1, 1) := dk_27 (dk_at dksX0_thingIs_0 0 rfl rfl)
theorem dX0_thingIs_1 : decode cX0_thingIs 1 = .ok (.invokestatic 156, 3) := dk_184 0 156 (dk_at dksX0_thingIs_0 1 rfl rfl)
theorem dX0_thingIs_4 : decode cX0_thingIs 4 = .ok (.ifCond .eq 12, 3) := dk_153 0 12 (dk_at dksX0_thingIs_0 4 rfl rfl)
theorem dX0_thingIs_7 : decode cX0_thingIs 7 = .ok (.iload_n 2, 1) := dk_28 (dk_at dksX0_thingIs_0 7 rfl rfl)
theorem dX0_thingIs_8 : decode cX0_thingIs 8 = .ok (.iconst 0, 1) := dk_3 (dk_at dksX0_thingIs_0 8 rfl rfl)
theorem dX0_thingIs_9 : decode cX0_thingIs 9 = .ok (.iconst 3, 1) := dk_6 (dk_at dksX0_thingIs_0 9 rfl rfl)
theorem dX0_thingIs_10 : decode cX0_thingIs 10 = .ok (.invokestatic 125, 3) := dk_184 0 125 (dk_at dksX0_thingIs_0 10 rfl rfl)
theorem dX0_thingIs_13 : decode cX0_thingIs 13 = .ok (.ifCond .ne 9, 3) := dk_154 0 9 (dk_at dksX0_thingIs_0 13 rfl rfl)
theorem dX0_thingIs_16 : decode cX0_thingIs 16 = .ok (.aload_n 0, 1) := dk_42 (dk_at dksX0_thingIs_0 16 rfl rfl)
theorem dX0_thingIs_17 : decode cX0_thingIs 17 = .ok (.iconst 1, 1) := dk_4 (dk_at dksX0_thingIs_0 17 rfl rfl)
theorem dX0_thingIs_18 : decode cX0_thingIs 18 = .ok (.invokevirtual 160, 3) := dk_182 0 160 (dk_at dksX0_thingIs_0 18 rfl rfl)
theorem dX0_thingIs_21 : decode cX0_thingIs 21 = .ok (.ireturn, 1) := dk_172 (dk_at dksX0_thingIs_0 21 rfl rfl)
theorem dX0_thingIs_22 : decode cX0_thingIs 22 = .ok (.iload_n 2, 1) := dk_28 (dk_at dksX0_thingIs_0 22 rfl rfl)
theorem dX0_thingIs_23 : decode cX0_thingIs 23 = .ok (.ifCond .ne 15, 3) := dk_154 0 15 (dk_at dksX0_thingIs_1 0 rfl rfl)
theorem dX0_thingIs_26 : decode cX0_thingIs 26 = .ok (.aload_n 0, 1) := dk_42 (dk_at dksX0_thingIs_1 3 rfl rfl)
theorem dX0_thingIs_27 : decode cX0_thingIs 27 = .ok (.getfield 76, 3) := dk_180 0 76 (dk_at dksX0_thingIs_1 4 rfl rfl)
theorem dX0_thingIs_30 : decode cX0_thingIs 30 = .ok (.getfield 133, 3) := dk_180 0 133 (dk_at dksX0_thingIs_1 7 rfl rfl)
theorem dX0_thingIs_33 : decode cX0_thingIs 33 = .ok (.iload_n 1, 1) := dk_27 (dk_at dksX0_thingIs_1 10 rfl rfl)
theorem dX0_thingIs_34 : decode cX0_thingIs 34 = .ok (.iaload, 1) := dk_46 (dk_at dksX0_thingIs_1 11 rfl rfl)
theorem dX0_thingIs_35 : decode cX0_thingIs 35 = .ok (.goto 42, 3) := dk_167 0 42 (dk_at dksX0_thingIs_1 12 rfl rfl)
theorem dX0_thingIs_38 : decode cX0_thingIs 38 = .ok (.iload_n 2, 1) := dk_28 (dk_at dksX0_thingIs_1 15 rfl rfl)
theorem dX0_thingIs_39 : decode cX0_thingIs 39 = .ok (.iconst 1, 1) := dk_4 (dk_at dksX0_thingIs_1 16 rfl rfl)
theorem dX0_thingIs_40 : decode cX0_thingIs 40 = .ok (.if_icmp .ne 15, 3) := dk_160 0 15 (dk_at dksX0_thingIs_1 17 rfl rfl)
theorem dX0_thingIs_43 : decode cX0_thingIs 43 = .ok (.aload_n 0, 1) := dk_42 (dk_at dksX0_thingIs_1 20 rfl rfl)
theorem dX0_thingIs_44 : decode cX0_thingIs 44 = .ok (.getfield 76, 3) := dk_180 0 76 (dk_at dksX0_thingIs_1 21 rfl rfl)
theorem dX0_thingIs_47 : decode cX0_thingIs 47 = .ok (.getfield 136, 3) := dk_180 0 136 (dk_at dksX0_thingIs_2 0 rfl rfl)
theorem dX0_thingIs_50 : decode cX0_thingIs 50 = .ok (.iload_n 1, 1) := dk_27 (dk_at dksX0_thingIs_2 3 rfl rfl)
theorem dX0_thingIs_51 : decode cX0_thingIs 51 = .ok (.iaload, 1) := dk_46 (dk_at dksX0_thingIs_2 4 rfl rfl)
theorem dX0_thingIs_52 : decode cX0_thingIs 52 = .ok (.goto 25, 3) := dk_167 0 25 (dk_at dksX0_thingIs_2 5 rfl rfl)
theorem dX0_thingIs_55 : decode cX0_thingIs 55 = .ok (.iload_n 2, 1) := dk_28 (dk_at dksX0_thingIs_2 8 rfl rfl)
theorem dX0_thingIs_56 : decode cX0_thingIs 56 = .ok (.iconst 2, 1) := dk_5 (dk_at dksX0_thingIs_2 9 rfl rfl)
theorem dX0_thingIs_57 : decode cX0_thingIs 57 = .ok (.if_icmp .ne 15, 3) := dk_160 0 15 (dk_at dksX0_thingIs_2 10 rfl rfl)
theorem dX0_thingIs_60 : decode cX0_thingIs 60 = .ok (.aload_n 0, 1) := dk_42 (dk_at dksX0_thingIs_2 13 rfl rfl)
theorem dX0_thingIs_61 : decode cX0_thingIs 61 = .ok (.getfield 76, 3) := dk_180 0 76 (dk_at dksX0_thingIs_2 14 rfl rfl)
theorem dX0_thingIs_64 : decode cX0_thingIs 64 = .ok (.getfield 164, 3) := dk_180 0 164 (dk_at dksX0_thingIs_2 17 rfl rfl)
theorem dX0_thingIs_67 : decode cX0_thingIs 67 = .ok (.iload_n 1, 1) := dk_27 (dk_at dksX0_thingIs_2 20 rfl rfl)
theorem dX0_thingIs_68 : decode cX0_thingIs 68 = .ok (.iaload, 1) := dk_46 (dk_at dksX0_thingIs_2 21 rfl rfl)
theorem dX0_thingIs_69 : decode cX0_thingIs 69 = .ok (.goto 8, 3) := dk_167 0 8 (dk_at dksX0_thingIs_3 0 rfl rfl)
theorem dX0_thingIs_72 : decode cX0_thingIs 72 = .ok (.aload_n 0, 1) := dk_42 (dk_at dksX0_thingIs_3 3 rfl rfl)
theorem dX0_thingIs_73 : decode cX0_thingIs 73 = .ok (.iload_n 1, 1) := dk_27 (dk_at dksX0_thingIs_3 4 rfl rfl)
theorem dX0_thingIs_74 : decode cX0_thingIs 74 = .ok (.invokevirtual 167, 3) := dk_182 0 167 (dk_at dksX0_thingIs_3 5 rfl rfl)
theorem dX0_thingIs_77 : decode cX0_thingIs 77 = .ok (.ireturn, 1) := dk_172 (dk_at dksX0_thingIs_3 8 rfl rfl)
abbrev cX0_valueOf : ByteArray := prog_1_method_14_code
def yX0_valueOf : MethodName := ⟨RX0, "valueOf", "(I)I"⟩
def dkwX0_valueOf_3 : List UInt8 := [184, 0, 143, 172]
abbrev dktX0_valueOf_3 : List UInt8 := dkwX0_valueOf_3 ++ []
def dkwX0_valueOf_2 : List UInt8 := [180, 0, 136, 27, 46, 79, 42, 42, 180, 0, 76, 180, 0, 129, 4, 50, 182, 0, 139, 3, 16, 99]
abbrev dktX0_valueOf_2 : List UInt8 := dkwX0_valueOf_2 ++ dktX0_valueOf_3
def dkwX0_valueOf_1 : List UInt8 := [180, 0, 61, 4, 42, 180, 0, 76, 180, 0, 133, 27, 46, 79, 42, 180, 0, 61, 5, 42, 180, 0, 76]
abbrev dktX0_valueOf_1 : List UInt8 := dkwX0_valueOf_1 ++ dktX0_valueOf_2
def dkwX0_valueOf_0 : List UInt8 := [42, 180, 0, 76, 180, 0, 129, 4, 50, 199, 0, 5, 3, 172, 42, 180, 0, 61, 3, 27, 79, 42]
abbrev dktX0_valueOf_0 : List UInt8 := dkwX0_valueOf_0 ++ dktX0_valueOf_1
theorem dksX0_valueOf_0 : cX0_valueOf.data.toList.drop 0 = dktX0_valueOf_0 := by decide +kernel
theorem dksX0_valueOf_1 : cX0_valueOf.data.toList.drop 22 = dktX0_valueOf_1 := dk_seg dksX0_valueOf_0 22 rfl rfl
theorem dksX0_valueOf_2 : cX0_valueOf.data.toList.drop 45 = dktX0_valueOf_2 := dk_seg dksX0_valueOf_1 23 rfl rfl
theorem dksX0_valueOf_3 : cX0_valueOf.data.toList.drop 67 = dktX0_valueOf_3 := dk_seg dksX0_valueOf_2 22 rfl rfl
theorem dX0_valueOf_0 : decode cX0_valueOf 0 = .ok (.aload_n 0, 1) := dk_42 (dk_at dksX0_valueOf_0 0 rfl rfl)
theorem dX0_valueOf_1 : decode cX0_valueOf 1 = .ok (.getfield 76, 3) := dk_180 0 76 (dk_at dksX0_valueOf_0 1 rfl rfl)
theorem dX0_valueOf_4 : decode cX0_valueOf 4 = .ok (.getfield 129, 3) := dk_180 0 129 (dk_at dksX0_valueOf_0 4 rfl rfl)
theorem dX0_valueOf_7 : decode cX0_valueOf 7 = .ok (.iconst 1, 1) := dk_4 (dk_at dksX0_valueOf_0 7 rfl rfl)
theorem dX0_valueOf_8 : decode cX0_valueOf 8 = .ok (.aaload, 1) := dk_50 (dk_at dksX0_valueOf_0 8 rfl rfl)
theorem dX0_valueOf_9 : decode cX0_valueOf 9 = .ok (.ifnonnull 5, 3) := dk_199 0 5 (dk_at dksX0_valueOf_0 9 rfl rfl)
theorem dX0_valueOf_12 : decode cX0_valueOf 12 = .ok (.iconst 0, 1) := dk_3 (dk_at dksX0_valueOf_0 12 rfl rfl)
theorem dX0_valueOf_13 : decode cX0_valueOf 13 = .ok (.ireturn, 1) := dk_172 (dk_at dksX0_valueOf_0 13 rfl rfl)
theorem dX0_valueOf_14 : decode cX0_valueOf 14 = .ok (.aload_n 0, 1) := dk_42 (dk_at dksX0_valueOf_0 14 rfl rfl)
theorem dX0_valueOf_15 : decode cX0_valueOf 15 = .ok (.getfield 61, 3) := dk_180 0 61 (dk_at dksX0_valueOf_0 15 rfl rfl)
theorem dX0_valueOf_18 : decode cX0_valueOf 18 = .ok (.iconst 0, 1) := dk_3 (dk_at dksX0_valueOf_0 18 rfl rfl)
theorem dX0_valueOf_19 : decode cX0_valueOf 19 = .ok (.iload_n 1, 1) := dk_27 (dk_at dksX0_valueOf_0 19 rfl rfl)
theorem dX0_valueOf_20 : decode cX0_valueOf 20 = .ok (.iastore, 1) := dk_79 (dk_at dksX0_valueOf_0 20 rfl rfl)
theorem dX0_valueOf_21 : decode cX0_valueOf 21 = .ok (.aload_n 0, 1) := dk_42 (dk_at dksX0_valueOf_0 21 rfl rfl)
theorem dX0_valueOf_22 : decode cX0_valueOf 22 = .ok (.getfield 61, 3) := dk_180 0 61 (dk_at dksX0_valueOf_1 0 rfl rfl)
theorem dX0_valueOf_25 : decode cX0_valueOf 25 = .ok (.iconst 1, 1) := dk_4 (dk_at dksX0_valueOf_1 3 rfl rfl)
theorem dX0_valueOf_26 : decode cX0_valueOf 26 = .ok (.aload_n 0, 1) := dk_42 (dk_at dksX0_valueOf_1 4 rfl rfl)
theorem dX0_valueOf_27 : decode cX0_valueOf 27 = .ok (.getfield 76, 3) := dk_180 0 76 (dk_at dksX0_valueOf_1 5 rfl rfl)
theorem dX0_valueOf_30 : decode cX0_valueOf 30 = .ok (.getfield 133, 3) := dk_180 0 133 (dk_at dksX0_valueOf_1 8 rfl rfl)
theorem dX0_valueOf_33 : decode cX0_valueOf 33 = .ok (.iload_n 1, 1) := dk_27 (dk_at dksX0_valueOf_1 11 rfl rfl)
theorem dX0_valueOf_34 : decode cX0_valueOf 34 = .ok (.iaload, 1) := dk_46 (dk_at dksX0_valueOf_1 12 rfl rfl)
theorem dX0_valueOf_35 : decode cX0_valueOf 35 = .ok (.iastore, 1) := dk_79 (dk_at dksX0_valueOf_1 13 rfl rfl)
theorem dX0_valueOf_36 : decode cX0_valueOf 36 = .ok (.aload_n 0, 1) := dk_42 (dk_at dksX0_valueOf_1 14 rfl rfl)
theorem dX0_valueOf_37 : decode cX0_valueOf 37 = .ok (.getfield 61, 3) := dk_180 0 61 (dk_at dksX0_valueOf_1 15 rfl rfl)
theorem dX0_valueOf_40 : decode cX0_valueOf 40 = .ok (.iconst 2, 1) := dk_5 (dk_at dksX0_valueOf_1 18 rfl rfl)
theorem dX0_valueOf_41 : decode cX0_valueOf 41 = .ok (.aload_n 0, 1) := dk_42 (dk_at dksX0_valueOf_1 19 rfl rfl)
theorem dX0_valueOf_42 : decode cX0_valueOf 42 = .ok (.getfield 76, 3) := dk_180 0 76 (dk_at dksX0_valueOf_1 20 rfl rfl)
theorem dX0_valueOf_45 : decode cX0_valueOf 45 = .ok (.getfield 136, 3) := dk_180 0 136 (dk_at dksX0_valueOf_2 0 rfl rfl)
theorem dX0_valueOf_48 : decode cX0_valueOf 48 = .ok (.iload_n 1, 1) := dk_27 (dk_at dksX0_valueOf_2 3 rfl rfl)
theorem dX0_valueOf_49 : decode cX0_valueOf 49 = .ok (.iaload, 1) := dk_46 (dk_at dksX0_valueOf_2 4 rfl rfl)
theorem dX0_valueOf_50 : decode cX0_valueOf 50 = .ok (.iastore, 1) := dk_79 (dk_at dksX0_valueOf_2 5 rfl rfl)
theorem dX0_valueOf_51 : decode cX0_valueOf 51 = .ok (.aload_n 0, 1) := dk_42 (dk_at dksX0_valueOf_2 6 rfl rfl)
theorem dX0_valueOf_52 : decode cX0_valueOf 52 = .ok (.aload_n 0, 1) := dk_42 (dk_at dksX0_valueOf_2 7 rfl rfl)
theorem dX0_valueOf_53 : decode cX0_valueOf 53 = .ok (.getfield 76, 3) := dk_180 0 76 (dk_at dksX0_valueOf_2 8 rfl rfl)
theorem dX0_valueOf_56 : decode cX0_valueOf 56 = .ok (.getfield 129, 3) := dk_180 0 129 (dk_at dksX0_valueOf_2 11 rfl rfl)
theorem dX0_valueOf_59 : decode cX0_valueOf 59 = .ok (.iconst 1, 1) := dk_4 (dk_at dksX0_valueOf_2 14 rfl rfl)
theorem dX0_valueOf_60 : decode cX0_valueOf 60 = .ok (.aaload, 1) := dk_50 (dk_at dksX0_valueOf_2 15 rfl rfl)
theorem dX0_valueOf_61 : decode cX0_valueOf 61 = .ok (.invokevirtual 139, 3) := dk_182 0 139 (dk_at dksX0_valueOf_2 16 rfl rfl)
theorem dX0_valueOf_64 : decode cX0_valueOf 64 = .ok (.iconst 0, 1) := dk_3 (dk_at dksX0_valueOf_2 19 rfl rfl)
theorem dX0_valueOf_65 : decode cX0_valueOf 65 = .ok (.bipush 99, 2) := dk_16 99 (dk_at dksX0_valueOf_2 20 rfl rfl)
theorem dX0_valueOf_67 : decode cX0_valueOf 67 = .ok (.invokestatic 143, 3) := dk_184 0 143 (dk_at dksX0_valueOf_3 0 rfl rfl)
theorem dX0_valueOf_70 : decode cX0_valueOf 70 = .ok (.ireturn, 1) := dk_172 (dk_at dksX0_valueOf_3 3 rfl rfl)
abbrev cX0_worked : ByteArray := prog_1_method_9_code
def yX0_worked : MethodName := ⟨RX0, "worked", "(LFigureTill$Text;)I"⟩
def dkwX0_worked_6 : List UInt8 := [180, 0, 53, 3, 46, 172]
abbrev dktX0_worked_6 : List UInt8 := dkwX0_worked_6 ++ []
def dkwX0_worked_5 : List UInt8 := [180, 0, 53, 28, 4, 100, 46, 42, 180, 0, 53, 28, 46, 184, 0, 64, 79, 132, 3, 1, 167, 255, 124, 42]
abbrev dktX0_worked_5 : List UInt8 := dkwX0_worked_5 ++ dktX0_worked_6
def dkwX0_worked_4 : List UInt8 := [4, 167, 0, 4, 3, 79, 167, 0, 33, 132, 2, 255, 42, 180, 0, 53, 28, 4, 100, 21, 4, 42]
abbrev dktX0_worked_4 : List UInt8 := dkwX0_worked_4 ++ dktX0_worked_5
def dkwX0_worked_3 : List UInt8 := [21, 4, 6, 160, 0, 30, 42, 180, 0, 53, 28, 4, 100, 42, 180, 0, 53, 28, 4, 100, 46, 154, 0, 7]
abbrev dktX0_worked_3 : List UInt8 := dkwX0_worked_3 ++ dktX0_worked_4
def dkwX0_worked_2 : List UInt8 := [29, 53, 167, 0, 14, 42, 180, 0, 61, 43, 180, 0, 57, 29, 53, 46, 79, 132, 2, 1, 167, 0, 66]
abbrev dktX0_worked_2 : List UInt8 := dkwX0_worked_2 ++ dktX0_worked_3
def dkwX0_worked_1 : List UInt8 := [159, 0, 9, 21, 4, 5, 160, 0, 41, 42, 180, 0, 53, 28, 21, 4, 4, 160, 0, 12, 43, 180, 0, 57]
abbrev dktX0_worked_1 : List UInt8 := dkwX0_worked_1 ++ dktX0_worked_2
def dkwX0_worked_0 : List UInt8 := [3, 61, 3, 62, 29, 43, 180, 0, 43, 162, 0, 130, 43, 180, 0, 49, 29, 51, 54, 4, 21, 4, 4]
abbrev dktX0_worked_0 : List UInt8 := dkwX0_worked_0 ++ dktX0_worked_1
theorem dksX0_worked_0 : cX0_worked.data.toList.drop 0 = dktX0_worked_0 := by decide +kernel
theorem dksX0_worked_1 : cX0_worked.data.toList.drop 23 = dktX0_worked_1 := dk_seg dksX0_worked_0 23 rfl rfl
theorem dksX0_worked_2 : cX0_worked.data.toList.drop 47 = dktX0_worked_2 := dk_seg dksX0_worked_1 24 rfl rfl
theorem dksX0_worked_3 : cX0_worked.data.toList.drop 70 = dktX0_worked_3 := dk_seg dksX0_worked_2 23 rfl rfl
theorem dksX0_worked_4 : cX0_worked.data.toList.drop 94 = dktX0_worked_4 := dk_seg dksX0_worked_3 24 rfl rfl
theorem dksX0_worked_5 : cX0_worked.data.toList.drop 116 = dktX0_worked_5 := dk_seg dksX0_worked_4 22 rfl rfl
theorem dksX0_worked_6 : cX0_worked.data.toList.drop 140 = dktX0_worked_6 := dk_seg dksX0_worked_5 24 rfl rfl
theorem dX0_worked_0 : decode cX0_worked 0 = .ok (.iconst 0, 1) := dk_3 (dk_at dksX0_worked_0 0 rfl rfl)
theorem dX0_worked_1 : decode cX0_worked 1 = .ok (.istore_n 2, 1) := dk_61 (dk_at dksX0_worked_0 1 rfl rfl)
theorem dX0_worked_2 : decode cX0_worked 2 = .ok (.iconst 0, 1) := dk_3 (dk_at dksX0_worked_0 2 rfl rfl)
theorem dX0_worked_3 : decode cX0_worked 3 = .ok (.istore_n 3, 1) := dk_62 (dk_at dksX0_worked_0 3 rfl rfl)
theorem dX0_worked_4 : decode cX0_worked 4 = .ok (.iload_n 3, 1) := dk_29 (dk_at dksX0_worked_0 4 rfl rfl)
theorem dX0_worked_5 : decode cX0_worked 5 = .ok (.aload_n 1, 1) := dk_43 (dk_at dksX0_worked_0 5 rfl rfl)
theorem dX0_worked_6 : decode cX0_worked 6 = .ok (.getfield 43, 3) := dk_180 0 43 (dk_at dksX0_worked_0 6 rfl rfl)
theorem dX0_worked_9 : decode cX0_worked 9 = .ok (.if_icmp .ge 130, 3) := dk_162 0 130 (dk_at dksX0_worked_0 9 rfl rfl)
theorem dX0_worked_12 : decode cX0_worked 12 = .ok (.aload_n 1, 1) := dk_43 (dk_at dksX0_worked_0 12 rfl rfl)
theorem dX0_worked_13 : decode cX0_worked 13 = .ok (.getfield 49, 3) := dk_180 0 49 (dk_at dksX0_worked_0 13 rfl rfl)
theorem dX0_worked_16 : decode cX0_worked 16 = .ok (.iload_n 3, 1) := dk_29 (dk_at dksX0_worked_0 16 rfl rfl)
theorem dX0_worked_17 : decode cX0_worked 17 = .ok (.baload, 1) := dk_51 (dk_at dksX0_worked_0 17 rfl rfl)
theorem dX0_worked_18 : decode cX0_worked 18 = .ok (.istore 4, 2) := dk_54 4 (dk_at dksX0_worked_0 18 rfl rfl)
theorem dX0_worked_20 : decode cX0_worked 20 = .ok (.iload 4, 2) := dk_21 4 (dk_at dksX0_worked_0 20 rfl rfl)
theorem dX0_worked_22 : decode cX0_worked 22 = .ok (.iconst 1, 1) := dk_4 (dk_at dksX0_worked_0 22 rfl rfl)
theorem dX0_worked_23 : decode cX0_worked 23 = .ok (.if_icmp .eq 9, 3) := dk_159 0 9 (dk_at dksX0_worked_1 0 rfl rfl)
theorem dX0_worked_26 : decode cX0_worked 26 = .ok (.iload 4, 2) := dk_21 4 (dk_at dksX0_worked_1 3 rfl rfl)
theorem dX0_worked_28 : decode cX0_worked 28 = .ok (.iconst 2, 1) := dk_5 (dk_at dksX0_worked_1 5 rfl rfl)
theorem dX0_worked_29 : decode cX0_worked 29 = .ok (.if_icmp .ne 41, 3) := dk_160 0 41 (dk_at dksX0_worked_1 6 rfl rfl)
theorem dX0_worked_32 : decode cX0_worked 32 = .ok (.aload_n 0, 1) := dk_42 (dk_at dksX0_worked_1 9 rfl rfl)
theorem dX0_worked_33 : decode cX0_worked 33 = .ok (.getfield 53, 3) := dk_180 0 53 (dk_at dksX0_worked_1 10 rfl rfl)
theorem dX0_worked_36 : decode cX0_worked 36 = .ok (.iload_n 2, 1) := dk_28 (dk_at dksX0_worked_1 13 rfl rfl)
theorem dX0_worked_37 : decode cX0_worked 37 = .ok (.iload 4, 2) := dk_21 4 (dk_at dksX0_worked_1 14 rfl rfl)
theorem dX0_worked_39 : decode cX0_worked 39 = .ok (.iconst 1, 1) := dk_4 (dk_at dksX0_worked_1 16 rfl rfl)
theorem dX0_worked_40 : decode cX0_worked 40 = .ok (.if_icmp .ne 12, 3) := dk_160 0 12 (dk_at dksX0_worked_1 17 rfl rfl)
theorem dX0_worked_43 : decode cX0_worked 43 = .ok (.aload_n 1, 1) := dk_43 (dk_at dksX0_worked_1 20 rfl rfl)
theorem dX0_worked_44 : decode cX0_worked 44 = .ok (.getfield 57, 3) := dk_180 0 57 (dk_at dksX0_worked_1 21 rfl rfl)
theorem dX0_worked_47 : decode cX0_worked 47 = .ok (.iload_n 3, 1) := dk_29 (dk_at dksX0_worked_2 0 rfl rfl)
theorem dX0_worked_48 : decode cX0_worked 48 = .ok (.saload, 1) := dk_53 (dk_at dksX0_worked_2 1 rfl rfl)
theorem dX0_worked_49 : decode cX0_worked 49 = .ok (.goto 14, 3) := dk_167 0 14 (dk_at dksX0_worked_2 2 rfl rfl)
theorem dX0_worked_52 : decode cX0_worked 52 = .ok (.aload_n 0, 1) := dk_42 (dk_at dksX0_worked_2 5 rfl rfl)
theorem dX0_worked_53 : decode cX0_worked 53 = .ok (.getfield 61, 3) := dk_180 0 61 (dk_at dksX0_worked_2 6 rfl rfl)
theorem dX0_worked_56 : decode cX0_worked 56 = .ok (.aload_n 1, 1) := dk_43 (dk_at dksX0_worked_2 9 rfl rfl)
theorem dX0_worked_57 : decode cX0_worked 57 = .ok (.getfield 57, 3) := dk_180 0 57 (dk_at dksX0_worked_2 10 rfl rfl)
theorem dX0_worked_60 : decode cX0_worked 60 = .ok (.iload_n 3, 1) := dk_29 (dk_at dksX0_worked_2 13 rfl rfl)
theorem dX0_worked_61 : decode cX0_worked 61 = .ok (.saload, 1) := dk_53 (dk_at dksX0_worked_2 14 rfl rfl)
theorem dX0_worked_62 : decode cX0_worked 62 = .ok (.iaload, 1) := dk_46 (dk_at dksX0_worked_2 15 rfl rfl)
theorem dX0_worked_63 : decode cX0_worked 63 = .ok (.iastore, 1) := dk_79 (dk_at dksX0_worked_2 16 rfl rfl)
theorem dX0_worked_64 : decode cX0_worked 64 = .ok (.iinc 2 1, 3) := dk_132 2 1 (dk_at dksX0_worked_2 17 rfl rfl)
theorem dX0_worked_67 : decode cX0_worked 67 = .ok (.goto 66, 3) := dk_167 0 66 (dk_at dksX0_worked_2 20 rfl rfl)
theorem dX0_worked_70 : decode cX0_worked 70 = .ok (.iload 4, 2) := dk_21 4 (dk_at dksX0_worked_3 0 rfl rfl)
theorem dX0_worked_72 : decode cX0_worked 72 = .ok (.iconst 3, 1) := dk_6 (dk_at dksX0_worked_3 2 rfl rfl)
theorem dX0_worked_73 : decode cX0_worked 73 = .ok (.if_icmp .ne 30, 3) := dk_160 0 30 (dk_at dksX0_worked_3 3 rfl rfl)
theorem dX0_worked_76 : decode cX0_worked 76 = .ok (.aload_n 0, 1) := dk_42 (dk_at dksX0_worked_3 6 rfl rfl)
theorem dX0_worked_77 : decode cX0_worked 77 = .ok (.getfield 53, 3) := dk_180 0 53 (dk_at dksX0_worked_3 7 rfl rfl)
theorem dX0_worked_80 : decode cX0_worked 80 = .ok (.iload_n 2, 1) := dk_28 (dk_at dksX0_worked_3 10 rfl rfl)
theorem dX0_worked_81 : decode cX0_worked 81 = .ok (.iconst 1, 1) := dk_4 (dk_at dksX0_worked_3 11 rfl rfl)
theorem dX0_worked_82 : decode cX0_worked 82 = .ok (.isub, 1) := dk_100 (dk_at dksX0_worked_3 12 rfl rfl)
theorem dX0_worked_83 : decode cX0_worked 83 = .ok (.aload_n 0, 1) := dk_42 (dk_at dksX0_worked_3 13 rfl rfl)
theorem dX0_worked_84 : decode cX0_worked 84 = .ok (.getfield 53, 3) := dk_180 0 53 (dk_at dksX0_worked_3 14 rfl rfl)
theorem dX0_worked_87 : decode cX0_worked 87 = .ok (.iload_n 2, 1) := dk_28 (dk_at dksX0_worked_3 17 rfl rfl)
theorem dX0_worked_88 : decode cX0_worked 88 = .ok (.iconst 1, 1) := dk_4 (dk_at dksX0_worked_3 18 rfl rfl)
theorem dX0_worked_89 : decode cX0_worked 89 = .ok (.isub, 1) := dk_100 (dk_at dksX0_worked_3 19 rfl rfl)
theorem dX0_worked_90 : decode cX0_worked 90 = .ok (.iaload, 1) := dk_46 (dk_at dksX0_worked_3 20 rfl rfl)
theorem dX0_worked_91 : decode cX0_worked 91 = .ok (.ifCond .ne 7, 3) := dk_154 0 7 (dk_at dksX0_worked_3 21 rfl rfl)
theorem dX0_worked_94 : decode cX0_worked 94 = .ok (.iconst 1, 1) := dk_4 (dk_at dksX0_worked_4 0 rfl rfl)
theorem dX0_worked_95 : decode cX0_worked 95 = .ok (.goto 4, 3) := dk_167 0 4 (dk_at dksX0_worked_4 1 rfl rfl)
theorem dX0_worked_98 : decode cX0_worked 98 = .ok (.iconst 0, 1) := dk_3 (dk_at dksX0_worked_4 4 rfl rfl)
theorem dX0_worked_99 : decode cX0_worked 99 = .ok (.iastore, 1) := dk_79 (dk_at dksX0_worked_4 5 rfl rfl)
theorem dX0_worked_100 : decode cX0_worked 100 = .ok (.goto 33, 3) := dk_167 0 33 (dk_at dksX0_worked_4 6 rfl rfl)
theorem dX0_worked_103 : decode cX0_worked 103 = .ok (.iinc 2 (-1), 3) := dk_132 2 255 (dk_at dksX0_worked_4 9 rfl rfl)
theorem dX0_worked_106 : decode cX0_worked 106 = .ok (.aload_n 0, 1) := dk_42 (dk_at dksX0_worked_4 12 rfl rfl)
theorem dX0_worked_107 : decode cX0_worked 107 = .ok (.getfield 53, 3) := dk_180 0 53 (dk_at dksX0_worked_4 13 rfl rfl)
theorem dX0_worked_110 : decode cX0_worked 110 = .ok (.iload_n 2, 1) := dk_28 (dk_at dksX0_worked_4 16 rfl rfl)
theorem dX0_worked_111 : decode cX0_worked 111 = .ok (.iconst 1, 1) := dk_4 (dk_at dksX0_worked_4 17 rfl rfl)
theorem dX0_worked_112 : decode cX0_worked 112 = .ok (.isub, 1) := dk_100 (dk_at dksX0_worked_4 18 rfl rfl)
theorem dX0_worked_113 : decode cX0_worked 113 = .ok (.iload 4, 2) := dk_21 4 (dk_at dksX0_worked_4 19 rfl rfl)
theorem dX0_worked_115 : decode cX0_worked 115 = .ok (.aload_n 0, 1) := dk_42 (dk_at dksX0_worked_4 21 rfl rfl)
theorem dX0_worked_116 : decode cX0_worked 116 = .ok (.getfield 53, 3) := dk_180 0 53 (dk_at dksX0_worked_5 0 rfl rfl)
theorem dX0_worked_119 : decode cX0_worked 119 = .ok (.iload_n 2, 1) := dk_28 (dk_at dksX0_worked_5 3 rfl rfl)
theorem dX0_worked_120 : decode cX0_worked 120 = .ok (.iconst 1, 1) := dk_4 (dk_at dksX0_worked_5 4 rfl rfl)
theorem dX0_worked_121 : decode cX0_worked 121 = .ok (.isub, 1) := dk_100 (dk_at dksX0_worked_5 5 rfl rfl)
theorem dX0_worked_122 : decode cX0_worked 122 = .ok (.iaload, 1) := dk_46 (dk_at dksX0_worked_5 6 rfl rfl)
theorem dX0_worked_123 : decode cX0_worked 123 = .ok (.aload_n 0, 1) := dk_42 (dk_at dksX0_worked_5 7 rfl rfl)
theorem dX0_worked_124 : decode cX0_worked 124 = .ok (.getfield 53, 3) := dk_180 0 53 (dk_at dksX0_worked_5 8 rfl rfl)
theorem dX0_worked_127 : decode cX0_worked 127 = .ok (.iload_n 2, 1) := dk_28 (dk_at dksX0_worked_5 11 rfl rfl)
theorem dX0_worked_128 : decode cX0_worked 128 = .ok (.iaload, 1) := dk_46 (dk_at dksX0_worked_5 12 rfl rfl)
theorem dX0_worked_129 : decode cX0_worked 129 = .ok (.invokestatic 64, 3) := dk_184 0 64 (dk_at dksX0_worked_5 13 rfl rfl)
theorem dX0_worked_132 : decode cX0_worked 132 = .ok (.iastore, 1) := dk_79 (dk_at dksX0_worked_5 16 rfl rfl)
theorem dX0_worked_133 : decode cX0_worked 133 = .ok (.iinc 3 1, 3) := dk_132 3 1 (dk_at dksX0_worked_5 17 rfl rfl)
theorem dX0_worked_136 : decode cX0_worked 136 = .ok (.goto (-132), 3) := dk_167 255 124 (dk_at dksX0_worked_5 20 rfl rfl)
theorem dX0_worked_139 : decode cX0_worked 139 = .ok (.aload_n 0, 1) := dk_42 (dk_at dksX0_worked_5 23 rfl rfl)
theorem dX0_worked_140 : decode cX0_worked 140 = .ok (.getfield 53, 3) := dk_180 0 53 (dk_at dksX0_worked_6 0 rfl rfl)
theorem dX0_worked_143 : decode cX0_worked 143 = .ok (.iconst 0, 1) := dk_3 (dk_at dksX0_worked_6 3 rfl rfl)
theorem dX0_worked_144 : decode cX0_worked 144 = .ok (.iaload, 1) := dk_46 (dk_at dksX0_worked_6 4 rfl rfl)
theorem dX0_worked_145 : decode cX0_worked 145 = .ok (.ireturn, 1) := dk_172 (dk_at dksX0_worked_6 5 rfl rfl)
abbrev cX0_both : ByteArray := prog_1_method_8_code
def yX0_both : MethodName := ⟨RX0, "both", "(III)I"⟩
def dkwX0_both_6 : List UInt8 := [167, 0, 4, 3, 172]
abbrev dktX0_both_6 : List UInt8 := dkwX0_both_6 ++ []
def dkwX0_both_5 : List UInt8 := [153, 0, 11, 28, 153, 0, 7, 4, 167, 0, 4, 3, 172, 27, 154, 0, 7, 28, 153, 0, 7, 4]
abbrev dktX0_both_5 : List UInt8 := dkwX0_both_5 ++ dktX0_both_6
def dkwX0_both_4 : List UInt8 := [28, 160, 0, 7, 4, 167, 0, 4, 3, 172, 27, 28, 164, 0, 7, 4, 167, 0, 4, 3, 172, 27]
abbrev dktX0_both_4 : List UInt8 := dkwX0_both_4 ++ dktX0_both_5
def dkwX0_both_3 : List UInt8 := [28, 154, 0, 7, 3, 167, 0, 6, 27, 28, 112, 172, 27, 28, 162, 0, 7, 4, 167, 0, 4, 3, 172, 27]
abbrev dktX0_both_3 : List UInt8 := dkwX0_both_3 ++ dktX0_both_4
def dkwX0_both_2 : List UInt8 := [27, 28, 96, 172, 27, 28, 100, 172, 27, 28, 104, 172, 28, 154, 0, 7, 3, 167, 0, 6, 27, 28, 108, 172]
abbrev dktX0_both_2 : List UInt8 := dkwX0_both_2 ++ dktX0_both_3
def dkwX0_both_1 : List UInt8 := [170, 0, 0, 0, 0, 0, 202, 0, 0, 0, 37, 0, 0, 0, 62, 0, 0, 0, 143, 0, 0, 0, 188, 0, 0, 0, 202, 0, 0, 0, 202, 0, 0, 0, 202, 0, 0, 0, 127, 0, 0, 0, 119, 0, 0, 0, 202, 0, 0, 0, 123, 0, 0, 0, 202, 0, 0, 0, 131, 0, 0, 0, 202, 0, 0, 0, 202, 0, 0, 0, 202, 0, 0, 0, 202, 0, 0, 0, 202, 0, 0, 0, 202, 0, 0, 0, 202, 0, 0, 0, 202, 0, 0, 0, 202, 0, 0, 0, 202, 0, 0, 0, 202, 0, 0, 0, 202, 0, 0, 0, 155, 0, 0, 0, 166, 0, 0, 0, 177]
abbrev dktX0_both_1 : List UInt8 := dkwX0_both_1 ++ dktX0_both_2
def dkwX0_both_0 : List UInt8 := [26]
abbrev dktX0_both_0 : List UInt8 := dkwX0_both_0 ++ dktX0_both_1
theorem dksX0_both_0 : cX0_both.data.toList.drop 0 = dktX0_both_0 := by decide +kernel
theorem dksX0_both_1 : cX0_both.data.toList.drop 1 = dktX0_both_1 := dk_seg dksX0_both_0 1 rfl rfl
theorem dksX0_both_2 : cX0_both.data.toList.drop 120 = dktX0_both_2 := dk_seg dksX0_both_1 119 rfl rfl
theorem dksX0_both_3 : cX0_both.data.toList.drop 144 = dktX0_both_3 := dk_seg dksX0_both_2 24 rfl rfl
theorem dksX0_both_4 : cX0_both.data.toList.drop 168 = dktX0_both_4 := dk_seg dksX0_both_3 24 rfl rfl
theorem dksX0_both_5 : cX0_both.data.toList.drop 190 = dktX0_both_5 := dk_seg dksX0_both_4 22 rfl rfl
theorem dksX0_both_6 : cX0_both.data.toList.drop 212 = dktX0_both_6 := dk_seg dksX0_both_5 22 rfl rfl
theorem dX0_both_0 : decode cX0_both 0 = .ok (.iload_n 0, 1) := dk_26 (dk_at dksX0_both_0 0 rfl rfl)
theorem dX0_both_1 : decode cX0_both 1 = .ok (.tableswitch 202 37 62 #[143, 188, 202, 202, 202, 127, 119, 202, 123, 202, 131, 202, 202, 202, 202, 202, 202, 202, 202, 202, 202, 202, 202, 155, 166, 177], 119) := by decide +kernel
theorem dX0_both_120 : decode cX0_both 120 = .ok (.iload_n 1, 1) := dk_27 (dk_at dksX0_both_2 0 rfl rfl)
theorem dX0_both_121 : decode cX0_both 121 = .ok (.iload_n 2, 1) := dk_28 (dk_at dksX0_both_2 1 rfl rfl)
theorem dX0_both_122 : decode cX0_both 122 = .ok (.iadd, 1) := dk_96 (dk_at dksX0_both_2 2 rfl rfl)
theorem dX0_both_123 : decode cX0_both 123 = .ok (.ireturn, 1) := dk_172 (dk_at dksX0_both_2 3 rfl rfl)
theorem dX0_both_124 : decode cX0_both 124 = .ok (.iload_n 1, 1) := dk_27 (dk_at dksX0_both_2 4 rfl rfl)
theorem dX0_both_125 : decode cX0_both 125 = .ok (.iload_n 2, 1) := dk_28 (dk_at dksX0_both_2 5 rfl rfl)
theorem dX0_both_126 : decode cX0_both 126 = .ok (.isub, 1) := dk_100 (dk_at dksX0_both_2 6 rfl rfl)
theorem dX0_both_127 : decode cX0_both 127 = .ok (.ireturn, 1) := dk_172 (dk_at dksX0_both_2 7 rfl rfl)
theorem dX0_both_128 : decode cX0_both 128 = .ok (.iload_n 1, 1) := dk_27 (dk_at dksX0_both_2 8 rfl rfl)
theorem dX0_both_129 : decode cX0_both 129 = .ok (.iload_n 2, 1) := dk_28 (dk_at dksX0_both_2 9 rfl rfl)
theorem dX0_both_130 : decode cX0_both 130 = .ok (.imul, 1) := dk_104 (dk_at dksX0_both_2 10 rfl rfl)
theorem dX0_both_131 : decode cX0_both 131 = .ok (.ireturn, 1) := dk_172 (dk_at dksX0_both_2 11 rfl rfl)
theorem dX0_both_132 : decode cX0_both 132 = .ok (.iload_n 2, 1) := dk_28 (dk_at dksX0_both_2 12 rfl rfl)
theorem dX0_both_133 : decode cX0_both 133 = .ok (.ifCond .ne 7, 3) := dk_154 0 7 (dk_at dksX0_both_2 13 rfl rfl)
theorem dX0_both_136 : decode cX0_both 136 = .ok (.iconst 0, 1) := dk_3 (dk_at dksX0_both_2 16 rfl rfl)
theorem dX0_both_137 : decode cX0_both 137 = .ok (.goto 6, 3) := dk_167 0 6 (dk_at dksX0_both_2 17 rfl rfl)
theorem dX0_both_140 : decode cX0_both 140 = .ok (.iload_n 1, 1) := dk_27 (dk_at dksX0_both_2 20 rfl rfl)
theorem dX0_both_141 : decode cX0_both 141 = .ok (.iload_n 2, 1) := dk_28 (dk_at dksX0_both_2 21 rfl rfl)
theorem dX0_both_142 : decode cX0_both 142 = .ok (.idiv, 1) := dk_108 (dk_at dksX0_both_2 22 rfl rfl)
theorem dX0_both_143 : decode cX0_both 143 = .ok (.ireturn, 1) := dk_172 (dk_at dksX0_both_2 23 rfl rfl)
theorem dX0_both_144 : decode cX0_both 144 = .ok (.iload_n 2, 1) := dk_28 (dk_at dksX0_both_3 0 rfl rfl)
theorem dX0_both_145 : decode cX0_both 145 = .ok (.ifCond .ne 7, 3) := dk_154 0 7 (dk_at dksX0_both_3 1 rfl rfl)
theorem dX0_both_148 : decode cX0_both 148 = .ok (.iconst 0, 1) := dk_3 (dk_at dksX0_both_3 4 rfl rfl)
theorem dX0_both_149 : decode cX0_both 149 = .ok (.goto 6, 3) := dk_167 0 6 (dk_at dksX0_both_3 5 rfl rfl)
theorem dX0_both_152 : decode cX0_both 152 = .ok (.iload_n 1, 1) := dk_27 (dk_at dksX0_both_3 8 rfl rfl)
theorem dX0_both_153 : decode cX0_both 153 = .ok (.iload_n 2, 1) := dk_28 (dk_at dksX0_both_3 9 rfl rfl)
theorem dX0_both_154 : decode cX0_both 154 = .ok (.irem, 1) := dk_112 (dk_at dksX0_both_3 10 rfl rfl)
theorem dX0_both_155 : decode cX0_both 155 = .ok (.ireturn, 1) := dk_172 (dk_at dksX0_both_3 11 rfl rfl)
theorem dX0_both_156 : decode cX0_both 156 = .ok (.iload_n 1, 1) := dk_27 (dk_at dksX0_both_3 12 rfl rfl)
theorem dX0_both_157 : decode cX0_both 157 = .ok (.iload_n 2, 1) := dk_28 (dk_at dksX0_both_3 13 rfl rfl)
theorem dX0_both_158 : decode cX0_both 158 = .ok (.if_icmp .ge 7, 3) := dk_162 0 7 (dk_at dksX0_both_3 14 rfl rfl)
theorem dX0_both_161 : decode cX0_both 161 = .ok (.iconst 1, 1) := dk_4 (dk_at dksX0_both_3 17 rfl rfl)
theorem dX0_both_162 : decode cX0_both 162 = .ok (.goto 4, 3) := dk_167 0 4 (dk_at dksX0_both_3 18 rfl rfl)
theorem dX0_both_165 : decode cX0_both 165 = .ok (.iconst 0, 1) := dk_3 (dk_at dksX0_both_3 21 rfl rfl)
theorem dX0_both_166 : decode cX0_both 166 = .ok (.ireturn, 1) := dk_172 (dk_at dksX0_both_3 22 rfl rfl)
theorem dX0_both_167 : decode cX0_both 167 = .ok (.iload_n 1, 1) := dk_27 (dk_at dksX0_both_3 23 rfl rfl)
theorem dX0_both_168 : decode cX0_both 168 = .ok (.iload_n 2, 1) := dk_28 (dk_at dksX0_both_4 0 rfl rfl)
theorem dX0_both_169 : decode cX0_both 169 = .ok (.if_icmp .ne 7, 3) := dk_160 0 7 (dk_at dksX0_both_4 1 rfl rfl)
theorem dX0_both_172 : decode cX0_both 172 = .ok (.iconst 1, 1) := dk_4 (dk_at dksX0_both_4 4 rfl rfl)
theorem dX0_both_173 : decode cX0_both 173 = .ok (.goto 4, 3) := dk_167 0 4 (dk_at dksX0_both_4 5 rfl rfl)
theorem dX0_both_176 : decode cX0_both 176 = .ok (.iconst 0, 1) := dk_3 (dk_at dksX0_both_4 8 rfl rfl)
theorem dX0_both_177 : decode cX0_both 177 = .ok (.ireturn, 1) := dk_172 (dk_at dksX0_both_4 9 rfl rfl)
theorem dX0_both_178 : decode cX0_both 178 = .ok (.iload_n 1, 1) := dk_27 (dk_at dksX0_both_4 10 rfl rfl)
theorem dX0_both_179 : decode cX0_both 179 = .ok (.iload_n 2, 1) := dk_28 (dk_at dksX0_both_4 11 rfl rfl)
theorem dX0_both_180 : decode cX0_both 180 = .ok (.if_icmp .le 7, 3) := dk_164 0 7 (dk_at dksX0_both_4 12 rfl rfl)
theorem dX0_both_183 : decode cX0_both 183 = .ok (.iconst 1, 1) := dk_4 (dk_at dksX0_both_4 15 rfl rfl)
theorem dX0_both_184 : decode cX0_both 184 = .ok (.goto 4, 3) := dk_167 0 4 (dk_at dksX0_both_4 16 rfl rfl)
theorem dX0_both_187 : decode cX0_both 187 = .ok (.iconst 0, 1) := dk_3 (dk_at dksX0_both_4 19 rfl rfl)
theorem dX0_both_188 : decode cX0_both 188 = .ok (.ireturn, 1) := dk_172 (dk_at dksX0_both_4 20 rfl rfl)
theorem dX0_both_189 : decode cX0_both 189 = .ok (.iload_n 1, 1) := dk_27 (dk_at dksX0_both_4 21 rfl rfl)
theorem dX0_both_190 : decode cX0_both 190 = .ok (.ifCond .eq 11, 3) := dk_153 0 11 (dk_at dksX0_both_5 0 rfl rfl)
theorem dX0_both_193 : decode cX0_both 193 = .ok (.iload_n 2, 1) := dk_28 (dk_at dksX0_both_5 3 rfl rfl)
theorem dX0_both_194 : decode cX0_both 194 = .ok (.ifCond .eq 7, 3) := dk_153 0 7 (dk_at dksX0_both_5 4 rfl rfl)
theorem dX0_both_197 : decode cX0_both 197 = .ok (.iconst 1, 1) := dk_4 (dk_at dksX0_both_5 7 rfl rfl)
theorem dX0_both_198 : decode cX0_both 198 = .ok (.goto 4, 3) := dk_167 0 4 (dk_at dksX0_both_5 8 rfl rfl)
theorem dX0_both_201 : decode cX0_both 201 = .ok (.iconst 0, 1) := dk_3 (dk_at dksX0_both_5 11 rfl rfl)
theorem dX0_both_202 : decode cX0_both 202 = .ok (.ireturn, 1) := dk_172 (dk_at dksX0_both_5 12 rfl rfl)
theorem dX0_both_203 : decode cX0_both 203 = .ok (.iload_n 1, 1) := dk_27 (dk_at dksX0_both_5 13 rfl rfl)
theorem dX0_both_204 : decode cX0_both 204 = .ok (.ifCond .ne 7, 3) := dk_154 0 7 (dk_at dksX0_both_5 14 rfl rfl)
theorem dX0_both_207 : decode cX0_both 207 = .ok (.iload_n 2, 1) := dk_28 (dk_at dksX0_both_5 17 rfl rfl)
theorem dX0_both_208 : decode cX0_both 208 = .ok (.ifCond .eq 7, 3) := dk_153 0 7 (dk_at dksX0_both_5 18 rfl rfl)
theorem dX0_both_211 : decode cX0_both 211 = .ok (.iconst 1, 1) := dk_4 (dk_at dksX0_both_5 21 rfl rfl)
theorem dX0_both_212 : decode cX0_both 212 = .ok (.goto 4, 3) := dk_167 0 4 (dk_at dksX0_both_6 0 rfl rfl)
theorem dX0_both_215 : decode cX0_both 215 = .ok (.iconst 0, 1) := dk_3 (dk_at dksX0_both_6 3 rfl rfl)
theorem dX0_both_216 : decode cX0_both 216 = .ok (.ireturn, 1) := dk_172 (dk_at dksX0_both_6 4 rfl rfl)
abbrev cX0_held : ByteArray := prog_1_method_2_code
def yX0_held : MethodName := ⟨RX0, "held", "(III)I"⟩
def dkwX0_held_0 : List UInt8 := [27, 28, 26, 184, 0, 1, 184, 0, 7, 172]
abbrev dktX0_held_0 : List UInt8 := dkwX0_held_0 ++ []
theorem dksX0_held_0 : cX0_held.data.toList.drop 0 = dktX0_held_0 := by decide +kernel
theorem dX0_held_0 : decode cX0_held 0 = .ok (.iload_n 1, 1) := dk_27 (dk_at dksX0_held_0 0 rfl rfl)
theorem dX0_held_1 : decode cX0_held 1 = .ok (.iload_n 2, 1) := dk_28 (dk_at dksX0_held_0 1 rfl rfl)
theorem dX0_held_2 : decode cX0_held 2 = .ok (.iload_n 0, 1) := dk_26 (dk_at dksX0_held_0 2 rfl rfl)
theorem dX0_held_3 : decode cX0_held 3 = .ok (.invokestatic 1, 3) := dk_184 0 1 (dk_at dksX0_held_0 3 rfl rfl)
theorem dX0_held_6 : decode cX0_held 6 = .ok (.invokestatic 7, 3) := dk_184 0 7 (dk_at dksX0_held_0 6 rfl rfl)
theorem dX0_held_9 : decode cX0_held 9 = .ok (.ireturn, 1) := dk_172 (dk_at dksX0_held_0 9 rfl rfl)
abbrev cX0_till : ByteArray := prog_1_method_18_code
def yX0_till : MethodName := ⟨RX0, "till", "(II)I"⟩
def dkwX0_till_3 : List UInt8 := [16, 10, 112, 184, 0, 183, 181, 0, 187, 29, 172]
abbrev dktX0_till_3 : List UInt8 := dkwX0_till_3 ++ []
def dkwX0_till_2 : List UInt8 := [182, 0, 146, 180, 0, 177, 96, 62, 42, 180, 0, 76, 180, 0, 180, 27, 50, 28, 16, 10, 108, 27, 28]
abbrev dktX0_till_2 : List UInt8 := dkwX0_till_2 ++ dktX0_till_3
def dkwX0_till_1 : List UInt8 := [182, 0, 160, 172, 16, 10, 42, 180, 0, 76, 27, 182, 0, 146, 182, 0, 173, 104, 42, 180, 0, 76, 27]
abbrev dktX0_till_1 : List UInt8 := dkwX0_till_1 ++ dktX0_till_2
def dkwX0_till_0 : List UInt8 := [27, 184, 0, 170, 153, 0, 16, 28, 155, 0, 12, 28, 16, 10, 108, 16, 6, 164, 0, 9, 42, 4]
abbrev dktX0_till_0 : List UInt8 := dkwX0_till_0 ++ dktX0_till_1
theorem dksX0_till_0 : cX0_till.data.toList.drop 0 = dktX0_till_0 := by decide +kernel
theorem dksX0_till_1 : cX0_till.data.toList.drop 22 = dktX0_till_1 := dk_seg dksX0_till_0 22 rfl rfl
theorem dksX0_till_2 : cX0_till.data.toList.drop 45 = dktX0_till_2 := dk_seg dksX0_till_1 23 rfl rfl
theorem dksX0_till_3 : cX0_till.data.toList.drop 68 = dktX0_till_3 := dk_seg dksX0_till_2 23 rfl rfl
theorem dX0_till_0 : decode cX0_till 0 = .ok (.iload_n 1, 1) := dk_27 (dk_at dksX0_till_0 0 rfl rfl)
theorem dX0_till_1 : decode cX0_till 1 = .ok (.invokestatic 170, 3) := dk_184 0 170 (dk_at dksX0_till_0 1 rfl rfl)
theorem dX0_till_4 : decode cX0_till 4 = .ok (.ifCond .eq 16, 3) := dk_153 0 16 (dk_at dksX0_till_0 4 rfl rfl)
theorem dX0_till_7 : decode cX0_till 7 = .ok (.iload_n 2, 1) := dk_28 (dk_at dksX0_till_0 7 rfl rfl)
theorem dX0_till_8 : decode cX0_till 8 = .ok (.ifCond .lt 12, 3) := dk_155 0 12 (dk_at dksX0_till_0 8 rfl rfl)
theorem dX0_till_11 : decode cX0_till 11 = .ok (.iload_n 2, 1) := dk_28 (dk_at dksX0_till_0 11 rfl rfl)
theorem dX0_till_12 : decode cX0_till 12 = .ok (.bipush 10, 2) := dk_16 10 (dk_at dksX0_till_0 12 rfl rfl)
theorem dX0_till_14 : decode cX0_till 14 = .ok (.idiv, 1) := dk_108 (dk_at dksX0_till_0 14 rfl rfl)
theorem dX0_till_15 : decode cX0_till 15 = .ok (.bipush 6, 2) := dk_16 6 (dk_at dksX0_till_0 15 rfl rfl)
theorem dX0_till_17 : decode cX0_till 17 = .ok (.if_icmp .le 9, 3) := dk_164 0 9 (dk_at dksX0_till_0 17 rfl rfl)
theorem dX0_till_20 : decode cX0_till 20 = .ok (.aload_n 0, 1) := dk_42 (dk_at dksX0_till_0 20 rfl rfl)
theorem dX0_till_21 : decode cX0_till 21 = .ok (.iconst 1, 1) := dk_4 (dk_at dksX0_till_0 21 rfl rfl)
theorem dX0_till_22 : decode cX0_till 22 = .ok (.invokevirtual 160, 3) := dk_182 0 160 (dk_at dksX0_till_1 0 rfl rfl)
theorem dX0_till_25 : decode cX0_till 25 = .ok (.ireturn, 1) := dk_172 (dk_at dksX0_till_1 3 rfl rfl)
theorem dX0_till_26 : decode cX0_till 26 = .ok (.bipush 10, 2) := dk_16 10 (dk_at dksX0_till_1 4 rfl rfl)
theorem dX0_till_28 : decode cX0_till 28 = .ok (.aload_n 0, 1) := dk_42 (dk_at dksX0_till_1 6 rfl rfl)
theorem dX0_till_29 : decode cX0_till 29 = .ok (.getfield 76, 3) := dk_180 0 76 (dk_at dksX0_till_1 7 rfl rfl)
theorem dX0_till_32 : decode cX0_till 32 = .ok (.iload_n 1, 1) := dk_27 (dk_at dksX0_till_1 10 rfl rfl)
theorem dX0_till_33 : decode cX0_till 33 = .ok (.invokevirtual 146, 3) := dk_182 0 146 (dk_at dksX0_till_1 11 rfl rfl)
theorem dX0_till_36 : decode cX0_till 36 = .ok (.invokevirtual 173, 3) := dk_182 0 173 (dk_at dksX0_till_1 14 rfl rfl)
theorem dX0_till_39 : decode cX0_till 39 = .ok (.imul, 1) := dk_104 (dk_at dksX0_till_1 17 rfl rfl)
theorem dX0_till_40 : decode cX0_till 40 = .ok (.aload_n 0, 1) := dk_42 (dk_at dksX0_till_1 18 rfl rfl)
theorem dX0_till_41 : decode cX0_till 41 = .ok (.getfield 76, 3) := dk_180 0 76 (dk_at dksX0_till_1 19 rfl rfl)
theorem dX0_till_44 : decode cX0_till 44 = .ok (.iload_n 1, 1) := dk_27 (dk_at dksX0_till_1 22 rfl rfl)
theorem dX0_till_45 : decode cX0_till 45 = .ok (.invokevirtual 146, 3) := dk_182 0 146 (dk_at dksX0_till_2 0 rfl rfl)
theorem dX0_till_48 : decode cX0_till 48 = .ok (.getfield 177, 3) := dk_180 0 177 (dk_at dksX0_till_2 3 rfl rfl)
theorem dX0_till_51 : decode cX0_till 51 = .ok (.iadd, 1) := dk_96 (dk_at dksX0_till_2 6 rfl rfl)
theorem dX0_till_52 : decode cX0_till 52 = .ok (.istore_n 3, 1) := dk_62 (dk_at dksX0_till_2 7 rfl rfl)
theorem dX0_till_53 : decode cX0_till 53 = .ok (.aload_n 0, 1) := dk_42 (dk_at dksX0_till_2 8 rfl rfl)
theorem dX0_till_54 : decode cX0_till 54 = .ok (.getfield 76, 3) := dk_180 0 76 (dk_at dksX0_till_2 9 rfl rfl)
theorem dX0_till_57 : decode cX0_till 57 = .ok (.getfield 180, 3) := dk_180 0 180 (dk_at dksX0_till_2 12 rfl rfl)
theorem dX0_till_60 : decode cX0_till 60 = .ok (.iload_n 1, 1) := dk_27 (dk_at dksX0_till_2 15 rfl rfl)
theorem dX0_till_61 : decode cX0_till 61 = .ok (.aaload, 1) := dk_50 (dk_at dksX0_till_2 16 rfl rfl)
theorem dX0_till_62 : decode cX0_till 62 = .ok (.iload_n 2, 1) := dk_28 (dk_at dksX0_till_2 17 rfl rfl)
theorem dX0_till_63 : decode cX0_till 63 = .ok (.bipush 10, 2) := dk_16 10 (dk_at dksX0_till_2 18 rfl rfl)
theorem dX0_till_65 : decode cX0_till 65 = .ok (.idiv, 1) := dk_108 (dk_at dksX0_till_2 20 rfl rfl)
theorem dX0_till_66 : decode cX0_till 66 = .ok (.iload_n 1, 1) := dk_27 (dk_at dksX0_till_2 21 rfl rfl)
theorem dX0_till_67 : decode cX0_till 67 = .ok (.iload_n 2, 1) := dk_28 (dk_at dksX0_till_2 22 rfl rfl)
theorem dX0_till_68 : decode cX0_till 68 = .ok (.bipush 10, 2) := dk_16 10 (dk_at dksX0_till_3 0 rfl rfl)
theorem dX0_till_70 : decode cX0_till 70 = .ok (.irem, 1) := dk_112 (dk_at dksX0_till_3 2 rfl rfl)
theorem dX0_till_71 : decode cX0_till 71 = .ok (.invokestatic 183, 3) := dk_184 0 183 (dk_at dksX0_till_3 3 rfl rfl)
theorem dX0_till_74 : decode cX0_till 74 = .ok (.putfield 187, 3) := dk_181 0 187 (dk_at dksX0_till_3 6 rfl rfl)
theorem dX0_till_77 : decode cX0_till 77 = .ok (.iload_n 3, 1) := dk_29 (dk_at dksX0_till_3 9 rfl rfl)
theorem dX0_till_78 : decode cX0_till 78 = .ok (.ireturn, 1) := dk_172 (dk_at dksX0_till_3 10 rfl rfl)
abbrev cX0_isTill : ByteArray := prog_1_method_13_code
def yX0_isTill : MethodName := ⟨RX0, "isTill", "(I)Z"⟩
def dkwX0_isTill_0 : List UInt8 := [26, 3, 6, 184, 0, 125, 172]
abbrev dktX0_isTill_0 : List UInt8 := dkwX0_isTill_0 ++ []
theorem dksX0_isTill_0 : cX0_isTill.data.toList.drop 0 = dktX0_isTill_0 := by decide +kernel
theorem dX0_isTill_0 : decode cX0_isTill 0 = .ok (.iload_n 0, 1) := dk_26 (dk_at dksX0_isTill_0 0 rfl rfl)
theorem dX0_isTill_1 : decode cX0_isTill 1 = .ok (.iconst 0, 1) := dk_3 (dk_at dksX0_isTill_0 1 rfl rfl)
theorem dX0_isTill_2 : decode cX0_isTill 2 = .ok (.iconst 3, 1) := dk_6 (dk_at dksX0_isTill_0 2 rfl rfl)
theorem dX0_isTill_3 : decode cX0_isTill 3 = .ok (.invokestatic 125, 3) := dk_184 0 125 (dk_at dksX0_isTill_0 3 rfl rfl)
theorem dX0_isTill_6 : decode cX0_isTill 6 = .ok (.ireturn, 1) := dk_172 (dk_at dksX0_isTill_0 6 rfl rfl)
abbrev cX0_made : ByteArray := prog_1_method_5_code
def yX0_made : MethodName := ⟨RX0, "made", "(III)LFigureTill$Till;"⟩
def dkwX0_made_4 : List UInt8 := [183, 0, 32, 176, 187, 0, 33, 89, 27, 28, 183, 0, 35, 176, 187, 0, 36, 89, 27, 28, 183, 0, 38, 176]
abbrev dktX0_made_4 : List UInt8 := dkwX0_made_4 ++ []
def dkwX0_made_3 : List UInt8 := [27, 28, 183, 0, 26, 176, 187, 0, 27, 89, 27, 28, 183, 0, 29, 176, 187, 0, 30, 89, 27, 28]
abbrev dktX0_made_3 : List UInt8 := dkwX0_made_3 ++ dktX0_made_4
def dkwX0_made_2 : List UInt8 := [187, 0, 15, 89, 27, 28, 183, 0, 17, 176, 187, 0, 21, 89, 27, 28, 183, 0, 23, 176, 187, 0, 24, 89]
abbrev dktX0_made_2 : List UInt8 := dkwX0_made_2 ++ dktX0_made_3
def dkwX0_made_1 : List UInt8 := [170, 0, 0, 0, 0, 0, 99, 0, 0, 0, 1, 0, 0, 0, 6, 0, 0, 0, 39, 0, 0, 0, 49, 0, 0, 0, 59, 0, 0, 0, 69, 0, 0, 0, 79, 0, 0, 0, 89]
abbrev dktX0_made_1 : List UInt8 := dkwX0_made_1 ++ dktX0_made_2
def dkwX0_made_0 : List UInt8 := [26]
abbrev dktX0_made_0 : List UInt8 := dkwX0_made_0 ++ dktX0_made_1
theorem dksX0_made_0 : cX0_made.data.toList.drop 0 = dktX0_made_0 := by decide +kernel
theorem dksX0_made_1 : cX0_made.data.toList.drop 1 = dktX0_made_1 := dk_seg dksX0_made_0 1 rfl rfl
theorem dksX0_made_2 : cX0_made.data.toList.drop 40 = dktX0_made_2 := dk_seg dksX0_made_1 39 rfl rfl
theorem dksX0_made_3 : cX0_made.data.toList.drop 64 = dktX0_made_3 := dk_seg dksX0_made_2 24 rfl rfl
theorem dksX0_made_4 : cX0_made.data.toList.drop 86 = dktX0_made_4 := dk_seg dksX0_made_3 22 rfl rfl
theorem dX0_made_0 : decode cX0_made 0 = .ok (.iload_n 0, 1) := dk_26 (dk_at dksX0_made_0 0 rfl rfl)
theorem dX0_made_1 : decode cX0_made 1 = .ok (.tableswitch 99 1 6 #[39, 49, 59, 69, 79, 89], 39) := by decide +kernel
theorem dX0_made_40 : decode cX0_made 40 = .ok (.new 15, 3) := dk_187 0 15 (dk_at dksX0_made_2 0 rfl rfl)
theorem dX0_made_43 : decode cX0_made 43 = .ok (.dup, 1) := dk_89 (dk_at dksX0_made_2 3 rfl rfl)
theorem dX0_made_44 : decode cX0_made 44 = .ok (.iload_n 1, 1) := dk_27 (dk_at dksX0_made_2 4 rfl rfl)
theorem dX0_made_45 : decode cX0_made 45 = .ok (.iload_n 2, 1) := dk_28 (dk_at dksX0_made_2 5 rfl rfl)
theorem dX0_made_46 : decode cX0_made 46 = .ok (.invokespecial 17, 3) := dk_183 0 17 (dk_at dksX0_made_2 6 rfl rfl)
theorem dX0_made_49 : decode cX0_made 49 = .ok (.areturn, 1) := dk_176 (dk_at dksX0_made_2 9 rfl rfl)
theorem dX0_made_50 : decode cX0_made 50 = .ok (.new 21, 3) := dk_187 0 21 (dk_at dksX0_made_2 10 rfl rfl)
theorem dX0_made_53 : decode cX0_made 53 = .ok (.dup, 1) := dk_89 (dk_at dksX0_made_2 13 rfl rfl)
theorem dX0_made_54 : decode cX0_made 54 = .ok (.iload_n 1, 1) := dk_27 (dk_at dksX0_made_2 14 rfl rfl)
theorem dX0_made_55 : decode cX0_made 55 = .ok (.iload_n 2, 1) := dk_28 (dk_at dksX0_made_2 15 rfl rfl)
theorem dX0_made_56 : decode cX0_made 56 = .ok (.invokespecial 23, 3) := dk_183 0 23 (dk_at dksX0_made_2 16 rfl rfl)
theorem dX0_made_59 : decode cX0_made 59 = .ok (.areturn, 1) := dk_176 (dk_at dksX0_made_2 19 rfl rfl)
theorem dX0_made_60 : decode cX0_made 60 = .ok (.new 24, 3) := dk_187 0 24 (dk_at dksX0_made_2 20 rfl rfl)
theorem dX0_made_63 : decode cX0_made 63 = .ok (.dup, 1) := dk_89 (dk_at dksX0_made_2 23 rfl rfl)
theorem dX0_made_64 : decode cX0_made 64 = .ok (.iload_n 1, 1) := dk_27 (dk_at dksX0_made_3 0 rfl rfl)
theorem dX0_made_65 : decode cX0_made 65 = .ok (.iload_n 2, 1) := dk_28 (dk_at dksX0_made_3 1 rfl rfl)
theorem dX0_made_66 : decode cX0_made 66 = .ok (.invokespecial 26, 3) := dk_183 0 26 (dk_at dksX0_made_3 2 rfl rfl)
theorem dX0_made_69 : decode cX0_made 69 = .ok (.areturn, 1) := dk_176 (dk_at dksX0_made_3 5 rfl rfl)
theorem dX0_made_70 : decode cX0_made 70 = .ok (.new 27, 3) := dk_187 0 27 (dk_at dksX0_made_3 6 rfl rfl)
theorem dX0_made_73 : decode cX0_made 73 = .ok (.dup, 1) := dk_89 (dk_at dksX0_made_3 9 rfl rfl)
theorem dX0_made_74 : decode cX0_made 74 = .ok (.iload_n 1, 1) := dk_27 (dk_at dksX0_made_3 10 rfl rfl)
theorem dX0_made_75 : decode cX0_made 75 = .ok (.iload_n 2, 1) := dk_28 (dk_at dksX0_made_3 11 rfl rfl)
theorem dX0_made_76 : decode cX0_made 76 = .ok (.invokespecial 29, 3) := dk_183 0 29 (dk_at dksX0_made_3 12 rfl rfl)
theorem dX0_made_79 : decode cX0_made 79 = .ok (.areturn, 1) := dk_176 (dk_at dksX0_made_3 15 rfl rfl)
theorem dX0_made_80 : decode cX0_made 80 = .ok (.new 30, 3) := dk_187 0 30 (dk_at dksX0_made_3 16 rfl rfl)
theorem dX0_made_83 : decode cX0_made 83 = .ok (.dup, 1) := dk_89 (dk_at dksX0_made_3 19 rfl rfl)
theorem dX0_made_84 : decode cX0_made 84 = .ok (.iload_n 1, 1) := dk_27 (dk_at dksX0_made_3 20 rfl rfl)
theorem dX0_made_85 : decode cX0_made 85 = .ok (.iload_n 2, 1) := dk_28 (dk_at dksX0_made_3 21 rfl rfl)
theorem dX0_made_86 : decode cX0_made 86 = .ok (.invokespecial 32, 3) := dk_183 0 32 (dk_at dksX0_made_4 0 rfl rfl)
theorem dX0_made_89 : decode cX0_made 89 = .ok (.areturn, 1) := dk_176 (dk_at dksX0_made_4 3 rfl rfl)
theorem dX0_made_90 : decode cX0_made 90 = .ok (.new 33, 3) := dk_187 0 33 (dk_at dksX0_made_4 4 rfl rfl)
theorem dX0_made_93 : decode cX0_made 93 = .ok (.dup, 1) := dk_89 (dk_at dksX0_made_4 7 rfl rfl)
theorem dX0_made_94 : decode cX0_made 94 = .ok (.iload_n 1, 1) := dk_27 (dk_at dksX0_made_4 8 rfl rfl)
theorem dX0_made_95 : decode cX0_made 95 = .ok (.iload_n 2, 1) := dk_28 (dk_at dksX0_made_4 9 rfl rfl)
theorem dX0_made_96 : decode cX0_made 96 = .ok (.invokespecial 35, 3) := dk_183 0 35 (dk_at dksX0_made_4 10 rfl rfl)
theorem dX0_made_99 : decode cX0_made 99 = .ok (.areturn, 1) := dk_176 (dk_at dksX0_made_4 13 rfl rfl)
theorem dX0_made_100 : decode cX0_made 100 = .ok (.new 36, 3) := dk_187 0 36 (dk_at dksX0_made_4 14 rfl rfl)
theorem dX0_made_103 : decode cX0_made 103 = .ok (.dup, 1) := dk_89 (dk_at dksX0_made_4 17 rfl rfl)
theorem dX0_made_104 : decode cX0_made 104 = .ok (.iload_n 1, 1) := dk_27 (dk_at dksX0_made_4 18 rfl rfl)
theorem dX0_made_105 : decode cX0_made 105 = .ok (.iload_n 2, 1) := dk_28 (dk_at dksX0_made_4 19 rfl rfl)
theorem dX0_made_106 : decode cX0_made 106 = .ok (.invokespecial 38, 3) := dk_183 0 38 (dk_at dksX0_made_4 20 rfl rfl)
theorem dX0_made_109 : decode cX0_made 109 = .ok (.areturn, 1) := dk_176 (dk_at dksX0_made_4 23 rfl rfl)
abbrev cX0_tillIs : ByteArray := prog_1_method_19_code
def yX0_tillIs : MethodName := ⟨RX0, "tillIs", "(II)I"⟩
def dkwX0_tillIs_2 : List UInt8 := [182, 0, 146, 180, 0, 177, 172]
abbrev dktX0_tillIs_2 : List UInt8 := dkwX0_tillIs_2 ++ []
def dkwX0_tillIs_1 : List UInt8 := [154, 0, 17, 42, 180, 0, 76, 27, 182, 0, 146, 182, 0, 173, 167, 0, 14, 42, 180, 0, 76, 27]
abbrev dktX0_tillIs_1 : List UInt8 := dkwX0_tillIs_1 ++ dktX0_tillIs_2
def dkwX0_tillIs_0 : List UInt8 := [27, 184, 0, 170, 153, 0, 12, 28, 3, 4, 184, 0, 125, 154, 0, 9, 42, 4, 182, 0, 160, 172, 28]
abbrev dktX0_tillIs_0 : List UInt8 := dkwX0_tillIs_0 ++ dktX0_tillIs_1
theorem dksX0_tillIs_0 : cX0_tillIs.data.toList.drop 0 = dktX0_tillIs_0 := by decide +kernel
theorem dksX0_tillIs_1 : cX0_tillIs.data.toList.drop 23 = dktX0_tillIs_1 := dk_seg dksX0_tillIs_0 23 rfl rfl
theorem dksX0_tillIs_2 : cX0_tillIs.data.toList.drop 45 = dktX0_tillIs_2 := dk_seg dksX0_tillIs_1 22 rfl rfl
theorem dX0_tillIs_0 : decode cX0_tillIs 0 = .ok (.iload_n 1, 1) := dk_27 (dk_at dksX0_tillIs_0 0 rfl rfl)
theorem dX0_tillIs_1 : decode cX0_tillIs 1 = .ok (.invokestatic 170, 3) := dk_184 0 170 (dk_at dksX0_tillIs_0 1 rfl rfl)
theorem dX0_tillIs_4 : decode cX0_tillIs 4 = .ok (.ifCond .eq 12, 3) := dk_153 0 12 (dk_at dksX0_tillIs_0 4 rfl rfl)
theorem dX0_tillIs_7 : decode cX0_tillIs 7 = .ok (.iload_n 2, 1) := dk_28 (dk_at dksX0_tillIs_0 7 rfl rfl)
theorem dX0_tillIs_8 : decode cX0_tillIs 8 = .ok (.iconst 0, 1) := dk_3 (dk_at dksX0_tillIs_0 8 rfl rfl)
theorem dX0_tillIs_9 : decode cX0_tillIs 9 = .ok (.iconst 1, 1) := dk_4 (dk_at dksX0_tillIs_0 9 rfl rfl)
theorem dX0_tillIs_10 : decode cX0_tillIs 10 = .ok (.invokestatic 125, 3) := dk_184 0 125 (dk_at dksX0_tillIs_0 10 rfl rfl)
theorem dX0_tillIs_13 : decode cX0_tillIs 13 = .ok (.ifCond .ne 9, 3) := dk_154 0 9 (dk_at dksX0_tillIs_0 13 rfl rfl)
theorem dX0_tillIs_16 : decode cX0_tillIs 16 = .ok (.aload_n 0, 1) := dk_42 (dk_at dksX0_tillIs_0 16 rfl rfl)
theorem dX0_tillIs_17 : decode cX0_tillIs 17 = .ok (.iconst 1, 1) := dk_4 (dk_at dksX0_tillIs_0 17 rfl rfl)
theorem dX0_tillIs_18 : decode cX0_tillIs 18 = .ok (.invokevirtual 160, 3) := dk_182 0 160 (dk_at dksX0_tillIs_0 18 rfl rfl)
theorem dX0_tillIs_21 : decode cX0_tillIs 21 = .ok (.ireturn, 1) := dk_172 (dk_at dksX0_tillIs_0 21 rfl rfl)
theorem dX0_tillIs_22 : decode cX0_tillIs 22 = .ok (.iload_n 2, 1) := dk_28 (dk_at dksX0_tillIs_0 22 rfl rfl)
theorem dX0_tillIs_23 : decode cX0_tillIs 23 = .ok (.ifCond .ne 17, 3) := dk_154 0 17 (dk_at dksX0_tillIs_1 0 rfl rfl)
theorem dX0_tillIs_26 : decode cX0_tillIs 26 = .ok (.aload_n 0, 1) := dk_42 (dk_at dksX0_tillIs_1 3 rfl rfl)
theorem dX0_tillIs_27 : decode cX0_tillIs 27 = .ok (.getfield 76, 3) := dk_180 0 76 (dk_at dksX0_tillIs_1 4 rfl rfl)
theorem dX0_tillIs_30 : decode cX0_tillIs 30 = .ok (.iload_n 1, 1) := dk_27 (dk_at dksX0_tillIs_1 7 rfl rfl)
theorem dX0_tillIs_31 : decode cX0_tillIs 31 = .ok (.invokevirtual 146, 3) := dk_182 0 146 (dk_at dksX0_tillIs_1 8 rfl rfl)
theorem dX0_tillIs_34 : decode cX0_tillIs 34 = .ok (.invokevirtual 173, 3) := dk_182 0 173 (dk_at dksX0_tillIs_1 11 rfl rfl)
theorem dX0_tillIs_37 : decode cX0_tillIs 37 = .ok (.goto 14, 3) := dk_167 0 14 (dk_at dksX0_tillIs_1 14 rfl rfl)
theorem dX0_tillIs_40 : decode cX0_tillIs 40 = .ok (.aload_n 0, 1) := dk_42 (dk_at dksX0_tillIs_1 17 rfl rfl)
theorem dX0_tillIs_41 : decode cX0_tillIs 41 = .ok (.getfield 76, 3) := dk_180 0 76 (dk_at dksX0_tillIs_1 18 rfl rfl)
theorem dX0_tillIs_44 : decode cX0_tillIs 44 = .ok (.iload_n 1, 1) := dk_27 (dk_at dksX0_tillIs_1 21 rfl rfl)
theorem dX0_tillIs_45 : decode cX0_tillIs 45 = .ok (.invokevirtual 146, 3) := dk_182 0 146 (dk_at dksX0_tillIs_2 0 rfl rfl)
theorem dX0_tillIs_48 : decode cX0_tillIs 48 = .ok (.getfield 177, 3) := dk_180 0 177 (dk_at dksX0_tillIs_2 3 rfl rfl)
theorem dX0_tillIs_51 : decode cX0_tillIs 51 = .ok (.ireturn, 1) := dk_172 (dk_at dksX0_tillIs_2 6 rfl rfl)
abbrev cX0_as : ByteArray := prog_1_method_20_code
def yX0_as : MethodName := ⟨RX0, "as", "(II)I"⟩
def dkwX0_as_2 : List UInt8 := [182, 0, 146, 180, 0, 177, 167, 0, 8, 42, 8, 182, 0, 160, 172]
abbrev dktX0_as_2 : List UInt8 := dkwX0_as_2 ++ []
def dkwX0_as_1 : List UInt8 := [180, 0, 76, 180, 0, 180, 27, 50, 180, 0, 187, 28, 184, 0, 190, 153, 0, 17, 42, 180, 0, 76, 27]
abbrev dktX0_as_1 : List UInt8 := dkwX0_as_1 ++ dktX0_as_2
def dkwX0_as_0 : List UInt8 := [27, 184, 0, 170, 153, 0, 13, 28, 3, 16, 6, 184, 0, 125, 154, 0, 9, 42, 4, 182, 0, 160, 172, 42]
abbrev dktX0_as_0 : List UInt8 := dkwX0_as_0 ++ dktX0_as_1
theorem dksX0_as_0 : cX0_as.data.toList.drop 0 = dktX0_as_0 := by decide +kernel
theorem dksX0_as_1 : cX0_as.data.toList.drop 24 = dktX0_as_1 := dk_seg dksX0_as_0 24 rfl rfl
theorem dksX0_as_2 : cX0_as.data.toList.drop 47 = dktX0_as_2 := dk_seg dksX0_as_1 23 rfl rfl
theorem dX0_as_0 : decode cX0_as 0 = .ok (.iload_n 1, 1) := dk_27 (dk_at dksX0_as_0 0 rfl rfl)
theorem dX0_as_1 : decode cX0_as 1 = .ok (.invokestatic 170, 3) := dk_184 0 170 (dk_at dksX0_as_0 1 rfl rfl)
theorem dX0_as_4 : decode cX0_as 4 = .ok (.ifCond .eq 13, 3) := dk_153 0 13 (dk_at dksX0_as_0 4 rfl rfl)
theorem dX0_as_7 : decode cX0_as 7 = .ok (.iload_n 2, 1) := dk_28 (dk_at dksX0_as_0 7 rfl rfl)
theorem dX0_as_8 : decode cX0_as 8 = .ok (.iconst 0, 1) := dk_3 (dk_at dksX0_as_0 8 rfl rfl)
theorem dX0_as_9 : decode cX0_as 9 = .ok (.bipush 6, 2) := dk_16 6 (dk_at dksX0_as_0 9 rfl rfl)
theorem dX0_as_11 : decode cX0_as 11 = .ok (.invokestatic 125, 3) := dk_184 0 125 (dk_at dksX0_as_0 11 rfl rfl)
theorem dX0_as_14 : decode cX0_as 14 = .ok (.ifCond .ne 9, 3) := dk_154 0 9 (dk_at dksX0_as_0 14 rfl rfl)
theorem dX0_as_17 : decode cX0_as 17 = .ok (.aload_n 0, 1) := dk_42 (dk_at dksX0_as_0 17 rfl rfl)
theorem dX0_as_18 : decode cX0_as 18 = .ok (.iconst 1, 1) := dk_4 (dk_at dksX0_as_0 18 rfl rfl)
theorem dX0_as_19 : decode cX0_as 19 = .ok (.invokevirtual 160, 3) := dk_182 0 160 (dk_at dksX0_as_0 19 rfl rfl)
theorem dX0_as_22 : decode cX0_as 22 = .ok (.ireturn, 1) := dk_172 (dk_at dksX0_as_0 22 rfl rfl)
theorem dX0_as_23 : decode cX0_as 23 = .ok (.aload_n 0, 1) := dk_42 (dk_at dksX0_as_0 23 rfl rfl)
theorem dX0_as_24 : decode cX0_as 24 = .ok (.getfield 76, 3) := dk_180 0 76 (dk_at dksX0_as_1 0 rfl rfl)
theorem dX0_as_27 : decode cX0_as 27 = .ok (.getfield 180, 3) := dk_180 0 180 (dk_at dksX0_as_1 3 rfl rfl)
theorem dX0_as_30 : decode cX0_as 30 = .ok (.iload_n 1, 1) := dk_27 (dk_at dksX0_as_1 6 rfl rfl)
theorem dX0_as_31 : decode cX0_as 31 = .ok (.aaload, 1) := dk_50 (dk_at dksX0_as_1 7 rfl rfl)
theorem dX0_as_32 : decode cX0_as 32 = .ok (.getfield 187, 3) := dk_180 0 187 (dk_at dksX0_as_1 8 rfl rfl)
theorem dX0_as_35 : decode cX0_as 35 = .ok (.iload_n 2, 1) := dk_28 (dk_at dksX0_as_1 11 rfl rfl)
theorem dX0_as_36 : decode cX0_as 36 = .ok (.invokestatic 190, 3) := dk_184 0 190 (dk_at dksX0_as_1 12 rfl rfl)
theorem dX0_as_39 : decode cX0_as 39 = .ok (.ifCond .eq 17, 3) := dk_153 0 17 (dk_at dksX0_as_1 15 rfl rfl)
theorem dX0_as_42 : decode cX0_as 42 = .ok (.aload_n 0, 1) := dk_42 (dk_at dksX0_as_1 18 rfl rfl)
theorem dX0_as_43 : decode cX0_as 43 = .ok (.getfield 76, 3) := dk_180 0 76 (dk_at dksX0_as_1 19 rfl rfl)
theorem dX0_as_46 : decode cX0_as 46 = .ok (.iload_n 1, 1) := dk_27 (dk_at dksX0_as_1 22 rfl rfl)
theorem dX0_as_47 : decode cX0_as 47 = .ok (.invokevirtual 146, 3) := dk_182 0 146 (dk_at dksX0_as_2 0 rfl rfl)
theorem dX0_as_50 : decode cX0_as 50 = .ok (.getfield 177, 3) := dk_180 0 177 (dk_at dksX0_as_2 3 rfl rfl)
theorem dX0_as_53 : decode cX0_as 53 = .ok (.goto 8, 3) := dk_167 0 8 (dk_at dksX0_as_2 6 rfl rfl)
theorem dX0_as_56 : decode cX0_as 56 = .ok (.aload_n 0, 1) := dk_42 (dk_at dksX0_as_2 9 rfl rfl)
theorem dX0_as_57 : decode cX0_as 57 = .ok (.iconst 5, 1) := dk_8 (dk_at dksX0_as_2 10 rfl rfl)
theorem dX0_as_58 : decode cX0_as 58 = .ok (.invokevirtual 160, 3) := dk_182 0 160 (dk_at dksX0_as_2 11 rfl rfl)
theorem dX0_as_61 : decode cX0_as 61 = .ok (.ireturn, 1) := dk_172 (dk_at dksX0_as_2 14 rfl rfl)
abbrev cX0_isOf : ByteArray := prog_1_method_6_code
def yX0_isOf : MethodName := ⟨RX0, "isOf", "(Ljava/lang/Object;I)Z"⟩
def dkwX0_isOf_3 : List UInt8 := [172, 42, 193, 0, 33, 172, 42, 193, 0, 36, 172]
abbrev dktX0_isOf_3 : List UInt8 := dkwX0_isOf_3 ++ []
def dkwX0_isOf_2 : List UInt8 := [42, 193, 0, 15, 172, 42, 193, 0, 21, 172, 42, 193, 0, 24, 172, 42, 193, 0, 27, 172, 42, 193, 0, 30]
abbrev dktX0_isOf_2 : List UInt8 := dkwX0_isOf_2 ++ dktX0_isOf_3
def dkwX0_isOf_1 : List UInt8 := [170, 0, 0, 0, 0, 0, 69, 0, 0, 0, 1, 0, 0, 0, 6, 0, 0, 0, 39, 0, 0, 0, 44, 0, 0, 0, 49, 0, 0, 0, 54, 0, 0, 0, 59, 0, 0, 0, 64]
abbrev dktX0_isOf_1 : List UInt8 := dkwX0_isOf_1 ++ dktX0_isOf_2
def dkwX0_isOf_0 : List UInt8 := [27]
abbrev dktX0_isOf_0 : List UInt8 := dkwX0_isOf_0 ++ dktX0_isOf_1
theorem dksX0_isOf_0 : cX0_isOf.data.toList.drop 0 = dktX0_isOf_0 := by decide +kernel
theorem dksX0_isOf_1 : cX0_isOf.data.toList.drop 1 = dktX0_isOf_1 := dk_seg dksX0_isOf_0 1 rfl rfl
theorem dksX0_isOf_2 : cX0_isOf.data.toList.drop 40 = dktX0_isOf_2 := dk_seg dksX0_isOf_1 39 rfl rfl
theorem dksX0_isOf_3 : cX0_isOf.data.toList.drop 64 = dktX0_isOf_3 := dk_seg dksX0_isOf_2 24 rfl rfl
theorem dX0_isOf_0 : decode cX0_isOf 0 = .ok (.iload_n 1, 1) := dk_27 (dk_at dksX0_isOf_0 0 rfl rfl)
theorem dX0_isOf_1 : decode cX0_isOf 1 = .ok (.tableswitch 69 1 6 #[39, 44, 49, 54, 59, 64], 39) := by decide +kernel
theorem dX0_isOf_40 : decode cX0_isOf 40 = .ok (.aload_n 0, 1) := dk_42 (dk_at dksX0_isOf_2 0 rfl rfl)
theorem dX0_isOf_41 : decode cX0_isOf 41 = .ok (.instanceof 15, 3) := dk_193 0 15 (dk_at dksX0_isOf_2 1 rfl rfl)
theorem dX0_isOf_44 : decode cX0_isOf 44 = .ok (.ireturn, 1) := dk_172 (dk_at dksX0_isOf_2 4 rfl rfl)
theorem dX0_isOf_45 : decode cX0_isOf 45 = .ok (.aload_n 0, 1) := dk_42 (dk_at dksX0_isOf_2 5 rfl rfl)
theorem dX0_isOf_46 : decode cX0_isOf 46 = .ok (.instanceof 21, 3) := dk_193 0 21 (dk_at dksX0_isOf_2 6 rfl rfl)
theorem dX0_isOf_49 : decode cX0_isOf 49 = .ok (.ireturn, 1) := dk_172 (dk_at dksX0_isOf_2 9 rfl rfl)
theorem dX0_isOf_50 : decode cX0_isOf 50 = .ok (.aload_n 0, 1) := dk_42 (dk_at dksX0_isOf_2 10 rfl rfl)
theorem dX0_isOf_51 : decode cX0_isOf 51 = .ok (.instanceof 24, 3) := dk_193 0 24 (dk_at dksX0_isOf_2 11 rfl rfl)
theorem dX0_isOf_54 : decode cX0_isOf 54 = .ok (.ireturn, 1) := dk_172 (dk_at dksX0_isOf_2 14 rfl rfl)
theorem dX0_isOf_55 : decode cX0_isOf 55 = .ok (.aload_n 0, 1) := dk_42 (dk_at dksX0_isOf_2 15 rfl rfl)
theorem dX0_isOf_56 : decode cX0_isOf 56 = .ok (.instanceof 27, 3) := dk_193 0 27 (dk_at dksX0_isOf_2 16 rfl rfl)
theorem dX0_isOf_59 : decode cX0_isOf 59 = .ok (.ireturn, 1) := dk_172 (dk_at dksX0_isOf_2 19 rfl rfl)
theorem dX0_isOf_60 : decode cX0_isOf 60 = .ok (.aload_n 0, 1) := dk_42 (dk_at dksX0_isOf_2 20 rfl rfl)
theorem dX0_isOf_61 : decode cX0_isOf 61 = .ok (.instanceof 30, 3) := dk_193 0 30 (dk_at dksX0_isOf_2 21 rfl rfl)
theorem dX0_isOf_64 : decode cX0_isOf 64 = .ok (.ireturn, 1) := dk_172 (dk_at dksX0_isOf_3 0 rfl rfl)
theorem dX0_isOf_65 : decode cX0_isOf 65 = .ok (.aload_n 0, 1) := dk_42 (dk_at dksX0_isOf_3 1 rfl rfl)
theorem dX0_isOf_66 : decode cX0_isOf 66 = .ok (.instanceof 33, 3) := dk_193 0 33 (dk_at dksX0_isOf_3 2 rfl rfl)
theorem dX0_isOf_69 : decode cX0_isOf 69 = .ok (.ireturn, 1) := dk_172 (dk_at dksX0_isOf_3 5 rfl rfl)
theorem dX0_isOf_70 : decode cX0_isOf 70 = .ok (.aload_n 0, 1) := dk_42 (dk_at dksX0_isOf_3 6 rfl rfl)
theorem dX0_isOf_71 : decode cX0_isOf 71 = .ok (.instanceof 36, 3) := dk_193 0 36 (dk_at dksX0_isOf_3 7 rfl rfl)
theorem dX0_isOf_74 : decode cX0_isOf 74 = .ok (.ireturn, 1) := dk_172 (dk_at dksX0_isOf_3 10 rfl rfl)
abbrev cX0_figures : ByteArray := prog_1_method_21_code
def yX0_figures : MethodName := ⟨RX0, "figures", "(II)I"⟩
def dkwX0_figures_1 : List UInt8 := [182, 0, 160, 172]
abbrev dktX0_figures_1 : List UInt8 := dkwX0_figures_1 ++ []
def dkwX0_figures_0 : List UInt8 := [27, 155, 0, 21, 28, 5, 16, 11, 184, 0, 125, 153, 0, 11, 27, 28, 184, 0, 10, 167, 0, 8, 42, 4]
abbrev dktX0_figures_0 : List UInt8 := dkwX0_figures_0 ++ dktX0_figures_1
theorem dksX0_figures_0 : cX0_figures.data.toList.drop 0 = dktX0_figures_0 := by decide +kernel
theorem dksX0_figures_1 : cX0_figures.data.toList.drop 24 = dktX0_figures_1 := dk_seg dksX0_figures_0 24 rfl rfl
theorem dX0_figures_0 : decode cX0_figures 0 = .ok (.iload_n 1, 1) := dk_27 (dk_at dksX0_figures_0 0 rfl rfl)
theorem dX0_figures_1 : decode cX0_figures 1 = .ok (.ifCond .lt 21, 3) := dk_155 0 21 (dk_at dksX0_figures_0 1 rfl rfl)
theorem dX0_figures_4 : decode cX0_figures 4 = .ok (.iload_n 2, 1) := dk_28 (dk_at dksX0_figures_0 4 rfl rfl)
theorem dX0_figures_5 : decode cX0_figures 5 = .ok (.iconst 2, 1) := dk_5 (dk_at dksX0_figures_0 5 rfl rfl)
theorem dX0_figures_6 : decode cX0_figures 6 = .ok (.bipush 11, 2) := dk_16 11 (dk_at dksX0_figures_0 6 rfl rfl)
theorem dX0_figures_8 : decode cX0_figures 8 = .ok (.invokestatic 125, 3) := dk_184 0 125 (dk_at dksX0_figures_0 8 rfl rfl)
theorem dX0_figures_11 : decode cX0_figures 11 = .ok (.ifCond .eq 11, 3) := dk_153 0 11 (dk_at dksX0_figures_0 11 rfl rfl)
theorem dX0_figures_14 : decode cX0_figures 14 = .ok (.iload_n 1, 1) := dk_27 (dk_at dksX0_figures_0 14 rfl rfl)
theorem dX0_figures_15 : decode cX0_figures 15 = .ok (.iload_n 2, 1) := dk_28 (dk_at dksX0_figures_0 15 rfl rfl)
theorem dX0_figures_16 : decode cX0_figures 16 = .ok (.invokestatic 10, 3) := dk_184 0 10 (dk_at dksX0_figures_0 16 rfl rfl)
theorem dX0_figures_19 : decode cX0_figures 19 = .ok (.goto 8, 3) := dk_167 0 8 (dk_at dksX0_figures_0 19 rfl rfl)
theorem dX0_figures_22 : decode cX0_figures 22 = .ok (.aload_n 0, 1) := dk_42 (dk_at dksX0_figures_0 22 rfl rfl)
theorem dX0_figures_23 : decode cX0_figures 23 = .ok (.iconst 1, 1) := dk_4 (dk_at dksX0_figures_0 23 rfl rfl)
theorem dX0_figures_24 : decode cX0_figures 24 = .ok (.invokevirtual 160, 3) := dk_182 0 160 (dk_at dksX0_figures_1 0 rfl rfl)
theorem dX0_figures_27 : decode cX0_figures 27 = .ok (.ireturn, 1) := dk_172 (dk_at dksX0_figures_1 3 rfl rfl)
abbrev cX0_figuresOf : ByteArray := prog_1_method_3_code
def yX0_figuresOf : MethodName := ⟨RX0, "figuresOf", "(II)I"⟩
def dkwX0_figuresOf_0 : List UInt8 := [3, 61, 26, 62, 29, 158, 0, 16, 28, 29, 27, 112, 96, 61, 29, 27, 108, 62, 167, 255, 242, 28, 172]
abbrev dktX0_figuresOf_0 : List UInt8 := dkwX0_figuresOf_0 ++ []
theorem dksX0_figuresOf_0 : cX0_figuresOf.data.toList.drop 0 = dktX0_figuresOf_0 := by decide +kernel
theorem dX0_figuresOf_0 : decode cX0_figuresOf 0 = .ok (.iconst 0, 1) := dk_3 (dk_at dksX0_figuresOf_0 0 rfl rfl)
theorem dX0_figuresOf_1 : decode cX0_figuresOf 1 = .ok (.istore_n 2, 1) := dk_61 (dk_at dksX0_figuresOf_0 1 rfl rfl)
theorem dX0_figuresOf_2 : decode cX0_figuresOf 2 = .ok (.iload_n 0, 1) := dk_26 (dk_at dksX0_figuresOf_0 2 rfl rfl)
theorem dX0_figuresOf_3 : decode cX0_figuresOf 3 = .ok (.istore_n 3, 1) := dk_62 (dk_at dksX0_figuresOf_0 3 rfl rfl)
theorem dX0_figuresOf_4 : decode cX0_figuresOf 4 = .ok (.iload_n 3, 1) := dk_29 (dk_at dksX0_figuresOf_0 4 rfl rfl)
theorem dX0_figuresOf_5 : decode cX0_figuresOf 5 = .ok (.ifCond .le 16, 3) := dk_158 0 16 (dk_at dksX0_figuresOf_0 5 rfl rfl)
theorem dX0_figuresOf_8 : decode cX0_figuresOf 8 = .ok (.iload_n 2, 1) := dk_28 (dk_at dksX0_figuresOf_0 8 rfl rfl)
theorem dX0_figuresOf_9 : decode cX0_figuresOf 9 = .ok (.iload_n 3, 1) := dk_29 (dk_at dksX0_figuresOf_0 9 rfl rfl)
theorem dX0_figuresOf_10 : decode cX0_figuresOf 10 = .ok (.iload_n 1, 1) := dk_27 (dk_at dksX0_figuresOf_0 10 rfl rfl)
theorem dX0_figuresOf_11 : decode cX0_figuresOf 11 = .ok (.irem, 1) := dk_112 (dk_at dksX0_figuresOf_0 11 rfl rfl)
theorem dX0_figuresOf_12 : decode cX0_figuresOf 12 = .ok (.iadd, 1) := dk_96 (dk_at dksX0_figuresOf_0 12 rfl rfl)
theorem dX0_figuresOf_13 : decode cX0_figuresOf 13 = .ok (.istore_n 2, 1) := dk_61 (dk_at dksX0_figuresOf_0 13 rfl rfl)
theorem dX0_figuresOf_14 : decode cX0_figuresOf 14 = .ok (.iload_n 3, 1) := dk_29 (dk_at dksX0_figuresOf_0 14 rfl rfl)
theorem dX0_figuresOf_15 : decode cX0_figuresOf 15 = .ok (.iload_n 1, 1) := dk_27 (dk_at dksX0_figuresOf_0 15 rfl rfl)
theorem dX0_figuresOf_16 : decode cX0_figuresOf 16 = .ok (.idiv, 1) := dk_108 (dk_at dksX0_figuresOf_0 16 rfl rfl)
theorem dX0_figuresOf_17 : decode cX0_figuresOf 17 = .ok (.istore_n 3, 1) := dk_62 (dk_at dksX0_figuresOf_0 17 rfl rfl)
theorem dX0_figuresOf_18 : decode cX0_figuresOf 18 = .ok (.goto (-14), 3) := dk_167 255 242 (dk_at dksX0_figuresOf_0 18 rfl rfl)
theorem dX0_figuresOf_21 : decode cX0_figuresOf 21 = .ok (.iload_n 2, 1) := dk_28 (dk_at dksX0_figuresOf_0 21 rfl rfl)
theorem dX0_figuresOf_22 : decode cX0_figuresOf 22 = .ok (.ireturn, 1) := dk_172 (dk_at dksX0_figuresOf_0 22 rfl rfl)
abbrev cX0_asks : ByteArray := prog_1_method_22_code
def yX0_asks : MethodName := ⟨RX0, "asks", "(III)I"⟩
def dkwX0_asks_1 : List UInt8 := [153, 0, 13, 42, 27, 28, 29, 182, 0, 195, 167, 0, 8, 42, 4, 182, 0, 160, 172]
abbrev dktX0_asks_1 : List UInt8 := dkwX0_asks_1 ++ []
def dkwX0_asks_0 : List UInt8 := [27, 184, 0, 170, 153, 0, 33, 28, 3, 18, 194, 184, 0, 125, 153, 0, 23, 29, 3, 16, 30, 184, 0, 125]
abbrev dktX0_asks_0 : List UInt8 := dkwX0_asks_0 ++ dktX0_asks_1
theorem dksX0_asks_0 : cX0_asks.data.toList.drop 0 = dktX0_asks_0 := by decide +kernel
theorem dksX0_asks_1 : cX0_asks.data.toList.drop 24 = dktX0_asks_1 := dk_seg dksX0_asks_0 24 rfl rfl
theorem dX0_asks_0 : decode cX0_asks 0 = .ok (.iload_n 1, 1) := dk_27 (dk_at dksX0_asks_0 0 rfl rfl)
theorem dX0_asks_1 : decode cX0_asks 1 = .ok (.invokestatic 170, 3) := dk_184 0 170 (dk_at dksX0_asks_0 1 rfl rfl)
theorem dX0_asks_4 : decode cX0_asks 4 = .ok (.ifCond .eq 33, 3) := dk_153 0 33 (dk_at dksX0_asks_0 4 rfl rfl)
theorem dX0_asks_7 : decode cX0_asks 7 = .ok (.iload_n 2, 1) := dk_28 (dk_at dksX0_asks_0 7 rfl rfl)
theorem dX0_asks_8 : decode cX0_asks 8 = .ok (.iconst 0, 1) := dk_3 (dk_at dksX0_asks_0 8 rfl rfl)
theorem dX0_asks_9 : decode cX0_asks 9 = .ok (.ldc 194, 2) := dk_18 194 (dk_at dksX0_asks_0 9 rfl rfl)
theorem dX0_asks_11 : decode cX0_asks 11 = .ok (.invokestatic 125, 3) := dk_184 0 125 (dk_at dksX0_asks_0 11 rfl rfl)
theorem dX0_asks_14 : decode cX0_asks 14 = .ok (.ifCond .eq 23, 3) := dk_153 0 23 (dk_at dksX0_asks_0 14 rfl rfl)
theorem dX0_asks_17 : decode cX0_asks 17 = .ok (.iload_n 3, 1) := dk_29 (dk_at dksX0_asks_0 17 rfl rfl)
theorem dX0_asks_18 : decode cX0_asks 18 = .ok (.iconst 0, 1) := dk_3 (dk_at dksX0_asks_0 18 rfl rfl)
theorem dX0_asks_19 : decode cX0_asks 19 = .ok (.bipush 30, 2) := dk_16 30 (dk_at dksX0_asks_0 19 rfl rfl)
theorem dX0_asks_21 : decode cX0_asks 21 = .ok (.invokestatic 125, 3) := dk_184 0 125 (dk_at dksX0_asks_0 21 rfl rfl)
theorem dX0_asks_24 : decode cX0_asks 24 = .ok (.ifCond .eq 13, 3) := dk_153 0 13 (dk_at dksX0_asks_1 0 rfl rfl)
theorem dX0_asks_27 : decode cX0_asks 27 = .ok (.aload_n 0, 1) := dk_42 (dk_at dksX0_asks_1 3 rfl rfl)
theorem dX0_asks_28 : decode cX0_asks 28 = .ok (.iload_n 1, 1) := dk_27 (dk_at dksX0_asks_1 4 rfl rfl)
theorem dX0_asks_29 : decode cX0_asks 29 = .ok (.iload_n 2, 1) := dk_28 (dk_at dksX0_asks_1 5 rfl rfl)
theorem dX0_asks_30 : decode cX0_asks 30 = .ok (.iload_n 3, 1) := dk_29 (dk_at dksX0_asks_1 6 rfl rfl)
theorem dX0_asks_31 : decode cX0_asks 31 = .ok (.invokevirtual 195, 3) := dk_182 0 195 (dk_at dksX0_asks_1 7 rfl rfl)
theorem dX0_asks_34 : decode cX0_asks 34 = .ok (.goto 8, 3) := dk_167 0 8 (dk_at dksX0_asks_1 10 rfl rfl)
theorem dX0_asks_37 : decode cX0_asks 37 = .ok (.aload_n 0, 1) := dk_42 (dk_at dksX0_asks_1 13 rfl rfl)
theorem dX0_asks_38 : decode cX0_asks 38 = .ok (.iconst 1, 1) := dk_4 (dk_at dksX0_asks_1 14 rfl rfl)
theorem dX0_asks_39 : decode cX0_asks 39 = .ok (.invokevirtual 160, 3) := dk_182 0 160 (dk_at dksX0_asks_1 15 rfl rfl)
theorem dX0_asks_42 : decode cX0_asks 42 = .ok (.ireturn, 1) := dk_172 (dk_at dksX0_asks_1 18 rfl rfl)
abbrev cX0_asked : ByteArray := prog_1_method_15_code
def yX0_asked : MethodName := ⟨RX0, "asked", "(III)I"⟩
def dkwX0_asked_1 : List UInt8 := [185, 0, 150, 4, 0, 3, 17, 39, 15, 184, 0, 143, 172]
abbrev dktX0_asked_1 : List UInt8 := dkwX0_asked_1 ++ []
def dkwX0_asked_0 : List UInt8 := [29, 154, 0, 5, 3, 172, 42, 180, 0, 76, 27, 182, 0, 146, 58, 4, 25, 4, 42, 180, 0, 105, 28, 29]
abbrev dktX0_asked_0 : List UInt8 := dkwX0_asked_0 ++ dktX0_asked_1
theorem dksX0_asked_0 : cX0_asked.data.toList.drop 0 = dktX0_asked_0 := by decide +kernel
theorem dksX0_asked_1 : cX0_asked.data.toList.drop 24 = dktX0_asked_1 := dk_seg dksX0_asked_0 24 rfl rfl
theorem dX0_asked_0 : decode cX0_asked 0 = .ok (.iload_n 3, 1) := dk_29 (dk_at dksX0_asked_0 0 rfl rfl)
theorem dX0_asked_1 : decode cX0_asked 1 = .ok (.ifCond .ne 5, 3) := dk_154 0 5 (dk_at dksX0_asked_0 1 rfl rfl)
theorem dX0_asked_4 : decode cX0_asked 4 = .ok (.iconst 0, 1) := dk_3 (dk_at dksX0_asked_0 4 rfl rfl)
theorem dX0_asked_5 : decode cX0_asked 5 = .ok (.ireturn, 1) := dk_172 (dk_at dksX0_asked_0 5 rfl rfl)
theorem dX0_asked_6 : decode cX0_asked 6 = .ok (.aload_n 0, 1) := dk_42 (dk_at dksX0_asked_0 6 rfl rfl)
theorem dX0_asked_7 : decode cX0_asked 7 = .ok (.getfield 76, 3) := dk_180 0 76 (dk_at dksX0_asked_0 7 rfl rfl)
theorem dX0_asked_10 : decode cX0_asked 10 = .ok (.iload_n 1, 1) := dk_27 (dk_at dksX0_asked_0 10 rfl rfl)
theorem dX0_asked_11 : decode cX0_asked 11 = .ok (.invokevirtual 146, 3) := dk_182 0 146 (dk_at dksX0_asked_0 11 rfl rfl)
theorem dX0_asked_14 : decode cX0_asked 14 = .ok (.astore 4, 2) := dk_58 4 (dk_at dksX0_asked_0 14 rfl rfl)
theorem dX0_asked_16 : decode cX0_asked 16 = .ok (.aload 4, 2) := dk_25 4 (dk_at dksX0_asked_0 16 rfl rfl)
theorem dX0_asked_18 : decode cX0_asked 18 = .ok (.aload_n 0, 1) := dk_42 (dk_at dksX0_asked_0 18 rfl rfl)
theorem dX0_asked_19 : decode cX0_asked 19 = .ok (.getfield 105, 3) := dk_180 0 105 (dk_at dksX0_asked_0 19 rfl rfl)
theorem dX0_asked_22 : decode cX0_asked 22 = .ok (.iload_n 2, 1) := dk_28 (dk_at dksX0_asked_0 22 rfl rfl)
theorem dX0_asked_23 : decode cX0_asked 23 = .ok (.iload_n 3, 1) := dk_29 (dk_at dksX0_asked_0 23 rfl rfl)
theorem dX0_asked_24 : decode cX0_asked 24 = .ok (.invokeinterface 150 4, 5) := by decide +kernel
theorem dX0_asked_29 : decode cX0_asked 29 = .ok (.iconst 0, 1) := dk_3 (dk_at dksX0_asked_1 5 rfl rfl)
theorem dX0_asked_30 : decode cX0_asked 30 = .ok (.sipush 9999, 3) := dk_17 39 15 (dk_at dksX0_asked_1 6 rfl rfl)
theorem dX0_asked_33 : decode cX0_asked 33 = .ok (.invokestatic 143, 3) := dk_184 0 143 (dk_at dksX0_asked_1 9 rfl rfl)
theorem dX0_asked_36 : decode cX0_asked 36 = .ok (.ireturn, 1) := dk_172 (dk_at dksX0_asked_1 12 rfl rfl)
abbrev cX0_rootOf : ByteArray := prog_1_method_4_code
def yX0_rootOf : MethodName := ⟨RX0, "rootOf", "(II)I"⟩
def dkwX0_rootOf_0 : List UInt8 := [26, 61, 28, 27, 161, 0, 12, 28, 27, 184, 0, 10, 61, 167, 255, 245, 28, 172]
abbrev dktX0_rootOf_0 : List UInt8 := dkwX0_rootOf_0 ++ []
theorem dksX0_rootOf_0 : cX0_rootOf.data.toList.drop 0 = dktX0_rootOf_0 := by decide +kernel
theorem dX0_rootOf_0 : decode cX0_rootOf 0 = .ok (.iload_n 0, 1) := dk_26 (dk_at dksX0_rootOf_0 0 rfl rfl)
theorem dX0_rootOf_1 : decode cX0_rootOf 1 = .ok (.istore_n 2, 1) := dk_61 (dk_at dksX0_rootOf_0 1 rfl rfl)
theorem dX0_rootOf_2 : decode cX0_rootOf 2 = .ok (.iload_n 2, 1) := dk_28 (dk_at dksX0_rootOf_0 2 rfl rfl)
theorem dX0_rootOf_3 : decode cX0_rootOf 3 = .ok (.iload_n 1, 1) := dk_27 (dk_at dksX0_rootOf_0 3 rfl rfl)
theorem dX0_rootOf_4 : decode cX0_rootOf 4 = .ok (.if_icmp .lt 12, 3) := dk_161 0 12 (dk_at dksX0_rootOf_0 4 rfl rfl)
theorem dX0_rootOf_7 : decode cX0_rootOf 7 = .ok (.iload_n 2, 1) := dk_28 (dk_at dksX0_rootOf_0 7 rfl rfl)
theorem dX0_rootOf_8 : decode cX0_rootOf 8 = .ok (.iload_n 1, 1) := dk_27 (dk_at dksX0_rootOf_0 8 rfl rfl)
theorem dX0_rootOf_9 : decode cX0_rootOf 9 = .ok (.invokestatic 10, 3) := dk_184 0 10 (dk_at dksX0_rootOf_0 9 rfl rfl)
theorem dX0_rootOf_12 : decode cX0_rootOf 12 = .ok (.istore_n 2, 1) := dk_61 (dk_at dksX0_rootOf_0 12 rfl rfl)
theorem dX0_rootOf_13 : decode cX0_rootOf 13 = .ok (.goto (-11), 3) := dk_167 255 245 (dk_at dksX0_rootOf_0 13 rfl rfl)
theorem dX0_rootOf_16 : decode cX0_rootOf 16 = .ok (.iload_n 2, 1) := dk_28 (dk_at dksX0_rootOf_0 16 rfl rfl)
theorem dX0_rootOf_17 : decode cX0_rootOf 17 = .ok (.ireturn, 1) := dk_172 (dk_at dksX0_rootOf_0 17 rfl rfl)
abbrev cX0_feed : ByteArray := prog_1_method_23_code
def yX0_feed : MethodName := ⟨RX0, "feed", "(JI)I"⟩
def dkwX0_feed_4 : List UInt8 := [180, 0, 198, 172]
abbrev dktX0_feed_4 : List UInt8 := dkwX0_feed_4 ++ []
def dkwX0_feed_3 : List UInt8 := [180, 0, 76, 89, 180, 0, 198, 4, 96, 181, 0, 198, 132, 4, 1, 167, 255, 210, 42, 180, 0, 76]
abbrev dktX0_feed_3 : List UInt8 := dkwX0_feed_3 ++ dktX0_feed_4
def dkwX0_feed_2 : List UInt8 := [180, 0, 76, 180, 0, 201, 42, 180, 0, 76, 180, 0, 198, 31, 16, 8, 21, 4, 104, 123, 136, 145, 84, 42]
abbrev dktX0_feed_2 : List UInt8 := dkwX0_feed_2 ++ dktX0_feed_3
def dkwX0_feed_1 : List UInt8 := [96, 16, 60, 164, 0, 9, 42, 7, 182, 0, 160, 172, 3, 54, 4, 21, 4, 29, 162, 0, 46, 42]
abbrev dktX0_feed_1 : List UInt8 := dkwX0_feed_1 ++ dktX0_feed_2
def dkwX0_feed_0 : List UInt8 := [29, 4, 16, 8, 184, 0, 125, 154, 0, 9, 42, 4, 182, 0, 160, 172, 42, 180, 0, 76, 180, 0, 198, 29]
abbrev dktX0_feed_0 : List UInt8 := dkwX0_feed_0 ++ dktX0_feed_1
theorem dksX0_feed_0 : cX0_feed.data.toList.drop 0 = dktX0_feed_0 := by decide +kernel
theorem dksX0_feed_1 : cX0_feed.data.toList.drop 24 = dktX0_feed_1 := dk_seg dksX0_feed_0 24 rfl rfl
theorem dksX0_feed_2 : cX0_feed.data.toList.drop 46 = dktX0_feed_2 := dk_seg dksX0_feed_1 22 rfl rfl
theorem dksX0_feed_3 : cX0_feed.data.toList.drop 70 = dktX0_feed_3 := dk_seg dksX0_feed_2 24 rfl rfl
theorem dksX0_feed_4 : cX0_feed.data.toList.drop 92 = dktX0_feed_4 := dk_seg dksX0_feed_3 22 rfl rfl
theorem dX0_feed_0 : decode cX0_feed 0 = .ok (.iload_n 3, 1) := dk_29 (dk_at dksX0_feed_0 0 rfl rfl)
theorem dX0_feed_1 : decode cX0_feed 1 = .ok (.iconst 1, 1) := dk_4 (dk_at dksX0_feed_0 1 rfl rfl)
theorem dX0_feed_2 : decode cX0_feed 2 = .ok (.bipush 8, 2) := dk_16 8 (dk_at dksX0_feed_0 2 rfl rfl)
theorem dX0_feed_4 : decode cX0_feed 4 = .ok (.invokestatic 125, 3) := dk_184 0 125 (dk_at dksX0_feed_0 4 rfl rfl)
theorem dX0_feed_7 : decode cX0_feed 7 = .ok (.ifCond .ne 9, 3) := dk_154 0 9 (dk_at dksX0_feed_0 7 rfl rfl)
theorem dX0_feed_10 : decode cX0_feed 10 = .ok (.aload_n 0, 1) := dk_42 (dk_at dksX0_feed_0 10 rfl rfl)
theorem dX0_feed_11 : decode cX0_feed 11 = .ok (.iconst 1, 1) := dk_4 (dk_at dksX0_feed_0 11 rfl rfl)
theorem dX0_feed_12 : decode cX0_feed 12 = .ok (.invokevirtual 160, 3) := dk_182 0 160 (dk_at dksX0_feed_0 12 rfl rfl)
theorem dX0_feed_15 : decode cX0_feed 15 = .ok (.ireturn, 1) := dk_172 (dk_at dksX0_feed_0 15 rfl rfl)
theorem dX0_feed_16 : decode cX0_feed 16 = .ok (.aload_n 0, 1) := dk_42 (dk_at dksX0_feed_0 16 rfl rfl)
theorem dX0_feed_17 : decode cX0_feed 17 = .ok (.getfield 76, 3) := dk_180 0 76 (dk_at dksX0_feed_0 17 rfl rfl)
theorem dX0_feed_20 : decode cX0_feed 20 = .ok (.getfield 198, 3) := dk_180 0 198 (dk_at dksX0_feed_0 20 rfl rfl)
theorem dX0_feed_23 : decode cX0_feed 23 = .ok (.iload_n 3, 1) := dk_29 (dk_at dksX0_feed_0 23 rfl rfl)
theorem dX0_feed_24 : decode cX0_feed 24 = .ok (.iadd, 1) := dk_96 (dk_at dksX0_feed_1 0 rfl rfl)
theorem dX0_feed_25 : decode cX0_feed 25 = .ok (.bipush 60, 2) := dk_16 60 (dk_at dksX0_feed_1 1 rfl rfl)
theorem dX0_feed_27 : decode cX0_feed 27 = .ok (.if_icmp .le 9, 3) := dk_164 0 9 (dk_at dksX0_feed_1 3 rfl rfl)
theorem dX0_feed_30 : decode cX0_feed 30 = .ok (.aload_n 0, 1) := dk_42 (dk_at dksX0_feed_1 6 rfl rfl)
theorem dX0_feed_31 : decode cX0_feed 31 = .ok (.iconst 4, 1) := dk_7 (dk_at dksX0_feed_1 7 rfl rfl)
theorem dX0_feed_32 : decode cX0_feed 32 = .ok (.invokevirtual 160, 3) := dk_182 0 160 (dk_at dksX0_feed_1 8 rfl rfl)
theorem dX0_feed_35 : decode cX0_feed 35 = .ok (.ireturn, 1) := dk_172 (dk_at dksX0_feed_1 11 rfl rfl)
theorem dX0_feed_36 : decode cX0_feed 36 = .ok (.iconst 0, 1) := dk_3 (dk_at dksX0_feed_1 12 rfl rfl)
theorem dX0_feed_37 : decode cX0_feed 37 = .ok (.istore 4, 2) := dk_54 4 (dk_at dksX0_feed_1 13 rfl rfl)
theorem dX0_feed_39 : decode cX0_feed 39 = .ok (.iload 4, 2) := dk_21 4 (dk_at dksX0_feed_1 15 rfl rfl)
theorem dX0_feed_41 : decode cX0_feed 41 = .ok (.iload_n 3, 1) := dk_29 (dk_at dksX0_feed_1 17 rfl rfl)
theorem dX0_feed_42 : decode cX0_feed 42 = .ok (.if_icmp .ge 46, 3) := dk_162 0 46 (dk_at dksX0_feed_1 18 rfl rfl)
theorem dX0_feed_45 : decode cX0_feed 45 = .ok (.aload_n 0, 1) := dk_42 (dk_at dksX0_feed_1 21 rfl rfl)
theorem dX0_feed_46 : decode cX0_feed 46 = .ok (.getfield 76, 3) := dk_180 0 76 (dk_at dksX0_feed_2 0 rfl rfl)
theorem dX0_feed_49 : decode cX0_feed 49 = .ok (.getfield 201, 3) := dk_180 0 201 (dk_at dksX0_feed_2 3 rfl rfl)
theorem dX0_feed_52 : decode cX0_feed 52 = .ok (.aload_n 0, 1) := dk_42 (dk_at dksX0_feed_2 6 rfl rfl)
theorem dX0_feed_53 : decode cX0_feed 53 = .ok (.getfield 76, 3) := dk_180 0 76 (dk_at dksX0_feed_2 7 rfl rfl)
theorem dX0_feed_56 : decode cX0_feed 56 = .ok (.getfield 198, 3) := dk_180 0 198 (dk_at dksX0_feed_2 10 rfl rfl)
theorem dX0_feed_59 : decode cX0_feed 59 = .ok (.lload_n 1, 1) := dk_31 (dk_at dksX0_feed_2 13 rfl rfl)
theorem dX0_feed_60 : decode cX0_feed 60 = .ok (.bipush 8, 2) := dk_16 8 (dk_at dksX0_feed_2 14 rfl rfl)
theorem dX0_feed_62 : decode cX0_feed 62 = .ok (.iload 4, 2) := dk_21 4 (dk_at dksX0_feed_2 16 rfl rfl)
theorem dX0_feed_64 : decode cX0_feed 64 = .ok (.imul, 1) := dk_104 (dk_at dksX0_feed_2 18 rfl rfl)
theorem dX0_feed_65 : decode cX0_feed 65 = .ok (.lshr, 1) := dk_123 (dk_at dksX0_feed_2 19 rfl rfl)
theorem dX0_feed_66 : decode cX0_feed 66 = .ok (.l2i, 1) := dk_136 (dk_at dksX0_feed_2 20 rfl rfl)
theorem dX0_feed_67 : decode cX0_feed 67 = .ok (.i2b, 1) := dk_145 (dk_at dksX0_feed_2 21 rfl rfl)
theorem dX0_feed_68 : decode cX0_feed 68 = .ok (.bastore, 1) := dk_84 (dk_at dksX0_feed_2 22 rfl rfl)
theorem dX0_feed_69 : decode cX0_feed 69 = .ok (.aload_n 0, 1) := dk_42 (dk_at dksX0_feed_2 23 rfl rfl)
theorem dX0_feed_70 : decode cX0_feed 70 = .ok (.getfield 76, 3) := dk_180 0 76 (dk_at dksX0_feed_3 0 rfl rfl)
theorem dX0_feed_73 : decode cX0_feed 73 = .ok (.dup, 1) := dk_89 (dk_at dksX0_feed_3 3 rfl rfl)
theorem dX0_feed_74 : decode cX0_feed 74 = .ok (.getfield 198, 3) := dk_180 0 198 (dk_at dksX0_feed_3 4 rfl rfl)
theorem dX0_feed_77 : decode cX0_feed 77 = .ok (.iconst 1, 1) := dk_4 (dk_at dksX0_feed_3 7 rfl rfl)
theorem dX0_feed_78 : decode cX0_feed 78 = .ok (.iadd, 1) := dk_96 (dk_at dksX0_feed_3 8 rfl rfl)
theorem dX0_feed_79 : decode cX0_feed 79 = .ok (.putfield 198, 3) := dk_181 0 198 (dk_at dksX0_feed_3 9 rfl rfl)
theorem dX0_feed_82 : decode cX0_feed 82 = .ok (.iinc 4 1, 3) := dk_132 4 1 (dk_at dksX0_feed_3 12 rfl rfl)
theorem dX0_feed_85 : decode cX0_feed 85 = .ok (.goto (-46), 3) := dk_167 255 210 (dk_at dksX0_feed_3 15 rfl rfl)
theorem dX0_feed_88 : decode cX0_feed 88 = .ok (.aload_n 0, 1) := dk_42 (dk_at dksX0_feed_3 18 rfl rfl)
theorem dX0_feed_89 : decode cX0_feed 89 = .ok (.getfield 76, 3) := dk_180 0 76 (dk_at dksX0_feed_3 19 rfl rfl)
theorem dX0_feed_92 : decode cX0_feed 92 = .ok (.getfield 198, 3) := dk_180 0 198 (dk_at dksX0_feed_4 0 rfl rfl)
theorem dX0_feed_95 : decode cX0_feed 95 = .ok (.ireturn, 1) := dk_172 (dk_at dksX0_feed_4 3 rfl rfl)
abbrev cX0_text : ByteArray := prog_1_method_25_code
def yX0_text : MethodName := ⟨RX0, "text", "(I)I"⟩
def dkwX0_text_4 : List UInt8 := [25, 5, 191]
abbrev dktX0_text_4 : List UInt8 := dkwX0_text_4 ++ []
def dkwX0_text_3 : List UInt8 := [54, 4, 42, 180, 0, 76, 3, 181, 0, 198, 21, 4, 172, 58, 5, 42, 180, 0, 76, 3, 181, 0, 198]
abbrev dktX0_text_3 : List UInt8 := dkwX0_text_3 ++ dktX0_text_4
def dkwX0_text_2 : List UInt8 := [182, 0, 216, 83, 4, 62, 42, 180, 0, 76, 3, 181, 0, 198, 29, 172, 78, 16, 246, 45, 180, 0, 222, 100]
abbrev dktX0_text_2 : List UInt8 := dkwX0_text_2 ++ dktX0_text_3
def dkwX0_text_1 : List UInt8 := [42, 180, 0, 76, 180, 0, 198, 27, 184, 0, 209, 183, 0, 213, 77, 42, 180, 0, 76, 180, 0, 129, 27, 44]
abbrev dktX0_text_1 : List UInt8 := dkwX0_text_1 ++ dktX0_text_2
def dkwX0_text_0 : List UInt8 := [27, 184, 0, 204, 154, 0, 9, 42, 4, 182, 0, 160, 172, 187, 0, 207, 89, 42, 180, 0, 76, 180, 0, 201]
abbrev dktX0_text_0 : List UInt8 := dkwX0_text_0 ++ dktX0_text_1
theorem dksX0_text_0 : cX0_text.data.toList.drop 0 = dktX0_text_0 := by decide +kernel
theorem dksX0_text_1 : cX0_text.data.toList.drop 24 = dktX0_text_1 := dk_seg dksX0_text_0 24 rfl rfl
theorem dksX0_text_2 : cX0_text.data.toList.drop 48 = dktX0_text_2 := dk_seg dksX0_text_1 24 rfl rfl
theorem dksX0_text_3 : cX0_text.data.toList.drop 72 = dktX0_text_3 := dk_seg dksX0_text_2 24 rfl rfl
theorem dksX0_text_4 : cX0_text.data.toList.drop 95 = dktX0_text_4 := dk_seg dksX0_text_3 23 rfl rfl
theorem dX0_text_0 : decode cX0_text 0 = .ok (.iload_n 1, 1) := dk_27 (dk_at dksX0_text_0 0 rfl rfl)
theorem dX0_text_1 : decode cX0_text 1 = .ok (.invokestatic 204, 3) := dk_184 0 204 (dk_at dksX0_text_0 1 rfl rfl)
theorem dX0_text_4 : decode cX0_text 4 = .ok (.ifCond .ne 9, 3) := dk_154 0 9 (dk_at dksX0_text_0 4 rfl rfl)
theorem dX0_text_7 : decode cX0_text 7 = .ok (.aload_n 0, 1) := dk_42 (dk_at dksX0_text_0 7 rfl rfl)
theorem dX0_text_8 : decode cX0_text 8 = .ok (.iconst 1, 1) := dk_4 (dk_at dksX0_text_0 8 rfl rfl)
theorem dX0_text_9 : decode cX0_text 9 = .ok (.invokevirtual 160, 3) := dk_182 0 160 (dk_at dksX0_text_0 9 rfl rfl)
theorem dX0_text_12 : decode cX0_text 12 = .ok (.ireturn, 1) := dk_172 (dk_at dksX0_text_0 12 rfl rfl)
theorem dX0_text_13 : decode cX0_text 13 = .ok (.new 207, 3) := dk_187 0 207 (dk_at dksX0_text_0 13 rfl rfl)
theorem dX0_text_16 : decode cX0_text 16 = .ok (.dup, 1) := dk_89 (dk_at dksX0_text_0 16 rfl rfl)
theorem dX0_text_17 : decode cX0_text 17 = .ok (.aload_n 0, 1) := dk_42 (dk_at dksX0_text_0 17 rfl rfl)
theorem dX0_text_18 : decode cX0_text 18 = .ok (.getfield 76, 3) := dk_180 0 76 (dk_at dksX0_text_0 18 rfl rfl)
theorem dX0_text_21 : decode cX0_text 21 = .ok (.getfield 201, 3) := dk_180 0 201 (dk_at dksX0_text_0 21 rfl rfl)
theorem dX0_text_24 : decode cX0_text 24 = .ok (.aload_n 0, 1) := dk_42 (dk_at dksX0_text_1 0 rfl rfl)
theorem dX0_text_25 : decode cX0_text 25 = .ok (.getfield 76, 3) := dk_180 0 76 (dk_at dksX0_text_1 1 rfl rfl)
theorem dX0_text_28 : decode cX0_text 28 = .ok (.getfield 198, 3) := dk_180 0 198 (dk_at dksX0_text_1 4 rfl rfl)
theorem dX0_text_31 : decode cX0_text 31 = .ok (.iload_n 1, 1) := dk_27 (dk_at dksX0_text_1 7 rfl rfl)
theorem dX0_text_32 : decode cX0_text 32 = .ok (.invokestatic 209, 3) := dk_184 0 209 (dk_at dksX0_text_1 8 rfl rfl)
theorem dX0_text_35 : decode cX0_text 35 = .ok (.invokespecial 213, 3) := dk_183 0 213 (dk_at dksX0_text_1 11 rfl rfl)
theorem dX0_text_38 : decode cX0_text 38 = .ok (.astore_n 2, 1) := dk_77 (dk_at dksX0_text_1 14 rfl rfl)
theorem dX0_text_39 : decode cX0_text 39 = .ok (.aload_n 0, 1) := dk_42 (dk_at dksX0_text_1 15 rfl rfl)
theorem dX0_text_40 : decode cX0_text 40 = .ok (.getfield 76, 3) := dk_180 0 76 (dk_at dksX0_text_1 16 rfl rfl)
theorem dX0_text_43 : decode cX0_text 43 = .ok (.getfield 129, 3) := dk_180 0 129 (dk_at dksX0_text_1 19 rfl rfl)
theorem dX0_text_46 : decode cX0_text 46 = .ok (.iload_n 1, 1) := dk_27 (dk_at dksX0_text_1 22 rfl rfl)
theorem dX0_text_47 : decode cX0_text 47 = .ok (.aload_n 2, 1) := dk_44 (dk_at dksX0_text_1 23 rfl rfl)
theorem dX0_text_48 : decode cX0_text 48 = .ok (.invokevirtual 216, 3) := dk_182 0 216 (dk_at dksX0_text_2 0 rfl rfl)
theorem dX0_text_51 : decode cX0_text 51 = .ok (.aastore, 1) := dk_83 (dk_at dksX0_text_2 3 rfl rfl)
theorem dX0_text_52 : decode cX0_text 52 = .ok (.iconst 1, 1) := dk_4 (dk_at dksX0_text_2 4 rfl rfl)
theorem dX0_text_53 : decode cX0_text 53 = .ok (.istore_n 3, 1) := dk_62 (dk_at dksX0_text_2 5 rfl rfl)
theorem dX0_text_54 : decode cX0_text 54 = .ok (.aload_n 0, 1) := dk_42 (dk_at dksX0_text_2 6 rfl rfl)
theorem dX0_text_55 : decode cX0_text 55 = .ok (.getfield 76, 3) := dk_180 0 76 (dk_at dksX0_text_2 7 rfl rfl)
theorem dX0_text_58 : decode cX0_text 58 = .ok (.iconst 0, 1) := dk_3 (dk_at dksX0_text_2 10 rfl rfl)
theorem dX0_text_59 : decode cX0_text 59 = .ok (.putfield 198, 3) := dk_181 0 198 (dk_at dksX0_text_2 11 rfl rfl)
theorem dX0_text_62 : decode cX0_text 62 = .ok (.iload_n 3, 1) := dk_29 (dk_at dksX0_text_2 14 rfl rfl)
theorem dX0_text_63 : decode cX0_text 63 = .ok (.ireturn, 1) := dk_172 (dk_at dksX0_text_2 15 rfl rfl)
theorem dX0_text_64 : decode cX0_text 64 = .ok (.astore_n 3, 1) := dk_78 (dk_at dksX0_text_2 16 rfl rfl)
theorem dX0_text_65 : decode cX0_text 65 = .ok (.bipush (-10), 2) := dk_16 246 (dk_at dksX0_text_2 17 rfl rfl)
theorem dX0_text_67 : decode cX0_text 67 = .ok (.aload_n 3, 1) := dk_45 (dk_at dksX0_text_2 19 rfl rfl)
theorem dX0_text_68 : decode cX0_text 68 = .ok (.getfield 222, 3) := dk_180 0 222 (dk_at dksX0_text_2 20 rfl rfl)
theorem dX0_text_71 : decode cX0_text 71 = .ok (.isub, 1) := dk_100 (dk_at dksX0_text_2 23 rfl rfl)
theorem dX0_text_72 : decode cX0_text 72 = .ok (.istore 4, 2) := dk_54 4 (dk_at dksX0_text_3 0 rfl rfl)
theorem dX0_text_74 : decode cX0_text 74 = .ok (.aload_n 0, 1) := dk_42 (dk_at dksX0_text_3 2 rfl rfl)
theorem dX0_text_75 : decode cX0_text 75 = .ok (.getfield 76, 3) := dk_180 0 76 (dk_at dksX0_text_3 3 rfl rfl)
theorem dX0_text_78 : decode cX0_text 78 = .ok (.iconst 0, 1) := dk_3 (dk_at dksX0_text_3 6 rfl rfl)
theorem dX0_text_79 : decode cX0_text 79 = .ok (.putfield 198, 3) := dk_181 0 198 (dk_at dksX0_text_3 7 rfl rfl)
theorem dX0_text_82 : decode cX0_text 82 = .ok (.iload 4, 2) := dk_21 4 (dk_at dksX0_text_3 10 rfl rfl)
theorem dX0_text_84 : decode cX0_text 84 = .ok (.ireturn, 1) := dk_172 (dk_at dksX0_text_3 12 rfl rfl)
theorem dX0_text_85 : decode cX0_text 85 = .ok (.astore 5, 2) := dk_58 5 (dk_at dksX0_text_3 13 rfl rfl)
theorem dX0_text_87 : decode cX0_text 87 = .ok (.aload_n 0, 1) := dk_42 (dk_at dksX0_text_3 15 rfl rfl)
theorem dX0_text_88 : decode cX0_text 88 = .ok (.getfield 76, 3) := dk_180 0 76 (dk_at dksX0_text_3 16 rfl rfl)
theorem dX0_text_91 : decode cX0_text 91 = .ok (.iconst 0, 1) := dk_3 (dk_at dksX0_text_3 19 rfl rfl)
theorem dX0_text_92 : decode cX0_text 92 = .ok (.putfield 198, 3) := dk_181 0 198 (dk_at dksX0_text_3 20 rfl rfl)
theorem dX0_text_95 : decode cX0_text 95 = .ok (.aload 5, 2) := dk_25 5 (dk_at dksX0_text_4 0 rfl rfl)
theorem dX0_text_97 : decode cX0_text 97 = .ok (.athrow, 1) := dk_191 (dk_at dksX0_text_4 2 rfl rfl)
abbrev cX0_isUse : ByteArray := prog_1_method_24_code
def yX0_isUse : MethodName := ⟨RX0, "isUse", "(I)Z"⟩
def dkwX0_isUse_0 : List UInt8 := [26, 3, 4, 184, 0, 125, 172]
abbrev dktX0_isUse_0 : List UInt8 := dkwX0_isUse_0 ++ []
theorem dksX0_isUse_0 : cX0_isUse.data.toList.drop 0 = dktX0_isUse_0 := by decide +kernel
theorem dX0_isUse_0 : decode cX0_isUse 0 = .ok (.iload_n 0, 1) := dk_26 (dk_at dksX0_isUse_0 0 rfl rfl)
theorem dX0_isUse_1 : decode cX0_isUse 1 = .ok (.iconst 0, 1) := dk_3 (dk_at dksX0_isUse_0 1 rfl rfl)
theorem dX0_isUse_2 : decode cX0_isUse 2 = .ok (.iconst 1, 1) := dk_4 (dk_at dksX0_isUse_0 2 rfl rfl)
theorem dX0_isUse_3 : decode cX0_isUse 3 = .ok (.invokestatic 125, 3) := dk_184 0 125 (dk_at dksX0_isUse_0 3 rfl rfl)
theorem dX0_isUse_6 : decode cX0_isUse 6 = .ok (.ireturn, 1) := dk_172 (dk_at dksX0_isUse_0 6 rfl rfl)
abbrev cX0_namesOf : ByteArray := prog_1_method_7_code
def yX0_namesOf : MethodName := ⟨RX0, "namesOf", "(I)Ljava/lang/String;"⟩
def dkwX0_namesOf_0 : List UInt8 := [26, 154, 0, 8, 18, 39, 167, 0, 5, 18, 41, 176]
abbrev dktX0_namesOf_0 : List UInt8 := dkwX0_namesOf_0 ++ []
theorem dksX0_namesOf_0 : cX0_namesOf.data.toList.drop 0 = dktX0_namesOf_0 := by decide +kernel
theorem dX0_namesOf_0 : decode cX0_namesOf 0 = .ok (.iload_n 0, 1) := dk_26 (dk_at dksX0_namesOf_0 0 rfl rfl)
theorem dX0_namesOf_1 : decode cX0_namesOf 1 = .ok (.ifCond .ne 8, 3) := dk_154 0 8 (dk_at dksX0_namesOf_0 1 rfl rfl)
theorem dX0_namesOf_4 : decode cX0_namesOf 4 = .ok (.ldc 39, 2) := dk_18 39 (dk_at dksX0_namesOf_0 4 rfl rfl)
theorem dX0_namesOf_6 : decode cX0_namesOf 6 = .ok (.goto 5, 3) := dk_167 0 5 (dk_at dksX0_namesOf_0 6 rfl rfl)
theorem dX0_namesOf_9 : decode cX0_namesOf 9 = .ok (.ldc 41, 2) := dk_18 41 (dk_at dksX0_namesOf_0 9 rfl rfl)
theorem dX0_namesOf_11 : decode cX0_namesOf 11 = .ok (.areturn, 1) := dk_176 (dk_at dksX0_namesOf_0 11 rfl rfl)
abbrev cX0_untell : ByteArray := prog_1_method_26_code
def yX0_untell : MethodName := ⟨RX0, "untell", "(I)I"⟩
def dkwX0_untell_1 : List UInt8 := [199, 0, 7, 3, 167, 0, 4, 4, 61, 42, 180, 0, 76, 180, 0, 129, 27, 1, 83, 28, 172]
abbrev dktX0_untell_1 : List UInt8 := dkwX0_untell_1 ++ []
def dkwX0_untell_0 : List UInt8 := [27, 184, 0, 204, 154, 0, 9, 42, 4, 182, 0, 160, 172, 42, 180, 0, 76, 180, 0, 129, 27, 50]
abbrev dktX0_untell_0 : List UInt8 := dkwX0_untell_0 ++ dktX0_untell_1
theorem dksX0_untell_0 : cX0_untell.data.toList.drop 0 = dktX0_untell_0 := by decide +kernel
theorem dksX0_untell_1 : cX0_untell.data.toList.drop 22 = dktX0_untell_1 := dk_seg dksX0_untell_0 22 rfl rfl
theorem dX0_untell_0 : decode cX0_untell 0 = .ok (.iload_n 1, 1) := dk_27 (dk_at dksX0_untell_0 0 rfl rfl)
theorem dX0_untell_1 : decode cX0_untell 1 = .ok (.invokestatic 204, 3) := dk_184 0 204 (dk_at dksX0_untell_0 1 rfl rfl)
theorem dX0_untell_4 : decode cX0_untell 4 = .ok (.ifCond .ne 9, 3) := dk_154 0 9 (dk_at dksX0_untell_0 4 rfl rfl)
theorem dX0_untell_7 : decode cX0_untell 7 = .ok (.aload_n 0, 1) := dk_42 (dk_at dksX0_untell_0 7 rfl rfl)
theorem dX0_untell_8 : decode cX0_untell 8 = .ok (.iconst 1, 1) := dk_4 (dk_at dksX0_untell_0 8 rfl rfl)
theorem dX0_untell_9 : decode cX0_untell 9 = .ok (.invokevirtual 160, 3) := dk_182 0 160 (dk_at dksX0_untell_0 9 rfl rfl)
theorem dX0_untell_12 : decode cX0_untell 12 = .ok (.ireturn, 1) := dk_172 (dk_at dksX0_untell_0 12 rfl rfl)
theorem dX0_untell_13 : decode cX0_untell 13 = .ok (.aload_n 0, 1) := dk_42 (dk_at dksX0_untell_0 13 rfl rfl)
theorem dX0_untell_14 : decode cX0_untell 14 = .ok (.getfield 76, 3) := dk_180 0 76 (dk_at dksX0_untell_0 14 rfl rfl)
theorem dX0_untell_17 : decode cX0_untell 17 = .ok (.getfield 129, 3) := dk_180 0 129 (dk_at dksX0_untell_0 17 rfl rfl)
theorem dX0_untell_20 : decode cX0_untell 20 = .ok (.iload_n 1, 1) := dk_27 (dk_at dksX0_untell_0 20 rfl rfl)
theorem dX0_untell_21 : decode cX0_untell 21 = .ok (.aaload, 1) := dk_50 (dk_at dksX0_untell_0 21 rfl rfl)
theorem dX0_untell_22 : decode cX0_untell 22 = .ok (.ifnonnull 7, 3) := dk_199 0 7 (dk_at dksX0_untell_1 0 rfl rfl)
theorem dX0_untell_25 : decode cX0_untell 25 = .ok (.iconst 0, 1) := dk_3 (dk_at dksX0_untell_1 3 rfl rfl)
theorem dX0_untell_26 : decode cX0_untell 26 = .ok (.goto 4, 3) := dk_167 0 4 (dk_at dksX0_untell_1 4 rfl rfl)
theorem dX0_untell_29 : decode cX0_untell 29 = .ok (.iconst 1, 1) := dk_4 (dk_at dksX0_untell_1 7 rfl rfl)
theorem dX0_untell_30 : decode cX0_untell 30 = .ok (.istore_n 2, 1) := dk_61 (dk_at dksX0_untell_1 8 rfl rfl)
theorem dX0_untell_31 : decode cX0_untell 31 = .ok (.aload_n 0, 1) := dk_42 (dk_at dksX0_untell_1 9 rfl rfl)
theorem dX0_untell_32 : decode cX0_untell 32 = .ok (.getfield 76, 3) := dk_180 0 76 (dk_at dksX0_untell_1 10 rfl rfl)
theorem dX0_untell_35 : decode cX0_untell 35 = .ok (.getfield 129, 3) := dk_180 0 129 (dk_at dksX0_untell_1 13 rfl rfl)
theorem dX0_untell_38 : decode cX0_untell 38 = .ok (.iload_n 1, 1) := dk_27 (dk_at dksX0_untell_1 16 rfl rfl)
theorem dX0_untell_39 : decode cX0_untell 39 = .ok (.aconst_null, 1) := dk_1 (dk_at dksX0_untell_1 17 rfl rfl)
theorem dX0_untell_40 : decode cX0_untell 40 = .ok (.aastore, 1) := dk_83 (dk_at dksX0_untell_1 18 rfl rfl)
theorem dX0_untell_41 : decode cX0_untell 41 = .ok (.iload_n 2, 1) := dk_28 (dk_at dksX0_untell_1 19 rfl rfl)
theorem dX0_untell_42 : decode cX0_untell 42 = .ok (.ireturn, 1) := dk_172 (dk_at dksX0_untell_1 20 rfl rfl)
abbrev cX0_basket : ByteArray := prog_1_method_31_code
def yX0_basket : MethodName := ⟨RX0, "basket", "(II)I"⟩
def dkwX0_basket_3 : List UInt8 := [180, 0, 133, 167, 0, 10, 42, 180, 0, 76, 180, 0, 136, 182, 0, 225, 172]
abbrev dktX0_basket_3 : List UInt8 := dkwX0_basket_3 ++ []
def dkwX0_basket_2 : List UInt8 := [42, 180, 0, 109, 184, 0, 229, 167, 0, 33, 42, 42, 180, 0, 109, 28, 4, 160, 0, 13, 42, 180, 0, 76]
abbrev dktX0_basket_2 : List UInt8 := dkwX0_basket_2 ++ dktX0_basket_3
def dkwX0_basket_1 : List UInt8 := [42, 180, 0, 109, 16, 30, 182, 0, 244, 62, 29, 158, 0, 9, 42, 29, 182, 0, 160, 172, 28, 154, 0, 13]
abbrev dktX0_basket_1 : List UInt8 := dkwX0_basket_1 ++ dktX0_basket_2
def dkwX0_basket_0 : List UInt8 := [27, 184, 0, 241, 153, 0, 12, 28, 3, 5, 184, 0, 125, 154, 0, 9, 42, 4, 182, 0, 160, 172, 42, 27]
abbrev dktX0_basket_0 : List UInt8 := dkwX0_basket_0 ++ dktX0_basket_1
theorem dksX0_basket_0 : cX0_basket.data.toList.drop 0 = dktX0_basket_0 := by decide +kernel
theorem dksX0_basket_1 : cX0_basket.data.toList.drop 24 = dktX0_basket_1 := dk_seg dksX0_basket_0 24 rfl rfl
theorem dksX0_basket_2 : cX0_basket.data.toList.drop 48 = dktX0_basket_2 := dk_seg dksX0_basket_1 24 rfl rfl
theorem dksX0_basket_3 : cX0_basket.data.toList.drop 72 = dktX0_basket_3 := dk_seg dksX0_basket_2 24 rfl rfl
theorem dX0_basket_0 : decode cX0_basket 0 = .ok (.iload_n 1, 1) := dk_27 (dk_at dksX0_basket_0 0 rfl rfl)
theorem dX0_basket_1 : decode cX0_basket 1 = .ok (.invokestatic 241, 3) := dk_184 0 241 (dk_at dksX0_basket_0 1 rfl rfl)
theorem dX0_basket_4 : decode cX0_basket 4 = .ok (.ifCond .eq 12, 3) := dk_153 0 12 (dk_at dksX0_basket_0 4 rfl rfl)
theorem dX0_basket_7 : decode cX0_basket 7 = .ok (.iload_n 2, 1) := dk_28 (dk_at dksX0_basket_0 7 rfl rfl)
theorem dX0_basket_8 : decode cX0_basket 8 = .ok (.iconst 0, 1) := dk_3 (dk_at dksX0_basket_0 8 rfl rfl)
theorem dX0_basket_9 : decode cX0_basket 9 = .ok (.iconst 2, 1) := dk_5 (dk_at dksX0_basket_0 9 rfl rfl)
theorem dX0_basket_10 : decode cX0_basket 10 = .ok (.invokestatic 125, 3) := dk_184 0 125 (dk_at dksX0_basket_0 10 rfl rfl)
theorem dX0_basket_13 : decode cX0_basket 13 = .ok (.ifCond .ne 9, 3) := dk_154 0 9 (dk_at dksX0_basket_0 13 rfl rfl)
theorem dX0_basket_16 : decode cX0_basket 16 = .ok (.aload_n 0, 1) := dk_42 (dk_at dksX0_basket_0 16 rfl rfl)
theorem dX0_basket_17 : decode cX0_basket 17 = .ok (.iconst 1, 1) := dk_4 (dk_at dksX0_basket_0 17 rfl rfl)
theorem dX0_basket_18 : decode cX0_basket 18 = .ok (.invokevirtual 160, 3) := dk_182 0 160 (dk_at dksX0_basket_0 18 rfl rfl)
theorem dX0_basket_21 : decode cX0_basket 21 = .ok (.ireturn, 1) := dk_172 (dk_at dksX0_basket_0 21 rfl rfl)
theorem dX0_basket_22 : decode cX0_basket 22 = .ok (.aload_n 0, 1) := dk_42 (dk_at dksX0_basket_0 22 rfl rfl)
theorem dX0_basket_23 : decode cX0_basket 23 = .ok (.iload_n 1, 1) := dk_27 (dk_at dksX0_basket_0 23 rfl rfl)
theorem dX0_basket_24 : decode cX0_basket 24 = .ok (.aload_n 0, 1) := dk_42 (dk_at dksX0_basket_1 0 rfl rfl)
theorem dX0_basket_25 : decode cX0_basket 25 = .ok (.getfield 109, 3) := dk_180 0 109 (dk_at dksX0_basket_1 1 rfl rfl)
theorem dX0_basket_28 : decode cX0_basket 28 = .ok (.bipush 30, 2) := dk_16 30 (dk_at dksX0_basket_1 4 rfl rfl)
theorem dX0_basket_30 : decode cX0_basket 30 = .ok (.invokevirtual 244, 3) := dk_182 0 244 (dk_at dksX0_basket_1 6 rfl rfl)
theorem dX0_basket_33 : decode cX0_basket 33 = .ok (.istore_n 3, 1) := dk_62 (dk_at dksX0_basket_1 9 rfl rfl)
theorem dX0_basket_34 : decode cX0_basket 34 = .ok (.iload_n 3, 1) := dk_29 (dk_at dksX0_basket_1 10 rfl rfl)
theorem dX0_basket_35 : decode cX0_basket 35 = .ok (.ifCond .le 9, 3) := dk_158 0 9 (dk_at dksX0_basket_1 11 rfl rfl)
theorem dX0_basket_38 : decode cX0_basket 38 = .ok (.aload_n 0, 1) := dk_42 (dk_at dksX0_basket_1 14 rfl rfl)
theorem dX0_basket_39 : decode cX0_basket 39 = .ok (.iload_n 3, 1) := dk_29 (dk_at dksX0_basket_1 15 rfl rfl)
theorem dX0_basket_40 : decode cX0_basket 40 = .ok (.invokevirtual 160, 3) := dk_182 0 160 (dk_at dksX0_basket_1 16 rfl rfl)
theorem dX0_basket_43 : decode cX0_basket 43 = .ok (.ireturn, 1) := dk_172 (dk_at dksX0_basket_1 19 rfl rfl)
theorem dX0_basket_44 : decode cX0_basket 44 = .ok (.iload_n 2, 1) := dk_28 (dk_at dksX0_basket_1 20 rfl rfl)
theorem dX0_basket_45 : decode cX0_basket 45 = .ok (.ifCond .ne 13, 3) := dk_154 0 13 (dk_at dksX0_basket_1 21 rfl rfl)
theorem dX0_basket_48 : decode cX0_basket 48 = .ok (.aload_n 0, 1) := dk_42 (dk_at dksX0_basket_2 0 rfl rfl)
theorem dX0_basket_49 : decode cX0_basket 49 = .ok (.getfield 109, 3) := dk_180 0 109 (dk_at dksX0_basket_2 1 rfl rfl)
theorem dX0_basket_52 : decode cX0_basket 52 = .ok (.invokestatic 229, 3) := dk_184 0 229 (dk_at dksX0_basket_2 4 rfl rfl)
theorem dX0_basket_55 : decode cX0_basket 55 = .ok (.goto 33, 3) := dk_167 0 33 (dk_at dksX0_basket_2 7 rfl rfl)
theorem dX0_basket_58 : decode cX0_basket 58 = .ok (.aload_n 0, 1) := dk_42 (dk_at dksX0_basket_2 10 rfl rfl)
theorem dX0_basket_59 : decode cX0_basket 59 = .ok (.aload_n 0, 1) := dk_42 (dk_at dksX0_basket_2 11 rfl rfl)
theorem dX0_basket_60 : decode cX0_basket 60 = .ok (.getfield 109, 3) := dk_180 0 109 (dk_at dksX0_basket_2 12 rfl rfl)
theorem dX0_basket_63 : decode cX0_basket 63 = .ok (.iload_n 2, 1) := dk_28 (dk_at dksX0_basket_2 15 rfl rfl)
theorem dX0_basket_64 : decode cX0_basket 64 = .ok (.iconst 1, 1) := dk_4 (dk_at dksX0_basket_2 16 rfl rfl)
theorem dX0_basket_65 : decode cX0_basket 65 = .ok (.if_icmp .ne 13, 3) := dk_160 0 13 (dk_at dksX0_basket_2 17 rfl rfl)
theorem dX0_basket_68 : decode cX0_basket 68 = .ok (.aload_n 0, 1) := dk_42 (dk_at dksX0_basket_2 20 rfl rfl)
theorem dX0_basket_69 : decode cX0_basket 69 = .ok (.getfield 76, 3) := dk_180 0 76 (dk_at dksX0_basket_2 21 rfl rfl)
theorem dX0_basket_72 : decode cX0_basket 72 = .ok (.getfield 133, 3) := dk_180 0 133 (dk_at dksX0_basket_3 0 rfl rfl)
theorem dX0_basket_75 : decode cX0_basket 75 = .ok (.goto 10, 3) := dk_167 0 10 (dk_at dksX0_basket_3 3 rfl rfl)
theorem dX0_basket_78 : decode cX0_basket 78 = .ok (.aload_n 0, 1) := dk_42 (dk_at dksX0_basket_3 6 rfl rfl)
theorem dX0_basket_79 : decode cX0_basket 79 = .ok (.getfield 76, 3) := dk_180 0 76 (dk_at dksX0_basket_3 7 rfl rfl)
theorem dX0_basket_82 : decode cX0_basket 82 = .ok (.getfield 136, 3) := dk_180 0 136 (dk_at dksX0_basket_3 10 rfl rfl)
theorem dX0_basket_85 : decode cX0_basket 85 = .ok (.invokevirtual 225, 3) := dk_182 0 225 (dk_at dksX0_basket_3 13 rfl rfl)
theorem dX0_basket_88 : decode cX0_basket 88 = .ok (.ireturn, 1) := dk_172 (dk_at dksX0_basket_3 16 rfl rfl)
abbrev cX0_isSheet : ByteArray := prog_1_method_58_code
def yX0_isSheet : MethodName := ⟨RX0, "isSheet", "(I)Z"⟩
def dkwX0_isSheet_0 : List UInt8 := [26, 3, 6, 184, 0, 125, 172]
abbrev dktX0_isSheet_0 : List UInt8 := dkwX0_isSheet_0 ++ []
theorem dksX0_isSheet_0 : cX0_isSheet.data.toList.drop 0 = dktX0_isSheet_0 := by decide +kernel
theorem dX0_isSheet_0 : decode cX0_isSheet 0 = .ok (.iload_n 0, 1) := dk_26 (dk_at dksX0_isSheet_0 0 rfl rfl)
theorem dX0_isSheet_1 : decode cX0_isSheet 1 = .ok (.iconst 0, 1) := dk_3 (dk_at dksX0_isSheet_0 1 rfl rfl)
theorem dX0_isSheet_2 : decode cX0_isSheet 2 = .ok (.iconst 3, 1) := dk_6 (dk_at dksX0_isSheet_0 2 rfl rfl)
theorem dX0_isSheet_3 : decode cX0_isSheet 3 = .ok (.invokestatic 125, 3) := dk_184 0 125 (dk_at dksX0_isSheet_0 3 rfl rfl)
theorem dX0_isSheet_6 : decode cX0_isSheet 6 = .ok (.ireturn, 1) := dk_172 (dk_at dksX0_isSheet_0 6 rfl rfl)
abbrev cX0_faultOf : ByteArray := prog_1_method_30_code
def yX0_faultOf : MethodName := ⟨RX0, "faultOf", "(I[BI)I"⟩
def dkwX0_faultOf_3 : List UInt8 := [145, 84, 132, 5, 1, 167, 255, 203, 44, 184, 0, 229, 29, 164, 0, 7, 7, 167, 0, 4, 3, 172]
abbrev dktX0_faultOf_3 : List UInt8 := dkwX0_faultOf_3 ++ []
def dkwX0_faultOf_2 : List UInt8 := [167, 0, 4, 3, 54, 6, 21, 6, 3, 16, 9, 184, 0, 125, 154, 0, 5, 4, 172, 44, 21, 5, 21, 6]
abbrev dktX0_faultOf_2 : List UInt8 := dkwX0_faultOf_2 ++ dktX0_faultOf_3
def dkwX0_faultOf_1 : List UInt8 := [16, 8, 162, 0, 52, 21, 5, 25, 4, 184, 0, 233, 162, 0, 13, 25, 4, 21, 5, 184, 0, 237]
abbrev dktX0_faultOf_1 : List UInt8 := dkwX0_faultOf_1 ++ dktX0_faultOf_2
def dkwX0_faultOf_0 : List UInt8 := [42, 180, 0, 96, 27, 50, 180, 0, 187, 58, 4, 25, 4, 199, 0, 5, 5, 172, 3, 54, 5, 21, 5]
abbrev dktX0_faultOf_0 : List UInt8 := dkwX0_faultOf_0 ++ dktX0_faultOf_1
theorem dksX0_faultOf_0 : cX0_faultOf.data.toList.drop 0 = dktX0_faultOf_0 := by decide +kernel
theorem dksX0_faultOf_1 : cX0_faultOf.data.toList.drop 23 = dktX0_faultOf_1 := dk_seg dksX0_faultOf_0 23 rfl rfl
theorem dksX0_faultOf_2 : cX0_faultOf.data.toList.drop 45 = dktX0_faultOf_2 := dk_seg dksX0_faultOf_1 22 rfl rfl
theorem dksX0_faultOf_3 : cX0_faultOf.data.toList.drop 69 = dktX0_faultOf_3 := dk_seg dksX0_faultOf_2 24 rfl rfl
theorem dX0_faultOf_0 : decode cX0_faultOf 0 = .ok (.aload_n 0, 1) := dk_42 (dk_at dksX0_faultOf_0 0 rfl rfl)
theorem dX0_faultOf_1 : decode cX0_faultOf 1 = .ok (.getfield 96, 3) := dk_180 0 96 (dk_at dksX0_faultOf_0 1 rfl rfl)
theorem dX0_faultOf_4 : decode cX0_faultOf 4 = .ok (.iload_n 1, 1) := dk_27 (dk_at dksX0_faultOf_0 4 rfl rfl)
theorem dX0_faultOf_5 : decode cX0_faultOf 5 = .ok (.aaload, 1) := dk_50 (dk_at dksX0_faultOf_0 5 rfl rfl)
theorem dX0_faultOf_6 : decode cX0_faultOf 6 = .ok (.getfield 187, 3) := dk_180 0 187 (dk_at dksX0_faultOf_0 6 rfl rfl)
theorem dX0_faultOf_9 : decode cX0_faultOf 9 = .ok (.astore 4, 2) := dk_58 4 (dk_at dksX0_faultOf_0 9 rfl rfl)
theorem dX0_faultOf_11 : decode cX0_faultOf 11 = .ok (.aload 4, 2) := dk_25 4 (dk_at dksX0_faultOf_0 11 rfl rfl)
theorem dX0_faultOf_13 : decode cX0_faultOf 13 = .ok (.ifnonnull 5, 3) := dk_199 0 5 (dk_at dksX0_faultOf_0 13 rfl rfl)
theorem dX0_faultOf_16 : decode cX0_faultOf 16 = .ok (.iconst 2, 1) := dk_5 (dk_at dksX0_faultOf_0 16 rfl rfl)
theorem dX0_faultOf_17 : decode cX0_faultOf 17 = .ok (.ireturn, 1) := dk_172 (dk_at dksX0_faultOf_0 17 rfl rfl)
theorem dX0_faultOf_18 : decode cX0_faultOf 18 = .ok (.iconst 0, 1) := dk_3 (dk_at dksX0_faultOf_0 18 rfl rfl)
theorem dX0_faultOf_19 : decode cX0_faultOf 19 = .ok (.istore 5, 2) := dk_54 5 (dk_at dksX0_faultOf_0 19 rfl rfl)
theorem dX0_faultOf_21 : decode cX0_faultOf 21 = .ok (.iload 5, 2) := dk_21 5 (dk_at dksX0_faultOf_0 21 rfl rfl)
theorem dX0_faultOf_23 : decode cX0_faultOf 23 = .ok (.bipush 8, 2) := dk_16 8 (dk_at dksX0_faultOf_1 0 rfl rfl)
theorem dX0_faultOf_25 : decode cX0_faultOf 25 = .ok (.if_icmp .ge 52, 3) := dk_162 0 52 (dk_at dksX0_faultOf_1 2 rfl rfl)
theorem dX0_faultOf_28 : decode cX0_faultOf 28 = .ok (.iload 5, 2) := dk_21 5 (dk_at dksX0_faultOf_1 5 rfl rfl)
theorem dX0_faultOf_30 : decode cX0_faultOf 30 = .ok (.aload 4, 2) := dk_25 4 (dk_at dksX0_faultOf_1 7 rfl rfl)
theorem dX0_faultOf_32 : decode cX0_faultOf 32 = .ok (.invokestatic 233, 3) := dk_184 0 233 (dk_at dksX0_faultOf_1 9 rfl rfl)
theorem dX0_faultOf_35 : decode cX0_faultOf 35 = .ok (.if_icmp .ge 13, 3) := dk_162 0 13 (dk_at dksX0_faultOf_1 12 rfl rfl)
theorem dX0_faultOf_38 : decode cX0_faultOf 38 = .ok (.aload 4, 2) := dk_25 4 (dk_at dksX0_faultOf_1 15 rfl rfl)
theorem dX0_faultOf_40 : decode cX0_faultOf 40 = .ok (.iload 5, 2) := dk_21 5 (dk_at dksX0_faultOf_1 17 rfl rfl)
theorem dX0_faultOf_42 : decode cX0_faultOf 42 = .ok (.invokestatic 237, 3) := dk_184 0 237 (dk_at dksX0_faultOf_1 19 rfl rfl)
theorem dX0_faultOf_45 : decode cX0_faultOf 45 = .ok (.goto 4, 3) := dk_167 0 4 (dk_at dksX0_faultOf_2 0 rfl rfl)
theorem dX0_faultOf_48 : decode cX0_faultOf 48 = .ok (.iconst 0, 1) := dk_3 (dk_at dksX0_faultOf_2 3 rfl rfl)
theorem dX0_faultOf_49 : decode cX0_faultOf 49 = .ok (.istore 6, 2) := dk_54 6 (dk_at dksX0_faultOf_2 4 rfl rfl)
theorem dX0_faultOf_51 : decode cX0_faultOf 51 = .ok (.iload 6, 2) := dk_21 6 (dk_at dksX0_faultOf_2 6 rfl rfl)
theorem dX0_faultOf_53 : decode cX0_faultOf 53 = .ok (.iconst 0, 1) := dk_3 (dk_at dksX0_faultOf_2 8 rfl rfl)
theorem dX0_faultOf_54 : decode cX0_faultOf 54 = .ok (.bipush 9, 2) := dk_16 9 (dk_at dksX0_faultOf_2 9 rfl rfl)
theorem dX0_faultOf_56 : decode cX0_faultOf 56 = .ok (.invokestatic 125, 3) := dk_184 0 125 (dk_at dksX0_faultOf_2 11 rfl rfl)
theorem dX0_faultOf_59 : decode cX0_faultOf 59 = .ok (.ifCond .ne 5, 3) := dk_154 0 5 (dk_at dksX0_faultOf_2 14 rfl rfl)
theorem dX0_faultOf_62 : decode cX0_faultOf 62 = .ok (.iconst 1, 1) := dk_4 (dk_at dksX0_faultOf_2 17 rfl rfl)
theorem dX0_faultOf_63 : decode cX0_faultOf 63 = .ok (.ireturn, 1) := dk_172 (dk_at dksX0_faultOf_2 18 rfl rfl)
theorem dX0_faultOf_64 : decode cX0_faultOf 64 = .ok (.aload_n 2, 1) := dk_44 (dk_at dksX0_faultOf_2 19 rfl rfl)
theorem dX0_faultOf_65 : decode cX0_faultOf 65 = .ok (.iload 5, 2) := dk_21 5 (dk_at dksX0_faultOf_2 20 rfl rfl)
theorem dX0_faultOf_67 : decode cX0_faultOf 67 = .ok (.iload 6, 2) := dk_21 6 (dk_at dksX0_faultOf_2 22 rfl rfl)
theorem dX0_faultOf_69 : decode cX0_faultOf 69 = .ok (.i2b, 1) := dk_145 (dk_at dksX0_faultOf_3 0 rfl rfl)
theorem dX0_faultOf_70 : decode cX0_faultOf 70 = .ok (.bastore, 1) := dk_84 (dk_at dksX0_faultOf_3 1 rfl rfl)
theorem dX0_faultOf_71 : decode cX0_faultOf 71 = .ok (.iinc 5 1, 3) := dk_132 5 1 (dk_at dksX0_faultOf_3 2 rfl rfl)
theorem dX0_faultOf_74 : decode cX0_faultOf 74 = .ok (.goto (-53), 3) := dk_167 255 203 (dk_at dksX0_faultOf_3 5 rfl rfl)
theorem dX0_faultOf_77 : decode cX0_faultOf 77 = .ok (.aload_n 2, 1) := dk_44 (dk_at dksX0_faultOf_3 8 rfl rfl)
theorem dX0_faultOf_78 : decode cX0_faultOf 78 = .ok (.invokestatic 229, 3) := dk_184 0 229 (dk_at dksX0_faultOf_3 9 rfl rfl)
theorem dX0_faultOf_81 : decode cX0_faultOf 81 = .ok (.iload_n 3, 1) := dk_29 (dk_at dksX0_faultOf_3 12 rfl rfl)
theorem dX0_faultOf_82 : decode cX0_faultOf 82 = .ok (.if_icmp .le 7, 3) := dk_164 0 7 (dk_at dksX0_faultOf_3 13 rfl rfl)
theorem dX0_faultOf_85 : decode cX0_faultOf 85 = .ok (.iconst 4, 1) := dk_7 (dk_at dksX0_faultOf_3 16 rfl rfl)
theorem dX0_faultOf_86 : decode cX0_faultOf 86 = .ok (.goto 4, 3) := dk_167 0 4 (dk_at dksX0_faultOf_3 17 rfl rfl)
theorem dX0_faultOf_89 : decode cX0_faultOf 89 = .ok (.iconst 0, 1) := dk_3 (dk_at dksX0_faultOf_3 20 rfl rfl)
theorem dX0_faultOf_90 : decode cX0_faultOf 90 = .ok (.ireturn, 1) := dk_172 (dk_at dksX0_faultOf_3 21 rfl rfl)
abbrev cX0_sizeOf : ByteArray := prog_1_method_59_code
def yX0_sizeOf : MethodName := ⟨RX0, "sizeOf", "(Ljava/lang/Object;)I"⟩
def dkwX0_sizeOf_1 : List UInt8 := [192, 1, 94, 190, 167, 0, 8, 42, 192, 1, 95, 190, 172]
abbrev dktX0_sizeOf_1 : List UInt8 := dkwX0_sizeOf_1 ++ []
def dkwX0_sizeOf_0 : List UInt8 := [42, 193, 1, 93, 153, 0, 11, 42, 192, 1, 93, 190, 167, 0, 23, 42, 193, 1, 94, 153, 0, 11, 42]
abbrev dktX0_sizeOf_0 : List UInt8 := dkwX0_sizeOf_0 ++ dktX0_sizeOf_1
theorem dksX0_sizeOf_0 : cX0_sizeOf.data.toList.drop 0 = dktX0_sizeOf_0 := by decide +kernel
theorem dksX0_sizeOf_1 : cX0_sizeOf.data.toList.drop 23 = dktX0_sizeOf_1 := dk_seg dksX0_sizeOf_0 23 rfl rfl
theorem dX0_sizeOf_0 : decode cX0_sizeOf 0 = .ok (.aload_n 0, 1) := dk_42 (dk_at dksX0_sizeOf_0 0 rfl rfl)
theorem dX0_sizeOf_1 : decode cX0_sizeOf 1 = .ok (.instanceof 349, 3) := dk_193 1 93 (dk_at dksX0_sizeOf_0 1 rfl rfl)
theorem dX0_sizeOf_4 : decode cX0_sizeOf 4 = .ok (.ifCond .eq 11, 3) := dk_153 0 11 (dk_at dksX0_sizeOf_0 4 rfl rfl)
theorem dX0_sizeOf_7 : decode cX0_sizeOf 7 = .ok (.aload_n 0, 1) := dk_42 (dk_at dksX0_sizeOf_0 7 rfl rfl)
theorem dX0_sizeOf_8 : decode cX0_sizeOf 8 = .ok (.checkcast 349, 3) := dk_192 1 93 (dk_at dksX0_sizeOf_0 8 rfl rfl)
theorem dX0_sizeOf_11 : decode cX0_sizeOf 11 = .ok (.arraylength, 1) := dk_190 (dk_at dksX0_sizeOf_0 11 rfl rfl)
theorem dX0_sizeOf_12 : decode cX0_sizeOf 12 = .ok (.goto 23, 3) := dk_167 0 23 (dk_at dksX0_sizeOf_0 12 rfl rfl)
theorem dX0_sizeOf_15 : decode cX0_sizeOf 15 = .ok (.aload_n 0, 1) := dk_42 (dk_at dksX0_sizeOf_0 15 rfl rfl)
theorem dX0_sizeOf_16 : decode cX0_sizeOf 16 = .ok (.instanceof 350, 3) := dk_193 1 94 (dk_at dksX0_sizeOf_0 16 rfl rfl)
theorem dX0_sizeOf_19 : decode cX0_sizeOf 19 = .ok (.ifCond .eq 11, 3) := dk_153 0 11 (dk_at dksX0_sizeOf_0 19 rfl rfl)
theorem dX0_sizeOf_22 : decode cX0_sizeOf 22 = .ok (.aload_n 0, 1) := dk_42 (dk_at dksX0_sizeOf_0 22 rfl rfl)
theorem dX0_sizeOf_23 : decode cX0_sizeOf 23 = .ok (.checkcast 350, 3) := dk_192 1 94 (dk_at dksX0_sizeOf_1 0 rfl rfl)
theorem dX0_sizeOf_26 : decode cX0_sizeOf 26 = .ok (.arraylength, 1) := dk_190 (dk_at dksX0_sizeOf_1 3 rfl rfl)
theorem dX0_sizeOf_27 : decode cX0_sizeOf 27 = .ok (.goto 8, 3) := dk_167 0 8 (dk_at dksX0_sizeOf_1 4 rfl rfl)
theorem dX0_sizeOf_30 : decode cX0_sizeOf 30 = .ok (.aload_n 0, 1) := dk_42 (dk_at dksX0_sizeOf_1 7 rfl rfl)
theorem dX0_sizeOf_31 : decode cX0_sizeOf 31 = .ok (.checkcast 351, 3) := dk_192 1 95 (dk_at dksX0_sizeOf_1 8 rfl rfl)
theorem dX0_sizeOf_34 : decode cX0_sizeOf 34 = .ok (.arraylength, 1) := dk_190 (dk_at dksX0_sizeOf_1 11 rfl rfl)
theorem dX0_sizeOf_35 : decode cX0_sizeOf 35 = .ok (.ireturn, 1) := dk_172 (dk_at dksX0_sizeOf_1 12 rfl rfl)
abbrev cX0_numberOf : ByteArray := prog_1_method_60_code
def yX0_numberOf : MethodName := ⟨RX0, "numberOf", "(Ljava/lang/Object;I)I"⟩
def dkwX0_numberOf_1 : List UInt8 := [192, 1, 94, 27, 53, 167, 0, 9, 42, 192, 1, 95, 27, 46, 172]
abbrev dktX0_numberOf_1 : List UInt8 := dkwX0_numberOf_1 ++ []
def dkwX0_numberOf_0 : List UInt8 := [42, 193, 1, 93, 153, 0, 12, 42, 192, 1, 93, 27, 51, 167, 0, 25, 42, 193, 1, 94, 153, 0, 12, 42]
abbrev dktX0_numberOf_0 : List UInt8 := dkwX0_numberOf_0 ++ dktX0_numberOf_1
theorem dksX0_numberOf_0 : cX0_numberOf.data.toList.drop 0 = dktX0_numberOf_0 := by decide +kernel
theorem dksX0_numberOf_1 : cX0_numberOf.data.toList.drop 24 = dktX0_numberOf_1 := dk_seg dksX0_numberOf_0 24 rfl rfl
theorem dX0_numberOf_0 : decode cX0_numberOf 0 = .ok (.aload_n 0, 1) := dk_42 (dk_at dksX0_numberOf_0 0 rfl rfl)
theorem dX0_numberOf_1 : decode cX0_numberOf 1 = .ok (.instanceof 349, 3) := dk_193 1 93 (dk_at dksX0_numberOf_0 1 rfl rfl)
theorem dX0_numberOf_4 : decode cX0_numberOf 4 = .ok (.ifCond .eq 12, 3) := dk_153 0 12 (dk_at dksX0_numberOf_0 4 rfl rfl)
theorem dX0_numberOf_7 : decode cX0_numberOf 7 = .ok (.aload_n 0, 1) := dk_42 (dk_at dksX0_numberOf_0 7 rfl rfl)
theorem dX0_numberOf_8 : decode cX0_numberOf 8 = .ok (.checkcast 349, 3) := dk_192 1 93 (dk_at dksX0_numberOf_0 8 rfl rfl)
theorem dX0_numberOf_11 : decode cX0_numberOf 11 = .ok (.iload_n 1, 1) := dk_27 (dk_at dksX0_numberOf_0 11 rfl rfl)
theorem dX0_numberOf_12 : decode cX0_numberOf 12 = .ok (.baload, 1) := dk_51 (dk_at dksX0_numberOf_0 12 rfl rfl)
theorem dX0_numberOf_13 : decode cX0_numberOf 13 = .ok (.goto 25, 3) := dk_167 0 25 (dk_at dksX0_numberOf_0 13 rfl rfl)
theorem dX0_numberOf_16 : decode cX0_numberOf 16 = .ok (.aload_n 0, 1) := dk_42 (dk_at dksX0_numberOf_0 16 rfl rfl)
theorem dX0_numberOf_17 : decode cX0_numberOf 17 = .ok (.instanceof 350, 3) := dk_193 1 94 (dk_at dksX0_numberOf_0 17 rfl rfl)
theorem dX0_numberOf_20 : decode cX0_numberOf 20 = .ok (.ifCond .eq 12, 3) := dk_153 0 12 (dk_at dksX0_numberOf_0 20 rfl rfl)
theorem dX0_numberOf_23 : decode cX0_numberOf 23 = .ok (.aload_n 0, 1) := dk_42 (dk_at dksX0_numberOf_0 23 rfl rfl)
theorem dX0_numberOf_24 : decode cX0_numberOf 24 = .ok (.checkcast 350, 3) := dk_192 1 94 (dk_at dksX0_numberOf_1 0 rfl rfl)
theorem dX0_numberOf_27 : decode cX0_numberOf 27 = .ok (.iload_n 1, 1) := dk_27 (dk_at dksX0_numberOf_1 3 rfl rfl)
theorem dX0_numberOf_28 : decode cX0_numberOf 28 = .ok (.saload, 1) := dk_53 (dk_at dksX0_numberOf_1 4 rfl rfl)
theorem dX0_numberOf_29 : decode cX0_numberOf 29 = .ok (.goto 9, 3) := dk_167 0 9 (dk_at dksX0_numberOf_1 5 rfl rfl)
theorem dX0_numberOf_32 : decode cX0_numberOf 32 = .ok (.aload_n 0, 1) := dk_42 (dk_at dksX0_numberOf_1 8 rfl rfl)
theorem dX0_numberOf_33 : decode cX0_numberOf 33 = .ok (.checkcast 351, 3) := dk_192 1 95 (dk_at dksX0_numberOf_1 9 rfl rfl)
theorem dX0_numberOf_36 : decode cX0_numberOf 36 = .ok (.iload_n 1, 1) := dk_27 (dk_at dksX0_numberOf_1 12 rfl rfl)
theorem dX0_numberOf_37 : decode cX0_numberOf 37 = .ok (.iaload, 1) := dk_46 (dk_at dksX0_numberOf_1 13 rfl rfl)
theorem dX0_numberOf_38 : decode cX0_numberOf 38 = .ok (.ireturn, 1) := dk_172 (dk_at dksX0_numberOf_1 14 rfl rfl)
abbrev cX0_manyIn : ByteArray := prog_1_method_27_code
def yX0_manyIn : MethodName := ⟨RX0, "manyIn", "([B)I"⟩
def dkwX0_manyIn_0 : List UInt8 := [3, 60, 3, 61, 28, 16, 8, 162, 0, 15, 27, 42, 28, 51, 96, 60, 132, 2, 1, 167, 255, 241, 27, 172]
abbrev dktX0_manyIn_0 : List UInt8 := dkwX0_manyIn_0 ++ []
theorem dksX0_manyIn_0 : cX0_manyIn.data.toList.drop 0 = dktX0_manyIn_0 := by decide +kernel
theorem dX0_manyIn_0 : decode cX0_manyIn 0 = .ok (.iconst 0, 1) := dk_3 (dk_at dksX0_manyIn_0 0 rfl rfl)
theorem dX0_manyIn_1 : decode cX0_manyIn 1 = .ok (.istore_n 1, 1) := dk_60 (dk_at dksX0_manyIn_0 1 rfl rfl)
theorem dX0_manyIn_2 : decode cX0_manyIn 2 = .ok (.iconst 0, 1) := dk_3 (dk_at dksX0_manyIn_0 2 rfl rfl)
theorem dX0_manyIn_3 : decode cX0_manyIn 3 = .ok (.istore_n 2, 1) := dk_61 (dk_at dksX0_manyIn_0 3 rfl rfl)
theorem dX0_manyIn_4 : decode cX0_manyIn 4 = .ok (.iload_n 2, 1) := dk_28 (dk_at dksX0_manyIn_0 4 rfl rfl)
theorem dX0_manyIn_5 : decode cX0_manyIn 5 = .ok (.bipush 8, 2) := dk_16 8 (dk_at dksX0_manyIn_0 5 rfl rfl)
theorem dX0_manyIn_7 : decode cX0_manyIn 7 = .ok (.if_icmp .ge 15, 3) := dk_162 0 15 (dk_at dksX0_manyIn_0 7 rfl rfl)
theorem dX0_manyIn_10 : decode cX0_manyIn 10 = .ok (.iload_n 1, 1) := dk_27 (dk_at dksX0_manyIn_0 10 rfl rfl)
theorem dX0_manyIn_11 : decode cX0_manyIn 11 = .ok (.aload_n 0, 1) := dk_42 (dk_at dksX0_manyIn_0 11 rfl rfl)
theorem dX0_manyIn_12 : decode cX0_manyIn 12 = .ok (.iload_n 2, 1) := dk_28 (dk_at dksX0_manyIn_0 12 rfl rfl)
theorem dX0_manyIn_13 : decode cX0_manyIn 13 = .ok (.baload, 1) := dk_51 (dk_at dksX0_manyIn_0 13 rfl rfl)
theorem dX0_manyIn_14 : decode cX0_manyIn 14 = .ok (.iadd, 1) := dk_96 (dk_at dksX0_manyIn_0 14 rfl rfl)
theorem dX0_manyIn_15 : decode cX0_manyIn 15 = .ok (.istore_n 1, 1) := dk_60 (dk_at dksX0_manyIn_0 15 rfl rfl)
theorem dX0_manyIn_16 : decode cX0_manyIn 16 = .ok (.iinc 2 1, 3) := dk_132 2 1 (dk_at dksX0_manyIn_0 16 rfl rfl)
theorem dX0_manyIn_19 : decode cX0_manyIn 19 = .ok (.goto (-15), 3) := dk_167 255 241 (dk_at dksX0_manyIn_0 19 rfl rfl)
theorem dX0_manyIn_22 : decode cX0_manyIn 22 = .ok (.iload_n 1, 1) := dk_27 (dk_at dksX0_manyIn_0 22 rfl rfl)
theorem dX0_manyIn_23 : decode cX0_manyIn 23 = .ok (.ireturn, 1) := dk_172 (dk_at dksX0_manyIn_0 23 rfl rfl)
abbrev cX0_sumOf : ByteArray := prog_1_method_28_code
def yX0_sumOf : MethodName := ⟨RX0, "sumOf", "([B[I)I"⟩
def dkwX0_sumOf_1 : List UInt8 := [132, 4, 1, 167, 255, 234, 29, 172]
abbrev dktX0_sumOf_1 : List UInt8 := dkwX0_sumOf_1 ++ []
def dkwX0_sumOf_0 : List UInt8 := [3, 62, 3, 54, 4, 21, 4, 16, 8, 162, 0, 21, 29, 43, 21, 4, 51, 44, 21, 4, 46, 104, 96, 62]
abbrev dktX0_sumOf_0 : List UInt8 := dkwX0_sumOf_0 ++ dktX0_sumOf_1
theorem dksX0_sumOf_0 : cX0_sumOf.data.toList.drop 0 = dktX0_sumOf_0 := by decide +kernel
theorem dksX0_sumOf_1 : cX0_sumOf.data.toList.drop 24 = dktX0_sumOf_1 := dk_seg dksX0_sumOf_0 24 rfl rfl
theorem dX0_sumOf_0 : decode cX0_sumOf 0 = .ok (.iconst 0, 1) := dk_3 (dk_at dksX0_sumOf_0 0 rfl rfl)
theorem dX0_sumOf_1 : decode cX0_sumOf 1 = .ok (.istore_n 3, 1) := dk_62 (dk_at dksX0_sumOf_0 1 rfl rfl)
theorem dX0_sumOf_2 : decode cX0_sumOf 2 = .ok (.iconst 0, 1) := dk_3 (dk_at dksX0_sumOf_0 2 rfl rfl)
theorem dX0_sumOf_3 : decode cX0_sumOf 3 = .ok (.istore 4, 2) := dk_54 4 (dk_at dksX0_sumOf_0 3 rfl rfl)
theorem dX0_sumOf_5 : decode cX0_sumOf 5 = .ok (.iload 4, 2) := dk_21 4 (dk_at dksX0_sumOf_0 5 rfl rfl)
theorem dX0_sumOf_7 : decode cX0_sumOf 7 = .ok (.bipush 8, 2) := dk_16 8 (dk_at dksX0_sumOf_0 7 rfl rfl)
theorem dX0_sumOf_9 : decode cX0_sumOf 9 = .ok (.if_icmp .ge 21, 3) := dk_162 0 21 (dk_at dksX0_sumOf_0 9 rfl rfl)
theorem dX0_sumOf_12 : decode cX0_sumOf 12 = .ok (.iload_n 3, 1) := dk_29 (dk_at dksX0_sumOf_0 12 rfl rfl)
theorem dX0_sumOf_13 : decode cX0_sumOf 13 = .ok (.aload_n 1, 1) := dk_43 (dk_at dksX0_sumOf_0 13 rfl rfl)
theorem dX0_sumOf_14 : decode cX0_sumOf 14 = .ok (.iload 4, 2) := dk_21 4 (dk_at dksX0_sumOf_0 14 rfl rfl)
theorem dX0_sumOf_16 : decode cX0_sumOf 16 = .ok (.baload, 1) := dk_51 (dk_at dksX0_sumOf_0 16 rfl rfl)
theorem dX0_sumOf_17 : decode cX0_sumOf 17 = .ok (.aload_n 2, 1) := dk_44 (dk_at dksX0_sumOf_0 17 rfl rfl)
theorem dX0_sumOf_18 : decode cX0_sumOf 18 = .ok (.iload 4, 2) := dk_21 4 (dk_at dksX0_sumOf_0 18 rfl rfl)
theorem dX0_sumOf_20 : decode cX0_sumOf 20 = .ok (.iaload, 1) := dk_46 (dk_at dksX0_sumOf_0 20 rfl rfl)
theorem dX0_sumOf_21 : decode cX0_sumOf 21 = .ok (.imul, 1) := dk_104 (dk_at dksX0_sumOf_0 21 rfl rfl)
theorem dX0_sumOf_22 : decode cX0_sumOf 22 = .ok (.iadd, 1) := dk_96 (dk_at dksX0_sumOf_0 22 rfl rfl)
theorem dX0_sumOf_23 : decode cX0_sumOf 23 = .ok (.istore_n 3, 1) := dk_62 (dk_at dksX0_sumOf_0 23 rfl rfl)
theorem dX0_sumOf_24 : decode cX0_sumOf 24 = .ok (.iinc 4 1, 3) := dk_132 4 1 (dk_at dksX0_sumOf_1 0 rfl rfl)
theorem dX0_sumOf_27 : decode cX0_sumOf 27 = .ok (.goto (-22), 3) := dk_167 255 234 (dk_at dksX0_sumOf_1 3 rfl rfl)
theorem dX0_sumOf_30 : decode cX0_sumOf 30 = .ok (.iload_n 3, 1) := dk_29 (dk_at dksX0_sumOf_1 6 rfl rfl)
theorem dX0_sumOf_31 : decode cX0_sumOf 31 = .ok (.ireturn, 1) := dk_172 (dk_at dksX0_sumOf_1 7 rfl rfl)
abbrev cX0_pays : ByteArray := prog_1_method_32_code
def yX0_pays : MethodName := ⟨RX0, "pays", "(II)I"⟩
def dkwX0_pays_2 : List UInt8 := [180, 0, 109, 28, 182, 0, 248, 172]
abbrev dktX0_pays_2 : List UInt8 := dkwX0_pays_2 ++ []
def dkwX0_pays_1 : List UInt8 := [180, 0, 109, 16, 30, 182, 0, 244, 62, 29, 158, 0, 11, 42, 29, 182, 0, 160, 167, 0, 12, 42, 42]
abbrev dktX0_pays_1 : List UInt8 := dkwX0_pays_1 ++ dktX0_pays_2
def dkwX0_pays_0 : List UInt8 := [27, 184, 0, 241, 153, 0, 10, 28, 184, 0, 170, 154, 0, 9, 42, 4, 182, 0, 160, 172, 42, 27, 42]
abbrev dktX0_pays_0 : List UInt8 := dkwX0_pays_0 ++ dktX0_pays_1
theorem dksX0_pays_0 : cX0_pays.data.toList.drop 0 = dktX0_pays_0 := by decide +kernel
theorem dksX0_pays_1 : cX0_pays.data.toList.drop 23 = dktX0_pays_1 := dk_seg dksX0_pays_0 23 rfl rfl
theorem dksX0_pays_2 : cX0_pays.data.toList.drop 46 = dktX0_pays_2 := dk_seg dksX0_pays_1 23 rfl rfl
theorem dX0_pays_0 : decode cX0_pays 0 = .ok (.iload_n 1, 1) := dk_27 (dk_at dksX0_pays_0 0 rfl rfl)
theorem dX0_pays_1 : decode cX0_pays 1 = .ok (.invokestatic 241, 3) := dk_184 0 241 (dk_at dksX0_pays_0 1 rfl rfl)
theorem dX0_pays_4 : decode cX0_pays 4 = .ok (.ifCond .eq 10, 3) := dk_153 0 10 (dk_at dksX0_pays_0 4 rfl rfl)
theorem dX0_pays_7 : decode cX0_pays 7 = .ok (.iload_n 2, 1) := dk_28 (dk_at dksX0_pays_0 7 rfl rfl)
theorem dX0_pays_8 : decode cX0_pays 8 = .ok (.invokestatic 170, 3) := dk_184 0 170 (dk_at dksX0_pays_0 8 rfl rfl)
theorem dX0_pays_11 : decode cX0_pays 11 = .ok (.ifCond .ne 9, 3) := dk_154 0 9 (dk_at dksX0_pays_0 11 rfl rfl)
theorem dX0_pays_14 : decode cX0_pays 14 = .ok (.aload_n 0, 1) := dk_42 (dk_at dksX0_pays_0 14 rfl rfl)
theorem dX0_pays_15 : decode cX0_pays 15 = .ok (.iconst 1, 1) := dk_4 (dk_at dksX0_pays_0 15 rfl rfl)
theorem dX0_pays_16 : decode cX0_pays 16 = .ok (.invokevirtual 160, 3) := dk_182 0 160 (dk_at dksX0_pays_0 16 rfl rfl)
theorem dX0_pays_19 : decode cX0_pays 19 = .ok (.ireturn, 1) := dk_172 (dk_at dksX0_pays_0 19 rfl rfl)
theorem dX0_pays_20 : decode cX0_pays 20 = .ok (.aload_n 0, 1) := dk_42 (dk_at dksX0_pays_0 20 rfl rfl)
theorem dX0_pays_21 : decode cX0_pays 21 = .ok (.iload_n 1, 1) := dk_27 (dk_at dksX0_pays_0 21 rfl rfl)
theorem dX0_pays_22 : decode cX0_pays 22 = .ok (.aload_n 0, 1) := dk_42 (dk_at dksX0_pays_0 22 rfl rfl)
theorem dX0_pays_23 : decode cX0_pays 23 = .ok (.getfield 109, 3) := dk_180 0 109 (dk_at dksX0_pays_1 0 rfl rfl)
theorem dX0_pays_26 : decode cX0_pays 26 = .ok (.bipush 30, 2) := dk_16 30 (dk_at dksX0_pays_1 3 rfl rfl)
theorem dX0_pays_28 : decode cX0_pays 28 = .ok (.invokevirtual 244, 3) := dk_182 0 244 (dk_at dksX0_pays_1 5 rfl rfl)
theorem dX0_pays_31 : decode cX0_pays 31 = .ok (.istore_n 3, 1) := dk_62 (dk_at dksX0_pays_1 8 rfl rfl)
theorem dX0_pays_32 : decode cX0_pays 32 = .ok (.iload_n 3, 1) := dk_29 (dk_at dksX0_pays_1 9 rfl rfl)
theorem dX0_pays_33 : decode cX0_pays 33 = .ok (.ifCond .le 11, 3) := dk_158 0 11 (dk_at dksX0_pays_1 10 rfl rfl)
theorem dX0_pays_36 : decode cX0_pays 36 = .ok (.aload_n 0, 1) := dk_42 (dk_at dksX0_pays_1 13 rfl rfl)
theorem dX0_pays_37 : decode cX0_pays 37 = .ok (.iload_n 3, 1) := dk_29 (dk_at dksX0_pays_1 14 rfl rfl)
theorem dX0_pays_38 : decode cX0_pays 38 = .ok (.invokevirtual 160, 3) := dk_182 0 160 (dk_at dksX0_pays_1 15 rfl rfl)
theorem dX0_pays_41 : decode cX0_pays 41 = .ok (.goto 12, 3) := dk_167 0 12 (dk_at dksX0_pays_1 18 rfl rfl)
theorem dX0_pays_44 : decode cX0_pays 44 = .ok (.aload_n 0, 1) := dk_42 (dk_at dksX0_pays_1 21 rfl rfl)
theorem dX0_pays_45 : decode cX0_pays 45 = .ok (.aload_n 0, 1) := dk_42 (dk_at dksX0_pays_1 22 rfl rfl)
theorem dX0_pays_46 : decode cX0_pays 46 = .ok (.getfield 109, 3) := dk_180 0 109 (dk_at dksX0_pays_2 0 rfl rfl)
theorem dX0_pays_49 : decode cX0_pays 49 = .ok (.iload_n 2, 1) := dk_28 (dk_at dksX0_pays_2 3 rfl rfl)
theorem dX0_pays_50 : decode cX0_pays 50 = .ok (.invokevirtual 248, 3) := dk_182 0 248 (dk_at dksX0_pays_2 4 rfl rfl)
theorem dX0_pays_53 : decode cX0_pays 53 = .ok (.ireturn, 1) := dk_172 (dk_at dksX0_pays_2 7 rfl rfl)
abbrev cX0_paysOf : ByteArray := prog_1_method_29_code
def yX0_paysOf : MethodName := ⟨RX0, "paysOf", "([BI)I"⟩
def dkwX0_paysOf_0 : List UInt8 := [42, 28, 42, 43, 42, 180, 0, 76, 180, 0, 133, 182, 0, 225, 43, 184, 0, 229, 182, 0, 195, 172]
abbrev dktX0_paysOf_0 : List UInt8 := dkwX0_paysOf_0 ++ []
theorem dksX0_paysOf_0 : cX0_paysOf.data.toList.drop 0 = dktX0_paysOf_0 := by decide +kernel
theorem dX0_paysOf_0 : decode cX0_paysOf 0 = .ok (.aload_n 0, 1) := dk_42 (dk_at dksX0_paysOf_0 0 rfl rfl)
theorem dX0_paysOf_1 : decode cX0_paysOf 1 = .ok (.iload_n 2, 1) := dk_28 (dk_at dksX0_paysOf_0 1 rfl rfl)
theorem dX0_paysOf_2 : decode cX0_paysOf 2 = .ok (.aload_n 0, 1) := dk_42 (dk_at dksX0_paysOf_0 2 rfl rfl)
theorem dX0_paysOf_3 : decode cX0_paysOf 3 = .ok (.aload_n 1, 1) := dk_43 (dk_at dksX0_paysOf_0 3 rfl rfl)
theorem dX0_paysOf_4 : decode cX0_paysOf 4 = .ok (.aload_n 0, 1) := dk_42 (dk_at dksX0_paysOf_0 4 rfl rfl)
theorem dX0_paysOf_5 : decode cX0_paysOf 5 = .ok (.getfield 76, 3) := dk_180 0 76 (dk_at dksX0_paysOf_0 5 rfl rfl)
theorem dX0_paysOf_8 : decode cX0_paysOf 8 = .ok (.getfield 133, 3) := dk_180 0 133 (dk_at dksX0_paysOf_0 8 rfl rfl)
theorem dX0_paysOf_11 : decode cX0_paysOf 11 = .ok (.invokevirtual 225, 3) := dk_182 0 225 (dk_at dksX0_paysOf_0 11 rfl rfl)
theorem dX0_paysOf_14 : decode cX0_paysOf 14 = .ok (.aload_n 1, 1) := dk_43 (dk_at dksX0_paysOf_0 14 rfl rfl)
theorem dX0_paysOf_15 : decode cX0_paysOf 15 = .ok (.invokestatic 229, 3) := dk_184 0 229 (dk_at dksX0_paysOf_0 15 rfl rfl)
theorem dX0_paysOf_18 : decode cX0_paysOf 18 = .ok (.invokevirtual 195, 3) := dk_182 0 195 (dk_at dksX0_paysOf_0 18 rfl rfl)
theorem dX0_paysOf_21 : decode cX0_paysOf 21 = .ok (.ireturn, 1) := dk_172 (dk_at dksX0_paysOf_0 21 rfl rfl)
abbrev cX0_go : ByteArray := prog_1_method_35_code
def yX0_go : MethodName := ⟨RX0, "go", "(II)I"⟩
def dkwX0_go_2 : List UInt8 := [153, 0, 11, 42, 28, 182, 1, 10, 167, 0, 8, 42, 6, 182, 0, 160, 172]
abbrev dktX0_go_2 : List UInt8 := dkwX0_go_2 ++ []
def dkwX0_go_1 : List UInt8 := [180, 0, 109, 16, 30, 182, 0, 244, 62, 29, 158, 0, 9, 42, 29, 182, 0, 160, 172, 42, 182, 1, 6]
abbrev dktX0_go_1 : List UInt8 := dkwX0_go_1 ++ dktX0_go_2
def dkwX0_go_0 : List UInt8 := [27, 184, 0, 241, 153, 0, 10, 28, 184, 0, 170, 154, 0, 9, 42, 4, 182, 0, 160, 172, 42, 27, 42]
abbrev dktX0_go_0 : List UInt8 := dkwX0_go_0 ++ dktX0_go_1
theorem dksX0_go_0 : cX0_go.data.toList.drop 0 = dktX0_go_0 := by decide +kernel
theorem dksX0_go_1 : cX0_go.data.toList.drop 23 = dktX0_go_1 := dk_seg dksX0_go_0 23 rfl rfl
theorem dksX0_go_2 : cX0_go.data.toList.drop 46 = dktX0_go_2 := dk_seg dksX0_go_1 23 rfl rfl
theorem dX0_go_0 : decode cX0_go 0 = .ok (.iload_n 1, 1) := dk_27 (dk_at dksX0_go_0 0 rfl rfl)
theorem dX0_go_1 : decode cX0_go 1 = .ok (.invokestatic 241, 3) := dk_184 0 241 (dk_at dksX0_go_0 1 rfl rfl)
theorem dX0_go_4 : decode cX0_go 4 = .ok (.ifCond .eq 10, 3) := dk_153 0 10 (dk_at dksX0_go_0 4 rfl rfl)
theorem dX0_go_7 : decode cX0_go 7 = .ok (.iload_n 2, 1) := dk_28 (dk_at dksX0_go_0 7 rfl rfl)
theorem dX0_go_8 : decode cX0_go 8 = .ok (.invokestatic 170, 3) := dk_184 0 170 (dk_at dksX0_go_0 8 rfl rfl)
theorem dX0_go_11 : decode cX0_go 11 = .ok (.ifCond .ne 9, 3) := dk_154 0 9 (dk_at dksX0_go_0 11 rfl rfl)
theorem dX0_go_14 : decode cX0_go 14 = .ok (.aload_n 0, 1) := dk_42 (dk_at dksX0_go_0 14 rfl rfl)
theorem dX0_go_15 : decode cX0_go 15 = .ok (.iconst 1, 1) := dk_4 (dk_at dksX0_go_0 15 rfl rfl)
theorem dX0_go_16 : decode cX0_go 16 = .ok (.invokevirtual 160, 3) := dk_182 0 160 (dk_at dksX0_go_0 16 rfl rfl)
theorem dX0_go_19 : decode cX0_go 19 = .ok (.ireturn, 1) := dk_172 (dk_at dksX0_go_0 19 rfl rfl)
theorem dX0_go_20 : decode cX0_go 20 = .ok (.aload_n 0, 1) := dk_42 (dk_at dksX0_go_0 20 rfl rfl)
theorem dX0_go_21 : decode cX0_go 21 = .ok (.iload_n 1, 1) := dk_27 (dk_at dksX0_go_0 21 rfl rfl)
theorem dX0_go_22 : decode cX0_go 22 = .ok (.aload_n 0, 1) := dk_42 (dk_at dksX0_go_0 22 rfl rfl)
theorem dX0_go_23 : decode cX0_go 23 = .ok (.getfield 109, 3) := dk_180 0 109 (dk_at dksX0_go_1 0 rfl rfl)
theorem dX0_go_26 : decode cX0_go 26 = .ok (.bipush 30, 2) := dk_16 30 (dk_at dksX0_go_1 3 rfl rfl)
theorem dX0_go_28 : decode cX0_go 28 = .ok (.invokevirtual 244, 3) := dk_182 0 244 (dk_at dksX0_go_1 5 rfl rfl)
theorem dX0_go_31 : decode cX0_go 31 = .ok (.istore_n 3, 1) := dk_62 (dk_at dksX0_go_1 8 rfl rfl)
theorem dX0_go_32 : decode cX0_go 32 = .ok (.iload_n 3, 1) := dk_29 (dk_at dksX0_go_1 9 rfl rfl)
theorem dX0_go_33 : decode cX0_go 33 = .ok (.ifCond .le 9, 3) := dk_158 0 9 (dk_at dksX0_go_1 10 rfl rfl)
theorem dX0_go_36 : decode cX0_go 36 = .ok (.aload_n 0, 1) := dk_42 (dk_at dksX0_go_1 13 rfl rfl)
theorem dX0_go_37 : decode cX0_go 37 = .ok (.iload_n 3, 1) := dk_29 (dk_at dksX0_go_1 14 rfl rfl)
theorem dX0_go_38 : decode cX0_go 38 = .ok (.invokevirtual 160, 3) := dk_182 0 160 (dk_at dksX0_go_1 15 rfl rfl)
theorem dX0_go_41 : decode cX0_go 41 = .ok (.ireturn, 1) := dk_172 (dk_at dksX0_go_1 18 rfl rfl)
theorem dX0_go_42 : decode cX0_go 42 = .ok (.aload_n 0, 1) := dk_42 (dk_at dksX0_go_1 19 rfl rfl)
theorem dX0_go_43 : decode cX0_go 43 = .ok (.invokevirtual 262, 3) := dk_182 1 6 (dk_at dksX0_go_1 20 rfl rfl)
theorem dX0_go_46 : decode cX0_go 46 = .ok (.ifCond .eq 11, 3) := dk_153 0 11 (dk_at dksX0_go_2 0 rfl rfl)
theorem dX0_go_49 : decode cX0_go 49 = .ok (.aload_n 0, 1) := dk_42 (dk_at dksX0_go_2 3 rfl rfl)
theorem dX0_go_50 : decode cX0_go 50 = .ok (.iload_n 2, 1) := dk_28 (dk_at dksX0_go_2 4 rfl rfl)
theorem dX0_go_51 : decode cX0_go 51 = .ok (.invokevirtual 266, 3) := dk_182 1 10 (dk_at dksX0_go_2 5 rfl rfl)
theorem dX0_go_54 : decode cX0_go 54 = .ok (.goto 8, 3) := dk_167 0 8 (dk_at dksX0_go_2 8 rfl rfl)
theorem dX0_go_57 : decode cX0_go 57 = .ok (.aload_n 0, 1) := dk_42 (dk_at dksX0_go_2 11 rfl rfl)
theorem dX0_go_58 : decode cX0_go 58 = .ok (.iconst 3, 1) := dk_6 (dk_at dksX0_go_2 12 rfl rfl)
theorem dX0_go_59 : decode cX0_go 59 = .ok (.invokevirtual 160, 3) := dk_182 0 160 (dk_at dksX0_go_2 13 rfl rfl)
theorem dX0_go_62 : decode cX0_go 62 = .ok (.ireturn, 1) := dk_172 (dk_at dksX0_go_2 16 rfl rfl)
abbrev cX0_isThere : ByteArray := prog_1_method_33_code
def yX0_isThere : MethodName := ⟨RX0, "isThere", "()Z"⟩
def dkwX0_isThere_1 : List UInt8 := [28, 46, 163, 0, 7, 4, 167, 0, 4, 3, 126, 60, 132, 2, 1, 167, 255, 221, 27, 172]
abbrev dktX0_isThere_1 : List UInt8 := dkwX0_isThere_1 ++ []
def dkwX0_isThere_0 : List UInt8 := [4, 60, 3, 61, 28, 16, 8, 162, 0, 35, 27, 42, 180, 0, 109, 28, 51, 42, 180, 0, 76, 180, 0, 164]
abbrev dktX0_isThere_0 : List UInt8 := dkwX0_isThere_0 ++ dktX0_isThere_1
theorem dksX0_isThere_0 : cX0_isThere.data.toList.drop 0 = dktX0_isThere_0 := by decide +kernel
theorem dksX0_isThere_1 : cX0_isThere.data.toList.drop 24 = dktX0_isThere_1 := dk_seg dksX0_isThere_0 24 rfl rfl
theorem dX0_isThere_0 : decode cX0_isThere 0 = .ok (.iconst 1, 1) := dk_4 (dk_at dksX0_isThere_0 0 rfl rfl)
theorem dX0_isThere_1 : decode cX0_isThere 1 = .ok (.istore_n 1, 1) := dk_60 (dk_at dksX0_isThere_0 1 rfl rfl)
theorem dX0_isThere_2 : decode cX0_isThere 2 = .ok (.iconst 0, 1) := dk_3 (dk_at dksX0_isThere_0 2 rfl rfl)
theorem dX0_isThere_3 : decode cX0_isThere 3 = .ok (.istore_n 2, 1) := dk_61 (dk_at dksX0_isThere_0 3 rfl rfl)
theorem dX0_isThere_4 : decode cX0_isThere 4 = .ok (.iload_n 2, 1) := dk_28 (dk_at dksX0_isThere_0 4 rfl rfl)
theorem dX0_isThere_5 : decode cX0_isThere 5 = .ok (.bipush 8, 2) := dk_16 8 (dk_at dksX0_isThere_0 5 rfl rfl)
theorem dX0_isThere_7 : decode cX0_isThere 7 = .ok (.if_icmp .ge 35, 3) := dk_162 0 35 (dk_at dksX0_isThere_0 7 rfl rfl)
theorem dX0_isThere_10 : decode cX0_isThere 10 = .ok (.iload_n 1, 1) := dk_27 (dk_at dksX0_isThere_0 10 rfl rfl)
theorem dX0_isThere_11 : decode cX0_isThere 11 = .ok (.aload_n 0, 1) := dk_42 (dk_at dksX0_isThere_0 11 rfl rfl)
theorem dX0_isThere_12 : decode cX0_isThere 12 = .ok (.getfield 109, 3) := dk_180 0 109 (dk_at dksX0_isThere_0 12 rfl rfl)
theorem dX0_isThere_15 : decode cX0_isThere 15 = .ok (.iload_n 2, 1) := dk_28 (dk_at dksX0_isThere_0 15 rfl rfl)
theorem dX0_isThere_16 : decode cX0_isThere 16 = .ok (.baload, 1) := dk_51 (dk_at dksX0_isThere_0 16 rfl rfl)
theorem dX0_isThere_17 : decode cX0_isThere 17 = .ok (.aload_n 0, 1) := dk_42 (dk_at dksX0_isThere_0 17 rfl rfl)
theorem dX0_isThere_18 : decode cX0_isThere 18 = .ok (.getfield 76, 3) := dk_180 0 76 (dk_at dksX0_isThere_0 18 rfl rfl)
theorem dX0_isThere_21 : decode cX0_isThere 21 = .ok (.getfield 164, 3) := dk_180 0 164 (dk_at dksX0_isThere_0 21 rfl rfl)
theorem dX0_isThere_24 : decode cX0_isThere 24 = .ok (.iload_n 2, 1) := dk_28 (dk_at dksX0_isThere_1 0 rfl rfl)
theorem dX0_isThere_25 : decode cX0_isThere 25 = .ok (.iaload, 1) := dk_46 (dk_at dksX0_isThere_1 1 rfl rfl)
theorem dX0_isThere_26 : decode cX0_isThere 26 = .ok (.if_icmp .gt 7, 3) := dk_163 0 7 (dk_at dksX0_isThere_1 2 rfl rfl)
theorem dX0_isThere_29 : decode cX0_isThere 29 = .ok (.iconst 1, 1) := dk_4 (dk_at dksX0_isThere_1 5 rfl rfl)
theorem dX0_isThere_30 : decode cX0_isThere 30 = .ok (.goto 4, 3) := dk_167 0 4 (dk_at dksX0_isThere_1 6 rfl rfl)
theorem dX0_isThere_33 : decode cX0_isThere 33 = .ok (.iconst 0, 1) := dk_3 (dk_at dksX0_isThere_1 9 rfl rfl)
theorem dX0_isThere_34 : decode cX0_isThere 34 = .ok (.iand, 1) := dk_126 (dk_at dksX0_isThere_1 10 rfl rfl)
theorem dX0_isThere_35 : decode cX0_isThere 35 = .ok (.istore_n 1, 1) := dk_60 (dk_at dksX0_isThere_1 11 rfl rfl)
theorem dX0_isThere_36 : decode cX0_isThere 36 = .ok (.iinc 2 1, 3) := dk_132 2 1 (dk_at dksX0_isThere_1 12 rfl rfl)
theorem dX0_isThere_39 : decode cX0_isThere 39 = .ok (.goto (-35), 3) := dk_167 255 221 (dk_at dksX0_isThere_1 15 rfl rfl)
theorem dX0_isThere_42 : decode cX0_isThere 42 = .ok (.iload_n 1, 1) := dk_27 (dk_at dksX0_isThere_1 18 rfl rfl)
theorem dX0_isThere_43 : decode cX0_isThere 43 = .ok (.ireturn, 1) := dk_172 (dk_at dksX0_isThere_1 19 rfl rfl)
abbrev cX0_goes : ByteArray := prog_1_method_34_code
def yX0_goes : MethodName := ⟨RX0, "goes", "(I)I"⟩
def dkwX0_goes_5 : List UInt8 := [184, 0, 1, 181, 1, 3, 28, 172]
abbrev dktX0_goes_5 : List UInt8 := dkwX0_goes_5 ++ []
def dkwX0_goes_4 : List UInt8 := [184, 0, 1, 181, 1, 0, 42, 180, 0, 76, 17, 39, 15, 42, 180, 0, 76, 180, 1, 3, 4, 96]
abbrev dktX0_goes_4 : List UInt8 := dkwX0_goes_4 ++ dktX0_goes_5
def dkwX0_goes_3 : List UInt8 := [180, 0, 76, 180, 1, 0, 42, 42, 180, 0, 109, 42, 180, 0, 76, 180, 0, 136, 182, 0, 225, 96]
abbrev dktX0_goes_3 : List UInt8 := dkwX0_goes_3 ++ dktX0_goes_4
def dkwX0_goes_2 : List UInt8 := [18, 252, 42, 180, 0, 76, 180, 0, 253, 28, 96, 184, 0, 1, 181, 0, 253, 42, 180, 0, 76, 18, 252, 42]
abbrev dktX0_goes_2 : List UInt8 := dkwX0_goes_2 ++ dktX0_goes_3
def dkwX0_goes_1 : List UInt8 := [180, 0, 164, 29, 92, 46, 42, 180, 0, 109, 29, 51, 100, 79, 132, 3, 1, 167, 255, 229, 42, 180, 0, 76]
abbrev dktX0_goes_1 : List UInt8 := dkwX0_goes_1 ++ dktX0_goes_2
def dkwX0_goes_0 : List UInt8 := [42, 42, 180, 0, 109, 27, 182, 0, 248, 61, 3, 62, 29, 16, 8, 162, 0, 27, 42, 180, 0, 76]
abbrev dktX0_goes_0 : List UInt8 := dkwX0_goes_0 ++ dktX0_goes_1
theorem dksX0_goes_0 : cX0_goes.data.toList.drop 0 = dktX0_goes_0 := by decide +kernel
theorem dksX0_goes_1 : cX0_goes.data.toList.drop 22 = dktX0_goes_1 := dk_seg dksX0_goes_0 22 rfl rfl
theorem dksX0_goes_2 : cX0_goes.data.toList.drop 46 = dktX0_goes_2 := dk_seg dksX0_goes_1 24 rfl rfl
theorem dksX0_goes_3 : cX0_goes.data.toList.drop 70 = dktX0_goes_3 := dk_seg dksX0_goes_2 24 rfl rfl
theorem dksX0_goes_4 : cX0_goes.data.toList.drop 92 = dktX0_goes_4 := dk_seg dksX0_goes_3 22 rfl rfl
theorem dksX0_goes_5 : cX0_goes.data.toList.drop 114 = dktX0_goes_5 := dk_seg dksX0_goes_4 22 rfl rfl
theorem dX0_goes_0 : decode cX0_goes 0 = .ok (.aload_n 0, 1) := dk_42 (dk_at dksX0_goes_0 0 rfl rfl)
theorem dX0_goes_1 : decode cX0_goes 1 = .ok (.aload_n 0, 1) := dk_42 (dk_at dksX0_goes_0 1 rfl rfl)
theorem dX0_goes_2 : decode cX0_goes 2 = .ok (.getfield 109, 3) := dk_180 0 109 (dk_at dksX0_goes_0 2 rfl rfl)
theorem dX0_goes_5 : decode cX0_goes 5 = .ok (.iload_n 1, 1) := dk_27 (dk_at dksX0_goes_0 5 rfl rfl)
theorem dX0_goes_6 : decode cX0_goes 6 = .ok (.invokevirtual 248, 3) := dk_182 0 248 (dk_at dksX0_goes_0 6 rfl rfl)
theorem dX0_goes_9 : decode cX0_goes 9 = .ok (.istore_n 2, 1) := dk_61 (dk_at dksX0_goes_0 9 rfl rfl)
theorem dX0_goes_10 : decode cX0_goes 10 = .ok (.iconst 0, 1) := dk_3 (dk_at dksX0_goes_0 10 rfl rfl)
theorem dX0_goes_11 : decode cX0_goes 11 = .ok (.istore_n 3, 1) := dk_62 (dk_at dksX0_goes_0 11 rfl rfl)
theorem dX0_goes_12 : decode cX0_goes 12 = .ok (.iload_n 3, 1) := dk_29 (dk_at dksX0_goes_0 12 rfl rfl)
theorem dX0_goes_13 : decode cX0_goes 13 = .ok (.bipush 8, 2) := dk_16 8 (dk_at dksX0_goes_0 13 rfl rfl)
theorem dX0_goes_15 : decode cX0_goes 15 = .ok (.if_icmp .ge 27, 3) := dk_162 0 27 (dk_at dksX0_goes_0 15 rfl rfl)
theorem dX0_goes_18 : decode cX0_goes 18 = .ok (.aload_n 0, 1) := dk_42 (dk_at dksX0_goes_0 18 rfl rfl)
theorem dX0_goes_19 : decode cX0_goes 19 = .ok (.getfield 76, 3) := dk_180 0 76 (dk_at dksX0_goes_0 19 rfl rfl)
theorem dX0_goes_22 : decode cX0_goes 22 = .ok (.getfield 164, 3) := dk_180 0 164 (dk_at dksX0_goes_1 0 rfl rfl)
theorem dX0_goes_25 : decode cX0_goes 25 = .ok (.iload_n 3, 1) := dk_29 (dk_at dksX0_goes_1 3 rfl rfl)
theorem dX0_goes_26 : decode cX0_goes 26 = .ok (.dup2, 1) := dk_92 (dk_at dksX0_goes_1 4 rfl rfl)
theorem dX0_goes_27 : decode cX0_goes 27 = .ok (.iaload, 1) := dk_46 (dk_at dksX0_goes_1 5 rfl rfl)
theorem dX0_goes_28 : decode cX0_goes 28 = .ok (.aload_n 0, 1) := dk_42 (dk_at dksX0_goes_1 6 rfl rfl)
theorem dX0_goes_29 : decode cX0_goes 29 = .ok (.getfield 109, 3) := dk_180 0 109 (dk_at dksX0_goes_1 7 rfl rfl)
theorem dX0_goes_32 : decode cX0_goes 32 = .ok (.iload_n 3, 1) := dk_29 (dk_at dksX0_goes_1 10 rfl rfl)
theorem dX0_goes_33 : decode cX0_goes 33 = .ok (.baload, 1) := dk_51 (dk_at dksX0_goes_1 11 rfl rfl)
theorem dX0_goes_34 : decode cX0_goes 34 = .ok (.isub, 1) := dk_100 (dk_at dksX0_goes_1 12 rfl rfl)
theorem dX0_goes_35 : decode cX0_goes 35 = .ok (.iastore, 1) := dk_79 (dk_at dksX0_goes_1 13 rfl rfl)
theorem dX0_goes_36 : decode cX0_goes 36 = .ok (.iinc 3 1, 3) := dk_132 3 1 (dk_at dksX0_goes_1 14 rfl rfl)
theorem dX0_goes_39 : decode cX0_goes 39 = .ok (.goto (-27), 3) := dk_167 255 229 (dk_at dksX0_goes_1 17 rfl rfl)
theorem dX0_goes_42 : decode cX0_goes 42 = .ok (.aload_n 0, 1) := dk_42 (dk_at dksX0_goes_1 20 rfl rfl)
theorem dX0_goes_43 : decode cX0_goes 43 = .ok (.getfield 76, 3) := dk_180 0 76 (dk_at dksX0_goes_1 21 rfl rfl)
theorem dX0_goes_46 : decode cX0_goes 46 = .ok (.ldc 252, 2) := dk_18 252 (dk_at dksX0_goes_2 0 rfl rfl)
theorem dX0_goes_48 : decode cX0_goes 48 = .ok (.aload_n 0, 1) := dk_42 (dk_at dksX0_goes_2 2 rfl rfl)
theorem dX0_goes_49 : decode cX0_goes 49 = .ok (.getfield 76, 3) := dk_180 0 76 (dk_at dksX0_goes_2 3 rfl rfl)
theorem dX0_goes_52 : decode cX0_goes 52 = .ok (.getfield 253, 3) := dk_180 0 253 (dk_at dksX0_goes_2 6 rfl rfl)
theorem dX0_goes_55 : decode cX0_goes 55 = .ok (.iload_n 2, 1) := dk_28 (dk_at dksX0_goes_2 9 rfl rfl)
theorem dX0_goes_56 : decode cX0_goes 56 = .ok (.iadd, 1) := dk_96 (dk_at dksX0_goes_2 10 rfl rfl)
theorem dX0_goes_57 : decode cX0_goes 57 = .ok (.invokestatic 1, 3) := dk_184 0 1 (dk_at dksX0_goes_2 11 rfl rfl)
theorem dX0_goes_60 : decode cX0_goes 60 = .ok (.putfield 253, 3) := dk_181 0 253 (dk_at dksX0_goes_2 14 rfl rfl)
theorem dX0_goes_63 : decode cX0_goes 63 = .ok (.aload_n 0, 1) := dk_42 (dk_at dksX0_goes_2 17 rfl rfl)
theorem dX0_goes_64 : decode cX0_goes 64 = .ok (.getfield 76, 3) := dk_180 0 76 (dk_at dksX0_goes_2 18 rfl rfl)
theorem dX0_goes_67 : decode cX0_goes 67 = .ok (.ldc 252, 2) := dk_18 252 (dk_at dksX0_goes_2 21 rfl rfl)
theorem dX0_goes_69 : decode cX0_goes 69 = .ok (.aload_n 0, 1) := dk_42 (dk_at dksX0_goes_2 23 rfl rfl)
theorem dX0_goes_70 : decode cX0_goes 70 = .ok (.getfield 76, 3) := dk_180 0 76 (dk_at dksX0_goes_3 0 rfl rfl)
theorem dX0_goes_73 : decode cX0_goes 73 = .ok (.getfield 256, 3) := dk_180 1 0 (dk_at dksX0_goes_3 3 rfl rfl)
theorem dX0_goes_76 : decode cX0_goes 76 = .ok (.aload_n 0, 1) := dk_42 (dk_at dksX0_goes_3 6 rfl rfl)
theorem dX0_goes_77 : decode cX0_goes 77 = .ok (.aload_n 0, 1) := dk_42 (dk_at dksX0_goes_3 7 rfl rfl)
theorem dX0_goes_78 : decode cX0_goes 78 = .ok (.getfield 109, 3) := dk_180 0 109 (dk_at dksX0_goes_3 8 rfl rfl)
theorem dX0_goes_81 : decode cX0_goes 81 = .ok (.aload_n 0, 1) := dk_42 (dk_at dksX0_goes_3 11 rfl rfl)
theorem dX0_goes_82 : decode cX0_goes 82 = .ok (.getfield 76, 3) := dk_180 0 76 (dk_at dksX0_goes_3 12 rfl rfl)
theorem dX0_goes_85 : decode cX0_goes 85 = .ok (.getfield 136, 3) := dk_180 0 136 (dk_at dksX0_goes_3 15 rfl rfl)
theorem dX0_goes_88 : decode cX0_goes 88 = .ok (.invokevirtual 225, 3) := dk_182 0 225 (dk_at dksX0_goes_3 18 rfl rfl)
theorem dX0_goes_91 : decode cX0_goes 91 = .ok (.iadd, 1) := dk_96 (dk_at dksX0_goes_3 21 rfl rfl)
theorem dX0_goes_92 : decode cX0_goes 92 = .ok (.invokestatic 1, 3) := dk_184 0 1 (dk_at dksX0_goes_4 0 rfl rfl)
theorem dX0_goes_95 : decode cX0_goes 95 = .ok (.putfield 256, 3) := dk_181 1 0 (dk_at dksX0_goes_4 3 rfl rfl)
theorem dX0_goes_98 : decode cX0_goes 98 = .ok (.aload_n 0, 1) := dk_42 (dk_at dksX0_goes_4 6 rfl rfl)
theorem dX0_goes_99 : decode cX0_goes 99 = .ok (.getfield 76, 3) := dk_180 0 76 (dk_at dksX0_goes_4 7 rfl rfl)
theorem dX0_goes_102 : decode cX0_goes 102 = .ok (.sipush 9999, 3) := dk_17 39 15 (dk_at dksX0_goes_4 10 rfl rfl)
theorem dX0_goes_105 : decode cX0_goes 105 = .ok (.aload_n 0, 1) := dk_42 (dk_at dksX0_goes_4 13 rfl rfl)
theorem dX0_goes_106 : decode cX0_goes 106 = .ok (.getfield 76, 3) := dk_180 0 76 (dk_at dksX0_goes_4 14 rfl rfl)
theorem dX0_goes_109 : decode cX0_goes 109 = .ok (.getfield 259, 3) := dk_180 1 3 (dk_at dksX0_goes_4 17 rfl rfl)
theorem dX0_goes_112 : decode cX0_goes 112 = .ok (.iconst 1, 1) := dk_4 (dk_at dksX0_goes_4 20 rfl rfl)
theorem dX0_goes_113 : decode cX0_goes 113 = .ok (.iadd, 1) := dk_96 (dk_at dksX0_goes_4 21 rfl rfl)
theorem dX0_goes_114 : decode cX0_goes 114 = .ok (.invokestatic 1, 3) := dk_184 0 1 (dk_at dksX0_goes_5 0 rfl rfl)
theorem dX0_goes_117 : decode cX0_goes 117 = .ok (.putfield 259, 3) := dk_181 1 3 (dk_at dksX0_goes_5 3 rfl rfl)
theorem dX0_goes_120 : decode cX0_goes 120 = .ok (.iload_n 2, 1) := dk_28 (dk_at dksX0_goes_5 6 rfl rfl)
theorem dX0_goes_121 : decode cX0_goes 121 = .ok (.ireturn, 1) := dk_172 (dk_at dksX0_goes_5 7 rfl rfl)
abbrev cX0_draws : ByteArray := prog_1_method_37_code
def yX0_draws : MethodName := ⟨RX0, "draws", "(I)I"⟩
def dkwX0_draws_2 : List UInt8 := [28, 172]
abbrev dktX0_draws_2 : List UInt8 := dkwX0_draws_2 ++ []
def dkwX0_draws_1 : List UInt8 := [162, 0, 24, 28, 42, 182, 1, 15, 153, 0, 7, 4, 167, 0, 4, 3, 96, 61, 132, 3, 1, 167, 255, 233]
abbrev dktX0_draws_1 : List UInt8 := dkwX0_draws_1 ++ dktX0_draws_2
def dkwX0_draws_0 : List UInt8 := [27, 4, 16, 60, 184, 0, 125, 154, 0, 9, 42, 4, 182, 0, 160, 172, 3, 61, 3, 62, 29, 27]
abbrev dktX0_draws_0 : List UInt8 := dkwX0_draws_0 ++ dktX0_draws_1
theorem dksX0_draws_0 : cX0_draws.data.toList.drop 0 = dktX0_draws_0 := by decide +kernel
theorem dksX0_draws_1 : cX0_draws.data.toList.drop 22 = dktX0_draws_1 := dk_seg dksX0_draws_0 22 rfl rfl
theorem dksX0_draws_2 : cX0_draws.data.toList.drop 46 = dktX0_draws_2 := dk_seg dksX0_draws_1 24 rfl rfl
theorem dX0_draws_0 : decode cX0_draws 0 = .ok (.iload_n 1, 1) := dk_27 (dk_at dksX0_draws_0 0 rfl rfl)
theorem dX0_draws_1 : decode cX0_draws 1 = .ok (.iconst 1, 1) := dk_4 (dk_at dksX0_draws_0 1 rfl rfl)
theorem dX0_draws_2 : decode cX0_draws 2 = .ok (.bipush 60, 2) := dk_16 60 (dk_at dksX0_draws_0 2 rfl rfl)
theorem dX0_draws_4 : decode cX0_draws 4 = .ok (.invokestatic 125, 3) := dk_184 0 125 (dk_at dksX0_draws_0 4 rfl rfl)
theorem dX0_draws_7 : decode cX0_draws 7 = .ok (.ifCond .ne 9, 3) := dk_154 0 9 (dk_at dksX0_draws_0 7 rfl rfl)
theorem dX0_draws_10 : decode cX0_draws 10 = .ok (.aload_n 0, 1) := dk_42 (dk_at dksX0_draws_0 10 rfl rfl)
theorem dX0_draws_11 : decode cX0_draws 11 = .ok (.iconst 1, 1) := dk_4 (dk_at dksX0_draws_0 11 rfl rfl)
theorem dX0_draws_12 : decode cX0_draws 12 = .ok (.invokevirtual 160, 3) := dk_182 0 160 (dk_at dksX0_draws_0 12 rfl rfl)
theorem dX0_draws_15 : decode cX0_draws 15 = .ok (.ireturn, 1) := dk_172 (dk_at dksX0_draws_0 15 rfl rfl)
theorem dX0_draws_16 : decode cX0_draws 16 = .ok (.iconst 0, 1) := dk_3 (dk_at dksX0_draws_0 16 rfl rfl)
theorem dX0_draws_17 : decode cX0_draws 17 = .ok (.istore_n 2, 1) := dk_61 (dk_at dksX0_draws_0 17 rfl rfl)
theorem dX0_draws_18 : decode cX0_draws 18 = .ok (.iconst 0, 1) := dk_3 (dk_at dksX0_draws_0 18 rfl rfl)
theorem dX0_draws_19 : decode cX0_draws 19 = .ok (.istore_n 3, 1) := dk_62 (dk_at dksX0_draws_0 19 rfl rfl)
theorem dX0_draws_20 : decode cX0_draws 20 = .ok (.iload_n 3, 1) := dk_29 (dk_at dksX0_draws_0 20 rfl rfl)
theorem dX0_draws_21 : decode cX0_draws 21 = .ok (.iload_n 1, 1) := dk_27 (dk_at dksX0_draws_0 21 rfl rfl)
theorem dX0_draws_22 : decode cX0_draws 22 = .ok (.if_icmp .ge 24, 3) := dk_162 0 24 (dk_at dksX0_draws_1 0 rfl rfl)
theorem dX0_draws_25 : decode cX0_draws 25 = .ok (.iload_n 2, 1) := dk_28 (dk_at dksX0_draws_1 3 rfl rfl)
theorem dX0_draws_26 : decode cX0_draws 26 = .ok (.aload_n 0, 1) := dk_42 (dk_at dksX0_draws_1 4 rfl rfl)
theorem dX0_draws_27 : decode cX0_draws 27 = .ok (.invokevirtual 271, 3) := dk_182 1 15 (dk_at dksX0_draws_1 5 rfl rfl)
theorem dX0_draws_30 : decode cX0_draws 30 = .ok (.ifCond .eq 7, 3) := dk_153 0 7 (dk_at dksX0_draws_1 8 rfl rfl)
theorem dX0_draws_33 : decode cX0_draws 33 = .ok (.iconst 1, 1) := dk_4 (dk_at dksX0_draws_1 11 rfl rfl)
theorem dX0_draws_34 : decode cX0_draws 34 = .ok (.goto 4, 3) := dk_167 0 4 (dk_at dksX0_draws_1 12 rfl rfl)
theorem dX0_draws_37 : decode cX0_draws 37 = .ok (.iconst 0, 1) := dk_3 (dk_at dksX0_draws_1 15 rfl rfl)
theorem dX0_draws_38 : decode cX0_draws 38 = .ok (.iadd, 1) := dk_96 (dk_at dksX0_draws_1 16 rfl rfl)
theorem dX0_draws_39 : decode cX0_draws 39 = .ok (.istore_n 2, 1) := dk_61 (dk_at dksX0_draws_1 17 rfl rfl)
theorem dX0_draws_40 : decode cX0_draws 40 = .ok (.iinc 3 1, 3) := dk_132 3 1 (dk_at dksX0_draws_1 18 rfl rfl)
theorem dX0_draws_43 : decode cX0_draws 43 = .ok (.goto (-23), 3) := dk_167 255 233 (dk_at dksX0_draws_1 21 rfl rfl)
theorem dX0_draws_46 : decode cX0_draws 46 = .ok (.iload_n 2, 1) := dk_28 (dk_at dksX0_draws_2 0 rfl rfl)
theorem dX0_draws_47 : decode cX0_draws 47 = .ok (.ireturn, 1) := dk_172 (dk_at dksX0_draws_2 1 rfl rfl)
abbrev cX0_buys : ByteArray := prog_1_method_36_code
def yX0_buys : MethodName := ⟨RX0, "buys", "()Z"⟩
def dkwX0_buys_3 : List UInt8 := [28, 182, 1, 10, 54, 4, 29, 172]
abbrev dktX0_buys_3 : List UInt8 := dkwX0_buys_3 ++ []
def dkwX0_buys_2 : List UInt8 := [112, 96, 145, 84, 42, 180, 0, 76, 182, 1, 12, 7, 112, 61, 42, 182, 1, 6, 62, 29, 153, 0, 10, 42]
abbrev dktX0_buys_2 : List UInt8 := dkwX0_buys_2 ++ dktX0_buys_3
def dkwX0_buys_1 : List UInt8 := [180, 0, 76, 182, 1, 12, 16, 8, 112, 60, 42, 180, 0, 109, 27, 4, 42, 180, 0, 76, 182, 1, 12, 7]
abbrev dktX0_buys_1 : List UInt8 := dkwX0_buys_1 ++ dktX0_buys_2
def dkwX0_buys_0 : List UInt8 := [3, 60, 27, 16, 8, 162, 0, 16, 42, 180, 0, 109, 27, 3, 84, 132, 1, 1, 167, 255, 240, 42]
abbrev dktX0_buys_0 : List UInt8 := dkwX0_buys_0 ++ dktX0_buys_1
theorem dksX0_buys_0 : cX0_buys.data.toList.drop 0 = dktX0_buys_0 := by decide +kernel
theorem dksX0_buys_1 : cX0_buys.data.toList.drop 22 = dktX0_buys_1 := dk_seg dksX0_buys_0 22 rfl rfl
theorem dksX0_buys_2 : cX0_buys.data.toList.drop 46 = dktX0_buys_2 := dk_seg dksX0_buys_1 24 rfl rfl
theorem dksX0_buys_3 : cX0_buys.data.toList.drop 70 = dktX0_buys_3 := dk_seg dksX0_buys_2 24 rfl rfl
theorem dX0_buys_0 : decode cX0_buys 0 = .ok (.iconst 0, 1) := dk_3 (dk_at dksX0_buys_0 0 rfl rfl)
theorem dX0_buys_1 : decode cX0_buys 1 = .ok (.istore_n 1, 1) := dk_60 (dk_at dksX0_buys_0 1 rfl rfl)
theorem dX0_buys_2 : decode cX0_buys 2 = .ok (.iload_n 1, 1) := dk_27 (dk_at dksX0_buys_0 2 rfl rfl)
theorem dX0_buys_3 : decode cX0_buys 3 = .ok (.bipush 8, 2) := dk_16 8 (dk_at dksX0_buys_0 3 rfl rfl)
theorem dX0_buys_5 : decode cX0_buys 5 = .ok (.if_icmp .ge 16, 3) := dk_162 0 16 (dk_at dksX0_buys_0 5 rfl rfl)
theorem dX0_buys_8 : decode cX0_buys 8 = .ok (.aload_n 0, 1) := dk_42 (dk_at dksX0_buys_0 8 rfl rfl)
theorem dX0_buys_9 : decode cX0_buys 9 = .ok (.getfield 109, 3) := dk_180 0 109 (dk_at dksX0_buys_0 9 rfl rfl)
theorem dX0_buys_12 : decode cX0_buys 12 = .ok (.iload_n 1, 1) := dk_27 (dk_at dksX0_buys_0 12 rfl rfl)
theorem dX0_buys_13 : decode cX0_buys 13 = .ok (.iconst 0, 1) := dk_3 (dk_at dksX0_buys_0 13 rfl rfl)
theorem dX0_buys_14 : decode cX0_buys 14 = .ok (.bastore, 1) := dk_84 (dk_at dksX0_buys_0 14 rfl rfl)
theorem dX0_buys_15 : decode cX0_buys 15 = .ok (.iinc 1 1, 3) := dk_132 1 1 (dk_at dksX0_buys_0 15 rfl rfl)
theorem dX0_buys_18 : decode cX0_buys 18 = .ok (.goto (-16), 3) := dk_167 255 240 (dk_at dksX0_buys_0 18 rfl rfl)
theorem dX0_buys_21 : decode cX0_buys 21 = .ok (.aload_n 0, 1) := dk_42 (dk_at dksX0_buys_0 21 rfl rfl)
theorem dX0_buys_22 : decode cX0_buys 22 = .ok (.getfield 76, 3) := dk_180 0 76 (dk_at dksX0_buys_1 0 rfl rfl)
theorem dX0_buys_25 : decode cX0_buys 25 = .ok (.invokevirtual 268, 3) := dk_182 1 12 (dk_at dksX0_buys_1 3 rfl rfl)
theorem dX0_buys_28 : decode cX0_buys 28 = .ok (.bipush 8, 2) := dk_16 8 (dk_at dksX0_buys_1 6 rfl rfl)
theorem dX0_buys_30 : decode cX0_buys 30 = .ok (.irem, 1) := dk_112 (dk_at dksX0_buys_1 8 rfl rfl)
theorem dX0_buys_31 : decode cX0_buys 31 = .ok (.istore_n 1, 1) := dk_60 (dk_at dksX0_buys_1 9 rfl rfl)
theorem dX0_buys_32 : decode cX0_buys 32 = .ok (.aload_n 0, 1) := dk_42 (dk_at dksX0_buys_1 10 rfl rfl)
theorem dX0_buys_33 : decode cX0_buys 33 = .ok (.getfield 109, 3) := dk_180 0 109 (dk_at dksX0_buys_1 11 rfl rfl)
theorem dX0_buys_36 : decode cX0_buys 36 = .ok (.iload_n 1, 1) := dk_27 (dk_at dksX0_buys_1 14 rfl rfl)
theorem dX0_buys_37 : decode cX0_buys 37 = .ok (.iconst 1, 1) := dk_4 (dk_at dksX0_buys_1 15 rfl rfl)
theorem dX0_buys_38 : decode cX0_buys 38 = .ok (.aload_n 0, 1) := dk_42 (dk_at dksX0_buys_1 16 rfl rfl)
theorem dX0_buys_39 : decode cX0_buys 39 = .ok (.getfield 76, 3) := dk_180 0 76 (dk_at dksX0_buys_1 17 rfl rfl)
theorem dX0_buys_42 : decode cX0_buys 42 = .ok (.invokevirtual 268, 3) := dk_182 1 12 (dk_at dksX0_buys_1 20 rfl rfl)
theorem dX0_buys_45 : decode cX0_buys 45 = .ok (.iconst 4, 1) := dk_7 (dk_at dksX0_buys_1 23 rfl rfl)
theorem dX0_buys_46 : decode cX0_buys 46 = .ok (.irem, 1) := dk_112 (dk_at dksX0_buys_2 0 rfl rfl)
theorem dX0_buys_47 : decode cX0_buys 47 = .ok (.iadd, 1) := dk_96 (dk_at dksX0_buys_2 1 rfl rfl)
theorem dX0_buys_48 : decode cX0_buys 48 = .ok (.i2b, 1) := dk_145 (dk_at dksX0_buys_2 2 rfl rfl)
theorem dX0_buys_49 : decode cX0_buys 49 = .ok (.bastore, 1) := dk_84 (dk_at dksX0_buys_2 3 rfl rfl)
theorem dX0_buys_50 : decode cX0_buys 50 = .ok (.aload_n 0, 1) := dk_42 (dk_at dksX0_buys_2 4 rfl rfl)
theorem dX0_buys_51 : decode cX0_buys 51 = .ok (.getfield 76, 3) := dk_180 0 76 (dk_at dksX0_buys_2 5 rfl rfl)
theorem dX0_buys_54 : decode cX0_buys 54 = .ok (.invokevirtual 268, 3) := dk_182 1 12 (dk_at dksX0_buys_2 8 rfl rfl)
theorem dX0_buys_57 : decode cX0_buys 57 = .ok (.iconst 4, 1) := dk_7 (dk_at dksX0_buys_2 11 rfl rfl)
theorem dX0_buys_58 : decode cX0_buys 58 = .ok (.irem, 1) := dk_112 (dk_at dksX0_buys_2 12 rfl rfl)
theorem dX0_buys_59 : decode cX0_buys 59 = .ok (.istore_n 2, 1) := dk_61 (dk_at dksX0_buys_2 13 rfl rfl)
theorem dX0_buys_60 : decode cX0_buys 60 = .ok (.aload_n 0, 1) := dk_42 (dk_at dksX0_buys_2 14 rfl rfl)
theorem dX0_buys_61 : decode cX0_buys 61 = .ok (.invokevirtual 262, 3) := dk_182 1 6 (dk_at dksX0_buys_2 15 rfl rfl)
theorem dX0_buys_64 : decode cX0_buys 64 = .ok (.istore_n 3, 1) := dk_62 (dk_at dksX0_buys_2 18 rfl rfl)
theorem dX0_buys_65 : decode cX0_buys 65 = .ok (.iload_n 3, 1) := dk_29 (dk_at dksX0_buys_2 19 rfl rfl)
theorem dX0_buys_66 : decode cX0_buys 66 = .ok (.ifCond .eq 10, 3) := dk_153 0 10 (dk_at dksX0_buys_2 20 rfl rfl)
theorem dX0_buys_69 : decode cX0_buys 69 = .ok (.aload_n 0, 1) := dk_42 (dk_at dksX0_buys_2 23 rfl rfl)
theorem dX0_buys_70 : decode cX0_buys 70 = .ok (.iload_n 2, 1) := dk_28 (dk_at dksX0_buys_3 0 rfl rfl)
theorem dX0_buys_71 : decode cX0_buys 71 = .ok (.invokevirtual 266, 3) := dk_182 1 10 (dk_at dksX0_buys_3 1 rfl rfl)
theorem dX0_buys_74 : decode cX0_buys 74 = .ok (.istore 4, 2) := dk_54 4 (dk_at dksX0_buys_3 4 rfl rfl)
theorem dX0_buys_76 : decode cX0_buys 76 = .ok (.iload_n 3, 1) := dk_29 (dk_at dksX0_buys_3 6 rfl rfl)
theorem dX0_buys_77 : decode cX0_buys 77 = .ok (.ireturn, 1) := dk_172 (dk_at dksX0_buys_3 7 rfl rfl)
abbrev cX0_seed : ByteArray := prog_1_method_38_code
def yX0_seed : MethodName := ⟨RX0, "seed", "(I)I"⟩
def dkwX0_seed_0 : List UInt8 := [42, 180, 0, 76, 180, 1, 18, 61, 42, 180, 0, 76, 27, 181, 1, 18, 28, 172]
abbrev dktX0_seed_0 : List UInt8 := dkwX0_seed_0 ++ []
theorem dksX0_seed_0 : cX0_seed.data.toList.drop 0 = dktX0_seed_0 := by decide +kernel
theorem dX0_seed_0 : decode cX0_seed 0 = .ok (.aload_n 0, 1) := dk_42 (dk_at dksX0_seed_0 0 rfl rfl)
theorem dX0_seed_1 : decode cX0_seed 1 = .ok (.getfield 76, 3) := dk_180 0 76 (dk_at dksX0_seed_0 1 rfl rfl)
theorem dX0_seed_4 : decode cX0_seed 4 = .ok (.getfield 274, 3) := dk_180 1 18 (dk_at dksX0_seed_0 4 rfl rfl)
theorem dX0_seed_7 : decode cX0_seed 7 = .ok (.istore_n 2, 1) := dk_61 (dk_at dksX0_seed_0 7 rfl rfl)
theorem dX0_seed_8 : decode cX0_seed 8 = .ok (.aload_n 0, 1) := dk_42 (dk_at dksX0_seed_0 8 rfl rfl)
theorem dX0_seed_9 : decode cX0_seed 9 = .ok (.getfield 76, 3) := dk_180 0 76 (dk_at dksX0_seed_0 9 rfl rfl)
theorem dX0_seed_12 : decode cX0_seed 12 = .ok (.iload_n 1, 1) := dk_27 (dk_at dksX0_seed_0 12 rfl rfl)
theorem dX0_seed_13 : decode cX0_seed 13 = .ok (.putfield 274, 3) := dk_181 1 18 (dk_at dksX0_seed_0 13 rfl rfl)
theorem dX0_seed_16 : decode cX0_seed 16 = .ok (.iload_n 2, 1) := dk_28 (dk_at dksX0_seed_0 16 rfl rfl)
theorem dX0_seed_17 : decode cX0_seed 17 = .ok (.ireturn, 1) := dk_172 (dk_at dksX0_seed_0 17 rfl rfl)
abbrev cX0_more : ByteArray := prog_1_method_43_code
def yX0_more : MethodName := ⟨RX0, "more", "(IIII)I"⟩
def dkwX0_more_4 : List UInt8 := [180, 1, 27, 167, 0, 10, 42, 180, 0, 118, 21, 4, 51, 172]
abbrev dktX0_more_4 : List UInt8 := dkwX0_more_4 ++ []
def dkwX0_more_3 : List UInt8 := [182, 1, 43, 54, 6, 21, 4, 2, 160, 0, 8, 21, 6, 167, 0, 24, 21, 4, 16, 254, 160, 0, 10, 42]
abbrev dktX0_more_3 : List UInt8 := dkwX0_more_3 ++ dktX0_more_4
def dkwX0_more_2 : List UInt8 := [16, 30, 182, 0, 244, 54, 5, 21, 5, 158, 0, 10, 42, 21, 5, 182, 0, 160, 172, 42, 28, 29]
abbrev dktX0_more_2 : List UInt8 := dkwX0_more_2 ++ dktX0_more_3
def dkwX0_more_1 : List UInt8 := [21, 4, 16, 254, 16, 7, 184, 0, 125, 154, 0, 9, 42, 4, 182, 0, 160, 172, 42, 27, 42, 180, 0, 109]
abbrev dktX0_more_1 : List UInt8 := dkwX0_more_1 ++ dktX0_more_2
def dkwX0_more_0 : List UInt8 := [27, 184, 0, 241, 153, 0, 31, 28, 184, 0, 170, 153, 0, 24, 29, 3, 7, 184, 0, 125, 153, 0, 15]
abbrev dktX0_more_0 : List UInt8 := dkwX0_more_0 ++ dktX0_more_1
theorem dksX0_more_0 : cX0_more.data.toList.drop 0 = dktX0_more_0 := by decide +kernel
theorem dksX0_more_1 : cX0_more.data.toList.drop 23 = dktX0_more_1 := dk_seg dksX0_more_0 23 rfl rfl
theorem dksX0_more_2 : cX0_more.data.toList.drop 47 = dktX0_more_2 := dk_seg dksX0_more_1 24 rfl rfl
theorem dksX0_more_3 : cX0_more.data.toList.drop 69 = dktX0_more_3 := dk_seg dksX0_more_2 22 rfl rfl
theorem dksX0_more_4 : cX0_more.data.toList.drop 93 = dktX0_more_4 := dk_seg dksX0_more_3 24 rfl rfl
theorem dX0_more_0 : decode cX0_more 0 = .ok (.iload_n 1, 1) := dk_27 (dk_at dksX0_more_0 0 rfl rfl)
theorem dX0_more_1 : decode cX0_more 1 = .ok (.invokestatic 241, 3) := dk_184 0 241 (dk_at dksX0_more_0 1 rfl rfl)
theorem dX0_more_4 : decode cX0_more 4 = .ok (.ifCond .eq 31, 3) := dk_153 0 31 (dk_at dksX0_more_0 4 rfl rfl)
theorem dX0_more_7 : decode cX0_more 7 = .ok (.iload_n 2, 1) := dk_28 (dk_at dksX0_more_0 7 rfl rfl)
theorem dX0_more_8 : decode cX0_more 8 = .ok (.invokestatic 170, 3) := dk_184 0 170 (dk_at dksX0_more_0 8 rfl rfl)
theorem dX0_more_11 : decode cX0_more 11 = .ok (.ifCond .eq 24, 3) := dk_153 0 24 (dk_at dksX0_more_0 11 rfl rfl)
theorem dX0_more_14 : decode cX0_more 14 = .ok (.iload_n 3, 1) := dk_29 (dk_at dksX0_more_0 14 rfl rfl)
theorem dX0_more_15 : decode cX0_more 15 = .ok (.iconst 0, 1) := dk_3 (dk_at dksX0_more_0 15 rfl rfl)
theorem dX0_more_16 : decode cX0_more 16 = .ok (.iconst 4, 1) := dk_7 (dk_at dksX0_more_0 16 rfl rfl)
theorem dX0_more_17 : decode cX0_more 17 = .ok (.invokestatic 125, 3) := dk_184 0 125 (dk_at dksX0_more_0 17 rfl rfl)
theorem dX0_more_20 : decode cX0_more 20 = .ok (.ifCond .eq 15, 3) := dk_153 0 15 (dk_at dksX0_more_0 20 rfl rfl)
theorem dX0_more_23 : decode cX0_more 23 = .ok (.iload 4, 2) := dk_21 4 (dk_at dksX0_more_1 0 rfl rfl)
theorem dX0_more_25 : decode cX0_more 25 = .ok (.bipush (-2), 2) := dk_16 254 (dk_at dksX0_more_1 2 rfl rfl)
theorem dX0_more_27 : decode cX0_more 27 = .ok (.bipush 7, 2) := dk_16 7 (dk_at dksX0_more_1 4 rfl rfl)
theorem dX0_more_29 : decode cX0_more 29 = .ok (.invokestatic 125, 3) := dk_184 0 125 (dk_at dksX0_more_1 6 rfl rfl)
theorem dX0_more_32 : decode cX0_more 32 = .ok (.ifCond .ne 9, 3) := dk_154 0 9 (dk_at dksX0_more_1 9 rfl rfl)
theorem dX0_more_35 : decode cX0_more 35 = .ok (.aload_n 0, 1) := dk_42 (dk_at dksX0_more_1 12 rfl rfl)
theorem dX0_more_36 : decode cX0_more 36 = .ok (.iconst 1, 1) := dk_4 (dk_at dksX0_more_1 13 rfl rfl)
theorem dX0_more_37 : decode cX0_more 37 = .ok (.invokevirtual 160, 3) := dk_182 0 160 (dk_at dksX0_more_1 14 rfl rfl)
theorem dX0_more_40 : decode cX0_more 40 = .ok (.ireturn, 1) := dk_172 (dk_at dksX0_more_1 17 rfl rfl)
theorem dX0_more_41 : decode cX0_more 41 = .ok (.aload_n 0, 1) := dk_42 (dk_at dksX0_more_1 18 rfl rfl)
theorem dX0_more_42 : decode cX0_more 42 = .ok (.iload_n 1, 1) := dk_27 (dk_at dksX0_more_1 19 rfl rfl)
theorem dX0_more_43 : decode cX0_more 43 = .ok (.aload_n 0, 1) := dk_42 (dk_at dksX0_more_1 20 rfl rfl)
theorem dX0_more_44 : decode cX0_more 44 = .ok (.getfield 109, 3) := dk_180 0 109 (dk_at dksX0_more_1 21 rfl rfl)
theorem dX0_more_47 : decode cX0_more 47 = .ok (.bipush 30, 2) := dk_16 30 (dk_at dksX0_more_2 0 rfl rfl)
theorem dX0_more_49 : decode cX0_more 49 = .ok (.invokevirtual 244, 3) := dk_182 0 244 (dk_at dksX0_more_2 2 rfl rfl)
theorem dX0_more_52 : decode cX0_more 52 = .ok (.istore 5, 2) := dk_54 5 (dk_at dksX0_more_2 5 rfl rfl)
theorem dX0_more_54 : decode cX0_more 54 = .ok (.iload 5, 2) := dk_21 5 (dk_at dksX0_more_2 7 rfl rfl)
theorem dX0_more_56 : decode cX0_more 56 = .ok (.ifCond .le 10, 3) := dk_158 0 10 (dk_at dksX0_more_2 9 rfl rfl)
theorem dX0_more_59 : decode cX0_more 59 = .ok (.aload_n 0, 1) := dk_42 (dk_at dksX0_more_2 12 rfl rfl)
theorem dX0_more_60 : decode cX0_more 60 = .ok (.iload 5, 2) := dk_21 5 (dk_at dksX0_more_2 13 rfl rfl)
theorem dX0_more_62 : decode cX0_more 62 = .ok (.invokevirtual 160, 3) := dk_182 0 160 (dk_at dksX0_more_2 15 rfl rfl)
theorem dX0_more_65 : decode cX0_more 65 = .ok (.ireturn, 1) := dk_172 (dk_at dksX0_more_2 18 rfl rfl)
theorem dX0_more_66 : decode cX0_more 66 = .ok (.aload_n 0, 1) := dk_42 (dk_at dksX0_more_2 19 rfl rfl)
theorem dX0_more_67 : decode cX0_more 67 = .ok (.iload_n 2, 1) := dk_28 (dk_at dksX0_more_2 20 rfl rfl)
theorem dX0_more_68 : decode cX0_more 68 = .ok (.iload_n 3, 1) := dk_29 (dk_at dksX0_more_2 21 rfl rfl)
theorem dX0_more_69 : decode cX0_more 69 = .ok (.invokevirtual 299, 3) := dk_182 1 43 (dk_at dksX0_more_3 0 rfl rfl)
theorem dX0_more_72 : decode cX0_more 72 = .ok (.istore 6, 2) := dk_54 6 (dk_at dksX0_more_3 3 rfl rfl)
theorem dX0_more_74 : decode cX0_more 74 = .ok (.iload 4, 2) := dk_21 4 (dk_at dksX0_more_3 5 rfl rfl)
theorem dX0_more_76 : decode cX0_more 76 = .ok (.iconst (-1), 1) := dk_2 (dk_at dksX0_more_3 7 rfl rfl)
theorem dX0_more_77 : decode cX0_more 77 = .ok (.if_icmp .ne 8, 3) := dk_160 0 8 (dk_at dksX0_more_3 8 rfl rfl)
theorem dX0_more_80 : decode cX0_more 80 = .ok (.iload 6, 2) := dk_21 6 (dk_at dksX0_more_3 11 rfl rfl)
theorem dX0_more_82 : decode cX0_more 82 = .ok (.goto 24, 3) := dk_167 0 24 (dk_at dksX0_more_3 13 rfl rfl)
theorem dX0_more_85 : decode cX0_more 85 = .ok (.iload 4, 2) := dk_21 4 (dk_at dksX0_more_3 16 rfl rfl)
theorem dX0_more_87 : decode cX0_more 87 = .ok (.bipush (-2), 2) := dk_16 254 (dk_at dksX0_more_3 18 rfl rfl)
theorem dX0_more_89 : decode cX0_more 89 = .ok (.if_icmp .ne 10, 3) := dk_160 0 10 (dk_at dksX0_more_3 20 rfl rfl)
theorem dX0_more_92 : decode cX0_more 92 = .ok (.aload_n 0, 1) := dk_42 (dk_at dksX0_more_3 23 rfl rfl)
theorem dX0_more_93 : decode cX0_more 93 = .ok (.getfield 283, 3) := dk_180 1 27 (dk_at dksX0_more_4 0 rfl rfl)
theorem dX0_more_96 : decode cX0_more 96 = .ok (.goto 10, 3) := dk_167 0 10 (dk_at dksX0_more_4 3 rfl rfl)
theorem dX0_more_99 : decode cX0_more 99 = .ok (.aload_n 0, 1) := dk_42 (dk_at dksX0_more_4 6 rfl rfl)
theorem dX0_more_100 : decode cX0_more 100 = .ok (.getfield 118, 3) := dk_180 0 118 (dk_at dksX0_more_4 7 rfl rfl)
theorem dX0_more_103 : decode cX0_more 103 = .ok (.iload 4, 2) := dk_21 4 (dk_at dksX0_more_4 10 rfl rfl)
theorem dX0_more_105 : decode cX0_more 105 = .ok (.baload, 1) := dk_51 (dk_at dksX0_more_4 12 rfl rfl)
theorem dX0_more_106 : decode cX0_more 106 = .ok (.ireturn, 1) := dk_172 (dk_at dksX0_more_4 13 rfl rfl)
abbrev cX0_findMore : ByteArray := prog_1_method_42_code
def yX0_findMore : MethodName := ⟨RX0, "findMore", "(II)I"⟩
def dkwX0_findMore_2 : List UInt8 := [180, 0, 118, 29, 51, 96, 145, 84, 132, 3, 1, 167, 255, 227, 42, 42, 180, 0, 121, 27, 182, 0, 248, 172]
abbrev dktX0_findMore_2 : List UInt8 := dkwX0_findMore_2 ++ []
def dkwX0_findMore_1 : List UInt8 := [182, 1, 39, 3, 62, 29, 16, 8, 162, 0, 29, 42, 180, 0, 121, 29, 42, 180, 0, 109, 29, 51, 42]
abbrev dktX0_findMore_1 : List UInt8 := dkwX0_findMore_1 ++ dktX0_findMore_2
def dkwX0_findMore_0 : List UInt8 := [42, 2, 181, 1, 24, 42, 3, 28, 16, 30, 42, 180, 0, 109, 184, 0, 229, 100, 184, 0, 1, 3, 27]
abbrev dktX0_findMore_0 : List UInt8 := dkwX0_findMore_0 ++ dktX0_findMore_1
theorem dksX0_findMore_0 : cX0_findMore.data.toList.drop 0 = dktX0_findMore_0 := by decide +kernel
theorem dksX0_findMore_1 : cX0_findMore.data.toList.drop 23 = dktX0_findMore_1 := dk_seg dksX0_findMore_0 23 rfl rfl
theorem dksX0_findMore_2 : cX0_findMore.data.toList.drop 46 = dktX0_findMore_2 := dk_seg dksX0_findMore_1 23 rfl rfl
theorem dX0_findMore_0 : decode cX0_findMore 0 = .ok (.aload_n 0, 1) := dk_42 (dk_at dksX0_findMore_0 0 rfl rfl)
theorem dX0_findMore_1 : decode cX0_findMore 1 = .ok (.iconst (-1), 1) := dk_2 (dk_at dksX0_findMore_0 1 rfl rfl)
theorem dX0_findMore_2 : decode cX0_findMore 2 = .ok (.putfield 280, 3) := dk_181 1 24 (dk_at dksX0_findMore_0 2 rfl rfl)
theorem dX0_findMore_5 : decode cX0_findMore 5 = .ok (.aload_n 0, 1) := dk_42 (dk_at dksX0_findMore_0 5 rfl rfl)
theorem dX0_findMore_6 : decode cX0_findMore 6 = .ok (.iconst 0, 1) := dk_3 (dk_at dksX0_findMore_0 6 rfl rfl)
theorem dX0_findMore_7 : decode cX0_findMore 7 = .ok (.iload_n 2, 1) := dk_28 (dk_at dksX0_findMore_0 7 rfl rfl)
theorem dX0_findMore_8 : decode cX0_findMore 8 = .ok (.bipush 30, 2) := dk_16 30 (dk_at dksX0_findMore_0 8 rfl rfl)
theorem dX0_findMore_10 : decode cX0_findMore 10 = .ok (.aload_n 0, 1) := dk_42 (dk_at dksX0_findMore_0 10 rfl rfl)
theorem dX0_findMore_11 : decode cX0_findMore 11 = .ok (.getfield 109, 3) := dk_180 0 109 (dk_at dksX0_findMore_0 11 rfl rfl)
theorem dX0_findMore_14 : decode cX0_findMore 14 = .ok (.invokestatic 229, 3) := dk_184 0 229 (dk_at dksX0_findMore_0 14 rfl rfl)
theorem dX0_findMore_17 : decode cX0_findMore 17 = .ok (.isub, 1) := dk_100 (dk_at dksX0_findMore_0 17 rfl rfl)
theorem dX0_findMore_18 : decode cX0_findMore 18 = .ok (.invokestatic 1, 3) := dk_184 0 1 (dk_at dksX0_findMore_0 18 rfl rfl)
theorem dX0_findMore_21 : decode cX0_findMore 21 = .ok (.iconst 0, 1) := dk_3 (dk_at dksX0_findMore_0 21 rfl rfl)
theorem dX0_findMore_22 : decode cX0_findMore 22 = .ok (.iload_n 1, 1) := dk_27 (dk_at dksX0_findMore_0 22 rfl rfl)
theorem dX0_findMore_23 : decode cX0_findMore 23 = .ok (.invokevirtual 295, 3) := dk_182 1 39 (dk_at dksX0_findMore_1 0 rfl rfl)
theorem dX0_findMore_26 : decode cX0_findMore 26 = .ok (.iconst 0, 1) := dk_3 (dk_at dksX0_findMore_1 3 rfl rfl)
theorem dX0_findMore_27 : decode cX0_findMore 27 = .ok (.istore_n 3, 1) := dk_62 (dk_at dksX0_findMore_1 4 rfl rfl)
theorem dX0_findMore_28 : decode cX0_findMore 28 = .ok (.iload_n 3, 1) := dk_29 (dk_at dksX0_findMore_1 5 rfl rfl)
theorem dX0_findMore_29 : decode cX0_findMore 29 = .ok (.bipush 8, 2) := dk_16 8 (dk_at dksX0_findMore_1 6 rfl rfl)
theorem dX0_findMore_31 : decode cX0_findMore 31 = .ok (.if_icmp .ge 29, 3) := dk_162 0 29 (dk_at dksX0_findMore_1 8 rfl rfl)
theorem dX0_findMore_34 : decode cX0_findMore 34 = .ok (.aload_n 0, 1) := dk_42 (dk_at dksX0_findMore_1 11 rfl rfl)
theorem dX0_findMore_35 : decode cX0_findMore 35 = .ok (.getfield 121, 3) := dk_180 0 121 (dk_at dksX0_findMore_1 12 rfl rfl)
theorem dX0_findMore_38 : decode cX0_findMore 38 = .ok (.iload_n 3, 1) := dk_29 (dk_at dksX0_findMore_1 15 rfl rfl)
theorem dX0_findMore_39 : decode cX0_findMore 39 = .ok (.aload_n 0, 1) := dk_42 (dk_at dksX0_findMore_1 16 rfl rfl)
theorem dX0_findMore_40 : decode cX0_findMore 40 = .ok (.getfield 109, 3) := dk_180 0 109 (dk_at dksX0_findMore_1 17 rfl rfl)
theorem dX0_findMore_43 : decode cX0_findMore 43 = .ok (.iload_n 3, 1) := dk_29 (dk_at dksX0_findMore_1 20 rfl rfl)
theorem dX0_findMore_44 : decode cX0_findMore 44 = .ok (.baload, 1) := dk_51 (dk_at dksX0_findMore_1 21 rfl rfl)
theorem dX0_findMore_45 : decode cX0_findMore 45 = .ok (.aload_n 0, 1) := dk_42 (dk_at dksX0_findMore_1 22 rfl rfl)
theorem dX0_findMore_46 : decode cX0_findMore 46 = .ok (.getfield 118, 3) := dk_180 0 118 (dk_at dksX0_findMore_2 0 rfl rfl)
theorem dX0_findMore_49 : decode cX0_findMore 49 = .ok (.iload_n 3, 1) := dk_29 (dk_at dksX0_findMore_2 3 rfl rfl)
theorem dX0_findMore_50 : decode cX0_findMore 50 = .ok (.baload, 1) := dk_51 (dk_at dksX0_findMore_2 4 rfl rfl)
theorem dX0_findMore_51 : decode cX0_findMore 51 = .ok (.iadd, 1) := dk_96 (dk_at dksX0_findMore_2 5 rfl rfl)
theorem dX0_findMore_52 : decode cX0_findMore 52 = .ok (.i2b, 1) := dk_145 (dk_at dksX0_findMore_2 6 rfl rfl)
theorem dX0_findMore_53 : decode cX0_findMore 53 = .ok (.bastore, 1) := dk_84 (dk_at dksX0_findMore_2 7 rfl rfl)
theorem dX0_findMore_54 : decode cX0_findMore 54 = .ok (.iinc 3 1, 3) := dk_132 3 1 (dk_at dksX0_findMore_2 8 rfl rfl)
theorem dX0_findMore_57 : decode cX0_findMore 57 = .ok (.goto (-29), 3) := dk_167 255 227 (dk_at dksX0_findMore_2 11 rfl rfl)
theorem dX0_findMore_60 : decode cX0_findMore 60 = .ok (.aload_n 0, 1) := dk_42 (dk_at dksX0_findMore_2 14 rfl rfl)
theorem dX0_findMore_61 : decode cX0_findMore 61 = .ok (.aload_n 0, 1) := dk_42 (dk_at dksX0_findMore_2 15 rfl rfl)
theorem dX0_findMore_62 : decode cX0_findMore 62 = .ok (.getfield 121, 3) := dk_180 0 121 (dk_at dksX0_findMore_2 16 rfl rfl)
theorem dX0_findMore_65 : decode cX0_findMore 65 = .ok (.iload_n 1, 1) := dk_27 (dk_at dksX0_findMore_2 19 rfl rfl)
theorem dX0_findMore_66 : decode cX0_findMore 66 = .ok (.invokevirtual 248, 3) := dk_182 0 248 (dk_at dksX0_findMore_2 20 rfl rfl)
theorem dX0_findMore_69 : decode cX0_findMore 69 = .ok (.ireturn, 1) := dk_172 (dk_at dksX0_findMore_2 23 rfl rfl)
abbrev cX0_tryExtra : ByteArray := prog_1_method_41_code
def yX0_tryExtra : MethodName := ⟨RX0, "tryExtra", "(IIII)V"⟩
def dkwX0_tryExtra_6 : List UInt8 := [21, 5, 96, 21, 4, 182, 1, 39, 132, 5, 1, 167, 255, 207, 42, 180, 0, 115, 27, 3, 84, 177]
abbrev dktX0_tryExtra_6 : List UInt8 := dkwX0_tryExtra_6 ++ []
def dkwX0_tryExtra_5 : List UInt8 := [96, 16, 9, 163, 0, 35, 42, 180, 0, 115, 27, 21, 5, 145, 84, 42, 27, 4, 96, 28, 21, 5, 100, 29]
abbrev dktX0_tryExtra_5 : List UInt8 := dkwX0_tryExtra_5 ++ dktX0_tryExtra_6
def dkwX0_tryExtra_4 : List UInt8 := [3, 16, 8, 184, 1, 33, 177, 3, 54, 5, 21, 5, 28, 163, 0, 49, 42, 180, 0, 109, 27, 51, 21, 5]
abbrev dktX0_tryExtra_4 : List UInt8 := dkwX0_tryExtra_4 ++ dktX0_tryExtra_5
def dkwX0_tryExtra_3 : List UInt8 := [154, 0, 4, 177, 42, 21, 5, 181, 1, 27, 42, 29, 181, 1, 24, 42, 180, 0, 115, 3, 42, 180, 0, 118]
abbrev dktX0_tryExtra_3 : List UInt8 := dkwX0_tryExtra_3 ++ dktX0_tryExtra_4
def dkwX0_tryExtra_2 : List UInt8 := [29, 42, 180, 1, 24, 160, 0, 14, 42, 182, 1, 30, 153, 0, 7, 4, 167, 0, 4, 3, 54, 6, 21, 6]
abbrev dktX0_tryExtra_2 : List UInt8 := dkwX0_tryExtra_2 ++ dktX0_tryExtra_3
def dkwX0_tryExtra_1 : List UInt8 := [42, 180, 1, 27, 161, 0, 35, 21, 5, 42, 180, 1, 27, 160, 0, 30, 29, 42, 180, 1, 24, 161, 0, 18]
abbrev dktX0_tryExtra_1 : List UInt8 := dkwX0_tryExtra_1 ++ dktX0_tryExtra_2
def dkwX0_tryExtra_0 : List UInt8 := [27, 16, 8, 160, 0, 100, 42, 21, 4, 182, 1, 21, 54, 5, 42, 180, 1, 24, 2, 159, 0, 44, 21, 5]
abbrev dktX0_tryExtra_0 : List UInt8 := dkwX0_tryExtra_0 ++ dktX0_tryExtra_1
theorem dksX0_tryExtra_0 : cX0_tryExtra.data.toList.drop 0 = dktX0_tryExtra_0 := by decide +kernel
theorem dksX0_tryExtra_1 : cX0_tryExtra.data.toList.drop 24 = dktX0_tryExtra_1 := dk_seg dksX0_tryExtra_0 24 rfl rfl
theorem dksX0_tryExtra_2 : cX0_tryExtra.data.toList.drop 48 = dktX0_tryExtra_2 := dk_seg dksX0_tryExtra_1 24 rfl rfl
theorem dksX0_tryExtra_3 : cX0_tryExtra.data.toList.drop 72 = dktX0_tryExtra_3 := dk_seg dksX0_tryExtra_2 24 rfl rfl
theorem dksX0_tryExtra_4 : cX0_tryExtra.data.toList.drop 96 = dktX0_tryExtra_4 := dk_seg dksX0_tryExtra_3 24 rfl rfl
theorem dksX0_tryExtra_5 : cX0_tryExtra.data.toList.drop 120 = dktX0_tryExtra_5 := dk_seg dksX0_tryExtra_4 24 rfl rfl
theorem dksX0_tryExtra_6 : cX0_tryExtra.data.toList.drop 144 = dktX0_tryExtra_6 := dk_seg dksX0_tryExtra_5 24 rfl rfl
theorem dX0_tryExtra_0 : decode cX0_tryExtra 0 = .ok (.iload_n 1, 1) := dk_27 (dk_at dksX0_tryExtra_0 0 rfl rfl)
theorem dX0_tryExtra_1 : decode cX0_tryExtra 1 = .ok (.bipush 8, 2) := dk_16 8 (dk_at dksX0_tryExtra_0 1 rfl rfl)
theorem dX0_tryExtra_3 : decode cX0_tryExtra 3 = .ok (.if_icmp .ne 100, 3) := dk_160 0 100 (dk_at dksX0_tryExtra_0 3 rfl rfl)
theorem dX0_tryExtra_6 : decode cX0_tryExtra 6 = .ok (.aload_n 0, 1) := dk_42 (dk_at dksX0_tryExtra_0 6 rfl rfl)
theorem dX0_tryExtra_7 : decode cX0_tryExtra 7 = .ok (.iload 4, 2) := dk_21 4 (dk_at dksX0_tryExtra_0 7 rfl rfl)
theorem dX0_tryExtra_9 : decode cX0_tryExtra 9 = .ok (.invokevirtual 277, 3) := dk_182 1 21 (dk_at dksX0_tryExtra_0 9 rfl rfl)
theorem dX0_tryExtra_12 : decode cX0_tryExtra 12 = .ok (.istore 5, 2) := dk_54 5 (dk_at dksX0_tryExtra_0 12 rfl rfl)
theorem dX0_tryExtra_14 : decode cX0_tryExtra 14 = .ok (.aload_n 0, 1) := dk_42 (dk_at dksX0_tryExtra_0 14 rfl rfl)
theorem dX0_tryExtra_15 : decode cX0_tryExtra 15 = .ok (.getfield 280, 3) := dk_180 1 24 (dk_at dksX0_tryExtra_0 15 rfl rfl)
theorem dX0_tryExtra_18 : decode cX0_tryExtra 18 = .ok (.iconst (-1), 1) := dk_2 (dk_at dksX0_tryExtra_0 18 rfl rfl)
theorem dX0_tryExtra_19 : decode cX0_tryExtra 19 = .ok (.if_icmp .eq 44, 3) := dk_159 0 44 (dk_at dksX0_tryExtra_0 19 rfl rfl)
theorem dX0_tryExtra_22 : decode cX0_tryExtra 22 = .ok (.iload 5, 2) := dk_21 5 (dk_at dksX0_tryExtra_0 22 rfl rfl)
theorem dX0_tryExtra_24 : decode cX0_tryExtra 24 = .ok (.aload_n 0, 1) := dk_42 (dk_at dksX0_tryExtra_1 0 rfl rfl)
theorem dX0_tryExtra_25 : decode cX0_tryExtra 25 = .ok (.getfield 283, 3) := dk_180 1 27 (dk_at dksX0_tryExtra_1 1 rfl rfl)
theorem dX0_tryExtra_28 : decode cX0_tryExtra 28 = .ok (.if_icmp .lt 35, 3) := dk_161 0 35 (dk_at dksX0_tryExtra_1 4 rfl rfl)
theorem dX0_tryExtra_31 : decode cX0_tryExtra 31 = .ok (.iload 5, 2) := dk_21 5 (dk_at dksX0_tryExtra_1 7 rfl rfl)
theorem dX0_tryExtra_33 : decode cX0_tryExtra 33 = .ok (.aload_n 0, 1) := dk_42 (dk_at dksX0_tryExtra_1 9 rfl rfl)
theorem dX0_tryExtra_34 : decode cX0_tryExtra 34 = .ok (.getfield 283, 3) := dk_180 1 27 (dk_at dksX0_tryExtra_1 10 rfl rfl)
theorem dX0_tryExtra_37 : decode cX0_tryExtra 37 = .ok (.if_icmp .ne 30, 3) := dk_160 0 30 (dk_at dksX0_tryExtra_1 13 rfl rfl)
theorem dX0_tryExtra_40 : decode cX0_tryExtra 40 = .ok (.iload_n 3, 1) := dk_29 (dk_at dksX0_tryExtra_1 16 rfl rfl)
theorem dX0_tryExtra_41 : decode cX0_tryExtra 41 = .ok (.aload_n 0, 1) := dk_42 (dk_at dksX0_tryExtra_1 17 rfl rfl)
theorem dX0_tryExtra_42 : decode cX0_tryExtra 42 = .ok (.getfield 280, 3) := dk_180 1 24 (dk_at dksX0_tryExtra_1 18 rfl rfl)
theorem dX0_tryExtra_45 : decode cX0_tryExtra 45 = .ok (.if_icmp .lt 18, 3) := dk_161 0 18 (dk_at dksX0_tryExtra_1 21 rfl rfl)
theorem dX0_tryExtra_48 : decode cX0_tryExtra 48 = .ok (.iload_n 3, 1) := dk_29 (dk_at dksX0_tryExtra_2 0 rfl rfl)
theorem dX0_tryExtra_49 : decode cX0_tryExtra 49 = .ok (.aload_n 0, 1) := dk_42 (dk_at dksX0_tryExtra_2 1 rfl rfl)
theorem dX0_tryExtra_50 : decode cX0_tryExtra 50 = .ok (.getfield 280, 3) := dk_180 1 24 (dk_at dksX0_tryExtra_2 2 rfl rfl)
theorem dX0_tryExtra_53 : decode cX0_tryExtra 53 = .ok (.if_icmp .ne 14, 3) := dk_160 0 14 (dk_at dksX0_tryExtra_2 5 rfl rfl)
theorem dX0_tryExtra_56 : decode cX0_tryExtra 56 = .ok (.aload_n 0, 1) := dk_42 (dk_at dksX0_tryExtra_2 8 rfl rfl)
theorem dX0_tryExtra_57 : decode cX0_tryExtra 57 = .ok (.invokevirtual 286, 3) := dk_182 1 30 (dk_at dksX0_tryExtra_2 9 rfl rfl)
theorem dX0_tryExtra_60 : decode cX0_tryExtra 60 = .ok (.ifCond .eq 7, 3) := dk_153 0 7 (dk_at dksX0_tryExtra_2 12 rfl rfl)
theorem dX0_tryExtra_63 : decode cX0_tryExtra 63 = .ok (.iconst 1, 1) := dk_4 (dk_at dksX0_tryExtra_2 15 rfl rfl)
theorem dX0_tryExtra_64 : decode cX0_tryExtra 64 = .ok (.goto 4, 3) := dk_167 0 4 (dk_at dksX0_tryExtra_2 16 rfl rfl)
theorem dX0_tryExtra_67 : decode cX0_tryExtra 67 = .ok (.iconst 0, 1) := dk_3 (dk_at dksX0_tryExtra_2 19 rfl rfl)
theorem dX0_tryExtra_68 : decode cX0_tryExtra 68 = .ok (.istore 6, 2) := dk_54 6 (dk_at dksX0_tryExtra_2 20 rfl rfl)
theorem dX0_tryExtra_70 : decode cX0_tryExtra 70 = .ok (.iload 6, 2) := dk_21 6 (dk_at dksX0_tryExtra_2 22 rfl rfl)
theorem dX0_tryExtra_72 : decode cX0_tryExtra 72 = .ok (.ifCond .ne 4, 3) := dk_154 0 4 (dk_at dksX0_tryExtra_3 0 rfl rfl)
theorem dX0_tryExtra_75 : decode cX0_tryExtra 75 = .ok (.return_, 1) := dk_177 (dk_at dksX0_tryExtra_3 3 rfl rfl)
theorem dX0_tryExtra_76 : decode cX0_tryExtra 76 = .ok (.aload_n 0, 1) := dk_42 (dk_at dksX0_tryExtra_3 4 rfl rfl)
theorem dX0_tryExtra_77 : decode cX0_tryExtra 77 = .ok (.iload 5, 2) := dk_21 5 (dk_at dksX0_tryExtra_3 5 rfl rfl)
theorem dX0_tryExtra_79 : decode cX0_tryExtra 79 = .ok (.putfield 283, 3) := dk_181 1 27 (dk_at dksX0_tryExtra_3 7 rfl rfl)
theorem dX0_tryExtra_82 : decode cX0_tryExtra 82 = .ok (.aload_n 0, 1) := dk_42 (dk_at dksX0_tryExtra_3 10 rfl rfl)
theorem dX0_tryExtra_83 : decode cX0_tryExtra 83 = .ok (.iload_n 3, 1) := dk_29 (dk_at dksX0_tryExtra_3 11 rfl rfl)
theorem dX0_tryExtra_84 : decode cX0_tryExtra 84 = .ok (.putfield 280, 3) := dk_181 1 24 (dk_at dksX0_tryExtra_3 12 rfl rfl)
theorem dX0_tryExtra_87 : decode cX0_tryExtra 87 = .ok (.aload_n 0, 1) := dk_42 (dk_at dksX0_tryExtra_3 15 rfl rfl)
theorem dX0_tryExtra_88 : decode cX0_tryExtra 88 = .ok (.getfield 115, 3) := dk_180 0 115 (dk_at dksX0_tryExtra_3 16 rfl rfl)
theorem dX0_tryExtra_91 : decode cX0_tryExtra 91 = .ok (.iconst 0, 1) := dk_3 (dk_at dksX0_tryExtra_3 19 rfl rfl)
theorem dX0_tryExtra_92 : decode cX0_tryExtra 92 = .ok (.aload_n 0, 1) := dk_42 (dk_at dksX0_tryExtra_3 20 rfl rfl)
theorem dX0_tryExtra_93 : decode cX0_tryExtra 93 = .ok (.getfield 118, 3) := dk_180 0 118 (dk_at dksX0_tryExtra_3 21 rfl rfl)
theorem dX0_tryExtra_96 : decode cX0_tryExtra 96 = .ok (.iconst 0, 1) := dk_3 (dk_at dksX0_tryExtra_4 0 rfl rfl)
theorem dX0_tryExtra_97 : decode cX0_tryExtra 97 = .ok (.bipush 8, 2) := dk_16 8 (dk_at dksX0_tryExtra_4 1 rfl rfl)
theorem dX0_tryExtra_99 : decode cX0_tryExtra 99 = .ok (.invokestatic 289, 3) := dk_184 1 33 (dk_at dksX0_tryExtra_4 3 rfl rfl)
theorem dX0_tryExtra_102 : decode cX0_tryExtra 102 = .ok (.return_, 1) := dk_177 (dk_at dksX0_tryExtra_4 6 rfl rfl)
theorem dX0_tryExtra_103 : decode cX0_tryExtra 103 = .ok (.iconst 0, 1) := dk_3 (dk_at dksX0_tryExtra_4 7 rfl rfl)
theorem dX0_tryExtra_104 : decode cX0_tryExtra 104 = .ok (.istore 5, 2) := dk_54 5 (dk_at dksX0_tryExtra_4 8 rfl rfl)
theorem dX0_tryExtra_106 : decode cX0_tryExtra 106 = .ok (.iload 5, 2) := dk_21 5 (dk_at dksX0_tryExtra_4 10 rfl rfl)
theorem dX0_tryExtra_108 : decode cX0_tryExtra 108 = .ok (.iload_n 2, 1) := dk_28 (dk_at dksX0_tryExtra_4 12 rfl rfl)
theorem dX0_tryExtra_109 : decode cX0_tryExtra 109 = .ok (.if_icmp .gt 49, 3) := dk_163 0 49 (dk_at dksX0_tryExtra_4 13 rfl rfl)
theorem dX0_tryExtra_112 : decode cX0_tryExtra 112 = .ok (.aload_n 0, 1) := dk_42 (dk_at dksX0_tryExtra_4 16 rfl rfl)
theorem dX0_tryExtra_113 : decode cX0_tryExtra 113 = .ok (.getfield 109, 3) := dk_180 0 109 (dk_at dksX0_tryExtra_4 17 rfl rfl)
theorem dX0_tryExtra_116 : decode cX0_tryExtra 116 = .ok (.iload_n 1, 1) := dk_27 (dk_at dksX0_tryExtra_4 20 rfl rfl)
theorem dX0_tryExtra_117 : decode cX0_tryExtra 117 = .ok (.baload, 1) := dk_51 (dk_at dksX0_tryExtra_4 21 rfl rfl)
theorem dX0_tryExtra_118 : decode cX0_tryExtra 118 = .ok (.iload 5, 2) := dk_21 5 (dk_at dksX0_tryExtra_4 22 rfl rfl)
theorem dX0_tryExtra_120 : decode cX0_tryExtra 120 = .ok (.iadd, 1) := dk_96 (dk_at dksX0_tryExtra_5 0 rfl rfl)
theorem dX0_tryExtra_121 : decode cX0_tryExtra 121 = .ok (.bipush 9, 2) := dk_16 9 (dk_at dksX0_tryExtra_5 1 rfl rfl)
theorem dX0_tryExtra_123 : decode cX0_tryExtra 123 = .ok (.if_icmp .gt 35, 3) := dk_163 0 35 (dk_at dksX0_tryExtra_5 3 rfl rfl)
theorem dX0_tryExtra_126 : decode cX0_tryExtra 126 = .ok (.aload_n 0, 1) := dk_42 (dk_at dksX0_tryExtra_5 6 rfl rfl)
theorem dX0_tryExtra_127 : decode cX0_tryExtra 127 = .ok (.getfield 115, 3) := dk_180 0 115 (dk_at dksX0_tryExtra_5 7 rfl rfl)
theorem dX0_tryExtra_130 : decode cX0_tryExtra 130 = .ok (.iload_n 1, 1) := dk_27 (dk_at dksX0_tryExtra_5 10 rfl rfl)
theorem dX0_tryExtra_131 : decode cX0_tryExtra 131 = .ok (.iload 5, 2) := dk_21 5 (dk_at dksX0_tryExtra_5 11 rfl rfl)
theorem dX0_tryExtra_133 : decode cX0_tryExtra 133 = .ok (.i2b, 1) := dk_145 (dk_at dksX0_tryExtra_5 13 rfl rfl)
theorem dX0_tryExtra_134 : decode cX0_tryExtra 134 = .ok (.bastore, 1) := dk_84 (dk_at dksX0_tryExtra_5 14 rfl rfl)
theorem dX0_tryExtra_135 : decode cX0_tryExtra 135 = .ok (.aload_n 0, 1) := dk_42 (dk_at dksX0_tryExtra_5 15 rfl rfl)
theorem dX0_tryExtra_136 : decode cX0_tryExtra 136 = .ok (.iload_n 1, 1) := dk_27 (dk_at dksX0_tryExtra_5 16 rfl rfl)
theorem dX0_tryExtra_137 : decode cX0_tryExtra 137 = .ok (.iconst 1, 1) := dk_4 (dk_at dksX0_tryExtra_5 17 rfl rfl)
theorem dX0_tryExtra_138 : decode cX0_tryExtra 138 = .ok (.iadd, 1) := dk_96 (dk_at dksX0_tryExtra_5 18 rfl rfl)
theorem dX0_tryExtra_139 : decode cX0_tryExtra 139 = .ok (.iload_n 2, 1) := dk_28 (dk_at dksX0_tryExtra_5 19 rfl rfl)
theorem dX0_tryExtra_140 : decode cX0_tryExtra 140 = .ok (.iload 5, 2) := dk_21 5 (dk_at dksX0_tryExtra_5 20 rfl rfl)
theorem dX0_tryExtra_142 : decode cX0_tryExtra 142 = .ok (.isub, 1) := dk_100 (dk_at dksX0_tryExtra_5 22 rfl rfl)
theorem dX0_tryExtra_143 : decode cX0_tryExtra 143 = .ok (.iload_n 3, 1) := dk_29 (dk_at dksX0_tryExtra_5 23 rfl rfl)
theorem dX0_tryExtra_144 : decode cX0_tryExtra 144 = .ok (.iload 5, 2) := dk_21 5 (dk_at dksX0_tryExtra_6 0 rfl rfl)
theorem dX0_tryExtra_146 : decode cX0_tryExtra 146 = .ok (.iadd, 1) := dk_96 (dk_at dksX0_tryExtra_6 2 rfl rfl)
theorem dX0_tryExtra_147 : decode cX0_tryExtra 147 = .ok (.iload 4, 2) := dk_21 4 (dk_at dksX0_tryExtra_6 3 rfl rfl)
theorem dX0_tryExtra_149 : decode cX0_tryExtra 149 = .ok (.invokevirtual 295, 3) := dk_182 1 39 (dk_at dksX0_tryExtra_6 5 rfl rfl)
theorem dX0_tryExtra_152 : decode cX0_tryExtra 152 = .ok (.iinc 5 1, 3) := dk_132 5 1 (dk_at dksX0_tryExtra_6 8 rfl rfl)
theorem dX0_tryExtra_155 : decode cX0_tryExtra 155 = .ok (.goto (-49), 3) := dk_167 255 207 (dk_at dksX0_tryExtra_6 11 rfl rfl)
theorem dX0_tryExtra_158 : decode cX0_tryExtra 158 = .ok (.aload_n 0, 1) := dk_42 (dk_at dksX0_tryExtra_6 14 rfl rfl)
theorem dX0_tryExtra_159 : decode cX0_tryExtra 159 = .ok (.getfield 115, 3) := dk_180 0 115 (dk_at dksX0_tryExtra_6 15 rfl rfl)
theorem dX0_tryExtra_162 : decode cX0_tryExtra 162 = .ok (.iload_n 1, 1) := dk_27 (dk_at dksX0_tryExtra_6 18 rfl rfl)
theorem dX0_tryExtra_163 : decode cX0_tryExtra 163 = .ok (.iconst 0, 1) := dk_3 (dk_at dksX0_tryExtra_6 19 rfl rfl)
theorem dX0_tryExtra_164 : decode cX0_tryExtra 164 = .ok (.bastore, 1) := dk_84 (dk_at dksX0_tryExtra_6 20 rfl rfl)
theorem dX0_tryExtra_165 : decode cX0_tryExtra 165 = .ok (.return_, 1) := dk_177 (dk_at dksX0_tryExtra_6 21 rfl rfl)
abbrev cX0_netOf : ByteArray := prog_1_method_39_code
def yX0_netOf : MethodName := ⟨RX0, "netOf", "(I)I"⟩
def dkwX0_netOf_3 : List UInt8 := [180, 0, 121, 27, 182, 0, 248, 96, 172]
abbrev dktX0_netOf_3 : List UInt8 := dkwX0_netOf_3 ++ []
def dkwX0_netOf_2 : List UInt8 := [180, 0, 115, 29, 51, 42, 29, 182, 0, 167, 104, 100, 61, 132, 3, 1, 167, 255, 199, 28, 42, 42]
abbrev dktX0_netOf_2 : List UInt8 := dkwX0_netOf_2 ++ dktX0_netOf_3
def dkwX0_netOf_1 : List UInt8 := [180, 0, 115, 29, 51, 96, 145, 84, 28, 42, 180, 0, 115, 29, 51, 154, 0, 7, 3, 167, 0, 15, 42]
abbrev dktX0_netOf_1 : List UInt8 := dkwX0_netOf_1 ++ dktX0_netOf_2
def dkwX0_netOf_0 : List UInt8 := [3, 61, 3, 62, 29, 16, 8, 162, 0, 57, 42, 180, 0, 121, 29, 42, 180, 0, 109, 29, 51, 42]
abbrev dktX0_netOf_0 : List UInt8 := dkwX0_netOf_0 ++ dktX0_netOf_1
theorem dksX0_netOf_0 : cX0_netOf.data.toList.drop 0 = dktX0_netOf_0 := by decide +kernel
theorem dksX0_netOf_1 : cX0_netOf.data.toList.drop 22 = dktX0_netOf_1 := dk_seg dksX0_netOf_0 22 rfl rfl
theorem dksX0_netOf_2 : cX0_netOf.data.toList.drop 45 = dktX0_netOf_2 := dk_seg dksX0_netOf_1 23 rfl rfl
theorem dksX0_netOf_3 : cX0_netOf.data.toList.drop 67 = dktX0_netOf_3 := dk_seg dksX0_netOf_2 22 rfl rfl
theorem dX0_netOf_0 : decode cX0_netOf 0 = .ok (.iconst 0, 1) := dk_3 (dk_at dksX0_netOf_0 0 rfl rfl)
theorem dX0_netOf_1 : decode cX0_netOf 1 = .ok (.istore_n 2, 1) := dk_61 (dk_at dksX0_netOf_0 1 rfl rfl)
theorem dX0_netOf_2 : decode cX0_netOf 2 = .ok (.iconst 0, 1) := dk_3 (dk_at dksX0_netOf_0 2 rfl rfl)
theorem dX0_netOf_3 : decode cX0_netOf 3 = .ok (.istore_n 3, 1) := dk_62 (dk_at dksX0_netOf_0 3 rfl rfl)
theorem dX0_netOf_4 : decode cX0_netOf 4 = .ok (.iload_n 3, 1) := dk_29 (dk_at dksX0_netOf_0 4 rfl rfl)
theorem dX0_netOf_5 : decode cX0_netOf 5 = .ok (.bipush 8, 2) := dk_16 8 (dk_at dksX0_netOf_0 5 rfl rfl)
theorem dX0_netOf_7 : decode cX0_netOf 7 = .ok (.if_icmp .ge 57, 3) := dk_162 0 57 (dk_at dksX0_netOf_0 7 rfl rfl)
theorem dX0_netOf_10 : decode cX0_netOf 10 = .ok (.aload_n 0, 1) := dk_42 (dk_at dksX0_netOf_0 10 rfl rfl)
theorem dX0_netOf_11 : decode cX0_netOf 11 = .ok (.getfield 121, 3) := dk_180 0 121 (dk_at dksX0_netOf_0 11 rfl rfl)
theorem dX0_netOf_14 : decode cX0_netOf 14 = .ok (.iload_n 3, 1) := dk_29 (dk_at dksX0_netOf_0 14 rfl rfl)
theorem dX0_netOf_15 : decode cX0_netOf 15 = .ok (.aload_n 0, 1) := dk_42 (dk_at dksX0_netOf_0 15 rfl rfl)
theorem dX0_netOf_16 : decode cX0_netOf 16 = .ok (.getfield 109, 3) := dk_180 0 109 (dk_at dksX0_netOf_0 16 rfl rfl)
theorem dX0_netOf_19 : decode cX0_netOf 19 = .ok (.iload_n 3, 1) := dk_29 (dk_at dksX0_netOf_0 19 rfl rfl)
theorem dX0_netOf_20 : decode cX0_netOf 20 = .ok (.baload, 1) := dk_51 (dk_at dksX0_netOf_0 20 rfl rfl)
theorem dX0_netOf_21 : decode cX0_netOf 21 = .ok (.aload_n 0, 1) := dk_42 (dk_at dksX0_netOf_0 21 rfl rfl)
theorem dX0_netOf_22 : decode cX0_netOf 22 = .ok (.getfield 115, 3) := dk_180 0 115 (dk_at dksX0_netOf_1 0 rfl rfl)
theorem dX0_netOf_25 : decode cX0_netOf 25 = .ok (.iload_n 3, 1) := dk_29 (dk_at dksX0_netOf_1 3 rfl rfl)
theorem dX0_netOf_26 : decode cX0_netOf 26 = .ok (.baload, 1) := dk_51 (dk_at dksX0_netOf_1 4 rfl rfl)
theorem dX0_netOf_27 : decode cX0_netOf 27 = .ok (.iadd, 1) := dk_96 (dk_at dksX0_netOf_1 5 rfl rfl)
theorem dX0_netOf_28 : decode cX0_netOf 28 = .ok (.i2b, 1) := dk_145 (dk_at dksX0_netOf_1 6 rfl rfl)
theorem dX0_netOf_29 : decode cX0_netOf 29 = .ok (.bastore, 1) := dk_84 (dk_at dksX0_netOf_1 7 rfl rfl)
theorem dX0_netOf_30 : decode cX0_netOf 30 = .ok (.iload_n 2, 1) := dk_28 (dk_at dksX0_netOf_1 8 rfl rfl)
theorem dX0_netOf_31 : decode cX0_netOf 31 = .ok (.aload_n 0, 1) := dk_42 (dk_at dksX0_netOf_1 9 rfl rfl)
theorem dX0_netOf_32 : decode cX0_netOf 32 = .ok (.getfield 115, 3) := dk_180 0 115 (dk_at dksX0_netOf_1 10 rfl rfl)
theorem dX0_netOf_35 : decode cX0_netOf 35 = .ok (.iload_n 3, 1) := dk_29 (dk_at dksX0_netOf_1 13 rfl rfl)
theorem dX0_netOf_36 : decode cX0_netOf 36 = .ok (.baload, 1) := dk_51 (dk_at dksX0_netOf_1 14 rfl rfl)
theorem dX0_netOf_37 : decode cX0_netOf 37 = .ok (.ifCond .ne 7, 3) := dk_154 0 7 (dk_at dksX0_netOf_1 15 rfl rfl)
theorem dX0_netOf_40 : decode cX0_netOf 40 = .ok (.iconst 0, 1) := dk_3 (dk_at dksX0_netOf_1 18 rfl rfl)
theorem dX0_netOf_41 : decode cX0_netOf 41 = .ok (.goto 15, 3) := dk_167 0 15 (dk_at dksX0_netOf_1 19 rfl rfl)
theorem dX0_netOf_44 : decode cX0_netOf 44 = .ok (.aload_n 0, 1) := dk_42 (dk_at dksX0_netOf_1 22 rfl rfl)
theorem dX0_netOf_45 : decode cX0_netOf 45 = .ok (.getfield 115, 3) := dk_180 0 115 (dk_at dksX0_netOf_2 0 rfl rfl)
theorem dX0_netOf_48 : decode cX0_netOf 48 = .ok (.iload_n 3, 1) := dk_29 (dk_at dksX0_netOf_2 3 rfl rfl)
theorem dX0_netOf_49 : decode cX0_netOf 49 = .ok (.baload, 1) := dk_51 (dk_at dksX0_netOf_2 4 rfl rfl)
theorem dX0_netOf_50 : decode cX0_netOf 50 = .ok (.aload_n 0, 1) := dk_42 (dk_at dksX0_netOf_2 5 rfl rfl)
theorem dX0_netOf_51 : decode cX0_netOf 51 = .ok (.iload_n 3, 1) := dk_29 (dk_at dksX0_netOf_2 6 rfl rfl)
theorem dX0_netOf_52 : decode cX0_netOf 52 = .ok (.invokevirtual 167, 3) := dk_182 0 167 (dk_at dksX0_netOf_2 7 rfl rfl)
theorem dX0_netOf_55 : decode cX0_netOf 55 = .ok (.imul, 1) := dk_104 (dk_at dksX0_netOf_2 10 rfl rfl)
theorem dX0_netOf_56 : decode cX0_netOf 56 = .ok (.isub, 1) := dk_100 (dk_at dksX0_netOf_2 11 rfl rfl)
theorem dX0_netOf_57 : decode cX0_netOf 57 = .ok (.istore_n 2, 1) := dk_61 (dk_at dksX0_netOf_2 12 rfl rfl)
theorem dX0_netOf_58 : decode cX0_netOf 58 = .ok (.iinc 3 1, 3) := dk_132 3 1 (dk_at dksX0_netOf_2 13 rfl rfl)
theorem dX0_netOf_61 : decode cX0_netOf 61 = .ok (.goto (-57), 3) := dk_167 255 199 (dk_at dksX0_netOf_2 16 rfl rfl)
theorem dX0_netOf_64 : decode cX0_netOf 64 = .ok (.iload_n 2, 1) := dk_28 (dk_at dksX0_netOf_2 19 rfl rfl)
theorem dX0_netOf_65 : decode cX0_netOf 65 = .ok (.aload_n 0, 1) := dk_42 (dk_at dksX0_netOf_2 20 rfl rfl)
theorem dX0_netOf_66 : decode cX0_netOf 66 = .ok (.aload_n 0, 1) := dk_42 (dk_at dksX0_netOf_2 21 rfl rfl)
theorem dX0_netOf_67 : decode cX0_netOf 67 = .ok (.getfield 121, 3) := dk_180 0 121 (dk_at dksX0_netOf_3 0 rfl rfl)
theorem dX0_netOf_70 : decode cX0_netOf 70 = .ok (.iload_n 1, 1) := dk_27 (dk_at dksX0_netOf_3 3 rfl rfl)
theorem dX0_netOf_71 : decode cX0_netOf 71 = .ok (.invokevirtual 248, 3) := dk_182 0 248 (dk_at dksX0_netOf_3 4 rfl rfl)
theorem dX0_netOf_74 : decode cX0_netOf 74 = .ok (.iadd, 1) := dk_96 (dk_at dksX0_netOf_3 7 rfl rfl)
theorem dX0_netOf_75 : decode cX0_netOf 75 = .ok (.ireturn, 1) := dk_172 (dk_at dksX0_netOf_3 8 rfl rfl)
abbrev cX0_isLess : ByteArray := prog_1_method_40_code
def yX0_isLess : MethodName := ⟨RX0, "isLess", "()Z"⟩
def dkwX0_isLess_2 : List UInt8 := [167, 255, 211, 3, 172]
abbrev dktX0_isLess_2 : List UInt8 := dkwX0_isLess_2 ++ []
def dkwX0_isLess_1 : List UInt8 := [180, 0, 115, 27, 51, 42, 180, 0, 118, 27, 51, 162, 0, 7, 4, 167, 0, 4, 3, 172, 132, 1, 1]
abbrev dktX0_isLess_1 : List UInt8 := dkwX0_isLess_1 ++ dktX0_isLess_2
def dkwX0_isLess_0 : List UInt8 := [3, 60, 27, 16, 8, 162, 0, 45, 42, 180, 0, 115, 27, 51, 42, 180, 0, 118, 27, 51, 159, 0, 24, 42]
abbrev dktX0_isLess_0 : List UInt8 := dkwX0_isLess_0 ++ dktX0_isLess_1
theorem dksX0_isLess_0 : cX0_isLess.data.toList.drop 0 = dktX0_isLess_0 := by decide +kernel
theorem dksX0_isLess_1 : cX0_isLess.data.toList.drop 24 = dktX0_isLess_1 := dk_seg dksX0_isLess_0 24 rfl rfl
theorem dksX0_isLess_2 : cX0_isLess.data.toList.drop 47 = dktX0_isLess_2 := dk_seg dksX0_isLess_1 23 rfl rfl
theorem dX0_isLess_0 : decode cX0_isLess 0 = .ok (.iconst 0, 1) := dk_3 (dk_at dksX0_isLess_0 0 rfl rfl)
theorem dX0_isLess_1 : decode cX0_isLess 1 = .ok (.istore_n 1, 1) := dk_60 (dk_at dksX0_isLess_0 1 rfl rfl)
theorem dX0_isLess_2 : decode cX0_isLess 2 = .ok (.iload_n 1, 1) := dk_27 (dk_at dksX0_isLess_0 2 rfl rfl)
theorem dX0_isLess_3 : decode cX0_isLess 3 = .ok (.bipush 8, 2) := dk_16 8 (dk_at dksX0_isLess_0 3 rfl rfl)
theorem dX0_isLess_5 : decode cX0_isLess 5 = .ok (.if_icmp .ge 45, 3) := dk_162 0 45 (dk_at dksX0_isLess_0 5 rfl rfl)
theorem dX0_isLess_8 : decode cX0_isLess 8 = .ok (.aload_n 0, 1) := dk_42 (dk_at dksX0_isLess_0 8 rfl rfl)
theorem dX0_isLess_9 : decode cX0_isLess 9 = .ok (.getfield 115, 3) := dk_180 0 115 (dk_at dksX0_isLess_0 9 rfl rfl)
theorem dX0_isLess_12 : decode cX0_isLess 12 = .ok (.iload_n 1, 1) := dk_27 (dk_at dksX0_isLess_0 12 rfl rfl)
theorem dX0_isLess_13 : decode cX0_isLess 13 = .ok (.baload, 1) := dk_51 (dk_at dksX0_isLess_0 13 rfl rfl)
theorem dX0_isLess_14 : decode cX0_isLess 14 = .ok (.aload_n 0, 1) := dk_42 (dk_at dksX0_isLess_0 14 rfl rfl)
theorem dX0_isLess_15 : decode cX0_isLess 15 = .ok (.getfield 118, 3) := dk_180 0 118 (dk_at dksX0_isLess_0 15 rfl rfl)
theorem dX0_isLess_18 : decode cX0_isLess 18 = .ok (.iload_n 1, 1) := dk_27 (dk_at dksX0_isLess_0 18 rfl rfl)
theorem dX0_isLess_19 : decode cX0_isLess 19 = .ok (.baload, 1) := dk_51 (dk_at dksX0_isLess_0 19 rfl rfl)
theorem dX0_isLess_20 : decode cX0_isLess 20 = .ok (.if_icmp .eq 24, 3) := dk_159 0 24 (dk_at dksX0_isLess_0 20 rfl rfl)
theorem dX0_isLess_23 : decode cX0_isLess 23 = .ok (.aload_n 0, 1) := dk_42 (dk_at dksX0_isLess_0 23 rfl rfl)
theorem dX0_isLess_24 : decode cX0_isLess 24 = .ok (.getfield 115, 3) := dk_180 0 115 (dk_at dksX0_isLess_1 0 rfl rfl)
theorem dX0_isLess_27 : decode cX0_isLess 27 = .ok (.iload_n 1, 1) := dk_27 (dk_at dksX0_isLess_1 3 rfl rfl)
theorem dX0_isLess_28 : decode cX0_isLess 28 = .ok (.baload, 1) := dk_51 (dk_at dksX0_isLess_1 4 rfl rfl)
theorem dX0_isLess_29 : decode cX0_isLess 29 = .ok (.aload_n 0, 1) := dk_42 (dk_at dksX0_isLess_1 5 rfl rfl)
theorem dX0_isLess_30 : decode cX0_isLess 30 = .ok (.getfield 118, 3) := dk_180 0 118 (dk_at dksX0_isLess_1 6 rfl rfl)
theorem dX0_isLess_33 : decode cX0_isLess 33 = .ok (.iload_n 1, 1) := dk_27 (dk_at dksX0_isLess_1 9 rfl rfl)
theorem dX0_isLess_34 : decode cX0_isLess 34 = .ok (.baload, 1) := dk_51 (dk_at dksX0_isLess_1 10 rfl rfl)
theorem dX0_isLess_35 : decode cX0_isLess 35 = .ok (.if_icmp .ge 7, 3) := dk_162 0 7 (dk_at dksX0_isLess_1 11 rfl rfl)
theorem dX0_isLess_38 : decode cX0_isLess 38 = .ok (.iconst 1, 1) := dk_4 (dk_at dksX0_isLess_1 14 rfl rfl)
theorem dX0_isLess_39 : decode cX0_isLess 39 = .ok (.goto 4, 3) := dk_167 0 4 (dk_at dksX0_isLess_1 15 rfl rfl)
theorem dX0_isLess_42 : decode cX0_isLess 42 = .ok (.iconst 0, 1) := dk_3 (dk_at dksX0_isLess_1 18 rfl rfl)
theorem dX0_isLess_43 : decode cX0_isLess 43 = .ok (.ireturn, 1) := dk_172 (dk_at dksX0_isLess_1 19 rfl rfl)
theorem dX0_isLess_44 : decode cX0_isLess 44 = .ok (.iinc 1 1, 3) := dk_132 1 1 (dk_at dksX0_isLess_1 20 rfl rfl)
theorem dX0_isLess_47 : decode cX0_isLess 47 = .ok (.goto (-45), 3) := dk_167 255 211 (dk_at dksX0_isLess_2 0 rfl rfl)
theorem dX0_isLess_50 : decode cX0_isLess 50 = .ok (.iconst 0, 1) := dk_3 (dk_at dksX0_isLess_2 3 rfl rfl)
theorem dX0_isLess_51 : decode cX0_isLess 51 = .ok (.ireturn, 1) := dk_172 (dk_at dksX0_isLess_2 4 rfl rfl)
abbrev cX0_inTwo : ByteArray := prog_1_method_45_code
def yX0_inTwo : MethodName := ⟨RX0, "inTwo", "(II)I"⟩
def dkwX0_inTwo_2 : List UInt8 := [2, 182, 1, 46, 172]
abbrev dktX0_inTwo_2 : List UInt8 := dkwX0_inTwo_2 ++ []
def dkwX0_inTwo_1 : List UInt8 := [180, 0, 109, 16, 12, 182, 0, 244, 62, 29, 158, 0, 11, 42, 29, 182, 0, 160, 167, 0, 10, 42, 3, 28]
abbrev dktX0_inTwo_1 : List UInt8 := dkwX0_inTwo_1 ++ dktX0_inTwo_2
def dkwX0_inTwo_0 : List UInt8 := [27, 184, 0, 241, 153, 0, 10, 28, 184, 0, 170, 154, 0, 9, 42, 4, 182, 0, 160, 172, 42, 27, 42]
abbrev dktX0_inTwo_0 : List UInt8 := dkwX0_inTwo_0 ++ dktX0_inTwo_1
theorem dksX0_inTwo_0 : cX0_inTwo.data.toList.drop 0 = dktX0_inTwo_0 := by decide +kernel
theorem dksX0_inTwo_1 : cX0_inTwo.data.toList.drop 23 = dktX0_inTwo_1 := dk_seg dksX0_inTwo_0 23 rfl rfl
theorem dksX0_inTwo_2 : cX0_inTwo.data.toList.drop 47 = dktX0_inTwo_2 := dk_seg dksX0_inTwo_1 24 rfl rfl
theorem dX0_inTwo_0 : decode cX0_inTwo 0 = .ok (.iload_n 1, 1) := dk_27 (dk_at dksX0_inTwo_0 0 rfl rfl)
theorem dX0_inTwo_1 : decode cX0_inTwo 1 = .ok (.invokestatic 241, 3) := dk_184 0 241 (dk_at dksX0_inTwo_0 1 rfl rfl)
theorem dX0_inTwo_4 : decode cX0_inTwo 4 = .ok (.ifCond .eq 10, 3) := dk_153 0 10 (dk_at dksX0_inTwo_0 4 rfl rfl)
theorem dX0_inTwo_7 : decode cX0_inTwo 7 = .ok (.iload_n 2, 1) := dk_28 (dk_at dksX0_inTwo_0 7 rfl rfl)
theorem dX0_inTwo_8 : decode cX0_inTwo 8 = .ok (.invokestatic 170, 3) := dk_184 0 170 (dk_at dksX0_inTwo_0 8 rfl rfl)
theorem dX0_inTwo_11 : decode cX0_inTwo 11 = .ok (.ifCond .ne 9, 3) := dk_154 0 9 (dk_at dksX0_inTwo_0 11 rfl rfl)
theorem dX0_inTwo_14 : decode cX0_inTwo 14 = .ok (.aload_n 0, 1) := dk_42 (dk_at dksX0_inTwo_0 14 rfl rfl)
theorem dX0_inTwo_15 : decode cX0_inTwo 15 = .ok (.iconst 1, 1) := dk_4 (dk_at dksX0_inTwo_0 15 rfl rfl)
theorem dX0_inTwo_16 : decode cX0_inTwo 16 = .ok (.invokevirtual 160, 3) := dk_182 0 160 (dk_at dksX0_inTwo_0 16 rfl rfl)
theorem dX0_inTwo_19 : decode cX0_inTwo 19 = .ok (.ireturn, 1) := dk_172 (dk_at dksX0_inTwo_0 19 rfl rfl)
theorem dX0_inTwo_20 : decode cX0_inTwo 20 = .ok (.aload_n 0, 1) := dk_42 (dk_at dksX0_inTwo_0 20 rfl rfl)
theorem dX0_inTwo_21 : decode cX0_inTwo 21 = .ok (.iload_n 1, 1) := dk_27 (dk_at dksX0_inTwo_0 21 rfl rfl)
theorem dX0_inTwo_22 : decode cX0_inTwo 22 = .ok (.aload_n 0, 1) := dk_42 (dk_at dksX0_inTwo_0 22 rfl rfl)
theorem dX0_inTwo_23 : decode cX0_inTwo 23 = .ok (.getfield 109, 3) := dk_180 0 109 (dk_at dksX0_inTwo_1 0 rfl rfl)
theorem dX0_inTwo_26 : decode cX0_inTwo 26 = .ok (.bipush 12, 2) := dk_16 12 (dk_at dksX0_inTwo_1 3 rfl rfl)
theorem dX0_inTwo_28 : decode cX0_inTwo 28 = .ok (.invokevirtual 244, 3) := dk_182 0 244 (dk_at dksX0_inTwo_1 5 rfl rfl)
theorem dX0_inTwo_31 : decode cX0_inTwo 31 = .ok (.istore_n 3, 1) := dk_62 (dk_at dksX0_inTwo_1 8 rfl rfl)
theorem dX0_inTwo_32 : decode cX0_inTwo 32 = .ok (.iload_n 3, 1) := dk_29 (dk_at dksX0_inTwo_1 9 rfl rfl)
theorem dX0_inTwo_33 : decode cX0_inTwo 33 = .ok (.ifCond .le 11, 3) := dk_158 0 11 (dk_at dksX0_inTwo_1 10 rfl rfl)
theorem dX0_inTwo_36 : decode cX0_inTwo 36 = .ok (.aload_n 0, 1) := dk_42 (dk_at dksX0_inTwo_1 13 rfl rfl)
theorem dX0_inTwo_37 : decode cX0_inTwo 37 = .ok (.iload_n 3, 1) := dk_29 (dk_at dksX0_inTwo_1 14 rfl rfl)
theorem dX0_inTwo_38 : decode cX0_inTwo 38 = .ok (.invokevirtual 160, 3) := dk_182 0 160 (dk_at dksX0_inTwo_1 15 rfl rfl)
theorem dX0_inTwo_41 : decode cX0_inTwo 41 = .ok (.goto 10, 3) := dk_167 0 10 (dk_at dksX0_inTwo_1 18 rfl rfl)
theorem dX0_inTwo_44 : decode cX0_inTwo 44 = .ok (.aload_n 0, 1) := dk_42 (dk_at dksX0_inTwo_1 21 rfl rfl)
theorem dX0_inTwo_45 : decode cX0_inTwo 45 = .ok (.iconst 0, 1) := dk_3 (dk_at dksX0_inTwo_1 22 rfl rfl)
theorem dX0_inTwo_46 : decode cX0_inTwo 46 = .ok (.iload_n 2, 1) := dk_28 (dk_at dksX0_inTwo_1 23 rfl rfl)
theorem dX0_inTwo_47 : decode cX0_inTwo 47 = .ok (.iconst (-1), 1) := dk_2 (dk_at dksX0_inTwo_2 0 rfl rfl)
theorem dX0_inTwo_48 : decode cX0_inTwo 48 = .ok (.invokevirtual 302, 3) := dk_182 1 46 (dk_at dksX0_inTwo_2 1 rfl rfl)
theorem dX0_inTwo_51 : decode cX0_inTwo 51 = .ok (.ireturn, 1) := dk_172 (dk_at dksX0_inTwo_2 4 rfl rfl)
abbrev cX0_leastInTwo : ByteArray := prog_1_method_44_code
def yX0_leastInTwo : MethodName := ⟨RX0, "leastInTwo", "(III)I"⟩
def dkwX0_leastInTwo_5 : List UInt8 := [54, 4, 132, 5, 1, 167, 255, 221, 42, 180, 0, 115, 27, 3, 84, 21, 4, 172]
abbrev dktX0_leastInTwo_5 : List UInt8 := dkwX0_leastInTwo_5 ++ []
def dkwX0_leastInTwo_4 : List UInt8 := [27, 51, 163, 0, 30, 42, 180, 0, 115, 27, 21, 5, 145, 84, 42, 27, 4, 96, 28, 21, 4, 182, 1, 46]
abbrev dktX0_leastInTwo_4 : List UInt8 := dkwX0_leastInTwo_4 ++ dktX0_leastInTwo_5
def dkwX0_leastInTwo_3 : List UInt8 := [21, 4, 167, 0, 9, 29, 21, 4, 184, 0, 1, 172, 29, 54, 4, 3, 54, 5, 21, 5, 42, 180, 0, 109]
abbrev dktX0_leastInTwo_3 : List UInt8 := dkwX0_leastInTwo_3 ++ dktX0_leastInTwo_4
def dkwX0_leastInTwo_2 : List UInt8 := [180, 0, 115, 28, 182, 0, 248, 42, 42, 180, 0, 121, 28, 182, 0, 248, 96, 54, 4, 29, 156, 0, 8]
abbrev dktX0_leastInTwo_2 : List UInt8 := dkwX0_leastInTwo_2 ++ dktX0_leastInTwo_3
def dkwX0_leastInTwo_1 : List UInt8 := [180, 0, 109, 21, 4, 51, 42, 180, 0, 115, 21, 4, 51, 100, 145, 84, 132, 4, 1, 167, 255, 223, 42, 42]
abbrev dktX0_leastInTwo_1 : List UInt8 := dkwX0_leastInTwo_1 ++ dktX0_leastInTwo_2
def dkwX0_leastInTwo_0 : List UInt8 := [27, 16, 8, 160, 0, 79, 3, 54, 4, 21, 4, 16, 8, 162, 0, 32, 42, 180, 0, 121, 21, 4, 42]
abbrev dktX0_leastInTwo_0 : List UInt8 := dkwX0_leastInTwo_0 ++ dktX0_leastInTwo_1
theorem dksX0_leastInTwo_0 : cX0_leastInTwo.data.toList.drop 0 = dktX0_leastInTwo_0 := by decide +kernel
theorem dksX0_leastInTwo_1 : cX0_leastInTwo.data.toList.drop 23 = dktX0_leastInTwo_1 := dk_seg dksX0_leastInTwo_0 23 rfl rfl
theorem dksX0_leastInTwo_2 : cX0_leastInTwo.data.toList.drop 47 = dktX0_leastInTwo_2 := dk_seg dksX0_leastInTwo_1 24 rfl rfl
theorem dksX0_leastInTwo_3 : cX0_leastInTwo.data.toList.drop 70 = dktX0_leastInTwo_3 := dk_seg dksX0_leastInTwo_2 23 rfl rfl
theorem dksX0_leastInTwo_4 : cX0_leastInTwo.data.toList.drop 94 = dktX0_leastInTwo_4 := dk_seg dksX0_leastInTwo_3 24 rfl rfl
theorem dksX0_leastInTwo_5 : cX0_leastInTwo.data.toList.drop 118 = dktX0_leastInTwo_5 := dk_seg dksX0_leastInTwo_4 24 rfl rfl
theorem dX0_leastInTwo_0 : decode cX0_leastInTwo 0 = .ok (.iload_n 1, 1) := dk_27 (dk_at dksX0_leastInTwo_0 0 rfl rfl)
theorem dX0_leastInTwo_1 : decode cX0_leastInTwo 1 = .ok (.bipush 8, 2) := dk_16 8 (dk_at dksX0_leastInTwo_0 1 rfl rfl)
theorem dX0_leastInTwo_3 : decode cX0_leastInTwo 3 = .ok (.if_icmp .ne 79, 3) := dk_160 0 79 (dk_at dksX0_leastInTwo_0 3 rfl rfl)
theorem dX0_leastInTwo_6 : decode cX0_leastInTwo 6 = .ok (.iconst 0, 1) := dk_3 (dk_at dksX0_leastInTwo_0 6 rfl rfl)
theorem dX0_leastInTwo_7 : decode cX0_leastInTwo 7 = .ok (.istore 4, 2) := dk_54 4 (dk_at dksX0_leastInTwo_0 7 rfl rfl)
theorem dX0_leastInTwo_9 : decode cX0_leastInTwo 9 = .ok (.iload 4, 2) := dk_21 4 (dk_at dksX0_leastInTwo_0 9 rfl rfl)
theorem dX0_leastInTwo_11 : decode cX0_leastInTwo 11 = .ok (.bipush 8, 2) := dk_16 8 (dk_at dksX0_leastInTwo_0 11 rfl rfl)
theorem dX0_leastInTwo_13 : decode cX0_leastInTwo 13 = .ok (.if_icmp .ge 32, 3) := dk_162 0 32 (dk_at dksX0_leastInTwo_0 13 rfl rfl)
theorem dX0_leastInTwo_16 : decode cX0_leastInTwo 16 = .ok (.aload_n 0, 1) := dk_42 (dk_at dksX0_leastInTwo_0 16 rfl rfl)
theorem dX0_leastInTwo_17 : decode cX0_leastInTwo 17 = .ok (.getfield 121, 3) := dk_180 0 121 (dk_at dksX0_leastInTwo_0 17 rfl rfl)
theorem dX0_leastInTwo_20 : decode cX0_leastInTwo 20 = .ok (.iload 4, 2) := dk_21 4 (dk_at dksX0_leastInTwo_0 20 rfl rfl)
theorem dX0_leastInTwo_22 : decode cX0_leastInTwo 22 = .ok (.aload_n 0, 1) := dk_42 (dk_at dksX0_leastInTwo_0 22 rfl rfl)
theorem dX0_leastInTwo_23 : decode cX0_leastInTwo 23 = .ok (.getfield 109, 3) := dk_180 0 109 (dk_at dksX0_leastInTwo_1 0 rfl rfl)
theorem dX0_leastInTwo_26 : decode cX0_leastInTwo 26 = .ok (.iload 4, 2) := dk_21 4 (dk_at dksX0_leastInTwo_1 3 rfl rfl)
theorem dX0_leastInTwo_28 : decode cX0_leastInTwo 28 = .ok (.baload, 1) := dk_51 (dk_at dksX0_leastInTwo_1 5 rfl rfl)
theorem dX0_leastInTwo_29 : decode cX0_leastInTwo 29 = .ok (.aload_n 0, 1) := dk_42 (dk_at dksX0_leastInTwo_1 6 rfl rfl)
theorem dX0_leastInTwo_30 : decode cX0_leastInTwo 30 = .ok (.getfield 115, 3) := dk_180 0 115 (dk_at dksX0_leastInTwo_1 7 rfl rfl)
theorem dX0_leastInTwo_33 : decode cX0_leastInTwo 33 = .ok (.iload 4, 2) := dk_21 4 (dk_at dksX0_leastInTwo_1 10 rfl rfl)
theorem dX0_leastInTwo_35 : decode cX0_leastInTwo 35 = .ok (.baload, 1) := dk_51 (dk_at dksX0_leastInTwo_1 12 rfl rfl)
theorem dX0_leastInTwo_36 : decode cX0_leastInTwo 36 = .ok (.isub, 1) := dk_100 (dk_at dksX0_leastInTwo_1 13 rfl rfl)
theorem dX0_leastInTwo_37 : decode cX0_leastInTwo 37 = .ok (.i2b, 1) := dk_145 (dk_at dksX0_leastInTwo_1 14 rfl rfl)
theorem dX0_leastInTwo_38 : decode cX0_leastInTwo 38 = .ok (.bastore, 1) := dk_84 (dk_at dksX0_leastInTwo_1 15 rfl rfl)
theorem dX0_leastInTwo_39 : decode cX0_leastInTwo 39 = .ok (.iinc 4 1, 3) := dk_132 4 1 (dk_at dksX0_leastInTwo_1 16 rfl rfl)
theorem dX0_leastInTwo_42 : decode cX0_leastInTwo 42 = .ok (.goto (-33), 3) := dk_167 255 223 (dk_at dksX0_leastInTwo_1 19 rfl rfl)
theorem dX0_leastInTwo_45 : decode cX0_leastInTwo 45 = .ok (.aload_n 0, 1) := dk_42 (dk_at dksX0_leastInTwo_1 22 rfl rfl)
theorem dX0_leastInTwo_46 : decode cX0_leastInTwo 46 = .ok (.aload_n 0, 1) := dk_42 (dk_at dksX0_leastInTwo_1 23 rfl rfl)
theorem dX0_leastInTwo_47 : decode cX0_leastInTwo 47 = .ok (.getfield 115, 3) := dk_180 0 115 (dk_at dksX0_leastInTwo_2 0 rfl rfl)
theorem dX0_leastInTwo_50 : decode cX0_leastInTwo 50 = .ok (.iload_n 2, 1) := dk_28 (dk_at dksX0_leastInTwo_2 3 rfl rfl)
theorem dX0_leastInTwo_51 : decode cX0_leastInTwo 51 = .ok (.invokevirtual 248, 3) := dk_182 0 248 (dk_at dksX0_leastInTwo_2 4 rfl rfl)
theorem dX0_leastInTwo_54 : decode cX0_leastInTwo 54 = .ok (.aload_n 0, 1) := dk_42 (dk_at dksX0_leastInTwo_2 7 rfl rfl)
theorem dX0_leastInTwo_55 : decode cX0_leastInTwo 55 = .ok (.aload_n 0, 1) := dk_42 (dk_at dksX0_leastInTwo_2 8 rfl rfl)
theorem dX0_leastInTwo_56 : decode cX0_leastInTwo 56 = .ok (.getfield 121, 3) := dk_180 0 121 (dk_at dksX0_leastInTwo_2 9 rfl rfl)
theorem dX0_leastInTwo_59 : decode cX0_leastInTwo 59 = .ok (.iload_n 2, 1) := dk_28 (dk_at dksX0_leastInTwo_2 12 rfl rfl)
theorem dX0_leastInTwo_60 : decode cX0_leastInTwo 60 = .ok (.invokevirtual 248, 3) := dk_182 0 248 (dk_at dksX0_leastInTwo_2 13 rfl rfl)
theorem dX0_leastInTwo_63 : decode cX0_leastInTwo 63 = .ok (.iadd, 1) := dk_96 (dk_at dksX0_leastInTwo_2 16 rfl rfl)
theorem dX0_leastInTwo_64 : decode cX0_leastInTwo 64 = .ok (.istore 4, 2) := dk_54 4 (dk_at dksX0_leastInTwo_2 17 rfl rfl)
theorem dX0_leastInTwo_66 : decode cX0_leastInTwo 66 = .ok (.iload_n 3, 1) := dk_29 (dk_at dksX0_leastInTwo_2 19 rfl rfl)
theorem dX0_leastInTwo_67 : decode cX0_leastInTwo 67 = .ok (.ifCond .ge 8, 3) := dk_156 0 8 (dk_at dksX0_leastInTwo_2 20 rfl rfl)
theorem dX0_leastInTwo_70 : decode cX0_leastInTwo 70 = .ok (.iload 4, 2) := dk_21 4 (dk_at dksX0_leastInTwo_3 0 rfl rfl)
theorem dX0_leastInTwo_72 : decode cX0_leastInTwo 72 = .ok (.goto 9, 3) := dk_167 0 9 (dk_at dksX0_leastInTwo_3 2 rfl rfl)
theorem dX0_leastInTwo_75 : decode cX0_leastInTwo 75 = .ok (.iload_n 3, 1) := dk_29 (dk_at dksX0_leastInTwo_3 5 rfl rfl)
theorem dX0_leastInTwo_76 : decode cX0_leastInTwo 76 = .ok (.iload 4, 2) := dk_21 4 (dk_at dksX0_leastInTwo_3 6 rfl rfl)
theorem dX0_leastInTwo_78 : decode cX0_leastInTwo 78 = .ok (.invokestatic 1, 3) := dk_184 0 1 (dk_at dksX0_leastInTwo_3 8 rfl rfl)
theorem dX0_leastInTwo_81 : decode cX0_leastInTwo 81 = .ok (.ireturn, 1) := dk_172 (dk_at dksX0_leastInTwo_3 11 rfl rfl)
theorem dX0_leastInTwo_82 : decode cX0_leastInTwo 82 = .ok (.iload_n 3, 1) := dk_29 (dk_at dksX0_leastInTwo_3 12 rfl rfl)
theorem dX0_leastInTwo_83 : decode cX0_leastInTwo 83 = .ok (.istore 4, 2) := dk_54 4 (dk_at dksX0_leastInTwo_3 13 rfl rfl)
theorem dX0_leastInTwo_85 : decode cX0_leastInTwo 85 = .ok (.iconst 0, 1) := dk_3 (dk_at dksX0_leastInTwo_3 15 rfl rfl)
theorem dX0_leastInTwo_86 : decode cX0_leastInTwo 86 = .ok (.istore 5, 2) := dk_54 5 (dk_at dksX0_leastInTwo_3 16 rfl rfl)
theorem dX0_leastInTwo_88 : decode cX0_leastInTwo 88 = .ok (.iload 5, 2) := dk_21 5 (dk_at dksX0_leastInTwo_3 18 rfl rfl)
theorem dX0_leastInTwo_90 : decode cX0_leastInTwo 90 = .ok (.aload_n 0, 1) := dk_42 (dk_at dksX0_leastInTwo_3 20 rfl rfl)
theorem dX0_leastInTwo_91 : decode cX0_leastInTwo 91 = .ok (.getfield 109, 3) := dk_180 0 109 (dk_at dksX0_leastInTwo_3 21 rfl rfl)
theorem dX0_leastInTwo_94 : decode cX0_leastInTwo 94 = .ok (.iload_n 1, 1) := dk_27 (dk_at dksX0_leastInTwo_4 0 rfl rfl)
theorem dX0_leastInTwo_95 : decode cX0_leastInTwo 95 = .ok (.baload, 1) := dk_51 (dk_at dksX0_leastInTwo_4 1 rfl rfl)
theorem dX0_leastInTwo_96 : decode cX0_leastInTwo 96 = .ok (.if_icmp .gt 30, 3) := dk_163 0 30 (dk_at dksX0_leastInTwo_4 2 rfl rfl)
theorem dX0_leastInTwo_99 : decode cX0_leastInTwo 99 = .ok (.aload_n 0, 1) := dk_42 (dk_at dksX0_leastInTwo_4 5 rfl rfl)
theorem dX0_leastInTwo_100 : decode cX0_leastInTwo 100 = .ok (.getfield 115, 3) := dk_180 0 115 (dk_at dksX0_leastInTwo_4 6 rfl rfl)
theorem dX0_leastInTwo_103 : decode cX0_leastInTwo 103 = .ok (.iload_n 1, 1) := dk_27 (dk_at dksX0_leastInTwo_4 9 rfl rfl)
theorem dX0_leastInTwo_104 : decode cX0_leastInTwo 104 = .ok (.iload 5, 2) := dk_21 5 (dk_at dksX0_leastInTwo_4 10 rfl rfl)
theorem dX0_leastInTwo_106 : decode cX0_leastInTwo 106 = .ok (.i2b, 1) := dk_145 (dk_at dksX0_leastInTwo_4 12 rfl rfl)
theorem dX0_leastInTwo_107 : decode cX0_leastInTwo 107 = .ok (.bastore, 1) := dk_84 (dk_at dksX0_leastInTwo_4 13 rfl rfl)
theorem dX0_leastInTwo_108 : decode cX0_leastInTwo 108 = .ok (.aload_n 0, 1) := dk_42 (dk_at dksX0_leastInTwo_4 14 rfl rfl)
theorem dX0_leastInTwo_109 : decode cX0_leastInTwo 109 = .ok (.iload_n 1, 1) := dk_27 (dk_at dksX0_leastInTwo_4 15 rfl rfl)
theorem dX0_leastInTwo_110 : decode cX0_leastInTwo 110 = .ok (.iconst 1, 1) := dk_4 (dk_at dksX0_leastInTwo_4 16 rfl rfl)
theorem dX0_leastInTwo_111 : decode cX0_leastInTwo 111 = .ok (.iadd, 1) := dk_96 (dk_at dksX0_leastInTwo_4 17 rfl rfl)
theorem dX0_leastInTwo_112 : decode cX0_leastInTwo 112 = .ok (.iload_n 2, 1) := dk_28 (dk_at dksX0_leastInTwo_4 18 rfl rfl)
theorem dX0_leastInTwo_113 : decode cX0_leastInTwo 113 = .ok (.iload 4, 2) := dk_21 4 (dk_at dksX0_leastInTwo_4 19 rfl rfl)
theorem dX0_leastInTwo_115 : decode cX0_leastInTwo 115 = .ok (.invokevirtual 302, 3) := dk_182 1 46 (dk_at dksX0_leastInTwo_4 21 rfl rfl)
theorem dX0_leastInTwo_118 : decode cX0_leastInTwo 118 = .ok (.istore 4, 2) := dk_54 4 (dk_at dksX0_leastInTwo_5 0 rfl rfl)
theorem dX0_leastInTwo_120 : decode cX0_leastInTwo 120 = .ok (.iinc 5 1, 3) := dk_132 5 1 (dk_at dksX0_leastInTwo_5 2 rfl rfl)
theorem dX0_leastInTwo_123 : decode cX0_leastInTwo 123 = .ok (.goto (-35), 3) := dk_167 255 221 (dk_at dksX0_leastInTwo_5 5 rfl rfl)
theorem dX0_leastInTwo_126 : decode cX0_leastInTwo 126 = .ok (.aload_n 0, 1) := dk_42 (dk_at dksX0_leastInTwo_5 8 rfl rfl)
theorem dX0_leastInTwo_127 : decode cX0_leastInTwo 127 = .ok (.getfield 115, 3) := dk_180 0 115 (dk_at dksX0_leastInTwo_5 9 rfl rfl)
theorem dX0_leastInTwo_130 : decode cX0_leastInTwo 130 = .ok (.iload_n 1, 1) := dk_27 (dk_at dksX0_leastInTwo_5 12 rfl rfl)
theorem dX0_leastInTwo_131 : decode cX0_leastInTwo 131 = .ok (.iconst 0, 1) := dk_3 (dk_at dksX0_leastInTwo_5 13 rfl rfl)
theorem dX0_leastInTwo_132 : decode cX0_leastInTwo 132 = .ok (.bastore, 1) := dk_84 (dk_at dksX0_leastInTwo_5 14 rfl rfl)
theorem dX0_leastInTwo_133 : decode cX0_leastInTwo 133 = .ok (.iload 4, 2) := dk_21 4 (dk_at dksX0_leastInTwo_5 15 rfl rfl)
theorem dX0_leastInTwo_135 : decode cX0_leastInTwo 135 = .ok (.ireturn, 1) := dk_172 (dk_at dksX0_leastInTwo_5 17 rfl rfl)
abbrev cX0_together : ByteArray := prog_1_method_46_code
def yX0_together : MethodName := ⟨RX0, "together", "(III)I"⟩
def dkwX0_together_8 : List UInt8 := [180, 0, 121, 29, 182, 0, 248, 100, 172]
abbrev dktX0_together_8 : List UInt8 := dkwX0_together_8 ++ []
def dkwX0_together_7 : List UInt8 := [167, 255, 223, 42, 42, 180, 0, 109, 29, 182, 0, 248, 42, 42, 180, 0, 112, 29, 182, 0, 248, 96, 42, 42]
abbrev dktX0_together_7 : List UInt8 := dkwX0_together_7 ++ dktX0_together_8
def dkwX0_together_6 : List UInt8 := [21, 6, 42, 180, 0, 109, 21, 6, 51, 42, 180, 0, 112, 21, 6, 51, 96, 145, 84, 132, 6, 1]
abbrev dktX0_together_6 : List UInt8 := dkwX0_together_6 ++ dktX0_together_7
def dkwX0_together_5 : List UInt8 := [164, 0, 9, 42, 7, 182, 0, 160, 172, 3, 54, 6, 21, 6, 16, 8, 162, 0, 32, 42, 180, 0, 121]
abbrev dktX0_together_5 : List UInt8 := dkwX0_together_5 ++ dktX0_together_6
def dkwX0_together_4 : List UInt8 := [21, 5, 157, 0, 23, 42, 180, 0, 109, 184, 0, 229, 42, 180, 0, 112, 184, 0, 229, 96, 16, 30]
abbrev dktX0_together_4 : List UInt8 := dkwX0_together_4 ++ dktX0_together_5
def dkwX0_together_3 : List UInt8 := [172, 21, 4, 4, 159, 0, 9, 21, 5, 4, 160, 0, 9, 42, 4, 182, 0, 160, 172, 21, 4, 157, 0, 28]
abbrev dktX0_together_3 : List UInt8 := dkwX0_together_3 ++ dktX0_together_4
def dkwX0_together_2 : List UInt8 := [16, 30, 182, 0, 244, 54, 5, 21, 4, 5, 159, 0, 9, 21, 5, 5, 160, 0, 9, 42, 5, 182, 0, 160]
abbrev dktX0_together_2 : List UInt8 := dkwX0_together_2 ++ dktX0_together_3
def dkwX0_together_1 : List UInt8 := [182, 0, 160, 172, 42, 27, 42, 180, 0, 109, 16, 30, 182, 0, 244, 54, 4, 42, 28, 42, 180, 0, 112]
abbrev dktX0_together_1 : List UInt8 := dkwX0_together_1 ++ dktX0_together_2
def dkwX0_together_0 : List UInt8 := [27, 184, 0, 241, 153, 0, 17, 28, 184, 0, 241, 153, 0, 10, 29, 184, 0, 170, 154, 0, 9, 42, 4]
abbrev dktX0_together_0 : List UInt8 := dkwX0_together_0 ++ dktX0_together_1
theorem dksX0_together_0 : cX0_together.data.toList.drop 0 = dktX0_together_0 := by decide +kernel
theorem dksX0_together_1 : cX0_together.data.toList.drop 23 = dktX0_together_1 := dk_seg dksX0_together_0 23 rfl rfl
theorem dksX0_together_2 : cX0_together.data.toList.drop 46 = dktX0_together_2 := dk_seg dksX0_together_1 23 rfl rfl
theorem dksX0_together_3 : cX0_together.data.toList.drop 70 = dktX0_together_3 := dk_seg dksX0_together_2 24 rfl rfl
theorem dksX0_together_4 : cX0_together.data.toList.drop 94 = dktX0_together_4 := dk_seg dksX0_together_3 24 rfl rfl
theorem dksX0_together_5 : cX0_together.data.toList.drop 116 = dktX0_together_5 := dk_seg dksX0_together_4 22 rfl rfl
theorem dksX0_together_6 : cX0_together.data.toList.drop 139 = dktX0_together_6 := dk_seg dksX0_together_5 23 rfl rfl
theorem dksX0_together_7 : cX0_together.data.toList.drop 161 = dktX0_together_7 := dk_seg dksX0_together_6 22 rfl rfl
theorem dksX0_together_8 : cX0_together.data.toList.drop 185 = dktX0_together_8 := dk_seg dksX0_together_7 24 rfl rfl
theorem dX0_together_0 : decode cX0_together 0 = .ok (.iload_n 1, 1) := dk_27 (dk_at dksX0_together_0 0 rfl rfl)
theorem dX0_together_1 : decode cX0_together 1 = .ok (.invokestatic 241, 3) := dk_184 0 241 (dk_at dksX0_together_0 1 rfl rfl)
theorem dX0_together_4 : decode cX0_together 4 = .ok (.ifCond .eq 17, 3) := dk_153 0 17 (dk_at dksX0_together_0 4 rfl rfl)
theorem dX0_together_7 : decode cX0_together 7 = .ok (.iload_n 2, 1) := dk_28 (dk_at dksX0_together_0 7 rfl rfl)
theorem dX0_together_8 : decode cX0_together 8 = .ok (.invokestatic 241, 3) := dk_184 0 241 (dk_at dksX0_together_0 8 rfl rfl)
theorem dX0_together_11 : decode cX0_together 11 = .ok (.ifCond .eq 10, 3) := dk_153 0 10 (dk_at dksX0_together_0 11 rfl rfl)
theorem dX0_together_14 : decode cX0_together 14 = .ok (.iload_n 3, 1) := dk_29 (dk_at dksX0_together_0 14 rfl rfl)
theorem dX0_together_15 : decode cX0_together 15 = .ok (.invokestatic 170, 3) := dk_184 0 170 (dk_at dksX0_together_0 15 rfl rfl)
theorem dX0_together_18 : decode cX0_together 18 = .ok (.ifCond .ne 9, 3) := dk_154 0 9 (dk_at dksX0_together_0 18 rfl rfl)
theorem dX0_together_21 : decode cX0_together 21 = .ok (.aload_n 0, 1) := dk_42 (dk_at dksX0_together_0 21 rfl rfl)
theorem dX0_together_22 : decode cX0_together 22 = .ok (.iconst 1, 1) := dk_4 (dk_at dksX0_together_0 22 rfl rfl)
theorem dX0_together_23 : decode cX0_together 23 = .ok (.invokevirtual 160, 3) := dk_182 0 160 (dk_at dksX0_together_1 0 rfl rfl)
theorem dX0_together_26 : decode cX0_together 26 = .ok (.ireturn, 1) := dk_172 (dk_at dksX0_together_1 3 rfl rfl)
theorem dX0_together_27 : decode cX0_together 27 = .ok (.aload_n 0, 1) := dk_42 (dk_at dksX0_together_1 4 rfl rfl)
theorem dX0_together_28 : decode cX0_together 28 = .ok (.iload_n 1, 1) := dk_27 (dk_at dksX0_together_1 5 rfl rfl)
theorem dX0_together_29 : decode cX0_together 29 = .ok (.aload_n 0, 1) := dk_42 (dk_at dksX0_together_1 6 rfl rfl)
theorem dX0_together_30 : decode cX0_together 30 = .ok (.getfield 109, 3) := dk_180 0 109 (dk_at dksX0_together_1 7 rfl rfl)
theorem dX0_together_33 : decode cX0_together 33 = .ok (.bipush 30, 2) := dk_16 30 (dk_at dksX0_together_1 10 rfl rfl)
theorem dX0_together_35 : decode cX0_together 35 = .ok (.invokevirtual 244, 3) := dk_182 0 244 (dk_at dksX0_together_1 12 rfl rfl)
theorem dX0_together_38 : decode cX0_together 38 = .ok (.istore 4, 2) := dk_54 4 (dk_at dksX0_together_1 15 rfl rfl)
theorem dX0_together_40 : decode cX0_together 40 = .ok (.aload_n 0, 1) := dk_42 (dk_at dksX0_together_1 17 rfl rfl)
theorem dX0_together_41 : decode cX0_together 41 = .ok (.iload_n 2, 1) := dk_28 (dk_at dksX0_together_1 18 rfl rfl)
theorem dX0_together_42 : decode cX0_together 42 = .ok (.aload_n 0, 1) := dk_42 (dk_at dksX0_together_1 19 rfl rfl)
theorem dX0_together_43 : decode cX0_together 43 = .ok (.getfield 112, 3) := dk_180 0 112 (dk_at dksX0_together_1 20 rfl rfl)
theorem dX0_together_46 : decode cX0_together 46 = .ok (.bipush 30, 2) := dk_16 30 (dk_at dksX0_together_2 0 rfl rfl)
theorem dX0_together_48 : decode cX0_together 48 = .ok (.invokevirtual 244, 3) := dk_182 0 244 (dk_at dksX0_together_2 2 rfl rfl)
theorem dX0_together_51 : decode cX0_together 51 = .ok (.istore 5, 2) := dk_54 5 (dk_at dksX0_together_2 5 rfl rfl)
theorem dX0_together_53 : decode cX0_together 53 = .ok (.iload 4, 2) := dk_21 4 (dk_at dksX0_together_2 7 rfl rfl)
theorem dX0_together_55 : decode cX0_together 55 = .ok (.iconst 2, 1) := dk_5 (dk_at dksX0_together_2 9 rfl rfl)
theorem dX0_together_56 : decode cX0_together 56 = .ok (.if_icmp .eq 9, 3) := dk_159 0 9 (dk_at dksX0_together_2 10 rfl rfl)
theorem dX0_together_59 : decode cX0_together 59 = .ok (.iload 5, 2) := dk_21 5 (dk_at dksX0_together_2 13 rfl rfl)
theorem dX0_together_61 : decode cX0_together 61 = .ok (.iconst 2, 1) := dk_5 (dk_at dksX0_together_2 15 rfl rfl)
theorem dX0_together_62 : decode cX0_together 62 = .ok (.if_icmp .ne 9, 3) := dk_160 0 9 (dk_at dksX0_together_2 16 rfl rfl)
theorem dX0_together_65 : decode cX0_together 65 = .ok (.aload_n 0, 1) := dk_42 (dk_at dksX0_together_2 19 rfl rfl)
theorem dX0_together_66 : decode cX0_together 66 = .ok (.iconst 2, 1) := dk_5 (dk_at dksX0_together_2 20 rfl rfl)
theorem dX0_together_67 : decode cX0_together 67 = .ok (.invokevirtual 160, 3) := dk_182 0 160 (dk_at dksX0_together_2 21 rfl rfl)
theorem dX0_together_70 : decode cX0_together 70 = .ok (.ireturn, 1) := dk_172 (dk_at dksX0_together_3 0 rfl rfl)
theorem dX0_together_71 : decode cX0_together 71 = .ok (.iload 4, 2) := dk_21 4 (dk_at dksX0_together_3 1 rfl rfl)
theorem dX0_together_73 : decode cX0_together 73 = .ok (.iconst 1, 1) := dk_4 (dk_at dksX0_together_3 3 rfl rfl)
theorem dX0_together_74 : decode cX0_together 74 = .ok (.if_icmp .eq 9, 3) := dk_159 0 9 (dk_at dksX0_together_3 4 rfl rfl)
theorem dX0_together_77 : decode cX0_together 77 = .ok (.iload 5, 2) := dk_21 5 (dk_at dksX0_together_3 7 rfl rfl)
theorem dX0_together_79 : decode cX0_together 79 = .ok (.iconst 1, 1) := dk_4 (dk_at dksX0_together_3 9 rfl rfl)
theorem dX0_together_80 : decode cX0_together 80 = .ok (.if_icmp .ne 9, 3) := dk_160 0 9 (dk_at dksX0_together_3 10 rfl rfl)
theorem dX0_together_83 : decode cX0_together 83 = .ok (.aload_n 0, 1) := dk_42 (dk_at dksX0_together_3 13 rfl rfl)
theorem dX0_together_84 : decode cX0_together 84 = .ok (.iconst 1, 1) := dk_4 (dk_at dksX0_together_3 14 rfl rfl)
theorem dX0_together_85 : decode cX0_together 85 = .ok (.invokevirtual 160, 3) := dk_182 0 160 (dk_at dksX0_together_3 15 rfl rfl)
theorem dX0_together_88 : decode cX0_together 88 = .ok (.ireturn, 1) := dk_172 (dk_at dksX0_together_3 18 rfl rfl)
theorem dX0_together_89 : decode cX0_together 89 = .ok (.iload 4, 2) := dk_21 4 (dk_at dksX0_together_3 19 rfl rfl)
theorem dX0_together_91 : decode cX0_together 91 = .ok (.ifCond .gt 28, 3) := dk_157 0 28 (dk_at dksX0_together_3 21 rfl rfl)
theorem dX0_together_94 : decode cX0_together 94 = .ok (.iload 5, 2) := dk_21 5 (dk_at dksX0_together_4 0 rfl rfl)
theorem dX0_together_96 : decode cX0_together 96 = .ok (.ifCond .gt 23, 3) := dk_157 0 23 (dk_at dksX0_together_4 2 rfl rfl)
theorem dX0_together_99 : decode cX0_together 99 = .ok (.aload_n 0, 1) := dk_42 (dk_at dksX0_together_4 5 rfl rfl)
theorem dX0_together_100 : decode cX0_together 100 = .ok (.getfield 109, 3) := dk_180 0 109 (dk_at dksX0_together_4 6 rfl rfl)
theorem dX0_together_103 : decode cX0_together 103 = .ok (.invokestatic 229, 3) := dk_184 0 229 (dk_at dksX0_together_4 9 rfl rfl)
theorem dX0_together_106 : decode cX0_together 106 = .ok (.aload_n 0, 1) := dk_42 (dk_at dksX0_together_4 12 rfl rfl)
theorem dX0_together_107 : decode cX0_together 107 = .ok (.getfield 112, 3) := dk_180 0 112 (dk_at dksX0_together_4 13 rfl rfl)
theorem dX0_together_110 : decode cX0_together 110 = .ok (.invokestatic 229, 3) := dk_184 0 229 (dk_at dksX0_together_4 16 rfl rfl)
theorem dX0_together_113 : decode cX0_together 113 = .ok (.iadd, 1) := dk_96 (dk_at dksX0_together_4 19 rfl rfl)
theorem dX0_together_114 : decode cX0_together 114 = .ok (.bipush 30, 2) := dk_16 30 (dk_at dksX0_together_4 20 rfl rfl)
theorem dX0_together_116 : decode cX0_together 116 = .ok (.if_icmp .le 9, 3) := dk_164 0 9 (dk_at dksX0_together_5 0 rfl rfl)
theorem dX0_together_119 : decode cX0_together 119 = .ok (.aload_n 0, 1) := dk_42 (dk_at dksX0_together_5 3 rfl rfl)
theorem dX0_together_120 : decode cX0_together 120 = .ok (.iconst 4, 1) := dk_7 (dk_at dksX0_together_5 4 rfl rfl)
theorem dX0_together_121 : decode cX0_together 121 = .ok (.invokevirtual 160, 3) := dk_182 0 160 (dk_at dksX0_together_5 5 rfl rfl)
theorem dX0_together_124 : decode cX0_together 124 = .ok (.ireturn, 1) := dk_172 (dk_at dksX0_together_5 8 rfl rfl)
theorem dX0_together_125 : decode cX0_together 125 = .ok (.iconst 0, 1) := dk_3 (dk_at dksX0_together_5 9 rfl rfl)
theorem dX0_together_126 : decode cX0_together 126 = .ok (.istore 6, 2) := dk_54 6 (dk_at dksX0_together_5 10 rfl rfl)
theorem dX0_together_128 : decode cX0_together 128 = .ok (.iload 6, 2) := dk_21 6 (dk_at dksX0_together_5 12 rfl rfl)
theorem dX0_together_130 : decode cX0_together 130 = .ok (.bipush 8, 2) := dk_16 8 (dk_at dksX0_together_5 14 rfl rfl)
theorem dX0_together_132 : decode cX0_together 132 = .ok (.if_icmp .ge 32, 3) := dk_162 0 32 (dk_at dksX0_together_5 16 rfl rfl)
theorem dX0_together_135 : decode cX0_together 135 = .ok (.aload_n 0, 1) := dk_42 (dk_at dksX0_together_5 19 rfl rfl)
theorem dX0_together_136 : decode cX0_together 136 = .ok (.getfield 121, 3) := dk_180 0 121 (dk_at dksX0_together_5 20 rfl rfl)
theorem dX0_together_139 : decode cX0_together 139 = .ok (.iload 6, 2) := dk_21 6 (dk_at dksX0_together_6 0 rfl rfl)
theorem dX0_together_141 : decode cX0_together 141 = .ok (.aload_n 0, 1) := dk_42 (dk_at dksX0_together_6 2 rfl rfl)
theorem dX0_together_142 : decode cX0_together 142 = .ok (.getfield 109, 3) := dk_180 0 109 (dk_at dksX0_together_6 3 rfl rfl)
theorem dX0_together_145 : decode cX0_together 145 = .ok (.iload 6, 2) := dk_21 6 (dk_at dksX0_together_6 6 rfl rfl)
theorem dX0_together_147 : decode cX0_together 147 = .ok (.baload, 1) := dk_51 (dk_at dksX0_together_6 8 rfl rfl)
theorem dX0_together_148 : decode cX0_together 148 = .ok (.aload_n 0, 1) := dk_42 (dk_at dksX0_together_6 9 rfl rfl)
theorem dX0_together_149 : decode cX0_together 149 = .ok (.getfield 112, 3) := dk_180 0 112 (dk_at dksX0_together_6 10 rfl rfl)
theorem dX0_together_152 : decode cX0_together 152 = .ok (.iload 6, 2) := dk_21 6 (dk_at dksX0_together_6 13 rfl rfl)
theorem dX0_together_154 : decode cX0_together 154 = .ok (.baload, 1) := dk_51 (dk_at dksX0_together_6 15 rfl rfl)
theorem dX0_together_155 : decode cX0_together 155 = .ok (.iadd, 1) := dk_96 (dk_at dksX0_together_6 16 rfl rfl)
theorem dX0_together_156 : decode cX0_together 156 = .ok (.i2b, 1) := dk_145 (dk_at dksX0_together_6 17 rfl rfl)
theorem dX0_together_157 : decode cX0_together 157 = .ok (.bastore, 1) := dk_84 (dk_at dksX0_together_6 18 rfl rfl)
theorem dX0_together_158 : decode cX0_together 158 = .ok (.iinc 6 1, 3) := dk_132 6 1 (dk_at dksX0_together_6 19 rfl rfl)
theorem dX0_together_161 : decode cX0_together 161 = .ok (.goto (-33), 3) := dk_167 255 223 (dk_at dksX0_together_7 0 rfl rfl)
theorem dX0_together_164 : decode cX0_together 164 = .ok (.aload_n 0, 1) := dk_42 (dk_at dksX0_together_7 3 rfl rfl)
theorem dX0_together_165 : decode cX0_together 165 = .ok (.aload_n 0, 1) := dk_42 (dk_at dksX0_together_7 4 rfl rfl)
theorem dX0_together_166 : decode cX0_together 166 = .ok (.getfield 109, 3) := dk_180 0 109 (dk_at dksX0_together_7 5 rfl rfl)
theorem dX0_together_169 : decode cX0_together 169 = .ok (.iload_n 3, 1) := dk_29 (dk_at dksX0_together_7 8 rfl rfl)
theorem dX0_together_170 : decode cX0_together 170 = .ok (.invokevirtual 248, 3) := dk_182 0 248 (dk_at dksX0_together_7 9 rfl rfl)
theorem dX0_together_173 : decode cX0_together 173 = .ok (.aload_n 0, 1) := dk_42 (dk_at dksX0_together_7 12 rfl rfl)
theorem dX0_together_174 : decode cX0_together 174 = .ok (.aload_n 0, 1) := dk_42 (dk_at dksX0_together_7 13 rfl rfl)
theorem dX0_together_175 : decode cX0_together 175 = .ok (.getfield 112, 3) := dk_180 0 112 (dk_at dksX0_together_7 14 rfl rfl)
theorem dX0_together_178 : decode cX0_together 178 = .ok (.iload_n 3, 1) := dk_29 (dk_at dksX0_together_7 17 rfl rfl)
theorem dX0_together_179 : decode cX0_together 179 = .ok (.invokevirtual 248, 3) := dk_182 0 248 (dk_at dksX0_together_7 18 rfl rfl)
theorem dX0_together_182 : decode cX0_together 182 = .ok (.iadd, 1) := dk_96 (dk_at dksX0_together_7 21 rfl rfl)
theorem dX0_together_183 : decode cX0_together 183 = .ok (.aload_n 0, 1) := dk_42 (dk_at dksX0_together_7 22 rfl rfl)
theorem dX0_together_184 : decode cX0_together 184 = .ok (.aload_n 0, 1) := dk_42 (dk_at dksX0_together_7 23 rfl rfl)
theorem dX0_together_185 : decode cX0_together 185 = .ok (.getfield 121, 3) := dk_180 0 121 (dk_at dksX0_together_8 0 rfl rfl)
theorem dX0_together_188 : decode cX0_together 188 = .ok (.iload_n 3, 1) := dk_29 (dk_at dksX0_together_8 3 rfl rfl)
theorem dX0_together_189 : decode cX0_together 189 = .ok (.invokevirtual 248, 3) := dk_182 0 248 (dk_at dksX0_together_8 4 rfl rfl)
theorem dX0_together_192 : decode cX0_together 192 = .ok (.isub, 1) := dk_100 (dk_at dksX0_together_8 7 rfl rfl)
theorem dX0_together_193 : decode cX0_together 193 = .ok (.ireturn, 1) := dk_172 (dk_at dksX0_together_8 8 rfl rfl)
abbrev cX0_worth : ByteArray := prog_1_method_47_code
def yX0_worth : MethodName := ⟨RX0, "worth", "(III)I"⟩
def dkwX0_worth_3 : List UInt8 := [4, 96, 145, 84, 21, 5, 42, 42, 180, 0, 109, 28, 182, 0, 248, 100, 172]
abbrev dktX0_worth_3 : List UInt8 := dkwX0_worth_3 ++ []
def dkwX0_worth_2 : List UInt8 := [21, 4, 182, 0, 160, 172, 42, 42, 180, 0, 109, 28, 182, 0, 248, 54, 5, 42, 180, 0, 109, 29, 92, 51]
abbrev dktX0_worth_2 : List UInt8 := dkwX0_worth_2 ++ dktX0_worth_3
def dkwX0_worth_1 : List UInt8 := [182, 0, 160, 172, 42, 27, 42, 180, 0, 109, 16, 29, 182, 0, 244, 54, 4, 21, 4, 158, 0, 10, 42]
abbrev dktX0_worth_1 : List UInt8 := dkwX0_worth_1 ++ dktX0_worth_2
def dkwX0_worth_0 : List UInt8 := [27, 184, 0, 241, 153, 0, 17, 28, 184, 0, 170, 153, 0, 10, 29, 184, 0, 156, 154, 0, 9, 42, 4]
abbrev dktX0_worth_0 : List UInt8 := dkwX0_worth_0 ++ dktX0_worth_1
theorem dksX0_worth_0 : cX0_worth.data.toList.drop 0 = dktX0_worth_0 := by decide +kernel
theorem dksX0_worth_1 : cX0_worth.data.toList.drop 23 = dktX0_worth_1 := dk_seg dksX0_worth_0 23 rfl rfl
theorem dksX0_worth_2 : cX0_worth.data.toList.drop 46 = dktX0_worth_2 := dk_seg dksX0_worth_1 23 rfl rfl
theorem dksX0_worth_3 : cX0_worth.data.toList.drop 70 = dktX0_worth_3 := dk_seg dksX0_worth_2 24 rfl rfl
theorem dX0_worth_0 : decode cX0_worth 0 = .ok (.iload_n 1, 1) := dk_27 (dk_at dksX0_worth_0 0 rfl rfl)
theorem dX0_worth_1 : decode cX0_worth 1 = .ok (.invokestatic 241, 3) := dk_184 0 241 (dk_at dksX0_worth_0 1 rfl rfl)
theorem dX0_worth_4 : decode cX0_worth 4 = .ok (.ifCond .eq 17, 3) := dk_153 0 17 (dk_at dksX0_worth_0 4 rfl rfl)
theorem dX0_worth_7 : decode cX0_worth 7 = .ok (.iload_n 2, 1) := dk_28 (dk_at dksX0_worth_0 7 rfl rfl)
theorem dX0_worth_8 : decode cX0_worth 8 = .ok (.invokestatic 170, 3) := dk_184 0 170 (dk_at dksX0_worth_0 8 rfl rfl)
theorem dX0_worth_11 : decode cX0_worth 11 = .ok (.ifCond .eq 10, 3) := dk_153 0 10 (dk_at dksX0_worth_0 11 rfl rfl)
theorem dX0_worth_14 : decode cX0_worth 14 = .ok (.iload_n 3, 1) := dk_29 (dk_at dksX0_worth_0 14 rfl rfl)
theorem dX0_worth_15 : decode cX0_worth 15 = .ok (.invokestatic 156, 3) := dk_184 0 156 (dk_at dksX0_worth_0 15 rfl rfl)
theorem dX0_worth_18 : decode cX0_worth 18 = .ok (.ifCond .ne 9, 3) := dk_154 0 9 (dk_at dksX0_worth_0 18 rfl rfl)
theorem dX0_worth_21 : decode cX0_worth 21 = .ok (.aload_n 0, 1) := dk_42 (dk_at dksX0_worth_0 21 rfl rfl)
theorem dX0_worth_22 : decode cX0_worth 22 = .ok (.iconst 1, 1) := dk_4 (dk_at dksX0_worth_0 22 rfl rfl)
theorem dX0_worth_23 : decode cX0_worth 23 = .ok (.invokevirtual 160, 3) := dk_182 0 160 (dk_at dksX0_worth_1 0 rfl rfl)
theorem dX0_worth_26 : decode cX0_worth 26 = .ok (.ireturn, 1) := dk_172 (dk_at dksX0_worth_1 3 rfl rfl)
theorem dX0_worth_27 : decode cX0_worth 27 = .ok (.aload_n 0, 1) := dk_42 (dk_at dksX0_worth_1 4 rfl rfl)
theorem dX0_worth_28 : decode cX0_worth 28 = .ok (.iload_n 1, 1) := dk_27 (dk_at dksX0_worth_1 5 rfl rfl)
theorem dX0_worth_29 : decode cX0_worth 29 = .ok (.aload_n 0, 1) := dk_42 (dk_at dksX0_worth_1 6 rfl rfl)
theorem dX0_worth_30 : decode cX0_worth 30 = .ok (.getfield 109, 3) := dk_180 0 109 (dk_at dksX0_worth_1 7 rfl rfl)
theorem dX0_worth_33 : decode cX0_worth 33 = .ok (.bipush 29, 2) := dk_16 29 (dk_at dksX0_worth_1 10 rfl rfl)
theorem dX0_worth_35 : decode cX0_worth 35 = .ok (.invokevirtual 244, 3) := dk_182 0 244 (dk_at dksX0_worth_1 12 rfl rfl)
theorem dX0_worth_38 : decode cX0_worth 38 = .ok (.istore 4, 2) := dk_54 4 (dk_at dksX0_worth_1 15 rfl rfl)
theorem dX0_worth_40 : decode cX0_worth 40 = .ok (.iload 4, 2) := dk_21 4 (dk_at dksX0_worth_1 17 rfl rfl)
theorem dX0_worth_42 : decode cX0_worth 42 = .ok (.ifCond .le 10, 3) := dk_158 0 10 (dk_at dksX0_worth_1 19 rfl rfl)
theorem dX0_worth_45 : decode cX0_worth 45 = .ok (.aload_n 0, 1) := dk_42 (dk_at dksX0_worth_1 22 rfl rfl)
theorem dX0_worth_46 : decode cX0_worth 46 = .ok (.iload 4, 2) := dk_21 4 (dk_at dksX0_worth_2 0 rfl rfl)
theorem dX0_worth_48 : decode cX0_worth 48 = .ok (.invokevirtual 160, 3) := dk_182 0 160 (dk_at dksX0_worth_2 2 rfl rfl)
theorem dX0_worth_51 : decode cX0_worth 51 = .ok (.ireturn, 1) := dk_172 (dk_at dksX0_worth_2 5 rfl rfl)
theorem dX0_worth_52 : decode cX0_worth 52 = .ok (.aload_n 0, 1) := dk_42 (dk_at dksX0_worth_2 6 rfl rfl)
theorem dX0_worth_53 : decode cX0_worth 53 = .ok (.aload_n 0, 1) := dk_42 (dk_at dksX0_worth_2 7 rfl rfl)
theorem dX0_worth_54 : decode cX0_worth 54 = .ok (.getfield 109, 3) := dk_180 0 109 (dk_at dksX0_worth_2 8 rfl rfl)
theorem dX0_worth_57 : decode cX0_worth 57 = .ok (.iload_n 2, 1) := dk_28 (dk_at dksX0_worth_2 11 rfl rfl)
theorem dX0_worth_58 : decode cX0_worth 58 = .ok (.invokevirtual 248, 3) := dk_182 0 248 (dk_at dksX0_worth_2 12 rfl rfl)
theorem dX0_worth_61 : decode cX0_worth 61 = .ok (.istore 5, 2) := dk_54 5 (dk_at dksX0_worth_2 15 rfl rfl)
theorem dX0_worth_63 : decode cX0_worth 63 = .ok (.aload_n 0, 1) := dk_42 (dk_at dksX0_worth_2 17 rfl rfl)
theorem dX0_worth_64 : decode cX0_worth 64 = .ok (.getfield 109, 3) := dk_180 0 109 (dk_at dksX0_worth_2 18 rfl rfl)
theorem dX0_worth_67 : decode cX0_worth 67 = .ok (.iload_n 3, 1) := dk_29 (dk_at dksX0_worth_2 21 rfl rfl)
theorem dX0_worth_68 : decode cX0_worth 68 = .ok (.dup2, 1) := dk_92 (dk_at dksX0_worth_2 22 rfl rfl)
theorem dX0_worth_69 : decode cX0_worth 69 = .ok (.baload, 1) := dk_51 (dk_at dksX0_worth_2 23 rfl rfl)
theorem dX0_worth_70 : decode cX0_worth 70 = .ok (.iconst 1, 1) := dk_4 (dk_at dksX0_worth_3 0 rfl rfl)
theorem dX0_worth_71 : decode cX0_worth 71 = .ok (.iadd, 1) := dk_96 (dk_at dksX0_worth_3 1 rfl rfl)
theorem dX0_worth_72 : decode cX0_worth 72 = .ok (.i2b, 1) := dk_145 (dk_at dksX0_worth_3 2 rfl rfl)
theorem dX0_worth_73 : decode cX0_worth 73 = .ok (.bastore, 1) := dk_84 (dk_at dksX0_worth_3 3 rfl rfl)
theorem dX0_worth_74 : decode cX0_worth 74 = .ok (.iload 5, 2) := dk_21 5 (dk_at dksX0_worth_3 4 rfl rfl)
theorem dX0_worth_76 : decode cX0_worth 76 = .ok (.aload_n 0, 1) := dk_42 (dk_at dksX0_worth_3 6 rfl rfl)
theorem dX0_worth_77 : decode cX0_worth 77 = .ok (.aload_n 0, 1) := dk_42 (dk_at dksX0_worth_3 7 rfl rfl)
theorem dX0_worth_78 : decode cX0_worth 78 = .ok (.getfield 109, 3) := dk_180 0 109 (dk_at dksX0_worth_3 8 rfl rfl)
theorem dX0_worth_81 : decode cX0_worth 81 = .ok (.iload_n 2, 1) := dk_28 (dk_at dksX0_worth_3 11 rfl rfl)
theorem dX0_worth_82 : decode cX0_worth 82 = .ok (.invokevirtual 248, 3) := dk_182 0 248 (dk_at dksX0_worth_3 12 rfl rfl)
theorem dX0_worth_85 : decode cX0_worth 85 = .ok (.isub, 1) := dk_100 (dk_at dksX0_worth_3 15 rfl rfl)
theorem dX0_worth_86 : decode cX0_worth 86 = .ok (.ireturn, 1) := dk_172 (dk_at dksX0_worth_3 16 rfl rfl)
abbrev cX0_dearer : ByteArray := prog_1_method_48_code
def yX0_dearer : MethodName := ⟨RX0, "dearer", "(III)I"⟩
def dkwX0_dearer_8 : List UInt8 := [21, 5, 172]
abbrev dktX0_dearer_8 : List UInt8 := dkwX0_dearer_8 ++ []
def dkwX0_dearer_7 : List UInt8 := [132, 9, 1, 167, 255, 181, 42, 180, 0, 76, 180, 0, 133, 21, 7, 21, 8, 79, 132, 7, 1, 167, 255, 141]
abbrev dktX0_dearer_7 : List UInt8 := dkwX0_dearer_7 ++ dktX0_dearer_8
def dkwX0_dearer_6 : List UInt8 := [21, 7, 104, 21, 9, 96, 167, 0, 5, 21, 5, 54, 5, 21, 6, 21, 10, 184, 0, 7, 54, 6]
abbrev dktX0_dearer_6 : List UInt8 := dkwX0_dearer_6 ++ dktX0_dearer_7
def dkwX0_dearer_5 : List UInt8 := [21, 8, 21, 9, 96, 79, 42, 28, 29, 182, 1, 43, 54, 10, 21, 10, 21, 6, 164, 0, 14, 16, 10]
abbrev dktX0_dearer_5 : List UInt8 := dkwX0_dearer_5 ++ dktX0_dearer_6
def dkwX0_dearer_4 : List UInt8 := [163, 0, 74, 21, 8, 21, 9, 96, 17, 39, 15, 163, 0, 63, 42, 180, 0, 76, 180, 0, 133, 21, 7]
abbrev dktX0_dearer_4 : List UInt8 := dkwX0_dearer_4 ++ dktX0_dearer_5
def dkwX0_dearer_3 : List UInt8 := [162, 0, 114, 42, 180, 0, 76, 180, 0, 133, 21, 7, 46, 54, 8, 3, 54, 9, 21, 9, 16, 9]
abbrev dktX0_dearer_3 : List UInt8 := dkwX0_dearer_3 ++ dktX0_dearer_4
def dkwX0_dearer_2 : List UInt8 := [21, 4, 182, 0, 160, 172, 3, 54, 5, 42, 28, 29, 182, 1, 43, 54, 6, 3, 54, 7, 21, 7, 16, 8]
abbrev dktX0_dearer_2 : List UInt8 := dkwX0_dearer_2 ++ dktX0_dearer_3
def dkwX0_dearer_1 : List UInt8 := [4, 182, 0, 160, 172, 42, 27, 42, 180, 0, 109, 16, 30, 182, 0, 244, 54, 4, 21, 4, 158, 0, 10, 42]
abbrev dktX0_dearer_1 : List UInt8 := dkwX0_dearer_1 ++ dktX0_dearer_2
def dkwX0_dearer_0 : List UInt8 := [27, 184, 0, 241, 153, 0, 19, 28, 184, 0, 170, 153, 0, 12, 29, 3, 5, 184, 0, 125, 154, 0, 9, 42]
abbrev dktX0_dearer_0 : List UInt8 := dkwX0_dearer_0 ++ dktX0_dearer_1
theorem dksX0_dearer_0 : cX0_dearer.data.toList.drop 0 = dktX0_dearer_0 := by decide +kernel
theorem dksX0_dearer_1 : cX0_dearer.data.toList.drop 24 = dktX0_dearer_1 := dk_seg dksX0_dearer_0 24 rfl rfl
theorem dksX0_dearer_2 : cX0_dearer.data.toList.drop 48 = dktX0_dearer_2 := dk_seg dksX0_dearer_1 24 rfl rfl
theorem dksX0_dearer_3 : cX0_dearer.data.toList.drop 72 = dktX0_dearer_3 := dk_seg dksX0_dearer_2 24 rfl rfl
theorem dksX0_dearer_4 : cX0_dearer.data.toList.drop 94 = dktX0_dearer_4 := dk_seg dksX0_dearer_3 22 rfl rfl
theorem dksX0_dearer_5 : cX0_dearer.data.toList.drop 117 = dktX0_dearer_5 := dk_seg dksX0_dearer_4 23 rfl rfl
theorem dksX0_dearer_6 : cX0_dearer.data.toList.drop 140 = dktX0_dearer_6 := dk_seg dksX0_dearer_5 23 rfl rfl
theorem dksX0_dearer_7 : cX0_dearer.data.toList.drop 162 = dktX0_dearer_7 := dk_seg dksX0_dearer_6 22 rfl rfl
theorem dksX0_dearer_8 : cX0_dearer.data.toList.drop 186 = dktX0_dearer_8 := dk_seg dksX0_dearer_7 24 rfl rfl
theorem dX0_dearer_0 : decode cX0_dearer 0 = .ok (.iload_n 1, 1) := dk_27 (dk_at dksX0_dearer_0 0 rfl rfl)
theorem dX0_dearer_1 : decode cX0_dearer 1 = .ok (.invokestatic 241, 3) := dk_184 0 241 (dk_at dksX0_dearer_0 1 rfl rfl)
theorem dX0_dearer_4 : decode cX0_dearer 4 = .ok (.ifCond .eq 19, 3) := dk_153 0 19 (dk_at dksX0_dearer_0 4 rfl rfl)
theorem dX0_dearer_7 : decode cX0_dearer 7 = .ok (.iload_n 2, 1) := dk_28 (dk_at dksX0_dearer_0 7 rfl rfl)
theorem dX0_dearer_8 : decode cX0_dearer 8 = .ok (.invokestatic 170, 3) := dk_184 0 170 (dk_at dksX0_dearer_0 8 rfl rfl)
theorem dX0_dearer_11 : decode cX0_dearer 11 = .ok (.ifCond .eq 12, 3) := dk_153 0 12 (dk_at dksX0_dearer_0 11 rfl rfl)
theorem dX0_dearer_14 : decode cX0_dearer 14 = .ok (.iload_n 3, 1) := dk_29 (dk_at dksX0_dearer_0 14 rfl rfl)
theorem dX0_dearer_15 : decode cX0_dearer 15 = .ok (.iconst 0, 1) := dk_3 (dk_at dksX0_dearer_0 15 rfl rfl)
theorem dX0_dearer_16 : decode cX0_dearer 16 = .ok (.iconst 2, 1) := dk_5 (dk_at dksX0_dearer_0 16 rfl rfl)
theorem dX0_dearer_17 : decode cX0_dearer 17 = .ok (.invokestatic 125, 3) := dk_184 0 125 (dk_at dksX0_dearer_0 17 rfl rfl)
theorem dX0_dearer_20 : decode cX0_dearer 20 = .ok (.ifCond .ne 9, 3) := dk_154 0 9 (dk_at dksX0_dearer_0 20 rfl rfl)
theorem dX0_dearer_23 : decode cX0_dearer 23 = .ok (.aload_n 0, 1) := dk_42 (dk_at dksX0_dearer_0 23 rfl rfl)
theorem dX0_dearer_24 : decode cX0_dearer 24 = .ok (.iconst 1, 1) := dk_4 (dk_at dksX0_dearer_1 0 rfl rfl)
theorem dX0_dearer_25 : decode cX0_dearer 25 = .ok (.invokevirtual 160, 3) := dk_182 0 160 (dk_at dksX0_dearer_1 1 rfl rfl)
theorem dX0_dearer_28 : decode cX0_dearer 28 = .ok (.ireturn, 1) := dk_172 (dk_at dksX0_dearer_1 4 rfl rfl)
theorem dX0_dearer_29 : decode cX0_dearer 29 = .ok (.aload_n 0, 1) := dk_42 (dk_at dksX0_dearer_1 5 rfl rfl)
theorem dX0_dearer_30 : decode cX0_dearer 30 = .ok (.iload_n 1, 1) := dk_27 (dk_at dksX0_dearer_1 6 rfl rfl)
theorem dX0_dearer_31 : decode cX0_dearer 31 = .ok (.aload_n 0, 1) := dk_42 (dk_at dksX0_dearer_1 7 rfl rfl)
theorem dX0_dearer_32 : decode cX0_dearer 32 = .ok (.getfield 109, 3) := dk_180 0 109 (dk_at dksX0_dearer_1 8 rfl rfl)
theorem dX0_dearer_35 : decode cX0_dearer 35 = .ok (.bipush 30, 2) := dk_16 30 (dk_at dksX0_dearer_1 11 rfl rfl)
theorem dX0_dearer_37 : decode cX0_dearer 37 = .ok (.invokevirtual 244, 3) := dk_182 0 244 (dk_at dksX0_dearer_1 13 rfl rfl)
theorem dX0_dearer_40 : decode cX0_dearer 40 = .ok (.istore 4, 2) := dk_54 4 (dk_at dksX0_dearer_1 16 rfl rfl)
theorem dX0_dearer_42 : decode cX0_dearer 42 = .ok (.iload 4, 2) := dk_21 4 (dk_at dksX0_dearer_1 18 rfl rfl)
theorem dX0_dearer_44 : decode cX0_dearer 44 = .ok (.ifCond .le 10, 3) := dk_158 0 10 (dk_at dksX0_dearer_1 20 rfl rfl)
theorem dX0_dearer_47 : decode cX0_dearer 47 = .ok (.aload_n 0, 1) := dk_42 (dk_at dksX0_dearer_1 23 rfl rfl)
theorem dX0_dearer_48 : decode cX0_dearer 48 = .ok (.iload 4, 2) := dk_21 4 (dk_at dksX0_dearer_2 0 rfl rfl)
theorem dX0_dearer_50 : decode cX0_dearer 50 = .ok (.invokevirtual 160, 3) := dk_182 0 160 (dk_at dksX0_dearer_2 2 rfl rfl)
theorem dX0_dearer_53 : decode cX0_dearer 53 = .ok (.ireturn, 1) := dk_172 (dk_at dksX0_dearer_2 5 rfl rfl)
theorem dX0_dearer_54 : decode cX0_dearer 54 = .ok (.iconst 0, 1) := dk_3 (dk_at dksX0_dearer_2 6 rfl rfl)
theorem dX0_dearer_55 : decode cX0_dearer 55 = .ok (.istore 5, 2) := dk_54 5 (dk_at dksX0_dearer_2 7 rfl rfl)
theorem dX0_dearer_57 : decode cX0_dearer 57 = .ok (.aload_n 0, 1) := dk_42 (dk_at dksX0_dearer_2 9 rfl rfl)
theorem dX0_dearer_58 : decode cX0_dearer 58 = .ok (.iload_n 2, 1) := dk_28 (dk_at dksX0_dearer_2 10 rfl rfl)
theorem dX0_dearer_59 : decode cX0_dearer 59 = .ok (.iload_n 3, 1) := dk_29 (dk_at dksX0_dearer_2 11 rfl rfl)
theorem dX0_dearer_60 : decode cX0_dearer 60 = .ok (.invokevirtual 299, 3) := dk_182 1 43 (dk_at dksX0_dearer_2 12 rfl rfl)
theorem dX0_dearer_63 : decode cX0_dearer 63 = .ok (.istore 6, 2) := dk_54 6 (dk_at dksX0_dearer_2 15 rfl rfl)
theorem dX0_dearer_65 : decode cX0_dearer 65 = .ok (.iconst 0, 1) := dk_3 (dk_at dksX0_dearer_2 17 rfl rfl)
theorem dX0_dearer_66 : decode cX0_dearer 66 = .ok (.istore 7, 2) := dk_54 7 (dk_at dksX0_dearer_2 18 rfl rfl)
theorem dX0_dearer_68 : decode cX0_dearer 68 = .ok (.iload 7, 2) := dk_21 7 (dk_at dksX0_dearer_2 20 rfl rfl)
theorem dX0_dearer_70 : decode cX0_dearer 70 = .ok (.bipush 8, 2) := dk_16 8 (dk_at dksX0_dearer_2 22 rfl rfl)
theorem dX0_dearer_72 : decode cX0_dearer 72 = .ok (.if_icmp .ge 114, 3) := dk_162 0 114 (dk_at dksX0_dearer_3 0 rfl rfl)
theorem dX0_dearer_75 : decode cX0_dearer 75 = .ok (.aload_n 0, 1) := dk_42 (dk_at dksX0_dearer_3 3 rfl rfl)
theorem dX0_dearer_76 : decode cX0_dearer 76 = .ok (.getfield 76, 3) := dk_180 0 76 (dk_at dksX0_dearer_3 4 rfl rfl)
theorem dX0_dearer_79 : decode cX0_dearer 79 = .ok (.getfield 133, 3) := dk_180 0 133 (dk_at dksX0_dearer_3 7 rfl rfl)
theorem dX0_dearer_82 : decode cX0_dearer 82 = .ok (.iload 7, 2) := dk_21 7 (dk_at dksX0_dearer_3 10 rfl rfl)
theorem dX0_dearer_84 : decode cX0_dearer 84 = .ok (.iaload, 1) := dk_46 (dk_at dksX0_dearer_3 12 rfl rfl)
theorem dX0_dearer_85 : decode cX0_dearer 85 = .ok (.istore 8, 2) := dk_54 8 (dk_at dksX0_dearer_3 13 rfl rfl)
theorem dX0_dearer_87 : decode cX0_dearer 87 = .ok (.iconst 0, 1) := dk_3 (dk_at dksX0_dearer_3 15 rfl rfl)
theorem dX0_dearer_88 : decode cX0_dearer 88 = .ok (.istore 9, 2) := dk_54 9 (dk_at dksX0_dearer_3 16 rfl rfl)
theorem dX0_dearer_90 : decode cX0_dearer 90 = .ok (.iload 9, 2) := dk_21 9 (dk_at dksX0_dearer_3 18 rfl rfl)
theorem dX0_dearer_92 : decode cX0_dearer 92 = .ok (.bipush 9, 2) := dk_16 9 (dk_at dksX0_dearer_3 20 rfl rfl)
theorem dX0_dearer_94 : decode cX0_dearer 94 = .ok (.if_icmp .gt 74, 3) := dk_163 0 74 (dk_at dksX0_dearer_4 0 rfl rfl)
theorem dX0_dearer_97 : decode cX0_dearer 97 = .ok (.iload 8, 2) := dk_21 8 (dk_at dksX0_dearer_4 3 rfl rfl)
theorem dX0_dearer_99 : decode cX0_dearer 99 = .ok (.iload 9, 2) := dk_21 9 (dk_at dksX0_dearer_4 5 rfl rfl)
theorem dX0_dearer_101 : decode cX0_dearer 101 = .ok (.iadd, 1) := dk_96 (dk_at dksX0_dearer_4 7 rfl rfl)
theorem dX0_dearer_102 : decode cX0_dearer 102 = .ok (.sipush 9999, 3) := dk_17 39 15 (dk_at dksX0_dearer_4 8 rfl rfl)
theorem dX0_dearer_105 : decode cX0_dearer 105 = .ok (.if_icmp .gt 63, 3) := dk_163 0 63 (dk_at dksX0_dearer_4 11 rfl rfl)
theorem dX0_dearer_108 : decode cX0_dearer 108 = .ok (.aload_n 0, 1) := dk_42 (dk_at dksX0_dearer_4 14 rfl rfl)
theorem dX0_dearer_109 : decode cX0_dearer 109 = .ok (.getfield 76, 3) := dk_180 0 76 (dk_at dksX0_dearer_4 15 rfl rfl)
theorem dX0_dearer_112 : decode cX0_dearer 112 = .ok (.getfield 133, 3) := dk_180 0 133 (dk_at dksX0_dearer_4 18 rfl rfl)
theorem dX0_dearer_115 : decode cX0_dearer 115 = .ok (.iload 7, 2) := dk_21 7 (dk_at dksX0_dearer_4 21 rfl rfl)
theorem dX0_dearer_117 : decode cX0_dearer 117 = .ok (.iload 8, 2) := dk_21 8 (dk_at dksX0_dearer_5 0 rfl rfl)
theorem dX0_dearer_119 : decode cX0_dearer 119 = .ok (.iload 9, 2) := dk_21 9 (dk_at dksX0_dearer_5 2 rfl rfl)
theorem dX0_dearer_121 : decode cX0_dearer 121 = .ok (.iadd, 1) := dk_96 (dk_at dksX0_dearer_5 4 rfl rfl)
theorem dX0_dearer_122 : decode cX0_dearer 122 = .ok (.iastore, 1) := dk_79 (dk_at dksX0_dearer_5 5 rfl rfl)
theorem dX0_dearer_123 : decode cX0_dearer 123 = .ok (.aload_n 0, 1) := dk_42 (dk_at dksX0_dearer_5 6 rfl rfl)
theorem dX0_dearer_124 : decode cX0_dearer 124 = .ok (.iload_n 2, 1) := dk_28 (dk_at dksX0_dearer_5 7 rfl rfl)
theorem dX0_dearer_125 : decode cX0_dearer 125 = .ok (.iload_n 3, 1) := dk_29 (dk_at dksX0_dearer_5 8 rfl rfl)
theorem dX0_dearer_126 : decode cX0_dearer 126 = .ok (.invokevirtual 299, 3) := dk_182 1 43 (dk_at dksX0_dearer_5 9 rfl rfl)
theorem dX0_dearer_129 : decode cX0_dearer 129 = .ok (.istore 10, 2) := dk_54 10 (dk_at dksX0_dearer_5 12 rfl rfl)
theorem dX0_dearer_131 : decode cX0_dearer 131 = .ok (.iload 10, 2) := dk_21 10 (dk_at dksX0_dearer_5 14 rfl rfl)
theorem dX0_dearer_133 : decode cX0_dearer 133 = .ok (.iload 6, 2) := dk_21 6 (dk_at dksX0_dearer_5 16 rfl rfl)
theorem dX0_dearer_135 : decode cX0_dearer 135 = .ok (.if_icmp .le 14, 3) := dk_164 0 14 (dk_at dksX0_dearer_5 18 rfl rfl)
theorem dX0_dearer_138 : decode cX0_dearer 138 = .ok (.bipush 10, 2) := dk_16 10 (dk_at dksX0_dearer_5 21 rfl rfl)
theorem dX0_dearer_140 : decode cX0_dearer 140 = .ok (.iload 7, 2) := dk_21 7 (dk_at dksX0_dearer_6 0 rfl rfl)
theorem dX0_dearer_142 : decode cX0_dearer 142 = .ok (.imul, 1) := dk_104 (dk_at dksX0_dearer_6 2 rfl rfl)
theorem dX0_dearer_143 : decode cX0_dearer 143 = .ok (.iload 9, 2) := dk_21 9 (dk_at dksX0_dearer_6 3 rfl rfl)
theorem dX0_dearer_145 : decode cX0_dearer 145 = .ok (.iadd, 1) := dk_96 (dk_at dksX0_dearer_6 5 rfl rfl)
theorem dX0_dearer_146 : decode cX0_dearer 146 = .ok (.goto 5, 3) := dk_167 0 5 (dk_at dksX0_dearer_6 6 rfl rfl)
theorem dX0_dearer_149 : decode cX0_dearer 149 = .ok (.iload 5, 2) := dk_21 5 (dk_at dksX0_dearer_6 9 rfl rfl)
theorem dX0_dearer_151 : decode cX0_dearer 151 = .ok (.istore 5, 2) := dk_54 5 (dk_at dksX0_dearer_6 11 rfl rfl)
theorem dX0_dearer_153 : decode cX0_dearer 153 = .ok (.iload 6, 2) := dk_21 6 (dk_at dksX0_dearer_6 13 rfl rfl)
theorem dX0_dearer_155 : decode cX0_dearer 155 = .ok (.iload 10, 2) := dk_21 10 (dk_at dksX0_dearer_6 15 rfl rfl)
theorem dX0_dearer_157 : decode cX0_dearer 157 = .ok (.invokestatic 7, 3) := dk_184 0 7 (dk_at dksX0_dearer_6 17 rfl rfl)
theorem dX0_dearer_160 : decode cX0_dearer 160 = .ok (.istore 6, 2) := dk_54 6 (dk_at dksX0_dearer_6 20 rfl rfl)
theorem dX0_dearer_162 : decode cX0_dearer 162 = .ok (.iinc 9 1, 3) := dk_132 9 1 (dk_at dksX0_dearer_7 0 rfl rfl)
theorem dX0_dearer_165 : decode cX0_dearer 165 = .ok (.goto (-75), 3) := dk_167 255 181 (dk_at dksX0_dearer_7 3 rfl rfl)
theorem dX0_dearer_168 : decode cX0_dearer 168 = .ok (.aload_n 0, 1) := dk_42 (dk_at dksX0_dearer_7 6 rfl rfl)
theorem dX0_dearer_169 : decode cX0_dearer 169 = .ok (.getfield 76, 3) := dk_180 0 76 (dk_at dksX0_dearer_7 7 rfl rfl)
theorem dX0_dearer_172 : decode cX0_dearer 172 = .ok (.getfield 133, 3) := dk_180 0 133 (dk_at dksX0_dearer_7 10 rfl rfl)
theorem dX0_dearer_175 : decode cX0_dearer 175 = .ok (.iload 7, 2) := dk_21 7 (dk_at dksX0_dearer_7 13 rfl rfl)
theorem dX0_dearer_177 : decode cX0_dearer 177 = .ok (.iload 8, 2) := dk_21 8 (dk_at dksX0_dearer_7 15 rfl rfl)
theorem dX0_dearer_179 : decode cX0_dearer 179 = .ok (.iastore, 1) := dk_79 (dk_at dksX0_dearer_7 17 rfl rfl)
theorem dX0_dearer_180 : decode cX0_dearer 180 = .ok (.iinc 7 1, 3) := dk_132 7 1 (dk_at dksX0_dearer_7 18 rfl rfl)
theorem dX0_dearer_183 : decode cX0_dearer 183 = .ok (.goto (-115), 3) := dk_167 255 141 (dk_at dksX0_dearer_7 21 rfl rfl)
theorem dX0_dearer_186 : decode cX0_dearer 186 = .ok (.iload 5, 2) := dk_21 5 (dk_at dksX0_dearer_8 0 rfl rfl)
theorem dX0_dearer_188 : decode cX0_dearer 188 = .ok (.ireturn, 1) := dk_172 (dk_at dksX0_dearer_8 2 rfl rfl)
abbrev cX0_nines : ByteArray := prog_1_method_52_code
def yX0_nines : MethodName := ⟨RX0, "nines", "(I)I"⟩
def dkwX0_nines_1 : List UInt8 := [42, 27, 2, 182, 1, 65, 42, 180, 1, 49, 172]
abbrev dktX0_nines_1 : List UInt8 := dkwX0_nines_1 ++ []
def dkwX0_nines_0 : List UInt8 := [27, 2, 6, 184, 0, 125, 154, 0, 9, 42, 4, 182, 0, 160, 172, 27, 156, 0, 8, 42, 182, 1, 62, 172]
abbrev dktX0_nines_0 : List UInt8 := dkwX0_nines_0 ++ dktX0_nines_1
theorem dksX0_nines_0 : cX0_nines.data.toList.drop 0 = dktX0_nines_0 := by decide +kernel
theorem dksX0_nines_1 : cX0_nines.data.toList.drop 24 = dktX0_nines_1 := dk_seg dksX0_nines_0 24 rfl rfl
theorem dX0_nines_0 : decode cX0_nines 0 = .ok (.iload_n 1, 1) := dk_27 (dk_at dksX0_nines_0 0 rfl rfl)
theorem dX0_nines_1 : decode cX0_nines 1 = .ok (.iconst (-1), 1) := dk_2 (dk_at dksX0_nines_0 1 rfl rfl)
theorem dX0_nines_2 : decode cX0_nines 2 = .ok (.iconst 3, 1) := dk_6 (dk_at dksX0_nines_0 2 rfl rfl)
theorem dX0_nines_3 : decode cX0_nines 3 = .ok (.invokestatic 125, 3) := dk_184 0 125 (dk_at dksX0_nines_0 3 rfl rfl)
theorem dX0_nines_6 : decode cX0_nines 6 = .ok (.ifCond .ne 9, 3) := dk_154 0 9 (dk_at dksX0_nines_0 6 rfl rfl)
theorem dX0_nines_9 : decode cX0_nines 9 = .ok (.aload_n 0, 1) := dk_42 (dk_at dksX0_nines_0 9 rfl rfl)
theorem dX0_nines_10 : decode cX0_nines 10 = .ok (.iconst 1, 1) := dk_4 (dk_at dksX0_nines_0 10 rfl rfl)
theorem dX0_nines_11 : decode cX0_nines 11 = .ok (.invokevirtual 160, 3) := dk_182 0 160 (dk_at dksX0_nines_0 11 rfl rfl)
theorem dX0_nines_14 : decode cX0_nines 14 = .ok (.ireturn, 1) := dk_172 (dk_at dksX0_nines_0 14 rfl rfl)
theorem dX0_nines_15 : decode cX0_nines 15 = .ok (.iload_n 1, 1) := dk_27 (dk_at dksX0_nines_0 15 rfl rfl)
theorem dX0_nines_16 : decode cX0_nines 16 = .ok (.ifCond .ge 8, 3) := dk_156 0 8 (dk_at dksX0_nines_0 16 rfl rfl)
theorem dX0_nines_19 : decode cX0_nines 19 = .ok (.aload_n 0, 1) := dk_42 (dk_at dksX0_nines_0 19 rfl rfl)
theorem dX0_nines_20 : decode cX0_nines 20 = .ok (.invokevirtual 318, 3) := dk_182 1 62 (dk_at dksX0_nines_0 20 rfl rfl)
theorem dX0_nines_23 : decode cX0_nines 23 = .ok (.ireturn, 1) := dk_172 (dk_at dksX0_nines_0 23 rfl rfl)
theorem dX0_nines_24 : decode cX0_nines 24 = .ok (.aload_n 0, 1) := dk_42 (dk_at dksX0_nines_1 0 rfl rfl)
theorem dX0_nines_25 : decode cX0_nines 25 = .ok (.iload_n 1, 1) := dk_27 (dk_at dksX0_nines_1 1 rfl rfl)
theorem dX0_nines_26 : decode cX0_nines 26 = .ok (.iconst (-1), 1) := dk_2 (dk_at dksX0_nines_1 2 rfl rfl)
theorem dX0_nines_27 : decode cX0_nines 27 = .ok (.invokevirtual 321, 3) := dk_182 1 65 (dk_at dksX0_nines_1 3 rfl rfl)
theorem dX0_nines_30 : decode cX0_nines 30 = .ok (.aload_n 0, 1) := dk_42 (dk_at dksX0_nines_1 6 rfl rfl)
theorem dX0_nines_31 : decode cX0_nines 31 = .ok (.getfield 305, 3) := dk_180 1 49 (dk_at dksX0_nines_1 7 rfl rfl)
theorem dX0_nines_34 : decode cX0_nines 34 = .ok (.ireturn, 1) := dk_172 (dk_at dksX0_nines_1 10 rfl rfl)
abbrev cX0_areNines : ByteArray := prog_1_method_51_code
def yX0_areNines : MethodName := ⟨RX0, "areNines", "()I"⟩
def dkwX0_areNines_1 : List UInt8 := [172, 132, 1, 1, 167, 255, 230, 4, 172]
abbrev dktX0_areNines_1 : List UInt8 := dkwX0_areNines_1 ++ []
def dkwX0_areNines_0 : List UInt8 := [3, 60, 27, 16, 8, 162, 0, 26, 42, 180, 0, 76, 180, 0, 133, 27, 46, 16, 9, 112, 153, 0, 5, 3]
abbrev dktX0_areNines_0 : List UInt8 := dkwX0_areNines_0 ++ dktX0_areNines_1
theorem dksX0_areNines_0 : cX0_areNines.data.toList.drop 0 = dktX0_areNines_0 := by decide +kernel
theorem dksX0_areNines_1 : cX0_areNines.data.toList.drop 24 = dktX0_areNines_1 := dk_seg dksX0_areNines_0 24 rfl rfl
theorem dX0_areNines_0 : decode cX0_areNines 0 = .ok (.iconst 0, 1) := dk_3 (dk_at dksX0_areNines_0 0 rfl rfl)
theorem dX0_areNines_1 : decode cX0_areNines 1 = .ok (.istore_n 1, 1) := dk_60 (dk_at dksX0_areNines_0 1 rfl rfl)
theorem dX0_areNines_2 : decode cX0_areNines 2 = .ok (.iload_n 1, 1) := dk_27 (dk_at dksX0_areNines_0 2 rfl rfl)
theorem dX0_areNines_3 : decode cX0_areNines 3 = .ok (.bipush 8, 2) := dk_16 8 (dk_at dksX0_areNines_0 3 rfl rfl)
theorem dX0_areNines_5 : decode cX0_areNines 5 = .ok (.if_icmp .ge 26, 3) := dk_162 0 26 (dk_at dksX0_areNines_0 5 rfl rfl)
theorem dX0_areNines_8 : decode cX0_areNines 8 = .ok (.aload_n 0, 1) := dk_42 (dk_at dksX0_areNines_0 8 rfl rfl)
theorem dX0_areNines_9 : decode cX0_areNines 9 = .ok (.getfield 76, 3) := dk_180 0 76 (dk_at dksX0_areNines_0 9 rfl rfl)
theorem dX0_areNines_12 : decode cX0_areNines 12 = .ok (.getfield 133, 3) := dk_180 0 133 (dk_at dksX0_areNines_0 12 rfl rfl)
theorem dX0_areNines_15 : decode cX0_areNines 15 = .ok (.iload_n 1, 1) := dk_27 (dk_at dksX0_areNines_0 15 rfl rfl)
theorem dX0_areNines_16 : decode cX0_areNines 16 = .ok (.iaload, 1) := dk_46 (dk_at dksX0_areNines_0 16 rfl rfl)
theorem dX0_areNines_17 : decode cX0_areNines 17 = .ok (.bipush 9, 2) := dk_16 9 (dk_at dksX0_areNines_0 17 rfl rfl)
theorem dX0_areNines_19 : decode cX0_areNines 19 = .ok (.irem, 1) := dk_112 (dk_at dksX0_areNines_0 19 rfl rfl)
theorem dX0_areNines_20 : decode cX0_areNines 20 = .ok (.ifCond .eq 5, 3) := dk_153 0 5 (dk_at dksX0_areNines_0 20 rfl rfl)
theorem dX0_areNines_23 : decode cX0_areNines 23 = .ok (.iconst 0, 1) := dk_3 (dk_at dksX0_areNines_0 23 rfl rfl)
theorem dX0_areNines_24 : decode cX0_areNines 24 = .ok (.ireturn, 1) := dk_172 (dk_at dksX0_areNines_1 0 rfl rfl)
theorem dX0_areNines_25 : decode cX0_areNines 25 = .ok (.iinc 1 1, 3) := dk_132 1 1 (dk_at dksX0_areNines_1 1 rfl rfl)
theorem dX0_areNines_28 : decode cX0_areNines 28 = .ok (.goto (-26), 3) := dk_167 255 230 (dk_at dksX0_areNines_1 4 rfl rfl)
theorem dX0_areNines_31 : decode cX0_areNines 31 = .ok (.iconst 1, 1) := dk_4 (dk_at dksX0_areNines_1 7 rfl rfl)
theorem dX0_areNines_32 : decode cX0_areNines 32 = .ok (.ireturn, 1) := dk_172 (dk_at dksX0_areNines_1 8 rfl rfl)
abbrev cX0_findFew : ByteArray := prog_1_method_50_code
def yX0_findFew : MethodName := ⟨RX0, "findFew", "(II)V"⟩
def dkwX0_findFew_0 : List UInt8 := [42, 3, 181, 1, 52, 42, 2, 181, 1, 49, 42, 3, 6, 3, 27, 28, 182, 1, 58, 177]
abbrev dktX0_findFew_0 : List UInt8 := dkwX0_findFew_0 ++ []
theorem dksX0_findFew_0 : cX0_findFew.data.toList.drop 0 = dktX0_findFew_0 := by decide +kernel
theorem dX0_findFew_0 : decode cX0_findFew 0 = .ok (.aload_n 0, 1) := dk_42 (dk_at dksX0_findFew_0 0 rfl rfl)
theorem dX0_findFew_1 : decode cX0_findFew 1 = .ok (.iconst 0, 1) := dk_3 (dk_at dksX0_findFew_0 1 rfl rfl)
theorem dX0_findFew_2 : decode cX0_findFew 2 = .ok (.putfield 308, 3) := dk_181 1 52 (dk_at dksX0_findFew_0 2 rfl rfl)
theorem dX0_findFew_5 : decode cX0_findFew 5 = .ok (.aload_n 0, 1) := dk_42 (dk_at dksX0_findFew_0 5 rfl rfl)
theorem dX0_findFew_6 : decode cX0_findFew 6 = .ok (.iconst (-1), 1) := dk_2 (dk_at dksX0_findFew_0 6 rfl rfl)
theorem dX0_findFew_7 : decode cX0_findFew 7 = .ok (.putfield 305, 3) := dk_181 1 49 (dk_at dksX0_findFew_0 7 rfl rfl)
theorem dX0_findFew_10 : decode cX0_findFew 10 = .ok (.aload_n 0, 1) := dk_42 (dk_at dksX0_findFew_0 10 rfl rfl)
theorem dX0_findFew_11 : decode cX0_findFew 11 = .ok (.iconst 0, 1) := dk_3 (dk_at dksX0_findFew_0 11 rfl rfl)
theorem dX0_findFew_12 : decode cX0_findFew 12 = .ok (.iconst 3, 1) := dk_6 (dk_at dksX0_findFew_0 12 rfl rfl)
theorem dX0_findFew_13 : decode cX0_findFew 13 = .ok (.iconst 0, 1) := dk_3 (dk_at dksX0_findFew_0 13 rfl rfl)
theorem dX0_findFew_14 : decode cX0_findFew 14 = .ok (.iload_n 1, 1) := dk_27 (dk_at dksX0_findFew_0 14 rfl rfl)
theorem dX0_findFew_15 : decode cX0_findFew 15 = .ok (.iload_n 2, 1) := dk_28 (dk_at dksX0_findFew_0 15 rfl rfl)
theorem dX0_findFew_16 : decode cX0_findFew 16 = .ok (.invokevirtual 314, 3) := dk_182 1 58 (dk_at dksX0_findFew_0 16 rfl rfl)
theorem dX0_findFew_19 : decode cX0_findFew 19 = .ok (.return_, 1) := dk_177 (dk_at dksX0_findFew_0 19 rfl rfl)
abbrev cX0_tryFew : ByteArray := prog_1_method_49_code
def yX0_tryFew : MethodName := ⟨RX0, "tryFew", "(IIIII)V"⟩
def dkwX0_tryFew_5 : List UInt8 := [21, 6, 96, 21, 4, 21, 5, 182, 1, 58, 132, 6, 1, 167, 255, 216, 42, 180, 0, 115, 27, 3, 84, 177]
abbrev dktX0_tryFew_5 : List UInt8 := dkwX0_tryFew_5 ++ []
def dkwX0_tryFew_4 : List UInt8 := [163, 0, 40, 42, 180, 0, 115, 27, 21, 6, 145, 84, 42, 27, 4, 96, 28, 21, 6, 100, 16, 10, 29, 104]
abbrev dktX0_tryFew_4 : List UInt8 := dkwX0_tryFew_4 ++ dktX0_tryFew_5
def dkwX0_tryFew_3 : List UInt8 := [180, 1, 55, 181, 1, 55, 42, 89, 180, 1, 52, 4, 96, 181, 1, 52, 177, 3, 54, 6, 21, 6, 28]
abbrev dktX0_tryFew_3 : List UInt8 := dkwX0_tryFew_3 ++ dktX0_tryFew_4
def dkwX0_tryFew_2 : List UInt8 := [181, 1, 49, 21, 6, 21, 5, 159, 0, 4, 177, 42, 42, 180, 1, 52, 154, 0, 7, 29, 167, 0, 7, 42]
abbrev dktX0_tryFew_2 : List UInt8 := dkwX0_tryFew_2 ++ dktX0_tryFew_3
def dkwX0_tryFew_1 : List UInt8 := [42, 42, 180, 1, 49, 156, 0, 8, 21, 6, 167, 0, 12, 42, 180, 1, 49, 21, 6, 184, 0, 1]
abbrev dktX0_tryFew_1 : List UInt8 := dkwX0_tryFew_1 ++ dktX0_tryFew_2
def dkwX0_tryFew_0 : List UInt8 := [27, 16, 8, 160, 0, 84, 28, 6, 160, 0, 4, 177, 42, 42, 180, 0, 115, 21, 4, 182, 0, 248, 54, 6]
abbrev dktX0_tryFew_0 : List UInt8 := dkwX0_tryFew_0 ++ dktX0_tryFew_1
theorem dksX0_tryFew_0 : cX0_tryFew.data.toList.drop 0 = dktX0_tryFew_0 := by decide +kernel
theorem dksX0_tryFew_1 : cX0_tryFew.data.toList.drop 24 = dktX0_tryFew_1 := dk_seg dksX0_tryFew_0 24 rfl rfl
theorem dksX0_tryFew_2 : cX0_tryFew.data.toList.drop 46 = dktX0_tryFew_2 := dk_seg dksX0_tryFew_1 22 rfl rfl
theorem dksX0_tryFew_3 : cX0_tryFew.data.toList.drop 70 = dktX0_tryFew_3 := dk_seg dksX0_tryFew_2 24 rfl rfl
theorem dksX0_tryFew_4 : cX0_tryFew.data.toList.drop 93 = dktX0_tryFew_4 := dk_seg dksX0_tryFew_3 23 rfl rfl
theorem dksX0_tryFew_5 : cX0_tryFew.data.toList.drop 117 = dktX0_tryFew_5 := dk_seg dksX0_tryFew_4 24 rfl rfl
theorem dX0_tryFew_0 : decode cX0_tryFew 0 = .ok (.iload_n 1, 1) := dk_27 (dk_at dksX0_tryFew_0 0 rfl rfl)
theorem dX0_tryFew_1 : decode cX0_tryFew 1 = .ok (.bipush 8, 2) := dk_16 8 (dk_at dksX0_tryFew_0 1 rfl rfl)
theorem dX0_tryFew_3 : decode cX0_tryFew 3 = .ok (.if_icmp .ne 84, 3) := dk_160 0 84 (dk_at dksX0_tryFew_0 3 rfl rfl)
theorem dX0_tryFew_6 : decode cX0_tryFew 6 = .ok (.iload_n 2, 1) := dk_28 (dk_at dksX0_tryFew_0 6 rfl rfl)
theorem dX0_tryFew_7 : decode cX0_tryFew 7 = .ok (.iconst 3, 1) := dk_6 (dk_at dksX0_tryFew_0 7 rfl rfl)
theorem dX0_tryFew_8 : decode cX0_tryFew 8 = .ok (.if_icmp .ne 4, 3) := dk_160 0 4 (dk_at dksX0_tryFew_0 8 rfl rfl)
theorem dX0_tryFew_11 : decode cX0_tryFew 11 = .ok (.return_, 1) := dk_177 (dk_at dksX0_tryFew_0 11 rfl rfl)
theorem dX0_tryFew_12 : decode cX0_tryFew 12 = .ok (.aload_n 0, 1) := dk_42 (dk_at dksX0_tryFew_0 12 rfl rfl)
theorem dX0_tryFew_13 : decode cX0_tryFew 13 = .ok (.aload_n 0, 1) := dk_42 (dk_at dksX0_tryFew_0 13 rfl rfl)
theorem dX0_tryFew_14 : decode cX0_tryFew 14 = .ok (.getfield 115, 3) := dk_180 0 115 (dk_at dksX0_tryFew_0 14 rfl rfl)
theorem dX0_tryFew_17 : decode cX0_tryFew 17 = .ok (.iload 4, 2) := dk_21 4 (dk_at dksX0_tryFew_0 17 rfl rfl)
theorem dX0_tryFew_19 : decode cX0_tryFew 19 = .ok (.invokevirtual 248, 3) := dk_182 0 248 (dk_at dksX0_tryFew_0 19 rfl rfl)
theorem dX0_tryFew_22 : decode cX0_tryFew 22 = .ok (.istore 6, 2) := dk_54 6 (dk_at dksX0_tryFew_0 22 rfl rfl)
theorem dX0_tryFew_24 : decode cX0_tryFew 24 = .ok (.aload_n 0, 1) := dk_42 (dk_at dksX0_tryFew_1 0 rfl rfl)
theorem dX0_tryFew_25 : decode cX0_tryFew 25 = .ok (.aload_n 0, 1) := dk_42 (dk_at dksX0_tryFew_1 1 rfl rfl)
theorem dX0_tryFew_26 : decode cX0_tryFew 26 = .ok (.getfield 305, 3) := dk_180 1 49 (dk_at dksX0_tryFew_1 2 rfl rfl)
theorem dX0_tryFew_29 : decode cX0_tryFew 29 = .ok (.ifCond .ge 8, 3) := dk_156 0 8 (dk_at dksX0_tryFew_1 5 rfl rfl)
theorem dX0_tryFew_32 : decode cX0_tryFew 32 = .ok (.iload 6, 2) := dk_21 6 (dk_at dksX0_tryFew_1 8 rfl rfl)
theorem dX0_tryFew_34 : decode cX0_tryFew 34 = .ok (.goto 12, 3) := dk_167 0 12 (dk_at dksX0_tryFew_1 10 rfl rfl)
theorem dX0_tryFew_37 : decode cX0_tryFew 37 = .ok (.aload_n 0, 1) := dk_42 (dk_at dksX0_tryFew_1 13 rfl rfl)
theorem dX0_tryFew_38 : decode cX0_tryFew 38 = .ok (.getfield 305, 3) := dk_180 1 49 (dk_at dksX0_tryFew_1 14 rfl rfl)
theorem dX0_tryFew_41 : decode cX0_tryFew 41 = .ok (.iload 6, 2) := dk_21 6 (dk_at dksX0_tryFew_1 17 rfl rfl)
theorem dX0_tryFew_43 : decode cX0_tryFew 43 = .ok (.invokestatic 1, 3) := dk_184 0 1 (dk_at dksX0_tryFew_1 19 rfl rfl)
theorem dX0_tryFew_46 : decode cX0_tryFew 46 = .ok (.putfield 305, 3) := dk_181 1 49 (dk_at dksX0_tryFew_2 0 rfl rfl)
theorem dX0_tryFew_49 : decode cX0_tryFew 49 = .ok (.iload 6, 2) := dk_21 6 (dk_at dksX0_tryFew_2 3 rfl rfl)
theorem dX0_tryFew_51 : decode cX0_tryFew 51 = .ok (.iload 5, 2) := dk_21 5 (dk_at dksX0_tryFew_2 5 rfl rfl)
theorem dX0_tryFew_53 : decode cX0_tryFew 53 = .ok (.if_icmp .eq 4, 3) := dk_159 0 4 (dk_at dksX0_tryFew_2 7 rfl rfl)
theorem dX0_tryFew_56 : decode cX0_tryFew 56 = .ok (.return_, 1) := dk_177 (dk_at dksX0_tryFew_2 10 rfl rfl)
theorem dX0_tryFew_57 : decode cX0_tryFew 57 = .ok (.aload_n 0, 1) := dk_42 (dk_at dksX0_tryFew_2 11 rfl rfl)
theorem dX0_tryFew_58 : decode cX0_tryFew 58 = .ok (.aload_n 0, 1) := dk_42 (dk_at dksX0_tryFew_2 12 rfl rfl)
theorem dX0_tryFew_59 : decode cX0_tryFew 59 = .ok (.getfield 308, 3) := dk_180 1 52 (dk_at dksX0_tryFew_2 13 rfl rfl)
theorem dX0_tryFew_62 : decode cX0_tryFew 62 = .ok (.ifCond .ne 7, 3) := dk_154 0 7 (dk_at dksX0_tryFew_2 16 rfl rfl)
theorem dX0_tryFew_65 : decode cX0_tryFew 65 = .ok (.iload_n 3, 1) := dk_29 (dk_at dksX0_tryFew_2 19 rfl rfl)
theorem dX0_tryFew_66 : decode cX0_tryFew 66 = .ok (.goto 7, 3) := dk_167 0 7 (dk_at dksX0_tryFew_2 20 rfl rfl)
theorem dX0_tryFew_69 : decode cX0_tryFew 69 = .ok (.aload_n 0, 1) := dk_42 (dk_at dksX0_tryFew_2 23 rfl rfl)
theorem dX0_tryFew_70 : decode cX0_tryFew 70 = .ok (.getfield 311, 3) := dk_180 1 55 (dk_at dksX0_tryFew_3 0 rfl rfl)
theorem dX0_tryFew_73 : decode cX0_tryFew 73 = .ok (.putfield 311, 3) := dk_181 1 55 (dk_at dksX0_tryFew_3 3 rfl rfl)
theorem dX0_tryFew_76 : decode cX0_tryFew 76 = .ok (.aload_n 0, 1) := dk_42 (dk_at dksX0_tryFew_3 6 rfl rfl)
theorem dX0_tryFew_77 : decode cX0_tryFew 77 = .ok (.dup, 1) := dk_89 (dk_at dksX0_tryFew_3 7 rfl rfl)
theorem dX0_tryFew_78 : decode cX0_tryFew 78 = .ok (.getfield 308, 3) := dk_180 1 52 (dk_at dksX0_tryFew_3 8 rfl rfl)
theorem dX0_tryFew_81 : decode cX0_tryFew 81 = .ok (.iconst 1, 1) := dk_4 (dk_at dksX0_tryFew_3 11 rfl rfl)
theorem dX0_tryFew_82 : decode cX0_tryFew 82 = .ok (.iadd, 1) := dk_96 (dk_at dksX0_tryFew_3 12 rfl rfl)
theorem dX0_tryFew_83 : decode cX0_tryFew 83 = .ok (.putfield 308, 3) := dk_181 1 52 (dk_at dksX0_tryFew_3 13 rfl rfl)
theorem dX0_tryFew_86 : decode cX0_tryFew 86 = .ok (.return_, 1) := dk_177 (dk_at dksX0_tryFew_3 16 rfl rfl)
theorem dX0_tryFew_87 : decode cX0_tryFew 87 = .ok (.iconst 0, 1) := dk_3 (dk_at dksX0_tryFew_3 17 rfl rfl)
theorem dX0_tryFew_88 : decode cX0_tryFew 88 = .ok (.istore 6, 2) := dk_54 6 (dk_at dksX0_tryFew_3 18 rfl rfl)
theorem dX0_tryFew_90 : decode cX0_tryFew 90 = .ok (.iload 6, 2) := dk_21 6 (dk_at dksX0_tryFew_3 20 rfl rfl)
theorem dX0_tryFew_92 : decode cX0_tryFew 92 = .ok (.iload_n 2, 1) := dk_28 (dk_at dksX0_tryFew_3 22 rfl rfl)
theorem dX0_tryFew_93 : decode cX0_tryFew 93 = .ok (.if_icmp .gt 40, 3) := dk_163 0 40 (dk_at dksX0_tryFew_4 0 rfl rfl)
theorem dX0_tryFew_96 : decode cX0_tryFew 96 = .ok (.aload_n 0, 1) := dk_42 (dk_at dksX0_tryFew_4 3 rfl rfl)
theorem dX0_tryFew_97 : decode cX0_tryFew 97 = .ok (.getfield 115, 3) := dk_180 0 115 (dk_at dksX0_tryFew_4 4 rfl rfl)
theorem dX0_tryFew_100 : decode cX0_tryFew 100 = .ok (.iload_n 1, 1) := dk_27 (dk_at dksX0_tryFew_4 7 rfl rfl)
theorem dX0_tryFew_101 : decode cX0_tryFew 101 = .ok (.iload 6, 2) := dk_21 6 (dk_at dksX0_tryFew_4 8 rfl rfl)
theorem dX0_tryFew_103 : decode cX0_tryFew 103 = .ok (.i2b, 1) := dk_145 (dk_at dksX0_tryFew_4 10 rfl rfl)
theorem dX0_tryFew_104 : decode cX0_tryFew 104 = .ok (.bastore, 1) := dk_84 (dk_at dksX0_tryFew_4 11 rfl rfl)
theorem dX0_tryFew_105 : decode cX0_tryFew 105 = .ok (.aload_n 0, 1) := dk_42 (dk_at dksX0_tryFew_4 12 rfl rfl)
theorem dX0_tryFew_106 : decode cX0_tryFew 106 = .ok (.iload_n 1, 1) := dk_27 (dk_at dksX0_tryFew_4 13 rfl rfl)
theorem dX0_tryFew_107 : decode cX0_tryFew 107 = .ok (.iconst 1, 1) := dk_4 (dk_at dksX0_tryFew_4 14 rfl rfl)
theorem dX0_tryFew_108 : decode cX0_tryFew 108 = .ok (.iadd, 1) := dk_96 (dk_at dksX0_tryFew_4 15 rfl rfl)
theorem dX0_tryFew_109 : decode cX0_tryFew 109 = .ok (.iload_n 2, 1) := dk_28 (dk_at dksX0_tryFew_4 16 rfl rfl)
theorem dX0_tryFew_110 : decode cX0_tryFew 110 = .ok (.iload 6, 2) := dk_21 6 (dk_at dksX0_tryFew_4 17 rfl rfl)
theorem dX0_tryFew_112 : decode cX0_tryFew 112 = .ok (.isub, 1) := dk_100 (dk_at dksX0_tryFew_4 19 rfl rfl)
theorem dX0_tryFew_113 : decode cX0_tryFew 113 = .ok (.bipush 10, 2) := dk_16 10 (dk_at dksX0_tryFew_4 20 rfl rfl)
theorem dX0_tryFew_115 : decode cX0_tryFew 115 = .ok (.iload_n 3, 1) := dk_29 (dk_at dksX0_tryFew_4 22 rfl rfl)
theorem dX0_tryFew_116 : decode cX0_tryFew 116 = .ok (.imul, 1) := dk_104 (dk_at dksX0_tryFew_4 23 rfl rfl)
theorem dX0_tryFew_117 : decode cX0_tryFew 117 = .ok (.iload 6, 2) := dk_21 6 (dk_at dksX0_tryFew_5 0 rfl rfl)
theorem dX0_tryFew_119 : decode cX0_tryFew 119 = .ok (.iadd, 1) := dk_96 (dk_at dksX0_tryFew_5 2 rfl rfl)
theorem dX0_tryFew_120 : decode cX0_tryFew 120 = .ok (.iload 4, 2) := dk_21 4 (dk_at dksX0_tryFew_5 3 rfl rfl)
theorem dX0_tryFew_122 : decode cX0_tryFew 122 = .ok (.iload 5, 2) := dk_21 5 (dk_at dksX0_tryFew_5 5 rfl rfl)
theorem dX0_tryFew_124 : decode cX0_tryFew 124 = .ok (.invokevirtual 314, 3) := dk_182 1 58 (dk_at dksX0_tryFew_5 7 rfl rfl)
theorem dX0_tryFew_127 : decode cX0_tryFew 127 = .ok (.iinc 6 1, 3) := dk_132 6 1 (dk_at dksX0_tryFew_5 10 rfl rfl)
theorem dX0_tryFew_130 : decode cX0_tryFew 130 = .ok (.goto (-40), 3) := dk_167 255 216 (dk_at dksX0_tryFew_5 13 rfl rfl)
theorem dX0_tryFew_133 : decode cX0_tryFew 133 = .ok (.aload_n 0, 1) := dk_42 (dk_at dksX0_tryFew_5 16 rfl rfl)
theorem dX0_tryFew_134 : decode cX0_tryFew 134 = .ok (.getfield 115, 3) := dk_180 0 115 (dk_at dksX0_tryFew_5 17 rfl rfl)
theorem dX0_tryFew_137 : decode cX0_tryFew 137 = .ok (.iload_n 1, 1) := dk_27 (dk_at dksX0_tryFew_5 20 rfl rfl)
theorem dX0_tryFew_138 : decode cX0_tryFew 138 = .ok (.iconst 0, 1) := dk_3 (dk_at dksX0_tryFew_5 21 rfl rfl)
theorem dX0_tryFew_139 : decode cX0_tryFew 139 = .ok (.bastore, 1) := dk_84 (dk_at dksX0_tryFew_5 22 rfl rfl)
theorem dX0_tryFew_140 : decode cX0_tryFew 140 = .ok (.return_, 1) := dk_177 (dk_at dksX0_tryFew_5 23 rfl rfl)
abbrev cX0_wasIn : ByteArray := prog_1_method_53_code
def yX0_wasIn : MethodName := ⟨RX0, "wasIn", "(III)I"⟩
def dkwX0_wasIn_2 : List UInt8 := [167, 0, 22, 42, 180, 1, 52, 154, 0, 11, 42, 5, 182, 0, 160, 167, 0, 7, 42, 180, 1, 55, 172]
abbrev dktX0_wasIn_2 : List UInt8 := dkwX0_wasIn_2 ++ []
def dkwX0_wasIn_1 : List UInt8 := [154, 0, 9, 42, 4, 182, 0, 160, 172, 42, 27, 28, 182, 1, 65, 29, 154, 0, 10, 42, 180, 1, 52]
abbrev dktX0_wasIn_1 : List UInt8 := dkwX0_wasIn_1 ++ dktX0_wasIn_2
def dkwX0_wasIn_0 : List UInt8 := [27, 184, 0, 170, 153, 0, 23, 28, 3, 17, 39, 15, 184, 0, 125, 153, 0, 12, 29, 3, 4, 184, 0, 125]
abbrev dktX0_wasIn_0 : List UInt8 := dkwX0_wasIn_0 ++ dktX0_wasIn_1
theorem dksX0_wasIn_0 : cX0_wasIn.data.toList.drop 0 = dktX0_wasIn_0 := by decide +kernel
theorem dksX0_wasIn_1 : cX0_wasIn.data.toList.drop 24 = dktX0_wasIn_1 := dk_seg dksX0_wasIn_0 24 rfl rfl
theorem dksX0_wasIn_2 : cX0_wasIn.data.toList.drop 47 = dktX0_wasIn_2 := dk_seg dksX0_wasIn_1 23 rfl rfl
theorem dX0_wasIn_0 : decode cX0_wasIn 0 = .ok (.iload_n 1, 1) := dk_27 (dk_at dksX0_wasIn_0 0 rfl rfl)
theorem dX0_wasIn_1 : decode cX0_wasIn 1 = .ok (.invokestatic 170, 3) := dk_184 0 170 (dk_at dksX0_wasIn_0 1 rfl rfl)
theorem dX0_wasIn_4 : decode cX0_wasIn 4 = .ok (.ifCond .eq 23, 3) := dk_153 0 23 (dk_at dksX0_wasIn_0 4 rfl rfl)
theorem dX0_wasIn_7 : decode cX0_wasIn 7 = .ok (.iload_n 2, 1) := dk_28 (dk_at dksX0_wasIn_0 7 rfl rfl)
theorem dX0_wasIn_8 : decode cX0_wasIn 8 = .ok (.iconst 0, 1) := dk_3 (dk_at dksX0_wasIn_0 8 rfl rfl)
theorem dX0_wasIn_9 : decode cX0_wasIn 9 = .ok (.sipush 9999, 3) := dk_17 39 15 (dk_at dksX0_wasIn_0 9 rfl rfl)
theorem dX0_wasIn_12 : decode cX0_wasIn 12 = .ok (.invokestatic 125, 3) := dk_184 0 125 (dk_at dksX0_wasIn_0 12 rfl rfl)
theorem dX0_wasIn_15 : decode cX0_wasIn 15 = .ok (.ifCond .eq 12, 3) := dk_153 0 12 (dk_at dksX0_wasIn_0 15 rfl rfl)
theorem dX0_wasIn_18 : decode cX0_wasIn 18 = .ok (.iload_n 3, 1) := dk_29 (dk_at dksX0_wasIn_0 18 rfl rfl)
theorem dX0_wasIn_19 : decode cX0_wasIn 19 = .ok (.iconst 0, 1) := dk_3 (dk_at dksX0_wasIn_0 19 rfl rfl)
theorem dX0_wasIn_20 : decode cX0_wasIn 20 = .ok (.iconst 1, 1) := dk_4 (dk_at dksX0_wasIn_0 20 rfl rfl)
theorem dX0_wasIn_21 : decode cX0_wasIn 21 = .ok (.invokestatic 125, 3) := dk_184 0 125 (dk_at dksX0_wasIn_0 21 rfl rfl)
theorem dX0_wasIn_24 : decode cX0_wasIn 24 = .ok (.ifCond .ne 9, 3) := dk_154 0 9 (dk_at dksX0_wasIn_1 0 rfl rfl)
theorem dX0_wasIn_27 : decode cX0_wasIn 27 = .ok (.aload_n 0, 1) := dk_42 (dk_at dksX0_wasIn_1 3 rfl rfl)
theorem dX0_wasIn_28 : decode cX0_wasIn 28 = .ok (.iconst 1, 1) := dk_4 (dk_at dksX0_wasIn_1 4 rfl rfl)
theorem dX0_wasIn_29 : decode cX0_wasIn 29 = .ok (.invokevirtual 160, 3) := dk_182 0 160 (dk_at dksX0_wasIn_1 5 rfl rfl)
theorem dX0_wasIn_32 : decode cX0_wasIn 32 = .ok (.ireturn, 1) := dk_172 (dk_at dksX0_wasIn_1 8 rfl rfl)
theorem dX0_wasIn_33 : decode cX0_wasIn 33 = .ok (.aload_n 0, 1) := dk_42 (dk_at dksX0_wasIn_1 9 rfl rfl)
theorem dX0_wasIn_34 : decode cX0_wasIn 34 = .ok (.iload_n 1, 1) := dk_27 (dk_at dksX0_wasIn_1 10 rfl rfl)
theorem dX0_wasIn_35 : decode cX0_wasIn 35 = .ok (.iload_n 2, 1) := dk_28 (dk_at dksX0_wasIn_1 11 rfl rfl)
theorem dX0_wasIn_36 : decode cX0_wasIn 36 = .ok (.invokevirtual 321, 3) := dk_182 1 65 (dk_at dksX0_wasIn_1 12 rfl rfl)
theorem dX0_wasIn_39 : decode cX0_wasIn 39 = .ok (.iload_n 3, 1) := dk_29 (dk_at dksX0_wasIn_1 15 rfl rfl)
theorem dX0_wasIn_40 : decode cX0_wasIn 40 = .ok (.ifCond .ne 10, 3) := dk_154 0 10 (dk_at dksX0_wasIn_1 16 rfl rfl)
theorem dX0_wasIn_43 : decode cX0_wasIn 43 = .ok (.aload_n 0, 1) := dk_42 (dk_at dksX0_wasIn_1 19 rfl rfl)
theorem dX0_wasIn_44 : decode cX0_wasIn 44 = .ok (.getfield 308, 3) := dk_180 1 52 (dk_at dksX0_wasIn_1 20 rfl rfl)
theorem dX0_wasIn_47 : decode cX0_wasIn 47 = .ok (.goto 22, 3) := dk_167 0 22 (dk_at dksX0_wasIn_2 0 rfl rfl)
theorem dX0_wasIn_50 : decode cX0_wasIn 50 = .ok (.aload_n 0, 1) := dk_42 (dk_at dksX0_wasIn_2 3 rfl rfl)
theorem dX0_wasIn_51 : decode cX0_wasIn 51 = .ok (.getfield 308, 3) := dk_180 1 52 (dk_at dksX0_wasIn_2 4 rfl rfl)
theorem dX0_wasIn_54 : decode cX0_wasIn 54 = .ok (.ifCond .ne 11, 3) := dk_154 0 11 (dk_at dksX0_wasIn_2 7 rfl rfl)
theorem dX0_wasIn_57 : decode cX0_wasIn 57 = .ok (.aload_n 0, 1) := dk_42 (dk_at dksX0_wasIn_2 10 rfl rfl)
theorem dX0_wasIn_58 : decode cX0_wasIn 58 = .ok (.iconst 2, 1) := dk_5 (dk_at dksX0_wasIn_2 11 rfl rfl)
theorem dX0_wasIn_59 : decode cX0_wasIn 59 = .ok (.invokevirtual 160, 3) := dk_182 0 160 (dk_at dksX0_wasIn_2 12 rfl rfl)
theorem dX0_wasIn_62 : decode cX0_wasIn 62 = .ok (.goto 7, 3) := dk_167 0 7 (dk_at dksX0_wasIn_2 15 rfl rfl)
theorem dX0_wasIn_65 : decode cX0_wasIn 65 = .ok (.aload_n 0, 1) := dk_42 (dk_at dksX0_wasIn_2 18 rfl rfl)
theorem dX0_wasIn_66 : decode cX0_wasIn 66 = .ok (.getfield 311, 3) := dk_180 1 55 (dk_at dksX0_wasIn_2 19 rfl rfl)
theorem dX0_wasIn_69 : decode cX0_wasIn 69 = .ok (.ireturn, 1) := dk_172 (dk_at dksX0_wasIn_2 22 rfl rfl)
abbrev cX0_erring : ByteArray := prog_1_method_55_code
def yX0_erring : MethodName := ⟨RX0, "erring", "(IIII)J"⟩
def dkwX0_erring_7 : List UInt8 := [167, 0, 6, 20, 1, 68, 22, 11, 20, 1, 68, 184, 1, 70, 109, 173]
abbrev dktX0_erring_7 : List UInt8 := dkwX0_erring_7 ++ []
def dkwX0_erring_6 : List UInt8 := [97, 21, 10, 158, 0, 8, 21, 6, 167, 0, 4, 3, 133, 101, 55, 11, 21, 4, 154, 0, 8, 22, 11]
abbrev dktX0_erring_6 : List UInt8 := dkwX0_erring_6 ++ dktX0_erring_7
def dkwX0_erring_5 : List UInt8 := [182, 0, 195, 54, 10, 21, 9, 154, 0, 7, 9, 167, 0, 27, 20, 1, 68, 21, 10, 133, 105, 21, 5, 133]
abbrev dktX0_erring_5 : List UInt8 := dkwX0_erring_5 ++ dktX0_erring_6
def dkwX0_erring_4 : List UInt8 := [180, 0, 133, 182, 0, 225, 54, 8, 42, 180, 0, 109, 184, 0, 229, 54, 9, 42, 28, 21, 8, 21, 9]
abbrev dktX0_erring_4 : List UInt8 := dkwX0_erring_4 ++ dktX0_erring_5
def dkwX0_erring_3 : List UInt8 := [21, 7, 158, 0, 11, 42, 21, 7, 182, 0, 160, 133, 173, 42, 42, 180, 0, 109, 42, 180, 0, 76]
abbrev dktX0_erring_3 : List UInt8 := dkwX0_erring_3 ++ dktX0_erring_4
def dkwX0_erring_2 : List UInt8 := [154, 0, 10, 42, 4, 182, 0, 160, 133, 173, 42, 27, 42, 180, 0, 109, 16, 30, 182, 0, 244, 54, 7]
abbrev dktX0_erring_2 : List UInt8 := dkwX0_erring_2 ++ dktX0_erring_3
def dkwX0_erring_1 : List UInt8 := [153, 0, 27, 29, 155, 0, 23, 21, 5, 21, 6, 96, 16, 16, 163, 0, 13, 21, 4, 3, 4, 184, 0, 125]
abbrev dktX0_erring_1 : List UInt8 := dkwX0_erring_1 ++ dktX0_erring_2
def dkwX0_erring_0 : List UInt8 := [29, 16, 17, 108, 54, 5, 29, 16, 17, 112, 54, 6, 27, 184, 0, 241, 153, 0, 34, 28, 184, 0, 170]
abbrev dktX0_erring_0 : List UInt8 := dkwX0_erring_0 ++ dktX0_erring_1
theorem dksX0_erring_0 : cX0_erring.data.toList.drop 0 = dktX0_erring_0 := by decide +kernel
theorem dksX0_erring_1 : cX0_erring.data.toList.drop 23 = dktX0_erring_1 := dk_seg dksX0_erring_0 23 rfl rfl
theorem dksX0_erring_2 : cX0_erring.data.toList.drop 47 = dktX0_erring_2 := dk_seg dksX0_erring_1 24 rfl rfl
theorem dksX0_erring_3 : cX0_erring.data.toList.drop 70 = dktX0_erring_3 := dk_seg dksX0_erring_2 23 rfl rfl
theorem dksX0_erring_4 : cX0_erring.data.toList.drop 92 = dktX0_erring_4 := dk_seg dksX0_erring_3 22 rfl rfl
theorem dksX0_erring_5 : cX0_erring.data.toList.drop 115 = dktX0_erring_5 := dk_seg dksX0_erring_4 23 rfl rfl
theorem dksX0_erring_6 : cX0_erring.data.toList.drop 139 = dktX0_erring_6 := dk_seg dksX0_erring_5 24 rfl rfl
theorem dksX0_erring_7 : cX0_erring.data.toList.drop 162 = dktX0_erring_7 := dk_seg dksX0_erring_6 23 rfl rfl
theorem dX0_erring_0 : decode cX0_erring 0 = .ok (.iload_n 3, 1) := dk_29 (dk_at dksX0_erring_0 0 rfl rfl)
theorem dX0_erring_1 : decode cX0_erring 1 = .ok (.bipush 17, 2) := dk_16 17 (dk_at dksX0_erring_0 1 rfl rfl)
theorem dX0_erring_3 : decode cX0_erring 3 = .ok (.idiv, 1) := dk_108 (dk_at dksX0_erring_0 3 rfl rfl)
theorem dX0_erring_4 : decode cX0_erring 4 = .ok (.istore 5, 2) := dk_54 5 (dk_at dksX0_erring_0 4 rfl rfl)
theorem dX0_erring_6 : decode cX0_erring 6 = .ok (.iload_n 3, 1) := dk_29 (dk_at dksX0_erring_0 6 rfl rfl)
theorem dX0_erring_7 : decode cX0_erring 7 = .ok (.bipush 17, 2) := dk_16 17 (dk_at dksX0_erring_0 7 rfl rfl)
theorem dX0_erring_9 : decode cX0_erring 9 = .ok (.irem, 1) := dk_112 (dk_at dksX0_erring_0 9 rfl rfl)
theorem dX0_erring_10 : decode cX0_erring 10 = .ok (.istore 6, 2) := dk_54 6 (dk_at dksX0_erring_0 10 rfl rfl)
theorem dX0_erring_12 : decode cX0_erring 12 = .ok (.iload_n 1, 1) := dk_27 (dk_at dksX0_erring_0 12 rfl rfl)
theorem dX0_erring_13 : decode cX0_erring 13 = .ok (.invokestatic 241, 3) := dk_184 0 241 (dk_at dksX0_erring_0 13 rfl rfl)
theorem dX0_erring_16 : decode cX0_erring 16 = .ok (.ifCond .eq 34, 3) := dk_153 0 34 (dk_at dksX0_erring_0 16 rfl rfl)
theorem dX0_erring_19 : decode cX0_erring 19 = .ok (.iload_n 2, 1) := dk_28 (dk_at dksX0_erring_0 19 rfl rfl)
theorem dX0_erring_20 : decode cX0_erring 20 = .ok (.invokestatic 170, 3) := dk_184 0 170 (dk_at dksX0_erring_0 20 rfl rfl)
theorem dX0_erring_23 : decode cX0_erring 23 = .ok (.ifCond .eq 27, 3) := dk_153 0 27 (dk_at dksX0_erring_1 0 rfl rfl)
theorem dX0_erring_26 : decode cX0_erring 26 = .ok (.iload_n 3, 1) := dk_29 (dk_at dksX0_erring_1 3 rfl rfl)
theorem dX0_erring_27 : decode cX0_erring 27 = .ok (.ifCond .lt 23, 3) := dk_155 0 23 (dk_at dksX0_erring_1 4 rfl rfl)
theorem dX0_erring_30 : decode cX0_erring 30 = .ok (.iload 5, 2) := dk_21 5 (dk_at dksX0_erring_1 7 rfl rfl)
theorem dX0_erring_32 : decode cX0_erring 32 = .ok (.iload 6, 2) := dk_21 6 (dk_at dksX0_erring_1 9 rfl rfl)
theorem dX0_erring_34 : decode cX0_erring 34 = .ok (.iadd, 1) := dk_96 (dk_at dksX0_erring_1 11 rfl rfl)
theorem dX0_erring_35 : decode cX0_erring 35 = .ok (.bipush 16, 2) := dk_16 16 (dk_at dksX0_erring_1 12 rfl rfl)
theorem dX0_erring_37 : decode cX0_erring 37 = .ok (.if_icmp .gt 13, 3) := dk_163 0 13 (dk_at dksX0_erring_1 14 rfl rfl)
theorem dX0_erring_40 : decode cX0_erring 40 = .ok (.iload 4, 2) := dk_21 4 (dk_at dksX0_erring_1 17 rfl rfl)
theorem dX0_erring_42 : decode cX0_erring 42 = .ok (.iconst 0, 1) := dk_3 (dk_at dksX0_erring_1 19 rfl rfl)
theorem dX0_erring_43 : decode cX0_erring 43 = .ok (.iconst 1, 1) := dk_4 (dk_at dksX0_erring_1 20 rfl rfl)
theorem dX0_erring_44 : decode cX0_erring 44 = .ok (.invokestatic 125, 3) := dk_184 0 125 (dk_at dksX0_erring_1 21 rfl rfl)
theorem dX0_erring_47 : decode cX0_erring 47 = .ok (.ifCond .ne 10, 3) := dk_154 0 10 (dk_at dksX0_erring_2 0 rfl rfl)
theorem dX0_erring_50 : decode cX0_erring 50 = .ok (.aload_n 0, 1) := dk_42 (dk_at dksX0_erring_2 3 rfl rfl)
theorem dX0_erring_51 : decode cX0_erring 51 = .ok (.iconst 1, 1) := dk_4 (dk_at dksX0_erring_2 4 rfl rfl)
theorem dX0_erring_52 : decode cX0_erring 52 = .ok (.invokevirtual 160, 3) := dk_182 0 160 (dk_at dksX0_erring_2 5 rfl rfl)
theorem dX0_erring_55 : decode cX0_erring 55 = .ok (.i2l, 1) := dk_133 (dk_at dksX0_erring_2 8 rfl rfl)
theorem dX0_erring_56 : decode cX0_erring 56 = .ok (.lreturn, 1) := dk_173 (dk_at dksX0_erring_2 9 rfl rfl)
theorem dX0_erring_57 : decode cX0_erring 57 = .ok (.aload_n 0, 1) := dk_42 (dk_at dksX0_erring_2 10 rfl rfl)
theorem dX0_erring_58 : decode cX0_erring 58 = .ok (.iload_n 1, 1) := dk_27 (dk_at dksX0_erring_2 11 rfl rfl)
theorem dX0_erring_59 : decode cX0_erring 59 = .ok (.aload_n 0, 1) := dk_42 (dk_at dksX0_erring_2 12 rfl rfl)
theorem dX0_erring_60 : decode cX0_erring 60 = .ok (.getfield 109, 3) := dk_180 0 109 (dk_at dksX0_erring_2 13 rfl rfl)
theorem dX0_erring_63 : decode cX0_erring 63 = .ok (.bipush 30, 2) := dk_16 30 (dk_at dksX0_erring_2 16 rfl rfl)
theorem dX0_erring_65 : decode cX0_erring 65 = .ok (.invokevirtual 244, 3) := dk_182 0 244 (dk_at dksX0_erring_2 18 rfl rfl)
theorem dX0_erring_68 : decode cX0_erring 68 = .ok (.istore 7, 2) := dk_54 7 (dk_at dksX0_erring_2 21 rfl rfl)
theorem dX0_erring_70 : decode cX0_erring 70 = .ok (.iload 7, 2) := dk_21 7 (dk_at dksX0_erring_3 0 rfl rfl)
theorem dX0_erring_72 : decode cX0_erring 72 = .ok (.ifCond .le 11, 3) := dk_158 0 11 (dk_at dksX0_erring_3 2 rfl rfl)
theorem dX0_erring_75 : decode cX0_erring 75 = .ok (.aload_n 0, 1) := dk_42 (dk_at dksX0_erring_3 5 rfl rfl)
theorem dX0_erring_76 : decode cX0_erring 76 = .ok (.iload 7, 2) := dk_21 7 (dk_at dksX0_erring_3 6 rfl rfl)
theorem dX0_erring_78 : decode cX0_erring 78 = .ok (.invokevirtual 160, 3) := dk_182 0 160 (dk_at dksX0_erring_3 8 rfl rfl)
theorem dX0_erring_81 : decode cX0_erring 81 = .ok (.i2l, 1) := dk_133 (dk_at dksX0_erring_3 11 rfl rfl)
theorem dX0_erring_82 : decode cX0_erring 82 = .ok (.lreturn, 1) := dk_173 (dk_at dksX0_erring_3 12 rfl rfl)
theorem dX0_erring_83 : decode cX0_erring 83 = .ok (.aload_n 0, 1) := dk_42 (dk_at dksX0_erring_3 13 rfl rfl)
theorem dX0_erring_84 : decode cX0_erring 84 = .ok (.aload_n 0, 1) := dk_42 (dk_at dksX0_erring_3 14 rfl rfl)
theorem dX0_erring_85 : decode cX0_erring 85 = .ok (.getfield 109, 3) := dk_180 0 109 (dk_at dksX0_erring_3 15 rfl rfl)
theorem dX0_erring_88 : decode cX0_erring 88 = .ok (.aload_n 0, 1) := dk_42 (dk_at dksX0_erring_3 18 rfl rfl)
theorem dX0_erring_89 : decode cX0_erring 89 = .ok (.getfield 76, 3) := dk_180 0 76 (dk_at dksX0_erring_3 19 rfl rfl)
theorem dX0_erring_92 : decode cX0_erring 92 = .ok (.getfield 133, 3) := dk_180 0 133 (dk_at dksX0_erring_4 0 rfl rfl)
theorem dX0_erring_95 : decode cX0_erring 95 = .ok (.invokevirtual 225, 3) := dk_182 0 225 (dk_at dksX0_erring_4 3 rfl rfl)
theorem dX0_erring_98 : decode cX0_erring 98 = .ok (.istore 8, 2) := dk_54 8 (dk_at dksX0_erring_4 6 rfl rfl)
theorem dX0_erring_100 : decode cX0_erring 100 = .ok (.aload_n 0, 1) := dk_42 (dk_at dksX0_erring_4 8 rfl rfl)
theorem dX0_erring_101 : decode cX0_erring 101 = .ok (.getfield 109, 3) := dk_180 0 109 (dk_at dksX0_erring_4 9 rfl rfl)
theorem dX0_erring_104 : decode cX0_erring 104 = .ok (.invokestatic 229, 3) := dk_184 0 229 (dk_at dksX0_erring_4 12 rfl rfl)
theorem dX0_erring_107 : decode cX0_erring 107 = .ok (.istore 9, 2) := dk_54 9 (dk_at dksX0_erring_4 15 rfl rfl)
theorem dX0_erring_109 : decode cX0_erring 109 = .ok (.aload_n 0, 1) := dk_42 (dk_at dksX0_erring_4 17 rfl rfl)
theorem dX0_erring_110 : decode cX0_erring 110 = .ok (.iload_n 2, 1) := dk_28 (dk_at dksX0_erring_4 18 rfl rfl)
theorem dX0_erring_111 : decode cX0_erring 111 = .ok (.iload 8, 2) := dk_21 8 (dk_at dksX0_erring_4 19 rfl rfl)
theorem dX0_erring_113 : decode cX0_erring 113 = .ok (.iload 9, 2) := dk_21 9 (dk_at dksX0_erring_4 21 rfl rfl)
theorem dX0_erring_115 : decode cX0_erring 115 = .ok (.invokevirtual 195, 3) := dk_182 0 195 (dk_at dksX0_erring_5 0 rfl rfl)
theorem dX0_erring_118 : decode cX0_erring 118 = .ok (.istore 10, 2) := dk_54 10 (dk_at dksX0_erring_5 3 rfl rfl)
theorem dX0_erring_120 : decode cX0_erring 120 = .ok (.iload 9, 2) := dk_21 9 (dk_at dksX0_erring_5 5 rfl rfl)
theorem dX0_erring_122 : decode cX0_erring 122 = .ok (.ifCond .ne 7, 3) := dk_154 0 7 (dk_at dksX0_erring_5 7 rfl rfl)
theorem dX0_erring_125 : decode cX0_erring 125 = .ok (.lconst 0, 1) := dk_9 (dk_at dksX0_erring_5 10 rfl rfl)
theorem dX0_erring_126 : decode cX0_erring 126 = .ok (.goto 27, 3) := dk_167 0 27 (dk_at dksX0_erring_5 11 rfl rfl)
theorem dX0_erring_129 : decode cX0_erring 129 = .ok (.ldc2_w 324, 3) := dk_20 1 68 (dk_at dksX0_erring_5 14 rfl rfl)
theorem dX0_erring_132 : decode cX0_erring 132 = .ok (.iload 10, 2) := dk_21 10 (dk_at dksX0_erring_5 17 rfl rfl)
theorem dX0_erring_134 : decode cX0_erring 134 = .ok (.i2l, 1) := dk_133 (dk_at dksX0_erring_5 19 rfl rfl)
theorem dX0_erring_135 : decode cX0_erring 135 = .ok (.lmul, 1) := dk_105 (dk_at dksX0_erring_5 20 rfl rfl)
theorem dX0_erring_136 : decode cX0_erring 136 = .ok (.iload 5, 2) := dk_21 5 (dk_at dksX0_erring_5 21 rfl rfl)
theorem dX0_erring_138 : decode cX0_erring 138 = .ok (.i2l, 1) := dk_133 (dk_at dksX0_erring_5 23 rfl rfl)
theorem dX0_erring_139 : decode cX0_erring 139 = .ok (.ladd, 1) := dk_97 (dk_at dksX0_erring_6 0 rfl rfl)
theorem dX0_erring_140 : decode cX0_erring 140 = .ok (.iload 10, 2) := dk_21 10 (dk_at dksX0_erring_6 1 rfl rfl)
theorem dX0_erring_142 : decode cX0_erring 142 = .ok (.ifCond .le 8, 3) := dk_158 0 8 (dk_at dksX0_erring_6 3 rfl rfl)
theorem dX0_erring_145 : decode cX0_erring 145 = .ok (.iload 6, 2) := dk_21 6 (dk_at dksX0_erring_6 6 rfl rfl)
theorem dX0_erring_147 : decode cX0_erring 147 = .ok (.goto 4, 3) := dk_167 0 4 (dk_at dksX0_erring_6 8 rfl rfl)
theorem dX0_erring_150 : decode cX0_erring 150 = .ok (.iconst 0, 1) := dk_3 (dk_at dksX0_erring_6 11 rfl rfl)
theorem dX0_erring_151 : decode cX0_erring 151 = .ok (.i2l, 1) := dk_133 (dk_at dksX0_erring_6 12 rfl rfl)
theorem dX0_erring_152 : decode cX0_erring 152 = .ok (.lsub, 1) := dk_101 (dk_at dksX0_erring_6 13 rfl rfl)
theorem dX0_erring_153 : decode cX0_erring 153 = .ok (.lstore 11, 2) := dk_55 11 (dk_at dksX0_erring_6 14 rfl rfl)
theorem dX0_erring_155 : decode cX0_erring 155 = .ok (.iload 4, 2) := dk_21 4 (dk_at dksX0_erring_6 16 rfl rfl)
theorem dX0_erring_157 : decode cX0_erring 157 = .ok (.ifCond .ne 8, 3) := dk_154 0 8 (dk_at dksX0_erring_6 18 rfl rfl)
theorem dX0_erring_160 : decode cX0_erring 160 = .ok (.lload 11, 2) := dk_22 11 (dk_at dksX0_erring_6 21 rfl rfl)
theorem dX0_erring_162 : decode cX0_erring 162 = .ok (.goto 6, 3) := dk_167 0 6 (dk_at dksX0_erring_7 0 rfl rfl)
theorem dX0_erring_165 : decode cX0_erring 165 = .ok (.ldc2_w 324, 3) := dk_20 1 68 (dk_at dksX0_erring_7 3 rfl rfl)
theorem dX0_erring_168 : decode cX0_erring 168 = .ok (.lload 11, 2) := dk_22 11 (dk_at dksX0_erring_7 6 rfl rfl)
theorem dX0_erring_170 : decode cX0_erring 170 = .ok (.ldc2_w 324, 3) := dk_20 1 68 (dk_at dksX0_erring_7 8 rfl rfl)
theorem dX0_erring_173 : decode cX0_erring 173 = .ok (.invokestatic 326, 3) := dk_184 1 70 (dk_at dksX0_erring_7 11 rfl rfl)
theorem dX0_erring_176 : decode cX0_erring 176 = .ok (.ldiv, 1) := dk_109 (dk_at dksX0_erring_7 14 rfl rfl)
theorem dX0_erring_177 : decode cX0_erring 177 = .ok (.lreturn, 1) := dk_173 (dk_at dksX0_erring_7 15 rfl rfl)
abbrev cX0_common : ByteArray := prog_1_method_54_code
def yX0_common : MethodName := ⟨RX0, "common", "(JJ)J"⟩
def dkwX0_common_1 : List UInt8 := [22, 8, 55, 6, 167, 255, 234, 22, 4, 173]
abbrev dktX0_common_1 : List UInt8 := dkwX0_common_1 ++ []
def dkwX0_common_0 : List UInt8 := [30, 55, 4, 32, 55, 6, 22, 6, 9, 148, 153, 0, 21, 22, 4, 22, 6, 113, 55, 8, 22, 6, 55, 4]
abbrev dktX0_common_0 : List UInt8 := dkwX0_common_0 ++ dktX0_common_1
theorem dksX0_common_0 : cX0_common.data.toList.drop 0 = dktX0_common_0 := by decide +kernel
theorem dksX0_common_1 : cX0_common.data.toList.drop 24 = dktX0_common_1 := dk_seg dksX0_common_0 24 rfl rfl
theorem dX0_common_0 : decode cX0_common 0 = .ok (.lload_n 0, 1) := dk_30 (dk_at dksX0_common_0 0 rfl rfl)
theorem dX0_common_1 : decode cX0_common 1 = .ok (.lstore 4, 2) := dk_55 4 (dk_at dksX0_common_0 1 rfl rfl)
theorem dX0_common_3 : decode cX0_common 3 = .ok (.lload_n 2, 1) := dk_32 (dk_at dksX0_common_0 3 rfl rfl)
theorem dX0_common_4 : decode cX0_common 4 = .ok (.lstore 6, 2) := dk_55 6 (dk_at dksX0_common_0 4 rfl rfl)
theorem dX0_common_6 : decode cX0_common 6 = .ok (.lload 6, 2) := dk_22 6 (dk_at dksX0_common_0 6 rfl rfl)
theorem dX0_common_8 : decode cX0_common 8 = .ok (.lconst 0, 1) := dk_9 (dk_at dksX0_common_0 8 rfl rfl)
theorem dX0_common_9 : decode cX0_common 9 = .ok (.lcmp, 1) := dk_148 (dk_at dksX0_common_0 9 rfl rfl)
theorem dX0_common_10 : decode cX0_common 10 = .ok (.ifCond .eq 21, 3) := dk_153 0 21 (dk_at dksX0_common_0 10 rfl rfl)
theorem dX0_common_13 : decode cX0_common 13 = .ok (.lload 4, 2) := dk_22 4 (dk_at dksX0_common_0 13 rfl rfl)
theorem dX0_common_15 : decode cX0_common 15 = .ok (.lload 6, 2) := dk_22 6 (dk_at dksX0_common_0 15 rfl rfl)
theorem dX0_common_17 : decode cX0_common 17 = .ok (.lrem, 1) := dk_113 (dk_at dksX0_common_0 17 rfl rfl)
theorem dX0_common_18 : decode cX0_common 18 = .ok (.lstore 8, 2) := dk_55 8 (dk_at dksX0_common_0 18 rfl rfl)
theorem dX0_common_20 : decode cX0_common 20 = .ok (.lload 6, 2) := dk_22 6 (dk_at dksX0_common_0 20 rfl rfl)
theorem dX0_common_22 : decode cX0_common 22 = .ok (.lstore 4, 2) := dk_55 4 (dk_at dksX0_common_0 22 rfl rfl)
theorem dX0_common_24 : decode cX0_common 24 = .ok (.lload 8, 2) := dk_22 8 (dk_at dksX0_common_1 0 rfl rfl)
theorem dX0_common_26 : decode cX0_common 26 = .ok (.lstore 6, 2) := dk_55 6 (dk_at dksX0_common_1 2 rfl rfl)
theorem dX0_common_28 : decode cX0_common 28 = .ok (.goto (-22), 3) := dk_167 255 234 (dk_at dksX0_common_1 4 rfl rfl)
theorem dX0_common_31 : decode cX0_common 31 = .ok (.lload 4, 2) := dk_22 4 (dk_at dksX0_common_1 7 rfl rfl)
theorem dX0_common_33 : decode cX0_common 33 = .ok (.lreturn, 1) := dk_173 (dk_at dksX0_common_1 9 rfl rfl)
abbrev cX0_voice : ByteArray := prog_1_method_56_code
def yX0_voice : MethodName := ⟨RX0, "voice", "(III)I"⟩
def dkwX0_voice_4 : List UInt8 := [25, 4, 29, 42, 180, 0, 86, 182, 1, 85, 172, 58, 5, 42, 16, 6, 182, 0, 160, 172]
abbrev dktX0_voice_4 : List UInt8 := dkwX0_voice_4 ++ []
def dkwX0_voice_3 : List UInt8 := [182, 1, 79, 167, 0, 31, 28, 5, 160, 0, 16, 25, 4, 29, 42, 180, 0, 86, 182, 1, 82, 167, 0, 13]
abbrev dktX0_voice_3 : List UInt8 := dkwX0_voice_3 ++ dktX0_voice_4
def dkwX0_voice_2 : List UInt8 := [42, 180, 0, 86, 182, 1, 75, 167, 0, 49, 28, 4, 160, 0, 16, 25, 4, 29, 42, 180, 0, 86]
abbrev dktX0_voice_2 : List UInt8 := dkwX0_voice_2 ++ dktX0_voice_3
def dkwX0_voice_1 : List UInt8 := [180, 0, 86, 3, 181, 1, 74, 42, 180, 0, 76, 27, 182, 0, 146, 58, 4, 28, 154, 0, 16, 25, 4, 29]
abbrev dktX0_voice_1 : List UInt8 := dkwX0_voice_1 ++ dktX0_voice_2
def dkwX0_voice_0 : List UInt8 := [27, 184, 0, 170, 153, 0, 12, 28, 3, 6, 184, 0, 125, 154, 0, 9, 42, 4, 182, 0, 160, 172, 42]
abbrev dktX0_voice_0 : List UInt8 := dkwX0_voice_0 ++ dktX0_voice_1
theorem dksX0_voice_0 : cX0_voice.data.toList.drop 0 = dktX0_voice_0 := by decide +kernel
theorem dksX0_voice_1 : cX0_voice.data.toList.drop 23 = dktX0_voice_1 := dk_seg dksX0_voice_0 23 rfl rfl
theorem dksX0_voice_2 : cX0_voice.data.toList.drop 47 = dktX0_voice_2 := dk_seg dksX0_voice_1 24 rfl rfl
theorem dksX0_voice_3 : cX0_voice.data.toList.drop 69 = dktX0_voice_3 := dk_seg dksX0_voice_2 22 rfl rfl
theorem dksX0_voice_4 : cX0_voice.data.toList.drop 93 = dktX0_voice_4 := dk_seg dksX0_voice_3 24 rfl rfl
theorem dX0_voice_0 : decode cX0_voice 0 = .ok (.iload_n 1, 1) := dk_27 (dk_at dksX0_voice_0 0 rfl rfl)
theorem dX0_voice_1 : decode cX0_voice 1 = .ok (.invokestatic 170, 3) := dk_184 0 170 (dk_at dksX0_voice_0 1 rfl rfl)
theorem dX0_voice_4 : decode cX0_voice 4 = .ok (.ifCond .eq 12, 3) := dk_153 0 12 (dk_at dksX0_voice_0 4 rfl rfl)
theorem dX0_voice_7 : decode cX0_voice 7 = .ok (.iload_n 2, 1) := dk_28 (dk_at dksX0_voice_0 7 rfl rfl)
theorem dX0_voice_8 : decode cX0_voice 8 = .ok (.iconst 0, 1) := dk_3 (dk_at dksX0_voice_0 8 rfl rfl)
theorem dX0_voice_9 : decode cX0_voice 9 = .ok (.iconst 3, 1) := dk_6 (dk_at dksX0_voice_0 9 rfl rfl)
theorem dX0_voice_10 : decode cX0_voice 10 = .ok (.invokestatic 125, 3) := dk_184 0 125 (dk_at dksX0_voice_0 10 rfl rfl)
theorem dX0_voice_13 : decode cX0_voice 13 = .ok (.ifCond .ne 9, 3) := dk_154 0 9 (dk_at dksX0_voice_0 13 rfl rfl)
theorem dX0_voice_16 : decode cX0_voice 16 = .ok (.aload_n 0, 1) := dk_42 (dk_at dksX0_voice_0 16 rfl rfl)
theorem dX0_voice_17 : decode cX0_voice 17 = .ok (.iconst 1, 1) := dk_4 (dk_at dksX0_voice_0 17 rfl rfl)
theorem dX0_voice_18 : decode cX0_voice 18 = .ok (.invokevirtual 160, 3) := dk_182 0 160 (dk_at dksX0_voice_0 18 rfl rfl)
theorem dX0_voice_21 : decode cX0_voice 21 = .ok (.ireturn, 1) := dk_172 (dk_at dksX0_voice_0 21 rfl rfl)
theorem dX0_voice_22 : decode cX0_voice 22 = .ok (.aload_n 0, 1) := dk_42 (dk_at dksX0_voice_0 22 rfl rfl)
theorem dX0_voice_23 : decode cX0_voice 23 = .ok (.getfield 86, 3) := dk_180 0 86 (dk_at dksX0_voice_1 0 rfl rfl)
theorem dX0_voice_26 : decode cX0_voice 26 = .ok (.iconst 0, 1) := dk_3 (dk_at dksX0_voice_1 3 rfl rfl)
theorem dX0_voice_27 : decode cX0_voice 27 = .ok (.putfield 330, 3) := dk_181 1 74 (dk_at dksX0_voice_1 4 rfl rfl)
theorem dX0_voice_30 : decode cX0_voice 30 = .ok (.aload_n 0, 1) := dk_42 (dk_at dksX0_voice_1 7 rfl rfl)
theorem dX0_voice_31 : decode cX0_voice 31 = .ok (.getfield 76, 3) := dk_180 0 76 (dk_at dksX0_voice_1 8 rfl rfl)
theorem dX0_voice_34 : decode cX0_voice 34 = .ok (.iload_n 1, 1) := dk_27 (dk_at dksX0_voice_1 11 rfl rfl)
theorem dX0_voice_35 : decode cX0_voice 35 = .ok (.invokevirtual 146, 3) := dk_182 0 146 (dk_at dksX0_voice_1 12 rfl rfl)
theorem dX0_voice_38 : decode cX0_voice 38 = .ok (.astore 4, 2) := dk_58 4 (dk_at dksX0_voice_1 15 rfl rfl)
theorem dX0_voice_40 : decode cX0_voice 40 = .ok (.iload_n 2, 1) := dk_28 (dk_at dksX0_voice_1 17 rfl rfl)
theorem dX0_voice_41 : decode cX0_voice 41 = .ok (.ifCond .ne 16, 3) := dk_154 0 16 (dk_at dksX0_voice_1 18 rfl rfl)
theorem dX0_voice_44 : decode cX0_voice 44 = .ok (.aload 4, 2) := dk_25 4 (dk_at dksX0_voice_1 21 rfl rfl)
theorem dX0_voice_46 : decode cX0_voice 46 = .ok (.iload_n 3, 1) := dk_29 (dk_at dksX0_voice_1 23 rfl rfl)
theorem dX0_voice_47 : decode cX0_voice 47 = .ok (.aload_n 0, 1) := dk_42 (dk_at dksX0_voice_2 0 rfl rfl)
theorem dX0_voice_48 : decode cX0_voice 48 = .ok (.getfield 86, 3) := dk_180 0 86 (dk_at dksX0_voice_2 1 rfl rfl)
theorem dX0_voice_51 : decode cX0_voice 51 = .ok (.invokevirtual 331, 3) := dk_182 1 75 (dk_at dksX0_voice_2 4 rfl rfl)
theorem dX0_voice_54 : decode cX0_voice 54 = .ok (.goto 49, 3) := dk_167 0 49 (dk_at dksX0_voice_2 7 rfl rfl)
theorem dX0_voice_57 : decode cX0_voice 57 = .ok (.iload_n 2, 1) := dk_28 (dk_at dksX0_voice_2 10 rfl rfl)
theorem dX0_voice_58 : decode cX0_voice 58 = .ok (.iconst 1, 1) := dk_4 (dk_at dksX0_voice_2 11 rfl rfl)
theorem dX0_voice_59 : decode cX0_voice 59 = .ok (.if_icmp .ne 16, 3) := dk_160 0 16 (dk_at dksX0_voice_2 12 rfl rfl)
theorem dX0_voice_62 : decode cX0_voice 62 = .ok (.aload 4, 2) := dk_25 4 (dk_at dksX0_voice_2 15 rfl rfl)
theorem dX0_voice_64 : decode cX0_voice 64 = .ok (.iload_n 3, 1) := dk_29 (dk_at dksX0_voice_2 17 rfl rfl)
theorem dX0_voice_65 : decode cX0_voice 65 = .ok (.aload_n 0, 1) := dk_42 (dk_at dksX0_voice_2 18 rfl rfl)
theorem dX0_voice_66 : decode cX0_voice 66 = .ok (.getfield 86, 3) := dk_180 0 86 (dk_at dksX0_voice_2 19 rfl rfl)
theorem dX0_voice_69 : decode cX0_voice 69 = .ok (.invokevirtual 335, 3) := dk_182 1 79 (dk_at dksX0_voice_3 0 rfl rfl)
theorem dX0_voice_72 : decode cX0_voice 72 = .ok (.goto 31, 3) := dk_167 0 31 (dk_at dksX0_voice_3 3 rfl rfl)
theorem dX0_voice_75 : decode cX0_voice 75 = .ok (.iload_n 2, 1) := dk_28 (dk_at dksX0_voice_3 6 rfl rfl)
theorem dX0_voice_76 : decode cX0_voice 76 = .ok (.iconst 2, 1) := dk_5 (dk_at dksX0_voice_3 7 rfl rfl)
theorem dX0_voice_77 : decode cX0_voice 77 = .ok (.if_icmp .ne 16, 3) := dk_160 0 16 (dk_at dksX0_voice_3 8 rfl rfl)
theorem dX0_voice_80 : decode cX0_voice 80 = .ok (.aload 4, 2) := dk_25 4 (dk_at dksX0_voice_3 11 rfl rfl)
theorem dX0_voice_82 : decode cX0_voice 82 = .ok (.iload_n 3, 1) := dk_29 (dk_at dksX0_voice_3 13 rfl rfl)
theorem dX0_voice_83 : decode cX0_voice 83 = .ok (.aload_n 0, 1) := dk_42 (dk_at dksX0_voice_3 14 rfl rfl)
theorem dX0_voice_84 : decode cX0_voice 84 = .ok (.getfield 86, 3) := dk_180 0 86 (dk_at dksX0_voice_3 15 rfl rfl)
theorem dX0_voice_87 : decode cX0_voice 87 = .ok (.invokevirtual 338, 3) := dk_182 1 82 (dk_at dksX0_voice_3 18 rfl rfl)
theorem dX0_voice_90 : decode cX0_voice 90 = .ok (.goto 13, 3) := dk_167 0 13 (dk_at dksX0_voice_3 21 rfl rfl)
theorem dX0_voice_93 : decode cX0_voice 93 = .ok (.aload 4, 2) := dk_25 4 (dk_at dksX0_voice_4 0 rfl rfl)
theorem dX0_voice_95 : decode cX0_voice 95 = .ok (.iload_n 3, 1) := dk_29 (dk_at dksX0_voice_4 2 rfl rfl)
theorem dX0_voice_96 : decode cX0_voice 96 = .ok (.aload_n 0, 1) := dk_42 (dk_at dksX0_voice_4 3 rfl rfl)
theorem dX0_voice_97 : decode cX0_voice 97 = .ok (.getfield 86, 3) := dk_180 0 86 (dk_at dksX0_voice_4 4 rfl rfl)
theorem dX0_voice_100 : decode cX0_voice 100 = .ok (.invokevirtual 341, 3) := dk_182 1 85 (dk_at dksX0_voice_4 7 rfl rfl)
theorem dX0_voice_103 : decode cX0_voice 103 = .ok (.ireturn, 1) := dk_172 (dk_at dksX0_voice_4 10 rfl rfl)
theorem dX0_voice_104 : decode cX0_voice 104 = .ok (.astore 5, 2) := dk_58 5 (dk_at dksX0_voice_4 11 rfl rfl)
theorem dX0_voice_106 : decode cX0_voice 106 = .ok (.aload_n 0, 1) := dk_42 (dk_at dksX0_voice_4 13 rfl rfl)
theorem dX0_voice_107 : decode cX0_voice 107 = .ok (.bipush 6, 2) := dk_16 6 (dk_at dksX0_voice_4 14 rfl rfl)
theorem dX0_voice_109 : decode cX0_voice 109 = .ok (.invokevirtual 160, 3) := dk_182 0 160 (dk_at dksX0_voice_4 16 rfl rfl)
theorem dX0_voice_112 : decode cX0_voice 112 = .ok (.ireturn, 1) := dk_172 (dk_at dksX0_voice_4 19 rfl rfl)
abbrev cX0_body : ByteArray := prog_1_method_57_code
def yX0_body : MethodName := ⟨RX0, "body", "(I)I"⟩
def dkwX0_body_1 : List UInt8 := [27, 51, 167, 0, 8, 42, 5, 182, 0, 160, 172]
abbrev dktX0_body_1 : List UInt8 := dkwX0_body_1 ++ []
def dkwX0_body_0 : List UInt8 := [27, 3, 42, 180, 0, 86, 180, 1, 74, 4, 100, 184, 0, 125, 153, 0, 15, 42, 180, 0, 86, 180, 1, 90]
abbrev dktX0_body_0 : List UInt8 := dkwX0_body_0 ++ dktX0_body_1
theorem dksX0_body_0 : cX0_body.data.toList.drop 0 = dktX0_body_0 := by decide +kernel
theorem dksX0_body_1 : cX0_body.data.toList.drop 24 = dktX0_body_1 := dk_seg dksX0_body_0 24 rfl rfl
theorem dX0_body_0 : decode cX0_body 0 = .ok (.iload_n 1, 1) := dk_27 (dk_at dksX0_body_0 0 rfl rfl)
theorem dX0_body_1 : decode cX0_body 1 = .ok (.iconst 0, 1) := dk_3 (dk_at dksX0_body_0 1 rfl rfl)
theorem dX0_body_2 : decode cX0_body 2 = .ok (.aload_n 0, 1) := dk_42 (dk_at dksX0_body_0 2 rfl rfl)
theorem dX0_body_3 : decode cX0_body 3 = .ok (.getfield 86, 3) := dk_180 0 86 (dk_at dksX0_body_0 3 rfl rfl)
theorem dX0_body_6 : decode cX0_body 6 = .ok (.getfield 330, 3) := dk_180 1 74 (dk_at dksX0_body_0 6 rfl rfl)
theorem dX0_body_9 : decode cX0_body 9 = .ok (.iconst 1, 1) := dk_4 (dk_at dksX0_body_0 9 rfl rfl)
theorem dX0_body_10 : decode cX0_body 10 = .ok (.isub, 1) := dk_100 (dk_at dksX0_body_0 10 rfl rfl)
theorem dX0_body_11 : decode cX0_body 11 = .ok (.invokestatic 125, 3) := dk_184 0 125 (dk_at dksX0_body_0 11 rfl rfl)
theorem dX0_body_14 : decode cX0_body 14 = .ok (.ifCond .eq 15, 3) := dk_153 0 15 (dk_at dksX0_body_0 14 rfl rfl)
theorem dX0_body_17 : decode cX0_body 17 = .ok (.aload_n 0, 1) := dk_42 (dk_at dksX0_body_0 17 rfl rfl)
theorem dX0_body_18 : decode cX0_body 18 = .ok (.getfield 86, 3) := dk_180 0 86 (dk_at dksX0_body_0 18 rfl rfl)
theorem dX0_body_21 : decode cX0_body 21 = .ok (.getfield 346, 3) := dk_180 1 90 (dk_at dksX0_body_0 21 rfl rfl)
theorem dX0_body_24 : decode cX0_body 24 = .ok (.iload_n 1, 1) := dk_27 (dk_at dksX0_body_1 0 rfl rfl)
theorem dX0_body_25 : decode cX0_body 25 = .ok (.baload, 1) := dk_51 (dk_at dksX0_body_1 1 rfl rfl)
theorem dX0_body_26 : decode cX0_body 26 = .ok (.goto 8, 3) := dk_167 0 8 (dk_at dksX0_body_1 2 rfl rfl)
theorem dX0_body_29 : decode cX0_body 29 = .ok (.aload_n 0, 1) := dk_42 (dk_at dksX0_body_1 5 rfl rfl)
theorem dX0_body_30 : decode cX0_body 30 = .ok (.iconst 2, 1) := dk_5 (dk_at dksX0_body_1 6 rfl rfl)
theorem dX0_body_31 : decode cX0_body 31 = .ok (.invokevirtual 160, 3) := dk_182 0 160 (dk_at dksX0_body_1 7 rfl rfl)
theorem dX0_body_34 : decode cX0_body 34 = .ok (.ireturn, 1) := dk_172 (dk_at dksX0_body_1 10 rfl rfl)
abbrev cX0_sheet : ByteArray := prog_1_method_61_code
def yX0_sheet : MethodName := ⟨RX0, "sheet", "(III)I"⟩
def dkwX0_sheet_4 : List UInt8 := [4, 172, 58, 4, 42, 6, 182, 0, 160, 172]
abbrev dktX0_sheet_4 : List UInt8 := dkwX0_sheet_4 ++ []
def dkwX0_sheet_3 : List UInt8 := [29, 188, 8, 167, 0, 18, 28, 16, 16, 160, 0, 9, 29, 188, 9, 167, 0, 6, 29, 188, 10, 181, 0, 187]
abbrev dktX0_sheet_3 : List UInt8 := dkwX0_sheet_3 ++ dktX0_sheet_4
def dkwX0_sheet_2 : List UInt8 := [182, 0, 160, 172, 42, 180, 0, 96, 27, 50, 28, 154, 0, 7, 1, 167, 0, 30, 28, 16, 8, 160, 0, 9]
abbrev dktX0_sheet_2 : List UInt8 := dkwX0_sheet_2 ++ dktX0_sheet_3
def dkwX0_sheet_1 : List UInt8 := [16, 32, 159, 0, 9, 42, 4, 182, 0, 160, 172, 28, 153, 0, 15, 29, 16, 24, 164, 0, 9, 42, 4]
abbrev dktX0_sheet_1 : List UInt8 := dkwX0_sheet_1 ++ dktX0_sheet_2
def dkwX0_sheet_0 : List UInt8 := [27, 184, 0, 241, 153, 0, 25, 28, 153, 0, 27, 28, 16, 8, 159, 0, 21, 28, 16, 16, 159, 0, 15, 28]
abbrev dktX0_sheet_0 : List UInt8 := dkwX0_sheet_0 ++ dktX0_sheet_1
theorem dksX0_sheet_0 : cX0_sheet.data.toList.drop 0 = dktX0_sheet_0 := by decide +kernel
theorem dksX0_sheet_1 : cX0_sheet.data.toList.drop 24 = dktX0_sheet_1 := dk_seg dksX0_sheet_0 24 rfl rfl
theorem dksX0_sheet_2 : cX0_sheet.data.toList.drop 47 = dktX0_sheet_2 := dk_seg dksX0_sheet_1 23 rfl rfl
theorem dksX0_sheet_3 : cX0_sheet.data.toList.drop 71 = dktX0_sheet_3 := dk_seg dksX0_sheet_2 24 rfl rfl
theorem dksX0_sheet_4 : cX0_sheet.data.toList.drop 95 = dktX0_sheet_4 := dk_seg dksX0_sheet_3 24 rfl rfl
theorem dX0_sheet_0 : decode cX0_sheet 0 = .ok (.iload_n 1, 1) := dk_27 (dk_at dksX0_sheet_0 0 rfl rfl)
theorem dX0_sheet_1 : decode cX0_sheet 1 = .ok (.invokestatic 241, 3) := dk_184 0 241 (dk_at dksX0_sheet_0 1 rfl rfl)
theorem dX0_sheet_4 : decode cX0_sheet 4 = .ok (.ifCond .eq 25, 3) := dk_153 0 25 (dk_at dksX0_sheet_0 4 rfl rfl)
theorem dX0_sheet_7 : decode cX0_sheet 7 = .ok (.iload_n 2, 1) := dk_28 (dk_at dksX0_sheet_0 7 rfl rfl)
theorem dX0_sheet_8 : decode cX0_sheet 8 = .ok (.ifCond .eq 27, 3) := dk_153 0 27 (dk_at dksX0_sheet_0 8 rfl rfl)
theorem dX0_sheet_11 : decode cX0_sheet 11 = .ok (.iload_n 2, 1) := dk_28 (dk_at dksX0_sheet_0 11 rfl rfl)
theorem dX0_sheet_12 : decode cX0_sheet 12 = .ok (.bipush 8, 2) := dk_16 8 (dk_at dksX0_sheet_0 12 rfl rfl)
theorem dX0_sheet_14 : decode cX0_sheet 14 = .ok (.if_icmp .eq 21, 3) := dk_159 0 21 (dk_at dksX0_sheet_0 14 rfl rfl)
theorem dX0_sheet_17 : decode cX0_sheet 17 = .ok (.iload_n 2, 1) := dk_28 (dk_at dksX0_sheet_0 17 rfl rfl)
theorem dX0_sheet_18 : decode cX0_sheet 18 = .ok (.bipush 16, 2) := dk_16 16 (dk_at dksX0_sheet_0 18 rfl rfl)
theorem dX0_sheet_20 : decode cX0_sheet 20 = .ok (.if_icmp .eq 15, 3) := dk_159 0 15 (dk_at dksX0_sheet_0 20 rfl rfl)
theorem dX0_sheet_23 : decode cX0_sheet 23 = .ok (.iload_n 2, 1) := dk_28 (dk_at dksX0_sheet_0 23 rfl rfl)
theorem dX0_sheet_24 : decode cX0_sheet 24 = .ok (.bipush 32, 2) := dk_16 32 (dk_at dksX0_sheet_1 0 rfl rfl)
theorem dX0_sheet_26 : decode cX0_sheet 26 = .ok (.if_icmp .eq 9, 3) := dk_159 0 9 (dk_at dksX0_sheet_1 2 rfl rfl)
theorem dX0_sheet_29 : decode cX0_sheet 29 = .ok (.aload_n 0, 1) := dk_42 (dk_at dksX0_sheet_1 5 rfl rfl)
theorem dX0_sheet_30 : decode cX0_sheet 30 = .ok (.iconst 1, 1) := dk_4 (dk_at dksX0_sheet_1 6 rfl rfl)
theorem dX0_sheet_31 : decode cX0_sheet 31 = .ok (.invokevirtual 160, 3) := dk_182 0 160 (dk_at dksX0_sheet_1 7 rfl rfl)
theorem dX0_sheet_34 : decode cX0_sheet 34 = .ok (.ireturn, 1) := dk_172 (dk_at dksX0_sheet_1 10 rfl rfl)
theorem dX0_sheet_35 : decode cX0_sheet 35 = .ok (.iload_n 2, 1) := dk_28 (dk_at dksX0_sheet_1 11 rfl rfl)
theorem dX0_sheet_36 : decode cX0_sheet 36 = .ok (.ifCond .eq 15, 3) := dk_153 0 15 (dk_at dksX0_sheet_1 12 rfl rfl)
theorem dX0_sheet_39 : decode cX0_sheet 39 = .ok (.iload_n 3, 1) := dk_29 (dk_at dksX0_sheet_1 15 rfl rfl)
theorem dX0_sheet_40 : decode cX0_sheet 40 = .ok (.bipush 24, 2) := dk_16 24 (dk_at dksX0_sheet_1 16 rfl rfl)
theorem dX0_sheet_42 : decode cX0_sheet 42 = .ok (.if_icmp .le 9, 3) := dk_164 0 9 (dk_at dksX0_sheet_1 18 rfl rfl)
theorem dX0_sheet_45 : decode cX0_sheet 45 = .ok (.aload_n 0, 1) := dk_42 (dk_at dksX0_sheet_1 21 rfl rfl)
theorem dX0_sheet_46 : decode cX0_sheet 46 = .ok (.iconst 1, 1) := dk_4 (dk_at dksX0_sheet_1 22 rfl rfl)
theorem dX0_sheet_47 : decode cX0_sheet 47 = .ok (.invokevirtual 160, 3) := dk_182 0 160 (dk_at dksX0_sheet_2 0 rfl rfl)
theorem dX0_sheet_50 : decode cX0_sheet 50 = .ok (.ireturn, 1) := dk_172 (dk_at dksX0_sheet_2 3 rfl rfl)
theorem dX0_sheet_51 : decode cX0_sheet 51 = .ok (.aload_n 0, 1) := dk_42 (dk_at dksX0_sheet_2 4 rfl rfl)
theorem dX0_sheet_52 : decode cX0_sheet 52 = .ok (.getfield 96, 3) := dk_180 0 96 (dk_at dksX0_sheet_2 5 rfl rfl)
theorem dX0_sheet_55 : decode cX0_sheet 55 = .ok (.iload_n 1, 1) := dk_27 (dk_at dksX0_sheet_2 8 rfl rfl)
theorem dX0_sheet_56 : decode cX0_sheet 56 = .ok (.aaload, 1) := dk_50 (dk_at dksX0_sheet_2 9 rfl rfl)
theorem dX0_sheet_57 : decode cX0_sheet 57 = .ok (.iload_n 2, 1) := dk_28 (dk_at dksX0_sheet_2 10 rfl rfl)
theorem dX0_sheet_58 : decode cX0_sheet 58 = .ok (.ifCond .ne 7, 3) := dk_154 0 7 (dk_at dksX0_sheet_2 11 rfl rfl)
theorem dX0_sheet_61 : decode cX0_sheet 61 = .ok (.aconst_null, 1) := dk_1 (dk_at dksX0_sheet_2 14 rfl rfl)
theorem dX0_sheet_62 : decode cX0_sheet 62 = .ok (.goto 30, 3) := dk_167 0 30 (dk_at dksX0_sheet_2 15 rfl rfl)
theorem dX0_sheet_65 : decode cX0_sheet 65 = .ok (.iload_n 2, 1) := dk_28 (dk_at dksX0_sheet_2 18 rfl rfl)
theorem dX0_sheet_66 : decode cX0_sheet 66 = .ok (.bipush 8, 2) := dk_16 8 (dk_at dksX0_sheet_2 19 rfl rfl)
theorem dX0_sheet_68 : decode cX0_sheet 68 = .ok (.if_icmp .ne 9, 3) := dk_160 0 9 (dk_at dksX0_sheet_2 21 rfl rfl)
theorem dX0_sheet_71 : decode cX0_sheet 71 = .ok (.iload_n 3, 1) := dk_29 (dk_at dksX0_sheet_3 0 rfl rfl)
theorem dX0_sheet_72 : decode cX0_sheet 72 = .ok (.newarray .byte, 2) := dk_188_8 (dk_at dksX0_sheet_3 1 rfl rfl)
theorem dX0_sheet_74 : decode cX0_sheet 74 = .ok (.goto 18, 3) := dk_167 0 18 (dk_at dksX0_sheet_3 3 rfl rfl)
theorem dX0_sheet_77 : decode cX0_sheet 77 = .ok (.iload_n 2, 1) := dk_28 (dk_at dksX0_sheet_3 6 rfl rfl)
theorem dX0_sheet_78 : decode cX0_sheet 78 = .ok (.bipush 16, 2) := dk_16 16 (dk_at dksX0_sheet_3 7 rfl rfl)
theorem dX0_sheet_80 : decode cX0_sheet 80 = .ok (.if_icmp .ne 9, 3) := dk_160 0 9 (dk_at dksX0_sheet_3 9 rfl rfl)
theorem dX0_sheet_83 : decode cX0_sheet 83 = .ok (.iload_n 3, 1) := dk_29 (dk_at dksX0_sheet_3 12 rfl rfl)
theorem dX0_sheet_84 : decode cX0_sheet 84 = .ok (.newarray .short, 2) := dk_188_9 (dk_at dksX0_sheet_3 13 rfl rfl)
theorem dX0_sheet_86 : decode cX0_sheet 86 = .ok (.goto 6, 3) := dk_167 0 6 (dk_at dksX0_sheet_3 15 rfl rfl)
theorem dX0_sheet_89 : decode cX0_sheet 89 = .ok (.iload_n 3, 1) := dk_29 (dk_at dksX0_sheet_3 18 rfl rfl)
theorem dX0_sheet_90 : decode cX0_sheet 90 = .ok (.newarray .int, 2) := dk_188_10 (dk_at dksX0_sheet_3 19 rfl rfl)
theorem dX0_sheet_92 : decode cX0_sheet 92 = .ok (.putfield 187, 3) := dk_181 0 187 (dk_at dksX0_sheet_3 21 rfl rfl)
theorem dX0_sheet_95 : decode cX0_sheet 95 = .ok (.iconst 1, 1) := dk_4 (dk_at dksX0_sheet_4 0 rfl rfl)
theorem dX0_sheet_96 : decode cX0_sheet 96 = .ok (.ireturn, 1) := dk_172 (dk_at dksX0_sheet_4 1 rfl rfl)
theorem dX0_sheet_97 : decode cX0_sheet 97 = .ok (.astore 4, 2) := dk_58 4 (dk_at dksX0_sheet_4 2 rfl rfl)
theorem dX0_sheet_99 : decode cX0_sheet 99 = .ok (.aload_n 0, 1) := dk_42 (dk_at dksX0_sheet_4 4 rfl rfl)
theorem dX0_sheet_100 : decode cX0_sheet 100 = .ok (.iconst 3, 1) := dk_6 (dk_at dksX0_sheet_4 5 rfl rfl)
theorem dX0_sheet_101 : decode cX0_sheet 101 = .ok (.invokevirtual 160, 3) := dk_182 0 160 (dk_at dksX0_sheet_4 6 rfl rfl)
theorem dX0_sheet_104 : decode cX0_sheet 104 = .ok (.ireturn, 1) := dk_172 (dk_at dksX0_sheet_4 9 rfl rfl)
abbrev cX0_put : ByteArray := prog_1_method_62_code
def yX0_put : MethodName := ⟨RX0, "put", "(III)I"⟩
def dkwX0_put_4 : List UInt8 := [167, 0, 11, 25, 4, 192, 1, 95, 28, 29, 79, 4, 172]
abbrev dktX0_put_4 : List UInt8 := dkwX0_put_4 ++ []
def dkwX0_put_3 : List UInt8 := [145, 84, 167, 0, 31, 25, 4, 193, 1, 94, 153, 0, 15, 25, 4, 192, 1, 94, 28, 29, 147, 86]
abbrev dktX0_put_3 : List UInt8 := dkwX0_put_3 ++ dktX0_put_4
def dkwX0_put_2 : List UInt8 := [154, 0, 9, 42, 4, 182, 0, 160, 172, 25, 4, 193, 1, 93, 153, 0, 15, 25, 4, 192, 1, 93, 28, 29]
abbrev dktX0_put_2 : List UInt8 := dkwX0_put_2 ++ dktX0_put_3
def dkwX0_put_1 : List UInt8 := [25, 4, 199, 0, 9, 42, 5, 182, 0, 160, 172, 28, 3, 25, 4, 184, 0, 233, 4, 100, 184, 0, 125]
abbrev dktX0_put_1 : List UInt8 := dkwX0_put_1 ++ dktX0_put_2
def dkwX0_put_0 : List UInt8 := [27, 184, 0, 241, 154, 0, 9, 42, 4, 182, 0, 160, 172, 42, 180, 0, 96, 27, 50, 180, 0, 187, 58, 4]
abbrev dktX0_put_0 : List UInt8 := dkwX0_put_0 ++ dktX0_put_1
theorem dksX0_put_0 : cX0_put.data.toList.drop 0 = dktX0_put_0 := by decide +kernel
theorem dksX0_put_1 : cX0_put.data.toList.drop 24 = dktX0_put_1 := dk_seg dksX0_put_0 24 rfl rfl
theorem dksX0_put_2 : cX0_put.data.toList.drop 47 = dktX0_put_2 := dk_seg dksX0_put_1 23 rfl rfl
theorem dksX0_put_3 : cX0_put.data.toList.drop 71 = dktX0_put_3 := dk_seg dksX0_put_2 24 rfl rfl
theorem dksX0_put_4 : cX0_put.data.toList.drop 93 = dktX0_put_4 := dk_seg dksX0_put_3 22 rfl rfl
theorem dX0_put_0 : decode cX0_put 0 = .ok (.iload_n 1, 1) := dk_27 (dk_at dksX0_put_0 0 rfl rfl)
theorem dX0_put_1 : decode cX0_put 1 = .ok (.invokestatic 241, 3) := dk_184 0 241 (dk_at dksX0_put_0 1 rfl rfl)
theorem dX0_put_4 : decode cX0_put 4 = .ok (.ifCond .ne 9, 3) := dk_154 0 9 (dk_at dksX0_put_0 4 rfl rfl)
theorem dX0_put_7 : decode cX0_put 7 = .ok (.aload_n 0, 1) := dk_42 (dk_at dksX0_put_0 7 rfl rfl)
theorem dX0_put_8 : decode cX0_put 8 = .ok (.iconst 1, 1) := dk_4 (dk_at dksX0_put_0 8 rfl rfl)
theorem dX0_put_9 : decode cX0_put 9 = .ok (.invokevirtual 160, 3) := dk_182 0 160 (dk_at dksX0_put_0 9 rfl rfl)
theorem dX0_put_12 : decode cX0_put 12 = .ok (.ireturn, 1) := dk_172 (dk_at dksX0_put_0 12 rfl rfl)
theorem dX0_put_13 : decode cX0_put 13 = .ok (.aload_n 0, 1) := dk_42 (dk_at dksX0_put_0 13 rfl rfl)
theorem dX0_put_14 : decode cX0_put 14 = .ok (.getfield 96, 3) := dk_180 0 96 (dk_at dksX0_put_0 14 rfl rfl)
theorem dX0_put_17 : decode cX0_put 17 = .ok (.iload_n 1, 1) := dk_27 (dk_at dksX0_put_0 17 rfl rfl)
theorem dX0_put_18 : decode cX0_put 18 = .ok (.aaload, 1) := dk_50 (dk_at dksX0_put_0 18 rfl rfl)
theorem dX0_put_19 : decode cX0_put 19 = .ok (.getfield 187, 3) := dk_180 0 187 (dk_at dksX0_put_0 19 rfl rfl)
theorem dX0_put_22 : decode cX0_put 22 = .ok (.astore 4, 2) := dk_58 4 (dk_at dksX0_put_0 22 rfl rfl)
theorem dX0_put_24 : decode cX0_put 24 = .ok (.aload 4, 2) := dk_25 4 (dk_at dksX0_put_1 0 rfl rfl)
theorem dX0_put_26 : decode cX0_put 26 = .ok (.ifnonnull 9, 3) := dk_199 0 9 (dk_at dksX0_put_1 2 rfl rfl)
theorem dX0_put_29 : decode cX0_put 29 = .ok (.aload_n 0, 1) := dk_42 (dk_at dksX0_put_1 5 rfl rfl)
theorem dX0_put_30 : decode cX0_put 30 = .ok (.iconst 2, 1) := dk_5 (dk_at dksX0_put_1 6 rfl rfl)
theorem dX0_put_31 : decode cX0_put 31 = .ok (.invokevirtual 160, 3) := dk_182 0 160 (dk_at dksX0_put_1 7 rfl rfl)
theorem dX0_put_34 : decode cX0_put 34 = .ok (.ireturn, 1) := dk_172 (dk_at dksX0_put_1 10 rfl rfl)
theorem dX0_put_35 : decode cX0_put 35 = .ok (.iload_n 2, 1) := dk_28 (dk_at dksX0_put_1 11 rfl rfl)
theorem dX0_put_36 : decode cX0_put 36 = .ok (.iconst 0, 1) := dk_3 (dk_at dksX0_put_1 12 rfl rfl)
theorem dX0_put_37 : decode cX0_put 37 = .ok (.aload 4, 2) := dk_25 4 (dk_at dksX0_put_1 13 rfl rfl)
theorem dX0_put_39 : decode cX0_put 39 = .ok (.invokestatic 233, 3) := dk_184 0 233 (dk_at dksX0_put_1 15 rfl rfl)
theorem dX0_put_42 : decode cX0_put 42 = .ok (.iconst 1, 1) := dk_4 (dk_at dksX0_put_1 18 rfl rfl)
theorem dX0_put_43 : decode cX0_put 43 = .ok (.isub, 1) := dk_100 (dk_at dksX0_put_1 19 rfl rfl)
theorem dX0_put_44 : decode cX0_put 44 = .ok (.invokestatic 125, 3) := dk_184 0 125 (dk_at dksX0_put_1 20 rfl rfl)
theorem dX0_put_47 : decode cX0_put 47 = .ok (.ifCond .ne 9, 3) := dk_154 0 9 (dk_at dksX0_put_2 0 rfl rfl)
theorem dX0_put_50 : decode cX0_put 50 = .ok (.aload_n 0, 1) := dk_42 (dk_at dksX0_put_2 3 rfl rfl)
theorem dX0_put_51 : decode cX0_put 51 = .ok (.iconst 1, 1) := dk_4 (dk_at dksX0_put_2 4 rfl rfl)
theorem dX0_put_52 : decode cX0_put 52 = .ok (.invokevirtual 160, 3) := dk_182 0 160 (dk_at dksX0_put_2 5 rfl rfl)
theorem dX0_put_55 : decode cX0_put 55 = .ok (.ireturn, 1) := dk_172 (dk_at dksX0_put_2 8 rfl rfl)
theorem dX0_put_56 : decode cX0_put 56 = .ok (.aload 4, 2) := dk_25 4 (dk_at dksX0_put_2 9 rfl rfl)
theorem dX0_put_58 : decode cX0_put 58 = .ok (.instanceof 349, 3) := dk_193 1 93 (dk_at dksX0_put_2 11 rfl rfl)
theorem dX0_put_61 : decode cX0_put 61 = .ok (.ifCond .eq 15, 3) := dk_153 0 15 (dk_at dksX0_put_2 14 rfl rfl)
theorem dX0_put_64 : decode cX0_put 64 = .ok (.aload 4, 2) := dk_25 4 (dk_at dksX0_put_2 17 rfl rfl)
theorem dX0_put_66 : decode cX0_put 66 = .ok (.checkcast 349, 3) := dk_192 1 93 (dk_at dksX0_put_2 19 rfl rfl)
theorem dX0_put_69 : decode cX0_put 69 = .ok (.iload_n 2, 1) := dk_28 (dk_at dksX0_put_2 22 rfl rfl)
theorem dX0_put_70 : decode cX0_put 70 = .ok (.iload_n 3, 1) := dk_29 (dk_at dksX0_put_2 23 rfl rfl)
theorem dX0_put_71 : decode cX0_put 71 = .ok (.i2b, 1) := dk_145 (dk_at dksX0_put_3 0 rfl rfl)
theorem dX0_put_72 : decode cX0_put 72 = .ok (.bastore, 1) := dk_84 (dk_at dksX0_put_3 1 rfl rfl)
theorem dX0_put_73 : decode cX0_put 73 = .ok (.goto 31, 3) := dk_167 0 31 (dk_at dksX0_put_3 2 rfl rfl)
theorem dX0_put_76 : decode cX0_put 76 = .ok (.aload 4, 2) := dk_25 4 (dk_at dksX0_put_3 5 rfl rfl)
theorem dX0_put_78 : decode cX0_put 78 = .ok (.instanceof 350, 3) := dk_193 1 94 (dk_at dksX0_put_3 7 rfl rfl)
theorem dX0_put_81 : decode cX0_put 81 = .ok (.ifCond .eq 15, 3) := dk_153 0 15 (dk_at dksX0_put_3 10 rfl rfl)
theorem dX0_put_84 : decode cX0_put 84 = .ok (.aload 4, 2) := dk_25 4 (dk_at dksX0_put_3 13 rfl rfl)
theorem dX0_put_86 : decode cX0_put 86 = .ok (.checkcast 350, 3) := dk_192 1 94 (dk_at dksX0_put_3 15 rfl rfl)
theorem dX0_put_89 : decode cX0_put 89 = .ok (.iload_n 2, 1) := dk_28 (dk_at dksX0_put_3 18 rfl rfl)
theorem dX0_put_90 : decode cX0_put 90 = .ok (.iload_n 3, 1) := dk_29 (dk_at dksX0_put_3 19 rfl rfl)
theorem dX0_put_91 : decode cX0_put 91 = .ok (.i2s, 1) := dk_147 (dk_at dksX0_put_3 20 rfl rfl)
theorem dX0_put_92 : decode cX0_put 92 = .ok (.sastore, 1) := dk_86 (dk_at dksX0_put_3 21 rfl rfl)
theorem dX0_put_93 : decode cX0_put 93 = .ok (.goto 11, 3) := dk_167 0 11 (dk_at dksX0_put_4 0 rfl rfl)
theorem dX0_put_96 : decode cX0_put 96 = .ok (.aload 4, 2) := dk_25 4 (dk_at dksX0_put_4 3 rfl rfl)
theorem dX0_put_98 : decode cX0_put 98 = .ok (.checkcast 351, 3) := dk_192 1 95 (dk_at dksX0_put_4 5 rfl rfl)
theorem dX0_put_101 : decode cX0_put 101 = .ok (.iload_n 2, 1) := dk_28 (dk_at dksX0_put_4 8 rfl rfl)
theorem dX0_put_102 : decode cX0_put 102 = .ok (.iload_n 3, 1) := dk_29 (dk_at dksX0_put_4 9 rfl rfl)
theorem dX0_put_103 : decode cX0_put 103 = .ok (.iastore, 1) := dk_79 (dk_at dksX0_put_4 10 rfl rfl)
theorem dX0_put_104 : decode cX0_put 104 = .ok (.iconst 1, 1) := dk_4 (dk_at dksX0_put_4 11 rfl rfl)
theorem dX0_put_105 : decode cX0_put 105 = .ok (.ireturn, 1) := dk_172 (dk_at dksX0_put_4 12 rfl rfl)
abbrev cX0_move : ByteArray := prog_1_method_63_code
def yX0_move : MethodName := ⟨RX0, "move", "(IIIII)I"⟩
def dkwX0_move_5 : List UInt8 := [4, 182, 0, 160, 172, 25, 6, 28, 25, 7, 21, 4, 21, 5, 184, 1, 33, 21, 5, 172]
abbrev dktX0_move_5 : List UInt8 := dkwX0_move_5 ++ []
def dkwX0_move_4 : List UInt8 := [25, 6, 184, 0, 233, 28, 100, 163, 0, 16, 21, 5, 25, 7, 184, 0, 233, 21, 4, 100, 164, 0, 9, 42]
abbrev dktX0_move_4 : List UInt8 := dkwX0_move_4 ++ dktX0_move_5
def dkwX0_move_3 : List UInt8 := [58, 8, 42, 8, 182, 0, 160, 172, 21, 5, 155, 0, 37, 28, 155, 0, 33, 21, 4, 155, 0, 28, 21, 5]
abbrev dktX0_move_3 : List UInt8 := dkwX0_move_3 ++ dktX0_move_4
def dkwX0_move_2 : List UInt8 := [25, 7, 199, 0, 9, 42, 5, 182, 0, 160, 172, 25, 6, 3, 25, 7, 3, 3, 184, 1, 33, 167, 0, 11]
abbrev dktX0_move_2 : List UInt8 := dkwX0_move_2 ++ dktX0_move_3
def dkwX0_move_1 : List UInt8 := [27, 50, 180, 0, 187, 58, 6, 42, 180, 0, 96, 29, 50, 180, 0, 187, 58, 7, 25, 6, 198, 0, 8]
abbrev dktX0_move_1 : List UInt8 := dkwX0_move_1 ++ dktX0_move_2
def dkwX0_move_0 : List UInt8 := [27, 184, 0, 241, 153, 0, 10, 29, 184, 0, 241, 154, 0, 9, 42, 4, 182, 0, 160, 172, 42, 180, 0, 96]
abbrev dktX0_move_0 : List UInt8 := dkwX0_move_0 ++ dktX0_move_1
theorem dksX0_move_0 : cX0_move.data.toList.drop 0 = dktX0_move_0 := by decide +kernel
theorem dksX0_move_1 : cX0_move.data.toList.drop 24 = dktX0_move_1 := dk_seg dksX0_move_0 24 rfl rfl
theorem dksX0_move_2 : cX0_move.data.toList.drop 47 = dktX0_move_2 := dk_seg dksX0_move_1 23 rfl rfl
theorem dksX0_move_3 : cX0_move.data.toList.drop 71 = dktX0_move_3 := dk_seg dksX0_move_2 24 rfl rfl
theorem dksX0_move_4 : cX0_move.data.toList.drop 95 = dktX0_move_4 := dk_seg dksX0_move_3 24 rfl rfl
theorem dksX0_move_5 : cX0_move.data.toList.drop 119 = dktX0_move_5 := dk_seg dksX0_move_4 24 rfl rfl
theorem dX0_move_0 : decode cX0_move 0 = .ok (.iload_n 1, 1) := dk_27 (dk_at dksX0_move_0 0 rfl rfl)
theorem dX0_move_1 : decode cX0_move 1 = .ok (.invokestatic 241, 3) := dk_184 0 241 (dk_at dksX0_move_0 1 rfl rfl)
theorem dX0_move_4 : decode cX0_move 4 = .ok (.ifCond .eq 10, 3) := dk_153 0 10 (dk_at dksX0_move_0 4 rfl rfl)
theorem dX0_move_7 : decode cX0_move 7 = .ok (.iload_n 3, 1) := dk_29 (dk_at dksX0_move_0 7 rfl rfl)
theorem dX0_move_8 : decode cX0_move 8 = .ok (.invokestatic 241, 3) := dk_184 0 241 (dk_at dksX0_move_0 8 rfl rfl)
theorem dX0_move_11 : decode cX0_move 11 = .ok (.ifCond .ne 9, 3) := dk_154 0 9 (dk_at dksX0_move_0 11 rfl rfl)
theorem dX0_move_14 : decode cX0_move 14 = .ok (.aload_n 0, 1) := dk_42 (dk_at dksX0_move_0 14 rfl rfl)
theorem dX0_move_15 : decode cX0_move 15 = .ok (.iconst 1, 1) := dk_4 (dk_at dksX0_move_0 15 rfl rfl)
theorem dX0_move_16 : decode cX0_move 16 = .ok (.invokevirtual 160, 3) := dk_182 0 160 (dk_at dksX0_move_0 16 rfl rfl)
theorem dX0_move_19 : decode cX0_move 19 = .ok (.ireturn, 1) := dk_172 (dk_at dksX0_move_0 19 rfl rfl)
theorem dX0_move_20 : decode cX0_move 20 = .ok (.aload_n 0, 1) := dk_42 (dk_at dksX0_move_0 20 rfl rfl)
theorem dX0_move_21 : decode cX0_move 21 = .ok (.getfield 96, 3) := dk_180 0 96 (dk_at dksX0_move_0 21 rfl rfl)
theorem dX0_move_24 : decode cX0_move 24 = .ok (.iload_n 1, 1) := dk_27 (dk_at dksX0_move_1 0 rfl rfl)
theorem dX0_move_25 : decode cX0_move 25 = .ok (.aaload, 1) := dk_50 (dk_at dksX0_move_1 1 rfl rfl)
theorem dX0_move_26 : decode cX0_move 26 = .ok (.getfield 187, 3) := dk_180 0 187 (dk_at dksX0_move_1 2 rfl rfl)
theorem dX0_move_29 : decode cX0_move 29 = .ok (.astore 6, 2) := dk_58 6 (dk_at dksX0_move_1 5 rfl rfl)
theorem dX0_move_31 : decode cX0_move 31 = .ok (.aload_n 0, 1) := dk_42 (dk_at dksX0_move_1 7 rfl rfl)
theorem dX0_move_32 : decode cX0_move 32 = .ok (.getfield 96, 3) := dk_180 0 96 (dk_at dksX0_move_1 8 rfl rfl)
theorem dX0_move_35 : decode cX0_move 35 = .ok (.iload_n 3, 1) := dk_29 (dk_at dksX0_move_1 11 rfl rfl)
theorem dX0_move_36 : decode cX0_move 36 = .ok (.aaload, 1) := dk_50 (dk_at dksX0_move_1 12 rfl rfl)
theorem dX0_move_37 : decode cX0_move 37 = .ok (.getfield 187, 3) := dk_180 0 187 (dk_at dksX0_move_1 13 rfl rfl)
theorem dX0_move_40 : decode cX0_move 40 = .ok (.astore 7, 2) := dk_58 7 (dk_at dksX0_move_1 16 rfl rfl)
theorem dX0_move_42 : decode cX0_move 42 = .ok (.aload 6, 2) := dk_25 6 (dk_at dksX0_move_1 18 rfl rfl)
theorem dX0_move_44 : decode cX0_move 44 = .ok (.ifnull 8, 3) := dk_198 0 8 (dk_at dksX0_move_1 20 rfl rfl)
theorem dX0_move_47 : decode cX0_move 47 = .ok (.aload 7, 2) := dk_25 7 (dk_at dksX0_move_2 0 rfl rfl)
theorem dX0_move_49 : decode cX0_move 49 = .ok (.ifnonnull 9, 3) := dk_199 0 9 (dk_at dksX0_move_2 2 rfl rfl)
theorem dX0_move_52 : decode cX0_move 52 = .ok (.aload_n 0, 1) := dk_42 (dk_at dksX0_move_2 5 rfl rfl)
theorem dX0_move_53 : decode cX0_move 53 = .ok (.iconst 2, 1) := dk_5 (dk_at dksX0_move_2 6 rfl rfl)
theorem dX0_move_54 : decode cX0_move 54 = .ok (.invokevirtual 160, 3) := dk_182 0 160 (dk_at dksX0_move_2 7 rfl rfl)
theorem dX0_move_57 : decode cX0_move 57 = .ok (.ireturn, 1) := dk_172 (dk_at dksX0_move_2 10 rfl rfl)
theorem dX0_move_58 : decode cX0_move 58 = .ok (.aload 6, 2) := dk_25 6 (dk_at dksX0_move_2 11 rfl rfl)
theorem dX0_move_60 : decode cX0_move 60 = .ok (.iconst 0, 1) := dk_3 (dk_at dksX0_move_2 13 rfl rfl)
theorem dX0_move_61 : decode cX0_move 61 = .ok (.aload 7, 2) := dk_25 7 (dk_at dksX0_move_2 14 rfl rfl)
theorem dX0_move_63 : decode cX0_move 63 = .ok (.iconst 0, 1) := dk_3 (dk_at dksX0_move_2 16 rfl rfl)
theorem dX0_move_64 : decode cX0_move 64 = .ok (.iconst 0, 1) := dk_3 (dk_at dksX0_move_2 17 rfl rfl)
theorem dX0_move_65 : decode cX0_move 65 = .ok (.invokestatic 289, 3) := dk_184 1 33 (dk_at dksX0_move_2 18 rfl rfl)
theorem dX0_move_68 : decode cX0_move 68 = .ok (.goto 11, 3) := dk_167 0 11 (dk_at dksX0_move_2 21 rfl rfl)
theorem dX0_move_71 : decode cX0_move 71 = .ok (.astore 8, 2) := dk_58 8 (dk_at dksX0_move_3 0 rfl rfl)
theorem dX0_move_73 : decode cX0_move 73 = .ok (.aload_n 0, 1) := dk_42 (dk_at dksX0_move_3 2 rfl rfl)
theorem dX0_move_74 : decode cX0_move 74 = .ok (.iconst 5, 1) := dk_8 (dk_at dksX0_move_3 3 rfl rfl)
theorem dX0_move_75 : decode cX0_move 75 = .ok (.invokevirtual 160, 3) := dk_182 0 160 (dk_at dksX0_move_3 4 rfl rfl)
theorem dX0_move_78 : decode cX0_move 78 = .ok (.ireturn, 1) := dk_172 (dk_at dksX0_move_3 7 rfl rfl)
theorem dX0_move_79 : decode cX0_move 79 = .ok (.iload 5, 2) := dk_21 5 (dk_at dksX0_move_3 8 rfl rfl)
theorem dX0_move_81 : decode cX0_move 81 = .ok (.ifCond .lt 37, 3) := dk_155 0 37 (dk_at dksX0_move_3 10 rfl rfl)
theorem dX0_move_84 : decode cX0_move 84 = .ok (.iload_n 2, 1) := dk_28 (dk_at dksX0_move_3 13 rfl rfl)
theorem dX0_move_85 : decode cX0_move 85 = .ok (.ifCond .lt 33, 3) := dk_155 0 33 (dk_at dksX0_move_3 14 rfl rfl)
theorem dX0_move_88 : decode cX0_move 88 = .ok (.iload 4, 2) := dk_21 4 (dk_at dksX0_move_3 17 rfl rfl)
theorem dX0_move_90 : decode cX0_move 90 = .ok (.ifCond .lt 28, 3) := dk_155 0 28 (dk_at dksX0_move_3 19 rfl rfl)
theorem dX0_move_93 : decode cX0_move 93 = .ok (.iload 5, 2) := dk_21 5 (dk_at dksX0_move_3 22 rfl rfl)
theorem dX0_move_95 : decode cX0_move 95 = .ok (.aload 6, 2) := dk_25 6 (dk_at dksX0_move_4 0 rfl rfl)
theorem dX0_move_97 : decode cX0_move 97 = .ok (.invokestatic 233, 3) := dk_184 0 233 (dk_at dksX0_move_4 2 rfl rfl)
theorem dX0_move_100 : decode cX0_move 100 = .ok (.iload_n 2, 1) := dk_28 (dk_at dksX0_move_4 5 rfl rfl)
theorem dX0_move_101 : decode cX0_move 101 = .ok (.isub, 1) := dk_100 (dk_at dksX0_move_4 6 rfl rfl)
theorem dX0_move_102 : decode cX0_move 102 = .ok (.if_icmp .gt 16, 3) := dk_163 0 16 (dk_at dksX0_move_4 7 rfl rfl)
theorem dX0_move_105 : decode cX0_move 105 = .ok (.iload 5, 2) := dk_21 5 (dk_at dksX0_move_4 10 rfl rfl)
theorem dX0_move_107 : decode cX0_move 107 = .ok (.aload 7, 2) := dk_25 7 (dk_at dksX0_move_4 12 rfl rfl)
theorem dX0_move_109 : decode cX0_move 109 = .ok (.invokestatic 233, 3) := dk_184 0 233 (dk_at dksX0_move_4 14 rfl rfl)
theorem dX0_move_112 : decode cX0_move 112 = .ok (.iload 4, 2) := dk_21 4 (dk_at dksX0_move_4 17 rfl rfl)
theorem dX0_move_114 : decode cX0_move 114 = .ok (.isub, 1) := dk_100 (dk_at dksX0_move_4 19 rfl rfl)
theorem dX0_move_115 : decode cX0_move 115 = .ok (.if_icmp .le 9, 3) := dk_164 0 9 (dk_at dksX0_move_4 20 rfl rfl)
theorem dX0_move_118 : decode cX0_move 118 = .ok (.aload_n 0, 1) := dk_42 (dk_at dksX0_move_4 23 rfl rfl)
theorem dX0_move_119 : decode cX0_move 119 = .ok (.iconst 1, 1) := dk_4 (dk_at dksX0_move_5 0 rfl rfl)
theorem dX0_move_120 : decode cX0_move 120 = .ok (.invokevirtual 160, 3) := dk_182 0 160 (dk_at dksX0_move_5 1 rfl rfl)
theorem dX0_move_123 : decode cX0_move 123 = .ok (.ireturn, 1) := dk_172 (dk_at dksX0_move_5 4 rfl rfl)
theorem dX0_move_124 : decode cX0_move 124 = .ok (.aload 6, 2) := dk_25 6 (dk_at dksX0_move_5 5 rfl rfl)
theorem dX0_move_126 : decode cX0_move 126 = .ok (.iload_n 2, 1) := dk_28 (dk_at dksX0_move_5 7 rfl rfl)
theorem dX0_move_127 : decode cX0_move 127 = .ok (.aload 7, 2) := dk_25 7 (dk_at dksX0_move_5 8 rfl rfl)
theorem dX0_move_129 : decode cX0_move 129 = .ok (.iload 4, 2) := dk_21 4 (dk_at dksX0_move_5 10 rfl rfl)
theorem dX0_move_131 : decode cX0_move 131 = .ok (.iload 5, 2) := dk_21 5 (dk_at dksX0_move_5 12 rfl rfl)
theorem dX0_move_133 : decode cX0_move 133 = .ok (.invokestatic 289, 3) := dk_184 1 33 (dk_at dksX0_move_5 14 rfl rfl)
theorem dX0_move_136 : decode cX0_move 136 = .ok (.iload 5, 2) := dk_21 5 (dk_at dksX0_move_5 17 rfl rfl)
theorem dX0_move_138 : decode cX0_move 138 = .ok (.ireturn, 1) := dk_172 (dk_at dksX0_move_5 19 rfl rfl)
abbrev cX0_prices : ByteArray := prog_1_method_64_code
def yX0_prices : MethodName := ⟨RX0, "prices", "(I)I"⟩
def dkwX0_prices_3 : List UInt8 := [180, 0, 133, 29, 44, 29, 184, 0, 237, 79, 132, 3, 1, 167, 255, 210, 29, 172]
abbrev dktX0_prices_3 : List UInt8 := dkwX0_prices_3 ++ []
def dkwX0_prices_2 : List UInt8 := [162, 0, 38, 44, 29, 184, 0, 237, 4, 17, 39, 15, 184, 0, 125, 153, 0, 23, 42, 180, 0, 76]
abbrev dktX0_prices_2 : List UInt8 := dkwX0_prices_2 ++ dktX0_prices_3
def dkwX0_prices_1 : List UInt8 := [199, 0, 9, 42, 5, 182, 0, 160, 172, 3, 62, 29, 44, 184, 0, 233, 162, 0, 44, 29, 16, 8]
abbrev dktX0_prices_1 : List UInt8 := dkwX0_prices_1 ++ dktX0_prices_2
def dkwX0_prices_0 : List UInt8 := [27, 184, 0, 241, 154, 0, 9, 42, 4, 182, 0, 160, 172, 42, 180, 0, 96, 27, 50, 180, 0, 187, 77, 44]
abbrev dktX0_prices_0 : List UInt8 := dkwX0_prices_0 ++ dktX0_prices_1
theorem dksX0_prices_0 : cX0_prices.data.toList.drop 0 = dktX0_prices_0 := by decide +kernel
theorem dksX0_prices_1 : cX0_prices.data.toList.drop 24 = dktX0_prices_1 := dk_seg dksX0_prices_0 24 rfl rfl
theorem dksX0_prices_2 : cX0_prices.data.toList.drop 46 = dktX0_prices_2 := dk_seg dksX0_prices_1 22 rfl rfl
theorem dksX0_prices_3 : cX0_prices.data.toList.drop 68 = dktX0_prices_3 := dk_seg dksX0_prices_2 22 rfl rfl
theorem dX0_prices_0 : decode cX0_prices 0 = .ok (.iload_n 1, 1) := dk_27 (dk_at dksX0_prices_0 0 rfl rfl)
theorem dX0_prices_1 : decode cX0_prices 1 = .ok (.invokestatic 241, 3) := dk_184 0 241 (dk_at dksX0_prices_0 1 rfl rfl)
theorem dX0_prices_4 : decode cX0_prices 4 = .ok (.ifCond .ne 9, 3) := dk_154 0 9 (dk_at dksX0_prices_0 4 rfl rfl)
theorem dX0_prices_7 : decode cX0_prices 7 = .ok (.aload_n 0, 1) := dk_42 (dk_at dksX0_prices_0 7 rfl rfl)
theorem dX0_prices_8 : decode cX0_prices 8 = .ok (.iconst 1, 1) := dk_4 (dk_at dksX0_prices_0 8 rfl rfl)
theorem dX0_prices_9 : decode cX0_prices 9 = .ok (.invokevirtual 160, 3) := dk_182 0 160 (dk_at dksX0_prices_0 9 rfl rfl)
theorem dX0_prices_12 : decode cX0_prices 12 = .ok (.ireturn, 1) := dk_172 (dk_at dksX0_prices_0 12 rfl rfl)
theorem dX0_prices_13 : decode cX0_prices 13 = .ok (.aload_n 0, 1) := dk_42 (dk_at dksX0_prices_0 13 rfl rfl)
theorem dX0_prices_14 : decode cX0_prices 14 = .ok (.getfield 96, 3) := dk_180 0 96 (dk_at dksX0_prices_0 14 rfl rfl)
theorem dX0_prices_17 : decode cX0_prices 17 = .ok (.iload_n 1, 1) := dk_27 (dk_at dksX0_prices_0 17 rfl rfl)
theorem dX0_prices_18 : decode cX0_prices 18 = .ok (.aaload, 1) := dk_50 (dk_at dksX0_prices_0 18 rfl rfl)
theorem dX0_prices_19 : decode cX0_prices 19 = .ok (.getfield 187, 3) := dk_180 0 187 (dk_at dksX0_prices_0 19 rfl rfl)
theorem dX0_prices_22 : decode cX0_prices 22 = .ok (.astore_n 2, 1) := dk_77 (dk_at dksX0_prices_0 22 rfl rfl)
theorem dX0_prices_23 : decode cX0_prices 23 = .ok (.aload_n 2, 1) := dk_44 (dk_at dksX0_prices_0 23 rfl rfl)
theorem dX0_prices_24 : decode cX0_prices 24 = .ok (.ifnonnull 9, 3) := dk_199 0 9 (dk_at dksX0_prices_1 0 rfl rfl)
theorem dX0_prices_27 : decode cX0_prices 27 = .ok (.aload_n 0, 1) := dk_42 (dk_at dksX0_prices_1 3 rfl rfl)
theorem dX0_prices_28 : decode cX0_prices 28 = .ok (.iconst 2, 1) := dk_5 (dk_at dksX0_prices_1 4 rfl rfl)
theorem dX0_prices_29 : decode cX0_prices 29 = .ok (.invokevirtual 160, 3) := dk_182 0 160 (dk_at dksX0_prices_1 5 rfl rfl)
theorem dX0_prices_32 : decode cX0_prices 32 = .ok (.ireturn, 1) := dk_172 (dk_at dksX0_prices_1 8 rfl rfl)
theorem dX0_prices_33 : decode cX0_prices 33 = .ok (.iconst 0, 1) := dk_3 (dk_at dksX0_prices_1 9 rfl rfl)
theorem dX0_prices_34 : decode cX0_prices 34 = .ok (.istore_n 3, 1) := dk_62 (dk_at dksX0_prices_1 10 rfl rfl)
theorem dX0_prices_35 : decode cX0_prices 35 = .ok (.iload_n 3, 1) := dk_29 (dk_at dksX0_prices_1 11 rfl rfl)
theorem dX0_prices_36 : decode cX0_prices 36 = .ok (.aload_n 2, 1) := dk_44 (dk_at dksX0_prices_1 12 rfl rfl)
theorem dX0_prices_37 : decode cX0_prices 37 = .ok (.invokestatic 233, 3) := dk_184 0 233 (dk_at dksX0_prices_1 13 rfl rfl)
theorem dX0_prices_40 : decode cX0_prices 40 = .ok (.if_icmp .ge 44, 3) := dk_162 0 44 (dk_at dksX0_prices_1 16 rfl rfl)
theorem dX0_prices_43 : decode cX0_prices 43 = .ok (.iload_n 3, 1) := dk_29 (dk_at dksX0_prices_1 19 rfl rfl)
theorem dX0_prices_44 : decode cX0_prices 44 = .ok (.bipush 8, 2) := dk_16 8 (dk_at dksX0_prices_1 20 rfl rfl)
theorem dX0_prices_46 : decode cX0_prices 46 = .ok (.if_icmp .ge 38, 3) := dk_162 0 38 (dk_at dksX0_prices_2 0 rfl rfl)
theorem dX0_prices_49 : decode cX0_prices 49 = .ok (.aload_n 2, 1) := dk_44 (dk_at dksX0_prices_2 3 rfl rfl)
theorem dX0_prices_50 : decode cX0_prices 50 = .ok (.iload_n 3, 1) := dk_29 (dk_at dksX0_prices_2 4 rfl rfl)
theorem dX0_prices_51 : decode cX0_prices 51 = .ok (.invokestatic 237, 3) := dk_184 0 237 (dk_at dksX0_prices_2 5 rfl rfl)
theorem dX0_prices_54 : decode cX0_prices 54 = .ok (.iconst 1, 1) := dk_4 (dk_at dksX0_prices_2 8 rfl rfl)
theorem dX0_prices_55 : decode cX0_prices 55 = .ok (.sipush 9999, 3) := dk_17 39 15 (dk_at dksX0_prices_2 9 rfl rfl)
theorem dX0_prices_58 : decode cX0_prices 58 = .ok (.invokestatic 125, 3) := dk_184 0 125 (dk_at dksX0_prices_2 12 rfl rfl)
theorem dX0_prices_61 : decode cX0_prices 61 = .ok (.ifCond .eq 23, 3) := dk_153 0 23 (dk_at dksX0_prices_2 15 rfl rfl)
theorem dX0_prices_64 : decode cX0_prices 64 = .ok (.aload_n 0, 1) := dk_42 (dk_at dksX0_prices_2 18 rfl rfl)
theorem dX0_prices_65 : decode cX0_prices 65 = .ok (.getfield 76, 3) := dk_180 0 76 (dk_at dksX0_prices_2 19 rfl rfl)
theorem dX0_prices_68 : decode cX0_prices 68 = .ok (.getfield 133, 3) := dk_180 0 133 (dk_at dksX0_prices_3 0 rfl rfl)
theorem dX0_prices_71 : decode cX0_prices 71 = .ok (.iload_n 3, 1) := dk_29 (dk_at dksX0_prices_3 3 rfl rfl)
theorem dX0_prices_72 : decode cX0_prices 72 = .ok (.aload_n 2, 1) := dk_44 (dk_at dksX0_prices_3 4 rfl rfl)
theorem dX0_prices_73 : decode cX0_prices 73 = .ok (.iload_n 3, 1) := dk_29 (dk_at dksX0_prices_3 5 rfl rfl)
theorem dX0_prices_74 : decode cX0_prices 74 = .ok (.invokestatic 237, 3) := dk_184 0 237 (dk_at dksX0_prices_3 6 rfl rfl)
theorem dX0_prices_77 : decode cX0_prices 77 = .ok (.iastore, 1) := dk_79 (dk_at dksX0_prices_3 9 rfl rfl)
theorem dX0_prices_78 : decode cX0_prices 78 = .ok (.iinc 3 1, 3) := dk_132 3 1 (dk_at dksX0_prices_3 10 rfl rfl)
theorem dX0_prices_81 : decode cX0_prices 81 = .ok (.goto (-46), 3) := dk_167 255 210 (dk_at dksX0_prices_3 13 rfl rfl)
theorem dX0_prices_84 : decode cX0_prices 84 = .ok (.iload_n 3, 1) := dk_29 (dk_at dksX0_prices_3 16 rfl rfl)
theorem dX0_prices_85 : decode cX0_prices 85 = .ok (.ireturn, 1) := dk_172 (dk_at dksX0_prices_3 17 rfl rfl)
abbrev cX0_image : ByteArray := prog_1_method_65_code
def yX0_image : MethodName := ⟨RX0, "image", "()I"⟩
def dkwX0_image_1 : List UInt8 := [180, 1, 104, 172]
abbrev dktX0_image_1 : List UInt8 := dkwX0_image_1 ++ []
def dkwX0_image_0 : List UInt8 := [42, 180, 0, 80, 42, 180, 0, 76, 182, 1, 100, 42, 89, 180, 1, 104, 4, 96, 181, 1, 104, 42]
abbrev dktX0_image_0 : List UInt8 := dkwX0_image_0 ++ dktX0_image_1
theorem dksX0_image_0 : cX0_image.data.toList.drop 0 = dktX0_image_0 := by decide +kernel
theorem dksX0_image_1 : cX0_image.data.toList.drop 22 = dktX0_image_1 := dk_seg dksX0_image_0 22 rfl rfl
theorem dX0_image_0 : decode cX0_image 0 = .ok (.aload_n 0, 1) := dk_42 (dk_at dksX0_image_0 0 rfl rfl)
theorem dX0_image_1 : decode cX0_image 1 = .ok (.getfield 80, 3) := dk_180 0 80 (dk_at dksX0_image_0 1 rfl rfl)
theorem dX0_image_4 : decode cX0_image 4 = .ok (.aload_n 0, 1) := dk_42 (dk_at dksX0_image_0 4 rfl rfl)
theorem dX0_image_5 : decode cX0_image 5 = .ok (.getfield 76, 3) := dk_180 0 76 (dk_at dksX0_image_0 5 rfl rfl)
theorem dX0_image_8 : decode cX0_image 8 = .ok (.invokevirtual 356, 3) := dk_182 1 100 (dk_at dksX0_image_0 8 rfl rfl)
theorem dX0_image_11 : decode cX0_image 11 = .ok (.aload_n 0, 1) := dk_42 (dk_at dksX0_image_0 11 rfl rfl)
theorem dX0_image_12 : decode cX0_image 12 = .ok (.dup, 1) := dk_89 (dk_at dksX0_image_0 12 rfl rfl)
theorem dX0_image_13 : decode cX0_image 13 = .ok (.getfield 360, 3) := dk_180 1 104 (dk_at dksX0_image_0 13 rfl rfl)
theorem dX0_image_16 : decode cX0_image 16 = .ok (.iconst 1, 1) := dk_4 (dk_at dksX0_image_0 16 rfl rfl)
theorem dX0_image_17 : decode cX0_image 17 = .ok (.iadd, 1) := dk_96 (dk_at dksX0_image_0 17 rfl rfl)
theorem dX0_image_18 : decode cX0_image 18 = .ok (.putfield 360, 3) := dk_181 1 104 (dk_at dksX0_image_0 18 rfl rfl)
theorem dX0_image_21 : decode cX0_image 21 = .ok (.aload_n 0, 1) := dk_42 (dk_at dksX0_image_0 21 rfl rfl)
theorem dX0_image_22 : decode cX0_image 22 = .ok (.getfield 360, 3) := dk_180 1 104 (dk_at dksX0_image_1 0 rfl rfl)
theorem dX0_image_25 : decode cX0_image 25 = .ok (.ireturn, 1) := dk_172 (dk_at dksX0_image_1 3 rfl rfl)
abbrev cX0_restore : ByteArray := prog_1_method_66_code
def yX0_restore : MethodName := ⟨RX0, "restore", "()I"⟩
def dkwX0_restore_1 : List UInt8 := [42, 180, 0, 76, 180, 1, 3, 172]
abbrev dktX0_restore_1 : List UInt8 := dkwX0_restore_1 ++ []
def dkwX0_restore_0 : List UInt8 := [42, 180, 1, 104, 154, 0, 9, 42, 5, 182, 0, 160, 172, 42, 180, 0, 76, 42, 180, 0, 80, 182, 1, 100]
abbrev dktX0_restore_0 : List UInt8 := dkwX0_restore_0 ++ dktX0_restore_1
theorem dksX0_restore_0 : cX0_restore.data.toList.drop 0 = dktX0_restore_0 := by decide +kernel
theorem dksX0_restore_1 : cX0_restore.data.toList.drop 24 = dktX0_restore_1 := dk_seg dksX0_restore_0 24 rfl rfl
theorem dX0_restore_0 : decode cX0_restore 0 = .ok (.aload_n 0, 1) := dk_42 (dk_at dksX0_restore_0 0 rfl rfl)
theorem dX0_restore_1 : decode cX0_restore 1 = .ok (.getfield 360, 3) := dk_180 1 104 (dk_at dksX0_restore_0 1 rfl rfl)
theorem dX0_restore_4 : decode cX0_restore 4 = .ok (.ifCond .ne 9, 3) := dk_154 0 9 (dk_at dksX0_restore_0 4 rfl rfl)
theorem dX0_restore_7 : decode cX0_restore 7 = .ok (.aload_n 0, 1) := dk_42 (dk_at dksX0_restore_0 7 rfl rfl)
theorem dX0_restore_8 : decode cX0_restore 8 = .ok (.iconst 2, 1) := dk_5 (dk_at dksX0_restore_0 8 rfl rfl)
theorem dX0_restore_9 : decode cX0_restore 9 = .ok (.invokevirtual 160, 3) := dk_182 0 160 (dk_at dksX0_restore_0 9 rfl rfl)
theorem dX0_restore_12 : decode cX0_restore 12 = .ok (.ireturn, 1) := dk_172 (dk_at dksX0_restore_0 12 rfl rfl)
theorem dX0_restore_13 : decode cX0_restore 13 = .ok (.aload_n 0, 1) := dk_42 (dk_at dksX0_restore_0 13 rfl rfl)
theorem dX0_restore_14 : decode cX0_restore 14 = .ok (.getfield 76, 3) := dk_180 0 76 (dk_at dksX0_restore_0 14 rfl rfl)
theorem dX0_restore_17 : decode cX0_restore 17 = .ok (.aload_n 0, 1) := dk_42 (dk_at dksX0_restore_0 17 rfl rfl)
theorem dX0_restore_18 : decode cX0_restore 18 = .ok (.getfield 80, 3) := dk_180 0 80 (dk_at dksX0_restore_0 18 rfl rfl)
theorem dX0_restore_21 : decode cX0_restore 21 = .ok (.invokevirtual 356, 3) := dk_182 1 100 (dk_at dksX0_restore_0 21 rfl rfl)
theorem dX0_restore_24 : decode cX0_restore 24 = .ok (.aload_n 0, 1) := dk_42 (dk_at dksX0_restore_1 0 rfl rfl)
theorem dX0_restore_25 : decode cX0_restore 25 = .ok (.getfield 76, 3) := dk_180 0 76 (dk_at dksX0_restore_1 1 rfl rfl)
theorem dX0_restore_28 : decode cX0_restore 28 = .ok (.getfield 259, 3) := dk_180 1 3 (dk_at dksX0_restore_1 4 rfl rfl)
theorem dX0_restore_31 : decode cX0_restore 31 = .ok (.ireturn, 1) := dk_172 (dk_at dksX0_restore_1 7 rfl rfl)
abbrev cX0_tell : ByteArray := prog_1_method_67_code
def yX0_tell : MethodName := ⟨RX0, "tell", "(I)I"⟩
def dkwX0_tell_2 : List UInt8 := [181, 1, 107, 42, 180, 0, 76, 180, 1, 107, 172]
abbrev dktX0_tell_2 : List UInt8 := dkwX0_tell_2 ++ []
def dkwX0_tell_1 : List UInt8 := [180, 1, 110, 42, 180, 0, 76, 180, 1, 107, 27, 79, 42, 180, 0, 76, 89, 180, 1, 107, 4, 96]
abbrev dktX0_tell_1 : List UInt8 := dkwX0_tell_1 ++ dktX0_tell_2
def dkwX0_tell_0 : List UInt8 := [42, 180, 0, 76, 180, 1, 107, 16, 24, 160, 0, 9, 42, 7, 182, 0, 160, 172, 42, 180, 0, 76]
abbrev dktX0_tell_0 : List UInt8 := dkwX0_tell_0 ++ dktX0_tell_1
theorem dksX0_tell_0 : cX0_tell.data.toList.drop 0 = dktX0_tell_0 := by decide +kernel
theorem dksX0_tell_1 : cX0_tell.data.toList.drop 22 = dktX0_tell_1 := dk_seg dksX0_tell_0 22 rfl rfl
theorem dksX0_tell_2 : cX0_tell.data.toList.drop 44 = dktX0_tell_2 := dk_seg dksX0_tell_1 22 rfl rfl
theorem dX0_tell_0 : decode cX0_tell 0 = .ok (.aload_n 0, 1) := dk_42 (dk_at dksX0_tell_0 0 rfl rfl)
theorem dX0_tell_1 : decode cX0_tell 1 = .ok (.getfield 76, 3) := dk_180 0 76 (dk_at dksX0_tell_0 1 rfl rfl)
theorem dX0_tell_4 : decode cX0_tell 4 = .ok (.getfield 363, 3) := dk_180 1 107 (dk_at dksX0_tell_0 4 rfl rfl)
theorem dX0_tell_7 : decode cX0_tell 7 = .ok (.bipush 24, 2) := dk_16 24 (dk_at dksX0_tell_0 7 rfl rfl)
theorem dX0_tell_9 : decode cX0_tell 9 = .ok (.if_icmp .ne 9, 3) := dk_160 0 9 (dk_at dksX0_tell_0 9 rfl rfl)
theorem dX0_tell_12 : decode cX0_tell 12 = .ok (.aload_n 0, 1) := dk_42 (dk_at dksX0_tell_0 12 rfl rfl)
theorem dX0_tell_13 : decode cX0_tell 13 = .ok (.iconst 4, 1) := dk_7 (dk_at dksX0_tell_0 13 rfl rfl)
theorem dX0_tell_14 : decode cX0_tell 14 = .ok (.invokevirtual 160, 3) := dk_182 0 160 (dk_at dksX0_tell_0 14 rfl rfl)
theorem dX0_tell_17 : decode cX0_tell 17 = .ok (.ireturn, 1) := dk_172 (dk_at dksX0_tell_0 17 rfl rfl)
theorem dX0_tell_18 : decode cX0_tell 18 = .ok (.aload_n 0, 1) := dk_42 (dk_at dksX0_tell_0 18 rfl rfl)
theorem dX0_tell_19 : decode cX0_tell 19 = .ok (.getfield 76, 3) := dk_180 0 76 (dk_at dksX0_tell_0 19 rfl rfl)
theorem dX0_tell_22 : decode cX0_tell 22 = .ok (.getfield 366, 3) := dk_180 1 110 (dk_at dksX0_tell_1 0 rfl rfl)
theorem dX0_tell_25 : decode cX0_tell 25 = .ok (.aload_n 0, 1) := dk_42 (dk_at dksX0_tell_1 3 rfl rfl)
theorem dX0_tell_26 : decode cX0_tell 26 = .ok (.getfield 76, 3) := dk_180 0 76 (dk_at dksX0_tell_1 4 rfl rfl)
theorem dX0_tell_29 : decode cX0_tell 29 = .ok (.getfield 363, 3) := dk_180 1 107 (dk_at dksX0_tell_1 7 rfl rfl)
theorem dX0_tell_32 : decode cX0_tell 32 = .ok (.iload_n 1, 1) := dk_27 (dk_at dksX0_tell_1 10 rfl rfl)
theorem dX0_tell_33 : decode cX0_tell 33 = .ok (.iastore, 1) := dk_79 (dk_at dksX0_tell_1 11 rfl rfl)
theorem dX0_tell_34 : decode cX0_tell 34 = .ok (.aload_n 0, 1) := dk_42 (dk_at dksX0_tell_1 12 rfl rfl)
theorem dX0_tell_35 : decode cX0_tell 35 = .ok (.getfield 76, 3) := dk_180 0 76 (dk_at dksX0_tell_1 13 rfl rfl)
theorem dX0_tell_38 : decode cX0_tell 38 = .ok (.dup, 1) := dk_89 (dk_at dksX0_tell_1 16 rfl rfl)
theorem dX0_tell_39 : decode cX0_tell 39 = .ok (.getfield 363, 3) := dk_180 1 107 (dk_at dksX0_tell_1 17 rfl rfl)
theorem dX0_tell_42 : decode cX0_tell 42 = .ok (.iconst 1, 1) := dk_4 (dk_at dksX0_tell_1 20 rfl rfl)
theorem dX0_tell_43 : decode cX0_tell 43 = .ok (.iadd, 1) := dk_96 (dk_at dksX0_tell_1 21 rfl rfl)
theorem dX0_tell_44 : decode cX0_tell 44 = .ok (.putfield 363, 3) := dk_181 1 107 (dk_at dksX0_tell_2 0 rfl rfl)
theorem dX0_tell_47 : decode cX0_tell 47 = .ok (.aload_n 0, 1) := dk_42 (dk_at dksX0_tell_2 3 rfl rfl)
theorem dX0_tell_48 : decode cX0_tell 48 = .ok (.getfield 76, 3) := dk_180 0 76 (dk_at dksX0_tell_2 4 rfl rfl)
theorem dX0_tell_51 : decode cX0_tell 51 = .ok (.getfield 363, 3) := dk_180 1 107 (dk_at dksX0_tell_2 7 rfl rfl)
theorem dX0_tell_54 : decode cX0_tell 54 = .ok (.ireturn, 1) := dk_172 (dk_at dksX0_tell_2 10 rfl rfl)
abbrev cX0_check : ByteArray := prog_1_method_68_code
def yX0_check : MethodName := ⟨RX0, "check", "(I)I"⟩
def dkwX0_check_3 : List UInt8 := [4, 29, 96, 172]
abbrev dktX0_check_3 : List UInt8 := dkwX0_check_3 ++ []
def dkwX0_check_2 : List UInt8 := [4, 96, 4, 182, 0, 195, 160, 0, 9, 132, 3, 1, 167, 255, 227, 29, 28, 160, 0, 7, 3, 167, 0, 6]
abbrev dktX0_check_2 : List UInt8 := dkwX0_check_2 ++ dktX0_check_3
def dkwX0_check_1 : List UInt8 := [4, 182, 0, 160, 172, 3, 62, 29, 28, 162, 0, 30, 42, 180, 0, 76, 180, 1, 110, 29, 46, 42, 27, 29]
abbrev dktX0_check_1 : List UInt8 := dkwX0_check_1 ++ dktX0_check_2
def dkwX0_check_0 : List UInt8 := [42, 180, 0, 76, 180, 1, 107, 61, 42, 180, 0, 76, 3, 181, 1, 107, 27, 184, 0, 170, 154, 0, 9, 42]
abbrev dktX0_check_0 : List UInt8 := dkwX0_check_0 ++ dktX0_check_1
theorem dksX0_check_0 : cX0_check.data.toList.drop 0 = dktX0_check_0 := by decide +kernel
theorem dksX0_check_1 : cX0_check.data.toList.drop 24 = dktX0_check_1 := dk_seg dksX0_check_0 24 rfl rfl
theorem dksX0_check_2 : cX0_check.data.toList.drop 48 = dktX0_check_2 := dk_seg dksX0_check_1 24 rfl rfl
theorem dksX0_check_3 : cX0_check.data.toList.drop 72 = dktX0_check_3 := dk_seg dksX0_check_2 24 rfl rfl
theorem dX0_check_0 : decode cX0_check 0 = .ok (.aload_n 0, 1) := dk_42 (dk_at dksX0_check_0 0 rfl rfl)
theorem dX0_check_1 : decode cX0_check 1 = .ok (.getfield 76, 3) := dk_180 0 76 (dk_at dksX0_check_0 1 rfl rfl)
theorem dX0_check_4 : decode cX0_check 4 = .ok (.getfield 363, 3) := dk_180 1 107 (dk_at dksX0_check_0 4 rfl rfl)
theorem dX0_check_7 : decode cX0_check 7 = .ok (.istore_n 2, 1) := dk_61 (dk_at dksX0_check_0 7 rfl rfl)
theorem dX0_check_8 : decode cX0_check 8 = .ok (.aload_n 0, 1) := dk_42 (dk_at dksX0_check_0 8 rfl rfl)
theorem dX0_check_9 : decode cX0_check 9 = .ok (.getfield 76, 3) := dk_180 0 76 (dk_at dksX0_check_0 9 rfl rfl)
theorem dX0_check_12 : decode cX0_check 12 = .ok (.iconst 0, 1) := dk_3 (dk_at dksX0_check_0 12 rfl rfl)
theorem dX0_check_13 : decode cX0_check 13 = .ok (.putfield 363, 3) := dk_181 1 107 (dk_at dksX0_check_0 13 rfl rfl)
theorem dX0_check_16 : decode cX0_check 16 = .ok (.iload_n 1, 1) := dk_27 (dk_at dksX0_check_0 16 rfl rfl)
theorem dX0_check_17 : decode cX0_check 17 = .ok (.invokestatic 170, 3) := dk_184 0 170 (dk_at dksX0_check_0 17 rfl rfl)
theorem dX0_check_20 : decode cX0_check 20 = .ok (.ifCond .ne 9, 3) := dk_154 0 9 (dk_at dksX0_check_0 20 rfl rfl)
theorem dX0_check_23 : decode cX0_check 23 = .ok (.aload_n 0, 1) := dk_42 (dk_at dksX0_check_0 23 rfl rfl)
theorem dX0_check_24 : decode cX0_check 24 = .ok (.iconst 1, 1) := dk_4 (dk_at dksX0_check_1 0 rfl rfl)
theorem dX0_check_25 : decode cX0_check 25 = .ok (.invokevirtual 160, 3) := dk_182 0 160 (dk_at dksX0_check_1 1 rfl rfl)
theorem dX0_check_28 : decode cX0_check 28 = .ok (.ireturn, 1) := dk_172 (dk_at dksX0_check_1 4 rfl rfl)
theorem dX0_check_29 : decode cX0_check 29 = .ok (.iconst 0, 1) := dk_3 (dk_at dksX0_check_1 5 rfl rfl)
theorem dX0_check_30 : decode cX0_check 30 = .ok (.istore_n 3, 1) := dk_62 (dk_at dksX0_check_1 6 rfl rfl)
theorem dX0_check_31 : decode cX0_check 31 = .ok (.iload_n 3, 1) := dk_29 (dk_at dksX0_check_1 7 rfl rfl)
theorem dX0_check_32 : decode cX0_check 32 = .ok (.iload_n 2, 1) := dk_28 (dk_at dksX0_check_1 8 rfl rfl)
theorem dX0_check_33 : decode cX0_check 33 = .ok (.if_icmp .ge 30, 3) := dk_162 0 30 (dk_at dksX0_check_1 9 rfl rfl)
theorem dX0_check_36 : decode cX0_check 36 = .ok (.aload_n 0, 1) := dk_42 (dk_at dksX0_check_1 12 rfl rfl)
theorem dX0_check_37 : decode cX0_check 37 = .ok (.getfield 76, 3) := dk_180 0 76 (dk_at dksX0_check_1 13 rfl rfl)
theorem dX0_check_40 : decode cX0_check 40 = .ok (.getfield 366, 3) := dk_180 1 110 (dk_at dksX0_check_1 16 rfl rfl)
theorem dX0_check_43 : decode cX0_check 43 = .ok (.iload_n 3, 1) := dk_29 (dk_at dksX0_check_1 19 rfl rfl)
theorem dX0_check_44 : decode cX0_check 44 = .ok (.iaload, 1) := dk_46 (dk_at dksX0_check_1 20 rfl rfl)
theorem dX0_check_45 : decode cX0_check 45 = .ok (.aload_n 0, 1) := dk_42 (dk_at dksX0_check_1 21 rfl rfl)
theorem dX0_check_46 : decode cX0_check 46 = .ok (.iload_n 1, 1) := dk_27 (dk_at dksX0_check_1 22 rfl rfl)
theorem dX0_check_47 : decode cX0_check 47 = .ok (.iload_n 3, 1) := dk_29 (dk_at dksX0_check_1 23 rfl rfl)
theorem dX0_check_48 : decode cX0_check 48 = .ok (.iconst 1, 1) := dk_4 (dk_at dksX0_check_2 0 rfl rfl)
theorem dX0_check_49 : decode cX0_check 49 = .ok (.iadd, 1) := dk_96 (dk_at dksX0_check_2 1 rfl rfl)
theorem dX0_check_50 : decode cX0_check 50 = .ok (.iconst 1, 1) := dk_4 (dk_at dksX0_check_2 2 rfl rfl)
theorem dX0_check_51 : decode cX0_check 51 = .ok (.invokevirtual 195, 3) := dk_182 0 195 (dk_at dksX0_check_2 3 rfl rfl)
theorem dX0_check_54 : decode cX0_check 54 = .ok (.if_icmp .ne 9, 3) := dk_160 0 9 (dk_at dksX0_check_2 6 rfl rfl)
theorem dX0_check_57 : decode cX0_check 57 = .ok (.iinc 3 1, 3) := dk_132 3 1 (dk_at dksX0_check_2 9 rfl rfl)
theorem dX0_check_60 : decode cX0_check 60 = .ok (.goto (-29), 3) := dk_167 255 227 (dk_at dksX0_check_2 12 rfl rfl)
theorem dX0_check_63 : decode cX0_check 63 = .ok (.iload_n 3, 1) := dk_29 (dk_at dksX0_check_2 15 rfl rfl)
theorem dX0_check_64 : decode cX0_check 64 = .ok (.iload_n 2, 1) := dk_28 (dk_at dksX0_check_2 16 rfl rfl)
theorem dX0_check_65 : decode cX0_check 65 = .ok (.if_icmp .ne 7, 3) := dk_160 0 7 (dk_at dksX0_check_2 17 rfl rfl)
theorem dX0_check_68 : decode cX0_check 68 = .ok (.iconst 0, 1) := dk_3 (dk_at dksX0_check_2 20 rfl rfl)
theorem dX0_check_69 : decode cX0_check 69 = .ok (.goto 6, 3) := dk_167 0 6 (dk_at dksX0_check_2 21 rfl rfl)
theorem dX0_check_72 : decode cX0_check 72 = .ok (.iconst 1, 1) := dk_4 (dk_at dksX0_check_3 0 rfl rfl)
theorem dX0_check_73 : decode cX0_check 73 = .ok (.iload_n 3, 1) := dk_29 (dk_at dksX0_check_3 1 rfl rfl)
theorem dX0_check_74 : decode cX0_check 74 = .ok (.iadd, 1) := dk_96 (dk_at dksX0_check_3 2 rfl rfl)
theorem dX0_check_75 : decode cX0_check 75 = .ok (.ireturn, 1) := dk_172 (dk_at dksX0_check_3 3 rfl rfl)
abbrev cX0_count : ByteArray := prog_1_method_70_code
def yX0_count : MethodName := ⟨RX0, "count", "(I)I"⟩
def dkwX0_count_4 : List UInt8 := [180, 0, 86, 180, 1, 74, 172, 42, 180, 0, 76, 180, 1, 18, 172, 42, 4, 182, 0, 160, 172]
abbrev dktX0_count_4 : List UInt8 := dkwX0_count_4 ++ []
def dkwX0_count_3 : List UInt8 := [42, 182, 1, 113, 172, 42, 180, 0, 76, 180, 0, 198, 172, 42, 180, 0, 76, 180, 1, 107, 172, 42]
abbrev dktX0_count_3 : List UInt8 := dkwX0_count_3 ++ dktX0_count_4
def dkwX0_count_2 : List UInt8 := [42, 180, 0, 76, 180, 1, 3, 172, 42, 180, 0, 76, 180, 0, 253, 172, 42, 180, 0, 76, 180, 1, 0, 172]
abbrev dktX0_count_2 : List UInt8 := dkwX0_count_2 ++ dktX0_count_3
def dkwX0_count_1 : List UInt8 := [170, 0, 0, 0, 0, 0, 108, 0, 0, 0, 0, 0, 0, 0, 7, 0, 0, 0, 47, 0, 0, 0, 55, 0, 0, 0, 63, 0, 0, 0, 71, 0, 0, 0, 76, 0, 0, 0, 84, 0, 0, 0, 92, 0, 0, 0, 100]
abbrev dktX0_count_1 : List UInt8 := dkwX0_count_1 ++ dktX0_count_2
def dkwX0_count_0 : List UInt8 := [27]
abbrev dktX0_count_0 : List UInt8 := dkwX0_count_0 ++ dktX0_count_1
theorem dksX0_count_0 : cX0_count.data.toList.drop 0 = dktX0_count_0 := by decide +kernel
theorem dksX0_count_1 : cX0_count.data.toList.drop 1 = dktX0_count_1 := dk_seg dksX0_count_0 1 rfl rfl
theorem dksX0_count_2 : cX0_count.data.toList.drop 48 = dktX0_count_2 := dk_seg dksX0_count_1 47 rfl rfl
theorem dksX0_count_3 : cX0_count.data.toList.drop 72 = dktX0_count_3 := dk_seg dksX0_count_2 24 rfl rfl
theorem dksX0_count_4 : cX0_count.data.toList.drop 94 = dktX0_count_4 := dk_seg dksX0_count_3 22 rfl rfl
theorem dX0_count_0 : decode cX0_count 0 = .ok (.iload_n 1, 1) := dk_27 (dk_at dksX0_count_0 0 rfl rfl)
theorem dX0_count_1 : decode cX0_count 1 = .ok (.tableswitch 108 0 7 #[47, 55, 63, 71, 76, 84, 92, 100], 47) := by decide +kernel
theorem dX0_count_48 : decode cX0_count 48 = .ok (.aload_n 0, 1) := dk_42 (dk_at dksX0_count_2 0 rfl rfl)
theorem dX0_count_49 : decode cX0_count 49 = .ok (.getfield 76, 3) := dk_180 0 76 (dk_at dksX0_count_2 1 rfl rfl)
theorem dX0_count_52 : decode cX0_count 52 = .ok (.getfield 259, 3) := dk_180 1 3 (dk_at dksX0_count_2 4 rfl rfl)
theorem dX0_count_55 : decode cX0_count 55 = .ok (.ireturn, 1) := dk_172 (dk_at dksX0_count_2 7 rfl rfl)
theorem dX0_count_56 : decode cX0_count 56 = .ok (.aload_n 0, 1) := dk_42 (dk_at dksX0_count_2 8 rfl rfl)
theorem dX0_count_57 : decode cX0_count 57 = .ok (.getfield 76, 3) := dk_180 0 76 (dk_at dksX0_count_2 9 rfl rfl)
theorem dX0_count_60 : decode cX0_count 60 = .ok (.getfield 253, 3) := dk_180 0 253 (dk_at dksX0_count_2 12 rfl rfl)
theorem dX0_count_63 : decode cX0_count 63 = .ok (.ireturn, 1) := dk_172 (dk_at dksX0_count_2 15 rfl rfl)
theorem dX0_count_64 : decode cX0_count 64 = .ok (.aload_n 0, 1) := dk_42 (dk_at dksX0_count_2 16 rfl rfl)
theorem dX0_count_65 : decode cX0_count 65 = .ok (.getfield 76, 3) := dk_180 0 76 (dk_at dksX0_count_2 17 rfl rfl)
theorem dX0_count_68 : decode cX0_count 68 = .ok (.getfield 256, 3) := dk_180 1 0 (dk_at dksX0_count_2 20 rfl rfl)
theorem dX0_count_71 : decode cX0_count 71 = .ok (.ireturn, 1) := dk_172 (dk_at dksX0_count_2 23 rfl rfl)
theorem dX0_count_72 : decode cX0_count 72 = .ok (.aload_n 0, 1) := dk_42 (dk_at dksX0_count_3 0 rfl rfl)
theorem dX0_count_73 : decode cX0_count 73 = .ok (.invokevirtual 369, 3) := dk_182 1 113 (dk_at dksX0_count_3 1 rfl rfl)
theorem dX0_count_76 : decode cX0_count 76 = .ok (.ireturn, 1) := dk_172 (dk_at dksX0_count_3 4 rfl rfl)
theorem dX0_count_77 : decode cX0_count 77 = .ok (.aload_n 0, 1) := dk_42 (dk_at dksX0_count_3 5 rfl rfl)
theorem dX0_count_78 : decode cX0_count 78 = .ok (.getfield 76, 3) := dk_180 0 76 (dk_at dksX0_count_3 6 rfl rfl)
theorem dX0_count_81 : decode cX0_count 81 = .ok (.getfield 198, 3) := dk_180 0 198 (dk_at dksX0_count_3 9 rfl rfl)
theorem dX0_count_84 : decode cX0_count 84 = .ok (.ireturn, 1) := dk_172 (dk_at dksX0_count_3 12 rfl rfl)
theorem dX0_count_85 : decode cX0_count 85 = .ok (.aload_n 0, 1) := dk_42 (dk_at dksX0_count_3 13 rfl rfl)
theorem dX0_count_86 : decode cX0_count 86 = .ok (.getfield 76, 3) := dk_180 0 76 (dk_at dksX0_count_3 14 rfl rfl)
theorem dX0_count_89 : decode cX0_count 89 = .ok (.getfield 363, 3) := dk_180 1 107 (dk_at dksX0_count_3 17 rfl rfl)
theorem dX0_count_92 : decode cX0_count 92 = .ok (.ireturn, 1) := dk_172 (dk_at dksX0_count_3 20 rfl rfl)
theorem dX0_count_93 : decode cX0_count 93 = .ok (.aload_n 0, 1) := dk_42 (dk_at dksX0_count_3 21 rfl rfl)
theorem dX0_count_94 : decode cX0_count 94 = .ok (.getfield 86, 3) := dk_180 0 86 (dk_at dksX0_count_4 0 rfl rfl)
theorem dX0_count_97 : decode cX0_count 97 = .ok (.getfield 330, 3) := dk_180 1 74 (dk_at dksX0_count_4 3 rfl rfl)
theorem dX0_count_100 : decode cX0_count 100 = .ok (.ireturn, 1) := dk_172 (dk_at dksX0_count_4 6 rfl rfl)
theorem dX0_count_101 : decode cX0_count 101 = .ok (.aload_n 0, 1) := dk_42 (dk_at dksX0_count_4 7 rfl rfl)
theorem dX0_count_102 : decode cX0_count 102 = .ok (.getfield 76, 3) := dk_180 0 76 (dk_at dksX0_count_4 8 rfl rfl)
theorem dX0_count_105 : decode cX0_count 105 = .ok (.getfield 274, 3) := dk_180 1 18 (dk_at dksX0_count_4 11 rfl rfl)
theorem dX0_count_108 : decode cX0_count 108 = .ok (.ireturn, 1) := dk_172 (dk_at dksX0_count_4 14 rfl rfl)
theorem dX0_count_109 : decode cX0_count 109 = .ok (.aload_n 0, 1) := dk_42 (dk_at dksX0_count_4 15 rfl rfl)
theorem dX0_count_110 : decode cX0_count 110 = .ok (.iconst 1, 1) := dk_4 (dk_at dksX0_count_4 16 rfl rfl)
theorem dX0_count_111 : decode cX0_count 111 = .ok (.invokevirtual 160, 3) := dk_182 0 160 (dk_at dksX0_count_4 17 rfl rfl)
theorem dX0_count_114 : decode cX0_count 114 = .ok (.ireturn, 1) := dk_172 (dk_at dksX0_count_4 20 rfl rfl)
abbrev cX0_allStock : ByteArray := prog_1_method_69_code
def yX0_allStock : MethodName := ⟨RX0, "allStock", "()I"⟩
def dkwX0_allStock_1 : List UInt8 := [132, 2, 1, 167, 255, 235, 27, 172]
abbrev dktX0_allStock_1 : List UInt8 := dkwX0_allStock_1 ++ []
def dkwX0_allStock_0 : List UInt8 := [3, 60, 3, 61, 28, 16, 8, 162, 0, 21, 27, 42, 180, 0, 76, 180, 0, 164, 28, 46, 96, 60]
abbrev dktX0_allStock_0 : List UInt8 := dkwX0_allStock_0 ++ dktX0_allStock_1
theorem dksX0_allStock_0 : cX0_allStock.data.toList.drop 0 = dktX0_allStock_0 := by decide +kernel
theorem dksX0_allStock_1 : cX0_allStock.data.toList.drop 22 = dktX0_allStock_1 := dk_seg dksX0_allStock_0 22 rfl rfl
theorem dX0_allStock_0 : decode cX0_allStock 0 = .ok (.iconst 0, 1) := dk_3 (dk_at dksX0_allStock_0 0 rfl rfl)
theorem dX0_allStock_1 : decode cX0_allStock 1 = .ok (.istore_n 1, 1) := dk_60 (dk_at dksX0_allStock_0 1 rfl rfl)
theorem dX0_allStock_2 : decode cX0_allStock 2 = .ok (.iconst 0, 1) := dk_3 (dk_at dksX0_allStock_0 2 rfl rfl)
theorem dX0_allStock_3 : decode cX0_allStock 3 = .ok (.istore_n 2, 1) := dk_61 (dk_at dksX0_allStock_0 3 rfl rfl)
theorem dX0_allStock_4 : decode cX0_allStock 4 = .ok (.iload_n 2, 1) := dk_28 (dk_at dksX0_allStock_0 4 rfl rfl)
theorem dX0_allStock_5 : decode cX0_allStock 5 = .ok (.bipush 8, 2) := dk_16 8 (dk_at dksX0_allStock_0 5 rfl rfl)
theorem dX0_allStock_7 : decode cX0_allStock 7 = .ok (.if_icmp .ge 21, 3) := dk_162 0 21 (dk_at dksX0_allStock_0 7 rfl rfl)
theorem dX0_allStock_10 : decode cX0_allStock 10 = .ok (.iload_n 1, 1) := dk_27 (dk_at dksX0_allStock_0 10 rfl rfl)
theorem dX0_allStock_11 : decode cX0_allStock 11 = .ok (.aload_n 0, 1) := dk_42 (dk_at dksX0_allStock_0 11 rfl rfl)
theorem dX0_allStock_12 : decode cX0_allStock 12 = .ok (.getfield 76, 3) := dk_180 0 76 (dk_at dksX0_allStock_0 12 rfl rfl)
theorem dX0_allStock_15 : decode cX0_allStock 15 = .ok (.getfield 164, 3) := dk_180 0 164 (dk_at dksX0_allStock_0 15 rfl rfl)
theorem dX0_allStock_18 : decode cX0_allStock 18 = .ok (.iload_n 2, 1) := dk_28 (dk_at dksX0_allStock_0 18 rfl rfl)
theorem dX0_allStock_19 : decode cX0_allStock 19 = .ok (.iaload, 1) := dk_46 (dk_at dksX0_allStock_0 19 rfl rfl)
theorem dX0_allStock_20 : decode cX0_allStock 20 = .ok (.iadd, 1) := dk_96 (dk_at dksX0_allStock_0 20 rfl rfl)
theorem dX0_allStock_21 : decode cX0_allStock 21 = .ok (.istore_n 1, 1) := dk_60 (dk_at dksX0_allStock_0 21 rfl rfl)
theorem dX0_allStock_22 : decode cX0_allStock 22 = .ok (.iinc 2 1, 3) := dk_132 2 1 (dk_at dksX0_allStock_1 0 rfl rfl)
theorem dX0_allStock_25 : decode cX0_allStock 25 = .ok (.goto (-21), 3) := dk_167 255 235 (dk_at dksX0_allStock_1 3 rfl rfl)
theorem dX0_allStock_28 : decode cX0_allStock 28 = .ok (.iload_n 1, 1) := dk_27 (dk_at dksX0_allStock_1 6 rfl rfl)
theorem dX0_allStock_29 : decode cX0_allStock 29 = .ok (.ireturn, 1) := dk_172 (dk_at dksX0_allStock_1 7 rfl rfl)
abbrev cX0_told : ByteArray := prog_1_method_71_code
def yX0_told : MethodName := ⟨RX0, "told", "(I)I"⟩
def dkwX0_told_1 : List UInt8 := [172]
abbrev dktX0_told_1 : List UInt8 := dkwX0_told_1 ++ []
def dkwX0_told_0 : List UInt8 := [27, 4, 16, 6, 184, 0, 125, 153, 0, 12, 42, 180, 0, 90, 27, 46, 167, 0, 8, 42, 4, 182, 0, 160]
abbrev dktX0_told_0 : List UInt8 := dkwX0_told_0 ++ dktX0_told_1
theorem dksX0_told_0 : cX0_told.data.toList.drop 0 = dktX0_told_0 := by decide +kernel
theorem dksX0_told_1 : cX0_told.data.toList.drop 24 = dktX0_told_1 := dk_seg dksX0_told_0 24 rfl rfl
theorem dX0_told_0 : decode cX0_told 0 = .ok (.iload_n 1, 1) := dk_27 (dk_at dksX0_told_0 0 rfl rfl)
theorem dX0_told_1 : decode cX0_told 1 = .ok (.iconst 1, 1) := dk_4 (dk_at dksX0_told_0 1 rfl rfl)
theorem dX0_told_2 : decode cX0_told 2 = .ok (.bipush 6, 2) := dk_16 6 (dk_at dksX0_told_0 2 rfl rfl)
theorem dX0_told_4 : decode cX0_told 4 = .ok (.invokestatic 125, 3) := dk_184 0 125 (dk_at dksX0_told_0 4 rfl rfl)
theorem dX0_told_7 : decode cX0_told 7 = .ok (.ifCond .eq 12, 3) := dk_153 0 12 (dk_at dksX0_told_0 7 rfl rfl)
theorem dX0_told_10 : decode cX0_told 10 = .ok (.aload_n 0, 1) := dk_42 (dk_at dksX0_told_0 10 rfl rfl)
theorem dX0_told_11 : decode cX0_told 11 = .ok (.getfield 90, 3) := dk_180 0 90 (dk_at dksX0_told_0 11 rfl rfl)
theorem dX0_told_14 : decode cX0_told 14 = .ok (.iload_n 1, 1) := dk_27 (dk_at dksX0_told_0 14 rfl rfl)
theorem dX0_told_15 : decode cX0_told 15 = .ok (.iaload, 1) := dk_46 (dk_at dksX0_told_0 15 rfl rfl)
theorem dX0_told_16 : decode cX0_told 16 = .ok (.goto 8, 3) := dk_167 0 8 (dk_at dksX0_told_0 16 rfl rfl)
theorem dX0_told_19 : decode cX0_told 19 = .ok (.aload_n 0, 1) := dk_42 (dk_at dksX0_told_0 19 rfl rfl)
theorem dX0_told_20 : decode cX0_told 20 = .ok (.iconst 1, 1) := dk_4 (dk_at dksX0_told_0 20 rfl rfl)
theorem dX0_told_21 : decode cX0_told 21 = .ok (.invokevirtual 160, 3) := dk_182 0 160 (dk_at dksX0_told_0 21 rfl rfl)
theorem dX0_told_24 : decode cX0_told 24 = .ok (.ireturn, 1) := dk_172 (dk_at dksX0_told_1 0 rfl rfl)
theorem q69 : (Jvm.Cond.initialized "FigureTill") ∈ lw_all := lw_g (lw_at lw_m1 1 rfl) rfl
theorem q99 : (Jvm.Cond.instantiable "FigureTill" (19 : Nat)) ∈ lw_all := lw_g (lw_at lw_m1 31 rfl) rfl
theorem q101 : (Jvm.Cond.instanceMethod ({ cls := "FigureTill", name := "<init>", desc := "()V" } : Jvm.MethodName)) ∈ lw_all := lw_g (lw_at lw_m1 33 rfl) rfl
theorem q102 : (Jvm.Cond.code ({ cls := "FigureTill", name := "<init>", desc := "()V" } : Jvm.MethodName) prog_1_method_10_code (1 : Nat) (Option.none : Option Jvm.ClassFile.FieldType)) ∈ lw_all := lw_g (lw_at lw_m1 34 rfl) rfl
theorem q103 : (Jvm.Cond.methodLink "FigureTill" (68 : Nat) ({ cls := "java/lang/Object", name := "<init>", desc := "()V" } : Jvm.MethodName)) ∈ lw_all := lw_g (lw_at lw_m1 35 rfl) rfl
theorem q106 : (Jvm.Cond.classLink "FigureTill" (73 : Nat) "FigureTill$House") ∈ lw_all := lw_g (lw_at lw_m1 38 rfl) rfl
theorem q108 : (Jvm.Cond.methodLink "FigureTill" (75 : Nat) ({ cls := "FigureTill$House", name := "<init>", desc := "()V" } : Jvm.MethodName)) ∈ lw_all := lw_g (lw_at lw_m1 40 rfl) rfl
theorem q122 : (Jvm.Cond.fieldLinkNest "FigureTill" (187 : Nat) "FigureTill$Slot" "held" "Ljava/lang/Object;" "FigureTill") ∈ lw_tbl := lw_at lw_m1 54 rfl
theorem q146 : (Jvm.Cond.fieldLink "FigureTill" (177 : Nat) "FigureTill$Till" "m" "I") ∈ lw_all := lw_g (lw_at lw_m1 78 rfl) rfl
theorem q153 : (Jvm.Cond.fieldLinkNest "FigureTill" (133 : Nat) "FigureTill$House" "price" "[I" "FigureTill") ∈ lw_tbl := lw_at lw_m1 85 rfl
theorem q155 : (Jvm.Cond.fieldLinkNest "FigureTill" (136 : Nat) "FigureTill$House" "cost" "[I" "FigureTill") ∈ lw_tbl := lw_at lw_m1 87 rfl
theorem q157 : (Jvm.Cond.fieldLinkNest "FigureTill" (164 : Nat) "FigureTill$House" "stock" "[I" "FigureTill") ∈ lw_tbl := lw_at lw_m1 89 rfl
theorem q159 : (Jvm.Cond.fieldLinkNest "FigureTill" (253 : Nat) "FigureTill$House" "takings" "I" "FigureTill") ∈ lw_tbl := lw_at lw_m1 91 rfl
theorem q161 : (Jvm.Cond.fieldLinkNest "FigureTill" (256 : Nat) "FigureTill$House" "costs" "I" "FigureTill") ∈ lw_tbl := lw_at lw_m1 93 rfl
theorem q163 : (Jvm.Cond.fieldLinkNest "FigureTill" (259 : Nat) "FigureTill$House" "goes" "I" "FigureTill") ∈ lw_tbl := lw_at lw_m1 95 rfl
theorem q165 : (Jvm.Cond.fieldLinkNest "FigureTill" (274 : Nat) "FigureTill$House" "z" "I" "FigureTill") ∈ lw_tbl := lw_at lw_m1 97 rfl
theorem q167 : (Jvm.Cond.fieldLinkNest "FigureTill" (198 : Nat) "FigureTill$House" "taped" "I" "FigureTill") ∈ lw_tbl := lw_at lw_m1 99 rfl
theorem q169 : (Jvm.Cond.fieldLinkNest "FigureTill" (363 : Nat) "FigureTill$House" "waiting" "I" "FigureTill") ∈ lw_tbl := lw_at lw_m1 101 rfl
theorem q171 : (Jvm.Cond.fieldLinkNest "FigureTill" (180 : Nat) "FigureTill$House" "till" "[LFigureTill$Slot;" "FigureTill") ∈ lw_tbl := lw_at lw_m1 103 rfl
theorem q174 : (Jvm.Cond.fieldLinkNest "FigureTill" (129 : Nat) "FigureTill$House" "texts" "[LFigureTill$Text;" "FigureTill") ∈ lw_tbl := lw_at lw_m1 106 rfl
theorem q176 : (Jvm.Cond.fieldLinkNest "FigureTill" (201 : Nat) "FigureTill$House" "tape" "[B" "FigureTill") ∈ lw_tbl := lw_at lw_m1 108 rfl
theorem q178 : (Jvm.Cond.fieldLinkNest "FigureTill" (366 : Nat) "FigureTill$House" "waits" "[I" "FigureTill") ∈ lw_tbl := lw_at lw_m1 110 rfl
theorem q206 : (Jvm.Cond.classLink "FigureTill" (83 : Nat) "FigureTill$Trace") ∈ lw_all := lw_g (lw_at lw_m1 138 rfl) rfl
theorem q208 : (Jvm.Cond.methodLinkNest "FigureTill" (85 : Nat) ({ cls := "FigureTill$Trace", name := "<init>", desc := "()V" } : Jvm.MethodName) "FigureTill") ∈ lw_tbl := lw_at lw_m1 140 rfl
theorem q213 : (Jvm.Cond.fieldLinkNest "FigureTill" (346 : Nat) "FigureTill$Trace" "bodies" "[B" "FigureTill") ∈ lw_tbl := lw_at lw_m1 145 rfl
theorem q215 : (Jvm.Cond.fieldLinkNest "FigureTill" (330 : Nat) "FigureTill$Trace" "many" "I" "FigureTill") ∈ lw_tbl := lw_at lw_m1 147 rfl
theorem q221 : (Jvm.Cond.classLink "FigureTill" (93 : Nat) "FigureTill$Slot") ∈ lw_all := lw_g (lw_at lw_m1 153 rfl) rfl
theorem q222 : (Jvm.Cond.methodLinkNest "FigureTill" (95 : Nat) ({ cls := "FigureTill$Slot", name := "<init>", desc := "()V" } : Jvm.MethodName) "FigureTill") ∈ lw_tbl := lw_at lw_m1 154 rfl
theorem q223 : (Jvm.Cond.classLink "FigureTill" (100 : Nat) "FigureTill$Eyes") ∈ lw_all := lw_g (lw_at lw_m1 155 rfl) rfl
theorem q225 : (Jvm.Cond.methodLinkNest "FigureTill" (102 : Nat) ({ cls := "FigureTill$Eyes", name := "<init>", desc := "(LFigureTill;)V" } : Jvm.MethodName) "FigureTill") ∈ lw_tbl := lw_at lw_m1 157 rfl
theorem q233 : (Jvm.Cond.fieldLink "FigureTill" (53 : Nat) "FigureTill" "pile" "[I") ∈ lw_all := lw_g (lw_at lw_m1 165 rfl) rfl
theorem q235 : (Jvm.Cond.fieldLink "FigureTill" (61 : Nat) "FigureTill" "named" "[I") ∈ lw_all := lw_g (lw_at lw_m1 167 rfl) rfl
theorem q237 : (Jvm.Cond.fieldLink "FigureTill" (76 : Nat) "FigureTill" "house" "LFigureTill$House;") ∈ lw_all := lw_g (lw_at lw_m1 169 rfl) rfl
theorem q238 : (Jvm.Cond.fieldLink "FigureTill" (80 : Nat) "FigureTill" "kept" "LFigureTill$House;") ∈ lw_all := lw_g (lw_at lw_m1 170 rfl) rfl
theorem q239 : (Jvm.Cond.fieldLink "FigureTill" (86 : Nat) "FigureTill" "trace" "LFigureTill$Trace;") ∈ lw_all := lw_g (lw_at lw_m1 171 rfl) rfl
theorem q240 : (Jvm.Cond.fieldLink "FigureTill" (90 : Nat) "FigureTill" "found" "[I") ∈ lw_all := lw_g (lw_at lw_m1 172 rfl) rfl
theorem q241 : (Jvm.Cond.fieldLink "FigureTill" (96 : Nat) "FigureTill" "sheets" "[LFigureTill$Slot;") ∈ lw_all := lw_g (lw_at lw_m1 173 rfl) rfl
theorem q242 : (Jvm.Cond.fieldLink "FigureTill" (105 : Nat) "FigureTill" "eyes" "LFigureTill$Sees;") ∈ lw_all := lw_g (lw_at lw_m1 174 rfl) rfl
theorem q243 : (Jvm.Cond.fieldLink "FigureTill" (360 : Nat) "FigureTill" "images" "I") ∈ lw_all := lw_g (lw_at lw_m1 175 rfl) rfl
theorem q244 : (Jvm.Cond.fieldLink "FigureTill" (109 : Nat) "FigureTill" "basket" "[B") ∈ lw_all := lw_g (lw_at lw_m1 176 rfl) rfl
theorem q245 : (Jvm.Cond.fieldLink "FigureTill" (112 : Nat) "FigureTill" "second" "[B") ∈ lw_all := lw_g (lw_at lw_m1 177 rfl) rfl
theorem q246 : (Jvm.Cond.fieldLink "FigureTill" (115 : Nat) "FigureTill" "extra" "[B") ∈ lw_all := lw_g (lw_at lw_m1 178 rfl) rfl
theorem q247 : (Jvm.Cond.fieldLink "FigureTill" (118 : Nat) "FigureTill" "bestExtra" "[B") ∈ lw_all := lw_g (lw_at lw_m1 179 rfl) rfl
theorem q248 : (Jvm.Cond.fieldLink "FigureTill" (121 : Nat) "FigureTill" "all" "[B") ∈ lw_all := lw_g (lw_at lw_m1 180 rfl) rfl
theorem q249 : (Jvm.Cond.fieldLink "FigureTill" (283 : Nat) "FigureTill" "bestNet" "I") ∈ lw_all := lw_g (lw_at lw_m1 181 rfl) rfl
theorem q250 : (Jvm.Cond.fieldLink "FigureTill" (280 : Nat) "FigureTill" "bestMany" "I") ∈ lw_all := lw_g (lw_at lw_m1 182 rfl) rfl
theorem q251 : (Jvm.Cond.fieldLink "FigureTill" (308 : Nat) "FigureTill" "fewMany" "I") ∈ lw_all := lw_g (lw_at lw_m1 183 rfl) rfl
theorem q252 : (Jvm.Cond.fieldLink "FigureTill" (311 : Nat) "FigureTill" "fewFirst" "I") ∈ lw_all := lw_g (lw_at lw_m1 184 rfl) rfl
theorem q253 : (Jvm.Cond.fieldLink "FigureTill" (305 : Nat) "FigureTill" "fewLeast" "I") ∈ lw_all := lw_g (lw_at lw_m1 185 rfl) rfl
theorem q254 : (Jvm.Cond.laysFinal "FigureTill" "FigureTill" "pile" "[I") ∈ lw_all := lw_g (lw_at lw_m1 186 rfl) rfl
theorem q255 : (Jvm.Cond.soleField "FigureTill" "pile") ∈ lw_all := lw_g (lw_at lw_m1 187 rfl) rfl
theorem q256 : (Jvm.Cond.laysFinal "FigureTill" "FigureTill" "named" "[I") ∈ lw_all := lw_g (lw_at lw_m1 188 rfl) rfl
theorem q257 : (Jvm.Cond.soleField "FigureTill" "named") ∈ lw_all := lw_g (lw_at lw_m1 189 rfl) rfl
theorem q258 : (Jvm.Cond.laysFinal "FigureTill" "FigureTill" "house" "LFigureTill$House;") ∈ lw_all := lw_g (lw_at lw_m1 190 rfl) rfl
theorem q259 : (Jvm.Cond.soleField "FigureTill" "house") ∈ lw_all := lw_g (lw_at lw_m1 191 rfl) rfl
theorem q260 : (Jvm.Cond.laysFinal "FigureTill" "FigureTill" "kept" "LFigureTill$House;") ∈ lw_all := lw_g (lw_at lw_m1 192 rfl) rfl
theorem q261 : (Jvm.Cond.soleField "FigureTill" "kept") ∈ lw_all := lw_g (lw_at lw_m1 193 rfl) rfl
theorem q262 : (Jvm.Cond.laysFinal "FigureTill" "FigureTill" "trace" "LFigureTill$Trace;") ∈ lw_all := lw_g (lw_at lw_m1 194 rfl) rfl
theorem q263 : (Jvm.Cond.soleField "FigureTill" "trace") ∈ lw_all := lw_g (lw_at lw_m1 195 rfl) rfl
theorem q264 : (Jvm.Cond.laysFinal "FigureTill" "FigureTill" "found" "[I") ∈ lw_all := lw_g (lw_at lw_m1 196 rfl) rfl
theorem q265 : (Jvm.Cond.soleField "FigureTill" "found") ∈ lw_all := lw_g (lw_at lw_m1 197 rfl) rfl
theorem q266 : (Jvm.Cond.laysFinal "FigureTill" "FigureTill" "sheets" "[LFigureTill$Slot;") ∈ lw_all := lw_g (lw_at lw_m1 198 rfl) rfl
theorem q267 : (Jvm.Cond.soleField "FigureTill" "sheets") ∈ lw_all := lw_g (lw_at lw_m1 199 rfl) rfl
theorem q268 : (Jvm.Cond.laysFinal "FigureTill" "FigureTill" "eyes" "LFigureTill$Sees;") ∈ lw_all := lw_g (lw_at lw_m1 200 rfl) rfl
theorem q269 : (Jvm.Cond.soleField "FigureTill" "eyes") ∈ lw_all := lw_g (lw_at lw_m1 201 rfl) rfl
theorem q270 : (Jvm.Cond.lays "FigureTill" "FigureTill" "images" "I") ∈ lw_all := lw_g (lw_at lw_m1 202 rfl) rfl
theorem q271 : (Jvm.Cond.soleField "FigureTill" "images") ∈ lw_all := lw_g (lw_at lw_m1 203 rfl) rfl
theorem q272 : (Jvm.Cond.laysFinal "FigureTill" "FigureTill" "basket" "[B") ∈ lw_all := lw_g (lw_at lw_m1 204 rfl) rfl
theorem q273 : (Jvm.Cond.soleField "FigureTill" "basket") ∈ lw_all := lw_g (lw_at lw_m1 205 rfl) rfl
theorem q274 : (Jvm.Cond.laysFinal "FigureTill" "FigureTill" "second" "[B") ∈ lw_all := lw_g (lw_at lw_m1 206 rfl) rfl
theorem q275 : (Jvm.Cond.soleField "FigureTill" "second") ∈ lw_all := lw_g (lw_at lw_m1 207 rfl) rfl
theorem q276 : (Jvm.Cond.laysFinal "FigureTill" "FigureTill" "extra" "[B") ∈ lw_all := lw_g (lw_at lw_m1 208 rfl) rfl
theorem q277 : (Jvm.Cond.soleField "FigureTill" "extra") ∈ lw_all := lw_g (lw_at lw_m1 209 rfl) rfl
theorem q278 : (Jvm.Cond.laysFinal "FigureTill" "FigureTill" "bestExtra" "[B") ∈ lw_all := lw_g (lw_at lw_m1 210 rfl) rfl
theorem q279 : (Jvm.Cond.soleField "FigureTill" "bestExtra") ∈ lw_all := lw_g (lw_at lw_m1 211 rfl) rfl
theorem q280 : (Jvm.Cond.laysFinal "FigureTill" "FigureTill" "all" "[B") ∈ lw_all := lw_g (lw_at lw_m1 212 rfl) rfl
theorem q281 : (Jvm.Cond.soleField "FigureTill" "all") ∈ lw_all := lw_g (lw_at lw_m1 213 rfl) rfl
theorem q282 : (Jvm.Cond.lays "FigureTill" "FigureTill" "bestNet" "I") ∈ lw_all := lw_g (lw_at lw_m1 214 rfl) rfl
theorem q283 : (Jvm.Cond.soleField "FigureTill" "bestNet") ∈ lw_all := lw_g (lw_at lw_m1 215 rfl) rfl
theorem q284 : (Jvm.Cond.lays "FigureTill" "FigureTill" "bestMany" "I") ∈ lw_all := lw_g (lw_at lw_m1 216 rfl) rfl
theorem q285 : (Jvm.Cond.soleField "FigureTill" "bestMany") ∈ lw_all := lw_g (lw_at lw_m1 217 rfl) rfl
theorem q286 : (Jvm.Cond.lays "FigureTill" "FigureTill" "fewMany" "I") ∈ lw_all := lw_g (lw_at lw_m1 218 rfl) rfl
theorem q287 : (Jvm.Cond.soleField "FigureTill" "fewMany") ∈ lw_all := lw_g (lw_at lw_m1 219 rfl) rfl
theorem q288 : (Jvm.Cond.lays "FigureTill" "FigureTill" "fewFirst" "I") ∈ lw_all := lw_g (lw_at lw_m1 220 rfl) rfl
theorem q289 : (Jvm.Cond.soleField "FigureTill" "fewFirst") ∈ lw_all := lw_g (lw_at lw_m1 221 rfl) rfl
theorem q290 : (Jvm.Cond.lays "FigureTill" "FigureTill" "fewLeast" "I") ∈ lw_all := lw_g (lw_at lw_m1 222 rfl) rfl
theorem q291 : (Jvm.Cond.soleField "FigureTill" "fewLeast") ∈ lw_all := lw_g (lw_at lw_m1 223 rfl) rfl
theorem q292 : (Jvm.Cond.superclass "FigureTill" "java/lang/Object") ∈ lw_all := lw_g (lw_at lw_m1 224 rfl) rfl
theorem q294 : (Jvm.Cond.instanceMethod ({ cls := "FigureTill", name := "thing", desc := "(III)I" } : Jvm.MethodName)) ∈ lw_all := lw_g (lw_at lw_m1 226 rfl) rfl
theorem q295 : (Jvm.Cond.selects "FigureTill" ({ cls := "FigureTill", name := "thing", desc := "(III)I" } : Jvm.MethodName) ({ cls := "FigureTill", name := "thing", desc := "(III)I" } : Jvm.MethodName)) ∈ lw_all := lw_g (lw_at lw_m1 227 rfl) rfl
theorem q296 : (Jvm.Cond.code ({ cls := "FigureTill", name := "thing", desc := "(III)I" } : Jvm.MethodName) prog_1_method_16_code (6 : Nat) (Option.some Jvm.ClassFile.FieldType.int)) ∈ lw_all := lw_g (lw_at lw_m1 228 rfl) rfl
theorem q297 : (Jvm.Cond.methodLink "FigureTill" (156 : Nat) ({ cls := "FigureTill", name := "isThing", desc := "(I)Z" } : Jvm.MethodName)) ∈ lw_all := lw_g (lw_at lw_m1 229 rfl) rfl
theorem q298 : (Jvm.Cond.static ({ cls := "FigureTill", name := "isThing", desc := "(I)Z" } : Jvm.MethodName)) ∈ lw_all := lw_g (lw_at lw_m1 230 rfl) rfl
theorem q299 : (Jvm.Cond.code ({ cls := "FigureTill", name := "isThing", desc := "(I)Z" } : Jvm.MethodName) prog_1_method_12_code (1 : Nat) (Option.some Jvm.ClassFile.FieldType.boolean)) ∈ lw_all := lw_g (lw_at lw_m1 231 rfl) rfl
theorem q300 : (Jvm.Cond.methodLink "FigureTill" (125 : Nat) ({ cls := "FigureTill", name := "isIn", desc := "(III)Z" } : Jvm.MethodName)) ∈ lw_all := lw_g (lw_at lw_m1 232 rfl) rfl
theorem q301 : (Jvm.Cond.static ({ cls := "FigureTill", name := "isIn", desc := "(III)Z" } : Jvm.MethodName)) ∈ lw_all := lw_g (lw_at lw_m1 233 rfl) rfl
theorem q302 : (Jvm.Cond.code ({ cls := "FigureTill", name := "isIn", desc := "(III)Z" } : Jvm.MethodName) prog_1_method_1_code (3 : Nat) (Option.some Jvm.ClassFile.FieldType.boolean)) ∈ lw_all := lw_g (lw_at lw_m1 234 rfl) rfl
theorem q303 : (Jvm.Cond.methodLink "FigureTill" (160 : Nat) ({ cls := "FigureTill", name := "finds", desc := "(I)I" } : Jvm.MethodName)) ∈ lw_all := lw_g (lw_at lw_m1 235 rfl) rfl
theorem q304 : (Jvm.Cond.privateMethod ({ cls := "FigureTill", name := "finds", desc := "(I)I" } : Jvm.MethodName)) ∈ lw_tbl := lw_at lw_m1 236 rfl
theorem q305 : (Jvm.Cond.instanceMethod ({ cls := "FigureTill", name := "finds", desc := "(I)I" } : Jvm.MethodName)) ∈ lw_all := lw_g (lw_at lw_m1 237 rfl) rfl
theorem q306 : (Jvm.Cond.code ({ cls := "FigureTill", name := "finds", desc := "(I)I" } : Jvm.MethodName) prog_1_method_11_code (2 : Nat) (Option.some Jvm.ClassFile.FieldType.int)) ∈ lw_all := lw_g (lw_at lw_m1 238 rfl) rfl
theorem q307 : (Jvm.Cond.constant "FigureTill" (124 : Nat) (-1000000000 : Int32)) ∈ lw_all := lw_g (lw_at lw_m1 239 rfl) rfl
theorem q309 : (Jvm.Cond.instanceMethod ({ cls := "FigureTill", name := "thingIs", desc := "(II)I" } : Jvm.MethodName)) ∈ lw_all := lw_g (lw_at lw_m2 1 rfl) rfl
theorem q310 : (Jvm.Cond.selects "FigureTill" ({ cls := "FigureTill", name := "thingIs", desc := "(II)I" } : Jvm.MethodName) ({ cls := "FigureTill", name := "thingIs", desc := "(II)I" } : Jvm.MethodName)) ∈ lw_all := lw_g (lw_at lw_m2 2 rfl) rfl
theorem q311 : (Jvm.Cond.code ({ cls := "FigureTill", name := "thingIs", desc := "(II)I" } : Jvm.MethodName) prog_1_method_17_code (3 : Nat) (Option.some Jvm.ClassFile.FieldType.int)) ∈ lw_all := lw_g (lw_at lw_m2 3 rfl) rfl
theorem q312 : (Jvm.Cond.methodLink "FigureTill" (167 : Nat) ({ cls := "FigureTill", name := "valueOf", desc := "(I)I" } : Jvm.MethodName)) ∈ lw_all := lw_g (lw_at lw_m2 4 rfl) rfl
theorem q313 : (Jvm.Cond.privateMethod ({ cls := "FigureTill", name := "valueOf", desc := "(I)I" } : Jvm.MethodName)) ∈ lw_tbl := lw_at lw_m2 5 rfl
theorem q314 : (Jvm.Cond.instanceMethod ({ cls := "FigureTill", name := "valueOf", desc := "(I)I" } : Jvm.MethodName)) ∈ lw_all := lw_g (lw_at lw_m2 6 rfl) rfl
theorem q315 : (Jvm.Cond.code ({ cls := "FigureTill", name := "valueOf", desc := "(I)I" } : Jvm.MethodName) prog_1_method_14_code (2 : Nat) (Option.some Jvm.ClassFile.FieldType.int)) ∈ lw_all := lw_g (lw_at lw_m2 7 rfl) rfl
theorem q316 : (Jvm.Cond.methodLink "FigureTill" (139 : Nat) ({ cls := "FigureTill", name := "worked", desc := "(LFigureTill$Text;)I" } : Jvm.MethodName)) ∈ lw_all := lw_g (lw_at lw_m2 8 rfl) rfl
theorem q317 : (Jvm.Cond.privateMethod ({ cls := "FigureTill", name := "worked", desc := "(LFigureTill$Text;)I" } : Jvm.MethodName)) ∈ lw_tbl := lw_at lw_m2 9 rfl
theorem q318 : (Jvm.Cond.instanceMethod ({ cls := "FigureTill", name := "worked", desc := "(LFigureTill$Text;)I" } : Jvm.MethodName)) ∈ lw_all := lw_g (lw_at lw_m2 10 rfl) rfl
theorem q319 : (Jvm.Cond.code ({ cls := "FigureTill", name := "worked", desc := "(LFigureTill$Text;)I" } : Jvm.MethodName) prog_1_method_9_code (5 : Nat) (Option.some Jvm.ClassFile.FieldType.int)) ∈ lw_all := lw_g (lw_at lw_m2 11 rfl) rfl
theorem q320 : (Jvm.Cond.methodLink "FigureTill" (64 : Nat) ({ cls := "FigureTill", name := "both", desc := "(III)I" } : Jvm.MethodName)) ∈ lw_all := lw_g (lw_at lw_m2 12 rfl) rfl
theorem q321 : (Jvm.Cond.static ({ cls := "FigureTill", name := "both", desc := "(III)I" } : Jvm.MethodName)) ∈ lw_all := lw_g (lw_at lw_m2 13 rfl) rfl
theorem q322 : (Jvm.Cond.code ({ cls := "FigureTill", name := "both", desc := "(III)I" } : Jvm.MethodName) prog_1_method_8_code (3 : Nat) (Option.some Jvm.ClassFile.FieldType.int)) ∈ lw_all := lw_g (lw_at lw_m2 14 rfl) rfl
theorem q323 : (Jvm.Cond.methodLink "FigureTill" (143 : Nat) ({ cls := "FigureTill", name := "held", desc := "(III)I" } : Jvm.MethodName)) ∈ lw_all := lw_g (lw_at lw_m2 15 rfl) rfl
theorem q324 : (Jvm.Cond.static ({ cls := "FigureTill", name := "held", desc := "(III)I" } : Jvm.MethodName)) ∈ lw_all := lw_g (lw_at lw_m2 16 rfl) rfl
theorem q325 : (Jvm.Cond.code ({ cls := "FigureTill", name := "held", desc := "(III)I" } : Jvm.MethodName) prog_1_method_2_code (3 : Nat) (Option.some Jvm.ClassFile.FieldType.int)) ∈ lw_all := lw_g (lw_at lw_m2 17 rfl) rfl
theorem q326 : (Jvm.Cond.methodLink "FigureTill" (1 : Nat) ({ cls := "java/lang/Math", name := "min", desc := "(II)I" } : Jvm.MethodName)) ∈ lw_all := lw_g (lw_at lw_m2 18 rfl) rfl
theorem q329 : (Jvm.Cond.methodLink "FigureTill" (7 : Nat) ({ cls := "java/lang/Math", name := "max", desc := "(II)I" } : Jvm.MethodName)) ∈ lw_all := lw_g (lw_at lw_m2 21 rfl) rfl
theorem q333 : (Jvm.Cond.instanceMethod ({ cls := "FigureTill", name := "till", desc := "(II)I" } : Jvm.MethodName)) ∈ lw_all := lw_g (lw_at lw_m2 25 rfl) rfl
theorem q334 : (Jvm.Cond.selects "FigureTill" ({ cls := "FigureTill", name := "till", desc := "(II)I" } : Jvm.MethodName) ({ cls := "FigureTill", name := "till", desc := "(II)I" } : Jvm.MethodName)) ∈ lw_all := lw_g (lw_at lw_m2 26 rfl) rfl
theorem q335 : (Jvm.Cond.code ({ cls := "FigureTill", name := "till", desc := "(II)I" } : Jvm.MethodName) prog_1_method_18_code (4 : Nat) (Option.some Jvm.ClassFile.FieldType.int)) ∈ lw_all := lw_g (lw_at lw_m2 27 rfl) rfl
theorem q336 : (Jvm.Cond.methodLink "FigureTill" (170 : Nat) ({ cls := "FigureTill", name := "isTill", desc := "(I)Z" } : Jvm.MethodName)) ∈ lw_all := lw_g (lw_at lw_m2 28 rfl) rfl
theorem q337 : (Jvm.Cond.static ({ cls := "FigureTill", name := "isTill", desc := "(I)Z" } : Jvm.MethodName)) ∈ lw_all := lw_g (lw_at lw_m2 29 rfl) rfl
theorem q338 : (Jvm.Cond.code ({ cls := "FigureTill", name := "isTill", desc := "(I)Z" } : Jvm.MethodName) prog_1_method_13_code (1 : Nat) (Option.some Jvm.ClassFile.FieldType.boolean)) ∈ lw_all := lw_g (lw_at lw_m2 30 rfl) rfl
theorem q339 : (Jvm.Cond.methodLink "FigureTill" (146 : Nat) ({ cls := "FigureTill$House", name := "at", desc := "(I)LFigureTill$Till;" } : Jvm.MethodName)) ∈ lw_all := lw_g (lw_at lw_m2 31 rfl) rfl
theorem q343 : (Jvm.Cond.methodLink "FigureTill" (173 : Nat) ({ cls := "FigureTill$Till", name := "kind", desc := "()I" } : Jvm.MethodName)) ∈ lw_all := lw_g (lw_at lw_m2 35 rfl) rfl
theorem q378 : (Jvm.Cond.methodLink "FigureTill" (183 : Nat) ({ cls := "FigureTill", name := "made", desc := "(III)LFigureTill$Till;" } : Jvm.MethodName)) ∈ lw_all := lw_g (lw_at lw_m2 70 rfl) rfl
theorem q379 : (Jvm.Cond.static ({ cls := "FigureTill", name := "made", desc := "(III)LFigureTill$Till;" } : Jvm.MethodName)) ∈ lw_all := lw_g (lw_at lw_m2 71 rfl) rfl
theorem q380 : (Jvm.Cond.code ({ cls := "FigureTill", name := "made", desc := "(III)LFigureTill$Till;" } : Jvm.MethodName) prog_1_method_5_code (3 : Nat) (Option.some (Jvm.ClassFile.FieldType.object "FigureTill$Till"))) ∈ lw_all := lw_g (lw_at lw_m2 72 rfl) rfl
theorem q381 : (Jvm.Cond.classLink "FigureTill" (15 : Nat) "FigureTill$Last") ∈ lw_all := lw_g (lw_at lw_m2 73 rfl) rfl
theorem q383 : (Jvm.Cond.methodLink "FigureTill" (17 : Nat) ({ cls := "FigureTill$Last", name := "<init>", desc := "(II)V" } : Jvm.MethodName)) ∈ lw_all := lw_g (lw_at lw_m2 75 rfl) rfl
theorem q389 : (Jvm.Cond.classLink "FigureTill" (21 : Nat) "FigureTill$Root") ∈ lw_all := lw_g (lw_at lw_m2 81 rfl) rfl
theorem q391 : (Jvm.Cond.methodLink "FigureTill" (23 : Nat) ({ cls := "FigureTill$Root", name := "<init>", desc := "(II)V" } : Jvm.MethodName)) ∈ lw_all := lw_g (lw_at lw_m2 83 rfl) rfl
theorem q397 : (Jvm.Cond.classLink "FigureTill" (24 : Nat) "FigureTill$Errs") ∈ lw_all := lw_g (lw_at lw_m2 89 rfl) rfl
theorem q399 : (Jvm.Cond.methodLink "FigureTill" (26 : Nat) ({ cls := "FigureTill$Errs", name := "<init>", desc := "(II)V" } : Jvm.MethodName)) ∈ lw_all := lw_g (lw_at lw_m2 91 rfl) rfl
theorem q405 : (Jvm.Cond.classLink "FigureTill" (27 : Nat) "FigureTill$Other") ∈ lw_all := lw_g (lw_at lw_m2 97 rfl) rfl
theorem q407 : (Jvm.Cond.methodLink "FigureTill" (29 : Nat) ({ cls := "FigureTill$Other", name := "<init>", desc := "(II)V" } : Jvm.MethodName)) ∈ lw_all := lw_g (lw_at lw_m2 99 rfl) rfl
theorem q413 : (Jvm.Cond.classLink "FigureTill" (30 : Nat) "FigureTill$Floor") ∈ lw_all := lw_g (lw_at lw_m2 105 rfl) rfl
theorem q415 : (Jvm.Cond.methodLink "FigureTill" (32 : Nat) ({ cls := "FigureTill$Floor", name := "<init>", desc := "(II)V" } : Jvm.MethodName)) ∈ lw_all := lw_g (lw_at lw_m2 107 rfl) rfl
theorem q421 : (Jvm.Cond.classLink "FigureTill" (33 : Nat) "FigureTill$Told") ∈ lw_all := lw_g (lw_at lw_m2 113 rfl) rfl
theorem q423 : (Jvm.Cond.methodLink "FigureTill" (35 : Nat) ({ cls := "FigureTill$Told", name := "<init>", desc := "(II)V" } : Jvm.MethodName)) ∈ lw_all := lw_g (lw_at lw_m2 115 rfl) rfl
theorem q429 : (Jvm.Cond.classLink "FigureTill" (36 : Nat) "FigureTill$Till") ∈ lw_all := lw_g (lw_at lw_m2 121 rfl) rfl
theorem q430 : (Jvm.Cond.methodLink "FigureTill" (38 : Nat) ({ cls := "FigureTill$Till", name := "<init>", desc := "(II)V" } : Jvm.MethodName)) ∈ lw_all := lw_g (lw_at lw_m2 122 rfl) rfl
theorem q432 : (Jvm.Cond.instanceMethod ({ cls := "FigureTill", name := "tillIs", desc := "(II)I" } : Jvm.MethodName)) ∈ lw_all := lw_g (lw_at lw_m2 124 rfl) rfl
theorem q433 : (Jvm.Cond.selects "FigureTill" ({ cls := "FigureTill", name := "tillIs", desc := "(II)I" } : Jvm.MethodName) ({ cls := "FigureTill", name := "tillIs", desc := "(II)I" } : Jvm.MethodName)) ∈ lw_all := lw_g (lw_at lw_m2 125 rfl) rfl
theorem q434 : (Jvm.Cond.code ({ cls := "FigureTill", name := "tillIs", desc := "(II)I" } : Jvm.MethodName) prog_1_method_19_code (3 : Nat) (Option.some Jvm.ClassFile.FieldType.int)) ∈ lw_all := lw_g (lw_at lw_m2 126 rfl) rfl
theorem q436 : (Jvm.Cond.instanceMethod ({ cls := "FigureTill", name := "as", desc := "(II)I" } : Jvm.MethodName)) ∈ lw_all := lw_g (lw_at lw_m2 128 rfl) rfl
theorem q437 : (Jvm.Cond.selects "FigureTill" ({ cls := "FigureTill", name := "as", desc := "(II)I" } : Jvm.MethodName) ({ cls := "FigureTill", name := "as", desc := "(II)I" } : Jvm.MethodName)) ∈ lw_all := lw_g (lw_at lw_m2 129 rfl) rfl
theorem q438 : (Jvm.Cond.code ({ cls := "FigureTill", name := "as", desc := "(II)I" } : Jvm.MethodName) prog_1_method_20_code (3 : Nat) (Option.some Jvm.ClassFile.FieldType.int)) ∈ lw_all := lw_g (lw_at lw_m2 130 rfl) rfl
theorem q439 : (Jvm.Cond.methodLink "FigureTill" (190 : Nat) ({ cls := "FigureTill", name := "isOf", desc := "(Ljava/lang/Object;I)Z" } : Jvm.MethodName)) ∈ lw_all := lw_g (lw_at lw_m2 131 rfl) rfl
theorem q440 : (Jvm.Cond.static ({ cls := "FigureTill", name := "isOf", desc := "(Ljava/lang/Object;I)Z" } : Jvm.MethodName)) ∈ lw_all := lw_g (lw_at lw_m2 132 rfl) rfl
theorem q441 : (Jvm.Cond.code ({ cls := "FigureTill", name := "isOf", desc := "(Ljava/lang/Object;I)Z" } : Jvm.MethodName) prog_1_method_6_code (2 : Nat) (Option.some Jvm.ClassFile.FieldType.boolean)) ∈ lw_all := lw_g (lw_at lw_m2 133 rfl) rfl
theorem q443 : (Jvm.Cond.instanceMethod ({ cls := "FigureTill", name := "figures", desc := "(II)I" } : Jvm.MethodName)) ∈ lw_all := lw_g (lw_at lw_m2 135 rfl) rfl
theorem q444 : (Jvm.Cond.selects "FigureTill" ({ cls := "FigureTill", name := "figures", desc := "(II)I" } : Jvm.MethodName) ({ cls := "FigureTill", name := "figures", desc := "(II)I" } : Jvm.MethodName)) ∈ lw_all := lw_g (lw_at lw_m2 136 rfl) rfl
theorem q445 : (Jvm.Cond.code ({ cls := "FigureTill", name := "figures", desc := "(II)I" } : Jvm.MethodName) prog_1_method_21_code (3 : Nat) (Option.some Jvm.ClassFile.FieldType.int)) ∈ lw_all := lw_g (lw_at lw_m2 137 rfl) rfl
theorem q446 : (Jvm.Cond.methodLink "FigureTill" (10 : Nat) ({ cls := "FigureTill", name := "figuresOf", desc := "(II)I" } : Jvm.MethodName)) ∈ lw_all := lw_g (lw_at lw_m2 138 rfl) rfl
theorem q447 : (Jvm.Cond.static ({ cls := "FigureTill", name := "figuresOf", desc := "(II)I" } : Jvm.MethodName)) ∈ lw_all := lw_g (lw_at lw_m2 139 rfl) rfl
theorem q448 : (Jvm.Cond.code ({ cls := "FigureTill", name := "figuresOf", desc := "(II)I" } : Jvm.MethodName) prog_1_method_3_code (4 : Nat) (Option.some Jvm.ClassFile.FieldType.int)) ∈ lw_all := lw_g (lw_at lw_m2 140 rfl) rfl
theorem q450 : (Jvm.Cond.instanceMethod ({ cls := "FigureTill", name := "asks", desc := "(III)I" } : Jvm.MethodName)) ∈ lw_all := lw_g (lw_at lw_m2 142 rfl) rfl
theorem q451 : (Jvm.Cond.selects "FigureTill" ({ cls := "FigureTill", name := "asks", desc := "(III)I" } : Jvm.MethodName) ({ cls := "FigureTill", name := "asks", desc := "(III)I" } : Jvm.MethodName)) ∈ lw_all := lw_g (lw_at lw_m2 143 rfl) rfl
theorem q452 : (Jvm.Cond.code ({ cls := "FigureTill", name := "asks", desc := "(III)I" } : Jvm.MethodName) prog_1_method_22_code (4 : Nat) (Option.some Jvm.ClassFile.FieldType.int)) ∈ lw_all := lw_g (lw_at lw_m2 144 rfl) rfl
theorem q453 : (Jvm.Cond.constant "FigureTill" (194 : Nat) (299970 : Int32)) ∈ lw_all := lw_g (lw_at lw_m2 145 rfl) rfl
theorem q454 : (Jvm.Cond.methodLink "FigureTill" (195 : Nat) ({ cls := "FigureTill", name := "asked", desc := "(III)I" } : Jvm.MethodName)) ∈ lw_all := lw_g (lw_at lw_m2 146 rfl) rfl
theorem q455 : (Jvm.Cond.privateMethod ({ cls := "FigureTill", name := "asked", desc := "(III)I" } : Jvm.MethodName)) ∈ lw_tbl := lw_at lw_m2 147 rfl
theorem q456 : (Jvm.Cond.instanceMethod ({ cls := "FigureTill", name := "asked", desc := "(III)I" } : Jvm.MethodName)) ∈ lw_all := lw_g (lw_at lw_m2 148 rfl) rfl
theorem q457 : (Jvm.Cond.code ({ cls := "FigureTill", name := "asked", desc := "(III)I" } : Jvm.MethodName) prog_1_method_15_code (5 : Nat) (Option.some Jvm.ClassFile.FieldType.int)) ∈ lw_all := lw_g (lw_at lw_m2 149 rfl) rfl
theorem q458 : (Jvm.Cond.interfaceEntry "FigureTill" (150 : Nat)) ∈ lw_tbl := lw_at lw_m2 150 rfl
theorem q459 : (Jvm.Cond.methodLink "FigureTill" (150 : Nat) ({ cls := "FigureTill$Pays", name := "pays", desc := "(LFigureTill$Sees;II)I" } : Jvm.MethodName)) ∈ lw_all := lw_g (lw_at lw_m2 151 rfl) rfl
theorem q501 : (Jvm.Cond.static ({ cls := "FigureTill", name := "rootOf", desc := "(II)I" } : Jvm.MethodName)) ∈ lw_all := lw_g (lw_at lw_m2 193 rfl) rfl
theorem q502 : (Jvm.Cond.code ({ cls := "FigureTill", name := "rootOf", desc := "(II)I" } : Jvm.MethodName) prog_1_method_4_code (3 : Nat) (Option.some Jvm.ClassFile.FieldType.int)) ∈ lw_all := lw_g (lw_at lw_m2 194 rfl) rfl
theorem q529 : (Jvm.Cond.instanceMethod ({ cls := "FigureTill", name := "feed", desc := "(JI)I" } : Jvm.MethodName)) ∈ lw_all := lw_g (lw_at lw_m2 221 rfl) rfl
theorem q530 : (Jvm.Cond.selects "FigureTill" ({ cls := "FigureTill", name := "feed", desc := "(JI)I" } : Jvm.MethodName) ({ cls := "FigureTill", name := "feed", desc := "(JI)I" } : Jvm.MethodName)) ∈ lw_all := lw_g (lw_at lw_m2 222 rfl) rfl
theorem q531 : (Jvm.Cond.code ({ cls := "FigureTill", name := "feed", desc := "(JI)I" } : Jvm.MethodName) prog_1_method_23_code (5 : Nat) (Option.some Jvm.ClassFile.FieldType.int)) ∈ lw_all := lw_g (lw_at lw_m2 223 rfl) rfl
theorem q533 : (Jvm.Cond.instanceMethod ({ cls := "FigureTill", name := "text", desc := "(I)I" } : Jvm.MethodName)) ∈ lw_all := lw_g (lw_at lw_m2 225 rfl) rfl
theorem q534 : (Jvm.Cond.selects "FigureTill" ({ cls := "FigureTill", name := "text", desc := "(I)I" } : Jvm.MethodName) ({ cls := "FigureTill", name := "text", desc := "(I)I" } : Jvm.MethodName)) ∈ lw_all := lw_g (lw_at lw_m2 226 rfl) rfl
theorem q535 : (Jvm.Cond.codeWith ({ cls := "FigureTill", name := "text", desc := "(I)I" } : Jvm.MethodName) prog_1_method_25_code (6 : Nat) (Option.some Jvm.ClassFile.FieldType.int) [((39 : Nat), (54 : Nat), (64 : Nat), (220 : Nat)), ((39 : Nat), (54 : Nat), (85 : Nat), (0 : Nat)), ((64 : Nat), (74 : Nat), (85 : Nat), (0 : Nat)), ((85 : Nat), (87 : Nat), (85 : Nat), (0 : Nat))]) ∈ lw_all := lw_g (lw_at lw_m2 227 rfl) rfl
theorem q536 : (Jvm.Cond.classLink "FigureTill" (220 : Nat) "FigureTill$Fault") ∈ lw_all := lw_g (lw_at lw_m2 228 rfl) rfl
theorem q537 : (Jvm.Cond.methodLink "FigureTill" (204 : Nat) ({ cls := "FigureTill", name := "isUse", desc := "(I)Z" } : Jvm.MethodName)) ∈ lw_all := lw_g (lw_at lw_m2 229 rfl) rfl
theorem q538 : (Jvm.Cond.static ({ cls := "FigureTill", name := "isUse", desc := "(I)Z" } : Jvm.MethodName)) ∈ lw_all := lw_g (lw_at lw_m2 230 rfl) rfl
theorem q539 : (Jvm.Cond.code ({ cls := "FigureTill", name := "isUse", desc := "(I)Z" } : Jvm.MethodName) prog_1_method_24_code (1 : Nat) (Option.some Jvm.ClassFile.FieldType.boolean)) ∈ lw_all := lw_g (lw_at lw_m2 231 rfl) rfl
theorem q540 : (Jvm.Cond.classLink "FigureTill" (207 : Nat) "FigureTill$Reader") ∈ lw_all := lw_g (lw_at lw_m2 232 rfl) rfl
theorem q542 : (Jvm.Cond.methodLink "FigureTill" (209 : Nat) ({ cls := "FigureTill", name := "namesOf", desc := "(I)Ljava/lang/String;" } : Jvm.MethodName)) ∈ lw_all := lw_g (lw_at lw_m2 234 rfl) rfl
theorem q543 : (Jvm.Cond.static ({ cls := "FigureTill", name := "namesOf", desc := "(I)Ljava/lang/String;" } : Jvm.MethodName)) ∈ lw_all := lw_g (lw_at lw_m2 235 rfl) rfl
theorem q544 : (Jvm.Cond.code ({ cls := "FigureTill", name := "namesOf", desc := "(I)Ljava/lang/String;" } : Jvm.MethodName) prog_1_method_7_code (1 : Nat) (Option.some (Jvm.ClassFile.FieldType.object "java/lang/String"))) ∈ lw_all := lw_g (lw_at lw_m2 236 rfl) rfl
theorem q545 : (Jvm.Cond.stringRef "FigureTill" (39 : Nat) "skm") ∈ lw_tbl := lw_at lw_m2 237 rfl
theorem q546 : (Jvm.Cond.stringRef "FigureTill" (41 : Nat) "tpc") ∈ lw_tbl := lw_at lw_m2 238 rfl
theorem q547 : (Jvm.Cond.methodLink "FigureTill" (213 : Nat) ({ cls := "FigureTill$Reader", name := "<init>", desc := "([BILjava/lang/String;)V" } : Jvm.MethodName)) ∈ lw_all := lw_g (lw_at lw_m2 239 rfl) rfl
theorem q558 : (Jvm.Cond.fieldLinkNest "FigureTill" (49 : Nat) "FigureTill$Text" "step" "[B" "FigureTill") ∈ lw_tbl := lw_at lw_m3 10 rfl
theorem q560 : (Jvm.Cond.fieldLinkNest "FigureTill" (57 : Nat) "FigureTill$Text" "value" "[S" "FigureTill") ∈ lw_tbl := lw_at lw_m3 12 rfl
theorem q562 : (Jvm.Cond.fieldLinkNest "FigureTill" (43 : Nat) "FigureTill$Text" "many" "I" "FigureTill") ∈ lw_tbl := lw_at lw_m3 14 rfl
theorem q590 : (Jvm.Cond.methodLink "FigureTill" (216 : Nat) ({ cls := "FigureTill$Reader", name := "read", desc := "()LFigureTill$Text;" } : Jvm.MethodName)) ∈ lw_all := lw_g (lw_at lw_m3 42 rfl) rfl
theorem q680 : (Jvm.Cond.fieldLinkNest "FigureTill" (222 : Nat) "FigureTill$Fault" "place" "I" "FigureTill") ∈ lw_tbl := lw_at lw_m3 132 rfl
theorem q799 : (Jvm.Cond.instanceMethod ({ cls := "FigureTill", name := "untell", desc := "(I)I" } : Jvm.MethodName)) ∈ lw_all := lw_g (lw_at lw_m4 11 rfl) rfl
theorem q800 : (Jvm.Cond.selects "FigureTill" ({ cls := "FigureTill", name := "untell", desc := "(I)I" } : Jvm.MethodName) ({ cls := "FigureTill", name := "untell", desc := "(I)I" } : Jvm.MethodName)) ∈ lw_all := lw_g (lw_at lw_m4 12 rfl) rfl
theorem q801 : (Jvm.Cond.code ({ cls := "FigureTill", name := "untell", desc := "(I)I" } : Jvm.MethodName) prog_1_method_26_code (3 : Nat) (Option.some Jvm.ClassFile.FieldType.int)) ∈ lw_all := lw_g (lw_at lw_m4 13 rfl) rfl
theorem q803 : (Jvm.Cond.instanceMethod ({ cls := "FigureTill", name := "basket", desc := "(II)I" } : Jvm.MethodName)) ∈ lw_all := lw_g (lw_at lw_m4 15 rfl) rfl
theorem q804 : (Jvm.Cond.selects "FigureTill" ({ cls := "FigureTill", name := "basket", desc := "(II)I" } : Jvm.MethodName) ({ cls := "FigureTill", name := "basket", desc := "(II)I" } : Jvm.MethodName)) ∈ lw_all := lw_g (lw_at lw_m4 16 rfl) rfl
theorem q805 : (Jvm.Cond.code ({ cls := "FigureTill", name := "basket", desc := "(II)I" } : Jvm.MethodName) prog_1_method_31_code (4 : Nat) (Option.some Jvm.ClassFile.FieldType.int)) ∈ lw_all := lw_g (lw_at lw_m4 17 rfl) rfl
theorem q806 : (Jvm.Cond.methodLink "FigureTill" (241 : Nat) ({ cls := "FigureTill", name := "isSheet", desc := "(I)Z" } : Jvm.MethodName)) ∈ lw_all := lw_g (lw_at lw_m4 18 rfl) rfl
theorem q807 : (Jvm.Cond.static ({ cls := "FigureTill", name := "isSheet", desc := "(I)Z" } : Jvm.MethodName)) ∈ lw_all := lw_g (lw_at lw_m4 19 rfl) rfl
theorem q808 : (Jvm.Cond.code ({ cls := "FigureTill", name := "isSheet", desc := "(I)Z" } : Jvm.MethodName) prog_1_method_58_code (1 : Nat) (Option.some Jvm.ClassFile.FieldType.boolean)) ∈ lw_all := lw_g (lw_at lw_m4 20 rfl) rfl
theorem q809 : (Jvm.Cond.methodLink "FigureTill" (244 : Nat) ({ cls := "FigureTill", name := "faultOf", desc := "(I[BI)I" } : Jvm.MethodName)) ∈ lw_all := lw_g (lw_at lw_m4 21 rfl) rfl
theorem q810 : (Jvm.Cond.privateMethod ({ cls := "FigureTill", name := "faultOf", desc := "(I[BI)I" } : Jvm.MethodName)) ∈ lw_tbl := lw_at lw_m4 22 rfl
theorem q811 : (Jvm.Cond.instanceMethod ({ cls := "FigureTill", name := "faultOf", desc := "(I[BI)I" } : Jvm.MethodName)) ∈ lw_all := lw_g (lw_at lw_m4 23 rfl) rfl
theorem q812 : (Jvm.Cond.code ({ cls := "FigureTill", name := "faultOf", desc := "(I[BI)I" } : Jvm.MethodName) prog_1_method_30_code (7 : Nat) (Option.some Jvm.ClassFile.FieldType.int)) ∈ lw_all := lw_g (lw_at lw_m4 24 rfl) rfl
theorem q813 : (Jvm.Cond.methodLink "FigureTill" (233 : Nat) ({ cls := "FigureTill", name := "sizeOf", desc := "(Ljava/lang/Object;)I" } : Jvm.MethodName)) ∈ lw_all := lw_g (lw_at lw_m4 25 rfl) rfl
theorem q814 : (Jvm.Cond.static ({ cls := "FigureTill", name := "sizeOf", desc := "(Ljava/lang/Object;)I" } : Jvm.MethodName)) ∈ lw_all := lw_g (lw_at lw_m4 26 rfl) rfl
theorem q815 : (Jvm.Cond.code ({ cls := "FigureTill", name := "sizeOf", desc := "(Ljava/lang/Object;)I" } : Jvm.MethodName) prog_1_method_59_code (1 : Nat) (Option.some Jvm.ClassFile.FieldType.int)) ∈ lw_all := lw_g (lw_at lw_m4 27 rfl) rfl
theorem q816 : (Jvm.Cond.classLink "FigureTill" (349 : Nat) "[B") ∈ lw_all := lw_g (lw_at lw_m4 28 rfl) rfl
theorem q817 : (Jvm.Cond.classLink "FigureTill" (350 : Nat) "[S") ∈ lw_all := lw_g (lw_at lw_m4 29 rfl) rfl
theorem q818 : (Jvm.Cond.classLink "FigureTill" (351 : Nat) "[I") ∈ lw_all := lw_g (lw_at lw_m4 30 rfl) rfl
theorem q819 : (Jvm.Cond.methodLink "FigureTill" (237 : Nat) ({ cls := "FigureTill", name := "numberOf", desc := "(Ljava/lang/Object;I)I" } : Jvm.MethodName)) ∈ lw_all := lw_g (lw_at lw_m4 31 rfl) rfl
theorem q820 : (Jvm.Cond.static ({ cls := "FigureTill", name := "numberOf", desc := "(Ljava/lang/Object;I)I" } : Jvm.MethodName)) ∈ lw_all := lw_g (lw_at lw_m4 32 rfl) rfl
theorem q821 : (Jvm.Cond.code ({ cls := "FigureTill", name := "numberOf", desc := "(Ljava/lang/Object;I)I" } : Jvm.MethodName) prog_1_method_60_code (2 : Nat) (Option.some Jvm.ClassFile.FieldType.int)) ∈ lw_all := lw_g (lw_at lw_m4 33 rfl) rfl
theorem q822 : (Jvm.Cond.methodLink "FigureTill" (229 : Nat) ({ cls := "FigureTill", name := "manyIn", desc := "([B)I" } : Jvm.MethodName)) ∈ lw_all := lw_g (lw_at lw_m4 34 rfl) rfl
theorem q823 : (Jvm.Cond.static ({ cls := "FigureTill", name := "manyIn", desc := "([B)I" } : Jvm.MethodName)) ∈ lw_all := lw_g (lw_at lw_m4 35 rfl) rfl
theorem q824 : (Jvm.Cond.code ({ cls := "FigureTill", name := "manyIn", desc := "([B)I" } : Jvm.MethodName) prog_1_method_27_code (3 : Nat) (Option.some Jvm.ClassFile.FieldType.int)) ∈ lw_all := lw_g (lw_at lw_m4 36 rfl) rfl
theorem q825 : (Jvm.Cond.methodLink "FigureTill" (225 : Nat) ({ cls := "FigureTill", name := "sumOf", desc := "([B[I)I" } : Jvm.MethodName)) ∈ lw_all := lw_g (lw_at lw_m4 37 rfl) rfl
theorem q826 : (Jvm.Cond.privateMethod ({ cls := "FigureTill", name := "sumOf", desc := "([B[I)I" } : Jvm.MethodName)) ∈ lw_tbl := lw_at lw_m4 38 rfl
theorem q827 : (Jvm.Cond.instanceMethod ({ cls := "FigureTill", name := "sumOf", desc := "([B[I)I" } : Jvm.MethodName)) ∈ lw_all := lw_g (lw_at lw_m4 39 rfl) rfl
theorem q828 : (Jvm.Cond.code ({ cls := "FigureTill", name := "sumOf", desc := "([B[I)I" } : Jvm.MethodName) prog_1_method_28_code (5 : Nat) (Option.some Jvm.ClassFile.FieldType.int)) ∈ lw_all := lw_g (lw_at lw_m4 40 rfl) rfl
theorem q830 : (Jvm.Cond.instanceMethod ({ cls := "FigureTill", name := "pays", desc := "(II)I" } : Jvm.MethodName)) ∈ lw_all := lw_g (lw_at lw_m4 42 rfl) rfl
theorem q831 : (Jvm.Cond.selects "FigureTill" ({ cls := "FigureTill", name := "pays", desc := "(II)I" } : Jvm.MethodName) ({ cls := "FigureTill", name := "pays", desc := "(II)I" } : Jvm.MethodName)) ∈ lw_all := lw_g (lw_at lw_m4 43 rfl) rfl
theorem q832 : (Jvm.Cond.code ({ cls := "FigureTill", name := "pays", desc := "(II)I" } : Jvm.MethodName) prog_1_method_32_code (4 : Nat) (Option.some Jvm.ClassFile.FieldType.int)) ∈ lw_all := lw_g (lw_at lw_m4 44 rfl) rfl
theorem q833 : (Jvm.Cond.methodLink "FigureTill" (248 : Nat) ({ cls := "FigureTill", name := "paysOf", desc := "([BI)I" } : Jvm.MethodName)) ∈ lw_all := lw_g (lw_at lw_m4 45 rfl) rfl
theorem q834 : (Jvm.Cond.privateMethod ({ cls := "FigureTill", name := "paysOf", desc := "([BI)I" } : Jvm.MethodName)) ∈ lw_tbl := lw_at lw_m4 46 rfl
theorem q835 : (Jvm.Cond.instanceMethod ({ cls := "FigureTill", name := "paysOf", desc := "([BI)I" } : Jvm.MethodName)) ∈ lw_all := lw_g (lw_at lw_m4 47 rfl) rfl
theorem q836 : (Jvm.Cond.code ({ cls := "FigureTill", name := "paysOf", desc := "([BI)I" } : Jvm.MethodName) prog_1_method_29_code (3 : Nat) (Option.some Jvm.ClassFile.FieldType.int)) ∈ lw_all := lw_g (lw_at lw_m4 48 rfl) rfl
theorem q838 : (Jvm.Cond.instanceMethod ({ cls := "FigureTill", name := "go", desc := "(II)I" } : Jvm.MethodName)) ∈ lw_all := lw_g (lw_at lw_m4 50 rfl) rfl
theorem q839 : (Jvm.Cond.selects "FigureTill" ({ cls := "FigureTill", name := "go", desc := "(II)I" } : Jvm.MethodName) ({ cls := "FigureTill", name := "go", desc := "(II)I" } : Jvm.MethodName)) ∈ lw_all := lw_g (lw_at lw_m4 51 rfl) rfl
theorem q840 : (Jvm.Cond.code ({ cls := "FigureTill", name := "go", desc := "(II)I" } : Jvm.MethodName) prog_1_method_35_code (4 : Nat) (Option.some Jvm.ClassFile.FieldType.int)) ∈ lw_all := lw_g (lw_at lw_m4 52 rfl) rfl
theorem q841 : (Jvm.Cond.methodLink "FigureTill" (262 : Nat) ({ cls := "FigureTill", name := "isThere", desc := "()Z" } : Jvm.MethodName)) ∈ lw_all := lw_g (lw_at lw_m4 53 rfl) rfl
theorem q842 : (Jvm.Cond.privateMethod ({ cls := "FigureTill", name := "isThere", desc := "()Z" } : Jvm.MethodName)) ∈ lw_tbl := lw_at lw_m4 54 rfl
theorem q843 : (Jvm.Cond.instanceMethod ({ cls := "FigureTill", name := "isThere", desc := "()Z" } : Jvm.MethodName)) ∈ lw_all := lw_g (lw_at lw_m4 55 rfl) rfl
theorem q844 : (Jvm.Cond.code ({ cls := "FigureTill", name := "isThere", desc := "()Z" } : Jvm.MethodName) prog_1_method_33_code (3 : Nat) (Option.some Jvm.ClassFile.FieldType.boolean)) ∈ lw_all := lw_g (lw_at lw_m4 56 rfl) rfl
theorem q845 : (Jvm.Cond.methodLink "FigureTill" (266 : Nat) ({ cls := "FigureTill", name := "goes", desc := "(I)I" } : Jvm.MethodName)) ∈ lw_all := lw_g (lw_at lw_m4 57 rfl) rfl
theorem q846 : (Jvm.Cond.privateMethod ({ cls := "FigureTill", name := "goes", desc := "(I)I" } : Jvm.MethodName)) ∈ lw_tbl := lw_at lw_m4 58 rfl
theorem q847 : (Jvm.Cond.instanceMethod ({ cls := "FigureTill", name := "goes", desc := "(I)I" } : Jvm.MethodName)) ∈ lw_all := lw_g (lw_at lw_m4 59 rfl) rfl
theorem q848 : (Jvm.Cond.code ({ cls := "FigureTill", name := "goes", desc := "(I)I" } : Jvm.MethodName) prog_1_method_34_code (4 : Nat) (Option.some Jvm.ClassFile.FieldType.int)) ∈ lw_all := lw_g (lw_at lw_m4 60 rfl) rfl
theorem q849 : (Jvm.Cond.constant "FigureTill" (252 : Nat) (99999999 : Int32)) ∈ lw_all := lw_g (lw_at lw_m4 61 rfl) rfl
theorem q851 : (Jvm.Cond.instanceMethod ({ cls := "FigureTill", name := "draws", desc := "(I)I" } : Jvm.MethodName)) ∈ lw_all := lw_g (lw_at lw_m4 63 rfl) rfl
theorem q852 : (Jvm.Cond.selects "FigureTill" ({ cls := "FigureTill", name := "draws", desc := "(I)I" } : Jvm.MethodName) ({ cls := "FigureTill", name := "draws", desc := "(I)I" } : Jvm.MethodName)) ∈ lw_all := lw_g (lw_at lw_m4 64 rfl) rfl
theorem q853 : (Jvm.Cond.code ({ cls := "FigureTill", name := "draws", desc := "(I)I" } : Jvm.MethodName) prog_1_method_37_code (4 : Nat) (Option.some Jvm.ClassFile.FieldType.int)) ∈ lw_all := lw_g (lw_at lw_m4 65 rfl) rfl
theorem q854 : (Jvm.Cond.methodLink "FigureTill" (271 : Nat) ({ cls := "FigureTill", name := "buys", desc := "()Z" } : Jvm.MethodName)) ∈ lw_all := lw_g (lw_at lw_m4 66 rfl) rfl
theorem q855 : (Jvm.Cond.privateMethod ({ cls := "FigureTill", name := "buys", desc := "()Z" } : Jvm.MethodName)) ∈ lw_tbl := lw_at lw_m4 67 rfl
theorem q856 : (Jvm.Cond.instanceMethod ({ cls := "FigureTill", name := "buys", desc := "()Z" } : Jvm.MethodName)) ∈ lw_all := lw_g (lw_at lw_m4 68 rfl) rfl
theorem q857 : (Jvm.Cond.code ({ cls := "FigureTill", name := "buys", desc := "()Z" } : Jvm.MethodName) prog_1_method_36_code (5 : Nat) (Option.some Jvm.ClassFile.FieldType.boolean)) ∈ lw_all := lw_g (lw_at lw_m4 69 rfl) rfl
theorem q858 : (Jvm.Cond.methodLink "FigureTill" (268 : Nat) ({ cls := "FigureTill$House", name := "drawn", desc := "()I" } : Jvm.MethodName)) ∈ lw_all := lw_g (lw_at lw_m4 70 rfl) rfl
theorem q864 : (Jvm.Cond.instanceMethod ({ cls := "FigureTill", name := "seed", desc := "(I)I" } : Jvm.MethodName)) ∈ lw_all := lw_g (lw_at lw_m4 76 rfl) rfl
theorem q865 : (Jvm.Cond.selects "FigureTill" ({ cls := "FigureTill", name := "seed", desc := "(I)I" } : Jvm.MethodName) ({ cls := "FigureTill", name := "seed", desc := "(I)I" } : Jvm.MethodName)) ∈ lw_all := lw_g (lw_at lw_m4 77 rfl) rfl
theorem q866 : (Jvm.Cond.code ({ cls := "FigureTill", name := "seed", desc := "(I)I" } : Jvm.MethodName) prog_1_method_38_code (3 : Nat) (Option.some Jvm.ClassFile.FieldType.int)) ∈ lw_all := lw_g (lw_at lw_m4 78 rfl) rfl
theorem q868 : (Jvm.Cond.instanceMethod ({ cls := "FigureTill", name := "more", desc := "(IIII)I" } : Jvm.MethodName)) ∈ lw_all := lw_g (lw_at lw_m4 80 rfl) rfl
theorem q869 : (Jvm.Cond.selects "FigureTill" ({ cls := "FigureTill", name := "more", desc := "(IIII)I" } : Jvm.MethodName) ({ cls := "FigureTill", name := "more", desc := "(IIII)I" } : Jvm.MethodName)) ∈ lw_all := lw_g (lw_at lw_m4 81 rfl) rfl
theorem q870 : (Jvm.Cond.code ({ cls := "FigureTill", name := "more", desc := "(IIII)I" } : Jvm.MethodName) prog_1_method_43_code (7 : Nat) (Option.some Jvm.ClassFile.FieldType.int)) ∈ lw_all := lw_g (lw_at lw_m4 82 rfl) rfl
theorem q871 : (Jvm.Cond.methodLink "FigureTill" (299 : Nat) ({ cls := "FigureTill", name := "findMore", desc := "(II)I" } : Jvm.MethodName)) ∈ lw_all := lw_g (lw_at lw_m4 83 rfl) rfl
theorem q872 : (Jvm.Cond.privateMethod ({ cls := "FigureTill", name := "findMore", desc := "(II)I" } : Jvm.MethodName)) ∈ lw_tbl := lw_at lw_m4 84 rfl
theorem q873 : (Jvm.Cond.instanceMethod ({ cls := "FigureTill", name := "findMore", desc := "(II)I" } : Jvm.MethodName)) ∈ lw_all := lw_g (lw_at lw_m4 85 rfl) rfl
theorem q874 : (Jvm.Cond.code ({ cls := "FigureTill", name := "findMore", desc := "(II)I" } : Jvm.MethodName) prog_1_method_42_code (4 : Nat) (Option.some Jvm.ClassFile.FieldType.int)) ∈ lw_all := lw_g (lw_at lw_m4 86 rfl) rfl
theorem q875 : (Jvm.Cond.methodLink "FigureTill" (295 : Nat) ({ cls := "FigureTill", name := "tryExtra", desc := "(IIII)V" } : Jvm.MethodName)) ∈ lw_all := lw_g (lw_at lw_m4 87 rfl) rfl
theorem q876 : (Jvm.Cond.privateMethod ({ cls := "FigureTill", name := "tryExtra", desc := "(IIII)V" } : Jvm.MethodName)) ∈ lw_tbl := lw_at lw_m4 88 rfl
theorem q877 : (Jvm.Cond.instanceMethod ({ cls := "FigureTill", name := "tryExtra", desc := "(IIII)V" } : Jvm.MethodName)) ∈ lw_all := lw_g (lw_at lw_m4 89 rfl) rfl
theorem q878 : (Jvm.Cond.code ({ cls := "FigureTill", name := "tryExtra", desc := "(IIII)V" } : Jvm.MethodName) prog_1_method_41_code (7 : Nat) (Option.none : Option Jvm.ClassFile.FieldType)) ∈ lw_all := lw_g (lw_at lw_m4 90 rfl) rfl
theorem q879 : (Jvm.Cond.methodLink "FigureTill" (277 : Nat) ({ cls := "FigureTill", name := "netOf", desc := "(I)I" } : Jvm.MethodName)) ∈ lw_all := lw_g (lw_at lw_m4 91 rfl) rfl
theorem q880 : (Jvm.Cond.privateMethod ({ cls := "FigureTill", name := "netOf", desc := "(I)I" } : Jvm.MethodName)) ∈ lw_tbl := lw_at lw_m4 92 rfl
theorem q881 : (Jvm.Cond.instanceMethod ({ cls := "FigureTill", name := "netOf", desc := "(I)I" } : Jvm.MethodName)) ∈ lw_all := lw_g (lw_at lw_m4 93 rfl) rfl
theorem q882 : (Jvm.Cond.code ({ cls := "FigureTill", name := "netOf", desc := "(I)I" } : Jvm.MethodName) prog_1_method_39_code (4 : Nat) (Option.some Jvm.ClassFile.FieldType.int)) ∈ lw_all := lw_g (lw_at lw_m4 94 rfl) rfl
theorem q883 : (Jvm.Cond.methodLink "FigureTill" (286 : Nat) ({ cls := "FigureTill", name := "isLess", desc := "()Z" } : Jvm.MethodName)) ∈ lw_all := lw_g (lw_at lw_m4 95 rfl) rfl
theorem q884 : (Jvm.Cond.privateMethod ({ cls := "FigureTill", name := "isLess", desc := "()Z" } : Jvm.MethodName)) ∈ lw_tbl := lw_at lw_m4 96 rfl
theorem q885 : (Jvm.Cond.instanceMethod ({ cls := "FigureTill", name := "isLess", desc := "()Z" } : Jvm.MethodName)) ∈ lw_all := lw_g (lw_at lw_m4 97 rfl) rfl
theorem q886 : (Jvm.Cond.code ({ cls := "FigureTill", name := "isLess", desc := "()Z" } : Jvm.MethodName) prog_1_method_40_code (2 : Nat) (Option.some Jvm.ClassFile.FieldType.boolean)) ∈ lw_all := lw_g (lw_at lw_m4 98 rfl) rfl
theorem q887 : (Jvm.Cond.methodLink "FigureTill" (289 : Nat) ({ cls := "java/lang/System", name := "arraycopy", desc := "(Ljava/lang/Object;ILjava/lang/Object;II)V" } : Jvm.MethodName)) ∈ lw_all := lw_g (lw_at lw_m4 99 rfl) rfl
theorem q891 : (Jvm.Cond.instanceMethod ({ cls := "FigureTill", name := "inTwo", desc := "(II)I" } : Jvm.MethodName)) ∈ lw_all := lw_g (lw_at lw_m4 103 rfl) rfl
theorem q892 : (Jvm.Cond.selects "FigureTill" ({ cls := "FigureTill", name := "inTwo", desc := "(II)I" } : Jvm.MethodName) ({ cls := "FigureTill", name := "inTwo", desc := "(II)I" } : Jvm.MethodName)) ∈ lw_all := lw_g (lw_at lw_m4 104 rfl) rfl
theorem q893 : (Jvm.Cond.code ({ cls := "FigureTill", name := "inTwo", desc := "(II)I" } : Jvm.MethodName) prog_1_method_45_code (4 : Nat) (Option.some Jvm.ClassFile.FieldType.int)) ∈ lw_all := lw_g (lw_at lw_m4 105 rfl) rfl
theorem q894 : (Jvm.Cond.methodLink "FigureTill" (302 : Nat) ({ cls := "FigureTill", name := "leastInTwo", desc := "(III)I" } : Jvm.MethodName)) ∈ lw_all := lw_g (lw_at lw_m4 106 rfl) rfl
theorem q895 : (Jvm.Cond.privateMethod ({ cls := "FigureTill", name := "leastInTwo", desc := "(III)I" } : Jvm.MethodName)) ∈ lw_tbl := lw_at lw_m4 107 rfl
theorem q896 : (Jvm.Cond.instanceMethod ({ cls := "FigureTill", name := "leastInTwo", desc := "(III)I" } : Jvm.MethodName)) ∈ lw_all := lw_g (lw_at lw_m4 108 rfl) rfl
theorem q897 : (Jvm.Cond.code ({ cls := "FigureTill", name := "leastInTwo", desc := "(III)I" } : Jvm.MethodName) prog_1_method_44_code (6 : Nat) (Option.some Jvm.ClassFile.FieldType.int)) ∈ lw_all := lw_g (lw_at lw_m4 109 rfl) rfl
theorem q899 : (Jvm.Cond.instanceMethod ({ cls := "FigureTill", name := "together", desc := "(III)I" } : Jvm.MethodName)) ∈ lw_all := lw_g (lw_at lw_m4 111 rfl) rfl
theorem q900 : (Jvm.Cond.selects "FigureTill" ({ cls := "FigureTill", name := "together", desc := "(III)I" } : Jvm.MethodName) ({ cls := "FigureTill", name := "together", desc := "(III)I" } : Jvm.MethodName)) ∈ lw_all := lw_g (lw_at lw_m4 112 rfl) rfl
theorem q901 : (Jvm.Cond.code ({ cls := "FigureTill", name := "together", desc := "(III)I" } : Jvm.MethodName) prog_1_method_46_code (7 : Nat) (Option.some Jvm.ClassFile.FieldType.int)) ∈ lw_all := lw_g (lw_at lw_m4 113 rfl) rfl
theorem q903 : (Jvm.Cond.instanceMethod ({ cls := "FigureTill", name := "worth", desc := "(III)I" } : Jvm.MethodName)) ∈ lw_all := lw_g (lw_at lw_m4 115 rfl) rfl
theorem q904 : (Jvm.Cond.selects "FigureTill" ({ cls := "FigureTill", name := "worth", desc := "(III)I" } : Jvm.MethodName) ({ cls := "FigureTill", name := "worth", desc := "(III)I" } : Jvm.MethodName)) ∈ lw_all := lw_g (lw_at lw_m4 116 rfl) rfl
theorem q905 : (Jvm.Cond.code ({ cls := "FigureTill", name := "worth", desc := "(III)I" } : Jvm.MethodName) prog_1_method_47_code (6 : Nat) (Option.some Jvm.ClassFile.FieldType.int)) ∈ lw_all := lw_g (lw_at lw_m4 117 rfl) rfl
theorem q907 : (Jvm.Cond.instanceMethod ({ cls := "FigureTill", name := "dearer", desc := "(III)I" } : Jvm.MethodName)) ∈ lw_all := lw_g (lw_at lw_m4 119 rfl) rfl
theorem q908 : (Jvm.Cond.selects "FigureTill" ({ cls := "FigureTill", name := "dearer", desc := "(III)I" } : Jvm.MethodName) ({ cls := "FigureTill", name := "dearer", desc := "(III)I" } : Jvm.MethodName)) ∈ lw_all := lw_g (lw_at lw_m4 120 rfl) rfl
theorem q909 : (Jvm.Cond.code ({ cls := "FigureTill", name := "dearer", desc := "(III)I" } : Jvm.MethodName) prog_1_method_48_code (11 : Nat) (Option.some Jvm.ClassFile.FieldType.int)) ∈ lw_all := lw_g (lw_at lw_m4 121 rfl) rfl
theorem q911 : (Jvm.Cond.instanceMethod ({ cls := "FigureTill", name := "nines", desc := "(I)I" } : Jvm.MethodName)) ∈ lw_all := lw_g (lw_at lw_m4 123 rfl) rfl
theorem q912 : (Jvm.Cond.selects "FigureTill" ({ cls := "FigureTill", name := "nines", desc := "(I)I" } : Jvm.MethodName) ({ cls := "FigureTill", name := "nines", desc := "(I)I" } : Jvm.MethodName)) ∈ lw_all := lw_g (lw_at lw_m4 124 rfl) rfl
theorem q913 : (Jvm.Cond.code ({ cls := "FigureTill", name := "nines", desc := "(I)I" } : Jvm.MethodName) prog_1_method_52_code (2 : Nat) (Option.some Jvm.ClassFile.FieldType.int)) ∈ lw_all := lw_g (lw_at lw_m4 125 rfl) rfl
theorem q914 : (Jvm.Cond.methodLink "FigureTill" (318 : Nat) ({ cls := "FigureTill", name := "areNines", desc := "()I" } : Jvm.MethodName)) ∈ lw_all := lw_g (lw_at lw_m4 126 rfl) rfl
theorem q915 : (Jvm.Cond.privateMethod ({ cls := "FigureTill", name := "areNines", desc := "()I" } : Jvm.MethodName)) ∈ lw_tbl := lw_at lw_m4 127 rfl
theorem q916 : (Jvm.Cond.instanceMethod ({ cls := "FigureTill", name := "areNines", desc := "()I" } : Jvm.MethodName)) ∈ lw_all := lw_g (lw_at lw_m4 128 rfl) rfl
theorem q917 : (Jvm.Cond.code ({ cls := "FigureTill", name := "areNines", desc := "()I" } : Jvm.MethodName) prog_1_method_51_code (2 : Nat) (Option.some Jvm.ClassFile.FieldType.int)) ∈ lw_all := lw_g (lw_at lw_m4 129 rfl) rfl
theorem q918 : (Jvm.Cond.methodLink "FigureTill" (321 : Nat) ({ cls := "FigureTill", name := "findFew", desc := "(II)V" } : Jvm.MethodName)) ∈ lw_all := lw_g (lw_at lw_m4 130 rfl) rfl
theorem q919 : (Jvm.Cond.privateMethod ({ cls := "FigureTill", name := "findFew", desc := "(II)V" } : Jvm.MethodName)) ∈ lw_tbl := lw_at lw_m4 131 rfl
theorem q920 : (Jvm.Cond.instanceMethod ({ cls := "FigureTill", name := "findFew", desc := "(II)V" } : Jvm.MethodName)) ∈ lw_all := lw_g (lw_at lw_m4 132 rfl) rfl
theorem q921 : (Jvm.Cond.code ({ cls := "FigureTill", name := "findFew", desc := "(II)V" } : Jvm.MethodName) prog_1_method_50_code (3 : Nat) (Option.none : Option Jvm.ClassFile.FieldType)) ∈ lw_all := lw_g (lw_at lw_m4 133 rfl) rfl
theorem q922 : (Jvm.Cond.methodLink "FigureTill" (314 : Nat) ({ cls := "FigureTill", name := "tryFew", desc := "(IIIII)V" } : Jvm.MethodName)) ∈ lw_all := lw_g (lw_at lw_m4 134 rfl) rfl
theorem q923 : (Jvm.Cond.privateMethod ({ cls := "FigureTill", name := "tryFew", desc := "(IIIII)V" } : Jvm.MethodName)) ∈ lw_tbl := lw_at lw_m4 135 rfl
theorem q924 : (Jvm.Cond.instanceMethod ({ cls := "FigureTill", name := "tryFew", desc := "(IIIII)V" } : Jvm.MethodName)) ∈ lw_all := lw_g (lw_at lw_m4 136 rfl) rfl
theorem q925 : (Jvm.Cond.code ({ cls := "FigureTill", name := "tryFew", desc := "(IIIII)V" } : Jvm.MethodName) prog_1_method_49_code (7 : Nat) (Option.none : Option Jvm.ClassFile.FieldType)) ∈ lw_all := lw_g (lw_at lw_m4 137 rfl) rfl
theorem q927 : (Jvm.Cond.instanceMethod ({ cls := "FigureTill", name := "wasIn", desc := "(III)I" } : Jvm.MethodName)) ∈ lw_all := lw_g (lw_at lw_m4 139 rfl) rfl
theorem q928 : (Jvm.Cond.selects "FigureTill" ({ cls := "FigureTill", name := "wasIn", desc := "(III)I" } : Jvm.MethodName) ({ cls := "FigureTill", name := "wasIn", desc := "(III)I" } : Jvm.MethodName)) ∈ lw_all := lw_g (lw_at lw_m4 140 rfl) rfl
theorem q929 : (Jvm.Cond.code ({ cls := "FigureTill", name := "wasIn", desc := "(III)I" } : Jvm.MethodName) prog_1_method_53_code (4 : Nat) (Option.some Jvm.ClassFile.FieldType.int)) ∈ lw_all := lw_g (lw_at lw_m4 141 rfl) rfl
theorem q931 : (Jvm.Cond.instanceMethod ({ cls := "FigureTill", name := "erring", desc := "(IIII)J" } : Jvm.MethodName)) ∈ lw_all := lw_g (lw_at lw_m4 143 rfl) rfl
theorem q932 : (Jvm.Cond.selects "FigureTill" ({ cls := "FigureTill", name := "erring", desc := "(IIII)J" } : Jvm.MethodName) ({ cls := "FigureTill", name := "erring", desc := "(IIII)J" } : Jvm.MethodName)) ∈ lw_all := lw_g (lw_at lw_m4 144 rfl) rfl
theorem q933 : (Jvm.Cond.code ({ cls := "FigureTill", name := "erring", desc := "(IIII)J" } : Jvm.MethodName) prog_1_method_55_code (13 : Nat) (Option.some Jvm.ClassFile.FieldType.long)) ∈ lw_all := lw_g (lw_at lw_m4 145 rfl) rfl
theorem q934 : (Jvm.Cond.constantLong "FigureTill" (324 : Nat) (16 : Int64)) ∈ lw_all := lw_g (lw_at lw_m4 146 rfl) rfl
theorem q935 : (Jvm.Cond.methodLink "FigureTill" (326 : Nat) ({ cls := "FigureTill", name := "common", desc := "(JJ)J" } : Jvm.MethodName)) ∈ lw_all := lw_g (lw_at lw_m4 147 rfl) rfl
theorem q936 : (Jvm.Cond.static ({ cls := "FigureTill", name := "common", desc := "(JJ)J" } : Jvm.MethodName)) ∈ lw_all := lw_g (lw_at lw_m4 148 rfl) rfl
theorem q937 : (Jvm.Cond.code ({ cls := "FigureTill", name := "common", desc := "(JJ)J" } : Jvm.MethodName) prog_1_method_54_code (10 : Nat) (Option.some Jvm.ClassFile.FieldType.long)) ∈ lw_all := lw_g (lw_at lw_m4 149 rfl) rfl
theorem q939 : (Jvm.Cond.instanceMethod ({ cls := "FigureTill", name := "voice", desc := "(III)I" } : Jvm.MethodName)) ∈ lw_all := lw_g (lw_at lw_m4 151 rfl) rfl
theorem q940 : (Jvm.Cond.selects "FigureTill" ({ cls := "FigureTill", name := "voice", desc := "(III)I" } : Jvm.MethodName) ({ cls := "FigureTill", name := "voice", desc := "(III)I" } : Jvm.MethodName)) ∈ lw_all := lw_g (lw_at lw_m4 152 rfl) rfl
theorem q941 : (Jvm.Cond.codeWith ({ cls := "FigureTill", name := "voice", desc := "(III)I" } : Jvm.MethodName) prog_1_method_56_code (6 : Nat) (Option.some Jvm.ClassFile.FieldType.int) [((40 : Nat), (103 : Nat), (104 : Nat), (344 : Nat))]) ∈ lw_all := lw_g (lw_at lw_m4 153 rfl) rfl
theorem q942 : (Jvm.Cond.classLink "FigureTill" (344 : Nat) "java/lang/ArithmeticException") ∈ lw_all := lw_g (lw_at lw_m4 154 rfl) rfl
theorem q971 : (Jvm.Cond.methodLink "FigureTill" (331 : Nat) ({ cls := "FigureTill$Till", name := "adds", desc := "(ILFigureTill$Trace;)I" } : Jvm.MethodName)) ∈ lw_all := lw_g (lw_at lw_m4 183 rfl) rfl
theorem q1047 : (Jvm.Cond.methodLink "FigureTill" (338 : Nat) ({ cls := "FigureTill$Till", name := "gives", desc := "(ILFigureTill$Trace;)I" } : Jvm.MethodName)) ∈ lw_all := lw_g (lw_at lw_m5 19 rfl) rfl
theorem q1067 : (Jvm.Cond.methodLink "FigureTill" (341 : Nat) ({ cls := "FigureTill$Till", name := "parts", desc := "(ILFigureTill$Trace;)I" } : Jvm.MethodName)) ∈ lw_all := lw_g (lw_at lw_m5 39 rfl) rfl
theorem q1082 : (Jvm.Cond.instanceMethod ({ cls := "FigureTill", name := "body", desc := "(I)I" } : Jvm.MethodName)) ∈ lw_all := lw_g (lw_at lw_m5 54 rfl) rfl
theorem q1083 : (Jvm.Cond.selects "FigureTill" ({ cls := "FigureTill", name := "body", desc := "(I)I" } : Jvm.MethodName) ({ cls := "FigureTill", name := "body", desc := "(I)I" } : Jvm.MethodName)) ∈ lw_all := lw_g (lw_at lw_m5 55 rfl) rfl
theorem q1084 : (Jvm.Cond.code ({ cls := "FigureTill", name := "body", desc := "(I)I" } : Jvm.MethodName) prog_1_method_57_code (2 : Nat) (Option.some Jvm.ClassFile.FieldType.int)) ∈ lw_all := lw_g (lw_at lw_m5 56 rfl) rfl
theorem q1086 : (Jvm.Cond.instanceMethod ({ cls := "FigureTill", name := "sheet", desc := "(III)I" } : Jvm.MethodName)) ∈ lw_all := lw_g (lw_at lw_m5 58 rfl) rfl
theorem q1087 : (Jvm.Cond.selects "FigureTill" ({ cls := "FigureTill", name := "sheet", desc := "(III)I" } : Jvm.MethodName) ({ cls := "FigureTill", name := "sheet", desc := "(III)I" } : Jvm.MethodName)) ∈ lw_all := lw_g (lw_at lw_m5 59 rfl) rfl
theorem q1088 : (Jvm.Cond.codeWith ({ cls := "FigureTill", name := "sheet", desc := "(III)I" } : Jvm.MethodName) prog_1_method_61_code (5 : Nat) (Option.some Jvm.ClassFile.FieldType.int) [((51 : Nat), (96 : Nat), (97 : Nat), (352 : Nat))]) ∈ lw_all := lw_g (lw_at lw_m5 60 rfl) rfl
theorem q1089 : (Jvm.Cond.classLink "FigureTill" (352 : Nat) "java/lang/NegativeArraySizeException") ∈ lw_all := lw_g (lw_at lw_m5 61 rfl) rfl
theorem q1104 : (Jvm.Cond.instanceMethod ({ cls := "FigureTill", name := "put", desc := "(III)I" } : Jvm.MethodName)) ∈ lw_all := lw_g (lw_at lw_m5 76 rfl) rfl
theorem q1105 : (Jvm.Cond.selects "FigureTill" ({ cls := "FigureTill", name := "put", desc := "(III)I" } : Jvm.MethodName) ({ cls := "FigureTill", name := "put", desc := "(III)I" } : Jvm.MethodName)) ∈ lw_all := lw_g (lw_at lw_m5 77 rfl) rfl
theorem q1106 : (Jvm.Cond.code ({ cls := "FigureTill", name := "put", desc := "(III)I" } : Jvm.MethodName) prog_1_method_62_code (5 : Nat) (Option.some Jvm.ClassFile.FieldType.int)) ∈ lw_all := lw_g (lw_at lw_m5 78 rfl) rfl
theorem q1108 : (Jvm.Cond.instanceMethod ({ cls := "FigureTill", name := "move", desc := "(IIIII)I" } : Jvm.MethodName)) ∈ lw_all := lw_g (lw_at lw_m5 80 rfl) rfl
theorem q1109 : (Jvm.Cond.selects "FigureTill" ({ cls := "FigureTill", name := "move", desc := "(IIIII)I" } : Jvm.MethodName) ({ cls := "FigureTill", name := "move", desc := "(IIIII)I" } : Jvm.MethodName)) ∈ lw_all := lw_g (lw_at lw_m5 81 rfl) rfl
theorem q1110 : (Jvm.Cond.codeWith ({ cls := "FigureTill", name := "move", desc := "(IIIII)I" } : Jvm.MethodName) prog_1_method_63_code (9 : Nat) (Option.some Jvm.ClassFile.FieldType.int) [((58 : Nat), (68 : Nat), (71 : Nat), (354 : Nat))]) ∈ lw_all := lw_g (lw_at lw_m5 82 rfl) rfl
theorem q1111 : (Jvm.Cond.classLink "FigureTill" (354 : Nat) "java/lang/ArrayStoreException") ∈ lw_all := lw_g (lw_at lw_m5 83 rfl) rfl
theorem q1126 : (Jvm.Cond.instanceMethod ({ cls := "FigureTill", name := "prices", desc := "(I)I" } : Jvm.MethodName)) ∈ lw_all := lw_g (lw_at lw_m5 98 rfl) rfl
theorem q1127 : (Jvm.Cond.selects "FigureTill" ({ cls := "FigureTill", name := "prices", desc := "(I)I" } : Jvm.MethodName) ({ cls := "FigureTill", name := "prices", desc := "(I)I" } : Jvm.MethodName)) ∈ lw_all := lw_g (lw_at lw_m5 99 rfl) rfl
theorem q1128 : (Jvm.Cond.code ({ cls := "FigureTill", name := "prices", desc := "(I)I" } : Jvm.MethodName) prog_1_method_64_code (4 : Nat) (Option.some Jvm.ClassFile.FieldType.int)) ∈ lw_all := lw_g (lw_at lw_m5 100 rfl) rfl
theorem q1130 : (Jvm.Cond.instanceMethod ({ cls := "FigureTill", name := "image", desc := "()I" } : Jvm.MethodName)) ∈ lw_all := lw_g (lw_at lw_m5 102 rfl) rfl
theorem q1131 : (Jvm.Cond.selects "FigureTill" ({ cls := "FigureTill", name := "image", desc := "()I" } : Jvm.MethodName) ({ cls := "FigureTill", name := "image", desc := "()I" } : Jvm.MethodName)) ∈ lw_all := lw_g (lw_at lw_m5 103 rfl) rfl
theorem q1132 : (Jvm.Cond.code ({ cls := "FigureTill", name := "image", desc := "()I" } : Jvm.MethodName) prog_1_method_65_code (1 : Nat) (Option.some Jvm.ClassFile.FieldType.int)) ∈ lw_all := lw_g (lw_at lw_m5 104 rfl) rfl
theorem q1133 : (Jvm.Cond.methodLink "FigureTill" (356 : Nat) ({ cls := "FigureTill$House", name := "become", desc := "(LFigureTill$House;)V" } : Jvm.MethodName)) ∈ lw_all := lw_g (lw_at lw_m5 105 rfl) rfl
theorem q1139 : (Jvm.Cond.instanceMethod ({ cls := "FigureTill", name := "restore", desc := "()I" } : Jvm.MethodName)) ∈ lw_all := lw_g (lw_at lw_m5 111 rfl) rfl
theorem q1140 : (Jvm.Cond.selects "FigureTill" ({ cls := "FigureTill", name := "restore", desc := "()I" } : Jvm.MethodName) ({ cls := "FigureTill", name := "restore", desc := "()I" } : Jvm.MethodName)) ∈ lw_all := lw_g (lw_at lw_m5 112 rfl) rfl
theorem q1141 : (Jvm.Cond.code ({ cls := "FigureTill", name := "restore", desc := "()I" } : Jvm.MethodName) prog_1_method_66_code (1 : Nat) (Option.some Jvm.ClassFile.FieldType.int)) ∈ lw_all := lw_g (lw_at lw_m5 113 rfl) rfl
theorem q1143 : (Jvm.Cond.instanceMethod ({ cls := "FigureTill", name := "tell", desc := "(I)I" } : Jvm.MethodName)) ∈ lw_all := lw_g (lw_at lw_m5 115 rfl) rfl
theorem q1144 : (Jvm.Cond.selects "FigureTill" ({ cls := "FigureTill", name := "tell", desc := "(I)I" } : Jvm.MethodName) ({ cls := "FigureTill", name := "tell", desc := "(I)I" } : Jvm.MethodName)) ∈ lw_all := lw_g (lw_at lw_m5 116 rfl) rfl
theorem q1145 : (Jvm.Cond.code ({ cls := "FigureTill", name := "tell", desc := "(I)I" } : Jvm.MethodName) prog_1_method_67_code (2 : Nat) (Option.some Jvm.ClassFile.FieldType.int)) ∈ lw_all := lw_g (lw_at lw_m5 117 rfl) rfl
theorem q1147 : (Jvm.Cond.instanceMethod ({ cls := "FigureTill", name := "check", desc := "(I)I" } : Jvm.MethodName)) ∈ lw_all := lw_g (lw_at lw_m5 119 rfl) rfl
theorem q1148 : (Jvm.Cond.selects "FigureTill" ({ cls := "FigureTill", name := "check", desc := "(I)I" } : Jvm.MethodName) ({ cls := "FigureTill", name := "check", desc := "(I)I" } : Jvm.MethodName)) ∈ lw_all := lw_g (lw_at lw_m5 120 rfl) rfl
theorem q1149 : (Jvm.Cond.code ({ cls := "FigureTill", name := "check", desc := "(I)I" } : Jvm.MethodName) prog_1_method_68_code (4 : Nat) (Option.some Jvm.ClassFile.FieldType.int)) ∈ lw_all := lw_g (lw_at lw_m5 121 rfl) rfl
theorem q1151 : (Jvm.Cond.instanceMethod ({ cls := "FigureTill", name := "count", desc := "(I)I" } : Jvm.MethodName)) ∈ lw_all := lw_g (lw_at lw_m5 123 rfl) rfl
theorem q1152 : (Jvm.Cond.selects "FigureTill" ({ cls := "FigureTill", name := "count", desc := "(I)I" } : Jvm.MethodName) ({ cls := "FigureTill", name := "count", desc := "(I)I" } : Jvm.MethodName)) ∈ lw_all := lw_g (lw_at lw_m5 124 rfl) rfl
theorem q1153 : (Jvm.Cond.code ({ cls := "FigureTill", name := "count", desc := "(I)I" } : Jvm.MethodName) prog_1_method_70_code (2 : Nat) (Option.some Jvm.ClassFile.FieldType.int)) ∈ lw_all := lw_g (lw_at lw_m5 125 rfl) rfl
theorem q1154 : (Jvm.Cond.methodLink "FigureTill" (369 : Nat) ({ cls := "FigureTill", name := "allStock", desc := "()I" } : Jvm.MethodName)) ∈ lw_all := lw_g (lw_at lw_m5 126 rfl) rfl
theorem q1155 : (Jvm.Cond.privateMethod ({ cls := "FigureTill", name := "allStock", desc := "()I" } : Jvm.MethodName)) ∈ lw_tbl := lw_at lw_m5 127 rfl
theorem q1156 : (Jvm.Cond.instanceMethod ({ cls := "FigureTill", name := "allStock", desc := "()I" } : Jvm.MethodName)) ∈ lw_all := lw_g (lw_at lw_m5 128 rfl) rfl
theorem q1157 : (Jvm.Cond.code ({ cls := "FigureTill", name := "allStock", desc := "()I" } : Jvm.MethodName) prog_1_method_69_code (3 : Nat) (Option.some Jvm.ClassFile.FieldType.int)) ∈ lw_all := lw_g (lw_at lw_m5 129 rfl) rfl
theorem q1159 : (Jvm.Cond.instanceMethod ({ cls := "FigureTill", name := "told", desc := "(I)I" } : Jvm.MethodName)) ∈ lw_all := lw_g (lw_at lw_m5 131 rfl) rfl
theorem q1160 : (Jvm.Cond.selects "FigureTill" ({ cls := "FigureTill", name := "told", desc := "(I)I" } : Jvm.MethodName) ({ cls := "FigureTill", name := "told", desc := "(I)I" } : Jvm.MethodName)) ∈ lw_all := lw_g (lw_at lw_m5 132 rfl) rfl
theorem q1161 : (Jvm.Cond.code ({ cls := "FigureTill", name := "told", desc := "(I)I" } : Jvm.MethodName) prog_1_method_71_code (2 : Nat) (Option.some Jvm.ClassFile.FieldType.int)) ∈ lw_all := lw_g (lw_at lw_m5 133 rfl) rfl
theorem in_X0 : ∀ w ∈ wsX00, w ∈ lw_all := lw_in wsX00 [254, 256, 258, 260, 262, 264, 266, 268, 270, 272, 274, 276, 278, 280, 282, 284, 286, 288, 290] (by decide +kernel) (by decide +kernel)
