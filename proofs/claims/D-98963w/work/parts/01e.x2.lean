/-! VaneCourtModel -/
set_option maxRecDepth 100000
def RX2 : String := "VaneCourtModel"
def TX2 : u_T := fun k => match k with
  | 0 => ("VaneCourtModel", "a", "[I", true)
  | 1 => ("VaneCourtModel", "image", "[I", true)
  | 2 => ("VaneCourtModel", "texts", "[I", true)
  | 3 => ("VaneCourtModel", "tape", "[I", true)
  | 4 => ("VaneCourtModel", "taped", "I", false)
  | 5 => ("VaneCourtModel", "fault", "I", false)
  | 6 => ("VaneCourtModel", "faultPlace", "I", false)
  | 7 => ("VaneCourtModel", "at", "I", false)
  | 8 => ("VaneCourtModel", "place", "I", false)
  | 9 => ("VaneCourtModel", "token", "I", false)
  | 10 => ("VaneCourtModel", "number", "I", false)
  | 11 => ("VaneCourtModel", "word", "J", false)
  | 12 => ("VaneCourtModel", "text0", "I", false)
  | 13 => ("VaneCourtModel", "written", "I", false)
  | 14 => ("VaneCourtModel", "sort0", "I", false)
  | 15 => ("VaneCourtModel", "pile", "[I", true)
  | 16 => ("VaneCourtModel", "counts", "[I", true)
  | 17 => ("VaneCourtModel", "piled", "I", false)
  | 18 => ("VaneCourtModel", "opens", "I", false)
  | 19 => ("VaneCourtModel", "counting", "I", false)
  | 20 => ("VaneCourtModel", "isWhole", "Z", false)
  | 21 => ("VaneCourtModel", "isTruth", "Z", false)
  | 22 => ("VaneCourtModel", "hasUnless", "Z", false)
  | 23 => ("VaneCourtModel", "coded", "I", false)
  | 24 => ("VaneCourtModel", "once", "I", false)
  | 25 => ("VaneCourtModel", "named", "[I", true)
  | 26 => ("VaneCourtModel", "factsNow", "I", false)
  | 27 => ("VaneCourtModel", "values", "[J", true)
  | 28 => ("VaneCourtModel", "truth", "[Z", true)
  | 29 => ("VaneCourtModel", "ended", "I", false)
  | 30 => ("VaneCourtModel", "quarters", "[I", true)
  | 31 => ("VaneCourtModel", "forces", "[I", true)
  | 32 => ("VaneCourtModel", "fogs", "[I", true)
  | 33 => ("VaneCourtModel", "aside", "[I", true)
  | 34 => ("VaneCourtModel", "isGuiltyEnd", "Z", false)
  | 35 => ("VaneCourtModel", "sentenceEnd", "I", false)
  | 36 => ("VaneCourtModel", "comes", "[I", true)
  | 37 => ("VaneCourtModel", "member", "[I", true)
  | 38 => ("VaneCourtModel", "row", "[I", true)
  | _ => ("VaneCourtModel", "bestRow", "[I", true)
def tyX2 : Nat → FieldType := fun k => match k with
  | 0 => .array .int
  | 1 => .array .int
  | 2 => .array .int
  | 3 => .array .int
  | 4 => .int
  | 5 => .int
  | 6 => .int
  | 7 => .int
  | 8 => .int
  | 9 => .int
  | 10 => .int
  | 11 => .long
  | 12 => .int
  | 13 => .int
  | 14 => .int
  | 15 => .array .int
  | 16 => .array .int
  | 17 => .int
  | 18 => .int
  | 19 => .int
  | 20 => .boolean
  | 21 => .boolean
  | 22 => .boolean
  | 23 => .int
  | 24 => .int
  | 25 => .array .int
  | 26 => .int
  | 27 => .array .long
  | 28 => .array .boolean
  | 29 => .int
  | 30 => .array .int
  | 31 => .array .int
  | 32 => .array .int
  | 33 => .array .int
  | 34 => .boolean
  | 35 => .int
  | 36 => .array .int
  | 37 => .array .int
  | 38 => .array .int
  | _ => .array .int
abbrev wsX20 : List Cond := u_ws RX2 TX2 40
set_option maxRecDepth 100000 in
theorem nmX2 : ∀ a, a < 40 → ∀ b, b < 40 → a ≠ b → (TX2 a).2.1 ≠ (TX2 b).2.1 := by decide +kernel
set_option maxRecDepth 100000 in
theorem tyX2_ok : ∀ k, k < 40 → parseFieldDescriptor (TX2 k).2.2.1 = some (tyX2 k) := by decide +kernel
abbrev cX2_init : ByteArray := prog_20_method_1_code
def yX2_init : MethodName := ⟨RX2, "<init>", "()V"⟩
def dkwX2_init_8 : List UInt8 := [180, 0, 7, 42, 180, 0, 13, 184, 0, 70, 177]
abbrev dktX2_init_8 : List UInt8 := dkwX2_init_8 ++ []
def dkwX2_init_7 : List UInt8 := [180, 0, 7, 5, 2, 79, 42, 180, 0, 7, 16, 9, 6, 79, 42, 180, 0, 7, 16, 13, 2, 79, 42]
abbrev dktX2_init_7 : List UInt8 := dkwX2_init_7 ++ dktX2_init_8
def dkwX2_init_6 : List UInt8 := [8, 188, 10, 181, 0, 64, 42, 8, 188, 10, 181, 0, 67, 42, 180, 0, 7, 16, 12, 16, 107, 79, 42]
abbrev dktX2_init_6 : List UInt8 := dkwX2_init_6 ++ dktX2_init_7
def dkwX2_init_5 : List UInt8 := [16, 13, 188, 10, 181, 0, 55, 42, 16, 28, 188, 10, 181, 0, 58, 42, 16, 8, 188, 10, 181, 0, 61, 42]
abbrev dktX2_init_5 : List UInt8 := dkwX2_init_5 ++ dktX2_init_6
def dkwX2_init_4 : List UInt8 := [16, 100, 188, 10, 181, 0, 46, 42, 16, 100, 188, 10, 181, 0, 49, 42, 16, 100, 188, 10, 181, 0, 52, 42]
abbrev dktX2_init_4 : List UInt8 := dkwX2_init_4 ++ dktX2_init_5
def dkwX2_init_3 : List UInt8 := [188, 10, 181, 0, 35, 42, 17, 1, 74, 188, 11, 181, 0, 38, 42, 17, 1, 74, 188, 4, 181, 0, 42, 42]
abbrev dktX2_init_3 : List UInt8 := dkwX2_init_3 ++ dktX2_init_4
def dkwX2_init_2 : List UInt8 := [181, 0, 26, 42, 17, 0, 160, 188, 10, 181, 0, 29, 42, 16, 9, 188, 10, 181, 0, 32, 42, 16, 8]
abbrev dktX2_init_2 : List UInt8 := dkwX2_init_2 ++ dktX2_init_3
def dkwX2_init_1 : List UInt8 := [17, 11, 4, 188, 10, 181, 0, 16, 42, 17, 1, 44, 188, 10, 181, 0, 19, 42, 2, 181, 0, 22, 42, 2]
abbrev dktX2_init_1 : List UInt8 := dkwX2_init_1 ++ dktX2_init_2
def dkwX2_init_0 : List UInt8 := [42, 183, 0, 1, 42, 17, 14, 58, 188, 10, 181, 0, 7, 42, 17, 14, 58, 188, 10, 181, 0, 13, 42]
abbrev dktX2_init_0 : List UInt8 := dkwX2_init_0 ++ dktX2_init_1
theorem dksX2_init_0 : cX2_init.data.toList.drop 0 = dktX2_init_0 := by decide +kernel
theorem dksX2_init_1 : cX2_init.data.toList.drop 23 = dktX2_init_1 := dk_seg dksX2_init_0 23 rfl rfl
theorem dksX2_init_2 : cX2_init.data.toList.drop 47 = dktX2_init_2 := dk_seg dksX2_init_1 24 rfl rfl
theorem dksX2_init_3 : cX2_init.data.toList.drop 70 = dktX2_init_3 := dk_seg dksX2_init_2 23 rfl rfl
theorem dksX2_init_4 : cX2_init.data.toList.drop 94 = dktX2_init_4 := dk_seg dksX2_init_3 24 rfl rfl
theorem dksX2_init_5 : cX2_init.data.toList.drop 118 = dktX2_init_5 := dk_seg dksX2_init_4 24 rfl rfl
theorem dksX2_init_6 : cX2_init.data.toList.drop 142 = dktX2_init_6 := dk_seg dksX2_init_5 24 rfl rfl
theorem dksX2_init_7 : cX2_init.data.toList.drop 165 = dktX2_init_7 := dk_seg dksX2_init_6 23 rfl rfl
theorem dksX2_init_8 : cX2_init.data.toList.drop 188 = dktX2_init_8 := dk_seg dksX2_init_7 23 rfl rfl
theorem dX2_init_0 : decode cX2_init 0 = .ok (.aload_n 0, 1) := dk_42 (dk_at dksX2_init_0 0 rfl rfl)
theorem dX2_init_1 : decode cX2_init 1 = .ok (.invokespecial 1, 3) := dk_183 0 1 (dk_at dksX2_init_0 1 rfl rfl)
theorem dX2_init_4 : decode cX2_init 4 = .ok (.aload_n 0, 1) := dk_42 (dk_at dksX2_init_0 4 rfl rfl)
theorem dX2_init_5 : decode cX2_init 5 = .ok (.sipush 3642, 3) := dk_17 14 58 (dk_at dksX2_init_0 5 rfl rfl)
theorem dX2_init_8 : decode cX2_init 8 = .ok (.newarray .int, 2) := dk_188_10 (dk_at dksX2_init_0 8 rfl rfl)
theorem dX2_init_10 : decode cX2_init 10 = .ok (.putfield 7, 3) := dk_181 0 7 (dk_at dksX2_init_0 10 rfl rfl)
theorem dX2_init_13 : decode cX2_init 13 = .ok (.aload_n 0, 1) := dk_42 (dk_at dksX2_init_0 13 rfl rfl)
theorem dX2_init_14 : decode cX2_init 14 = .ok (.sipush 3642, 3) := dk_17 14 58 (dk_at dksX2_init_0 14 rfl rfl)
theorem dX2_init_17 : decode cX2_init 17 = .ok (.newarray .int, 2) := dk_188_10 (dk_at dksX2_init_0 17 rfl rfl)
theorem dX2_init_19 : decode cX2_init 19 = .ok (.putfield 13, 3) := dk_181 0 13 (dk_at dksX2_init_0 19 rfl rfl)
theorem dX2_init_22 : decode cX2_init 22 = .ok (.aload_n 0, 1) := dk_42 (dk_at dksX2_init_0 22 rfl rfl)
theorem dX2_init_23 : decode cX2_init 23 = .ok (.sipush 2820, 3) := dk_17 11 4 (dk_at dksX2_init_1 0 rfl rfl)
theorem dX2_init_26 : decode cX2_init 26 = .ok (.newarray .int, 2) := dk_188_10 (dk_at dksX2_init_1 3 rfl rfl)
theorem dX2_init_28 : decode cX2_init 28 = .ok (.putfield 16, 3) := dk_181 0 16 (dk_at dksX2_init_1 5 rfl rfl)
theorem dX2_init_31 : decode cX2_init 31 = .ok (.aload_n 0, 1) := dk_42 (dk_at dksX2_init_1 8 rfl rfl)
theorem dX2_init_32 : decode cX2_init 32 = .ok (.sipush 300, 3) := dk_17 1 44 (dk_at dksX2_init_1 9 rfl rfl)
theorem dX2_init_35 : decode cX2_init 35 = .ok (.newarray .int, 2) := dk_188_10 (dk_at dksX2_init_1 12 rfl rfl)
theorem dX2_init_37 : decode cX2_init 37 = .ok (.putfield 19, 3) := dk_181 0 19 (dk_at dksX2_init_1 14 rfl rfl)
theorem dX2_init_40 : decode cX2_init 40 = .ok (.aload_n 0, 1) := dk_42 (dk_at dksX2_init_1 17 rfl rfl)
theorem dX2_init_41 : decode cX2_init 41 = .ok (.iconst (-1), 1) := dk_2 (dk_at dksX2_init_1 18 rfl rfl)
theorem dX2_init_42 : decode cX2_init 42 = .ok (.putfield 22, 3) := dk_181 0 22 (dk_at dksX2_init_1 19 rfl rfl)
theorem dX2_init_45 : decode cX2_init 45 = .ok (.aload_n 0, 1) := dk_42 (dk_at dksX2_init_1 22 rfl rfl)
theorem dX2_init_46 : decode cX2_init 46 = .ok (.iconst (-1), 1) := dk_2 (dk_at dksX2_init_1 23 rfl rfl)
theorem dX2_init_47 : decode cX2_init 47 = .ok (.putfield 26, 3) := dk_181 0 26 (dk_at dksX2_init_2 0 rfl rfl)
theorem dX2_init_50 : decode cX2_init 50 = .ok (.aload_n 0, 1) := dk_42 (dk_at dksX2_init_2 3 rfl rfl)
theorem dX2_init_51 : decode cX2_init 51 = .ok (.sipush 160, 3) := dk_17 0 160 (dk_at dksX2_init_2 4 rfl rfl)
theorem dX2_init_54 : decode cX2_init 54 = .ok (.newarray .int, 2) := dk_188_10 (dk_at dksX2_init_2 7 rfl rfl)
theorem dX2_init_56 : decode cX2_init 56 = .ok (.putfield 29, 3) := dk_181 0 29 (dk_at dksX2_init_2 9 rfl rfl)
theorem dX2_init_59 : decode cX2_init 59 = .ok (.aload_n 0, 1) := dk_42 (dk_at dksX2_init_2 12 rfl rfl)
theorem dX2_init_60 : decode cX2_init 60 = .ok (.bipush 9, 2) := dk_16 9 (dk_at dksX2_init_2 13 rfl rfl)
theorem dX2_init_62 : decode cX2_init 62 = .ok (.newarray .int, 2) := dk_188_10 (dk_at dksX2_init_2 15 rfl rfl)
theorem dX2_init_64 : decode cX2_init 64 = .ok (.putfield 32, 3) := dk_181 0 32 (dk_at dksX2_init_2 17 rfl rfl)
theorem dX2_init_67 : decode cX2_init 67 = .ok (.aload_n 0, 1) := dk_42 (dk_at dksX2_init_2 20 rfl rfl)
theorem dX2_init_68 : decode cX2_init 68 = .ok (.bipush 8, 2) := dk_16 8 (dk_at dksX2_init_2 21 rfl rfl)
theorem dX2_init_70 : decode cX2_init 70 = .ok (.newarray .int, 2) := dk_188_10 (dk_at dksX2_init_3 0 rfl rfl)
theorem dX2_init_72 : decode cX2_init 72 = .ok (.putfield 35, 3) := dk_181 0 35 (dk_at dksX2_init_3 2 rfl rfl)
theorem dX2_init_75 : decode cX2_init 75 = .ok (.aload_n 0, 1) := dk_42 (dk_at dksX2_init_3 5 rfl rfl)
theorem dX2_init_76 : decode cX2_init 76 = .ok (.sipush 330, 3) := dk_17 1 74 (dk_at dksX2_init_3 6 rfl rfl)
theorem dX2_init_79 : decode cX2_init 79 = .ok (.newarray .long, 2) := dk_188_11 (dk_at dksX2_init_3 9 rfl rfl)
theorem dX2_init_81 : decode cX2_init 81 = .ok (.putfield 38, 3) := dk_181 0 38 (dk_at dksX2_init_3 11 rfl rfl)
theorem dX2_init_84 : decode cX2_init 84 = .ok (.aload_n 0, 1) := dk_42 (dk_at dksX2_init_3 14 rfl rfl)
theorem dX2_init_85 : decode cX2_init 85 = .ok (.sipush 330, 3) := dk_17 1 74 (dk_at dksX2_init_3 15 rfl rfl)
theorem dX2_init_88 : decode cX2_init 88 = .ok (.newarray .boolean, 2) := dk_188_4 (dk_at dksX2_init_3 18 rfl rfl)
theorem dX2_init_90 : decode cX2_init 90 = .ok (.putfield 42, 3) := dk_181 0 42 (dk_at dksX2_init_3 20 rfl rfl)
theorem dX2_init_93 : decode cX2_init 93 = .ok (.aload_n 0, 1) := dk_42 (dk_at dksX2_init_3 23 rfl rfl)
theorem dX2_init_94 : decode cX2_init 94 = .ok (.bipush 100, 2) := dk_16 100 (dk_at dksX2_init_4 0 rfl rfl)
theorem dX2_init_96 : decode cX2_init 96 = .ok (.newarray .int, 2) := dk_188_10 (dk_at dksX2_init_4 2 rfl rfl)
theorem dX2_init_98 : decode cX2_init 98 = .ok (.putfield 46, 3) := dk_181 0 46 (dk_at dksX2_init_4 4 rfl rfl)
theorem dX2_init_101 : decode cX2_init 101 = .ok (.aload_n 0, 1) := dk_42 (dk_at dksX2_init_4 7 rfl rfl)
theorem dX2_init_102 : decode cX2_init 102 = .ok (.bipush 100, 2) := dk_16 100 (dk_at dksX2_init_4 8 rfl rfl)
theorem dX2_init_104 : decode cX2_init 104 = .ok (.newarray .int, 2) := dk_188_10 (dk_at dksX2_init_4 10 rfl rfl)
theorem dX2_init_106 : decode cX2_init 106 = .ok (.putfield 49, 3) := dk_181 0 49 (dk_at dksX2_init_4 12 rfl rfl)
theorem dX2_init_109 : decode cX2_init 109 = .ok (.aload_n 0, 1) := dk_42 (dk_at dksX2_init_4 15 rfl rfl)
theorem dX2_init_110 : decode cX2_init 110 = .ok (.bipush 100, 2) := dk_16 100 (dk_at dksX2_init_4 16 rfl rfl)
theorem dX2_init_112 : decode cX2_init 112 = .ok (.newarray .int, 2) := dk_188_10 (dk_at dksX2_init_4 18 rfl rfl)
theorem dX2_init_114 : decode cX2_init 114 = .ok (.putfield 52, 3) := dk_181 0 52 (dk_at dksX2_init_4 20 rfl rfl)
theorem dX2_init_117 : decode cX2_init 117 = .ok (.aload_n 0, 1) := dk_42 (dk_at dksX2_init_4 23 rfl rfl)
theorem dX2_init_118 : decode cX2_init 118 = .ok (.bipush 13, 2) := dk_16 13 (dk_at dksX2_init_5 0 rfl rfl)
theorem dX2_init_120 : decode cX2_init 120 = .ok (.newarray .int, 2) := dk_188_10 (dk_at dksX2_init_5 2 rfl rfl)
theorem dX2_init_122 : decode cX2_init 122 = .ok (.putfield 55, 3) := dk_181 0 55 (dk_at dksX2_init_5 4 rfl rfl)
theorem dX2_init_125 : decode cX2_init 125 = .ok (.aload_n 0, 1) := dk_42 (dk_at dksX2_init_5 7 rfl rfl)
theorem dX2_init_126 : decode cX2_init 126 = .ok (.bipush 28, 2) := dk_16 28 (dk_at dksX2_init_5 8 rfl rfl)
theorem dX2_init_128 : decode cX2_init 128 = .ok (.newarray .int, 2) := dk_188_10 (dk_at dksX2_init_5 10 rfl rfl)
theorem dX2_init_130 : decode cX2_init 130 = .ok (.putfield 58, 3) := dk_181 0 58 (dk_at dksX2_init_5 12 rfl rfl)
theorem dX2_init_133 : decode cX2_init 133 = .ok (.aload_n 0, 1) := dk_42 (dk_at dksX2_init_5 15 rfl rfl)
theorem dX2_init_134 : decode cX2_init 134 = .ok (.bipush 8, 2) := dk_16 8 (dk_at dksX2_init_5 16 rfl rfl)
theorem dX2_init_136 : decode cX2_init 136 = .ok (.newarray .int, 2) := dk_188_10 (dk_at dksX2_init_5 18 rfl rfl)
theorem dX2_init_138 : decode cX2_init 138 = .ok (.putfield 61, 3) := dk_181 0 61 (dk_at dksX2_init_5 20 rfl rfl)
theorem dX2_init_141 : decode cX2_init 141 = .ok (.aload_n 0, 1) := dk_42 (dk_at dksX2_init_5 23 rfl rfl)
theorem dX2_init_142 : decode cX2_init 142 = .ok (.iconst 5, 1) := dk_8 (dk_at dksX2_init_6 0 rfl rfl)
theorem dX2_init_143 : decode cX2_init 143 = .ok (.newarray .int, 2) := dk_188_10 (dk_at dksX2_init_6 1 rfl rfl)
theorem dX2_init_145 : decode cX2_init 145 = .ok (.putfield 64, 3) := dk_181 0 64 (dk_at dksX2_init_6 3 rfl rfl)
theorem dX2_init_148 : decode cX2_init 148 = .ok (.aload_n 0, 1) := dk_42 (dk_at dksX2_init_6 6 rfl rfl)
theorem dX2_init_149 : decode cX2_init 149 = .ok (.iconst 5, 1) := dk_8 (dk_at dksX2_init_6 7 rfl rfl)
theorem dX2_init_150 : decode cX2_init 150 = .ok (.newarray .int, 2) := dk_188_10 (dk_at dksX2_init_6 8 rfl rfl)
theorem dX2_init_152 : decode cX2_init 152 = .ok (.putfield 67, 3) := dk_181 0 67 (dk_at dksX2_init_6 10 rfl rfl)
theorem dX2_init_155 : decode cX2_init 155 = .ok (.aload_n 0, 1) := dk_42 (dk_at dksX2_init_6 13 rfl rfl)
theorem dX2_init_156 : decode cX2_init 156 = .ok (.getfield 7, 3) := dk_180 0 7 (dk_at dksX2_init_6 14 rfl rfl)
theorem dX2_init_159 : decode cX2_init 159 = .ok (.bipush 12, 2) := dk_16 12 (dk_at dksX2_init_6 17 rfl rfl)
theorem dX2_init_161 : decode cX2_init 161 = .ok (.bipush 107, 2) := dk_16 107 (dk_at dksX2_init_6 19 rfl rfl)
theorem dX2_init_163 : decode cX2_init 163 = .ok (.iastore, 1) := dk_79 (dk_at dksX2_init_6 21 rfl rfl)
theorem dX2_init_164 : decode cX2_init 164 = .ok (.aload_n 0, 1) := dk_42 (dk_at dksX2_init_6 22 rfl rfl)
theorem dX2_init_165 : decode cX2_init 165 = .ok (.getfield 7, 3) := dk_180 0 7 (dk_at dksX2_init_7 0 rfl rfl)
theorem dX2_init_168 : decode cX2_init 168 = .ok (.iconst 2, 1) := dk_5 (dk_at dksX2_init_7 3 rfl rfl)
theorem dX2_init_169 : decode cX2_init 169 = .ok (.iconst (-1), 1) := dk_2 (dk_at dksX2_init_7 4 rfl rfl)
theorem dX2_init_170 : decode cX2_init 170 = .ok (.iastore, 1) := dk_79 (dk_at dksX2_init_7 5 rfl rfl)
theorem dX2_init_171 : decode cX2_init 171 = .ok (.aload_n 0, 1) := dk_42 (dk_at dksX2_init_7 6 rfl rfl)
theorem dX2_init_172 : decode cX2_init 172 = .ok (.getfield 7, 3) := dk_180 0 7 (dk_at dksX2_init_7 7 rfl rfl)
theorem dX2_init_175 : decode cX2_init 175 = .ok (.bipush 9, 2) := dk_16 9 (dk_at dksX2_init_7 10 rfl rfl)
theorem dX2_init_177 : decode cX2_init 177 = .ok (.iconst 3, 1) := dk_6 (dk_at dksX2_init_7 12 rfl rfl)
theorem dX2_init_178 : decode cX2_init 178 = .ok (.iastore, 1) := dk_79 (dk_at dksX2_init_7 13 rfl rfl)
theorem dX2_init_179 : decode cX2_init 179 = .ok (.aload_n 0, 1) := dk_42 (dk_at dksX2_init_7 14 rfl rfl)
theorem dX2_init_180 : decode cX2_init 180 = .ok (.getfield 7, 3) := dk_180 0 7 (dk_at dksX2_init_7 15 rfl rfl)
theorem dX2_init_183 : decode cX2_init 183 = .ok (.bipush 13, 2) := dk_16 13 (dk_at dksX2_init_7 18 rfl rfl)
theorem dX2_init_185 : decode cX2_init 185 = .ok (.iconst (-1), 1) := dk_2 (dk_at dksX2_init_7 20 rfl rfl)
theorem dX2_init_186 : decode cX2_init 186 = .ok (.iastore, 1) := dk_79 (dk_at dksX2_init_7 21 rfl rfl)
theorem dX2_init_187 : decode cX2_init 187 = .ok (.aload_n 0, 1) := dk_42 (dk_at dksX2_init_7 22 rfl rfl)
theorem dX2_init_188 : decode cX2_init 188 = .ok (.getfield 7, 3) := dk_180 0 7 (dk_at dksX2_init_8 0 rfl rfl)
theorem dX2_init_191 : decode cX2_init 191 = .ok (.aload_n 0, 1) := dk_42 (dk_at dksX2_init_8 3 rfl rfl)
theorem dX2_init_192 : decode cX2_init 192 = .ok (.getfield 13, 3) := dk_180 0 13 (dk_at dksX2_init_8 4 rfl rfl)
theorem dX2_init_195 : decode cX2_init 195 = .ok (.invokestatic 70, 3) := dk_184 0 70 (dk_at dksX2_init_8 7 rfl rfl)
theorem dX2_init_198 : decode cX2_init 198 = .ok (.return_, 1) := dk_177 (dk_at dksX2_init_8 10 rfl rfl)
abbrev cX2_copy : ByteArray := prog_20_method_2_code
def yX2_copy : MethodName := ⟨RX2, "copy", "([I[I)V"⟩
def dkwX2_copy_0 : List UInt8 := [3, 61, 28, 17, 14, 58, 162, 0, 15, 43, 28, 42, 28, 46, 79, 132, 2, 1, 167, 255, 240, 177]
abbrev dktX2_copy_0 : List UInt8 := dkwX2_copy_0 ++ []
theorem dksX2_copy_0 : cX2_copy.data.toList.drop 0 = dktX2_copy_0 := by decide +kernel
theorem dX2_copy_0 : decode cX2_copy 0 = .ok (.iconst 0, 1) := dk_3 (dk_at dksX2_copy_0 0 rfl rfl)
theorem dX2_copy_1 : decode cX2_copy 1 = .ok (.istore_n 2, 1) := dk_61 (dk_at dksX2_copy_0 1 rfl rfl)
theorem dX2_copy_2 : decode cX2_copy 2 = .ok (.iload_n 2, 1) := dk_28 (dk_at dksX2_copy_0 2 rfl rfl)
theorem dX2_copy_3 : decode cX2_copy 3 = .ok (.sipush 3642, 3) := dk_17 14 58 (dk_at dksX2_copy_0 3 rfl rfl)
theorem dX2_copy_6 : decode cX2_copy 6 = .ok (.if_icmp .ge 15, 3) := dk_162 0 15 (dk_at dksX2_copy_0 6 rfl rfl)
theorem dX2_copy_9 : decode cX2_copy 9 = .ok (.aload_n 1, 1) := dk_43 (dk_at dksX2_copy_0 9 rfl rfl)
theorem dX2_copy_10 : decode cX2_copy 10 = .ok (.iload_n 2, 1) := dk_28 (dk_at dksX2_copy_0 10 rfl rfl)
theorem dX2_copy_11 : decode cX2_copy 11 = .ok (.aload_n 0, 1) := dk_42 (dk_at dksX2_copy_0 11 rfl rfl)
theorem dX2_copy_12 : decode cX2_copy 12 = .ok (.iload_n 2, 1) := dk_28 (dk_at dksX2_copy_0 12 rfl rfl)
theorem dX2_copy_13 : decode cX2_copy 13 = .ok (.iaload, 1) := dk_46 (dk_at dksX2_copy_0 13 rfl rfl)
theorem dX2_copy_14 : decode cX2_copy 14 = .ok (.iastore, 1) := dk_79 (dk_at dksX2_copy_0 14 rfl rfl)
theorem dX2_copy_15 : decode cX2_copy 15 = .ok (.iinc 2 1, 3) := dk_132 2 1 (dk_at dksX2_copy_0 15 rfl rfl)
theorem dX2_copy_18 : decode cX2_copy 18 = .ok (.goto (-16), 3) := dk_167 255 240 (dk_at dksX2_copy_0 18 rfl rfl)
theorem dX2_copy_21 : decode cX2_copy 21 = .ok (.return_, 1) := dk_177 (dk_at dksX2_copy_0 21 rfl rfl)
abbrev cX2_newCase : ByteArray := prog_20_method_11_code
def yX2_newCase : MethodName := ⟨RX2, "newCase", "(IIII)I"⟩
def dkwX2_newCase_5 : List UInt8 := [167, 255, 237, 42, 180, 0, 7, 3, 92, 46, 4, 96, 79, 21, 5, 172]
abbrev dktX2_newCase_5 : List UInt8 := dkwX2_newCase_5 ++ []
def dkwX2_newCase_4 : List UInt8 := [7, 54, 6, 21, 6, 16, 6, 163, 0, 18, 42, 21, 5, 21, 6, 3, 182, 0, 86, 132, 6, 1]
abbrev dktX2_newCase_4 : List UInt8 := dkwX2_newCase_4 ++ dktX2_newCase_5
def dkwX2_newCase_3 : List UInt8 := [21, 5, 4, 28, 182, 0, 86, 42, 21, 5, 5, 29, 182, 0, 86, 42, 21, 5, 6, 21, 4, 182, 0, 86]
abbrev dktX2_newCase_3 : List UInt8 := dkwX2_newCase_3 ++ dktX2_newCase_4
def dkwX2_newCase_2 : List UInt8 := [16, 8, 160, 0, 5, 2, 172, 42, 180, 0, 7, 3, 46, 54, 5, 42, 21, 5, 3, 27, 182, 0, 86, 42]
abbrev dktX2_newCase_2 : List UInt8 := dkwX2_newCase_2 ++ dktX2_newCase_3
def dkwX2_newCase_1 : List UInt8 := [184, 0, 74, 153, 0, 26, 21, 4, 3, 17, 0, 255, 184, 0, 74, 153, 0, 14, 42, 180, 0, 7, 3, 46]
abbrev dktX2_newCase_1 : List UInt8 := dkwX2_newCase_1 ++ dktX2_newCase_2
def dkwX2_newCase_0 : List UInt8 := [27, 3, 8, 184, 0, 74, 153, 0, 46, 28, 4, 16, 9, 184, 0, 74, 153, 0, 36, 29, 4, 16, 9]
abbrev dktX2_newCase_0 : List UInt8 := dkwX2_newCase_0 ++ dktX2_newCase_1
theorem dksX2_newCase_0 : cX2_newCase.data.toList.drop 0 = dktX2_newCase_0 := by decide +kernel
theorem dksX2_newCase_1 : cX2_newCase.data.toList.drop 23 = dktX2_newCase_1 := dk_seg dksX2_newCase_0 23 rfl rfl
theorem dksX2_newCase_2 : cX2_newCase.data.toList.drop 47 = dktX2_newCase_2 := dk_seg dksX2_newCase_1 24 rfl rfl
theorem dksX2_newCase_3 : cX2_newCase.data.toList.drop 71 = dktX2_newCase_3 := dk_seg dksX2_newCase_2 24 rfl rfl
theorem dksX2_newCase_4 : cX2_newCase.data.toList.drop 95 = dktX2_newCase_4 := dk_seg dksX2_newCase_3 24 rfl rfl
theorem dksX2_newCase_5 : cX2_newCase.data.toList.drop 117 = dktX2_newCase_5 := dk_seg dksX2_newCase_4 22 rfl rfl
theorem dX2_newCase_0 : decode cX2_newCase 0 = .ok (.iload_n 1, 1) := dk_27 (dk_at dksX2_newCase_0 0 rfl rfl)
theorem dX2_newCase_1 : decode cX2_newCase 1 = .ok (.iconst 0, 1) := dk_3 (dk_at dksX2_newCase_0 1 rfl rfl)
theorem dX2_newCase_2 : decode cX2_newCase 2 = .ok (.iconst 5, 1) := dk_8 (dk_at dksX2_newCase_0 2 rfl rfl)
theorem dX2_newCase_3 : decode cX2_newCase 3 = .ok (.invokestatic 74, 3) := dk_184 0 74 (dk_at dksX2_newCase_0 3 rfl rfl)
theorem dX2_newCase_6 : decode cX2_newCase 6 = .ok (.ifCond .eq 46, 3) := dk_153 0 46 (dk_at dksX2_newCase_0 6 rfl rfl)
theorem dX2_newCase_9 : decode cX2_newCase 9 = .ok (.iload_n 2, 1) := dk_28 (dk_at dksX2_newCase_0 9 rfl rfl)
theorem dX2_newCase_10 : decode cX2_newCase 10 = .ok (.iconst 1, 1) := dk_4 (dk_at dksX2_newCase_0 10 rfl rfl)
theorem dX2_newCase_11 : decode cX2_newCase 11 = .ok (.bipush 9, 2) := dk_16 9 (dk_at dksX2_newCase_0 11 rfl rfl)
theorem dX2_newCase_13 : decode cX2_newCase 13 = .ok (.invokestatic 74, 3) := dk_184 0 74 (dk_at dksX2_newCase_0 13 rfl rfl)
theorem dX2_newCase_16 : decode cX2_newCase 16 = .ok (.ifCond .eq 36, 3) := dk_153 0 36 (dk_at dksX2_newCase_0 16 rfl rfl)
theorem dX2_newCase_19 : decode cX2_newCase 19 = .ok (.iload_n 3, 1) := dk_29 (dk_at dksX2_newCase_0 19 rfl rfl)
theorem dX2_newCase_20 : decode cX2_newCase 20 = .ok (.iconst 1, 1) := dk_4 (dk_at dksX2_newCase_0 20 rfl rfl)
theorem dX2_newCase_21 : decode cX2_newCase 21 = .ok (.bipush 9, 2) := dk_16 9 (dk_at dksX2_newCase_0 21 rfl rfl)
theorem dX2_newCase_23 : decode cX2_newCase 23 = .ok (.invokestatic 74, 3) := dk_184 0 74 (dk_at dksX2_newCase_1 0 rfl rfl)
theorem dX2_newCase_26 : decode cX2_newCase 26 = .ok (.ifCond .eq 26, 3) := dk_153 0 26 (dk_at dksX2_newCase_1 3 rfl rfl)
theorem dX2_newCase_29 : decode cX2_newCase 29 = .ok (.iload 4, 2) := dk_21 4 (dk_at dksX2_newCase_1 6 rfl rfl)
theorem dX2_newCase_31 : decode cX2_newCase 31 = .ok (.iconst 0, 1) := dk_3 (dk_at dksX2_newCase_1 8 rfl rfl)
theorem dX2_newCase_32 : decode cX2_newCase 32 = .ok (.sipush 255, 3) := dk_17 0 255 (dk_at dksX2_newCase_1 9 rfl rfl)
theorem dX2_newCase_35 : decode cX2_newCase 35 = .ok (.invokestatic 74, 3) := dk_184 0 74 (dk_at dksX2_newCase_1 12 rfl rfl)
theorem dX2_newCase_38 : decode cX2_newCase 38 = .ok (.ifCond .eq 14, 3) := dk_153 0 14 (dk_at dksX2_newCase_1 15 rfl rfl)
theorem dX2_newCase_41 : decode cX2_newCase 41 = .ok (.aload_n 0, 1) := dk_42 (dk_at dksX2_newCase_1 18 rfl rfl)
theorem dX2_newCase_42 : decode cX2_newCase 42 = .ok (.getfield 7, 3) := dk_180 0 7 (dk_at dksX2_newCase_1 19 rfl rfl)
theorem dX2_newCase_45 : decode cX2_newCase 45 = .ok (.iconst 0, 1) := dk_3 (dk_at dksX2_newCase_1 22 rfl rfl)
theorem dX2_newCase_46 : decode cX2_newCase 46 = .ok (.iaload, 1) := dk_46 (dk_at dksX2_newCase_1 23 rfl rfl)
theorem dX2_newCase_47 : decode cX2_newCase 47 = .ok (.bipush 8, 2) := dk_16 8 (dk_at dksX2_newCase_2 0 rfl rfl)
theorem dX2_newCase_49 : decode cX2_newCase 49 = .ok (.if_icmp .ne 5, 3) := dk_160 0 5 (dk_at dksX2_newCase_2 2 rfl rfl)
theorem dX2_newCase_52 : decode cX2_newCase 52 = .ok (.iconst (-1), 1) := dk_2 (dk_at dksX2_newCase_2 5 rfl rfl)
theorem dX2_newCase_53 : decode cX2_newCase 53 = .ok (.ireturn, 1) := dk_172 (dk_at dksX2_newCase_2 6 rfl rfl)
theorem dX2_newCase_54 : decode cX2_newCase 54 = .ok (.aload_n 0, 1) := dk_42 (dk_at dksX2_newCase_2 7 rfl rfl)
theorem dX2_newCase_55 : decode cX2_newCase 55 = .ok (.getfield 7, 3) := dk_180 0 7 (dk_at dksX2_newCase_2 8 rfl rfl)
theorem dX2_newCase_58 : decode cX2_newCase 58 = .ok (.iconst 0, 1) := dk_3 (dk_at dksX2_newCase_2 11 rfl rfl)
theorem dX2_newCase_59 : decode cX2_newCase 59 = .ok (.iaload, 1) := dk_46 (dk_at dksX2_newCase_2 12 rfl rfl)
theorem dX2_newCase_60 : decode cX2_newCase 60 = .ok (.istore 5, 2) := dk_54 5 (dk_at dksX2_newCase_2 13 rfl rfl)
theorem dX2_newCase_62 : decode cX2_newCase 62 = .ok (.aload_n 0, 1) := dk_42 (dk_at dksX2_newCase_2 15 rfl rfl)
theorem dX2_newCase_63 : decode cX2_newCase 63 = .ok (.iload 5, 2) := dk_21 5 (dk_at dksX2_newCase_2 16 rfl rfl)
theorem dX2_newCase_65 : decode cX2_newCase 65 = .ok (.iconst 0, 1) := dk_3 (dk_at dksX2_newCase_2 18 rfl rfl)
theorem dX2_newCase_66 : decode cX2_newCase 66 = .ok (.iload_n 1, 1) := dk_27 (dk_at dksX2_newCase_2 19 rfl rfl)
theorem dX2_newCase_67 : decode cX2_newCase 67 = .ok (.invokevirtual 86, 3) := dk_182 0 86 (dk_at dksX2_newCase_2 20 rfl rfl)
theorem dX2_newCase_70 : decode cX2_newCase 70 = .ok (.aload_n 0, 1) := dk_42 (dk_at dksX2_newCase_2 23 rfl rfl)
theorem dX2_newCase_71 : decode cX2_newCase 71 = .ok (.iload 5, 2) := dk_21 5 (dk_at dksX2_newCase_3 0 rfl rfl)
theorem dX2_newCase_73 : decode cX2_newCase 73 = .ok (.iconst 1, 1) := dk_4 (dk_at dksX2_newCase_3 2 rfl rfl)
theorem dX2_newCase_74 : decode cX2_newCase 74 = .ok (.iload_n 2, 1) := dk_28 (dk_at dksX2_newCase_3 3 rfl rfl)
theorem dX2_newCase_75 : decode cX2_newCase 75 = .ok (.invokevirtual 86, 3) := dk_182 0 86 (dk_at dksX2_newCase_3 4 rfl rfl)
theorem dX2_newCase_78 : decode cX2_newCase 78 = .ok (.aload_n 0, 1) := dk_42 (dk_at dksX2_newCase_3 7 rfl rfl)
theorem dX2_newCase_79 : decode cX2_newCase 79 = .ok (.iload 5, 2) := dk_21 5 (dk_at dksX2_newCase_3 8 rfl rfl)
theorem dX2_newCase_81 : decode cX2_newCase 81 = .ok (.iconst 2, 1) := dk_5 (dk_at dksX2_newCase_3 10 rfl rfl)
theorem dX2_newCase_82 : decode cX2_newCase 82 = .ok (.iload_n 3, 1) := dk_29 (dk_at dksX2_newCase_3 11 rfl rfl)
theorem dX2_newCase_83 : decode cX2_newCase 83 = .ok (.invokevirtual 86, 3) := dk_182 0 86 (dk_at dksX2_newCase_3 12 rfl rfl)
theorem dX2_newCase_86 : decode cX2_newCase 86 = .ok (.aload_n 0, 1) := dk_42 (dk_at dksX2_newCase_3 15 rfl rfl)
theorem dX2_newCase_87 : decode cX2_newCase 87 = .ok (.iload 5, 2) := dk_21 5 (dk_at dksX2_newCase_3 16 rfl rfl)
theorem dX2_newCase_89 : decode cX2_newCase 89 = .ok (.iconst 3, 1) := dk_6 (dk_at dksX2_newCase_3 18 rfl rfl)
theorem dX2_newCase_90 : decode cX2_newCase 90 = .ok (.iload 4, 2) := dk_21 4 (dk_at dksX2_newCase_3 19 rfl rfl)
theorem dX2_newCase_92 : decode cX2_newCase 92 = .ok (.invokevirtual 86, 3) := dk_182 0 86 (dk_at dksX2_newCase_3 21 rfl rfl)
theorem dX2_newCase_95 : decode cX2_newCase 95 = .ok (.iconst 4, 1) := dk_7 (dk_at dksX2_newCase_4 0 rfl rfl)
theorem dX2_newCase_96 : decode cX2_newCase 96 = .ok (.istore 6, 2) := dk_54 6 (dk_at dksX2_newCase_4 1 rfl rfl)
theorem dX2_newCase_98 : decode cX2_newCase 98 = .ok (.iload 6, 2) := dk_21 6 (dk_at dksX2_newCase_4 3 rfl rfl)
theorem dX2_newCase_100 : decode cX2_newCase 100 = .ok (.bipush 6, 2) := dk_16 6 (dk_at dksX2_newCase_4 5 rfl rfl)
theorem dX2_newCase_102 : decode cX2_newCase 102 = .ok (.if_icmp .gt 18, 3) := dk_163 0 18 (dk_at dksX2_newCase_4 7 rfl rfl)
theorem dX2_newCase_105 : decode cX2_newCase 105 = .ok (.aload_n 0, 1) := dk_42 (dk_at dksX2_newCase_4 10 rfl rfl)
theorem dX2_newCase_106 : decode cX2_newCase 106 = .ok (.iload 5, 2) := dk_21 5 (dk_at dksX2_newCase_4 11 rfl rfl)
theorem dX2_newCase_108 : decode cX2_newCase 108 = .ok (.iload 6, 2) := dk_21 6 (dk_at dksX2_newCase_4 13 rfl rfl)
theorem dX2_newCase_110 : decode cX2_newCase 110 = .ok (.iconst 0, 1) := dk_3 (dk_at dksX2_newCase_4 15 rfl rfl)
theorem dX2_newCase_111 : decode cX2_newCase 111 = .ok (.invokevirtual 86, 3) := dk_182 0 86 (dk_at dksX2_newCase_4 16 rfl rfl)
theorem dX2_newCase_114 : decode cX2_newCase 114 = .ok (.iinc 6 1, 3) := dk_132 6 1 (dk_at dksX2_newCase_4 19 rfl rfl)
theorem dX2_newCase_117 : decode cX2_newCase 117 = .ok (.goto (-19), 3) := dk_167 255 237 (dk_at dksX2_newCase_5 0 rfl rfl)
theorem dX2_newCase_120 : decode cX2_newCase 120 = .ok (.aload_n 0, 1) := dk_42 (dk_at dksX2_newCase_5 3 rfl rfl)
theorem dX2_newCase_121 : decode cX2_newCase 121 = .ok (.getfield 7, 3) := dk_180 0 7 (dk_at dksX2_newCase_5 4 rfl rfl)
theorem dX2_newCase_124 : decode cX2_newCase 124 = .ok (.iconst 0, 1) := dk_3 (dk_at dksX2_newCase_5 7 rfl rfl)
theorem dX2_newCase_125 : decode cX2_newCase 125 = .ok (.dup2, 1) := dk_92 (dk_at dksX2_newCase_5 8 rfl rfl)
theorem dX2_newCase_126 : decode cX2_newCase 126 = .ok (.iaload, 1) := dk_46 (dk_at dksX2_newCase_5 9 rfl rfl)
theorem dX2_newCase_127 : decode cX2_newCase 127 = .ok (.iconst 1, 1) := dk_4 (dk_at dksX2_newCase_5 10 rfl rfl)
theorem dX2_newCase_128 : decode cX2_newCase 128 = .ok (.iadd, 1) := dk_96 (dk_at dksX2_newCase_5 11 rfl rfl)
theorem dX2_newCase_129 : decode cX2_newCase 129 = .ok (.iastore, 1) := dk_79 (dk_at dksX2_newCase_5 12 rfl rfl)
theorem dX2_newCase_130 : decode cX2_newCase 130 = .ok (.iload 5, 2) := dk_21 5 (dk_at dksX2_newCase_5 13 rfl rfl)
theorem dX2_newCase_132 : decode cX2_newCase 132 = .ok (.ireturn, 1) := dk_172 (dk_at dksX2_newCase_5 15 rfl rfl)
abbrev cX2_isIn : ByteArray := prog_20_method_3_code
def yX2_isIn : MethodName := ⟨RX2, "isIn", "(III)Z"⟩
def dkwX2_isIn_0 : List UInt8 := [26, 27, 161, 0, 12, 26, 28, 163, 0, 7, 4, 167, 0, 4, 3, 172]
abbrev dktX2_isIn_0 : List UInt8 := dkwX2_isIn_0 ++ []
theorem dksX2_isIn_0 : cX2_isIn.data.toList.drop 0 = dktX2_isIn_0 := by decide +kernel
theorem dX2_isIn_0 : decode cX2_isIn 0 = .ok (.iload_n 0, 1) := dk_26 (dk_at dksX2_isIn_0 0 rfl rfl)
theorem dX2_isIn_1 : decode cX2_isIn 1 = .ok (.iload_n 1, 1) := dk_27 (dk_at dksX2_isIn_0 1 rfl rfl)
theorem dX2_isIn_2 : decode cX2_isIn 2 = .ok (.if_icmp .lt 12, 3) := dk_161 0 12 (dk_at dksX2_isIn_0 2 rfl rfl)
theorem dX2_isIn_5 : decode cX2_isIn 5 = .ok (.iload_n 0, 1) := dk_26 (dk_at dksX2_isIn_0 5 rfl rfl)
theorem dX2_isIn_6 : decode cX2_isIn 6 = .ok (.iload_n 2, 1) := dk_28 (dk_at dksX2_isIn_0 6 rfl rfl)
theorem dX2_isIn_7 : decode cX2_isIn 7 = .ok (.if_icmp .gt 7, 3) := dk_163 0 7 (dk_at dksX2_isIn_0 7 rfl rfl)
theorem dX2_isIn_10 : decode cX2_isIn 10 = .ok (.iconst 1, 1) := dk_4 (dk_at dksX2_isIn_0 10 rfl rfl)
theorem dX2_isIn_11 : decode cX2_isIn 11 = .ok (.goto 4, 3) := dk_167 0 4 (dk_at dksX2_isIn_0 11 rfl rfl)
theorem dX2_isIn_14 : decode cX2_isIn 14 = .ok (.iconst 0, 1) := dk_3 (dk_at dksX2_isIn_0 14 rfl rfl)
theorem dX2_isIn_15 : decode cX2_isIn 15 = .ok (.ireturn, 1) := dk_172 (dk_at dksX2_isIn_0 15 rfl rfl)
abbrev cX2_put : ByteArray := prog_20_method_9_code
def yX2_put : MethodName := ⟨RX2, "put", "(III)V"⟩
def dkwX2_put_0 : List UInt8 := [42, 180, 0, 7, 16, 20, 16, 7, 27, 104, 96, 28, 96, 29, 79, 177]
abbrev dktX2_put_0 : List UInt8 := dkwX2_put_0 ++ []
theorem dksX2_put_0 : cX2_put.data.toList.drop 0 = dktX2_put_0 := by decide +kernel
theorem dX2_put_0 : decode cX2_put 0 = .ok (.aload_n 0, 1) := dk_42 (dk_at dksX2_put_0 0 rfl rfl)
theorem dX2_put_1 : decode cX2_put 1 = .ok (.getfield 7, 3) := dk_180 0 7 (dk_at dksX2_put_0 1 rfl rfl)
theorem dX2_put_4 : decode cX2_put 4 = .ok (.bipush 20, 2) := dk_16 20 (dk_at dksX2_put_0 4 rfl rfl)
theorem dX2_put_6 : decode cX2_put 6 = .ok (.bipush 7, 2) := dk_16 7 (dk_at dksX2_put_0 6 rfl rfl)
theorem dX2_put_8 : decode cX2_put 8 = .ok (.iload_n 1, 1) := dk_27 (dk_at dksX2_put_0 8 rfl rfl)
theorem dX2_put_9 : decode cX2_put 9 = .ok (.imul, 1) := dk_104 (dk_at dksX2_put_0 9 rfl rfl)
theorem dX2_put_10 : decode cX2_put 10 = .ok (.iadd, 1) := dk_96 (dk_at dksX2_put_0 10 rfl rfl)
theorem dX2_put_11 : decode cX2_put 11 = .ok (.iload_n 2, 1) := dk_28 (dk_at dksX2_put_0 11 rfl rfl)
theorem dX2_put_12 : decode cX2_put 12 = .ok (.iadd, 1) := dk_96 (dk_at dksX2_put_0 12 rfl rfl)
theorem dX2_put_13 : decode cX2_put 13 = .ok (.iload_n 3, 1) := dk_29 (dk_at dksX2_put_0 13 rfl rfl)
theorem dX2_put_14 : decode cX2_put 14 = .ok (.iastore, 1) := dk_79 (dk_at dksX2_put_0 14 rfl rfl)
theorem dX2_put_15 : decode cX2_put 15 = .ok (.return_, 1) := dk_177 (dk_at dksX2_put_0 15 rfl rfl)
abbrev cX2_feed : ByteArray := prog_20_method_13_code
def yX2_feed : MethodName := ⟨RX2, "feed", "(IIIII)I"⟩
def dkwX2_feed_2 : List UInt8 := [172]
abbrev dktX2_feed_2 : List UInt8 := dkwX2_feed_2 ++ []
def dkwX2_feed_1 : List UInt8 := [182, 0, 93, 42, 29, 182, 0, 93, 42, 21, 4, 182, 0, 93, 42, 21, 5, 182, 0, 93, 42, 180, 0, 90]
abbrev dktX2_feed_1 : List UInt8 := dkwX2_feed_1 ++ dktX2_feed_2
def dkwX2_feed_0 : List UInt8 := [42, 180, 0, 90, 16, 20, 96, 17, 1, 44, 164, 0, 5, 2, 172, 42, 27, 182, 0, 93, 42, 28]
abbrev dktX2_feed_0 : List UInt8 := dkwX2_feed_0 ++ dktX2_feed_1
theorem dksX2_feed_0 : cX2_feed.data.toList.drop 0 = dktX2_feed_0 := by decide +kernel
theorem dksX2_feed_1 : cX2_feed.data.toList.drop 22 = dktX2_feed_1 := dk_seg dksX2_feed_0 22 rfl rfl
theorem dksX2_feed_2 : cX2_feed.data.toList.drop 46 = dktX2_feed_2 := dk_seg dksX2_feed_1 24 rfl rfl
theorem dX2_feed_0 : decode cX2_feed 0 = .ok (.aload_n 0, 1) := dk_42 (dk_at dksX2_feed_0 0 rfl rfl)
theorem dX2_feed_1 : decode cX2_feed 1 = .ok (.getfield 90, 3) := dk_180 0 90 (dk_at dksX2_feed_0 1 rfl rfl)
theorem dX2_feed_4 : decode cX2_feed 4 = .ok (.bipush 20, 2) := dk_16 20 (dk_at dksX2_feed_0 4 rfl rfl)
theorem dX2_feed_6 : decode cX2_feed 6 = .ok (.iadd, 1) := dk_96 (dk_at dksX2_feed_0 6 rfl rfl)
theorem dX2_feed_7 : decode cX2_feed 7 = .ok (.sipush 300, 3) := dk_17 1 44 (dk_at dksX2_feed_0 7 rfl rfl)
theorem dX2_feed_10 : decode cX2_feed 10 = .ok (.if_icmp .le 5, 3) := dk_164 0 5 (dk_at dksX2_feed_0 10 rfl rfl)
theorem dX2_feed_13 : decode cX2_feed 13 = .ok (.iconst (-1), 1) := dk_2 (dk_at dksX2_feed_0 13 rfl rfl)
theorem dX2_feed_14 : decode cX2_feed 14 = .ok (.ireturn, 1) := dk_172 (dk_at dksX2_feed_0 14 rfl rfl)
theorem dX2_feed_15 : decode cX2_feed 15 = .ok (.aload_n 0, 1) := dk_42 (dk_at dksX2_feed_0 15 rfl rfl)
theorem dX2_feed_16 : decode cX2_feed 16 = .ok (.iload_n 1, 1) := dk_27 (dk_at dksX2_feed_0 16 rfl rfl)
theorem dX2_feed_17 : decode cX2_feed 17 = .ok (.invokevirtual 93, 3) := dk_182 0 93 (dk_at dksX2_feed_0 17 rfl rfl)
theorem dX2_feed_20 : decode cX2_feed 20 = .ok (.aload_n 0, 1) := dk_42 (dk_at dksX2_feed_0 20 rfl rfl)
theorem dX2_feed_21 : decode cX2_feed 21 = .ok (.iload_n 2, 1) := dk_28 (dk_at dksX2_feed_0 21 rfl rfl)
theorem dX2_feed_22 : decode cX2_feed 22 = .ok (.invokevirtual 93, 3) := dk_182 0 93 (dk_at dksX2_feed_1 0 rfl rfl)
theorem dX2_feed_25 : decode cX2_feed 25 = .ok (.aload_n 0, 1) := dk_42 (dk_at dksX2_feed_1 3 rfl rfl)
theorem dX2_feed_26 : decode cX2_feed 26 = .ok (.iload_n 3, 1) := dk_29 (dk_at dksX2_feed_1 4 rfl rfl)
theorem dX2_feed_27 : decode cX2_feed 27 = .ok (.invokevirtual 93, 3) := dk_182 0 93 (dk_at dksX2_feed_1 5 rfl rfl)
theorem dX2_feed_30 : decode cX2_feed 30 = .ok (.aload_n 0, 1) := dk_42 (dk_at dksX2_feed_1 8 rfl rfl)
theorem dX2_feed_31 : decode cX2_feed 31 = .ok (.iload 4, 2) := dk_21 4 (dk_at dksX2_feed_1 9 rfl rfl)
theorem dX2_feed_33 : decode cX2_feed 33 = .ok (.invokevirtual 93, 3) := dk_182 0 93 (dk_at dksX2_feed_1 11 rfl rfl)
theorem dX2_feed_36 : decode cX2_feed 36 = .ok (.aload_n 0, 1) := dk_42 (dk_at dksX2_feed_1 14 rfl rfl)
theorem dX2_feed_37 : decode cX2_feed 37 = .ok (.iload 5, 2) := dk_21 5 (dk_at dksX2_feed_1 15 rfl rfl)
theorem dX2_feed_39 : decode cX2_feed 39 = .ok (.invokevirtual 93, 3) := dk_182 0 93 (dk_at dksX2_feed_1 17 rfl rfl)
theorem dX2_feed_42 : decode cX2_feed 42 = .ok (.aload_n 0, 1) := dk_42 (dk_at dksX2_feed_1 20 rfl rfl)
theorem dX2_feed_43 : decode cX2_feed 43 = .ok (.getfield 90, 3) := dk_180 0 90 (dk_at dksX2_feed_1 21 rfl rfl)
theorem dX2_feed_46 : decode cX2_feed 46 = .ok (.ireturn, 1) := dk_172 (dk_at dksX2_feed_2 0 rfl rfl)
abbrev cX2_four : ByteArray := prog_20_method_12_code
def yX2_four : MethodName := ⟨RX2, "four", "(I)V"⟩
def dkwX2_four_1 : List UInt8 := [89, 180, 0, 90, 4, 96, 181, 0, 90, 132, 2, 248, 167, 255, 223, 177]
abbrev dktX2_four_1 : List UInt8 := dkwX2_four_1 ++ []
def dkwX2_four_0 : List UInt8 := [16, 24, 61, 28, 155, 0, 35, 42, 180, 0, 19, 42, 180, 0, 90, 27, 28, 122, 17, 0, 255, 126, 79, 42]
abbrev dktX2_four_0 : List UInt8 := dkwX2_four_0 ++ dktX2_four_1
theorem dksX2_four_0 : cX2_four.data.toList.drop 0 = dktX2_four_0 := by decide +kernel
theorem dksX2_four_1 : cX2_four.data.toList.drop 24 = dktX2_four_1 := dk_seg dksX2_four_0 24 rfl rfl
theorem dX2_four_0 : decode cX2_four 0 = .ok (.bipush 24, 2) := dk_16 24 (dk_at dksX2_four_0 0 rfl rfl)
theorem dX2_four_2 : decode cX2_four 2 = .ok (.istore_n 2, 1) := dk_61 (dk_at dksX2_four_0 2 rfl rfl)
theorem dX2_four_3 : decode cX2_four 3 = .ok (.iload_n 2, 1) := dk_28 (dk_at dksX2_four_0 3 rfl rfl)
theorem dX2_four_4 : decode cX2_four 4 = .ok (.ifCond .lt 35, 3) := dk_155 0 35 (dk_at dksX2_four_0 4 rfl rfl)
theorem dX2_four_7 : decode cX2_four 7 = .ok (.aload_n 0, 1) := dk_42 (dk_at dksX2_four_0 7 rfl rfl)
theorem dX2_four_8 : decode cX2_four 8 = .ok (.getfield 19, 3) := dk_180 0 19 (dk_at dksX2_four_0 8 rfl rfl)
theorem dX2_four_11 : decode cX2_four 11 = .ok (.aload_n 0, 1) := dk_42 (dk_at dksX2_four_0 11 rfl rfl)
theorem dX2_four_12 : decode cX2_four 12 = .ok (.getfield 90, 3) := dk_180 0 90 (dk_at dksX2_four_0 12 rfl rfl)
theorem dX2_four_15 : decode cX2_four 15 = .ok (.iload_n 1, 1) := dk_27 (dk_at dksX2_four_0 15 rfl rfl)
theorem dX2_four_16 : decode cX2_four 16 = .ok (.iload_n 2, 1) := dk_28 (dk_at dksX2_four_0 16 rfl rfl)
theorem dX2_four_17 : decode cX2_four 17 = .ok (.ishr, 1) := dk_122 (dk_at dksX2_four_0 17 rfl rfl)
theorem dX2_four_18 : decode cX2_four 18 = .ok (.sipush 255, 3) := dk_17 0 255 (dk_at dksX2_four_0 18 rfl rfl)
theorem dX2_four_21 : decode cX2_four 21 = .ok (.iand, 1) := dk_126 (dk_at dksX2_four_0 21 rfl rfl)
theorem dX2_four_22 : decode cX2_four 22 = .ok (.iastore, 1) := dk_79 (dk_at dksX2_four_0 22 rfl rfl)
theorem dX2_four_23 : decode cX2_four 23 = .ok (.aload_n 0, 1) := dk_42 (dk_at dksX2_four_0 23 rfl rfl)
theorem dX2_four_24 : decode cX2_four 24 = .ok (.dup, 1) := dk_89 (dk_at dksX2_four_1 0 rfl rfl)
theorem dX2_four_25 : decode cX2_four 25 = .ok (.getfield 90, 3) := dk_180 0 90 (dk_at dksX2_four_1 1 rfl rfl)
theorem dX2_four_28 : decode cX2_four 28 = .ok (.iconst 1, 1) := dk_4 (dk_at dksX2_four_1 4 rfl rfl)
theorem dX2_four_29 : decode cX2_four 29 = .ok (.iadd, 1) := dk_96 (dk_at dksX2_four_1 5 rfl rfl)
theorem dX2_four_30 : decode cX2_four 30 = .ok (.putfield 90, 3) := dk_181 0 90 (dk_at dksX2_four_1 6 rfl rfl)
theorem dX2_four_33 : decode cX2_four 33 = .ok (.iinc 2 (-8), 3) := dk_132 2 248 (dk_at dksX2_four_1 9 rfl rfl)
theorem dX2_four_36 : decode cX2_four 36 = .ok (.goto (-33), 3) := dk_167 255 223 (dk_at dksX2_four_1 12 rfl rfl)
theorem dX2_four_39 : decode cX2_four 39 = .ok (.return_, 1) := dk_177 (dk_at dksX2_four_1 15 rfl rfl)
abbrev cX2_end : ByteArray := prog_20_method_14_code
def yX2_end : MethodName := ⟨RX2, "end", "(I)I"⟩
def dkwX2_end_0 : List UInt8 := [27, 3, 42, 180, 0, 90, 184, 0, 74, 154, 0, 5, 2, 172, 42, 27, 181, 0, 90, 27, 172]
abbrev dktX2_end_0 : List UInt8 := dkwX2_end_0 ++ []
theorem dksX2_end_0 : cX2_end.data.toList.drop 0 = dktX2_end_0 := by decide +kernel
theorem dX2_end_0 : decode cX2_end 0 = .ok (.iload_n 1, 1) := dk_27 (dk_at dksX2_end_0 0 rfl rfl)
theorem dX2_end_1 : decode cX2_end 1 = .ok (.iconst 0, 1) := dk_3 (dk_at dksX2_end_0 1 rfl rfl)
theorem dX2_end_2 : decode cX2_end 2 = .ok (.aload_n 0, 1) := dk_42 (dk_at dksX2_end_0 2 rfl rfl)
theorem dX2_end_3 : decode cX2_end 3 = .ok (.getfield 90, 3) := dk_180 0 90 (dk_at dksX2_end_0 3 rfl rfl)
theorem dX2_end_6 : decode cX2_end 6 = .ok (.invokestatic 74, 3) := dk_184 0 74 (dk_at dksX2_end_0 6 rfl rfl)
theorem dX2_end_9 : decode cX2_end 9 = .ok (.ifCond .ne 5, 3) := dk_154 0 5 (dk_at dksX2_end_0 9 rfl rfl)
theorem dX2_end_12 : decode cX2_end 12 = .ok (.iconst (-1), 1) := dk_2 (dk_at dksX2_end_0 12 rfl rfl)
theorem dX2_end_13 : decode cX2_end 13 = .ok (.ireturn, 1) := dk_172 (dk_at dksX2_end_0 13 rfl rfl)
theorem dX2_end_14 : decode cX2_end 14 = .ok (.aload_n 0, 1) := dk_42 (dk_at dksX2_end_0 14 rfl rfl)
theorem dX2_end_15 : decode cX2_end 15 = .ok (.iload_n 1, 1) := dk_27 (dk_at dksX2_end_0 15 rfl rfl)
theorem dX2_end_16 : decode cX2_end 16 = .ok (.putfield 90, 3) := dk_181 0 90 (dk_at dksX2_end_0 16 rfl rfl)
theorem dX2_end_19 : decode cX2_end 19 = .ok (.iload_n 1, 1) := dk_27 (dk_at dksX2_end_0 19 rfl rfl)
theorem dX2_end_20 : decode cX2_end 20 = .ok (.ireturn, 1) := dk_172 (dk_at dksX2_end_0 20 rfl rfl)
abbrev cX2_text : ByteArray := prog_20_method_58_code
def yX2_text : MethodName := ⟨RX2, "text", "()I"⟩
def dkwX2_text_3 : List UInt8 := [4, 100, 172]
abbrev dktX2_text_3 : List UInt8 := dkwX2_text_3 ++ []
def dkwX2_text_2 : List UInt8 := [180, 0, 22, 153, 0, 5, 2, 172, 42, 180, 0, 7, 4, 92, 46, 4, 96, 79, 42, 180, 0, 7, 4, 46]
abbrev dktX2_text_2 : List UInt8 := dkwX2_text_2 ++ dktX2_text_3
def dkwX2_text_1 : List UInt8 := [180, 0, 22, 154, 0, 7, 2, 167, 0, 7, 42, 180, 0, 104, 181, 0, 26, 42, 3, 181, 0, 90, 42]
abbrev dktX2_text_1 : List UInt8 := dkwX2_text_1 ++ dktX2_text_2
def dkwX2_text_0 : List UInt8 := [42, 180, 0, 7, 4, 46, 7, 160, 0, 5, 2, 172, 42, 42, 182, 1, 38, 181, 0, 22, 42, 42]
abbrev dktX2_text_0 : List UInt8 := dkwX2_text_0 ++ dktX2_text_1
theorem dksX2_text_0 : cX2_text.data.toList.drop 0 = dktX2_text_0 := by decide +kernel
theorem dksX2_text_1 : cX2_text.data.toList.drop 22 = dktX2_text_1 := dk_seg dksX2_text_0 22 rfl rfl
theorem dksX2_text_2 : cX2_text.data.toList.drop 45 = dktX2_text_2 := dk_seg dksX2_text_1 23 rfl rfl
theorem dksX2_text_3 : cX2_text.data.toList.drop 69 = dktX2_text_3 := dk_seg dksX2_text_2 24 rfl rfl
theorem dX2_text_0 : decode cX2_text 0 = .ok (.aload_n 0, 1) := dk_42 (dk_at dksX2_text_0 0 rfl rfl)
theorem dX2_text_1 : decode cX2_text 1 = .ok (.getfield 7, 3) := dk_180 0 7 (dk_at dksX2_text_0 1 rfl rfl)
theorem dX2_text_4 : decode cX2_text 4 = .ok (.iconst 1, 1) := dk_4 (dk_at dksX2_text_0 4 rfl rfl)
theorem dX2_text_5 : decode cX2_text 5 = .ok (.iaload, 1) := dk_46 (dk_at dksX2_text_0 5 rfl rfl)
theorem dX2_text_6 : decode cX2_text 6 = .ok (.iconst 4, 1) := dk_7 (dk_at dksX2_text_0 6 rfl rfl)
theorem dX2_text_7 : decode cX2_text 7 = .ok (.if_icmp .ne 5, 3) := dk_160 0 5 (dk_at dksX2_text_0 7 rfl rfl)
theorem dX2_text_10 : decode cX2_text 10 = .ok (.iconst (-1), 1) := dk_2 (dk_at dksX2_text_0 10 rfl rfl)
theorem dX2_text_11 : decode cX2_text 11 = .ok (.ireturn, 1) := dk_172 (dk_at dksX2_text_0 11 rfl rfl)
theorem dX2_text_12 : decode cX2_text 12 = .ok (.aload_n 0, 1) := dk_42 (dk_at dksX2_text_0 12 rfl rfl)
theorem dX2_text_13 : decode cX2_text 13 = .ok (.aload_n 0, 1) := dk_42 (dk_at dksX2_text_0 13 rfl rfl)
theorem dX2_text_14 : decode cX2_text 14 = .ok (.invokevirtual 294, 3) := dk_182 1 38 (dk_at dksX2_text_0 14 rfl rfl)
theorem dX2_text_17 : decode cX2_text 17 = .ok (.putfield 22, 3) := dk_181 0 22 (dk_at dksX2_text_0 17 rfl rfl)
theorem dX2_text_20 : decode cX2_text 20 = .ok (.aload_n 0, 1) := dk_42 (dk_at dksX2_text_0 20 rfl rfl)
theorem dX2_text_21 : decode cX2_text 21 = .ok (.aload_n 0, 1) := dk_42 (dk_at dksX2_text_0 21 rfl rfl)
theorem dX2_text_22 : decode cX2_text 22 = .ok (.getfield 22, 3) := dk_180 0 22 (dk_at dksX2_text_1 0 rfl rfl)
theorem dX2_text_25 : decode cX2_text 25 = .ok (.ifCond .ne 7, 3) := dk_154 0 7 (dk_at dksX2_text_1 3 rfl rfl)
theorem dX2_text_28 : decode cX2_text 28 = .ok (.iconst (-1), 1) := dk_2 (dk_at dksX2_text_1 6 rfl rfl)
theorem dX2_text_29 : decode cX2_text 29 = .ok (.goto 7, 3) := dk_167 0 7 (dk_at dksX2_text_1 7 rfl rfl)
theorem dX2_text_32 : decode cX2_text 32 = .ok (.aload_n 0, 1) := dk_42 (dk_at dksX2_text_1 10 rfl rfl)
theorem dX2_text_33 : decode cX2_text 33 = .ok (.getfield 104, 3) := dk_180 0 104 (dk_at dksX2_text_1 11 rfl rfl)
theorem dX2_text_36 : decode cX2_text 36 = .ok (.putfield 26, 3) := dk_181 0 26 (dk_at dksX2_text_1 14 rfl rfl)
theorem dX2_text_39 : decode cX2_text 39 = .ok (.aload_n 0, 1) := dk_42 (dk_at dksX2_text_1 17 rfl rfl)
theorem dX2_text_40 : decode cX2_text 40 = .ok (.iconst 0, 1) := dk_3 (dk_at dksX2_text_1 18 rfl rfl)
theorem dX2_text_41 : decode cX2_text 41 = .ok (.putfield 90, 3) := dk_181 0 90 (dk_at dksX2_text_1 19 rfl rfl)
theorem dX2_text_44 : decode cX2_text 44 = .ok (.aload_n 0, 1) := dk_42 (dk_at dksX2_text_1 22 rfl rfl)
theorem dX2_text_45 : decode cX2_text 45 = .ok (.getfield 22, 3) := dk_180 0 22 (dk_at dksX2_text_2 0 rfl rfl)
theorem dX2_text_48 : decode cX2_text 48 = .ok (.ifCond .eq 5, 3) := dk_153 0 5 (dk_at dksX2_text_2 3 rfl rfl)
theorem dX2_text_51 : decode cX2_text 51 = .ok (.iconst (-1), 1) := dk_2 (dk_at dksX2_text_2 6 rfl rfl)
theorem dX2_text_52 : decode cX2_text 52 = .ok (.ireturn, 1) := dk_172 (dk_at dksX2_text_2 7 rfl rfl)
theorem dX2_text_53 : decode cX2_text 53 = .ok (.aload_n 0, 1) := dk_42 (dk_at dksX2_text_2 8 rfl rfl)
theorem dX2_text_54 : decode cX2_text 54 = .ok (.getfield 7, 3) := dk_180 0 7 (dk_at dksX2_text_2 9 rfl rfl)
theorem dX2_text_57 : decode cX2_text 57 = .ok (.iconst 1, 1) := dk_4 (dk_at dksX2_text_2 12 rfl rfl)
theorem dX2_text_58 : decode cX2_text 58 = .ok (.dup2, 1) := dk_92 (dk_at dksX2_text_2 13 rfl rfl)
theorem dX2_text_59 : decode cX2_text 59 = .ok (.iaload, 1) := dk_46 (dk_at dksX2_text_2 14 rfl rfl)
theorem dX2_text_60 : decode cX2_text 60 = .ok (.iconst 1, 1) := dk_4 (dk_at dksX2_text_2 15 rfl rfl)
theorem dX2_text_61 : decode cX2_text 61 = .ok (.iadd, 1) := dk_96 (dk_at dksX2_text_2 16 rfl rfl)
theorem dX2_text_62 : decode cX2_text 62 = .ok (.iastore, 1) := dk_79 (dk_at dksX2_text_2 17 rfl rfl)
theorem dX2_text_63 : decode cX2_text 63 = .ok (.aload_n 0, 1) := dk_42 (dk_at dksX2_text_2 18 rfl rfl)
theorem dX2_text_64 : decode cX2_text 64 = .ok (.getfield 7, 3) := dk_180 0 7 (dk_at dksX2_text_2 19 rfl rfl)
theorem dX2_text_67 : decode cX2_text 67 = .ok (.iconst 1, 1) := dk_4 (dk_at dksX2_text_2 22 rfl rfl)
theorem dX2_text_68 : decode cX2_text 68 = .ok (.iaload, 1) := dk_46 (dk_at dksX2_text_2 23 rfl rfl)
theorem dX2_text_69 : decode cX2_text 69 = .ok (.iconst 1, 1) := dk_4 (dk_at dksX2_text_3 0 rfl rfl)
theorem dX2_text_70 : decode cX2_text 70 = .ok (.isub, 1) := dk_100 (dk_at dksX2_text_3 1 rfl rfl)
theorem dX2_text_71 : decode cX2_text 71 = .ok (.ireturn, 1) := dk_172 (dk_at dksX2_text_3 2 rfl rfl)
abbrev cX2_readText : ByteArray := prog_20_method_57_code
def yX2_readText : MethodName := ⟨RX2, "readText", "()I"⟩
def dkwX2_readText_2 : List UInt8 := [42, 180, 0, 107, 153, 0, 17, 42, 182, 1, 35, 60, 27, 153, 0, 5, 27, 172, 167, 255, 238, 3, 172]
abbrev dktX2_readText_2 : List UInt8 := dkwX2_readText_2 ++ []
def dkwX2_readText_1 : List UInt8 := [42, 3, 181, 0, 148, 42, 3, 181, 1, 29, 42, 3, 181, 0, 252, 42, 3, 181, 0, 97, 42, 182, 0, 189]
abbrev dktX2_readText_1 : List UInt8 := dkwX2_readText_1 ++ dktX2_readText_2
def dkwX2_readText_0 : List UInt8 := [42, 17, 2, 193, 42, 180, 0, 7, 4, 46, 104, 181, 0, 145, 42, 180, 0, 16, 42, 180, 0, 145, 3, 79]
abbrev dktX2_readText_0 : List UInt8 := dkwX2_readText_0 ++ dktX2_readText_1
theorem dksX2_readText_0 : cX2_readText.data.toList.drop 0 = dktX2_readText_0 := by decide +kernel
theorem dksX2_readText_1 : cX2_readText.data.toList.drop 24 = dktX2_readText_1 := dk_seg dksX2_readText_0 24 rfl rfl
theorem dksX2_readText_2 : cX2_readText.data.toList.drop 48 = dktX2_readText_2 := dk_seg dksX2_readText_1 24 rfl rfl
theorem dX2_readText_0 : decode cX2_readText 0 = .ok (.aload_n 0, 1) := dk_42 (dk_at dksX2_readText_0 0 rfl rfl)
theorem dX2_readText_1 : decode cX2_readText 1 = .ok (.sipush 705, 3) := dk_17 2 193 (dk_at dksX2_readText_0 1 rfl rfl)
theorem dX2_readText_4 : decode cX2_readText 4 = .ok (.aload_n 0, 1) := dk_42 (dk_at dksX2_readText_0 4 rfl rfl)
theorem dX2_readText_5 : decode cX2_readText 5 = .ok (.getfield 7, 3) := dk_180 0 7 (dk_at dksX2_readText_0 5 rfl rfl)
theorem dX2_readText_8 : decode cX2_readText 8 = .ok (.iconst 1, 1) := dk_4 (dk_at dksX2_readText_0 8 rfl rfl)
theorem dX2_readText_9 : decode cX2_readText 9 = .ok (.iaload, 1) := dk_46 (dk_at dksX2_readText_0 9 rfl rfl)
theorem dX2_readText_10 : decode cX2_readText 10 = .ok (.imul, 1) := dk_104 (dk_at dksX2_readText_0 10 rfl rfl)
theorem dX2_readText_11 : decode cX2_readText 11 = .ok (.putfield 145, 3) := dk_181 0 145 (dk_at dksX2_readText_0 11 rfl rfl)
theorem dX2_readText_14 : decode cX2_readText 14 = .ok (.aload_n 0, 1) := dk_42 (dk_at dksX2_readText_0 14 rfl rfl)
theorem dX2_readText_15 : decode cX2_readText 15 = .ok (.getfield 16, 3) := dk_180 0 16 (dk_at dksX2_readText_0 15 rfl rfl)
theorem dX2_readText_18 : decode cX2_readText 18 = .ok (.aload_n 0, 1) := dk_42 (dk_at dksX2_readText_0 18 rfl rfl)
theorem dX2_readText_19 : decode cX2_readText 19 = .ok (.getfield 145, 3) := dk_180 0 145 (dk_at dksX2_readText_0 19 rfl rfl)
theorem dX2_readText_22 : decode cX2_readText 22 = .ok (.iconst 0, 1) := dk_3 (dk_at dksX2_readText_0 22 rfl rfl)
theorem dX2_readText_23 : decode cX2_readText 23 = .ok (.iastore, 1) := dk_79 (dk_at dksX2_readText_0 23 rfl rfl)
theorem dX2_readText_24 : decode cX2_readText 24 = .ok (.aload_n 0, 1) := dk_42 (dk_at dksX2_readText_1 0 rfl rfl)
theorem dX2_readText_25 : decode cX2_readText 25 = .ok (.iconst 0, 1) := dk_3 (dk_at dksX2_readText_1 1 rfl rfl)
theorem dX2_readText_26 : decode cX2_readText 26 = .ok (.putfield 148, 3) := dk_181 0 148 (dk_at dksX2_readText_1 2 rfl rfl)
theorem dX2_readText_29 : decode cX2_readText 29 = .ok (.aload_n 0, 1) := dk_42 (dk_at dksX2_readText_1 5 rfl rfl)
theorem dX2_readText_30 : decode cX2_readText 30 = .ok (.iconst 0, 1) := dk_3 (dk_at dksX2_readText_1 6 rfl rfl)
theorem dX2_readText_31 : decode cX2_readText 31 = .ok (.putfield 285, 3) := dk_181 1 29 (dk_at dksX2_readText_1 7 rfl rfl)
theorem dX2_readText_34 : decode cX2_readText 34 = .ok (.aload_n 0, 1) := dk_42 (dk_at dksX2_readText_1 10 rfl rfl)
theorem dX2_readText_35 : decode cX2_readText 35 = .ok (.iconst 0, 1) := dk_3 (dk_at dksX2_readText_1 11 rfl rfl)
theorem dX2_readText_36 : decode cX2_readText 36 = .ok (.putfield 252, 3) := dk_181 0 252 (dk_at dksX2_readText_1 12 rfl rfl)
theorem dX2_readText_39 : decode cX2_readText 39 = .ok (.aload_n 0, 1) := dk_42 (dk_at dksX2_readText_1 15 rfl rfl)
theorem dX2_readText_40 : decode cX2_readText 40 = .ok (.iconst 0, 1) := dk_3 (dk_at dksX2_readText_1 16 rfl rfl)
theorem dX2_readText_41 : decode cX2_readText 41 = .ok (.putfield 97, 3) := dk_181 0 97 (dk_at dksX2_readText_1 17 rfl rfl)
theorem dX2_readText_44 : decode cX2_readText 44 = .ok (.aload_n 0, 1) := dk_42 (dk_at dksX2_readText_1 20 rfl rfl)
theorem dX2_readText_45 : decode cX2_readText 45 = .ok (.invokevirtual 189, 3) := dk_182 0 189 (dk_at dksX2_readText_1 21 rfl rfl)
theorem dX2_readText_48 : decode cX2_readText 48 = .ok (.aload_n 0, 1) := dk_42 (dk_at dksX2_readText_2 0 rfl rfl)
theorem dX2_readText_49 : decode cX2_readText 49 = .ok (.getfield 107, 3) := dk_180 0 107 (dk_at dksX2_readText_2 1 rfl rfl)
theorem dX2_readText_52 : decode cX2_readText 52 = .ok (.ifCond .eq 17, 3) := dk_153 0 17 (dk_at dksX2_readText_2 4 rfl rfl)
theorem dX2_readText_55 : decode cX2_readText 55 = .ok (.aload_n 0, 1) := dk_42 (dk_at dksX2_readText_2 7 rfl rfl)
theorem dX2_readText_56 : decode cX2_readText 56 = .ok (.invokevirtual 291, 3) := dk_182 1 35 (dk_at dksX2_readText_2 8 rfl rfl)
theorem dX2_readText_59 : decode cX2_readText 59 = .ok (.istore_n 1, 1) := dk_60 (dk_at dksX2_readText_2 11 rfl rfl)
theorem dX2_readText_60 : decode cX2_readText 60 = .ok (.iload_n 1, 1) := dk_27 (dk_at dksX2_readText_2 12 rfl rfl)
theorem dX2_readText_61 : decode cX2_readText 61 = .ok (.ifCond .eq 5, 3) := dk_153 0 5 (dk_at dksX2_readText_2 13 rfl rfl)
theorem dX2_readText_64 : decode cX2_readText 64 = .ok (.iload_n 1, 1) := dk_27 (dk_at dksX2_readText_2 16 rfl rfl)
theorem dX2_readText_65 : decode cX2_readText 65 = .ok (.ireturn, 1) := dk_172 (dk_at dksX2_readText_2 17 rfl rfl)
theorem dX2_readText_66 : decode cX2_readText 66 = .ok (.goto (-18), 3) := dk_167 255 238 (dk_at dksX2_readText_2 18 rfl rfl)
theorem dX2_readText_69 : decode cX2_readText 69 = .ok (.iconst 0, 1) := dk_3 (dk_at dksX2_readText_2 21 rfl rfl)
theorem dX2_readText_70 : decode cX2_readText 70 = .ok (.ireturn, 1) := dk_172 (dk_at dksX2_readText_2 22 rfl rfl)
abbrev cX2_nextToken : ByteArray := prog_20_method_19_code
def yX2_nextToken : MethodName := ⟨RX2, "nextToken", "()V"⟩
def dkwX2_nextToken_13 : List UInt8 := [180, 0, 97, 4, 96, 181, 0, 97, 177]
abbrev dktX2_nextToken_13 : List UInt8 := dkwX2_nextToken_13 ++ []
def dkwX2_nextToken_12 : List UInt8 := [16, 61, 160, 0, 28, 42, 27, 16, 60, 160, 0, 7, 7, 167, 0, 4, 8, 181, 0, 107, 42, 89]
abbrev dktX2_nextToken_12 : List UInt8 := dkwX2_nextToken_12 ++ dktX2_nextToken_13
def dkwX2_nextToken_11 : List UInt8 := [181, 0, 97, 27, 16, 60, 159, 0, 9, 27, 16, 62, 160, 0, 41, 42, 42, 180, 0, 97, 182, 0, 100]
abbrev dktX2_nextToken_11 : List UInt8 := dkwX2_nextToken_11 ++ dktX2_nextToken_12
def dkwX2_nextToken_10 : List UInt8 := [42, 27, 184, 0, 126, 153, 0, 7, 27, 167, 0, 4, 6, 181, 0, 107, 42, 89, 180, 0, 97, 4, 96]
abbrev dktX2_nextToken_10 : List UInt8 := dkwX2_nextToken_10 ++ dktX2_nextToken_11
def dkwX2_nextToken_9 : List UInt8 := [180, 0, 97, 182, 0, 100, 133, 129, 181, 0, 120, 42, 89, 180, 0, 97, 4, 96, 181, 0, 97, 167, 255, 193]
abbrev dktX2_nextToken_9 : List UInt8 := dkwX2_nextToken_9 ++ dktX2_nextToken_10
def dkwX2_nextToken_8 : List UInt8 := [16, 48, 123, 9, 148, 153, 0, 9, 20, 0, 124, 167, 0, 20, 42, 180, 0, 120, 16, 8, 121, 42, 42]
abbrev dktX2_nextToken_8 : List UInt8 := dkwX2_nextToken_8 ++ dktX2_nextToken_9
def dkwX2_nextToken_7 : List UInt8 := [9, 181, 0, 120, 42, 42, 180, 0, 97, 182, 0, 100, 184, 0, 117, 153, 0, 131, 42, 42, 180, 0, 120]
abbrev dktX2_nextToken_7 : List UInt8 := dkwX2_nextToken_7 ++ dktX2_nextToken_8
def dkwX2_nextToken_6 : List UInt8 := [180, 0, 97, 4, 96, 181, 0, 97, 167, 255, 193, 27, 184, 0, 117, 153, 0, 79, 42, 5, 181, 0, 107, 42]
abbrev dktX2_nextToken_6 : List UInt8 := dkwX2_nextToken_6 ++ dktX2_nextToken_7
def dkwX2_nextToken_5 : List UInt8 := [16, 10, 42, 180, 0, 113, 104, 42, 42, 180, 0, 97, 182, 0, 100, 96, 16, 48, 100, 181, 0, 113, 42, 89]
abbrev dktX2_nextToken_5 : List UInt8 := dkwX2_nextToken_5 ++ dktX2_nextToken_6
def dkwX2_nextToken_4 : List UInt8 := [184, 0, 110, 153, 0, 214, 42, 42, 180, 0, 113, 18, 116, 164, 0, 10, 42, 180, 0, 113, 167, 0, 22]
abbrev dktX2_nextToken_4 : List UInt8 := dkwX2_nextToken_4 ++ dktX2_nextToken_5
def dkwX2_nextToken_3 : List UInt8 := [184, 0, 110, 153, 0, 79, 42, 4, 181, 0, 107, 42, 3, 181, 0, 113, 42, 42, 180, 0, 97, 182, 0, 100]
abbrev dktX2_nextToken_3 : List UInt8 := dkwX2_nextToken_3 ++ dktX2_nextToken_4
def dkwX2_nextToken_2 : List UInt8 := [42, 42, 180, 0, 97, 182, 0, 100, 60, 27, 156, 0, 11, 42, 3, 181, 0, 107, 167, 0, 245, 27]
abbrev dktX2_nextToken_2 : List UInt8 := dkwX2_nextToken_2 ++ dktX2_nextToken_3
def dkwX2_nextToken_1 : List UInt8 := [160, 0, 16, 42, 89, 180, 0, 97, 4, 96, 181, 0, 97, 167, 255, 220, 42, 42, 180, 0, 97, 181, 0, 104]
abbrev dktX2_nextToken_1 : List UInt8 := dkwX2_nextToken_1 ++ dktX2_nextToken_2
def dkwX2_nextToken_0 : List UInt8 := [42, 42, 180, 0, 97, 182, 0, 100, 16, 32, 159, 0, 16, 42, 42, 180, 0, 97, 182, 0, 100, 16, 10]
abbrev dktX2_nextToken_0 : List UInt8 := dkwX2_nextToken_0 ++ dktX2_nextToken_1
theorem dksX2_nextToken_0 : cX2_nextToken.data.toList.drop 0 = dktX2_nextToken_0 := by decide +kernel
theorem dksX2_nextToken_1 : cX2_nextToken.data.toList.drop 23 = dktX2_nextToken_1 := dk_seg dksX2_nextToken_0 23 rfl rfl
theorem dksX2_nextToken_2 : cX2_nextToken.data.toList.drop 47 = dktX2_nextToken_2 := dk_seg dksX2_nextToken_1 24 rfl rfl
theorem dksX2_nextToken_3 : cX2_nextToken.data.toList.drop 69 = dktX2_nextToken_3 := dk_seg dksX2_nextToken_2 22 rfl rfl
theorem dksX2_nextToken_4 : cX2_nextToken.data.toList.drop 93 = dktX2_nextToken_4 := dk_seg dksX2_nextToken_3 24 rfl rfl
theorem dksX2_nextToken_5 : cX2_nextToken.data.toList.drop 116 = dktX2_nextToken_5 := dk_seg dksX2_nextToken_4 23 rfl rfl
theorem dksX2_nextToken_6 : cX2_nextToken.data.toList.drop 140 = dktX2_nextToken_6 := dk_seg dksX2_nextToken_5 24 rfl rfl
theorem dksX2_nextToken_7 : cX2_nextToken.data.toList.drop 164 = dktX2_nextToken_7 := dk_seg dksX2_nextToken_6 24 rfl rfl
theorem dksX2_nextToken_8 : cX2_nextToken.data.toList.drop 187 = dktX2_nextToken_8 := dk_seg dksX2_nextToken_7 23 rfl rfl
theorem dksX2_nextToken_9 : cX2_nextToken.data.toList.drop 210 = dktX2_nextToken_9 := dk_seg dksX2_nextToken_8 23 rfl rfl
theorem dksX2_nextToken_10 : cX2_nextToken.data.toList.drop 234 = dktX2_nextToken_10 := dk_seg dksX2_nextToken_9 24 rfl rfl
theorem dksX2_nextToken_11 : cX2_nextToken.data.toList.drop 257 = dktX2_nextToken_11 := dk_seg dksX2_nextToken_10 23 rfl rfl
theorem dksX2_nextToken_12 : cX2_nextToken.data.toList.drop 280 = dktX2_nextToken_12 := dk_seg dksX2_nextToken_11 23 rfl rfl
theorem dksX2_nextToken_13 : cX2_nextToken.data.toList.drop 302 = dktX2_nextToken_13 := dk_seg dksX2_nextToken_12 22 rfl rfl
theorem dX2_nextToken_0 : decode cX2_nextToken 0 = .ok (.aload_n 0, 1) := dk_42 (dk_at dksX2_nextToken_0 0 rfl rfl)
theorem dX2_nextToken_1 : decode cX2_nextToken 1 = .ok (.aload_n 0, 1) := dk_42 (dk_at dksX2_nextToken_0 1 rfl rfl)
theorem dX2_nextToken_2 : decode cX2_nextToken 2 = .ok (.getfield 97, 3) := dk_180 0 97 (dk_at dksX2_nextToken_0 2 rfl rfl)
theorem dX2_nextToken_5 : decode cX2_nextToken 5 = .ok (.invokevirtual 100, 3) := dk_182 0 100 (dk_at dksX2_nextToken_0 5 rfl rfl)
theorem dX2_nextToken_8 : decode cX2_nextToken 8 = .ok (.bipush 32, 2) := dk_16 32 (dk_at dksX2_nextToken_0 8 rfl rfl)
theorem dX2_nextToken_10 : decode cX2_nextToken 10 = .ok (.if_icmp .eq 16, 3) := dk_159 0 16 (dk_at dksX2_nextToken_0 10 rfl rfl)
theorem dX2_nextToken_13 : decode cX2_nextToken 13 = .ok (.aload_n 0, 1) := dk_42 (dk_at dksX2_nextToken_0 13 rfl rfl)
theorem dX2_nextToken_14 : decode cX2_nextToken 14 = .ok (.aload_n 0, 1) := dk_42 (dk_at dksX2_nextToken_0 14 rfl rfl)
theorem dX2_nextToken_15 : decode cX2_nextToken 15 = .ok (.getfield 97, 3) := dk_180 0 97 (dk_at dksX2_nextToken_0 15 rfl rfl)
theorem dX2_nextToken_18 : decode cX2_nextToken 18 = .ok (.invokevirtual 100, 3) := dk_182 0 100 (dk_at dksX2_nextToken_0 18 rfl rfl)
theorem dX2_nextToken_21 : decode cX2_nextToken 21 = .ok (.bipush 10, 2) := dk_16 10 (dk_at dksX2_nextToken_0 21 rfl rfl)
theorem dX2_nextToken_23 : decode cX2_nextToken 23 = .ok (.if_icmp .ne 16, 3) := dk_160 0 16 (dk_at dksX2_nextToken_1 0 rfl rfl)
theorem dX2_nextToken_26 : decode cX2_nextToken 26 = .ok (.aload_n 0, 1) := dk_42 (dk_at dksX2_nextToken_1 3 rfl rfl)
theorem dX2_nextToken_27 : decode cX2_nextToken 27 = .ok (.dup, 1) := dk_89 (dk_at dksX2_nextToken_1 4 rfl rfl)
theorem dX2_nextToken_28 : decode cX2_nextToken 28 = .ok (.getfield 97, 3) := dk_180 0 97 (dk_at dksX2_nextToken_1 5 rfl rfl)
theorem dX2_nextToken_31 : decode cX2_nextToken 31 = .ok (.iconst 1, 1) := dk_4 (dk_at dksX2_nextToken_1 8 rfl rfl)
theorem dX2_nextToken_32 : decode cX2_nextToken 32 = .ok (.iadd, 1) := dk_96 (dk_at dksX2_nextToken_1 9 rfl rfl)
theorem dX2_nextToken_33 : decode cX2_nextToken 33 = .ok (.putfield 97, 3) := dk_181 0 97 (dk_at dksX2_nextToken_1 10 rfl rfl)
theorem dX2_nextToken_36 : decode cX2_nextToken 36 = .ok (.goto (-36), 3) := dk_167 255 220 (dk_at dksX2_nextToken_1 13 rfl rfl)
theorem dX2_nextToken_39 : decode cX2_nextToken 39 = .ok (.aload_n 0, 1) := dk_42 (dk_at dksX2_nextToken_1 16 rfl rfl)
theorem dX2_nextToken_40 : decode cX2_nextToken 40 = .ok (.aload_n 0, 1) := dk_42 (dk_at dksX2_nextToken_1 17 rfl rfl)
theorem dX2_nextToken_41 : decode cX2_nextToken 41 = .ok (.getfield 97, 3) := dk_180 0 97 (dk_at dksX2_nextToken_1 18 rfl rfl)
theorem dX2_nextToken_44 : decode cX2_nextToken 44 = .ok (.putfield 104, 3) := dk_181 0 104 (dk_at dksX2_nextToken_1 21 rfl rfl)
theorem dX2_nextToken_47 : decode cX2_nextToken 47 = .ok (.aload_n 0, 1) := dk_42 (dk_at dksX2_nextToken_2 0 rfl rfl)
theorem dX2_nextToken_48 : decode cX2_nextToken 48 = .ok (.aload_n 0, 1) := dk_42 (dk_at dksX2_nextToken_2 1 rfl rfl)
theorem dX2_nextToken_49 : decode cX2_nextToken 49 = .ok (.getfield 97, 3) := dk_180 0 97 (dk_at dksX2_nextToken_2 2 rfl rfl)
theorem dX2_nextToken_52 : decode cX2_nextToken 52 = .ok (.invokevirtual 100, 3) := dk_182 0 100 (dk_at dksX2_nextToken_2 5 rfl rfl)
theorem dX2_nextToken_55 : decode cX2_nextToken 55 = .ok (.istore_n 1, 1) := dk_60 (dk_at dksX2_nextToken_2 8 rfl rfl)
theorem dX2_nextToken_56 : decode cX2_nextToken 56 = .ok (.iload_n 1, 1) := dk_27 (dk_at dksX2_nextToken_2 9 rfl rfl)
theorem dX2_nextToken_57 : decode cX2_nextToken 57 = .ok (.ifCond .ge 11, 3) := dk_156 0 11 (dk_at dksX2_nextToken_2 10 rfl rfl)
theorem dX2_nextToken_60 : decode cX2_nextToken 60 = .ok (.aload_n 0, 1) := dk_42 (dk_at dksX2_nextToken_2 13 rfl rfl)
theorem dX2_nextToken_61 : decode cX2_nextToken 61 = .ok (.iconst 0, 1) := dk_3 (dk_at dksX2_nextToken_2 14 rfl rfl)
theorem dX2_nextToken_62 : decode cX2_nextToken 62 = .ok (.putfield 107, 3) := dk_181 0 107 (dk_at dksX2_nextToken_2 15 rfl rfl)
theorem dX2_nextToken_65 : decode cX2_nextToken 65 = .ok (.goto 245, 3) := dk_167 0 245 (dk_at dksX2_nextToken_2 18 rfl rfl)
theorem dX2_nextToken_68 : decode cX2_nextToken 68 = .ok (.iload_n 1, 1) := dk_27 (dk_at dksX2_nextToken_2 21 rfl rfl)
theorem dX2_nextToken_69 : decode cX2_nextToken 69 = .ok (.invokestatic 110, 3) := dk_184 0 110 (dk_at dksX2_nextToken_3 0 rfl rfl)
theorem dX2_nextToken_72 : decode cX2_nextToken 72 = .ok (.ifCond .eq 79, 3) := dk_153 0 79 (dk_at dksX2_nextToken_3 3 rfl rfl)
theorem dX2_nextToken_75 : decode cX2_nextToken 75 = .ok (.aload_n 0, 1) := dk_42 (dk_at dksX2_nextToken_3 6 rfl rfl)
theorem dX2_nextToken_76 : decode cX2_nextToken 76 = .ok (.iconst 1, 1) := dk_4 (dk_at dksX2_nextToken_3 7 rfl rfl)
theorem dX2_nextToken_77 : decode cX2_nextToken 77 = .ok (.putfield 107, 3) := dk_181 0 107 (dk_at dksX2_nextToken_3 8 rfl rfl)
theorem dX2_nextToken_80 : decode cX2_nextToken 80 = .ok (.aload_n 0, 1) := dk_42 (dk_at dksX2_nextToken_3 11 rfl rfl)
theorem dX2_nextToken_81 : decode cX2_nextToken 81 = .ok (.iconst 0, 1) := dk_3 (dk_at dksX2_nextToken_3 12 rfl rfl)
theorem dX2_nextToken_82 : decode cX2_nextToken 82 = .ok (.putfield 113, 3) := dk_181 0 113 (dk_at dksX2_nextToken_3 13 rfl rfl)
theorem dX2_nextToken_85 : decode cX2_nextToken 85 = .ok (.aload_n 0, 1) := dk_42 (dk_at dksX2_nextToken_3 16 rfl rfl)
theorem dX2_nextToken_86 : decode cX2_nextToken 86 = .ok (.aload_n 0, 1) := dk_42 (dk_at dksX2_nextToken_3 17 rfl rfl)
theorem dX2_nextToken_87 : decode cX2_nextToken 87 = .ok (.getfield 97, 3) := dk_180 0 97 (dk_at dksX2_nextToken_3 18 rfl rfl)
theorem dX2_nextToken_90 : decode cX2_nextToken 90 = .ok (.invokevirtual 100, 3) := dk_182 0 100 (dk_at dksX2_nextToken_3 21 rfl rfl)
theorem dX2_nextToken_93 : decode cX2_nextToken 93 = .ok (.invokestatic 110, 3) := dk_184 0 110 (dk_at dksX2_nextToken_4 0 rfl rfl)
theorem dX2_nextToken_96 : decode cX2_nextToken 96 = .ok (.ifCond .eq 214, 3) := dk_153 0 214 (dk_at dksX2_nextToken_4 3 rfl rfl)
theorem dX2_nextToken_99 : decode cX2_nextToken 99 = .ok (.aload_n 0, 1) := dk_42 (dk_at dksX2_nextToken_4 6 rfl rfl)
theorem dX2_nextToken_100 : decode cX2_nextToken 100 = .ok (.aload_n 0, 1) := dk_42 (dk_at dksX2_nextToken_4 7 rfl rfl)
theorem dX2_nextToken_101 : decode cX2_nextToken 101 = .ok (.getfield 113, 3) := dk_180 0 113 (dk_at dksX2_nextToken_4 8 rfl rfl)
theorem dX2_nextToken_104 : decode cX2_nextToken 104 = .ok (.ldc 116, 2) := dk_18 116 (dk_at dksX2_nextToken_4 11 rfl rfl)
theorem dX2_nextToken_106 : decode cX2_nextToken 106 = .ok (.if_icmp .le 10, 3) := dk_164 0 10 (dk_at dksX2_nextToken_4 13 rfl rfl)
theorem dX2_nextToken_109 : decode cX2_nextToken 109 = .ok (.aload_n 0, 1) := dk_42 (dk_at dksX2_nextToken_4 16 rfl rfl)
theorem dX2_nextToken_110 : decode cX2_nextToken 110 = .ok (.getfield 113, 3) := dk_180 0 113 (dk_at dksX2_nextToken_4 17 rfl rfl)
theorem dX2_nextToken_113 : decode cX2_nextToken 113 = .ok (.goto 22, 3) := dk_167 0 22 (dk_at dksX2_nextToken_4 20 rfl rfl)
theorem dX2_nextToken_116 : decode cX2_nextToken 116 = .ok (.bipush 10, 2) := dk_16 10 (dk_at dksX2_nextToken_5 0 rfl rfl)
theorem dX2_nextToken_118 : decode cX2_nextToken 118 = .ok (.aload_n 0, 1) := dk_42 (dk_at dksX2_nextToken_5 2 rfl rfl)
theorem dX2_nextToken_119 : decode cX2_nextToken 119 = .ok (.getfield 113, 3) := dk_180 0 113 (dk_at dksX2_nextToken_5 3 rfl rfl)
theorem dX2_nextToken_122 : decode cX2_nextToken 122 = .ok (.imul, 1) := dk_104 (dk_at dksX2_nextToken_5 6 rfl rfl)
theorem dX2_nextToken_123 : decode cX2_nextToken 123 = .ok (.aload_n 0, 1) := dk_42 (dk_at dksX2_nextToken_5 7 rfl rfl)
theorem dX2_nextToken_124 : decode cX2_nextToken 124 = .ok (.aload_n 0, 1) := dk_42 (dk_at dksX2_nextToken_5 8 rfl rfl)
theorem dX2_nextToken_125 : decode cX2_nextToken 125 = .ok (.getfield 97, 3) := dk_180 0 97 (dk_at dksX2_nextToken_5 9 rfl rfl)
theorem dX2_nextToken_128 : decode cX2_nextToken 128 = .ok (.invokevirtual 100, 3) := dk_182 0 100 (dk_at dksX2_nextToken_5 12 rfl rfl)
theorem dX2_nextToken_131 : decode cX2_nextToken 131 = .ok (.iadd, 1) := dk_96 (dk_at dksX2_nextToken_5 15 rfl rfl)
theorem dX2_nextToken_132 : decode cX2_nextToken 132 = .ok (.bipush 48, 2) := dk_16 48 (dk_at dksX2_nextToken_5 16 rfl rfl)
theorem dX2_nextToken_134 : decode cX2_nextToken 134 = .ok (.isub, 1) := dk_100 (dk_at dksX2_nextToken_5 18 rfl rfl)
theorem dX2_nextToken_135 : decode cX2_nextToken 135 = .ok (.putfield 113, 3) := dk_181 0 113 (dk_at dksX2_nextToken_5 19 rfl rfl)
theorem dX2_nextToken_138 : decode cX2_nextToken 138 = .ok (.aload_n 0, 1) := dk_42 (dk_at dksX2_nextToken_5 22 rfl rfl)
theorem dX2_nextToken_139 : decode cX2_nextToken 139 = .ok (.dup, 1) := dk_89 (dk_at dksX2_nextToken_5 23 rfl rfl)
theorem dX2_nextToken_140 : decode cX2_nextToken 140 = .ok (.getfield 97, 3) := dk_180 0 97 (dk_at dksX2_nextToken_6 0 rfl rfl)
theorem dX2_nextToken_143 : decode cX2_nextToken 143 = .ok (.iconst 1, 1) := dk_4 (dk_at dksX2_nextToken_6 3 rfl rfl)
theorem dX2_nextToken_144 : decode cX2_nextToken 144 = .ok (.iadd, 1) := dk_96 (dk_at dksX2_nextToken_6 4 rfl rfl)
theorem dX2_nextToken_145 : decode cX2_nextToken 145 = .ok (.putfield 97, 3) := dk_181 0 97 (dk_at dksX2_nextToken_6 5 rfl rfl)
theorem dX2_nextToken_148 : decode cX2_nextToken 148 = .ok (.goto (-63), 3) := dk_167 255 193 (dk_at dksX2_nextToken_6 8 rfl rfl)
theorem dX2_nextToken_151 : decode cX2_nextToken 151 = .ok (.iload_n 1, 1) := dk_27 (dk_at dksX2_nextToken_6 11 rfl rfl)
theorem dX2_nextToken_152 : decode cX2_nextToken 152 = .ok (.invokestatic 117, 3) := dk_184 0 117 (dk_at dksX2_nextToken_6 12 rfl rfl)
theorem dX2_nextToken_155 : decode cX2_nextToken 155 = .ok (.ifCond .eq 79, 3) := dk_153 0 79 (dk_at dksX2_nextToken_6 15 rfl rfl)
theorem dX2_nextToken_158 : decode cX2_nextToken 158 = .ok (.aload_n 0, 1) := dk_42 (dk_at dksX2_nextToken_6 18 rfl rfl)
theorem dX2_nextToken_159 : decode cX2_nextToken 159 = .ok (.iconst 2, 1) := dk_5 (dk_at dksX2_nextToken_6 19 rfl rfl)
theorem dX2_nextToken_160 : decode cX2_nextToken 160 = .ok (.putfield 107, 3) := dk_181 0 107 (dk_at dksX2_nextToken_6 20 rfl rfl)
theorem dX2_nextToken_163 : decode cX2_nextToken 163 = .ok (.aload_n 0, 1) := dk_42 (dk_at dksX2_nextToken_6 23 rfl rfl)
theorem dX2_nextToken_164 : decode cX2_nextToken 164 = .ok (.lconst 0, 1) := dk_9 (dk_at dksX2_nextToken_7 0 rfl rfl)
theorem dX2_nextToken_165 : decode cX2_nextToken 165 = .ok (.putfield 120, 3) := dk_181 0 120 (dk_at dksX2_nextToken_7 1 rfl rfl)
theorem dX2_nextToken_168 : decode cX2_nextToken 168 = .ok (.aload_n 0, 1) := dk_42 (dk_at dksX2_nextToken_7 4 rfl rfl)
theorem dX2_nextToken_169 : decode cX2_nextToken 169 = .ok (.aload_n 0, 1) := dk_42 (dk_at dksX2_nextToken_7 5 rfl rfl)
theorem dX2_nextToken_170 : decode cX2_nextToken 170 = .ok (.getfield 97, 3) := dk_180 0 97 (dk_at dksX2_nextToken_7 6 rfl rfl)
theorem dX2_nextToken_173 : decode cX2_nextToken 173 = .ok (.invokevirtual 100, 3) := dk_182 0 100 (dk_at dksX2_nextToken_7 9 rfl rfl)
theorem dX2_nextToken_176 : decode cX2_nextToken 176 = .ok (.invokestatic 117, 3) := dk_184 0 117 (dk_at dksX2_nextToken_7 12 rfl rfl)
theorem dX2_nextToken_179 : decode cX2_nextToken 179 = .ok (.ifCond .eq 131, 3) := dk_153 0 131 (dk_at dksX2_nextToken_7 15 rfl rfl)
theorem dX2_nextToken_182 : decode cX2_nextToken 182 = .ok (.aload_n 0, 1) := dk_42 (dk_at dksX2_nextToken_7 18 rfl rfl)
theorem dX2_nextToken_183 : decode cX2_nextToken 183 = .ok (.aload_n 0, 1) := dk_42 (dk_at dksX2_nextToken_7 19 rfl rfl)
theorem dX2_nextToken_184 : decode cX2_nextToken 184 = .ok (.getfield 120, 3) := dk_180 0 120 (dk_at dksX2_nextToken_7 20 rfl rfl)
theorem dX2_nextToken_187 : decode cX2_nextToken 187 = .ok (.bipush 48, 2) := dk_16 48 (dk_at dksX2_nextToken_8 0 rfl rfl)
theorem dX2_nextToken_189 : decode cX2_nextToken 189 = .ok (.lshr, 1) := dk_123 (dk_at dksX2_nextToken_8 2 rfl rfl)
theorem dX2_nextToken_190 : decode cX2_nextToken 190 = .ok (.lconst 0, 1) := dk_9 (dk_at dksX2_nextToken_8 3 rfl rfl)
theorem dX2_nextToken_191 : decode cX2_nextToken 191 = .ok (.lcmp, 1) := dk_148 (dk_at dksX2_nextToken_8 4 rfl rfl)
theorem dX2_nextToken_192 : decode cX2_nextToken 192 = .ok (.ifCond .eq 9, 3) := dk_153 0 9 (dk_at dksX2_nextToken_8 5 rfl rfl)
theorem dX2_nextToken_195 : decode cX2_nextToken 195 = .ok (.ldc2_w 124, 3) := dk_20 0 124 (dk_at dksX2_nextToken_8 8 rfl rfl)
theorem dX2_nextToken_198 : decode cX2_nextToken 198 = .ok (.goto 20, 3) := dk_167 0 20 (dk_at dksX2_nextToken_8 11 rfl rfl)
theorem dX2_nextToken_201 : decode cX2_nextToken 201 = .ok (.aload_n 0, 1) := dk_42 (dk_at dksX2_nextToken_8 14 rfl rfl)
theorem dX2_nextToken_202 : decode cX2_nextToken 202 = .ok (.getfield 120, 3) := dk_180 0 120 (dk_at dksX2_nextToken_8 15 rfl rfl)
theorem dX2_nextToken_205 : decode cX2_nextToken 205 = .ok (.bipush 8, 2) := dk_16 8 (dk_at dksX2_nextToken_8 18 rfl rfl)
theorem dX2_nextToken_207 : decode cX2_nextToken 207 = .ok (.lshl, 1) := dk_121 (dk_at dksX2_nextToken_8 20 rfl rfl)
theorem dX2_nextToken_208 : decode cX2_nextToken 208 = .ok (.aload_n 0, 1) := dk_42 (dk_at dksX2_nextToken_8 21 rfl rfl)
theorem dX2_nextToken_209 : decode cX2_nextToken 209 = .ok (.aload_n 0, 1) := dk_42 (dk_at dksX2_nextToken_8 22 rfl rfl)
theorem dX2_nextToken_210 : decode cX2_nextToken 210 = .ok (.getfield 97, 3) := dk_180 0 97 (dk_at dksX2_nextToken_9 0 rfl rfl)
theorem dX2_nextToken_213 : decode cX2_nextToken 213 = .ok (.invokevirtual 100, 3) := dk_182 0 100 (dk_at dksX2_nextToken_9 3 rfl rfl)
theorem dX2_nextToken_216 : decode cX2_nextToken 216 = .ok (.i2l, 1) := dk_133 (dk_at dksX2_nextToken_9 6 rfl rfl)
theorem dX2_nextToken_217 : decode cX2_nextToken 217 = .ok (.lor, 1) := dk_129 (dk_at dksX2_nextToken_9 7 rfl rfl)
theorem dX2_nextToken_218 : decode cX2_nextToken 218 = .ok (.putfield 120, 3) := dk_181 0 120 (dk_at dksX2_nextToken_9 8 rfl rfl)
theorem dX2_nextToken_221 : decode cX2_nextToken 221 = .ok (.aload_n 0, 1) := dk_42 (dk_at dksX2_nextToken_9 11 rfl rfl)
theorem dX2_nextToken_222 : decode cX2_nextToken 222 = .ok (.dup, 1) := dk_89 (dk_at dksX2_nextToken_9 12 rfl rfl)
theorem dX2_nextToken_223 : decode cX2_nextToken 223 = .ok (.getfield 97, 3) := dk_180 0 97 (dk_at dksX2_nextToken_9 13 rfl rfl)
theorem dX2_nextToken_226 : decode cX2_nextToken 226 = .ok (.iconst 1, 1) := dk_4 (dk_at dksX2_nextToken_9 16 rfl rfl)
theorem dX2_nextToken_227 : decode cX2_nextToken 227 = .ok (.iadd, 1) := dk_96 (dk_at dksX2_nextToken_9 17 rfl rfl)
theorem dX2_nextToken_228 : decode cX2_nextToken 228 = .ok (.putfield 97, 3) := dk_181 0 97 (dk_at dksX2_nextToken_9 18 rfl rfl)
theorem dX2_nextToken_231 : decode cX2_nextToken 231 = .ok (.goto (-63), 3) := dk_167 255 193 (dk_at dksX2_nextToken_9 21 rfl rfl)
theorem dX2_nextToken_234 : decode cX2_nextToken 234 = .ok (.aload_n 0, 1) := dk_42 (dk_at dksX2_nextToken_10 0 rfl rfl)
theorem dX2_nextToken_235 : decode cX2_nextToken 235 = .ok (.iload_n 1, 1) := dk_27 (dk_at dksX2_nextToken_10 1 rfl rfl)
theorem dX2_nextToken_236 : decode cX2_nextToken 236 = .ok (.invokestatic 126, 3) := dk_184 0 126 (dk_at dksX2_nextToken_10 2 rfl rfl)
theorem dX2_nextToken_239 : decode cX2_nextToken 239 = .ok (.ifCond .eq 7, 3) := dk_153 0 7 (dk_at dksX2_nextToken_10 5 rfl rfl)
theorem dX2_nextToken_242 : decode cX2_nextToken 242 = .ok (.iload_n 1, 1) := dk_27 (dk_at dksX2_nextToken_10 8 rfl rfl)
theorem dX2_nextToken_243 : decode cX2_nextToken 243 = .ok (.goto 4, 3) := dk_167 0 4 (dk_at dksX2_nextToken_10 9 rfl rfl)
theorem dX2_nextToken_246 : decode cX2_nextToken 246 = .ok (.iconst 3, 1) := dk_6 (dk_at dksX2_nextToken_10 12 rfl rfl)
theorem dX2_nextToken_247 : decode cX2_nextToken 247 = .ok (.putfield 107, 3) := dk_181 0 107 (dk_at dksX2_nextToken_10 13 rfl rfl)
theorem dX2_nextToken_250 : decode cX2_nextToken 250 = .ok (.aload_n 0, 1) := dk_42 (dk_at dksX2_nextToken_10 16 rfl rfl)
theorem dX2_nextToken_251 : decode cX2_nextToken 251 = .ok (.dup, 1) := dk_89 (dk_at dksX2_nextToken_10 17 rfl rfl)
theorem dX2_nextToken_252 : decode cX2_nextToken 252 = .ok (.getfield 97, 3) := dk_180 0 97 (dk_at dksX2_nextToken_10 18 rfl rfl)
theorem dX2_nextToken_255 : decode cX2_nextToken 255 = .ok (.iconst 1, 1) := dk_4 (dk_at dksX2_nextToken_10 21 rfl rfl)
theorem dX2_nextToken_256 : decode cX2_nextToken 256 = .ok (.iadd, 1) := dk_96 (dk_at dksX2_nextToken_10 22 rfl rfl)
theorem dX2_nextToken_257 : decode cX2_nextToken 257 = .ok (.putfield 97, 3) := dk_181 0 97 (dk_at dksX2_nextToken_11 0 rfl rfl)
theorem dX2_nextToken_260 : decode cX2_nextToken 260 = .ok (.iload_n 1, 1) := dk_27 (dk_at dksX2_nextToken_11 3 rfl rfl)
theorem dX2_nextToken_261 : decode cX2_nextToken 261 = .ok (.bipush 60, 2) := dk_16 60 (dk_at dksX2_nextToken_11 4 rfl rfl)
theorem dX2_nextToken_263 : decode cX2_nextToken 263 = .ok (.if_icmp .eq 9, 3) := dk_159 0 9 (dk_at dksX2_nextToken_11 6 rfl rfl)
theorem dX2_nextToken_266 : decode cX2_nextToken 266 = .ok (.iload_n 1, 1) := dk_27 (dk_at dksX2_nextToken_11 9 rfl rfl)
theorem dX2_nextToken_267 : decode cX2_nextToken 267 = .ok (.bipush 62, 2) := dk_16 62 (dk_at dksX2_nextToken_11 10 rfl rfl)
theorem dX2_nextToken_269 : decode cX2_nextToken 269 = .ok (.if_icmp .ne 41, 3) := dk_160 0 41 (dk_at dksX2_nextToken_11 12 rfl rfl)
theorem dX2_nextToken_272 : decode cX2_nextToken 272 = .ok (.aload_n 0, 1) := dk_42 (dk_at dksX2_nextToken_11 15 rfl rfl)
theorem dX2_nextToken_273 : decode cX2_nextToken 273 = .ok (.aload_n 0, 1) := dk_42 (dk_at dksX2_nextToken_11 16 rfl rfl)
theorem dX2_nextToken_274 : decode cX2_nextToken 274 = .ok (.getfield 97, 3) := dk_180 0 97 (dk_at dksX2_nextToken_11 17 rfl rfl)
theorem dX2_nextToken_277 : decode cX2_nextToken 277 = .ok (.invokevirtual 100, 3) := dk_182 0 100 (dk_at dksX2_nextToken_11 20 rfl rfl)
theorem dX2_nextToken_280 : decode cX2_nextToken 280 = .ok (.bipush 61, 2) := dk_16 61 (dk_at dksX2_nextToken_12 0 rfl rfl)
theorem dX2_nextToken_282 : decode cX2_nextToken 282 = .ok (.if_icmp .ne 28, 3) := dk_160 0 28 (dk_at dksX2_nextToken_12 2 rfl rfl)
theorem dX2_nextToken_285 : decode cX2_nextToken 285 = .ok (.aload_n 0, 1) := dk_42 (dk_at dksX2_nextToken_12 5 rfl rfl)
theorem dX2_nextToken_286 : decode cX2_nextToken 286 = .ok (.iload_n 1, 1) := dk_27 (dk_at dksX2_nextToken_12 6 rfl rfl)
theorem dX2_nextToken_287 : decode cX2_nextToken 287 = .ok (.bipush 60, 2) := dk_16 60 (dk_at dksX2_nextToken_12 7 rfl rfl)
theorem dX2_nextToken_289 : decode cX2_nextToken 289 = .ok (.if_icmp .ne 7, 3) := dk_160 0 7 (dk_at dksX2_nextToken_12 9 rfl rfl)
theorem dX2_nextToken_292 : decode cX2_nextToken 292 = .ok (.iconst 4, 1) := dk_7 (dk_at dksX2_nextToken_12 12 rfl rfl)
theorem dX2_nextToken_293 : decode cX2_nextToken 293 = .ok (.goto 4, 3) := dk_167 0 4 (dk_at dksX2_nextToken_12 13 rfl rfl)
theorem dX2_nextToken_296 : decode cX2_nextToken 296 = .ok (.iconst 5, 1) := dk_8 (dk_at dksX2_nextToken_12 16 rfl rfl)
theorem dX2_nextToken_297 : decode cX2_nextToken 297 = .ok (.putfield 107, 3) := dk_181 0 107 (dk_at dksX2_nextToken_12 17 rfl rfl)
theorem dX2_nextToken_300 : decode cX2_nextToken 300 = .ok (.aload_n 0, 1) := dk_42 (dk_at dksX2_nextToken_12 20 rfl rfl)
theorem dX2_nextToken_301 : decode cX2_nextToken 301 = .ok (.dup, 1) := dk_89 (dk_at dksX2_nextToken_12 21 rfl rfl)
theorem dX2_nextToken_302 : decode cX2_nextToken 302 = .ok (.getfield 97, 3) := dk_180 0 97 (dk_at dksX2_nextToken_13 0 rfl rfl)
theorem dX2_nextToken_305 : decode cX2_nextToken 305 = .ok (.iconst 1, 1) := dk_4 (dk_at dksX2_nextToken_13 3 rfl rfl)
theorem dX2_nextToken_306 : decode cX2_nextToken 306 = .ok (.iadd, 1) := dk_96 (dk_at dksX2_nextToken_13 4 rfl rfl)
theorem dX2_nextToken_307 : decode cX2_nextToken 307 = .ok (.putfield 97, 3) := dk_181 0 97 (dk_at dksX2_nextToken_13 5 rfl rfl)
theorem dX2_nextToken_310 : decode cX2_nextToken 310 = .ok (.return_, 1) := dk_177 (dk_at dksX2_nextToken_13 8 rfl rfl)
abbrev cX2_byteAt : ByteArray := prog_20_method_15_code
def yX2_byteAt : MethodName := ⟨RX2, "byteAt", "(I)I"⟩
def dkwX2_byteAt_0 : List UInt8 := [27, 42, 180, 0, 90, 162, 0, 12, 42, 180, 0, 19, 27, 46, 167, 0, 4, 2, 172]
abbrev dktX2_byteAt_0 : List UInt8 := dkwX2_byteAt_0 ++ []
theorem dksX2_byteAt_0 : cX2_byteAt.data.toList.drop 0 = dktX2_byteAt_0 := by decide +kernel
theorem dX2_byteAt_0 : decode cX2_byteAt 0 = .ok (.iload_n 1, 1) := dk_27 (dk_at dksX2_byteAt_0 0 rfl rfl)
theorem dX2_byteAt_1 : decode cX2_byteAt 1 = .ok (.aload_n 0, 1) := dk_42 (dk_at dksX2_byteAt_0 1 rfl rfl)
theorem dX2_byteAt_2 : decode cX2_byteAt 2 = .ok (.getfield 90, 3) := dk_180 0 90 (dk_at dksX2_byteAt_0 2 rfl rfl)
theorem dX2_byteAt_5 : decode cX2_byteAt 5 = .ok (.if_icmp .ge 12, 3) := dk_162 0 12 (dk_at dksX2_byteAt_0 5 rfl rfl)
theorem dX2_byteAt_8 : decode cX2_byteAt 8 = .ok (.aload_n 0, 1) := dk_42 (dk_at dksX2_byteAt_0 8 rfl rfl)
theorem dX2_byteAt_9 : decode cX2_byteAt 9 = .ok (.getfield 19, 3) := dk_180 0 19 (dk_at dksX2_byteAt_0 9 rfl rfl)
theorem dX2_byteAt_12 : decode cX2_byteAt 12 = .ok (.iload_n 1, 1) := dk_27 (dk_at dksX2_byteAt_0 12 rfl rfl)
theorem dX2_byteAt_13 : decode cX2_byteAt 13 = .ok (.iaload, 1) := dk_46 (dk_at dksX2_byteAt_0 13 rfl rfl)
theorem dX2_byteAt_14 : decode cX2_byteAt 14 = .ok (.goto 4, 3) := dk_167 0 4 (dk_at dksX2_byteAt_0 14 rfl rfl)
theorem dX2_byteAt_17 : decode cX2_byteAt 17 = .ok (.iconst (-1), 1) := dk_2 (dk_at dksX2_byteAt_0 17 rfl rfl)
theorem dX2_byteAt_18 : decode cX2_byteAt 18 = .ok (.ireturn, 1) := dk_172 (dk_at dksX2_byteAt_0 18 rfl rfl)
abbrev cX2_isFigure : ByteArray := prog_20_method_17_code
def yX2_isFigure : MethodName := ⟨RX2, "isFigure", "(I)Z"⟩
def dkwX2_isFigure_0 : List UInt8 := [26, 16, 48, 161, 0, 13, 26, 16, 57, 163, 0, 7, 4, 167, 0, 4, 3, 172]
abbrev dktX2_isFigure_0 : List UInt8 := dkwX2_isFigure_0 ++ []
theorem dksX2_isFigure_0 : cX2_isFigure.data.toList.drop 0 = dktX2_isFigure_0 := by decide +kernel
theorem dX2_isFigure_0 : decode cX2_isFigure 0 = .ok (.iload_n 0, 1) := dk_26 (dk_at dksX2_isFigure_0 0 rfl rfl)
theorem dX2_isFigure_1 : decode cX2_isFigure 1 = .ok (.bipush 48, 2) := dk_16 48 (dk_at dksX2_isFigure_0 1 rfl rfl)
theorem dX2_isFigure_3 : decode cX2_isFigure 3 = .ok (.if_icmp .lt 13, 3) := dk_161 0 13 (dk_at dksX2_isFigure_0 3 rfl rfl)
theorem dX2_isFigure_6 : decode cX2_isFigure 6 = .ok (.iload_n 0, 1) := dk_26 (dk_at dksX2_isFigure_0 6 rfl rfl)
theorem dX2_isFigure_7 : decode cX2_isFigure 7 = .ok (.bipush 57, 2) := dk_16 57 (dk_at dksX2_isFigure_0 7 rfl rfl)
theorem dX2_isFigure_9 : decode cX2_isFigure 9 = .ok (.if_icmp .gt 7, 3) := dk_163 0 7 (dk_at dksX2_isFigure_0 9 rfl rfl)
theorem dX2_isFigure_12 : decode cX2_isFigure 12 = .ok (.iconst 1, 1) := dk_4 (dk_at dksX2_isFigure_0 12 rfl rfl)
theorem dX2_isFigure_13 : decode cX2_isFigure 13 = .ok (.goto 4, 3) := dk_167 0 4 (dk_at dksX2_isFigure_0 13 rfl rfl)
theorem dX2_isFigure_16 : decode cX2_isFigure 16 = .ok (.iconst 0, 1) := dk_3 (dk_at dksX2_isFigure_0 16 rfl rfl)
theorem dX2_isFigure_17 : decode cX2_isFigure 17 = .ok (.ireturn, 1) := dk_172 (dk_at dksX2_isFigure_0 17 rfl rfl)
abbrev cX2_isLetterByte : ByteArray := prog_20_method_16_code
def yX2_isLetterByte : MethodName := ⟨RX2, "isLetterByte", "(I)Z"⟩
def dkwX2_isLetterByte_1 : List UInt8 := [4, 167, 0, 4, 3, 172]
abbrev dktX2_isLetterByte_1 : List UInt8 := dkwX2_isLetterByte_1 ++ []
def dkwX2_isLetterByte_0 : List UInt8 := [26, 16, 97, 161, 0, 9, 26, 16, 122, 164, 0, 15, 26, 16, 65, 161, 0, 13, 26, 16, 90, 163, 0, 7]
abbrev dktX2_isLetterByte_0 : List UInt8 := dkwX2_isLetterByte_0 ++ dktX2_isLetterByte_1
theorem dksX2_isLetterByte_0 : cX2_isLetterByte.data.toList.drop 0 = dktX2_isLetterByte_0 := by decide +kernel
theorem dksX2_isLetterByte_1 : cX2_isLetterByte.data.toList.drop 24 = dktX2_isLetterByte_1 := dk_seg dksX2_isLetterByte_0 24 rfl rfl
theorem dX2_isLetterByte_0 : decode cX2_isLetterByte 0 = .ok (.iload_n 0, 1) := dk_26 (dk_at dksX2_isLetterByte_0 0 rfl rfl)
theorem dX2_isLetterByte_1 : decode cX2_isLetterByte 1 = .ok (.bipush 97, 2) := dk_16 97 (dk_at dksX2_isLetterByte_0 1 rfl rfl)
theorem dX2_isLetterByte_3 : decode cX2_isLetterByte 3 = .ok (.if_icmp .lt 9, 3) := dk_161 0 9 (dk_at dksX2_isLetterByte_0 3 rfl rfl)
theorem dX2_isLetterByte_6 : decode cX2_isLetterByte 6 = .ok (.iload_n 0, 1) := dk_26 (dk_at dksX2_isLetterByte_0 6 rfl rfl)
theorem dX2_isLetterByte_7 : decode cX2_isLetterByte 7 = .ok (.bipush 122, 2) := dk_16 122 (dk_at dksX2_isLetterByte_0 7 rfl rfl)
theorem dX2_isLetterByte_9 : decode cX2_isLetterByte 9 = .ok (.if_icmp .le 15, 3) := dk_164 0 15 (dk_at dksX2_isLetterByte_0 9 rfl rfl)
theorem dX2_isLetterByte_12 : decode cX2_isLetterByte 12 = .ok (.iload_n 0, 1) := dk_26 (dk_at dksX2_isLetterByte_0 12 rfl rfl)
theorem dX2_isLetterByte_13 : decode cX2_isLetterByte 13 = .ok (.bipush 65, 2) := dk_16 65 (dk_at dksX2_isLetterByte_0 13 rfl rfl)
theorem dX2_isLetterByte_15 : decode cX2_isLetterByte 15 = .ok (.if_icmp .lt 13, 3) := dk_161 0 13 (dk_at dksX2_isLetterByte_0 15 rfl rfl)
theorem dX2_isLetterByte_18 : decode cX2_isLetterByte 18 = .ok (.iload_n 0, 1) := dk_26 (dk_at dksX2_isLetterByte_0 18 rfl rfl)
theorem dX2_isLetterByte_19 : decode cX2_isLetterByte 19 = .ok (.bipush 90, 2) := dk_16 90 (dk_at dksX2_isLetterByte_0 19 rfl rfl)
theorem dX2_isLetterByte_21 : decode cX2_isLetterByte 21 = .ok (.if_icmp .gt 7, 3) := dk_163 0 7 (dk_at dksX2_isLetterByte_0 21 rfl rfl)
theorem dX2_isLetterByte_24 : decode cX2_isLetterByte 24 = .ok (.iconst 1, 1) := dk_4 (dk_at dksX2_isLetterByte_1 0 rfl rfl)
theorem dX2_isLetterByte_25 : decode cX2_isLetterByte 25 = .ok (.goto 4, 3) := dk_167 0 4 (dk_at dksX2_isLetterByte_1 1 rfl rfl)
theorem dX2_isLetterByte_28 : decode cX2_isLetterByte 28 = .ok (.iconst 0, 1) := dk_3 (dk_at dksX2_isLetterByte_1 4 rfl rfl)
theorem dX2_isLetterByte_29 : decode cX2_isLetterByte 29 = .ok (.ireturn, 1) := dk_172 (dk_at dksX2_isLetterByte_1 5 rfl rfl)
abbrev cX2_isSign : ByteArray := prog_20_method_18_code
def yX2_isSign : MethodName := ⟨RX2, "isSign", "(I)Z"⟩
def dkwX2_isSign_2 : List UInt8 := [4, 172, 3, 172]
abbrev dktX2_isSign_2 : List UInt8 := dkwX2_isSign_2 ++ []
def dkwX2_isSign_1 : List UInt8 := [170, 0, 0, 0, 0, 0, 129, 0, 0, 0, 35, 0, 0, 0, 62, 0, 0, 0, 127, 0, 0, 0, 129, 0, 0, 0, 129, 0, 0, 0, 129, 0, 0, 0, 129, 0, 0, 0, 127, 0, 0, 0, 127, 0, 0, 0, 127, 0, 0, 0, 127, 0, 0, 0, 127, 0, 0, 0, 127, 0, 0, 0, 129, 0, 0, 0, 127, 0, 0, 0, 129, 0, 0, 0, 129, 0, 0, 0, 129, 0, 0, 0, 129, 0, 0, 0, 129, 0, 0, 0, 129, 0, 0, 0, 129, 0, 0, 0, 129, 0, 0, 0, 129, 0, 0, 0, 129, 0, 0, 0, 127, 0, 0, 0, 127, 0, 0, 0, 127, 0, 0, 0, 127, 0, 0, 0, 127]
abbrev dktX2_isSign_1 : List UInt8 := dkwX2_isSign_1 ++ dktX2_isSign_2
def dkwX2_isSign_0 : List UInt8 := [26]
abbrev dktX2_isSign_0 : List UInt8 := dkwX2_isSign_0 ++ dktX2_isSign_1
theorem dksX2_isSign_0 : cX2_isSign.data.toList.drop 0 = dktX2_isSign_0 := by decide +kernel
theorem dksX2_isSign_1 : cX2_isSign.data.toList.drop 1 = dktX2_isSign_1 := dk_seg dksX2_isSign_0 1 rfl rfl
theorem dksX2_isSign_2 : cX2_isSign.data.toList.drop 128 = dktX2_isSign_2 := dk_seg dksX2_isSign_1 127 rfl rfl
theorem dX2_isSign_0 : decode cX2_isSign 0 = .ok (.iload_n 0, 1) := dk_26 (dk_at dksX2_isSign_0 0 rfl rfl)
theorem dX2_isSign_1 : decode cX2_isSign 1 = .ok (.tableswitch 129 35 62 #[127, 129, 129, 129, 129, 127, 127, 127, 127, 127, 127, 129, 127, 129, 129, 129, 129, 129, 129, 129, 129, 129, 129, 127, 127, 127, 127, 127], 127) := by decide +kernel
theorem dX2_isSign_128 : decode cX2_isSign 128 = .ok (.iconst 1, 1) := dk_4 (dk_at dksX2_isSign_2 0 rfl rfl)
theorem dX2_isSign_129 : decode cX2_isSign 129 = .ok (.ireturn, 1) := dk_172 (dk_at dksX2_isSign_2 1 rfl rfl)
theorem dX2_isSign_130 : decode cX2_isSign 130 = .ok (.iconst 0, 1) := dk_3 (dk_at dksX2_isSign_2 2 rfl rfl)
theorem dX2_isSign_131 : decode cX2_isSign 131 = .ok (.ireturn, 1) := dk_172 (dk_at dksX2_isSign_2 3 rfl rfl)
abbrev cX2_clause : ByteArray := prog_20_method_56_code
def yX2_clause : MethodName := ⟨RX2, "clause", "()I"⟩
def dkwX2_clause_5 : List UInt8 := [96, 79, 42, 180, 0, 107, 16, 59, 159, 0, 5, 4, 172, 42, 182, 0, 189, 3, 172]
abbrev dktX2_clause_5 : List UInt8 := dkwX2_clause_5 ++ []
def dkwX2_clause_4 : List UInt8 := [182, 1, 32, 54, 4, 21, 4, 153, 0, 6, 21, 4, 172, 42, 180, 0, 16, 42, 180, 0, 145, 92, 46, 4]
abbrev dktX2_clause_4 : List UInt8 := dkwX2_clause_4 ++ dktX2_clause_5
def dkwX2_clause_3 : List UInt8 := [182, 0, 189, 42, 180, 0, 145, 4, 96, 7, 28, 104, 96, 62, 42, 180, 0, 16, 29, 27, 79, 42, 27, 29]
abbrev dktX2_clause_3 : List UInt8 := dkwX2_clause_3 ++ dktX2_clause_4
def dkwX2_clause_2 : List UInt8 := [27, 6, 163, 0, 15, 42, 89, 180, 1, 29, 4, 27, 120, 128, 181, 1, 29, 42, 27, 181, 0, 162, 42]
abbrev dktX2_clause_2 : List UInt8 := dkwX2_clause_2 ++ dktX2_clause_3
def dkwX2_clause_1 : List UInt8 := [153, 0, 5, 7, 172, 42, 180, 0, 16, 42, 180, 0, 145, 46, 61, 28, 16, 24, 160, 0, 6, 16, 6, 172]
abbrev dktX2_clause_1 : List UInt8 := dkwX2_clause_1 ++ dktX2_clause_2
def dkwX2_clause_0 : List UInt8 := [42, 182, 1, 26, 60, 27, 156, 0, 5, 4, 172, 27, 6, 163, 0, 16, 42, 180, 1, 29, 27, 184, 0, 255]
abbrev dktX2_clause_0 : List UInt8 := dkwX2_clause_0 ++ dktX2_clause_1
theorem dksX2_clause_0 : cX2_clause.data.toList.drop 0 = dktX2_clause_0 := by decide +kernel
theorem dksX2_clause_1 : cX2_clause.data.toList.drop 24 = dktX2_clause_1 := dk_seg dksX2_clause_0 24 rfl rfl
theorem dksX2_clause_2 : cX2_clause.data.toList.drop 48 = dktX2_clause_2 := dk_seg dksX2_clause_1 24 rfl rfl
theorem dksX2_clause_3 : cX2_clause.data.toList.drop 71 = dktX2_clause_3 := dk_seg dksX2_clause_2 23 rfl rfl
theorem dksX2_clause_4 : cX2_clause.data.toList.drop 95 = dktX2_clause_4 := dk_seg dksX2_clause_3 24 rfl rfl
theorem dksX2_clause_5 : cX2_clause.data.toList.drop 119 = dktX2_clause_5 := dk_seg dksX2_clause_4 24 rfl rfl
theorem dX2_clause_0 : decode cX2_clause 0 = .ok (.aload_n 0, 1) := dk_42 (dk_at dksX2_clause_0 0 rfl rfl)
theorem dX2_clause_1 : decode cX2_clause 1 = .ok (.invokevirtual 282, 3) := dk_182 1 26 (dk_at dksX2_clause_0 1 rfl rfl)
theorem dX2_clause_4 : decode cX2_clause 4 = .ok (.istore_n 1, 1) := dk_60 (dk_at dksX2_clause_0 4 rfl rfl)
theorem dX2_clause_5 : decode cX2_clause 5 = .ok (.iload_n 1, 1) := dk_27 (dk_at dksX2_clause_0 5 rfl rfl)
theorem dX2_clause_6 : decode cX2_clause 6 = .ok (.ifCond .ge 5, 3) := dk_156 0 5 (dk_at dksX2_clause_0 6 rfl rfl)
theorem dX2_clause_9 : decode cX2_clause 9 = .ok (.iconst 1, 1) := dk_4 (dk_at dksX2_clause_0 9 rfl rfl)
theorem dX2_clause_10 : decode cX2_clause 10 = .ok (.ireturn, 1) := dk_172 (dk_at dksX2_clause_0 10 rfl rfl)
theorem dX2_clause_11 : decode cX2_clause 11 = .ok (.iload_n 1, 1) := dk_27 (dk_at dksX2_clause_0 11 rfl rfl)
theorem dX2_clause_12 : decode cX2_clause 12 = .ok (.iconst 3, 1) := dk_6 (dk_at dksX2_clause_0 12 rfl rfl)
theorem dX2_clause_13 : decode cX2_clause 13 = .ok (.if_icmp .gt 16, 3) := dk_163 0 16 (dk_at dksX2_clause_0 13 rfl rfl)
theorem dX2_clause_16 : decode cX2_clause 16 = .ok (.aload_n 0, 1) := dk_42 (dk_at dksX2_clause_0 16 rfl rfl)
theorem dX2_clause_17 : decode cX2_clause 17 = .ok (.getfield 285, 3) := dk_180 1 29 (dk_at dksX2_clause_0 17 rfl rfl)
theorem dX2_clause_20 : decode cX2_clause 20 = .ok (.iload_n 1, 1) := dk_27 (dk_at dksX2_clause_0 20 rfl rfl)
theorem dX2_clause_21 : decode cX2_clause 21 = .ok (.invokestatic 255, 3) := dk_184 0 255 (dk_at dksX2_clause_0 21 rfl rfl)
theorem dX2_clause_24 : decode cX2_clause 24 = .ok (.ifCond .eq 5, 3) := dk_153 0 5 (dk_at dksX2_clause_1 0 rfl rfl)
theorem dX2_clause_27 : decode cX2_clause 27 = .ok (.iconst 4, 1) := dk_7 (dk_at dksX2_clause_1 3 rfl rfl)
theorem dX2_clause_28 : decode cX2_clause 28 = .ok (.ireturn, 1) := dk_172 (dk_at dksX2_clause_1 4 rfl rfl)
theorem dX2_clause_29 : decode cX2_clause 29 = .ok (.aload_n 0, 1) := dk_42 (dk_at dksX2_clause_1 5 rfl rfl)
theorem dX2_clause_30 : decode cX2_clause 30 = .ok (.getfield 16, 3) := dk_180 0 16 (dk_at dksX2_clause_1 6 rfl rfl)
theorem dX2_clause_33 : decode cX2_clause 33 = .ok (.aload_n 0, 1) := dk_42 (dk_at dksX2_clause_1 9 rfl rfl)
theorem dX2_clause_34 : decode cX2_clause 34 = .ok (.getfield 145, 3) := dk_180 0 145 (dk_at dksX2_clause_1 10 rfl rfl)
theorem dX2_clause_37 : decode cX2_clause 37 = .ok (.iaload, 1) := dk_46 (dk_at dksX2_clause_1 13 rfl rfl)
theorem dX2_clause_38 : decode cX2_clause 38 = .ok (.istore_n 2, 1) := dk_61 (dk_at dksX2_clause_1 14 rfl rfl)
theorem dX2_clause_39 : decode cX2_clause 39 = .ok (.iload_n 2, 1) := dk_28 (dk_at dksX2_clause_1 15 rfl rfl)
theorem dX2_clause_40 : decode cX2_clause 40 = .ok (.bipush 24, 2) := dk_16 24 (dk_at dksX2_clause_1 16 rfl rfl)
theorem dX2_clause_42 : decode cX2_clause 42 = .ok (.if_icmp .ne 6, 3) := dk_160 0 6 (dk_at dksX2_clause_1 18 rfl rfl)
theorem dX2_clause_45 : decode cX2_clause 45 = .ok (.bipush 6, 2) := dk_16 6 (dk_at dksX2_clause_1 21 rfl rfl)
theorem dX2_clause_47 : decode cX2_clause 47 = .ok (.ireturn, 1) := dk_172 (dk_at dksX2_clause_1 23 rfl rfl)
theorem dX2_clause_48 : decode cX2_clause 48 = .ok (.iload_n 1, 1) := dk_27 (dk_at dksX2_clause_2 0 rfl rfl)
theorem dX2_clause_49 : decode cX2_clause 49 = .ok (.iconst 3, 1) := dk_6 (dk_at dksX2_clause_2 1 rfl rfl)
theorem dX2_clause_50 : decode cX2_clause 50 = .ok (.if_icmp .gt 15, 3) := dk_163 0 15 (dk_at dksX2_clause_2 2 rfl rfl)
theorem dX2_clause_53 : decode cX2_clause 53 = .ok (.aload_n 0, 1) := dk_42 (dk_at dksX2_clause_2 5 rfl rfl)
theorem dX2_clause_54 : decode cX2_clause 54 = .ok (.dup, 1) := dk_89 (dk_at dksX2_clause_2 6 rfl rfl)
theorem dX2_clause_55 : decode cX2_clause 55 = .ok (.getfield 285, 3) := dk_180 1 29 (dk_at dksX2_clause_2 7 rfl rfl)
theorem dX2_clause_58 : decode cX2_clause 58 = .ok (.iconst 1, 1) := dk_4 (dk_at dksX2_clause_2 10 rfl rfl)
theorem dX2_clause_59 : decode cX2_clause 59 = .ok (.iload_n 1, 1) := dk_27 (dk_at dksX2_clause_2 11 rfl rfl)
theorem dX2_clause_60 : decode cX2_clause 60 = .ok (.ishl, 1) := dk_120 (dk_at dksX2_clause_2 12 rfl rfl)
theorem dX2_clause_61 : decode cX2_clause 61 = .ok (.ior, 1) := dk_128 (dk_at dksX2_clause_2 13 rfl rfl)
theorem dX2_clause_62 : decode cX2_clause 62 = .ok (.putfield 285, 3) := dk_181 1 29 (dk_at dksX2_clause_2 14 rfl rfl)
theorem dX2_clause_65 : decode cX2_clause 65 = .ok (.aload_n 0, 1) := dk_42 (dk_at dksX2_clause_2 17 rfl rfl)
theorem dX2_clause_66 : decode cX2_clause 66 = .ok (.iload_n 1, 1) := dk_27 (dk_at dksX2_clause_2 18 rfl rfl)
theorem dX2_clause_67 : decode cX2_clause 67 = .ok (.putfield 162, 3) := dk_181 0 162 (dk_at dksX2_clause_2 19 rfl rfl)
theorem dX2_clause_70 : decode cX2_clause 70 = .ok (.aload_n 0, 1) := dk_42 (dk_at dksX2_clause_2 22 rfl rfl)
theorem dX2_clause_71 : decode cX2_clause 71 = .ok (.invokevirtual 189, 3) := dk_182 0 189 (dk_at dksX2_clause_3 0 rfl rfl)
theorem dX2_clause_74 : decode cX2_clause 74 = .ok (.aload_n 0, 1) := dk_42 (dk_at dksX2_clause_3 3 rfl rfl)
theorem dX2_clause_75 : decode cX2_clause 75 = .ok (.getfield 145, 3) := dk_180 0 145 (dk_at dksX2_clause_3 4 rfl rfl)
theorem dX2_clause_78 : decode cX2_clause 78 = .ok (.iconst 1, 1) := dk_4 (dk_at dksX2_clause_3 7 rfl rfl)
theorem dX2_clause_79 : decode cX2_clause 79 = .ok (.iadd, 1) := dk_96 (dk_at dksX2_clause_3 8 rfl rfl)
theorem dX2_clause_80 : decode cX2_clause 80 = .ok (.iconst 4, 1) := dk_7 (dk_at dksX2_clause_3 9 rfl rfl)
theorem dX2_clause_81 : decode cX2_clause 81 = .ok (.iload_n 2, 1) := dk_28 (dk_at dksX2_clause_3 10 rfl rfl)
theorem dX2_clause_82 : decode cX2_clause 82 = .ok (.imul, 1) := dk_104 (dk_at dksX2_clause_3 11 rfl rfl)
theorem dX2_clause_83 : decode cX2_clause 83 = .ok (.iadd, 1) := dk_96 (dk_at dksX2_clause_3 12 rfl rfl)
theorem dX2_clause_84 : decode cX2_clause 84 = .ok (.istore_n 3, 1) := dk_62 (dk_at dksX2_clause_3 13 rfl rfl)
theorem dX2_clause_85 : decode cX2_clause 85 = .ok (.aload_n 0, 1) := dk_42 (dk_at dksX2_clause_3 14 rfl rfl)
theorem dX2_clause_86 : decode cX2_clause 86 = .ok (.getfield 16, 3) := dk_180 0 16 (dk_at dksX2_clause_3 15 rfl rfl)
theorem dX2_clause_89 : decode cX2_clause 89 = .ok (.iload_n 3, 1) := dk_29 (dk_at dksX2_clause_3 18 rfl rfl)
theorem dX2_clause_90 : decode cX2_clause 90 = .ok (.iload_n 1, 1) := dk_27 (dk_at dksX2_clause_3 19 rfl rfl)
theorem dX2_clause_91 : decode cX2_clause 91 = .ok (.iastore, 1) := dk_79 (dk_at dksX2_clause_3 20 rfl rfl)
theorem dX2_clause_92 : decode cX2_clause 92 = .ok (.aload_n 0, 1) := dk_42 (dk_at dksX2_clause_3 21 rfl rfl)
theorem dX2_clause_93 : decode cX2_clause 93 = .ok (.iload_n 1, 1) := dk_27 (dk_at dksX2_clause_3 22 rfl rfl)
theorem dX2_clause_94 : decode cX2_clause 94 = .ok (.iload_n 3, 1) := dk_29 (dk_at dksX2_clause_3 23 rfl rfl)
theorem dX2_clause_95 : decode cX2_clause 95 = .ok (.invokevirtual 288, 3) := dk_182 1 32 (dk_at dksX2_clause_4 0 rfl rfl)
theorem dX2_clause_98 : decode cX2_clause 98 = .ok (.istore 4, 2) := dk_54 4 (dk_at dksX2_clause_4 3 rfl rfl)
theorem dX2_clause_100 : decode cX2_clause 100 = .ok (.iload 4, 2) := dk_21 4 (dk_at dksX2_clause_4 5 rfl rfl)
theorem dX2_clause_102 : decode cX2_clause 102 = .ok (.ifCond .eq 6, 3) := dk_153 0 6 (dk_at dksX2_clause_4 7 rfl rfl)
theorem dX2_clause_105 : decode cX2_clause 105 = .ok (.iload 4, 2) := dk_21 4 (dk_at dksX2_clause_4 10 rfl rfl)
theorem dX2_clause_107 : decode cX2_clause 107 = .ok (.ireturn, 1) := dk_172 (dk_at dksX2_clause_4 12 rfl rfl)
theorem dX2_clause_108 : decode cX2_clause 108 = .ok (.aload_n 0, 1) := dk_42 (dk_at dksX2_clause_4 13 rfl rfl)
theorem dX2_clause_109 : decode cX2_clause 109 = .ok (.getfield 16, 3) := dk_180 0 16 (dk_at dksX2_clause_4 14 rfl rfl)
theorem dX2_clause_112 : decode cX2_clause 112 = .ok (.aload_n 0, 1) := dk_42 (dk_at dksX2_clause_4 17 rfl rfl)
theorem dX2_clause_113 : decode cX2_clause 113 = .ok (.getfield 145, 3) := dk_180 0 145 (dk_at dksX2_clause_4 18 rfl rfl)
theorem dX2_clause_116 : decode cX2_clause 116 = .ok (.dup2, 1) := dk_92 (dk_at dksX2_clause_4 21 rfl rfl)
theorem dX2_clause_117 : decode cX2_clause 117 = .ok (.iaload, 1) := dk_46 (dk_at dksX2_clause_4 22 rfl rfl)
theorem dX2_clause_118 : decode cX2_clause 118 = .ok (.iconst 1, 1) := dk_4 (dk_at dksX2_clause_4 23 rfl rfl)
theorem dX2_clause_119 : decode cX2_clause 119 = .ok (.iadd, 1) := dk_96 (dk_at dksX2_clause_5 0 rfl rfl)
theorem dX2_clause_120 : decode cX2_clause 120 = .ok (.iastore, 1) := dk_79 (dk_at dksX2_clause_5 1 rfl rfl)
theorem dX2_clause_121 : decode cX2_clause 121 = .ok (.aload_n 0, 1) := dk_42 (dk_at dksX2_clause_5 2 rfl rfl)
theorem dX2_clause_122 : decode cX2_clause 122 = .ok (.getfield 107, 3) := dk_180 0 107 (dk_at dksX2_clause_5 3 rfl rfl)
theorem dX2_clause_125 : decode cX2_clause 125 = .ok (.bipush 59, 2) := dk_16 59 (dk_at dksX2_clause_5 6 rfl rfl)
theorem dX2_clause_127 : decode cX2_clause 127 = .ok (.if_icmp .eq 5, 3) := dk_159 0 5 (dk_at dksX2_clause_5 8 rfl rfl)
theorem dX2_clause_130 : decode cX2_clause 130 = .ok (.iconst 1, 1) := dk_4 (dk_at dksX2_clause_5 11 rfl rfl)
theorem dX2_clause_131 : decode cX2_clause 131 = .ok (.ireturn, 1) := dk_172 (dk_at dksX2_clause_5 12 rfl rfl)
theorem dX2_clause_132 : decode cX2_clause 132 = .ok (.aload_n 0, 1) := dk_42 (dk_at dksX2_clause_5 13 rfl rfl)
theorem dX2_clause_133 : decode cX2_clause 133 = .ok (.invokevirtual 189, 3) := dk_182 0 189 (dk_at dksX2_clause_5 14 rfl rfl)
theorem dX2_clause_136 : decode cX2_clause 136 = .ok (.iconst 0, 1) := dk_3 (dk_at dksX2_clause_5 17 rfl rfl)
theorem dX2_clause_137 : decode cX2_clause 137 = .ok (.ireturn, 1) := dk_172 (dk_at dksX2_clause_5 18 rfl rfl)
abbrev cX2_sortOf : ByteArray := prog_20_method_55_code
def yX2_sortOf : MethodName := ⟨RX2, "sortOf", "()I"⟩
def dkwX2_sortOf_10 : List UInt8 := [16, 11, 167, 0, 4, 2, 172]
abbrev dktX2_sortOf_10 : List UInt8 := dkwX2_sortOf_10 ++ []
def dkwX2_sortOf_9 : List UInt8 := [16, 10, 167, 0, 27, 42, 16, 104, 16, 111, 16, 117, 16, 114, 184, 0, 137, 182, 0, 213, 153, 0, 8]
abbrev dktX2_sortOf_9 : List UInt8 := dkwX2_sortOf_9 ++ dktX2_sortOf_10
def dkwX2_sortOf_8 : List UInt8 := [16, 115, 16, 116, 184, 0, 137, 182, 0, 213, 153, 0, 6, 16, 9, 172, 42, 182, 1, 23, 153, 0, 8]
abbrev dktX2_sortOf_8 : List UInt8 := dkwX2_sortOf_8 ++ dktX2_sortOf_9
def dkwX2_sortOf_7 : List UInt8 := [16, 101, 16, 97, 16, 108, 184, 0, 226, 182, 0, 213, 153, 0, 6, 16, 8, 172, 42, 16, 103, 16, 117]
abbrev dktX2_sortOf_7 : List UInt8 := dkwX2_sortOf_7 ++ dktX2_sortOf_8
def dkwX2_sortOf_6 : List UInt8 := [16, 97, 16, 121, 184, 0, 141, 182, 0, 213, 153, 0, 6, 16, 7, 172, 42, 16, 97, 16, 112, 16, 112]
abbrev dktX2_sortOf_6 : List UInt8 := dkwX2_sortOf_6 ++ dktX2_sortOf_7
def dkwX2_sortOf_5 : List UInt8 := [16, 108, 16, 108, 184, 0, 137, 182, 0, 213, 153, 0, 6, 16, 6, 172, 42, 16, 100, 16, 101, 16, 108]
abbrev dktX2_sortOf_5 : List UInt8 := dkwX2_sortOf_5 ++ dktX2_sortOf_6
def dkwX2_sortOf_4 : List UInt8 := [16, 99, 16, 97, 16, 115, 16, 101, 184, 0, 137, 182, 0, 213, 153, 0, 5, 8, 172, 42, 16, 99, 16, 97]
abbrev dktX2_sortOf_4 : List UInt8 := dkwX2_sortOf_4 ++ dktX2_sortOf_5
def dkwX2_sortOf_3 : List UInt8 := [6, 172, 42, 16, 99, 16, 111, 16, 100, 16, 101, 184, 0, 137, 182, 0, 213, 153, 0, 5, 7, 172, 42]
abbrev dktX2_sortOf_3 : List UInt8 := dkwX2_sortOf_3 ++ dktX2_sortOf_4
def dkwX2_sortOf_2 : List UInt8 := [16, 111, 16, 103, 16, 115, 184, 0, 137, 182, 0, 213, 153, 0, 5, 5, 172, 42, 182, 1, 20, 153, 0, 5]
abbrev dktX2_sortOf_2 : List UInt8 := dkwX2_sortOf_2 ++ dktX2_sortOf_3
def dkwX2_sortOf_1 : List UInt8 := [16, 98, 16, 108, 16, 111, 16, 119, 16, 115, 184, 0, 141, 182, 0, 213, 153, 0, 5, 4, 172, 42, 16, 102]
abbrev dktX2_sortOf_1 : List UInt8 := dkwX2_sortOf_1 ++ dktX2_sortOf_2
def dkwX2_sortOf_0 : List UInt8 := [42, 16, 118, 16, 101, 16, 101, 16, 114, 16, 115, 184, 0, 141, 182, 0, 213, 153, 0, 5, 3, 172, 42]
abbrev dktX2_sortOf_0 : List UInt8 := dkwX2_sortOf_0 ++ dktX2_sortOf_1
theorem dksX2_sortOf_0 : cX2_sortOf.data.toList.drop 0 = dktX2_sortOf_0 := by decide +kernel
theorem dksX2_sortOf_1 : cX2_sortOf.data.toList.drop 23 = dktX2_sortOf_1 := dk_seg dksX2_sortOf_0 23 rfl rfl
theorem dksX2_sortOf_2 : cX2_sortOf.data.toList.drop 47 = dktX2_sortOf_2 := dk_seg dksX2_sortOf_1 24 rfl rfl
theorem dksX2_sortOf_3 : cX2_sortOf.data.toList.drop 71 = dktX2_sortOf_3 := dk_seg dksX2_sortOf_2 24 rfl rfl
theorem dksX2_sortOf_4 : cX2_sortOf.data.toList.drop 94 = dktX2_sortOf_4 := dk_seg dksX2_sortOf_3 23 rfl rfl
theorem dksX2_sortOf_5 : cX2_sortOf.data.toList.drop 118 = dktX2_sortOf_5 := dk_seg dksX2_sortOf_4 24 rfl rfl
theorem dksX2_sortOf_6 : cX2_sortOf.data.toList.drop 141 = dktX2_sortOf_6 := dk_seg dksX2_sortOf_5 23 rfl rfl
theorem dksX2_sortOf_7 : cX2_sortOf.data.toList.drop 164 = dktX2_sortOf_7 := dk_seg dksX2_sortOf_6 23 rfl rfl
theorem dksX2_sortOf_8 : cX2_sortOf.data.toList.drop 187 = dktX2_sortOf_8 := dk_seg dksX2_sortOf_7 23 rfl rfl
theorem dksX2_sortOf_9 : cX2_sortOf.data.toList.drop 210 = dktX2_sortOf_9 := dk_seg dksX2_sortOf_8 23 rfl rfl
theorem dksX2_sortOf_10 : cX2_sortOf.data.toList.drop 233 = dktX2_sortOf_10 := dk_seg dksX2_sortOf_9 23 rfl rfl
theorem dX2_sortOf_0 : decode cX2_sortOf 0 = .ok (.aload_n 0, 1) := dk_42 (dk_at dksX2_sortOf_0 0 rfl rfl)
theorem dX2_sortOf_1 : decode cX2_sortOf 1 = .ok (.bipush 118, 2) := dk_16 118 (dk_at dksX2_sortOf_0 1 rfl rfl)
theorem dX2_sortOf_3 : decode cX2_sortOf 3 = .ok (.bipush 101, 2) := dk_16 101 (dk_at dksX2_sortOf_0 3 rfl rfl)
theorem dX2_sortOf_5 : decode cX2_sortOf 5 = .ok (.bipush 101, 2) := dk_16 101 (dk_at dksX2_sortOf_0 5 rfl rfl)
theorem dX2_sortOf_7 : decode cX2_sortOf 7 = .ok (.bipush 114, 2) := dk_16 114 (dk_at dksX2_sortOf_0 7 rfl rfl)
theorem dX2_sortOf_9 : decode cX2_sortOf 9 = .ok (.bipush 115, 2) := dk_16 115 (dk_at dksX2_sortOf_0 9 rfl rfl)
theorem dX2_sortOf_11 : decode cX2_sortOf 11 = .ok (.invokestatic 141, 3) := dk_184 0 141 (dk_at dksX2_sortOf_0 11 rfl rfl)
theorem dX2_sortOf_14 : decode cX2_sortOf 14 = .ok (.invokevirtual 213, 3) := dk_182 0 213 (dk_at dksX2_sortOf_0 14 rfl rfl)
theorem dX2_sortOf_17 : decode cX2_sortOf 17 = .ok (.ifCond .eq 5, 3) := dk_153 0 5 (dk_at dksX2_sortOf_0 17 rfl rfl)
theorem dX2_sortOf_20 : decode cX2_sortOf 20 = .ok (.iconst 0, 1) := dk_3 (dk_at dksX2_sortOf_0 20 rfl rfl)
theorem dX2_sortOf_21 : decode cX2_sortOf 21 = .ok (.ireturn, 1) := dk_172 (dk_at dksX2_sortOf_0 21 rfl rfl)
theorem dX2_sortOf_22 : decode cX2_sortOf 22 = .ok (.aload_n 0, 1) := dk_42 (dk_at dksX2_sortOf_0 22 rfl rfl)
theorem dX2_sortOf_23 : decode cX2_sortOf 23 = .ok (.bipush 98, 2) := dk_16 98 (dk_at dksX2_sortOf_1 0 rfl rfl)
theorem dX2_sortOf_25 : decode cX2_sortOf 25 = .ok (.bipush 108, 2) := dk_16 108 (dk_at dksX2_sortOf_1 2 rfl rfl)
theorem dX2_sortOf_27 : decode cX2_sortOf 27 = .ok (.bipush 111, 2) := dk_16 111 (dk_at dksX2_sortOf_1 4 rfl rfl)
theorem dX2_sortOf_29 : decode cX2_sortOf 29 = .ok (.bipush 119, 2) := dk_16 119 (dk_at dksX2_sortOf_1 6 rfl rfl)
theorem dX2_sortOf_31 : decode cX2_sortOf 31 = .ok (.bipush 115, 2) := dk_16 115 (dk_at dksX2_sortOf_1 8 rfl rfl)
theorem dX2_sortOf_33 : decode cX2_sortOf 33 = .ok (.invokestatic 141, 3) := dk_184 0 141 (dk_at dksX2_sortOf_1 10 rfl rfl)
theorem dX2_sortOf_36 : decode cX2_sortOf 36 = .ok (.invokevirtual 213, 3) := dk_182 0 213 (dk_at dksX2_sortOf_1 13 rfl rfl)
theorem dX2_sortOf_39 : decode cX2_sortOf 39 = .ok (.ifCond .eq 5, 3) := dk_153 0 5 (dk_at dksX2_sortOf_1 16 rfl rfl)
theorem dX2_sortOf_42 : decode cX2_sortOf 42 = .ok (.iconst 1, 1) := dk_4 (dk_at dksX2_sortOf_1 19 rfl rfl)
theorem dX2_sortOf_43 : decode cX2_sortOf 43 = .ok (.ireturn, 1) := dk_172 (dk_at dksX2_sortOf_1 20 rfl rfl)
theorem dX2_sortOf_44 : decode cX2_sortOf 44 = .ok (.aload_n 0, 1) := dk_42 (dk_at dksX2_sortOf_1 21 rfl rfl)
theorem dX2_sortOf_45 : decode cX2_sortOf 45 = .ok (.bipush 102, 2) := dk_16 102 (dk_at dksX2_sortOf_1 22 rfl rfl)
theorem dX2_sortOf_47 : decode cX2_sortOf 47 = .ok (.bipush 111, 2) := dk_16 111 (dk_at dksX2_sortOf_2 0 rfl rfl)
theorem dX2_sortOf_49 : decode cX2_sortOf 49 = .ok (.bipush 103, 2) := dk_16 103 (dk_at dksX2_sortOf_2 2 rfl rfl)
theorem dX2_sortOf_51 : decode cX2_sortOf 51 = .ok (.bipush 115, 2) := dk_16 115 (dk_at dksX2_sortOf_2 4 rfl rfl)
theorem dX2_sortOf_53 : decode cX2_sortOf 53 = .ok (.invokestatic 137, 3) := dk_184 0 137 (dk_at dksX2_sortOf_2 6 rfl rfl)
theorem dX2_sortOf_56 : decode cX2_sortOf 56 = .ok (.invokevirtual 213, 3) := dk_182 0 213 (dk_at dksX2_sortOf_2 9 rfl rfl)
theorem dX2_sortOf_59 : decode cX2_sortOf 59 = .ok (.ifCond .eq 5, 3) := dk_153 0 5 (dk_at dksX2_sortOf_2 12 rfl rfl)
theorem dX2_sortOf_62 : decode cX2_sortOf 62 = .ok (.iconst 2, 1) := dk_5 (dk_at dksX2_sortOf_2 15 rfl rfl)
theorem dX2_sortOf_63 : decode cX2_sortOf 63 = .ok (.ireturn, 1) := dk_172 (dk_at dksX2_sortOf_2 16 rfl rfl)
theorem dX2_sortOf_64 : decode cX2_sortOf 64 = .ok (.aload_n 0, 1) := dk_42 (dk_at dksX2_sortOf_2 17 rfl rfl)
theorem dX2_sortOf_65 : decode cX2_sortOf 65 = .ok (.invokevirtual 276, 3) := dk_182 1 20 (dk_at dksX2_sortOf_2 18 rfl rfl)
theorem dX2_sortOf_68 : decode cX2_sortOf 68 = .ok (.ifCond .eq 5, 3) := dk_153 0 5 (dk_at dksX2_sortOf_2 21 rfl rfl)
theorem dX2_sortOf_71 : decode cX2_sortOf 71 = .ok (.iconst 3, 1) := dk_6 (dk_at dksX2_sortOf_3 0 rfl rfl)
theorem dX2_sortOf_72 : decode cX2_sortOf 72 = .ok (.ireturn, 1) := dk_172 (dk_at dksX2_sortOf_3 1 rfl rfl)
theorem dX2_sortOf_73 : decode cX2_sortOf 73 = .ok (.aload_n 0, 1) := dk_42 (dk_at dksX2_sortOf_3 2 rfl rfl)
theorem dX2_sortOf_74 : decode cX2_sortOf 74 = .ok (.bipush 99, 2) := dk_16 99 (dk_at dksX2_sortOf_3 3 rfl rfl)
theorem dX2_sortOf_76 : decode cX2_sortOf 76 = .ok (.bipush 111, 2) := dk_16 111 (dk_at dksX2_sortOf_3 5 rfl rfl)
theorem dX2_sortOf_78 : decode cX2_sortOf 78 = .ok (.bipush 100, 2) := dk_16 100 (dk_at dksX2_sortOf_3 7 rfl rfl)
theorem dX2_sortOf_80 : decode cX2_sortOf 80 = .ok (.bipush 101, 2) := dk_16 101 (dk_at dksX2_sortOf_3 9 rfl rfl)
theorem dX2_sortOf_82 : decode cX2_sortOf 82 = .ok (.invokestatic 137, 3) := dk_184 0 137 (dk_at dksX2_sortOf_3 11 rfl rfl)
theorem dX2_sortOf_85 : decode cX2_sortOf 85 = .ok (.invokevirtual 213, 3) := dk_182 0 213 (dk_at dksX2_sortOf_3 14 rfl rfl)
theorem dX2_sortOf_88 : decode cX2_sortOf 88 = .ok (.ifCond .eq 5, 3) := dk_153 0 5 (dk_at dksX2_sortOf_3 17 rfl rfl)
theorem dX2_sortOf_91 : decode cX2_sortOf 91 = .ok (.iconst 4, 1) := dk_7 (dk_at dksX2_sortOf_3 20 rfl rfl)
theorem dX2_sortOf_92 : decode cX2_sortOf 92 = .ok (.ireturn, 1) := dk_172 (dk_at dksX2_sortOf_3 21 rfl rfl)
theorem dX2_sortOf_93 : decode cX2_sortOf 93 = .ok (.aload_n 0, 1) := dk_42 (dk_at dksX2_sortOf_3 22 rfl rfl)
theorem dX2_sortOf_94 : decode cX2_sortOf 94 = .ok (.bipush 99, 2) := dk_16 99 (dk_at dksX2_sortOf_4 0 rfl rfl)
theorem dX2_sortOf_96 : decode cX2_sortOf 96 = .ok (.bipush 97, 2) := dk_16 97 (dk_at dksX2_sortOf_4 2 rfl rfl)
theorem dX2_sortOf_98 : decode cX2_sortOf 98 = .ok (.bipush 115, 2) := dk_16 115 (dk_at dksX2_sortOf_4 4 rfl rfl)
theorem dX2_sortOf_100 : decode cX2_sortOf 100 = .ok (.bipush 101, 2) := dk_16 101 (dk_at dksX2_sortOf_4 6 rfl rfl)
theorem dX2_sortOf_102 : decode cX2_sortOf 102 = .ok (.invokestatic 137, 3) := dk_184 0 137 (dk_at dksX2_sortOf_4 8 rfl rfl)
theorem dX2_sortOf_105 : decode cX2_sortOf 105 = .ok (.invokevirtual 213, 3) := dk_182 0 213 (dk_at dksX2_sortOf_4 11 rfl rfl)
theorem dX2_sortOf_108 : decode cX2_sortOf 108 = .ok (.ifCond .eq 5, 3) := dk_153 0 5 (dk_at dksX2_sortOf_4 14 rfl rfl)
theorem dX2_sortOf_111 : decode cX2_sortOf 111 = .ok (.iconst 5, 1) := dk_8 (dk_at dksX2_sortOf_4 17 rfl rfl)
theorem dX2_sortOf_112 : decode cX2_sortOf 112 = .ok (.ireturn, 1) := dk_172 (dk_at dksX2_sortOf_4 18 rfl rfl)
theorem dX2_sortOf_113 : decode cX2_sortOf 113 = .ok (.aload_n 0, 1) := dk_42 (dk_at dksX2_sortOf_4 19 rfl rfl)
theorem dX2_sortOf_114 : decode cX2_sortOf 114 = .ok (.bipush 99, 2) := dk_16 99 (dk_at dksX2_sortOf_4 20 rfl rfl)
theorem dX2_sortOf_116 : decode cX2_sortOf 116 = .ok (.bipush 97, 2) := dk_16 97 (dk_at dksX2_sortOf_4 22 rfl rfl)
theorem dX2_sortOf_118 : decode cX2_sortOf 118 = .ok (.bipush 108, 2) := dk_16 108 (dk_at dksX2_sortOf_5 0 rfl rfl)
theorem dX2_sortOf_120 : decode cX2_sortOf 120 = .ok (.bipush 108, 2) := dk_16 108 (dk_at dksX2_sortOf_5 2 rfl rfl)
theorem dX2_sortOf_122 : decode cX2_sortOf 122 = .ok (.invokestatic 137, 3) := dk_184 0 137 (dk_at dksX2_sortOf_5 4 rfl rfl)
theorem dX2_sortOf_125 : decode cX2_sortOf 125 = .ok (.invokevirtual 213, 3) := dk_182 0 213 (dk_at dksX2_sortOf_5 7 rfl rfl)
theorem dX2_sortOf_128 : decode cX2_sortOf 128 = .ok (.ifCond .eq 6, 3) := dk_153 0 6 (dk_at dksX2_sortOf_5 10 rfl rfl)
theorem dX2_sortOf_131 : decode cX2_sortOf 131 = .ok (.bipush 6, 2) := dk_16 6 (dk_at dksX2_sortOf_5 13 rfl rfl)
theorem dX2_sortOf_133 : decode cX2_sortOf 133 = .ok (.ireturn, 1) := dk_172 (dk_at dksX2_sortOf_5 15 rfl rfl)
theorem dX2_sortOf_134 : decode cX2_sortOf 134 = .ok (.aload_n 0, 1) := dk_42 (dk_at dksX2_sortOf_5 16 rfl rfl)
theorem dX2_sortOf_135 : decode cX2_sortOf 135 = .ok (.bipush 100, 2) := dk_16 100 (dk_at dksX2_sortOf_5 17 rfl rfl)
theorem dX2_sortOf_137 : decode cX2_sortOf 137 = .ok (.bipush 101, 2) := dk_16 101 (dk_at dksX2_sortOf_5 19 rfl rfl)
theorem dX2_sortOf_139 : decode cX2_sortOf 139 = .ok (.bipush 108, 2) := dk_16 108 (dk_at dksX2_sortOf_5 21 rfl rfl)
theorem dX2_sortOf_141 : decode cX2_sortOf 141 = .ok (.bipush 97, 2) := dk_16 97 (dk_at dksX2_sortOf_6 0 rfl rfl)
theorem dX2_sortOf_143 : decode cX2_sortOf 143 = .ok (.bipush 121, 2) := dk_16 121 (dk_at dksX2_sortOf_6 2 rfl rfl)
theorem dX2_sortOf_145 : decode cX2_sortOf 145 = .ok (.invokestatic 141, 3) := dk_184 0 141 (dk_at dksX2_sortOf_6 4 rfl rfl)
theorem dX2_sortOf_148 : decode cX2_sortOf 148 = .ok (.invokevirtual 213, 3) := dk_182 0 213 (dk_at dksX2_sortOf_6 7 rfl rfl)
theorem dX2_sortOf_151 : decode cX2_sortOf 151 = .ok (.ifCond .eq 6, 3) := dk_153 0 6 (dk_at dksX2_sortOf_6 10 rfl rfl)
theorem dX2_sortOf_154 : decode cX2_sortOf 154 = .ok (.bipush 7, 2) := dk_16 7 (dk_at dksX2_sortOf_6 13 rfl rfl)
theorem dX2_sortOf_156 : decode cX2_sortOf 156 = .ok (.ireturn, 1) := dk_172 (dk_at dksX2_sortOf_6 15 rfl rfl)
theorem dX2_sortOf_157 : decode cX2_sortOf 157 = .ok (.aload_n 0, 1) := dk_42 (dk_at dksX2_sortOf_6 16 rfl rfl)
theorem dX2_sortOf_158 : decode cX2_sortOf 158 = .ok (.bipush 97, 2) := dk_16 97 (dk_at dksX2_sortOf_6 17 rfl rfl)
theorem dX2_sortOf_160 : decode cX2_sortOf 160 = .ok (.bipush 112, 2) := dk_16 112 (dk_at dksX2_sortOf_6 19 rfl rfl)
theorem dX2_sortOf_162 : decode cX2_sortOf 162 = .ok (.bipush 112, 2) := dk_16 112 (dk_at dksX2_sortOf_6 21 rfl rfl)
theorem dX2_sortOf_164 : decode cX2_sortOf 164 = .ok (.bipush 101, 2) := dk_16 101 (dk_at dksX2_sortOf_7 0 rfl rfl)
theorem dX2_sortOf_166 : decode cX2_sortOf 166 = .ok (.bipush 97, 2) := dk_16 97 (dk_at dksX2_sortOf_7 2 rfl rfl)
theorem dX2_sortOf_168 : decode cX2_sortOf 168 = .ok (.bipush 108, 2) := dk_16 108 (dk_at dksX2_sortOf_7 4 rfl rfl)
theorem dX2_sortOf_170 : decode cX2_sortOf 170 = .ok (.invokestatic 226, 3) := dk_184 0 226 (dk_at dksX2_sortOf_7 6 rfl rfl)
theorem dX2_sortOf_173 : decode cX2_sortOf 173 = .ok (.invokevirtual 213, 3) := dk_182 0 213 (dk_at dksX2_sortOf_7 9 rfl rfl)
theorem dX2_sortOf_176 : decode cX2_sortOf 176 = .ok (.ifCond .eq 6, 3) := dk_153 0 6 (dk_at dksX2_sortOf_7 12 rfl rfl)
theorem dX2_sortOf_179 : decode cX2_sortOf 179 = .ok (.bipush 8, 2) := dk_16 8 (dk_at dksX2_sortOf_7 15 rfl rfl)
theorem dX2_sortOf_181 : decode cX2_sortOf 181 = .ok (.ireturn, 1) := dk_172 (dk_at dksX2_sortOf_7 17 rfl rfl)
theorem dX2_sortOf_182 : decode cX2_sortOf 182 = .ok (.aload_n 0, 1) := dk_42 (dk_at dksX2_sortOf_7 18 rfl rfl)
theorem dX2_sortOf_183 : decode cX2_sortOf 183 = .ok (.bipush 103, 2) := dk_16 103 (dk_at dksX2_sortOf_7 19 rfl rfl)
theorem dX2_sortOf_185 : decode cX2_sortOf 185 = .ok (.bipush 117, 2) := dk_16 117 (dk_at dksX2_sortOf_7 21 rfl rfl)
theorem dX2_sortOf_187 : decode cX2_sortOf 187 = .ok (.bipush 115, 2) := dk_16 115 (dk_at dksX2_sortOf_8 0 rfl rfl)
theorem dX2_sortOf_189 : decode cX2_sortOf 189 = .ok (.bipush 116, 2) := dk_16 116 (dk_at dksX2_sortOf_8 2 rfl rfl)
theorem dX2_sortOf_191 : decode cX2_sortOf 191 = .ok (.invokestatic 137, 3) := dk_184 0 137 (dk_at dksX2_sortOf_8 4 rfl rfl)
theorem dX2_sortOf_194 : decode cX2_sortOf 194 = .ok (.invokevirtual 213, 3) := dk_182 0 213 (dk_at dksX2_sortOf_8 7 rfl rfl)
theorem dX2_sortOf_197 : decode cX2_sortOf 197 = .ok (.ifCond .eq 6, 3) := dk_153 0 6 (dk_at dksX2_sortOf_8 10 rfl rfl)
theorem dX2_sortOf_200 : decode cX2_sortOf 200 = .ok (.bipush 9, 2) := dk_16 9 (dk_at dksX2_sortOf_8 13 rfl rfl)
theorem dX2_sortOf_202 : decode cX2_sortOf 202 = .ok (.ireturn, 1) := dk_172 (dk_at dksX2_sortOf_8 15 rfl rfl)
theorem dX2_sortOf_203 : decode cX2_sortOf 203 = .ok (.aload_n 0, 1) := dk_42 (dk_at dksX2_sortOf_8 16 rfl rfl)
theorem dX2_sortOf_204 : decode cX2_sortOf 204 = .ok (.invokevirtual 279, 3) := dk_182 1 23 (dk_at dksX2_sortOf_8 17 rfl rfl)
theorem dX2_sortOf_207 : decode cX2_sortOf 207 = .ok (.ifCond .eq 8, 3) := dk_153 0 8 (dk_at dksX2_sortOf_8 20 rfl rfl)
theorem dX2_sortOf_210 : decode cX2_sortOf 210 = .ok (.bipush 10, 2) := dk_16 10 (dk_at dksX2_sortOf_9 0 rfl rfl)
theorem dX2_sortOf_212 : decode cX2_sortOf 212 = .ok (.goto 27, 3) := dk_167 0 27 (dk_at dksX2_sortOf_9 2 rfl rfl)
theorem dX2_sortOf_215 : decode cX2_sortOf 215 = .ok (.aload_n 0, 1) := dk_42 (dk_at dksX2_sortOf_9 5 rfl rfl)
theorem dX2_sortOf_216 : decode cX2_sortOf 216 = .ok (.bipush 104, 2) := dk_16 104 (dk_at dksX2_sortOf_9 6 rfl rfl)
theorem dX2_sortOf_218 : decode cX2_sortOf 218 = .ok (.bipush 111, 2) := dk_16 111 (dk_at dksX2_sortOf_9 8 rfl rfl)
theorem dX2_sortOf_220 : decode cX2_sortOf 220 = .ok (.bipush 117, 2) := dk_16 117 (dk_at dksX2_sortOf_9 10 rfl rfl)
theorem dX2_sortOf_222 : decode cX2_sortOf 222 = .ok (.bipush 114, 2) := dk_16 114 (dk_at dksX2_sortOf_9 12 rfl rfl)
theorem dX2_sortOf_224 : decode cX2_sortOf 224 = .ok (.invokestatic 137, 3) := dk_184 0 137 (dk_at dksX2_sortOf_9 14 rfl rfl)
theorem dX2_sortOf_227 : decode cX2_sortOf 227 = .ok (.invokevirtual 213, 3) := dk_182 0 213 (dk_at dksX2_sortOf_9 17 rfl rfl)
theorem dX2_sortOf_230 : decode cX2_sortOf 230 = .ok (.ifCond .eq 8, 3) := dk_153 0 8 (dk_at dksX2_sortOf_9 20 rfl rfl)
theorem dX2_sortOf_233 : decode cX2_sortOf 233 = .ok (.bipush 11, 2) := dk_16 11 (dk_at dksX2_sortOf_10 0 rfl rfl)
theorem dX2_sortOf_235 : decode cX2_sortOf 235 = .ok (.goto 4, 3) := dk_167 0 4 (dk_at dksX2_sortOf_10 2 rfl rfl)
theorem dX2_sortOf_238 : decode cX2_sortOf 238 = .ok (.iconst (-1), 1) := dk_2 (dk_at dksX2_sortOf_10 5 rfl rfl)
theorem dX2_sortOf_239 : decode cX2_sortOf 239 = .ok (.ireturn, 1) := dk_172 (dk_at dksX2_sortOf_10 6 rfl rfl)
abbrev cX2_w5 : ByteArray := prog_20_method_23_code
def yX2_w5 : MethodName := ⟨RX2, "w5", "(IIIII)J"⟩
def dkwX2_w5_0 : List UInt8 := [26, 27, 28, 29, 184, 0, 137, 16, 8, 121, 21, 4, 133, 129, 173]
abbrev dktX2_w5_0 : List UInt8 := dkwX2_w5_0 ++ []
theorem dksX2_w5_0 : cX2_w5.data.toList.drop 0 = dktX2_w5_0 := by decide +kernel
theorem dX2_w5_0 : decode cX2_w5 0 = .ok (.iload_n 0, 1) := dk_26 (dk_at dksX2_w5_0 0 rfl rfl)
theorem dX2_w5_1 : decode cX2_w5 1 = .ok (.iload_n 1, 1) := dk_27 (dk_at dksX2_w5_0 1 rfl rfl)
theorem dX2_w5_2 : decode cX2_w5 2 = .ok (.iload_n 2, 1) := dk_28 (dk_at dksX2_w5_0 2 rfl rfl)
theorem dX2_w5_3 : decode cX2_w5 3 = .ok (.iload_n 3, 1) := dk_29 (dk_at dksX2_w5_0 3 rfl rfl)
theorem dX2_w5_4 : decode cX2_w5 4 = .ok (.invokestatic 137, 3) := dk_184 0 137 (dk_at dksX2_w5_0 4 rfl rfl)
theorem dX2_w5_7 : decode cX2_w5 7 = .ok (.bipush 8, 2) := dk_16 8 (dk_at dksX2_w5_0 7 rfl rfl)
theorem dX2_w5_9 : decode cX2_w5 9 = .ok (.lshl, 1) := dk_121 (dk_at dksX2_w5_0 9 rfl rfl)
theorem dX2_w5_10 : decode cX2_w5 10 = .ok (.iload 4, 2) := dk_21 4 (dk_at dksX2_w5_0 10 rfl rfl)
theorem dX2_w5_12 : decode cX2_w5 12 = .ok (.i2l, 1) := dk_133 (dk_at dksX2_w5_0 12 rfl rfl)
theorem dX2_w5_13 : decode cX2_w5 13 = .ok (.lor, 1) := dk_129 (dk_at dksX2_w5_0 13 rfl rfl)
theorem dX2_w5_14 : decode cX2_w5 14 = .ok (.lreturn, 1) := dk_173 (dk_at dksX2_w5_0 14 rfl rfl)
abbrev cX2_w4 : ByteArray := prog_20_method_22_code
def yX2_w4 : MethodName := ⟨RX2, "w4", "(IIII)J"⟩
def dkwX2_w4_0 : List UInt8 := [26, 27, 28, 184, 0, 133, 16, 8, 121, 29, 133, 129, 173]
abbrev dktX2_w4_0 : List UInt8 := dkwX2_w4_0 ++ []
theorem dksX2_w4_0 : cX2_w4.data.toList.drop 0 = dktX2_w4_0 := by decide +kernel
theorem dX2_w4_0 : decode cX2_w4 0 = .ok (.iload_n 0, 1) := dk_26 (dk_at dksX2_w4_0 0 rfl rfl)
theorem dX2_w4_1 : decode cX2_w4 1 = .ok (.iload_n 1, 1) := dk_27 (dk_at dksX2_w4_0 1 rfl rfl)
theorem dX2_w4_2 : decode cX2_w4 2 = .ok (.iload_n 2, 1) := dk_28 (dk_at dksX2_w4_0 2 rfl rfl)
theorem dX2_w4_3 : decode cX2_w4 3 = .ok (.invokestatic 133, 3) := dk_184 0 133 (dk_at dksX2_w4_0 3 rfl rfl)
theorem dX2_w4_6 : decode cX2_w4 6 = .ok (.bipush 8, 2) := dk_16 8 (dk_at dksX2_w4_0 6 rfl rfl)
theorem dX2_w4_8 : decode cX2_w4 8 = .ok (.lshl, 1) := dk_121 (dk_at dksX2_w4_0 8 rfl rfl)
theorem dX2_w4_9 : decode cX2_w4 9 = .ok (.iload_n 3, 1) := dk_29 (dk_at dksX2_w4_0 9 rfl rfl)
theorem dX2_w4_10 : decode cX2_w4 10 = .ok (.i2l, 1) := dk_133 (dk_at dksX2_w4_0 10 rfl rfl)
theorem dX2_w4_11 : decode cX2_w4 11 = .ok (.lor, 1) := dk_129 (dk_at dksX2_w4_0 11 rfl rfl)
theorem dX2_w4_12 : decode cX2_w4 12 = .ok (.lreturn, 1) := dk_173 (dk_at dksX2_w4_0 12 rfl rfl)
abbrev cX2_w3 : ByteArray := prog_20_method_21_code
def yX2_w3 : MethodName := ⟨RX2, "w3", "(III)J"⟩
def dkwX2_w3_0 : List UInt8 := [26, 27, 184, 0, 129, 16, 8, 121, 28, 133, 129, 173]
abbrev dktX2_w3_0 : List UInt8 := dkwX2_w3_0 ++ []
theorem dksX2_w3_0 : cX2_w3.data.toList.drop 0 = dktX2_w3_0 := by decide +kernel
theorem dX2_w3_0 : decode cX2_w3 0 = .ok (.iload_n 0, 1) := dk_26 (dk_at dksX2_w3_0 0 rfl rfl)
theorem dX2_w3_1 : decode cX2_w3 1 = .ok (.iload_n 1, 1) := dk_27 (dk_at dksX2_w3_0 1 rfl rfl)
theorem dX2_w3_2 : decode cX2_w3 2 = .ok (.invokestatic 129, 3) := dk_184 0 129 (dk_at dksX2_w3_0 2 rfl rfl)
theorem dX2_w3_5 : decode cX2_w3 5 = .ok (.bipush 8, 2) := dk_16 8 (dk_at dksX2_w3_0 5 rfl rfl)
theorem dX2_w3_7 : decode cX2_w3 7 = .ok (.lshl, 1) := dk_121 (dk_at dksX2_w3_0 7 rfl rfl)
theorem dX2_w3_8 : decode cX2_w3 8 = .ok (.iload_n 2, 1) := dk_28 (dk_at dksX2_w3_0 8 rfl rfl)
theorem dX2_w3_9 : decode cX2_w3 9 = .ok (.i2l, 1) := dk_133 (dk_at dksX2_w3_0 9 rfl rfl)
theorem dX2_w3_10 : decode cX2_w3 10 = .ok (.lor, 1) := dk_129 (dk_at dksX2_w3_0 10 rfl rfl)
theorem dX2_w3_11 : decode cX2_w3 11 = .ok (.lreturn, 1) := dk_173 (dk_at dksX2_w3_0 11 rfl rfl)
abbrev cX2_w2 : ByteArray := prog_20_method_20_code
def yX2_w2 : MethodName := ⟨RX2, "w2", "(II)J"⟩
def dkwX2_w2_0 : List UInt8 := [26, 133, 16, 8, 121, 27, 133, 129, 173]
abbrev dktX2_w2_0 : List UInt8 := dkwX2_w2_0 ++ []
theorem dksX2_w2_0 : cX2_w2.data.toList.drop 0 = dktX2_w2_0 := by decide +kernel
theorem dX2_w2_0 : decode cX2_w2 0 = .ok (.iload_n 0, 1) := dk_26 (dk_at dksX2_w2_0 0 rfl rfl)
theorem dX2_w2_1 : decode cX2_w2 1 = .ok (.i2l, 1) := dk_133 (dk_at dksX2_w2_0 1 rfl rfl)
theorem dX2_w2_2 : decode cX2_w2 2 = .ok (.bipush 8, 2) := dk_16 8 (dk_at dksX2_w2_0 2 rfl rfl)
theorem dX2_w2_4 : decode cX2_w2 4 = .ok (.lshl, 1) := dk_121 (dk_at dksX2_w2_0 4 rfl rfl)
theorem dX2_w2_5 : decode cX2_w2 5 = .ok (.iload_n 1, 1) := dk_27 (dk_at dksX2_w2_0 5 rfl rfl)
theorem dX2_w2_6 : decode cX2_w2 6 = .ok (.i2l, 1) := dk_133 (dk_at dksX2_w2_0 6 rfl rfl)
theorem dX2_w2_7 : decode cX2_w2 7 = .ok (.lor, 1) := dk_129 (dk_at dksX2_w2_0 7 rfl rfl)
theorem dX2_w2_8 : decode cX2_w2 8 = .ok (.lreturn, 1) := dk_173 (dk_at dksX2_w2_0 8 rfl rfl)
abbrev cX2_isWord : ByteArray := prog_20_method_25_code
def yX2_isWord : MethodName := ⟨RX2, "isWord", "(J)Z"⟩
def dkwX2_isWord_0 : List UInt8 := [42, 180, 0, 107, 5, 160, 0, 16, 42, 180, 0, 120, 31, 148, 154, 0, 7, 4, 167, 0, 4, 3, 172]
abbrev dktX2_isWord_0 : List UInt8 := dkwX2_isWord_0 ++ []
theorem dksX2_isWord_0 : cX2_isWord.data.toList.drop 0 = dktX2_isWord_0 := by decide +kernel
theorem dX2_isWord_0 : decode cX2_isWord 0 = .ok (.aload_n 0, 1) := dk_42 (dk_at dksX2_isWord_0 0 rfl rfl)
theorem dX2_isWord_1 : decode cX2_isWord 1 = .ok (.getfield 107, 3) := dk_180 0 107 (dk_at dksX2_isWord_0 1 rfl rfl)
theorem dX2_isWord_4 : decode cX2_isWord 4 = .ok (.iconst 2, 1) := dk_5 (dk_at dksX2_isWord_0 4 rfl rfl)
theorem dX2_isWord_5 : decode cX2_isWord 5 = .ok (.if_icmp .ne 16, 3) := dk_160 0 16 (dk_at dksX2_isWord_0 5 rfl rfl)
theorem dX2_isWord_8 : decode cX2_isWord 8 = .ok (.aload_n 0, 1) := dk_42 (dk_at dksX2_isWord_0 8 rfl rfl)
theorem dX2_isWord_9 : decode cX2_isWord 9 = .ok (.getfield 120, 3) := dk_180 0 120 (dk_at dksX2_isWord_0 9 rfl rfl)
theorem dX2_isWord_12 : decode cX2_isWord 12 = .ok (.lload_n 1, 1) := dk_31 (dk_at dksX2_isWord_0 12 rfl rfl)
theorem dX2_isWord_13 : decode cX2_isWord 13 = .ok (.lcmp, 1) := dk_148 (dk_at dksX2_isWord_0 13 rfl rfl)
theorem dX2_isWord_14 : decode cX2_isWord 14 = .ok (.ifCond .ne 7, 3) := dk_154 0 7 (dk_at dksX2_isWord_0 14 rfl rfl)
theorem dX2_isWord_17 : decode cX2_isWord 17 = .ok (.iconst 1, 1) := dk_4 (dk_at dksX2_isWord_0 17 rfl rfl)
theorem dX2_isWord_18 : decode cX2_isWord 18 = .ok (.goto 4, 3) := dk_167 0 4 (dk_at dksX2_isWord_0 18 rfl rfl)
theorem dX2_isWord_21 : decode cX2_isWord 21 = .ok (.iconst 0, 1) := dk_3 (dk_at dksX2_isWord_0 21 rfl rfl)
theorem dX2_isWord_22 : decode cX2_isWord 22 = .ok (.ireturn, 1) := dk_172 (dk_at dksX2_isWord_0 22 rfl rfl)
abbrev cX2_isSentence : ByteArray := prog_20_method_30_code
def yX2_isSentence : MethodName := ⟨RX2, "isSentence", "()Z"⟩
def dkwX2_isSentence_1 : List UInt8 := [182, 0, 151, 172]
abbrev dktX2_isSentence_1 : List UInt8 := dkwX2_isSentence_1 ++ []
def dkwX2_isSentence_0 : List UInt8 := [42, 16, 115, 16, 101, 16, 110, 16, 116, 184, 0, 137, 16, 101, 16, 110, 16, 99, 16, 101, 184, 0, 137, 7]
abbrev dktX2_isSentence_0 : List UInt8 := dkwX2_isSentence_0 ++ dktX2_isSentence_1
theorem dksX2_isSentence_0 : cX2_isSentence.data.toList.drop 0 = dktX2_isSentence_0 := by decide +kernel
theorem dksX2_isSentence_1 : cX2_isSentence.data.toList.drop 24 = dktX2_isSentence_1 := dk_seg dksX2_isSentence_0 24 rfl rfl
theorem dX2_isSentence_0 : decode cX2_isSentence 0 = .ok (.aload_n 0, 1) := dk_42 (dk_at dksX2_isSentence_0 0 rfl rfl)
theorem dX2_isSentence_1 : decode cX2_isSentence 1 = .ok (.bipush 115, 2) := dk_16 115 (dk_at dksX2_isSentence_0 1 rfl rfl)
theorem dX2_isSentence_3 : decode cX2_isSentence 3 = .ok (.bipush 101, 2) := dk_16 101 (dk_at dksX2_isSentence_0 3 rfl rfl)
theorem dX2_isSentence_5 : decode cX2_isSentence 5 = .ok (.bipush 110, 2) := dk_16 110 (dk_at dksX2_isSentence_0 5 rfl rfl)
theorem dX2_isSentence_7 : decode cX2_isSentence 7 = .ok (.bipush 116, 2) := dk_16 116 (dk_at dksX2_isSentence_0 7 rfl rfl)
theorem dX2_isSentence_9 : decode cX2_isSentence 9 = .ok (.invokestatic 137, 3) := dk_184 0 137 (dk_at dksX2_isSentence_0 9 rfl rfl)
theorem dX2_isSentence_12 : decode cX2_isSentence 12 = .ok (.bipush 101, 2) := dk_16 101 (dk_at dksX2_isSentence_0 12 rfl rfl)
theorem dX2_isSentence_14 : decode cX2_isSentence 14 = .ok (.bipush 110, 2) := dk_16 110 (dk_at dksX2_isSentence_0 14 rfl rfl)
theorem dX2_isSentence_16 : decode cX2_isSentence 16 = .ok (.bipush 99, 2) := dk_16 99 (dk_at dksX2_isSentence_0 16 rfl rfl)
theorem dX2_isSentence_18 : decode cX2_isSentence 18 = .ok (.bipush 101, 2) := dk_16 101 (dk_at dksX2_isSentence_0 18 rfl rfl)
theorem dX2_isSentence_20 : decode cX2_isSentence 20 = .ok (.invokestatic 137, 3) := dk_184 0 137 (dk_at dksX2_isSentence_0 20 rfl rfl)
theorem dX2_isSentence_23 : decode cX2_isSentence 23 = .ok (.iconst 4, 1) := dk_7 (dk_at dksX2_isSentence_0 23 rfl rfl)
theorem dX2_isSentence_24 : decode cX2_isSentence 24 = .ok (.invokevirtual 151, 3) := dk_182 0 151 (dk_at dksX2_isSentence_1 0 rfl rfl)
theorem dX2_isSentence_27 : decode cX2_isSentence 27 = .ok (.ireturn, 1) := dk_172 (dk_at dksX2_isSentence_1 3 rfl rfl)
abbrev cX2_isLong : ByteArray := prog_20_method_27_code
def yX2_isLong : MethodName := ⟨RX2, "isLong", "(JJI)Z"⟩
def dkwX2_isLong_7 : List UInt8 := [148, 154, 0, 7, 4, 167, 0, 4, 3, 172]
abbrev dktX2_isLong_7 : List UInt8 := dkwX2_isLong_7 ++ []
def dkwX2_isLong_6 : List UInt8 := [182, 0, 100, 42, 42, 180, 0, 104, 6, 96, 182, 0, 100, 184, 0, 137, 31, 148, 154, 0, 14, 22, 6, 33]
abbrev dktX2_isLong_6 : List UInt8 := dkwX2_isLong_6 ++ dktX2_isLong_7
def dkwX2_isLong_5 : List UInt8 := [180, 0, 104, 182, 0, 100, 42, 42, 180, 0, 104, 4, 96, 182, 0, 100, 42, 42, 180, 0, 104, 5, 96]
abbrev dktX2_isLong_5 : List UInt8 := dkwX2_isLong_5 ++ dktX2_isLong_6
def dkwX2_isLong_4 : List UInt8 := [16, 6, 96, 182, 0, 100, 42, 42, 180, 0, 104, 16, 7, 96, 182, 0, 100, 184, 0, 137, 55, 6, 42, 42]
abbrev dktX2_isLong_4 : List UInt8 := dkwX2_isLong_4 ++ dktX2_isLong_5
def dkwX2_isLong_3 : List UInt8 := [180, 0, 104, 7, 96, 182, 0, 100, 42, 42, 180, 0, 104, 8, 96, 182, 0, 100, 42, 42, 180, 0, 104]
abbrev dktX2_isLong_3 : List UInt8 := dkwX2_isLong_3 ++ dktX2_isLong_4
def dkwX2_isLong_2 : List UInt8 := [96, 182, 0, 100, 42, 42, 180, 0, 104, 16, 6, 96, 182, 0, 100, 184, 0, 133, 167, 0, 48, 42, 42]
abbrev dktX2_isLong_2 : List UInt8 := dkwX2_isLong_2 ++ dktX2_isLong_3
def dkwX2_isLong_1 : List UInt8 := [3, 172, 21, 5, 6, 160, 0, 40, 42, 42, 180, 0, 104, 7, 96, 182, 0, 100, 42, 42, 180, 0, 104, 8]
abbrev dktX2_isLong_1 : List UInt8 := dkwX2_isLong_1 ++ dktX2_isLong_2
def dkwX2_isLong_0 : List UInt8 := [42, 180, 0, 107, 5, 160, 0, 19, 42, 180, 0, 97, 42, 180, 0, 104, 100, 7, 21, 5, 96, 159, 0, 5]
abbrev dktX2_isLong_0 : List UInt8 := dkwX2_isLong_0 ++ dktX2_isLong_1
theorem dksX2_isLong_0 : cX2_isLong.data.toList.drop 0 = dktX2_isLong_0 := by decide +kernel
theorem dksX2_isLong_1 : cX2_isLong.data.toList.drop 24 = dktX2_isLong_1 := dk_seg dksX2_isLong_0 24 rfl rfl
theorem dksX2_isLong_2 : cX2_isLong.data.toList.drop 48 = dktX2_isLong_2 := dk_seg dksX2_isLong_1 24 rfl rfl
theorem dksX2_isLong_3 : cX2_isLong.data.toList.drop 71 = dktX2_isLong_3 := dk_seg dksX2_isLong_2 23 rfl rfl
theorem dksX2_isLong_4 : cX2_isLong.data.toList.drop 94 = dktX2_isLong_4 := dk_seg dksX2_isLong_3 23 rfl rfl
theorem dksX2_isLong_5 : cX2_isLong.data.toList.drop 118 = dktX2_isLong_5 := dk_seg dksX2_isLong_4 24 rfl rfl
theorem dksX2_isLong_6 : cX2_isLong.data.toList.drop 141 = dktX2_isLong_6 := dk_seg dksX2_isLong_5 23 rfl rfl
theorem dksX2_isLong_7 : cX2_isLong.data.toList.drop 165 = dktX2_isLong_7 := dk_seg dksX2_isLong_6 24 rfl rfl
theorem dX2_isLong_0 : decode cX2_isLong 0 = .ok (.aload_n 0, 1) := dk_42 (dk_at dksX2_isLong_0 0 rfl rfl)
theorem dX2_isLong_1 : decode cX2_isLong 1 = .ok (.getfield 107, 3) := dk_180 0 107 (dk_at dksX2_isLong_0 1 rfl rfl)
theorem dX2_isLong_4 : decode cX2_isLong 4 = .ok (.iconst 2, 1) := dk_5 (dk_at dksX2_isLong_0 4 rfl rfl)
theorem dX2_isLong_5 : decode cX2_isLong 5 = .ok (.if_icmp .ne 19, 3) := dk_160 0 19 (dk_at dksX2_isLong_0 5 rfl rfl)
theorem dX2_isLong_8 : decode cX2_isLong 8 = .ok (.aload_n 0, 1) := dk_42 (dk_at dksX2_isLong_0 8 rfl rfl)
theorem dX2_isLong_9 : decode cX2_isLong 9 = .ok (.getfield 97, 3) := dk_180 0 97 (dk_at dksX2_isLong_0 9 rfl rfl)
theorem dX2_isLong_12 : decode cX2_isLong 12 = .ok (.aload_n 0, 1) := dk_42 (dk_at dksX2_isLong_0 12 rfl rfl)
theorem dX2_isLong_13 : decode cX2_isLong 13 = .ok (.getfield 104, 3) := dk_180 0 104 (dk_at dksX2_isLong_0 13 rfl rfl)
theorem dX2_isLong_16 : decode cX2_isLong 16 = .ok (.isub, 1) := dk_100 (dk_at dksX2_isLong_0 16 rfl rfl)
theorem dX2_isLong_17 : decode cX2_isLong 17 = .ok (.iconst 4, 1) := dk_7 (dk_at dksX2_isLong_0 17 rfl rfl)
theorem dX2_isLong_18 : decode cX2_isLong 18 = .ok (.iload 5, 2) := dk_21 5 (dk_at dksX2_isLong_0 18 rfl rfl)
theorem dX2_isLong_20 : decode cX2_isLong 20 = .ok (.iadd, 1) := dk_96 (dk_at dksX2_isLong_0 20 rfl rfl)
theorem dX2_isLong_21 : decode cX2_isLong 21 = .ok (.if_icmp .eq 5, 3) := dk_159 0 5 (dk_at dksX2_isLong_0 21 rfl rfl)
theorem dX2_isLong_24 : decode cX2_isLong 24 = .ok (.iconst 0, 1) := dk_3 (dk_at dksX2_isLong_1 0 rfl rfl)
theorem dX2_isLong_25 : decode cX2_isLong 25 = .ok (.ireturn, 1) := dk_172 (dk_at dksX2_isLong_1 1 rfl rfl)
theorem dX2_isLong_26 : decode cX2_isLong 26 = .ok (.iload 5, 2) := dk_21 5 (dk_at dksX2_isLong_1 2 rfl rfl)
theorem dX2_isLong_28 : decode cX2_isLong 28 = .ok (.iconst 3, 1) := dk_6 (dk_at dksX2_isLong_1 4 rfl rfl)
theorem dX2_isLong_29 : decode cX2_isLong 29 = .ok (.if_icmp .ne 40, 3) := dk_160 0 40 (dk_at dksX2_isLong_1 5 rfl rfl)
theorem dX2_isLong_32 : decode cX2_isLong 32 = .ok (.aload_n 0, 1) := dk_42 (dk_at dksX2_isLong_1 8 rfl rfl)
theorem dX2_isLong_33 : decode cX2_isLong 33 = .ok (.aload_n 0, 1) := dk_42 (dk_at dksX2_isLong_1 9 rfl rfl)
theorem dX2_isLong_34 : decode cX2_isLong 34 = .ok (.getfield 104, 3) := dk_180 0 104 (dk_at dksX2_isLong_1 10 rfl rfl)
theorem dX2_isLong_37 : decode cX2_isLong 37 = .ok (.iconst 4, 1) := dk_7 (dk_at dksX2_isLong_1 13 rfl rfl)
theorem dX2_isLong_38 : decode cX2_isLong 38 = .ok (.iadd, 1) := dk_96 (dk_at dksX2_isLong_1 14 rfl rfl)
theorem dX2_isLong_39 : decode cX2_isLong 39 = .ok (.invokevirtual 100, 3) := dk_182 0 100 (dk_at dksX2_isLong_1 15 rfl rfl)
theorem dX2_isLong_42 : decode cX2_isLong 42 = .ok (.aload_n 0, 1) := dk_42 (dk_at dksX2_isLong_1 18 rfl rfl)
theorem dX2_isLong_43 : decode cX2_isLong 43 = .ok (.aload_n 0, 1) := dk_42 (dk_at dksX2_isLong_1 19 rfl rfl)
theorem dX2_isLong_44 : decode cX2_isLong 44 = .ok (.getfield 104, 3) := dk_180 0 104 (dk_at dksX2_isLong_1 20 rfl rfl)
theorem dX2_isLong_47 : decode cX2_isLong 47 = .ok (.iconst 5, 1) := dk_8 (dk_at dksX2_isLong_1 23 rfl rfl)
theorem dX2_isLong_48 : decode cX2_isLong 48 = .ok (.iadd, 1) := dk_96 (dk_at dksX2_isLong_2 0 rfl rfl)
theorem dX2_isLong_49 : decode cX2_isLong 49 = .ok (.invokevirtual 100, 3) := dk_182 0 100 (dk_at dksX2_isLong_2 1 rfl rfl)
theorem dX2_isLong_52 : decode cX2_isLong 52 = .ok (.aload_n 0, 1) := dk_42 (dk_at dksX2_isLong_2 4 rfl rfl)
theorem dX2_isLong_53 : decode cX2_isLong 53 = .ok (.aload_n 0, 1) := dk_42 (dk_at dksX2_isLong_2 5 rfl rfl)
theorem dX2_isLong_54 : decode cX2_isLong 54 = .ok (.getfield 104, 3) := dk_180 0 104 (dk_at dksX2_isLong_2 6 rfl rfl)
theorem dX2_isLong_57 : decode cX2_isLong 57 = .ok (.bipush 6, 2) := dk_16 6 (dk_at dksX2_isLong_2 9 rfl rfl)
theorem dX2_isLong_59 : decode cX2_isLong 59 = .ok (.iadd, 1) := dk_96 (dk_at dksX2_isLong_2 11 rfl rfl)
theorem dX2_isLong_60 : decode cX2_isLong 60 = .ok (.invokevirtual 100, 3) := dk_182 0 100 (dk_at dksX2_isLong_2 12 rfl rfl)
theorem dX2_isLong_63 : decode cX2_isLong 63 = .ok (.invokestatic 133, 3) := dk_184 0 133 (dk_at dksX2_isLong_2 15 rfl rfl)
theorem dX2_isLong_66 : decode cX2_isLong 66 = .ok (.goto 48, 3) := dk_167 0 48 (dk_at dksX2_isLong_2 18 rfl rfl)
theorem dX2_isLong_69 : decode cX2_isLong 69 = .ok (.aload_n 0, 1) := dk_42 (dk_at dksX2_isLong_2 21 rfl rfl)
theorem dX2_isLong_70 : decode cX2_isLong 70 = .ok (.aload_n 0, 1) := dk_42 (dk_at dksX2_isLong_2 22 rfl rfl)
theorem dX2_isLong_71 : decode cX2_isLong 71 = .ok (.getfield 104, 3) := dk_180 0 104 (dk_at dksX2_isLong_3 0 rfl rfl)
theorem dX2_isLong_74 : decode cX2_isLong 74 = .ok (.iconst 4, 1) := dk_7 (dk_at dksX2_isLong_3 3 rfl rfl)
theorem dX2_isLong_75 : decode cX2_isLong 75 = .ok (.iadd, 1) := dk_96 (dk_at dksX2_isLong_3 4 rfl rfl)
theorem dX2_isLong_76 : decode cX2_isLong 76 = .ok (.invokevirtual 100, 3) := dk_182 0 100 (dk_at dksX2_isLong_3 5 rfl rfl)
theorem dX2_isLong_79 : decode cX2_isLong 79 = .ok (.aload_n 0, 1) := dk_42 (dk_at dksX2_isLong_3 8 rfl rfl)
theorem dX2_isLong_80 : decode cX2_isLong 80 = .ok (.aload_n 0, 1) := dk_42 (dk_at dksX2_isLong_3 9 rfl rfl)
theorem dX2_isLong_81 : decode cX2_isLong 81 = .ok (.getfield 104, 3) := dk_180 0 104 (dk_at dksX2_isLong_3 10 rfl rfl)
theorem dX2_isLong_84 : decode cX2_isLong 84 = .ok (.iconst 5, 1) := dk_8 (dk_at dksX2_isLong_3 13 rfl rfl)
theorem dX2_isLong_85 : decode cX2_isLong 85 = .ok (.iadd, 1) := dk_96 (dk_at dksX2_isLong_3 14 rfl rfl)
theorem dX2_isLong_86 : decode cX2_isLong 86 = .ok (.invokevirtual 100, 3) := dk_182 0 100 (dk_at dksX2_isLong_3 15 rfl rfl)
theorem dX2_isLong_89 : decode cX2_isLong 89 = .ok (.aload_n 0, 1) := dk_42 (dk_at dksX2_isLong_3 18 rfl rfl)
theorem dX2_isLong_90 : decode cX2_isLong 90 = .ok (.aload_n 0, 1) := dk_42 (dk_at dksX2_isLong_3 19 rfl rfl)
theorem dX2_isLong_91 : decode cX2_isLong 91 = .ok (.getfield 104, 3) := dk_180 0 104 (dk_at dksX2_isLong_3 20 rfl rfl)
theorem dX2_isLong_94 : decode cX2_isLong 94 = .ok (.bipush 6, 2) := dk_16 6 (dk_at dksX2_isLong_4 0 rfl rfl)
theorem dX2_isLong_96 : decode cX2_isLong 96 = .ok (.iadd, 1) := dk_96 (dk_at dksX2_isLong_4 2 rfl rfl)
theorem dX2_isLong_97 : decode cX2_isLong 97 = .ok (.invokevirtual 100, 3) := dk_182 0 100 (dk_at dksX2_isLong_4 3 rfl rfl)
theorem dX2_isLong_100 : decode cX2_isLong 100 = .ok (.aload_n 0, 1) := dk_42 (dk_at dksX2_isLong_4 6 rfl rfl)
theorem dX2_isLong_101 : decode cX2_isLong 101 = .ok (.aload_n 0, 1) := dk_42 (dk_at dksX2_isLong_4 7 rfl rfl)
theorem dX2_isLong_102 : decode cX2_isLong 102 = .ok (.getfield 104, 3) := dk_180 0 104 (dk_at dksX2_isLong_4 8 rfl rfl)
theorem dX2_isLong_105 : decode cX2_isLong 105 = .ok (.bipush 7, 2) := dk_16 7 (dk_at dksX2_isLong_4 11 rfl rfl)
theorem dX2_isLong_107 : decode cX2_isLong 107 = .ok (.iadd, 1) := dk_96 (dk_at dksX2_isLong_4 13 rfl rfl)
theorem dX2_isLong_108 : decode cX2_isLong 108 = .ok (.invokevirtual 100, 3) := dk_182 0 100 (dk_at dksX2_isLong_4 14 rfl rfl)
theorem dX2_isLong_111 : decode cX2_isLong 111 = .ok (.invokestatic 137, 3) := dk_184 0 137 (dk_at dksX2_isLong_4 17 rfl rfl)
theorem dX2_isLong_114 : decode cX2_isLong 114 = .ok (.lstore 6, 2) := dk_55 6 (dk_at dksX2_isLong_4 20 rfl rfl)
theorem dX2_isLong_116 : decode cX2_isLong 116 = .ok (.aload_n 0, 1) := dk_42 (dk_at dksX2_isLong_4 22 rfl rfl)
theorem dX2_isLong_117 : decode cX2_isLong 117 = .ok (.aload_n 0, 1) := dk_42 (dk_at dksX2_isLong_4 23 rfl rfl)
theorem dX2_isLong_118 : decode cX2_isLong 118 = .ok (.getfield 104, 3) := dk_180 0 104 (dk_at dksX2_isLong_5 0 rfl rfl)
theorem dX2_isLong_121 : decode cX2_isLong 121 = .ok (.invokevirtual 100, 3) := dk_182 0 100 (dk_at dksX2_isLong_5 3 rfl rfl)
theorem dX2_isLong_124 : decode cX2_isLong 124 = .ok (.aload_n 0, 1) := dk_42 (dk_at dksX2_isLong_5 6 rfl rfl)
theorem dX2_isLong_125 : decode cX2_isLong 125 = .ok (.aload_n 0, 1) := dk_42 (dk_at dksX2_isLong_5 7 rfl rfl)
theorem dX2_isLong_126 : decode cX2_isLong 126 = .ok (.getfield 104, 3) := dk_180 0 104 (dk_at dksX2_isLong_5 8 rfl rfl)
theorem dX2_isLong_129 : decode cX2_isLong 129 = .ok (.iconst 1, 1) := dk_4 (dk_at dksX2_isLong_5 11 rfl rfl)
theorem dX2_isLong_130 : decode cX2_isLong 130 = .ok (.iadd, 1) := dk_96 (dk_at dksX2_isLong_5 12 rfl rfl)
theorem dX2_isLong_131 : decode cX2_isLong 131 = .ok (.invokevirtual 100, 3) := dk_182 0 100 (dk_at dksX2_isLong_5 13 rfl rfl)
theorem dX2_isLong_134 : decode cX2_isLong 134 = .ok (.aload_n 0, 1) := dk_42 (dk_at dksX2_isLong_5 16 rfl rfl)
theorem dX2_isLong_135 : decode cX2_isLong 135 = .ok (.aload_n 0, 1) := dk_42 (dk_at dksX2_isLong_5 17 rfl rfl)
theorem dX2_isLong_136 : decode cX2_isLong 136 = .ok (.getfield 104, 3) := dk_180 0 104 (dk_at dksX2_isLong_5 18 rfl rfl)
theorem dX2_isLong_139 : decode cX2_isLong 139 = .ok (.iconst 2, 1) := dk_5 (dk_at dksX2_isLong_5 21 rfl rfl)
theorem dX2_isLong_140 : decode cX2_isLong 140 = .ok (.iadd, 1) := dk_96 (dk_at dksX2_isLong_5 22 rfl rfl)
theorem dX2_isLong_141 : decode cX2_isLong 141 = .ok (.invokevirtual 100, 3) := dk_182 0 100 (dk_at dksX2_isLong_6 0 rfl rfl)
theorem dX2_isLong_144 : decode cX2_isLong 144 = .ok (.aload_n 0, 1) := dk_42 (dk_at dksX2_isLong_6 3 rfl rfl)
theorem dX2_isLong_145 : decode cX2_isLong 145 = .ok (.aload_n 0, 1) := dk_42 (dk_at dksX2_isLong_6 4 rfl rfl)
theorem dX2_isLong_146 : decode cX2_isLong 146 = .ok (.getfield 104, 3) := dk_180 0 104 (dk_at dksX2_isLong_6 5 rfl rfl)
theorem dX2_isLong_149 : decode cX2_isLong 149 = .ok (.iconst 3, 1) := dk_6 (dk_at dksX2_isLong_6 8 rfl rfl)
theorem dX2_isLong_150 : decode cX2_isLong 150 = .ok (.iadd, 1) := dk_96 (dk_at dksX2_isLong_6 9 rfl rfl)
theorem dX2_isLong_151 : decode cX2_isLong 151 = .ok (.invokevirtual 100, 3) := dk_182 0 100 (dk_at dksX2_isLong_6 10 rfl rfl)
theorem dX2_isLong_154 : decode cX2_isLong 154 = .ok (.invokestatic 137, 3) := dk_184 0 137 (dk_at dksX2_isLong_6 13 rfl rfl)
theorem dX2_isLong_157 : decode cX2_isLong 157 = .ok (.lload_n 1, 1) := dk_31 (dk_at dksX2_isLong_6 16 rfl rfl)
theorem dX2_isLong_158 : decode cX2_isLong 158 = .ok (.lcmp, 1) := dk_148 (dk_at dksX2_isLong_6 17 rfl rfl)
theorem dX2_isLong_159 : decode cX2_isLong 159 = .ok (.ifCond .ne 14, 3) := dk_154 0 14 (dk_at dksX2_isLong_6 18 rfl rfl)
theorem dX2_isLong_162 : decode cX2_isLong 162 = .ok (.lload 6, 2) := dk_22 6 (dk_at dksX2_isLong_6 21 rfl rfl)
theorem dX2_isLong_164 : decode cX2_isLong 164 = .ok (.lload_n 3, 1) := dk_33 (dk_at dksX2_isLong_6 23 rfl rfl)
theorem dX2_isLong_165 : decode cX2_isLong 165 = .ok (.lcmp, 1) := dk_148 (dk_at dksX2_isLong_7 0 rfl rfl)
theorem dX2_isLong_166 : decode cX2_isLong 166 = .ok (.ifCond .ne 7, 3) := dk_154 0 7 (dk_at dksX2_isLong_7 1 rfl rfl)
theorem dX2_isLong_169 : decode cX2_isLong 169 = .ok (.iconst 1, 1) := dk_4 (dk_at dksX2_isLong_7 4 rfl rfl)
theorem dX2_isLong_170 : decode cX2_isLong 170 = .ok (.goto 4, 3) := dk_167 0 4 (dk_at dksX2_isLong_7 5 rfl rfl)
theorem dX2_isLong_173 : decode cX2_isLong 173 = .ok (.iconst 0, 1) := dk_3 (dk_at dksX2_isLong_7 8 rfl rfl)
theorem dX2_isLong_174 : decode cX2_isLong 174 = .ok (.ireturn, 1) := dk_172 (dk_at dksX2_isLong_7 9 rfl rfl)
abbrev cX2_w6 : ByteArray := prog_20_method_24_code
def yX2_w6 : MethodName := ⟨RX2, "w6", "(IIIIII)J"⟩
def dkwX2_w6_0 : List UInt8 := [26, 27, 28, 29, 21, 4, 184, 0, 141, 16, 8, 121, 21, 5, 133, 129, 173]
abbrev dktX2_w6_0 : List UInt8 := dkwX2_w6_0 ++ []
theorem dksX2_w6_0 : cX2_w6.data.toList.drop 0 = dktX2_w6_0 := by decide +kernel
theorem dX2_w6_0 : decode cX2_w6 0 = .ok (.iload_n 0, 1) := dk_26 (dk_at dksX2_w6_0 0 rfl rfl)
theorem dX2_w6_1 : decode cX2_w6 1 = .ok (.iload_n 1, 1) := dk_27 (dk_at dksX2_w6_0 1 rfl rfl)
theorem dX2_w6_2 : decode cX2_w6 2 = .ok (.iload_n 2, 1) := dk_28 (dk_at dksX2_w6_0 2 rfl rfl)
theorem dX2_w6_3 : decode cX2_w6 3 = .ok (.iload_n 3, 1) := dk_29 (dk_at dksX2_w6_0 3 rfl rfl)
theorem dX2_w6_4 : decode cX2_w6 4 = .ok (.iload 4, 2) := dk_21 4 (dk_at dksX2_w6_0 4 rfl rfl)
theorem dX2_w6_6 : decode cX2_w6 6 = .ok (.invokestatic 141, 3) := dk_184 0 141 (dk_at dksX2_w6_0 6 rfl rfl)
theorem dX2_w6_9 : decode cX2_w6 9 = .ok (.bipush 8, 2) := dk_16 8 (dk_at dksX2_w6_0 9 rfl rfl)
theorem dX2_w6_11 : decode cX2_w6 11 = .ok (.lshl, 1) := dk_121 (dk_at dksX2_w6_0 11 rfl rfl)
theorem dX2_w6_12 : decode cX2_w6 12 = .ok (.iload 5, 2) := dk_21 5 (dk_at dksX2_w6_0 12 rfl rfl)
theorem dX2_w6_14 : decode cX2_w6 14 = .ok (.i2l, 1) := dk_133 (dk_at dksX2_w6_0 14 rfl rfl)
theorem dX2_w6_15 : decode cX2_w6 15 = .ok (.lor, 1) := dk_129 (dk_at dksX2_w6_0 15 rfl rfl)
theorem dX2_w6_16 : decode cX2_w6 16 = .ok (.lreturn, 1) := dk_173 (dk_at dksX2_w6_0 16 rfl rfl)
abbrev cX2_isWithdraw : ByteArray := prog_20_method_31_code
def yX2_isWithdraw : MethodName := ⟨RX2, "isWithdraw", "()Z"⟩
def dkwX2_isWithdraw_1 : List UInt8 := [182, 0, 151, 172]
abbrev dktX2_isWithdraw_1 : List UInt8 := dkwX2_isWithdraw_1 ++ []
def dkwX2_isWithdraw_0 : List UInt8 := [42, 16, 119, 16, 105, 16, 116, 16, 104, 184, 0, 137, 16, 100, 16, 114, 16, 97, 16, 119, 184, 0, 137, 7]
abbrev dktX2_isWithdraw_0 : List UInt8 := dkwX2_isWithdraw_0 ++ dktX2_isWithdraw_1
theorem dksX2_isWithdraw_0 : cX2_isWithdraw.data.toList.drop 0 = dktX2_isWithdraw_0 := by decide +kernel
theorem dksX2_isWithdraw_1 : cX2_isWithdraw.data.toList.drop 24 = dktX2_isWithdraw_1 := dk_seg dksX2_isWithdraw_0 24 rfl rfl
theorem dX2_isWithdraw_0 : decode cX2_isWithdraw 0 = .ok (.aload_n 0, 1) := dk_42 (dk_at dksX2_isWithdraw_0 0 rfl rfl)
theorem dX2_isWithdraw_1 : decode cX2_isWithdraw 1 = .ok (.bipush 119, 2) := dk_16 119 (dk_at dksX2_isWithdraw_0 1 rfl rfl)
theorem dX2_isWithdraw_3 : decode cX2_isWithdraw 3 = .ok (.bipush 105, 2) := dk_16 105 (dk_at dksX2_isWithdraw_0 3 rfl rfl)
theorem dX2_isWithdraw_5 : decode cX2_isWithdraw 5 = .ok (.bipush 116, 2) := dk_16 116 (dk_at dksX2_isWithdraw_0 5 rfl rfl)
theorem dX2_isWithdraw_7 : decode cX2_isWithdraw 7 = .ok (.bipush 104, 2) := dk_16 104 (dk_at dksX2_isWithdraw_0 7 rfl rfl)
theorem dX2_isWithdraw_9 : decode cX2_isWithdraw 9 = .ok (.invokestatic 137, 3) := dk_184 0 137 (dk_at dksX2_isWithdraw_0 9 rfl rfl)
theorem dX2_isWithdraw_12 : decode cX2_isWithdraw 12 = .ok (.bipush 100, 2) := dk_16 100 (dk_at dksX2_isWithdraw_0 12 rfl rfl)
theorem dX2_isWithdraw_14 : decode cX2_isWithdraw 14 = .ok (.bipush 114, 2) := dk_16 114 (dk_at dksX2_isWithdraw_0 14 rfl rfl)
theorem dX2_isWithdraw_16 : decode cX2_isWithdraw 16 = .ok (.bipush 97, 2) := dk_16 97 (dk_at dksX2_isWithdraw_0 16 rfl rfl)
theorem dX2_isWithdraw_18 : decode cX2_isWithdraw 18 = .ok (.bipush 119, 2) := dk_16 119 (dk_at dksX2_isWithdraw_0 18 rfl rfl)
theorem dX2_isWithdraw_20 : decode cX2_isWithdraw 20 = .ok (.invokestatic 137, 3) := dk_184 0 137 (dk_at dksX2_isWithdraw_0 20 rfl rfl)
theorem dX2_isWithdraw_23 : decode cX2_isWithdraw 23 = .ok (.iconst 4, 1) := dk_7 (dk_at dksX2_isWithdraw_0 23 rfl rfl)
theorem dX2_isWithdraw_24 : decode cX2_isWithdraw 24 = .ok (.invokevirtual 151, 3) := dk_182 0 151 (dk_at dksX2_isWithdraw_1 0 rfl rfl)
theorem dX2_isWithdraw_27 : decode cX2_isWithdraw 27 = .ok (.ireturn, 1) := dk_172 (dk_at dksX2_isWithdraw_1 3 rfl rfl)
abbrev cX2_has : ByteArray := prog_20_method_5_code
def yX2_has : MethodName := ⟨RX2, "has", "(II)Z"⟩
def dkwX2_has_0 : List UInt8 := [26, 27, 122, 4, 126, 4, 160, 0, 7, 4, 167, 0, 4, 3, 172]
abbrev dktX2_has_0 : List UInt8 := dkwX2_has_0 ++ []
theorem dksX2_has_0 : cX2_has.data.toList.drop 0 = dktX2_has_0 := by decide +kernel
theorem dX2_has_0 : decode cX2_has 0 = .ok (.iload_n 0, 1) := dk_26 (dk_at dksX2_has_0 0 rfl rfl)
theorem dX2_has_1 : decode cX2_has 1 = .ok (.iload_n 1, 1) := dk_27 (dk_at dksX2_has_0 1 rfl rfl)
theorem dX2_has_2 : decode cX2_has 2 = .ok (.ishr, 1) := dk_122 (dk_at dksX2_has_0 2 rfl rfl)
theorem dX2_has_3 : decode cX2_has 3 = .ok (.iconst 1, 1) := dk_4 (dk_at dksX2_has_0 3 rfl rfl)
theorem dX2_has_4 : decode cX2_has 4 = .ok (.iand, 1) := dk_126 (dk_at dksX2_has_0 4 rfl rfl)
theorem dX2_has_5 : decode cX2_has 5 = .ok (.iconst 1, 1) := dk_4 (dk_at dksX2_has_0 5 rfl rfl)
theorem dX2_has_6 : decode cX2_has 6 = .ok (.if_icmp .ne 7, 3) := dk_160 0 7 (dk_at dksX2_has_0 6 rfl rfl)
theorem dX2_has_9 : decode cX2_has 9 = .ok (.iconst 1, 1) := dk_4 (dk_at dksX2_has_0 9 rfl rfl)
theorem dX2_has_10 : decode cX2_has 10 = .ok (.goto 4, 3) := dk_167 0 4 (dk_at dksX2_has_0 10 rfl rfl)
theorem dX2_has_13 : decode cX2_has 13 = .ok (.iconst 0, 1) := dk_3 (dk_at dksX2_has_0 13 rfl rfl)
theorem dX2_has_14 : decode cX2_has 14 = .ok (.ireturn, 1) := dk_172 (dk_at dksX2_has_0 14 rfl rfl)
abbrev cX2_body : ByteArray := prog_20_method_54_code
def yX2_body : MethodName := ⟨RX2, "body", "(II)I"⟩
def dkwX2_body_4 : List UInt8 := [4, 16, 60, 182, 1, 3, 172, 42, 28, 27, 5, 160, 0, 7, 4, 167, 0, 4, 3, 182, 1, 7, 172]
abbrev dktX2_body_4 : List UInt8 := dkwX2_body_4 ++ []
def dkwX2_body_3 : List UInt8 := [172, 42, 28, 4, 96, 3, 16, 7, 182, 1, 3, 172, 42, 28, 182, 1, 17, 172, 3, 172, 42, 28, 4, 96]
abbrev dktX2_body_3 : List UInt8 := dkwX2_body_3 ++ dktX2_body_4
def dkwX2_body_2 : List UInt8 := [42, 28, 182, 1, 11, 172, 42, 28, 182, 1, 14, 172, 42, 28, 4, 96, 3, 16, 7, 182, 1, 3, 172, 3]
abbrev dktX2_body_2 : List UInt8 := dkwX2_body_2 ++ dktX2_body_3
def dkwX2_body_1 : List UInt8 := [170, 0, 0, 0, 0, 0, 102, 0, 0, 0, 4, 0, 0, 0, 11, 0, 0, 0, 47, 0, 0, 0, 53, 0, 0, 0, 59, 0, 0, 0, 70, 0, 0, 0, 72, 0, 0, 0, 83, 0, 0, 0, 89, 0, 0, 0, 91]
abbrev dktX2_body_1 : List UInt8 := dkwX2_body_1 ++ dktX2_body_2
def dkwX2_body_0 : List UInt8 := [27]
abbrev dktX2_body_0 : List UInt8 := dkwX2_body_0 ++ dktX2_body_1
theorem dksX2_body_0 : cX2_body.data.toList.drop 0 = dktX2_body_0 := by decide +kernel
theorem dksX2_body_1 : cX2_body.data.toList.drop 1 = dktX2_body_1 := dk_seg dksX2_body_0 1 rfl rfl
theorem dksX2_body_2 : cX2_body.data.toList.drop 48 = dktX2_body_2 := dk_seg dksX2_body_1 47 rfl rfl
theorem dksX2_body_3 : cX2_body.data.toList.drop 72 = dktX2_body_3 := dk_seg dksX2_body_2 24 rfl rfl
theorem dksX2_body_4 : cX2_body.data.toList.drop 96 = dktX2_body_4 := dk_seg dksX2_body_3 24 rfl rfl
theorem dX2_body_0 : decode cX2_body 0 = .ok (.iload_n 1, 1) := dk_27 (dk_at dksX2_body_0 0 rfl rfl)
theorem dX2_body_1 : decode cX2_body 1 = .ok (.tableswitch 102 4 11 #[47, 53, 59, 70, 72, 83, 89, 91], 47) := by decide +kernel
theorem dX2_body_48 : decode cX2_body 48 = .ok (.aload_n 0, 1) := dk_42 (dk_at dksX2_body_2 0 rfl rfl)
theorem dX2_body_49 : decode cX2_body 49 = .ok (.iload_n 2, 1) := dk_28 (dk_at dksX2_body_2 1 rfl rfl)
theorem dX2_body_50 : decode cX2_body 50 = .ok (.invokevirtual 267, 3) := dk_182 1 11 (dk_at dksX2_body_2 2 rfl rfl)
theorem dX2_body_53 : decode cX2_body 53 = .ok (.ireturn, 1) := dk_172 (dk_at dksX2_body_2 5 rfl rfl)
theorem dX2_body_54 : decode cX2_body 54 = .ok (.aload_n 0, 1) := dk_42 (dk_at dksX2_body_2 6 rfl rfl)
theorem dX2_body_55 : decode cX2_body 55 = .ok (.iload_n 2, 1) := dk_28 (dk_at dksX2_body_2 7 rfl rfl)
theorem dX2_body_56 : decode cX2_body 56 = .ok (.invokevirtual 270, 3) := dk_182 1 14 (dk_at dksX2_body_2 8 rfl rfl)
theorem dX2_body_59 : decode cX2_body 59 = .ok (.ireturn, 1) := dk_172 (dk_at dksX2_body_2 11 rfl rfl)
theorem dX2_body_60 : decode cX2_body 60 = .ok (.aload_n 0, 1) := dk_42 (dk_at dksX2_body_2 12 rfl rfl)
theorem dX2_body_61 : decode cX2_body 61 = .ok (.iload_n 2, 1) := dk_28 (dk_at dksX2_body_2 13 rfl rfl)
theorem dX2_body_62 : decode cX2_body 62 = .ok (.iconst 1, 1) := dk_4 (dk_at dksX2_body_2 14 rfl rfl)
theorem dX2_body_63 : decode cX2_body 63 = .ok (.iadd, 1) := dk_96 (dk_at dksX2_body_2 15 rfl rfl)
theorem dX2_body_64 : decode cX2_body 64 = .ok (.iconst 0, 1) := dk_3 (dk_at dksX2_body_2 16 rfl rfl)
theorem dX2_body_65 : decode cX2_body 65 = .ok (.bipush 7, 2) := dk_16 7 (dk_at dksX2_body_2 17 rfl rfl)
theorem dX2_body_67 : decode cX2_body 67 = .ok (.invokevirtual 259, 3) := dk_182 1 3 (dk_at dksX2_body_2 19 rfl rfl)
theorem dX2_body_70 : decode cX2_body 70 = .ok (.ireturn, 1) := dk_172 (dk_at dksX2_body_2 22 rfl rfl)
theorem dX2_body_71 : decode cX2_body 71 = .ok (.iconst 0, 1) := dk_3 (dk_at dksX2_body_2 23 rfl rfl)
theorem dX2_body_72 : decode cX2_body 72 = .ok (.ireturn, 1) := dk_172 (dk_at dksX2_body_3 0 rfl rfl)
theorem dX2_body_73 : decode cX2_body 73 = .ok (.aload_n 0, 1) := dk_42 (dk_at dksX2_body_3 1 rfl rfl)
theorem dX2_body_74 : decode cX2_body 74 = .ok (.iload_n 2, 1) := dk_28 (dk_at dksX2_body_3 2 rfl rfl)
theorem dX2_body_75 : decode cX2_body 75 = .ok (.iconst 1, 1) := dk_4 (dk_at dksX2_body_3 3 rfl rfl)
theorem dX2_body_76 : decode cX2_body 76 = .ok (.iadd, 1) := dk_96 (dk_at dksX2_body_3 4 rfl rfl)
theorem dX2_body_77 : decode cX2_body 77 = .ok (.iconst 0, 1) := dk_3 (dk_at dksX2_body_3 5 rfl rfl)
theorem dX2_body_78 : decode cX2_body 78 = .ok (.bipush 7, 2) := dk_16 7 (dk_at dksX2_body_3 6 rfl rfl)
theorem dX2_body_80 : decode cX2_body 80 = .ok (.invokevirtual 259, 3) := dk_182 1 3 (dk_at dksX2_body_3 8 rfl rfl)
theorem dX2_body_83 : decode cX2_body 83 = .ok (.ireturn, 1) := dk_172 (dk_at dksX2_body_3 11 rfl rfl)
theorem dX2_body_84 : decode cX2_body 84 = .ok (.aload_n 0, 1) := dk_42 (dk_at dksX2_body_3 12 rfl rfl)
theorem dX2_body_85 : decode cX2_body 85 = .ok (.iload_n 2, 1) := dk_28 (dk_at dksX2_body_3 13 rfl rfl)
theorem dX2_body_86 : decode cX2_body 86 = .ok (.invokevirtual 273, 3) := dk_182 1 17 (dk_at dksX2_body_3 14 rfl rfl)
theorem dX2_body_89 : decode cX2_body 89 = .ok (.ireturn, 1) := dk_172 (dk_at dksX2_body_3 17 rfl rfl)
theorem dX2_body_90 : decode cX2_body 90 = .ok (.iconst 0, 1) := dk_3 (dk_at dksX2_body_3 18 rfl rfl)
theorem dX2_body_91 : decode cX2_body 91 = .ok (.ireturn, 1) := dk_172 (dk_at dksX2_body_3 19 rfl rfl)
theorem dX2_body_92 : decode cX2_body 92 = .ok (.aload_n 0, 1) := dk_42 (dk_at dksX2_body_3 20 rfl rfl)
theorem dX2_body_93 : decode cX2_body 93 = .ok (.iload_n 2, 1) := dk_28 (dk_at dksX2_body_3 21 rfl rfl)
theorem dX2_body_94 : decode cX2_body 94 = .ok (.iconst 1, 1) := dk_4 (dk_at dksX2_body_3 22 rfl rfl)
theorem dX2_body_95 : decode cX2_body 95 = .ok (.iadd, 1) := dk_96 (dk_at dksX2_body_3 23 rfl rfl)
theorem dX2_body_96 : decode cX2_body 96 = .ok (.iconst 1, 1) := dk_4 (dk_at dksX2_body_4 0 rfl rfl)
theorem dX2_body_97 : decode cX2_body 97 = .ok (.bipush 60, 2) := dk_16 60 (dk_at dksX2_body_4 1 rfl rfl)
theorem dX2_body_99 : decode cX2_body 99 = .ok (.invokevirtual 259, 3) := dk_182 1 3 (dk_at dksX2_body_4 3 rfl rfl)
theorem dX2_body_102 : decode cX2_body 102 = .ok (.ireturn, 1) := dk_172 (dk_at dksX2_body_4 6 rfl rfl)
theorem dX2_body_103 : decode cX2_body 103 = .ok (.aload_n 0, 1) := dk_42 (dk_at dksX2_body_4 7 rfl rfl)
theorem dX2_body_104 : decode cX2_body 104 = .ok (.iload_n 2, 1) := dk_28 (dk_at dksX2_body_4 8 rfl rfl)
theorem dX2_body_105 : decode cX2_body 105 = .ok (.iload_n 1, 1) := dk_27 (dk_at dksX2_body_4 9 rfl rfl)
theorem dX2_body_106 : decode cX2_body 106 = .ok (.iconst 2, 1) := dk_5 (dk_at dksX2_body_4 10 rfl rfl)
theorem dX2_body_107 : decode cX2_body 107 = .ok (.if_icmp .ne 7, 3) := dk_160 0 7 (dk_at dksX2_body_4 11 rfl rfl)
theorem dX2_body_110 : decode cX2_body 110 = .ok (.iconst 1, 1) := dk_4 (dk_at dksX2_body_4 14 rfl rfl)
theorem dX2_body_111 : decode cX2_body 111 = .ok (.goto 4, 3) := dk_167 0 4 (dk_at dksX2_body_4 15 rfl rfl)
theorem dX2_body_114 : decode cX2_body 114 = .ok (.iconst 0, 1) := dk_3 (dk_at dksX2_body_4 18 rfl rfl)
theorem dX2_body_115 : decode cX2_body 115 = .ok (.invokevirtual 263, 3) := dk_182 1 7 (dk_at dksX2_body_4 19 rfl rfl)
theorem dX2_body_118 : decode cX2_body 118 = .ok (.ireturn, 1) := dk_172 (dk_at dksX2_body_4 22 rfl rfl)
abbrev cX2_codeClause : ByteArray := prog_20_method_51_code
def yX2_codeClause : MethodName := ⟨RX2, "codeClause", "(I)I"⟩
def dkwX2_codeClause_3 : List UInt8 := [16, 58, 159, 0, 5, 4, 172, 42, 182, 0, 189, 42, 27, 4, 182, 1, 7, 172]
abbrev dktX2_codeClause_3 : List UInt8 := dkwX2_codeClause_3 ++ []
def dkwX2_codeClause_2 : List UInt8 := [42, 89, 180, 0, 252, 4, 42, 180, 0, 16, 27, 6, 96, 46, 120, 128, 181, 0, 252, 42, 180, 0, 107]
abbrev dktX2_codeClause_2 : List UInt8 := dkwX2_codeClause_2 ++ dktX2_codeClause_3
def dkwX2_codeClause_1 : List UInt8 := [184, 0, 255, 153, 0, 5, 7, 172, 42, 27, 6, 96, 3, 6, 182, 1, 3, 61, 28, 153, 0, 5, 28, 172]
abbrev dktX2_codeClause_1 : List UInt8 := dkwX2_codeClause_1 ++ dktX2_codeClause_2
def dkwX2_codeClause_0 : List UInt8 := [42, 180, 0, 107, 4, 160, 0, 27, 42, 180, 0, 113, 7, 162, 0, 19, 42, 180, 0, 252, 42, 180, 0, 113]
abbrev dktX2_codeClause_0 : List UInt8 := dkwX2_codeClause_0 ++ dktX2_codeClause_1
theorem dksX2_codeClause_0 : cX2_codeClause.data.toList.drop 0 = dktX2_codeClause_0 := by decide +kernel
theorem dksX2_codeClause_1 : cX2_codeClause.data.toList.drop 24 = dktX2_codeClause_1 := dk_seg dksX2_codeClause_0 24 rfl rfl
theorem dksX2_codeClause_2 : cX2_codeClause.data.toList.drop 48 = dktX2_codeClause_2 := dk_seg dksX2_codeClause_1 24 rfl rfl
theorem dksX2_codeClause_3 : cX2_codeClause.data.toList.drop 71 = dktX2_codeClause_3 := dk_seg dksX2_codeClause_2 23 rfl rfl
theorem dX2_codeClause_0 : decode cX2_codeClause 0 = .ok (.aload_n 0, 1) := dk_42 (dk_at dksX2_codeClause_0 0 rfl rfl)
theorem dX2_codeClause_1 : decode cX2_codeClause 1 = .ok (.getfield 107, 3) := dk_180 0 107 (dk_at dksX2_codeClause_0 1 rfl rfl)
theorem dX2_codeClause_4 : decode cX2_codeClause 4 = .ok (.iconst 1, 1) := dk_4 (dk_at dksX2_codeClause_0 4 rfl rfl)
theorem dX2_codeClause_5 : decode cX2_codeClause 5 = .ok (.if_icmp .ne 27, 3) := dk_160 0 27 (dk_at dksX2_codeClause_0 5 rfl rfl)
theorem dX2_codeClause_8 : decode cX2_codeClause 8 = .ok (.aload_n 0, 1) := dk_42 (dk_at dksX2_codeClause_0 8 rfl rfl)
theorem dX2_codeClause_9 : decode cX2_codeClause 9 = .ok (.getfield 113, 3) := dk_180 0 113 (dk_at dksX2_codeClause_0 9 rfl rfl)
theorem dX2_codeClause_12 : decode cX2_codeClause 12 = .ok (.iconst 4, 1) := dk_7 (dk_at dksX2_codeClause_0 12 rfl rfl)
theorem dX2_codeClause_13 : decode cX2_codeClause 13 = .ok (.if_icmp .ge 19, 3) := dk_162 0 19 (dk_at dksX2_codeClause_0 13 rfl rfl)
theorem dX2_codeClause_16 : decode cX2_codeClause 16 = .ok (.aload_n 0, 1) := dk_42 (dk_at dksX2_codeClause_0 16 rfl rfl)
theorem dX2_codeClause_17 : decode cX2_codeClause 17 = .ok (.getfield 252, 3) := dk_180 0 252 (dk_at dksX2_codeClause_0 17 rfl rfl)
theorem dX2_codeClause_20 : decode cX2_codeClause 20 = .ok (.aload_n 0, 1) := dk_42 (dk_at dksX2_codeClause_0 20 rfl rfl)
theorem dX2_codeClause_21 : decode cX2_codeClause 21 = .ok (.getfield 113, 3) := dk_180 0 113 (dk_at dksX2_codeClause_0 21 rfl rfl)
theorem dX2_codeClause_24 : decode cX2_codeClause 24 = .ok (.invokestatic 255, 3) := dk_184 0 255 (dk_at dksX2_codeClause_1 0 rfl rfl)
theorem dX2_codeClause_27 : decode cX2_codeClause 27 = .ok (.ifCond .eq 5, 3) := dk_153 0 5 (dk_at dksX2_codeClause_1 3 rfl rfl)
theorem dX2_codeClause_30 : decode cX2_codeClause 30 = .ok (.iconst 4, 1) := dk_7 (dk_at dksX2_codeClause_1 6 rfl rfl)
theorem dX2_codeClause_31 : decode cX2_codeClause 31 = .ok (.ireturn, 1) := dk_172 (dk_at dksX2_codeClause_1 7 rfl rfl)
theorem dX2_codeClause_32 : decode cX2_codeClause 32 = .ok (.aload_n 0, 1) := dk_42 (dk_at dksX2_codeClause_1 8 rfl rfl)
theorem dX2_codeClause_33 : decode cX2_codeClause 33 = .ok (.iload_n 1, 1) := dk_27 (dk_at dksX2_codeClause_1 9 rfl rfl)
theorem dX2_codeClause_34 : decode cX2_codeClause 34 = .ok (.iconst 3, 1) := dk_6 (dk_at dksX2_codeClause_1 10 rfl rfl)
theorem dX2_codeClause_35 : decode cX2_codeClause 35 = .ok (.iadd, 1) := dk_96 (dk_at dksX2_codeClause_1 11 rfl rfl)
theorem dX2_codeClause_36 : decode cX2_codeClause 36 = .ok (.iconst 0, 1) := dk_3 (dk_at dksX2_codeClause_1 12 rfl rfl)
theorem dX2_codeClause_37 : decode cX2_codeClause 37 = .ok (.iconst 3, 1) := dk_6 (dk_at dksX2_codeClause_1 13 rfl rfl)
theorem dX2_codeClause_38 : decode cX2_codeClause 38 = .ok (.invokevirtual 259, 3) := dk_182 1 3 (dk_at dksX2_codeClause_1 14 rfl rfl)
theorem dX2_codeClause_41 : decode cX2_codeClause 41 = .ok (.istore_n 2, 1) := dk_61 (dk_at dksX2_codeClause_1 17 rfl rfl)
theorem dX2_codeClause_42 : decode cX2_codeClause 42 = .ok (.iload_n 2, 1) := dk_28 (dk_at dksX2_codeClause_1 18 rfl rfl)
theorem dX2_codeClause_43 : decode cX2_codeClause 43 = .ok (.ifCond .eq 5, 3) := dk_153 0 5 (dk_at dksX2_codeClause_1 19 rfl rfl)
theorem dX2_codeClause_46 : decode cX2_codeClause 46 = .ok (.iload_n 2, 1) := dk_28 (dk_at dksX2_codeClause_1 22 rfl rfl)
theorem dX2_codeClause_47 : decode cX2_codeClause 47 = .ok (.ireturn, 1) := dk_172 (dk_at dksX2_codeClause_1 23 rfl rfl)
theorem dX2_codeClause_48 : decode cX2_codeClause 48 = .ok (.aload_n 0, 1) := dk_42 (dk_at dksX2_codeClause_2 0 rfl rfl)
theorem dX2_codeClause_49 : decode cX2_codeClause 49 = .ok (.dup, 1) := dk_89 (dk_at dksX2_codeClause_2 1 rfl rfl)
theorem dX2_codeClause_50 : decode cX2_codeClause 50 = .ok (.getfield 252, 3) := dk_180 0 252 (dk_at dksX2_codeClause_2 2 rfl rfl)
theorem dX2_codeClause_53 : decode cX2_codeClause 53 = .ok (.iconst 1, 1) := dk_4 (dk_at dksX2_codeClause_2 5 rfl rfl)
theorem dX2_codeClause_54 : decode cX2_codeClause 54 = .ok (.aload_n 0, 1) := dk_42 (dk_at dksX2_codeClause_2 6 rfl rfl)
theorem dX2_codeClause_55 : decode cX2_codeClause 55 = .ok (.getfield 16, 3) := dk_180 0 16 (dk_at dksX2_codeClause_2 7 rfl rfl)
theorem dX2_codeClause_58 : decode cX2_codeClause 58 = .ok (.iload_n 1, 1) := dk_27 (dk_at dksX2_codeClause_2 10 rfl rfl)
theorem dX2_codeClause_59 : decode cX2_codeClause 59 = .ok (.iconst 3, 1) := dk_6 (dk_at dksX2_codeClause_2 11 rfl rfl)
theorem dX2_codeClause_60 : decode cX2_codeClause 60 = .ok (.iadd, 1) := dk_96 (dk_at dksX2_codeClause_2 12 rfl rfl)
theorem dX2_codeClause_61 : decode cX2_codeClause 61 = .ok (.iaload, 1) := dk_46 (dk_at dksX2_codeClause_2 13 rfl rfl)
theorem dX2_codeClause_62 : decode cX2_codeClause 62 = .ok (.ishl, 1) := dk_120 (dk_at dksX2_codeClause_2 14 rfl rfl)
theorem dX2_codeClause_63 : decode cX2_codeClause 63 = .ok (.ior, 1) := dk_128 (dk_at dksX2_codeClause_2 15 rfl rfl)
theorem dX2_codeClause_64 : decode cX2_codeClause 64 = .ok (.putfield 252, 3) := dk_181 0 252 (dk_at dksX2_codeClause_2 16 rfl rfl)
theorem dX2_codeClause_67 : decode cX2_codeClause 67 = .ok (.aload_n 0, 1) := dk_42 (dk_at dksX2_codeClause_2 19 rfl rfl)
theorem dX2_codeClause_68 : decode cX2_codeClause 68 = .ok (.getfield 107, 3) := dk_180 0 107 (dk_at dksX2_codeClause_2 20 rfl rfl)
theorem dX2_codeClause_71 : decode cX2_codeClause 71 = .ok (.bipush 58, 2) := dk_16 58 (dk_at dksX2_codeClause_3 0 rfl rfl)
theorem dX2_codeClause_73 : decode cX2_codeClause 73 = .ok (.if_icmp .eq 5, 3) := dk_159 0 5 (dk_at dksX2_codeClause_3 2 rfl rfl)
theorem dX2_codeClause_76 : decode cX2_codeClause 76 = .ok (.iconst 1, 1) := dk_4 (dk_at dksX2_codeClause_3 5 rfl rfl)
theorem dX2_codeClause_77 : decode cX2_codeClause 77 = .ok (.ireturn, 1) := dk_172 (dk_at dksX2_codeClause_3 6 rfl rfl)
theorem dX2_codeClause_78 : decode cX2_codeClause 78 = .ok (.aload_n 0, 1) := dk_42 (dk_at dksX2_codeClause_3 7 rfl rfl)
theorem dX2_codeClause_79 : decode cX2_codeClause 79 = .ok (.invokevirtual 189, 3) := dk_182 0 189 (dk_at dksX2_codeClause_3 8 rfl rfl)
theorem dX2_codeClause_82 : decode cX2_codeClause 82 = .ok (.aload_n 0, 1) := dk_42 (dk_at dksX2_codeClause_3 11 rfl rfl)
theorem dX2_codeClause_83 : decode cX2_codeClause 83 = .ok (.iload_n 1, 1) := dk_27 (dk_at dksX2_codeClause_3 12 rfl rfl)
theorem dX2_codeClause_84 : decode cX2_codeClause 84 = .ok (.iconst 1, 1) := dk_4 (dk_at dksX2_codeClause_3 13 rfl rfl)
theorem dX2_codeClause_85 : decode cX2_codeClause 85 = .ok (.invokevirtual 263, 3) := dk_182 1 7 (dk_at dksX2_codeClause_3 14 rfl rfl)
theorem dX2_codeClause_88 : decode cX2_codeClause 88 = .ok (.ireturn, 1) := dk_172 (dk_at dksX2_codeClause_3 17 rfl rfl)
abbrev cX2_figure : ByteArray := prog_20_method_49_code
def yX2_figure : MethodName := ⟨RX2, "figure", "(III)I"⟩
def dkwX2_figure_1 : List UInt8 := [42, 180, 0, 16, 27, 42, 180, 0, 113, 79, 42, 182, 0, 189, 3, 172]
abbrev dktX2_figure_1 : List UInt8 := dkwX2_figure_1 ++ []
def dkwX2_figure_0 : List UInt8 := [42, 180, 0, 107, 4, 159, 0, 5, 4, 172, 42, 180, 0, 113, 28, 29, 184, 0, 74, 154, 0, 5, 5, 172]
abbrev dktX2_figure_0 : List UInt8 := dkwX2_figure_0 ++ dktX2_figure_1
theorem dksX2_figure_0 : cX2_figure.data.toList.drop 0 = dktX2_figure_0 := by decide +kernel
theorem dksX2_figure_1 : cX2_figure.data.toList.drop 24 = dktX2_figure_1 := dk_seg dksX2_figure_0 24 rfl rfl
theorem dX2_figure_0 : decode cX2_figure 0 = .ok (.aload_n 0, 1) := dk_42 (dk_at dksX2_figure_0 0 rfl rfl)
theorem dX2_figure_1 : decode cX2_figure 1 = .ok (.getfield 107, 3) := dk_180 0 107 (dk_at dksX2_figure_0 1 rfl rfl)
theorem dX2_figure_4 : decode cX2_figure 4 = .ok (.iconst 1, 1) := dk_4 (dk_at dksX2_figure_0 4 rfl rfl)
theorem dX2_figure_5 : decode cX2_figure 5 = .ok (.if_icmp .eq 5, 3) := dk_159 0 5 (dk_at dksX2_figure_0 5 rfl rfl)
theorem dX2_figure_8 : decode cX2_figure 8 = .ok (.iconst 1, 1) := dk_4 (dk_at dksX2_figure_0 8 rfl rfl)
theorem dX2_figure_9 : decode cX2_figure 9 = .ok (.ireturn, 1) := dk_172 (dk_at dksX2_figure_0 9 rfl rfl)
theorem dX2_figure_10 : decode cX2_figure 10 = .ok (.aload_n 0, 1) := dk_42 (dk_at dksX2_figure_0 10 rfl rfl)
theorem dX2_figure_11 : decode cX2_figure 11 = .ok (.getfield 113, 3) := dk_180 0 113 (dk_at dksX2_figure_0 11 rfl rfl)
theorem dX2_figure_14 : decode cX2_figure 14 = .ok (.iload_n 2, 1) := dk_28 (dk_at dksX2_figure_0 14 rfl rfl)
theorem dX2_figure_15 : decode cX2_figure 15 = .ok (.iload_n 3, 1) := dk_29 (dk_at dksX2_figure_0 15 rfl rfl)
theorem dX2_figure_16 : decode cX2_figure 16 = .ok (.invokestatic 74, 3) := dk_184 0 74 (dk_at dksX2_figure_0 16 rfl rfl)
theorem dX2_figure_19 : decode cX2_figure 19 = .ok (.ifCond .ne 5, 3) := dk_154 0 5 (dk_at dksX2_figure_0 19 rfl rfl)
theorem dX2_figure_22 : decode cX2_figure 22 = .ok (.iconst 2, 1) := dk_5 (dk_at dksX2_figure_0 22 rfl rfl)
theorem dX2_figure_23 : decode cX2_figure 23 = .ok (.ireturn, 1) := dk_172 (dk_at dksX2_figure_0 23 rfl rfl)
theorem dX2_figure_24 : decode cX2_figure 24 = .ok (.aload_n 0, 1) := dk_42 (dk_at dksX2_figure_1 0 rfl rfl)
theorem dX2_figure_25 : decode cX2_figure 25 = .ok (.getfield 16, 3) := dk_180 0 16 (dk_at dksX2_figure_1 1 rfl rfl)
theorem dX2_figure_28 : decode cX2_figure 28 = .ok (.iload_n 1, 1) := dk_27 (dk_at dksX2_figure_1 4 rfl rfl)
theorem dX2_figure_29 : decode cX2_figure 29 = .ok (.aload_n 0, 1) := dk_42 (dk_at dksX2_figure_1 5 rfl rfl)
theorem dX2_figure_30 : decode cX2_figure 30 = .ok (.getfield 113, 3) := dk_180 0 113 (dk_at dksX2_figure_1 6 rfl rfl)
theorem dX2_figure_33 : decode cX2_figure 33 = .ok (.iastore, 1) := dk_79 (dk_at dksX2_figure_1 9 rfl rfl)
theorem dX2_figure_34 : decode cX2_figure 34 = .ok (.aload_n 0, 1) := dk_42 (dk_at dksX2_figure_1 10 rfl rfl)
theorem dX2_figure_35 : decode cX2_figure 35 = .ok (.invokevirtual 189, 3) := dk_182 0 189 (dk_at dksX2_figure_1 11 rfl rfl)
theorem dX2_figure_38 : decode cX2_figure 38 = .ok (.iconst 0, 1) := dk_3 (dk_at dksX2_figure_1 14 rfl rfl)
theorem dX2_figure_39 : decode cX2_figure 39 = .ok (.ireturn, 1) := dk_172 (dk_at dksX2_figure_1 15 rfl rfl)
abbrev cX2_lawClause : ByteArray := prog_20_method_50_code
def yX2_lawClause : MethodName := ⟨RX2, "lawClause", "(IZ)I"⟩
def dkwX2_lawClause_1 : List UInt8 := [96, 42, 180, 0, 148, 79, 29, 172]
abbrev dktX2_lawClause_1 : List UInt8 := dkwX2_lawClause_1 ++ []
def dkwX2_lawClause_0 : List UInt8 := [42, 180, 0, 16, 27, 4, 96, 42, 180, 0, 148, 79, 42, 28, 182, 0, 248, 62, 42, 180, 0, 16, 27, 5]
abbrev dktX2_lawClause_0 : List UInt8 := dkwX2_lawClause_0 ++ dktX2_lawClause_1
theorem dksX2_lawClause_0 : cX2_lawClause.data.toList.drop 0 = dktX2_lawClause_0 := by decide +kernel
theorem dksX2_lawClause_1 : cX2_lawClause.data.toList.drop 24 = dktX2_lawClause_1 := dk_seg dksX2_lawClause_0 24 rfl rfl
theorem dX2_lawClause_0 : decode cX2_lawClause 0 = .ok (.aload_n 0, 1) := dk_42 (dk_at dksX2_lawClause_0 0 rfl rfl)
theorem dX2_lawClause_1 : decode cX2_lawClause 1 = .ok (.getfield 16, 3) := dk_180 0 16 (dk_at dksX2_lawClause_0 1 rfl rfl)
theorem dX2_lawClause_4 : decode cX2_lawClause 4 = .ok (.iload_n 1, 1) := dk_27 (dk_at dksX2_lawClause_0 4 rfl rfl)
theorem dX2_lawClause_5 : decode cX2_lawClause 5 = .ok (.iconst 1, 1) := dk_4 (dk_at dksX2_lawClause_0 5 rfl rfl)
theorem dX2_lawClause_6 : decode cX2_lawClause 6 = .ok (.iadd, 1) := dk_96 (dk_at dksX2_lawClause_0 6 rfl rfl)
theorem dX2_lawClause_7 : decode cX2_lawClause 7 = .ok (.aload_n 0, 1) := dk_42 (dk_at dksX2_lawClause_0 7 rfl rfl)
theorem dX2_lawClause_8 : decode cX2_lawClause 8 = .ok (.getfield 148, 3) := dk_180 0 148 (dk_at dksX2_lawClause_0 8 rfl rfl)
theorem dX2_lawClause_11 : decode cX2_lawClause 11 = .ok (.iastore, 1) := dk_79 (dk_at dksX2_lawClause_0 11 rfl rfl)
theorem dX2_lawClause_12 : decode cX2_lawClause 12 = .ok (.aload_n 0, 1) := dk_42 (dk_at dksX2_lawClause_0 12 rfl rfl)
theorem dX2_lawClause_13 : decode cX2_lawClause 13 = .ok (.iload_n 2, 1) := dk_28 (dk_at dksX2_lawClause_0 13 rfl rfl)
theorem dX2_lawClause_14 : decode cX2_lawClause 14 = .ok (.invokevirtual 248, 3) := dk_182 0 248 (dk_at dksX2_lawClause_0 14 rfl rfl)
theorem dX2_lawClause_17 : decode cX2_lawClause 17 = .ok (.istore_n 3, 1) := dk_62 (dk_at dksX2_lawClause_0 17 rfl rfl)
theorem dX2_lawClause_18 : decode cX2_lawClause 18 = .ok (.aload_n 0, 1) := dk_42 (dk_at dksX2_lawClause_0 18 rfl rfl)
theorem dX2_lawClause_19 : decode cX2_lawClause 19 = .ok (.getfield 16, 3) := dk_180 0 16 (dk_at dksX2_lawClause_0 19 rfl rfl)
theorem dX2_lawClause_22 : decode cX2_lawClause 22 = .ok (.iload_n 1, 1) := dk_27 (dk_at dksX2_lawClause_0 22 rfl rfl)
theorem dX2_lawClause_23 : decode cX2_lawClause 23 = .ok (.iconst 2, 1) := dk_5 (dk_at dksX2_lawClause_0 23 rfl rfl)
theorem dX2_lawClause_24 : decode cX2_lawClause 24 = .ok (.iadd, 1) := dk_96 (dk_at dksX2_lawClause_1 0 rfl rfl)
theorem dX2_lawClause_25 : decode cX2_lawClause 25 = .ok (.aload_n 0, 1) := dk_42 (dk_at dksX2_lawClause_1 1 rfl rfl)
theorem dX2_lawClause_26 : decode cX2_lawClause 26 = .ok (.getfield 148, 3) := dk_180 0 148 (dk_at dksX2_lawClause_1 2 rfl rfl)
theorem dX2_lawClause_29 : decode cX2_lawClause 29 = .ok (.iastore, 1) := dk_79 (dk_at dksX2_lawClause_1 5 rfl rfl)
theorem dX2_lawClause_30 : decode cX2_lawClause 30 = .ok (.iload_n 3, 1) := dk_29 (dk_at dksX2_lawClause_1 6 rfl rfl)
theorem dX2_lawClause_31 : decode cX2_lawClause 31 = .ok (.ireturn, 1) := dk_172 (dk_at dksX2_lawClause_1 7 rfl rfl)
abbrev cX2_parsed : ByteArray := prog_20_method_48_code
def yX2_parsed : MethodName := ⟨RX2, "parsed", "(Z)I"⟩
def dkwX2_parsed_3 : List UInt8 := [27, 153, 0, 12, 42, 182, 0, 220, 154, 0, 5, 4, 172, 42, 4, 182, 0, 204, 3, 172]
abbrev dktX2_parsed_3 : List UInt8 := dkwX2_parsed_3 ++ []
def dkwX2_parsed_2 : List UInt8 := [182, 0, 245, 61, 28, 158, 0, 5, 28, 172, 28, 154, 0, 6, 167, 255, 227, 42, 182, 0, 182, 156, 0, 14]
abbrev dktX2_parsed_2 : List UInt8 := dkwX2_parsed_2 ++ dktX2_parsed_3
def dkwX2_parsed_1 : List UInt8 := [181, 0, 178, 42, 3, 181, 0, 230, 42, 180, 0, 195, 153, 0, 10, 42, 182, 0, 242, 167, 0, 7, 42]
abbrev dktX2_parsed_1 : List UInt8 := dkwX2_parsed_1 ++ dktX2_parsed_2
def dkwX2_parsed_0 : List UInt8 := [42, 3, 181, 0, 165, 42, 3, 181, 0, 175, 42, 3, 181, 0, 192, 42, 3, 181, 0, 195, 42, 27]
abbrev dktX2_parsed_0 : List UInt8 := dkwX2_parsed_0 ++ dktX2_parsed_1
theorem dksX2_parsed_0 : cX2_parsed.data.toList.drop 0 = dktX2_parsed_0 := by decide +kernel
theorem dksX2_parsed_1 : cX2_parsed.data.toList.drop 22 = dktX2_parsed_1 := dk_seg dksX2_parsed_0 22 rfl rfl
theorem dksX2_parsed_2 : cX2_parsed.data.toList.drop 45 = dktX2_parsed_2 := dk_seg dksX2_parsed_1 23 rfl rfl
theorem dksX2_parsed_3 : cX2_parsed.data.toList.drop 69 = dktX2_parsed_3 := dk_seg dksX2_parsed_2 24 rfl rfl
theorem dX2_parsed_0 : decode cX2_parsed 0 = .ok (.aload_n 0, 1) := dk_42 (dk_at dksX2_parsed_0 0 rfl rfl)
theorem dX2_parsed_1 : decode cX2_parsed 1 = .ok (.iconst 0, 1) := dk_3 (dk_at dksX2_parsed_0 1 rfl rfl)
theorem dX2_parsed_2 : decode cX2_parsed 2 = .ok (.putfield 165, 3) := dk_181 0 165 (dk_at dksX2_parsed_0 2 rfl rfl)
theorem dX2_parsed_5 : decode cX2_parsed 5 = .ok (.aload_n 0, 1) := dk_42 (dk_at dksX2_parsed_0 5 rfl rfl)
theorem dX2_parsed_6 : decode cX2_parsed 6 = .ok (.iconst 0, 1) := dk_3 (dk_at dksX2_parsed_0 6 rfl rfl)
theorem dX2_parsed_7 : decode cX2_parsed 7 = .ok (.putfield 175, 3) := dk_181 0 175 (dk_at dksX2_parsed_0 7 rfl rfl)
theorem dX2_parsed_10 : decode cX2_parsed 10 = .ok (.aload_n 0, 1) := dk_42 (dk_at dksX2_parsed_0 10 rfl rfl)
theorem dX2_parsed_11 : decode cX2_parsed 11 = .ok (.iconst 0, 1) := dk_3 (dk_at dksX2_parsed_0 11 rfl rfl)
theorem dX2_parsed_12 : decode cX2_parsed 12 = .ok (.putfield 192, 3) := dk_181 0 192 (dk_at dksX2_parsed_0 12 rfl rfl)
theorem dX2_parsed_15 : decode cX2_parsed 15 = .ok (.aload_n 0, 1) := dk_42 (dk_at dksX2_parsed_0 15 rfl rfl)
theorem dX2_parsed_16 : decode cX2_parsed 16 = .ok (.iconst 0, 1) := dk_3 (dk_at dksX2_parsed_0 16 rfl rfl)
theorem dX2_parsed_17 : decode cX2_parsed 17 = .ok (.putfield 195, 3) := dk_181 0 195 (dk_at dksX2_parsed_0 17 rfl rfl)
theorem dX2_parsed_20 : decode cX2_parsed 20 = .ok (.aload_n 0, 1) := dk_42 (dk_at dksX2_parsed_0 20 rfl rfl)
theorem dX2_parsed_21 : decode cX2_parsed 21 = .ok (.iload_n 1, 1) := dk_27 (dk_at dksX2_parsed_0 21 rfl rfl)
theorem dX2_parsed_22 : decode cX2_parsed 22 = .ok (.putfield 178, 3) := dk_181 0 178 (dk_at dksX2_parsed_1 0 rfl rfl)
theorem dX2_parsed_25 : decode cX2_parsed 25 = .ok (.aload_n 0, 1) := dk_42 (dk_at dksX2_parsed_1 3 rfl rfl)
theorem dX2_parsed_26 : decode cX2_parsed 26 = .ok (.iconst 0, 1) := dk_3 (dk_at dksX2_parsed_1 4 rfl rfl)
theorem dX2_parsed_27 : decode cX2_parsed 27 = .ok (.putfield 230, 3) := dk_181 0 230 (dk_at dksX2_parsed_1 5 rfl rfl)
theorem dX2_parsed_30 : decode cX2_parsed 30 = .ok (.aload_n 0, 1) := dk_42 (dk_at dksX2_parsed_1 8 rfl rfl)
theorem dX2_parsed_31 : decode cX2_parsed 31 = .ok (.getfield 195, 3) := dk_180 0 195 (dk_at dksX2_parsed_1 9 rfl rfl)
theorem dX2_parsed_34 : decode cX2_parsed 34 = .ok (.ifCond .eq 10, 3) := dk_153 0 10 (dk_at dksX2_parsed_1 12 rfl rfl)
theorem dX2_parsed_37 : decode cX2_parsed 37 = .ok (.aload_n 0, 1) := dk_42 (dk_at dksX2_parsed_1 15 rfl rfl)
theorem dX2_parsed_38 : decode cX2_parsed 38 = .ok (.invokevirtual 242, 3) := dk_182 0 242 (dk_at dksX2_parsed_1 16 rfl rfl)
theorem dX2_parsed_41 : decode cX2_parsed 41 = .ok (.goto 7, 3) := dk_167 0 7 (dk_at dksX2_parsed_1 19 rfl rfl)
theorem dX2_parsed_44 : decode cX2_parsed 44 = .ok (.aload_n 0, 1) := dk_42 (dk_at dksX2_parsed_1 22 rfl rfl)
theorem dX2_parsed_45 : decode cX2_parsed 45 = .ok (.invokevirtual 245, 3) := dk_182 0 245 (dk_at dksX2_parsed_2 0 rfl rfl)
theorem dX2_parsed_48 : decode cX2_parsed 48 = .ok (.istore_n 2, 1) := dk_61 (dk_at dksX2_parsed_2 3 rfl rfl)
theorem dX2_parsed_49 : decode cX2_parsed 49 = .ok (.iload_n 2, 1) := dk_28 (dk_at dksX2_parsed_2 4 rfl rfl)
theorem dX2_parsed_50 : decode cX2_parsed 50 = .ok (.ifCond .le 5, 3) := dk_158 0 5 (dk_at dksX2_parsed_2 5 rfl rfl)
theorem dX2_parsed_53 : decode cX2_parsed 53 = .ok (.iload_n 2, 1) := dk_28 (dk_at dksX2_parsed_2 8 rfl rfl)
theorem dX2_parsed_54 : decode cX2_parsed 54 = .ok (.ireturn, 1) := dk_172 (dk_at dksX2_parsed_2 9 rfl rfl)
theorem dX2_parsed_55 : decode cX2_parsed 55 = .ok (.iload_n 2, 1) := dk_28 (dk_at dksX2_parsed_2 10 rfl rfl)
theorem dX2_parsed_56 : decode cX2_parsed 56 = .ok (.ifCond .ne 6, 3) := dk_154 0 6 (dk_at dksX2_parsed_2 11 rfl rfl)
theorem dX2_parsed_59 : decode cX2_parsed 59 = .ok (.goto (-29), 3) := dk_167 255 227 (dk_at dksX2_parsed_2 14 rfl rfl)
theorem dX2_parsed_62 : decode cX2_parsed 62 = .ok (.aload_n 0, 1) := dk_42 (dk_at dksX2_parsed_2 17 rfl rfl)
theorem dX2_parsed_63 : decode cX2_parsed 63 = .ok (.invokevirtual 182, 3) := dk_182 0 182 (dk_at dksX2_parsed_2 18 rfl rfl)
theorem dX2_parsed_66 : decode cX2_parsed 66 = .ok (.ifCond .ge 14, 3) := dk_156 0 14 (dk_at dksX2_parsed_2 21 rfl rfl)
theorem dX2_parsed_69 : decode cX2_parsed 69 = .ok (.iload_n 1, 1) := dk_27 (dk_at dksX2_parsed_3 0 rfl rfl)
theorem dX2_parsed_70 : decode cX2_parsed 70 = .ok (.ifCond .eq 12, 3) := dk_153 0 12 (dk_at dksX2_parsed_3 1 rfl rfl)
theorem dX2_parsed_73 : decode cX2_parsed 73 = .ok (.aload_n 0, 1) := dk_42 (dk_at dksX2_parsed_3 4 rfl rfl)
theorem dX2_parsed_74 : decode cX2_parsed 74 = .ok (.invokevirtual 220, 3) := dk_182 0 220 (dk_at dksX2_parsed_3 5 rfl rfl)
theorem dX2_parsed_77 : decode cX2_parsed 77 = .ok (.ifCond .ne 5, 3) := dk_154 0 5 (dk_at dksX2_parsed_3 8 rfl rfl)
theorem dX2_parsed_80 : decode cX2_parsed 80 = .ok (.iconst 1, 1) := dk_4 (dk_at dksX2_parsed_3 11 rfl rfl)
theorem dX2_parsed_81 : decode cX2_parsed 81 = .ok (.ireturn, 1) := dk_172 (dk_at dksX2_parsed_3 12 rfl rfl)
theorem dX2_parsed_82 : decode cX2_parsed 82 = .ok (.aload_n 0, 1) := dk_42 (dk_at dksX2_parsed_3 13 rfl rfl)
theorem dX2_parsed_83 : decode cX2_parsed 83 = .ok (.iconst 1, 1) := dk_4 (dk_at dksX2_parsed_3 14 rfl rfl)
theorem dX2_parsed_84 : decode cX2_parsed 84 = .ok (.invokevirtual 204, 3) := dk_182 0 204 (dk_at dksX2_parsed_3 15 rfl rfl)
theorem dX2_parsed_87 : decode cX2_parsed 87 = .ok (.iconst 0, 1) := dk_3 (dk_at dksX2_parsed_3 18 rfl rfl)
theorem dX2_parsed_88 : decode cX2_parsed 88 = .ok (.ireturn, 1) := dk_172 (dk_at dksX2_parsed_3 19 rfl rfl)
abbrev cX2_behindOne : ByteArray := prog_20_method_47_code
def yX2_behindOne : MethodName := ⟨RX2, "behindOne", "()I"⟩
def dkwX2_behindOne_5 : List UInt8 := [180, 0, 107, 16, 41, 159, 0, 5, 2, 172, 42, 28, 182, 0, 239, 3, 172]
abbrev dktX2_behindOne_5 : List UInt8 := dkwX2_behindOne_5 ++ []
def dkwX2_behindOne_4 : List UInt8 := [160, 0, 17, 42, 180, 0, 107, 16, 44, 160, 0, 8, 42, 182, 0, 236, 172, 28, 2, 159, 0, 12, 42]
abbrev dktX2_behindOne_4 : List UInt8 := dkwX2_behindOne_4 ++ dktX2_behindOne_5
def dkwX2_behindOne_3 : List UInt8 := [182, 0, 182, 61, 28, 16, 41, 160, 0, 12, 42, 182, 0, 220, 154, 0, 5, 2, 172, 28, 16, 41]
abbrev dktX2_behindOne_3 : List UInt8 := dkwX2_behindOne_3 ++ dktX2_behindOne_4
def dkwX2_behindOne_2 : List UInt8 := [160, 0, 7, 4, 167, 0, 4, 3, 128, 181, 0, 230, 42, 3, 181, 0, 195, 42, 182, 0, 189, 3, 172, 42]
abbrev dktX2_behindOne_2 : List UInt8 := dkwX2_behindOne_2 ++ dktX2_behindOne_3
def dkwX2_behindOne_1 : List UInt8 := [180, 0, 165, 27, 79, 42, 89, 180, 0, 165, 4, 96, 181, 0, 165, 42, 89, 180, 0, 230, 27, 16, 23]
abbrev dktX2_behindOne_1 : List UInt8 := dkwX2_behindOne_1 ++ dktX2_behindOne_2
def dkwX2_behindOne_0 : List UInt8 := [42, 182, 0, 233, 60, 27, 155, 0, 62, 42, 27, 184, 0, 168, 182, 0, 204, 42, 180, 0, 29, 42]
abbrev dktX2_behindOne_0 : List UInt8 := dkwX2_behindOne_0 ++ dktX2_behindOne_1
theorem dksX2_behindOne_0 : cX2_behindOne.data.toList.drop 0 = dktX2_behindOne_0 := by decide +kernel
theorem dksX2_behindOne_1 : cX2_behindOne.data.toList.drop 22 = dktX2_behindOne_1 := dk_seg dksX2_behindOne_0 22 rfl rfl
theorem dksX2_behindOne_2 : cX2_behindOne.data.toList.drop 45 = dktX2_behindOne_2 := dk_seg dksX2_behindOne_1 23 rfl rfl
theorem dksX2_behindOne_3 : cX2_behindOne.data.toList.drop 69 = dktX2_behindOne_3 := dk_seg dksX2_behindOne_2 24 rfl rfl
theorem dksX2_behindOne_4 : cX2_behindOne.data.toList.drop 91 = dktX2_behindOne_4 := dk_seg dksX2_behindOne_3 22 rfl rfl
theorem dksX2_behindOne_5 : cX2_behindOne.data.toList.drop 114 = dktX2_behindOne_5 := dk_seg dksX2_behindOne_4 23 rfl rfl
theorem dX2_behindOne_0 : decode cX2_behindOne 0 = .ok (.aload_n 0, 1) := dk_42 (dk_at dksX2_behindOne_0 0 rfl rfl)
theorem dX2_behindOne_1 : decode cX2_behindOne 1 = .ok (.invokevirtual 233, 3) := dk_182 0 233 (dk_at dksX2_behindOne_0 1 rfl rfl)
theorem dX2_behindOne_4 : decode cX2_behindOne 4 = .ok (.istore_n 1, 1) := dk_60 (dk_at dksX2_behindOne_0 4 rfl rfl)
theorem dX2_behindOne_5 : decode cX2_behindOne 5 = .ok (.iload_n 1, 1) := dk_27 (dk_at dksX2_behindOne_0 5 rfl rfl)
theorem dX2_behindOne_6 : decode cX2_behindOne 6 = .ok (.ifCond .lt 62, 3) := dk_155 0 62 (dk_at dksX2_behindOne_0 6 rfl rfl)
theorem dX2_behindOne_9 : decode cX2_behindOne 9 = .ok (.aload_n 0, 1) := dk_42 (dk_at dksX2_behindOne_0 9 rfl rfl)
theorem dX2_behindOne_10 : decode cX2_behindOne 10 = .ok (.iload_n 1, 1) := dk_27 (dk_at dksX2_behindOne_0 10 rfl rfl)
theorem dX2_behindOne_11 : decode cX2_behindOne 11 = .ok (.invokestatic 168, 3) := dk_184 0 168 (dk_at dksX2_behindOne_0 11 rfl rfl)
theorem dX2_behindOne_14 : decode cX2_behindOne 14 = .ok (.invokevirtual 204, 3) := dk_182 0 204 (dk_at dksX2_behindOne_0 14 rfl rfl)
theorem dX2_behindOne_17 : decode cX2_behindOne 17 = .ok (.aload_n 0, 1) := dk_42 (dk_at dksX2_behindOne_0 17 rfl rfl)
theorem dX2_behindOne_18 : decode cX2_behindOne 18 = .ok (.getfield 29, 3) := dk_180 0 29 (dk_at dksX2_behindOne_0 18 rfl rfl)
theorem dX2_behindOne_21 : decode cX2_behindOne 21 = .ok (.aload_n 0, 1) := dk_42 (dk_at dksX2_behindOne_0 21 rfl rfl)
theorem dX2_behindOne_22 : decode cX2_behindOne 22 = .ok (.getfield 165, 3) := dk_180 0 165 (dk_at dksX2_behindOne_1 0 rfl rfl)
theorem dX2_behindOne_25 : decode cX2_behindOne 25 = .ok (.iload_n 1, 1) := dk_27 (dk_at dksX2_behindOne_1 3 rfl rfl)
theorem dX2_behindOne_26 : decode cX2_behindOne 26 = .ok (.iastore, 1) := dk_79 (dk_at dksX2_behindOne_1 4 rfl rfl)
theorem dX2_behindOne_27 : decode cX2_behindOne 27 = .ok (.aload_n 0, 1) := dk_42 (dk_at dksX2_behindOne_1 5 rfl rfl)
theorem dX2_behindOne_28 : decode cX2_behindOne 28 = .ok (.dup, 1) := dk_89 (dk_at dksX2_behindOne_1 6 rfl rfl)
theorem dX2_behindOne_29 : decode cX2_behindOne 29 = .ok (.getfield 165, 3) := dk_180 0 165 (dk_at dksX2_behindOne_1 7 rfl rfl)
theorem dX2_behindOne_32 : decode cX2_behindOne 32 = .ok (.iconst 1, 1) := dk_4 (dk_at dksX2_behindOne_1 10 rfl rfl)
theorem dX2_behindOne_33 : decode cX2_behindOne 33 = .ok (.iadd, 1) := dk_96 (dk_at dksX2_behindOne_1 11 rfl rfl)
theorem dX2_behindOne_34 : decode cX2_behindOne 34 = .ok (.putfield 165, 3) := dk_181 0 165 (dk_at dksX2_behindOne_1 12 rfl rfl)
theorem dX2_behindOne_37 : decode cX2_behindOne 37 = .ok (.aload_n 0, 1) := dk_42 (dk_at dksX2_behindOne_1 15 rfl rfl)
theorem dX2_behindOne_38 : decode cX2_behindOne 38 = .ok (.dup, 1) := dk_89 (dk_at dksX2_behindOne_1 16 rfl rfl)
theorem dX2_behindOne_39 : decode cX2_behindOne 39 = .ok (.getfield 230, 3) := dk_180 0 230 (dk_at dksX2_behindOne_1 17 rfl rfl)
theorem dX2_behindOne_42 : decode cX2_behindOne 42 = .ok (.iload_n 1, 1) := dk_27 (dk_at dksX2_behindOne_1 20 rfl rfl)
theorem dX2_behindOne_43 : decode cX2_behindOne 43 = .ok (.bipush 23, 2) := dk_16 23 (dk_at dksX2_behindOne_1 21 rfl rfl)
theorem dX2_behindOne_45 : decode cX2_behindOne 45 = .ok (.if_icmp .ne 7, 3) := dk_160 0 7 (dk_at dksX2_behindOne_2 0 rfl rfl)
theorem dX2_behindOne_48 : decode cX2_behindOne 48 = .ok (.iconst 1, 1) := dk_4 (dk_at dksX2_behindOne_2 3 rfl rfl)
theorem dX2_behindOne_49 : decode cX2_behindOne 49 = .ok (.goto 4, 3) := dk_167 0 4 (dk_at dksX2_behindOne_2 4 rfl rfl)
theorem dX2_behindOne_52 : decode cX2_behindOne 52 = .ok (.iconst 0, 1) := dk_3 (dk_at dksX2_behindOne_2 7 rfl rfl)
theorem dX2_behindOne_53 : decode cX2_behindOne 53 = .ok (.ior, 1) := dk_128 (dk_at dksX2_behindOne_2 8 rfl rfl)
theorem dX2_behindOne_54 : decode cX2_behindOne 54 = .ok (.putfield 230, 3) := dk_181 0 230 (dk_at dksX2_behindOne_2 9 rfl rfl)
theorem dX2_behindOne_57 : decode cX2_behindOne 57 = .ok (.aload_n 0, 1) := dk_42 (dk_at dksX2_behindOne_2 12 rfl rfl)
theorem dX2_behindOne_58 : decode cX2_behindOne 58 = .ok (.iconst 0, 1) := dk_3 (dk_at dksX2_behindOne_2 13 rfl rfl)
theorem dX2_behindOne_59 : decode cX2_behindOne 59 = .ok (.putfield 195, 3) := dk_181 0 195 (dk_at dksX2_behindOne_2 14 rfl rfl)
theorem dX2_behindOne_62 : decode cX2_behindOne 62 = .ok (.aload_n 0, 1) := dk_42 (dk_at dksX2_behindOne_2 17 rfl rfl)
theorem dX2_behindOne_63 : decode cX2_behindOne 63 = .ok (.invokevirtual 189, 3) := dk_182 0 189 (dk_at dksX2_behindOne_2 18 rfl rfl)
theorem dX2_behindOne_66 : decode cX2_behindOne 66 = .ok (.iconst 0, 1) := dk_3 (dk_at dksX2_behindOne_2 21 rfl rfl)
theorem dX2_behindOne_67 : decode cX2_behindOne 67 = .ok (.ireturn, 1) := dk_172 (dk_at dksX2_behindOne_2 22 rfl rfl)
theorem dX2_behindOne_68 : decode cX2_behindOne 68 = .ok (.aload_n 0, 1) := dk_42 (dk_at dksX2_behindOne_2 23 rfl rfl)
theorem dX2_behindOne_69 : decode cX2_behindOne 69 = .ok (.invokevirtual 182, 3) := dk_182 0 182 (dk_at dksX2_behindOne_3 0 rfl rfl)
theorem dX2_behindOne_72 : decode cX2_behindOne 72 = .ok (.istore_n 2, 1) := dk_61 (dk_at dksX2_behindOne_3 3 rfl rfl)
theorem dX2_behindOne_73 : decode cX2_behindOne 73 = .ok (.iload_n 2, 1) := dk_28 (dk_at dksX2_behindOne_3 4 rfl rfl)
theorem dX2_behindOne_74 : decode cX2_behindOne 74 = .ok (.bipush 41, 2) := dk_16 41 (dk_at dksX2_behindOne_3 5 rfl rfl)
theorem dX2_behindOne_76 : decode cX2_behindOne 76 = .ok (.if_icmp .ne 12, 3) := dk_160 0 12 (dk_at dksX2_behindOne_3 7 rfl rfl)
theorem dX2_behindOne_79 : decode cX2_behindOne 79 = .ok (.aload_n 0, 1) := dk_42 (dk_at dksX2_behindOne_3 10 rfl rfl)
theorem dX2_behindOne_80 : decode cX2_behindOne 80 = .ok (.invokevirtual 220, 3) := dk_182 0 220 (dk_at dksX2_behindOne_3 11 rfl rfl)
theorem dX2_behindOne_83 : decode cX2_behindOne 83 = .ok (.ifCond .ne 5, 3) := dk_154 0 5 (dk_at dksX2_behindOne_3 14 rfl rfl)
theorem dX2_behindOne_86 : decode cX2_behindOne 86 = .ok (.iconst (-1), 1) := dk_2 (dk_at dksX2_behindOne_3 17 rfl rfl)
theorem dX2_behindOne_87 : decode cX2_behindOne 87 = .ok (.ireturn, 1) := dk_172 (dk_at dksX2_behindOne_3 18 rfl rfl)
theorem dX2_behindOne_88 : decode cX2_behindOne 88 = .ok (.iload_n 2, 1) := dk_28 (dk_at dksX2_behindOne_3 19 rfl rfl)
theorem dX2_behindOne_89 : decode cX2_behindOne 89 = .ok (.bipush 41, 2) := dk_16 41 (dk_at dksX2_behindOne_3 20 rfl rfl)
theorem dX2_behindOne_91 : decode cX2_behindOne 91 = .ok (.if_icmp .ne 17, 3) := dk_160 0 17 (dk_at dksX2_behindOne_4 0 rfl rfl)
theorem dX2_behindOne_94 : decode cX2_behindOne 94 = .ok (.aload_n 0, 1) := dk_42 (dk_at dksX2_behindOne_4 3 rfl rfl)
theorem dX2_behindOne_95 : decode cX2_behindOne 95 = .ok (.getfield 107, 3) := dk_180 0 107 (dk_at dksX2_behindOne_4 4 rfl rfl)
theorem dX2_behindOne_98 : decode cX2_behindOne 98 = .ok (.bipush 44, 2) := dk_16 44 (dk_at dksX2_behindOne_4 7 rfl rfl)
theorem dX2_behindOne_100 : decode cX2_behindOne 100 = .ok (.if_icmp .ne 8, 3) := dk_160 0 8 (dk_at dksX2_behindOne_4 9 rfl rfl)
theorem dX2_behindOne_103 : decode cX2_behindOne 103 = .ok (.aload_n 0, 1) := dk_42 (dk_at dksX2_behindOne_4 12 rfl rfl)
theorem dX2_behindOne_104 : decode cX2_behindOne 104 = .ok (.invokevirtual 236, 3) := dk_182 0 236 (dk_at dksX2_behindOne_4 13 rfl rfl)
theorem dX2_behindOne_107 : decode cX2_behindOne 107 = .ok (.ireturn, 1) := dk_172 (dk_at dksX2_behindOne_4 16 rfl rfl)
theorem dX2_behindOne_108 : decode cX2_behindOne 108 = .ok (.iload_n 2, 1) := dk_28 (dk_at dksX2_behindOne_4 17 rfl rfl)
theorem dX2_behindOne_109 : decode cX2_behindOne 109 = .ok (.iconst (-1), 1) := dk_2 (dk_at dksX2_behindOne_4 18 rfl rfl)
theorem dX2_behindOne_110 : decode cX2_behindOne 110 = .ok (.if_icmp .eq 12, 3) := dk_159 0 12 (dk_at dksX2_behindOne_4 19 rfl rfl)
theorem dX2_behindOne_113 : decode cX2_behindOne 113 = .ok (.aload_n 0, 1) := dk_42 (dk_at dksX2_behindOne_4 22 rfl rfl)
theorem dX2_behindOne_114 : decode cX2_behindOne 114 = .ok (.getfield 107, 3) := dk_180 0 107 (dk_at dksX2_behindOne_5 0 rfl rfl)
theorem dX2_behindOne_117 : decode cX2_behindOne 117 = .ok (.bipush 41, 2) := dk_16 41 (dk_at dksX2_behindOne_5 3 rfl rfl)
theorem dX2_behindOne_119 : decode cX2_behindOne 119 = .ok (.if_icmp .eq 5, 3) := dk_159 0 5 (dk_at dksX2_behindOne_5 5 rfl rfl)
theorem dX2_behindOne_122 : decode cX2_behindOne 122 = .ok (.iconst (-1), 1) := dk_2 (dk_at dksX2_behindOne_5 8 rfl rfl)
theorem dX2_behindOne_123 : decode cX2_behindOne 123 = .ok (.ireturn, 1) := dk_172 (dk_at dksX2_behindOne_5 9 rfl rfl)
theorem dX2_behindOne_124 : decode cX2_behindOne 124 = .ok (.aload_n 0, 1) := dk_42 (dk_at dksX2_behindOne_5 10 rfl rfl)
theorem dX2_behindOne_125 : decode cX2_behindOne 125 = .ok (.iload_n 2, 1) := dk_28 (dk_at dksX2_behindOne_5 11 rfl rfl)
theorem dX2_behindOne_126 : decode cX2_behindOne 126 = .ok (.invokevirtual 239, 3) := dk_182 0 239 (dk_at dksX2_behindOne_5 12 rfl rfl)
theorem dX2_behindOne_129 : decode cX2_behindOne 129 = .ok (.iconst 0, 1) := dk_3 (dk_at dksX2_behindOne_5 15 rfl rfl)
theorem dX2_behindOne_130 : decode cX2_behindOne 130 = .ok (.ireturn, 1) := dk_172 (dk_at dksX2_behindOne_5 16 rfl rfl)
abbrev cX2_betweenOf : ByteArray := prog_20_method_44_code
def yX2_betweenOf : MethodName := ⟨RX2, "betweenOf", "()I"⟩
def dkwX2_betweenOf_8 : List UInt8 := [16, 23, 167, 0, 4, 2, 172]
abbrev dktX2_betweenOf_8 : List UInt8 := dkwX2_betweenOf_8 ++ []
def dkwX2_betweenOf_7 : List UInt8 := [184, 0, 226, 182, 0, 213, 153, 0, 23, 42, 182, 0, 182, 2, 160, 0, 15, 42, 180, 0, 230, 154, 0, 8]
abbrev dktX2_betweenOf_7 : List UInt8 := dkwX2_betweenOf_7 ++ dktX2_betweenOf_8
def dkwX2_betweenOf_6 : List UInt8 := [182, 0, 213, 153, 0, 6, 16, 22, 172, 42, 16, 117, 16, 110, 16, 108, 16, 101, 16, 115, 16, 115]
abbrev dktX2_betweenOf_6 : List UInt8 := dkwX2_betweenOf_6 ++ dktX2_betweenOf_7
def dkwX2_betweenOf_5 : List UInt8 := [16, 110, 16, 100, 184, 0, 133, 182, 0, 213, 153, 0, 6, 16, 21, 172, 42, 16, 111, 16, 114, 184, 0, 129]
abbrev dktX2_betweenOf_5 : List UInt8 := dkwX2_betweenOf_5 ++ dktX2_betweenOf_6
def dkwX2_betweenOf_4 : List UInt8 := [182, 0, 186, 154, 0, 5, 2, 172, 42, 182, 0, 220, 154, 0, 8, 42, 182, 0, 223, 172, 42, 16, 97]
abbrev dktX2_betweenOf_4 : List UInt8 := dkwX2_betweenOf_4 ++ dktX2_betweenOf_5
def dkwX2_betweenOf_3 : List UInt8 := [160, 0, 6, 16, 7, 172, 27, 154, 0, 15, 42, 180, 0, 107, 16, 47, 160, 0, 6, 16, 8, 172, 42]
abbrev dktX2_betweenOf_3 : List UInt8 := dkwX2_betweenOf_3 ++ dktX2_betweenOf_4
def dkwX2_betweenOf_2 : List UInt8 := [42, 180, 0, 107, 16, 45, 160, 0, 6, 16, 6, 172, 27, 154, 0, 15, 42, 180, 0, 107, 16, 42]
abbrev dktX2_betweenOf_2 : List UInt8 := dkwX2_betweenOf_2 ++ dktX2_betweenOf_3
def dkwX2_betweenOf_1 : List UInt8 := [167, 0, 4, 3, 60, 27, 154, 0, 14, 42, 180, 0, 107, 16, 43, 160, 0, 5, 8, 172, 27, 154, 0, 15]
abbrev dktX2_betweenOf_1 : List UInt8 := dkwX2_betweenOf_1 ++ dktX2_betweenOf_2
def dkwX2_betweenOf_0 : List UInt8 := [42, 180, 0, 165, 158, 0, 23, 42, 180, 0, 29, 42, 180, 0, 165, 4, 100, 46, 16, 16, 160, 0, 7, 4]
abbrev dktX2_betweenOf_0 : List UInt8 := dkwX2_betweenOf_0 ++ dktX2_betweenOf_1
theorem dksX2_betweenOf_0 : cX2_betweenOf.data.toList.drop 0 = dktX2_betweenOf_0 := by decide +kernel
theorem dksX2_betweenOf_1 : cX2_betweenOf.data.toList.drop 24 = dktX2_betweenOf_1 := dk_seg dksX2_betweenOf_0 24 rfl rfl
theorem dksX2_betweenOf_2 : cX2_betweenOf.data.toList.drop 48 = dktX2_betweenOf_2 := dk_seg dksX2_betweenOf_1 24 rfl rfl
theorem dksX2_betweenOf_3 : cX2_betweenOf.data.toList.drop 70 = dktX2_betweenOf_3 := dk_seg dksX2_betweenOf_2 22 rfl rfl
theorem dksX2_betweenOf_4 : cX2_betweenOf.data.toList.drop 93 = dktX2_betweenOf_4 := dk_seg dksX2_betweenOf_3 23 rfl rfl
theorem dksX2_betweenOf_5 : cX2_betweenOf.data.toList.drop 116 = dktX2_betweenOf_5 := dk_seg dksX2_betweenOf_4 23 rfl rfl
theorem dksX2_betweenOf_6 : cX2_betweenOf.data.toList.drop 140 = dktX2_betweenOf_6 := dk_seg dksX2_betweenOf_5 24 rfl rfl
theorem dksX2_betweenOf_7 : cX2_betweenOf.data.toList.drop 162 = dktX2_betweenOf_7 := dk_seg dksX2_betweenOf_6 22 rfl rfl
theorem dksX2_betweenOf_8 : cX2_betweenOf.data.toList.drop 186 = dktX2_betweenOf_8 := dk_seg dksX2_betweenOf_7 24 rfl rfl
theorem dX2_betweenOf_0 : decode cX2_betweenOf 0 = .ok (.aload_n 0, 1) := dk_42 (dk_at dksX2_betweenOf_0 0 rfl rfl)
theorem dX2_betweenOf_1 : decode cX2_betweenOf 1 = .ok (.getfield 165, 3) := dk_180 0 165 (dk_at dksX2_betweenOf_0 1 rfl rfl)
theorem dX2_betweenOf_4 : decode cX2_betweenOf 4 = .ok (.ifCond .le 23, 3) := dk_158 0 23 (dk_at dksX2_betweenOf_0 4 rfl rfl)
theorem dX2_betweenOf_7 : decode cX2_betweenOf 7 = .ok (.aload_n 0, 1) := dk_42 (dk_at dksX2_betweenOf_0 7 rfl rfl)
theorem dX2_betweenOf_8 : decode cX2_betweenOf 8 = .ok (.getfield 29, 3) := dk_180 0 29 (dk_at dksX2_betweenOf_0 8 rfl rfl)
theorem dX2_betweenOf_11 : decode cX2_betweenOf 11 = .ok (.aload_n 0, 1) := dk_42 (dk_at dksX2_betweenOf_0 11 rfl rfl)
theorem dX2_betweenOf_12 : decode cX2_betweenOf 12 = .ok (.getfield 165, 3) := dk_180 0 165 (dk_at dksX2_betweenOf_0 12 rfl rfl)
theorem dX2_betweenOf_15 : decode cX2_betweenOf 15 = .ok (.iconst 1, 1) := dk_4 (dk_at dksX2_betweenOf_0 15 rfl rfl)
theorem dX2_betweenOf_16 : decode cX2_betweenOf 16 = .ok (.isub, 1) := dk_100 (dk_at dksX2_betweenOf_0 16 rfl rfl)
theorem dX2_betweenOf_17 : decode cX2_betweenOf 17 = .ok (.iaload, 1) := dk_46 (dk_at dksX2_betweenOf_0 17 rfl rfl)
theorem dX2_betweenOf_18 : decode cX2_betweenOf 18 = .ok (.bipush 16, 2) := dk_16 16 (dk_at dksX2_betweenOf_0 18 rfl rfl)
theorem dX2_betweenOf_20 : decode cX2_betweenOf 20 = .ok (.if_icmp .ne 7, 3) := dk_160 0 7 (dk_at dksX2_betweenOf_0 20 rfl rfl)
theorem dX2_betweenOf_23 : decode cX2_betweenOf 23 = .ok (.iconst 1, 1) := dk_4 (dk_at dksX2_betweenOf_0 23 rfl rfl)
theorem dX2_betweenOf_24 : decode cX2_betweenOf 24 = .ok (.goto 4, 3) := dk_167 0 4 (dk_at dksX2_betweenOf_1 0 rfl rfl)
theorem dX2_betweenOf_27 : decode cX2_betweenOf 27 = .ok (.iconst 0, 1) := dk_3 (dk_at dksX2_betweenOf_1 3 rfl rfl)
theorem dX2_betweenOf_28 : decode cX2_betweenOf 28 = .ok (.istore_n 1, 1) := dk_60 (dk_at dksX2_betweenOf_1 4 rfl rfl)
theorem dX2_betweenOf_29 : decode cX2_betweenOf 29 = .ok (.iload_n 1, 1) := dk_27 (dk_at dksX2_betweenOf_1 5 rfl rfl)
theorem dX2_betweenOf_30 : decode cX2_betweenOf 30 = .ok (.ifCond .ne 14, 3) := dk_154 0 14 (dk_at dksX2_betweenOf_1 6 rfl rfl)
theorem dX2_betweenOf_33 : decode cX2_betweenOf 33 = .ok (.aload_n 0, 1) := dk_42 (dk_at dksX2_betweenOf_1 9 rfl rfl)
theorem dX2_betweenOf_34 : decode cX2_betweenOf 34 = .ok (.getfield 107, 3) := dk_180 0 107 (dk_at dksX2_betweenOf_1 10 rfl rfl)
theorem dX2_betweenOf_37 : decode cX2_betweenOf 37 = .ok (.bipush 43, 2) := dk_16 43 (dk_at dksX2_betweenOf_1 13 rfl rfl)
theorem dX2_betweenOf_39 : decode cX2_betweenOf 39 = .ok (.if_icmp .ne 5, 3) := dk_160 0 5 (dk_at dksX2_betweenOf_1 15 rfl rfl)
theorem dX2_betweenOf_42 : decode cX2_betweenOf 42 = .ok (.iconst 5, 1) := dk_8 (dk_at dksX2_betweenOf_1 18 rfl rfl)
theorem dX2_betweenOf_43 : decode cX2_betweenOf 43 = .ok (.ireturn, 1) := dk_172 (dk_at dksX2_betweenOf_1 19 rfl rfl)
theorem dX2_betweenOf_44 : decode cX2_betweenOf 44 = .ok (.iload_n 1, 1) := dk_27 (dk_at dksX2_betweenOf_1 20 rfl rfl)
theorem dX2_betweenOf_45 : decode cX2_betweenOf 45 = .ok (.ifCond .ne 15, 3) := dk_154 0 15 (dk_at dksX2_betweenOf_1 21 rfl rfl)
theorem dX2_betweenOf_48 : decode cX2_betweenOf 48 = .ok (.aload_n 0, 1) := dk_42 (dk_at dksX2_betweenOf_2 0 rfl rfl)
theorem dX2_betweenOf_49 : decode cX2_betweenOf 49 = .ok (.getfield 107, 3) := dk_180 0 107 (dk_at dksX2_betweenOf_2 1 rfl rfl)
theorem dX2_betweenOf_52 : decode cX2_betweenOf 52 = .ok (.bipush 45, 2) := dk_16 45 (dk_at dksX2_betweenOf_2 4 rfl rfl)
theorem dX2_betweenOf_54 : decode cX2_betweenOf 54 = .ok (.if_icmp .ne 6, 3) := dk_160 0 6 (dk_at dksX2_betweenOf_2 6 rfl rfl)
theorem dX2_betweenOf_57 : decode cX2_betweenOf 57 = .ok (.bipush 6, 2) := dk_16 6 (dk_at dksX2_betweenOf_2 9 rfl rfl)
theorem dX2_betweenOf_59 : decode cX2_betweenOf 59 = .ok (.ireturn, 1) := dk_172 (dk_at dksX2_betweenOf_2 11 rfl rfl)
theorem dX2_betweenOf_60 : decode cX2_betweenOf 60 = .ok (.iload_n 1, 1) := dk_27 (dk_at dksX2_betweenOf_2 12 rfl rfl)
theorem dX2_betweenOf_61 : decode cX2_betweenOf 61 = .ok (.ifCond .ne 15, 3) := dk_154 0 15 (dk_at dksX2_betweenOf_2 13 rfl rfl)
theorem dX2_betweenOf_64 : decode cX2_betweenOf 64 = .ok (.aload_n 0, 1) := dk_42 (dk_at dksX2_betweenOf_2 16 rfl rfl)
theorem dX2_betweenOf_65 : decode cX2_betweenOf 65 = .ok (.getfield 107, 3) := dk_180 0 107 (dk_at dksX2_betweenOf_2 17 rfl rfl)
theorem dX2_betweenOf_68 : decode cX2_betweenOf 68 = .ok (.bipush 42, 2) := dk_16 42 (dk_at dksX2_betweenOf_2 20 rfl rfl)
theorem dX2_betweenOf_70 : decode cX2_betweenOf 70 = .ok (.if_icmp .ne 6, 3) := dk_160 0 6 (dk_at dksX2_betweenOf_3 0 rfl rfl)
theorem dX2_betweenOf_73 : decode cX2_betweenOf 73 = .ok (.bipush 7, 2) := dk_16 7 (dk_at dksX2_betweenOf_3 3 rfl rfl)
theorem dX2_betweenOf_75 : decode cX2_betweenOf 75 = .ok (.ireturn, 1) := dk_172 (dk_at dksX2_betweenOf_3 5 rfl rfl)
theorem dX2_betweenOf_76 : decode cX2_betweenOf 76 = .ok (.iload_n 1, 1) := dk_27 (dk_at dksX2_betweenOf_3 6 rfl rfl)
theorem dX2_betweenOf_77 : decode cX2_betweenOf 77 = .ok (.ifCond .ne 15, 3) := dk_154 0 15 (dk_at dksX2_betweenOf_3 7 rfl rfl)
theorem dX2_betweenOf_80 : decode cX2_betweenOf 80 = .ok (.aload_n 0, 1) := dk_42 (dk_at dksX2_betweenOf_3 10 rfl rfl)
theorem dX2_betweenOf_81 : decode cX2_betweenOf 81 = .ok (.getfield 107, 3) := dk_180 0 107 (dk_at dksX2_betweenOf_3 11 rfl rfl)
theorem dX2_betweenOf_84 : decode cX2_betweenOf 84 = .ok (.bipush 47, 2) := dk_16 47 (dk_at dksX2_betweenOf_3 14 rfl rfl)
theorem dX2_betweenOf_86 : decode cX2_betweenOf 86 = .ok (.if_icmp .ne 6, 3) := dk_160 0 6 (dk_at dksX2_betweenOf_3 16 rfl rfl)
theorem dX2_betweenOf_89 : decode cX2_betweenOf 89 = .ok (.bipush 8, 2) := dk_16 8 (dk_at dksX2_betweenOf_3 19 rfl rfl)
theorem dX2_betweenOf_91 : decode cX2_betweenOf 91 = .ok (.ireturn, 1) := dk_172 (dk_at dksX2_betweenOf_3 21 rfl rfl)
theorem dX2_betweenOf_92 : decode cX2_betweenOf 92 = .ok (.aload_n 0, 1) := dk_42 (dk_at dksX2_betweenOf_3 22 rfl rfl)
theorem dX2_betweenOf_93 : decode cX2_betweenOf 93 = .ok (.invokevirtual 186, 3) := dk_182 0 186 (dk_at dksX2_betweenOf_4 0 rfl rfl)
theorem dX2_betweenOf_96 : decode cX2_betweenOf 96 = .ok (.ifCond .ne 5, 3) := dk_154 0 5 (dk_at dksX2_betweenOf_4 3 rfl rfl)
theorem dX2_betweenOf_99 : decode cX2_betweenOf 99 = .ok (.iconst (-1), 1) := dk_2 (dk_at dksX2_betweenOf_4 6 rfl rfl)
theorem dX2_betweenOf_100 : decode cX2_betweenOf 100 = .ok (.ireturn, 1) := dk_172 (dk_at dksX2_betweenOf_4 7 rfl rfl)
theorem dX2_betweenOf_101 : decode cX2_betweenOf 101 = .ok (.aload_n 0, 1) := dk_42 (dk_at dksX2_betweenOf_4 8 rfl rfl)
theorem dX2_betweenOf_102 : decode cX2_betweenOf 102 = .ok (.invokevirtual 220, 3) := dk_182 0 220 (dk_at dksX2_betweenOf_4 9 rfl rfl)
theorem dX2_betweenOf_105 : decode cX2_betweenOf 105 = .ok (.ifCond .ne 8, 3) := dk_154 0 8 (dk_at dksX2_betweenOf_4 12 rfl rfl)
theorem dX2_betweenOf_108 : decode cX2_betweenOf 108 = .ok (.aload_n 0, 1) := dk_42 (dk_at dksX2_betweenOf_4 15 rfl rfl)
theorem dX2_betweenOf_109 : decode cX2_betweenOf 109 = .ok (.invokevirtual 223, 3) := dk_182 0 223 (dk_at dksX2_betweenOf_4 16 rfl rfl)
theorem dX2_betweenOf_112 : decode cX2_betweenOf 112 = .ok (.ireturn, 1) := dk_172 (dk_at dksX2_betweenOf_4 19 rfl rfl)
theorem dX2_betweenOf_113 : decode cX2_betweenOf 113 = .ok (.aload_n 0, 1) := dk_42 (dk_at dksX2_betweenOf_4 20 rfl rfl)
theorem dX2_betweenOf_114 : decode cX2_betweenOf 114 = .ok (.bipush 97, 2) := dk_16 97 (dk_at dksX2_betweenOf_4 21 rfl rfl)
theorem dX2_betweenOf_116 : decode cX2_betweenOf 116 = .ok (.bipush 110, 2) := dk_16 110 (dk_at dksX2_betweenOf_5 0 rfl rfl)
theorem dX2_betweenOf_118 : decode cX2_betweenOf 118 = .ok (.bipush 100, 2) := dk_16 100 (dk_at dksX2_betweenOf_5 2 rfl rfl)
theorem dX2_betweenOf_120 : decode cX2_betweenOf 120 = .ok (.invokestatic 133, 3) := dk_184 0 133 (dk_at dksX2_betweenOf_5 4 rfl rfl)
theorem dX2_betweenOf_123 : decode cX2_betweenOf 123 = .ok (.invokevirtual 213, 3) := dk_182 0 213 (dk_at dksX2_betweenOf_5 7 rfl rfl)
theorem dX2_betweenOf_126 : decode cX2_betweenOf 126 = .ok (.ifCond .eq 6, 3) := dk_153 0 6 (dk_at dksX2_betweenOf_5 10 rfl rfl)
theorem dX2_betweenOf_129 : decode cX2_betweenOf 129 = .ok (.bipush 21, 2) := dk_16 21 (dk_at dksX2_betweenOf_5 13 rfl rfl)
theorem dX2_betweenOf_131 : decode cX2_betweenOf 131 = .ok (.ireturn, 1) := dk_172 (dk_at dksX2_betweenOf_5 15 rfl rfl)
theorem dX2_betweenOf_132 : decode cX2_betweenOf 132 = .ok (.aload_n 0, 1) := dk_42 (dk_at dksX2_betweenOf_5 16 rfl rfl)
theorem dX2_betweenOf_133 : decode cX2_betweenOf 133 = .ok (.bipush 111, 2) := dk_16 111 (dk_at dksX2_betweenOf_5 17 rfl rfl)
theorem dX2_betweenOf_135 : decode cX2_betweenOf 135 = .ok (.bipush 114, 2) := dk_16 114 (dk_at dksX2_betweenOf_5 19 rfl rfl)
theorem dX2_betweenOf_137 : decode cX2_betweenOf 137 = .ok (.invokestatic 129, 3) := dk_184 0 129 (dk_at dksX2_betweenOf_5 21 rfl rfl)
theorem dX2_betweenOf_140 : decode cX2_betweenOf 140 = .ok (.invokevirtual 213, 3) := dk_182 0 213 (dk_at dksX2_betweenOf_6 0 rfl rfl)
theorem dX2_betweenOf_143 : decode cX2_betweenOf 143 = .ok (.ifCond .eq 6, 3) := dk_153 0 6 (dk_at dksX2_betweenOf_6 3 rfl rfl)
theorem dX2_betweenOf_146 : decode cX2_betweenOf 146 = .ok (.bipush 22, 2) := dk_16 22 (dk_at dksX2_betweenOf_6 6 rfl rfl)
theorem dX2_betweenOf_148 : decode cX2_betweenOf 148 = .ok (.ireturn, 1) := dk_172 (dk_at dksX2_betweenOf_6 8 rfl rfl)
theorem dX2_betweenOf_149 : decode cX2_betweenOf 149 = .ok (.aload_n 0, 1) := dk_42 (dk_at dksX2_betweenOf_6 9 rfl rfl)
theorem dX2_betweenOf_150 : decode cX2_betweenOf 150 = .ok (.bipush 117, 2) := dk_16 117 (dk_at dksX2_betweenOf_6 10 rfl rfl)
theorem dX2_betweenOf_152 : decode cX2_betweenOf 152 = .ok (.bipush 110, 2) := dk_16 110 (dk_at dksX2_betweenOf_6 12 rfl rfl)
theorem dX2_betweenOf_154 : decode cX2_betweenOf 154 = .ok (.bipush 108, 2) := dk_16 108 (dk_at dksX2_betweenOf_6 14 rfl rfl)
theorem dX2_betweenOf_156 : decode cX2_betweenOf 156 = .ok (.bipush 101, 2) := dk_16 101 (dk_at dksX2_betweenOf_6 16 rfl rfl)
theorem dX2_betweenOf_158 : decode cX2_betweenOf 158 = .ok (.bipush 115, 2) := dk_16 115 (dk_at dksX2_betweenOf_6 18 rfl rfl)
theorem dX2_betweenOf_160 : decode cX2_betweenOf 160 = .ok (.bipush 115, 2) := dk_16 115 (dk_at dksX2_betweenOf_6 20 rfl rfl)
theorem dX2_betweenOf_162 : decode cX2_betweenOf 162 = .ok (.invokestatic 226, 3) := dk_184 0 226 (dk_at dksX2_betweenOf_7 0 rfl rfl)
theorem dX2_betweenOf_165 : decode cX2_betweenOf 165 = .ok (.invokevirtual 213, 3) := dk_182 0 213 (dk_at dksX2_betweenOf_7 3 rfl rfl)
theorem dX2_betweenOf_168 : decode cX2_betweenOf 168 = .ok (.ifCond .eq 23, 3) := dk_153 0 23 (dk_at dksX2_betweenOf_7 6 rfl rfl)
theorem dX2_betweenOf_171 : decode cX2_betweenOf 171 = .ok (.aload_n 0, 1) := dk_42 (dk_at dksX2_betweenOf_7 9 rfl rfl)
theorem dX2_betweenOf_172 : decode cX2_betweenOf 172 = .ok (.invokevirtual 182, 3) := dk_182 0 182 (dk_at dksX2_betweenOf_7 10 rfl rfl)
theorem dX2_betweenOf_175 : decode cX2_betweenOf 175 = .ok (.iconst (-1), 1) := dk_2 (dk_at dksX2_betweenOf_7 13 rfl rfl)
theorem dX2_betweenOf_176 : decode cX2_betweenOf 176 = .ok (.if_icmp .ne 15, 3) := dk_160 0 15 (dk_at dksX2_betweenOf_7 14 rfl rfl)
theorem dX2_betweenOf_179 : decode cX2_betweenOf 179 = .ok (.aload_n 0, 1) := dk_42 (dk_at dksX2_betweenOf_7 17 rfl rfl)
theorem dX2_betweenOf_180 : decode cX2_betweenOf 180 = .ok (.getfield 230, 3) := dk_180 0 230 (dk_at dksX2_betweenOf_7 18 rfl rfl)
theorem dX2_betweenOf_183 : decode cX2_betweenOf 183 = .ok (.ifCond .ne 8, 3) := dk_154 0 8 (dk_at dksX2_betweenOf_7 21 rfl rfl)
theorem dX2_betweenOf_186 : decode cX2_betweenOf 186 = .ok (.bipush 23, 2) := dk_16 23 (dk_at dksX2_betweenOf_8 0 rfl rfl)
theorem dX2_betweenOf_188 : decode cX2_betweenOf 188 = .ok (.goto 4, 3) := dk_167 0 4 (dk_at dksX2_betweenOf_8 2 rfl rfl)
theorem dX2_betweenOf_191 : decode cX2_betweenOf 191 = .ok (.iconst (-1), 1) := dk_2 (dk_at dksX2_betweenOf_8 5 rfl rfl)
theorem dX2_betweenOf_192 : decode cX2_betweenOf 192 = .ok (.ireturn, 1) := dk_172 (dk_at dksX2_betweenOf_8 6 rfl rfl)
abbrev cX2_isAskHere : ByteArray := prog_20_method_38_code
def yX2_isAskHere : MethodName := ⟨RX2, "isAskHere", "()Z"⟩
def dkwX2_isAskHere_0 : List UInt8 := [42, 180, 0, 178, 153, 0, 16, 42, 182, 0, 182, 16, 40, 159, 0, 7, 4, 167, 0, 4, 3, 172]
abbrev dktX2_isAskHere_0 : List UInt8 := dkwX2_isAskHere_0 ++ []
theorem dksX2_isAskHere_0 : cX2_isAskHere.data.toList.drop 0 = dktX2_isAskHere_0 := by decide +kernel
theorem dX2_isAskHere_0 : decode cX2_isAskHere 0 = .ok (.aload_n 0, 1) := dk_42 (dk_at dksX2_isAskHere_0 0 rfl rfl)
theorem dX2_isAskHere_1 : decode cX2_isAskHere 1 = .ok (.getfield 178, 3) := dk_180 0 178 (dk_at dksX2_isAskHere_0 1 rfl rfl)
theorem dX2_isAskHere_4 : decode cX2_isAskHere 4 = .ok (.ifCond .eq 16, 3) := dk_153 0 16 (dk_at dksX2_isAskHere_0 4 rfl rfl)
theorem dX2_isAskHere_7 : decode cX2_isAskHere 7 = .ok (.aload_n 0, 1) := dk_42 (dk_at dksX2_isAskHere_0 7 rfl rfl)
theorem dX2_isAskHere_8 : decode cX2_isAskHere 8 = .ok (.invokevirtual 182, 3) := dk_182 0 182 (dk_at dksX2_isAskHere_0 8 rfl rfl)
theorem dX2_isAskHere_11 : decode cX2_isAskHere 11 = .ok (.bipush 40, 2) := dk_16 40 (dk_at dksX2_isAskHere_0 11 rfl rfl)
theorem dX2_isAskHere_13 : decode cX2_isAskHere 13 = .ok (.if_icmp .eq 7, 3) := dk_159 0 7 (dk_at dksX2_isAskHere_0 13 rfl rfl)
theorem dX2_isAskHere_16 : decode cX2_isAskHere 16 = .ok (.iconst 1, 1) := dk_4 (dk_at dksX2_isAskHere_0 16 rfl rfl)
theorem dX2_isAskHere_17 : decode cX2_isAskHere 17 = .ok (.goto 4, 3) := dk_167 0 4 (dk_at dksX2_isAskHere_0 17 rfl rfl)
theorem dX2_isAskHere_20 : decode cX2_isAskHere 20 = .ok (.iconst 0, 1) := dk_3 (dk_at dksX2_isAskHere_0 20 rfl rfl)
theorem dX2_isAskHere_21 : decode cX2_isAskHere 21 = .ok (.ireturn, 1) := dk_172 (dk_at dksX2_isAskHere_0 21 rfl rfl)
abbrev cX2_openNow : ByteArray := prog_20_method_36_code
def yX2_openNow : MethodName := ⟨RX2, "openNow", "()I"⟩
def dkwX2_openNow_1 : List UInt8 := [132, 1, 255, 167, 255, 238, 27, 156, 0, 7, 2, 167, 0, 9, 42, 180, 0, 29, 27, 46, 172]
abbrev dktX2_openNow_1 : List UInt8 := dkwX2_openNow_1 ++ []
def dkwX2_openNow_0 : List UInt8 := [42, 180, 0, 165, 4, 100, 60, 27, 155, 0, 20, 42, 180, 0, 29, 27, 46, 16, 40, 162, 0, 9]
abbrev dktX2_openNow_0 : List UInt8 := dkwX2_openNow_0 ++ dktX2_openNow_1
theorem dksX2_openNow_0 : cX2_openNow.data.toList.drop 0 = dktX2_openNow_0 := by decide +kernel
theorem dksX2_openNow_1 : cX2_openNow.data.toList.drop 22 = dktX2_openNow_1 := dk_seg dksX2_openNow_0 22 rfl rfl
theorem dX2_openNow_0 : decode cX2_openNow 0 = .ok (.aload_n 0, 1) := dk_42 (dk_at dksX2_openNow_0 0 rfl rfl)
theorem dX2_openNow_1 : decode cX2_openNow 1 = .ok (.getfield 165, 3) := dk_180 0 165 (dk_at dksX2_openNow_0 1 rfl rfl)
theorem dX2_openNow_4 : decode cX2_openNow 4 = .ok (.iconst 1, 1) := dk_4 (dk_at dksX2_openNow_0 4 rfl rfl)
theorem dX2_openNow_5 : decode cX2_openNow 5 = .ok (.isub, 1) := dk_100 (dk_at dksX2_openNow_0 5 rfl rfl)
theorem dX2_openNow_6 : decode cX2_openNow 6 = .ok (.istore_n 1, 1) := dk_60 (dk_at dksX2_openNow_0 6 rfl rfl)
theorem dX2_openNow_7 : decode cX2_openNow 7 = .ok (.iload_n 1, 1) := dk_27 (dk_at dksX2_openNow_0 7 rfl rfl)
theorem dX2_openNow_8 : decode cX2_openNow 8 = .ok (.ifCond .lt 20, 3) := dk_155 0 20 (dk_at dksX2_openNow_0 8 rfl rfl)
theorem dX2_openNow_11 : decode cX2_openNow 11 = .ok (.aload_n 0, 1) := dk_42 (dk_at dksX2_openNow_0 11 rfl rfl)
theorem dX2_openNow_12 : decode cX2_openNow 12 = .ok (.getfield 29, 3) := dk_180 0 29 (dk_at dksX2_openNow_0 12 rfl rfl)
theorem dX2_openNow_15 : decode cX2_openNow 15 = .ok (.iload_n 1, 1) := dk_27 (dk_at dksX2_openNow_0 15 rfl rfl)
theorem dX2_openNow_16 : decode cX2_openNow 16 = .ok (.iaload, 1) := dk_46 (dk_at dksX2_openNow_0 16 rfl rfl)
theorem dX2_openNow_17 : decode cX2_openNow 17 = .ok (.bipush 40, 2) := dk_16 40 (dk_at dksX2_openNow_0 17 rfl rfl)
theorem dX2_openNow_19 : decode cX2_openNow 19 = .ok (.if_icmp .ge 9, 3) := dk_162 0 9 (dk_at dksX2_openNow_0 19 rfl rfl)
theorem dX2_openNow_22 : decode cX2_openNow 22 = .ok (.iinc 1 (-1), 3) := dk_132 1 255 (dk_at dksX2_openNow_1 0 rfl rfl)
theorem dX2_openNow_25 : decode cX2_openNow 25 = .ok (.goto (-18), 3) := dk_167 255 238 (dk_at dksX2_openNow_1 3 rfl rfl)
theorem dX2_openNow_28 : decode cX2_openNow 28 = .ok (.iload_n 1, 1) := dk_27 (dk_at dksX2_openNow_1 6 rfl rfl)
theorem dX2_openNow_29 : decode cX2_openNow 29 = .ok (.ifCond .ge 7, 3) := dk_156 0 7 (dk_at dksX2_openNow_1 7 rfl rfl)
theorem dX2_openNow_32 : decode cX2_openNow 32 = .ok (.iconst (-1), 1) := dk_2 (dk_at dksX2_openNow_1 10 rfl rfl)
theorem dX2_openNow_33 : decode cX2_openNow 33 = .ok (.goto 9, 3) := dk_167 0 9 (dk_at dksX2_openNow_1 11 rfl rfl)
theorem dX2_openNow_36 : decode cX2_openNow 36 = .ok (.aload_n 0, 1) := dk_42 (dk_at dksX2_openNow_1 14 rfl rfl)
theorem dX2_openNow_37 : decode cX2_openNow 37 = .ok (.getfield 29, 3) := dk_180 0 29 (dk_at dksX2_openNow_1 15 rfl rfl)
theorem dX2_openNow_40 : decode cX2_openNow 40 = .ok (.iload_n 1, 1) := dk_27 (dk_at dksX2_openNow_1 18 rfl rfl)
theorem dX2_openNow_41 : decode cX2_openNow 41 = .ok (.iaload, 1) := dk_46 (dk_at dksX2_openNow_1 19 rfl rfl)
theorem dX2_openNow_42 : decode cX2_openNow 42 = .ok (.ireturn, 1) := dk_172 (dk_at dksX2_openNow_1 20 rfl rfl)
abbrev cX2_isCompared : ByteArray := prog_20_method_37_code
def yX2_isCompared : MethodName := ⟨RX2, "isCompared", "()Z"⟩
def dkwX2_isCompared_2 : List UInt8 := [167, 0, 4, 3, 172]
abbrev dktX2_isCompared_2 : List UInt8 := dkwX2_isCompared_2 ++ []
def dkwX2_isCompared_1 : List UInt8 := [132, 1, 255, 167, 255, 236, 27, 155, 0, 20, 42, 180, 0, 29, 27, 46, 184, 0, 168, 8, 160, 0, 7, 4]
abbrev dktX2_isCompared_1 : List UInt8 := dkwX2_isCompared_1 ++ dktX2_isCompared_2
def dkwX2_isCompared_0 : List UInt8 := [42, 180, 0, 165, 4, 100, 60, 27, 155, 0, 22, 42, 180, 0, 29, 27, 46, 184, 0, 168, 8, 164, 0, 9]
abbrev dktX2_isCompared_0 : List UInt8 := dkwX2_isCompared_0 ++ dktX2_isCompared_1
theorem dksX2_isCompared_0 : cX2_isCompared.data.toList.drop 0 = dktX2_isCompared_0 := by decide +kernel
theorem dksX2_isCompared_1 : cX2_isCompared.data.toList.drop 24 = dktX2_isCompared_1 := dk_seg dksX2_isCompared_0 24 rfl rfl
theorem dksX2_isCompared_2 : cX2_isCompared.data.toList.drop 48 = dktX2_isCompared_2 := dk_seg dksX2_isCompared_1 24 rfl rfl
theorem dX2_isCompared_0 : decode cX2_isCompared 0 = .ok (.aload_n 0, 1) := dk_42 (dk_at dksX2_isCompared_0 0 rfl rfl)
theorem dX2_isCompared_1 : decode cX2_isCompared 1 = .ok (.getfield 165, 3) := dk_180 0 165 (dk_at dksX2_isCompared_0 1 rfl rfl)
theorem dX2_isCompared_4 : decode cX2_isCompared 4 = .ok (.iconst 1, 1) := dk_4 (dk_at dksX2_isCompared_0 4 rfl rfl)
theorem dX2_isCompared_5 : decode cX2_isCompared 5 = .ok (.isub, 1) := dk_100 (dk_at dksX2_isCompared_0 5 rfl rfl)
theorem dX2_isCompared_6 : decode cX2_isCompared 6 = .ok (.istore_n 1, 1) := dk_60 (dk_at dksX2_isCompared_0 6 rfl rfl)
theorem dX2_isCompared_7 : decode cX2_isCompared 7 = .ok (.iload_n 1, 1) := dk_27 (dk_at dksX2_isCompared_0 7 rfl rfl)
theorem dX2_isCompared_8 : decode cX2_isCompared 8 = .ok (.ifCond .lt 22, 3) := dk_155 0 22 (dk_at dksX2_isCompared_0 8 rfl rfl)
theorem dX2_isCompared_11 : decode cX2_isCompared 11 = .ok (.aload_n 0, 1) := dk_42 (dk_at dksX2_isCompared_0 11 rfl rfl)
theorem dX2_isCompared_12 : decode cX2_isCompared 12 = .ok (.getfield 29, 3) := dk_180 0 29 (dk_at dksX2_isCompared_0 12 rfl rfl)
theorem dX2_isCompared_15 : decode cX2_isCompared 15 = .ok (.iload_n 1, 1) := dk_27 (dk_at dksX2_isCompared_0 15 rfl rfl)
theorem dX2_isCompared_16 : decode cX2_isCompared 16 = .ok (.iaload, 1) := dk_46 (dk_at dksX2_isCompared_0 16 rfl rfl)
theorem dX2_isCompared_17 : decode cX2_isCompared 17 = .ok (.invokestatic 168, 3) := dk_184 0 168 (dk_at dksX2_isCompared_0 17 rfl rfl)
theorem dX2_isCompared_20 : decode cX2_isCompared 20 = .ok (.iconst 5, 1) := dk_8 (dk_at dksX2_isCompared_0 20 rfl rfl)
theorem dX2_isCompared_21 : decode cX2_isCompared 21 = .ok (.if_icmp .le 9, 3) := dk_164 0 9 (dk_at dksX2_isCompared_0 21 rfl rfl)
theorem dX2_isCompared_24 : decode cX2_isCompared 24 = .ok (.iinc 1 (-1), 3) := dk_132 1 255 (dk_at dksX2_isCompared_1 0 rfl rfl)
theorem dX2_isCompared_27 : decode cX2_isCompared 27 = .ok (.goto (-20), 3) := dk_167 255 236 (dk_at dksX2_isCompared_1 3 rfl rfl)
theorem dX2_isCompared_30 : decode cX2_isCompared 30 = .ok (.iload_n 1, 1) := dk_27 (dk_at dksX2_isCompared_1 6 rfl rfl)
theorem dX2_isCompared_31 : decode cX2_isCompared 31 = .ok (.ifCond .lt 20, 3) := dk_155 0 20 (dk_at dksX2_isCompared_1 7 rfl rfl)
theorem dX2_isCompared_34 : decode cX2_isCompared 34 = .ok (.aload_n 0, 1) := dk_42 (dk_at dksX2_isCompared_1 10 rfl rfl)
theorem dX2_isCompared_35 : decode cX2_isCompared 35 = .ok (.getfield 29, 3) := dk_180 0 29 (dk_at dksX2_isCompared_1 11 rfl rfl)
theorem dX2_isCompared_38 : decode cX2_isCompared 38 = .ok (.iload_n 1, 1) := dk_27 (dk_at dksX2_isCompared_1 14 rfl rfl)
theorem dX2_isCompared_39 : decode cX2_isCompared 39 = .ok (.iaload, 1) := dk_46 (dk_at dksX2_isCompared_1 15 rfl rfl)
theorem dX2_isCompared_40 : decode cX2_isCompared 40 = .ok (.invokestatic 168, 3) := dk_184 0 168 (dk_at dksX2_isCompared_1 16 rfl rfl)
theorem dX2_isCompared_43 : decode cX2_isCompared 43 = .ok (.iconst 5, 1) := dk_8 (dk_at dksX2_isCompared_1 19 rfl rfl)
theorem dX2_isCompared_44 : decode cX2_isCompared 44 = .ok (.if_icmp .ne 7, 3) := dk_160 0 7 (dk_at dksX2_isCompared_1 20 rfl rfl)
theorem dX2_isCompared_47 : decode cX2_isCompared 47 = .ok (.iconst 1, 1) := dk_4 (dk_at dksX2_isCompared_1 23 rfl rfl)
theorem dX2_isCompared_48 : decode cX2_isCompared 48 = .ok (.goto 4, 3) := dk_167 0 4 (dk_at dksX2_isCompared_2 0 rfl rfl)
theorem dX2_isCompared_51 : decode cX2_isCompared 51 = .ok (.iconst 0, 1) := dk_3 (dk_at dksX2_isCompared_2 3 rfl rfl)
theorem dX2_isCompared_52 : decode cX2_isCompared 52 = .ok (.ireturn, 1) := dk_172 (dk_at dksX2_isCompared_2 4 rfl rfl)
abbrev cX2_rank : ByteArray := prog_20_method_34_code
def yX2_rank : MethodName := ⟨RX2, "rank", "(I)I"⟩
def dkwX2_rank_2 : List UInt8 := [16, 7, 161, 0, 8, 16, 7, 167, 0, 5, 16, 6, 172]
abbrev dktX2_rank_2 : List UInt8 := dkwX2_rank_2 ++ []
def dkwX2_rank_1 : List UInt8 := [167, 0, 36, 26, 16, 10, 161, 0, 7, 8, 167, 0, 26, 26, 7, 160, 0, 8, 16, 8, 167, 0, 16, 26]
abbrev dktX2_rank_1 : List UInt8 := dkwX2_rank_1 ++ dktX2_rank_2
def dkwX2_rank_0 : List UInt8 := [26, 16, 40, 161, 0, 7, 3, 167, 0, 51, 26, 16, 20, 161, 0, 12, 7, 26, 16, 20, 100, 100]
abbrev dktX2_rank_0 : List UInt8 := dkwX2_rank_0 ++ dktX2_rank_1
theorem dksX2_rank_0 : cX2_rank.data.toList.drop 0 = dktX2_rank_0 := by decide +kernel
theorem dksX2_rank_1 : cX2_rank.data.toList.drop 22 = dktX2_rank_1 := dk_seg dksX2_rank_0 22 rfl rfl
theorem dksX2_rank_2 : cX2_rank.data.toList.drop 46 = dktX2_rank_2 := dk_seg dksX2_rank_1 24 rfl rfl
theorem dX2_rank_0 : decode cX2_rank 0 = .ok (.iload_n 0, 1) := dk_26 (dk_at dksX2_rank_0 0 rfl rfl)
theorem dX2_rank_1 : decode cX2_rank 1 = .ok (.bipush 40, 2) := dk_16 40 (dk_at dksX2_rank_0 1 rfl rfl)
theorem dX2_rank_3 : decode cX2_rank 3 = .ok (.if_icmp .lt 7, 3) := dk_161 0 7 (dk_at dksX2_rank_0 3 rfl rfl)
theorem dX2_rank_6 : decode cX2_rank 6 = .ok (.iconst 0, 1) := dk_3 (dk_at dksX2_rank_0 6 rfl rfl)
theorem dX2_rank_7 : decode cX2_rank 7 = .ok (.goto 51, 3) := dk_167 0 51 (dk_at dksX2_rank_0 7 rfl rfl)
theorem dX2_rank_10 : decode cX2_rank 10 = .ok (.iload_n 0, 1) := dk_26 (dk_at dksX2_rank_0 10 rfl rfl)
theorem dX2_rank_11 : decode cX2_rank 11 = .ok (.bipush 20, 2) := dk_16 20 (dk_at dksX2_rank_0 11 rfl rfl)
theorem dX2_rank_13 : decode cX2_rank 13 = .ok (.if_icmp .lt 12, 3) := dk_161 0 12 (dk_at dksX2_rank_0 13 rfl rfl)
theorem dX2_rank_16 : decode cX2_rank 16 = .ok (.iconst 4, 1) := dk_7 (dk_at dksX2_rank_0 16 rfl rfl)
theorem dX2_rank_17 : decode cX2_rank 17 = .ok (.iload_n 0, 1) := dk_26 (dk_at dksX2_rank_0 17 rfl rfl)
theorem dX2_rank_18 : decode cX2_rank 18 = .ok (.bipush 20, 2) := dk_16 20 (dk_at dksX2_rank_0 18 rfl rfl)
theorem dX2_rank_20 : decode cX2_rank 20 = .ok (.isub, 1) := dk_100 (dk_at dksX2_rank_0 20 rfl rfl)
theorem dX2_rank_21 : decode cX2_rank 21 = .ok (.isub, 1) := dk_100 (dk_at dksX2_rank_0 21 rfl rfl)
theorem dX2_rank_22 : decode cX2_rank 22 = .ok (.goto 36, 3) := dk_167 0 36 (dk_at dksX2_rank_1 0 rfl rfl)
theorem dX2_rank_25 : decode cX2_rank 25 = .ok (.iload_n 0, 1) := dk_26 (dk_at dksX2_rank_1 3 rfl rfl)
theorem dX2_rank_26 : decode cX2_rank 26 = .ok (.bipush 10, 2) := dk_16 10 (dk_at dksX2_rank_1 4 rfl rfl)
theorem dX2_rank_28 : decode cX2_rank 28 = .ok (.if_icmp .lt 7, 3) := dk_161 0 7 (dk_at dksX2_rank_1 6 rfl rfl)
theorem dX2_rank_31 : decode cX2_rank 31 = .ok (.iconst 5, 1) := dk_8 (dk_at dksX2_rank_1 9 rfl rfl)
theorem dX2_rank_32 : decode cX2_rank 32 = .ok (.goto 26, 3) := dk_167 0 26 (dk_at dksX2_rank_1 10 rfl rfl)
theorem dX2_rank_35 : decode cX2_rank 35 = .ok (.iload_n 0, 1) := dk_26 (dk_at dksX2_rank_1 13 rfl rfl)
theorem dX2_rank_36 : decode cX2_rank 36 = .ok (.iconst 4, 1) := dk_7 (dk_at dksX2_rank_1 14 rfl rfl)
theorem dX2_rank_37 : decode cX2_rank 37 = .ok (.if_icmp .ne 8, 3) := dk_160 0 8 (dk_at dksX2_rank_1 15 rfl rfl)
theorem dX2_rank_40 : decode cX2_rank 40 = .ok (.bipush 8, 2) := dk_16 8 (dk_at dksX2_rank_1 18 rfl rfl)
theorem dX2_rank_42 : decode cX2_rank 42 = .ok (.goto 16, 3) := dk_167 0 16 (dk_at dksX2_rank_1 20 rfl rfl)
theorem dX2_rank_45 : decode cX2_rank 45 = .ok (.iload_n 0, 1) := dk_26 (dk_at dksX2_rank_1 23 rfl rfl)
theorem dX2_rank_46 : decode cX2_rank 46 = .ok (.bipush 7, 2) := dk_16 7 (dk_at dksX2_rank_2 0 rfl rfl)
theorem dX2_rank_48 : decode cX2_rank 48 = .ok (.if_icmp .lt 8, 3) := dk_161 0 8 (dk_at dksX2_rank_2 2 rfl rfl)
theorem dX2_rank_51 : decode cX2_rank 51 = .ok (.bipush 7, 2) := dk_16 7 (dk_at dksX2_rank_2 5 rfl rfl)
theorem dX2_rank_53 : decode cX2_rank 53 = .ok (.goto 5, 3) := dk_167 0 5 (dk_at dksX2_rank_2 7 rfl rfl)
theorem dX2_rank_56 : decode cX2_rank 56 = .ok (.bipush 6, 2) := dk_16 6 (dk_at dksX2_rank_2 10 rfl rfl)
theorem dX2_rank_58 : decode cX2_rank 58 = .ok (.ireturn, 1) := dk_172 (dk_at dksX2_rank_2 12 rfl rfl)
abbrev cX2_compareOf : ByteArray := prog_20_method_43_code
def yX2_compareOf : MethodName := ⟨RX2, "compareOf", "()I"⟩
def dkwX2_compareOf_3 : List UInt8 := [180, 0, 107, 16, 35, 160, 0, 8, 16, 15, 167, 0, 4, 2, 172]
abbrev dktX2_compareOf_3 : List UInt8 := dkwX2_compareOf_3 ++ []
def dkwX2_compareOf_2 : List UInt8 := [160, 0, 8, 16, 13, 167, 0, 32, 42, 180, 0, 107, 16, 61, 160, 0, 8, 16, 14, 167, 0, 18, 42]
abbrev dktX2_compareOf_2 : List UInt8 := dkwX2_compareOf_2 ++ dktX2_compareOf_3
def dkwX2_compareOf_1 : List UInt8 := [167, 0, 59, 42, 180, 0, 107, 16, 62, 160, 0, 8, 16, 12, 167, 0, 45, 42, 180, 0, 107, 8]
abbrev dktX2_compareOf_1 : List UInt8 := dkwX2_compareOf_1 ++ dktX2_compareOf_2
def dkwX2_compareOf_0 : List UInt8 := [42, 180, 0, 107, 16, 60, 160, 0, 8, 16, 10, 167, 0, 72, 42, 180, 0, 107, 7, 160, 0, 8, 16, 11]
abbrev dktX2_compareOf_0 : List UInt8 := dkwX2_compareOf_0 ++ dktX2_compareOf_1
theorem dksX2_compareOf_0 : cX2_compareOf.data.toList.drop 0 = dktX2_compareOf_0 := by decide +kernel
theorem dksX2_compareOf_1 : cX2_compareOf.data.toList.drop 24 = dktX2_compareOf_1 := dk_seg dksX2_compareOf_0 24 rfl rfl
theorem dksX2_compareOf_2 : cX2_compareOf.data.toList.drop 46 = dktX2_compareOf_2 := dk_seg dksX2_compareOf_1 22 rfl rfl
theorem dksX2_compareOf_3 : cX2_compareOf.data.toList.drop 69 = dktX2_compareOf_3 := dk_seg dksX2_compareOf_2 23 rfl rfl
theorem dX2_compareOf_0 : decode cX2_compareOf 0 = .ok (.aload_n 0, 1) := dk_42 (dk_at dksX2_compareOf_0 0 rfl rfl)
theorem dX2_compareOf_1 : decode cX2_compareOf 1 = .ok (.getfield 107, 3) := dk_180 0 107 (dk_at dksX2_compareOf_0 1 rfl rfl)
theorem dX2_compareOf_4 : decode cX2_compareOf 4 = .ok (.bipush 60, 2) := dk_16 60 (dk_at dksX2_compareOf_0 4 rfl rfl)
theorem dX2_compareOf_6 : decode cX2_compareOf 6 = .ok (.if_icmp .ne 8, 3) := dk_160 0 8 (dk_at dksX2_compareOf_0 6 rfl rfl)
theorem dX2_compareOf_9 : decode cX2_compareOf 9 = .ok (.bipush 10, 2) := dk_16 10 (dk_at dksX2_compareOf_0 9 rfl rfl)
theorem dX2_compareOf_11 : decode cX2_compareOf 11 = .ok (.goto 72, 3) := dk_167 0 72 (dk_at dksX2_compareOf_0 11 rfl rfl)
theorem dX2_compareOf_14 : decode cX2_compareOf 14 = .ok (.aload_n 0, 1) := dk_42 (dk_at dksX2_compareOf_0 14 rfl rfl)
theorem dX2_compareOf_15 : decode cX2_compareOf 15 = .ok (.getfield 107, 3) := dk_180 0 107 (dk_at dksX2_compareOf_0 15 rfl rfl)
theorem dX2_compareOf_18 : decode cX2_compareOf 18 = .ok (.iconst 4, 1) := dk_7 (dk_at dksX2_compareOf_0 18 rfl rfl)
theorem dX2_compareOf_19 : decode cX2_compareOf 19 = .ok (.if_icmp .ne 8, 3) := dk_160 0 8 (dk_at dksX2_compareOf_0 19 rfl rfl)
theorem dX2_compareOf_22 : decode cX2_compareOf 22 = .ok (.bipush 11, 2) := dk_16 11 (dk_at dksX2_compareOf_0 22 rfl rfl)
theorem dX2_compareOf_24 : decode cX2_compareOf 24 = .ok (.goto 59, 3) := dk_167 0 59 (dk_at dksX2_compareOf_1 0 rfl rfl)
theorem dX2_compareOf_27 : decode cX2_compareOf 27 = .ok (.aload_n 0, 1) := dk_42 (dk_at dksX2_compareOf_1 3 rfl rfl)
theorem dX2_compareOf_28 : decode cX2_compareOf 28 = .ok (.getfield 107, 3) := dk_180 0 107 (dk_at dksX2_compareOf_1 4 rfl rfl)
theorem dX2_compareOf_31 : decode cX2_compareOf 31 = .ok (.bipush 62, 2) := dk_16 62 (dk_at dksX2_compareOf_1 7 rfl rfl)
theorem dX2_compareOf_33 : decode cX2_compareOf 33 = .ok (.if_icmp .ne 8, 3) := dk_160 0 8 (dk_at dksX2_compareOf_1 9 rfl rfl)
theorem dX2_compareOf_36 : decode cX2_compareOf 36 = .ok (.bipush 12, 2) := dk_16 12 (dk_at dksX2_compareOf_1 12 rfl rfl)
theorem dX2_compareOf_38 : decode cX2_compareOf 38 = .ok (.goto 45, 3) := dk_167 0 45 (dk_at dksX2_compareOf_1 14 rfl rfl)
theorem dX2_compareOf_41 : decode cX2_compareOf 41 = .ok (.aload_n 0, 1) := dk_42 (dk_at dksX2_compareOf_1 17 rfl rfl)
theorem dX2_compareOf_42 : decode cX2_compareOf 42 = .ok (.getfield 107, 3) := dk_180 0 107 (dk_at dksX2_compareOf_1 18 rfl rfl)
theorem dX2_compareOf_45 : decode cX2_compareOf 45 = .ok (.iconst 5, 1) := dk_8 (dk_at dksX2_compareOf_1 21 rfl rfl)
theorem dX2_compareOf_46 : decode cX2_compareOf 46 = .ok (.if_icmp .ne 8, 3) := dk_160 0 8 (dk_at dksX2_compareOf_2 0 rfl rfl)
theorem dX2_compareOf_49 : decode cX2_compareOf 49 = .ok (.bipush 13, 2) := dk_16 13 (dk_at dksX2_compareOf_2 3 rfl rfl)
theorem dX2_compareOf_51 : decode cX2_compareOf 51 = .ok (.goto 32, 3) := dk_167 0 32 (dk_at dksX2_compareOf_2 5 rfl rfl)
theorem dX2_compareOf_54 : decode cX2_compareOf 54 = .ok (.aload_n 0, 1) := dk_42 (dk_at dksX2_compareOf_2 8 rfl rfl)
theorem dX2_compareOf_55 : decode cX2_compareOf 55 = .ok (.getfield 107, 3) := dk_180 0 107 (dk_at dksX2_compareOf_2 9 rfl rfl)
theorem dX2_compareOf_58 : decode cX2_compareOf 58 = .ok (.bipush 61, 2) := dk_16 61 (dk_at dksX2_compareOf_2 12 rfl rfl)
theorem dX2_compareOf_60 : decode cX2_compareOf 60 = .ok (.if_icmp .ne 8, 3) := dk_160 0 8 (dk_at dksX2_compareOf_2 14 rfl rfl)
theorem dX2_compareOf_63 : decode cX2_compareOf 63 = .ok (.bipush 14, 2) := dk_16 14 (dk_at dksX2_compareOf_2 17 rfl rfl)
theorem dX2_compareOf_65 : decode cX2_compareOf 65 = .ok (.goto 18, 3) := dk_167 0 18 (dk_at dksX2_compareOf_2 19 rfl rfl)
theorem dX2_compareOf_68 : decode cX2_compareOf 68 = .ok (.aload_n 0, 1) := dk_42 (dk_at dksX2_compareOf_2 22 rfl rfl)
theorem dX2_compareOf_69 : decode cX2_compareOf 69 = .ok (.getfield 107, 3) := dk_180 0 107 (dk_at dksX2_compareOf_3 0 rfl rfl)
theorem dX2_compareOf_72 : decode cX2_compareOf 72 = .ok (.bipush 35, 2) := dk_16 35 (dk_at dksX2_compareOf_3 3 rfl rfl)
theorem dX2_compareOf_74 : decode cX2_compareOf 74 = .ok (.if_icmp .ne 8, 3) := dk_160 0 8 (dk_at dksX2_compareOf_3 5 rfl rfl)
theorem dX2_compareOf_77 : decode cX2_compareOf 77 = .ok (.bipush 15, 2) := dk_16 15 (dk_at dksX2_compareOf_3 8 rfl rfl)
theorem dX2_compareOf_79 : decode cX2_compareOf 79 = .ok (.goto 4, 3) := dk_167 0 4 (dk_at dksX2_compareOf_3 10 rfl rfl)
theorem dX2_compareOf_82 : decode cX2_compareOf 82 = .ok (.iconst (-1), 1) := dk_2 (dk_at dksX2_compareOf_3 13 rfl rfl)
theorem dX2_compareOf_83 : decode cX2_compareOf 83 = .ok (.ireturn, 1) := dk_172 (dk_at dksX2_compareOf_3 14 rfl rfl)
abbrev cX2_settle : ByteArray := prog_20_method_35_code
def yX2_settle : MethodName := ⟨RX2, "settle", "(I)V"⟩
def dkwX2_settle_4 : List UInt8 := [180, 0, 175, 4, 100, 181, 0, 175, 167, 255, 156, 177]
abbrev dktX2_settle_4 : List UInt8 := dkwX2_settle_4 ++ []
def dkwX2_settle_3 : List UInt8 := [180, 0, 165, 46, 7, 159, 0, 17, 42, 180, 0, 29, 42, 180, 0, 165, 46, 16, 20, 160, 255, 169, 42, 89]
abbrev dktX2_settle_3 : List UInt8 := dkwX2_settle_3 ++ dktX2_settle_4
def dkwX2_settle_2 : List UInt8 := [159, 0, 17, 42, 42, 180, 0, 29, 42, 180, 0, 165, 46, 3, 182, 0, 171, 42, 180, 0, 29, 42]
abbrev dktX2_settle_2 : List UInt8 := dkwX2_settle_2 ++ dktX2_settle_3
def dkwX2_settle_1 : List UInt8 := [161, 0, 81, 42, 89, 180, 0, 165, 4, 100, 181, 0, 165, 42, 180, 0, 29, 42, 180, 0, 165, 46, 16, 16]
abbrev dktX2_settle_1 : List UInt8 := dkwX2_settle_1 ++ dktX2_settle_2
def dkwX2_settle_0 : List UInt8 := [42, 180, 0, 165, 158, 0, 99, 42, 180, 0, 29, 42, 180, 0, 165, 4, 100, 46, 184, 0, 168, 27]
abbrev dktX2_settle_0 : List UInt8 := dkwX2_settle_0 ++ dktX2_settle_1
theorem dksX2_settle_0 : cX2_settle.data.toList.drop 0 = dktX2_settle_0 := by decide +kernel
theorem dksX2_settle_1 : cX2_settle.data.toList.drop 22 = dktX2_settle_1 := dk_seg dksX2_settle_0 22 rfl rfl
theorem dksX2_settle_2 : cX2_settle.data.toList.drop 46 = dktX2_settle_2 := dk_seg dksX2_settle_1 24 rfl rfl
theorem dksX2_settle_3 : cX2_settle.data.toList.drop 68 = dktX2_settle_3 := dk_seg dksX2_settle_2 22 rfl rfl
theorem dksX2_settle_4 : cX2_settle.data.toList.drop 92 = dktX2_settle_4 := dk_seg dksX2_settle_3 24 rfl rfl
theorem dX2_settle_0 : decode cX2_settle 0 = .ok (.aload_n 0, 1) := dk_42 (dk_at dksX2_settle_0 0 rfl rfl)
theorem dX2_settle_1 : decode cX2_settle 1 = .ok (.getfield 165, 3) := dk_180 0 165 (dk_at dksX2_settle_0 1 rfl rfl)
theorem dX2_settle_4 : decode cX2_settle 4 = .ok (.ifCond .le 99, 3) := dk_158 0 99 (dk_at dksX2_settle_0 4 rfl rfl)
theorem dX2_settle_7 : decode cX2_settle 7 = .ok (.aload_n 0, 1) := dk_42 (dk_at dksX2_settle_0 7 rfl rfl)
theorem dX2_settle_8 : decode cX2_settle 8 = .ok (.getfield 29, 3) := dk_180 0 29 (dk_at dksX2_settle_0 8 rfl rfl)
theorem dX2_settle_11 : decode cX2_settle 11 = .ok (.aload_n 0, 1) := dk_42 (dk_at dksX2_settle_0 11 rfl rfl)
theorem dX2_settle_12 : decode cX2_settle 12 = .ok (.getfield 165, 3) := dk_180 0 165 (dk_at dksX2_settle_0 12 rfl rfl)
theorem dX2_settle_15 : decode cX2_settle 15 = .ok (.iconst 1, 1) := dk_4 (dk_at dksX2_settle_0 15 rfl rfl)
theorem dX2_settle_16 : decode cX2_settle 16 = .ok (.isub, 1) := dk_100 (dk_at dksX2_settle_0 16 rfl rfl)
theorem dX2_settle_17 : decode cX2_settle 17 = .ok (.iaload, 1) := dk_46 (dk_at dksX2_settle_0 17 rfl rfl)
theorem dX2_settle_18 : decode cX2_settle 18 = .ok (.invokestatic 168, 3) := dk_184 0 168 (dk_at dksX2_settle_0 18 rfl rfl)
theorem dX2_settle_21 : decode cX2_settle 21 = .ok (.iload_n 1, 1) := dk_27 (dk_at dksX2_settle_0 21 rfl rfl)
theorem dX2_settle_22 : decode cX2_settle 22 = .ok (.if_icmp .lt 81, 3) := dk_161 0 81 (dk_at dksX2_settle_1 0 rfl rfl)
theorem dX2_settle_25 : decode cX2_settle 25 = .ok (.aload_n 0, 1) := dk_42 (dk_at dksX2_settle_1 3 rfl rfl)
theorem dX2_settle_26 : decode cX2_settle 26 = .ok (.dup, 1) := dk_89 (dk_at dksX2_settle_1 4 rfl rfl)
theorem dX2_settle_27 : decode cX2_settle 27 = .ok (.getfield 165, 3) := dk_180 0 165 (dk_at dksX2_settle_1 5 rfl rfl)
theorem dX2_settle_30 : decode cX2_settle 30 = .ok (.iconst 1, 1) := dk_4 (dk_at dksX2_settle_1 8 rfl rfl)
theorem dX2_settle_31 : decode cX2_settle 31 = .ok (.isub, 1) := dk_100 (dk_at dksX2_settle_1 9 rfl rfl)
theorem dX2_settle_32 : decode cX2_settle 32 = .ok (.putfield 165, 3) := dk_181 0 165 (dk_at dksX2_settle_1 10 rfl rfl)
theorem dX2_settle_35 : decode cX2_settle 35 = .ok (.aload_n 0, 1) := dk_42 (dk_at dksX2_settle_1 13 rfl rfl)
theorem dX2_settle_36 : decode cX2_settle 36 = .ok (.getfield 29, 3) := dk_180 0 29 (dk_at dksX2_settle_1 14 rfl rfl)
theorem dX2_settle_39 : decode cX2_settle 39 = .ok (.aload_n 0, 1) := dk_42 (dk_at dksX2_settle_1 17 rfl rfl)
theorem dX2_settle_40 : decode cX2_settle 40 = .ok (.getfield 165, 3) := dk_180 0 165 (dk_at dksX2_settle_1 18 rfl rfl)
theorem dX2_settle_43 : decode cX2_settle 43 = .ok (.iaload, 1) := dk_46 (dk_at dksX2_settle_1 21 rfl rfl)
theorem dX2_settle_44 : decode cX2_settle 44 = .ok (.bipush 16, 2) := dk_16 16 (dk_at dksX2_settle_1 22 rfl rfl)
theorem dX2_settle_46 : decode cX2_settle 46 = .ok (.if_icmp .eq 17, 3) := dk_159 0 17 (dk_at dksX2_settle_2 0 rfl rfl)
theorem dX2_settle_49 : decode cX2_settle 49 = .ok (.aload_n 0, 1) := dk_42 (dk_at dksX2_settle_2 3 rfl rfl)
theorem dX2_settle_50 : decode cX2_settle 50 = .ok (.aload_n 0, 1) := dk_42 (dk_at dksX2_settle_2 4 rfl rfl)
theorem dX2_settle_51 : decode cX2_settle 51 = .ok (.getfield 29, 3) := dk_180 0 29 (dk_at dksX2_settle_2 5 rfl rfl)
theorem dX2_settle_54 : decode cX2_settle 54 = .ok (.aload_n 0, 1) := dk_42 (dk_at dksX2_settle_2 8 rfl rfl)
theorem dX2_settle_55 : decode cX2_settle 55 = .ok (.getfield 165, 3) := dk_180 0 165 (dk_at dksX2_settle_2 9 rfl rfl)
theorem dX2_settle_58 : decode cX2_settle 58 = .ok (.iaload, 1) := dk_46 (dk_at dksX2_settle_2 12 rfl rfl)
theorem dX2_settle_59 : decode cX2_settle 59 = .ok (.iconst 0, 1) := dk_3 (dk_at dksX2_settle_2 13 rfl rfl)
theorem dX2_settle_60 : decode cX2_settle 60 = .ok (.invokevirtual 171, 3) := dk_182 0 171 (dk_at dksX2_settle_2 14 rfl rfl)
theorem dX2_settle_63 : decode cX2_settle 63 = .ok (.aload_n 0, 1) := dk_42 (dk_at dksX2_settle_2 17 rfl rfl)
theorem dX2_settle_64 : decode cX2_settle 64 = .ok (.getfield 29, 3) := dk_180 0 29 (dk_at dksX2_settle_2 18 rfl rfl)
theorem dX2_settle_67 : decode cX2_settle 67 = .ok (.aload_n 0, 1) := dk_42 (dk_at dksX2_settle_2 21 rfl rfl)
theorem dX2_settle_68 : decode cX2_settle 68 = .ok (.getfield 165, 3) := dk_180 0 165 (dk_at dksX2_settle_3 0 rfl rfl)
theorem dX2_settle_71 : decode cX2_settle 71 = .ok (.iaload, 1) := dk_46 (dk_at dksX2_settle_3 3 rfl rfl)
theorem dX2_settle_72 : decode cX2_settle 72 = .ok (.iconst 4, 1) := dk_7 (dk_at dksX2_settle_3 4 rfl rfl)
theorem dX2_settle_73 : decode cX2_settle 73 = .ok (.if_icmp .eq 17, 3) := dk_159 0 17 (dk_at dksX2_settle_3 5 rfl rfl)
theorem dX2_settle_76 : decode cX2_settle 76 = .ok (.aload_n 0, 1) := dk_42 (dk_at dksX2_settle_3 8 rfl rfl)
theorem dX2_settle_77 : decode cX2_settle 77 = .ok (.getfield 29, 3) := dk_180 0 29 (dk_at dksX2_settle_3 9 rfl rfl)
theorem dX2_settle_80 : decode cX2_settle 80 = .ok (.aload_n 0, 1) := dk_42 (dk_at dksX2_settle_3 12 rfl rfl)
theorem dX2_settle_81 : decode cX2_settle 81 = .ok (.getfield 165, 3) := dk_180 0 165 (dk_at dksX2_settle_3 13 rfl rfl)
theorem dX2_settle_84 : decode cX2_settle 84 = .ok (.iaload, 1) := dk_46 (dk_at dksX2_settle_3 16 rfl rfl)
theorem dX2_settle_85 : decode cX2_settle 85 = .ok (.bipush 20, 2) := dk_16 20 (dk_at dksX2_settle_3 17 rfl rfl)
theorem dX2_settle_87 : decode cX2_settle 87 = .ok (.if_icmp .ne (-87), 3) := dk_160 255 169 (dk_at dksX2_settle_3 19 rfl rfl)
theorem dX2_settle_90 : decode cX2_settle 90 = .ok (.aload_n 0, 1) := dk_42 (dk_at dksX2_settle_3 22 rfl rfl)
theorem dX2_settle_91 : decode cX2_settle 91 = .ok (.dup, 1) := dk_89 (dk_at dksX2_settle_3 23 rfl rfl)
theorem dX2_settle_92 : decode cX2_settle 92 = .ok (.getfield 175, 3) := dk_180 0 175 (dk_at dksX2_settle_4 0 rfl rfl)
theorem dX2_settle_95 : decode cX2_settle 95 = .ok (.iconst 1, 1) := dk_4 (dk_at dksX2_settle_4 3 rfl rfl)
theorem dX2_settle_96 : decode cX2_settle 96 = .ok (.isub, 1) := dk_100 (dk_at dksX2_settle_4 4 rfl rfl)
theorem dX2_settle_97 : decode cX2_settle 97 = .ok (.putfield 175, 3) := dk_181 0 175 (dk_at dksX2_settle_4 5 rfl rfl)
theorem dX2_settle_100 : decode cX2_settle 100 = .ok (.goto (-100), 3) := dk_167 255 156 (dk_at dksX2_settle_4 8 rfl rfl)
theorem dX2_settle_103 : decode cX2_settle 103 = .ok (.return_, 1) := dk_177 (dk_at dksX2_settle_4 11 rfl rfl)
abbrev cX2_emit : ByteArray := prog_20_method_26_code
def yX2_emit : MethodName := ⟨RX2, "emit", "(II)V"⟩
def dkwX2_emit_2 : List UInt8 := [96, 181, 0, 148, 177]
abbrev dktX2_emit_2 : List UInt8 := dkwX2_emit_2 ++ []
def dkwX2_emit_1 : List UInt8 := [42, 180, 0, 145, 16, 97, 96, 5, 42, 180, 0, 148, 104, 96, 4, 96, 28, 79, 42, 89, 180, 0, 148, 4]
abbrev dktX2_emit_1 : List UInt8 := dkwX2_emit_1 ++ dktX2_emit_2
def dkwX2_emit_0 : List UInt8 := [42, 180, 0, 16, 42, 180, 0, 145, 16, 97, 96, 5, 42, 180, 0, 148, 104, 96, 27, 79, 42, 180, 0, 16]
abbrev dktX2_emit_0 : List UInt8 := dkwX2_emit_0 ++ dktX2_emit_1
theorem dksX2_emit_0 : cX2_emit.data.toList.drop 0 = dktX2_emit_0 := by decide +kernel
theorem dksX2_emit_1 : cX2_emit.data.toList.drop 24 = dktX2_emit_1 := dk_seg dksX2_emit_0 24 rfl rfl
theorem dksX2_emit_2 : cX2_emit.data.toList.drop 48 = dktX2_emit_2 := dk_seg dksX2_emit_1 24 rfl rfl
theorem dX2_emit_0 : decode cX2_emit 0 = .ok (.aload_n 0, 1) := dk_42 (dk_at dksX2_emit_0 0 rfl rfl)
theorem dX2_emit_1 : decode cX2_emit 1 = .ok (.getfield 16, 3) := dk_180 0 16 (dk_at dksX2_emit_0 1 rfl rfl)
theorem dX2_emit_4 : decode cX2_emit 4 = .ok (.aload_n 0, 1) := dk_42 (dk_at dksX2_emit_0 4 rfl rfl)
theorem dX2_emit_5 : decode cX2_emit 5 = .ok (.getfield 145, 3) := dk_180 0 145 (dk_at dksX2_emit_0 5 rfl rfl)
theorem dX2_emit_8 : decode cX2_emit 8 = .ok (.bipush 97, 2) := dk_16 97 (dk_at dksX2_emit_0 8 rfl rfl)
theorem dX2_emit_10 : decode cX2_emit 10 = .ok (.iadd, 1) := dk_96 (dk_at dksX2_emit_0 10 rfl rfl)
theorem dX2_emit_11 : decode cX2_emit 11 = .ok (.iconst 2, 1) := dk_5 (dk_at dksX2_emit_0 11 rfl rfl)
theorem dX2_emit_12 : decode cX2_emit 12 = .ok (.aload_n 0, 1) := dk_42 (dk_at dksX2_emit_0 12 rfl rfl)
theorem dX2_emit_13 : decode cX2_emit 13 = .ok (.getfield 148, 3) := dk_180 0 148 (dk_at dksX2_emit_0 13 rfl rfl)
theorem dX2_emit_16 : decode cX2_emit 16 = .ok (.imul, 1) := dk_104 (dk_at dksX2_emit_0 16 rfl rfl)
theorem dX2_emit_17 : decode cX2_emit 17 = .ok (.iadd, 1) := dk_96 (dk_at dksX2_emit_0 17 rfl rfl)
theorem dX2_emit_18 : decode cX2_emit 18 = .ok (.iload_n 1, 1) := dk_27 (dk_at dksX2_emit_0 18 rfl rfl)
theorem dX2_emit_19 : decode cX2_emit 19 = .ok (.iastore, 1) := dk_79 (dk_at dksX2_emit_0 19 rfl rfl)
theorem dX2_emit_20 : decode cX2_emit 20 = .ok (.aload_n 0, 1) := dk_42 (dk_at dksX2_emit_0 20 rfl rfl)
theorem dX2_emit_21 : decode cX2_emit 21 = .ok (.getfield 16, 3) := dk_180 0 16 (dk_at dksX2_emit_0 21 rfl rfl)
theorem dX2_emit_24 : decode cX2_emit 24 = .ok (.aload_n 0, 1) := dk_42 (dk_at dksX2_emit_1 0 rfl rfl)
theorem dX2_emit_25 : decode cX2_emit 25 = .ok (.getfield 145, 3) := dk_180 0 145 (dk_at dksX2_emit_1 1 rfl rfl)
theorem dX2_emit_28 : decode cX2_emit 28 = .ok (.bipush 97, 2) := dk_16 97 (dk_at dksX2_emit_1 4 rfl rfl)
theorem dX2_emit_30 : decode cX2_emit 30 = .ok (.iadd, 1) := dk_96 (dk_at dksX2_emit_1 6 rfl rfl)
theorem dX2_emit_31 : decode cX2_emit 31 = .ok (.iconst 2, 1) := dk_5 (dk_at dksX2_emit_1 7 rfl rfl)
theorem dX2_emit_32 : decode cX2_emit 32 = .ok (.aload_n 0, 1) := dk_42 (dk_at dksX2_emit_1 8 rfl rfl)
theorem dX2_emit_33 : decode cX2_emit 33 = .ok (.getfield 148, 3) := dk_180 0 148 (dk_at dksX2_emit_1 9 rfl rfl)
theorem dX2_emit_36 : decode cX2_emit 36 = .ok (.imul, 1) := dk_104 (dk_at dksX2_emit_1 12 rfl rfl)
theorem dX2_emit_37 : decode cX2_emit 37 = .ok (.iadd, 1) := dk_96 (dk_at dksX2_emit_1 13 rfl rfl)
theorem dX2_emit_38 : decode cX2_emit 38 = .ok (.iconst 1, 1) := dk_4 (dk_at dksX2_emit_1 14 rfl rfl)
theorem dX2_emit_39 : decode cX2_emit 39 = .ok (.iadd, 1) := dk_96 (dk_at dksX2_emit_1 15 rfl rfl)
theorem dX2_emit_40 : decode cX2_emit 40 = .ok (.iload_n 2, 1) := dk_28 (dk_at dksX2_emit_1 16 rfl rfl)
theorem dX2_emit_41 : decode cX2_emit 41 = .ok (.iastore, 1) := dk_79 (dk_at dksX2_emit_1 17 rfl rfl)
theorem dX2_emit_42 : decode cX2_emit 42 = .ok (.aload_n 0, 1) := dk_42 (dk_at dksX2_emit_1 18 rfl rfl)
theorem dX2_emit_43 : decode cX2_emit 43 = .ok (.dup, 1) := dk_89 (dk_at dksX2_emit_1 19 rfl rfl)
theorem dX2_emit_44 : decode cX2_emit 44 = .ok (.getfield 148, 3) := dk_180 0 148 (dk_at dksX2_emit_1 20 rfl rfl)
theorem dX2_emit_47 : decode cX2_emit 47 = .ok (.iconst 1, 1) := dk_4 (dk_at dksX2_emit_1 23 rfl rfl)
theorem dX2_emit_48 : decode cX2_emit 48 = .ok (.iadd, 1) := dk_96 (dk_at dksX2_emit_2 0 rfl rfl)
theorem dX2_emit_49 : decode cX2_emit 49 = .ok (.putfield 148, 3) := dk_181 0 148 (dk_at dksX2_emit_2 1 rfl rfl)
theorem dX2_emit_52 : decode cX2_emit 52 = .ok (.return_, 1) := dk_177 (dk_at dksX2_emit_2 4 rfl rfl)
abbrev cX2_nextOfMost : ByteArray := prog_20_method_45_code
def yX2_nextOfMost : MethodName := ⟨RX2, "nextOfMost", "()I"⟩
def dkwX2_nextOfMost_2 : List UInt8 := [3, 172]
abbrev dktX2_nextOfMost_2 : List UInt8 := dkwX2_nextOfMost_2 ++ []
def dkwX2_nextOfMost_1 : List UInt8 := [42, 180, 0, 32, 42, 180, 0, 192, 4, 100, 92, 46, 4, 96, 79, 42, 3, 181, 0, 195, 42, 182, 0, 189]
abbrev dktX2_nextOfMost_1 : List UInt8 := dkwX2_nextOfMost_1 ++ dktX2_nextOfMost_2
def dkwX2_nextOfMost_0 : List UInt8 := [42, 180, 0, 32, 42, 180, 0, 192, 4, 100, 46, 16, 6, 160, 0, 6, 16, 7, 172, 42, 4, 182, 0, 204]
abbrev dktX2_nextOfMost_0 : List UInt8 := dkwX2_nextOfMost_0 ++ dktX2_nextOfMost_1
theorem dksX2_nextOfMost_0 : cX2_nextOfMost.data.toList.drop 0 = dktX2_nextOfMost_0 := by decide +kernel
theorem dksX2_nextOfMost_1 : cX2_nextOfMost.data.toList.drop 24 = dktX2_nextOfMost_1 := dk_seg dksX2_nextOfMost_0 24 rfl rfl
theorem dksX2_nextOfMost_2 : cX2_nextOfMost.data.toList.drop 48 = dktX2_nextOfMost_2 := dk_seg dksX2_nextOfMost_1 24 rfl rfl
theorem dX2_nextOfMost_0 : decode cX2_nextOfMost 0 = .ok (.aload_n 0, 1) := dk_42 (dk_at dksX2_nextOfMost_0 0 rfl rfl)
theorem dX2_nextOfMost_1 : decode cX2_nextOfMost 1 = .ok (.getfield 32, 3) := dk_180 0 32 (dk_at dksX2_nextOfMost_0 1 rfl rfl)
theorem dX2_nextOfMost_4 : decode cX2_nextOfMost 4 = .ok (.aload_n 0, 1) := dk_42 (dk_at dksX2_nextOfMost_0 4 rfl rfl)
theorem dX2_nextOfMost_5 : decode cX2_nextOfMost 5 = .ok (.getfield 192, 3) := dk_180 0 192 (dk_at dksX2_nextOfMost_0 5 rfl rfl)
theorem dX2_nextOfMost_8 : decode cX2_nextOfMost 8 = .ok (.iconst 1, 1) := dk_4 (dk_at dksX2_nextOfMost_0 8 rfl rfl)
theorem dX2_nextOfMost_9 : decode cX2_nextOfMost 9 = .ok (.isub, 1) := dk_100 (dk_at dksX2_nextOfMost_0 9 rfl rfl)
theorem dX2_nextOfMost_10 : decode cX2_nextOfMost 10 = .ok (.iaload, 1) := dk_46 (dk_at dksX2_nextOfMost_0 10 rfl rfl)
theorem dX2_nextOfMost_11 : decode cX2_nextOfMost 11 = .ok (.bipush 6, 2) := dk_16 6 (dk_at dksX2_nextOfMost_0 11 rfl rfl)
theorem dX2_nextOfMost_13 : decode cX2_nextOfMost 13 = .ok (.if_icmp .ne 6, 3) := dk_160 0 6 (dk_at dksX2_nextOfMost_0 13 rfl rfl)
theorem dX2_nextOfMost_16 : decode cX2_nextOfMost 16 = .ok (.bipush 7, 2) := dk_16 7 (dk_at dksX2_nextOfMost_0 16 rfl rfl)
theorem dX2_nextOfMost_18 : decode cX2_nextOfMost 18 = .ok (.ireturn, 1) := dk_172 (dk_at dksX2_nextOfMost_0 18 rfl rfl)
theorem dX2_nextOfMost_19 : decode cX2_nextOfMost 19 = .ok (.aload_n 0, 1) := dk_42 (dk_at dksX2_nextOfMost_0 19 rfl rfl)
theorem dX2_nextOfMost_20 : decode cX2_nextOfMost 20 = .ok (.iconst 1, 1) := dk_4 (dk_at dksX2_nextOfMost_0 20 rfl rfl)
theorem dX2_nextOfMost_21 : decode cX2_nextOfMost 21 = .ok (.invokevirtual 204, 3) := dk_182 0 204 (dk_at dksX2_nextOfMost_0 21 rfl rfl)
theorem dX2_nextOfMost_24 : decode cX2_nextOfMost 24 = .ok (.aload_n 0, 1) := dk_42 (dk_at dksX2_nextOfMost_1 0 rfl rfl)
theorem dX2_nextOfMost_25 : decode cX2_nextOfMost 25 = .ok (.getfield 32, 3) := dk_180 0 32 (dk_at dksX2_nextOfMost_1 1 rfl rfl)
theorem dX2_nextOfMost_28 : decode cX2_nextOfMost 28 = .ok (.aload_n 0, 1) := dk_42 (dk_at dksX2_nextOfMost_1 4 rfl rfl)
theorem dX2_nextOfMost_29 : decode cX2_nextOfMost 29 = .ok (.getfield 192, 3) := dk_180 0 192 (dk_at dksX2_nextOfMost_1 5 rfl rfl)
theorem dX2_nextOfMost_32 : decode cX2_nextOfMost 32 = .ok (.iconst 1, 1) := dk_4 (dk_at dksX2_nextOfMost_1 8 rfl rfl)
theorem dX2_nextOfMost_33 : decode cX2_nextOfMost 33 = .ok (.isub, 1) := dk_100 (dk_at dksX2_nextOfMost_1 9 rfl rfl)
theorem dX2_nextOfMost_34 : decode cX2_nextOfMost 34 = .ok (.dup2, 1) := dk_92 (dk_at dksX2_nextOfMost_1 10 rfl rfl)
theorem dX2_nextOfMost_35 : decode cX2_nextOfMost 35 = .ok (.iaload, 1) := dk_46 (dk_at dksX2_nextOfMost_1 11 rfl rfl)
theorem dX2_nextOfMost_36 : decode cX2_nextOfMost 36 = .ok (.iconst 1, 1) := dk_4 (dk_at dksX2_nextOfMost_1 12 rfl rfl)
theorem dX2_nextOfMost_37 : decode cX2_nextOfMost 37 = .ok (.iadd, 1) := dk_96 (dk_at dksX2_nextOfMost_1 13 rfl rfl)
theorem dX2_nextOfMost_38 : decode cX2_nextOfMost 38 = .ok (.iastore, 1) := dk_79 (dk_at dksX2_nextOfMost_1 14 rfl rfl)
theorem dX2_nextOfMost_39 : decode cX2_nextOfMost 39 = .ok (.aload_n 0, 1) := dk_42 (dk_at dksX2_nextOfMost_1 15 rfl rfl)
theorem dX2_nextOfMost_40 : decode cX2_nextOfMost 40 = .ok (.iconst 0, 1) := dk_3 (dk_at dksX2_nextOfMost_1 16 rfl rfl)
theorem dX2_nextOfMost_41 : decode cX2_nextOfMost 41 = .ok (.putfield 195, 3) := dk_181 0 195 (dk_at dksX2_nextOfMost_1 17 rfl rfl)
theorem dX2_nextOfMost_44 : decode cX2_nextOfMost 44 = .ok (.aload_n 0, 1) := dk_42 (dk_at dksX2_nextOfMost_1 20 rfl rfl)
theorem dX2_nextOfMost_45 : decode cX2_nextOfMost 45 = .ok (.invokevirtual 189, 3) := dk_182 0 189 (dk_at dksX2_nextOfMost_1 21 rfl rfl)
theorem dX2_nextOfMost_48 : decode cX2_nextOfMost 48 = .ok (.iconst 0, 1) := dk_3 (dk_at dksX2_nextOfMost_2 0 rfl rfl)
theorem dX2_nextOfMost_49 : decode cX2_nextOfMost 49 = .ok (.ireturn, 1) := dk_172 (dk_at dksX2_nextOfMost_2 1 rfl rfl)
abbrev cX2_shut : ByteArray := prog_20_method_46_code
def yX2_shut : MethodName := ⟨RX2, "shut", "(I)V"⟩
def dkwX2_shut_3 : List UInt8 := [181, 0, 165, 42, 182, 0, 189, 42, 16, 8, 182, 0, 204, 177]
abbrev dktX2_shut_3 : List UInt8 := dkwX2_shut_3 ++ []
def dkwX2_shut_2 : List UInt8 := [180, 0, 29, 42, 180, 0, 165, 4, 100, 16, 16, 79, 42, 182, 0, 189, 177, 42, 89, 180, 0, 165, 4, 100]
abbrev dktX2_shut_2 : List UInt8 := dkwX2_shut_2 ++ dktX2_shut_3
def dkwX2_shut_1 : List UInt8 := [180, 0, 192, 4, 100, 181, 0, 192, 42, 6, 42, 180, 0, 32, 42, 180, 0, 192, 46, 182, 0, 171, 42]
abbrev dktX2_shut_1 : List UInt8 := dkwX2_shut_1 ++ dktX2_shut_2
def dkwX2_shut_0 : List UInt8 := [42, 4, 182, 0, 204, 42, 89, 180, 0, 175, 4, 100, 181, 0, 175, 27, 16, 41, 160, 0, 45, 42, 89]
abbrev dktX2_shut_0 : List UInt8 := dkwX2_shut_0 ++ dktX2_shut_1
theorem dksX2_shut_0 : cX2_shut.data.toList.drop 0 = dktX2_shut_0 := by decide +kernel
theorem dksX2_shut_1 : cX2_shut.data.toList.drop 23 = dktX2_shut_1 := dk_seg dksX2_shut_0 23 rfl rfl
theorem dksX2_shut_2 : cX2_shut.data.toList.drop 46 = dktX2_shut_2 := dk_seg dksX2_shut_1 23 rfl rfl
theorem dksX2_shut_3 : cX2_shut.data.toList.drop 70 = dktX2_shut_3 := dk_seg dksX2_shut_2 24 rfl rfl
theorem dX2_shut_0 : decode cX2_shut 0 = .ok (.aload_n 0, 1) := dk_42 (dk_at dksX2_shut_0 0 rfl rfl)
theorem dX2_shut_1 : decode cX2_shut 1 = .ok (.iconst 1, 1) := dk_4 (dk_at dksX2_shut_0 1 rfl rfl)
theorem dX2_shut_2 : decode cX2_shut 2 = .ok (.invokevirtual 204, 3) := dk_182 0 204 (dk_at dksX2_shut_0 2 rfl rfl)
theorem dX2_shut_5 : decode cX2_shut 5 = .ok (.aload_n 0, 1) := dk_42 (dk_at dksX2_shut_0 5 rfl rfl)
theorem dX2_shut_6 : decode cX2_shut 6 = .ok (.dup, 1) := dk_89 (dk_at dksX2_shut_0 6 rfl rfl)
theorem dX2_shut_7 : decode cX2_shut 7 = .ok (.getfield 175, 3) := dk_180 0 175 (dk_at dksX2_shut_0 7 rfl rfl)
theorem dX2_shut_10 : decode cX2_shut 10 = .ok (.iconst 1, 1) := dk_4 (dk_at dksX2_shut_0 10 rfl rfl)
theorem dX2_shut_11 : decode cX2_shut 11 = .ok (.isub, 1) := dk_100 (dk_at dksX2_shut_0 11 rfl rfl)
theorem dX2_shut_12 : decode cX2_shut 12 = .ok (.putfield 175, 3) := dk_181 0 175 (dk_at dksX2_shut_0 12 rfl rfl)
theorem dX2_shut_15 : decode cX2_shut 15 = .ok (.iload_n 1, 1) := dk_27 (dk_at dksX2_shut_0 15 rfl rfl)
theorem dX2_shut_16 : decode cX2_shut 16 = .ok (.bipush 41, 2) := dk_16 41 (dk_at dksX2_shut_0 16 rfl rfl)
theorem dX2_shut_18 : decode cX2_shut 18 = .ok (.if_icmp .ne 45, 3) := dk_160 0 45 (dk_at dksX2_shut_0 18 rfl rfl)
theorem dX2_shut_21 : decode cX2_shut 21 = .ok (.aload_n 0, 1) := dk_42 (dk_at dksX2_shut_0 21 rfl rfl)
theorem dX2_shut_22 : decode cX2_shut 22 = .ok (.dup, 1) := dk_89 (dk_at dksX2_shut_0 22 rfl rfl)
theorem dX2_shut_23 : decode cX2_shut 23 = .ok (.getfield 192, 3) := dk_180 0 192 (dk_at dksX2_shut_1 0 rfl rfl)
theorem dX2_shut_26 : decode cX2_shut 26 = .ok (.iconst 1, 1) := dk_4 (dk_at dksX2_shut_1 3 rfl rfl)
theorem dX2_shut_27 : decode cX2_shut 27 = .ok (.isub, 1) := dk_100 (dk_at dksX2_shut_1 4 rfl rfl)
theorem dX2_shut_28 : decode cX2_shut 28 = .ok (.putfield 192, 3) := dk_181 0 192 (dk_at dksX2_shut_1 5 rfl rfl)
theorem dX2_shut_31 : decode cX2_shut 31 = .ok (.aload_n 0, 1) := dk_42 (dk_at dksX2_shut_1 8 rfl rfl)
theorem dX2_shut_32 : decode cX2_shut 32 = .ok (.iconst 3, 1) := dk_6 (dk_at dksX2_shut_1 9 rfl rfl)
theorem dX2_shut_33 : decode cX2_shut 33 = .ok (.aload_n 0, 1) := dk_42 (dk_at dksX2_shut_1 10 rfl rfl)
theorem dX2_shut_34 : decode cX2_shut 34 = .ok (.getfield 32, 3) := dk_180 0 32 (dk_at dksX2_shut_1 11 rfl rfl)
theorem dX2_shut_37 : decode cX2_shut 37 = .ok (.aload_n 0, 1) := dk_42 (dk_at dksX2_shut_1 14 rfl rfl)
theorem dX2_shut_38 : decode cX2_shut 38 = .ok (.getfield 192, 3) := dk_180 0 192 (dk_at dksX2_shut_1 15 rfl rfl)
theorem dX2_shut_41 : decode cX2_shut 41 = .ok (.iaload, 1) := dk_46 (dk_at dksX2_shut_1 18 rfl rfl)
theorem dX2_shut_42 : decode cX2_shut 42 = .ok (.invokevirtual 171, 3) := dk_182 0 171 (dk_at dksX2_shut_1 19 rfl rfl)
theorem dX2_shut_45 : decode cX2_shut 45 = .ok (.aload_n 0, 1) := dk_42 (dk_at dksX2_shut_1 22 rfl rfl)
theorem dX2_shut_46 : decode cX2_shut 46 = .ok (.getfield 29, 3) := dk_180 0 29 (dk_at dksX2_shut_2 0 rfl rfl)
theorem dX2_shut_49 : decode cX2_shut 49 = .ok (.aload_n 0, 1) := dk_42 (dk_at dksX2_shut_2 3 rfl rfl)
theorem dX2_shut_50 : decode cX2_shut 50 = .ok (.getfield 165, 3) := dk_180 0 165 (dk_at dksX2_shut_2 4 rfl rfl)
theorem dX2_shut_53 : decode cX2_shut 53 = .ok (.iconst 1, 1) := dk_4 (dk_at dksX2_shut_2 7 rfl rfl)
theorem dX2_shut_54 : decode cX2_shut 54 = .ok (.isub, 1) := dk_100 (dk_at dksX2_shut_2 8 rfl rfl)
theorem dX2_shut_55 : decode cX2_shut 55 = .ok (.bipush 16, 2) := dk_16 16 (dk_at dksX2_shut_2 9 rfl rfl)
theorem dX2_shut_57 : decode cX2_shut 57 = .ok (.iastore, 1) := dk_79 (dk_at dksX2_shut_2 11 rfl rfl)
theorem dX2_shut_58 : decode cX2_shut 58 = .ok (.aload_n 0, 1) := dk_42 (dk_at dksX2_shut_2 12 rfl rfl)
theorem dX2_shut_59 : decode cX2_shut 59 = .ok (.invokevirtual 189, 3) := dk_182 0 189 (dk_at dksX2_shut_2 13 rfl rfl)
theorem dX2_shut_62 : decode cX2_shut 62 = .ok (.return_, 1) := dk_177 (dk_at dksX2_shut_2 16 rfl rfl)
theorem dX2_shut_63 : decode cX2_shut 63 = .ok (.aload_n 0, 1) := dk_42 (dk_at dksX2_shut_2 17 rfl rfl)
theorem dX2_shut_64 : decode cX2_shut 64 = .ok (.dup, 1) := dk_89 (dk_at dksX2_shut_2 18 rfl rfl)
theorem dX2_shut_65 : decode cX2_shut 65 = .ok (.getfield 165, 3) := dk_180 0 165 (dk_at dksX2_shut_2 19 rfl rfl)
theorem dX2_shut_68 : decode cX2_shut 68 = .ok (.iconst 1, 1) := dk_4 (dk_at dksX2_shut_2 22 rfl rfl)
theorem dX2_shut_69 : decode cX2_shut 69 = .ok (.isub, 1) := dk_100 (dk_at dksX2_shut_2 23 rfl rfl)
theorem dX2_shut_70 : decode cX2_shut 70 = .ok (.putfield 165, 3) := dk_181 0 165 (dk_at dksX2_shut_3 0 rfl rfl)
theorem dX2_shut_73 : decode cX2_shut 73 = .ok (.aload_n 0, 1) := dk_42 (dk_at dksX2_shut_3 3 rfl rfl)
theorem dX2_shut_74 : decode cX2_shut 74 = .ok (.invokevirtual 189, 3) := dk_182 0 189 (dk_at dksX2_shut_3 4 rfl rfl)
theorem dX2_shut_77 : decode cX2_shut 77 = .ok (.aload_n 0, 1) := dk_42 (dk_at dksX2_shut_3 7 rfl rfl)
theorem dX2_shut_78 : decode cX2_shut 78 = .ok (.bipush 8, 2) := dk_16 8 (dk_at dksX2_shut_3 8 rfl rfl)
theorem dX2_shut_80 : decode cX2_shut 80 = .ok (.invokevirtual 204, 3) := dk_182 0 204 (dk_at dksX2_shut_3 10 rfl rfl)
theorem dX2_shut_83 : decode cX2_shut 83 = .ok (.return_, 1) := dk_177 (dk_at dksX2_shut_3 13 rfl rfl)
abbrev cX2_beginOne : ByteArray := prog_20_method_42_code
def yX2_beginOne : MethodName := ⟨RX2, "beginOne", "()I"⟩
def dkwX2_beginOne_9 : List UInt8 := [167, 0, 4, 4, 172]
abbrev dktX2_beginOne_9 : List UInt8 := dkwX2_beginOne_9 ++ []
def dkwX2_beginOne_8 : List UInt8 := [42, 16, 102, 16, 97, 16, 99, 16, 116, 184, 0, 137, 182, 0, 213, 153, 0, 10, 42, 182, 0, 217]
abbrev dktX2_beginOne_8 : List UInt8 := dkwX2_beginOne_8 ++ dktX2_beginOne_9
def dkwX2_beginOne_7 : List UInt8 := [16, 109, 16, 111, 16, 115, 16, 116, 184, 0, 137, 182, 0, 213, 153, 0, 10, 42, 16, 41, 182, 0, 207, 172]
abbrev dktX2_beginOne_7 : List UInt8 := dkwX2_beginOne_7 ++ dktX2_beginOne_8
def dkwX2_beginOne_6 : List UInt8 := [16, 110, 16, 111, 16, 116, 184, 0, 133, 182, 0, 213, 153, 0, 10, 42, 16, 20, 182, 0, 207, 172, 42]
abbrev dktX2_beginOne_6 : List UInt8 := dkwX2_beginOne_6 ++ dktX2_beginOne_7
def dkwX2_beginOne_5 : List UInt8 := [180, 0, 107, 16, 45, 160, 0, 9, 42, 7, 182, 0, 207, 172, 42, 182, 0, 210, 154, 0, 5, 4, 172, 42]
abbrev dktX2_beginOne_5 : List UInt8 := dkwX2_beginOne_5 ++ dktX2_beginOne_6
def dkwX2_beginOne_4 : List UInt8 := [16, 8, 182, 0, 204, 3, 172, 42, 180, 0, 107, 16, 40, 160, 0, 10, 42, 16, 40, 182, 0, 207, 172, 42]
abbrev dktX2_beginOne_4 : List UInt8 := dkwX2_beginOne_4 ++ dktX2_beginOne_5
def dkwX2_beginOne_3 : List UInt8 := [160, 0, 10, 42, 180, 0, 113, 167, 0, 4, 27, 182, 0, 171, 42, 182, 0, 189, 42, 4, 181, 0, 195, 42]
abbrev dktX2_beginOne_3 : List UInt8 := dkwX2_beginOne_3 ++ dktX2_beginOne_4
def dkwX2_beginOne_2 : List UInt8 := [155, 0, 53, 42, 42, 180, 0, 107, 4, 160, 0, 7, 3, 167, 0, 4, 4, 42, 180, 0, 107, 4]
abbrev dktX2_beginOne_2 : List UInt8 := dkwX2_beginOne_2 ++ dktX2_beginOne_3
def dkwX2_beginOne_1 : List UInt8 := [60, 27, 155, 0, 13, 42, 27, 182, 0, 201, 154, 0, 5, 8, 172, 42, 180, 0, 107, 4, 159, 0, 7, 27]
abbrev dktX2_beginOne_1 : List UInt8 := dkwX2_beginOne_1 ++ dktX2_beginOne_2
def dkwX2_beginOne_0 : List UInt8 := [42, 180, 0, 107, 4, 160, 0, 15, 42, 180, 0, 113, 17, 39, 15, 164, 0, 5, 5, 172, 42, 182, 0, 198]
abbrev dktX2_beginOne_0 : List UInt8 := dkwX2_beginOne_0 ++ dktX2_beginOne_1
theorem dksX2_beginOne_0 : cX2_beginOne.data.toList.drop 0 = dktX2_beginOne_0 := by decide +kernel
theorem dksX2_beginOne_1 : cX2_beginOne.data.toList.drop 24 = dktX2_beginOne_1 := dk_seg dksX2_beginOne_0 24 rfl rfl
theorem dksX2_beginOne_2 : cX2_beginOne.data.toList.drop 48 = dktX2_beginOne_2 := dk_seg dksX2_beginOne_1 24 rfl rfl
theorem dksX2_beginOne_3 : cX2_beginOne.data.toList.drop 70 = dktX2_beginOne_3 := dk_seg dksX2_beginOne_2 22 rfl rfl
theorem dksX2_beginOne_4 : cX2_beginOne.data.toList.drop 94 = dktX2_beginOne_4 := dk_seg dksX2_beginOne_3 24 rfl rfl
theorem dksX2_beginOne_5 : cX2_beginOne.data.toList.drop 118 = dktX2_beginOne_5 := dk_seg dksX2_beginOne_4 24 rfl rfl
theorem dksX2_beginOne_6 : cX2_beginOne.data.toList.drop 142 = dktX2_beginOne_6 := dk_seg dksX2_beginOne_5 24 rfl rfl
theorem dksX2_beginOne_7 : cX2_beginOne.data.toList.drop 165 = dktX2_beginOne_7 := dk_seg dksX2_beginOne_6 23 rfl rfl
theorem dksX2_beginOne_8 : cX2_beginOne.data.toList.drop 189 = dktX2_beginOne_8 := dk_seg dksX2_beginOne_7 24 rfl rfl
theorem dksX2_beginOne_9 : cX2_beginOne.data.toList.drop 211 = dktX2_beginOne_9 := dk_seg dksX2_beginOne_8 22 rfl rfl
theorem dX2_beginOne_0 : decode cX2_beginOne 0 = .ok (.aload_n 0, 1) := dk_42 (dk_at dksX2_beginOne_0 0 rfl rfl)
theorem dX2_beginOne_1 : decode cX2_beginOne 1 = .ok (.getfield 107, 3) := dk_180 0 107 (dk_at dksX2_beginOne_0 1 rfl rfl)
theorem dX2_beginOne_4 : decode cX2_beginOne 4 = .ok (.iconst 1, 1) := dk_4 (dk_at dksX2_beginOne_0 4 rfl rfl)
theorem dX2_beginOne_5 : decode cX2_beginOne 5 = .ok (.if_icmp .ne 15, 3) := dk_160 0 15 (dk_at dksX2_beginOne_0 5 rfl rfl)
theorem dX2_beginOne_8 : decode cX2_beginOne 8 = .ok (.aload_n 0, 1) := dk_42 (dk_at dksX2_beginOne_0 8 rfl rfl)
theorem dX2_beginOne_9 : decode cX2_beginOne 9 = .ok (.getfield 113, 3) := dk_180 0 113 (dk_at dksX2_beginOne_0 9 rfl rfl)
theorem dX2_beginOne_12 : decode cX2_beginOne 12 = .ok (.sipush 9999, 3) := dk_17 39 15 (dk_at dksX2_beginOne_0 12 rfl rfl)
theorem dX2_beginOne_15 : decode cX2_beginOne 15 = .ok (.if_icmp .le 5, 3) := dk_164 0 5 (dk_at dksX2_beginOne_0 15 rfl rfl)
theorem dX2_beginOne_18 : decode cX2_beginOne 18 = .ok (.iconst 2, 1) := dk_5 (dk_at dksX2_beginOne_0 18 rfl rfl)
theorem dX2_beginOne_19 : decode cX2_beginOne 19 = .ok (.ireturn, 1) := dk_172 (dk_at dksX2_beginOne_0 19 rfl rfl)
theorem dX2_beginOne_20 : decode cX2_beginOne 20 = .ok (.aload_n 0, 1) := dk_42 (dk_at dksX2_beginOne_0 20 rfl rfl)
theorem dX2_beginOne_21 : decode cX2_beginOne 21 = .ok (.invokevirtual 198, 3) := dk_182 0 198 (dk_at dksX2_beginOne_0 21 rfl rfl)
theorem dX2_beginOne_24 : decode cX2_beginOne 24 = .ok (.istore_n 1, 1) := dk_60 (dk_at dksX2_beginOne_1 0 rfl rfl)
theorem dX2_beginOne_25 : decode cX2_beginOne 25 = .ok (.iload_n 1, 1) := dk_27 (dk_at dksX2_beginOne_1 1 rfl rfl)
theorem dX2_beginOne_26 : decode cX2_beginOne 26 = .ok (.ifCond .lt 13, 3) := dk_155 0 13 (dk_at dksX2_beginOne_1 2 rfl rfl)
theorem dX2_beginOne_29 : decode cX2_beginOne 29 = .ok (.aload_n 0, 1) := dk_42 (dk_at dksX2_beginOne_1 5 rfl rfl)
theorem dX2_beginOne_30 : decode cX2_beginOne 30 = .ok (.iload_n 1, 1) := dk_27 (dk_at dksX2_beginOne_1 6 rfl rfl)
theorem dX2_beginOne_31 : decode cX2_beginOne 31 = .ok (.invokevirtual 201, 3) := dk_182 0 201 (dk_at dksX2_beginOne_1 7 rfl rfl)
theorem dX2_beginOne_34 : decode cX2_beginOne 34 = .ok (.ifCond .ne 5, 3) := dk_154 0 5 (dk_at dksX2_beginOne_1 10 rfl rfl)
theorem dX2_beginOne_37 : decode cX2_beginOne 37 = .ok (.iconst 5, 1) := dk_8 (dk_at dksX2_beginOne_1 13 rfl rfl)
theorem dX2_beginOne_38 : decode cX2_beginOne 38 = .ok (.ireturn, 1) := dk_172 (dk_at dksX2_beginOne_1 14 rfl rfl)
theorem dX2_beginOne_39 : decode cX2_beginOne 39 = .ok (.aload_n 0, 1) := dk_42 (dk_at dksX2_beginOne_1 15 rfl rfl)
theorem dX2_beginOne_40 : decode cX2_beginOne 40 = .ok (.getfield 107, 3) := dk_180 0 107 (dk_at dksX2_beginOne_1 16 rfl rfl)
theorem dX2_beginOne_43 : decode cX2_beginOne 43 = .ok (.iconst 1, 1) := dk_4 (dk_at dksX2_beginOne_1 19 rfl rfl)
theorem dX2_beginOne_44 : decode cX2_beginOne 44 = .ok (.if_icmp .eq 7, 3) := dk_159 0 7 (dk_at dksX2_beginOne_1 20 rfl rfl)
theorem dX2_beginOne_47 : decode cX2_beginOne 47 = .ok (.iload_n 1, 1) := dk_27 (dk_at dksX2_beginOne_1 23 rfl rfl)
theorem dX2_beginOne_48 : decode cX2_beginOne 48 = .ok (.ifCond .lt 53, 3) := dk_155 0 53 (dk_at dksX2_beginOne_2 0 rfl rfl)
theorem dX2_beginOne_51 : decode cX2_beginOne 51 = .ok (.aload_n 0, 1) := dk_42 (dk_at dksX2_beginOne_2 3 rfl rfl)
theorem dX2_beginOne_52 : decode cX2_beginOne 52 = .ok (.aload_n 0, 1) := dk_42 (dk_at dksX2_beginOne_2 4 rfl rfl)
theorem dX2_beginOne_53 : decode cX2_beginOne 53 = .ok (.getfield 107, 3) := dk_180 0 107 (dk_at dksX2_beginOne_2 5 rfl rfl)
theorem dX2_beginOne_56 : decode cX2_beginOne 56 = .ok (.iconst 1, 1) := dk_4 (dk_at dksX2_beginOne_2 8 rfl rfl)
theorem dX2_beginOne_57 : decode cX2_beginOne 57 = .ok (.if_icmp .ne 7, 3) := dk_160 0 7 (dk_at dksX2_beginOne_2 9 rfl rfl)
theorem dX2_beginOne_60 : decode cX2_beginOne 60 = .ok (.iconst 0, 1) := dk_3 (dk_at dksX2_beginOne_2 12 rfl rfl)
theorem dX2_beginOne_61 : decode cX2_beginOne 61 = .ok (.goto 4, 3) := dk_167 0 4 (dk_at dksX2_beginOne_2 13 rfl rfl)
theorem dX2_beginOne_64 : decode cX2_beginOne 64 = .ok (.iconst 1, 1) := dk_4 (dk_at dksX2_beginOne_2 16 rfl rfl)
theorem dX2_beginOne_65 : decode cX2_beginOne 65 = .ok (.aload_n 0, 1) := dk_42 (dk_at dksX2_beginOne_2 17 rfl rfl)
theorem dX2_beginOne_66 : decode cX2_beginOne 66 = .ok (.getfield 107, 3) := dk_180 0 107 (dk_at dksX2_beginOne_2 18 rfl rfl)
theorem dX2_beginOne_69 : decode cX2_beginOne 69 = .ok (.iconst 1, 1) := dk_4 (dk_at dksX2_beginOne_2 21 rfl rfl)
theorem dX2_beginOne_70 : decode cX2_beginOne 70 = .ok (.if_icmp .ne 10, 3) := dk_160 0 10 (dk_at dksX2_beginOne_3 0 rfl rfl)
theorem dX2_beginOne_73 : decode cX2_beginOne 73 = .ok (.aload_n 0, 1) := dk_42 (dk_at dksX2_beginOne_3 3 rfl rfl)
theorem dX2_beginOne_74 : decode cX2_beginOne 74 = .ok (.getfield 113, 3) := dk_180 0 113 (dk_at dksX2_beginOne_3 4 rfl rfl)
theorem dX2_beginOne_77 : decode cX2_beginOne 77 = .ok (.goto 4, 3) := dk_167 0 4 (dk_at dksX2_beginOne_3 7 rfl rfl)
theorem dX2_beginOne_80 : decode cX2_beginOne 80 = .ok (.iload_n 1, 1) := dk_27 (dk_at dksX2_beginOne_3 10 rfl rfl)
theorem dX2_beginOne_81 : decode cX2_beginOne 81 = .ok (.invokevirtual 171, 3) := dk_182 0 171 (dk_at dksX2_beginOne_3 11 rfl rfl)
theorem dX2_beginOne_84 : decode cX2_beginOne 84 = .ok (.aload_n 0, 1) := dk_42 (dk_at dksX2_beginOne_3 14 rfl rfl)
theorem dX2_beginOne_85 : decode cX2_beginOne 85 = .ok (.invokevirtual 189, 3) := dk_182 0 189 (dk_at dksX2_beginOne_3 15 rfl rfl)
theorem dX2_beginOne_88 : decode cX2_beginOne 88 = .ok (.aload_n 0, 1) := dk_42 (dk_at dksX2_beginOne_3 18 rfl rfl)
theorem dX2_beginOne_89 : decode cX2_beginOne 89 = .ok (.iconst 1, 1) := dk_4 (dk_at dksX2_beginOne_3 19 rfl rfl)
theorem dX2_beginOne_90 : decode cX2_beginOne 90 = .ok (.putfield 195, 3) := dk_181 0 195 (dk_at dksX2_beginOne_3 20 rfl rfl)
theorem dX2_beginOne_93 : decode cX2_beginOne 93 = .ok (.aload_n 0, 1) := dk_42 (dk_at dksX2_beginOne_3 23 rfl rfl)
theorem dX2_beginOne_94 : decode cX2_beginOne 94 = .ok (.bipush 8, 2) := dk_16 8 (dk_at dksX2_beginOne_4 0 rfl rfl)
theorem dX2_beginOne_96 : decode cX2_beginOne 96 = .ok (.invokevirtual 204, 3) := dk_182 0 204 (dk_at dksX2_beginOne_4 2 rfl rfl)
theorem dX2_beginOne_99 : decode cX2_beginOne 99 = .ok (.iconst 0, 1) := dk_3 (dk_at dksX2_beginOne_4 5 rfl rfl)
theorem dX2_beginOne_100 : decode cX2_beginOne 100 = .ok (.ireturn, 1) := dk_172 (dk_at dksX2_beginOne_4 6 rfl rfl)
theorem dX2_beginOne_101 : decode cX2_beginOne 101 = .ok (.aload_n 0, 1) := dk_42 (dk_at dksX2_beginOne_4 7 rfl rfl)
theorem dX2_beginOne_102 : decode cX2_beginOne 102 = .ok (.getfield 107, 3) := dk_180 0 107 (dk_at dksX2_beginOne_4 8 rfl rfl)
theorem dX2_beginOne_105 : decode cX2_beginOne 105 = .ok (.bipush 40, 2) := dk_16 40 (dk_at dksX2_beginOne_4 11 rfl rfl)
theorem dX2_beginOne_107 : decode cX2_beginOne 107 = .ok (.if_icmp .ne 10, 3) := dk_160 0 10 (dk_at dksX2_beginOne_4 13 rfl rfl)
theorem dX2_beginOne_110 : decode cX2_beginOne 110 = .ok (.aload_n 0, 1) := dk_42 (dk_at dksX2_beginOne_4 16 rfl rfl)
theorem dX2_beginOne_111 : decode cX2_beginOne 111 = .ok (.bipush 40, 2) := dk_16 40 (dk_at dksX2_beginOne_4 17 rfl rfl)
theorem dX2_beginOne_113 : decode cX2_beginOne 113 = .ok (.invokevirtual 207, 3) := dk_182 0 207 (dk_at dksX2_beginOne_4 19 rfl rfl)
theorem dX2_beginOne_116 : decode cX2_beginOne 116 = .ok (.ireturn, 1) := dk_172 (dk_at dksX2_beginOne_4 22 rfl rfl)
theorem dX2_beginOne_117 : decode cX2_beginOne 117 = .ok (.aload_n 0, 1) := dk_42 (dk_at dksX2_beginOne_4 23 rfl rfl)
theorem dX2_beginOne_118 : decode cX2_beginOne 118 = .ok (.getfield 107, 3) := dk_180 0 107 (dk_at dksX2_beginOne_5 0 rfl rfl)
theorem dX2_beginOne_121 : decode cX2_beginOne 121 = .ok (.bipush 45, 2) := dk_16 45 (dk_at dksX2_beginOne_5 3 rfl rfl)
theorem dX2_beginOne_123 : decode cX2_beginOne 123 = .ok (.if_icmp .ne 9, 3) := dk_160 0 9 (dk_at dksX2_beginOne_5 5 rfl rfl)
theorem dX2_beginOne_126 : decode cX2_beginOne 126 = .ok (.aload_n 0, 1) := dk_42 (dk_at dksX2_beginOne_5 8 rfl rfl)
theorem dX2_beginOne_127 : decode cX2_beginOne 127 = .ok (.iconst 4, 1) := dk_7 (dk_at dksX2_beginOne_5 9 rfl rfl)
theorem dX2_beginOne_128 : decode cX2_beginOne 128 = .ok (.invokevirtual 207, 3) := dk_182 0 207 (dk_at dksX2_beginOne_5 10 rfl rfl)
theorem dX2_beginOne_131 : decode cX2_beginOne 131 = .ok (.ireturn, 1) := dk_172 (dk_at dksX2_beginOne_5 13 rfl rfl)
theorem dX2_beginOne_132 : decode cX2_beginOne 132 = .ok (.aload_n 0, 1) := dk_42 (dk_at dksX2_beginOne_5 14 rfl rfl)
theorem dX2_beginOne_133 : decode cX2_beginOne 133 = .ok (.invokevirtual 210, 3) := dk_182 0 210 (dk_at dksX2_beginOne_5 15 rfl rfl)
theorem dX2_beginOne_136 : decode cX2_beginOne 136 = .ok (.ifCond .ne 5, 3) := dk_154 0 5 (dk_at dksX2_beginOne_5 18 rfl rfl)
theorem dX2_beginOne_139 : decode cX2_beginOne 139 = .ok (.iconst 1, 1) := dk_4 (dk_at dksX2_beginOne_5 21 rfl rfl)
theorem dX2_beginOne_140 : decode cX2_beginOne 140 = .ok (.ireturn, 1) := dk_172 (dk_at dksX2_beginOne_5 22 rfl rfl)
theorem dX2_beginOne_141 : decode cX2_beginOne 141 = .ok (.aload_n 0, 1) := dk_42 (dk_at dksX2_beginOne_5 23 rfl rfl)
theorem dX2_beginOne_142 : decode cX2_beginOne 142 = .ok (.bipush 110, 2) := dk_16 110 (dk_at dksX2_beginOne_6 0 rfl rfl)
theorem dX2_beginOne_144 : decode cX2_beginOne 144 = .ok (.bipush 111, 2) := dk_16 111 (dk_at dksX2_beginOne_6 2 rfl rfl)
theorem dX2_beginOne_146 : decode cX2_beginOne 146 = .ok (.bipush 116, 2) := dk_16 116 (dk_at dksX2_beginOne_6 4 rfl rfl)
theorem dX2_beginOne_148 : decode cX2_beginOne 148 = .ok (.invokestatic 133, 3) := dk_184 0 133 (dk_at dksX2_beginOne_6 6 rfl rfl)
theorem dX2_beginOne_151 : decode cX2_beginOne 151 = .ok (.invokevirtual 213, 3) := dk_182 0 213 (dk_at dksX2_beginOne_6 9 rfl rfl)
theorem dX2_beginOne_154 : decode cX2_beginOne 154 = .ok (.ifCond .eq 10, 3) := dk_153 0 10 (dk_at dksX2_beginOne_6 12 rfl rfl)
theorem dX2_beginOne_157 : decode cX2_beginOne 157 = .ok (.aload_n 0, 1) := dk_42 (dk_at dksX2_beginOne_6 15 rfl rfl)
theorem dX2_beginOne_158 : decode cX2_beginOne 158 = .ok (.bipush 20, 2) := dk_16 20 (dk_at dksX2_beginOne_6 16 rfl rfl)
theorem dX2_beginOne_160 : decode cX2_beginOne 160 = .ok (.invokevirtual 207, 3) := dk_182 0 207 (dk_at dksX2_beginOne_6 18 rfl rfl)
theorem dX2_beginOne_163 : decode cX2_beginOne 163 = .ok (.ireturn, 1) := dk_172 (dk_at dksX2_beginOne_6 21 rfl rfl)
theorem dX2_beginOne_164 : decode cX2_beginOne 164 = .ok (.aload_n 0, 1) := dk_42 (dk_at dksX2_beginOne_6 22 rfl rfl)
theorem dX2_beginOne_165 : decode cX2_beginOne 165 = .ok (.bipush 109, 2) := dk_16 109 (dk_at dksX2_beginOne_7 0 rfl rfl)
theorem dX2_beginOne_167 : decode cX2_beginOne 167 = .ok (.bipush 111, 2) := dk_16 111 (dk_at dksX2_beginOne_7 2 rfl rfl)
theorem dX2_beginOne_169 : decode cX2_beginOne 169 = .ok (.bipush 115, 2) := dk_16 115 (dk_at dksX2_beginOne_7 4 rfl rfl)
theorem dX2_beginOne_171 : decode cX2_beginOne 171 = .ok (.bipush 116, 2) := dk_16 116 (dk_at dksX2_beginOne_7 6 rfl rfl)
theorem dX2_beginOne_173 : decode cX2_beginOne 173 = .ok (.invokestatic 137, 3) := dk_184 0 137 (dk_at dksX2_beginOne_7 8 rfl rfl)
theorem dX2_beginOne_176 : decode cX2_beginOne 176 = .ok (.invokevirtual 213, 3) := dk_182 0 213 (dk_at dksX2_beginOne_7 11 rfl rfl)
theorem dX2_beginOne_179 : decode cX2_beginOne 179 = .ok (.ifCond .eq 10, 3) := dk_153 0 10 (dk_at dksX2_beginOne_7 14 rfl rfl)
theorem dX2_beginOne_182 : decode cX2_beginOne 182 = .ok (.aload_n 0, 1) := dk_42 (dk_at dksX2_beginOne_7 17 rfl rfl)
theorem dX2_beginOne_183 : decode cX2_beginOne 183 = .ok (.bipush 41, 2) := dk_16 41 (dk_at dksX2_beginOne_7 18 rfl rfl)
theorem dX2_beginOne_185 : decode cX2_beginOne 185 = .ok (.invokevirtual 207, 3) := dk_182 0 207 (dk_at dksX2_beginOne_7 20 rfl rfl)
theorem dX2_beginOne_188 : decode cX2_beginOne 188 = .ok (.ireturn, 1) := dk_172 (dk_at dksX2_beginOne_7 23 rfl rfl)
theorem dX2_beginOne_189 : decode cX2_beginOne 189 = .ok (.aload_n 0, 1) := dk_42 (dk_at dksX2_beginOne_8 0 rfl rfl)
theorem dX2_beginOne_190 : decode cX2_beginOne 190 = .ok (.bipush 102, 2) := dk_16 102 (dk_at dksX2_beginOne_8 1 rfl rfl)
theorem dX2_beginOne_192 : decode cX2_beginOne 192 = .ok (.bipush 97, 2) := dk_16 97 (dk_at dksX2_beginOne_8 3 rfl rfl)
theorem dX2_beginOne_194 : decode cX2_beginOne 194 = .ok (.bipush 99, 2) := dk_16 99 (dk_at dksX2_beginOne_8 5 rfl rfl)
theorem dX2_beginOne_196 : decode cX2_beginOne 196 = .ok (.bipush 116, 2) := dk_16 116 (dk_at dksX2_beginOne_8 7 rfl rfl)
theorem dX2_beginOne_198 : decode cX2_beginOne 198 = .ok (.invokestatic 137, 3) := dk_184 0 137 (dk_at dksX2_beginOne_8 9 rfl rfl)
theorem dX2_beginOne_201 : decode cX2_beginOne 201 = .ok (.invokevirtual 213, 3) := dk_182 0 213 (dk_at dksX2_beginOne_8 12 rfl rfl)
theorem dX2_beginOne_204 : decode cX2_beginOne 204 = .ok (.ifCond .eq 10, 3) := dk_153 0 10 (dk_at dksX2_beginOne_8 15 rfl rfl)
theorem dX2_beginOne_207 : decode cX2_beginOne 207 = .ok (.aload_n 0, 1) := dk_42 (dk_at dksX2_beginOne_8 18 rfl rfl)
theorem dX2_beginOne_208 : decode cX2_beginOne 208 = .ok (.invokevirtual 217, 3) := dk_182 0 217 (dk_at dksX2_beginOne_8 19 rfl rfl)
theorem dX2_beginOne_211 : decode cX2_beginOne 211 = .ok (.goto 4, 3) := dk_167 0 4 (dk_at dksX2_beginOne_9 0 rfl rfl)
theorem dX2_beginOne_214 : decode cX2_beginOne 214 = .ok (.iconst 1, 1) := dk_4 (dk_at dksX2_beginOne_9 3 rfl rfl)
theorem dX2_beginOne_215 : decode cX2_beginOne 215 = .ok (.ireturn, 1) := dk_172 (dk_at dksX2_beginOne_9 4 rfl rfl)
abbrev cX2_nameOf : ByteArray := prog_20_method_32_code
def yX2_nameOf : MethodName := ⟨RX2, "nameOf", "()I"⟩
def dkwX2_nameOf_7 : List UInt8 := [167, 0, 4, 2, 172]
abbrev dktX2_nameOf_7 : List UInt8 := dkwX2_nameOf_7 ++ []
def dkwX2_nameOf_6 : List UInt8 := [167, 0, 28, 42, 180, 0, 120, 16, 108, 16, 97, 16, 119, 16, 115, 184, 0, 137, 148, 154, 0, 8, 16, 7]
abbrev dktX2_nameOf_6 : List UInt8 := dkwX2_nameOf_6 ++ dktX2_nameOf_7
def dkwX2_nameOf_5 : List UInt8 := [180, 0, 120, 16, 104, 16, 111, 16, 117, 16, 114, 16, 115, 184, 0, 141, 148, 154, 0, 8, 16, 6]
abbrev dktX2_nameOf_5 : List UInt8 := dkwX2_nameOf_5 ++ dktX2_nameOf_6
def dkwX2_nameOf_4 : List UInt8 := [16, 110, 16, 100, 184, 0, 137, 148, 154, 0, 5, 7, 172, 42, 182, 0, 159, 153, 0, 5, 8, 172, 42]
abbrev dktX2_nameOf_4 : List UInt8 := dkwX2_nameOf_4 ++ dktX2_nameOf_5
def dkwX2_nameOf_3 : List UInt8 := [16, 114, 16, 97, 16, 119, 184, 0, 137, 148, 154, 0, 5, 6, 172, 42, 180, 0, 120, 16, 107, 16, 105]
abbrev dktX2_nameOf_3 : List UInt8 := dkwX2_nameOf_3 ++ dktX2_nameOf_4
def dkwX2_nameOf_2 : List UInt8 := [16, 111, 16, 114, 16, 99, 16, 101, 184, 0, 141, 148, 154, 0, 5, 5, 172, 42, 180, 0, 120, 16, 100]
abbrev dktX2_nameOf_2 : List UInt8 := dkwX2_nameOf_2 ++ dktX2_nameOf_3
def dkwX2_nameOf_1 : List UInt8 := [184, 0, 137, 148, 154, 0, 5, 3, 172, 42, 182, 0, 155, 153, 0, 5, 4, 172, 42, 180, 0, 120, 16, 102]
abbrev dktX2_nameOf_1 : List UInt8 := dkwX2_nameOf_1 ++ dktX2_nameOf_2
def dkwX2_nameOf_0 : List UInt8 := [42, 180, 0, 107, 5, 159, 0, 5, 2, 172, 42, 180, 0, 120, 16, 104, 16, 111, 16, 117, 16, 114]
abbrev dktX2_nameOf_0 : List UInt8 := dkwX2_nameOf_0 ++ dktX2_nameOf_1
theorem dksX2_nameOf_0 : cX2_nameOf.data.toList.drop 0 = dktX2_nameOf_0 := by decide +kernel
theorem dksX2_nameOf_1 : cX2_nameOf.data.toList.drop 22 = dktX2_nameOf_1 := dk_seg dksX2_nameOf_0 22 rfl rfl
theorem dksX2_nameOf_2 : cX2_nameOf.data.toList.drop 46 = dktX2_nameOf_2 := dk_seg dksX2_nameOf_1 24 rfl rfl
theorem dksX2_nameOf_3 : cX2_nameOf.data.toList.drop 69 = dktX2_nameOf_3 := dk_seg dksX2_nameOf_2 23 rfl rfl
theorem dksX2_nameOf_4 : cX2_nameOf.data.toList.drop 92 = dktX2_nameOf_4 := dk_seg dksX2_nameOf_3 23 rfl rfl
theorem dksX2_nameOf_5 : cX2_nameOf.data.toList.drop 115 = dktX2_nameOf_5 := dk_seg dksX2_nameOf_4 23 rfl rfl
theorem dksX2_nameOf_6 : cX2_nameOf.data.toList.drop 137 = dktX2_nameOf_6 := dk_seg dksX2_nameOf_5 22 rfl rfl
theorem dksX2_nameOf_7 : cX2_nameOf.data.toList.drop 161 = dktX2_nameOf_7 := dk_seg dksX2_nameOf_6 24 rfl rfl
theorem dX2_nameOf_0 : decode cX2_nameOf 0 = .ok (.aload_n 0, 1) := dk_42 (dk_at dksX2_nameOf_0 0 rfl rfl)
theorem dX2_nameOf_1 : decode cX2_nameOf 1 = .ok (.getfield 107, 3) := dk_180 0 107 (dk_at dksX2_nameOf_0 1 rfl rfl)
theorem dX2_nameOf_4 : decode cX2_nameOf 4 = .ok (.iconst 2, 1) := dk_5 (dk_at dksX2_nameOf_0 4 rfl rfl)
theorem dX2_nameOf_5 : decode cX2_nameOf 5 = .ok (.if_icmp .eq 5, 3) := dk_159 0 5 (dk_at dksX2_nameOf_0 5 rfl rfl)
theorem dX2_nameOf_8 : decode cX2_nameOf 8 = .ok (.iconst (-1), 1) := dk_2 (dk_at dksX2_nameOf_0 8 rfl rfl)
theorem dX2_nameOf_9 : decode cX2_nameOf 9 = .ok (.ireturn, 1) := dk_172 (dk_at dksX2_nameOf_0 9 rfl rfl)
theorem dX2_nameOf_10 : decode cX2_nameOf 10 = .ok (.aload_n 0, 1) := dk_42 (dk_at dksX2_nameOf_0 10 rfl rfl)
theorem dX2_nameOf_11 : decode cX2_nameOf 11 = .ok (.getfield 120, 3) := dk_180 0 120 (dk_at dksX2_nameOf_0 11 rfl rfl)
theorem dX2_nameOf_14 : decode cX2_nameOf 14 = .ok (.bipush 104, 2) := dk_16 104 (dk_at dksX2_nameOf_0 14 rfl rfl)
theorem dX2_nameOf_16 : decode cX2_nameOf 16 = .ok (.bipush 111, 2) := dk_16 111 (dk_at dksX2_nameOf_0 16 rfl rfl)
theorem dX2_nameOf_18 : decode cX2_nameOf 18 = .ok (.bipush 117, 2) := dk_16 117 (dk_at dksX2_nameOf_0 18 rfl rfl)
theorem dX2_nameOf_20 : decode cX2_nameOf 20 = .ok (.bipush 114, 2) := dk_16 114 (dk_at dksX2_nameOf_0 20 rfl rfl)
theorem dX2_nameOf_22 : decode cX2_nameOf 22 = .ok (.invokestatic 137, 3) := dk_184 0 137 (dk_at dksX2_nameOf_1 0 rfl rfl)
theorem dX2_nameOf_25 : decode cX2_nameOf 25 = .ok (.lcmp, 1) := dk_148 (dk_at dksX2_nameOf_1 3 rfl rfl)
theorem dX2_nameOf_26 : decode cX2_nameOf 26 = .ok (.ifCond .ne 5, 3) := dk_154 0 5 (dk_at dksX2_nameOf_1 4 rfl rfl)
theorem dX2_nameOf_29 : decode cX2_nameOf 29 = .ok (.iconst 0, 1) := dk_3 (dk_at dksX2_nameOf_1 7 rfl rfl)
theorem dX2_nameOf_30 : decode cX2_nameOf 30 = .ok (.ireturn, 1) := dk_172 (dk_at dksX2_nameOf_1 8 rfl rfl)
theorem dX2_nameOf_31 : decode cX2_nameOf 31 = .ok (.aload_n 0, 1) := dk_42 (dk_at dksX2_nameOf_1 9 rfl rfl)
theorem dX2_nameOf_32 : decode cX2_nameOf 32 = .ok (.invokevirtual 155, 3) := dk_182 0 155 (dk_at dksX2_nameOf_1 10 rfl rfl)
theorem dX2_nameOf_35 : decode cX2_nameOf 35 = .ok (.ifCond .eq 5, 3) := dk_153 0 5 (dk_at dksX2_nameOf_1 13 rfl rfl)
theorem dX2_nameOf_38 : decode cX2_nameOf 38 = .ok (.iconst 1, 1) := dk_4 (dk_at dksX2_nameOf_1 16 rfl rfl)
theorem dX2_nameOf_39 : decode cX2_nameOf 39 = .ok (.ireturn, 1) := dk_172 (dk_at dksX2_nameOf_1 17 rfl rfl)
theorem dX2_nameOf_40 : decode cX2_nameOf 40 = .ok (.aload_n 0, 1) := dk_42 (dk_at dksX2_nameOf_1 18 rfl rfl)
theorem dX2_nameOf_41 : decode cX2_nameOf 41 = .ok (.getfield 120, 3) := dk_180 0 120 (dk_at dksX2_nameOf_1 19 rfl rfl)
theorem dX2_nameOf_44 : decode cX2_nameOf 44 = .ok (.bipush 102, 2) := dk_16 102 (dk_at dksX2_nameOf_1 22 rfl rfl)
theorem dX2_nameOf_46 : decode cX2_nameOf 46 = .ok (.bipush 111, 2) := dk_16 111 (dk_at dksX2_nameOf_2 0 rfl rfl)
theorem dX2_nameOf_48 : decode cX2_nameOf 48 = .ok (.bipush 114, 2) := dk_16 114 (dk_at dksX2_nameOf_2 2 rfl rfl)
theorem dX2_nameOf_50 : decode cX2_nameOf 50 = .ok (.bipush 99, 2) := dk_16 99 (dk_at dksX2_nameOf_2 4 rfl rfl)
theorem dX2_nameOf_52 : decode cX2_nameOf 52 = .ok (.bipush 101, 2) := dk_16 101 (dk_at dksX2_nameOf_2 6 rfl rfl)
theorem dX2_nameOf_54 : decode cX2_nameOf 54 = .ok (.invokestatic 141, 3) := dk_184 0 141 (dk_at dksX2_nameOf_2 8 rfl rfl)
theorem dX2_nameOf_57 : decode cX2_nameOf 57 = .ok (.lcmp, 1) := dk_148 (dk_at dksX2_nameOf_2 11 rfl rfl)
theorem dX2_nameOf_58 : decode cX2_nameOf 58 = .ok (.ifCond .ne 5, 3) := dk_154 0 5 (dk_at dksX2_nameOf_2 12 rfl rfl)
theorem dX2_nameOf_61 : decode cX2_nameOf 61 = .ok (.iconst 2, 1) := dk_5 (dk_at dksX2_nameOf_2 15 rfl rfl)
theorem dX2_nameOf_62 : decode cX2_nameOf 62 = .ok (.ireturn, 1) := dk_172 (dk_at dksX2_nameOf_2 16 rfl rfl)
theorem dX2_nameOf_63 : decode cX2_nameOf 63 = .ok (.aload_n 0, 1) := dk_42 (dk_at dksX2_nameOf_2 17 rfl rfl)
theorem dX2_nameOf_64 : decode cX2_nameOf 64 = .ok (.getfield 120, 3) := dk_180 0 120 (dk_at dksX2_nameOf_2 18 rfl rfl)
theorem dX2_nameOf_67 : decode cX2_nameOf 67 = .ok (.bipush 100, 2) := dk_16 100 (dk_at dksX2_nameOf_2 21 rfl rfl)
theorem dX2_nameOf_69 : decode cX2_nameOf 69 = .ok (.bipush 114, 2) := dk_16 114 (dk_at dksX2_nameOf_3 0 rfl rfl)
theorem dX2_nameOf_71 : decode cX2_nameOf 71 = .ok (.bipush 97, 2) := dk_16 97 (dk_at dksX2_nameOf_3 2 rfl rfl)
theorem dX2_nameOf_73 : decode cX2_nameOf 73 = .ok (.bipush 119, 2) := dk_16 119 (dk_at dksX2_nameOf_3 4 rfl rfl)
theorem dX2_nameOf_75 : decode cX2_nameOf 75 = .ok (.invokestatic 137, 3) := dk_184 0 137 (dk_at dksX2_nameOf_3 6 rfl rfl)
theorem dX2_nameOf_78 : decode cX2_nameOf 78 = .ok (.lcmp, 1) := dk_148 (dk_at dksX2_nameOf_3 9 rfl rfl)
theorem dX2_nameOf_79 : decode cX2_nameOf 79 = .ok (.ifCond .ne 5, 3) := dk_154 0 5 (dk_at dksX2_nameOf_3 10 rfl rfl)
theorem dX2_nameOf_82 : decode cX2_nameOf 82 = .ok (.iconst 3, 1) := dk_6 (dk_at dksX2_nameOf_3 13 rfl rfl)
theorem dX2_nameOf_83 : decode cX2_nameOf 83 = .ok (.ireturn, 1) := dk_172 (dk_at dksX2_nameOf_3 14 rfl rfl)
theorem dX2_nameOf_84 : decode cX2_nameOf 84 = .ok (.aload_n 0, 1) := dk_42 (dk_at dksX2_nameOf_3 15 rfl rfl)
theorem dX2_nameOf_85 : decode cX2_nameOf 85 = .ok (.getfield 120, 3) := dk_180 0 120 (dk_at dksX2_nameOf_3 16 rfl rfl)
theorem dX2_nameOf_88 : decode cX2_nameOf 88 = .ok (.bipush 107, 2) := dk_16 107 (dk_at dksX2_nameOf_3 19 rfl rfl)
theorem dX2_nameOf_90 : decode cX2_nameOf 90 = .ok (.bipush 105, 2) := dk_16 105 (dk_at dksX2_nameOf_3 21 rfl rfl)
theorem dX2_nameOf_92 : decode cX2_nameOf 92 = .ok (.bipush 110, 2) := dk_16 110 (dk_at dksX2_nameOf_4 0 rfl rfl)
theorem dX2_nameOf_94 : decode cX2_nameOf 94 = .ok (.bipush 100, 2) := dk_16 100 (dk_at dksX2_nameOf_4 2 rfl rfl)
theorem dX2_nameOf_96 : decode cX2_nameOf 96 = .ok (.invokestatic 137, 3) := dk_184 0 137 (dk_at dksX2_nameOf_4 4 rfl rfl)
theorem dX2_nameOf_99 : decode cX2_nameOf 99 = .ok (.lcmp, 1) := dk_148 (dk_at dksX2_nameOf_4 7 rfl rfl)
theorem dX2_nameOf_100 : decode cX2_nameOf 100 = .ok (.ifCond .ne 5, 3) := dk_154 0 5 (dk_at dksX2_nameOf_4 8 rfl rfl)
theorem dX2_nameOf_103 : decode cX2_nameOf 103 = .ok (.iconst 4, 1) := dk_7 (dk_at dksX2_nameOf_4 11 rfl rfl)
theorem dX2_nameOf_104 : decode cX2_nameOf 104 = .ok (.ireturn, 1) := dk_172 (dk_at dksX2_nameOf_4 12 rfl rfl)
theorem dX2_nameOf_105 : decode cX2_nameOf 105 = .ok (.aload_n 0, 1) := dk_42 (dk_at dksX2_nameOf_4 13 rfl rfl)
theorem dX2_nameOf_106 : decode cX2_nameOf 106 = .ok (.invokevirtual 159, 3) := dk_182 0 159 (dk_at dksX2_nameOf_4 14 rfl rfl)
theorem dX2_nameOf_109 : decode cX2_nameOf 109 = .ok (.ifCond .eq 5, 3) := dk_153 0 5 (dk_at dksX2_nameOf_4 17 rfl rfl)
theorem dX2_nameOf_112 : decode cX2_nameOf 112 = .ok (.iconst 5, 1) := dk_8 (dk_at dksX2_nameOf_4 20 rfl rfl)
theorem dX2_nameOf_113 : decode cX2_nameOf 113 = .ok (.ireturn, 1) := dk_172 (dk_at dksX2_nameOf_4 21 rfl rfl)
theorem dX2_nameOf_114 : decode cX2_nameOf 114 = .ok (.aload_n 0, 1) := dk_42 (dk_at dksX2_nameOf_4 22 rfl rfl)
theorem dX2_nameOf_115 : decode cX2_nameOf 115 = .ok (.getfield 120, 3) := dk_180 0 120 (dk_at dksX2_nameOf_5 0 rfl rfl)
theorem dX2_nameOf_118 : decode cX2_nameOf 118 = .ok (.bipush 104, 2) := dk_16 104 (dk_at dksX2_nameOf_5 3 rfl rfl)
theorem dX2_nameOf_120 : decode cX2_nameOf 120 = .ok (.bipush 111, 2) := dk_16 111 (dk_at dksX2_nameOf_5 5 rfl rfl)
theorem dX2_nameOf_122 : decode cX2_nameOf 122 = .ok (.bipush 117, 2) := dk_16 117 (dk_at dksX2_nameOf_5 7 rfl rfl)
theorem dX2_nameOf_124 : decode cX2_nameOf 124 = .ok (.bipush 114, 2) := dk_16 114 (dk_at dksX2_nameOf_5 9 rfl rfl)
theorem dX2_nameOf_126 : decode cX2_nameOf 126 = .ok (.bipush 115, 2) := dk_16 115 (dk_at dksX2_nameOf_5 11 rfl rfl)
theorem dX2_nameOf_128 : decode cX2_nameOf 128 = .ok (.invokestatic 141, 3) := dk_184 0 141 (dk_at dksX2_nameOf_5 13 rfl rfl)
theorem dX2_nameOf_131 : decode cX2_nameOf 131 = .ok (.lcmp, 1) := dk_148 (dk_at dksX2_nameOf_5 16 rfl rfl)
theorem dX2_nameOf_132 : decode cX2_nameOf 132 = .ok (.ifCond .ne 8, 3) := dk_154 0 8 (dk_at dksX2_nameOf_5 17 rfl rfl)
theorem dX2_nameOf_135 : decode cX2_nameOf 135 = .ok (.bipush 6, 2) := dk_16 6 (dk_at dksX2_nameOf_5 20 rfl rfl)
theorem dX2_nameOf_137 : decode cX2_nameOf 137 = .ok (.goto 28, 3) := dk_167 0 28 (dk_at dksX2_nameOf_6 0 rfl rfl)
theorem dX2_nameOf_140 : decode cX2_nameOf 140 = .ok (.aload_n 0, 1) := dk_42 (dk_at dksX2_nameOf_6 3 rfl rfl)
theorem dX2_nameOf_141 : decode cX2_nameOf 141 = .ok (.getfield 120, 3) := dk_180 0 120 (dk_at dksX2_nameOf_6 4 rfl rfl)
theorem dX2_nameOf_144 : decode cX2_nameOf 144 = .ok (.bipush 108, 2) := dk_16 108 (dk_at dksX2_nameOf_6 7 rfl rfl)
theorem dX2_nameOf_146 : decode cX2_nameOf 146 = .ok (.bipush 97, 2) := dk_16 97 (dk_at dksX2_nameOf_6 9 rfl rfl)
theorem dX2_nameOf_148 : decode cX2_nameOf 148 = .ok (.bipush 119, 2) := dk_16 119 (dk_at dksX2_nameOf_6 11 rfl rfl)
theorem dX2_nameOf_150 : decode cX2_nameOf 150 = .ok (.bipush 115, 2) := dk_16 115 (dk_at dksX2_nameOf_6 13 rfl rfl)
theorem dX2_nameOf_152 : decode cX2_nameOf 152 = .ok (.invokestatic 137, 3) := dk_184 0 137 (dk_at dksX2_nameOf_6 15 rfl rfl)
theorem dX2_nameOf_155 : decode cX2_nameOf 155 = .ok (.lcmp, 1) := dk_148 (dk_at dksX2_nameOf_6 18 rfl rfl)
theorem dX2_nameOf_156 : decode cX2_nameOf 156 = .ok (.ifCond .ne 8, 3) := dk_154 0 8 (dk_at dksX2_nameOf_6 19 rfl rfl)
theorem dX2_nameOf_159 : decode cX2_nameOf 159 = .ok (.bipush 7, 2) := dk_16 7 (dk_at dksX2_nameOf_6 22 rfl rfl)
theorem dX2_nameOf_161 : decode cX2_nameOf 161 = .ok (.goto 4, 3) := dk_167 0 4 (dk_at dksX2_nameOf_7 0 rfl rfl)
theorem dX2_nameOf_164 : decode cX2_nameOf 164 = .ok (.iconst (-1), 1) := dk_2 (dk_at dksX2_nameOf_7 3 rfl rfl)
theorem dX2_nameOf_165 : decode cX2_nameOf 165 = .ok (.ireturn, 1) := dk_172 (dk_at dksX2_nameOf_7 4 rfl rfl)
abbrev cX2_isQuarter : ByteArray := prog_20_method_29_code
def yX2_isQuarter : MethodName := ⟨RX2, "isQuarter", "()Z"⟩
def dkwX2_isQuarter_1 : List UInt8 := [182, 0, 151, 172]
abbrev dktX2_isQuarter_1 : List UInt8 := dkwX2_isQuarter_1 ++ []
def dkwX2_isQuarter_0 : List UInt8 := [42, 16, 113, 16, 117, 16, 97, 16, 114, 184, 0, 137, 16, 116, 16, 101, 16, 114, 184, 0, 133, 6]
abbrev dktX2_isQuarter_0 : List UInt8 := dkwX2_isQuarter_0 ++ dktX2_isQuarter_1
theorem dksX2_isQuarter_0 : cX2_isQuarter.data.toList.drop 0 = dktX2_isQuarter_0 := by decide +kernel
theorem dksX2_isQuarter_1 : cX2_isQuarter.data.toList.drop 22 = dktX2_isQuarter_1 := dk_seg dksX2_isQuarter_0 22 rfl rfl
theorem dX2_isQuarter_0 : decode cX2_isQuarter 0 = .ok (.aload_n 0, 1) := dk_42 (dk_at dksX2_isQuarter_0 0 rfl rfl)
theorem dX2_isQuarter_1 : decode cX2_isQuarter 1 = .ok (.bipush 113, 2) := dk_16 113 (dk_at dksX2_isQuarter_0 1 rfl rfl)
theorem dX2_isQuarter_3 : decode cX2_isQuarter 3 = .ok (.bipush 117, 2) := dk_16 117 (dk_at dksX2_isQuarter_0 3 rfl rfl)
theorem dX2_isQuarter_5 : decode cX2_isQuarter 5 = .ok (.bipush 97, 2) := dk_16 97 (dk_at dksX2_isQuarter_0 5 rfl rfl)
theorem dX2_isQuarter_7 : decode cX2_isQuarter 7 = .ok (.bipush 114, 2) := dk_16 114 (dk_at dksX2_isQuarter_0 7 rfl rfl)
theorem dX2_isQuarter_9 : decode cX2_isQuarter 9 = .ok (.invokestatic 137, 3) := dk_184 0 137 (dk_at dksX2_isQuarter_0 9 rfl rfl)
theorem dX2_isQuarter_12 : decode cX2_isQuarter 12 = .ok (.bipush 116, 2) := dk_16 116 (dk_at dksX2_isQuarter_0 12 rfl rfl)
theorem dX2_isQuarter_14 : decode cX2_isQuarter 14 = .ok (.bipush 101, 2) := dk_16 101 (dk_at dksX2_isQuarter_0 14 rfl rfl)
theorem dX2_isQuarter_16 : decode cX2_isQuarter 16 = .ok (.bipush 114, 2) := dk_16 114 (dk_at dksX2_isQuarter_0 16 rfl rfl)
theorem dX2_isQuarter_18 : decode cX2_isQuarter 18 = .ok (.invokestatic 133, 3) := dk_184 0 133 (dk_at dksX2_isQuarter_0 18 rfl rfl)
theorem dX2_isQuarter_21 : decode cX2_isQuarter 21 = .ok (.iconst 3, 1) := dk_6 (dk_at dksX2_isQuarter_0 21 rfl rfl)
theorem dX2_isQuarter_22 : decode cX2_isQuarter 22 = .ok (.invokevirtual 151, 3) := dk_182 0 151 (dk_at dksX2_isQuarter_1 0 rfl rfl)
theorem dX2_isQuarter_25 : decode cX2_isQuarter 25 = .ok (.ireturn, 1) := dk_172 (dk_at dksX2_isQuarter_1 3 rfl rfl)
abbrev cX2_isGravity : ByteArray := prog_20_method_28_code
def yX2_isGravity : MethodName := ⟨RX2, "isGravity", "()Z"⟩
def dkwX2_isGravity_1 : List UInt8 := [182, 0, 151, 172]
abbrev dktX2_isGravity_1 : List UInt8 := dkwX2_isGravity_1 ++ []
def dkwX2_isGravity_0 : List UInt8 := [42, 16, 103, 16, 114, 16, 97, 16, 118, 184, 0, 137, 16, 105, 16, 116, 16, 121, 184, 0, 133, 6]
abbrev dktX2_isGravity_0 : List UInt8 := dkwX2_isGravity_0 ++ dktX2_isGravity_1
theorem dksX2_isGravity_0 : cX2_isGravity.data.toList.drop 0 = dktX2_isGravity_0 := by decide +kernel
theorem dksX2_isGravity_1 : cX2_isGravity.data.toList.drop 22 = dktX2_isGravity_1 := dk_seg dksX2_isGravity_0 22 rfl rfl
theorem dX2_isGravity_0 : decode cX2_isGravity 0 = .ok (.aload_n 0, 1) := dk_42 (dk_at dksX2_isGravity_0 0 rfl rfl)
theorem dX2_isGravity_1 : decode cX2_isGravity 1 = .ok (.bipush 103, 2) := dk_16 103 (dk_at dksX2_isGravity_0 1 rfl rfl)
theorem dX2_isGravity_3 : decode cX2_isGravity 3 = .ok (.bipush 114, 2) := dk_16 114 (dk_at dksX2_isGravity_0 3 rfl rfl)
theorem dX2_isGravity_5 : decode cX2_isGravity 5 = .ok (.bipush 97, 2) := dk_16 97 (dk_at dksX2_isGravity_0 5 rfl rfl)
theorem dX2_isGravity_7 : decode cX2_isGravity 7 = .ok (.bipush 118, 2) := dk_16 118 (dk_at dksX2_isGravity_0 7 rfl rfl)
theorem dX2_isGravity_9 : decode cX2_isGravity 9 = .ok (.invokestatic 137, 3) := dk_184 0 137 (dk_at dksX2_isGravity_0 9 rfl rfl)
theorem dX2_isGravity_12 : decode cX2_isGravity 12 = .ok (.bipush 105, 2) := dk_16 105 (dk_at dksX2_isGravity_0 12 rfl rfl)
theorem dX2_isGravity_14 : decode cX2_isGravity 14 = .ok (.bipush 116, 2) := dk_16 116 (dk_at dksX2_isGravity_0 14 rfl rfl)
theorem dX2_isGravity_16 : decode cX2_isGravity 16 = .ok (.bipush 121, 2) := dk_16 121 (dk_at dksX2_isGravity_0 16 rfl rfl)
theorem dX2_isGravity_18 : decode cX2_isGravity 18 = .ok (.invokestatic 133, 3) := dk_184 0 133 (dk_at dksX2_isGravity_0 18 rfl rfl)
theorem dX2_isGravity_21 : decode cX2_isGravity 21 = .ok (.iconst 3, 1) := dk_6 (dk_at dksX2_isGravity_0 21 rfl rfl)
theorem dX2_isGravity_22 : decode cX2_isGravity 22 = .ok (.invokevirtual 151, 3) := dk_182 0 151 (dk_at dksX2_isGravity_1 0 rfl rfl)
theorem dX2_isGravity_25 : decode cX2_isGravity 25 = .ok (.ireturn, 1) := dk_172 (dk_at dksX2_isGravity_1 3 rfl rfl)
abbrev cX2_isOf : ByteArray := prog_20_method_33_code
def yX2_isOf : MethodName := ⟨RX2, "isOf", "(I)Z"⟩
def dkwX2_isOf_2 : List UInt8 := [42, 180, 0, 162, 6, 160, 0, 7, 4, 167, 0, 4, 3, 172]
abbrev dktX2_isOf_2 : List UInt8 := dkwX2_isOf_2 ++ []
def dkwX2_isOf_1 : List UInt8 := [3, 172, 27, 16, 7, 162, 0, 19, 42, 180, 0, 162, 6, 161, 0, 7, 4, 167, 0, 20, 3, 167, 0, 16]
abbrev dktX2_isOf_1 : List UInt8 := dkwX2_isOf_1 ++ dktX2_isOf_2
def dkwX2_isOf_0 : List UInt8 := [27, 6, 162, 0, 5, 4, 172, 27, 6, 160, 0, 17, 42, 180, 0, 162, 5, 163, 0, 7, 4, 167, 0, 4]
abbrev dktX2_isOf_0 : List UInt8 := dkwX2_isOf_0 ++ dktX2_isOf_1
theorem dksX2_isOf_0 : cX2_isOf.data.toList.drop 0 = dktX2_isOf_0 := by decide +kernel
theorem dksX2_isOf_1 : cX2_isOf.data.toList.drop 24 = dktX2_isOf_1 := dk_seg dksX2_isOf_0 24 rfl rfl
theorem dksX2_isOf_2 : cX2_isOf.data.toList.drop 48 = dktX2_isOf_2 := dk_seg dksX2_isOf_1 24 rfl rfl
theorem dX2_isOf_0 : decode cX2_isOf 0 = .ok (.iload_n 1, 1) := dk_27 (dk_at dksX2_isOf_0 0 rfl rfl)
theorem dX2_isOf_1 : decode cX2_isOf 1 = .ok (.iconst 3, 1) := dk_6 (dk_at dksX2_isOf_0 1 rfl rfl)
theorem dX2_isOf_2 : decode cX2_isOf 2 = .ok (.if_icmp .ge 5, 3) := dk_162 0 5 (dk_at dksX2_isOf_0 2 rfl rfl)
theorem dX2_isOf_5 : decode cX2_isOf 5 = .ok (.iconst 1, 1) := dk_4 (dk_at dksX2_isOf_0 5 rfl rfl)
theorem dX2_isOf_6 : decode cX2_isOf 6 = .ok (.ireturn, 1) := dk_172 (dk_at dksX2_isOf_0 6 rfl rfl)
theorem dX2_isOf_7 : decode cX2_isOf 7 = .ok (.iload_n 1, 1) := dk_27 (dk_at dksX2_isOf_0 7 rfl rfl)
theorem dX2_isOf_8 : decode cX2_isOf 8 = .ok (.iconst 3, 1) := dk_6 (dk_at dksX2_isOf_0 8 rfl rfl)
theorem dX2_isOf_9 : decode cX2_isOf 9 = .ok (.if_icmp .ne 17, 3) := dk_160 0 17 (dk_at dksX2_isOf_0 9 rfl rfl)
theorem dX2_isOf_12 : decode cX2_isOf 12 = .ok (.aload_n 0, 1) := dk_42 (dk_at dksX2_isOf_0 12 rfl rfl)
theorem dX2_isOf_13 : decode cX2_isOf 13 = .ok (.getfield 162, 3) := dk_180 0 162 (dk_at dksX2_isOf_0 13 rfl rfl)
theorem dX2_isOf_16 : decode cX2_isOf 16 = .ok (.iconst 2, 1) := dk_5 (dk_at dksX2_isOf_0 16 rfl rfl)
theorem dX2_isOf_17 : decode cX2_isOf 17 = .ok (.if_icmp .gt 7, 3) := dk_163 0 7 (dk_at dksX2_isOf_0 17 rfl rfl)
theorem dX2_isOf_20 : decode cX2_isOf 20 = .ok (.iconst 1, 1) := dk_4 (dk_at dksX2_isOf_0 20 rfl rfl)
theorem dX2_isOf_21 : decode cX2_isOf 21 = .ok (.goto 4, 3) := dk_167 0 4 (dk_at dksX2_isOf_0 21 rfl rfl)
theorem dX2_isOf_24 : decode cX2_isOf 24 = .ok (.iconst 0, 1) := dk_3 (dk_at dksX2_isOf_1 0 rfl rfl)
theorem dX2_isOf_25 : decode cX2_isOf 25 = .ok (.ireturn, 1) := dk_172 (dk_at dksX2_isOf_1 1 rfl rfl)
theorem dX2_isOf_26 : decode cX2_isOf 26 = .ok (.iload_n 1, 1) := dk_27 (dk_at dksX2_isOf_1 2 rfl rfl)
theorem dX2_isOf_27 : decode cX2_isOf 27 = .ok (.bipush 7, 2) := dk_16 7 (dk_at dksX2_isOf_1 3 rfl rfl)
theorem dX2_isOf_29 : decode cX2_isOf 29 = .ok (.if_icmp .ge 19, 3) := dk_162 0 19 (dk_at dksX2_isOf_1 5 rfl rfl)
theorem dX2_isOf_32 : decode cX2_isOf 32 = .ok (.aload_n 0, 1) := dk_42 (dk_at dksX2_isOf_1 8 rfl rfl)
theorem dX2_isOf_33 : decode cX2_isOf 33 = .ok (.getfield 162, 3) := dk_180 0 162 (dk_at dksX2_isOf_1 9 rfl rfl)
theorem dX2_isOf_36 : decode cX2_isOf 36 = .ok (.iconst 3, 1) := dk_6 (dk_at dksX2_isOf_1 12 rfl rfl)
theorem dX2_isOf_37 : decode cX2_isOf 37 = .ok (.if_icmp .lt 7, 3) := dk_161 0 7 (dk_at dksX2_isOf_1 13 rfl rfl)
theorem dX2_isOf_40 : decode cX2_isOf 40 = .ok (.iconst 1, 1) := dk_4 (dk_at dksX2_isOf_1 16 rfl rfl)
theorem dX2_isOf_41 : decode cX2_isOf 41 = .ok (.goto 20, 3) := dk_167 0 20 (dk_at dksX2_isOf_1 17 rfl rfl)
theorem dX2_isOf_44 : decode cX2_isOf 44 = .ok (.iconst 0, 1) := dk_3 (dk_at dksX2_isOf_1 20 rfl rfl)
theorem dX2_isOf_45 : decode cX2_isOf 45 = .ok (.goto 16, 3) := dk_167 0 16 (dk_at dksX2_isOf_1 21 rfl rfl)
theorem dX2_isOf_48 : decode cX2_isOf 48 = .ok (.aload_n 0, 1) := dk_42 (dk_at dksX2_isOf_2 0 rfl rfl)
theorem dX2_isOf_49 : decode cX2_isOf 49 = .ok (.getfield 162, 3) := dk_180 0 162 (dk_at dksX2_isOf_2 1 rfl rfl)
theorem dX2_isOf_52 : decode cX2_isOf 52 = .ok (.iconst 3, 1) := dk_6 (dk_at dksX2_isOf_2 4 rfl rfl)
theorem dX2_isOf_53 : decode cX2_isOf 53 = .ok (.if_icmp .ne 7, 3) := dk_160 0 7 (dk_at dksX2_isOf_2 5 rfl rfl)
theorem dX2_isOf_56 : decode cX2_isOf 56 = .ok (.iconst 1, 1) := dk_4 (dk_at dksX2_isOf_2 8 rfl rfl)
theorem dX2_isOf_57 : decode cX2_isOf 57 = .ok (.goto 4, 3) := dk_167 0 4 (dk_at dksX2_isOf_2 9 rfl rfl)
theorem dX2_isOf_60 : decode cX2_isOf 60 = .ok (.iconst 0, 1) := dk_3 (dk_at dksX2_isOf_2 12 rfl rfl)
theorem dX2_isOf_61 : decode cX2_isOf 61 = .ok (.ireturn, 1) := dk_172 (dk_at dksX2_isOf_2 13 rfl rfl)
abbrev cX2_opened : ByteArray := prog_20_method_40_code
def yX2_opened : MethodName := ⟨RX2, "opened", "(I)I"⟩
def dkwX2_opened_3 : List UInt8 := [180, 0, 192, 4, 79, 42, 89, 180, 0, 192, 4, 96, 181, 0, 192, 42, 182, 0, 189, 3, 172]
abbrev dktX2_opened_3 : List UInt8 := dkwX2_opened_3 ++ []
def dkwX2_opened_2 : List UInt8 := [16, 41, 159, 0, 5, 3, 172, 42, 180, 0, 107, 16, 40, 159, 0, 5, 4, 172, 42, 180, 0, 32, 42]
abbrev dktX2_opened_2 : List UInt8 := dkwX2_opened_2 ++ dktX2_opened_3
def dkwX2_opened_1 : List UInt8 := [180, 0, 29, 42, 180, 0, 165, 27, 79, 42, 89, 180, 0, 165, 4, 96, 181, 0, 165, 42, 182, 0, 189, 27]
abbrev dktX2_opened_1 : List UInt8 := dkwX2_opened_1 ++ dktX2_opened_2
def dkwX2_opened_0 : List UInt8 := [42, 180, 0, 175, 16, 8, 160, 0, 5, 6, 172, 42, 89, 180, 0, 175, 4, 96, 181, 0, 175, 42]
abbrev dktX2_opened_0 : List UInt8 := dkwX2_opened_0 ++ dktX2_opened_1
theorem dksX2_opened_0 : cX2_opened.data.toList.drop 0 = dktX2_opened_0 := by decide +kernel
theorem dksX2_opened_1 : cX2_opened.data.toList.drop 22 = dktX2_opened_1 := dk_seg dksX2_opened_0 22 rfl rfl
theorem dksX2_opened_2 : cX2_opened.data.toList.drop 46 = dktX2_opened_2 := dk_seg dksX2_opened_1 24 rfl rfl
theorem dksX2_opened_3 : cX2_opened.data.toList.drop 69 = dktX2_opened_3 := dk_seg dksX2_opened_2 23 rfl rfl
theorem dX2_opened_0 : decode cX2_opened 0 = .ok (.aload_n 0, 1) := dk_42 (dk_at dksX2_opened_0 0 rfl rfl)
theorem dX2_opened_1 : decode cX2_opened 1 = .ok (.getfield 175, 3) := dk_180 0 175 (dk_at dksX2_opened_0 1 rfl rfl)
theorem dX2_opened_4 : decode cX2_opened 4 = .ok (.bipush 8, 2) := dk_16 8 (dk_at dksX2_opened_0 4 rfl rfl)
theorem dX2_opened_6 : decode cX2_opened 6 = .ok (.if_icmp .ne 5, 3) := dk_160 0 5 (dk_at dksX2_opened_0 6 rfl rfl)
theorem dX2_opened_9 : decode cX2_opened 9 = .ok (.iconst 3, 1) := dk_6 (dk_at dksX2_opened_0 9 rfl rfl)
theorem dX2_opened_10 : decode cX2_opened 10 = .ok (.ireturn, 1) := dk_172 (dk_at dksX2_opened_0 10 rfl rfl)
theorem dX2_opened_11 : decode cX2_opened 11 = .ok (.aload_n 0, 1) := dk_42 (dk_at dksX2_opened_0 11 rfl rfl)
theorem dX2_opened_12 : decode cX2_opened 12 = .ok (.dup, 1) := dk_89 (dk_at dksX2_opened_0 12 rfl rfl)
theorem dX2_opened_13 : decode cX2_opened 13 = .ok (.getfield 175, 3) := dk_180 0 175 (dk_at dksX2_opened_0 13 rfl rfl)
theorem dX2_opened_16 : decode cX2_opened 16 = .ok (.iconst 1, 1) := dk_4 (dk_at dksX2_opened_0 16 rfl rfl)
theorem dX2_opened_17 : decode cX2_opened 17 = .ok (.iadd, 1) := dk_96 (dk_at dksX2_opened_0 17 rfl rfl)
theorem dX2_opened_18 : decode cX2_opened 18 = .ok (.putfield 175, 3) := dk_181 0 175 (dk_at dksX2_opened_0 18 rfl rfl)
theorem dX2_opened_21 : decode cX2_opened 21 = .ok (.aload_n 0, 1) := dk_42 (dk_at dksX2_opened_0 21 rfl rfl)
theorem dX2_opened_22 : decode cX2_opened 22 = .ok (.getfield 29, 3) := dk_180 0 29 (dk_at dksX2_opened_1 0 rfl rfl)
theorem dX2_opened_25 : decode cX2_opened 25 = .ok (.aload_n 0, 1) := dk_42 (dk_at dksX2_opened_1 3 rfl rfl)
theorem dX2_opened_26 : decode cX2_opened 26 = .ok (.getfield 165, 3) := dk_180 0 165 (dk_at dksX2_opened_1 4 rfl rfl)
theorem dX2_opened_29 : decode cX2_opened 29 = .ok (.iload_n 1, 1) := dk_27 (dk_at dksX2_opened_1 7 rfl rfl)
theorem dX2_opened_30 : decode cX2_opened 30 = .ok (.iastore, 1) := dk_79 (dk_at dksX2_opened_1 8 rfl rfl)
theorem dX2_opened_31 : decode cX2_opened 31 = .ok (.aload_n 0, 1) := dk_42 (dk_at dksX2_opened_1 9 rfl rfl)
theorem dX2_opened_32 : decode cX2_opened 32 = .ok (.dup, 1) := dk_89 (dk_at dksX2_opened_1 10 rfl rfl)
theorem dX2_opened_33 : decode cX2_opened 33 = .ok (.getfield 165, 3) := dk_180 0 165 (dk_at dksX2_opened_1 11 rfl rfl)
theorem dX2_opened_36 : decode cX2_opened 36 = .ok (.iconst 1, 1) := dk_4 (dk_at dksX2_opened_1 14 rfl rfl)
theorem dX2_opened_37 : decode cX2_opened 37 = .ok (.iadd, 1) := dk_96 (dk_at dksX2_opened_1 15 rfl rfl)
theorem dX2_opened_38 : decode cX2_opened 38 = .ok (.putfield 165, 3) := dk_181 0 165 (dk_at dksX2_opened_1 16 rfl rfl)
theorem dX2_opened_41 : decode cX2_opened 41 = .ok (.aload_n 0, 1) := dk_42 (dk_at dksX2_opened_1 19 rfl rfl)
theorem dX2_opened_42 : decode cX2_opened 42 = .ok (.invokevirtual 189, 3) := dk_182 0 189 (dk_at dksX2_opened_1 20 rfl rfl)
theorem dX2_opened_45 : decode cX2_opened 45 = .ok (.iload_n 1, 1) := dk_27 (dk_at dksX2_opened_1 23 rfl rfl)
theorem dX2_opened_46 : decode cX2_opened 46 = .ok (.bipush 41, 2) := dk_16 41 (dk_at dksX2_opened_2 0 rfl rfl)
theorem dX2_opened_48 : decode cX2_opened 48 = .ok (.if_icmp .eq 5, 3) := dk_159 0 5 (dk_at dksX2_opened_2 2 rfl rfl)
theorem dX2_opened_51 : decode cX2_opened 51 = .ok (.iconst 0, 1) := dk_3 (dk_at dksX2_opened_2 5 rfl rfl)
theorem dX2_opened_52 : decode cX2_opened 52 = .ok (.ireturn, 1) := dk_172 (dk_at dksX2_opened_2 6 rfl rfl)
theorem dX2_opened_53 : decode cX2_opened 53 = .ok (.aload_n 0, 1) := dk_42 (dk_at dksX2_opened_2 7 rfl rfl)
theorem dX2_opened_54 : decode cX2_opened 54 = .ok (.getfield 107, 3) := dk_180 0 107 (dk_at dksX2_opened_2 8 rfl rfl)
theorem dX2_opened_57 : decode cX2_opened 57 = .ok (.bipush 40, 2) := dk_16 40 (dk_at dksX2_opened_2 11 rfl rfl)
theorem dX2_opened_59 : decode cX2_opened 59 = .ok (.if_icmp .eq 5, 3) := dk_159 0 5 (dk_at dksX2_opened_2 13 rfl rfl)
theorem dX2_opened_62 : decode cX2_opened 62 = .ok (.iconst 1, 1) := dk_4 (dk_at dksX2_opened_2 16 rfl rfl)
theorem dX2_opened_63 : decode cX2_opened 63 = .ok (.ireturn, 1) := dk_172 (dk_at dksX2_opened_2 17 rfl rfl)
theorem dX2_opened_64 : decode cX2_opened 64 = .ok (.aload_n 0, 1) := dk_42 (dk_at dksX2_opened_2 18 rfl rfl)
theorem dX2_opened_65 : decode cX2_opened 65 = .ok (.getfield 32, 3) := dk_180 0 32 (dk_at dksX2_opened_2 19 rfl rfl)
theorem dX2_opened_68 : decode cX2_opened 68 = .ok (.aload_n 0, 1) := dk_42 (dk_at dksX2_opened_2 22 rfl rfl)
theorem dX2_opened_69 : decode cX2_opened 69 = .ok (.getfield 192, 3) := dk_180 0 192 (dk_at dksX2_opened_3 0 rfl rfl)
theorem dX2_opened_72 : decode cX2_opened 72 = .ok (.iconst 1, 1) := dk_4 (dk_at dksX2_opened_3 3 rfl rfl)
theorem dX2_opened_73 : decode cX2_opened 73 = .ok (.iastore, 1) := dk_79 (dk_at dksX2_opened_3 4 rfl rfl)
theorem dX2_opened_74 : decode cX2_opened 74 = .ok (.aload_n 0, 1) := dk_42 (dk_at dksX2_opened_3 5 rfl rfl)
theorem dX2_opened_75 : decode cX2_opened 75 = .ok (.dup, 1) := dk_89 (dk_at dksX2_opened_3 6 rfl rfl)
theorem dX2_opened_76 : decode cX2_opened 76 = .ok (.getfield 192, 3) := dk_180 0 192 (dk_at dksX2_opened_3 7 rfl rfl)
theorem dX2_opened_79 : decode cX2_opened 79 = .ok (.iconst 1, 1) := dk_4 (dk_at dksX2_opened_3 10 rfl rfl)
theorem dX2_opened_80 : decode cX2_opened 80 = .ok (.iadd, 1) := dk_96 (dk_at dksX2_opened_3 11 rfl rfl)
theorem dX2_opened_81 : decode cX2_opened 81 = .ok (.putfield 192, 3) := dk_181 0 192 (dk_at dksX2_opened_3 12 rfl rfl)
theorem dX2_opened_84 : decode cX2_opened 84 = .ok (.aload_n 0, 1) := dk_42 (dk_at dksX2_opened_3 15 rfl rfl)
theorem dX2_opened_85 : decode cX2_opened 85 = .ok (.invokevirtual 189, 3) := dk_182 0 189 (dk_at dksX2_opened_3 16 rfl rfl)
theorem dX2_opened_88 : decode cX2_opened 88 = .ok (.iconst 0, 1) := dk_3 (dk_at dksX2_opened_3 19 rfl rfl)
theorem dX2_opened_89 : decode cX2_opened 89 = .ok (.ireturn, 1) := dk_172 (dk_at dksX2_opened_3 20 rfl rfl)
abbrev cX2_isAskAhead : ByteArray := prog_20_method_39_code
def yX2_isAskAhead : MethodName := ⟨RX2, "isAskAhead", "()Z"⟩
def dkwX2_isAskAhead_2 : List UInt8 := [184, 0, 74, 153, 0, 7, 4, 167, 0, 4, 3, 172]
abbrev dktX2_isAskAhead_2 : List UInt8 := dkwX2_isAskAhead_2 ++ []
def dkwX2_isAskAhead_1 : List UInt8 := [46, 16, 41, 159, 0, 25, 42, 180, 0, 29, 42, 180, 0, 165, 4, 100, 46, 184, 0, 168, 4, 7]
abbrev dktX2_isAskAhead_1 : List UInt8 := dkwX2_isAskAhead_1 ++ dktX2_isAskAhead_2
def dkwX2_isAskAhead_0 : List UInt8 := [42, 182, 0, 186, 153, 0, 52, 42, 180, 0, 165, 153, 0, 41, 42, 180, 0, 29, 42, 180, 0, 165, 4, 100]
abbrev dktX2_isAskAhead_0 : List UInt8 := dkwX2_isAskAhead_0 ++ dktX2_isAskAhead_1
theorem dksX2_isAskAhead_0 : cX2_isAskAhead.data.toList.drop 0 = dktX2_isAskAhead_0 := by decide +kernel
theorem dksX2_isAskAhead_1 : cX2_isAskAhead.data.toList.drop 24 = dktX2_isAskAhead_1 := dk_seg dksX2_isAskAhead_0 24 rfl rfl
theorem dksX2_isAskAhead_2 : cX2_isAskAhead.data.toList.drop 46 = dktX2_isAskAhead_2 := dk_seg dksX2_isAskAhead_1 22 rfl rfl
theorem dX2_isAskAhead_0 : decode cX2_isAskAhead 0 = .ok (.aload_n 0, 1) := dk_42 (dk_at dksX2_isAskAhead_0 0 rfl rfl)
theorem dX2_isAskAhead_1 : decode cX2_isAskAhead 1 = .ok (.invokevirtual 186, 3) := dk_182 0 186 (dk_at dksX2_isAskAhead_0 1 rfl rfl)
theorem dX2_isAskAhead_4 : decode cX2_isAskAhead 4 = .ok (.ifCond .eq 52, 3) := dk_153 0 52 (dk_at dksX2_isAskAhead_0 4 rfl rfl)
theorem dX2_isAskAhead_7 : decode cX2_isAskAhead 7 = .ok (.aload_n 0, 1) := dk_42 (dk_at dksX2_isAskAhead_0 7 rfl rfl)
theorem dX2_isAskAhead_8 : decode cX2_isAskAhead 8 = .ok (.getfield 165, 3) := dk_180 0 165 (dk_at dksX2_isAskAhead_0 8 rfl rfl)
theorem dX2_isAskAhead_11 : decode cX2_isAskAhead 11 = .ok (.ifCond .eq 41, 3) := dk_153 0 41 (dk_at dksX2_isAskAhead_0 11 rfl rfl)
theorem dX2_isAskAhead_14 : decode cX2_isAskAhead 14 = .ok (.aload_n 0, 1) := dk_42 (dk_at dksX2_isAskAhead_0 14 rfl rfl)
theorem dX2_isAskAhead_15 : decode cX2_isAskAhead 15 = .ok (.getfield 29, 3) := dk_180 0 29 (dk_at dksX2_isAskAhead_0 15 rfl rfl)
theorem dX2_isAskAhead_18 : decode cX2_isAskAhead 18 = .ok (.aload_n 0, 1) := dk_42 (dk_at dksX2_isAskAhead_0 18 rfl rfl)
theorem dX2_isAskAhead_19 : decode cX2_isAskAhead 19 = .ok (.getfield 165, 3) := dk_180 0 165 (dk_at dksX2_isAskAhead_0 19 rfl rfl)
theorem dX2_isAskAhead_22 : decode cX2_isAskAhead 22 = .ok (.iconst 1, 1) := dk_4 (dk_at dksX2_isAskAhead_0 22 rfl rfl)
theorem dX2_isAskAhead_23 : decode cX2_isAskAhead 23 = .ok (.isub, 1) := dk_100 (dk_at dksX2_isAskAhead_0 23 rfl rfl)
theorem dX2_isAskAhead_24 : decode cX2_isAskAhead 24 = .ok (.iaload, 1) := dk_46 (dk_at dksX2_isAskAhead_1 0 rfl rfl)
theorem dX2_isAskAhead_25 : decode cX2_isAskAhead 25 = .ok (.bipush 41, 2) := dk_16 41 (dk_at dksX2_isAskAhead_1 1 rfl rfl)
theorem dX2_isAskAhead_27 : decode cX2_isAskAhead 27 = .ok (.if_icmp .eq 25, 3) := dk_159 0 25 (dk_at dksX2_isAskAhead_1 3 rfl rfl)
theorem dX2_isAskAhead_30 : decode cX2_isAskAhead 30 = .ok (.aload_n 0, 1) := dk_42 (dk_at dksX2_isAskAhead_1 6 rfl rfl)
theorem dX2_isAskAhead_31 : decode cX2_isAskAhead 31 = .ok (.getfield 29, 3) := dk_180 0 29 (dk_at dksX2_isAskAhead_1 7 rfl rfl)
theorem dX2_isAskAhead_34 : decode cX2_isAskAhead 34 = .ok (.aload_n 0, 1) := dk_42 (dk_at dksX2_isAskAhead_1 10 rfl rfl)
theorem dX2_isAskAhead_35 : decode cX2_isAskAhead 35 = .ok (.getfield 165, 3) := dk_180 0 165 (dk_at dksX2_isAskAhead_1 11 rfl rfl)
theorem dX2_isAskAhead_38 : decode cX2_isAskAhead 38 = .ok (.iconst 1, 1) := dk_4 (dk_at dksX2_isAskAhead_1 14 rfl rfl)
theorem dX2_isAskAhead_39 : decode cX2_isAskAhead 39 = .ok (.isub, 1) := dk_100 (dk_at dksX2_isAskAhead_1 15 rfl rfl)
theorem dX2_isAskAhead_40 : decode cX2_isAskAhead 40 = .ok (.iaload, 1) := dk_46 (dk_at dksX2_isAskAhead_1 16 rfl rfl)
theorem dX2_isAskAhead_41 : decode cX2_isAskAhead 41 = .ok (.invokestatic 168, 3) := dk_184 0 168 (dk_at dksX2_isAskAhead_1 17 rfl rfl)
theorem dX2_isAskAhead_44 : decode cX2_isAskAhead 44 = .ok (.iconst 1, 1) := dk_4 (dk_at dksX2_isAskAhead_1 20 rfl rfl)
theorem dX2_isAskAhead_45 : decode cX2_isAskAhead 45 = .ok (.iconst 4, 1) := dk_7 (dk_at dksX2_isAskAhead_1 21 rfl rfl)
theorem dX2_isAskAhead_46 : decode cX2_isAskAhead 46 = .ok (.invokestatic 74, 3) := dk_184 0 74 (dk_at dksX2_isAskAhead_2 0 rfl rfl)
theorem dX2_isAskAhead_49 : decode cX2_isAskAhead 49 = .ok (.ifCond .eq 7, 3) := dk_153 0 7 (dk_at dksX2_isAskAhead_2 3 rfl rfl)
theorem dX2_isAskAhead_52 : decode cX2_isAskAhead 52 = .ok (.iconst 1, 1) := dk_4 (dk_at dksX2_isAskAhead_2 6 rfl rfl)
theorem dX2_isAskAhead_53 : decode cX2_isAskAhead 53 = .ok (.goto 4, 3) := dk_167 0 4 (dk_at dksX2_isAskAhead_2 7 rfl rfl)
theorem dX2_isAskAhead_56 : decode cX2_isAskAhead 56 = .ok (.iconst 0, 1) := dk_3 (dk_at dksX2_isAskAhead_2 10 rfl rfl)
theorem dX2_isAskAhead_57 : decode cX2_isAskAhead 57 = .ok (.ireturn, 1) := dk_172 (dk_at dksX2_isAskAhead_2 11 rfl rfl)
abbrev cX2_factAt : ByteArray := prog_20_method_41_code
def yX2_factAt : MethodName := ⟨RX2, "factAt", "()I"⟩
def dkwX2_factAt_3 : List UInt8 := [181, 0, 195, 3, 172]
abbrev dktX2_factAt_3 : List UInt8 := dkwX2_factAt_3 ++ []
def dkwX2_factAt_2 : List UInt8 := [42, 180, 0, 29, 42, 180, 0, 165, 16, 16, 79, 42, 89, 180, 0, 165, 4, 96, 181, 0, 165, 42, 4]
abbrev dktX2_factAt_2 : List UInt8 := dkwX2_factAt_2 ++ dktX2_factAt_3
def dkwX2_factAt_1 : List UInt8 := [42, 180, 0, 113, 16, 7, 164, 0, 5, 5, 172, 42, 5, 42, 180, 0, 113, 182, 0, 171, 42, 182, 0, 189]
abbrev dktX2_factAt_1 : List UInt8 := dkwX2_factAt_1 ++ dktX2_factAt_2
def dkwX2_factAt_0 : List UInt8 := [42, 180, 0, 162, 7, 159, 0, 5, 8, 172, 42, 182, 0, 189, 42, 180, 0, 107, 4, 159, 0, 5, 4, 172]
abbrev dktX2_factAt_0 : List UInt8 := dkwX2_factAt_0 ++ dktX2_factAt_1
theorem dksX2_factAt_0 : cX2_factAt.data.toList.drop 0 = dktX2_factAt_0 := by decide +kernel
theorem dksX2_factAt_1 : cX2_factAt.data.toList.drop 24 = dktX2_factAt_1 := dk_seg dksX2_factAt_0 24 rfl rfl
theorem dksX2_factAt_2 : cX2_factAt.data.toList.drop 48 = dktX2_factAt_2 := dk_seg dksX2_factAt_1 24 rfl rfl
theorem dksX2_factAt_3 : cX2_factAt.data.toList.drop 71 = dktX2_factAt_3 := dk_seg dksX2_factAt_2 23 rfl rfl
theorem dX2_factAt_0 : decode cX2_factAt 0 = .ok (.aload_n 0, 1) := dk_42 (dk_at dksX2_factAt_0 0 rfl rfl)
theorem dX2_factAt_1 : decode cX2_factAt 1 = .ok (.getfield 162, 3) := dk_180 0 162 (dk_at dksX2_factAt_0 1 rfl rfl)
theorem dX2_factAt_4 : decode cX2_factAt 4 = .ok (.iconst 4, 1) := dk_7 (dk_at dksX2_factAt_0 4 rfl rfl)
theorem dX2_factAt_5 : decode cX2_factAt 5 = .ok (.if_icmp .eq 5, 3) := dk_159 0 5 (dk_at dksX2_factAt_0 5 rfl rfl)
theorem dX2_factAt_8 : decode cX2_factAt 8 = .ok (.iconst 5, 1) := dk_8 (dk_at dksX2_factAt_0 8 rfl rfl)
theorem dX2_factAt_9 : decode cX2_factAt 9 = .ok (.ireturn, 1) := dk_172 (dk_at dksX2_factAt_0 9 rfl rfl)
theorem dX2_factAt_10 : decode cX2_factAt 10 = .ok (.aload_n 0, 1) := dk_42 (dk_at dksX2_factAt_0 10 rfl rfl)
theorem dX2_factAt_11 : decode cX2_factAt 11 = .ok (.invokevirtual 189, 3) := dk_182 0 189 (dk_at dksX2_factAt_0 11 rfl rfl)
theorem dX2_factAt_14 : decode cX2_factAt 14 = .ok (.aload_n 0, 1) := dk_42 (dk_at dksX2_factAt_0 14 rfl rfl)
theorem dX2_factAt_15 : decode cX2_factAt 15 = .ok (.getfield 107, 3) := dk_180 0 107 (dk_at dksX2_factAt_0 15 rfl rfl)
theorem dX2_factAt_18 : decode cX2_factAt 18 = .ok (.iconst 1, 1) := dk_4 (dk_at dksX2_factAt_0 18 rfl rfl)
theorem dX2_factAt_19 : decode cX2_factAt 19 = .ok (.if_icmp .eq 5, 3) := dk_159 0 5 (dk_at dksX2_factAt_0 19 rfl rfl)
theorem dX2_factAt_22 : decode cX2_factAt 22 = .ok (.iconst 1, 1) := dk_4 (dk_at dksX2_factAt_0 22 rfl rfl)
theorem dX2_factAt_23 : decode cX2_factAt 23 = .ok (.ireturn, 1) := dk_172 (dk_at dksX2_factAt_0 23 rfl rfl)
theorem dX2_factAt_24 : decode cX2_factAt 24 = .ok (.aload_n 0, 1) := dk_42 (dk_at dksX2_factAt_1 0 rfl rfl)
theorem dX2_factAt_25 : decode cX2_factAt 25 = .ok (.getfield 113, 3) := dk_180 0 113 (dk_at dksX2_factAt_1 1 rfl rfl)
theorem dX2_factAt_28 : decode cX2_factAt 28 = .ok (.bipush 7, 2) := dk_16 7 (dk_at dksX2_factAt_1 4 rfl rfl)
theorem dX2_factAt_30 : decode cX2_factAt 30 = .ok (.if_icmp .le 5, 3) := dk_164 0 5 (dk_at dksX2_factAt_1 6 rfl rfl)
theorem dX2_factAt_33 : decode cX2_factAt 33 = .ok (.iconst 2, 1) := dk_5 (dk_at dksX2_factAt_1 9 rfl rfl)
theorem dX2_factAt_34 : decode cX2_factAt 34 = .ok (.ireturn, 1) := dk_172 (dk_at dksX2_factAt_1 10 rfl rfl)
theorem dX2_factAt_35 : decode cX2_factAt 35 = .ok (.aload_n 0, 1) := dk_42 (dk_at dksX2_factAt_1 11 rfl rfl)
theorem dX2_factAt_36 : decode cX2_factAt 36 = .ok (.iconst 2, 1) := dk_5 (dk_at dksX2_factAt_1 12 rfl rfl)
theorem dX2_factAt_37 : decode cX2_factAt 37 = .ok (.aload_n 0, 1) := dk_42 (dk_at dksX2_factAt_1 13 rfl rfl)
theorem dX2_factAt_38 : decode cX2_factAt 38 = .ok (.getfield 113, 3) := dk_180 0 113 (dk_at dksX2_factAt_1 14 rfl rfl)
theorem dX2_factAt_41 : decode cX2_factAt 41 = .ok (.invokevirtual 171, 3) := dk_182 0 171 (dk_at dksX2_factAt_1 17 rfl rfl)
theorem dX2_factAt_44 : decode cX2_factAt 44 = .ok (.aload_n 0, 1) := dk_42 (dk_at dksX2_factAt_1 20 rfl rfl)
theorem dX2_factAt_45 : decode cX2_factAt 45 = .ok (.invokevirtual 189, 3) := dk_182 0 189 (dk_at dksX2_factAt_1 21 rfl rfl)
theorem dX2_factAt_48 : decode cX2_factAt 48 = .ok (.aload_n 0, 1) := dk_42 (dk_at dksX2_factAt_2 0 rfl rfl)
theorem dX2_factAt_49 : decode cX2_factAt 49 = .ok (.getfield 29, 3) := dk_180 0 29 (dk_at dksX2_factAt_2 1 rfl rfl)
theorem dX2_factAt_52 : decode cX2_factAt 52 = .ok (.aload_n 0, 1) := dk_42 (dk_at dksX2_factAt_2 4 rfl rfl)
theorem dX2_factAt_53 : decode cX2_factAt 53 = .ok (.getfield 165, 3) := dk_180 0 165 (dk_at dksX2_factAt_2 5 rfl rfl)
theorem dX2_factAt_56 : decode cX2_factAt 56 = .ok (.bipush 16, 2) := dk_16 16 (dk_at dksX2_factAt_2 8 rfl rfl)
theorem dX2_factAt_58 : decode cX2_factAt 58 = .ok (.iastore, 1) := dk_79 (dk_at dksX2_factAt_2 10 rfl rfl)
theorem dX2_factAt_59 : decode cX2_factAt 59 = .ok (.aload_n 0, 1) := dk_42 (dk_at dksX2_factAt_2 11 rfl rfl)
theorem dX2_factAt_60 : decode cX2_factAt 60 = .ok (.dup, 1) := dk_89 (dk_at dksX2_factAt_2 12 rfl rfl)
theorem dX2_factAt_61 : decode cX2_factAt 61 = .ok (.getfield 165, 3) := dk_180 0 165 (dk_at dksX2_factAt_2 13 rfl rfl)
theorem dX2_factAt_64 : decode cX2_factAt 64 = .ok (.iconst 1, 1) := dk_4 (dk_at dksX2_factAt_2 16 rfl rfl)
theorem dX2_factAt_65 : decode cX2_factAt 65 = .ok (.iadd, 1) := dk_96 (dk_at dksX2_factAt_2 17 rfl rfl)
theorem dX2_factAt_66 : decode cX2_factAt 66 = .ok (.putfield 165, 3) := dk_181 0 165 (dk_at dksX2_factAt_2 18 rfl rfl)
theorem dX2_factAt_69 : decode cX2_factAt 69 = .ok (.aload_n 0, 1) := dk_42 (dk_at dksX2_factAt_2 21 rfl rfl)
theorem dX2_factAt_70 : decode cX2_factAt 70 = .ok (.iconst 1, 1) := dk_4 (dk_at dksX2_factAt_2 22 rfl rfl)
theorem dX2_factAt_71 : decode cX2_factAt 71 = .ok (.putfield 195, 3) := dk_181 0 195 (dk_at dksX2_factAt_3 0 rfl rfl)
theorem dX2_factAt_74 : decode cX2_factAt 74 = .ok (.iconst 0, 1) := dk_3 (dk_at dksX2_factAt_3 3 rfl rfl)
theorem dX2_factAt_75 : decode cX2_factAt 75 = .ok (.ireturn, 1) := dk_172 (dk_at dksX2_factAt_3 4 rfl rfl)
abbrev cX2_caseClause : ByteArray := prog_20_method_52_code
def yX2_caseClause : MethodName := ⟨RX2, "caseClause", "(I)I"⟩
def dkwX2_caseClause_3 : List UInt8 := [182, 0, 189, 42, 27, 6, 96, 4, 16, 9, 182, 1, 3, 172]
abbrev dktX2_caseClause_3 : List UInt8 := dkwX2_caseClause_3 ++ []
def dkwX2_caseClause_2 : List UInt8 := [16, 110, 16, 101, 16, 101, 16, 100, 16, 115, 184, 0, 141, 182, 0, 213, 154, 0, 5, 4, 172, 42]
abbrev dktX2_caseClause_2 : List UInt8 := dkwX2_caseClause_2 ++ dktX2_caseClause_3
def dkwX2_caseClause_1 : List UInt8 := [172, 42, 182, 0, 189, 42, 27, 5, 96, 4, 16, 9, 182, 1, 3, 61, 28, 153, 0, 5, 28, 172, 42]
abbrev dktX2_caseClause_1 : List UInt8 := dkwX2_caseClause_1 ++ dktX2_caseClause_2
def dkwX2_caseClause_0 : List UInt8 := [42, 27, 4, 96, 3, 8, 182, 1, 3, 61, 28, 153, 0, 5, 28, 172, 42, 182, 0, 159, 154, 0, 5, 4]
abbrev dktX2_caseClause_0 : List UInt8 := dkwX2_caseClause_0 ++ dktX2_caseClause_1
theorem dksX2_caseClause_0 : cX2_caseClause.data.toList.drop 0 = dktX2_caseClause_0 := by decide +kernel
theorem dksX2_caseClause_1 : cX2_caseClause.data.toList.drop 24 = dktX2_caseClause_1 := dk_seg dksX2_caseClause_0 24 rfl rfl
theorem dksX2_caseClause_2 : cX2_caseClause.data.toList.drop 47 = dktX2_caseClause_2 := dk_seg dksX2_caseClause_1 23 rfl rfl
theorem dksX2_caseClause_3 : cX2_caseClause.data.toList.drop 69 = dktX2_caseClause_3 := dk_seg dksX2_caseClause_2 22 rfl rfl
theorem dX2_caseClause_0 : decode cX2_caseClause 0 = .ok (.aload_n 0, 1) := dk_42 (dk_at dksX2_caseClause_0 0 rfl rfl)
theorem dX2_caseClause_1 : decode cX2_caseClause 1 = .ok (.iload_n 1, 1) := dk_27 (dk_at dksX2_caseClause_0 1 rfl rfl)
theorem dX2_caseClause_2 : decode cX2_caseClause 2 = .ok (.iconst 1, 1) := dk_4 (dk_at dksX2_caseClause_0 2 rfl rfl)
theorem dX2_caseClause_3 : decode cX2_caseClause 3 = .ok (.iadd, 1) := dk_96 (dk_at dksX2_caseClause_0 3 rfl rfl)
theorem dX2_caseClause_4 : decode cX2_caseClause 4 = .ok (.iconst 0, 1) := dk_3 (dk_at dksX2_caseClause_0 4 rfl rfl)
theorem dX2_caseClause_5 : decode cX2_caseClause 5 = .ok (.iconst 5, 1) := dk_8 (dk_at dksX2_caseClause_0 5 rfl rfl)
theorem dX2_caseClause_6 : decode cX2_caseClause 6 = .ok (.invokevirtual 259, 3) := dk_182 1 3 (dk_at dksX2_caseClause_0 6 rfl rfl)
theorem dX2_caseClause_9 : decode cX2_caseClause 9 = .ok (.istore_n 2, 1) := dk_61 (dk_at dksX2_caseClause_0 9 rfl rfl)
theorem dX2_caseClause_10 : decode cX2_caseClause 10 = .ok (.iload_n 2, 1) := dk_28 (dk_at dksX2_caseClause_0 10 rfl rfl)
theorem dX2_caseClause_11 : decode cX2_caseClause 11 = .ok (.ifCond .eq 5, 3) := dk_153 0 5 (dk_at dksX2_caseClause_0 11 rfl rfl)
theorem dX2_caseClause_14 : decode cX2_caseClause 14 = .ok (.iload_n 2, 1) := dk_28 (dk_at dksX2_caseClause_0 14 rfl rfl)
theorem dX2_caseClause_15 : decode cX2_caseClause 15 = .ok (.ireturn, 1) := dk_172 (dk_at dksX2_caseClause_0 15 rfl rfl)
theorem dX2_caseClause_16 : decode cX2_caseClause 16 = .ok (.aload_n 0, 1) := dk_42 (dk_at dksX2_caseClause_0 16 rfl rfl)
theorem dX2_caseClause_17 : decode cX2_caseClause 17 = .ok (.invokevirtual 159, 3) := dk_182 0 159 (dk_at dksX2_caseClause_0 17 rfl rfl)
theorem dX2_caseClause_20 : decode cX2_caseClause 20 = .ok (.ifCond .ne 5, 3) := dk_154 0 5 (dk_at dksX2_caseClause_0 20 rfl rfl)
theorem dX2_caseClause_23 : decode cX2_caseClause 23 = .ok (.iconst 1, 1) := dk_4 (dk_at dksX2_caseClause_0 23 rfl rfl)
theorem dX2_caseClause_24 : decode cX2_caseClause 24 = .ok (.ireturn, 1) := dk_172 (dk_at dksX2_caseClause_1 0 rfl rfl)
theorem dX2_caseClause_25 : decode cX2_caseClause 25 = .ok (.aload_n 0, 1) := dk_42 (dk_at dksX2_caseClause_1 1 rfl rfl)
theorem dX2_caseClause_26 : decode cX2_caseClause 26 = .ok (.invokevirtual 189, 3) := dk_182 0 189 (dk_at dksX2_caseClause_1 2 rfl rfl)
theorem dX2_caseClause_29 : decode cX2_caseClause 29 = .ok (.aload_n 0, 1) := dk_42 (dk_at dksX2_caseClause_1 5 rfl rfl)
theorem dX2_caseClause_30 : decode cX2_caseClause 30 = .ok (.iload_n 1, 1) := dk_27 (dk_at dksX2_caseClause_1 6 rfl rfl)
theorem dX2_caseClause_31 : decode cX2_caseClause 31 = .ok (.iconst 2, 1) := dk_5 (dk_at dksX2_caseClause_1 7 rfl rfl)
theorem dX2_caseClause_32 : decode cX2_caseClause 32 = .ok (.iadd, 1) := dk_96 (dk_at dksX2_caseClause_1 8 rfl rfl)
theorem dX2_caseClause_33 : decode cX2_caseClause 33 = .ok (.iconst 1, 1) := dk_4 (dk_at dksX2_caseClause_1 9 rfl rfl)
theorem dX2_caseClause_34 : decode cX2_caseClause 34 = .ok (.bipush 9, 2) := dk_16 9 (dk_at dksX2_caseClause_1 10 rfl rfl)
theorem dX2_caseClause_36 : decode cX2_caseClause 36 = .ok (.invokevirtual 259, 3) := dk_182 1 3 (dk_at dksX2_caseClause_1 12 rfl rfl)
theorem dX2_caseClause_39 : decode cX2_caseClause 39 = .ok (.istore_n 2, 1) := dk_61 (dk_at dksX2_caseClause_1 15 rfl rfl)
theorem dX2_caseClause_40 : decode cX2_caseClause 40 = .ok (.iload_n 2, 1) := dk_28 (dk_at dksX2_caseClause_1 16 rfl rfl)
theorem dX2_caseClause_41 : decode cX2_caseClause 41 = .ok (.ifCond .eq 5, 3) := dk_153 0 5 (dk_at dksX2_caseClause_1 17 rfl rfl)
theorem dX2_caseClause_44 : decode cX2_caseClause 44 = .ok (.iload_n 2, 1) := dk_28 (dk_at dksX2_caseClause_1 20 rfl rfl)
theorem dX2_caseClause_45 : decode cX2_caseClause 45 = .ok (.ireturn, 1) := dk_172 (dk_at dksX2_caseClause_1 21 rfl rfl)
theorem dX2_caseClause_46 : decode cX2_caseClause 46 = .ok (.aload_n 0, 1) := dk_42 (dk_at dksX2_caseClause_1 22 rfl rfl)
theorem dX2_caseClause_47 : decode cX2_caseClause 47 = .ok (.bipush 110, 2) := dk_16 110 (dk_at dksX2_caseClause_2 0 rfl rfl)
theorem dX2_caseClause_49 : decode cX2_caseClause 49 = .ok (.bipush 101, 2) := dk_16 101 (dk_at dksX2_caseClause_2 2 rfl rfl)
theorem dX2_caseClause_51 : decode cX2_caseClause 51 = .ok (.bipush 101, 2) := dk_16 101 (dk_at dksX2_caseClause_2 4 rfl rfl)
theorem dX2_caseClause_53 : decode cX2_caseClause 53 = .ok (.bipush 100, 2) := dk_16 100 (dk_at dksX2_caseClause_2 6 rfl rfl)
theorem dX2_caseClause_55 : decode cX2_caseClause 55 = .ok (.bipush 115, 2) := dk_16 115 (dk_at dksX2_caseClause_2 8 rfl rfl)
theorem dX2_caseClause_57 : decode cX2_caseClause 57 = .ok (.invokestatic 141, 3) := dk_184 0 141 (dk_at dksX2_caseClause_2 10 rfl rfl)
theorem dX2_caseClause_60 : decode cX2_caseClause 60 = .ok (.invokevirtual 213, 3) := dk_182 0 213 (dk_at dksX2_caseClause_2 13 rfl rfl)
theorem dX2_caseClause_63 : decode cX2_caseClause 63 = .ok (.ifCond .ne 5, 3) := dk_154 0 5 (dk_at dksX2_caseClause_2 16 rfl rfl)
theorem dX2_caseClause_66 : decode cX2_caseClause 66 = .ok (.iconst 1, 1) := dk_4 (dk_at dksX2_caseClause_2 19 rfl rfl)
theorem dX2_caseClause_67 : decode cX2_caseClause 67 = .ok (.ireturn, 1) := dk_172 (dk_at dksX2_caseClause_2 20 rfl rfl)
theorem dX2_caseClause_68 : decode cX2_caseClause 68 = .ok (.aload_n 0, 1) := dk_42 (dk_at dksX2_caseClause_2 21 rfl rfl)
theorem dX2_caseClause_69 : decode cX2_caseClause 69 = .ok (.invokevirtual 189, 3) := dk_182 0 189 (dk_at dksX2_caseClause_3 0 rfl rfl)
theorem dX2_caseClause_72 : decode cX2_caseClause 72 = .ok (.aload_n 0, 1) := dk_42 (dk_at dksX2_caseClause_3 3 rfl rfl)
theorem dX2_caseClause_73 : decode cX2_caseClause 73 = .ok (.iload_n 1, 1) := dk_27 (dk_at dksX2_caseClause_3 4 rfl rfl)
theorem dX2_caseClause_74 : decode cX2_caseClause 74 = .ok (.iconst 3, 1) := dk_6 (dk_at dksX2_caseClause_3 5 rfl rfl)
theorem dX2_caseClause_75 : decode cX2_caseClause 75 = .ok (.iadd, 1) := dk_96 (dk_at dksX2_caseClause_3 6 rfl rfl)
theorem dX2_caseClause_76 : decode cX2_caseClause 76 = .ok (.iconst 1, 1) := dk_4 (dk_at dksX2_caseClause_3 7 rfl rfl)
theorem dX2_caseClause_77 : decode cX2_caseClause 77 = .ok (.bipush 9, 2) := dk_16 9 (dk_at dksX2_caseClause_3 8 rfl rfl)
theorem dX2_caseClause_79 : decode cX2_caseClause 79 = .ok (.invokevirtual 259, 3) := dk_182 1 3 (dk_at dksX2_caseClause_3 10 rfl rfl)
theorem dX2_caseClause_82 : decode cX2_caseClause 82 = .ok (.ireturn, 1) := dk_172 (dk_at dksX2_caseClause_3 13 rfl rfl)
abbrev cX2_gustClause : ByteArray := prog_20_method_53_code
def yX2_gustClause : MethodName := ⟨RX2, "gustClause", "(I)I"⟩
def dkwX2_gustClause_2 : List UInt8 := [16, 9, 182, 1, 3, 172]
abbrev dktX2_gustClause_2 : List UInt8 := dkwX2_gustClause_2 ++ []
def dkwX2_gustClause_1 : List UInt8 := [16, 99, 16, 101, 184, 0, 141, 182, 0, 213, 154, 0, 5, 4, 172, 42, 182, 0, 189, 42, 27, 5, 96, 3]
abbrev dktX2_gustClause_1 : List UInt8 := dkwX2_gustClause_1 ++ dktX2_gustClause_2
def dkwX2_gustClause_0 : List UInt8 := [42, 27, 4, 96, 3, 6, 182, 1, 3, 61, 28, 153, 0, 5, 28, 172, 42, 16, 102, 16, 111, 16, 114]
abbrev dktX2_gustClause_0 : List UInt8 := dkwX2_gustClause_0 ++ dktX2_gustClause_1
theorem dksX2_gustClause_0 : cX2_gustClause.data.toList.drop 0 = dktX2_gustClause_0 := by decide +kernel
theorem dksX2_gustClause_1 : cX2_gustClause.data.toList.drop 23 = dktX2_gustClause_1 := dk_seg dksX2_gustClause_0 23 rfl rfl
theorem dksX2_gustClause_2 : cX2_gustClause.data.toList.drop 47 = dktX2_gustClause_2 := dk_seg dksX2_gustClause_1 24 rfl rfl
theorem dX2_gustClause_0 : decode cX2_gustClause 0 = .ok (.aload_n 0, 1) := dk_42 (dk_at dksX2_gustClause_0 0 rfl rfl)
theorem dX2_gustClause_1 : decode cX2_gustClause 1 = .ok (.iload_n 1, 1) := dk_27 (dk_at dksX2_gustClause_0 1 rfl rfl)
theorem dX2_gustClause_2 : decode cX2_gustClause 2 = .ok (.iconst 1, 1) := dk_4 (dk_at dksX2_gustClause_0 2 rfl rfl)
theorem dX2_gustClause_3 : decode cX2_gustClause 3 = .ok (.iadd, 1) := dk_96 (dk_at dksX2_gustClause_0 3 rfl rfl)
theorem dX2_gustClause_4 : decode cX2_gustClause 4 = .ok (.iconst 0, 1) := dk_3 (dk_at dksX2_gustClause_0 4 rfl rfl)
theorem dX2_gustClause_5 : decode cX2_gustClause 5 = .ok (.iconst 3, 1) := dk_6 (dk_at dksX2_gustClause_0 5 rfl rfl)
theorem dX2_gustClause_6 : decode cX2_gustClause 6 = .ok (.invokevirtual 259, 3) := dk_182 1 3 (dk_at dksX2_gustClause_0 6 rfl rfl)
theorem dX2_gustClause_9 : decode cX2_gustClause 9 = .ok (.istore_n 2, 1) := dk_61 (dk_at dksX2_gustClause_0 9 rfl rfl)
theorem dX2_gustClause_10 : decode cX2_gustClause 10 = .ok (.iload_n 2, 1) := dk_28 (dk_at dksX2_gustClause_0 10 rfl rfl)
theorem dX2_gustClause_11 : decode cX2_gustClause 11 = .ok (.ifCond .eq 5, 3) := dk_153 0 5 (dk_at dksX2_gustClause_0 11 rfl rfl)
theorem dX2_gustClause_14 : decode cX2_gustClause 14 = .ok (.iload_n 2, 1) := dk_28 (dk_at dksX2_gustClause_0 14 rfl rfl)
theorem dX2_gustClause_15 : decode cX2_gustClause 15 = .ok (.ireturn, 1) := dk_172 (dk_at dksX2_gustClause_0 15 rfl rfl)
theorem dX2_gustClause_16 : decode cX2_gustClause 16 = .ok (.aload_n 0, 1) := dk_42 (dk_at dksX2_gustClause_0 16 rfl rfl)
theorem dX2_gustClause_17 : decode cX2_gustClause 17 = .ok (.bipush 102, 2) := dk_16 102 (dk_at dksX2_gustClause_0 17 rfl rfl)
theorem dX2_gustClause_19 : decode cX2_gustClause 19 = .ok (.bipush 111, 2) := dk_16 111 (dk_at dksX2_gustClause_0 19 rfl rfl)
theorem dX2_gustClause_21 : decode cX2_gustClause 21 = .ok (.bipush 114, 2) := dk_16 114 (dk_at dksX2_gustClause_0 21 rfl rfl)
theorem dX2_gustClause_23 : decode cX2_gustClause 23 = .ok (.bipush 99, 2) := dk_16 99 (dk_at dksX2_gustClause_1 0 rfl rfl)
theorem dX2_gustClause_25 : decode cX2_gustClause 25 = .ok (.bipush 101, 2) := dk_16 101 (dk_at dksX2_gustClause_1 2 rfl rfl)
theorem dX2_gustClause_27 : decode cX2_gustClause 27 = .ok (.invokestatic 141, 3) := dk_184 0 141 (dk_at dksX2_gustClause_1 4 rfl rfl)
theorem dX2_gustClause_30 : decode cX2_gustClause 30 = .ok (.invokevirtual 213, 3) := dk_182 0 213 (dk_at dksX2_gustClause_1 7 rfl rfl)
theorem dX2_gustClause_33 : decode cX2_gustClause 33 = .ok (.ifCond .ne 5, 3) := dk_154 0 5 (dk_at dksX2_gustClause_1 10 rfl rfl)
theorem dX2_gustClause_36 : decode cX2_gustClause 36 = .ok (.iconst 1, 1) := dk_4 (dk_at dksX2_gustClause_1 13 rfl rfl)
theorem dX2_gustClause_37 : decode cX2_gustClause 37 = .ok (.ireturn, 1) := dk_172 (dk_at dksX2_gustClause_1 14 rfl rfl)
theorem dX2_gustClause_38 : decode cX2_gustClause 38 = .ok (.aload_n 0, 1) := dk_42 (dk_at dksX2_gustClause_1 15 rfl rfl)
theorem dX2_gustClause_39 : decode cX2_gustClause 39 = .ok (.invokevirtual 189, 3) := dk_182 0 189 (dk_at dksX2_gustClause_1 16 rfl rfl)
theorem dX2_gustClause_42 : decode cX2_gustClause 42 = .ok (.aload_n 0, 1) := dk_42 (dk_at dksX2_gustClause_1 19 rfl rfl)
theorem dX2_gustClause_43 : decode cX2_gustClause 43 = .ok (.iload_n 1, 1) := dk_27 (dk_at dksX2_gustClause_1 20 rfl rfl)
theorem dX2_gustClause_44 : decode cX2_gustClause 44 = .ok (.iconst 2, 1) := dk_5 (dk_at dksX2_gustClause_1 21 rfl rfl)
theorem dX2_gustClause_45 : decode cX2_gustClause 45 = .ok (.iadd, 1) := dk_96 (dk_at dksX2_gustClause_1 22 rfl rfl)
theorem dX2_gustClause_46 : decode cX2_gustClause 46 = .ok (.iconst 0, 1) := dk_3 (dk_at dksX2_gustClause_1 23 rfl rfl)
theorem dX2_gustClause_47 : decode cX2_gustClause 47 = .ok (.bipush 9, 2) := dk_16 9 (dk_at dksX2_gustClause_2 0 rfl rfl)
theorem dX2_gustClause_49 : decode cX2_gustClause 49 = .ok (.invokevirtual 259, 3) := dk_182 1 3 (dk_at dksX2_gustClause_2 2 rfl rfl)
theorem dX2_gustClause_52 : decode cX2_gustClause 52 = .ok (.ireturn, 1) := dk_172 (dk_at dksX2_gustClause_2 5 rfl rfl)
abbrev cX2_fault : ByteArray := prog_20_method_59_code
def yX2_fault : MethodName := ⟨RX2, "fault", "(I)I"⟩
def dkwX2_fault_1 : List UInt8 := [172]
abbrev dktX2_fault_1 : List UInt8 := dkwX2_fault_1 ++ []
def dkwX2_fault_0 : List UInt8 := [27, 154, 0, 10, 42, 180, 0, 22, 167, 0, 16, 27, 4, 160, 0, 10, 42, 180, 0, 26, 167, 0, 4, 2]
abbrev dktX2_fault_0 : List UInt8 := dkwX2_fault_0 ++ dktX2_fault_1
theorem dksX2_fault_0 : cX2_fault.data.toList.drop 0 = dktX2_fault_0 := by decide +kernel
theorem dksX2_fault_1 : cX2_fault.data.toList.drop 24 = dktX2_fault_1 := dk_seg dksX2_fault_0 24 rfl rfl
theorem dX2_fault_0 : decode cX2_fault 0 = .ok (.iload_n 1, 1) := dk_27 (dk_at dksX2_fault_0 0 rfl rfl)
theorem dX2_fault_1 : decode cX2_fault 1 = .ok (.ifCond .ne 10, 3) := dk_154 0 10 (dk_at dksX2_fault_0 1 rfl rfl)
theorem dX2_fault_4 : decode cX2_fault 4 = .ok (.aload_n 0, 1) := dk_42 (dk_at dksX2_fault_0 4 rfl rfl)
theorem dX2_fault_5 : decode cX2_fault 5 = .ok (.getfield 22, 3) := dk_180 0 22 (dk_at dksX2_fault_0 5 rfl rfl)
theorem dX2_fault_8 : decode cX2_fault 8 = .ok (.goto 16, 3) := dk_167 0 16 (dk_at dksX2_fault_0 8 rfl rfl)
theorem dX2_fault_11 : decode cX2_fault 11 = .ok (.iload_n 1, 1) := dk_27 (dk_at dksX2_fault_0 11 rfl rfl)
theorem dX2_fault_12 : decode cX2_fault 12 = .ok (.iconst 1, 1) := dk_4 (dk_at dksX2_fault_0 12 rfl rfl)
theorem dX2_fault_13 : decode cX2_fault 13 = .ok (.if_icmp .ne 10, 3) := dk_160 0 10 (dk_at dksX2_fault_0 13 rfl rfl)
theorem dX2_fault_16 : decode cX2_fault 16 = .ok (.aload_n 0, 1) := dk_42 (dk_at dksX2_fault_0 16 rfl rfl)
theorem dX2_fault_17 : decode cX2_fault 17 = .ok (.getfield 26, 3) := dk_180 0 26 (dk_at dksX2_fault_0 17 rfl rfl)
theorem dX2_fault_20 : decode cX2_fault 20 = .ok (.goto 4, 3) := dk_167 0 4 (dk_at dksX2_fault_0 20 rfl rfl)
theorem dX2_fault_23 : decode cX2_fault 23 = .ok (.iconst (-1), 1) := dk_2 (dk_at dksX2_fault_0 23 rfl rfl)
theorem dX2_fault_24 : decode cX2_fault 24 = .ok (.ireturn, 1) := dk_172 (dk_at dksX2_fault_1 0 rfl rfl)
abbrev cX2_by : ByteArray := prog_20_method_60_code
def yX2_by : MethodName := ⟨RX2, "by", "(I)Z"⟩
def dkwX2_by_1 : List UInt8 := [79, 4, 172]
abbrev dktX2_by_1 : List UInt8 := dkwX2_by_1 ++ []
def dkwX2_by_0 : List UInt8 := [27, 2, 42, 180, 0, 7, 4, 46, 4, 100, 184, 0, 74, 154, 0, 5, 3, 172, 42, 180, 0, 7, 5, 27]
abbrev dktX2_by_0 : List UInt8 := dkwX2_by_0 ++ dktX2_by_1
theorem dksX2_by_0 : cX2_by.data.toList.drop 0 = dktX2_by_0 := by decide +kernel
theorem dksX2_by_1 : cX2_by.data.toList.drop 24 = dktX2_by_1 := dk_seg dksX2_by_0 24 rfl rfl
theorem dX2_by_0 : decode cX2_by 0 = .ok (.iload_n 1, 1) := dk_27 (dk_at dksX2_by_0 0 rfl rfl)
theorem dX2_by_1 : decode cX2_by 1 = .ok (.iconst (-1), 1) := dk_2 (dk_at dksX2_by_0 1 rfl rfl)
theorem dX2_by_2 : decode cX2_by 2 = .ok (.aload_n 0, 1) := dk_42 (dk_at dksX2_by_0 2 rfl rfl)
theorem dX2_by_3 : decode cX2_by 3 = .ok (.getfield 7, 3) := dk_180 0 7 (dk_at dksX2_by_0 3 rfl rfl)
theorem dX2_by_6 : decode cX2_by 6 = .ok (.iconst 1, 1) := dk_4 (dk_at dksX2_by_0 6 rfl rfl)
theorem dX2_by_7 : decode cX2_by 7 = .ok (.iaload, 1) := dk_46 (dk_at dksX2_by_0 7 rfl rfl)
theorem dX2_by_8 : decode cX2_by 8 = .ok (.iconst 1, 1) := dk_4 (dk_at dksX2_by_0 8 rfl rfl)
theorem dX2_by_9 : decode cX2_by 9 = .ok (.isub, 1) := dk_100 (dk_at dksX2_by_0 9 rfl rfl)
theorem dX2_by_10 : decode cX2_by 10 = .ok (.invokestatic 74, 3) := dk_184 0 74 (dk_at dksX2_by_0 10 rfl rfl)
theorem dX2_by_13 : decode cX2_by 13 = .ok (.ifCond .ne 5, 3) := dk_154 0 5 (dk_at dksX2_by_0 13 rfl rfl)
theorem dX2_by_16 : decode cX2_by 16 = .ok (.iconst 0, 1) := dk_3 (dk_at dksX2_by_0 16 rfl rfl)
theorem dX2_by_17 : decode cX2_by 17 = .ok (.ireturn, 1) := dk_172 (dk_at dksX2_by_0 17 rfl rfl)
theorem dX2_by_18 : decode cX2_by 18 = .ok (.aload_n 0, 1) := dk_42 (dk_at dksX2_by_0 18 rfl rfl)
theorem dX2_by_19 : decode cX2_by 19 = .ok (.getfield 7, 3) := dk_180 0 7 (dk_at dksX2_by_0 19 rfl rfl)
theorem dX2_by_22 : decode cX2_by 22 = .ok (.iconst 2, 1) := dk_5 (dk_at dksX2_by_0 22 rfl rfl)
theorem dX2_by_23 : decode cX2_by 23 = .ok (.iload_n 1, 1) := dk_27 (dk_at dksX2_by_0 23 rfl rfl)
theorem dX2_by_24 : decode cX2_by 24 = .ok (.iastore, 1) := dk_79 (dk_at dksX2_by_1 0 rfl rfl)
theorem dX2_by_25 : decode cX2_by 25 = .ok (.iconst 1, 1) := dk_4 (dk_at dksX2_by_1 1 rfl rfl)
theorem dX2_by_26 : decode cX2_by 26 = .ok (.ireturn, 1) := dk_172 (dk_at dksX2_by_1 2 rfl rfl)
abbrev cX2_undo : ByteArray := prog_20_method_82_code
def yX2_undo : MethodName := ⟨RX2, "undo", "()I"⟩
def dkwX2_undo_6 : List UInt8 := [46, 172]
abbrev dktX2_undo_6 : List UInt8 := dkwX2_undo_6 ++ []
def dkwX2_undo_5 : List UInt8 := [167, 0, 4, 3, 182, 0, 86, 132, 3, 1, 167, 255, 211, 132, 2, 1, 167, 255, 193, 42, 180, 0, 7, 6]
abbrev dktX2_undo_5 : List UInt8 := dkwX2_undo_5 ++ dktX2_undo_6
def dkwX2_undo_4 : List UInt8 := [180, 0, 7, 27, 46, 162, 0, 21, 42, 180, 0, 7, 27, 16, 11, 96, 6, 28, 104, 96, 29, 96, 46]
abbrev dktX2_undo_4 : List UInt8 := dkwX2_undo_4 ++ dktX2_undo_5
def dkwX2_undo_3 : List UInt8 := [42, 180, 0, 7, 3, 46, 162, 0, 59, 3, 62, 29, 6, 162, 0, 46, 42, 28, 7, 29, 96, 28, 42]
abbrev dktX2_undo_3 : List UInt8 := dkwX2_undo_3 ++ dktX2_undo_4
def dkwX2_undo_2 : List UInt8 := [16, 8, 28, 96, 42, 180, 0, 7, 27, 4, 96, 28, 96, 46, 79, 132, 2, 1, 167, 255, 228, 3, 61, 28]
abbrev dktX2_undo_2 : List UInt8 := dkwX2_undo_2 ++ dktX2_undo_3
def dkwX2_undo_1 : List UInt8 := [16, 35, 42, 180, 0, 7, 6, 46, 104, 96, 60, 3, 61, 28, 16, 10, 162, 0, 28, 42, 180, 0, 7]
abbrev dktX2_undo_1 : List UInt8 := dkwX2_undo_1 ++ dktX2_undo_2
def dkwX2_undo_0 : List UInt8 := [42, 180, 0, 7, 6, 46, 154, 0, 5, 2, 172, 42, 180, 0, 7, 6, 92, 46, 4, 100, 79, 17, 0, 132]
abbrev dktX2_undo_0 : List UInt8 := dkwX2_undo_0 ++ dktX2_undo_1
theorem dksX2_undo_0 : cX2_undo.data.toList.drop 0 = dktX2_undo_0 := by decide +kernel
theorem dksX2_undo_1 : cX2_undo.data.toList.drop 24 = dktX2_undo_1 := dk_seg dksX2_undo_0 24 rfl rfl
theorem dksX2_undo_2 : cX2_undo.data.toList.drop 47 = dktX2_undo_2 := dk_seg dksX2_undo_1 23 rfl rfl
theorem dksX2_undo_3 : cX2_undo.data.toList.drop 71 = dktX2_undo_3 := dk_seg dksX2_undo_2 24 rfl rfl
theorem dksX2_undo_4 : cX2_undo.data.toList.drop 94 = dktX2_undo_4 := dk_seg dksX2_undo_3 23 rfl rfl
theorem dksX2_undo_5 : cX2_undo.data.toList.drop 117 = dktX2_undo_5 := dk_seg dksX2_undo_4 23 rfl rfl
theorem dksX2_undo_6 : cX2_undo.data.toList.drop 141 = dktX2_undo_6 := dk_seg dksX2_undo_5 24 rfl rfl
theorem dX2_undo_0 : decode cX2_undo 0 = .ok (.aload_n 0, 1) := dk_42 (dk_at dksX2_undo_0 0 rfl rfl)
theorem dX2_undo_1 : decode cX2_undo 1 = .ok (.getfield 7, 3) := dk_180 0 7 (dk_at dksX2_undo_0 1 rfl rfl)
theorem dX2_undo_4 : decode cX2_undo 4 = .ok (.iconst 3, 1) := dk_6 (dk_at dksX2_undo_0 4 rfl rfl)
theorem dX2_undo_5 : decode cX2_undo 5 = .ok (.iaload, 1) := dk_46 (dk_at dksX2_undo_0 5 rfl rfl)
theorem dX2_undo_6 : decode cX2_undo 6 = .ok (.ifCond .ne 5, 3) := dk_154 0 5 (dk_at dksX2_undo_0 6 rfl rfl)
theorem dX2_undo_9 : decode cX2_undo 9 = .ok (.iconst (-1), 1) := dk_2 (dk_at dksX2_undo_0 9 rfl rfl)
theorem dX2_undo_10 : decode cX2_undo 10 = .ok (.ireturn, 1) := dk_172 (dk_at dksX2_undo_0 10 rfl rfl)
theorem dX2_undo_11 : decode cX2_undo 11 = .ok (.aload_n 0, 1) := dk_42 (dk_at dksX2_undo_0 11 rfl rfl)
theorem dX2_undo_12 : decode cX2_undo 12 = .ok (.getfield 7, 3) := dk_180 0 7 (dk_at dksX2_undo_0 12 rfl rfl)
theorem dX2_undo_15 : decode cX2_undo 15 = .ok (.iconst 3, 1) := dk_6 (dk_at dksX2_undo_0 15 rfl rfl)
theorem dX2_undo_16 : decode cX2_undo 16 = .ok (.dup2, 1) := dk_92 (dk_at dksX2_undo_0 16 rfl rfl)
theorem dX2_undo_17 : decode cX2_undo 17 = .ok (.iaload, 1) := dk_46 (dk_at dksX2_undo_0 17 rfl rfl)
theorem dX2_undo_18 : decode cX2_undo 18 = .ok (.iconst 1, 1) := dk_4 (dk_at dksX2_undo_0 18 rfl rfl)
theorem dX2_undo_19 : decode cX2_undo 19 = .ok (.isub, 1) := dk_100 (dk_at dksX2_undo_0 19 rfl rfl)
theorem dX2_undo_20 : decode cX2_undo 20 = .ok (.iastore, 1) := dk_79 (dk_at dksX2_undo_0 20 rfl rfl)
theorem dX2_undo_21 : decode cX2_undo 21 = .ok (.sipush 132, 3) := dk_17 0 132 (dk_at dksX2_undo_0 21 rfl rfl)
theorem dX2_undo_24 : decode cX2_undo 24 = .ok (.bipush 35, 2) := dk_16 35 (dk_at dksX2_undo_1 0 rfl rfl)
theorem dX2_undo_26 : decode cX2_undo 26 = .ok (.aload_n 0, 1) := dk_42 (dk_at dksX2_undo_1 2 rfl rfl)
theorem dX2_undo_27 : decode cX2_undo 27 = .ok (.getfield 7, 3) := dk_180 0 7 (dk_at dksX2_undo_1 3 rfl rfl)
theorem dX2_undo_30 : decode cX2_undo 30 = .ok (.iconst 3, 1) := dk_6 (dk_at dksX2_undo_1 6 rfl rfl)
theorem dX2_undo_31 : decode cX2_undo 31 = .ok (.iaload, 1) := dk_46 (dk_at dksX2_undo_1 7 rfl rfl)
theorem dX2_undo_32 : decode cX2_undo 32 = .ok (.imul, 1) := dk_104 (dk_at dksX2_undo_1 8 rfl rfl)
theorem dX2_undo_33 : decode cX2_undo 33 = .ok (.iadd, 1) := dk_96 (dk_at dksX2_undo_1 9 rfl rfl)
theorem dX2_undo_34 : decode cX2_undo 34 = .ok (.istore_n 1, 1) := dk_60 (dk_at dksX2_undo_1 10 rfl rfl)
theorem dX2_undo_35 : decode cX2_undo 35 = .ok (.iconst 0, 1) := dk_3 (dk_at dksX2_undo_1 11 rfl rfl)
theorem dX2_undo_36 : decode cX2_undo 36 = .ok (.istore_n 2, 1) := dk_61 (dk_at dksX2_undo_1 12 rfl rfl)
theorem dX2_undo_37 : decode cX2_undo 37 = .ok (.iload_n 2, 1) := dk_28 (dk_at dksX2_undo_1 13 rfl rfl)
theorem dX2_undo_38 : decode cX2_undo 38 = .ok (.bipush 10, 2) := dk_16 10 (dk_at dksX2_undo_1 14 rfl rfl)
theorem dX2_undo_40 : decode cX2_undo 40 = .ok (.if_icmp .ge 28, 3) := dk_162 0 28 (dk_at dksX2_undo_1 16 rfl rfl)
theorem dX2_undo_43 : decode cX2_undo 43 = .ok (.aload_n 0, 1) := dk_42 (dk_at dksX2_undo_1 19 rfl rfl)
theorem dX2_undo_44 : decode cX2_undo 44 = .ok (.getfield 7, 3) := dk_180 0 7 (dk_at dksX2_undo_1 20 rfl rfl)
theorem dX2_undo_47 : decode cX2_undo 47 = .ok (.bipush 8, 2) := dk_16 8 (dk_at dksX2_undo_2 0 rfl rfl)
theorem dX2_undo_49 : decode cX2_undo 49 = .ok (.iload_n 2, 1) := dk_28 (dk_at dksX2_undo_2 2 rfl rfl)
theorem dX2_undo_50 : decode cX2_undo 50 = .ok (.iadd, 1) := dk_96 (dk_at dksX2_undo_2 3 rfl rfl)
theorem dX2_undo_51 : decode cX2_undo 51 = .ok (.aload_n 0, 1) := dk_42 (dk_at dksX2_undo_2 4 rfl rfl)
theorem dX2_undo_52 : decode cX2_undo 52 = .ok (.getfield 7, 3) := dk_180 0 7 (dk_at dksX2_undo_2 5 rfl rfl)
theorem dX2_undo_55 : decode cX2_undo 55 = .ok (.iload_n 1, 1) := dk_27 (dk_at dksX2_undo_2 8 rfl rfl)
theorem dX2_undo_56 : decode cX2_undo 56 = .ok (.iconst 1, 1) := dk_4 (dk_at dksX2_undo_2 9 rfl rfl)
theorem dX2_undo_57 : decode cX2_undo 57 = .ok (.iadd, 1) := dk_96 (dk_at dksX2_undo_2 10 rfl rfl)
theorem dX2_undo_58 : decode cX2_undo 58 = .ok (.iload_n 2, 1) := dk_28 (dk_at dksX2_undo_2 11 rfl rfl)
theorem dX2_undo_59 : decode cX2_undo 59 = .ok (.iadd, 1) := dk_96 (dk_at dksX2_undo_2 12 rfl rfl)
theorem dX2_undo_60 : decode cX2_undo 60 = .ok (.iaload, 1) := dk_46 (dk_at dksX2_undo_2 13 rfl rfl)
theorem dX2_undo_61 : decode cX2_undo 61 = .ok (.iastore, 1) := dk_79 (dk_at dksX2_undo_2 14 rfl rfl)
theorem dX2_undo_62 : decode cX2_undo 62 = .ok (.iinc 2 1, 3) := dk_132 2 1 (dk_at dksX2_undo_2 15 rfl rfl)
theorem dX2_undo_65 : decode cX2_undo 65 = .ok (.goto (-28), 3) := dk_167 255 228 (dk_at dksX2_undo_2 18 rfl rfl)
theorem dX2_undo_68 : decode cX2_undo 68 = .ok (.iconst 0, 1) := dk_3 (dk_at dksX2_undo_2 21 rfl rfl)
theorem dX2_undo_69 : decode cX2_undo 69 = .ok (.istore_n 2, 1) := dk_61 (dk_at dksX2_undo_2 22 rfl rfl)
theorem dX2_undo_70 : decode cX2_undo 70 = .ok (.iload_n 2, 1) := dk_28 (dk_at dksX2_undo_2 23 rfl rfl)
theorem dX2_undo_71 : decode cX2_undo 71 = .ok (.aload_n 0, 1) := dk_42 (dk_at dksX2_undo_3 0 rfl rfl)
theorem dX2_undo_72 : decode cX2_undo 72 = .ok (.getfield 7, 3) := dk_180 0 7 (dk_at dksX2_undo_3 1 rfl rfl)
theorem dX2_undo_75 : decode cX2_undo 75 = .ok (.iconst 0, 1) := dk_3 (dk_at dksX2_undo_3 4 rfl rfl)
theorem dX2_undo_76 : decode cX2_undo 76 = .ok (.iaload, 1) := dk_46 (dk_at dksX2_undo_3 5 rfl rfl)
theorem dX2_undo_77 : decode cX2_undo 77 = .ok (.if_icmp .ge 59, 3) := dk_162 0 59 (dk_at dksX2_undo_3 6 rfl rfl)
theorem dX2_undo_80 : decode cX2_undo 80 = .ok (.iconst 0, 1) := dk_3 (dk_at dksX2_undo_3 9 rfl rfl)
theorem dX2_undo_81 : decode cX2_undo 81 = .ok (.istore_n 3, 1) := dk_62 (dk_at dksX2_undo_3 10 rfl rfl)
theorem dX2_undo_82 : decode cX2_undo 82 = .ok (.iload_n 3, 1) := dk_29 (dk_at dksX2_undo_3 11 rfl rfl)
theorem dX2_undo_83 : decode cX2_undo 83 = .ok (.iconst 3, 1) := dk_6 (dk_at dksX2_undo_3 12 rfl rfl)
theorem dX2_undo_84 : decode cX2_undo 84 = .ok (.if_icmp .ge 46, 3) := dk_162 0 46 (dk_at dksX2_undo_3 13 rfl rfl)
theorem dX2_undo_87 : decode cX2_undo 87 = .ok (.aload_n 0, 1) := dk_42 (dk_at dksX2_undo_3 16 rfl rfl)
theorem dX2_undo_88 : decode cX2_undo 88 = .ok (.iload_n 2, 1) := dk_28 (dk_at dksX2_undo_3 17 rfl rfl)
theorem dX2_undo_89 : decode cX2_undo 89 = .ok (.iconst 4, 1) := dk_7 (dk_at dksX2_undo_3 18 rfl rfl)
theorem dX2_undo_90 : decode cX2_undo 90 = .ok (.iload_n 3, 1) := dk_29 (dk_at dksX2_undo_3 19 rfl rfl)
theorem dX2_undo_91 : decode cX2_undo 91 = .ok (.iadd, 1) := dk_96 (dk_at dksX2_undo_3 20 rfl rfl)
theorem dX2_undo_92 : decode cX2_undo 92 = .ok (.iload_n 2, 1) := dk_28 (dk_at dksX2_undo_3 21 rfl rfl)
theorem dX2_undo_93 : decode cX2_undo 93 = .ok (.aload_n 0, 1) := dk_42 (dk_at dksX2_undo_3 22 rfl rfl)
theorem dX2_undo_94 : decode cX2_undo 94 = .ok (.getfield 7, 3) := dk_180 0 7 (dk_at dksX2_undo_4 0 rfl rfl)
theorem dX2_undo_97 : decode cX2_undo 97 = .ok (.iload_n 1, 1) := dk_27 (dk_at dksX2_undo_4 3 rfl rfl)
theorem dX2_undo_98 : decode cX2_undo 98 = .ok (.iaload, 1) := dk_46 (dk_at dksX2_undo_4 4 rfl rfl)
theorem dX2_undo_99 : decode cX2_undo 99 = .ok (.if_icmp .ge 21, 3) := dk_162 0 21 (dk_at dksX2_undo_4 5 rfl rfl)
theorem dX2_undo_102 : decode cX2_undo 102 = .ok (.aload_n 0, 1) := dk_42 (dk_at dksX2_undo_4 8 rfl rfl)
theorem dX2_undo_103 : decode cX2_undo 103 = .ok (.getfield 7, 3) := dk_180 0 7 (dk_at dksX2_undo_4 9 rfl rfl)
theorem dX2_undo_106 : decode cX2_undo 106 = .ok (.iload_n 1, 1) := dk_27 (dk_at dksX2_undo_4 12 rfl rfl)
theorem dX2_undo_107 : decode cX2_undo 107 = .ok (.bipush 11, 2) := dk_16 11 (dk_at dksX2_undo_4 13 rfl rfl)
theorem dX2_undo_109 : decode cX2_undo 109 = .ok (.iadd, 1) := dk_96 (dk_at dksX2_undo_4 15 rfl rfl)
theorem dX2_undo_110 : decode cX2_undo 110 = .ok (.iconst 3, 1) := dk_6 (dk_at dksX2_undo_4 16 rfl rfl)
theorem dX2_undo_111 : decode cX2_undo 111 = .ok (.iload_n 2, 1) := dk_28 (dk_at dksX2_undo_4 17 rfl rfl)
theorem dX2_undo_112 : decode cX2_undo 112 = .ok (.imul, 1) := dk_104 (dk_at dksX2_undo_4 18 rfl rfl)
theorem dX2_undo_113 : decode cX2_undo 113 = .ok (.iadd, 1) := dk_96 (dk_at dksX2_undo_4 19 rfl rfl)
theorem dX2_undo_114 : decode cX2_undo 114 = .ok (.iload_n 3, 1) := dk_29 (dk_at dksX2_undo_4 20 rfl rfl)
theorem dX2_undo_115 : decode cX2_undo 115 = .ok (.iadd, 1) := dk_96 (dk_at dksX2_undo_4 21 rfl rfl)
theorem dX2_undo_116 : decode cX2_undo 116 = .ok (.iaload, 1) := dk_46 (dk_at dksX2_undo_4 22 rfl rfl)
theorem dX2_undo_117 : decode cX2_undo 117 = .ok (.goto 4, 3) := dk_167 0 4 (dk_at dksX2_undo_5 0 rfl rfl)
theorem dX2_undo_120 : decode cX2_undo 120 = .ok (.iconst 0, 1) := dk_3 (dk_at dksX2_undo_5 3 rfl rfl)
theorem dX2_undo_121 : decode cX2_undo 121 = .ok (.invokevirtual 86, 3) := dk_182 0 86 (dk_at dksX2_undo_5 4 rfl rfl)
theorem dX2_undo_124 : decode cX2_undo 124 = .ok (.iinc 3 1, 3) := dk_132 3 1 (dk_at dksX2_undo_5 7 rfl rfl)
theorem dX2_undo_127 : decode cX2_undo 127 = .ok (.goto (-45), 3) := dk_167 255 211 (dk_at dksX2_undo_5 10 rfl rfl)
theorem dX2_undo_130 : decode cX2_undo 130 = .ok (.iinc 2 1, 3) := dk_132 2 1 (dk_at dksX2_undo_5 13 rfl rfl)
theorem dX2_undo_133 : decode cX2_undo 133 = .ok (.goto (-63), 3) := dk_167 255 193 (dk_at dksX2_undo_5 16 rfl rfl)
theorem dX2_undo_136 : decode cX2_undo 136 = .ok (.aload_n 0, 1) := dk_42 (dk_at dksX2_undo_5 19 rfl rfl)
theorem dX2_undo_137 : decode cX2_undo 137 = .ok (.getfield 7, 3) := dk_180 0 7 (dk_at dksX2_undo_5 20 rfl rfl)
theorem dX2_undo_140 : decode cX2_undo 140 = .ok (.iconst 3, 1) := dk_6 (dk_at dksX2_undo_5 23 rfl rfl)
theorem dX2_undo_141 : decode cX2_undo 141 = .ok (.iaload, 1) := dk_46 (dk_at dksX2_undo_6 0 rfl rfl)
theorem dX2_undo_142 : decode cX2_undo 142 = .ok (.ireturn, 1) := dk_172 (dk_at dksX2_undo_6 1 rfl rfl)
abbrev cX2_call : ByteArray := prog_20_method_85_code
def yX2_call : MethodName := ⟨RX2, "call", "(I)Z"⟩
def dkwX2_call_0 : List UInt8 := [42, 27, 182, 1, 124, 154, 0, 5, 3, 172, 42, 182, 1, 127, 42, 27, 182, 1, 130, 4, 172]
abbrev dktX2_call_0 : List UInt8 := dkwX2_call_0 ++ []
theorem dksX2_call_0 : cX2_call.data.toList.drop 0 = dktX2_call_0 := by decide +kernel
theorem dX2_call_0 : decode cX2_call 0 = .ok (.aload_n 0, 1) := dk_42 (dk_at dksX2_call_0 0 rfl rfl)
theorem dX2_call_1 : decode cX2_call 1 = .ok (.iload_n 1, 1) := dk_27 (dk_at dksX2_call_0 1 rfl rfl)
theorem dX2_call_2 : decode cX2_call 2 = .ok (.invokevirtual 380, 3) := dk_182 1 124 (dk_at dksX2_call_0 2 rfl rfl)
theorem dX2_call_5 : decode cX2_call 5 = .ok (.ifCond .ne 5, 3) := dk_154 0 5 (dk_at dksX2_call_0 5 rfl rfl)
theorem dX2_call_8 : decode cX2_call 8 = .ok (.iconst 0, 1) := dk_3 (dk_at dksX2_call_0 8 rfl rfl)
theorem dX2_call_9 : decode cX2_call 9 = .ok (.ireturn, 1) := dk_172 (dk_at dksX2_call_0 9 rfl rfl)
theorem dX2_call_10 : decode cX2_call 10 = .ok (.aload_n 0, 1) := dk_42 (dk_at dksX2_call_0 10 rfl rfl)
theorem dX2_call_11 : decode cX2_call 11 = .ok (.invokevirtual 383, 3) := dk_182 1 127 (dk_at dksX2_call_0 11 rfl rfl)
theorem dX2_call_14 : decode cX2_call 14 = .ok (.aload_n 0, 1) := dk_42 (dk_at dksX2_call_0 14 rfl rfl)
theorem dX2_call_15 : decode cX2_call 15 = .ok (.iload_n 1, 1) := dk_27 (dk_at dksX2_call_0 15 rfl rfl)
theorem dX2_call_16 : decode cX2_call 16 = .ok (.invokevirtual 386, 3) := dk_182 1 130 (dk_at dksX2_call_0 16 rfl rfl)
theorem dX2_call_19 : decode cX2_call 19 = .ok (.iconst 1, 1) := dk_4 (dk_at dksX2_call_0 19 rfl rfl)
theorem dX2_call_20 : decode cX2_call 20 = .ok (.ireturn, 1) := dk_172 (dk_at dksX2_call_0 20 rfl rfl)
abbrev cX2_canCall : ByteArray := prog_20_method_83_code
def yX2_canCall : MethodName := ⟨RX2, "canCall", "(I)Z"⟩
def dkwX2_canCall_1 : List UInt8 := [172]
abbrev dktX2_canCall_1 : List UInt8 := dkwX2_canCall_1 ++ []
def dkwX2_canCall_0 : List UInt8 := [42, 27, 182, 1, 121, 153, 0, 18, 42, 180, 0, 7, 16, 13, 46, 2, 160, 0, 7, 4, 167, 0, 4, 3]
abbrev dktX2_canCall_0 : List UInt8 := dkwX2_canCall_0 ++ dktX2_canCall_1
theorem dksX2_canCall_0 : cX2_canCall.data.toList.drop 0 = dktX2_canCall_0 := by decide +kernel
theorem dksX2_canCall_1 : cX2_canCall.data.toList.drop 24 = dktX2_canCall_1 := dk_seg dksX2_canCall_0 24 rfl rfl
theorem dX2_canCall_0 : decode cX2_canCall 0 = .ok (.aload_n 0, 1) := dk_42 (dk_at dksX2_canCall_0 0 rfl rfl)
theorem dX2_canCall_1 : decode cX2_canCall 1 = .ok (.iload_n 1, 1) := dk_27 (dk_at dksX2_canCall_0 1 rfl rfl)
theorem dX2_canCall_2 : decode cX2_canCall 2 = .ok (.invokevirtual 377, 3) := dk_182 1 121 (dk_at dksX2_canCall_0 2 rfl rfl)
theorem dX2_canCall_5 : decode cX2_canCall 5 = .ok (.ifCond .eq 18, 3) := dk_153 0 18 (dk_at dksX2_canCall_0 5 rfl rfl)
theorem dX2_canCall_8 : decode cX2_canCall 8 = .ok (.aload_n 0, 1) := dk_42 (dk_at dksX2_canCall_0 8 rfl rfl)
theorem dX2_canCall_9 : decode cX2_canCall 9 = .ok (.getfield 7, 3) := dk_180 0 7 (dk_at dksX2_canCall_0 9 rfl rfl)
theorem dX2_canCall_12 : decode cX2_canCall 12 = .ok (.bipush 13, 2) := dk_16 13 (dk_at dksX2_canCall_0 12 rfl rfl)
theorem dX2_canCall_14 : decode cX2_canCall 14 = .ok (.iaload, 1) := dk_46 (dk_at dksX2_canCall_0 14 rfl rfl)
theorem dX2_canCall_15 : decode cX2_canCall 15 = .ok (.iconst (-1), 1) := dk_2 (dk_at dksX2_canCall_0 15 rfl rfl)
theorem dX2_canCall_16 : decode cX2_canCall 16 = .ok (.if_icmp .ne 7, 3) := dk_160 0 7 (dk_at dksX2_canCall_0 16 rfl rfl)
theorem dX2_canCall_19 : decode cX2_canCall 19 = .ok (.iconst 1, 1) := dk_4 (dk_at dksX2_canCall_0 19 rfl rfl)
theorem dX2_canCall_20 : decode cX2_canCall 20 = .ok (.goto 4, 3) := dk_167 0 4 (dk_at dksX2_canCall_0 20 rfl rfl)
theorem dX2_canCall_23 : decode cX2_canCall 23 = .ok (.iconst 0, 1) := dk_3 (dk_at dksX2_canCall_0 23 rfl rfl)
theorem dX2_canCall_24 : decode cX2_canCall 24 = .ok (.ireturn, 1) := dk_172 (dk_at dksX2_canCall_1 0 rfl rfl)
abbrev cX2_isWaiting : ByteArray := prog_20_method_10_code
def yX2_isWaiting : MethodName := ⟨RX2, "isWaiting", "(I)Z"⟩
def dkwX2_isWaiting_0 : List UInt8 := [42, 27, 182, 0, 78, 153, 0, 16, 42, 27, 7, 182, 0, 82, 154, 0, 7, 4, 167, 0, 4, 3, 172]
abbrev dktX2_isWaiting_0 : List UInt8 := dkwX2_isWaiting_0 ++ []
theorem dksX2_isWaiting_0 : cX2_isWaiting.data.toList.drop 0 = dktX2_isWaiting_0 := by decide +kernel
theorem dX2_isWaiting_0 : decode cX2_isWaiting 0 = .ok (.aload_n 0, 1) := dk_42 (dk_at dksX2_isWaiting_0 0 rfl rfl)
theorem dX2_isWaiting_1 : decode cX2_isWaiting 1 = .ok (.iload_n 1, 1) := dk_27 (dk_at dksX2_isWaiting_0 1 rfl rfl)
theorem dX2_isWaiting_2 : decode cX2_isWaiting 2 = .ok (.invokevirtual 78, 3) := dk_182 0 78 (dk_at dksX2_isWaiting_0 2 rfl rfl)
theorem dX2_isWaiting_5 : decode cX2_isWaiting 5 = .ok (.ifCond .eq 16, 3) := dk_153 0 16 (dk_at dksX2_isWaiting_0 5 rfl rfl)
theorem dX2_isWaiting_8 : decode cX2_isWaiting 8 = .ok (.aload_n 0, 1) := dk_42 (dk_at dksX2_isWaiting_0 8 rfl rfl)
theorem dX2_isWaiting_9 : decode cX2_isWaiting 9 = .ok (.iload_n 1, 1) := dk_27 (dk_at dksX2_isWaiting_0 9 rfl rfl)
theorem dX2_isWaiting_10 : decode cX2_isWaiting 10 = .ok (.iconst 4, 1) := dk_7 (dk_at dksX2_isWaiting_0 10 rfl rfl)
theorem dX2_isWaiting_11 : decode cX2_isWaiting 11 = .ok (.invokevirtual 82, 3) := dk_182 0 82 (dk_at dksX2_isWaiting_0 11 rfl rfl)
theorem dX2_isWaiting_14 : decode cX2_isWaiting 14 = .ok (.ifCond .ne 7, 3) := dk_154 0 7 (dk_at dksX2_isWaiting_0 14 rfl rfl)
theorem dX2_isWaiting_17 : decode cX2_isWaiting 17 = .ok (.iconst 1, 1) := dk_4 (dk_at dksX2_isWaiting_0 17 rfl rfl)
theorem dX2_isWaiting_18 : decode cX2_isWaiting 18 = .ok (.goto 4, 3) := dk_167 0 4 (dk_at dksX2_isWaiting_0 18 rfl rfl)
theorem dX2_isWaiting_21 : decode cX2_isWaiting 21 = .ok (.iconst 0, 1) := dk_3 (dk_at dksX2_isWaiting_0 21 rfl rfl)
theorem dX2_isWaiting_22 : decode cX2_isWaiting 22 = .ok (.ireturn, 1) := dk_172 (dk_at dksX2_isWaiting_0 22 rfl rfl)
abbrev cX2_isCase : ByteArray := prog_20_method_7_code
def yX2_isCase : MethodName := ⟨RX2, "isCase", "(I)Z"⟩
def dkwX2_isCase_0 : List UInt8 := [27, 3, 42, 180, 0, 7, 3, 46, 4, 100, 184, 0, 74, 172]
abbrev dktX2_isCase_0 : List UInt8 := dkwX2_isCase_0 ++ []
theorem dksX2_isCase_0 : cX2_isCase.data.toList.drop 0 = dktX2_isCase_0 := by decide +kernel
theorem dX2_isCase_0 : decode cX2_isCase 0 = .ok (.iload_n 1, 1) := dk_27 (dk_at dksX2_isCase_0 0 rfl rfl)
theorem dX2_isCase_1 : decode cX2_isCase 1 = .ok (.iconst 0, 1) := dk_3 (dk_at dksX2_isCase_0 1 rfl rfl)
theorem dX2_isCase_2 : decode cX2_isCase 2 = .ok (.aload_n 0, 1) := dk_42 (dk_at dksX2_isCase_0 2 rfl rfl)
theorem dX2_isCase_3 : decode cX2_isCase 3 = .ok (.getfield 7, 3) := dk_180 0 7 (dk_at dksX2_isCase_0 3 rfl rfl)
theorem dX2_isCase_6 : decode cX2_isCase 6 = .ok (.iconst 0, 1) := dk_3 (dk_at dksX2_isCase_0 6 rfl rfl)
theorem dX2_isCase_7 : decode cX2_isCase 7 = .ok (.iaload, 1) := dk_46 (dk_at dksX2_isCase_0 7 rfl rfl)
theorem dX2_isCase_8 : decode cX2_isCase 8 = .ok (.iconst 1, 1) := dk_4 (dk_at dksX2_isCase_0 8 rfl rfl)
theorem dX2_isCase_9 : decode cX2_isCase 9 = .ok (.isub, 1) := dk_100 (dk_at dksX2_isCase_0 9 rfl rfl)
theorem dX2_isCase_10 : decode cX2_isCase 10 = .ok (.invokestatic 74, 3) := dk_184 0 74 (dk_at dksX2_isCase_0 10 rfl rfl)
theorem dX2_isCase_13 : decode cX2_isCase 13 = .ok (.ireturn, 1) := dk_172 (dk_at dksX2_isCase_0 13 rfl rfl)
abbrev cX2_get : ByteArray := prog_20_method_8_code
def yX2_get : MethodName := ⟨RX2, "get", "(II)I"⟩
def dkwX2_get_0 : List UInt8 := [42, 180, 0, 7, 16, 20, 16, 7, 27, 104, 96, 28, 96, 46, 172]
abbrev dktX2_get_0 : List UInt8 := dkwX2_get_0 ++ []
theorem dksX2_get_0 : cX2_get.data.toList.drop 0 = dktX2_get_0 := by decide +kernel
theorem dX2_get_0 : decode cX2_get 0 = .ok (.aload_n 0, 1) := dk_42 (dk_at dksX2_get_0 0 rfl rfl)
theorem dX2_get_1 : decode cX2_get 1 = .ok (.getfield 7, 3) := dk_180 0 7 (dk_at dksX2_get_0 1 rfl rfl)
theorem dX2_get_4 : decode cX2_get 4 = .ok (.bipush 20, 2) := dk_16 20 (dk_at dksX2_get_0 4 rfl rfl)
theorem dX2_get_6 : decode cX2_get 6 = .ok (.bipush 7, 2) := dk_16 7 (dk_at dksX2_get_0 6 rfl rfl)
theorem dX2_get_8 : decode cX2_get 8 = .ok (.iload_n 1, 1) := dk_27 (dk_at dksX2_get_0 8 rfl rfl)
theorem dX2_get_9 : decode cX2_get 9 = .ok (.imul, 1) := dk_104 (dk_at dksX2_get_0 9 rfl rfl)
theorem dX2_get_10 : decode cX2_get 10 = .ok (.iadd, 1) := dk_96 (dk_at dksX2_get_0 10 rfl rfl)
theorem dX2_get_11 : decode cX2_get 11 = .ok (.iload_n 2, 1) := dk_28 (dk_at dksX2_get_0 11 rfl rfl)
theorem dX2_get_12 : decode cX2_get 12 = .ok (.iadd, 1) := dk_96 (dk_at dksX2_get_0 12 rfl rfl)
theorem dX2_get_13 : decode cX2_get 13 = .ok (.iaload, 1) := dk_46 (dk_at dksX2_get_0 13 rfl rfl)
theorem dX2_get_14 : decode cX2_get 14 = .ok (.ireturn, 1) := dk_172 (dk_at dksX2_get_0 14 rfl rfl)
abbrev cX2_keep : ByteArray := prog_20_method_81_code
def yX2_keep : MethodName := ⟨RX2, "keep", "()V"⟩
def dkwX2_keep_7 : List UInt8 := [180, 0, 7, 6, 92, 46, 4, 96, 79, 177]
abbrev dktX2_keep_7 : List UInt8 := dkwX2_keep_7 ++ []
def dkwX2_keep_6 : List UInt8 := [29, 96, 42, 28, 7, 29, 96, 182, 0, 82, 79, 132, 3, 1, 167, 255, 225, 132, 2, 1, 167, 255, 211, 42]
abbrev dktX2_keep_6 : List UInt8 := dkwX2_keep_6 ++ dktX2_keep_7
def dkwX2_keep_5 : List UInt8 := [16, 8, 162, 0, 45, 3, 62, 29, 6, 162, 0, 32, 42, 180, 0, 7, 27, 16, 11, 96, 6, 28, 104, 96]
abbrev dktX2_keep_5 : List UInt8 := dkwX2_keep_5 ++ dktX2_keep_6
def dkwX2_keep_4 : List UInt8 := [4, 96, 28, 96, 42, 180, 0, 7, 16, 8, 28, 96, 46, 79, 132, 2, 1, 167, 255, 228, 3, 61, 28]
abbrev dktX2_keep_4 : List UInt8 := dkwX2_keep_4 ++ dktX2_keep_5
def dkwX2_keep_3 : List UInt8 := [180, 0, 7, 27, 42, 180, 0, 7, 3, 46, 79, 3, 61, 28, 16, 10, 162, 0, 28, 42, 180, 0, 7, 27]
abbrev dktX2_keep_3 : List UInt8 := dkwX2_keep_3 ++ dktX2_keep_4
def dkwX2_keep_2 : List UInt8 := [180, 0, 7, 6, 92, 46, 4, 100, 79, 17, 0, 132, 16, 35, 42, 180, 0, 7, 6, 46, 104, 96, 60, 42]
abbrev dktX2_keep_2 : List UInt8 := dkwX2_keep_2 ++ dktX2_keep_3
def dkwX2_keep_1 : List UInt8 := [17, 0, 132, 27, 96, 42, 180, 0, 7, 17, 0, 167, 27, 96, 46, 79, 132, 1, 1, 167, 255, 226, 42]
abbrev dktX2_keep_1 : List UInt8 := dkwX2_keep_1 ++ dktX2_keep_2
def dkwX2_keep_0 : List UInt8 := [42, 180, 0, 7, 6, 46, 16, 30, 160, 0, 48, 3, 60, 27, 17, 3, 247, 162, 0, 29, 42, 180, 0, 7]
abbrev dktX2_keep_0 : List UInt8 := dkwX2_keep_0 ++ dktX2_keep_1
theorem dksX2_keep_0 : cX2_keep.data.toList.drop 0 = dktX2_keep_0 := by decide +kernel
theorem dksX2_keep_1 : cX2_keep.data.toList.drop 24 = dktX2_keep_1 := dk_seg dksX2_keep_0 24 rfl rfl
theorem dksX2_keep_2 : cX2_keep.data.toList.drop 47 = dktX2_keep_2 := dk_seg dksX2_keep_1 23 rfl rfl
theorem dksX2_keep_3 : cX2_keep.data.toList.drop 71 = dktX2_keep_3 := dk_seg dksX2_keep_2 24 rfl rfl
theorem dksX2_keep_4 : cX2_keep.data.toList.drop 95 = dktX2_keep_4 := dk_seg dksX2_keep_3 24 rfl rfl
theorem dksX2_keep_5 : cX2_keep.data.toList.drop 118 = dktX2_keep_5 := dk_seg dksX2_keep_4 23 rfl rfl
theorem dksX2_keep_6 : cX2_keep.data.toList.drop 142 = dktX2_keep_6 := dk_seg dksX2_keep_5 24 rfl rfl
theorem dksX2_keep_7 : cX2_keep.data.toList.drop 166 = dktX2_keep_7 := dk_seg dksX2_keep_6 24 rfl rfl
theorem dX2_keep_0 : decode cX2_keep 0 = .ok (.aload_n 0, 1) := dk_42 (dk_at dksX2_keep_0 0 rfl rfl)
theorem dX2_keep_1 : decode cX2_keep 1 = .ok (.getfield 7, 3) := dk_180 0 7 (dk_at dksX2_keep_0 1 rfl rfl)
theorem dX2_keep_4 : decode cX2_keep 4 = .ok (.iconst 3, 1) := dk_6 (dk_at dksX2_keep_0 4 rfl rfl)
theorem dX2_keep_5 : decode cX2_keep 5 = .ok (.iaload, 1) := dk_46 (dk_at dksX2_keep_0 5 rfl rfl)
theorem dX2_keep_6 : decode cX2_keep 6 = .ok (.bipush 30, 2) := dk_16 30 (dk_at dksX2_keep_0 6 rfl rfl)
theorem dX2_keep_8 : decode cX2_keep 8 = .ok (.if_icmp .ne 48, 3) := dk_160 0 48 (dk_at dksX2_keep_0 8 rfl rfl)
theorem dX2_keep_11 : decode cX2_keep 11 = .ok (.iconst 0, 1) := dk_3 (dk_at dksX2_keep_0 11 rfl rfl)
theorem dX2_keep_12 : decode cX2_keep 12 = .ok (.istore_n 1, 1) := dk_60 (dk_at dksX2_keep_0 12 rfl rfl)
theorem dX2_keep_13 : decode cX2_keep 13 = .ok (.iload_n 1, 1) := dk_27 (dk_at dksX2_keep_0 13 rfl rfl)
theorem dX2_keep_14 : decode cX2_keep 14 = .ok (.sipush 1015, 3) := dk_17 3 247 (dk_at dksX2_keep_0 14 rfl rfl)
theorem dX2_keep_17 : decode cX2_keep 17 = .ok (.if_icmp .ge 29, 3) := dk_162 0 29 (dk_at dksX2_keep_0 17 rfl rfl)
theorem dX2_keep_20 : decode cX2_keep 20 = .ok (.aload_n 0, 1) := dk_42 (dk_at dksX2_keep_0 20 rfl rfl)
theorem dX2_keep_21 : decode cX2_keep 21 = .ok (.getfield 7, 3) := dk_180 0 7 (dk_at dksX2_keep_0 21 rfl rfl)
theorem dX2_keep_24 : decode cX2_keep 24 = .ok (.sipush 132, 3) := dk_17 0 132 (dk_at dksX2_keep_1 0 rfl rfl)
theorem dX2_keep_27 : decode cX2_keep 27 = .ok (.iload_n 1, 1) := dk_27 (dk_at dksX2_keep_1 3 rfl rfl)
theorem dX2_keep_28 : decode cX2_keep 28 = .ok (.iadd, 1) := dk_96 (dk_at dksX2_keep_1 4 rfl rfl)
theorem dX2_keep_29 : decode cX2_keep 29 = .ok (.aload_n 0, 1) := dk_42 (dk_at dksX2_keep_1 5 rfl rfl)
theorem dX2_keep_30 : decode cX2_keep 30 = .ok (.getfield 7, 3) := dk_180 0 7 (dk_at dksX2_keep_1 6 rfl rfl)
theorem dX2_keep_33 : decode cX2_keep 33 = .ok (.sipush 167, 3) := dk_17 0 167 (dk_at dksX2_keep_1 9 rfl rfl)
theorem dX2_keep_36 : decode cX2_keep 36 = .ok (.iload_n 1, 1) := dk_27 (dk_at dksX2_keep_1 12 rfl rfl)
theorem dX2_keep_37 : decode cX2_keep 37 = .ok (.iadd, 1) := dk_96 (dk_at dksX2_keep_1 13 rfl rfl)
theorem dX2_keep_38 : decode cX2_keep 38 = .ok (.iaload, 1) := dk_46 (dk_at dksX2_keep_1 14 rfl rfl)
theorem dX2_keep_39 : decode cX2_keep 39 = .ok (.iastore, 1) := dk_79 (dk_at dksX2_keep_1 15 rfl rfl)
theorem dX2_keep_40 : decode cX2_keep 40 = .ok (.iinc 1 1, 3) := dk_132 1 1 (dk_at dksX2_keep_1 16 rfl rfl)
theorem dX2_keep_43 : decode cX2_keep 43 = .ok (.goto (-30), 3) := dk_167 255 226 (dk_at dksX2_keep_1 19 rfl rfl)
theorem dX2_keep_46 : decode cX2_keep 46 = .ok (.aload_n 0, 1) := dk_42 (dk_at dksX2_keep_1 22 rfl rfl)
theorem dX2_keep_47 : decode cX2_keep 47 = .ok (.getfield 7, 3) := dk_180 0 7 (dk_at dksX2_keep_2 0 rfl rfl)
theorem dX2_keep_50 : decode cX2_keep 50 = .ok (.iconst 3, 1) := dk_6 (dk_at dksX2_keep_2 3 rfl rfl)
theorem dX2_keep_51 : decode cX2_keep 51 = .ok (.dup2, 1) := dk_92 (dk_at dksX2_keep_2 4 rfl rfl)
theorem dX2_keep_52 : decode cX2_keep 52 = .ok (.iaload, 1) := dk_46 (dk_at dksX2_keep_2 5 rfl rfl)
theorem dX2_keep_53 : decode cX2_keep 53 = .ok (.iconst 1, 1) := dk_4 (dk_at dksX2_keep_2 6 rfl rfl)
theorem dX2_keep_54 : decode cX2_keep 54 = .ok (.isub, 1) := dk_100 (dk_at dksX2_keep_2 7 rfl rfl)
theorem dX2_keep_55 : decode cX2_keep 55 = .ok (.iastore, 1) := dk_79 (dk_at dksX2_keep_2 8 rfl rfl)
theorem dX2_keep_56 : decode cX2_keep 56 = .ok (.sipush 132, 3) := dk_17 0 132 (dk_at dksX2_keep_2 9 rfl rfl)
theorem dX2_keep_59 : decode cX2_keep 59 = .ok (.bipush 35, 2) := dk_16 35 (dk_at dksX2_keep_2 12 rfl rfl)
theorem dX2_keep_61 : decode cX2_keep 61 = .ok (.aload_n 0, 1) := dk_42 (dk_at dksX2_keep_2 14 rfl rfl)
theorem dX2_keep_62 : decode cX2_keep 62 = .ok (.getfield 7, 3) := dk_180 0 7 (dk_at dksX2_keep_2 15 rfl rfl)
theorem dX2_keep_65 : decode cX2_keep 65 = .ok (.iconst 3, 1) := dk_6 (dk_at dksX2_keep_2 18 rfl rfl)
theorem dX2_keep_66 : decode cX2_keep 66 = .ok (.iaload, 1) := dk_46 (dk_at dksX2_keep_2 19 rfl rfl)
theorem dX2_keep_67 : decode cX2_keep 67 = .ok (.imul, 1) := dk_104 (dk_at dksX2_keep_2 20 rfl rfl)
theorem dX2_keep_68 : decode cX2_keep 68 = .ok (.iadd, 1) := dk_96 (dk_at dksX2_keep_2 21 rfl rfl)
theorem dX2_keep_69 : decode cX2_keep 69 = .ok (.istore_n 1, 1) := dk_60 (dk_at dksX2_keep_2 22 rfl rfl)
theorem dX2_keep_70 : decode cX2_keep 70 = .ok (.aload_n 0, 1) := dk_42 (dk_at dksX2_keep_2 23 rfl rfl)
theorem dX2_keep_71 : decode cX2_keep 71 = .ok (.getfield 7, 3) := dk_180 0 7 (dk_at dksX2_keep_3 0 rfl rfl)
theorem dX2_keep_74 : decode cX2_keep 74 = .ok (.iload_n 1, 1) := dk_27 (dk_at dksX2_keep_3 3 rfl rfl)
theorem dX2_keep_75 : decode cX2_keep 75 = .ok (.aload_n 0, 1) := dk_42 (dk_at dksX2_keep_3 4 rfl rfl)
theorem dX2_keep_76 : decode cX2_keep 76 = .ok (.getfield 7, 3) := dk_180 0 7 (dk_at dksX2_keep_3 5 rfl rfl)
theorem dX2_keep_79 : decode cX2_keep 79 = .ok (.iconst 0, 1) := dk_3 (dk_at dksX2_keep_3 8 rfl rfl)
theorem dX2_keep_80 : decode cX2_keep 80 = .ok (.iaload, 1) := dk_46 (dk_at dksX2_keep_3 9 rfl rfl)
theorem dX2_keep_81 : decode cX2_keep 81 = .ok (.iastore, 1) := dk_79 (dk_at dksX2_keep_3 10 rfl rfl)
theorem dX2_keep_82 : decode cX2_keep 82 = .ok (.iconst 0, 1) := dk_3 (dk_at dksX2_keep_3 11 rfl rfl)
theorem dX2_keep_83 : decode cX2_keep 83 = .ok (.istore_n 2, 1) := dk_61 (dk_at dksX2_keep_3 12 rfl rfl)
theorem dX2_keep_84 : decode cX2_keep 84 = .ok (.iload_n 2, 1) := dk_28 (dk_at dksX2_keep_3 13 rfl rfl)
theorem dX2_keep_85 : decode cX2_keep 85 = .ok (.bipush 10, 2) := dk_16 10 (dk_at dksX2_keep_3 14 rfl rfl)
theorem dX2_keep_87 : decode cX2_keep 87 = .ok (.if_icmp .ge 28, 3) := dk_162 0 28 (dk_at dksX2_keep_3 16 rfl rfl)
theorem dX2_keep_90 : decode cX2_keep 90 = .ok (.aload_n 0, 1) := dk_42 (dk_at dksX2_keep_3 19 rfl rfl)
theorem dX2_keep_91 : decode cX2_keep 91 = .ok (.getfield 7, 3) := dk_180 0 7 (dk_at dksX2_keep_3 20 rfl rfl)
theorem dX2_keep_94 : decode cX2_keep 94 = .ok (.iload_n 1, 1) := dk_27 (dk_at dksX2_keep_3 23 rfl rfl)
theorem dX2_keep_95 : decode cX2_keep 95 = .ok (.iconst 1, 1) := dk_4 (dk_at dksX2_keep_4 0 rfl rfl)
theorem dX2_keep_96 : decode cX2_keep 96 = .ok (.iadd, 1) := dk_96 (dk_at dksX2_keep_4 1 rfl rfl)
theorem dX2_keep_97 : decode cX2_keep 97 = .ok (.iload_n 2, 1) := dk_28 (dk_at dksX2_keep_4 2 rfl rfl)
theorem dX2_keep_98 : decode cX2_keep 98 = .ok (.iadd, 1) := dk_96 (dk_at dksX2_keep_4 3 rfl rfl)
theorem dX2_keep_99 : decode cX2_keep 99 = .ok (.aload_n 0, 1) := dk_42 (dk_at dksX2_keep_4 4 rfl rfl)
theorem dX2_keep_100 : decode cX2_keep 100 = .ok (.getfield 7, 3) := dk_180 0 7 (dk_at dksX2_keep_4 5 rfl rfl)
theorem dX2_keep_103 : decode cX2_keep 103 = .ok (.bipush 8, 2) := dk_16 8 (dk_at dksX2_keep_4 8 rfl rfl)
theorem dX2_keep_105 : decode cX2_keep 105 = .ok (.iload_n 2, 1) := dk_28 (dk_at dksX2_keep_4 10 rfl rfl)
theorem dX2_keep_106 : decode cX2_keep 106 = .ok (.iadd, 1) := dk_96 (dk_at dksX2_keep_4 11 rfl rfl)
theorem dX2_keep_107 : decode cX2_keep 107 = .ok (.iaload, 1) := dk_46 (dk_at dksX2_keep_4 12 rfl rfl)
theorem dX2_keep_108 : decode cX2_keep 108 = .ok (.iastore, 1) := dk_79 (dk_at dksX2_keep_4 13 rfl rfl)
theorem dX2_keep_109 : decode cX2_keep 109 = .ok (.iinc 2 1, 3) := dk_132 2 1 (dk_at dksX2_keep_4 14 rfl rfl)
theorem dX2_keep_112 : decode cX2_keep 112 = .ok (.goto (-28), 3) := dk_167 255 228 (dk_at dksX2_keep_4 17 rfl rfl)
theorem dX2_keep_115 : decode cX2_keep 115 = .ok (.iconst 0, 1) := dk_3 (dk_at dksX2_keep_4 20 rfl rfl)
theorem dX2_keep_116 : decode cX2_keep 116 = .ok (.istore_n 2, 1) := dk_61 (dk_at dksX2_keep_4 21 rfl rfl)
theorem dX2_keep_117 : decode cX2_keep 117 = .ok (.iload_n 2, 1) := dk_28 (dk_at dksX2_keep_4 22 rfl rfl)
theorem dX2_keep_118 : decode cX2_keep 118 = .ok (.bipush 8, 2) := dk_16 8 (dk_at dksX2_keep_5 0 rfl rfl)
theorem dX2_keep_120 : decode cX2_keep 120 = .ok (.if_icmp .ge 45, 3) := dk_162 0 45 (dk_at dksX2_keep_5 2 rfl rfl)
theorem dX2_keep_123 : decode cX2_keep 123 = .ok (.iconst 0, 1) := dk_3 (dk_at dksX2_keep_5 5 rfl rfl)
theorem dX2_keep_124 : decode cX2_keep 124 = .ok (.istore_n 3, 1) := dk_62 (dk_at dksX2_keep_5 6 rfl rfl)
theorem dX2_keep_125 : decode cX2_keep 125 = .ok (.iload_n 3, 1) := dk_29 (dk_at dksX2_keep_5 7 rfl rfl)
theorem dX2_keep_126 : decode cX2_keep 126 = .ok (.iconst 3, 1) := dk_6 (dk_at dksX2_keep_5 8 rfl rfl)
theorem dX2_keep_127 : decode cX2_keep 127 = .ok (.if_icmp .ge 32, 3) := dk_162 0 32 (dk_at dksX2_keep_5 9 rfl rfl)
theorem dX2_keep_130 : decode cX2_keep 130 = .ok (.aload_n 0, 1) := dk_42 (dk_at dksX2_keep_5 12 rfl rfl)
theorem dX2_keep_131 : decode cX2_keep 131 = .ok (.getfield 7, 3) := dk_180 0 7 (dk_at dksX2_keep_5 13 rfl rfl)
theorem dX2_keep_134 : decode cX2_keep 134 = .ok (.iload_n 1, 1) := dk_27 (dk_at dksX2_keep_5 16 rfl rfl)
theorem dX2_keep_135 : decode cX2_keep 135 = .ok (.bipush 11, 2) := dk_16 11 (dk_at dksX2_keep_5 17 rfl rfl)
theorem dX2_keep_137 : decode cX2_keep 137 = .ok (.iadd, 1) := dk_96 (dk_at dksX2_keep_5 19 rfl rfl)
theorem dX2_keep_138 : decode cX2_keep 138 = .ok (.iconst 3, 1) := dk_6 (dk_at dksX2_keep_5 20 rfl rfl)
theorem dX2_keep_139 : decode cX2_keep 139 = .ok (.iload_n 2, 1) := dk_28 (dk_at dksX2_keep_5 21 rfl rfl)
theorem dX2_keep_140 : decode cX2_keep 140 = .ok (.imul, 1) := dk_104 (dk_at dksX2_keep_5 22 rfl rfl)
theorem dX2_keep_141 : decode cX2_keep 141 = .ok (.iadd, 1) := dk_96 (dk_at dksX2_keep_5 23 rfl rfl)
theorem dX2_keep_142 : decode cX2_keep 142 = .ok (.iload_n 3, 1) := dk_29 (dk_at dksX2_keep_6 0 rfl rfl)
theorem dX2_keep_143 : decode cX2_keep 143 = .ok (.iadd, 1) := dk_96 (dk_at dksX2_keep_6 1 rfl rfl)
theorem dX2_keep_144 : decode cX2_keep 144 = .ok (.aload_n 0, 1) := dk_42 (dk_at dksX2_keep_6 2 rfl rfl)
theorem dX2_keep_145 : decode cX2_keep 145 = .ok (.iload_n 2, 1) := dk_28 (dk_at dksX2_keep_6 3 rfl rfl)
theorem dX2_keep_146 : decode cX2_keep 146 = .ok (.iconst 4, 1) := dk_7 (dk_at dksX2_keep_6 4 rfl rfl)
theorem dX2_keep_147 : decode cX2_keep 147 = .ok (.iload_n 3, 1) := dk_29 (dk_at dksX2_keep_6 5 rfl rfl)
theorem dX2_keep_148 : decode cX2_keep 148 = .ok (.iadd, 1) := dk_96 (dk_at dksX2_keep_6 6 rfl rfl)
theorem dX2_keep_149 : decode cX2_keep 149 = .ok (.invokevirtual 82, 3) := dk_182 0 82 (dk_at dksX2_keep_6 7 rfl rfl)
theorem dX2_keep_152 : decode cX2_keep 152 = .ok (.iastore, 1) := dk_79 (dk_at dksX2_keep_6 10 rfl rfl)
theorem dX2_keep_153 : decode cX2_keep 153 = .ok (.iinc 3 1, 3) := dk_132 3 1 (dk_at dksX2_keep_6 11 rfl rfl)
theorem dX2_keep_156 : decode cX2_keep 156 = .ok (.goto (-31), 3) := dk_167 255 225 (dk_at dksX2_keep_6 14 rfl rfl)
theorem dX2_keep_159 : decode cX2_keep 159 = .ok (.iinc 2 1, 3) := dk_132 2 1 (dk_at dksX2_keep_6 17 rfl rfl)
theorem dX2_keep_162 : decode cX2_keep 162 = .ok (.goto (-45), 3) := dk_167 255 211 (dk_at dksX2_keep_6 20 rfl rfl)
theorem dX2_keep_165 : decode cX2_keep 165 = .ok (.aload_n 0, 1) := dk_42 (dk_at dksX2_keep_6 23 rfl rfl)
theorem dX2_keep_166 : decode cX2_keep 166 = .ok (.getfield 7, 3) := dk_180 0 7 (dk_at dksX2_keep_7 0 rfl rfl)
theorem dX2_keep_169 : decode cX2_keep 169 = .ok (.iconst 3, 1) := dk_6 (dk_at dksX2_keep_7 3 rfl rfl)
theorem dX2_keep_170 : decode cX2_keep 170 = .ok (.dup2, 1) := dk_92 (dk_at dksX2_keep_7 4 rfl rfl)
theorem dX2_keep_171 : decode cX2_keep 171 = .ok (.iaload, 1) := dk_46 (dk_at dksX2_keep_7 5 rfl rfl)
theorem dX2_keep_172 : decode cX2_keep 172 = .ok (.iconst 1, 1) := dk_4 (dk_at dksX2_keep_7 6 rfl rfl)
theorem dX2_keep_173 : decode cX2_keep 173 = .ok (.iadd, 1) := dk_96 (dk_at dksX2_keep_7 7 rfl rfl)
theorem dX2_keep_174 : decode cX2_keep 174 = .ok (.iastore, 1) := dk_79 (dk_at dksX2_keep_7 8 rfl rfl)
theorem dX2_keep_175 : decode cX2_keep 175 = .ok (.return_, 1) := dk_177 (dk_at dksX2_keep_7 9 rfl rfl)
abbrev cX2_callNow : ByteArray := prog_20_method_84_code
def yX2_callNow : MethodName := ⟨RX2, "callNow", "(I)V"⟩
def dkwX2_callNow_0 : List UInt8 := [42, 180, 0, 7, 16, 13, 27, 79, 42, 27, 7, 4, 182, 0, 86, 177]
abbrev dktX2_callNow_0 : List UInt8 := dkwX2_callNow_0 ++ []
theorem dksX2_callNow_0 : cX2_callNow.data.toList.drop 0 = dktX2_callNow_0 := by decide +kernel
theorem dX2_callNow_0 : decode cX2_callNow 0 = .ok (.aload_n 0, 1) := dk_42 (dk_at dksX2_callNow_0 0 rfl rfl)
theorem dX2_callNow_1 : decode cX2_callNow 1 = .ok (.getfield 7, 3) := dk_180 0 7 (dk_at dksX2_callNow_0 1 rfl rfl)
theorem dX2_callNow_4 : decode cX2_callNow 4 = .ok (.bipush 13, 2) := dk_16 13 (dk_at dksX2_callNow_0 4 rfl rfl)
theorem dX2_callNow_6 : decode cX2_callNow 6 = .ok (.iload_n 1, 1) := dk_27 (dk_at dksX2_callNow_0 6 rfl rfl)
theorem dX2_callNow_7 : decode cX2_callNow 7 = .ok (.iastore, 1) := dk_79 (dk_at dksX2_callNow_0 7 rfl rfl)
theorem dX2_callNow_8 : decode cX2_callNow 8 = .ok (.aload_n 0, 1) := dk_42 (dk_at dksX2_callNow_0 8 rfl rfl)
theorem dX2_callNow_9 : decode cX2_callNow 9 = .ok (.iload_n 1, 1) := dk_27 (dk_at dksX2_callNow_0 9 rfl rfl)
theorem dX2_callNow_10 : decode cX2_callNow 10 = .ok (.iconst 4, 1) := dk_7 (dk_at dksX2_callNow_0 10 rfl rfl)
theorem dX2_callNow_11 : decode cX2_callNow 11 = .ok (.iconst 1, 1) := dk_4 (dk_at dksX2_callNow_0 11 rfl rfl)
theorem dX2_callNow_12 : decode cX2_callNow 12 = .ok (.invokevirtual 86, 3) := dk_182 0 86 (dk_at dksX2_callNow_0 12 rfl rfl)
theorem dX2_callNow_15 : decode cX2_callNow 15 = .ok (.return_, 1) := dk_177 (dk_at dksX2_callNow_0 15 rfl rfl)
abbrev cX2_delay : ByteArray := prog_20_method_87_code
def yX2_delay : MethodName := ⟨RX2, "delay", "()I"⟩
def dkwX2_delay_1 : List UInt8 := [42, 180, 0, 7, 16, 16, 46, 172]
abbrev dktX2_delay_1 : List UInt8 := dkwX2_delay_1 ++ []
def dkwX2_delay_0 : List UInt8 := [42, 182, 1, 133, 154, 0, 5, 2, 172, 42, 182, 1, 127, 42, 180, 0, 7, 16, 16, 92, 46, 4, 96, 79]
abbrev dktX2_delay_0 : List UInt8 := dkwX2_delay_0 ++ dktX2_delay_1
theorem dksX2_delay_0 : cX2_delay.data.toList.drop 0 = dktX2_delay_0 := by decide +kernel
theorem dksX2_delay_1 : cX2_delay.data.toList.drop 24 = dktX2_delay_1 := dk_seg dksX2_delay_0 24 rfl rfl
theorem dX2_delay_0 : decode cX2_delay 0 = .ok (.aload_n 0, 1) := dk_42 (dk_at dksX2_delay_0 0 rfl rfl)
theorem dX2_delay_1 : decode cX2_delay 1 = .ok (.invokevirtual 389, 3) := dk_182 1 133 (dk_at dksX2_delay_0 1 rfl rfl)
theorem dX2_delay_4 : decode cX2_delay 4 = .ok (.ifCond .ne 5, 3) := dk_154 0 5 (dk_at dksX2_delay_0 4 rfl rfl)
theorem dX2_delay_7 : decode cX2_delay 7 = .ok (.iconst (-1), 1) := dk_2 (dk_at dksX2_delay_0 7 rfl rfl)
theorem dX2_delay_8 : decode cX2_delay 8 = .ok (.ireturn, 1) := dk_172 (dk_at dksX2_delay_0 8 rfl rfl)
theorem dX2_delay_9 : decode cX2_delay 9 = .ok (.aload_n 0, 1) := dk_42 (dk_at dksX2_delay_0 9 rfl rfl)
theorem dX2_delay_10 : decode cX2_delay 10 = .ok (.invokevirtual 383, 3) := dk_182 1 127 (dk_at dksX2_delay_0 10 rfl rfl)
theorem dX2_delay_13 : decode cX2_delay 13 = .ok (.aload_n 0, 1) := dk_42 (dk_at dksX2_delay_0 13 rfl rfl)
theorem dX2_delay_14 : decode cX2_delay 14 = .ok (.getfield 7, 3) := dk_180 0 7 (dk_at dksX2_delay_0 14 rfl rfl)
theorem dX2_delay_17 : decode cX2_delay 17 = .ok (.bipush 16, 2) := dk_16 16 (dk_at dksX2_delay_0 17 rfl rfl)
theorem dX2_delay_19 : decode cX2_delay 19 = .ok (.dup2, 1) := dk_92 (dk_at dksX2_delay_0 19 rfl rfl)
theorem dX2_delay_20 : decode cX2_delay 20 = .ok (.iaload, 1) := dk_46 (dk_at dksX2_delay_0 20 rfl rfl)
theorem dX2_delay_21 : decode cX2_delay 21 = .ok (.iconst 1, 1) := dk_4 (dk_at dksX2_delay_0 21 rfl rfl)
theorem dX2_delay_22 : decode cX2_delay 22 = .ok (.iadd, 1) := dk_96 (dk_at dksX2_delay_0 22 rfl rfl)
theorem dX2_delay_23 : decode cX2_delay 23 = .ok (.iastore, 1) := dk_79 (dk_at dksX2_delay_0 23 rfl rfl)
theorem dX2_delay_24 : decode cX2_delay 24 = .ok (.aload_n 0, 1) := dk_42 (dk_at dksX2_delay_1 0 rfl rfl)
theorem dX2_delay_25 : decode cX2_delay 25 = .ok (.getfield 7, 3) := dk_180 0 7 (dk_at dksX2_delay_1 1 rfl rfl)
theorem dX2_delay_28 : decode cX2_delay 28 = .ok (.bipush 16, 2) := dk_16 16 (dk_at dksX2_delay_1 4 rfl rfl)
theorem dX2_delay_30 : decode cX2_delay 30 = .ok (.iaload, 1) := dk_46 (dk_at dksX2_delay_1 6 rfl rfl)
theorem dX2_delay_31 : decode cX2_delay 31 = .ok (.ireturn, 1) := dk_172 (dk_at dksX2_delay_1 7 rfl rfl)
abbrev cX2_canDelay : ByteArray := prog_20_method_86_code
def yX2_canDelay : MethodName := ⟨RX2, "canDelay", "()Z"⟩
def dkwX2_canDelay_1 : List UInt8 := [167, 0, 4, 3, 172]
abbrev dktX2_canDelay_1 : List UInt8 := dkwX2_canDelay_1 ++ []
def dkwX2_canDelay_0 : List UInt8 := [42, 180, 0, 7, 16, 13, 46, 2, 159, 0, 18, 42, 180, 0, 7, 16, 16, 46, 6, 162, 0, 7, 4]
abbrev dktX2_canDelay_0 : List UInt8 := dkwX2_canDelay_0 ++ dktX2_canDelay_1
theorem dksX2_canDelay_0 : cX2_canDelay.data.toList.drop 0 = dktX2_canDelay_0 := by decide +kernel
theorem dksX2_canDelay_1 : cX2_canDelay.data.toList.drop 23 = dktX2_canDelay_1 := dk_seg dksX2_canDelay_0 23 rfl rfl
theorem dX2_canDelay_0 : decode cX2_canDelay 0 = .ok (.aload_n 0, 1) := dk_42 (dk_at dksX2_canDelay_0 0 rfl rfl)
theorem dX2_canDelay_1 : decode cX2_canDelay 1 = .ok (.getfield 7, 3) := dk_180 0 7 (dk_at dksX2_canDelay_0 1 rfl rfl)
theorem dX2_canDelay_4 : decode cX2_canDelay 4 = .ok (.bipush 13, 2) := dk_16 13 (dk_at dksX2_canDelay_0 4 rfl rfl)
theorem dX2_canDelay_6 : decode cX2_canDelay 6 = .ok (.iaload, 1) := dk_46 (dk_at dksX2_canDelay_0 6 rfl rfl)
theorem dX2_canDelay_7 : decode cX2_canDelay 7 = .ok (.iconst (-1), 1) := dk_2 (dk_at dksX2_canDelay_0 7 rfl rfl)
theorem dX2_canDelay_8 : decode cX2_canDelay 8 = .ok (.if_icmp .eq 18, 3) := dk_159 0 18 (dk_at dksX2_canDelay_0 8 rfl rfl)
theorem dX2_canDelay_11 : decode cX2_canDelay 11 = .ok (.aload_n 0, 1) := dk_42 (dk_at dksX2_canDelay_0 11 rfl rfl)
theorem dX2_canDelay_12 : decode cX2_canDelay 12 = .ok (.getfield 7, 3) := dk_180 0 7 (dk_at dksX2_canDelay_0 12 rfl rfl)
theorem dX2_canDelay_15 : decode cX2_canDelay 15 = .ok (.bipush 16, 2) := dk_16 16 (dk_at dksX2_canDelay_0 15 rfl rfl)
theorem dX2_canDelay_17 : decode cX2_canDelay 17 = .ok (.iaload, 1) := dk_46 (dk_at dksX2_canDelay_0 17 rfl rfl)
theorem dX2_canDelay_18 : decode cX2_canDelay 18 = .ok (.iconst 3, 1) := dk_6 (dk_at dksX2_canDelay_0 18 rfl rfl)
theorem dX2_canDelay_19 : decode cX2_canDelay 19 = .ok (.if_icmp .ge 7, 3) := dk_162 0 7 (dk_at dksX2_canDelay_0 19 rfl rfl)
theorem dX2_canDelay_22 : decode cX2_canDelay 22 = .ok (.iconst 1, 1) := dk_4 (dk_at dksX2_canDelay_0 22 rfl rfl)
theorem dX2_canDelay_23 : decode cX2_canDelay 23 = .ok (.goto 4, 3) := dk_167 0 4 (dk_at dksX2_canDelay_1 0 rfl rfl)
theorem dX2_canDelay_26 : decode cX2_canDelay 26 = .ok (.iconst 0, 1) := dk_3 (dk_at dksX2_canDelay_1 3 rfl rfl)
theorem dX2_canDelay_27 : decode cX2_canDelay 27 = .ok (.ireturn, 1) := dk_172 (dk_at dksX2_canDelay_1 4 rfl rfl)
abbrev cX2_appeal : ByteArray := prog_20_method_90_code
def yX2_appeal : MethodName := ⟨RX2, "appeal", "(I)Z"⟩
def dkwX2_appeal_0 : List UInt8 := [42, 27, 182, 1, 136, 154, 0, 5, 3, 172, 42, 182, 1, 127, 42, 27, 182, 1, 139, 4, 172]
abbrev dktX2_appeal_0 : List UInt8 := dkwX2_appeal_0 ++ []
theorem dksX2_appeal_0 : cX2_appeal.data.toList.drop 0 = dktX2_appeal_0 := by decide +kernel
theorem dX2_appeal_0 : decode cX2_appeal 0 = .ok (.aload_n 0, 1) := dk_42 (dk_at dksX2_appeal_0 0 rfl rfl)
theorem dX2_appeal_1 : decode cX2_appeal 1 = .ok (.iload_n 1, 1) := dk_27 (dk_at dksX2_appeal_0 1 rfl rfl)
theorem dX2_appeal_2 : decode cX2_appeal 2 = .ok (.invokevirtual 392, 3) := dk_182 1 136 (dk_at dksX2_appeal_0 2 rfl rfl)
theorem dX2_appeal_5 : decode cX2_appeal 5 = .ok (.ifCond .ne 5, 3) := dk_154 0 5 (dk_at dksX2_appeal_0 5 rfl rfl)
theorem dX2_appeal_8 : decode cX2_appeal 8 = .ok (.iconst 0, 1) := dk_3 (dk_at dksX2_appeal_0 8 rfl rfl)
theorem dX2_appeal_9 : decode cX2_appeal 9 = .ok (.ireturn, 1) := dk_172 (dk_at dksX2_appeal_0 9 rfl rfl)
theorem dX2_appeal_10 : decode cX2_appeal 10 = .ok (.aload_n 0, 1) := dk_42 (dk_at dksX2_appeal_0 10 rfl rfl)
theorem dX2_appeal_11 : decode cX2_appeal 11 = .ok (.invokevirtual 383, 3) := dk_182 1 127 (dk_at dksX2_appeal_0 11 rfl rfl)
theorem dX2_appeal_14 : decode cX2_appeal 14 = .ok (.aload_n 0, 1) := dk_42 (dk_at dksX2_appeal_0 14 rfl rfl)
theorem dX2_appeal_15 : decode cX2_appeal 15 = .ok (.iload_n 1, 1) := dk_27 (dk_at dksX2_appeal_0 15 rfl rfl)
theorem dX2_appeal_16 : decode cX2_appeal 16 = .ok (.invokevirtual 395, 3) := dk_182 1 139 (dk_at dksX2_appeal_0 16 rfl rfl)
theorem dX2_appeal_19 : decode cX2_appeal 19 = .ok (.iconst 1, 1) := dk_4 (dk_at dksX2_appeal_0 19 rfl rfl)
theorem dX2_appeal_20 : decode cX2_appeal 20 = .ok (.ireturn, 1) := dk_172 (dk_at dksX2_appeal_0 20 rfl rfl)
abbrev cX2_canAppeal : ByteArray := prog_20_method_88_code
def yX2_canAppeal : MethodName := ⟨RX2, "canAppeal", "(I)Z"⟩
def dkwX2_canAppeal_1 : List UInt8 := [182, 0, 82, 154, 0, 7, 4, 167, 0, 4, 3, 172]
abbrev dktX2_canAppeal_1 : List UInt8 := dkwX2_canAppeal_1 ++ []
def dkwX2_canAppeal_0 : List UInt8 := [42, 27, 182, 0, 78, 153, 0, 27, 42, 27, 7, 182, 0, 82, 6, 160, 0, 17, 42, 27, 16, 6]
abbrev dktX2_canAppeal_0 : List UInt8 := dkwX2_canAppeal_0 ++ dktX2_canAppeal_1
theorem dksX2_canAppeal_0 : cX2_canAppeal.data.toList.drop 0 = dktX2_canAppeal_0 := by decide +kernel
theorem dksX2_canAppeal_1 : cX2_canAppeal.data.toList.drop 22 = dktX2_canAppeal_1 := dk_seg dksX2_canAppeal_0 22 rfl rfl
theorem dX2_canAppeal_0 : decode cX2_canAppeal 0 = .ok (.aload_n 0, 1) := dk_42 (dk_at dksX2_canAppeal_0 0 rfl rfl)
theorem dX2_canAppeal_1 : decode cX2_canAppeal 1 = .ok (.iload_n 1, 1) := dk_27 (dk_at dksX2_canAppeal_0 1 rfl rfl)
theorem dX2_canAppeal_2 : decode cX2_canAppeal 2 = .ok (.invokevirtual 78, 3) := dk_182 0 78 (dk_at dksX2_canAppeal_0 2 rfl rfl)
theorem dX2_canAppeal_5 : decode cX2_canAppeal 5 = .ok (.ifCond .eq 27, 3) := dk_153 0 27 (dk_at dksX2_canAppeal_0 5 rfl rfl)
theorem dX2_canAppeal_8 : decode cX2_canAppeal 8 = .ok (.aload_n 0, 1) := dk_42 (dk_at dksX2_canAppeal_0 8 rfl rfl)
theorem dX2_canAppeal_9 : decode cX2_canAppeal 9 = .ok (.iload_n 1, 1) := dk_27 (dk_at dksX2_canAppeal_0 9 rfl rfl)
theorem dX2_canAppeal_10 : decode cX2_canAppeal 10 = .ok (.iconst 4, 1) := dk_7 (dk_at dksX2_canAppeal_0 10 rfl rfl)
theorem dX2_canAppeal_11 : decode cX2_canAppeal 11 = .ok (.invokevirtual 82, 3) := dk_182 0 82 (dk_at dksX2_canAppeal_0 11 rfl rfl)
theorem dX2_canAppeal_14 : decode cX2_canAppeal 14 = .ok (.iconst 3, 1) := dk_6 (dk_at dksX2_canAppeal_0 14 rfl rfl)
theorem dX2_canAppeal_15 : decode cX2_canAppeal 15 = .ok (.if_icmp .ne 17, 3) := dk_160 0 17 (dk_at dksX2_canAppeal_0 15 rfl rfl)
theorem dX2_canAppeal_18 : decode cX2_canAppeal 18 = .ok (.aload_n 0, 1) := dk_42 (dk_at dksX2_canAppeal_0 18 rfl rfl)
theorem dX2_canAppeal_19 : decode cX2_canAppeal 19 = .ok (.iload_n 1, 1) := dk_27 (dk_at dksX2_canAppeal_0 19 rfl rfl)
theorem dX2_canAppeal_20 : decode cX2_canAppeal 20 = .ok (.bipush 6, 2) := dk_16 6 (dk_at dksX2_canAppeal_0 20 rfl rfl)
theorem dX2_canAppeal_22 : decode cX2_canAppeal 22 = .ok (.invokevirtual 82, 3) := dk_182 0 82 (dk_at dksX2_canAppeal_1 0 rfl rfl)
theorem dX2_canAppeal_25 : decode cX2_canAppeal 25 = .ok (.ifCond .ne 7, 3) := dk_154 0 7 (dk_at dksX2_canAppeal_1 3 rfl rfl)
theorem dX2_canAppeal_28 : decode cX2_canAppeal 28 = .ok (.iconst 1, 1) := dk_4 (dk_at dksX2_canAppeal_1 6 rfl rfl)
theorem dX2_canAppeal_29 : decode cX2_canAppeal 29 = .ok (.goto 4, 3) := dk_167 0 4 (dk_at dksX2_canAppeal_1 7 rfl rfl)
theorem dX2_canAppeal_32 : decode cX2_canAppeal 32 = .ok (.iconst 0, 1) := dk_3 (dk_at dksX2_canAppeal_1 10 rfl rfl)
theorem dX2_canAppeal_33 : decode cX2_canAppeal 33 = .ok (.ireturn, 1) := dk_172 (dk_at dksX2_canAppeal_1 11 rfl rfl)
abbrev cX2_appealNow : ByteArray := prog_20_method_89_code
def yX2_appealNow : MethodName := ⟨RX2, "appealNow", "(I)V"⟩
def dkwX2_appealNow_0 : List UInt8 := [42, 27, 7, 3, 182, 0, 86, 42, 27, 8, 3, 182, 0, 86, 42, 27, 16, 6, 4, 182, 0, 86, 177]
abbrev dktX2_appealNow_0 : List UInt8 := dkwX2_appealNow_0 ++ []
theorem dksX2_appealNow_0 : cX2_appealNow.data.toList.drop 0 = dktX2_appealNow_0 := by decide +kernel
theorem dX2_appealNow_0 : decode cX2_appealNow 0 = .ok (.aload_n 0, 1) := dk_42 (dk_at dksX2_appealNow_0 0 rfl rfl)
theorem dX2_appealNow_1 : decode cX2_appealNow 1 = .ok (.iload_n 1, 1) := dk_27 (dk_at dksX2_appealNow_0 1 rfl rfl)
theorem dX2_appealNow_2 : decode cX2_appealNow 2 = .ok (.iconst 4, 1) := dk_7 (dk_at dksX2_appealNow_0 2 rfl rfl)
theorem dX2_appealNow_3 : decode cX2_appealNow 3 = .ok (.iconst 0, 1) := dk_3 (dk_at dksX2_appealNow_0 3 rfl rfl)
theorem dX2_appealNow_4 : decode cX2_appealNow 4 = .ok (.invokevirtual 86, 3) := dk_182 0 86 (dk_at dksX2_appealNow_0 4 rfl rfl)
theorem dX2_appealNow_7 : decode cX2_appealNow 7 = .ok (.aload_n 0, 1) := dk_42 (dk_at dksX2_appealNow_0 7 rfl rfl)
theorem dX2_appealNow_8 : decode cX2_appealNow 8 = .ok (.iload_n 1, 1) := dk_27 (dk_at dksX2_appealNow_0 8 rfl rfl)
theorem dX2_appealNow_9 : decode cX2_appealNow 9 = .ok (.iconst 5, 1) := dk_8 (dk_at dksX2_appealNow_0 9 rfl rfl)
theorem dX2_appealNow_10 : decode cX2_appealNow 10 = .ok (.iconst 0, 1) := dk_3 (dk_at dksX2_appealNow_0 10 rfl rfl)
theorem dX2_appealNow_11 : decode cX2_appealNow 11 = .ok (.invokevirtual 86, 3) := dk_182 0 86 (dk_at dksX2_appealNow_0 11 rfl rfl)
theorem dX2_appealNow_14 : decode cX2_appealNow 14 = .ok (.aload_n 0, 1) := dk_42 (dk_at dksX2_appealNow_0 14 rfl rfl)
theorem dX2_appealNow_15 : decode cX2_appealNow 15 = .ok (.iload_n 1, 1) := dk_27 (dk_at dksX2_appealNow_0 15 rfl rfl)
theorem dX2_appealNow_16 : decode cX2_appealNow 16 = .ok (.bipush 6, 2) := dk_16 6 (dk_at dksX2_appealNow_0 16 rfl rfl)
theorem dX2_appealNow_18 : decode cX2_appealNow 18 = .ok (.iconst 1, 1) := dk_4 (dk_at dksX2_appealNow_0 18 rfl rfl)
theorem dX2_appealNow_19 : decode cX2_appealNow 19 = .ok (.invokevirtual 86, 3) := dk_182 0 86 (dk_at dksX2_appealNow_0 19 rfl rfl)
theorem dX2_appealNow_22 : decode cX2_appealNow 22 = .ok (.return_, 1) := dk_177 (dk_at dksX2_appealNow_0 22 rfl rfl)
abbrev cX2_gust : ByteArray := prog_20_method_91_code
def yX2_gust : MethodName := ⟨RX2, "gust", "(II)Z"⟩
def dkwX2_gust_2 : List UInt8 := [42, 180, 0, 7, 16, 8, 27, 79, 42, 180, 0, 7, 16, 9, 28, 79, 4, 172]
abbrev dktX2_gust_2 : List UInt8 := dkwX2_gust_2 ++ []
def dkwX2_gust_1 : List UInt8 := [16, 8, 46, 27, 160, 0, 16, 42, 180, 0, 7, 16, 9, 46, 28, 160, 0, 5, 3, 172, 42, 182, 1, 127]
abbrev dktX2_gust_1 : List UInt8 := dkwX2_gust_1 ++ dktX2_gust_2
def dkwX2_gust_0 : List UInt8 := [27, 3, 6, 184, 0, 74, 153, 0, 35, 28, 3, 16, 9, 184, 0, 74, 153, 0, 25, 42, 180, 0, 7]
abbrev dktX2_gust_0 : List UInt8 := dkwX2_gust_0 ++ dktX2_gust_1
theorem dksX2_gust_0 : cX2_gust.data.toList.drop 0 = dktX2_gust_0 := by decide +kernel
theorem dksX2_gust_1 : cX2_gust.data.toList.drop 23 = dktX2_gust_1 := dk_seg dksX2_gust_0 23 rfl rfl
theorem dksX2_gust_2 : cX2_gust.data.toList.drop 47 = dktX2_gust_2 := dk_seg dksX2_gust_1 24 rfl rfl
theorem dX2_gust_0 : decode cX2_gust 0 = .ok (.iload_n 1, 1) := dk_27 (dk_at dksX2_gust_0 0 rfl rfl)
theorem dX2_gust_1 : decode cX2_gust 1 = .ok (.iconst 0, 1) := dk_3 (dk_at dksX2_gust_0 1 rfl rfl)
theorem dX2_gust_2 : decode cX2_gust 2 = .ok (.iconst 3, 1) := dk_6 (dk_at dksX2_gust_0 2 rfl rfl)
theorem dX2_gust_3 : decode cX2_gust 3 = .ok (.invokestatic 74, 3) := dk_184 0 74 (dk_at dksX2_gust_0 3 rfl rfl)
theorem dX2_gust_6 : decode cX2_gust 6 = .ok (.ifCond .eq 35, 3) := dk_153 0 35 (dk_at dksX2_gust_0 6 rfl rfl)
theorem dX2_gust_9 : decode cX2_gust 9 = .ok (.iload_n 2, 1) := dk_28 (dk_at dksX2_gust_0 9 rfl rfl)
theorem dX2_gust_10 : decode cX2_gust 10 = .ok (.iconst 0, 1) := dk_3 (dk_at dksX2_gust_0 10 rfl rfl)
theorem dX2_gust_11 : decode cX2_gust 11 = .ok (.bipush 9, 2) := dk_16 9 (dk_at dksX2_gust_0 11 rfl rfl)
theorem dX2_gust_13 : decode cX2_gust 13 = .ok (.invokestatic 74, 3) := dk_184 0 74 (dk_at dksX2_gust_0 13 rfl rfl)
theorem dX2_gust_16 : decode cX2_gust 16 = .ok (.ifCond .eq 25, 3) := dk_153 0 25 (dk_at dksX2_gust_0 16 rfl rfl)
theorem dX2_gust_19 : decode cX2_gust 19 = .ok (.aload_n 0, 1) := dk_42 (dk_at dksX2_gust_0 19 rfl rfl)
theorem dX2_gust_20 : decode cX2_gust 20 = .ok (.getfield 7, 3) := dk_180 0 7 (dk_at dksX2_gust_0 20 rfl rfl)
theorem dX2_gust_23 : decode cX2_gust 23 = .ok (.bipush 8, 2) := dk_16 8 (dk_at dksX2_gust_1 0 rfl rfl)
theorem dX2_gust_25 : decode cX2_gust 25 = .ok (.iaload, 1) := dk_46 (dk_at dksX2_gust_1 2 rfl rfl)
theorem dX2_gust_26 : decode cX2_gust 26 = .ok (.iload_n 1, 1) := dk_27 (dk_at dksX2_gust_1 3 rfl rfl)
theorem dX2_gust_27 : decode cX2_gust 27 = .ok (.if_icmp .ne 16, 3) := dk_160 0 16 (dk_at dksX2_gust_1 4 rfl rfl)
theorem dX2_gust_30 : decode cX2_gust 30 = .ok (.aload_n 0, 1) := dk_42 (dk_at dksX2_gust_1 7 rfl rfl)
theorem dX2_gust_31 : decode cX2_gust 31 = .ok (.getfield 7, 3) := dk_180 0 7 (dk_at dksX2_gust_1 8 rfl rfl)
theorem dX2_gust_34 : decode cX2_gust 34 = .ok (.bipush 9, 2) := dk_16 9 (dk_at dksX2_gust_1 11 rfl rfl)
theorem dX2_gust_36 : decode cX2_gust 36 = .ok (.iaload, 1) := dk_46 (dk_at dksX2_gust_1 13 rfl rfl)
theorem dX2_gust_37 : decode cX2_gust 37 = .ok (.iload_n 2, 1) := dk_28 (dk_at dksX2_gust_1 14 rfl rfl)
theorem dX2_gust_38 : decode cX2_gust 38 = .ok (.if_icmp .ne 5, 3) := dk_160 0 5 (dk_at dksX2_gust_1 15 rfl rfl)
theorem dX2_gust_41 : decode cX2_gust 41 = .ok (.iconst 0, 1) := dk_3 (dk_at dksX2_gust_1 18 rfl rfl)
theorem dX2_gust_42 : decode cX2_gust 42 = .ok (.ireturn, 1) := dk_172 (dk_at dksX2_gust_1 19 rfl rfl)
theorem dX2_gust_43 : decode cX2_gust 43 = .ok (.aload_n 0, 1) := dk_42 (dk_at dksX2_gust_1 20 rfl rfl)
theorem dX2_gust_44 : decode cX2_gust 44 = .ok (.invokevirtual 383, 3) := dk_182 1 127 (dk_at dksX2_gust_1 21 rfl rfl)
theorem dX2_gust_47 : decode cX2_gust 47 = .ok (.aload_n 0, 1) := dk_42 (dk_at dksX2_gust_2 0 rfl rfl)
theorem dX2_gust_48 : decode cX2_gust 48 = .ok (.getfield 7, 3) := dk_180 0 7 (dk_at dksX2_gust_2 1 rfl rfl)
theorem dX2_gust_51 : decode cX2_gust 51 = .ok (.bipush 8, 2) := dk_16 8 (dk_at dksX2_gust_2 4 rfl rfl)
theorem dX2_gust_53 : decode cX2_gust 53 = .ok (.iload_n 1, 1) := dk_27 (dk_at dksX2_gust_2 6 rfl rfl)
theorem dX2_gust_54 : decode cX2_gust 54 = .ok (.iastore, 1) := dk_79 (dk_at dksX2_gust_2 7 rfl rfl)
theorem dX2_gust_55 : decode cX2_gust 55 = .ok (.aload_n 0, 1) := dk_42 (dk_at dksX2_gust_2 8 rfl rfl)
theorem dX2_gust_56 : decode cX2_gust 56 = .ok (.getfield 7, 3) := dk_180 0 7 (dk_at dksX2_gust_2 9 rfl rfl)
theorem dX2_gust_59 : decode cX2_gust 59 = .ok (.bipush 9, 2) := dk_16 9 (dk_at dksX2_gust_2 12 rfl rfl)
theorem dX2_gust_61 : decode cX2_gust 61 = .ok (.iload_n 2, 1) := dk_28 (dk_at dksX2_gust_2 14 rfl rfl)
theorem dX2_gust_62 : decode cX2_gust 62 = .ok (.iastore, 1) := dk_79 (dk_at dksX2_gust_2 15 rfl rfl)
theorem dX2_gust_63 : decode cX2_gust 63 = .ok (.iconst 1, 1) := dk_4 (dk_at dksX2_gust_2 16 rfl rfl)
theorem dX2_gust_64 : decode cX2_gust 64 = .ok (.ireturn, 1) := dk_172 (dk_at dksX2_gust_2 17 rfl rfl)
abbrev cX2_withdraw : ByteArray := prog_20_method_92_code
def yX2_withdraw : MethodName := ⟨RX2, "withdraw", "()I"⟩
def dkwX2_withdraw_1 : List UInt8 := [60, 42, 3, 3, 182, 1, 109, 27, 172]
abbrev dktX2_withdraw_1 : List UInt8 := dkwX2_withdraw_1 ++ []
def dkwX2_withdraw_0 : List UInt8 := [42, 180, 0, 7, 16, 13, 46, 2, 160, 0, 5, 2, 172, 42, 182, 1, 127, 42, 180, 0, 7, 16, 13, 46]
abbrev dktX2_withdraw_0 : List UInt8 := dkwX2_withdraw_0 ++ dktX2_withdraw_1
theorem dksX2_withdraw_0 : cX2_withdraw.data.toList.drop 0 = dktX2_withdraw_0 := by decide +kernel
theorem dksX2_withdraw_1 : cX2_withdraw.data.toList.drop 24 = dktX2_withdraw_1 := dk_seg dksX2_withdraw_0 24 rfl rfl
theorem dX2_withdraw_0 : decode cX2_withdraw 0 = .ok (.aload_n 0, 1) := dk_42 (dk_at dksX2_withdraw_0 0 rfl rfl)
theorem dX2_withdraw_1 : decode cX2_withdraw 1 = .ok (.getfield 7, 3) := dk_180 0 7 (dk_at dksX2_withdraw_0 1 rfl rfl)
theorem dX2_withdraw_4 : decode cX2_withdraw 4 = .ok (.bipush 13, 2) := dk_16 13 (dk_at dksX2_withdraw_0 4 rfl rfl)
theorem dX2_withdraw_6 : decode cX2_withdraw 6 = .ok (.iaload, 1) := dk_46 (dk_at dksX2_withdraw_0 6 rfl rfl)
theorem dX2_withdraw_7 : decode cX2_withdraw 7 = .ok (.iconst (-1), 1) := dk_2 (dk_at dksX2_withdraw_0 7 rfl rfl)
theorem dX2_withdraw_8 : decode cX2_withdraw 8 = .ok (.if_icmp .ne 5, 3) := dk_160 0 5 (dk_at dksX2_withdraw_0 8 rfl rfl)
theorem dX2_withdraw_11 : decode cX2_withdraw 11 = .ok (.iconst (-1), 1) := dk_2 (dk_at dksX2_withdraw_0 11 rfl rfl)
theorem dX2_withdraw_12 : decode cX2_withdraw 12 = .ok (.ireturn, 1) := dk_172 (dk_at dksX2_withdraw_0 12 rfl rfl)
theorem dX2_withdraw_13 : decode cX2_withdraw 13 = .ok (.aload_n 0, 1) := dk_42 (dk_at dksX2_withdraw_0 13 rfl rfl)
theorem dX2_withdraw_14 : decode cX2_withdraw 14 = .ok (.invokevirtual 383, 3) := dk_182 1 127 (dk_at dksX2_withdraw_0 14 rfl rfl)
theorem dX2_withdraw_17 : decode cX2_withdraw 17 = .ok (.aload_n 0, 1) := dk_42 (dk_at dksX2_withdraw_0 17 rfl rfl)
theorem dX2_withdraw_18 : decode cX2_withdraw 18 = .ok (.getfield 7, 3) := dk_180 0 7 (dk_at dksX2_withdraw_0 18 rfl rfl)
theorem dX2_withdraw_21 : decode cX2_withdraw 21 = .ok (.bipush 13, 2) := dk_16 13 (dk_at dksX2_withdraw_0 21 rfl rfl)
theorem dX2_withdraw_23 : decode cX2_withdraw 23 = .ok (.iaload, 1) := dk_46 (dk_at dksX2_withdraw_0 23 rfl rfl)
theorem dX2_withdraw_24 : decode cX2_withdraw 24 = .ok (.istore_n 1, 1) := dk_60 (dk_at dksX2_withdraw_1 0 rfl rfl)
theorem dX2_withdraw_25 : decode cX2_withdraw 25 = .ok (.aload_n 0, 1) := dk_42 (dk_at dksX2_withdraw_1 1 rfl rfl)
theorem dX2_withdraw_26 : decode cX2_withdraw 26 = .ok (.iconst 0, 1) := dk_3 (dk_at dksX2_withdraw_1 2 rfl rfl)
theorem dX2_withdraw_27 : decode cX2_withdraw 27 = .ok (.iconst 0, 1) := dk_3 (dk_at dksX2_withdraw_1 3 rfl rfl)
theorem dX2_withdraw_28 : decode cX2_withdraw 28 = .ok (.invokevirtual 365, 3) := dk_182 1 109 (dk_at dksX2_withdraw_1 4 rfl rfl)
theorem dX2_withdraw_31 : decode cX2_withdraw 31 = .ok (.iload_n 1, 1) := dk_27 (dk_at dksX2_withdraw_1 7 rfl rfl)
theorem dX2_withdraw_32 : decode cX2_withdraw 32 = .ok (.ireturn, 1) := dk_172 (dk_at dksX2_withdraw_1 8 rfl rfl)
abbrev cX2_leave : ByteArray := prog_20_method_78_code
def yX2_leave : MethodName := ⟨RX2, "leave", "(II)V"⟩
def dkwX2_leave_2 : List UInt8 := [16, 15, 3, 79, 42, 180, 0, 7, 16, 16, 3, 79, 177]
abbrev dktX2_leave_2 : List UInt8 := dkwX2_leave_2 ++ []
def dkwX2_leave_1 : List UInt8 := [182, 0, 86, 42, 180, 0, 7, 16, 13, 2, 79, 42, 180, 0, 7, 16, 14, 3, 79, 42, 180, 0, 7]
abbrev dktX2_leave_1 : List UInt8 := dkwX2_leave_1 ++ dktX2_leave_2
def dkwX2_leave_0 : List UInt8 := [42, 42, 180, 0, 7, 16, 13, 46, 7, 27, 182, 0, 86, 42, 42, 180, 0, 7, 16, 13, 46, 8, 28]
abbrev dktX2_leave_0 : List UInt8 := dkwX2_leave_0 ++ dktX2_leave_1
theorem dksX2_leave_0 : cX2_leave.data.toList.drop 0 = dktX2_leave_0 := by decide +kernel
theorem dksX2_leave_1 : cX2_leave.data.toList.drop 23 = dktX2_leave_1 := dk_seg dksX2_leave_0 23 rfl rfl
theorem dksX2_leave_2 : cX2_leave.data.toList.drop 46 = dktX2_leave_2 := dk_seg dksX2_leave_1 23 rfl rfl
theorem dX2_leave_0 : decode cX2_leave 0 = .ok (.aload_n 0, 1) := dk_42 (dk_at dksX2_leave_0 0 rfl rfl)
theorem dX2_leave_1 : decode cX2_leave 1 = .ok (.aload_n 0, 1) := dk_42 (dk_at dksX2_leave_0 1 rfl rfl)
theorem dX2_leave_2 : decode cX2_leave 2 = .ok (.getfield 7, 3) := dk_180 0 7 (dk_at dksX2_leave_0 2 rfl rfl)
theorem dX2_leave_5 : decode cX2_leave 5 = .ok (.bipush 13, 2) := dk_16 13 (dk_at dksX2_leave_0 5 rfl rfl)
theorem dX2_leave_7 : decode cX2_leave 7 = .ok (.iaload, 1) := dk_46 (dk_at dksX2_leave_0 7 rfl rfl)
theorem dX2_leave_8 : decode cX2_leave 8 = .ok (.iconst 4, 1) := dk_7 (dk_at dksX2_leave_0 8 rfl rfl)
theorem dX2_leave_9 : decode cX2_leave 9 = .ok (.iload_n 1, 1) := dk_27 (dk_at dksX2_leave_0 9 rfl rfl)
theorem dX2_leave_10 : decode cX2_leave 10 = .ok (.invokevirtual 86, 3) := dk_182 0 86 (dk_at dksX2_leave_0 10 rfl rfl)
theorem dX2_leave_13 : decode cX2_leave 13 = .ok (.aload_n 0, 1) := dk_42 (dk_at dksX2_leave_0 13 rfl rfl)
theorem dX2_leave_14 : decode cX2_leave 14 = .ok (.aload_n 0, 1) := dk_42 (dk_at dksX2_leave_0 14 rfl rfl)
theorem dX2_leave_15 : decode cX2_leave 15 = .ok (.getfield 7, 3) := dk_180 0 7 (dk_at dksX2_leave_0 15 rfl rfl)
theorem dX2_leave_18 : decode cX2_leave 18 = .ok (.bipush 13, 2) := dk_16 13 (dk_at dksX2_leave_0 18 rfl rfl)
theorem dX2_leave_20 : decode cX2_leave 20 = .ok (.iaload, 1) := dk_46 (dk_at dksX2_leave_0 20 rfl rfl)
theorem dX2_leave_21 : decode cX2_leave 21 = .ok (.iconst 5, 1) := dk_8 (dk_at dksX2_leave_0 21 rfl rfl)
theorem dX2_leave_22 : decode cX2_leave 22 = .ok (.iload_n 2, 1) := dk_28 (dk_at dksX2_leave_0 22 rfl rfl)
theorem dX2_leave_23 : decode cX2_leave 23 = .ok (.invokevirtual 86, 3) := dk_182 0 86 (dk_at dksX2_leave_1 0 rfl rfl)
theorem dX2_leave_26 : decode cX2_leave 26 = .ok (.aload_n 0, 1) := dk_42 (dk_at dksX2_leave_1 3 rfl rfl)
theorem dX2_leave_27 : decode cX2_leave 27 = .ok (.getfield 7, 3) := dk_180 0 7 (dk_at dksX2_leave_1 4 rfl rfl)
theorem dX2_leave_30 : decode cX2_leave 30 = .ok (.bipush 13, 2) := dk_16 13 (dk_at dksX2_leave_1 7 rfl rfl)
theorem dX2_leave_32 : decode cX2_leave 32 = .ok (.iconst (-1), 1) := dk_2 (dk_at dksX2_leave_1 9 rfl rfl)
theorem dX2_leave_33 : decode cX2_leave 33 = .ok (.iastore, 1) := dk_79 (dk_at dksX2_leave_1 10 rfl rfl)
theorem dX2_leave_34 : decode cX2_leave 34 = .ok (.aload_n 0, 1) := dk_42 (dk_at dksX2_leave_1 11 rfl rfl)
theorem dX2_leave_35 : decode cX2_leave 35 = .ok (.getfield 7, 3) := dk_180 0 7 (dk_at dksX2_leave_1 12 rfl rfl)
theorem dX2_leave_38 : decode cX2_leave 38 = .ok (.bipush 14, 2) := dk_16 14 (dk_at dksX2_leave_1 15 rfl rfl)
theorem dX2_leave_40 : decode cX2_leave 40 = .ok (.iconst 0, 1) := dk_3 (dk_at dksX2_leave_1 17 rfl rfl)
theorem dX2_leave_41 : decode cX2_leave 41 = .ok (.iastore, 1) := dk_79 (dk_at dksX2_leave_1 18 rfl rfl)
theorem dX2_leave_42 : decode cX2_leave 42 = .ok (.aload_n 0, 1) := dk_42 (dk_at dksX2_leave_1 19 rfl rfl)
theorem dX2_leave_43 : decode cX2_leave 43 = .ok (.getfield 7, 3) := dk_180 0 7 (dk_at dksX2_leave_1 20 rfl rfl)
theorem dX2_leave_46 : decode cX2_leave 46 = .ok (.bipush 15, 2) := dk_16 15 (dk_at dksX2_leave_2 0 rfl rfl)
theorem dX2_leave_48 : decode cX2_leave 48 = .ok (.iconst 0, 1) := dk_3 (dk_at dksX2_leave_2 2 rfl rfl)
theorem dX2_leave_49 : decode cX2_leave 49 = .ok (.iastore, 1) := dk_79 (dk_at dksX2_leave_2 3 rfl rfl)
theorem dX2_leave_50 : decode cX2_leave 50 = .ok (.aload_n 0, 1) := dk_42 (dk_at dksX2_leave_2 4 rfl rfl)
theorem dX2_leave_51 : decode cX2_leave 51 = .ok (.getfield 7, 3) := dk_180 0 7 (dk_at dksX2_leave_2 5 rfl rfl)
theorem dX2_leave_54 : decode cX2_leave 54 = .ok (.bipush 16, 2) := dk_16 16 (dk_at dksX2_leave_2 8 rfl rfl)
theorem dX2_leave_56 : decode cX2_leave 56 = .ok (.iconst 0, 1) := dk_3 (dk_at dksX2_leave_2 10 rfl rfl)
theorem dX2_leave_57 : decode cX2_leave 57 = .ok (.iastore, 1) := dk_79 (dk_at dksX2_leave_2 11 rfl rfl)
theorem dX2_leave_58 : decode cX2_leave 58 = .ok (.return_, 1) := dk_177 (dk_at dksX2_leave_2 12 rfl rfl)
abbrev cX2_hour : ByteArray := prog_20_method_94_code
def yX2_hour : MethodName := ⟨RX2, "hour", "(I)I"⟩
def dkwX2_hour_2 : List UInt8 := [167, 0, 4, 2, 172]
abbrev dktX2_hour_2 : List UInt8 := dkwX2_hour_2 ++ []
def dkwX2_hour_1 : List UInt8 := [164, 0, 5, 2, 172, 42, 3, 181, 1, 106, 42, 27, 182, 1, 145, 153, 0, 10, 42, 180, 1, 106]
abbrev dktX2_hour_1 : List UInt8 := dkwX2_hour_1 ++ dktX2_hour_2
def dkwX2_hour_0 : List UInt8 := [27, 4, 16, 60, 184, 0, 74, 153, 0, 18, 42, 180, 0, 7, 16, 11, 46, 27, 96, 17, 39, 15]
abbrev dktX2_hour_0 : List UInt8 := dkwX2_hour_0 ++ dktX2_hour_1
theorem dksX2_hour_0 : cX2_hour.data.toList.drop 0 = dktX2_hour_0 := by decide +kernel
theorem dksX2_hour_1 : cX2_hour.data.toList.drop 22 = dktX2_hour_1 := dk_seg dksX2_hour_0 22 rfl rfl
theorem dksX2_hour_2 : cX2_hour.data.toList.drop 44 = dktX2_hour_2 := dk_seg dksX2_hour_1 22 rfl rfl
theorem dX2_hour_0 : decode cX2_hour 0 = .ok (.iload_n 1, 1) := dk_27 (dk_at dksX2_hour_0 0 rfl rfl)
theorem dX2_hour_1 : decode cX2_hour 1 = .ok (.iconst 1, 1) := dk_4 (dk_at dksX2_hour_0 1 rfl rfl)
theorem dX2_hour_2 : decode cX2_hour 2 = .ok (.bipush 60, 2) := dk_16 60 (dk_at dksX2_hour_0 2 rfl rfl)
theorem dX2_hour_4 : decode cX2_hour 4 = .ok (.invokestatic 74, 3) := dk_184 0 74 (dk_at dksX2_hour_0 4 rfl rfl)
theorem dX2_hour_7 : decode cX2_hour 7 = .ok (.ifCond .eq 18, 3) := dk_153 0 18 (dk_at dksX2_hour_0 7 rfl rfl)
theorem dX2_hour_10 : decode cX2_hour 10 = .ok (.aload_n 0, 1) := dk_42 (dk_at dksX2_hour_0 10 rfl rfl)
theorem dX2_hour_11 : decode cX2_hour 11 = .ok (.getfield 7, 3) := dk_180 0 7 (dk_at dksX2_hour_0 11 rfl rfl)
theorem dX2_hour_14 : decode cX2_hour 14 = .ok (.bipush 11, 2) := dk_16 11 (dk_at dksX2_hour_0 14 rfl rfl)
theorem dX2_hour_16 : decode cX2_hour 16 = .ok (.iaload, 1) := dk_46 (dk_at dksX2_hour_0 16 rfl rfl)
theorem dX2_hour_17 : decode cX2_hour 17 = .ok (.iload_n 1, 1) := dk_27 (dk_at dksX2_hour_0 17 rfl rfl)
theorem dX2_hour_18 : decode cX2_hour 18 = .ok (.iadd, 1) := dk_96 (dk_at dksX2_hour_0 18 rfl rfl)
theorem dX2_hour_19 : decode cX2_hour 19 = .ok (.sipush 9999, 3) := dk_17 39 15 (dk_at dksX2_hour_0 19 rfl rfl)
theorem dX2_hour_22 : decode cX2_hour 22 = .ok (.if_icmp .le 5, 3) := dk_164 0 5 (dk_at dksX2_hour_1 0 rfl rfl)
theorem dX2_hour_25 : decode cX2_hour 25 = .ok (.iconst (-1), 1) := dk_2 (dk_at dksX2_hour_1 3 rfl rfl)
theorem dX2_hour_26 : decode cX2_hour 26 = .ok (.ireturn, 1) := dk_172 (dk_at dksX2_hour_1 4 rfl rfl)
theorem dX2_hour_27 : decode cX2_hour 27 = .ok (.aload_n 0, 1) := dk_42 (dk_at dksX2_hour_1 5 rfl rfl)
theorem dX2_hour_28 : decode cX2_hour 28 = .ok (.iconst 0, 1) := dk_3 (dk_at dksX2_hour_1 6 rfl rfl)
theorem dX2_hour_29 : decode cX2_hour 29 = .ok (.putfield 362, 3) := dk_181 1 106 (dk_at dksX2_hour_1 7 rfl rfl)
theorem dX2_hour_32 : decode cX2_hour 32 = .ok (.aload_n 0, 1) := dk_42 (dk_at dksX2_hour_1 10 rfl rfl)
theorem dX2_hour_33 : decode cX2_hour 33 = .ok (.iload_n 1, 1) := dk_27 (dk_at dksX2_hour_1 11 rfl rfl)
theorem dX2_hour_34 : decode cX2_hour 34 = .ok (.invokevirtual 401, 3) := dk_182 1 145 (dk_at dksX2_hour_1 12 rfl rfl)
theorem dX2_hour_37 : decode cX2_hour 37 = .ok (.ifCond .eq 10, 3) := dk_153 0 10 (dk_at dksX2_hour_1 15 rfl rfl)
theorem dX2_hour_40 : decode cX2_hour 40 = .ok (.aload_n 0, 1) := dk_42 (dk_at dksX2_hour_1 18 rfl rfl)
theorem dX2_hour_41 : decode cX2_hour 41 = .ok (.getfield 362, 3) := dk_180 1 106 (dk_at dksX2_hour_1 19 rfl rfl)
theorem dX2_hour_44 : decode cX2_hour 44 = .ok (.goto 4, 3) := dk_167 0 4 (dk_at dksX2_hour_2 0 rfl rfl)
theorem dX2_hour_47 : decode cX2_hour 47 = .ok (.iconst (-1), 1) := dk_2 (dk_at dksX2_hour_2 3 rfl rfl)
theorem dX2_hour_48 : decode cX2_hour 48 = .ok (.ireturn, 1) := dk_172 (dk_at dksX2_hour_2 4 rfl rfl)
abbrev cX2_arePassed : ByteArray := prog_20_method_93_code
def yX2_arePassed : MethodName := ⟨RX2, "arePassed", "(I)Z"⟩
def dkwX2_arePassed_1 : List UInt8 := [182, 1, 127, 42, 182, 1, 142, 132, 2, 1, 167, 255, 225, 4, 172]
abbrev dktX2_arePassed_1 : List UInt8 := dkwX2_arePassed_1 ++ []
def dkwX2_arePassed_0 : List UInt8 := [3, 61, 28, 27, 162, 0, 32, 42, 180, 0, 7, 16, 11, 46, 17, 39, 15, 160, 0, 5, 3, 172, 42]
abbrev dktX2_arePassed_0 : List UInt8 := dkwX2_arePassed_0 ++ dktX2_arePassed_1
theorem dksX2_arePassed_0 : cX2_arePassed.data.toList.drop 0 = dktX2_arePassed_0 := by decide +kernel
theorem dksX2_arePassed_1 : cX2_arePassed.data.toList.drop 23 = dktX2_arePassed_1 := dk_seg dksX2_arePassed_0 23 rfl rfl
theorem dX2_arePassed_0 : decode cX2_arePassed 0 = .ok (.iconst 0, 1) := dk_3 (dk_at dksX2_arePassed_0 0 rfl rfl)
theorem dX2_arePassed_1 : decode cX2_arePassed 1 = .ok (.istore_n 2, 1) := dk_61 (dk_at dksX2_arePassed_0 1 rfl rfl)
theorem dX2_arePassed_2 : decode cX2_arePassed 2 = .ok (.iload_n 2, 1) := dk_28 (dk_at dksX2_arePassed_0 2 rfl rfl)
theorem dX2_arePassed_3 : decode cX2_arePassed 3 = .ok (.iload_n 1, 1) := dk_27 (dk_at dksX2_arePassed_0 3 rfl rfl)
theorem dX2_arePassed_4 : decode cX2_arePassed 4 = .ok (.if_icmp .ge 32, 3) := dk_162 0 32 (dk_at dksX2_arePassed_0 4 rfl rfl)
theorem dX2_arePassed_7 : decode cX2_arePassed 7 = .ok (.aload_n 0, 1) := dk_42 (dk_at dksX2_arePassed_0 7 rfl rfl)
theorem dX2_arePassed_8 : decode cX2_arePassed 8 = .ok (.getfield 7, 3) := dk_180 0 7 (dk_at dksX2_arePassed_0 8 rfl rfl)
theorem dX2_arePassed_11 : decode cX2_arePassed 11 = .ok (.bipush 11, 2) := dk_16 11 (dk_at dksX2_arePassed_0 11 rfl rfl)
theorem dX2_arePassed_13 : decode cX2_arePassed 13 = .ok (.iaload, 1) := dk_46 (dk_at dksX2_arePassed_0 13 rfl rfl)
theorem dX2_arePassed_14 : decode cX2_arePassed 14 = .ok (.sipush 9999, 3) := dk_17 39 15 (dk_at dksX2_arePassed_0 14 rfl rfl)
theorem dX2_arePassed_17 : decode cX2_arePassed 17 = .ok (.if_icmp .ne 5, 3) := dk_160 0 5 (dk_at dksX2_arePassed_0 17 rfl rfl)
theorem dX2_arePassed_20 : decode cX2_arePassed 20 = .ok (.iconst 0, 1) := dk_3 (dk_at dksX2_arePassed_0 20 rfl rfl)
theorem dX2_arePassed_21 : decode cX2_arePassed 21 = .ok (.ireturn, 1) := dk_172 (dk_at dksX2_arePassed_0 21 rfl rfl)
theorem dX2_arePassed_22 : decode cX2_arePassed 22 = .ok (.aload_n 0, 1) := dk_42 (dk_at dksX2_arePassed_0 22 rfl rfl)
theorem dX2_arePassed_23 : decode cX2_arePassed 23 = .ok (.invokevirtual 383, 3) := dk_182 1 127 (dk_at dksX2_arePassed_1 0 rfl rfl)
theorem dX2_arePassed_26 : decode cX2_arePassed 26 = .ok (.aload_n 0, 1) := dk_42 (dk_at dksX2_arePassed_1 3 rfl rfl)
theorem dX2_arePassed_27 : decode cX2_arePassed 27 = .ok (.invokevirtual 398, 3) := dk_182 1 142 (dk_at dksX2_arePassed_1 4 rfl rfl)
theorem dX2_arePassed_30 : decode cX2_arePassed 30 = .ok (.iinc 2 1, 3) := dk_132 2 1 (dk_at dksX2_arePassed_1 7 rfl rfl)
theorem dX2_arePassed_33 : decode cX2_arePassed 33 = .ok (.goto (-31), 3) := dk_167 255 225 (dk_at dksX2_arePassed_1 10 rfl rfl)
theorem dX2_arePassed_36 : decode cX2_arePassed 36 = .ok (.iconst 1, 1) := dk_4 (dk_at dksX2_arePassed_1 13 rfl rfl)
theorem dX2_arePassed_37 : decode cX2_arePassed 37 = .ok (.ireturn, 1) := dk_172 (dk_at dksX2_arePassed_1 14 rfl rfl)
abbrev cX2_pass : ByteArray := prog_20_method_80_code
def yX2_pass : MethodName := ⟨RX2, "pass", "()V"⟩
def dkwX2_pass_1 : List UInt8 := [182, 1, 118, 177]
abbrev dktX2_pass_1 : List UInt8 := dkwX2_pass_1 ++ []
def dkwX2_pass_0 : List UInt8 := [42, 180, 0, 7, 16, 13, 46, 2, 159, 0, 7, 42, 182, 1, 112, 42, 42, 16, 10, 182, 1, 115]
abbrev dktX2_pass_0 : List UInt8 := dkwX2_pass_0 ++ dktX2_pass_1
theorem dksX2_pass_0 : cX2_pass.data.toList.drop 0 = dktX2_pass_0 := by decide +kernel
theorem dksX2_pass_1 : cX2_pass.data.toList.drop 22 = dktX2_pass_1 := dk_seg dksX2_pass_0 22 rfl rfl
theorem dX2_pass_0 : decode cX2_pass 0 = .ok (.aload_n 0, 1) := dk_42 (dk_at dksX2_pass_0 0 rfl rfl)
theorem dX2_pass_1 : decode cX2_pass 1 = .ok (.getfield 7, 3) := dk_180 0 7 (dk_at dksX2_pass_0 1 rfl rfl)
theorem dX2_pass_4 : decode cX2_pass 4 = .ok (.bipush 13, 2) := dk_16 13 (dk_at dksX2_pass_0 4 rfl rfl)
theorem dX2_pass_6 : decode cX2_pass 6 = .ok (.iaload, 1) := dk_46 (dk_at dksX2_pass_0 6 rfl rfl)
theorem dX2_pass_7 : decode cX2_pass 7 = .ok (.iconst (-1), 1) := dk_2 (dk_at dksX2_pass_0 7 rfl rfl)
theorem dX2_pass_8 : decode cX2_pass 8 = .ok (.if_icmp .eq 7, 3) := dk_159 0 7 (dk_at dksX2_pass_0 8 rfl rfl)
theorem dX2_pass_11 : decode cX2_pass 11 = .ok (.aload_n 0, 1) := dk_42 (dk_at dksX2_pass_0 11 rfl rfl)
theorem dX2_pass_12 : decode cX2_pass 12 = .ok (.invokevirtual 368, 3) := dk_182 1 112 (dk_at dksX2_pass_0 12 rfl rfl)
theorem dX2_pass_15 : decode cX2_pass 15 = .ok (.aload_n 0, 1) := dk_42 (dk_at dksX2_pass_0 15 rfl rfl)
theorem dX2_pass_16 : decode cX2_pass 16 = .ok (.aload_n 0, 1) := dk_42 (dk_at dksX2_pass_0 16 rfl rfl)
theorem dX2_pass_17 : decode cX2_pass 17 = .ok (.bipush 10, 2) := dk_16 10 (dk_at dksX2_pass_0 17 rfl rfl)
theorem dX2_pass_19 : decode cX2_pass 19 = .ok (.invokevirtual 371, 3) := dk_182 1 115 (dk_at dksX2_pass_0 19 rfl rfl)
theorem dX2_pass_22 : decode cX2_pass 22 = .ok (.invokevirtual 374, 3) := dk_182 1 118 (dk_at dksX2_pass_1 0 rfl rfl)
theorem dX2_pass_25 : decode cX2_pass 25 = .ok (.return_, 1) := dk_177 (dk_at dksX2_pass_1 3 rfl rfl)
abbrev cX2_hear : ByteArray := prog_20_method_79_code
def yX2_hear : MethodName := ⟨RX2, "hear", "()V"⟩
def dkwX2_hear_8 : List UInt8 := [181, 1, 106, 42, 28, 153, 0, 7, 6, 167, 0, 4, 5, 29, 182, 1, 109, 177]
abbrev dktX2_hear_8 : List UInt8 := dkwX2_hear_8 ++ []
def dkwX2_hear_7 : List UInt8 := [3, 29, 96, 79, 42, 180, 0, 7, 16, 17, 92, 46, 4, 96, 79, 42, 89, 180, 1, 106, 4, 96]
abbrev dktX2_hear_7 : List UInt8 := dkwX2_hear_7 ++ dktX2_hear_8
def dkwX2_hear_6 : List UInt8 := [16, 8, 104, 27, 96, 79, 42, 180, 0, 7, 21, 4, 4, 96, 28, 153, 0, 9, 17, 3, 232, 167, 0, 4]
abbrev dktX2_hear_6 : List UInt8 := dkwX2_hear_6 ++ dktX2_hear_7
def dkwX2_hear_5 : List UInt8 := [16, 17, 46, 17, 4, 206, 112, 104, 96, 54, 4, 42, 180, 0, 7, 21, 4, 42, 180, 0, 7, 16, 11, 46]
abbrev dktX2_hear_5 : List UInt8 := dkwX2_hear_5 ++ dktX2_hear_6
def dkwX2_hear_4 : List UInt8 := [46, 42, 180, 0, 7, 16, 15, 46, 182, 1, 103, 167, 0, 4, 3, 62, 17, 4, 158, 5, 42, 180, 0, 7]
abbrev dktX2_hear_4 : List UInt8 := dkwX2_hear_4 ++ dktX2_hear_5
def dkwX2_hear_3 : List UInt8 := [46, 42, 180, 0, 7, 16, 15, 46, 182, 1, 100, 61, 28, 153, 0, 25, 42, 27, 42, 180, 0, 7, 16, 14]
abbrev dktX2_hear_3 : List UInt8 := dkwX2_hear_3 ++ dktX2_hear_4
def dkwX2_hear_2 : List UInt8 := [5, 182, 0, 82, 42, 180, 0, 7, 16, 16, 46, 96, 159, 0, 4, 177, 42, 27, 42, 180, 0, 7, 16, 14]
abbrev dktX2_hear_2 : List UInt8 := dkwX2_hear_2 ++ dktX2_hear_3
def dkwX2_hear_1 : List UInt8 := [16, 15, 92, 46, 4, 42, 180, 0, 7, 16, 8, 46, 120, 128, 79, 42, 180, 0, 7, 16, 14, 46, 42, 27]
abbrev dktX2_hear_1 : List UInt8 := dkwX2_hear_1 ++ dktX2_hear_2
def dkwX2_hear_0 : List UInt8 := [42, 180, 0, 7, 16, 13, 46, 60, 42, 180, 0, 7, 16, 14, 92, 46, 4, 96, 79, 42, 180, 0, 7]
abbrev dktX2_hear_0 : List UInt8 := dkwX2_hear_0 ++ dktX2_hear_1
theorem dksX2_hear_0 : cX2_hear.data.toList.drop 0 = dktX2_hear_0 := by decide +kernel
theorem dksX2_hear_1 : cX2_hear.data.toList.drop 23 = dktX2_hear_1 := dk_seg dksX2_hear_0 23 rfl rfl
theorem dksX2_hear_2 : cX2_hear.data.toList.drop 47 = dktX2_hear_2 := dk_seg dksX2_hear_1 24 rfl rfl
theorem dksX2_hear_3 : cX2_hear.data.toList.drop 71 = dktX2_hear_3 := dk_seg dksX2_hear_2 24 rfl rfl
theorem dksX2_hear_4 : cX2_hear.data.toList.drop 95 = dktX2_hear_4 := dk_seg dksX2_hear_3 24 rfl rfl
theorem dksX2_hear_5 : cX2_hear.data.toList.drop 119 = dktX2_hear_5 := dk_seg dksX2_hear_4 24 rfl rfl
theorem dksX2_hear_6 : cX2_hear.data.toList.drop 143 = dktX2_hear_6 := dk_seg dksX2_hear_5 24 rfl rfl
theorem dksX2_hear_7 : cX2_hear.data.toList.drop 167 = dktX2_hear_7 := dk_seg dksX2_hear_6 24 rfl rfl
theorem dksX2_hear_8 : cX2_hear.data.toList.drop 189 = dktX2_hear_8 := dk_seg dksX2_hear_7 22 rfl rfl
theorem dX2_hear_0 : decode cX2_hear 0 = .ok (.aload_n 0, 1) := dk_42 (dk_at dksX2_hear_0 0 rfl rfl)
theorem dX2_hear_1 : decode cX2_hear 1 = .ok (.getfield 7, 3) := dk_180 0 7 (dk_at dksX2_hear_0 1 rfl rfl)
theorem dX2_hear_4 : decode cX2_hear 4 = .ok (.bipush 13, 2) := dk_16 13 (dk_at dksX2_hear_0 4 rfl rfl)
theorem dX2_hear_6 : decode cX2_hear 6 = .ok (.iaload, 1) := dk_46 (dk_at dksX2_hear_0 6 rfl rfl)
theorem dX2_hear_7 : decode cX2_hear 7 = .ok (.istore_n 1, 1) := dk_60 (dk_at dksX2_hear_0 7 rfl rfl)
theorem dX2_hear_8 : decode cX2_hear 8 = .ok (.aload_n 0, 1) := dk_42 (dk_at dksX2_hear_0 8 rfl rfl)
theorem dX2_hear_9 : decode cX2_hear 9 = .ok (.getfield 7, 3) := dk_180 0 7 (dk_at dksX2_hear_0 9 rfl rfl)
theorem dX2_hear_12 : decode cX2_hear 12 = .ok (.bipush 14, 2) := dk_16 14 (dk_at dksX2_hear_0 12 rfl rfl)
theorem dX2_hear_14 : decode cX2_hear 14 = .ok (.dup2, 1) := dk_92 (dk_at dksX2_hear_0 14 rfl rfl)
theorem dX2_hear_15 : decode cX2_hear 15 = .ok (.iaload, 1) := dk_46 (dk_at dksX2_hear_0 15 rfl rfl)
theorem dX2_hear_16 : decode cX2_hear 16 = .ok (.iconst 1, 1) := dk_4 (dk_at dksX2_hear_0 16 rfl rfl)
theorem dX2_hear_17 : decode cX2_hear 17 = .ok (.iadd, 1) := dk_96 (dk_at dksX2_hear_0 17 rfl rfl)
theorem dX2_hear_18 : decode cX2_hear 18 = .ok (.iastore, 1) := dk_79 (dk_at dksX2_hear_0 18 rfl rfl)
theorem dX2_hear_19 : decode cX2_hear 19 = .ok (.aload_n 0, 1) := dk_42 (dk_at dksX2_hear_0 19 rfl rfl)
theorem dX2_hear_20 : decode cX2_hear 20 = .ok (.getfield 7, 3) := dk_180 0 7 (dk_at dksX2_hear_0 20 rfl rfl)
theorem dX2_hear_23 : decode cX2_hear 23 = .ok (.bipush 15, 2) := dk_16 15 (dk_at dksX2_hear_1 0 rfl rfl)
theorem dX2_hear_25 : decode cX2_hear 25 = .ok (.dup2, 1) := dk_92 (dk_at dksX2_hear_1 2 rfl rfl)
theorem dX2_hear_26 : decode cX2_hear 26 = .ok (.iaload, 1) := dk_46 (dk_at dksX2_hear_1 3 rfl rfl)
theorem dX2_hear_27 : decode cX2_hear 27 = .ok (.iconst 1, 1) := dk_4 (dk_at dksX2_hear_1 4 rfl rfl)
theorem dX2_hear_28 : decode cX2_hear 28 = .ok (.aload_n 0, 1) := dk_42 (dk_at dksX2_hear_1 5 rfl rfl)
theorem dX2_hear_29 : decode cX2_hear 29 = .ok (.getfield 7, 3) := dk_180 0 7 (dk_at dksX2_hear_1 6 rfl rfl)
theorem dX2_hear_32 : decode cX2_hear 32 = .ok (.bipush 8, 2) := dk_16 8 (dk_at dksX2_hear_1 9 rfl rfl)
theorem dX2_hear_34 : decode cX2_hear 34 = .ok (.iaload, 1) := dk_46 (dk_at dksX2_hear_1 11 rfl rfl)
theorem dX2_hear_35 : decode cX2_hear 35 = .ok (.ishl, 1) := dk_120 (dk_at dksX2_hear_1 12 rfl rfl)
theorem dX2_hear_36 : decode cX2_hear 36 = .ok (.ior, 1) := dk_128 (dk_at dksX2_hear_1 13 rfl rfl)
theorem dX2_hear_37 : decode cX2_hear 37 = .ok (.iastore, 1) := dk_79 (dk_at dksX2_hear_1 14 rfl rfl)
theorem dX2_hear_38 : decode cX2_hear 38 = .ok (.aload_n 0, 1) := dk_42 (dk_at dksX2_hear_1 15 rfl rfl)
theorem dX2_hear_39 : decode cX2_hear 39 = .ok (.getfield 7, 3) := dk_180 0 7 (dk_at dksX2_hear_1 16 rfl rfl)
theorem dX2_hear_42 : decode cX2_hear 42 = .ok (.bipush 14, 2) := dk_16 14 (dk_at dksX2_hear_1 19 rfl rfl)
theorem dX2_hear_44 : decode cX2_hear 44 = .ok (.iaload, 1) := dk_46 (dk_at dksX2_hear_1 21 rfl rfl)
theorem dX2_hear_45 : decode cX2_hear 45 = .ok (.aload_n 0, 1) := dk_42 (dk_at dksX2_hear_1 22 rfl rfl)
theorem dX2_hear_46 : decode cX2_hear 46 = .ok (.iload_n 1, 1) := dk_27 (dk_at dksX2_hear_1 23 rfl rfl)
theorem dX2_hear_47 : decode cX2_hear 47 = .ok (.iconst 2, 1) := dk_5 (dk_at dksX2_hear_2 0 rfl rfl)
theorem dX2_hear_48 : decode cX2_hear 48 = .ok (.invokevirtual 82, 3) := dk_182 0 82 (dk_at dksX2_hear_2 1 rfl rfl)
theorem dX2_hear_51 : decode cX2_hear 51 = .ok (.aload_n 0, 1) := dk_42 (dk_at dksX2_hear_2 4 rfl rfl)
theorem dX2_hear_52 : decode cX2_hear 52 = .ok (.getfield 7, 3) := dk_180 0 7 (dk_at dksX2_hear_2 5 rfl rfl)
theorem dX2_hear_55 : decode cX2_hear 55 = .ok (.bipush 16, 2) := dk_16 16 (dk_at dksX2_hear_2 8 rfl rfl)
theorem dX2_hear_57 : decode cX2_hear 57 = .ok (.iaload, 1) := dk_46 (dk_at dksX2_hear_2 10 rfl rfl)
theorem dX2_hear_58 : decode cX2_hear 58 = .ok (.iadd, 1) := dk_96 (dk_at dksX2_hear_2 11 rfl rfl)
theorem dX2_hear_59 : decode cX2_hear 59 = .ok (.if_icmp .eq 4, 3) := dk_159 0 4 (dk_at dksX2_hear_2 12 rfl rfl)
theorem dX2_hear_62 : decode cX2_hear 62 = .ok (.return_, 1) := dk_177 (dk_at dksX2_hear_2 15 rfl rfl)
theorem dX2_hear_63 : decode cX2_hear 63 = .ok (.aload_n 0, 1) := dk_42 (dk_at dksX2_hear_2 16 rfl rfl)
theorem dX2_hear_64 : decode cX2_hear 64 = .ok (.iload_n 1, 1) := dk_27 (dk_at dksX2_hear_2 17 rfl rfl)
theorem dX2_hear_65 : decode cX2_hear 65 = .ok (.aload_n 0, 1) := dk_42 (dk_at dksX2_hear_2 18 rfl rfl)
theorem dX2_hear_66 : decode cX2_hear 66 = .ok (.getfield 7, 3) := dk_180 0 7 (dk_at dksX2_hear_2 19 rfl rfl)
theorem dX2_hear_69 : decode cX2_hear 69 = .ok (.bipush 14, 2) := dk_16 14 (dk_at dksX2_hear_2 22 rfl rfl)
theorem dX2_hear_71 : decode cX2_hear 71 = .ok (.iaload, 1) := dk_46 (dk_at dksX2_hear_3 0 rfl rfl)
theorem dX2_hear_72 : decode cX2_hear 72 = .ok (.aload_n 0, 1) := dk_42 (dk_at dksX2_hear_3 1 rfl rfl)
theorem dX2_hear_73 : decode cX2_hear 73 = .ok (.getfield 7, 3) := dk_180 0 7 (dk_at dksX2_hear_3 2 rfl rfl)
theorem dX2_hear_76 : decode cX2_hear 76 = .ok (.bipush 15, 2) := dk_16 15 (dk_at dksX2_hear_3 5 rfl rfl)
theorem dX2_hear_78 : decode cX2_hear 78 = .ok (.iaload, 1) := dk_46 (dk_at dksX2_hear_3 7 rfl rfl)
theorem dX2_hear_79 : decode cX2_hear 79 = .ok (.invokevirtual 356, 3) := dk_182 1 100 (dk_at dksX2_hear_3 8 rfl rfl)
theorem dX2_hear_82 : decode cX2_hear 82 = .ok (.istore_n 2, 1) := dk_61 (dk_at dksX2_hear_3 11 rfl rfl)
theorem dX2_hear_83 : decode cX2_hear 83 = .ok (.iload_n 2, 1) := dk_28 (dk_at dksX2_hear_3 12 rfl rfl)
theorem dX2_hear_84 : decode cX2_hear 84 = .ok (.ifCond .eq 25, 3) := dk_153 0 25 (dk_at dksX2_hear_3 13 rfl rfl)
theorem dX2_hear_87 : decode cX2_hear 87 = .ok (.aload_n 0, 1) := dk_42 (dk_at dksX2_hear_3 16 rfl rfl)
theorem dX2_hear_88 : decode cX2_hear 88 = .ok (.iload_n 1, 1) := dk_27 (dk_at dksX2_hear_3 17 rfl rfl)
theorem dX2_hear_89 : decode cX2_hear 89 = .ok (.aload_n 0, 1) := dk_42 (dk_at dksX2_hear_3 18 rfl rfl)
theorem dX2_hear_90 : decode cX2_hear 90 = .ok (.getfield 7, 3) := dk_180 0 7 (dk_at dksX2_hear_3 19 rfl rfl)
theorem dX2_hear_93 : decode cX2_hear 93 = .ok (.bipush 14, 2) := dk_16 14 (dk_at dksX2_hear_3 22 rfl rfl)
theorem dX2_hear_95 : decode cX2_hear 95 = .ok (.iaload, 1) := dk_46 (dk_at dksX2_hear_4 0 rfl rfl)
theorem dX2_hear_96 : decode cX2_hear 96 = .ok (.aload_n 0, 1) := dk_42 (dk_at dksX2_hear_4 1 rfl rfl)
theorem dX2_hear_97 : decode cX2_hear 97 = .ok (.getfield 7, 3) := dk_180 0 7 (dk_at dksX2_hear_4 2 rfl rfl)
theorem dX2_hear_100 : decode cX2_hear 100 = .ok (.bipush 15, 2) := dk_16 15 (dk_at dksX2_hear_4 5 rfl rfl)
theorem dX2_hear_102 : decode cX2_hear 102 = .ok (.iaload, 1) := dk_46 (dk_at dksX2_hear_4 7 rfl rfl)
theorem dX2_hear_103 : decode cX2_hear 103 = .ok (.invokevirtual 359, 3) := dk_182 1 103 (dk_at dksX2_hear_4 8 rfl rfl)
theorem dX2_hear_106 : decode cX2_hear 106 = .ok (.goto 4, 3) := dk_167 0 4 (dk_at dksX2_hear_4 11 rfl rfl)
theorem dX2_hear_109 : decode cX2_hear 109 = .ok (.iconst 0, 1) := dk_3 (dk_at dksX2_hear_4 14 rfl rfl)
theorem dX2_hear_110 : decode cX2_hear 110 = .ok (.istore_n 3, 1) := dk_62 (dk_at dksX2_hear_4 15 rfl rfl)
theorem dX2_hear_111 : decode cX2_hear 111 = .ok (.sipush 1182, 3) := dk_17 4 158 (dk_at dksX2_hear_4 16 rfl rfl)
theorem dX2_hear_114 : decode cX2_hear 114 = .ok (.iconst 2, 1) := dk_5 (dk_at dksX2_hear_4 19 rfl rfl)
theorem dX2_hear_115 : decode cX2_hear 115 = .ok (.aload_n 0, 1) := dk_42 (dk_at dksX2_hear_4 20 rfl rfl)
theorem dX2_hear_116 : decode cX2_hear 116 = .ok (.getfield 7, 3) := dk_180 0 7 (dk_at dksX2_hear_4 21 rfl rfl)
theorem dX2_hear_119 : decode cX2_hear 119 = .ok (.bipush 17, 2) := dk_16 17 (dk_at dksX2_hear_5 0 rfl rfl)
theorem dX2_hear_121 : decode cX2_hear 121 = .ok (.iaload, 1) := dk_46 (dk_at dksX2_hear_5 2 rfl rfl)
theorem dX2_hear_122 : decode cX2_hear 122 = .ok (.sipush 1230, 3) := dk_17 4 206 (dk_at dksX2_hear_5 3 rfl rfl)
theorem dX2_hear_125 : decode cX2_hear 125 = .ok (.irem, 1) := dk_112 (dk_at dksX2_hear_5 6 rfl rfl)
theorem dX2_hear_126 : decode cX2_hear 126 = .ok (.imul, 1) := dk_104 (dk_at dksX2_hear_5 7 rfl rfl)
theorem dX2_hear_127 : decode cX2_hear 127 = .ok (.iadd, 1) := dk_96 (dk_at dksX2_hear_5 8 rfl rfl)
theorem dX2_hear_128 : decode cX2_hear 128 = .ok (.istore 4, 2) := dk_54 4 (dk_at dksX2_hear_5 9 rfl rfl)
theorem dX2_hear_130 : decode cX2_hear 130 = .ok (.aload_n 0, 1) := dk_42 (dk_at dksX2_hear_5 11 rfl rfl)
theorem dX2_hear_131 : decode cX2_hear 131 = .ok (.getfield 7, 3) := dk_180 0 7 (dk_at dksX2_hear_5 12 rfl rfl)
theorem dX2_hear_134 : decode cX2_hear 134 = .ok (.iload 4, 2) := dk_21 4 (dk_at dksX2_hear_5 15 rfl rfl)
theorem dX2_hear_136 : decode cX2_hear 136 = .ok (.aload_n 0, 1) := dk_42 (dk_at dksX2_hear_5 17 rfl rfl)
theorem dX2_hear_137 : decode cX2_hear 137 = .ok (.getfield 7, 3) := dk_180 0 7 (dk_at dksX2_hear_5 18 rfl rfl)
theorem dX2_hear_140 : decode cX2_hear 140 = .ok (.bipush 11, 2) := dk_16 11 (dk_at dksX2_hear_5 21 rfl rfl)
theorem dX2_hear_142 : decode cX2_hear 142 = .ok (.iaload, 1) := dk_46 (dk_at dksX2_hear_5 23 rfl rfl)
theorem dX2_hear_143 : decode cX2_hear 143 = .ok (.bipush 8, 2) := dk_16 8 (dk_at dksX2_hear_6 0 rfl rfl)
theorem dX2_hear_145 : decode cX2_hear 145 = .ok (.imul, 1) := dk_104 (dk_at dksX2_hear_6 2 rfl rfl)
theorem dX2_hear_146 : decode cX2_hear 146 = .ok (.iload_n 1, 1) := dk_27 (dk_at dksX2_hear_6 3 rfl rfl)
theorem dX2_hear_147 : decode cX2_hear 147 = .ok (.iadd, 1) := dk_96 (dk_at dksX2_hear_6 4 rfl rfl)
theorem dX2_hear_148 : decode cX2_hear 148 = .ok (.iastore, 1) := dk_79 (dk_at dksX2_hear_6 5 rfl rfl)
theorem dX2_hear_149 : decode cX2_hear 149 = .ok (.aload_n 0, 1) := dk_42 (dk_at dksX2_hear_6 6 rfl rfl)
theorem dX2_hear_150 : decode cX2_hear 150 = .ok (.getfield 7, 3) := dk_180 0 7 (dk_at dksX2_hear_6 7 rfl rfl)
theorem dX2_hear_153 : decode cX2_hear 153 = .ok (.iload 4, 2) := dk_21 4 (dk_at dksX2_hear_6 10 rfl rfl)
theorem dX2_hear_155 : decode cX2_hear 155 = .ok (.iconst 1, 1) := dk_4 (dk_at dksX2_hear_6 12 rfl rfl)
theorem dX2_hear_156 : decode cX2_hear 156 = .ok (.iadd, 1) := dk_96 (dk_at dksX2_hear_6 13 rfl rfl)
theorem dX2_hear_157 : decode cX2_hear 157 = .ok (.iload_n 2, 1) := dk_28 (dk_at dksX2_hear_6 14 rfl rfl)
theorem dX2_hear_158 : decode cX2_hear 158 = .ok (.ifCond .eq 9, 3) := dk_153 0 9 (dk_at dksX2_hear_6 15 rfl rfl)
theorem dX2_hear_161 : decode cX2_hear 161 = .ok (.sipush 1000, 3) := dk_17 3 232 (dk_at dksX2_hear_6 18 rfl rfl)
theorem dX2_hear_164 : decode cX2_hear 164 = .ok (.goto 4, 3) := dk_167 0 4 (dk_at dksX2_hear_6 21 rfl rfl)
theorem dX2_hear_167 : decode cX2_hear 167 = .ok (.iconst 0, 1) := dk_3 (dk_at dksX2_hear_7 0 rfl rfl)
theorem dX2_hear_168 : decode cX2_hear 168 = .ok (.iload_n 3, 1) := dk_29 (dk_at dksX2_hear_7 1 rfl rfl)
theorem dX2_hear_169 : decode cX2_hear 169 = .ok (.iadd, 1) := dk_96 (dk_at dksX2_hear_7 2 rfl rfl)
theorem dX2_hear_170 : decode cX2_hear 170 = .ok (.iastore, 1) := dk_79 (dk_at dksX2_hear_7 3 rfl rfl)
theorem dX2_hear_171 : decode cX2_hear 171 = .ok (.aload_n 0, 1) := dk_42 (dk_at dksX2_hear_7 4 rfl rfl)
theorem dX2_hear_172 : decode cX2_hear 172 = .ok (.getfield 7, 3) := dk_180 0 7 (dk_at dksX2_hear_7 5 rfl rfl)
theorem dX2_hear_175 : decode cX2_hear 175 = .ok (.bipush 17, 2) := dk_16 17 (dk_at dksX2_hear_7 8 rfl rfl)
theorem dX2_hear_177 : decode cX2_hear 177 = .ok (.dup2, 1) := dk_92 (dk_at dksX2_hear_7 10 rfl rfl)
theorem dX2_hear_178 : decode cX2_hear 178 = .ok (.iaload, 1) := dk_46 (dk_at dksX2_hear_7 11 rfl rfl)
theorem dX2_hear_179 : decode cX2_hear 179 = .ok (.iconst 1, 1) := dk_4 (dk_at dksX2_hear_7 12 rfl rfl)
theorem dX2_hear_180 : decode cX2_hear 180 = .ok (.iadd, 1) := dk_96 (dk_at dksX2_hear_7 13 rfl rfl)
theorem dX2_hear_181 : decode cX2_hear 181 = .ok (.iastore, 1) := dk_79 (dk_at dksX2_hear_7 14 rfl rfl)
theorem dX2_hear_182 : decode cX2_hear 182 = .ok (.aload_n 0, 1) := dk_42 (dk_at dksX2_hear_7 15 rfl rfl)
theorem dX2_hear_183 : decode cX2_hear 183 = .ok (.dup, 1) := dk_89 (dk_at dksX2_hear_7 16 rfl rfl)
theorem dX2_hear_184 : decode cX2_hear 184 = .ok (.getfield 362, 3) := dk_180 1 106 (dk_at dksX2_hear_7 17 rfl rfl)
theorem dX2_hear_187 : decode cX2_hear 187 = .ok (.iconst 1, 1) := dk_4 (dk_at dksX2_hear_7 20 rfl rfl)
theorem dX2_hear_188 : decode cX2_hear 188 = .ok (.iadd, 1) := dk_96 (dk_at dksX2_hear_7 21 rfl rfl)
theorem dX2_hear_189 : decode cX2_hear 189 = .ok (.putfield 362, 3) := dk_181 1 106 (dk_at dksX2_hear_8 0 rfl rfl)
theorem dX2_hear_192 : decode cX2_hear 192 = .ok (.aload_n 0, 1) := dk_42 (dk_at dksX2_hear_8 3 rfl rfl)
theorem dX2_hear_193 : decode cX2_hear 193 = .ok (.iload_n 2, 1) := dk_28 (dk_at dksX2_hear_8 4 rfl rfl)
theorem dX2_hear_194 : decode cX2_hear 194 = .ok (.ifCond .eq 7, 3) := dk_153 0 7 (dk_at dksX2_hear_8 5 rfl rfl)
theorem dX2_hear_197 : decode cX2_hear 197 = .ok (.iconst 3, 1) := dk_6 (dk_at dksX2_hear_8 8 rfl rfl)
theorem dX2_hear_198 : decode cX2_hear 198 = .ok (.goto 4, 3) := dk_167 0 4 (dk_at dksX2_hear_8 9 rfl rfl)
theorem dX2_hear_201 : decode cX2_hear 201 = .ok (.iconst 2, 1) := dk_5 (dk_at dksX2_hear_8 12 rfl rfl)
theorem dX2_hear_202 : decode cX2_hear 202 = .ok (.iload_n 3, 1) := dk_29 (dk_at dksX2_hear_8 13 rfl rfl)
theorem dX2_hear_203 : decode cX2_hear 203 = .ok (.invokevirtual 365, 3) := dk_182 1 109 (dk_at dksX2_hear_8 14 rfl rfl)
theorem dX2_hear_206 : decode cX2_hear 206 = .ok (.return_, 1) := dk_177 (dk_at dksX2_hear_8 17 rfl rfl)
abbrev cX2_isFound : ByteArray := prog_20_method_77_code
def yX2_isFound : MethodName := ⟨RX2, "isFound", "(III)Z"⟩
def dkwX2_isFound_2 : List UInt8 := [132, 5, 1, 167, 255, 212, 21, 4, 153, 0, 14, 42, 182, 1, 97, 154, 0, 7, 4, 167, 0, 4, 3, 172]
abbrev dktX2_isFound_2 : List UInt8 := dkwX2_isFound_2 ++ []
def dkwX2_isFound_1 : List UInt8 := [180, 0, 7, 5, 46, 21, 5, 27, 28, 42, 27, 6, 182, 0, 82, 182, 1, 93, 153, 0, 6, 4, 54, 4]
abbrev dktX2_isFound_1 : List UInt8 := dkwX2_isFound_1 ++ dktX2_isFound_2
def dkwX2_isFound_0 : List UInt8 := [3, 54, 4, 3, 54, 5, 21, 5, 7, 162, 0, 44, 29, 21, 5, 184, 0, 255, 153, 0, 29, 42, 42]
abbrev dktX2_isFound_0 : List UInt8 := dkwX2_isFound_0 ++ dktX2_isFound_1
theorem dksX2_isFound_0 : cX2_isFound.data.toList.drop 0 = dktX2_isFound_0 := by decide +kernel
theorem dksX2_isFound_1 : cX2_isFound.data.toList.drop 23 = dktX2_isFound_1 := dk_seg dksX2_isFound_0 23 rfl rfl
theorem dksX2_isFound_2 : cX2_isFound.data.toList.drop 47 = dktX2_isFound_2 := dk_seg dksX2_isFound_1 24 rfl rfl
theorem dX2_isFound_0 : decode cX2_isFound 0 = .ok (.iconst 0, 1) := dk_3 (dk_at dksX2_isFound_0 0 rfl rfl)
theorem dX2_isFound_1 : decode cX2_isFound 1 = .ok (.istore 4, 2) := dk_54 4 (dk_at dksX2_isFound_0 1 rfl rfl)
theorem dX2_isFound_3 : decode cX2_isFound 3 = .ok (.iconst 0, 1) := dk_3 (dk_at dksX2_isFound_0 3 rfl rfl)
theorem dX2_isFound_4 : decode cX2_isFound 4 = .ok (.istore 5, 2) := dk_54 5 (dk_at dksX2_isFound_0 4 rfl rfl)
theorem dX2_isFound_6 : decode cX2_isFound 6 = .ok (.iload 5, 2) := dk_21 5 (dk_at dksX2_isFound_0 6 rfl rfl)
theorem dX2_isFound_8 : decode cX2_isFound 8 = .ok (.iconst 4, 1) := dk_7 (dk_at dksX2_isFound_0 8 rfl rfl)
theorem dX2_isFound_9 : decode cX2_isFound 9 = .ok (.if_icmp .ge 44, 3) := dk_162 0 44 (dk_at dksX2_isFound_0 9 rfl rfl)
theorem dX2_isFound_12 : decode cX2_isFound 12 = .ok (.iload_n 3, 1) := dk_29 (dk_at dksX2_isFound_0 12 rfl rfl)
theorem dX2_isFound_13 : decode cX2_isFound 13 = .ok (.iload 5, 2) := dk_21 5 (dk_at dksX2_isFound_0 13 rfl rfl)
theorem dX2_isFound_15 : decode cX2_isFound 15 = .ok (.invokestatic 255, 3) := dk_184 0 255 (dk_at dksX2_isFound_0 15 rfl rfl)
theorem dX2_isFound_18 : decode cX2_isFound 18 = .ok (.ifCond .eq 29, 3) := dk_153 0 29 (dk_at dksX2_isFound_0 18 rfl rfl)
theorem dX2_isFound_21 : decode cX2_isFound 21 = .ok (.aload_n 0, 1) := dk_42 (dk_at dksX2_isFound_0 21 rfl rfl)
theorem dX2_isFound_22 : decode cX2_isFound 22 = .ok (.aload_n 0, 1) := dk_42 (dk_at dksX2_isFound_0 22 rfl rfl)
theorem dX2_isFound_23 : decode cX2_isFound 23 = .ok (.getfield 7, 3) := dk_180 0 7 (dk_at dksX2_isFound_1 0 rfl rfl)
theorem dX2_isFound_26 : decode cX2_isFound 26 = .ok (.iconst 2, 1) := dk_5 (dk_at dksX2_isFound_1 3 rfl rfl)
theorem dX2_isFound_27 : decode cX2_isFound 27 = .ok (.iaload, 1) := dk_46 (dk_at dksX2_isFound_1 4 rfl rfl)
theorem dX2_isFound_28 : decode cX2_isFound 28 = .ok (.iload 5, 2) := dk_21 5 (dk_at dksX2_isFound_1 5 rfl rfl)
theorem dX2_isFound_30 : decode cX2_isFound 30 = .ok (.iload_n 1, 1) := dk_27 (dk_at dksX2_isFound_1 7 rfl rfl)
theorem dX2_isFound_31 : decode cX2_isFound 31 = .ok (.iload_n 2, 1) := dk_28 (dk_at dksX2_isFound_1 8 rfl rfl)
theorem dX2_isFound_32 : decode cX2_isFound 32 = .ok (.aload_n 0, 1) := dk_42 (dk_at dksX2_isFound_1 9 rfl rfl)
theorem dX2_isFound_33 : decode cX2_isFound 33 = .ok (.iload_n 1, 1) := dk_27 (dk_at dksX2_isFound_1 10 rfl rfl)
theorem dX2_isFound_34 : decode cX2_isFound 34 = .ok (.iconst 3, 1) := dk_6 (dk_at dksX2_isFound_1 11 rfl rfl)
theorem dX2_isFound_35 : decode cX2_isFound 35 = .ok (.invokevirtual 82, 3) := dk_182 0 82 (dk_at dksX2_isFound_1 12 rfl rfl)
theorem dX2_isFound_38 : decode cX2_isFound 38 = .ok (.invokevirtual 349, 3) := dk_182 1 93 (dk_at dksX2_isFound_1 15 rfl rfl)
theorem dX2_isFound_41 : decode cX2_isFound 41 = .ok (.ifCond .eq 6, 3) := dk_153 0 6 (dk_at dksX2_isFound_1 18 rfl rfl)
theorem dX2_isFound_44 : decode cX2_isFound 44 = .ok (.iconst 1, 1) := dk_4 (dk_at dksX2_isFound_1 21 rfl rfl)
theorem dX2_isFound_45 : decode cX2_isFound 45 = .ok (.istore 4, 2) := dk_54 4 (dk_at dksX2_isFound_1 22 rfl rfl)
theorem dX2_isFound_47 : decode cX2_isFound 47 = .ok (.iinc 5 1, 3) := dk_132 5 1 (dk_at dksX2_isFound_2 0 rfl rfl)
theorem dX2_isFound_50 : decode cX2_isFound 50 = .ok (.goto (-44), 3) := dk_167 255 212 (dk_at dksX2_isFound_2 3 rfl rfl)
theorem dX2_isFound_53 : decode cX2_isFound 53 = .ok (.iload 4, 2) := dk_21 4 (dk_at dksX2_isFound_2 6 rfl rfl)
theorem dX2_isFound_55 : decode cX2_isFound 55 = .ok (.ifCond .eq 14, 3) := dk_153 0 14 (dk_at dksX2_isFound_2 8 rfl rfl)
theorem dX2_isFound_58 : decode cX2_isFound 58 = .ok (.aload_n 0, 1) := dk_42 (dk_at dksX2_isFound_2 11 rfl rfl)
theorem dX2_isFound_59 : decode cX2_isFound 59 = .ok (.invokevirtual 353, 3) := dk_182 1 97 (dk_at dksX2_isFound_2 12 rfl rfl)
theorem dX2_isFound_62 : decode cX2_isFound 62 = .ok (.ifCond .ne 7, 3) := dk_154 0 7 (dk_at dksX2_isFound_2 15 rfl rfl)
theorem dX2_isFound_65 : decode cX2_isFound 65 = .ok (.iconst 1, 1) := dk_4 (dk_at dksX2_isFound_2 18 rfl rfl)
theorem dX2_isFound_66 : decode cX2_isFound 66 = .ok (.goto 4, 3) := dk_167 0 4 (dk_at dksX2_isFound_2 19 rfl rfl)
theorem dX2_isFound_69 : decode cX2_isFound 69 = .ok (.iconst 0, 1) := dk_3 (dk_at dksX2_isFound_2 22 rfl rfl)
theorem dX2_isFound_70 : decode cX2_isFound 70 = .ok (.ireturn, 1) := dk_172 (dk_at dksX2_isFound_2 23 rfl rfl)
abbrev cX2_isGuilty : ByteArray := prog_20_method_71_code
def yX2_isGuilty : MethodName := ⟨RX2, "isGuilty", "(IIIII)Z"⟩
def dkwX2_isGuilty_3 : List UInt8 := [51, 172]
abbrev dktX2_isGuilty_3 : List UInt8 := dkwX2_isGuilty_3 ++ []
def dkwX2_isGuilty_2 : List UInt8 := [180, 0, 35, 4, 28, 79, 42, 21, 5, 181, 1, 49, 42, 27, 21, 6, 182, 1, 70, 42, 180, 0, 42, 3]
abbrev dktX2_isGuilty_2 : List UInt8 := dkwX2_isGuilty_2 ++ dktX2_isGuilty_3
def dkwX2_isGuilty_1 : List UInt8 := [21, 5, 3, 184, 0, 255, 153, 0, 7, 4, 167, 0, 4, 3, 172, 42, 29, 21, 4, 182, 1, 80, 42]
abbrev dktX2_isGuilty_1 : List UInt8 := dkwX2_isGuilty_1 ++ dktX2_isGuilty_2
def dkwX2_isGuilty_0 : List UInt8 := [42, 27, 7, 28, 182, 1, 67, 54, 6, 21, 6, 156, 0, 28, 42, 29, 4, 182, 0, 82, 28, 164, 0, 16]
abbrev dktX2_isGuilty_0 : List UInt8 := dkwX2_isGuilty_0 ++ dktX2_isGuilty_1
theorem dksX2_isGuilty_0 : cX2_isGuilty.data.toList.drop 0 = dktX2_isGuilty_0 := by decide +kernel
theorem dksX2_isGuilty_1 : cX2_isGuilty.data.toList.drop 24 = dktX2_isGuilty_1 := dk_seg dksX2_isGuilty_0 24 rfl rfl
theorem dksX2_isGuilty_2 : cX2_isGuilty.data.toList.drop 47 = dktX2_isGuilty_2 := dk_seg dksX2_isGuilty_1 23 rfl rfl
theorem dksX2_isGuilty_3 : cX2_isGuilty.data.toList.drop 71 = dktX2_isGuilty_3 := dk_seg dksX2_isGuilty_2 24 rfl rfl
theorem dX2_isGuilty_0 : decode cX2_isGuilty 0 = .ok (.aload_n 0, 1) := dk_42 (dk_at dksX2_isGuilty_0 0 rfl rfl)
theorem dX2_isGuilty_1 : decode cX2_isGuilty 1 = .ok (.iload_n 1, 1) := dk_27 (dk_at dksX2_isGuilty_0 1 rfl rfl)
theorem dX2_isGuilty_2 : decode cX2_isGuilty 2 = .ok (.iconst 4, 1) := dk_7 (dk_at dksX2_isGuilty_0 2 rfl rfl)
theorem dX2_isGuilty_3 : decode cX2_isGuilty 3 = .ok (.iload_n 2, 1) := dk_28 (dk_at dksX2_isGuilty_0 3 rfl rfl)
theorem dX2_isGuilty_4 : decode cX2_isGuilty 4 = .ok (.invokevirtual 323, 3) := dk_182 1 67 (dk_at dksX2_isGuilty_0 4 rfl rfl)
theorem dX2_isGuilty_7 : decode cX2_isGuilty 7 = .ok (.istore 6, 2) := dk_54 6 (dk_at dksX2_isGuilty_0 7 rfl rfl)
theorem dX2_isGuilty_9 : decode cX2_isGuilty 9 = .ok (.iload 6, 2) := dk_21 6 (dk_at dksX2_isGuilty_0 9 rfl rfl)
theorem dX2_isGuilty_11 : decode cX2_isGuilty 11 = .ok (.ifCond .ge 28, 3) := dk_156 0 28 (dk_at dksX2_isGuilty_0 11 rfl rfl)
theorem dX2_isGuilty_14 : decode cX2_isGuilty 14 = .ok (.aload_n 0, 1) := dk_42 (dk_at dksX2_isGuilty_0 14 rfl rfl)
theorem dX2_isGuilty_15 : decode cX2_isGuilty 15 = .ok (.iload_n 3, 1) := dk_29 (dk_at dksX2_isGuilty_0 15 rfl rfl)
theorem dX2_isGuilty_16 : decode cX2_isGuilty 16 = .ok (.iconst 1, 1) := dk_4 (dk_at dksX2_isGuilty_0 16 rfl rfl)
theorem dX2_isGuilty_17 : decode cX2_isGuilty 17 = .ok (.invokevirtual 82, 3) := dk_182 0 82 (dk_at dksX2_isGuilty_0 17 rfl rfl)
theorem dX2_isGuilty_20 : decode cX2_isGuilty 20 = .ok (.iload_n 2, 1) := dk_28 (dk_at dksX2_isGuilty_0 20 rfl rfl)
theorem dX2_isGuilty_21 : decode cX2_isGuilty 21 = .ok (.if_icmp .le 16, 3) := dk_164 0 16 (dk_at dksX2_isGuilty_0 21 rfl rfl)
theorem dX2_isGuilty_24 : decode cX2_isGuilty 24 = .ok (.iload 5, 2) := dk_21 5 (dk_at dksX2_isGuilty_1 0 rfl rfl)
theorem dX2_isGuilty_26 : decode cX2_isGuilty 26 = .ok (.iconst 0, 1) := dk_3 (dk_at dksX2_isGuilty_1 2 rfl rfl)
theorem dX2_isGuilty_27 : decode cX2_isGuilty 27 = .ok (.invokestatic 255, 3) := dk_184 0 255 (dk_at dksX2_isGuilty_1 3 rfl rfl)
theorem dX2_isGuilty_30 : decode cX2_isGuilty 30 = .ok (.ifCond .eq 7, 3) := dk_153 0 7 (dk_at dksX2_isGuilty_1 6 rfl rfl)
theorem dX2_isGuilty_33 : decode cX2_isGuilty 33 = .ok (.iconst 1, 1) := dk_4 (dk_at dksX2_isGuilty_1 9 rfl rfl)
theorem dX2_isGuilty_34 : decode cX2_isGuilty 34 = .ok (.goto 4, 3) := dk_167 0 4 (dk_at dksX2_isGuilty_1 10 rfl rfl)
theorem dX2_isGuilty_37 : decode cX2_isGuilty 37 = .ok (.iconst 0, 1) := dk_3 (dk_at dksX2_isGuilty_1 13 rfl rfl)
theorem dX2_isGuilty_38 : decode cX2_isGuilty 38 = .ok (.ireturn, 1) := dk_172 (dk_at dksX2_isGuilty_1 14 rfl rfl)
theorem dX2_isGuilty_39 : decode cX2_isGuilty 39 = .ok (.aload_n 0, 1) := dk_42 (dk_at dksX2_isGuilty_1 15 rfl rfl)
theorem dX2_isGuilty_40 : decode cX2_isGuilty 40 = .ok (.iload_n 3, 1) := dk_29 (dk_at dksX2_isGuilty_1 16 rfl rfl)
theorem dX2_isGuilty_41 : decode cX2_isGuilty 41 = .ok (.iload 4, 2) := dk_21 4 (dk_at dksX2_isGuilty_1 17 rfl rfl)
theorem dX2_isGuilty_43 : decode cX2_isGuilty 43 = .ok (.invokevirtual 336, 3) := dk_182 1 80 (dk_at dksX2_isGuilty_1 19 rfl rfl)
theorem dX2_isGuilty_46 : decode cX2_isGuilty 46 = .ok (.aload_n 0, 1) := dk_42 (dk_at dksX2_isGuilty_1 22 rfl rfl)
theorem dX2_isGuilty_47 : decode cX2_isGuilty 47 = .ok (.getfield 35, 3) := dk_180 0 35 (dk_at dksX2_isGuilty_2 0 rfl rfl)
theorem dX2_isGuilty_50 : decode cX2_isGuilty 50 = .ok (.iconst 1, 1) := dk_4 (dk_at dksX2_isGuilty_2 3 rfl rfl)
theorem dX2_isGuilty_51 : decode cX2_isGuilty 51 = .ok (.iload_n 2, 1) := dk_28 (dk_at dksX2_isGuilty_2 4 rfl rfl)
theorem dX2_isGuilty_52 : decode cX2_isGuilty 52 = .ok (.iastore, 1) := dk_79 (dk_at dksX2_isGuilty_2 5 rfl rfl)
theorem dX2_isGuilty_53 : decode cX2_isGuilty 53 = .ok (.aload_n 0, 1) := dk_42 (dk_at dksX2_isGuilty_2 6 rfl rfl)
theorem dX2_isGuilty_54 : decode cX2_isGuilty 54 = .ok (.iload 5, 2) := dk_21 5 (dk_at dksX2_isGuilty_2 7 rfl rfl)
theorem dX2_isGuilty_56 : decode cX2_isGuilty 56 = .ok (.putfield 305, 3) := dk_181 1 49 (dk_at dksX2_isGuilty_2 9 rfl rfl)
theorem dX2_isGuilty_59 : decode cX2_isGuilty 59 = .ok (.aload_n 0, 1) := dk_42 (dk_at dksX2_isGuilty_2 12 rfl rfl)
theorem dX2_isGuilty_60 : decode cX2_isGuilty 60 = .ok (.iload_n 1, 1) := dk_27 (dk_at dksX2_isGuilty_2 13 rfl rfl)
theorem dX2_isGuilty_61 : decode cX2_isGuilty 61 = .ok (.iload 6, 2) := dk_21 6 (dk_at dksX2_isGuilty_2 14 rfl rfl)
theorem dX2_isGuilty_63 : decode cX2_isGuilty 63 = .ok (.invokevirtual 326, 3) := dk_182 1 70 (dk_at dksX2_isGuilty_2 16 rfl rfl)
theorem dX2_isGuilty_66 : decode cX2_isGuilty 66 = .ok (.aload_n 0, 1) := dk_42 (dk_at dksX2_isGuilty_2 19 rfl rfl)
theorem dX2_isGuilty_67 : decode cX2_isGuilty 67 = .ok (.getfield 42, 3) := dk_180 0 42 (dk_at dksX2_isGuilty_2 20 rfl rfl)
theorem dX2_isGuilty_70 : decode cX2_isGuilty 70 = .ok (.iconst 0, 1) := dk_3 (dk_at dksX2_isGuilty_2 23 rfl rfl)
theorem dX2_isGuilty_71 : decode cX2_isGuilty 71 = .ok (.baload, 1) := dk_51 (dk_at dksX2_isGuilty_3 0 rfl rfl)
theorem dX2_isGuilty_72 : decode cX2_isGuilty 72 = .ok (.ireturn, 1) := dk_172 (dk_at dksX2_isGuilty_3 1 rfl rfl)
abbrev cX2_clauseOf : ByteArray := prog_20_method_67_code
def yX2_clauseOf : MethodName := ⟨RX2, "clauseOf", "(III)I"⟩
def dkwX2_clauseOf_3 : List UInt8 := [132, 4, 1, 167, 255, 188, 2, 172]
abbrev dktX2_clauseOf_3 : List UInt8 := dkwX2_clauseOf_3 ++ []
def dkwX2_clauseOf_2 : List UInt8 := [160, 0, 24, 28, 7, 160, 0, 16, 42, 180, 0, 16, 21, 5, 6, 96, 46, 29, 160, 0, 6, 21, 4, 172]
abbrev dktX2_clauseOf_2 : List UInt8 := dkwX2_clauseOf_2 ++ dktX2_clauseOf_3
def dkwX2_clauseOf_1 : List UInt8 := [17, 2, 193, 27, 104, 4, 96, 7, 21, 4, 104, 96, 54, 5, 42, 180, 0, 16, 21, 5, 46, 28]
abbrev dktX2_clauseOf_1 : List UInt8 := dkwX2_clauseOf_1 ++ dktX2_clauseOf_2
def dkwX2_clauseOf_0 : List UInt8 := [3, 54, 4, 27, 155, 0, 70, 21, 4, 42, 180, 0, 16, 17, 2, 193, 27, 104, 46, 162, 0, 55]
abbrev dktX2_clauseOf_0 : List UInt8 := dkwX2_clauseOf_0 ++ dktX2_clauseOf_1
theorem dksX2_clauseOf_0 : cX2_clauseOf.data.toList.drop 0 = dktX2_clauseOf_0 := by decide +kernel
theorem dksX2_clauseOf_1 : cX2_clauseOf.data.toList.drop 22 = dktX2_clauseOf_1 := dk_seg dksX2_clauseOf_0 22 rfl rfl
theorem dksX2_clauseOf_2 : cX2_clauseOf.data.toList.drop 44 = dktX2_clauseOf_2 := dk_seg dksX2_clauseOf_1 22 rfl rfl
theorem dksX2_clauseOf_3 : cX2_clauseOf.data.toList.drop 68 = dktX2_clauseOf_3 := dk_seg dksX2_clauseOf_2 24 rfl rfl
theorem dX2_clauseOf_0 : decode cX2_clauseOf 0 = .ok (.iconst 0, 1) := dk_3 (dk_at dksX2_clauseOf_0 0 rfl rfl)
theorem dX2_clauseOf_1 : decode cX2_clauseOf 1 = .ok (.istore 4, 2) := dk_54 4 (dk_at dksX2_clauseOf_0 1 rfl rfl)
theorem dX2_clauseOf_3 : decode cX2_clauseOf 3 = .ok (.iload_n 1, 1) := dk_27 (dk_at dksX2_clauseOf_0 3 rfl rfl)
theorem dX2_clauseOf_4 : decode cX2_clauseOf 4 = .ok (.ifCond .lt 70, 3) := dk_155 0 70 (dk_at dksX2_clauseOf_0 4 rfl rfl)
theorem dX2_clauseOf_7 : decode cX2_clauseOf 7 = .ok (.iload 4, 2) := dk_21 4 (dk_at dksX2_clauseOf_0 7 rfl rfl)
theorem dX2_clauseOf_9 : decode cX2_clauseOf 9 = .ok (.aload_n 0, 1) := dk_42 (dk_at dksX2_clauseOf_0 9 rfl rfl)
theorem dX2_clauseOf_10 : decode cX2_clauseOf 10 = .ok (.getfield 16, 3) := dk_180 0 16 (dk_at dksX2_clauseOf_0 10 rfl rfl)
theorem dX2_clauseOf_13 : decode cX2_clauseOf 13 = .ok (.sipush 705, 3) := dk_17 2 193 (dk_at dksX2_clauseOf_0 13 rfl rfl)
theorem dX2_clauseOf_16 : decode cX2_clauseOf 16 = .ok (.iload_n 1, 1) := dk_27 (dk_at dksX2_clauseOf_0 16 rfl rfl)
theorem dX2_clauseOf_17 : decode cX2_clauseOf 17 = .ok (.imul, 1) := dk_104 (dk_at dksX2_clauseOf_0 17 rfl rfl)
theorem dX2_clauseOf_18 : decode cX2_clauseOf 18 = .ok (.iaload, 1) := dk_46 (dk_at dksX2_clauseOf_0 18 rfl rfl)
theorem dX2_clauseOf_19 : decode cX2_clauseOf 19 = .ok (.if_icmp .ge 55, 3) := dk_162 0 55 (dk_at dksX2_clauseOf_0 19 rfl rfl)
theorem dX2_clauseOf_22 : decode cX2_clauseOf 22 = .ok (.sipush 705, 3) := dk_17 2 193 (dk_at dksX2_clauseOf_1 0 rfl rfl)
theorem dX2_clauseOf_25 : decode cX2_clauseOf 25 = .ok (.iload_n 1, 1) := dk_27 (dk_at dksX2_clauseOf_1 3 rfl rfl)
theorem dX2_clauseOf_26 : decode cX2_clauseOf 26 = .ok (.imul, 1) := dk_104 (dk_at dksX2_clauseOf_1 4 rfl rfl)
theorem dX2_clauseOf_27 : decode cX2_clauseOf 27 = .ok (.iconst 1, 1) := dk_4 (dk_at dksX2_clauseOf_1 5 rfl rfl)
theorem dX2_clauseOf_28 : decode cX2_clauseOf 28 = .ok (.iadd, 1) := dk_96 (dk_at dksX2_clauseOf_1 6 rfl rfl)
theorem dX2_clauseOf_29 : decode cX2_clauseOf 29 = .ok (.iconst 4, 1) := dk_7 (dk_at dksX2_clauseOf_1 7 rfl rfl)
theorem dX2_clauseOf_30 : decode cX2_clauseOf 30 = .ok (.iload 4, 2) := dk_21 4 (dk_at dksX2_clauseOf_1 8 rfl rfl)
theorem dX2_clauseOf_32 : decode cX2_clauseOf 32 = .ok (.imul, 1) := dk_104 (dk_at dksX2_clauseOf_1 10 rfl rfl)
theorem dX2_clauseOf_33 : decode cX2_clauseOf 33 = .ok (.iadd, 1) := dk_96 (dk_at dksX2_clauseOf_1 11 rfl rfl)
theorem dX2_clauseOf_34 : decode cX2_clauseOf 34 = .ok (.istore 5, 2) := dk_54 5 (dk_at dksX2_clauseOf_1 12 rfl rfl)
theorem dX2_clauseOf_36 : decode cX2_clauseOf 36 = .ok (.aload_n 0, 1) := dk_42 (dk_at dksX2_clauseOf_1 14 rfl rfl)
theorem dX2_clauseOf_37 : decode cX2_clauseOf 37 = .ok (.getfield 16, 3) := dk_180 0 16 (dk_at dksX2_clauseOf_1 15 rfl rfl)
theorem dX2_clauseOf_40 : decode cX2_clauseOf 40 = .ok (.iload 5, 2) := dk_21 5 (dk_at dksX2_clauseOf_1 18 rfl rfl)
theorem dX2_clauseOf_42 : decode cX2_clauseOf 42 = .ok (.iaload, 1) := dk_46 (dk_at dksX2_clauseOf_1 20 rfl rfl)
theorem dX2_clauseOf_43 : decode cX2_clauseOf 43 = .ok (.iload_n 2, 1) := dk_28 (dk_at dksX2_clauseOf_1 21 rfl rfl)
theorem dX2_clauseOf_44 : decode cX2_clauseOf 44 = .ok (.if_icmp .ne 24, 3) := dk_160 0 24 (dk_at dksX2_clauseOf_2 0 rfl rfl)
theorem dX2_clauseOf_47 : decode cX2_clauseOf 47 = .ok (.iload_n 2, 1) := dk_28 (dk_at dksX2_clauseOf_2 3 rfl rfl)
theorem dX2_clauseOf_48 : decode cX2_clauseOf 48 = .ok (.iconst 4, 1) := dk_7 (dk_at dksX2_clauseOf_2 4 rfl rfl)
theorem dX2_clauseOf_49 : decode cX2_clauseOf 49 = .ok (.if_icmp .ne 16, 3) := dk_160 0 16 (dk_at dksX2_clauseOf_2 5 rfl rfl)
theorem dX2_clauseOf_52 : decode cX2_clauseOf 52 = .ok (.aload_n 0, 1) := dk_42 (dk_at dksX2_clauseOf_2 8 rfl rfl)
theorem dX2_clauseOf_53 : decode cX2_clauseOf 53 = .ok (.getfield 16, 3) := dk_180 0 16 (dk_at dksX2_clauseOf_2 9 rfl rfl)
theorem dX2_clauseOf_56 : decode cX2_clauseOf 56 = .ok (.iload 5, 2) := dk_21 5 (dk_at dksX2_clauseOf_2 12 rfl rfl)
theorem dX2_clauseOf_58 : decode cX2_clauseOf 58 = .ok (.iconst 3, 1) := dk_6 (dk_at dksX2_clauseOf_2 14 rfl rfl)
theorem dX2_clauseOf_59 : decode cX2_clauseOf 59 = .ok (.iadd, 1) := dk_96 (dk_at dksX2_clauseOf_2 15 rfl rfl)
theorem dX2_clauseOf_60 : decode cX2_clauseOf 60 = .ok (.iaload, 1) := dk_46 (dk_at dksX2_clauseOf_2 16 rfl rfl)
theorem dX2_clauseOf_61 : decode cX2_clauseOf 61 = .ok (.iload_n 3, 1) := dk_29 (dk_at dksX2_clauseOf_2 17 rfl rfl)
theorem dX2_clauseOf_62 : decode cX2_clauseOf 62 = .ok (.if_icmp .ne 6, 3) := dk_160 0 6 (dk_at dksX2_clauseOf_2 18 rfl rfl)
theorem dX2_clauseOf_65 : decode cX2_clauseOf 65 = .ok (.iload 4, 2) := dk_21 4 (dk_at dksX2_clauseOf_2 21 rfl rfl)
theorem dX2_clauseOf_67 : decode cX2_clauseOf 67 = .ok (.ireturn, 1) := dk_172 (dk_at dksX2_clauseOf_2 23 rfl rfl)
theorem dX2_clauseOf_68 : decode cX2_clauseOf 68 = .ok (.iinc 4 1, 3) := dk_132 4 1 (dk_at dksX2_clauseOf_3 0 rfl rfl)
theorem dX2_clauseOf_71 : decode cX2_clauseOf 71 = .ok (.goto (-68), 3) := dk_167 255 188 (dk_at dksX2_clauseOf_3 3 rfl rfl)
theorem dX2_clauseOf_74 : decode cX2_clauseOf 74 = .ok (.iconst (-1), 1) := dk_2 (dk_at dksX2_clauseOf_3 6 rfl rfl)
theorem dX2_clauseOf_75 : decode cX2_clauseOf 75 = .ok (.ireturn, 1) := dk_172 (dk_at dksX2_clauseOf_3 7 rfl rfl)
abbrev cX2_nameCase : ByteArray := prog_20_method_70_code
def yX2_nameCase : MethodName := ⟨RX2, "nameCase", "(II)V"⟩
def dkwX2_nameCase_1 : List UInt8 := [182, 0, 82, 79, 42, 180, 0, 35, 16, 6, 28, 79, 177]
abbrev dktX2_nameCase_1 : List UInt8 := dkwX2_nameCase_1 ++ []
def dkwX2_nameCase_0 : List UInt8 := [42, 182, 1, 77, 42, 180, 0, 35, 7, 42, 27, 3, 182, 0, 82, 79, 42, 180, 0, 35, 8, 42, 27, 4]
abbrev dktX2_nameCase_0 : List UInt8 := dkwX2_nameCase_0 ++ dktX2_nameCase_1
theorem dksX2_nameCase_0 : cX2_nameCase.data.toList.drop 0 = dktX2_nameCase_0 := by decide +kernel
theorem dksX2_nameCase_1 : cX2_nameCase.data.toList.drop 24 = dktX2_nameCase_1 := dk_seg dksX2_nameCase_0 24 rfl rfl
theorem dX2_nameCase_0 : decode cX2_nameCase 0 = .ok (.aload_n 0, 1) := dk_42 (dk_at dksX2_nameCase_0 0 rfl rfl)
theorem dX2_nameCase_1 : decode cX2_nameCase 1 = .ok (.invokevirtual 333, 3) := dk_182 1 77 (dk_at dksX2_nameCase_0 1 rfl rfl)
theorem dX2_nameCase_4 : decode cX2_nameCase 4 = .ok (.aload_n 0, 1) := dk_42 (dk_at dksX2_nameCase_0 4 rfl rfl)
theorem dX2_nameCase_5 : decode cX2_nameCase 5 = .ok (.getfield 35, 3) := dk_180 0 35 (dk_at dksX2_nameCase_0 5 rfl rfl)
theorem dX2_nameCase_8 : decode cX2_nameCase 8 = .ok (.iconst 4, 1) := dk_7 (dk_at dksX2_nameCase_0 8 rfl rfl)
theorem dX2_nameCase_9 : decode cX2_nameCase 9 = .ok (.aload_n 0, 1) := dk_42 (dk_at dksX2_nameCase_0 9 rfl rfl)
theorem dX2_nameCase_10 : decode cX2_nameCase 10 = .ok (.iload_n 1, 1) := dk_27 (dk_at dksX2_nameCase_0 10 rfl rfl)
theorem dX2_nameCase_11 : decode cX2_nameCase 11 = .ok (.iconst 0, 1) := dk_3 (dk_at dksX2_nameCase_0 11 rfl rfl)
theorem dX2_nameCase_12 : decode cX2_nameCase 12 = .ok (.invokevirtual 82, 3) := dk_182 0 82 (dk_at dksX2_nameCase_0 12 rfl rfl)
theorem dX2_nameCase_15 : decode cX2_nameCase 15 = .ok (.iastore, 1) := dk_79 (dk_at dksX2_nameCase_0 15 rfl rfl)
theorem dX2_nameCase_16 : decode cX2_nameCase 16 = .ok (.aload_n 0, 1) := dk_42 (dk_at dksX2_nameCase_0 16 rfl rfl)
theorem dX2_nameCase_17 : decode cX2_nameCase 17 = .ok (.getfield 35, 3) := dk_180 0 35 (dk_at dksX2_nameCase_0 17 rfl rfl)
theorem dX2_nameCase_20 : decode cX2_nameCase 20 = .ok (.iconst 5, 1) := dk_8 (dk_at dksX2_nameCase_0 20 rfl rfl)
theorem dX2_nameCase_21 : decode cX2_nameCase 21 = .ok (.aload_n 0, 1) := dk_42 (dk_at dksX2_nameCase_0 21 rfl rfl)
theorem dX2_nameCase_22 : decode cX2_nameCase 22 = .ok (.iload_n 1, 1) := dk_27 (dk_at dksX2_nameCase_0 22 rfl rfl)
theorem dX2_nameCase_23 : decode cX2_nameCase 23 = .ok (.iconst 1, 1) := dk_4 (dk_at dksX2_nameCase_0 23 rfl rfl)
theorem dX2_nameCase_24 : decode cX2_nameCase 24 = .ok (.invokevirtual 82, 3) := dk_182 0 82 (dk_at dksX2_nameCase_1 0 rfl rfl)
theorem dX2_nameCase_27 : decode cX2_nameCase 27 = .ok (.iastore, 1) := dk_79 (dk_at dksX2_nameCase_1 3 rfl rfl)
theorem dX2_nameCase_28 : decode cX2_nameCase 28 = .ok (.aload_n 0, 1) := dk_42 (dk_at dksX2_nameCase_1 4 rfl rfl)
theorem dX2_nameCase_29 : decode cX2_nameCase 29 = .ok (.getfield 35, 3) := dk_180 0 35 (dk_at dksX2_nameCase_1 5 rfl rfl)
theorem dX2_nameCase_32 : decode cX2_nameCase 32 = .ok (.bipush 6, 2) := dk_16 6 (dk_at dksX2_nameCase_1 8 rfl rfl)
theorem dX2_nameCase_34 : decode cX2_nameCase 34 = .ok (.iload_n 2, 1) := dk_28 (dk_at dksX2_nameCase_1 10 rfl rfl)
theorem dX2_nameCase_35 : decode cX2_nameCase 35 = .ok (.iastore, 1) := dk_79 (dk_at dksX2_nameCase_1 11 rfl rfl)
theorem dX2_nameCase_36 : decode cX2_nameCase 36 = .ok (.return_, 1) := dk_177 (dk_at dksX2_nameCase_1 12 rfl rfl)
abbrev cX2_name : ByteArray := prog_20_method_69_code
def yX2_name : MethodName := ⟨RX2, "name", "()V"⟩
def dkwX2_name_1 : List UInt8 := [46, 79, 42, 180, 0, 35, 5, 42, 180, 0, 7, 16, 9, 46, 79, 177]
abbrev dktX2_name_1 : List UInt8 := dkwX2_name_1 ++ []
def dkwX2_name_0 : List UInt8 := [42, 180, 0, 35, 3, 42, 180, 0, 7, 16, 11, 46, 79, 42, 180, 0, 35, 4, 42, 180, 0, 7, 16, 8]
abbrev dktX2_name_0 : List UInt8 := dkwX2_name_0 ++ dktX2_name_1
theorem dksX2_name_0 : cX2_name.data.toList.drop 0 = dktX2_name_0 := by decide +kernel
theorem dksX2_name_1 : cX2_name.data.toList.drop 24 = dktX2_name_1 := dk_seg dksX2_name_0 24 rfl rfl
theorem dX2_name_0 : decode cX2_name 0 = .ok (.aload_n 0, 1) := dk_42 (dk_at dksX2_name_0 0 rfl rfl)
theorem dX2_name_1 : decode cX2_name 1 = .ok (.getfield 35, 3) := dk_180 0 35 (dk_at dksX2_name_0 1 rfl rfl)
theorem dX2_name_4 : decode cX2_name 4 = .ok (.iconst 0, 1) := dk_3 (dk_at dksX2_name_0 4 rfl rfl)
theorem dX2_name_5 : decode cX2_name 5 = .ok (.aload_n 0, 1) := dk_42 (dk_at dksX2_name_0 5 rfl rfl)
theorem dX2_name_6 : decode cX2_name 6 = .ok (.getfield 7, 3) := dk_180 0 7 (dk_at dksX2_name_0 6 rfl rfl)
theorem dX2_name_9 : decode cX2_name 9 = .ok (.bipush 11, 2) := dk_16 11 (dk_at dksX2_name_0 9 rfl rfl)
theorem dX2_name_11 : decode cX2_name 11 = .ok (.iaload, 1) := dk_46 (dk_at dksX2_name_0 11 rfl rfl)
theorem dX2_name_12 : decode cX2_name 12 = .ok (.iastore, 1) := dk_79 (dk_at dksX2_name_0 12 rfl rfl)
theorem dX2_name_13 : decode cX2_name 13 = .ok (.aload_n 0, 1) := dk_42 (dk_at dksX2_name_0 13 rfl rfl)
theorem dX2_name_14 : decode cX2_name 14 = .ok (.getfield 35, 3) := dk_180 0 35 (dk_at dksX2_name_0 14 rfl rfl)
theorem dX2_name_17 : decode cX2_name 17 = .ok (.iconst 1, 1) := dk_4 (dk_at dksX2_name_0 17 rfl rfl)
theorem dX2_name_18 : decode cX2_name 18 = .ok (.aload_n 0, 1) := dk_42 (dk_at dksX2_name_0 18 rfl rfl)
theorem dX2_name_19 : decode cX2_name 19 = .ok (.getfield 7, 3) := dk_180 0 7 (dk_at dksX2_name_0 19 rfl rfl)
theorem dX2_name_22 : decode cX2_name 22 = .ok (.bipush 8, 2) := dk_16 8 (dk_at dksX2_name_0 22 rfl rfl)
theorem dX2_name_24 : decode cX2_name 24 = .ok (.iaload, 1) := dk_46 (dk_at dksX2_name_1 0 rfl rfl)
theorem dX2_name_25 : decode cX2_name 25 = .ok (.iastore, 1) := dk_79 (dk_at dksX2_name_1 1 rfl rfl)
theorem dX2_name_26 : decode cX2_name 26 = .ok (.aload_n 0, 1) := dk_42 (dk_at dksX2_name_1 2 rfl rfl)
theorem dX2_name_27 : decode cX2_name 27 = .ok (.getfield 35, 3) := dk_180 0 35 (dk_at dksX2_name_1 3 rfl rfl)
theorem dX2_name_30 : decode cX2_name 30 = .ok (.iconst 2, 1) := dk_5 (dk_at dksX2_name_1 6 rfl rfl)
theorem dX2_name_31 : decode cX2_name 31 = .ok (.aload_n 0, 1) := dk_42 (dk_at dksX2_name_1 7 rfl rfl)
theorem dX2_name_32 : decode cX2_name 32 = .ok (.getfield 7, 3) := dk_180 0 7 (dk_at dksX2_name_1 8 rfl rfl)
theorem dX2_name_35 : decode cX2_name 35 = .ok (.bipush 9, 2) := dk_16 9 (dk_at dksX2_name_1 11 rfl rfl)
theorem dX2_name_37 : decode cX2_name 37 = .ok (.iaload, 1) := dk_46 (dk_at dksX2_name_1 13 rfl rfl)
theorem dX2_name_38 : decode cX2_name 38 = .ok (.iastore, 1) := dk_79 (dk_at dksX2_name_1 14 rfl rfl)
theorem dX2_name_39 : decode cX2_name 39 = .ok (.return_, 1) := dk_177 (dk_at dksX2_name_1 15 rfl rfl)
abbrev cX2_work : ByteArray := prog_20_method_66_code
def yX2_work : MethodName := ⟨RX2, "work", "(II)V"⟩
def dkwX2_work_15 : List UInt8 := [51, 42, 180, 0, 42, 21, 6, 51, 184, 1, 63, 84, 132, 7, 1, 167, 254, 182, 177]
abbrev dktX2_work_15 : List UInt8 := dkwX2_work_15 ++ []
def dkwX2_work_14 : List UInt8 := [167, 0, 36, 132, 6, 255, 42, 180, 0, 42, 21, 6, 4, 100, 21, 8, 42, 180, 0, 42, 21, 6, 4, 100]
abbrev dktX2_work_14 : List UInt8 := dkwX2_work_14 ++ dktX2_work_15
def dkwX2_work_13 : List UInt8 := [21, 6, 4, 100, 42, 180, 0, 42, 21, 6, 4, 100, 51, 154, 0, 7, 4, 167, 0, 4, 3, 84]
abbrev dktX2_work_13 : List UInt8 := dkwX2_work_13 ++ dktX2_work_14
def dkwX2_work_12 : List UInt8 := [4, 96, 47, 184, 1, 59, 84, 132, 6, 1, 167, 0, 72, 21, 8, 16, 20, 160, 0, 32, 42, 180, 0, 42]
abbrev dktX2_work_12 : List UInt8 := dkwX2_work_12 ++ dktX2_work_13
def dkwX2_work_11 : List UInt8 := [132, 5, 254, 42, 180, 0, 42, 21, 6, 21, 8, 42, 180, 0, 38, 21, 5, 47, 42, 180, 0, 38, 21, 5]
abbrev dktX2_work_11 : List UInt8 := dkwX2_work_11 ++ dktX2_work_12
def dkwX2_work_10 : List UInt8 := [47, 42, 180, 0, 38, 21, 5, 47, 184, 1, 55, 80, 167, 0, 116, 21, 8, 16, 20, 162, 0, 40]
abbrev dktX2_work_10 : List UInt8 := dkwX2_work_10 ++ dktX2_work_11
def dkwX2_work_9 : List UInt8 := [162, 0, 39, 132, 5, 255, 42, 180, 0, 38, 21, 5, 4, 100, 21, 8, 42, 180, 0, 38, 21, 5, 4, 100]
abbrev dktX2_work_9 : List UInt8 := dkwX2_work_9 ++ dktX2_work_10
def dkwX2_work_8 : List UInt8 := [21, 5, 4, 100, 42, 180, 0, 38, 21, 5, 4, 100, 47, 117, 80, 167, 0, 159, 21, 8, 16, 10]
abbrev dktX2_work_8 : List UInt8 := dkwX2_work_8 ++ dktX2_work_9
def dkwX2_work_7 : List UInt8 := [21, 6, 21, 9, 182, 1, 52, 84, 132, 6, 1, 167, 0, 187, 21, 8, 7, 160, 0, 25, 42, 180, 0, 38]
abbrev dktX2_work_7 : List UInt8 := dkwX2_work_7 ++ dktX2_work_8
def dkwX2_work_6 : List UInt8 := [180, 0, 42, 21, 6, 21, 8, 5, 160, 0, 15, 42, 180, 1, 49, 21, 9, 184, 0, 255, 167, 0, 11, 42]
abbrev dktX2_work_6 : List UInt8 := dkwX2_work_6 ++ dktX2_work_7
def dkwX2_work_5 : List UInt8 := [21, 8, 6, 163, 0, 59, 21, 6, 21, 8, 6, 160, 0, 8, 21, 9, 167, 0, 4, 3, 100, 54, 6, 42]
abbrev dktX2_work_5 : List UInt8 := dkwX2_work_5 ++ dktX2_work_6
def dkwX2_work_4 : List UInt8 := [154, 0, 9, 21, 9, 133, 167, 0, 11, 42, 180, 0, 35, 21, 9, 46, 133, 80, 132, 5, 1, 167, 0, 249]
abbrev dktX2_work_4 : List UInt8 := dkwX2_work_4 ++ dktX2_work_5
def dkwX2_work_3 : List UInt8 := [5, 21, 7, 104, 96, 4, 96, 46, 54, 9, 21, 8, 4, 163, 0, 35, 42, 180, 0, 38, 21, 5, 21, 8]
abbrev dktX2_work_3 : List UInt8 := dkwX2_work_3 ++ dktX2_work_4
def dkwX2_work_2 : List UInt8 := [46, 162, 1, 67, 42, 180, 0, 16, 21, 4, 5, 21, 7, 104, 96, 46, 54, 8, 42, 180, 0, 16, 21, 4]
abbrev dktX2_work_2 : List UInt8 := dkwX2_work_2 ++ dktX2_work_3
def dkwX2_work_1 : List UInt8 := [54, 5, 3, 54, 6, 42, 180, 0, 16, 29, 4, 96, 46, 54, 7, 21, 7, 42, 180, 0, 16, 29, 5, 96]
abbrev dktX2_work_1 : List UInt8 := dkwX2_work_1 ++ dktX2_work_2
def dkwX2_work_0 : List UInt8 := [17, 2, 193, 27, 104, 4, 96, 7, 28, 104, 96, 62, 17, 2, 193, 27, 104, 16, 97, 96, 54, 4, 3]
abbrev dktX2_work_0 : List UInt8 := dkwX2_work_0 ++ dktX2_work_1
theorem dksX2_work_0 : cX2_work.data.toList.drop 0 = dktX2_work_0 := by decide +kernel
theorem dksX2_work_1 : cX2_work.data.toList.drop 23 = dktX2_work_1 := dk_seg dksX2_work_0 23 rfl rfl
theorem dksX2_work_2 : cX2_work.data.toList.drop 47 = dktX2_work_2 := dk_seg dksX2_work_1 24 rfl rfl
theorem dksX2_work_3 : cX2_work.data.toList.drop 71 = dktX2_work_3 := dk_seg dksX2_work_2 24 rfl rfl
theorem dksX2_work_4 : cX2_work.data.toList.drop 95 = dktX2_work_4 := dk_seg dksX2_work_3 24 rfl rfl
theorem dksX2_work_5 : cX2_work.data.toList.drop 119 = dktX2_work_5 := dk_seg dksX2_work_4 24 rfl rfl
theorem dksX2_work_6 : cX2_work.data.toList.drop 143 = dktX2_work_6 := dk_seg dksX2_work_5 24 rfl rfl
theorem dksX2_work_7 : cX2_work.data.toList.drop 167 = dktX2_work_7 := dk_seg dksX2_work_6 24 rfl rfl
theorem dksX2_work_8 : cX2_work.data.toList.drop 191 = dktX2_work_8 := dk_seg dksX2_work_7 24 rfl rfl
theorem dksX2_work_9 : cX2_work.data.toList.drop 213 = dktX2_work_9 := dk_seg dksX2_work_8 22 rfl rfl
theorem dksX2_work_10 : cX2_work.data.toList.drop 237 = dktX2_work_10 := dk_seg dksX2_work_9 24 rfl rfl
theorem dksX2_work_11 : cX2_work.data.toList.drop 259 = dktX2_work_11 := dk_seg dksX2_work_10 22 rfl rfl
theorem dksX2_work_12 : cX2_work.data.toList.drop 283 = dktX2_work_12 := dk_seg dksX2_work_11 24 rfl rfl
theorem dksX2_work_13 : cX2_work.data.toList.drop 307 = dktX2_work_13 := dk_seg dksX2_work_12 24 rfl rfl
theorem dksX2_work_14 : cX2_work.data.toList.drop 329 = dktX2_work_14 := dk_seg dksX2_work_13 22 rfl rfl
theorem dksX2_work_15 : cX2_work.data.toList.drop 353 = dktX2_work_15 := dk_seg dksX2_work_14 24 rfl rfl
theorem dX2_work_0 : decode cX2_work 0 = .ok (.sipush 705, 3) := dk_17 2 193 (dk_at dksX2_work_0 0 rfl rfl)
theorem dX2_work_3 : decode cX2_work 3 = .ok (.iload_n 1, 1) := dk_27 (dk_at dksX2_work_0 3 rfl rfl)
theorem dX2_work_4 : decode cX2_work 4 = .ok (.imul, 1) := dk_104 (dk_at dksX2_work_0 4 rfl rfl)
theorem dX2_work_5 : decode cX2_work 5 = .ok (.iconst 1, 1) := dk_4 (dk_at dksX2_work_0 5 rfl rfl)
theorem dX2_work_6 : decode cX2_work 6 = .ok (.iadd, 1) := dk_96 (dk_at dksX2_work_0 6 rfl rfl)
theorem dX2_work_7 : decode cX2_work 7 = .ok (.iconst 4, 1) := dk_7 (dk_at dksX2_work_0 7 rfl rfl)
theorem dX2_work_8 : decode cX2_work 8 = .ok (.iload_n 2, 1) := dk_28 (dk_at dksX2_work_0 8 rfl rfl)
theorem dX2_work_9 : decode cX2_work 9 = .ok (.imul, 1) := dk_104 (dk_at dksX2_work_0 9 rfl rfl)
theorem dX2_work_10 : decode cX2_work 10 = .ok (.iadd, 1) := dk_96 (dk_at dksX2_work_0 10 rfl rfl)
theorem dX2_work_11 : decode cX2_work 11 = .ok (.istore_n 3, 1) := dk_62 (dk_at dksX2_work_0 11 rfl rfl)
theorem dX2_work_12 : decode cX2_work 12 = .ok (.sipush 705, 3) := dk_17 2 193 (dk_at dksX2_work_0 12 rfl rfl)
theorem dX2_work_15 : decode cX2_work 15 = .ok (.iload_n 1, 1) := dk_27 (dk_at dksX2_work_0 15 rfl rfl)
theorem dX2_work_16 : decode cX2_work 16 = .ok (.imul, 1) := dk_104 (dk_at dksX2_work_0 16 rfl rfl)
theorem dX2_work_17 : decode cX2_work 17 = .ok (.bipush 97, 2) := dk_16 97 (dk_at dksX2_work_0 17 rfl rfl)
theorem dX2_work_19 : decode cX2_work 19 = .ok (.iadd, 1) := dk_96 (dk_at dksX2_work_0 19 rfl rfl)
theorem dX2_work_20 : decode cX2_work 20 = .ok (.istore 4, 2) := dk_54 4 (dk_at dksX2_work_0 20 rfl rfl)
theorem dX2_work_22 : decode cX2_work 22 = .ok (.iconst 0, 1) := dk_3 (dk_at dksX2_work_0 22 rfl rfl)
theorem dX2_work_23 : decode cX2_work 23 = .ok (.istore 5, 2) := dk_54 5 (dk_at dksX2_work_1 0 rfl rfl)
theorem dX2_work_25 : decode cX2_work 25 = .ok (.iconst 0, 1) := dk_3 (dk_at dksX2_work_1 2 rfl rfl)
theorem dX2_work_26 : decode cX2_work 26 = .ok (.istore 6, 2) := dk_54 6 (dk_at dksX2_work_1 3 rfl rfl)
theorem dX2_work_28 : decode cX2_work 28 = .ok (.aload_n 0, 1) := dk_42 (dk_at dksX2_work_1 5 rfl rfl)
theorem dX2_work_29 : decode cX2_work 29 = .ok (.getfield 16, 3) := dk_180 0 16 (dk_at dksX2_work_1 6 rfl rfl)
theorem dX2_work_32 : decode cX2_work 32 = .ok (.iload_n 3, 1) := dk_29 (dk_at dksX2_work_1 9 rfl rfl)
theorem dX2_work_33 : decode cX2_work 33 = .ok (.iconst 1, 1) := dk_4 (dk_at dksX2_work_1 10 rfl rfl)
theorem dX2_work_34 : decode cX2_work 34 = .ok (.iadd, 1) := dk_96 (dk_at dksX2_work_1 11 rfl rfl)
theorem dX2_work_35 : decode cX2_work 35 = .ok (.iaload, 1) := dk_46 (dk_at dksX2_work_1 12 rfl rfl)
theorem dX2_work_36 : decode cX2_work 36 = .ok (.istore 7, 2) := dk_54 7 (dk_at dksX2_work_1 13 rfl rfl)
theorem dX2_work_38 : decode cX2_work 38 = .ok (.iload 7, 2) := dk_21 7 (dk_at dksX2_work_1 15 rfl rfl)
theorem dX2_work_40 : decode cX2_work 40 = .ok (.aload_n 0, 1) := dk_42 (dk_at dksX2_work_1 17 rfl rfl)
theorem dX2_work_41 : decode cX2_work 41 = .ok (.getfield 16, 3) := dk_180 0 16 (dk_at dksX2_work_1 18 rfl rfl)
theorem dX2_work_44 : decode cX2_work 44 = .ok (.iload_n 3, 1) := dk_29 (dk_at dksX2_work_1 21 rfl rfl)
theorem dX2_work_45 : decode cX2_work 45 = .ok (.iconst 2, 1) := dk_5 (dk_at dksX2_work_1 22 rfl rfl)
theorem dX2_work_46 : decode cX2_work 46 = .ok (.iadd, 1) := dk_96 (dk_at dksX2_work_1 23 rfl rfl)
theorem dX2_work_47 : decode cX2_work 47 = .ok (.iaload, 1) := dk_46 (dk_at dksX2_work_2 0 rfl rfl)
theorem dX2_work_48 : decode cX2_work 48 = .ok (.if_icmp .ge 323, 3) := dk_162 1 67 (dk_at dksX2_work_2 1 rfl rfl)
theorem dX2_work_51 : decode cX2_work 51 = .ok (.aload_n 0, 1) := dk_42 (dk_at dksX2_work_2 4 rfl rfl)
theorem dX2_work_52 : decode cX2_work 52 = .ok (.getfield 16, 3) := dk_180 0 16 (dk_at dksX2_work_2 5 rfl rfl)
theorem dX2_work_55 : decode cX2_work 55 = .ok (.iload 4, 2) := dk_21 4 (dk_at dksX2_work_2 8 rfl rfl)
theorem dX2_work_57 : decode cX2_work 57 = .ok (.iconst 2, 1) := dk_5 (dk_at dksX2_work_2 10 rfl rfl)
theorem dX2_work_58 : decode cX2_work 58 = .ok (.iload 7, 2) := dk_21 7 (dk_at dksX2_work_2 11 rfl rfl)
theorem dX2_work_60 : decode cX2_work 60 = .ok (.imul, 1) := dk_104 (dk_at dksX2_work_2 13 rfl rfl)
theorem dX2_work_61 : decode cX2_work 61 = .ok (.iadd, 1) := dk_96 (dk_at dksX2_work_2 14 rfl rfl)
theorem dX2_work_62 : decode cX2_work 62 = .ok (.iaload, 1) := dk_46 (dk_at dksX2_work_2 15 rfl rfl)
theorem dX2_work_63 : decode cX2_work 63 = .ok (.istore 8, 2) := dk_54 8 (dk_at dksX2_work_2 16 rfl rfl)
theorem dX2_work_65 : decode cX2_work 65 = .ok (.aload_n 0, 1) := dk_42 (dk_at dksX2_work_2 18 rfl rfl)
theorem dX2_work_66 : decode cX2_work 66 = .ok (.getfield 16, 3) := dk_180 0 16 (dk_at dksX2_work_2 19 rfl rfl)
theorem dX2_work_69 : decode cX2_work 69 = .ok (.iload 4, 2) := dk_21 4 (dk_at dksX2_work_2 22 rfl rfl)
theorem dX2_work_71 : decode cX2_work 71 = .ok (.iconst 2, 1) := dk_5 (dk_at dksX2_work_3 0 rfl rfl)
theorem dX2_work_72 : decode cX2_work 72 = .ok (.iload 7, 2) := dk_21 7 (dk_at dksX2_work_3 1 rfl rfl)
theorem dX2_work_74 : decode cX2_work 74 = .ok (.imul, 1) := dk_104 (dk_at dksX2_work_3 3 rfl rfl)
theorem dX2_work_75 : decode cX2_work 75 = .ok (.iadd, 1) := dk_96 (dk_at dksX2_work_3 4 rfl rfl)
theorem dX2_work_76 : decode cX2_work 76 = .ok (.iconst 1, 1) := dk_4 (dk_at dksX2_work_3 5 rfl rfl)
theorem dX2_work_77 : decode cX2_work 77 = .ok (.iadd, 1) := dk_96 (dk_at dksX2_work_3 6 rfl rfl)
theorem dX2_work_78 : decode cX2_work 78 = .ok (.iaload, 1) := dk_46 (dk_at dksX2_work_3 7 rfl rfl)
theorem dX2_work_79 : decode cX2_work 79 = .ok (.istore 9, 2) := dk_54 9 (dk_at dksX2_work_3 8 rfl rfl)
theorem dX2_work_81 : decode cX2_work 81 = .ok (.iload 8, 2) := dk_21 8 (dk_at dksX2_work_3 10 rfl rfl)
theorem dX2_work_83 : decode cX2_work 83 = .ok (.iconst 1, 1) := dk_4 (dk_at dksX2_work_3 12 rfl rfl)
theorem dX2_work_84 : decode cX2_work 84 = .ok (.if_icmp .gt 35, 3) := dk_163 0 35 (dk_at dksX2_work_3 13 rfl rfl)
theorem dX2_work_87 : decode cX2_work 87 = .ok (.aload_n 0, 1) := dk_42 (dk_at dksX2_work_3 16 rfl rfl)
theorem dX2_work_88 : decode cX2_work 88 = .ok (.getfield 38, 3) := dk_180 0 38 (dk_at dksX2_work_3 17 rfl rfl)
theorem dX2_work_91 : decode cX2_work 91 = .ok (.iload 5, 2) := dk_21 5 (dk_at dksX2_work_3 20 rfl rfl)
theorem dX2_work_93 : decode cX2_work 93 = .ok (.iload 8, 2) := dk_21 8 (dk_at dksX2_work_3 22 rfl rfl)
theorem dX2_work_95 : decode cX2_work 95 = .ok (.ifCond .ne 9, 3) := dk_154 0 9 (dk_at dksX2_work_4 0 rfl rfl)
theorem dX2_work_98 : decode cX2_work 98 = .ok (.iload 9, 2) := dk_21 9 (dk_at dksX2_work_4 3 rfl rfl)
theorem dX2_work_100 : decode cX2_work 100 = .ok (.i2l, 1) := dk_133 (dk_at dksX2_work_4 5 rfl rfl)
theorem dX2_work_101 : decode cX2_work 101 = .ok (.goto 11, 3) := dk_167 0 11 (dk_at dksX2_work_4 6 rfl rfl)
theorem dX2_work_104 : decode cX2_work 104 = .ok (.aload_n 0, 1) := dk_42 (dk_at dksX2_work_4 9 rfl rfl)
theorem dX2_work_105 : decode cX2_work 105 = .ok (.getfield 35, 3) := dk_180 0 35 (dk_at dksX2_work_4 10 rfl rfl)
theorem dX2_work_108 : decode cX2_work 108 = .ok (.iload 9, 2) := dk_21 9 (dk_at dksX2_work_4 13 rfl rfl)
theorem dX2_work_110 : decode cX2_work 110 = .ok (.iaload, 1) := dk_46 (dk_at dksX2_work_4 15 rfl rfl)
theorem dX2_work_111 : decode cX2_work 111 = .ok (.i2l, 1) := dk_133 (dk_at dksX2_work_4 16 rfl rfl)
theorem dX2_work_112 : decode cX2_work 112 = .ok (.lastore, 1) := dk_80 (dk_at dksX2_work_4 17 rfl rfl)
theorem dX2_work_113 : decode cX2_work 113 = .ok (.iinc 5 1, 3) := dk_132 5 1 (dk_at dksX2_work_4 18 rfl rfl)
theorem dX2_work_116 : decode cX2_work 116 = .ok (.goto 249, 3) := dk_167 0 249 (dk_at dksX2_work_4 21 rfl rfl)
theorem dX2_work_119 : decode cX2_work 119 = .ok (.iload 8, 2) := dk_21 8 (dk_at dksX2_work_5 0 rfl rfl)
theorem dX2_work_121 : decode cX2_work 121 = .ok (.iconst 3, 1) := dk_6 (dk_at dksX2_work_5 2 rfl rfl)
theorem dX2_work_122 : decode cX2_work 122 = .ok (.if_icmp .gt 59, 3) := dk_163 0 59 (dk_at dksX2_work_5 3 rfl rfl)
theorem dX2_work_125 : decode cX2_work 125 = .ok (.iload 6, 2) := dk_21 6 (dk_at dksX2_work_5 6 rfl rfl)
theorem dX2_work_127 : decode cX2_work 127 = .ok (.iload 8, 2) := dk_21 8 (dk_at dksX2_work_5 8 rfl rfl)
theorem dX2_work_129 : decode cX2_work 129 = .ok (.iconst 3, 1) := dk_6 (dk_at dksX2_work_5 10 rfl rfl)
theorem dX2_work_130 : decode cX2_work 130 = .ok (.if_icmp .ne 8, 3) := dk_160 0 8 (dk_at dksX2_work_5 11 rfl rfl)
theorem dX2_work_133 : decode cX2_work 133 = .ok (.iload 9, 2) := dk_21 9 (dk_at dksX2_work_5 14 rfl rfl)
theorem dX2_work_135 : decode cX2_work 135 = .ok (.goto 4, 3) := dk_167 0 4 (dk_at dksX2_work_5 16 rfl rfl)
theorem dX2_work_138 : decode cX2_work 138 = .ok (.iconst 0, 1) := dk_3 (dk_at dksX2_work_5 19 rfl rfl)
theorem dX2_work_139 : decode cX2_work 139 = .ok (.isub, 1) := dk_100 (dk_at dksX2_work_5 20 rfl rfl)
theorem dX2_work_140 : decode cX2_work 140 = .ok (.istore 6, 2) := dk_54 6 (dk_at dksX2_work_5 21 rfl rfl)
theorem dX2_work_142 : decode cX2_work 142 = .ok (.aload_n 0, 1) := dk_42 (dk_at dksX2_work_5 23 rfl rfl)
theorem dX2_work_143 : decode cX2_work 143 = .ok (.getfield 42, 3) := dk_180 0 42 (dk_at dksX2_work_6 0 rfl rfl)
theorem dX2_work_146 : decode cX2_work 146 = .ok (.iload 6, 2) := dk_21 6 (dk_at dksX2_work_6 3 rfl rfl)
theorem dX2_work_148 : decode cX2_work 148 = .ok (.iload 8, 2) := dk_21 8 (dk_at dksX2_work_6 5 rfl rfl)
theorem dX2_work_150 : decode cX2_work 150 = .ok (.iconst 2, 1) := dk_5 (dk_at dksX2_work_6 7 rfl rfl)
theorem dX2_work_151 : decode cX2_work 151 = .ok (.if_icmp .ne 15, 3) := dk_160 0 15 (dk_at dksX2_work_6 8 rfl rfl)
theorem dX2_work_154 : decode cX2_work 154 = .ok (.aload_n 0, 1) := dk_42 (dk_at dksX2_work_6 11 rfl rfl)
theorem dX2_work_155 : decode cX2_work 155 = .ok (.getfield 305, 3) := dk_180 1 49 (dk_at dksX2_work_6 12 rfl rfl)
theorem dX2_work_158 : decode cX2_work 158 = .ok (.iload 9, 2) := dk_21 9 (dk_at dksX2_work_6 15 rfl rfl)
theorem dX2_work_160 : decode cX2_work 160 = .ok (.invokestatic 255, 3) := dk_184 0 255 (dk_at dksX2_work_6 17 rfl rfl)
theorem dX2_work_163 : decode cX2_work 163 = .ok (.goto 11, 3) := dk_167 0 11 (dk_at dksX2_work_6 20 rfl rfl)
theorem dX2_work_166 : decode cX2_work 166 = .ok (.aload_n 0, 1) := dk_42 (dk_at dksX2_work_6 23 rfl rfl)
theorem dX2_work_167 : decode cX2_work 167 = .ok (.iload 6, 2) := dk_21 6 (dk_at dksX2_work_7 0 rfl rfl)
theorem dX2_work_169 : decode cX2_work 169 = .ok (.iload 9, 2) := dk_21 9 (dk_at dksX2_work_7 2 rfl rfl)
theorem dX2_work_171 : decode cX2_work 171 = .ok (.invokevirtual 308, 3) := dk_182 1 52 (dk_at dksX2_work_7 4 rfl rfl)
theorem dX2_work_174 : decode cX2_work 174 = .ok (.bastore, 1) := dk_84 (dk_at dksX2_work_7 7 rfl rfl)
theorem dX2_work_175 : decode cX2_work 175 = .ok (.iinc 6 1, 3) := dk_132 6 1 (dk_at dksX2_work_7 8 rfl rfl)
theorem dX2_work_178 : decode cX2_work 178 = .ok (.goto 187, 3) := dk_167 0 187 (dk_at dksX2_work_7 11 rfl rfl)
theorem dX2_work_181 : decode cX2_work 181 = .ok (.iload 8, 2) := dk_21 8 (dk_at dksX2_work_7 14 rfl rfl)
theorem dX2_work_183 : decode cX2_work 183 = .ok (.iconst 4, 1) := dk_7 (dk_at dksX2_work_7 16 rfl rfl)
theorem dX2_work_184 : decode cX2_work 184 = .ok (.if_icmp .ne 25, 3) := dk_160 0 25 (dk_at dksX2_work_7 17 rfl rfl)
theorem dX2_work_187 : decode cX2_work 187 = .ok (.aload_n 0, 1) := dk_42 (dk_at dksX2_work_7 20 rfl rfl)
theorem dX2_work_188 : decode cX2_work 188 = .ok (.getfield 38, 3) := dk_180 0 38 (dk_at dksX2_work_7 21 rfl rfl)
theorem dX2_work_191 : decode cX2_work 191 = .ok (.iload 5, 2) := dk_21 5 (dk_at dksX2_work_8 0 rfl rfl)
theorem dX2_work_193 : decode cX2_work 193 = .ok (.iconst 1, 1) := dk_4 (dk_at dksX2_work_8 2 rfl rfl)
theorem dX2_work_194 : decode cX2_work 194 = .ok (.isub, 1) := dk_100 (dk_at dksX2_work_8 3 rfl rfl)
theorem dX2_work_195 : decode cX2_work 195 = .ok (.aload_n 0, 1) := dk_42 (dk_at dksX2_work_8 4 rfl rfl)
theorem dX2_work_196 : decode cX2_work 196 = .ok (.getfield 38, 3) := dk_180 0 38 (dk_at dksX2_work_8 5 rfl rfl)
theorem dX2_work_199 : decode cX2_work 199 = .ok (.iload 5, 2) := dk_21 5 (dk_at dksX2_work_8 8 rfl rfl)
theorem dX2_work_201 : decode cX2_work 201 = .ok (.iconst 1, 1) := dk_4 (dk_at dksX2_work_8 10 rfl rfl)
theorem dX2_work_202 : decode cX2_work 202 = .ok (.isub, 1) := dk_100 (dk_at dksX2_work_8 11 rfl rfl)
theorem dX2_work_203 : decode cX2_work 203 = .ok (.laload, 1) := dk_47 (dk_at dksX2_work_8 12 rfl rfl)
theorem dX2_work_204 : decode cX2_work 204 = .ok (.lneg, 1) := dk_117 (dk_at dksX2_work_8 13 rfl rfl)
theorem dX2_work_205 : decode cX2_work 205 = .ok (.lastore, 1) := dk_80 (dk_at dksX2_work_8 14 rfl rfl)
theorem dX2_work_206 : decode cX2_work 206 = .ok (.goto 159, 3) := dk_167 0 159 (dk_at dksX2_work_8 15 rfl rfl)
theorem dX2_work_209 : decode cX2_work 209 = .ok (.iload 8, 2) := dk_21 8 (dk_at dksX2_work_8 18 rfl rfl)
theorem dX2_work_211 : decode cX2_work 211 = .ok (.bipush 10, 2) := dk_16 10 (dk_at dksX2_work_8 20 rfl rfl)
theorem dX2_work_213 : decode cX2_work 213 = .ok (.if_icmp .ge 39, 3) := dk_162 0 39 (dk_at dksX2_work_9 0 rfl rfl)
theorem dX2_work_216 : decode cX2_work 216 = .ok (.iinc 5 (-1), 3) := dk_132 5 255 (dk_at dksX2_work_9 3 rfl rfl)
theorem dX2_work_219 : decode cX2_work 219 = .ok (.aload_n 0, 1) := dk_42 (dk_at dksX2_work_9 6 rfl rfl)
theorem dX2_work_220 : decode cX2_work 220 = .ok (.getfield 38, 3) := dk_180 0 38 (dk_at dksX2_work_9 7 rfl rfl)
theorem dX2_work_223 : decode cX2_work 223 = .ok (.iload 5, 2) := dk_21 5 (dk_at dksX2_work_9 10 rfl rfl)
theorem dX2_work_225 : decode cX2_work 225 = .ok (.iconst 1, 1) := dk_4 (dk_at dksX2_work_9 12 rfl rfl)
theorem dX2_work_226 : decode cX2_work 226 = .ok (.isub, 1) := dk_100 (dk_at dksX2_work_9 13 rfl rfl)
theorem dX2_work_227 : decode cX2_work 227 = .ok (.iload 8, 2) := dk_21 8 (dk_at dksX2_work_9 14 rfl rfl)
theorem dX2_work_229 : decode cX2_work 229 = .ok (.aload_n 0, 1) := dk_42 (dk_at dksX2_work_9 16 rfl rfl)
theorem dX2_work_230 : decode cX2_work 230 = .ok (.getfield 38, 3) := dk_180 0 38 (dk_at dksX2_work_9 17 rfl rfl)
theorem dX2_work_233 : decode cX2_work 233 = .ok (.iload 5, 2) := dk_21 5 (dk_at dksX2_work_9 20 rfl rfl)
theorem dX2_work_235 : decode cX2_work 235 = .ok (.iconst 1, 1) := dk_4 (dk_at dksX2_work_9 22 rfl rfl)
theorem dX2_work_236 : decode cX2_work 236 = .ok (.isub, 1) := dk_100 (dk_at dksX2_work_9 23 rfl rfl)
theorem dX2_work_237 : decode cX2_work 237 = .ok (.laload, 1) := dk_47 (dk_at dksX2_work_10 0 rfl rfl)
theorem dX2_work_238 : decode cX2_work 238 = .ok (.aload_n 0, 1) := dk_42 (dk_at dksX2_work_10 1 rfl rfl)
theorem dX2_work_239 : decode cX2_work 239 = .ok (.getfield 38, 3) := dk_180 0 38 (dk_at dksX2_work_10 2 rfl rfl)
theorem dX2_work_242 : decode cX2_work 242 = .ok (.iload 5, 2) := dk_21 5 (dk_at dksX2_work_10 5 rfl rfl)
theorem dX2_work_244 : decode cX2_work 244 = .ok (.laload, 1) := dk_47 (dk_at dksX2_work_10 7 rfl rfl)
theorem dX2_work_245 : decode cX2_work 245 = .ok (.invokestatic 311, 3) := dk_184 1 55 (dk_at dksX2_work_10 8 rfl rfl)
theorem dX2_work_248 : decode cX2_work 248 = .ok (.lastore, 1) := dk_80 (dk_at dksX2_work_10 11 rfl rfl)
theorem dX2_work_249 : decode cX2_work 249 = .ok (.goto 116, 3) := dk_167 0 116 (dk_at dksX2_work_10 12 rfl rfl)
theorem dX2_work_252 : decode cX2_work 252 = .ok (.iload 8, 2) := dk_21 8 (dk_at dksX2_work_10 15 rfl rfl)
theorem dX2_work_254 : decode cX2_work 254 = .ok (.bipush 20, 2) := dk_16 20 (dk_at dksX2_work_10 17 rfl rfl)
theorem dX2_work_256 : decode cX2_work 256 = .ok (.if_icmp .ge 40, 3) := dk_162 0 40 (dk_at dksX2_work_10 19 rfl rfl)
theorem dX2_work_259 : decode cX2_work 259 = .ok (.iinc 5 (-2), 3) := dk_132 5 254 (dk_at dksX2_work_11 0 rfl rfl)
theorem dX2_work_262 : decode cX2_work 262 = .ok (.aload_n 0, 1) := dk_42 (dk_at dksX2_work_11 3 rfl rfl)
theorem dX2_work_263 : decode cX2_work 263 = .ok (.getfield 42, 3) := dk_180 0 42 (dk_at dksX2_work_11 4 rfl rfl)
theorem dX2_work_266 : decode cX2_work 266 = .ok (.iload 6, 2) := dk_21 6 (dk_at dksX2_work_11 7 rfl rfl)
theorem dX2_work_268 : decode cX2_work 268 = .ok (.iload 8, 2) := dk_21 8 (dk_at dksX2_work_11 9 rfl rfl)
theorem dX2_work_270 : decode cX2_work 270 = .ok (.aload_n 0, 1) := dk_42 (dk_at dksX2_work_11 11 rfl rfl)
theorem dX2_work_271 : decode cX2_work 271 = .ok (.getfield 38, 3) := dk_180 0 38 (dk_at dksX2_work_11 12 rfl rfl)
theorem dX2_work_274 : decode cX2_work 274 = .ok (.iload 5, 2) := dk_21 5 (dk_at dksX2_work_11 15 rfl rfl)
theorem dX2_work_276 : decode cX2_work 276 = .ok (.laload, 1) := dk_47 (dk_at dksX2_work_11 17 rfl rfl)
theorem dX2_work_277 : decode cX2_work 277 = .ok (.aload_n 0, 1) := dk_42 (dk_at dksX2_work_11 18 rfl rfl)
theorem dX2_work_278 : decode cX2_work 278 = .ok (.getfield 38, 3) := dk_180 0 38 (dk_at dksX2_work_11 19 rfl rfl)
theorem dX2_work_281 : decode cX2_work 281 = .ok (.iload 5, 2) := dk_21 5 (dk_at dksX2_work_11 22 rfl rfl)
theorem dX2_work_283 : decode cX2_work 283 = .ok (.iconst 1, 1) := dk_4 (dk_at dksX2_work_12 0 rfl rfl)
theorem dX2_work_284 : decode cX2_work 284 = .ok (.iadd, 1) := dk_96 (dk_at dksX2_work_12 1 rfl rfl)
theorem dX2_work_285 : decode cX2_work 285 = .ok (.laload, 1) := dk_47 (dk_at dksX2_work_12 2 rfl rfl)
theorem dX2_work_286 : decode cX2_work 286 = .ok (.invokestatic 315, 3) := dk_184 1 59 (dk_at dksX2_work_12 3 rfl rfl)
theorem dX2_work_289 : decode cX2_work 289 = .ok (.bastore, 1) := dk_84 (dk_at dksX2_work_12 6 rfl rfl)
theorem dX2_work_290 : decode cX2_work 290 = .ok (.iinc 6 1, 3) := dk_132 6 1 (dk_at dksX2_work_12 7 rfl rfl)
theorem dX2_work_293 : decode cX2_work 293 = .ok (.goto 72, 3) := dk_167 0 72 (dk_at dksX2_work_12 10 rfl rfl)
theorem dX2_work_296 : decode cX2_work 296 = .ok (.iload 8, 2) := dk_21 8 (dk_at dksX2_work_12 13 rfl rfl)
theorem dX2_work_298 : decode cX2_work 298 = .ok (.bipush 20, 2) := dk_16 20 (dk_at dksX2_work_12 15 rfl rfl)
theorem dX2_work_300 : decode cX2_work 300 = .ok (.if_icmp .ne 32, 3) := dk_160 0 32 (dk_at dksX2_work_12 17 rfl rfl)
theorem dX2_work_303 : decode cX2_work 303 = .ok (.aload_n 0, 1) := dk_42 (dk_at dksX2_work_12 20 rfl rfl)
theorem dX2_work_304 : decode cX2_work 304 = .ok (.getfield 42, 3) := dk_180 0 42 (dk_at dksX2_work_12 21 rfl rfl)
theorem dX2_work_307 : decode cX2_work 307 = .ok (.iload 6, 2) := dk_21 6 (dk_at dksX2_work_13 0 rfl rfl)
theorem dX2_work_309 : decode cX2_work 309 = .ok (.iconst 1, 1) := dk_4 (dk_at dksX2_work_13 2 rfl rfl)
theorem dX2_work_310 : decode cX2_work 310 = .ok (.isub, 1) := dk_100 (dk_at dksX2_work_13 3 rfl rfl)
theorem dX2_work_311 : decode cX2_work 311 = .ok (.aload_n 0, 1) := dk_42 (dk_at dksX2_work_13 4 rfl rfl)
theorem dX2_work_312 : decode cX2_work 312 = .ok (.getfield 42, 3) := dk_180 0 42 (dk_at dksX2_work_13 5 rfl rfl)
theorem dX2_work_315 : decode cX2_work 315 = .ok (.iload 6, 2) := dk_21 6 (dk_at dksX2_work_13 8 rfl rfl)
theorem dX2_work_317 : decode cX2_work 317 = .ok (.iconst 1, 1) := dk_4 (dk_at dksX2_work_13 10 rfl rfl)
theorem dX2_work_318 : decode cX2_work 318 = .ok (.isub, 1) := dk_100 (dk_at dksX2_work_13 11 rfl rfl)
theorem dX2_work_319 : decode cX2_work 319 = .ok (.baload, 1) := dk_51 (dk_at dksX2_work_13 12 rfl rfl)
theorem dX2_work_320 : decode cX2_work 320 = .ok (.ifCond .ne 7, 3) := dk_154 0 7 (dk_at dksX2_work_13 13 rfl rfl)
theorem dX2_work_323 : decode cX2_work 323 = .ok (.iconst 1, 1) := dk_4 (dk_at dksX2_work_13 16 rfl rfl)
theorem dX2_work_324 : decode cX2_work 324 = .ok (.goto 4, 3) := dk_167 0 4 (dk_at dksX2_work_13 17 rfl rfl)
theorem dX2_work_327 : decode cX2_work 327 = .ok (.iconst 0, 1) := dk_3 (dk_at dksX2_work_13 20 rfl rfl)
theorem dX2_work_328 : decode cX2_work 328 = .ok (.bastore, 1) := dk_84 (dk_at dksX2_work_13 21 rfl rfl)
theorem dX2_work_329 : decode cX2_work 329 = .ok (.goto 36, 3) := dk_167 0 36 (dk_at dksX2_work_14 0 rfl rfl)
theorem dX2_work_332 : decode cX2_work 332 = .ok (.iinc 6 (-1), 3) := dk_132 6 255 (dk_at dksX2_work_14 3 rfl rfl)
theorem dX2_work_335 : decode cX2_work 335 = .ok (.aload_n 0, 1) := dk_42 (dk_at dksX2_work_14 6 rfl rfl)
theorem dX2_work_336 : decode cX2_work 336 = .ok (.getfield 42, 3) := dk_180 0 42 (dk_at dksX2_work_14 7 rfl rfl)
theorem dX2_work_339 : decode cX2_work 339 = .ok (.iload 6, 2) := dk_21 6 (dk_at dksX2_work_14 10 rfl rfl)
theorem dX2_work_341 : decode cX2_work 341 = .ok (.iconst 1, 1) := dk_4 (dk_at dksX2_work_14 12 rfl rfl)
theorem dX2_work_342 : decode cX2_work 342 = .ok (.isub, 1) := dk_100 (dk_at dksX2_work_14 13 rfl rfl)
theorem dX2_work_343 : decode cX2_work 343 = .ok (.iload 8, 2) := dk_21 8 (dk_at dksX2_work_14 14 rfl rfl)
theorem dX2_work_345 : decode cX2_work 345 = .ok (.aload_n 0, 1) := dk_42 (dk_at dksX2_work_14 16 rfl rfl)
theorem dX2_work_346 : decode cX2_work 346 = .ok (.getfield 42, 3) := dk_180 0 42 (dk_at dksX2_work_14 17 rfl rfl)
theorem dX2_work_349 : decode cX2_work 349 = .ok (.iload 6, 2) := dk_21 6 (dk_at dksX2_work_14 20 rfl rfl)
theorem dX2_work_351 : decode cX2_work 351 = .ok (.iconst 1, 1) := dk_4 (dk_at dksX2_work_14 22 rfl rfl)
theorem dX2_work_352 : decode cX2_work 352 = .ok (.isub, 1) := dk_100 (dk_at dksX2_work_14 23 rfl rfl)
theorem dX2_work_353 : decode cX2_work 353 = .ok (.baload, 1) := dk_51 (dk_at dksX2_work_15 0 rfl rfl)
theorem dX2_work_354 : decode cX2_work 354 = .ok (.aload_n 0, 1) := dk_42 (dk_at dksX2_work_15 1 rfl rfl)
theorem dX2_work_355 : decode cX2_work 355 = .ok (.getfield 42, 3) := dk_180 0 42 (dk_at dksX2_work_15 2 rfl rfl)
theorem dX2_work_358 : decode cX2_work 358 = .ok (.iload 6, 2) := dk_21 6 (dk_at dksX2_work_15 5 rfl rfl)
theorem dX2_work_360 : decode cX2_work 360 = .ok (.baload, 1) := dk_51 (dk_at dksX2_work_15 7 rfl rfl)
theorem dX2_work_361 : decode cX2_work 361 = .ok (.invokestatic 319, 3) := dk_184 1 63 (dk_at dksX2_work_15 8 rfl rfl)
theorem dX2_work_364 : decode cX2_work 364 = .ok (.bastore, 1) := dk_84 (dk_at dksX2_work_15 11 rfl rfl)
theorem dX2_work_365 : decode cX2_work 365 = .ok (.iinc 7 1, 3) := dk_132 7 1 (dk_at dksX2_work_15 12 rfl rfl)
theorem dX2_work_368 : decode cX2_work 368 = .ok (.goto (-330), 3) := dk_167 254 182 (dk_at dksX2_work_15 15 rfl rfl)
theorem dX2_work_371 : decode cX2_work 371 = .ok (.return_, 1) := dk_177 (dk_at dksX2_work_15 18 rfl rfl)
abbrev cX2_areMost : ByteArray := prog_20_method_64_code
def yX2_areMost : MethodName := ⟨RX2, "areMost", "(II)Z"⟩
def dkwX2_areMost_2 : List UInt8 := [3, 172]
abbrev dktX2_areMost_2 : List UInt8 := dkwX2_areMost_2 ++ []
def dkwX2_areMost_1 : List UInt8 := [4, 167, 0, 4, 3, 96, 62, 132, 4, 1, 167, 255, 227, 5, 29, 104, 28, 164, 0, 7, 4, 167, 0, 4]
abbrev dktX2_areMost_1 : List UInt8 := dkwX2_areMost_1 ++ dktX2_areMost_2
def dkwX2_areMost_0 : List UInt8 := [3, 62, 3, 54, 4, 21, 4, 28, 162, 0, 29, 29, 42, 180, 0, 42, 27, 21, 4, 96, 51, 153, 0, 7]
abbrev dktX2_areMost_0 : List UInt8 := dkwX2_areMost_0 ++ dktX2_areMost_1
theorem dksX2_areMost_0 : cX2_areMost.data.toList.drop 0 = dktX2_areMost_0 := by decide +kernel
theorem dksX2_areMost_1 : cX2_areMost.data.toList.drop 24 = dktX2_areMost_1 := dk_seg dksX2_areMost_0 24 rfl rfl
theorem dksX2_areMost_2 : cX2_areMost.data.toList.drop 48 = dktX2_areMost_2 := dk_seg dksX2_areMost_1 24 rfl rfl
theorem dX2_areMost_0 : decode cX2_areMost 0 = .ok (.iconst 0, 1) := dk_3 (dk_at dksX2_areMost_0 0 rfl rfl)
theorem dX2_areMost_1 : decode cX2_areMost 1 = .ok (.istore_n 3, 1) := dk_62 (dk_at dksX2_areMost_0 1 rfl rfl)
theorem dX2_areMost_2 : decode cX2_areMost 2 = .ok (.iconst 0, 1) := dk_3 (dk_at dksX2_areMost_0 2 rfl rfl)
theorem dX2_areMost_3 : decode cX2_areMost 3 = .ok (.istore 4, 2) := dk_54 4 (dk_at dksX2_areMost_0 3 rfl rfl)
theorem dX2_areMost_5 : decode cX2_areMost 5 = .ok (.iload 4, 2) := dk_21 4 (dk_at dksX2_areMost_0 5 rfl rfl)
theorem dX2_areMost_7 : decode cX2_areMost 7 = .ok (.iload_n 2, 1) := dk_28 (dk_at dksX2_areMost_0 7 rfl rfl)
theorem dX2_areMost_8 : decode cX2_areMost 8 = .ok (.if_icmp .ge 29, 3) := dk_162 0 29 (dk_at dksX2_areMost_0 8 rfl rfl)
theorem dX2_areMost_11 : decode cX2_areMost 11 = .ok (.iload_n 3, 1) := dk_29 (dk_at dksX2_areMost_0 11 rfl rfl)
theorem dX2_areMost_12 : decode cX2_areMost 12 = .ok (.aload_n 0, 1) := dk_42 (dk_at dksX2_areMost_0 12 rfl rfl)
theorem dX2_areMost_13 : decode cX2_areMost 13 = .ok (.getfield 42, 3) := dk_180 0 42 (dk_at dksX2_areMost_0 13 rfl rfl)
theorem dX2_areMost_16 : decode cX2_areMost 16 = .ok (.iload_n 1, 1) := dk_27 (dk_at dksX2_areMost_0 16 rfl rfl)
theorem dX2_areMost_17 : decode cX2_areMost 17 = .ok (.iload 4, 2) := dk_21 4 (dk_at dksX2_areMost_0 17 rfl rfl)
theorem dX2_areMost_19 : decode cX2_areMost 19 = .ok (.iadd, 1) := dk_96 (dk_at dksX2_areMost_0 19 rfl rfl)
theorem dX2_areMost_20 : decode cX2_areMost 20 = .ok (.baload, 1) := dk_51 (dk_at dksX2_areMost_0 20 rfl rfl)
theorem dX2_areMost_21 : decode cX2_areMost 21 = .ok (.ifCond .eq 7, 3) := dk_153 0 7 (dk_at dksX2_areMost_0 21 rfl rfl)
theorem dX2_areMost_24 : decode cX2_areMost 24 = .ok (.iconst 1, 1) := dk_4 (dk_at dksX2_areMost_1 0 rfl rfl)
theorem dX2_areMost_25 : decode cX2_areMost 25 = .ok (.goto 4, 3) := dk_167 0 4 (dk_at dksX2_areMost_1 1 rfl rfl)
theorem dX2_areMost_28 : decode cX2_areMost 28 = .ok (.iconst 0, 1) := dk_3 (dk_at dksX2_areMost_1 4 rfl rfl)
theorem dX2_areMost_29 : decode cX2_areMost 29 = .ok (.iadd, 1) := dk_96 (dk_at dksX2_areMost_1 5 rfl rfl)
theorem dX2_areMost_30 : decode cX2_areMost 30 = .ok (.istore_n 3, 1) := dk_62 (dk_at dksX2_areMost_1 6 rfl rfl)
theorem dX2_areMost_31 : decode cX2_areMost 31 = .ok (.iinc 4 1, 3) := dk_132 4 1 (dk_at dksX2_areMost_1 7 rfl rfl)
theorem dX2_areMost_34 : decode cX2_areMost 34 = .ok (.goto (-29), 3) := dk_167 255 227 (dk_at dksX2_areMost_1 10 rfl rfl)
theorem dX2_areMost_37 : decode cX2_areMost 37 = .ok (.iconst 2, 1) := dk_5 (dk_at dksX2_areMost_1 13 rfl rfl)
theorem dX2_areMost_38 : decode cX2_areMost 38 = .ok (.iload_n 3, 1) := dk_29 (dk_at dksX2_areMost_1 14 rfl rfl)
theorem dX2_areMost_39 : decode cX2_areMost 39 = .ok (.imul, 1) := dk_104 (dk_at dksX2_areMost_1 15 rfl rfl)
theorem dX2_areMost_40 : decode cX2_areMost 40 = .ok (.iload_n 2, 1) := dk_28 (dk_at dksX2_areMost_1 16 rfl rfl)
theorem dX2_areMost_41 : decode cX2_areMost 41 = .ok (.if_icmp .le 7, 3) := dk_164 0 7 (dk_at dksX2_areMost_1 17 rfl rfl)
theorem dX2_areMost_44 : decode cX2_areMost 44 = .ok (.iconst 1, 1) := dk_4 (dk_at dksX2_areMost_1 20 rfl rfl)
theorem dX2_areMost_45 : decode cX2_areMost 45 = .ok (.goto 4, 3) := dk_167 0 4 (dk_at dksX2_areMost_1 21 rfl rfl)
theorem dX2_areMost_48 : decode cX2_areMost 48 = .ok (.iconst 0, 1) := dk_3 (dk_at dksX2_areMost_2 0 rfl rfl)
theorem dX2_areMost_49 : decode cX2_areMost 49 = .ok (.ireturn, 1) := dk_172 (dk_at dksX2_areMost_2 1 rfl rfl)
abbrev cX2_two : ByteArray := prog_20_method_62_code
def yX2_two : MethodName := ⟨RX2, "two", "(IJJ)J"⟩
def dkwX2_two_3 : List UInt8 := [154, 0, 7, 9, 167, 0, 9, 31, 33, 109, 184, 1, 45, 173]
abbrev dktX2_two_3 : List UInt8 := dkwX2_two_3 ++ []
def dkwX2_two_2 : List UInt8 := [31, 33, 97, 184, 1, 45, 173, 31, 33, 101, 184, 1, 45, 173, 31, 33, 105, 184, 1, 45, 173, 33, 9, 148]
abbrev dktX2_two_2 : List UInt8 := dkwX2_two_2 ++ dktX2_two_3
def dkwX2_two_1 : List UInt8 := [170, 0, 0, 0, 0, 0, 48, 0, 0, 0, 5, 0, 0, 0, 7, 0, 0, 0, 27, 0, 0, 0, 34, 0, 0, 0, 41]
abbrev dktX2_two_1 : List UInt8 := dkwX2_two_1 ++ dktX2_two_2
def dkwX2_two_0 : List UInt8 := [26]
abbrev dktX2_two_0 : List UInt8 := dkwX2_two_0 ++ dktX2_two_1
theorem dksX2_two_0 : cX2_two.data.toList.drop 0 = dktX2_two_0 := by decide +kernel
theorem dksX2_two_1 : cX2_two.data.toList.drop 1 = dktX2_two_1 := dk_seg dksX2_two_0 1 rfl rfl
theorem dksX2_two_2 : cX2_two.data.toList.drop 28 = dktX2_two_2 := dk_seg dksX2_two_1 27 rfl rfl
theorem dksX2_two_3 : cX2_two.data.toList.drop 52 = dktX2_two_3 := dk_seg dksX2_two_2 24 rfl rfl
theorem dX2_two_0 : decode cX2_two 0 = .ok (.iload_n 0, 1) := dk_26 (dk_at dksX2_two_0 0 rfl rfl)
theorem dX2_two_1 : decode cX2_two 1 = .ok (.tableswitch 48 5 7 #[27, 34, 41], 27) := by decide +kernel
theorem dX2_two_28 : decode cX2_two 28 = .ok (.lload_n 1, 1) := dk_31 (dk_at dksX2_two_2 0 rfl rfl)
theorem dX2_two_29 : decode cX2_two 29 = .ok (.lload_n 3, 1) := dk_33 (dk_at dksX2_two_2 1 rfl rfl)
theorem dX2_two_30 : decode cX2_two 30 = .ok (.ladd, 1) := dk_97 (dk_at dksX2_two_2 2 rfl rfl)
theorem dX2_two_31 : decode cX2_two 31 = .ok (.invokestatic 301, 3) := dk_184 1 45 (dk_at dksX2_two_2 3 rfl rfl)
theorem dX2_two_34 : decode cX2_two 34 = .ok (.lreturn, 1) := dk_173 (dk_at dksX2_two_2 6 rfl rfl)
theorem dX2_two_35 : decode cX2_two 35 = .ok (.lload_n 1, 1) := dk_31 (dk_at dksX2_two_2 7 rfl rfl)
theorem dX2_two_36 : decode cX2_two 36 = .ok (.lload_n 3, 1) := dk_33 (dk_at dksX2_two_2 8 rfl rfl)
theorem dX2_two_37 : decode cX2_two 37 = .ok (.lsub, 1) := dk_101 (dk_at dksX2_two_2 9 rfl rfl)
theorem dX2_two_38 : decode cX2_two 38 = .ok (.invokestatic 301, 3) := dk_184 1 45 (dk_at dksX2_two_2 10 rfl rfl)
theorem dX2_two_41 : decode cX2_two 41 = .ok (.lreturn, 1) := dk_173 (dk_at dksX2_two_2 13 rfl rfl)
theorem dX2_two_42 : decode cX2_two 42 = .ok (.lload_n 1, 1) := dk_31 (dk_at dksX2_two_2 14 rfl rfl)
theorem dX2_two_43 : decode cX2_two 43 = .ok (.lload_n 3, 1) := dk_33 (dk_at dksX2_two_2 15 rfl rfl)
theorem dX2_two_44 : decode cX2_two 44 = .ok (.lmul, 1) := dk_105 (dk_at dksX2_two_2 16 rfl rfl)
theorem dX2_two_45 : decode cX2_two 45 = .ok (.invokestatic 301, 3) := dk_184 1 45 (dk_at dksX2_two_2 17 rfl rfl)
theorem dX2_two_48 : decode cX2_two 48 = .ok (.lreturn, 1) := dk_173 (dk_at dksX2_two_2 20 rfl rfl)
theorem dX2_two_49 : decode cX2_two 49 = .ok (.lload_n 3, 1) := dk_33 (dk_at dksX2_two_2 21 rfl rfl)
theorem dX2_two_50 : decode cX2_two 50 = .ok (.lconst 0, 1) := dk_9 (dk_at dksX2_two_2 22 rfl rfl)
theorem dX2_two_51 : decode cX2_two 51 = .ok (.lcmp, 1) := dk_148 (dk_at dksX2_two_2 23 rfl rfl)
theorem dX2_two_52 : decode cX2_two 52 = .ok (.ifCond .ne 7, 3) := dk_154 0 7 (dk_at dksX2_two_3 0 rfl rfl)
theorem dX2_two_55 : decode cX2_two 55 = .ok (.lconst 0, 1) := dk_9 (dk_at dksX2_two_3 3 rfl rfl)
theorem dX2_two_56 : decode cX2_two 56 = .ok (.goto 9, 3) := dk_167 0 9 (dk_at dksX2_two_3 4 rfl rfl)
theorem dX2_two_59 : decode cX2_two 59 = .ok (.lload_n 1, 1) := dk_31 (dk_at dksX2_two_3 7 rfl rfl)
theorem dX2_two_60 : decode cX2_two 60 = .ok (.lload_n 3, 1) := dk_33 (dk_at dksX2_two_3 8 rfl rfl)
theorem dX2_two_61 : decode cX2_two 61 = .ok (.ldiv, 1) := dk_109 (dk_at dksX2_two_3 9 rfl rfl)
theorem dX2_two_62 : decode cX2_two 62 = .ok (.invokestatic 301, 3) := dk_184 1 45 (dk_at dksX2_two_3 10 rfl rfl)
theorem dX2_two_65 : decode cX2_two 65 = .ok (.lreturn, 1) := dk_173 (dk_at dksX2_two_3 13 rfl rfl)
abbrev cX2_clip : ByteArray := prog_20_method_61_code
def yX2_clip : MethodName := ⟨RX2, "clip", "(J)J"⟩
def dkwX2_clip_1 : List UInt8 := [20, 1, 43, 167, 0, 4, 30, 173]
abbrev dktX2_clip_1 : List UInt8 := dkwX2_clip_1 ++ []
def dkwX2_clip_0 : List UInt8 := [30, 20, 1, 41, 148, 158, 0, 9, 20, 1, 41, 167, 0, 18, 30, 20, 1, 43, 148, 156, 0, 9]
abbrev dktX2_clip_0 : List UInt8 := dkwX2_clip_0 ++ dktX2_clip_1
theorem dksX2_clip_0 : cX2_clip.data.toList.drop 0 = dktX2_clip_0 := by decide +kernel
theorem dksX2_clip_1 : cX2_clip.data.toList.drop 22 = dktX2_clip_1 := dk_seg dksX2_clip_0 22 rfl rfl
theorem dX2_clip_0 : decode cX2_clip 0 = .ok (.lload_n 0, 1) := dk_30 (dk_at dksX2_clip_0 0 rfl rfl)
theorem dX2_clip_1 : decode cX2_clip 1 = .ok (.ldc2_w 297, 3) := dk_20 1 41 (dk_at dksX2_clip_0 1 rfl rfl)
theorem dX2_clip_4 : decode cX2_clip 4 = .ok (.lcmp, 1) := dk_148 (dk_at dksX2_clip_0 4 rfl rfl)
theorem dX2_clip_5 : decode cX2_clip 5 = .ok (.ifCond .le 9, 3) := dk_158 0 9 (dk_at dksX2_clip_0 5 rfl rfl)
theorem dX2_clip_8 : decode cX2_clip 8 = .ok (.ldc2_w 297, 3) := dk_20 1 41 (dk_at dksX2_clip_0 8 rfl rfl)
theorem dX2_clip_11 : decode cX2_clip 11 = .ok (.goto 18, 3) := dk_167 0 18 (dk_at dksX2_clip_0 11 rfl rfl)
theorem dX2_clip_14 : decode cX2_clip 14 = .ok (.lload_n 0, 1) := dk_30 (dk_at dksX2_clip_0 14 rfl rfl)
theorem dX2_clip_15 : decode cX2_clip 15 = .ok (.ldc2_w 299, 3) := dk_20 1 43 (dk_at dksX2_clip_0 15 rfl rfl)
theorem dX2_clip_18 : decode cX2_clip 18 = .ok (.lcmp, 1) := dk_148 (dk_at dksX2_clip_0 18 rfl rfl)
theorem dX2_clip_19 : decode cX2_clip 19 = .ok (.ifCond .ge 9, 3) := dk_156 0 9 (dk_at dksX2_clip_0 19 rfl rfl)
theorem dX2_clip_22 : decode cX2_clip 22 = .ok (.ldc2_w 299, 3) := dk_20 1 43 (dk_at dksX2_clip_1 0 rfl rfl)
theorem dX2_clip_25 : decode cX2_clip 25 = .ok (.goto 4, 3) := dk_167 0 4 (dk_at dksX2_clip_1 3 rfl rfl)
theorem dX2_clip_28 : decode cX2_clip 28 = .ok (.lload_n 0, 1) := dk_30 (dk_at dksX2_clip_1 6 rfl rfl)
theorem dX2_clip_29 : decode cX2_clip 29 = .ok (.lreturn, 1) := dk_173 (dk_at dksX2_clip_1 7 rfl rfl)
abbrev cX2_isAsked : ByteArray := prog_20_method_63_code
def yX2_isAsked : MethodName := ⟨RX2, "isAsked", "(IJJ)Z"⟩
def dkwX2_isAsked_4 : List UInt8 := [167, 0, 18, 3, 167, 0, 14, 31, 33, 148, 153, 0, 7, 4, 167, 0, 4, 3, 172]
abbrev dktX2_isAsked_4 : List UInt8 := dkwX2_isAsked_4 ++ []
def dkwX2_isAsked_3 : List UInt8 := [155, 0, 7, 4, 167, 0, 38, 3, 167, 0, 34, 26, 16, 14, 160, 0, 17, 31, 33, 148, 154, 0, 7, 4]
abbrev dktX2_isAsked_3 : List UInt8 := dkwX2_isAsked_3 ++ dktX2_isAsked_4
def dkwX2_isAsked_2 : List UInt8 := [33, 148, 158, 0, 7, 4, 167, 0, 58, 3, 167, 0, 54, 26, 16, 13, 160, 0, 17, 31, 33, 148]
abbrev dktX2_isAsked_2 : List UInt8 := dkwX2_isAsked_2 ++ dktX2_isAsked_3
def dkwX2_isAsked_1 : List UInt8 := [160, 0, 17, 31, 33, 148, 157, 0, 7, 4, 167, 0, 78, 3, 167, 0, 74, 26, 16, 12, 160, 0, 17, 31]
abbrev dktX2_isAsked_1 : List UInt8 := dkwX2_isAsked_1 ++ dktX2_isAsked_2
def dkwX2_isAsked_0 : List UInt8 := [26, 16, 10, 160, 0, 17, 31, 33, 148, 156, 0, 7, 4, 167, 0, 98, 3, 167, 0, 94, 26, 16, 11]
abbrev dktX2_isAsked_0 : List UInt8 := dkwX2_isAsked_0 ++ dktX2_isAsked_1
theorem dksX2_isAsked_0 : cX2_isAsked.data.toList.drop 0 = dktX2_isAsked_0 := by decide +kernel
theorem dksX2_isAsked_1 : cX2_isAsked.data.toList.drop 23 = dktX2_isAsked_1 := dk_seg dksX2_isAsked_0 23 rfl rfl
theorem dksX2_isAsked_2 : cX2_isAsked.data.toList.drop 47 = dktX2_isAsked_2 := dk_seg dksX2_isAsked_1 24 rfl rfl
theorem dksX2_isAsked_3 : cX2_isAsked.data.toList.drop 69 = dktX2_isAsked_3 := dk_seg dksX2_isAsked_2 22 rfl rfl
theorem dksX2_isAsked_4 : cX2_isAsked.data.toList.drop 93 = dktX2_isAsked_4 := dk_seg dksX2_isAsked_3 24 rfl rfl
theorem dX2_isAsked_0 : decode cX2_isAsked 0 = .ok (.iload_n 0, 1) := dk_26 (dk_at dksX2_isAsked_0 0 rfl rfl)
theorem dX2_isAsked_1 : decode cX2_isAsked 1 = .ok (.bipush 10, 2) := dk_16 10 (dk_at dksX2_isAsked_0 1 rfl rfl)
theorem dX2_isAsked_3 : decode cX2_isAsked 3 = .ok (.if_icmp .ne 17, 3) := dk_160 0 17 (dk_at dksX2_isAsked_0 3 rfl rfl)
theorem dX2_isAsked_6 : decode cX2_isAsked 6 = .ok (.lload_n 1, 1) := dk_31 (dk_at dksX2_isAsked_0 6 rfl rfl)
theorem dX2_isAsked_7 : decode cX2_isAsked 7 = .ok (.lload_n 3, 1) := dk_33 (dk_at dksX2_isAsked_0 7 rfl rfl)
theorem dX2_isAsked_8 : decode cX2_isAsked 8 = .ok (.lcmp, 1) := dk_148 (dk_at dksX2_isAsked_0 8 rfl rfl)
theorem dX2_isAsked_9 : decode cX2_isAsked 9 = .ok (.ifCond .ge 7, 3) := dk_156 0 7 (dk_at dksX2_isAsked_0 9 rfl rfl)
theorem dX2_isAsked_12 : decode cX2_isAsked 12 = .ok (.iconst 1, 1) := dk_4 (dk_at dksX2_isAsked_0 12 rfl rfl)
theorem dX2_isAsked_13 : decode cX2_isAsked 13 = .ok (.goto 98, 3) := dk_167 0 98 (dk_at dksX2_isAsked_0 13 rfl rfl)
theorem dX2_isAsked_16 : decode cX2_isAsked 16 = .ok (.iconst 0, 1) := dk_3 (dk_at dksX2_isAsked_0 16 rfl rfl)
theorem dX2_isAsked_17 : decode cX2_isAsked 17 = .ok (.goto 94, 3) := dk_167 0 94 (dk_at dksX2_isAsked_0 17 rfl rfl)
theorem dX2_isAsked_20 : decode cX2_isAsked 20 = .ok (.iload_n 0, 1) := dk_26 (dk_at dksX2_isAsked_0 20 rfl rfl)
theorem dX2_isAsked_21 : decode cX2_isAsked 21 = .ok (.bipush 11, 2) := dk_16 11 (dk_at dksX2_isAsked_0 21 rfl rfl)
theorem dX2_isAsked_23 : decode cX2_isAsked 23 = .ok (.if_icmp .ne 17, 3) := dk_160 0 17 (dk_at dksX2_isAsked_1 0 rfl rfl)
theorem dX2_isAsked_26 : decode cX2_isAsked 26 = .ok (.lload_n 1, 1) := dk_31 (dk_at dksX2_isAsked_1 3 rfl rfl)
theorem dX2_isAsked_27 : decode cX2_isAsked 27 = .ok (.lload_n 3, 1) := dk_33 (dk_at dksX2_isAsked_1 4 rfl rfl)
theorem dX2_isAsked_28 : decode cX2_isAsked 28 = .ok (.lcmp, 1) := dk_148 (dk_at dksX2_isAsked_1 5 rfl rfl)
theorem dX2_isAsked_29 : decode cX2_isAsked 29 = .ok (.ifCond .gt 7, 3) := dk_157 0 7 (dk_at dksX2_isAsked_1 6 rfl rfl)
theorem dX2_isAsked_32 : decode cX2_isAsked 32 = .ok (.iconst 1, 1) := dk_4 (dk_at dksX2_isAsked_1 9 rfl rfl)
theorem dX2_isAsked_33 : decode cX2_isAsked 33 = .ok (.goto 78, 3) := dk_167 0 78 (dk_at dksX2_isAsked_1 10 rfl rfl)
theorem dX2_isAsked_36 : decode cX2_isAsked 36 = .ok (.iconst 0, 1) := dk_3 (dk_at dksX2_isAsked_1 13 rfl rfl)
theorem dX2_isAsked_37 : decode cX2_isAsked 37 = .ok (.goto 74, 3) := dk_167 0 74 (dk_at dksX2_isAsked_1 14 rfl rfl)
theorem dX2_isAsked_40 : decode cX2_isAsked 40 = .ok (.iload_n 0, 1) := dk_26 (dk_at dksX2_isAsked_1 17 rfl rfl)
theorem dX2_isAsked_41 : decode cX2_isAsked 41 = .ok (.bipush 12, 2) := dk_16 12 (dk_at dksX2_isAsked_1 18 rfl rfl)
theorem dX2_isAsked_43 : decode cX2_isAsked 43 = .ok (.if_icmp .ne 17, 3) := dk_160 0 17 (dk_at dksX2_isAsked_1 20 rfl rfl)
theorem dX2_isAsked_46 : decode cX2_isAsked 46 = .ok (.lload_n 1, 1) := dk_31 (dk_at dksX2_isAsked_1 23 rfl rfl)
theorem dX2_isAsked_47 : decode cX2_isAsked 47 = .ok (.lload_n 3, 1) := dk_33 (dk_at dksX2_isAsked_2 0 rfl rfl)
theorem dX2_isAsked_48 : decode cX2_isAsked 48 = .ok (.lcmp, 1) := dk_148 (dk_at dksX2_isAsked_2 1 rfl rfl)
theorem dX2_isAsked_49 : decode cX2_isAsked 49 = .ok (.ifCond .le 7, 3) := dk_158 0 7 (dk_at dksX2_isAsked_2 2 rfl rfl)
theorem dX2_isAsked_52 : decode cX2_isAsked 52 = .ok (.iconst 1, 1) := dk_4 (dk_at dksX2_isAsked_2 5 rfl rfl)
theorem dX2_isAsked_53 : decode cX2_isAsked 53 = .ok (.goto 58, 3) := dk_167 0 58 (dk_at dksX2_isAsked_2 6 rfl rfl)
theorem dX2_isAsked_56 : decode cX2_isAsked 56 = .ok (.iconst 0, 1) := dk_3 (dk_at dksX2_isAsked_2 9 rfl rfl)
theorem dX2_isAsked_57 : decode cX2_isAsked 57 = .ok (.goto 54, 3) := dk_167 0 54 (dk_at dksX2_isAsked_2 10 rfl rfl)
theorem dX2_isAsked_60 : decode cX2_isAsked 60 = .ok (.iload_n 0, 1) := dk_26 (dk_at dksX2_isAsked_2 13 rfl rfl)
theorem dX2_isAsked_61 : decode cX2_isAsked 61 = .ok (.bipush 13, 2) := dk_16 13 (dk_at dksX2_isAsked_2 14 rfl rfl)
theorem dX2_isAsked_63 : decode cX2_isAsked 63 = .ok (.if_icmp .ne 17, 3) := dk_160 0 17 (dk_at dksX2_isAsked_2 16 rfl rfl)
theorem dX2_isAsked_66 : decode cX2_isAsked 66 = .ok (.lload_n 1, 1) := dk_31 (dk_at dksX2_isAsked_2 19 rfl rfl)
theorem dX2_isAsked_67 : decode cX2_isAsked 67 = .ok (.lload_n 3, 1) := dk_33 (dk_at dksX2_isAsked_2 20 rfl rfl)
theorem dX2_isAsked_68 : decode cX2_isAsked 68 = .ok (.lcmp, 1) := dk_148 (dk_at dksX2_isAsked_2 21 rfl rfl)
theorem dX2_isAsked_69 : decode cX2_isAsked 69 = .ok (.ifCond .lt 7, 3) := dk_155 0 7 (dk_at dksX2_isAsked_3 0 rfl rfl)
theorem dX2_isAsked_72 : decode cX2_isAsked 72 = .ok (.iconst 1, 1) := dk_4 (dk_at dksX2_isAsked_3 3 rfl rfl)
theorem dX2_isAsked_73 : decode cX2_isAsked 73 = .ok (.goto 38, 3) := dk_167 0 38 (dk_at dksX2_isAsked_3 4 rfl rfl)
theorem dX2_isAsked_76 : decode cX2_isAsked 76 = .ok (.iconst 0, 1) := dk_3 (dk_at dksX2_isAsked_3 7 rfl rfl)
theorem dX2_isAsked_77 : decode cX2_isAsked 77 = .ok (.goto 34, 3) := dk_167 0 34 (dk_at dksX2_isAsked_3 8 rfl rfl)
theorem dX2_isAsked_80 : decode cX2_isAsked 80 = .ok (.iload_n 0, 1) := dk_26 (dk_at dksX2_isAsked_3 11 rfl rfl)
theorem dX2_isAsked_81 : decode cX2_isAsked 81 = .ok (.bipush 14, 2) := dk_16 14 (dk_at dksX2_isAsked_3 12 rfl rfl)
theorem dX2_isAsked_83 : decode cX2_isAsked 83 = .ok (.if_icmp .ne 17, 3) := dk_160 0 17 (dk_at dksX2_isAsked_3 14 rfl rfl)
theorem dX2_isAsked_86 : decode cX2_isAsked 86 = .ok (.lload_n 1, 1) := dk_31 (dk_at dksX2_isAsked_3 17 rfl rfl)
theorem dX2_isAsked_87 : decode cX2_isAsked 87 = .ok (.lload_n 3, 1) := dk_33 (dk_at dksX2_isAsked_3 18 rfl rfl)
theorem dX2_isAsked_88 : decode cX2_isAsked 88 = .ok (.lcmp, 1) := dk_148 (dk_at dksX2_isAsked_3 19 rfl rfl)
theorem dX2_isAsked_89 : decode cX2_isAsked 89 = .ok (.ifCond .ne 7, 3) := dk_154 0 7 (dk_at dksX2_isAsked_3 20 rfl rfl)
theorem dX2_isAsked_92 : decode cX2_isAsked 92 = .ok (.iconst 1, 1) := dk_4 (dk_at dksX2_isAsked_3 23 rfl rfl)
theorem dX2_isAsked_93 : decode cX2_isAsked 93 = .ok (.goto 18, 3) := dk_167 0 18 (dk_at dksX2_isAsked_4 0 rfl rfl)
theorem dX2_isAsked_96 : decode cX2_isAsked 96 = .ok (.iconst 0, 1) := dk_3 (dk_at dksX2_isAsked_4 3 rfl rfl)
theorem dX2_isAsked_97 : decode cX2_isAsked 97 = .ok (.goto 14, 3) := dk_167 0 14 (dk_at dksX2_isAsked_4 4 rfl rfl)
theorem dX2_isAsked_100 : decode cX2_isAsked 100 = .ok (.lload_n 1, 1) := dk_31 (dk_at dksX2_isAsked_4 7 rfl rfl)
theorem dX2_isAsked_101 : decode cX2_isAsked 101 = .ok (.lload_n 3, 1) := dk_33 (dk_at dksX2_isAsked_4 8 rfl rfl)
theorem dX2_isAsked_102 : decode cX2_isAsked 102 = .ok (.lcmp, 1) := dk_148 (dk_at dksX2_isAsked_4 9 rfl rfl)
theorem dX2_isAsked_103 : decode cX2_isAsked 103 = .ok (.ifCond .eq 7, 3) := dk_153 0 7 (dk_at dksX2_isAsked_4 10 rfl rfl)
theorem dX2_isAsked_106 : decode cX2_isAsked 106 = .ok (.iconst 1, 1) := dk_4 (dk_at dksX2_isAsked_4 13 rfl rfl)
theorem dX2_isAsked_107 : decode cX2_isAsked 107 = .ok (.goto 4, 3) := dk_167 0 4 (dk_at dksX2_isAsked_4 14 rfl rfl)
theorem dX2_isAsked_110 : decode cX2_isAsked 110 = .ok (.iconst 0, 1) := dk_3 (dk_at dksX2_isAsked_4 17 rfl rfl)
theorem dX2_isAsked_111 : decode cX2_isAsked 111 = .ok (.ireturn, 1) := dk_172 (dk_at dksX2_isAsked_4 18 rfl rfl)
abbrev cX2_joined : ByteArray := prog_20_method_65_code
def yX2_joined : MethodName := ⟨RX2, "joined", "(IZZ)Z"⟩
def dkwX2_joined_2 : List UInt8 := [153, 0, 11, 28, 154, 0, 7, 4, 167, 0, 4, 3, 172]
abbrev dktX2_joined_2 : List UInt8 := dkwX2_joined_2 ++ []
def dkwX2_joined_1 : List UInt8 := [16, 22, 160, 0, 19, 27, 154, 0, 7, 28, 153, 0, 7, 4, 167, 0, 20, 3, 167, 0, 16, 27]
abbrev dktX2_joined_1 : List UInt8 := dkwX2_joined_1 ++ dktX2_joined_2
def dkwX2_joined_0 : List UInt8 := [26, 16, 21, 160, 0, 19, 27, 153, 0, 11, 28, 153, 0, 7, 4, 167, 0, 42, 3, 167, 0, 38, 26]
abbrev dktX2_joined_0 : List UInt8 := dkwX2_joined_0 ++ dktX2_joined_1
theorem dksX2_joined_0 : cX2_joined.data.toList.drop 0 = dktX2_joined_0 := by decide +kernel
theorem dksX2_joined_1 : cX2_joined.data.toList.drop 23 = dktX2_joined_1 := dk_seg dksX2_joined_0 23 rfl rfl
theorem dksX2_joined_2 : cX2_joined.data.toList.drop 45 = dktX2_joined_2 := dk_seg dksX2_joined_1 22 rfl rfl
theorem dX2_joined_0 : decode cX2_joined 0 = .ok (.iload_n 0, 1) := dk_26 (dk_at dksX2_joined_0 0 rfl rfl)
theorem dX2_joined_1 : decode cX2_joined 1 = .ok (.bipush 21, 2) := dk_16 21 (dk_at dksX2_joined_0 1 rfl rfl)
theorem dX2_joined_3 : decode cX2_joined 3 = .ok (.if_icmp .ne 19, 3) := dk_160 0 19 (dk_at dksX2_joined_0 3 rfl rfl)
theorem dX2_joined_6 : decode cX2_joined 6 = .ok (.iload_n 1, 1) := dk_27 (dk_at dksX2_joined_0 6 rfl rfl)
theorem dX2_joined_7 : decode cX2_joined 7 = .ok (.ifCond .eq 11, 3) := dk_153 0 11 (dk_at dksX2_joined_0 7 rfl rfl)
theorem dX2_joined_10 : decode cX2_joined 10 = .ok (.iload_n 2, 1) := dk_28 (dk_at dksX2_joined_0 10 rfl rfl)
theorem dX2_joined_11 : decode cX2_joined 11 = .ok (.ifCond .eq 7, 3) := dk_153 0 7 (dk_at dksX2_joined_0 11 rfl rfl)
theorem dX2_joined_14 : decode cX2_joined 14 = .ok (.iconst 1, 1) := dk_4 (dk_at dksX2_joined_0 14 rfl rfl)
theorem dX2_joined_15 : decode cX2_joined 15 = .ok (.goto 42, 3) := dk_167 0 42 (dk_at dksX2_joined_0 15 rfl rfl)
theorem dX2_joined_18 : decode cX2_joined 18 = .ok (.iconst 0, 1) := dk_3 (dk_at dksX2_joined_0 18 rfl rfl)
theorem dX2_joined_19 : decode cX2_joined 19 = .ok (.goto 38, 3) := dk_167 0 38 (dk_at dksX2_joined_0 19 rfl rfl)
theorem dX2_joined_22 : decode cX2_joined 22 = .ok (.iload_n 0, 1) := dk_26 (dk_at dksX2_joined_0 22 rfl rfl)
theorem dX2_joined_23 : decode cX2_joined 23 = .ok (.bipush 22, 2) := dk_16 22 (dk_at dksX2_joined_1 0 rfl rfl)
theorem dX2_joined_25 : decode cX2_joined 25 = .ok (.if_icmp .ne 19, 3) := dk_160 0 19 (dk_at dksX2_joined_1 2 rfl rfl)
theorem dX2_joined_28 : decode cX2_joined 28 = .ok (.iload_n 1, 1) := dk_27 (dk_at dksX2_joined_1 5 rfl rfl)
theorem dX2_joined_29 : decode cX2_joined 29 = .ok (.ifCond .ne 7, 3) := dk_154 0 7 (dk_at dksX2_joined_1 6 rfl rfl)
theorem dX2_joined_32 : decode cX2_joined 32 = .ok (.iload_n 2, 1) := dk_28 (dk_at dksX2_joined_1 9 rfl rfl)
theorem dX2_joined_33 : decode cX2_joined 33 = .ok (.ifCond .eq 7, 3) := dk_153 0 7 (dk_at dksX2_joined_1 10 rfl rfl)
theorem dX2_joined_36 : decode cX2_joined 36 = .ok (.iconst 1, 1) := dk_4 (dk_at dksX2_joined_1 13 rfl rfl)
theorem dX2_joined_37 : decode cX2_joined 37 = .ok (.goto 20, 3) := dk_167 0 20 (dk_at dksX2_joined_1 14 rfl rfl)
theorem dX2_joined_40 : decode cX2_joined 40 = .ok (.iconst 0, 1) := dk_3 (dk_at dksX2_joined_1 17 rfl rfl)
theorem dX2_joined_41 : decode cX2_joined 41 = .ok (.goto 16, 3) := dk_167 0 16 (dk_at dksX2_joined_1 18 rfl rfl)
theorem dX2_joined_44 : decode cX2_joined 44 = .ok (.iload_n 1, 1) := dk_27 (dk_at dksX2_joined_1 21 rfl rfl)
theorem dX2_joined_45 : decode cX2_joined 45 = .ok (.ifCond .eq 11, 3) := dk_153 0 11 (dk_at dksX2_joined_2 0 rfl rfl)
theorem dX2_joined_48 : decode cX2_joined 48 = .ok (.iload_n 2, 1) := dk_28 (dk_at dksX2_joined_2 3 rfl rfl)
theorem dX2_joined_49 : decode cX2_joined 49 = .ok (.ifCond .ne 7, 3) := dk_154 0 7 (dk_at dksX2_joined_2 4 rfl rfl)
theorem dX2_joined_52 : decode cX2_joined 52 = .ok (.iconst 1, 1) := dk_4 (dk_at dksX2_joined_2 7 rfl rfl)
theorem dX2_joined_53 : decode cX2_joined 53 = .ok (.goto 4, 3) := dk_167 0 4 (dk_at dksX2_joined_2 8 rfl rfl)
theorem dX2_joined_56 : decode cX2_joined 56 = .ok (.iconst 0, 1) := dk_3 (dk_at dksX2_joined_2 11 rfl rfl)
theorem dX2_joined_57 : decode cX2_joined 57 = .ok (.ireturn, 1) := dk_172 (dk_at dksX2_joined_2 12 rfl rfl)
abbrev cX2_isCalm : ByteArray := prog_20_method_76_code
def yX2_isCalm : MethodName := ⟨RX2, "isCalm", "()Z"⟩
def dkwX2_isCalm_1 : List UInt8 := [167, 0, 4, 3, 172]
abbrev dktX2_isCalm_1 : List UInt8 := dkwX2_isCalm_1 ++ []
def dkwX2_isCalm_0 : List UInt8 := [42, 180, 0, 7, 16, 9, 46, 153, 0, 14, 42, 180, 0, 7, 16, 10, 46, 4, 160, 0, 7, 4]
abbrev dktX2_isCalm_0 : List UInt8 := dkwX2_isCalm_0 ++ dktX2_isCalm_1
theorem dksX2_isCalm_0 : cX2_isCalm.data.toList.drop 0 = dktX2_isCalm_0 := by decide +kernel
theorem dksX2_isCalm_1 : cX2_isCalm.data.toList.drop 22 = dktX2_isCalm_1 := dk_seg dksX2_isCalm_0 22 rfl rfl
theorem dX2_isCalm_0 : decode cX2_isCalm 0 = .ok (.aload_n 0, 1) := dk_42 (dk_at dksX2_isCalm_0 0 rfl rfl)
theorem dX2_isCalm_1 : decode cX2_isCalm 1 = .ok (.getfield 7, 3) := dk_180 0 7 (dk_at dksX2_isCalm_0 1 rfl rfl)
theorem dX2_isCalm_4 : decode cX2_isCalm 4 = .ok (.bipush 9, 2) := dk_16 9 (dk_at dksX2_isCalm_0 4 rfl rfl)
theorem dX2_isCalm_6 : decode cX2_isCalm 6 = .ok (.iaload, 1) := dk_46 (dk_at dksX2_isCalm_0 6 rfl rfl)
theorem dX2_isCalm_7 : decode cX2_isCalm 7 = .ok (.ifCond .eq 14, 3) := dk_153 0 14 (dk_at dksX2_isCalm_0 7 rfl rfl)
theorem dX2_isCalm_10 : decode cX2_isCalm 10 = .ok (.aload_n 0, 1) := dk_42 (dk_at dksX2_isCalm_0 10 rfl rfl)
theorem dX2_isCalm_11 : decode cX2_isCalm 11 = .ok (.getfield 7, 3) := dk_180 0 7 (dk_at dksX2_isCalm_0 11 rfl rfl)
theorem dX2_isCalm_14 : decode cX2_isCalm 14 = .ok (.bipush 10, 2) := dk_16 10 (dk_at dksX2_isCalm_0 14 rfl rfl)
theorem dX2_isCalm_16 : decode cX2_isCalm 16 = .ok (.iaload, 1) := dk_46 (dk_at dksX2_isCalm_0 16 rfl rfl)
theorem dX2_isCalm_17 : decode cX2_isCalm 17 = .ok (.iconst 1, 1) := dk_4 (dk_at dksX2_isCalm_0 17 rfl rfl)
theorem dX2_isCalm_18 : decode cX2_isCalm 18 = .ok (.if_icmp .ne 7, 3) := dk_160 0 7 (dk_at dksX2_isCalm_0 18 rfl rfl)
theorem dX2_isCalm_21 : decode cX2_isCalm 21 = .ok (.iconst 1, 1) := dk_4 (dk_at dksX2_isCalm_0 21 rfl rfl)
theorem dX2_isCalm_22 : decode cX2_isCalm 22 = .ok (.goto 4, 3) := dk_167 0 4 (dk_at dksX2_isCalm_1 0 rfl rfl)
theorem dX2_isCalm_25 : decode cX2_isCalm 25 = .ok (.iconst 0, 1) := dk_3 (dk_at dksX2_isCalm_1 3 rfl rfl)
theorem dX2_isCalm_26 : decode cX2_isCalm 26 = .ok (.ireturn, 1) := dk_172 (dk_at dksX2_isCalm_1 4 rfl rfl)
abbrev cX2_sentenceOf : ByteArray := prog_20_method_72_code
def yX2_sentenceOf : MethodName := ⟨RX2, "sentenceOf", "(III)I"⟩
def dkwX2_sentenceOf_1 : List UInt8 := [104, 54, 4, 42, 6, 21, 4, 3, 17, 3, 231, 182, 1, 86, 172]
abbrev dktX2_sentenceOf_1 : List UInt8 := dkwX2_sentenceOf_1 ++ []
def dkwX2_sentenceOf_0 : List UInt8 := [42, 27, 28, 182, 1, 80, 42, 180, 0, 35, 16, 7, 29, 184, 1, 83, 79, 42, 27, 4, 182, 0, 82, 28]
abbrev dktX2_sentenceOf_0 : List UInt8 := dkwX2_sentenceOf_0 ++ dktX2_sentenceOf_1
theorem dksX2_sentenceOf_0 : cX2_sentenceOf.data.toList.drop 0 = dktX2_sentenceOf_0 := by decide +kernel
theorem dksX2_sentenceOf_1 : cX2_sentenceOf.data.toList.drop 24 = dktX2_sentenceOf_1 := dk_seg dksX2_sentenceOf_0 24 rfl rfl
theorem dX2_sentenceOf_0 : decode cX2_sentenceOf 0 = .ok (.aload_n 0, 1) := dk_42 (dk_at dksX2_sentenceOf_0 0 rfl rfl)
theorem dX2_sentenceOf_1 : decode cX2_sentenceOf 1 = .ok (.iload_n 1, 1) := dk_27 (dk_at dksX2_sentenceOf_0 1 rfl rfl)
theorem dX2_sentenceOf_2 : decode cX2_sentenceOf 2 = .ok (.iload_n 2, 1) := dk_28 (dk_at dksX2_sentenceOf_0 2 rfl rfl)
theorem dX2_sentenceOf_3 : decode cX2_sentenceOf 3 = .ok (.invokevirtual 336, 3) := dk_182 1 80 (dk_at dksX2_sentenceOf_0 3 rfl rfl)
theorem dX2_sentenceOf_6 : decode cX2_sentenceOf 6 = .ok (.aload_n 0, 1) := dk_42 (dk_at dksX2_sentenceOf_0 6 rfl rfl)
theorem dX2_sentenceOf_7 : decode cX2_sentenceOf 7 = .ok (.getfield 35, 3) := dk_180 0 35 (dk_at dksX2_sentenceOf_0 7 rfl rfl)
theorem dX2_sentenceOf_10 : decode cX2_sentenceOf 10 = .ok (.bipush 7, 2) := dk_16 7 (dk_at dksX2_sentenceOf_0 10 rfl rfl)
theorem dX2_sentenceOf_12 : decode cX2_sentenceOf 12 = .ok (.iload_n 3, 1) := dk_29 (dk_at dksX2_sentenceOf_0 12 rfl rfl)
theorem dX2_sentenceOf_13 : decode cX2_sentenceOf 13 = .ok (.invokestatic 339, 3) := dk_184 1 83 (dk_at dksX2_sentenceOf_0 13 rfl rfl)
theorem dX2_sentenceOf_16 : decode cX2_sentenceOf 16 = .ok (.iastore, 1) := dk_79 (dk_at dksX2_sentenceOf_0 16 rfl rfl)
theorem dX2_sentenceOf_17 : decode cX2_sentenceOf 17 = .ok (.aload_n 0, 1) := dk_42 (dk_at dksX2_sentenceOf_0 17 rfl rfl)
theorem dX2_sentenceOf_18 : decode cX2_sentenceOf 18 = .ok (.iload_n 1, 1) := dk_27 (dk_at dksX2_sentenceOf_0 18 rfl rfl)
theorem dX2_sentenceOf_19 : decode cX2_sentenceOf 19 = .ok (.iconst 1, 1) := dk_4 (dk_at dksX2_sentenceOf_0 19 rfl rfl)
theorem dX2_sentenceOf_20 : decode cX2_sentenceOf 20 = .ok (.invokevirtual 82, 3) := dk_182 0 82 (dk_at dksX2_sentenceOf_0 20 rfl rfl)
theorem dX2_sentenceOf_23 : decode cX2_sentenceOf 23 = .ok (.iload_n 2, 1) := dk_28 (dk_at dksX2_sentenceOf_0 23 rfl rfl)
theorem dX2_sentenceOf_24 : decode cX2_sentenceOf 24 = .ok (.imul, 1) := dk_104 (dk_at dksX2_sentenceOf_1 0 rfl rfl)
theorem dX2_sentenceOf_25 : decode cX2_sentenceOf 25 = .ok (.istore 4, 2) := dk_54 4 (dk_at dksX2_sentenceOf_1 1 rfl rfl)
theorem dX2_sentenceOf_27 : decode cX2_sentenceOf 27 = .ok (.aload_n 0, 1) := dk_42 (dk_at dksX2_sentenceOf_1 3 rfl rfl)
theorem dX2_sentenceOf_28 : decode cX2_sentenceOf 28 = .ok (.iconst 3, 1) := dk_6 (dk_at dksX2_sentenceOf_1 4 rfl rfl)
theorem dX2_sentenceOf_29 : decode cX2_sentenceOf 29 = .ok (.iload 4, 2) := dk_21 4 (dk_at dksX2_sentenceOf_1 5 rfl rfl)
theorem dX2_sentenceOf_31 : decode cX2_sentenceOf 31 = .ok (.iconst 0, 1) := dk_3 (dk_at dksX2_sentenceOf_1 7 rfl rfl)
theorem dX2_sentenceOf_32 : decode cX2_sentenceOf 32 = .ok (.sipush 999, 3) := dk_17 3 231 (dk_at dksX2_sentenceOf_1 8 rfl rfl)
theorem dX2_sentenceOf_35 : decode cX2_sentenceOf 35 = .ok (.invokevirtual 342, 3) := dk_182 1 86 (dk_at dksX2_sentenceOf_1 11 rfl rfl)
theorem dX2_sentenceOf_38 : decode cX2_sentenceOf 38 = .ok (.ireturn, 1) := dk_172 (dk_at dksX2_sentenceOf_1 14 rfl rfl)
abbrev cX2_bits : ByteArray := prog_20_method_6_code
def yX2_bits : MethodName := ⟨RX2, "bits", "(I)I"⟩
def dkwX2_bits_1 : List UInt8 := [27, 172]
abbrev dktX2_bits_1 : List UInt8 := dkwX2_bits_1 ++ []
def dkwX2_bits_0 : List UInt8 := [3, 60, 3, 61, 28, 16, 8, 162, 0, 17, 27, 26, 28, 122, 4, 126, 96, 60, 132, 2, 1, 167, 255, 239]
abbrev dktX2_bits_0 : List UInt8 := dkwX2_bits_0 ++ dktX2_bits_1
theorem dksX2_bits_0 : cX2_bits.data.toList.drop 0 = dktX2_bits_0 := by decide +kernel
theorem dksX2_bits_1 : cX2_bits.data.toList.drop 24 = dktX2_bits_1 := dk_seg dksX2_bits_0 24 rfl rfl
theorem dX2_bits_0 : decode cX2_bits 0 = .ok (.iconst 0, 1) := dk_3 (dk_at dksX2_bits_0 0 rfl rfl)
theorem dX2_bits_1 : decode cX2_bits 1 = .ok (.istore_n 1, 1) := dk_60 (dk_at dksX2_bits_0 1 rfl rfl)
theorem dX2_bits_2 : decode cX2_bits 2 = .ok (.iconst 0, 1) := dk_3 (dk_at dksX2_bits_0 2 rfl rfl)
theorem dX2_bits_3 : decode cX2_bits 3 = .ok (.istore_n 2, 1) := dk_61 (dk_at dksX2_bits_0 3 rfl rfl)
theorem dX2_bits_4 : decode cX2_bits 4 = .ok (.iload_n 2, 1) := dk_28 (dk_at dksX2_bits_0 4 rfl rfl)
theorem dX2_bits_5 : decode cX2_bits 5 = .ok (.bipush 8, 2) := dk_16 8 (dk_at dksX2_bits_0 5 rfl rfl)
theorem dX2_bits_7 : decode cX2_bits 7 = .ok (.if_icmp .ge 17, 3) := dk_162 0 17 (dk_at dksX2_bits_0 7 rfl rfl)
theorem dX2_bits_10 : decode cX2_bits 10 = .ok (.iload_n 1, 1) := dk_27 (dk_at dksX2_bits_0 10 rfl rfl)
theorem dX2_bits_11 : decode cX2_bits 11 = .ok (.iload_n 0, 1) := dk_26 (dk_at dksX2_bits_0 11 rfl rfl)
theorem dX2_bits_12 : decode cX2_bits 12 = .ok (.iload_n 2, 1) := dk_28 (dk_at dksX2_bits_0 12 rfl rfl)
theorem dX2_bits_13 : decode cX2_bits 13 = .ok (.ishr, 1) := dk_122 (dk_at dksX2_bits_0 13 rfl rfl)
theorem dX2_bits_14 : decode cX2_bits 14 = .ok (.iconst 1, 1) := dk_4 (dk_at dksX2_bits_0 14 rfl rfl)
theorem dX2_bits_15 : decode cX2_bits 15 = .ok (.iand, 1) := dk_126 (dk_at dksX2_bits_0 15 rfl rfl)
theorem dX2_bits_16 : decode cX2_bits 16 = .ok (.iadd, 1) := dk_96 (dk_at dksX2_bits_0 16 rfl rfl)
theorem dX2_bits_17 : decode cX2_bits 17 = .ok (.istore_n 1, 1) := dk_60 (dk_at dksX2_bits_0 17 rfl rfl)
theorem dX2_bits_18 : decode cX2_bits 18 = .ok (.iinc 2 1, 3) := dk_132 2 1 (dk_at dksX2_bits_0 18 rfl rfl)
theorem dX2_bits_21 : decode cX2_bits 21 = .ok (.goto (-17), 3) := dk_167 255 239 (dk_at dksX2_bits_0 21 rfl rfl)
theorem dX2_bits_24 : decode cX2_bits 24 = .ok (.iload_n 1, 1) := dk_27 (dk_at dksX2_bits_1 0 rfl rfl)
theorem dX2_bits_25 : decode cX2_bits 25 = .ok (.ireturn, 1) := dk_172 (dk_at dksX2_bits_1 1 rfl rfl)
abbrev cX2_says : ByteArray := prog_20_method_68_code
def yX2_says : MethodName := ⟨RX2, "says", "(IIII)I"⟩
def dkwX2_says_1 : List UInt8 := [180, 0, 7, 5, 46, 21, 5, 182, 1, 70, 42, 180, 0, 38, 3, 47, 29, 21, 4, 184, 1, 73, 172]
abbrev dktX2_says_1 : List UInt8 := dkwX2_says_1 ++ []
def dkwX2_says_0 : List UInt8 := [42, 42, 180, 0, 7, 5, 46, 27, 3, 182, 1, 67, 54, 5, 21, 5, 156, 0, 5, 28, 172, 42, 42]
abbrev dktX2_says_0 : List UInt8 := dkwX2_says_0 ++ dktX2_says_1
theorem dksX2_says_0 : cX2_says.data.toList.drop 0 = dktX2_says_0 := by decide +kernel
theorem dksX2_says_1 : cX2_says.data.toList.drop 23 = dktX2_says_1 := dk_seg dksX2_says_0 23 rfl rfl
theorem dX2_says_0 : decode cX2_says 0 = .ok (.aload_n 0, 1) := dk_42 (dk_at dksX2_says_0 0 rfl rfl)
theorem dX2_says_1 : decode cX2_says 1 = .ok (.aload_n 0, 1) := dk_42 (dk_at dksX2_says_0 1 rfl rfl)
theorem dX2_says_2 : decode cX2_says 2 = .ok (.getfield 7, 3) := dk_180 0 7 (dk_at dksX2_says_0 2 rfl rfl)
theorem dX2_says_5 : decode cX2_says 5 = .ok (.iconst 2, 1) := dk_5 (dk_at dksX2_says_0 5 rfl rfl)
theorem dX2_says_6 : decode cX2_says 6 = .ok (.iaload, 1) := dk_46 (dk_at dksX2_says_0 6 rfl rfl)
theorem dX2_says_7 : decode cX2_says 7 = .ok (.iload_n 1, 1) := dk_27 (dk_at dksX2_says_0 7 rfl rfl)
theorem dX2_says_8 : decode cX2_says 8 = .ok (.iconst 0, 1) := dk_3 (dk_at dksX2_says_0 8 rfl rfl)
theorem dX2_says_9 : decode cX2_says 9 = .ok (.invokevirtual 323, 3) := dk_182 1 67 (dk_at dksX2_says_0 9 rfl rfl)
theorem dX2_says_12 : decode cX2_says 12 = .ok (.istore 5, 2) := dk_54 5 (dk_at dksX2_says_0 12 rfl rfl)
theorem dX2_says_14 : decode cX2_says 14 = .ok (.iload 5, 2) := dk_21 5 (dk_at dksX2_says_0 14 rfl rfl)
theorem dX2_says_16 : decode cX2_says 16 = .ok (.ifCond .ge 5, 3) := dk_156 0 5 (dk_at dksX2_says_0 16 rfl rfl)
theorem dX2_says_19 : decode cX2_says 19 = .ok (.iload_n 2, 1) := dk_28 (dk_at dksX2_says_0 19 rfl rfl)
theorem dX2_says_20 : decode cX2_says 20 = .ok (.ireturn, 1) := dk_172 (dk_at dksX2_says_0 20 rfl rfl)
theorem dX2_says_21 : decode cX2_says 21 = .ok (.aload_n 0, 1) := dk_42 (dk_at dksX2_says_0 21 rfl rfl)
theorem dX2_says_22 : decode cX2_says 22 = .ok (.aload_n 0, 1) := dk_42 (dk_at dksX2_says_0 22 rfl rfl)
theorem dX2_says_23 : decode cX2_says 23 = .ok (.getfield 7, 3) := dk_180 0 7 (dk_at dksX2_says_1 0 rfl rfl)
theorem dX2_says_26 : decode cX2_says 26 = .ok (.iconst 2, 1) := dk_5 (dk_at dksX2_says_1 3 rfl rfl)
theorem dX2_says_27 : decode cX2_says 27 = .ok (.iaload, 1) := dk_46 (dk_at dksX2_says_1 4 rfl rfl)
theorem dX2_says_28 : decode cX2_says 28 = .ok (.iload 5, 2) := dk_21 5 (dk_at dksX2_says_1 5 rfl rfl)
theorem dX2_says_30 : decode cX2_says 30 = .ok (.invokevirtual 326, 3) := dk_182 1 70 (dk_at dksX2_says_1 7 rfl rfl)
theorem dX2_says_33 : decode cX2_says 33 = .ok (.aload_n 0, 1) := dk_42 (dk_at dksX2_says_1 10 rfl rfl)
theorem dX2_says_34 : decode cX2_says 34 = .ok (.getfield 38, 3) := dk_180 0 38 (dk_at dksX2_says_1 11 rfl rfl)
theorem dX2_says_37 : decode cX2_says 37 = .ok (.iconst 0, 1) := dk_3 (dk_at dksX2_says_1 14 rfl rfl)
theorem dX2_says_38 : decode cX2_says 38 = .ok (.laload, 1) := dk_47 (dk_at dksX2_says_1 15 rfl rfl)
theorem dX2_says_39 : decode cX2_says 39 = .ok (.iload_n 3, 1) := dk_29 (dk_at dksX2_says_1 16 rfl rfl)
theorem dX2_says_40 : decode cX2_says 40 = .ok (.iload 4, 2) := dk_21 4 (dk_at dksX2_says_1 17 rfl rfl)
theorem dX2_says_42 : decode cX2_says 42 = .ok (.invokestatic 329, 3) := dk_184 1 73 (dk_at dksX2_says_1 19 rfl rfl)
theorem dX2_says_45 : decode cX2_says 45 = .ok (.ireturn, 1) := dk_172 (dk_at dksX2_says_1 22 rfl rfl)
abbrev cX2_cut : ByteArray := prog_20_method_4_code
def yX2_cut : MethodName := ⟨RX2, "cut", "(JII)I"⟩
def dkwX2_cut_1 : List UInt8 := [172]
abbrev dktX2_cut_1 : List UInt8 := dkwX2_cut_1 ++ []
def dkwX2_cut_0 : List UInt8 := [30, 28, 133, 148, 156, 0, 7, 28, 167, 0, 16, 30, 29, 133, 148, 158, 0, 7, 29, 167, 0, 5, 30, 136]
abbrev dktX2_cut_0 : List UInt8 := dkwX2_cut_0 ++ dktX2_cut_1
theorem dksX2_cut_0 : cX2_cut.data.toList.drop 0 = dktX2_cut_0 := by decide +kernel
theorem dksX2_cut_1 : cX2_cut.data.toList.drop 24 = dktX2_cut_1 := dk_seg dksX2_cut_0 24 rfl rfl
theorem dX2_cut_0 : decode cX2_cut 0 = .ok (.lload_n 0, 1) := dk_30 (dk_at dksX2_cut_0 0 rfl rfl)
theorem dX2_cut_1 : decode cX2_cut 1 = .ok (.iload_n 2, 1) := dk_28 (dk_at dksX2_cut_0 1 rfl rfl)
theorem dX2_cut_2 : decode cX2_cut 2 = .ok (.i2l, 1) := dk_133 (dk_at dksX2_cut_0 2 rfl rfl)
theorem dX2_cut_3 : decode cX2_cut 3 = .ok (.lcmp, 1) := dk_148 (dk_at dksX2_cut_0 3 rfl rfl)
theorem dX2_cut_4 : decode cX2_cut 4 = .ok (.ifCond .ge 7, 3) := dk_156 0 7 (dk_at dksX2_cut_0 4 rfl rfl)
theorem dX2_cut_7 : decode cX2_cut 7 = .ok (.iload_n 2, 1) := dk_28 (dk_at dksX2_cut_0 7 rfl rfl)
theorem dX2_cut_8 : decode cX2_cut 8 = .ok (.goto 16, 3) := dk_167 0 16 (dk_at dksX2_cut_0 8 rfl rfl)
theorem dX2_cut_11 : decode cX2_cut 11 = .ok (.lload_n 0, 1) := dk_30 (dk_at dksX2_cut_0 11 rfl rfl)
theorem dX2_cut_12 : decode cX2_cut 12 = .ok (.iload_n 3, 1) := dk_29 (dk_at dksX2_cut_0 12 rfl rfl)
theorem dX2_cut_13 : decode cX2_cut 13 = .ok (.i2l, 1) := dk_133 (dk_at dksX2_cut_0 13 rfl rfl)
theorem dX2_cut_14 : decode cX2_cut 14 = .ok (.lcmp, 1) := dk_148 (dk_at dksX2_cut_0 14 rfl rfl)
theorem dX2_cut_15 : decode cX2_cut 15 = .ok (.ifCond .le 7, 3) := dk_158 0 7 (dk_at dksX2_cut_0 15 rfl rfl)
theorem dX2_cut_18 : decode cX2_cut 18 = .ok (.iload_n 3, 1) := dk_29 (dk_at dksX2_cut_0 18 rfl rfl)
theorem dX2_cut_19 : decode cX2_cut 19 = .ok (.goto 5, 3) := dk_167 0 5 (dk_at dksX2_cut_0 19 rfl rfl)
theorem dX2_cut_22 : decode cX2_cut 22 = .ok (.lload_n 0, 1) := dk_30 (dk_at dksX2_cut_0 22 rfl rfl)
theorem dX2_cut_23 : decode cX2_cut 23 = .ok (.l2i, 1) := dk_136 (dk_at dksX2_cut_0 23 rfl rfl)
theorem dX2_cut_24 : decode cX2_cut 24 = .ok (.ireturn, 1) := dk_172 (dk_at dksX2_cut_1 0 rfl rfl)
abbrev cX2_drawn : ByteArray := prog_20_method_73_code
def yX2_drawn : MethodName := ⟨RX2, "drawn", "(I)I"⟩
def dkwX2_drawn_0 : List UInt8 := [42, 180, 0, 7, 16, 12, 46, 27, 112, 61, 42, 182, 1, 90, 28, 172]
abbrev dktX2_drawn_0 : List UInt8 := dkwX2_drawn_0 ++ []
theorem dksX2_drawn_0 : cX2_drawn.data.toList.drop 0 = dktX2_drawn_0 := by decide +kernel
theorem dX2_drawn_0 : decode cX2_drawn 0 = .ok (.aload_n 0, 1) := dk_42 (dk_at dksX2_drawn_0 0 rfl rfl)
theorem dX2_drawn_1 : decode cX2_drawn 1 = .ok (.getfield 7, 3) := dk_180 0 7 (dk_at dksX2_drawn_0 1 rfl rfl)
theorem dX2_drawn_4 : decode cX2_drawn 4 = .ok (.bipush 12, 2) := dk_16 12 (dk_at dksX2_drawn_0 4 rfl rfl)
theorem dX2_drawn_6 : decode cX2_drawn 6 = .ok (.iaload, 1) := dk_46 (dk_at dksX2_drawn_0 6 rfl rfl)
theorem dX2_drawn_7 : decode cX2_drawn 7 = .ok (.iload_n 1, 1) := dk_27 (dk_at dksX2_drawn_0 7 rfl rfl)
theorem dX2_drawn_8 : decode cX2_drawn 8 = .ok (.irem, 1) := dk_112 (dk_at dksX2_drawn_0 8 rfl rfl)
theorem dX2_drawn_9 : decode cX2_drawn 9 = .ok (.istore_n 2, 1) := dk_61 (dk_at dksX2_drawn_0 9 rfl rfl)
theorem dX2_drawn_10 : decode cX2_drawn 10 = .ok (.aload_n 0, 1) := dk_42 (dk_at dksX2_drawn_0 10 rfl rfl)
theorem dX2_drawn_11 : decode cX2_drawn 11 = .ok (.invokevirtual 346, 3) := dk_182 1 90 (dk_at dksX2_drawn_0 11 rfl rfl)
theorem dX2_drawn_14 : decode cX2_drawn 14 = .ok (.iload_n 2, 1) := dk_28 (dk_at dksX2_drawn_0 14 rfl rfl)
theorem dX2_drawn_15 : decode cX2_drawn 15 = .ok (.ireturn, 1) := dk_172 (dk_at dksX2_drawn_0 15 rfl rfl)
abbrev cX2_anew : ByteArray := prog_20_method_74_code
def yX2_anew : MethodName := ⟨RX2, "anew", "()V"⟩
def dkwX2_anew_1 : List UInt8 := [112, 79, 177]
abbrev dktX2_anew_1 : List UInt8 := dkwX2_anew_1 ++ []
def dkwX2_anew_0 : List UInt8 := [42, 180, 0, 7, 16, 12, 42, 180, 0, 7, 16, 12, 46, 17, 1, 75, 104, 17, 0, 223, 96, 17, 118, 181]
abbrev dktX2_anew_0 : List UInt8 := dkwX2_anew_0 ++ dktX2_anew_1
theorem dksX2_anew_0 : cX2_anew.data.toList.drop 0 = dktX2_anew_0 := by decide +kernel
theorem dksX2_anew_1 : cX2_anew.data.toList.drop 24 = dktX2_anew_1 := dk_seg dksX2_anew_0 24 rfl rfl
theorem dX2_anew_0 : decode cX2_anew 0 = .ok (.aload_n 0, 1) := dk_42 (dk_at dksX2_anew_0 0 rfl rfl)
theorem dX2_anew_1 : decode cX2_anew 1 = .ok (.getfield 7, 3) := dk_180 0 7 (dk_at dksX2_anew_0 1 rfl rfl)
theorem dX2_anew_4 : decode cX2_anew 4 = .ok (.bipush 12, 2) := dk_16 12 (dk_at dksX2_anew_0 4 rfl rfl)
theorem dX2_anew_6 : decode cX2_anew 6 = .ok (.aload_n 0, 1) := dk_42 (dk_at dksX2_anew_0 6 rfl rfl)
theorem dX2_anew_7 : decode cX2_anew 7 = .ok (.getfield 7, 3) := dk_180 0 7 (dk_at dksX2_anew_0 7 rfl rfl)
theorem dX2_anew_10 : decode cX2_anew 10 = .ok (.bipush 12, 2) := dk_16 12 (dk_at dksX2_anew_0 10 rfl rfl)
theorem dX2_anew_12 : decode cX2_anew 12 = .ok (.iaload, 1) := dk_46 (dk_at dksX2_anew_0 12 rfl rfl)
theorem dX2_anew_13 : decode cX2_anew 13 = .ok (.sipush 331, 3) := dk_17 1 75 (dk_at dksX2_anew_0 13 rfl rfl)
theorem dX2_anew_16 : decode cX2_anew 16 = .ok (.imul, 1) := dk_104 (dk_at dksX2_anew_0 16 rfl rfl)
theorem dX2_anew_17 : decode cX2_anew 17 = .ok (.sipush 223, 3) := dk_17 0 223 (dk_at dksX2_anew_0 17 rfl rfl)
theorem dX2_anew_20 : decode cX2_anew 20 = .ok (.iadd, 1) := dk_96 (dk_at dksX2_anew_0 20 rfl rfl)
theorem dX2_anew_21 : decode cX2_anew 21 = .ok (.sipush 30389, 3) := dk_17 118 181 (dk_at dksX2_anew_0 21 rfl rfl)
theorem dX2_anew_24 : decode cX2_anew 24 = .ok (.irem, 1) := dk_112 (dk_at dksX2_anew_1 0 rfl rfl)
theorem dX2_anew_25 : decode cX2_anew 25 = .ok (.iastore, 1) := dk_79 (dk_at dksX2_anew_1 1 rfl rfl)
theorem dX2_anew_26 : decode cX2_anew 26 = .ok (.return_, 1) := dk_177 (dk_at dksX2_anew_1 2 rfl rfl)
abbrev cX2_turnBy : ByteArray := prog_20_method_75_code
def yX2_turnBy : MethodName := ⟨RX2, "turnBy", "(I)V"⟩
def dkwX2_turnBy_7 : List UInt8 := [153, 0, 7, 4, 167, 0, 4, 3, 79, 177]
abbrev dktX2_turnBy_7 : List UInt8 := dkwX2_turnBy_7 ++ []
def dkwX2_turnBy_6 : List UInt8 := [42, 180, 0, 7, 16, 11, 46, 16, 10, 112, 6, 162, 0, 19, 167, 0, 12, 42, 180, 0, 42, 3, 51]
abbrev dktX2_turnBy_6 : List UInt8 := dkwX2_turnBy_6 ++ dktX2_turnBy_7
def dkwX2_turnBy_5 : List UInt8 := [182, 1, 70, 42, 180, 0, 7, 16, 10, 29, 156, 0, 31, 42, 180, 0, 7, 16, 9, 46, 5, 162, 0, 33]
abbrev dktX2_turnBy_5 : List UInt8 := dkwX2_turnBy_5 ++ dktX2_turnBy_6
def dkwX2_turnBy_4 : List UInt8 := [42, 180, 0, 7, 5, 46, 5, 3, 182, 1, 67, 62, 29, 155, 0, 14, 42, 42, 180, 0, 7, 5, 46, 29]
abbrev dktX2_turnBy_4 : List UInt8 := dkwX2_turnBy_4 ++ dktX2_turnBy_5
def dkwX2_turnBy_3 : List UInt8 := [182, 1, 77, 42, 180, 0, 7, 16, 9, 42, 4, 27, 3, 16, 9, 182, 1, 86, 79, 42, 182, 1, 77, 42]
abbrev dktX2_turnBy_3 : List UInt8 := dkwX2_turnBy_3 ++ dktX2_turnBy_4
def dkwX2_turnBy_2 : List UInt8 := [61, 42, 180, 0, 7, 16, 8, 42, 180, 0, 7, 16, 8, 46, 28, 96, 7, 96, 7, 112, 79, 42]
abbrev dktX2_turnBy_2 : List UInt8 := dkwX2_turnBy_2 ++ dktX2_turnBy_3
def dkwX2_turnBy_1 : List UInt8 := [27, 154, 0, 7, 4, 167, 0, 13, 27, 4, 160, 0, 7, 2, 167, 0, 4, 3, 16, 253, 6, 182, 1, 86]
abbrev dktX2_turnBy_1 : List UInt8 := dkwX2_turnBy_1 ++ dktX2_turnBy_2
def dkwX2_turnBy_0 : List UInt8 := [42, 180, 0, 7, 16, 11, 92, 46, 4, 96, 79, 42, 182, 1, 77, 42, 180, 0, 35, 6, 27, 79, 42, 3]
abbrev dktX2_turnBy_0 : List UInt8 := dkwX2_turnBy_0 ++ dktX2_turnBy_1
theorem dksX2_turnBy_0 : cX2_turnBy.data.toList.drop 0 = dktX2_turnBy_0 := by decide +kernel
theorem dksX2_turnBy_1 : cX2_turnBy.data.toList.drop 24 = dktX2_turnBy_1 := dk_seg dksX2_turnBy_0 24 rfl rfl
theorem dksX2_turnBy_2 : cX2_turnBy.data.toList.drop 48 = dktX2_turnBy_2 := dk_seg dksX2_turnBy_1 24 rfl rfl
theorem dksX2_turnBy_3 : cX2_turnBy.data.toList.drop 70 = dktX2_turnBy_3 := dk_seg dksX2_turnBy_2 22 rfl rfl
theorem dksX2_turnBy_4 : cX2_turnBy.data.toList.drop 94 = dktX2_turnBy_4 := dk_seg dksX2_turnBy_3 24 rfl rfl
theorem dksX2_turnBy_5 : cX2_turnBy.data.toList.drop 118 = dktX2_turnBy_5 := dk_seg dksX2_turnBy_4 24 rfl rfl
theorem dksX2_turnBy_6 : cX2_turnBy.data.toList.drop 142 = dktX2_turnBy_6 := dk_seg dksX2_turnBy_5 24 rfl rfl
theorem dksX2_turnBy_7 : cX2_turnBy.data.toList.drop 165 = dktX2_turnBy_7 := dk_seg dksX2_turnBy_6 23 rfl rfl
theorem dX2_turnBy_0 : decode cX2_turnBy 0 = .ok (.aload_n 0, 1) := dk_42 (dk_at dksX2_turnBy_0 0 rfl rfl)
theorem dX2_turnBy_1 : decode cX2_turnBy 1 = .ok (.getfield 7, 3) := dk_180 0 7 (dk_at dksX2_turnBy_0 1 rfl rfl)
theorem dX2_turnBy_4 : decode cX2_turnBy 4 = .ok (.bipush 11, 2) := dk_16 11 (dk_at dksX2_turnBy_0 4 rfl rfl)
theorem dX2_turnBy_6 : decode cX2_turnBy 6 = .ok (.dup2, 1) := dk_92 (dk_at dksX2_turnBy_0 6 rfl rfl)
theorem dX2_turnBy_7 : decode cX2_turnBy 7 = .ok (.iaload, 1) := dk_46 (dk_at dksX2_turnBy_0 7 rfl rfl)
theorem dX2_turnBy_8 : decode cX2_turnBy 8 = .ok (.iconst 1, 1) := dk_4 (dk_at dksX2_turnBy_0 8 rfl rfl)
theorem dX2_turnBy_9 : decode cX2_turnBy 9 = .ok (.iadd, 1) := dk_96 (dk_at dksX2_turnBy_0 9 rfl rfl)
theorem dX2_turnBy_10 : decode cX2_turnBy 10 = .ok (.iastore, 1) := dk_79 (dk_at dksX2_turnBy_0 10 rfl rfl)
theorem dX2_turnBy_11 : decode cX2_turnBy 11 = .ok (.aload_n 0, 1) := dk_42 (dk_at dksX2_turnBy_0 11 rfl rfl)
theorem dX2_turnBy_12 : decode cX2_turnBy 12 = .ok (.invokevirtual 333, 3) := dk_182 1 77 (dk_at dksX2_turnBy_0 12 rfl rfl)
theorem dX2_turnBy_15 : decode cX2_turnBy 15 = .ok (.aload_n 0, 1) := dk_42 (dk_at dksX2_turnBy_0 15 rfl rfl)
theorem dX2_turnBy_16 : decode cX2_turnBy 16 = .ok (.getfield 35, 3) := dk_180 0 35 (dk_at dksX2_turnBy_0 16 rfl rfl)
theorem dX2_turnBy_19 : decode cX2_turnBy 19 = .ok (.iconst 3, 1) := dk_6 (dk_at dksX2_turnBy_0 19 rfl rfl)
theorem dX2_turnBy_20 : decode cX2_turnBy 20 = .ok (.iload_n 1, 1) := dk_27 (dk_at dksX2_turnBy_0 20 rfl rfl)
theorem dX2_turnBy_21 : decode cX2_turnBy 21 = .ok (.iastore, 1) := dk_79 (dk_at dksX2_turnBy_0 21 rfl rfl)
theorem dX2_turnBy_22 : decode cX2_turnBy 22 = .ok (.aload_n 0, 1) := dk_42 (dk_at dksX2_turnBy_0 22 rfl rfl)
theorem dX2_turnBy_23 : decode cX2_turnBy 23 = .ok (.iconst 0, 1) := dk_3 (dk_at dksX2_turnBy_0 23 rfl rfl)
theorem dX2_turnBy_24 : decode cX2_turnBy 24 = .ok (.iload_n 1, 1) := dk_27 (dk_at dksX2_turnBy_1 0 rfl rfl)
theorem dX2_turnBy_25 : decode cX2_turnBy 25 = .ok (.ifCond .ne 7, 3) := dk_154 0 7 (dk_at dksX2_turnBy_1 1 rfl rfl)
theorem dX2_turnBy_28 : decode cX2_turnBy 28 = .ok (.iconst 1, 1) := dk_4 (dk_at dksX2_turnBy_1 4 rfl rfl)
theorem dX2_turnBy_29 : decode cX2_turnBy 29 = .ok (.goto 13, 3) := dk_167 0 13 (dk_at dksX2_turnBy_1 5 rfl rfl)
theorem dX2_turnBy_32 : decode cX2_turnBy 32 = .ok (.iload_n 1, 1) := dk_27 (dk_at dksX2_turnBy_1 8 rfl rfl)
theorem dX2_turnBy_33 : decode cX2_turnBy 33 = .ok (.iconst 1, 1) := dk_4 (dk_at dksX2_turnBy_1 9 rfl rfl)
theorem dX2_turnBy_34 : decode cX2_turnBy 34 = .ok (.if_icmp .ne 7, 3) := dk_160 0 7 (dk_at dksX2_turnBy_1 10 rfl rfl)
theorem dX2_turnBy_37 : decode cX2_turnBy 37 = .ok (.iconst (-1), 1) := dk_2 (dk_at dksX2_turnBy_1 13 rfl rfl)
theorem dX2_turnBy_38 : decode cX2_turnBy 38 = .ok (.goto 4, 3) := dk_167 0 4 (dk_at dksX2_turnBy_1 14 rfl rfl)
theorem dX2_turnBy_41 : decode cX2_turnBy 41 = .ok (.iconst 0, 1) := dk_3 (dk_at dksX2_turnBy_1 17 rfl rfl)
theorem dX2_turnBy_42 : decode cX2_turnBy 42 = .ok (.bipush (-3), 2) := dk_16 253 (dk_at dksX2_turnBy_1 18 rfl rfl)
theorem dX2_turnBy_44 : decode cX2_turnBy 44 = .ok (.iconst 3, 1) := dk_6 (dk_at dksX2_turnBy_1 20 rfl rfl)
theorem dX2_turnBy_45 : decode cX2_turnBy 45 = .ok (.invokevirtual 342, 3) := dk_182 1 86 (dk_at dksX2_turnBy_1 21 rfl rfl)
theorem dX2_turnBy_48 : decode cX2_turnBy 48 = .ok (.istore_n 2, 1) := dk_61 (dk_at dksX2_turnBy_2 0 rfl rfl)
theorem dX2_turnBy_49 : decode cX2_turnBy 49 = .ok (.aload_n 0, 1) := dk_42 (dk_at dksX2_turnBy_2 1 rfl rfl)
theorem dX2_turnBy_50 : decode cX2_turnBy 50 = .ok (.getfield 7, 3) := dk_180 0 7 (dk_at dksX2_turnBy_2 2 rfl rfl)
theorem dX2_turnBy_53 : decode cX2_turnBy 53 = .ok (.bipush 8, 2) := dk_16 8 (dk_at dksX2_turnBy_2 5 rfl rfl)
theorem dX2_turnBy_55 : decode cX2_turnBy 55 = .ok (.aload_n 0, 1) := dk_42 (dk_at dksX2_turnBy_2 7 rfl rfl)
theorem dX2_turnBy_56 : decode cX2_turnBy 56 = .ok (.getfield 7, 3) := dk_180 0 7 (dk_at dksX2_turnBy_2 8 rfl rfl)
theorem dX2_turnBy_59 : decode cX2_turnBy 59 = .ok (.bipush 8, 2) := dk_16 8 (dk_at dksX2_turnBy_2 11 rfl rfl)
theorem dX2_turnBy_61 : decode cX2_turnBy 61 = .ok (.iaload, 1) := dk_46 (dk_at dksX2_turnBy_2 13 rfl rfl)
theorem dX2_turnBy_62 : decode cX2_turnBy 62 = .ok (.iload_n 2, 1) := dk_28 (dk_at dksX2_turnBy_2 14 rfl rfl)
theorem dX2_turnBy_63 : decode cX2_turnBy 63 = .ok (.iadd, 1) := dk_96 (dk_at dksX2_turnBy_2 15 rfl rfl)
theorem dX2_turnBy_64 : decode cX2_turnBy 64 = .ok (.iconst 4, 1) := dk_7 (dk_at dksX2_turnBy_2 16 rfl rfl)
theorem dX2_turnBy_65 : decode cX2_turnBy 65 = .ok (.iadd, 1) := dk_96 (dk_at dksX2_turnBy_2 17 rfl rfl)
theorem dX2_turnBy_66 : decode cX2_turnBy 66 = .ok (.iconst 4, 1) := dk_7 (dk_at dksX2_turnBy_2 18 rfl rfl)
theorem dX2_turnBy_67 : decode cX2_turnBy 67 = .ok (.irem, 1) := dk_112 (dk_at dksX2_turnBy_2 19 rfl rfl)
theorem dX2_turnBy_68 : decode cX2_turnBy 68 = .ok (.iastore, 1) := dk_79 (dk_at dksX2_turnBy_2 20 rfl rfl)
theorem dX2_turnBy_69 : decode cX2_turnBy 69 = .ok (.aload_n 0, 1) := dk_42 (dk_at dksX2_turnBy_2 21 rfl rfl)
theorem dX2_turnBy_70 : decode cX2_turnBy 70 = .ok (.invokevirtual 333, 3) := dk_182 1 77 (dk_at dksX2_turnBy_3 0 rfl rfl)
theorem dX2_turnBy_73 : decode cX2_turnBy 73 = .ok (.aload_n 0, 1) := dk_42 (dk_at dksX2_turnBy_3 3 rfl rfl)
theorem dX2_turnBy_74 : decode cX2_turnBy 74 = .ok (.getfield 7, 3) := dk_180 0 7 (dk_at dksX2_turnBy_3 4 rfl rfl)
theorem dX2_turnBy_77 : decode cX2_turnBy 77 = .ok (.bipush 9, 2) := dk_16 9 (dk_at dksX2_turnBy_3 7 rfl rfl)
theorem dX2_turnBy_79 : decode cX2_turnBy 79 = .ok (.aload_n 0, 1) := dk_42 (dk_at dksX2_turnBy_3 9 rfl rfl)
theorem dX2_turnBy_80 : decode cX2_turnBy 80 = .ok (.iconst 1, 1) := dk_4 (dk_at dksX2_turnBy_3 10 rfl rfl)
theorem dX2_turnBy_81 : decode cX2_turnBy 81 = .ok (.iload_n 1, 1) := dk_27 (dk_at dksX2_turnBy_3 11 rfl rfl)
theorem dX2_turnBy_82 : decode cX2_turnBy 82 = .ok (.iconst 0, 1) := dk_3 (dk_at dksX2_turnBy_3 12 rfl rfl)
theorem dX2_turnBy_83 : decode cX2_turnBy 83 = .ok (.bipush 9, 2) := dk_16 9 (dk_at dksX2_turnBy_3 13 rfl rfl)
theorem dX2_turnBy_85 : decode cX2_turnBy 85 = .ok (.invokevirtual 342, 3) := dk_182 1 86 (dk_at dksX2_turnBy_3 15 rfl rfl)
theorem dX2_turnBy_88 : decode cX2_turnBy 88 = .ok (.iastore, 1) := dk_79 (dk_at dksX2_turnBy_3 18 rfl rfl)
theorem dX2_turnBy_89 : decode cX2_turnBy 89 = .ok (.aload_n 0, 1) := dk_42 (dk_at dksX2_turnBy_3 19 rfl rfl)
theorem dX2_turnBy_90 : decode cX2_turnBy 90 = .ok (.invokevirtual 333, 3) := dk_182 1 77 (dk_at dksX2_turnBy_3 20 rfl rfl)
theorem dX2_turnBy_93 : decode cX2_turnBy 93 = .ok (.aload_n 0, 1) := dk_42 (dk_at dksX2_turnBy_3 23 rfl rfl)
theorem dX2_turnBy_94 : decode cX2_turnBy 94 = .ok (.aload_n 0, 1) := dk_42 (dk_at dksX2_turnBy_4 0 rfl rfl)
theorem dX2_turnBy_95 : decode cX2_turnBy 95 = .ok (.getfield 7, 3) := dk_180 0 7 (dk_at dksX2_turnBy_4 1 rfl rfl)
theorem dX2_turnBy_98 : decode cX2_turnBy 98 = .ok (.iconst 2, 1) := dk_5 (dk_at dksX2_turnBy_4 4 rfl rfl)
theorem dX2_turnBy_99 : decode cX2_turnBy 99 = .ok (.iaload, 1) := dk_46 (dk_at dksX2_turnBy_4 5 rfl rfl)
theorem dX2_turnBy_100 : decode cX2_turnBy 100 = .ok (.iconst 2, 1) := dk_5 (dk_at dksX2_turnBy_4 6 rfl rfl)
theorem dX2_turnBy_101 : decode cX2_turnBy 101 = .ok (.iconst 0, 1) := dk_3 (dk_at dksX2_turnBy_4 7 rfl rfl)
theorem dX2_turnBy_102 : decode cX2_turnBy 102 = .ok (.invokevirtual 323, 3) := dk_182 1 67 (dk_at dksX2_turnBy_4 8 rfl rfl)
theorem dX2_turnBy_105 : decode cX2_turnBy 105 = .ok (.istore_n 3, 1) := dk_62 (dk_at dksX2_turnBy_4 11 rfl rfl)
theorem dX2_turnBy_106 : decode cX2_turnBy 106 = .ok (.iload_n 3, 1) := dk_29 (dk_at dksX2_turnBy_4 12 rfl rfl)
theorem dX2_turnBy_107 : decode cX2_turnBy 107 = .ok (.ifCond .lt 14, 3) := dk_155 0 14 (dk_at dksX2_turnBy_4 13 rfl rfl)
theorem dX2_turnBy_110 : decode cX2_turnBy 110 = .ok (.aload_n 0, 1) := dk_42 (dk_at dksX2_turnBy_4 16 rfl rfl)
theorem dX2_turnBy_111 : decode cX2_turnBy 111 = .ok (.aload_n 0, 1) := dk_42 (dk_at dksX2_turnBy_4 17 rfl rfl)
theorem dX2_turnBy_112 : decode cX2_turnBy 112 = .ok (.getfield 7, 3) := dk_180 0 7 (dk_at dksX2_turnBy_4 18 rfl rfl)
theorem dX2_turnBy_115 : decode cX2_turnBy 115 = .ok (.iconst 2, 1) := dk_5 (dk_at dksX2_turnBy_4 21 rfl rfl)
theorem dX2_turnBy_116 : decode cX2_turnBy 116 = .ok (.iaload, 1) := dk_46 (dk_at dksX2_turnBy_4 22 rfl rfl)
theorem dX2_turnBy_117 : decode cX2_turnBy 117 = .ok (.iload_n 3, 1) := dk_29 (dk_at dksX2_turnBy_4 23 rfl rfl)
theorem dX2_turnBy_118 : decode cX2_turnBy 118 = .ok (.invokevirtual 326, 3) := dk_182 1 70 (dk_at dksX2_turnBy_5 0 rfl rfl)
theorem dX2_turnBy_121 : decode cX2_turnBy 121 = .ok (.aload_n 0, 1) := dk_42 (dk_at dksX2_turnBy_5 3 rfl rfl)
theorem dX2_turnBy_122 : decode cX2_turnBy 122 = .ok (.getfield 7, 3) := dk_180 0 7 (dk_at dksX2_turnBy_5 4 rfl rfl)
theorem dX2_turnBy_125 : decode cX2_turnBy 125 = .ok (.bipush 10, 2) := dk_16 10 (dk_at dksX2_turnBy_5 7 rfl rfl)
theorem dX2_turnBy_127 : decode cX2_turnBy 127 = .ok (.iload_n 3, 1) := dk_29 (dk_at dksX2_turnBy_5 9 rfl rfl)
theorem dX2_turnBy_128 : decode cX2_turnBy 128 = .ok (.ifCond .ge 31, 3) := dk_156 0 31 (dk_at dksX2_turnBy_5 10 rfl rfl)
theorem dX2_turnBy_131 : decode cX2_turnBy 131 = .ok (.aload_n 0, 1) := dk_42 (dk_at dksX2_turnBy_5 13 rfl rfl)
theorem dX2_turnBy_132 : decode cX2_turnBy 132 = .ok (.getfield 7, 3) := dk_180 0 7 (dk_at dksX2_turnBy_5 14 rfl rfl)
theorem dX2_turnBy_135 : decode cX2_turnBy 135 = .ok (.bipush 9, 2) := dk_16 9 (dk_at dksX2_turnBy_5 17 rfl rfl)
theorem dX2_turnBy_137 : decode cX2_turnBy 137 = .ok (.iaload, 1) := dk_46 (dk_at dksX2_turnBy_5 19 rfl rfl)
theorem dX2_turnBy_138 : decode cX2_turnBy 138 = .ok (.iconst 2, 1) := dk_5 (dk_at dksX2_turnBy_5 20 rfl rfl)
theorem dX2_turnBy_139 : decode cX2_turnBy 139 = .ok (.if_icmp .ge 33, 3) := dk_162 0 33 (dk_at dksX2_turnBy_5 21 rfl rfl)
theorem dX2_turnBy_142 : decode cX2_turnBy 142 = .ok (.aload_n 0, 1) := dk_42 (dk_at dksX2_turnBy_6 0 rfl rfl)
theorem dX2_turnBy_143 : decode cX2_turnBy 143 = .ok (.getfield 7, 3) := dk_180 0 7 (dk_at dksX2_turnBy_6 1 rfl rfl)
theorem dX2_turnBy_146 : decode cX2_turnBy 146 = .ok (.bipush 11, 2) := dk_16 11 (dk_at dksX2_turnBy_6 4 rfl rfl)
theorem dX2_turnBy_148 : decode cX2_turnBy 148 = .ok (.iaload, 1) := dk_46 (dk_at dksX2_turnBy_6 6 rfl rfl)
theorem dX2_turnBy_149 : decode cX2_turnBy 149 = .ok (.bipush 10, 2) := dk_16 10 (dk_at dksX2_turnBy_6 7 rfl rfl)
theorem dX2_turnBy_151 : decode cX2_turnBy 151 = .ok (.irem, 1) := dk_112 (dk_at dksX2_turnBy_6 9 rfl rfl)
theorem dX2_turnBy_152 : decode cX2_turnBy 152 = .ok (.iconst 3, 1) := dk_6 (dk_at dksX2_turnBy_6 10 rfl rfl)
theorem dX2_turnBy_153 : decode cX2_turnBy 153 = .ok (.if_icmp .ge 19, 3) := dk_162 0 19 (dk_at dksX2_turnBy_6 11 rfl rfl)
theorem dX2_turnBy_156 : decode cX2_turnBy 156 = .ok (.goto 12, 3) := dk_167 0 12 (dk_at dksX2_turnBy_6 14 rfl rfl)
theorem dX2_turnBy_159 : decode cX2_turnBy 159 = .ok (.aload_n 0, 1) := dk_42 (dk_at dksX2_turnBy_6 17 rfl rfl)
theorem dX2_turnBy_160 : decode cX2_turnBy 160 = .ok (.getfield 42, 3) := dk_180 0 42 (dk_at dksX2_turnBy_6 18 rfl rfl)
theorem dX2_turnBy_163 : decode cX2_turnBy 163 = .ok (.iconst 0, 1) := dk_3 (dk_at dksX2_turnBy_6 21 rfl rfl)
theorem dX2_turnBy_164 : decode cX2_turnBy 164 = .ok (.baload, 1) := dk_51 (dk_at dksX2_turnBy_6 22 rfl rfl)
theorem dX2_turnBy_165 : decode cX2_turnBy 165 = .ok (.ifCond .eq 7, 3) := dk_153 0 7 (dk_at dksX2_turnBy_7 0 rfl rfl)
theorem dX2_turnBy_168 : decode cX2_turnBy 168 = .ok (.iconst 1, 1) := dk_4 (dk_at dksX2_turnBy_7 3 rfl rfl)
theorem dX2_turnBy_169 : decode cX2_turnBy 169 = .ok (.goto 4, 3) := dk_167 0 4 (dk_at dksX2_turnBy_7 4 rfl rfl)
theorem dX2_turnBy_172 : decode cX2_turnBy 172 = .ok (.iconst 0, 1) := dk_3 (dk_at dksX2_turnBy_7 7 rfl rfl)
theorem dX2_turnBy_173 : decode cX2_turnBy 173 = .ok (.iastore, 1) := dk_79 (dk_at dksX2_turnBy_7 8 rfl rfl)
theorem dX2_turnBy_174 : decode cX2_turnBy 174 = .ok (.return_, 1) := dk_177 (dk_at dksX2_turnBy_7 9 rfl rfl)
abbrev cX2_played : ByteArray := prog_20_method_96_code
def yX2_played : MethodName := ⟨RX2, "played", "(I)I"⟩
def dkwX2_played_2 : List UInt8 := [182, 1, 166, 154, 0, 5, 28, 172, 132, 2, 1, 167, 255, 219, 2, 172]
abbrev dktX2_played_2 : List UInt8 := dkwX2_played_2 ++ []
def dkwX2_played_1 : List UInt8 := [180, 0, 16, 17, 2, 193, 27, 104, 46, 162, 0, 29, 42, 17, 2, 193, 27, 104, 4, 96, 7, 28, 104, 96]
abbrev dktX2_played_1 : List UInt8 := dkwX2_played_1 ++ dktX2_played_2
def dkwX2_played_0 : List UInt8 := [27, 3, 42, 180, 0, 7, 4, 46, 4, 100, 184, 0, 74, 154, 0, 6, 16, 254, 172, 3, 61, 28, 42]
abbrev dktX2_played_0 : List UInt8 := dkwX2_played_0 ++ dktX2_played_1
theorem dksX2_played_0 : cX2_played.data.toList.drop 0 = dktX2_played_0 := by decide +kernel
theorem dksX2_played_1 : cX2_played.data.toList.drop 23 = dktX2_played_1 := dk_seg dksX2_played_0 23 rfl rfl
theorem dksX2_played_2 : cX2_played.data.toList.drop 47 = dktX2_played_2 := dk_seg dksX2_played_1 24 rfl rfl
theorem dX2_played_0 : decode cX2_played 0 = .ok (.iload_n 1, 1) := dk_27 (dk_at dksX2_played_0 0 rfl rfl)
theorem dX2_played_1 : decode cX2_played 1 = .ok (.iconst 0, 1) := dk_3 (dk_at dksX2_played_0 1 rfl rfl)
theorem dX2_played_2 : decode cX2_played 2 = .ok (.aload_n 0, 1) := dk_42 (dk_at dksX2_played_0 2 rfl rfl)
theorem dX2_played_3 : decode cX2_played 3 = .ok (.getfield 7, 3) := dk_180 0 7 (dk_at dksX2_played_0 3 rfl rfl)
theorem dX2_played_6 : decode cX2_played 6 = .ok (.iconst 1, 1) := dk_4 (dk_at dksX2_played_0 6 rfl rfl)
theorem dX2_played_7 : decode cX2_played 7 = .ok (.iaload, 1) := dk_46 (dk_at dksX2_played_0 7 rfl rfl)
theorem dX2_played_8 : decode cX2_played 8 = .ok (.iconst 1, 1) := dk_4 (dk_at dksX2_played_0 8 rfl rfl)
theorem dX2_played_9 : decode cX2_played 9 = .ok (.isub, 1) := dk_100 (dk_at dksX2_played_0 9 rfl rfl)
theorem dX2_played_10 : decode cX2_played 10 = .ok (.invokestatic 74, 3) := dk_184 0 74 (dk_at dksX2_played_0 10 rfl rfl)
theorem dX2_played_13 : decode cX2_played 13 = .ok (.ifCond .ne 6, 3) := dk_154 0 6 (dk_at dksX2_played_0 13 rfl rfl)
theorem dX2_played_16 : decode cX2_played 16 = .ok (.bipush (-2), 2) := dk_16 254 (dk_at dksX2_played_0 16 rfl rfl)
theorem dX2_played_18 : decode cX2_played 18 = .ok (.ireturn, 1) := dk_172 (dk_at dksX2_played_0 18 rfl rfl)
theorem dX2_played_19 : decode cX2_played 19 = .ok (.iconst 0, 1) := dk_3 (dk_at dksX2_played_0 19 rfl rfl)
theorem dX2_played_20 : decode cX2_played 20 = .ok (.istore_n 2, 1) := dk_61 (dk_at dksX2_played_0 20 rfl rfl)
theorem dX2_played_21 : decode cX2_played 21 = .ok (.iload_n 2, 1) := dk_28 (dk_at dksX2_played_0 21 rfl rfl)
theorem dX2_played_22 : decode cX2_played 22 = .ok (.aload_n 0, 1) := dk_42 (dk_at dksX2_played_0 22 rfl rfl)
theorem dX2_played_23 : decode cX2_played 23 = .ok (.getfield 16, 3) := dk_180 0 16 (dk_at dksX2_played_1 0 rfl rfl)
theorem dX2_played_26 : decode cX2_played 26 = .ok (.sipush 705, 3) := dk_17 2 193 (dk_at dksX2_played_1 3 rfl rfl)
theorem dX2_played_29 : decode cX2_played 29 = .ok (.iload_n 1, 1) := dk_27 (dk_at dksX2_played_1 6 rfl rfl)
theorem dX2_played_30 : decode cX2_played 30 = .ok (.imul, 1) := dk_104 (dk_at dksX2_played_1 7 rfl rfl)
theorem dX2_played_31 : decode cX2_played 31 = .ok (.iaload, 1) := dk_46 (dk_at dksX2_played_1 8 rfl rfl)
theorem dX2_played_32 : decode cX2_played 32 = .ok (.if_icmp .ge 29, 3) := dk_162 0 29 (dk_at dksX2_played_1 9 rfl rfl)
theorem dX2_played_35 : decode cX2_played 35 = .ok (.aload_n 0, 1) := dk_42 (dk_at dksX2_played_1 12 rfl rfl)
theorem dX2_played_36 : decode cX2_played 36 = .ok (.sipush 705, 3) := dk_17 2 193 (dk_at dksX2_played_1 13 rfl rfl)
theorem dX2_played_39 : decode cX2_played 39 = .ok (.iload_n 1, 1) := dk_27 (dk_at dksX2_played_1 16 rfl rfl)
theorem dX2_played_40 : decode cX2_played 40 = .ok (.imul, 1) := dk_104 (dk_at dksX2_played_1 17 rfl rfl)
theorem dX2_played_41 : decode cX2_played 41 = .ok (.iconst 1, 1) := dk_4 (dk_at dksX2_played_1 18 rfl rfl)
theorem dX2_played_42 : decode cX2_played 42 = .ok (.iadd, 1) := dk_96 (dk_at dksX2_played_1 19 rfl rfl)
theorem dX2_played_43 : decode cX2_played 43 = .ok (.iconst 4, 1) := dk_7 (dk_at dksX2_played_1 20 rfl rfl)
theorem dX2_played_44 : decode cX2_played 44 = .ok (.iload_n 2, 1) := dk_28 (dk_at dksX2_played_1 21 rfl rfl)
theorem dX2_played_45 : decode cX2_played 45 = .ok (.imul, 1) := dk_104 (dk_at dksX2_played_1 22 rfl rfl)
theorem dX2_played_46 : decode cX2_played 46 = .ok (.iadd, 1) := dk_96 (dk_at dksX2_played_1 23 rfl rfl)
theorem dX2_played_47 : decode cX2_played 47 = .ok (.invokevirtual 422, 3) := dk_182 1 166 (dk_at dksX2_played_2 0 rfl rfl)
theorem dX2_played_50 : decode cX2_played 50 = .ok (.ifCond .ne 5, 3) := dk_154 0 5 (dk_at dksX2_played_2 3 rfl rfl)
theorem dX2_played_53 : decode cX2_played 53 = .ok (.iload_n 2, 1) := dk_28 (dk_at dksX2_played_2 6 rfl rfl)
theorem dX2_played_54 : decode cX2_played 54 = .ok (.ireturn, 1) := dk_172 (dk_at dksX2_played_2 7 rfl rfl)
theorem dX2_played_55 : decode cX2_played 55 = .ok (.iinc 2 1, 3) := dk_132 2 1 (dk_at dksX2_played_2 8 rfl rfl)
theorem dX2_played_58 : decode cX2_played 58 = .ok (.goto (-37), 3) := dk_167 255 219 (dk_at dksX2_played_2 11 rfl rfl)
theorem dX2_played_61 : decode cX2_played 61 = .ok (.iconst (-1), 1) := dk_2 (dk_at dksX2_played_2 14 rfl rfl)
theorem dX2_played_62 : decode cX2_played 62 = .ok (.ireturn, 1) := dk_172 (dk_at dksX2_played_2 15 rfl rfl)
abbrev cX2_isPlayed : ByteArray := prog_20_method_95_code
def yX2_isPlayed : MethodName := ⟨RX2, "isPlayed", "(I)Z"⟩
def dkwX2_isPlayed_5 : List UInt8 := [172, 42, 182, 1, 163, 155, 0, 7, 4, 167, 0, 4, 3, 172, 42, 28, 182, 1, 145, 172, 4, 172]
abbrev dktX2_isPlayed_5 : List UInt8 := dkwX2_isPlayed_5 ++ []
def dkwX2_isPlayed_4 : List UInt8 := [167, 0, 4, 3, 172, 42, 28, 182, 1, 157, 172, 42, 28, 42, 180, 0, 16, 27, 5, 96, 46, 182, 1, 160]
abbrev dktX2_isPlayed_4 : List UInt8 := dkwX2_isPlayed_4 ++ dktX2_isPlayed_5
def dkwX2_isPlayed_3 : List UInt8 := [155, 0, 7, 4, 167, 0, 4, 3, 172, 42, 28, 182, 1, 151, 172, 42, 182, 1, 154, 155, 0, 7, 4]
abbrev dktX2_isPlayed_3 : List UInt8 := dkwX2_isPlayed_3 ++ dktX2_isPlayed_4
def dkwX2_isPlayed_2 : List UInt8 := [42, 28, 42, 180, 0, 16, 27, 5, 96, 46, 42, 180, 0, 16, 27, 6, 96, 46, 3, 182, 1, 148]
abbrev dktX2_isPlayed_2 : List UInt8 := dkwX2_isPlayed_2 ++ dktX2_isPlayed_3
def dkwX2_isPlayed_1 : List UInt8 := [170, 0, 0, 0, 130, 0, 0, 0, 5, 0, 0, 0, 11, 0, 0, 0, 41, 0, 0, 0, 72, 0, 0, 0, 78, 0, 0, 0, 91, 0, 0, 0, 97, 0, 0, 0, 111, 0, 0, 0, 124]
abbrev dktX2_isPlayed_1 : List UInt8 := dkwX2_isPlayed_1 ++ dktX2_isPlayed_2
def dkwX2_isPlayed_0 : List UInt8 := [42, 180, 0, 16, 27, 4, 96, 46, 61, 42, 180, 0, 16, 27, 46]
abbrev dktX2_isPlayed_0 : List UInt8 := dkwX2_isPlayed_0 ++ dktX2_isPlayed_1
theorem dksX2_isPlayed_0 : cX2_isPlayed.data.toList.drop 0 = dktX2_isPlayed_0 := by decide +kernel
theorem dksX2_isPlayed_1 : cX2_isPlayed.data.toList.drop 15 = dktX2_isPlayed_1 := dk_seg dksX2_isPlayed_0 15 rfl rfl
theorem dksX2_isPlayed_2 : cX2_isPlayed.data.toList.drop 56 = dktX2_isPlayed_2 := dk_seg dksX2_isPlayed_1 41 rfl rfl
theorem dksX2_isPlayed_3 : cX2_isPlayed.data.toList.drop 78 = dktX2_isPlayed_3 := dk_seg dksX2_isPlayed_2 22 rfl rfl
theorem dksX2_isPlayed_4 : cX2_isPlayed.data.toList.drop 101 = dktX2_isPlayed_4 := dk_seg dksX2_isPlayed_3 23 rfl rfl
theorem dksX2_isPlayed_5 : cX2_isPlayed.data.toList.drop 125 = dktX2_isPlayed_5 := dk_seg dksX2_isPlayed_4 24 rfl rfl
theorem dX2_isPlayed_0 : decode cX2_isPlayed 0 = .ok (.aload_n 0, 1) := dk_42 (dk_at dksX2_isPlayed_0 0 rfl rfl)
theorem dX2_isPlayed_1 : decode cX2_isPlayed 1 = .ok (.getfield 16, 3) := dk_180 0 16 (dk_at dksX2_isPlayed_0 1 rfl rfl)
theorem dX2_isPlayed_4 : decode cX2_isPlayed 4 = .ok (.iload_n 1, 1) := dk_27 (dk_at dksX2_isPlayed_0 4 rfl rfl)
theorem dX2_isPlayed_5 : decode cX2_isPlayed 5 = .ok (.iconst 1, 1) := dk_4 (dk_at dksX2_isPlayed_0 5 rfl rfl)
theorem dX2_isPlayed_6 : decode cX2_isPlayed 6 = .ok (.iadd, 1) := dk_96 (dk_at dksX2_isPlayed_0 6 rfl rfl)
theorem dX2_isPlayed_7 : decode cX2_isPlayed 7 = .ok (.iaload, 1) := dk_46 (dk_at dksX2_isPlayed_0 7 rfl rfl)
theorem dX2_isPlayed_8 : decode cX2_isPlayed 8 = .ok (.istore_n 2, 1) := dk_61 (dk_at dksX2_isPlayed_0 8 rfl rfl)
theorem dX2_isPlayed_9 : decode cX2_isPlayed 9 = .ok (.aload_n 0, 1) := dk_42 (dk_at dksX2_isPlayed_0 9 rfl rfl)
theorem dX2_isPlayed_10 : decode cX2_isPlayed 10 = .ok (.getfield 16, 3) := dk_180 0 16 (dk_at dksX2_isPlayed_0 10 rfl rfl)
theorem dX2_isPlayed_13 : decode cX2_isPlayed 13 = .ok (.iload_n 1, 1) := dk_27 (dk_at dksX2_isPlayed_0 13 rfl rfl)
theorem dX2_isPlayed_14 : decode cX2_isPlayed 14 = .ok (.iaload, 1) := dk_46 (dk_at dksX2_isPlayed_0 14 rfl rfl)
theorem dX2_isPlayed_15 : decode cX2_isPlayed 15 = .ok (.tableswitch 130 5 11 #[41, 72, 78, 91, 97, 111, 124], 41) := by decide +kernel
theorem dX2_isPlayed_56 : decode cX2_isPlayed 56 = .ok (.aload_n 0, 1) := dk_42 (dk_at dksX2_isPlayed_2 0 rfl rfl)
theorem dX2_isPlayed_57 : decode cX2_isPlayed 57 = .ok (.iload_n 2, 1) := dk_28 (dk_at dksX2_isPlayed_2 1 rfl rfl)
theorem dX2_isPlayed_58 : decode cX2_isPlayed 58 = .ok (.aload_n 0, 1) := dk_42 (dk_at dksX2_isPlayed_2 2 rfl rfl)
theorem dX2_isPlayed_59 : decode cX2_isPlayed 59 = .ok (.getfield 16, 3) := dk_180 0 16 (dk_at dksX2_isPlayed_2 3 rfl rfl)
theorem dX2_isPlayed_62 : decode cX2_isPlayed 62 = .ok (.iload_n 1, 1) := dk_27 (dk_at dksX2_isPlayed_2 6 rfl rfl)
theorem dX2_isPlayed_63 : decode cX2_isPlayed 63 = .ok (.iconst 2, 1) := dk_5 (dk_at dksX2_isPlayed_2 7 rfl rfl)
theorem dX2_isPlayed_64 : decode cX2_isPlayed 64 = .ok (.iadd, 1) := dk_96 (dk_at dksX2_isPlayed_2 8 rfl rfl)
theorem dX2_isPlayed_65 : decode cX2_isPlayed 65 = .ok (.iaload, 1) := dk_46 (dk_at dksX2_isPlayed_2 9 rfl rfl)
theorem dX2_isPlayed_66 : decode cX2_isPlayed 66 = .ok (.aload_n 0, 1) := dk_42 (dk_at dksX2_isPlayed_2 10 rfl rfl)
theorem dX2_isPlayed_67 : decode cX2_isPlayed 67 = .ok (.getfield 16, 3) := dk_180 0 16 (dk_at dksX2_isPlayed_2 11 rfl rfl)
theorem dX2_isPlayed_70 : decode cX2_isPlayed 70 = .ok (.iload_n 1, 1) := dk_27 (dk_at dksX2_isPlayed_2 14 rfl rfl)
theorem dX2_isPlayed_71 : decode cX2_isPlayed 71 = .ok (.iconst 3, 1) := dk_6 (dk_at dksX2_isPlayed_2 15 rfl rfl)
theorem dX2_isPlayed_72 : decode cX2_isPlayed 72 = .ok (.iadd, 1) := dk_96 (dk_at dksX2_isPlayed_2 16 rfl rfl)
theorem dX2_isPlayed_73 : decode cX2_isPlayed 73 = .ok (.iaload, 1) := dk_46 (dk_at dksX2_isPlayed_2 17 rfl rfl)
theorem dX2_isPlayed_74 : decode cX2_isPlayed 74 = .ok (.iconst 0, 1) := dk_3 (dk_at dksX2_isPlayed_2 18 rfl rfl)
theorem dX2_isPlayed_75 : decode cX2_isPlayed 75 = .ok (.invokevirtual 404, 3) := dk_182 1 148 (dk_at dksX2_isPlayed_2 19 rfl rfl)
theorem dX2_isPlayed_78 : decode cX2_isPlayed 78 = .ok (.ifCond .lt 7, 3) := dk_155 0 7 (dk_at dksX2_isPlayed_3 0 rfl rfl)
theorem dX2_isPlayed_81 : decode cX2_isPlayed 81 = .ok (.iconst 1, 1) := dk_4 (dk_at dksX2_isPlayed_3 3 rfl rfl)
theorem dX2_isPlayed_82 : decode cX2_isPlayed 82 = .ok (.goto 4, 3) := dk_167 0 4 (dk_at dksX2_isPlayed_3 4 rfl rfl)
theorem dX2_isPlayed_85 : decode cX2_isPlayed 85 = .ok (.iconst 0, 1) := dk_3 (dk_at dksX2_isPlayed_3 7 rfl rfl)
theorem dX2_isPlayed_86 : decode cX2_isPlayed 86 = .ok (.ireturn, 1) := dk_172 (dk_at dksX2_isPlayed_3 8 rfl rfl)
theorem dX2_isPlayed_87 : decode cX2_isPlayed 87 = .ok (.aload_n 0, 1) := dk_42 (dk_at dksX2_isPlayed_3 9 rfl rfl)
theorem dX2_isPlayed_88 : decode cX2_isPlayed 88 = .ok (.iload_n 2, 1) := dk_28 (dk_at dksX2_isPlayed_3 10 rfl rfl)
theorem dX2_isPlayed_89 : decode cX2_isPlayed 89 = .ok (.invokevirtual 407, 3) := dk_182 1 151 (dk_at dksX2_isPlayed_3 11 rfl rfl)
theorem dX2_isPlayed_92 : decode cX2_isPlayed 92 = .ok (.ireturn, 1) := dk_172 (dk_at dksX2_isPlayed_3 14 rfl rfl)
theorem dX2_isPlayed_93 : decode cX2_isPlayed 93 = .ok (.aload_n 0, 1) := dk_42 (dk_at dksX2_isPlayed_3 15 rfl rfl)
theorem dX2_isPlayed_94 : decode cX2_isPlayed 94 = .ok (.invokevirtual 410, 3) := dk_182 1 154 (dk_at dksX2_isPlayed_3 16 rfl rfl)
theorem dX2_isPlayed_97 : decode cX2_isPlayed 97 = .ok (.ifCond .lt 7, 3) := dk_155 0 7 (dk_at dksX2_isPlayed_3 19 rfl rfl)
theorem dX2_isPlayed_100 : decode cX2_isPlayed 100 = .ok (.iconst 1, 1) := dk_4 (dk_at dksX2_isPlayed_3 22 rfl rfl)
theorem dX2_isPlayed_101 : decode cX2_isPlayed 101 = .ok (.goto 4, 3) := dk_167 0 4 (dk_at dksX2_isPlayed_4 0 rfl rfl)
theorem dX2_isPlayed_104 : decode cX2_isPlayed 104 = .ok (.iconst 0, 1) := dk_3 (dk_at dksX2_isPlayed_4 3 rfl rfl)
theorem dX2_isPlayed_105 : decode cX2_isPlayed 105 = .ok (.ireturn, 1) := dk_172 (dk_at dksX2_isPlayed_4 4 rfl rfl)
theorem dX2_isPlayed_106 : decode cX2_isPlayed 106 = .ok (.aload_n 0, 1) := dk_42 (dk_at dksX2_isPlayed_4 5 rfl rfl)
theorem dX2_isPlayed_107 : decode cX2_isPlayed 107 = .ok (.iload_n 2, 1) := dk_28 (dk_at dksX2_isPlayed_4 6 rfl rfl)
theorem dX2_isPlayed_108 : decode cX2_isPlayed 108 = .ok (.invokevirtual 413, 3) := dk_182 1 157 (dk_at dksX2_isPlayed_4 7 rfl rfl)
theorem dX2_isPlayed_111 : decode cX2_isPlayed 111 = .ok (.ireturn, 1) := dk_172 (dk_at dksX2_isPlayed_4 10 rfl rfl)
theorem dX2_isPlayed_112 : decode cX2_isPlayed 112 = .ok (.aload_n 0, 1) := dk_42 (dk_at dksX2_isPlayed_4 11 rfl rfl)
theorem dX2_isPlayed_113 : decode cX2_isPlayed 113 = .ok (.iload_n 2, 1) := dk_28 (dk_at dksX2_isPlayed_4 12 rfl rfl)
theorem dX2_isPlayed_114 : decode cX2_isPlayed 114 = .ok (.aload_n 0, 1) := dk_42 (dk_at dksX2_isPlayed_4 13 rfl rfl)
theorem dX2_isPlayed_115 : decode cX2_isPlayed 115 = .ok (.getfield 16, 3) := dk_180 0 16 (dk_at dksX2_isPlayed_4 14 rfl rfl)
theorem dX2_isPlayed_118 : decode cX2_isPlayed 118 = .ok (.iload_n 1, 1) := dk_27 (dk_at dksX2_isPlayed_4 17 rfl rfl)
theorem dX2_isPlayed_119 : decode cX2_isPlayed 119 = .ok (.iconst 2, 1) := dk_5 (dk_at dksX2_isPlayed_4 18 rfl rfl)
theorem dX2_isPlayed_120 : decode cX2_isPlayed 120 = .ok (.iadd, 1) := dk_96 (dk_at dksX2_isPlayed_4 19 rfl rfl)
theorem dX2_isPlayed_121 : decode cX2_isPlayed 121 = .ok (.iaload, 1) := dk_46 (dk_at dksX2_isPlayed_4 20 rfl rfl)
theorem dX2_isPlayed_122 : decode cX2_isPlayed 122 = .ok (.invokevirtual 416, 3) := dk_182 1 160 (dk_at dksX2_isPlayed_4 21 rfl rfl)
theorem dX2_isPlayed_125 : decode cX2_isPlayed 125 = .ok (.ireturn, 1) := dk_172 (dk_at dksX2_isPlayed_5 0 rfl rfl)
theorem dX2_isPlayed_126 : decode cX2_isPlayed 126 = .ok (.aload_n 0, 1) := dk_42 (dk_at dksX2_isPlayed_5 1 rfl rfl)
theorem dX2_isPlayed_127 : decode cX2_isPlayed 127 = .ok (.invokevirtual 419, 3) := dk_182 1 163 (dk_at dksX2_isPlayed_5 2 rfl rfl)
theorem dX2_isPlayed_130 : decode cX2_isPlayed 130 = .ok (.ifCond .lt 7, 3) := dk_155 0 7 (dk_at dksX2_isPlayed_5 5 rfl rfl)
theorem dX2_isPlayed_133 : decode cX2_isPlayed 133 = .ok (.iconst 1, 1) := dk_4 (dk_at dksX2_isPlayed_5 8 rfl rfl)
theorem dX2_isPlayed_134 : decode cX2_isPlayed 134 = .ok (.goto 4, 3) := dk_167 0 4 (dk_at dksX2_isPlayed_5 9 rfl rfl)
theorem dX2_isPlayed_137 : decode cX2_isPlayed 137 = .ok (.iconst 0, 1) := dk_3 (dk_at dksX2_isPlayed_5 12 rfl rfl)
theorem dX2_isPlayed_138 : decode cX2_isPlayed 138 = .ok (.ireturn, 1) := dk_172 (dk_at dksX2_isPlayed_5 13 rfl rfl)
theorem dX2_isPlayed_139 : decode cX2_isPlayed 139 = .ok (.aload_n 0, 1) := dk_42 (dk_at dksX2_isPlayed_5 14 rfl rfl)
theorem dX2_isPlayed_140 : decode cX2_isPlayed 140 = .ok (.iload_n 2, 1) := dk_28 (dk_at dksX2_isPlayed_5 15 rfl rfl)
theorem dX2_isPlayed_141 : decode cX2_isPlayed 141 = .ok (.invokevirtual 401, 3) := dk_182 1 145 (dk_at dksX2_isPlayed_5 16 rfl rfl)
theorem dX2_isPlayed_144 : decode cX2_isPlayed 144 = .ok (.ireturn, 1) := dk_172 (dk_at dksX2_isPlayed_5 19 rfl rfl)
theorem dX2_isPlayed_145 : decode cX2_isPlayed 145 = .ok (.iconst 1, 1) := dk_4 (dk_at dksX2_isPlayed_5 20 rfl rfl)
theorem dX2_isPlayed_146 : decode cX2_isPlayed 146 = .ok (.ireturn, 1) := dk_172 (dk_at dksX2_isPlayed_5 21 rfl rfl)
abbrev cX2_decades : ByteArray := prog_20_method_98_code
def yX2_decades : MethodName := ⟨RX2, "decades", "(II)I"⟩
def dkwX2_decades_3 : List UInt8 := [42, 21, 4, 182, 1, 169, 132, 3, 1, 167, 255, 229, 42, 180, 0, 7, 16, 11, 46, 172]
abbrev dktX2_decades_3 : List UInt8 := dkwX2_decades_3 ++ []
def dkwX2_decades_2 : List UInt8 := [16, 107, 96, 79, 3, 62, 29, 28, 162, 0, 28, 42, 180, 0, 7, 16, 12, 46, 54, 4, 42, 182, 1, 90]
abbrev dktX2_decades_2 : List UInt8 := dkwX2_decades_2 ++ dktX2_decades_3
def dkwX2_decades_1 : List UInt8 := [180, 0, 7, 3, 46, 154, 0, 5, 2, 172, 42, 182, 1, 127, 42, 180, 0, 7, 16, 12, 27, 5, 104]
abbrev dktX2_decades_1 : List UInt8 := dkwX2_decades_1 ++ dktX2_decades_2
def dkwX2_decades_0 : List UInt8 := [27, 3, 17, 39, 15, 184, 0, 74, 153, 0, 22, 28, 4, 16, 40, 184, 0, 74, 153, 0, 12, 42]
abbrev dktX2_decades_0 : List UInt8 := dkwX2_decades_0 ++ dktX2_decades_1
theorem dksX2_decades_0 : cX2_decades.data.toList.drop 0 = dktX2_decades_0 := by decide +kernel
theorem dksX2_decades_1 : cX2_decades.data.toList.drop 22 = dktX2_decades_1 := dk_seg dksX2_decades_0 22 rfl rfl
theorem dksX2_decades_2 : cX2_decades.data.toList.drop 45 = dktX2_decades_2 := dk_seg dksX2_decades_1 23 rfl rfl
theorem dksX2_decades_3 : cX2_decades.data.toList.drop 69 = dktX2_decades_3 := dk_seg dksX2_decades_2 24 rfl rfl
theorem dX2_decades_0 : decode cX2_decades 0 = .ok (.iload_n 1, 1) := dk_27 (dk_at dksX2_decades_0 0 rfl rfl)
theorem dX2_decades_1 : decode cX2_decades 1 = .ok (.iconst 0, 1) := dk_3 (dk_at dksX2_decades_0 1 rfl rfl)
theorem dX2_decades_2 : decode cX2_decades 2 = .ok (.sipush 9999, 3) := dk_17 39 15 (dk_at dksX2_decades_0 2 rfl rfl)
theorem dX2_decades_5 : decode cX2_decades 5 = .ok (.invokestatic 74, 3) := dk_184 0 74 (dk_at dksX2_decades_0 5 rfl rfl)
theorem dX2_decades_8 : decode cX2_decades 8 = .ok (.ifCond .eq 22, 3) := dk_153 0 22 (dk_at dksX2_decades_0 8 rfl rfl)
theorem dX2_decades_11 : decode cX2_decades 11 = .ok (.iload_n 2, 1) := dk_28 (dk_at dksX2_decades_0 11 rfl rfl)
theorem dX2_decades_12 : decode cX2_decades 12 = .ok (.iconst 1, 1) := dk_4 (dk_at dksX2_decades_0 12 rfl rfl)
theorem dX2_decades_13 : decode cX2_decades 13 = .ok (.bipush 40, 2) := dk_16 40 (dk_at dksX2_decades_0 13 rfl rfl)
theorem dX2_decades_15 : decode cX2_decades 15 = .ok (.invokestatic 74, 3) := dk_184 0 74 (dk_at dksX2_decades_0 15 rfl rfl)
theorem dX2_decades_18 : decode cX2_decades 18 = .ok (.ifCond .eq 12, 3) := dk_153 0 12 (dk_at dksX2_decades_0 18 rfl rfl)
theorem dX2_decades_21 : decode cX2_decades 21 = .ok (.aload_n 0, 1) := dk_42 (dk_at dksX2_decades_0 21 rfl rfl)
theorem dX2_decades_22 : decode cX2_decades 22 = .ok (.getfield 7, 3) := dk_180 0 7 (dk_at dksX2_decades_1 0 rfl rfl)
theorem dX2_decades_25 : decode cX2_decades 25 = .ok (.iconst 0, 1) := dk_3 (dk_at dksX2_decades_1 3 rfl rfl)
theorem dX2_decades_26 : decode cX2_decades 26 = .ok (.iaload, 1) := dk_46 (dk_at dksX2_decades_1 4 rfl rfl)
theorem dX2_decades_27 : decode cX2_decades 27 = .ok (.ifCond .ne 5, 3) := dk_154 0 5 (dk_at dksX2_decades_1 5 rfl rfl)
theorem dX2_decades_30 : decode cX2_decades 30 = .ok (.iconst (-1), 1) := dk_2 (dk_at dksX2_decades_1 8 rfl rfl)
theorem dX2_decades_31 : decode cX2_decades 31 = .ok (.ireturn, 1) := dk_172 (dk_at dksX2_decades_1 9 rfl rfl)
theorem dX2_decades_32 : decode cX2_decades 32 = .ok (.aload_n 0, 1) := dk_42 (dk_at dksX2_decades_1 10 rfl rfl)
theorem dX2_decades_33 : decode cX2_decades 33 = .ok (.invokevirtual 383, 3) := dk_182 1 127 (dk_at dksX2_decades_1 11 rfl rfl)
theorem dX2_decades_36 : decode cX2_decades 36 = .ok (.aload_n 0, 1) := dk_42 (dk_at dksX2_decades_1 14 rfl rfl)
theorem dX2_decades_37 : decode cX2_decades 37 = .ok (.getfield 7, 3) := dk_180 0 7 (dk_at dksX2_decades_1 15 rfl rfl)
theorem dX2_decades_40 : decode cX2_decades 40 = .ok (.bipush 12, 2) := dk_16 12 (dk_at dksX2_decades_1 18 rfl rfl)
theorem dX2_decades_42 : decode cX2_decades 42 = .ok (.iload_n 1, 1) := dk_27 (dk_at dksX2_decades_1 20 rfl rfl)
theorem dX2_decades_43 : decode cX2_decades 43 = .ok (.iconst 2, 1) := dk_5 (dk_at dksX2_decades_1 21 rfl rfl)
theorem dX2_decades_44 : decode cX2_decades 44 = .ok (.imul, 1) := dk_104 (dk_at dksX2_decades_1 22 rfl rfl)
theorem dX2_decades_45 : decode cX2_decades 45 = .ok (.bipush 107, 2) := dk_16 107 (dk_at dksX2_decades_2 0 rfl rfl)
theorem dX2_decades_47 : decode cX2_decades 47 = .ok (.iadd, 1) := dk_96 (dk_at dksX2_decades_2 2 rfl rfl)
theorem dX2_decades_48 : decode cX2_decades 48 = .ok (.iastore, 1) := dk_79 (dk_at dksX2_decades_2 3 rfl rfl)
theorem dX2_decades_49 : decode cX2_decades 49 = .ok (.iconst 0, 1) := dk_3 (dk_at dksX2_decades_2 4 rfl rfl)
theorem dX2_decades_50 : decode cX2_decades 50 = .ok (.istore_n 3, 1) := dk_62 (dk_at dksX2_decades_2 5 rfl rfl)
theorem dX2_decades_51 : decode cX2_decades 51 = .ok (.iload_n 3, 1) := dk_29 (dk_at dksX2_decades_2 6 rfl rfl)
theorem dX2_decades_52 : decode cX2_decades 52 = .ok (.iload_n 2, 1) := dk_28 (dk_at dksX2_decades_2 7 rfl rfl)
theorem dX2_decades_53 : decode cX2_decades 53 = .ok (.if_icmp .ge 28, 3) := dk_162 0 28 (dk_at dksX2_decades_2 8 rfl rfl)
theorem dX2_decades_56 : decode cX2_decades 56 = .ok (.aload_n 0, 1) := dk_42 (dk_at dksX2_decades_2 11 rfl rfl)
theorem dX2_decades_57 : decode cX2_decades 57 = .ok (.getfield 7, 3) := dk_180 0 7 (dk_at dksX2_decades_2 12 rfl rfl)
theorem dX2_decades_60 : decode cX2_decades 60 = .ok (.bipush 12, 2) := dk_16 12 (dk_at dksX2_decades_2 15 rfl rfl)
theorem dX2_decades_62 : decode cX2_decades 62 = .ok (.iaload, 1) := dk_46 (dk_at dksX2_decades_2 17 rfl rfl)
theorem dX2_decades_63 : decode cX2_decades 63 = .ok (.istore 4, 2) := dk_54 4 (dk_at dksX2_decades_2 18 rfl rfl)
theorem dX2_decades_65 : decode cX2_decades 65 = .ok (.aload_n 0, 1) := dk_42 (dk_at dksX2_decades_2 20 rfl rfl)
theorem dX2_decades_66 : decode cX2_decades 66 = .ok (.invokevirtual 346, 3) := dk_182 1 90 (dk_at dksX2_decades_2 21 rfl rfl)
theorem dX2_decades_69 : decode cX2_decades 69 = .ok (.aload_n 0, 1) := dk_42 (dk_at dksX2_decades_3 0 rfl rfl)
theorem dX2_decades_70 : decode cX2_decades 70 = .ok (.iload 4, 2) := dk_21 4 (dk_at dksX2_decades_3 1 rfl rfl)
theorem dX2_decades_72 : decode cX2_decades 72 = .ok (.invokevirtual 425, 3) := dk_182 1 169 (dk_at dksX2_decades_3 3 rfl rfl)
theorem dX2_decades_75 : decode cX2_decades 75 = .ok (.iinc 3 1, 3) := dk_132 3 1 (dk_at dksX2_decades_3 6 rfl rfl)
theorem dX2_decades_78 : decode cX2_decades 78 = .ok (.goto (-27), 3) := dk_167 255 229 (dk_at dksX2_decades_3 9 rfl rfl)
theorem dX2_decades_81 : decode cX2_decades 81 = .ok (.aload_n 0, 1) := dk_42 (dk_at dksX2_decades_3 12 rfl rfl)
theorem dX2_decades_82 : decode cX2_decades 82 = .ok (.getfield 7, 3) := dk_180 0 7 (dk_at dksX2_decades_3 13 rfl rfl)
theorem dX2_decades_85 : decode cX2_decades 85 = .ok (.bipush 11, 2) := dk_16 11 (dk_at dksX2_decades_3 16 rfl rfl)
theorem dX2_decades_87 : decode cX2_decades 87 = .ok (.iaload, 1) := dk_46 (dk_at dksX2_decades_3 18 rfl rfl)
theorem dX2_decades_88 : decode cX2_decades 88 = .ok (.ireturn, 1) := dk_172 (dk_at dksX2_decades_3 19 rfl rfl)
abbrev cX2_happens : ByteArray := prog_20_method_97_code
def yX2_happens : MethodName := ⟨RX2, "happens", "(I)V"⟩
def dkwX2_happens_4 : List UInt8 := [162, 0, 23, 42, 182, 1, 142, 167, 0, 16, 42, 28, 182, 1, 124, 153, 0, 8, 42, 28, 182, 1, 130, 177]
abbrev dktX2_happens_4 : List UInt8 := dkwX2_happens_4 ++ []
def dkwX2_happens_3 : List UInt8 := [182, 1, 136, 153, 0, 44, 42, 28, 182, 1, 139, 167, 0, 36, 42, 180, 0, 7, 16, 11, 46, 17, 39, 15]
abbrev dktX2_happens_3 : List UInt8 := dkwX2_happens_3 ++ dktX2_happens_4
def dkwX2_happens_2 : List UInt8 := [42, 182, 1, 133, 153, 0, 66, 42, 180, 0, 7, 16, 16, 92, 46, 4, 96, 79, 167, 0, 52, 42, 28]
abbrev dktX2_happens_2 : List UInt8 := dkwX2_happens_2 ++ dktX2_happens_3
def dkwX2_happens_1 : List UInt8 := [170, 0, 0, 0, 0, 0, 92, 0, 0, 0, 2, 0, 0, 0, 6, 0, 0, 0, 35, 0, 0, 0, 56, 0, 0, 0, 72, 0, 0, 0, 72, 0, 0, 0, 72]
abbrev dktX2_happens_1 : List UInt8 := dkwX2_happens_1 ++ dktX2_happens_2
def dkwX2_happens_0 : List UInt8 := [27, 42, 180, 0, 7, 3, 46, 112, 61, 27, 16, 7, 112]
abbrev dktX2_happens_0 : List UInt8 := dkwX2_happens_0 ++ dktX2_happens_1
theorem dksX2_happens_0 : cX2_happens.data.toList.drop 0 = dktX2_happens_0 := by decide +kernel
theorem dksX2_happens_1 : cX2_happens.data.toList.drop 13 = dktX2_happens_1 := dk_seg dksX2_happens_0 13 rfl rfl
theorem dksX2_happens_2 : cX2_happens.data.toList.drop 48 = dktX2_happens_2 := dk_seg dksX2_happens_1 35 rfl rfl
theorem dksX2_happens_3 : cX2_happens.data.toList.drop 71 = dktX2_happens_3 := dk_seg dksX2_happens_2 23 rfl rfl
theorem dksX2_happens_4 : cX2_happens.data.toList.drop 95 = dktX2_happens_4 := dk_seg dksX2_happens_3 24 rfl rfl
theorem dX2_happens_0 : decode cX2_happens 0 = .ok (.iload_n 1, 1) := dk_27 (dk_at dksX2_happens_0 0 rfl rfl)
theorem dX2_happens_1 : decode cX2_happens 1 = .ok (.aload_n 0, 1) := dk_42 (dk_at dksX2_happens_0 1 rfl rfl)
theorem dX2_happens_2 : decode cX2_happens 2 = .ok (.getfield 7, 3) := dk_180 0 7 (dk_at dksX2_happens_0 2 rfl rfl)
theorem dX2_happens_5 : decode cX2_happens 5 = .ok (.iconst 0, 1) := dk_3 (dk_at dksX2_happens_0 5 rfl rfl)
theorem dX2_happens_6 : decode cX2_happens 6 = .ok (.iaload, 1) := dk_46 (dk_at dksX2_happens_0 6 rfl rfl)
theorem dX2_happens_7 : decode cX2_happens 7 = .ok (.irem, 1) := dk_112 (dk_at dksX2_happens_0 7 rfl rfl)
theorem dX2_happens_8 : decode cX2_happens 8 = .ok (.istore_n 2, 1) := dk_61 (dk_at dksX2_happens_0 8 rfl rfl)
theorem dX2_happens_9 : decode cX2_happens 9 = .ok (.iload_n 1, 1) := dk_27 (dk_at dksX2_happens_0 9 rfl rfl)
theorem dX2_happens_10 : decode cX2_happens 10 = .ok (.bipush 7, 2) := dk_16 7 (dk_at dksX2_happens_0 10 rfl rfl)
theorem dX2_happens_12 : decode cX2_happens 12 = .ok (.irem, 1) := dk_112 (dk_at dksX2_happens_0 12 rfl rfl)
theorem dX2_happens_13 : decode cX2_happens 13 = .ok (.tableswitch 92 2 6 #[35, 56, 72, 72, 72], 35) := by decide +kernel
theorem dX2_happens_48 : decode cX2_happens 48 = .ok (.aload_n 0, 1) := dk_42 (dk_at dksX2_happens_2 0 rfl rfl)
theorem dX2_happens_49 : decode cX2_happens 49 = .ok (.invokevirtual 389, 3) := dk_182 1 133 (dk_at dksX2_happens_2 1 rfl rfl)
theorem dX2_happens_52 : decode cX2_happens 52 = .ok (.ifCond .eq 66, 3) := dk_153 0 66 (dk_at dksX2_happens_2 4 rfl rfl)
theorem dX2_happens_55 : decode cX2_happens 55 = .ok (.aload_n 0, 1) := dk_42 (dk_at dksX2_happens_2 7 rfl rfl)
theorem dX2_happens_56 : decode cX2_happens 56 = .ok (.getfield 7, 3) := dk_180 0 7 (dk_at dksX2_happens_2 8 rfl rfl)
theorem dX2_happens_59 : decode cX2_happens 59 = .ok (.bipush 16, 2) := dk_16 16 (dk_at dksX2_happens_2 11 rfl rfl)
theorem dX2_happens_61 : decode cX2_happens 61 = .ok (.dup2, 1) := dk_92 (dk_at dksX2_happens_2 13 rfl rfl)
theorem dX2_happens_62 : decode cX2_happens 62 = .ok (.iaload, 1) := dk_46 (dk_at dksX2_happens_2 14 rfl rfl)
theorem dX2_happens_63 : decode cX2_happens 63 = .ok (.iconst 1, 1) := dk_4 (dk_at dksX2_happens_2 15 rfl rfl)
theorem dX2_happens_64 : decode cX2_happens 64 = .ok (.iadd, 1) := dk_96 (dk_at dksX2_happens_2 16 rfl rfl)
theorem dX2_happens_65 : decode cX2_happens 65 = .ok (.iastore, 1) := dk_79 (dk_at dksX2_happens_2 17 rfl rfl)
theorem dX2_happens_66 : decode cX2_happens 66 = .ok (.goto 52, 3) := dk_167 0 52 (dk_at dksX2_happens_2 18 rfl rfl)
theorem dX2_happens_69 : decode cX2_happens 69 = .ok (.aload_n 0, 1) := dk_42 (dk_at dksX2_happens_2 21 rfl rfl)
theorem dX2_happens_70 : decode cX2_happens 70 = .ok (.iload_n 2, 1) := dk_28 (dk_at dksX2_happens_2 22 rfl rfl)
theorem dX2_happens_71 : decode cX2_happens 71 = .ok (.invokevirtual 392, 3) := dk_182 1 136 (dk_at dksX2_happens_3 0 rfl rfl)
theorem dX2_happens_74 : decode cX2_happens 74 = .ok (.ifCond .eq 44, 3) := dk_153 0 44 (dk_at dksX2_happens_3 3 rfl rfl)
theorem dX2_happens_77 : decode cX2_happens 77 = .ok (.aload_n 0, 1) := dk_42 (dk_at dksX2_happens_3 6 rfl rfl)
theorem dX2_happens_78 : decode cX2_happens 78 = .ok (.iload_n 2, 1) := dk_28 (dk_at dksX2_happens_3 7 rfl rfl)
theorem dX2_happens_79 : decode cX2_happens 79 = .ok (.invokevirtual 395, 3) := dk_182 1 139 (dk_at dksX2_happens_3 8 rfl rfl)
theorem dX2_happens_82 : decode cX2_happens 82 = .ok (.goto 36, 3) := dk_167 0 36 (dk_at dksX2_happens_3 11 rfl rfl)
theorem dX2_happens_85 : decode cX2_happens 85 = .ok (.aload_n 0, 1) := dk_42 (dk_at dksX2_happens_3 14 rfl rfl)
theorem dX2_happens_86 : decode cX2_happens 86 = .ok (.getfield 7, 3) := dk_180 0 7 (dk_at dksX2_happens_3 15 rfl rfl)
theorem dX2_happens_89 : decode cX2_happens 89 = .ok (.bipush 11, 2) := dk_16 11 (dk_at dksX2_happens_3 18 rfl rfl)
theorem dX2_happens_91 : decode cX2_happens 91 = .ok (.iaload, 1) := dk_46 (dk_at dksX2_happens_3 20 rfl rfl)
theorem dX2_happens_92 : decode cX2_happens 92 = .ok (.sipush 9999, 3) := dk_17 39 15 (dk_at dksX2_happens_3 21 rfl rfl)
theorem dX2_happens_95 : decode cX2_happens 95 = .ok (.if_icmp .ge 23, 3) := dk_162 0 23 (dk_at dksX2_happens_4 0 rfl rfl)
theorem dX2_happens_98 : decode cX2_happens 98 = .ok (.aload_n 0, 1) := dk_42 (dk_at dksX2_happens_4 3 rfl rfl)
theorem dX2_happens_99 : decode cX2_happens 99 = .ok (.invokevirtual 398, 3) := dk_182 1 142 (dk_at dksX2_happens_4 4 rfl rfl)
theorem dX2_happens_102 : decode cX2_happens 102 = .ok (.goto 16, 3) := dk_167 0 16 (dk_at dksX2_happens_4 7 rfl rfl)
theorem dX2_happens_105 : decode cX2_happens 105 = .ok (.aload_n 0, 1) := dk_42 (dk_at dksX2_happens_4 10 rfl rfl)
theorem dX2_happens_106 : decode cX2_happens 106 = .ok (.iload_n 2, 1) := dk_28 (dk_at dksX2_happens_4 11 rfl rfl)
theorem dX2_happens_107 : decode cX2_happens 107 = .ok (.invokevirtual 380, 3) := dk_182 1 124 (dk_at dksX2_happens_4 12 rfl rfl)
theorem dX2_happens_110 : decode cX2_happens 110 = .ok (.ifCond .eq 8, 3) := dk_153 0 8 (dk_at dksX2_happens_4 15 rfl rfl)
theorem dX2_happens_113 : decode cX2_happens 113 = .ok (.aload_n 0, 1) := dk_42 (dk_at dksX2_happens_4 18 rfl rfl)
theorem dX2_happens_114 : decode cX2_happens 114 = .ok (.iload_n 2, 1) := dk_28 (dk_at dksX2_happens_4 19 rfl rfl)
theorem dX2_happens_115 : decode cX2_happens 115 = .ok (.invokevirtual 386, 3) := dk_182 1 130 (dk_at dksX2_happens_4 20 rfl rfl)
theorem dX2_happens_118 : decode cX2_happens 118 = .ok (.return_, 1) := dk_177 (dk_at dksX2_happens_4 23 rfl rfl)
abbrev cX2_ofCase : ByteArray := prog_20_method_99_code
def yX2_ofCase : MethodName := ⟨RX2, "ofCase", "(II)I"⟩
def dkwX2_ofCase_1 : List UInt8 := [167, 0, 4, 2, 172]
abbrev dktX2_ofCase_1 : List UInt8 := dkwX2_ofCase_1 ++ []
def dkwX2_ofCase_0 : List UInt8 := [42, 27, 182, 0, 78, 153, 0, 22, 28, 3, 16, 6, 184, 0, 74, 153, 0, 12, 42, 27, 28, 182, 0, 82]
abbrev dktX2_ofCase_0 : List UInt8 := dkwX2_ofCase_0 ++ dktX2_ofCase_1
theorem dksX2_ofCase_0 : cX2_ofCase.data.toList.drop 0 = dktX2_ofCase_0 := by decide +kernel
theorem dksX2_ofCase_1 : cX2_ofCase.data.toList.drop 24 = dktX2_ofCase_1 := dk_seg dksX2_ofCase_0 24 rfl rfl
theorem dX2_ofCase_0 : decode cX2_ofCase 0 = .ok (.aload_n 0, 1) := dk_42 (dk_at dksX2_ofCase_0 0 rfl rfl)
theorem dX2_ofCase_1 : decode cX2_ofCase 1 = .ok (.iload_n 1, 1) := dk_27 (dk_at dksX2_ofCase_0 1 rfl rfl)
theorem dX2_ofCase_2 : decode cX2_ofCase 2 = .ok (.invokevirtual 78, 3) := dk_182 0 78 (dk_at dksX2_ofCase_0 2 rfl rfl)
theorem dX2_ofCase_5 : decode cX2_ofCase 5 = .ok (.ifCond .eq 22, 3) := dk_153 0 22 (dk_at dksX2_ofCase_0 5 rfl rfl)
theorem dX2_ofCase_8 : decode cX2_ofCase 8 = .ok (.iload_n 2, 1) := dk_28 (dk_at dksX2_ofCase_0 8 rfl rfl)
theorem dX2_ofCase_9 : decode cX2_ofCase 9 = .ok (.iconst 0, 1) := dk_3 (dk_at dksX2_ofCase_0 9 rfl rfl)
theorem dX2_ofCase_10 : decode cX2_ofCase 10 = .ok (.bipush 6, 2) := dk_16 6 (dk_at dksX2_ofCase_0 10 rfl rfl)
theorem dX2_ofCase_12 : decode cX2_ofCase 12 = .ok (.invokestatic 74, 3) := dk_184 0 74 (dk_at dksX2_ofCase_0 12 rfl rfl)
theorem dX2_ofCase_15 : decode cX2_ofCase 15 = .ok (.ifCond .eq 12, 3) := dk_153 0 12 (dk_at dksX2_ofCase_0 15 rfl rfl)
theorem dX2_ofCase_18 : decode cX2_ofCase 18 = .ok (.aload_n 0, 1) := dk_42 (dk_at dksX2_ofCase_0 18 rfl rfl)
theorem dX2_ofCase_19 : decode cX2_ofCase 19 = .ok (.iload_n 1, 1) := dk_27 (dk_at dksX2_ofCase_0 19 rfl rfl)
theorem dX2_ofCase_20 : decode cX2_ofCase 20 = .ok (.iload_n 2, 1) := dk_28 (dk_at dksX2_ofCase_0 20 rfl rfl)
theorem dX2_ofCase_21 : decode cX2_ofCase 21 = .ok (.invokevirtual 82, 3) := dk_182 0 82 (dk_at dksX2_ofCase_0 21 rfl rfl)
theorem dX2_ofCase_24 : decode cX2_ofCase 24 = .ok (.goto 4, 3) := dk_167 0 4 (dk_at dksX2_ofCase_1 0 rfl rfl)
theorem dX2_ofCase_27 : decode cX2_ofCase 27 = .ok (.iconst (-1), 1) := dk_2 (dk_at dksX2_ofCase_1 3 rfl rfl)
theorem dX2_ofCase_28 : decode cX2_ofCase 28 = .ok (.ireturn, 1) := dk_172 (dk_at dksX2_ofCase_1 4 rfl rfl)
abbrev cX2_is : ByteArray := prog_20_method_100_code
def yX2_is : MethodName := ⟨RX2, "is", "(I)I"⟩
def dkwX2_is_1 : List UInt8 := [172]
abbrev dktX2_is_1 : List UInt8 := dkwX2_is_1 ++ []
def dkwX2_is_0 : List UInt8 := [27, 3, 16, 8, 184, 0, 74, 153, 0, 15, 42, 180, 0, 7, 16, 8, 27, 96, 46, 167, 0, 5, 16, 254]
abbrev dktX2_is_0 : List UInt8 := dkwX2_is_0 ++ dktX2_is_1
theorem dksX2_is_0 : cX2_is.data.toList.drop 0 = dktX2_is_0 := by decide +kernel
theorem dksX2_is_1 : cX2_is.data.toList.drop 24 = dktX2_is_1 := dk_seg dksX2_is_0 24 rfl rfl
theorem dX2_is_0 : decode cX2_is 0 = .ok (.iload_n 1, 1) := dk_27 (dk_at dksX2_is_0 0 rfl rfl)
theorem dX2_is_1 : decode cX2_is 1 = .ok (.iconst 0, 1) := dk_3 (dk_at dksX2_is_0 1 rfl rfl)
theorem dX2_is_2 : decode cX2_is 2 = .ok (.bipush 8, 2) := dk_16 8 (dk_at dksX2_is_0 2 rfl rfl)
theorem dX2_is_4 : decode cX2_is 4 = .ok (.invokestatic 74, 3) := dk_184 0 74 (dk_at dksX2_is_0 4 rfl rfl)
theorem dX2_is_7 : decode cX2_is 7 = .ok (.ifCond .eq 15, 3) := dk_153 0 15 (dk_at dksX2_is_0 7 rfl rfl)
theorem dX2_is_10 : decode cX2_is 10 = .ok (.aload_n 0, 1) := dk_42 (dk_at dksX2_is_0 10 rfl rfl)
theorem dX2_is_11 : decode cX2_is 11 = .ok (.getfield 7, 3) := dk_180 0 7 (dk_at dksX2_is_0 11 rfl rfl)
theorem dX2_is_14 : decode cX2_is 14 = .ok (.bipush 8, 2) := dk_16 8 (dk_at dksX2_is_0 14 rfl rfl)
theorem dX2_is_16 : decode cX2_is 16 = .ok (.iload_n 1, 1) := dk_27 (dk_at dksX2_is_0 16 rfl rfl)
theorem dX2_is_17 : decode cX2_is 17 = .ok (.iadd, 1) := dk_96 (dk_at dksX2_is_0 17 rfl rfl)
theorem dX2_is_18 : decode cX2_is 18 = .ok (.iaload, 1) := dk_46 (dk_at dksX2_is_0 18 rfl rfl)
theorem dX2_is_19 : decode cX2_is 19 = .ok (.goto 5, 3) := dk_167 0 5 (dk_at dksX2_is_0 19 rfl rfl)
theorem dX2_is_22 : decode cX2_is 22 = .ok (.bipush (-2), 2) := dk_16 254 (dk_at dksX2_is_0 22 rfl rfl)
theorem dX2_is_24 : decode cX2_is 24 = .ok (.ireturn, 1) := dk_172 (dk_at dksX2_is_1 0 rfl rfl)
abbrev cX2_book : ByteArray := prog_20_method_102_code
def yX2_book : MethodName := ⟨RX2, "book", "(II)I"⟩
def dkwX2_book_6 : List UInt8 := [172]
abbrev dktX2_book_6 : List UInt8 := dkwX2_book_6 ++ []
def dkwX2_book_5 : List UInt8 := [29, 4, 96, 46, 17, 3, 232, 108, 172, 42, 180, 0, 7, 29, 4, 96, 46, 17, 3, 232, 112, 172, 16, 254]
abbrev dktX2_book_5 : List UInt8 := dkwX2_book_5 ++ dktX2_book_6
def dkwX2_book_4 : List UInt8 := [42, 180, 0, 7, 29, 46, 16, 8, 108, 172, 42, 180, 0, 7, 29, 46, 16, 8, 112, 172, 42, 180, 0, 7]
abbrev dktX2_book_4 : List UInt8 := dkwX2_book_4 ++ dktX2_book_5
def dkwX2_book_3 : List UInt8 := [170, 0, 0, 0, 0, 0, 77, 0, 0, 0, 0, 0, 0, 0, 3, 0, 0, 0, 31, 0, 0, 0, 41, 0, 0, 0, 51, 0, 0, 0, 64]
abbrev dktX2_book_3 : List UInt8 := dkwX2_book_3 ++ dktX2_book_4
def dkwX2_book_2 : List UInt8 := [112, 104, 96, 62, 28]
abbrev dktX2_book_2 : List UInt8 := dkwX2_book_2 ++ dktX2_book_3
def dkwX2_book_1 : List UInt8 := [16, 254, 172, 17, 4, 158, 5, 42, 180, 0, 7, 16, 17, 46, 42, 182, 1, 172, 100, 27, 96, 17, 4, 206]
abbrev dktX2_book_1 : List UInt8 := dkwX2_book_1 ++ dktX2_book_2
def dkwX2_book_0 : List UInt8 := [27, 2, 160, 0, 8, 42, 182, 1, 172, 172, 27, 3, 42, 182, 1, 172, 4, 100, 184, 0, 74, 154, 0, 6]
abbrev dktX2_book_0 : List UInt8 := dkwX2_book_0 ++ dktX2_book_1
theorem dksX2_book_0 : cX2_book.data.toList.drop 0 = dktX2_book_0 := by decide +kernel
theorem dksX2_book_1 : cX2_book.data.toList.drop 24 = dktX2_book_1 := dk_seg dksX2_book_0 24 rfl rfl
theorem dksX2_book_2 : cX2_book.data.toList.drop 48 = dktX2_book_2 := dk_seg dksX2_book_1 24 rfl rfl
theorem dksX2_book_3 : cX2_book.data.toList.drop 53 = dktX2_book_3 := dk_seg dksX2_book_2 5 rfl rfl
theorem dksX2_book_4 : cX2_book.data.toList.drop 84 = dktX2_book_4 := dk_seg dksX2_book_3 31 rfl rfl
theorem dksX2_book_5 : cX2_book.data.toList.drop 108 = dktX2_book_5 := dk_seg dksX2_book_4 24 rfl rfl
theorem dksX2_book_6 : cX2_book.data.toList.drop 132 = dktX2_book_6 := dk_seg dksX2_book_5 24 rfl rfl
theorem dX2_book_0 : decode cX2_book 0 = .ok (.iload_n 1, 1) := dk_27 (dk_at dksX2_book_0 0 rfl rfl)
theorem dX2_book_1 : decode cX2_book 1 = .ok (.iconst (-1), 1) := dk_2 (dk_at dksX2_book_0 1 rfl rfl)
theorem dX2_book_2 : decode cX2_book 2 = .ok (.if_icmp .ne 8, 3) := dk_160 0 8 (dk_at dksX2_book_0 2 rfl rfl)
theorem dX2_book_5 : decode cX2_book 5 = .ok (.aload_n 0, 1) := dk_42 (dk_at dksX2_book_0 5 rfl rfl)
theorem dX2_book_6 : decode cX2_book 6 = .ok (.invokevirtual 428, 3) := dk_182 1 172 (dk_at dksX2_book_0 6 rfl rfl)
theorem dX2_book_9 : decode cX2_book 9 = .ok (.ireturn, 1) := dk_172 (dk_at dksX2_book_0 9 rfl rfl)
theorem dX2_book_10 : decode cX2_book 10 = .ok (.iload_n 1, 1) := dk_27 (dk_at dksX2_book_0 10 rfl rfl)
theorem dX2_book_11 : decode cX2_book 11 = .ok (.iconst 0, 1) := dk_3 (dk_at dksX2_book_0 11 rfl rfl)
theorem dX2_book_12 : decode cX2_book 12 = .ok (.aload_n 0, 1) := dk_42 (dk_at dksX2_book_0 12 rfl rfl)
theorem dX2_book_13 : decode cX2_book 13 = .ok (.invokevirtual 428, 3) := dk_182 1 172 (dk_at dksX2_book_0 13 rfl rfl)
theorem dX2_book_16 : decode cX2_book 16 = .ok (.iconst 1, 1) := dk_4 (dk_at dksX2_book_0 16 rfl rfl)
theorem dX2_book_17 : decode cX2_book 17 = .ok (.isub, 1) := dk_100 (dk_at dksX2_book_0 17 rfl rfl)
theorem dX2_book_18 : decode cX2_book 18 = .ok (.invokestatic 74, 3) := dk_184 0 74 (dk_at dksX2_book_0 18 rfl rfl)
theorem dX2_book_21 : decode cX2_book 21 = .ok (.ifCond .ne 6, 3) := dk_154 0 6 (dk_at dksX2_book_0 21 rfl rfl)
theorem dX2_book_24 : decode cX2_book 24 = .ok (.bipush (-2), 2) := dk_16 254 (dk_at dksX2_book_1 0 rfl rfl)
theorem dX2_book_26 : decode cX2_book 26 = .ok (.ireturn, 1) := dk_172 (dk_at dksX2_book_1 2 rfl rfl)
theorem dX2_book_27 : decode cX2_book 27 = .ok (.sipush 1182, 3) := dk_17 4 158 (dk_at dksX2_book_1 3 rfl rfl)
theorem dX2_book_30 : decode cX2_book 30 = .ok (.iconst 2, 1) := dk_5 (dk_at dksX2_book_1 6 rfl rfl)
theorem dX2_book_31 : decode cX2_book 31 = .ok (.aload_n 0, 1) := dk_42 (dk_at dksX2_book_1 7 rfl rfl)
theorem dX2_book_32 : decode cX2_book 32 = .ok (.getfield 7, 3) := dk_180 0 7 (dk_at dksX2_book_1 8 rfl rfl)
theorem dX2_book_35 : decode cX2_book 35 = .ok (.bipush 17, 2) := dk_16 17 (dk_at dksX2_book_1 11 rfl rfl)
theorem dX2_book_37 : decode cX2_book 37 = .ok (.iaload, 1) := dk_46 (dk_at dksX2_book_1 13 rfl rfl)
theorem dX2_book_38 : decode cX2_book 38 = .ok (.aload_n 0, 1) := dk_42 (dk_at dksX2_book_1 14 rfl rfl)
theorem dX2_book_39 : decode cX2_book 39 = .ok (.invokevirtual 428, 3) := dk_182 1 172 (dk_at dksX2_book_1 15 rfl rfl)
theorem dX2_book_42 : decode cX2_book 42 = .ok (.isub, 1) := dk_100 (dk_at dksX2_book_1 18 rfl rfl)
theorem dX2_book_43 : decode cX2_book 43 = .ok (.iload_n 1, 1) := dk_27 (dk_at dksX2_book_1 19 rfl rfl)
theorem dX2_book_44 : decode cX2_book 44 = .ok (.iadd, 1) := dk_96 (dk_at dksX2_book_1 20 rfl rfl)
theorem dX2_book_45 : decode cX2_book 45 = .ok (.sipush 1230, 3) := dk_17 4 206 (dk_at dksX2_book_1 21 rfl rfl)
theorem dX2_book_48 : decode cX2_book 48 = .ok (.irem, 1) := dk_112 (dk_at dksX2_book_2 0 rfl rfl)
theorem dX2_book_49 : decode cX2_book 49 = .ok (.imul, 1) := dk_104 (dk_at dksX2_book_2 1 rfl rfl)
theorem dX2_book_50 : decode cX2_book 50 = .ok (.iadd, 1) := dk_96 (dk_at dksX2_book_2 2 rfl rfl)
theorem dX2_book_51 : decode cX2_book 51 = .ok (.istore_n 3, 1) := dk_62 (dk_at dksX2_book_2 3 rfl rfl)
theorem dX2_book_52 : decode cX2_book 52 = .ok (.iload_n 2, 1) := dk_28 (dk_at dksX2_book_2 4 rfl rfl)
theorem dX2_book_53 : decode cX2_book 53 = .ok (.tableswitch 77 0 3 #[31, 41, 51, 64], 31) := by decide +kernel
theorem dX2_book_84 : decode cX2_book 84 = .ok (.aload_n 0, 1) := dk_42 (dk_at dksX2_book_4 0 rfl rfl)
theorem dX2_book_85 : decode cX2_book 85 = .ok (.getfield 7, 3) := dk_180 0 7 (dk_at dksX2_book_4 1 rfl rfl)
theorem dX2_book_88 : decode cX2_book 88 = .ok (.iload_n 3, 1) := dk_29 (dk_at dksX2_book_4 4 rfl rfl)
theorem dX2_book_89 : decode cX2_book 89 = .ok (.iaload, 1) := dk_46 (dk_at dksX2_book_4 5 rfl rfl)
theorem dX2_book_90 : decode cX2_book 90 = .ok (.bipush 8, 2) := dk_16 8 (dk_at dksX2_book_4 6 rfl rfl)
theorem dX2_book_92 : decode cX2_book 92 = .ok (.idiv, 1) := dk_108 (dk_at dksX2_book_4 8 rfl rfl)
theorem dX2_book_93 : decode cX2_book 93 = .ok (.ireturn, 1) := dk_172 (dk_at dksX2_book_4 9 rfl rfl)
theorem dX2_book_94 : decode cX2_book 94 = .ok (.aload_n 0, 1) := dk_42 (dk_at dksX2_book_4 10 rfl rfl)
theorem dX2_book_95 : decode cX2_book 95 = .ok (.getfield 7, 3) := dk_180 0 7 (dk_at dksX2_book_4 11 rfl rfl)
theorem dX2_book_98 : decode cX2_book 98 = .ok (.iload_n 3, 1) := dk_29 (dk_at dksX2_book_4 14 rfl rfl)
theorem dX2_book_99 : decode cX2_book 99 = .ok (.iaload, 1) := dk_46 (dk_at dksX2_book_4 15 rfl rfl)
theorem dX2_book_100 : decode cX2_book 100 = .ok (.bipush 8, 2) := dk_16 8 (dk_at dksX2_book_4 16 rfl rfl)
theorem dX2_book_102 : decode cX2_book 102 = .ok (.irem, 1) := dk_112 (dk_at dksX2_book_4 18 rfl rfl)
theorem dX2_book_103 : decode cX2_book 103 = .ok (.ireturn, 1) := dk_172 (dk_at dksX2_book_4 19 rfl rfl)
theorem dX2_book_104 : decode cX2_book 104 = .ok (.aload_n 0, 1) := dk_42 (dk_at dksX2_book_4 20 rfl rfl)
theorem dX2_book_105 : decode cX2_book 105 = .ok (.getfield 7, 3) := dk_180 0 7 (dk_at dksX2_book_4 21 rfl rfl)
theorem dX2_book_108 : decode cX2_book 108 = .ok (.iload_n 3, 1) := dk_29 (dk_at dksX2_book_5 0 rfl rfl)
theorem dX2_book_109 : decode cX2_book 109 = .ok (.iconst 1, 1) := dk_4 (dk_at dksX2_book_5 1 rfl rfl)
theorem dX2_book_110 : decode cX2_book 110 = .ok (.iadd, 1) := dk_96 (dk_at dksX2_book_5 2 rfl rfl)
theorem dX2_book_111 : decode cX2_book 111 = .ok (.iaload, 1) := dk_46 (dk_at dksX2_book_5 3 rfl rfl)
theorem dX2_book_112 : decode cX2_book 112 = .ok (.sipush 1000, 3) := dk_17 3 232 (dk_at dksX2_book_5 4 rfl rfl)
theorem dX2_book_115 : decode cX2_book 115 = .ok (.idiv, 1) := dk_108 (dk_at dksX2_book_5 7 rfl rfl)
theorem dX2_book_116 : decode cX2_book 116 = .ok (.ireturn, 1) := dk_172 (dk_at dksX2_book_5 8 rfl rfl)
theorem dX2_book_117 : decode cX2_book 117 = .ok (.aload_n 0, 1) := dk_42 (dk_at dksX2_book_5 9 rfl rfl)
theorem dX2_book_118 : decode cX2_book 118 = .ok (.getfield 7, 3) := dk_180 0 7 (dk_at dksX2_book_5 10 rfl rfl)
theorem dX2_book_121 : decode cX2_book 121 = .ok (.iload_n 3, 1) := dk_29 (dk_at dksX2_book_5 13 rfl rfl)
theorem dX2_book_122 : decode cX2_book 122 = .ok (.iconst 1, 1) := dk_4 (dk_at dksX2_book_5 14 rfl rfl)
theorem dX2_book_123 : decode cX2_book 123 = .ok (.iadd, 1) := dk_96 (dk_at dksX2_book_5 15 rfl rfl)
theorem dX2_book_124 : decode cX2_book 124 = .ok (.iaload, 1) := dk_46 (dk_at dksX2_book_5 16 rfl rfl)
theorem dX2_book_125 : decode cX2_book 125 = .ok (.sipush 1000, 3) := dk_17 3 232 (dk_at dksX2_book_5 17 rfl rfl)
theorem dX2_book_128 : decode cX2_book 128 = .ok (.irem, 1) := dk_112 (dk_at dksX2_book_5 20 rfl rfl)
theorem dX2_book_129 : decode cX2_book 129 = .ok (.ireturn, 1) := dk_172 (dk_at dksX2_book_5 21 rfl rfl)
theorem dX2_book_130 : decode cX2_book 130 = .ok (.bipush (-2), 2) := dk_16 254 (dk_at dksX2_book_5 22 rfl rfl)
theorem dX2_book_132 : decode cX2_book 132 = .ok (.ireturn, 1) := dk_172 (dk_at dksX2_book_6 0 rfl rfl)
abbrev cX2_shown : ByteArray := prog_20_method_101_code
def yX2_shown : MethodName := ⟨RX2, "shown", "()I"⟩
def dkwX2_shown_1 : List UInt8 := [172]
abbrev dktX2_shown_1 : List UInt8 := dkwX2_shown_1 ++ []
def dkwX2_shown_0 : List UInt8 := [42, 180, 0, 7, 16, 17, 46, 16, 30, 162, 0, 13, 42, 180, 0, 7, 16, 17, 46, 167, 0, 5, 16, 30]
abbrev dktX2_shown_0 : List UInt8 := dkwX2_shown_0 ++ dktX2_shown_1
theorem dksX2_shown_0 : cX2_shown.data.toList.drop 0 = dktX2_shown_0 := by decide +kernel
theorem dksX2_shown_1 : cX2_shown.data.toList.drop 24 = dktX2_shown_1 := dk_seg dksX2_shown_0 24 rfl rfl
theorem dX2_shown_0 : decode cX2_shown 0 = .ok (.aload_n 0, 1) := dk_42 (dk_at dksX2_shown_0 0 rfl rfl)
theorem dX2_shown_1 : decode cX2_shown 1 = .ok (.getfield 7, 3) := dk_180 0 7 (dk_at dksX2_shown_0 1 rfl rfl)
theorem dX2_shown_4 : decode cX2_shown 4 = .ok (.bipush 17, 2) := dk_16 17 (dk_at dksX2_shown_0 4 rfl rfl)
theorem dX2_shown_6 : decode cX2_shown 6 = .ok (.iaload, 1) := dk_46 (dk_at dksX2_shown_0 6 rfl rfl)
theorem dX2_shown_7 : decode cX2_shown 7 = .ok (.bipush 30, 2) := dk_16 30 (dk_at dksX2_shown_0 7 rfl rfl)
theorem dX2_shown_9 : decode cX2_shown 9 = .ok (.if_icmp .ge 13, 3) := dk_162 0 13 (dk_at dksX2_shown_0 9 rfl rfl)
theorem dX2_shown_12 : decode cX2_shown 12 = .ok (.aload_n 0, 1) := dk_42 (dk_at dksX2_shown_0 12 rfl rfl)
theorem dX2_shown_13 : decode cX2_shown 13 = .ok (.getfield 7, 3) := dk_180 0 7 (dk_at dksX2_shown_0 13 rfl rfl)
theorem dX2_shown_16 : decode cX2_shown 16 = .ok (.bipush 17, 2) := dk_16 17 (dk_at dksX2_shown_0 16 rfl rfl)
theorem dX2_shown_18 : decode cX2_shown 18 = .ok (.iaload, 1) := dk_46 (dk_at dksX2_shown_0 18 rfl rfl)
theorem dX2_shown_19 : decode cX2_shown 19 = .ok (.goto 5, 3) := dk_167 0 5 (dk_at dksX2_shown_0 19 rfl rfl)
theorem dX2_shown_22 : decode cX2_shown 22 = .ok (.bipush 30, 2) := dk_16 30 (dk_at dksX2_shown_0 22 rfl rfl)
theorem dX2_shown_24 : decode cX2_shown 24 = .ok (.ireturn, 1) := dk_172 (dk_at dksX2_shown_1 0 rfl rfl)
abbrev cX2_foretold : ByteArray := prog_20_method_106_code
def yX2_foretold : MethodName := ⟨RX2, "foretold", "(II)I"⟩
def dkwX2_foretold_2 : List UInt8 := [160, 0, 12, 42, 180, 0, 49, 29, 46, 167, 0, 9, 42, 180, 0, 52, 29, 46, 172]
abbrev dktX2_foretold_2 : List UInt8 := dkwX2_foretold_2 ++ []
def dkwX2_foretold_1 : List UInt8 := [96, 182, 1, 181, 4, 100, 62, 28, 154, 0, 12, 42, 180, 0, 46, 29, 46, 167, 0, 23, 28, 4]
abbrev dktX2_foretold_1 : List UInt8 := dkwX2_foretold_1 ++ dktX2_foretold_2
def dkwX2_foretold_0 : List UInt8 := [27, 4, 16, 60, 184, 0, 74, 153, 0, 12, 28, 3, 5, 184, 0, 74, 154, 0, 5, 2, 172, 42, 27, 4]
abbrev dktX2_foretold_0 : List UInt8 := dkwX2_foretold_0 ++ dktX2_foretold_1
theorem dksX2_foretold_0 : cX2_foretold.data.toList.drop 0 = dktX2_foretold_0 := by decide +kernel
theorem dksX2_foretold_1 : cX2_foretold.data.toList.drop 24 = dktX2_foretold_1 := dk_seg dksX2_foretold_0 24 rfl rfl
theorem dksX2_foretold_2 : cX2_foretold.data.toList.drop 46 = dktX2_foretold_2 := dk_seg dksX2_foretold_1 22 rfl rfl
theorem dX2_foretold_0 : decode cX2_foretold 0 = .ok (.iload_n 1, 1) := dk_27 (dk_at dksX2_foretold_0 0 rfl rfl)
theorem dX2_foretold_1 : decode cX2_foretold 1 = .ok (.iconst 1, 1) := dk_4 (dk_at dksX2_foretold_0 1 rfl rfl)
theorem dX2_foretold_2 : decode cX2_foretold 2 = .ok (.bipush 60, 2) := dk_16 60 (dk_at dksX2_foretold_0 2 rfl rfl)
theorem dX2_foretold_4 : decode cX2_foretold 4 = .ok (.invokestatic 74, 3) := dk_184 0 74 (dk_at dksX2_foretold_0 4 rfl rfl)
theorem dX2_foretold_7 : decode cX2_foretold 7 = .ok (.ifCond .eq 12, 3) := dk_153 0 12 (dk_at dksX2_foretold_0 7 rfl rfl)
theorem dX2_foretold_10 : decode cX2_foretold 10 = .ok (.iload_n 2, 1) := dk_28 (dk_at dksX2_foretold_0 10 rfl rfl)
theorem dX2_foretold_11 : decode cX2_foretold 11 = .ok (.iconst 0, 1) := dk_3 (dk_at dksX2_foretold_0 11 rfl rfl)
theorem dX2_foretold_12 : decode cX2_foretold 12 = .ok (.iconst 2, 1) := dk_5 (dk_at dksX2_foretold_0 12 rfl rfl)
theorem dX2_foretold_13 : decode cX2_foretold 13 = .ok (.invokestatic 74, 3) := dk_184 0 74 (dk_at dksX2_foretold_0 13 rfl rfl)
theorem dX2_foretold_16 : decode cX2_foretold 16 = .ok (.ifCond .ne 5, 3) := dk_154 0 5 (dk_at dksX2_foretold_0 16 rfl rfl)
theorem dX2_foretold_19 : decode cX2_foretold 19 = .ok (.iconst (-1), 1) := dk_2 (dk_at dksX2_foretold_0 19 rfl rfl)
theorem dX2_foretold_20 : decode cX2_foretold 20 = .ok (.ireturn, 1) := dk_172 (dk_at dksX2_foretold_0 20 rfl rfl)
theorem dX2_foretold_21 : decode cX2_foretold 21 = .ok (.aload_n 0, 1) := dk_42 (dk_at dksX2_foretold_0 21 rfl rfl)
theorem dX2_foretold_22 : decode cX2_foretold 22 = .ok (.iload_n 1, 1) := dk_27 (dk_at dksX2_foretold_0 22 rfl rfl)
theorem dX2_foretold_23 : decode cX2_foretold 23 = .ok (.iconst 1, 1) := dk_4 (dk_at dksX2_foretold_0 23 rfl rfl)
theorem dX2_foretold_24 : decode cX2_foretold 24 = .ok (.iadd, 1) := dk_96 (dk_at dksX2_foretold_1 0 rfl rfl)
theorem dX2_foretold_25 : decode cX2_foretold 25 = .ok (.invokevirtual 437, 3) := dk_182 1 181 (dk_at dksX2_foretold_1 1 rfl rfl)
theorem dX2_foretold_28 : decode cX2_foretold 28 = .ok (.iconst 1, 1) := dk_4 (dk_at dksX2_foretold_1 4 rfl rfl)
theorem dX2_foretold_29 : decode cX2_foretold 29 = .ok (.isub, 1) := dk_100 (dk_at dksX2_foretold_1 5 rfl rfl)
theorem dX2_foretold_30 : decode cX2_foretold 30 = .ok (.istore_n 3, 1) := dk_62 (dk_at dksX2_foretold_1 6 rfl rfl)
theorem dX2_foretold_31 : decode cX2_foretold 31 = .ok (.iload_n 2, 1) := dk_28 (dk_at dksX2_foretold_1 7 rfl rfl)
theorem dX2_foretold_32 : decode cX2_foretold 32 = .ok (.ifCond .ne 12, 3) := dk_154 0 12 (dk_at dksX2_foretold_1 8 rfl rfl)
theorem dX2_foretold_35 : decode cX2_foretold 35 = .ok (.aload_n 0, 1) := dk_42 (dk_at dksX2_foretold_1 11 rfl rfl)
theorem dX2_foretold_36 : decode cX2_foretold 36 = .ok (.getfield 46, 3) := dk_180 0 46 (dk_at dksX2_foretold_1 12 rfl rfl)
theorem dX2_foretold_39 : decode cX2_foretold 39 = .ok (.iload_n 3, 1) := dk_29 (dk_at dksX2_foretold_1 15 rfl rfl)
theorem dX2_foretold_40 : decode cX2_foretold 40 = .ok (.iaload, 1) := dk_46 (dk_at dksX2_foretold_1 16 rfl rfl)
theorem dX2_foretold_41 : decode cX2_foretold 41 = .ok (.goto 23, 3) := dk_167 0 23 (dk_at dksX2_foretold_1 17 rfl rfl)
theorem dX2_foretold_44 : decode cX2_foretold 44 = .ok (.iload_n 2, 1) := dk_28 (dk_at dksX2_foretold_1 20 rfl rfl)
theorem dX2_foretold_45 : decode cX2_foretold 45 = .ok (.iconst 1, 1) := dk_4 (dk_at dksX2_foretold_1 21 rfl rfl)
theorem dX2_foretold_46 : decode cX2_foretold 46 = .ok (.if_icmp .ne 12, 3) := dk_160 0 12 (dk_at dksX2_foretold_2 0 rfl rfl)
theorem dX2_foretold_49 : decode cX2_foretold 49 = .ok (.aload_n 0, 1) := dk_42 (dk_at dksX2_foretold_2 3 rfl rfl)
theorem dX2_foretold_50 : decode cX2_foretold 50 = .ok (.getfield 49, 3) := dk_180 0 49 (dk_at dksX2_foretold_2 4 rfl rfl)
theorem dX2_foretold_53 : decode cX2_foretold 53 = .ok (.iload_n 3, 1) := dk_29 (dk_at dksX2_foretold_2 7 rfl rfl)
theorem dX2_foretold_54 : decode cX2_foretold 54 = .ok (.iaload, 1) := dk_46 (dk_at dksX2_foretold_2 8 rfl rfl)
theorem dX2_foretold_55 : decode cX2_foretold 55 = .ok (.goto 9, 3) := dk_167 0 9 (dk_at dksX2_foretold_2 9 rfl rfl)
theorem dX2_foretold_58 : decode cX2_foretold 58 = .ok (.aload_n 0, 1) := dk_42 (dk_at dksX2_foretold_2 12 rfl rfl)
theorem dX2_foretold_59 : decode cX2_foretold 59 = .ok (.getfield 52, 3) := dk_180 0 52 (dk_at dksX2_foretold_2 13 rfl rfl)
theorem dX2_foretold_62 : decode cX2_foretold 62 = .ok (.iload_n 3, 1) := dk_29 (dk_at dksX2_foretold_2 16 rfl rfl)
theorem dX2_foretold_63 : decode cX2_foretold 63 = .ok (.iaload, 1) := dk_46 (dk_at dksX2_foretold_2 17 rfl rfl)
theorem dX2_foretold_64 : decode cX2_foretold 64 = .ok (.ireturn, 1) := dk_172 (dk_at dksX2_foretold_2 18 rfl rfl)
abbrev cX2_layWinds : ByteArray := prog_20_method_105_code
def yX2_layWinds : MethodName := ⟨RX2, "layWinds", "(I)I"⟩
def dkwX2_layWinds_4 : List UInt8 := [167, 255, 172, 42, 182, 1, 178, 28, 172]
abbrev dktX2_layWinds_4 : List UInt8 := dkwX2_layWinds_4 ++ []
def dkwX2_layWinds_3 : List UInt8 := [162, 0, 7, 4, 167, 0, 4, 3, 62, 29, 153, 255, 185, 42, 42, 16, 10, 182, 1, 115, 182, 1, 118]
abbrev dktX2_layWinds_3 : List UInt8 := dkwX2_layWinds_3 ++ dktX2_layWinds_4
def dkwX2_layWinds_2 : List UInt8 := [16, 10, 46, 79, 132, 2, 1, 28, 27, 162, 0, 20, 42, 180, 0, 7, 16, 11, 46, 17, 39, 15]
abbrev dktX2_layWinds_2 : List UInt8 := dkwX2_layWinds_2 ++ dktX2_layWinds_3
def dkwX2_layWinds_1 : List UInt8 := [79, 42, 180, 0, 49, 28, 42, 180, 0, 7, 16, 9, 46, 79, 42, 180, 0, 52, 28, 42, 180, 0, 7]
abbrev dktX2_layWinds_1 : List UInt8 := dkwX2_layWinds_1 ++ dktX2_layWinds_2
def dkwX2_layWinds_0 : List UInt8 := [42, 182, 1, 175, 3, 61, 4, 62, 29, 153, 0, 86, 42, 180, 0, 46, 28, 42, 180, 0, 7, 16, 8, 46]
abbrev dktX2_layWinds_0 : List UInt8 := dkwX2_layWinds_0 ++ dktX2_layWinds_1
theorem dksX2_layWinds_0 : cX2_layWinds.data.toList.drop 0 = dktX2_layWinds_0 := by decide +kernel
theorem dksX2_layWinds_1 : cX2_layWinds.data.toList.drop 24 = dktX2_layWinds_1 := dk_seg dksX2_layWinds_0 24 rfl rfl
theorem dksX2_layWinds_2 : cX2_layWinds.data.toList.drop 47 = dktX2_layWinds_2 := dk_seg dksX2_layWinds_1 23 rfl rfl
theorem dksX2_layWinds_3 : cX2_layWinds.data.toList.drop 69 = dktX2_layWinds_3 := dk_seg dksX2_layWinds_2 22 rfl rfl
theorem dksX2_layWinds_4 : cX2_layWinds.data.toList.drop 92 = dktX2_layWinds_4 := dk_seg dksX2_layWinds_3 23 rfl rfl
theorem dX2_layWinds_0 : decode cX2_layWinds 0 = .ok (.aload_n 0, 1) := dk_42 (dk_at dksX2_layWinds_0 0 rfl rfl)
theorem dX2_layWinds_1 : decode cX2_layWinds 1 = .ok (.invokevirtual 431, 3) := dk_182 1 175 (dk_at dksX2_layWinds_0 1 rfl rfl)
theorem dX2_layWinds_4 : decode cX2_layWinds 4 = .ok (.iconst 0, 1) := dk_3 (dk_at dksX2_layWinds_0 4 rfl rfl)
theorem dX2_layWinds_5 : decode cX2_layWinds 5 = .ok (.istore_n 2, 1) := dk_61 (dk_at dksX2_layWinds_0 5 rfl rfl)
theorem dX2_layWinds_6 : decode cX2_layWinds 6 = .ok (.iconst 1, 1) := dk_4 (dk_at dksX2_layWinds_0 6 rfl rfl)
theorem dX2_layWinds_7 : decode cX2_layWinds 7 = .ok (.istore_n 3, 1) := dk_62 (dk_at dksX2_layWinds_0 7 rfl rfl)
theorem dX2_layWinds_8 : decode cX2_layWinds 8 = .ok (.iload_n 3, 1) := dk_29 (dk_at dksX2_layWinds_0 8 rfl rfl)
theorem dX2_layWinds_9 : decode cX2_layWinds 9 = .ok (.ifCond .eq 86, 3) := dk_153 0 86 (dk_at dksX2_layWinds_0 9 rfl rfl)
theorem dX2_layWinds_12 : decode cX2_layWinds 12 = .ok (.aload_n 0, 1) := dk_42 (dk_at dksX2_layWinds_0 12 rfl rfl)
theorem dX2_layWinds_13 : decode cX2_layWinds 13 = .ok (.getfield 46, 3) := dk_180 0 46 (dk_at dksX2_layWinds_0 13 rfl rfl)
theorem dX2_layWinds_16 : decode cX2_layWinds 16 = .ok (.iload_n 2, 1) := dk_28 (dk_at dksX2_layWinds_0 16 rfl rfl)
theorem dX2_layWinds_17 : decode cX2_layWinds 17 = .ok (.aload_n 0, 1) := dk_42 (dk_at dksX2_layWinds_0 17 rfl rfl)
theorem dX2_layWinds_18 : decode cX2_layWinds 18 = .ok (.getfield 7, 3) := dk_180 0 7 (dk_at dksX2_layWinds_0 18 rfl rfl)
theorem dX2_layWinds_21 : decode cX2_layWinds 21 = .ok (.bipush 8, 2) := dk_16 8 (dk_at dksX2_layWinds_0 21 rfl rfl)
theorem dX2_layWinds_23 : decode cX2_layWinds 23 = .ok (.iaload, 1) := dk_46 (dk_at dksX2_layWinds_0 23 rfl rfl)
theorem dX2_layWinds_24 : decode cX2_layWinds 24 = .ok (.iastore, 1) := dk_79 (dk_at dksX2_layWinds_1 0 rfl rfl)
theorem dX2_layWinds_25 : decode cX2_layWinds 25 = .ok (.aload_n 0, 1) := dk_42 (dk_at dksX2_layWinds_1 1 rfl rfl)
theorem dX2_layWinds_26 : decode cX2_layWinds 26 = .ok (.getfield 49, 3) := dk_180 0 49 (dk_at dksX2_layWinds_1 2 rfl rfl)
theorem dX2_layWinds_29 : decode cX2_layWinds 29 = .ok (.iload_n 2, 1) := dk_28 (dk_at dksX2_layWinds_1 5 rfl rfl)
theorem dX2_layWinds_30 : decode cX2_layWinds 30 = .ok (.aload_n 0, 1) := dk_42 (dk_at dksX2_layWinds_1 6 rfl rfl)
theorem dX2_layWinds_31 : decode cX2_layWinds 31 = .ok (.getfield 7, 3) := dk_180 0 7 (dk_at dksX2_layWinds_1 7 rfl rfl)
theorem dX2_layWinds_34 : decode cX2_layWinds 34 = .ok (.bipush 9, 2) := dk_16 9 (dk_at dksX2_layWinds_1 10 rfl rfl)
theorem dX2_layWinds_36 : decode cX2_layWinds 36 = .ok (.iaload, 1) := dk_46 (dk_at dksX2_layWinds_1 12 rfl rfl)
theorem dX2_layWinds_37 : decode cX2_layWinds 37 = .ok (.iastore, 1) := dk_79 (dk_at dksX2_layWinds_1 13 rfl rfl)
theorem dX2_layWinds_38 : decode cX2_layWinds 38 = .ok (.aload_n 0, 1) := dk_42 (dk_at dksX2_layWinds_1 14 rfl rfl)
theorem dX2_layWinds_39 : decode cX2_layWinds 39 = .ok (.getfield 52, 3) := dk_180 0 52 (dk_at dksX2_layWinds_1 15 rfl rfl)
theorem dX2_layWinds_42 : decode cX2_layWinds 42 = .ok (.iload_n 2, 1) := dk_28 (dk_at dksX2_layWinds_1 18 rfl rfl)
theorem dX2_layWinds_43 : decode cX2_layWinds 43 = .ok (.aload_n 0, 1) := dk_42 (dk_at dksX2_layWinds_1 19 rfl rfl)
theorem dX2_layWinds_44 : decode cX2_layWinds 44 = .ok (.getfield 7, 3) := dk_180 0 7 (dk_at dksX2_layWinds_1 20 rfl rfl)
theorem dX2_layWinds_47 : decode cX2_layWinds 47 = .ok (.bipush 10, 2) := dk_16 10 (dk_at dksX2_layWinds_2 0 rfl rfl)
theorem dX2_layWinds_49 : decode cX2_layWinds 49 = .ok (.iaload, 1) := dk_46 (dk_at dksX2_layWinds_2 2 rfl rfl)
theorem dX2_layWinds_50 : decode cX2_layWinds 50 = .ok (.iastore, 1) := dk_79 (dk_at dksX2_layWinds_2 3 rfl rfl)
theorem dX2_layWinds_51 : decode cX2_layWinds 51 = .ok (.iinc 2 1, 3) := dk_132 2 1 (dk_at dksX2_layWinds_2 4 rfl rfl)
theorem dX2_layWinds_54 : decode cX2_layWinds 54 = .ok (.iload_n 2, 1) := dk_28 (dk_at dksX2_layWinds_2 7 rfl rfl)
theorem dX2_layWinds_55 : decode cX2_layWinds 55 = .ok (.iload_n 1, 1) := dk_27 (dk_at dksX2_layWinds_2 8 rfl rfl)
theorem dX2_layWinds_56 : decode cX2_layWinds 56 = .ok (.if_icmp .ge 20, 3) := dk_162 0 20 (dk_at dksX2_layWinds_2 9 rfl rfl)
theorem dX2_layWinds_59 : decode cX2_layWinds 59 = .ok (.aload_n 0, 1) := dk_42 (dk_at dksX2_layWinds_2 12 rfl rfl)
theorem dX2_layWinds_60 : decode cX2_layWinds 60 = .ok (.getfield 7, 3) := dk_180 0 7 (dk_at dksX2_layWinds_2 13 rfl rfl)
theorem dX2_layWinds_63 : decode cX2_layWinds 63 = .ok (.bipush 11, 2) := dk_16 11 (dk_at dksX2_layWinds_2 16 rfl rfl)
theorem dX2_layWinds_65 : decode cX2_layWinds 65 = .ok (.iaload, 1) := dk_46 (dk_at dksX2_layWinds_2 18 rfl rfl)
theorem dX2_layWinds_66 : decode cX2_layWinds 66 = .ok (.sipush 9999, 3) := dk_17 39 15 (dk_at dksX2_layWinds_2 19 rfl rfl)
theorem dX2_layWinds_69 : decode cX2_layWinds 69 = .ok (.if_icmp .ge 7, 3) := dk_162 0 7 (dk_at dksX2_layWinds_3 0 rfl rfl)
theorem dX2_layWinds_72 : decode cX2_layWinds 72 = .ok (.iconst 1, 1) := dk_4 (dk_at dksX2_layWinds_3 3 rfl rfl)
theorem dX2_layWinds_73 : decode cX2_layWinds 73 = .ok (.goto 4, 3) := dk_167 0 4 (dk_at dksX2_layWinds_3 4 rfl rfl)
theorem dX2_layWinds_76 : decode cX2_layWinds 76 = .ok (.iconst 0, 1) := dk_3 (dk_at dksX2_layWinds_3 7 rfl rfl)
theorem dX2_layWinds_77 : decode cX2_layWinds 77 = .ok (.istore_n 3, 1) := dk_62 (dk_at dksX2_layWinds_3 8 rfl rfl)
theorem dX2_layWinds_78 : decode cX2_layWinds 78 = .ok (.iload_n 3, 1) := dk_29 (dk_at dksX2_layWinds_3 9 rfl rfl)
theorem dX2_layWinds_79 : decode cX2_layWinds 79 = .ok (.ifCond .eq (-71), 3) := dk_153 255 185 (dk_at dksX2_layWinds_3 10 rfl rfl)
theorem dX2_layWinds_82 : decode cX2_layWinds 82 = .ok (.aload_n 0, 1) := dk_42 (dk_at dksX2_layWinds_3 13 rfl rfl)
theorem dX2_layWinds_83 : decode cX2_layWinds 83 = .ok (.aload_n 0, 1) := dk_42 (dk_at dksX2_layWinds_3 14 rfl rfl)
theorem dX2_layWinds_84 : decode cX2_layWinds 84 = .ok (.bipush 10, 2) := dk_16 10 (dk_at dksX2_layWinds_3 15 rfl rfl)
theorem dX2_layWinds_86 : decode cX2_layWinds 86 = .ok (.invokevirtual 371, 3) := dk_182 1 115 (dk_at dksX2_layWinds_3 17 rfl rfl)
theorem dX2_layWinds_89 : decode cX2_layWinds 89 = .ok (.invokevirtual 374, 3) := dk_182 1 118 (dk_at dksX2_layWinds_3 20 rfl rfl)
theorem dX2_layWinds_92 : decode cX2_layWinds 92 = .ok (.goto (-84), 3) := dk_167 255 172 (dk_at dksX2_layWinds_4 0 rfl rfl)
theorem dX2_layWinds_95 : decode cX2_layWinds 95 = .ok (.aload_n 0, 1) := dk_42 (dk_at dksX2_layWinds_4 3 rfl rfl)
theorem dX2_layWinds_96 : decode cX2_layWinds 96 = .ok (.invokevirtual 434, 3) := dk_182 1 178 (dk_at dksX2_layWinds_4 4 rfl rfl)
theorem dX2_layWinds_99 : decode cX2_layWinds 99 = .ok (.iload_n 2, 1) := dk_28 (dk_at dksX2_layWinds_4 7 rfl rfl)
theorem dX2_layWinds_100 : decode cX2_layWinds 100 = .ok (.ireturn, 1) := dk_172 (dk_at dksX2_layWinds_4 8 rfl rfl)
abbrev cX2_begin : ByteArray := prog_20_method_103_code
def yX2_begin : MethodName := ⟨RX2, "begin", "()V"⟩
def dkwX2_begin_1 : List UInt8 := [132, 1, 1, 167, 255, 233, 177]
abbrev dktX2_begin_1 : List UInt8 := dkwX2_begin_1 ++ []
def dkwX2_begin_0 : List UInt8 := [3, 60, 27, 8, 162, 0, 24, 42, 180, 0, 55, 27, 42, 180, 0, 7, 16, 8, 27, 96, 46, 79]
abbrev dktX2_begin_0 : List UInt8 := dkwX2_begin_0 ++ dktX2_begin_1
theorem dksX2_begin_0 : cX2_begin.data.toList.drop 0 = dktX2_begin_0 := by decide +kernel
theorem dksX2_begin_1 : cX2_begin.data.toList.drop 22 = dktX2_begin_1 := dk_seg dksX2_begin_0 22 rfl rfl
theorem dX2_begin_0 : decode cX2_begin 0 = .ok (.iconst 0, 1) := dk_3 (dk_at dksX2_begin_0 0 rfl rfl)
theorem dX2_begin_1 : decode cX2_begin 1 = .ok (.istore_n 1, 1) := dk_60 (dk_at dksX2_begin_0 1 rfl rfl)
theorem dX2_begin_2 : decode cX2_begin 2 = .ok (.iload_n 1, 1) := dk_27 (dk_at dksX2_begin_0 2 rfl rfl)
theorem dX2_begin_3 : decode cX2_begin 3 = .ok (.iconst 5, 1) := dk_8 (dk_at dksX2_begin_0 3 rfl rfl)
theorem dX2_begin_4 : decode cX2_begin 4 = .ok (.if_icmp .ge 24, 3) := dk_162 0 24 (dk_at dksX2_begin_0 4 rfl rfl)
theorem dX2_begin_7 : decode cX2_begin 7 = .ok (.aload_n 0, 1) := dk_42 (dk_at dksX2_begin_0 7 rfl rfl)
theorem dX2_begin_8 : decode cX2_begin 8 = .ok (.getfield 55, 3) := dk_180 0 55 (dk_at dksX2_begin_0 8 rfl rfl)
theorem dX2_begin_11 : decode cX2_begin 11 = .ok (.iload_n 1, 1) := dk_27 (dk_at dksX2_begin_0 11 rfl rfl)
theorem dX2_begin_12 : decode cX2_begin 12 = .ok (.aload_n 0, 1) := dk_42 (dk_at dksX2_begin_0 12 rfl rfl)
theorem dX2_begin_13 : decode cX2_begin 13 = .ok (.getfield 7, 3) := dk_180 0 7 (dk_at dksX2_begin_0 13 rfl rfl)
theorem dX2_begin_16 : decode cX2_begin 16 = .ok (.bipush 8, 2) := dk_16 8 (dk_at dksX2_begin_0 16 rfl rfl)
theorem dX2_begin_18 : decode cX2_begin 18 = .ok (.iload_n 1, 1) := dk_27 (dk_at dksX2_begin_0 18 rfl rfl)
theorem dX2_begin_19 : decode cX2_begin 19 = .ok (.iadd, 1) := dk_96 (dk_at dksX2_begin_0 19 rfl rfl)
theorem dX2_begin_20 : decode cX2_begin 20 = .ok (.iaload, 1) := dk_46 (dk_at dksX2_begin_0 20 rfl rfl)
theorem dX2_begin_21 : decode cX2_begin 21 = .ok (.iastore, 1) := dk_79 (dk_at dksX2_begin_0 21 rfl rfl)
theorem dX2_begin_22 : decode cX2_begin 22 = .ok (.iinc 1 1, 3) := dk_132 1 1 (dk_at dksX2_begin_1 0 rfl rfl)
theorem dX2_begin_25 : decode cX2_begin 25 = .ok (.goto (-23), 3) := dk_167 255 233 (dk_at dksX2_begin_1 3 rfl rfl)
theorem dX2_begin_28 : decode cX2_begin 28 = .ok (.return_, 1) := dk_177 (dk_at dksX2_begin_1 6 rfl rfl)
abbrev cX2_putBack : ByteArray := prog_20_method_104_code
def yX2_putBack : MethodName := ⟨RX2, "putBack", "()V"⟩
def dkwX2_putBack_1 : List UInt8 := [132, 1, 1, 167, 255, 233, 177]
abbrev dktX2_putBack_1 : List UInt8 := dkwX2_putBack_1 ++ []
def dkwX2_putBack_0 : List UInt8 := [3, 60, 27, 8, 162, 0, 24, 42, 180, 0, 7, 16, 8, 27, 96, 42, 180, 0, 55, 27, 46, 79]
abbrev dktX2_putBack_0 : List UInt8 := dkwX2_putBack_0 ++ dktX2_putBack_1
theorem dksX2_putBack_0 : cX2_putBack.data.toList.drop 0 = dktX2_putBack_0 := by decide +kernel
theorem dksX2_putBack_1 : cX2_putBack.data.toList.drop 22 = dktX2_putBack_1 := dk_seg dksX2_putBack_0 22 rfl rfl
theorem dX2_putBack_0 : decode cX2_putBack 0 = .ok (.iconst 0, 1) := dk_3 (dk_at dksX2_putBack_0 0 rfl rfl)
theorem dX2_putBack_1 : decode cX2_putBack 1 = .ok (.istore_n 1, 1) := dk_60 (dk_at dksX2_putBack_0 1 rfl rfl)
theorem dX2_putBack_2 : decode cX2_putBack 2 = .ok (.iload_n 1, 1) := dk_27 (dk_at dksX2_putBack_0 2 rfl rfl)
theorem dX2_putBack_3 : decode cX2_putBack 3 = .ok (.iconst 5, 1) := dk_8 (dk_at dksX2_putBack_0 3 rfl rfl)
theorem dX2_putBack_4 : decode cX2_putBack 4 = .ok (.if_icmp .ge 24, 3) := dk_162 0 24 (dk_at dksX2_putBack_0 4 rfl rfl)
theorem dX2_putBack_7 : decode cX2_putBack 7 = .ok (.aload_n 0, 1) := dk_42 (dk_at dksX2_putBack_0 7 rfl rfl)
theorem dX2_putBack_8 : decode cX2_putBack 8 = .ok (.getfield 7, 3) := dk_180 0 7 (dk_at dksX2_putBack_0 8 rfl rfl)
theorem dX2_putBack_11 : decode cX2_putBack 11 = .ok (.bipush 8, 2) := dk_16 8 (dk_at dksX2_putBack_0 11 rfl rfl)
theorem dX2_putBack_13 : decode cX2_putBack 13 = .ok (.iload_n 1, 1) := dk_27 (dk_at dksX2_putBack_0 13 rfl rfl)
theorem dX2_putBack_14 : decode cX2_putBack 14 = .ok (.iadd, 1) := dk_96 (dk_at dksX2_putBack_0 14 rfl rfl)
theorem dX2_putBack_15 : decode cX2_putBack 15 = .ok (.aload_n 0, 1) := dk_42 (dk_at dksX2_putBack_0 15 rfl rfl)
theorem dX2_putBack_16 : decode cX2_putBack 16 = .ok (.getfield 55, 3) := dk_180 0 55 (dk_at dksX2_putBack_0 16 rfl rfl)
theorem dX2_putBack_19 : decode cX2_putBack 19 = .ok (.iload_n 1, 1) := dk_27 (dk_at dksX2_putBack_0 19 rfl rfl)
theorem dX2_putBack_20 : decode cX2_putBack 20 = .ok (.iaload, 1) := dk_46 (dk_at dksX2_putBack_0 20 rfl rfl)
theorem dX2_putBack_21 : decode cX2_putBack 21 = .ok (.iastore, 1) := dk_79 (dk_at dksX2_putBack_0 21 rfl rfl)
theorem dX2_putBack_22 : decode cX2_putBack 22 = .ok (.iinc 1 1, 3) := dk_132 1 1 (dk_at dksX2_putBack_1 0 rfl rfl)
theorem dX2_putBack_25 : decode cX2_putBack 25 = .ok (.goto (-23), 3) := dk_167 255 233 (dk_at dksX2_putBack_1 3 rfl rfl)
theorem dX2_putBack_28 : decode cX2_putBack 28 = .ok (.return_, 1) := dk_177 (dk_at dksX2_putBack_1 6 rfl rfl)
abbrev cX2_ends : ByteArray := prog_20_method_108_code
def yX2_ends : MethodName := ⟨RX2, "ends", "(IIII)I"⟩
def dkwX2_ends_4 : List UInt8 := [167, 0, 7, 42, 180, 1, 187, 172]
abbrev dktX2_ends_4 : List UInt8 := dkwX2_ends_4 ++ []
def dkwX2_ends_3 : List UInt8 := [96, 167, 0, 28, 21, 4, 4, 160, 0, 18, 42, 180, 1, 184, 153, 0, 7, 4, 167, 0, 11, 3]
abbrev dktX2_ends_3 : List UInt8 := dkwX2_ends_3 ++ dktX2_ends_4
def dkwX2_ends_2 : List UInt8 := [28, 29, 182, 1, 190, 154, 0, 5, 2, 172, 21, 4, 154, 0, 16, 28, 42, 27, 5, 182, 0, 82, 96, 29]
abbrev dktX2_ends_2 : List UInt8 := dkwX2_ends_2 ++ dktX2_ends_3
def dkwX2_ends_1 : List UInt8 := [153, 0, 13, 21, 4, 3, 5, 184, 0, 74, 154, 0, 5, 2, 172, 42, 16, 40, 182, 1, 181, 87, 42, 27]
abbrev dktX2_ends_1 : List UInt8 := dkwX2_ends_1 ++ dktX2_ends_2
def dkwX2_ends_0 : List UInt8 := [42, 27, 182, 1, 121, 153, 0, 32, 28, 3, 16, 20, 184, 0, 74, 153, 0, 22, 29, 3, 6, 184, 0, 74]
abbrev dktX2_ends_0 : List UInt8 := dkwX2_ends_0 ++ dktX2_ends_1
theorem dksX2_ends_0 : cX2_ends.data.toList.drop 0 = dktX2_ends_0 := by decide +kernel
theorem dksX2_ends_1 : cX2_ends.data.toList.drop 24 = dktX2_ends_1 := dk_seg dksX2_ends_0 24 rfl rfl
theorem dksX2_ends_2 : cX2_ends.data.toList.drop 48 = dktX2_ends_2 := dk_seg dksX2_ends_1 24 rfl rfl
theorem dksX2_ends_3 : cX2_ends.data.toList.drop 72 = dktX2_ends_3 := dk_seg dksX2_ends_2 24 rfl rfl
theorem dksX2_ends_4 : cX2_ends.data.toList.drop 94 = dktX2_ends_4 := dk_seg dksX2_ends_3 22 rfl rfl
theorem dX2_ends_0 : decode cX2_ends 0 = .ok (.aload_n 0, 1) := dk_42 (dk_at dksX2_ends_0 0 rfl rfl)
theorem dX2_ends_1 : decode cX2_ends 1 = .ok (.iload_n 1, 1) := dk_27 (dk_at dksX2_ends_0 1 rfl rfl)
theorem dX2_ends_2 : decode cX2_ends 2 = .ok (.invokevirtual 377, 3) := dk_182 1 121 (dk_at dksX2_ends_0 2 rfl rfl)
theorem dX2_ends_5 : decode cX2_ends 5 = .ok (.ifCond .eq 32, 3) := dk_153 0 32 (dk_at dksX2_ends_0 5 rfl rfl)
theorem dX2_ends_8 : decode cX2_ends 8 = .ok (.iload_n 2, 1) := dk_28 (dk_at dksX2_ends_0 8 rfl rfl)
theorem dX2_ends_9 : decode cX2_ends 9 = .ok (.iconst 0, 1) := dk_3 (dk_at dksX2_ends_0 9 rfl rfl)
theorem dX2_ends_10 : decode cX2_ends 10 = .ok (.bipush 20, 2) := dk_16 20 (dk_at dksX2_ends_0 10 rfl rfl)
theorem dX2_ends_12 : decode cX2_ends 12 = .ok (.invokestatic 74, 3) := dk_184 0 74 (dk_at dksX2_ends_0 12 rfl rfl)
theorem dX2_ends_15 : decode cX2_ends 15 = .ok (.ifCond .eq 22, 3) := dk_153 0 22 (dk_at dksX2_ends_0 15 rfl rfl)
theorem dX2_ends_18 : decode cX2_ends 18 = .ok (.iload_n 3, 1) := dk_29 (dk_at dksX2_ends_0 18 rfl rfl)
theorem dX2_ends_19 : decode cX2_ends 19 = .ok (.iconst 0, 1) := dk_3 (dk_at dksX2_ends_0 19 rfl rfl)
theorem dX2_ends_20 : decode cX2_ends 20 = .ok (.iconst 3, 1) := dk_6 (dk_at dksX2_ends_0 20 rfl rfl)
theorem dX2_ends_21 : decode cX2_ends 21 = .ok (.invokestatic 74, 3) := dk_184 0 74 (dk_at dksX2_ends_0 21 rfl rfl)
theorem dX2_ends_24 : decode cX2_ends 24 = .ok (.ifCond .eq 13, 3) := dk_153 0 13 (dk_at dksX2_ends_1 0 rfl rfl)
theorem dX2_ends_27 : decode cX2_ends 27 = .ok (.iload 4, 2) := dk_21 4 (dk_at dksX2_ends_1 3 rfl rfl)
theorem dX2_ends_29 : decode cX2_ends 29 = .ok (.iconst 0, 1) := dk_3 (dk_at dksX2_ends_1 5 rfl rfl)
theorem dX2_ends_30 : decode cX2_ends 30 = .ok (.iconst 2, 1) := dk_5 (dk_at dksX2_ends_1 6 rfl rfl)
theorem dX2_ends_31 : decode cX2_ends 31 = .ok (.invokestatic 74, 3) := dk_184 0 74 (dk_at dksX2_ends_1 7 rfl rfl)
theorem dX2_ends_34 : decode cX2_ends 34 = .ok (.ifCond .ne 5, 3) := dk_154 0 5 (dk_at dksX2_ends_1 10 rfl rfl)
theorem dX2_ends_37 : decode cX2_ends 37 = .ok (.iconst (-1), 1) := dk_2 (dk_at dksX2_ends_1 13 rfl rfl)
theorem dX2_ends_38 : decode cX2_ends 38 = .ok (.ireturn, 1) := dk_172 (dk_at dksX2_ends_1 14 rfl rfl)
theorem dX2_ends_39 : decode cX2_ends 39 = .ok (.aload_n 0, 1) := dk_42 (dk_at dksX2_ends_1 15 rfl rfl)
theorem dX2_ends_40 : decode cX2_ends 40 = .ok (.bipush 40, 2) := dk_16 40 (dk_at dksX2_ends_1 16 rfl rfl)
theorem dX2_ends_42 : decode cX2_ends 42 = .ok (.invokevirtual 437, 3) := dk_182 1 181 (dk_at dksX2_ends_1 18 rfl rfl)
theorem dX2_ends_45 : decode cX2_ends 45 = .ok (.pop, 1) := dk_87 (dk_at dksX2_ends_1 21 rfl rfl)
theorem dX2_ends_46 : decode cX2_ends 46 = .ok (.aload_n 0, 1) := dk_42 (dk_at dksX2_ends_1 22 rfl rfl)
theorem dX2_ends_47 : decode cX2_ends 47 = .ok (.iload_n 1, 1) := dk_27 (dk_at dksX2_ends_1 23 rfl rfl)
theorem dX2_ends_48 : decode cX2_ends 48 = .ok (.iload_n 2, 1) := dk_28 (dk_at dksX2_ends_2 0 rfl rfl)
theorem dX2_ends_49 : decode cX2_ends 49 = .ok (.iload_n 3, 1) := dk_29 (dk_at dksX2_ends_2 1 rfl rfl)
theorem dX2_ends_50 : decode cX2_ends 50 = .ok (.invokevirtual 446, 3) := dk_182 1 190 (dk_at dksX2_ends_2 2 rfl rfl)
theorem dX2_ends_53 : decode cX2_ends 53 = .ok (.ifCond .ne 5, 3) := dk_154 0 5 (dk_at dksX2_ends_2 5 rfl rfl)
theorem dX2_ends_56 : decode cX2_ends 56 = .ok (.iconst (-1), 1) := dk_2 (dk_at dksX2_ends_2 8 rfl rfl)
theorem dX2_ends_57 : decode cX2_ends 57 = .ok (.ireturn, 1) := dk_172 (dk_at dksX2_ends_2 9 rfl rfl)
theorem dX2_ends_58 : decode cX2_ends 58 = .ok (.iload 4, 2) := dk_21 4 (dk_at dksX2_ends_2 10 rfl rfl)
theorem dX2_ends_60 : decode cX2_ends 60 = .ok (.ifCond .ne 16, 3) := dk_154 0 16 (dk_at dksX2_ends_2 12 rfl rfl)
theorem dX2_ends_63 : decode cX2_ends 63 = .ok (.iload_n 2, 1) := dk_28 (dk_at dksX2_ends_2 15 rfl rfl)
theorem dX2_ends_64 : decode cX2_ends 64 = .ok (.aload_n 0, 1) := dk_42 (dk_at dksX2_ends_2 16 rfl rfl)
theorem dX2_ends_65 : decode cX2_ends 65 = .ok (.iload_n 1, 1) := dk_27 (dk_at dksX2_ends_2 17 rfl rfl)
theorem dX2_ends_66 : decode cX2_ends 66 = .ok (.iconst 2, 1) := dk_5 (dk_at dksX2_ends_2 18 rfl rfl)
theorem dX2_ends_67 : decode cX2_ends 67 = .ok (.invokevirtual 82, 3) := dk_182 0 82 (dk_at dksX2_ends_2 19 rfl rfl)
theorem dX2_ends_70 : decode cX2_ends 70 = .ok (.iadd, 1) := dk_96 (dk_at dksX2_ends_2 22 rfl rfl)
theorem dX2_ends_71 : decode cX2_ends 71 = .ok (.iload_n 3, 1) := dk_29 (dk_at dksX2_ends_2 23 rfl rfl)
theorem dX2_ends_72 : decode cX2_ends 72 = .ok (.iadd, 1) := dk_96 (dk_at dksX2_ends_3 0 rfl rfl)
theorem dX2_ends_73 : decode cX2_ends 73 = .ok (.goto 28, 3) := dk_167 0 28 (dk_at dksX2_ends_3 1 rfl rfl)
theorem dX2_ends_76 : decode cX2_ends 76 = .ok (.iload 4, 2) := dk_21 4 (dk_at dksX2_ends_3 4 rfl rfl)
theorem dX2_ends_78 : decode cX2_ends 78 = .ok (.iconst 1, 1) := dk_4 (dk_at dksX2_ends_3 6 rfl rfl)
theorem dX2_ends_79 : decode cX2_ends 79 = .ok (.if_icmp .ne 18, 3) := dk_160 0 18 (dk_at dksX2_ends_3 7 rfl rfl)
theorem dX2_ends_82 : decode cX2_ends 82 = .ok (.aload_n 0, 1) := dk_42 (dk_at dksX2_ends_3 10 rfl rfl)
theorem dX2_ends_83 : decode cX2_ends 83 = .ok (.getfield 440, 3) := dk_180 1 184 (dk_at dksX2_ends_3 11 rfl rfl)
theorem dX2_ends_86 : decode cX2_ends 86 = .ok (.ifCond .eq 7, 3) := dk_153 0 7 (dk_at dksX2_ends_3 14 rfl rfl)
theorem dX2_ends_89 : decode cX2_ends 89 = .ok (.iconst 1, 1) := dk_4 (dk_at dksX2_ends_3 17 rfl rfl)
theorem dX2_ends_90 : decode cX2_ends 90 = .ok (.goto 11, 3) := dk_167 0 11 (dk_at dksX2_ends_3 18 rfl rfl)
theorem dX2_ends_93 : decode cX2_ends 93 = .ok (.iconst 0, 1) := dk_3 (dk_at dksX2_ends_3 21 rfl rfl)
theorem dX2_ends_94 : decode cX2_ends 94 = .ok (.goto 7, 3) := dk_167 0 7 (dk_at dksX2_ends_4 0 rfl rfl)
theorem dX2_ends_97 : decode cX2_ends 97 = .ok (.aload_n 0, 1) := dk_42 (dk_at dksX2_ends_4 3 rfl rfl)
theorem dX2_ends_98 : decode cX2_ends 98 = .ok (.getfield 443, 3) := dk_180 1 187 (dk_at dksX2_ends_4 4 rfl rfl)
theorem dX2_ends_101 : decode cX2_ends 101 = .ok (.ireturn, 1) := dk_172 (dk_at dksX2_ends_4 7 rfl rfl)
abbrev cX2_isEnding : ByteArray := prog_20_method_107_code
def yX2_isEnding : MethodName := ⟨RX2, "isEnding", "(III)Z"⟩
def dkwX2_isEnding_7 : List UInt8 := [21, 5, 182, 1, 103, 167, 0, 4, 3, 181, 1, 187, 42, 182, 1, 178, 4, 172]
abbrev dktX2_isEnding_7 : List UInt8 := dkwX2_isEnding_7 ++ []
def dkwX2_isEnding_6 : List UInt8 := [42, 27, 21, 4, 21, 5, 182, 1, 100, 181, 1, 184, 42, 42, 180, 1, 184, 153, 0, 15, 42, 27, 21, 4]
abbrev dktX2_isEnding_6 : List UInt8 := dkwX2_isEnding_6 ++ dktX2_isEnding_7
def dkwX2_isEnding_5 : List UInt8 := [96, 4, 100, 46, 79, 42, 180, 0, 7, 16, 10, 42, 180, 0, 52, 28, 21, 4, 96, 4, 100, 46, 79, 42]
abbrev dktX2_isEnding_5 : List UInt8 := dkwX2_isEnding_5 ++ dktX2_isEnding_6
def dkwX2_isEnding_4 : List UInt8 := [180, 0, 46, 28, 21, 4, 96, 4, 100, 46, 79, 42, 180, 0, 7, 16, 9, 42, 180, 0, 49, 28, 21, 4]
abbrev dktX2_isEnding_4 : List UInt8 := dkwX2_isEnding_4 ++ dktX2_isEnding_5
def dkwX2_isEnding_3 : List UInt8 := [42, 180, 0, 7, 16, 11, 92, 46, 28, 21, 4, 96, 4, 100, 96, 79, 42, 180, 0, 7, 16, 8, 42]
abbrev dktX2_isEnding_3 : List UInt8 := dkwX2_isEnding_3 ++ dktX2_isEnding_4
def dkwX2_isEnding_2 : List UInt8 := [21, 5, 4, 42, 180, 0, 46, 21, 6, 46, 120, 128, 54, 5, 132, 6, 1, 167, 255, 230, 42, 182, 1, 175]
abbrev dktX2_isEnding_2 : List UInt8 := dkwX2_isEnding_2 ++ dktX2_isEnding_3
def dkwX2_isEnding_1 : List UInt8 := [17, 39, 15, 164, 0, 5, 3, 172, 3, 54, 5, 28, 54, 6, 21, 6, 28, 21, 4, 96, 162, 0, 23]
abbrev dktX2_isEnding_1 : List UInt8 := dkwX2_isEnding_1 ++ dktX2_isEnding_2
def dkwX2_isEnding_0 : List UInt8 := [42, 27, 5, 182, 0, 82, 29, 96, 54, 4, 42, 180, 0, 7, 16, 11, 46, 28, 96, 21, 4, 96]
abbrev dktX2_isEnding_0 : List UInt8 := dkwX2_isEnding_0 ++ dktX2_isEnding_1
theorem dksX2_isEnding_0 : cX2_isEnding.data.toList.drop 0 = dktX2_isEnding_0 := by decide +kernel
theorem dksX2_isEnding_1 : cX2_isEnding.data.toList.drop 22 = dktX2_isEnding_1 := dk_seg dksX2_isEnding_0 22 rfl rfl
theorem dksX2_isEnding_2 : cX2_isEnding.data.toList.drop 45 = dktX2_isEnding_2 := dk_seg dksX2_isEnding_1 23 rfl rfl
theorem dksX2_isEnding_3 : cX2_isEnding.data.toList.drop 69 = dktX2_isEnding_3 := dk_seg dksX2_isEnding_2 24 rfl rfl
theorem dksX2_isEnding_4 : cX2_isEnding.data.toList.drop 92 = dktX2_isEnding_4 := dk_seg dksX2_isEnding_3 23 rfl rfl
theorem dksX2_isEnding_5 : cX2_isEnding.data.toList.drop 116 = dktX2_isEnding_5 := dk_seg dksX2_isEnding_4 24 rfl rfl
theorem dksX2_isEnding_6 : cX2_isEnding.data.toList.drop 140 = dktX2_isEnding_6 := dk_seg dksX2_isEnding_5 24 rfl rfl
theorem dksX2_isEnding_7 : cX2_isEnding.data.toList.drop 164 = dktX2_isEnding_7 := dk_seg dksX2_isEnding_6 24 rfl rfl
theorem dX2_isEnding_0 : decode cX2_isEnding 0 = .ok (.aload_n 0, 1) := dk_42 (dk_at dksX2_isEnding_0 0 rfl rfl)
theorem dX2_isEnding_1 : decode cX2_isEnding 1 = .ok (.iload_n 1, 1) := dk_27 (dk_at dksX2_isEnding_0 1 rfl rfl)
theorem dX2_isEnding_2 : decode cX2_isEnding 2 = .ok (.iconst 2, 1) := dk_5 (dk_at dksX2_isEnding_0 2 rfl rfl)
theorem dX2_isEnding_3 : decode cX2_isEnding 3 = .ok (.invokevirtual 82, 3) := dk_182 0 82 (dk_at dksX2_isEnding_0 3 rfl rfl)
theorem dX2_isEnding_6 : decode cX2_isEnding 6 = .ok (.iload_n 3, 1) := dk_29 (dk_at dksX2_isEnding_0 6 rfl rfl)
theorem dX2_isEnding_7 : decode cX2_isEnding 7 = .ok (.iadd, 1) := dk_96 (dk_at dksX2_isEnding_0 7 rfl rfl)
theorem dX2_isEnding_8 : decode cX2_isEnding 8 = .ok (.istore 4, 2) := dk_54 4 (dk_at dksX2_isEnding_0 8 rfl rfl)
theorem dX2_isEnding_10 : decode cX2_isEnding 10 = .ok (.aload_n 0, 1) := dk_42 (dk_at dksX2_isEnding_0 10 rfl rfl)
theorem dX2_isEnding_11 : decode cX2_isEnding 11 = .ok (.getfield 7, 3) := dk_180 0 7 (dk_at dksX2_isEnding_0 11 rfl rfl)
theorem dX2_isEnding_14 : decode cX2_isEnding 14 = .ok (.bipush 11, 2) := dk_16 11 (dk_at dksX2_isEnding_0 14 rfl rfl)
theorem dX2_isEnding_16 : decode cX2_isEnding 16 = .ok (.iaload, 1) := dk_46 (dk_at dksX2_isEnding_0 16 rfl rfl)
theorem dX2_isEnding_17 : decode cX2_isEnding 17 = .ok (.iload_n 2, 1) := dk_28 (dk_at dksX2_isEnding_0 17 rfl rfl)
theorem dX2_isEnding_18 : decode cX2_isEnding 18 = .ok (.iadd, 1) := dk_96 (dk_at dksX2_isEnding_0 18 rfl rfl)
theorem dX2_isEnding_19 : decode cX2_isEnding 19 = .ok (.iload 4, 2) := dk_21 4 (dk_at dksX2_isEnding_0 19 rfl rfl)
theorem dX2_isEnding_21 : decode cX2_isEnding 21 = .ok (.iadd, 1) := dk_96 (dk_at dksX2_isEnding_0 21 rfl rfl)
theorem dX2_isEnding_22 : decode cX2_isEnding 22 = .ok (.sipush 9999, 3) := dk_17 39 15 (dk_at dksX2_isEnding_1 0 rfl rfl)
theorem dX2_isEnding_25 : decode cX2_isEnding 25 = .ok (.if_icmp .le 5, 3) := dk_164 0 5 (dk_at dksX2_isEnding_1 3 rfl rfl)
theorem dX2_isEnding_28 : decode cX2_isEnding 28 = .ok (.iconst 0, 1) := dk_3 (dk_at dksX2_isEnding_1 6 rfl rfl)
theorem dX2_isEnding_29 : decode cX2_isEnding 29 = .ok (.ireturn, 1) := dk_172 (dk_at dksX2_isEnding_1 7 rfl rfl)
theorem dX2_isEnding_30 : decode cX2_isEnding 30 = .ok (.iconst 0, 1) := dk_3 (dk_at dksX2_isEnding_1 8 rfl rfl)
theorem dX2_isEnding_31 : decode cX2_isEnding 31 = .ok (.istore 5, 2) := dk_54 5 (dk_at dksX2_isEnding_1 9 rfl rfl)
theorem dX2_isEnding_33 : decode cX2_isEnding 33 = .ok (.iload_n 2, 1) := dk_28 (dk_at dksX2_isEnding_1 11 rfl rfl)
theorem dX2_isEnding_34 : decode cX2_isEnding 34 = .ok (.istore 6, 2) := dk_54 6 (dk_at dksX2_isEnding_1 12 rfl rfl)
theorem dX2_isEnding_36 : decode cX2_isEnding 36 = .ok (.iload 6, 2) := dk_21 6 (dk_at dksX2_isEnding_1 14 rfl rfl)
theorem dX2_isEnding_38 : decode cX2_isEnding 38 = .ok (.iload_n 2, 1) := dk_28 (dk_at dksX2_isEnding_1 16 rfl rfl)
theorem dX2_isEnding_39 : decode cX2_isEnding 39 = .ok (.iload 4, 2) := dk_21 4 (dk_at dksX2_isEnding_1 17 rfl rfl)
theorem dX2_isEnding_41 : decode cX2_isEnding 41 = .ok (.iadd, 1) := dk_96 (dk_at dksX2_isEnding_1 19 rfl rfl)
theorem dX2_isEnding_42 : decode cX2_isEnding 42 = .ok (.if_icmp .ge 23, 3) := dk_162 0 23 (dk_at dksX2_isEnding_1 20 rfl rfl)
theorem dX2_isEnding_45 : decode cX2_isEnding 45 = .ok (.iload 5, 2) := dk_21 5 (dk_at dksX2_isEnding_2 0 rfl rfl)
theorem dX2_isEnding_47 : decode cX2_isEnding 47 = .ok (.iconst 1, 1) := dk_4 (dk_at dksX2_isEnding_2 2 rfl rfl)
theorem dX2_isEnding_48 : decode cX2_isEnding 48 = .ok (.aload_n 0, 1) := dk_42 (dk_at dksX2_isEnding_2 3 rfl rfl)
theorem dX2_isEnding_49 : decode cX2_isEnding 49 = .ok (.getfield 46, 3) := dk_180 0 46 (dk_at dksX2_isEnding_2 4 rfl rfl)
theorem dX2_isEnding_52 : decode cX2_isEnding 52 = .ok (.iload 6, 2) := dk_21 6 (dk_at dksX2_isEnding_2 7 rfl rfl)
theorem dX2_isEnding_54 : decode cX2_isEnding 54 = .ok (.iaload, 1) := dk_46 (dk_at dksX2_isEnding_2 9 rfl rfl)
theorem dX2_isEnding_55 : decode cX2_isEnding 55 = .ok (.ishl, 1) := dk_120 (dk_at dksX2_isEnding_2 10 rfl rfl)
theorem dX2_isEnding_56 : decode cX2_isEnding 56 = .ok (.ior, 1) := dk_128 (dk_at dksX2_isEnding_2 11 rfl rfl)
theorem dX2_isEnding_57 : decode cX2_isEnding 57 = .ok (.istore 5, 2) := dk_54 5 (dk_at dksX2_isEnding_2 12 rfl rfl)
theorem dX2_isEnding_59 : decode cX2_isEnding 59 = .ok (.iinc 6 1, 3) := dk_132 6 1 (dk_at dksX2_isEnding_2 14 rfl rfl)
theorem dX2_isEnding_62 : decode cX2_isEnding 62 = .ok (.goto (-26), 3) := dk_167 255 230 (dk_at dksX2_isEnding_2 17 rfl rfl)
theorem dX2_isEnding_65 : decode cX2_isEnding 65 = .ok (.aload_n 0, 1) := dk_42 (dk_at dksX2_isEnding_2 20 rfl rfl)
theorem dX2_isEnding_66 : decode cX2_isEnding 66 = .ok (.invokevirtual 431, 3) := dk_182 1 175 (dk_at dksX2_isEnding_2 21 rfl rfl)
theorem dX2_isEnding_69 : decode cX2_isEnding 69 = .ok (.aload_n 0, 1) := dk_42 (dk_at dksX2_isEnding_3 0 rfl rfl)
theorem dX2_isEnding_70 : decode cX2_isEnding 70 = .ok (.getfield 7, 3) := dk_180 0 7 (dk_at dksX2_isEnding_3 1 rfl rfl)
theorem dX2_isEnding_73 : decode cX2_isEnding 73 = .ok (.bipush 11, 2) := dk_16 11 (dk_at dksX2_isEnding_3 4 rfl rfl)
theorem dX2_isEnding_75 : decode cX2_isEnding 75 = .ok (.dup2, 1) := dk_92 (dk_at dksX2_isEnding_3 6 rfl rfl)
theorem dX2_isEnding_76 : decode cX2_isEnding 76 = .ok (.iaload, 1) := dk_46 (dk_at dksX2_isEnding_3 7 rfl rfl)
theorem dX2_isEnding_77 : decode cX2_isEnding 77 = .ok (.iload_n 2, 1) := dk_28 (dk_at dksX2_isEnding_3 8 rfl rfl)
theorem dX2_isEnding_78 : decode cX2_isEnding 78 = .ok (.iload 4, 2) := dk_21 4 (dk_at dksX2_isEnding_3 9 rfl rfl)
theorem dX2_isEnding_80 : decode cX2_isEnding 80 = .ok (.iadd, 1) := dk_96 (dk_at dksX2_isEnding_3 11 rfl rfl)
theorem dX2_isEnding_81 : decode cX2_isEnding 81 = .ok (.iconst 1, 1) := dk_4 (dk_at dksX2_isEnding_3 12 rfl rfl)
theorem dX2_isEnding_82 : decode cX2_isEnding 82 = .ok (.isub, 1) := dk_100 (dk_at dksX2_isEnding_3 13 rfl rfl)
theorem dX2_isEnding_83 : decode cX2_isEnding 83 = .ok (.iadd, 1) := dk_96 (dk_at dksX2_isEnding_3 14 rfl rfl)
theorem dX2_isEnding_84 : decode cX2_isEnding 84 = .ok (.iastore, 1) := dk_79 (dk_at dksX2_isEnding_3 15 rfl rfl)
theorem dX2_isEnding_85 : decode cX2_isEnding 85 = .ok (.aload_n 0, 1) := dk_42 (dk_at dksX2_isEnding_3 16 rfl rfl)
theorem dX2_isEnding_86 : decode cX2_isEnding 86 = .ok (.getfield 7, 3) := dk_180 0 7 (dk_at dksX2_isEnding_3 17 rfl rfl)
theorem dX2_isEnding_89 : decode cX2_isEnding 89 = .ok (.bipush 8, 2) := dk_16 8 (dk_at dksX2_isEnding_3 20 rfl rfl)
theorem dX2_isEnding_91 : decode cX2_isEnding 91 = .ok (.aload_n 0, 1) := dk_42 (dk_at dksX2_isEnding_3 22 rfl rfl)
theorem dX2_isEnding_92 : decode cX2_isEnding 92 = .ok (.getfield 46, 3) := dk_180 0 46 (dk_at dksX2_isEnding_4 0 rfl rfl)
theorem dX2_isEnding_95 : decode cX2_isEnding 95 = .ok (.iload_n 2, 1) := dk_28 (dk_at dksX2_isEnding_4 3 rfl rfl)
theorem dX2_isEnding_96 : decode cX2_isEnding 96 = .ok (.iload 4, 2) := dk_21 4 (dk_at dksX2_isEnding_4 4 rfl rfl)
theorem dX2_isEnding_98 : decode cX2_isEnding 98 = .ok (.iadd, 1) := dk_96 (dk_at dksX2_isEnding_4 6 rfl rfl)
theorem dX2_isEnding_99 : decode cX2_isEnding 99 = .ok (.iconst 1, 1) := dk_4 (dk_at dksX2_isEnding_4 7 rfl rfl)
theorem dX2_isEnding_100 : decode cX2_isEnding 100 = .ok (.isub, 1) := dk_100 (dk_at dksX2_isEnding_4 8 rfl rfl)
theorem dX2_isEnding_101 : decode cX2_isEnding 101 = .ok (.iaload, 1) := dk_46 (dk_at dksX2_isEnding_4 9 rfl rfl)
theorem dX2_isEnding_102 : decode cX2_isEnding 102 = .ok (.iastore, 1) := dk_79 (dk_at dksX2_isEnding_4 10 rfl rfl)
theorem dX2_isEnding_103 : decode cX2_isEnding 103 = .ok (.aload_n 0, 1) := dk_42 (dk_at dksX2_isEnding_4 11 rfl rfl)
theorem dX2_isEnding_104 : decode cX2_isEnding 104 = .ok (.getfield 7, 3) := dk_180 0 7 (dk_at dksX2_isEnding_4 12 rfl rfl)
theorem dX2_isEnding_107 : decode cX2_isEnding 107 = .ok (.bipush 9, 2) := dk_16 9 (dk_at dksX2_isEnding_4 15 rfl rfl)
theorem dX2_isEnding_109 : decode cX2_isEnding 109 = .ok (.aload_n 0, 1) := dk_42 (dk_at dksX2_isEnding_4 17 rfl rfl)
theorem dX2_isEnding_110 : decode cX2_isEnding 110 = .ok (.getfield 49, 3) := dk_180 0 49 (dk_at dksX2_isEnding_4 18 rfl rfl)
theorem dX2_isEnding_113 : decode cX2_isEnding 113 = .ok (.iload_n 2, 1) := dk_28 (dk_at dksX2_isEnding_4 21 rfl rfl)
theorem dX2_isEnding_114 : decode cX2_isEnding 114 = .ok (.iload 4, 2) := dk_21 4 (dk_at dksX2_isEnding_4 22 rfl rfl)
theorem dX2_isEnding_116 : decode cX2_isEnding 116 = .ok (.iadd, 1) := dk_96 (dk_at dksX2_isEnding_5 0 rfl rfl)
theorem dX2_isEnding_117 : decode cX2_isEnding 117 = .ok (.iconst 1, 1) := dk_4 (dk_at dksX2_isEnding_5 1 rfl rfl)
theorem dX2_isEnding_118 : decode cX2_isEnding 118 = .ok (.isub, 1) := dk_100 (dk_at dksX2_isEnding_5 2 rfl rfl)
theorem dX2_isEnding_119 : decode cX2_isEnding 119 = .ok (.iaload, 1) := dk_46 (dk_at dksX2_isEnding_5 3 rfl rfl)
theorem dX2_isEnding_120 : decode cX2_isEnding 120 = .ok (.iastore, 1) := dk_79 (dk_at dksX2_isEnding_5 4 rfl rfl)
theorem dX2_isEnding_121 : decode cX2_isEnding 121 = .ok (.aload_n 0, 1) := dk_42 (dk_at dksX2_isEnding_5 5 rfl rfl)
theorem dX2_isEnding_122 : decode cX2_isEnding 122 = .ok (.getfield 7, 3) := dk_180 0 7 (dk_at dksX2_isEnding_5 6 rfl rfl)
theorem dX2_isEnding_125 : decode cX2_isEnding 125 = .ok (.bipush 10, 2) := dk_16 10 (dk_at dksX2_isEnding_5 9 rfl rfl)
theorem dX2_isEnding_127 : decode cX2_isEnding 127 = .ok (.aload_n 0, 1) := dk_42 (dk_at dksX2_isEnding_5 11 rfl rfl)
theorem dX2_isEnding_128 : decode cX2_isEnding 128 = .ok (.getfield 52, 3) := dk_180 0 52 (dk_at dksX2_isEnding_5 12 rfl rfl)
theorem dX2_isEnding_131 : decode cX2_isEnding 131 = .ok (.iload_n 2, 1) := dk_28 (dk_at dksX2_isEnding_5 15 rfl rfl)
theorem dX2_isEnding_132 : decode cX2_isEnding 132 = .ok (.iload 4, 2) := dk_21 4 (dk_at dksX2_isEnding_5 16 rfl rfl)
theorem dX2_isEnding_134 : decode cX2_isEnding 134 = .ok (.iadd, 1) := dk_96 (dk_at dksX2_isEnding_5 18 rfl rfl)
theorem dX2_isEnding_135 : decode cX2_isEnding 135 = .ok (.iconst 1, 1) := dk_4 (dk_at dksX2_isEnding_5 19 rfl rfl)
theorem dX2_isEnding_136 : decode cX2_isEnding 136 = .ok (.isub, 1) := dk_100 (dk_at dksX2_isEnding_5 20 rfl rfl)
theorem dX2_isEnding_137 : decode cX2_isEnding 137 = .ok (.iaload, 1) := dk_46 (dk_at dksX2_isEnding_5 21 rfl rfl)
theorem dX2_isEnding_138 : decode cX2_isEnding 138 = .ok (.iastore, 1) := dk_79 (dk_at dksX2_isEnding_5 22 rfl rfl)
theorem dX2_isEnding_139 : decode cX2_isEnding 139 = .ok (.aload_n 0, 1) := dk_42 (dk_at dksX2_isEnding_5 23 rfl rfl)
theorem dX2_isEnding_140 : decode cX2_isEnding 140 = .ok (.aload_n 0, 1) := dk_42 (dk_at dksX2_isEnding_6 0 rfl rfl)
theorem dX2_isEnding_141 : decode cX2_isEnding 141 = .ok (.iload_n 1, 1) := dk_27 (dk_at dksX2_isEnding_6 1 rfl rfl)
theorem dX2_isEnding_142 : decode cX2_isEnding 142 = .ok (.iload 4, 2) := dk_21 4 (dk_at dksX2_isEnding_6 2 rfl rfl)
theorem dX2_isEnding_144 : decode cX2_isEnding 144 = .ok (.iload 5, 2) := dk_21 5 (dk_at dksX2_isEnding_6 4 rfl rfl)
theorem dX2_isEnding_146 : decode cX2_isEnding 146 = .ok (.invokevirtual 356, 3) := dk_182 1 100 (dk_at dksX2_isEnding_6 6 rfl rfl)
theorem dX2_isEnding_149 : decode cX2_isEnding 149 = .ok (.putfield 440, 3) := dk_181 1 184 (dk_at dksX2_isEnding_6 9 rfl rfl)
theorem dX2_isEnding_152 : decode cX2_isEnding 152 = .ok (.aload_n 0, 1) := dk_42 (dk_at dksX2_isEnding_6 12 rfl rfl)
theorem dX2_isEnding_153 : decode cX2_isEnding 153 = .ok (.aload_n 0, 1) := dk_42 (dk_at dksX2_isEnding_6 13 rfl rfl)
theorem dX2_isEnding_154 : decode cX2_isEnding 154 = .ok (.getfield 440, 3) := dk_180 1 184 (dk_at dksX2_isEnding_6 14 rfl rfl)
theorem dX2_isEnding_157 : decode cX2_isEnding 157 = .ok (.ifCond .eq 15, 3) := dk_153 0 15 (dk_at dksX2_isEnding_6 17 rfl rfl)
theorem dX2_isEnding_160 : decode cX2_isEnding 160 = .ok (.aload_n 0, 1) := dk_42 (dk_at dksX2_isEnding_6 20 rfl rfl)
theorem dX2_isEnding_161 : decode cX2_isEnding 161 = .ok (.iload_n 1, 1) := dk_27 (dk_at dksX2_isEnding_6 21 rfl rfl)
theorem dX2_isEnding_162 : decode cX2_isEnding 162 = .ok (.iload 4, 2) := dk_21 4 (dk_at dksX2_isEnding_6 22 rfl rfl)
theorem dX2_isEnding_164 : decode cX2_isEnding 164 = .ok (.iload 5, 2) := dk_21 5 (dk_at dksX2_isEnding_7 0 rfl rfl)
theorem dX2_isEnding_166 : decode cX2_isEnding 166 = .ok (.invokevirtual 359, 3) := dk_182 1 103 (dk_at dksX2_isEnding_7 2 rfl rfl)
theorem dX2_isEnding_169 : decode cX2_isEnding 169 = .ok (.goto 4, 3) := dk_167 0 4 (dk_at dksX2_isEnding_7 5 rfl rfl)
theorem dX2_isEnding_172 : decode cX2_isEnding 172 = .ok (.iconst 0, 1) := dk_3 (dk_at dksX2_isEnding_7 8 rfl rfl)
theorem dX2_isEnding_173 : decode cX2_isEnding 173 = .ok (.putfield 443, 3) := dk_181 1 187 (dk_at dksX2_isEnding_7 9 rfl rfl)
theorem dX2_isEnding_176 : decode cX2_isEnding 176 = .ok (.aload_n 0, 1) := dk_42 (dk_at dksX2_isEnding_7 12 rfl rfl)
theorem dX2_isEnding_177 : decode cX2_isEnding 177 = .ok (.invokevirtual 434, 3) := dk_182 1 178 (dk_at dksX2_isEnding_7 13 rfl rfl)
theorem dX2_isEnding_180 : decode cX2_isEnding 180 = .ok (.iconst 1, 1) := dk_4 (dk_at dksX2_isEnding_7 16 rfl rfl)
theorem dX2_isEnding_181 : decode cX2_isEnding 181 = .ok (.ireturn, 1) := dk_172 (dk_at dksX2_isEnding_7 17 rfl rfl)
abbrev cX2_best : ByteArray := prog_20_method_109_code
def yX2_best : MethodName := ⟨RX2, "best", "(IZI)I"⟩
def dkwX2_best_6 : List UInt8 := [167, 0, 15, 21, 4, 21, 5, 96, 42, 27, 5, 182, 0, 82, 96, 172]
abbrev dktX2_best_6 : List UInt8 := dkwX2_best_6 ++ []
def dkwX2_best_5 : List UInt8 := [21, 4, 2, 160, 0, 5, 2, 172, 29, 154, 0, 8, 21, 4, 167, 0, 25, 29, 4, 160, 0, 8, 21, 5]
abbrev dktX2_best_5 : List UInt8 := dkwX2_best_5 ++ dktX2_best_6
def dkwX2_best_4 : List UInt8 := [167, 0, 11, 21, 6, 54, 4, 21, 7, 54, 5, 132, 7, 1, 167, 255, 197, 132, 6, 1, 167, 255, 181]
abbrev dktX2_best_4 : List UInt8 := dkwX2_best_4 ++ dktX2_best_5
def dkwX2_best_3 : List UInt8 := [162, 0, 34, 42, 27, 21, 6, 21, 7, 182, 1, 190, 153, 0, 22, 42, 180, 1, 184, 28, 159, 0, 6]
abbrev dktX2_best_3 : List UInt8 := dkwX2_best_3 ++ dktX2_best_4
def dkwX2_best_2 : List UInt8 := [21, 7, 6, 163, 0, 59, 21, 4, 2, 159, 0, 16, 21, 6, 21, 7, 96, 21, 4, 21, 5, 96]
abbrev dktX2_best_2 : List UInt8 := dkwX2_best_2 ++ dktX2_best_3
def dkwX2_best_1 : List UInt8 := [182, 1, 181, 87, 2, 54, 4, 3, 54, 5, 3, 54, 6, 21, 6, 16, 20, 163, 0, 74, 3, 54, 7]
abbrev dktX2_best_1 : List UInt8 := dkwX2_best_1 ++ dktX2_best_2
def dkwX2_best_0 : List UInt8 := [42, 27, 182, 1, 121, 153, 0, 12, 29, 3, 5, 184, 0, 74, 154, 0, 5, 2, 172, 42, 16, 40]
abbrev dktX2_best_0 : List UInt8 := dkwX2_best_0 ++ dktX2_best_1
theorem dksX2_best_0 : cX2_best.data.toList.drop 0 = dktX2_best_0 := by decide +kernel
theorem dksX2_best_1 : cX2_best.data.toList.drop 22 = dktX2_best_1 := dk_seg dksX2_best_0 22 rfl rfl
theorem dksX2_best_2 : cX2_best.data.toList.drop 45 = dktX2_best_2 := dk_seg dksX2_best_1 23 rfl rfl
theorem dksX2_best_3 : cX2_best.data.toList.drop 67 = dktX2_best_3 := dk_seg dksX2_best_2 22 rfl rfl
theorem dksX2_best_4 : cX2_best.data.toList.drop 90 = dktX2_best_4 := dk_seg dksX2_best_3 23 rfl rfl
theorem dksX2_best_5 : cX2_best.data.toList.drop 113 = dktX2_best_5 := dk_seg dksX2_best_4 23 rfl rfl
theorem dksX2_best_6 : cX2_best.data.toList.drop 137 = dktX2_best_6 := dk_seg dksX2_best_5 24 rfl rfl
theorem dX2_best_0 : decode cX2_best 0 = .ok (.aload_n 0, 1) := dk_42 (dk_at dksX2_best_0 0 rfl rfl)
theorem dX2_best_1 : decode cX2_best 1 = .ok (.iload_n 1, 1) := dk_27 (dk_at dksX2_best_0 1 rfl rfl)
theorem dX2_best_2 : decode cX2_best 2 = .ok (.invokevirtual 377, 3) := dk_182 1 121 (dk_at dksX2_best_0 2 rfl rfl)
theorem dX2_best_5 : decode cX2_best 5 = .ok (.ifCond .eq 12, 3) := dk_153 0 12 (dk_at dksX2_best_0 5 rfl rfl)
theorem dX2_best_8 : decode cX2_best 8 = .ok (.iload_n 3, 1) := dk_29 (dk_at dksX2_best_0 8 rfl rfl)
theorem dX2_best_9 : decode cX2_best 9 = .ok (.iconst 0, 1) := dk_3 (dk_at dksX2_best_0 9 rfl rfl)
theorem dX2_best_10 : decode cX2_best 10 = .ok (.iconst 2, 1) := dk_5 (dk_at dksX2_best_0 10 rfl rfl)
theorem dX2_best_11 : decode cX2_best 11 = .ok (.invokestatic 74, 3) := dk_184 0 74 (dk_at dksX2_best_0 11 rfl rfl)
theorem dX2_best_14 : decode cX2_best 14 = .ok (.ifCond .ne 5, 3) := dk_154 0 5 (dk_at dksX2_best_0 14 rfl rfl)
theorem dX2_best_17 : decode cX2_best 17 = .ok (.iconst (-1), 1) := dk_2 (dk_at dksX2_best_0 17 rfl rfl)
theorem dX2_best_18 : decode cX2_best 18 = .ok (.ireturn, 1) := dk_172 (dk_at dksX2_best_0 18 rfl rfl)
theorem dX2_best_19 : decode cX2_best 19 = .ok (.aload_n 0, 1) := dk_42 (dk_at dksX2_best_0 19 rfl rfl)
theorem dX2_best_20 : decode cX2_best 20 = .ok (.bipush 40, 2) := dk_16 40 (dk_at dksX2_best_0 20 rfl rfl)
theorem dX2_best_22 : decode cX2_best 22 = .ok (.invokevirtual 437, 3) := dk_182 1 181 (dk_at dksX2_best_1 0 rfl rfl)
theorem dX2_best_25 : decode cX2_best 25 = .ok (.pop, 1) := dk_87 (dk_at dksX2_best_1 3 rfl rfl)
theorem dX2_best_26 : decode cX2_best 26 = .ok (.iconst (-1), 1) := dk_2 (dk_at dksX2_best_1 4 rfl rfl)
theorem dX2_best_27 : decode cX2_best 27 = .ok (.istore 4, 2) := dk_54 4 (dk_at dksX2_best_1 5 rfl rfl)
theorem dX2_best_29 : decode cX2_best 29 = .ok (.iconst 0, 1) := dk_3 (dk_at dksX2_best_1 7 rfl rfl)
theorem dX2_best_30 : decode cX2_best 30 = .ok (.istore 5, 2) := dk_54 5 (dk_at dksX2_best_1 8 rfl rfl)
theorem dX2_best_32 : decode cX2_best 32 = .ok (.iconst 0, 1) := dk_3 (dk_at dksX2_best_1 10 rfl rfl)
theorem dX2_best_33 : decode cX2_best 33 = .ok (.istore 6, 2) := dk_54 6 (dk_at dksX2_best_1 11 rfl rfl)
theorem dX2_best_35 : decode cX2_best 35 = .ok (.iload 6, 2) := dk_21 6 (dk_at dksX2_best_1 13 rfl rfl)
theorem dX2_best_37 : decode cX2_best 37 = .ok (.bipush 20, 2) := dk_16 20 (dk_at dksX2_best_1 15 rfl rfl)
theorem dX2_best_39 : decode cX2_best 39 = .ok (.if_icmp .gt 74, 3) := dk_163 0 74 (dk_at dksX2_best_1 17 rfl rfl)
theorem dX2_best_42 : decode cX2_best 42 = .ok (.iconst 0, 1) := dk_3 (dk_at dksX2_best_1 20 rfl rfl)
theorem dX2_best_43 : decode cX2_best 43 = .ok (.istore 7, 2) := dk_54 7 (dk_at dksX2_best_1 21 rfl rfl)
theorem dX2_best_45 : decode cX2_best 45 = .ok (.iload 7, 2) := dk_21 7 (dk_at dksX2_best_2 0 rfl rfl)
theorem dX2_best_47 : decode cX2_best 47 = .ok (.iconst 3, 1) := dk_6 (dk_at dksX2_best_2 2 rfl rfl)
theorem dX2_best_48 : decode cX2_best 48 = .ok (.if_icmp .gt 59, 3) := dk_163 0 59 (dk_at dksX2_best_2 3 rfl rfl)
theorem dX2_best_51 : decode cX2_best 51 = .ok (.iload 4, 2) := dk_21 4 (dk_at dksX2_best_2 6 rfl rfl)
theorem dX2_best_53 : decode cX2_best 53 = .ok (.iconst (-1), 1) := dk_2 (dk_at dksX2_best_2 8 rfl rfl)
theorem dX2_best_54 : decode cX2_best 54 = .ok (.if_icmp .eq 16, 3) := dk_159 0 16 (dk_at dksX2_best_2 9 rfl rfl)
theorem dX2_best_57 : decode cX2_best 57 = .ok (.iload 6, 2) := dk_21 6 (dk_at dksX2_best_2 12 rfl rfl)
theorem dX2_best_59 : decode cX2_best 59 = .ok (.iload 7, 2) := dk_21 7 (dk_at dksX2_best_2 14 rfl rfl)
theorem dX2_best_61 : decode cX2_best 61 = .ok (.iadd, 1) := dk_96 (dk_at dksX2_best_2 16 rfl rfl)
theorem dX2_best_62 : decode cX2_best 62 = .ok (.iload 4, 2) := dk_21 4 (dk_at dksX2_best_2 17 rfl rfl)
theorem dX2_best_64 : decode cX2_best 64 = .ok (.iload 5, 2) := dk_21 5 (dk_at dksX2_best_2 19 rfl rfl)
theorem dX2_best_66 : decode cX2_best 66 = .ok (.iadd, 1) := dk_96 (dk_at dksX2_best_2 21 rfl rfl)
theorem dX2_best_67 : decode cX2_best 67 = .ok (.if_icmp .ge 34, 3) := dk_162 0 34 (dk_at dksX2_best_3 0 rfl rfl)
theorem dX2_best_70 : decode cX2_best 70 = .ok (.aload_n 0, 1) := dk_42 (dk_at dksX2_best_3 3 rfl rfl)
theorem dX2_best_71 : decode cX2_best 71 = .ok (.iload_n 1, 1) := dk_27 (dk_at dksX2_best_3 4 rfl rfl)
theorem dX2_best_72 : decode cX2_best 72 = .ok (.iload 6, 2) := dk_21 6 (dk_at dksX2_best_3 5 rfl rfl)
theorem dX2_best_74 : decode cX2_best 74 = .ok (.iload 7, 2) := dk_21 7 (dk_at dksX2_best_3 7 rfl rfl)
theorem dX2_best_76 : decode cX2_best 76 = .ok (.invokevirtual 446, 3) := dk_182 1 190 (dk_at dksX2_best_3 9 rfl rfl)
theorem dX2_best_79 : decode cX2_best 79 = .ok (.ifCond .eq 22, 3) := dk_153 0 22 (dk_at dksX2_best_3 12 rfl rfl)
theorem dX2_best_82 : decode cX2_best 82 = .ok (.aload_n 0, 1) := dk_42 (dk_at dksX2_best_3 15 rfl rfl)
theorem dX2_best_83 : decode cX2_best 83 = .ok (.getfield 440, 3) := dk_180 1 184 (dk_at dksX2_best_3 16 rfl rfl)
theorem dX2_best_86 : decode cX2_best 86 = .ok (.iload_n 2, 1) := dk_28 (dk_at dksX2_best_3 19 rfl rfl)
theorem dX2_best_87 : decode cX2_best 87 = .ok (.if_icmp .eq 6, 3) := dk_159 0 6 (dk_at dksX2_best_3 20 rfl rfl)
theorem dX2_best_90 : decode cX2_best 90 = .ok (.goto 11, 3) := dk_167 0 11 (dk_at dksX2_best_4 0 rfl rfl)
theorem dX2_best_93 : decode cX2_best 93 = .ok (.iload 6, 2) := dk_21 6 (dk_at dksX2_best_4 3 rfl rfl)
theorem dX2_best_95 : decode cX2_best 95 = .ok (.istore 4, 2) := dk_54 4 (dk_at dksX2_best_4 5 rfl rfl)
theorem dX2_best_97 : decode cX2_best 97 = .ok (.iload 7, 2) := dk_21 7 (dk_at dksX2_best_4 7 rfl rfl)
theorem dX2_best_99 : decode cX2_best 99 = .ok (.istore 5, 2) := dk_54 5 (dk_at dksX2_best_4 9 rfl rfl)
theorem dX2_best_101 : decode cX2_best 101 = .ok (.iinc 7 1, 3) := dk_132 7 1 (dk_at dksX2_best_4 11 rfl rfl)
theorem dX2_best_104 : decode cX2_best 104 = .ok (.goto (-59), 3) := dk_167 255 197 (dk_at dksX2_best_4 14 rfl rfl)
theorem dX2_best_107 : decode cX2_best 107 = .ok (.iinc 6 1, 3) := dk_132 6 1 (dk_at dksX2_best_4 17 rfl rfl)
theorem dX2_best_110 : decode cX2_best 110 = .ok (.goto (-75), 3) := dk_167 255 181 (dk_at dksX2_best_4 20 rfl rfl)
theorem dX2_best_113 : decode cX2_best 113 = .ok (.iload 4, 2) := dk_21 4 (dk_at dksX2_best_5 0 rfl rfl)
theorem dX2_best_115 : decode cX2_best 115 = .ok (.iconst (-1), 1) := dk_2 (dk_at dksX2_best_5 2 rfl rfl)
theorem dX2_best_116 : decode cX2_best 116 = .ok (.if_icmp .ne 5, 3) := dk_160 0 5 (dk_at dksX2_best_5 3 rfl rfl)
theorem dX2_best_119 : decode cX2_best 119 = .ok (.iconst (-1), 1) := dk_2 (dk_at dksX2_best_5 6 rfl rfl)
theorem dX2_best_120 : decode cX2_best 120 = .ok (.ireturn, 1) := dk_172 (dk_at dksX2_best_5 7 rfl rfl)
theorem dX2_best_121 : decode cX2_best 121 = .ok (.iload_n 3, 1) := dk_29 (dk_at dksX2_best_5 8 rfl rfl)
theorem dX2_best_122 : decode cX2_best 122 = .ok (.ifCond .ne 8, 3) := dk_154 0 8 (dk_at dksX2_best_5 9 rfl rfl)
theorem dX2_best_125 : decode cX2_best 125 = .ok (.iload 4, 2) := dk_21 4 (dk_at dksX2_best_5 12 rfl rfl)
theorem dX2_best_127 : decode cX2_best 127 = .ok (.goto 25, 3) := dk_167 0 25 (dk_at dksX2_best_5 14 rfl rfl)
theorem dX2_best_130 : decode cX2_best 130 = .ok (.iload_n 3, 1) := dk_29 (dk_at dksX2_best_5 17 rfl rfl)
theorem dX2_best_131 : decode cX2_best 131 = .ok (.iconst 1, 1) := dk_4 (dk_at dksX2_best_5 18 rfl rfl)
theorem dX2_best_132 : decode cX2_best 132 = .ok (.if_icmp .ne 8, 3) := dk_160 0 8 (dk_at dksX2_best_5 19 rfl rfl)
theorem dX2_best_135 : decode cX2_best 135 = .ok (.iload 5, 2) := dk_21 5 (dk_at dksX2_best_5 22 rfl rfl)
theorem dX2_best_137 : decode cX2_best 137 = .ok (.goto 15, 3) := dk_167 0 15 (dk_at dksX2_best_6 0 rfl rfl)
theorem dX2_best_140 : decode cX2_best 140 = .ok (.iload 4, 2) := dk_21 4 (dk_at dksX2_best_6 3 rfl rfl)
theorem dX2_best_142 : decode cX2_best 142 = .ok (.iload 5, 2) := dk_21 5 (dk_at dksX2_best_6 5 rfl rfl)
theorem dX2_best_144 : decode cX2_best 144 = .ok (.iadd, 1) := dk_96 (dk_at dksX2_best_6 7 rfl rfl)
theorem dX2_best_145 : decode cX2_best 145 = .ok (.aload_n 0, 1) := dk_42 (dk_at dksX2_best_6 8 rfl rfl)
theorem dX2_best_146 : decode cX2_best 146 = .ok (.iload_n 1, 1) := dk_27 (dk_at dksX2_best_6 9 rfl rfl)
theorem dX2_best_147 : decode cX2_best 147 = .ok (.iconst 2, 1) := dk_5 (dk_at dksX2_best_6 10 rfl rfl)
theorem dX2_best_148 : decode cX2_best 148 = .ok (.invokevirtual 82, 3) := dk_182 0 82 (dk_at dksX2_best_6 11 rfl rfl)
theorem dX2_best_151 : decode cX2_best 151 = .ok (.iadd, 1) := dk_96 (dk_at dksX2_best_6 14 rfl rfl)
theorem dX2_best_152 : decode cX2_best 152 = .ok (.ireturn, 1) := dk_172 (dk_at dksX2_best_6 15 rfl rfl)
abbrev cX2_harshest : ByteArray := prog_20_method_110_code
def yX2_harshest : MethodName := ⟨RX2, "harshest", "(I)I"⟩
def dkwX2_harshest_3 : List UInt8 := [28, 172]
abbrev dktX2_harshest_3 : List UInt8 := dkwX2_harshest_3 ++ []
def dkwX2_harshest_2 : List UInt8 := [180, 1, 187, 28, 164, 0, 8, 42, 180, 1, 187, 61, 132, 4, 1, 167, 255, 223, 132, 3, 1, 167, 255, 208]
abbrev dktX2_harshest_2 : List UInt8 := dkwX2_harshest_2 ++ dktX2_harshest_3
def dkwX2_harshest_1 : List UInt8 := [163, 0, 48, 3, 54, 4, 21, 4, 6, 163, 0, 33, 42, 27, 29, 21, 4, 182, 1, 190, 153, 0, 16, 42]
abbrev dktX2_harshest_1 : List UInt8 := dkwX2_harshest_1 ++ dktX2_harshest_2
def dkwX2_harshest_0 : List UInt8 := [42, 27, 182, 1, 121, 154, 0, 5, 2, 172, 42, 16, 40, 182, 1, 181, 87, 3, 61, 3, 62, 29, 16, 20]
abbrev dktX2_harshest_0 : List UInt8 := dkwX2_harshest_0 ++ dktX2_harshest_1
theorem dksX2_harshest_0 : cX2_harshest.data.toList.drop 0 = dktX2_harshest_0 := by decide +kernel
theorem dksX2_harshest_1 : cX2_harshest.data.toList.drop 24 = dktX2_harshest_1 := dk_seg dksX2_harshest_0 24 rfl rfl
theorem dksX2_harshest_2 : cX2_harshest.data.toList.drop 48 = dktX2_harshest_2 := dk_seg dksX2_harshest_1 24 rfl rfl
theorem dksX2_harshest_3 : cX2_harshest.data.toList.drop 72 = dktX2_harshest_3 := dk_seg dksX2_harshest_2 24 rfl rfl
theorem dX2_harshest_0 : decode cX2_harshest 0 = .ok (.aload_n 0, 1) := dk_42 (dk_at dksX2_harshest_0 0 rfl rfl)
theorem dX2_harshest_1 : decode cX2_harshest 1 = .ok (.iload_n 1, 1) := dk_27 (dk_at dksX2_harshest_0 1 rfl rfl)
theorem dX2_harshest_2 : decode cX2_harshest 2 = .ok (.invokevirtual 377, 3) := dk_182 1 121 (dk_at dksX2_harshest_0 2 rfl rfl)
theorem dX2_harshest_5 : decode cX2_harshest 5 = .ok (.ifCond .ne 5, 3) := dk_154 0 5 (dk_at dksX2_harshest_0 5 rfl rfl)
theorem dX2_harshest_8 : decode cX2_harshest 8 = .ok (.iconst (-1), 1) := dk_2 (dk_at dksX2_harshest_0 8 rfl rfl)
theorem dX2_harshest_9 : decode cX2_harshest 9 = .ok (.ireturn, 1) := dk_172 (dk_at dksX2_harshest_0 9 rfl rfl)
theorem dX2_harshest_10 : decode cX2_harshest 10 = .ok (.aload_n 0, 1) := dk_42 (dk_at dksX2_harshest_0 10 rfl rfl)
theorem dX2_harshest_11 : decode cX2_harshest 11 = .ok (.bipush 40, 2) := dk_16 40 (dk_at dksX2_harshest_0 11 rfl rfl)
theorem dX2_harshest_13 : decode cX2_harshest 13 = .ok (.invokevirtual 437, 3) := dk_182 1 181 (dk_at dksX2_harshest_0 13 rfl rfl)
theorem dX2_harshest_16 : decode cX2_harshest 16 = .ok (.pop, 1) := dk_87 (dk_at dksX2_harshest_0 16 rfl rfl)
theorem dX2_harshest_17 : decode cX2_harshest 17 = .ok (.iconst 0, 1) := dk_3 (dk_at dksX2_harshest_0 17 rfl rfl)
theorem dX2_harshest_18 : decode cX2_harshest 18 = .ok (.istore_n 2, 1) := dk_61 (dk_at dksX2_harshest_0 18 rfl rfl)
theorem dX2_harshest_19 : decode cX2_harshest 19 = .ok (.iconst 0, 1) := dk_3 (dk_at dksX2_harshest_0 19 rfl rfl)
theorem dX2_harshest_20 : decode cX2_harshest 20 = .ok (.istore_n 3, 1) := dk_62 (dk_at dksX2_harshest_0 20 rfl rfl)
theorem dX2_harshest_21 : decode cX2_harshest 21 = .ok (.iload_n 3, 1) := dk_29 (dk_at dksX2_harshest_0 21 rfl rfl)
theorem dX2_harshest_22 : decode cX2_harshest 22 = .ok (.bipush 20, 2) := dk_16 20 (dk_at dksX2_harshest_0 22 rfl rfl)
theorem dX2_harshest_24 : decode cX2_harshest 24 = .ok (.if_icmp .gt 48, 3) := dk_163 0 48 (dk_at dksX2_harshest_1 0 rfl rfl)
theorem dX2_harshest_27 : decode cX2_harshest 27 = .ok (.iconst 0, 1) := dk_3 (dk_at dksX2_harshest_1 3 rfl rfl)
theorem dX2_harshest_28 : decode cX2_harshest 28 = .ok (.istore 4, 2) := dk_54 4 (dk_at dksX2_harshest_1 4 rfl rfl)
theorem dX2_harshest_30 : decode cX2_harshest 30 = .ok (.iload 4, 2) := dk_21 4 (dk_at dksX2_harshest_1 6 rfl rfl)
theorem dX2_harshest_32 : decode cX2_harshest 32 = .ok (.iconst 3, 1) := dk_6 (dk_at dksX2_harshest_1 8 rfl rfl)
theorem dX2_harshest_33 : decode cX2_harshest 33 = .ok (.if_icmp .gt 33, 3) := dk_163 0 33 (dk_at dksX2_harshest_1 9 rfl rfl)
theorem dX2_harshest_36 : decode cX2_harshest 36 = .ok (.aload_n 0, 1) := dk_42 (dk_at dksX2_harshest_1 12 rfl rfl)
theorem dX2_harshest_37 : decode cX2_harshest 37 = .ok (.iload_n 1, 1) := dk_27 (dk_at dksX2_harshest_1 13 rfl rfl)
theorem dX2_harshest_38 : decode cX2_harshest 38 = .ok (.iload_n 3, 1) := dk_29 (dk_at dksX2_harshest_1 14 rfl rfl)
theorem dX2_harshest_39 : decode cX2_harshest 39 = .ok (.iload 4, 2) := dk_21 4 (dk_at dksX2_harshest_1 15 rfl rfl)
theorem dX2_harshest_41 : decode cX2_harshest 41 = .ok (.invokevirtual 446, 3) := dk_182 1 190 (dk_at dksX2_harshest_1 17 rfl rfl)
theorem dX2_harshest_44 : decode cX2_harshest 44 = .ok (.ifCond .eq 16, 3) := dk_153 0 16 (dk_at dksX2_harshest_1 20 rfl rfl)
theorem dX2_harshest_47 : decode cX2_harshest 47 = .ok (.aload_n 0, 1) := dk_42 (dk_at dksX2_harshest_1 23 rfl rfl)
theorem dX2_harshest_48 : decode cX2_harshest 48 = .ok (.getfield 443, 3) := dk_180 1 187 (dk_at dksX2_harshest_2 0 rfl rfl)
theorem dX2_harshest_51 : decode cX2_harshest 51 = .ok (.iload_n 2, 1) := dk_28 (dk_at dksX2_harshest_2 3 rfl rfl)
theorem dX2_harshest_52 : decode cX2_harshest 52 = .ok (.if_icmp .le 8, 3) := dk_164 0 8 (dk_at dksX2_harshest_2 4 rfl rfl)
theorem dX2_harshest_55 : decode cX2_harshest 55 = .ok (.aload_n 0, 1) := dk_42 (dk_at dksX2_harshest_2 7 rfl rfl)
theorem dX2_harshest_56 : decode cX2_harshest 56 = .ok (.getfield 443, 3) := dk_180 1 187 (dk_at dksX2_harshest_2 8 rfl rfl)
theorem dX2_harshest_59 : decode cX2_harshest 59 = .ok (.istore_n 2, 1) := dk_61 (dk_at dksX2_harshest_2 11 rfl rfl)
theorem dX2_harshest_60 : decode cX2_harshest 60 = .ok (.iinc 4 1, 3) := dk_132 4 1 (dk_at dksX2_harshest_2 12 rfl rfl)
theorem dX2_harshest_63 : decode cX2_harshest 63 = .ok (.goto (-33), 3) := dk_167 255 223 (dk_at dksX2_harshest_2 15 rfl rfl)
theorem dX2_harshest_66 : decode cX2_harshest 66 = .ok (.iinc 3 1, 3) := dk_132 3 1 (dk_at dksX2_harshest_2 18 rfl rfl)
theorem dX2_harshest_69 : decode cX2_harshest 69 = .ok (.goto (-48), 3) := dk_167 255 208 (dk_at dksX2_harshest_2 21 rfl rfl)
theorem dX2_harshest_72 : decode cX2_harshest 72 = .ok (.iload_n 2, 1) := dk_28 (dk_at dksX2_harshest_3 0 rfl rfl)
theorem dX2_harshest_73 : decode cX2_harshest 73 = .ok (.ireturn, 1) := dk_172 (dk_at dksX2_harshest_3 1 rfl rfl)
abbrev cX2_odds : ByteArray := prog_20_method_113_code
def yX2_odds : MethodName := ⟨RX2, "odds", "(Z)J"⟩
def dkwX2_odds_5 : List UInt8 := [29, 167, 0, 5, 21, 4, 133, 21, 4, 133, 29, 133, 184, 1, 198, 109, 173]
abbrev dktX2_odds_5 : List UInt8 := dkwX2_odds_5 ++ []
def dkwX2_odds_4 : List UInt8 := [182, 1, 195, 153, 0, 7, 4, 167, 0, 4, 3, 96, 54, 4, 132, 5, 1, 167, 255, 227, 27, 153, 0, 7]
abbrev dktX2_odds_4 : List UInt8 := dkwX2_odds_4 ++ dktX2_odds_5
def dkwX2_odds_3 : List UInt8 := [167, 0, 4, 4, 62, 3, 54, 4, 3, 54, 5, 21, 5, 29, 162, 0, 29, 21, 4, 42, 21, 5, 28]
abbrev dktX2_odds_3 : List UInt8 := dkwX2_odds_3 ++ dktX2_odds_4
def dkwX2_odds_2 : List UInt8 := [164, 0, 7, 20, 1, 193, 173, 28, 6, 160, 0, 8, 16, 100, 167, 0, 14, 28, 5, 160, 0, 8, 16, 10]
abbrev dktX2_odds_2 : List UInt8 := dkwX2_odds_2 ++ dktX2_odds_3
def dkwX2_odds_1 : List UInt8 := [182, 0, 82, 42, 180, 0, 7, 16, 16, 46, 96, 42, 180, 0, 7, 16, 14, 46, 100, 61, 28, 6]
abbrev dktX2_odds_1 : List UInt8 := dkwX2_odds_1 ++ dktX2_odds_2
def dkwX2_odds_0 : List UInt8 := [42, 180, 0, 7, 16, 13, 46, 2, 160, 0, 7, 20, 1, 193, 173, 42, 42, 180, 0, 7, 16, 13, 46, 5]
abbrev dktX2_odds_0 : List UInt8 := dkwX2_odds_0 ++ dktX2_odds_1
theorem dksX2_odds_0 : cX2_odds.data.toList.drop 0 = dktX2_odds_0 := by decide +kernel
theorem dksX2_odds_1 : cX2_odds.data.toList.drop 24 = dktX2_odds_1 := dk_seg dksX2_odds_0 24 rfl rfl
theorem dksX2_odds_2 : cX2_odds.data.toList.drop 46 = dktX2_odds_2 := dk_seg dksX2_odds_1 22 rfl rfl
theorem dksX2_odds_3 : cX2_odds.data.toList.drop 70 = dktX2_odds_3 := dk_seg dksX2_odds_2 24 rfl rfl
theorem dksX2_odds_4 : cX2_odds.data.toList.drop 93 = dktX2_odds_4 := dk_seg dksX2_odds_3 23 rfl rfl
theorem dksX2_odds_5 : cX2_odds.data.toList.drop 117 = dktX2_odds_5 := dk_seg dksX2_odds_4 24 rfl rfl
theorem dX2_odds_0 : decode cX2_odds 0 = .ok (.aload_n 0, 1) := dk_42 (dk_at dksX2_odds_0 0 rfl rfl)
theorem dX2_odds_1 : decode cX2_odds 1 = .ok (.getfield 7, 3) := dk_180 0 7 (dk_at dksX2_odds_0 1 rfl rfl)
theorem dX2_odds_4 : decode cX2_odds 4 = .ok (.bipush 13, 2) := dk_16 13 (dk_at dksX2_odds_0 4 rfl rfl)
theorem dX2_odds_6 : decode cX2_odds 6 = .ok (.iaload, 1) := dk_46 (dk_at dksX2_odds_0 6 rfl rfl)
theorem dX2_odds_7 : decode cX2_odds 7 = .ok (.iconst (-1), 1) := dk_2 (dk_at dksX2_odds_0 7 rfl rfl)
theorem dX2_odds_8 : decode cX2_odds 8 = .ok (.if_icmp .ne 7, 3) := dk_160 0 7 (dk_at dksX2_odds_0 8 rfl rfl)
theorem dX2_odds_11 : decode cX2_odds 11 = .ok (.ldc2_w 449, 3) := dk_20 1 193 (dk_at dksX2_odds_0 11 rfl rfl)
theorem dX2_odds_14 : decode cX2_odds 14 = .ok (.lreturn, 1) := dk_173 (dk_at dksX2_odds_0 14 rfl rfl)
theorem dX2_odds_15 : decode cX2_odds 15 = .ok (.aload_n 0, 1) := dk_42 (dk_at dksX2_odds_0 15 rfl rfl)
theorem dX2_odds_16 : decode cX2_odds 16 = .ok (.aload_n 0, 1) := dk_42 (dk_at dksX2_odds_0 16 rfl rfl)
theorem dX2_odds_17 : decode cX2_odds 17 = .ok (.getfield 7, 3) := dk_180 0 7 (dk_at dksX2_odds_0 17 rfl rfl)
theorem dX2_odds_20 : decode cX2_odds 20 = .ok (.bipush 13, 2) := dk_16 13 (dk_at dksX2_odds_0 20 rfl rfl)
theorem dX2_odds_22 : decode cX2_odds 22 = .ok (.iaload, 1) := dk_46 (dk_at dksX2_odds_0 22 rfl rfl)
theorem dX2_odds_23 : decode cX2_odds 23 = .ok (.iconst 2, 1) := dk_5 (dk_at dksX2_odds_0 23 rfl rfl)
theorem dX2_odds_24 : decode cX2_odds 24 = .ok (.invokevirtual 82, 3) := dk_182 0 82 (dk_at dksX2_odds_1 0 rfl rfl)
theorem dX2_odds_27 : decode cX2_odds 27 = .ok (.aload_n 0, 1) := dk_42 (dk_at dksX2_odds_1 3 rfl rfl)
theorem dX2_odds_28 : decode cX2_odds 28 = .ok (.getfield 7, 3) := dk_180 0 7 (dk_at dksX2_odds_1 4 rfl rfl)
theorem dX2_odds_31 : decode cX2_odds 31 = .ok (.bipush 16, 2) := dk_16 16 (dk_at dksX2_odds_1 7 rfl rfl)
theorem dX2_odds_33 : decode cX2_odds 33 = .ok (.iaload, 1) := dk_46 (dk_at dksX2_odds_1 9 rfl rfl)
theorem dX2_odds_34 : decode cX2_odds 34 = .ok (.iadd, 1) := dk_96 (dk_at dksX2_odds_1 10 rfl rfl)
theorem dX2_odds_35 : decode cX2_odds 35 = .ok (.aload_n 0, 1) := dk_42 (dk_at dksX2_odds_1 11 rfl rfl)
theorem dX2_odds_36 : decode cX2_odds 36 = .ok (.getfield 7, 3) := dk_180 0 7 (dk_at dksX2_odds_1 12 rfl rfl)
theorem dX2_odds_39 : decode cX2_odds 39 = .ok (.bipush 14, 2) := dk_16 14 (dk_at dksX2_odds_1 15 rfl rfl)
theorem dX2_odds_41 : decode cX2_odds 41 = .ok (.iaload, 1) := dk_46 (dk_at dksX2_odds_1 17 rfl rfl)
theorem dX2_odds_42 : decode cX2_odds 42 = .ok (.isub, 1) := dk_100 (dk_at dksX2_odds_1 18 rfl rfl)
theorem dX2_odds_43 : decode cX2_odds 43 = .ok (.istore_n 2, 1) := dk_61 (dk_at dksX2_odds_1 19 rfl rfl)
theorem dX2_odds_44 : decode cX2_odds 44 = .ok (.iload_n 2, 1) := dk_28 (dk_at dksX2_odds_1 20 rfl rfl)
theorem dX2_odds_45 : decode cX2_odds 45 = .ok (.iconst 3, 1) := dk_6 (dk_at dksX2_odds_1 21 rfl rfl)
theorem dX2_odds_46 : decode cX2_odds 46 = .ok (.if_icmp .le 7, 3) := dk_164 0 7 (dk_at dksX2_odds_2 0 rfl rfl)
theorem dX2_odds_49 : decode cX2_odds 49 = .ok (.ldc2_w 449, 3) := dk_20 1 193 (dk_at dksX2_odds_2 3 rfl rfl)
theorem dX2_odds_52 : decode cX2_odds 52 = .ok (.lreturn, 1) := dk_173 (dk_at dksX2_odds_2 6 rfl rfl)
theorem dX2_odds_53 : decode cX2_odds 53 = .ok (.iload_n 2, 1) := dk_28 (dk_at dksX2_odds_2 7 rfl rfl)
theorem dX2_odds_54 : decode cX2_odds 54 = .ok (.iconst 3, 1) := dk_6 (dk_at dksX2_odds_2 8 rfl rfl)
theorem dX2_odds_55 : decode cX2_odds 55 = .ok (.if_icmp .ne 8, 3) := dk_160 0 8 (dk_at dksX2_odds_2 9 rfl rfl)
theorem dX2_odds_58 : decode cX2_odds 58 = .ok (.bipush 100, 2) := dk_16 100 (dk_at dksX2_odds_2 12 rfl rfl)
theorem dX2_odds_60 : decode cX2_odds 60 = .ok (.goto 14, 3) := dk_167 0 14 (dk_at dksX2_odds_2 14 rfl rfl)
theorem dX2_odds_63 : decode cX2_odds 63 = .ok (.iload_n 2, 1) := dk_28 (dk_at dksX2_odds_2 17 rfl rfl)
theorem dX2_odds_64 : decode cX2_odds 64 = .ok (.iconst 2, 1) := dk_5 (dk_at dksX2_odds_2 18 rfl rfl)
theorem dX2_odds_65 : decode cX2_odds 65 = .ok (.if_icmp .ne 8, 3) := dk_160 0 8 (dk_at dksX2_odds_2 19 rfl rfl)
theorem dX2_odds_68 : decode cX2_odds 68 = .ok (.bipush 10, 2) := dk_16 10 (dk_at dksX2_odds_2 22 rfl rfl)
theorem dX2_odds_70 : decode cX2_odds 70 = .ok (.goto 4, 3) := dk_167 0 4 (dk_at dksX2_odds_3 0 rfl rfl)
theorem dX2_odds_73 : decode cX2_odds 73 = .ok (.iconst 1, 1) := dk_4 (dk_at dksX2_odds_3 3 rfl rfl)
theorem dX2_odds_74 : decode cX2_odds 74 = .ok (.istore_n 3, 1) := dk_62 (dk_at dksX2_odds_3 4 rfl rfl)
theorem dX2_odds_75 : decode cX2_odds 75 = .ok (.iconst 0, 1) := dk_3 (dk_at dksX2_odds_3 5 rfl rfl)
theorem dX2_odds_76 : decode cX2_odds 76 = .ok (.istore 4, 2) := dk_54 4 (dk_at dksX2_odds_3 6 rfl rfl)
theorem dX2_odds_78 : decode cX2_odds 78 = .ok (.iconst 0, 1) := dk_3 (dk_at dksX2_odds_3 8 rfl rfl)
theorem dX2_odds_79 : decode cX2_odds 79 = .ok (.istore 5, 2) := dk_54 5 (dk_at dksX2_odds_3 9 rfl rfl)
theorem dX2_odds_81 : decode cX2_odds 81 = .ok (.iload 5, 2) := dk_21 5 (dk_at dksX2_odds_3 11 rfl rfl)
theorem dX2_odds_83 : decode cX2_odds 83 = .ok (.iload_n 3, 1) := dk_29 (dk_at dksX2_odds_3 13 rfl rfl)
theorem dX2_odds_84 : decode cX2_odds 84 = .ok (.if_icmp .ge 29, 3) := dk_162 0 29 (dk_at dksX2_odds_3 14 rfl rfl)
theorem dX2_odds_87 : decode cX2_odds 87 = .ok (.iload 4, 2) := dk_21 4 (dk_at dksX2_odds_3 17 rfl rfl)
theorem dX2_odds_89 : decode cX2_odds 89 = .ok (.aload_n 0, 1) := dk_42 (dk_at dksX2_odds_3 19 rfl rfl)
theorem dX2_odds_90 : decode cX2_odds 90 = .ok (.iload 5, 2) := dk_21 5 (dk_at dksX2_odds_3 20 rfl rfl)
theorem dX2_odds_92 : decode cX2_odds 92 = .ok (.iload_n 2, 1) := dk_28 (dk_at dksX2_odds_3 22 rfl rfl)
theorem dX2_odds_93 : decode cX2_odds 93 = .ok (.invokevirtual 451, 3) := dk_182 1 195 (dk_at dksX2_odds_4 0 rfl rfl)
theorem dX2_odds_96 : decode cX2_odds 96 = .ok (.ifCond .eq 7, 3) := dk_153 0 7 (dk_at dksX2_odds_4 3 rfl rfl)
theorem dX2_odds_99 : decode cX2_odds 99 = .ok (.iconst 1, 1) := dk_4 (dk_at dksX2_odds_4 6 rfl rfl)
theorem dX2_odds_100 : decode cX2_odds 100 = .ok (.goto 4, 3) := dk_167 0 4 (dk_at dksX2_odds_4 7 rfl rfl)
theorem dX2_odds_103 : decode cX2_odds 103 = .ok (.iconst 0, 1) := dk_3 (dk_at dksX2_odds_4 10 rfl rfl)
theorem dX2_odds_104 : decode cX2_odds 104 = .ok (.iadd, 1) := dk_96 (dk_at dksX2_odds_4 11 rfl rfl)
theorem dX2_odds_105 : decode cX2_odds 105 = .ok (.istore 4, 2) := dk_54 4 (dk_at dksX2_odds_4 12 rfl rfl)
theorem dX2_odds_107 : decode cX2_odds 107 = .ok (.iinc 5 1, 3) := dk_132 5 1 (dk_at dksX2_odds_4 14 rfl rfl)
theorem dX2_odds_110 : decode cX2_odds 110 = .ok (.goto (-29), 3) := dk_167 255 227 (dk_at dksX2_odds_4 17 rfl rfl)
theorem dX2_odds_113 : decode cX2_odds 113 = .ok (.iload_n 1, 1) := dk_27 (dk_at dksX2_odds_4 20 rfl rfl)
theorem dX2_odds_114 : decode cX2_odds 114 = .ok (.ifCond .eq 7, 3) := dk_153 0 7 (dk_at dksX2_odds_4 21 rfl rfl)
theorem dX2_odds_117 : decode cX2_odds 117 = .ok (.iload_n 3, 1) := dk_29 (dk_at dksX2_odds_5 0 rfl rfl)
theorem dX2_odds_118 : decode cX2_odds 118 = .ok (.goto 5, 3) := dk_167 0 5 (dk_at dksX2_odds_5 1 rfl rfl)
theorem dX2_odds_121 : decode cX2_odds 121 = .ok (.iload 4, 2) := dk_21 4 (dk_at dksX2_odds_5 4 rfl rfl)
theorem dX2_odds_123 : decode cX2_odds 123 = .ok (.i2l, 1) := dk_133 (dk_at dksX2_odds_5 6 rfl rfl)
theorem dX2_odds_124 : decode cX2_odds 124 = .ok (.iload 4, 2) := dk_21 4 (dk_at dksX2_odds_5 7 rfl rfl)
theorem dX2_odds_126 : decode cX2_odds 126 = .ok (.i2l, 1) := dk_133 (dk_at dksX2_odds_5 9 rfl rfl)
theorem dX2_odds_127 : decode cX2_odds 127 = .ok (.iload_n 3, 1) := dk_29 (dk_at dksX2_odds_5 10 rfl rfl)
theorem dX2_odds_128 : decode cX2_odds 128 = .ok (.i2l, 1) := dk_133 (dk_at dksX2_odds_5 11 rfl rfl)
theorem dX2_odds_129 : decode cX2_odds 129 = .ok (.invokestatic 454, 3) := dk_184 1 198 (dk_at dksX2_odds_5 12 rfl rfl)
theorem dX2_odds_132 : decode cX2_odds 132 = .ok (.ldiv, 1) := dk_109 (dk_at dksX2_odds_5 15 rfl rfl)
theorem dX2_odds_133 : decode cX2_odds 133 = .ok (.lreturn, 1) := dk_173 (dk_at dksX2_odds_5 16 rfl rfl)
abbrev cX2_isGuiltyBy : ByteArray := prog_20_method_112_code
def yX2_isGuiltyBy : MethodName := ⟨RX2, "isGuiltyBy", "(II)Z"⟩
def dkwX2_isGuiltyBy_4 : List UInt8 := [182, 1, 178, 21, 5, 172]
abbrev dktX2_isGuiltyBy_4 : List UInt8 := dkwX2_isGuiltyBy_4 ++ []
def dkwX2_isGuiltyBy_3 : List UInt8 := [180, 0, 7, 16, 13, 46, 42, 180, 0, 7, 16, 14, 46, 28, 96, 21, 4, 182, 1, 100, 54, 5, 42]
abbrev dktX2_isGuiltyBy_3 : List UInt8 := dkwX2_isGuiltyBy_3 ++ dktX2_isGuiltyBy_4
def dkwX2_isGuiltyBy_2 : List UInt8 := [21, 4, 4, 42, 180, 0, 7, 16, 8, 46, 120, 128, 54, 4, 132, 5, 1, 167, 255, 220, 42, 42]
abbrev dktX2_isGuiltyBy_2 : List UInt8 := dkwX2_isGuiltyBy_2 ++ dktX2_isGuiltyBy_3
def dkwX2_isGuiltyBy_1 : List UInt8 := [54, 4, 4, 54, 5, 21, 5, 28, 162, 0, 36, 42, 29, 16, 10, 112, 182, 1, 118, 29, 16, 10, 108, 62]
abbrev dktX2_isGuiltyBy_1 : List UInt8 := dkwX2_isGuiltyBy_1 ++ dktX2_isGuiltyBy_2
def dkwX2_isGuiltyBy_0 : List UInt8 := [42, 182, 1, 175, 27, 62, 42, 180, 0, 7, 16, 15, 46, 4, 42, 180, 0, 7, 16, 8, 46, 120, 128]
abbrev dktX2_isGuiltyBy_0 : List UInt8 := dkwX2_isGuiltyBy_0 ++ dktX2_isGuiltyBy_1
theorem dksX2_isGuiltyBy_0 : cX2_isGuiltyBy.data.toList.drop 0 = dktX2_isGuiltyBy_0 := by decide +kernel
theorem dksX2_isGuiltyBy_1 : cX2_isGuiltyBy.data.toList.drop 23 = dktX2_isGuiltyBy_1 := dk_seg dksX2_isGuiltyBy_0 23 rfl rfl
theorem dksX2_isGuiltyBy_2 : cX2_isGuiltyBy.data.toList.drop 47 = dktX2_isGuiltyBy_2 := dk_seg dksX2_isGuiltyBy_1 24 rfl rfl
theorem dksX2_isGuiltyBy_3 : cX2_isGuiltyBy.data.toList.drop 69 = dktX2_isGuiltyBy_3 := dk_seg dksX2_isGuiltyBy_2 22 rfl rfl
theorem dksX2_isGuiltyBy_4 : cX2_isGuiltyBy.data.toList.drop 92 = dktX2_isGuiltyBy_4 := dk_seg dksX2_isGuiltyBy_3 23 rfl rfl
theorem dX2_isGuiltyBy_0 : decode cX2_isGuiltyBy 0 = .ok (.aload_n 0, 1) := dk_42 (dk_at dksX2_isGuiltyBy_0 0 rfl rfl)
theorem dX2_isGuiltyBy_1 : decode cX2_isGuiltyBy 1 = .ok (.invokevirtual 431, 3) := dk_182 1 175 (dk_at dksX2_isGuiltyBy_0 1 rfl rfl)
theorem dX2_isGuiltyBy_4 : decode cX2_isGuiltyBy 4 = .ok (.iload_n 1, 1) := dk_27 (dk_at dksX2_isGuiltyBy_0 4 rfl rfl)
theorem dX2_isGuiltyBy_5 : decode cX2_isGuiltyBy 5 = .ok (.istore_n 3, 1) := dk_62 (dk_at dksX2_isGuiltyBy_0 5 rfl rfl)
theorem dX2_isGuiltyBy_6 : decode cX2_isGuiltyBy 6 = .ok (.aload_n 0, 1) := dk_42 (dk_at dksX2_isGuiltyBy_0 6 rfl rfl)
theorem dX2_isGuiltyBy_7 : decode cX2_isGuiltyBy 7 = .ok (.getfield 7, 3) := dk_180 0 7 (dk_at dksX2_isGuiltyBy_0 7 rfl rfl)
theorem dX2_isGuiltyBy_10 : decode cX2_isGuiltyBy 10 = .ok (.bipush 15, 2) := dk_16 15 (dk_at dksX2_isGuiltyBy_0 10 rfl rfl)
theorem dX2_isGuiltyBy_12 : decode cX2_isGuiltyBy 12 = .ok (.iaload, 1) := dk_46 (dk_at dksX2_isGuiltyBy_0 12 rfl rfl)
theorem dX2_isGuiltyBy_13 : decode cX2_isGuiltyBy 13 = .ok (.iconst 1, 1) := dk_4 (dk_at dksX2_isGuiltyBy_0 13 rfl rfl)
theorem dX2_isGuiltyBy_14 : decode cX2_isGuiltyBy 14 = .ok (.aload_n 0, 1) := dk_42 (dk_at dksX2_isGuiltyBy_0 14 rfl rfl)
theorem dX2_isGuiltyBy_15 : decode cX2_isGuiltyBy 15 = .ok (.getfield 7, 3) := dk_180 0 7 (dk_at dksX2_isGuiltyBy_0 15 rfl rfl)
theorem dX2_isGuiltyBy_18 : decode cX2_isGuiltyBy 18 = .ok (.bipush 8, 2) := dk_16 8 (dk_at dksX2_isGuiltyBy_0 18 rfl rfl)
theorem dX2_isGuiltyBy_20 : decode cX2_isGuiltyBy 20 = .ok (.iaload, 1) := dk_46 (dk_at dksX2_isGuiltyBy_0 20 rfl rfl)
theorem dX2_isGuiltyBy_21 : decode cX2_isGuiltyBy 21 = .ok (.ishl, 1) := dk_120 (dk_at dksX2_isGuiltyBy_0 21 rfl rfl)
theorem dX2_isGuiltyBy_22 : decode cX2_isGuiltyBy 22 = .ok (.ior, 1) := dk_128 (dk_at dksX2_isGuiltyBy_0 22 rfl rfl)
theorem dX2_isGuiltyBy_23 : decode cX2_isGuiltyBy 23 = .ok (.istore 4, 2) := dk_54 4 (dk_at dksX2_isGuiltyBy_1 0 rfl rfl)
theorem dX2_isGuiltyBy_25 : decode cX2_isGuiltyBy 25 = .ok (.iconst 1, 1) := dk_4 (dk_at dksX2_isGuiltyBy_1 2 rfl rfl)
theorem dX2_isGuiltyBy_26 : decode cX2_isGuiltyBy 26 = .ok (.istore 5, 2) := dk_54 5 (dk_at dksX2_isGuiltyBy_1 3 rfl rfl)
theorem dX2_isGuiltyBy_28 : decode cX2_isGuiltyBy 28 = .ok (.iload 5, 2) := dk_21 5 (dk_at dksX2_isGuiltyBy_1 5 rfl rfl)
theorem dX2_isGuiltyBy_30 : decode cX2_isGuiltyBy 30 = .ok (.iload_n 2, 1) := dk_28 (dk_at dksX2_isGuiltyBy_1 7 rfl rfl)
theorem dX2_isGuiltyBy_31 : decode cX2_isGuiltyBy 31 = .ok (.if_icmp .ge 36, 3) := dk_162 0 36 (dk_at dksX2_isGuiltyBy_1 8 rfl rfl)
theorem dX2_isGuiltyBy_34 : decode cX2_isGuiltyBy 34 = .ok (.aload_n 0, 1) := dk_42 (dk_at dksX2_isGuiltyBy_1 11 rfl rfl)
theorem dX2_isGuiltyBy_35 : decode cX2_isGuiltyBy 35 = .ok (.iload_n 3, 1) := dk_29 (dk_at dksX2_isGuiltyBy_1 12 rfl rfl)
theorem dX2_isGuiltyBy_36 : decode cX2_isGuiltyBy 36 = .ok (.bipush 10, 2) := dk_16 10 (dk_at dksX2_isGuiltyBy_1 13 rfl rfl)
theorem dX2_isGuiltyBy_38 : decode cX2_isGuiltyBy 38 = .ok (.irem, 1) := dk_112 (dk_at dksX2_isGuiltyBy_1 15 rfl rfl)
theorem dX2_isGuiltyBy_39 : decode cX2_isGuiltyBy 39 = .ok (.invokevirtual 374, 3) := dk_182 1 118 (dk_at dksX2_isGuiltyBy_1 16 rfl rfl)
theorem dX2_isGuiltyBy_42 : decode cX2_isGuiltyBy 42 = .ok (.iload_n 3, 1) := dk_29 (dk_at dksX2_isGuiltyBy_1 19 rfl rfl)
theorem dX2_isGuiltyBy_43 : decode cX2_isGuiltyBy 43 = .ok (.bipush 10, 2) := dk_16 10 (dk_at dksX2_isGuiltyBy_1 20 rfl rfl)
theorem dX2_isGuiltyBy_45 : decode cX2_isGuiltyBy 45 = .ok (.idiv, 1) := dk_108 (dk_at dksX2_isGuiltyBy_1 22 rfl rfl)
theorem dX2_isGuiltyBy_46 : decode cX2_isGuiltyBy 46 = .ok (.istore_n 3, 1) := dk_62 (dk_at dksX2_isGuiltyBy_1 23 rfl rfl)
theorem dX2_isGuiltyBy_47 : decode cX2_isGuiltyBy 47 = .ok (.iload 4, 2) := dk_21 4 (dk_at dksX2_isGuiltyBy_2 0 rfl rfl)
theorem dX2_isGuiltyBy_49 : decode cX2_isGuiltyBy 49 = .ok (.iconst 1, 1) := dk_4 (dk_at dksX2_isGuiltyBy_2 2 rfl rfl)
theorem dX2_isGuiltyBy_50 : decode cX2_isGuiltyBy 50 = .ok (.aload_n 0, 1) := dk_42 (dk_at dksX2_isGuiltyBy_2 3 rfl rfl)
theorem dX2_isGuiltyBy_51 : decode cX2_isGuiltyBy 51 = .ok (.getfield 7, 3) := dk_180 0 7 (dk_at dksX2_isGuiltyBy_2 4 rfl rfl)
theorem dX2_isGuiltyBy_54 : decode cX2_isGuiltyBy 54 = .ok (.bipush 8, 2) := dk_16 8 (dk_at dksX2_isGuiltyBy_2 7 rfl rfl)
theorem dX2_isGuiltyBy_56 : decode cX2_isGuiltyBy 56 = .ok (.iaload, 1) := dk_46 (dk_at dksX2_isGuiltyBy_2 9 rfl rfl)
theorem dX2_isGuiltyBy_57 : decode cX2_isGuiltyBy 57 = .ok (.ishl, 1) := dk_120 (dk_at dksX2_isGuiltyBy_2 10 rfl rfl)
theorem dX2_isGuiltyBy_58 : decode cX2_isGuiltyBy 58 = .ok (.ior, 1) := dk_128 (dk_at dksX2_isGuiltyBy_2 11 rfl rfl)
theorem dX2_isGuiltyBy_59 : decode cX2_isGuiltyBy 59 = .ok (.istore 4, 2) := dk_54 4 (dk_at dksX2_isGuiltyBy_2 12 rfl rfl)
theorem dX2_isGuiltyBy_61 : decode cX2_isGuiltyBy 61 = .ok (.iinc 5 1, 3) := dk_132 5 1 (dk_at dksX2_isGuiltyBy_2 14 rfl rfl)
theorem dX2_isGuiltyBy_64 : decode cX2_isGuiltyBy 64 = .ok (.goto (-36), 3) := dk_167 255 220 (dk_at dksX2_isGuiltyBy_2 17 rfl rfl)
theorem dX2_isGuiltyBy_67 : decode cX2_isGuiltyBy 67 = .ok (.aload_n 0, 1) := dk_42 (dk_at dksX2_isGuiltyBy_2 20 rfl rfl)
theorem dX2_isGuiltyBy_68 : decode cX2_isGuiltyBy 68 = .ok (.aload_n 0, 1) := dk_42 (dk_at dksX2_isGuiltyBy_2 21 rfl rfl)
theorem dX2_isGuiltyBy_69 : decode cX2_isGuiltyBy 69 = .ok (.getfield 7, 3) := dk_180 0 7 (dk_at dksX2_isGuiltyBy_3 0 rfl rfl)
theorem dX2_isGuiltyBy_72 : decode cX2_isGuiltyBy 72 = .ok (.bipush 13, 2) := dk_16 13 (dk_at dksX2_isGuiltyBy_3 3 rfl rfl)
theorem dX2_isGuiltyBy_74 : decode cX2_isGuiltyBy 74 = .ok (.iaload, 1) := dk_46 (dk_at dksX2_isGuiltyBy_3 5 rfl rfl)
theorem dX2_isGuiltyBy_75 : decode cX2_isGuiltyBy 75 = .ok (.aload_n 0, 1) := dk_42 (dk_at dksX2_isGuiltyBy_3 6 rfl rfl)
theorem dX2_isGuiltyBy_76 : decode cX2_isGuiltyBy 76 = .ok (.getfield 7, 3) := dk_180 0 7 (dk_at dksX2_isGuiltyBy_3 7 rfl rfl)
theorem dX2_isGuiltyBy_79 : decode cX2_isGuiltyBy 79 = .ok (.bipush 14, 2) := dk_16 14 (dk_at dksX2_isGuiltyBy_3 10 rfl rfl)
theorem dX2_isGuiltyBy_81 : decode cX2_isGuiltyBy 81 = .ok (.iaload, 1) := dk_46 (dk_at dksX2_isGuiltyBy_3 12 rfl rfl)
theorem dX2_isGuiltyBy_82 : decode cX2_isGuiltyBy 82 = .ok (.iload_n 2, 1) := dk_28 (dk_at dksX2_isGuiltyBy_3 13 rfl rfl)
theorem dX2_isGuiltyBy_83 : decode cX2_isGuiltyBy 83 = .ok (.iadd, 1) := dk_96 (dk_at dksX2_isGuiltyBy_3 14 rfl rfl)
theorem dX2_isGuiltyBy_84 : decode cX2_isGuiltyBy 84 = .ok (.iload 4, 2) := dk_21 4 (dk_at dksX2_isGuiltyBy_3 15 rfl rfl)
theorem dX2_isGuiltyBy_86 : decode cX2_isGuiltyBy 86 = .ok (.invokevirtual 356, 3) := dk_182 1 100 (dk_at dksX2_isGuiltyBy_3 17 rfl rfl)
theorem dX2_isGuiltyBy_89 : decode cX2_isGuiltyBy 89 = .ok (.istore 5, 2) := dk_54 5 (dk_at dksX2_isGuiltyBy_3 20 rfl rfl)
theorem dX2_isGuiltyBy_91 : decode cX2_isGuiltyBy 91 = .ok (.aload_n 0, 1) := dk_42 (dk_at dksX2_isGuiltyBy_3 22 rfl rfl)
theorem dX2_isGuiltyBy_92 : decode cX2_isGuiltyBy 92 = .ok (.invokevirtual 434, 3) := dk_182 1 178 (dk_at dksX2_isGuiltyBy_4 0 rfl rfl)
theorem dX2_isGuiltyBy_95 : decode cX2_isGuiltyBy 95 = .ok (.iload 5, 2) := dk_21 5 (dk_at dksX2_isGuiltyBy_4 3 rfl rfl)
theorem dX2_isGuiltyBy_97 : decode cX2_isGuiltyBy 97 = .ok (.ireturn, 1) := dk_172 (dk_at dksX2_isGuiltyBy_4 5 rfl rfl)
abbrev cX2_common : ByteArray := prog_20_method_111_code
def yX2_common : MethodName := ⟨RX2, "common", "(JJ)J"⟩
def dkwX2_common_1 : List UInt8 := [22, 8, 55, 6, 167, 255, 234, 22, 4, 173]
abbrev dktX2_common_1 : List UInt8 := dkwX2_common_1 ++ []
def dkwX2_common_0 : List UInt8 := [30, 55, 4, 32, 55, 6, 22, 6, 9, 148, 153, 0, 21, 22, 4, 22, 6, 113, 55, 8, 22, 6, 55, 4]
abbrev dktX2_common_0 : List UInt8 := dkwX2_common_0 ++ dktX2_common_1
theorem dksX2_common_0 : cX2_common.data.toList.drop 0 = dktX2_common_0 := by decide +kernel
theorem dksX2_common_1 : cX2_common.data.toList.drop 24 = dktX2_common_1 := dk_seg dksX2_common_0 24 rfl rfl
theorem dX2_common_0 : decode cX2_common 0 = .ok (.lload_n 0, 1) := dk_30 (dk_at dksX2_common_0 0 rfl rfl)
theorem dX2_common_1 : decode cX2_common 1 = .ok (.lstore 4, 2) := dk_55 4 (dk_at dksX2_common_0 1 rfl rfl)
theorem dX2_common_3 : decode cX2_common 3 = .ok (.lload_n 2, 1) := dk_32 (dk_at dksX2_common_0 3 rfl rfl)
theorem dX2_common_4 : decode cX2_common 4 = .ok (.lstore 6, 2) := dk_55 6 (dk_at dksX2_common_0 4 rfl rfl)
theorem dX2_common_6 : decode cX2_common 6 = .ok (.lload 6, 2) := dk_22 6 (dk_at dksX2_common_0 6 rfl rfl)
theorem dX2_common_8 : decode cX2_common 8 = .ok (.lconst 0, 1) := dk_9 (dk_at dksX2_common_0 8 rfl rfl)
theorem dX2_common_9 : decode cX2_common 9 = .ok (.lcmp, 1) := dk_148 (dk_at dksX2_common_0 9 rfl rfl)
theorem dX2_common_10 : decode cX2_common 10 = .ok (.ifCond .eq 21, 3) := dk_153 0 21 (dk_at dksX2_common_0 10 rfl rfl)
theorem dX2_common_13 : decode cX2_common 13 = .ok (.lload 4, 2) := dk_22 4 (dk_at dksX2_common_0 13 rfl rfl)
theorem dX2_common_15 : decode cX2_common 15 = .ok (.lload 6, 2) := dk_22 6 (dk_at dksX2_common_0 15 rfl rfl)
theorem dX2_common_17 : decode cX2_common 17 = .ok (.lrem, 1) := dk_113 (dk_at dksX2_common_0 17 rfl rfl)
theorem dX2_common_18 : decode cX2_common 18 = .ok (.lstore 8, 2) := dk_55 8 (dk_at dksX2_common_0 18 rfl rfl)
theorem dX2_common_20 : decode cX2_common 20 = .ok (.lload 6, 2) := dk_22 6 (dk_at dksX2_common_0 20 rfl rfl)
theorem dX2_common_22 : decode cX2_common 22 = .ok (.lstore 4, 2) := dk_55 4 (dk_at dksX2_common_0 22 rfl rfl)
theorem dX2_common_24 : decode cX2_common 24 = .ok (.lload 8, 2) := dk_22 8 (dk_at dksX2_common_1 0 rfl rfl)
theorem dX2_common_26 : decode cX2_common 26 = .ok (.lstore 6, 2) := dk_55 6 (dk_at dksX2_common_1 2 rfl rfl)
theorem dX2_common_28 : decode cX2_common 28 = .ok (.goto (-22), 3) := dk_167 255 234 (dk_at dksX2_common_1 4 rfl rfl)
theorem dX2_common_31 : decode cX2_common 31 = .ok (.lload 4, 2) := dk_22 4 (dk_at dksX2_common_1 7 rfl rfl)
theorem dX2_common_33 : decode cX2_common 33 = .ok (.lreturn, 1) := dk_173 (dk_at dksX2_common_1 9 rfl rfl)
abbrev cX2_clash : ByteArray := prog_20_method_115_code
def yX2_clash : MethodName := ⟨RX2, "clash", "(I)I"⟩
def dkwX2_clash_0 : List UInt8 := [42, 27, 182, 0, 78, 153, 0, 17, 42, 27, 42, 27, 6, 182, 0, 82, 182, 1, 202, 167, 0, 4, 2, 172]
abbrev dktX2_clash_0 : List UInt8 := dkwX2_clash_0 ++ []
theorem dksX2_clash_0 : cX2_clash.data.toList.drop 0 = dktX2_clash_0 := by decide +kernel
theorem dX2_clash_0 : decode cX2_clash 0 = .ok (.aload_n 0, 1) := dk_42 (dk_at dksX2_clash_0 0 rfl rfl)
theorem dX2_clash_1 : decode cX2_clash 1 = .ok (.iload_n 1, 1) := dk_27 (dk_at dksX2_clash_0 1 rfl rfl)
theorem dX2_clash_2 : decode cX2_clash 2 = .ok (.invokevirtual 78, 3) := dk_182 0 78 (dk_at dksX2_clash_0 2 rfl rfl)
theorem dX2_clash_5 : decode cX2_clash 5 = .ok (.ifCond .eq 17, 3) := dk_153 0 17 (dk_at dksX2_clash_0 5 rfl rfl)
theorem dX2_clash_8 : decode cX2_clash 8 = .ok (.aload_n 0, 1) := dk_42 (dk_at dksX2_clash_0 8 rfl rfl)
theorem dX2_clash_9 : decode cX2_clash 9 = .ok (.iload_n 1, 1) := dk_27 (dk_at dksX2_clash_0 9 rfl rfl)
theorem dX2_clash_10 : decode cX2_clash 10 = .ok (.aload_n 0, 1) := dk_42 (dk_at dksX2_clash_0 10 rfl rfl)
theorem dX2_clash_11 : decode cX2_clash 11 = .ok (.iload_n 1, 1) := dk_27 (dk_at dksX2_clash_0 11 rfl rfl)
theorem dX2_clash_12 : decode cX2_clash 12 = .ok (.iconst 3, 1) := dk_6 (dk_at dksX2_clash_0 12 rfl rfl)
theorem dX2_clash_13 : decode cX2_clash 13 = .ok (.invokevirtual 82, 3) := dk_182 0 82 (dk_at dksX2_clash_0 13 rfl rfl)
theorem dX2_clash_16 : decode cX2_clash 16 = .ok (.invokevirtual 458, 3) := dk_182 1 202 (dk_at dksX2_clash_0 16 rfl rfl)
theorem dX2_clash_19 : decode cX2_clash 19 = .ok (.goto 4, 3) := dk_167 0 4 (dk_at dksX2_clash_0 19 rfl rfl)
theorem dX2_clash_22 : decode cX2_clash 22 = .ok (.iconst (-1), 1) := dk_2 (dk_at dksX2_clash_0 22 rfl rfl)
theorem dX2_clash_23 : decode cX2_clash 23 = .ok (.ireturn, 1) := dk_172 (dk_at dksX2_clash_0 23 rfl rfl)
abbrev cX2_clashOf : ByteArray := prog_20_method_114_code
def yX2_clashOf : MethodName := ⟨RX2, "clashOf", "(II)I"⟩
def dkwX2_clashOf_2 : List UInt8 := [167, 255, 213, 29, 172]
abbrev dktX2_clashOf_2 : List UInt8 := dkwX2_clashOf_2 ++ []
def dkwX2_clashOf_1 : List UInt8 := [5, 182, 0, 82, 28, 182, 1, 93, 153, 0, 10, 4, 21, 4, 120, 167, 0, 4, 3, 128, 62, 132, 4, 1]
abbrev dktX2_clashOf_1 : List UInt8 := dkwX2_clashOf_1 ++ dktX2_clashOf_2
def dkwX2_clashOf_0 : List UInt8 := [3, 62, 3, 54, 4, 21, 4, 7, 162, 0, 43, 29, 42, 42, 180, 0, 7, 5, 46, 21, 4, 27, 42, 27]
abbrev dktX2_clashOf_0 : List UInt8 := dkwX2_clashOf_0 ++ dktX2_clashOf_1
theorem dksX2_clashOf_0 : cX2_clashOf.data.toList.drop 0 = dktX2_clashOf_0 := by decide +kernel
theorem dksX2_clashOf_1 : cX2_clashOf.data.toList.drop 24 = dktX2_clashOf_1 := dk_seg dksX2_clashOf_0 24 rfl rfl
theorem dksX2_clashOf_2 : cX2_clashOf.data.toList.drop 48 = dktX2_clashOf_2 := dk_seg dksX2_clashOf_1 24 rfl rfl
theorem dX2_clashOf_0 : decode cX2_clashOf 0 = .ok (.iconst 0, 1) := dk_3 (dk_at dksX2_clashOf_0 0 rfl rfl)
theorem dX2_clashOf_1 : decode cX2_clashOf 1 = .ok (.istore_n 3, 1) := dk_62 (dk_at dksX2_clashOf_0 1 rfl rfl)
theorem dX2_clashOf_2 : decode cX2_clashOf 2 = .ok (.iconst 0, 1) := dk_3 (dk_at dksX2_clashOf_0 2 rfl rfl)
theorem dX2_clashOf_3 : decode cX2_clashOf 3 = .ok (.istore 4, 2) := dk_54 4 (dk_at dksX2_clashOf_0 3 rfl rfl)
theorem dX2_clashOf_5 : decode cX2_clashOf 5 = .ok (.iload 4, 2) := dk_21 4 (dk_at dksX2_clashOf_0 5 rfl rfl)
theorem dX2_clashOf_7 : decode cX2_clashOf 7 = .ok (.iconst 4, 1) := dk_7 (dk_at dksX2_clashOf_0 7 rfl rfl)
theorem dX2_clashOf_8 : decode cX2_clashOf 8 = .ok (.if_icmp .ge 43, 3) := dk_162 0 43 (dk_at dksX2_clashOf_0 8 rfl rfl)
theorem dX2_clashOf_11 : decode cX2_clashOf 11 = .ok (.iload_n 3, 1) := dk_29 (dk_at dksX2_clashOf_0 11 rfl rfl)
theorem dX2_clashOf_12 : decode cX2_clashOf 12 = .ok (.aload_n 0, 1) := dk_42 (dk_at dksX2_clashOf_0 12 rfl rfl)
theorem dX2_clashOf_13 : decode cX2_clashOf 13 = .ok (.aload_n 0, 1) := dk_42 (dk_at dksX2_clashOf_0 13 rfl rfl)
theorem dX2_clashOf_14 : decode cX2_clashOf 14 = .ok (.getfield 7, 3) := dk_180 0 7 (dk_at dksX2_clashOf_0 14 rfl rfl)
theorem dX2_clashOf_17 : decode cX2_clashOf 17 = .ok (.iconst 2, 1) := dk_5 (dk_at dksX2_clashOf_0 17 rfl rfl)
theorem dX2_clashOf_18 : decode cX2_clashOf 18 = .ok (.iaload, 1) := dk_46 (dk_at dksX2_clashOf_0 18 rfl rfl)
theorem dX2_clashOf_19 : decode cX2_clashOf 19 = .ok (.iload 4, 2) := dk_21 4 (dk_at dksX2_clashOf_0 19 rfl rfl)
theorem dX2_clashOf_21 : decode cX2_clashOf 21 = .ok (.iload_n 1, 1) := dk_27 (dk_at dksX2_clashOf_0 21 rfl rfl)
theorem dX2_clashOf_22 : decode cX2_clashOf 22 = .ok (.aload_n 0, 1) := dk_42 (dk_at dksX2_clashOf_0 22 rfl rfl)
theorem dX2_clashOf_23 : decode cX2_clashOf 23 = .ok (.iload_n 1, 1) := dk_27 (dk_at dksX2_clashOf_0 23 rfl rfl)
theorem dX2_clashOf_24 : decode cX2_clashOf 24 = .ok (.iconst 2, 1) := dk_5 (dk_at dksX2_clashOf_1 0 rfl rfl)
theorem dX2_clashOf_25 : decode cX2_clashOf 25 = .ok (.invokevirtual 82, 3) := dk_182 0 82 (dk_at dksX2_clashOf_1 1 rfl rfl)
theorem dX2_clashOf_28 : decode cX2_clashOf 28 = .ok (.iload_n 2, 1) := dk_28 (dk_at dksX2_clashOf_1 4 rfl rfl)
theorem dX2_clashOf_29 : decode cX2_clashOf 29 = .ok (.invokevirtual 349, 3) := dk_182 1 93 (dk_at dksX2_clashOf_1 5 rfl rfl)
theorem dX2_clashOf_32 : decode cX2_clashOf 32 = .ok (.ifCond .eq 10, 3) := dk_153 0 10 (dk_at dksX2_clashOf_1 8 rfl rfl)
theorem dX2_clashOf_35 : decode cX2_clashOf 35 = .ok (.iconst 1, 1) := dk_4 (dk_at dksX2_clashOf_1 11 rfl rfl)
theorem dX2_clashOf_36 : decode cX2_clashOf 36 = .ok (.iload 4, 2) := dk_21 4 (dk_at dksX2_clashOf_1 12 rfl rfl)
theorem dX2_clashOf_38 : decode cX2_clashOf 38 = .ok (.ishl, 1) := dk_120 (dk_at dksX2_clashOf_1 14 rfl rfl)
theorem dX2_clashOf_39 : decode cX2_clashOf 39 = .ok (.goto 4, 3) := dk_167 0 4 (dk_at dksX2_clashOf_1 15 rfl rfl)
theorem dX2_clashOf_42 : decode cX2_clashOf 42 = .ok (.iconst 0, 1) := dk_3 (dk_at dksX2_clashOf_1 18 rfl rfl)
theorem dX2_clashOf_43 : decode cX2_clashOf 43 = .ok (.ior, 1) := dk_128 (dk_at dksX2_clashOf_1 19 rfl rfl)
theorem dX2_clashOf_44 : decode cX2_clashOf 44 = .ok (.istore_n 3, 1) := dk_62 (dk_at dksX2_clashOf_1 20 rfl rfl)
theorem dX2_clashOf_45 : decode cX2_clashOf 45 = .ok (.iinc 4 1, 3) := dk_132 4 1 (dk_at dksX2_clashOf_1 21 rfl rfl)
theorem dX2_clashOf_48 : decode cX2_clashOf 48 = .ok (.goto (-43), 3) := dk_167 255 213 (dk_at dksX2_clashOf_2 0 rfl rfl)
theorem dX2_clashOf_51 : decode cX2_clashOf 51 = .ok (.iload_n 3, 1) := dk_29 (dk_at dksX2_clashOf_2 3 rfl rfl)
theorem dX2_clashOf_52 : decode cX2_clashOf 52 = .ok (.ireturn, 1) := dk_172 (dk_at dksX2_clashOf_2 4 rfl rfl)
abbrev cX2_leastFacts : ByteArray := prog_20_method_116_code
def yX2_leastFacts : MethodName := ⟨RX2, "leastFacts", "(I)I"⟩
def dkwX2_leastFacts_3 : List UInt8 := [132, 3, 1, 167, 255, 198, 28, 172]
abbrev dktX2_leastFacts_3 : List UInt8 := dkwX2_leastFacts_3 ++ []
def dkwX2_leastFacts_2 : List UInt8 := [182, 0, 82, 29, 130, 182, 1, 202, 54, 4, 21, 4, 153, 0, 10, 21, 4, 16, 15, 160, 0, 5, 29, 61]
abbrev dktX2_leastFacts_2 : List UInt8 := dkwX2_leastFacts_2 ++ dktX2_leastFacts_3
def dkwX2_leastFacts_1 : List UInt8 := [159, 0, 17, 29, 184, 1, 83, 28, 184, 1, 83, 161, 0, 6, 167, 0, 32, 42, 27, 42, 27, 6]
abbrev dktX2_leastFacts_1 : List UInt8 := dkwX2_leastFacts_1 ++ dktX2_leastFacts_2
def dkwX2_leastFacts_0 : List UInt8 := [42, 27, 182, 0, 78, 154, 0, 5, 2, 172, 2, 61, 3, 62, 29, 17, 1, 0, 162, 0, 57, 28, 2]
abbrev dktX2_leastFacts_0 : List UInt8 := dkwX2_leastFacts_0 ++ dktX2_leastFacts_1
theorem dksX2_leastFacts_0 : cX2_leastFacts.data.toList.drop 0 = dktX2_leastFacts_0 := by decide +kernel
theorem dksX2_leastFacts_1 : cX2_leastFacts.data.toList.drop 23 = dktX2_leastFacts_1 := dk_seg dksX2_leastFacts_0 23 rfl rfl
theorem dksX2_leastFacts_2 : cX2_leastFacts.data.toList.drop 45 = dktX2_leastFacts_2 := dk_seg dksX2_leastFacts_1 22 rfl rfl
theorem dksX2_leastFacts_3 : cX2_leastFacts.data.toList.drop 69 = dktX2_leastFacts_3 := dk_seg dksX2_leastFacts_2 24 rfl rfl
theorem dX2_leastFacts_0 : decode cX2_leastFacts 0 = .ok (.aload_n 0, 1) := dk_42 (dk_at dksX2_leastFacts_0 0 rfl rfl)
theorem dX2_leastFacts_1 : decode cX2_leastFacts 1 = .ok (.iload_n 1, 1) := dk_27 (dk_at dksX2_leastFacts_0 1 rfl rfl)
theorem dX2_leastFacts_2 : decode cX2_leastFacts 2 = .ok (.invokevirtual 78, 3) := dk_182 0 78 (dk_at dksX2_leastFacts_0 2 rfl rfl)
theorem dX2_leastFacts_5 : decode cX2_leastFacts 5 = .ok (.ifCond .ne 5, 3) := dk_154 0 5 (dk_at dksX2_leastFacts_0 5 rfl rfl)
theorem dX2_leastFacts_8 : decode cX2_leastFacts 8 = .ok (.iconst (-1), 1) := dk_2 (dk_at dksX2_leastFacts_0 8 rfl rfl)
theorem dX2_leastFacts_9 : decode cX2_leastFacts 9 = .ok (.ireturn, 1) := dk_172 (dk_at dksX2_leastFacts_0 9 rfl rfl)
theorem dX2_leastFacts_10 : decode cX2_leastFacts 10 = .ok (.iconst (-1), 1) := dk_2 (dk_at dksX2_leastFacts_0 10 rfl rfl)
theorem dX2_leastFacts_11 : decode cX2_leastFacts 11 = .ok (.istore_n 2, 1) := dk_61 (dk_at dksX2_leastFacts_0 11 rfl rfl)
theorem dX2_leastFacts_12 : decode cX2_leastFacts 12 = .ok (.iconst 0, 1) := dk_3 (dk_at dksX2_leastFacts_0 12 rfl rfl)
theorem dX2_leastFacts_13 : decode cX2_leastFacts 13 = .ok (.istore_n 3, 1) := dk_62 (dk_at dksX2_leastFacts_0 13 rfl rfl)
theorem dX2_leastFacts_14 : decode cX2_leastFacts 14 = .ok (.iload_n 3, 1) := dk_29 (dk_at dksX2_leastFacts_0 14 rfl rfl)
theorem dX2_leastFacts_15 : decode cX2_leastFacts 15 = .ok (.sipush 256, 3) := dk_17 1 0 (dk_at dksX2_leastFacts_0 15 rfl rfl)
theorem dX2_leastFacts_18 : decode cX2_leastFacts 18 = .ok (.if_icmp .ge 57, 3) := dk_162 0 57 (dk_at dksX2_leastFacts_0 18 rfl rfl)
theorem dX2_leastFacts_21 : decode cX2_leastFacts 21 = .ok (.iload_n 2, 1) := dk_28 (dk_at dksX2_leastFacts_0 21 rfl rfl)
theorem dX2_leastFacts_22 : decode cX2_leastFacts 22 = .ok (.iconst (-1), 1) := dk_2 (dk_at dksX2_leastFacts_0 22 rfl rfl)
theorem dX2_leastFacts_23 : decode cX2_leastFacts 23 = .ok (.if_icmp .eq 17, 3) := dk_159 0 17 (dk_at dksX2_leastFacts_1 0 rfl rfl)
theorem dX2_leastFacts_26 : decode cX2_leastFacts 26 = .ok (.iload_n 3, 1) := dk_29 (dk_at dksX2_leastFacts_1 3 rfl rfl)
theorem dX2_leastFacts_27 : decode cX2_leastFacts 27 = .ok (.invokestatic 339, 3) := dk_184 1 83 (dk_at dksX2_leastFacts_1 4 rfl rfl)
theorem dX2_leastFacts_30 : decode cX2_leastFacts 30 = .ok (.iload_n 2, 1) := dk_28 (dk_at dksX2_leastFacts_1 7 rfl rfl)
theorem dX2_leastFacts_31 : decode cX2_leastFacts 31 = .ok (.invokestatic 339, 3) := dk_184 1 83 (dk_at dksX2_leastFacts_1 8 rfl rfl)
theorem dX2_leastFacts_34 : decode cX2_leastFacts 34 = .ok (.if_icmp .lt 6, 3) := dk_161 0 6 (dk_at dksX2_leastFacts_1 11 rfl rfl)
theorem dX2_leastFacts_37 : decode cX2_leastFacts 37 = .ok (.goto 32, 3) := dk_167 0 32 (dk_at dksX2_leastFacts_1 14 rfl rfl)
theorem dX2_leastFacts_40 : decode cX2_leastFacts 40 = .ok (.aload_n 0, 1) := dk_42 (dk_at dksX2_leastFacts_1 17 rfl rfl)
theorem dX2_leastFacts_41 : decode cX2_leastFacts 41 = .ok (.iload_n 1, 1) := dk_27 (dk_at dksX2_leastFacts_1 18 rfl rfl)
theorem dX2_leastFacts_42 : decode cX2_leastFacts 42 = .ok (.aload_n 0, 1) := dk_42 (dk_at dksX2_leastFacts_1 19 rfl rfl)
theorem dX2_leastFacts_43 : decode cX2_leastFacts 43 = .ok (.iload_n 1, 1) := dk_27 (dk_at dksX2_leastFacts_1 20 rfl rfl)
theorem dX2_leastFacts_44 : decode cX2_leastFacts 44 = .ok (.iconst 3, 1) := dk_6 (dk_at dksX2_leastFacts_1 21 rfl rfl)
theorem dX2_leastFacts_45 : decode cX2_leastFacts 45 = .ok (.invokevirtual 82, 3) := dk_182 0 82 (dk_at dksX2_leastFacts_2 0 rfl rfl)
theorem dX2_leastFacts_48 : decode cX2_leastFacts 48 = .ok (.iload_n 3, 1) := dk_29 (dk_at dksX2_leastFacts_2 3 rfl rfl)
theorem dX2_leastFacts_49 : decode cX2_leastFacts 49 = .ok (.ixor, 1) := dk_130 (dk_at dksX2_leastFacts_2 4 rfl rfl)
theorem dX2_leastFacts_50 : decode cX2_leastFacts 50 = .ok (.invokevirtual 458, 3) := dk_182 1 202 (dk_at dksX2_leastFacts_2 5 rfl rfl)
theorem dX2_leastFacts_53 : decode cX2_leastFacts 53 = .ok (.istore 4, 2) := dk_54 4 (dk_at dksX2_leastFacts_2 8 rfl rfl)
theorem dX2_leastFacts_55 : decode cX2_leastFacts 55 = .ok (.iload 4, 2) := dk_21 4 (dk_at dksX2_leastFacts_2 10 rfl rfl)
theorem dX2_leastFacts_57 : decode cX2_leastFacts 57 = .ok (.ifCond .eq 10, 3) := dk_153 0 10 (dk_at dksX2_leastFacts_2 12 rfl rfl)
theorem dX2_leastFacts_60 : decode cX2_leastFacts 60 = .ok (.iload 4, 2) := dk_21 4 (dk_at dksX2_leastFacts_2 15 rfl rfl)
theorem dX2_leastFacts_62 : decode cX2_leastFacts 62 = .ok (.bipush 15, 2) := dk_16 15 (dk_at dksX2_leastFacts_2 17 rfl rfl)
theorem dX2_leastFacts_64 : decode cX2_leastFacts 64 = .ok (.if_icmp .ne 5, 3) := dk_160 0 5 (dk_at dksX2_leastFacts_2 19 rfl rfl)
theorem dX2_leastFacts_67 : decode cX2_leastFacts 67 = .ok (.iload_n 3, 1) := dk_29 (dk_at dksX2_leastFacts_2 22 rfl rfl)
theorem dX2_leastFacts_68 : decode cX2_leastFacts 68 = .ok (.istore_n 2, 1) := dk_61 (dk_at dksX2_leastFacts_2 23 rfl rfl)
theorem dX2_leastFacts_69 : decode cX2_leastFacts 69 = .ok (.iinc 3 1, 3) := dk_132 3 1 (dk_at dksX2_leastFacts_3 0 rfl rfl)
theorem dX2_leastFacts_72 : decode cX2_leastFacts 72 = .ok (.goto (-58), 3) := dk_167 255 198 (dk_at dksX2_leastFacts_3 3 rfl rfl)
theorem dX2_leastFacts_75 : decode cX2_leastFacts 75 = .ok (.iload_n 2, 1) := dk_28 (dk_at dksX2_leastFacts_3 6 rfl rfl)
theorem dX2_leastFacts_76 : decode cX2_leastFacts 76 = .ok (.ireturn, 1) := dk_172 (dk_at dksX2_leastFacts_3 7 rfl rfl)
abbrev cX2_game : ByteArray := prog_20_method_117_code
def yX2_game : MethodName := ⟨RX2, "game", "(IZZ)I"⟩
def dkwX2_game_12 : List UInt8 := [162, 0, 7, 4, 167, 0, 4, 3, 172]
abbrev dktX2_game_12 : List UInt8 := dkwX2_game_12 ++ []
def dkwX2_game_11 : List UInt8 := [153, 0, 18, 21, 5, 21, 4, 164, 0, 7, 4, 167, 0, 19, 3, 167, 0, 15, 21, 5, 21, 4]
abbrev dktX2_game_11 : List UInt8 := dkwX2_game_11 ++ dktX2_game_12
def dkwX2_game_10 : List UInt8 := [16, 24, 46, 172, 42, 180, 0, 58, 16, 20, 46, 54, 4, 42, 180, 0, 58, 16, 21, 46, 54, 5, 28]
abbrev dktX2_game_10 : List UInt8 := dkwX2_game_10 ++ dktX2_game_11
def dkwX2_game_9 : List UInt8 := [21, 7, 79, 132, 6, 1, 167, 255, 144, 132, 4, 1, 167, 255, 105, 29, 154, 0, 11, 42, 180, 0, 58]
abbrev dktX2_game_9 : List UInt8 := dkwX2_game_9 ++ dktX2_game_10
def dkwX2_game_8 : List UInt8 := [3, 54, 9, 42, 180, 0, 58, 7, 21, 4, 104, 21, 6, 96, 21, 9, 153, 0, 8, 21, 8, 167, 0, 5]
abbrev dktX2_game_8 : List UInt8 := dkwX2_game_8 ++ dktX2_game_9
def dkwX2_game_7 : List UInt8 := [21, 7, 164, 0, 7, 4, 167, 0, 19, 3, 167, 0, 15, 21, 8, 21, 7, 162, 0, 7, 4, 167, 0, 4]
abbrev dktX2_game_7 : List UInt8 := dkwX2_game_7 ++ dktX2_game_8
def dkwX2_game_6 : List UInt8 := [4, 100, 104, 21, 6, 96, 4, 96, 46, 167, 0, 5, 21, 7, 54, 8, 21, 5, 153, 0, 18, 21, 8]
abbrev dktX2_game_6 : List UInt8 := dkwX2_game_6 ++ dktX2_game_7
def dkwX2_game_5 : List UInt8 := [21, 4, 4, 100, 104, 21, 6, 96, 46, 54, 7, 21, 6, 6, 162, 0, 22, 42, 180, 0, 58, 7, 21, 4]
abbrev dktX2_game_5 : List UInt8 := dkwX2_game_5 ++ dktX2_game_6
def dkwX2_game_4 : List UInt8 := [160, 0, 7, 4, 167, 0, 4, 3, 54, 5, 3, 54, 6, 21, 6, 6, 163, 0, 112, 42, 180, 0, 58, 7]
abbrev dktX2_game_4 : List UInt8 := dkwX2_game_4 ++ dktX2_game_5
def dkwX2_game_3 : List UInt8 := [54, 4, 21, 4, 16, 6, 163, 0, 150, 21, 4, 5, 112, 154, 0, 7, 4, 167, 0, 4, 3, 28]
abbrev dktX2_game_3 : List UInt8 := dkwX2_game_3 ++ dktX2_game_4
def dkwX2_game_2 : List UInt8 := [153, 0, 14, 19, 1, 205, 42, 180, 1, 187, 96, 167, 0, 4, 3, 79, 132, 4, 1, 167, 255, 210, 4]
abbrev dktX2_game_2 : List UInt8 := dkwX2_game_2 ++ dktX2_game_3
def dkwX2_game_1 : List UInt8 := [163, 0, 46, 42, 180, 0, 58, 21, 4, 42, 27, 3, 21, 4, 182, 1, 190, 153, 0, 21, 42, 180, 1, 184]
abbrev dktX2_game_1 : List UInt8 := dkwX2_game_1 ++ dktX2_game_2
def dkwX2_game_0 : List UInt8 := [42, 27, 182, 1, 121, 154, 0, 5, 2, 172, 42, 16, 40, 182, 1, 181, 87, 3, 54, 4, 21, 4, 6]
abbrev dktX2_game_0 : List UInt8 := dkwX2_game_0 ++ dktX2_game_1
theorem dksX2_game_0 : cX2_game.data.toList.drop 0 = dktX2_game_0 := by decide +kernel
theorem dksX2_game_1 : cX2_game.data.toList.drop 23 = dktX2_game_1 := dk_seg dksX2_game_0 23 rfl rfl
theorem dksX2_game_2 : cX2_game.data.toList.drop 47 = dktX2_game_2 := dk_seg dksX2_game_1 24 rfl rfl
theorem dksX2_game_3 : cX2_game.data.toList.drop 70 = dktX2_game_3 := dk_seg dksX2_game_2 23 rfl rfl
theorem dksX2_game_4 : cX2_game.data.toList.drop 92 = dktX2_game_4 := dk_seg dksX2_game_3 22 rfl rfl
theorem dksX2_game_5 : cX2_game.data.toList.drop 116 = dktX2_game_5 := dk_seg dksX2_game_4 24 rfl rfl
theorem dksX2_game_6 : cX2_game.data.toList.drop 140 = dktX2_game_6 := dk_seg dksX2_game_5 24 rfl rfl
theorem dksX2_game_7 : cX2_game.data.toList.drop 163 = dktX2_game_7 := dk_seg dksX2_game_6 23 rfl rfl
theorem dksX2_game_8 : cX2_game.data.toList.drop 187 = dktX2_game_8 := dk_seg dksX2_game_7 24 rfl rfl
theorem dksX2_game_9 : cX2_game.data.toList.drop 211 = dktX2_game_9 := dk_seg dksX2_game_8 24 rfl rfl
theorem dksX2_game_10 : cX2_game.data.toList.drop 234 = dktX2_game_10 := dk_seg dksX2_game_9 23 rfl rfl
theorem dksX2_game_11 : cX2_game.data.toList.drop 257 = dktX2_game_11 := dk_seg dksX2_game_10 23 rfl rfl
theorem dksX2_game_12 : cX2_game.data.toList.drop 279 = dktX2_game_12 := dk_seg dksX2_game_11 22 rfl rfl
theorem dX2_game_0 : decode cX2_game 0 = .ok (.aload_n 0, 1) := dk_42 (dk_at dksX2_game_0 0 rfl rfl)
theorem dX2_game_1 : decode cX2_game 1 = .ok (.iload_n 1, 1) := dk_27 (dk_at dksX2_game_0 1 rfl rfl)
theorem dX2_game_2 : decode cX2_game 2 = .ok (.invokevirtual 377, 3) := dk_182 1 121 (dk_at dksX2_game_0 2 rfl rfl)
theorem dX2_game_5 : decode cX2_game 5 = .ok (.ifCond .ne 5, 3) := dk_154 0 5 (dk_at dksX2_game_0 5 rfl rfl)
theorem dX2_game_8 : decode cX2_game 8 = .ok (.iconst (-1), 1) := dk_2 (dk_at dksX2_game_0 8 rfl rfl)
theorem dX2_game_9 : decode cX2_game 9 = .ok (.ireturn, 1) := dk_172 (dk_at dksX2_game_0 9 rfl rfl)
theorem dX2_game_10 : decode cX2_game 10 = .ok (.aload_n 0, 1) := dk_42 (dk_at dksX2_game_0 10 rfl rfl)
theorem dX2_game_11 : decode cX2_game 11 = .ok (.bipush 40, 2) := dk_16 40 (dk_at dksX2_game_0 11 rfl rfl)
theorem dX2_game_13 : decode cX2_game 13 = .ok (.invokevirtual 437, 3) := dk_182 1 181 (dk_at dksX2_game_0 13 rfl rfl)
theorem dX2_game_16 : decode cX2_game 16 = .ok (.pop, 1) := dk_87 (dk_at dksX2_game_0 16 rfl rfl)
theorem dX2_game_17 : decode cX2_game 17 = .ok (.iconst 0, 1) := dk_3 (dk_at dksX2_game_0 17 rfl rfl)
theorem dX2_game_18 : decode cX2_game 18 = .ok (.istore 4, 2) := dk_54 4 (dk_at dksX2_game_0 18 rfl rfl)
theorem dX2_game_20 : decode cX2_game 20 = .ok (.iload 4, 2) := dk_21 4 (dk_at dksX2_game_0 20 rfl rfl)
theorem dX2_game_22 : decode cX2_game 22 = .ok (.iconst 3, 1) := dk_6 (dk_at dksX2_game_0 22 rfl rfl)
theorem dX2_game_23 : decode cX2_game 23 = .ok (.if_icmp .gt 46, 3) := dk_163 0 46 (dk_at dksX2_game_1 0 rfl rfl)
theorem dX2_game_26 : decode cX2_game 26 = .ok (.aload_n 0, 1) := dk_42 (dk_at dksX2_game_1 3 rfl rfl)
theorem dX2_game_27 : decode cX2_game 27 = .ok (.getfield 58, 3) := dk_180 0 58 (dk_at dksX2_game_1 4 rfl rfl)
theorem dX2_game_30 : decode cX2_game 30 = .ok (.iload 4, 2) := dk_21 4 (dk_at dksX2_game_1 7 rfl rfl)
theorem dX2_game_32 : decode cX2_game 32 = .ok (.aload_n 0, 1) := dk_42 (dk_at dksX2_game_1 9 rfl rfl)
theorem dX2_game_33 : decode cX2_game 33 = .ok (.iload_n 1, 1) := dk_27 (dk_at dksX2_game_1 10 rfl rfl)
theorem dX2_game_34 : decode cX2_game 34 = .ok (.iconst 0, 1) := dk_3 (dk_at dksX2_game_1 11 rfl rfl)
theorem dX2_game_35 : decode cX2_game 35 = .ok (.iload 4, 2) := dk_21 4 (dk_at dksX2_game_1 12 rfl rfl)
theorem dX2_game_37 : decode cX2_game 37 = .ok (.invokevirtual 446, 3) := dk_182 1 190 (dk_at dksX2_game_1 14 rfl rfl)
theorem dX2_game_40 : decode cX2_game 40 = .ok (.ifCond .eq 21, 3) := dk_153 0 21 (dk_at dksX2_game_1 17 rfl rfl)
theorem dX2_game_43 : decode cX2_game 43 = .ok (.aload_n 0, 1) := dk_42 (dk_at dksX2_game_1 20 rfl rfl)
theorem dX2_game_44 : decode cX2_game 44 = .ok (.getfield 440, 3) := dk_180 1 184 (dk_at dksX2_game_1 21 rfl rfl)
theorem dX2_game_47 : decode cX2_game 47 = .ok (.ifCond .eq 14, 3) := dk_153 0 14 (dk_at dksX2_game_2 0 rfl rfl)
theorem dX2_game_50 : decode cX2_game 50 = .ok (.ldc_w 461, 3) := dk_19 1 205 (dk_at dksX2_game_2 3 rfl rfl)
theorem dX2_game_53 : decode cX2_game 53 = .ok (.aload_n 0, 1) := dk_42 (dk_at dksX2_game_2 6 rfl rfl)
theorem dX2_game_54 : decode cX2_game 54 = .ok (.getfield 443, 3) := dk_180 1 187 (dk_at dksX2_game_2 7 rfl rfl)
theorem dX2_game_57 : decode cX2_game 57 = .ok (.iadd, 1) := dk_96 (dk_at dksX2_game_2 10 rfl rfl)
theorem dX2_game_58 : decode cX2_game 58 = .ok (.goto 4, 3) := dk_167 0 4 (dk_at dksX2_game_2 11 rfl rfl)
theorem dX2_game_61 : decode cX2_game 61 = .ok (.iconst 0, 1) := dk_3 (dk_at dksX2_game_2 14 rfl rfl)
theorem dX2_game_62 : decode cX2_game 62 = .ok (.iastore, 1) := dk_79 (dk_at dksX2_game_2 15 rfl rfl)
theorem dX2_game_63 : decode cX2_game 63 = .ok (.iinc 4 1, 3) := dk_132 4 1 (dk_at dksX2_game_2 16 rfl rfl)
theorem dX2_game_66 : decode cX2_game 66 = .ok (.goto (-46), 3) := dk_167 255 210 (dk_at dksX2_game_2 19 rfl rfl)
theorem dX2_game_69 : decode cX2_game 69 = .ok (.iconst 1, 1) := dk_4 (dk_at dksX2_game_2 22 rfl rfl)
theorem dX2_game_70 : decode cX2_game 70 = .ok (.istore 4, 2) := dk_54 4 (dk_at dksX2_game_3 0 rfl rfl)
theorem dX2_game_72 : decode cX2_game 72 = .ok (.iload 4, 2) := dk_21 4 (dk_at dksX2_game_3 2 rfl rfl)
theorem dX2_game_74 : decode cX2_game 74 = .ok (.bipush 6, 2) := dk_16 6 (dk_at dksX2_game_3 4 rfl rfl)
theorem dX2_game_76 : decode cX2_game 76 = .ok (.if_icmp .gt 150, 3) := dk_163 0 150 (dk_at dksX2_game_3 6 rfl rfl)
theorem dX2_game_79 : decode cX2_game 79 = .ok (.iload 4, 2) := dk_21 4 (dk_at dksX2_game_3 9 rfl rfl)
theorem dX2_game_81 : decode cX2_game 81 = .ok (.iconst 2, 1) := dk_5 (dk_at dksX2_game_3 11 rfl rfl)
theorem dX2_game_82 : decode cX2_game 82 = .ok (.irem, 1) := dk_112 (dk_at dksX2_game_3 12 rfl rfl)
theorem dX2_game_83 : decode cX2_game 83 = .ok (.ifCond .ne 7, 3) := dk_154 0 7 (dk_at dksX2_game_3 13 rfl rfl)
theorem dX2_game_86 : decode cX2_game 86 = .ok (.iconst 1, 1) := dk_4 (dk_at dksX2_game_3 16 rfl rfl)
theorem dX2_game_87 : decode cX2_game 87 = .ok (.goto 4, 3) := dk_167 0 4 (dk_at dksX2_game_3 17 rfl rfl)
theorem dX2_game_90 : decode cX2_game 90 = .ok (.iconst 0, 1) := dk_3 (dk_at dksX2_game_3 20 rfl rfl)
theorem dX2_game_91 : decode cX2_game 91 = .ok (.iload_n 2, 1) := dk_28 (dk_at dksX2_game_3 21 rfl rfl)
theorem dX2_game_92 : decode cX2_game 92 = .ok (.if_icmp .ne 7, 3) := dk_160 0 7 (dk_at dksX2_game_4 0 rfl rfl)
theorem dX2_game_95 : decode cX2_game 95 = .ok (.iconst 1, 1) := dk_4 (dk_at dksX2_game_4 3 rfl rfl)
theorem dX2_game_96 : decode cX2_game 96 = .ok (.goto 4, 3) := dk_167 0 4 (dk_at dksX2_game_4 4 rfl rfl)
theorem dX2_game_99 : decode cX2_game 99 = .ok (.iconst 0, 1) := dk_3 (dk_at dksX2_game_4 7 rfl rfl)
theorem dX2_game_100 : decode cX2_game 100 = .ok (.istore 5, 2) := dk_54 5 (dk_at dksX2_game_4 8 rfl rfl)
theorem dX2_game_102 : decode cX2_game 102 = .ok (.iconst 0, 1) := dk_3 (dk_at dksX2_game_4 10 rfl rfl)
theorem dX2_game_103 : decode cX2_game 103 = .ok (.istore 6, 2) := dk_54 6 (dk_at dksX2_game_4 11 rfl rfl)
theorem dX2_game_105 : decode cX2_game 105 = .ok (.iload 6, 2) := dk_21 6 (dk_at dksX2_game_4 13 rfl rfl)
theorem dX2_game_107 : decode cX2_game 107 = .ok (.iconst 3, 1) := dk_6 (dk_at dksX2_game_4 15 rfl rfl)
theorem dX2_game_108 : decode cX2_game 108 = .ok (.if_icmp .gt 112, 3) := dk_163 0 112 (dk_at dksX2_game_4 16 rfl rfl)
theorem dX2_game_111 : decode cX2_game 111 = .ok (.aload_n 0, 1) := dk_42 (dk_at dksX2_game_4 19 rfl rfl)
theorem dX2_game_112 : decode cX2_game 112 = .ok (.getfield 58, 3) := dk_180 0 58 (dk_at dksX2_game_4 20 rfl rfl)
theorem dX2_game_115 : decode cX2_game 115 = .ok (.iconst 4, 1) := dk_7 (dk_at dksX2_game_4 23 rfl rfl)
theorem dX2_game_116 : decode cX2_game 116 = .ok (.iload 4, 2) := dk_21 4 (dk_at dksX2_game_5 0 rfl rfl)
theorem dX2_game_118 : decode cX2_game 118 = .ok (.iconst 1, 1) := dk_4 (dk_at dksX2_game_5 2 rfl rfl)
theorem dX2_game_119 : decode cX2_game 119 = .ok (.isub, 1) := dk_100 (dk_at dksX2_game_5 3 rfl rfl)
theorem dX2_game_120 : decode cX2_game 120 = .ok (.imul, 1) := dk_104 (dk_at dksX2_game_5 4 rfl rfl)
theorem dX2_game_121 : decode cX2_game 121 = .ok (.iload 6, 2) := dk_21 6 (dk_at dksX2_game_5 5 rfl rfl)
theorem dX2_game_123 : decode cX2_game 123 = .ok (.iadd, 1) := dk_96 (dk_at dksX2_game_5 7 rfl rfl)
theorem dX2_game_124 : decode cX2_game 124 = .ok (.iaload, 1) := dk_46 (dk_at dksX2_game_5 8 rfl rfl)
theorem dX2_game_125 : decode cX2_game 125 = .ok (.istore 7, 2) := dk_54 7 (dk_at dksX2_game_5 9 rfl rfl)
theorem dX2_game_127 : decode cX2_game 127 = .ok (.iload 6, 2) := dk_21 6 (dk_at dksX2_game_5 11 rfl rfl)
theorem dX2_game_129 : decode cX2_game 129 = .ok (.iconst 3, 1) := dk_6 (dk_at dksX2_game_5 13 rfl rfl)
theorem dX2_game_130 : decode cX2_game 130 = .ok (.if_icmp .ge 22, 3) := dk_162 0 22 (dk_at dksX2_game_5 14 rfl rfl)
theorem dX2_game_133 : decode cX2_game 133 = .ok (.aload_n 0, 1) := dk_42 (dk_at dksX2_game_5 17 rfl rfl)
theorem dX2_game_134 : decode cX2_game 134 = .ok (.getfield 58, 3) := dk_180 0 58 (dk_at dksX2_game_5 18 rfl rfl)
theorem dX2_game_137 : decode cX2_game 137 = .ok (.iconst 4, 1) := dk_7 (dk_at dksX2_game_5 21 rfl rfl)
theorem dX2_game_138 : decode cX2_game 138 = .ok (.iload 4, 2) := dk_21 4 (dk_at dksX2_game_5 22 rfl rfl)
theorem dX2_game_140 : decode cX2_game 140 = .ok (.iconst 1, 1) := dk_4 (dk_at dksX2_game_6 0 rfl rfl)
theorem dX2_game_141 : decode cX2_game 141 = .ok (.isub, 1) := dk_100 (dk_at dksX2_game_6 1 rfl rfl)
theorem dX2_game_142 : decode cX2_game 142 = .ok (.imul, 1) := dk_104 (dk_at dksX2_game_6 2 rfl rfl)
theorem dX2_game_143 : decode cX2_game 143 = .ok (.iload 6, 2) := dk_21 6 (dk_at dksX2_game_6 3 rfl rfl)
theorem dX2_game_145 : decode cX2_game 145 = .ok (.iadd, 1) := dk_96 (dk_at dksX2_game_6 5 rfl rfl)
theorem dX2_game_146 : decode cX2_game 146 = .ok (.iconst 1, 1) := dk_4 (dk_at dksX2_game_6 6 rfl rfl)
theorem dX2_game_147 : decode cX2_game 147 = .ok (.iadd, 1) := dk_96 (dk_at dksX2_game_6 7 rfl rfl)
theorem dX2_game_148 : decode cX2_game 148 = .ok (.iaload, 1) := dk_46 (dk_at dksX2_game_6 8 rfl rfl)
theorem dX2_game_149 : decode cX2_game 149 = .ok (.goto 5, 3) := dk_167 0 5 (dk_at dksX2_game_6 9 rfl rfl)
theorem dX2_game_152 : decode cX2_game 152 = .ok (.iload 7, 2) := dk_21 7 (dk_at dksX2_game_6 12 rfl rfl)
theorem dX2_game_154 : decode cX2_game 154 = .ok (.istore 8, 2) := dk_54 8 (dk_at dksX2_game_6 14 rfl rfl)
theorem dX2_game_156 : decode cX2_game 156 = .ok (.iload 5, 2) := dk_21 5 (dk_at dksX2_game_6 16 rfl rfl)
theorem dX2_game_158 : decode cX2_game 158 = .ok (.ifCond .eq 18, 3) := dk_153 0 18 (dk_at dksX2_game_6 18 rfl rfl)
theorem dX2_game_161 : decode cX2_game 161 = .ok (.iload 8, 2) := dk_21 8 (dk_at dksX2_game_6 21 rfl rfl)
theorem dX2_game_163 : decode cX2_game 163 = .ok (.iload 7, 2) := dk_21 7 (dk_at dksX2_game_7 0 rfl rfl)
theorem dX2_game_165 : decode cX2_game 165 = .ok (.if_icmp .le 7, 3) := dk_164 0 7 (dk_at dksX2_game_7 2 rfl rfl)
theorem dX2_game_168 : decode cX2_game 168 = .ok (.iconst 1, 1) := dk_4 (dk_at dksX2_game_7 5 rfl rfl)
theorem dX2_game_169 : decode cX2_game 169 = .ok (.goto 19, 3) := dk_167 0 19 (dk_at dksX2_game_7 6 rfl rfl)
theorem dX2_game_172 : decode cX2_game 172 = .ok (.iconst 0, 1) := dk_3 (dk_at dksX2_game_7 9 rfl rfl)
theorem dX2_game_173 : decode cX2_game 173 = .ok (.goto 15, 3) := dk_167 0 15 (dk_at dksX2_game_7 10 rfl rfl)
theorem dX2_game_176 : decode cX2_game 176 = .ok (.iload 8, 2) := dk_21 8 (dk_at dksX2_game_7 13 rfl rfl)
theorem dX2_game_178 : decode cX2_game 178 = .ok (.iload 7, 2) := dk_21 7 (dk_at dksX2_game_7 15 rfl rfl)
theorem dX2_game_180 : decode cX2_game 180 = .ok (.if_icmp .ge 7, 3) := dk_162 0 7 (dk_at dksX2_game_7 17 rfl rfl)
theorem dX2_game_183 : decode cX2_game 183 = .ok (.iconst 1, 1) := dk_4 (dk_at dksX2_game_7 20 rfl rfl)
theorem dX2_game_184 : decode cX2_game 184 = .ok (.goto 4, 3) := dk_167 0 4 (dk_at dksX2_game_7 21 rfl rfl)
theorem dX2_game_187 : decode cX2_game 187 = .ok (.iconst 0, 1) := dk_3 (dk_at dksX2_game_8 0 rfl rfl)
theorem dX2_game_188 : decode cX2_game 188 = .ok (.istore 9, 2) := dk_54 9 (dk_at dksX2_game_8 1 rfl rfl)
theorem dX2_game_190 : decode cX2_game 190 = .ok (.aload_n 0, 1) := dk_42 (dk_at dksX2_game_8 3 rfl rfl)
theorem dX2_game_191 : decode cX2_game 191 = .ok (.getfield 58, 3) := dk_180 0 58 (dk_at dksX2_game_8 4 rfl rfl)
theorem dX2_game_194 : decode cX2_game 194 = .ok (.iconst 4, 1) := dk_7 (dk_at dksX2_game_8 7 rfl rfl)
theorem dX2_game_195 : decode cX2_game 195 = .ok (.iload 4, 2) := dk_21 4 (dk_at dksX2_game_8 8 rfl rfl)
theorem dX2_game_197 : decode cX2_game 197 = .ok (.imul, 1) := dk_104 (dk_at dksX2_game_8 10 rfl rfl)
theorem dX2_game_198 : decode cX2_game 198 = .ok (.iload 6, 2) := dk_21 6 (dk_at dksX2_game_8 11 rfl rfl)
theorem dX2_game_200 : decode cX2_game 200 = .ok (.iadd, 1) := dk_96 (dk_at dksX2_game_8 13 rfl rfl)
theorem dX2_game_201 : decode cX2_game 201 = .ok (.iload 9, 2) := dk_21 9 (dk_at dksX2_game_8 14 rfl rfl)
theorem dX2_game_203 : decode cX2_game 203 = .ok (.ifCond .eq 8, 3) := dk_153 0 8 (dk_at dksX2_game_8 16 rfl rfl)
theorem dX2_game_206 : decode cX2_game 206 = .ok (.iload 8, 2) := dk_21 8 (dk_at dksX2_game_8 19 rfl rfl)
theorem dX2_game_208 : decode cX2_game 208 = .ok (.goto 5, 3) := dk_167 0 5 (dk_at dksX2_game_8 21 rfl rfl)
theorem dX2_game_211 : decode cX2_game 211 = .ok (.iload 7, 2) := dk_21 7 (dk_at dksX2_game_9 0 rfl rfl)
theorem dX2_game_213 : decode cX2_game 213 = .ok (.iastore, 1) := dk_79 (dk_at dksX2_game_9 2 rfl rfl)
theorem dX2_game_214 : decode cX2_game 214 = .ok (.iinc 6 1, 3) := dk_132 6 1 (dk_at dksX2_game_9 3 rfl rfl)
theorem dX2_game_217 : decode cX2_game 217 = .ok (.goto (-112), 3) := dk_167 255 144 (dk_at dksX2_game_9 6 rfl rfl)
theorem dX2_game_220 : decode cX2_game 220 = .ok (.iinc 4 1, 3) := dk_132 4 1 (dk_at dksX2_game_9 9 rfl rfl)
theorem dX2_game_223 : decode cX2_game 223 = .ok (.goto (-151), 3) := dk_167 255 105 (dk_at dksX2_game_9 12 rfl rfl)
theorem dX2_game_226 : decode cX2_game 226 = .ok (.iload_n 3, 1) := dk_29 (dk_at dksX2_game_9 15 rfl rfl)
theorem dX2_game_227 : decode cX2_game 227 = .ok (.ifCond .ne 11, 3) := dk_154 0 11 (dk_at dksX2_game_9 16 rfl rfl)
theorem dX2_game_230 : decode cX2_game 230 = .ok (.aload_n 0, 1) := dk_42 (dk_at dksX2_game_9 19 rfl rfl)
theorem dX2_game_231 : decode cX2_game 231 = .ok (.getfield 58, 3) := dk_180 0 58 (dk_at dksX2_game_9 20 rfl rfl)
theorem dX2_game_234 : decode cX2_game 234 = .ok (.bipush 24, 2) := dk_16 24 (dk_at dksX2_game_10 0 rfl rfl)
theorem dX2_game_236 : decode cX2_game 236 = .ok (.iaload, 1) := dk_46 (dk_at dksX2_game_10 2 rfl rfl)
theorem dX2_game_237 : decode cX2_game 237 = .ok (.ireturn, 1) := dk_172 (dk_at dksX2_game_10 3 rfl rfl)
theorem dX2_game_238 : decode cX2_game 238 = .ok (.aload_n 0, 1) := dk_42 (dk_at dksX2_game_10 4 rfl rfl)
theorem dX2_game_239 : decode cX2_game 239 = .ok (.getfield 58, 3) := dk_180 0 58 (dk_at dksX2_game_10 5 rfl rfl)
theorem dX2_game_242 : decode cX2_game 242 = .ok (.bipush 20, 2) := dk_16 20 (dk_at dksX2_game_10 8 rfl rfl)
theorem dX2_game_244 : decode cX2_game 244 = .ok (.iaload, 1) := dk_46 (dk_at dksX2_game_10 10 rfl rfl)
theorem dX2_game_245 : decode cX2_game 245 = .ok (.istore 4, 2) := dk_54 4 (dk_at dksX2_game_10 11 rfl rfl)
theorem dX2_game_247 : decode cX2_game 247 = .ok (.aload_n 0, 1) := dk_42 (dk_at dksX2_game_10 13 rfl rfl)
theorem dX2_game_248 : decode cX2_game 248 = .ok (.getfield 58, 3) := dk_180 0 58 (dk_at dksX2_game_10 14 rfl rfl)
theorem dX2_game_251 : decode cX2_game 251 = .ok (.bipush 21, 2) := dk_16 21 (dk_at dksX2_game_10 17 rfl rfl)
theorem dX2_game_253 : decode cX2_game 253 = .ok (.iaload, 1) := dk_46 (dk_at dksX2_game_10 19 rfl rfl)
theorem dX2_game_254 : decode cX2_game 254 = .ok (.istore 5, 2) := dk_54 5 (dk_at dksX2_game_10 20 rfl rfl)
theorem dX2_game_256 : decode cX2_game 256 = .ok (.iload_n 2, 1) := dk_28 (dk_at dksX2_game_10 22 rfl rfl)
theorem dX2_game_257 : decode cX2_game 257 = .ok (.ifCond .eq 18, 3) := dk_153 0 18 (dk_at dksX2_game_11 0 rfl rfl)
theorem dX2_game_260 : decode cX2_game 260 = .ok (.iload 5, 2) := dk_21 5 (dk_at dksX2_game_11 3 rfl rfl)
theorem dX2_game_262 : decode cX2_game 262 = .ok (.iload 4, 2) := dk_21 4 (dk_at dksX2_game_11 5 rfl rfl)
theorem dX2_game_264 : decode cX2_game 264 = .ok (.if_icmp .le 7, 3) := dk_164 0 7 (dk_at dksX2_game_11 7 rfl rfl)
theorem dX2_game_267 : decode cX2_game 267 = .ok (.iconst 1, 1) := dk_4 (dk_at dksX2_game_11 10 rfl rfl)
theorem dX2_game_268 : decode cX2_game 268 = .ok (.goto 19, 3) := dk_167 0 19 (dk_at dksX2_game_11 11 rfl rfl)
theorem dX2_game_271 : decode cX2_game 271 = .ok (.iconst 0, 1) := dk_3 (dk_at dksX2_game_11 14 rfl rfl)
theorem dX2_game_272 : decode cX2_game 272 = .ok (.goto 15, 3) := dk_167 0 15 (dk_at dksX2_game_11 15 rfl rfl)
theorem dX2_game_275 : decode cX2_game 275 = .ok (.iload 5, 2) := dk_21 5 (dk_at dksX2_game_11 18 rfl rfl)
theorem dX2_game_277 : decode cX2_game 277 = .ok (.iload 4, 2) := dk_21 4 (dk_at dksX2_game_11 20 rfl rfl)
theorem dX2_game_279 : decode cX2_game 279 = .ok (.if_icmp .ge 7, 3) := dk_162 0 7 (dk_at dksX2_game_12 0 rfl rfl)
theorem dX2_game_282 : decode cX2_game 282 = .ok (.iconst 1, 1) := dk_4 (dk_at dksX2_game_12 3 rfl rfl)
theorem dX2_game_283 : decode cX2_game 283 = .ok (.goto 4, 3) := dk_167 0 4 (dk_at dksX2_game_12 4 rfl rfl)
theorem dX2_game_286 : decode cX2_game 286 = .ok (.iconst 0, 1) := dk_3 (dk_at dksX2_game_12 7 rfl rfl)
theorem dX2_game_287 : decode cX2_game 287 = .ok (.ireturn, 1) := dk_172 (dk_at dksX2_game_12 8 rfl rfl)
abbrev cX2_session : ByteArray := prog_20_method_120_code
def yX2_session : MethodName := ⟨RX2, "session", "(II)I"⟩
def dkwX2_session_8 : List UInt8 := [21, 4, 167, 0, 9, 42, 180, 0, 67, 28, 46, 172]
abbrev dktX2_session_8 : List UInt8 := dkwX2_session_8 ++ []
def dkwX2_session_7 : List UInt8 := [46, 46, 79, 132, 7, 1, 167, 255, 228, 42, 29, 182, 1, 209, 54, 5, 167, 255, 192, 28, 2, 160, 0, 8]
abbrev dktX2_session_7 : List UInt8 := dkwX2_session_7 ++ dktX2_session_8
def dkwX2_session_6 : List UInt8 := [54, 7, 21, 7, 29, 162, 0, 28, 42, 180, 0, 67, 21, 7, 42, 180, 0, 61, 42, 180, 0, 64, 21, 7]
abbrev dktX2_session_6 : List UInt8 := dkwX2_session_6 ++ dktX2_session_7
def dkwX2_session_5 : List UInt8 := [21, 5, 153, 0, 65, 42, 29, 182, 1, 206, 54, 6, 21, 6, 21, 4, 164, 0, 41, 21, 6, 54, 4, 3]
abbrev dktX2_session_5 : List UInt8 := dkwX2_session_5 ++ dktX2_session_6
def dkwX2_session_4 : List UInt8 := [29, 79, 132, 3, 1, 132, 4, 1, 167, 255, 200, 42, 16, 60, 182, 1, 181, 87, 2, 54, 4, 4, 54, 5]
abbrev dktX2_session_4 : List UInt8 := dkwX2_session_4 ++ dktX2_session_5
def dkwX2_session_3 : List UInt8 := [21, 4, 182, 1, 121, 154, 0, 6, 16, 254, 172, 42, 180, 0, 61, 29, 21, 4, 79, 42, 180, 0, 64, 29]
abbrev dktX2_session_3 : List UInt8 := dkwX2_session_3 ++ dktX2_session_4
def dkwX2_session_2 : List UInt8 := [21, 4, 42, 180, 0, 7, 3, 46, 162, 0, 51, 27, 21, 4, 184, 0, 255, 154, 0, 6, 167, 0, 33, 42]
abbrev dktX2_session_2 : List UInt8 := dkwX2_session_2 ++ dktX2_session_3
def dkwX2_session_1 : List UInt8 := [163, 0, 16, 28, 2, 161, 0, 11, 28, 27, 184, 1, 83, 161, 0, 6, 16, 254, 172, 3, 62, 3, 54, 4]
abbrev dktX2_session_1 : List UInt8 := dkwX2_session_1 ++ dktX2_session_2
def dkwX2_session_0 : List UInt8 := [27, 4, 4, 42, 180, 0, 7, 3, 46, 120, 4, 100, 184, 0, 74, 153, 0, 24, 27, 184, 1, 83, 8]
abbrev dktX2_session_0 : List UInt8 := dkwX2_session_0 ++ dktX2_session_1
theorem dksX2_session_0 : cX2_session.data.toList.drop 0 = dktX2_session_0 := by decide +kernel
theorem dksX2_session_1 : cX2_session.data.toList.drop 23 = dktX2_session_1 := dk_seg dksX2_session_0 23 rfl rfl
theorem dksX2_session_2 : cX2_session.data.toList.drop 47 = dktX2_session_2 := dk_seg dksX2_session_1 24 rfl rfl
theorem dksX2_session_3 : cX2_session.data.toList.drop 71 = dktX2_session_3 := dk_seg dksX2_session_2 24 rfl rfl
theorem dksX2_session_4 : cX2_session.data.toList.drop 95 = dktX2_session_4 := dk_seg dksX2_session_3 24 rfl rfl
theorem dksX2_session_5 : cX2_session.data.toList.drop 119 = dktX2_session_5 := dk_seg dksX2_session_4 24 rfl rfl
theorem dksX2_session_6 : cX2_session.data.toList.drop 143 = dktX2_session_6 := dk_seg dksX2_session_5 24 rfl rfl
theorem dksX2_session_7 : cX2_session.data.toList.drop 167 = dktX2_session_7 := dk_seg dksX2_session_6 24 rfl rfl
theorem dksX2_session_8 : cX2_session.data.toList.drop 191 = dktX2_session_8 := dk_seg dksX2_session_7 24 rfl rfl
theorem dX2_session_0 : decode cX2_session 0 = .ok (.iload_n 1, 1) := dk_27 (dk_at dksX2_session_0 0 rfl rfl)
theorem dX2_session_1 : decode cX2_session 1 = .ok (.iconst 1, 1) := dk_4 (dk_at dksX2_session_0 1 rfl rfl)
theorem dX2_session_2 : decode cX2_session 2 = .ok (.iconst 1, 1) := dk_4 (dk_at dksX2_session_0 2 rfl rfl)
theorem dX2_session_3 : decode cX2_session 3 = .ok (.aload_n 0, 1) := dk_42 (dk_at dksX2_session_0 3 rfl rfl)
theorem dX2_session_4 : decode cX2_session 4 = .ok (.getfield 7, 3) := dk_180 0 7 (dk_at dksX2_session_0 4 rfl rfl)
theorem dX2_session_7 : decode cX2_session 7 = .ok (.iconst 0, 1) := dk_3 (dk_at dksX2_session_0 7 rfl rfl)
theorem dX2_session_8 : decode cX2_session 8 = .ok (.iaload, 1) := dk_46 (dk_at dksX2_session_0 8 rfl rfl)
theorem dX2_session_9 : decode cX2_session 9 = .ok (.ishl, 1) := dk_120 (dk_at dksX2_session_0 9 rfl rfl)
theorem dX2_session_10 : decode cX2_session 10 = .ok (.iconst 1, 1) := dk_4 (dk_at dksX2_session_0 10 rfl rfl)
theorem dX2_session_11 : decode cX2_session 11 = .ok (.isub, 1) := dk_100 (dk_at dksX2_session_0 11 rfl rfl)
theorem dX2_session_12 : decode cX2_session 12 = .ok (.invokestatic 74, 3) := dk_184 0 74 (dk_at dksX2_session_0 12 rfl rfl)
theorem dX2_session_15 : decode cX2_session 15 = .ok (.ifCond .eq 24, 3) := dk_153 0 24 (dk_at dksX2_session_0 15 rfl rfl)
theorem dX2_session_18 : decode cX2_session 18 = .ok (.iload_n 1, 1) := dk_27 (dk_at dksX2_session_0 18 rfl rfl)
theorem dX2_session_19 : decode cX2_session 19 = .ok (.invokestatic 339, 3) := dk_184 1 83 (dk_at dksX2_session_0 19 rfl rfl)
theorem dX2_session_22 : decode cX2_session 22 = .ok (.iconst 5, 1) := dk_8 (dk_at dksX2_session_0 22 rfl rfl)
theorem dX2_session_23 : decode cX2_session 23 = .ok (.if_icmp .gt 16, 3) := dk_163 0 16 (dk_at dksX2_session_1 0 rfl rfl)
theorem dX2_session_26 : decode cX2_session 26 = .ok (.iload_n 2, 1) := dk_28 (dk_at dksX2_session_1 3 rfl rfl)
theorem dX2_session_27 : decode cX2_session 27 = .ok (.iconst (-1), 1) := dk_2 (dk_at dksX2_session_1 4 rfl rfl)
theorem dX2_session_28 : decode cX2_session 28 = .ok (.if_icmp .lt 11, 3) := dk_161 0 11 (dk_at dksX2_session_1 5 rfl rfl)
theorem dX2_session_31 : decode cX2_session 31 = .ok (.iload_n 2, 1) := dk_28 (dk_at dksX2_session_1 8 rfl rfl)
theorem dX2_session_32 : decode cX2_session 32 = .ok (.iload_n 1, 1) := dk_27 (dk_at dksX2_session_1 9 rfl rfl)
theorem dX2_session_33 : decode cX2_session 33 = .ok (.invokestatic 339, 3) := dk_184 1 83 (dk_at dksX2_session_1 10 rfl rfl)
theorem dX2_session_36 : decode cX2_session 36 = .ok (.if_icmp .lt 6, 3) := dk_161 0 6 (dk_at dksX2_session_1 13 rfl rfl)
theorem dX2_session_39 : decode cX2_session 39 = .ok (.bipush (-2), 2) := dk_16 254 (dk_at dksX2_session_1 16 rfl rfl)
theorem dX2_session_41 : decode cX2_session 41 = .ok (.ireturn, 1) := dk_172 (dk_at dksX2_session_1 18 rfl rfl)
theorem dX2_session_42 : decode cX2_session 42 = .ok (.iconst 0, 1) := dk_3 (dk_at dksX2_session_1 19 rfl rfl)
theorem dX2_session_43 : decode cX2_session 43 = .ok (.istore_n 3, 1) := dk_62 (dk_at dksX2_session_1 20 rfl rfl)
theorem dX2_session_44 : decode cX2_session 44 = .ok (.iconst 0, 1) := dk_3 (dk_at dksX2_session_1 21 rfl rfl)
theorem dX2_session_45 : decode cX2_session 45 = .ok (.istore 4, 2) := dk_54 4 (dk_at dksX2_session_1 22 rfl rfl)
theorem dX2_session_47 : decode cX2_session 47 = .ok (.iload 4, 2) := dk_21 4 (dk_at dksX2_session_2 0 rfl rfl)
theorem dX2_session_49 : decode cX2_session 49 = .ok (.aload_n 0, 1) := dk_42 (dk_at dksX2_session_2 2 rfl rfl)
theorem dX2_session_50 : decode cX2_session 50 = .ok (.getfield 7, 3) := dk_180 0 7 (dk_at dksX2_session_2 3 rfl rfl)
theorem dX2_session_53 : decode cX2_session 53 = .ok (.iconst 0, 1) := dk_3 (dk_at dksX2_session_2 6 rfl rfl)
theorem dX2_session_54 : decode cX2_session 54 = .ok (.iaload, 1) := dk_46 (dk_at dksX2_session_2 7 rfl rfl)
theorem dX2_session_55 : decode cX2_session 55 = .ok (.if_icmp .ge 51, 3) := dk_162 0 51 (dk_at dksX2_session_2 8 rfl rfl)
theorem dX2_session_58 : decode cX2_session 58 = .ok (.iload_n 1, 1) := dk_27 (dk_at dksX2_session_2 11 rfl rfl)
theorem dX2_session_59 : decode cX2_session 59 = .ok (.iload 4, 2) := dk_21 4 (dk_at dksX2_session_2 12 rfl rfl)
theorem dX2_session_61 : decode cX2_session 61 = .ok (.invokestatic 255, 3) := dk_184 0 255 (dk_at dksX2_session_2 14 rfl rfl)
theorem dX2_session_64 : decode cX2_session 64 = .ok (.ifCond .ne 6, 3) := dk_154 0 6 (dk_at dksX2_session_2 17 rfl rfl)
theorem dX2_session_67 : decode cX2_session 67 = .ok (.goto 33, 3) := dk_167 0 33 (dk_at dksX2_session_2 20 rfl rfl)
theorem dX2_session_70 : decode cX2_session 70 = .ok (.aload_n 0, 1) := dk_42 (dk_at dksX2_session_2 23 rfl rfl)
theorem dX2_session_71 : decode cX2_session 71 = .ok (.iload 4, 2) := dk_21 4 (dk_at dksX2_session_3 0 rfl rfl)
theorem dX2_session_73 : decode cX2_session 73 = .ok (.invokevirtual 377, 3) := dk_182 1 121 (dk_at dksX2_session_3 2 rfl rfl)
theorem dX2_session_76 : decode cX2_session 76 = .ok (.ifCond .ne 6, 3) := dk_154 0 6 (dk_at dksX2_session_3 5 rfl rfl)
theorem dX2_session_79 : decode cX2_session 79 = .ok (.bipush (-2), 2) := dk_16 254 (dk_at dksX2_session_3 8 rfl rfl)
theorem dX2_session_81 : decode cX2_session 81 = .ok (.ireturn, 1) := dk_172 (dk_at dksX2_session_3 10 rfl rfl)
theorem dX2_session_82 : decode cX2_session 82 = .ok (.aload_n 0, 1) := dk_42 (dk_at dksX2_session_3 11 rfl rfl)
theorem dX2_session_83 : decode cX2_session 83 = .ok (.getfield 61, 3) := dk_180 0 61 (dk_at dksX2_session_3 12 rfl rfl)
theorem dX2_session_86 : decode cX2_session 86 = .ok (.iload_n 3, 1) := dk_29 (dk_at dksX2_session_3 15 rfl rfl)
theorem dX2_session_87 : decode cX2_session 87 = .ok (.iload 4, 2) := dk_21 4 (dk_at dksX2_session_3 16 rfl rfl)
theorem dX2_session_89 : decode cX2_session 89 = .ok (.iastore, 1) := dk_79 (dk_at dksX2_session_3 18 rfl rfl)
theorem dX2_session_90 : decode cX2_session 90 = .ok (.aload_n 0, 1) := dk_42 (dk_at dksX2_session_3 19 rfl rfl)
theorem dX2_session_91 : decode cX2_session 91 = .ok (.getfield 64, 3) := dk_180 0 64 (dk_at dksX2_session_3 20 rfl rfl)
theorem dX2_session_94 : decode cX2_session 94 = .ok (.iload_n 3, 1) := dk_29 (dk_at dksX2_session_3 23 rfl rfl)
theorem dX2_session_95 : decode cX2_session 95 = .ok (.iload_n 3, 1) := dk_29 (dk_at dksX2_session_4 0 rfl rfl)
theorem dX2_session_96 : decode cX2_session 96 = .ok (.iastore, 1) := dk_79 (dk_at dksX2_session_4 1 rfl rfl)
theorem dX2_session_97 : decode cX2_session 97 = .ok (.iinc 3 1, 3) := dk_132 3 1 (dk_at dksX2_session_4 2 rfl rfl)
theorem dX2_session_100 : decode cX2_session 100 = .ok (.iinc 4 1, 3) := dk_132 4 1 (dk_at dksX2_session_4 5 rfl rfl)
theorem dX2_session_103 : decode cX2_session 103 = .ok (.goto (-56), 3) := dk_167 255 200 (dk_at dksX2_session_4 8 rfl rfl)
theorem dX2_session_106 : decode cX2_session 106 = .ok (.aload_n 0, 1) := dk_42 (dk_at dksX2_session_4 11 rfl rfl)
theorem dX2_session_107 : decode cX2_session 107 = .ok (.bipush 60, 2) := dk_16 60 (dk_at dksX2_session_4 12 rfl rfl)
theorem dX2_session_109 : decode cX2_session 109 = .ok (.invokevirtual 437, 3) := dk_182 1 181 (dk_at dksX2_session_4 14 rfl rfl)
theorem dX2_session_112 : decode cX2_session 112 = .ok (.pop, 1) := dk_87 (dk_at dksX2_session_4 17 rfl rfl)
theorem dX2_session_113 : decode cX2_session 113 = .ok (.iconst (-1), 1) := dk_2 (dk_at dksX2_session_4 18 rfl rfl)
theorem dX2_session_114 : decode cX2_session 114 = .ok (.istore 4, 2) := dk_54 4 (dk_at dksX2_session_4 19 rfl rfl)
theorem dX2_session_116 : decode cX2_session 116 = .ok (.iconst 1, 1) := dk_4 (dk_at dksX2_session_4 21 rfl rfl)
theorem dX2_session_117 : decode cX2_session 117 = .ok (.istore 5, 2) := dk_54 5 (dk_at dksX2_session_4 22 rfl rfl)
theorem dX2_session_119 : decode cX2_session 119 = .ok (.iload 5, 2) := dk_21 5 (dk_at dksX2_session_5 0 rfl rfl)
theorem dX2_session_121 : decode cX2_session 121 = .ok (.ifCond .eq 65, 3) := dk_153 0 65 (dk_at dksX2_session_5 2 rfl rfl)
theorem dX2_session_124 : decode cX2_session 124 = .ok (.aload_n 0, 1) := dk_42 (dk_at dksX2_session_5 5 rfl rfl)
theorem dX2_session_125 : decode cX2_session 125 = .ok (.iload_n 3, 1) := dk_29 (dk_at dksX2_session_5 6 rfl rfl)
theorem dX2_session_126 : decode cX2_session 126 = .ok (.invokevirtual 462, 3) := dk_182 1 206 (dk_at dksX2_session_5 7 rfl rfl)
theorem dX2_session_129 : decode cX2_session 129 = .ok (.istore 6, 2) := dk_54 6 (dk_at dksX2_session_5 10 rfl rfl)
theorem dX2_session_131 : decode cX2_session 131 = .ok (.iload 6, 2) := dk_21 6 (dk_at dksX2_session_5 12 rfl rfl)
theorem dX2_session_133 : decode cX2_session 133 = .ok (.iload 4, 2) := dk_21 4 (dk_at dksX2_session_5 14 rfl rfl)
theorem dX2_session_135 : decode cX2_session 135 = .ok (.if_icmp .le 41, 3) := dk_164 0 41 (dk_at dksX2_session_5 16 rfl rfl)
theorem dX2_session_138 : decode cX2_session 138 = .ok (.iload 6, 2) := dk_21 6 (dk_at dksX2_session_5 19 rfl rfl)
theorem dX2_session_140 : decode cX2_session 140 = .ok (.istore 4, 2) := dk_54 4 (dk_at dksX2_session_5 21 rfl rfl)
theorem dX2_session_142 : decode cX2_session 142 = .ok (.iconst 0, 1) := dk_3 (dk_at dksX2_session_5 23 rfl rfl)
theorem dX2_session_143 : decode cX2_session 143 = .ok (.istore 7, 2) := dk_54 7 (dk_at dksX2_session_6 0 rfl rfl)
theorem dX2_session_145 : decode cX2_session 145 = .ok (.iload 7, 2) := dk_21 7 (dk_at dksX2_session_6 2 rfl rfl)
theorem dX2_session_147 : decode cX2_session 147 = .ok (.iload_n 3, 1) := dk_29 (dk_at dksX2_session_6 4 rfl rfl)
theorem dX2_session_148 : decode cX2_session 148 = .ok (.if_icmp .ge 28, 3) := dk_162 0 28 (dk_at dksX2_session_6 5 rfl rfl)
theorem dX2_session_151 : decode cX2_session 151 = .ok (.aload_n 0, 1) := dk_42 (dk_at dksX2_session_6 8 rfl rfl)
theorem dX2_session_152 : decode cX2_session 152 = .ok (.getfield 67, 3) := dk_180 0 67 (dk_at dksX2_session_6 9 rfl rfl)
theorem dX2_session_155 : decode cX2_session 155 = .ok (.iload 7, 2) := dk_21 7 (dk_at dksX2_session_6 12 rfl rfl)
theorem dX2_session_157 : decode cX2_session 157 = .ok (.aload_n 0, 1) := dk_42 (dk_at dksX2_session_6 14 rfl rfl)
theorem dX2_session_158 : decode cX2_session 158 = .ok (.getfield 61, 3) := dk_180 0 61 (dk_at dksX2_session_6 15 rfl rfl)
theorem dX2_session_161 : decode cX2_session 161 = .ok (.aload_n 0, 1) := dk_42 (dk_at dksX2_session_6 18 rfl rfl)
theorem dX2_session_162 : decode cX2_session 162 = .ok (.getfield 64, 3) := dk_180 0 64 (dk_at dksX2_session_6 19 rfl rfl)
theorem dX2_session_165 : decode cX2_session 165 = .ok (.iload 7, 2) := dk_21 7 (dk_at dksX2_session_6 22 rfl rfl)
theorem dX2_session_167 : decode cX2_session 167 = .ok (.iaload, 1) := dk_46 (dk_at dksX2_session_7 0 rfl rfl)
theorem dX2_session_168 : decode cX2_session 168 = .ok (.iaload, 1) := dk_46 (dk_at dksX2_session_7 1 rfl rfl)
theorem dX2_session_169 : decode cX2_session 169 = .ok (.iastore, 1) := dk_79 (dk_at dksX2_session_7 2 rfl rfl)
theorem dX2_session_170 : decode cX2_session 170 = .ok (.iinc 7 1, 3) := dk_132 7 1 (dk_at dksX2_session_7 3 rfl rfl)
theorem dX2_session_173 : decode cX2_session 173 = .ok (.goto (-28), 3) := dk_167 255 228 (dk_at dksX2_session_7 6 rfl rfl)
theorem dX2_session_176 : decode cX2_session 176 = .ok (.aload_n 0, 1) := dk_42 (dk_at dksX2_session_7 9 rfl rfl)
theorem dX2_session_177 : decode cX2_session 177 = .ok (.iload_n 3, 1) := dk_29 (dk_at dksX2_session_7 10 rfl rfl)
theorem dX2_session_178 : decode cX2_session 178 = .ok (.invokevirtual 465, 3) := dk_182 1 209 (dk_at dksX2_session_7 11 rfl rfl)
theorem dX2_session_181 : decode cX2_session 181 = .ok (.istore 5, 2) := dk_54 5 (dk_at dksX2_session_7 14 rfl rfl)
theorem dX2_session_183 : decode cX2_session 183 = .ok (.goto (-64), 3) := dk_167 255 192 (dk_at dksX2_session_7 16 rfl rfl)
theorem dX2_session_186 : decode cX2_session 186 = .ok (.iload_n 2, 1) := dk_28 (dk_at dksX2_session_7 19 rfl rfl)
theorem dX2_session_187 : decode cX2_session 187 = .ok (.iconst (-1), 1) := dk_2 (dk_at dksX2_session_7 20 rfl rfl)
theorem dX2_session_188 : decode cX2_session 188 = .ok (.if_icmp .ne 8, 3) := dk_160 0 8 (dk_at dksX2_session_7 21 rfl rfl)
theorem dX2_session_191 : decode cX2_session 191 = .ok (.iload 4, 2) := dk_21 4 (dk_at dksX2_session_8 0 rfl rfl)
theorem dX2_session_193 : decode cX2_session 193 = .ok (.goto 9, 3) := dk_167 0 9 (dk_at dksX2_session_8 2 rfl rfl)
theorem dX2_session_196 : decode cX2_session 196 = .ok (.aload_n 0, 1) := dk_42 (dk_at dksX2_session_8 5 rfl rfl)
theorem dX2_session_197 : decode cX2_session 197 = .ok (.getfield 67, 3) := dk_180 0 67 (dk_at dksX2_session_8 6 rfl rfl)
theorem dX2_session_200 : decode cX2_session 200 = .ok (.iload_n 2, 1) := dk_28 (dk_at dksX2_session_8 9 rfl rfl)
theorem dX2_session_201 : decode cX2_session 201 = .ok (.iaload, 1) := dk_46 (dk_at dksX2_session_8 10 rfl rfl)
theorem dX2_session_202 : decode cX2_session 202 = .ok (.ireturn, 1) := dk_172 (dk_at dksX2_session_8 11 rfl rfl)
abbrev cX2_sentencesBy : ByteArray := prog_20_method_119_code
def yX2_sentencesBy : MethodName := ⟨RX2, "sentencesBy", "(I)I"⟩
def dkwX2_sentencesBy_2 : List UInt8 := [42, 21, 5, 5, 182, 0, 82, 96, 62, 132, 4, 1, 167, 255, 203, 28, 172]
abbrev dktX2_sentencesBy_2 : List UInt8 := dkwX2_sentencesBy_2 ++ []
def dkwX2_sentencesBy_1 : List UInt8 := [46, 54, 5, 42, 21, 5, 29, 3, 182, 1, 190, 154, 0, 5, 28, 172, 28, 42, 180, 1, 187, 96, 61, 29]
abbrev dktX2_sentencesBy_1 : List UInt8 := dkwX2_sentencesBy_1 ++ dktX2_sentencesBy_2
def dkwX2_sentencesBy_0 : List UInt8 := [3, 61, 3, 62, 3, 54, 4, 21, 4, 27, 162, 0, 53, 42, 180, 0, 61, 42, 180, 0, 64, 21, 4, 46]
abbrev dktX2_sentencesBy_0 : List UInt8 := dkwX2_sentencesBy_0 ++ dktX2_sentencesBy_1
theorem dksX2_sentencesBy_0 : cX2_sentencesBy.data.toList.drop 0 = dktX2_sentencesBy_0 := by decide +kernel
theorem dksX2_sentencesBy_1 : cX2_sentencesBy.data.toList.drop 24 = dktX2_sentencesBy_1 := dk_seg dksX2_sentencesBy_0 24 rfl rfl
theorem dksX2_sentencesBy_2 : cX2_sentencesBy.data.toList.drop 48 = dktX2_sentencesBy_2 := dk_seg dksX2_sentencesBy_1 24 rfl rfl
theorem dX2_sentencesBy_0 : decode cX2_sentencesBy 0 = .ok (.iconst 0, 1) := dk_3 (dk_at dksX2_sentencesBy_0 0 rfl rfl)
theorem dX2_sentencesBy_1 : decode cX2_sentencesBy 1 = .ok (.istore_n 2, 1) := dk_61 (dk_at dksX2_sentencesBy_0 1 rfl rfl)
theorem dX2_sentencesBy_2 : decode cX2_sentencesBy 2 = .ok (.iconst 0, 1) := dk_3 (dk_at dksX2_sentencesBy_0 2 rfl rfl)
theorem dX2_sentencesBy_3 : decode cX2_sentencesBy 3 = .ok (.istore_n 3, 1) := dk_62 (dk_at dksX2_sentencesBy_0 3 rfl rfl)
theorem dX2_sentencesBy_4 : decode cX2_sentencesBy 4 = .ok (.iconst 0, 1) := dk_3 (dk_at dksX2_sentencesBy_0 4 rfl rfl)
theorem dX2_sentencesBy_5 : decode cX2_sentencesBy 5 = .ok (.istore 4, 2) := dk_54 4 (dk_at dksX2_sentencesBy_0 5 rfl rfl)
theorem dX2_sentencesBy_7 : decode cX2_sentencesBy 7 = .ok (.iload 4, 2) := dk_21 4 (dk_at dksX2_sentencesBy_0 7 rfl rfl)
theorem dX2_sentencesBy_9 : decode cX2_sentencesBy 9 = .ok (.iload_n 1, 1) := dk_27 (dk_at dksX2_sentencesBy_0 9 rfl rfl)
theorem dX2_sentencesBy_10 : decode cX2_sentencesBy 10 = .ok (.if_icmp .ge 53, 3) := dk_162 0 53 (dk_at dksX2_sentencesBy_0 10 rfl rfl)
theorem dX2_sentencesBy_13 : decode cX2_sentencesBy 13 = .ok (.aload_n 0, 1) := dk_42 (dk_at dksX2_sentencesBy_0 13 rfl rfl)
theorem dX2_sentencesBy_14 : decode cX2_sentencesBy 14 = .ok (.getfield 61, 3) := dk_180 0 61 (dk_at dksX2_sentencesBy_0 14 rfl rfl)
theorem dX2_sentencesBy_17 : decode cX2_sentencesBy 17 = .ok (.aload_n 0, 1) := dk_42 (dk_at dksX2_sentencesBy_0 17 rfl rfl)
theorem dX2_sentencesBy_18 : decode cX2_sentencesBy 18 = .ok (.getfield 64, 3) := dk_180 0 64 (dk_at dksX2_sentencesBy_0 18 rfl rfl)
theorem dX2_sentencesBy_21 : decode cX2_sentencesBy 21 = .ok (.iload 4, 2) := dk_21 4 (dk_at dksX2_sentencesBy_0 21 rfl rfl)
theorem dX2_sentencesBy_23 : decode cX2_sentencesBy 23 = .ok (.iaload, 1) := dk_46 (dk_at dksX2_sentencesBy_0 23 rfl rfl)
theorem dX2_sentencesBy_24 : decode cX2_sentencesBy 24 = .ok (.iaload, 1) := dk_46 (dk_at dksX2_sentencesBy_1 0 rfl rfl)
theorem dX2_sentencesBy_25 : decode cX2_sentencesBy 25 = .ok (.istore 5, 2) := dk_54 5 (dk_at dksX2_sentencesBy_1 1 rfl rfl)
theorem dX2_sentencesBy_27 : decode cX2_sentencesBy 27 = .ok (.aload_n 0, 1) := dk_42 (dk_at dksX2_sentencesBy_1 3 rfl rfl)
theorem dX2_sentencesBy_28 : decode cX2_sentencesBy 28 = .ok (.iload 5, 2) := dk_21 5 (dk_at dksX2_sentencesBy_1 4 rfl rfl)
theorem dX2_sentencesBy_30 : decode cX2_sentencesBy 30 = .ok (.iload_n 3, 1) := dk_29 (dk_at dksX2_sentencesBy_1 6 rfl rfl)
theorem dX2_sentencesBy_31 : decode cX2_sentencesBy 31 = .ok (.iconst 0, 1) := dk_3 (dk_at dksX2_sentencesBy_1 7 rfl rfl)
theorem dX2_sentencesBy_32 : decode cX2_sentencesBy 32 = .ok (.invokevirtual 446, 3) := dk_182 1 190 (dk_at dksX2_sentencesBy_1 8 rfl rfl)
theorem dX2_sentencesBy_35 : decode cX2_sentencesBy 35 = .ok (.ifCond .ne 5, 3) := dk_154 0 5 (dk_at dksX2_sentencesBy_1 11 rfl rfl)
theorem dX2_sentencesBy_38 : decode cX2_sentencesBy 38 = .ok (.iload_n 2, 1) := dk_28 (dk_at dksX2_sentencesBy_1 14 rfl rfl)
theorem dX2_sentencesBy_39 : decode cX2_sentencesBy 39 = .ok (.ireturn, 1) := dk_172 (dk_at dksX2_sentencesBy_1 15 rfl rfl)
theorem dX2_sentencesBy_40 : decode cX2_sentencesBy 40 = .ok (.iload_n 2, 1) := dk_28 (dk_at dksX2_sentencesBy_1 16 rfl rfl)
theorem dX2_sentencesBy_41 : decode cX2_sentencesBy 41 = .ok (.aload_n 0, 1) := dk_42 (dk_at dksX2_sentencesBy_1 17 rfl rfl)
theorem dX2_sentencesBy_42 : decode cX2_sentencesBy 42 = .ok (.getfield 443, 3) := dk_180 1 187 (dk_at dksX2_sentencesBy_1 18 rfl rfl)
theorem dX2_sentencesBy_45 : decode cX2_sentencesBy 45 = .ok (.iadd, 1) := dk_96 (dk_at dksX2_sentencesBy_1 21 rfl rfl)
theorem dX2_sentencesBy_46 : decode cX2_sentencesBy 46 = .ok (.istore_n 2, 1) := dk_61 (dk_at dksX2_sentencesBy_1 22 rfl rfl)
theorem dX2_sentencesBy_47 : decode cX2_sentencesBy 47 = .ok (.iload_n 3, 1) := dk_29 (dk_at dksX2_sentencesBy_1 23 rfl rfl)
theorem dX2_sentencesBy_48 : decode cX2_sentencesBy 48 = .ok (.aload_n 0, 1) := dk_42 (dk_at dksX2_sentencesBy_2 0 rfl rfl)
theorem dX2_sentencesBy_49 : decode cX2_sentencesBy 49 = .ok (.iload 5, 2) := dk_21 5 (dk_at dksX2_sentencesBy_2 1 rfl rfl)
theorem dX2_sentencesBy_51 : decode cX2_sentencesBy 51 = .ok (.iconst 2, 1) := dk_5 (dk_at dksX2_sentencesBy_2 3 rfl rfl)
theorem dX2_sentencesBy_52 : decode cX2_sentencesBy 52 = .ok (.invokevirtual 82, 3) := dk_182 0 82 (dk_at dksX2_sentencesBy_2 4 rfl rfl)
theorem dX2_sentencesBy_55 : decode cX2_sentencesBy 55 = .ok (.iadd, 1) := dk_96 (dk_at dksX2_sentencesBy_2 7 rfl rfl)
theorem dX2_sentencesBy_56 : decode cX2_sentencesBy 56 = .ok (.istore_n 3, 1) := dk_62 (dk_at dksX2_sentencesBy_2 8 rfl rfl)
theorem dX2_sentencesBy_57 : decode cX2_sentencesBy 57 = .ok (.iinc 4 1, 3) := dk_132 4 1 (dk_at dksX2_sentencesBy_2 9 rfl rfl)
theorem dX2_sentencesBy_60 : decode cX2_sentencesBy 60 = .ok (.goto (-53), 3) := dk_167 255 203 (dk_at dksX2_sentencesBy_2 12 rfl rfl)
theorem dX2_sentencesBy_63 : decode cX2_sentencesBy 63 = .ok (.iload_n 2, 1) := dk_28 (dk_at dksX2_sentencesBy_2 15 rfl rfl)
theorem dX2_sentencesBy_64 : decode cX2_sentencesBy 64 = .ok (.ireturn, 1) := dk_172 (dk_at dksX2_sentencesBy_2 16 rfl rfl)
abbrev cX2_nextRow : ByteArray := prog_20_method_118_code
def yX2_nextRow : MethodName := ⟨RX2, "nextRow", "(I)Z"⟩
def dkwX2_nextRow_6 : List UInt8 := [132, 5, 1, 132, 6, 255, 167, 255, 211, 4, 172]
abbrev dktX2_nextRow_6 : List UInt8 := dkwX2_nextRow_6 ++ []
def dkwX2_nextRow_5 : List UInt8 := [180, 0, 64, 21, 5, 42, 180, 0, 64, 21, 6, 46, 79, 42, 180, 0, 64, 21, 6, 21, 4, 79]
abbrev dktX2_nextRow_5 : List UInt8 := dkwX2_nextRow_5 ++ dktX2_nextRow_6
def dkwX2_nextRow_4 : List UInt8 := [54, 5, 27, 4, 100, 54, 6, 21, 5, 21, 6, 162, 0, 44, 42, 180, 0, 64, 21, 5, 46, 54, 4, 42]
abbrev dktX2_nextRow_4 : List UInt8 := dkwX2_nextRow_4 ++ dktX2_nextRow_5
def dkwX2_nextRow_3 : List UInt8 := [42, 180, 0, 64, 28, 42, 180, 0, 64, 29, 46, 79, 42, 180, 0, 64, 29, 21, 4, 79, 28, 4, 96]
abbrev dktX2_nextRow_3 : List UInt8 := dkwX2_nextRow_3 ++ dktX2_nextRow_4
def dkwX2_nextRow_2 : List UInt8 := [46, 42, 180, 0, 64, 28, 46, 162, 0, 9, 132, 3, 255, 167, 255, 238, 42, 180, 0, 64, 28, 46, 54, 4]
abbrev dktX2_nextRow_2 : List UInt8 := dkwX2_nextRow_2 ++ dktX2_nextRow_3
def dkwX2_nextRow_1 : List UInt8 := [164, 0, 9, 132, 2, 255, 167, 255, 232, 28, 156, 0, 5, 3, 172, 27, 4, 100, 62, 42, 180, 0, 64, 29]
abbrev dktX2_nextRow_1 : List UInt8 := dkwX2_nextRow_1 ++ dktX2_nextRow_2
def dkwX2_nextRow_0 : List UInt8 := [27, 5, 100, 61, 28, 155, 0, 26, 42, 180, 0, 64, 28, 46, 42, 180, 0, 64, 28, 4, 96, 46]
abbrev dktX2_nextRow_0 : List UInt8 := dkwX2_nextRow_0 ++ dktX2_nextRow_1
theorem dksX2_nextRow_0 : cX2_nextRow.data.toList.drop 0 = dktX2_nextRow_0 := by decide +kernel
theorem dksX2_nextRow_1 : cX2_nextRow.data.toList.drop 22 = dktX2_nextRow_1 := dk_seg dksX2_nextRow_0 22 rfl rfl
theorem dksX2_nextRow_2 : cX2_nextRow.data.toList.drop 46 = dktX2_nextRow_2 := dk_seg dksX2_nextRow_1 24 rfl rfl
theorem dksX2_nextRow_3 : cX2_nextRow.data.toList.drop 70 = dktX2_nextRow_3 := dk_seg dksX2_nextRow_2 24 rfl rfl
theorem dksX2_nextRow_4 : cX2_nextRow.data.toList.drop 93 = dktX2_nextRow_4 := dk_seg dksX2_nextRow_3 23 rfl rfl
theorem dksX2_nextRow_5 : cX2_nextRow.data.toList.drop 117 = dktX2_nextRow_5 := dk_seg dksX2_nextRow_4 24 rfl rfl
theorem dksX2_nextRow_6 : cX2_nextRow.data.toList.drop 139 = dktX2_nextRow_6 := dk_seg dksX2_nextRow_5 22 rfl rfl
theorem dX2_nextRow_0 : decode cX2_nextRow 0 = .ok (.iload_n 1, 1) := dk_27 (dk_at dksX2_nextRow_0 0 rfl rfl)
theorem dX2_nextRow_1 : decode cX2_nextRow 1 = .ok (.iconst 2, 1) := dk_5 (dk_at dksX2_nextRow_0 1 rfl rfl)
theorem dX2_nextRow_2 : decode cX2_nextRow 2 = .ok (.isub, 1) := dk_100 (dk_at dksX2_nextRow_0 2 rfl rfl)
theorem dX2_nextRow_3 : decode cX2_nextRow 3 = .ok (.istore_n 2, 1) := dk_61 (dk_at dksX2_nextRow_0 3 rfl rfl)
theorem dX2_nextRow_4 : decode cX2_nextRow 4 = .ok (.iload_n 2, 1) := dk_28 (dk_at dksX2_nextRow_0 4 rfl rfl)
theorem dX2_nextRow_5 : decode cX2_nextRow 5 = .ok (.ifCond .lt 26, 3) := dk_155 0 26 (dk_at dksX2_nextRow_0 5 rfl rfl)
theorem dX2_nextRow_8 : decode cX2_nextRow 8 = .ok (.aload_n 0, 1) := dk_42 (dk_at dksX2_nextRow_0 8 rfl rfl)
theorem dX2_nextRow_9 : decode cX2_nextRow 9 = .ok (.getfield 64, 3) := dk_180 0 64 (dk_at dksX2_nextRow_0 9 rfl rfl)
theorem dX2_nextRow_12 : decode cX2_nextRow 12 = .ok (.iload_n 2, 1) := dk_28 (dk_at dksX2_nextRow_0 12 rfl rfl)
theorem dX2_nextRow_13 : decode cX2_nextRow 13 = .ok (.iaload, 1) := dk_46 (dk_at dksX2_nextRow_0 13 rfl rfl)
theorem dX2_nextRow_14 : decode cX2_nextRow 14 = .ok (.aload_n 0, 1) := dk_42 (dk_at dksX2_nextRow_0 14 rfl rfl)
theorem dX2_nextRow_15 : decode cX2_nextRow 15 = .ok (.getfield 64, 3) := dk_180 0 64 (dk_at dksX2_nextRow_0 15 rfl rfl)
theorem dX2_nextRow_18 : decode cX2_nextRow 18 = .ok (.iload_n 2, 1) := dk_28 (dk_at dksX2_nextRow_0 18 rfl rfl)
theorem dX2_nextRow_19 : decode cX2_nextRow 19 = .ok (.iconst 1, 1) := dk_4 (dk_at dksX2_nextRow_0 19 rfl rfl)
theorem dX2_nextRow_20 : decode cX2_nextRow 20 = .ok (.iadd, 1) := dk_96 (dk_at dksX2_nextRow_0 20 rfl rfl)
theorem dX2_nextRow_21 : decode cX2_nextRow 21 = .ok (.iaload, 1) := dk_46 (dk_at dksX2_nextRow_0 21 rfl rfl)
theorem dX2_nextRow_22 : decode cX2_nextRow 22 = .ok (.if_icmp .le 9, 3) := dk_164 0 9 (dk_at dksX2_nextRow_1 0 rfl rfl)
theorem dX2_nextRow_25 : decode cX2_nextRow 25 = .ok (.iinc 2 (-1), 3) := dk_132 2 255 (dk_at dksX2_nextRow_1 3 rfl rfl)
theorem dX2_nextRow_28 : decode cX2_nextRow 28 = .ok (.goto (-24), 3) := dk_167 255 232 (dk_at dksX2_nextRow_1 6 rfl rfl)
theorem dX2_nextRow_31 : decode cX2_nextRow 31 = .ok (.iload_n 2, 1) := dk_28 (dk_at dksX2_nextRow_1 9 rfl rfl)
theorem dX2_nextRow_32 : decode cX2_nextRow 32 = .ok (.ifCond .ge 5, 3) := dk_156 0 5 (dk_at dksX2_nextRow_1 10 rfl rfl)
theorem dX2_nextRow_35 : decode cX2_nextRow 35 = .ok (.iconst 0, 1) := dk_3 (dk_at dksX2_nextRow_1 13 rfl rfl)
theorem dX2_nextRow_36 : decode cX2_nextRow 36 = .ok (.ireturn, 1) := dk_172 (dk_at dksX2_nextRow_1 14 rfl rfl)
theorem dX2_nextRow_37 : decode cX2_nextRow 37 = .ok (.iload_n 1, 1) := dk_27 (dk_at dksX2_nextRow_1 15 rfl rfl)
theorem dX2_nextRow_38 : decode cX2_nextRow 38 = .ok (.iconst 1, 1) := dk_4 (dk_at dksX2_nextRow_1 16 rfl rfl)
theorem dX2_nextRow_39 : decode cX2_nextRow 39 = .ok (.isub, 1) := dk_100 (dk_at dksX2_nextRow_1 17 rfl rfl)
theorem dX2_nextRow_40 : decode cX2_nextRow 40 = .ok (.istore_n 3, 1) := dk_62 (dk_at dksX2_nextRow_1 18 rfl rfl)
theorem dX2_nextRow_41 : decode cX2_nextRow 41 = .ok (.aload_n 0, 1) := dk_42 (dk_at dksX2_nextRow_1 19 rfl rfl)
theorem dX2_nextRow_42 : decode cX2_nextRow 42 = .ok (.getfield 64, 3) := dk_180 0 64 (dk_at dksX2_nextRow_1 20 rfl rfl)
theorem dX2_nextRow_45 : decode cX2_nextRow 45 = .ok (.iload_n 3, 1) := dk_29 (dk_at dksX2_nextRow_1 23 rfl rfl)
theorem dX2_nextRow_46 : decode cX2_nextRow 46 = .ok (.iaload, 1) := dk_46 (dk_at dksX2_nextRow_2 0 rfl rfl)
theorem dX2_nextRow_47 : decode cX2_nextRow 47 = .ok (.aload_n 0, 1) := dk_42 (dk_at dksX2_nextRow_2 1 rfl rfl)
theorem dX2_nextRow_48 : decode cX2_nextRow 48 = .ok (.getfield 64, 3) := dk_180 0 64 (dk_at dksX2_nextRow_2 2 rfl rfl)
theorem dX2_nextRow_51 : decode cX2_nextRow 51 = .ok (.iload_n 2, 1) := dk_28 (dk_at dksX2_nextRow_2 5 rfl rfl)
theorem dX2_nextRow_52 : decode cX2_nextRow 52 = .ok (.iaload, 1) := dk_46 (dk_at dksX2_nextRow_2 6 rfl rfl)
theorem dX2_nextRow_53 : decode cX2_nextRow 53 = .ok (.if_icmp .ge 9, 3) := dk_162 0 9 (dk_at dksX2_nextRow_2 7 rfl rfl)
theorem dX2_nextRow_56 : decode cX2_nextRow 56 = .ok (.iinc 3 (-1), 3) := dk_132 3 255 (dk_at dksX2_nextRow_2 10 rfl rfl)
theorem dX2_nextRow_59 : decode cX2_nextRow 59 = .ok (.goto (-18), 3) := dk_167 255 238 (dk_at dksX2_nextRow_2 13 rfl rfl)
theorem dX2_nextRow_62 : decode cX2_nextRow 62 = .ok (.aload_n 0, 1) := dk_42 (dk_at dksX2_nextRow_2 16 rfl rfl)
theorem dX2_nextRow_63 : decode cX2_nextRow 63 = .ok (.getfield 64, 3) := dk_180 0 64 (dk_at dksX2_nextRow_2 17 rfl rfl)
theorem dX2_nextRow_66 : decode cX2_nextRow 66 = .ok (.iload_n 2, 1) := dk_28 (dk_at dksX2_nextRow_2 20 rfl rfl)
theorem dX2_nextRow_67 : decode cX2_nextRow 67 = .ok (.iaload, 1) := dk_46 (dk_at dksX2_nextRow_2 21 rfl rfl)
theorem dX2_nextRow_68 : decode cX2_nextRow 68 = .ok (.istore 4, 2) := dk_54 4 (dk_at dksX2_nextRow_2 22 rfl rfl)
theorem dX2_nextRow_70 : decode cX2_nextRow 70 = .ok (.aload_n 0, 1) := dk_42 (dk_at dksX2_nextRow_3 0 rfl rfl)
theorem dX2_nextRow_71 : decode cX2_nextRow 71 = .ok (.getfield 64, 3) := dk_180 0 64 (dk_at dksX2_nextRow_3 1 rfl rfl)
theorem dX2_nextRow_74 : decode cX2_nextRow 74 = .ok (.iload_n 2, 1) := dk_28 (dk_at dksX2_nextRow_3 4 rfl rfl)
theorem dX2_nextRow_75 : decode cX2_nextRow 75 = .ok (.aload_n 0, 1) := dk_42 (dk_at dksX2_nextRow_3 5 rfl rfl)
theorem dX2_nextRow_76 : decode cX2_nextRow 76 = .ok (.getfield 64, 3) := dk_180 0 64 (dk_at dksX2_nextRow_3 6 rfl rfl)
theorem dX2_nextRow_79 : decode cX2_nextRow 79 = .ok (.iload_n 3, 1) := dk_29 (dk_at dksX2_nextRow_3 9 rfl rfl)
theorem dX2_nextRow_80 : decode cX2_nextRow 80 = .ok (.iaload, 1) := dk_46 (dk_at dksX2_nextRow_3 10 rfl rfl)
theorem dX2_nextRow_81 : decode cX2_nextRow 81 = .ok (.iastore, 1) := dk_79 (dk_at dksX2_nextRow_3 11 rfl rfl)
theorem dX2_nextRow_82 : decode cX2_nextRow 82 = .ok (.aload_n 0, 1) := dk_42 (dk_at dksX2_nextRow_3 12 rfl rfl)
theorem dX2_nextRow_83 : decode cX2_nextRow 83 = .ok (.getfield 64, 3) := dk_180 0 64 (dk_at dksX2_nextRow_3 13 rfl rfl)
theorem dX2_nextRow_86 : decode cX2_nextRow 86 = .ok (.iload_n 3, 1) := dk_29 (dk_at dksX2_nextRow_3 16 rfl rfl)
theorem dX2_nextRow_87 : decode cX2_nextRow 87 = .ok (.iload 4, 2) := dk_21 4 (dk_at dksX2_nextRow_3 17 rfl rfl)
theorem dX2_nextRow_89 : decode cX2_nextRow 89 = .ok (.iastore, 1) := dk_79 (dk_at dksX2_nextRow_3 19 rfl rfl)
theorem dX2_nextRow_90 : decode cX2_nextRow 90 = .ok (.iload_n 2, 1) := dk_28 (dk_at dksX2_nextRow_3 20 rfl rfl)
theorem dX2_nextRow_91 : decode cX2_nextRow 91 = .ok (.iconst 1, 1) := dk_4 (dk_at dksX2_nextRow_3 21 rfl rfl)
theorem dX2_nextRow_92 : decode cX2_nextRow 92 = .ok (.iadd, 1) := dk_96 (dk_at dksX2_nextRow_3 22 rfl rfl)
theorem dX2_nextRow_93 : decode cX2_nextRow 93 = .ok (.istore 5, 2) := dk_54 5 (dk_at dksX2_nextRow_4 0 rfl rfl)
theorem dX2_nextRow_95 : decode cX2_nextRow 95 = .ok (.iload_n 1, 1) := dk_27 (dk_at dksX2_nextRow_4 2 rfl rfl)
theorem dX2_nextRow_96 : decode cX2_nextRow 96 = .ok (.iconst 1, 1) := dk_4 (dk_at dksX2_nextRow_4 3 rfl rfl)
theorem dX2_nextRow_97 : decode cX2_nextRow 97 = .ok (.isub, 1) := dk_100 (dk_at dksX2_nextRow_4 4 rfl rfl)
theorem dX2_nextRow_98 : decode cX2_nextRow 98 = .ok (.istore 6, 2) := dk_54 6 (dk_at dksX2_nextRow_4 5 rfl rfl)
theorem dX2_nextRow_100 : decode cX2_nextRow 100 = .ok (.iload 5, 2) := dk_21 5 (dk_at dksX2_nextRow_4 7 rfl rfl)
theorem dX2_nextRow_102 : decode cX2_nextRow 102 = .ok (.iload 6, 2) := dk_21 6 (dk_at dksX2_nextRow_4 9 rfl rfl)
theorem dX2_nextRow_104 : decode cX2_nextRow 104 = .ok (.if_icmp .ge 44, 3) := dk_162 0 44 (dk_at dksX2_nextRow_4 11 rfl rfl)
theorem dX2_nextRow_107 : decode cX2_nextRow 107 = .ok (.aload_n 0, 1) := dk_42 (dk_at dksX2_nextRow_4 14 rfl rfl)
theorem dX2_nextRow_108 : decode cX2_nextRow 108 = .ok (.getfield 64, 3) := dk_180 0 64 (dk_at dksX2_nextRow_4 15 rfl rfl)
theorem dX2_nextRow_111 : decode cX2_nextRow 111 = .ok (.iload 5, 2) := dk_21 5 (dk_at dksX2_nextRow_4 18 rfl rfl)
theorem dX2_nextRow_113 : decode cX2_nextRow 113 = .ok (.iaload, 1) := dk_46 (dk_at dksX2_nextRow_4 20 rfl rfl)
theorem dX2_nextRow_114 : decode cX2_nextRow 114 = .ok (.istore 4, 2) := dk_54 4 (dk_at dksX2_nextRow_4 21 rfl rfl)
theorem dX2_nextRow_116 : decode cX2_nextRow 116 = .ok (.aload_n 0, 1) := dk_42 (dk_at dksX2_nextRow_4 23 rfl rfl)
theorem dX2_nextRow_117 : decode cX2_nextRow 117 = .ok (.getfield 64, 3) := dk_180 0 64 (dk_at dksX2_nextRow_5 0 rfl rfl)
theorem dX2_nextRow_120 : decode cX2_nextRow 120 = .ok (.iload 5, 2) := dk_21 5 (dk_at dksX2_nextRow_5 3 rfl rfl)
theorem dX2_nextRow_122 : decode cX2_nextRow 122 = .ok (.aload_n 0, 1) := dk_42 (dk_at dksX2_nextRow_5 5 rfl rfl)
theorem dX2_nextRow_123 : decode cX2_nextRow 123 = .ok (.getfield 64, 3) := dk_180 0 64 (dk_at dksX2_nextRow_5 6 rfl rfl)
theorem dX2_nextRow_126 : decode cX2_nextRow 126 = .ok (.iload 6, 2) := dk_21 6 (dk_at dksX2_nextRow_5 9 rfl rfl)
theorem dX2_nextRow_128 : decode cX2_nextRow 128 = .ok (.iaload, 1) := dk_46 (dk_at dksX2_nextRow_5 11 rfl rfl)
theorem dX2_nextRow_129 : decode cX2_nextRow 129 = .ok (.iastore, 1) := dk_79 (dk_at dksX2_nextRow_5 12 rfl rfl)
theorem dX2_nextRow_130 : decode cX2_nextRow 130 = .ok (.aload_n 0, 1) := dk_42 (dk_at dksX2_nextRow_5 13 rfl rfl)
theorem dX2_nextRow_131 : decode cX2_nextRow 131 = .ok (.getfield 64, 3) := dk_180 0 64 (dk_at dksX2_nextRow_5 14 rfl rfl)
theorem dX2_nextRow_134 : decode cX2_nextRow 134 = .ok (.iload 6, 2) := dk_21 6 (dk_at dksX2_nextRow_5 17 rfl rfl)
theorem dX2_nextRow_136 : decode cX2_nextRow 136 = .ok (.iload 4, 2) := dk_21 4 (dk_at dksX2_nextRow_5 19 rfl rfl)
theorem dX2_nextRow_138 : decode cX2_nextRow 138 = .ok (.iastore, 1) := dk_79 (dk_at dksX2_nextRow_5 21 rfl rfl)
theorem dX2_nextRow_139 : decode cX2_nextRow 139 = .ok (.iinc 5 1, 3) := dk_132 5 1 (dk_at dksX2_nextRow_6 0 rfl rfl)
theorem dX2_nextRow_142 : decode cX2_nextRow 142 = .ok (.iinc 6 (-1), 3) := dk_132 6 255 (dk_at dksX2_nextRow_6 3 rfl rfl)
theorem dX2_nextRow_145 : decode cX2_nextRow 145 = .ok (.goto (-45), 3) := dk_167 255 211 (dk_at dksX2_nextRow_6 6 rfl rfl)
theorem dX2_nextRow_148 : decode cX2_nextRow 148 = .ok (.iconst 1, 1) := dk_4 (dk_at dksX2_nextRow_6 9 rfl rfl)
theorem dX2_nextRow_149 : decode cX2_nextRow 149 = .ok (.ireturn, 1) := dk_172 (dk_at dksX2_nextRow_6 10 rfl rfl)
abbrev cX2_record : ByteArray := prog_20_method_121_code
def yX2_record : MethodName := ⟨RX2, "record", "(IIZ)I"⟩
def dkwX2_record_4 : List UInt8 := [180, 0, 7, 7, 92, 46, 4, 96, 79, 42, 180, 0, 7, 7, 46, 172]
abbrev dktX2_record_4 : List UInt8 := dkwX2_record_4 ++ []
def dkwX2_record_3 : List UInt8 := [4, 96, 28, 79, 42, 180, 0, 7, 21, 4, 5, 96, 29, 153, 0, 7, 4, 167, 0, 4, 3, 79, 42]
abbrev dktX2_record_3 : List UInt8 := dkwX2_record_3 ++ dktX2_record_4
def dkwX2_record_2 : List UInt8 := [42, 180, 0, 7, 7, 46, 104, 96, 54, 4, 42, 180, 0, 7, 21, 4, 27, 79, 42, 180, 0, 7, 21, 4]
abbrev dktX2_record_2 : List UInt8 := dkwX2_record_2 ++ dktX2_record_3
def dkwX2_record_1 : List UInt8 := [6, 184, 0, 74, 153, 0, 14, 42, 180, 0, 7, 7, 46, 16, 8, 160, 0, 6, 16, 254, 172, 16, 76, 6]
abbrev dktX2_record_1 : List UInt8 := dkwX2_record_1 ++ dktX2_record_2
def dkwX2_record_0 : List UInt8 := [27, 2, 160, 0, 12, 42, 180, 0, 7, 7, 3, 79, 3, 172, 42, 27, 182, 0, 78, 153, 0, 23, 28, 3]
abbrev dktX2_record_0 : List UInt8 := dkwX2_record_0 ++ dktX2_record_1
theorem dksX2_record_0 : cX2_record.data.toList.drop 0 = dktX2_record_0 := by decide +kernel
theorem dksX2_record_1 : cX2_record.data.toList.drop 24 = dktX2_record_1 := dk_seg dksX2_record_0 24 rfl rfl
theorem dksX2_record_2 : cX2_record.data.toList.drop 48 = dktX2_record_2 := dk_seg dksX2_record_1 24 rfl rfl
theorem dksX2_record_3 : cX2_record.data.toList.drop 72 = dktX2_record_3 := dk_seg dksX2_record_2 24 rfl rfl
theorem dksX2_record_4 : cX2_record.data.toList.drop 95 = dktX2_record_4 := dk_seg dksX2_record_3 23 rfl rfl
theorem dX2_record_0 : decode cX2_record 0 = .ok (.iload_n 1, 1) := dk_27 (dk_at dksX2_record_0 0 rfl rfl)
theorem dX2_record_1 : decode cX2_record 1 = .ok (.iconst (-1), 1) := dk_2 (dk_at dksX2_record_0 1 rfl rfl)
theorem dX2_record_2 : decode cX2_record 2 = .ok (.if_icmp .ne 12, 3) := dk_160 0 12 (dk_at dksX2_record_0 2 rfl rfl)
theorem dX2_record_5 : decode cX2_record 5 = .ok (.aload_n 0, 1) := dk_42 (dk_at dksX2_record_0 5 rfl rfl)
theorem dX2_record_6 : decode cX2_record 6 = .ok (.getfield 7, 3) := dk_180 0 7 (dk_at dksX2_record_0 6 rfl rfl)
theorem dX2_record_9 : decode cX2_record 9 = .ok (.iconst 4, 1) := dk_7 (dk_at dksX2_record_0 9 rfl rfl)
theorem dX2_record_10 : decode cX2_record 10 = .ok (.iconst 0, 1) := dk_3 (dk_at dksX2_record_0 10 rfl rfl)
theorem dX2_record_11 : decode cX2_record 11 = .ok (.iastore, 1) := dk_79 (dk_at dksX2_record_0 11 rfl rfl)
theorem dX2_record_12 : decode cX2_record 12 = .ok (.iconst 0, 1) := dk_3 (dk_at dksX2_record_0 12 rfl rfl)
theorem dX2_record_13 : decode cX2_record 13 = .ok (.ireturn, 1) := dk_172 (dk_at dksX2_record_0 13 rfl rfl)
theorem dX2_record_14 : decode cX2_record 14 = .ok (.aload_n 0, 1) := dk_42 (dk_at dksX2_record_0 14 rfl rfl)
theorem dX2_record_15 : decode cX2_record 15 = .ok (.iload_n 1, 1) := dk_27 (dk_at dksX2_record_0 15 rfl rfl)
theorem dX2_record_16 : decode cX2_record 16 = .ok (.invokevirtual 78, 3) := dk_182 0 78 (dk_at dksX2_record_0 16 rfl rfl)
theorem dX2_record_19 : decode cX2_record 19 = .ok (.ifCond .eq 23, 3) := dk_153 0 23 (dk_at dksX2_record_0 19 rfl rfl)
theorem dX2_record_22 : decode cX2_record 22 = .ok (.iload_n 2, 1) := dk_28 (dk_at dksX2_record_0 22 rfl rfl)
theorem dX2_record_23 : decode cX2_record 23 = .ok (.iconst 0, 1) := dk_3 (dk_at dksX2_record_0 23 rfl rfl)
theorem dX2_record_24 : decode cX2_record 24 = .ok (.iconst 3, 1) := dk_6 (dk_at dksX2_record_1 0 rfl rfl)
theorem dX2_record_25 : decode cX2_record 25 = .ok (.invokestatic 74, 3) := dk_184 0 74 (dk_at dksX2_record_1 1 rfl rfl)
theorem dX2_record_28 : decode cX2_record 28 = .ok (.ifCond .eq 14, 3) := dk_153 0 14 (dk_at dksX2_record_1 4 rfl rfl)
theorem dX2_record_31 : decode cX2_record 31 = .ok (.aload_n 0, 1) := dk_42 (dk_at dksX2_record_1 7 rfl rfl)
theorem dX2_record_32 : decode cX2_record 32 = .ok (.getfield 7, 3) := dk_180 0 7 (dk_at dksX2_record_1 8 rfl rfl)
theorem dX2_record_35 : decode cX2_record 35 = .ok (.iconst 4, 1) := dk_7 (dk_at dksX2_record_1 11 rfl rfl)
theorem dX2_record_36 : decode cX2_record 36 = .ok (.iaload, 1) := dk_46 (dk_at dksX2_record_1 12 rfl rfl)
theorem dX2_record_37 : decode cX2_record 37 = .ok (.bipush 8, 2) := dk_16 8 (dk_at dksX2_record_1 13 rfl rfl)
theorem dX2_record_39 : decode cX2_record 39 = .ok (.if_icmp .ne 6, 3) := dk_160 0 6 (dk_at dksX2_record_1 15 rfl rfl)
theorem dX2_record_42 : decode cX2_record 42 = .ok (.bipush (-2), 2) := dk_16 254 (dk_at dksX2_record_1 18 rfl rfl)
theorem dX2_record_44 : decode cX2_record 44 = .ok (.ireturn, 1) := dk_172 (dk_at dksX2_record_1 20 rfl rfl)
theorem dX2_record_45 : decode cX2_record 45 = .ok (.bipush 76, 2) := dk_16 76 (dk_at dksX2_record_1 21 rfl rfl)
theorem dX2_record_47 : decode cX2_record 47 = .ok (.iconst 3, 1) := dk_6 (dk_at dksX2_record_1 23 rfl rfl)
theorem dX2_record_48 : decode cX2_record 48 = .ok (.aload_n 0, 1) := dk_42 (dk_at dksX2_record_2 0 rfl rfl)
theorem dX2_record_49 : decode cX2_record 49 = .ok (.getfield 7, 3) := dk_180 0 7 (dk_at dksX2_record_2 1 rfl rfl)
theorem dX2_record_52 : decode cX2_record 52 = .ok (.iconst 4, 1) := dk_7 (dk_at dksX2_record_2 4 rfl rfl)
theorem dX2_record_53 : decode cX2_record 53 = .ok (.iaload, 1) := dk_46 (dk_at dksX2_record_2 5 rfl rfl)
theorem dX2_record_54 : decode cX2_record 54 = .ok (.imul, 1) := dk_104 (dk_at dksX2_record_2 6 rfl rfl)
theorem dX2_record_55 : decode cX2_record 55 = .ok (.iadd, 1) := dk_96 (dk_at dksX2_record_2 7 rfl rfl)
theorem dX2_record_56 : decode cX2_record 56 = .ok (.istore 4, 2) := dk_54 4 (dk_at dksX2_record_2 8 rfl rfl)
theorem dX2_record_58 : decode cX2_record 58 = .ok (.aload_n 0, 1) := dk_42 (dk_at dksX2_record_2 10 rfl rfl)
theorem dX2_record_59 : decode cX2_record 59 = .ok (.getfield 7, 3) := dk_180 0 7 (dk_at dksX2_record_2 11 rfl rfl)
theorem dX2_record_62 : decode cX2_record 62 = .ok (.iload 4, 2) := dk_21 4 (dk_at dksX2_record_2 14 rfl rfl)
theorem dX2_record_64 : decode cX2_record 64 = .ok (.iload_n 1, 1) := dk_27 (dk_at dksX2_record_2 16 rfl rfl)
theorem dX2_record_65 : decode cX2_record 65 = .ok (.iastore, 1) := dk_79 (dk_at dksX2_record_2 17 rfl rfl)
theorem dX2_record_66 : decode cX2_record 66 = .ok (.aload_n 0, 1) := dk_42 (dk_at dksX2_record_2 18 rfl rfl)
theorem dX2_record_67 : decode cX2_record 67 = .ok (.getfield 7, 3) := dk_180 0 7 (dk_at dksX2_record_2 19 rfl rfl)
theorem dX2_record_70 : decode cX2_record 70 = .ok (.iload 4, 2) := dk_21 4 (dk_at dksX2_record_2 22 rfl rfl)
theorem dX2_record_72 : decode cX2_record 72 = .ok (.iconst 1, 1) := dk_4 (dk_at dksX2_record_3 0 rfl rfl)
theorem dX2_record_73 : decode cX2_record 73 = .ok (.iadd, 1) := dk_96 (dk_at dksX2_record_3 1 rfl rfl)
theorem dX2_record_74 : decode cX2_record 74 = .ok (.iload_n 2, 1) := dk_28 (dk_at dksX2_record_3 2 rfl rfl)
theorem dX2_record_75 : decode cX2_record 75 = .ok (.iastore, 1) := dk_79 (dk_at dksX2_record_3 3 rfl rfl)
theorem dX2_record_76 : decode cX2_record 76 = .ok (.aload_n 0, 1) := dk_42 (dk_at dksX2_record_3 4 rfl rfl)
theorem dX2_record_77 : decode cX2_record 77 = .ok (.getfield 7, 3) := dk_180 0 7 (dk_at dksX2_record_3 5 rfl rfl)
theorem dX2_record_80 : decode cX2_record 80 = .ok (.iload 4, 2) := dk_21 4 (dk_at dksX2_record_3 8 rfl rfl)
theorem dX2_record_82 : decode cX2_record 82 = .ok (.iconst 2, 1) := dk_5 (dk_at dksX2_record_3 10 rfl rfl)
theorem dX2_record_83 : decode cX2_record 83 = .ok (.iadd, 1) := dk_96 (dk_at dksX2_record_3 11 rfl rfl)
theorem dX2_record_84 : decode cX2_record 84 = .ok (.iload_n 3, 1) := dk_29 (dk_at dksX2_record_3 12 rfl rfl)
theorem dX2_record_85 : decode cX2_record 85 = .ok (.ifCond .eq 7, 3) := dk_153 0 7 (dk_at dksX2_record_3 13 rfl rfl)
theorem dX2_record_88 : decode cX2_record 88 = .ok (.iconst 1, 1) := dk_4 (dk_at dksX2_record_3 16 rfl rfl)
theorem dX2_record_89 : decode cX2_record 89 = .ok (.goto 4, 3) := dk_167 0 4 (dk_at dksX2_record_3 17 rfl rfl)
theorem dX2_record_92 : decode cX2_record 92 = .ok (.iconst 0, 1) := dk_3 (dk_at dksX2_record_3 20 rfl rfl)
theorem dX2_record_93 : decode cX2_record 93 = .ok (.iastore, 1) := dk_79 (dk_at dksX2_record_3 21 rfl rfl)
theorem dX2_record_94 : decode cX2_record 94 = .ok (.aload_n 0, 1) := dk_42 (dk_at dksX2_record_3 22 rfl rfl)
theorem dX2_record_95 : decode cX2_record 95 = .ok (.getfield 7, 3) := dk_180 0 7 (dk_at dksX2_record_4 0 rfl rfl)
theorem dX2_record_98 : decode cX2_record 98 = .ok (.iconst 4, 1) := dk_7 (dk_at dksX2_record_4 3 rfl rfl)
theorem dX2_record_99 : decode cX2_record 99 = .ok (.dup2, 1) := dk_92 (dk_at dksX2_record_4 4 rfl rfl)
theorem dX2_record_100 : decode cX2_record 100 = .ok (.iaload, 1) := dk_46 (dk_at dksX2_record_4 5 rfl rfl)
theorem dX2_record_101 : decode cX2_record 101 = .ok (.iconst 1, 1) := dk_4 (dk_at dksX2_record_4 6 rfl rfl)
theorem dX2_record_102 : decode cX2_record 102 = .ok (.iadd, 1) := dk_96 (dk_at dksX2_record_4 7 rfl rfl)
theorem dX2_record_103 : decode cX2_record 103 = .ok (.iastore, 1) := dk_79 (dk_at dksX2_record_4 8 rfl rfl)
theorem dX2_record_104 : decode cX2_record 104 = .ok (.aload_n 0, 1) := dk_42 (dk_at dksX2_record_4 9 rfl rfl)
theorem dX2_record_105 : decode cX2_record 105 = .ok (.getfield 7, 3) := dk_180 0 7 (dk_at dksX2_record_4 10 rfl rfl)
theorem dX2_record_108 : decode cX2_record 108 = .ok (.iconst 4, 1) := dk_7 (dk_at dksX2_record_4 13 rfl rfl)
theorem dX2_record_109 : decode cX2_record 109 = .ok (.iaload, 1) := dk_46 (dk_at dksX2_record_4 14 rfl rfl)
theorem dX2_record_110 : decode cX2_record 110 = .ok (.ireturn, 1) := dk_172 (dk_at dksX2_record_4 15 rfl rfl)
abbrev cX2_turned : ByteArray := prog_20_method_123_code
def yX2_turned : MethodName := ⟨RX2, "turned", "()I"⟩
def dkwX2_turned_1 : List UInt8 := [4, 28, 120, 167, 0, 4, 3, 128, 60, 132, 2, 1, 167, 255, 224, 27, 172]
abbrev dktX2_turned_1 : List UInt8 := dkwX2_turned_1 ++ []
def dkwX2_turned_0 : List UInt8 := [3, 60, 3, 61, 28, 7, 162, 0, 33, 27, 42, 42, 180, 0, 7, 5, 46, 28, 182, 1, 212, 154, 0, 9]
abbrev dktX2_turned_0 : List UInt8 := dkwX2_turned_0 ++ dktX2_turned_1
theorem dksX2_turned_0 : cX2_turned.data.toList.drop 0 = dktX2_turned_0 := by decide +kernel
theorem dksX2_turned_1 : cX2_turned.data.toList.drop 24 = dktX2_turned_1 := dk_seg dksX2_turned_0 24 rfl rfl
theorem dX2_turned_0 : decode cX2_turned 0 = .ok (.iconst 0, 1) := dk_3 (dk_at dksX2_turned_0 0 rfl rfl)
theorem dX2_turned_1 : decode cX2_turned 1 = .ok (.istore_n 1, 1) := dk_60 (dk_at dksX2_turned_0 1 rfl rfl)
theorem dX2_turned_2 : decode cX2_turned 2 = .ok (.iconst 0, 1) := dk_3 (dk_at dksX2_turned_0 2 rfl rfl)
theorem dX2_turned_3 : decode cX2_turned 3 = .ok (.istore_n 2, 1) := dk_61 (dk_at dksX2_turned_0 3 rfl rfl)
theorem dX2_turned_4 : decode cX2_turned 4 = .ok (.iload_n 2, 1) := dk_28 (dk_at dksX2_turned_0 4 rfl rfl)
theorem dX2_turned_5 : decode cX2_turned 5 = .ok (.iconst 4, 1) := dk_7 (dk_at dksX2_turned_0 5 rfl rfl)
theorem dX2_turned_6 : decode cX2_turned 6 = .ok (.if_icmp .ge 33, 3) := dk_162 0 33 (dk_at dksX2_turned_0 6 rfl rfl)
theorem dX2_turned_9 : decode cX2_turned 9 = .ok (.iload_n 1, 1) := dk_27 (dk_at dksX2_turned_0 9 rfl rfl)
theorem dX2_turned_10 : decode cX2_turned 10 = .ok (.aload_n 0, 1) := dk_42 (dk_at dksX2_turned_0 10 rfl rfl)
theorem dX2_turned_11 : decode cX2_turned 11 = .ok (.aload_n 0, 1) := dk_42 (dk_at dksX2_turned_0 11 rfl rfl)
theorem dX2_turned_12 : decode cX2_turned 12 = .ok (.getfield 7, 3) := dk_180 0 7 (dk_at dksX2_turned_0 12 rfl rfl)
theorem dX2_turned_15 : decode cX2_turned 15 = .ok (.iconst 2, 1) := dk_5 (dk_at dksX2_turned_0 15 rfl rfl)
theorem dX2_turned_16 : decode cX2_turned 16 = .ok (.iaload, 1) := dk_46 (dk_at dksX2_turned_0 16 rfl rfl)
theorem dX2_turned_17 : decode cX2_turned 17 = .ok (.iload_n 2, 1) := dk_28 (dk_at dksX2_turned_0 17 rfl rfl)
theorem dX2_turned_18 : decode cX2_turned 18 = .ok (.invokevirtual 468, 3) := dk_182 1 212 (dk_at dksX2_turned_0 18 rfl rfl)
theorem dX2_turned_21 : decode cX2_turned 21 = .ok (.ifCond .ne 9, 3) := dk_154 0 9 (dk_at dksX2_turned_0 21 rfl rfl)
theorem dX2_turned_24 : decode cX2_turned 24 = .ok (.iconst 1, 1) := dk_4 (dk_at dksX2_turned_1 0 rfl rfl)
theorem dX2_turned_25 : decode cX2_turned 25 = .ok (.iload_n 2, 1) := dk_28 (dk_at dksX2_turned_1 1 rfl rfl)
theorem dX2_turned_26 : decode cX2_turned 26 = .ok (.ishl, 1) := dk_120 (dk_at dksX2_turned_1 2 rfl rfl)
theorem dX2_turned_27 : decode cX2_turned 27 = .ok (.goto 4, 3) := dk_167 0 4 (dk_at dksX2_turned_1 3 rfl rfl)
theorem dX2_turned_30 : decode cX2_turned 30 = .ok (.iconst 0, 1) := dk_3 (dk_at dksX2_turned_1 6 rfl rfl)
theorem dX2_turned_31 : decode cX2_turned 31 = .ok (.ior, 1) := dk_128 (dk_at dksX2_turned_1 7 rfl rfl)
theorem dX2_turned_32 : decode cX2_turned 32 = .ok (.istore_n 1, 1) := dk_60 (dk_at dksX2_turned_1 8 rfl rfl)
theorem dX2_turned_33 : decode cX2_turned 33 = .ok (.iinc 2 1, 3) := dk_132 2 1 (dk_at dksX2_turned_1 9 rfl rfl)
theorem dX2_turned_36 : decode cX2_turned 36 = .ok (.goto (-32), 3) := dk_167 255 224 (dk_at dksX2_turned_1 12 rfl rfl)
theorem dX2_turned_39 : decode cX2_turned 39 = .ok (.iload_n 1, 1) := dk_27 (dk_at dksX2_turned_1 15 rfl rfl)
theorem dX2_turned_40 : decode cX2_turned 40 = .ok (.ireturn, 1) := dk_172 (dk_at dksX2_turned_1 16 rfl rfl)
abbrev cX2_wrongBy : ByteArray := prog_20_method_122_code
def yX2_wrongBy : MethodName := ⟨RX2, "wrongBy", "(II)I"⟩
def dkwX2_wrongBy_4 : List UInt8 := [4, 96, 62, 132, 4, 1, 167, 255, 161, 29, 172]
abbrev dktX2_wrongBy_4 : List UInt8 := dkwX2_wrongBy_4 ++ []
def dkwX2_wrongBy_3 : List UInt8 := [180, 0, 7, 21, 5, 5, 96, 46, 4, 160, 0, 7, 4, 167, 0, 4, 3, 160, 0, 7, 3, 167, 0, 4]
abbrev dktX2_wrongBy_3 : List UInt8 := dkwX2_wrongBy_3 ++ dktX2_wrongBy_4
def dkwX2_wrongBy_2 : List UInt8 := [96, 7, 112, 21, 6, 42, 21, 6, 5, 182, 0, 82, 42, 21, 6, 6, 182, 0, 82, 182, 1, 93, 42]
abbrev dktX2_wrongBy_2 : List UInt8 := dkwX2_wrongBy_2 ++ dktX2_wrongBy_3
def dkwX2_wrongBy_1 : List UInt8 := [54, 5, 42, 180, 0, 7, 21, 5, 46, 54, 6, 29, 42, 27, 42, 180, 0, 7, 21, 5, 4, 96, 46, 28]
abbrev dktX2_wrongBy_1 : List UInt8 := dkwX2_wrongBy_1 ++ dktX2_wrongBy_2
def dkwX2_wrongBy_0 : List UInt8 := [3, 62, 3, 54, 4, 21, 4, 42, 180, 0, 7, 7, 46, 162, 0, 90, 16, 76, 6, 21, 4, 104, 96]
abbrev dktX2_wrongBy_0 : List UInt8 := dkwX2_wrongBy_0 ++ dktX2_wrongBy_1
theorem dksX2_wrongBy_0 : cX2_wrongBy.data.toList.drop 0 = dktX2_wrongBy_0 := by decide +kernel
theorem dksX2_wrongBy_1 : cX2_wrongBy.data.toList.drop 23 = dktX2_wrongBy_1 := dk_seg dksX2_wrongBy_0 23 rfl rfl
theorem dksX2_wrongBy_2 : cX2_wrongBy.data.toList.drop 47 = dktX2_wrongBy_2 := dk_seg dksX2_wrongBy_1 24 rfl rfl
theorem dksX2_wrongBy_3 : cX2_wrongBy.data.toList.drop 70 = dktX2_wrongBy_3 := dk_seg dksX2_wrongBy_2 23 rfl rfl
theorem dksX2_wrongBy_4 : cX2_wrongBy.data.toList.drop 94 = dktX2_wrongBy_4 := dk_seg dksX2_wrongBy_3 24 rfl rfl
theorem dX2_wrongBy_0 : decode cX2_wrongBy 0 = .ok (.iconst 0, 1) := dk_3 (dk_at dksX2_wrongBy_0 0 rfl rfl)
theorem dX2_wrongBy_1 : decode cX2_wrongBy 1 = .ok (.istore_n 3, 1) := dk_62 (dk_at dksX2_wrongBy_0 1 rfl rfl)
theorem dX2_wrongBy_2 : decode cX2_wrongBy 2 = .ok (.iconst 0, 1) := dk_3 (dk_at dksX2_wrongBy_0 2 rfl rfl)
theorem dX2_wrongBy_3 : decode cX2_wrongBy 3 = .ok (.istore 4, 2) := dk_54 4 (dk_at dksX2_wrongBy_0 3 rfl rfl)
theorem dX2_wrongBy_5 : decode cX2_wrongBy 5 = .ok (.iload 4, 2) := dk_21 4 (dk_at dksX2_wrongBy_0 5 rfl rfl)
theorem dX2_wrongBy_7 : decode cX2_wrongBy 7 = .ok (.aload_n 0, 1) := dk_42 (dk_at dksX2_wrongBy_0 7 rfl rfl)
theorem dX2_wrongBy_8 : decode cX2_wrongBy 8 = .ok (.getfield 7, 3) := dk_180 0 7 (dk_at dksX2_wrongBy_0 8 rfl rfl)
theorem dX2_wrongBy_11 : decode cX2_wrongBy 11 = .ok (.iconst 4, 1) := dk_7 (dk_at dksX2_wrongBy_0 11 rfl rfl)
theorem dX2_wrongBy_12 : decode cX2_wrongBy 12 = .ok (.iaload, 1) := dk_46 (dk_at dksX2_wrongBy_0 12 rfl rfl)
theorem dX2_wrongBy_13 : decode cX2_wrongBy 13 = .ok (.if_icmp .ge 90, 3) := dk_162 0 90 (dk_at dksX2_wrongBy_0 13 rfl rfl)
theorem dX2_wrongBy_16 : decode cX2_wrongBy 16 = .ok (.bipush 76, 2) := dk_16 76 (dk_at dksX2_wrongBy_0 16 rfl rfl)
theorem dX2_wrongBy_18 : decode cX2_wrongBy 18 = .ok (.iconst 3, 1) := dk_6 (dk_at dksX2_wrongBy_0 18 rfl rfl)
theorem dX2_wrongBy_19 : decode cX2_wrongBy 19 = .ok (.iload 4, 2) := dk_21 4 (dk_at dksX2_wrongBy_0 19 rfl rfl)
theorem dX2_wrongBy_21 : decode cX2_wrongBy 21 = .ok (.imul, 1) := dk_104 (dk_at dksX2_wrongBy_0 21 rfl rfl)
theorem dX2_wrongBy_22 : decode cX2_wrongBy 22 = .ok (.iadd, 1) := dk_96 (dk_at dksX2_wrongBy_0 22 rfl rfl)
theorem dX2_wrongBy_23 : decode cX2_wrongBy 23 = .ok (.istore 5, 2) := dk_54 5 (dk_at dksX2_wrongBy_1 0 rfl rfl)
theorem dX2_wrongBy_25 : decode cX2_wrongBy 25 = .ok (.aload_n 0, 1) := dk_42 (dk_at dksX2_wrongBy_1 2 rfl rfl)
theorem dX2_wrongBy_26 : decode cX2_wrongBy 26 = .ok (.getfield 7, 3) := dk_180 0 7 (dk_at dksX2_wrongBy_1 3 rfl rfl)
theorem dX2_wrongBy_29 : decode cX2_wrongBy 29 = .ok (.iload 5, 2) := dk_21 5 (dk_at dksX2_wrongBy_1 6 rfl rfl)
theorem dX2_wrongBy_31 : decode cX2_wrongBy 31 = .ok (.iaload, 1) := dk_46 (dk_at dksX2_wrongBy_1 8 rfl rfl)
theorem dX2_wrongBy_32 : decode cX2_wrongBy 32 = .ok (.istore 6, 2) := dk_54 6 (dk_at dksX2_wrongBy_1 9 rfl rfl)
theorem dX2_wrongBy_34 : decode cX2_wrongBy 34 = .ok (.iload_n 3, 1) := dk_29 (dk_at dksX2_wrongBy_1 11 rfl rfl)
theorem dX2_wrongBy_35 : decode cX2_wrongBy 35 = .ok (.aload_n 0, 1) := dk_42 (dk_at dksX2_wrongBy_1 12 rfl rfl)
theorem dX2_wrongBy_36 : decode cX2_wrongBy 36 = .ok (.iload_n 1, 1) := dk_27 (dk_at dksX2_wrongBy_1 13 rfl rfl)
theorem dX2_wrongBy_37 : decode cX2_wrongBy 37 = .ok (.aload_n 0, 1) := dk_42 (dk_at dksX2_wrongBy_1 14 rfl rfl)
theorem dX2_wrongBy_38 : decode cX2_wrongBy 38 = .ok (.getfield 7, 3) := dk_180 0 7 (dk_at dksX2_wrongBy_1 15 rfl rfl)
theorem dX2_wrongBy_41 : decode cX2_wrongBy 41 = .ok (.iload 5, 2) := dk_21 5 (dk_at dksX2_wrongBy_1 18 rfl rfl)
theorem dX2_wrongBy_43 : decode cX2_wrongBy 43 = .ok (.iconst 1, 1) := dk_4 (dk_at dksX2_wrongBy_1 20 rfl rfl)
theorem dX2_wrongBy_44 : decode cX2_wrongBy 44 = .ok (.iadd, 1) := dk_96 (dk_at dksX2_wrongBy_1 21 rfl rfl)
theorem dX2_wrongBy_45 : decode cX2_wrongBy 45 = .ok (.iaload, 1) := dk_46 (dk_at dksX2_wrongBy_1 22 rfl rfl)
theorem dX2_wrongBy_46 : decode cX2_wrongBy 46 = .ok (.iload_n 2, 1) := dk_28 (dk_at dksX2_wrongBy_1 23 rfl rfl)
theorem dX2_wrongBy_47 : decode cX2_wrongBy 47 = .ok (.iadd, 1) := dk_96 (dk_at dksX2_wrongBy_2 0 rfl rfl)
theorem dX2_wrongBy_48 : decode cX2_wrongBy 48 = .ok (.iconst 4, 1) := dk_7 (dk_at dksX2_wrongBy_2 1 rfl rfl)
theorem dX2_wrongBy_49 : decode cX2_wrongBy 49 = .ok (.irem, 1) := dk_112 (dk_at dksX2_wrongBy_2 2 rfl rfl)
theorem dX2_wrongBy_50 : decode cX2_wrongBy 50 = .ok (.iload 6, 2) := dk_21 6 (dk_at dksX2_wrongBy_2 3 rfl rfl)
theorem dX2_wrongBy_52 : decode cX2_wrongBy 52 = .ok (.aload_n 0, 1) := dk_42 (dk_at dksX2_wrongBy_2 5 rfl rfl)
theorem dX2_wrongBy_53 : decode cX2_wrongBy 53 = .ok (.iload 6, 2) := dk_21 6 (dk_at dksX2_wrongBy_2 6 rfl rfl)
theorem dX2_wrongBy_55 : decode cX2_wrongBy 55 = .ok (.iconst 2, 1) := dk_5 (dk_at dksX2_wrongBy_2 8 rfl rfl)
theorem dX2_wrongBy_56 : decode cX2_wrongBy 56 = .ok (.invokevirtual 82, 3) := dk_182 0 82 (dk_at dksX2_wrongBy_2 9 rfl rfl)
theorem dX2_wrongBy_59 : decode cX2_wrongBy 59 = .ok (.aload_n 0, 1) := dk_42 (dk_at dksX2_wrongBy_2 12 rfl rfl)
theorem dX2_wrongBy_60 : decode cX2_wrongBy 60 = .ok (.iload 6, 2) := dk_21 6 (dk_at dksX2_wrongBy_2 13 rfl rfl)
theorem dX2_wrongBy_62 : decode cX2_wrongBy 62 = .ok (.iconst 3, 1) := dk_6 (dk_at dksX2_wrongBy_2 15 rfl rfl)
theorem dX2_wrongBy_63 : decode cX2_wrongBy 63 = .ok (.invokevirtual 82, 3) := dk_182 0 82 (dk_at dksX2_wrongBy_2 16 rfl rfl)
theorem dX2_wrongBy_66 : decode cX2_wrongBy 66 = .ok (.invokevirtual 349, 3) := dk_182 1 93 (dk_at dksX2_wrongBy_2 19 rfl rfl)
theorem dX2_wrongBy_69 : decode cX2_wrongBy 69 = .ok (.aload_n 0, 1) := dk_42 (dk_at dksX2_wrongBy_2 22 rfl rfl)
theorem dX2_wrongBy_70 : decode cX2_wrongBy 70 = .ok (.getfield 7, 3) := dk_180 0 7 (dk_at dksX2_wrongBy_3 0 rfl rfl)
theorem dX2_wrongBy_73 : decode cX2_wrongBy 73 = .ok (.iload 5, 2) := dk_21 5 (dk_at dksX2_wrongBy_3 3 rfl rfl)
theorem dX2_wrongBy_75 : decode cX2_wrongBy 75 = .ok (.iconst 2, 1) := dk_5 (dk_at dksX2_wrongBy_3 5 rfl rfl)
theorem dX2_wrongBy_76 : decode cX2_wrongBy 76 = .ok (.iadd, 1) := dk_96 (dk_at dksX2_wrongBy_3 6 rfl rfl)
theorem dX2_wrongBy_77 : decode cX2_wrongBy 77 = .ok (.iaload, 1) := dk_46 (dk_at dksX2_wrongBy_3 7 rfl rfl)
theorem dX2_wrongBy_78 : decode cX2_wrongBy 78 = .ok (.iconst 1, 1) := dk_4 (dk_at dksX2_wrongBy_3 8 rfl rfl)
theorem dX2_wrongBy_79 : decode cX2_wrongBy 79 = .ok (.if_icmp .ne 7, 3) := dk_160 0 7 (dk_at dksX2_wrongBy_3 9 rfl rfl)
theorem dX2_wrongBy_82 : decode cX2_wrongBy 82 = .ok (.iconst 1, 1) := dk_4 (dk_at dksX2_wrongBy_3 12 rfl rfl)
theorem dX2_wrongBy_83 : decode cX2_wrongBy 83 = .ok (.goto 4, 3) := dk_167 0 4 (dk_at dksX2_wrongBy_3 13 rfl rfl)
theorem dX2_wrongBy_86 : decode cX2_wrongBy 86 = .ok (.iconst 0, 1) := dk_3 (dk_at dksX2_wrongBy_3 16 rfl rfl)
theorem dX2_wrongBy_87 : decode cX2_wrongBy 87 = .ok (.if_icmp .ne 7, 3) := dk_160 0 7 (dk_at dksX2_wrongBy_3 17 rfl rfl)
theorem dX2_wrongBy_90 : decode cX2_wrongBy 90 = .ok (.iconst 0, 1) := dk_3 (dk_at dksX2_wrongBy_3 20 rfl rfl)
theorem dX2_wrongBy_91 : decode cX2_wrongBy 91 = .ok (.goto 4, 3) := dk_167 0 4 (dk_at dksX2_wrongBy_3 21 rfl rfl)
theorem dX2_wrongBy_94 : decode cX2_wrongBy 94 = .ok (.iconst 1, 1) := dk_4 (dk_at dksX2_wrongBy_4 0 rfl rfl)
theorem dX2_wrongBy_95 : decode cX2_wrongBy 95 = .ok (.iadd, 1) := dk_96 (dk_at dksX2_wrongBy_4 1 rfl rfl)
theorem dX2_wrongBy_96 : decode cX2_wrongBy 96 = .ok (.istore_n 3, 1) := dk_62 (dk_at dksX2_wrongBy_4 2 rfl rfl)
theorem dX2_wrongBy_97 : decode cX2_wrongBy 97 = .ok (.iinc 4 1, 3) := dk_132 4 1 (dk_at dksX2_wrongBy_4 3 rfl rfl)
theorem dX2_wrongBy_100 : decode cX2_wrongBy 100 = .ok (.goto (-95), 3) := dk_167 255 161 (dk_at dksX2_wrongBy_4 6 rfl rfl)
theorem dX2_wrongBy_103 : decode cX2_wrongBy 103 = .ok (.iload_n 3, 1) := dk_29 (dk_at dksX2_wrongBy_4 9 rfl rfl)
theorem dX2_wrongBy_104 : decode cX2_wrongBy 104 = .ok (.ireturn, 1) := dk_172 (dk_at dksX2_wrongBy_4 10 rfl rfl)
abbrev cX2_fewestWrong : ByteArray := prog_20_method_124_code
def yX2_fewestWrong : MethodName := ⟨RX2, "fewestWrong", "()I"⟩
def dkwX2_fewestWrong_2 : List UInt8 := [167, 255, 217, 27, 172]
abbrev dktX2_fewestWrong_2 : List UInt8 := dkwX2_fewestWrong_2 ++ []
def dkwX2_fewestWrong_1 : List UInt8 := [162, 0, 17, 42, 42, 180, 0, 7, 5, 46, 28, 182, 1, 212, 167, 0, 4, 27, 60, 132, 2, 1]
abbrev dktX2_fewestWrong_1 : List UInt8 := dkwX2_fewestWrong_1 ++ dktX2_fewestWrong_2
def dkwX2_fewestWrong_0 : List UInt8 := [19, 1, 215, 60, 3, 61, 28, 7, 162, 0, 40, 42, 42, 180, 0, 7, 5, 46, 28, 182, 1, 212, 27]
abbrev dktX2_fewestWrong_0 : List UInt8 := dkwX2_fewestWrong_0 ++ dktX2_fewestWrong_1
theorem dksX2_fewestWrong_0 : cX2_fewestWrong.data.toList.drop 0 = dktX2_fewestWrong_0 := by decide +kernel
theorem dksX2_fewestWrong_1 : cX2_fewestWrong.data.toList.drop 23 = dktX2_fewestWrong_1 := dk_seg dksX2_fewestWrong_0 23 rfl rfl
theorem dksX2_fewestWrong_2 : cX2_fewestWrong.data.toList.drop 45 = dktX2_fewestWrong_2 := dk_seg dksX2_fewestWrong_1 22 rfl rfl
theorem dX2_fewestWrong_0 : decode cX2_fewestWrong 0 = .ok (.ldc_w 471, 3) := dk_19 1 215 (dk_at dksX2_fewestWrong_0 0 rfl rfl)
theorem dX2_fewestWrong_3 : decode cX2_fewestWrong 3 = .ok (.istore_n 1, 1) := dk_60 (dk_at dksX2_fewestWrong_0 3 rfl rfl)
theorem dX2_fewestWrong_4 : decode cX2_fewestWrong 4 = .ok (.iconst 0, 1) := dk_3 (dk_at dksX2_fewestWrong_0 4 rfl rfl)
theorem dX2_fewestWrong_5 : decode cX2_fewestWrong 5 = .ok (.istore_n 2, 1) := dk_61 (dk_at dksX2_fewestWrong_0 5 rfl rfl)
theorem dX2_fewestWrong_6 : decode cX2_fewestWrong 6 = .ok (.iload_n 2, 1) := dk_28 (dk_at dksX2_fewestWrong_0 6 rfl rfl)
theorem dX2_fewestWrong_7 : decode cX2_fewestWrong 7 = .ok (.iconst 4, 1) := dk_7 (dk_at dksX2_fewestWrong_0 7 rfl rfl)
theorem dX2_fewestWrong_8 : decode cX2_fewestWrong 8 = .ok (.if_icmp .ge 40, 3) := dk_162 0 40 (dk_at dksX2_fewestWrong_0 8 rfl rfl)
theorem dX2_fewestWrong_11 : decode cX2_fewestWrong 11 = .ok (.aload_n 0, 1) := dk_42 (dk_at dksX2_fewestWrong_0 11 rfl rfl)
theorem dX2_fewestWrong_12 : decode cX2_fewestWrong 12 = .ok (.aload_n 0, 1) := dk_42 (dk_at dksX2_fewestWrong_0 12 rfl rfl)
theorem dX2_fewestWrong_13 : decode cX2_fewestWrong 13 = .ok (.getfield 7, 3) := dk_180 0 7 (dk_at dksX2_fewestWrong_0 13 rfl rfl)
theorem dX2_fewestWrong_16 : decode cX2_fewestWrong 16 = .ok (.iconst 2, 1) := dk_5 (dk_at dksX2_fewestWrong_0 16 rfl rfl)
theorem dX2_fewestWrong_17 : decode cX2_fewestWrong 17 = .ok (.iaload, 1) := dk_46 (dk_at dksX2_fewestWrong_0 17 rfl rfl)
theorem dX2_fewestWrong_18 : decode cX2_fewestWrong 18 = .ok (.iload_n 2, 1) := dk_28 (dk_at dksX2_fewestWrong_0 18 rfl rfl)
theorem dX2_fewestWrong_19 : decode cX2_fewestWrong 19 = .ok (.invokevirtual 468, 3) := dk_182 1 212 (dk_at dksX2_fewestWrong_0 19 rfl rfl)
theorem dX2_fewestWrong_22 : decode cX2_fewestWrong 22 = .ok (.iload_n 1, 1) := dk_27 (dk_at dksX2_fewestWrong_0 22 rfl rfl)
theorem dX2_fewestWrong_23 : decode cX2_fewestWrong 23 = .ok (.if_icmp .ge 17, 3) := dk_162 0 17 (dk_at dksX2_fewestWrong_1 0 rfl rfl)
theorem dX2_fewestWrong_26 : decode cX2_fewestWrong 26 = .ok (.aload_n 0, 1) := dk_42 (dk_at dksX2_fewestWrong_1 3 rfl rfl)
theorem dX2_fewestWrong_27 : decode cX2_fewestWrong 27 = .ok (.aload_n 0, 1) := dk_42 (dk_at dksX2_fewestWrong_1 4 rfl rfl)
theorem dX2_fewestWrong_28 : decode cX2_fewestWrong 28 = .ok (.getfield 7, 3) := dk_180 0 7 (dk_at dksX2_fewestWrong_1 5 rfl rfl)
theorem dX2_fewestWrong_31 : decode cX2_fewestWrong 31 = .ok (.iconst 2, 1) := dk_5 (dk_at dksX2_fewestWrong_1 8 rfl rfl)
theorem dX2_fewestWrong_32 : decode cX2_fewestWrong 32 = .ok (.iaload, 1) := dk_46 (dk_at dksX2_fewestWrong_1 9 rfl rfl)
theorem dX2_fewestWrong_33 : decode cX2_fewestWrong 33 = .ok (.iload_n 2, 1) := dk_28 (dk_at dksX2_fewestWrong_1 10 rfl rfl)
theorem dX2_fewestWrong_34 : decode cX2_fewestWrong 34 = .ok (.invokevirtual 468, 3) := dk_182 1 212 (dk_at dksX2_fewestWrong_1 11 rfl rfl)
theorem dX2_fewestWrong_37 : decode cX2_fewestWrong 37 = .ok (.goto 4, 3) := dk_167 0 4 (dk_at dksX2_fewestWrong_1 14 rfl rfl)
theorem dX2_fewestWrong_40 : decode cX2_fewestWrong 40 = .ok (.iload_n 1, 1) := dk_27 (dk_at dksX2_fewestWrong_1 17 rfl rfl)
theorem dX2_fewestWrong_41 : decode cX2_fewestWrong 41 = .ok (.istore_n 1, 1) := dk_60 (dk_at dksX2_fewestWrong_1 18 rfl rfl)
theorem dX2_fewestWrong_42 : decode cX2_fewestWrong 42 = .ok (.iinc 2 1, 3) := dk_132 2 1 (dk_at dksX2_fewestWrong_1 19 rfl rfl)
theorem dX2_fewestWrong_45 : decode cX2_fewestWrong 45 = .ok (.goto (-39), 3) := dk_167 255 217 (dk_at dksX2_fewestWrong_2 0 rfl rfl)
theorem dX2_fewestWrong_48 : decode cX2_fewestWrong 48 = .ok (.iload_n 1, 1) := dk_27 (dk_at dksX2_fewestWrong_2 3 rfl rfl)
theorem dX2_fewestWrong_49 : decode cX2_fewestWrong 49 = .ok (.ireturn, 1) := dk_172 (dk_at dksX2_fewestWrong_2 4 rfl rfl)
abbrev cX2_whose : ByteArray := prog_20_method_125_code
def yX2_whose : MethodName := ⟨RX2, "whose", "()I"⟩
def dkwX2_whose_1 : List UInt8 := [4, 28, 120, 167, 0, 4, 3, 128, 60, 132, 2, 1, 167, 255, 224, 27, 172]
abbrev dktX2_whose_1 : List UInt8 := dkwX2_whose_1 ++ []
def dkwX2_whose_0 : List UInt8 := [3, 60, 3, 61, 28, 42, 180, 0, 7, 4, 46, 162, 0, 28, 27, 42, 28, 3, 182, 1, 212, 154, 0, 9]
abbrev dktX2_whose_0 : List UInt8 := dkwX2_whose_0 ++ dktX2_whose_1
theorem dksX2_whose_0 : cX2_whose.data.toList.drop 0 = dktX2_whose_0 := by decide +kernel
theorem dksX2_whose_1 : cX2_whose.data.toList.drop 24 = dktX2_whose_1 := dk_seg dksX2_whose_0 24 rfl rfl
theorem dX2_whose_0 : decode cX2_whose 0 = .ok (.iconst 0, 1) := dk_3 (dk_at dksX2_whose_0 0 rfl rfl)
theorem dX2_whose_1 : decode cX2_whose 1 = .ok (.istore_n 1, 1) := dk_60 (dk_at dksX2_whose_0 1 rfl rfl)
theorem dX2_whose_2 : decode cX2_whose 2 = .ok (.iconst 0, 1) := dk_3 (dk_at dksX2_whose_0 2 rfl rfl)
theorem dX2_whose_3 : decode cX2_whose 3 = .ok (.istore_n 2, 1) := dk_61 (dk_at dksX2_whose_0 3 rfl rfl)
theorem dX2_whose_4 : decode cX2_whose 4 = .ok (.iload_n 2, 1) := dk_28 (dk_at dksX2_whose_0 4 rfl rfl)
theorem dX2_whose_5 : decode cX2_whose 5 = .ok (.aload_n 0, 1) := dk_42 (dk_at dksX2_whose_0 5 rfl rfl)
theorem dX2_whose_6 : decode cX2_whose 6 = .ok (.getfield 7, 3) := dk_180 0 7 (dk_at dksX2_whose_0 6 rfl rfl)
theorem dX2_whose_9 : decode cX2_whose 9 = .ok (.iconst 1, 1) := dk_4 (dk_at dksX2_whose_0 9 rfl rfl)
theorem dX2_whose_10 : decode cX2_whose 10 = .ok (.iaload, 1) := dk_46 (dk_at dksX2_whose_0 10 rfl rfl)
theorem dX2_whose_11 : decode cX2_whose 11 = .ok (.if_icmp .ge 28, 3) := dk_162 0 28 (dk_at dksX2_whose_0 11 rfl rfl)
theorem dX2_whose_14 : decode cX2_whose 14 = .ok (.iload_n 1, 1) := dk_27 (dk_at dksX2_whose_0 14 rfl rfl)
theorem dX2_whose_15 : decode cX2_whose 15 = .ok (.aload_n 0, 1) := dk_42 (dk_at dksX2_whose_0 15 rfl rfl)
theorem dX2_whose_16 : decode cX2_whose 16 = .ok (.iload_n 2, 1) := dk_28 (dk_at dksX2_whose_0 16 rfl rfl)
theorem dX2_whose_17 : decode cX2_whose 17 = .ok (.iconst 0, 1) := dk_3 (dk_at dksX2_whose_0 17 rfl rfl)
theorem dX2_whose_18 : decode cX2_whose 18 = .ok (.invokevirtual 468, 3) := dk_182 1 212 (dk_at dksX2_whose_0 18 rfl rfl)
theorem dX2_whose_21 : decode cX2_whose 21 = .ok (.ifCond .ne 9, 3) := dk_154 0 9 (dk_at dksX2_whose_0 21 rfl rfl)
theorem dX2_whose_24 : decode cX2_whose 24 = .ok (.iconst 1, 1) := dk_4 (dk_at dksX2_whose_1 0 rfl rfl)
theorem dX2_whose_25 : decode cX2_whose 25 = .ok (.iload_n 2, 1) := dk_28 (dk_at dksX2_whose_1 1 rfl rfl)
theorem dX2_whose_26 : decode cX2_whose 26 = .ok (.ishl, 1) := dk_120 (dk_at dksX2_whose_1 2 rfl rfl)
theorem dX2_whose_27 : decode cX2_whose 27 = .ok (.goto 4, 3) := dk_167 0 4 (dk_at dksX2_whose_1 3 rfl rfl)
theorem dX2_whose_30 : decode cX2_whose 30 = .ok (.iconst 0, 1) := dk_3 (dk_at dksX2_whose_1 6 rfl rfl)
theorem dX2_whose_31 : decode cX2_whose 31 = .ok (.ior, 1) := dk_128 (dk_at dksX2_whose_1 7 rfl rfl)
theorem dX2_whose_32 : decode cX2_whose 32 = .ok (.istore_n 1, 1) := dk_60 (dk_at dksX2_whose_1 8 rfl rfl)
theorem dX2_whose_33 : decode cX2_whose 33 = .ok (.iinc 2 1, 3) := dk_132 2 1 (dk_at dksX2_whose_1 9 rfl rfl)
theorem dX2_whose_36 : decode cX2_whose 36 = .ok (.goto (-32), 3) := dk_167 255 224 (dk_at dksX2_whose_1 12 rfl rfl)
theorem dX2_whose_39 : decode cX2_whose 39 = .ok (.iload_n 1, 1) := dk_27 (dk_at dksX2_whose_1 15 rfl rfl)
theorem dX2_whose_40 : decode cX2_whose 40 = .ok (.ireturn, 1) := dk_172 (dk_at dksX2_whose_1 16 rfl rfl)
abbrev cX2_learn : ByteArray := prog_20_method_126_code
def yX2_learn : MethodName := ⟨RX2, "learn", "(IZ)I"⟩
def dkwX2_learn_4 : List UInt8 := [46, 172]
abbrev dktX2_learn_4 : List UInt8 := dkwX2_learn_4 ++ []
def dkwX2_learn_3 : List UInt8 := [153, 0, 7, 4, 167, 0, 4, 3, 79, 42, 180, 0, 7, 8, 92, 46, 4, 96, 79, 42, 180, 0, 7, 8]
abbrev dktX2_learn_3 : List UInt8 := dkwX2_learn_3 ++ dktX2_learn_4
def dkwX2_learn_2 : List UInt8 := [8, 46, 104, 96, 27, 79, 42, 180, 0, 7, 16, 100, 5, 42, 180, 0, 7, 8, 46, 104, 96, 4, 96, 28]
abbrev dktX2_learn_2 : List UInt8 := dkwX2_learn_2 ++ dktX2_learn_3
def dkwX2_learn_1 : List UInt8 := [180, 0, 7, 8, 46, 16, 8, 160, 0, 6, 16, 254, 172, 42, 180, 0, 7, 16, 100, 5, 42, 180, 0, 7]
abbrev dktX2_learn_1 : List UInt8 := dkwX2_learn_1 ++ dktX2_learn_2
def dkwX2_learn_0 : List UInt8 := [27, 2, 160, 0, 12, 42, 180, 0, 7, 8, 3, 79, 3, 172, 42, 27, 182, 0, 78, 153, 0, 14, 42]
abbrev dktX2_learn_0 : List UInt8 := dkwX2_learn_0 ++ dktX2_learn_1
theorem dksX2_learn_0 : cX2_learn.data.toList.drop 0 = dktX2_learn_0 := by decide +kernel
theorem dksX2_learn_1 : cX2_learn.data.toList.drop 23 = dktX2_learn_1 := dk_seg dksX2_learn_0 23 rfl rfl
theorem dksX2_learn_2 : cX2_learn.data.toList.drop 47 = dktX2_learn_2 := dk_seg dksX2_learn_1 24 rfl rfl
theorem dksX2_learn_3 : cX2_learn.data.toList.drop 71 = dktX2_learn_3 := dk_seg dksX2_learn_2 24 rfl rfl
theorem dksX2_learn_4 : cX2_learn.data.toList.drop 95 = dktX2_learn_4 := dk_seg dksX2_learn_3 24 rfl rfl
theorem dX2_learn_0 : decode cX2_learn 0 = .ok (.iload_n 1, 1) := dk_27 (dk_at dksX2_learn_0 0 rfl rfl)
theorem dX2_learn_1 : decode cX2_learn 1 = .ok (.iconst (-1), 1) := dk_2 (dk_at dksX2_learn_0 1 rfl rfl)
theorem dX2_learn_2 : decode cX2_learn 2 = .ok (.if_icmp .ne 12, 3) := dk_160 0 12 (dk_at dksX2_learn_0 2 rfl rfl)
theorem dX2_learn_5 : decode cX2_learn 5 = .ok (.aload_n 0, 1) := dk_42 (dk_at dksX2_learn_0 5 rfl rfl)
theorem dX2_learn_6 : decode cX2_learn 6 = .ok (.getfield 7, 3) := dk_180 0 7 (dk_at dksX2_learn_0 6 rfl rfl)
theorem dX2_learn_9 : decode cX2_learn 9 = .ok (.iconst 5, 1) := dk_8 (dk_at dksX2_learn_0 9 rfl rfl)
theorem dX2_learn_10 : decode cX2_learn 10 = .ok (.iconst 0, 1) := dk_3 (dk_at dksX2_learn_0 10 rfl rfl)
theorem dX2_learn_11 : decode cX2_learn 11 = .ok (.iastore, 1) := dk_79 (dk_at dksX2_learn_0 11 rfl rfl)
theorem dX2_learn_12 : decode cX2_learn 12 = .ok (.iconst 0, 1) := dk_3 (dk_at dksX2_learn_0 12 rfl rfl)
theorem dX2_learn_13 : decode cX2_learn 13 = .ok (.ireturn, 1) := dk_172 (dk_at dksX2_learn_0 13 rfl rfl)
theorem dX2_learn_14 : decode cX2_learn 14 = .ok (.aload_n 0, 1) := dk_42 (dk_at dksX2_learn_0 14 rfl rfl)
theorem dX2_learn_15 : decode cX2_learn 15 = .ok (.iload_n 1, 1) := dk_27 (dk_at dksX2_learn_0 15 rfl rfl)
theorem dX2_learn_16 : decode cX2_learn 16 = .ok (.invokevirtual 78, 3) := dk_182 0 78 (dk_at dksX2_learn_0 16 rfl rfl)
theorem dX2_learn_19 : decode cX2_learn 19 = .ok (.ifCond .eq 14, 3) := dk_153 0 14 (dk_at dksX2_learn_0 19 rfl rfl)
theorem dX2_learn_22 : decode cX2_learn 22 = .ok (.aload_n 0, 1) := dk_42 (dk_at dksX2_learn_0 22 rfl rfl)
theorem dX2_learn_23 : decode cX2_learn 23 = .ok (.getfield 7, 3) := dk_180 0 7 (dk_at dksX2_learn_1 0 rfl rfl)
theorem dX2_learn_26 : decode cX2_learn 26 = .ok (.iconst 5, 1) := dk_8 (dk_at dksX2_learn_1 3 rfl rfl)
theorem dX2_learn_27 : decode cX2_learn 27 = .ok (.iaload, 1) := dk_46 (dk_at dksX2_learn_1 4 rfl rfl)
theorem dX2_learn_28 : decode cX2_learn 28 = .ok (.bipush 8, 2) := dk_16 8 (dk_at dksX2_learn_1 5 rfl rfl)
theorem dX2_learn_30 : decode cX2_learn 30 = .ok (.if_icmp .ne 6, 3) := dk_160 0 6 (dk_at dksX2_learn_1 7 rfl rfl)
theorem dX2_learn_33 : decode cX2_learn 33 = .ok (.bipush (-2), 2) := dk_16 254 (dk_at dksX2_learn_1 10 rfl rfl)
theorem dX2_learn_35 : decode cX2_learn 35 = .ok (.ireturn, 1) := dk_172 (dk_at dksX2_learn_1 12 rfl rfl)
theorem dX2_learn_36 : decode cX2_learn 36 = .ok (.aload_n 0, 1) := dk_42 (dk_at dksX2_learn_1 13 rfl rfl)
theorem dX2_learn_37 : decode cX2_learn 37 = .ok (.getfield 7, 3) := dk_180 0 7 (dk_at dksX2_learn_1 14 rfl rfl)
theorem dX2_learn_40 : decode cX2_learn 40 = .ok (.bipush 100, 2) := dk_16 100 (dk_at dksX2_learn_1 17 rfl rfl)
theorem dX2_learn_42 : decode cX2_learn 42 = .ok (.iconst 2, 1) := dk_5 (dk_at dksX2_learn_1 19 rfl rfl)
theorem dX2_learn_43 : decode cX2_learn 43 = .ok (.aload_n 0, 1) := dk_42 (dk_at dksX2_learn_1 20 rfl rfl)
theorem dX2_learn_44 : decode cX2_learn 44 = .ok (.getfield 7, 3) := dk_180 0 7 (dk_at dksX2_learn_1 21 rfl rfl)
theorem dX2_learn_47 : decode cX2_learn 47 = .ok (.iconst 5, 1) := dk_8 (dk_at dksX2_learn_2 0 rfl rfl)
theorem dX2_learn_48 : decode cX2_learn 48 = .ok (.iaload, 1) := dk_46 (dk_at dksX2_learn_2 1 rfl rfl)
theorem dX2_learn_49 : decode cX2_learn 49 = .ok (.imul, 1) := dk_104 (dk_at dksX2_learn_2 2 rfl rfl)
theorem dX2_learn_50 : decode cX2_learn 50 = .ok (.iadd, 1) := dk_96 (dk_at dksX2_learn_2 3 rfl rfl)
theorem dX2_learn_51 : decode cX2_learn 51 = .ok (.iload_n 1, 1) := dk_27 (dk_at dksX2_learn_2 4 rfl rfl)
theorem dX2_learn_52 : decode cX2_learn 52 = .ok (.iastore, 1) := dk_79 (dk_at dksX2_learn_2 5 rfl rfl)
theorem dX2_learn_53 : decode cX2_learn 53 = .ok (.aload_n 0, 1) := dk_42 (dk_at dksX2_learn_2 6 rfl rfl)
theorem dX2_learn_54 : decode cX2_learn 54 = .ok (.getfield 7, 3) := dk_180 0 7 (dk_at dksX2_learn_2 7 rfl rfl)
theorem dX2_learn_57 : decode cX2_learn 57 = .ok (.bipush 100, 2) := dk_16 100 (dk_at dksX2_learn_2 10 rfl rfl)
theorem dX2_learn_59 : decode cX2_learn 59 = .ok (.iconst 2, 1) := dk_5 (dk_at dksX2_learn_2 12 rfl rfl)
theorem dX2_learn_60 : decode cX2_learn 60 = .ok (.aload_n 0, 1) := dk_42 (dk_at dksX2_learn_2 13 rfl rfl)
theorem dX2_learn_61 : decode cX2_learn 61 = .ok (.getfield 7, 3) := dk_180 0 7 (dk_at dksX2_learn_2 14 rfl rfl)
theorem dX2_learn_64 : decode cX2_learn 64 = .ok (.iconst 5, 1) := dk_8 (dk_at dksX2_learn_2 17 rfl rfl)
theorem dX2_learn_65 : decode cX2_learn 65 = .ok (.iaload, 1) := dk_46 (dk_at dksX2_learn_2 18 rfl rfl)
theorem dX2_learn_66 : decode cX2_learn 66 = .ok (.imul, 1) := dk_104 (dk_at dksX2_learn_2 19 rfl rfl)
theorem dX2_learn_67 : decode cX2_learn 67 = .ok (.iadd, 1) := dk_96 (dk_at dksX2_learn_2 20 rfl rfl)
theorem dX2_learn_68 : decode cX2_learn 68 = .ok (.iconst 1, 1) := dk_4 (dk_at dksX2_learn_2 21 rfl rfl)
theorem dX2_learn_69 : decode cX2_learn 69 = .ok (.iadd, 1) := dk_96 (dk_at dksX2_learn_2 22 rfl rfl)
theorem dX2_learn_70 : decode cX2_learn 70 = .ok (.iload_n 2, 1) := dk_28 (dk_at dksX2_learn_2 23 rfl rfl)
theorem dX2_learn_71 : decode cX2_learn 71 = .ok (.ifCond .eq 7, 3) := dk_153 0 7 (dk_at dksX2_learn_3 0 rfl rfl)
theorem dX2_learn_74 : decode cX2_learn 74 = .ok (.iconst 1, 1) := dk_4 (dk_at dksX2_learn_3 3 rfl rfl)
theorem dX2_learn_75 : decode cX2_learn 75 = .ok (.goto 4, 3) := dk_167 0 4 (dk_at dksX2_learn_3 4 rfl rfl)
theorem dX2_learn_78 : decode cX2_learn 78 = .ok (.iconst 0, 1) := dk_3 (dk_at dksX2_learn_3 7 rfl rfl)
theorem dX2_learn_79 : decode cX2_learn 79 = .ok (.iastore, 1) := dk_79 (dk_at dksX2_learn_3 8 rfl rfl)
theorem dX2_learn_80 : decode cX2_learn 80 = .ok (.aload_n 0, 1) := dk_42 (dk_at dksX2_learn_3 9 rfl rfl)
theorem dX2_learn_81 : decode cX2_learn 81 = .ok (.getfield 7, 3) := dk_180 0 7 (dk_at dksX2_learn_3 10 rfl rfl)
theorem dX2_learn_84 : decode cX2_learn 84 = .ok (.iconst 5, 1) := dk_8 (dk_at dksX2_learn_3 13 rfl rfl)
theorem dX2_learn_85 : decode cX2_learn 85 = .ok (.dup2, 1) := dk_92 (dk_at dksX2_learn_3 14 rfl rfl)
theorem dX2_learn_86 : decode cX2_learn 86 = .ok (.iaload, 1) := dk_46 (dk_at dksX2_learn_3 15 rfl rfl)
theorem dX2_learn_87 : decode cX2_learn 87 = .ok (.iconst 1, 1) := dk_4 (dk_at dksX2_learn_3 16 rfl rfl)
theorem dX2_learn_88 : decode cX2_learn 88 = .ok (.iadd, 1) := dk_96 (dk_at dksX2_learn_3 17 rfl rfl)
theorem dX2_learn_89 : decode cX2_learn 89 = .ok (.iastore, 1) := dk_79 (dk_at dksX2_learn_3 18 rfl rfl)
theorem dX2_learn_90 : decode cX2_learn 90 = .ok (.aload_n 0, 1) := dk_42 (dk_at dksX2_learn_3 19 rfl rfl)
theorem dX2_learn_91 : decode cX2_learn 91 = .ok (.getfield 7, 3) := dk_180 0 7 (dk_at dksX2_learn_3 20 rfl rfl)
theorem dX2_learn_94 : decode cX2_learn 94 = .ok (.iconst 5, 1) := dk_8 (dk_at dksX2_learn_3 23 rfl rfl)
theorem dX2_learn_95 : decode cX2_learn 95 = .ok (.iaload, 1) := dk_46 (dk_at dksX2_learn_4 0 rfl rfl)
theorem dX2_learn_96 : decode cX2_learn 96 = .ok (.ireturn, 1) := dk_172 (dk_at dksX2_learn_4 1 rfl rfl)
abbrev cX2_codes : ByteArray := prog_20_method_130_code
def yX2_codes : MethodName := ⟨RX2, "codes", "(I)I"⟩
def dkwX2_codes_2 : List UInt8 := [167, 255, 225, 2, 172]
abbrev dktX2_codes_2 : List UInt8 := dkwX2_codes_2 ++ []
def dkwX2_codes_1 : List UInt8 := [182, 1, 219, 154, 0, 6, 167, 0, 13, 28, 27, 160, 0, 5, 29, 172, 132, 2, 1, 132, 3, 1]
abbrev dktX2_codes_1 : List UInt8 := dkwX2_codes_1 ++ dktX2_codes_2
def dkwX2_codes_0 : List UInt8 := [27, 2, 160, 0, 9, 42, 2, 182, 1, 222, 172, 3, 61, 3, 62, 29, 17, 1, 0, 162, 0, 30, 42, 29]
abbrev dktX2_codes_0 : List UInt8 := dkwX2_codes_0 ++ dktX2_codes_1
theorem dksX2_codes_0 : cX2_codes.data.toList.drop 0 = dktX2_codes_0 := by decide +kernel
theorem dksX2_codes_1 : cX2_codes.data.toList.drop 24 = dktX2_codes_1 := dk_seg dksX2_codes_0 24 rfl rfl
theorem dksX2_codes_2 : cX2_codes.data.toList.drop 46 = dktX2_codes_2 := dk_seg dksX2_codes_1 22 rfl rfl
theorem dX2_codes_0 : decode cX2_codes 0 = .ok (.iload_n 1, 1) := dk_27 (dk_at dksX2_codes_0 0 rfl rfl)
theorem dX2_codes_1 : decode cX2_codes 1 = .ok (.iconst (-1), 1) := dk_2 (dk_at dksX2_codes_0 1 rfl rfl)
theorem dX2_codes_2 : decode cX2_codes 2 = .ok (.if_icmp .ne 9, 3) := dk_160 0 9 (dk_at dksX2_codes_0 2 rfl rfl)
theorem dX2_codes_5 : decode cX2_codes 5 = .ok (.aload_n 0, 1) := dk_42 (dk_at dksX2_codes_0 5 rfl rfl)
theorem dX2_codes_6 : decode cX2_codes 6 = .ok (.iconst (-1), 1) := dk_2 (dk_at dksX2_codes_0 6 rfl rfl)
theorem dX2_codes_7 : decode cX2_codes 7 = .ok (.invokevirtual 478, 3) := dk_182 1 222 (dk_at dksX2_codes_0 7 rfl rfl)
theorem dX2_codes_10 : decode cX2_codes 10 = .ok (.ireturn, 1) := dk_172 (dk_at dksX2_codes_0 10 rfl rfl)
theorem dX2_codes_11 : decode cX2_codes 11 = .ok (.iconst 0, 1) := dk_3 (dk_at dksX2_codes_0 11 rfl rfl)
theorem dX2_codes_12 : decode cX2_codes 12 = .ok (.istore_n 2, 1) := dk_61 (dk_at dksX2_codes_0 12 rfl rfl)
theorem dX2_codes_13 : decode cX2_codes 13 = .ok (.iconst 0, 1) := dk_3 (dk_at dksX2_codes_0 13 rfl rfl)
theorem dX2_codes_14 : decode cX2_codes 14 = .ok (.istore_n 3, 1) := dk_62 (dk_at dksX2_codes_0 14 rfl rfl)
theorem dX2_codes_15 : decode cX2_codes 15 = .ok (.iload_n 3, 1) := dk_29 (dk_at dksX2_codes_0 15 rfl rfl)
theorem dX2_codes_16 : decode cX2_codes 16 = .ok (.sipush 256, 3) := dk_17 1 0 (dk_at dksX2_codes_0 16 rfl rfl)
theorem dX2_codes_19 : decode cX2_codes 19 = .ok (.if_icmp .ge 30, 3) := dk_162 0 30 (dk_at dksX2_codes_0 19 rfl rfl)
theorem dX2_codes_22 : decode cX2_codes 22 = .ok (.aload_n 0, 1) := dk_42 (dk_at dksX2_codes_0 22 rfl rfl)
theorem dX2_codes_23 : decode cX2_codes 23 = .ok (.iload_n 3, 1) := dk_29 (dk_at dksX2_codes_0 23 rfl rfl)
theorem dX2_codes_24 : decode cX2_codes 24 = .ok (.invokevirtual 475, 3) := dk_182 1 219 (dk_at dksX2_codes_1 0 rfl rfl)
theorem dX2_codes_27 : decode cX2_codes 27 = .ok (.ifCond .ne 6, 3) := dk_154 0 6 (dk_at dksX2_codes_1 3 rfl rfl)
theorem dX2_codes_30 : decode cX2_codes 30 = .ok (.goto 13, 3) := dk_167 0 13 (dk_at dksX2_codes_1 6 rfl rfl)
theorem dX2_codes_33 : decode cX2_codes 33 = .ok (.iload_n 2, 1) := dk_28 (dk_at dksX2_codes_1 9 rfl rfl)
theorem dX2_codes_34 : decode cX2_codes 34 = .ok (.iload_n 1, 1) := dk_27 (dk_at dksX2_codes_1 10 rfl rfl)
theorem dX2_codes_35 : decode cX2_codes 35 = .ok (.if_icmp .ne 5, 3) := dk_160 0 5 (dk_at dksX2_codes_1 11 rfl rfl)
theorem dX2_codes_38 : decode cX2_codes 38 = .ok (.iload_n 3, 1) := dk_29 (dk_at dksX2_codes_1 14 rfl rfl)
theorem dX2_codes_39 : decode cX2_codes 39 = .ok (.ireturn, 1) := dk_172 (dk_at dksX2_codes_1 15 rfl rfl)
theorem dX2_codes_40 : decode cX2_codes 40 = .ok (.iinc 2 1, 3) := dk_132 2 1 (dk_at dksX2_codes_1 16 rfl rfl)
theorem dX2_codes_43 : decode cX2_codes 43 = .ok (.iinc 3 1, 3) := dk_132 3 1 (dk_at dksX2_codes_1 19 rfl rfl)
theorem dX2_codes_46 : decode cX2_codes 46 = .ok (.goto (-31), 3) := dk_167 255 225 (dk_at dksX2_codes_2 0 rfl rfl)
theorem dX2_codes_49 : decode cX2_codes 49 = .ok (.iconst (-1), 1) := dk_2 (dk_at dksX2_codes_2 3 rfl rfl)
theorem dX2_codes_50 : decode cX2_codes 50 = .ok (.ireturn, 1) := dk_172 (dk_at dksX2_codes_2 4 rfl rfl)
abbrev cX2_codesBy : ByteArray := prog_20_method_129_code
def yX2_codesBy : MethodName := ⟨RX2, "codesBy", "(I)I"⟩
def dkwX2_codesBy_2 : List UInt8 := [167, 255, 216, 28, 172]
abbrev dktX2_codesBy_2 : List UInt8 := dkwX2_codesBy_2 ++ []
def dkwX2_codesBy_1 : List UInt8 := [159, 0, 12, 42, 29, 27, 182, 1, 216, 153, 0, 7, 4, 167, 0, 4, 3, 96, 61, 132, 3, 1]
abbrev dktX2_codesBy_1 : List UInt8 := dkwX2_codesBy_1 ++ dktX2_codesBy_2
def dkwX2_codesBy_0 : List UInt8 := [3, 61, 3, 62, 29, 17, 1, 0, 162, 0, 39, 28, 42, 29, 182, 1, 219, 153, 0, 21, 27, 2]
abbrev dktX2_codesBy_0 : List UInt8 := dkwX2_codesBy_0 ++ dktX2_codesBy_1
theorem dksX2_codesBy_0 : cX2_codesBy.data.toList.drop 0 = dktX2_codesBy_0 := by decide +kernel
theorem dksX2_codesBy_1 : cX2_codesBy.data.toList.drop 22 = dktX2_codesBy_1 := dk_seg dksX2_codesBy_0 22 rfl rfl
theorem dksX2_codesBy_2 : cX2_codesBy.data.toList.drop 44 = dktX2_codesBy_2 := dk_seg dksX2_codesBy_1 22 rfl rfl
theorem dX2_codesBy_0 : decode cX2_codesBy 0 = .ok (.iconst 0, 1) := dk_3 (dk_at dksX2_codesBy_0 0 rfl rfl)
theorem dX2_codesBy_1 : decode cX2_codesBy 1 = .ok (.istore_n 2, 1) := dk_61 (dk_at dksX2_codesBy_0 1 rfl rfl)
theorem dX2_codesBy_2 : decode cX2_codesBy 2 = .ok (.iconst 0, 1) := dk_3 (dk_at dksX2_codesBy_0 2 rfl rfl)
theorem dX2_codesBy_3 : decode cX2_codesBy 3 = .ok (.istore_n 3, 1) := dk_62 (dk_at dksX2_codesBy_0 3 rfl rfl)
theorem dX2_codesBy_4 : decode cX2_codesBy 4 = .ok (.iload_n 3, 1) := dk_29 (dk_at dksX2_codesBy_0 4 rfl rfl)
theorem dX2_codesBy_5 : decode cX2_codesBy 5 = .ok (.sipush 256, 3) := dk_17 1 0 (dk_at dksX2_codesBy_0 5 rfl rfl)
theorem dX2_codesBy_8 : decode cX2_codesBy 8 = .ok (.if_icmp .ge 39, 3) := dk_162 0 39 (dk_at dksX2_codesBy_0 8 rfl rfl)
theorem dX2_codesBy_11 : decode cX2_codesBy 11 = .ok (.iload_n 2, 1) := dk_28 (dk_at dksX2_codesBy_0 11 rfl rfl)
theorem dX2_codesBy_12 : decode cX2_codesBy 12 = .ok (.aload_n 0, 1) := dk_42 (dk_at dksX2_codesBy_0 12 rfl rfl)
theorem dX2_codesBy_13 : decode cX2_codesBy 13 = .ok (.iload_n 3, 1) := dk_29 (dk_at dksX2_codesBy_0 13 rfl rfl)
theorem dX2_codesBy_14 : decode cX2_codesBy 14 = .ok (.invokevirtual 475, 3) := dk_182 1 219 (dk_at dksX2_codesBy_0 14 rfl rfl)
theorem dX2_codesBy_17 : decode cX2_codesBy 17 = .ok (.ifCond .eq 21, 3) := dk_153 0 21 (dk_at dksX2_codesBy_0 17 rfl rfl)
theorem dX2_codesBy_20 : decode cX2_codesBy 20 = .ok (.iload_n 1, 1) := dk_27 (dk_at dksX2_codesBy_0 20 rfl rfl)
theorem dX2_codesBy_21 : decode cX2_codesBy 21 = .ok (.iconst (-1), 1) := dk_2 (dk_at dksX2_codesBy_0 21 rfl rfl)
theorem dX2_codesBy_22 : decode cX2_codesBy 22 = .ok (.if_icmp .eq 12, 3) := dk_159 0 12 (dk_at dksX2_codesBy_1 0 rfl rfl)
theorem dX2_codesBy_25 : decode cX2_codesBy 25 = .ok (.aload_n 0, 1) := dk_42 (dk_at dksX2_codesBy_1 3 rfl rfl)
theorem dX2_codesBy_26 : decode cX2_codesBy 26 = .ok (.iload_n 3, 1) := dk_29 (dk_at dksX2_codesBy_1 4 rfl rfl)
theorem dX2_codesBy_27 : decode cX2_codesBy 27 = .ok (.iload_n 1, 1) := dk_27 (dk_at dksX2_codesBy_1 5 rfl rfl)
theorem dX2_codesBy_28 : decode cX2_codesBy 28 = .ok (.invokevirtual 472, 3) := dk_182 1 216 (dk_at dksX2_codesBy_1 6 rfl rfl)
theorem dX2_codesBy_31 : decode cX2_codesBy 31 = .ok (.ifCond .eq 7, 3) := dk_153 0 7 (dk_at dksX2_codesBy_1 9 rfl rfl)
theorem dX2_codesBy_34 : decode cX2_codesBy 34 = .ok (.iconst 1, 1) := dk_4 (dk_at dksX2_codesBy_1 12 rfl rfl)
theorem dX2_codesBy_35 : decode cX2_codesBy 35 = .ok (.goto 4, 3) := dk_167 0 4 (dk_at dksX2_codesBy_1 13 rfl rfl)
theorem dX2_codesBy_38 : decode cX2_codesBy 38 = .ok (.iconst 0, 1) := dk_3 (dk_at dksX2_codesBy_1 16 rfl rfl)
theorem dX2_codesBy_39 : decode cX2_codesBy 39 = .ok (.iadd, 1) := dk_96 (dk_at dksX2_codesBy_1 17 rfl rfl)
theorem dX2_codesBy_40 : decode cX2_codesBy 40 = .ok (.istore_n 2, 1) := dk_61 (dk_at dksX2_codesBy_1 18 rfl rfl)
theorem dX2_codesBy_41 : decode cX2_codesBy 41 = .ok (.iinc 3 1, 3) := dk_132 3 1 (dk_at dksX2_codesBy_1 19 rfl rfl)
theorem dX2_codesBy_44 : decode cX2_codesBy 44 = .ok (.goto (-40), 3) := dk_167 255 216 (dk_at dksX2_codesBy_2 0 rfl rfl)
theorem dX2_codesBy_47 : decode cX2_codesBy 47 = .ok (.iload_n 2, 1) := dk_28 (dk_at dksX2_codesBy_2 3 rfl rfl)
theorem dX2_codesBy_48 : decode cX2_codesBy 48 = .ok (.ireturn, 1) := dk_172 (dk_at dksX2_codesBy_2 4 rfl rfl)
abbrev cX2_isCode : ByteArray := prog_20_method_128_code
def yX2_isCode : MethodName := ⟨RX2, "isCode", "(I)Z"⟩
def dkwX2_isCode_2 : List UInt8 := [167, 0, 4, 3, 159, 0, 5, 3, 172, 132, 2, 1, 167, 255, 200, 4, 172]
abbrev dktX2_isCode_2 : List UInt8 := dkwX2_isCode_2 ++ []
def dkwX2_isCode_1 : List UInt8 := [46, 182, 1, 216, 42, 180, 0, 7, 16, 100, 5, 28, 104, 96, 4, 96, 46, 4, 160, 0, 7, 4]
abbrev dktX2_isCode_1 : List UInt8 := dkwX2_isCode_1 ++ dktX2_isCode_2
def dkwX2_isCode_0 : List UInt8 := [3, 61, 28, 42, 180, 0, 7, 8, 46, 162, 0, 52, 42, 27, 42, 180, 0, 7, 16, 100, 5, 28, 104, 96]
abbrev dktX2_isCode_0 : List UInt8 := dkwX2_isCode_0 ++ dktX2_isCode_1
theorem dksX2_isCode_0 : cX2_isCode.data.toList.drop 0 = dktX2_isCode_0 := by decide +kernel
theorem dksX2_isCode_1 : cX2_isCode.data.toList.drop 24 = dktX2_isCode_1 := dk_seg dksX2_isCode_0 24 rfl rfl
theorem dksX2_isCode_2 : cX2_isCode.data.toList.drop 46 = dktX2_isCode_2 := dk_seg dksX2_isCode_1 22 rfl rfl
theorem dX2_isCode_0 : decode cX2_isCode 0 = .ok (.iconst 0, 1) := dk_3 (dk_at dksX2_isCode_0 0 rfl rfl)
theorem dX2_isCode_1 : decode cX2_isCode 1 = .ok (.istore_n 2, 1) := dk_61 (dk_at dksX2_isCode_0 1 rfl rfl)
theorem dX2_isCode_2 : decode cX2_isCode 2 = .ok (.iload_n 2, 1) := dk_28 (dk_at dksX2_isCode_0 2 rfl rfl)
theorem dX2_isCode_3 : decode cX2_isCode 3 = .ok (.aload_n 0, 1) := dk_42 (dk_at dksX2_isCode_0 3 rfl rfl)
theorem dX2_isCode_4 : decode cX2_isCode 4 = .ok (.getfield 7, 3) := dk_180 0 7 (dk_at dksX2_isCode_0 4 rfl rfl)
theorem dX2_isCode_7 : decode cX2_isCode 7 = .ok (.iconst 5, 1) := dk_8 (dk_at dksX2_isCode_0 7 rfl rfl)
theorem dX2_isCode_8 : decode cX2_isCode 8 = .ok (.iaload, 1) := dk_46 (dk_at dksX2_isCode_0 8 rfl rfl)
theorem dX2_isCode_9 : decode cX2_isCode 9 = .ok (.if_icmp .ge 52, 3) := dk_162 0 52 (dk_at dksX2_isCode_0 9 rfl rfl)
theorem dX2_isCode_12 : decode cX2_isCode 12 = .ok (.aload_n 0, 1) := dk_42 (dk_at dksX2_isCode_0 12 rfl rfl)
theorem dX2_isCode_13 : decode cX2_isCode 13 = .ok (.iload_n 1, 1) := dk_27 (dk_at dksX2_isCode_0 13 rfl rfl)
theorem dX2_isCode_14 : decode cX2_isCode 14 = .ok (.aload_n 0, 1) := dk_42 (dk_at dksX2_isCode_0 14 rfl rfl)
theorem dX2_isCode_15 : decode cX2_isCode 15 = .ok (.getfield 7, 3) := dk_180 0 7 (dk_at dksX2_isCode_0 15 rfl rfl)
theorem dX2_isCode_18 : decode cX2_isCode 18 = .ok (.bipush 100, 2) := dk_16 100 (dk_at dksX2_isCode_0 18 rfl rfl)
theorem dX2_isCode_20 : decode cX2_isCode 20 = .ok (.iconst 2, 1) := dk_5 (dk_at dksX2_isCode_0 20 rfl rfl)
theorem dX2_isCode_21 : decode cX2_isCode 21 = .ok (.iload_n 2, 1) := dk_28 (dk_at dksX2_isCode_0 21 rfl rfl)
theorem dX2_isCode_22 : decode cX2_isCode 22 = .ok (.imul, 1) := dk_104 (dk_at dksX2_isCode_0 22 rfl rfl)
theorem dX2_isCode_23 : decode cX2_isCode 23 = .ok (.iadd, 1) := dk_96 (dk_at dksX2_isCode_0 23 rfl rfl)
theorem dX2_isCode_24 : decode cX2_isCode 24 = .ok (.iaload, 1) := dk_46 (dk_at dksX2_isCode_1 0 rfl rfl)
theorem dX2_isCode_25 : decode cX2_isCode 25 = .ok (.invokevirtual 472, 3) := dk_182 1 216 (dk_at dksX2_isCode_1 1 rfl rfl)
theorem dX2_isCode_28 : decode cX2_isCode 28 = .ok (.aload_n 0, 1) := dk_42 (dk_at dksX2_isCode_1 4 rfl rfl)
theorem dX2_isCode_29 : decode cX2_isCode 29 = .ok (.getfield 7, 3) := dk_180 0 7 (dk_at dksX2_isCode_1 5 rfl rfl)
theorem dX2_isCode_32 : decode cX2_isCode 32 = .ok (.bipush 100, 2) := dk_16 100 (dk_at dksX2_isCode_1 8 rfl rfl)
theorem dX2_isCode_34 : decode cX2_isCode 34 = .ok (.iconst 2, 1) := dk_5 (dk_at dksX2_isCode_1 10 rfl rfl)
theorem dX2_isCode_35 : decode cX2_isCode 35 = .ok (.iload_n 2, 1) := dk_28 (dk_at dksX2_isCode_1 11 rfl rfl)
theorem dX2_isCode_36 : decode cX2_isCode 36 = .ok (.imul, 1) := dk_104 (dk_at dksX2_isCode_1 12 rfl rfl)
theorem dX2_isCode_37 : decode cX2_isCode 37 = .ok (.iadd, 1) := dk_96 (dk_at dksX2_isCode_1 13 rfl rfl)
theorem dX2_isCode_38 : decode cX2_isCode 38 = .ok (.iconst 1, 1) := dk_4 (dk_at dksX2_isCode_1 14 rfl rfl)
theorem dX2_isCode_39 : decode cX2_isCode 39 = .ok (.iadd, 1) := dk_96 (dk_at dksX2_isCode_1 15 rfl rfl)
theorem dX2_isCode_40 : decode cX2_isCode 40 = .ok (.iaload, 1) := dk_46 (dk_at dksX2_isCode_1 16 rfl rfl)
theorem dX2_isCode_41 : decode cX2_isCode 41 = .ok (.iconst 1, 1) := dk_4 (dk_at dksX2_isCode_1 17 rfl rfl)
theorem dX2_isCode_42 : decode cX2_isCode 42 = .ok (.if_icmp .ne 7, 3) := dk_160 0 7 (dk_at dksX2_isCode_1 18 rfl rfl)
theorem dX2_isCode_45 : decode cX2_isCode 45 = .ok (.iconst 1, 1) := dk_4 (dk_at dksX2_isCode_1 21 rfl rfl)
theorem dX2_isCode_46 : decode cX2_isCode 46 = .ok (.goto 4, 3) := dk_167 0 4 (dk_at dksX2_isCode_2 0 rfl rfl)
theorem dX2_isCode_49 : decode cX2_isCode 49 = .ok (.iconst 0, 1) := dk_3 (dk_at dksX2_isCode_2 3 rfl rfl)
theorem dX2_isCode_50 : decode cX2_isCode 50 = .ok (.if_icmp .eq 5, 3) := dk_159 0 5 (dk_at dksX2_isCode_2 4 rfl rfl)
theorem dX2_isCode_53 : decode cX2_isCode 53 = .ok (.iconst 0, 1) := dk_3 (dk_at dksX2_isCode_2 7 rfl rfl)
theorem dX2_isCode_54 : decode cX2_isCode 54 = .ok (.ireturn, 1) := dk_172 (dk_at dksX2_isCode_2 8 rfl rfl)
theorem dX2_isCode_55 : decode cX2_isCode 55 = .ok (.iinc 2 1, 3) := dk_132 2 1 (dk_at dksX2_isCode_2 9 rfl rfl)
theorem dX2_isCode_58 : decode cX2_isCode 58 = .ok (.goto (-56), 3) := dk_167 255 200 (dk_at dksX2_isCode_2 12 rfl rfl)
theorem dX2_isCode_61 : decode cX2_isCode 61 = .ok (.iconst 1, 1) := dk_4 (dk_at dksX2_isCode_2 15 rfl rfl)
theorem dX2_isCode_62 : decode cX2_isCode 62 = .ok (.ireturn, 1) := dk_172 (dk_at dksX2_isCode_2 16 rfl rfl)
abbrev cX2_isBy : ByteArray := prog_20_method_127_code
def yX2_isBy : MethodName := ⟨RX2, "isBy", "(II)Z"⟩
def dkwX2_isBy_0 : List UInt8 := [42, 28, 6, 182, 0, 82, 27, 126, 27, 160, 0, 7, 4, 167, 0, 4, 3, 172]
abbrev dktX2_isBy_0 : List UInt8 := dkwX2_isBy_0 ++ []
theorem dksX2_isBy_0 : cX2_isBy.data.toList.drop 0 = dktX2_isBy_0 := by decide +kernel
theorem dX2_isBy_0 : decode cX2_isBy 0 = .ok (.aload_n 0, 1) := dk_42 (dk_at dksX2_isBy_0 0 rfl rfl)
theorem dX2_isBy_1 : decode cX2_isBy 1 = .ok (.iload_n 2, 1) := dk_28 (dk_at dksX2_isBy_0 1 rfl rfl)
theorem dX2_isBy_2 : decode cX2_isBy 2 = .ok (.iconst 3, 1) := dk_6 (dk_at dksX2_isBy_0 2 rfl rfl)
theorem dX2_isBy_3 : decode cX2_isBy 3 = .ok (.invokevirtual 82, 3) := dk_182 0 82 (dk_at dksX2_isBy_0 3 rfl rfl)
theorem dX2_isBy_6 : decode cX2_isBy 6 = .ok (.iload_n 1, 1) := dk_27 (dk_at dksX2_isBy_0 6 rfl rfl)
theorem dX2_isBy_7 : decode cX2_isBy 7 = .ok (.iand, 1) := dk_126 (dk_at dksX2_isBy_0 7 rfl rfl)
theorem dX2_isBy_8 : decode cX2_isBy 8 = .ok (.iload_n 1, 1) := dk_27 (dk_at dksX2_isBy_0 8 rfl rfl)
theorem dX2_isBy_9 : decode cX2_isBy 9 = .ok (.if_icmp .ne 7, 3) := dk_160 0 7 (dk_at dksX2_isBy_0 9 rfl rfl)
theorem dX2_isBy_12 : decode cX2_isBy 12 = .ok (.iconst 1, 1) := dk_4 (dk_at dksX2_isBy_0 12 rfl rfl)
theorem dX2_isBy_13 : decode cX2_isBy 13 = .ok (.goto 4, 3) := dk_167 0 4 (dk_at dksX2_isBy_0 13 rfl rfl)
theorem dX2_isBy_16 : decode cX2_isBy 16 = .ok (.iconst 0, 1) := dk_3 (dk_at dksX2_isBy_0 16 rfl rfl)
theorem dX2_isBy_17 : decode cX2_isBy 17 = .ok (.ireturn, 1) := dk_172 (dk_at dksX2_isBy_0 17 rfl rfl)
abbrev cX2_sure : ByteArray := prog_20_method_131_code
def yX2_sure : MethodName := ⟨RX2, "sure", "(I)I"⟩
def dkwX2_sure_2 : List UInt8 := [2, 172]
abbrev dktX2_sure_2 : List UInt8 := dkwX2_sure_2 ++ []
def dkwX2_sure_1 : List UInt8 := [154, 0, 7, 2, 167, 0, 21, 29, 28, 160, 0, 7, 4, 167, 0, 12, 29, 154, 0, 7, 3, 167, 0, 4]
abbrev dktX2_sure_1 : List UInt8 := dkwX2_sure_1 ++ dktX2_sure_2
def dkwX2_sure_0 : List UInt8 := [42, 27, 182, 0, 78, 154, 0, 5, 2, 172, 42, 2, 182, 1, 222, 61, 42, 27, 182, 1, 222, 62, 28]
abbrev dktX2_sure_0 : List UInt8 := dkwX2_sure_0 ++ dktX2_sure_1
theorem dksX2_sure_0 : cX2_sure.data.toList.drop 0 = dktX2_sure_0 := by decide +kernel
theorem dksX2_sure_1 : cX2_sure.data.toList.drop 23 = dktX2_sure_1 := dk_seg dksX2_sure_0 23 rfl rfl
theorem dksX2_sure_2 : cX2_sure.data.toList.drop 47 = dktX2_sure_2 := dk_seg dksX2_sure_1 24 rfl rfl
theorem dX2_sure_0 : decode cX2_sure 0 = .ok (.aload_n 0, 1) := dk_42 (dk_at dksX2_sure_0 0 rfl rfl)
theorem dX2_sure_1 : decode cX2_sure 1 = .ok (.iload_n 1, 1) := dk_27 (dk_at dksX2_sure_0 1 rfl rfl)
theorem dX2_sure_2 : decode cX2_sure 2 = .ok (.invokevirtual 78, 3) := dk_182 0 78 (dk_at dksX2_sure_0 2 rfl rfl)
theorem dX2_sure_5 : decode cX2_sure 5 = .ok (.ifCond .ne 5, 3) := dk_154 0 5 (dk_at dksX2_sure_0 5 rfl rfl)
theorem dX2_sure_8 : decode cX2_sure 8 = .ok (.iconst (-1), 1) := dk_2 (dk_at dksX2_sure_0 8 rfl rfl)
theorem dX2_sure_9 : decode cX2_sure 9 = .ok (.ireturn, 1) := dk_172 (dk_at dksX2_sure_0 9 rfl rfl)
theorem dX2_sure_10 : decode cX2_sure 10 = .ok (.aload_n 0, 1) := dk_42 (dk_at dksX2_sure_0 10 rfl rfl)
theorem dX2_sure_11 : decode cX2_sure 11 = .ok (.iconst (-1), 1) := dk_2 (dk_at dksX2_sure_0 11 rfl rfl)
theorem dX2_sure_12 : decode cX2_sure 12 = .ok (.invokevirtual 478, 3) := dk_182 1 222 (dk_at dksX2_sure_0 12 rfl rfl)
theorem dX2_sure_15 : decode cX2_sure 15 = .ok (.istore_n 2, 1) := dk_61 (dk_at dksX2_sure_0 15 rfl rfl)
theorem dX2_sure_16 : decode cX2_sure 16 = .ok (.aload_n 0, 1) := dk_42 (dk_at dksX2_sure_0 16 rfl rfl)
theorem dX2_sure_17 : decode cX2_sure 17 = .ok (.iload_n 1, 1) := dk_27 (dk_at dksX2_sure_0 17 rfl rfl)
theorem dX2_sure_18 : decode cX2_sure 18 = .ok (.invokevirtual 478, 3) := dk_182 1 222 (dk_at dksX2_sure_0 18 rfl rfl)
theorem dX2_sure_21 : decode cX2_sure 21 = .ok (.istore_n 3, 1) := dk_62 (dk_at dksX2_sure_0 21 rfl rfl)
theorem dX2_sure_22 : decode cX2_sure 22 = .ok (.iload_n 2, 1) := dk_28 (dk_at dksX2_sure_0 22 rfl rfl)
theorem dX2_sure_23 : decode cX2_sure 23 = .ok (.ifCond .ne 7, 3) := dk_154 0 7 (dk_at dksX2_sure_1 0 rfl rfl)
theorem dX2_sure_26 : decode cX2_sure 26 = .ok (.iconst (-1), 1) := dk_2 (dk_at dksX2_sure_1 3 rfl rfl)
theorem dX2_sure_27 : decode cX2_sure 27 = .ok (.goto 21, 3) := dk_167 0 21 (dk_at dksX2_sure_1 4 rfl rfl)
theorem dX2_sure_30 : decode cX2_sure 30 = .ok (.iload_n 3, 1) := dk_29 (dk_at dksX2_sure_1 7 rfl rfl)
theorem dX2_sure_31 : decode cX2_sure 31 = .ok (.iload_n 2, 1) := dk_28 (dk_at dksX2_sure_1 8 rfl rfl)
theorem dX2_sure_32 : decode cX2_sure 32 = .ok (.if_icmp .ne 7, 3) := dk_160 0 7 (dk_at dksX2_sure_1 9 rfl rfl)
theorem dX2_sure_35 : decode cX2_sure 35 = .ok (.iconst 1, 1) := dk_4 (dk_at dksX2_sure_1 12 rfl rfl)
theorem dX2_sure_36 : decode cX2_sure 36 = .ok (.goto 12, 3) := dk_167 0 12 (dk_at dksX2_sure_1 13 rfl rfl)
theorem dX2_sure_39 : decode cX2_sure 39 = .ok (.iload_n 3, 1) := dk_29 (dk_at dksX2_sure_1 16 rfl rfl)
theorem dX2_sure_40 : decode cX2_sure 40 = .ok (.ifCond .ne 7, 3) := dk_154 0 7 (dk_at dksX2_sure_1 17 rfl rfl)
theorem dX2_sure_43 : decode cX2_sure 43 = .ok (.iconst 0, 1) := dk_3 (dk_at dksX2_sure_1 20 rfl rfl)
theorem dX2_sure_44 : decode cX2_sure 44 = .ok (.goto 4, 3) := dk_167 0 4 (dk_at dksX2_sure_1 21 rfl rfl)
theorem dX2_sure_47 : decode cX2_sure 47 = .ok (.iconst (-1), 1) := dk_2 (dk_at dksX2_sure_2 0 rfl rfl)
theorem dX2_sure_48 : decode cX2_sure 48 = .ok (.ireturn, 1) := dk_172 (dk_at dksX2_sure_2 1 rfl rfl)
abbrev cX2_toBring : ByteArray := prog_20_method_132_code
def yX2_toBring : MethodName := ⟨RX2, "toBring", "()I"⟩
def dkwX2_toBring_3 : List UInt8 := [21, 6, 29, 161, 0, 6, 167, 0, 9, 21, 6, 62, 21, 4, 61, 132, 4, 1, 167, 255, 183, 28, 172]
abbrev dktX2_toBring_3 : List UInt8 := dkwX2_toBring_3 ++ []
def dkwX2_toBring_2 : List UInt8 := [100, 167, 0, 9, 27, 5, 21, 5, 104, 100, 54, 6, 21, 5, 153, 0, 24, 21, 5, 27, 159, 0, 18]
abbrev dktX2_toBring_2 : List UInt8 := dkwX2_toBring_2 ++ dktX2_toBring_3
def dkwX2_toBring_1 : List UInt8 := [162, 0, 68, 42, 21, 4, 182, 1, 222, 54, 5, 5, 21, 5, 104, 27, 164, 0, 12, 5, 21, 5, 104, 27]
abbrev dktX2_toBring_1 : List UInt8 := dkwX2_toBring_1 ++ dktX2_toBring_2
def dkwX2_toBring_0 : List UInt8 := [42, 2, 182, 1, 222, 60, 2, 61, 19, 1, 215, 62, 3, 54, 4, 21, 4, 42, 180, 0, 7, 3, 46]
abbrev dktX2_toBring_0 : List UInt8 := dkwX2_toBring_0 ++ dktX2_toBring_1
theorem dksX2_toBring_0 : cX2_toBring.data.toList.drop 0 = dktX2_toBring_0 := by decide +kernel
theorem dksX2_toBring_1 : cX2_toBring.data.toList.drop 23 = dktX2_toBring_1 := dk_seg dksX2_toBring_0 23 rfl rfl
theorem dksX2_toBring_2 : cX2_toBring.data.toList.drop 47 = dktX2_toBring_2 := dk_seg dksX2_toBring_1 24 rfl rfl
theorem dksX2_toBring_3 : cX2_toBring.data.toList.drop 70 = dktX2_toBring_3 := dk_seg dksX2_toBring_2 23 rfl rfl
theorem dX2_toBring_0 : decode cX2_toBring 0 = .ok (.aload_n 0, 1) := dk_42 (dk_at dksX2_toBring_0 0 rfl rfl)
theorem dX2_toBring_1 : decode cX2_toBring 1 = .ok (.iconst (-1), 1) := dk_2 (dk_at dksX2_toBring_0 1 rfl rfl)
theorem dX2_toBring_2 : decode cX2_toBring 2 = .ok (.invokevirtual 478, 3) := dk_182 1 222 (dk_at dksX2_toBring_0 2 rfl rfl)
theorem dX2_toBring_5 : decode cX2_toBring 5 = .ok (.istore_n 1, 1) := dk_60 (dk_at dksX2_toBring_0 5 rfl rfl)
theorem dX2_toBring_6 : decode cX2_toBring 6 = .ok (.iconst (-1), 1) := dk_2 (dk_at dksX2_toBring_0 6 rfl rfl)
theorem dX2_toBring_7 : decode cX2_toBring 7 = .ok (.istore_n 2, 1) := dk_61 (dk_at dksX2_toBring_0 7 rfl rfl)
theorem dX2_toBring_8 : decode cX2_toBring 8 = .ok (.ldc_w 471, 3) := dk_19 1 215 (dk_at dksX2_toBring_0 8 rfl rfl)
theorem dX2_toBring_11 : decode cX2_toBring 11 = .ok (.istore_n 3, 1) := dk_62 (dk_at dksX2_toBring_0 11 rfl rfl)
theorem dX2_toBring_12 : decode cX2_toBring 12 = .ok (.iconst 0, 1) := dk_3 (dk_at dksX2_toBring_0 12 rfl rfl)
theorem dX2_toBring_13 : decode cX2_toBring 13 = .ok (.istore 4, 2) := dk_54 4 (dk_at dksX2_toBring_0 13 rfl rfl)
theorem dX2_toBring_15 : decode cX2_toBring 15 = .ok (.iload 4, 2) := dk_21 4 (dk_at dksX2_toBring_0 15 rfl rfl)
theorem dX2_toBring_17 : decode cX2_toBring 17 = .ok (.aload_n 0, 1) := dk_42 (dk_at dksX2_toBring_0 17 rfl rfl)
theorem dX2_toBring_18 : decode cX2_toBring 18 = .ok (.getfield 7, 3) := dk_180 0 7 (dk_at dksX2_toBring_0 18 rfl rfl)
theorem dX2_toBring_21 : decode cX2_toBring 21 = .ok (.iconst 0, 1) := dk_3 (dk_at dksX2_toBring_0 21 rfl rfl)
theorem dX2_toBring_22 : decode cX2_toBring 22 = .ok (.iaload, 1) := dk_46 (dk_at dksX2_toBring_0 22 rfl rfl)
theorem dX2_toBring_23 : decode cX2_toBring 23 = .ok (.if_icmp .ge 68, 3) := dk_162 0 68 (dk_at dksX2_toBring_1 0 rfl rfl)
theorem dX2_toBring_26 : decode cX2_toBring 26 = .ok (.aload_n 0, 1) := dk_42 (dk_at dksX2_toBring_1 3 rfl rfl)
theorem dX2_toBring_27 : decode cX2_toBring 27 = .ok (.iload 4, 2) := dk_21 4 (dk_at dksX2_toBring_1 4 rfl rfl)
theorem dX2_toBring_29 : decode cX2_toBring 29 = .ok (.invokevirtual 478, 3) := dk_182 1 222 (dk_at dksX2_toBring_1 6 rfl rfl)
theorem dX2_toBring_32 : decode cX2_toBring 32 = .ok (.istore 5, 2) := dk_54 5 (dk_at dksX2_toBring_1 9 rfl rfl)
theorem dX2_toBring_34 : decode cX2_toBring 34 = .ok (.iconst 2, 1) := dk_5 (dk_at dksX2_toBring_1 11 rfl rfl)
theorem dX2_toBring_35 : decode cX2_toBring 35 = .ok (.iload 5, 2) := dk_21 5 (dk_at dksX2_toBring_1 12 rfl rfl)
theorem dX2_toBring_37 : decode cX2_toBring 37 = .ok (.imul, 1) := dk_104 (dk_at dksX2_toBring_1 14 rfl rfl)
theorem dX2_toBring_38 : decode cX2_toBring 38 = .ok (.iload_n 1, 1) := dk_27 (dk_at dksX2_toBring_1 15 rfl rfl)
theorem dX2_toBring_39 : decode cX2_toBring 39 = .ok (.if_icmp .le 12, 3) := dk_164 0 12 (dk_at dksX2_toBring_1 16 rfl rfl)
theorem dX2_toBring_42 : decode cX2_toBring 42 = .ok (.iconst 2, 1) := dk_5 (dk_at dksX2_toBring_1 19 rfl rfl)
theorem dX2_toBring_43 : decode cX2_toBring 43 = .ok (.iload 5, 2) := dk_21 5 (dk_at dksX2_toBring_1 20 rfl rfl)
theorem dX2_toBring_45 : decode cX2_toBring 45 = .ok (.imul, 1) := dk_104 (dk_at dksX2_toBring_1 22 rfl rfl)
theorem dX2_toBring_46 : decode cX2_toBring 46 = .ok (.iload_n 1, 1) := dk_27 (dk_at dksX2_toBring_1 23 rfl rfl)
theorem dX2_toBring_47 : decode cX2_toBring 47 = .ok (.isub, 1) := dk_100 (dk_at dksX2_toBring_2 0 rfl rfl)
theorem dX2_toBring_48 : decode cX2_toBring 48 = .ok (.goto 9, 3) := dk_167 0 9 (dk_at dksX2_toBring_2 1 rfl rfl)
theorem dX2_toBring_51 : decode cX2_toBring 51 = .ok (.iload_n 1, 1) := dk_27 (dk_at dksX2_toBring_2 4 rfl rfl)
theorem dX2_toBring_52 : decode cX2_toBring 52 = .ok (.iconst 2, 1) := dk_5 (dk_at dksX2_toBring_2 5 rfl rfl)
theorem dX2_toBring_53 : decode cX2_toBring 53 = .ok (.iload 5, 2) := dk_21 5 (dk_at dksX2_toBring_2 6 rfl rfl)
theorem dX2_toBring_55 : decode cX2_toBring 55 = .ok (.imul, 1) := dk_104 (dk_at dksX2_toBring_2 8 rfl rfl)
theorem dX2_toBring_56 : decode cX2_toBring 56 = .ok (.isub, 1) := dk_100 (dk_at dksX2_toBring_2 9 rfl rfl)
theorem dX2_toBring_57 : decode cX2_toBring 57 = .ok (.istore 6, 2) := dk_54 6 (dk_at dksX2_toBring_2 10 rfl rfl)
theorem dX2_toBring_59 : decode cX2_toBring 59 = .ok (.iload 5, 2) := dk_21 5 (dk_at dksX2_toBring_2 12 rfl rfl)
theorem dX2_toBring_61 : decode cX2_toBring 61 = .ok (.ifCond .eq 24, 3) := dk_153 0 24 (dk_at dksX2_toBring_2 14 rfl rfl)
theorem dX2_toBring_64 : decode cX2_toBring 64 = .ok (.iload 5, 2) := dk_21 5 (dk_at dksX2_toBring_2 17 rfl rfl)
theorem dX2_toBring_66 : decode cX2_toBring 66 = .ok (.iload_n 1, 1) := dk_27 (dk_at dksX2_toBring_2 19 rfl rfl)
theorem dX2_toBring_67 : decode cX2_toBring 67 = .ok (.if_icmp .eq 18, 3) := dk_159 0 18 (dk_at dksX2_toBring_2 20 rfl rfl)
theorem dX2_toBring_70 : decode cX2_toBring 70 = .ok (.iload 6, 2) := dk_21 6 (dk_at dksX2_toBring_3 0 rfl rfl)
theorem dX2_toBring_72 : decode cX2_toBring 72 = .ok (.iload_n 3, 1) := dk_29 (dk_at dksX2_toBring_3 2 rfl rfl)
theorem dX2_toBring_73 : decode cX2_toBring 73 = .ok (.if_icmp .lt 6, 3) := dk_161 0 6 (dk_at dksX2_toBring_3 3 rfl rfl)
theorem dX2_toBring_76 : decode cX2_toBring 76 = .ok (.goto 9, 3) := dk_167 0 9 (dk_at dksX2_toBring_3 6 rfl rfl)
theorem dX2_toBring_79 : decode cX2_toBring 79 = .ok (.iload 6, 2) := dk_21 6 (dk_at dksX2_toBring_3 9 rfl rfl)
theorem dX2_toBring_81 : decode cX2_toBring 81 = .ok (.istore_n 3, 1) := dk_62 (dk_at dksX2_toBring_3 11 rfl rfl)
theorem dX2_toBring_82 : decode cX2_toBring 82 = .ok (.iload 4, 2) := dk_21 4 (dk_at dksX2_toBring_3 12 rfl rfl)
theorem dX2_toBring_84 : decode cX2_toBring 84 = .ok (.istore_n 2, 1) := dk_61 (dk_at dksX2_toBring_3 14 rfl rfl)
theorem dX2_toBring_85 : decode cX2_toBring 85 = .ok (.iinc 4 1, 3) := dk_132 4 1 (dk_at dksX2_toBring_3 15 rfl rfl)
theorem dX2_toBring_88 : decode cX2_toBring 88 = .ok (.goto (-73), 3) := dk_167 255 183 (dk_at dksX2_toBring_3 18 rfl rfl)
theorem dX2_toBring_91 : decode cX2_toBring 91 = .ok (.iload_n 2, 1) := dk_28 (dk_at dksX2_toBring_3 21 rfl rfl)
theorem dX2_toBring_92 : decode cX2_toBring 92 = .ok (.ireturn, 1) := dk_172 (dk_at dksX2_toBring_3 22 rfl rfl)
abbrev cX2_counsel : ByteArray := prog_20_method_133_code
def yX2_counsel : MethodName := ⟨RX2, "counsel", "(II)I"⟩
def dkwX2_counsel_4 : List UInt8 := [16, 6, 92, 46, 4, 96, 79, 42, 180, 0, 7, 16, 6, 46, 172]
abbrev dktX2_counsel_4 : List UInt8 := dkwX2_counsel_4 ++ []
def dkwX2_counsel_3 : List UInt8 := [42, 180, 0, 7, 16, 116, 5, 42, 180, 0, 7, 16, 6, 46, 104, 96, 4, 96, 28, 79, 42, 180, 0, 7]
abbrev dktX2_counsel_3 : List UInt8 := dkwX2_counsel_3 ++ dktX2_counsel_4
def dkwX2_counsel_2 : List UInt8 := [160, 0, 6, 16, 254, 172, 42, 180, 0, 7, 16, 116, 5, 42, 180, 0, 7, 16, 6, 46, 104, 96, 27, 79]
abbrev dktX2_counsel_2 : List UInt8 := dkwX2_counsel_2 ++ dktX2_counsel_3
def dkwX2_counsel_1 : List UInt8 := [153, 0, 25, 28, 3, 16, 99, 184, 0, 74, 153, 0, 15, 42, 180, 0, 7, 16, 6, 46, 16, 8]
abbrev dktX2_counsel_1 : List UInt8 := dkwX2_counsel_1 ++ dktX2_counsel_2
def dkwX2_counsel_0 : List UInt8 := [27, 2, 160, 0, 13, 42, 180, 0, 7, 16, 6, 3, 79, 3, 172, 27, 4, 17, 3, 231, 184, 0, 74]
abbrev dktX2_counsel_0 : List UInt8 := dkwX2_counsel_0 ++ dktX2_counsel_1
theorem dksX2_counsel_0 : cX2_counsel.data.toList.drop 0 = dktX2_counsel_0 := by decide +kernel
theorem dksX2_counsel_1 : cX2_counsel.data.toList.drop 23 = dktX2_counsel_1 := dk_seg dksX2_counsel_0 23 rfl rfl
theorem dksX2_counsel_2 : cX2_counsel.data.toList.drop 45 = dktX2_counsel_2 := dk_seg dksX2_counsel_1 22 rfl rfl
theorem dksX2_counsel_3 : cX2_counsel.data.toList.drop 69 = dktX2_counsel_3 := dk_seg dksX2_counsel_2 24 rfl rfl
theorem dksX2_counsel_4 : cX2_counsel.data.toList.drop 93 = dktX2_counsel_4 := dk_seg dksX2_counsel_3 24 rfl rfl
theorem dX2_counsel_0 : decode cX2_counsel 0 = .ok (.iload_n 1, 1) := dk_27 (dk_at dksX2_counsel_0 0 rfl rfl)
theorem dX2_counsel_1 : decode cX2_counsel 1 = .ok (.iconst (-1), 1) := dk_2 (dk_at dksX2_counsel_0 1 rfl rfl)
theorem dX2_counsel_2 : decode cX2_counsel 2 = .ok (.if_icmp .ne 13, 3) := dk_160 0 13 (dk_at dksX2_counsel_0 2 rfl rfl)
theorem dX2_counsel_5 : decode cX2_counsel 5 = .ok (.aload_n 0, 1) := dk_42 (dk_at dksX2_counsel_0 5 rfl rfl)
theorem dX2_counsel_6 : decode cX2_counsel 6 = .ok (.getfield 7, 3) := dk_180 0 7 (dk_at dksX2_counsel_0 6 rfl rfl)
theorem dX2_counsel_9 : decode cX2_counsel 9 = .ok (.bipush 6, 2) := dk_16 6 (dk_at dksX2_counsel_0 9 rfl rfl)
theorem dX2_counsel_11 : decode cX2_counsel 11 = .ok (.iconst 0, 1) := dk_3 (dk_at dksX2_counsel_0 11 rfl rfl)
theorem dX2_counsel_12 : decode cX2_counsel 12 = .ok (.iastore, 1) := dk_79 (dk_at dksX2_counsel_0 12 rfl rfl)
theorem dX2_counsel_13 : decode cX2_counsel 13 = .ok (.iconst 0, 1) := dk_3 (dk_at dksX2_counsel_0 13 rfl rfl)
theorem dX2_counsel_14 : decode cX2_counsel 14 = .ok (.ireturn, 1) := dk_172 (dk_at dksX2_counsel_0 14 rfl rfl)
theorem dX2_counsel_15 : decode cX2_counsel 15 = .ok (.iload_n 1, 1) := dk_27 (dk_at dksX2_counsel_0 15 rfl rfl)
theorem dX2_counsel_16 : decode cX2_counsel 16 = .ok (.iconst 1, 1) := dk_4 (dk_at dksX2_counsel_0 16 rfl rfl)
theorem dX2_counsel_17 : decode cX2_counsel 17 = .ok (.sipush 999, 3) := dk_17 3 231 (dk_at dksX2_counsel_0 17 rfl rfl)
theorem dX2_counsel_20 : decode cX2_counsel 20 = .ok (.invokestatic 74, 3) := dk_184 0 74 (dk_at dksX2_counsel_0 20 rfl rfl)
theorem dX2_counsel_23 : decode cX2_counsel 23 = .ok (.ifCond .eq 25, 3) := dk_153 0 25 (dk_at dksX2_counsel_1 0 rfl rfl)
theorem dX2_counsel_26 : decode cX2_counsel 26 = .ok (.iload_n 2, 1) := dk_28 (dk_at dksX2_counsel_1 3 rfl rfl)
theorem dX2_counsel_27 : decode cX2_counsel 27 = .ok (.iconst 0, 1) := dk_3 (dk_at dksX2_counsel_1 4 rfl rfl)
theorem dX2_counsel_28 : decode cX2_counsel 28 = .ok (.bipush 99, 2) := dk_16 99 (dk_at dksX2_counsel_1 5 rfl rfl)
theorem dX2_counsel_30 : decode cX2_counsel 30 = .ok (.invokestatic 74, 3) := dk_184 0 74 (dk_at dksX2_counsel_1 7 rfl rfl)
theorem dX2_counsel_33 : decode cX2_counsel 33 = .ok (.ifCond .eq 15, 3) := dk_153 0 15 (dk_at dksX2_counsel_1 10 rfl rfl)
theorem dX2_counsel_36 : decode cX2_counsel 36 = .ok (.aload_n 0, 1) := dk_42 (dk_at dksX2_counsel_1 13 rfl rfl)
theorem dX2_counsel_37 : decode cX2_counsel 37 = .ok (.getfield 7, 3) := dk_180 0 7 (dk_at dksX2_counsel_1 14 rfl rfl)
theorem dX2_counsel_40 : decode cX2_counsel 40 = .ok (.bipush 6, 2) := dk_16 6 (dk_at dksX2_counsel_1 17 rfl rfl)
theorem dX2_counsel_42 : decode cX2_counsel 42 = .ok (.iaload, 1) := dk_46 (dk_at dksX2_counsel_1 19 rfl rfl)
theorem dX2_counsel_43 : decode cX2_counsel 43 = .ok (.bipush 8, 2) := dk_16 8 (dk_at dksX2_counsel_1 20 rfl rfl)
theorem dX2_counsel_45 : decode cX2_counsel 45 = .ok (.if_icmp .ne 6, 3) := dk_160 0 6 (dk_at dksX2_counsel_2 0 rfl rfl)
theorem dX2_counsel_48 : decode cX2_counsel 48 = .ok (.bipush (-2), 2) := dk_16 254 (dk_at dksX2_counsel_2 3 rfl rfl)
theorem dX2_counsel_50 : decode cX2_counsel 50 = .ok (.ireturn, 1) := dk_172 (dk_at dksX2_counsel_2 5 rfl rfl)
theorem dX2_counsel_51 : decode cX2_counsel 51 = .ok (.aload_n 0, 1) := dk_42 (dk_at dksX2_counsel_2 6 rfl rfl)
theorem dX2_counsel_52 : decode cX2_counsel 52 = .ok (.getfield 7, 3) := dk_180 0 7 (dk_at dksX2_counsel_2 7 rfl rfl)
theorem dX2_counsel_55 : decode cX2_counsel 55 = .ok (.bipush 116, 2) := dk_16 116 (dk_at dksX2_counsel_2 10 rfl rfl)
theorem dX2_counsel_57 : decode cX2_counsel 57 = .ok (.iconst 2, 1) := dk_5 (dk_at dksX2_counsel_2 12 rfl rfl)
theorem dX2_counsel_58 : decode cX2_counsel 58 = .ok (.aload_n 0, 1) := dk_42 (dk_at dksX2_counsel_2 13 rfl rfl)
theorem dX2_counsel_59 : decode cX2_counsel 59 = .ok (.getfield 7, 3) := dk_180 0 7 (dk_at dksX2_counsel_2 14 rfl rfl)
theorem dX2_counsel_62 : decode cX2_counsel 62 = .ok (.bipush 6, 2) := dk_16 6 (dk_at dksX2_counsel_2 17 rfl rfl)
theorem dX2_counsel_64 : decode cX2_counsel 64 = .ok (.iaload, 1) := dk_46 (dk_at dksX2_counsel_2 19 rfl rfl)
theorem dX2_counsel_65 : decode cX2_counsel 65 = .ok (.imul, 1) := dk_104 (dk_at dksX2_counsel_2 20 rfl rfl)
theorem dX2_counsel_66 : decode cX2_counsel 66 = .ok (.iadd, 1) := dk_96 (dk_at dksX2_counsel_2 21 rfl rfl)
theorem dX2_counsel_67 : decode cX2_counsel 67 = .ok (.iload_n 1, 1) := dk_27 (dk_at dksX2_counsel_2 22 rfl rfl)
theorem dX2_counsel_68 : decode cX2_counsel 68 = .ok (.iastore, 1) := dk_79 (dk_at dksX2_counsel_2 23 rfl rfl)
theorem dX2_counsel_69 : decode cX2_counsel 69 = .ok (.aload_n 0, 1) := dk_42 (dk_at dksX2_counsel_3 0 rfl rfl)
theorem dX2_counsel_70 : decode cX2_counsel 70 = .ok (.getfield 7, 3) := dk_180 0 7 (dk_at dksX2_counsel_3 1 rfl rfl)
theorem dX2_counsel_73 : decode cX2_counsel 73 = .ok (.bipush 116, 2) := dk_16 116 (dk_at dksX2_counsel_3 4 rfl rfl)
theorem dX2_counsel_75 : decode cX2_counsel 75 = .ok (.iconst 2, 1) := dk_5 (dk_at dksX2_counsel_3 6 rfl rfl)
theorem dX2_counsel_76 : decode cX2_counsel 76 = .ok (.aload_n 0, 1) := dk_42 (dk_at dksX2_counsel_3 7 rfl rfl)
theorem dX2_counsel_77 : decode cX2_counsel 77 = .ok (.getfield 7, 3) := dk_180 0 7 (dk_at dksX2_counsel_3 8 rfl rfl)
theorem dX2_counsel_80 : decode cX2_counsel 80 = .ok (.bipush 6, 2) := dk_16 6 (dk_at dksX2_counsel_3 11 rfl rfl)
theorem dX2_counsel_82 : decode cX2_counsel 82 = .ok (.iaload, 1) := dk_46 (dk_at dksX2_counsel_3 13 rfl rfl)
theorem dX2_counsel_83 : decode cX2_counsel 83 = .ok (.imul, 1) := dk_104 (dk_at dksX2_counsel_3 14 rfl rfl)
theorem dX2_counsel_84 : decode cX2_counsel 84 = .ok (.iadd, 1) := dk_96 (dk_at dksX2_counsel_3 15 rfl rfl)
theorem dX2_counsel_85 : decode cX2_counsel 85 = .ok (.iconst 1, 1) := dk_4 (dk_at dksX2_counsel_3 16 rfl rfl)
theorem dX2_counsel_86 : decode cX2_counsel 86 = .ok (.iadd, 1) := dk_96 (dk_at dksX2_counsel_3 17 rfl rfl)
theorem dX2_counsel_87 : decode cX2_counsel 87 = .ok (.iload_n 2, 1) := dk_28 (dk_at dksX2_counsel_3 18 rfl rfl)
theorem dX2_counsel_88 : decode cX2_counsel 88 = .ok (.iastore, 1) := dk_79 (dk_at dksX2_counsel_3 19 rfl rfl)
theorem dX2_counsel_89 : decode cX2_counsel 89 = .ok (.aload_n 0, 1) := dk_42 (dk_at dksX2_counsel_3 20 rfl rfl)
theorem dX2_counsel_90 : decode cX2_counsel 90 = .ok (.getfield 7, 3) := dk_180 0 7 (dk_at dksX2_counsel_3 21 rfl rfl)
theorem dX2_counsel_93 : decode cX2_counsel 93 = .ok (.bipush 6, 2) := dk_16 6 (dk_at dksX2_counsel_4 0 rfl rfl)
theorem dX2_counsel_95 : decode cX2_counsel 95 = .ok (.dup2, 1) := dk_92 (dk_at dksX2_counsel_4 2 rfl rfl)
theorem dX2_counsel_96 : decode cX2_counsel 96 = .ok (.iaload, 1) := dk_46 (dk_at dksX2_counsel_4 3 rfl rfl)
theorem dX2_counsel_97 : decode cX2_counsel 97 = .ok (.iconst 1, 1) := dk_4 (dk_at dksX2_counsel_4 4 rfl rfl)
theorem dX2_counsel_98 : decode cX2_counsel 98 = .ok (.iadd, 1) := dk_96 (dk_at dksX2_counsel_4 5 rfl rfl)
theorem dX2_counsel_99 : decode cX2_counsel 99 = .ok (.iastore, 1) := dk_79 (dk_at dksX2_counsel_4 6 rfl rfl)
theorem dX2_counsel_100 : decode cX2_counsel 100 = .ok (.aload_n 0, 1) := dk_42 (dk_at dksX2_counsel_4 7 rfl rfl)
theorem dX2_counsel_101 : decode cX2_counsel 101 = .ok (.getfield 7, 3) := dk_180 0 7 (dk_at dksX2_counsel_4 8 rfl rfl)
theorem dX2_counsel_104 : decode cX2_counsel 104 = .ok (.bipush 6, 2) := dk_16 6 (dk_at dksX2_counsel_4 11 rfl rfl)
theorem dX2_counsel_106 : decode cX2_counsel 106 = .ok (.iaload, 1) := dk_46 (dk_at dksX2_counsel_4 13 rfl rfl)
theorem dX2_counsel_107 : decode cX2_counsel 107 = .ok (.ireturn, 1) := dk_172 (dk_at dksX2_counsel_4 14 rfl rfl)
abbrev cX2_hired : ByteArray := prog_20_method_135_code
def yX2_hired : MethodName := ⟨RX2, "hired", "(IZ)I"⟩
def dkwX2_hired_4 : List UInt8 := [132, 4, 1, 167, 255, 180, 28, 153, 0, 7, 29, 167, 0, 9, 42, 29, 4, 182, 1, 225, 172]
abbrev dktX2_hired_4 : List UInt8 := dkwX2_hired_4 ++ []
def dkwX2_hired_3 : List UInt8 := [154, 0, 22, 42, 21, 4, 3, 182, 1, 225, 42, 29, 3, 182, 1, 225, 162, 0, 6, 21, 4, 62]
abbrev dktX2_hired_3 : List UInt8 := dkwX2_hired_3 ++ dktX2_hired_4
def dkwX2_hired_2 : List UInt8 := [42, 21, 4, 4, 182, 1, 225, 42, 29, 4, 182, 1, 225, 100, 54, 5, 21, 5, 157, 0, 24, 21, 5]
abbrev dktX2_hired_2 : List UInt8 := dkwX2_hired_2 ++ dktX2_hired_3
def dkwX2_hired_1 : List UInt8 := [180, 0, 7, 16, 6, 46, 120, 162, 0, 68, 42, 21, 4, 3, 182, 1, 225, 27, 164, 0, 6, 167, 0, 48]
abbrev dktX2_hired_1 : List UInt8 := dkwX2_hired_1 ++ dktX2_hired_2
def dkwX2_hired_0 : List UInt8 := [27, 3, 17, 39, 15, 184, 0, 74, 154, 0, 5, 2, 172, 3, 62, 4, 54, 4, 21, 4, 4, 42]
abbrev dktX2_hired_0 : List UInt8 := dkwX2_hired_0 ++ dktX2_hired_1
theorem dksX2_hired_0 : cX2_hired.data.toList.drop 0 = dktX2_hired_0 := by decide +kernel
theorem dksX2_hired_1 : cX2_hired.data.toList.drop 22 = dktX2_hired_1 := dk_seg dksX2_hired_0 22 rfl rfl
theorem dksX2_hired_2 : cX2_hired.data.toList.drop 46 = dktX2_hired_2 := dk_seg dksX2_hired_1 24 rfl rfl
theorem dksX2_hired_3 : cX2_hired.data.toList.drop 69 = dktX2_hired_3 := dk_seg dksX2_hired_2 23 rfl rfl
theorem dksX2_hired_4 : cX2_hired.data.toList.drop 91 = dktX2_hired_4 := dk_seg dksX2_hired_3 22 rfl rfl
theorem dX2_hired_0 : decode cX2_hired 0 = .ok (.iload_n 1, 1) := dk_27 (dk_at dksX2_hired_0 0 rfl rfl)
theorem dX2_hired_1 : decode cX2_hired 1 = .ok (.iconst 0, 1) := dk_3 (dk_at dksX2_hired_0 1 rfl rfl)
theorem dX2_hired_2 : decode cX2_hired 2 = .ok (.sipush 9999, 3) := dk_17 39 15 (dk_at dksX2_hired_0 2 rfl rfl)
theorem dX2_hired_5 : decode cX2_hired 5 = .ok (.invokestatic 74, 3) := dk_184 0 74 (dk_at dksX2_hired_0 5 rfl rfl)
theorem dX2_hired_8 : decode cX2_hired 8 = .ok (.ifCond .ne 5, 3) := dk_154 0 5 (dk_at dksX2_hired_0 8 rfl rfl)
theorem dX2_hired_11 : decode cX2_hired 11 = .ok (.iconst (-1), 1) := dk_2 (dk_at dksX2_hired_0 11 rfl rfl)
theorem dX2_hired_12 : decode cX2_hired 12 = .ok (.ireturn, 1) := dk_172 (dk_at dksX2_hired_0 12 rfl rfl)
theorem dX2_hired_13 : decode cX2_hired 13 = .ok (.iconst 0, 1) := dk_3 (dk_at dksX2_hired_0 13 rfl rfl)
theorem dX2_hired_14 : decode cX2_hired 14 = .ok (.istore_n 3, 1) := dk_62 (dk_at dksX2_hired_0 14 rfl rfl)
theorem dX2_hired_15 : decode cX2_hired 15 = .ok (.iconst 1, 1) := dk_4 (dk_at dksX2_hired_0 15 rfl rfl)
theorem dX2_hired_16 : decode cX2_hired 16 = .ok (.istore 4, 2) := dk_54 4 (dk_at dksX2_hired_0 16 rfl rfl)
theorem dX2_hired_18 : decode cX2_hired 18 = .ok (.iload 4, 2) := dk_21 4 (dk_at dksX2_hired_0 18 rfl rfl)
theorem dX2_hired_20 : decode cX2_hired 20 = .ok (.iconst 1, 1) := dk_4 (dk_at dksX2_hired_0 20 rfl rfl)
theorem dX2_hired_21 : decode cX2_hired 21 = .ok (.aload_n 0, 1) := dk_42 (dk_at dksX2_hired_0 21 rfl rfl)
theorem dX2_hired_22 : decode cX2_hired 22 = .ok (.getfield 7, 3) := dk_180 0 7 (dk_at dksX2_hired_1 0 rfl rfl)
theorem dX2_hired_25 : decode cX2_hired 25 = .ok (.bipush 6, 2) := dk_16 6 (dk_at dksX2_hired_1 3 rfl rfl)
theorem dX2_hired_27 : decode cX2_hired 27 = .ok (.iaload, 1) := dk_46 (dk_at dksX2_hired_1 5 rfl rfl)
theorem dX2_hired_28 : decode cX2_hired 28 = .ok (.ishl, 1) := dk_120 (dk_at dksX2_hired_1 6 rfl rfl)
theorem dX2_hired_29 : decode cX2_hired 29 = .ok (.if_icmp .ge 68, 3) := dk_162 0 68 (dk_at dksX2_hired_1 7 rfl rfl)
theorem dX2_hired_32 : decode cX2_hired 32 = .ok (.aload_n 0, 1) := dk_42 (dk_at dksX2_hired_1 10 rfl rfl)
theorem dX2_hired_33 : decode cX2_hired 33 = .ok (.iload 4, 2) := dk_21 4 (dk_at dksX2_hired_1 11 rfl rfl)
theorem dX2_hired_35 : decode cX2_hired 35 = .ok (.iconst 0, 1) := dk_3 (dk_at dksX2_hired_1 13 rfl rfl)
theorem dX2_hired_36 : decode cX2_hired 36 = .ok (.invokevirtual 481, 3) := dk_182 1 225 (dk_at dksX2_hired_1 14 rfl rfl)
theorem dX2_hired_39 : decode cX2_hired 39 = .ok (.iload_n 1, 1) := dk_27 (dk_at dksX2_hired_1 17 rfl rfl)
theorem dX2_hired_40 : decode cX2_hired 40 = .ok (.if_icmp .le 6, 3) := dk_164 0 6 (dk_at dksX2_hired_1 18 rfl rfl)
theorem dX2_hired_43 : decode cX2_hired 43 = .ok (.goto 48, 3) := dk_167 0 48 (dk_at dksX2_hired_1 21 rfl rfl)
theorem dX2_hired_46 : decode cX2_hired 46 = .ok (.aload_n 0, 1) := dk_42 (dk_at dksX2_hired_2 0 rfl rfl)
theorem dX2_hired_47 : decode cX2_hired 47 = .ok (.iload 4, 2) := dk_21 4 (dk_at dksX2_hired_2 1 rfl rfl)
theorem dX2_hired_49 : decode cX2_hired 49 = .ok (.iconst 1, 1) := dk_4 (dk_at dksX2_hired_2 3 rfl rfl)
theorem dX2_hired_50 : decode cX2_hired 50 = .ok (.invokevirtual 481, 3) := dk_182 1 225 (dk_at dksX2_hired_2 4 rfl rfl)
theorem dX2_hired_53 : decode cX2_hired 53 = .ok (.aload_n 0, 1) := dk_42 (dk_at dksX2_hired_2 7 rfl rfl)
theorem dX2_hired_54 : decode cX2_hired 54 = .ok (.iload_n 3, 1) := dk_29 (dk_at dksX2_hired_2 8 rfl rfl)
theorem dX2_hired_55 : decode cX2_hired 55 = .ok (.iconst 1, 1) := dk_4 (dk_at dksX2_hired_2 9 rfl rfl)
theorem dX2_hired_56 : decode cX2_hired 56 = .ok (.invokevirtual 481, 3) := dk_182 1 225 (dk_at dksX2_hired_2 10 rfl rfl)
theorem dX2_hired_59 : decode cX2_hired 59 = .ok (.isub, 1) := dk_100 (dk_at dksX2_hired_2 13 rfl rfl)
theorem dX2_hired_60 : decode cX2_hired 60 = .ok (.istore 5, 2) := dk_54 5 (dk_at dksX2_hired_2 14 rfl rfl)
theorem dX2_hired_62 : decode cX2_hired 62 = .ok (.iload 5, 2) := dk_21 5 (dk_at dksX2_hired_2 16 rfl rfl)
theorem dX2_hired_64 : decode cX2_hired 64 = .ok (.ifCond .gt 24, 3) := dk_157 0 24 (dk_at dksX2_hired_2 18 rfl rfl)
theorem dX2_hired_67 : decode cX2_hired 67 = .ok (.iload 5, 2) := dk_21 5 (dk_at dksX2_hired_2 21 rfl rfl)
theorem dX2_hired_69 : decode cX2_hired 69 = .ok (.ifCond .ne 22, 3) := dk_154 0 22 (dk_at dksX2_hired_3 0 rfl rfl)
theorem dX2_hired_72 : decode cX2_hired 72 = .ok (.aload_n 0, 1) := dk_42 (dk_at dksX2_hired_3 3 rfl rfl)
theorem dX2_hired_73 : decode cX2_hired 73 = .ok (.iload 4, 2) := dk_21 4 (dk_at dksX2_hired_3 4 rfl rfl)
theorem dX2_hired_75 : decode cX2_hired 75 = .ok (.iconst 0, 1) := dk_3 (dk_at dksX2_hired_3 6 rfl rfl)
theorem dX2_hired_76 : decode cX2_hired 76 = .ok (.invokevirtual 481, 3) := dk_182 1 225 (dk_at dksX2_hired_3 7 rfl rfl)
theorem dX2_hired_79 : decode cX2_hired 79 = .ok (.aload_n 0, 1) := dk_42 (dk_at dksX2_hired_3 10 rfl rfl)
theorem dX2_hired_80 : decode cX2_hired 80 = .ok (.iload_n 3, 1) := dk_29 (dk_at dksX2_hired_3 11 rfl rfl)
theorem dX2_hired_81 : decode cX2_hired 81 = .ok (.iconst 0, 1) := dk_3 (dk_at dksX2_hired_3 12 rfl rfl)
theorem dX2_hired_82 : decode cX2_hired 82 = .ok (.invokevirtual 481, 3) := dk_182 1 225 (dk_at dksX2_hired_3 13 rfl rfl)
theorem dX2_hired_85 : decode cX2_hired 85 = .ok (.if_icmp .ge 6, 3) := dk_162 0 6 (dk_at dksX2_hired_3 16 rfl rfl)
theorem dX2_hired_88 : decode cX2_hired 88 = .ok (.iload 4, 2) := dk_21 4 (dk_at dksX2_hired_3 19 rfl rfl)
theorem dX2_hired_90 : decode cX2_hired 90 = .ok (.istore_n 3, 1) := dk_62 (dk_at dksX2_hired_3 21 rfl rfl)
theorem dX2_hired_91 : decode cX2_hired 91 = .ok (.iinc 4 1, 3) := dk_132 4 1 (dk_at dksX2_hired_4 0 rfl rfl)
theorem dX2_hired_94 : decode cX2_hired 94 = .ok (.goto (-76), 3) := dk_167 255 180 (dk_at dksX2_hired_4 3 rfl rfl)
theorem dX2_hired_97 : decode cX2_hired 97 = .ok (.iload_n 2, 1) := dk_28 (dk_at dksX2_hired_4 6 rfl rfl)
theorem dX2_hired_98 : decode cX2_hired 98 = .ok (.ifCond .eq 7, 3) := dk_153 0 7 (dk_at dksX2_hired_4 7 rfl rfl)
theorem dX2_hired_101 : decode cX2_hired 101 = .ok (.iload_n 3, 1) := dk_29 (dk_at dksX2_hired_4 10 rfl rfl)
theorem dX2_hired_102 : decode cX2_hired 102 = .ok (.goto 9, 3) := dk_167 0 9 (dk_at dksX2_hired_4 11 rfl rfl)
theorem dX2_hired_105 : decode cX2_hired 105 = .ok (.aload_n 0, 1) := dk_42 (dk_at dksX2_hired_4 14 rfl rfl)
theorem dX2_hired_106 : decode cX2_hired 106 = .ok (.iload_n 3, 1) := dk_29 (dk_at dksX2_hired_4 15 rfl rfl)
theorem dX2_hired_107 : decode cX2_hired 107 = .ok (.iconst 1, 1) := dk_4 (dk_at dksX2_hired_4 16 rfl rfl)
theorem dX2_hired_108 : decode cX2_hired 108 = .ok (.invokevirtual 481, 3) := dk_182 1 225 (dk_at dksX2_hired_4 17 rfl rfl)
theorem dX2_hired_111 : decode cX2_hired 111 = .ok (.ireturn, 1) := dk_172 (dk_at dksX2_hired_4 20 rfl rfl)
abbrev cX2_together : ByteArray := prog_20_method_134_code
def yX2_together : MethodName := ⟨RX2, "together", "(II)I"⟩
def dkwX2_together_2 : List UInt8 := [132, 4, 1, 167, 255, 211, 29, 172]
abbrev dktX2_together_2 : List UInt8 := dkwX2_together_2 ++ []
def dkwX2_together_1 : List UInt8 := [153, 0, 20, 42, 180, 0, 7, 16, 116, 5, 21, 4, 104, 96, 28, 96, 46, 167, 0, 4, 3, 96, 62]
abbrev dktX2_together_1 : List UInt8 := dkwX2_together_1 ++ dktX2_together_2
def dkwX2_together_0 : List UInt8 := [3, 62, 3, 54, 4, 21, 4, 42, 180, 0, 7, 16, 6, 46, 162, 0, 39, 29, 27, 21, 4, 184, 0, 255]
abbrev dktX2_together_0 : List UInt8 := dkwX2_together_0 ++ dktX2_together_1
theorem dksX2_together_0 : cX2_together.data.toList.drop 0 = dktX2_together_0 := by decide +kernel
theorem dksX2_together_1 : cX2_together.data.toList.drop 24 = dktX2_together_1 := dk_seg dksX2_together_0 24 rfl rfl
theorem dksX2_together_2 : cX2_together.data.toList.drop 47 = dktX2_together_2 := dk_seg dksX2_together_1 23 rfl rfl
theorem dX2_together_0 : decode cX2_together 0 = .ok (.iconst 0, 1) := dk_3 (dk_at dksX2_together_0 0 rfl rfl)
theorem dX2_together_1 : decode cX2_together 1 = .ok (.istore_n 3, 1) := dk_62 (dk_at dksX2_together_0 1 rfl rfl)
theorem dX2_together_2 : decode cX2_together 2 = .ok (.iconst 0, 1) := dk_3 (dk_at dksX2_together_0 2 rfl rfl)
theorem dX2_together_3 : decode cX2_together 3 = .ok (.istore 4, 2) := dk_54 4 (dk_at dksX2_together_0 3 rfl rfl)
theorem dX2_together_5 : decode cX2_together 5 = .ok (.iload 4, 2) := dk_21 4 (dk_at dksX2_together_0 5 rfl rfl)
theorem dX2_together_7 : decode cX2_together 7 = .ok (.aload_n 0, 1) := dk_42 (dk_at dksX2_together_0 7 rfl rfl)
theorem dX2_together_8 : decode cX2_together 8 = .ok (.getfield 7, 3) := dk_180 0 7 (dk_at dksX2_together_0 8 rfl rfl)
theorem dX2_together_11 : decode cX2_together 11 = .ok (.bipush 6, 2) := dk_16 6 (dk_at dksX2_together_0 11 rfl rfl)
theorem dX2_together_13 : decode cX2_together 13 = .ok (.iaload, 1) := dk_46 (dk_at dksX2_together_0 13 rfl rfl)
theorem dX2_together_14 : decode cX2_together 14 = .ok (.if_icmp .ge 39, 3) := dk_162 0 39 (dk_at dksX2_together_0 14 rfl rfl)
theorem dX2_together_17 : decode cX2_together 17 = .ok (.iload_n 3, 1) := dk_29 (dk_at dksX2_together_0 17 rfl rfl)
theorem dX2_together_18 : decode cX2_together 18 = .ok (.iload_n 1, 1) := dk_27 (dk_at dksX2_together_0 18 rfl rfl)
theorem dX2_together_19 : decode cX2_together 19 = .ok (.iload 4, 2) := dk_21 4 (dk_at dksX2_together_0 19 rfl rfl)
theorem dX2_together_21 : decode cX2_together 21 = .ok (.invokestatic 255, 3) := dk_184 0 255 (dk_at dksX2_together_0 21 rfl rfl)
theorem dX2_together_24 : decode cX2_together 24 = .ok (.ifCond .eq 20, 3) := dk_153 0 20 (dk_at dksX2_together_1 0 rfl rfl)
theorem dX2_together_27 : decode cX2_together 27 = .ok (.aload_n 0, 1) := dk_42 (dk_at dksX2_together_1 3 rfl rfl)
theorem dX2_together_28 : decode cX2_together 28 = .ok (.getfield 7, 3) := dk_180 0 7 (dk_at dksX2_together_1 4 rfl rfl)
theorem dX2_together_31 : decode cX2_together 31 = .ok (.bipush 116, 2) := dk_16 116 (dk_at dksX2_together_1 7 rfl rfl)
theorem dX2_together_33 : decode cX2_together 33 = .ok (.iconst 2, 1) := dk_5 (dk_at dksX2_together_1 9 rfl rfl)
theorem dX2_together_34 : decode cX2_together 34 = .ok (.iload 4, 2) := dk_21 4 (dk_at dksX2_together_1 10 rfl rfl)
theorem dX2_together_36 : decode cX2_together 36 = .ok (.imul, 1) := dk_104 (dk_at dksX2_together_1 12 rfl rfl)
theorem dX2_together_37 : decode cX2_together 37 = .ok (.iadd, 1) := dk_96 (dk_at dksX2_together_1 13 rfl rfl)
theorem dX2_together_38 : decode cX2_together 38 = .ok (.iload_n 2, 1) := dk_28 (dk_at dksX2_together_1 14 rfl rfl)
theorem dX2_together_39 : decode cX2_together 39 = .ok (.iadd, 1) := dk_96 (dk_at dksX2_together_1 15 rfl rfl)
theorem dX2_together_40 : decode cX2_together 40 = .ok (.iaload, 1) := dk_46 (dk_at dksX2_together_1 16 rfl rfl)
theorem dX2_together_41 : decode cX2_together 41 = .ok (.goto 4, 3) := dk_167 0 4 (dk_at dksX2_together_1 17 rfl rfl)
theorem dX2_together_44 : decode cX2_together 44 = .ok (.iconst 0, 1) := dk_3 (dk_at dksX2_together_1 20 rfl rfl)
theorem dX2_together_45 : decode cX2_together 45 = .ok (.iadd, 1) := dk_96 (dk_at dksX2_together_1 21 rfl rfl)
theorem dX2_together_46 : decode cX2_together 46 = .ok (.istore_n 3, 1) := dk_62 (dk_at dksX2_together_1 22 rfl rfl)
theorem dX2_together_47 : decode cX2_together 47 = .ok (.iinc 4 1, 3) := dk_132 4 1 (dk_at dksX2_together_2 0 rfl rfl)
theorem dX2_together_50 : decode cX2_together 50 = .ok (.goto (-45), 3) := dk_167 255 211 (dk_at dksX2_together_2 3 rfl rfl)
theorem dX2_together_53 : decode cX2_together 53 = .ok (.iload_n 3, 1) := dk_29 (dk_at dksX2_together_2 6 rfl rfl)
theorem dX2_together_54 : decode cX2_together 54 = .ok (.ireturn, 1) := dk_172 (dk_at dksX2_together_2 7 rfl rfl)
abbrev cX2_calm : ByteArray := prog_20_method_136_code
def yX2_calm : MethodName := ⟨RX2, "calm", "(I)I"⟩
def dkwX2_calm_4 : List UInt8 := [21, 4, 29, 164, 0, 8, 21, 4, 167, 0, 4, 29, 62, 132, 5, 1, 167, 255, 203, 29, 172]
abbrev dktX2_calm_4 : List UInt8 := dkwX2_calm_4 ++ []
def dkwX2_calm_3 : List UInt8 := [153, 0, 14, 42, 180, 0, 52, 21, 5, 46, 4, 160, 0, 10, 21, 4, 4, 96, 167, 0, 4, 3, 54, 4]
abbrev dktX2_calm_3 : List UInt8 := dkwX2_calm_3 ++ dktX2_calm_4
def dkwX2_calm_2 : List UInt8 := [100, 61, 3, 62, 3, 54, 4, 3, 54, 5, 21, 5, 28, 162, 0, 53, 42, 180, 0, 49, 21, 5, 46]
abbrev dktX2_calm_2 : List UInt8 := dkwX2_calm_2 ++ dktX2_calm_3
def dkwX2_calm_1 : List UInt8 := [180, 0, 7, 16, 11, 46, 100, 162, 0, 7, 27, 167, 0, 14, 17, 39, 15, 42, 180, 0, 7, 16, 11, 46]
abbrev dktX2_calm_1 : List UInt8 := dkwX2_calm_1 ++ dktX2_calm_2
def dkwX2_calm_0 : List UInt8 := [27, 4, 16, 60, 184, 0, 74, 154, 0, 5, 2, 172, 42, 27, 182, 1, 181, 87, 27, 17, 39, 15, 42]
abbrev dktX2_calm_0 : List UInt8 := dkwX2_calm_0 ++ dktX2_calm_1
theorem dksX2_calm_0 : cX2_calm.data.toList.drop 0 = dktX2_calm_0 := by decide +kernel
theorem dksX2_calm_1 : cX2_calm.data.toList.drop 23 = dktX2_calm_1 := dk_seg dksX2_calm_0 23 rfl rfl
theorem dksX2_calm_2 : cX2_calm.data.toList.drop 47 = dktX2_calm_2 := dk_seg dksX2_calm_1 24 rfl rfl
theorem dksX2_calm_3 : cX2_calm.data.toList.drop 70 = dktX2_calm_3 := dk_seg dksX2_calm_2 23 rfl rfl
theorem dksX2_calm_4 : cX2_calm.data.toList.drop 94 = dktX2_calm_4 := dk_seg dksX2_calm_3 24 rfl rfl
theorem dX2_calm_0 : decode cX2_calm 0 = .ok (.iload_n 1, 1) := dk_27 (dk_at dksX2_calm_0 0 rfl rfl)
theorem dX2_calm_1 : decode cX2_calm 1 = .ok (.iconst 1, 1) := dk_4 (dk_at dksX2_calm_0 1 rfl rfl)
theorem dX2_calm_2 : decode cX2_calm 2 = .ok (.bipush 60, 2) := dk_16 60 (dk_at dksX2_calm_0 2 rfl rfl)
theorem dX2_calm_4 : decode cX2_calm 4 = .ok (.invokestatic 74, 3) := dk_184 0 74 (dk_at dksX2_calm_0 4 rfl rfl)
theorem dX2_calm_7 : decode cX2_calm 7 = .ok (.ifCond .ne 5, 3) := dk_154 0 5 (dk_at dksX2_calm_0 7 rfl rfl)
theorem dX2_calm_10 : decode cX2_calm 10 = .ok (.iconst (-1), 1) := dk_2 (dk_at dksX2_calm_0 10 rfl rfl)
theorem dX2_calm_11 : decode cX2_calm 11 = .ok (.ireturn, 1) := dk_172 (dk_at dksX2_calm_0 11 rfl rfl)
theorem dX2_calm_12 : decode cX2_calm 12 = .ok (.aload_n 0, 1) := dk_42 (dk_at dksX2_calm_0 12 rfl rfl)
theorem dX2_calm_13 : decode cX2_calm 13 = .ok (.iload_n 1, 1) := dk_27 (dk_at dksX2_calm_0 13 rfl rfl)
theorem dX2_calm_14 : decode cX2_calm 14 = .ok (.invokevirtual 437, 3) := dk_182 1 181 (dk_at dksX2_calm_0 14 rfl rfl)
theorem dX2_calm_17 : decode cX2_calm 17 = .ok (.pop, 1) := dk_87 (dk_at dksX2_calm_0 17 rfl rfl)
theorem dX2_calm_18 : decode cX2_calm 18 = .ok (.iload_n 1, 1) := dk_27 (dk_at dksX2_calm_0 18 rfl rfl)
theorem dX2_calm_19 : decode cX2_calm 19 = .ok (.sipush 9999, 3) := dk_17 39 15 (dk_at dksX2_calm_0 19 rfl rfl)
theorem dX2_calm_22 : decode cX2_calm 22 = .ok (.aload_n 0, 1) := dk_42 (dk_at dksX2_calm_0 22 rfl rfl)
theorem dX2_calm_23 : decode cX2_calm 23 = .ok (.getfield 7, 3) := dk_180 0 7 (dk_at dksX2_calm_1 0 rfl rfl)
theorem dX2_calm_26 : decode cX2_calm 26 = .ok (.bipush 11, 2) := dk_16 11 (dk_at dksX2_calm_1 3 rfl rfl)
theorem dX2_calm_28 : decode cX2_calm 28 = .ok (.iaload, 1) := dk_46 (dk_at dksX2_calm_1 5 rfl rfl)
theorem dX2_calm_29 : decode cX2_calm 29 = .ok (.isub, 1) := dk_100 (dk_at dksX2_calm_1 6 rfl rfl)
theorem dX2_calm_30 : decode cX2_calm 30 = .ok (.if_icmp .ge 7, 3) := dk_162 0 7 (dk_at dksX2_calm_1 7 rfl rfl)
theorem dX2_calm_33 : decode cX2_calm 33 = .ok (.iload_n 1, 1) := dk_27 (dk_at dksX2_calm_1 10 rfl rfl)
theorem dX2_calm_34 : decode cX2_calm 34 = .ok (.goto 14, 3) := dk_167 0 14 (dk_at dksX2_calm_1 11 rfl rfl)
theorem dX2_calm_37 : decode cX2_calm 37 = .ok (.sipush 9999, 3) := dk_17 39 15 (dk_at dksX2_calm_1 14 rfl rfl)
theorem dX2_calm_40 : decode cX2_calm 40 = .ok (.aload_n 0, 1) := dk_42 (dk_at dksX2_calm_1 17 rfl rfl)
theorem dX2_calm_41 : decode cX2_calm 41 = .ok (.getfield 7, 3) := dk_180 0 7 (dk_at dksX2_calm_1 18 rfl rfl)
theorem dX2_calm_44 : decode cX2_calm 44 = .ok (.bipush 11, 2) := dk_16 11 (dk_at dksX2_calm_1 21 rfl rfl)
theorem dX2_calm_46 : decode cX2_calm 46 = .ok (.iaload, 1) := dk_46 (dk_at dksX2_calm_1 23 rfl rfl)
theorem dX2_calm_47 : decode cX2_calm 47 = .ok (.isub, 1) := dk_100 (dk_at dksX2_calm_2 0 rfl rfl)
theorem dX2_calm_48 : decode cX2_calm 48 = .ok (.istore_n 2, 1) := dk_61 (dk_at dksX2_calm_2 1 rfl rfl)
theorem dX2_calm_49 : decode cX2_calm 49 = .ok (.iconst 0, 1) := dk_3 (dk_at dksX2_calm_2 2 rfl rfl)
theorem dX2_calm_50 : decode cX2_calm 50 = .ok (.istore_n 3, 1) := dk_62 (dk_at dksX2_calm_2 3 rfl rfl)
theorem dX2_calm_51 : decode cX2_calm 51 = .ok (.iconst 0, 1) := dk_3 (dk_at dksX2_calm_2 4 rfl rfl)
theorem dX2_calm_52 : decode cX2_calm 52 = .ok (.istore 4, 2) := dk_54 4 (dk_at dksX2_calm_2 5 rfl rfl)
theorem dX2_calm_54 : decode cX2_calm 54 = .ok (.iconst 0, 1) := dk_3 (dk_at dksX2_calm_2 7 rfl rfl)
theorem dX2_calm_55 : decode cX2_calm 55 = .ok (.istore 5, 2) := dk_54 5 (dk_at dksX2_calm_2 8 rfl rfl)
theorem dX2_calm_57 : decode cX2_calm 57 = .ok (.iload 5, 2) := dk_21 5 (dk_at dksX2_calm_2 10 rfl rfl)
theorem dX2_calm_59 : decode cX2_calm 59 = .ok (.iload_n 2, 1) := dk_28 (dk_at dksX2_calm_2 12 rfl rfl)
theorem dX2_calm_60 : decode cX2_calm 60 = .ok (.if_icmp .ge 53, 3) := dk_162 0 53 (dk_at dksX2_calm_2 13 rfl rfl)
theorem dX2_calm_63 : decode cX2_calm 63 = .ok (.aload_n 0, 1) := dk_42 (dk_at dksX2_calm_2 16 rfl rfl)
theorem dX2_calm_64 : decode cX2_calm 64 = .ok (.getfield 49, 3) := dk_180 0 49 (dk_at dksX2_calm_2 17 rfl rfl)
theorem dX2_calm_67 : decode cX2_calm 67 = .ok (.iload 5, 2) := dk_21 5 (dk_at dksX2_calm_2 20 rfl rfl)
theorem dX2_calm_69 : decode cX2_calm 69 = .ok (.iaload, 1) := dk_46 (dk_at dksX2_calm_2 22 rfl rfl)
theorem dX2_calm_70 : decode cX2_calm 70 = .ok (.ifCond .eq 14, 3) := dk_153 0 14 (dk_at dksX2_calm_3 0 rfl rfl)
theorem dX2_calm_73 : decode cX2_calm 73 = .ok (.aload_n 0, 1) := dk_42 (dk_at dksX2_calm_3 3 rfl rfl)
theorem dX2_calm_74 : decode cX2_calm 74 = .ok (.getfield 52, 3) := dk_180 0 52 (dk_at dksX2_calm_3 4 rfl rfl)
theorem dX2_calm_77 : decode cX2_calm 77 = .ok (.iload 5, 2) := dk_21 5 (dk_at dksX2_calm_3 7 rfl rfl)
theorem dX2_calm_79 : decode cX2_calm 79 = .ok (.iaload, 1) := dk_46 (dk_at dksX2_calm_3 9 rfl rfl)
theorem dX2_calm_80 : decode cX2_calm 80 = .ok (.iconst 1, 1) := dk_4 (dk_at dksX2_calm_3 10 rfl rfl)
theorem dX2_calm_81 : decode cX2_calm 81 = .ok (.if_icmp .ne 10, 3) := dk_160 0 10 (dk_at dksX2_calm_3 11 rfl rfl)
theorem dX2_calm_84 : decode cX2_calm 84 = .ok (.iload 4, 2) := dk_21 4 (dk_at dksX2_calm_3 14 rfl rfl)
theorem dX2_calm_86 : decode cX2_calm 86 = .ok (.iconst 1, 1) := dk_4 (dk_at dksX2_calm_3 16 rfl rfl)
theorem dX2_calm_87 : decode cX2_calm 87 = .ok (.iadd, 1) := dk_96 (dk_at dksX2_calm_3 17 rfl rfl)
theorem dX2_calm_88 : decode cX2_calm 88 = .ok (.goto 4, 3) := dk_167 0 4 (dk_at dksX2_calm_3 18 rfl rfl)
theorem dX2_calm_91 : decode cX2_calm 91 = .ok (.iconst 0, 1) := dk_3 (dk_at dksX2_calm_3 21 rfl rfl)
theorem dX2_calm_92 : decode cX2_calm 92 = .ok (.istore 4, 2) := dk_54 4 (dk_at dksX2_calm_3 22 rfl rfl)
theorem dX2_calm_94 : decode cX2_calm 94 = .ok (.iload 4, 2) := dk_21 4 (dk_at dksX2_calm_4 0 rfl rfl)
theorem dX2_calm_96 : decode cX2_calm 96 = .ok (.iload_n 3, 1) := dk_29 (dk_at dksX2_calm_4 2 rfl rfl)
theorem dX2_calm_97 : decode cX2_calm 97 = .ok (.if_icmp .le 8, 3) := dk_164 0 8 (dk_at dksX2_calm_4 3 rfl rfl)
theorem dX2_calm_100 : decode cX2_calm 100 = .ok (.iload 4, 2) := dk_21 4 (dk_at dksX2_calm_4 6 rfl rfl)
theorem dX2_calm_102 : decode cX2_calm 102 = .ok (.goto 4, 3) := dk_167 0 4 (dk_at dksX2_calm_4 8 rfl rfl)
theorem dX2_calm_105 : decode cX2_calm 105 = .ok (.iload_n 3, 1) := dk_29 (dk_at dksX2_calm_4 11 rfl rfl)
theorem dX2_calm_106 : decode cX2_calm 106 = .ok (.istore_n 3, 1) := dk_62 (dk_at dksX2_calm_4 12 rfl rfl)
theorem dX2_calm_107 : decode cX2_calm 107 = .ok (.iinc 5 1, 3) := dk_132 5 1 (dk_at dksX2_calm_4 13 rfl rfl)
theorem dX2_calm_110 : decode cX2_calm 110 = .ok (.goto (-53), 3) := dk_167 255 203 (dk_at dksX2_calm_4 16 rfl rfl)
theorem dX2_calm_113 : decode cX2_calm 113 = .ok (.iload_n 3, 1) := dk_29 (dk_at dksX2_calm_4 19 rfl rfl)
theorem dX2_calm_114 : decode cX2_calm 114 = .ok (.ireturn, 1) := dk_172 (dk_at dksX2_calm_4 20 rfl rfl)
abbrev cX2_standing : ByteArray := prog_20_method_137_code
def yX2_standing : MethodName := ⟨RX2, "standing", "(II)I"⟩
def dkwX2_standing_4 : List UInt8 := [167, 255, 226, 21, 4, 172]
abbrev dktX2_standing_4 : List UInt8 := dkwX2_standing_4 ++ []
def dkwX2_standing_3 : List UInt8 := [21, 4, 42, 180, 0, 46, 21, 5, 46, 28, 160, 0, 7, 4, 167, 0, 4, 3, 96, 54, 4, 132, 5, 1]
abbrev dktX2_standing_3 : List UInt8 := dkwX2_standing_3 ++ dktX2_standing_4
def dkwX2_standing_2 : List UInt8 := [17, 39, 15, 42, 180, 0, 7, 16, 11, 46, 100, 62, 3, 54, 4, 3, 54, 5, 21, 5, 29, 162, 0, 30]
abbrev dktX2_standing_2 : List UInt8 := dkwX2_standing_2 ++ dktX2_standing_3
def dkwX2_standing_1 : List UInt8 := [182, 1, 181, 87, 27, 17, 39, 15, 42, 180, 0, 7, 16, 11, 46, 100, 162, 0, 7, 27, 167, 0, 14]
abbrev dktX2_standing_1 : List UInt8 := dkwX2_standing_1 ++ dktX2_standing_2
def dkwX2_standing_0 : List UInt8 := [27, 4, 16, 60, 184, 0, 74, 153, 0, 12, 28, 3, 6, 184, 0, 74, 154, 0, 5, 2, 172, 42, 27]
abbrev dktX2_standing_0 : List UInt8 := dkwX2_standing_0 ++ dktX2_standing_1
theorem dksX2_standing_0 : cX2_standing.data.toList.drop 0 = dktX2_standing_0 := by decide +kernel
theorem dksX2_standing_1 : cX2_standing.data.toList.drop 23 = dktX2_standing_1 := dk_seg dksX2_standing_0 23 rfl rfl
theorem dksX2_standing_2 : cX2_standing.data.toList.drop 46 = dktX2_standing_2 := dk_seg dksX2_standing_1 23 rfl rfl
theorem dksX2_standing_3 : cX2_standing.data.toList.drop 70 = dktX2_standing_3 := dk_seg dksX2_standing_2 24 rfl rfl
theorem dksX2_standing_4 : cX2_standing.data.toList.drop 94 = dktX2_standing_4 := dk_seg dksX2_standing_3 24 rfl rfl
theorem dX2_standing_0 : decode cX2_standing 0 = .ok (.iload_n 1, 1) := dk_27 (dk_at dksX2_standing_0 0 rfl rfl)
theorem dX2_standing_1 : decode cX2_standing 1 = .ok (.iconst 1, 1) := dk_4 (dk_at dksX2_standing_0 1 rfl rfl)
theorem dX2_standing_2 : decode cX2_standing 2 = .ok (.bipush 60, 2) := dk_16 60 (dk_at dksX2_standing_0 2 rfl rfl)
theorem dX2_standing_4 : decode cX2_standing 4 = .ok (.invokestatic 74, 3) := dk_184 0 74 (dk_at dksX2_standing_0 4 rfl rfl)
theorem dX2_standing_7 : decode cX2_standing 7 = .ok (.ifCond .eq 12, 3) := dk_153 0 12 (dk_at dksX2_standing_0 7 rfl rfl)
theorem dX2_standing_10 : decode cX2_standing 10 = .ok (.iload_n 2, 1) := dk_28 (dk_at dksX2_standing_0 10 rfl rfl)
theorem dX2_standing_11 : decode cX2_standing 11 = .ok (.iconst 0, 1) := dk_3 (dk_at dksX2_standing_0 11 rfl rfl)
theorem dX2_standing_12 : decode cX2_standing 12 = .ok (.iconst 3, 1) := dk_6 (dk_at dksX2_standing_0 12 rfl rfl)
theorem dX2_standing_13 : decode cX2_standing 13 = .ok (.invokestatic 74, 3) := dk_184 0 74 (dk_at dksX2_standing_0 13 rfl rfl)
theorem dX2_standing_16 : decode cX2_standing 16 = .ok (.ifCond .ne 5, 3) := dk_154 0 5 (dk_at dksX2_standing_0 16 rfl rfl)
theorem dX2_standing_19 : decode cX2_standing 19 = .ok (.iconst (-1), 1) := dk_2 (dk_at dksX2_standing_0 19 rfl rfl)
theorem dX2_standing_20 : decode cX2_standing 20 = .ok (.ireturn, 1) := dk_172 (dk_at dksX2_standing_0 20 rfl rfl)
theorem dX2_standing_21 : decode cX2_standing 21 = .ok (.aload_n 0, 1) := dk_42 (dk_at dksX2_standing_0 21 rfl rfl)
theorem dX2_standing_22 : decode cX2_standing 22 = .ok (.iload_n 1, 1) := dk_27 (dk_at dksX2_standing_0 22 rfl rfl)
theorem dX2_standing_23 : decode cX2_standing 23 = .ok (.invokevirtual 437, 3) := dk_182 1 181 (dk_at dksX2_standing_1 0 rfl rfl)
theorem dX2_standing_26 : decode cX2_standing 26 = .ok (.pop, 1) := dk_87 (dk_at dksX2_standing_1 3 rfl rfl)
theorem dX2_standing_27 : decode cX2_standing 27 = .ok (.iload_n 1, 1) := dk_27 (dk_at dksX2_standing_1 4 rfl rfl)
theorem dX2_standing_28 : decode cX2_standing 28 = .ok (.sipush 9999, 3) := dk_17 39 15 (dk_at dksX2_standing_1 5 rfl rfl)
theorem dX2_standing_31 : decode cX2_standing 31 = .ok (.aload_n 0, 1) := dk_42 (dk_at dksX2_standing_1 8 rfl rfl)
theorem dX2_standing_32 : decode cX2_standing 32 = .ok (.getfield 7, 3) := dk_180 0 7 (dk_at dksX2_standing_1 9 rfl rfl)
theorem dX2_standing_35 : decode cX2_standing 35 = .ok (.bipush 11, 2) := dk_16 11 (dk_at dksX2_standing_1 12 rfl rfl)
theorem dX2_standing_37 : decode cX2_standing 37 = .ok (.iaload, 1) := dk_46 (dk_at dksX2_standing_1 14 rfl rfl)
theorem dX2_standing_38 : decode cX2_standing 38 = .ok (.isub, 1) := dk_100 (dk_at dksX2_standing_1 15 rfl rfl)
theorem dX2_standing_39 : decode cX2_standing 39 = .ok (.if_icmp .ge 7, 3) := dk_162 0 7 (dk_at dksX2_standing_1 16 rfl rfl)
theorem dX2_standing_42 : decode cX2_standing 42 = .ok (.iload_n 1, 1) := dk_27 (dk_at dksX2_standing_1 19 rfl rfl)
theorem dX2_standing_43 : decode cX2_standing 43 = .ok (.goto 14, 3) := dk_167 0 14 (dk_at dksX2_standing_1 20 rfl rfl)
theorem dX2_standing_46 : decode cX2_standing 46 = .ok (.sipush 9999, 3) := dk_17 39 15 (dk_at dksX2_standing_2 0 rfl rfl)
theorem dX2_standing_49 : decode cX2_standing 49 = .ok (.aload_n 0, 1) := dk_42 (dk_at dksX2_standing_2 3 rfl rfl)
theorem dX2_standing_50 : decode cX2_standing 50 = .ok (.getfield 7, 3) := dk_180 0 7 (dk_at dksX2_standing_2 4 rfl rfl)
theorem dX2_standing_53 : decode cX2_standing 53 = .ok (.bipush 11, 2) := dk_16 11 (dk_at dksX2_standing_2 7 rfl rfl)
theorem dX2_standing_55 : decode cX2_standing 55 = .ok (.iaload, 1) := dk_46 (dk_at dksX2_standing_2 9 rfl rfl)
theorem dX2_standing_56 : decode cX2_standing 56 = .ok (.isub, 1) := dk_100 (dk_at dksX2_standing_2 10 rfl rfl)
theorem dX2_standing_57 : decode cX2_standing 57 = .ok (.istore_n 3, 1) := dk_62 (dk_at dksX2_standing_2 11 rfl rfl)
theorem dX2_standing_58 : decode cX2_standing 58 = .ok (.iconst 0, 1) := dk_3 (dk_at dksX2_standing_2 12 rfl rfl)
theorem dX2_standing_59 : decode cX2_standing 59 = .ok (.istore 4, 2) := dk_54 4 (dk_at dksX2_standing_2 13 rfl rfl)
theorem dX2_standing_61 : decode cX2_standing 61 = .ok (.iconst 0, 1) := dk_3 (dk_at dksX2_standing_2 15 rfl rfl)
theorem dX2_standing_62 : decode cX2_standing 62 = .ok (.istore 5, 2) := dk_54 5 (dk_at dksX2_standing_2 16 rfl rfl)
theorem dX2_standing_64 : decode cX2_standing 64 = .ok (.iload 5, 2) := dk_21 5 (dk_at dksX2_standing_2 18 rfl rfl)
theorem dX2_standing_66 : decode cX2_standing 66 = .ok (.iload_n 3, 1) := dk_29 (dk_at dksX2_standing_2 20 rfl rfl)
theorem dX2_standing_67 : decode cX2_standing 67 = .ok (.if_icmp .ge 30, 3) := dk_162 0 30 (dk_at dksX2_standing_2 21 rfl rfl)
theorem dX2_standing_70 : decode cX2_standing 70 = .ok (.iload 4, 2) := dk_21 4 (dk_at dksX2_standing_3 0 rfl rfl)
theorem dX2_standing_72 : decode cX2_standing 72 = .ok (.aload_n 0, 1) := dk_42 (dk_at dksX2_standing_3 2 rfl rfl)
theorem dX2_standing_73 : decode cX2_standing 73 = .ok (.getfield 46, 3) := dk_180 0 46 (dk_at dksX2_standing_3 3 rfl rfl)
theorem dX2_standing_76 : decode cX2_standing 76 = .ok (.iload 5, 2) := dk_21 5 (dk_at dksX2_standing_3 6 rfl rfl)
theorem dX2_standing_78 : decode cX2_standing 78 = .ok (.iaload, 1) := dk_46 (dk_at dksX2_standing_3 8 rfl rfl)
theorem dX2_standing_79 : decode cX2_standing 79 = .ok (.iload_n 2, 1) := dk_28 (dk_at dksX2_standing_3 9 rfl rfl)
theorem dX2_standing_80 : decode cX2_standing 80 = .ok (.if_icmp .ne 7, 3) := dk_160 0 7 (dk_at dksX2_standing_3 10 rfl rfl)
theorem dX2_standing_83 : decode cX2_standing 83 = .ok (.iconst 1, 1) := dk_4 (dk_at dksX2_standing_3 13 rfl rfl)
theorem dX2_standing_84 : decode cX2_standing 84 = .ok (.goto 4, 3) := dk_167 0 4 (dk_at dksX2_standing_3 14 rfl rfl)
theorem dX2_standing_87 : decode cX2_standing 87 = .ok (.iconst 0, 1) := dk_3 (dk_at dksX2_standing_3 17 rfl rfl)
theorem dX2_standing_88 : decode cX2_standing 88 = .ok (.iadd, 1) := dk_96 (dk_at dksX2_standing_3 18 rfl rfl)
theorem dX2_standing_89 : decode cX2_standing 89 = .ok (.istore 4, 2) := dk_54 4 (dk_at dksX2_standing_3 19 rfl rfl)
theorem dX2_standing_91 : decode cX2_standing 91 = .ok (.iinc 5 1, 3) := dk_132 5 1 (dk_at dksX2_standing_3 21 rfl rfl)
theorem dX2_standing_94 : decode cX2_standing 94 = .ok (.goto (-30), 3) := dk_167 255 226 (dk_at dksX2_standing_4 0 rfl rfl)
theorem dX2_standing_97 : decode cX2_standing 97 = .ok (.iload 4, 2) := dk_21 4 (dk_at dksX2_standing_4 3 rfl rfl)
theorem dX2_standing_99 : decode cX2_standing 99 = .ok (.ireturn, 1) := dk_172 (dk_at dksX2_standing_4 5 rfl rfl)
abbrev cX2_image : ByteArray := prog_20_method_138_code
def yX2_image : MethodName := ⟨RX2, "image", "()I"⟩
def dkwX2_image_0 : List UInt8 := [42, 180, 0, 7, 42, 180, 0, 13, 184, 0, 70, 42, 180, 0, 7, 16, 11, 46, 172]
abbrev dktX2_image_0 : List UInt8 := dkwX2_image_0 ++ []
theorem dksX2_image_0 : cX2_image.data.toList.drop 0 = dktX2_image_0 := by decide +kernel
theorem dX2_image_0 : decode cX2_image 0 = .ok (.aload_n 0, 1) := dk_42 (dk_at dksX2_image_0 0 rfl rfl)
theorem dX2_image_1 : decode cX2_image 1 = .ok (.getfield 7, 3) := dk_180 0 7 (dk_at dksX2_image_0 1 rfl rfl)
theorem dX2_image_4 : decode cX2_image 4 = .ok (.aload_n 0, 1) := dk_42 (dk_at dksX2_image_0 4 rfl rfl)
theorem dX2_image_5 : decode cX2_image 5 = .ok (.getfield 13, 3) := dk_180 0 13 (dk_at dksX2_image_0 5 rfl rfl)
theorem dX2_image_8 : decode cX2_image 8 = .ok (.invokestatic 70, 3) := dk_184 0 70 (dk_at dksX2_image_0 8 rfl rfl)
theorem dX2_image_11 : decode cX2_image 11 = .ok (.aload_n 0, 1) := dk_42 (dk_at dksX2_image_0 11 rfl rfl)
theorem dX2_image_12 : decode cX2_image 12 = .ok (.getfield 7, 3) := dk_180 0 7 (dk_at dksX2_image_0 12 rfl rfl)
theorem dX2_image_15 : decode cX2_image 15 = .ok (.bipush 11, 2) := dk_16 11 (dk_at dksX2_image_0 15 rfl rfl)
theorem dX2_image_17 : decode cX2_image 17 = .ok (.iaload, 1) := dk_46 (dk_at dksX2_image_0 17 rfl rfl)
theorem dX2_image_18 : decode cX2_image 18 = .ok (.ireturn, 1) := dk_172 (dk_at dksX2_image_0 18 rfl rfl)
abbrev cX2_back : ByteArray := prog_20_method_139_code
def yX2_back : MethodName := ⟨RX2, "back", "()I"⟩
def dkwX2_back_0 : List UInt8 := [42, 180, 0, 13, 42, 180, 0, 7, 184, 0, 70, 42, 180, 0, 7, 16, 11, 46, 172]
abbrev dktX2_back_0 : List UInt8 := dkwX2_back_0 ++ []
theorem dksX2_back_0 : cX2_back.data.toList.drop 0 = dktX2_back_0 := by decide +kernel
theorem dX2_back_0 : decode cX2_back 0 = .ok (.aload_n 0, 1) := dk_42 (dk_at dksX2_back_0 0 rfl rfl)
theorem dX2_back_1 : decode cX2_back 1 = .ok (.getfield 13, 3) := dk_180 0 13 (dk_at dksX2_back_0 1 rfl rfl)
theorem dX2_back_4 : decode cX2_back 4 = .ok (.aload_n 0, 1) := dk_42 (dk_at dksX2_back_0 4 rfl rfl)
theorem dX2_back_5 : decode cX2_back 5 = .ok (.getfield 7, 3) := dk_180 0 7 (dk_at dksX2_back_0 5 rfl rfl)
theorem dX2_back_8 : decode cX2_back 8 = .ok (.invokestatic 70, 3) := dk_184 0 70 (dk_at dksX2_back_0 8 rfl rfl)
theorem dX2_back_11 : decode cX2_back 11 = .ok (.aload_n 0, 1) := dk_42 (dk_at dksX2_back_0 11 rfl rfl)
theorem dX2_back_12 : decode cX2_back 12 = .ok (.getfield 7, 3) := dk_180 0 7 (dk_at dksX2_back_0 12 rfl rfl)
theorem dX2_back_15 : decode cX2_back 15 = .ok (.bipush 11, 2) := dk_16 11 (dk_at dksX2_back_0 15 rfl rfl)
theorem dX2_back_17 : decode cX2_back 17 = .ok (.iaload, 1) := dk_46 (dk_at dksX2_back_0 17 rfl rfl)
theorem dX2_back_18 : decode cX2_back 18 = .ok (.ireturn, 1) := dk_172 (dk_at dksX2_back_0 18 rfl rfl)
abbrev cX2_about : ByteArray := prog_20_method_140_code
def yX2_about : MethodName := ⟨RX2, "about", "(I)I"⟩
def dkwX2_about_4 : List UInt8 := [16, 6, 46, 172, 42, 180, 0, 90, 172, 16, 254, 172]
abbrev dktX2_about_4 : List UInt8 := dkwX2_about_4 ++ []
def dkwX2_about_3 : List UInt8 := [180, 0, 7, 6, 46, 172, 42, 180, 0, 7, 7, 46, 172, 42, 180, 0, 7, 8, 46, 172, 42, 180, 0, 7]
abbrev dktX2_about_3 : List UInt8 := dkwX2_about_3 ++ dktX2_about_4
def dkwX2_about_2 : List UInt8 := [42, 180, 0, 7, 3, 46, 172, 42, 180, 0, 7, 4, 46, 172, 42, 180, 0, 7, 5, 46, 172, 42]
abbrev dktX2_about_2 : List UInt8 := dkwX2_about_2 ++ dktX2_about_3
def dkwX2_about_1 : List UInt8 := [170, 0, 0, 0, 0, 0, 102, 0, 0, 0, 0, 0, 0, 0, 7, 0, 0, 0, 47, 0, 0, 0, 54, 0, 0, 0, 61, 0, 0, 0, 68, 0, 0, 0, 75, 0, 0, 0, 82, 0, 0, 0, 89, 0, 0, 0, 97]
abbrev dktX2_about_1 : List UInt8 := dkwX2_about_1 ++ dktX2_about_2
def dkwX2_about_0 : List UInt8 := [27]
abbrev dktX2_about_0 : List UInt8 := dkwX2_about_0 ++ dktX2_about_1
theorem dksX2_about_0 : cX2_about.data.toList.drop 0 = dktX2_about_0 := by decide +kernel
theorem dksX2_about_1 : cX2_about.data.toList.drop 1 = dktX2_about_1 := dk_seg dksX2_about_0 1 rfl rfl
theorem dksX2_about_2 : cX2_about.data.toList.drop 48 = dktX2_about_2 := dk_seg dksX2_about_1 47 rfl rfl
theorem dksX2_about_3 : cX2_about.data.toList.drop 70 = dktX2_about_3 := dk_seg dksX2_about_2 22 rfl rfl
theorem dksX2_about_4 : cX2_about.data.toList.drop 94 = dktX2_about_4 := dk_seg dksX2_about_3 24 rfl rfl
theorem dX2_about_0 : decode cX2_about 0 = .ok (.iload_n 1, 1) := dk_27 (dk_at dksX2_about_0 0 rfl rfl)
theorem dX2_about_1 : decode cX2_about 1 = .ok (.tableswitch 102 0 7 #[47, 54, 61, 68, 75, 82, 89, 97], 47) := by decide +kernel
theorem dX2_about_48 : decode cX2_about 48 = .ok (.aload_n 0, 1) := dk_42 (dk_at dksX2_about_2 0 rfl rfl)
theorem dX2_about_49 : decode cX2_about 49 = .ok (.getfield 7, 3) := dk_180 0 7 (dk_at dksX2_about_2 1 rfl rfl)
theorem dX2_about_52 : decode cX2_about 52 = .ok (.iconst 0, 1) := dk_3 (dk_at dksX2_about_2 4 rfl rfl)
theorem dX2_about_53 : decode cX2_about 53 = .ok (.iaload, 1) := dk_46 (dk_at dksX2_about_2 5 rfl rfl)
theorem dX2_about_54 : decode cX2_about 54 = .ok (.ireturn, 1) := dk_172 (dk_at dksX2_about_2 6 rfl rfl)
theorem dX2_about_55 : decode cX2_about 55 = .ok (.aload_n 0, 1) := dk_42 (dk_at dksX2_about_2 7 rfl rfl)
theorem dX2_about_56 : decode cX2_about 56 = .ok (.getfield 7, 3) := dk_180 0 7 (dk_at dksX2_about_2 8 rfl rfl)
theorem dX2_about_59 : decode cX2_about 59 = .ok (.iconst 1, 1) := dk_4 (dk_at dksX2_about_2 11 rfl rfl)
theorem dX2_about_60 : decode cX2_about 60 = .ok (.iaload, 1) := dk_46 (dk_at dksX2_about_2 12 rfl rfl)
theorem dX2_about_61 : decode cX2_about 61 = .ok (.ireturn, 1) := dk_172 (dk_at dksX2_about_2 13 rfl rfl)
theorem dX2_about_62 : decode cX2_about 62 = .ok (.aload_n 0, 1) := dk_42 (dk_at dksX2_about_2 14 rfl rfl)
theorem dX2_about_63 : decode cX2_about 63 = .ok (.getfield 7, 3) := dk_180 0 7 (dk_at dksX2_about_2 15 rfl rfl)
theorem dX2_about_66 : decode cX2_about 66 = .ok (.iconst 2, 1) := dk_5 (dk_at dksX2_about_2 18 rfl rfl)
theorem dX2_about_67 : decode cX2_about 67 = .ok (.iaload, 1) := dk_46 (dk_at dksX2_about_2 19 rfl rfl)
theorem dX2_about_68 : decode cX2_about 68 = .ok (.ireturn, 1) := dk_172 (dk_at dksX2_about_2 20 rfl rfl)
theorem dX2_about_69 : decode cX2_about 69 = .ok (.aload_n 0, 1) := dk_42 (dk_at dksX2_about_2 21 rfl rfl)
theorem dX2_about_70 : decode cX2_about 70 = .ok (.getfield 7, 3) := dk_180 0 7 (dk_at dksX2_about_3 0 rfl rfl)
theorem dX2_about_73 : decode cX2_about 73 = .ok (.iconst 3, 1) := dk_6 (dk_at dksX2_about_3 3 rfl rfl)
theorem dX2_about_74 : decode cX2_about 74 = .ok (.iaload, 1) := dk_46 (dk_at dksX2_about_3 4 rfl rfl)
theorem dX2_about_75 : decode cX2_about 75 = .ok (.ireturn, 1) := dk_172 (dk_at dksX2_about_3 5 rfl rfl)
theorem dX2_about_76 : decode cX2_about 76 = .ok (.aload_n 0, 1) := dk_42 (dk_at dksX2_about_3 6 rfl rfl)
theorem dX2_about_77 : decode cX2_about 77 = .ok (.getfield 7, 3) := dk_180 0 7 (dk_at dksX2_about_3 7 rfl rfl)
theorem dX2_about_80 : decode cX2_about 80 = .ok (.iconst 4, 1) := dk_7 (dk_at dksX2_about_3 10 rfl rfl)
theorem dX2_about_81 : decode cX2_about 81 = .ok (.iaload, 1) := dk_46 (dk_at dksX2_about_3 11 rfl rfl)
theorem dX2_about_82 : decode cX2_about 82 = .ok (.ireturn, 1) := dk_172 (dk_at dksX2_about_3 12 rfl rfl)
theorem dX2_about_83 : decode cX2_about 83 = .ok (.aload_n 0, 1) := dk_42 (dk_at dksX2_about_3 13 rfl rfl)
theorem dX2_about_84 : decode cX2_about 84 = .ok (.getfield 7, 3) := dk_180 0 7 (dk_at dksX2_about_3 14 rfl rfl)
theorem dX2_about_87 : decode cX2_about 87 = .ok (.iconst 5, 1) := dk_8 (dk_at dksX2_about_3 17 rfl rfl)
theorem dX2_about_88 : decode cX2_about 88 = .ok (.iaload, 1) := dk_46 (dk_at dksX2_about_3 18 rfl rfl)
theorem dX2_about_89 : decode cX2_about 89 = .ok (.ireturn, 1) := dk_172 (dk_at dksX2_about_3 19 rfl rfl)
theorem dX2_about_90 : decode cX2_about 90 = .ok (.aload_n 0, 1) := dk_42 (dk_at dksX2_about_3 20 rfl rfl)
theorem dX2_about_91 : decode cX2_about 91 = .ok (.getfield 7, 3) := dk_180 0 7 (dk_at dksX2_about_3 21 rfl rfl)
theorem dX2_about_94 : decode cX2_about 94 = .ok (.bipush 6, 2) := dk_16 6 (dk_at dksX2_about_4 0 rfl rfl)
theorem dX2_about_96 : decode cX2_about 96 = .ok (.iaload, 1) := dk_46 (dk_at dksX2_about_4 2 rfl rfl)
theorem dX2_about_97 : decode cX2_about 97 = .ok (.ireturn, 1) := dk_172 (dk_at dksX2_about_4 3 rfl rfl)
theorem dX2_about_98 : decode cX2_about 98 = .ok (.aload_n 0, 1) := dk_42 (dk_at dksX2_about_4 4 rfl rfl)
theorem dX2_about_99 : decode cX2_about 99 = .ok (.getfield 90, 3) := dk_180 0 90 (dk_at dksX2_about_4 5 rfl rfl)
theorem dX2_about_102 : decode cX2_about 102 = .ok (.ireturn, 1) := dk_172 (dk_at dksX2_about_4 8 rfl rfl)
theorem dX2_about_103 : decode cX2_about 103 = .ok (.bipush (-2), 2) := dk_16 254 (dk_at dksX2_about_4 9 rfl rfl)
theorem dX2_about_105 : decode cX2_about 105 = .ok (.ireturn, 1) := dk_172 (dk_at dksX2_about_4 11 rfl rfl)
theorem q140 : (Jvm.Cond.initialized "VaneCourtModel") ∈ lw_all := lw_g (lw_at lw_m1 4 rfl) rfl
theorem q660 : (Jvm.Cond.selects "VaneCourtModel" ({ cls := "java/lang/Object", name := "getClass", desc := "()Ljava/lang/Class;" } : Jvm.MethodName) ({ cls := "java/lang/Object", name := "getClass", desc := "()Ljava/lang/Class;" } : Jvm.MethodName)) ∈ lw_all := lw_g (lw_at lw_m3 44 rfl) rfl
theorem q1345 : (Jvm.Cond.instantiable "VaneCourtModel" (40 : Nat)) ∈ lw_all := lw_g (lw_at lw_m6 9 rfl) rfl
theorem q1347 : (Jvm.Cond.instanceMethod ({ cls := "VaneCourtModel", name := "<init>", desc := "()V" } : Jvm.MethodName)) ∈ lw_all := lw_g (lw_at lw_m6 11 rfl) rfl
theorem q1348 : (Jvm.Cond.code ({ cls := "VaneCourtModel", name := "<init>", desc := "()V" } : Jvm.MethodName) prog_20_method_1_code (1 : Nat) (Option.none : Option Jvm.ClassFile.FieldType)) ∈ lw_all := lw_g (lw_at lw_m6 12 rfl) rfl
theorem q1349 : (Jvm.Cond.methodLink "VaneCourtModel" (1 : Nat) ({ cls := "java/lang/Object", name := "<init>", desc := "()V" } : Jvm.MethodName)) ∈ lw_all := lw_g (lw_at lw_m6 13 rfl) rfl
theorem q1350 : (Jvm.Cond.methodLink "VaneCourtModel" (70 : Nat) ({ cls := "VaneCourtModel", name := "copy", desc := "([I[I)V" } : Jvm.MethodName)) ∈ lw_all := lw_g (lw_at lw_m6 14 rfl) rfl
theorem q1351 : (Jvm.Cond.static ({ cls := "VaneCourtModel", name := "copy", desc := "([I[I)V" } : Jvm.MethodName)) ∈ lw_all := lw_g (lw_at lw_m6 15 rfl) rfl
theorem q1352 : (Jvm.Cond.code ({ cls := "VaneCourtModel", name := "copy", desc := "([I[I)V" } : Jvm.MethodName) prog_20_method_2_code (3 : Nat) (Option.none : Option Jvm.ClassFile.FieldType)) ∈ lw_all := lw_g (lw_at lw_m6 16 rfl) rfl
theorem q1353 : (Jvm.Cond.fieldLink "VaneCourtModel" (7 : Nat) "VaneCourtModel" "a" "[I") ∈ lw_all := lw_g (lw_at lw_m6 17 rfl) rfl
theorem q1354 : (Jvm.Cond.fieldLink "VaneCourtModel" (13 : Nat) "VaneCourtModel" "image" "[I") ∈ lw_all := lw_g (lw_at lw_m6 18 rfl) rfl
theorem q1355 : (Jvm.Cond.fieldLink "VaneCourtModel" (16 : Nat) "VaneCourtModel" "texts" "[I") ∈ lw_all := lw_g (lw_at lw_m6 19 rfl) rfl
theorem q1356 : (Jvm.Cond.fieldLink "VaneCourtModel" (19 : Nat) "VaneCourtModel" "tape" "[I") ∈ lw_all := lw_g (lw_at lw_m6 20 rfl) rfl
theorem q1357 : (Jvm.Cond.fieldLink "VaneCourtModel" (90 : Nat) "VaneCourtModel" "taped" "I") ∈ lw_all := lw_g (lw_at lw_m6 21 rfl) rfl
theorem q1358 : (Jvm.Cond.fieldLink "VaneCourtModel" (22 : Nat) "VaneCourtModel" "fault" "I") ∈ lw_all := lw_g (lw_at lw_m6 22 rfl) rfl
theorem q1359 : (Jvm.Cond.fieldLink "VaneCourtModel" (26 : Nat) "VaneCourtModel" "faultPlace" "I") ∈ lw_all := lw_g (lw_at lw_m6 23 rfl) rfl
theorem q1360 : (Jvm.Cond.fieldLink "VaneCourtModel" (97 : Nat) "VaneCourtModel" "at" "I") ∈ lw_all := lw_g (lw_at lw_m6 24 rfl) rfl
theorem q1361 : (Jvm.Cond.fieldLink "VaneCourtModel" (104 : Nat) "VaneCourtModel" "place" "I") ∈ lw_all := lw_g (lw_at lw_m6 25 rfl) rfl
theorem q1362 : (Jvm.Cond.fieldLink "VaneCourtModel" (107 : Nat) "VaneCourtModel" "token" "I") ∈ lw_all := lw_g (lw_at lw_m6 26 rfl) rfl
theorem q1363 : (Jvm.Cond.fieldLink "VaneCourtModel" (113 : Nat) "VaneCourtModel" "number" "I") ∈ lw_all := lw_g (lw_at lw_m6 27 rfl) rfl
theorem q1364 : (Jvm.Cond.fieldLink "VaneCourtModel" (120 : Nat) "VaneCourtModel" "word" "J") ∈ lw_all := lw_g (lw_at lw_m6 28 rfl) rfl
theorem q1365 : (Jvm.Cond.fieldLink "VaneCourtModel" (145 : Nat) "VaneCourtModel" "text0" "I") ∈ lw_all := lw_g (lw_at lw_m6 29 rfl) rfl
theorem q1366 : (Jvm.Cond.fieldLink "VaneCourtModel" (148 : Nat) "VaneCourtModel" "written" "I") ∈ lw_all := lw_g (lw_at lw_m6 30 rfl) rfl
theorem q1367 : (Jvm.Cond.fieldLink "VaneCourtModel" (162 : Nat) "VaneCourtModel" "sort0" "I") ∈ lw_all := lw_g (lw_at lw_m6 31 rfl) rfl
theorem q1368 : (Jvm.Cond.fieldLink "VaneCourtModel" (29 : Nat) "VaneCourtModel" "pile" "[I") ∈ lw_all := lw_g (lw_at lw_m6 32 rfl) rfl
theorem q1369 : (Jvm.Cond.fieldLink "VaneCourtModel" (32 : Nat) "VaneCourtModel" "counts" "[I") ∈ lw_all := lw_g (lw_at lw_m6 33 rfl) rfl
theorem q1370 : (Jvm.Cond.fieldLink "VaneCourtModel" (165 : Nat) "VaneCourtModel" "piled" "I") ∈ lw_all := lw_g (lw_at lw_m6 34 rfl) rfl
theorem q1371 : (Jvm.Cond.fieldLink "VaneCourtModel" (175 : Nat) "VaneCourtModel" "opens" "I") ∈ lw_all := lw_g (lw_at lw_m6 35 rfl) rfl
theorem q1372 : (Jvm.Cond.fieldLink "VaneCourtModel" (192 : Nat) "VaneCourtModel" "counting" "I") ∈ lw_all := lw_g (lw_at lw_m6 36 rfl) rfl
theorem q1373 : (Jvm.Cond.fieldLink "VaneCourtModel" (195 : Nat) "VaneCourtModel" "isWhole" "Z") ∈ lw_all := lw_g (lw_at lw_m6 37 rfl) rfl
theorem q1374 : (Jvm.Cond.fieldLink "VaneCourtModel" (178 : Nat) "VaneCourtModel" "isTruth" "Z") ∈ lw_all := lw_g (lw_at lw_m6 38 rfl) rfl
theorem q1375 : (Jvm.Cond.fieldLink "VaneCourtModel" (230 : Nat) "VaneCourtModel" "hasUnless" "Z") ∈ lw_all := lw_g (lw_at lw_m6 39 rfl) rfl
theorem q1376 : (Jvm.Cond.fieldLink "VaneCourtModel" (252 : Nat) "VaneCourtModel" "coded" "I") ∈ lw_all := lw_g (lw_at lw_m6 40 rfl) rfl
theorem q1377 : (Jvm.Cond.fieldLink "VaneCourtModel" (285 : Nat) "VaneCourtModel" "once" "I") ∈ lw_all := lw_g (lw_at lw_m6 41 rfl) rfl
theorem q1378 : (Jvm.Cond.fieldLink "VaneCourtModel" (35 : Nat) "VaneCourtModel" "named" "[I") ∈ lw_all := lw_g (lw_at lw_m6 42 rfl) rfl
theorem q1379 : (Jvm.Cond.fieldLink "VaneCourtModel" (305 : Nat) "VaneCourtModel" "factsNow" "I") ∈ lw_all := lw_g (lw_at lw_m6 43 rfl) rfl
theorem q1380 : (Jvm.Cond.fieldLink "VaneCourtModel" (38 : Nat) "VaneCourtModel" "values" "[J") ∈ lw_all := lw_g (lw_at lw_m6 44 rfl) rfl
theorem q1381 : (Jvm.Cond.fieldLink "VaneCourtModel" (42 : Nat) "VaneCourtModel" "truth" "[Z") ∈ lw_all := lw_g (lw_at lw_m6 45 rfl) rfl
theorem q1382 : (Jvm.Cond.fieldLink "VaneCourtModel" (362 : Nat) "VaneCourtModel" "ended" "I") ∈ lw_all := lw_g (lw_at lw_m6 46 rfl) rfl
theorem q1383 : (Jvm.Cond.fieldLink "VaneCourtModel" (46 : Nat) "VaneCourtModel" "quarters" "[I") ∈ lw_all := lw_g (lw_at lw_m6 47 rfl) rfl
theorem q1384 : (Jvm.Cond.fieldLink "VaneCourtModel" (49 : Nat) "VaneCourtModel" "forces" "[I") ∈ lw_all := lw_g (lw_at lw_m6 48 rfl) rfl
theorem q1385 : (Jvm.Cond.fieldLink "VaneCourtModel" (52 : Nat) "VaneCourtModel" "fogs" "[I") ∈ lw_all := lw_g (lw_at lw_m6 49 rfl) rfl
theorem q1386 : (Jvm.Cond.fieldLink "VaneCourtModel" (55 : Nat) "VaneCourtModel" "aside" "[I") ∈ lw_all := lw_g (lw_at lw_m6 50 rfl) rfl
theorem q1387 : (Jvm.Cond.fieldLink "VaneCourtModel" (440 : Nat) "VaneCourtModel" "isGuiltyEnd" "Z") ∈ lw_all := lw_g (lw_at lw_m6 51 rfl) rfl
theorem q1388 : (Jvm.Cond.fieldLink "VaneCourtModel" (443 : Nat) "VaneCourtModel" "sentenceEnd" "I") ∈ lw_all := lw_g (lw_at lw_m6 52 rfl) rfl
theorem q1389 : (Jvm.Cond.fieldLink "VaneCourtModel" (58 : Nat) "VaneCourtModel" "comes" "[I") ∈ lw_all := lw_g (lw_at lw_m6 53 rfl) rfl
theorem q1390 : (Jvm.Cond.fieldLink "VaneCourtModel" (61 : Nat) "VaneCourtModel" "member" "[I") ∈ lw_all := lw_g (lw_at lw_m6 54 rfl) rfl
theorem q1391 : (Jvm.Cond.fieldLink "VaneCourtModel" (64 : Nat) "VaneCourtModel" "row" "[I") ∈ lw_all := lw_g (lw_at lw_m6 55 rfl) rfl
theorem q1392 : (Jvm.Cond.fieldLink "VaneCourtModel" (67 : Nat) "VaneCourtModel" "bestRow" "[I") ∈ lw_all := lw_g (lw_at lw_m6 56 rfl) rfl
theorem q1393 : (Jvm.Cond.laysFinal "VaneCourtModel" "VaneCourtModel" "a" "[I") ∈ lw_all := lw_g (lw_at lw_m6 57 rfl) rfl
theorem q1394 : (Jvm.Cond.soleField "VaneCourtModel" "a") ∈ lw_all := lw_g (lw_at lw_m6 58 rfl) rfl
theorem q1395 : (Jvm.Cond.laysFinal "VaneCourtModel" "VaneCourtModel" "image" "[I") ∈ lw_all := lw_g (lw_at lw_m6 59 rfl) rfl
theorem q1396 : (Jvm.Cond.soleField "VaneCourtModel" "image") ∈ lw_all := lw_g (lw_at lw_m6 60 rfl) rfl
theorem q1397 : (Jvm.Cond.laysFinal "VaneCourtModel" "VaneCourtModel" "texts" "[I") ∈ lw_all := lw_g (lw_at lw_m6 61 rfl) rfl
theorem q1398 : (Jvm.Cond.soleField "VaneCourtModel" "texts") ∈ lw_all := lw_g (lw_at lw_m6 62 rfl) rfl
theorem q1399 : (Jvm.Cond.laysFinal "VaneCourtModel" "VaneCourtModel" "tape" "[I") ∈ lw_all := lw_g (lw_at lw_m6 63 rfl) rfl
theorem q1400 : (Jvm.Cond.soleField "VaneCourtModel" "tape") ∈ lw_all := lw_g (lw_at lw_m6 64 rfl) rfl
theorem q1401 : (Jvm.Cond.lays "VaneCourtModel" "VaneCourtModel" "taped" "I") ∈ lw_all := lw_g (lw_at lw_m6 65 rfl) rfl
theorem q1402 : (Jvm.Cond.soleField "VaneCourtModel" "taped") ∈ lw_all := lw_g (lw_at lw_m6 66 rfl) rfl
theorem q1403 : (Jvm.Cond.lays "VaneCourtModel" "VaneCourtModel" "fault" "I") ∈ lw_all := lw_g (lw_at lw_m6 67 rfl) rfl
theorem q1404 : (Jvm.Cond.soleField "VaneCourtModel" "fault") ∈ lw_all := lw_g (lw_at lw_m6 68 rfl) rfl
theorem q1405 : (Jvm.Cond.lays "VaneCourtModel" "VaneCourtModel" "faultPlace" "I") ∈ lw_all := lw_g (lw_at lw_m6 69 rfl) rfl
theorem q1406 : (Jvm.Cond.soleField "VaneCourtModel" "faultPlace") ∈ lw_all := lw_g (lw_at lw_m6 70 rfl) rfl
theorem q1407 : (Jvm.Cond.lays "VaneCourtModel" "VaneCourtModel" "at" "I") ∈ lw_all := lw_g (lw_at lw_m6 71 rfl) rfl
theorem q1408 : (Jvm.Cond.soleField "VaneCourtModel" "at") ∈ lw_all := lw_g (lw_at lw_m6 72 rfl) rfl
theorem q1409 : (Jvm.Cond.lays "VaneCourtModel" "VaneCourtModel" "place" "I") ∈ lw_all := lw_g (lw_at lw_m6 73 rfl) rfl
theorem q1410 : (Jvm.Cond.soleField "VaneCourtModel" "place") ∈ lw_all := lw_g (lw_at lw_m6 74 rfl) rfl
theorem q1411 : (Jvm.Cond.lays "VaneCourtModel" "VaneCourtModel" "token" "I") ∈ lw_all := lw_g (lw_at lw_m6 75 rfl) rfl
theorem q1412 : (Jvm.Cond.soleField "VaneCourtModel" "token") ∈ lw_all := lw_g (lw_at lw_m6 76 rfl) rfl
theorem q1413 : (Jvm.Cond.lays "VaneCourtModel" "VaneCourtModel" "number" "I") ∈ lw_all := lw_g (lw_at lw_m6 77 rfl) rfl
theorem q1414 : (Jvm.Cond.soleField "VaneCourtModel" "number") ∈ lw_all := lw_g (lw_at lw_m6 78 rfl) rfl
theorem q1415 : (Jvm.Cond.lays "VaneCourtModel" "VaneCourtModel" "word" "J") ∈ lw_all := lw_g (lw_at lw_m6 79 rfl) rfl
theorem q1416 : (Jvm.Cond.soleField "VaneCourtModel" "word") ∈ lw_all := lw_g (lw_at lw_m6 80 rfl) rfl
theorem q1417 : (Jvm.Cond.lays "VaneCourtModel" "VaneCourtModel" "text0" "I") ∈ lw_all := lw_g (lw_at lw_m6 81 rfl) rfl
theorem q1418 : (Jvm.Cond.soleField "VaneCourtModel" "text0") ∈ lw_all := lw_g (lw_at lw_m6 82 rfl) rfl
theorem q1419 : (Jvm.Cond.lays "VaneCourtModel" "VaneCourtModel" "written" "I") ∈ lw_all := lw_g (lw_at lw_m6 83 rfl) rfl
theorem q1420 : (Jvm.Cond.soleField "VaneCourtModel" "written") ∈ lw_all := lw_g (lw_at lw_m6 84 rfl) rfl
theorem q1421 : (Jvm.Cond.lays "VaneCourtModel" "VaneCourtModel" "sort0" "I") ∈ lw_all := lw_g (lw_at lw_m6 85 rfl) rfl
theorem q1422 : (Jvm.Cond.soleField "VaneCourtModel" "sort0") ∈ lw_all := lw_g (lw_at lw_m6 86 rfl) rfl
theorem q1423 : (Jvm.Cond.laysFinal "VaneCourtModel" "VaneCourtModel" "pile" "[I") ∈ lw_all := lw_g (lw_at lw_m6 87 rfl) rfl
theorem q1424 : (Jvm.Cond.soleField "VaneCourtModel" "pile") ∈ lw_all := lw_g (lw_at lw_m6 88 rfl) rfl
theorem q1425 : (Jvm.Cond.laysFinal "VaneCourtModel" "VaneCourtModel" "counts" "[I") ∈ lw_all := lw_g (lw_at lw_m6 89 rfl) rfl
theorem q1426 : (Jvm.Cond.soleField "VaneCourtModel" "counts") ∈ lw_all := lw_g (lw_at lw_m6 90 rfl) rfl
theorem q1427 : (Jvm.Cond.lays "VaneCourtModel" "VaneCourtModel" "piled" "I") ∈ lw_all := lw_g (lw_at lw_m6 91 rfl) rfl
theorem q1428 : (Jvm.Cond.soleField "VaneCourtModel" "piled") ∈ lw_all := lw_g (lw_at lw_m6 92 rfl) rfl
theorem q1429 : (Jvm.Cond.lays "VaneCourtModel" "VaneCourtModel" "opens" "I") ∈ lw_all := lw_g (lw_at lw_m6 93 rfl) rfl
theorem q1430 : (Jvm.Cond.soleField "VaneCourtModel" "opens") ∈ lw_all := lw_g (lw_at lw_m6 94 rfl) rfl
theorem q1431 : (Jvm.Cond.lays "VaneCourtModel" "VaneCourtModel" "counting" "I") ∈ lw_all := lw_g (lw_at lw_m6 95 rfl) rfl
theorem q1432 : (Jvm.Cond.soleField "VaneCourtModel" "counting") ∈ lw_all := lw_g (lw_at lw_m6 96 rfl) rfl
theorem q1433 : (Jvm.Cond.lays "VaneCourtModel" "VaneCourtModel" "isWhole" "Z") ∈ lw_all := lw_g (lw_at lw_m6 97 rfl) rfl
theorem q1434 : (Jvm.Cond.soleField "VaneCourtModel" "isWhole") ∈ lw_all := lw_g (lw_at lw_m6 98 rfl) rfl
theorem q1435 : (Jvm.Cond.lays "VaneCourtModel" "VaneCourtModel" "isTruth" "Z") ∈ lw_all := lw_g (lw_at lw_m6 99 rfl) rfl
theorem q1436 : (Jvm.Cond.soleField "VaneCourtModel" "isTruth") ∈ lw_all := lw_g (lw_at lw_m6 100 rfl) rfl
theorem q1437 : (Jvm.Cond.lays "VaneCourtModel" "VaneCourtModel" "hasUnless" "Z") ∈ lw_all := lw_g (lw_at lw_m6 101 rfl) rfl
theorem q1438 : (Jvm.Cond.soleField "VaneCourtModel" "hasUnless") ∈ lw_all := lw_g (lw_at lw_m6 102 rfl) rfl
theorem q1439 : (Jvm.Cond.lays "VaneCourtModel" "VaneCourtModel" "coded" "I") ∈ lw_all := lw_g (lw_at lw_m6 103 rfl) rfl
theorem q1440 : (Jvm.Cond.soleField "VaneCourtModel" "coded") ∈ lw_all := lw_g (lw_at lw_m6 104 rfl) rfl
theorem q1441 : (Jvm.Cond.lays "VaneCourtModel" "VaneCourtModel" "once" "I") ∈ lw_all := lw_g (lw_at lw_m6 105 rfl) rfl
theorem q1442 : (Jvm.Cond.soleField "VaneCourtModel" "once") ∈ lw_all := lw_g (lw_at lw_m6 106 rfl) rfl
theorem q1443 : (Jvm.Cond.laysFinal "VaneCourtModel" "VaneCourtModel" "named" "[I") ∈ lw_all := lw_g (lw_at lw_m6 107 rfl) rfl
theorem q1444 : (Jvm.Cond.soleField "VaneCourtModel" "named") ∈ lw_all := lw_g (lw_at lw_m6 108 rfl) rfl
theorem q1445 : (Jvm.Cond.lays "VaneCourtModel" "VaneCourtModel" "factsNow" "I") ∈ lw_all := lw_g (lw_at lw_m6 109 rfl) rfl
theorem q1446 : (Jvm.Cond.soleField "VaneCourtModel" "factsNow") ∈ lw_all := lw_g (lw_at lw_m6 110 rfl) rfl
theorem q1447 : (Jvm.Cond.laysFinal "VaneCourtModel" "VaneCourtModel" "values" "[J") ∈ lw_all := lw_g (lw_at lw_m6 111 rfl) rfl
theorem q1448 : (Jvm.Cond.soleField "VaneCourtModel" "values") ∈ lw_all := lw_g (lw_at lw_m6 112 rfl) rfl
theorem q1449 : (Jvm.Cond.laysFinal "VaneCourtModel" "VaneCourtModel" "truth" "[Z") ∈ lw_all := lw_g (lw_at lw_m6 113 rfl) rfl
theorem q1450 : (Jvm.Cond.soleField "VaneCourtModel" "truth") ∈ lw_all := lw_g (lw_at lw_m6 114 rfl) rfl
theorem q1451 : (Jvm.Cond.lays "VaneCourtModel" "VaneCourtModel" "ended" "I") ∈ lw_all := lw_g (lw_at lw_m6 115 rfl) rfl
theorem q1452 : (Jvm.Cond.soleField "VaneCourtModel" "ended") ∈ lw_all := lw_g (lw_at lw_m6 116 rfl) rfl
theorem q1453 : (Jvm.Cond.laysFinal "VaneCourtModel" "VaneCourtModel" "quarters" "[I") ∈ lw_all := lw_g (lw_at lw_m6 117 rfl) rfl
theorem q1454 : (Jvm.Cond.soleField "VaneCourtModel" "quarters") ∈ lw_all := lw_g (lw_at lw_m6 118 rfl) rfl
theorem q1455 : (Jvm.Cond.laysFinal "VaneCourtModel" "VaneCourtModel" "forces" "[I") ∈ lw_all := lw_g (lw_at lw_m6 119 rfl) rfl
theorem q1456 : (Jvm.Cond.soleField "VaneCourtModel" "forces") ∈ lw_all := lw_g (lw_at lw_m6 120 rfl) rfl
theorem q1457 : (Jvm.Cond.laysFinal "VaneCourtModel" "VaneCourtModel" "fogs" "[I") ∈ lw_all := lw_g (lw_at lw_m6 121 rfl) rfl
theorem q1458 : (Jvm.Cond.soleField "VaneCourtModel" "fogs") ∈ lw_all := lw_g (lw_at lw_m6 122 rfl) rfl
theorem q1459 : (Jvm.Cond.laysFinal "VaneCourtModel" "VaneCourtModel" "aside" "[I") ∈ lw_all := lw_g (lw_at lw_m6 123 rfl) rfl
theorem q1460 : (Jvm.Cond.soleField "VaneCourtModel" "aside") ∈ lw_all := lw_g (lw_at lw_m6 124 rfl) rfl
theorem q1461 : (Jvm.Cond.lays "VaneCourtModel" "VaneCourtModel" "isGuiltyEnd" "Z") ∈ lw_all := lw_g (lw_at lw_m6 125 rfl) rfl
theorem q1462 : (Jvm.Cond.soleField "VaneCourtModel" "isGuiltyEnd") ∈ lw_all := lw_g (lw_at lw_m6 126 rfl) rfl
theorem q1463 : (Jvm.Cond.lays "VaneCourtModel" "VaneCourtModel" "sentenceEnd" "I") ∈ lw_all := lw_g (lw_at lw_m6 127 rfl) rfl
theorem q1464 : (Jvm.Cond.soleField "VaneCourtModel" "sentenceEnd") ∈ lw_all := lw_g (lw_at lw_m6 128 rfl) rfl
theorem q1465 : (Jvm.Cond.laysFinal "VaneCourtModel" "VaneCourtModel" "comes" "[I") ∈ lw_all := lw_g (lw_at lw_m6 129 rfl) rfl
theorem q1466 : (Jvm.Cond.soleField "VaneCourtModel" "comes") ∈ lw_all := lw_g (lw_at lw_m6 130 rfl) rfl
theorem q1467 : (Jvm.Cond.laysFinal "VaneCourtModel" "VaneCourtModel" "member" "[I") ∈ lw_all := lw_g (lw_at lw_m6 131 rfl) rfl
theorem q1468 : (Jvm.Cond.soleField "VaneCourtModel" "member") ∈ lw_all := lw_g (lw_at lw_m6 132 rfl) rfl
theorem q1469 : (Jvm.Cond.laysFinal "VaneCourtModel" "VaneCourtModel" "row" "[I") ∈ lw_all := lw_g (lw_at lw_m6 133 rfl) rfl
theorem q1470 : (Jvm.Cond.soleField "VaneCourtModel" "row") ∈ lw_all := lw_g (lw_at lw_m6 134 rfl) rfl
theorem q1471 : (Jvm.Cond.laysFinal "VaneCourtModel" "VaneCourtModel" "bestRow" "[I") ∈ lw_all := lw_g (lw_at lw_m6 135 rfl) rfl
theorem q1472 : (Jvm.Cond.soleField "VaneCourtModel" "bestRow") ∈ lw_all := lw_g (lw_at lw_m6 136 rfl) rfl
theorem q1473 : (Jvm.Cond.superclass "VaneCourtModel" "java/lang/Object") ∈ lw_all := lw_g (lw_at lw_m6 137 rfl) rfl
theorem q1477 : (Jvm.Cond.instanceMethod ({ cls := "VaneCourtModel", name := "newCase", desc := "(IIII)I" } : Jvm.MethodName)) ∈ lw_all := lw_g (lw_at lw_m6 141 rfl) rfl
theorem q1478 : (Jvm.Cond.selects "VaneCourtModel" ({ cls := "VaneCourtModel", name := "newCase", desc := "(IIII)I" } : Jvm.MethodName) ({ cls := "VaneCourtModel", name := "newCase", desc := "(IIII)I" } : Jvm.MethodName)) ∈ lw_all := lw_g (lw_at lw_m6 142 rfl) rfl
theorem q1479 : (Jvm.Cond.code ({ cls := "VaneCourtModel", name := "newCase", desc := "(IIII)I" } : Jvm.MethodName) prog_20_method_11_code (7 : Nat) (Option.some Jvm.ClassFile.FieldType.int)) ∈ lw_all := lw_g (lw_at lw_m6 143 rfl) rfl
theorem q1480 : (Jvm.Cond.methodLink "VaneCourtModel" (74 : Nat) ({ cls := "VaneCourtModel", name := "isIn", desc := "(III)Z" } : Jvm.MethodName)) ∈ lw_all := lw_g (lw_at lw_m6 144 rfl) rfl
theorem q1481 : (Jvm.Cond.static ({ cls := "VaneCourtModel", name := "isIn", desc := "(III)Z" } : Jvm.MethodName)) ∈ lw_all := lw_g (lw_at lw_m6 145 rfl) rfl
theorem q1482 : (Jvm.Cond.code ({ cls := "VaneCourtModel", name := "isIn", desc := "(III)Z" } : Jvm.MethodName) prog_20_method_3_code (3 : Nat) (Option.some Jvm.ClassFile.FieldType.boolean)) ∈ lw_all := lw_g (lw_at lw_m6 146 rfl) rfl
theorem q1483 : (Jvm.Cond.methodLink "VaneCourtModel" (86 : Nat) ({ cls := "VaneCourtModel", name := "put", desc := "(III)V" } : Jvm.MethodName)) ∈ lw_all := lw_g (lw_at lw_m6 147 rfl) rfl
theorem q1484 : (Jvm.Cond.privateMethod ({ cls := "VaneCourtModel", name := "put", desc := "(III)V" } : Jvm.MethodName)) ∈ lw_tbl := lw_at lw_m6 148 rfl
theorem q1485 : (Jvm.Cond.instanceMethod ({ cls := "VaneCourtModel", name := "put", desc := "(III)V" } : Jvm.MethodName)) ∈ lw_all := lw_g (lw_at lw_m6 149 rfl) rfl
theorem q1486 : (Jvm.Cond.code ({ cls := "VaneCourtModel", name := "put", desc := "(III)V" } : Jvm.MethodName) prog_20_method_9_code (4 : Nat) (Option.none : Option Jvm.ClassFile.FieldType)) ∈ lw_all := lw_g (lw_at lw_m6 150 rfl) rfl
theorem q1488 : (Jvm.Cond.instanceMethod ({ cls := "VaneCourtModel", name := "feed", desc := "(IIIII)I" } : Jvm.MethodName)) ∈ lw_all := lw_g (lw_at lw_m6 152 rfl) rfl
theorem q1489 : (Jvm.Cond.selects "VaneCourtModel" ({ cls := "VaneCourtModel", name := "feed", desc := "(IIIII)I" } : Jvm.MethodName) ({ cls := "VaneCourtModel", name := "feed", desc := "(IIIII)I" } : Jvm.MethodName)) ∈ lw_all := lw_g (lw_at lw_m6 153 rfl) rfl
theorem q1490 : (Jvm.Cond.code ({ cls := "VaneCourtModel", name := "feed", desc := "(IIIII)I" } : Jvm.MethodName) prog_20_method_13_code (6 : Nat) (Option.some Jvm.ClassFile.FieldType.int)) ∈ lw_all := lw_g (lw_at lw_m6 154 rfl) rfl
theorem q1491 : (Jvm.Cond.methodLink "VaneCourtModel" (93 : Nat) ({ cls := "VaneCourtModel", name := "four", desc := "(I)V" } : Jvm.MethodName)) ∈ lw_all := lw_g (lw_at lw_m6 155 rfl) rfl
theorem q1492 : (Jvm.Cond.privateMethod ({ cls := "VaneCourtModel", name := "four", desc := "(I)V" } : Jvm.MethodName)) ∈ lw_tbl := lw_at lw_m6 156 rfl
theorem q1493 : (Jvm.Cond.instanceMethod ({ cls := "VaneCourtModel", name := "four", desc := "(I)V" } : Jvm.MethodName)) ∈ lw_all := lw_g (lw_at lw_m6 157 rfl) rfl
theorem q1494 : (Jvm.Cond.code ({ cls := "VaneCourtModel", name := "four", desc := "(I)V" } : Jvm.MethodName) prog_20_method_12_code (3 : Nat) (Option.none : Option Jvm.ClassFile.FieldType)) ∈ lw_all := lw_g (lw_at lw_m6 158 rfl) rfl
theorem q1496 : (Jvm.Cond.instanceMethod ({ cls := "VaneCourtModel", name := "end", desc := "(I)I" } : Jvm.MethodName)) ∈ lw_all := lw_g (lw_at lw_m6 160 rfl) rfl
theorem q1497 : (Jvm.Cond.selects "VaneCourtModel" ({ cls := "VaneCourtModel", name := "end", desc := "(I)I" } : Jvm.MethodName) ({ cls := "VaneCourtModel", name := "end", desc := "(I)I" } : Jvm.MethodName)) ∈ lw_all := lw_g (lw_at lw_m6 161 rfl) rfl
theorem q1498 : (Jvm.Cond.code ({ cls := "VaneCourtModel", name := "end", desc := "(I)I" } : Jvm.MethodName) prog_20_method_14_code (2 : Nat) (Option.some Jvm.ClassFile.FieldType.int)) ∈ lw_all := lw_g (lw_at lw_m6 162 rfl) rfl
theorem q1500 : (Jvm.Cond.instanceMethod ({ cls := "VaneCourtModel", name := "text", desc := "()I" } : Jvm.MethodName)) ∈ lw_all := lw_g (lw_at lw_m6 164 rfl) rfl
theorem q1501 : (Jvm.Cond.selects "VaneCourtModel" ({ cls := "VaneCourtModel", name := "text", desc := "()I" } : Jvm.MethodName) ({ cls := "VaneCourtModel", name := "text", desc := "()I" } : Jvm.MethodName)) ∈ lw_all := lw_g (lw_at lw_m6 165 rfl) rfl
theorem q1502 : (Jvm.Cond.code ({ cls := "VaneCourtModel", name := "text", desc := "()I" } : Jvm.MethodName) prog_20_method_58_code (1 : Nat) (Option.some Jvm.ClassFile.FieldType.int)) ∈ lw_all := lw_g (lw_at lw_m6 166 rfl) rfl
theorem q1503 : (Jvm.Cond.methodLink "VaneCourtModel" (294 : Nat) ({ cls := "VaneCourtModel", name := "readText", desc := "()I" } : Jvm.MethodName)) ∈ lw_all := lw_g (lw_at lw_m6 167 rfl) rfl
theorem q1504 : (Jvm.Cond.privateMethod ({ cls := "VaneCourtModel", name := "readText", desc := "()I" } : Jvm.MethodName)) ∈ lw_tbl := lw_at lw_m6 168 rfl
theorem q1505 : (Jvm.Cond.instanceMethod ({ cls := "VaneCourtModel", name := "readText", desc := "()I" } : Jvm.MethodName)) ∈ lw_all := lw_g (lw_at lw_m6 169 rfl) rfl
theorem q1506 : (Jvm.Cond.code ({ cls := "VaneCourtModel", name := "readText", desc := "()I" } : Jvm.MethodName) prog_20_method_57_code (2 : Nat) (Option.some Jvm.ClassFile.FieldType.int)) ∈ lw_all := lw_g (lw_at lw_m6 170 rfl) rfl
theorem q1507 : (Jvm.Cond.methodLink "VaneCourtModel" (189 : Nat) ({ cls := "VaneCourtModel", name := "nextToken", desc := "()V" } : Jvm.MethodName)) ∈ lw_all := lw_g (lw_at lw_m6 171 rfl) rfl
theorem q1508 : (Jvm.Cond.privateMethod ({ cls := "VaneCourtModel", name := "nextToken", desc := "()V" } : Jvm.MethodName)) ∈ lw_tbl := lw_at lw_m6 172 rfl
theorem q1509 : (Jvm.Cond.instanceMethod ({ cls := "VaneCourtModel", name := "nextToken", desc := "()V" } : Jvm.MethodName)) ∈ lw_all := lw_g (lw_at lw_m6 173 rfl) rfl
theorem q1510 : (Jvm.Cond.code ({ cls := "VaneCourtModel", name := "nextToken", desc := "()V" } : Jvm.MethodName) prog_20_method_19_code (2 : Nat) (Option.none : Option Jvm.ClassFile.FieldType)) ∈ lw_all := lw_g (lw_at lw_m6 174 rfl) rfl
theorem q1511 : (Jvm.Cond.methodLink "VaneCourtModel" (100 : Nat) ({ cls := "VaneCourtModel", name := "byteAt", desc := "(I)I" } : Jvm.MethodName)) ∈ lw_all := lw_g (lw_at lw_m6 175 rfl) rfl
theorem q1512 : (Jvm.Cond.privateMethod ({ cls := "VaneCourtModel", name := "byteAt", desc := "(I)I" } : Jvm.MethodName)) ∈ lw_tbl := lw_at lw_m6 176 rfl
theorem q1513 : (Jvm.Cond.instanceMethod ({ cls := "VaneCourtModel", name := "byteAt", desc := "(I)I" } : Jvm.MethodName)) ∈ lw_all := lw_g (lw_at lw_m6 177 rfl) rfl
theorem q1514 : (Jvm.Cond.code ({ cls := "VaneCourtModel", name := "byteAt", desc := "(I)I" } : Jvm.MethodName) prog_20_method_15_code (2 : Nat) (Option.some Jvm.ClassFile.FieldType.int)) ∈ lw_all := lw_g (lw_at lw_m6 178 rfl) rfl
theorem q1515 : (Jvm.Cond.methodLink "VaneCourtModel" (110 : Nat) ({ cls := "VaneCourtModel", name := "isFigure", desc := "(I)Z" } : Jvm.MethodName)) ∈ lw_all := lw_g (lw_at lw_m6 179 rfl) rfl
theorem q1516 : (Jvm.Cond.static ({ cls := "VaneCourtModel", name := "isFigure", desc := "(I)Z" } : Jvm.MethodName)) ∈ lw_all := lw_g (lw_at lw_m6 180 rfl) rfl
theorem q1517 : (Jvm.Cond.code ({ cls := "VaneCourtModel", name := "isFigure", desc := "(I)Z" } : Jvm.MethodName) prog_20_method_17_code (1 : Nat) (Option.some Jvm.ClassFile.FieldType.boolean)) ∈ lw_all := lw_g (lw_at lw_m6 181 rfl) rfl
theorem q1518 : (Jvm.Cond.constant "VaneCourtModel" (116 : Nat) (99999 : Int32)) ∈ lw_all := lw_g (lw_at lw_m6 182 rfl) rfl
theorem q1519 : (Jvm.Cond.methodLink "VaneCourtModel" (117 : Nat) ({ cls := "VaneCourtModel", name := "isLetterByte", desc := "(I)Z" } : Jvm.MethodName)) ∈ lw_all := lw_g (lw_at lw_m6 183 rfl) rfl
theorem q1520 : (Jvm.Cond.static ({ cls := "VaneCourtModel", name := "isLetterByte", desc := "(I)Z" } : Jvm.MethodName)) ∈ lw_all := lw_g (lw_at lw_m6 184 rfl) rfl
theorem q1521 : (Jvm.Cond.code ({ cls := "VaneCourtModel", name := "isLetterByte", desc := "(I)Z" } : Jvm.MethodName) prog_20_method_16_code (1 : Nat) (Option.some Jvm.ClassFile.FieldType.boolean)) ∈ lw_all := lw_g (lw_at lw_m6 185 rfl) rfl
theorem q1522 : (Jvm.Cond.constantLong "VaneCourtModel" (124 : Nat) (1152921504606846976 : Int64)) ∈ lw_all := lw_g (lw_at lw_m6 186 rfl) rfl
theorem q1523 : (Jvm.Cond.methodLink "VaneCourtModel" (126 : Nat) ({ cls := "VaneCourtModel", name := "isSign", desc := "(I)Z" } : Jvm.MethodName)) ∈ lw_all := lw_g (lw_at lw_m6 187 rfl) rfl
theorem q1524 : (Jvm.Cond.static ({ cls := "VaneCourtModel", name := "isSign", desc := "(I)Z" } : Jvm.MethodName)) ∈ lw_all := lw_g (lw_at lw_m6 188 rfl) rfl
theorem q1525 : (Jvm.Cond.code ({ cls := "VaneCourtModel", name := "isSign", desc := "(I)Z" } : Jvm.MethodName) prog_20_method_18_code (1 : Nat) (Option.some Jvm.ClassFile.FieldType.boolean)) ∈ lw_all := lw_g (lw_at lw_m6 189 rfl) rfl
theorem q1526 : (Jvm.Cond.methodLink "VaneCourtModel" (291 : Nat) ({ cls := "VaneCourtModel", name := "clause", desc := "()I" } : Jvm.MethodName)) ∈ lw_all := lw_g (lw_at lw_m6 190 rfl) rfl
theorem q1527 : (Jvm.Cond.privateMethod ({ cls := "VaneCourtModel", name := "clause", desc := "()I" } : Jvm.MethodName)) ∈ lw_tbl := lw_at lw_m6 191 rfl
theorem q1528 : (Jvm.Cond.instanceMethod ({ cls := "VaneCourtModel", name := "clause", desc := "()I" } : Jvm.MethodName)) ∈ lw_all := lw_g (lw_at lw_m6 192 rfl) rfl
theorem q1529 : (Jvm.Cond.code ({ cls := "VaneCourtModel", name := "clause", desc := "()I" } : Jvm.MethodName) prog_20_method_56_code (5 : Nat) (Option.some Jvm.ClassFile.FieldType.int)) ∈ lw_all := lw_g (lw_at lw_m6 193 rfl) rfl
theorem q1530 : (Jvm.Cond.methodLink "VaneCourtModel" (282 : Nat) ({ cls := "VaneCourtModel", name := "sortOf", desc := "()I" } : Jvm.MethodName)) ∈ lw_all := lw_g (lw_at lw_m6 194 rfl) rfl
theorem q1531 : (Jvm.Cond.privateMethod ({ cls := "VaneCourtModel", name := "sortOf", desc := "()I" } : Jvm.MethodName)) ∈ lw_tbl := lw_at lw_m6 195 rfl
theorem q1532 : (Jvm.Cond.instanceMethod ({ cls := "VaneCourtModel", name := "sortOf", desc := "()I" } : Jvm.MethodName)) ∈ lw_all := lw_g (lw_at lw_m6 196 rfl) rfl
theorem q1533 : (Jvm.Cond.code ({ cls := "VaneCourtModel", name := "sortOf", desc := "()I" } : Jvm.MethodName) prog_20_method_55_code (1 : Nat) (Option.some Jvm.ClassFile.FieldType.int)) ∈ lw_all := lw_g (lw_at lw_m6 197 rfl) rfl
theorem q1534 : (Jvm.Cond.methodLink "VaneCourtModel" (141 : Nat) ({ cls := "VaneCourtModel", name := "w5", desc := "(IIIII)J" } : Jvm.MethodName)) ∈ lw_all := lw_g (lw_at lw_m6 198 rfl) rfl
theorem q1535 : (Jvm.Cond.static ({ cls := "VaneCourtModel", name := "w5", desc := "(IIIII)J" } : Jvm.MethodName)) ∈ lw_all := lw_g (lw_at lw_m6 199 rfl) rfl
theorem q1536 : (Jvm.Cond.code ({ cls := "VaneCourtModel", name := "w5", desc := "(IIIII)J" } : Jvm.MethodName) prog_20_method_23_code (5 : Nat) (Option.some Jvm.ClassFile.FieldType.long)) ∈ lw_all := lw_g (lw_at lw_m6 200 rfl) rfl
theorem q1537 : (Jvm.Cond.methodLink "VaneCourtModel" (137 : Nat) ({ cls := "VaneCourtModel", name := "w4", desc := "(IIII)J" } : Jvm.MethodName)) ∈ lw_all := lw_g (lw_at lw_m6 201 rfl) rfl
theorem q1538 : (Jvm.Cond.static ({ cls := "VaneCourtModel", name := "w4", desc := "(IIII)J" } : Jvm.MethodName)) ∈ lw_all := lw_g (lw_at lw_m6 202 rfl) rfl
theorem q1539 : (Jvm.Cond.code ({ cls := "VaneCourtModel", name := "w4", desc := "(IIII)J" } : Jvm.MethodName) prog_20_method_22_code (4 : Nat) (Option.some Jvm.ClassFile.FieldType.long)) ∈ lw_all := lw_g (lw_at lw_m6 203 rfl) rfl
theorem q1540 : (Jvm.Cond.methodLink "VaneCourtModel" (133 : Nat) ({ cls := "VaneCourtModel", name := "w3", desc := "(III)J" } : Jvm.MethodName)) ∈ lw_all := lw_g (lw_at lw_m6 204 rfl) rfl
theorem q1541 : (Jvm.Cond.static ({ cls := "VaneCourtModel", name := "w3", desc := "(III)J" } : Jvm.MethodName)) ∈ lw_all := lw_g (lw_at lw_m6 205 rfl) rfl
theorem q1542 : (Jvm.Cond.code ({ cls := "VaneCourtModel", name := "w3", desc := "(III)J" } : Jvm.MethodName) prog_20_method_21_code (3 : Nat) (Option.some Jvm.ClassFile.FieldType.long)) ∈ lw_all := lw_g (lw_at lw_m6 206 rfl) rfl
theorem q1543 : (Jvm.Cond.methodLink "VaneCourtModel" (129 : Nat) ({ cls := "VaneCourtModel", name := "w2", desc := "(II)J" } : Jvm.MethodName)) ∈ lw_all := lw_g (lw_at lw_m6 207 rfl) rfl
theorem q1544 : (Jvm.Cond.static ({ cls := "VaneCourtModel", name := "w2", desc := "(II)J" } : Jvm.MethodName)) ∈ lw_all := lw_g (lw_at lw_m6 208 rfl) rfl
theorem q1545 : (Jvm.Cond.code ({ cls := "VaneCourtModel", name := "w2", desc := "(II)J" } : Jvm.MethodName) prog_20_method_20_code (2 : Nat) (Option.some Jvm.ClassFile.FieldType.long)) ∈ lw_all := lw_g (lw_at lw_m6 209 rfl) rfl
theorem q1546 : (Jvm.Cond.methodLink "VaneCourtModel" (213 : Nat) ({ cls := "VaneCourtModel", name := "isWord", desc := "(J)Z" } : Jvm.MethodName)) ∈ lw_all := lw_g (lw_at lw_m6 210 rfl) rfl
theorem q1547 : (Jvm.Cond.privateMethod ({ cls := "VaneCourtModel", name := "isWord", desc := "(J)Z" } : Jvm.MethodName)) ∈ lw_tbl := lw_at lw_m6 211 rfl
theorem q1548 : (Jvm.Cond.instanceMethod ({ cls := "VaneCourtModel", name := "isWord", desc := "(J)Z" } : Jvm.MethodName)) ∈ lw_all := lw_g (lw_at lw_m6 212 rfl) rfl
theorem q1549 : (Jvm.Cond.code ({ cls := "VaneCourtModel", name := "isWord", desc := "(J)Z" } : Jvm.MethodName) prog_20_method_25_code (3 : Nat) (Option.some Jvm.ClassFile.FieldType.boolean)) ∈ lw_all := lw_g (lw_at lw_m6 213 rfl) rfl
theorem q1550 : (Jvm.Cond.methodLink "VaneCourtModel" (276 : Nat) ({ cls := "VaneCourtModel", name := "isSentence", desc := "()Z" } : Jvm.MethodName)) ∈ lw_all := lw_g (lw_at lw_m6 214 rfl) rfl
theorem q1551 : (Jvm.Cond.privateMethod ({ cls := "VaneCourtModel", name := "isSentence", desc := "()Z" } : Jvm.MethodName)) ∈ lw_tbl := lw_at lw_m6 215 rfl
theorem q1552 : (Jvm.Cond.instanceMethod ({ cls := "VaneCourtModel", name := "isSentence", desc := "()Z" } : Jvm.MethodName)) ∈ lw_all := lw_g (lw_at lw_m6 216 rfl) rfl
theorem q1553 : (Jvm.Cond.code ({ cls := "VaneCourtModel", name := "isSentence", desc := "()Z" } : Jvm.MethodName) prog_20_method_30_code (1 : Nat) (Option.some Jvm.ClassFile.FieldType.boolean)) ∈ lw_all := lw_g (lw_at lw_m6 217 rfl) rfl
theorem q1554 : (Jvm.Cond.methodLink "VaneCourtModel" (151 : Nat) ({ cls := "VaneCourtModel", name := "isLong", desc := "(JJI)Z" } : Jvm.MethodName)) ∈ lw_all := lw_g (lw_at lw_m6 218 rfl) rfl
theorem q1555 : (Jvm.Cond.privateMethod ({ cls := "VaneCourtModel", name := "isLong", desc := "(JJI)Z" } : Jvm.MethodName)) ∈ lw_tbl := lw_at lw_m6 219 rfl
theorem q1556 : (Jvm.Cond.instanceMethod ({ cls := "VaneCourtModel", name := "isLong", desc := "(JJI)Z" } : Jvm.MethodName)) ∈ lw_all := lw_g (lw_at lw_m6 220 rfl) rfl
theorem q1557 : (Jvm.Cond.code ({ cls := "VaneCourtModel", name := "isLong", desc := "(JJI)Z" } : Jvm.MethodName) prog_20_method_27_code (8 : Nat) (Option.some Jvm.ClassFile.FieldType.boolean)) ∈ lw_all := lw_g (lw_at lw_m6 221 rfl) rfl
theorem q1558 : (Jvm.Cond.methodLink "VaneCourtModel" (226 : Nat) ({ cls := "VaneCourtModel", name := "w6", desc := "(IIIIII)J" } : Jvm.MethodName)) ∈ lw_all := lw_g (lw_at lw_m6 222 rfl) rfl
theorem q1559 : (Jvm.Cond.static ({ cls := "VaneCourtModel", name := "w6", desc := "(IIIIII)J" } : Jvm.MethodName)) ∈ lw_all := lw_g (lw_at lw_m6 223 rfl) rfl
theorem q1560 : (Jvm.Cond.code ({ cls := "VaneCourtModel", name := "w6", desc := "(IIIIII)J" } : Jvm.MethodName) prog_20_method_24_code (6 : Nat) (Option.some Jvm.ClassFile.FieldType.long)) ∈ lw_all := lw_g (lw_at lw_m6 224 rfl) rfl
theorem q1561 : (Jvm.Cond.methodLink "VaneCourtModel" (279 : Nat) ({ cls := "VaneCourtModel", name := "isWithdraw", desc := "()Z" } : Jvm.MethodName)) ∈ lw_all := lw_g (lw_at lw_m6 225 rfl) rfl
theorem q1562 : (Jvm.Cond.privateMethod ({ cls := "VaneCourtModel", name := "isWithdraw", desc := "()Z" } : Jvm.MethodName)) ∈ lw_tbl := lw_at lw_m6 226 rfl
theorem q1563 : (Jvm.Cond.instanceMethod ({ cls := "VaneCourtModel", name := "isWithdraw", desc := "()Z" } : Jvm.MethodName)) ∈ lw_all := lw_g (lw_at lw_m6 227 rfl) rfl
theorem q1564 : (Jvm.Cond.code ({ cls := "VaneCourtModel", name := "isWithdraw", desc := "()Z" } : Jvm.MethodName) prog_20_method_31_code (1 : Nat) (Option.some Jvm.ClassFile.FieldType.boolean)) ∈ lw_all := lw_g (lw_at lw_m6 228 rfl) rfl
theorem q1565 : (Jvm.Cond.methodLink "VaneCourtModel" (255 : Nat) ({ cls := "VaneCourtModel", name := "has", desc := "(II)Z" } : Jvm.MethodName)) ∈ lw_all := lw_g (lw_at lw_m6 229 rfl) rfl
theorem q1566 : (Jvm.Cond.static ({ cls := "VaneCourtModel", name := "has", desc := "(II)Z" } : Jvm.MethodName)) ∈ lw_all := lw_g (lw_at lw_m6 230 rfl) rfl
theorem q1567 : (Jvm.Cond.code ({ cls := "VaneCourtModel", name := "has", desc := "(II)Z" } : Jvm.MethodName) prog_20_method_5_code (2 : Nat) (Option.some Jvm.ClassFile.FieldType.boolean)) ∈ lw_all := lw_g (lw_at lw_m6 231 rfl) rfl
theorem q1568 : (Jvm.Cond.methodLink "VaneCourtModel" (288 : Nat) ({ cls := "VaneCourtModel", name := "body", desc := "(II)I" } : Jvm.MethodName)) ∈ lw_all := lw_g (lw_at lw_m6 232 rfl) rfl
theorem q1569 : (Jvm.Cond.privateMethod ({ cls := "VaneCourtModel", name := "body", desc := "(II)I" } : Jvm.MethodName)) ∈ lw_tbl := lw_at lw_m6 233 rfl
theorem q1570 : (Jvm.Cond.instanceMethod ({ cls := "VaneCourtModel", name := "body", desc := "(II)I" } : Jvm.MethodName)) ∈ lw_all := lw_g (lw_at lw_m6 234 rfl) rfl
theorem q1571 : (Jvm.Cond.code ({ cls := "VaneCourtModel", name := "body", desc := "(II)I" } : Jvm.MethodName) prog_20_method_54_code (3 : Nat) (Option.some Jvm.ClassFile.FieldType.int)) ∈ lw_all := lw_g (lw_at lw_m6 235 rfl) rfl
theorem q1572 : (Jvm.Cond.methodLink "VaneCourtModel" (267 : Nat) ({ cls := "VaneCourtModel", name := "codeClause", desc := "(I)I" } : Jvm.MethodName)) ∈ lw_all := lw_g (lw_at lw_m6 236 rfl) rfl
theorem q1573 : (Jvm.Cond.privateMethod ({ cls := "VaneCourtModel", name := "codeClause", desc := "(I)I" } : Jvm.MethodName)) ∈ lw_tbl := lw_at lw_m6 237 rfl
theorem q1574 : (Jvm.Cond.instanceMethod ({ cls := "VaneCourtModel", name := "codeClause", desc := "(I)I" } : Jvm.MethodName)) ∈ lw_all := lw_g (lw_at lw_m6 238 rfl) rfl
theorem q1575 : (Jvm.Cond.code ({ cls := "VaneCourtModel", name := "codeClause", desc := "(I)I" } : Jvm.MethodName) prog_20_method_51_code (3 : Nat) (Option.some Jvm.ClassFile.FieldType.int)) ∈ lw_all := lw_g (lw_at lw_m6 239 rfl) rfl
theorem q1576 : (Jvm.Cond.methodLink "VaneCourtModel" (259 : Nat) ({ cls := "VaneCourtModel", name := "figure", desc := "(III)I" } : Jvm.MethodName)) ∈ lw_all := lw_g (lw_at lw_m7 0 rfl) rfl
theorem q1577 : (Jvm.Cond.privateMethod ({ cls := "VaneCourtModel", name := "figure", desc := "(III)I" } : Jvm.MethodName)) ∈ lw_tbl := lw_at lw_m7 1 rfl
theorem q1578 : (Jvm.Cond.instanceMethod ({ cls := "VaneCourtModel", name := "figure", desc := "(III)I" } : Jvm.MethodName)) ∈ lw_all := lw_g (lw_at lw_m7 2 rfl) rfl
theorem q1579 : (Jvm.Cond.code ({ cls := "VaneCourtModel", name := "figure", desc := "(III)I" } : Jvm.MethodName) prog_20_method_49_code (4 : Nat) (Option.some Jvm.ClassFile.FieldType.int)) ∈ lw_all := lw_g (lw_at lw_m7 3 rfl) rfl
theorem q1580 : (Jvm.Cond.methodLink "VaneCourtModel" (263 : Nat) ({ cls := "VaneCourtModel", name := "lawClause", desc := "(IZ)I" } : Jvm.MethodName)) ∈ lw_all := lw_g (lw_at lw_m7 4 rfl) rfl
theorem q1581 : (Jvm.Cond.privateMethod ({ cls := "VaneCourtModel", name := "lawClause", desc := "(IZ)I" } : Jvm.MethodName)) ∈ lw_tbl := lw_at lw_m7 5 rfl
theorem q1582 : (Jvm.Cond.instanceMethod ({ cls := "VaneCourtModel", name := "lawClause", desc := "(IZ)I" } : Jvm.MethodName)) ∈ lw_all := lw_g (lw_at lw_m7 6 rfl) rfl
theorem q1583 : (Jvm.Cond.code ({ cls := "VaneCourtModel", name := "lawClause", desc := "(IZ)I" } : Jvm.MethodName) prog_20_method_50_code (4 : Nat) (Option.some Jvm.ClassFile.FieldType.int)) ∈ lw_all := lw_g (lw_at lw_m7 7 rfl) rfl
theorem q1584 : (Jvm.Cond.methodLink "VaneCourtModel" (248 : Nat) ({ cls := "VaneCourtModel", name := "parsed", desc := "(Z)I" } : Jvm.MethodName)) ∈ lw_all := lw_g (lw_at lw_m7 8 rfl) rfl
theorem q1585 : (Jvm.Cond.privateMethod ({ cls := "VaneCourtModel", name := "parsed", desc := "(Z)I" } : Jvm.MethodName)) ∈ lw_tbl := lw_at lw_m7 9 rfl
theorem q1586 : (Jvm.Cond.instanceMethod ({ cls := "VaneCourtModel", name := "parsed", desc := "(Z)I" } : Jvm.MethodName)) ∈ lw_all := lw_g (lw_at lw_m7 10 rfl) rfl
theorem q1587 : (Jvm.Cond.code ({ cls := "VaneCourtModel", name := "parsed", desc := "(Z)I" } : Jvm.MethodName) prog_20_method_48_code (3 : Nat) (Option.some Jvm.ClassFile.FieldType.int)) ∈ lw_all := lw_g (lw_at lw_m7 11 rfl) rfl
theorem q1588 : (Jvm.Cond.methodLink "VaneCourtModel" (242 : Nat) ({ cls := "VaneCourtModel", name := "behindOne", desc := "()I" } : Jvm.MethodName)) ∈ lw_all := lw_g (lw_at lw_m7 12 rfl) rfl
theorem q1589 : (Jvm.Cond.privateMethod ({ cls := "VaneCourtModel", name := "behindOne", desc := "()I" } : Jvm.MethodName)) ∈ lw_tbl := lw_at lw_m7 13 rfl
theorem q1590 : (Jvm.Cond.instanceMethod ({ cls := "VaneCourtModel", name := "behindOne", desc := "()I" } : Jvm.MethodName)) ∈ lw_all := lw_g (lw_at lw_m7 14 rfl) rfl
theorem q1591 : (Jvm.Cond.code ({ cls := "VaneCourtModel", name := "behindOne", desc := "()I" } : Jvm.MethodName) prog_20_method_47_code (3 : Nat) (Option.some Jvm.ClassFile.FieldType.int)) ∈ lw_all := lw_g (lw_at lw_m7 15 rfl) rfl
theorem q1592 : (Jvm.Cond.methodLink "VaneCourtModel" (233 : Nat) ({ cls := "VaneCourtModel", name := "betweenOf", desc := "()I" } : Jvm.MethodName)) ∈ lw_all := lw_g (lw_at lw_m7 16 rfl) rfl
theorem q1593 : (Jvm.Cond.privateMethod ({ cls := "VaneCourtModel", name := "betweenOf", desc := "()I" } : Jvm.MethodName)) ∈ lw_tbl := lw_at lw_m7 17 rfl
theorem q1594 : (Jvm.Cond.instanceMethod ({ cls := "VaneCourtModel", name := "betweenOf", desc := "()I" } : Jvm.MethodName)) ∈ lw_all := lw_g (lw_at lw_m7 18 rfl) rfl
theorem q1595 : (Jvm.Cond.code ({ cls := "VaneCourtModel", name := "betweenOf", desc := "()I" } : Jvm.MethodName) prog_20_method_44_code (2 : Nat) (Option.some Jvm.ClassFile.FieldType.int)) ∈ lw_all := lw_g (lw_at lw_m7 19 rfl) rfl
theorem q1596 : (Jvm.Cond.methodLink "VaneCourtModel" (186 : Nat) ({ cls := "VaneCourtModel", name := "isAskHere", desc := "()Z" } : Jvm.MethodName)) ∈ lw_all := lw_g (lw_at lw_m7 20 rfl) rfl
theorem q1597 : (Jvm.Cond.privateMethod ({ cls := "VaneCourtModel", name := "isAskHere", desc := "()Z" } : Jvm.MethodName)) ∈ lw_tbl := lw_at lw_m7 21 rfl
theorem q1598 : (Jvm.Cond.instanceMethod ({ cls := "VaneCourtModel", name := "isAskHere", desc := "()Z" } : Jvm.MethodName)) ∈ lw_all := lw_g (lw_at lw_m7 22 rfl) rfl
theorem q1599 : (Jvm.Cond.code ({ cls := "VaneCourtModel", name := "isAskHere", desc := "()Z" } : Jvm.MethodName) prog_20_method_38_code (1 : Nat) (Option.some Jvm.ClassFile.FieldType.boolean)) ∈ lw_all := lw_g (lw_at lw_m7 23 rfl) rfl
theorem q1600 : (Jvm.Cond.methodLink "VaneCourtModel" (182 : Nat) ({ cls := "VaneCourtModel", name := "openNow", desc := "()I" } : Jvm.MethodName)) ∈ lw_all := lw_g (lw_at lw_m7 24 rfl) rfl
theorem q1601 : (Jvm.Cond.privateMethod ({ cls := "VaneCourtModel", name := "openNow", desc := "()I" } : Jvm.MethodName)) ∈ lw_tbl := lw_at lw_m7 25 rfl
theorem q1602 : (Jvm.Cond.instanceMethod ({ cls := "VaneCourtModel", name := "openNow", desc := "()I" } : Jvm.MethodName)) ∈ lw_all := lw_g (lw_at lw_m7 26 rfl) rfl
theorem q1603 : (Jvm.Cond.code ({ cls := "VaneCourtModel", name := "openNow", desc := "()I" } : Jvm.MethodName) prog_20_method_36_code (2 : Nat) (Option.some Jvm.ClassFile.FieldType.int)) ∈ lw_all := lw_g (lw_at lw_m7 27 rfl) rfl
theorem q1604 : (Jvm.Cond.methodLink "VaneCourtModel" (220 : Nat) ({ cls := "VaneCourtModel", name := "isCompared", desc := "()Z" } : Jvm.MethodName)) ∈ lw_all := lw_g (lw_at lw_m7 28 rfl) rfl
theorem q1605 : (Jvm.Cond.privateMethod ({ cls := "VaneCourtModel", name := "isCompared", desc := "()Z" } : Jvm.MethodName)) ∈ lw_tbl := lw_at lw_m7 29 rfl
theorem q1606 : (Jvm.Cond.instanceMethod ({ cls := "VaneCourtModel", name := "isCompared", desc := "()Z" } : Jvm.MethodName)) ∈ lw_all := lw_g (lw_at lw_m7 30 rfl) rfl
theorem q1607 : (Jvm.Cond.code ({ cls := "VaneCourtModel", name := "isCompared", desc := "()Z" } : Jvm.MethodName) prog_20_method_37_code (2 : Nat) (Option.some Jvm.ClassFile.FieldType.boolean)) ∈ lw_all := lw_g (lw_at lw_m7 31 rfl) rfl
theorem q1608 : (Jvm.Cond.methodLink "VaneCourtModel" (168 : Nat) ({ cls := "VaneCourtModel", name := "rank", desc := "(I)I" } : Jvm.MethodName)) ∈ lw_all := lw_g (lw_at lw_m7 32 rfl) rfl
theorem q1609 : (Jvm.Cond.static ({ cls := "VaneCourtModel", name := "rank", desc := "(I)I" } : Jvm.MethodName)) ∈ lw_all := lw_g (lw_at lw_m7 33 rfl) rfl
theorem q1610 : (Jvm.Cond.code ({ cls := "VaneCourtModel", name := "rank", desc := "(I)I" } : Jvm.MethodName) prog_20_method_34_code (1 : Nat) (Option.some Jvm.ClassFile.FieldType.int)) ∈ lw_all := lw_g (lw_at lw_m7 34 rfl) rfl
theorem q1611 : (Jvm.Cond.methodLink "VaneCourtModel" (223 : Nat) ({ cls := "VaneCourtModel", name := "compareOf", desc := "()I" } : Jvm.MethodName)) ∈ lw_all := lw_g (lw_at lw_m7 35 rfl) rfl
theorem q1612 : (Jvm.Cond.privateMethod ({ cls := "VaneCourtModel", name := "compareOf", desc := "()I" } : Jvm.MethodName)) ∈ lw_tbl := lw_at lw_m7 36 rfl
theorem q1613 : (Jvm.Cond.instanceMethod ({ cls := "VaneCourtModel", name := "compareOf", desc := "()I" } : Jvm.MethodName)) ∈ lw_all := lw_g (lw_at lw_m7 37 rfl) rfl
theorem q1614 : (Jvm.Cond.code ({ cls := "VaneCourtModel", name := "compareOf", desc := "()I" } : Jvm.MethodName) prog_20_method_43_code (1 : Nat) (Option.some Jvm.ClassFile.FieldType.int)) ∈ lw_all := lw_g (lw_at lw_m7 38 rfl) rfl
theorem q1615 : (Jvm.Cond.methodLink "VaneCourtModel" (204 : Nat) ({ cls := "VaneCourtModel", name := "settle", desc := "(I)V" } : Jvm.MethodName)) ∈ lw_all := lw_g (lw_at lw_m7 39 rfl) rfl
theorem q1616 : (Jvm.Cond.privateMethod ({ cls := "VaneCourtModel", name := "settle", desc := "(I)V" } : Jvm.MethodName)) ∈ lw_tbl := lw_at lw_m7 40 rfl
theorem q1617 : (Jvm.Cond.instanceMethod ({ cls := "VaneCourtModel", name := "settle", desc := "(I)V" } : Jvm.MethodName)) ∈ lw_all := lw_g (lw_at lw_m7 41 rfl) rfl
theorem q1618 : (Jvm.Cond.code ({ cls := "VaneCourtModel", name := "settle", desc := "(I)V" } : Jvm.MethodName) prog_20_method_35_code (2 : Nat) (Option.none : Option Jvm.ClassFile.FieldType)) ∈ lw_all := lw_g (lw_at lw_m7 42 rfl) rfl
theorem q1619 : (Jvm.Cond.methodLink "VaneCourtModel" (171 : Nat) ({ cls := "VaneCourtModel", name := "emit", desc := "(II)V" } : Jvm.MethodName)) ∈ lw_all := lw_g (lw_at lw_m7 43 rfl) rfl
theorem q1620 : (Jvm.Cond.privateMethod ({ cls := "VaneCourtModel", name := "emit", desc := "(II)V" } : Jvm.MethodName)) ∈ lw_tbl := lw_at lw_m7 44 rfl
theorem q1621 : (Jvm.Cond.instanceMethod ({ cls := "VaneCourtModel", name := "emit", desc := "(II)V" } : Jvm.MethodName)) ∈ lw_all := lw_g (lw_at lw_m7 45 rfl) rfl
theorem q1622 : (Jvm.Cond.code ({ cls := "VaneCourtModel", name := "emit", desc := "(II)V" } : Jvm.MethodName) prog_20_method_26_code (3 : Nat) (Option.none : Option Jvm.ClassFile.FieldType)) ∈ lw_all := lw_g (lw_at lw_m7 46 rfl) rfl
theorem q1623 : (Jvm.Cond.methodLink "VaneCourtModel" (236 : Nat) ({ cls := "VaneCourtModel", name := "nextOfMost", desc := "()I" } : Jvm.MethodName)) ∈ lw_all := lw_g (lw_at lw_m7 47 rfl) rfl
theorem q1624 : (Jvm.Cond.privateMethod ({ cls := "VaneCourtModel", name := "nextOfMost", desc := "()I" } : Jvm.MethodName)) ∈ lw_tbl := lw_at lw_m7 48 rfl
theorem q1625 : (Jvm.Cond.instanceMethod ({ cls := "VaneCourtModel", name := "nextOfMost", desc := "()I" } : Jvm.MethodName)) ∈ lw_all := lw_g (lw_at lw_m7 49 rfl) rfl
theorem q1626 : (Jvm.Cond.code ({ cls := "VaneCourtModel", name := "nextOfMost", desc := "()I" } : Jvm.MethodName) prog_20_method_45_code (1 : Nat) (Option.some Jvm.ClassFile.FieldType.int)) ∈ lw_all := lw_g (lw_at lw_m7 50 rfl) rfl
theorem q1627 : (Jvm.Cond.methodLink "VaneCourtModel" (239 : Nat) ({ cls := "VaneCourtModel", name := "shut", desc := "(I)V" } : Jvm.MethodName)) ∈ lw_all := lw_g (lw_at lw_m7 51 rfl) rfl
theorem q1628 : (Jvm.Cond.privateMethod ({ cls := "VaneCourtModel", name := "shut", desc := "(I)V" } : Jvm.MethodName)) ∈ lw_tbl := lw_at lw_m7 52 rfl
theorem q1629 : (Jvm.Cond.instanceMethod ({ cls := "VaneCourtModel", name := "shut", desc := "(I)V" } : Jvm.MethodName)) ∈ lw_all := lw_g (lw_at lw_m7 53 rfl) rfl
theorem q1630 : (Jvm.Cond.code ({ cls := "VaneCourtModel", name := "shut", desc := "(I)V" } : Jvm.MethodName) prog_20_method_46_code (2 : Nat) (Option.none : Option Jvm.ClassFile.FieldType)) ∈ lw_all := lw_g (lw_at lw_m7 54 rfl) rfl
theorem q1631 : (Jvm.Cond.methodLink "VaneCourtModel" (245 : Nat) ({ cls := "VaneCourtModel", name := "beginOne", desc := "()I" } : Jvm.MethodName)) ∈ lw_all := lw_g (lw_at lw_m7 55 rfl) rfl
theorem q1632 : (Jvm.Cond.privateMethod ({ cls := "VaneCourtModel", name := "beginOne", desc := "()I" } : Jvm.MethodName)) ∈ lw_tbl := lw_at lw_m7 56 rfl
theorem q1633 : (Jvm.Cond.instanceMethod ({ cls := "VaneCourtModel", name := "beginOne", desc := "()I" } : Jvm.MethodName)) ∈ lw_all := lw_g (lw_at lw_m7 57 rfl) rfl
theorem q1634 : (Jvm.Cond.code ({ cls := "VaneCourtModel", name := "beginOne", desc := "()I" } : Jvm.MethodName) prog_20_method_42_code (2 : Nat) (Option.some Jvm.ClassFile.FieldType.int)) ∈ lw_all := lw_g (lw_at lw_m7 58 rfl) rfl
theorem q1635 : (Jvm.Cond.methodLink "VaneCourtModel" (198 : Nat) ({ cls := "VaneCourtModel", name := "nameOf", desc := "()I" } : Jvm.MethodName)) ∈ lw_all := lw_g (lw_at lw_m7 59 rfl) rfl
theorem q1636 : (Jvm.Cond.privateMethod ({ cls := "VaneCourtModel", name := "nameOf", desc := "()I" } : Jvm.MethodName)) ∈ lw_tbl := lw_at lw_m7 60 rfl
theorem q1637 : (Jvm.Cond.instanceMethod ({ cls := "VaneCourtModel", name := "nameOf", desc := "()I" } : Jvm.MethodName)) ∈ lw_all := lw_g (lw_at lw_m7 61 rfl) rfl
theorem q1638 : (Jvm.Cond.code ({ cls := "VaneCourtModel", name := "nameOf", desc := "()I" } : Jvm.MethodName) prog_20_method_32_code (1 : Nat) (Option.some Jvm.ClassFile.FieldType.int)) ∈ lw_all := lw_g (lw_at lw_m7 62 rfl) rfl
theorem q1639 : (Jvm.Cond.methodLink "VaneCourtModel" (155 : Nat) ({ cls := "VaneCourtModel", name := "isQuarter", desc := "()Z" } : Jvm.MethodName)) ∈ lw_all := lw_g (lw_at lw_m7 63 rfl) rfl
theorem q1640 : (Jvm.Cond.privateMethod ({ cls := "VaneCourtModel", name := "isQuarter", desc := "()Z" } : Jvm.MethodName)) ∈ lw_tbl := lw_at lw_m7 64 rfl
theorem q1641 : (Jvm.Cond.instanceMethod ({ cls := "VaneCourtModel", name := "isQuarter", desc := "()Z" } : Jvm.MethodName)) ∈ lw_all := lw_g (lw_at lw_m7 65 rfl) rfl
theorem q1642 : (Jvm.Cond.code ({ cls := "VaneCourtModel", name := "isQuarter", desc := "()Z" } : Jvm.MethodName) prog_20_method_29_code (1 : Nat) (Option.some Jvm.ClassFile.FieldType.boolean)) ∈ lw_all := lw_g (lw_at lw_m7 66 rfl) rfl
theorem q1643 : (Jvm.Cond.methodLink "VaneCourtModel" (159 : Nat) ({ cls := "VaneCourtModel", name := "isGravity", desc := "()Z" } : Jvm.MethodName)) ∈ lw_all := lw_g (lw_at lw_m7 67 rfl) rfl
theorem q1644 : (Jvm.Cond.privateMethod ({ cls := "VaneCourtModel", name := "isGravity", desc := "()Z" } : Jvm.MethodName)) ∈ lw_tbl := lw_at lw_m7 68 rfl
theorem q1645 : (Jvm.Cond.instanceMethod ({ cls := "VaneCourtModel", name := "isGravity", desc := "()Z" } : Jvm.MethodName)) ∈ lw_all := lw_g (lw_at lw_m7 69 rfl) rfl
theorem q1646 : (Jvm.Cond.code ({ cls := "VaneCourtModel", name := "isGravity", desc := "()Z" } : Jvm.MethodName) prog_20_method_28_code (1 : Nat) (Option.some Jvm.ClassFile.FieldType.boolean)) ∈ lw_all := lw_g (lw_at lw_m7 70 rfl) rfl
theorem q1647 : (Jvm.Cond.methodLink "VaneCourtModel" (201 : Nat) ({ cls := "VaneCourtModel", name := "isOf", desc := "(I)Z" } : Jvm.MethodName)) ∈ lw_all := lw_g (lw_at lw_m7 71 rfl) rfl
theorem q1648 : (Jvm.Cond.privateMethod ({ cls := "VaneCourtModel", name := "isOf", desc := "(I)Z" } : Jvm.MethodName)) ∈ lw_tbl := lw_at lw_m7 72 rfl
theorem q1649 : (Jvm.Cond.instanceMethod ({ cls := "VaneCourtModel", name := "isOf", desc := "(I)Z" } : Jvm.MethodName)) ∈ lw_all := lw_g (lw_at lw_m7 73 rfl) rfl
theorem q1650 : (Jvm.Cond.code ({ cls := "VaneCourtModel", name := "isOf", desc := "(I)Z" } : Jvm.MethodName) prog_20_method_33_code (2 : Nat) (Option.some Jvm.ClassFile.FieldType.boolean)) ∈ lw_all := lw_g (lw_at lw_m7 74 rfl) rfl
theorem q1651 : (Jvm.Cond.methodLink "VaneCourtModel" (207 : Nat) ({ cls := "VaneCourtModel", name := "opened", desc := "(I)I" } : Jvm.MethodName)) ∈ lw_all := lw_g (lw_at lw_m7 75 rfl) rfl
theorem q1652 : (Jvm.Cond.privateMethod ({ cls := "VaneCourtModel", name := "opened", desc := "(I)I" } : Jvm.MethodName)) ∈ lw_tbl := lw_at lw_m7 76 rfl
theorem q1653 : (Jvm.Cond.instanceMethod ({ cls := "VaneCourtModel", name := "opened", desc := "(I)I" } : Jvm.MethodName)) ∈ lw_all := lw_g (lw_at lw_m7 77 rfl) rfl
theorem q1654 : (Jvm.Cond.code ({ cls := "VaneCourtModel", name := "opened", desc := "(I)I" } : Jvm.MethodName) prog_20_method_40_code (2 : Nat) (Option.some Jvm.ClassFile.FieldType.int)) ∈ lw_all := lw_g (lw_at lw_m7 78 rfl) rfl
theorem q1655 : (Jvm.Cond.methodLink "VaneCourtModel" (210 : Nat) ({ cls := "VaneCourtModel", name := "isAskAhead", desc := "()Z" } : Jvm.MethodName)) ∈ lw_all := lw_g (lw_at lw_m7 79 rfl) rfl
theorem q1656 : (Jvm.Cond.privateMethod ({ cls := "VaneCourtModel", name := "isAskAhead", desc := "()Z" } : Jvm.MethodName)) ∈ lw_tbl := lw_at lw_m7 80 rfl
theorem q1657 : (Jvm.Cond.instanceMethod ({ cls := "VaneCourtModel", name := "isAskAhead", desc := "()Z" } : Jvm.MethodName)) ∈ lw_all := lw_g (lw_at lw_m7 81 rfl) rfl
theorem q1658 : (Jvm.Cond.code ({ cls := "VaneCourtModel", name := "isAskAhead", desc := "()Z" } : Jvm.MethodName) prog_20_method_39_code (1 : Nat) (Option.some Jvm.ClassFile.FieldType.boolean)) ∈ lw_all := lw_g (lw_at lw_m7 82 rfl) rfl
theorem q1659 : (Jvm.Cond.methodLink "VaneCourtModel" (217 : Nat) ({ cls := "VaneCourtModel", name := "factAt", desc := "()I" } : Jvm.MethodName)) ∈ lw_all := lw_g (lw_at lw_m7 83 rfl) rfl
theorem q1660 : (Jvm.Cond.privateMethod ({ cls := "VaneCourtModel", name := "factAt", desc := "()I" } : Jvm.MethodName)) ∈ lw_tbl := lw_at lw_m7 84 rfl
theorem q1661 : (Jvm.Cond.instanceMethod ({ cls := "VaneCourtModel", name := "factAt", desc := "()I" } : Jvm.MethodName)) ∈ lw_all := lw_g (lw_at lw_m7 85 rfl) rfl
theorem q1662 : (Jvm.Cond.code ({ cls := "VaneCourtModel", name := "factAt", desc := "()I" } : Jvm.MethodName) prog_20_method_41_code (1 : Nat) (Option.some Jvm.ClassFile.FieldType.int)) ∈ lw_all := lw_g (lw_at lw_m7 86 rfl) rfl
theorem q1663 : (Jvm.Cond.methodLink "VaneCourtModel" (270 : Nat) ({ cls := "VaneCourtModel", name := "caseClause", desc := "(I)I" } : Jvm.MethodName)) ∈ lw_all := lw_g (lw_at lw_m7 87 rfl) rfl
theorem q1664 : (Jvm.Cond.privateMethod ({ cls := "VaneCourtModel", name := "caseClause", desc := "(I)I" } : Jvm.MethodName)) ∈ lw_tbl := lw_at lw_m7 88 rfl
theorem q1665 : (Jvm.Cond.instanceMethod ({ cls := "VaneCourtModel", name := "caseClause", desc := "(I)I" } : Jvm.MethodName)) ∈ lw_all := lw_g (lw_at lw_m7 89 rfl) rfl
theorem q1666 : (Jvm.Cond.code ({ cls := "VaneCourtModel", name := "caseClause", desc := "(I)I" } : Jvm.MethodName) prog_20_method_52_code (3 : Nat) (Option.some Jvm.ClassFile.FieldType.int)) ∈ lw_all := lw_g (lw_at lw_m7 90 rfl) rfl
theorem q1667 : (Jvm.Cond.methodLink "VaneCourtModel" (273 : Nat) ({ cls := "VaneCourtModel", name := "gustClause", desc := "(I)I" } : Jvm.MethodName)) ∈ lw_all := lw_g (lw_at lw_m7 91 rfl) rfl
theorem q1668 : (Jvm.Cond.privateMethod ({ cls := "VaneCourtModel", name := "gustClause", desc := "(I)I" } : Jvm.MethodName)) ∈ lw_tbl := lw_at lw_m7 92 rfl
theorem q1669 : (Jvm.Cond.instanceMethod ({ cls := "VaneCourtModel", name := "gustClause", desc := "(I)I" } : Jvm.MethodName)) ∈ lw_all := lw_g (lw_at lw_m7 93 rfl) rfl
theorem q1670 : (Jvm.Cond.code ({ cls := "VaneCourtModel", name := "gustClause", desc := "(I)I" } : Jvm.MethodName) prog_20_method_53_code (3 : Nat) (Option.some Jvm.ClassFile.FieldType.int)) ∈ lw_all := lw_g (lw_at lw_m7 94 rfl) rfl
theorem q1672 : (Jvm.Cond.instanceMethod ({ cls := "VaneCourtModel", name := "fault", desc := "(I)I" } : Jvm.MethodName)) ∈ lw_all := lw_g (lw_at lw_m7 96 rfl) rfl
theorem q1673 : (Jvm.Cond.selects "VaneCourtModel" ({ cls := "VaneCourtModel", name := "fault", desc := "(I)I" } : Jvm.MethodName) ({ cls := "VaneCourtModel", name := "fault", desc := "(I)I" } : Jvm.MethodName)) ∈ lw_all := lw_g (lw_at lw_m7 97 rfl) rfl
theorem q1674 : (Jvm.Cond.code ({ cls := "VaneCourtModel", name := "fault", desc := "(I)I" } : Jvm.MethodName) prog_20_method_59_code (2 : Nat) (Option.some Jvm.ClassFile.FieldType.int)) ∈ lw_all := lw_g (lw_at lw_m7 98 rfl) rfl
theorem q1676 : (Jvm.Cond.instanceMethod ({ cls := "VaneCourtModel", name := "by", desc := "(I)Z" } : Jvm.MethodName)) ∈ lw_all := lw_g (lw_at lw_m7 100 rfl) rfl
theorem q1677 : (Jvm.Cond.selects "VaneCourtModel" ({ cls := "VaneCourtModel", name := "by", desc := "(I)Z" } : Jvm.MethodName) ({ cls := "VaneCourtModel", name := "by", desc := "(I)Z" } : Jvm.MethodName)) ∈ lw_all := lw_g (lw_at lw_m7 101 rfl) rfl
theorem q1678 : (Jvm.Cond.code ({ cls := "VaneCourtModel", name := "by", desc := "(I)Z" } : Jvm.MethodName) prog_20_method_60_code (2 : Nat) (Option.some Jvm.ClassFile.FieldType.boolean)) ∈ lw_all := lw_g (lw_at lw_m7 102 rfl) rfl
theorem q1680 : (Jvm.Cond.instanceMethod ({ cls := "VaneCourtModel", name := "undo", desc := "()I" } : Jvm.MethodName)) ∈ lw_all := lw_g (lw_at lw_m7 104 rfl) rfl
theorem q1681 : (Jvm.Cond.selects "VaneCourtModel" ({ cls := "VaneCourtModel", name := "undo", desc := "()I" } : Jvm.MethodName) ({ cls := "VaneCourtModel", name := "undo", desc := "()I" } : Jvm.MethodName)) ∈ lw_all := lw_g (lw_at lw_m7 105 rfl) rfl
theorem q1682 : (Jvm.Cond.code ({ cls := "VaneCourtModel", name := "undo", desc := "()I" } : Jvm.MethodName) prog_20_method_82_code (4 : Nat) (Option.some Jvm.ClassFile.FieldType.int)) ∈ lw_all := lw_g (lw_at lw_m7 106 rfl) rfl
theorem q1684 : (Jvm.Cond.instanceMethod ({ cls := "VaneCourtModel", name := "call", desc := "(I)Z" } : Jvm.MethodName)) ∈ lw_all := lw_g (lw_at lw_m7 108 rfl) rfl
theorem q1685 : (Jvm.Cond.selects "VaneCourtModel" ({ cls := "VaneCourtModel", name := "call", desc := "(I)Z" } : Jvm.MethodName) ({ cls := "VaneCourtModel", name := "call", desc := "(I)Z" } : Jvm.MethodName)) ∈ lw_all := lw_g (lw_at lw_m7 109 rfl) rfl
theorem q1686 : (Jvm.Cond.code ({ cls := "VaneCourtModel", name := "call", desc := "(I)Z" } : Jvm.MethodName) prog_20_method_85_code (2 : Nat) (Option.some Jvm.ClassFile.FieldType.boolean)) ∈ lw_all := lw_g (lw_at lw_m7 110 rfl) rfl
theorem q1687 : (Jvm.Cond.methodLink "VaneCourtModel" (380 : Nat) ({ cls := "VaneCourtModel", name := "canCall", desc := "(I)Z" } : Jvm.MethodName)) ∈ lw_all := lw_g (lw_at lw_m7 111 rfl) rfl
theorem q1688 : (Jvm.Cond.privateMethod ({ cls := "VaneCourtModel", name := "canCall", desc := "(I)Z" } : Jvm.MethodName)) ∈ lw_tbl := lw_at lw_m7 112 rfl
theorem q1689 : (Jvm.Cond.instanceMethod ({ cls := "VaneCourtModel", name := "canCall", desc := "(I)Z" } : Jvm.MethodName)) ∈ lw_all := lw_g (lw_at lw_m7 113 rfl) rfl
theorem q1690 : (Jvm.Cond.code ({ cls := "VaneCourtModel", name := "canCall", desc := "(I)Z" } : Jvm.MethodName) prog_20_method_83_code (2 : Nat) (Option.some Jvm.ClassFile.FieldType.boolean)) ∈ lw_all := lw_g (lw_at lw_m7 114 rfl) rfl
theorem q1691 : (Jvm.Cond.methodLink "VaneCourtModel" (377 : Nat) ({ cls := "VaneCourtModel", name := "isWaiting", desc := "(I)Z" } : Jvm.MethodName)) ∈ lw_all := lw_g (lw_at lw_m7 115 rfl) rfl
theorem q1692 : (Jvm.Cond.privateMethod ({ cls := "VaneCourtModel", name := "isWaiting", desc := "(I)Z" } : Jvm.MethodName)) ∈ lw_tbl := lw_at lw_m7 116 rfl
theorem q1693 : (Jvm.Cond.instanceMethod ({ cls := "VaneCourtModel", name := "isWaiting", desc := "(I)Z" } : Jvm.MethodName)) ∈ lw_all := lw_g (lw_at lw_m7 117 rfl) rfl
theorem q1694 : (Jvm.Cond.code ({ cls := "VaneCourtModel", name := "isWaiting", desc := "(I)Z" } : Jvm.MethodName) prog_20_method_10_code (2 : Nat) (Option.some Jvm.ClassFile.FieldType.boolean)) ∈ lw_all := lw_g (lw_at lw_m7 118 rfl) rfl
theorem q1695 : (Jvm.Cond.methodLink "VaneCourtModel" (78 : Nat) ({ cls := "VaneCourtModel", name := "isCase", desc := "(I)Z" } : Jvm.MethodName)) ∈ lw_all := lw_g (lw_at lw_m7 119 rfl) rfl
theorem q1696 : (Jvm.Cond.privateMethod ({ cls := "VaneCourtModel", name := "isCase", desc := "(I)Z" } : Jvm.MethodName)) ∈ lw_tbl := lw_at lw_m7 120 rfl
theorem q1697 : (Jvm.Cond.instanceMethod ({ cls := "VaneCourtModel", name := "isCase", desc := "(I)Z" } : Jvm.MethodName)) ∈ lw_all := lw_g (lw_at lw_m7 121 rfl) rfl
theorem q1698 : (Jvm.Cond.code ({ cls := "VaneCourtModel", name := "isCase", desc := "(I)Z" } : Jvm.MethodName) prog_20_method_7_code (2 : Nat) (Option.some Jvm.ClassFile.FieldType.boolean)) ∈ lw_all := lw_g (lw_at lw_m7 122 rfl) rfl
theorem q1699 : (Jvm.Cond.methodLink "VaneCourtModel" (82 : Nat) ({ cls := "VaneCourtModel", name := "get", desc := "(II)I" } : Jvm.MethodName)) ∈ lw_all := lw_g (lw_at lw_m7 123 rfl) rfl
theorem q1700 : (Jvm.Cond.privateMethod ({ cls := "VaneCourtModel", name := "get", desc := "(II)I" } : Jvm.MethodName)) ∈ lw_tbl := lw_at lw_m7 124 rfl
theorem q1701 : (Jvm.Cond.instanceMethod ({ cls := "VaneCourtModel", name := "get", desc := "(II)I" } : Jvm.MethodName)) ∈ lw_all := lw_g (lw_at lw_m7 125 rfl) rfl
theorem q1702 : (Jvm.Cond.code ({ cls := "VaneCourtModel", name := "get", desc := "(II)I" } : Jvm.MethodName) prog_20_method_8_code (3 : Nat) (Option.some Jvm.ClassFile.FieldType.int)) ∈ lw_all := lw_g (lw_at lw_m7 126 rfl) rfl
theorem q1703 : (Jvm.Cond.methodLink "VaneCourtModel" (383 : Nat) ({ cls := "VaneCourtModel", name := "keep", desc := "()V" } : Jvm.MethodName)) ∈ lw_all := lw_g (lw_at lw_m7 127 rfl) rfl
theorem q1704 : (Jvm.Cond.privateMethod ({ cls := "VaneCourtModel", name := "keep", desc := "()V" } : Jvm.MethodName)) ∈ lw_tbl := lw_at lw_m7 128 rfl
theorem q1705 : (Jvm.Cond.instanceMethod ({ cls := "VaneCourtModel", name := "keep", desc := "()V" } : Jvm.MethodName)) ∈ lw_all := lw_g (lw_at lw_m7 129 rfl) rfl
theorem q1706 : (Jvm.Cond.code ({ cls := "VaneCourtModel", name := "keep", desc := "()V" } : Jvm.MethodName) prog_20_method_81_code (4 : Nat) (Option.none : Option Jvm.ClassFile.FieldType)) ∈ lw_all := lw_g (lw_at lw_m7 130 rfl) rfl
theorem q1707 : (Jvm.Cond.methodLink "VaneCourtModel" (386 : Nat) ({ cls := "VaneCourtModel", name := "callNow", desc := "(I)V" } : Jvm.MethodName)) ∈ lw_all := lw_g (lw_at lw_m7 131 rfl) rfl
theorem q1708 : (Jvm.Cond.privateMethod ({ cls := "VaneCourtModel", name := "callNow", desc := "(I)V" } : Jvm.MethodName)) ∈ lw_tbl := lw_at lw_m7 132 rfl
theorem q1709 : (Jvm.Cond.instanceMethod ({ cls := "VaneCourtModel", name := "callNow", desc := "(I)V" } : Jvm.MethodName)) ∈ lw_all := lw_g (lw_at lw_m7 133 rfl) rfl
theorem q1710 : (Jvm.Cond.code ({ cls := "VaneCourtModel", name := "callNow", desc := "(I)V" } : Jvm.MethodName) prog_20_method_84_code (2 : Nat) (Option.none : Option Jvm.ClassFile.FieldType)) ∈ lw_all := lw_g (lw_at lw_m7 134 rfl) rfl
theorem q1712 : (Jvm.Cond.instanceMethod ({ cls := "VaneCourtModel", name := "delay", desc := "()I" } : Jvm.MethodName)) ∈ lw_all := lw_g (lw_at lw_m7 136 rfl) rfl
theorem q1713 : (Jvm.Cond.selects "VaneCourtModel" ({ cls := "VaneCourtModel", name := "delay", desc := "()I" } : Jvm.MethodName) ({ cls := "VaneCourtModel", name := "delay", desc := "()I" } : Jvm.MethodName)) ∈ lw_all := lw_g (lw_at lw_m7 137 rfl) rfl
theorem q1714 : (Jvm.Cond.code ({ cls := "VaneCourtModel", name := "delay", desc := "()I" } : Jvm.MethodName) prog_20_method_87_code (1 : Nat) (Option.some Jvm.ClassFile.FieldType.int)) ∈ lw_all := lw_g (lw_at lw_m7 138 rfl) rfl
theorem q1715 : (Jvm.Cond.methodLink "VaneCourtModel" (389 : Nat) ({ cls := "VaneCourtModel", name := "canDelay", desc := "()Z" } : Jvm.MethodName)) ∈ lw_all := lw_g (lw_at lw_m7 139 rfl) rfl
theorem q1716 : (Jvm.Cond.privateMethod ({ cls := "VaneCourtModel", name := "canDelay", desc := "()Z" } : Jvm.MethodName)) ∈ lw_tbl := lw_at lw_m7 140 rfl
theorem q1717 : (Jvm.Cond.instanceMethod ({ cls := "VaneCourtModel", name := "canDelay", desc := "()Z" } : Jvm.MethodName)) ∈ lw_all := lw_g (lw_at lw_m7 141 rfl) rfl
theorem q1718 : (Jvm.Cond.code ({ cls := "VaneCourtModel", name := "canDelay", desc := "()Z" } : Jvm.MethodName) prog_20_method_86_code (1 : Nat) (Option.some Jvm.ClassFile.FieldType.boolean)) ∈ lw_all := lw_g (lw_at lw_m7 142 rfl) rfl
theorem q1720 : (Jvm.Cond.instanceMethod ({ cls := "VaneCourtModel", name := "appeal", desc := "(I)Z" } : Jvm.MethodName)) ∈ lw_all := lw_g (lw_at lw_m7 144 rfl) rfl
theorem q1721 : (Jvm.Cond.selects "VaneCourtModel" ({ cls := "VaneCourtModel", name := "appeal", desc := "(I)Z" } : Jvm.MethodName) ({ cls := "VaneCourtModel", name := "appeal", desc := "(I)Z" } : Jvm.MethodName)) ∈ lw_all := lw_g (lw_at lw_m7 145 rfl) rfl
theorem q1722 : (Jvm.Cond.code ({ cls := "VaneCourtModel", name := "appeal", desc := "(I)Z" } : Jvm.MethodName) prog_20_method_90_code (2 : Nat) (Option.some Jvm.ClassFile.FieldType.boolean)) ∈ lw_all := lw_g (lw_at lw_m7 146 rfl) rfl
theorem q1723 : (Jvm.Cond.methodLink "VaneCourtModel" (392 : Nat) ({ cls := "VaneCourtModel", name := "canAppeal", desc := "(I)Z" } : Jvm.MethodName)) ∈ lw_all := lw_g (lw_at lw_m7 147 rfl) rfl
theorem q1724 : (Jvm.Cond.privateMethod ({ cls := "VaneCourtModel", name := "canAppeal", desc := "(I)Z" } : Jvm.MethodName)) ∈ lw_tbl := lw_at lw_m7 148 rfl
theorem q1725 : (Jvm.Cond.instanceMethod ({ cls := "VaneCourtModel", name := "canAppeal", desc := "(I)Z" } : Jvm.MethodName)) ∈ lw_all := lw_g (lw_at lw_m7 149 rfl) rfl
theorem q1726 : (Jvm.Cond.code ({ cls := "VaneCourtModel", name := "canAppeal", desc := "(I)Z" } : Jvm.MethodName) prog_20_method_88_code (2 : Nat) (Option.some Jvm.ClassFile.FieldType.boolean)) ∈ lw_all := lw_g (lw_at lw_m7 150 rfl) rfl
theorem q1727 : (Jvm.Cond.methodLink "VaneCourtModel" (395 : Nat) ({ cls := "VaneCourtModel", name := "appealNow", desc := "(I)V" } : Jvm.MethodName)) ∈ lw_all := lw_g (lw_at lw_m7 151 rfl) rfl
theorem q1728 : (Jvm.Cond.privateMethod ({ cls := "VaneCourtModel", name := "appealNow", desc := "(I)V" } : Jvm.MethodName)) ∈ lw_tbl := lw_at lw_m7 152 rfl
theorem q1729 : (Jvm.Cond.instanceMethod ({ cls := "VaneCourtModel", name := "appealNow", desc := "(I)V" } : Jvm.MethodName)) ∈ lw_all := lw_g (lw_at lw_m7 153 rfl) rfl
theorem q1730 : (Jvm.Cond.code ({ cls := "VaneCourtModel", name := "appealNow", desc := "(I)V" } : Jvm.MethodName) prog_20_method_89_code (2 : Nat) (Option.none : Option Jvm.ClassFile.FieldType)) ∈ lw_all := lw_g (lw_at lw_m7 154 rfl) rfl
theorem q1732 : (Jvm.Cond.instanceMethod ({ cls := "VaneCourtModel", name := "gust", desc := "(II)Z" } : Jvm.MethodName)) ∈ lw_all := lw_g (lw_at lw_m7 156 rfl) rfl
theorem q1733 : (Jvm.Cond.selects "VaneCourtModel" ({ cls := "VaneCourtModel", name := "gust", desc := "(II)Z" } : Jvm.MethodName) ({ cls := "VaneCourtModel", name := "gust", desc := "(II)Z" } : Jvm.MethodName)) ∈ lw_all := lw_g (lw_at lw_m7 157 rfl) rfl
theorem q1734 : (Jvm.Cond.code ({ cls := "VaneCourtModel", name := "gust", desc := "(II)Z" } : Jvm.MethodName) prog_20_method_91_code (3 : Nat) (Option.some Jvm.ClassFile.FieldType.boolean)) ∈ lw_all := lw_g (lw_at lw_m7 158 rfl) rfl
theorem q1736 : (Jvm.Cond.instanceMethod ({ cls := "VaneCourtModel", name := "withdraw", desc := "()I" } : Jvm.MethodName)) ∈ lw_all := lw_g (lw_at lw_m7 160 rfl) rfl
theorem q1737 : (Jvm.Cond.selects "VaneCourtModel" ({ cls := "VaneCourtModel", name := "withdraw", desc := "()I" } : Jvm.MethodName) ({ cls := "VaneCourtModel", name := "withdraw", desc := "()I" } : Jvm.MethodName)) ∈ lw_all := lw_g (lw_at lw_m7 161 rfl) rfl
theorem q1738 : (Jvm.Cond.code ({ cls := "VaneCourtModel", name := "withdraw", desc := "()I" } : Jvm.MethodName) prog_20_method_92_code (2 : Nat) (Option.some Jvm.ClassFile.FieldType.int)) ∈ lw_all := lw_g (lw_at lw_m7 162 rfl) rfl
theorem q1739 : (Jvm.Cond.methodLink "VaneCourtModel" (365 : Nat) ({ cls := "VaneCourtModel", name := "leave", desc := "(II)V" } : Jvm.MethodName)) ∈ lw_all := lw_g (lw_at lw_m7 163 rfl) rfl
theorem q1740 : (Jvm.Cond.privateMethod ({ cls := "VaneCourtModel", name := "leave", desc := "(II)V" } : Jvm.MethodName)) ∈ lw_tbl := lw_at lw_m7 164 rfl
theorem q1741 : (Jvm.Cond.instanceMethod ({ cls := "VaneCourtModel", name := "leave", desc := "(II)V" } : Jvm.MethodName)) ∈ lw_all := lw_g (lw_at lw_m7 165 rfl) rfl
theorem q1742 : (Jvm.Cond.code ({ cls := "VaneCourtModel", name := "leave", desc := "(II)V" } : Jvm.MethodName) prog_20_method_78_code (3 : Nat) (Option.none : Option Jvm.ClassFile.FieldType)) ∈ lw_all := lw_g (lw_at lw_m7 166 rfl) rfl
theorem q1744 : (Jvm.Cond.instanceMethod ({ cls := "VaneCourtModel", name := "hour", desc := "(I)I" } : Jvm.MethodName)) ∈ lw_all := lw_g (lw_at lw_m7 168 rfl) rfl
theorem q1745 : (Jvm.Cond.selects "VaneCourtModel" ({ cls := "VaneCourtModel", name := "hour", desc := "(I)I" } : Jvm.MethodName) ({ cls := "VaneCourtModel", name := "hour", desc := "(I)I" } : Jvm.MethodName)) ∈ lw_all := lw_g (lw_at lw_m7 169 rfl) rfl
theorem q1746 : (Jvm.Cond.code ({ cls := "VaneCourtModel", name := "hour", desc := "(I)I" } : Jvm.MethodName) prog_20_method_94_code (2 : Nat) (Option.some Jvm.ClassFile.FieldType.int)) ∈ lw_all := lw_g (lw_at lw_m7 170 rfl) rfl
theorem q1747 : (Jvm.Cond.methodLink "VaneCourtModel" (401 : Nat) ({ cls := "VaneCourtModel", name := "arePassed", desc := "(I)Z" } : Jvm.MethodName)) ∈ lw_all := lw_g (lw_at lw_m7 171 rfl) rfl
theorem q1748 : (Jvm.Cond.privateMethod ({ cls := "VaneCourtModel", name := "arePassed", desc := "(I)Z" } : Jvm.MethodName)) ∈ lw_tbl := lw_at lw_m7 172 rfl
theorem q1749 : (Jvm.Cond.instanceMethod ({ cls := "VaneCourtModel", name := "arePassed", desc := "(I)Z" } : Jvm.MethodName)) ∈ lw_all := lw_g (lw_at lw_m7 173 rfl) rfl
theorem q1750 : (Jvm.Cond.code ({ cls := "VaneCourtModel", name := "arePassed", desc := "(I)Z" } : Jvm.MethodName) prog_20_method_93_code (3 : Nat) (Option.some Jvm.ClassFile.FieldType.boolean)) ∈ lw_all := lw_g (lw_at lw_m7 174 rfl) rfl
theorem q1751 : (Jvm.Cond.methodLink "VaneCourtModel" (398 : Nat) ({ cls := "VaneCourtModel", name := "pass", desc := "()V" } : Jvm.MethodName)) ∈ lw_all := lw_g (lw_at lw_m7 175 rfl) rfl
theorem q1752 : (Jvm.Cond.privateMethod ({ cls := "VaneCourtModel", name := "pass", desc := "()V" } : Jvm.MethodName)) ∈ lw_tbl := lw_at lw_m7 176 rfl
theorem q1753 : (Jvm.Cond.instanceMethod ({ cls := "VaneCourtModel", name := "pass", desc := "()V" } : Jvm.MethodName)) ∈ lw_all := lw_g (lw_at lw_m7 177 rfl) rfl
theorem q1754 : (Jvm.Cond.code ({ cls := "VaneCourtModel", name := "pass", desc := "()V" } : Jvm.MethodName) prog_20_method_80_code (1 : Nat) (Option.none : Option Jvm.ClassFile.FieldType)) ∈ lw_all := lw_g (lw_at lw_m7 178 rfl) rfl
theorem q1755 : (Jvm.Cond.methodLink "VaneCourtModel" (368 : Nat) ({ cls := "VaneCourtModel", name := "hear", desc := "()V" } : Jvm.MethodName)) ∈ lw_all := lw_g (lw_at lw_m7 179 rfl) rfl
theorem q1756 : (Jvm.Cond.privateMethod ({ cls := "VaneCourtModel", name := "hear", desc := "()V" } : Jvm.MethodName)) ∈ lw_tbl := lw_at lw_m7 180 rfl
theorem q1757 : (Jvm.Cond.instanceMethod ({ cls := "VaneCourtModel", name := "hear", desc := "()V" } : Jvm.MethodName)) ∈ lw_all := lw_g (lw_at lw_m7 181 rfl) rfl
theorem q1758 : (Jvm.Cond.code ({ cls := "VaneCourtModel", name := "hear", desc := "()V" } : Jvm.MethodName) prog_20_method_79_code (5 : Nat) (Option.none : Option Jvm.ClassFile.FieldType)) ∈ lw_all := lw_g (lw_at lw_m7 182 rfl) rfl
theorem q1759 : (Jvm.Cond.methodLink "VaneCourtModel" (356 : Nat) ({ cls := "VaneCourtModel", name := "isFound", desc := "(III)Z" } : Jvm.MethodName)) ∈ lw_all := lw_g (lw_at lw_m7 183 rfl) rfl
theorem q1760 : (Jvm.Cond.privateMethod ({ cls := "VaneCourtModel", name := "isFound", desc := "(III)Z" } : Jvm.MethodName)) ∈ lw_tbl := lw_at lw_m7 184 rfl
theorem q1761 : (Jvm.Cond.instanceMethod ({ cls := "VaneCourtModel", name := "isFound", desc := "(III)Z" } : Jvm.MethodName)) ∈ lw_all := lw_g (lw_at lw_m7 185 rfl) rfl
theorem q1762 : (Jvm.Cond.code ({ cls := "VaneCourtModel", name := "isFound", desc := "(III)Z" } : Jvm.MethodName) prog_20_method_77_code (6 : Nat) (Option.some Jvm.ClassFile.FieldType.boolean)) ∈ lw_all := lw_g (lw_at lw_m7 186 rfl) rfl
theorem q1763 : (Jvm.Cond.methodLink "VaneCourtModel" (349 : Nat) ({ cls := "VaneCourtModel", name := "isGuilty", desc := "(IIIII)Z" } : Jvm.MethodName)) ∈ lw_all := lw_g (lw_at lw_m7 187 rfl) rfl
theorem q1764 : (Jvm.Cond.privateMethod ({ cls := "VaneCourtModel", name := "isGuilty", desc := "(IIIII)Z" } : Jvm.MethodName)) ∈ lw_tbl := lw_at lw_m7 188 rfl
theorem q1765 : (Jvm.Cond.instanceMethod ({ cls := "VaneCourtModel", name := "isGuilty", desc := "(IIIII)Z" } : Jvm.MethodName)) ∈ lw_all := lw_g (lw_at lw_m7 189 rfl) rfl
theorem q1766 : (Jvm.Cond.code ({ cls := "VaneCourtModel", name := "isGuilty", desc := "(IIIII)Z" } : Jvm.MethodName) prog_20_method_71_code (7 : Nat) (Option.some Jvm.ClassFile.FieldType.boolean)) ∈ lw_all := lw_g (lw_at lw_m7 190 rfl) rfl
theorem q1767 : (Jvm.Cond.methodLink "VaneCourtModel" (323 : Nat) ({ cls := "VaneCourtModel", name := "clauseOf", desc := "(III)I" } : Jvm.MethodName)) ∈ lw_all := lw_g (lw_at lw_m7 191 rfl) rfl
theorem q1768 : (Jvm.Cond.privateMethod ({ cls := "VaneCourtModel", name := "clauseOf", desc := "(III)I" } : Jvm.MethodName)) ∈ lw_tbl := lw_at lw_m7 192 rfl
theorem q1769 : (Jvm.Cond.instanceMethod ({ cls := "VaneCourtModel", name := "clauseOf", desc := "(III)I" } : Jvm.MethodName)) ∈ lw_all := lw_g (lw_at lw_m7 193 rfl) rfl
theorem q1770 : (Jvm.Cond.code ({ cls := "VaneCourtModel", name := "clauseOf", desc := "(III)I" } : Jvm.MethodName) prog_20_method_67_code (6 : Nat) (Option.some Jvm.ClassFile.FieldType.int)) ∈ lw_all := lw_g (lw_at lw_m7 194 rfl) rfl
theorem q1771 : (Jvm.Cond.methodLink "VaneCourtModel" (336 : Nat) ({ cls := "VaneCourtModel", name := "nameCase", desc := "(II)V" } : Jvm.MethodName)) ∈ lw_all := lw_g (lw_at lw_m7 195 rfl) rfl
theorem q1772 : (Jvm.Cond.privateMethod ({ cls := "VaneCourtModel", name := "nameCase", desc := "(II)V" } : Jvm.MethodName)) ∈ lw_tbl := lw_at lw_m7 196 rfl
theorem q1773 : (Jvm.Cond.instanceMethod ({ cls := "VaneCourtModel", name := "nameCase", desc := "(II)V" } : Jvm.MethodName)) ∈ lw_all := lw_g (lw_at lw_m7 197 rfl) rfl
theorem q1774 : (Jvm.Cond.code ({ cls := "VaneCourtModel", name := "nameCase", desc := "(II)V" } : Jvm.MethodName) prog_20_method_70_code (3 : Nat) (Option.none : Option Jvm.ClassFile.FieldType)) ∈ lw_all := lw_g (lw_at lw_m7 198 rfl) rfl
theorem q1775 : (Jvm.Cond.methodLink "VaneCourtModel" (333 : Nat) ({ cls := "VaneCourtModel", name := "name", desc := "()V" } : Jvm.MethodName)) ∈ lw_all := lw_g (lw_at lw_m7 199 rfl) rfl
theorem q1776 : (Jvm.Cond.privateMethod ({ cls := "VaneCourtModel", name := "name", desc := "()V" } : Jvm.MethodName)) ∈ lw_tbl := lw_at lw_m7 200 rfl
theorem q1777 : (Jvm.Cond.instanceMethod ({ cls := "VaneCourtModel", name := "name", desc := "()V" } : Jvm.MethodName)) ∈ lw_all := lw_g (lw_at lw_m7 201 rfl) rfl
theorem q1778 : (Jvm.Cond.code ({ cls := "VaneCourtModel", name := "name", desc := "()V" } : Jvm.MethodName) prog_20_method_69_code (1 : Nat) (Option.none : Option Jvm.ClassFile.FieldType)) ∈ lw_all := lw_g (lw_at lw_m7 202 rfl) rfl
theorem q1779 : (Jvm.Cond.methodLink "VaneCourtModel" (326 : Nat) ({ cls := "VaneCourtModel", name := "work", desc := "(II)V" } : Jvm.MethodName)) ∈ lw_all := lw_g (lw_at lw_m7 203 rfl) rfl
theorem q1780 : (Jvm.Cond.privateMethod ({ cls := "VaneCourtModel", name := "work", desc := "(II)V" } : Jvm.MethodName)) ∈ lw_tbl := lw_at lw_m7 204 rfl
theorem q1781 : (Jvm.Cond.instanceMethod ({ cls := "VaneCourtModel", name := "work", desc := "(II)V" } : Jvm.MethodName)) ∈ lw_all := lw_g (lw_at lw_m7 205 rfl) rfl
theorem q1782 : (Jvm.Cond.code ({ cls := "VaneCourtModel", name := "work", desc := "(II)V" } : Jvm.MethodName) prog_20_method_66_code (10 : Nat) (Option.none : Option Jvm.ClassFile.FieldType)) ∈ lw_all := lw_g (lw_at lw_m7 206 rfl) rfl
theorem q1783 : (Jvm.Cond.methodLink "VaneCourtModel" (308 : Nat) ({ cls := "VaneCourtModel", name := "areMost", desc := "(II)Z" } : Jvm.MethodName)) ∈ lw_all := lw_g (lw_at lw_m7 207 rfl) rfl
theorem q1784 : (Jvm.Cond.privateMethod ({ cls := "VaneCourtModel", name := "areMost", desc := "(II)Z" } : Jvm.MethodName)) ∈ lw_tbl := lw_at lw_m7 208 rfl
theorem q1785 : (Jvm.Cond.instanceMethod ({ cls := "VaneCourtModel", name := "areMost", desc := "(II)Z" } : Jvm.MethodName)) ∈ lw_all := lw_g (lw_at lw_m7 209 rfl) rfl
theorem q1786 : (Jvm.Cond.code ({ cls := "VaneCourtModel", name := "areMost", desc := "(II)Z" } : Jvm.MethodName) prog_20_method_64_code (5 : Nat) (Option.some Jvm.ClassFile.FieldType.boolean)) ∈ lw_all := lw_g (lw_at lw_m7 210 rfl) rfl
theorem q1787 : (Jvm.Cond.methodLink "VaneCourtModel" (311 : Nat) ({ cls := "VaneCourtModel", name := "two", desc := "(IJJ)J" } : Jvm.MethodName)) ∈ lw_all := lw_g (lw_at lw_m7 211 rfl) rfl
theorem q1788 : (Jvm.Cond.static ({ cls := "VaneCourtModel", name := "two", desc := "(IJJ)J" } : Jvm.MethodName)) ∈ lw_all := lw_g (lw_at lw_m7 212 rfl) rfl
theorem q1789 : (Jvm.Cond.code ({ cls := "VaneCourtModel", name := "two", desc := "(IJJ)J" } : Jvm.MethodName) prog_20_method_62_code (5 : Nat) (Option.some Jvm.ClassFile.FieldType.long)) ∈ lw_all := lw_g (lw_at lw_m7 213 rfl) rfl
theorem q1790 : (Jvm.Cond.methodLink "VaneCourtModel" (301 : Nat) ({ cls := "VaneCourtModel", name := "clip", desc := "(J)J" } : Jvm.MethodName)) ∈ lw_all := lw_g (lw_at lw_m7 214 rfl) rfl
theorem q1791 : (Jvm.Cond.static ({ cls := "VaneCourtModel", name := "clip", desc := "(J)J" } : Jvm.MethodName)) ∈ lw_all := lw_g (lw_at lw_m7 215 rfl) rfl
theorem q1792 : (Jvm.Cond.code ({ cls := "VaneCourtModel", name := "clip", desc := "(J)J" } : Jvm.MethodName) prog_20_method_61_code (2 : Nat) (Option.some Jvm.ClassFile.FieldType.long)) ∈ lw_all := lw_g (lw_at lw_m7 216 rfl) rfl
theorem q1793 : (Jvm.Cond.constantLong "VaneCourtModel" (297 : Nat) (1000000 : Int64)) ∈ lw_all := lw_g (lw_at lw_m7 217 rfl) rfl
theorem q1794 : (Jvm.Cond.constantLong "VaneCourtModel" (299 : Nat) (-1000000 : Int64)) ∈ lw_all := lw_g (lw_at lw_m7 218 rfl) rfl
theorem q1795 : (Jvm.Cond.methodLink "VaneCourtModel" (315 : Nat) ({ cls := "VaneCourtModel", name := "isAsked", desc := "(IJJ)Z" } : Jvm.MethodName)) ∈ lw_all := lw_g (lw_at lw_m7 219 rfl) rfl
theorem q1796 : (Jvm.Cond.static ({ cls := "VaneCourtModel", name := "isAsked", desc := "(IJJ)Z" } : Jvm.MethodName)) ∈ lw_all := lw_g (lw_at lw_m7 220 rfl) rfl
theorem q1797 : (Jvm.Cond.code ({ cls := "VaneCourtModel", name := "isAsked", desc := "(IJJ)Z" } : Jvm.MethodName) prog_20_method_63_code (5 : Nat) (Option.some Jvm.ClassFile.FieldType.boolean)) ∈ lw_all := lw_g (lw_at lw_m7 221 rfl) rfl
theorem q1798 : (Jvm.Cond.methodLink "VaneCourtModel" (319 : Nat) ({ cls := "VaneCourtModel", name := "joined", desc := "(IZZ)Z" } : Jvm.MethodName)) ∈ lw_all := lw_g (lw_at lw_m7 222 rfl) rfl
theorem q1799 : (Jvm.Cond.static ({ cls := "VaneCourtModel", name := "joined", desc := "(IZZ)Z" } : Jvm.MethodName)) ∈ lw_all := lw_g (lw_at lw_m7 223 rfl) rfl
theorem q1800 : (Jvm.Cond.code ({ cls := "VaneCourtModel", name := "joined", desc := "(IZZ)Z" } : Jvm.MethodName) prog_20_method_65_code (3 : Nat) (Option.some Jvm.ClassFile.FieldType.boolean)) ∈ lw_all := lw_g (lw_at lw_m7 224 rfl) rfl
theorem q1801 : (Jvm.Cond.methodLink "VaneCourtModel" (353 : Nat) ({ cls := "VaneCourtModel", name := "isCalm", desc := "()Z" } : Jvm.MethodName)) ∈ lw_all := lw_g (lw_at lw_m7 225 rfl) rfl
theorem q1802 : (Jvm.Cond.privateMethod ({ cls := "VaneCourtModel", name := "isCalm", desc := "()Z" } : Jvm.MethodName)) ∈ lw_tbl := lw_at lw_m7 226 rfl
theorem q1803 : (Jvm.Cond.instanceMethod ({ cls := "VaneCourtModel", name := "isCalm", desc := "()Z" } : Jvm.MethodName)) ∈ lw_all := lw_g (lw_at lw_m7 227 rfl) rfl
theorem q1804 : (Jvm.Cond.code ({ cls := "VaneCourtModel", name := "isCalm", desc := "()Z" } : Jvm.MethodName) prog_20_method_76_code (1 : Nat) (Option.some Jvm.ClassFile.FieldType.boolean)) ∈ lw_all := lw_g (lw_at lw_m7 228 rfl) rfl
theorem q1805 : (Jvm.Cond.methodLink "VaneCourtModel" (359 : Nat) ({ cls := "VaneCourtModel", name := "sentenceOf", desc := "(III)I" } : Jvm.MethodName)) ∈ lw_all := lw_g (lw_at lw_m7 229 rfl) rfl
theorem q1806 : (Jvm.Cond.privateMethod ({ cls := "VaneCourtModel", name := "sentenceOf", desc := "(III)I" } : Jvm.MethodName)) ∈ lw_tbl := lw_at lw_m7 230 rfl
theorem q1807 : (Jvm.Cond.instanceMethod ({ cls := "VaneCourtModel", name := "sentenceOf", desc := "(III)I" } : Jvm.MethodName)) ∈ lw_all := lw_g (lw_at lw_m7 231 rfl) rfl
theorem q1808 : (Jvm.Cond.code ({ cls := "VaneCourtModel", name := "sentenceOf", desc := "(III)I" } : Jvm.MethodName) prog_20_method_72_code (5 : Nat) (Option.some Jvm.ClassFile.FieldType.int)) ∈ lw_all := lw_g (lw_at lw_m7 232 rfl) rfl
theorem q1809 : (Jvm.Cond.methodLink "VaneCourtModel" (339 : Nat) ({ cls := "VaneCourtModel", name := "bits", desc := "(I)I" } : Jvm.MethodName)) ∈ lw_all := lw_g (lw_at lw_m7 233 rfl) rfl
theorem q1810 : (Jvm.Cond.static ({ cls := "VaneCourtModel", name := "bits", desc := "(I)I" } : Jvm.MethodName)) ∈ lw_all := lw_g (lw_at lw_m7 234 rfl) rfl
theorem q1811 : (Jvm.Cond.code ({ cls := "VaneCourtModel", name := "bits", desc := "(I)I" } : Jvm.MethodName) prog_20_method_6_code (3 : Nat) (Option.some Jvm.ClassFile.FieldType.int)) ∈ lw_all := lw_g (lw_at lw_m7 235 rfl) rfl
theorem q1812 : (Jvm.Cond.methodLink "VaneCourtModel" (342 : Nat) ({ cls := "VaneCourtModel", name := "says", desc := "(IIII)I" } : Jvm.MethodName)) ∈ lw_all := lw_g (lw_at lw_m7 236 rfl) rfl
theorem q1813 : (Jvm.Cond.privateMethod ({ cls := "VaneCourtModel", name := "says", desc := "(IIII)I" } : Jvm.MethodName)) ∈ lw_tbl := lw_at lw_m7 237 rfl
theorem q1814 : (Jvm.Cond.instanceMethod ({ cls := "VaneCourtModel", name := "says", desc := "(IIII)I" } : Jvm.MethodName)) ∈ lw_all := lw_g (lw_at lw_m7 238 rfl) rfl
theorem q1815 : (Jvm.Cond.code ({ cls := "VaneCourtModel", name := "says", desc := "(IIII)I" } : Jvm.MethodName) prog_20_method_68_code (6 : Nat) (Option.some Jvm.ClassFile.FieldType.int)) ∈ lw_all := lw_g (lw_at lw_m7 239 rfl) rfl
theorem q1816 : (Jvm.Cond.methodLink "VaneCourtModel" (329 : Nat) ({ cls := "VaneCourtModel", name := "cut", desc := "(JII)I" } : Jvm.MethodName)) ∈ lw_all := lw_g (lw_at lw_m8 0 rfl) rfl
theorem q1817 : (Jvm.Cond.static ({ cls := "VaneCourtModel", name := "cut", desc := "(JII)I" } : Jvm.MethodName)) ∈ lw_all := lw_g (lw_at lw_m8 1 rfl) rfl
theorem q1818 : (Jvm.Cond.code ({ cls := "VaneCourtModel", name := "cut", desc := "(JII)I" } : Jvm.MethodName) prog_20_method_4_code (4 : Nat) (Option.some Jvm.ClassFile.FieldType.int)) ∈ lw_all := lw_g (lw_at lw_m8 2 rfl) rfl
theorem q1819 : (Jvm.Cond.methodLink "VaneCourtModel" (371 : Nat) ({ cls := "VaneCourtModel", name := "drawn", desc := "(I)I" } : Jvm.MethodName)) ∈ lw_all := lw_g (lw_at lw_m8 3 rfl) rfl
theorem q1820 : (Jvm.Cond.privateMethod ({ cls := "VaneCourtModel", name := "drawn", desc := "(I)I" } : Jvm.MethodName)) ∈ lw_tbl := lw_at lw_m8 4 rfl
theorem q1821 : (Jvm.Cond.instanceMethod ({ cls := "VaneCourtModel", name := "drawn", desc := "(I)I" } : Jvm.MethodName)) ∈ lw_all := lw_g (lw_at lw_m8 5 rfl) rfl
theorem q1822 : (Jvm.Cond.code ({ cls := "VaneCourtModel", name := "drawn", desc := "(I)I" } : Jvm.MethodName) prog_20_method_73_code (3 : Nat) (Option.some Jvm.ClassFile.FieldType.int)) ∈ lw_all := lw_g (lw_at lw_m8 6 rfl) rfl
theorem q1823 : (Jvm.Cond.methodLink "VaneCourtModel" (346 : Nat) ({ cls := "VaneCourtModel", name := "anew", desc := "()V" } : Jvm.MethodName)) ∈ lw_all := lw_g (lw_at lw_m8 7 rfl) rfl
theorem q1824 : (Jvm.Cond.privateMethod ({ cls := "VaneCourtModel", name := "anew", desc := "()V" } : Jvm.MethodName)) ∈ lw_tbl := lw_at lw_m8 8 rfl
theorem q1825 : (Jvm.Cond.instanceMethod ({ cls := "VaneCourtModel", name := "anew", desc := "()V" } : Jvm.MethodName)) ∈ lw_all := lw_g (lw_at lw_m8 9 rfl) rfl
theorem q1826 : (Jvm.Cond.code ({ cls := "VaneCourtModel", name := "anew", desc := "()V" } : Jvm.MethodName) prog_20_method_74_code (1 : Nat) (Option.none : Option Jvm.ClassFile.FieldType)) ∈ lw_all := lw_g (lw_at lw_m8 10 rfl) rfl
theorem q1827 : (Jvm.Cond.methodLink "VaneCourtModel" (374 : Nat) ({ cls := "VaneCourtModel", name := "turnBy", desc := "(I)V" } : Jvm.MethodName)) ∈ lw_all := lw_g (lw_at lw_m8 11 rfl) rfl
theorem q1828 : (Jvm.Cond.privateMethod ({ cls := "VaneCourtModel", name := "turnBy", desc := "(I)V" } : Jvm.MethodName)) ∈ lw_tbl := lw_at lw_m8 12 rfl
theorem q1829 : (Jvm.Cond.instanceMethod ({ cls := "VaneCourtModel", name := "turnBy", desc := "(I)V" } : Jvm.MethodName)) ∈ lw_all := lw_g (lw_at lw_m8 13 rfl) rfl
theorem q1830 : (Jvm.Cond.code ({ cls := "VaneCourtModel", name := "turnBy", desc := "(I)V" } : Jvm.MethodName) prog_20_method_75_code (4 : Nat) (Option.none : Option Jvm.ClassFile.FieldType)) ∈ lw_all := lw_g (lw_at lw_m8 14 rfl) rfl
theorem q1832 : (Jvm.Cond.instanceMethod ({ cls := "VaneCourtModel", name := "played", desc := "(I)I" } : Jvm.MethodName)) ∈ lw_all := lw_g (lw_at lw_m8 16 rfl) rfl
theorem q1833 : (Jvm.Cond.selects "VaneCourtModel" ({ cls := "VaneCourtModel", name := "played", desc := "(I)I" } : Jvm.MethodName) ({ cls := "VaneCourtModel", name := "played", desc := "(I)I" } : Jvm.MethodName)) ∈ lw_all := lw_g (lw_at lw_m8 17 rfl) rfl
theorem q1834 : (Jvm.Cond.code ({ cls := "VaneCourtModel", name := "played", desc := "(I)I" } : Jvm.MethodName) prog_20_method_96_code (3 : Nat) (Option.some Jvm.ClassFile.FieldType.int)) ∈ lw_all := lw_g (lw_at lw_m8 18 rfl) rfl
theorem q1835 : (Jvm.Cond.methodLink "VaneCourtModel" (422 : Nat) ({ cls := "VaneCourtModel", name := "isPlayed", desc := "(I)Z" } : Jvm.MethodName)) ∈ lw_all := lw_g (lw_at lw_m8 19 rfl) rfl
theorem q1836 : (Jvm.Cond.privateMethod ({ cls := "VaneCourtModel", name := "isPlayed", desc := "(I)Z" } : Jvm.MethodName)) ∈ lw_tbl := lw_at lw_m8 20 rfl
theorem q1837 : (Jvm.Cond.instanceMethod ({ cls := "VaneCourtModel", name := "isPlayed", desc := "(I)Z" } : Jvm.MethodName)) ∈ lw_all := lw_g (lw_at lw_m8 21 rfl) rfl
theorem q1838 : (Jvm.Cond.code ({ cls := "VaneCourtModel", name := "isPlayed", desc := "(I)Z" } : Jvm.MethodName) prog_20_method_95_code (3 : Nat) (Option.some Jvm.ClassFile.FieldType.boolean)) ∈ lw_all := lw_g (lw_at lw_m8 22 rfl) rfl
theorem q1839 : (Jvm.Cond.methodLink "VaneCourtModel" (404 : Nat) ({ cls := "VaneCourtModel", name := "newCase", desc := "(IIII)I" } : Jvm.MethodName)) ∈ lw_all := lw_g (lw_at lw_m8 23 rfl) rfl
theorem q1840 : (Jvm.Cond.methodLink "VaneCourtModel" (407 : Nat) ({ cls := "VaneCourtModel", name := "call", desc := "(I)Z" } : Jvm.MethodName)) ∈ lw_all := lw_g (lw_at lw_m8 24 rfl) rfl
theorem q1841 : (Jvm.Cond.methodLink "VaneCourtModel" (410 : Nat) ({ cls := "VaneCourtModel", name := "delay", desc := "()I" } : Jvm.MethodName)) ∈ lw_all := lw_g (lw_at lw_m8 25 rfl) rfl
theorem q1842 : (Jvm.Cond.methodLink "VaneCourtModel" (413 : Nat) ({ cls := "VaneCourtModel", name := "appeal", desc := "(I)Z" } : Jvm.MethodName)) ∈ lw_all := lw_g (lw_at lw_m8 26 rfl) rfl
theorem q1843 : (Jvm.Cond.methodLink "VaneCourtModel" (416 : Nat) ({ cls := "VaneCourtModel", name := "gust", desc := "(II)Z" } : Jvm.MethodName)) ∈ lw_all := lw_g (lw_at lw_m8 27 rfl) rfl
theorem q1844 : (Jvm.Cond.methodLink "VaneCourtModel" (419 : Nat) ({ cls := "VaneCourtModel", name := "withdraw", desc := "()I" } : Jvm.MethodName)) ∈ lw_all := lw_g (lw_at lw_m8 28 rfl) rfl
theorem q1846 : (Jvm.Cond.instanceMethod ({ cls := "VaneCourtModel", name := "decades", desc := "(II)I" } : Jvm.MethodName)) ∈ lw_all := lw_g (lw_at lw_m8 30 rfl) rfl
theorem q1847 : (Jvm.Cond.selects "VaneCourtModel" ({ cls := "VaneCourtModel", name := "decades", desc := "(II)I" } : Jvm.MethodName) ({ cls := "VaneCourtModel", name := "decades", desc := "(II)I" } : Jvm.MethodName)) ∈ lw_all := lw_g (lw_at lw_m8 31 rfl) rfl
theorem q1848 : (Jvm.Cond.code ({ cls := "VaneCourtModel", name := "decades", desc := "(II)I" } : Jvm.MethodName) prog_20_method_98_code (5 : Nat) (Option.some Jvm.ClassFile.FieldType.int)) ∈ lw_all := lw_g (lw_at lw_m8 32 rfl) rfl
theorem q1849 : (Jvm.Cond.methodLink "VaneCourtModel" (425 : Nat) ({ cls := "VaneCourtModel", name := "happens", desc := "(I)V" } : Jvm.MethodName)) ∈ lw_all := lw_g (lw_at lw_m8 33 rfl) rfl
theorem q1850 : (Jvm.Cond.privateMethod ({ cls := "VaneCourtModel", name := "happens", desc := "(I)V" } : Jvm.MethodName)) ∈ lw_tbl := lw_at lw_m8 34 rfl
theorem q1851 : (Jvm.Cond.instanceMethod ({ cls := "VaneCourtModel", name := "happens", desc := "(I)V" } : Jvm.MethodName)) ∈ lw_all := lw_g (lw_at lw_m8 35 rfl) rfl
theorem q1852 : (Jvm.Cond.code ({ cls := "VaneCourtModel", name := "happens", desc := "(I)V" } : Jvm.MethodName) prog_20_method_97_code (3 : Nat) (Option.none : Option Jvm.ClassFile.FieldType)) ∈ lw_all := lw_g (lw_at lw_m8 36 rfl) rfl
theorem q1854 : (Jvm.Cond.instanceMethod ({ cls := "VaneCourtModel", name := "ofCase", desc := "(II)I" } : Jvm.MethodName)) ∈ lw_all := lw_g (lw_at lw_m8 38 rfl) rfl
theorem q1855 : (Jvm.Cond.selects "VaneCourtModel" ({ cls := "VaneCourtModel", name := "ofCase", desc := "(II)I" } : Jvm.MethodName) ({ cls := "VaneCourtModel", name := "ofCase", desc := "(II)I" } : Jvm.MethodName)) ∈ lw_all := lw_g (lw_at lw_m8 39 rfl) rfl
theorem q1856 : (Jvm.Cond.code ({ cls := "VaneCourtModel", name := "ofCase", desc := "(II)I" } : Jvm.MethodName) prog_20_method_99_code (3 : Nat) (Option.some Jvm.ClassFile.FieldType.int)) ∈ lw_all := lw_g (lw_at lw_m8 40 rfl) rfl
theorem q1858 : (Jvm.Cond.instanceMethod ({ cls := "VaneCourtModel", name := "is", desc := "(I)I" } : Jvm.MethodName)) ∈ lw_all := lw_g (lw_at lw_m8 42 rfl) rfl
theorem q1859 : (Jvm.Cond.selects "VaneCourtModel" ({ cls := "VaneCourtModel", name := "is", desc := "(I)I" } : Jvm.MethodName) ({ cls := "VaneCourtModel", name := "is", desc := "(I)I" } : Jvm.MethodName)) ∈ lw_all := lw_g (lw_at lw_m8 43 rfl) rfl
theorem q1860 : (Jvm.Cond.code ({ cls := "VaneCourtModel", name := "is", desc := "(I)I" } : Jvm.MethodName) prog_20_method_100_code (2 : Nat) (Option.some Jvm.ClassFile.FieldType.int)) ∈ lw_all := lw_g (lw_at lw_m8 44 rfl) rfl
theorem q1862 : (Jvm.Cond.instanceMethod ({ cls := "VaneCourtModel", name := "book", desc := "(II)I" } : Jvm.MethodName)) ∈ lw_all := lw_g (lw_at lw_m8 46 rfl) rfl
theorem q1863 : (Jvm.Cond.selects "VaneCourtModel" ({ cls := "VaneCourtModel", name := "book", desc := "(II)I" } : Jvm.MethodName) ({ cls := "VaneCourtModel", name := "book", desc := "(II)I" } : Jvm.MethodName)) ∈ lw_all := lw_g (lw_at lw_m8 47 rfl) rfl
theorem q1864 : (Jvm.Cond.code ({ cls := "VaneCourtModel", name := "book", desc := "(II)I" } : Jvm.MethodName) prog_20_method_102_code (4 : Nat) (Option.some Jvm.ClassFile.FieldType.int)) ∈ lw_all := lw_g (lw_at lw_m8 48 rfl) rfl
theorem q1865 : (Jvm.Cond.methodLink "VaneCourtModel" (428 : Nat) ({ cls := "VaneCourtModel", name := "shown", desc := "()I" } : Jvm.MethodName)) ∈ lw_all := lw_g (lw_at lw_m8 49 rfl) rfl
theorem q1866 : (Jvm.Cond.privateMethod ({ cls := "VaneCourtModel", name := "shown", desc := "()I" } : Jvm.MethodName)) ∈ lw_tbl := lw_at lw_m8 50 rfl
theorem q1867 : (Jvm.Cond.instanceMethod ({ cls := "VaneCourtModel", name := "shown", desc := "()I" } : Jvm.MethodName)) ∈ lw_all := lw_g (lw_at lw_m8 51 rfl) rfl
theorem q1868 : (Jvm.Cond.code ({ cls := "VaneCourtModel", name := "shown", desc := "()I" } : Jvm.MethodName) prog_20_method_101_code (1 : Nat) (Option.some Jvm.ClassFile.FieldType.int)) ∈ lw_all := lw_g (lw_at lw_m8 52 rfl) rfl
theorem q1870 : (Jvm.Cond.instanceMethod ({ cls := "VaneCourtModel", name := "foretold", desc := "(II)I" } : Jvm.MethodName)) ∈ lw_all := lw_g (lw_at lw_m8 54 rfl) rfl
theorem q1871 : (Jvm.Cond.selects "VaneCourtModel" ({ cls := "VaneCourtModel", name := "foretold", desc := "(II)I" } : Jvm.MethodName) ({ cls := "VaneCourtModel", name := "foretold", desc := "(II)I" } : Jvm.MethodName)) ∈ lw_all := lw_g (lw_at lw_m8 55 rfl) rfl
theorem q1872 : (Jvm.Cond.code ({ cls := "VaneCourtModel", name := "foretold", desc := "(II)I" } : Jvm.MethodName) prog_20_method_106_code (4 : Nat) (Option.some Jvm.ClassFile.FieldType.int)) ∈ lw_all := lw_g (lw_at lw_m8 56 rfl) rfl
theorem q1873 : (Jvm.Cond.methodLink "VaneCourtModel" (437 : Nat) ({ cls := "VaneCourtModel", name := "layWinds", desc := "(I)I" } : Jvm.MethodName)) ∈ lw_all := lw_g (lw_at lw_m8 57 rfl) rfl
theorem q1874 : (Jvm.Cond.privateMethod ({ cls := "VaneCourtModel", name := "layWinds", desc := "(I)I" } : Jvm.MethodName)) ∈ lw_tbl := lw_at lw_m8 58 rfl
theorem q1875 : (Jvm.Cond.instanceMethod ({ cls := "VaneCourtModel", name := "layWinds", desc := "(I)I" } : Jvm.MethodName)) ∈ lw_all := lw_g (lw_at lw_m8 59 rfl) rfl
theorem q1876 : (Jvm.Cond.code ({ cls := "VaneCourtModel", name := "layWinds", desc := "(I)I" } : Jvm.MethodName) prog_20_method_105_code (4 : Nat) (Option.some Jvm.ClassFile.FieldType.int)) ∈ lw_all := lw_g (lw_at lw_m8 60 rfl) rfl
theorem q1877 : (Jvm.Cond.methodLink "VaneCourtModel" (431 : Nat) ({ cls := "VaneCourtModel", name := "begin", desc := "()V" } : Jvm.MethodName)) ∈ lw_all := lw_g (lw_at lw_m8 61 rfl) rfl
theorem q1878 : (Jvm.Cond.privateMethod ({ cls := "VaneCourtModel", name := "begin", desc := "()V" } : Jvm.MethodName)) ∈ lw_tbl := lw_at lw_m8 62 rfl
theorem q1879 : (Jvm.Cond.instanceMethod ({ cls := "VaneCourtModel", name := "begin", desc := "()V" } : Jvm.MethodName)) ∈ lw_all := lw_g (lw_at lw_m8 63 rfl) rfl
theorem q1880 : (Jvm.Cond.code ({ cls := "VaneCourtModel", name := "begin", desc := "()V" } : Jvm.MethodName) prog_20_method_103_code (2 : Nat) (Option.none : Option Jvm.ClassFile.FieldType)) ∈ lw_all := lw_g (lw_at lw_m8 64 rfl) rfl
theorem q1881 : (Jvm.Cond.methodLink "VaneCourtModel" (434 : Nat) ({ cls := "VaneCourtModel", name := "putBack", desc := "()V" } : Jvm.MethodName)) ∈ lw_all := lw_g (lw_at lw_m8 65 rfl) rfl
theorem q1882 : (Jvm.Cond.privateMethod ({ cls := "VaneCourtModel", name := "putBack", desc := "()V" } : Jvm.MethodName)) ∈ lw_tbl := lw_at lw_m8 66 rfl
theorem q1883 : (Jvm.Cond.instanceMethod ({ cls := "VaneCourtModel", name := "putBack", desc := "()V" } : Jvm.MethodName)) ∈ lw_all := lw_g (lw_at lw_m8 67 rfl) rfl
theorem q1884 : (Jvm.Cond.code ({ cls := "VaneCourtModel", name := "putBack", desc := "()V" } : Jvm.MethodName) prog_20_method_104_code (2 : Nat) (Option.none : Option Jvm.ClassFile.FieldType)) ∈ lw_all := lw_g (lw_at lw_m8 68 rfl) rfl
theorem q1886 : (Jvm.Cond.instanceMethod ({ cls := "VaneCourtModel", name := "ends", desc := "(IIII)I" } : Jvm.MethodName)) ∈ lw_all := lw_g (lw_at lw_m8 70 rfl) rfl
theorem q1887 : (Jvm.Cond.selects "VaneCourtModel" ({ cls := "VaneCourtModel", name := "ends", desc := "(IIII)I" } : Jvm.MethodName) ({ cls := "VaneCourtModel", name := "ends", desc := "(IIII)I" } : Jvm.MethodName)) ∈ lw_all := lw_g (lw_at lw_m8 71 rfl) rfl
theorem q1888 : (Jvm.Cond.code ({ cls := "VaneCourtModel", name := "ends", desc := "(IIII)I" } : Jvm.MethodName) prog_20_method_108_code (5 : Nat) (Option.some Jvm.ClassFile.FieldType.int)) ∈ lw_all := lw_g (lw_at lw_m8 72 rfl) rfl
theorem q1889 : (Jvm.Cond.methodLink "VaneCourtModel" (446 : Nat) ({ cls := "VaneCourtModel", name := "isEnding", desc := "(III)Z" } : Jvm.MethodName)) ∈ lw_all := lw_g (lw_at lw_m8 73 rfl) rfl
theorem q1890 : (Jvm.Cond.privateMethod ({ cls := "VaneCourtModel", name := "isEnding", desc := "(III)Z" } : Jvm.MethodName)) ∈ lw_tbl := lw_at lw_m8 74 rfl
theorem q1891 : (Jvm.Cond.instanceMethod ({ cls := "VaneCourtModel", name := "isEnding", desc := "(III)Z" } : Jvm.MethodName)) ∈ lw_all := lw_g (lw_at lw_m8 75 rfl) rfl
theorem q1892 : (Jvm.Cond.code ({ cls := "VaneCourtModel", name := "isEnding", desc := "(III)Z" } : Jvm.MethodName) prog_20_method_107_code (7 : Nat) (Option.some Jvm.ClassFile.FieldType.boolean)) ∈ lw_all := lw_g (lw_at lw_m8 76 rfl) rfl
theorem q1894 : (Jvm.Cond.instanceMethod ({ cls := "VaneCourtModel", name := "best", desc := "(IZI)I" } : Jvm.MethodName)) ∈ lw_all := lw_g (lw_at lw_m8 78 rfl) rfl
theorem q1895 : (Jvm.Cond.selects "VaneCourtModel" ({ cls := "VaneCourtModel", name := "best", desc := "(IZI)I" } : Jvm.MethodName) ({ cls := "VaneCourtModel", name := "best", desc := "(IZI)I" } : Jvm.MethodName)) ∈ lw_all := lw_g (lw_at lw_m8 79 rfl) rfl
theorem q1896 : (Jvm.Cond.code ({ cls := "VaneCourtModel", name := "best", desc := "(IZI)I" } : Jvm.MethodName) prog_20_method_109_code (8 : Nat) (Option.some Jvm.ClassFile.FieldType.int)) ∈ lw_all := lw_g (lw_at lw_m8 80 rfl) rfl
theorem q1898 : (Jvm.Cond.instanceMethod ({ cls := "VaneCourtModel", name := "harshest", desc := "(I)I" } : Jvm.MethodName)) ∈ lw_all := lw_g (lw_at lw_m8 82 rfl) rfl
theorem q1899 : (Jvm.Cond.selects "VaneCourtModel" ({ cls := "VaneCourtModel", name := "harshest", desc := "(I)I" } : Jvm.MethodName) ({ cls := "VaneCourtModel", name := "harshest", desc := "(I)I" } : Jvm.MethodName)) ∈ lw_all := lw_g (lw_at lw_m8 83 rfl) rfl
theorem q1900 : (Jvm.Cond.code ({ cls := "VaneCourtModel", name := "harshest", desc := "(I)I" } : Jvm.MethodName) prog_20_method_110_code (5 : Nat) (Option.some Jvm.ClassFile.FieldType.int)) ∈ lw_all := lw_g (lw_at lw_m8 84 rfl) rfl
theorem q1902 : (Jvm.Cond.instanceMethod ({ cls := "VaneCourtModel", name := "odds", desc := "(Z)J" } : Jvm.MethodName)) ∈ lw_all := lw_g (lw_at lw_m8 86 rfl) rfl
theorem q1903 : (Jvm.Cond.selects "VaneCourtModel" ({ cls := "VaneCourtModel", name := "odds", desc := "(Z)J" } : Jvm.MethodName) ({ cls := "VaneCourtModel", name := "odds", desc := "(Z)J" } : Jvm.MethodName)) ∈ lw_all := lw_g (lw_at lw_m8 87 rfl) rfl
theorem q1904 : (Jvm.Cond.code ({ cls := "VaneCourtModel", name := "odds", desc := "(Z)J" } : Jvm.MethodName) prog_20_method_113_code (6 : Nat) (Option.some Jvm.ClassFile.FieldType.long)) ∈ lw_all := lw_g (lw_at lw_m8 88 rfl) rfl
theorem q1905 : (Jvm.Cond.constantLong "VaneCourtModel" (449 : Nat) (-1 : Int64)) ∈ lw_all := lw_g (lw_at lw_m8 89 rfl) rfl
theorem q1906 : (Jvm.Cond.methodLink "VaneCourtModel" (451 : Nat) ({ cls := "VaneCourtModel", name := "isGuiltyBy", desc := "(II)Z" } : Jvm.MethodName)) ∈ lw_all := lw_g (lw_at lw_m8 90 rfl) rfl
theorem q1907 : (Jvm.Cond.privateMethod ({ cls := "VaneCourtModel", name := "isGuiltyBy", desc := "(II)Z" } : Jvm.MethodName)) ∈ lw_tbl := lw_at lw_m8 91 rfl
theorem q1908 : (Jvm.Cond.instanceMethod ({ cls := "VaneCourtModel", name := "isGuiltyBy", desc := "(II)Z" } : Jvm.MethodName)) ∈ lw_all := lw_g (lw_at lw_m8 92 rfl) rfl
theorem q1909 : (Jvm.Cond.code ({ cls := "VaneCourtModel", name := "isGuiltyBy", desc := "(II)Z" } : Jvm.MethodName) prog_20_method_112_code (6 : Nat) (Option.some Jvm.ClassFile.FieldType.boolean)) ∈ lw_all := lw_g (lw_at lw_m8 93 rfl) rfl
theorem q1910 : (Jvm.Cond.methodLink "VaneCourtModel" (454 : Nat) ({ cls := "VaneCourtModel", name := "common", desc := "(JJ)J" } : Jvm.MethodName)) ∈ lw_all := lw_g (lw_at lw_m8 94 rfl) rfl
theorem q1911 : (Jvm.Cond.static ({ cls := "VaneCourtModel", name := "common", desc := "(JJ)J" } : Jvm.MethodName)) ∈ lw_all := lw_g (lw_at lw_m8 95 rfl) rfl
theorem q1912 : (Jvm.Cond.code ({ cls := "VaneCourtModel", name := "common", desc := "(JJ)J" } : Jvm.MethodName) prog_20_method_111_code (10 : Nat) (Option.some Jvm.ClassFile.FieldType.long)) ∈ lw_all := lw_g (lw_at lw_m8 96 rfl) rfl
theorem q1914 : (Jvm.Cond.instanceMethod ({ cls := "VaneCourtModel", name := "clash", desc := "(I)I" } : Jvm.MethodName)) ∈ lw_all := lw_g (lw_at lw_m8 98 rfl) rfl
theorem q1915 : (Jvm.Cond.selects "VaneCourtModel" ({ cls := "VaneCourtModel", name := "clash", desc := "(I)I" } : Jvm.MethodName) ({ cls := "VaneCourtModel", name := "clash", desc := "(I)I" } : Jvm.MethodName)) ∈ lw_all := lw_g (lw_at lw_m8 99 rfl) rfl
theorem q1916 : (Jvm.Cond.code ({ cls := "VaneCourtModel", name := "clash", desc := "(I)I" } : Jvm.MethodName) prog_20_method_115_code (2 : Nat) (Option.some Jvm.ClassFile.FieldType.int)) ∈ lw_all := lw_g (lw_at lw_m8 100 rfl) rfl
theorem q1917 : (Jvm.Cond.methodLink "VaneCourtModel" (458 : Nat) ({ cls := "VaneCourtModel", name := "clashOf", desc := "(II)I" } : Jvm.MethodName)) ∈ lw_all := lw_g (lw_at lw_m8 101 rfl) rfl
theorem q1918 : (Jvm.Cond.privateMethod ({ cls := "VaneCourtModel", name := "clashOf", desc := "(II)I" } : Jvm.MethodName)) ∈ lw_tbl := lw_at lw_m8 102 rfl
theorem q1919 : (Jvm.Cond.instanceMethod ({ cls := "VaneCourtModel", name := "clashOf", desc := "(II)I" } : Jvm.MethodName)) ∈ lw_all := lw_g (lw_at lw_m8 103 rfl) rfl
theorem q1920 : (Jvm.Cond.code ({ cls := "VaneCourtModel", name := "clashOf", desc := "(II)I" } : Jvm.MethodName) prog_20_method_114_code (5 : Nat) (Option.some Jvm.ClassFile.FieldType.int)) ∈ lw_all := lw_g (lw_at lw_m8 104 rfl) rfl
theorem q1922 : (Jvm.Cond.instanceMethod ({ cls := "VaneCourtModel", name := "leastFacts", desc := "(I)I" } : Jvm.MethodName)) ∈ lw_all := lw_g (lw_at lw_m8 106 rfl) rfl
theorem q1923 : (Jvm.Cond.selects "VaneCourtModel" ({ cls := "VaneCourtModel", name := "leastFacts", desc := "(I)I" } : Jvm.MethodName) ({ cls := "VaneCourtModel", name := "leastFacts", desc := "(I)I" } : Jvm.MethodName)) ∈ lw_all := lw_g (lw_at lw_m8 107 rfl) rfl
theorem q1924 : (Jvm.Cond.code ({ cls := "VaneCourtModel", name := "leastFacts", desc := "(I)I" } : Jvm.MethodName) prog_20_method_116_code (5 : Nat) (Option.some Jvm.ClassFile.FieldType.int)) ∈ lw_all := lw_g (lw_at lw_m8 108 rfl) rfl
theorem q1926 : (Jvm.Cond.instanceMethod ({ cls := "VaneCourtModel", name := "game", desc := "(IZZ)I" } : Jvm.MethodName)) ∈ lw_all := lw_g (lw_at lw_m8 110 rfl) rfl
theorem q1927 : (Jvm.Cond.selects "VaneCourtModel" ({ cls := "VaneCourtModel", name := "game", desc := "(IZZ)I" } : Jvm.MethodName) ({ cls := "VaneCourtModel", name := "game", desc := "(IZZ)I" } : Jvm.MethodName)) ∈ lw_all := lw_g (lw_at lw_m8 111 rfl) rfl
theorem q1928 : (Jvm.Cond.code ({ cls := "VaneCourtModel", name := "game", desc := "(IZZ)I" } : Jvm.MethodName) prog_20_method_117_code (10 : Nat) (Option.some Jvm.ClassFile.FieldType.int)) ∈ lw_all := lw_g (lw_at lw_m8 112 rfl) rfl
theorem q1929 : (Jvm.Cond.constant "VaneCourtModel" (461 : Nat) (100000 : Int32)) ∈ lw_all := lw_g (lw_at lw_m8 113 rfl) rfl
theorem q1931 : (Jvm.Cond.instanceMethod ({ cls := "VaneCourtModel", name := "session", desc := "(II)I" } : Jvm.MethodName)) ∈ lw_all := lw_g (lw_at lw_m8 115 rfl) rfl
theorem q1932 : (Jvm.Cond.selects "VaneCourtModel" ({ cls := "VaneCourtModel", name := "session", desc := "(II)I" } : Jvm.MethodName) ({ cls := "VaneCourtModel", name := "session", desc := "(II)I" } : Jvm.MethodName)) ∈ lw_all := lw_g (lw_at lw_m8 116 rfl) rfl
theorem q1933 : (Jvm.Cond.code ({ cls := "VaneCourtModel", name := "session", desc := "(II)I" } : Jvm.MethodName) prog_20_method_120_code (8 : Nat) (Option.some Jvm.ClassFile.FieldType.int)) ∈ lw_all := lw_g (lw_at lw_m8 117 rfl) rfl
theorem q1934 : (Jvm.Cond.methodLink "VaneCourtModel" (462 : Nat) ({ cls := "VaneCourtModel", name := "sentencesBy", desc := "(I)I" } : Jvm.MethodName)) ∈ lw_all := lw_g (lw_at lw_m8 118 rfl) rfl
theorem q1935 : (Jvm.Cond.privateMethod ({ cls := "VaneCourtModel", name := "sentencesBy", desc := "(I)I" } : Jvm.MethodName)) ∈ lw_tbl := lw_at lw_m8 119 rfl
theorem q1936 : (Jvm.Cond.instanceMethod ({ cls := "VaneCourtModel", name := "sentencesBy", desc := "(I)I" } : Jvm.MethodName)) ∈ lw_all := lw_g (lw_at lw_m8 120 rfl) rfl
theorem q1937 : (Jvm.Cond.code ({ cls := "VaneCourtModel", name := "sentencesBy", desc := "(I)I" } : Jvm.MethodName) prog_20_method_119_code (6 : Nat) (Option.some Jvm.ClassFile.FieldType.int)) ∈ lw_all := lw_g (lw_at lw_m8 121 rfl) rfl
theorem q1938 : (Jvm.Cond.methodLink "VaneCourtModel" (465 : Nat) ({ cls := "VaneCourtModel", name := "nextRow", desc := "(I)Z" } : Jvm.MethodName)) ∈ lw_all := lw_g (lw_at lw_m8 122 rfl) rfl
theorem q1939 : (Jvm.Cond.privateMethod ({ cls := "VaneCourtModel", name := "nextRow", desc := "(I)Z" } : Jvm.MethodName)) ∈ lw_tbl := lw_at lw_m8 123 rfl
theorem q1940 : (Jvm.Cond.instanceMethod ({ cls := "VaneCourtModel", name := "nextRow", desc := "(I)Z" } : Jvm.MethodName)) ∈ lw_all := lw_g (lw_at lw_m8 124 rfl) rfl
theorem q1941 : (Jvm.Cond.code ({ cls := "VaneCourtModel", name := "nextRow", desc := "(I)Z" } : Jvm.MethodName) prog_20_method_118_code (7 : Nat) (Option.some Jvm.ClassFile.FieldType.boolean)) ∈ lw_all := lw_g (lw_at lw_m8 125 rfl) rfl
theorem q1943 : (Jvm.Cond.instanceMethod ({ cls := "VaneCourtModel", name := "record", desc := "(IIZ)I" } : Jvm.MethodName)) ∈ lw_all := lw_g (lw_at lw_m8 127 rfl) rfl
theorem q1944 : (Jvm.Cond.selects "VaneCourtModel" ({ cls := "VaneCourtModel", name := "record", desc := "(IIZ)I" } : Jvm.MethodName) ({ cls := "VaneCourtModel", name := "record", desc := "(IIZ)I" } : Jvm.MethodName)) ∈ lw_all := lw_g (lw_at lw_m8 128 rfl) rfl
theorem q1945 : (Jvm.Cond.code ({ cls := "VaneCourtModel", name := "record", desc := "(IIZ)I" } : Jvm.MethodName) prog_20_method_121_code (5 : Nat) (Option.some Jvm.ClassFile.FieldType.int)) ∈ lw_all := lw_g (lw_at lw_m8 129 rfl) rfl
theorem q1947 : (Jvm.Cond.instanceMethod ({ cls := "VaneCourtModel", name := "turned", desc := "()I" } : Jvm.MethodName)) ∈ lw_all := lw_g (lw_at lw_m8 131 rfl) rfl
theorem q1948 : (Jvm.Cond.selects "VaneCourtModel" ({ cls := "VaneCourtModel", name := "turned", desc := "()I" } : Jvm.MethodName) ({ cls := "VaneCourtModel", name := "turned", desc := "()I" } : Jvm.MethodName)) ∈ lw_all := lw_g (lw_at lw_m8 132 rfl) rfl
theorem q1949 : (Jvm.Cond.code ({ cls := "VaneCourtModel", name := "turned", desc := "()I" } : Jvm.MethodName) prog_20_method_123_code (3 : Nat) (Option.some Jvm.ClassFile.FieldType.int)) ∈ lw_all := lw_g (lw_at lw_m8 133 rfl) rfl
theorem q1950 : (Jvm.Cond.methodLink "VaneCourtModel" (468 : Nat) ({ cls := "VaneCourtModel", name := "wrongBy", desc := "(II)I" } : Jvm.MethodName)) ∈ lw_all := lw_g (lw_at lw_m8 134 rfl) rfl
theorem q1951 : (Jvm.Cond.privateMethod ({ cls := "VaneCourtModel", name := "wrongBy", desc := "(II)I" } : Jvm.MethodName)) ∈ lw_tbl := lw_at lw_m8 135 rfl
theorem q1952 : (Jvm.Cond.instanceMethod ({ cls := "VaneCourtModel", name := "wrongBy", desc := "(II)I" } : Jvm.MethodName)) ∈ lw_all := lw_g (lw_at lw_m8 136 rfl) rfl
theorem q1953 : (Jvm.Cond.code ({ cls := "VaneCourtModel", name := "wrongBy", desc := "(II)I" } : Jvm.MethodName) prog_20_method_122_code (7 : Nat) (Option.some Jvm.ClassFile.FieldType.int)) ∈ lw_all := lw_g (lw_at lw_m8 137 rfl) rfl
theorem q1955 : (Jvm.Cond.instanceMethod ({ cls := "VaneCourtModel", name := "fewestWrong", desc := "()I" } : Jvm.MethodName)) ∈ lw_all := lw_g (lw_at lw_m8 139 rfl) rfl
theorem q1956 : (Jvm.Cond.selects "VaneCourtModel" ({ cls := "VaneCourtModel", name := "fewestWrong", desc := "()I" } : Jvm.MethodName) ({ cls := "VaneCourtModel", name := "fewestWrong", desc := "()I" } : Jvm.MethodName)) ∈ lw_all := lw_g (lw_at lw_m8 140 rfl) rfl
theorem q1957 : (Jvm.Cond.code ({ cls := "VaneCourtModel", name := "fewestWrong", desc := "()I" } : Jvm.MethodName) prog_20_method_124_code (3 : Nat) (Option.some Jvm.ClassFile.FieldType.int)) ∈ lw_all := lw_g (lw_at lw_m8 141 rfl) rfl
theorem q1958 : (Jvm.Cond.constant "VaneCourtModel" (471 : Nat) (1000000000 : Int32)) ∈ lw_all := lw_g (lw_at lw_m8 142 rfl) rfl
theorem q1960 : (Jvm.Cond.instanceMethod ({ cls := "VaneCourtModel", name := "whose", desc := "()I" } : Jvm.MethodName)) ∈ lw_all := lw_g (lw_at lw_m8 144 rfl) rfl
theorem q1961 : (Jvm.Cond.selects "VaneCourtModel" ({ cls := "VaneCourtModel", name := "whose", desc := "()I" } : Jvm.MethodName) ({ cls := "VaneCourtModel", name := "whose", desc := "()I" } : Jvm.MethodName)) ∈ lw_all := lw_g (lw_at lw_m8 145 rfl) rfl
theorem q1962 : (Jvm.Cond.code ({ cls := "VaneCourtModel", name := "whose", desc := "()I" } : Jvm.MethodName) prog_20_method_125_code (3 : Nat) (Option.some Jvm.ClassFile.FieldType.int)) ∈ lw_all := lw_g (lw_at lw_m8 146 rfl) rfl
theorem q1964 : (Jvm.Cond.instanceMethod ({ cls := "VaneCourtModel", name := "learn", desc := "(IZ)I" } : Jvm.MethodName)) ∈ lw_all := lw_g (lw_at lw_m8 148 rfl) rfl
theorem q1965 : (Jvm.Cond.selects "VaneCourtModel" ({ cls := "VaneCourtModel", name := "learn", desc := "(IZ)I" } : Jvm.MethodName) ({ cls := "VaneCourtModel", name := "learn", desc := "(IZ)I" } : Jvm.MethodName)) ∈ lw_all := lw_g (lw_at lw_m8 149 rfl) rfl
theorem q1966 : (Jvm.Cond.code ({ cls := "VaneCourtModel", name := "learn", desc := "(IZ)I" } : Jvm.MethodName) prog_20_method_126_code (3 : Nat) (Option.some Jvm.ClassFile.FieldType.int)) ∈ lw_all := lw_g (lw_at lw_m8 150 rfl) rfl
theorem q1968 : (Jvm.Cond.instanceMethod ({ cls := "VaneCourtModel", name := "codes", desc := "(I)I" } : Jvm.MethodName)) ∈ lw_all := lw_g (lw_at lw_m8 152 rfl) rfl
theorem q1969 : (Jvm.Cond.selects "VaneCourtModel" ({ cls := "VaneCourtModel", name := "codes", desc := "(I)I" } : Jvm.MethodName) ({ cls := "VaneCourtModel", name := "codes", desc := "(I)I" } : Jvm.MethodName)) ∈ lw_all := lw_g (lw_at lw_m8 153 rfl) rfl
theorem q1970 : (Jvm.Cond.code ({ cls := "VaneCourtModel", name := "codes", desc := "(I)I" } : Jvm.MethodName) prog_20_method_130_code (4 : Nat) (Option.some Jvm.ClassFile.FieldType.int)) ∈ lw_all := lw_g (lw_at lw_m8 154 rfl) rfl
theorem q1971 : (Jvm.Cond.methodLink "VaneCourtModel" (478 : Nat) ({ cls := "VaneCourtModel", name := "codesBy", desc := "(I)I" } : Jvm.MethodName)) ∈ lw_all := lw_g (lw_at lw_m8 155 rfl) rfl
theorem q1972 : (Jvm.Cond.privateMethod ({ cls := "VaneCourtModel", name := "codesBy", desc := "(I)I" } : Jvm.MethodName)) ∈ lw_tbl := lw_at lw_m8 156 rfl
theorem q1973 : (Jvm.Cond.instanceMethod ({ cls := "VaneCourtModel", name := "codesBy", desc := "(I)I" } : Jvm.MethodName)) ∈ lw_all := lw_g (lw_at lw_m8 157 rfl) rfl
theorem q1974 : (Jvm.Cond.code ({ cls := "VaneCourtModel", name := "codesBy", desc := "(I)I" } : Jvm.MethodName) prog_20_method_129_code (4 : Nat) (Option.some Jvm.ClassFile.FieldType.int)) ∈ lw_all := lw_g (lw_at lw_m8 158 rfl) rfl
theorem q1975 : (Jvm.Cond.methodLink "VaneCourtModel" (475 : Nat) ({ cls := "VaneCourtModel", name := "isCode", desc := "(I)Z" } : Jvm.MethodName)) ∈ lw_all := lw_g (lw_at lw_m8 159 rfl) rfl
theorem q1976 : (Jvm.Cond.privateMethod ({ cls := "VaneCourtModel", name := "isCode", desc := "(I)Z" } : Jvm.MethodName)) ∈ lw_tbl := lw_at lw_m8 160 rfl
theorem q1977 : (Jvm.Cond.instanceMethod ({ cls := "VaneCourtModel", name := "isCode", desc := "(I)Z" } : Jvm.MethodName)) ∈ lw_all := lw_g (lw_at lw_m8 161 rfl) rfl
theorem q1978 : (Jvm.Cond.code ({ cls := "VaneCourtModel", name := "isCode", desc := "(I)Z" } : Jvm.MethodName) prog_20_method_128_code (3 : Nat) (Option.some Jvm.ClassFile.FieldType.boolean)) ∈ lw_all := lw_g (lw_at lw_m8 162 rfl) rfl
theorem q1979 : (Jvm.Cond.methodLink "VaneCourtModel" (472 : Nat) ({ cls := "VaneCourtModel", name := "isBy", desc := "(II)Z" } : Jvm.MethodName)) ∈ lw_all := lw_g (lw_at lw_m8 163 rfl) rfl
theorem q1980 : (Jvm.Cond.privateMethod ({ cls := "VaneCourtModel", name := "isBy", desc := "(II)Z" } : Jvm.MethodName)) ∈ lw_tbl := lw_at lw_m8 164 rfl
theorem q1981 : (Jvm.Cond.instanceMethod ({ cls := "VaneCourtModel", name := "isBy", desc := "(II)Z" } : Jvm.MethodName)) ∈ lw_all := lw_g (lw_at lw_m8 165 rfl) rfl
theorem q1982 : (Jvm.Cond.code ({ cls := "VaneCourtModel", name := "isBy", desc := "(II)Z" } : Jvm.MethodName) prog_20_method_127_code (3 : Nat) (Option.some Jvm.ClassFile.FieldType.boolean)) ∈ lw_all := lw_g (lw_at lw_m8 166 rfl) rfl
theorem q1984 : (Jvm.Cond.instanceMethod ({ cls := "VaneCourtModel", name := "sure", desc := "(I)I" } : Jvm.MethodName)) ∈ lw_all := lw_g (lw_at lw_m8 168 rfl) rfl
theorem q1985 : (Jvm.Cond.selects "VaneCourtModel" ({ cls := "VaneCourtModel", name := "sure", desc := "(I)I" } : Jvm.MethodName) ({ cls := "VaneCourtModel", name := "sure", desc := "(I)I" } : Jvm.MethodName)) ∈ lw_all := lw_g (lw_at lw_m8 169 rfl) rfl
theorem q1986 : (Jvm.Cond.code ({ cls := "VaneCourtModel", name := "sure", desc := "(I)I" } : Jvm.MethodName) prog_20_method_131_code (4 : Nat) (Option.some Jvm.ClassFile.FieldType.int)) ∈ lw_all := lw_g (lw_at lw_m8 170 rfl) rfl
theorem q1988 : (Jvm.Cond.instanceMethod ({ cls := "VaneCourtModel", name := "toBring", desc := "()I" } : Jvm.MethodName)) ∈ lw_all := lw_g (lw_at lw_m8 172 rfl) rfl
theorem q1989 : (Jvm.Cond.selects "VaneCourtModel" ({ cls := "VaneCourtModel", name := "toBring", desc := "()I" } : Jvm.MethodName) ({ cls := "VaneCourtModel", name := "toBring", desc := "()I" } : Jvm.MethodName)) ∈ lw_all := lw_g (lw_at lw_m8 173 rfl) rfl
theorem q1990 : (Jvm.Cond.code ({ cls := "VaneCourtModel", name := "toBring", desc := "()I" } : Jvm.MethodName) prog_20_method_132_code (7 : Nat) (Option.some Jvm.ClassFile.FieldType.int)) ∈ lw_all := lw_g (lw_at lw_m8 174 rfl) rfl
theorem q1992 : (Jvm.Cond.instanceMethod ({ cls := "VaneCourtModel", name := "counsel", desc := "(II)I" } : Jvm.MethodName)) ∈ lw_all := lw_g (lw_at lw_m8 176 rfl) rfl
theorem q1993 : (Jvm.Cond.selects "VaneCourtModel" ({ cls := "VaneCourtModel", name := "counsel", desc := "(II)I" } : Jvm.MethodName) ({ cls := "VaneCourtModel", name := "counsel", desc := "(II)I" } : Jvm.MethodName)) ∈ lw_all := lw_g (lw_at lw_m8 177 rfl) rfl
theorem q1994 : (Jvm.Cond.code ({ cls := "VaneCourtModel", name := "counsel", desc := "(II)I" } : Jvm.MethodName) prog_20_method_133_code (3 : Nat) (Option.some Jvm.ClassFile.FieldType.int)) ∈ lw_all := lw_g (lw_at lw_m8 178 rfl) rfl
theorem q1996 : (Jvm.Cond.instanceMethod ({ cls := "VaneCourtModel", name := "hired", desc := "(IZ)I" } : Jvm.MethodName)) ∈ lw_all := lw_g (lw_at lw_m8 180 rfl) rfl
theorem q1997 : (Jvm.Cond.selects "VaneCourtModel" ({ cls := "VaneCourtModel", name := "hired", desc := "(IZ)I" } : Jvm.MethodName) ({ cls := "VaneCourtModel", name := "hired", desc := "(IZ)I" } : Jvm.MethodName)) ∈ lw_all := lw_g (lw_at lw_m8 181 rfl) rfl
theorem q1998 : (Jvm.Cond.code ({ cls := "VaneCourtModel", name := "hired", desc := "(IZ)I" } : Jvm.MethodName) prog_20_method_135_code (6 : Nat) (Option.some Jvm.ClassFile.FieldType.int)) ∈ lw_all := lw_g (lw_at lw_m8 182 rfl) rfl
theorem q1999 : (Jvm.Cond.methodLink "VaneCourtModel" (481 : Nat) ({ cls := "VaneCourtModel", name := "together", desc := "(II)I" } : Jvm.MethodName)) ∈ lw_all := lw_g (lw_at lw_m8 183 rfl) rfl
theorem q2000 : (Jvm.Cond.privateMethod ({ cls := "VaneCourtModel", name := "together", desc := "(II)I" } : Jvm.MethodName)) ∈ lw_tbl := lw_at lw_m8 184 rfl
theorem q2001 : (Jvm.Cond.instanceMethod ({ cls := "VaneCourtModel", name := "together", desc := "(II)I" } : Jvm.MethodName)) ∈ lw_all := lw_g (lw_at lw_m8 185 rfl) rfl
theorem q2002 : (Jvm.Cond.code ({ cls := "VaneCourtModel", name := "together", desc := "(II)I" } : Jvm.MethodName) prog_20_method_134_code (5 : Nat) (Option.some Jvm.ClassFile.FieldType.int)) ∈ lw_all := lw_g (lw_at lw_m8 186 rfl) rfl
theorem q2004 : (Jvm.Cond.instanceMethod ({ cls := "VaneCourtModel", name := "calm", desc := "(I)I" } : Jvm.MethodName)) ∈ lw_all := lw_g (lw_at lw_m8 188 rfl) rfl
theorem q2005 : (Jvm.Cond.selects "VaneCourtModel" ({ cls := "VaneCourtModel", name := "calm", desc := "(I)I" } : Jvm.MethodName) ({ cls := "VaneCourtModel", name := "calm", desc := "(I)I" } : Jvm.MethodName)) ∈ lw_all := lw_g (lw_at lw_m8 189 rfl) rfl
theorem q2006 : (Jvm.Cond.code ({ cls := "VaneCourtModel", name := "calm", desc := "(I)I" } : Jvm.MethodName) prog_20_method_136_code (6 : Nat) (Option.some Jvm.ClassFile.FieldType.int)) ∈ lw_all := lw_g (lw_at lw_m8 190 rfl) rfl
theorem q2008 : (Jvm.Cond.instanceMethod ({ cls := "VaneCourtModel", name := "standing", desc := "(II)I" } : Jvm.MethodName)) ∈ lw_all := lw_g (lw_at lw_m8 192 rfl) rfl
theorem q2009 : (Jvm.Cond.selects "VaneCourtModel" ({ cls := "VaneCourtModel", name := "standing", desc := "(II)I" } : Jvm.MethodName) ({ cls := "VaneCourtModel", name := "standing", desc := "(II)I" } : Jvm.MethodName)) ∈ lw_all := lw_g (lw_at lw_m8 193 rfl) rfl
theorem q2010 : (Jvm.Cond.code ({ cls := "VaneCourtModel", name := "standing", desc := "(II)I" } : Jvm.MethodName) prog_20_method_137_code (6 : Nat) (Option.some Jvm.ClassFile.FieldType.int)) ∈ lw_all := lw_g (lw_at lw_m8 194 rfl) rfl
theorem q2012 : (Jvm.Cond.instanceMethod ({ cls := "VaneCourtModel", name := "image", desc := "()I" } : Jvm.MethodName)) ∈ lw_all := lw_g (lw_at lw_m8 196 rfl) rfl
theorem q2013 : (Jvm.Cond.selects "VaneCourtModel" ({ cls := "VaneCourtModel", name := "image", desc := "()I" } : Jvm.MethodName) ({ cls := "VaneCourtModel", name := "image", desc := "()I" } : Jvm.MethodName)) ∈ lw_all := lw_g (lw_at lw_m8 197 rfl) rfl
theorem q2014 : (Jvm.Cond.code ({ cls := "VaneCourtModel", name := "image", desc := "()I" } : Jvm.MethodName) prog_20_method_138_code (1 : Nat) (Option.some Jvm.ClassFile.FieldType.int)) ∈ lw_all := lw_g (lw_at lw_m8 198 rfl) rfl
theorem q2016 : (Jvm.Cond.instanceMethod ({ cls := "VaneCourtModel", name := "back", desc := "()I" } : Jvm.MethodName)) ∈ lw_all := lw_g (lw_at lw_m8 200 rfl) rfl
theorem q2017 : (Jvm.Cond.selects "VaneCourtModel" ({ cls := "VaneCourtModel", name := "back", desc := "()I" } : Jvm.MethodName) ({ cls := "VaneCourtModel", name := "back", desc := "()I" } : Jvm.MethodName)) ∈ lw_all := lw_g (lw_at lw_m8 201 rfl) rfl
theorem q2018 : (Jvm.Cond.code ({ cls := "VaneCourtModel", name := "back", desc := "()I" } : Jvm.MethodName) prog_20_method_139_code (1 : Nat) (Option.some Jvm.ClassFile.FieldType.int)) ∈ lw_all := lw_g (lw_at lw_m8 202 rfl) rfl
theorem q2020 : (Jvm.Cond.instanceMethod ({ cls := "VaneCourtModel", name := "about", desc := "(I)I" } : Jvm.MethodName)) ∈ lw_all := lw_g (lw_at lw_m8 204 rfl) rfl
theorem q2021 : (Jvm.Cond.selects "VaneCourtModel" ({ cls := "VaneCourtModel", name := "about", desc := "(I)I" } : Jvm.MethodName) ({ cls := "VaneCourtModel", name := "about", desc := "(I)I" } : Jvm.MethodName)) ∈ lw_all := lw_g (lw_at lw_m8 205 rfl) rfl
theorem q2022 : (Jvm.Cond.code ({ cls := "VaneCourtModel", name := "about", desc := "(I)I" } : Jvm.MethodName) prog_20_method_140_code (2 : Nat) (Option.some Jvm.ClassFile.FieldType.int)) ∈ lw_all := lw_g (lw_at lw_m8 206 rfl) rfl
theorem q2030 : (Jvm.Cond.castable "VaneCourtModel" "java/lang/Object") ∈ lw_tbl := lw_at lw_m8 214 rfl
theorem in_X2 : ∀ w ∈ wsX20, w ∈ lw_all := lw_in wsX20 [1393, 1395, 1397, 1399, 1401, 1403, 1405, 1407, 1409, 1411, 1413, 1415, 1417, 1419, 1421, 1423, 1425, 1427, 1429, 1431, 1433, 1435, 1437, 1439, 1441, 1443, 1445, 1447, 1449, 1451, 1453, 1455, 1457, 1459, 1461, 1463, 1465, 1467, 1469, 1471] (by decide +kernel) (by decide +kernel)
