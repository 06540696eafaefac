/-! VaneCourt$State -/
set_option maxRecDepth 100000
def RX1 : String := "VaneCourt$State"
def TX1 : u_T := fun k => match k with
  | 0 => ("VaneCourt$State", "n", "[I", true)
  | 1 => ("VaneCourt$State", "row", "[I", true)
  | 2 => ("VaneCourt$State", "trial", "[[I", true)
  | 3 => ("VaneCourt$State", "record", "[[I", true)
  | 4 => ("VaneCourt$State", "learned", "[[I", true)
  | 5 => ("VaneCourt$State", "counsel", "[[I", true)
  | 6 => ("VaneCourt$State", "step", "[[I", true)
  | _ => ("VaneCourt$State", "text", "[LVaneCourt$Text;", true)
def tyX1 : Nat → FieldType := fun k => match k with
  | 0 => .array .int
  | 1 => .array .int
  | 2 => .array (.array .int)
  | 3 => .array (.array .int)
  | 4 => .array (.array .int)
  | 5 => .array (.array .int)
  | 6 => .array (.array .int)
  | _ => .array (.object "VaneCourt$Text")
abbrev wsX10 : List Cond := u_ws RX1 TX1 8
theorem nmX1 : ∀ a, a < 8 → ∀ b, b < 8 → a ≠ b → (TX1 a).2.1 ≠ (TX1 b).2.1 := by decide +kernel
theorem tyX1_ok : ∀ k, k < 8 → parseFieldDescriptor (TX1 k).2.2.1 = some (tyX1 k) := by decide +kernel
abbrev cX1_init : ByteArray := prog_13_method_1_code
def yX1_init : MethodName := ⟨RX1, "<init>", "()V"⟩
def dkwX1_init_4 : List UInt8 := [180, 0, 15, 4, 6, 79, 42, 180, 0, 15, 7, 16, 107, 79, 42, 180, 0, 15, 8, 2, 79, 177]
abbrev dktX1_init_4 : List UInt8 := dkwX1_init_4 ++ []
def dkwX1_init_3 : List UInt8 := [197, 0, 18, 2, 181, 0, 32, 42, 7, 189, 0, 35, 181, 0, 37, 42, 180, 0, 9, 5, 2, 79, 42]
abbrev dktX1_init_3 : List UInt8 := dkwX1_init_3 ++ dktX1_init_4
def dkwX1_init_2 : List UInt8 := [197, 0, 18, 2, 181, 0, 26, 42, 16, 8, 5, 197, 0, 18, 2, 181, 0, 29, 42, 16, 30, 17, 0, 154]
abbrev dktX1_init_2 : List UInt8 := dkwX1_init_2 ++ dktX1_init_3
def dkwX1_init_1 : List UInt8 := [7, 197, 0, 18, 2, 181, 0, 20, 42, 16, 8, 6, 197, 0, 18, 2, 181, 0, 23, 42, 16, 8, 5]
abbrev dktX1_init_1 : List UInt8 := dkwX1_init_1 ++ dktX1_init_2
def dkwX1_init_0 : List UInt8 := [42, 183, 0, 3, 42, 16, 7, 188, 10, 181, 0, 9, 42, 17, 0, 154, 188, 10, 181, 0, 15, 42, 16, 8]
abbrev dktX1_init_0 : List UInt8 := dkwX1_init_0 ++ dktX1_init_1
theorem dksX1_init_0 : cX1_init.data.toList.drop 0 = dktX1_init_0 := by decide +kernel
theorem dksX1_init_1 : cX1_init.data.toList.drop 24 = dktX1_init_1 := dk_seg dksX1_init_0 24 rfl rfl
theorem dksX1_init_2 : cX1_init.data.toList.drop 47 = dktX1_init_2 := dk_seg dksX1_init_1 23 rfl rfl
theorem dksX1_init_3 : cX1_init.data.toList.drop 71 = dktX1_init_3 := dk_seg dksX1_init_2 24 rfl rfl
theorem dksX1_init_4 : cX1_init.data.toList.drop 94 = dktX1_init_4 := dk_seg dksX1_init_3 23 rfl rfl
theorem dX1_init_0 : decode cX1_init 0 = .ok (.aload_n 0, 1) := dk_42 (dk_at dksX1_init_0 0 rfl rfl)
theorem dX1_init_1 : decode cX1_init 1 = .ok (.invokespecial 3, 3) := dk_183 0 3 (dk_at dksX1_init_0 1 rfl rfl)
theorem dX1_init_4 : decode cX1_init 4 = .ok (.aload_n 0, 1) := dk_42 (dk_at dksX1_init_0 4 rfl rfl)
theorem dX1_init_5 : decode cX1_init 5 = .ok (.bipush 7, 2) := dk_16 7 (dk_at dksX1_init_0 5 rfl rfl)
theorem dX1_init_7 : decode cX1_init 7 = .ok (.newarray .int, 2) := dk_188_10 (dk_at dksX1_init_0 7 rfl rfl)
theorem dX1_init_9 : decode cX1_init 9 = .ok (.putfield 9, 3) := dk_181 0 9 (dk_at dksX1_init_0 9 rfl rfl)
theorem dX1_init_12 : decode cX1_init 12 = .ok (.aload_n 0, 1) := dk_42 (dk_at dksX1_init_0 12 rfl rfl)
theorem dX1_init_13 : decode cX1_init 13 = .ok (.sipush 154, 3) := dk_17 0 154 (dk_at dksX1_init_0 13 rfl rfl)
theorem dX1_init_16 : decode cX1_init 16 = .ok (.newarray .int, 2) := dk_188_10 (dk_at dksX1_init_0 16 rfl rfl)
theorem dX1_init_18 : decode cX1_init 18 = .ok (.putfield 15, 3) := dk_181 0 15 (dk_at dksX1_init_0 18 rfl rfl)
theorem dX1_init_21 : decode cX1_init 21 = .ok (.aload_n 0, 1) := dk_42 (dk_at dksX1_init_0 21 rfl rfl)
theorem dX1_init_22 : decode cX1_init 22 = .ok (.bipush 8, 2) := dk_16 8 (dk_at dksX1_init_0 22 rfl rfl)
theorem dX1_init_24 : decode cX1_init 24 = .ok (.iconst 4, 1) := dk_7 (dk_at dksX1_init_1 0 rfl rfl)
theorem dX1_init_25 : decode cX1_init 25 = .ok (.multianewarray 18 2, 4) := by decide +kernel
theorem dX1_init_29 : decode cX1_init 29 = .ok (.putfield 20, 3) := dk_181 0 20 (dk_at dksX1_init_1 5 rfl rfl)
theorem dX1_init_32 : decode cX1_init 32 = .ok (.aload_n 0, 1) := dk_42 (dk_at dksX1_init_1 8 rfl rfl)
theorem dX1_init_33 : decode cX1_init 33 = .ok (.bipush 8, 2) := dk_16 8 (dk_at dksX1_init_1 9 rfl rfl)
theorem dX1_init_35 : decode cX1_init 35 = .ok (.iconst 3, 1) := dk_6 (dk_at dksX1_init_1 11 rfl rfl)
theorem dX1_init_36 : decode cX1_init 36 = .ok (.multianewarray 18 2, 4) := by decide +kernel
theorem dX1_init_40 : decode cX1_init 40 = .ok (.putfield 23, 3) := dk_181 0 23 (dk_at dksX1_init_1 16 rfl rfl)
theorem dX1_init_43 : decode cX1_init 43 = .ok (.aload_n 0, 1) := dk_42 (dk_at dksX1_init_1 19 rfl rfl)
theorem dX1_init_44 : decode cX1_init 44 = .ok (.bipush 8, 2) := dk_16 8 (dk_at dksX1_init_1 20 rfl rfl)
theorem dX1_init_46 : decode cX1_init 46 = .ok (.iconst 2, 1) := dk_5 (dk_at dksX1_init_1 22 rfl rfl)
theorem dX1_init_47 : decode cX1_init 47 = .ok (.multianewarray 18 2, 4) := by decide +kernel
theorem dX1_init_51 : decode cX1_init 51 = .ok (.putfield 26, 3) := dk_181 0 26 (dk_at dksX1_init_2 4 rfl rfl)
theorem dX1_init_54 : decode cX1_init 54 = .ok (.aload_n 0, 1) := dk_42 (dk_at dksX1_init_2 7 rfl rfl)
theorem dX1_init_55 : decode cX1_init 55 = .ok (.bipush 8, 2) := dk_16 8 (dk_at dksX1_init_2 8 rfl rfl)
theorem dX1_init_57 : decode cX1_init 57 = .ok (.iconst 2, 1) := dk_5 (dk_at dksX1_init_2 10 rfl rfl)
theorem dX1_init_58 : decode cX1_init 58 = .ok (.multianewarray 18 2, 4) := by decide +kernel
theorem dX1_init_62 : decode cX1_init 62 = .ok (.putfield 29, 3) := dk_181 0 29 (dk_at dksX1_init_2 15 rfl rfl)
theorem dX1_init_65 : decode cX1_init 65 = .ok (.aload_n 0, 1) := dk_42 (dk_at dksX1_init_2 18 rfl rfl)
theorem dX1_init_66 : decode cX1_init 66 = .ok (.bipush 30, 2) := dk_16 30 (dk_at dksX1_init_2 19 rfl rfl)
theorem dX1_init_68 : decode cX1_init 68 = .ok (.sipush 154, 3) := dk_17 0 154 (dk_at dksX1_init_2 21 rfl rfl)
theorem dX1_init_71 : decode cX1_init 71 = .ok (.multianewarray 18 2, 4) := by decide +kernel
theorem dX1_init_75 : decode cX1_init 75 = .ok (.putfield 32, 3) := dk_181 0 32 (dk_at dksX1_init_3 4 rfl rfl)
theorem dX1_init_78 : decode cX1_init 78 = .ok (.aload_n 0, 1) := dk_42 (dk_at dksX1_init_3 7 rfl rfl)
theorem dX1_init_79 : decode cX1_init 79 = .ok (.iconst 4, 1) := dk_7 (dk_at dksX1_init_3 8 rfl rfl)
theorem dX1_init_80 : decode cX1_init 80 = .ok (.anewarray 35, 3) := dk_189 0 35 (dk_at dksX1_init_3 9 rfl rfl)
theorem dX1_init_83 : decode cX1_init 83 = .ok (.putfield 37, 3) := dk_181 0 37 (dk_at dksX1_init_3 12 rfl rfl)
theorem dX1_init_86 : decode cX1_init 86 = .ok (.aload_n 0, 1) := dk_42 (dk_at dksX1_init_3 15 rfl rfl)
theorem dX1_init_87 : decode cX1_init 87 = .ok (.getfield 9, 3) := dk_180 0 9 (dk_at dksX1_init_3 16 rfl rfl)
theorem dX1_init_90 : decode cX1_init 90 = .ok (.iconst 2, 1) := dk_5 (dk_at dksX1_init_3 19 rfl rfl)
theorem dX1_init_91 : decode cX1_init 91 = .ok (.iconst (-1), 1) := dk_2 (dk_at dksX1_init_3 20 rfl rfl)
theorem dX1_init_92 : decode cX1_init 92 = .ok (.iastore, 1) := dk_79 (dk_at dksX1_init_3 21 rfl rfl)
theorem dX1_init_93 : decode cX1_init 93 = .ok (.aload_n 0, 1) := dk_42 (dk_at dksX1_init_3 22 rfl rfl)
theorem dX1_init_94 : decode cX1_init 94 = .ok (.getfield 15, 3) := dk_180 0 15 (dk_at dksX1_init_4 0 rfl rfl)
theorem dX1_init_97 : decode cX1_init 97 = .ok (.iconst 1, 1) := dk_4 (dk_at dksX1_init_4 3 rfl rfl)
theorem dX1_init_98 : decode cX1_init 98 = .ok (.iconst 3, 1) := dk_6 (dk_at dksX1_init_4 4 rfl rfl)
theorem dX1_init_99 : decode cX1_init 99 = .ok (.iastore, 1) := dk_79 (dk_at dksX1_init_4 5 rfl rfl)
theorem dX1_init_100 : decode cX1_init 100 = .ok (.aload_n 0, 1) := dk_42 (dk_at dksX1_init_4 6 rfl rfl)
theorem dX1_init_101 : decode cX1_init 101 = .ok (.getfield 15, 3) := dk_180 0 15 (dk_at dksX1_init_4 7 rfl rfl)
theorem dX1_init_104 : decode cX1_init 104 = .ok (.iconst 4, 1) := dk_7 (dk_at dksX1_init_4 10 rfl rfl)
theorem dX1_init_105 : decode cX1_init 105 = .ok (.bipush 107, 2) := dk_16 107 (dk_at dksX1_init_4 11 rfl rfl)
theorem dX1_init_107 : decode cX1_init 107 = .ok (.iastore, 1) := dk_79 (dk_at dksX1_init_4 13 rfl rfl)
theorem dX1_init_108 : decode cX1_init 108 = .ok (.aload_n 0, 1) := dk_42 (dk_at dksX1_init_4 14 rfl rfl)
theorem dX1_init_109 : decode cX1_init 109 = .ok (.getfield 15, 3) := dk_180 0 15 (dk_at dksX1_init_4 15 rfl rfl)
theorem dX1_init_112 : decode cX1_init 112 = .ok (.iconst 5, 1) := dk_8 (dk_at dksX1_init_4 18 rfl rfl)
theorem dX1_init_113 : decode cX1_init 113 = .ok (.iconst (-1), 1) := dk_2 (dk_at dksX1_init_4 19 rfl rfl)
theorem dX1_init_114 : decode cX1_init 114 = .ok (.iastore, 1) := dk_79 (dk_at dksX1_init_4 20 rfl rfl)
theorem dX1_init_115 : decode cX1_init 115 = .ok (.return_, 1) := dk_177 (dk_at dksX1_init_4 21 rfl rfl)
abbrev cX1_be : ByteArray := prog_13_method_4_code
def yX1_be : MethodName := ⟨RX1, "be", "(LVaneCourt$State;)V"⟩
def dkwX1_be_4 : List UInt8 := [177]
abbrev dktX1_be_4 : List UInt8 := dkwX1_be_4 ++ []
def dkwX1_be_3 : List UInt8 := [180, 0, 32, 42, 180, 0, 32, 184, 0, 51, 43, 180, 0, 37, 3, 42, 180, 0, 37, 3, 7, 184, 0, 41]
abbrev dktX1_be_3 : List UInt8 := dkwX1_be_3 ++ dktX1_be_4
def dkwX1_be_2 : List UInt8 := [180, 0, 26, 42, 180, 0, 26, 184, 0, 51, 43, 180, 0, 29, 42, 180, 0, 29, 184, 0, 51, 43]
abbrev dktX1_be_2 : List UInt8 := dkwX1_be_2 ++ dktX1_be_3
def dkwX1_be_1 : List UInt8 := [180, 0, 20, 42, 180, 0, 20, 184, 0, 51, 43, 180, 0, 23, 42, 180, 0, 23, 184, 0, 51, 43]
abbrev dktX1_be_1 : List UInt8 := dkwX1_be_1 ++ dktX1_be_2
def dkwX1_be_0 : List UInt8 := [43, 180, 0, 9, 42, 180, 0, 9, 184, 0, 47, 43, 180, 0, 15, 42, 180, 0, 15, 184, 0, 47, 43]
abbrev dktX1_be_0 : List UInt8 := dkwX1_be_0 ++ dktX1_be_1
theorem dksX1_be_0 : cX1_be.data.toList.drop 0 = dktX1_be_0 := by decide +kernel
theorem dksX1_be_1 : cX1_be.data.toList.drop 23 = dktX1_be_1 := dk_seg dksX1_be_0 23 rfl rfl
theorem dksX1_be_2 : cX1_be.data.toList.drop 45 = dktX1_be_2 := dk_seg dksX1_be_1 22 rfl rfl
theorem dksX1_be_3 : cX1_be.data.toList.drop 67 = dktX1_be_3 := dk_seg dksX1_be_2 22 rfl rfl
theorem dksX1_be_4 : cX1_be.data.toList.drop 91 = dktX1_be_4 := dk_seg dksX1_be_3 24 rfl rfl
theorem dX1_be_0 : decode cX1_be 0 = .ok (.aload_n 1, 1) := dk_43 (dk_at dksX1_be_0 0 rfl rfl)
theorem dX1_be_1 : decode cX1_be 1 = .ok (.getfield 9, 3) := dk_180 0 9 (dk_at dksX1_be_0 1 rfl rfl)
theorem dX1_be_4 : decode cX1_be 4 = .ok (.aload_n 0, 1) := dk_42 (dk_at dksX1_be_0 4 rfl rfl)
theorem dX1_be_5 : decode cX1_be 5 = .ok (.getfield 9, 3) := dk_180 0 9 (dk_at dksX1_be_0 5 rfl rfl)
theorem dX1_be_8 : decode cX1_be 8 = .ok (.invokestatic 47, 3) := dk_184 0 47 (dk_at dksX1_be_0 8 rfl rfl)
theorem dX1_be_11 : decode cX1_be 11 = .ok (.aload_n 1, 1) := dk_43 (dk_at dksX1_be_0 11 rfl rfl)
theorem dX1_be_12 : decode cX1_be 12 = .ok (.getfield 15, 3) := dk_180 0 15 (dk_at dksX1_be_0 12 rfl rfl)
theorem dX1_be_15 : decode cX1_be 15 = .ok (.aload_n 0, 1) := dk_42 (dk_at dksX1_be_0 15 rfl rfl)
theorem dX1_be_16 : decode cX1_be 16 = .ok (.getfield 15, 3) := dk_180 0 15 (dk_at dksX1_be_0 16 rfl rfl)
theorem dX1_be_19 : decode cX1_be 19 = .ok (.invokestatic 47, 3) := dk_184 0 47 (dk_at dksX1_be_0 19 rfl rfl)
theorem dX1_be_22 : decode cX1_be 22 = .ok (.aload_n 1, 1) := dk_43 (dk_at dksX1_be_0 22 rfl rfl)
theorem dX1_be_23 : decode cX1_be 23 = .ok (.getfield 20, 3) := dk_180 0 20 (dk_at dksX1_be_1 0 rfl rfl)
theorem dX1_be_26 : decode cX1_be 26 = .ok (.aload_n 0, 1) := dk_42 (dk_at dksX1_be_1 3 rfl rfl)
theorem dX1_be_27 : decode cX1_be 27 = .ok (.getfield 20, 3) := dk_180 0 20 (dk_at dksX1_be_1 4 rfl rfl)
theorem dX1_be_30 : decode cX1_be 30 = .ok (.invokestatic 51, 3) := dk_184 0 51 (dk_at dksX1_be_1 7 rfl rfl)
theorem dX1_be_33 : decode cX1_be 33 = .ok (.aload_n 1, 1) := dk_43 (dk_at dksX1_be_1 10 rfl rfl)
theorem dX1_be_34 : decode cX1_be 34 = .ok (.getfield 23, 3) := dk_180 0 23 (dk_at dksX1_be_1 11 rfl rfl)
theorem dX1_be_37 : decode cX1_be 37 = .ok (.aload_n 0, 1) := dk_42 (dk_at dksX1_be_1 14 rfl rfl)
theorem dX1_be_38 : decode cX1_be 38 = .ok (.getfield 23, 3) := dk_180 0 23 (dk_at dksX1_be_1 15 rfl rfl)
theorem dX1_be_41 : decode cX1_be 41 = .ok (.invokestatic 51, 3) := dk_184 0 51 (dk_at dksX1_be_1 18 rfl rfl)
theorem dX1_be_44 : decode cX1_be 44 = .ok (.aload_n 1, 1) := dk_43 (dk_at dksX1_be_1 21 rfl rfl)
theorem dX1_be_45 : decode cX1_be 45 = .ok (.getfield 26, 3) := dk_180 0 26 (dk_at dksX1_be_2 0 rfl rfl)
theorem dX1_be_48 : decode cX1_be 48 = .ok (.aload_n 0, 1) := dk_42 (dk_at dksX1_be_2 3 rfl rfl)
theorem dX1_be_49 : decode cX1_be 49 = .ok (.getfield 26, 3) := dk_180 0 26 (dk_at dksX1_be_2 4 rfl rfl)
theorem dX1_be_52 : decode cX1_be 52 = .ok (.invokestatic 51, 3) := dk_184 0 51 (dk_at dksX1_be_2 7 rfl rfl)
theorem dX1_be_55 : decode cX1_be 55 = .ok (.aload_n 1, 1) := dk_43 (dk_at dksX1_be_2 10 rfl rfl)
theorem dX1_be_56 : decode cX1_be 56 = .ok (.getfield 29, 3) := dk_180 0 29 (dk_at dksX1_be_2 11 rfl rfl)
theorem dX1_be_59 : decode cX1_be 59 = .ok (.aload_n 0, 1) := dk_42 (dk_at dksX1_be_2 14 rfl rfl)
theorem dX1_be_60 : decode cX1_be 60 = .ok (.getfield 29, 3) := dk_180 0 29 (dk_at dksX1_be_2 15 rfl rfl)
theorem dX1_be_63 : decode cX1_be 63 = .ok (.invokestatic 51, 3) := dk_184 0 51 (dk_at dksX1_be_2 18 rfl rfl)
theorem dX1_be_66 : decode cX1_be 66 = .ok (.aload_n 1, 1) := dk_43 (dk_at dksX1_be_2 21 rfl rfl)
theorem dX1_be_67 : decode cX1_be 67 = .ok (.getfield 32, 3) := dk_180 0 32 (dk_at dksX1_be_3 0 rfl rfl)
theorem dX1_be_70 : decode cX1_be 70 = .ok (.aload_n 0, 1) := dk_42 (dk_at dksX1_be_3 3 rfl rfl)
theorem dX1_be_71 : decode cX1_be 71 = .ok (.getfield 32, 3) := dk_180 0 32 (dk_at dksX1_be_3 4 rfl rfl)
theorem dX1_be_74 : decode cX1_be 74 = .ok (.invokestatic 51, 3) := dk_184 0 51 (dk_at dksX1_be_3 7 rfl rfl)
theorem dX1_be_77 : decode cX1_be 77 = .ok (.aload_n 1, 1) := dk_43 (dk_at dksX1_be_3 10 rfl rfl)
theorem dX1_be_78 : decode cX1_be 78 = .ok (.getfield 37, 3) := dk_180 0 37 (dk_at dksX1_be_3 11 rfl rfl)
theorem dX1_be_81 : decode cX1_be 81 = .ok (.iconst 0, 1) := dk_3 (dk_at dksX1_be_3 14 rfl rfl)
theorem dX1_be_82 : decode cX1_be 82 = .ok (.aload_n 0, 1) := dk_42 (dk_at dksX1_be_3 15 rfl rfl)
theorem dX1_be_83 : decode cX1_be 83 = .ok (.getfield 37, 3) := dk_180 0 37 (dk_at dksX1_be_3 16 rfl rfl)
theorem dX1_be_86 : decode cX1_be 86 = .ok (.iconst 0, 1) := dk_3 (dk_at dksX1_be_3 19 rfl rfl)
theorem dX1_be_87 : decode cX1_be 87 = .ok (.iconst 4, 1) := dk_7 (dk_at dksX1_be_3 20 rfl rfl)
theorem dX1_be_88 : decode cX1_be 88 = .ok (.invokestatic 41, 3) := dk_184 0 41 (dk_at dksX1_be_3 21 rfl rfl)
theorem dX1_be_91 : decode cX1_be 91 = .ok (.return_, 1) := dk_177 (dk_at dksX1_be_4 0 rfl rfl)
abbrev cX1_copy : ByteArray := prog_13_method_2_code
def yX1_copy : MethodName := ⟨RX1, "copy", "([I[I)V"⟩
def dkwX1_copy_0 : List UInt8 := [42, 3, 43, 3, 42, 190, 184, 0, 41, 177]
abbrev dktX1_copy_0 : List UInt8 := dkwX1_copy_0 ++ []
theorem dksX1_copy_0 : cX1_copy.data.toList.drop 0 = dktX1_copy_0 := by decide +kernel
theorem dX1_copy_0 : decode cX1_copy 0 = .ok (.aload_n 0, 1) := dk_42 (dk_at dksX1_copy_0 0 rfl rfl)
theorem dX1_copy_1 : decode cX1_copy 1 = .ok (.iconst 0, 1) := dk_3 (dk_at dksX1_copy_0 1 rfl rfl)
theorem dX1_copy_2 : decode cX1_copy 2 = .ok (.aload_n 1, 1) := dk_43 (dk_at dksX1_copy_0 2 rfl rfl)
theorem dX1_copy_3 : decode cX1_copy 3 = .ok (.iconst 0, 1) := dk_3 (dk_at dksX1_copy_0 3 rfl rfl)
theorem dX1_copy_4 : decode cX1_copy 4 = .ok (.aload_n 0, 1) := dk_42 (dk_at dksX1_copy_0 4 rfl rfl)
theorem dX1_copy_5 : decode cX1_copy 5 = .ok (.arraylength, 1) := dk_190 (dk_at dksX1_copy_0 5 rfl rfl)
theorem dX1_copy_6 : decode cX1_copy 6 = .ok (.invokestatic 41, 3) := dk_184 0 41 (dk_at dksX1_copy_0 6 rfl rfl)
theorem dX1_copy_9 : decode cX1_copy 9 = .ok (.return_, 1) := dk_177 (dk_at dksX1_copy_0 9 rfl rfl)
abbrev cX1_copy_2 : ByteArray := prog_13_method_3_code
def yX1_copy_2 : MethodName := ⟨RX1, "copy", "([[I[[I)V"⟩
def dkwX1_copy_2_0 : List UInt8 := [3, 61, 28, 42, 190, 162, 0, 18, 42, 28, 50, 43, 28, 50, 184, 0, 47, 132, 2, 1, 167, 255, 238, 177]
abbrev dktX1_copy_2_0 : List UInt8 := dkwX1_copy_2_0 ++ []
theorem dksX1_copy_2_0 : cX1_copy_2.data.toList.drop 0 = dktX1_copy_2_0 := by decide +kernel
theorem dX1_copy_2_0 : decode cX1_copy_2 0 = .ok (.iconst 0, 1) := dk_3 (dk_at dksX1_copy_2_0 0 rfl rfl)
theorem dX1_copy_2_1 : decode cX1_copy_2 1 = .ok (.istore_n 2, 1) := dk_61 (dk_at dksX1_copy_2_0 1 rfl rfl)
theorem dX1_copy_2_2 : decode cX1_copy_2 2 = .ok (.iload_n 2, 1) := dk_28 (dk_at dksX1_copy_2_0 2 rfl rfl)
theorem dX1_copy_2_3 : decode cX1_copy_2 3 = .ok (.aload_n 0, 1) := dk_42 (dk_at dksX1_copy_2_0 3 rfl rfl)
theorem dX1_copy_2_4 : decode cX1_copy_2 4 = .ok (.arraylength, 1) := dk_190 (dk_at dksX1_copy_2_0 4 rfl rfl)
theorem dX1_copy_2_5 : decode cX1_copy_2 5 = .ok (.if_icmp .ge 18, 3) := dk_162 0 18 (dk_at dksX1_copy_2_0 5 rfl rfl)
theorem dX1_copy_2_8 : decode cX1_copy_2 8 = .ok (.aload_n 0, 1) := dk_42 (dk_at dksX1_copy_2_0 8 rfl rfl)
theorem dX1_copy_2_9 : decode cX1_copy_2 9 = .ok (.iload_n 2, 1) := dk_28 (dk_at dksX1_copy_2_0 9 rfl rfl)
theorem dX1_copy_2_10 : decode cX1_copy_2 10 = .ok (.aaload, 1) := dk_50 (dk_at dksX1_copy_2_0 10 rfl rfl)
theorem dX1_copy_2_11 : decode cX1_copy_2 11 = .ok (.aload_n 1, 1) := dk_43 (dk_at dksX1_copy_2_0 11 rfl rfl)
theorem dX1_copy_2_12 : decode cX1_copy_2 12 = .ok (.iload_n 2, 1) := dk_28 (dk_at dksX1_copy_2_0 12 rfl rfl)
theorem dX1_copy_2_13 : decode cX1_copy_2 13 = .ok (.aaload, 1) := dk_50 (dk_at dksX1_copy_2_0 13 rfl rfl)
theorem dX1_copy_2_14 : decode cX1_copy_2 14 = .ok (.invokestatic 47, 3) := dk_184 0 47 (dk_at dksX1_copy_2_0 14 rfl rfl)
theorem dX1_copy_2_17 : decode cX1_copy_2 17 = .ok (.iinc 2 1, 3) := dk_132 2 1 (dk_at dksX1_copy_2_0 17 rfl rfl)
theorem dX1_copy_2_20 : decode cX1_copy_2 20 = .ok (.goto (-18), 3) := dk_167 255 238 (dk_at dksX1_copy_2_0 20 rfl rfl)
theorem dX1_copy_2_23 : decode cX1_copy_2 23 = .ok (.return_, 1) := dk_177 (dk_at dksX1_copy_2_0 23 rfl rfl)
abbrev cX1_tells : ByteArray := prog_13_method_6_code
def yX1_tells : MethodName := ⟨RX1, "tells", "([[II[I)I"⟩
def dkwX1_tells_1 : List UInt8 := [180, 0, 9, 28, 46, 172]
abbrev dktX1_tells_1 : List UInt8 := dkwX1_tells_1 ++ []
def dkwX1_tells_0 : List UInt8 := [45, 43, 42, 180, 0, 9, 28, 46, 50, 184, 0, 47, 42, 180, 0, 9, 28, 92, 46, 4, 96, 79, 42]
abbrev dktX1_tells_0 : List UInt8 := dkwX1_tells_0 ++ dktX1_tells_1
theorem dksX1_tells_0 : cX1_tells.data.toList.drop 0 = dktX1_tells_0 := by decide +kernel
theorem dksX1_tells_1 : cX1_tells.data.toList.drop 23 = dktX1_tells_1 := dk_seg dksX1_tells_0 23 rfl rfl
theorem dX1_tells_0 : decode cX1_tells 0 = .ok (.aload_n 3, 1) := dk_45 (dk_at dksX1_tells_0 0 rfl rfl)
theorem dX1_tells_1 : decode cX1_tells 1 = .ok (.aload_n 1, 1) := dk_43 (dk_at dksX1_tells_0 1 rfl rfl)
theorem dX1_tells_2 : decode cX1_tells 2 = .ok (.aload_n 0, 1) := dk_42 (dk_at dksX1_tells_0 2 rfl rfl)
theorem dX1_tells_3 : decode cX1_tells 3 = .ok (.getfield 9, 3) := dk_180 0 9 (dk_at dksX1_tells_0 3 rfl rfl)
theorem dX1_tells_6 : decode cX1_tells 6 = .ok (.iload_n 2, 1) := dk_28 (dk_at dksX1_tells_0 6 rfl rfl)
theorem dX1_tells_7 : decode cX1_tells 7 = .ok (.iaload, 1) := dk_46 (dk_at dksX1_tells_0 7 rfl rfl)
theorem dX1_tells_8 : decode cX1_tells 8 = .ok (.aaload, 1) := dk_50 (dk_at dksX1_tells_0 8 rfl rfl)
theorem dX1_tells_9 : decode cX1_tells 9 = .ok (.invokestatic 47, 3) := dk_184 0 47 (dk_at dksX1_tells_0 9 rfl rfl)
theorem dX1_tells_12 : decode cX1_tells 12 = .ok (.aload_n 0, 1) := dk_42 (dk_at dksX1_tells_0 12 rfl rfl)
theorem dX1_tells_13 : decode cX1_tells 13 = .ok (.getfield 9, 3) := dk_180 0 9 (dk_at dksX1_tells_0 13 rfl rfl)
theorem dX1_tells_16 : decode cX1_tells 16 = .ok (.iload_n 2, 1) := dk_28 (dk_at dksX1_tells_0 16 rfl rfl)
theorem dX1_tells_17 : decode cX1_tells 17 = .ok (.dup2, 1) := dk_92 (dk_at dksX1_tells_0 17 rfl rfl)
theorem dX1_tells_18 : decode cX1_tells 18 = .ok (.iaload, 1) := dk_46 (dk_at dksX1_tells_0 18 rfl rfl)
theorem dX1_tells_19 : decode cX1_tells 19 = .ok (.iconst 1, 1) := dk_4 (dk_at dksX1_tells_0 19 rfl rfl)
theorem dX1_tells_20 : decode cX1_tells 20 = .ok (.iadd, 1) := dk_96 (dk_at dksX1_tells_0 20 rfl rfl)
theorem dX1_tells_21 : decode cX1_tells 21 = .ok (.iastore, 1) := dk_79 (dk_at dksX1_tells_0 21 rfl rfl)
theorem dX1_tells_22 : decode cX1_tells 22 = .ok (.aload_n 0, 1) := dk_42 (dk_at dksX1_tells_0 22 rfl rfl)
theorem dX1_tells_23 : decode cX1_tells 23 = .ok (.getfield 9, 3) := dk_180 0 9 (dk_at dksX1_tells_1 0 rfl rfl)
theorem dX1_tells_26 : decode cX1_tells 26 = .ok (.iload_n 2, 1) := dk_28 (dk_at dksX1_tells_1 3 rfl rfl)
theorem dX1_tells_27 : decode cX1_tells 27 = .ok (.iaload, 1) := dk_46 (dk_at dksX1_tells_1 4 rfl rfl)
theorem dX1_tells_28 : decode cX1_tells 28 = .ok (.ireturn, 1) := dk_172 (dk_at dksX1_tells_1 5 rfl rfl)
abbrev cX1_keeps : ByteArray := prog_13_method_5_code
def yX1_keeps : MethodName := ⟨RX1, "keeps", "()V"⟩
def dkwX1_keeps_3 : List UInt8 := [180, 0, 9, 6, 92, 46, 4, 96, 79, 177]
abbrev dktX1_keeps_3 : List UInt8 := dkwX1_keeps_3 ++ []
def dkwX1_keeps_2 : List UInt8 := [46, 4, 100, 79, 42, 180, 0, 15, 42, 180, 0, 32, 42, 180, 0, 9, 6, 46, 50, 184, 0, 47, 42]
abbrev dktX1_keeps_2 : List UInt8 := dkwX1_keeps_2 ++ dktX1_keeps_3
def dkwX1_keeps_1 : List UInt8 := [50, 42, 180, 0, 32, 27, 4, 100, 50, 184, 0, 47, 132, 1, 1, 167, 255, 230, 42, 180, 0, 9, 6, 92]
abbrev dktX1_keeps_1 : List UInt8 := dkwX1_keeps_1 ++ dktX1_keeps_2
def dkwX1_keeps_0 : List UInt8 := [42, 180, 0, 9, 6, 46, 16, 30, 160, 0, 44, 4, 60, 27, 16, 30, 162, 0, 26, 42, 180, 0, 32, 27]
abbrev dktX1_keeps_0 : List UInt8 := dkwX1_keeps_0 ++ dktX1_keeps_1
theorem dksX1_keeps_0 : cX1_keeps.data.toList.drop 0 = dktX1_keeps_0 := by decide +kernel
theorem dksX1_keeps_1 : cX1_keeps.data.toList.drop 24 = dktX1_keeps_1 := dk_seg dksX1_keeps_0 24 rfl rfl
theorem dksX1_keeps_2 : cX1_keeps.data.toList.drop 48 = dktX1_keeps_2 := dk_seg dksX1_keeps_1 24 rfl rfl
theorem dksX1_keeps_3 : cX1_keeps.data.toList.drop 71 = dktX1_keeps_3 := dk_seg dksX1_keeps_2 23 rfl rfl
theorem dX1_keeps_0 : decode cX1_keeps 0 = .ok (.aload_n 0, 1) := dk_42 (dk_at dksX1_keeps_0 0 rfl rfl)
theorem dX1_keeps_1 : decode cX1_keeps 1 = .ok (.getfield 9, 3) := dk_180 0 9 (dk_at dksX1_keeps_0 1 rfl rfl)
theorem dX1_keeps_4 : decode cX1_keeps 4 = .ok (.iconst 3, 1) := dk_6 (dk_at dksX1_keeps_0 4 rfl rfl)
theorem dX1_keeps_5 : decode cX1_keeps 5 = .ok (.iaload, 1) := dk_46 (dk_at dksX1_keeps_0 5 rfl rfl)
theorem dX1_keeps_6 : decode cX1_keeps 6 = .ok (.bipush 30, 2) := dk_16 30 (dk_at dksX1_keeps_0 6 rfl rfl)
theorem dX1_keeps_8 : decode cX1_keeps 8 = .ok (.if_icmp .ne 44, 3) := dk_160 0 44 (dk_at dksX1_keeps_0 8 rfl rfl)
theorem dX1_keeps_11 : decode cX1_keeps 11 = .ok (.iconst 1, 1) := dk_4 (dk_at dksX1_keeps_0 11 rfl rfl)
theorem dX1_keeps_12 : decode cX1_keeps 12 = .ok (.istore_n 1, 1) := dk_60 (dk_at dksX1_keeps_0 12 rfl rfl)
theorem dX1_keeps_13 : decode cX1_keeps 13 = .ok (.iload_n 1, 1) := dk_27 (dk_at dksX1_keeps_0 13 rfl rfl)
theorem dX1_keeps_14 : decode cX1_keeps 14 = .ok (.bipush 30, 2) := dk_16 30 (dk_at dksX1_keeps_0 14 rfl rfl)
theorem dX1_keeps_16 : decode cX1_keeps 16 = .ok (.if_icmp .ge 26, 3) := dk_162 0 26 (dk_at dksX1_keeps_0 16 rfl rfl)
theorem dX1_keeps_19 : decode cX1_keeps 19 = .ok (.aload_n 0, 1) := dk_42 (dk_at dksX1_keeps_0 19 rfl rfl)
theorem dX1_keeps_20 : decode cX1_keeps 20 = .ok (.getfield 32, 3) := dk_180 0 32 (dk_at dksX1_keeps_0 20 rfl rfl)
theorem dX1_keeps_23 : decode cX1_keeps 23 = .ok (.iload_n 1, 1) := dk_27 (dk_at dksX1_keeps_0 23 rfl rfl)
theorem dX1_keeps_24 : decode cX1_keeps 24 = .ok (.aaload, 1) := dk_50 (dk_at dksX1_keeps_1 0 rfl rfl)
theorem dX1_keeps_25 : decode cX1_keeps 25 = .ok (.aload_n 0, 1) := dk_42 (dk_at dksX1_keeps_1 1 rfl rfl)
theorem dX1_keeps_26 : decode cX1_keeps 26 = .ok (.getfield 32, 3) := dk_180 0 32 (dk_at dksX1_keeps_1 2 rfl rfl)
theorem dX1_keeps_29 : decode cX1_keeps 29 = .ok (.iload_n 1, 1) := dk_27 (dk_at dksX1_keeps_1 5 rfl rfl)
theorem dX1_keeps_30 : decode cX1_keeps 30 = .ok (.iconst 1, 1) := dk_4 (dk_at dksX1_keeps_1 6 rfl rfl)
theorem dX1_keeps_31 : decode cX1_keeps 31 = .ok (.isub, 1) := dk_100 (dk_at dksX1_keeps_1 7 rfl rfl)
theorem dX1_keeps_32 : decode cX1_keeps 32 = .ok (.aaload, 1) := dk_50 (dk_at dksX1_keeps_1 8 rfl rfl)
theorem dX1_keeps_33 : decode cX1_keeps 33 = .ok (.invokestatic 47, 3) := dk_184 0 47 (dk_at dksX1_keeps_1 9 rfl rfl)
theorem dX1_keeps_36 : decode cX1_keeps 36 = .ok (.iinc 1 1, 3) := dk_132 1 1 (dk_at dksX1_keeps_1 12 rfl rfl)
theorem dX1_keeps_39 : decode cX1_keeps 39 = .ok (.goto (-26), 3) := dk_167 255 230 (dk_at dksX1_keeps_1 15 rfl rfl)
theorem dX1_keeps_42 : decode cX1_keeps 42 = .ok (.aload_n 0, 1) := dk_42 (dk_at dksX1_keeps_1 18 rfl rfl)
theorem dX1_keeps_43 : decode cX1_keeps 43 = .ok (.getfield 9, 3) := dk_180 0 9 (dk_at dksX1_keeps_1 19 rfl rfl)
theorem dX1_keeps_46 : decode cX1_keeps 46 = .ok (.iconst 3, 1) := dk_6 (dk_at dksX1_keeps_1 22 rfl rfl)
theorem dX1_keeps_47 : decode cX1_keeps 47 = .ok (.dup2, 1) := dk_92 (dk_at dksX1_keeps_1 23 rfl rfl)
theorem dX1_keeps_48 : decode cX1_keeps 48 = .ok (.iaload, 1) := dk_46 (dk_at dksX1_keeps_2 0 rfl rfl)
theorem dX1_keeps_49 : decode cX1_keeps 49 = .ok (.iconst 1, 1) := dk_4 (dk_at dksX1_keeps_2 1 rfl rfl)
theorem dX1_keeps_50 : decode cX1_keeps 50 = .ok (.isub, 1) := dk_100 (dk_at dksX1_keeps_2 2 rfl rfl)
theorem dX1_keeps_51 : decode cX1_keeps 51 = .ok (.iastore, 1) := dk_79 (dk_at dksX1_keeps_2 3 rfl rfl)
theorem dX1_keeps_52 : decode cX1_keeps 52 = .ok (.aload_n 0, 1) := dk_42 (dk_at dksX1_keeps_2 4 rfl rfl)
theorem dX1_keeps_53 : decode cX1_keeps 53 = .ok (.getfield 15, 3) := dk_180 0 15 (dk_at dksX1_keeps_2 5 rfl rfl)
theorem dX1_keeps_56 : decode cX1_keeps 56 = .ok (.aload_n 0, 1) := dk_42 (dk_at dksX1_keeps_2 8 rfl rfl)
theorem dX1_keeps_57 : decode cX1_keeps 57 = .ok (.getfield 32, 3) := dk_180 0 32 (dk_at dksX1_keeps_2 9 rfl rfl)
theorem dX1_keeps_60 : decode cX1_keeps 60 = .ok (.aload_n 0, 1) := dk_42 (dk_at dksX1_keeps_2 12 rfl rfl)
theorem dX1_keeps_61 : decode cX1_keeps 61 = .ok (.getfield 9, 3) := dk_180 0 9 (dk_at dksX1_keeps_2 13 rfl rfl)
theorem dX1_keeps_64 : decode cX1_keeps 64 = .ok (.iconst 3, 1) := dk_6 (dk_at dksX1_keeps_2 16 rfl rfl)
theorem dX1_keeps_65 : decode cX1_keeps 65 = .ok (.iaload, 1) := dk_46 (dk_at dksX1_keeps_2 17 rfl rfl)
theorem dX1_keeps_66 : decode cX1_keeps 66 = .ok (.aaload, 1) := dk_50 (dk_at dksX1_keeps_2 18 rfl rfl)
theorem dX1_keeps_67 : decode cX1_keeps 67 = .ok (.invokestatic 47, 3) := dk_184 0 47 (dk_at dksX1_keeps_2 19 rfl rfl)
theorem dX1_keeps_70 : decode cX1_keeps 70 = .ok (.aload_n 0, 1) := dk_42 (dk_at dksX1_keeps_2 22 rfl rfl)
theorem dX1_keeps_71 : decode cX1_keeps 71 = .ok (.getfield 9, 3) := dk_180 0 9 (dk_at dksX1_keeps_3 0 rfl rfl)
theorem dX1_keeps_74 : decode cX1_keeps 74 = .ok (.iconst 3, 1) := dk_6 (dk_at dksX1_keeps_3 3 rfl rfl)
theorem dX1_keeps_75 : decode cX1_keeps 75 = .ok (.dup2, 1) := dk_92 (dk_at dksX1_keeps_3 4 rfl rfl)
theorem dX1_keeps_76 : decode cX1_keeps 76 = .ok (.iaload, 1) := dk_46 (dk_at dksX1_keeps_3 5 rfl rfl)
theorem dX1_keeps_77 : decode cX1_keeps 77 = .ok (.iconst 1, 1) := dk_4 (dk_at dksX1_keeps_3 6 rfl rfl)
theorem dX1_keeps_78 : decode cX1_keeps 78 = .ok (.iadd, 1) := dk_96 (dk_at dksX1_keeps_3 7 rfl rfl)
theorem dX1_keeps_79 : decode cX1_keeps 79 = .ok (.iastore, 1) := dk_79 (dk_at dksX1_keeps_3 8 rfl rfl)
theorem dX1_keeps_80 : decode cX1_keeps 80 = .ok (.return_, 1) := dk_177 (dk_at dksX1_keeps_3 9 rfl rfl)
theorem q138 : (Jvm.Cond.initialized "VaneCourt$State") ∈ lw_all := lw_g (lw_at lw_m1 2 rfl) rfl
theorem q181 : (Jvm.Cond.instantiable "VaneCourt$State" (8 : Nat)) ∈ lw_all := lw_g (lw_at lw_m1 45 rfl) rfl
theorem q183 : (Jvm.Cond.instanceMethod ({ cls := "VaneCourt$State", name := "<init>", desc := "()V" } : Jvm.MethodName)) ∈ lw_all := lw_g (lw_at lw_m1 47 rfl) rfl
theorem q184 : (Jvm.Cond.code ({ cls := "VaneCourt$State", name := "<init>", desc := "()V" } : Jvm.MethodName) prog_13_method_1_code (1 : Nat) (Option.none : Option Jvm.ClassFile.FieldType)) ∈ lw_all := lw_g (lw_at lw_m1 48 rfl) rfl
theorem q185 : (Jvm.Cond.methodLink "VaneCourt$State" (3 : Nat) ({ cls := "java/lang/Object", name := "<init>", desc := "()V" } : Jvm.MethodName)) ∈ lw_all := lw_g (lw_at lw_m1 49 rfl) rfl
theorem q186 : (Jvm.Cond.classLink "VaneCourt$State" (18 : Nat) "[[I") ∈ lw_all := lw_g (lw_at lw_m1 50 rfl) rfl
theorem q188 : (Jvm.Cond.classLink "VaneCourt$State" (35 : Nat) "VaneCourt$Text") ∈ lw_all := lw_g (lw_at lw_m1 52 rfl) rfl
theorem q190 : (Jvm.Cond.fieldLink "VaneCourt$State" (9 : Nat) "VaneCourt$State" "n" "[I") ∈ lw_all := lw_g (lw_at lw_m1 54 rfl) rfl
theorem q192 : (Jvm.Cond.fieldLink "VaneCourt$State" (15 : Nat) "VaneCourt$State" "row" "[I") ∈ lw_all := lw_g (lw_at lw_m1 56 rfl) rfl
theorem q194 : (Jvm.Cond.fieldLink "VaneCourt$State" (20 : Nat) "VaneCourt$State" "trial" "[[I") ∈ lw_all := lw_g (lw_at lw_m1 58 rfl) rfl
theorem q196 : (Jvm.Cond.fieldLink "VaneCourt$State" (23 : Nat) "VaneCourt$State" "record" "[[I") ∈ lw_all := lw_g (lw_at lw_m1 60 rfl) rfl
theorem q198 : (Jvm.Cond.fieldLink "VaneCourt$State" (26 : Nat) "VaneCourt$State" "learned" "[[I") ∈ lw_all := lw_g (lw_at lw_m1 62 rfl) rfl
theorem q200 : (Jvm.Cond.fieldLink "VaneCourt$State" (29 : Nat) "VaneCourt$State" "counsel" "[[I") ∈ lw_all := lw_g (lw_at lw_m1 64 rfl) rfl
theorem q202 : (Jvm.Cond.fieldLink "VaneCourt$State" (32 : Nat) "VaneCourt$State" "step" "[[I") ∈ lw_all := lw_g (lw_at lw_m1 66 rfl) rfl
theorem q204 : (Jvm.Cond.fieldLink "VaneCourt$State" (37 : Nat) "VaneCourt$State" "text" "[LVaneCourt$Text;") ∈ lw_all := lw_g (lw_at lw_m1 68 rfl) rfl
theorem q206 : (Jvm.Cond.laysFinal "VaneCourt$State" "VaneCourt$State" "n" "[I") ∈ lw_all := lw_g (lw_at lw_m1 70 rfl) rfl
theorem q207 : (Jvm.Cond.soleField "VaneCourt$State" "n") ∈ lw_all := lw_g (lw_at lw_m1 71 rfl) rfl
theorem q208 : (Jvm.Cond.laysFinal "VaneCourt$State" "VaneCourt$State" "row" "[I") ∈ lw_all := lw_g (lw_at lw_m1 72 rfl) rfl
theorem q209 : (Jvm.Cond.soleField "VaneCourt$State" "row") ∈ lw_all := lw_g (lw_at lw_m1 73 rfl) rfl
theorem q210 : (Jvm.Cond.laysFinal "VaneCourt$State" "VaneCourt$State" "trial" "[[I") ∈ lw_all := lw_g (lw_at lw_m1 74 rfl) rfl
theorem q211 : (Jvm.Cond.soleField "VaneCourt$State" "trial") ∈ lw_all := lw_g (lw_at lw_m1 75 rfl) rfl
theorem q212 : (Jvm.Cond.laysFinal "VaneCourt$State" "VaneCourt$State" "record" "[[I") ∈ lw_all := lw_g (lw_at lw_m1 76 rfl) rfl
theorem q213 : (Jvm.Cond.soleField "VaneCourt$State" "record") ∈ lw_all := lw_g (lw_at lw_m1 77 rfl) rfl
theorem q214 : (Jvm.Cond.laysFinal "VaneCourt$State" "VaneCourt$State" "learned" "[[I") ∈ lw_all := lw_g (lw_at lw_m1 78 rfl) rfl
theorem q215 : (Jvm.Cond.soleField "VaneCourt$State" "learned") ∈ lw_all := lw_g (lw_at lw_m1 79 rfl) rfl
theorem q216 : (Jvm.Cond.laysFinal "VaneCourt$State" "VaneCourt$State" "counsel" "[[I") ∈ lw_all := lw_g (lw_at lw_m1 80 rfl) rfl
theorem q217 : (Jvm.Cond.soleField "VaneCourt$State" "counsel") ∈ lw_all := lw_g (lw_at lw_m1 81 rfl) rfl
theorem q218 : (Jvm.Cond.laysFinal "VaneCourt$State" "VaneCourt$State" "step" "[[I") ∈ lw_all := lw_g (lw_at lw_m1 82 rfl) rfl
theorem q219 : (Jvm.Cond.soleField "VaneCourt$State" "step") ∈ lw_all := lw_g (lw_at lw_m1 83 rfl) rfl
theorem q220 : (Jvm.Cond.laysFinal "VaneCourt$State" "VaneCourt$State" "text" "[LVaneCourt$Text;") ∈ lw_all := lw_g (lw_at lw_m1 84 rfl) rfl
theorem q221 : (Jvm.Cond.soleField "VaneCourt$State" "text") ∈ lw_all := lw_g (lw_at lw_m1 85 rfl) rfl
theorem q222 : (Jvm.Cond.superclass "VaneCourt$State" "java/lang/Object") ∈ lw_all := lw_g (lw_at lw_m1 86 rfl) rfl
theorem q226 : (Jvm.Cond.instanceMethod ({ cls := "VaneCourt$State", name := "be", desc := "(LVaneCourt$State;)V" } : Jvm.MethodName)) ∈ lw_all := lw_g (lw_at lw_m1 90 rfl) rfl
theorem q227 : (Jvm.Cond.selects "VaneCourt$State" ({ cls := "VaneCourt$State", name := "be", desc := "(LVaneCourt$State;)V" } : Jvm.MethodName) ({ cls := "VaneCourt$State", name := "be", desc := "(LVaneCourt$State;)V" } : Jvm.MethodName)) ∈ lw_all := lw_g (lw_at lw_m1 91 rfl) rfl
theorem q228 : (Jvm.Cond.code ({ cls := "VaneCourt$State", name := "be", desc := "(LVaneCourt$State;)V" } : Jvm.MethodName) prog_13_method_4_code (2 : Nat) (Option.none : Option Jvm.ClassFile.FieldType)) ∈ lw_all := lw_g (lw_at lw_m1 92 rfl) rfl
theorem q229 : (Jvm.Cond.methodLink "VaneCourt$State" (47 : Nat) ({ cls := "VaneCourt$State", name := "copy", desc := "([I[I)V" } : Jvm.MethodName)) ∈ lw_all := lw_g (lw_at lw_m1 93 rfl) rfl
theorem q230 : (Jvm.Cond.static ({ cls := "VaneCourt$State", name := "copy", desc := "([I[I)V" } : Jvm.MethodName)) ∈ lw_all := lw_g (lw_at lw_m1 94 rfl) rfl
theorem q231 : (Jvm.Cond.code ({ cls := "VaneCourt$State", name := "copy", desc := "([I[I)V" } : Jvm.MethodName) prog_13_method_2_code (2 : Nat) (Option.none : Option Jvm.ClassFile.FieldType)) ∈ lw_all := lw_g (lw_at lw_m1 95 rfl) rfl
theorem q232 : (Jvm.Cond.methodLink "VaneCourt$State" (41 : Nat) ({ cls := "java/lang/System", name := "arraycopy", desc := "(Ljava/lang/Object;ILjava/lang/Object;II)V" } : Jvm.MethodName)) ∈ lw_all := lw_g (lw_at lw_m1 96 rfl) rfl
theorem q235 : (Jvm.Cond.methodLink "VaneCourt$State" (51 : Nat) ({ cls := "VaneCourt$State", name := "copy", desc := "([[I[[I)V" } : Jvm.MethodName)) ∈ lw_all := lw_g (lw_at lw_m1 99 rfl) rfl
theorem q236 : (Jvm.Cond.static ({ cls := "VaneCourt$State", name := "copy", desc := "([[I[[I)V" } : Jvm.MethodName)) ∈ lw_all := lw_g (lw_at lw_m1 100 rfl) rfl
theorem q237 : (Jvm.Cond.code ({ cls := "VaneCourt$State", name := "copy", desc := "([[I[[I)V" } : Jvm.MethodName) prog_13_method_3_code (3 : Nat) (Option.none : Option Jvm.ClassFile.FieldType)) ∈ lw_all := lw_g (lw_at lw_m1 101 rfl) rfl
theorem q287 : (Jvm.Cond.instanceMethod ({ cls := "VaneCourt$State", name := "tells", desc := "([[II[I)I" } : Jvm.MethodName)) ∈ lw_all := lw_g (lw_at lw_m1 151 rfl) rfl
theorem q288 : (Jvm.Cond.selects "VaneCourt$State" ({ cls := "VaneCourt$State", name := "tells", desc := "([[II[I)I" } : Jvm.MethodName) ({ cls := "VaneCourt$State", name := "tells", desc := "([[II[I)I" } : Jvm.MethodName)) ∈ lw_all := lw_g (lw_at lw_m1 152 rfl) rfl
theorem q289 : (Jvm.Cond.code ({ cls := "VaneCourt$State", name := "tells", desc := "([[II[I)I" } : Jvm.MethodName) prog_13_method_6_code (4 : Nat) (Option.some Jvm.ClassFile.FieldType.int)) ∈ lw_all := lw_g (lw_at lw_m1 153 rfl) rfl
theorem q655 : (Jvm.Cond.selects "VaneCourt$State" ({ cls := "java/lang/Object", name := "getClass", desc := "()Ljava/lang/Class;" } : Jvm.MethodName) ({ cls := "java/lang/Object", name := "getClass", desc := "()Ljava/lang/Class;" } : Jvm.MethodName)) ∈ lw_all := lw_g (lw_at lw_m3 39 rfl) rfl
theorem q892 : (Jvm.Cond.instanceMethod ({ cls := "VaneCourt$State", name := "keeps", desc := "()V" } : Jvm.MethodName)) ∈ lw_all := lw_g (lw_at lw_m4 36 rfl) rfl
theorem q893 : (Jvm.Cond.selects "VaneCourt$State" ({ cls := "VaneCourt$State", name := "keeps", desc := "()V" } : Jvm.MethodName) ({ cls := "VaneCourt$State", name := "keeps", desc := "()V" } : Jvm.MethodName)) ∈ lw_all := lw_g (lw_at lw_m4 37 rfl) rfl
theorem q894 : (Jvm.Cond.code ({ cls := "VaneCourt$State", name := "keeps", desc := "()V" } : Jvm.MethodName) prog_13_method_5_code (2 : Nat) (Option.none : Option Jvm.ClassFile.FieldType)) ∈ lw_all := lw_g (lw_at lw_m4 38 rfl) rfl
theorem q2029 : (Jvm.Cond.castable "VaneCourt$State" "java/lang/Object") ∈ lw_tbl := lw_at lw_m8 213 rfl
theorem in_X1 : ∀ w ∈ wsX10, w ∈ lw_all := lw_in wsX10 [206, 208, 210, 212, 214, 216, 218, 220] (by decide +kernel) (by decide +kernel)
/-! VaneCourt$Plain -/
set_option maxRecDepth 100000
def RX10 : String := "VaneCourt$Plain"
def TX10 : u_T := fun k => match k with
  | _ => ("VaneCourt$Plain", "n", "I", true)
def tyX10 : Nat → FieldType := fun k => match k with
  | _ => .int
abbrev wsX100 : List Cond := u_ws RX10 TX10 1
theorem nmX10 : ∀ a, a < 1 → ∀ b, b < 1 → a ≠ b → (TX10 a).2.1 ≠ (TX10 b).2.1 := by decide +kernel
theorem tyX10_ok : ∀ k, k < 1 → parseFieldDescriptor (TX10 k).2.2.1 = some (tyX10 k) := by decide +kernel
abbrev cX10_init : ByteArray := prog_12_method_1_code
def yX10_init : MethodName := ⟨RX10, "<init>", "(I)V"⟩
def dkwX10_init_0 : List UInt8 := [42, 183, 0, 1, 42, 27, 181, 0, 7, 177]
abbrev dktX10_init_0 : List UInt8 := dkwX10_init_0 ++ []
theorem dksX10_init_0 : cX10_init.data.toList.drop 0 = dktX10_init_0 := by decide +kernel
theorem dX10_init_0 : decode cX10_init 0 = .ok (.aload_n 0, 1) := dk_42 (dk_at dksX10_init_0 0 rfl rfl)
theorem dX10_init_1 : decode cX10_init 1 = .ok (.invokespecial 1, 3) := dk_183 0 1 (dk_at dksX10_init_0 1 rfl rfl)
theorem dX10_init_4 : decode cX10_init 4 = .ok (.aload_n 0, 1) := dk_42 (dk_at dksX10_init_0 4 rfl rfl)
theorem dX10_init_5 : decode cX10_init 5 = .ok (.iload_n 1, 1) := dk_27 (dk_at dksX10_init_0 5 rfl rfl)
theorem dX10_init_6 : decode cX10_init 6 = .ok (.putfield 7, 3) := dk_181 0 7 (dk_at dksX10_init_0 6 rfl rfl)
theorem dX10_init_9 : decode cX10_init 9 = .ok (.return_, 1) := dk_177 (dk_at dksX10_init_0 9 rfl rfl)
abbrev cX10_of : ByteArray := prog_12_method_2_code
def yX10_of : MethodName := ⟨RX10, "of", "([I)J"⟩
def dkwX10_of_0 : List UInt8 := [42, 180, 0, 7, 133, 173]
abbrev dktX10_of_0 : List UInt8 := dkwX10_of_0 ++ []
theorem dksX10_of_0 : cX10_of.data.toList.drop 0 = dktX10_of_0 := by decide +kernel
theorem dX10_of_0 : decode cX10_of 0 = .ok (.aload_n 0, 1) := dk_42 (dk_at dksX10_of_0 0 rfl rfl)
theorem dX10_of_1 : decode cX10_of 1 = .ok (.getfield 7, 3) := dk_180 0 7 (dk_at dksX10_of_0 1 rfl rfl)
theorem dX10_of_4 : decode cX10_of 4 = .ok (.i2l, 1) := dk_133 (dk_at dksX10_of_0 4 rfl rfl)
theorem dX10_of_5 : decode cX10_of 5 = .ok (.lreturn, 1) := dk_173 (dk_at dksX10_of_0 5 rfl rfl)
theorem q161 : (Jvm.Cond.initialized "VaneCourt$Plain") ∈ lw_all := lw_g (lw_at lw_m1 25 rfl) rfl
theorem q654 : (Jvm.Cond.selects "VaneCourt$Plain" ({ cls := "java/lang/Object", name := "getClass", desc := "()Ljava/lang/Class;" } : Jvm.MethodName) ({ cls := "java/lang/Object", name := "getClass", desc := "()Ljava/lang/Class;" } : Jvm.MethodName)) ∈ lw_all := lw_g (lw_at lw_m3 38 rfl) rfl
theorem q703 : (Jvm.Cond.instantiable "VaneCourt$Plain" (1 : Nat)) ∈ lw_all := lw_g (lw_at lw_m3 87 rfl) rfl
theorem q705 : (Jvm.Cond.instanceMethod ({ cls := "VaneCourt$Plain", name := "<init>", desc := "(I)V" } : Jvm.MethodName)) ∈ lw_all := lw_g (lw_at lw_m3 89 rfl) rfl
theorem q706 : (Jvm.Cond.code ({ cls := "VaneCourt$Plain", name := "<init>", desc := "(I)V" } : Jvm.MethodName) prog_12_method_1_code (2 : Nat) (Option.none : Option Jvm.ClassFile.FieldType)) ∈ lw_all := lw_g (lw_at lw_m3 90 rfl) rfl
theorem q707 : (Jvm.Cond.methodLink "VaneCourt$Plain" (1 : Nat) ({ cls := "java/lang/Record", name := "<init>", desc := "()V" } : Jvm.MethodName)) ∈ lw_all := lw_g (lw_at lw_m3 91 rfl) rfl
theorem q708 : (Jvm.Cond.fieldLink "VaneCourt$Plain" (7 : Nat) "VaneCourt$Plain" "n" "I") ∈ lw_all := lw_g (lw_at lw_m3 92 rfl) rfl
theorem q709 : (Jvm.Cond.laysFinal "VaneCourt$Plain" "VaneCourt$Plain" "n" "I") ∈ lw_all := lw_g (lw_at lw_m3 93 rfl) rfl
theorem q710 : (Jvm.Cond.soleField "VaneCourt$Plain" "n") ∈ lw_all := lw_g (lw_at lw_m3 94 rfl) rfl
theorem q711 : (Jvm.Cond.superclass "VaneCourt$Plain" "java/lang/Record") ∈ lw_all := lw_g (lw_at lw_m3 95 rfl) rfl
theorem q975 : (Jvm.Cond.castable "VaneCourt$Plain" "VaneCourt$Sum") ∈ lw_tbl := lw_at lw_m4 119 rfl
theorem q976 : (Jvm.Cond.selects "VaneCourt$Plain" ({ cls := "VaneCourt$Sum", name := "of", desc := "([I)J" } : Jvm.MethodName) ({ cls := "VaneCourt$Plain", name := "of", desc := "([I)J" } : Jvm.MethodName)) ∈ lw_all := lw_g (lw_at lw_m4 120 rfl) rfl
theorem q977 : (Jvm.Cond.unhidden "VaneCourt$Plain" "of" "([I)J") ∈ lw_tbl := lw_at lw_m4 121 rfl
theorem q978 : (Jvm.Cond.instanceMethod ({ cls := "VaneCourt$Plain", name := "of", desc := "([I)J" } : Jvm.MethodName)) ∈ lw_all := lw_g (lw_at lw_m4 122 rfl) rfl
theorem q979 : (Jvm.Cond.publicMethod ({ cls := "VaneCourt$Plain", name := "of", desc := "([I)J" } : Jvm.MethodName)) ∈ lw_tbl := lw_at lw_m4 123 rfl
theorem q980 : (Jvm.Cond.code ({ cls := "VaneCourt$Plain", name := "of", desc := "([I)J" } : Jvm.MethodName) prog_12_method_2_code (2 : Nat) (Option.some Jvm.ClassFile.FieldType.long)) ∈ lw_all := lw_g (lw_at lw_m4 124 rfl) rfl
theorem q2038 : (Jvm.Cond.castable "VaneCourt$Plain" "java/lang/Object") ∈ lw_tbl := lw_at lw_m8 222 rfl
theorem in_X10 : ∀ w ∈ wsX100, w ∈ lw_all := lw_in wsX100 [709] (by decide +kernel) (by decide +kernel)
/-! VaneCourt$Name -/
set_option maxRecDepth 100000
def RX11 : String := "VaneCourt$Name"
def TX11 : u_T := fun k => match k with
  | _ => ("VaneCourt$Name", "which", "I", true)
def tyX11 : Nat → FieldType := fun k => match k with
  | _ => .int
abbrev wsX110 : List Cond := u_ws RX11 TX11 1
theorem nmX11 : ∀ a, a < 1 → ∀ b, b < 1 → a ≠ b → (TX11 a).2.1 ≠ (TX11 b).2.1 := by decide +kernel
theorem tyX11_ok : ∀ k, k < 1 → parseFieldDescriptor (TX11 k).2.2.1 = some (tyX11 k) := by decide +kernel
abbrev cX11_init : ByteArray := prog_10_method_1_code
def yX11_init : MethodName := ⟨RX11, "<init>", "(I)V"⟩
def dkwX11_init_0 : List UInt8 := [42, 183, 0, 1, 42, 27, 181, 0, 7, 177]
abbrev dktX11_init_0 : List UInt8 := dkwX11_init_0 ++ []
theorem dksX11_init_0 : cX11_init.data.toList.drop 0 = dktX11_init_0 := by decide +kernel
theorem dX11_init_0 : decode cX11_init 0 = .ok (.aload_n 0, 1) := dk_42 (dk_at dksX11_init_0 0 rfl rfl)
theorem dX11_init_1 : decode cX11_init 1 = .ok (.invokespecial 1, 3) := dk_183 0 1 (dk_at dksX11_init_0 1 rfl rfl)
theorem dX11_init_4 : decode cX11_init 4 = .ok (.aload_n 0, 1) := dk_42 (dk_at dksX11_init_0 4 rfl rfl)
theorem dX11_init_5 : decode cX11_init 5 = .ok (.iload_n 1, 1) := dk_27 (dk_at dksX11_init_0 5 rfl rfl)
theorem dX11_init_6 : decode cX11_init 6 = .ok (.putfield 7, 3) := dk_181 0 7 (dk_at dksX11_init_0 6 rfl rfl)
theorem dX11_init_9 : decode cX11_init 9 = .ok (.return_, 1) := dk_177 (dk_at dksX11_init_0 9 rfl rfl)
abbrev cX11_of : ByteArray := prog_10_method_2_code
def yX11_of : MethodName := ⟨RX11, "of", "([I)J"⟩
def dkwX11_of_0 : List UInt8 := [43, 42, 180, 0, 7, 46, 133, 173]
abbrev dktX11_of_0 : List UInt8 := dkwX11_of_0 ++ []
theorem dksX11_of_0 : cX11_of.data.toList.drop 0 = dktX11_of_0 := by decide +kernel
theorem dX11_of_0 : decode cX11_of 0 = .ok (.aload_n 1, 1) := dk_43 (dk_at dksX11_of_0 0 rfl rfl)
theorem dX11_of_1 : decode cX11_of 1 = .ok (.aload_n 0, 1) := dk_42 (dk_at dksX11_of_0 1 rfl rfl)
theorem dX11_of_2 : decode cX11_of 2 = .ok (.getfield 7, 3) := dk_180 0 7 (dk_at dksX11_of_0 2 rfl rfl)
theorem dX11_of_5 : decode cX11_of 5 = .ok (.iaload, 1) := dk_46 (dk_at dksX11_of_0 5 rfl rfl)
theorem dX11_of_6 : decode cX11_of 6 = .ok (.i2l, 1) := dk_133 (dk_at dksX11_of_0 6 rfl rfl)
theorem dX11_of_7 : decode cX11_of 7 = .ok (.lreturn, 1) := dk_173 (dk_at dksX11_of_0 7 rfl rfl)
theorem q162 : (Jvm.Cond.initialized "VaneCourt$Name") ∈ lw_all := lw_g (lw_at lw_m1 26 rfl) rfl
theorem q652 : (Jvm.Cond.selects "VaneCourt$Name" ({ cls := "java/lang/Object", name := "getClass", desc := "()Ljava/lang/Class;" } : Jvm.MethodName) ({ cls := "java/lang/Object", name := "getClass", desc := "()Ljava/lang/Class;" } : Jvm.MethodName)) ∈ lw_all := lw_g (lw_at lw_m3 36 rfl) rfl
theorem q722 : (Jvm.Cond.instantiable "VaneCourt$Name" (1 : Nat)) ∈ lw_all := lw_g (lw_at lw_m3 106 rfl) rfl
theorem q724 : (Jvm.Cond.instanceMethod ({ cls := "VaneCourt$Name", name := "<init>", desc := "(I)V" } : Jvm.MethodName)) ∈ lw_all := lw_g (lw_at lw_m3 108 rfl) rfl
theorem q725 : (Jvm.Cond.code ({ cls := "VaneCourt$Name", name := "<init>", desc := "(I)V" } : Jvm.MethodName) prog_10_method_1_code (2 : Nat) (Option.none : Option Jvm.ClassFile.FieldType)) ∈ lw_all := lw_g (lw_at lw_m3 109 rfl) rfl
theorem q726 : (Jvm.Cond.methodLink "VaneCourt$Name" (1 : Nat) ({ cls := "java/lang/Record", name := "<init>", desc := "()V" } : Jvm.MethodName)) ∈ lw_all := lw_g (lw_at lw_m3 110 rfl) rfl
theorem q727 : (Jvm.Cond.fieldLink "VaneCourt$Name" (7 : Nat) "VaneCourt$Name" "which" "I") ∈ lw_all := lw_g (lw_at lw_m3 111 rfl) rfl
theorem q728 : (Jvm.Cond.laysFinal "VaneCourt$Name" "VaneCourt$Name" "which" "I") ∈ lw_all := lw_g (lw_at lw_m3 112 rfl) rfl
theorem q729 : (Jvm.Cond.soleField "VaneCourt$Name" "which") ∈ lw_all := lw_g (lw_at lw_m3 113 rfl) rfl
theorem q730 : (Jvm.Cond.superclass "VaneCourt$Name" "java/lang/Record") ∈ lw_all := lw_g (lw_at lw_m3 114 rfl) rfl
theorem q969 : (Jvm.Cond.castable "VaneCourt$Name" "VaneCourt$Sum") ∈ lw_tbl := lw_at lw_m4 113 rfl
theorem q970 : (Jvm.Cond.selects "VaneCourt$Name" ({ cls := "VaneCourt$Sum", name := "of", desc := "([I)J" } : Jvm.MethodName) ({ cls := "VaneCourt$Name", name := "of", desc := "([I)J" } : Jvm.MethodName)) ∈ lw_all := lw_g (lw_at lw_m4 114 rfl) rfl
theorem q971 : (Jvm.Cond.unhidden "VaneCourt$Name" "of" "([I)J") ∈ lw_tbl := lw_at lw_m4 115 rfl
theorem q972 : (Jvm.Cond.instanceMethod ({ cls := "VaneCourt$Name", name := "of", desc := "([I)J" } : Jvm.MethodName)) ∈ lw_all := lw_g (lw_at lw_m4 116 rfl) rfl
theorem q973 : (Jvm.Cond.publicMethod ({ cls := "VaneCourt$Name", name := "of", desc := "([I)J" } : Jvm.MethodName)) ∈ lw_tbl := lw_at lw_m4 117 rfl
theorem q974 : (Jvm.Cond.code ({ cls := "VaneCourt$Name", name := "of", desc := "([I)J" } : Jvm.MethodName) prog_10_method_2_code (2 : Nat) (Option.some Jvm.ClassFile.FieldType.long)) ∈ lw_all := lw_g (lw_at lw_m4 118 rfl) rfl
theorem q2039 : (Jvm.Cond.castable "VaneCourt$Name" "java/lang/Object") ∈ lw_tbl := lw_at lw_m8 223 rfl
theorem in_X11 : ∀ w ∈ wsX110, w ∈ lw_all := lw_in wsX110 [728] (by decide +kernel) (by decide +kernel)
/-! VaneCourt$Minus -/
set_option maxRecDepth 100000
def RX12 : String := "VaneCourt$Minus"
def TX12 : u_T := fun k => match k with
  | _ => ("VaneCourt$Minus", "x", "LVaneCourt$Sum;", true)
def tyX12 : Nat → FieldType := fun k => match k with
  | _ => .object "VaneCourt$Sum"
abbrev wsX120 : List Cond := u_ws RX12 TX12 1
theorem nmX12 : ∀ a, a < 1 → ∀ b, b < 1 → a ≠ b → (TX12 a).2.1 ≠ (TX12 b).2.1 := by decide +kernel
theorem tyX12_ok : ∀ k, k < 1 → parseFieldDescriptor (TX12 k).2.2.1 = some (tyX12 k) := by decide +kernel
abbrev cX12_init : ByteArray := prog_8_method_1_code
def yX12_init : MethodName := ⟨RX12, "<init>", "(LVaneCourt$Sum;)V"⟩
def dkwX12_init_0 : List UInt8 := [42, 183, 0, 1, 42, 43, 181, 0, 7, 177]
abbrev dktX12_init_0 : List UInt8 := dkwX12_init_0 ++ []
theorem dksX12_init_0 : cX12_init.data.toList.drop 0 = dktX12_init_0 := by decide +kernel
theorem dX12_init_0 : decode cX12_init 0 = .ok (.aload_n 0, 1) := dk_42 (dk_at dksX12_init_0 0 rfl rfl)
theorem dX12_init_1 : decode cX12_init 1 = .ok (.invokespecial 1, 3) := dk_183 0 1 (dk_at dksX12_init_0 1 rfl rfl)
theorem dX12_init_4 : decode cX12_init 4 = .ok (.aload_n 0, 1) := dk_42 (dk_at dksX12_init_0 4 rfl rfl)
theorem dX12_init_5 : decode cX12_init 5 = .ok (.aload_n 1, 1) := dk_43 (dk_at dksX12_init_0 5 rfl rfl)
theorem dX12_init_6 : decode cX12_init 6 = .ok (.putfield 7, 3) := dk_181 0 7 (dk_at dksX12_init_0 6 rfl rfl)
theorem dX12_init_9 : decode cX12_init 9 = .ok (.return_, 1) := dk_177 (dk_at dksX12_init_0 9 rfl rfl)
abbrev cX12_of : ByteArray := prog_8_method_2_code
def yX12_of : MethodName := ⟨RX12, "of", "([I)J"⟩
def dkwX12_of_0 : List UInt8 := [42, 180, 0, 7, 43, 185, 0, 13, 2, 0, 117, 173]
abbrev dktX12_of_0 : List UInt8 := dkwX12_of_0 ++ []
theorem dksX12_of_0 : cX12_of.data.toList.drop 0 = dktX12_of_0 := by decide +kernel
theorem dX12_of_0 : decode cX12_of 0 = .ok (.aload_n 0, 1) := dk_42 (dk_at dksX12_of_0 0 rfl rfl)
theorem dX12_of_1 : decode cX12_of 1 = .ok (.getfield 7, 3) := dk_180 0 7 (dk_at dksX12_of_0 1 rfl rfl)
theorem dX12_of_4 : decode cX12_of 4 = .ok (.aload_n 1, 1) := dk_43 (dk_at dksX12_of_0 4 rfl rfl)
theorem dX12_of_5 : decode cX12_of 5 = .ok (.invokeinterface 13 2, 5) := by decide +kernel
theorem dX12_of_10 : decode cX12_of 10 = .ok (.lneg, 1) := dk_117 (dk_at dksX12_of_0 10 rfl rfl)
theorem dX12_of_11 : decode cX12_of 11 = .ok (.lreturn, 1) := dk_173 (dk_at dksX12_of_0 11 rfl rfl)
theorem q163 : (Jvm.Cond.initialized "VaneCourt$Minus") ∈ lw_all := lw_g (lw_at lw_m1 27 rfl) rfl
theorem q650 : (Jvm.Cond.selects "VaneCourt$Minus" ({ cls := "java/lang/Object", name := "getClass", desc := "()Ljava/lang/Class;" } : Jvm.MethodName) ({ cls := "java/lang/Object", name := "getClass", desc := "()Ljava/lang/Class;" } : Jvm.MethodName)) ∈ lw_all := lw_g (lw_at lw_m3 34 rfl) rfl
theorem q732 : (Jvm.Cond.instantiable "VaneCourt$Minus" (1 : Nat)) ∈ lw_all := lw_g (lw_at lw_m3 116 rfl) rfl
theorem q734 : (Jvm.Cond.instanceMethod ({ cls := "VaneCourt$Minus", name := "<init>", desc := "(LVaneCourt$Sum;)V" } : Jvm.MethodName)) ∈ lw_all := lw_g (lw_at lw_m3 118 rfl) rfl
theorem q735 : (Jvm.Cond.code ({ cls := "VaneCourt$Minus", name := "<init>", desc := "(LVaneCourt$Sum;)V" } : Jvm.MethodName) prog_8_method_1_code (2 : Nat) (Option.none : Option Jvm.ClassFile.FieldType)) ∈ lw_all := lw_g (lw_at lw_m3 119 rfl) rfl
theorem q736 : (Jvm.Cond.methodLink "VaneCourt$Minus" (1 : Nat) ({ cls := "java/lang/Record", name := "<init>", desc := "()V" } : Jvm.MethodName)) ∈ lw_all := lw_g (lw_at lw_m3 120 rfl) rfl
theorem q737 : (Jvm.Cond.fieldLink "VaneCourt$Minus" (7 : Nat) "VaneCourt$Minus" "x" "LVaneCourt$Sum;") ∈ lw_all := lw_g (lw_at lw_m3 121 rfl) rfl
theorem q738 : (Jvm.Cond.laysFinal "VaneCourt$Minus" "VaneCourt$Minus" "x" "LVaneCourt$Sum;") ∈ lw_all := lw_g (lw_at lw_m3 122 rfl) rfl
theorem q739 : (Jvm.Cond.soleField "VaneCourt$Minus" "x") ∈ lw_all := lw_g (lw_at lw_m3 123 rfl) rfl
theorem q740 : (Jvm.Cond.superclass "VaneCourt$Minus" "java/lang/Record") ∈ lw_all := lw_g (lw_at lw_m3 124 rfl) rfl
theorem q961 : (Jvm.Cond.castable "VaneCourt$Minus" "VaneCourt$Sum") ∈ lw_tbl := lw_at lw_m4 105 rfl
theorem q962 : (Jvm.Cond.selects "VaneCourt$Minus" ({ cls := "VaneCourt$Sum", name := "of", desc := "([I)J" } : Jvm.MethodName) ({ cls := "VaneCourt$Minus", name := "of", desc := "([I)J" } : Jvm.MethodName)) ∈ lw_all := lw_g (lw_at lw_m4 106 rfl) rfl
theorem q963 : (Jvm.Cond.unhidden "VaneCourt$Minus" "of" "([I)J") ∈ lw_tbl := lw_at lw_m4 107 rfl
theorem q964 : (Jvm.Cond.instanceMethod ({ cls := "VaneCourt$Minus", name := "of", desc := "([I)J" } : Jvm.MethodName)) ∈ lw_all := lw_g (lw_at lw_m4 108 rfl) rfl
theorem q965 : (Jvm.Cond.publicMethod ({ cls := "VaneCourt$Minus", name := "of", desc := "([I)J" } : Jvm.MethodName)) ∈ lw_tbl := lw_at lw_m4 109 rfl
theorem q966 : (Jvm.Cond.code ({ cls := "VaneCourt$Minus", name := "of", desc := "([I)J" } : Jvm.MethodName) prog_8_method_2_code (2 : Nat) (Option.some Jvm.ClassFile.FieldType.long)) ∈ lw_all := lw_g (lw_at lw_m4 110 rfl) rfl
theorem q967 : (Jvm.Cond.interfaceEntry "VaneCourt$Minus" (13 : Nat)) ∈ lw_tbl := lw_at lw_m4 111 rfl
theorem q968 : (Jvm.Cond.methodLink "VaneCourt$Minus" (13 : Nat) ({ cls := "VaneCourt$Sum", name := "of", desc := "([I)J" } : Jvm.MethodName)) ∈ lw_all := lw_g (lw_at lw_m4 112 rfl) rfl
theorem q2040 : (Jvm.Cond.castable "VaneCourt$Minus" "java/lang/Object") ∈ lw_tbl := lw_at lw_m8 224 rfl
theorem in_X12 : ∀ w ∈ wsX120, w ∈ lw_all := lw_in wsX120 [738] (by decide +kernel) (by decide +kernel)
/-! VaneCourt$Compared -/
set_option maxRecDepth 100000
def RX13 : String := "VaneCourt$Compared"
def TX13 : u_T := fun k => match k with
  | 0 => ("VaneCourt$Compared", "sign", "I", true)
  | 1 => ("VaneCourt$Compared", "a", "LVaneCourt$Sum;", true)
  | _ => ("VaneCourt$Compared", "b", "LVaneCourt$Sum;", true)
def tyX13 : Nat → FieldType := fun k => match k with
  | 0 => .int
  | 1 => .object "VaneCourt$Sum"
  | _ => .object "VaneCourt$Sum"
abbrev wsX130 : List Cond := u_ws RX13 TX13 3
theorem nmX13 : ∀ a, a < 3 → ∀ b, b < 3 → a ≠ b → (TX13 a).2.1 ≠ (TX13 b).2.1 := by decide +kernel
theorem tyX13_ok : ∀ k, k < 3 → parseFieldDescriptor (TX13 k).2.2.1 = some (tyX13 k) := by decide +kernel
abbrev cX13_init : ByteArray := prog_5_method_1_code
def yX13_init : MethodName := ⟨RX13, "<init>", "(ILVaneCourt$Sum;LVaneCourt$Sum;)V"⟩
def dkwX13_init_0 : List UInt8 := [42, 183, 0, 1, 42, 27, 181, 0, 7, 42, 44, 181, 0, 13, 42, 45, 181, 0, 17, 177]
abbrev dktX13_init_0 : List UInt8 := dkwX13_init_0 ++ []
theorem dksX13_init_0 : cX13_init.data.toList.drop 0 = dktX13_init_0 := by decide +kernel
theorem dX13_init_0 : decode cX13_init 0 = .ok (.aload_n 0, 1) := dk_42 (dk_at dksX13_init_0 0 rfl rfl)
theorem dX13_init_1 : decode cX13_init 1 = .ok (.invokespecial 1, 3) := dk_183 0 1 (dk_at dksX13_init_0 1 rfl rfl)
theorem dX13_init_4 : decode cX13_init 4 = .ok (.aload_n 0, 1) := dk_42 (dk_at dksX13_init_0 4 rfl rfl)
theorem dX13_init_5 : decode cX13_init 5 = .ok (.iload_n 1, 1) := dk_27 (dk_at dksX13_init_0 5 rfl rfl)
theorem dX13_init_6 : decode cX13_init 6 = .ok (.putfield 7, 3) := dk_181 0 7 (dk_at dksX13_init_0 6 rfl rfl)
theorem dX13_init_9 : decode cX13_init 9 = .ok (.aload_n 0, 1) := dk_42 (dk_at dksX13_init_0 9 rfl rfl)
theorem dX13_init_10 : decode cX13_init 10 = .ok (.aload_n 2, 1) := dk_44 (dk_at dksX13_init_0 10 rfl rfl)
theorem dX13_init_11 : decode cX13_init 11 = .ok (.putfield 13, 3) := dk_181 0 13 (dk_at dksX13_init_0 11 rfl rfl)
theorem dX13_init_14 : decode cX13_init 14 = .ok (.aload_n 0, 1) := dk_42 (dk_at dksX13_init_0 14 rfl rfl)
theorem dX13_init_15 : decode cX13_init 15 = .ok (.aload_n 3, 1) := dk_45 (dk_at dksX13_init_0 15 rfl rfl)
theorem dX13_init_16 : decode cX13_init 16 = .ok (.putfield 17, 3) := dk_181 0 17 (dk_at dksX13_init_0 16 rfl rfl)
theorem dX13_init_19 : decode cX13_init 19 = .ok (.return_, 1) := dk_177 (dk_at dksX13_init_0 19 rfl rfl)
abbrev cX13_is : ByteArray := prog_5_method_2_code
def yX13_is : MethodName := ⟨RX13, "is", "([I)Z"⟩
def dkwX13_is_5 : List UInt8 := [32, 9, 148, 157, 0, 7, 4, 167, 0, 4, 3, 172, 32, 9, 148, 155, 0, 7, 4, 167, 0, 4, 3, 172]
abbrev dktX13_is_5 : List UInt8 := dkwX13_is_5 ++ []
def dkwX13_is_4 : List UInt8 := [32, 9, 148, 154, 0, 7, 4, 167, 0, 4, 3, 172, 32, 9, 148, 153, 0, 7, 4, 167, 0, 4, 3, 172]
abbrev dktX13_is_4 : List UInt8 := dkwX13_is_4 ++ dktX13_is_5
def dkwX13_is_3 : List UInt8 := [32, 9, 148, 156, 0, 7, 4, 167, 0, 4, 3, 172, 32, 9, 148, 158, 0, 7, 4, 167, 0, 4, 3, 172]
abbrev dktX13_is_3 : List UInt8 := dkwX13_is_3 ++ dktX13_is_4
def dkwX13_is_2 : List UInt8 := [171, 0, 0, 0, 0, 110, 0, 0, 0, 5, 0, 0, 0, 35, 0, 0, 0, 86, 0, 0, 0, 60, 0, 0, 0, 50, 0, 0, 0, 61, 0, 0, 0, 74, 0, 0, 0, 62, 0, 0, 0, 62, 0, 0, 1, 47, 0, 0, 0, 98]
abbrev dktX13_is_2 : List UInt8 := dkwX13_is_2 ++ dktX13_is_3
def dkwX13_is_1 : List UInt8 := [180, 0, 7]
abbrev dktX13_is_1 : List UInt8 := dkwX13_is_1 ++ dktX13_is_2
def dkwX13_is_0 : List UInt8 := [42, 180, 0, 13, 43, 185, 0, 20, 2, 0, 42, 180, 0, 17, 43, 185, 0, 20, 2, 0, 101, 65, 42]
abbrev dktX13_is_0 : List UInt8 := dkwX13_is_0 ++ dktX13_is_1
theorem dksX13_is_0 : cX13_is.data.toList.drop 0 = dktX13_is_0 := by decide +kernel
theorem dksX13_is_1 : cX13_is.data.toList.drop 23 = dktX13_is_1 := dk_seg dksX13_is_0 23 rfl rfl
theorem dksX13_is_2 : cX13_is.data.toList.drop 26 = dktX13_is_2 := dk_seg dksX13_is_1 3 rfl rfl
theorem dksX13_is_3 : cX13_is.data.toList.drop 76 = dktX13_is_3 := dk_seg dksX13_is_2 50 rfl rfl
theorem dksX13_is_4 : cX13_is.data.toList.drop 100 = dktX13_is_4 := dk_seg dksX13_is_3 24 rfl rfl
theorem dksX13_is_5 : cX13_is.data.toList.drop 124 = dktX13_is_5 := dk_seg dksX13_is_4 24 rfl rfl
theorem dX13_is_0 : decode cX13_is 0 = .ok (.aload_n 0, 1) := dk_42 (dk_at dksX13_is_0 0 rfl rfl)
theorem dX13_is_1 : decode cX13_is 1 = .ok (.getfield 13, 3) := dk_180 0 13 (dk_at dksX13_is_0 1 rfl rfl)
theorem dX13_is_4 : decode cX13_is 4 = .ok (.aload_n 1, 1) := dk_43 (dk_at dksX13_is_0 4 rfl rfl)
theorem dX13_is_5 : decode cX13_is 5 = .ok (.invokeinterface 20 2, 5) := by decide +kernel
theorem dX13_is_10 : decode cX13_is 10 = .ok (.aload_n 0, 1) := dk_42 (dk_at dksX13_is_0 10 rfl rfl)
theorem dX13_is_11 : decode cX13_is 11 = .ok (.getfield 17, 3) := dk_180 0 17 (dk_at dksX13_is_0 11 rfl rfl)
theorem dX13_is_14 : decode cX13_is 14 = .ok (.aload_n 1, 1) := dk_43 (dk_at dksX13_is_0 14 rfl rfl)
theorem dX13_is_15 : decode cX13_is 15 = .ok (.invokeinterface 20 2, 5) := by decide +kernel
theorem dX13_is_20 : decode cX13_is 20 = .ok (.lsub, 1) := dk_101 (dk_at dksX13_is_0 20 rfl rfl)
theorem dX13_is_21 : decode cX13_is 21 = .ok (.lstore_n 2, 1) := dk_65 (dk_at dksX13_is_0 21 rfl rfl)
theorem dX13_is_22 : decode cX13_is 22 = .ok (.aload_n 0, 1) := dk_42 (dk_at dksX13_is_0 22 rfl rfl)
theorem dX13_is_23 : decode cX13_is 23 = .ok (.getfield 7, 3) := dk_180 0 7 (dk_at dksX13_is_1 0 rfl rfl)
theorem dX13_is_26 : decode cX13_is 26 = .ok (.lookupswitch 110 #[(35, 86), (60, 50), (61, 74), (62, 62), (303, 98)], 50) := by decide +kernel
theorem dX13_is_76 : decode cX13_is 76 = .ok (.lload_n 2, 1) := dk_32 (dk_at dksX13_is_3 0 rfl rfl)
theorem dX13_is_77 : decode cX13_is 77 = .ok (.lconst 0, 1) := dk_9 (dk_at dksX13_is_3 1 rfl rfl)
theorem dX13_is_78 : decode cX13_is 78 = .ok (.lcmp, 1) := dk_148 (dk_at dksX13_is_3 2 rfl rfl)
theorem dX13_is_79 : decode cX13_is 79 = .ok (.ifCond .ge 7, 3) := dk_156 0 7 (dk_at dksX13_is_3 3 rfl rfl)
theorem dX13_is_82 : decode cX13_is 82 = .ok (.iconst 1, 1) := dk_4 (dk_at dksX13_is_3 6 rfl rfl)
theorem dX13_is_83 : decode cX13_is 83 = .ok (.goto 4, 3) := dk_167 0 4 (dk_at dksX13_is_3 7 rfl rfl)
theorem dX13_is_86 : decode cX13_is 86 = .ok (.iconst 0, 1) := dk_3 (dk_at dksX13_is_3 10 rfl rfl)
theorem dX13_is_87 : decode cX13_is 87 = .ok (.ireturn, 1) := dk_172 (dk_at dksX13_is_3 11 rfl rfl)
theorem dX13_is_88 : decode cX13_is 88 = .ok (.lload_n 2, 1) := dk_32 (dk_at dksX13_is_3 12 rfl rfl)
theorem dX13_is_89 : decode cX13_is 89 = .ok (.lconst 0, 1) := dk_9 (dk_at dksX13_is_3 13 rfl rfl)
theorem dX13_is_90 : decode cX13_is 90 = .ok (.lcmp, 1) := dk_148 (dk_at dksX13_is_3 14 rfl rfl)
theorem dX13_is_91 : decode cX13_is 91 = .ok (.ifCond .le 7, 3) := dk_158 0 7 (dk_at dksX13_is_3 15 rfl rfl)
theorem dX13_is_94 : decode cX13_is 94 = .ok (.iconst 1, 1) := dk_4 (dk_at dksX13_is_3 18 rfl rfl)
theorem dX13_is_95 : decode cX13_is 95 = .ok (.goto 4, 3) := dk_167 0 4 (dk_at dksX13_is_3 19 rfl rfl)
theorem dX13_is_98 : decode cX13_is 98 = .ok (.iconst 0, 1) := dk_3 (dk_at dksX13_is_3 22 rfl rfl)
theorem dX13_is_99 : decode cX13_is 99 = .ok (.ireturn, 1) := dk_172 (dk_at dksX13_is_3 23 rfl rfl)
theorem dX13_is_100 : decode cX13_is 100 = .ok (.lload_n 2, 1) := dk_32 (dk_at dksX13_is_4 0 rfl rfl)
theorem dX13_is_101 : decode cX13_is 101 = .ok (.lconst 0, 1) := dk_9 (dk_at dksX13_is_4 1 rfl rfl)
theorem dX13_is_102 : decode cX13_is 102 = .ok (.lcmp, 1) := dk_148 (dk_at dksX13_is_4 2 rfl rfl)
theorem dX13_is_103 : decode cX13_is 103 = .ok (.ifCond .ne 7, 3) := dk_154 0 7 (dk_at dksX13_is_4 3 rfl rfl)
theorem dX13_is_106 : decode cX13_is 106 = .ok (.iconst 1, 1) := dk_4 (dk_at dksX13_is_4 6 rfl rfl)
theorem dX13_is_107 : decode cX13_is 107 = .ok (.goto 4, 3) := dk_167 0 4 (dk_at dksX13_is_4 7 rfl rfl)
theorem dX13_is_110 : decode cX13_is 110 = .ok (.iconst 0, 1) := dk_3 (dk_at dksX13_is_4 10 rfl rfl)
theorem dX13_is_111 : decode cX13_is 111 = .ok (.ireturn, 1) := dk_172 (dk_at dksX13_is_4 11 rfl rfl)
theorem dX13_is_112 : decode cX13_is 112 = .ok (.lload_n 2, 1) := dk_32 (dk_at dksX13_is_4 12 rfl rfl)
theorem dX13_is_113 : decode cX13_is 113 = .ok (.lconst 0, 1) := dk_9 (dk_at dksX13_is_4 13 rfl rfl)
theorem dX13_is_114 : decode cX13_is 114 = .ok (.lcmp, 1) := dk_148 (dk_at dksX13_is_4 14 rfl rfl)
theorem dX13_is_115 : decode cX13_is 115 = .ok (.ifCond .eq 7, 3) := dk_153 0 7 (dk_at dksX13_is_4 15 rfl rfl)
theorem dX13_is_118 : decode cX13_is 118 = .ok (.iconst 1, 1) := dk_4 (dk_at dksX13_is_4 18 rfl rfl)
theorem dX13_is_119 : decode cX13_is 119 = .ok (.goto 4, 3) := dk_167 0 4 (dk_at dksX13_is_4 19 rfl rfl)
theorem dX13_is_122 : decode cX13_is 122 = .ok (.iconst 0, 1) := dk_3 (dk_at dksX13_is_4 22 rfl rfl)
theorem dX13_is_123 : decode cX13_is 123 = .ok (.ireturn, 1) := dk_172 (dk_at dksX13_is_4 23 rfl rfl)
theorem dX13_is_124 : decode cX13_is 124 = .ok (.lload_n 2, 1) := dk_32 (dk_at dksX13_is_5 0 rfl rfl)
theorem dX13_is_125 : decode cX13_is 125 = .ok (.lconst 0, 1) := dk_9 (dk_at dksX13_is_5 1 rfl rfl)
theorem dX13_is_126 : decode cX13_is 126 = .ok (.lcmp, 1) := dk_148 (dk_at dksX13_is_5 2 rfl rfl)
theorem dX13_is_127 : decode cX13_is 127 = .ok (.ifCond .gt 7, 3) := dk_157 0 7 (dk_at dksX13_is_5 3 rfl rfl)
theorem dX13_is_130 : decode cX13_is 130 = .ok (.iconst 1, 1) := dk_4 (dk_at dksX13_is_5 6 rfl rfl)
theorem dX13_is_131 : decode cX13_is 131 = .ok (.goto 4, 3) := dk_167 0 4 (dk_at dksX13_is_5 7 rfl rfl)
theorem dX13_is_134 : decode cX13_is 134 = .ok (.iconst 0, 1) := dk_3 (dk_at dksX13_is_5 10 rfl rfl)
theorem dX13_is_135 : decode cX13_is 135 = .ok (.ireturn, 1) := dk_172 (dk_at dksX13_is_5 11 rfl rfl)
theorem dX13_is_136 : decode cX13_is 136 = .ok (.lload_n 2, 1) := dk_32 (dk_at dksX13_is_5 12 rfl rfl)
theorem dX13_is_137 : decode cX13_is 137 = .ok (.lconst 0, 1) := dk_9 (dk_at dksX13_is_5 13 rfl rfl)
theorem dX13_is_138 : decode cX13_is 138 = .ok (.lcmp, 1) := dk_148 (dk_at dksX13_is_5 14 rfl rfl)
theorem dX13_is_139 : decode cX13_is 139 = .ok (.ifCond .lt 7, 3) := dk_155 0 7 (dk_at dksX13_is_5 15 rfl rfl)
theorem dX13_is_142 : decode cX13_is 142 = .ok (.iconst 1, 1) := dk_4 (dk_at dksX13_is_5 18 rfl rfl)
theorem dX13_is_143 : decode cX13_is 143 = .ok (.goto 4, 3) := dk_167 0 4 (dk_at dksX13_is_5 19 rfl rfl)
theorem dX13_is_146 : decode cX13_is 146 = .ok (.iconst 0, 1) := dk_3 (dk_at dksX13_is_5 22 rfl rfl)
theorem dX13_is_147 : decode cX13_is 147 = .ok (.ireturn, 1) := dk_172 (dk_at dksX13_is_5 23 rfl rfl)
theorem q167 : (Jvm.Cond.initialized "VaneCourt$Compared") ∈ lw_all := lw_g (lw_at lw_m1 31 rfl) rfl
theorem q647 : (Jvm.Cond.selects "VaneCourt$Compared" ({ cls := "java/lang/Object", name := "getClass", desc := "()Ljava/lang/Class;" } : Jvm.MethodName) ({ cls := "java/lang/Object", name := "getClass", desc := "()Ljava/lang/Class;" } : Jvm.MethodName)) ∈ lw_all := lw_g (lw_at lw_m3 31 rfl) rfl
theorem q791 : (Jvm.Cond.instantiable "VaneCourt$Compared" (3 : Nat)) ∈ lw_all := lw_g (lw_at lw_m3 175 rfl) rfl
theorem q793 : (Jvm.Cond.instanceMethod ({ cls := "VaneCourt$Compared", name := "<init>", desc := "(ILVaneCourt$Sum;LVaneCourt$Sum;)V" } : Jvm.MethodName)) ∈ lw_all := lw_g (lw_at lw_m3 177 rfl) rfl
theorem q794 : (Jvm.Cond.code ({ cls := "VaneCourt$Compared", name := "<init>", desc := "(ILVaneCourt$Sum;LVaneCourt$Sum;)V" } : Jvm.MethodName) prog_5_method_1_code (4 : Nat) (Option.none : Option Jvm.ClassFile.FieldType)) ∈ lw_all := lw_g (lw_at lw_m3 178 rfl) rfl
theorem q795 : (Jvm.Cond.methodLink "VaneCourt$Compared" (1 : Nat) ({ cls := "java/lang/Record", name := "<init>", desc := "()V" } : Jvm.MethodName)) ∈ lw_all := lw_g (lw_at lw_m3 179 rfl) rfl
theorem q796 : (Jvm.Cond.fieldLink "VaneCourt$Compared" (7 : Nat) "VaneCourt$Compared" "sign" "I") ∈ lw_all := lw_g (lw_at lw_m3 180 rfl) rfl
theorem q797 : (Jvm.Cond.fieldLink "VaneCourt$Compared" (13 : Nat) "VaneCourt$Compared" "a" "LVaneCourt$Sum;") ∈ lw_all := lw_g (lw_at lw_m3 181 rfl) rfl
theorem q798 : (Jvm.Cond.fieldLink "VaneCourt$Compared" (17 : Nat) "VaneCourt$Compared" "b" "LVaneCourt$Sum;") ∈ lw_all := lw_g (lw_at lw_m3 182 rfl) rfl
theorem q799 : (Jvm.Cond.laysFinal "VaneCourt$Compared" "VaneCourt$Compared" "sign" "I") ∈ lw_all := lw_g (lw_at lw_m3 183 rfl) rfl
theorem q800 : (Jvm.Cond.soleField "VaneCourt$Compared" "sign") ∈ lw_all := lw_g (lw_at lw_m3 184 rfl) rfl
theorem q801 : (Jvm.Cond.laysFinal "VaneCourt$Compared" "VaneCourt$Compared" "a" "LVaneCourt$Sum;") ∈ lw_all := lw_g (lw_at lw_m3 185 rfl) rfl
theorem q802 : (Jvm.Cond.soleField "VaneCourt$Compared" "a") ∈ lw_all := lw_g (lw_at lw_m3 186 rfl) rfl
theorem q803 : (Jvm.Cond.laysFinal "VaneCourt$Compared" "VaneCourt$Compared" "b" "LVaneCourt$Sum;") ∈ lw_all := lw_g (lw_at lw_m3 187 rfl) rfl
theorem q804 : (Jvm.Cond.soleField "VaneCourt$Compared" "b") ∈ lw_all := lw_g (lw_at lw_m3 188 rfl) rfl
theorem q805 : (Jvm.Cond.superclass "VaneCourt$Compared" "java/lang/Record") ∈ lw_all := lw_g (lw_at lw_m3 189 rfl) rfl
theorem q943 : (Jvm.Cond.castable "VaneCourt$Compared" "VaneCourt$Asked") ∈ lw_tbl := lw_at lw_m4 87 rfl
theorem q944 : (Jvm.Cond.selects "VaneCourt$Compared" ({ cls := "VaneCourt$Asked", name := "is", desc := "([I)Z" } : Jvm.MethodName) ({ cls := "VaneCourt$Compared", name := "is", desc := "([I)Z" } : Jvm.MethodName)) ∈ lw_all := lw_g (lw_at lw_m4 88 rfl) rfl
theorem q945 : (Jvm.Cond.unhidden "VaneCourt$Compared" "is" "([I)Z") ∈ lw_tbl := lw_at lw_m4 89 rfl
theorem q946 : (Jvm.Cond.instanceMethod ({ cls := "VaneCourt$Compared", name := "is", desc := "([I)Z" } : Jvm.MethodName)) ∈ lw_all := lw_g (lw_at lw_m4 90 rfl) rfl
theorem q947 : (Jvm.Cond.publicMethod ({ cls := "VaneCourt$Compared", name := "is", desc := "([I)Z" } : Jvm.MethodName)) ∈ lw_tbl := lw_at lw_m4 91 rfl
theorem q948 : (Jvm.Cond.code ({ cls := "VaneCourt$Compared", name := "is", desc := "([I)Z" } : Jvm.MethodName) prog_5_method_2_code (4 : Nat) (Option.some Jvm.ClassFile.FieldType.boolean)) ∈ lw_all := lw_g (lw_at lw_m4 92 rfl) rfl
theorem q949 : (Jvm.Cond.interfaceEntry "VaneCourt$Compared" (20 : Nat)) ∈ lw_tbl := lw_at lw_m4 93 rfl
theorem q950 : (Jvm.Cond.methodLink "VaneCourt$Compared" (20 : Nat) ({ cls := "VaneCourt$Sum", name := "of", desc := "([I)J" } : Jvm.MethodName)) ∈ lw_all := lw_g (lw_at lw_m4 94 rfl) rfl
theorem q2042 : (Jvm.Cond.castable "VaneCourt$Compared" "java/lang/Object") ∈ lw_tbl := lw_at lw_m8 226 rfl
theorem in_X13 : ∀ w ∈ wsX130, w ∈ lw_all := lw_in wsX130 [799, 801, 803] (by decide +kernel) (by decide +kernel)
/-! VaneCourt$All -/
set_option maxRecDepth 100000
def RX14 : String := "VaneCourt$All"
def TX14 : u_T := fun k => match k with
  | 0 => ("VaneCourt$All", "and", "Z", true)
  | _ => ("VaneCourt$All", "of", "Ljava/util/ArrayList;", true)
def tyX14 : Nat → FieldType := fun k => match k with
  | 0 => .boolean
  | _ => .object "java/util/ArrayList"
abbrev wsX140 : List Cond := u_ws RX14 TX14 2
theorem nmX14 : ∀ a, a < 2 → ∀ b, b < 2 → a ≠ b → (TX14 a).2.1 ≠ (TX14 b).2.1 := by decide +kernel
theorem tyX14_ok : ∀ k, k < 2 → parseFieldDescriptor (TX14 k).2.2.1 = some (tyX14 k) := by decide +kernel
abbrev cX14_init : ByteArray := prog_2_method_1_code
def yX14_init : MethodName := ⟨RX14, "<init>", "(ZLjava/util/ArrayList;)V"⟩
def dkwX14_init_0 : List UInt8 := [42, 183, 0, 1, 42, 27, 181, 0, 7, 42, 44, 181, 0, 13, 177]
abbrev dktX14_init_0 : List UInt8 := dkwX14_init_0 ++ []
theorem dksX14_init_0 : cX14_init.data.toList.drop 0 = dktX14_init_0 := by decide +kernel
theorem dX14_init_0 : decode cX14_init 0 = .ok (.aload_n 0, 1) := dk_42 (dk_at dksX14_init_0 0 rfl rfl)
theorem dX14_init_1 : decode cX14_init 1 = .ok (.invokespecial 1, 3) := dk_183 0 1 (dk_at dksX14_init_0 1 rfl rfl)
theorem dX14_init_4 : decode cX14_init 4 = .ok (.aload_n 0, 1) := dk_42 (dk_at dksX14_init_0 4 rfl rfl)
theorem dX14_init_5 : decode cX14_init 5 = .ok (.iload_n 1, 1) := dk_27 (dk_at dksX14_init_0 5 rfl rfl)
theorem dX14_init_6 : decode cX14_init 6 = .ok (.putfield 7, 3) := dk_181 0 7 (dk_at dksX14_init_0 6 rfl rfl)
theorem dX14_init_9 : decode cX14_init 9 = .ok (.aload_n 0, 1) := dk_42 (dk_at dksX14_init_0 9 rfl rfl)
theorem dX14_init_10 : decode cX14_init 10 = .ok (.aload_n 2, 1) := dk_44 (dk_at dksX14_init_0 10 rfl rfl)
theorem dX14_init_11 : decode cX14_init 11 = .ok (.putfield 13, 3) := dk_181 0 13 (dk_at dksX14_init_0 11 rfl rfl)
theorem dX14_init_14 : decode cX14_init 14 = .ok (.return_, 1) := dk_177 (dk_at dksX14_init_0 14 rfl rfl)
abbrev cX14_is : ByteArray := prog_2_method_2_code
def yX14_is : MethodName := ⟨RX14, "is", "([I)Z"⟩
def dkwX14_is_3 : List UInt8 := [167, 0, 16, 3, 167, 0, 12, 28, 158, 0, 7, 4, 167, 0, 4, 3, 172]
abbrev dktX14_is_3 : List UInt8 := dkwX14_is_3 ++ []
def dkwX14_is_2 : List UInt8 := [167, 255, 214, 42, 180, 0, 7, 153, 0, 22, 28, 42, 180, 0, 13, 182, 0, 17, 160, 0, 7, 4]
abbrev dktX14_is_2 : List UInt8 := dkwX14_is_2 ++ dktX14_is_3
def dkwX14_is_1 : List UInt8 := [192, 0, 27, 43, 185, 0, 29, 2, 0, 153, 0, 7, 4, 167, 0, 4, 3, 96, 61, 132, 3, 1]
abbrev dktX14_is_1 : List UInt8 := dkwX14_is_1 ++ dktX14_is_2
def dkwX14_is_0 : List UInt8 := [3, 61, 3, 62, 29, 42, 180, 0, 13, 182, 0, 17, 162, 0, 37, 28, 42, 180, 0, 13, 29, 182, 0, 23]
abbrev dktX14_is_0 : List UInt8 := dkwX14_is_0 ++ dktX14_is_1
theorem dksX14_is_0 : cX14_is.data.toList.drop 0 = dktX14_is_0 := by decide +kernel
theorem dksX14_is_1 : cX14_is.data.toList.drop 24 = dktX14_is_1 := dk_seg dksX14_is_0 24 rfl rfl
theorem dksX14_is_2 : cX14_is.data.toList.drop 46 = dktX14_is_2 := dk_seg dksX14_is_1 22 rfl rfl
theorem dksX14_is_3 : cX14_is.data.toList.drop 68 = dktX14_is_3 := dk_seg dksX14_is_2 22 rfl rfl
theorem dX14_is_0 : decode cX14_is 0 = .ok (.iconst 0, 1) := dk_3 (dk_at dksX14_is_0 0 rfl rfl)
theorem dX14_is_1 : decode cX14_is 1 = .ok (.istore_n 2, 1) := dk_61 (dk_at dksX14_is_0 1 rfl rfl)
theorem dX14_is_2 : decode cX14_is 2 = .ok (.iconst 0, 1) := dk_3 (dk_at dksX14_is_0 2 rfl rfl)
theorem dX14_is_3 : decode cX14_is 3 = .ok (.istore_n 3, 1) := dk_62 (dk_at dksX14_is_0 3 rfl rfl)
theorem dX14_is_4 : decode cX14_is 4 = .ok (.iload_n 3, 1) := dk_29 (dk_at dksX14_is_0 4 rfl rfl)
theorem dX14_is_5 : decode cX14_is 5 = .ok (.aload_n 0, 1) := dk_42 (dk_at dksX14_is_0 5 rfl rfl)
theorem dX14_is_6 : decode cX14_is 6 = .ok (.getfield 13, 3) := dk_180 0 13 (dk_at dksX14_is_0 6 rfl rfl)
theorem dX14_is_9 : decode cX14_is 9 = .ok (.invokevirtual 17, 3) := dk_182 0 17 (dk_at dksX14_is_0 9 rfl rfl)
theorem dX14_is_12 : decode cX14_is 12 = .ok (.if_icmp .ge 37, 3) := dk_162 0 37 (dk_at dksX14_is_0 12 rfl rfl)
theorem dX14_is_15 : decode cX14_is 15 = .ok (.iload_n 2, 1) := dk_28 (dk_at dksX14_is_0 15 rfl rfl)
theorem dX14_is_16 : decode cX14_is 16 = .ok (.aload_n 0, 1) := dk_42 (dk_at dksX14_is_0 16 rfl rfl)
theorem dX14_is_17 : decode cX14_is 17 = .ok (.getfield 13, 3) := dk_180 0 13 (dk_at dksX14_is_0 17 rfl rfl)
theorem dX14_is_20 : decode cX14_is 20 = .ok (.iload_n 3, 1) := dk_29 (dk_at dksX14_is_0 20 rfl rfl)
theorem dX14_is_21 : decode cX14_is 21 = .ok (.invokevirtual 23, 3) := dk_182 0 23 (dk_at dksX14_is_0 21 rfl rfl)
theorem dX14_is_24 : decode cX14_is 24 = .ok (.checkcast 27, 3) := dk_192 0 27 (dk_at dksX14_is_1 0 rfl rfl)
theorem dX14_is_27 : decode cX14_is 27 = .ok (.aload_n 1, 1) := dk_43 (dk_at dksX14_is_1 3 rfl rfl)
theorem dX14_is_28 : decode cX14_is 28 = .ok (.invokeinterface 29 2, 5) := by decide +kernel
theorem dX14_is_33 : decode cX14_is 33 = .ok (.ifCond .eq 7, 3) := dk_153 0 7 (dk_at dksX14_is_1 9 rfl rfl)
theorem dX14_is_36 : decode cX14_is 36 = .ok (.iconst 1, 1) := dk_4 (dk_at dksX14_is_1 12 rfl rfl)
theorem dX14_is_37 : decode cX14_is 37 = .ok (.goto 4, 3) := dk_167 0 4 (dk_at dksX14_is_1 13 rfl rfl)
theorem dX14_is_40 : decode cX14_is 40 = .ok (.iconst 0, 1) := dk_3 (dk_at dksX14_is_1 16 rfl rfl)
theorem dX14_is_41 : decode cX14_is 41 = .ok (.iadd, 1) := dk_96 (dk_at dksX14_is_1 17 rfl rfl)
theorem dX14_is_42 : decode cX14_is 42 = .ok (.istore_n 2, 1) := dk_61 (dk_at dksX14_is_1 18 rfl rfl)
theorem dX14_is_43 : decode cX14_is 43 = .ok (.iinc 3 1, 3) := dk_132 3 1 (dk_at dksX14_is_1 19 rfl rfl)
theorem dX14_is_46 : decode cX14_is 46 = .ok (.goto (-42), 3) := dk_167 255 214 (dk_at dksX14_is_2 0 rfl rfl)
theorem dX14_is_49 : decode cX14_is 49 = .ok (.aload_n 0, 1) := dk_42 (dk_at dksX14_is_2 3 rfl rfl)
theorem dX14_is_50 : decode cX14_is 50 = .ok (.getfield 7, 3) := dk_180 0 7 (dk_at dksX14_is_2 4 rfl rfl)
theorem dX14_is_53 : decode cX14_is 53 = .ok (.ifCond .eq 22, 3) := dk_153 0 22 (dk_at dksX14_is_2 7 rfl rfl)
theorem dX14_is_56 : decode cX14_is 56 = .ok (.iload_n 2, 1) := dk_28 (dk_at dksX14_is_2 10 rfl rfl)
theorem dX14_is_57 : decode cX14_is 57 = .ok (.aload_n 0, 1) := dk_42 (dk_at dksX14_is_2 11 rfl rfl)
theorem dX14_is_58 : decode cX14_is 58 = .ok (.getfield 13, 3) := dk_180 0 13 (dk_at dksX14_is_2 12 rfl rfl)
theorem dX14_is_61 : decode cX14_is 61 = .ok (.invokevirtual 17, 3) := dk_182 0 17 (dk_at dksX14_is_2 15 rfl rfl)
theorem dX14_is_64 : decode cX14_is 64 = .ok (.if_icmp .ne 7, 3) := dk_160 0 7 (dk_at dksX14_is_2 18 rfl rfl)
theorem dX14_is_67 : decode cX14_is 67 = .ok (.iconst 1, 1) := dk_4 (dk_at dksX14_is_2 21 rfl rfl)
theorem dX14_is_68 : decode cX14_is 68 = .ok (.goto 16, 3) := dk_167 0 16 (dk_at dksX14_is_3 0 rfl rfl)
theorem dX14_is_71 : decode cX14_is 71 = .ok (.iconst 0, 1) := dk_3 (dk_at dksX14_is_3 3 rfl rfl)
theorem dX14_is_72 : decode cX14_is 72 = .ok (.goto 12, 3) := dk_167 0 12 (dk_at dksX14_is_3 4 rfl rfl)
theorem dX14_is_75 : decode cX14_is 75 = .ok (.iload_n 2, 1) := dk_28 (dk_at dksX14_is_3 7 rfl rfl)
theorem dX14_is_76 : decode cX14_is 76 = .ok (.ifCond .le 7, 3) := dk_158 0 7 (dk_at dksX14_is_3 8 rfl rfl)
theorem dX14_is_79 : decode cX14_is 79 = .ok (.iconst 1, 1) := dk_4 (dk_at dksX14_is_3 11 rfl rfl)
theorem dX14_is_80 : decode cX14_is 80 = .ok (.goto 4, 3) := dk_167 0 4 (dk_at dksX14_is_3 12 rfl rfl)
theorem dX14_is_83 : decode cX14_is 83 = .ok (.iconst 0, 1) := dk_3 (dk_at dksX14_is_3 15 rfl rfl)
theorem dX14_is_84 : decode cX14_is 84 = .ok (.ireturn, 1) := dk_172 (dk_at dksX14_is_3 16 rfl rfl)
theorem q169 : (Jvm.Cond.initialized "VaneCourt$All") ∈ lw_all := lw_g (lw_at lw_m1 33 rfl) rfl
theorem q645 : (Jvm.Cond.selects "VaneCourt$All" ({ cls := "java/lang/Object", name := "getClass", desc := "()Ljava/lang/Class;" } : Jvm.MethodName) ({ cls := "java/lang/Object", name := "getClass", desc := "()Ljava/lang/Class;" } : Jvm.MethodName)) ∈ lw_all := lw_g (lw_at lw_m3 29 rfl) rfl
theorem q820 : (Jvm.Cond.instantiable "VaneCourt$All" (2 : Nat)) ∈ lw_all := lw_g (lw_at lw_m3 204 rfl) rfl
theorem q822 : (Jvm.Cond.instanceMethod ({ cls := "VaneCourt$All", name := "<init>", desc := "(ZLjava/util/ArrayList;)V" } : Jvm.MethodName)) ∈ lw_all := lw_g (lw_at lw_m3 206 rfl) rfl
theorem q823 : (Jvm.Cond.code ({ cls := "VaneCourt$All", name := "<init>", desc := "(ZLjava/util/ArrayList;)V" } : Jvm.MethodName) prog_2_method_1_code (3 : Nat) (Option.none : Option Jvm.ClassFile.FieldType)) ∈ lw_all := lw_g (lw_at lw_m3 207 rfl) rfl
theorem q824 : (Jvm.Cond.methodLink "VaneCourt$All" (1 : Nat) ({ cls := "java/lang/Record", name := "<init>", desc := "()V" } : Jvm.MethodName)) ∈ lw_all := lw_g (lw_at lw_m3 208 rfl) rfl
theorem q825 : (Jvm.Cond.fieldLink "VaneCourt$All" (7 : Nat) "VaneCourt$All" "and" "Z") ∈ lw_all := lw_g (lw_at lw_m3 209 rfl) rfl
theorem q826 : (Jvm.Cond.fieldLink "VaneCourt$All" (13 : Nat) "VaneCourt$All" "of" "Ljava/util/ArrayList;") ∈ lw_all := lw_g (lw_at lw_m3 210 rfl) rfl
theorem q827 : (Jvm.Cond.laysFinal "VaneCourt$All" "VaneCourt$All" "and" "Z") ∈ lw_all := lw_g (lw_at lw_m3 211 rfl) rfl
theorem q828 : (Jvm.Cond.soleField "VaneCourt$All" "and") ∈ lw_all := lw_g (lw_at lw_m3 212 rfl) rfl
theorem q829 : (Jvm.Cond.laysFinal "VaneCourt$All" "VaneCourt$All" "of" "Ljava/util/ArrayList;") ∈ lw_all := lw_g (lw_at lw_m3 213 rfl) rfl
theorem q830 : (Jvm.Cond.soleField "VaneCourt$All" "of") ∈ lw_all := lw_g (lw_at lw_m3 214 rfl) rfl
theorem q831 : (Jvm.Cond.superclass "VaneCourt$All" "java/lang/Record") ∈ lw_all := lw_g (lw_at lw_m3 215 rfl) rfl
theorem q932 : (Jvm.Cond.castable "VaneCourt$All" "VaneCourt$Asked") ∈ lw_tbl := lw_at lw_m4 76 rfl
theorem q933 : (Jvm.Cond.selects "VaneCourt$All" ({ cls := "VaneCourt$Asked", name := "is", desc := "([I)Z" } : Jvm.MethodName) ({ cls := "VaneCourt$All", name := "is", desc := "([I)Z" } : Jvm.MethodName)) ∈ lw_all := lw_g (lw_at lw_m4 77 rfl) rfl
theorem q934 : (Jvm.Cond.unhidden "VaneCourt$All" "is" "([I)Z") ∈ lw_tbl := lw_at lw_m4 78 rfl
theorem q935 : (Jvm.Cond.instanceMethod ({ cls := "VaneCourt$All", name := "is", desc := "([I)Z" } : Jvm.MethodName)) ∈ lw_all := lw_g (lw_at lw_m4 79 rfl) rfl
theorem q936 : (Jvm.Cond.publicMethod ({ cls := "VaneCourt$All", name := "is", desc := "([I)Z" } : Jvm.MethodName)) ∈ lw_tbl := lw_at lw_m4 80 rfl
theorem q937 : (Jvm.Cond.code ({ cls := "VaneCourt$All", name := "is", desc := "([I)Z" } : Jvm.MethodName) prog_2_method_2_code (4 : Nat) (Option.some Jvm.ClassFile.FieldType.boolean)) ∈ lw_all := lw_g (lw_at lw_m4 81 rfl) rfl
theorem q938 : (Jvm.Cond.methodLink "VaneCourt$All" (17 : Nat) ({ cls := "java/util/ArrayList", name := "size", desc := "()I" } : Jvm.MethodName)) ∈ lw_all := lw_g (lw_at lw_m4 82 rfl) rfl
theorem q939 : (Jvm.Cond.methodLink "VaneCourt$All" (23 : Nat) ({ cls := "java/util/ArrayList", name := "get", desc := "(I)Ljava/lang/Object;" } : Jvm.MethodName)) ∈ lw_all := lw_g (lw_at lw_m4 83 rfl) rfl
theorem q940 : (Jvm.Cond.classLink "VaneCourt$All" (27 : Nat) "VaneCourt$Asked") ∈ lw_all := lw_g (lw_at lw_m4 84 rfl) rfl
theorem q941 : (Jvm.Cond.interfaceEntry "VaneCourt$All" (29 : Nat)) ∈ lw_tbl := lw_at lw_m4 85 rfl
theorem q942 : (Jvm.Cond.methodLink "VaneCourt$All" (29 : Nat) ({ cls := "VaneCourt$Asked", name := "is", desc := "([I)Z" } : Jvm.MethodName)) ∈ lw_all := lw_g (lw_at lw_m4 86 rfl) rfl
theorem q2043 : (Jvm.Cond.castable "VaneCourt$All" "java/lang/Object") ∈ lw_tbl := lw_at lw_m8 227 rfl
theorem in_X14 : ∀ w ∈ wsX140, w ∈ lw_all := lw_in wsX140 [827, 829] (by decide +kernel) (by decide +kernel)
/-! VaneCourt$Unless -/
set_option maxRecDepth 100000
def RX15 : String := "VaneCourt$Unless"
def TX15 : u_T := fun k => match k with
  | 0 => ("VaneCourt$Unless", "a", "LVaneCourt$Asked;", true)
  | _ => ("VaneCourt$Unless", "b", "LVaneCourt$Asked;", true)
def tyX15 : Nat → FieldType := fun k => match k with
  | 0 => .object "VaneCourt$Asked"
  | _ => .object "VaneCourt$Asked"
abbrev wsX150 : List Cond := u_ws RX15 TX15 2
theorem nmX15 : ∀ a, a < 2 → ∀ b, b < 2 → a ≠ b → (TX15 a).2.1 ≠ (TX15 b).2.1 := by decide +kernel
theorem tyX15_ok : ∀ k, k < 2 → parseFieldDescriptor (TX15 k).2.2.1 = some (tyX15 k) := by decide +kernel
abbrev cX15_init : ByteArray := prog_17_method_1_code
def yX15_init : MethodName := ⟨RX15, "<init>", "(LVaneCourt$Asked;LVaneCourt$Asked;)V"⟩
def dkwX15_init_0 : List UInt8 := [42, 183, 0, 1, 42, 43, 181, 0, 7, 42, 44, 181, 0, 13, 177]
abbrev dktX15_init_0 : List UInt8 := dkwX15_init_0 ++ []
theorem dksX15_init_0 : cX15_init.data.toList.drop 0 = dktX15_init_0 := by decide +kernel
theorem dX15_init_0 : decode cX15_init 0 = .ok (.aload_n 0, 1) := dk_42 (dk_at dksX15_init_0 0 rfl rfl)
theorem dX15_init_1 : decode cX15_init 1 = .ok (.invokespecial 1, 3) := dk_183 0 1 (dk_at dksX15_init_0 1 rfl rfl)
theorem dX15_init_4 : decode cX15_init 4 = .ok (.aload_n 0, 1) := dk_42 (dk_at dksX15_init_0 4 rfl rfl)
theorem dX15_init_5 : decode cX15_init 5 = .ok (.aload_n 1, 1) := dk_43 (dk_at dksX15_init_0 5 rfl rfl)
theorem dX15_init_6 : decode cX15_init 6 = .ok (.putfield 7, 3) := dk_181 0 7 (dk_at dksX15_init_0 6 rfl rfl)
theorem dX15_init_9 : decode cX15_init 9 = .ok (.aload_n 0, 1) := dk_42 (dk_at dksX15_init_0 9 rfl rfl)
theorem dX15_init_10 : decode cX15_init 10 = .ok (.aload_n 2, 1) := dk_44 (dk_at dksX15_init_0 10 rfl rfl)
theorem dX15_init_11 : decode cX15_init 11 = .ok (.putfield 13, 3) := dk_181 0 13 (dk_at dksX15_init_0 11 rfl rfl)
theorem dX15_init_14 : decode cX15_init 14 = .ok (.return_, 1) := dk_177 (dk_at dksX15_init_0 14 rfl rfl)
abbrev cX15_is : ByteArray := prog_17_method_2_code
def yX15_is : MethodName := ⟨RX15, "is", "([I)Z"⟩
def dkwX15_is_1 : List UInt8 := [153, 0, 11, 29, 154, 0, 7, 4, 167, 0, 4, 3, 172]
abbrev dktX15_is_1 : List UInt8 := dkwX15_is_1 ++ []
def dkwX15_is_0 : List UInt8 := [42, 180, 0, 7, 43, 185, 0, 16, 2, 0, 61, 42, 180, 0, 13, 43, 185, 0, 16, 2, 0, 62, 28]
abbrev dktX15_is_0 : List UInt8 := dkwX15_is_0 ++ dktX15_is_1
theorem dksX15_is_0 : cX15_is.data.toList.drop 0 = dktX15_is_0 := by decide +kernel
theorem dksX15_is_1 : cX15_is.data.toList.drop 23 = dktX15_is_1 := dk_seg dksX15_is_0 23 rfl rfl
theorem dX15_is_0 : decode cX15_is 0 = .ok (.aload_n 0, 1) := dk_42 (dk_at dksX15_is_0 0 rfl rfl)
theorem dX15_is_1 : decode cX15_is 1 = .ok (.getfield 7, 3) := dk_180 0 7 (dk_at dksX15_is_0 1 rfl rfl)
theorem dX15_is_4 : decode cX15_is 4 = .ok (.aload_n 1, 1) := dk_43 (dk_at dksX15_is_0 4 rfl rfl)
theorem dX15_is_5 : decode cX15_is 5 = .ok (.invokeinterface 16 2, 5) := by decide +kernel
theorem dX15_is_10 : decode cX15_is 10 = .ok (.istore_n 2, 1) := dk_61 (dk_at dksX15_is_0 10 rfl rfl)
theorem dX15_is_11 : decode cX15_is 11 = .ok (.aload_n 0, 1) := dk_42 (dk_at dksX15_is_0 11 rfl rfl)
theorem dX15_is_12 : decode cX15_is 12 = .ok (.getfield 13, 3) := dk_180 0 13 (dk_at dksX15_is_0 12 rfl rfl)
theorem dX15_is_15 : decode cX15_is 15 = .ok (.aload_n 1, 1) := dk_43 (dk_at dksX15_is_0 15 rfl rfl)
theorem dX15_is_16 : decode cX15_is 16 = .ok (.invokeinterface 16 2, 5) := by decide +kernel
theorem dX15_is_21 : decode cX15_is 21 = .ok (.istore_n 3, 1) := dk_62 (dk_at dksX15_is_0 21 rfl rfl)
theorem dX15_is_22 : decode cX15_is 22 = .ok (.iload_n 2, 1) := dk_28 (dk_at dksX15_is_0 22 rfl rfl)
theorem dX15_is_23 : decode cX15_is 23 = .ok (.ifCond .eq 11, 3) := dk_153 0 11 (dk_at dksX15_is_1 0 rfl rfl)
theorem dX15_is_26 : decode cX15_is 26 = .ok (.iload_n 3, 1) := dk_29 (dk_at dksX15_is_1 3 rfl rfl)
theorem dX15_is_27 : decode cX15_is 27 = .ok (.ifCond .ne 7, 3) := dk_154 0 7 (dk_at dksX15_is_1 4 rfl rfl)
theorem dX15_is_30 : decode cX15_is 30 = .ok (.iconst 1, 1) := dk_4 (dk_at dksX15_is_1 7 rfl rfl)
theorem dX15_is_31 : decode cX15_is 31 = .ok (.goto 4, 3) := dk_167 0 4 (dk_at dksX15_is_1 8 rfl rfl)
theorem dX15_is_34 : decode cX15_is 34 = .ok (.iconst 0, 1) := dk_3 (dk_at dksX15_is_1 11 rfl rfl)
theorem dX15_is_35 : decode cX15_is 35 = .ok (.ireturn, 1) := dk_172 (dk_at dksX15_is_1 12 rfl rfl)
theorem q170 : (Jvm.Cond.initialized "VaneCourt$Unless") ∈ lw_all := lw_g (lw_at lw_m1 34 rfl) rfl
theorem q658 : (Jvm.Cond.selects "VaneCourt$Unless" ({ cls := "java/lang/Object", name := "getClass", desc := "()Ljava/lang/Class;" } : Jvm.MethodName) ({ cls := "java/lang/Object", name := "getClass", desc := "()Ljava/lang/Class;" } : Jvm.MethodName)) ∈ lw_all := lw_g (lw_at lw_m3 42 rfl) rfl
theorem q833 : (Jvm.Cond.instantiable "VaneCourt$Unless" (2 : Nat)) ∈ lw_all := lw_g (lw_at lw_m3 217 rfl) rfl
theorem q835 : (Jvm.Cond.instanceMethod ({ cls := "VaneCourt$Unless", name := "<init>", desc := "(LVaneCourt$Asked;LVaneCourt$Asked;)V" } : Jvm.MethodName)) ∈ lw_all := lw_g (lw_at lw_m3 219 rfl) rfl
theorem q836 : (Jvm.Cond.code ({ cls := "VaneCourt$Unless", name := "<init>", desc := "(LVaneCourt$Asked;LVaneCourt$Asked;)V" } : Jvm.MethodName) prog_17_method_1_code (3 : Nat) (Option.none : Option Jvm.ClassFile.FieldType)) ∈ lw_all := lw_g (lw_at lw_m3 220 rfl) rfl
theorem q837 : (Jvm.Cond.methodLink "VaneCourt$Unless" (1 : Nat) ({ cls := "java/lang/Record", name := "<init>", desc := "()V" } : Jvm.MethodName)) ∈ lw_all := lw_g (lw_at lw_m3 221 rfl) rfl
theorem q838 : (Jvm.Cond.fieldLink "VaneCourt$Unless" (7 : Nat) "VaneCourt$Unless" "a" "LVaneCourt$Asked;") ∈ lw_all := lw_g (lw_at lw_m3 222 rfl) rfl
theorem q839 : (Jvm.Cond.fieldLink "VaneCourt$Unless" (13 : Nat) "VaneCourt$Unless" "b" "LVaneCourt$Asked;") ∈ lw_all := lw_g (lw_at lw_m3 223 rfl) rfl
theorem q840 : (Jvm.Cond.laysFinal "VaneCourt$Unless" "VaneCourt$Unless" "a" "LVaneCourt$Asked;") ∈ lw_all := lw_g (lw_at lw_m3 224 rfl) rfl
theorem q841 : (Jvm.Cond.soleField "VaneCourt$Unless" "a") ∈ lw_all := lw_g (lw_at lw_m3 225 rfl) rfl
theorem q842 : (Jvm.Cond.laysFinal "VaneCourt$Unless" "VaneCourt$Unless" "b" "LVaneCourt$Asked;") ∈ lw_all := lw_g (lw_at lw_m3 226 rfl) rfl
theorem q843 : (Jvm.Cond.soleField "VaneCourt$Unless" "b") ∈ lw_all := lw_g (lw_at lw_m3 227 rfl) rfl
theorem q844 : (Jvm.Cond.superclass "VaneCourt$Unless" "java/lang/Record") ∈ lw_all := lw_g (lw_at lw_m3 228 rfl) rfl
theorem q1023 : (Jvm.Cond.castable "VaneCourt$Unless" "VaneCourt$Asked") ∈ lw_tbl := lw_at lw_m4 167 rfl
theorem q1024 : (Jvm.Cond.selects "VaneCourt$Unless" ({ cls := "VaneCourt$Asked", name := "is", desc := "([I)Z" } : Jvm.MethodName) ({ cls := "VaneCourt$Unless", name := "is", desc := "([I)Z" } : Jvm.MethodName)) ∈ lw_all := lw_g (lw_at lw_m4 168 rfl) rfl
theorem q1025 : (Jvm.Cond.unhidden "VaneCourt$Unless" "is" "([I)Z") ∈ lw_tbl := lw_at lw_m4 169 rfl
theorem q1026 : (Jvm.Cond.instanceMethod ({ cls := "VaneCourt$Unless", name := "is", desc := "([I)Z" } : Jvm.MethodName)) ∈ lw_all := lw_g (lw_at lw_m4 170 rfl) rfl
theorem q1027 : (Jvm.Cond.publicMethod ({ cls := "VaneCourt$Unless", name := "is", desc := "([I)Z" } : Jvm.MethodName)) ∈ lw_tbl := lw_at lw_m4 171 rfl
theorem q1028 : (Jvm.Cond.code ({ cls := "VaneCourt$Unless", name := "is", desc := "([I)Z" } : Jvm.MethodName) prog_17_method_2_code (4 : Nat) (Option.some Jvm.ClassFile.FieldType.boolean)) ∈ lw_all := lw_g (lw_at lw_m4 172 rfl) rfl
theorem q1029 : (Jvm.Cond.interfaceEntry "VaneCourt$Unless" (16 : Nat)) ∈ lw_tbl := lw_at lw_m4 173 rfl
theorem q1030 : (Jvm.Cond.methodLink "VaneCourt$Unless" (16 : Nat) ({ cls := "VaneCourt$Asked", name := "is", desc := "([I)Z" } : Jvm.MethodName)) ∈ lw_all := lw_g (lw_at lw_m4 174 rfl) rfl
theorem q2044 : (Jvm.Cond.castable "VaneCourt$Unless" "java/lang/Object") ∈ lw_tbl := lw_at lw_m8 228 rfl
theorem in_X15 : ∀ w ∈ wsX150, w ∈ lw_all := lw_in wsX150 [840, 842] (by decide +kernel) (by decide +kernel)
/-! VaneCourt$Doing -/
set_option maxRecDepth 100000
def RX16 : String := "VaneCourt$Doing"
def TX16 : u_T := fun k => match k with
  | 0 => ("VaneCourt$Doing", "sort", "I", true)
  | 1 => ("VaneCourt$Doing", "a", "I", true)
  | 2 => ("VaneCourt$Doing", "b", "I", true)
  | 3 => ("VaneCourt$Doing", "c", "I", true)
  | _ => ("VaneCourt$Doing", "number", "I", true)
def tyX16 : Nat → FieldType := fun k => match k with
  | 0 => .int
  | 1 => .int
  | 2 => .int
  | 3 => .int
  | _ => .int
abbrev wsX160 : List Cond := u_ws RX16 TX16 5
theorem nmX16 : ∀ a, a < 5 → ∀ b, b < 5 → a ≠ b → (TX16 a).2.1 ≠ (TX16 b).2.1 := by decide +kernel
theorem tyX16_ok : ∀ k, k < 5 → parseFieldDescriptor (TX16 k).2.2.1 = some (tyX16 k) := by decide +kernel
abbrev cX16_init : ByteArray := prog_6_method_1_code
def yX16_init : MethodName := ⟨RX16, "<init>", "(IIIII)V"⟩
def dkwX16_init_1 : List UInt8 := [181, 0, 19, 42, 21, 5, 181, 0, 22, 177]
abbrev dktX16_init_1 : List UInt8 := dkwX16_init_1 ++ []
def dkwX16_init_0 : List UInt8 := [42, 183, 0, 1, 42, 27, 181, 0, 7, 42, 28, 181, 0, 13, 42, 29, 181, 0, 16, 42, 21, 4]
abbrev dktX16_init_0 : List UInt8 := dkwX16_init_0 ++ dktX16_init_1
theorem dksX16_init_0 : cX16_init.data.toList.drop 0 = dktX16_init_0 := by decide +kernel
theorem dksX16_init_1 : cX16_init.data.toList.drop 22 = dktX16_init_1 := dk_seg dksX16_init_0 22 rfl rfl
theorem dX16_init_0 : decode cX16_init 0 = .ok (.aload_n 0, 1) := dk_42 (dk_at dksX16_init_0 0 rfl rfl)
theorem dX16_init_1 : decode cX16_init 1 = .ok (.invokespecial 1, 3) := dk_183 0 1 (dk_at dksX16_init_0 1 rfl rfl)
theorem dX16_init_4 : decode cX16_init 4 = .ok (.aload_n 0, 1) := dk_42 (dk_at dksX16_init_0 4 rfl rfl)
theorem dX16_init_5 : decode cX16_init 5 = .ok (.iload_n 1, 1) := dk_27 (dk_at dksX16_init_0 5 rfl rfl)
theorem dX16_init_6 : decode cX16_init 6 = .ok (.putfield 7, 3) := dk_181 0 7 (dk_at dksX16_init_0 6 rfl rfl)
theorem dX16_init_9 : decode cX16_init 9 = .ok (.aload_n 0, 1) := dk_42 (dk_at dksX16_init_0 9 rfl rfl)
theorem dX16_init_10 : decode cX16_init 10 = .ok (.iload_n 2, 1) := dk_28 (dk_at dksX16_init_0 10 rfl rfl)
theorem dX16_init_11 : decode cX16_init 11 = .ok (.putfield 13, 3) := dk_181 0 13 (dk_at dksX16_init_0 11 rfl rfl)
theorem dX16_init_14 : decode cX16_init 14 = .ok (.aload_n 0, 1) := dk_42 (dk_at dksX16_init_0 14 rfl rfl)
theorem dX16_init_15 : decode cX16_init 15 = .ok (.iload_n 3, 1) := dk_29 (dk_at dksX16_init_0 15 rfl rfl)
theorem dX16_init_16 : decode cX16_init 16 = .ok (.putfield 16, 3) := dk_181 0 16 (dk_at dksX16_init_0 16 rfl rfl)
theorem dX16_init_19 : decode cX16_init 19 = .ok (.aload_n 0, 1) := dk_42 (dk_at dksX16_init_0 19 rfl rfl)
theorem dX16_init_20 : decode cX16_init 20 = .ok (.iload 4, 2) := dk_21 4 (dk_at dksX16_init_0 20 rfl rfl)
theorem dX16_init_22 : decode cX16_init 22 = .ok (.putfield 19, 3) := dk_181 0 19 (dk_at dksX16_init_1 0 rfl rfl)
theorem dX16_init_25 : decode cX16_init 25 = .ok (.aload_n 0, 1) := dk_42 (dk_at dksX16_init_1 3 rfl rfl)
theorem dX16_init_26 : decode cX16_init 26 = .ok (.iload 5, 2) := dk_21 5 (dk_at dksX16_init_1 4 rfl rfl)
theorem dX16_init_28 : decode cX16_init 28 = .ok (.putfield 22, 3) := dk_181 0 22 (dk_at dksX16_init_1 6 rfl rfl)
theorem dX16_init_31 : decode cX16_init 31 = .ok (.return_, 1) := dk_177 (dk_at dksX16_init_1 9 rfl rfl)
abbrev cX16_sort : ByteArray := prog_6_method_5_code
def yX16_sort : MethodName := ⟨RX16, "sort", "()I"⟩
theorem dX16_sort_0 : decode cX16_sort 0 = .ok (.aload_n 0, 1) := by decide +kernel
theorem dX16_sort_1 : decode cX16_sort 1 = .ok (.getfield 7, 3) := by decide +kernel
theorem dX16_sort_4 : decode cX16_sort 4 = .ok (.ireturn, 1) := by decide +kernel
abbrev cX16_a : ByteArray := prog_6_method_6_code
def yX16_a : MethodName := ⟨RX16, "a", "()I"⟩
theorem dX16_a_0 : decode cX16_a 0 = .ok (.aload_n 0, 1) := by decide +kernel
theorem dX16_a_1 : decode cX16_a 1 = .ok (.getfield 13, 3) := by decide +kernel
theorem dX16_a_4 : decode cX16_a 4 = .ok (.ireturn, 1) := by decide +kernel
abbrev cX16_b : ByteArray := prog_6_method_7_code
def yX16_b : MethodName := ⟨RX16, "b", "()I"⟩
theorem dX16_b_0 : decode cX16_b 0 = .ok (.aload_n 0, 1) := by decide +kernel
theorem dX16_b_1 : decode cX16_b 1 = .ok (.getfield 16, 3) := by decide +kernel
theorem dX16_b_4 : decode cX16_b 4 = .ok (.ireturn, 1) := by decide +kernel
abbrev cX16_c : ByteArray := prog_6_method_8_code
def yX16_c : MethodName := ⟨RX16, "c", "()I"⟩
theorem dX16_c_0 : decode cX16_c 0 = .ok (.aload_n 0, 1) := by decide +kernel
theorem dX16_c_1 : decode cX16_c 1 = .ok (.getfield 19, 3) := by decide +kernel
theorem dX16_c_4 : decode cX16_c 4 = .ok (.ireturn, 1) := by decide +kernel
abbrev cX16_number : ByteArray := prog_6_method_9_code
def yX16_number : MethodName := ⟨RX16, "number", "()I"⟩
theorem dX16_number_0 : decode cX16_number 0 = .ok (.aload_n 0, 1) := by decide +kernel
theorem dX16_number_1 : decode cX16_number 1 = .ok (.getfield 22, 3) := by decide +kernel
theorem dX16_number_4 : decode cX16_number 4 = .ok (.ireturn, 1) := by decide +kernel
theorem q171 : (Jvm.Cond.initialized "VaneCourt$Doing") ∈ lw_all := lw_g (lw_at lw_m1 35 rfl) rfl
theorem q648 : (Jvm.Cond.selects "VaneCourt$Doing" ({ cls := "java/lang/Object", name := "getClass", desc := "()Ljava/lang/Class;" } : Jvm.MethodName) ({ cls := "java/lang/Object", name := "getClass", desc := "()Ljava/lang/Class;" } : Jvm.MethodName)) ∈ lw_all := lw_g (lw_at lw_m3 32 rfl) rfl
theorem q854 : (Jvm.Cond.instantiable "VaneCourt$Doing" (5 : Nat)) ∈ lw_all := lw_g (lw_at lw_m3 238 rfl) rfl
theorem q856 : (Jvm.Cond.instanceMethod ({ cls := "VaneCourt$Doing", name := "<init>", desc := "(IIIII)V" } : Jvm.MethodName)) ∈ lw_all := lw_g (lw_at lw_m4 0 rfl) rfl
theorem q857 : (Jvm.Cond.code ({ cls := "VaneCourt$Doing", name := "<init>", desc := "(IIIII)V" } : Jvm.MethodName) prog_6_method_1_code (6 : Nat) (Option.none : Option Jvm.ClassFile.FieldType)) ∈ lw_all := lw_g (lw_at lw_m4 1 rfl) rfl
theorem q858 : (Jvm.Cond.methodLink "VaneCourt$Doing" (1 : Nat) ({ cls := "java/lang/Record", name := "<init>", desc := "()V" } : Jvm.MethodName)) ∈ lw_all := lw_g (lw_at lw_m4 2 rfl) rfl
theorem q859 : (Jvm.Cond.fieldLink "VaneCourt$Doing" (7 : Nat) "VaneCourt$Doing" "sort" "I") ∈ lw_all := lw_g (lw_at lw_m4 3 rfl) rfl
theorem q860 : (Jvm.Cond.fieldLink "VaneCourt$Doing" (13 : Nat) "VaneCourt$Doing" "a" "I") ∈ lw_all := lw_g (lw_at lw_m4 4 rfl) rfl
theorem q861 : (Jvm.Cond.fieldLink "VaneCourt$Doing" (16 : Nat) "VaneCourt$Doing" "b" "I") ∈ lw_all := lw_g (lw_at lw_m4 5 rfl) rfl
theorem q862 : (Jvm.Cond.fieldLink "VaneCourt$Doing" (19 : Nat) "VaneCourt$Doing" "c" "I") ∈ lw_all := lw_g (lw_at lw_m4 6 rfl) rfl
theorem q863 : (Jvm.Cond.fieldLink "VaneCourt$Doing" (22 : Nat) "VaneCourt$Doing" "number" "I") ∈ lw_all := lw_g (lw_at lw_m4 7 rfl) rfl
theorem q864 : (Jvm.Cond.laysFinal "VaneCourt$Doing" "VaneCourt$Doing" "sort" "I") ∈ lw_all := lw_g (lw_at lw_m4 8 rfl) rfl
theorem q865 : (Jvm.Cond.soleField "VaneCourt$Doing" "sort") ∈ lw_all := lw_g (lw_at lw_m4 9 rfl) rfl
theorem q866 : (Jvm.Cond.laysFinal "VaneCourt$Doing" "VaneCourt$Doing" "a" "I") ∈ lw_all := lw_g (lw_at lw_m4 10 rfl) rfl
theorem q867 : (Jvm.Cond.soleField "VaneCourt$Doing" "a") ∈ lw_all := lw_g (lw_at lw_m4 11 rfl) rfl
theorem q868 : (Jvm.Cond.laysFinal "VaneCourt$Doing" "VaneCourt$Doing" "b" "I") ∈ lw_all := lw_g (lw_at lw_m4 12 rfl) rfl
theorem q869 : (Jvm.Cond.soleField "VaneCourt$Doing" "b") ∈ lw_all := lw_g (lw_at lw_m4 13 rfl) rfl
theorem q870 : (Jvm.Cond.laysFinal "VaneCourt$Doing" "VaneCourt$Doing" "c" "I") ∈ lw_all := lw_g (lw_at lw_m4 14 rfl) rfl
theorem q871 : (Jvm.Cond.soleField "VaneCourt$Doing" "c") ∈ lw_all := lw_g (lw_at lw_m4 15 rfl) rfl
theorem q872 : (Jvm.Cond.laysFinal "VaneCourt$Doing" "VaneCourt$Doing" "number" "I") ∈ lw_all := lw_g (lw_at lw_m4 16 rfl) rfl
theorem q873 : (Jvm.Cond.soleField "VaneCourt$Doing" "number") ∈ lw_all := lw_g (lw_at lw_m4 17 rfl) rfl
theorem q874 : (Jvm.Cond.superclass "VaneCourt$Doing" "java/lang/Record") ∈ lw_all := lw_g (lw_at lw_m4 18 rfl) rfl
theorem q1127 : (Jvm.Cond.instanceMethod ({ cls := "VaneCourt$Doing", name := "sort", desc := "()I" } : Jvm.MethodName)) ∈ lw_all := lw_g (lw_at lw_m5 31 rfl) rfl
theorem q1128 : (Jvm.Cond.selects "VaneCourt$Doing" ({ cls := "VaneCourt$Doing", name := "sort", desc := "()I" } : Jvm.MethodName) ({ cls := "VaneCourt$Doing", name := "sort", desc := "()I" } : Jvm.MethodName)) ∈ lw_all := lw_g (lw_at lw_m5 32 rfl) rfl
theorem q1129 : (Jvm.Cond.code ({ cls := "VaneCourt$Doing", name := "sort", desc := "()I" } : Jvm.MethodName) prog_6_method_5_code (1 : Nat) (Option.some Jvm.ClassFile.FieldType.int)) ∈ lw_all := lw_g (lw_at lw_m5 33 rfl) rfl
theorem q1131 : (Jvm.Cond.instanceMethod ({ cls := "VaneCourt$Doing", name := "a", desc := "()I" } : Jvm.MethodName)) ∈ lw_all := lw_g (lw_at lw_m5 35 rfl) rfl
theorem q1132 : (Jvm.Cond.selects "VaneCourt$Doing" ({ cls := "VaneCourt$Doing", name := "a", desc := "()I" } : Jvm.MethodName) ({ cls := "VaneCourt$Doing", name := "a", desc := "()I" } : Jvm.MethodName)) ∈ lw_all := lw_g (lw_at lw_m5 36 rfl) rfl
theorem q1133 : (Jvm.Cond.code ({ cls := "VaneCourt$Doing", name := "a", desc := "()I" } : Jvm.MethodName) prog_6_method_6_code (1 : Nat) (Option.some Jvm.ClassFile.FieldType.int)) ∈ lw_all := lw_g (lw_at lw_m5 37 rfl) rfl
theorem q1135 : (Jvm.Cond.instanceMethod ({ cls := "VaneCourt$Doing", name := "b", desc := "()I" } : Jvm.MethodName)) ∈ lw_all := lw_g (lw_at lw_m5 39 rfl) rfl
theorem q1136 : (Jvm.Cond.selects "VaneCourt$Doing" ({ cls := "VaneCourt$Doing", name := "b", desc := "()I" } : Jvm.MethodName) ({ cls := "VaneCourt$Doing", name := "b", desc := "()I" } : Jvm.MethodName)) ∈ lw_all := lw_g (lw_at lw_m5 40 rfl) rfl
theorem q1137 : (Jvm.Cond.code ({ cls := "VaneCourt$Doing", name := "b", desc := "()I" } : Jvm.MethodName) prog_6_method_7_code (1 : Nat) (Option.some Jvm.ClassFile.FieldType.int)) ∈ lw_all := lw_g (lw_at lw_m5 41 rfl) rfl
theorem q1139 : (Jvm.Cond.instanceMethod ({ cls := "VaneCourt$Doing", name := "c", desc := "()I" } : Jvm.MethodName)) ∈ lw_all := lw_g (lw_at lw_m5 43 rfl) rfl
theorem q1140 : (Jvm.Cond.selects "VaneCourt$Doing" ({ cls := "VaneCourt$Doing", name := "c", desc := "()I" } : Jvm.MethodName) ({ cls := "VaneCourt$Doing", name := "c", desc := "()I" } : Jvm.MethodName)) ∈ lw_all := lw_g (lw_at lw_m5 44 rfl) rfl
theorem q1141 : (Jvm.Cond.code ({ cls := "VaneCourt$Doing", name := "c", desc := "()I" } : Jvm.MethodName) prog_6_method_8_code (1 : Nat) (Option.some Jvm.ClassFile.FieldType.int)) ∈ lw_all := lw_g (lw_at lw_m5 45 rfl) rfl
theorem q1154 : (Jvm.Cond.instanceMethod ({ cls := "VaneCourt$Doing", name := "number", desc := "()I" } : Jvm.MethodName)) ∈ lw_all := lw_g (lw_at lw_m5 58 rfl) rfl
theorem q1155 : (Jvm.Cond.selects "VaneCourt$Doing" ({ cls := "VaneCourt$Doing", name := "number", desc := "()I" } : Jvm.MethodName) ({ cls := "VaneCourt$Doing", name := "number", desc := "()I" } : Jvm.MethodName)) ∈ lw_all := lw_g (lw_at lw_m5 59 rfl) rfl
theorem q1156 : (Jvm.Cond.code ({ cls := "VaneCourt$Doing", name := "number", desc := "()I" } : Jvm.MethodName) prog_6_method_9_code (1 : Nat) (Option.some Jvm.ClassFile.FieldType.int)) ∈ lw_all := lw_g (lw_at lw_m5 60 rfl) rfl
theorem q2045 : (Jvm.Cond.castable "VaneCourt$Doing" "java/lang/Object") ∈ lw_tbl := lw_at lw_m8 229 rfl
theorem in_X16 : ∀ w ∈ wsX160, w ∈ lw_all := lw_in wsX160 [864, 866, 868, 870, 872] (by decide +kernel) (by decide +kernel)
/-! VaneCourt$Tokens -/
set_option maxRecDepth 100000
def RX3 : String := "VaneCourt$Tokens"
def TX3 : u_T := fun k => match k with
  | 0 => ("VaneCourt$Tokens", "text", "[B", true)
  | 1 => ("VaneCourt$Tokens", "size", "I", true)
  | 2 => ("VaneCourt$Tokens", "at", "I", false)
  | 3 => ("VaneCourt$Tokens", "token", "I", false)
  | 4 => ("VaneCourt$Tokens", "sort", "I", false)
  | 5 => ("VaneCourt$Tokens", "number", "I", false)
  | 6 => ("VaneCourt$Tokens", "open", "I", false)
  | _ => ("VaneCourt$Tokens", "kind", "I", false)
def tyX3 : Nat → FieldType := fun k => match k with
  | 0 => .array .byte
  | 1 => .int
  | 2 => .int
  | 3 => .int
  | 4 => .int
  | 5 => .int
  | 6 => .int
  | _ => .int
abbrev wsX30 : List Cond := u_ws RX3 TX3 8
theorem nmX3 : ∀ a, a < 8 → ∀ b, b < 8 → a ≠ b → (TX3 a).2.1 ≠ (TX3 b).2.1 := by decide +kernel
theorem tyX3_ok : ∀ k, k < 8 → parseFieldDescriptor (TX3 k).2.2.1 = some (tyX3 k) := by decide +kernel
abbrev cX3_init : ByteArray := prog_16_method_1_code
def yX3_init : MethodName := ⟨RX3, "<init>", "([BI)V"⟩
def dkwX3_init_0 : List UInt8 := [42, 183, 0, 3, 42, 43, 181, 0, 9, 42, 28, 181, 0, 15, 177]
abbrev dktX3_init_0 : List UInt8 := dkwX3_init_0 ++ []
theorem dksX3_init_0 : cX3_init.data.toList.drop 0 = dktX3_init_0 := by decide +kernel
theorem dX3_init_0 : decode cX3_init 0 = .ok (.aload_n 0, 1) := dk_42 (dk_at dksX3_init_0 0 rfl rfl)
theorem dX3_init_1 : decode cX3_init 1 = .ok (.invokespecial 3, 3) := dk_183 0 3 (dk_at dksX3_init_0 1 rfl rfl)
theorem dX3_init_4 : decode cX3_init 4 = .ok (.aload_n 0, 1) := dk_42 (dk_at dksX3_init_0 4 rfl rfl)
theorem dX3_init_5 : decode cX3_init 5 = .ok (.aload_n 1, 1) := dk_43 (dk_at dksX3_init_0 5 rfl rfl)
theorem dX3_init_6 : decode cX3_init 6 = .ok (.putfield 9, 3) := dk_181 0 9 (dk_at dksX3_init_0 6 rfl rfl)
theorem dX3_init_9 : decode cX3_init 9 = .ok (.aload_n 0, 1) := dk_42 (dk_at dksX3_init_0 9 rfl rfl)
theorem dX3_init_10 : decode cX3_init 10 = .ok (.iload_n 2, 1) := dk_28 (dk_at dksX3_init_0 10 rfl rfl)
theorem dX3_init_11 : decode cX3_init 11 = .ok (.putfield 15, 3) := dk_181 0 15 (dk_at dksX3_init_0 11 rfl rfl)
theorem dX3_init_14 : decode cX3_init 14 = .ok (.return_, 1) := dk_177 (dk_at dksX3_init_0 14 rfl rfl)
abbrev cX3_read : ByteArray := prog_16_method_10_code
def yX3_read : MethodName := ⟨RX3, "read", "()LVaneCourt$Text;"⟩
def dkwX3_read_7 : List UInt8 := [4, 96, 181, 0, 100, 167, 255, 97, 43, 176]
abbrev dktX3_read_7 : List UInt8 := dkwX3_read_7 ++ []
def dkwX3_read_6 : List UInt8 := [182, 0, 70, 191, 42, 182, 0, 74, 42, 43, 182, 0, 103, 42, 16, 59, 182, 0, 107, 43, 89, 180, 0, 100]
abbrev dktX3_read_6 : List UInt8 := dkwX3_read_6 ++ dktX3_read_7
def dkwX3_read_5 : List UInt8 := [180, 0, 97, 198, 0, 9, 42, 7, 182, 0, 70, 191, 43, 180, 0, 100, 16, 24, 160, 0, 10, 42, 16, 6]
abbrev dktX3_read_5 : List UInt8 := dkwX3_read_5 ++ dktX3_read_6
def dkwX3_read_4 : List UInt8 := [17, 0, 203, 160, 0, 10, 43, 180, 0, 93, 199, 0, 20, 42, 180, 0, 83, 17, 0, 204, 160, 0, 16, 43]
abbrev dktX3_read_4 : List UInt8 := dkwX3_read_4 ++ dktX3_read_5
def dkwX3_read_3 : List UInt8 := [199, 0, 54, 42, 180, 0, 83, 17, 0, 202, 160, 0, 10, 43, 180, 0, 90, 199, 0, 37, 42, 180, 0, 83]
abbrev dktX3_read_3 : List UInt8 := dkwX3_read_3 ++ dktX3_read_4
def dkwX3_read_2 : List UInt8 := [191, 42, 42, 180, 0, 25, 181, 0, 83, 42, 180, 0, 83, 17, 0, 201, 160, 0, 10, 43, 180, 0, 86]
abbrev dktX3_read_2 : List UInt8 := dkwX3_read_2 ++ dktX3_read_3
def dkwX3_read_1 : List UInt8 := [180, 0, 25, 17, 0, 200, 161, 0, 13, 42, 180, 0, 25, 17, 0, 211, 164, 0, 9, 42, 4, 182, 0, 70]
abbrev dktX3_read_1 : List UInt8 := dkwX3_read_1 ++ dktX3_read_2
def dkwX3_read_0 : List UInt8 := [187, 0, 80, 89, 183, 0, 82, 76, 42, 182, 0, 74, 42, 180, 0, 25, 17, 1, 45, 159, 0, 155, 42]
abbrev dktX3_read_0 : List UInt8 := dkwX3_read_0 ++ dktX3_read_1
theorem dksX3_read_0 : cX3_read.data.toList.drop 0 = dktX3_read_0 := by decide +kernel
theorem dksX3_read_1 : cX3_read.data.toList.drop 23 = dktX3_read_1 := dk_seg dksX3_read_0 23 rfl rfl
theorem dksX3_read_2 : cX3_read.data.toList.drop 47 = dktX3_read_2 := dk_seg dksX3_read_1 24 rfl rfl
theorem dksX3_read_3 : cX3_read.data.toList.drop 70 = dktX3_read_3 := dk_seg dksX3_read_2 23 rfl rfl
theorem dksX3_read_4 : cX3_read.data.toList.drop 94 = dktX3_read_4 := dk_seg dksX3_read_3 24 rfl rfl
theorem dksX3_read_5 : cX3_read.data.toList.drop 118 = dktX3_read_5 := dk_seg dksX3_read_4 24 rfl rfl
theorem dksX3_read_6 : cX3_read.data.toList.drop 142 = dktX3_read_6 := dk_seg dksX3_read_5 24 rfl rfl
theorem dksX3_read_7 : cX3_read.data.toList.drop 166 = dktX3_read_7 := dk_seg dksX3_read_6 24 rfl rfl
theorem dX3_read_0 : decode cX3_read 0 = .ok (.new 80, 3) := dk_187 0 80 (dk_at dksX3_read_0 0 rfl rfl)
theorem dX3_read_3 : decode cX3_read 3 = .ok (.dup, 1) := dk_89 (dk_at dksX3_read_0 3 rfl rfl)
theorem dX3_read_4 : decode cX3_read 4 = .ok (.invokespecial 82, 3) := dk_183 0 82 (dk_at dksX3_read_0 4 rfl rfl)
theorem dX3_read_7 : decode cX3_read 7 = .ok (.astore_n 1, 1) := dk_76 (dk_at dksX3_read_0 7 rfl rfl)
theorem dX3_read_8 : decode cX3_read 8 = .ok (.aload_n 0, 1) := dk_42 (dk_at dksX3_read_0 8 rfl rfl)
theorem dX3_read_9 : decode cX3_read 9 = .ok (.invokevirtual 74, 3) := dk_182 0 74 (dk_at dksX3_read_0 9 rfl rfl)
theorem dX3_read_12 : decode cX3_read 12 = .ok (.aload_n 0, 1) := dk_42 (dk_at dksX3_read_0 12 rfl rfl)
theorem dX3_read_13 : decode cX3_read 13 = .ok (.getfield 25, 3) := dk_180 0 25 (dk_at dksX3_read_0 13 rfl rfl)
theorem dX3_read_16 : decode cX3_read 16 = .ok (.sipush 301, 3) := dk_17 1 45 (dk_at dksX3_read_0 16 rfl rfl)
theorem dX3_read_19 : decode cX3_read 19 = .ok (.if_icmp .eq 155, 3) := dk_159 0 155 (dk_at dksX3_read_0 19 rfl rfl)
theorem dX3_read_22 : decode cX3_read 22 = .ok (.aload_n 0, 1) := dk_42 (dk_at dksX3_read_0 22 rfl rfl)
theorem dX3_read_23 : decode cX3_read 23 = .ok (.getfield 25, 3) := dk_180 0 25 (dk_at dksX3_read_1 0 rfl rfl)
theorem dX3_read_26 : decode cX3_read 26 = .ok (.sipush 200, 3) := dk_17 0 200 (dk_at dksX3_read_1 3 rfl rfl)
theorem dX3_read_29 : decode cX3_read 29 = .ok (.if_icmp .lt 13, 3) := dk_161 0 13 (dk_at dksX3_read_1 6 rfl rfl)
theorem dX3_read_32 : decode cX3_read 32 = .ok (.aload_n 0, 1) := dk_42 (dk_at dksX3_read_1 9 rfl rfl)
theorem dX3_read_33 : decode cX3_read 33 = .ok (.getfield 25, 3) := dk_180 0 25 (dk_at dksX3_read_1 10 rfl rfl)
theorem dX3_read_36 : decode cX3_read 36 = .ok (.sipush 211, 3) := dk_17 0 211 (dk_at dksX3_read_1 13 rfl rfl)
theorem dX3_read_39 : decode cX3_read 39 = .ok (.if_icmp .le 9, 3) := dk_164 0 9 (dk_at dksX3_read_1 16 rfl rfl)
theorem dX3_read_42 : decode cX3_read 42 = .ok (.aload_n 0, 1) := dk_42 (dk_at dksX3_read_1 19 rfl rfl)
theorem dX3_read_43 : decode cX3_read 43 = .ok (.iconst 1, 1) := dk_4 (dk_at dksX3_read_1 20 rfl rfl)
theorem dX3_read_44 : decode cX3_read 44 = .ok (.invokevirtual 70, 3) := dk_182 0 70 (dk_at dksX3_read_1 21 rfl rfl)
theorem dX3_read_47 : decode cX3_read 47 = .ok (.athrow, 1) := dk_191 (dk_at dksX3_read_2 0 rfl rfl)
theorem dX3_read_48 : decode cX3_read 48 = .ok (.aload_n 0, 1) := dk_42 (dk_at dksX3_read_2 1 rfl rfl)
theorem dX3_read_49 : decode cX3_read 49 = .ok (.aload_n 0, 1) := dk_42 (dk_at dksX3_read_2 2 rfl rfl)
theorem dX3_read_50 : decode cX3_read 50 = .ok (.getfield 25, 3) := dk_180 0 25 (dk_at dksX3_read_2 3 rfl rfl)
theorem dX3_read_53 : decode cX3_read 53 = .ok (.putfield 83, 3) := dk_181 0 83 (dk_at dksX3_read_2 6 rfl rfl)
theorem dX3_read_56 : decode cX3_read 56 = .ok (.aload_n 0, 1) := dk_42 (dk_at dksX3_read_2 9 rfl rfl)
theorem dX3_read_57 : decode cX3_read 57 = .ok (.getfield 83, 3) := dk_180 0 83 (dk_at dksX3_read_2 10 rfl rfl)
theorem dX3_read_60 : decode cX3_read 60 = .ok (.sipush 201, 3) := dk_17 0 201 (dk_at dksX3_read_2 13 rfl rfl)
theorem dX3_read_63 : decode cX3_read 63 = .ok (.if_icmp .ne 10, 3) := dk_160 0 10 (dk_at dksX3_read_2 16 rfl rfl)
theorem dX3_read_66 : decode cX3_read 66 = .ok (.aload_n 1, 1) := dk_43 (dk_at dksX3_read_2 19 rfl rfl)
theorem dX3_read_67 : decode cX3_read 67 = .ok (.getfield 86, 3) := dk_180 0 86 (dk_at dksX3_read_2 20 rfl rfl)
theorem dX3_read_70 : decode cX3_read 70 = .ok (.ifnonnull 54, 3) := dk_199 0 54 (dk_at dksX3_read_3 0 rfl rfl)
theorem dX3_read_73 : decode cX3_read 73 = .ok (.aload_n 0, 1) := dk_42 (dk_at dksX3_read_3 3 rfl rfl)
theorem dX3_read_74 : decode cX3_read 74 = .ok (.getfield 83, 3) := dk_180 0 83 (dk_at dksX3_read_3 4 rfl rfl)
theorem dX3_read_77 : decode cX3_read 77 = .ok (.sipush 202, 3) := dk_17 0 202 (dk_at dksX3_read_3 7 rfl rfl)
theorem dX3_read_80 : decode cX3_read 80 = .ok (.if_icmp .ne 10, 3) := dk_160 0 10 (dk_at dksX3_read_3 10 rfl rfl)
theorem dX3_read_83 : decode cX3_read 83 = .ok (.aload_n 1, 1) := dk_43 (dk_at dksX3_read_3 13 rfl rfl)
theorem dX3_read_84 : decode cX3_read 84 = .ok (.getfield 90, 3) := dk_180 0 90 (dk_at dksX3_read_3 14 rfl rfl)
theorem dX3_read_87 : decode cX3_read 87 = .ok (.ifnonnull 37, 3) := dk_199 0 37 (dk_at dksX3_read_3 17 rfl rfl)
theorem dX3_read_90 : decode cX3_read 90 = .ok (.aload_n 0, 1) := dk_42 (dk_at dksX3_read_3 20 rfl rfl)
theorem dX3_read_91 : decode cX3_read 91 = .ok (.getfield 83, 3) := dk_180 0 83 (dk_at dksX3_read_3 21 rfl rfl)
theorem dX3_read_94 : decode cX3_read 94 = .ok (.sipush 203, 3) := dk_17 0 203 (dk_at dksX3_read_4 0 rfl rfl)
theorem dX3_read_97 : decode cX3_read 97 = .ok (.if_icmp .ne 10, 3) := dk_160 0 10 (dk_at dksX3_read_4 3 rfl rfl)
theorem dX3_read_100 : decode cX3_read 100 = .ok (.aload_n 1, 1) := dk_43 (dk_at dksX3_read_4 6 rfl rfl)
theorem dX3_read_101 : decode cX3_read 101 = .ok (.getfield 93, 3) := dk_180 0 93 (dk_at dksX3_read_4 7 rfl rfl)
theorem dX3_read_104 : decode cX3_read 104 = .ok (.ifnonnull 20, 3) := dk_199 0 20 (dk_at dksX3_read_4 10 rfl rfl)
theorem dX3_read_107 : decode cX3_read 107 = .ok (.aload_n 0, 1) := dk_42 (dk_at dksX3_read_4 13 rfl rfl)
theorem dX3_read_108 : decode cX3_read 108 = .ok (.getfield 83, 3) := dk_180 0 83 (dk_at dksX3_read_4 14 rfl rfl)
theorem dX3_read_111 : decode cX3_read 111 = .ok (.sipush 204, 3) := dk_17 0 204 (dk_at dksX3_read_4 17 rfl rfl)
theorem dX3_read_114 : decode cX3_read 114 = .ok (.if_icmp .ne 16, 3) := dk_160 0 16 (dk_at dksX3_read_4 20 rfl rfl)
theorem dX3_read_117 : decode cX3_read 117 = .ok (.aload_n 1, 1) := dk_43 (dk_at dksX3_read_4 23 rfl rfl)
theorem dX3_read_118 : decode cX3_read 118 = .ok (.getfield 97, 3) := dk_180 0 97 (dk_at dksX3_read_5 0 rfl rfl)
theorem dX3_read_121 : decode cX3_read 121 = .ok (.ifnull 9, 3) := dk_198 0 9 (dk_at dksX3_read_5 3 rfl rfl)
theorem dX3_read_124 : decode cX3_read 124 = .ok (.aload_n 0, 1) := dk_42 (dk_at dksX3_read_5 6 rfl rfl)
theorem dX3_read_125 : decode cX3_read 125 = .ok (.iconst 4, 1) := dk_7 (dk_at dksX3_read_5 7 rfl rfl)
theorem dX3_read_126 : decode cX3_read 126 = .ok (.invokevirtual 70, 3) := dk_182 0 70 (dk_at dksX3_read_5 8 rfl rfl)
theorem dX3_read_129 : decode cX3_read 129 = .ok (.athrow, 1) := dk_191 (dk_at dksX3_read_5 11 rfl rfl)
theorem dX3_read_130 : decode cX3_read 130 = .ok (.aload_n 1, 1) := dk_43 (dk_at dksX3_read_5 12 rfl rfl)
theorem dX3_read_131 : decode cX3_read 131 = .ok (.getfield 100, 3) := dk_180 0 100 (dk_at dksX3_read_5 13 rfl rfl)
theorem dX3_read_134 : decode cX3_read 134 = .ok (.bipush 24, 2) := dk_16 24 (dk_at dksX3_read_5 16 rfl rfl)
theorem dX3_read_136 : decode cX3_read 136 = .ok (.if_icmp .ne 10, 3) := dk_160 0 10 (dk_at dksX3_read_5 18 rfl rfl)
theorem dX3_read_139 : decode cX3_read 139 = .ok (.aload_n 0, 1) := dk_42 (dk_at dksX3_read_5 21 rfl rfl)
theorem dX3_read_140 : decode cX3_read 140 = .ok (.bipush 6, 2) := dk_16 6 (dk_at dksX3_read_5 22 rfl rfl)
theorem dX3_read_142 : decode cX3_read 142 = .ok (.invokevirtual 70, 3) := dk_182 0 70 (dk_at dksX3_read_6 0 rfl rfl)
theorem dX3_read_145 : decode cX3_read 145 = .ok (.athrow, 1) := dk_191 (dk_at dksX3_read_6 3 rfl rfl)
theorem dX3_read_146 : decode cX3_read 146 = .ok (.aload_n 0, 1) := dk_42 (dk_at dksX3_read_6 4 rfl rfl)
theorem dX3_read_147 : decode cX3_read 147 = .ok (.invokevirtual 74, 3) := dk_182 0 74 (dk_at dksX3_read_6 5 rfl rfl)
theorem dX3_read_150 : decode cX3_read 150 = .ok (.aload_n 0, 1) := dk_42 (dk_at dksX3_read_6 8 rfl rfl)
theorem dX3_read_151 : decode cX3_read 151 = .ok (.aload_n 1, 1) := dk_43 (dk_at dksX3_read_6 9 rfl rfl)
theorem dX3_read_152 : decode cX3_read 152 = .ok (.invokevirtual 103, 3) := dk_182 0 103 (dk_at dksX3_read_6 10 rfl rfl)
theorem dX3_read_155 : decode cX3_read 155 = .ok (.aload_n 0, 1) := dk_42 (dk_at dksX3_read_6 13 rfl rfl)
theorem dX3_read_156 : decode cX3_read 156 = .ok (.bipush 59, 2) := dk_16 59 (dk_at dksX3_read_6 14 rfl rfl)
theorem dX3_read_158 : decode cX3_read 158 = .ok (.invokevirtual 107, 3) := dk_182 0 107 (dk_at dksX3_read_6 16 rfl rfl)
theorem dX3_read_161 : decode cX3_read 161 = .ok (.aload_n 1, 1) := dk_43 (dk_at dksX3_read_6 19 rfl rfl)
theorem dX3_read_162 : decode cX3_read 162 = .ok (.dup, 1) := dk_89 (dk_at dksX3_read_6 20 rfl rfl)
theorem dX3_read_163 : decode cX3_read 163 = .ok (.getfield 100, 3) := dk_180 0 100 (dk_at dksX3_read_6 21 rfl rfl)
theorem dX3_read_166 : decode cX3_read 166 = .ok (.iconst 1, 1) := dk_4 (dk_at dksX3_read_7 0 rfl rfl)
theorem dX3_read_167 : decode cX3_read 167 = .ok (.iadd, 1) := dk_96 (dk_at dksX3_read_7 1 rfl rfl)
theorem dX3_read_168 : decode cX3_read 168 = .ok (.putfield 100, 3) := dk_181 0 100 (dk_at dksX3_read_7 2 rfl rfl)
theorem dX3_read_171 : decode cX3_read 171 = .ok (.goto (-159), 3) := dk_167 255 97 (dk_at dksX3_read_7 5 rfl rfl)
theorem dX3_read_174 : decode cX3_read 174 = .ok (.aload_n 1, 1) := dk_43 (dk_at dksX3_read_7 8 rfl rfl)
theorem dX3_read_175 : decode cX3_read 175 = .ok (.areturn, 1) := dk_176 (dk_at dksX3_read_7 9 rfl rfl)
abbrev cX3_next : ByteArray := prog_16_method_4_code
def yX3_next : MethodName := ⟨RX3, "next", "()V"⟩
def dkwX3_next_17 : List UInt8 := [4, 96, 181, 0, 19, 177]
abbrev dktX3_next_17 : List UInt8 := dkwX3_next_17 ++ []
def dkwX3_next_16 : List UInt8 := [42, 27, 16, 60, 160, 0, 9, 17, 1, 47, 167, 0, 6, 17, 1, 48, 181, 0, 25, 42, 89, 180, 0, 19]
abbrev dktX3_next_16 : List UInt8 := dkwX3_next_16 ++ dktX3_next_17
def dkwX3_next_15 : List UInt8 := [180, 0, 19, 42, 180, 0, 15, 162, 0, 46, 42, 180, 0, 9, 42, 180, 0, 19, 51, 16, 61, 160, 0, 32]
abbrev dktX3_next_15 : List UInt8 := dkwX3_next_15 ++ dktX3_next_16
def dkwX3_next_14 : List UInt8 := [42, 27, 181, 0, 25, 132, 2, 1, 167, 255, 229, 27, 16, 60, 159, 0, 9, 27, 16, 62, 160, 0, 57, 42]
abbrev dktX3_next_14 : List UInt8 := dkwX3_next_14 ++ dktX3_next_15
def dkwX3_next_13 : List UInt8 := [181, 0, 25, 3, 61, 28, 18, 53, 182, 0, 55, 162, 0, 24, 18, 53, 28, 182, 0, 61, 27, 160, 0, 8]
abbrev dktX3_next_13 : List UInt8 := dkwX3_next_13 ++ dktX3_next_14
def dkwX3_next_12 : List UInt8 := [42, 180, 0, 9, 42, 180, 0, 19, 51, 60, 42, 89, 180, 0, 19, 4, 96, 181, 0, 19, 42, 17, 1, 46]
abbrev dktX3_next_12 : List UInt8 := dkwX3_next_12 ++ dktX3_next_13
def dkwX3_next_11 : List UInt8 := [51, 96, 16, 48, 100, 184, 0, 47, 181, 0, 43, 42, 89, 180, 0, 19, 4, 96, 181, 0, 19, 167, 255, 191]
abbrev dktX3_next_11 : List UInt8 := dkwX3_next_11 ++ dktX3_next_12
def dkwX3_next_10 : List UInt8 := [184, 0, 40, 153, 0, 170, 42, 18, 46, 16, 10, 42, 180, 0, 43, 104, 42, 180, 0, 9, 42, 180, 0, 19]
abbrev dktX3_next_10 : List UInt8 := dkwX3_next_10 ++ dktX3_next_11
def dkwX3_next_9 : List UInt8 := [181, 0, 43, 42, 180, 0, 19, 42, 180, 0, 15, 162, 0, 185, 42, 180, 0, 9, 42, 180, 0, 19, 51]
abbrev dktX3_next_9 : List UInt8 := dkwX3_next_9 ++ dktX3_next_10
def dkwX3_next_8 : List UInt8 := [42, 180, 0, 9, 42, 180, 0, 19, 51, 184, 0, 40, 153, 0, 83, 42, 17, 1, 44, 181, 0, 25, 42, 3]
abbrev dktX3_next_8 : List UInt8 := dkwX3_next_8 ++ dktX3_next_9
def dkwX3_next_7 : List UInt8 := [182, 0, 36, 153, 0, 12, 42, 17, 0, 200, 27, 96, 181, 0, 25, 132, 1, 1, 167, 255, 224, 167, 0, 223]
abbrev dktX3_next_7 : List UInt8 := dkwX3_next_7 ++ dktX3_next_8
def dkwX3_next_6 : List UInt8 := [17, 1, 46, 181, 0, 25, 3, 60, 27, 178, 0, 32, 190, 162, 0, 30, 42, 178, 0, 32, 27, 50]
abbrev dktX3_next_6 : List UInt8 := dkwX3_next_6 ++ dktX3_next_7
def dkwX3_next_5 : List UInt8 := [180, 0, 19, 51, 184, 0, 28, 153, 0, 16, 42, 89, 180, 0, 19, 4, 96, 181, 0, 19, 167, 255, 220, 42]
abbrev dktX3_next_5 : List UInt8 := dkwX3_next_5 ++ dktX3_next_6
def dkwX3_next_4 : List UInt8 := [184, 0, 28, 153, 0, 89, 42, 180, 0, 19, 42, 180, 0, 15, 162, 0, 31, 42, 180, 0, 9, 42]
abbrev dktX3_next_4 : List UInt8 := dkwX3_next_4 ++ dktX3_next_5
def dkwX3_next_3 : List UInt8 := [160, 0, 13, 42, 17, 1, 45, 181, 0, 25, 167, 1, 68, 42, 180, 0, 9, 42, 180, 0, 19, 51]
abbrev dktX3_next_3 : List UInt8 := dkwX3_next_3 ++ dktX3_next_4
def dkwX3_next_2 : List UInt8 := [181, 0, 19, 167, 255, 207, 42, 42, 180, 0, 19, 181, 0, 22, 42, 180, 0, 19, 42, 180, 0, 15]
abbrev dktX3_next_2 : List UInt8 := dkwX3_next_2 ++ dktX3_next_3
def dkwX3_next_1 : List UInt8 := [159, 0, 17, 42, 180, 0, 9, 42, 180, 0, 19, 51, 16, 10, 160, 0, 16, 42, 89, 180, 0, 19, 4, 96]
abbrev dktX3_next_1 : List UInt8 := dkwX3_next_1 ++ dktX3_next_2
def dkwX3_next_0 : List UInt8 := [42, 180, 0, 19, 42, 180, 0, 15, 162, 0, 44, 42, 180, 0, 9, 42, 180, 0, 19, 51, 16, 32]
abbrev dktX3_next_0 : List UInt8 := dkwX3_next_0 ++ dktX3_next_1
theorem dksX3_next_0 : cX3_next.data.toList.drop 0 = dktX3_next_0 := by decide +kernel
theorem dksX3_next_1 : cX3_next.data.toList.drop 22 = dktX3_next_1 := dk_seg dksX3_next_0 22 rfl rfl
theorem dksX3_next_2 : cX3_next.data.toList.drop 46 = dktX3_next_2 := dk_seg dksX3_next_1 24 rfl rfl
theorem dksX3_next_3 : cX3_next.data.toList.drop 68 = dktX3_next_3 := dk_seg dksX3_next_2 22 rfl rfl
theorem dksX3_next_4 : cX3_next.data.toList.drop 90 = dktX3_next_4 := dk_seg dksX3_next_3 22 rfl rfl
theorem dksX3_next_5 : cX3_next.data.toList.drop 112 = dktX3_next_5 := dk_seg dksX3_next_4 22 rfl rfl
theorem dksX3_next_6 : cX3_next.data.toList.drop 136 = dktX3_next_6 := dk_seg dksX3_next_5 24 rfl rfl
theorem dksX3_next_7 : cX3_next.data.toList.drop 158 = dktX3_next_7 := dk_seg dksX3_next_6 22 rfl rfl
theorem dksX3_next_8 : cX3_next.data.toList.drop 182 = dktX3_next_8 := dk_seg dksX3_next_7 24 rfl rfl
theorem dksX3_next_9 : cX3_next.data.toList.drop 206 = dktX3_next_9 := dk_seg dksX3_next_8 24 rfl rfl
theorem dksX3_next_10 : cX3_next.data.toList.drop 229 = dktX3_next_10 := dk_seg dksX3_next_9 23 rfl rfl
theorem dksX3_next_11 : cX3_next.data.toList.drop 253 = dktX3_next_11 := dk_seg dksX3_next_10 24 rfl rfl
theorem dksX3_next_12 : cX3_next.data.toList.drop 277 = dktX3_next_12 := dk_seg dksX3_next_11 24 rfl rfl
theorem dksX3_next_13 : cX3_next.data.toList.drop 301 = dktX3_next_13 := dk_seg dksX3_next_12 24 rfl rfl
theorem dksX3_next_14 : cX3_next.data.toList.drop 325 = dktX3_next_14 := dk_seg dksX3_next_13 24 rfl rfl
theorem dksX3_next_15 : cX3_next.data.toList.drop 349 = dktX3_next_15 := dk_seg dksX3_next_14 24 rfl rfl
theorem dksX3_next_16 : cX3_next.data.toList.drop 373 = dktX3_next_16 := dk_seg dksX3_next_15 24 rfl rfl
theorem dksX3_next_17 : cX3_next.data.toList.drop 397 = dktX3_next_17 := dk_seg dksX3_next_16 24 rfl rfl
theorem dX3_next_0 : decode cX3_next 0 = .ok (.aload_n 0, 1) := dk_42 (dk_at dksX3_next_0 0 rfl rfl)
theorem dX3_next_1 : decode cX3_next 1 = .ok (.getfield 19, 3) := dk_180 0 19 (dk_at dksX3_next_0 1 rfl rfl)
theorem dX3_next_4 : decode cX3_next 4 = .ok (.aload_n 0, 1) := dk_42 (dk_at dksX3_next_0 4 rfl rfl)
theorem dX3_next_5 : decode cX3_next 5 = .ok (.getfield 15, 3) := dk_180 0 15 (dk_at dksX3_next_0 5 rfl rfl)
theorem dX3_next_8 : decode cX3_next 8 = .ok (.if_icmp .ge 44, 3) := dk_162 0 44 (dk_at dksX3_next_0 8 rfl rfl)
theorem dX3_next_11 : decode cX3_next 11 = .ok (.aload_n 0, 1) := dk_42 (dk_at dksX3_next_0 11 rfl rfl)
theorem dX3_next_12 : decode cX3_next 12 = .ok (.getfield 9, 3) := dk_180 0 9 (dk_at dksX3_next_0 12 rfl rfl)
theorem dX3_next_15 : decode cX3_next 15 = .ok (.aload_n 0, 1) := dk_42 (dk_at dksX3_next_0 15 rfl rfl)
theorem dX3_next_16 : decode cX3_next 16 = .ok (.getfield 19, 3) := dk_180 0 19 (dk_at dksX3_next_0 16 rfl rfl)
theorem dX3_next_19 : decode cX3_next 19 = .ok (.baload, 1) := dk_51 (dk_at dksX3_next_0 19 rfl rfl)
theorem dX3_next_20 : decode cX3_next 20 = .ok (.bipush 32, 2) := dk_16 32 (dk_at dksX3_next_0 20 rfl rfl)
theorem dX3_next_22 : decode cX3_next 22 = .ok (.if_icmp .eq 17, 3) := dk_159 0 17 (dk_at dksX3_next_1 0 rfl rfl)
theorem dX3_next_25 : decode cX3_next 25 = .ok (.aload_n 0, 1) := dk_42 (dk_at dksX3_next_1 3 rfl rfl)
theorem dX3_next_26 : decode cX3_next 26 = .ok (.getfield 9, 3) := dk_180 0 9 (dk_at dksX3_next_1 4 rfl rfl)
theorem dX3_next_29 : decode cX3_next 29 = .ok (.aload_n 0, 1) := dk_42 (dk_at dksX3_next_1 7 rfl rfl)
theorem dX3_next_30 : decode cX3_next 30 = .ok (.getfield 19, 3) := dk_180 0 19 (dk_at dksX3_next_1 8 rfl rfl)
theorem dX3_next_33 : decode cX3_next 33 = .ok (.baload, 1) := dk_51 (dk_at dksX3_next_1 11 rfl rfl)
theorem dX3_next_34 : decode cX3_next 34 = .ok (.bipush 10, 2) := dk_16 10 (dk_at dksX3_next_1 12 rfl rfl)
theorem dX3_next_36 : decode cX3_next 36 = .ok (.if_icmp .ne 16, 3) := dk_160 0 16 (dk_at dksX3_next_1 14 rfl rfl)
theorem dX3_next_39 : decode cX3_next 39 = .ok (.aload_n 0, 1) := dk_42 (dk_at dksX3_next_1 17 rfl rfl)
theorem dX3_next_40 : decode cX3_next 40 = .ok (.dup, 1) := dk_89 (dk_at dksX3_next_1 18 rfl rfl)
theorem dX3_next_41 : decode cX3_next 41 = .ok (.getfield 19, 3) := dk_180 0 19 (dk_at dksX3_next_1 19 rfl rfl)
theorem dX3_next_44 : decode cX3_next 44 = .ok (.iconst 1, 1) := dk_4 (dk_at dksX3_next_1 22 rfl rfl)
theorem dX3_next_45 : decode cX3_next 45 = .ok (.iadd, 1) := dk_96 (dk_at dksX3_next_1 23 rfl rfl)
theorem dX3_next_46 : decode cX3_next 46 = .ok (.putfield 19, 3) := dk_181 0 19 (dk_at dksX3_next_2 0 rfl rfl)
theorem dX3_next_49 : decode cX3_next 49 = .ok (.goto (-49), 3) := dk_167 255 207 (dk_at dksX3_next_2 3 rfl rfl)
theorem dX3_next_52 : decode cX3_next 52 = .ok (.aload_n 0, 1) := dk_42 (dk_at dksX3_next_2 6 rfl rfl)
theorem dX3_next_53 : decode cX3_next 53 = .ok (.aload_n 0, 1) := dk_42 (dk_at dksX3_next_2 7 rfl rfl)
theorem dX3_next_54 : decode cX3_next 54 = .ok (.getfield 19, 3) := dk_180 0 19 (dk_at dksX3_next_2 8 rfl rfl)
theorem dX3_next_57 : decode cX3_next 57 = .ok (.putfield 22, 3) := dk_181 0 22 (dk_at dksX3_next_2 11 rfl rfl)
theorem dX3_next_60 : decode cX3_next 60 = .ok (.aload_n 0, 1) := dk_42 (dk_at dksX3_next_2 14 rfl rfl)
theorem dX3_next_61 : decode cX3_next 61 = .ok (.getfield 19, 3) := dk_180 0 19 (dk_at dksX3_next_2 15 rfl rfl)
theorem dX3_next_64 : decode cX3_next 64 = .ok (.aload_n 0, 1) := dk_42 (dk_at dksX3_next_2 18 rfl rfl)
theorem dX3_next_65 : decode cX3_next 65 = .ok (.getfield 15, 3) := dk_180 0 15 (dk_at dksX3_next_2 19 rfl rfl)
theorem dX3_next_68 : decode cX3_next 68 = .ok (.if_icmp .ne 13, 3) := dk_160 0 13 (dk_at dksX3_next_3 0 rfl rfl)
theorem dX3_next_71 : decode cX3_next 71 = .ok (.aload_n 0, 1) := dk_42 (dk_at dksX3_next_3 3 rfl rfl)
theorem dX3_next_72 : decode cX3_next 72 = .ok (.sipush 301, 3) := dk_17 1 45 (dk_at dksX3_next_3 4 rfl rfl)
theorem dX3_next_75 : decode cX3_next 75 = .ok (.putfield 25, 3) := dk_181 0 25 (dk_at dksX3_next_3 7 rfl rfl)
theorem dX3_next_78 : decode cX3_next 78 = .ok (.goto 324, 3) := dk_167 1 68 (dk_at dksX3_next_3 10 rfl rfl)
theorem dX3_next_81 : decode cX3_next 81 = .ok (.aload_n 0, 1) := dk_42 (dk_at dksX3_next_3 13 rfl rfl)
theorem dX3_next_82 : decode cX3_next 82 = .ok (.getfield 9, 3) := dk_180 0 9 (dk_at dksX3_next_3 14 rfl rfl)
theorem dX3_next_85 : decode cX3_next 85 = .ok (.aload_n 0, 1) := dk_42 (dk_at dksX3_next_3 17 rfl rfl)
theorem dX3_next_86 : decode cX3_next 86 = .ok (.getfield 19, 3) := dk_180 0 19 (dk_at dksX3_next_3 18 rfl rfl)
theorem dX3_next_89 : decode cX3_next 89 = .ok (.baload, 1) := dk_51 (dk_at dksX3_next_3 21 rfl rfl)
theorem dX3_next_90 : decode cX3_next 90 = .ok (.invokestatic 28, 3) := dk_184 0 28 (dk_at dksX3_next_4 0 rfl rfl)
theorem dX3_next_93 : decode cX3_next 93 = .ok (.ifCond .eq 89, 3) := dk_153 0 89 (dk_at dksX3_next_4 3 rfl rfl)
theorem dX3_next_96 : decode cX3_next 96 = .ok (.aload_n 0, 1) := dk_42 (dk_at dksX3_next_4 6 rfl rfl)
theorem dX3_next_97 : decode cX3_next 97 = .ok (.getfield 19, 3) := dk_180 0 19 (dk_at dksX3_next_4 7 rfl rfl)
theorem dX3_next_100 : decode cX3_next 100 = .ok (.aload_n 0, 1) := dk_42 (dk_at dksX3_next_4 10 rfl rfl)
theorem dX3_next_101 : decode cX3_next 101 = .ok (.getfield 15, 3) := dk_180 0 15 (dk_at dksX3_next_4 11 rfl rfl)
theorem dX3_next_104 : decode cX3_next 104 = .ok (.if_icmp .ge 31, 3) := dk_162 0 31 (dk_at dksX3_next_4 14 rfl rfl)
theorem dX3_next_107 : decode cX3_next 107 = .ok (.aload_n 0, 1) := dk_42 (dk_at dksX3_next_4 17 rfl rfl)
theorem dX3_next_108 : decode cX3_next 108 = .ok (.getfield 9, 3) := dk_180 0 9 (dk_at dksX3_next_4 18 rfl rfl)
theorem dX3_next_111 : decode cX3_next 111 = .ok (.aload_n 0, 1) := dk_42 (dk_at dksX3_next_4 21 rfl rfl)
theorem dX3_next_112 : decode cX3_next 112 = .ok (.getfield 19, 3) := dk_180 0 19 (dk_at dksX3_next_5 0 rfl rfl)
theorem dX3_next_115 : decode cX3_next 115 = .ok (.baload, 1) := dk_51 (dk_at dksX3_next_5 3 rfl rfl)
theorem dX3_next_116 : decode cX3_next 116 = .ok (.invokestatic 28, 3) := dk_184 0 28 (dk_at dksX3_next_5 4 rfl rfl)
theorem dX3_next_119 : decode cX3_next 119 = .ok (.ifCond .eq 16, 3) := dk_153 0 16 (dk_at dksX3_next_5 7 rfl rfl)
theorem dX3_next_122 : decode cX3_next 122 = .ok (.aload_n 0, 1) := dk_42 (dk_at dksX3_next_5 10 rfl rfl)
theorem dX3_next_123 : decode cX3_next 123 = .ok (.dup, 1) := dk_89 (dk_at dksX3_next_5 11 rfl rfl)
theorem dX3_next_124 : decode cX3_next 124 = .ok (.getfield 19, 3) := dk_180 0 19 (dk_at dksX3_next_5 12 rfl rfl)
theorem dX3_next_127 : decode cX3_next 127 = .ok (.iconst 1, 1) := dk_4 (dk_at dksX3_next_5 15 rfl rfl)
theorem dX3_next_128 : decode cX3_next 128 = .ok (.iadd, 1) := dk_96 (dk_at dksX3_next_5 16 rfl rfl)
theorem dX3_next_129 : decode cX3_next 129 = .ok (.putfield 19, 3) := dk_181 0 19 (dk_at dksX3_next_5 17 rfl rfl)
theorem dX3_next_132 : decode cX3_next 132 = .ok (.goto (-36), 3) := dk_167 255 220 (dk_at dksX3_next_5 20 rfl rfl)
theorem dX3_next_135 : decode cX3_next 135 = .ok (.aload_n 0, 1) := dk_42 (dk_at dksX3_next_5 23 rfl rfl)
theorem dX3_next_136 : decode cX3_next 136 = .ok (.sipush 302, 3) := dk_17 1 46 (dk_at dksX3_next_6 0 rfl rfl)
theorem dX3_next_139 : decode cX3_next 139 = .ok (.putfield 25, 3) := dk_181 0 25 (dk_at dksX3_next_6 3 rfl rfl)
theorem dX3_next_142 : decode cX3_next 142 = .ok (.iconst 0, 1) := dk_3 (dk_at dksX3_next_6 6 rfl rfl)
theorem dX3_next_143 : decode cX3_next 143 = .ok (.istore_n 1, 1) := dk_60 (dk_at dksX3_next_6 7 rfl rfl)
theorem dX3_next_144 : decode cX3_next 144 = .ok (.iload_n 1, 1) := dk_27 (dk_at dksX3_next_6 8 rfl rfl)
theorem dX3_next_145 : decode cX3_next 145 = .ok (.getstatic 32, 3) := dk_178 0 32 (dk_at dksX3_next_6 9 rfl rfl)
theorem dX3_next_148 : decode cX3_next 148 = .ok (.arraylength, 1) := dk_190 (dk_at dksX3_next_6 12 rfl rfl)
theorem dX3_next_149 : decode cX3_next 149 = .ok (.if_icmp .ge 30, 3) := dk_162 0 30 (dk_at dksX3_next_6 13 rfl rfl)
theorem dX3_next_152 : decode cX3_next 152 = .ok (.aload_n 0, 1) := dk_42 (dk_at dksX3_next_6 16 rfl rfl)
theorem dX3_next_153 : decode cX3_next 153 = .ok (.getstatic 32, 3) := dk_178 0 32 (dk_at dksX3_next_6 17 rfl rfl)
theorem dX3_next_156 : decode cX3_next 156 = .ok (.iload_n 1, 1) := dk_27 (dk_at dksX3_next_6 20 rfl rfl)
theorem dX3_next_157 : decode cX3_next 157 = .ok (.aaload, 1) := dk_50 (dk_at dksX3_next_6 21 rfl rfl)
theorem dX3_next_158 : decode cX3_next 158 = .ok (.invokevirtual 36, 3) := dk_182 0 36 (dk_at dksX3_next_7 0 rfl rfl)
theorem dX3_next_161 : decode cX3_next 161 = .ok (.ifCond .eq 12, 3) := dk_153 0 12 (dk_at dksX3_next_7 3 rfl rfl)
theorem dX3_next_164 : decode cX3_next 164 = .ok (.aload_n 0, 1) := dk_42 (dk_at dksX3_next_7 6 rfl rfl)
theorem dX3_next_165 : decode cX3_next 165 = .ok (.sipush 200, 3) := dk_17 0 200 (dk_at dksX3_next_7 7 rfl rfl)
theorem dX3_next_168 : decode cX3_next 168 = .ok (.iload_n 1, 1) := dk_27 (dk_at dksX3_next_7 10 rfl rfl)
theorem dX3_next_169 : decode cX3_next 169 = .ok (.iadd, 1) := dk_96 (dk_at dksX3_next_7 11 rfl rfl)
theorem dX3_next_170 : decode cX3_next 170 = .ok (.putfield 25, 3) := dk_181 0 25 (dk_at dksX3_next_7 12 rfl rfl)
theorem dX3_next_173 : decode cX3_next 173 = .ok (.iinc 1 1, 3) := dk_132 1 1 (dk_at dksX3_next_7 15 rfl rfl)
theorem dX3_next_176 : decode cX3_next 176 = .ok (.goto (-32), 3) := dk_167 255 224 (dk_at dksX3_next_7 18 rfl rfl)
theorem dX3_next_179 : decode cX3_next 179 = .ok (.goto 223, 3) := dk_167 0 223 (dk_at dksX3_next_7 21 rfl rfl)
theorem dX3_next_182 : decode cX3_next 182 = .ok (.aload_n 0, 1) := dk_42 (dk_at dksX3_next_8 0 rfl rfl)
theorem dX3_next_183 : decode cX3_next 183 = .ok (.getfield 9, 3) := dk_180 0 9 (dk_at dksX3_next_8 1 rfl rfl)
theorem dX3_next_186 : decode cX3_next 186 = .ok (.aload_n 0, 1) := dk_42 (dk_at dksX3_next_8 4 rfl rfl)
theorem dX3_next_187 : decode cX3_next 187 = .ok (.getfield 19, 3) := dk_180 0 19 (dk_at dksX3_next_8 5 rfl rfl)
theorem dX3_next_190 : decode cX3_next 190 = .ok (.baload, 1) := dk_51 (dk_at dksX3_next_8 8 rfl rfl)
theorem dX3_next_191 : decode cX3_next 191 = .ok (.invokestatic 40, 3) := dk_184 0 40 (dk_at dksX3_next_8 9 rfl rfl)
theorem dX3_next_194 : decode cX3_next 194 = .ok (.ifCond .eq 83, 3) := dk_153 0 83 (dk_at dksX3_next_8 12 rfl rfl)
theorem dX3_next_197 : decode cX3_next 197 = .ok (.aload_n 0, 1) := dk_42 (dk_at dksX3_next_8 15 rfl rfl)
theorem dX3_next_198 : decode cX3_next 198 = .ok (.sipush 300, 3) := dk_17 1 44 (dk_at dksX3_next_8 16 rfl rfl)
theorem dX3_next_201 : decode cX3_next 201 = .ok (.putfield 25, 3) := dk_181 0 25 (dk_at dksX3_next_8 19 rfl rfl)
theorem dX3_next_204 : decode cX3_next 204 = .ok (.aload_n 0, 1) := dk_42 (dk_at dksX3_next_8 22 rfl rfl)
theorem dX3_next_205 : decode cX3_next 205 = .ok (.iconst 0, 1) := dk_3 (dk_at dksX3_next_8 23 rfl rfl)
theorem dX3_next_206 : decode cX3_next 206 = .ok (.putfield 43, 3) := dk_181 0 43 (dk_at dksX3_next_9 0 rfl rfl)
theorem dX3_next_209 : decode cX3_next 209 = .ok (.aload_n 0, 1) := dk_42 (dk_at dksX3_next_9 3 rfl rfl)
theorem dX3_next_210 : decode cX3_next 210 = .ok (.getfield 19, 3) := dk_180 0 19 (dk_at dksX3_next_9 4 rfl rfl)
theorem dX3_next_213 : decode cX3_next 213 = .ok (.aload_n 0, 1) := dk_42 (dk_at dksX3_next_9 7 rfl rfl)
theorem dX3_next_214 : decode cX3_next 214 = .ok (.getfield 15, 3) := dk_180 0 15 (dk_at dksX3_next_9 8 rfl rfl)
theorem dX3_next_217 : decode cX3_next 217 = .ok (.if_icmp .ge 185, 3) := dk_162 0 185 (dk_at dksX3_next_9 11 rfl rfl)
theorem dX3_next_220 : decode cX3_next 220 = .ok (.aload_n 0, 1) := dk_42 (dk_at dksX3_next_9 14 rfl rfl)
theorem dX3_next_221 : decode cX3_next 221 = .ok (.getfield 9, 3) := dk_180 0 9 (dk_at dksX3_next_9 15 rfl rfl)
theorem dX3_next_224 : decode cX3_next 224 = .ok (.aload_n 0, 1) := dk_42 (dk_at dksX3_next_9 18 rfl rfl)
theorem dX3_next_225 : decode cX3_next 225 = .ok (.getfield 19, 3) := dk_180 0 19 (dk_at dksX3_next_9 19 rfl rfl)
theorem dX3_next_228 : decode cX3_next 228 = .ok (.baload, 1) := dk_51 (dk_at dksX3_next_9 22 rfl rfl)
theorem dX3_next_229 : decode cX3_next 229 = .ok (.invokestatic 40, 3) := dk_184 0 40 (dk_at dksX3_next_10 0 rfl rfl)
theorem dX3_next_232 : decode cX3_next 232 = .ok (.ifCond .eq 170, 3) := dk_153 0 170 (dk_at dksX3_next_10 3 rfl rfl)
theorem dX3_next_235 : decode cX3_next 235 = .ok (.aload_n 0, 1) := dk_42 (dk_at dksX3_next_10 6 rfl rfl)
theorem dX3_next_236 : decode cX3_next 236 = .ok (.ldc 46, 2) := dk_18 46 (dk_at dksX3_next_10 7 rfl rfl)
theorem dX3_next_238 : decode cX3_next 238 = .ok (.bipush 10, 2) := dk_16 10 (dk_at dksX3_next_10 9 rfl rfl)
theorem dX3_next_240 : decode cX3_next 240 = .ok (.aload_n 0, 1) := dk_42 (dk_at dksX3_next_10 11 rfl rfl)
theorem dX3_next_241 : decode cX3_next 241 = .ok (.getfield 43, 3) := dk_180 0 43 (dk_at dksX3_next_10 12 rfl rfl)
theorem dX3_next_244 : decode cX3_next 244 = .ok (.imul, 1) := dk_104 (dk_at dksX3_next_10 15 rfl rfl)
theorem dX3_next_245 : decode cX3_next 245 = .ok (.aload_n 0, 1) := dk_42 (dk_at dksX3_next_10 16 rfl rfl)
theorem dX3_next_246 : decode cX3_next 246 = .ok (.getfield 9, 3) := dk_180 0 9 (dk_at dksX3_next_10 17 rfl rfl)
theorem dX3_next_249 : decode cX3_next 249 = .ok (.aload_n 0, 1) := dk_42 (dk_at dksX3_next_10 20 rfl rfl)
theorem dX3_next_250 : decode cX3_next 250 = .ok (.getfield 19, 3) := dk_180 0 19 (dk_at dksX3_next_10 21 rfl rfl)
theorem dX3_next_253 : decode cX3_next 253 = .ok (.baload, 1) := dk_51 (dk_at dksX3_next_11 0 rfl rfl)
theorem dX3_next_254 : decode cX3_next 254 = .ok (.iadd, 1) := dk_96 (dk_at dksX3_next_11 1 rfl rfl)
theorem dX3_next_255 : decode cX3_next 255 = .ok (.bipush 48, 2) := dk_16 48 (dk_at dksX3_next_11 2 rfl rfl)
theorem dX3_next_257 : decode cX3_next 257 = .ok (.isub, 1) := dk_100 (dk_at dksX3_next_11 4 rfl rfl)
theorem dX3_next_258 : decode cX3_next 258 = .ok (.invokestatic 47, 3) := dk_184 0 47 (dk_at dksX3_next_11 5 rfl rfl)
theorem dX3_next_261 : decode cX3_next 261 = .ok (.putfield 43, 3) := dk_181 0 43 (dk_at dksX3_next_11 8 rfl rfl)
theorem dX3_next_264 : decode cX3_next 264 = .ok (.aload_n 0, 1) := dk_42 (dk_at dksX3_next_11 11 rfl rfl)
theorem dX3_next_265 : decode cX3_next 265 = .ok (.dup, 1) := dk_89 (dk_at dksX3_next_11 12 rfl rfl)
theorem dX3_next_266 : decode cX3_next 266 = .ok (.getfield 19, 3) := dk_180 0 19 (dk_at dksX3_next_11 13 rfl rfl)
theorem dX3_next_269 : decode cX3_next 269 = .ok (.iconst 1, 1) := dk_4 (dk_at dksX3_next_11 16 rfl rfl)
theorem dX3_next_270 : decode cX3_next 270 = .ok (.iadd, 1) := dk_96 (dk_at dksX3_next_11 17 rfl rfl)
theorem dX3_next_271 : decode cX3_next 271 = .ok (.putfield 19, 3) := dk_181 0 19 (dk_at dksX3_next_11 18 rfl rfl)
theorem dX3_next_274 : decode cX3_next 274 = .ok (.goto (-65), 3) := dk_167 255 191 (dk_at dksX3_next_11 21 rfl rfl)
theorem dX3_next_277 : decode cX3_next 277 = .ok (.aload_n 0, 1) := dk_42 (dk_at dksX3_next_12 0 rfl rfl)
theorem dX3_next_278 : decode cX3_next 278 = .ok (.getfield 9, 3) := dk_180 0 9 (dk_at dksX3_next_12 1 rfl rfl)
theorem dX3_next_281 : decode cX3_next 281 = .ok (.aload_n 0, 1) := dk_42 (dk_at dksX3_next_12 4 rfl rfl)
theorem dX3_next_282 : decode cX3_next 282 = .ok (.getfield 19, 3) := dk_180 0 19 (dk_at dksX3_next_12 5 rfl rfl)
theorem dX3_next_285 : decode cX3_next 285 = .ok (.baload, 1) := dk_51 (dk_at dksX3_next_12 8 rfl rfl)
theorem dX3_next_286 : decode cX3_next 286 = .ok (.istore_n 1, 1) := dk_60 (dk_at dksX3_next_12 9 rfl rfl)
theorem dX3_next_287 : decode cX3_next 287 = .ok (.aload_n 0, 1) := dk_42 (dk_at dksX3_next_12 10 rfl rfl)
theorem dX3_next_288 : decode cX3_next 288 = .ok (.dup, 1) := dk_89 (dk_at dksX3_next_12 11 rfl rfl)
theorem dX3_next_289 : decode cX3_next 289 = .ok (.getfield 19, 3) := dk_180 0 19 (dk_at dksX3_next_12 12 rfl rfl)
theorem dX3_next_292 : decode cX3_next 292 = .ok (.iconst 1, 1) := dk_4 (dk_at dksX3_next_12 15 rfl rfl)
theorem dX3_next_293 : decode cX3_next 293 = .ok (.iadd, 1) := dk_96 (dk_at dksX3_next_12 16 rfl rfl)
theorem dX3_next_294 : decode cX3_next 294 = .ok (.putfield 19, 3) := dk_181 0 19 (dk_at dksX3_next_12 17 rfl rfl)
theorem dX3_next_297 : decode cX3_next 297 = .ok (.aload_n 0, 1) := dk_42 (dk_at dksX3_next_12 20 rfl rfl)
theorem dX3_next_298 : decode cX3_next 298 = .ok (.sipush 302, 3) := dk_17 1 46 (dk_at dksX3_next_12 21 rfl rfl)
theorem dX3_next_301 : decode cX3_next 301 = .ok (.putfield 25, 3) := dk_181 0 25 (dk_at dksX3_next_13 0 rfl rfl)
theorem dX3_next_304 : decode cX3_next 304 = .ok (.iconst 0, 1) := dk_3 (dk_at dksX3_next_13 3 rfl rfl)
theorem dX3_next_305 : decode cX3_next 305 = .ok (.istore_n 2, 1) := dk_61 (dk_at dksX3_next_13 4 rfl rfl)
theorem dX3_next_306 : decode cX3_next 306 = .ok (.iload_n 2, 1) := dk_28 (dk_at dksX3_next_13 5 rfl rfl)
theorem dX3_next_307 : decode cX3_next 307 = .ok (.ldc 53, 2) := dk_18 53 (dk_at dksX3_next_13 6 rfl rfl)
theorem dX3_next_309 : decode cX3_next 309 = .ok (.invokevirtual 55, 3) := dk_182 0 55 (dk_at dksX3_next_13 8 rfl rfl)
theorem dX3_next_312 : decode cX3_next 312 = .ok (.if_icmp .ge 24, 3) := dk_162 0 24 (dk_at dksX3_next_13 11 rfl rfl)
theorem dX3_next_315 : decode cX3_next 315 = .ok (.ldc 53, 2) := dk_18 53 (dk_at dksX3_next_13 14 rfl rfl)
theorem dX3_next_317 : decode cX3_next 317 = .ok (.iload_n 2, 1) := dk_28 (dk_at dksX3_next_13 16 rfl rfl)
theorem dX3_next_318 : decode cX3_next 318 = .ok (.invokevirtual 61, 3) := dk_182 0 61 (dk_at dksX3_next_13 17 rfl rfl)
theorem dX3_next_321 : decode cX3_next 321 = .ok (.iload_n 1, 1) := dk_27 (dk_at dksX3_next_13 20 rfl rfl)
theorem dX3_next_322 : decode cX3_next 322 = .ok (.if_icmp .ne 8, 3) := dk_160 0 8 (dk_at dksX3_next_13 21 rfl rfl)
theorem dX3_next_325 : decode cX3_next 325 = .ok (.aload_n 0, 1) := dk_42 (dk_at dksX3_next_14 0 rfl rfl)
theorem dX3_next_326 : decode cX3_next 326 = .ok (.iload_n 1, 1) := dk_27 (dk_at dksX3_next_14 1 rfl rfl)
theorem dX3_next_327 : decode cX3_next 327 = .ok (.putfield 25, 3) := dk_181 0 25 (dk_at dksX3_next_14 2 rfl rfl)
theorem dX3_next_330 : decode cX3_next 330 = .ok (.iinc 2 1, 3) := dk_132 2 1 (dk_at dksX3_next_14 5 rfl rfl)
theorem dX3_next_333 : decode cX3_next 333 = .ok (.goto (-27), 3) := dk_167 255 229 (dk_at dksX3_next_14 8 rfl rfl)
theorem dX3_next_336 : decode cX3_next 336 = .ok (.iload_n 1, 1) := dk_27 (dk_at dksX3_next_14 11 rfl rfl)
theorem dX3_next_337 : decode cX3_next 337 = .ok (.bipush 60, 2) := dk_16 60 (dk_at dksX3_next_14 12 rfl rfl)
theorem dX3_next_339 : decode cX3_next 339 = .ok (.if_icmp .eq 9, 3) := dk_159 0 9 (dk_at dksX3_next_14 14 rfl rfl)
theorem dX3_next_342 : decode cX3_next 342 = .ok (.iload_n 1, 1) := dk_27 (dk_at dksX3_next_14 17 rfl rfl)
theorem dX3_next_343 : decode cX3_next 343 = .ok (.bipush 62, 2) := dk_16 62 (dk_at dksX3_next_14 18 rfl rfl)
theorem dX3_next_345 : decode cX3_next 345 = .ok (.if_icmp .ne 57, 3) := dk_160 0 57 (dk_at dksX3_next_14 20 rfl rfl)
theorem dX3_next_348 : decode cX3_next 348 = .ok (.aload_n 0, 1) := dk_42 (dk_at dksX3_next_14 23 rfl rfl)
theorem dX3_next_349 : decode cX3_next 349 = .ok (.getfield 19, 3) := dk_180 0 19 (dk_at dksX3_next_15 0 rfl rfl)
theorem dX3_next_352 : decode cX3_next 352 = .ok (.aload_n 0, 1) := dk_42 (dk_at dksX3_next_15 3 rfl rfl)
theorem dX3_next_353 : decode cX3_next 353 = .ok (.getfield 15, 3) := dk_180 0 15 (dk_at dksX3_next_15 4 rfl rfl)
theorem dX3_next_356 : decode cX3_next 356 = .ok (.if_icmp .ge 46, 3) := dk_162 0 46 (dk_at dksX3_next_15 7 rfl rfl)
theorem dX3_next_359 : decode cX3_next 359 = .ok (.aload_n 0, 1) := dk_42 (dk_at dksX3_next_15 10 rfl rfl)
theorem dX3_next_360 : decode cX3_next 360 = .ok (.getfield 9, 3) := dk_180 0 9 (dk_at dksX3_next_15 11 rfl rfl)
theorem dX3_next_363 : decode cX3_next 363 = .ok (.aload_n 0, 1) := dk_42 (dk_at dksX3_next_15 14 rfl rfl)
theorem dX3_next_364 : decode cX3_next 364 = .ok (.getfield 19, 3) := dk_180 0 19 (dk_at dksX3_next_15 15 rfl rfl)
theorem dX3_next_367 : decode cX3_next 367 = .ok (.baload, 1) := dk_51 (dk_at dksX3_next_15 18 rfl rfl)
theorem dX3_next_368 : decode cX3_next 368 = .ok (.bipush 61, 2) := dk_16 61 (dk_at dksX3_next_15 19 rfl rfl)
theorem dX3_next_370 : decode cX3_next 370 = .ok (.if_icmp .ne 32, 3) := dk_160 0 32 (dk_at dksX3_next_15 21 rfl rfl)
theorem dX3_next_373 : decode cX3_next 373 = .ok (.aload_n 0, 1) := dk_42 (dk_at dksX3_next_16 0 rfl rfl)
theorem dX3_next_374 : decode cX3_next 374 = .ok (.iload_n 1, 1) := dk_27 (dk_at dksX3_next_16 1 rfl rfl)
theorem dX3_next_375 : decode cX3_next 375 = .ok (.bipush 60, 2) := dk_16 60 (dk_at dksX3_next_16 2 rfl rfl)
theorem dX3_next_377 : decode cX3_next 377 = .ok (.if_icmp .ne 9, 3) := dk_160 0 9 (dk_at dksX3_next_16 4 rfl rfl)
theorem dX3_next_380 : decode cX3_next 380 = .ok (.sipush 303, 3) := dk_17 1 47 (dk_at dksX3_next_16 7 rfl rfl)
theorem dX3_next_383 : decode cX3_next 383 = .ok (.goto 6, 3) := dk_167 0 6 (dk_at dksX3_next_16 10 rfl rfl)
theorem dX3_next_386 : decode cX3_next 386 = .ok (.sipush 304, 3) := dk_17 1 48 (dk_at dksX3_next_16 13 rfl rfl)
theorem dX3_next_389 : decode cX3_next 389 = .ok (.putfield 25, 3) := dk_181 0 25 (dk_at dksX3_next_16 16 rfl rfl)
theorem dX3_next_392 : decode cX3_next 392 = .ok (.aload_n 0, 1) := dk_42 (dk_at dksX3_next_16 19 rfl rfl)
theorem dX3_next_393 : decode cX3_next 393 = .ok (.dup, 1) := dk_89 (dk_at dksX3_next_16 20 rfl rfl)
theorem dX3_next_394 : decode cX3_next 394 = .ok (.getfield 19, 3) := dk_180 0 19 (dk_at dksX3_next_16 21 rfl rfl)
theorem dX3_next_397 : decode cX3_next 397 = .ok (.iconst 1, 1) := dk_4 (dk_at dksX3_next_17 0 rfl rfl)
theorem dX3_next_398 : decode cX3_next 398 = .ok (.iadd, 1) := dk_96 (dk_at dksX3_next_17 1 rfl rfl)
theorem dX3_next_399 : decode cX3_next 399 = .ok (.putfield 19, 3) := dk_181 0 19 (dk_at dksX3_next_17 2 rfl rfl)
theorem dX3_next_402 : decode cX3_next 402 = .ok (.return_, 1) := dk_177 (dk_at dksX3_next_17 5 rfl rfl)
abbrev cX3_isLetter : ByteArray := prog_16_method_2_code
def yX3_isLetter : MethodName := ⟨RX3, "isLetter", "(I)Z"⟩
def dkwX3_isLetter_1 : List UInt8 := [4, 167, 0, 4, 3, 172]
abbrev dktX3_isLetter_1 : List UInt8 := dkwX3_isLetter_1 ++ []
def dkwX3_isLetter_0 : List UInt8 := [26, 16, 97, 161, 0, 9, 26, 16, 122, 164, 0, 15, 26, 16, 65, 161, 0, 13, 26, 16, 90, 163, 0, 7]
abbrev dktX3_isLetter_0 : List UInt8 := dkwX3_isLetter_0 ++ dktX3_isLetter_1
theorem dksX3_isLetter_0 : cX3_isLetter.data.toList.drop 0 = dktX3_isLetter_0 := by decide +kernel
theorem dksX3_isLetter_1 : cX3_isLetter.data.toList.drop 24 = dktX3_isLetter_1 := dk_seg dksX3_isLetter_0 24 rfl rfl
theorem dX3_isLetter_0 : decode cX3_isLetter 0 = .ok (.iload_n 0, 1) := dk_26 (dk_at dksX3_isLetter_0 0 rfl rfl)
theorem dX3_isLetter_1 : decode cX3_isLetter 1 = .ok (.bipush 97, 2) := dk_16 97 (dk_at dksX3_isLetter_0 1 rfl rfl)
theorem dX3_isLetter_3 : decode cX3_isLetter 3 = .ok (.if_icmp .lt 9, 3) := dk_161 0 9 (dk_at dksX3_isLetter_0 3 rfl rfl)
theorem dX3_isLetter_6 : decode cX3_isLetter 6 = .ok (.iload_n 0, 1) := dk_26 (dk_at dksX3_isLetter_0 6 rfl rfl)
theorem dX3_isLetter_7 : decode cX3_isLetter 7 = .ok (.bipush 122, 2) := dk_16 122 (dk_at dksX3_isLetter_0 7 rfl rfl)
theorem dX3_isLetter_9 : decode cX3_isLetter 9 = .ok (.if_icmp .le 15, 3) := dk_164 0 15 (dk_at dksX3_isLetter_0 9 rfl rfl)
theorem dX3_isLetter_12 : decode cX3_isLetter 12 = .ok (.iload_n 0, 1) := dk_26 (dk_at dksX3_isLetter_0 12 rfl rfl)
theorem dX3_isLetter_13 : decode cX3_isLetter 13 = .ok (.bipush 65, 2) := dk_16 65 (dk_at dksX3_isLetter_0 13 rfl rfl)
theorem dX3_isLetter_15 : decode cX3_isLetter 15 = .ok (.if_icmp .lt 13, 3) := dk_161 0 13 (dk_at dksX3_isLetter_0 15 rfl rfl)
theorem dX3_isLetter_18 : decode cX3_isLetter 18 = .ok (.iload_n 0, 1) := dk_26 (dk_at dksX3_isLetter_0 18 rfl rfl)
theorem dX3_isLetter_19 : decode cX3_isLetter 19 = .ok (.bipush 90, 2) := dk_16 90 (dk_at dksX3_isLetter_0 19 rfl rfl)
theorem dX3_isLetter_21 : decode cX3_isLetter 21 = .ok (.if_icmp .gt 7, 3) := dk_163 0 7 (dk_at dksX3_isLetter_0 21 rfl rfl)
theorem dX3_isLetter_24 : decode cX3_isLetter 24 = .ok (.iconst 1, 1) := dk_4 (dk_at dksX3_isLetter_1 0 rfl rfl)
theorem dX3_isLetter_25 : decode cX3_isLetter 25 = .ok (.goto 4, 3) := dk_167 0 4 (dk_at dksX3_isLetter_1 1 rfl rfl)
theorem dX3_isLetter_28 : decode cX3_isLetter 28 = .ok (.iconst 0, 1) := dk_3 (dk_at dksX3_isLetter_1 4 rfl rfl)
theorem dX3_isLetter_29 : decode cX3_isLetter 29 = .ok (.ireturn, 1) := dk_172 (dk_at dksX3_isLetter_1 5 rfl rfl)
abbrev cX3_isWord : ByteArray := prog_16_method_5_code
def yX3_isWord : MethodName := ⟨RX3, "isWord", "(Ljava/lang/String;)Z"⟩
def dkwX3_isWord_2 : List UInt8 := [159, 0, 5, 3, 172, 132, 2, 1, 167, 255, 224, 4, 172]
abbrev dktX3_isWord_2 : List UInt8 := dkwX3_isWord_2 ++ []
def dkwX3_isWord_1 : List UInt8 := [182, 0, 55, 162, 0, 30, 42, 180, 0, 9, 42, 180, 0, 22, 28, 96, 51, 43, 28, 182, 0, 61]
abbrev dktX3_isWord_1 : List UInt8 := dkwX3_isWord_1 ++ dktX3_isWord_2
def dkwX3_isWord_0 : List UInt8 := [42, 180, 0, 19, 42, 180, 0, 22, 100, 43, 182, 0, 55, 159, 0, 5, 3, 172, 3, 61, 28, 43]
abbrev dktX3_isWord_0 : List UInt8 := dkwX3_isWord_0 ++ dktX3_isWord_1
theorem dksX3_isWord_0 : cX3_isWord.data.toList.drop 0 = dktX3_isWord_0 := by decide +kernel
theorem dksX3_isWord_1 : cX3_isWord.data.toList.drop 22 = dktX3_isWord_1 := dk_seg dksX3_isWord_0 22 rfl rfl
theorem dksX3_isWord_2 : cX3_isWord.data.toList.drop 44 = dktX3_isWord_2 := dk_seg dksX3_isWord_1 22 rfl rfl
theorem dX3_isWord_0 : decode cX3_isWord 0 = .ok (.aload_n 0, 1) := dk_42 (dk_at dksX3_isWord_0 0 rfl rfl)
theorem dX3_isWord_1 : decode cX3_isWord 1 = .ok (.getfield 19, 3) := dk_180 0 19 (dk_at dksX3_isWord_0 1 rfl rfl)
theorem dX3_isWord_4 : decode cX3_isWord 4 = .ok (.aload_n 0, 1) := dk_42 (dk_at dksX3_isWord_0 4 rfl rfl)
theorem dX3_isWord_5 : decode cX3_isWord 5 = .ok (.getfield 22, 3) := dk_180 0 22 (dk_at dksX3_isWord_0 5 rfl rfl)
theorem dX3_isWord_8 : decode cX3_isWord 8 = .ok (.isub, 1) := dk_100 (dk_at dksX3_isWord_0 8 rfl rfl)
theorem dX3_isWord_9 : decode cX3_isWord 9 = .ok (.aload_n 1, 1) := dk_43 (dk_at dksX3_isWord_0 9 rfl rfl)
theorem dX3_isWord_10 : decode cX3_isWord 10 = .ok (.invokevirtual 55, 3) := dk_182 0 55 (dk_at dksX3_isWord_0 10 rfl rfl)
theorem dX3_isWord_13 : decode cX3_isWord 13 = .ok (.if_icmp .eq 5, 3) := dk_159 0 5 (dk_at dksX3_isWord_0 13 rfl rfl)
theorem dX3_isWord_16 : decode cX3_isWord 16 = .ok (.iconst 0, 1) := dk_3 (dk_at dksX3_isWord_0 16 rfl rfl)
theorem dX3_isWord_17 : decode cX3_isWord 17 = .ok (.ireturn, 1) := dk_172 (dk_at dksX3_isWord_0 17 rfl rfl)
theorem dX3_isWord_18 : decode cX3_isWord 18 = .ok (.iconst 0, 1) := dk_3 (dk_at dksX3_isWord_0 18 rfl rfl)
theorem dX3_isWord_19 : decode cX3_isWord 19 = .ok (.istore_n 2, 1) := dk_61 (dk_at dksX3_isWord_0 19 rfl rfl)
theorem dX3_isWord_20 : decode cX3_isWord 20 = .ok (.iload_n 2, 1) := dk_28 (dk_at dksX3_isWord_0 20 rfl rfl)
theorem dX3_isWord_21 : decode cX3_isWord 21 = .ok (.aload_n 1, 1) := dk_43 (dk_at dksX3_isWord_0 21 rfl rfl)
theorem dX3_isWord_22 : decode cX3_isWord 22 = .ok (.invokevirtual 55, 3) := dk_182 0 55 (dk_at dksX3_isWord_1 0 rfl rfl)
theorem dX3_isWord_25 : decode cX3_isWord 25 = .ok (.if_icmp .ge 30, 3) := dk_162 0 30 (dk_at dksX3_isWord_1 3 rfl rfl)
theorem dX3_isWord_28 : decode cX3_isWord 28 = .ok (.aload_n 0, 1) := dk_42 (dk_at dksX3_isWord_1 6 rfl rfl)
theorem dX3_isWord_29 : decode cX3_isWord 29 = .ok (.getfield 9, 3) := dk_180 0 9 (dk_at dksX3_isWord_1 7 rfl rfl)
theorem dX3_isWord_32 : decode cX3_isWord 32 = .ok (.aload_n 0, 1) := dk_42 (dk_at dksX3_isWord_1 10 rfl rfl)
theorem dX3_isWord_33 : decode cX3_isWord 33 = .ok (.getfield 22, 3) := dk_180 0 22 (dk_at dksX3_isWord_1 11 rfl rfl)
theorem dX3_isWord_36 : decode cX3_isWord 36 = .ok (.iload_n 2, 1) := dk_28 (dk_at dksX3_isWord_1 14 rfl rfl)
theorem dX3_isWord_37 : decode cX3_isWord 37 = .ok (.iadd, 1) := dk_96 (dk_at dksX3_isWord_1 15 rfl rfl)
theorem dX3_isWord_38 : decode cX3_isWord 38 = .ok (.baload, 1) := dk_51 (dk_at dksX3_isWord_1 16 rfl rfl)
theorem dX3_isWord_39 : decode cX3_isWord 39 = .ok (.aload_n 1, 1) := dk_43 (dk_at dksX3_isWord_1 17 rfl rfl)
theorem dX3_isWord_40 : decode cX3_isWord 40 = .ok (.iload_n 2, 1) := dk_28 (dk_at dksX3_isWord_1 18 rfl rfl)
theorem dX3_isWord_41 : decode cX3_isWord 41 = .ok (.invokevirtual 61, 3) := dk_182 0 61 (dk_at dksX3_isWord_1 19 rfl rfl)
theorem dX3_isWord_44 : decode cX3_isWord 44 = .ok (.if_icmp .eq 5, 3) := dk_159 0 5 (dk_at dksX3_isWord_2 0 rfl rfl)
theorem dX3_isWord_47 : decode cX3_isWord 47 = .ok (.iconst 0, 1) := dk_3 (dk_at dksX3_isWord_2 3 rfl rfl)
theorem dX3_isWord_48 : decode cX3_isWord 48 = .ok (.ireturn, 1) := dk_172 (dk_at dksX3_isWord_2 4 rfl rfl)
theorem dX3_isWord_49 : decode cX3_isWord 49 = .ok (.iinc 2 1, 3) := dk_132 2 1 (dk_at dksX3_isWord_2 5 rfl rfl)
theorem dX3_isWord_52 : decode cX3_isWord 52 = .ok (.goto (-32), 3) := dk_167 255 224 (dk_at dksX3_isWord_2 8 rfl rfl)
theorem dX3_isWord_55 : decode cX3_isWord 55 = .ok (.iconst 1, 1) := dk_4 (dk_at dksX3_isWord_2 11 rfl rfl)
theorem dX3_isWord_56 : decode cX3_isWord 56 = .ok (.ireturn, 1) := dk_172 (dk_at dksX3_isWord_2 12 rfl rfl)
abbrev cX3_isDigit : ByteArray := prog_16_method_3_code
def yX3_isDigit : MethodName := ⟨RX3, "isDigit", "(I)Z"⟩
def dkwX3_isDigit_0 : List UInt8 := [26, 16, 48, 161, 0, 13, 26, 16, 57, 163, 0, 7, 4, 167, 0, 4, 3, 172]
abbrev dktX3_isDigit_0 : List UInt8 := dkwX3_isDigit_0 ++ []
theorem dksX3_isDigit_0 : cX3_isDigit.data.toList.drop 0 = dktX3_isDigit_0 := by decide +kernel
theorem dX3_isDigit_0 : decode cX3_isDigit 0 = .ok (.iload_n 0, 1) := dk_26 (dk_at dksX3_isDigit_0 0 rfl rfl)
theorem dX3_isDigit_1 : decode cX3_isDigit 1 = .ok (.bipush 48, 2) := dk_16 48 (dk_at dksX3_isDigit_0 1 rfl rfl)
theorem dX3_isDigit_3 : decode cX3_isDigit 3 = .ok (.if_icmp .lt 13, 3) := dk_161 0 13 (dk_at dksX3_isDigit_0 3 rfl rfl)
theorem dX3_isDigit_6 : decode cX3_isDigit 6 = .ok (.iload_n 0, 1) := dk_26 (dk_at dksX3_isDigit_0 6 rfl rfl)
theorem dX3_isDigit_7 : decode cX3_isDigit 7 = .ok (.bipush 57, 2) := dk_16 57 (dk_at dksX3_isDigit_0 7 rfl rfl)
theorem dX3_isDigit_9 : decode cX3_isDigit 9 = .ok (.if_icmp .gt 7, 3) := dk_163 0 7 (dk_at dksX3_isDigit_0 9 rfl rfl)
theorem dX3_isDigit_12 : decode cX3_isDigit 12 = .ok (.iconst 1, 1) := dk_4 (dk_at dksX3_isDigit_0 12 rfl rfl)
theorem dX3_isDigit_13 : decode cX3_isDigit 13 = .ok (.goto 4, 3) := dk_167 0 4 (dk_at dksX3_isDigit_0 13 rfl rfl)
theorem dX3_isDigit_16 : decode cX3_isDigit 16 = .ok (.iconst 0, 1) := dk_3 (dk_at dksX3_isDigit_0 16 rfl rfl)
theorem dX3_isDigit_17 : decode cX3_isDigit 17 = .ok (.ireturn, 1) := dk_172 (dk_at dksX3_isDigit_0 17 rfl rfl)
abbrev cX3_wrong : ByteArray := prog_16_method_6_code
def yX3_wrong : MethodName := ⟨RX3, "wrong", "(I)LVaneCourt$Wrong;"⟩
def dkwX3_wrong_0 : List UInt8 := [187, 0, 65, 89, 27, 42, 180, 0, 22, 183, 0, 67, 176]
abbrev dktX3_wrong_0 : List UInt8 := dkwX3_wrong_0 ++ []
theorem dksX3_wrong_0 : cX3_wrong.data.toList.drop 0 = dktX3_wrong_0 := by decide +kernel
theorem dX3_wrong_0 : decode cX3_wrong 0 = .ok (.new 65, 3) := dk_187 0 65 (dk_at dksX3_wrong_0 0 rfl rfl)
theorem dX3_wrong_3 : decode cX3_wrong 3 = .ok (.dup, 1) := dk_89 (dk_at dksX3_wrong_0 3 rfl rfl)
theorem dX3_wrong_4 : decode cX3_wrong 4 = .ok (.iload_n 1, 1) := dk_27 (dk_at dksX3_wrong_0 4 rfl rfl)
theorem dX3_wrong_5 : decode cX3_wrong 5 = .ok (.aload_n 0, 1) := dk_42 (dk_at dksX3_wrong_0 5 rfl rfl)
theorem dX3_wrong_6 : decode cX3_wrong 6 = .ok (.getfield 22, 3) := dk_180 0 22 (dk_at dksX3_wrong_0 6 rfl rfl)
theorem dX3_wrong_9 : decode cX3_wrong 9 = .ok (.invokespecial 67, 3) := dk_183 0 67 (dk_at dksX3_wrong_0 9 rfl rfl)
theorem dX3_wrong_12 : decode cX3_wrong 12 = .ok (.areturn, 1) := dk_176 (dk_at dksX3_wrong_0 12 rfl rfl)
abbrev cX3_clause : ByteArray := prog_16_method_11_code
def yX3_clause : MethodName := ⟨RX3, "clause", "(LVaneCourt$Text;)V"⟩
def dkwX3_clause_4 : List UInt8 := [181, 0, 97, 167, 0, 19, 43, 180, 0, 122, 42, 43, 180, 0, 100, 182, 0, 126, 182, 0, 130, 87, 177]
abbrev dktX3_clause_4 : List UInt8 := dkwX3_clause_4 ++ []
def dkwX3_clause_3 : List UInt8 := [181, 0, 90, 167, 0, 41, 43, 42, 182, 0, 118, 181, 0, 93, 167, 0, 30, 43, 42, 182, 0, 114]
abbrev dktX3_clause_3 : List UInt8 := dkwX3_clause_3 ++ dktX3_clause_4
def dkwX3_clause_2 : List UInt8 := [42, 43, 182, 0, 111, 167, 0, 63, 43, 42, 182, 0, 114, 181, 0, 86, 167, 0, 52, 43, 42, 182, 0, 114]
abbrev dktX3_clause_2 : List UInt8 := dkwX3_clause_2 ++ dktX3_clause_3
def dkwX3_clause_1 : List UInt8 := [170, 0, 0, 0, 0, 0, 0, 88, 0, 0, 0, 200, 0, 0, 0, 204, 0, 0, 0, 36, 0, 0, 0, 44, 0, 0, 0, 55, 0, 0, 0, 66, 0, 0, 0, 77]
abbrev dktX3_clause_1 : List UInt8 := dkwX3_clause_1 ++ dktX3_clause_2
def dkwX3_clause_0 : List UInt8 := [42, 180, 0, 83]
abbrev dktX3_clause_0 : List UInt8 := dkwX3_clause_0 ++ dktX3_clause_1
theorem dksX3_clause_0 : cX3_clause.data.toList.drop 0 = dktX3_clause_0 := by decide +kernel
theorem dksX3_clause_1 : cX3_clause.data.toList.drop 4 = dktX3_clause_1 := dk_seg dksX3_clause_0 4 rfl rfl
theorem dksX3_clause_2 : cX3_clause.data.toList.drop 40 = dktX3_clause_2 := dk_seg dksX3_clause_1 36 rfl rfl
theorem dksX3_clause_3 : cX3_clause.data.toList.drop 64 = dktX3_clause_3 := dk_seg dksX3_clause_2 24 rfl rfl
theorem dksX3_clause_4 : cX3_clause.data.toList.drop 86 = dktX3_clause_4 := dk_seg dksX3_clause_3 22 rfl rfl
theorem dX3_clause_0 : decode cX3_clause 0 = .ok (.aload_n 0, 1) := dk_42 (dk_at dksX3_clause_0 0 rfl rfl)
theorem dX3_clause_1 : decode cX3_clause 1 = .ok (.getfield 83, 3) := dk_180 0 83 (dk_at dksX3_clause_0 1 rfl rfl)
theorem dX3_clause_4 : decode cX3_clause 4 = .ok (.tableswitch 88 200 204 #[36, 44, 55, 66, 77], 36) := by decide +kernel
theorem dX3_clause_40 : decode cX3_clause 40 = .ok (.aload_n 0, 1) := dk_42 (dk_at dksX3_clause_2 0 rfl rfl)
theorem dX3_clause_41 : decode cX3_clause 41 = .ok (.aload_n 1, 1) := dk_43 (dk_at dksX3_clause_2 1 rfl rfl)
theorem dX3_clause_42 : decode cX3_clause 42 = .ok (.invokevirtual 111, 3) := dk_182 0 111 (dk_at dksX3_clause_2 2 rfl rfl)
theorem dX3_clause_45 : decode cX3_clause 45 = .ok (.goto 63, 3) := dk_167 0 63 (dk_at dksX3_clause_2 5 rfl rfl)
theorem dX3_clause_48 : decode cX3_clause 48 = .ok (.aload_n 1, 1) := dk_43 (dk_at dksX3_clause_2 8 rfl rfl)
theorem dX3_clause_49 : decode cX3_clause 49 = .ok (.aload_n 0, 1) := dk_42 (dk_at dksX3_clause_2 9 rfl rfl)
theorem dX3_clause_50 : decode cX3_clause 50 = .ok (.invokevirtual 114, 3) := dk_182 0 114 (dk_at dksX3_clause_2 10 rfl rfl)
theorem dX3_clause_53 : decode cX3_clause 53 = .ok (.putfield 86, 3) := dk_181 0 86 (dk_at dksX3_clause_2 13 rfl rfl)
theorem dX3_clause_56 : decode cX3_clause 56 = .ok (.goto 52, 3) := dk_167 0 52 (dk_at dksX3_clause_2 16 rfl rfl)
theorem dX3_clause_59 : decode cX3_clause 59 = .ok (.aload_n 1, 1) := dk_43 (dk_at dksX3_clause_2 19 rfl rfl)
theorem dX3_clause_60 : decode cX3_clause 60 = .ok (.aload_n 0, 1) := dk_42 (dk_at dksX3_clause_2 20 rfl rfl)
theorem dX3_clause_61 : decode cX3_clause 61 = .ok (.invokevirtual 114, 3) := dk_182 0 114 (dk_at dksX3_clause_2 21 rfl rfl)
theorem dX3_clause_64 : decode cX3_clause 64 = .ok (.putfield 90, 3) := dk_181 0 90 (dk_at dksX3_clause_3 0 rfl rfl)
theorem dX3_clause_67 : decode cX3_clause 67 = .ok (.goto 41, 3) := dk_167 0 41 (dk_at dksX3_clause_3 3 rfl rfl)
theorem dX3_clause_70 : decode cX3_clause 70 = .ok (.aload_n 1, 1) := dk_43 (dk_at dksX3_clause_3 6 rfl rfl)
theorem dX3_clause_71 : decode cX3_clause 71 = .ok (.aload_n 0, 1) := dk_42 (dk_at dksX3_clause_3 7 rfl rfl)
theorem dX3_clause_72 : decode cX3_clause 72 = .ok (.invokevirtual 118, 3) := dk_182 0 118 (dk_at dksX3_clause_3 8 rfl rfl)
theorem dX3_clause_75 : decode cX3_clause 75 = .ok (.putfield 93, 3) := dk_181 0 93 (dk_at dksX3_clause_3 11 rfl rfl)
theorem dX3_clause_78 : decode cX3_clause 78 = .ok (.goto 30, 3) := dk_167 0 30 (dk_at dksX3_clause_3 14 rfl rfl)
theorem dX3_clause_81 : decode cX3_clause 81 = .ok (.aload_n 1, 1) := dk_43 (dk_at dksX3_clause_3 17 rfl rfl)
theorem dX3_clause_82 : decode cX3_clause 82 = .ok (.aload_n 0, 1) := dk_42 (dk_at dksX3_clause_3 18 rfl rfl)
theorem dX3_clause_83 : decode cX3_clause 83 = .ok (.invokevirtual 114, 3) := dk_182 0 114 (dk_at dksX3_clause_3 19 rfl rfl)
theorem dX3_clause_86 : decode cX3_clause 86 = .ok (.putfield 97, 3) := dk_181 0 97 (dk_at dksX3_clause_4 0 rfl rfl)
theorem dX3_clause_89 : decode cX3_clause 89 = .ok (.goto 19, 3) := dk_167 0 19 (dk_at dksX3_clause_4 3 rfl rfl)
theorem dX3_clause_92 : decode cX3_clause 92 = .ok (.aload_n 1, 1) := dk_43 (dk_at dksX3_clause_4 6 rfl rfl)
theorem dX3_clause_93 : decode cX3_clause 93 = .ok (.getfield 122, 3) := dk_180 0 122 (dk_at dksX3_clause_4 7 rfl rfl)
theorem dX3_clause_96 : decode cX3_clause 96 = .ok (.aload_n 0, 1) := dk_42 (dk_at dksX3_clause_4 10 rfl rfl)
theorem dX3_clause_97 : decode cX3_clause 97 = .ok (.aload_n 1, 1) := dk_43 (dk_at dksX3_clause_4 11 rfl rfl)
theorem dX3_clause_98 : decode cX3_clause 98 = .ok (.getfield 100, 3) := dk_180 0 100 (dk_at dksX3_clause_4 12 rfl rfl)
theorem dX3_clause_101 : decode cX3_clause 101 = .ok (.invokevirtual 126, 3) := dk_182 0 126 (dk_at dksX3_clause_4 15 rfl rfl)
theorem dX3_clause_104 : decode cX3_clause 104 = .ok (.invokevirtual 130, 3) := dk_182 0 130 (dk_at dksX3_clause_4 18 rfl rfl)
theorem dX3_clause_107 : decode cX3_clause 107 = .ok (.pop, 1) := dk_87 (dk_at dksX3_clause_4 21 rfl rfl)
theorem dX3_clause_108 : decode cX3_clause 108 = .ok (.return_, 1) := dk_177 (dk_at dksX3_clause_4 22 rfl rfl)
abbrev cX3_code : ByteArray := prog_16_method_12_code
def yX3_code : MethodName := ⟨RX3, "code", "(LVaneCourt$Text;)V"⟩
def dkwX3_code_1 : List UInt8 := [89, 7, 28, 183, 0, 67, 191, 42, 16, 58, 182, 0, 107, 43, 180, 0, 138, 29, 42, 182, 0, 118, 83, 177]
abbrev dktX3_code_1 : List UInt8 := dkwX3_code_1 ++ []
def dkwX3_code_0 : List UInt8 := [42, 180, 0, 22, 61, 42, 3, 6, 182, 0, 136, 62, 43, 180, 0, 138, 29, 50, 198, 0, 13, 187, 0, 65]
abbrev dktX3_code_0 : List UInt8 := dkwX3_code_0 ++ dktX3_code_1
theorem dksX3_code_0 : cX3_code.data.toList.drop 0 = dktX3_code_0 := by decide +kernel
theorem dksX3_code_1 : cX3_code.data.toList.drop 24 = dktX3_code_1 := dk_seg dksX3_code_0 24 rfl rfl
theorem dX3_code_0 : decode cX3_code 0 = .ok (.aload_n 0, 1) := dk_42 (dk_at dksX3_code_0 0 rfl rfl)
theorem dX3_code_1 : decode cX3_code 1 = .ok (.getfield 22, 3) := dk_180 0 22 (dk_at dksX3_code_0 1 rfl rfl)
theorem dX3_code_4 : decode cX3_code 4 = .ok (.istore_n 2, 1) := dk_61 (dk_at dksX3_code_0 4 rfl rfl)
theorem dX3_code_5 : decode cX3_code 5 = .ok (.aload_n 0, 1) := dk_42 (dk_at dksX3_code_0 5 rfl rfl)
theorem dX3_code_6 : decode cX3_code 6 = .ok (.iconst 0, 1) := dk_3 (dk_at dksX3_code_0 6 rfl rfl)
theorem dX3_code_7 : decode cX3_code 7 = .ok (.iconst 3, 1) := dk_6 (dk_at dksX3_code_0 7 rfl rfl)
theorem dX3_code_8 : decode cX3_code 8 = .ok (.invokevirtual 136, 3) := dk_182 0 136 (dk_at dksX3_code_0 8 rfl rfl)
theorem dX3_code_11 : decode cX3_code 11 = .ok (.istore_n 3, 1) := dk_62 (dk_at dksX3_code_0 11 rfl rfl)
theorem dX3_code_12 : decode cX3_code 12 = .ok (.aload_n 1, 1) := dk_43 (dk_at dksX3_code_0 12 rfl rfl)
theorem dX3_code_13 : decode cX3_code 13 = .ok (.getfield 138, 3) := dk_180 0 138 (dk_at dksX3_code_0 13 rfl rfl)
theorem dX3_code_16 : decode cX3_code 16 = .ok (.iload_n 3, 1) := dk_29 (dk_at dksX3_code_0 16 rfl rfl)
theorem dX3_code_17 : decode cX3_code 17 = .ok (.aaload, 1) := dk_50 (dk_at dksX3_code_0 17 rfl rfl)
theorem dX3_code_18 : decode cX3_code 18 = .ok (.ifnull 13, 3) := dk_198 0 13 (dk_at dksX3_code_0 18 rfl rfl)
theorem dX3_code_21 : decode cX3_code 21 = .ok (.new 65, 3) := dk_187 0 65 (dk_at dksX3_code_0 21 rfl rfl)
theorem dX3_code_24 : decode cX3_code 24 = .ok (.dup, 1) := dk_89 (dk_at dksX3_code_1 0 rfl rfl)
theorem dX3_code_25 : decode cX3_code 25 = .ok (.iconst 4, 1) := dk_7 (dk_at dksX3_code_1 1 rfl rfl)
theorem dX3_code_26 : decode cX3_code 26 = .ok (.iload_n 2, 1) := dk_28 (dk_at dksX3_code_1 2 rfl rfl)
theorem dX3_code_27 : decode cX3_code 27 = .ok (.invokespecial 67, 3) := dk_183 0 67 (dk_at dksX3_code_1 3 rfl rfl)
theorem dX3_code_30 : decode cX3_code 30 = .ok (.athrow, 1) := dk_191 (dk_at dksX3_code_1 6 rfl rfl)
theorem dX3_code_31 : decode cX3_code 31 = .ok (.aload_n 0, 1) := dk_42 (dk_at dksX3_code_1 7 rfl rfl)
theorem dX3_code_32 : decode cX3_code 32 = .ok (.bipush 58, 2) := dk_16 58 (dk_at dksX3_code_1 8 rfl rfl)
theorem dX3_code_34 : decode cX3_code 34 = .ok (.invokevirtual 107, 3) := dk_182 0 107 (dk_at dksX3_code_1 10 rfl rfl)
theorem dX3_code_37 : decode cX3_code 37 = .ok (.aload_n 1, 1) := dk_43 (dk_at dksX3_code_1 13 rfl rfl)
theorem dX3_code_38 : decode cX3_code 38 = .ok (.getfield 138, 3) := dk_180 0 138 (dk_at dksX3_code_1 14 rfl rfl)
theorem dX3_code_41 : decode cX3_code 41 = .ok (.iload_n 3, 1) := dk_29 (dk_at dksX3_code_1 17 rfl rfl)
theorem dX3_code_42 : decode cX3_code 42 = .ok (.aload_n 0, 1) := dk_42 (dk_at dksX3_code_1 18 rfl rfl)
theorem dX3_code_43 : decode cX3_code 43 = .ok (.invokevirtual 118, 3) := dk_182 0 118 (dk_at dksX3_code_1 19 rfl rfl)
theorem dX3_code_46 : decode cX3_code 46 = .ok (.aastore, 1) := dk_83 (dk_at dksX3_code_1 22 rfl rfl)
theorem dX3_code_47 : decode cX3_code 47 = .ok (.return_, 1) := dk_177 (dk_at dksX3_code_1 23 rfl rfl)
abbrev cX3_number : ByteArray := prog_16_method_8_code
def yX3_number : MethodName := ⟨RX3, "number", "(II)I"⟩
def dkwX3_number_2 : List UInt8 := [172]
abbrev dktX3_number_2 : List UInt8 := dkwX3_number_2 ++ []
def dkwX3_number_1 : List UInt8 := [42, 180, 0, 43, 28, 164, 0, 9, 42, 5, 182, 0, 70, 191, 42, 180, 0, 43, 62, 42, 182, 0, 74, 29]
abbrev dktX3_number_1 : List UInt8 := dkwX3_number_1 ++ dktX3_number_2
def dkwX3_number_0 : List UInt8 := [42, 180, 0, 25, 17, 1, 44, 159, 0, 9, 42, 4, 182, 0, 70, 191, 42, 180, 0, 43, 27, 161, 0, 11]
abbrev dktX3_number_0 : List UInt8 := dkwX3_number_0 ++ dktX3_number_1
theorem dksX3_number_0 : cX3_number.data.toList.drop 0 = dktX3_number_0 := by decide +kernel
theorem dksX3_number_1 : cX3_number.data.toList.drop 24 = dktX3_number_1 := dk_seg dksX3_number_0 24 rfl rfl
theorem dksX3_number_2 : cX3_number.data.toList.drop 48 = dktX3_number_2 := dk_seg dksX3_number_1 24 rfl rfl
theorem dX3_number_0 : decode cX3_number 0 = .ok (.aload_n 0, 1) := dk_42 (dk_at dksX3_number_0 0 rfl rfl)
theorem dX3_number_1 : decode cX3_number 1 = .ok (.getfield 25, 3) := dk_180 0 25 (dk_at dksX3_number_0 1 rfl rfl)
theorem dX3_number_4 : decode cX3_number 4 = .ok (.sipush 300, 3) := dk_17 1 44 (dk_at dksX3_number_0 4 rfl rfl)
theorem dX3_number_7 : decode cX3_number 7 = .ok (.if_icmp .eq 9, 3) := dk_159 0 9 (dk_at dksX3_number_0 7 rfl rfl)
theorem dX3_number_10 : decode cX3_number 10 = .ok (.aload_n 0, 1) := dk_42 (dk_at dksX3_number_0 10 rfl rfl)
theorem dX3_number_11 : decode cX3_number 11 = .ok (.iconst 1, 1) := dk_4 (dk_at dksX3_number_0 11 rfl rfl)
theorem dX3_number_12 : decode cX3_number 12 = .ok (.invokevirtual 70, 3) := dk_182 0 70 (dk_at dksX3_number_0 12 rfl rfl)
theorem dX3_number_15 : decode cX3_number 15 = .ok (.athrow, 1) := dk_191 (dk_at dksX3_number_0 15 rfl rfl)
theorem dX3_number_16 : decode cX3_number 16 = .ok (.aload_n 0, 1) := dk_42 (dk_at dksX3_number_0 16 rfl rfl)
theorem dX3_number_17 : decode cX3_number 17 = .ok (.getfield 43, 3) := dk_180 0 43 (dk_at dksX3_number_0 17 rfl rfl)
theorem dX3_number_20 : decode cX3_number 20 = .ok (.iload_n 1, 1) := dk_27 (dk_at dksX3_number_0 20 rfl rfl)
theorem dX3_number_21 : decode cX3_number 21 = .ok (.if_icmp .lt 11, 3) := dk_161 0 11 (dk_at dksX3_number_0 21 rfl rfl)
theorem dX3_number_24 : decode cX3_number 24 = .ok (.aload_n 0, 1) := dk_42 (dk_at dksX3_number_1 0 rfl rfl)
theorem dX3_number_25 : decode cX3_number 25 = .ok (.getfield 43, 3) := dk_180 0 43 (dk_at dksX3_number_1 1 rfl rfl)
theorem dX3_number_28 : decode cX3_number 28 = .ok (.iload_n 2, 1) := dk_28 (dk_at dksX3_number_1 4 rfl rfl)
theorem dX3_number_29 : decode cX3_number 29 = .ok (.if_icmp .le 9, 3) := dk_164 0 9 (dk_at dksX3_number_1 5 rfl rfl)
theorem dX3_number_32 : decode cX3_number 32 = .ok (.aload_n 0, 1) := dk_42 (dk_at dksX3_number_1 8 rfl rfl)
theorem dX3_number_33 : decode cX3_number 33 = .ok (.iconst 2, 1) := dk_5 (dk_at dksX3_number_1 9 rfl rfl)
theorem dX3_number_34 : decode cX3_number 34 = .ok (.invokevirtual 70, 3) := dk_182 0 70 (dk_at dksX3_number_1 10 rfl rfl)
theorem dX3_number_37 : decode cX3_number 37 = .ok (.athrow, 1) := dk_191 (dk_at dksX3_number_1 13 rfl rfl)
theorem dX3_number_38 : decode cX3_number 38 = .ok (.aload_n 0, 1) := dk_42 (dk_at dksX3_number_1 14 rfl rfl)
theorem dX3_number_39 : decode cX3_number 39 = .ok (.getfield 43, 3) := dk_180 0 43 (dk_at dksX3_number_1 15 rfl rfl)
theorem dX3_number_42 : decode cX3_number 42 = .ok (.istore_n 3, 1) := dk_62 (dk_at dksX3_number_1 18 rfl rfl)
theorem dX3_number_43 : decode cX3_number 43 = .ok (.aload_n 0, 1) := dk_42 (dk_at dksX3_number_1 19 rfl rfl)
theorem dX3_number_44 : decode cX3_number 44 = .ok (.invokevirtual 74, 3) := dk_182 0 74 (dk_at dksX3_number_1 20 rfl rfl)
theorem dX3_number_47 : decode cX3_number 47 = .ok (.iload_n 3, 1) := dk_29 (dk_at dksX3_number_1 23 rfl rfl)
theorem dX3_number_48 : decode cX3_number 48 = .ok (.ireturn, 1) := dk_172 (dk_at dksX3_number_2 0 rfl rfl)
abbrev cX3_want : ByteArray := prog_16_method_7_code
def yX3_want : MethodName := ⟨RX3, "want", "(I)V"⟩
def dkwX3_want_0 : List UInt8 := [42, 180, 0, 25, 27, 159, 0, 9, 42, 4, 182, 0, 70, 191, 42, 182, 0, 74, 177]
abbrev dktX3_want_0 : List UInt8 := dkwX3_want_0 ++ []
theorem dksX3_want_0 : cX3_want.data.toList.drop 0 = dktX3_want_0 := by decide +kernel
theorem dX3_want_0 : decode cX3_want 0 = .ok (.aload_n 0, 1) := dk_42 (dk_at dksX3_want_0 0 rfl rfl)
theorem dX3_want_1 : decode cX3_want 1 = .ok (.getfield 25, 3) := dk_180 0 25 (dk_at dksX3_want_0 1 rfl rfl)
theorem dX3_want_4 : decode cX3_want 4 = .ok (.iload_n 1, 1) := dk_27 (dk_at dksX3_want_0 4 rfl rfl)
theorem dX3_want_5 : decode cX3_want 5 = .ok (.if_icmp .eq 9, 3) := dk_159 0 9 (dk_at dksX3_want_0 5 rfl rfl)
theorem dX3_want_8 : decode cX3_want 8 = .ok (.aload_n 0, 1) := dk_42 (dk_at dksX3_want_0 8 rfl rfl)
theorem dX3_want_9 : decode cX3_want 9 = .ok (.iconst 1, 1) := dk_4 (dk_at dksX3_want_0 9 rfl rfl)
theorem dX3_want_10 : decode cX3_want 10 = .ok (.invokevirtual 70, 3) := dk_182 0 70 (dk_at dksX3_want_0 10 rfl rfl)
theorem dX3_want_13 : decode cX3_want 13 = .ok (.athrow, 1) := dk_191 (dk_at dksX3_want_0 13 rfl rfl)
theorem dX3_want_14 : decode cX3_want 14 = .ok (.aload_n 0, 1) := dk_42 (dk_at dksX3_want_0 14 rfl rfl)
theorem dX3_want_15 : decode cX3_want 15 = .ok (.invokevirtual 74, 3) := dk_182 0 74 (dk_at dksX3_want_0 15 rfl rfl)
theorem dX3_want_18 : decode cX3_want 18 = .ok (.return_, 1) := dk_177 (dk_at dksX3_want_0 18 rfl rfl)
abbrev cX3_whole : ByteArray := prog_16_method_17_code
def yX3_whole : MethodName := ⟨RX3, "whole", "()LVaneCourt$Asked;"⟩
def dkwX3_whole_1 : List UInt8 := [89, 43, 42, 182, 0, 170, 183, 0, 175, 176]
abbrev dktX3_whole_1 : List UInt8 := dkwX3_whole_1 ++ []
def dkwX3_whole_0 : List UInt8 := [42, 182, 0, 170, 76, 42, 180, 0, 25, 17, 0, 215, 159, 0, 5, 43, 176, 42, 182, 0, 74, 187, 0, 173]
abbrev dktX3_whole_0 : List UInt8 := dkwX3_whole_0 ++ dktX3_whole_1
theorem dksX3_whole_0 : cX3_whole.data.toList.drop 0 = dktX3_whole_0 := by decide +kernel
theorem dksX3_whole_1 : cX3_whole.data.toList.drop 24 = dktX3_whole_1 := dk_seg dksX3_whole_0 24 rfl rfl
theorem dX3_whole_0 : decode cX3_whole 0 = .ok (.aload_n 0, 1) := dk_42 (dk_at dksX3_whole_0 0 rfl rfl)
theorem dX3_whole_1 : decode cX3_whole 1 = .ok (.invokevirtual 170, 3) := dk_182 0 170 (dk_at dksX3_whole_0 1 rfl rfl)
theorem dX3_whole_4 : decode cX3_whole 4 = .ok (.astore_n 1, 1) := dk_76 (dk_at dksX3_whole_0 4 rfl rfl)
theorem dX3_whole_5 : decode cX3_whole 5 = .ok (.aload_n 0, 1) := dk_42 (dk_at dksX3_whole_0 5 rfl rfl)
theorem dX3_whole_6 : decode cX3_whole 6 = .ok (.getfield 25, 3) := dk_180 0 25 (dk_at dksX3_whole_0 6 rfl rfl)
theorem dX3_whole_9 : decode cX3_whole 9 = .ok (.sipush 215, 3) := dk_17 0 215 (dk_at dksX3_whole_0 9 rfl rfl)
theorem dX3_whole_12 : decode cX3_whole 12 = .ok (.if_icmp .eq 5, 3) := dk_159 0 5 (dk_at dksX3_whole_0 12 rfl rfl)
theorem dX3_whole_15 : decode cX3_whole 15 = .ok (.aload_n 1, 1) := dk_43 (dk_at dksX3_whole_0 15 rfl rfl)
theorem dX3_whole_16 : decode cX3_whole 16 = .ok (.areturn, 1) := dk_176 (dk_at dksX3_whole_0 16 rfl rfl)
theorem dX3_whole_17 : decode cX3_whole 17 = .ok (.aload_n 0, 1) := dk_42 (dk_at dksX3_whole_0 17 rfl rfl)
theorem dX3_whole_18 : decode cX3_whole 18 = .ok (.invokevirtual 74, 3) := dk_182 0 74 (dk_at dksX3_whole_0 18 rfl rfl)
theorem dX3_whole_21 : decode cX3_whole 21 = .ok (.new 173, 3) := dk_187 0 173 (dk_at dksX3_whole_0 21 rfl rfl)
theorem dX3_whole_24 : decode cX3_whole 24 = .ok (.dup, 1) := dk_89 (dk_at dksX3_whole_1 0 rfl rfl)
theorem dX3_whole_25 : decode cX3_whole 25 = .ok (.aload_n 1, 1) := dk_43 (dk_at dksX3_whole_1 1 rfl rfl)
theorem dX3_whole_26 : decode cX3_whole 26 = .ok (.aload_n 0, 1) := dk_42 (dk_at dksX3_whole_1 2 rfl rfl)
theorem dX3_whole_27 : decode cX3_whole 27 = .ok (.invokevirtual 170, 3) := dk_182 0 170 (dk_at dksX3_whole_1 3 rfl rfl)
theorem dX3_whole_30 : decode cX3_whole 30 = .ok (.invokespecial 175, 3) := dk_183 0 175 (dk_at dksX3_whole_1 6 rfl rfl)
theorem dX3_whole_33 : decode cX3_whole 33 = .ok (.areturn, 1) := dk_176 (dk_at dksX3_whole_1 9 rfl rfl)
abbrev cX3_either : ByteArray := prog_16_method_15_code
def yX3_either : MethodName := ⟨RX3, "either", "()LVaneCourt$Asked;"⟩
def dkwX3_either_2 : List UInt8 := [160, 0, 14, 43, 3, 182, 0, 156, 192, 0, 160, 167, 0, 12, 187, 0, 162, 89, 3, 43, 183, 0, 164, 176]
abbrev dktX3_either_2 : List UInt8 := dkwX3_either_2 ++ []
def dkwX3_either_1 : List UInt8 := [160, 0, 19, 42, 182, 0, 74, 43, 42, 182, 0, 151, 182, 0, 130, 87, 167, 255, 233, 43, 182, 0, 154, 4]
abbrev dktX3_either_1 : List UInt8 := dkwX3_either_1 ++ dktX3_either_2
def dkwX3_either_0 : List UInt8 := [187, 0, 131, 89, 183, 0, 150, 76, 43, 42, 182, 0, 151, 182, 0, 130, 87, 42, 180, 0, 25, 17, 0, 216]
abbrev dktX3_either_0 : List UInt8 := dkwX3_either_0 ++ dktX3_either_1
theorem dksX3_either_0 : cX3_either.data.toList.drop 0 = dktX3_either_0 := by decide +kernel
theorem dksX3_either_1 : cX3_either.data.toList.drop 24 = dktX3_either_1 := dk_seg dksX3_either_0 24 rfl rfl
theorem dksX3_either_2 : cX3_either.data.toList.drop 48 = dktX3_either_2 := dk_seg dksX3_either_1 24 rfl rfl
theorem dX3_either_0 : decode cX3_either 0 = .ok (.new 131, 3) := dk_187 0 131 (dk_at dksX3_either_0 0 rfl rfl)
theorem dX3_either_3 : decode cX3_either 3 = .ok (.dup, 1) := dk_89 (dk_at dksX3_either_0 3 rfl rfl)
theorem dX3_either_4 : decode cX3_either 4 = .ok (.invokespecial 150, 3) := dk_183 0 150 (dk_at dksX3_either_0 4 rfl rfl)
theorem dX3_either_7 : decode cX3_either 7 = .ok (.astore_n 1, 1) := dk_76 (dk_at dksX3_either_0 7 rfl rfl)
theorem dX3_either_8 : decode cX3_either 8 = .ok (.aload_n 1, 1) := dk_43 (dk_at dksX3_either_0 8 rfl rfl)
theorem dX3_either_9 : decode cX3_either 9 = .ok (.aload_n 0, 1) := dk_42 (dk_at dksX3_either_0 9 rfl rfl)
theorem dX3_either_10 : decode cX3_either 10 = .ok (.invokevirtual 151, 3) := dk_182 0 151 (dk_at dksX3_either_0 10 rfl rfl)
theorem dX3_either_13 : decode cX3_either 13 = .ok (.invokevirtual 130, 3) := dk_182 0 130 (dk_at dksX3_either_0 13 rfl rfl)
theorem dX3_either_16 : decode cX3_either 16 = .ok (.pop, 1) := dk_87 (dk_at dksX3_either_0 16 rfl rfl)
theorem dX3_either_17 : decode cX3_either 17 = .ok (.aload_n 0, 1) := dk_42 (dk_at dksX3_either_0 17 rfl rfl)
theorem dX3_either_18 : decode cX3_either 18 = .ok (.getfield 25, 3) := dk_180 0 25 (dk_at dksX3_either_0 18 rfl rfl)
theorem dX3_either_21 : decode cX3_either 21 = .ok (.sipush 216, 3) := dk_17 0 216 (dk_at dksX3_either_0 21 rfl rfl)
theorem dX3_either_24 : decode cX3_either 24 = .ok (.if_icmp .ne 19, 3) := dk_160 0 19 (dk_at dksX3_either_1 0 rfl rfl)
theorem dX3_either_27 : decode cX3_either 27 = .ok (.aload_n 0, 1) := dk_42 (dk_at dksX3_either_1 3 rfl rfl)
theorem dX3_either_28 : decode cX3_either 28 = .ok (.invokevirtual 74, 3) := dk_182 0 74 (dk_at dksX3_either_1 4 rfl rfl)
theorem dX3_either_31 : decode cX3_either 31 = .ok (.aload_n 1, 1) := dk_43 (dk_at dksX3_either_1 7 rfl rfl)
theorem dX3_either_32 : decode cX3_either 32 = .ok (.aload_n 0, 1) := dk_42 (dk_at dksX3_either_1 8 rfl rfl)
theorem dX3_either_33 : decode cX3_either 33 = .ok (.invokevirtual 151, 3) := dk_182 0 151 (dk_at dksX3_either_1 9 rfl rfl)
theorem dX3_either_36 : decode cX3_either 36 = .ok (.invokevirtual 130, 3) := dk_182 0 130 (dk_at dksX3_either_1 12 rfl rfl)
theorem dX3_either_39 : decode cX3_either 39 = .ok (.pop, 1) := dk_87 (dk_at dksX3_either_1 15 rfl rfl)
theorem dX3_either_40 : decode cX3_either 40 = .ok (.goto (-23), 3) := dk_167 255 233 (dk_at dksX3_either_1 16 rfl rfl)
theorem dX3_either_43 : decode cX3_either 43 = .ok (.aload_n 1, 1) := dk_43 (dk_at dksX3_either_1 19 rfl rfl)
theorem dX3_either_44 : decode cX3_either 44 = .ok (.invokevirtual 154, 3) := dk_182 0 154 (dk_at dksX3_either_1 20 rfl rfl)
theorem dX3_either_47 : decode cX3_either 47 = .ok (.iconst 1, 1) := dk_4 (dk_at dksX3_either_1 23 rfl rfl)
theorem dX3_either_48 : decode cX3_either 48 = .ok (.if_icmp .ne 14, 3) := dk_160 0 14 (dk_at dksX3_either_2 0 rfl rfl)
theorem dX3_either_51 : decode cX3_either 51 = .ok (.aload_n 1, 1) := dk_43 (dk_at dksX3_either_2 3 rfl rfl)
theorem dX3_either_52 : decode cX3_either 52 = .ok (.iconst 0, 1) := dk_3 (dk_at dksX3_either_2 4 rfl rfl)
theorem dX3_either_53 : decode cX3_either 53 = .ok (.invokevirtual 156, 3) := dk_182 0 156 (dk_at dksX3_either_2 5 rfl rfl)
theorem dX3_either_56 : decode cX3_either 56 = .ok (.checkcast 160, 3) := dk_192 0 160 (dk_at dksX3_either_2 8 rfl rfl)
theorem dX3_either_59 : decode cX3_either 59 = .ok (.goto 12, 3) := dk_167 0 12 (dk_at dksX3_either_2 11 rfl rfl)
theorem dX3_either_62 : decode cX3_either 62 = .ok (.new 162, 3) := dk_187 0 162 (dk_at dksX3_either_2 14 rfl rfl)
theorem dX3_either_65 : decode cX3_either 65 = .ok (.dup, 1) := dk_89 (dk_at dksX3_either_2 17 rfl rfl)
theorem dX3_either_66 : decode cX3_either 66 = .ok (.iconst 0, 1) := dk_3 (dk_at dksX3_either_2 18 rfl rfl)
theorem dX3_either_67 : decode cX3_either 67 = .ok (.aload_n 1, 1) := dk_43 (dk_at dksX3_either_2 19 rfl rfl)
theorem dX3_either_68 : decode cX3_either 68 = .ok (.invokespecial 164, 3) := dk_183 0 164 (dk_at dksX3_either_2 20 rfl rfl)
theorem dX3_either_71 : decode cX3_either 71 = .ok (.areturn, 1) := dk_176 (dk_at dksX3_either_2 23 rfl rfl)
abbrev cX3_both : ByteArray := prog_16_method_16_code
def yX3_both : MethodName := ⟨RX3, "both", "()LVaneCourt$Asked;"⟩
def dkwX3_both_2 : List UInt8 := [160, 0, 14, 43, 3, 182, 0, 156, 192, 0, 160, 167, 0, 12, 187, 0, 162, 89, 4, 43, 183, 0, 164, 176]
abbrev dktX3_both_2 : List UInt8 := dkwX3_both_2 ++ []
def dkwX3_both_1 : List UInt8 := [160, 0, 19, 42, 182, 0, 74, 43, 42, 182, 0, 167, 182, 0, 130, 87, 167, 255, 233, 43, 182, 0, 154, 4]
abbrev dktX3_both_1 : List UInt8 := dkwX3_both_1 ++ dktX3_both_2
def dkwX3_both_0 : List UInt8 := [187, 0, 131, 89, 183, 0, 150, 76, 43, 42, 182, 0, 167, 182, 0, 130, 87, 42, 180, 0, 25, 17, 0, 217]
abbrev dktX3_both_0 : List UInt8 := dkwX3_both_0 ++ dktX3_both_1
theorem dksX3_both_0 : cX3_both.data.toList.drop 0 = dktX3_both_0 := by decide +kernel
theorem dksX3_both_1 : cX3_both.data.toList.drop 24 = dktX3_both_1 := dk_seg dksX3_both_0 24 rfl rfl
theorem dksX3_both_2 : cX3_both.data.toList.drop 48 = dktX3_both_2 := dk_seg dksX3_both_1 24 rfl rfl
theorem dX3_both_0 : decode cX3_both 0 = .ok (.new 131, 3) := dk_187 0 131 (dk_at dksX3_both_0 0 rfl rfl)
theorem dX3_both_3 : decode cX3_both 3 = .ok (.dup, 1) := dk_89 (dk_at dksX3_both_0 3 rfl rfl)
theorem dX3_both_4 : decode cX3_both 4 = .ok (.invokespecial 150, 3) := dk_183 0 150 (dk_at dksX3_both_0 4 rfl rfl)
theorem dX3_both_7 : decode cX3_both 7 = .ok (.astore_n 1, 1) := dk_76 (dk_at dksX3_both_0 7 rfl rfl)
theorem dX3_both_8 : decode cX3_both 8 = .ok (.aload_n 1, 1) := dk_43 (dk_at dksX3_both_0 8 rfl rfl)
theorem dX3_both_9 : decode cX3_both 9 = .ok (.aload_n 0, 1) := dk_42 (dk_at dksX3_both_0 9 rfl rfl)
theorem dX3_both_10 : decode cX3_both 10 = .ok (.invokevirtual 167, 3) := dk_182 0 167 (dk_at dksX3_both_0 10 rfl rfl)
theorem dX3_both_13 : decode cX3_both 13 = .ok (.invokevirtual 130, 3) := dk_182 0 130 (dk_at dksX3_both_0 13 rfl rfl)
theorem dX3_both_16 : decode cX3_both 16 = .ok (.pop, 1) := dk_87 (dk_at dksX3_both_0 16 rfl rfl)
theorem dX3_both_17 : decode cX3_both 17 = .ok (.aload_n 0, 1) := dk_42 (dk_at dksX3_both_0 17 rfl rfl)
theorem dX3_both_18 : decode cX3_both 18 = .ok (.getfield 25, 3) := dk_180 0 25 (dk_at dksX3_both_0 18 rfl rfl)
theorem dX3_both_21 : decode cX3_both 21 = .ok (.sipush 217, 3) := dk_17 0 217 (dk_at dksX3_both_0 21 rfl rfl)
theorem dX3_both_24 : decode cX3_both 24 = .ok (.if_icmp .ne 19, 3) := dk_160 0 19 (dk_at dksX3_both_1 0 rfl rfl)
theorem dX3_both_27 : decode cX3_both 27 = .ok (.aload_n 0, 1) := dk_42 (dk_at dksX3_both_1 3 rfl rfl)
theorem dX3_both_28 : decode cX3_both 28 = .ok (.invokevirtual 74, 3) := dk_182 0 74 (dk_at dksX3_both_1 4 rfl rfl)
theorem dX3_both_31 : decode cX3_both 31 = .ok (.aload_n 1, 1) := dk_43 (dk_at dksX3_both_1 7 rfl rfl)
theorem dX3_both_32 : decode cX3_both 32 = .ok (.aload_n 0, 1) := dk_42 (dk_at dksX3_both_1 8 rfl rfl)
theorem dX3_both_33 : decode cX3_both 33 = .ok (.invokevirtual 167, 3) := dk_182 0 167 (dk_at dksX3_both_1 9 rfl rfl)
theorem dX3_both_36 : decode cX3_both 36 = .ok (.invokevirtual 130, 3) := dk_182 0 130 (dk_at dksX3_both_1 12 rfl rfl)
theorem dX3_both_39 : decode cX3_both 39 = .ok (.pop, 1) := dk_87 (dk_at dksX3_both_1 15 rfl rfl)
theorem dX3_both_40 : decode cX3_both 40 = .ok (.goto (-23), 3) := dk_167 255 233 (dk_at dksX3_both_1 16 rfl rfl)
theorem dX3_both_43 : decode cX3_both 43 = .ok (.aload_n 1, 1) := dk_43 (dk_at dksX3_both_1 19 rfl rfl)
theorem dX3_both_44 : decode cX3_both 44 = .ok (.invokevirtual 154, 3) := dk_182 0 154 (dk_at dksX3_both_1 20 rfl rfl)
theorem dX3_both_47 : decode cX3_both 47 = .ok (.iconst 1, 1) := dk_4 (dk_at dksX3_both_1 23 rfl rfl)
theorem dX3_both_48 : decode cX3_both 48 = .ok (.if_icmp .ne 14, 3) := dk_160 0 14 (dk_at dksX3_both_2 0 rfl rfl)
theorem dX3_both_51 : decode cX3_both 51 = .ok (.aload_n 1, 1) := dk_43 (dk_at dksX3_both_2 3 rfl rfl)
theorem dX3_both_52 : decode cX3_both 52 = .ok (.iconst 0, 1) := dk_3 (dk_at dksX3_both_2 4 rfl rfl)
theorem dX3_both_53 : decode cX3_both 53 = .ok (.invokevirtual 156, 3) := dk_182 0 156 (dk_at dksX3_both_2 5 rfl rfl)
theorem dX3_both_56 : decode cX3_both 56 = .ok (.checkcast 160, 3) := dk_192 0 160 (dk_at dksX3_both_2 8 rfl rfl)
theorem dX3_both_59 : decode cX3_both 59 = .ok (.goto 12, 3) := dk_167 0 12 (dk_at dksX3_both_2 11 rfl rfl)
theorem dX3_both_62 : decode cX3_both 62 = .ok (.new 162, 3) := dk_187 0 162 (dk_at dksX3_both_2 14 rfl rfl)
theorem dX3_both_65 : decode cX3_both 65 = .ok (.dup, 1) := dk_89 (dk_at dksX3_both_2 17 rfl rfl)
theorem dX3_both_66 : decode cX3_both 66 = .ok (.iconst 1, 1) := dk_4 (dk_at dksX3_both_2 18 rfl rfl)
theorem dX3_both_67 : decode cX3_both 67 = .ok (.aload_n 1, 1) := dk_43 (dk_at dksX3_both_2 19 rfl rfl)
theorem dX3_both_68 : decode cX3_both 68 = .ok (.invokespecial 164, 3) := dk_183 0 164 (dk_at dksX3_both_2 20 rfl rfl)
theorem dX3_both_71 : decode cX3_both 71 = .ok (.areturn, 1) := dk_176 (dk_at dksX3_both_2 23 rfl rfl)
abbrev cX3_ask : ByteArray := prog_16_method_20_code
def yX3_ask : MethodName := ⟨RX3, "ask", "()LVaneCourt$Asked;"⟩
def dkwX3_ask_5 : List UInt8 := [4, 182, 0, 70, 191, 42, 182, 0, 74, 187, 0, 201, 89, 28, 43, 42, 182, 0, 114, 183, 0, 203, 176]
abbrev dktX3_ask_5 : List UInt8 := dkwX3_ask_5 ++ []
def dkwX3_ask_4 : List UInt8 := [159, 0, 29, 28, 16, 35, 159, 0, 23, 28, 17, 1, 47, 159, 0, 16, 28, 17, 1, 48, 159, 0, 9, 42]
abbrev dktX3_ask_4 : List UInt8 := dkwX3_ask_4 ++ dktX3_ask_5
def dkwX3_ask_3 : List UInt8 := [182, 0, 114, 76, 42, 180, 0, 25, 61, 28, 16, 60, 159, 0, 41, 28, 16, 62, 159, 0, 35, 28, 16, 61]
abbrev dktX3_ask_3 : List UInt8 := dkwX3_ask_3 ++ dktX3_ask_4
def dkwX3_ask_2 : List UInt8 := [160, 0, 8, 42, 182, 0, 195, 176, 42, 180, 0, 25, 17, 0, 220, 160, 0, 8, 42, 182, 0, 198, 176, 42]
abbrev dktX3_ask_2 : List UInt8 := dkwX3_ask_2 ++ dktX3_ask_3
def dkwX3_ask_1 : List UInt8 := [183, 0, 192, 76, 42, 89, 180, 0, 77, 4, 100, 181, 0, 77, 43, 176, 42, 180, 0, 25, 17, 0, 219]
abbrev dktX3_ask_1 : List UInt8 := dkwX3_ask_1 ++ dktX3_ask_2
def dkwX3_ask_0 : List UInt8 := [42, 180, 0, 25, 17, 0, 218, 160, 0, 31, 42, 182, 0, 182, 187, 0, 190, 89, 42, 182, 0, 167]
abbrev dktX3_ask_0 : List UInt8 := dkwX3_ask_0 ++ dktX3_ask_1
theorem dksX3_ask_0 : cX3_ask.data.toList.drop 0 = dktX3_ask_0 := by decide +kernel
theorem dksX3_ask_1 : cX3_ask.data.toList.drop 22 = dktX3_ask_1 := dk_seg dksX3_ask_0 22 rfl rfl
theorem dksX3_ask_2 : cX3_ask.data.toList.drop 45 = dktX3_ask_2 := dk_seg dksX3_ask_1 23 rfl rfl
theorem dksX3_ask_3 : cX3_ask.data.toList.drop 69 = dktX3_ask_3 := dk_seg dksX3_ask_2 24 rfl rfl
theorem dksX3_ask_4 : cX3_ask.data.toList.drop 93 = dktX3_ask_4 := dk_seg dksX3_ask_3 24 rfl rfl
theorem dksX3_ask_5 : cX3_ask.data.toList.drop 117 = dktX3_ask_5 := dk_seg dksX3_ask_4 24 rfl rfl
theorem dX3_ask_0 : decode cX3_ask 0 = .ok (.aload_n 0, 1) := dk_42 (dk_at dksX3_ask_0 0 rfl rfl)
theorem dX3_ask_1 : decode cX3_ask 1 = .ok (.getfield 25, 3) := dk_180 0 25 (dk_at dksX3_ask_0 1 rfl rfl)
theorem dX3_ask_4 : decode cX3_ask 4 = .ok (.sipush 218, 3) := dk_17 0 218 (dk_at dksX3_ask_0 4 rfl rfl)
theorem dX3_ask_7 : decode cX3_ask 7 = .ok (.if_icmp .ne 31, 3) := dk_160 0 31 (dk_at dksX3_ask_0 7 rfl rfl)
theorem dX3_ask_10 : decode cX3_ask 10 = .ok (.aload_n 0, 1) := dk_42 (dk_at dksX3_ask_0 10 rfl rfl)
theorem dX3_ask_11 : decode cX3_ask 11 = .ok (.invokevirtual 182, 3) := dk_182 0 182 (dk_at dksX3_ask_0 11 rfl rfl)
theorem dX3_ask_14 : decode cX3_ask 14 = .ok (.new 190, 3) := dk_187 0 190 (dk_at dksX3_ask_0 14 rfl rfl)
theorem dX3_ask_17 : decode cX3_ask 17 = .ok (.dup, 1) := dk_89 (dk_at dksX3_ask_0 17 rfl rfl)
theorem dX3_ask_18 : decode cX3_ask 18 = .ok (.aload_n 0, 1) := dk_42 (dk_at dksX3_ask_0 18 rfl rfl)
theorem dX3_ask_19 : decode cX3_ask 19 = .ok (.invokevirtual 167, 3) := dk_182 0 167 (dk_at dksX3_ask_0 19 rfl rfl)
theorem dX3_ask_22 : decode cX3_ask 22 = .ok (.invokespecial 192, 3) := dk_183 0 192 (dk_at dksX3_ask_1 0 rfl rfl)
theorem dX3_ask_25 : decode cX3_ask 25 = .ok (.astore_n 1, 1) := dk_76 (dk_at dksX3_ask_1 3 rfl rfl)
theorem dX3_ask_26 : decode cX3_ask 26 = .ok (.aload_n 0, 1) := dk_42 (dk_at dksX3_ask_1 4 rfl rfl)
theorem dX3_ask_27 : decode cX3_ask 27 = .ok (.dup, 1) := dk_89 (dk_at dksX3_ask_1 5 rfl rfl)
theorem dX3_ask_28 : decode cX3_ask 28 = .ok (.getfield 77, 3) := dk_180 0 77 (dk_at dksX3_ask_1 6 rfl rfl)
theorem dX3_ask_31 : decode cX3_ask 31 = .ok (.iconst 1, 1) := dk_4 (dk_at dksX3_ask_1 9 rfl rfl)
theorem dX3_ask_32 : decode cX3_ask 32 = .ok (.isub, 1) := dk_100 (dk_at dksX3_ask_1 10 rfl rfl)
theorem dX3_ask_33 : decode cX3_ask 33 = .ok (.putfield 77, 3) := dk_181 0 77 (dk_at dksX3_ask_1 11 rfl rfl)
theorem dX3_ask_36 : decode cX3_ask 36 = .ok (.aload_n 1, 1) := dk_43 (dk_at dksX3_ask_1 14 rfl rfl)
theorem dX3_ask_37 : decode cX3_ask 37 = .ok (.areturn, 1) := dk_176 (dk_at dksX3_ask_1 15 rfl rfl)
theorem dX3_ask_38 : decode cX3_ask 38 = .ok (.aload_n 0, 1) := dk_42 (dk_at dksX3_ask_1 16 rfl rfl)
theorem dX3_ask_39 : decode cX3_ask 39 = .ok (.getfield 25, 3) := dk_180 0 25 (dk_at dksX3_ask_1 17 rfl rfl)
theorem dX3_ask_42 : decode cX3_ask 42 = .ok (.sipush 219, 3) := dk_17 0 219 (dk_at dksX3_ask_1 20 rfl rfl)
theorem dX3_ask_45 : decode cX3_ask 45 = .ok (.if_icmp .ne 8, 3) := dk_160 0 8 (dk_at dksX3_ask_2 0 rfl rfl)
theorem dX3_ask_48 : decode cX3_ask 48 = .ok (.aload_n 0, 1) := dk_42 (dk_at dksX3_ask_2 3 rfl rfl)
theorem dX3_ask_49 : decode cX3_ask 49 = .ok (.invokevirtual 195, 3) := dk_182 0 195 (dk_at dksX3_ask_2 4 rfl rfl)
theorem dX3_ask_52 : decode cX3_ask 52 = .ok (.areturn, 1) := dk_176 (dk_at dksX3_ask_2 7 rfl rfl)
theorem dX3_ask_53 : decode cX3_ask 53 = .ok (.aload_n 0, 1) := dk_42 (dk_at dksX3_ask_2 8 rfl rfl)
theorem dX3_ask_54 : decode cX3_ask 54 = .ok (.getfield 25, 3) := dk_180 0 25 (dk_at dksX3_ask_2 9 rfl rfl)
theorem dX3_ask_57 : decode cX3_ask 57 = .ok (.sipush 220, 3) := dk_17 0 220 (dk_at dksX3_ask_2 12 rfl rfl)
theorem dX3_ask_60 : decode cX3_ask 60 = .ok (.if_icmp .ne 8, 3) := dk_160 0 8 (dk_at dksX3_ask_2 15 rfl rfl)
theorem dX3_ask_63 : decode cX3_ask 63 = .ok (.aload_n 0, 1) := dk_42 (dk_at dksX3_ask_2 18 rfl rfl)
theorem dX3_ask_64 : decode cX3_ask 64 = .ok (.invokevirtual 198, 3) := dk_182 0 198 (dk_at dksX3_ask_2 19 rfl rfl)
theorem dX3_ask_67 : decode cX3_ask 67 = .ok (.areturn, 1) := dk_176 (dk_at dksX3_ask_2 22 rfl rfl)
theorem dX3_ask_68 : decode cX3_ask 68 = .ok (.aload_n 0, 1) := dk_42 (dk_at dksX3_ask_2 23 rfl rfl)
theorem dX3_ask_69 : decode cX3_ask 69 = .ok (.invokevirtual 114, 3) := dk_182 0 114 (dk_at dksX3_ask_3 0 rfl rfl)
theorem dX3_ask_72 : decode cX3_ask 72 = .ok (.astore_n 1, 1) := dk_76 (dk_at dksX3_ask_3 3 rfl rfl)
theorem dX3_ask_73 : decode cX3_ask 73 = .ok (.aload_n 0, 1) := dk_42 (dk_at dksX3_ask_3 4 rfl rfl)
theorem dX3_ask_74 : decode cX3_ask 74 = .ok (.getfield 25, 3) := dk_180 0 25 (dk_at dksX3_ask_3 5 rfl rfl)
theorem dX3_ask_77 : decode cX3_ask 77 = .ok (.istore_n 2, 1) := dk_61 (dk_at dksX3_ask_3 8 rfl rfl)
theorem dX3_ask_78 : decode cX3_ask 78 = .ok (.iload_n 2, 1) := dk_28 (dk_at dksX3_ask_3 9 rfl rfl)
theorem dX3_ask_79 : decode cX3_ask 79 = .ok (.bipush 60, 2) := dk_16 60 (dk_at dksX3_ask_3 10 rfl rfl)
theorem dX3_ask_81 : decode cX3_ask 81 = .ok (.if_icmp .eq 41, 3) := dk_159 0 41 (dk_at dksX3_ask_3 12 rfl rfl)
theorem dX3_ask_84 : decode cX3_ask 84 = .ok (.iload_n 2, 1) := dk_28 (dk_at dksX3_ask_3 15 rfl rfl)
theorem dX3_ask_85 : decode cX3_ask 85 = .ok (.bipush 62, 2) := dk_16 62 (dk_at dksX3_ask_3 16 rfl rfl)
theorem dX3_ask_87 : decode cX3_ask 87 = .ok (.if_icmp .eq 35, 3) := dk_159 0 35 (dk_at dksX3_ask_3 18 rfl rfl)
theorem dX3_ask_90 : decode cX3_ask 90 = .ok (.iload_n 2, 1) := dk_28 (dk_at dksX3_ask_3 21 rfl rfl)
theorem dX3_ask_91 : decode cX3_ask 91 = .ok (.bipush 61, 2) := dk_16 61 (dk_at dksX3_ask_3 22 rfl rfl)
theorem dX3_ask_93 : decode cX3_ask 93 = .ok (.if_icmp .eq 29, 3) := dk_159 0 29 (dk_at dksX3_ask_4 0 rfl rfl)
theorem dX3_ask_96 : decode cX3_ask 96 = .ok (.iload_n 2, 1) := dk_28 (dk_at dksX3_ask_4 3 rfl rfl)
theorem dX3_ask_97 : decode cX3_ask 97 = .ok (.bipush 35, 2) := dk_16 35 (dk_at dksX3_ask_4 4 rfl rfl)
theorem dX3_ask_99 : decode cX3_ask 99 = .ok (.if_icmp .eq 23, 3) := dk_159 0 23 (dk_at dksX3_ask_4 6 rfl rfl)
theorem dX3_ask_102 : decode cX3_ask 102 = .ok (.iload_n 2, 1) := dk_28 (dk_at dksX3_ask_4 9 rfl rfl)
theorem dX3_ask_103 : decode cX3_ask 103 = .ok (.sipush 303, 3) := dk_17 1 47 (dk_at dksX3_ask_4 10 rfl rfl)
theorem dX3_ask_106 : decode cX3_ask 106 = .ok (.if_icmp .eq 16, 3) := dk_159 0 16 (dk_at dksX3_ask_4 13 rfl rfl)
theorem dX3_ask_109 : decode cX3_ask 109 = .ok (.iload_n 2, 1) := dk_28 (dk_at dksX3_ask_4 16 rfl rfl)
theorem dX3_ask_110 : decode cX3_ask 110 = .ok (.sipush 304, 3) := dk_17 1 48 (dk_at dksX3_ask_4 17 rfl rfl)
theorem dX3_ask_113 : decode cX3_ask 113 = .ok (.if_icmp .eq 9, 3) := dk_159 0 9 (dk_at dksX3_ask_4 20 rfl rfl)
theorem dX3_ask_116 : decode cX3_ask 116 = .ok (.aload_n 0, 1) := dk_42 (dk_at dksX3_ask_4 23 rfl rfl)
theorem dX3_ask_117 : decode cX3_ask 117 = .ok (.iconst 1, 1) := dk_4 (dk_at dksX3_ask_5 0 rfl rfl)
theorem dX3_ask_118 : decode cX3_ask 118 = .ok (.invokevirtual 70, 3) := dk_182 0 70 (dk_at dksX3_ask_5 1 rfl rfl)
theorem dX3_ask_121 : decode cX3_ask 121 = .ok (.athrow, 1) := dk_191 (dk_at dksX3_ask_5 4 rfl rfl)
theorem dX3_ask_122 : decode cX3_ask 122 = .ok (.aload_n 0, 1) := dk_42 (dk_at dksX3_ask_5 5 rfl rfl)
theorem dX3_ask_123 : decode cX3_ask 123 = .ok (.invokevirtual 74, 3) := dk_182 0 74 (dk_at dksX3_ask_5 6 rfl rfl)
theorem dX3_ask_126 : decode cX3_ask 126 = .ok (.new 201, 3) := dk_187 0 201 (dk_at dksX3_ask_5 9 rfl rfl)
theorem dX3_ask_129 : decode cX3_ask 129 = .ok (.dup, 1) := dk_89 (dk_at dksX3_ask_5 12 rfl rfl)
theorem dX3_ask_130 : decode cX3_ask 130 = .ok (.iload_n 2, 1) := dk_28 (dk_at dksX3_ask_5 13 rfl rfl)
theorem dX3_ask_131 : decode cX3_ask 131 = .ok (.aload_n 1, 1) := dk_43 (dk_at dksX3_ask_5 14 rfl rfl)
theorem dX3_ask_132 : decode cX3_ask 132 = .ok (.aload_n 0, 1) := dk_42 (dk_at dksX3_ask_5 15 rfl rfl)
theorem dX3_ask_133 : decode cX3_ask 133 = .ok (.invokevirtual 114, 3) := dk_182 0 114 (dk_at dksX3_ask_5 16 rfl rfl)
theorem dX3_ask_136 : decode cX3_ask 136 = .ok (.invokespecial 203, 3) := dk_183 0 203 (dk_at dksX3_ask_5 19 rfl rfl)
theorem dX3_ask_139 : decode cX3_ask 139 = .ok (.areturn, 1) := dk_176 (dk_at dksX3_ask_5 22 rfl rfl)
abbrev cX3_opens : ByteArray := prog_16_method_9_code
def yX3_opens : MethodName := ⟨RX3, "opens", "()V"⟩
def dkwX3_opens_1 : List UInt8 := [181, 0, 77, 42, 182, 0, 74, 177]
abbrev dktX3_opens_1 : List UInt8 := dkwX3_opens_1 ++ []
def dkwX3_opens_0 : List UInt8 := [42, 180, 0, 77, 16, 8, 160, 0, 9, 42, 6, 182, 0, 70, 191, 42, 89, 180, 0, 77, 4, 96]
abbrev dktX3_opens_0 : List UInt8 := dkwX3_opens_0 ++ dktX3_opens_1
theorem dksX3_opens_0 : cX3_opens.data.toList.drop 0 = dktX3_opens_0 := by decide +kernel
theorem dksX3_opens_1 : cX3_opens.data.toList.drop 22 = dktX3_opens_1 := dk_seg dksX3_opens_0 22 rfl rfl
theorem dX3_opens_0 : decode cX3_opens 0 = .ok (.aload_n 0, 1) := dk_42 (dk_at dksX3_opens_0 0 rfl rfl)
theorem dX3_opens_1 : decode cX3_opens 1 = .ok (.getfield 77, 3) := dk_180 0 77 (dk_at dksX3_opens_0 1 rfl rfl)
theorem dX3_opens_4 : decode cX3_opens 4 = .ok (.bipush 8, 2) := dk_16 8 (dk_at dksX3_opens_0 4 rfl rfl)
theorem dX3_opens_6 : decode cX3_opens 6 = .ok (.if_icmp .ne 9, 3) := dk_160 0 9 (dk_at dksX3_opens_0 6 rfl rfl)
theorem dX3_opens_9 : decode cX3_opens 9 = .ok (.aload_n 0, 1) := dk_42 (dk_at dksX3_opens_0 9 rfl rfl)
theorem dX3_opens_10 : decode cX3_opens 10 = .ok (.iconst 3, 1) := dk_6 (dk_at dksX3_opens_0 10 rfl rfl)
theorem dX3_opens_11 : decode cX3_opens 11 = .ok (.invokevirtual 70, 3) := dk_182 0 70 (dk_at dksX3_opens_0 11 rfl rfl)
theorem dX3_opens_14 : decode cX3_opens 14 = .ok (.athrow, 1) := dk_191 (dk_at dksX3_opens_0 14 rfl rfl)
theorem dX3_opens_15 : decode cX3_opens 15 = .ok (.aload_n 0, 1) := dk_42 (dk_at dksX3_opens_0 15 rfl rfl)
theorem dX3_opens_16 : decode cX3_opens 16 = .ok (.dup, 1) := dk_89 (dk_at dksX3_opens_0 16 rfl rfl)
theorem dX3_opens_17 : decode cX3_opens 17 = .ok (.getfield 77, 3) := dk_180 0 77 (dk_at dksX3_opens_0 17 rfl rfl)
theorem dX3_opens_20 : decode cX3_opens 20 = .ok (.iconst 1, 1) := dk_4 (dk_at dksX3_opens_0 20 rfl rfl)
theorem dX3_opens_21 : decode cX3_opens 21 = .ok (.iadd, 1) := dk_96 (dk_at dksX3_opens_0 21 rfl rfl)
theorem dX3_opens_22 : decode cX3_opens 22 = .ok (.putfield 77, 3) := dk_181 0 77 (dk_at dksX3_opens_1 0 rfl rfl)
theorem dX3_opens_25 : decode cX3_opens 25 = .ok (.aload_n 0, 1) := dk_42 (dk_at dksX3_opens_1 3 rfl rfl)
theorem dX3_opens_26 : decode cX3_opens 26 = .ok (.invokevirtual 74, 3) := dk_182 0 74 (dk_at dksX3_opens_1 4 rfl rfl)
theorem dX3_opens_29 : decode cX3_opens 29 = .ok (.return_, 1) := dk_177 (dk_at dksX3_opens_1 7 rfl rfl)
abbrev cX3_fact : ByteArray := prog_16_method_18_code
def yX3_fact : MethodName := ⟨RX3, "fact", "()LVaneCourt$Asked;"⟩
def dkwX3_fact_1 : List UInt8 := [42, 3, 16, 7, 182, 0, 136, 183, 0, 180, 176]
abbrev dktX3_fact_1 : List UInt8 := dkwX3_fact_1 ++ []
def dkwX3_fact_0 : List UInt8 := [42, 180, 0, 83, 17, 0, 200, 159, 0, 9, 42, 8, 182, 0, 70, 191, 42, 182, 0, 74, 187, 0, 178, 89]
abbrev dktX3_fact_0 : List UInt8 := dkwX3_fact_0 ++ dktX3_fact_1
theorem dksX3_fact_0 : cX3_fact.data.toList.drop 0 = dktX3_fact_0 := by decide +kernel
theorem dksX3_fact_1 : cX3_fact.data.toList.drop 24 = dktX3_fact_1 := dk_seg dksX3_fact_0 24 rfl rfl
theorem dX3_fact_0 : decode cX3_fact 0 = .ok (.aload_n 0, 1) := dk_42 (dk_at dksX3_fact_0 0 rfl rfl)
theorem dX3_fact_1 : decode cX3_fact 1 = .ok (.getfield 83, 3) := dk_180 0 83 (dk_at dksX3_fact_0 1 rfl rfl)
theorem dX3_fact_4 : decode cX3_fact 4 = .ok (.sipush 200, 3) := dk_17 0 200 (dk_at dksX3_fact_0 4 rfl rfl)
theorem dX3_fact_7 : decode cX3_fact 7 = .ok (.if_icmp .eq 9, 3) := dk_159 0 9 (dk_at dksX3_fact_0 7 rfl rfl)
theorem dX3_fact_10 : decode cX3_fact 10 = .ok (.aload_n 0, 1) := dk_42 (dk_at dksX3_fact_0 10 rfl rfl)
theorem dX3_fact_11 : decode cX3_fact 11 = .ok (.iconst 5, 1) := dk_8 (dk_at dksX3_fact_0 11 rfl rfl)
theorem dX3_fact_12 : decode cX3_fact 12 = .ok (.invokevirtual 70, 3) := dk_182 0 70 (dk_at dksX3_fact_0 12 rfl rfl)
theorem dX3_fact_15 : decode cX3_fact 15 = .ok (.athrow, 1) := dk_191 (dk_at dksX3_fact_0 15 rfl rfl)
theorem dX3_fact_16 : decode cX3_fact 16 = .ok (.aload_n 0, 1) := dk_42 (dk_at dksX3_fact_0 16 rfl rfl)
theorem dX3_fact_17 : decode cX3_fact 17 = .ok (.invokevirtual 74, 3) := dk_182 0 74 (dk_at dksX3_fact_0 17 rfl rfl)
theorem dX3_fact_20 : decode cX3_fact 20 = .ok (.new 178, 3) := dk_187 0 178 (dk_at dksX3_fact_0 20 rfl rfl)
theorem dX3_fact_23 : decode cX3_fact 23 = .ok (.dup, 1) := dk_89 (dk_at dksX3_fact_0 23 rfl rfl)
theorem dX3_fact_24 : decode cX3_fact 24 = .ok (.aload_n 0, 1) := dk_42 (dk_at dksX3_fact_1 0 rfl rfl)
theorem dX3_fact_25 : decode cX3_fact 25 = .ok (.iconst 0, 1) := dk_3 (dk_at dksX3_fact_1 1 rfl rfl)
theorem dX3_fact_26 : decode cX3_fact 26 = .ok (.bipush 7, 2) := dk_16 7 (dk_at dksX3_fact_1 2 rfl rfl)
theorem dX3_fact_28 : decode cX3_fact 28 = .ok (.invokevirtual 136, 3) := dk_182 0 136 (dk_at dksX3_fact_1 4 rfl rfl)
theorem dX3_fact_31 : decode cX3_fact 31 = .ok (.invokespecial 180, 3) := dk_183 0 180 (dk_at dksX3_fact_1 7 rfl rfl)
theorem dX3_fact_34 : decode cX3_fact 34 = .ok (.areturn, 1) := dk_176 (dk_at dksX3_fact_1 10 rfl rfl)
abbrev cX3_most : ByteArray := prog_16_method_19_code
def yX3_most : MethodName := ⟨RX3, "most", "()LVaneCourt$Asked;"⟩
def dkwX3_most_3 : List UInt8 := [16, 41, 182, 0, 107, 42, 89, 180, 0, 77, 4, 100, 181, 0, 77, 187, 0, 185, 89, 43, 183, 0, 187, 176]
abbrev dktX3_most_3 : List UInt8 := dkwX3_most_3 ++ []
def dkwX3_most_2 : List UInt8 := [16, 7, 182, 0, 70, 191, 42, 182, 0, 74, 43, 42, 182, 0, 170, 182, 0, 130, 87, 167, 255, 218, 42]
abbrev dktX3_most_2 : List UInt8 := dkwX3_most_2 ++ dktX3_most_3
def dkwX3_most_1 : List UInt8 := [182, 0, 130, 87, 42, 180, 0, 25, 16, 44, 160, 0, 35, 43, 182, 0, 154, 16, 6, 160, 0, 10, 42]
abbrev dktX3_most_1 : List UInt8 := dkwX3_most_1 ++ dktX3_most_2
def dkwX3_most_0 : List UInt8 := [42, 182, 0, 182, 187, 0, 131, 89, 183, 0, 150, 76, 42, 16, 40, 182, 0, 107, 43, 42, 182, 0, 170]
abbrev dktX3_most_0 : List UInt8 := dkwX3_most_0 ++ dktX3_most_1
theorem dksX3_most_0 : cX3_most.data.toList.drop 0 = dktX3_most_0 := by decide +kernel
theorem dksX3_most_1 : cX3_most.data.toList.drop 23 = dktX3_most_1 := dk_seg dksX3_most_0 23 rfl rfl
theorem dksX3_most_2 : cX3_most.data.toList.drop 46 = dktX3_most_2 := dk_seg dksX3_most_1 23 rfl rfl
theorem dksX3_most_3 : cX3_most.data.toList.drop 69 = dktX3_most_3 := dk_seg dksX3_most_2 23 rfl rfl
theorem dX3_most_0 : decode cX3_most 0 = .ok (.aload_n 0, 1) := dk_42 (dk_at dksX3_most_0 0 rfl rfl)
theorem dX3_most_1 : decode cX3_most 1 = .ok (.invokevirtual 182, 3) := dk_182 0 182 (dk_at dksX3_most_0 1 rfl rfl)
theorem dX3_most_4 : decode cX3_most 4 = .ok (.new 131, 3) := dk_187 0 131 (dk_at dksX3_most_0 4 rfl rfl)
theorem dX3_most_7 : decode cX3_most 7 = .ok (.dup, 1) := dk_89 (dk_at dksX3_most_0 7 rfl rfl)
theorem dX3_most_8 : decode cX3_most 8 = .ok (.invokespecial 150, 3) := dk_183 0 150 (dk_at dksX3_most_0 8 rfl rfl)
theorem dX3_most_11 : decode cX3_most 11 = .ok (.astore_n 1, 1) := dk_76 (dk_at dksX3_most_0 11 rfl rfl)
theorem dX3_most_12 : decode cX3_most 12 = .ok (.aload_n 0, 1) := dk_42 (dk_at dksX3_most_0 12 rfl rfl)
theorem dX3_most_13 : decode cX3_most 13 = .ok (.bipush 40, 2) := dk_16 40 (dk_at dksX3_most_0 13 rfl rfl)
theorem dX3_most_15 : decode cX3_most 15 = .ok (.invokevirtual 107, 3) := dk_182 0 107 (dk_at dksX3_most_0 15 rfl rfl)
theorem dX3_most_18 : decode cX3_most 18 = .ok (.aload_n 1, 1) := dk_43 (dk_at dksX3_most_0 18 rfl rfl)
theorem dX3_most_19 : decode cX3_most 19 = .ok (.aload_n 0, 1) := dk_42 (dk_at dksX3_most_0 19 rfl rfl)
theorem dX3_most_20 : decode cX3_most 20 = .ok (.invokevirtual 170, 3) := dk_182 0 170 (dk_at dksX3_most_0 20 rfl rfl)
theorem dX3_most_23 : decode cX3_most 23 = .ok (.invokevirtual 130, 3) := dk_182 0 130 (dk_at dksX3_most_1 0 rfl rfl)
theorem dX3_most_26 : decode cX3_most 26 = .ok (.pop, 1) := dk_87 (dk_at dksX3_most_1 3 rfl rfl)
theorem dX3_most_27 : decode cX3_most 27 = .ok (.aload_n 0, 1) := dk_42 (dk_at dksX3_most_1 4 rfl rfl)
theorem dX3_most_28 : decode cX3_most 28 = .ok (.getfield 25, 3) := dk_180 0 25 (dk_at dksX3_most_1 5 rfl rfl)
theorem dX3_most_31 : decode cX3_most 31 = .ok (.bipush 44, 2) := dk_16 44 (dk_at dksX3_most_1 8 rfl rfl)
theorem dX3_most_33 : decode cX3_most 33 = .ok (.if_icmp .ne 35, 3) := dk_160 0 35 (dk_at dksX3_most_1 10 rfl rfl)
theorem dX3_most_36 : decode cX3_most 36 = .ok (.aload_n 1, 1) := dk_43 (dk_at dksX3_most_1 13 rfl rfl)
theorem dX3_most_37 : decode cX3_most 37 = .ok (.invokevirtual 154, 3) := dk_182 0 154 (dk_at dksX3_most_1 14 rfl rfl)
theorem dX3_most_40 : decode cX3_most 40 = .ok (.bipush 6, 2) := dk_16 6 (dk_at dksX3_most_1 17 rfl rfl)
theorem dX3_most_42 : decode cX3_most 42 = .ok (.if_icmp .ne 10, 3) := dk_160 0 10 (dk_at dksX3_most_1 19 rfl rfl)
theorem dX3_most_45 : decode cX3_most 45 = .ok (.aload_n 0, 1) := dk_42 (dk_at dksX3_most_1 22 rfl rfl)
theorem dX3_most_46 : decode cX3_most 46 = .ok (.bipush 7, 2) := dk_16 7 (dk_at dksX3_most_2 0 rfl rfl)
theorem dX3_most_48 : decode cX3_most 48 = .ok (.invokevirtual 70, 3) := dk_182 0 70 (dk_at dksX3_most_2 2 rfl rfl)
theorem dX3_most_51 : decode cX3_most 51 = .ok (.athrow, 1) := dk_191 (dk_at dksX3_most_2 5 rfl rfl)
theorem dX3_most_52 : decode cX3_most 52 = .ok (.aload_n 0, 1) := dk_42 (dk_at dksX3_most_2 6 rfl rfl)
theorem dX3_most_53 : decode cX3_most 53 = .ok (.invokevirtual 74, 3) := dk_182 0 74 (dk_at dksX3_most_2 7 rfl rfl)
theorem dX3_most_56 : decode cX3_most 56 = .ok (.aload_n 1, 1) := dk_43 (dk_at dksX3_most_2 10 rfl rfl)
theorem dX3_most_57 : decode cX3_most 57 = .ok (.aload_n 0, 1) := dk_42 (dk_at dksX3_most_2 11 rfl rfl)
theorem dX3_most_58 : decode cX3_most 58 = .ok (.invokevirtual 170, 3) := dk_182 0 170 (dk_at dksX3_most_2 12 rfl rfl)
theorem dX3_most_61 : decode cX3_most 61 = .ok (.invokevirtual 130, 3) := dk_182 0 130 (dk_at dksX3_most_2 15 rfl rfl)
theorem dX3_most_64 : decode cX3_most 64 = .ok (.pop, 1) := dk_87 (dk_at dksX3_most_2 18 rfl rfl)
theorem dX3_most_65 : decode cX3_most 65 = .ok (.goto (-38), 3) := dk_167 255 218 (dk_at dksX3_most_2 19 rfl rfl)
theorem dX3_most_68 : decode cX3_most 68 = .ok (.aload_n 0, 1) := dk_42 (dk_at dksX3_most_2 22 rfl rfl)
theorem dX3_most_69 : decode cX3_most 69 = .ok (.bipush 41, 2) := dk_16 41 (dk_at dksX3_most_3 0 rfl rfl)
theorem dX3_most_71 : decode cX3_most 71 = .ok (.invokevirtual 107, 3) := dk_182 0 107 (dk_at dksX3_most_3 2 rfl rfl)
theorem dX3_most_74 : decode cX3_most 74 = .ok (.aload_n 0, 1) := dk_42 (dk_at dksX3_most_3 5 rfl rfl)
theorem dX3_most_75 : decode cX3_most 75 = .ok (.dup, 1) := dk_89 (dk_at dksX3_most_3 6 rfl rfl)
theorem dX3_most_76 : decode cX3_most 76 = .ok (.getfield 77, 3) := dk_180 0 77 (dk_at dksX3_most_3 7 rfl rfl)
theorem dX3_most_79 : decode cX3_most 79 = .ok (.iconst 1, 1) := dk_4 (dk_at dksX3_most_3 10 rfl rfl)
theorem dX3_most_80 : decode cX3_most 80 = .ok (.isub, 1) := dk_100 (dk_at dksX3_most_3 11 rfl rfl)
theorem dX3_most_81 : decode cX3_most 81 = .ok (.putfield 77, 3) := dk_181 0 77 (dk_at dksX3_most_3 12 rfl rfl)
theorem dX3_most_84 : decode cX3_most 84 = .ok (.new 185, 3) := dk_187 0 185 (dk_at dksX3_most_3 15 rfl rfl)
theorem dX3_most_87 : decode cX3_most 87 = .ok (.dup, 1) := dk_89 (dk_at dksX3_most_3 18 rfl rfl)
theorem dX3_most_88 : decode cX3_most 88 = .ok (.aload_n 1, 1) := dk_43 (dk_at dksX3_most_3 19 rfl rfl)
theorem dX3_most_89 : decode cX3_most 89 = .ok (.invokespecial 187, 3) := dk_183 0 187 (dk_at dksX3_most_3 20 rfl rfl)
theorem dX3_most_92 : decode cX3_most 92 = .ok (.areturn, 1) := dk_176 (dk_at dksX3_most_3 23 rfl rfl)
abbrev cX3_sum : ByteArray := prog_16_method_21_code
def yX3_sum : MethodName := ⟨RX3, "sum", "()LVaneCourt$Sum;"⟩
def dkwX3_sum_2 : List UInt8 := [182, 0, 214, 167, 255, 220, 43, 182, 0, 217, 176]
abbrev dktX3_sum_2 : List UInt8 := dkwX3_sum_2 ++ []
def dkwX3_sum_1 : List UInt8 := [180, 0, 25, 16, 45, 160, 0, 24, 42, 180, 0, 25, 61, 42, 182, 0, 74, 43, 28, 42, 182, 0, 208]
abbrev dktX3_sum_1 : List UInt8 := dkwX3_sum_1 ++ dktX3_sum_2
def dkwX3_sum_0 : List UInt8 := [187, 0, 206, 89, 42, 182, 0, 208, 183, 0, 211, 76, 42, 180, 0, 25, 16, 43, 159, 0, 12, 42]
abbrev dktX3_sum_0 : List UInt8 := dkwX3_sum_0 ++ dktX3_sum_1
theorem dksX3_sum_0 : cX3_sum.data.toList.drop 0 = dktX3_sum_0 := by decide +kernel
theorem dksX3_sum_1 : cX3_sum.data.toList.drop 22 = dktX3_sum_1 := dk_seg dksX3_sum_0 22 rfl rfl
theorem dksX3_sum_2 : cX3_sum.data.toList.drop 45 = dktX3_sum_2 := dk_seg dksX3_sum_1 23 rfl rfl
theorem dX3_sum_0 : decode cX3_sum 0 = .ok (.new 206, 3) := dk_187 0 206 (dk_at dksX3_sum_0 0 rfl rfl)
theorem dX3_sum_3 : decode cX3_sum 3 = .ok (.dup, 1) := dk_89 (dk_at dksX3_sum_0 3 rfl rfl)
theorem dX3_sum_4 : decode cX3_sum 4 = .ok (.aload_n 0, 1) := dk_42 (dk_at dksX3_sum_0 4 rfl rfl)
theorem dX3_sum_5 : decode cX3_sum 5 = .ok (.invokevirtual 208, 3) := dk_182 0 208 (dk_at dksX3_sum_0 5 rfl rfl)
theorem dX3_sum_8 : decode cX3_sum 8 = .ok (.invokespecial 211, 3) := dk_183 0 211 (dk_at dksX3_sum_0 8 rfl rfl)
theorem dX3_sum_11 : decode cX3_sum 11 = .ok (.astore_n 1, 1) := dk_76 (dk_at dksX3_sum_0 11 rfl rfl)
theorem dX3_sum_12 : decode cX3_sum 12 = .ok (.aload_n 0, 1) := dk_42 (dk_at dksX3_sum_0 12 rfl rfl)
theorem dX3_sum_13 : decode cX3_sum 13 = .ok (.getfield 25, 3) := dk_180 0 25 (dk_at dksX3_sum_0 13 rfl rfl)
theorem dX3_sum_16 : decode cX3_sum 16 = .ok (.bipush 43, 2) := dk_16 43 (dk_at dksX3_sum_0 16 rfl rfl)
theorem dX3_sum_18 : decode cX3_sum 18 = .ok (.if_icmp .eq 12, 3) := dk_159 0 12 (dk_at dksX3_sum_0 18 rfl rfl)
theorem dX3_sum_21 : decode cX3_sum 21 = .ok (.aload_n 0, 1) := dk_42 (dk_at dksX3_sum_0 21 rfl rfl)
theorem dX3_sum_22 : decode cX3_sum 22 = .ok (.getfield 25, 3) := dk_180 0 25 (dk_at dksX3_sum_1 0 rfl rfl)
theorem dX3_sum_25 : decode cX3_sum 25 = .ok (.bipush 45, 2) := dk_16 45 (dk_at dksX3_sum_1 3 rfl rfl)
theorem dX3_sum_27 : decode cX3_sum 27 = .ok (.if_icmp .ne 24, 3) := dk_160 0 24 (dk_at dksX3_sum_1 5 rfl rfl)
theorem dX3_sum_30 : decode cX3_sum 30 = .ok (.aload_n 0, 1) := dk_42 (dk_at dksX3_sum_1 8 rfl rfl)
theorem dX3_sum_31 : decode cX3_sum 31 = .ok (.getfield 25, 3) := dk_180 0 25 (dk_at dksX3_sum_1 9 rfl rfl)
theorem dX3_sum_34 : decode cX3_sum 34 = .ok (.istore_n 2, 1) := dk_61 (dk_at dksX3_sum_1 12 rfl rfl)
theorem dX3_sum_35 : decode cX3_sum 35 = .ok (.aload_n 0, 1) := dk_42 (dk_at dksX3_sum_1 13 rfl rfl)
theorem dX3_sum_36 : decode cX3_sum 36 = .ok (.invokevirtual 74, 3) := dk_182 0 74 (dk_at dksX3_sum_1 14 rfl rfl)
theorem dX3_sum_39 : decode cX3_sum 39 = .ok (.aload_n 1, 1) := dk_43 (dk_at dksX3_sum_1 17 rfl rfl)
theorem dX3_sum_40 : decode cX3_sum 40 = .ok (.iload_n 2, 1) := dk_28 (dk_at dksX3_sum_1 18 rfl rfl)
theorem dX3_sum_41 : decode cX3_sum 41 = .ok (.aload_n 0, 1) := dk_42 (dk_at dksX3_sum_1 19 rfl rfl)
theorem dX3_sum_42 : decode cX3_sum 42 = .ok (.invokevirtual 208, 3) := dk_182 0 208 (dk_at dksX3_sum_1 20 rfl rfl)
theorem dX3_sum_45 : decode cX3_sum 45 = .ok (.invokevirtual 214, 3) := dk_182 0 214 (dk_at dksX3_sum_2 0 rfl rfl)
theorem dX3_sum_48 : decode cX3_sum 48 = .ok (.goto (-36), 3) := dk_167 255 220 (dk_at dksX3_sum_2 3 rfl rfl)
theorem dX3_sum_51 : decode cX3_sum 51 = .ok (.aload_n 1, 1) := dk_43 (dk_at dksX3_sum_2 6 rfl rfl)
theorem dX3_sum_52 : decode cX3_sum 52 = .ok (.invokevirtual 217, 3) := dk_182 0 217 (dk_at dksX3_sum_2 7 rfl rfl)
theorem dX3_sum_55 : decode cX3_sum 55 = .ok (.areturn, 1) := dk_176 (dk_at dksX3_sum_2 10 rfl rfl)
abbrev cX3_product : ByteArray := prog_16_method_22_code
def yX3_product : MethodName := ⟨RX3, "product", "()LVaneCourt$Sum;"⟩
def dkwX3_product_2 : List UInt8 := [182, 0, 214, 167, 255, 220, 43, 182, 0, 217, 176]
abbrev dktX3_product_2 : List UInt8 := dkwX3_product_2 ++ []
def dkwX3_product_1 : List UInt8 := [180, 0, 25, 16, 47, 160, 0, 24, 42, 180, 0, 25, 61, 42, 182, 0, 74, 43, 28, 42, 182, 0, 220]
abbrev dktX3_product_1 : List UInt8 := dkwX3_product_1 ++ dktX3_product_2
def dkwX3_product_0 : List UInt8 := [187, 0, 206, 89, 42, 182, 0, 220, 183, 0, 211, 76, 42, 180, 0, 25, 16, 42, 159, 0, 12, 42]
abbrev dktX3_product_0 : List UInt8 := dkwX3_product_0 ++ dktX3_product_1
theorem dksX3_product_0 : cX3_product.data.toList.drop 0 = dktX3_product_0 := by decide +kernel
theorem dksX3_product_1 : cX3_product.data.toList.drop 22 = dktX3_product_1 := dk_seg dksX3_product_0 22 rfl rfl
theorem dksX3_product_2 : cX3_product.data.toList.drop 45 = dktX3_product_2 := dk_seg dksX3_product_1 23 rfl rfl
theorem dX3_product_0 : decode cX3_product 0 = .ok (.new 206, 3) := dk_187 0 206 (dk_at dksX3_product_0 0 rfl rfl)
theorem dX3_product_3 : decode cX3_product 3 = .ok (.dup, 1) := dk_89 (dk_at dksX3_product_0 3 rfl rfl)
theorem dX3_product_4 : decode cX3_product 4 = .ok (.aload_n 0, 1) := dk_42 (dk_at dksX3_product_0 4 rfl rfl)
theorem dX3_product_5 : decode cX3_product 5 = .ok (.invokevirtual 220, 3) := dk_182 0 220 (dk_at dksX3_product_0 5 rfl rfl)
theorem dX3_product_8 : decode cX3_product 8 = .ok (.invokespecial 211, 3) := dk_183 0 211 (dk_at dksX3_product_0 8 rfl rfl)
theorem dX3_product_11 : decode cX3_product 11 = .ok (.astore_n 1, 1) := dk_76 (dk_at dksX3_product_0 11 rfl rfl)
theorem dX3_product_12 : decode cX3_product 12 = .ok (.aload_n 0, 1) := dk_42 (dk_at dksX3_product_0 12 rfl rfl)
theorem dX3_product_13 : decode cX3_product 13 = .ok (.getfield 25, 3) := dk_180 0 25 (dk_at dksX3_product_0 13 rfl rfl)
theorem dX3_product_16 : decode cX3_product 16 = .ok (.bipush 42, 2) := dk_16 42 (dk_at dksX3_product_0 16 rfl rfl)
theorem dX3_product_18 : decode cX3_product 18 = .ok (.if_icmp .eq 12, 3) := dk_159 0 12 (dk_at dksX3_product_0 18 rfl rfl)
theorem dX3_product_21 : decode cX3_product 21 = .ok (.aload_n 0, 1) := dk_42 (dk_at dksX3_product_0 21 rfl rfl)
theorem dX3_product_22 : decode cX3_product 22 = .ok (.getfield 25, 3) := dk_180 0 25 (dk_at dksX3_product_1 0 rfl rfl)
theorem dX3_product_25 : decode cX3_product 25 = .ok (.bipush 47, 2) := dk_16 47 (dk_at dksX3_product_1 3 rfl rfl)
theorem dX3_product_27 : decode cX3_product 27 = .ok (.if_icmp .ne 24, 3) := dk_160 0 24 (dk_at dksX3_product_1 5 rfl rfl)
theorem dX3_product_30 : decode cX3_product 30 = .ok (.aload_n 0, 1) := dk_42 (dk_at dksX3_product_1 8 rfl rfl)
theorem dX3_product_31 : decode cX3_product 31 = .ok (.getfield 25, 3) := dk_180 0 25 (dk_at dksX3_product_1 9 rfl rfl)
theorem dX3_product_34 : decode cX3_product 34 = .ok (.istore_n 2, 1) := dk_61 (dk_at dksX3_product_1 12 rfl rfl)
theorem dX3_product_35 : decode cX3_product 35 = .ok (.aload_n 0, 1) := dk_42 (dk_at dksX3_product_1 13 rfl rfl)
theorem dX3_product_36 : decode cX3_product 36 = .ok (.invokevirtual 74, 3) := dk_182 0 74 (dk_at dksX3_product_1 14 rfl rfl)
theorem dX3_product_39 : decode cX3_product 39 = .ok (.aload_n 1, 1) := dk_43 (dk_at dksX3_product_1 17 rfl rfl)
theorem dX3_product_40 : decode cX3_product 40 = .ok (.iload_n 2, 1) := dk_28 (dk_at dksX3_product_1 18 rfl rfl)
theorem dX3_product_41 : decode cX3_product 41 = .ok (.aload_n 0, 1) := dk_42 (dk_at dksX3_product_1 19 rfl rfl)
theorem dX3_product_42 : decode cX3_product 42 = .ok (.invokevirtual 220, 3) := dk_182 0 220 (dk_at dksX3_product_1 20 rfl rfl)
theorem dX3_product_45 : decode cX3_product 45 = .ok (.invokevirtual 214, 3) := dk_182 0 214 (dk_at dksX3_product_2 0 rfl rfl)
theorem dX3_product_48 : decode cX3_product 48 = .ok (.goto (-36), 3) := dk_167 255 220 (dk_at dksX3_product_2 3 rfl rfl)
theorem dX3_product_51 : decode cX3_product 51 = .ok (.aload_n 1, 1) := dk_43 (dk_at dksX3_product_2 6 rfl rfl)
theorem dX3_product_52 : decode cX3_product 52 = .ok (.invokevirtual 217, 3) := dk_182 0 217 (dk_at dksX3_product_2 7 rfl rfl)
theorem dX3_product_55 : decode cX3_product 55 = .ok (.areturn, 1) := dk_176 (dk_at dksX3_product_2 10 rfl rfl)
abbrev cX3_one : ByteArray := prog_16_method_25_code
def yX3_one : MethodName := ⟨RX3, "one", "()LVaneCourt$Sum;"⟩
def dkwX3_one_5 : List UInt8 := [167, 0, 9, 42, 4, 182, 0, 70, 191, 42, 89, 180, 0, 77, 4, 100, 181, 0, 77, 44, 176]
abbrev dktX3_one_5 : List UInt8 := dkwX3_one_5 ++ []
def dkwX3_one_4 : List UInt8 := [180, 0, 25, 16, 45, 160, 0, 22, 42, 182, 0, 182, 187, 0, 239, 89, 42, 182, 0, 220, 183, 0, 241, 77]
abbrev dktX3_one_4 : List UInt8 := dkwX3_one_4 ++ dktX3_one_5
def dkwX3_one_3 : List UInt8 := [160, 0, 21, 42, 182, 0, 182, 42, 182, 0, 114, 77, 42, 16, 41, 182, 0, 107, 167, 0, 37, 42]
abbrev dktX3_one_3 : List UInt8 := dkwX3_one_3 ++ dktX3_one_4
def dkwX3_one_2 : List UInt8 := [182, 0, 70, 191, 42, 182, 0, 74, 187, 0, 236, 89, 27, 183, 0, 238, 176, 42, 180, 0, 25, 16, 40]
abbrev dktX3_one_2 : List UInt8 := dkwX3_one_2 ++ dktX3_one_3
def dkwX3_one_1 : List UInt8 := [183, 0, 229, 176, 42, 182, 0, 230, 60, 27, 2, 159, 0, 30, 42, 27, 182, 0, 233, 154, 0, 9, 42, 8]
abbrev dktX3_one_1 : List UInt8 := dkwX3_one_1 ++ dktX3_one_2
def dkwX3_one_0 : List UInt8 := [42, 180, 0, 25, 17, 1, 44, 160, 0, 19, 187, 0, 227, 89, 42, 3, 17, 39, 15, 182, 0, 136]
abbrev dktX3_one_0 : List UInt8 := dkwX3_one_0 ++ dktX3_one_1
theorem dksX3_one_0 : cX3_one.data.toList.drop 0 = dktX3_one_0 := by decide +kernel
theorem dksX3_one_1 : cX3_one.data.toList.drop 22 = dktX3_one_1 := dk_seg dksX3_one_0 22 rfl rfl
theorem dksX3_one_2 : cX3_one.data.toList.drop 46 = dktX3_one_2 := dk_seg dksX3_one_1 24 rfl rfl
theorem dksX3_one_3 : cX3_one.data.toList.drop 69 = dktX3_one_3 := dk_seg dksX3_one_2 23 rfl rfl
theorem dksX3_one_4 : cX3_one.data.toList.drop 91 = dktX3_one_4 := dk_seg dksX3_one_3 22 rfl rfl
theorem dksX3_one_5 : cX3_one.data.toList.drop 115 = dktX3_one_5 := dk_seg dksX3_one_4 24 rfl rfl
theorem dX3_one_0 : decode cX3_one 0 = .ok (.aload_n 0, 1) := dk_42 (dk_at dksX3_one_0 0 rfl rfl)
theorem dX3_one_1 : decode cX3_one 1 = .ok (.getfield 25, 3) := dk_180 0 25 (dk_at dksX3_one_0 1 rfl rfl)
theorem dX3_one_4 : decode cX3_one 4 = .ok (.sipush 300, 3) := dk_17 1 44 (dk_at dksX3_one_0 4 rfl rfl)
theorem dX3_one_7 : decode cX3_one 7 = .ok (.if_icmp .ne 19, 3) := dk_160 0 19 (dk_at dksX3_one_0 7 rfl rfl)
theorem dX3_one_10 : decode cX3_one 10 = .ok (.new 227, 3) := dk_187 0 227 (dk_at dksX3_one_0 10 rfl rfl)
theorem dX3_one_13 : decode cX3_one 13 = .ok (.dup, 1) := dk_89 (dk_at dksX3_one_0 13 rfl rfl)
theorem dX3_one_14 : decode cX3_one 14 = .ok (.aload_n 0, 1) := dk_42 (dk_at dksX3_one_0 14 rfl rfl)
theorem dX3_one_15 : decode cX3_one 15 = .ok (.iconst 0, 1) := dk_3 (dk_at dksX3_one_0 15 rfl rfl)
theorem dX3_one_16 : decode cX3_one 16 = .ok (.sipush 9999, 3) := dk_17 39 15 (dk_at dksX3_one_0 16 rfl rfl)
theorem dX3_one_19 : decode cX3_one 19 = .ok (.invokevirtual 136, 3) := dk_182 0 136 (dk_at dksX3_one_0 19 rfl rfl)
theorem dX3_one_22 : decode cX3_one 22 = .ok (.invokespecial 229, 3) := dk_183 0 229 (dk_at dksX3_one_1 0 rfl rfl)
theorem dX3_one_25 : decode cX3_one 25 = .ok (.areturn, 1) := dk_176 (dk_at dksX3_one_1 3 rfl rfl)
theorem dX3_one_26 : decode cX3_one 26 = .ok (.aload_n 0, 1) := dk_42 (dk_at dksX3_one_1 4 rfl rfl)
theorem dX3_one_27 : decode cX3_one 27 = .ok (.invokevirtual 230, 3) := dk_182 0 230 (dk_at dksX3_one_1 5 rfl rfl)
theorem dX3_one_30 : decode cX3_one 30 = .ok (.istore_n 1, 1) := dk_60 (dk_at dksX3_one_1 8 rfl rfl)
theorem dX3_one_31 : decode cX3_one 31 = .ok (.iload_n 1, 1) := dk_27 (dk_at dksX3_one_1 9 rfl rfl)
theorem dX3_one_32 : decode cX3_one 32 = .ok (.iconst (-1), 1) := dk_2 (dk_at dksX3_one_1 10 rfl rfl)
theorem dX3_one_33 : decode cX3_one 33 = .ok (.if_icmp .eq 30, 3) := dk_159 0 30 (dk_at dksX3_one_1 11 rfl rfl)
theorem dX3_one_36 : decode cX3_one 36 = .ok (.aload_n 0, 1) := dk_42 (dk_at dksX3_one_1 14 rfl rfl)
theorem dX3_one_37 : decode cX3_one 37 = .ok (.iload_n 1, 1) := dk_27 (dk_at dksX3_one_1 15 rfl rfl)
theorem dX3_one_38 : decode cX3_one 38 = .ok (.invokevirtual 233, 3) := dk_182 0 233 (dk_at dksX3_one_1 16 rfl rfl)
theorem dX3_one_41 : decode cX3_one 41 = .ok (.ifCond .ne 9, 3) := dk_154 0 9 (dk_at dksX3_one_1 19 rfl rfl)
theorem dX3_one_44 : decode cX3_one 44 = .ok (.aload_n 0, 1) := dk_42 (dk_at dksX3_one_1 22 rfl rfl)
theorem dX3_one_45 : decode cX3_one 45 = .ok (.iconst 5, 1) := dk_8 (dk_at dksX3_one_1 23 rfl rfl)
theorem dX3_one_46 : decode cX3_one 46 = .ok (.invokevirtual 70, 3) := dk_182 0 70 (dk_at dksX3_one_2 0 rfl rfl)
theorem dX3_one_49 : decode cX3_one 49 = .ok (.athrow, 1) := dk_191 (dk_at dksX3_one_2 3 rfl rfl)
theorem dX3_one_50 : decode cX3_one 50 = .ok (.aload_n 0, 1) := dk_42 (dk_at dksX3_one_2 4 rfl rfl)
theorem dX3_one_51 : decode cX3_one 51 = .ok (.invokevirtual 74, 3) := dk_182 0 74 (dk_at dksX3_one_2 5 rfl rfl)
theorem dX3_one_54 : decode cX3_one 54 = .ok (.new 236, 3) := dk_187 0 236 (dk_at dksX3_one_2 8 rfl rfl)
theorem dX3_one_57 : decode cX3_one 57 = .ok (.dup, 1) := dk_89 (dk_at dksX3_one_2 11 rfl rfl)
theorem dX3_one_58 : decode cX3_one 58 = .ok (.iload_n 1, 1) := dk_27 (dk_at dksX3_one_2 12 rfl rfl)
theorem dX3_one_59 : decode cX3_one 59 = .ok (.invokespecial 238, 3) := dk_183 0 238 (dk_at dksX3_one_2 13 rfl rfl)
theorem dX3_one_62 : decode cX3_one 62 = .ok (.areturn, 1) := dk_176 (dk_at dksX3_one_2 16 rfl rfl)
theorem dX3_one_63 : decode cX3_one 63 = .ok (.aload_n 0, 1) := dk_42 (dk_at dksX3_one_2 17 rfl rfl)
theorem dX3_one_64 : decode cX3_one 64 = .ok (.getfield 25, 3) := dk_180 0 25 (dk_at dksX3_one_2 18 rfl rfl)
theorem dX3_one_67 : decode cX3_one 67 = .ok (.bipush 40, 2) := dk_16 40 (dk_at dksX3_one_2 21 rfl rfl)
theorem dX3_one_69 : decode cX3_one 69 = .ok (.if_icmp .ne 21, 3) := dk_160 0 21 (dk_at dksX3_one_3 0 rfl rfl)
theorem dX3_one_72 : decode cX3_one 72 = .ok (.aload_n 0, 1) := dk_42 (dk_at dksX3_one_3 3 rfl rfl)
theorem dX3_one_73 : decode cX3_one 73 = .ok (.invokevirtual 182, 3) := dk_182 0 182 (dk_at dksX3_one_3 4 rfl rfl)
theorem dX3_one_76 : decode cX3_one 76 = .ok (.aload_n 0, 1) := dk_42 (dk_at dksX3_one_3 7 rfl rfl)
theorem dX3_one_77 : decode cX3_one 77 = .ok (.invokevirtual 114, 3) := dk_182 0 114 (dk_at dksX3_one_3 8 rfl rfl)
theorem dX3_one_80 : decode cX3_one 80 = .ok (.astore_n 2, 1) := dk_77 (dk_at dksX3_one_3 11 rfl rfl)
theorem dX3_one_81 : decode cX3_one 81 = .ok (.aload_n 0, 1) := dk_42 (dk_at dksX3_one_3 12 rfl rfl)
theorem dX3_one_82 : decode cX3_one 82 = .ok (.bipush 41, 2) := dk_16 41 (dk_at dksX3_one_3 13 rfl rfl)
theorem dX3_one_84 : decode cX3_one 84 = .ok (.invokevirtual 107, 3) := dk_182 0 107 (dk_at dksX3_one_3 15 rfl rfl)
theorem dX3_one_87 : decode cX3_one 87 = .ok (.goto 37, 3) := dk_167 0 37 (dk_at dksX3_one_3 18 rfl rfl)
theorem dX3_one_90 : decode cX3_one 90 = .ok (.aload_n 0, 1) := dk_42 (dk_at dksX3_one_3 21 rfl rfl)
theorem dX3_one_91 : decode cX3_one 91 = .ok (.getfield 25, 3) := dk_180 0 25 (dk_at dksX3_one_4 0 rfl rfl)
theorem dX3_one_94 : decode cX3_one 94 = .ok (.bipush 45, 2) := dk_16 45 (dk_at dksX3_one_4 3 rfl rfl)
theorem dX3_one_96 : decode cX3_one 96 = .ok (.if_icmp .ne 22, 3) := dk_160 0 22 (dk_at dksX3_one_4 5 rfl rfl)
theorem dX3_one_99 : decode cX3_one 99 = .ok (.aload_n 0, 1) := dk_42 (dk_at dksX3_one_4 8 rfl rfl)
theorem dX3_one_100 : decode cX3_one 100 = .ok (.invokevirtual 182, 3) := dk_182 0 182 (dk_at dksX3_one_4 9 rfl rfl)
theorem dX3_one_103 : decode cX3_one 103 = .ok (.new 239, 3) := dk_187 0 239 (dk_at dksX3_one_4 12 rfl rfl)
theorem dX3_one_106 : decode cX3_one 106 = .ok (.dup, 1) := dk_89 (dk_at dksX3_one_4 15 rfl rfl)
theorem dX3_one_107 : decode cX3_one 107 = .ok (.aload_n 0, 1) := dk_42 (dk_at dksX3_one_4 16 rfl rfl)
theorem dX3_one_108 : decode cX3_one 108 = .ok (.invokevirtual 220, 3) := dk_182 0 220 (dk_at dksX3_one_4 17 rfl rfl)
theorem dX3_one_111 : decode cX3_one 111 = .ok (.invokespecial 241, 3) := dk_183 0 241 (dk_at dksX3_one_4 20 rfl rfl)
theorem dX3_one_114 : decode cX3_one 114 = .ok (.astore_n 2, 1) := dk_77 (dk_at dksX3_one_4 23 rfl rfl)
theorem dX3_one_115 : decode cX3_one 115 = .ok (.goto 9, 3) := dk_167 0 9 (dk_at dksX3_one_5 0 rfl rfl)
theorem dX3_one_118 : decode cX3_one 118 = .ok (.aload_n 0, 1) := dk_42 (dk_at dksX3_one_5 3 rfl rfl)
theorem dX3_one_119 : decode cX3_one 119 = .ok (.iconst 1, 1) := dk_4 (dk_at dksX3_one_5 4 rfl rfl)
theorem dX3_one_120 : decode cX3_one 120 = .ok (.invokevirtual 70, 3) := dk_182 0 70 (dk_at dksX3_one_5 5 rfl rfl)
theorem dX3_one_123 : decode cX3_one 123 = .ok (.athrow, 1) := dk_191 (dk_at dksX3_one_5 8 rfl rfl)
theorem dX3_one_124 : decode cX3_one 124 = .ok (.aload_n 0, 1) := dk_42 (dk_at dksX3_one_5 9 rfl rfl)
theorem dX3_one_125 : decode cX3_one 125 = .ok (.dup, 1) := dk_89 (dk_at dksX3_one_5 10 rfl rfl)
theorem dX3_one_126 : decode cX3_one 126 = .ok (.getfield 77, 3) := dk_180 0 77 (dk_at dksX3_one_5 11 rfl rfl)
theorem dX3_one_129 : decode cX3_one 129 = .ok (.iconst 1, 1) := dk_4 (dk_at dksX3_one_5 14 rfl rfl)
theorem dX3_one_130 : decode cX3_one 130 = .ok (.isub, 1) := dk_100 (dk_at dksX3_one_5 15 rfl rfl)
theorem dX3_one_131 : decode cX3_one 131 = .ok (.putfield 77, 3) := dk_181 0 77 (dk_at dksX3_one_5 16 rfl rfl)
theorem dX3_one_134 : decode cX3_one 134 = .ok (.aload_n 2, 1) := dk_44 (dk_at dksX3_one_5 19 rfl rfl)
theorem dX3_one_135 : decode cX3_one 135 = .ok (.areturn, 1) := dk_176 (dk_at dksX3_one_5 20 rfl rfl)
abbrev cX3_nameNow : ByteArray := prog_16_method_23_code
def yX3_nameNow : MethodName := ⟨RX3, "nameNow", "()I"⟩
def dkwX3_nameNow_4 : List UInt8 := [16, 6, 167, 0, 19, 42, 180, 0, 25, 17, 0, 225, 160, 0, 8, 16, 7, 167, 0, 4, 2, 172]
abbrev dktX3_nameNow_4 : List UInt8 := dkwX3_nameNow_4 ++ []
def dkwX3_nameNow_3 : List UInt8 := [42, 180, 0, 25, 17, 0, 223, 160, 0, 7, 7, 167, 0, 34, 42, 180, 0, 25, 17, 0, 224, 160, 0, 8]
abbrev dktX3_nameNow_3 : List UInt8 := dkwX3_nameNow_3 ++ dktX3_nameNow_4
def dkwX3_nameNow_2 : List UInt8 := [17, 0, 212, 160, 0, 7, 8, 167, 0, 62, 42, 180, 0, 25, 17, 0, 222, 160, 0, 7, 6, 167, 0, 48]
abbrev dktX3_nameNow_2 : List UInt8 := dkwX3_nameNow_2 ++ dktX3_nameNow_3
def dkwX3_nameNow_1 : List UInt8 := [4, 167, 0, 90, 42, 180, 0, 25, 17, 0, 214, 160, 0, 7, 5, 167, 0, 76, 42, 180, 0, 25]
abbrev dktX3_nameNow_1 : List UInt8 := dkwX3_nameNow_1 ++ dktX3_nameNow_2
def dkwX3_nameNow_0 : List UInt8 := [42, 180, 0, 25, 17, 0, 211, 160, 0, 7, 3, 167, 0, 104, 42, 180, 0, 25, 17, 0, 221, 160, 0, 7]
abbrev dktX3_nameNow_0 : List UInt8 := dkwX3_nameNow_0 ++ dktX3_nameNow_1
theorem dksX3_nameNow_0 : cX3_nameNow.data.toList.drop 0 = dktX3_nameNow_0 := by decide +kernel
theorem dksX3_nameNow_1 : cX3_nameNow.data.toList.drop 24 = dktX3_nameNow_1 := dk_seg dksX3_nameNow_0 24 rfl rfl
theorem dksX3_nameNow_2 : cX3_nameNow.data.toList.drop 46 = dktX3_nameNow_2 := dk_seg dksX3_nameNow_1 22 rfl rfl
theorem dksX3_nameNow_3 : cX3_nameNow.data.toList.drop 70 = dktX3_nameNow_3 := dk_seg dksX3_nameNow_2 24 rfl rfl
theorem dksX3_nameNow_4 : cX3_nameNow.data.toList.drop 94 = dktX3_nameNow_4 := dk_seg dksX3_nameNow_3 24 rfl rfl
theorem dX3_nameNow_0 : decode cX3_nameNow 0 = .ok (.aload_n 0, 1) := dk_42 (dk_at dksX3_nameNow_0 0 rfl rfl)
theorem dX3_nameNow_1 : decode cX3_nameNow 1 = .ok (.getfield 25, 3) := dk_180 0 25 (dk_at dksX3_nameNow_0 1 rfl rfl)
theorem dX3_nameNow_4 : decode cX3_nameNow 4 = .ok (.sipush 211, 3) := dk_17 0 211 (dk_at dksX3_nameNow_0 4 rfl rfl)
theorem dX3_nameNow_7 : decode cX3_nameNow 7 = .ok (.if_icmp .ne 7, 3) := dk_160 0 7 (dk_at dksX3_nameNow_0 7 rfl rfl)
theorem dX3_nameNow_10 : decode cX3_nameNow 10 = .ok (.iconst 0, 1) := dk_3 (dk_at dksX3_nameNow_0 10 rfl rfl)
theorem dX3_nameNow_11 : decode cX3_nameNow 11 = .ok (.goto 104, 3) := dk_167 0 104 (dk_at dksX3_nameNow_0 11 rfl rfl)
theorem dX3_nameNow_14 : decode cX3_nameNow 14 = .ok (.aload_n 0, 1) := dk_42 (dk_at dksX3_nameNow_0 14 rfl rfl)
theorem dX3_nameNow_15 : decode cX3_nameNow 15 = .ok (.getfield 25, 3) := dk_180 0 25 (dk_at dksX3_nameNow_0 15 rfl rfl)
theorem dX3_nameNow_18 : decode cX3_nameNow 18 = .ok (.sipush 221, 3) := dk_17 0 221 (dk_at dksX3_nameNow_0 18 rfl rfl)
theorem dX3_nameNow_21 : decode cX3_nameNow 21 = .ok (.if_icmp .ne 7, 3) := dk_160 0 7 (dk_at dksX3_nameNow_0 21 rfl rfl)
theorem dX3_nameNow_24 : decode cX3_nameNow 24 = .ok (.iconst 1, 1) := dk_4 (dk_at dksX3_nameNow_1 0 rfl rfl)
theorem dX3_nameNow_25 : decode cX3_nameNow 25 = .ok (.goto 90, 3) := dk_167 0 90 (dk_at dksX3_nameNow_1 1 rfl rfl)
theorem dX3_nameNow_28 : decode cX3_nameNow 28 = .ok (.aload_n 0, 1) := dk_42 (dk_at dksX3_nameNow_1 4 rfl rfl)
theorem dX3_nameNow_29 : decode cX3_nameNow 29 = .ok (.getfield 25, 3) := dk_180 0 25 (dk_at dksX3_nameNow_1 5 rfl rfl)
theorem dX3_nameNow_32 : decode cX3_nameNow 32 = .ok (.sipush 214, 3) := dk_17 0 214 (dk_at dksX3_nameNow_1 8 rfl rfl)
theorem dX3_nameNow_35 : decode cX3_nameNow 35 = .ok (.if_icmp .ne 7, 3) := dk_160 0 7 (dk_at dksX3_nameNow_1 11 rfl rfl)
theorem dX3_nameNow_38 : decode cX3_nameNow 38 = .ok (.iconst 2, 1) := dk_5 (dk_at dksX3_nameNow_1 14 rfl rfl)
theorem dX3_nameNow_39 : decode cX3_nameNow 39 = .ok (.goto 76, 3) := dk_167 0 76 (dk_at dksX3_nameNow_1 15 rfl rfl)
theorem dX3_nameNow_42 : decode cX3_nameNow 42 = .ok (.aload_n 0, 1) := dk_42 (dk_at dksX3_nameNow_1 18 rfl rfl)
theorem dX3_nameNow_43 : decode cX3_nameNow 43 = .ok (.getfield 25, 3) := dk_180 0 25 (dk_at dksX3_nameNow_1 19 rfl rfl)
theorem dX3_nameNow_46 : decode cX3_nameNow 46 = .ok (.sipush 212, 3) := dk_17 0 212 (dk_at dksX3_nameNow_2 0 rfl rfl)
theorem dX3_nameNow_49 : decode cX3_nameNow 49 = .ok (.if_icmp .ne 7, 3) := dk_160 0 7 (dk_at dksX3_nameNow_2 3 rfl rfl)
theorem dX3_nameNow_52 : decode cX3_nameNow 52 = .ok (.iconst 5, 1) := dk_8 (dk_at dksX3_nameNow_2 6 rfl rfl)
theorem dX3_nameNow_53 : decode cX3_nameNow 53 = .ok (.goto 62, 3) := dk_167 0 62 (dk_at dksX3_nameNow_2 7 rfl rfl)
theorem dX3_nameNow_56 : decode cX3_nameNow 56 = .ok (.aload_n 0, 1) := dk_42 (dk_at dksX3_nameNow_2 10 rfl rfl)
theorem dX3_nameNow_57 : decode cX3_nameNow 57 = .ok (.getfield 25, 3) := dk_180 0 25 (dk_at dksX3_nameNow_2 11 rfl rfl)
theorem dX3_nameNow_60 : decode cX3_nameNow 60 = .ok (.sipush 222, 3) := dk_17 0 222 (dk_at dksX3_nameNow_2 14 rfl rfl)
theorem dX3_nameNow_63 : decode cX3_nameNow 63 = .ok (.if_icmp .ne 7, 3) := dk_160 0 7 (dk_at dksX3_nameNow_2 17 rfl rfl)
theorem dX3_nameNow_66 : decode cX3_nameNow 66 = .ok (.iconst 3, 1) := dk_6 (dk_at dksX3_nameNow_2 20 rfl rfl)
theorem dX3_nameNow_67 : decode cX3_nameNow 67 = .ok (.goto 48, 3) := dk_167 0 48 (dk_at dksX3_nameNow_2 21 rfl rfl)
theorem dX3_nameNow_70 : decode cX3_nameNow 70 = .ok (.aload_n 0, 1) := dk_42 (dk_at dksX3_nameNow_3 0 rfl rfl)
theorem dX3_nameNow_71 : decode cX3_nameNow 71 = .ok (.getfield 25, 3) := dk_180 0 25 (dk_at dksX3_nameNow_3 1 rfl rfl)
theorem dX3_nameNow_74 : decode cX3_nameNow 74 = .ok (.sipush 223, 3) := dk_17 0 223 (dk_at dksX3_nameNow_3 4 rfl rfl)
theorem dX3_nameNow_77 : decode cX3_nameNow 77 = .ok (.if_icmp .ne 7, 3) := dk_160 0 7 (dk_at dksX3_nameNow_3 7 rfl rfl)
theorem dX3_nameNow_80 : decode cX3_nameNow 80 = .ok (.iconst 4, 1) := dk_7 (dk_at dksX3_nameNow_3 10 rfl rfl)
theorem dX3_nameNow_81 : decode cX3_nameNow 81 = .ok (.goto 34, 3) := dk_167 0 34 (dk_at dksX3_nameNow_3 11 rfl rfl)
theorem dX3_nameNow_84 : decode cX3_nameNow 84 = .ok (.aload_n 0, 1) := dk_42 (dk_at dksX3_nameNow_3 14 rfl rfl)
theorem dX3_nameNow_85 : decode cX3_nameNow 85 = .ok (.getfield 25, 3) := dk_180 0 25 (dk_at dksX3_nameNow_3 15 rfl rfl)
theorem dX3_nameNow_88 : decode cX3_nameNow 88 = .ok (.sipush 224, 3) := dk_17 0 224 (dk_at dksX3_nameNow_3 18 rfl rfl)
theorem dX3_nameNow_91 : decode cX3_nameNow 91 = .ok (.if_icmp .ne 8, 3) := dk_160 0 8 (dk_at dksX3_nameNow_3 21 rfl rfl)
theorem dX3_nameNow_94 : decode cX3_nameNow 94 = .ok (.bipush 6, 2) := dk_16 6 (dk_at dksX3_nameNow_4 0 rfl rfl)
theorem dX3_nameNow_96 : decode cX3_nameNow 96 = .ok (.goto 19, 3) := dk_167 0 19 (dk_at dksX3_nameNow_4 2 rfl rfl)
theorem dX3_nameNow_99 : decode cX3_nameNow 99 = .ok (.aload_n 0, 1) := dk_42 (dk_at dksX3_nameNow_4 5 rfl rfl)
theorem dX3_nameNow_100 : decode cX3_nameNow 100 = .ok (.getfield 25, 3) := dk_180 0 25 (dk_at dksX3_nameNow_4 6 rfl rfl)
theorem dX3_nameNow_103 : decode cX3_nameNow 103 = .ok (.sipush 225, 3) := dk_17 0 225 (dk_at dksX3_nameNow_4 9 rfl rfl)
theorem dX3_nameNow_106 : decode cX3_nameNow 106 = .ok (.if_icmp .ne 8, 3) := dk_160 0 8 (dk_at dksX3_nameNow_4 12 rfl rfl)
theorem dX3_nameNow_109 : decode cX3_nameNow 109 = .ok (.bipush 7, 2) := dk_16 7 (dk_at dksX3_nameNow_4 15 rfl rfl)
theorem dX3_nameNow_111 : decode cX3_nameNow 111 = .ok (.goto 4, 3) := dk_167 0 4 (dk_at dksX3_nameNow_4 17 rfl rfl)
theorem dX3_nameNow_114 : decode cX3_nameNow 114 = .ok (.iconst (-1), 1) := dk_2 (dk_at dksX3_nameNow_4 20 rfl rfl)
theorem dX3_nameNow_115 : decode cX3_nameNow 115 = .ok (.ireturn, 1) := dk_172 (dk_at dksX3_nameNow_4 21 rfl rfl)
abbrev cX3_mayName : ByteArray := prog_16_method_24_code
def yX3_mayName : MethodName := ⟨RX3, "mayName", "(I)Z"⟩
def dkwX3_mayName_3 : List UInt8 := [167, 0, 4, 3, 172]
abbrev dktX3_mayName_3 : List UInt8 := dkwX3_mayName_3 ++ []
def dkwX3_mayName_2 : List UInt8 := [167, 0, 23, 42, 180, 0, 83, 17, 0, 200, 159, 0, 13, 42, 180, 0, 83, 17, 0, 204, 160, 0, 7, 4]
abbrev dktX3_mayName_2 : List UInt8 := dkwX3_mayName_2 ++ dktX3_mayName_3
def dkwX3_mayName_1 : List UInt8 := [153, 0, 49, 167, 0, 42, 27, 16, 7, 160, 0, 16, 42, 180, 0, 83, 17, 0, 204, 160, 0, 30]
abbrev dktX3_mayName_1 : List UInt8 := dkwX3_mayName_1 ++ dktX3_mayName_2
def dkwX3_mayName_0 : List UInt8 := [27, 6, 161, 0, 66, 27, 6, 160, 0, 22, 42, 180, 0, 83, 17, 0, 201, 17, 0, 203, 184, 0, 223]
abbrev dktX3_mayName_0 : List UInt8 := dkwX3_mayName_0 ++ dktX3_mayName_1
theorem dksX3_mayName_0 : cX3_mayName.data.toList.drop 0 = dktX3_mayName_0 := by decide +kernel
theorem dksX3_mayName_1 : cX3_mayName.data.toList.drop 23 = dktX3_mayName_1 := dk_seg dksX3_mayName_0 23 rfl rfl
theorem dksX3_mayName_2 : cX3_mayName.data.toList.drop 45 = dktX3_mayName_2 := dk_seg dksX3_mayName_1 22 rfl rfl
theorem dksX3_mayName_3 : cX3_mayName.data.toList.drop 69 = dktX3_mayName_3 := dk_seg dksX3_mayName_2 24 rfl rfl
theorem dX3_mayName_0 : decode cX3_mayName 0 = .ok (.iload_n 1, 1) := dk_27 (dk_at dksX3_mayName_0 0 rfl rfl)
theorem dX3_mayName_1 : decode cX3_mayName 1 = .ok (.iconst 3, 1) := dk_6 (dk_at dksX3_mayName_0 1 rfl rfl)
theorem dX3_mayName_2 : decode cX3_mayName 2 = .ok (.if_icmp .lt 66, 3) := dk_161 0 66 (dk_at dksX3_mayName_0 2 rfl rfl)
theorem dX3_mayName_5 : decode cX3_mayName 5 = .ok (.iload_n 1, 1) := dk_27 (dk_at dksX3_mayName_0 5 rfl rfl)
theorem dX3_mayName_6 : decode cX3_mayName 6 = .ok (.iconst 3, 1) := dk_6 (dk_at dksX3_mayName_0 6 rfl rfl)
theorem dX3_mayName_7 : decode cX3_mayName 7 = .ok (.if_icmp .ne 22, 3) := dk_160 0 22 (dk_at dksX3_mayName_0 7 rfl rfl)
theorem dX3_mayName_10 : decode cX3_mayName 10 = .ok (.aload_n 0, 1) := dk_42 (dk_at dksX3_mayName_0 10 rfl rfl)
theorem dX3_mayName_11 : decode cX3_mayName 11 = .ok (.getfield 83, 3) := dk_180 0 83 (dk_at dksX3_mayName_0 11 rfl rfl)
theorem dX3_mayName_14 : decode cX3_mayName 14 = .ok (.sipush 201, 3) := dk_17 0 201 (dk_at dksX3_mayName_0 14 rfl rfl)
theorem dX3_mayName_17 : decode cX3_mayName 17 = .ok (.sipush 203, 3) := dk_17 0 203 (dk_at dksX3_mayName_0 17 rfl rfl)
theorem dX3_mayName_20 : decode cX3_mayName 20 = .ok (.invokestatic 223, 3) := dk_184 0 223 (dk_at dksX3_mayName_0 20 rfl rfl)
theorem dX3_mayName_23 : decode cX3_mayName 23 = .ok (.ifCond .eq 49, 3) := dk_153 0 49 (dk_at dksX3_mayName_1 0 rfl rfl)
theorem dX3_mayName_26 : decode cX3_mayName 26 = .ok (.goto 42, 3) := dk_167 0 42 (dk_at dksX3_mayName_1 3 rfl rfl)
theorem dX3_mayName_29 : decode cX3_mayName 29 = .ok (.iload_n 1, 1) := dk_27 (dk_at dksX3_mayName_1 6 rfl rfl)
theorem dX3_mayName_30 : decode cX3_mayName 30 = .ok (.bipush 7, 2) := dk_16 7 (dk_at dksX3_mayName_1 7 rfl rfl)
theorem dX3_mayName_32 : decode cX3_mayName 32 = .ok (.if_icmp .ne 16, 3) := dk_160 0 16 (dk_at dksX3_mayName_1 9 rfl rfl)
theorem dX3_mayName_35 : decode cX3_mayName 35 = .ok (.aload_n 0, 1) := dk_42 (dk_at dksX3_mayName_1 12 rfl rfl)
theorem dX3_mayName_36 : decode cX3_mayName 36 = .ok (.getfield 83, 3) := dk_180 0 83 (dk_at dksX3_mayName_1 13 rfl rfl)
theorem dX3_mayName_39 : decode cX3_mayName 39 = .ok (.sipush 204, 3) := dk_17 0 204 (dk_at dksX3_mayName_1 16 rfl rfl)
theorem dX3_mayName_42 : decode cX3_mayName 42 = .ok (.if_icmp .ne 30, 3) := dk_160 0 30 (dk_at dksX3_mayName_1 19 rfl rfl)
theorem dX3_mayName_45 : decode cX3_mayName 45 = .ok (.goto 23, 3) := dk_167 0 23 (dk_at dksX3_mayName_2 0 rfl rfl)
theorem dX3_mayName_48 : decode cX3_mayName 48 = .ok (.aload_n 0, 1) := dk_42 (dk_at dksX3_mayName_2 3 rfl rfl)
theorem dX3_mayName_49 : decode cX3_mayName 49 = .ok (.getfield 83, 3) := dk_180 0 83 (dk_at dksX3_mayName_2 4 rfl rfl)
theorem dX3_mayName_52 : decode cX3_mayName 52 = .ok (.sipush 200, 3) := dk_17 0 200 (dk_at dksX3_mayName_2 7 rfl rfl)
theorem dX3_mayName_55 : decode cX3_mayName 55 = .ok (.if_icmp .eq 13, 3) := dk_159 0 13 (dk_at dksX3_mayName_2 10 rfl rfl)
theorem dX3_mayName_58 : decode cX3_mayName 58 = .ok (.aload_n 0, 1) := dk_42 (dk_at dksX3_mayName_2 13 rfl rfl)
theorem dX3_mayName_59 : decode cX3_mayName 59 = .ok (.getfield 83, 3) := dk_180 0 83 (dk_at dksX3_mayName_2 14 rfl rfl)
theorem dX3_mayName_62 : decode cX3_mayName 62 = .ok (.sipush 204, 3) := dk_17 0 204 (dk_at dksX3_mayName_2 17 rfl rfl)
theorem dX3_mayName_65 : decode cX3_mayName 65 = .ok (.if_icmp .ne 7, 3) := dk_160 0 7 (dk_at dksX3_mayName_2 20 rfl rfl)
theorem dX3_mayName_68 : decode cX3_mayName 68 = .ok (.iconst 1, 1) := dk_4 (dk_at dksX3_mayName_2 23 rfl rfl)
theorem dX3_mayName_69 : decode cX3_mayName 69 = .ok (.goto 4, 3) := dk_167 0 4 (dk_at dksX3_mayName_3 0 rfl rfl)
theorem dX3_mayName_72 : decode cX3_mayName 72 = .ok (.iconst 0, 1) := dk_3 (dk_at dksX3_mayName_3 3 rfl rfl)
theorem dX3_mayName_73 : decode cX3_mayName 73 = .ok (.ireturn, 1) := dk_172 (dk_at dksX3_mayName_3 4 rfl rfl)
abbrev cX3_doing : ByteArray := prog_16_method_14_code
def yX3_doing : MethodName := ⟨RX3, "doing", "(I)LVaneCourt$Doing;"⟩
def dkwX3_doing_7 : List UInt8 := [42, 180, 0, 83, 42, 3, 16, 7, 182, 0, 136, 2, 2, 27, 183, 0, 147, 176]
abbrev dktX3_doing_7 : List UInt8 := dkwX3_doing_7 ++ []
def dkwX3_doing_6 : List UInt8 := [183, 0, 147, 176, 187, 0, 145, 89, 42, 180, 0, 83, 2, 2, 2, 27, 183, 0, 147, 176, 187, 0, 145, 89]
abbrev dktX3_doing_6 : List UInt8 := dkwX3_doing_6 ++ dktX3_doing_7
def dkwX3_doing_5 : List UInt8 := [27, 183, 0, 147, 176, 187, 0, 145, 89, 42, 180, 0, 83, 42, 4, 16, 60, 182, 0, 136, 2, 2, 27]
abbrev dktX3_doing_5 : List UInt8 := dkwX3_doing_5 ++ dktX3_doing_6
def dkwX3_doing_4 : List UInt8 := [182, 0, 136, 61, 187, 0, 145, 89, 42, 180, 0, 83, 28, 42, 17, 0, 214, 3, 16, 9, 182, 0, 141, 2]
abbrev dktX3_doing_4 : List UInt8 := dkwX3_doing_4 ++ dktX3_doing_5
def dkwX3_doing_3 : List UInt8 := [180, 0, 83, 28, 29, 42, 17, 0, 213, 4, 16, 9, 182, 0, 141, 27, 183, 0, 147, 176, 42, 3, 6]
abbrev dktX3_doing_3 : List UInt8 := dkwX3_doing_3 ++ dktX3_doing_4
def dkwX3_doing_2 : List UInt8 := [42, 3, 8, 182, 0, 136, 61, 42, 17, 0, 212, 4, 16, 9, 182, 0, 141, 62, 187, 0, 145, 89, 42]
abbrev dktX3_doing_2 : List UInt8 := dkwX3_doing_2 ++ dktX3_doing_3
def dkwX3_doing_1 : List UInt8 := [170, 0, 0, 0, 0, 0, 0, 157, 0, 0, 0, 205, 0, 0, 0, 211, 0, 0, 0, 44, 0, 0, 0, 157, 0, 0, 0, 141, 0, 0, 0, 157, 0, 0, 0, 87, 0, 0, 0, 141, 0, 0, 0, 119]
abbrev dktX3_doing_1 : List UInt8 := dkwX3_doing_1 ++ dktX3_doing_2
def dkwX3_doing_0 : List UInt8 := [42, 180, 0, 83]
abbrev dktX3_doing_0 : List UInt8 := dkwX3_doing_0 ++ dktX3_doing_1
theorem dksX3_doing_0 : cX3_doing.data.toList.drop 0 = dktX3_doing_0 := by decide +kernel
theorem dksX3_doing_1 : cX3_doing.data.toList.drop 4 = dktX3_doing_1 := dk_seg dksX3_doing_0 4 rfl rfl
theorem dksX3_doing_2 : cX3_doing.data.toList.drop 48 = dktX3_doing_2 := dk_seg dksX3_doing_1 44 rfl rfl
theorem dksX3_doing_3 : cX3_doing.data.toList.drop 71 = dktX3_doing_3 := dk_seg dksX3_doing_2 23 rfl rfl
theorem dksX3_doing_4 : cX3_doing.data.toList.drop 94 = dktX3_doing_4 := dk_seg dksX3_doing_3 23 rfl rfl
theorem dksX3_doing_5 : cX3_doing.data.toList.drop 118 = dktX3_doing_5 := dk_seg dksX3_doing_4 24 rfl rfl
theorem dksX3_doing_6 : cX3_doing.data.toList.drop 141 = dktX3_doing_6 := dk_seg dksX3_doing_5 23 rfl rfl
theorem dksX3_doing_7 : cX3_doing.data.toList.drop 165 = dktX3_doing_7 := dk_seg dksX3_doing_6 24 rfl rfl
theorem dX3_doing_0 : decode cX3_doing 0 = .ok (.aload_n 0, 1) := dk_42 (dk_at dksX3_doing_0 0 rfl rfl)
theorem dX3_doing_1 : decode cX3_doing 1 = .ok (.getfield 83, 3) := dk_180 0 83 (dk_at dksX3_doing_0 1 rfl rfl)
theorem dX3_doing_4 : decode cX3_doing 4 = .ok (.tableswitch 157 205 211 #[44, 157, 141, 157, 87, 141, 119], 44) := by decide +kernel
theorem dX3_doing_48 : decode cX3_doing 48 = .ok (.aload_n 0, 1) := dk_42 (dk_at dksX3_doing_2 0 rfl rfl)
theorem dX3_doing_49 : decode cX3_doing 49 = .ok (.iconst 0, 1) := dk_3 (dk_at dksX3_doing_2 1 rfl rfl)
theorem dX3_doing_50 : decode cX3_doing 50 = .ok (.iconst 5, 1) := dk_8 (dk_at dksX3_doing_2 2 rfl rfl)
theorem dX3_doing_51 : decode cX3_doing 51 = .ok (.invokevirtual 136, 3) := dk_182 0 136 (dk_at dksX3_doing_2 3 rfl rfl)
theorem dX3_doing_54 : decode cX3_doing 54 = .ok (.istore_n 2, 1) := dk_61 (dk_at dksX3_doing_2 6 rfl rfl)
theorem dX3_doing_55 : decode cX3_doing 55 = .ok (.aload_n 0, 1) := dk_42 (dk_at dksX3_doing_2 7 rfl rfl)
theorem dX3_doing_56 : decode cX3_doing 56 = .ok (.sipush 212, 3) := dk_17 0 212 (dk_at dksX3_doing_2 8 rfl rfl)
theorem dX3_doing_59 : decode cX3_doing 59 = .ok (.iconst 1, 1) := dk_4 (dk_at dksX3_doing_2 11 rfl rfl)
theorem dX3_doing_60 : decode cX3_doing 60 = .ok (.bipush 9, 2) := dk_16 9 (dk_at dksX3_doing_2 12 rfl rfl)
theorem dX3_doing_62 : decode cX3_doing 62 = .ok (.invokevirtual 141, 3) := dk_182 0 141 (dk_at dksX3_doing_2 14 rfl rfl)
theorem dX3_doing_65 : decode cX3_doing 65 = .ok (.istore_n 3, 1) := dk_62 (dk_at dksX3_doing_2 17 rfl rfl)
theorem dX3_doing_66 : decode cX3_doing 66 = .ok (.new 145, 3) := dk_187 0 145 (dk_at dksX3_doing_2 18 rfl rfl)
theorem dX3_doing_69 : decode cX3_doing 69 = .ok (.dup, 1) := dk_89 (dk_at dksX3_doing_2 21 rfl rfl)
theorem dX3_doing_70 : decode cX3_doing 70 = .ok (.aload_n 0, 1) := dk_42 (dk_at dksX3_doing_2 22 rfl rfl)
theorem dX3_doing_71 : decode cX3_doing 71 = .ok (.getfield 83, 3) := dk_180 0 83 (dk_at dksX3_doing_3 0 rfl rfl)
theorem dX3_doing_74 : decode cX3_doing 74 = .ok (.iload_n 2, 1) := dk_28 (dk_at dksX3_doing_3 3 rfl rfl)
theorem dX3_doing_75 : decode cX3_doing 75 = .ok (.iload_n 3, 1) := dk_29 (dk_at dksX3_doing_3 4 rfl rfl)
theorem dX3_doing_76 : decode cX3_doing 76 = .ok (.aload_n 0, 1) := dk_42 (dk_at dksX3_doing_3 5 rfl rfl)
theorem dX3_doing_77 : decode cX3_doing 77 = .ok (.sipush 213, 3) := dk_17 0 213 (dk_at dksX3_doing_3 6 rfl rfl)
theorem dX3_doing_80 : decode cX3_doing 80 = .ok (.iconst 1, 1) := dk_4 (dk_at dksX3_doing_3 9 rfl rfl)
theorem dX3_doing_81 : decode cX3_doing 81 = .ok (.bipush 9, 2) := dk_16 9 (dk_at dksX3_doing_3 10 rfl rfl)
theorem dX3_doing_83 : decode cX3_doing 83 = .ok (.invokevirtual 141, 3) := dk_182 0 141 (dk_at dksX3_doing_3 12 rfl rfl)
theorem dX3_doing_86 : decode cX3_doing 86 = .ok (.iload_n 1, 1) := dk_27 (dk_at dksX3_doing_3 15 rfl rfl)
theorem dX3_doing_87 : decode cX3_doing 87 = .ok (.invokespecial 147, 3) := dk_183 0 147 (dk_at dksX3_doing_3 16 rfl rfl)
theorem dX3_doing_90 : decode cX3_doing 90 = .ok (.areturn, 1) := dk_176 (dk_at dksX3_doing_3 19 rfl rfl)
theorem dX3_doing_91 : decode cX3_doing 91 = .ok (.aload_n 0, 1) := dk_42 (dk_at dksX3_doing_3 20 rfl rfl)
theorem dX3_doing_92 : decode cX3_doing 92 = .ok (.iconst 0, 1) := dk_3 (dk_at dksX3_doing_3 21 rfl rfl)
theorem dX3_doing_93 : decode cX3_doing 93 = .ok (.iconst 3, 1) := dk_6 (dk_at dksX3_doing_3 22 rfl rfl)
theorem dX3_doing_94 : decode cX3_doing 94 = .ok (.invokevirtual 136, 3) := dk_182 0 136 (dk_at dksX3_doing_4 0 rfl rfl)
theorem dX3_doing_97 : decode cX3_doing 97 = .ok (.istore_n 2, 1) := dk_61 (dk_at dksX3_doing_4 3 rfl rfl)
theorem dX3_doing_98 : decode cX3_doing 98 = .ok (.new 145, 3) := dk_187 0 145 (dk_at dksX3_doing_4 4 rfl rfl)
theorem dX3_doing_101 : decode cX3_doing 101 = .ok (.dup, 1) := dk_89 (dk_at dksX3_doing_4 7 rfl rfl)
theorem dX3_doing_102 : decode cX3_doing 102 = .ok (.aload_n 0, 1) := dk_42 (dk_at dksX3_doing_4 8 rfl rfl)
theorem dX3_doing_103 : decode cX3_doing 103 = .ok (.getfield 83, 3) := dk_180 0 83 (dk_at dksX3_doing_4 9 rfl rfl)
theorem dX3_doing_106 : decode cX3_doing 106 = .ok (.iload_n 2, 1) := dk_28 (dk_at dksX3_doing_4 12 rfl rfl)
theorem dX3_doing_107 : decode cX3_doing 107 = .ok (.aload_n 0, 1) := dk_42 (dk_at dksX3_doing_4 13 rfl rfl)
theorem dX3_doing_108 : decode cX3_doing 108 = .ok (.sipush 214, 3) := dk_17 0 214 (dk_at dksX3_doing_4 14 rfl rfl)
theorem dX3_doing_111 : decode cX3_doing 111 = .ok (.iconst 0, 1) := dk_3 (dk_at dksX3_doing_4 17 rfl rfl)
theorem dX3_doing_112 : decode cX3_doing 112 = .ok (.bipush 9, 2) := dk_16 9 (dk_at dksX3_doing_4 18 rfl rfl)
theorem dX3_doing_114 : decode cX3_doing 114 = .ok (.invokevirtual 141, 3) := dk_182 0 141 (dk_at dksX3_doing_4 20 rfl rfl)
theorem dX3_doing_117 : decode cX3_doing 117 = .ok (.iconst (-1), 1) := dk_2 (dk_at dksX3_doing_4 23 rfl rfl)
theorem dX3_doing_118 : decode cX3_doing 118 = .ok (.iload_n 1, 1) := dk_27 (dk_at dksX3_doing_5 0 rfl rfl)
theorem dX3_doing_119 : decode cX3_doing 119 = .ok (.invokespecial 147, 3) := dk_183 0 147 (dk_at dksX3_doing_5 1 rfl rfl)
theorem dX3_doing_122 : decode cX3_doing 122 = .ok (.areturn, 1) := dk_176 (dk_at dksX3_doing_5 4 rfl rfl)
theorem dX3_doing_123 : decode cX3_doing 123 = .ok (.new 145, 3) := dk_187 0 145 (dk_at dksX3_doing_5 5 rfl rfl)
theorem dX3_doing_126 : decode cX3_doing 126 = .ok (.dup, 1) := dk_89 (dk_at dksX3_doing_5 8 rfl rfl)
theorem dX3_doing_127 : decode cX3_doing 127 = .ok (.aload_n 0, 1) := dk_42 (dk_at dksX3_doing_5 9 rfl rfl)
theorem dX3_doing_128 : decode cX3_doing 128 = .ok (.getfield 83, 3) := dk_180 0 83 (dk_at dksX3_doing_5 10 rfl rfl)
theorem dX3_doing_131 : decode cX3_doing 131 = .ok (.aload_n 0, 1) := dk_42 (dk_at dksX3_doing_5 13 rfl rfl)
theorem dX3_doing_132 : decode cX3_doing 132 = .ok (.iconst 1, 1) := dk_4 (dk_at dksX3_doing_5 14 rfl rfl)
theorem dX3_doing_133 : decode cX3_doing 133 = .ok (.bipush 60, 2) := dk_16 60 (dk_at dksX3_doing_5 15 rfl rfl)
theorem dX3_doing_135 : decode cX3_doing 135 = .ok (.invokevirtual 136, 3) := dk_182 0 136 (dk_at dksX3_doing_5 17 rfl rfl)
theorem dX3_doing_138 : decode cX3_doing 138 = .ok (.iconst (-1), 1) := dk_2 (dk_at dksX3_doing_5 20 rfl rfl)
theorem dX3_doing_139 : decode cX3_doing 139 = .ok (.iconst (-1), 1) := dk_2 (dk_at dksX3_doing_5 21 rfl rfl)
theorem dX3_doing_140 : decode cX3_doing 140 = .ok (.iload_n 1, 1) := dk_27 (dk_at dksX3_doing_5 22 rfl rfl)
theorem dX3_doing_141 : decode cX3_doing 141 = .ok (.invokespecial 147, 3) := dk_183 0 147 (dk_at dksX3_doing_6 0 rfl rfl)
theorem dX3_doing_144 : decode cX3_doing 144 = .ok (.areturn, 1) := dk_176 (dk_at dksX3_doing_6 3 rfl rfl)
theorem dX3_doing_145 : decode cX3_doing 145 = .ok (.new 145, 3) := dk_187 0 145 (dk_at dksX3_doing_6 4 rfl rfl)
theorem dX3_doing_148 : decode cX3_doing 148 = .ok (.dup, 1) := dk_89 (dk_at dksX3_doing_6 7 rfl rfl)
theorem dX3_doing_149 : decode cX3_doing 149 = .ok (.aload_n 0, 1) := dk_42 (dk_at dksX3_doing_6 8 rfl rfl)
theorem dX3_doing_150 : decode cX3_doing 150 = .ok (.getfield 83, 3) := dk_180 0 83 (dk_at dksX3_doing_6 9 rfl rfl)
theorem dX3_doing_153 : decode cX3_doing 153 = .ok (.iconst (-1), 1) := dk_2 (dk_at dksX3_doing_6 12 rfl rfl)
theorem dX3_doing_154 : decode cX3_doing 154 = .ok (.iconst (-1), 1) := dk_2 (dk_at dksX3_doing_6 13 rfl rfl)
theorem dX3_doing_155 : decode cX3_doing 155 = .ok (.iconst (-1), 1) := dk_2 (dk_at dksX3_doing_6 14 rfl rfl)
theorem dX3_doing_156 : decode cX3_doing 156 = .ok (.iload_n 1, 1) := dk_27 (dk_at dksX3_doing_6 15 rfl rfl)
theorem dX3_doing_157 : decode cX3_doing 157 = .ok (.invokespecial 147, 3) := dk_183 0 147 (dk_at dksX3_doing_6 16 rfl rfl)
theorem dX3_doing_160 : decode cX3_doing 160 = .ok (.areturn, 1) := dk_176 (dk_at dksX3_doing_6 19 rfl rfl)
theorem dX3_doing_161 : decode cX3_doing 161 = .ok (.new 145, 3) := dk_187 0 145 (dk_at dksX3_doing_6 20 rfl rfl)
theorem dX3_doing_164 : decode cX3_doing 164 = .ok (.dup, 1) := dk_89 (dk_at dksX3_doing_6 23 rfl rfl)
theorem dX3_doing_165 : decode cX3_doing 165 = .ok (.aload_n 0, 1) := dk_42 (dk_at dksX3_doing_7 0 rfl rfl)
theorem dX3_doing_166 : decode cX3_doing 166 = .ok (.getfield 83, 3) := dk_180 0 83 (dk_at dksX3_doing_7 1 rfl rfl)
theorem dX3_doing_169 : decode cX3_doing 169 = .ok (.aload_n 0, 1) := dk_42 (dk_at dksX3_doing_7 4 rfl rfl)
theorem dX3_doing_170 : decode cX3_doing 170 = .ok (.iconst 0, 1) := dk_3 (dk_at dksX3_doing_7 5 rfl rfl)
theorem dX3_doing_171 : decode cX3_doing 171 = .ok (.bipush 7, 2) := dk_16 7 (dk_at dksX3_doing_7 6 rfl rfl)
theorem dX3_doing_173 : decode cX3_doing 173 = .ok (.invokevirtual 136, 3) := dk_182 0 136 (dk_at dksX3_doing_7 8 rfl rfl)
theorem dX3_doing_176 : decode cX3_doing 176 = .ok (.iconst (-1), 1) := dk_2 (dk_at dksX3_doing_7 11 rfl rfl)
theorem dX3_doing_177 : decode cX3_doing 177 = .ok (.iconst (-1), 1) := dk_2 (dk_at dksX3_doing_7 12 rfl rfl)
theorem dX3_doing_178 : decode cX3_doing 178 = .ok (.iload_n 1, 1) := dk_27 (dk_at dksX3_doing_7 13 rfl rfl)
theorem dX3_doing_179 : decode cX3_doing 179 = .ok (.invokespecial 147, 3) := dk_183 0 147 (dk_at dksX3_doing_7 14 rfl rfl)
theorem dX3_doing_182 : decode cX3_doing 182 = .ok (.areturn, 1) := dk_176 (dk_at dksX3_doing_7 17 rfl rfl)
abbrev cX3_behind : ByteArray := prog_16_method_13_code
def yX3_behind : MethodName := ⟨RX3, "behind", "(III)I"⟩
def dkwX3_behind_0 : List UInt8 := [42, 27, 182, 0, 107, 42, 28, 29, 182, 0, 136, 172]
abbrev dktX3_behind_0 : List UInt8 := dkwX3_behind_0 ++ []
theorem dksX3_behind_0 : cX3_behind.data.toList.drop 0 = dktX3_behind_0 := by decide +kernel
theorem dX3_behind_0 : decode cX3_behind 0 = .ok (.aload_n 0, 1) := dk_42 (dk_at dksX3_behind_0 0 rfl rfl)
theorem dX3_behind_1 : decode cX3_behind 1 = .ok (.iload_n 1, 1) := dk_27 (dk_at dksX3_behind_0 1 rfl rfl)
theorem dX3_behind_2 : decode cX3_behind 2 = .ok (.invokevirtual 107, 3) := dk_182 0 107 (dk_at dksX3_behind_0 2 rfl rfl)
theorem dX3_behind_5 : decode cX3_behind 5 = .ok (.aload_n 0, 1) := dk_42 (dk_at dksX3_behind_0 5 rfl rfl)
theorem dX3_behind_6 : decode cX3_behind 6 = .ok (.iload_n 2, 1) := dk_28 (dk_at dksX3_behind_0 6 rfl rfl)
theorem dX3_behind_7 : decode cX3_behind 7 = .ok (.iload_n 3, 1) := dk_29 (dk_at dksX3_behind_0 7 rfl rfl)
theorem dX3_behind_8 : decode cX3_behind 8 = .ok (.invokevirtual 136, 3) := dk_182 0 136 (dk_at dksX3_behind_0 8 rfl rfl)
theorem dX3_behind_11 : decode cX3_behind 11 = .ok (.ireturn, 1) := dk_172 (dk_at dksX3_behind_0 11 rfl rfl)
theorem q141 : (Jvm.Cond.initialized "VaneCourt$Tokens") ∈ lw_all := lw_g (lw_at lw_m1 5 rfl) rfl
theorem q308 : (Jvm.Cond.instantiable "VaneCourt$Tokens" (8 : Nat)) ∈ lw_all := lw_g (lw_at lw_m1 172 rfl) rfl
theorem q310 : (Jvm.Cond.instanceMethod ({ cls := "VaneCourt$Tokens", name := "<init>", desc := "([BI)V" } : Jvm.MethodName)) ∈ lw_all := lw_g (lw_at lw_m1 174 rfl) rfl
theorem q311 : (Jvm.Cond.code ({ cls := "VaneCourt$Tokens", name := "<init>", desc := "([BI)V" } : Jvm.MethodName) prog_16_method_1_code (3 : Nat) (Option.none : Option Jvm.ClassFile.FieldType)) ∈ lw_all := lw_g (lw_at lw_m1 175 rfl) rfl
theorem q312 : (Jvm.Cond.methodLink "VaneCourt$Tokens" (3 : Nat) ({ cls := "java/lang/Object", name := "<init>", desc := "()V" } : Jvm.MethodName)) ∈ lw_all := lw_g (lw_at lw_m1 176 rfl) rfl
theorem q313 : (Jvm.Cond.fieldLink "VaneCourt$Tokens" (9 : Nat) "VaneCourt$Tokens" "text" "[B") ∈ lw_all := lw_g (lw_at lw_m1 177 rfl) rfl
theorem q314 : (Jvm.Cond.fieldLink "VaneCourt$Tokens" (15 : Nat) "VaneCourt$Tokens" "size" "I") ∈ lw_all := lw_g (lw_at lw_m1 178 rfl) rfl
theorem q315 : (Jvm.Cond.fieldLink "VaneCourt$Tokens" (19 : Nat) "VaneCourt$Tokens" "at" "I") ∈ lw_all := lw_g (lw_at lw_m1 179 rfl) rfl
theorem q316 : (Jvm.Cond.fieldLink "VaneCourt$Tokens" (22 : Nat) "VaneCourt$Tokens" "token" "I") ∈ lw_all := lw_g (lw_at lw_m1 180 rfl) rfl
theorem q317 : (Jvm.Cond.fieldLink "VaneCourt$Tokens" (25 : Nat) "VaneCourt$Tokens" "sort" "I") ∈ lw_all := lw_g (lw_at lw_m1 181 rfl) rfl
theorem q318 : (Jvm.Cond.fieldLink "VaneCourt$Tokens" (43 : Nat) "VaneCourt$Tokens" "number" "I") ∈ lw_all := lw_g (lw_at lw_m1 182 rfl) rfl
theorem q319 : (Jvm.Cond.fieldLink "VaneCourt$Tokens" (77 : Nat) "VaneCourt$Tokens" "open" "I") ∈ lw_all := lw_g (lw_at lw_m1 183 rfl) rfl
theorem q320 : (Jvm.Cond.fieldLink "VaneCourt$Tokens" (83 : Nat) "VaneCourt$Tokens" "kind" "I") ∈ lw_all := lw_g (lw_at lw_m1 184 rfl) rfl
theorem q321 : (Jvm.Cond.laysFinal "VaneCourt$Tokens" "VaneCourt$Tokens" "text" "[B") ∈ lw_all := lw_g (lw_at lw_m1 185 rfl) rfl
theorem q322 : (Jvm.Cond.soleField "VaneCourt$Tokens" "text") ∈ lw_all := lw_g (lw_at lw_m1 186 rfl) rfl
theorem q323 : (Jvm.Cond.laysFinal "VaneCourt$Tokens" "VaneCourt$Tokens" "size" "I") ∈ lw_all := lw_g (lw_at lw_m1 187 rfl) rfl
theorem q324 : (Jvm.Cond.soleField "VaneCourt$Tokens" "size") ∈ lw_all := lw_g (lw_at lw_m1 188 rfl) rfl
theorem q325 : (Jvm.Cond.lays "VaneCourt$Tokens" "VaneCourt$Tokens" "at" "I") ∈ lw_all := lw_g (lw_at lw_m1 189 rfl) rfl
theorem q326 : (Jvm.Cond.soleField "VaneCourt$Tokens" "at") ∈ lw_all := lw_g (lw_at lw_m1 190 rfl) rfl
theorem q327 : (Jvm.Cond.lays "VaneCourt$Tokens" "VaneCourt$Tokens" "token" "I") ∈ lw_all := lw_g (lw_at lw_m1 191 rfl) rfl
theorem q328 : (Jvm.Cond.soleField "VaneCourt$Tokens" "token") ∈ lw_all := lw_g (lw_at lw_m1 192 rfl) rfl
theorem q329 : (Jvm.Cond.lays "VaneCourt$Tokens" "VaneCourt$Tokens" "sort" "I") ∈ lw_all := lw_g (lw_at lw_m1 193 rfl) rfl
theorem q330 : (Jvm.Cond.soleField "VaneCourt$Tokens" "sort") ∈ lw_all := lw_g (lw_at lw_m1 194 rfl) rfl
theorem q331 : (Jvm.Cond.lays "VaneCourt$Tokens" "VaneCourt$Tokens" "number" "I") ∈ lw_all := lw_g (lw_at lw_m1 195 rfl) rfl
theorem q332 : (Jvm.Cond.soleField "VaneCourt$Tokens" "number") ∈ lw_all := lw_g (lw_at lw_m1 196 rfl) rfl
theorem q333 : (Jvm.Cond.lays "VaneCourt$Tokens" "VaneCourt$Tokens" "open" "I") ∈ lw_all := lw_g (lw_at lw_m1 197 rfl) rfl
theorem q334 : (Jvm.Cond.soleField "VaneCourt$Tokens" "open") ∈ lw_all := lw_g (lw_at lw_m1 198 rfl) rfl
theorem q335 : (Jvm.Cond.lays "VaneCourt$Tokens" "VaneCourt$Tokens" "kind" "I") ∈ lw_all := lw_g (lw_at lw_m1 199 rfl) rfl
theorem q336 : (Jvm.Cond.soleField "VaneCourt$Tokens" "kind") ∈ lw_all := lw_g (lw_at lw_m1 200 rfl) rfl
theorem q337 : (Jvm.Cond.superclass "VaneCourt$Tokens" "java/lang/Object") ∈ lw_all := lw_g (lw_at lw_m1 201 rfl) rfl
theorem q339 : (Jvm.Cond.instanceMethod ({ cls := "VaneCourt$Tokens", name := "read", desc := "()LVaneCourt$Text;" } : Jvm.MethodName)) ∈ lw_all := lw_g (lw_at lw_m1 203 rfl) rfl
theorem q340 : (Jvm.Cond.selects "VaneCourt$Tokens" ({ cls := "VaneCourt$Tokens", name := "read", desc := "()LVaneCourt$Text;" } : Jvm.MethodName) ({ cls := "VaneCourt$Tokens", name := "read", desc := "()LVaneCourt$Text;" } : Jvm.MethodName)) ∈ lw_all := lw_g (lw_at lw_m1 204 rfl) rfl
theorem q341 : (Jvm.Cond.code ({ cls := "VaneCourt$Tokens", name := "read", desc := "()LVaneCourt$Text;" } : Jvm.MethodName) prog_16_method_10_code (2 : Nat) (Option.some (Jvm.ClassFile.FieldType.object "VaneCourt$Text"))) ∈ lw_all := lw_g (lw_at lw_m1 205 rfl) rfl
theorem q342 : (Jvm.Cond.classLink "VaneCourt$Tokens" (80 : Nat) "VaneCourt$Text") ∈ lw_all := lw_g (lw_at lw_m1 206 rfl) rfl
theorem q344 : (Jvm.Cond.methodLinkNest "VaneCourt$Tokens" (82 : Nat) ({ cls := "VaneCourt$Text", name := "<init>", desc := "()V" } : Jvm.MethodName) "VaneCourt") ∈ lw_tbl := lw_at lw_m1 208 rfl
theorem q377 : (Jvm.Cond.fieldLinkNest "VaneCourt$Tokens" (138 : Nat) "VaneCourt$Text" "code" "[LVaneCourt$Asked;" "VaneCourt") ∈ lw_tbl := lw_at lw_m2 1 rfl
theorem q379 : (Jvm.Cond.fieldLinkNest "VaneCourt$Tokens" (86 : Nat) "VaneCourt$Text" "veers" "LVaneCourt$Sum;" "VaneCourt") ∈ lw_tbl := lw_at lw_m2 3 rfl
theorem q381 : (Jvm.Cond.fieldLinkNest "VaneCourt$Tokens" (90 : Nat) "VaneCourt$Text" "blows" "LVaneCourt$Sum;" "VaneCourt") ∈ lw_tbl := lw_at lw_m2 5 rfl
theorem q383 : (Jvm.Cond.fieldLinkNest "VaneCourt$Tokens" (97 : Nat) "VaneCourt$Text" "sentence" "LVaneCourt$Sum;" "VaneCourt") ∈ lw_tbl := lw_at lw_m2 7 rfl
theorem q385 : (Jvm.Cond.fieldLinkNest "VaneCourt$Tokens" (93 : Nat) "VaneCourt$Text" "fogs" "LVaneCourt$Asked;" "VaneCourt") ∈ lw_tbl := lw_at lw_m2 9 rfl
theorem q387 : (Jvm.Cond.fieldLinkNest "VaneCourt$Tokens" (100 : Nat) "VaneCourt$Text" "clauses" "I" "VaneCourt") ∈ lw_tbl := lw_at lw_m2 11 rfl
theorem q389 : (Jvm.Cond.fieldLinkNest "VaneCourt$Tokens" (122 : Nat) "VaneCourt$Text" "doings" "Ljava/util/ArrayList;" "VaneCourt") ∈ lw_tbl := lw_at lw_m2 13 rfl
theorem q406 : (Jvm.Cond.methodLink "VaneCourt$Tokens" (74 : Nat) ({ cls := "VaneCourt$Tokens", name := "next", desc := "()V" } : Jvm.MethodName)) ∈ lw_all := lw_g (lw_at lw_m2 30 rfl) rfl
theorem q407 : (Jvm.Cond.privateMethod ({ cls := "VaneCourt$Tokens", name := "next", desc := "()V" } : Jvm.MethodName)) ∈ lw_tbl := lw_at lw_m2 31 rfl
theorem q408 : (Jvm.Cond.instanceMethod ({ cls := "VaneCourt$Tokens", name := "next", desc := "()V" } : Jvm.MethodName)) ∈ lw_all := lw_g (lw_at lw_m2 32 rfl) rfl
theorem q409 : (Jvm.Cond.code ({ cls := "VaneCourt$Tokens", name := "next", desc := "()V" } : Jvm.MethodName) prog_16_method_4_code (3 : Nat) (Option.none : Option Jvm.ClassFile.FieldType)) ∈ lw_all := lw_g (lw_at lw_m2 33 rfl) rfl
theorem q410 : (Jvm.Cond.methodLink "VaneCourt$Tokens" (28 : Nat) ({ cls := "VaneCourt$Tokens", name := "isLetter", desc := "(I)Z" } : Jvm.MethodName)) ∈ lw_all := lw_g (lw_at lw_m2 34 rfl) rfl
theorem q411 : (Jvm.Cond.static ({ cls := "VaneCourt$Tokens", name := "isLetter", desc := "(I)Z" } : Jvm.MethodName)) ∈ lw_all := lw_g (lw_at lw_m2 35 rfl) rfl
theorem q412 : (Jvm.Cond.code ({ cls := "VaneCourt$Tokens", name := "isLetter", desc := "(I)Z" } : Jvm.MethodName) prog_16_method_2_code (1 : Nat) (Option.some Jvm.ClassFile.FieldType.boolean)) ∈ lw_all := lw_g (lw_at lw_m2 36 rfl) rfl
theorem q413 : (Jvm.Cond.fieldLink "VaneCourt$Tokens" (32 : Nat) "VaneCourt$Tokens" "WORDS" "[Ljava/lang/String;") ∈ lw_all := lw_g (lw_at lw_m2 37 rfl) rfl
theorem q414 : (Jvm.Cond.laysStatic "VaneCourt$Tokens" "WORDS" "[Ljava/lang/String;") ∈ lw_tbl := lw_at lw_m2 38 rfl
theorem q415 : (Jvm.Cond.methodLink "VaneCourt$Tokens" (36 : Nat) ({ cls := "VaneCourt$Tokens", name := "isWord", desc := "(Ljava/lang/String;)Z" } : Jvm.MethodName)) ∈ lw_all := lw_g (lw_at lw_m2 39 rfl) rfl
theorem q416 : (Jvm.Cond.privateMethod ({ cls := "VaneCourt$Tokens", name := "isWord", desc := "(Ljava/lang/String;)Z" } : Jvm.MethodName)) ∈ lw_tbl := lw_at lw_m2 40 rfl
theorem q417 : (Jvm.Cond.instanceMethod ({ cls := "VaneCourt$Tokens", name := "isWord", desc := "(Ljava/lang/String;)Z" } : Jvm.MethodName)) ∈ lw_all := lw_g (lw_at lw_m2 41 rfl) rfl
theorem q418 : (Jvm.Cond.code ({ cls := "VaneCourt$Tokens", name := "isWord", desc := "(Ljava/lang/String;)Z" } : Jvm.MethodName) prog_16_method_5_code (3 : Nat) (Option.some Jvm.ClassFile.FieldType.boolean)) ∈ lw_all := lw_g (lw_at lw_m2 42 rfl) rfl
theorem q419 : (Jvm.Cond.methodLink "VaneCourt$Tokens" (55 : Nat) ({ cls := "java/lang/String", name := "length", desc := "()I" } : Jvm.MethodName)) ∈ lw_all := lw_g (lw_at lw_m2 43 rfl) rfl
theorem q429 : (Jvm.Cond.methodLink "VaneCourt$Tokens" (61 : Nat) ({ cls := "java/lang/String", name := "charAt", desc := "(I)C" } : Jvm.MethodName)) ∈ lw_all := lw_g (lw_at lw_m2 53 rfl) rfl
theorem q467 : (Jvm.Cond.methodLink "VaneCourt$Tokens" (40 : Nat) ({ cls := "VaneCourt$Tokens", name := "isDigit", desc := "(I)Z" } : Jvm.MethodName)) ∈ lw_all := lw_g (lw_at lw_m2 91 rfl) rfl
theorem q468 : (Jvm.Cond.static ({ cls := "VaneCourt$Tokens", name := "isDigit", desc := "(I)Z" } : Jvm.MethodName)) ∈ lw_all := lw_g (lw_at lw_m2 92 rfl) rfl
theorem q469 : (Jvm.Cond.code ({ cls := "VaneCourt$Tokens", name := "isDigit", desc := "(I)Z" } : Jvm.MethodName) prog_16_method_3_code (1 : Nat) (Option.some Jvm.ClassFile.FieldType.boolean)) ∈ lw_all := lw_g (lw_at lw_m2 93 rfl) rfl
theorem q470 : (Jvm.Cond.constant "VaneCourt$Tokens" (46 : Nat) (99999 : Int32)) ∈ lw_all := lw_g (lw_at lw_m2 94 rfl) rfl
theorem q471 : (Jvm.Cond.methodLink "VaneCourt$Tokens" (47 : Nat) ({ cls := "java/lang/Math", name := "min", desc := "(II)I" } : Jvm.MethodName)) ∈ lw_all := lw_g (lw_at lw_m2 95 rfl) rfl
theorem q474 : (Jvm.Cond.stringRef "VaneCourt$Tokens" (53 : Nat) "<>=#+-*/(),:;") ∈ lw_tbl := lw_at lw_m2 98 rfl
theorem q475 : (Jvm.Cond.methodLink "VaneCourt$Tokens" (70 : Nat) ({ cls := "VaneCourt$Tokens", name := "wrong", desc := "(I)LVaneCourt$Wrong;" } : Jvm.MethodName)) ∈ lw_all := lw_g (lw_at lw_m2 99 rfl) rfl
theorem q476 : (Jvm.Cond.privateMethod ({ cls := "VaneCourt$Tokens", name := "wrong", desc := "(I)LVaneCourt$Wrong;" } : Jvm.MethodName)) ∈ lw_tbl := lw_at lw_m2 100 rfl
theorem q477 : (Jvm.Cond.instanceMethod ({ cls := "VaneCourt$Tokens", name := "wrong", desc := "(I)LVaneCourt$Wrong;" } : Jvm.MethodName)) ∈ lw_all := lw_g (lw_at lw_m2 101 rfl) rfl
theorem q478 : (Jvm.Cond.code ({ cls := "VaneCourt$Tokens", name := "wrong", desc := "(I)LVaneCourt$Wrong;" } : Jvm.MethodName) prog_16_method_6_code (2 : Nat) (Option.some (Jvm.ClassFile.FieldType.object "VaneCourt$Wrong"))) ∈ lw_all := lw_g (lw_at lw_m2 102 rfl) rfl
theorem q479 : (Jvm.Cond.classLink "VaneCourt$Tokens" (65 : Nat) "VaneCourt$Wrong") ∈ lw_all := lw_g (lw_at lw_m2 103 rfl) rfl
theorem q516 : (Jvm.Cond.methodLink "VaneCourt$Tokens" (67 : Nat) ({ cls := "VaneCourt$Wrong", name := "<init>", desc := "(II)V" } : Jvm.MethodName)) ∈ lw_all := lw_g (lw_at lw_m2 140 rfl) rfl
theorem q543 : (Jvm.Cond.methodLink "VaneCourt$Tokens" (103 : Nat) ({ cls := "VaneCourt$Tokens", name := "clause", desc := "(LVaneCourt$Text;)V" } : Jvm.MethodName)) ∈ lw_all := lw_g (lw_at lw_m2 167 rfl) rfl
theorem q544 : (Jvm.Cond.privateMethod ({ cls := "VaneCourt$Tokens", name := "clause", desc := "(LVaneCourt$Text;)V" } : Jvm.MethodName)) ∈ lw_tbl := lw_at lw_m2 168 rfl
theorem q545 : (Jvm.Cond.instanceMethod ({ cls := "VaneCourt$Tokens", name := "clause", desc := "(LVaneCourt$Text;)V" } : Jvm.MethodName)) ∈ lw_all := lw_g (lw_at lw_m2 169 rfl) rfl
theorem q546 : (Jvm.Cond.code ({ cls := "VaneCourt$Tokens", name := "clause", desc := "(LVaneCourt$Text;)V" } : Jvm.MethodName) prog_16_method_11_code (2 : Nat) (Option.none : Option Jvm.ClassFile.FieldType)) ∈ lw_all := lw_g (lw_at lw_m2 170 rfl) rfl
theorem q547 : (Jvm.Cond.methodLink "VaneCourt$Tokens" (111 : Nat) ({ cls := "VaneCourt$Tokens", name := "code", desc := "(LVaneCourt$Text;)V" } : Jvm.MethodName)) ∈ lw_all := lw_g (lw_at lw_m2 171 rfl) rfl
theorem q548 : (Jvm.Cond.privateMethod ({ cls := "VaneCourt$Tokens", name := "code", desc := "(LVaneCourt$Text;)V" } : Jvm.MethodName)) ∈ lw_tbl := lw_at lw_m2 172 rfl
theorem q549 : (Jvm.Cond.instanceMethod ({ cls := "VaneCourt$Tokens", name := "code", desc := "(LVaneCourt$Text;)V" } : Jvm.MethodName)) ∈ lw_all := lw_g (lw_at lw_m2 173 rfl) rfl
theorem q550 : (Jvm.Cond.code ({ cls := "VaneCourt$Tokens", name := "code", desc := "(LVaneCourt$Text;)V" } : Jvm.MethodName) prog_16_method_12_code (4 : Nat) (Option.none : Option Jvm.ClassFile.FieldType)) ∈ lw_all := lw_g (lw_at lw_m2 174 rfl) rfl
theorem q551 : (Jvm.Cond.methodLink "VaneCourt$Tokens" (136 : Nat) ({ cls := "VaneCourt$Tokens", name := "number", desc := "(II)I" } : Jvm.MethodName)) ∈ lw_all := lw_g (lw_at lw_m2 175 rfl) rfl
theorem q552 : (Jvm.Cond.privateMethod ({ cls := "VaneCourt$Tokens", name := "number", desc := "(II)I" } : Jvm.MethodName)) ∈ lw_tbl := lw_at lw_m2 176 rfl
theorem q553 : (Jvm.Cond.instanceMethod ({ cls := "VaneCourt$Tokens", name := "number", desc := "(II)I" } : Jvm.MethodName)) ∈ lw_all := lw_g (lw_at lw_m2 177 rfl) rfl
theorem q554 : (Jvm.Cond.code ({ cls := "VaneCourt$Tokens", name := "number", desc := "(II)I" } : Jvm.MethodName) prog_16_method_8_code (4 : Nat) (Option.some Jvm.ClassFile.FieldType.int)) ∈ lw_all := lw_g (lw_at lw_m2 178 rfl) rfl
theorem q555 : (Jvm.Cond.methodLink "VaneCourt$Tokens" (107 : Nat) ({ cls := "VaneCourt$Tokens", name := "want", desc := "(I)V" } : Jvm.MethodName)) ∈ lw_all := lw_g (lw_at lw_m2 179 rfl) rfl
theorem q556 : (Jvm.Cond.privateMethod ({ cls := "VaneCourt$Tokens", name := "want", desc := "(I)V" } : Jvm.MethodName)) ∈ lw_tbl := lw_at lw_m2 180 rfl
theorem q557 : (Jvm.Cond.instanceMethod ({ cls := "VaneCourt$Tokens", name := "want", desc := "(I)V" } : Jvm.MethodName)) ∈ lw_all := lw_g (lw_at lw_m2 181 rfl) rfl
theorem q558 : (Jvm.Cond.code ({ cls := "VaneCourt$Tokens", name := "want", desc := "(I)V" } : Jvm.MethodName) prog_16_method_7_code (2 : Nat) (Option.none : Option Jvm.ClassFile.FieldType)) ∈ lw_all := lw_g (lw_at lw_m2 182 rfl) rfl
theorem q559 : (Jvm.Cond.methodLink "VaneCourt$Tokens" (118 : Nat) ({ cls := "VaneCourt$Tokens", name := "whole", desc := "()LVaneCourt$Asked;" } : Jvm.MethodName)) ∈ lw_all := lw_g (lw_at lw_m2 183 rfl) rfl
theorem q560 : (Jvm.Cond.privateMethod ({ cls := "VaneCourt$Tokens", name := "whole", desc := "()LVaneCourt$Asked;" } : Jvm.MethodName)) ∈ lw_tbl := lw_at lw_m2 184 rfl
theorem q561 : (Jvm.Cond.instanceMethod ({ cls := "VaneCourt$Tokens", name := "whole", desc := "()LVaneCourt$Asked;" } : Jvm.MethodName)) ∈ lw_all := lw_g (lw_at lw_m2 185 rfl) rfl
theorem q562 : (Jvm.Cond.code ({ cls := "VaneCourt$Tokens", name := "whole", desc := "()LVaneCourt$Asked;" } : Jvm.MethodName) prog_16_method_17_code (2 : Nat) (Option.some (Jvm.ClassFile.FieldType.object "VaneCourt$Asked"))) ∈ lw_all := lw_g (lw_at lw_m2 186 rfl) rfl
theorem q563 : (Jvm.Cond.methodLink "VaneCourt$Tokens" (170 : Nat) ({ cls := "VaneCourt$Tokens", name := "either", desc := "()LVaneCourt$Asked;" } : Jvm.MethodName)) ∈ lw_all := lw_g (lw_at lw_m2 187 rfl) rfl
theorem q564 : (Jvm.Cond.privateMethod ({ cls := "VaneCourt$Tokens", name := "either", desc := "()LVaneCourt$Asked;" } : Jvm.MethodName)) ∈ lw_tbl := lw_at lw_m2 188 rfl
theorem q565 : (Jvm.Cond.instanceMethod ({ cls := "VaneCourt$Tokens", name := "either", desc := "()LVaneCourt$Asked;" } : Jvm.MethodName)) ∈ lw_all := lw_g (lw_at lw_m2 189 rfl) rfl
theorem q566 : (Jvm.Cond.code ({ cls := "VaneCourt$Tokens", name := "either", desc := "()LVaneCourt$Asked;" } : Jvm.MethodName) prog_16_method_15_code (2 : Nat) (Option.some (Jvm.ClassFile.FieldType.object "VaneCourt$Asked"))) ∈ lw_all := lw_g (lw_at lw_m2 190 rfl) rfl
theorem q567 : (Jvm.Cond.classLink "VaneCourt$Tokens" (131 : Nat) "java/util/ArrayList") ∈ lw_all := lw_g (lw_at lw_m2 191 rfl) rfl
theorem q568 : (Jvm.Cond.methodLink "VaneCourt$Tokens" (150 : Nat) ({ cls := "java/util/ArrayList", name := "<init>", desc := "()V" } : Jvm.MethodName)) ∈ lw_all := lw_g (lw_at lw_m2 192 rfl) rfl
theorem q569 : (Jvm.Cond.methodLink "VaneCourt$Tokens" (151 : Nat) ({ cls := "VaneCourt$Tokens", name := "both", desc := "()LVaneCourt$Asked;" } : Jvm.MethodName)) ∈ lw_all := lw_g (lw_at lw_m2 193 rfl) rfl
theorem q570 : (Jvm.Cond.privateMethod ({ cls := "VaneCourt$Tokens", name := "both", desc := "()LVaneCourt$Asked;" } : Jvm.MethodName)) ∈ lw_tbl := lw_at lw_m2 194 rfl
theorem q571 : (Jvm.Cond.instanceMethod ({ cls := "VaneCourt$Tokens", name := "both", desc := "()LVaneCourt$Asked;" } : Jvm.MethodName)) ∈ lw_all := lw_g (lw_at lw_m2 195 rfl) rfl
theorem q572 : (Jvm.Cond.code ({ cls := "VaneCourt$Tokens", name := "both", desc := "()LVaneCourt$Asked;" } : Jvm.MethodName) prog_16_method_16_code (2 : Nat) (Option.some (Jvm.ClassFile.FieldType.object "VaneCourt$Asked"))) ∈ lw_all := lw_g (lw_at lw_m2 196 rfl) rfl
theorem q573 : (Jvm.Cond.methodLink "VaneCourt$Tokens" (167 : Nat) ({ cls := "VaneCourt$Tokens", name := "ask", desc := "()LVaneCourt$Asked;" } : Jvm.MethodName)) ∈ lw_all := lw_g (lw_at lw_m2 197 rfl) rfl
theorem q574 : (Jvm.Cond.privateMethod ({ cls := "VaneCourt$Tokens", name := "ask", desc := "()LVaneCourt$Asked;" } : Jvm.MethodName)) ∈ lw_tbl := lw_at lw_m2 198 rfl
theorem q575 : (Jvm.Cond.instanceMethod ({ cls := "VaneCourt$Tokens", name := "ask", desc := "()LVaneCourt$Asked;" } : Jvm.MethodName)) ∈ lw_all := lw_g (lw_at lw_m2 199 rfl) rfl
theorem q576 : (Jvm.Cond.code ({ cls := "VaneCourt$Tokens", name := "ask", desc := "()LVaneCourt$Asked;" } : Jvm.MethodName) prog_16_method_20_code (3 : Nat) (Option.some (Jvm.ClassFile.FieldType.object "VaneCourt$Asked"))) ∈ lw_all := lw_g (lw_at lw_m2 200 rfl) rfl
theorem q577 : (Jvm.Cond.methodLink "VaneCourt$Tokens" (182 : Nat) ({ cls := "VaneCourt$Tokens", name := "opens", desc := "()V" } : Jvm.MethodName)) ∈ lw_all := lw_g (lw_at lw_m2 201 rfl) rfl
theorem q578 : (Jvm.Cond.privateMethod ({ cls := "VaneCourt$Tokens", name := "opens", desc := "()V" } : Jvm.MethodName)) ∈ lw_tbl := lw_at lw_m2 202 rfl
theorem q579 : (Jvm.Cond.instanceMethod ({ cls := "VaneCourt$Tokens", name := "opens", desc := "()V" } : Jvm.MethodName)) ∈ lw_all := lw_g (lw_at lw_m2 203 rfl) rfl
theorem q580 : (Jvm.Cond.code ({ cls := "VaneCourt$Tokens", name := "opens", desc := "()V" } : Jvm.MethodName) prog_16_method_9_code (1 : Nat) (Option.none : Option Jvm.ClassFile.FieldType)) ∈ lw_all := lw_g (lw_at lw_m2 204 rfl) rfl
theorem q581 : (Jvm.Cond.classLink "VaneCourt$Tokens" (190 : Nat) "VaneCourt$Not") ∈ lw_all := lw_g (lw_at lw_m2 205 rfl) rfl
theorem q583 : (Jvm.Cond.methodLinkNest "VaneCourt$Tokens" (192 : Nat) ({ cls := "VaneCourt$Not", name := "<init>", desc := "(LVaneCourt$Asked;)V" } : Jvm.MethodName) "VaneCourt") ∈ lw_tbl := lw_at lw_m2 207 rfl
theorem q594 : (Jvm.Cond.methodLink "VaneCourt$Tokens" (195 : Nat) ({ cls := "VaneCourt$Tokens", name := "fact", desc := "()LVaneCourt$Asked;" } : Jvm.MethodName)) ∈ lw_all := lw_g (lw_at lw_m2 218 rfl) rfl
theorem q595 : (Jvm.Cond.privateMethod ({ cls := "VaneCourt$Tokens", name := "fact", desc := "()LVaneCourt$Asked;" } : Jvm.MethodName)) ∈ lw_tbl := lw_at lw_m2 219 rfl
theorem q596 : (Jvm.Cond.instanceMethod ({ cls := "VaneCourt$Tokens", name := "fact", desc := "()LVaneCourt$Asked;" } : Jvm.MethodName)) ∈ lw_all := lw_g (lw_at lw_m2 220 rfl) rfl
theorem q597 : (Jvm.Cond.code ({ cls := "VaneCourt$Tokens", name := "fact", desc := "()LVaneCourt$Asked;" } : Jvm.MethodName) prog_16_method_18_code (1 : Nat) (Option.some (Jvm.ClassFile.FieldType.object "VaneCourt$Asked"))) ∈ lw_all := lw_g (lw_at lw_m2 221 rfl) rfl
theorem q598 : (Jvm.Cond.classLink "VaneCourt$Tokens" (178 : Nat) "VaneCourt$Fact") ∈ lw_all := lw_g (lw_at lw_m2 222 rfl) rfl
theorem q600 : (Jvm.Cond.methodLinkNest "VaneCourt$Tokens" (180 : Nat) ({ cls := "VaneCourt$Fact", name := "<init>", desc := "(I)V" } : Jvm.MethodName) "VaneCourt") ∈ lw_tbl := lw_at lw_m2 224 rfl
theorem q608 : (Jvm.Cond.methodLink "VaneCourt$Tokens" (198 : Nat) ({ cls := "VaneCourt$Tokens", name := "most", desc := "()LVaneCourt$Asked;" } : Jvm.MethodName)) ∈ lw_all := lw_g (lw_at lw_m2 232 rfl) rfl
theorem q609 : (Jvm.Cond.privateMethod ({ cls := "VaneCourt$Tokens", name := "most", desc := "()LVaneCourt$Asked;" } : Jvm.MethodName)) ∈ lw_tbl := lw_at lw_m2 233 rfl
theorem q610 : (Jvm.Cond.instanceMethod ({ cls := "VaneCourt$Tokens", name := "most", desc := "()LVaneCourt$Asked;" } : Jvm.MethodName)) ∈ lw_all := lw_g (lw_at lw_m2 234 rfl) rfl
theorem q611 : (Jvm.Cond.code ({ cls := "VaneCourt$Tokens", name := "most", desc := "()LVaneCourt$Asked;" } : Jvm.MethodName) prog_16_method_19_code (2 : Nat) (Option.some (Jvm.ClassFile.FieldType.object "VaneCourt$Asked"))) ∈ lw_all := lw_g (lw_at lw_m2 235 rfl) rfl
theorem q612 : (Jvm.Cond.methodLink "VaneCourt$Tokens" (130 : Nat) ({ cls := "java/util/ArrayList", name := "add", desc := "(Ljava/lang/Object;)Z" } : Jvm.MethodName)) ∈ lw_all := lw_g (lw_at lw_m2 236 rfl) rfl
theorem q657 : (Jvm.Cond.selects "VaneCourt$Tokens" ({ cls := "java/lang/Object", name := "getClass", desc := "()Ljava/lang/Class;" } : Jvm.MethodName) ({ cls := "java/lang/Object", name := "getClass", desc := "()Ljava/lang/Class;" } : Jvm.MethodName)) ∈ lw_all := lw_g (lw_at lw_m3 41 rfl) rfl
theorem q674 : (Jvm.Cond.methodLink "VaneCourt$Tokens" (154 : Nat) ({ cls := "java/util/ArrayList", name := "size", desc := "()I" } : Jvm.MethodName)) ∈ lw_all := lw_g (lw_at lw_m3 58 rfl) rfl
theorem q678 : (Jvm.Cond.classLink "VaneCourt$Tokens" (185 : Nat) "VaneCourt$Most") ∈ lw_all := lw_g (lw_at lw_m3 62 rfl) rfl
theorem q680 : (Jvm.Cond.methodLinkNest "VaneCourt$Tokens" (187 : Nat) ({ cls := "VaneCourt$Most", name := "<init>", desc := "(Ljava/util/ArrayList;)V" } : Jvm.MethodName) "VaneCourt") ∈ lw_tbl := lw_at lw_m3 64 rfl
theorem q688 : (Jvm.Cond.methodLink "VaneCourt$Tokens" (114 : Nat) ({ cls := "VaneCourt$Tokens", name := "sum", desc := "()LVaneCourt$Sum;" } : Jvm.MethodName)) ∈ lw_all := lw_g (lw_at lw_m3 72 rfl) rfl
theorem q689 : (Jvm.Cond.privateMethod ({ cls := "VaneCourt$Tokens", name := "sum", desc := "()LVaneCourt$Sum;" } : Jvm.MethodName)) ∈ lw_tbl := lw_at lw_m3 73 rfl
theorem q690 : (Jvm.Cond.instanceMethod ({ cls := "VaneCourt$Tokens", name := "sum", desc := "()LVaneCourt$Sum;" } : Jvm.MethodName)) ∈ lw_all := lw_g (lw_at lw_m3 74 rfl) rfl
theorem q691 : (Jvm.Cond.code ({ cls := "VaneCourt$Tokens", name := "sum", desc := "()LVaneCourt$Sum;" } : Jvm.MethodName) prog_16_method_21_code (3 : Nat) (Option.some (Jvm.ClassFile.FieldType.object "VaneCourt$Sum"))) ∈ lw_all := lw_g (lw_at lw_m3 75 rfl) rfl
theorem q692 : (Jvm.Cond.classLink "VaneCourt$Tokens" (206 : Nat) "VaneCourt$Chain") ∈ lw_all := lw_g (lw_at lw_m3 76 rfl) rfl
theorem q694 : (Jvm.Cond.methodLink "VaneCourt$Tokens" (208 : Nat) ({ cls := "VaneCourt$Tokens", name := "product", desc := "()LVaneCourt$Sum;" } : Jvm.MethodName)) ∈ lw_all := lw_g (lw_at lw_m3 78 rfl) rfl
theorem q695 : (Jvm.Cond.privateMethod ({ cls := "VaneCourt$Tokens", name := "product", desc := "()LVaneCourt$Sum;" } : Jvm.MethodName)) ∈ lw_tbl := lw_at lw_m3 79 rfl
theorem q696 : (Jvm.Cond.instanceMethod ({ cls := "VaneCourt$Tokens", name := "product", desc := "()LVaneCourt$Sum;" } : Jvm.MethodName)) ∈ lw_all := lw_g (lw_at lw_m3 80 rfl) rfl
theorem q697 : (Jvm.Cond.code ({ cls := "VaneCourt$Tokens", name := "product", desc := "()LVaneCourt$Sum;" } : Jvm.MethodName) prog_16_method_22_code (3 : Nat) (Option.some (Jvm.ClassFile.FieldType.object "VaneCourt$Sum"))) ∈ lw_all := lw_g (lw_at lw_m3 81 rfl) rfl
theorem q698 : (Jvm.Cond.methodLink "VaneCourt$Tokens" (220 : Nat) ({ cls := "VaneCourt$Tokens", name := "one", desc := "()LVaneCourt$Sum;" } : Jvm.MethodName)) ∈ lw_all := lw_g (lw_at lw_m3 82 rfl) rfl
theorem q699 : (Jvm.Cond.privateMethod ({ cls := "VaneCourt$Tokens", name := "one", desc := "()LVaneCourt$Sum;" } : Jvm.MethodName)) ∈ lw_tbl := lw_at lw_m3 83 rfl
theorem q700 : (Jvm.Cond.instanceMethod ({ cls := "VaneCourt$Tokens", name := "one", desc := "()LVaneCourt$Sum;" } : Jvm.MethodName)) ∈ lw_all := lw_g (lw_at lw_m3 84 rfl) rfl
theorem q701 : (Jvm.Cond.code ({ cls := "VaneCourt$Tokens", name := "one", desc := "()LVaneCourt$Sum;" } : Jvm.MethodName) prog_16_method_25_code (3 : Nat) (Option.some (Jvm.ClassFile.FieldType.object "VaneCourt$Sum"))) ∈ lw_all := lw_g (lw_at lw_m3 85 rfl) rfl
theorem q702 : (Jvm.Cond.classLink "VaneCourt$Tokens" (227 : Nat) "VaneCourt$Plain") ∈ lw_all := lw_g (lw_at lw_m3 86 rfl) rfl
theorem q704 : (Jvm.Cond.methodLinkNest "VaneCourt$Tokens" (229 : Nat) ({ cls := "VaneCourt$Plain", name := "<init>", desc := "(I)V" } : Jvm.MethodName) "VaneCourt") ∈ lw_tbl := lw_at lw_m3 88 rfl
theorem q712 : (Jvm.Cond.methodLink "VaneCourt$Tokens" (230 : Nat) ({ cls := "VaneCourt$Tokens", name := "nameNow", desc := "()I" } : Jvm.MethodName)) ∈ lw_all := lw_g (lw_at lw_m3 96 rfl) rfl
theorem q713 : (Jvm.Cond.privateMethod ({ cls := "VaneCourt$Tokens", name := "nameNow", desc := "()I" } : Jvm.MethodName)) ∈ lw_tbl := lw_at lw_m3 97 rfl
theorem q714 : (Jvm.Cond.instanceMethod ({ cls := "VaneCourt$Tokens", name := "nameNow", desc := "()I" } : Jvm.MethodName)) ∈ lw_all := lw_g (lw_at lw_m3 98 rfl) rfl
theorem q715 : (Jvm.Cond.code ({ cls := "VaneCourt$Tokens", name := "nameNow", desc := "()I" } : Jvm.MethodName) prog_16_method_23_code (1 : Nat) (Option.some Jvm.ClassFile.FieldType.int)) ∈ lw_all := lw_g (lw_at lw_m3 99 rfl) rfl
theorem q716 : (Jvm.Cond.methodLink "VaneCourt$Tokens" (233 : Nat) ({ cls := "VaneCourt$Tokens", name := "mayName", desc := "(I)Z" } : Jvm.MethodName)) ∈ lw_all := lw_g (lw_at lw_m3 100 rfl) rfl
theorem q717 : (Jvm.Cond.privateMethod ({ cls := "VaneCourt$Tokens", name := "mayName", desc := "(I)Z" } : Jvm.MethodName)) ∈ lw_tbl := lw_at lw_m3 101 rfl
theorem q718 : (Jvm.Cond.instanceMethod ({ cls := "VaneCourt$Tokens", name := "mayName", desc := "(I)Z" } : Jvm.MethodName)) ∈ lw_all := lw_g (lw_at lw_m3 102 rfl) rfl
theorem q719 : (Jvm.Cond.code ({ cls := "VaneCourt$Tokens", name := "mayName", desc := "(I)Z" } : Jvm.MethodName) prog_16_method_24_code (2 : Nat) (Option.some Jvm.ClassFile.FieldType.boolean)) ∈ lw_all := lw_g (lw_at lw_m3 103 rfl) rfl
theorem q720 : (Jvm.Cond.methodLinkNest "VaneCourt$Tokens" (223 : Nat) ({ cls := "VaneCourt", name := "in", desc := "(III)Z" } : Jvm.MethodName) "VaneCourt") ∈ lw_tbl := lw_at lw_m3 104 rfl
theorem q721 : (Jvm.Cond.classLink "VaneCourt$Tokens" (236 : Nat) "VaneCourt$Name") ∈ lw_all := lw_g (lw_at lw_m3 105 rfl) rfl
theorem q723 : (Jvm.Cond.methodLinkNest "VaneCourt$Tokens" (238 : Nat) ({ cls := "VaneCourt$Name", name := "<init>", desc := "(I)V" } : Jvm.MethodName) "VaneCourt") ∈ lw_tbl := lw_at lw_m3 107 rfl
theorem q731 : (Jvm.Cond.classLink "VaneCourt$Tokens" (239 : Nat) "VaneCourt$Minus") ∈ lw_all := lw_g (lw_at lw_m3 115 rfl) rfl
theorem q733 : (Jvm.Cond.methodLinkNest "VaneCourt$Tokens" (241 : Nat) ({ cls := "VaneCourt$Minus", name := "<init>", desc := "(LVaneCourt$Sum;)V" } : Jvm.MethodName) "VaneCourt") ∈ lw_tbl := lw_at lw_m3 117 rfl
theorem q741 : (Jvm.Cond.methodLink "VaneCourt$Tokens" (211 : Nat) ({ cls := "VaneCourt$Chain", name := "<init>", desc := "(LVaneCourt$Sum;)V" } : Jvm.MethodName)) ∈ lw_all := lw_g (lw_at lw_m3 125 rfl) rfl
theorem q757 : (Jvm.Cond.methodLink "VaneCourt$Tokens" (214 : Nat) ({ cls := "VaneCourt$Chain", name := "add", desc := "(ILVaneCourt$Sum;)V" } : Jvm.MethodName)) ∈ lw_all := lw_g (lw_at lw_m3 141 rfl) rfl
theorem q782 : (Jvm.Cond.methodLink "VaneCourt$Tokens" (217 : Nat) ({ cls := "VaneCourt$Chain", name := "itself", desc := "()LVaneCourt$Sum;" } : Jvm.MethodName)) ∈ lw_all := lw_g (lw_at lw_m3 166 rfl) rfl
theorem q790 : (Jvm.Cond.classLink "VaneCourt$Tokens" (201 : Nat) "VaneCourt$Compared") ∈ lw_all := lw_g (lw_at lw_m3 174 rfl) rfl
theorem q792 : (Jvm.Cond.methodLinkNest "VaneCourt$Tokens" (203 : Nat) ({ cls := "VaneCourt$Compared", name := "<init>", desc := "(ILVaneCourt$Sum;LVaneCourt$Sum;)V" } : Jvm.MethodName) "VaneCourt") ∈ lw_tbl := lw_at lw_m3 176 rfl
theorem q806 : (Jvm.Cond.methodLink "VaneCourt$Tokens" (156 : Nat) ({ cls := "java/util/ArrayList", name := "get", desc := "(I)Ljava/lang/Object;" } : Jvm.MethodName)) ∈ lw_all := lw_g (lw_at lw_m3 190 rfl) rfl
theorem q818 : (Jvm.Cond.classLink "VaneCourt$Tokens" (160 : Nat) "VaneCourt$Asked") ∈ lw_all := lw_g (lw_at lw_m3 202 rfl) rfl
theorem q819 : (Jvm.Cond.classLink "VaneCourt$Tokens" (162 : Nat) "VaneCourt$All") ∈ lw_all := lw_g (lw_at lw_m3 203 rfl) rfl
theorem q821 : (Jvm.Cond.methodLinkNest "VaneCourt$Tokens" (164 : Nat) ({ cls := "VaneCourt$All", name := "<init>", desc := "(ZLjava/util/ArrayList;)V" } : Jvm.MethodName) "VaneCourt") ∈ lw_tbl := lw_at lw_m3 205 rfl
theorem q832 : (Jvm.Cond.classLink "VaneCourt$Tokens" (173 : Nat) "VaneCourt$Unless") ∈ lw_all := lw_g (lw_at lw_m3 216 rfl) rfl
theorem q834 : (Jvm.Cond.methodLinkNest "VaneCourt$Tokens" (175 : Nat) ({ cls := "VaneCourt$Unless", name := "<init>", desc := "(LVaneCourt$Asked;LVaneCourt$Asked;)V" } : Jvm.MethodName) "VaneCourt") ∈ lw_tbl := lw_at lw_m3 218 rfl
theorem q845 : (Jvm.Cond.methodLink "VaneCourt$Tokens" (126 : Nat) ({ cls := "VaneCourt$Tokens", name := "doing", desc := "(I)LVaneCourt$Doing;" } : Jvm.MethodName)) ∈ lw_all := lw_g (lw_at lw_m3 229 rfl) rfl
theorem q846 : (Jvm.Cond.privateMethod ({ cls := "VaneCourt$Tokens", name := "doing", desc := "(I)LVaneCourt$Doing;" } : Jvm.MethodName)) ∈ lw_tbl := lw_at lw_m3 230 rfl
theorem q847 : (Jvm.Cond.instanceMethod ({ cls := "VaneCourt$Tokens", name := "doing", desc := "(I)LVaneCourt$Doing;" } : Jvm.MethodName)) ∈ lw_all := lw_g (lw_at lw_m3 231 rfl) rfl
theorem q848 : (Jvm.Cond.code ({ cls := "VaneCourt$Tokens", name := "doing", desc := "(I)LVaneCourt$Doing;" } : Jvm.MethodName) prog_16_method_14_code (4 : Nat) (Option.some (Jvm.ClassFile.FieldType.object "VaneCourt$Doing"))) ∈ lw_all := lw_g (lw_at lw_m3 232 rfl) rfl
theorem q849 : (Jvm.Cond.methodLink "VaneCourt$Tokens" (141 : Nat) ({ cls := "VaneCourt$Tokens", name := "behind", desc := "(III)I" } : Jvm.MethodName)) ∈ lw_all := lw_g (lw_at lw_m3 233 rfl) rfl
theorem q850 : (Jvm.Cond.privateMethod ({ cls := "VaneCourt$Tokens", name := "behind", desc := "(III)I" } : Jvm.MethodName)) ∈ lw_tbl := lw_at lw_m3 234 rfl
theorem q851 : (Jvm.Cond.instanceMethod ({ cls := "VaneCourt$Tokens", name := "behind", desc := "(III)I" } : Jvm.MethodName)) ∈ lw_all := lw_g (lw_at lw_m3 235 rfl) rfl
theorem q852 : (Jvm.Cond.code ({ cls := "VaneCourt$Tokens", name := "behind", desc := "(III)I" } : Jvm.MethodName) prog_16_method_13_code (4 : Nat) (Option.some Jvm.ClassFile.FieldType.int)) ∈ lw_all := lw_g (lw_at lw_m3 236 rfl) rfl
theorem q853 : (Jvm.Cond.classLink "VaneCourt$Tokens" (145 : Nat) "VaneCourt$Doing") ∈ lw_all := lw_g (lw_at lw_m3 237 rfl) rfl
theorem q855 : (Jvm.Cond.methodLinkNest "VaneCourt$Tokens" (147 : Nat) ({ cls := "VaneCourt$Doing", name := "<init>", desc := "(IIIII)V" } : Jvm.MethodName) "VaneCourt") ∈ lw_tbl := lw_at lw_m3 239 rfl
theorem q2031 : (Jvm.Cond.castable "VaneCourt$Tokens" "java/lang/Object") ∈ lw_tbl := lw_at lw_m8 215 rfl
theorem q2061 : (Jvm.Cond.stringRef "VaneCourt$Tokens" (242 : Nat) "code") ∈ lw_tbl := lw_at lw_m9 5 rfl
theorem q2062 : (Jvm.Cond.stringRef "VaneCourt$Tokens" (243 : Nat) "veers") ∈ lw_tbl := lw_at lw_m9 6 rfl
theorem q2063 : (Jvm.Cond.stringRef "VaneCourt$Tokens" (244 : Nat) "blows") ∈ lw_tbl := lw_at lw_m9 7 rfl
theorem q2064 : (Jvm.Cond.stringRef "VaneCourt$Tokens" (245 : Nat) "fogs") ∈ lw_tbl := lw_at lw_m9 8 rfl
theorem q2065 : (Jvm.Cond.stringRef "VaneCourt$Tokens" (246 : Nat) "sentence") ∈ lw_tbl := lw_at lw_m9 9 rfl
theorem q2066 : (Jvm.Cond.stringRef "VaneCourt$Tokens" (247 : Nat) "case") ∈ lw_tbl := lw_at lw_m9 10 rfl
theorem q2067 : (Jvm.Cond.stringRef "VaneCourt$Tokens" (249 : Nat) "call") ∈ lw_tbl := lw_at lw_m9 11 rfl
theorem q2068 : (Jvm.Cond.stringRef "VaneCourt$Tokens" (251 : Nat) "delay") ∈ lw_tbl := lw_at lw_m9 12 rfl
theorem q2069 : (Jvm.Cond.stringRef "VaneCourt$Tokens" (253 : Nat) "appeal") ∈ lw_tbl := lw_at lw_m9 13 rfl
theorem q2070 : (Jvm.Cond.stringRef "VaneCourt$Tokens" (255 : Nat) "gust") ∈ lw_tbl := lw_at lw_m9 14 rfl
theorem q2071 : (Jvm.Cond.stringRef "VaneCourt$Tokens" (257 : Nat) "withdraw") ∈ lw_tbl := lw_at lw_m9 15 rfl
theorem q2072 : (Jvm.Cond.stringRef "VaneCourt$Tokens" (259 : Nat) "hour") ∈ lw_tbl := lw_at lw_m9 16 rfl
theorem q2073 : (Jvm.Cond.stringRef "VaneCourt$Tokens" (261 : Nat) "gravity") ∈ lw_tbl := lw_at lw_m9 17 rfl
theorem q2074 : (Jvm.Cond.stringRef "VaneCourt$Tokens" (263 : Nat) "needs") ∈ lw_tbl := lw_at lw_m9 18 rfl
theorem q2075 : (Jvm.Cond.stringRef "VaneCourt$Tokens" (265 : Nat) "force") ∈ lw_tbl := lw_at lw_m9 19 rfl
theorem q2076 : (Jvm.Cond.stringRef "VaneCourt$Tokens" (267 : Nat) "unless") ∈ lw_tbl := lw_at lw_m9 20 rfl
theorem q2077 : (Jvm.Cond.stringRef "VaneCourt$Tokens" (269 : Nat) "or") ∈ lw_tbl := lw_at lw_m9 21 rfl
theorem q2078 : (Jvm.Cond.stringRef "VaneCourt$Tokens" (271 : Nat) "and") ∈ lw_tbl := lw_at lw_m9 22 rfl
theorem q2079 : (Jvm.Cond.stringRef "VaneCourt$Tokens" (273 : Nat) "not") ∈ lw_tbl := lw_at lw_m9 23 rfl
theorem q2080 : (Jvm.Cond.stringRef "VaneCourt$Tokens" (275 : Nat) "fact") ∈ lw_tbl := lw_at lw_m9 24 rfl
theorem q2081 : (Jvm.Cond.stringRef "VaneCourt$Tokens" (276 : Nat) "most") ∈ lw_tbl := lw_at lw_m9 25 rfl
theorem q2082 : (Jvm.Cond.stringRef "VaneCourt$Tokens" (277 : Nat) "quarter") ∈ lw_tbl := lw_at lw_m9 26 rfl
theorem q2083 : (Jvm.Cond.stringRef "VaneCourt$Tokens" (279 : Nat) "draw") ∈ lw_tbl := lw_at lw_m9 27 rfl
theorem q2084 : (Jvm.Cond.stringRef "VaneCourt$Tokens" (281 : Nat) "kind") ∈ lw_tbl := lw_at lw_m9 28 rfl
theorem q2085 : (Jvm.Cond.stringRef "VaneCourt$Tokens" (282 : Nat) "hours") ∈ lw_tbl := lw_at lw_m9 29 rfl
theorem q2086 : (Jvm.Cond.stringRef "VaneCourt$Tokens" (284 : Nat) "laws") ∈ lw_tbl := lw_at lw_m9 30 rfl
theorem in_X3 : ∀ w ∈ wsX30, w ∈ lw_all := lw_in wsX30 [321, 323, 325, 327, 329, 331, 333, 335] (by decide +kernel) (by decide +kernel)
/-! VaneCourt$Text -/
set_option maxRecDepth 100000
def RX4 : String := "VaneCourt$Text"
def TX4 : u_T := fun k => match k with
  | 0 => ("VaneCourt$Text", "code", "[LVaneCourt$Asked;", true)
  | 1 => ("VaneCourt$Text", "veers", "LVaneCourt$Sum;", false)
  | 2 => ("VaneCourt$Text", "blows", "LVaneCourt$Sum;", false)
  | 3 => ("VaneCourt$Text", "sentence", "LVaneCourt$Sum;", false)
  | 4 => ("VaneCourt$Text", "fogs", "LVaneCourt$Asked;", false)
  | 5 => ("VaneCourt$Text", "clauses", "I", false)
  | _ => ("VaneCourt$Text", "doings", "Ljava/util/ArrayList;", true)
def tyX4 : Nat → FieldType := fun k => match k with
  | 0 => .array (.object "VaneCourt$Asked")
  | 1 => .object "VaneCourt$Sum"
  | 2 => .object "VaneCourt$Sum"
  | 3 => .object "VaneCourt$Sum"
  | 4 => .object "VaneCourt$Asked"
  | 5 => .int
  | _ => .object "java/util/ArrayList"
abbrev wsX40 : List Cond := u_ws RX4 TX4 7
theorem nmX4 : ∀ a, a < 7 → ∀ b, b < 7 → a ≠ b → (TX4 a).2.1 ≠ (TX4 b).2.1 := by decide +kernel
theorem tyX4_ok : ∀ k, k < 7 → parseFieldDescriptor (TX4 k).2.2.1 = some (tyX4 k) := by decide +kernel
abbrev cX4_init : ByteArray := prog_15_method_1_code
def yX4_init : MethodName := ⟨RX4, "<init>", "()V"⟩
def dkwX4_init_0 : List UInt8 := [42, 183, 0, 3, 42, 7, 189, 0, 9, 181, 0, 11, 42, 187, 0, 17, 89, 183, 0, 19, 181, 0, 20, 177]
abbrev dktX4_init_0 : List UInt8 := dkwX4_init_0 ++ []
theorem dksX4_init_0 : cX4_init.data.toList.drop 0 = dktX4_init_0 := by decide +kernel
theorem dX4_init_0 : decode cX4_init 0 = .ok (.aload_n 0, 1) := dk_42 (dk_at dksX4_init_0 0 rfl rfl)
theorem dX4_init_1 : decode cX4_init 1 = .ok (.invokespecial 3, 3) := dk_183 0 3 (dk_at dksX4_init_0 1 rfl rfl)
theorem dX4_init_4 : decode cX4_init 4 = .ok (.aload_n 0, 1) := dk_42 (dk_at dksX4_init_0 4 rfl rfl)
theorem dX4_init_5 : decode cX4_init 5 = .ok (.iconst 4, 1) := dk_7 (dk_at dksX4_init_0 5 rfl rfl)
theorem dX4_init_6 : decode cX4_init 6 = .ok (.anewarray 9, 3) := dk_189 0 9 (dk_at dksX4_init_0 6 rfl rfl)
theorem dX4_init_9 : decode cX4_init 9 = .ok (.putfield 11, 3) := dk_181 0 11 (dk_at dksX4_init_0 9 rfl rfl)
theorem dX4_init_12 : decode cX4_init 12 = .ok (.aload_n 0, 1) := dk_42 (dk_at dksX4_init_0 12 rfl rfl)
theorem dX4_init_13 : decode cX4_init 13 = .ok (.new 17, 3) := dk_187 0 17 (dk_at dksX4_init_0 13 rfl rfl)
theorem dX4_init_16 : decode cX4_init 16 = .ok (.dup, 1) := dk_89 (dk_at dksX4_init_0 16 rfl rfl)
theorem dX4_init_17 : decode cX4_init 17 = .ok (.invokespecial 19, 3) := dk_183 0 19 (dk_at dksX4_init_0 17 rfl rfl)
theorem dX4_init_20 : decode cX4_init 20 = .ok (.putfield 20, 3) := dk_181 0 20 (dk_at dksX4_init_0 20 rfl rfl)
theorem dX4_init_23 : decode cX4_init 23 = .ok (.return_, 1) := dk_177 (dk_at dksX4_init_0 23 rfl rfl)
theorem q142 : (Jvm.Cond.initialized "VaneCourt$Text") ∈ lw_all := lw_g (lw_at lw_m1 6 rfl) rfl
theorem q343 : (Jvm.Cond.instantiable "VaneCourt$Text" (7 : Nat)) ∈ lw_all := lw_g (lw_at lw_m1 207 rfl) rfl
theorem q345 : (Jvm.Cond.instanceMethod ({ cls := "VaneCourt$Text", name := "<init>", desc := "()V" } : Jvm.MethodName)) ∈ lw_all := lw_g (lw_at lw_m1 209 rfl) rfl
theorem q346 : (Jvm.Cond.code ({ cls := "VaneCourt$Text", name := "<init>", desc := "()V" } : Jvm.MethodName) prog_15_method_1_code (1 : Nat) (Option.none : Option Jvm.ClassFile.FieldType)) ∈ lw_all := lw_g (lw_at lw_m1 210 rfl) rfl
theorem q347 : (Jvm.Cond.methodLink "VaneCourt$Text" (3 : Nat) ({ cls := "java/lang/Object", name := "<init>", desc := "()V" } : Jvm.MethodName)) ∈ lw_all := lw_g (lw_at lw_m1 211 rfl) rfl
theorem q348 : (Jvm.Cond.classLink "VaneCourt$Text" (9 : Nat) "VaneCourt$Asked") ∈ lw_all := lw_g (lw_at lw_m1 212 rfl) rfl
theorem q350 : (Jvm.Cond.classLink "VaneCourt$Text" (17 : Nat) "java/util/ArrayList") ∈ lw_all := lw_g (lw_at lw_m1 214 rfl) rfl
theorem q352 : (Jvm.Cond.methodLink "VaneCourt$Text" (19 : Nat) ({ cls := "java/util/ArrayList", name := "<init>", desc := "()V" } : Jvm.MethodName)) ∈ lw_all := lw_g (lw_at lw_m1 216 rfl) rfl
theorem q376 : (Jvm.Cond.fieldLink "VaneCourt$Text" (11 : Nat) "VaneCourt$Text" "code" "[LVaneCourt$Asked;") ∈ lw_all := lw_g (lw_at lw_m2 0 rfl) rfl
theorem q388 : (Jvm.Cond.fieldLink "VaneCourt$Text" (20 : Nat) "VaneCourt$Text" "doings" "Ljava/util/ArrayList;") ∈ lw_all := lw_g (lw_at lw_m2 12 rfl) rfl
theorem q391 : (Jvm.Cond.laysFinal "VaneCourt$Text" "VaneCourt$Text" "code" "[LVaneCourt$Asked;") ∈ lw_all := lw_g (lw_at lw_m2 15 rfl) rfl
theorem q392 : (Jvm.Cond.soleField "VaneCourt$Text" "code") ∈ lw_all := lw_g (lw_at lw_m2 16 rfl) rfl
theorem q393 : (Jvm.Cond.lays "VaneCourt$Text" "VaneCourt$Text" "veers" "LVaneCourt$Sum;") ∈ lw_all := lw_g (lw_at lw_m2 17 rfl) rfl
theorem q394 : (Jvm.Cond.soleField "VaneCourt$Text" "veers") ∈ lw_all := lw_g (lw_at lw_m2 18 rfl) rfl
theorem q395 : (Jvm.Cond.lays "VaneCourt$Text" "VaneCourt$Text" "blows" "LVaneCourt$Sum;") ∈ lw_all := lw_g (lw_at lw_m2 19 rfl) rfl
theorem q396 : (Jvm.Cond.soleField "VaneCourt$Text" "blows") ∈ lw_all := lw_g (lw_at lw_m2 20 rfl) rfl
theorem q397 : (Jvm.Cond.lays "VaneCourt$Text" "VaneCourt$Text" "sentence" "LVaneCourt$Sum;") ∈ lw_all := lw_g (lw_at lw_m2 21 rfl) rfl
theorem q398 : (Jvm.Cond.soleField "VaneCourt$Text" "sentence") ∈ lw_all := lw_g (lw_at lw_m2 22 rfl) rfl
theorem q399 : (Jvm.Cond.lays "VaneCourt$Text" "VaneCourt$Text" "fogs" "LVaneCourt$Asked;") ∈ lw_all := lw_g (lw_at lw_m2 23 rfl) rfl
theorem q400 : (Jvm.Cond.soleField "VaneCourt$Text" "fogs") ∈ lw_all := lw_g (lw_at lw_m2 24 rfl) rfl
theorem q401 : (Jvm.Cond.lays "VaneCourt$Text" "VaneCourt$Text" "clauses" "I") ∈ lw_all := lw_g (lw_at lw_m2 25 rfl) rfl
theorem q402 : (Jvm.Cond.soleField "VaneCourt$Text" "clauses") ∈ lw_all := lw_g (lw_at lw_m2 26 rfl) rfl
theorem q403 : (Jvm.Cond.laysFinal "VaneCourt$Text" "VaneCourt$Text" "doings" "Ljava/util/ArrayList;") ∈ lw_all := lw_g (lw_at lw_m2 27 rfl) rfl
theorem q404 : (Jvm.Cond.soleField "VaneCourt$Text" "doings") ∈ lw_all := lw_g (lw_at lw_m2 28 rfl) rfl
theorem q405 : (Jvm.Cond.superclass "VaneCourt$Text" "java/lang/Object") ∈ lw_all := lw_g (lw_at lw_m2 29 rfl) rfl
theorem q656 : (Jvm.Cond.selects "VaneCourt$Text" ({ cls := "java/lang/Object", name := "getClass", desc := "()Ljava/lang/Class;" } : Jvm.MethodName) ({ cls := "java/lang/Object", name := "getClass", desc := "()Ljava/lang/Class;" } : Jvm.MethodName)) ∈ lw_all := lw_g (lw_at lw_m3 40 rfl) rfl
theorem q2025 : (Jvm.Cond.castable "VaneCourt$Text" "java/lang/Object") ∈ lw_tbl := lw_at lw_m8 209 rfl
theorem in_X4 : ∀ w ∈ wsX40, w ∈ lw_all := lw_in wsX40 [391, 393, 395, 397, 399, 401, 403] (by decide +kernel) (by decide +kernel)
/-! VaneCourt$Wrong -/
set_option maxRecDepth 100000
def RX5 : String := "VaneCourt$Wrong"
def TX5 : u_T := fun k => match k with
  | 0 => ("java/lang/Throwable", "cause", "Ljava/lang/Throwable;", false)
  | 1 => ("java/lang/Throwable", "stackTrace", "[Ljava/lang/StackTraceElement;", false)
  | 2 => ("java/lang/Throwable", "suppressedExceptions", "Ljava/util/List;", false)
  | 3 => ("java/lang/Throwable", "detailMessage", "Ljava/lang/String;", false)
  | 4 => ("java/lang/Throwable", "backtrace", "Ljava/lang/Object;", false)
  | 5 => ("java/lang/Throwable", "depth", "I", false)
  | 6 => ("VaneCourt$Wrong", "fault", "I", true)
  | _ => ("VaneCourt$Wrong", "place", "I", true)
def tyX5 : Nat → FieldType := fun k => match k with
  | 0 => .object "java/lang/Throwable"
  | 1 => .array (.object "java/lang/StackTraceElement")
  | 2 => .object "java/util/List"
  | 3 => .object "java/lang/String"
  | 4 => .object "java/lang/Object"
  | 5 => .int
  | 6 => .int
  | _ => .int
abbrev wsX50 : List Cond := u_ws RX5 TX5 8
theorem nmX5 : ∀ a, a < 8 → ∀ b, b < 8 → a ≠ b → (TX5 a).2.1 ≠ (TX5 b).2.1 := by decide +kernel
theorem tyX5_ok : ∀ k, k < 8 → parseFieldDescriptor (TX5 k).2.2.1 = some (tyX5 k) := by decide +kernel
abbrev cX5_init : ByteArray := prog_18_method_1_code
def yX5_init : MethodName := ⟨RX5, "<init>", "(II)V"⟩
def dkwX5_init_0 : List UInt8 := [42, 183, 0, 1, 42, 27, 181, 0, 7, 42, 28, 181, 0, 13, 177]
abbrev dktX5_init_0 : List UInt8 := dkwX5_init_0 ++ []
theorem dksX5_init_0 : cX5_init.data.toList.drop 0 = dktX5_init_0 := by decide +kernel
theorem dX5_init_0 : decode cX5_init 0 = .ok (.aload_n 0, 1) := dk_42 (dk_at dksX5_init_0 0 rfl rfl)
theorem dX5_init_1 : decode cX5_init 1 = .ok (.invokespecial 1, 3) := dk_183 0 1 (dk_at dksX5_init_0 1 rfl rfl)
theorem dX5_init_4 : decode cX5_init 4 = .ok (.aload_n 0, 1) := dk_42 (dk_at dksX5_init_0 4 rfl rfl)
theorem dX5_init_5 : decode cX5_init 5 = .ok (.iload_n 1, 1) := dk_27 (dk_at dksX5_init_0 5 rfl rfl)
theorem dX5_init_6 : decode cX5_init 6 = .ok (.putfield 7, 3) := dk_181 0 7 (dk_at dksX5_init_0 6 rfl rfl)
theorem dX5_init_9 : decode cX5_init 9 = .ok (.aload_n 0, 1) := dk_42 (dk_at dksX5_init_0 9 rfl rfl)
theorem dX5_init_10 : decode cX5_init 10 = .ok (.iload_n 2, 1) := dk_28 (dk_at dksX5_init_0 10 rfl rfl)
theorem dX5_init_11 : decode cX5_init 11 = .ok (.putfield 13, 3) := dk_181 0 13 (dk_at dksX5_init_0 11 rfl rfl)
theorem dX5_init_14 : decode cX5_init 14 = .ok (.return_, 1) := dk_177 (dk_at dksX5_init_0 14 rfl rfl)
theorem q153 : (Jvm.Cond.initialized "VaneCourt$Wrong") ∈ lw_all := lw_g (lw_at lw_m1 17 rfl) rfl
theorem q480 : (Jvm.Cond.instantiable "VaneCourt$Wrong" (8 : Nat)) ∈ lw_all := lw_g (lw_at lw_m2 104 rfl) rfl
theorem q481 : (Jvm.Cond.castable "VaneCourt$Wrong" "VaneCourt$Wrong") ∈ lw_tbl := lw_at lw_m2 105 rfl
theorem q486 : (Jvm.Cond.selects "VaneCourt$Wrong" ({ cls := "java/lang/Throwable", name := "fillInStackTrace", desc := "(I)Ljava/lang/Throwable;" } : Jvm.MethodName) ({ cls := "java/lang/Throwable", name := "fillInStackTrace", desc := "(I)Ljava/lang/Throwable;" } : Jvm.MethodName)) ∈ lw_all := lw_g (lw_at lw_m2 110 rfl) rfl
theorem q487 : (Jvm.Cond.selects "VaneCourt$Wrong" ({ cls := "java/lang/Throwable", name := "fillInStackTrace", desc := "()Ljava/lang/Throwable;" } : Jvm.MethodName) ({ cls := "java/lang/Throwable", name := "fillInStackTrace", desc := "()Ljava/lang/Throwable;" } : Jvm.MethodName)) ∈ lw_all := lw_g (lw_at lw_m2 111 rfl) rfl
theorem q488 : (Jvm.Cond.lays "VaneCourt$Wrong" "java/lang/Throwable" "cause" "Ljava/lang/Throwable;") ∈ lw_all := lw_g (lw_at lw_m2 112 rfl) rfl
theorem q490 : (Jvm.Cond.lays "VaneCourt$Wrong" "java/lang/Throwable" "stackTrace" "[Ljava/lang/StackTraceElement;") ∈ lw_all := lw_g (lw_at lw_m2 114 rfl) rfl
theorem q492 : (Jvm.Cond.lays "VaneCourt$Wrong" "java/lang/Throwable" "suppressedExceptions" "Ljava/util/List;") ∈ lw_all := lw_g (lw_at lw_m2 116 rfl) rfl
theorem q494 : (Jvm.Cond.lays "VaneCourt$Wrong" "java/lang/Throwable" "detailMessage" "Ljava/lang/String;") ∈ lw_all := lw_g (lw_at lw_m2 118 rfl) rfl
theorem q496 : (Jvm.Cond.lays "VaneCourt$Wrong" "java/lang/Throwable" "backtrace" "Ljava/lang/Object;") ∈ lw_all := lw_g (lw_at lw_m2 120 rfl) rfl
theorem q517 : (Jvm.Cond.instanceMethod ({ cls := "VaneCourt$Wrong", name := "<init>", desc := "(II)V" } : Jvm.MethodName)) ∈ lw_all := lw_g (lw_at lw_m2 141 rfl) rfl
theorem q518 : (Jvm.Cond.code ({ cls := "VaneCourt$Wrong", name := "<init>", desc := "(II)V" } : Jvm.MethodName) prog_18_method_1_code (3 : Nat) (Option.none : Option Jvm.ClassFile.FieldType)) ∈ lw_all := lw_g (lw_at lw_m2 142 rfl) rfl
theorem q519 : (Jvm.Cond.methodLink "VaneCourt$Wrong" (1 : Nat) ({ cls := "java/lang/Exception", name := "<init>", desc := "()V" } : Jvm.MethodName)) ∈ lw_all := lw_g (lw_at lw_m2 143 rfl) rfl
theorem q523 : (Jvm.Cond.fieldLink "VaneCourt$Wrong" (7 : Nat) "VaneCourt$Wrong" "fault" "I") ∈ lw_all := lw_g (lw_at lw_m2 147 rfl) rfl
theorem q525 : (Jvm.Cond.fieldLink "VaneCourt$Wrong" (13 : Nat) "VaneCourt$Wrong" "place" "I") ∈ lw_all := lw_g (lw_at lw_m2 149 rfl) rfl
theorem q531 : (Jvm.Cond.laysFinal "VaneCourt$Wrong" "VaneCourt$Wrong" "fault" "I") ∈ lw_all := lw_g (lw_at lw_m2 155 rfl) rfl
theorem q532 : (Jvm.Cond.soleField "VaneCourt$Wrong" "fault") ∈ lw_all := lw_g (lw_at lw_m2 156 rfl) rfl
theorem q533 : (Jvm.Cond.laysFinal "VaneCourt$Wrong" "VaneCourt$Wrong" "place" "I") ∈ lw_all := lw_g (lw_at lw_m2 157 rfl) rfl
theorem q534 : (Jvm.Cond.soleField "VaneCourt$Wrong" "place") ∈ lw_all := lw_g (lw_at lw_m2 158 rfl) rfl
theorem q539 : (Jvm.Cond.lays "VaneCourt$Wrong" "java/lang/Throwable" "depth" "I") ∈ lw_all := lw_g (lw_at lw_m2 163 rfl) rfl
theorem q542 : (Jvm.Cond.superclass "VaneCourt$Wrong" "java/lang/Exception") ∈ lw_all := lw_g (lw_at lw_m2 166 rfl) rfl
theorem q659 : (Jvm.Cond.selects "VaneCourt$Wrong" ({ cls := "java/lang/Object", name := "getClass", desc := "()Ljava/lang/Class;" } : Jvm.MethodName) ({ cls := "java/lang/Object", name := "getClass", desc := "()Ljava/lang/Class;" } : Jvm.MethodName)) ∈ lw_all := lw_g (lw_at lw_m3 43 rfl) rfl
theorem q2033 : (Jvm.Cond.castable "VaneCourt$Wrong" "java/lang/Object") ∈ lw_tbl := lw_at lw_m8 217 rfl
theorem in_X5 : ∀ w ∈ wsX50, w ∈ lw_all := lw_in wsX50 [488, 490, 492, 494, 496, 539, 531, 533] (by decide +kernel) (by decide +kernel)
/-! VaneCourt$Not -/
set_option maxRecDepth 100000
def RX6 : String := "VaneCourt$Not"
def TX6 : u_T := fun k => match k with
  | _ => ("VaneCourt$Not", "x", "LVaneCourt$Asked;", true)
def tyX6 : Nat → FieldType := fun k => match k with
  | _ => .object "VaneCourt$Asked"
abbrev wsX60 : List Cond := u_ws RX6 TX6 1
theorem nmX6 : ∀ a, a < 1 → ∀ b, b < 1 → a ≠ b → (TX6 a).2.1 ≠ (TX6 b).2.1 := by decide +kernel
theorem tyX6_ok : ∀ k, k < 1 → parseFieldDescriptor (TX6 k).2.2.1 = some (tyX6 k) := by decide +kernel
abbrev cX6_init : ByteArray := prog_11_method_1_code
def yX6_init : MethodName := ⟨RX6, "<init>", "(LVaneCourt$Asked;)V"⟩
def dkwX6_init_0 : List UInt8 := [42, 183, 0, 1, 42, 43, 181, 0, 7, 177]
abbrev dktX6_init_0 : List UInt8 := dkwX6_init_0 ++ []
theorem dksX6_init_0 : cX6_init.data.toList.drop 0 = dktX6_init_0 := by decide +kernel
theorem dX6_init_0 : decode cX6_init 0 = .ok (.aload_n 0, 1) := dk_42 (dk_at dksX6_init_0 0 rfl rfl)
theorem dX6_init_1 : decode cX6_init 1 = .ok (.invokespecial 1, 3) := dk_183 0 1 (dk_at dksX6_init_0 1 rfl rfl)
theorem dX6_init_4 : decode cX6_init 4 = .ok (.aload_n 0, 1) := dk_42 (dk_at dksX6_init_0 4 rfl rfl)
theorem dX6_init_5 : decode cX6_init 5 = .ok (.aload_n 1, 1) := dk_43 (dk_at dksX6_init_0 5 rfl rfl)
theorem dX6_init_6 : decode cX6_init 6 = .ok (.putfield 7, 3) := dk_181 0 7 (dk_at dksX6_init_0 6 rfl rfl)
theorem dX6_init_9 : decode cX6_init 9 = .ok (.return_, 1) := dk_177 (dk_at dksX6_init_0 9 rfl rfl)
abbrev cX6_is : ByteArray := prog_11_method_2_code
def yX6_is : MethodName := ⟨RX6, "is", "([I)Z"⟩
def dkwX6_is_0 : List UInt8 := [42, 180, 0, 7, 43, 185, 0, 13, 2, 0, 154, 0, 7, 4, 167, 0, 4, 3, 172]
abbrev dktX6_is_0 : List UInt8 := dkwX6_is_0 ++ []
theorem dksX6_is_0 : cX6_is.data.toList.drop 0 = dktX6_is_0 := by decide +kernel
theorem dX6_is_0 : decode cX6_is 0 = .ok (.aload_n 0, 1) := dk_42 (dk_at dksX6_is_0 0 rfl rfl)
theorem dX6_is_1 : decode cX6_is 1 = .ok (.getfield 7, 3) := dk_180 0 7 (dk_at dksX6_is_0 1 rfl rfl)
theorem dX6_is_4 : decode cX6_is 4 = .ok (.aload_n 1, 1) := dk_43 (dk_at dksX6_is_0 4 rfl rfl)
theorem dX6_is_5 : decode cX6_is 5 = .ok (.invokeinterface 13 2, 5) := by decide +kernel
theorem dX6_is_10 : decode cX6_is 10 = .ok (.ifCond .ne 7, 3) := dk_154 0 7 (dk_at dksX6_is_0 10 rfl rfl)
theorem dX6_is_13 : decode cX6_is 13 = .ok (.iconst 1, 1) := dk_4 (dk_at dksX6_is_0 13 rfl rfl)
theorem dX6_is_14 : decode cX6_is 14 = .ok (.goto 4, 3) := dk_167 0 4 (dk_at dksX6_is_0 14 rfl rfl)
theorem dX6_is_17 : decode cX6_is 17 = .ok (.iconst 0, 1) := dk_3 (dk_at dksX6_is_0 17 rfl rfl)
theorem dX6_is_18 : decode cX6_is 18 = .ok (.ireturn, 1) := dk_172 (dk_at dksX6_is_0 18 rfl rfl)
theorem q155 : (Jvm.Cond.initialized "VaneCourt$Not") ∈ lw_all := lw_g (lw_at lw_m1 19 rfl) rfl
theorem q582 : (Jvm.Cond.instantiable "VaneCourt$Not" (1 : Nat)) ∈ lw_all := lw_g (lw_at lw_m2 206 rfl) rfl
theorem q584 : (Jvm.Cond.instanceMethod ({ cls := "VaneCourt$Not", name := "<init>", desc := "(LVaneCourt$Asked;)V" } : Jvm.MethodName)) ∈ lw_all := lw_g (lw_at lw_m2 208 rfl) rfl
theorem q585 : (Jvm.Cond.code ({ cls := "VaneCourt$Not", name := "<init>", desc := "(LVaneCourt$Asked;)V" } : Jvm.MethodName) prog_11_method_1_code (2 : Nat) (Option.none : Option Jvm.ClassFile.FieldType)) ∈ lw_all := lw_g (lw_at lw_m2 209 rfl) rfl
theorem q586 : (Jvm.Cond.methodLink "VaneCourt$Not" (1 : Nat) ({ cls := "java/lang/Record", name := "<init>", desc := "()V" } : Jvm.MethodName)) ∈ lw_all := lw_g (lw_at lw_m2 210 rfl) rfl
theorem q590 : (Jvm.Cond.fieldLink "VaneCourt$Not" (7 : Nat) "VaneCourt$Not" "x" "LVaneCourt$Asked;") ∈ lw_all := lw_g (lw_at lw_m2 214 rfl) rfl
theorem q591 : (Jvm.Cond.laysFinal "VaneCourt$Not" "VaneCourt$Not" "x" "LVaneCourt$Asked;") ∈ lw_all := lw_g (lw_at lw_m2 215 rfl) rfl
theorem q592 : (Jvm.Cond.soleField "VaneCourt$Not" "x") ∈ lw_all := lw_g (lw_at lw_m2 216 rfl) rfl
theorem q593 : (Jvm.Cond.superclass "VaneCourt$Not" "java/lang/Record") ∈ lw_all := lw_g (lw_at lw_m2 217 rfl) rfl
theorem q653 : (Jvm.Cond.selects "VaneCourt$Not" ({ cls := "java/lang/Object", name := "getClass", desc := "()Ljava/lang/Class;" } : Jvm.MethodName) ({ cls := "java/lang/Object", name := "getClass", desc := "()Ljava/lang/Class;" } : Jvm.MethodName)) ∈ lw_all := lw_g (lw_at lw_m3 37 rfl) rfl
theorem q1015 : (Jvm.Cond.castable "VaneCourt$Not" "VaneCourt$Asked") ∈ lw_tbl := lw_at lw_m4 159 rfl
theorem q1016 : (Jvm.Cond.selects "VaneCourt$Not" ({ cls := "VaneCourt$Asked", name := "is", desc := "([I)Z" } : Jvm.MethodName) ({ cls := "VaneCourt$Not", name := "is", desc := "([I)Z" } : Jvm.MethodName)) ∈ lw_all := lw_g (lw_at lw_m4 160 rfl) rfl
theorem q1017 : (Jvm.Cond.unhidden "VaneCourt$Not" "is" "([I)Z") ∈ lw_tbl := lw_at lw_m4 161 rfl
theorem q1018 : (Jvm.Cond.instanceMethod ({ cls := "VaneCourt$Not", name := "is", desc := "([I)Z" } : Jvm.MethodName)) ∈ lw_all := lw_g (lw_at lw_m4 162 rfl) rfl
theorem q1019 : (Jvm.Cond.publicMethod ({ cls := "VaneCourt$Not", name := "is", desc := "([I)Z" } : Jvm.MethodName)) ∈ lw_tbl := lw_at lw_m4 163 rfl
theorem q1020 : (Jvm.Cond.code ({ cls := "VaneCourt$Not", name := "is", desc := "([I)Z" } : Jvm.MethodName) prog_11_method_2_code (2 : Nat) (Option.some Jvm.ClassFile.FieldType.boolean)) ∈ lw_all := lw_g (lw_at lw_m4 164 rfl) rfl
theorem q1021 : (Jvm.Cond.interfaceEntry "VaneCourt$Not" (13 : Nat)) ∈ lw_tbl := lw_at lw_m4 165 rfl
theorem q1022 : (Jvm.Cond.methodLink "VaneCourt$Not" (13 : Nat) ({ cls := "VaneCourt$Asked", name := "is", desc := "([I)Z" } : Jvm.MethodName)) ∈ lw_all := lw_g (lw_at lw_m4 166 rfl) rfl
theorem q2034 : (Jvm.Cond.castable "VaneCourt$Not" "java/lang/Object") ∈ lw_tbl := lw_at lw_m8 218 rfl
theorem in_X6 : ∀ w ∈ wsX60, w ∈ lw_all := lw_in wsX60 [591] (by decide +kernel) (by decide +kernel)
/-! VaneCourt$Fact -/
set_option maxRecDepth 100000
def RX7 : String := "VaneCourt$Fact"
def TX7 : u_T := fun k => match k with
  | _ => ("VaneCourt$Fact", "k", "I", true)
def tyX7 : Nat → FieldType := fun k => match k with
  | _ => .int
abbrev wsX70 : List Cond := u_ws RX7 TX7 1
theorem nmX7 : ∀ a, a < 1 → ∀ b, b < 1 → a ≠ b → (TX7 a).2.1 ≠ (TX7 b).2.1 := by decide +kernel
theorem tyX7_ok : ∀ k, k < 1 → parseFieldDescriptor (TX7 k).2.2.1 = some (tyX7 k) := by decide +kernel
abbrev cX7_init : ByteArray := prog_7_method_1_code
def yX7_init : MethodName := ⟨RX7, "<init>", "(I)V"⟩
def dkwX7_init_0 : List UInt8 := [42, 183, 0, 3, 42, 27, 181, 0, 9, 177]
abbrev dktX7_init_0 : List UInt8 := dkwX7_init_0 ++ []
theorem dksX7_init_0 : cX7_init.data.toList.drop 0 = dktX7_init_0 := by decide +kernel
theorem dX7_init_0 : decode cX7_init 0 = .ok (.aload_n 0, 1) := dk_42 (dk_at dksX7_init_0 0 rfl rfl)
theorem dX7_init_1 : decode cX7_init 1 = .ok (.invokespecial 3, 3) := dk_183 0 3 (dk_at dksX7_init_0 1 rfl rfl)
theorem dX7_init_4 : decode cX7_init 4 = .ok (.aload_n 0, 1) := dk_42 (dk_at dksX7_init_0 4 rfl rfl)
theorem dX7_init_5 : decode cX7_init 5 = .ok (.iload_n 1, 1) := dk_27 (dk_at dksX7_init_0 5 rfl rfl)
theorem dX7_init_6 : decode cX7_init 6 = .ok (.putfield 9, 3) := dk_181 0 9 (dk_at dksX7_init_0 6 rfl rfl)
theorem dX7_init_9 : decode cX7_init 9 = .ok (.return_, 1) := dk_177 (dk_at dksX7_init_0 9 rfl rfl)
abbrev cX7_is : ByteArray := prog_7_method_2_code
def yX7_is : MethodName := ⟨RX7, "is", "([I)Z"⟩
def dkwX7_is_0 : List UInt8 := [43, 16, 8, 46, 42, 180, 0, 9, 184, 0, 15, 172]
abbrev dktX7_is_0 : List UInt8 := dkwX7_is_0 ++ []
theorem dksX7_is_0 : cX7_is.data.toList.drop 0 = dktX7_is_0 := by decide +kernel
theorem dX7_is_0 : decode cX7_is 0 = .ok (.aload_n 1, 1) := dk_43 (dk_at dksX7_is_0 0 rfl rfl)
theorem dX7_is_1 : decode cX7_is 1 = .ok (.bipush 8, 2) := dk_16 8 (dk_at dksX7_is_0 1 rfl rfl)
theorem dX7_is_3 : decode cX7_is 3 = .ok (.iaload, 1) := dk_46 (dk_at dksX7_is_0 3 rfl rfl)
theorem dX7_is_4 : decode cX7_is 4 = .ok (.aload_n 0, 1) := dk_42 (dk_at dksX7_is_0 4 rfl rfl)
theorem dX7_is_5 : decode cX7_is 5 = .ok (.getfield 9, 3) := dk_180 0 9 (dk_at dksX7_is_0 5 rfl rfl)
theorem dX7_is_8 : decode cX7_is 8 = .ok (.invokestatic 15, 3) := dk_184 0 15 (dk_at dksX7_is_0 8 rfl rfl)
theorem dX7_is_11 : decode cX7_is 11 = .ok (.ireturn, 1) := dk_172 (dk_at dksX7_is_0 11 rfl rfl)
theorem q156 : (Jvm.Cond.initialized "VaneCourt$Fact") ∈ lw_all := lw_g (lw_at lw_m1 20 rfl) rfl
theorem q599 : (Jvm.Cond.instantiable "VaneCourt$Fact" (1 : Nat)) ∈ lw_all := lw_g (lw_at lw_m2 223 rfl) rfl
theorem q601 : (Jvm.Cond.instanceMethod ({ cls := "VaneCourt$Fact", name := "<init>", desc := "(I)V" } : Jvm.MethodName)) ∈ lw_all := lw_g (lw_at lw_m2 225 rfl) rfl
theorem q602 : (Jvm.Cond.code ({ cls := "VaneCourt$Fact", name := "<init>", desc := "(I)V" } : Jvm.MethodName) prog_7_method_1_code (2 : Nat) (Option.none : Option Jvm.ClassFile.FieldType)) ∈ lw_all := lw_g (lw_at lw_m2 226 rfl) rfl
theorem q603 : (Jvm.Cond.methodLink "VaneCourt$Fact" (3 : Nat) ({ cls := "java/lang/Record", name := "<init>", desc := "()V" } : Jvm.MethodName)) ∈ lw_all := lw_g (lw_at lw_m2 227 rfl) rfl
theorem q604 : (Jvm.Cond.fieldLink "VaneCourt$Fact" (9 : Nat) "VaneCourt$Fact" "k" "I") ∈ lw_all := lw_g (lw_at lw_m2 228 rfl) rfl
theorem q605 : (Jvm.Cond.laysFinal "VaneCourt$Fact" "VaneCourt$Fact" "k" "I") ∈ lw_all := lw_g (lw_at lw_m2 229 rfl) rfl
theorem q606 : (Jvm.Cond.soleField "VaneCourt$Fact" "k") ∈ lw_all := lw_g (lw_at lw_m2 230 rfl) rfl
theorem q607 : (Jvm.Cond.superclass "VaneCourt$Fact" "java/lang/Record") ∈ lw_all := lw_g (lw_at lw_m2 231 rfl) rfl
theorem q649 : (Jvm.Cond.selects "VaneCourt$Fact" ({ cls := "java/lang/Object", name := "getClass", desc := "()Ljava/lang/Class;" } : Jvm.MethodName) ({ cls := "java/lang/Object", name := "getClass", desc := "()Ljava/lang/Class;" } : Jvm.MethodName)) ∈ lw_all := lw_g (lw_at lw_m3 33 rfl) rfl
theorem q997 : (Jvm.Cond.castable "VaneCourt$Fact" "VaneCourt$Asked") ∈ lw_tbl := lw_at lw_m4 141 rfl
theorem q998 : (Jvm.Cond.selects "VaneCourt$Fact" ({ cls := "VaneCourt$Asked", name := "is", desc := "([I)Z" } : Jvm.MethodName) ({ cls := "VaneCourt$Fact", name := "is", desc := "([I)Z" } : Jvm.MethodName)) ∈ lw_all := lw_g (lw_at lw_m4 142 rfl) rfl
theorem q999 : (Jvm.Cond.unhidden "VaneCourt$Fact" "is" "([I)Z") ∈ lw_tbl := lw_at lw_m4 143 rfl
theorem q1000 : (Jvm.Cond.instanceMethod ({ cls := "VaneCourt$Fact", name := "is", desc := "([I)Z" } : Jvm.MethodName)) ∈ lw_all := lw_g (lw_at lw_m4 144 rfl) rfl
theorem q1001 : (Jvm.Cond.publicMethod ({ cls := "VaneCourt$Fact", name := "is", desc := "([I)Z" } : Jvm.MethodName)) ∈ lw_tbl := lw_at lw_m4 145 rfl
theorem q1002 : (Jvm.Cond.code ({ cls := "VaneCourt$Fact", name := "is", desc := "([I)Z" } : Jvm.MethodName) prog_7_method_2_code (2 : Nat) (Option.some Jvm.ClassFile.FieldType.boolean)) ∈ lw_all := lw_g (lw_at lw_m4 146 rfl) rfl
theorem q1003 : (Jvm.Cond.methodLinkNest "VaneCourt$Fact" (15 : Nat) ({ cls := "VaneCourt", name := "has", desc := "(II)Z" } : Jvm.MethodName) "VaneCourt") ∈ lw_tbl := lw_at lw_m4 147 rfl
theorem q2035 : (Jvm.Cond.castable "VaneCourt$Fact" "java/lang/Object") ∈ lw_tbl := lw_at lw_m8 219 rfl
theorem in_X7 : ∀ w ∈ wsX70, w ∈ lw_all := lw_in wsX70 [605] (by decide +kernel) (by decide +kernel)
/-! VaneCourt$Most -/
set_option maxRecDepth 100000
def RX8 : String := "VaneCourt$Most"
def TX8 : u_T := fun k => match k with
  | _ => ("VaneCourt$Most", "of", "Ljava/util/ArrayList;", true)
def tyX8 : Nat → FieldType := fun k => match k with
  | _ => .object "java/util/ArrayList"
abbrev wsX80 : List Cond := u_ws RX8 TX8 1
theorem nmX8 : ∀ a, a < 1 → ∀ b, b < 1 → a ≠ b → (TX8 a).2.1 ≠ (TX8 b).2.1 := by decide +kernel
theorem tyX8_ok : ∀ k, k < 1 → parseFieldDescriptor (TX8 k).2.2.1 = some (tyX8 k) := by decide +kernel
abbrev cX8_init : ByteArray := prog_9_method_1_code
def yX8_init : MethodName := ⟨RX8, "<init>", "(Ljava/util/ArrayList;)V"⟩
def dkwX8_init_0 : List UInt8 := [42, 183, 0, 1, 42, 43, 181, 0, 7, 177]
abbrev dktX8_init_0 : List UInt8 := dkwX8_init_0 ++ []
theorem dksX8_init_0 : cX8_init.data.toList.drop 0 = dktX8_init_0 := by decide +kernel
theorem dX8_init_0 : decode cX8_init 0 = .ok (.aload_n 0, 1) := dk_42 (dk_at dksX8_init_0 0 rfl rfl)
theorem dX8_init_1 : decode cX8_init 1 = .ok (.invokespecial 1, 3) := dk_183 0 1 (dk_at dksX8_init_0 1 rfl rfl)
theorem dX8_init_4 : decode cX8_init 4 = .ok (.aload_n 0, 1) := dk_42 (dk_at dksX8_init_0 4 rfl rfl)
theorem dX8_init_5 : decode cX8_init 5 = .ok (.aload_n 1, 1) := dk_43 (dk_at dksX8_init_0 5 rfl rfl)
theorem dX8_init_6 : decode cX8_init 6 = .ok (.putfield 7, 3) := dk_181 0 7 (dk_at dksX8_init_0 6 rfl rfl)
theorem dX8_init_9 : decode cX8_init 9 = .ok (.return_, 1) := dk_177 (dk_at dksX8_init_0 9 rfl rfl)
abbrev cX8_is : ByteArray := prog_9_method_2_code
def yX8_is : MethodName := ⟨RX8, "is", "([I)Z"⟩
def dkwX8_is_2 : List UInt8 := [167, 255, 214, 5, 28, 104, 42, 180, 0, 7, 182, 0, 13, 164, 0, 7, 4, 167, 0, 4, 3, 172]
abbrev dktX8_is_2 : List UInt8 := dkwX8_is_2 ++ []
def dkwX8_is_1 : List UInt8 := [192, 0, 23, 43, 185, 0, 25, 2, 0, 153, 0, 7, 4, 167, 0, 4, 3, 96, 61, 132, 3, 1]
abbrev dktX8_is_1 : List UInt8 := dkwX8_is_1 ++ dktX8_is_2
def dkwX8_is_0 : List UInt8 := [3, 61, 3, 62, 29, 42, 180, 0, 7, 182, 0, 13, 162, 0, 37, 28, 42, 180, 0, 7, 29, 182, 0, 19]
abbrev dktX8_is_0 : List UInt8 := dkwX8_is_0 ++ dktX8_is_1
theorem dksX8_is_0 : cX8_is.data.toList.drop 0 = dktX8_is_0 := by decide +kernel
theorem dksX8_is_1 : cX8_is.data.toList.drop 24 = dktX8_is_1 := dk_seg dksX8_is_0 24 rfl rfl
theorem dksX8_is_2 : cX8_is.data.toList.drop 46 = dktX8_is_2 := dk_seg dksX8_is_1 22 rfl rfl
theorem dX8_is_0 : decode cX8_is 0 = .ok (.iconst 0, 1) := dk_3 (dk_at dksX8_is_0 0 rfl rfl)
theorem dX8_is_1 : decode cX8_is 1 = .ok (.istore_n 2, 1) := dk_61 (dk_at dksX8_is_0 1 rfl rfl)
theorem dX8_is_2 : decode cX8_is 2 = .ok (.iconst 0, 1) := dk_3 (dk_at dksX8_is_0 2 rfl rfl)
theorem dX8_is_3 : decode cX8_is 3 = .ok (.istore_n 3, 1) := dk_62 (dk_at dksX8_is_0 3 rfl rfl)
theorem dX8_is_4 : decode cX8_is 4 = .ok (.iload_n 3, 1) := dk_29 (dk_at dksX8_is_0 4 rfl rfl)
theorem dX8_is_5 : decode cX8_is 5 = .ok (.aload_n 0, 1) := dk_42 (dk_at dksX8_is_0 5 rfl rfl)
theorem dX8_is_6 : decode cX8_is 6 = .ok (.getfield 7, 3) := dk_180 0 7 (dk_at dksX8_is_0 6 rfl rfl)
theorem dX8_is_9 : decode cX8_is 9 = .ok (.invokevirtual 13, 3) := dk_182 0 13 (dk_at dksX8_is_0 9 rfl rfl)
theorem dX8_is_12 : decode cX8_is 12 = .ok (.if_icmp .ge 37, 3) := dk_162 0 37 (dk_at dksX8_is_0 12 rfl rfl)
theorem dX8_is_15 : decode cX8_is 15 = .ok (.iload_n 2, 1) := dk_28 (dk_at dksX8_is_0 15 rfl rfl)
theorem dX8_is_16 : decode cX8_is 16 = .ok (.aload_n 0, 1) := dk_42 (dk_at dksX8_is_0 16 rfl rfl)
theorem dX8_is_17 : decode cX8_is 17 = .ok (.getfield 7, 3) := dk_180 0 7 (dk_at dksX8_is_0 17 rfl rfl)
theorem dX8_is_20 : decode cX8_is 20 = .ok (.iload_n 3, 1) := dk_29 (dk_at dksX8_is_0 20 rfl rfl)
theorem dX8_is_21 : decode cX8_is 21 = .ok (.invokevirtual 19, 3) := dk_182 0 19 (dk_at dksX8_is_0 21 rfl rfl)
theorem dX8_is_24 : decode cX8_is 24 = .ok (.checkcast 23, 3) := dk_192 0 23 (dk_at dksX8_is_1 0 rfl rfl)
theorem dX8_is_27 : decode cX8_is 27 = .ok (.aload_n 1, 1) := dk_43 (dk_at dksX8_is_1 3 rfl rfl)
theorem dX8_is_28 : decode cX8_is 28 = .ok (.invokeinterface 25 2, 5) := by decide +kernel
theorem dX8_is_33 : decode cX8_is 33 = .ok (.ifCond .eq 7, 3) := dk_153 0 7 (dk_at dksX8_is_1 9 rfl rfl)
theorem dX8_is_36 : decode cX8_is 36 = .ok (.iconst 1, 1) := dk_4 (dk_at dksX8_is_1 12 rfl rfl)
theorem dX8_is_37 : decode cX8_is 37 = .ok (.goto 4, 3) := dk_167 0 4 (dk_at dksX8_is_1 13 rfl rfl)
theorem dX8_is_40 : decode cX8_is 40 = .ok (.iconst 0, 1) := dk_3 (dk_at dksX8_is_1 16 rfl rfl)
theorem dX8_is_41 : decode cX8_is 41 = .ok (.iadd, 1) := dk_96 (dk_at dksX8_is_1 17 rfl rfl)
theorem dX8_is_42 : decode cX8_is 42 = .ok (.istore_n 2, 1) := dk_61 (dk_at dksX8_is_1 18 rfl rfl)
theorem dX8_is_43 : decode cX8_is 43 = .ok (.iinc 3 1, 3) := dk_132 3 1 (dk_at dksX8_is_1 19 rfl rfl)
theorem dX8_is_46 : decode cX8_is 46 = .ok (.goto (-42), 3) := dk_167 255 214 (dk_at dksX8_is_2 0 rfl rfl)
theorem dX8_is_49 : decode cX8_is 49 = .ok (.iconst 2, 1) := dk_5 (dk_at dksX8_is_2 3 rfl rfl)
theorem dX8_is_50 : decode cX8_is 50 = .ok (.iload_n 2, 1) := dk_28 (dk_at dksX8_is_2 4 rfl rfl)
theorem dX8_is_51 : decode cX8_is 51 = .ok (.imul, 1) := dk_104 (dk_at dksX8_is_2 5 rfl rfl)
theorem dX8_is_52 : decode cX8_is 52 = .ok (.aload_n 0, 1) := dk_42 (dk_at dksX8_is_2 6 rfl rfl)
theorem dX8_is_53 : decode cX8_is 53 = .ok (.getfield 7, 3) := dk_180 0 7 (dk_at dksX8_is_2 7 rfl rfl)
theorem dX8_is_56 : decode cX8_is 56 = .ok (.invokevirtual 13, 3) := dk_182 0 13 (dk_at dksX8_is_2 10 rfl rfl)
theorem dX8_is_59 : decode cX8_is 59 = .ok (.if_icmp .le 7, 3) := dk_164 0 7 (dk_at dksX8_is_2 13 rfl rfl)
theorem dX8_is_62 : decode cX8_is 62 = .ok (.iconst 1, 1) := dk_4 (dk_at dksX8_is_2 16 rfl rfl)
theorem dX8_is_63 : decode cX8_is 63 = .ok (.goto 4, 3) := dk_167 0 4 (dk_at dksX8_is_2 17 rfl rfl)
theorem dX8_is_66 : decode cX8_is 66 = .ok (.iconst 0, 1) := dk_3 (dk_at dksX8_is_2 20 rfl rfl)
theorem dX8_is_67 : decode cX8_is 67 = .ok (.ireturn, 1) := dk_172 (dk_at dksX8_is_2 21 rfl rfl)
theorem q159 : (Jvm.Cond.initialized "VaneCourt$Most") ∈ lw_all := lw_g (lw_at lw_m1 23 rfl) rfl
theorem q651 : (Jvm.Cond.selects "VaneCourt$Most" ({ cls := "java/lang/Object", name := "getClass", desc := "()Ljava/lang/Class;" } : Jvm.MethodName) ({ cls := "java/lang/Object", name := "getClass", desc := "()Ljava/lang/Class;" } : Jvm.MethodName)) ∈ lw_all := lw_g (lw_at lw_m3 35 rfl) rfl
theorem q679 : (Jvm.Cond.instantiable "VaneCourt$Most" (1 : Nat)) ∈ lw_all := lw_g (lw_at lw_m3 63 rfl) rfl
theorem q681 : (Jvm.Cond.instanceMethod ({ cls := "VaneCourt$Most", name := "<init>", desc := "(Ljava/util/ArrayList;)V" } : Jvm.MethodName)) ∈ lw_all := lw_g (lw_at lw_m3 65 rfl) rfl
theorem q682 : (Jvm.Cond.code ({ cls := "VaneCourt$Most", name := "<init>", desc := "(Ljava/util/ArrayList;)V" } : Jvm.MethodName) prog_9_method_1_code (2 : Nat) (Option.none : Option Jvm.ClassFile.FieldType)) ∈ lw_all := lw_g (lw_at lw_m3 66 rfl) rfl
theorem q683 : (Jvm.Cond.methodLink "VaneCourt$Most" (1 : Nat) ({ cls := "java/lang/Record", name := "<init>", desc := "()V" } : Jvm.MethodName)) ∈ lw_all := lw_g (lw_at lw_m3 67 rfl) rfl
theorem q684 : (Jvm.Cond.fieldLink "VaneCourt$Most" (7 : Nat) "VaneCourt$Most" "of" "Ljava/util/ArrayList;") ∈ lw_all := lw_g (lw_at lw_m3 68 rfl) rfl
theorem q685 : (Jvm.Cond.laysFinal "VaneCourt$Most" "VaneCourt$Most" "of" "Ljava/util/ArrayList;") ∈ lw_all := lw_g (lw_at lw_m3 69 rfl) rfl
theorem q686 : (Jvm.Cond.soleField "VaneCourt$Most" "of") ∈ lw_all := lw_g (lw_at lw_m3 70 rfl) rfl
theorem q687 : (Jvm.Cond.superclass "VaneCourt$Most" "java/lang/Record") ∈ lw_all := lw_g (lw_at lw_m3 71 rfl) rfl
theorem q1004 : (Jvm.Cond.castable "VaneCourt$Most" "VaneCourt$Asked") ∈ lw_tbl := lw_at lw_m4 148 rfl
theorem q1005 : (Jvm.Cond.selects "VaneCourt$Most" ({ cls := "VaneCourt$Asked", name := "is", desc := "([I)Z" } : Jvm.MethodName) ({ cls := "VaneCourt$Most", name := "is", desc := "([I)Z" } : Jvm.MethodName)) ∈ lw_all := lw_g (lw_at lw_m4 149 rfl) rfl
theorem q1006 : (Jvm.Cond.unhidden "VaneCourt$Most" "is" "([I)Z") ∈ lw_tbl := lw_at lw_m4 150 rfl
theorem q1007 : (Jvm.Cond.instanceMethod ({ cls := "VaneCourt$Most", name := "is", desc := "([I)Z" } : Jvm.MethodName)) ∈ lw_all := lw_g (lw_at lw_m4 151 rfl) rfl
theorem q1008 : (Jvm.Cond.publicMethod ({ cls := "VaneCourt$Most", name := "is", desc := "([I)Z" } : Jvm.MethodName)) ∈ lw_tbl := lw_at lw_m4 152 rfl
theorem q1009 : (Jvm.Cond.code ({ cls := "VaneCourt$Most", name := "is", desc := "([I)Z" } : Jvm.MethodName) prog_9_method_2_code (4 : Nat) (Option.some Jvm.ClassFile.FieldType.boolean)) ∈ lw_all := lw_g (lw_at lw_m4 153 rfl) rfl
theorem q1010 : (Jvm.Cond.methodLink "VaneCourt$Most" (13 : Nat) ({ cls := "java/util/ArrayList", name := "size", desc := "()I" } : Jvm.MethodName)) ∈ lw_all := lw_g (lw_at lw_m4 154 rfl) rfl
theorem q1011 : (Jvm.Cond.methodLink "VaneCourt$Most" (19 : Nat) ({ cls := "java/util/ArrayList", name := "get", desc := "(I)Ljava/lang/Object;" } : Jvm.MethodName)) ∈ lw_all := lw_g (lw_at lw_m4 155 rfl) rfl
theorem q1012 : (Jvm.Cond.classLink "VaneCourt$Most" (23 : Nat) "VaneCourt$Asked") ∈ lw_all := lw_g (lw_at lw_m4 156 rfl) rfl
theorem q1013 : (Jvm.Cond.interfaceEntry "VaneCourt$Most" (25 : Nat)) ∈ lw_tbl := lw_at lw_m4 157 rfl
theorem q1014 : (Jvm.Cond.methodLink "VaneCourt$Most" (25 : Nat) ({ cls := "VaneCourt$Asked", name := "is", desc := "([I)Z" } : Jvm.MethodName)) ∈ lw_all := lw_g (lw_at lw_m4 158 rfl) rfl
theorem q2036 : (Jvm.Cond.castable "VaneCourt$Most" "java/lang/Object") ∈ lw_tbl := lw_at lw_m8 220 rfl
theorem in_X8 : ∀ w ∈ wsX80, w ∈ lw_all := lw_in wsX80 [685] (by decide +kernel) (by decide +kernel)
/-! VaneCourt$Chain -/
set_option maxRecDepth 100000
def RX9 : String := "VaneCourt$Chain"
def TX9 : u_T := fun k => match k with
  | 0 => ("VaneCourt$Chain", "first", "LVaneCourt$Sum;", true)
  | 1 => ("VaneCourt$Chain", "more", "Ljava/util/ArrayList;", true)
  | _ => ("VaneCourt$Chain", "signs", "Ljava/util/ArrayList;", true)
def tyX9 : Nat → FieldType := fun k => match k with
  | 0 => .object "VaneCourt$Sum"
  | 1 => .object "java/util/ArrayList"
  | _ => .object "java/util/ArrayList"
abbrev wsX90 : List Cond := u_ws RX9 TX9 3
theorem nmX9 : ∀ a, a < 3 → ∀ b, b < 3 → a ≠ b → (TX9 a).2.1 ≠ (TX9 b).2.1 := by decide +kernel
theorem tyX9_ok : ∀ k, k < 3 → parseFieldDescriptor (TX9 k).2.2.1 = some (tyX9 k) := by decide +kernel
abbrev cX9_init : ByteArray := prog_4_method_1_code
def yX9_init : MethodName := ⟨RX9, "<init>", "(LVaneCourt$Sum;)V"⟩
def dkwX9_init_1 : List UInt8 := [181, 0, 18, 42, 43, 181, 0, 21, 177]
abbrev dktX9_init_1 : List UInt8 := dkwX9_init_1 ++ []
def dkwX9_init_0 : List UInt8 := [42, 183, 0, 3, 42, 187, 0, 9, 89, 183, 0, 11, 181, 0, 12, 42, 187, 0, 9, 89, 183, 0, 11]
abbrev dktX9_init_0 : List UInt8 := dkwX9_init_0 ++ dktX9_init_1
theorem dksX9_init_0 : cX9_init.data.toList.drop 0 = dktX9_init_0 := by decide +kernel
theorem dksX9_init_1 : cX9_init.data.toList.drop 23 = dktX9_init_1 := dk_seg dksX9_init_0 23 rfl rfl
theorem dX9_init_0 : decode cX9_init 0 = .ok (.aload_n 0, 1) := dk_42 (dk_at dksX9_init_0 0 rfl rfl)
theorem dX9_init_1 : decode cX9_init 1 = .ok (.invokespecial 3, 3) := dk_183 0 3 (dk_at dksX9_init_0 1 rfl rfl)
theorem dX9_init_4 : decode cX9_init 4 = .ok (.aload_n 0, 1) := dk_42 (dk_at dksX9_init_0 4 rfl rfl)
theorem dX9_init_5 : decode cX9_init 5 = .ok (.new 9, 3) := dk_187 0 9 (dk_at dksX9_init_0 5 rfl rfl)
theorem dX9_init_8 : decode cX9_init 8 = .ok (.dup, 1) := dk_89 (dk_at dksX9_init_0 8 rfl rfl)
theorem dX9_init_9 : decode cX9_init 9 = .ok (.invokespecial 11, 3) := dk_183 0 11 (dk_at dksX9_init_0 9 rfl rfl)
theorem dX9_init_12 : decode cX9_init 12 = .ok (.putfield 12, 3) := dk_181 0 12 (dk_at dksX9_init_0 12 rfl rfl)
theorem dX9_init_15 : decode cX9_init 15 = .ok (.aload_n 0, 1) := dk_42 (dk_at dksX9_init_0 15 rfl rfl)
theorem dX9_init_16 : decode cX9_init 16 = .ok (.new 9, 3) := dk_187 0 9 (dk_at dksX9_init_0 16 rfl rfl)
theorem dX9_init_19 : decode cX9_init 19 = .ok (.dup, 1) := dk_89 (dk_at dksX9_init_0 19 rfl rfl)
theorem dX9_init_20 : decode cX9_init 20 = .ok (.invokespecial 11, 3) := dk_183 0 11 (dk_at dksX9_init_0 20 rfl rfl)
theorem dX9_init_23 : decode cX9_init 23 = .ok (.putfield 18, 3) := dk_181 0 18 (dk_at dksX9_init_1 0 rfl rfl)
theorem dX9_init_26 : decode cX9_init 26 = .ok (.aload_n 0, 1) := dk_42 (dk_at dksX9_init_1 3 rfl rfl)
theorem dX9_init_27 : decode cX9_init 27 = .ok (.aload_n 1, 1) := dk_43 (dk_at dksX9_init_1 4 rfl rfl)
theorem dX9_init_28 : decode cX9_init 28 = .ok (.putfield 21, 3) := dk_181 0 21 (dk_at dksX9_init_1 5 rfl rfl)
theorem dX9_init_31 : decode cX9_init 31 = .ok (.return_, 1) := dk_177 (dk_at dksX9_init_1 8 rfl rfl)
abbrev cX9_add : ByteArray := prog_4_method_2_code
def yX9_add : MethodName := ⟨RX9, "add", "(ILVaneCourt$Sum;)V"⟩
def dkwX9_add_0 : List UInt8 := [42, 180, 0, 18, 27, 184, 0, 25, 182, 0, 31, 87, 42, 180, 0, 12, 44, 182, 0, 31, 87, 177]
abbrev dktX9_add_0 : List UInt8 := dkwX9_add_0 ++ []
theorem dksX9_add_0 : cX9_add.data.toList.drop 0 = dktX9_add_0 := by decide +kernel
theorem dX9_add_0 : decode cX9_add 0 = .ok (.aload_n 0, 1) := dk_42 (dk_at dksX9_add_0 0 rfl rfl)
theorem dX9_add_1 : decode cX9_add 1 = .ok (.getfield 18, 3) := dk_180 0 18 (dk_at dksX9_add_0 1 rfl rfl)
theorem dX9_add_4 : decode cX9_add 4 = .ok (.iload_n 1, 1) := dk_27 (dk_at dksX9_add_0 4 rfl rfl)
theorem dX9_add_5 : decode cX9_add 5 = .ok (.invokestatic 25, 3) := dk_184 0 25 (dk_at dksX9_add_0 5 rfl rfl)
theorem dX9_add_8 : decode cX9_add 8 = .ok (.invokevirtual 31, 3) := dk_182 0 31 (dk_at dksX9_add_0 8 rfl rfl)
theorem dX9_add_11 : decode cX9_add 11 = .ok (.pop, 1) := dk_87 (dk_at dksX9_add_0 11 rfl rfl)
theorem dX9_add_12 : decode cX9_add 12 = .ok (.aload_n 0, 1) := dk_42 (dk_at dksX9_add_0 12 rfl rfl)
theorem dX9_add_13 : decode cX9_add 13 = .ok (.getfield 12, 3) := dk_180 0 12 (dk_at dksX9_add_0 13 rfl rfl)
theorem dX9_add_16 : decode cX9_add 16 = .ok (.aload_n 2, 1) := dk_44 (dk_at dksX9_add_0 16 rfl rfl)
theorem dX9_add_17 : decode cX9_add 17 = .ok (.invokevirtual 31, 3) := dk_182 0 31 (dk_at dksX9_add_0 17 rfl rfl)
theorem dX9_add_20 : decode cX9_add 20 = .ok (.pop, 1) := dk_87 (dk_at dksX9_add_0 20 rfl rfl)
theorem dX9_add_21 : decode cX9_add 21 = .ok (.return_, 1) := dk_177 (dk_at dksX9_add_0 21 rfl rfl)
abbrev cX9_itself : ByteArray := prog_4_method_3_code
def yX9_itself : MethodName := ⟨RX9, "itself", "()LVaneCourt$Sum;"⟩
def dkwX9_itself_0 : List UInt8 := [42, 180, 0, 12, 182, 0, 35, 153, 0, 10, 42, 180, 0, 21, 167, 0, 4, 42, 176]
abbrev dktX9_itself_0 : List UInt8 := dkwX9_itself_0 ++ []
theorem dksX9_itself_0 : cX9_itself.data.toList.drop 0 = dktX9_itself_0 := by decide +kernel
theorem dX9_itself_0 : decode cX9_itself 0 = .ok (.aload_n 0, 1) := dk_42 (dk_at dksX9_itself_0 0 rfl rfl)
theorem dX9_itself_1 : decode cX9_itself 1 = .ok (.getfield 12, 3) := dk_180 0 12 (dk_at dksX9_itself_0 1 rfl rfl)
theorem dX9_itself_4 : decode cX9_itself 4 = .ok (.invokevirtual 35, 3) := dk_182 0 35 (dk_at dksX9_itself_0 4 rfl rfl)
theorem dX9_itself_7 : decode cX9_itself 7 = .ok (.ifCond .eq 10, 3) := dk_153 0 10 (dk_at dksX9_itself_0 7 rfl rfl)
theorem dX9_itself_10 : decode cX9_itself 10 = .ok (.aload_n 0, 1) := dk_42 (dk_at dksX9_itself_0 10 rfl rfl)
theorem dX9_itself_11 : decode cX9_itself 11 = .ok (.getfield 21, 3) := dk_180 0 21 (dk_at dksX9_itself_0 11 rfl rfl)
theorem dX9_itself_14 : decode cX9_itself 14 = .ok (.goto 4, 3) := dk_167 0 4 (dk_at dksX9_itself_0 14 rfl rfl)
theorem dX9_itself_17 : decode cX9_itself 17 = .ok (.aload_n 0, 1) := dk_42 (dk_at dksX9_itself_0 17 rfl rfl)
theorem dX9_itself_18 : decode cX9_itself 18 = .ok (.areturn, 1) := dk_176 (dk_at dksX9_itself_0 18 rfl rfl)
abbrev cX9_of : ByteArray := prog_4_method_4_code
def yX9_of : MethodName := ⟨RX9, "of", "([I)J"⟩
def dkwX9_of_6 : List UInt8 := [32, 173]
abbrev dktX9_of_6 : List UInt8 := dkwX9_of_6 ++ []
def dkwX9_of_5 : List UInt8 := [109, 55, 8, 20, 0, 56, 20, 0, 58, 22, 8, 184, 0, 60, 184, 0, 66, 65, 132, 4, 1, 167, 255, 130]
abbrev dktX9_of_5 : List UInt8 := dkwX9_of_5 ++ dktX9_of_6
def dkwX9_of_4 : List UInt8 := [160, 0, 10, 32, 22, 5, 105, 167, 0, 18, 22, 5, 9, 148, 154, 0, 7, 9, 167, 0, 7, 32, 22, 5]
abbrev dktX9_of_4 : List UInt8 := dkwX9_of_4 ++ dktX9_of_5
def dkwX9_of_3 : List UInt8 := [22, 5, 97, 167, 0, 46, 21, 7, 16, 45, 160, 0, 10, 32, 22, 5, 101, 167, 0, 32, 21, 7, 16, 42]
abbrev dktX9_of_3 : List UInt8 := dkwX9_of_3 ++ dktX9_of_4
def dkwX9_of_2 : List UInt8 := [180, 0, 18, 21, 4, 182, 0, 49, 192, 0, 26, 182, 0, 53, 54, 7, 21, 7, 16, 43, 160, 0, 10, 32]
abbrev dktX9_of_2 : List UInt8 := dkwX9_of_2 ++ dktX9_of_3
def dkwX9_of_1 : List UInt8 := [162, 0, 120, 42, 180, 0, 12, 21, 4, 182, 0, 49, 192, 0, 40, 43, 185, 0, 39, 2, 0, 55, 5, 42]
abbrev dktX9_of_1 : List UInt8 := dkwX9_of_1 ++ dktX9_of_2
def dkwX9_of_0 : List UInt8 := [42, 180, 0, 21, 43, 185, 0, 39, 2, 0, 65, 3, 54, 4, 21, 4, 42, 180, 0, 12, 182, 0, 45]
abbrev dktX9_of_0 : List UInt8 := dkwX9_of_0 ++ dktX9_of_1
theorem dksX9_of_0 : cX9_of.data.toList.drop 0 = dktX9_of_0 := by decide +kernel
theorem dksX9_of_1 : cX9_of.data.toList.drop 23 = dktX9_of_1 := dk_seg dksX9_of_0 23 rfl rfl
theorem dksX9_of_2 : cX9_of.data.toList.drop 47 = dktX9_of_2 := dk_seg dksX9_of_1 24 rfl rfl
theorem dksX9_of_3 : cX9_of.data.toList.drop 71 = dktX9_of_3 := dk_seg dksX9_of_2 24 rfl rfl
theorem dksX9_of_4 : cX9_of.data.toList.drop 95 = dktX9_of_4 := dk_seg dksX9_of_3 24 rfl rfl
theorem dksX9_of_5 : cX9_of.data.toList.drop 119 = dktX9_of_5 := dk_seg dksX9_of_4 24 rfl rfl
theorem dksX9_of_6 : cX9_of.data.toList.drop 143 = dktX9_of_6 := dk_seg dksX9_of_5 24 rfl rfl
theorem dX9_of_0 : decode cX9_of 0 = .ok (.aload_n 0, 1) := dk_42 (dk_at dksX9_of_0 0 rfl rfl)
theorem dX9_of_1 : decode cX9_of 1 = .ok (.getfield 21, 3) := dk_180 0 21 (dk_at dksX9_of_0 1 rfl rfl)
theorem dX9_of_4 : decode cX9_of 4 = .ok (.aload_n 1, 1) := dk_43 (dk_at dksX9_of_0 4 rfl rfl)
theorem dX9_of_5 : decode cX9_of 5 = .ok (.invokeinterface 39 2, 5) := by decide +kernel
theorem dX9_of_10 : decode cX9_of 10 = .ok (.lstore_n 2, 1) := dk_65 (dk_at dksX9_of_0 10 rfl rfl)
theorem dX9_of_11 : decode cX9_of 11 = .ok (.iconst 0, 1) := dk_3 (dk_at dksX9_of_0 11 rfl rfl)
theorem dX9_of_12 : decode cX9_of 12 = .ok (.istore 4, 2) := dk_54 4 (dk_at dksX9_of_0 12 rfl rfl)
theorem dX9_of_14 : decode cX9_of 14 = .ok (.iload 4, 2) := dk_21 4 (dk_at dksX9_of_0 14 rfl rfl)
theorem dX9_of_16 : decode cX9_of 16 = .ok (.aload_n 0, 1) := dk_42 (dk_at dksX9_of_0 16 rfl rfl)
theorem dX9_of_17 : decode cX9_of 17 = .ok (.getfield 12, 3) := dk_180 0 12 (dk_at dksX9_of_0 17 rfl rfl)
theorem dX9_of_20 : decode cX9_of 20 = .ok (.invokevirtual 45, 3) := dk_182 0 45 (dk_at dksX9_of_0 20 rfl rfl)
theorem dX9_of_23 : decode cX9_of 23 = .ok (.if_icmp .ge 120, 3) := dk_162 0 120 (dk_at dksX9_of_1 0 rfl rfl)
theorem dX9_of_26 : decode cX9_of 26 = .ok (.aload_n 0, 1) := dk_42 (dk_at dksX9_of_1 3 rfl rfl)
theorem dX9_of_27 : decode cX9_of 27 = .ok (.getfield 12, 3) := dk_180 0 12 (dk_at dksX9_of_1 4 rfl rfl)
theorem dX9_of_30 : decode cX9_of 30 = .ok (.iload 4, 2) := dk_21 4 (dk_at dksX9_of_1 7 rfl rfl)
theorem dX9_of_32 : decode cX9_of 32 = .ok (.invokevirtual 49, 3) := dk_182 0 49 (dk_at dksX9_of_1 9 rfl rfl)
theorem dX9_of_35 : decode cX9_of 35 = .ok (.checkcast 40, 3) := dk_192 0 40 (dk_at dksX9_of_1 12 rfl rfl)
theorem dX9_of_38 : decode cX9_of 38 = .ok (.aload_n 1, 1) := dk_43 (dk_at dksX9_of_1 15 rfl rfl)
theorem dX9_of_39 : decode cX9_of 39 = .ok (.invokeinterface 39 2, 5) := by decide +kernel
theorem dX9_of_44 : decode cX9_of 44 = .ok (.lstore 5, 2) := dk_55 5 (dk_at dksX9_of_1 21 rfl rfl)
theorem dX9_of_46 : decode cX9_of 46 = .ok (.aload_n 0, 1) := dk_42 (dk_at dksX9_of_1 23 rfl rfl)
theorem dX9_of_47 : decode cX9_of 47 = .ok (.getfield 18, 3) := dk_180 0 18 (dk_at dksX9_of_2 0 rfl rfl)
theorem dX9_of_50 : decode cX9_of 50 = .ok (.iload 4, 2) := dk_21 4 (dk_at dksX9_of_2 3 rfl rfl)
theorem dX9_of_52 : decode cX9_of 52 = .ok (.invokevirtual 49, 3) := dk_182 0 49 (dk_at dksX9_of_2 5 rfl rfl)
theorem dX9_of_55 : decode cX9_of 55 = .ok (.checkcast 26, 3) := dk_192 0 26 (dk_at dksX9_of_2 8 rfl rfl)
theorem dX9_of_58 : decode cX9_of 58 = .ok (.invokevirtual 53, 3) := dk_182 0 53 (dk_at dksX9_of_2 11 rfl rfl)
theorem dX9_of_61 : decode cX9_of 61 = .ok (.istore 7, 2) := dk_54 7 (dk_at dksX9_of_2 14 rfl rfl)
theorem dX9_of_63 : decode cX9_of 63 = .ok (.iload 7, 2) := dk_21 7 (dk_at dksX9_of_2 16 rfl rfl)
theorem dX9_of_65 : decode cX9_of 65 = .ok (.bipush 43, 2) := dk_16 43 (dk_at dksX9_of_2 18 rfl rfl)
theorem dX9_of_67 : decode cX9_of 67 = .ok (.if_icmp .ne 10, 3) := dk_160 0 10 (dk_at dksX9_of_2 20 rfl rfl)
theorem dX9_of_70 : decode cX9_of 70 = .ok (.lload_n 2, 1) := dk_32 (dk_at dksX9_of_2 23 rfl rfl)
theorem dX9_of_71 : decode cX9_of 71 = .ok (.lload 5, 2) := dk_22 5 (dk_at dksX9_of_3 0 rfl rfl)
theorem dX9_of_73 : decode cX9_of 73 = .ok (.ladd, 1) := dk_97 (dk_at dksX9_of_3 2 rfl rfl)
theorem dX9_of_74 : decode cX9_of 74 = .ok (.goto 46, 3) := dk_167 0 46 (dk_at dksX9_of_3 3 rfl rfl)
theorem dX9_of_77 : decode cX9_of 77 = .ok (.iload 7, 2) := dk_21 7 (dk_at dksX9_of_3 6 rfl rfl)
theorem dX9_of_79 : decode cX9_of 79 = .ok (.bipush 45, 2) := dk_16 45 (dk_at dksX9_of_3 8 rfl rfl)
theorem dX9_of_81 : decode cX9_of 81 = .ok (.if_icmp .ne 10, 3) := dk_160 0 10 (dk_at dksX9_of_3 10 rfl rfl)
theorem dX9_of_84 : decode cX9_of 84 = .ok (.lload_n 2, 1) := dk_32 (dk_at dksX9_of_3 13 rfl rfl)
theorem dX9_of_85 : decode cX9_of 85 = .ok (.lload 5, 2) := dk_22 5 (dk_at dksX9_of_3 14 rfl rfl)
theorem dX9_of_87 : decode cX9_of 87 = .ok (.lsub, 1) := dk_101 (dk_at dksX9_of_3 16 rfl rfl)
theorem dX9_of_88 : decode cX9_of 88 = .ok (.goto 32, 3) := dk_167 0 32 (dk_at dksX9_of_3 17 rfl rfl)
theorem dX9_of_91 : decode cX9_of 91 = .ok (.iload 7, 2) := dk_21 7 (dk_at dksX9_of_3 20 rfl rfl)
theorem dX9_of_93 : decode cX9_of 93 = .ok (.bipush 42, 2) := dk_16 42 (dk_at dksX9_of_3 22 rfl rfl)
theorem dX9_of_95 : decode cX9_of 95 = .ok (.if_icmp .ne 10, 3) := dk_160 0 10 (dk_at dksX9_of_4 0 rfl rfl)
theorem dX9_of_98 : decode cX9_of 98 = .ok (.lload_n 2, 1) := dk_32 (dk_at dksX9_of_4 3 rfl rfl)
theorem dX9_of_99 : decode cX9_of 99 = .ok (.lload 5, 2) := dk_22 5 (dk_at dksX9_of_4 4 rfl rfl)
theorem dX9_of_101 : decode cX9_of 101 = .ok (.lmul, 1) := dk_105 (dk_at dksX9_of_4 6 rfl rfl)
theorem dX9_of_102 : decode cX9_of 102 = .ok (.goto 18, 3) := dk_167 0 18 (dk_at dksX9_of_4 7 rfl rfl)
theorem dX9_of_105 : decode cX9_of 105 = .ok (.lload 5, 2) := dk_22 5 (dk_at dksX9_of_4 10 rfl rfl)
theorem dX9_of_107 : decode cX9_of 107 = .ok (.lconst 0, 1) := dk_9 (dk_at dksX9_of_4 12 rfl rfl)
theorem dX9_of_108 : decode cX9_of 108 = .ok (.lcmp, 1) := dk_148 (dk_at dksX9_of_4 13 rfl rfl)
theorem dX9_of_109 : decode cX9_of 109 = .ok (.ifCond .ne 7, 3) := dk_154 0 7 (dk_at dksX9_of_4 14 rfl rfl)
theorem dX9_of_112 : decode cX9_of 112 = .ok (.lconst 0, 1) := dk_9 (dk_at dksX9_of_4 17 rfl rfl)
theorem dX9_of_113 : decode cX9_of 113 = .ok (.goto 7, 3) := dk_167 0 7 (dk_at dksX9_of_4 18 rfl rfl)
theorem dX9_of_116 : decode cX9_of 116 = .ok (.lload_n 2, 1) := dk_32 (dk_at dksX9_of_4 21 rfl rfl)
theorem dX9_of_117 : decode cX9_of 117 = .ok (.lload 5, 2) := dk_22 5 (dk_at dksX9_of_4 22 rfl rfl)
theorem dX9_of_119 : decode cX9_of 119 = .ok (.ldiv, 1) := dk_109 (dk_at dksX9_of_5 0 rfl rfl)
theorem dX9_of_120 : decode cX9_of 120 = .ok (.lstore 8, 2) := dk_55 8 (dk_at dksX9_of_5 1 rfl rfl)
theorem dX9_of_122 : decode cX9_of 122 = .ok (.ldc2_w 56, 3) := dk_20 0 56 (dk_at dksX9_of_5 3 rfl rfl)
theorem dX9_of_125 : decode cX9_of 125 = .ok (.ldc2_w 58, 3) := dk_20 0 58 (dk_at dksX9_of_5 6 rfl rfl)
theorem dX9_of_128 : decode cX9_of 128 = .ok (.lload 8, 2) := dk_22 8 (dk_at dksX9_of_5 9 rfl rfl)
theorem dX9_of_130 : decode cX9_of 130 = .ok (.invokestatic 60, 3) := dk_184 0 60 (dk_at dksX9_of_5 11 rfl rfl)
theorem dX9_of_133 : decode cX9_of 133 = .ok (.invokestatic 66, 3) := dk_184 0 66 (dk_at dksX9_of_5 14 rfl rfl)
theorem dX9_of_136 : decode cX9_of 136 = .ok (.lstore_n 2, 1) := dk_65 (dk_at dksX9_of_5 17 rfl rfl)
theorem dX9_of_137 : decode cX9_of 137 = .ok (.iinc 4 1, 3) := dk_132 4 1 (dk_at dksX9_of_5 18 rfl rfl)
theorem dX9_of_140 : decode cX9_of 140 = .ok (.goto (-126), 3) := dk_167 255 130 (dk_at dksX9_of_5 21 rfl rfl)
theorem dX9_of_143 : decode cX9_of 143 = .ok (.lload_n 2, 1) := dk_32 (dk_at dksX9_of_6 0 rfl rfl)
theorem dX9_of_144 : decode cX9_of 144 = .ok (.lreturn, 1) := dk_173 (dk_at dksX9_of_6 1 rfl rfl)
theorem q160 : (Jvm.Cond.initialized "VaneCourt$Chain") ∈ lw_all := lw_g (lw_at lw_m1 24 rfl) rfl
theorem q646 : (Jvm.Cond.selects "VaneCourt$Chain" ({ cls := "java/lang/Object", name := "getClass", desc := "()Ljava/lang/Class;" } : Jvm.MethodName) ({ cls := "java/lang/Object", name := "getClass", desc := "()Ljava/lang/Class;" } : Jvm.MethodName)) ∈ lw_all := lw_g (lw_at lw_m3 30 rfl) rfl
theorem q693 : (Jvm.Cond.instantiable "VaneCourt$Chain" (3 : Nat)) ∈ lw_all := lw_g (lw_at lw_m3 77 rfl) rfl
theorem q742 : (Jvm.Cond.instanceMethod ({ cls := "VaneCourt$Chain", name := "<init>", desc := "(LVaneCourt$Sum;)V" } : Jvm.MethodName)) ∈ lw_all := lw_g (lw_at lw_m3 126 rfl) rfl
theorem q743 : (Jvm.Cond.code ({ cls := "VaneCourt$Chain", name := "<init>", desc := "(LVaneCourt$Sum;)V" } : Jvm.MethodName) prog_4_method_1_code (2 : Nat) (Option.none : Option Jvm.ClassFile.FieldType)) ∈ lw_all := lw_g (lw_at lw_m3 127 rfl) rfl
theorem q744 : (Jvm.Cond.methodLink "VaneCourt$Chain" (3 : Nat) ({ cls := "java/lang/Object", name := "<init>", desc := "()V" } : Jvm.MethodName)) ∈ lw_all := lw_g (lw_at lw_m3 128 rfl) rfl
theorem q745 : (Jvm.Cond.classLink "VaneCourt$Chain" (9 : Nat) "java/util/ArrayList") ∈ lw_all := lw_g (lw_at lw_m3 129 rfl) rfl
theorem q746 : (Jvm.Cond.methodLink "VaneCourt$Chain" (11 : Nat) ({ cls := "java/util/ArrayList", name := "<init>", desc := "()V" } : Jvm.MethodName)) ∈ lw_all := lw_g (lw_at lw_m3 130 rfl) rfl
theorem q747 : (Jvm.Cond.fieldLink "VaneCourt$Chain" (21 : Nat) "VaneCourt$Chain" "first" "LVaneCourt$Sum;") ∈ lw_all := lw_g (lw_at lw_m3 131 rfl) rfl
theorem q748 : (Jvm.Cond.fieldLink "VaneCourt$Chain" (12 : Nat) "VaneCourt$Chain" "more" "Ljava/util/ArrayList;") ∈ lw_all := lw_g (lw_at lw_m3 132 rfl) rfl
theorem q749 : (Jvm.Cond.fieldLink "VaneCourt$Chain" (18 : Nat) "VaneCourt$Chain" "signs" "Ljava/util/ArrayList;") ∈ lw_all := lw_g (lw_at lw_m3 133 rfl) rfl
theorem q750 : (Jvm.Cond.laysFinal "VaneCourt$Chain" "VaneCourt$Chain" "first" "LVaneCourt$Sum;") ∈ lw_all := lw_g (lw_at lw_m3 134 rfl) rfl
theorem q751 : (Jvm.Cond.soleField "VaneCourt$Chain" "first") ∈ lw_all := lw_g (lw_at lw_m3 135 rfl) rfl
theorem q752 : (Jvm.Cond.laysFinal "VaneCourt$Chain" "VaneCourt$Chain" "more" "Ljava/util/ArrayList;") ∈ lw_all := lw_g (lw_at lw_m3 136 rfl) rfl
theorem q753 : (Jvm.Cond.soleField "VaneCourt$Chain" "more") ∈ lw_all := lw_g (lw_at lw_m3 137 rfl) rfl
theorem q754 : (Jvm.Cond.laysFinal "VaneCourt$Chain" "VaneCourt$Chain" "signs" "Ljava/util/ArrayList;") ∈ lw_all := lw_g (lw_at lw_m3 138 rfl) rfl
theorem q755 : (Jvm.Cond.soleField "VaneCourt$Chain" "signs") ∈ lw_all := lw_g (lw_at lw_m3 139 rfl) rfl
theorem q756 : (Jvm.Cond.superclass "VaneCourt$Chain" "java/lang/Object") ∈ lw_all := lw_g (lw_at lw_m3 140 rfl) rfl
theorem q758 : (Jvm.Cond.instanceMethod ({ cls := "VaneCourt$Chain", name := "add", desc := "(ILVaneCourt$Sum;)V" } : Jvm.MethodName)) ∈ lw_all := lw_g (lw_at lw_m3 142 rfl) rfl
theorem q759 : (Jvm.Cond.selects "VaneCourt$Chain" ({ cls := "VaneCourt$Chain", name := "add", desc := "(ILVaneCourt$Sum;)V" } : Jvm.MethodName) ({ cls := "VaneCourt$Chain", name := "add", desc := "(ILVaneCourt$Sum;)V" } : Jvm.MethodName)) ∈ lw_all := lw_g (lw_at lw_m3 143 rfl) rfl
theorem q760 : (Jvm.Cond.code ({ cls := "VaneCourt$Chain", name := "add", desc := "(ILVaneCourt$Sum;)V" } : Jvm.MethodName) prog_4_method_2_code (3 : Nat) (Option.none : Option Jvm.ClassFile.FieldType)) ∈ lw_all := lw_g (lw_at lw_m3 144 rfl) rfl
theorem q761 : (Jvm.Cond.methodLink "VaneCourt$Chain" (25 : Nat) ({ cls := "java/lang/Integer", name := "valueOf", desc := "(I)Ljava/lang/Integer;" } : Jvm.MethodName)) ∈ lw_all := lw_g (lw_at lw_m3 145 rfl) rfl
theorem q781 : (Jvm.Cond.methodLink "VaneCourt$Chain" (31 : Nat) ({ cls := "java/util/ArrayList", name := "add", desc := "(Ljava/lang/Object;)Z" } : Jvm.MethodName)) ∈ lw_all := lw_g (lw_at lw_m3 165 rfl) rfl
theorem q783 : (Jvm.Cond.instanceMethod ({ cls := "VaneCourt$Chain", name := "itself", desc := "()LVaneCourt$Sum;" } : Jvm.MethodName)) ∈ lw_all := lw_g (lw_at lw_m3 167 rfl) rfl
theorem q784 : (Jvm.Cond.selects "VaneCourt$Chain" ({ cls := "VaneCourt$Chain", name := "itself", desc := "()LVaneCourt$Sum;" } : Jvm.MethodName) ({ cls := "VaneCourt$Chain", name := "itself", desc := "()LVaneCourt$Sum;" } : Jvm.MethodName)) ∈ lw_all := lw_g (lw_at lw_m3 168 rfl) rfl
theorem q785 : (Jvm.Cond.code ({ cls := "VaneCourt$Chain", name := "itself", desc := "()LVaneCourt$Sum;" } : Jvm.MethodName) prog_4_method_3_code (1 : Nat) (Option.some (Jvm.ClassFile.FieldType.object "VaneCourt$Sum"))) ∈ lw_all := lw_g (lw_at lw_m3 169 rfl) rfl
theorem q786 : (Jvm.Cond.methodLink "VaneCourt$Chain" (35 : Nat) ({ cls := "java/util/ArrayList", name := "isEmpty", desc := "()Z" } : Jvm.MethodName)) ∈ lw_all := lw_g (lw_at lw_m3 170 rfl) rfl
theorem q953 : (Jvm.Cond.castable "VaneCourt$Chain" "VaneCourt$Sum") ∈ lw_tbl := lw_at lw_m4 97 rfl
theorem q954 : (Jvm.Cond.selects "VaneCourt$Chain" ({ cls := "VaneCourt$Sum", name := "of", desc := "([I)J" } : Jvm.MethodName) ({ cls := "VaneCourt$Chain", name := "of", desc := "([I)J" } : Jvm.MethodName)) ∈ lw_all := lw_g (lw_at lw_m4 98 rfl) rfl
theorem q955 : (Jvm.Cond.unhidden "VaneCourt$Chain" "of" "([I)J") ∈ lw_tbl := lw_at lw_m4 99 rfl
theorem q956 : (Jvm.Cond.instanceMethod ({ cls := "VaneCourt$Chain", name := "of", desc := "([I)J" } : Jvm.MethodName)) ∈ lw_all := lw_g (lw_at lw_m4 100 rfl) rfl
theorem q957 : (Jvm.Cond.publicMethod ({ cls := "VaneCourt$Chain", name := "of", desc := "([I)J" } : Jvm.MethodName)) ∈ lw_tbl := lw_at lw_m4 101 rfl
theorem q958 : (Jvm.Cond.code ({ cls := "VaneCourt$Chain", name := "of", desc := "([I)J" } : Jvm.MethodName) prog_4_method_4_code (10 : Nat) (Option.some Jvm.ClassFile.FieldType.long)) ∈ lw_all := lw_g (lw_at lw_m4 102 rfl) rfl
theorem q959 : (Jvm.Cond.interfaceEntry "VaneCourt$Chain" (39 : Nat)) ∈ lw_tbl := lw_at lw_m4 103 rfl
theorem q960 : (Jvm.Cond.methodLink "VaneCourt$Chain" (39 : Nat) ({ cls := "VaneCourt$Sum", name := "of", desc := "([I)J" } : Jvm.MethodName)) ∈ lw_all := lw_g (lw_at lw_m4 104 rfl) rfl
theorem q981 : (Jvm.Cond.methodLink "VaneCourt$Chain" (45 : Nat) ({ cls := "java/util/ArrayList", name := "size", desc := "()I" } : Jvm.MethodName)) ∈ lw_all := lw_g (lw_at lw_m4 125 rfl) rfl
theorem q982 : (Jvm.Cond.methodLink "VaneCourt$Chain" (49 : Nat) ({ cls := "java/util/ArrayList", name := "get", desc := "(I)Ljava/lang/Object;" } : Jvm.MethodName)) ∈ lw_all := lw_g (lw_at lw_m4 126 rfl) rfl
theorem q983 : (Jvm.Cond.classLink "VaneCourt$Chain" (40 : Nat) "VaneCourt$Sum") ∈ lw_all := lw_g (lw_at lw_m4 127 rfl) rfl
theorem q984 : (Jvm.Cond.classLink "VaneCourt$Chain" (26 : Nat) "java/lang/Integer") ∈ lw_all := lw_g (lw_at lw_m4 128 rfl) rfl
theorem q985 : (Jvm.Cond.methodLink "VaneCourt$Chain" (53 : Nat) ({ cls := "java/lang/Integer", name := "intValue", desc := "()I" } : Jvm.MethodName)) ∈ lw_all := lw_g (lw_at lw_m4 129 rfl) rfl
theorem q989 : (Jvm.Cond.constantLong "VaneCourt$Chain" (56 : Nat) (-1000000 : Int64)) ∈ lw_all := lw_g (lw_at lw_m4 133 rfl) rfl
theorem q990 : (Jvm.Cond.constantLong "VaneCourt$Chain" (58 : Nat) (1000000 : Int64)) ∈ lw_all := lw_g (lw_at lw_m4 134 rfl) rfl
theorem q991 : (Jvm.Cond.methodLink "VaneCourt$Chain" (60 : Nat) ({ cls := "java/lang/Math", name := "min", desc := "(JJ)J" } : Jvm.MethodName)) ∈ lw_all := lw_g (lw_at lw_m4 135 rfl) rfl
theorem q994 : (Jvm.Cond.methodLink "VaneCourt$Chain" (66 : Nat) ({ cls := "java/lang/Math", name := "max", desc := "(JJ)J" } : Jvm.MethodName)) ∈ lw_all := lw_g (lw_at lw_m4 138 rfl) rfl
theorem q2037 : (Jvm.Cond.castable "VaneCourt$Chain" "java/lang/Object") ∈ lw_tbl := lw_at lw_m8 221 rfl
theorem in_X9 : ∀ w ∈ wsX90, w ∈ lw_all := lw_in wsX90 [750, 752, 754] (by decide +kernel) (by decide +kernel)
/-! java/util/AbstractCollection -/
set_option maxRecDepth 100000
def RJ0 : String := "java/util/AbstractCollection"
abbrev cJ0_init : ByteArray := prog_39_method_1_code
def yJ0_init : MethodName := ⟨RJ0, "<init>", "()V"⟩
theorem dJ0_init_0 : decode cJ0_init 0 = .ok (.aload_n 0, 1) := by decide +kernel
theorem dJ0_init_1 : decode cJ0_init 1 = .ok (.invokespecial 1, 3) := by decide +kernel
theorem dJ0_init_4 : decode cJ0_init 4 = .ok (.return_, 1) := by decide +kernel
theorem q143 : (Jvm.Cond.initialized "java/util/AbstractCollection") ∈ lw_all := lw_g (lw_at lw_m1 7 rfl) rfl
theorem q359 : (Jvm.Cond.instanceMethod ({ cls := "java/util/AbstractCollection", name := "<init>", desc := "()V" } : Jvm.MethodName)) ∈ lw_all := lw_g (lw_at lw_m1 223 rfl) rfl
theorem q360 : (Jvm.Cond.code ({ cls := "java/util/AbstractCollection", name := "<init>", desc := "()V" } : Jvm.MethodName) prog_39_method_1_code (1 : Nat) (Option.none : Option Jvm.ClassFile.FieldType)) ∈ lw_all := lw_g (lw_at lw_m1 224 rfl) rfl
theorem q361 : (Jvm.Cond.methodLink "java/util/AbstractCollection" (1 : Nat) ({ cls := "java/lang/Object", name := "<init>", desc := "()V" } : Jvm.MethodName)) ∈ lw_all := lw_g (lw_at lw_m1 225 rfl) rfl
/-! java/util/AbstractList -/
set_option maxRecDepth 100000
def RJ1 : String := "java/util/AbstractList"
abbrev cJ1_init : ByteArray := prog_40_method_1_code
def yJ1_init : MethodName := ⟨RJ1, "<init>", "()V"⟩
def dkwJ1_init_0 : List UInt8 := [42, 183, 0, 1, 42, 3, 181, 0, 7, 177]
abbrev dktJ1_init_0 : List UInt8 := dkwJ1_init_0 ++ []
theorem dksJ1_init_0 : cJ1_init.data.toList.drop 0 = dktJ1_init_0 := by decide +kernel
theorem dJ1_init_0 : decode cJ1_init 0 = .ok (.aload_n 0, 1) := dk_42 (dk_at dksJ1_init_0 0 rfl rfl)
theorem dJ1_init_1 : decode cJ1_init 1 = .ok (.invokespecial 1, 3) := dk_183 0 1 (dk_at dksJ1_init_0 1 rfl rfl)
theorem dJ1_init_4 : decode cJ1_init 4 = .ok (.aload_n 0, 1) := dk_42 (dk_at dksJ1_init_0 4 rfl rfl)
theorem dJ1_init_5 : decode cJ1_init 5 = .ok (.iconst 0, 1) := dk_3 (dk_at dksJ1_init_0 5 rfl rfl)
theorem dJ1_init_6 : decode cJ1_init 6 = .ok (.putfield 7, 3) := dk_181 0 7 (dk_at dksJ1_init_0 6 rfl rfl)
theorem dJ1_init_9 : decode cJ1_init 9 = .ok (.return_, 1) := dk_177 (dk_at dksJ1_init_0 9 rfl rfl)
theorem q144 : (Jvm.Cond.initialized "java/util/AbstractList") ∈ lw_all := lw_g (lw_at lw_m1 8 rfl) rfl
theorem q356 : (Jvm.Cond.instanceMethod ({ cls := "java/util/AbstractList", name := "<init>", desc := "()V" } : Jvm.MethodName)) ∈ lw_all := lw_g (lw_at lw_m1 220 rfl) rfl
theorem q357 : (Jvm.Cond.code ({ cls := "java/util/AbstractList", name := "<init>", desc := "()V" } : Jvm.MethodName) prog_40_method_1_code (1 : Nat) (Option.none : Option Jvm.ClassFile.FieldType)) ∈ lw_all := lw_g (lw_at lw_m1 221 rfl) rfl
theorem q358 : (Jvm.Cond.methodLink "java/util/AbstractList" (1 : Nat) ({ cls := "java/util/AbstractCollection", name := "<init>", desc := "()V" } : Jvm.MethodName)) ∈ lw_all := lw_g (lw_at lw_m1 222 rfl) rfl
theorem q366 : (Jvm.Cond.fieldLink "java/util/AbstractList" (7 : Nat) "java/util/AbstractList" "modCount" "I") ∈ lw_all := lw_g (lw_at lw_m1 230 rfl) rfl
theorem q374 : (Jvm.Cond.soleField "java/util/AbstractList" "modCount") ∈ lw_all := lw_g (lw_at lw_m1 238 rfl) rfl
/-! java/lang/Record -/
set_option maxRecDepth 100000
def RJ10 : String := "java/lang/Record"
abbrev cJ10_init : ByteArray := prog_31_method_1_code
def yJ10_init : MethodName := ⟨RJ10, "<init>", "()V"⟩
theorem dJ10_init_0 : decode cJ10_init 0 = .ok (.aload_n 0, 1) := by decide +kernel
theorem dJ10_init_1 : decode cJ10_init 1 = .ok (.invokespecial 1, 3) := by decide +kernel
theorem dJ10_init_4 : decode cJ10_init 4 = .ok (.return_, 1) := by decide +kernel
theorem q154 : (Jvm.Cond.initialized "java/lang/Record") ∈ lw_all := lw_g (lw_at lw_m1 18 rfl) rfl
theorem q587 : (Jvm.Cond.instanceMethod ({ cls := "java/lang/Record", name := "<init>", desc := "()V" } : Jvm.MethodName)) ∈ lw_all := lw_g (lw_at lw_m2 211 rfl) rfl
theorem q588 : (Jvm.Cond.code ({ cls := "java/lang/Record", name := "<init>", desc := "()V" } : Jvm.MethodName) prog_31_method_1_code (1 : Nat) (Option.none : Option Jvm.ClassFile.FieldType)) ∈ lw_all := lw_g (lw_at lw_m2 212 rfl) rfl
theorem q589 : (Jvm.Cond.methodLink "java/lang/Record" (1 : Nat) ({ cls := "java/lang/Object", name := "<init>", desc := "()V" } : Jvm.MethodName)) ∈ lw_all := lw_g (lw_at lw_m2 213 rfl) rfl
/-! jdk/internal/util/ArraysSupport -/
set_option maxRecDepth 100000
def RJ11 : String := "jdk/internal/util/ArraysSupport"
abbrev cJ11_newLength : ByteArray := prog_48_method_27_code
def yJ11_newLength : MethodName := ⟨RJ11, "newLength", "(III)I"⟩
def dkwJ11_newLength_1 : List UInt8 := [184, 0, 201, 172]
abbrev dktJ11_newLength_1 : List UInt8 := dkwJ11_newLength_1 ++ []
def dkwJ11_newLength_0 : List UInt8 := [26, 27, 28, 184, 0, 194, 96, 62, 3, 29, 162, 0, 11, 29, 18, 200, 163, 0, 5, 29, 172, 26, 27]
abbrev dktJ11_newLength_0 : List UInt8 := dkwJ11_newLength_0 ++ dktJ11_newLength_1
theorem dksJ11_newLength_0 : cJ11_newLength.data.toList.drop 0 = dktJ11_newLength_0 := by decide +kernel
theorem dksJ11_newLength_1 : cJ11_newLength.data.toList.drop 23 = dktJ11_newLength_1 := dk_seg dksJ11_newLength_0 23 rfl rfl
theorem dJ11_newLength_0 : decode cJ11_newLength 0 = .ok (.iload_n 0, 1) := dk_26 (dk_at dksJ11_newLength_0 0 rfl rfl)
theorem dJ11_newLength_1 : decode cJ11_newLength 1 = .ok (.iload_n 1, 1) := dk_27 (dk_at dksJ11_newLength_0 1 rfl rfl)
theorem dJ11_newLength_2 : decode cJ11_newLength 2 = .ok (.iload_n 2, 1) := dk_28 (dk_at dksJ11_newLength_0 2 rfl rfl)
theorem dJ11_newLength_3 : decode cJ11_newLength 3 = .ok (.invokestatic 194, 3) := dk_184 0 194 (dk_at dksJ11_newLength_0 3 rfl rfl)
theorem dJ11_newLength_6 : decode cJ11_newLength 6 = .ok (.iadd, 1) := dk_96 (dk_at dksJ11_newLength_0 6 rfl rfl)
theorem dJ11_newLength_7 : decode cJ11_newLength 7 = .ok (.istore_n 3, 1) := dk_62 (dk_at dksJ11_newLength_0 7 rfl rfl)
theorem dJ11_newLength_8 : decode cJ11_newLength 8 = .ok (.iconst 0, 1) := dk_3 (dk_at dksJ11_newLength_0 8 rfl rfl)
theorem dJ11_newLength_9 : decode cJ11_newLength 9 = .ok (.iload_n 3, 1) := dk_29 (dk_at dksJ11_newLength_0 9 rfl rfl)
theorem dJ11_newLength_10 : decode cJ11_newLength 10 = .ok (.if_icmp .ge 11, 3) := dk_162 0 11 (dk_at dksJ11_newLength_0 10 rfl rfl)
theorem dJ11_newLength_13 : decode cJ11_newLength 13 = .ok (.iload_n 3, 1) := dk_29 (dk_at dksJ11_newLength_0 13 rfl rfl)
theorem dJ11_newLength_14 : decode cJ11_newLength 14 = .ok (.ldc 200, 2) := dk_18 200 (dk_at dksJ11_newLength_0 14 rfl rfl)
theorem dJ11_newLength_16 : decode cJ11_newLength 16 = .ok (.if_icmp .gt 5, 3) := dk_163 0 5 (dk_at dksJ11_newLength_0 16 rfl rfl)
theorem dJ11_newLength_19 : decode cJ11_newLength 19 = .ok (.iload_n 3, 1) := dk_29 (dk_at dksJ11_newLength_0 19 rfl rfl)
theorem dJ11_newLength_20 : decode cJ11_newLength 20 = .ok (.ireturn, 1) := dk_172 (dk_at dksJ11_newLength_0 20 rfl rfl)
theorem dJ11_newLength_21 : decode cJ11_newLength 21 = .ok (.iload_n 0, 1) := dk_26 (dk_at dksJ11_newLength_0 21 rfl rfl)
theorem dJ11_newLength_22 : decode cJ11_newLength 22 = .ok (.iload_n 1, 1) := dk_27 (dk_at dksJ11_newLength_0 22 rfl rfl)
theorem dJ11_newLength_23 : decode cJ11_newLength 23 = .ok (.invokestatic 201, 3) := dk_184 0 201 (dk_at dksJ11_newLength_1 0 rfl rfl)
theorem dJ11_newLength_26 : decode cJ11_newLength 26 = .ok (.ireturn, 1) := dk_172 (dk_at dksJ11_newLength_1 3 rfl rfl)
abbrev cJ11_hugeLength : ByteArray := prog_48_method_28_code
def yJ11_hugeLength : MethodName := ⟨RJ11, "hugeLength", "(II)I"⟩
def dkwJ11_hugeLength_2 : List UInt8 := [191, 28, 18, 200, 163, 0, 6, 18, 200, 172, 28, 172]
abbrev dktJ11_hugeLength_2 : List UInt8 := dkwJ11_hugeLength_2 ++ []
def dkwJ11_hugeLength_1 : List UInt8 := [26, 182, 0, 98, 18, 208, 182, 0, 94, 27, 182, 0, 98, 18, 210, 182, 0, 94, 182, 0, 101, 183, 0, 212]
abbrev dktJ11_hugeLength_1 : List UInt8 := dkwJ11_hugeLength_1 ++ dktJ11_hugeLength_2
def dkwJ11_hugeLength_0 : List UInt8 := [26, 27, 96, 61, 28, 156, 0, 44, 187, 0, 204, 89, 187, 0, 89, 89, 183, 0, 91, 18, 206, 182, 0, 94]
abbrev dktJ11_hugeLength_0 : List UInt8 := dkwJ11_hugeLength_0 ++ dktJ11_hugeLength_1
theorem dksJ11_hugeLength_0 : cJ11_hugeLength.data.toList.drop 0 = dktJ11_hugeLength_0 := by decide +kernel
theorem dksJ11_hugeLength_1 : cJ11_hugeLength.data.toList.drop 24 = dktJ11_hugeLength_1 := dk_seg dksJ11_hugeLength_0 24 rfl rfl
theorem dksJ11_hugeLength_2 : cJ11_hugeLength.data.toList.drop 48 = dktJ11_hugeLength_2 := dk_seg dksJ11_hugeLength_1 24 rfl rfl
theorem dJ11_hugeLength_0 : decode cJ11_hugeLength 0 = .ok (.iload_n 0, 1) := dk_26 (dk_at dksJ11_hugeLength_0 0 rfl rfl)
theorem dJ11_hugeLength_1 : decode cJ11_hugeLength 1 = .ok (.iload_n 1, 1) := dk_27 (dk_at dksJ11_hugeLength_0 1 rfl rfl)
theorem dJ11_hugeLength_2 : decode cJ11_hugeLength 2 = .ok (.iadd, 1) := dk_96 (dk_at dksJ11_hugeLength_0 2 rfl rfl)
theorem dJ11_hugeLength_3 : decode cJ11_hugeLength 3 = .ok (.istore_n 2, 1) := dk_61 (dk_at dksJ11_hugeLength_0 3 rfl rfl)
theorem dJ11_hugeLength_4 : decode cJ11_hugeLength 4 = .ok (.iload_n 2, 1) := dk_28 (dk_at dksJ11_hugeLength_0 4 rfl rfl)
theorem dJ11_hugeLength_5 : decode cJ11_hugeLength 5 = .ok (.ifCond .ge 44, 3) := dk_156 0 44 (dk_at dksJ11_hugeLength_0 5 rfl rfl)
theorem dJ11_hugeLength_8 : decode cJ11_hugeLength 8 = .ok (.new 204, 3) := dk_187 0 204 (dk_at dksJ11_hugeLength_0 8 rfl rfl)
theorem dJ11_hugeLength_11 : decode cJ11_hugeLength 11 = .ok (.dup, 1) := dk_89 (dk_at dksJ11_hugeLength_0 11 rfl rfl)
theorem dJ11_hugeLength_12 : decode cJ11_hugeLength 12 = .ok (.new 89, 3) := dk_187 0 89 (dk_at dksJ11_hugeLength_0 12 rfl rfl)
theorem dJ11_hugeLength_15 : decode cJ11_hugeLength 15 = .ok (.dup, 1) := dk_89 (dk_at dksJ11_hugeLength_0 15 rfl rfl)
theorem dJ11_hugeLength_16 : decode cJ11_hugeLength 16 = .ok (.invokespecial 91, 3) := dk_183 0 91 (dk_at dksJ11_hugeLength_0 16 rfl rfl)
theorem dJ11_hugeLength_19 : decode cJ11_hugeLength 19 = .ok (.ldc 206, 2) := dk_18 206 (dk_at dksJ11_hugeLength_0 19 rfl rfl)
theorem dJ11_hugeLength_21 : decode cJ11_hugeLength 21 = .ok (.invokevirtual 94, 3) := dk_182 0 94 (dk_at dksJ11_hugeLength_0 21 rfl rfl)
theorem dJ11_hugeLength_24 : decode cJ11_hugeLength 24 = .ok (.iload_n 0, 1) := dk_26 (dk_at dksJ11_hugeLength_1 0 rfl rfl)
theorem dJ11_hugeLength_25 : decode cJ11_hugeLength 25 = .ok (.invokevirtual 98, 3) := dk_182 0 98 (dk_at dksJ11_hugeLength_1 1 rfl rfl)
theorem dJ11_hugeLength_28 : decode cJ11_hugeLength 28 = .ok (.ldc 208, 2) := dk_18 208 (dk_at dksJ11_hugeLength_1 4 rfl rfl)
theorem dJ11_hugeLength_30 : decode cJ11_hugeLength 30 = .ok (.invokevirtual 94, 3) := dk_182 0 94 (dk_at dksJ11_hugeLength_1 6 rfl rfl)
theorem dJ11_hugeLength_33 : decode cJ11_hugeLength 33 = .ok (.iload_n 1, 1) := dk_27 (dk_at dksJ11_hugeLength_1 9 rfl rfl)
theorem dJ11_hugeLength_34 : decode cJ11_hugeLength 34 = .ok (.invokevirtual 98, 3) := dk_182 0 98 (dk_at dksJ11_hugeLength_1 10 rfl rfl)
theorem dJ11_hugeLength_37 : decode cJ11_hugeLength 37 = .ok (.ldc 210, 2) := dk_18 210 (dk_at dksJ11_hugeLength_1 13 rfl rfl)
theorem dJ11_hugeLength_39 : decode cJ11_hugeLength 39 = .ok (.invokevirtual 94, 3) := dk_182 0 94 (dk_at dksJ11_hugeLength_1 15 rfl rfl)
theorem dJ11_hugeLength_42 : decode cJ11_hugeLength 42 = .ok (.invokevirtual 101, 3) := dk_182 0 101 (dk_at dksJ11_hugeLength_1 18 rfl rfl)
theorem dJ11_hugeLength_45 : decode cJ11_hugeLength 45 = .ok (.invokespecial 212, 3) := dk_183 0 212 (dk_at dksJ11_hugeLength_1 21 rfl rfl)
theorem dJ11_hugeLength_48 : decode cJ11_hugeLength 48 = .ok (.athrow, 1) := dk_191 (dk_at dksJ11_hugeLength_2 0 rfl rfl)
theorem dJ11_hugeLength_49 : decode cJ11_hugeLength 49 = .ok (.iload_n 2, 1) := dk_28 (dk_at dksJ11_hugeLength_2 1 rfl rfl)
theorem dJ11_hugeLength_50 : decode cJ11_hugeLength 50 = .ok (.ldc 200, 2) := dk_18 200 (dk_at dksJ11_hugeLength_2 2 rfl rfl)
theorem dJ11_hugeLength_52 : decode cJ11_hugeLength 52 = .ok (.if_icmp .gt 6, 3) := dk_163 0 6 (dk_at dksJ11_hugeLength_2 4 rfl rfl)
theorem dJ11_hugeLength_55 : decode cJ11_hugeLength 55 = .ok (.ldc 200, 2) := dk_18 200 (dk_at dksJ11_hugeLength_2 7 rfl rfl)
theorem dJ11_hugeLength_57 : decode cJ11_hugeLength 57 = .ok (.ireturn, 1) := dk_172 (dk_at dksJ11_hugeLength_2 9 rfl rfl)
theorem dJ11_hugeLength_58 : decode cJ11_hugeLength 58 = .ok (.iload_n 2, 1) := dk_28 (dk_at dksJ11_hugeLength_2 10 rfl rfl)
theorem dJ11_hugeLength_59 : decode cJ11_hugeLength 59 = .ok (.ireturn, 1) := dk_172 (dk_at dksJ11_hugeLength_2 11 rfl rfl)
theorem q157 : (Jvm.Cond.initialized "jdk/internal/util/ArraysSupport") ∈ lw_all := lw_g (lw_at lw_m1 21 rfl) rfl
theorem q629 : (Jvm.Cond.static ({ cls := "jdk/internal/util/ArraysSupport", name := "newLength", desc := "(III)I" } : Jvm.MethodName)) ∈ lw_all := lw_g (lw_at lw_m3 13 rfl) rfl
theorem q630 : (Jvm.Cond.code ({ cls := "jdk/internal/util/ArraysSupport", name := "newLength", desc := "(III)I" } : Jvm.MethodName) prog_48_method_27_code (4 : Nat) (Option.some Jvm.ClassFile.FieldType.int)) ∈ lw_all := lw_g (lw_at lw_m3 14 rfl) rfl
theorem q631 : (Jvm.Cond.methodLink "jdk/internal/util/ArraysSupport" (194 : Nat) ({ cls := "java/lang/Math", name := "max", desc := "(II)I" } : Jvm.MethodName)) ∈ lw_all := lw_g (lw_at lw_m3 15 rfl) rfl
theorem q634 : (Jvm.Cond.constant "jdk/internal/util/ArraysSupport" (200 : Nat) (2147483639 : Int32)) ∈ lw_all := lw_g (lw_at lw_m3 18 rfl) rfl
theorem q635 : (Jvm.Cond.methodLink "jdk/internal/util/ArraysSupport" (201 : Nat) ({ cls := "jdk/internal/util/ArraysSupport", name := "hugeLength", desc := "(II)I" } : Jvm.MethodName)) ∈ lw_all := lw_g (lw_at lw_m3 19 rfl) rfl
theorem q636 : (Jvm.Cond.static ({ cls := "jdk/internal/util/ArraysSupport", name := "hugeLength", desc := "(II)I" } : Jvm.MethodName)) ∈ lw_all := lw_g (lw_at lw_m3 20 rfl) rfl
theorem q637 : (Jvm.Cond.code ({ cls := "jdk/internal/util/ArraysSupport", name := "hugeLength", desc := "(II)I" } : Jvm.MethodName) prog_48_method_28_code (3 : Nat) (Option.some Jvm.ClassFile.FieldType.int)) ∈ lw_all := lw_g (lw_at lw_m3 21 rfl) rfl
/-! java/util/Arrays -/
set_option maxRecDepth 100000
def RJ12 : String := "java/util/Arrays"
abbrev cJ12_copyOf : ByteArray := prog_42_method_119_code
def yJ12_copyOf : MethodName := ⟨RJ12, "copyOf", "([Ljava/lang/Object;I)[Ljava/lang/Object;"⟩
def dkwJ12_copyOf_0 : List UInt8 := [42, 27, 42, 182, 0, 86, 184, 1, 44, 176]
abbrev dktJ12_copyOf_0 : List UInt8 := dkwJ12_copyOf_0 ++ []
theorem dksJ12_copyOf_0 : cJ12_copyOf.data.toList.drop 0 = dktJ12_copyOf_0 := by decide +kernel
theorem dJ12_copyOf_0 : decode cJ12_copyOf 0 = .ok (.aload_n 0, 1) := dk_42 (dk_at dksJ12_copyOf_0 0 rfl rfl)
theorem dJ12_copyOf_1 : decode cJ12_copyOf 1 = .ok (.iload_n 1, 1) := dk_27 (dk_at dksJ12_copyOf_0 1 rfl rfl)
theorem dJ12_copyOf_2 : decode cJ12_copyOf 2 = .ok (.aload_n 0, 1) := dk_42 (dk_at dksJ12_copyOf_0 2 rfl rfl)
theorem dJ12_copyOf_3 : decode cJ12_copyOf 3 = .ok (.invokevirtual 86, 3) := dk_182 0 86 (dk_at dksJ12_copyOf_0 3 rfl rfl)
theorem dJ12_copyOf_6 : decode cJ12_copyOf 6 = .ok (.invokestatic 300, 3) := dk_184 1 44 (dk_at dksJ12_copyOf_0 6 rfl rfl)
theorem dJ12_copyOf_9 : decode cJ12_copyOf 9 = .ok (.areturn, 1) := dk_176 (dk_at dksJ12_copyOf_0 9 rfl rfl)
abbrev cJ12_copyOf_2 : ByteArray := prog_42_method_120_code
def yJ12_copyOf_2 : MethodName := ⟨RJ12, "copyOf", "([Ljava/lang/Object;ILjava/lang/Class;)[Ljava/lang/Object;"⟩
def dkwJ12_copyOf_2_1 : List UInt8 := [78, 42, 3, 45, 3, 42, 190, 27, 184, 1, 48, 184, 0, 150, 45, 176]
abbrev dktJ12_copyOf_2_1 : List UInt8 := dkwJ12_copyOf_2_1 ++ []
def dkwJ12_copyOf_2_0 : List UInt8 := [44, 18, 110, 166, 0, 10, 27, 189, 0, 2, 167, 0, 14, 44, 182, 0, 90, 27, 184, 0, 95, 192, 0, 110]
abbrev dktJ12_copyOf_2_0 : List UInt8 := dkwJ12_copyOf_2_0 ++ dktJ12_copyOf_2_1
theorem dksJ12_copyOf_2_0 : cJ12_copyOf_2.data.toList.drop 0 = dktJ12_copyOf_2_0 := by decide +kernel
theorem dksJ12_copyOf_2_1 : cJ12_copyOf_2.data.toList.drop 24 = dktJ12_copyOf_2_1 := dk_seg dksJ12_copyOf_2_0 24 rfl rfl
theorem dJ12_copyOf_2_0 : decode cJ12_copyOf_2 0 = .ok (.aload_n 2, 1) := dk_44 (dk_at dksJ12_copyOf_2_0 0 rfl rfl)
theorem dJ12_copyOf_2_1 : decode cJ12_copyOf_2 1 = .ok (.ldc 110, 2) := dk_18 110 (dk_at dksJ12_copyOf_2_0 1 rfl rfl)
theorem dJ12_copyOf_2_3 : decode cJ12_copyOf_2 3 = .ok (.if_acmp .ne 10, 3) := dk_166 0 10 (dk_at dksJ12_copyOf_2_0 3 rfl rfl)
theorem dJ12_copyOf_2_6 : decode cJ12_copyOf_2 6 = .ok (.iload_n 1, 1) := dk_27 (dk_at dksJ12_copyOf_2_0 6 rfl rfl)
theorem dJ12_copyOf_2_7 : decode cJ12_copyOf_2 7 = .ok (.anewarray 2, 3) := dk_189 0 2 (dk_at dksJ12_copyOf_2_0 7 rfl rfl)
theorem dJ12_copyOf_2_10 : decode cJ12_copyOf_2 10 = .ok (.goto 14, 3) := dk_167 0 14 (dk_at dksJ12_copyOf_2_0 10 rfl rfl)
theorem dJ12_copyOf_2_13 : decode cJ12_copyOf_2 13 = .ok (.aload_n 2, 1) := dk_44 (dk_at dksJ12_copyOf_2_0 13 rfl rfl)
theorem dJ12_copyOf_2_14 : decode cJ12_copyOf_2 14 = .ok (.invokevirtual 90, 3) := dk_182 0 90 (dk_at dksJ12_copyOf_2_0 14 rfl rfl)
theorem dJ12_copyOf_2_17 : decode cJ12_copyOf_2 17 = .ok (.iload_n 1, 1) := dk_27 (dk_at dksJ12_copyOf_2_0 17 rfl rfl)
theorem dJ12_copyOf_2_18 : decode cJ12_copyOf_2 18 = .ok (.invokestatic 95, 3) := dk_184 0 95 (dk_at dksJ12_copyOf_2_0 18 rfl rfl)
theorem dJ12_copyOf_2_21 : decode cJ12_copyOf_2 21 = .ok (.checkcast 110, 3) := dk_192 0 110 (dk_at dksJ12_copyOf_2_0 21 rfl rfl)
theorem dJ12_copyOf_2_24 : decode cJ12_copyOf_2 24 = .ok (.astore_n 3, 1) := dk_78 (dk_at dksJ12_copyOf_2_1 0 rfl rfl)
theorem dJ12_copyOf_2_25 : decode cJ12_copyOf_2 25 = .ok (.aload_n 0, 1) := dk_42 (dk_at dksJ12_copyOf_2_1 1 rfl rfl)
theorem dJ12_copyOf_2_26 : decode cJ12_copyOf_2 26 = .ok (.iconst 0, 1) := dk_3 (dk_at dksJ12_copyOf_2_1 2 rfl rfl)
theorem dJ12_copyOf_2_27 : decode cJ12_copyOf_2 27 = .ok (.aload_n 3, 1) := dk_45 (dk_at dksJ12_copyOf_2_1 3 rfl rfl)
theorem dJ12_copyOf_2_28 : decode cJ12_copyOf_2 28 = .ok (.iconst 0, 1) := dk_3 (dk_at dksJ12_copyOf_2_1 4 rfl rfl)
theorem dJ12_copyOf_2_29 : decode cJ12_copyOf_2 29 = .ok (.aload_n 0, 1) := dk_42 (dk_at dksJ12_copyOf_2_1 5 rfl rfl)
theorem dJ12_copyOf_2_30 : decode cJ12_copyOf_2 30 = .ok (.arraylength, 1) := dk_190 (dk_at dksJ12_copyOf_2_1 6 rfl rfl)
theorem dJ12_copyOf_2_31 : decode cJ12_copyOf_2 31 = .ok (.iload_n 1, 1) := dk_27 (dk_at dksJ12_copyOf_2_1 7 rfl rfl)
theorem dJ12_copyOf_2_32 : decode cJ12_copyOf_2 32 = .ok (.invokestatic 304, 3) := dk_184 1 48 (dk_at dksJ12_copyOf_2_1 8 rfl rfl)
theorem dJ12_copyOf_2_35 : decode cJ12_copyOf_2 35 = .ok (.invokestatic 150, 3) := dk_184 0 150 (dk_at dksJ12_copyOf_2_1 11 rfl rfl)
theorem dJ12_copyOf_2_38 : decode cJ12_copyOf_2 38 = .ok (.aload_n 3, 1) := dk_45 (dk_at dksJ12_copyOf_2_1 14 rfl rfl)
theorem dJ12_copyOf_2_39 : decode cJ12_copyOf_2 39 = .ok (.areturn, 1) := dk_176 (dk_at dksJ12_copyOf_2_1 15 rfl rfl)
theorem q158 : (Jvm.Cond.initialized "java/util/Arrays") ∈ lw_all := lw_g (lw_at lw_m1 22 rfl) rfl
theorem q639 : (Jvm.Cond.static ({ cls := "java/util/Arrays", name := "copyOf", desc := "([Ljava/lang/Object;I)[Ljava/lang/Object;" } : Jvm.MethodName)) ∈ lw_all := lw_g (lw_at lw_m3 23 rfl) rfl
theorem q640 : (Jvm.Cond.code ({ cls := "java/util/Arrays", name := "copyOf", desc := "([Ljava/lang/Object;I)[Ljava/lang/Object;" } : Jvm.MethodName) prog_42_method_119_code (2 : Nat) (Option.some (Jvm.ClassFile.FieldType.array (Jvm.ClassFile.FieldType.object "java/lang/Object")))) ∈ lw_all := lw_g (lw_at lw_m3 24 rfl) rfl
theorem q641 : (Jvm.Cond.methodLink "java/util/Arrays" (86 : Nat) ({ cls := "java/lang/Object", name := "getClass", desc := "()Ljava/lang/Class;" } : Jvm.MethodName)) ∈ lw_all := lw_g (lw_at lw_m3 25 rfl) rfl
theorem q664 : (Jvm.Cond.methodLink "java/util/Arrays" (300 : Nat) ({ cls := "java/util/Arrays", name := "copyOf", desc := "([Ljava/lang/Object;ILjava/lang/Class;)[Ljava/lang/Object;" } : Jvm.MethodName)) ∈ lw_all := lw_g (lw_at lw_m3 48 rfl) rfl
theorem q665 : (Jvm.Cond.static ({ cls := "java/util/Arrays", name := "copyOf", desc := "([Ljava/lang/Object;ILjava/lang/Class;)[Ljava/lang/Object;" } : Jvm.MethodName)) ∈ lw_all := lw_g (lw_at lw_m3 49 rfl) rfl
theorem q666 : (Jvm.Cond.code ({ cls := "java/util/Arrays", name := "copyOf", desc := "([Ljava/lang/Object;ILjava/lang/Class;)[Ljava/lang/Object;" } : Jvm.MethodName) prog_42_method_120_code (4 : Nat) (Option.some (Jvm.ClassFile.FieldType.array (Jvm.ClassFile.FieldType.object "java/lang/Object")))) ∈ lw_all := lw_g (lw_at lw_m3 50 rfl) rfl
theorem q667 : (Jvm.Cond.classLink "java/util/Arrays" (110 : Nat) "[Ljava/lang/Object;") ∈ lw_all := lw_g (lw_at lw_m3 51 rfl) rfl
theorem q669 : (Jvm.Cond.classLink "java/util/Arrays" (2 : Nat) "java/lang/Object") ∈ lw_all := lw_g (lw_at lw_m3 53 rfl) rfl
theorem q670 : (Jvm.Cond.methodLink "java/util/Arrays" (304 : Nat) ({ cls := "java/lang/Math", name := "min", desc := "(II)I" } : Jvm.MethodName)) ∈ lw_all := lw_g (lw_at lw_m3 54 rfl) rfl
theorem q671 : (Jvm.Cond.methodLink "java/util/Arrays" (150 : Nat) ({ cls := "java/lang/System", name := "arraycopy", desc := "(Ljava/lang/Object;ILjava/lang/Object;II)V" } : Jvm.MethodName)) ∈ lw_all := lw_g (lw_at lw_m3 55 rfl) rfl
/-! java/lang/Number -/
set_option maxRecDepth 100000
def RJ13 : String := "java/lang/Number"
abbrev cJ13_init : ByteArray := prog_30_method_1_code
def yJ13_init : MethodName := ⟨RJ13, "<init>", "()V"⟩
theorem dJ13_init_0 : decode cJ13_init 0 = .ok (.aload_n 0, 1) := by decide +kernel
theorem dJ13_init_1 : decode cJ13_init 1 = .ok (.invokespecial 1, 3) := by decide +kernel
theorem dJ13_init_4 : decode cJ13_init 4 = .ok (.return_, 1) := by decide +kernel
theorem q164 : (Jvm.Cond.initialized "java/lang/Number") ∈ lw_all := lw_g (lw_at lw_m1 28 rfl) rfl
theorem q774 : (Jvm.Cond.instanceMethod ({ cls := "java/lang/Number", name := "<init>", desc := "()V" } : Jvm.MethodName)) ∈ lw_all := lw_g (lw_at lw_m3 158 rfl) rfl
theorem q775 : (Jvm.Cond.code ({ cls := "java/lang/Number", name := "<init>", desc := "()V" } : Jvm.MethodName) prog_30_method_1_code (1 : Nat) (Option.none : Option Jvm.ClassFile.FieldType)) ∈ lw_all := lw_g (lw_at lw_m3 159 rfl) rfl
theorem q776 : (Jvm.Cond.methodLink "java/lang/Number" (1 : Nat) ({ cls := "java/lang/Object", name := "<init>", desc := "()V" } : Jvm.MethodName)) ∈ lw_all := lw_g (lw_at lw_m3 160 rfl) rfl
/-! java/lang/Integer -/
set_option maxRecDepth 100000
def RJ14 : String := "java/lang/Integer"
def TJ14 : u_T := fun k => match k with
  | _ => ("java/lang/Integer", "value", "I", true)
def tyJ14 : Nat → FieldType := fun k => match k with
  | _ => .int
abbrev wsJ140 : List Cond := u_ws RJ14 TJ14 1
theorem nmJ14 : ∀ a, a < 1 → ∀ b, b < 1 → a ≠ b → (TJ14 a).2.1 ≠ (TJ14 b).2.1 := by decide +kernel
theorem tyJ14_ok : ∀ k, k < 1 → parseFieldDescriptor (TJ14 k).2.2.1 = some (tyJ14 k) := by decide +kernel
abbrev cJ14_valueOf : ByteArray := prog_26_method_22_code
def yJ14_valueOf : MethodName := ⟨RJ14, "valueOf", "(I)Ljava/lang/Integer;"⟩
def dkwJ14_valueOf_1 : List UInt8 := [187, 0, 1, 89, 26, 183, 0, 199, 176]
abbrev dktJ14_valueOf_1 : List UInt8 := dkwJ14_valueOf_1 ++ []
def dkwJ14_valueOf_0 : List UInt8 := [26, 16, 128, 161, 0, 20, 26, 178, 0, 191, 163, 0, 13, 178, 0, 195, 26, 17, 0, 128, 96, 50, 176]
abbrev dktJ14_valueOf_0 : List UInt8 := dkwJ14_valueOf_0 ++ dktJ14_valueOf_1
theorem dksJ14_valueOf_0 : cJ14_valueOf.data.toList.drop 0 = dktJ14_valueOf_0 := by decide +kernel
theorem dksJ14_valueOf_1 : cJ14_valueOf.data.toList.drop 23 = dktJ14_valueOf_1 := dk_seg dksJ14_valueOf_0 23 rfl rfl
theorem dJ14_valueOf_0 : decode cJ14_valueOf 0 = .ok (.iload_n 0, 1) := dk_26 (dk_at dksJ14_valueOf_0 0 rfl rfl)
theorem dJ14_valueOf_1 : decode cJ14_valueOf 1 = .ok (.bipush (-128), 2) := dk_16 128 (dk_at dksJ14_valueOf_0 1 rfl rfl)
theorem dJ14_valueOf_3 : decode cJ14_valueOf 3 = .ok (.if_icmp .lt 20, 3) := dk_161 0 20 (dk_at dksJ14_valueOf_0 3 rfl rfl)
theorem dJ14_valueOf_6 : decode cJ14_valueOf 6 = .ok (.iload_n 0, 1) := dk_26 (dk_at dksJ14_valueOf_0 6 rfl rfl)
theorem dJ14_valueOf_7 : decode cJ14_valueOf 7 = .ok (.getstatic 191, 3) := dk_178 0 191 (dk_at dksJ14_valueOf_0 7 rfl rfl)
theorem dJ14_valueOf_10 : decode cJ14_valueOf 10 = .ok (.if_icmp .gt 13, 3) := dk_163 0 13 (dk_at dksJ14_valueOf_0 10 rfl rfl)
theorem dJ14_valueOf_13 : decode cJ14_valueOf 13 = .ok (.getstatic 195, 3) := dk_178 0 195 (dk_at dksJ14_valueOf_0 13 rfl rfl)
theorem dJ14_valueOf_16 : decode cJ14_valueOf 16 = .ok (.iload_n 0, 1) := dk_26 (dk_at dksJ14_valueOf_0 16 rfl rfl)
theorem dJ14_valueOf_17 : decode cJ14_valueOf 17 = .ok (.sipush 128, 3) := dk_17 0 128 (dk_at dksJ14_valueOf_0 17 rfl rfl)
theorem dJ14_valueOf_20 : decode cJ14_valueOf 20 = .ok (.iadd, 1) := dk_96 (dk_at dksJ14_valueOf_0 20 rfl rfl)
theorem dJ14_valueOf_21 : decode cJ14_valueOf 21 = .ok (.aaload, 1) := dk_50 (dk_at dksJ14_valueOf_0 21 rfl rfl)
theorem dJ14_valueOf_22 : decode cJ14_valueOf 22 = .ok (.areturn, 1) := dk_176 (dk_at dksJ14_valueOf_0 22 rfl rfl)
theorem dJ14_valueOf_23 : decode cJ14_valueOf 23 = .ok (.new 1, 3) := dk_187 0 1 (dk_at dksJ14_valueOf_1 0 rfl rfl)
theorem dJ14_valueOf_26 : decode cJ14_valueOf 26 = .ok (.dup, 1) := dk_89 (dk_at dksJ14_valueOf_1 3 rfl rfl)
theorem dJ14_valueOf_27 : decode cJ14_valueOf 27 = .ok (.iload_n 0, 1) := dk_26 (dk_at dksJ14_valueOf_1 4 rfl rfl)
theorem dJ14_valueOf_28 : decode cJ14_valueOf 28 = .ok (.invokespecial 199, 3) := dk_183 0 199 (dk_at dksJ14_valueOf_1 5 rfl rfl)
theorem dJ14_valueOf_31 : decode cJ14_valueOf 31 = .ok (.areturn, 1) := dk_176 (dk_at dksJ14_valueOf_1 8 rfl rfl)
abbrev cJ14_init : ByteArray := prog_26_method_23_code
def yJ14_init : MethodName := ⟨RJ14, "<init>", "(I)V"⟩
def dkwJ14_init_0 : List UInt8 := [42, 183, 0, 202, 42, 27, 181, 0, 205, 177]
abbrev dktJ14_init_0 : List UInt8 := dkwJ14_init_0 ++ []
theorem dksJ14_init_0 : cJ14_init.data.toList.drop 0 = dktJ14_init_0 := by decide +kernel
theorem dJ14_init_0 : decode cJ14_init 0 = .ok (.aload_n 0, 1) := dk_42 (dk_at dksJ14_init_0 0 rfl rfl)
theorem dJ14_init_1 : decode cJ14_init 1 = .ok (.invokespecial 202, 3) := dk_183 0 202 (dk_at dksJ14_init_0 1 rfl rfl)
theorem dJ14_init_4 : decode cJ14_init 4 = .ok (.aload_n 0, 1) := dk_42 (dk_at dksJ14_init_0 4 rfl rfl)
theorem dJ14_init_5 : decode cJ14_init 5 = .ok (.iload_n 1, 1) := dk_27 (dk_at dksJ14_init_0 5 rfl rfl)
theorem dJ14_init_6 : decode cJ14_init 6 = .ok (.putfield 205, 3) := dk_181 0 205 (dk_at dksJ14_init_0 6 rfl rfl)
theorem dJ14_init_9 : decode cJ14_init 9 = .ok (.return_, 1) := dk_177 (dk_at dksJ14_init_0 9 rfl rfl)
abbrev cJ14_intValue : ByteArray := prog_26_method_27_code
def yJ14_intValue : MethodName := ⟨RJ14, "intValue", "()I"⟩
theorem dJ14_intValue_0 : decode cJ14_intValue 0 = .ok (.aload_n 0, 1) := by decide +kernel
theorem dJ14_intValue_1 : decode cJ14_intValue 1 = .ok (.getfield 205, 3) := by decide +kernel
theorem dJ14_intValue_4 : decode cJ14_intValue 4 = .ok (.ireturn, 1) := by decide +kernel
abbrev cJ14_bitCount : ByteArray := prog_26_method_49_code
def yJ14_bitCount : MethodName := ⟨RJ14, "bitCount", "(I)I"⟩
def dkwJ14_bitCount_2 : List UInt8 := [26, 16, 63, 126, 172]
abbrev dktJ14_bitCount_2 : List UInt8 := dkwJ14_bitCount_2 ++ []
def dkwJ14_bitCount_1 : List UInt8 := [26, 26, 7, 124, 96, 19, 1, 11, 126, 59, 26, 26, 16, 8, 124, 96, 59, 26, 26, 16, 16, 124, 96, 59]
abbrev dktJ14_bitCount_1 : List UInt8 := dkwJ14_bitCount_1 ++ dktJ14_bitCount_2
def dkwJ14_bitCount_0 : List UInt8 := [26, 26, 4, 124, 19, 1, 9, 126, 100, 59, 26, 19, 1, 10, 126, 26, 5, 124, 19, 1, 10, 126, 96, 59]
abbrev dktJ14_bitCount_0 : List UInt8 := dkwJ14_bitCount_0 ++ dktJ14_bitCount_1
theorem dksJ14_bitCount_0 : cJ14_bitCount.data.toList.drop 0 = dktJ14_bitCount_0 := by decide +kernel
theorem dksJ14_bitCount_1 : cJ14_bitCount.data.toList.drop 24 = dktJ14_bitCount_1 := dk_seg dksJ14_bitCount_0 24 rfl rfl
theorem dksJ14_bitCount_2 : cJ14_bitCount.data.toList.drop 48 = dktJ14_bitCount_2 := dk_seg dksJ14_bitCount_1 24 rfl rfl
theorem dJ14_bitCount_0 : decode cJ14_bitCount 0 = .ok (.iload_n 0, 1) := dk_26 (dk_at dksJ14_bitCount_0 0 rfl rfl)
theorem dJ14_bitCount_1 : decode cJ14_bitCount 1 = .ok (.iload_n 0, 1) := dk_26 (dk_at dksJ14_bitCount_0 1 rfl rfl)
theorem dJ14_bitCount_2 : decode cJ14_bitCount 2 = .ok (.iconst 1, 1) := dk_4 (dk_at dksJ14_bitCount_0 2 rfl rfl)
theorem dJ14_bitCount_3 : decode cJ14_bitCount 3 = .ok (.iushr, 1) := dk_124 (dk_at dksJ14_bitCount_0 3 rfl rfl)
theorem dJ14_bitCount_4 : decode cJ14_bitCount 4 = .ok (.ldc_w 265, 3) := dk_19 1 9 (dk_at dksJ14_bitCount_0 4 rfl rfl)
theorem dJ14_bitCount_7 : decode cJ14_bitCount 7 = .ok (.iand, 1) := dk_126 (dk_at dksJ14_bitCount_0 7 rfl rfl)
theorem dJ14_bitCount_8 : decode cJ14_bitCount 8 = .ok (.isub, 1) := dk_100 (dk_at dksJ14_bitCount_0 8 rfl rfl)
theorem dJ14_bitCount_9 : decode cJ14_bitCount 9 = .ok (.istore_n 0, 1) := dk_59 (dk_at dksJ14_bitCount_0 9 rfl rfl)
theorem dJ14_bitCount_10 : decode cJ14_bitCount 10 = .ok (.iload_n 0, 1) := dk_26 (dk_at dksJ14_bitCount_0 10 rfl rfl)
theorem dJ14_bitCount_11 : decode cJ14_bitCount 11 = .ok (.ldc_w 266, 3) := dk_19 1 10 (dk_at dksJ14_bitCount_0 11 rfl rfl)
theorem dJ14_bitCount_14 : decode cJ14_bitCount 14 = .ok (.iand, 1) := dk_126 (dk_at dksJ14_bitCount_0 14 rfl rfl)
theorem dJ14_bitCount_15 : decode cJ14_bitCount 15 = .ok (.iload_n 0, 1) := dk_26 (dk_at dksJ14_bitCount_0 15 rfl rfl)
theorem dJ14_bitCount_16 : decode cJ14_bitCount 16 = .ok (.iconst 2, 1) := dk_5 (dk_at dksJ14_bitCount_0 16 rfl rfl)
theorem dJ14_bitCount_17 : decode cJ14_bitCount 17 = .ok (.iushr, 1) := dk_124 (dk_at dksJ14_bitCount_0 17 rfl rfl)
theorem dJ14_bitCount_18 : decode cJ14_bitCount 18 = .ok (.ldc_w 266, 3) := dk_19 1 10 (dk_at dksJ14_bitCount_0 18 rfl rfl)
theorem dJ14_bitCount_21 : decode cJ14_bitCount 21 = .ok (.iand, 1) := dk_126 (dk_at dksJ14_bitCount_0 21 rfl rfl)
theorem dJ14_bitCount_22 : decode cJ14_bitCount 22 = .ok (.iadd, 1) := dk_96 (dk_at dksJ14_bitCount_0 22 rfl rfl)
theorem dJ14_bitCount_23 : decode cJ14_bitCount 23 = .ok (.istore_n 0, 1) := dk_59 (dk_at dksJ14_bitCount_0 23 rfl rfl)
theorem dJ14_bitCount_24 : decode cJ14_bitCount 24 = .ok (.iload_n 0, 1) := dk_26 (dk_at dksJ14_bitCount_1 0 rfl rfl)
theorem dJ14_bitCount_25 : decode cJ14_bitCount 25 = .ok (.iload_n 0, 1) := dk_26 (dk_at dksJ14_bitCount_1 1 rfl rfl)
theorem dJ14_bitCount_26 : decode cJ14_bitCount 26 = .ok (.iconst 4, 1) := dk_7 (dk_at dksJ14_bitCount_1 2 rfl rfl)
theorem dJ14_bitCount_27 : decode cJ14_bitCount 27 = .ok (.iushr, 1) := dk_124 (dk_at dksJ14_bitCount_1 3 rfl rfl)
theorem dJ14_bitCount_28 : decode cJ14_bitCount 28 = .ok (.iadd, 1) := dk_96 (dk_at dksJ14_bitCount_1 4 rfl rfl)
theorem dJ14_bitCount_29 : decode cJ14_bitCount 29 = .ok (.ldc_w 267, 3) := dk_19 1 11 (dk_at dksJ14_bitCount_1 5 rfl rfl)
theorem dJ14_bitCount_32 : decode cJ14_bitCount 32 = .ok (.iand, 1) := dk_126 (dk_at dksJ14_bitCount_1 8 rfl rfl)
theorem dJ14_bitCount_33 : decode cJ14_bitCount 33 = .ok (.istore_n 0, 1) := dk_59 (dk_at dksJ14_bitCount_1 9 rfl rfl)
theorem dJ14_bitCount_34 : decode cJ14_bitCount 34 = .ok (.iload_n 0, 1) := dk_26 (dk_at dksJ14_bitCount_1 10 rfl rfl)
theorem dJ14_bitCount_35 : decode cJ14_bitCount 35 = .ok (.iload_n 0, 1) := dk_26 (dk_at dksJ14_bitCount_1 11 rfl rfl)
theorem dJ14_bitCount_36 : decode cJ14_bitCount 36 = .ok (.bipush 8, 2) := dk_16 8 (dk_at dksJ14_bitCount_1 12 rfl rfl)
theorem dJ14_bitCount_38 : decode cJ14_bitCount 38 = .ok (.iushr, 1) := dk_124 (dk_at dksJ14_bitCount_1 14 rfl rfl)
theorem dJ14_bitCount_39 : decode cJ14_bitCount 39 = .ok (.iadd, 1) := dk_96 (dk_at dksJ14_bitCount_1 15 rfl rfl)
theorem dJ14_bitCount_40 : decode cJ14_bitCount 40 = .ok (.istore_n 0, 1) := dk_59 (dk_at dksJ14_bitCount_1 16 rfl rfl)
theorem dJ14_bitCount_41 : decode cJ14_bitCount 41 = .ok (.iload_n 0, 1) := dk_26 (dk_at dksJ14_bitCount_1 17 rfl rfl)
theorem dJ14_bitCount_42 : decode cJ14_bitCount 42 = .ok (.iload_n 0, 1) := dk_26 (dk_at dksJ14_bitCount_1 18 rfl rfl)
theorem dJ14_bitCount_43 : decode cJ14_bitCount 43 = .ok (.bipush 16, 2) := dk_16 16 (dk_at dksJ14_bitCount_1 19 rfl rfl)
theorem dJ14_bitCount_45 : decode cJ14_bitCount 45 = .ok (.iushr, 1) := dk_124 (dk_at dksJ14_bitCount_1 21 rfl rfl)
theorem dJ14_bitCount_46 : decode cJ14_bitCount 46 = .ok (.iadd, 1) := dk_96 (dk_at dksJ14_bitCount_1 22 rfl rfl)
theorem dJ14_bitCount_47 : decode cJ14_bitCount 47 = .ok (.istore_n 0, 1) := dk_59 (dk_at dksJ14_bitCount_1 23 rfl rfl)
theorem dJ14_bitCount_48 : decode cJ14_bitCount 48 = .ok (.iload_n 0, 1) := dk_26 (dk_at dksJ14_bitCount_2 0 rfl rfl)
theorem dJ14_bitCount_49 : decode cJ14_bitCount 49 = .ok (.bipush 63, 2) := dk_16 63 (dk_at dksJ14_bitCount_2 1 rfl rfl)
theorem dJ14_bitCount_51 : decode cJ14_bitCount 51 = .ok (.iand, 1) := dk_126 (dk_at dksJ14_bitCount_2 3 rfl rfl)
theorem dJ14_bitCount_52 : decode cJ14_bitCount 52 = .ok (.ireturn, 1) := dk_172 (dk_at dksJ14_bitCount_2 4 rfl rfl)
theorem q165 : (Jvm.Cond.initialized "java/lang/Integer") ∈ lw_all := lw_g (lw_at lw_m1 29 rfl) rfl
theorem q661 : (Jvm.Cond.selects "java/lang/Integer" ({ cls := "java/lang/Object", name := "getClass", desc := "()Ljava/lang/Class;" } : Jvm.MethodName) ({ cls := "java/lang/Object", name := "getClass", desc := "()Ljava/lang/Class;" } : Jvm.MethodName)) ∈ lw_all := lw_g (lw_at lw_m3 45 rfl) rfl
theorem q762 : (Jvm.Cond.static ({ cls := "java/lang/Integer", name := "valueOf", desc := "(I)Ljava/lang/Integer;" } : Jvm.MethodName)) ∈ lw_all := lw_g (lw_at lw_m3 146 rfl) rfl
theorem q763 : (Jvm.Cond.code ({ cls := "java/lang/Integer", name := "valueOf", desc := "(I)Ljava/lang/Integer;" } : Jvm.MethodName) prog_26_method_22_code (1 : Nat) (Option.some (Jvm.ClassFile.FieldType.object "java/lang/Integer"))) ∈ lw_all := lw_g (lw_at lw_m3 147 rfl) rfl
theorem q764 : (Jvm.Cond.fieldLink "java/lang/Integer" (191 : Nat) "java/lang/Integer$IntegerCache" "high" "I") ∈ lw_all := lw_g (lw_at lw_m3 148 rfl) rfl
theorem q766 : (Jvm.Cond.fieldLink "java/lang/Integer" (195 : Nat) "java/lang/Integer$IntegerCache" "cache" "[Ljava/lang/Integer;") ∈ lw_all := lw_g (lw_at lw_m3 150 rfl) rfl
theorem q768 : (Jvm.Cond.classLink "java/lang/Integer" (1 : Nat) "java/lang/Integer") ∈ lw_all := lw_g (lw_at lw_m3 152 rfl) rfl
theorem q769 : (Jvm.Cond.instantiable "java/lang/Integer" (1 : Nat)) ∈ lw_all := lw_g (lw_at lw_m3 153 rfl) rfl
theorem q770 : (Jvm.Cond.methodLink "java/lang/Integer" (199 : Nat) ({ cls := "java/lang/Integer", name := "<init>", desc := "(I)V" } : Jvm.MethodName)) ∈ lw_all := lw_g (lw_at lw_m3 154 rfl) rfl
theorem q771 : (Jvm.Cond.instanceMethod ({ cls := "java/lang/Integer", name := "<init>", desc := "(I)V" } : Jvm.MethodName)) ∈ lw_all := lw_g (lw_at lw_m3 155 rfl) rfl
theorem q772 : (Jvm.Cond.code ({ cls := "java/lang/Integer", name := "<init>", desc := "(I)V" } : Jvm.MethodName) prog_26_method_23_code (2 : Nat) (Option.none : Option Jvm.ClassFile.FieldType)) ∈ lw_all := lw_g (lw_at lw_m3 156 rfl) rfl
theorem q773 : (Jvm.Cond.methodLink "java/lang/Integer" (202 : Nat) ({ cls := "java/lang/Number", name := "<init>", desc := "()V" } : Jvm.MethodName)) ∈ lw_all := lw_g (lw_at lw_m3 157 rfl) rfl
theorem q777 : (Jvm.Cond.fieldLink "java/lang/Integer" (205 : Nat) "java/lang/Integer" "value" "I") ∈ lw_all := lw_g (lw_at lw_m3 161 rfl) rfl
theorem q778 : (Jvm.Cond.laysFinal "java/lang/Integer" "java/lang/Integer" "value" "I") ∈ lw_all := lw_g (lw_at lw_m3 162 rfl) rfl
theorem q779 : (Jvm.Cond.soleField "java/lang/Integer" "value") ∈ lw_all := lw_g (lw_at lw_m3 163 rfl) rfl
theorem q780 : (Jvm.Cond.superclass "java/lang/Integer" "java/lang/Number") ∈ lw_all := lw_g (lw_at lw_m3 164 rfl) rfl
theorem q986 : (Jvm.Cond.instanceMethod ({ cls := "java/lang/Integer", name := "intValue", desc := "()I" } : Jvm.MethodName)) ∈ lw_all := lw_g (lw_at lw_m4 130 rfl) rfl
theorem q987 : (Jvm.Cond.selects "java/lang/Integer" ({ cls := "java/lang/Integer", name := "intValue", desc := "()I" } : Jvm.MethodName) ({ cls := "java/lang/Integer", name := "intValue", desc := "()I" } : Jvm.MethodName)) ∈ lw_all := lw_g (lw_at lw_m4 131 rfl) rfl
theorem q988 : (Jvm.Cond.code ({ cls := "java/lang/Integer", name := "intValue", desc := "()I" } : Jvm.MethodName) prog_26_method_27_code (1 : Nat) (Option.some Jvm.ClassFile.FieldType.int)) ∈ lw_all := lw_g (lw_at lw_m4 132 rfl) rfl
theorem q1036 : (Jvm.Cond.static ({ cls := "java/lang/Integer", name := "bitCount", desc := "(I)I" } : Jvm.MethodName)) ∈ lw_all := lw_g (lw_at lw_m4 180 rfl) rfl
theorem q1037 : (Jvm.Cond.code ({ cls := "java/lang/Integer", name := "bitCount", desc := "(I)I" } : Jvm.MethodName) prog_26_method_49_code (1 : Nat) (Option.some Jvm.ClassFile.FieldType.int)) ∈ lw_all := lw_g (lw_at lw_m4 181 rfl) rfl
theorem q1038 : (Jvm.Cond.constant "java/lang/Integer" (265 : Nat) (1431655765 : Int32)) ∈ lw_all := lw_g (lw_at lw_m4 182 rfl) rfl
theorem q1039 : (Jvm.Cond.constant "java/lang/Integer" (266 : Nat) (858993459 : Int32)) ∈ lw_all := lw_g (lw_at lw_m4 183 rfl) rfl
theorem q1040 : (Jvm.Cond.constant "java/lang/Integer" (267 : Nat) (252645135 : Int32)) ∈ lw_all := lw_g (lw_at lw_m4 184 rfl) rfl
theorem q2041 : (Jvm.Cond.castable "java/lang/Integer" "java/lang/Object") ∈ lw_tbl := lw_at lw_m8 225 rfl
theorem in_J14 : ∀ w ∈ wsJ140, w ∈ lw_all := lw_in wsJ140 [778] (by decide +kernel) (by decide +kernel)
/-! java/util/Objects -/
set_option maxRecDepth 100000
def RJ15 : String := "java/util/Objects"
abbrev cJ15_checkIndex : ByteArray := prog_45_method_17_code
def yJ15_checkIndex : MethodName := ⟨RJ15, "checkIndex", "(II)I"⟩
def dkwJ15_checkIndex_0 : List UInt8 := [26, 27, 1, 184, 0, 105, 172]
abbrev dktJ15_checkIndex_0 : List UInt8 := dkwJ15_checkIndex_0 ++ []
theorem dksJ15_checkIndex_0 : cJ15_checkIndex.data.toList.drop 0 = dktJ15_checkIndex_0 := by decide +kernel
theorem dJ15_checkIndex_0 : decode cJ15_checkIndex 0 = .ok (.iload_n 0, 1) := dk_26 (dk_at dksJ15_checkIndex_0 0 rfl rfl)
theorem dJ15_checkIndex_1 : decode cJ15_checkIndex 1 = .ok (.iload_n 1, 1) := dk_27 (dk_at dksJ15_checkIndex_0 1 rfl rfl)
theorem dJ15_checkIndex_2 : decode cJ15_checkIndex 2 = .ok (.aconst_null, 1) := dk_1 (dk_at dksJ15_checkIndex_0 2 rfl rfl)
theorem dJ15_checkIndex_3 : decode cJ15_checkIndex 3 = .ok (.invokestatic 105, 3) := dk_184 0 105 (dk_at dksJ15_checkIndex_0 3 rfl rfl)
theorem dJ15_checkIndex_6 : decode cJ15_checkIndex 6 = .ok (.ireturn, 1) := dk_172 (dk_at dksJ15_checkIndex_0 6 rfl rfl)
theorem q168 : (Jvm.Cond.initialized "java/util/Objects") ∈ lw_all := lw_g (lw_at lw_m1 32 rfl) rfl
theorem q811 : (Jvm.Cond.static ({ cls := "java/util/Objects", name := "checkIndex", desc := "(II)I" } : Jvm.MethodName)) ∈ lw_all := lw_g (lw_at lw_m3 195 rfl) rfl
theorem q812 : (Jvm.Cond.code ({ cls := "java/util/Objects", name := "checkIndex", desc := "(II)I" } : Jvm.MethodName) prog_45_method_17_code (2 : Nat) (Option.some Jvm.ClassFile.FieldType.int)) ∈ lw_all := lw_g (lw_at lw_m3 196 rfl) rfl
theorem q813 : (Jvm.Cond.methodLink "java/util/Objects" (105 : Nat) ({ cls := "jdk/internal/util/Preconditions", name := "checkIndex", desc := "(IILjava/util/function/BiFunction;)I" } : Jvm.MethodName)) ∈ lw_all := lw_g (lw_at lw_m3 197 rfl) rfl
/-! java/lang/Object -/
set_option maxRecDepth 100000
def RJ16 : String := "java/lang/Object"
abbrev cJ16_init : ByteArray := object_method_1_code
def yJ16_init : MethodName := ⟨RJ16, "<init>", "()V"⟩
theorem dJ16_init_0 : decode cJ16_init 0 = .ok (.return_, 1) := by decide +kernel
theorem q178 : (Jvm.Cond.instanceMethod ({ cls := "java/lang/Object", name := "<init>", desc := "()V" } : Jvm.MethodName)) ∈ lw_all := lw_g (lw_at lw_m1 42 rfl) rfl
theorem q179 : (Jvm.Cond.code ({ cls := "java/lang/Object", name := "<init>", desc := "()V" } : Jvm.MethodName) object_method_1_code (1 : Nat) (Option.none : Option Jvm.ClassFile.FieldType)) ∈ lw_all := lw_g (lw_at lw_m1 43 rfl) rfl
theorem q642 : (Jvm.Cond.instanceMethod ({ cls := "java/lang/Object", name := "getClass", desc := "()Ljava/lang/Class;" } : Jvm.MethodName)) ∈ lw_all := lw_g (lw_at lw_m3 26 rfl) rfl
theorem q643 : (Jvm.Cond.sameMethod "java/lang/Object" "java/lang/Object" "getClass" "()Ljava/lang/Class;") ∈ lw_all := lw_g (lw_at lw_m3 27 rfl) rfl
theorem q663 : (Jvm.Cond.native ({ cls := "java/lang/Object", name := "getClass", desc := "()Ljava/lang/Class;" } : Jvm.MethodName)) ∈ lw_all := lw_g (lw_at lw_m3 47 rfl) rfl
theorem q2024 : (Jvm.Cond.initialized "java/lang/Object") ∈ lw_all := lw_g (lw_at lw_m8 208 rfl) rfl
theorem q2049 : (Jvm.Cond.declares ({ cls := "java/lang/Object", name := "getClass", desc := "()Ljava/lang/Class;" } : Jvm.MethodName)) ∈ lw_tbl := lw_at lw_m8 233 rfl
/-! java/util/ArrayList -/
set_option maxRecDepth 100000
def RJ2 : String := "java/util/ArrayList"
def TJ2 : u_T := fun k => match k with
  | 0 => ("java/util/AbstractList", "modCount", "I", false)
  | 1 => ("java/util/ArrayList", "elementData", "[Ljava/lang/Object;", false)
  | _ => ("java/util/ArrayList", "size", "I", false)
def tyJ2 : Nat → FieldType := fun k => match k with
  | 0 => .int
  | 1 => .array (.object "java/lang/Object")
  | _ => .int
abbrev wsJ20 : List Cond := u_ws RJ2 TJ2 3
theorem nmJ2 : ∀ a, a < 3 → ∀ b, b < 3 → a ≠ b → (TJ2 a).2.1 ≠ (TJ2 b).2.1 := by decide +kernel
theorem tyJ2_ok : ∀ k, k < 3 → parseFieldDescriptor (TJ2 k).2.2.1 = some (tyJ2 k) := by decide +kernel
abbrev cJ2_init : ByteArray := prog_41_method_2_code
def yJ2_init : MethodName := ⟨RJ2, "<init>", "()V"⟩
def dkwJ2_init_0 : List UInt8 := [42, 183, 0, 1, 42, 178, 0, 39, 181, 0, 9, 177]
abbrev dktJ2_init_0 : List UInt8 := dkwJ2_init_0 ++ []
theorem dksJ2_init_0 : cJ2_init.data.toList.drop 0 = dktJ2_init_0 := by decide +kernel
theorem dJ2_init_0 : decode cJ2_init 0 = .ok (.aload_n 0, 1) := dk_42 (dk_at dksJ2_init_0 0 rfl rfl)
theorem dJ2_init_1 : decode cJ2_init 1 = .ok (.invokespecial 1, 3) := dk_183 0 1 (dk_at dksJ2_init_0 1 rfl rfl)
theorem dJ2_init_4 : decode cJ2_init 4 = .ok (.aload_n 0, 1) := dk_42 (dk_at dksJ2_init_0 4 rfl rfl)
theorem dJ2_init_5 : decode cJ2_init 5 = .ok (.getstatic 39, 3) := dk_178 0 39 (dk_at dksJ2_init_0 5 rfl rfl)
theorem dJ2_init_8 : decode cJ2_init 8 = .ok (.putfield 9, 3) := dk_181 0 9 (dk_at dksJ2_init_0 8 rfl rfl)
theorem dJ2_init_11 : decode cJ2_init 11 = .ok (.return_, 1) := dk_177 (dk_at dksJ2_init_0 11 rfl rfl)
abbrev cJ2_add : ByteArray := prog_41_method_25_code
def yJ2_add : MethodName := ⟨RJ2, "add", "(Ljava/lang/Object;)Z"⟩
def dkwJ2_add_1 : List UInt8 := [172]
abbrev dktJ2_add_1 : List UInt8 := dkwJ2_add_1 ++ []
def dkwJ2_add_0 : List UInt8 := [42, 89, 180, 0, 63, 4, 96, 181, 0, 63, 42, 43, 42, 180, 0, 9, 42, 180, 0, 48, 182, 0, 131, 4]
abbrev dktJ2_add_0 : List UInt8 := dkwJ2_add_0 ++ dktJ2_add_1
theorem dksJ2_add_0 : cJ2_add.data.toList.drop 0 = dktJ2_add_0 := by decide +kernel
theorem dksJ2_add_1 : cJ2_add.data.toList.drop 24 = dktJ2_add_1 := dk_seg dksJ2_add_0 24 rfl rfl
theorem dJ2_add_0 : decode cJ2_add 0 = .ok (.aload_n 0, 1) := dk_42 (dk_at dksJ2_add_0 0 rfl rfl)
theorem dJ2_add_1 : decode cJ2_add 1 = .ok (.dup, 1) := dk_89 (dk_at dksJ2_add_0 1 rfl rfl)
theorem dJ2_add_2 : decode cJ2_add 2 = .ok (.getfield 63, 3) := dk_180 0 63 (dk_at dksJ2_add_0 2 rfl rfl)
theorem dJ2_add_5 : decode cJ2_add 5 = .ok (.iconst 1, 1) := dk_4 (dk_at dksJ2_add_0 5 rfl rfl)
theorem dJ2_add_6 : decode cJ2_add 6 = .ok (.iadd, 1) := dk_96 (dk_at dksJ2_add_0 6 rfl rfl)
theorem dJ2_add_7 : decode cJ2_add 7 = .ok (.putfield 63, 3) := dk_181 0 63 (dk_at dksJ2_add_0 7 rfl rfl)
theorem dJ2_add_10 : decode cJ2_add 10 = .ok (.aload_n 0, 1) := dk_42 (dk_at dksJ2_add_0 10 rfl rfl)
theorem dJ2_add_11 : decode cJ2_add 11 = .ok (.aload_n 1, 1) := dk_43 (dk_at dksJ2_add_0 11 rfl rfl)
theorem dJ2_add_12 : decode cJ2_add 12 = .ok (.aload_n 0, 1) := dk_42 (dk_at dksJ2_add_0 12 rfl rfl)
theorem dJ2_add_13 : decode cJ2_add 13 = .ok (.getfield 9, 3) := dk_180 0 9 (dk_at dksJ2_add_0 13 rfl rfl)
theorem dJ2_add_16 : decode cJ2_add 16 = .ok (.aload_n 0, 1) := dk_42 (dk_at dksJ2_add_0 16 rfl rfl)
theorem dJ2_add_17 : decode cJ2_add 17 = .ok (.getfield 48, 3) := dk_180 0 48 (dk_at dksJ2_add_0 17 rfl rfl)
theorem dJ2_add_20 : decode cJ2_add 20 = .ok (.invokevirtual 131, 3) := dk_182 0 131 (dk_at dksJ2_add_0 20 rfl rfl)
theorem dJ2_add_23 : decode cJ2_add 23 = .ok (.iconst 1, 1) := dk_4 (dk_at dksJ2_add_0 23 rfl rfl)
theorem dJ2_add_24 : decode cJ2_add 24 = .ok (.ireturn, 1) := dk_172 (dk_at dksJ2_add_1 0 rfl rfl)
abbrev cJ2_add_2 : ByteArray := prog_41_method_24_code
def yJ2_add_2 : MethodName := ⟨RJ2, "add", "(Ljava/lang/Object;[Ljava/lang/Object;I)V"⟩
def dkwJ2_add_2_0 : List UInt8 := [29, 44, 190, 160, 0, 8, 42, 182, 0, 129, 77, 44, 29, 43, 83, 42, 29, 4, 96, 181, 0, 48, 177]
abbrev dktJ2_add_2_0 : List UInt8 := dkwJ2_add_2_0 ++ []
theorem dksJ2_add_2_0 : cJ2_add_2.data.toList.drop 0 = dktJ2_add_2_0 := by decide +kernel
theorem dJ2_add_2_0 : decode cJ2_add_2 0 = .ok (.iload_n 3, 1) := dk_29 (dk_at dksJ2_add_2_0 0 rfl rfl)
theorem dJ2_add_2_1 : decode cJ2_add_2 1 = .ok (.aload_n 2, 1) := dk_44 (dk_at dksJ2_add_2_0 1 rfl rfl)
theorem dJ2_add_2_2 : decode cJ2_add_2 2 = .ok (.arraylength, 1) := dk_190 (dk_at dksJ2_add_2_0 2 rfl rfl)
theorem dJ2_add_2_3 : decode cJ2_add_2 3 = .ok (.if_icmp .ne 8, 3) := dk_160 0 8 (dk_at dksJ2_add_2_0 3 rfl rfl)
theorem dJ2_add_2_6 : decode cJ2_add_2 6 = .ok (.aload_n 0, 1) := dk_42 (dk_at dksJ2_add_2_0 6 rfl rfl)
theorem dJ2_add_2_7 : decode cJ2_add_2 7 = .ok (.invokevirtual 129, 3) := dk_182 0 129 (dk_at dksJ2_add_2_0 7 rfl rfl)
theorem dJ2_add_2_10 : decode cJ2_add_2 10 = .ok (.astore_n 2, 1) := dk_77 (dk_at dksJ2_add_2_0 10 rfl rfl)
theorem dJ2_add_2_11 : decode cJ2_add_2 11 = .ok (.aload_n 2, 1) := dk_44 (dk_at dksJ2_add_2_0 11 rfl rfl)
theorem dJ2_add_2_12 : decode cJ2_add_2 12 = .ok (.iload_n 3, 1) := dk_29 (dk_at dksJ2_add_2_0 12 rfl rfl)
theorem dJ2_add_2_13 : decode cJ2_add_2 13 = .ok (.aload_n 1, 1) := dk_43 (dk_at dksJ2_add_2_0 13 rfl rfl)
theorem dJ2_add_2_14 : decode cJ2_add_2 14 = .ok (.aastore, 1) := dk_83 (dk_at dksJ2_add_2_0 14 rfl rfl)
theorem dJ2_add_2_15 : decode cJ2_add_2 15 = .ok (.aload_n 0, 1) := dk_42 (dk_at dksJ2_add_2_0 15 rfl rfl)
theorem dJ2_add_2_16 : decode cJ2_add_2 16 = .ok (.iload_n 3, 1) := dk_29 (dk_at dksJ2_add_2_0 16 rfl rfl)
theorem dJ2_add_2_17 : decode cJ2_add_2 17 = .ok (.iconst 1, 1) := dk_4 (dk_at dksJ2_add_2_0 17 rfl rfl)
theorem dJ2_add_2_18 : decode cJ2_add_2 18 = .ok (.iadd, 1) := dk_96 (dk_at dksJ2_add_2_0 18 rfl rfl)
theorem dJ2_add_2_19 : decode cJ2_add_2 19 = .ok (.putfield 48, 3) := dk_181 0 48 (dk_at dksJ2_add_2_0 19 rfl rfl)
theorem dJ2_add_2_22 : decode cJ2_add_2 22 = .ok (.return_, 1) := dk_177 (dk_at dksJ2_add_2_0 22 rfl rfl)
abbrev cJ2_grow : ByteArray := prog_41_method_7_code
def yJ2_grow : MethodName := ⟨RJ2, "grow", "()[Ljava/lang/Object;"⟩
def dkwJ2_grow_0 : List UInt8 := [42, 42, 180, 0, 48, 4, 96, 182, 0, 69, 176]
abbrev dktJ2_grow_0 : List UInt8 := dkwJ2_grow_0 ++ []
theorem dksJ2_grow_0 : cJ2_grow.data.toList.drop 0 = dktJ2_grow_0 := by decide +kernel
theorem dJ2_grow_0 : decode cJ2_grow 0 = .ok (.aload_n 0, 1) := dk_42 (dk_at dksJ2_grow_0 0 rfl rfl)
theorem dJ2_grow_1 : decode cJ2_grow 1 = .ok (.aload_n 0, 1) := dk_42 (dk_at dksJ2_grow_0 1 rfl rfl)
theorem dJ2_grow_2 : decode cJ2_grow 2 = .ok (.getfield 48, 3) := dk_180 0 48 (dk_at dksJ2_grow_0 2 rfl rfl)
theorem dJ2_grow_5 : decode cJ2_grow 5 = .ok (.iconst 1, 1) := dk_4 (dk_at dksJ2_grow_0 5 rfl rfl)
theorem dJ2_grow_6 : decode cJ2_grow 6 = .ok (.iadd, 1) := dk_96 (dk_at dksJ2_grow_0 6 rfl rfl)
theorem dJ2_grow_7 : decode cJ2_grow 7 = .ok (.invokevirtual 69, 3) := dk_182 0 69 (dk_at dksJ2_grow_0 7 rfl rfl)
theorem dJ2_grow_10 : decode cJ2_grow 10 = .ok (.areturn, 1) := dk_176 (dk_at dksJ2_grow_0 10 rfl rfl)
abbrev cJ2_grow_2 : ByteArray := prog_41_method_6_code
def yJ2_grow_2 : MethodName := ⟨RJ2, "grow", "(I)[Ljava/lang/Object;"⟩
def dkwJ2_grow_2_2 : List UInt8 := [27, 184, 0, 79, 189, 0, 7, 90, 181, 0, 9, 176]
abbrev dktJ2_grow_2_2 : List UInt8 := dkwJ2_grow_2_2 ++ []
def dkwJ2_grow_2_1 : List UInt8 := [28, 4, 122, 184, 0, 73, 62, 42, 42, 180, 0, 9, 29, 184, 0, 66, 90, 181, 0, 9, 176, 42, 16, 10]
abbrev dktJ2_grow_2_1 : List UInt8 := dkwJ2_grow_2_1 ++ dktJ2_grow_2_2
def dkwJ2_grow_2_0 : List UInt8 := [42, 180, 0, 9, 190, 61, 28, 157, 0, 13, 42, 180, 0, 9, 178, 0, 39, 165, 0, 28, 28, 27, 28, 100]
abbrev dktJ2_grow_2_0 : List UInt8 := dkwJ2_grow_2_0 ++ dktJ2_grow_2_1
theorem dksJ2_grow_2_0 : cJ2_grow_2.data.toList.drop 0 = dktJ2_grow_2_0 := by decide +kernel
theorem dksJ2_grow_2_1 : cJ2_grow_2.data.toList.drop 24 = dktJ2_grow_2_1 := dk_seg dksJ2_grow_2_0 24 rfl rfl
theorem dksJ2_grow_2_2 : cJ2_grow_2.data.toList.drop 48 = dktJ2_grow_2_2 := dk_seg dksJ2_grow_2_1 24 rfl rfl
theorem dJ2_grow_2_0 : decode cJ2_grow_2 0 = .ok (.aload_n 0, 1) := dk_42 (dk_at dksJ2_grow_2_0 0 rfl rfl)
theorem dJ2_grow_2_1 : decode cJ2_grow_2 1 = .ok (.getfield 9, 3) := dk_180 0 9 (dk_at dksJ2_grow_2_0 1 rfl rfl)
theorem dJ2_grow_2_4 : decode cJ2_grow_2 4 = .ok (.arraylength, 1) := dk_190 (dk_at dksJ2_grow_2_0 4 rfl rfl)
theorem dJ2_grow_2_5 : decode cJ2_grow_2 5 = .ok (.istore_n 2, 1) := dk_61 (dk_at dksJ2_grow_2_0 5 rfl rfl)
theorem dJ2_grow_2_6 : decode cJ2_grow_2 6 = .ok (.iload_n 2, 1) := dk_28 (dk_at dksJ2_grow_2_0 6 rfl rfl)
theorem dJ2_grow_2_7 : decode cJ2_grow_2 7 = .ok (.ifCond .gt 13, 3) := dk_157 0 13 (dk_at dksJ2_grow_2_0 7 rfl rfl)
theorem dJ2_grow_2_10 : decode cJ2_grow_2 10 = .ok (.aload_n 0, 1) := dk_42 (dk_at dksJ2_grow_2_0 10 rfl rfl)
theorem dJ2_grow_2_11 : decode cJ2_grow_2 11 = .ok (.getfield 9, 3) := dk_180 0 9 (dk_at dksJ2_grow_2_0 11 rfl rfl)
theorem dJ2_grow_2_14 : decode cJ2_grow_2 14 = .ok (.getstatic 39, 3) := dk_178 0 39 (dk_at dksJ2_grow_2_0 14 rfl rfl)
theorem dJ2_grow_2_17 : decode cJ2_grow_2 17 = .ok (.if_acmp .eq 28, 3) := dk_165 0 28 (dk_at dksJ2_grow_2_0 17 rfl rfl)
theorem dJ2_grow_2_20 : decode cJ2_grow_2 20 = .ok (.iload_n 2, 1) := dk_28 (dk_at dksJ2_grow_2_0 20 rfl rfl)
theorem dJ2_grow_2_21 : decode cJ2_grow_2 21 = .ok (.iload_n 1, 1) := dk_27 (dk_at dksJ2_grow_2_0 21 rfl rfl)
theorem dJ2_grow_2_22 : decode cJ2_grow_2 22 = .ok (.iload_n 2, 1) := dk_28 (dk_at dksJ2_grow_2_0 22 rfl rfl)
theorem dJ2_grow_2_23 : decode cJ2_grow_2 23 = .ok (.isub, 1) := dk_100 (dk_at dksJ2_grow_2_0 23 rfl rfl)
theorem dJ2_grow_2_24 : decode cJ2_grow_2 24 = .ok (.iload_n 2, 1) := dk_28 (dk_at dksJ2_grow_2_1 0 rfl rfl)
theorem dJ2_grow_2_25 : decode cJ2_grow_2 25 = .ok (.iconst 1, 1) := dk_4 (dk_at dksJ2_grow_2_1 1 rfl rfl)
theorem dJ2_grow_2_26 : decode cJ2_grow_2 26 = .ok (.ishr, 1) := dk_122 (dk_at dksJ2_grow_2_1 2 rfl rfl)
theorem dJ2_grow_2_27 : decode cJ2_grow_2 27 = .ok (.invokestatic 73, 3) := dk_184 0 73 (dk_at dksJ2_grow_2_1 3 rfl rfl)
theorem dJ2_grow_2_30 : decode cJ2_grow_2 30 = .ok (.istore_n 3, 1) := dk_62 (dk_at dksJ2_grow_2_1 6 rfl rfl)
theorem dJ2_grow_2_31 : decode cJ2_grow_2 31 = .ok (.aload_n 0, 1) := dk_42 (dk_at dksJ2_grow_2_1 7 rfl rfl)
theorem dJ2_grow_2_32 : decode cJ2_grow_2 32 = .ok (.aload_n 0, 1) := dk_42 (dk_at dksJ2_grow_2_1 8 rfl rfl)
theorem dJ2_grow_2_33 : decode cJ2_grow_2 33 = .ok (.getfield 9, 3) := dk_180 0 9 (dk_at dksJ2_grow_2_1 9 rfl rfl)
theorem dJ2_grow_2_36 : decode cJ2_grow_2 36 = .ok (.iload_n 3, 1) := dk_29 (dk_at dksJ2_grow_2_1 12 rfl rfl)
theorem dJ2_grow_2_37 : decode cJ2_grow_2 37 = .ok (.invokestatic 66, 3) := dk_184 0 66 (dk_at dksJ2_grow_2_1 13 rfl rfl)
theorem dJ2_grow_2_40 : decode cJ2_grow_2 40 = .ok (.dup_x1, 1) := dk_90 (dk_at dksJ2_grow_2_1 16 rfl rfl)
theorem dJ2_grow_2_41 : decode cJ2_grow_2 41 = .ok (.putfield 9, 3) := dk_181 0 9 (dk_at dksJ2_grow_2_1 17 rfl rfl)
theorem dJ2_grow_2_44 : decode cJ2_grow_2 44 = .ok (.areturn, 1) := dk_176 (dk_at dksJ2_grow_2_1 20 rfl rfl)
theorem dJ2_grow_2_45 : decode cJ2_grow_2 45 = .ok (.aload_n 0, 1) := dk_42 (dk_at dksJ2_grow_2_1 21 rfl rfl)
theorem dJ2_grow_2_46 : decode cJ2_grow_2 46 = .ok (.bipush 10, 2) := dk_16 10 (dk_at dksJ2_grow_2_1 22 rfl rfl)
theorem dJ2_grow_2_48 : decode cJ2_grow_2 48 = .ok (.iload_n 1, 1) := dk_27 (dk_at dksJ2_grow_2_2 0 rfl rfl)
theorem dJ2_grow_2_49 : decode cJ2_grow_2 49 = .ok (.invokestatic 79, 3) := dk_184 0 79 (dk_at dksJ2_grow_2_2 1 rfl rfl)
theorem dJ2_grow_2_52 : decode cJ2_grow_2 52 = .ok (.anewarray 7, 3) := dk_189 0 7 (dk_at dksJ2_grow_2_2 4 rfl rfl)
theorem dJ2_grow_2_55 : decode cJ2_grow_2 55 = .ok (.dup_x1, 1) := dk_90 (dk_at dksJ2_grow_2_2 7 rfl rfl)
theorem dJ2_grow_2_56 : decode cJ2_grow_2 56 = .ok (.putfield 9, 3) := dk_181 0 9 (dk_at dksJ2_grow_2_2 8 rfl rfl)
theorem dJ2_grow_2_59 : decode cJ2_grow_2 59 = .ok (.areturn, 1) := dk_176 (dk_at dksJ2_grow_2_2 11 rfl rfl)
abbrev cJ2_size : ByteArray := prog_41_method_8_code
def yJ2_size : MethodName := ⟨RJ2, "size", "()I"⟩
theorem dJ2_size_0 : decode cJ2_size 0 = .ok (.aload_n 0, 1) := by decide +kernel
theorem dJ2_size_1 : decode cJ2_size 1 = .ok (.getfield 48, 3) := by decide +kernel
theorem dJ2_size_4 : decode cJ2_size 4 = .ok (.ireturn, 1) := by decide +kernel
abbrev cJ2_isEmpty : ByteArray := prog_41_method_9_code
def yJ2_isEmpty : MethodName := ⟨RJ2, "isEmpty", "()Z"⟩
def dkwJ2_isEmpty_0 : List UInt8 := [42, 180, 0, 48, 154, 0, 7, 4, 167, 0, 4, 3, 172]
abbrev dktJ2_isEmpty_0 : List UInt8 := dkwJ2_isEmpty_0 ++ []
theorem dksJ2_isEmpty_0 : cJ2_isEmpty.data.toList.drop 0 = dktJ2_isEmpty_0 := by decide +kernel
theorem dJ2_isEmpty_0 : decode cJ2_isEmpty 0 = .ok (.aload_n 0, 1) := dk_42 (dk_at dksJ2_isEmpty_0 0 rfl rfl)
theorem dJ2_isEmpty_1 : decode cJ2_isEmpty 1 = .ok (.getfield 48, 3) := dk_180 0 48 (dk_at dksJ2_isEmpty_0 1 rfl rfl)
theorem dJ2_isEmpty_4 : decode cJ2_isEmpty 4 = .ok (.ifCond .ne 7, 3) := dk_154 0 7 (dk_at dksJ2_isEmpty_0 4 rfl rfl)
theorem dJ2_isEmpty_7 : decode cJ2_isEmpty 7 = .ok (.iconst 1, 1) := dk_4 (dk_at dksJ2_isEmpty_0 7 rfl rfl)
theorem dJ2_isEmpty_8 : decode cJ2_isEmpty 8 = .ok (.goto 4, 3) := dk_167 0 4 (dk_at dksJ2_isEmpty_0 8 rfl rfl)
theorem dJ2_isEmpty_11 : decode cJ2_isEmpty 11 = .ok (.iconst 0, 1) := dk_3 (dk_at dksJ2_isEmpty_0 11 rfl rfl)
theorem dJ2_isEmpty_12 : decode cJ2_isEmpty 12 = .ok (.ireturn, 1) := dk_172 (dk_at dksJ2_isEmpty_0 12 rfl rfl)
abbrev cJ2_get : ByteArray := prog_41_method_20_code
def yJ2_get : MethodName := ⟨RJ2, "get", "(I)Ljava/lang/Object;"⟩
def dkwJ2_get_0 : List UInt8 := [27, 42, 180, 0, 48, 184, 0, 118, 87, 42, 27, 182, 0, 123, 176]
abbrev dktJ2_get_0 : List UInt8 := dkwJ2_get_0 ++ []
theorem dksJ2_get_0 : cJ2_get.data.toList.drop 0 = dktJ2_get_0 := by decide +kernel
theorem dJ2_get_0 : decode cJ2_get 0 = .ok (.iload_n 1, 1) := dk_27 (dk_at dksJ2_get_0 0 rfl rfl)
theorem dJ2_get_1 : decode cJ2_get 1 = .ok (.aload_n 0, 1) := dk_42 (dk_at dksJ2_get_0 1 rfl rfl)
theorem dJ2_get_2 : decode cJ2_get 2 = .ok (.getfield 48, 3) := dk_180 0 48 (dk_at dksJ2_get_0 2 rfl rfl)
theorem dJ2_get_5 : decode cJ2_get 5 = .ok (.invokestatic 118, 3) := dk_184 0 118 (dk_at dksJ2_get_0 5 rfl rfl)
theorem dJ2_get_8 : decode cJ2_get 8 = .ok (.pop, 1) := dk_87 (dk_at dksJ2_get_0 8 rfl rfl)
theorem dJ2_get_9 : decode cJ2_get 9 = .ok (.aload_n 0, 1) := dk_42 (dk_at dksJ2_get_0 9 rfl rfl)
theorem dJ2_get_10 : decode cJ2_get 10 = .ok (.iload_n 1, 1) := dk_27 (dk_at dksJ2_get_0 10 rfl rfl)
theorem dJ2_get_11 : decode cJ2_get 11 = .ok (.invokevirtual 123, 3) := dk_182 0 123 (dk_at dksJ2_get_0 11 rfl rfl)
theorem dJ2_get_14 : decode cJ2_get 14 = .ok (.areturn, 1) := dk_176 (dk_at dksJ2_get_0 14 rfl rfl)
abbrev cJ2_elementData : ByteArray := prog_41_method_18_code
def yJ2_elementData : MethodName := ⟨RJ2, "elementData", "(I)Ljava/lang/Object;"⟩
def dkwJ2_elementData_0 : List UInt8 := [42, 180, 0, 9, 27, 50, 176]
abbrev dktJ2_elementData_0 : List UInt8 := dkwJ2_elementData_0 ++ []
theorem dksJ2_elementData_0 : cJ2_elementData.data.toList.drop 0 = dktJ2_elementData_0 := by decide +kernel
theorem dJ2_elementData_0 : decode cJ2_elementData 0 = .ok (.aload_n 0, 1) := dk_42 (dk_at dksJ2_elementData_0 0 rfl rfl)
theorem dJ2_elementData_1 : decode cJ2_elementData 1 = .ok (.getfield 9, 3) := dk_180 0 9 (dk_at dksJ2_elementData_0 1 rfl rfl)
theorem dJ2_elementData_4 : decode cJ2_elementData 4 = .ok (.iload_n 1, 1) := dk_27 (dk_at dksJ2_elementData_0 4 rfl rfl)
theorem dJ2_elementData_5 : decode cJ2_elementData 5 = .ok (.aaload, 1) := dk_50 (dk_at dksJ2_elementData_0 5 rfl rfl)
theorem dJ2_elementData_6 : decode cJ2_elementData 6 = .ok (.areturn, 1) := dk_176 (dk_at dksJ2_elementData_0 6 rfl rfl)
theorem q145 : (Jvm.Cond.initialized "java/util/ArrayList") ∈ lw_all := lw_g (lw_at lw_m1 9 rfl) rfl
theorem q351 : (Jvm.Cond.instantiable "java/util/ArrayList" (3 : Nat)) ∈ lw_all := lw_g (lw_at lw_m1 215 rfl) rfl
theorem q353 : (Jvm.Cond.instanceMethod ({ cls := "java/util/ArrayList", name := "<init>", desc := "()V" } : Jvm.MethodName)) ∈ lw_all := lw_g (lw_at lw_m1 217 rfl) rfl
theorem q354 : (Jvm.Cond.code ({ cls := "java/util/ArrayList", name := "<init>", desc := "()V" } : Jvm.MethodName) prog_41_method_2_code (1 : Nat) (Option.none : Option Jvm.ClassFile.FieldType)) ∈ lw_all := lw_g (lw_at lw_m1 218 rfl) rfl
theorem q355 : (Jvm.Cond.methodLink "java/util/ArrayList" (1 : Nat) ({ cls := "java/util/AbstractList", name := "<init>", desc := "()V" } : Jvm.MethodName)) ∈ lw_all := lw_g (lw_at lw_m1 219 rfl) rfl
theorem q362 : (Jvm.Cond.fieldLink "java/util/ArrayList" (39 : Nat) "java/util/ArrayList" "DEFAULTCAPACITY_EMPTY_ELEMENTDATA" "[Ljava/lang/Object;") ∈ lw_all := lw_g (lw_at lw_m1 226 rfl) rfl
theorem q363 : (Jvm.Cond.laysStatic "java/util/ArrayList" "DEFAULTCAPACITY_EMPTY_ELEMENTDATA" "[Ljava/lang/Object;") ∈ lw_tbl := lw_at lw_m1 227 rfl
theorem q364 : (Jvm.Cond.fieldLink "java/util/ArrayList" (9 : Nat) "java/util/ArrayList" "elementData" "[Ljava/lang/Object;") ∈ lw_all := lw_g (lw_at lw_m1 228 rfl) rfl
theorem q365 : (Jvm.Cond.fieldLink "java/util/ArrayList" (48 : Nat) "java/util/ArrayList" "size" "I") ∈ lw_all := lw_g (lw_at lw_m1 229 rfl) rfl
theorem q367 : (Jvm.Cond.fieldLink "java/util/ArrayList" (63 : Nat) "java/util/ArrayList" "modCount" "I") ∈ lw_all := lw_g (lw_at lw_m1 231 rfl) rfl
theorem q368 : (Jvm.Cond.sameField "java/util/ArrayList" "java/util/AbstractList" "modCount" "I") ∈ lw_all := lw_g (lw_at lw_m1 232 rfl) rfl
theorem q369 : (Jvm.Cond.lays "java/util/ArrayList" "java/util/ArrayList" "elementData" "[Ljava/lang/Object;") ∈ lw_all := lw_g (lw_at lw_m1 233 rfl) rfl
theorem q370 : (Jvm.Cond.soleField "java/util/ArrayList" "elementData") ∈ lw_all := lw_g (lw_at lw_m1 234 rfl) rfl
theorem q371 : (Jvm.Cond.lays "java/util/ArrayList" "java/util/ArrayList" "size" "I") ∈ lw_all := lw_g (lw_at lw_m1 235 rfl) rfl
theorem q372 : (Jvm.Cond.soleField "java/util/ArrayList" "size") ∈ lw_all := lw_g (lw_at lw_m1 236 rfl) rfl
theorem q373 : (Jvm.Cond.lays "java/util/ArrayList" "java/util/AbstractList" "modCount" "I") ∈ lw_all := lw_g (lw_at lw_m1 237 rfl) rfl
theorem q375 : (Jvm.Cond.superclass "java/util/ArrayList" "java/util/AbstractList") ∈ lw_all := lw_g (lw_at lw_m1 239 rfl) rfl
theorem q613 : (Jvm.Cond.instanceMethod ({ cls := "java/util/ArrayList", name := "add", desc := "(Ljava/lang/Object;)Z" } : Jvm.MethodName)) ∈ lw_all := lw_g (lw_at lw_m2 237 rfl) rfl
theorem q614 : (Jvm.Cond.selects "java/util/ArrayList" ({ cls := "java/util/ArrayList", name := "add", desc := "(Ljava/lang/Object;)Z" } : Jvm.MethodName) ({ cls := "java/util/ArrayList", name := "add", desc := "(Ljava/lang/Object;)Z" } : Jvm.MethodName)) ∈ lw_all := lw_g (lw_at lw_m2 238 rfl) rfl
theorem q615 : (Jvm.Cond.code ({ cls := "java/util/ArrayList", name := "add", desc := "(Ljava/lang/Object;)Z" } : Jvm.MethodName) prog_41_method_25_code (2 : Nat) (Option.some Jvm.ClassFile.FieldType.boolean)) ∈ lw_all := lw_g (lw_at lw_m2 239 rfl) rfl
theorem q616 : (Jvm.Cond.methodLink "java/util/ArrayList" (131 : Nat) ({ cls := "java/util/ArrayList", name := "add", desc := "(Ljava/lang/Object;[Ljava/lang/Object;I)V" } : Jvm.MethodName)) ∈ lw_all := lw_g (lw_at lw_m3 0 rfl) rfl
theorem q617 : (Jvm.Cond.privateMethod ({ cls := "java/util/ArrayList", name := "add", desc := "(Ljava/lang/Object;[Ljava/lang/Object;I)V" } : Jvm.MethodName)) ∈ lw_tbl := lw_at lw_m3 1 rfl
theorem q618 : (Jvm.Cond.instanceMethod ({ cls := "java/util/ArrayList", name := "add", desc := "(Ljava/lang/Object;[Ljava/lang/Object;I)V" } : Jvm.MethodName)) ∈ lw_all := lw_g (lw_at lw_m3 2 rfl) rfl
theorem q619 : (Jvm.Cond.code ({ cls := "java/util/ArrayList", name := "add", desc := "(Ljava/lang/Object;[Ljava/lang/Object;I)V" } : Jvm.MethodName) prog_41_method_24_code (4 : Nat) (Option.none : Option Jvm.ClassFile.FieldType)) ∈ lw_all := lw_g (lw_at lw_m3 3 rfl) rfl
theorem q620 : (Jvm.Cond.methodLink "java/util/ArrayList" (129 : Nat) ({ cls := "java/util/ArrayList", name := "grow", desc := "()[Ljava/lang/Object;" } : Jvm.MethodName)) ∈ lw_all := lw_g (lw_at lw_m3 4 rfl) rfl
theorem q621 : (Jvm.Cond.privateMethod ({ cls := "java/util/ArrayList", name := "grow", desc := "()[Ljava/lang/Object;" } : Jvm.MethodName)) ∈ lw_tbl := lw_at lw_m3 5 rfl
theorem q622 : (Jvm.Cond.instanceMethod ({ cls := "java/util/ArrayList", name := "grow", desc := "()[Ljava/lang/Object;" } : Jvm.MethodName)) ∈ lw_all := lw_g (lw_at lw_m3 6 rfl) rfl
theorem q623 : (Jvm.Cond.code ({ cls := "java/util/ArrayList", name := "grow", desc := "()[Ljava/lang/Object;" } : Jvm.MethodName) prog_41_method_7_code (1 : Nat) (Option.some (Jvm.ClassFile.FieldType.array (Jvm.ClassFile.FieldType.object "java/lang/Object")))) ∈ lw_all := lw_g (lw_at lw_m3 7 rfl) rfl
theorem q624 : (Jvm.Cond.methodLink "java/util/ArrayList" (69 : Nat) ({ cls := "java/util/ArrayList", name := "grow", desc := "(I)[Ljava/lang/Object;" } : Jvm.MethodName)) ∈ lw_all := lw_g (lw_at lw_m3 8 rfl) rfl
theorem q625 : (Jvm.Cond.privateMethod ({ cls := "java/util/ArrayList", name := "grow", desc := "(I)[Ljava/lang/Object;" } : Jvm.MethodName)) ∈ lw_tbl := lw_at lw_m3 9 rfl
theorem q626 : (Jvm.Cond.instanceMethod ({ cls := "java/util/ArrayList", name := "grow", desc := "(I)[Ljava/lang/Object;" } : Jvm.MethodName)) ∈ lw_all := lw_g (lw_at lw_m3 10 rfl) rfl
theorem q627 : (Jvm.Cond.code ({ cls := "java/util/ArrayList", name := "grow", desc := "(I)[Ljava/lang/Object;" } : Jvm.MethodName) prog_41_method_6_code (4 : Nat) (Option.some (Jvm.ClassFile.FieldType.array (Jvm.ClassFile.FieldType.object "java/lang/Object")))) ∈ lw_all := lw_g (lw_at lw_m3 11 rfl) rfl
theorem q628 : (Jvm.Cond.methodLink "java/util/ArrayList" (73 : Nat) ({ cls := "jdk/internal/util/ArraysSupport", name := "newLength", desc := "(III)I" } : Jvm.MethodName)) ∈ lw_all := lw_g (lw_at lw_m3 12 rfl) rfl
theorem q638 : (Jvm.Cond.methodLink "java/util/ArrayList" (66 : Nat) ({ cls := "java/util/Arrays", name := "copyOf", desc := "([Ljava/lang/Object;I)[Ljava/lang/Object;" } : Jvm.MethodName)) ∈ lw_all := lw_g (lw_at lw_m3 22 rfl) rfl
theorem q662 : (Jvm.Cond.selects "java/util/ArrayList" ({ cls := "java/lang/Object", name := "getClass", desc := "()Ljava/lang/Class;" } : Jvm.MethodName) ({ cls := "java/lang/Object", name := "getClass", desc := "()Ljava/lang/Class;" } : Jvm.MethodName)) ∈ lw_all := lw_g (lw_at lw_m3 46 rfl) rfl
theorem q672 : (Jvm.Cond.methodLink "java/util/ArrayList" (79 : Nat) ({ cls := "java/lang/Math", name := "max", desc := "(II)I" } : Jvm.MethodName)) ∈ lw_all := lw_g (lw_at lw_m3 56 rfl) rfl
theorem q673 : (Jvm.Cond.classLink "java/util/ArrayList" (7 : Nat) "java/lang/Object") ∈ lw_all := lw_g (lw_at lw_m3 57 rfl) rfl
theorem q675 : (Jvm.Cond.instanceMethod ({ cls := "java/util/ArrayList", name := "size", desc := "()I" } : Jvm.MethodName)) ∈ lw_all := lw_g (lw_at lw_m3 59 rfl) rfl
theorem q676 : (Jvm.Cond.selects "java/util/ArrayList" ({ cls := "java/util/ArrayList", name := "size", desc := "()I" } : Jvm.MethodName) ({ cls := "java/util/ArrayList", name := "size", desc := "()I" } : Jvm.MethodName)) ∈ lw_all := lw_g (lw_at lw_m3 60 rfl) rfl
theorem q677 : (Jvm.Cond.code ({ cls := "java/util/ArrayList", name := "size", desc := "()I" } : Jvm.MethodName) prog_41_method_8_code (1 : Nat) (Option.some Jvm.ClassFile.FieldType.int)) ∈ lw_all := lw_g (lw_at lw_m3 61 rfl) rfl
theorem q787 : (Jvm.Cond.instanceMethod ({ cls := "java/util/ArrayList", name := "isEmpty", desc := "()Z" } : Jvm.MethodName)) ∈ lw_all := lw_g (lw_at lw_m3 171 rfl) rfl
theorem q788 : (Jvm.Cond.selects "java/util/ArrayList" ({ cls := "java/util/ArrayList", name := "isEmpty", desc := "()Z" } : Jvm.MethodName) ({ cls := "java/util/ArrayList", name := "isEmpty", desc := "()Z" } : Jvm.MethodName)) ∈ lw_all := lw_g (lw_at lw_m3 172 rfl) rfl
theorem q789 : (Jvm.Cond.code ({ cls := "java/util/ArrayList", name := "isEmpty", desc := "()Z" } : Jvm.MethodName) prog_41_method_9_code (1 : Nat) (Option.some Jvm.ClassFile.FieldType.boolean)) ∈ lw_all := lw_g (lw_at lw_m3 173 rfl) rfl
theorem q807 : (Jvm.Cond.instanceMethod ({ cls := "java/util/ArrayList", name := "get", desc := "(I)Ljava/lang/Object;" } : Jvm.MethodName)) ∈ lw_all := lw_g (lw_at lw_m3 191 rfl) rfl
theorem q808 : (Jvm.Cond.selects "java/util/ArrayList" ({ cls := "java/util/ArrayList", name := "get", desc := "(I)Ljava/lang/Object;" } : Jvm.MethodName) ({ cls := "java/util/ArrayList", name := "get", desc := "(I)Ljava/lang/Object;" } : Jvm.MethodName)) ∈ lw_all := lw_g (lw_at lw_m3 192 rfl) rfl
theorem q809 : (Jvm.Cond.code ({ cls := "java/util/ArrayList", name := "get", desc := "(I)Ljava/lang/Object;" } : Jvm.MethodName) prog_41_method_20_code (2 : Nat) (Option.some (Jvm.ClassFile.FieldType.object "java/lang/Object"))) ∈ lw_all := lw_g (lw_at lw_m3 193 rfl) rfl
theorem q810 : (Jvm.Cond.methodLink "java/util/ArrayList" (118 : Nat) ({ cls := "java/util/Objects", name := "checkIndex", desc := "(II)I" } : Jvm.MethodName)) ∈ lw_all := lw_g (lw_at lw_m3 194 rfl) rfl
theorem q814 : (Jvm.Cond.methodLink "java/util/ArrayList" (123 : Nat) ({ cls := "java/util/ArrayList", name := "elementData", desc := "(I)Ljava/lang/Object;" } : Jvm.MethodName)) ∈ lw_all := lw_g (lw_at lw_m3 198 rfl) rfl
theorem q815 : (Jvm.Cond.instanceMethod ({ cls := "java/util/ArrayList", name := "elementData", desc := "(I)Ljava/lang/Object;" } : Jvm.MethodName)) ∈ lw_all := lw_g (lw_at lw_m3 199 rfl) rfl
theorem q816 : (Jvm.Cond.selects "java/util/ArrayList" ({ cls := "java/util/ArrayList", name := "elementData", desc := "(I)Ljava/lang/Object;" } : Jvm.MethodName) ({ cls := "java/util/ArrayList", name := "elementData", desc := "(I)Ljava/lang/Object;" } : Jvm.MethodName)) ∈ lw_all := lw_g (lw_at lw_m3 200 rfl) rfl
theorem q817 : (Jvm.Cond.code ({ cls := "java/util/ArrayList", name := "elementData", desc := "(I)Ljava/lang/Object;" } : Jvm.MethodName) prog_41_method_18_code (2 : Nat) (Option.some (Jvm.ClassFile.FieldType.object "java/lang/Object"))) ∈ lw_all := lw_g (lw_at lw_m3 201 rfl) rfl
theorem q2032 : (Jvm.Cond.castable "java/util/ArrayList" "java/lang/Object") ∈ lw_tbl := lw_at lw_m8 216 rfl
theorem in_J2 : ∀ w ∈ wsJ20, w ∈ lw_all := lw_in wsJ20 [373, 369, 371] (by decide +kernel) (by decide +kernel)
/-! java/lang/String -/
set_option maxRecDepth 100000
def RJ3 : String := "java/lang/String"
abbrev cJ3_length : ByteArray := prog_32_method_54_code
def yJ3_length : MethodName := ⟨RJ3, "length", "()I"⟩
def dkwJ3_length_0 : List UInt8 := [42, 180, 0, 9, 190, 42, 182, 1, 79, 122, 172]
abbrev dktJ3_length_0 : List UInt8 := dkwJ3_length_0 ++ []
theorem dksJ3_length_0 : cJ3_length.data.toList.drop 0 = dktJ3_length_0 := by decide +kernel
theorem dJ3_length_0 : decode cJ3_length 0 = .ok (.aload_n 0, 1) := dk_42 (dk_at dksJ3_length_0 0 rfl rfl)
theorem dJ3_length_1 : decode cJ3_length 1 = .ok (.getfield 9, 3) := dk_180 0 9 (dk_at dksJ3_length_0 1 rfl rfl)
theorem dJ3_length_4 : decode cJ3_length 4 = .ok (.arraylength, 1) := dk_190 (dk_at dksJ3_length_0 4 rfl rfl)
theorem dJ3_length_5 : decode cJ3_length 5 = .ok (.aload_n 0, 1) := dk_42 (dk_at dksJ3_length_0 5 rfl rfl)
theorem dJ3_length_6 : decode cJ3_length 6 = .ok (.invokevirtual 335, 3) := dk_182 1 79 (dk_at dksJ3_length_0 6 rfl rfl)
theorem dJ3_length_9 : decode cJ3_length 9 = .ok (.ishr, 1) := dk_122 (dk_at dksJ3_length_0 9 rfl rfl)
theorem dJ3_length_10 : decode cJ3_length 10 = .ok (.ireturn, 1) := dk_172 (dk_at dksJ3_length_0 10 rfl rfl)
abbrev cJ3_coder : ByteArray := prog_32_method_152_code
def yJ3_coder : MethodName := ⟨RJ3, "coder", "()B"⟩
def dkwJ3_coder_0 : List UInt8 := [178, 0, 38, 153, 0, 10, 42, 180, 0, 15, 167, 0, 4, 4, 172]
abbrev dktJ3_coder_0 : List UInt8 := dkwJ3_coder_0 ++ []
theorem dksJ3_coder_0 : cJ3_coder.data.toList.drop 0 = dktJ3_coder_0 := by decide +kernel
theorem dJ3_coder_0 : decode cJ3_coder 0 = .ok (.getstatic 38, 3) := dk_178 0 38 (dk_at dksJ3_coder_0 0 rfl rfl)
theorem dJ3_coder_3 : decode cJ3_coder 3 = .ok (.ifCond .eq 10, 3) := dk_153 0 10 (dk_at dksJ3_coder_0 3 rfl rfl)
theorem dJ3_coder_6 : decode cJ3_coder 6 = .ok (.aload_n 0, 1) := dk_42 (dk_at dksJ3_coder_0 6 rfl rfl)
theorem dJ3_coder_7 : decode cJ3_coder 7 = .ok (.getfield 15, 3) := dk_180 0 15 (dk_at dksJ3_coder_0 7 rfl rfl)
theorem dJ3_coder_10 : decode cJ3_coder 10 = .ok (.goto 4, 3) := dk_167 0 4 (dk_at dksJ3_coder_0 10 rfl rfl)
theorem dJ3_coder_13 : decode cJ3_coder 13 = .ok (.iconst 1, 1) := dk_4 (dk_at dksJ3_coder_0 13 rfl rfl)
theorem dJ3_coder_14 : decode cJ3_coder 14 = .ok (.ireturn, 1) := dk_172 (dk_at dksJ3_coder_0 14 rfl rfl)
abbrev cJ3_charAt : ByteArray := prog_32_method_56_code
def yJ3_charAt : MethodName := ⟨RJ3, "charAt", "(I)C"⟩
def dkwJ3_charAt_1 : List UInt8 := [172]
abbrev dktJ3_charAt_1 : List UInt8 := dkwJ3_charAt_1 ++ []
def dkwJ3_charAt_0 : List UInt8 := [42, 182, 1, 236, 153, 0, 12, 42, 180, 0, 9, 27, 184, 1, 239, 172, 42, 180, 0, 9, 27, 184, 1, 242]
abbrev dktJ3_charAt_0 : List UInt8 := dkwJ3_charAt_0 ++ dktJ3_charAt_1
theorem dksJ3_charAt_0 : cJ3_charAt.data.toList.drop 0 = dktJ3_charAt_0 := by decide +kernel
theorem dksJ3_charAt_1 : cJ3_charAt.data.toList.drop 24 = dktJ3_charAt_1 := dk_seg dksJ3_charAt_0 24 rfl rfl
theorem dJ3_charAt_0 : decode cJ3_charAt 0 = .ok (.aload_n 0, 1) := dk_42 (dk_at dksJ3_charAt_0 0 rfl rfl)
theorem dJ3_charAt_1 : decode cJ3_charAt 1 = .ok (.invokevirtual 492, 3) := dk_182 1 236 (dk_at dksJ3_charAt_0 1 rfl rfl)
theorem dJ3_charAt_4 : decode cJ3_charAt 4 = .ok (.ifCond .eq 12, 3) := dk_153 0 12 (dk_at dksJ3_charAt_0 4 rfl rfl)
theorem dJ3_charAt_7 : decode cJ3_charAt 7 = .ok (.aload_n 0, 1) := dk_42 (dk_at dksJ3_charAt_0 7 rfl rfl)
theorem dJ3_charAt_8 : decode cJ3_charAt 8 = .ok (.getfield 9, 3) := dk_180 0 9 (dk_at dksJ3_charAt_0 8 rfl rfl)
theorem dJ3_charAt_11 : decode cJ3_charAt 11 = .ok (.iload_n 1, 1) := dk_27 (dk_at dksJ3_charAt_0 11 rfl rfl)
theorem dJ3_charAt_12 : decode cJ3_charAt 12 = .ok (.invokestatic 495, 3) := dk_184 1 239 (dk_at dksJ3_charAt_0 12 rfl rfl)
theorem dJ3_charAt_15 : decode cJ3_charAt 15 = .ok (.ireturn, 1) := dk_172 (dk_at dksJ3_charAt_0 15 rfl rfl)
theorem dJ3_charAt_16 : decode cJ3_charAt 16 = .ok (.aload_n 0, 1) := dk_42 (dk_at dksJ3_charAt_0 16 rfl rfl)
theorem dJ3_charAt_17 : decode cJ3_charAt 17 = .ok (.getfield 9, 3) := dk_180 0 9 (dk_at dksJ3_charAt_0 17 rfl rfl)
theorem dJ3_charAt_20 : decode cJ3_charAt 20 = .ok (.iload_n 1, 1) := dk_27 (dk_at dksJ3_charAt_0 20 rfl rfl)
theorem dJ3_charAt_21 : decode cJ3_charAt 21 = .ok (.invokestatic 498, 3) := dk_184 1 242 (dk_at dksJ3_charAt_0 21 rfl rfl)
theorem dJ3_charAt_24 : decode cJ3_charAt 24 = .ok (.ireturn, 1) := dk_172 (dk_at dksJ3_charAt_1 0 rfl rfl)
abbrev cJ3_isLatin1 : ByteArray := prog_32_method_154_code
def yJ3_isLatin1 : MethodName := ⟨RJ3, "isLatin1", "()Z"⟩
def dkwJ3_isLatin1_0 : List UInt8 := [178, 0, 38, 153, 0, 14, 42, 180, 0, 15, 154, 0, 7, 4, 167, 0, 4, 3, 172]
abbrev dktJ3_isLatin1_0 : List UInt8 := dkwJ3_isLatin1_0 ++ []
theorem dksJ3_isLatin1_0 : cJ3_isLatin1.data.toList.drop 0 = dktJ3_isLatin1_0 := by decide +kernel
theorem dJ3_isLatin1_0 : decode cJ3_isLatin1 0 = .ok (.getstatic 38, 3) := dk_178 0 38 (dk_at dksJ3_isLatin1_0 0 rfl rfl)
theorem dJ3_isLatin1_3 : decode cJ3_isLatin1 3 = .ok (.ifCond .eq 14, 3) := dk_153 0 14 (dk_at dksJ3_isLatin1_0 3 rfl rfl)
theorem dJ3_isLatin1_6 : decode cJ3_isLatin1 6 = .ok (.aload_n 0, 1) := dk_42 (dk_at dksJ3_isLatin1_0 6 rfl rfl)
theorem dJ3_isLatin1_7 : decode cJ3_isLatin1 7 = .ok (.getfield 15, 3) := dk_180 0 15 (dk_at dksJ3_isLatin1_0 7 rfl rfl)
theorem dJ3_isLatin1_10 : decode cJ3_isLatin1 10 = .ok (.ifCond .ne 7, 3) := dk_154 0 7 (dk_at dksJ3_isLatin1_0 10 rfl rfl)
theorem dJ3_isLatin1_13 : decode cJ3_isLatin1 13 = .ok (.iconst 1, 1) := dk_4 (dk_at dksJ3_isLatin1_0 13 rfl rfl)
theorem dJ3_isLatin1_14 : decode cJ3_isLatin1 14 = .ok (.goto 4, 3) := dk_167 0 4 (dk_at dksJ3_isLatin1_0 14 rfl rfl)
theorem dJ3_isLatin1_17 : decode cJ3_isLatin1 17 = .ok (.iconst 0, 1) := dk_3 (dk_at dksJ3_isLatin1_0 17 rfl rfl)
theorem dJ3_isLatin1_18 : decode cJ3_isLatin1 18 = .ok (.ireturn, 1) := dk_172 (dk_at dksJ3_isLatin1_0 18 rfl rfl)
abbrev cJ3_checkIndex : ByteArray := prog_32_method_155_code
def yJ3_checkIndex : MethodName := ⟨RJ3, "checkIndex", "(II)V"⟩
def dkwJ3_checkIndex_0 : List UInt8 := [26, 27, 178, 4, 29, 184, 4, 35, 87, 177]
abbrev dktJ3_checkIndex_0 : List UInt8 := dkwJ3_checkIndex_0 ++ []
theorem dksJ3_checkIndex_0 : cJ3_checkIndex.data.toList.drop 0 = dktJ3_checkIndex_0 := by decide +kernel
theorem dJ3_checkIndex_0 : decode cJ3_checkIndex 0 = .ok (.iload_n 0, 1) := dk_26 (dk_at dksJ3_checkIndex_0 0 rfl rfl)
theorem dJ3_checkIndex_1 : decode cJ3_checkIndex 1 = .ok (.iload_n 1, 1) := dk_27 (dk_at dksJ3_checkIndex_0 1 rfl rfl)
theorem dJ3_checkIndex_2 : decode cJ3_checkIndex 2 = .ok (.getstatic 1053, 3) := dk_178 4 29 (dk_at dksJ3_checkIndex_0 2 rfl rfl)
theorem dJ3_checkIndex_5 : decode cJ3_checkIndex 5 = .ok (.invokestatic 1059, 3) := dk_184 4 35 (dk_at dksJ3_checkIndex_0 5 rfl rfl)
theorem dJ3_checkIndex_8 : decode cJ3_checkIndex 8 = .ok (.pop, 1) := dk_87 (dk_at dksJ3_checkIndex_0 8 rfl rfl)
theorem dJ3_checkIndex_9 : decode cJ3_checkIndex 9 = .ok (.return_, 1) := dk_177 (dk_at dksJ3_checkIndex_0 9 rfl rfl)
theorem q146 : (Jvm.Cond.initialized "java/lang/String") ∈ lw_all := lw_g (lw_at lw_m1 10 rfl) rfl
theorem q420 : (Jvm.Cond.instanceMethod ({ cls := "java/lang/String", name := "length", desc := "()I" } : Jvm.MethodName)) ∈ lw_all := lw_g (lw_at lw_m2 44 rfl) rfl
theorem q421 : (Jvm.Cond.selects "java/lang/String" ({ cls := "java/lang/String", name := "length", desc := "()I" } : Jvm.MethodName) ({ cls := "java/lang/String", name := "length", desc := "()I" } : Jvm.MethodName)) ∈ lw_all := lw_g (lw_at lw_m2 45 rfl) rfl
theorem q422 : (Jvm.Cond.code ({ cls := "java/lang/String", name := "length", desc := "()I" } : Jvm.MethodName) prog_32_method_54_code (1 : Nat) (Option.some Jvm.ClassFile.FieldType.int)) ∈ lw_all := lw_g (lw_at lw_m2 46 rfl) rfl
theorem q423 : (Jvm.Cond.methodLink "java/lang/String" (335 : Nat) ({ cls := "java/lang/String", name := "coder", desc := "()B" } : Jvm.MethodName)) ∈ lw_all := lw_g (lw_at lw_m2 47 rfl) rfl
theorem q424 : (Jvm.Cond.instanceMethod ({ cls := "java/lang/String", name := "coder", desc := "()B" } : Jvm.MethodName)) ∈ lw_all := lw_g (lw_at lw_m2 48 rfl) rfl
theorem q425 : (Jvm.Cond.selects "java/lang/String" ({ cls := "java/lang/String", name := "coder", desc := "()B" } : Jvm.MethodName) ({ cls := "java/lang/String", name := "coder", desc := "()B" } : Jvm.MethodName)) ∈ lw_all := lw_g (lw_at lw_m2 49 rfl) rfl
theorem q426 : (Jvm.Cond.code ({ cls := "java/lang/String", name := "coder", desc := "()B" } : Jvm.MethodName) prog_32_method_152_code (1 : Nat) (Option.some Jvm.ClassFile.FieldType.byte)) ∈ lw_all := lw_g (lw_at lw_m2 50 rfl) rfl
theorem q427 : (Jvm.Cond.fieldLink "java/lang/String" (38 : Nat) "java/lang/String" "COMPACT_STRINGS" "Z") ∈ lw_all := lw_g (lw_at lw_m2 51 rfl) rfl
theorem q428 : (Jvm.Cond.laysStatic "java/lang/String" "COMPACT_STRINGS" "Z") ∈ lw_tbl := lw_at lw_m2 52 rfl
theorem q430 : (Jvm.Cond.instanceMethod ({ cls := "java/lang/String", name := "charAt", desc := "(I)C" } : Jvm.MethodName)) ∈ lw_all := lw_g (lw_at lw_m2 54 rfl) rfl
theorem q431 : (Jvm.Cond.selects "java/lang/String" ({ cls := "java/lang/String", name := "charAt", desc := "(I)C" } : Jvm.MethodName) ({ cls := "java/lang/String", name := "charAt", desc := "(I)C" } : Jvm.MethodName)) ∈ lw_all := lw_g (lw_at lw_m2 55 rfl) rfl
theorem q432 : (Jvm.Cond.code ({ cls := "java/lang/String", name := "charAt", desc := "(I)C" } : Jvm.MethodName) prog_32_method_56_code (2 : Nat) (Option.some Jvm.ClassFile.FieldType.char)) ∈ lw_all := lw_g (lw_at lw_m2 56 rfl) rfl
theorem q433 : (Jvm.Cond.methodLink "java/lang/String" (492 : Nat) ({ cls := "java/lang/String", name := "isLatin1", desc := "()Z" } : Jvm.MethodName)) ∈ lw_all := lw_g (lw_at lw_m2 57 rfl) rfl
theorem q434 : (Jvm.Cond.instanceMethod ({ cls := "java/lang/String", name := "isLatin1", desc := "()Z" } : Jvm.MethodName)) ∈ lw_all := lw_g (lw_at lw_m2 58 rfl) rfl
theorem q435 : (Jvm.Cond.selects "java/lang/String" ({ cls := "java/lang/String", name := "isLatin1", desc := "()Z" } : Jvm.MethodName) ({ cls := "java/lang/String", name := "isLatin1", desc := "()Z" } : Jvm.MethodName)) ∈ lw_all := lw_g (lw_at lw_m2 59 rfl) rfl
theorem q436 : (Jvm.Cond.code ({ cls := "java/lang/String", name := "isLatin1", desc := "()Z" } : Jvm.MethodName) prog_32_method_154_code (1 : Nat) (Option.some Jvm.ClassFile.FieldType.boolean)) ∈ lw_all := lw_g (lw_at lw_m2 60 rfl) rfl
theorem q437 : (Jvm.Cond.methodLink "java/lang/String" (495 : Nat) ({ cls := "java/lang/StringLatin1", name := "charAt", desc := "([BI)C" } : Jvm.MethodName)) ∈ lw_all := lw_g (lw_at lw_m2 61 rfl) rfl
theorem q441 : (Jvm.Cond.static ({ cls := "java/lang/String", name := "checkIndex", desc := "(II)V" } : Jvm.MethodName)) ∈ lw_all := lw_g (lw_at lw_m2 65 rfl) rfl
theorem q442 : (Jvm.Cond.code ({ cls := "java/lang/String", name := "checkIndex", desc := "(II)V" } : Jvm.MethodName) prog_32_method_155_code (2 : Nat) (Option.none : Option Jvm.ClassFile.FieldType)) ∈ lw_all := lw_g (lw_at lw_m2 66 rfl) rfl
theorem q443 : (Jvm.Cond.fieldLink "java/lang/String" (1053 : Nat) "jdk/internal/util/Preconditions" "SIOOBE_FORMATTER" "Ljava/util/function/BiFunction;") ∈ lw_all := lw_g (lw_at lw_m2 67 rfl) rfl
theorem q445 : (Jvm.Cond.methodLink "java/lang/String" (1059 : Nat) ({ cls := "jdk/internal/util/Preconditions", name := "checkIndex", desc := "(IILjava/util/function/BiFunction;)I" } : Jvm.MethodName)) ∈ lw_all := lw_g (lw_at lw_m2 69 rfl) rfl
theorem q448 : (Jvm.Cond.methodLink "java/lang/String" (498 : Nat) ({ cls := "java/lang/StringUTF16", name := "charAt", desc := "([BI)C" } : Jvm.MethodName)) ∈ lw_all := lw_g (lw_at lw_m2 72 rfl) rfl
theorem q2027 : (Jvm.Cond.castable "java/lang/String" "java/lang/Object") ∈ lw_tbl := lw_at lw_m8 211 rfl
theorem q2059 : (Jvm.Cond.fieldLink "java/lang/String" (9 : Nat) "java/lang/String" "value" "[B") ∈ lw_all := lw_g (lw_at lw_m9 3 rfl) rfl
theorem q2060 : (Jvm.Cond.fieldLink "java/lang/String" (15 : Nat) "java/lang/String" "coder" "B") ∈ lw_all := lw_g (lw_at lw_m9 4 rfl) rfl
/-! java/lang/StringLatin1 -/
set_option maxRecDepth 100000
def RJ4 : String := "java/lang/StringLatin1"
abbrev cJ4_charAt : ByteArray := prog_33_method_2_code
def yJ4_charAt : MethodName := ⟨RJ4, "charAt", "([BI)C"⟩
def dkwJ4_charAt_0 : List UInt8 := [27, 42, 190, 184, 0, 9, 42, 27, 51, 17, 0, 255, 126, 146, 172]
abbrev dktJ4_charAt_0 : List UInt8 := dkwJ4_charAt_0 ++ []
theorem dksJ4_charAt_0 : cJ4_charAt.data.toList.drop 0 = dktJ4_charAt_0 := by decide +kernel
theorem dJ4_charAt_0 : decode cJ4_charAt 0 = .ok (.iload_n 1, 1) := dk_27 (dk_at dksJ4_charAt_0 0 rfl rfl)
theorem dJ4_charAt_1 : decode cJ4_charAt 1 = .ok (.aload_n 0, 1) := dk_42 (dk_at dksJ4_charAt_0 1 rfl rfl)
theorem dJ4_charAt_2 : decode cJ4_charAt 2 = .ok (.arraylength, 1) := dk_190 (dk_at dksJ4_charAt_0 2 rfl rfl)
theorem dJ4_charAt_3 : decode cJ4_charAt 3 = .ok (.invokestatic 9, 3) := dk_184 0 9 (dk_at dksJ4_charAt_0 3 rfl rfl)
theorem dJ4_charAt_6 : decode cJ4_charAt 6 = .ok (.aload_n 0, 1) := dk_42 (dk_at dksJ4_charAt_0 6 rfl rfl)
theorem dJ4_charAt_7 : decode cJ4_charAt 7 = .ok (.iload_n 1, 1) := dk_27 (dk_at dksJ4_charAt_0 7 rfl rfl)
theorem dJ4_charAt_8 : decode cJ4_charAt 8 = .ok (.baload, 1) := dk_51 (dk_at dksJ4_charAt_0 8 rfl rfl)
theorem dJ4_charAt_9 : decode cJ4_charAt 9 = .ok (.sipush 255, 3) := dk_17 0 255 (dk_at dksJ4_charAt_0 9 rfl rfl)
theorem dJ4_charAt_12 : decode cJ4_charAt 12 = .ok (.iand, 1) := dk_126 (dk_at dksJ4_charAt_0 12 rfl rfl)
theorem dJ4_charAt_13 : decode cJ4_charAt 13 = .ok (.i2c, 1) := dk_146 (dk_at dksJ4_charAt_0 13 rfl rfl)
theorem dJ4_charAt_14 : decode cJ4_charAt 14 = .ok (.ireturn, 1) := dk_172 (dk_at dksJ4_charAt_0 14 rfl rfl)
theorem q147 : (Jvm.Cond.initialized "java/lang/StringLatin1") ∈ lw_all := lw_g (lw_at lw_m1 11 rfl) rfl
theorem q438 : (Jvm.Cond.static ({ cls := "java/lang/StringLatin1", name := "charAt", desc := "([BI)C" } : Jvm.MethodName)) ∈ lw_all := lw_g (lw_at lw_m2 62 rfl) rfl
theorem q439 : (Jvm.Cond.code ({ cls := "java/lang/StringLatin1", name := "charAt", desc := "([BI)C" } : Jvm.MethodName) prog_33_method_2_code (2 : Nat) (Option.some Jvm.ClassFile.FieldType.char)) ∈ lw_all := lw_g (lw_at lw_m2 63 rfl) rfl
theorem q440 : (Jvm.Cond.methodLink "java/lang/StringLatin1" (9 : Nat) ({ cls := "java/lang/String", name := "checkIndex", desc := "(II)V" } : Jvm.MethodName)) ∈ lw_all := lw_g (lw_at lw_m2 64 rfl) rfl
/-! jdk/internal/util/Preconditions -/
set_option maxRecDepth 100000
def RJ5 : String := "jdk/internal/util/Preconditions"
abbrev cJ5_checkIndex : ByteArray := prog_49_method_11_code
def yJ5_checkIndex : MethodName := ⟨RJ5, "checkIndex", "(IILjava/util/function/BiFunction;)I"⟩
def dkwJ5_checkIndex_0 : List UInt8 := [26, 155, 0, 8, 26, 27, 161, 0, 10, 44, 26, 27, 184, 0, 95, 191, 26, 172]
abbrev dktJ5_checkIndex_0 : List UInt8 := dkwJ5_checkIndex_0 ++ []
theorem dksJ5_checkIndex_0 : cJ5_checkIndex.data.toList.drop 0 = dktJ5_checkIndex_0 := by decide +kernel
theorem dJ5_checkIndex_0 : decode cJ5_checkIndex 0 = .ok (.iload_n 0, 1) := dk_26 (dk_at dksJ5_checkIndex_0 0 rfl rfl)
theorem dJ5_checkIndex_1 : decode cJ5_checkIndex 1 = .ok (.ifCond .lt 8, 3) := dk_155 0 8 (dk_at dksJ5_checkIndex_0 1 rfl rfl)
theorem dJ5_checkIndex_4 : decode cJ5_checkIndex 4 = .ok (.iload_n 0, 1) := dk_26 (dk_at dksJ5_checkIndex_0 4 rfl rfl)
theorem dJ5_checkIndex_5 : decode cJ5_checkIndex 5 = .ok (.iload_n 1, 1) := dk_27 (dk_at dksJ5_checkIndex_0 5 rfl rfl)
theorem dJ5_checkIndex_6 : decode cJ5_checkIndex 6 = .ok (.if_icmp .lt 10, 3) := dk_161 0 10 (dk_at dksJ5_checkIndex_0 6 rfl rfl)
theorem dJ5_checkIndex_9 : decode cJ5_checkIndex 9 = .ok (.aload_n 2, 1) := dk_44 (dk_at dksJ5_checkIndex_0 9 rfl rfl)
theorem dJ5_checkIndex_10 : decode cJ5_checkIndex 10 = .ok (.iload_n 0, 1) := dk_26 (dk_at dksJ5_checkIndex_0 10 rfl rfl)
theorem dJ5_checkIndex_11 : decode cJ5_checkIndex 11 = .ok (.iload_n 1, 1) := dk_27 (dk_at dksJ5_checkIndex_0 11 rfl rfl)
theorem dJ5_checkIndex_12 : decode cJ5_checkIndex 12 = .ok (.invokestatic 95, 3) := dk_184 0 95 (dk_at dksJ5_checkIndex_0 12 rfl rfl)
theorem dJ5_checkIndex_15 : decode cJ5_checkIndex 15 = .ok (.athrow, 1) := dk_191 (dk_at dksJ5_checkIndex_0 15 rfl rfl)
theorem dJ5_checkIndex_16 : decode cJ5_checkIndex 16 = .ok (.iload_n 0, 1) := dk_26 (dk_at dksJ5_checkIndex_0 16 rfl rfl)
theorem dJ5_checkIndex_17 : decode cJ5_checkIndex 17 = .ok (.ireturn, 1) := dk_172 (dk_at dksJ5_checkIndex_0 17 rfl rfl)
theorem q148 : (Jvm.Cond.initialized "jdk/internal/util/Preconditions") ∈ lw_all := lw_g (lw_at lw_m1 12 rfl) rfl
theorem q444 : (Jvm.Cond.laysStatic "jdk/internal/util/Preconditions" "SIOOBE_FORMATTER" "Ljava/util/function/BiFunction;") ∈ lw_tbl := lw_at lw_m2 68 rfl
theorem q446 : (Jvm.Cond.static ({ cls := "jdk/internal/util/Preconditions", name := "checkIndex", desc := "(IILjava/util/function/BiFunction;)I" } : Jvm.MethodName)) ∈ lw_all := lw_g (lw_at lw_m2 70 rfl) rfl
theorem q447 : (Jvm.Cond.code ({ cls := "jdk/internal/util/Preconditions", name := "checkIndex", desc := "(IILjava/util/function/BiFunction;)I" } : Jvm.MethodName) prog_49_method_11_code (3 : Nat) (Option.some Jvm.ClassFile.FieldType.int)) ∈ lw_all := lw_g (lw_at lw_m2 71 rfl) rfl
/-! java/lang/StringUTF16 -/
set_option maxRecDepth 100000
def RJ6 : String := "java/lang/StringUTF16"
abbrev cJ6_charAt : ByteArray := prog_34_method_83_code
def yJ6_charAt : MethodName := ⟨RJ6, "charAt", "([BI)C"⟩
def dkwJ6_charAt_0 : List UInt8 := [27, 42, 184, 0, 67, 42, 27, 184, 0, 71, 172]
abbrev dktJ6_charAt_0 : List UInt8 := dkwJ6_charAt_0 ++ []
theorem dksJ6_charAt_0 : cJ6_charAt.data.toList.drop 0 = dktJ6_charAt_0 := by decide +kernel
theorem dJ6_charAt_0 : decode cJ6_charAt 0 = .ok (.iload_n 1, 1) := dk_27 (dk_at dksJ6_charAt_0 0 rfl rfl)
theorem dJ6_charAt_1 : decode cJ6_charAt 1 = .ok (.aload_n 0, 1) := dk_42 (dk_at dksJ6_charAt_0 1 rfl rfl)
theorem dJ6_charAt_2 : decode cJ6_charAt 2 = .ok (.invokestatic 67, 3) := dk_184 0 67 (dk_at dksJ6_charAt_0 2 rfl rfl)
theorem dJ6_charAt_5 : decode cJ6_charAt 5 = .ok (.aload_n 0, 1) := dk_42 (dk_at dksJ6_charAt_0 5 rfl rfl)
theorem dJ6_charAt_6 : decode cJ6_charAt 6 = .ok (.iload_n 1, 1) := dk_27 (dk_at dksJ6_charAt_0 6 rfl rfl)
theorem dJ6_charAt_7 : decode cJ6_charAt 7 = .ok (.invokestatic 71, 3) := dk_184 0 71 (dk_at dksJ6_charAt_0 7 rfl rfl)
theorem dJ6_charAt_10 : decode cJ6_charAt 10 = .ok (.ireturn, 1) := dk_172 (dk_at dksJ6_charAt_0 10 rfl rfl)
abbrev cJ6_checkIndex : ByteArray := prog_34_method_91_code
def yJ6_checkIndex : MethodName := ⟨RJ6, "checkIndex", "(I[B)V"⟩
def dkwJ6_checkIndex_0 : List UInt8 := [26, 43, 184, 0, 48, 184, 1, 158, 177]
abbrev dktJ6_checkIndex_0 : List UInt8 := dkwJ6_checkIndex_0 ++ []
theorem dksJ6_checkIndex_0 : cJ6_checkIndex.data.toList.drop 0 = dktJ6_checkIndex_0 := by decide +kernel
theorem dJ6_checkIndex_0 : decode cJ6_checkIndex 0 = .ok (.iload_n 0, 1) := dk_26 (dk_at dksJ6_checkIndex_0 0 rfl rfl)
theorem dJ6_checkIndex_1 : decode cJ6_checkIndex 1 = .ok (.aload_n 1, 1) := dk_43 (dk_at dksJ6_checkIndex_0 1 rfl rfl)
theorem dJ6_checkIndex_2 : decode cJ6_checkIndex 2 = .ok (.invokestatic 48, 3) := dk_184 0 48 (dk_at dksJ6_checkIndex_0 2 rfl rfl)
theorem dJ6_checkIndex_5 : decode cJ6_checkIndex 5 = .ok (.invokestatic 414, 3) := dk_184 1 158 (dk_at dksJ6_checkIndex_0 5 rfl rfl)
theorem dJ6_checkIndex_8 : decode cJ6_checkIndex 8 = .ok (.return_, 1) := dk_177 (dk_at dksJ6_checkIndex_0 8 rfl rfl)
abbrev cJ6_length : ByteArray := prog_34_method_6_code
def yJ6_length : MethodName := ⟨RJ6, "length", "([B)I"⟩
def dkwJ6_length_0 : List UInt8 := [42, 190, 4, 122, 172]
abbrev dktJ6_length_0 : List UInt8 := dkwJ6_length_0 ++ []
theorem dksJ6_length_0 : cJ6_length.data.toList.drop 0 = dktJ6_length_0 := by decide +kernel
theorem dJ6_length_0 : decode cJ6_length 0 = .ok (.aload_n 0, 1) := dk_42 (dk_at dksJ6_length_0 0 rfl rfl)
theorem dJ6_length_1 : decode cJ6_length 1 = .ok (.arraylength, 1) := dk_190 (dk_at dksJ6_length_0 1 rfl rfl)
theorem dJ6_length_2 : decode cJ6_length 2 = .ok (.iconst 1, 1) := dk_4 (dk_at dksJ6_length_0 2 rfl rfl)
theorem dJ6_length_3 : decode cJ6_length 3 = .ok (.ishr, 1) := dk_122 (dk_at dksJ6_length_0 3 rfl rfl)
theorem dJ6_length_4 : decode cJ6_length 4 = .ok (.ireturn, 1) := dk_172 (dk_at dksJ6_length_0 4 rfl rfl)
abbrev cJ6_getChar : ByteArray := prog_34_method_5_code
def yJ6_getChar : MethodName := ⟨RJ6, "getChar", "([BI)C"⟩
def dkwJ6_getChar_2 : List UInt8 := [51, 17, 0, 255, 126, 178, 0, 63, 120, 128, 146, 172]
abbrev dktJ6_getChar_2 : List UInt8 := dkwJ6_getChar_2 ++ []
def dkwJ6_getChar_1 : List UInt8 := [183, 0, 56, 191, 27, 4, 120, 60, 42, 27, 132, 1, 1, 51, 17, 0, 255, 126, 178, 0, 59, 120, 42, 27]
abbrev dktJ6_getChar_1 : List UInt8 := dkwJ6_getChar_1 ++ dktJ6_getChar_2
def dkwJ6_getChar_0 : List UInt8 := [178, 0, 44, 154, 0, 25, 27, 155, 0, 11, 27, 42, 184, 0, 48, 161, 0, 13, 187, 0, 52, 89, 18, 54]
abbrev dktJ6_getChar_0 : List UInt8 := dkwJ6_getChar_0 ++ dktJ6_getChar_1
theorem dksJ6_getChar_0 : cJ6_getChar.data.toList.drop 0 = dktJ6_getChar_0 := by decide +kernel
theorem dksJ6_getChar_1 : cJ6_getChar.data.toList.drop 24 = dktJ6_getChar_1 := dk_seg dksJ6_getChar_0 24 rfl rfl
theorem dksJ6_getChar_2 : cJ6_getChar.data.toList.drop 48 = dktJ6_getChar_2 := dk_seg dksJ6_getChar_1 24 rfl rfl
theorem dJ6_getChar_0 : decode cJ6_getChar 0 = .ok (.getstatic 44, 3) := dk_178 0 44 (dk_at dksJ6_getChar_0 0 rfl rfl)
theorem dJ6_getChar_3 : decode cJ6_getChar 3 = .ok (.ifCond .ne 25, 3) := dk_154 0 25 (dk_at dksJ6_getChar_0 3 rfl rfl)
theorem dJ6_getChar_6 : decode cJ6_getChar 6 = .ok (.iload_n 1, 1) := dk_27 (dk_at dksJ6_getChar_0 6 rfl rfl)
theorem dJ6_getChar_7 : decode cJ6_getChar 7 = .ok (.ifCond .lt 11, 3) := dk_155 0 11 (dk_at dksJ6_getChar_0 7 rfl rfl)
theorem dJ6_getChar_10 : decode cJ6_getChar 10 = .ok (.iload_n 1, 1) := dk_27 (dk_at dksJ6_getChar_0 10 rfl rfl)
theorem dJ6_getChar_11 : decode cJ6_getChar 11 = .ok (.aload_n 0, 1) := dk_42 (dk_at dksJ6_getChar_0 11 rfl rfl)
theorem dJ6_getChar_12 : decode cJ6_getChar 12 = .ok (.invokestatic 48, 3) := dk_184 0 48 (dk_at dksJ6_getChar_0 12 rfl rfl)
theorem dJ6_getChar_15 : decode cJ6_getChar 15 = .ok (.if_icmp .lt 13, 3) := dk_161 0 13 (dk_at dksJ6_getChar_0 15 rfl rfl)
theorem dJ6_getChar_18 : decode cJ6_getChar 18 = .ok (.new 52, 3) := dk_187 0 52 (dk_at dksJ6_getChar_0 18 rfl rfl)
theorem dJ6_getChar_21 : decode cJ6_getChar 21 = .ok (.dup, 1) := dk_89 (dk_at dksJ6_getChar_0 21 rfl rfl)
theorem dJ6_getChar_22 : decode cJ6_getChar 22 = .ok (.ldc 54, 2) := dk_18 54 (dk_at dksJ6_getChar_0 22 rfl rfl)
theorem dJ6_getChar_24 : decode cJ6_getChar 24 = .ok (.invokespecial 56, 3) := dk_183 0 56 (dk_at dksJ6_getChar_1 0 rfl rfl)
theorem dJ6_getChar_27 : decode cJ6_getChar 27 = .ok (.athrow, 1) := dk_191 (dk_at dksJ6_getChar_1 3 rfl rfl)
theorem dJ6_getChar_28 : decode cJ6_getChar 28 = .ok (.iload_n 1, 1) := dk_27 (dk_at dksJ6_getChar_1 4 rfl rfl)
theorem dJ6_getChar_29 : decode cJ6_getChar 29 = .ok (.iconst 1, 1) := dk_4 (dk_at dksJ6_getChar_1 5 rfl rfl)
theorem dJ6_getChar_30 : decode cJ6_getChar 30 = .ok (.ishl, 1) := dk_120 (dk_at dksJ6_getChar_1 6 rfl rfl)
theorem dJ6_getChar_31 : decode cJ6_getChar 31 = .ok (.istore_n 1, 1) := dk_60 (dk_at dksJ6_getChar_1 7 rfl rfl)
theorem dJ6_getChar_32 : decode cJ6_getChar 32 = .ok (.aload_n 0, 1) := dk_42 (dk_at dksJ6_getChar_1 8 rfl rfl)
theorem dJ6_getChar_33 : decode cJ6_getChar 33 = .ok (.iload_n 1, 1) := dk_27 (dk_at dksJ6_getChar_1 9 rfl rfl)
theorem dJ6_getChar_34 : decode cJ6_getChar 34 = .ok (.iinc 1 1, 3) := dk_132 1 1 (dk_at dksJ6_getChar_1 10 rfl rfl)
theorem dJ6_getChar_37 : decode cJ6_getChar 37 = .ok (.baload, 1) := dk_51 (dk_at dksJ6_getChar_1 13 rfl rfl)
theorem dJ6_getChar_38 : decode cJ6_getChar 38 = .ok (.sipush 255, 3) := dk_17 0 255 (dk_at dksJ6_getChar_1 14 rfl rfl)
theorem dJ6_getChar_41 : decode cJ6_getChar 41 = .ok (.iand, 1) := dk_126 (dk_at dksJ6_getChar_1 17 rfl rfl)
theorem dJ6_getChar_42 : decode cJ6_getChar 42 = .ok (.getstatic 59, 3) := dk_178 0 59 (dk_at dksJ6_getChar_1 18 rfl rfl)
theorem dJ6_getChar_45 : decode cJ6_getChar 45 = .ok (.ishl, 1) := dk_120 (dk_at dksJ6_getChar_1 21 rfl rfl)
theorem dJ6_getChar_46 : decode cJ6_getChar 46 = .ok (.aload_n 0, 1) := dk_42 (dk_at dksJ6_getChar_1 22 rfl rfl)
theorem dJ6_getChar_47 : decode cJ6_getChar 47 = .ok (.iload_n 1, 1) := dk_27 (dk_at dksJ6_getChar_1 23 rfl rfl)
theorem dJ6_getChar_48 : decode cJ6_getChar 48 = .ok (.baload, 1) := dk_51 (dk_at dksJ6_getChar_2 0 rfl rfl)
theorem dJ6_getChar_49 : decode cJ6_getChar 49 = .ok (.sipush 255, 3) := dk_17 0 255 (dk_at dksJ6_getChar_2 1 rfl rfl)
theorem dJ6_getChar_52 : decode cJ6_getChar 52 = .ok (.iand, 1) := dk_126 (dk_at dksJ6_getChar_2 4 rfl rfl)
theorem dJ6_getChar_53 : decode cJ6_getChar 53 = .ok (.getstatic 63, 3) := dk_178 0 63 (dk_at dksJ6_getChar_2 5 rfl rfl)
theorem dJ6_getChar_56 : decode cJ6_getChar 56 = .ok (.ishl, 1) := dk_120 (dk_at dksJ6_getChar_2 8 rfl rfl)
theorem dJ6_getChar_57 : decode cJ6_getChar 57 = .ok (.ior, 1) := dk_128 (dk_at dksJ6_getChar_2 9 rfl rfl)
theorem dJ6_getChar_58 : decode cJ6_getChar 58 = .ok (.i2c, 1) := dk_146 (dk_at dksJ6_getChar_2 10 rfl rfl)
theorem dJ6_getChar_59 : decode cJ6_getChar 59 = .ok (.ireturn, 1) := dk_172 (dk_at dksJ6_getChar_2 11 rfl rfl)
theorem q149 : (Jvm.Cond.initialized "java/lang/StringUTF16") ∈ lw_all := lw_g (lw_at lw_m1 13 rfl) rfl
theorem q449 : (Jvm.Cond.static ({ cls := "java/lang/StringUTF16", name := "charAt", desc := "([BI)C" } : Jvm.MethodName)) ∈ lw_all := lw_g (lw_at lw_m2 73 rfl) rfl
theorem q450 : (Jvm.Cond.code ({ cls := "java/lang/StringUTF16", name := "charAt", desc := "([BI)C" } : Jvm.MethodName) prog_34_method_83_code (2 : Nat) (Option.some Jvm.ClassFile.FieldType.char)) ∈ lw_all := lw_g (lw_at lw_m2 74 rfl) rfl
theorem q451 : (Jvm.Cond.methodLink "java/lang/StringUTF16" (67 : Nat) ({ cls := "java/lang/StringUTF16", name := "checkIndex", desc := "(I[B)V" } : Jvm.MethodName)) ∈ lw_all := lw_g (lw_at lw_m2 75 rfl) rfl
theorem q452 : (Jvm.Cond.static ({ cls := "java/lang/StringUTF16", name := "checkIndex", desc := "(I[B)V" } : Jvm.MethodName)) ∈ lw_all := lw_g (lw_at lw_m2 76 rfl) rfl
theorem q453 : (Jvm.Cond.code ({ cls := "java/lang/StringUTF16", name := "checkIndex", desc := "(I[B)V" } : Jvm.MethodName) prog_34_method_91_code (2 : Nat) (Option.none : Option Jvm.ClassFile.FieldType)) ∈ lw_all := lw_g (lw_at lw_m2 77 rfl) rfl
theorem q454 : (Jvm.Cond.methodLink "java/lang/StringUTF16" (48 : Nat) ({ cls := "java/lang/StringUTF16", name := "length", desc := "([B)I" } : Jvm.MethodName)) ∈ lw_all := lw_g (lw_at lw_m2 78 rfl) rfl
theorem q455 : (Jvm.Cond.static ({ cls := "java/lang/StringUTF16", name := "length", desc := "([B)I" } : Jvm.MethodName)) ∈ lw_all := lw_g (lw_at lw_m2 79 rfl) rfl
theorem q456 : (Jvm.Cond.code ({ cls := "java/lang/StringUTF16", name := "length", desc := "([B)I" } : Jvm.MethodName) prog_34_method_6_code (1 : Nat) (Option.some Jvm.ClassFile.FieldType.int)) ∈ lw_all := lw_g (lw_at lw_m2 80 rfl) rfl
theorem q457 : (Jvm.Cond.methodLink "java/lang/StringUTF16" (414 : Nat) ({ cls := "java/lang/String", name := "checkIndex", desc := "(II)V" } : Jvm.MethodName)) ∈ lw_all := lw_g (lw_at lw_m2 81 rfl) rfl
theorem q458 : (Jvm.Cond.methodLink "java/lang/StringUTF16" (71 : Nat) ({ cls := "java/lang/StringUTF16", name := "getChar", desc := "([BI)C" } : Jvm.MethodName)) ∈ lw_all := lw_g (lw_at lw_m2 82 rfl) rfl
theorem q459 : (Jvm.Cond.static ({ cls := "java/lang/StringUTF16", name := "getChar", desc := "([BI)C" } : Jvm.MethodName)) ∈ lw_all := lw_g (lw_at lw_m2 83 rfl) rfl
theorem q460 : (Jvm.Cond.code ({ cls := "java/lang/StringUTF16", name := "getChar", desc := "([BI)C" } : Jvm.MethodName) prog_34_method_5_code (2 : Nat) (Option.some Jvm.ClassFile.FieldType.char)) ∈ lw_all := lw_g (lw_at lw_m2 84 rfl) rfl
theorem q461 : (Jvm.Cond.fieldLink "java/lang/StringUTF16" (44 : Nat) "java/lang/StringUTF16" "$assertionsDisabled" "Z") ∈ lw_all := lw_g (lw_at lw_m2 85 rfl) rfl
theorem q462 : (Jvm.Cond.laysStatic "java/lang/StringUTF16" "$assertionsDisabled" "Z") ∈ lw_tbl := lw_at lw_m2 86 rfl
theorem q463 : (Jvm.Cond.fieldLink "java/lang/StringUTF16" (59 : Nat) "java/lang/StringUTF16" "HI_BYTE_SHIFT" "I") ∈ lw_all := lw_g (lw_at lw_m2 87 rfl) rfl
theorem q464 : (Jvm.Cond.laysStatic "java/lang/StringUTF16" "HI_BYTE_SHIFT" "I") ∈ lw_tbl := lw_at lw_m2 88 rfl
theorem q465 : (Jvm.Cond.fieldLink "java/lang/StringUTF16" (63 : Nat) "java/lang/StringUTF16" "LO_BYTE_SHIFT" "I") ∈ lw_all := lw_g (lw_at lw_m2 89 rfl) rfl
theorem q466 : (Jvm.Cond.laysStatic "java/lang/StringUTF16" "LO_BYTE_SHIFT" "I") ∈ lw_tbl := lw_at lw_m2 90 rfl
/-! java/lang/Math -/
set_option maxRecDepth 100000
def RJ7 : String := "java/lang/Math"
abbrev cJ7_min : ByteArray := prog_29_method_69_code
def yJ7_min : MethodName := ⟨RJ7, "min", "(II)I"⟩
def dkwJ7_min_0 : List UInt8 := [26, 27, 163, 0, 7, 26, 167, 0, 4, 27, 172]
abbrev dktJ7_min_0 : List UInt8 := dkwJ7_min_0 ++ []
theorem dksJ7_min_0 : cJ7_min.data.toList.drop 0 = dktJ7_min_0 := by decide +kernel
theorem dJ7_min_0 : decode cJ7_min 0 = .ok (.iload_n 0, 1) := dk_26 (dk_at dksJ7_min_0 0 rfl rfl)
theorem dJ7_min_1 : decode cJ7_min 1 = .ok (.iload_n 1, 1) := dk_27 (dk_at dksJ7_min_0 1 rfl rfl)
theorem dJ7_min_2 : decode cJ7_min 2 = .ok (.if_icmp .gt 7, 3) := dk_163 0 7 (dk_at dksJ7_min_0 2 rfl rfl)
theorem dJ7_min_5 : decode cJ7_min 5 = .ok (.iload_n 0, 1) := dk_26 (dk_at dksJ7_min_0 5 rfl rfl)
theorem dJ7_min_6 : decode cJ7_min 6 = .ok (.goto 4, 3) := dk_167 0 4 (dk_at dksJ7_min_0 6 rfl rfl)
theorem dJ7_min_9 : decode cJ7_min 9 = .ok (.iload_n 1, 1) := dk_27 (dk_at dksJ7_min_0 9 rfl rfl)
theorem dJ7_min_10 : decode cJ7_min 10 = .ok (.ireturn, 1) := dk_172 (dk_at dksJ7_min_0 10 rfl rfl)
abbrev cJ7_max : ByteArray := prog_29_method_65_code
def yJ7_max : MethodName := ⟨RJ7, "max", "(II)I"⟩
def dkwJ7_max_0 : List UInt8 := [26, 27, 161, 0, 7, 26, 167, 0, 4, 27, 172]
abbrev dktJ7_max_0 : List UInt8 := dkwJ7_max_0 ++ []
theorem dksJ7_max_0 : cJ7_max.data.toList.drop 0 = dktJ7_max_0 := by decide +kernel
theorem dJ7_max_0 : decode cJ7_max 0 = .ok (.iload_n 0, 1) := dk_26 (dk_at dksJ7_max_0 0 rfl rfl)
theorem dJ7_max_1 : decode cJ7_max 1 = .ok (.iload_n 1, 1) := dk_27 (dk_at dksJ7_max_0 1 rfl rfl)
theorem dJ7_max_2 : decode cJ7_max 2 = .ok (.if_icmp .lt 7, 3) := dk_161 0 7 (dk_at dksJ7_max_0 2 rfl rfl)
theorem dJ7_max_5 : decode cJ7_max 5 = .ok (.iload_n 0, 1) := dk_26 (dk_at dksJ7_max_0 5 rfl rfl)
theorem dJ7_max_6 : decode cJ7_max 6 = .ok (.goto 4, 3) := dk_167 0 4 (dk_at dksJ7_max_0 6 rfl rfl)
theorem dJ7_max_9 : decode cJ7_max 9 = .ok (.iload_n 1, 1) := dk_27 (dk_at dksJ7_max_0 9 rfl rfl)
theorem dJ7_max_10 : decode cJ7_max 10 = .ok (.ireturn, 1) := dk_172 (dk_at dksJ7_max_0 10 rfl rfl)
abbrev cJ7_min_2 : ByteArray := prog_29_method_70_code
def yJ7_min_2 : MethodName := ⟨RJ7, "min", "(JJ)J"⟩
def dkwJ7_min_2_0 : List UInt8 := [30, 32, 148, 157, 0, 7, 30, 167, 0, 4, 32, 173]
abbrev dktJ7_min_2_0 : List UInt8 := dkwJ7_min_2_0 ++ []
theorem dksJ7_min_2_0 : cJ7_min_2.data.toList.drop 0 = dktJ7_min_2_0 := by decide +kernel
theorem dJ7_min_2_0 : decode cJ7_min_2 0 = .ok (.lload_n 0, 1) := dk_30 (dk_at dksJ7_min_2_0 0 rfl rfl)
theorem dJ7_min_2_1 : decode cJ7_min_2 1 = .ok (.lload_n 2, 1) := dk_32 (dk_at dksJ7_min_2_0 1 rfl rfl)
theorem dJ7_min_2_2 : decode cJ7_min_2 2 = .ok (.lcmp, 1) := dk_148 (dk_at dksJ7_min_2_0 2 rfl rfl)
theorem dJ7_min_2_3 : decode cJ7_min_2 3 = .ok (.ifCond .gt 7, 3) := dk_157 0 7 (dk_at dksJ7_min_2_0 3 rfl rfl)
theorem dJ7_min_2_6 : decode cJ7_min_2 6 = .ok (.lload_n 0, 1) := dk_30 (dk_at dksJ7_min_2_0 6 rfl rfl)
theorem dJ7_min_2_7 : decode cJ7_min_2 7 = .ok (.goto 4, 3) := dk_167 0 4 (dk_at dksJ7_min_2_0 7 rfl rfl)
theorem dJ7_min_2_10 : decode cJ7_min_2 10 = .ok (.lload_n 2, 1) := dk_32 (dk_at dksJ7_min_2_0 10 rfl rfl)
theorem dJ7_min_2_11 : decode cJ7_min_2 11 = .ok (.lreturn, 1) := dk_173 (dk_at dksJ7_min_2_0 11 rfl rfl)
abbrev cJ7_max_2 : ByteArray := prog_29_method_66_code
def yJ7_max_2 : MethodName := ⟨RJ7, "max", "(JJ)J"⟩
def dkwJ7_max_2_0 : List UInt8 := [30, 32, 148, 155, 0, 7, 30, 167, 0, 4, 32, 173]
abbrev dktJ7_max_2_0 : List UInt8 := dkwJ7_max_2_0 ++ []
theorem dksJ7_max_2_0 : cJ7_max_2.data.toList.drop 0 = dktJ7_max_2_0 := by decide +kernel
theorem dJ7_max_2_0 : decode cJ7_max_2 0 = .ok (.lload_n 0, 1) := dk_30 (dk_at dksJ7_max_2_0 0 rfl rfl)
theorem dJ7_max_2_1 : decode cJ7_max_2 1 = .ok (.lload_n 2, 1) := dk_32 (dk_at dksJ7_max_2_0 1 rfl rfl)
theorem dJ7_max_2_2 : decode cJ7_max_2 2 = .ok (.lcmp, 1) := dk_148 (dk_at dksJ7_max_2_0 2 rfl rfl)
theorem dJ7_max_2_3 : decode cJ7_max_2 3 = .ok (.ifCond .lt 7, 3) := dk_155 0 7 (dk_at dksJ7_max_2_0 3 rfl rfl)
theorem dJ7_max_2_6 : decode cJ7_max_2 6 = .ok (.lload_n 0, 1) := dk_30 (dk_at dksJ7_max_2_0 6 rfl rfl)
theorem dJ7_max_2_7 : decode cJ7_max_2 7 = .ok (.goto 4, 3) := dk_167 0 4 (dk_at dksJ7_max_2_0 7 rfl rfl)
theorem dJ7_max_2_10 : decode cJ7_max_2 10 = .ok (.lload_n 2, 1) := dk_32 (dk_at dksJ7_max_2_0 10 rfl rfl)
theorem dJ7_max_2_11 : decode cJ7_max_2 11 = .ok (.lreturn, 1) := dk_173 (dk_at dksJ7_max_2_0 11 rfl rfl)
abbrev cJ7_abs : ByteArray := prog_29_method_59_code
def yJ7_abs : MethodName := ⟨RJ7, "abs", "(I)I"⟩
def dkwJ7_abs_0 : List UInt8 := [26, 156, 0, 8, 26, 116, 167, 0, 4, 26, 172]
abbrev dktJ7_abs_0 : List UInt8 := dkwJ7_abs_0 ++ []
theorem dksJ7_abs_0 : cJ7_abs.data.toList.drop 0 = dktJ7_abs_0 := by decide +kernel
theorem dJ7_abs_0 : decode cJ7_abs 0 = .ok (.iload_n 0, 1) := dk_26 (dk_at dksJ7_abs_0 0 rfl rfl)
theorem dJ7_abs_1 : decode cJ7_abs 1 = .ok (.ifCond .ge 8, 3) := dk_156 0 8 (dk_at dksJ7_abs_0 1 rfl rfl)
theorem dJ7_abs_4 : decode cJ7_abs 4 = .ok (.iload_n 0, 1) := dk_26 (dk_at dksJ7_abs_0 4 rfl rfl)
theorem dJ7_abs_5 : decode cJ7_abs 5 = .ok (.ineg, 1) := dk_116 (dk_at dksJ7_abs_0 5 rfl rfl)
theorem dJ7_abs_6 : decode cJ7_abs 6 = .ok (.goto 4, 3) := dk_167 0 4 (dk_at dksJ7_abs_0 6 rfl rfl)
theorem dJ7_abs_9 : decode cJ7_abs 9 = .ok (.iload_n 0, 1) := dk_26 (dk_at dksJ7_abs_0 9 rfl rfl)
theorem dJ7_abs_10 : decode cJ7_abs 10 = .ok (.ireturn, 1) := dk_172 (dk_at dksJ7_abs_0 10 rfl rfl)
theorem q150 : (Jvm.Cond.initialized "java/lang/Math") ∈ lw_all := lw_g (lw_at lw_m1 14 rfl) rfl
theorem q472 : (Jvm.Cond.static ({ cls := "java/lang/Math", name := "min", desc := "(II)I" } : Jvm.MethodName)) ∈ lw_all := lw_g (lw_at lw_m2 96 rfl) rfl
theorem q473 : (Jvm.Cond.code ({ cls := "java/lang/Math", name := "min", desc := "(II)I" } : Jvm.MethodName) prog_29_method_69_code (2 : Nat) (Option.some Jvm.ClassFile.FieldType.int)) ∈ lw_all := lw_g (lw_at lw_m2 97 rfl) rfl
theorem q632 : (Jvm.Cond.static ({ cls := "java/lang/Math", name := "max", desc := "(II)I" } : Jvm.MethodName)) ∈ lw_all := lw_g (lw_at lw_m3 16 rfl) rfl
theorem q633 : (Jvm.Cond.code ({ cls := "java/lang/Math", name := "max", desc := "(II)I" } : Jvm.MethodName) prog_29_method_65_code (2 : Nat) (Option.some Jvm.ClassFile.FieldType.int)) ∈ lw_all := lw_g (lw_at lw_m3 17 rfl) rfl
theorem q992 : (Jvm.Cond.static ({ cls := "java/lang/Math", name := "min", desc := "(JJ)J" } : Jvm.MethodName)) ∈ lw_all := lw_g (lw_at lw_m4 136 rfl) rfl
theorem q993 : (Jvm.Cond.code ({ cls := "java/lang/Math", name := "min", desc := "(JJ)J" } : Jvm.MethodName) prog_29_method_70_code (4 : Nat) (Option.some Jvm.ClassFile.FieldType.long)) ∈ lw_all := lw_g (lw_at lw_m4 137 rfl) rfl
theorem q995 : (Jvm.Cond.static ({ cls := "java/lang/Math", name := "max", desc := "(JJ)J" } : Jvm.MethodName)) ∈ lw_all := lw_g (lw_at lw_m4 139 rfl) rfl
theorem q996 : (Jvm.Cond.code ({ cls := "java/lang/Math", name := "max", desc := "(JJ)J" } : Jvm.MethodName) prog_29_method_66_code (4 : Nat) (Option.some Jvm.ClassFile.FieldType.long)) ∈ lw_all := lw_g (lw_at lw_m4 140 rfl) rfl
theorem q1310 : (Jvm.Cond.static ({ cls := "java/lang/Math", name := "abs", desc := "(I)I" } : Jvm.MethodName)) ∈ lw_all := lw_g (lw_at lw_m5 214 rfl) rfl
theorem q1311 : (Jvm.Cond.code ({ cls := "java/lang/Math", name := "abs", desc := "(I)I" } : Jvm.MethodName) prog_29_method_59_code (1 : Nat) (Option.some Jvm.ClassFile.FieldType.int)) ∈ lw_all := lw_g (lw_at lw_m5 215 rfl) rfl
/-! java/lang/Throwable -/
set_option maxRecDepth 100000
def RJ8 : String := "java/lang/Throwable"
def TJ8 : u_T := fun k => match k with
  | 0 => ("java/lang/Throwable", "cause", "Ljava/lang/Throwable;", false)
  | 1 => ("java/lang/Throwable", "stackTrace", "[Ljava/lang/StackTraceElement;", false)
  | 2 => ("java/lang/Throwable", "suppressedExceptions", "Ljava/util/List;", false)
  | 3 => ("java/lang/Throwable", "detailMessage", "Ljava/lang/String;", false)
  | _ => ("java/lang/Throwable", "backtrace", "Ljava/lang/Object;", false)
def tyJ8 : Nat → FieldType := fun k => match k with
  | 0 => .object "java/lang/Throwable"
  | 1 => .array (.object "java/lang/StackTraceElement")
  | 2 => .object "java/util/List"
  | 3 => .object "java/lang/String"
  | _ => .object "java/lang/Object"
abbrev wsJ80 : List Cond := u_ws RJ8 TJ8 5
theorem nmJ8 : ∀ a, a < 5 → ∀ b, b < 5 → a ≠ b → (TJ8 a).2.1 ≠ (TJ8 b).2.1 := by decide +kernel
theorem tyJ8_ok : ∀ k, k < 5 → parseFieldDescriptor (TJ8 k).2.2.1 = some (tyJ8 k) := by decide +kernel
abbrev cJ8_init : ByteArray := prog_36_method_1_code
def yJ8_init : MethodName := ⟨RJ8, "<init>", "()V"⟩
def dkwJ8_init_1 : List UInt8 := [182, 0, 27, 87, 177]
abbrev dktJ8_init_1 : List UInt8 := dkwJ8_init_1 ++ []
def dkwJ8_init_0 : List UInt8 := [42, 183, 0, 1, 42, 42, 181, 0, 7, 42, 178, 0, 13, 181, 0, 17, 42, 178, 0, 20, 181, 0, 24, 42]
abbrev dktJ8_init_0 : List UInt8 := dkwJ8_init_0 ++ dktJ8_init_1
theorem dksJ8_init_0 : cJ8_init.data.toList.drop 0 = dktJ8_init_0 := by decide +kernel
theorem dksJ8_init_1 : cJ8_init.data.toList.drop 24 = dktJ8_init_1 := dk_seg dksJ8_init_0 24 rfl rfl
theorem dJ8_init_0 : decode cJ8_init 0 = .ok (.aload_n 0, 1) := dk_42 (dk_at dksJ8_init_0 0 rfl rfl)
theorem dJ8_init_1 : decode cJ8_init 1 = .ok (.invokespecial 1, 3) := dk_183 0 1 (dk_at dksJ8_init_0 1 rfl rfl)
theorem dJ8_init_4 : decode cJ8_init 4 = .ok (.aload_n 0, 1) := dk_42 (dk_at dksJ8_init_0 4 rfl rfl)
theorem dJ8_init_5 : decode cJ8_init 5 = .ok (.aload_n 0, 1) := dk_42 (dk_at dksJ8_init_0 5 rfl rfl)
theorem dJ8_init_6 : decode cJ8_init 6 = .ok (.putfield 7, 3) := dk_181 0 7 (dk_at dksJ8_init_0 6 rfl rfl)
theorem dJ8_init_9 : decode cJ8_init 9 = .ok (.aload_n 0, 1) := dk_42 (dk_at dksJ8_init_0 9 rfl rfl)
theorem dJ8_init_10 : decode cJ8_init 10 = .ok (.getstatic 13, 3) := dk_178 0 13 (dk_at dksJ8_init_0 10 rfl rfl)
theorem dJ8_init_13 : decode cJ8_init 13 = .ok (.putfield 17, 3) := dk_181 0 17 (dk_at dksJ8_init_0 13 rfl rfl)
theorem dJ8_init_16 : decode cJ8_init 16 = .ok (.aload_n 0, 1) := dk_42 (dk_at dksJ8_init_0 16 rfl rfl)
theorem dJ8_init_17 : decode cJ8_init 17 = .ok (.getstatic 20, 3) := dk_178 0 20 (dk_at dksJ8_init_0 17 rfl rfl)
theorem dJ8_init_20 : decode cJ8_init 20 = .ok (.putfield 24, 3) := dk_181 0 24 (dk_at dksJ8_init_0 20 rfl rfl)
theorem dJ8_init_23 : decode cJ8_init 23 = .ok (.aload_n 0, 1) := dk_42 (dk_at dksJ8_init_0 23 rfl rfl)
theorem dJ8_init_24 : decode cJ8_init 24 = .ok (.invokevirtual 27, 3) := dk_182 0 27 (dk_at dksJ8_init_1 0 rfl rfl)
theorem dJ8_init_27 : decode cJ8_init 27 = .ok (.pop, 1) := dk_87 (dk_at dksJ8_init_1 3 rfl rfl)
theorem dJ8_init_28 : decode cJ8_init 28 = .ok (.return_, 1) := dk_177 (dk_at dksJ8_init_1 4 rfl rfl)
theorem q151 : (Jvm.Cond.initialized "java/lang/Throwable") ∈ lw_all := lw_g (lw_at lw_m1 15 rfl) rfl
theorem q484 : (Jvm.Cond.declares ({ cls := "java/lang/Throwable", name := "<init>", desc := "()V" } : Jvm.MethodName)) ∈ lw_tbl := lw_at lw_m2 108 rfl
theorem q485 : (Jvm.Cond.declares ({ cls := "java/lang/Throwable", name := "<init>", desc := "(Ljava/lang/String;)V" } : Jvm.MethodName)) ∈ lw_tbl := lw_at lw_m2 109 rfl
theorem q489 : (Jvm.Cond.lays "java/lang/Throwable" "java/lang/Throwable" "cause" "Ljava/lang/Throwable;") ∈ lw_all := lw_g (lw_at lw_m2 113 rfl) rfl
theorem q491 : (Jvm.Cond.lays "java/lang/Throwable" "java/lang/Throwable" "stackTrace" "[Ljava/lang/StackTraceElement;") ∈ lw_all := lw_g (lw_at lw_m2 115 rfl) rfl
theorem q493 : (Jvm.Cond.lays "java/lang/Throwable" "java/lang/Throwable" "suppressedExceptions" "Ljava/util/List;") ∈ lw_all := lw_g (lw_at lw_m2 117 rfl) rfl
theorem q495 : (Jvm.Cond.lays "java/lang/Throwable" "java/lang/Throwable" "detailMessage" "Ljava/lang/String;") ∈ lw_all := lw_g (lw_at lw_m2 119 rfl) rfl
theorem q497 : (Jvm.Cond.lays "java/lang/Throwable" "java/lang/Throwable" "backtrace" "Ljava/lang/Object;") ∈ lw_all := lw_g (lw_at lw_m2 121 rfl) rfl
theorem q498 : (Jvm.Cond.fieldLink "java/lang/Throwable" (198 : Nat) "java/lang/Throwable" "backtrace" "Ljava/lang/Object;") ∈ lw_all := lw_g (lw_at lw_m2 122 rfl) rfl
theorem q499 : (Jvm.Cond.superclass "java/lang/Throwable" "java/lang/Object") ∈ lw_all := lw_g (lw_at lw_m2 123 rfl) rfl
theorem q500 : (Jvm.Cond.instanceMethod ({ cls := "java/lang/Throwable", name := "<init>", desc := "()V" } : Jvm.MethodName)) ∈ lw_all := lw_g (lw_at lw_m2 124 rfl) rfl
theorem q501 : (Jvm.Cond.code ({ cls := "java/lang/Throwable", name := "<init>", desc := "()V" } : Jvm.MethodName) prog_36_method_1_code (1 : Nat) (Option.none : Option Jvm.ClassFile.FieldType)) ∈ lw_all := lw_g (lw_at lw_m2 125 rfl) rfl
theorem q502 : (Jvm.Cond.methodLink "java/lang/Throwable" (1 : Nat) ({ cls := "java/lang/Object", name := "<init>", desc := "()V" } : Jvm.MethodName)) ∈ lw_all := lw_g (lw_at lw_m2 126 rfl) rfl
theorem q503 : (Jvm.Cond.fieldLink "java/lang/Throwable" (13 : Nat) "java/lang/Throwable" "UNASSIGNED_STACK" "[Ljava/lang/StackTraceElement;") ∈ lw_all := lw_g (lw_at lw_m2 127 rfl) rfl
theorem q504 : (Jvm.Cond.laysStatic "java/lang/Throwable" "UNASSIGNED_STACK" "[Ljava/lang/StackTraceElement;") ∈ lw_tbl := lw_at lw_m2 128 rfl
theorem q505 : (Jvm.Cond.fieldLink "java/lang/Throwable" (20 : Nat) "java/lang/Throwable" "SUPPRESSED_SENTINEL" "Ljava/util/List;") ∈ lw_all := lw_g (lw_at lw_m2 129 rfl) rfl
theorem q506 : (Jvm.Cond.laysStatic "java/lang/Throwable" "SUPPRESSED_SENTINEL" "Ljava/util/List;") ∈ lw_tbl := lw_at lw_m2 130 rfl
theorem q507 : (Jvm.Cond.methodLink "java/lang/Throwable" (27 : Nat) ({ cls := "java/lang/Throwable", name := "fillInStackTrace", desc := "()Ljava/lang/Throwable;" } : Jvm.MethodName)) ∈ lw_all := lw_g (lw_at lw_m2 131 rfl) rfl
theorem q508 : (Jvm.Cond.instanceMethod ({ cls := "java/lang/Throwable", name := "fillInStackTrace", desc := "()Ljava/lang/Throwable;" } : Jvm.MethodName)) ∈ lw_all := lw_g (lw_at lw_m2 132 rfl) rfl
theorem q509 : (Jvm.Cond.sameMethod "java/lang/Throwable" "java/lang/Throwable" "fillInStackTrace" "()Ljava/lang/Throwable;") ∈ lw_all := lw_g (lw_at lw_m2 133 rfl) rfl
theorem q510 : (Jvm.Cond.codeSync ({ cls := "java/lang/Throwable", name := "fillInStackTrace", desc := "()Ljava/lang/Throwable;" } : Jvm.MethodName) prog_36_method_18_code (1 : Nat) (Option.some (Jvm.ClassFile.FieldType.object "java/lang/Throwable"))) ∈ lw_all := lw_g (lw_at lw_m2 134 rfl) rfl
theorem q511 : (Jvm.Cond.methodLink "java/lang/Throwable" (202 : Nat) ({ cls := "java/lang/Throwable", name := "fillInStackTrace", desc := "(I)Ljava/lang/Throwable;" } : Jvm.MethodName)) ∈ lw_all := lw_g (lw_at lw_m2 135 rfl) rfl
theorem q512 : (Jvm.Cond.privateMethod ({ cls := "java/lang/Throwable", name := "fillInStackTrace", desc := "(I)Ljava/lang/Throwable;" } : Jvm.MethodName)) ∈ lw_tbl := lw_at lw_m2 136 rfl
theorem q513 : (Jvm.Cond.instanceMethod ({ cls := "java/lang/Throwable", name := "fillInStackTrace", desc := "(I)Ljava/lang/Throwable;" } : Jvm.MethodName)) ∈ lw_all := lw_g (lw_at lw_m2 137 rfl) rfl
theorem q514 : (Jvm.Cond.instantiable "java/lang/Throwable" (6 : Nat)) ∈ lw_all := lw_g (lw_at lw_m2 138 rfl) rfl
theorem q515 : (Jvm.Cond.native ({ cls := "java/lang/Throwable", name := "fillInStackTrace", desc := "(I)Ljava/lang/Throwable;" } : Jvm.MethodName)) ∈ lw_all := lw_g (lw_at lw_m2 139 rfl) rfl
theorem q527 : (Jvm.Cond.fieldLink "java/lang/Throwable" (198 : Nat) "java/lang/Throwable" "backtrace" "Ljava/lang/Object;") ∈ lw_all := lw_g (lw_at lw_m2 151 rfl) rfl
theorem q528 : (Jvm.Cond.fieldLink "java/lang/Throwable" (7 : Nat) "java/lang/Throwable" "cause" "Ljava/lang/Throwable;") ∈ lw_all := lw_g (lw_at lw_m2 152 rfl) rfl
theorem q529 : (Jvm.Cond.fieldLink "java/lang/Throwable" (17 : Nat) "java/lang/Throwable" "stackTrace" "[Ljava/lang/StackTraceElement;") ∈ lw_all := lw_g (lw_at lw_m2 153 rfl) rfl
theorem q530 : (Jvm.Cond.fieldLink "java/lang/Throwable" (24 : Nat) "java/lang/Throwable" "suppressedExceptions" "Ljava/util/List;") ∈ lw_all := lw_g (lw_at lw_m2 154 rfl) rfl
theorem q535 : (Jvm.Cond.soleField "java/lang/Throwable" "backtrace") ∈ lw_all := lw_g (lw_at lw_m2 159 rfl) rfl
theorem q536 : (Jvm.Cond.soleField "java/lang/Throwable" "detailMessage") ∈ lw_all := lw_g (lw_at lw_m2 160 rfl) rfl
theorem q537 : (Jvm.Cond.soleField "java/lang/Throwable" "cause") ∈ lw_all := lw_g (lw_at lw_m2 161 rfl) rfl
theorem q538 : (Jvm.Cond.soleField "java/lang/Throwable" "stackTrace") ∈ lw_all := lw_g (lw_at lw_m2 162 rfl) rfl
theorem q540 : (Jvm.Cond.soleField "java/lang/Throwable" "depth") ∈ lw_all := lw_g (lw_at lw_m2 164 rfl) rfl
theorem q541 : (Jvm.Cond.soleField "java/lang/Throwable" "suppressedExceptions") ∈ lw_all := lw_g (lw_at lw_m2 165 rfl) rfl
theorem q2023 : (Jvm.Cond.sameMethod "java/lang/Throwable" "java/lang/Throwable" "fillInStackTrace" "(I)Ljava/lang/Throwable;") ∈ lw_all := lw_g (lw_at lw_m8 207 rfl) rfl
theorem q2046 : (Jvm.Cond.castable "java/lang/Throwable" "java/lang/Object") ∈ lw_tbl := lw_at lw_m8 230 rfl
theorem in_J8 : ∀ w ∈ wsJ80, w ∈ lw_all := lw_in wsJ80 [489, 491, 493, 495, 497] (by decide +kernel) (by decide +kernel)
/-! java/lang/Exception -/
set_option maxRecDepth 100000
def RJ9 : String := "java/lang/Exception"
abbrev cJ9_init : ByteArray := prog_25_method_1_code
def yJ9_init : MethodName := ⟨RJ9, "<init>", "()V"⟩
theorem dJ9_init_0 : decode cJ9_init 0 = .ok (.aload_n 0, 1) := by decide +kernel
theorem dJ9_init_1 : decode cJ9_init 1 = .ok (.invokespecial 1, 3) := by decide +kernel
theorem dJ9_init_4 : decode cJ9_init 4 = .ok (.return_, 1) := by decide +kernel
theorem q152 : (Jvm.Cond.initialized "java/lang/Exception") ∈ lw_all := lw_g (lw_at lw_m1 16 rfl) rfl
theorem q482 : (Jvm.Cond.declares ({ cls := "java/lang/Exception", name := "<init>", desc := "()V" } : Jvm.MethodName)) ∈ lw_tbl := lw_at lw_m2 106 rfl
theorem q483 : (Jvm.Cond.declares ({ cls := "java/lang/Exception", name := "<init>", desc := "(Ljava/lang/String;)V" } : Jvm.MethodName)) ∈ lw_tbl := lw_at lw_m2 107 rfl
theorem q520 : (Jvm.Cond.instanceMethod ({ cls := "java/lang/Exception", name := "<init>", desc := "()V" } : Jvm.MethodName)) ∈ lw_all := lw_g (lw_at lw_m2 144 rfl) rfl
theorem q521 : (Jvm.Cond.code ({ cls := "java/lang/Exception", name := "<init>", desc := "()V" } : Jvm.MethodName) prog_25_method_1_code (1 : Nat) (Option.none : Option Jvm.ClassFile.FieldType)) ∈ lw_all := lw_g (lw_at lw_m2 145 rfl) rfl
theorem q522 : (Jvm.Cond.methodLink "java/lang/Exception" (1 : Nat) ({ cls := "java/lang/Throwable", name := "<init>", desc := "()V" } : Jvm.MethodName)) ∈ lw_all := lw_g (lw_at lw_m2 146 rfl) rfl
