/-! VaneCourt -/
set_option maxRecDepth 100000
def RX0 : String := "VaneCourt"
def TX0 : u_T := fun k => match k with
  | 0 => ("VaneCourt", "now", "LVaneCourt$State;", true)
  | 1 => ("VaneCourt", "image", "LVaneCourt$State;", true)
  | 2 => ("VaneCourt", "tape", "[B", true)
  | 3 => ("VaneCourt", "taped", "I", false)
  | 4 => ("VaneCourt", "fault", "I", false)
  | 5 => ("VaneCourt", "faultAt", "I", false)
  | 6 => ("VaneCourt", "names", "[I", true)
  | 7 => ("VaneCourt", "tried", "[I", true)
  | 8 => ("VaneCourt", "gone", "[[I", true)
  | 9 => ("VaneCourt", "comes", "[I", true)
  | 10 => ("VaneCourt", "order", "[I", true)
  | 11 => ("VaneCourt", "bestOrder", "[I", true)
  | _ => ("VaneCourt", "most", "I", false)
def tyX0 : Nat → FieldType := fun k => match k with
  | 0 => .object "VaneCourt$State"
  | 1 => .object "VaneCourt$State"
  | 2 => .array .byte
  | 3 => .int
  | 4 => .int
  | 5 => .int
  | 6 => .array .int
  | 7 => .array .int
  | 8 => .array (.array .int)
  | 9 => .array .int
  | 10 => .array .int
  | 11 => .array .int
  | _ => .int
abbrev wsX00 : List Cond := u_ws RX0 TX0 13
set_option maxRecDepth 100000 in
theorem nmX0 : ∀ a, a < 13 → ∀ b, b < 13 → a ≠ b → (TX0 a).2.1 ≠ (TX0 b).2.1 := by decide +kernel
set_option maxRecDepth 100000 in
theorem tyX0_ok : ∀ k, k < 13 → parseFieldDescriptor (TX0 k).2.2.1 = some (tyX0 k) := by decide +kernel
abbrev cX0_init : ByteArray := prog_1_method_4_code
def yX0_init : MethodName := ⟨RX0, "<init>", "()V"⟩
def dkwX0_init_4 : List UInt8 := [188, 10, 181, 0, 57, 42, 180, 0, 25, 42, 180, 0, 21, 182, 0, 60, 177]
abbrev dktX0_init_4 : List UInt8 := dkwX0_init_4 ++ []
def dkwX0_init_3 : List UInt8 := [197, 0, 46, 2, 181, 0, 48, 42, 7, 188, 10, 181, 0, 51, 42, 8, 188, 10, 181, 0, 54, 42, 8]
abbrev dktX0_init_3 : List UInt8 := dkwX0_init_3 ++ dktX0_init_4
def dkwX0_init_2 : List UInt8 := [16, 9, 188, 10, 181, 0, 39, 42, 17, 0, 154, 188, 10, 181, 0, 43, 42, 6, 17, 0, 154]
abbrev dktX0_init_2 : List UInt8 := dkwX0_init_2 ++ dktX0_init_3
def dkwX0_init_1 : List UInt8 := [181, 0, 25, 42, 17, 1, 44, 188, 8, 181, 0, 28, 42, 2, 181, 0, 32, 42, 2, 181, 0, 36, 42]
abbrev dktX0_init_1 : List UInt8 := dkwX0_init_1 ++ dktX0_init_2
def dkwX0_init_0 : List UInt8 := [42, 183, 0, 12, 42, 187, 0, 18, 89, 183, 0, 20, 181, 0, 21, 42, 187, 0, 18, 89, 183, 0, 20]
abbrev dktX0_init_0 : List UInt8 := dkwX0_init_0 ++ dktX0_init_1
theorem dksX0_init_0 : cX0_init.data.toList.drop 0 = dktX0_init_0 := by decide +kernel
theorem dksX0_init_1 : cX0_init.data.toList.drop 23 = dktX0_init_1 := dk_seg dksX0_init_0 23 rfl rfl
theorem dksX0_init_2 : cX0_init.data.toList.drop 46 = dktX0_init_2 := dk_seg dksX0_init_1 23 rfl rfl
theorem dksX0_init_3 : cX0_init.data.toList.drop 67 = dktX0_init_3 := dk_seg dksX0_init_2 21 rfl rfl
theorem dksX0_init_4 : cX0_init.data.toList.drop 90 = dktX0_init_4 := dk_seg dksX0_init_3 23 rfl rfl
theorem dX0_init_0 : decode cX0_init 0 = .ok (.aload_n 0, 1) := dk_42 (dk_at dksX0_init_0 0 rfl rfl)
theorem dX0_init_1 : decode cX0_init 1 = .ok (.invokespecial 12, 3) := dk_183 0 12 (dk_at dksX0_init_0 1 rfl rfl)
theorem dX0_init_4 : decode cX0_init 4 = .ok (.aload_n 0, 1) := dk_42 (dk_at dksX0_init_0 4 rfl rfl)
theorem dX0_init_5 : decode cX0_init 5 = .ok (.new 18, 3) := dk_187 0 18 (dk_at dksX0_init_0 5 rfl rfl)
theorem dX0_init_8 : decode cX0_init 8 = .ok (.dup, 1) := dk_89 (dk_at dksX0_init_0 8 rfl rfl)
theorem dX0_init_9 : decode cX0_init 9 = .ok (.invokespecial 20, 3) := dk_183 0 20 (dk_at dksX0_init_0 9 rfl rfl)
theorem dX0_init_12 : decode cX0_init 12 = .ok (.putfield 21, 3) := dk_181 0 21 (dk_at dksX0_init_0 12 rfl rfl)
theorem dX0_init_15 : decode cX0_init 15 = .ok (.aload_n 0, 1) := dk_42 (dk_at dksX0_init_0 15 rfl rfl)
theorem dX0_init_16 : decode cX0_init 16 = .ok (.new 18, 3) := dk_187 0 18 (dk_at dksX0_init_0 16 rfl rfl)
theorem dX0_init_19 : decode cX0_init 19 = .ok (.dup, 1) := dk_89 (dk_at dksX0_init_0 19 rfl rfl)
theorem dX0_init_20 : decode cX0_init 20 = .ok (.invokespecial 20, 3) := dk_183 0 20 (dk_at dksX0_init_0 20 rfl rfl)
theorem dX0_init_23 : decode cX0_init 23 = .ok (.putfield 25, 3) := dk_181 0 25 (dk_at dksX0_init_1 0 rfl rfl)
theorem dX0_init_26 : decode cX0_init 26 = .ok (.aload_n 0, 1) := dk_42 (dk_at dksX0_init_1 3 rfl rfl)
theorem dX0_init_27 : decode cX0_init 27 = .ok (.sipush 300, 3) := dk_17 1 44 (dk_at dksX0_init_1 4 rfl rfl)
theorem dX0_init_30 : decode cX0_init 30 = .ok (.newarray .byte, 2) := dk_188_8 (dk_at dksX0_init_1 7 rfl rfl)
theorem dX0_init_32 : decode cX0_init 32 = .ok (.putfield 28, 3) := dk_181 0 28 (dk_at dksX0_init_1 9 rfl rfl)
theorem dX0_init_35 : decode cX0_init 35 = .ok (.aload_n 0, 1) := dk_42 (dk_at dksX0_init_1 12 rfl rfl)
theorem dX0_init_36 : decode cX0_init 36 = .ok (.iconst (-1), 1) := dk_2 (dk_at dksX0_init_1 13 rfl rfl)
theorem dX0_init_37 : decode cX0_init 37 = .ok (.putfield 32, 3) := dk_181 0 32 (dk_at dksX0_init_1 14 rfl rfl)
theorem dX0_init_40 : decode cX0_init 40 = .ok (.aload_n 0, 1) := dk_42 (dk_at dksX0_init_1 17 rfl rfl)
theorem dX0_init_41 : decode cX0_init 41 = .ok (.iconst (-1), 1) := dk_2 (dk_at dksX0_init_1 18 rfl rfl)
theorem dX0_init_42 : decode cX0_init 42 = .ok (.putfield 36, 3) := dk_181 0 36 (dk_at dksX0_init_1 19 rfl rfl)
theorem dX0_init_45 : decode cX0_init 45 = .ok (.aload_n 0, 1) := dk_42 (dk_at dksX0_init_1 22 rfl rfl)
theorem dX0_init_46 : decode cX0_init 46 = .ok (.bipush 9, 2) := dk_16 9 (dk_at dksX0_init_2 0 rfl rfl)
theorem dX0_init_48 : decode cX0_init 48 = .ok (.newarray .int, 2) := dk_188_10 (dk_at dksX0_init_2 2 rfl rfl)
theorem dX0_init_50 : decode cX0_init 50 = .ok (.putfield 39, 3) := dk_181 0 39 (dk_at dksX0_init_2 4 rfl rfl)
theorem dX0_init_53 : decode cX0_init 53 = .ok (.aload_n 0, 1) := dk_42 (dk_at dksX0_init_2 7 rfl rfl)
theorem dX0_init_54 : decode cX0_init 54 = .ok (.sipush 154, 3) := dk_17 0 154 (dk_at dksX0_init_2 8 rfl rfl)
theorem dX0_init_57 : decode cX0_init 57 = .ok (.newarray .int, 2) := dk_188_10 (dk_at dksX0_init_2 11 rfl rfl)
theorem dX0_init_59 : decode cX0_init 59 = .ok (.putfield 43, 3) := dk_181 0 43 (dk_at dksX0_init_2 13 rfl rfl)
theorem dX0_init_62 : decode cX0_init 62 = .ok (.aload_n 0, 1) := dk_42 (dk_at dksX0_init_2 16 rfl rfl)
theorem dX0_init_63 : decode cX0_init 63 = .ok (.iconst 3, 1) := dk_6 (dk_at dksX0_init_2 17 rfl rfl)
theorem dX0_init_64 : decode cX0_init 64 = .ok (.sipush 154, 3) := dk_17 0 154 (dk_at dksX0_init_2 18 rfl rfl)
theorem dX0_init_67 : decode cX0_init 67 = .ok (.multianewarray 46 2, 4) := by decide +kernel
theorem dX0_init_71 : decode cX0_init 71 = .ok (.putfield 48, 3) := dk_181 0 48 (dk_at dksX0_init_3 4 rfl rfl)
theorem dX0_init_74 : decode cX0_init 74 = .ok (.aload_n 0, 1) := dk_42 (dk_at dksX0_init_3 7 rfl rfl)
theorem dX0_init_75 : decode cX0_init 75 = .ok (.iconst 4, 1) := dk_7 (dk_at dksX0_init_3 8 rfl rfl)
theorem dX0_init_76 : decode cX0_init 76 = .ok (.newarray .int, 2) := dk_188_10 (dk_at dksX0_init_3 9 rfl rfl)
theorem dX0_init_78 : decode cX0_init 78 = .ok (.putfield 51, 3) := dk_181 0 51 (dk_at dksX0_init_3 11 rfl rfl)
theorem dX0_init_81 : decode cX0_init 81 = .ok (.aload_n 0, 1) := dk_42 (dk_at dksX0_init_3 14 rfl rfl)
theorem dX0_init_82 : decode cX0_init 82 = .ok (.iconst 5, 1) := dk_8 (dk_at dksX0_init_3 15 rfl rfl)
theorem dX0_init_83 : decode cX0_init 83 = .ok (.newarray .int, 2) := dk_188_10 (dk_at dksX0_init_3 16 rfl rfl)
theorem dX0_init_85 : decode cX0_init 85 = .ok (.putfield 54, 3) := dk_181 0 54 (dk_at dksX0_init_3 18 rfl rfl)
theorem dX0_init_88 : decode cX0_init 88 = .ok (.aload_n 0, 1) := dk_42 (dk_at dksX0_init_3 21 rfl rfl)
theorem dX0_init_89 : decode cX0_init 89 = .ok (.iconst 5, 1) := dk_8 (dk_at dksX0_init_3 22 rfl rfl)
theorem dX0_init_90 : decode cX0_init 90 = .ok (.newarray .int, 2) := dk_188_10 (dk_at dksX0_init_4 0 rfl rfl)
theorem dX0_init_92 : decode cX0_init 92 = .ok (.putfield 57, 3) := dk_181 0 57 (dk_at dksX0_init_4 2 rfl rfl)
theorem dX0_init_95 : decode cX0_init 95 = .ok (.aload_n 0, 1) := dk_42 (dk_at dksX0_init_4 5 rfl rfl)
theorem dX0_init_96 : decode cX0_init 96 = .ok (.getfield 25, 3) := dk_180 0 25 (dk_at dksX0_init_4 6 rfl rfl)
theorem dX0_init_99 : decode cX0_init 99 = .ok (.aload_n 0, 1) := dk_42 (dk_at dksX0_init_4 9 rfl rfl)
theorem dX0_init_100 : decode cX0_init 100 = .ok (.getfield 21, 3) := dk_180 0 21 (dk_at dksX0_init_4 10 rfl rfl)
theorem dX0_init_103 : decode cX0_init 103 = .ok (.invokevirtual 60, 3) := dk_182 0 60 (dk_at dksX0_init_4 13 rfl rfl)
theorem dX0_init_106 : decode cX0_init 106 = .ok (.return_, 1) := dk_177 (dk_at dksX0_init_4 16 rfl rfl)
abbrev cX0_newCase : ByteArray := prog_1_method_6_code
def yX0_newCase : MethodName := ⟨RX0, "newCase", "(IIII)I"⟩
def dkwX0_newCase_4 : List UInt8 := [182, 0, 74, 4, 100, 172]
abbrev dktX0_newCase_4 : List UInt8 := dkwX0_newCase_4 ++ []
def dkwX0_newCase_3 : List UInt8 := [5, 29, 79, 89, 6, 21, 4, 79, 58, 5, 42, 180, 0, 21, 42, 180, 0, 21, 180, 0, 71, 3, 25, 5]
abbrev dktX0_newCase_3 : List UInt8 := dkwX0_newCase_3 ++ dktX0_newCase_4
def dkwX0_newCase_2 : List UInt8 := [180, 0, 64, 3, 46, 16, 8, 160, 0, 5, 2, 172, 7, 188, 10, 89, 3, 27, 79, 89, 4, 28, 79, 89]
abbrev dktX0_newCase_2 : List UInt8 := dkwX0_newCase_2 ++ dktX0_newCase_3
def dkwX0_newCase_1 : List UInt8 := [184, 0, 67, 153, 0, 29, 21, 4, 3, 17, 0, 255, 184, 0, 67, 153, 0, 17, 42, 180, 0, 21]
abbrev dktX0_newCase_1 : List UInt8 := dkwX0_newCase_1 ++ dktX0_newCase_2
def dkwX0_newCase_0 : List UInt8 := [27, 3, 8, 184, 0, 67, 153, 0, 49, 28, 4, 16, 9, 184, 0, 67, 153, 0, 39, 29, 4, 16, 9]
abbrev dktX0_newCase_0 : List UInt8 := dkwX0_newCase_0 ++ dktX0_newCase_1
theorem dksX0_newCase_0 : cX0_newCase.data.toList.drop 0 = dktX0_newCase_0 := by decide +kernel
theorem dksX0_newCase_1 : cX0_newCase.data.toList.drop 23 = dktX0_newCase_1 := dk_seg dksX0_newCase_0 23 rfl rfl
theorem dksX0_newCase_2 : cX0_newCase.data.toList.drop 45 = dktX0_newCase_2 := dk_seg dksX0_newCase_1 22 rfl rfl
theorem dksX0_newCase_3 : cX0_newCase.data.toList.drop 69 = dktX0_newCase_3 := dk_seg dksX0_newCase_2 24 rfl rfl
theorem dksX0_newCase_4 : cX0_newCase.data.toList.drop 93 = dktX0_newCase_4 := dk_seg dksX0_newCase_3 24 rfl rfl
theorem dX0_newCase_0 : decode cX0_newCase 0 = .ok (.iload_n 1, 1) := dk_27 (dk_at dksX0_newCase_0 0 rfl rfl)
theorem dX0_newCase_1 : decode cX0_newCase 1 = .ok (.iconst 0, 1) := dk_3 (dk_at dksX0_newCase_0 1 rfl rfl)
theorem dX0_newCase_2 : decode cX0_newCase 2 = .ok (.iconst 5, 1) := dk_8 (dk_at dksX0_newCase_0 2 rfl rfl)
theorem dX0_newCase_3 : decode cX0_newCase 3 = .ok (.invokestatic 67, 3) := dk_184 0 67 (dk_at dksX0_newCase_0 3 rfl rfl)
theorem dX0_newCase_6 : decode cX0_newCase 6 = .ok (.ifCond .eq 49, 3) := dk_153 0 49 (dk_at dksX0_newCase_0 6 rfl rfl)
theorem dX0_newCase_9 : decode cX0_newCase 9 = .ok (.iload_n 2, 1) := dk_28 (dk_at dksX0_newCase_0 9 rfl rfl)
theorem dX0_newCase_10 : decode cX0_newCase 10 = .ok (.iconst 1, 1) := dk_4 (dk_at dksX0_newCase_0 10 rfl rfl)
theorem dX0_newCase_11 : decode cX0_newCase 11 = .ok (.bipush 9, 2) := dk_16 9 (dk_at dksX0_newCase_0 11 rfl rfl)
theorem dX0_newCase_13 : decode cX0_newCase 13 = .ok (.invokestatic 67, 3) := dk_184 0 67 (dk_at dksX0_newCase_0 13 rfl rfl)
theorem dX0_newCase_16 : decode cX0_newCase 16 = .ok (.ifCond .eq 39, 3) := dk_153 0 39 (dk_at dksX0_newCase_0 16 rfl rfl)
theorem dX0_newCase_19 : decode cX0_newCase 19 = .ok (.iload_n 3, 1) := dk_29 (dk_at dksX0_newCase_0 19 rfl rfl)
theorem dX0_newCase_20 : decode cX0_newCase 20 = .ok (.iconst 1, 1) := dk_4 (dk_at dksX0_newCase_0 20 rfl rfl)
theorem dX0_newCase_21 : decode cX0_newCase 21 = .ok (.bipush 9, 2) := dk_16 9 (dk_at dksX0_newCase_0 21 rfl rfl)
theorem dX0_newCase_23 : decode cX0_newCase 23 = .ok (.invokestatic 67, 3) := dk_184 0 67 (dk_at dksX0_newCase_1 0 rfl rfl)
theorem dX0_newCase_26 : decode cX0_newCase 26 = .ok (.ifCond .eq 29, 3) := dk_153 0 29 (dk_at dksX0_newCase_1 3 rfl rfl)
theorem dX0_newCase_29 : decode cX0_newCase 29 = .ok (.iload 4, 2) := dk_21 4 (dk_at dksX0_newCase_1 6 rfl rfl)
theorem dX0_newCase_31 : decode cX0_newCase 31 = .ok (.iconst 0, 1) := dk_3 (dk_at dksX0_newCase_1 8 rfl rfl)
theorem dX0_newCase_32 : decode cX0_newCase 32 = .ok (.sipush 255, 3) := dk_17 0 255 (dk_at dksX0_newCase_1 9 rfl rfl)
theorem dX0_newCase_35 : decode cX0_newCase 35 = .ok (.invokestatic 67, 3) := dk_184 0 67 (dk_at dksX0_newCase_1 12 rfl rfl)
theorem dX0_newCase_38 : decode cX0_newCase 38 = .ok (.ifCond .eq 17, 3) := dk_153 0 17 (dk_at dksX0_newCase_1 15 rfl rfl)
theorem dX0_newCase_41 : decode cX0_newCase 41 = .ok (.aload_n 0, 1) := dk_42 (dk_at dksX0_newCase_1 18 rfl rfl)
theorem dX0_newCase_42 : decode cX0_newCase 42 = .ok (.getfield 21, 3) := dk_180 0 21 (dk_at dksX0_newCase_1 19 rfl rfl)
theorem dX0_newCase_45 : decode cX0_newCase 45 = .ok (.getfield 64, 3) := dk_180 0 64 (dk_at dksX0_newCase_2 0 rfl rfl)
theorem dX0_newCase_48 : decode cX0_newCase 48 = .ok (.iconst 0, 1) := dk_3 (dk_at dksX0_newCase_2 3 rfl rfl)
theorem dX0_newCase_49 : decode cX0_newCase 49 = .ok (.iaload, 1) := dk_46 (dk_at dksX0_newCase_2 4 rfl rfl)
theorem dX0_newCase_50 : decode cX0_newCase 50 = .ok (.bipush 8, 2) := dk_16 8 (dk_at dksX0_newCase_2 5 rfl rfl)
theorem dX0_newCase_52 : decode cX0_newCase 52 = .ok (.if_icmp .ne 5, 3) := dk_160 0 5 (dk_at dksX0_newCase_2 7 rfl rfl)
theorem dX0_newCase_55 : decode cX0_newCase 55 = .ok (.iconst (-1), 1) := dk_2 (dk_at dksX0_newCase_2 10 rfl rfl)
theorem dX0_newCase_56 : decode cX0_newCase 56 = .ok (.ireturn, 1) := dk_172 (dk_at dksX0_newCase_2 11 rfl rfl)
theorem dX0_newCase_57 : decode cX0_newCase 57 = .ok (.iconst 4, 1) := dk_7 (dk_at dksX0_newCase_2 12 rfl rfl)
theorem dX0_newCase_58 : decode cX0_newCase 58 = .ok (.newarray .int, 2) := dk_188_10 (dk_at dksX0_newCase_2 13 rfl rfl)
theorem dX0_newCase_60 : decode cX0_newCase 60 = .ok (.dup, 1) := dk_89 (dk_at dksX0_newCase_2 15 rfl rfl)
theorem dX0_newCase_61 : decode cX0_newCase 61 = .ok (.iconst 0, 1) := dk_3 (dk_at dksX0_newCase_2 16 rfl rfl)
theorem dX0_newCase_62 : decode cX0_newCase 62 = .ok (.iload_n 1, 1) := dk_27 (dk_at dksX0_newCase_2 17 rfl rfl)
theorem dX0_newCase_63 : decode cX0_newCase 63 = .ok (.iastore, 1) := dk_79 (dk_at dksX0_newCase_2 18 rfl rfl)
theorem dX0_newCase_64 : decode cX0_newCase 64 = .ok (.dup, 1) := dk_89 (dk_at dksX0_newCase_2 19 rfl rfl)
theorem dX0_newCase_65 : decode cX0_newCase 65 = .ok (.iconst 1, 1) := dk_4 (dk_at dksX0_newCase_2 20 rfl rfl)
theorem dX0_newCase_66 : decode cX0_newCase 66 = .ok (.iload_n 2, 1) := dk_28 (dk_at dksX0_newCase_2 21 rfl rfl)
theorem dX0_newCase_67 : decode cX0_newCase 67 = .ok (.iastore, 1) := dk_79 (dk_at dksX0_newCase_2 22 rfl rfl)
theorem dX0_newCase_68 : decode cX0_newCase 68 = .ok (.dup, 1) := dk_89 (dk_at dksX0_newCase_2 23 rfl rfl)
theorem dX0_newCase_69 : decode cX0_newCase 69 = .ok (.iconst 2, 1) := dk_5 (dk_at dksX0_newCase_3 0 rfl rfl)
theorem dX0_newCase_70 : decode cX0_newCase 70 = .ok (.iload_n 3, 1) := dk_29 (dk_at dksX0_newCase_3 1 rfl rfl)
theorem dX0_newCase_71 : decode cX0_newCase 71 = .ok (.iastore, 1) := dk_79 (dk_at dksX0_newCase_3 2 rfl rfl)
theorem dX0_newCase_72 : decode cX0_newCase 72 = .ok (.dup, 1) := dk_89 (dk_at dksX0_newCase_3 3 rfl rfl)
theorem dX0_newCase_73 : decode cX0_newCase 73 = .ok (.iconst 3, 1) := dk_6 (dk_at dksX0_newCase_3 4 rfl rfl)
theorem dX0_newCase_74 : decode cX0_newCase 74 = .ok (.iload 4, 2) := dk_21 4 (dk_at dksX0_newCase_3 5 rfl rfl)
theorem dX0_newCase_76 : decode cX0_newCase 76 = .ok (.iastore, 1) := dk_79 (dk_at dksX0_newCase_3 7 rfl rfl)
theorem dX0_newCase_77 : decode cX0_newCase 77 = .ok (.astore 5, 2) := dk_58 5 (dk_at dksX0_newCase_3 8 rfl rfl)
theorem dX0_newCase_79 : decode cX0_newCase 79 = .ok (.aload_n 0, 1) := dk_42 (dk_at dksX0_newCase_3 10 rfl rfl)
theorem dX0_newCase_80 : decode cX0_newCase 80 = .ok (.getfield 21, 3) := dk_180 0 21 (dk_at dksX0_newCase_3 11 rfl rfl)
theorem dX0_newCase_83 : decode cX0_newCase 83 = .ok (.aload_n 0, 1) := dk_42 (dk_at dksX0_newCase_3 14 rfl rfl)
theorem dX0_newCase_84 : decode cX0_newCase 84 = .ok (.getfield 21, 3) := dk_180 0 21 (dk_at dksX0_newCase_3 15 rfl rfl)
theorem dX0_newCase_87 : decode cX0_newCase 87 = .ok (.getfield 71, 3) := dk_180 0 71 (dk_at dksX0_newCase_3 18 rfl rfl)
theorem dX0_newCase_90 : decode cX0_newCase 90 = .ok (.iconst 0, 1) := dk_3 (dk_at dksX0_newCase_3 21 rfl rfl)
theorem dX0_newCase_91 : decode cX0_newCase 91 = .ok (.aload 5, 2) := dk_25 5 (dk_at dksX0_newCase_3 22 rfl rfl)
theorem dX0_newCase_93 : decode cX0_newCase 93 = .ok (.invokevirtual 74, 3) := dk_182 0 74 (dk_at dksX0_newCase_4 0 rfl rfl)
theorem dX0_newCase_96 : decode cX0_newCase 96 = .ok (.iconst 1, 1) := dk_4 (dk_at dksX0_newCase_4 3 rfl rfl)
theorem dX0_newCase_97 : decode cX0_newCase 97 = .ok (.isub, 1) := dk_100 (dk_at dksX0_newCase_4 4 rfl rfl)
theorem dX0_newCase_98 : decode cX0_newCase 98 = .ok (.ireturn, 1) := dk_172 (dk_at dksX0_newCase_4 5 rfl rfl)
abbrev cX0_in : ByteArray := prog_1_method_1_code
def yX0_in : MethodName := ⟨RX0, "in", "(III)Z"⟩
def dkwX0_in_0 : List UInt8 := [26, 27, 161, 0, 12, 26, 28, 163, 0, 7, 4, 167, 0, 4, 3, 172]
abbrev dktX0_in_0 : List UInt8 := dkwX0_in_0 ++ []
theorem dksX0_in_0 : cX0_in.data.toList.drop 0 = dktX0_in_0 := by decide +kernel
theorem dX0_in_0 : decode cX0_in 0 = .ok (.iload_n 0, 1) := dk_26 (dk_at dksX0_in_0 0 rfl rfl)
theorem dX0_in_1 : decode cX0_in 1 = .ok (.iload_n 1, 1) := dk_27 (dk_at dksX0_in_0 1 rfl rfl)
theorem dX0_in_2 : decode cX0_in 2 = .ok (.if_icmp .lt 12, 3) := dk_161 0 12 (dk_at dksX0_in_0 2 rfl rfl)
theorem dX0_in_5 : decode cX0_in 5 = .ok (.iload_n 0, 1) := dk_26 (dk_at dksX0_in_0 5 rfl rfl)
theorem dX0_in_6 : decode cX0_in 6 = .ok (.iload_n 2, 1) := dk_28 (dk_at dksX0_in_0 6 rfl rfl)
theorem dX0_in_7 : decode cX0_in 7 = .ok (.if_icmp .gt 7, 3) := dk_163 0 7 (dk_at dksX0_in_0 7 rfl rfl)
theorem dX0_in_10 : decode cX0_in 10 = .ok (.iconst 1, 1) := dk_4 (dk_at dksX0_in_0 10 rfl rfl)
theorem dX0_in_11 : decode cX0_in 11 = .ok (.goto 4, 3) := dk_167 0 4 (dk_at dksX0_in_0 11 rfl rfl)
theorem dX0_in_14 : decode cX0_in 14 = .ok (.iconst 0, 1) := dk_3 (dk_at dksX0_in_0 14 rfl rfl)
theorem dX0_in_15 : decode cX0_in 15 = .ok (.ireturn, 1) := dk_172 (dk_at dksX0_in_0 15 rfl rfl)
abbrev cX0_feed : ByteArray := prog_1_method_8_code
def yX0_feed : MethodName := ⟨RX0, "feed", "(IIIII)I"⟩
def dkwX0_feed_2 : List UInt8 := [172]
abbrev dktX0_feed_2 : List UInt8 := dkwX0_feed_2 ++ []
def dkwX0_feed_1 : List UInt8 := [182, 0, 81, 42, 29, 182, 0, 81, 42, 21, 4, 182, 0, 81, 42, 21, 5, 182, 0, 81, 42, 180, 0, 78]
abbrev dktX0_feed_1 : List UInt8 := dkwX0_feed_1 ++ dktX0_feed_2
def dkwX0_feed_0 : List UInt8 := [42, 180, 0, 78, 16, 20, 96, 17, 1, 44, 164, 0, 5, 2, 172, 42, 27, 182, 0, 81, 42, 28]
abbrev dktX0_feed_0 : List UInt8 := dkwX0_feed_0 ++ dktX0_feed_1
theorem dksX0_feed_0 : cX0_feed.data.toList.drop 0 = dktX0_feed_0 := by decide +kernel
theorem dksX0_feed_1 : cX0_feed.data.toList.drop 22 = dktX0_feed_1 := dk_seg dksX0_feed_0 22 rfl rfl
theorem dksX0_feed_2 : cX0_feed.data.toList.drop 46 = dktX0_feed_2 := dk_seg dksX0_feed_1 24 rfl rfl
theorem dX0_feed_0 : decode cX0_feed 0 = .ok (.aload_n 0, 1) := dk_42 (dk_at dksX0_feed_0 0 rfl rfl)
theorem dX0_feed_1 : decode cX0_feed 1 = .ok (.getfield 78, 3) := dk_180 0 78 (dk_at dksX0_feed_0 1 rfl rfl)
theorem dX0_feed_4 : decode cX0_feed 4 = .ok (.bipush 20, 2) := dk_16 20 (dk_at dksX0_feed_0 4 rfl rfl)
theorem dX0_feed_6 : decode cX0_feed 6 = .ok (.iadd, 1) := dk_96 (dk_at dksX0_feed_0 6 rfl rfl)
theorem dX0_feed_7 : decode cX0_feed 7 = .ok (.sipush 300, 3) := dk_17 1 44 (dk_at dksX0_feed_0 7 rfl rfl)
theorem dX0_feed_10 : decode cX0_feed 10 = .ok (.if_icmp .le 5, 3) := dk_164 0 5 (dk_at dksX0_feed_0 10 rfl rfl)
theorem dX0_feed_13 : decode cX0_feed 13 = .ok (.iconst (-1), 1) := dk_2 (dk_at dksX0_feed_0 13 rfl rfl)
theorem dX0_feed_14 : decode cX0_feed 14 = .ok (.ireturn, 1) := dk_172 (dk_at dksX0_feed_0 14 rfl rfl)
theorem dX0_feed_15 : decode cX0_feed 15 = .ok (.aload_n 0, 1) := dk_42 (dk_at dksX0_feed_0 15 rfl rfl)
theorem dX0_feed_16 : decode cX0_feed 16 = .ok (.iload_n 1, 1) := dk_27 (dk_at dksX0_feed_0 16 rfl rfl)
theorem dX0_feed_17 : decode cX0_feed 17 = .ok (.invokevirtual 81, 3) := dk_182 0 81 (dk_at dksX0_feed_0 17 rfl rfl)
theorem dX0_feed_20 : decode cX0_feed 20 = .ok (.aload_n 0, 1) := dk_42 (dk_at dksX0_feed_0 20 rfl rfl)
theorem dX0_feed_21 : decode cX0_feed 21 = .ok (.iload_n 2, 1) := dk_28 (dk_at dksX0_feed_0 21 rfl rfl)
theorem dX0_feed_22 : decode cX0_feed 22 = .ok (.invokevirtual 81, 3) := dk_182 0 81 (dk_at dksX0_feed_1 0 rfl rfl)
theorem dX0_feed_25 : decode cX0_feed 25 = .ok (.aload_n 0, 1) := dk_42 (dk_at dksX0_feed_1 3 rfl rfl)
theorem dX0_feed_26 : decode cX0_feed 26 = .ok (.iload_n 3, 1) := dk_29 (dk_at dksX0_feed_1 4 rfl rfl)
theorem dX0_feed_27 : decode cX0_feed 27 = .ok (.invokevirtual 81, 3) := dk_182 0 81 (dk_at dksX0_feed_1 5 rfl rfl)
theorem dX0_feed_30 : decode cX0_feed 30 = .ok (.aload_n 0, 1) := dk_42 (dk_at dksX0_feed_1 8 rfl rfl)
theorem dX0_feed_31 : decode cX0_feed 31 = .ok (.iload 4, 2) := dk_21 4 (dk_at dksX0_feed_1 9 rfl rfl)
theorem dX0_feed_33 : decode cX0_feed 33 = .ok (.invokevirtual 81, 3) := dk_182 0 81 (dk_at dksX0_feed_1 11 rfl rfl)
theorem dX0_feed_36 : decode cX0_feed 36 = .ok (.aload_n 0, 1) := dk_42 (dk_at dksX0_feed_1 14 rfl rfl)
theorem dX0_feed_37 : decode cX0_feed 37 = .ok (.iload 5, 2) := dk_21 5 (dk_at dksX0_feed_1 15 rfl rfl)
theorem dX0_feed_39 : decode cX0_feed 39 = .ok (.invokevirtual 81, 3) := dk_182 0 81 (dk_at dksX0_feed_1 17 rfl rfl)
theorem dX0_feed_42 : decode cX0_feed 42 = .ok (.aload_n 0, 1) := dk_42 (dk_at dksX0_feed_1 20 rfl rfl)
theorem dX0_feed_43 : decode cX0_feed 43 = .ok (.getfield 78, 3) := dk_180 0 78 (dk_at dksX0_feed_1 21 rfl rfl)
theorem dX0_feed_46 : decode cX0_feed 46 = .ok (.ireturn, 1) := dk_172 (dk_at dksX0_feed_2 0 rfl rfl)
abbrev cX0_put : ByteArray := prog_1_method_7_code
def yX0_put : MethodName := ⟨RX0, "put", "(I)V"⟩
def dkwX0_put_1 : List UInt8 := [180, 0, 78, 4, 96, 181, 0, 78, 132, 2, 248, 167, 255, 226, 177]
abbrev dktX0_put_1 : List UInt8 := dkwX0_put_1 ++ []
def dkwX0_put_0 : List UInt8 := [16, 24, 61, 28, 155, 0, 32, 42, 180, 0, 28, 42, 180, 0, 78, 27, 28, 122, 145, 84, 42, 89]
abbrev dktX0_put_0 : List UInt8 := dkwX0_put_0 ++ dktX0_put_1
theorem dksX0_put_0 : cX0_put.data.toList.drop 0 = dktX0_put_0 := by decide +kernel
theorem dksX0_put_1 : cX0_put.data.toList.drop 22 = dktX0_put_1 := dk_seg dksX0_put_0 22 rfl rfl
theorem dX0_put_0 : decode cX0_put 0 = .ok (.bipush 24, 2) := dk_16 24 (dk_at dksX0_put_0 0 rfl rfl)
theorem dX0_put_2 : decode cX0_put 2 = .ok (.istore_n 2, 1) := dk_61 (dk_at dksX0_put_0 2 rfl rfl)
theorem dX0_put_3 : decode cX0_put 3 = .ok (.iload_n 2, 1) := dk_28 (dk_at dksX0_put_0 3 rfl rfl)
theorem dX0_put_4 : decode cX0_put 4 = .ok (.ifCond .lt 32, 3) := dk_155 0 32 (dk_at dksX0_put_0 4 rfl rfl)
theorem dX0_put_7 : decode cX0_put 7 = .ok (.aload_n 0, 1) := dk_42 (dk_at dksX0_put_0 7 rfl rfl)
theorem dX0_put_8 : decode cX0_put 8 = .ok (.getfield 28, 3) := dk_180 0 28 (dk_at dksX0_put_0 8 rfl rfl)
theorem dX0_put_11 : decode cX0_put 11 = .ok (.aload_n 0, 1) := dk_42 (dk_at dksX0_put_0 11 rfl rfl)
theorem dX0_put_12 : decode cX0_put 12 = .ok (.getfield 78, 3) := dk_180 0 78 (dk_at dksX0_put_0 12 rfl rfl)
theorem dX0_put_15 : decode cX0_put 15 = .ok (.iload_n 1, 1) := dk_27 (dk_at dksX0_put_0 15 rfl rfl)
theorem dX0_put_16 : decode cX0_put 16 = .ok (.iload_n 2, 1) := dk_28 (dk_at dksX0_put_0 16 rfl rfl)
theorem dX0_put_17 : decode cX0_put 17 = .ok (.ishr, 1) := dk_122 (dk_at dksX0_put_0 17 rfl rfl)
theorem dX0_put_18 : decode cX0_put 18 = .ok (.i2b, 1) := dk_145 (dk_at dksX0_put_0 18 rfl rfl)
theorem dX0_put_19 : decode cX0_put 19 = .ok (.bastore, 1) := dk_84 (dk_at dksX0_put_0 19 rfl rfl)
theorem dX0_put_20 : decode cX0_put 20 = .ok (.aload_n 0, 1) := dk_42 (dk_at dksX0_put_0 20 rfl rfl)
theorem dX0_put_21 : decode cX0_put 21 = .ok (.dup, 1) := dk_89 (dk_at dksX0_put_0 21 rfl rfl)
theorem dX0_put_22 : decode cX0_put 22 = .ok (.getfield 78, 3) := dk_180 0 78 (dk_at dksX0_put_1 0 rfl rfl)
theorem dX0_put_25 : decode cX0_put 25 = .ok (.iconst 1, 1) := dk_4 (dk_at dksX0_put_1 3 rfl rfl)
theorem dX0_put_26 : decode cX0_put 26 = .ok (.iadd, 1) := dk_96 (dk_at dksX0_put_1 4 rfl rfl)
theorem dX0_put_27 : decode cX0_put 27 = .ok (.putfield 78, 3) := dk_181 0 78 (dk_at dksX0_put_1 5 rfl rfl)
theorem dX0_put_30 : decode cX0_put 30 = .ok (.iinc 2 (-8), 3) := dk_132 2 248 (dk_at dksX0_put_1 8 rfl rfl)
theorem dX0_put_33 : decode cX0_put 33 = .ok (.goto (-30), 3) := dk_167 255 226 (dk_at dksX0_put_1 11 rfl rfl)
theorem dX0_put_36 : decode cX0_put 36 = .ok (.return_, 1) := dk_177 (dk_at dksX0_put_1 14 rfl rfl)
abbrev cX0_end : ByteArray := prog_1_method_9_code
def yX0_end : MethodName := ⟨RX0, "end", "(I)I"⟩
def dkwX0_end_0 : List UInt8 := [27, 3, 42, 180, 0, 78, 184, 0, 67, 154, 0, 5, 2, 172, 42, 27, 181, 0, 78, 27, 172]
abbrev dktX0_end_0 : List UInt8 := dkwX0_end_0 ++ []
theorem dksX0_end_0 : cX0_end.data.toList.drop 0 = dktX0_end_0 := by decide +kernel
theorem dX0_end_0 : decode cX0_end 0 = .ok (.iload_n 1, 1) := dk_27 (dk_at dksX0_end_0 0 rfl rfl)
theorem dX0_end_1 : decode cX0_end 1 = .ok (.iconst 0, 1) := dk_3 (dk_at dksX0_end_0 1 rfl rfl)
theorem dX0_end_2 : decode cX0_end 2 = .ok (.aload_n 0, 1) := dk_42 (dk_at dksX0_end_0 2 rfl rfl)
theorem dX0_end_3 : decode cX0_end 3 = .ok (.getfield 78, 3) := dk_180 0 78 (dk_at dksX0_end_0 3 rfl rfl)
theorem dX0_end_6 : decode cX0_end 6 = .ok (.invokestatic 67, 3) := dk_184 0 67 (dk_at dksX0_end_0 6 rfl rfl)
theorem dX0_end_9 : decode cX0_end 9 = .ok (.ifCond .ne 5, 3) := dk_154 0 5 (dk_at dksX0_end_0 9 rfl rfl)
theorem dX0_end_12 : decode cX0_end 12 = .ok (.iconst (-1), 1) := dk_2 (dk_at dksX0_end_0 12 rfl rfl)
theorem dX0_end_13 : decode cX0_end 13 = .ok (.ireturn, 1) := dk_172 (dk_at dksX0_end_0 13 rfl rfl)
theorem dX0_end_14 : decode cX0_end 14 = .ok (.aload_n 0, 1) := dk_42 (dk_at dksX0_end_0 14 rfl rfl)
theorem dX0_end_15 : decode cX0_end 15 = .ok (.iload_n 1, 1) := dk_27 (dk_at dksX0_end_0 15 rfl rfl)
theorem dX0_end_16 : decode cX0_end 16 = .ok (.putfield 78, 3) := dk_181 0 78 (dk_at dksX0_end_0 16 rfl rfl)
theorem dX0_end_19 : decode cX0_end 19 = .ok (.iload_n 1, 1) := dk_27 (dk_at dksX0_end_0 19 rfl rfl)
theorem dX0_end_20 : decode cX0_end 20 = .ok (.ireturn, 1) := dk_172 (dk_at dksX0_end_0 20 rfl rfl)
abbrev cX0_text : ByteArray := prog_1_method_10_code
def yX0_text : MethodName := ⟨RX0, "text", "()I"⟩
def dkwX0_text_5 : List UInt8 := [79, 42, 180, 0, 21, 180, 0, 64, 4, 46, 4, 100, 172]
abbrev dktX0_text_5 : List UInt8 := dkwX0_text_5 ++ []
def dkwX0_text_4 : List UInt8 := [29, 172, 58, 4, 42, 3, 181, 0, 78, 25, 4, 191, 42, 180, 0, 21, 180, 0, 64, 4, 92, 46, 4, 96]
abbrev dktX0_text_4 : List UInt8 := dkwX0_text_4 ++ dktX0_text_5
def dkwX0_text_3 : List UInt8 := [77, 42, 44, 180, 0, 100, 181, 0, 32, 42, 44, 180, 0, 101, 181, 0, 36, 2, 62, 42, 3, 181, 0, 78]
abbrev dktX0_text_3 : List UInt8 := dkwX0_text_3 ++ dktX0_text_4
def dkwX0_text_2 : List UInt8 := [187, 0, 89, 89, 42, 180, 0, 28, 27, 183, 0, 91, 182, 0, 94, 83, 42, 3, 181, 0, 78, 167, 0, 39]
abbrev dktX0_text_2 : List UInt8 := dkwX0_text_2 ++ dktX0_text_3
def dkwX0_text_1 : List UInt8 := [181, 0, 32, 42, 2, 181, 0, 36, 42, 180, 0, 21, 180, 0, 85, 42, 180, 0, 21, 180, 0, 64, 4, 46]
abbrev dktX0_text_1 : List UInt8 := dkwX0_text_1 ++ dktX0_text_2
def dkwX0_text_0 : List UInt8 := [42, 180, 0, 21, 180, 0, 64, 4, 46, 7, 160, 0, 5, 2, 172, 42, 180, 0, 78, 60, 42, 3]
abbrev dktX0_text_0 : List UInt8 := dkwX0_text_0 ++ dktX0_text_1
theorem dksX0_text_0 : cX0_text.data.toList.drop 0 = dktX0_text_0 := by decide +kernel
theorem dksX0_text_1 : cX0_text.data.toList.drop 22 = dktX0_text_1 := dk_seg dksX0_text_0 22 rfl rfl
theorem dksX0_text_2 : cX0_text.data.toList.drop 46 = dktX0_text_2 := dk_seg dksX0_text_1 24 rfl rfl
theorem dksX0_text_3 : cX0_text.data.toList.drop 70 = dktX0_text_3 := dk_seg dksX0_text_2 24 rfl rfl
theorem dksX0_text_4 : cX0_text.data.toList.drop 94 = dktX0_text_4 := dk_seg dksX0_text_3 24 rfl rfl
theorem dksX0_text_5 : cX0_text.data.toList.drop 118 = dktX0_text_5 := dk_seg dksX0_text_4 24 rfl rfl
theorem dX0_text_0 : decode cX0_text 0 = .ok (.aload_n 0, 1) := dk_42 (dk_at dksX0_text_0 0 rfl rfl)
theorem dX0_text_1 : decode cX0_text 1 = .ok (.getfield 21, 3) := dk_180 0 21 (dk_at dksX0_text_0 1 rfl rfl)
theorem dX0_text_4 : decode cX0_text 4 = .ok (.getfield 64, 3) := dk_180 0 64 (dk_at dksX0_text_0 4 rfl rfl)
theorem dX0_text_7 : decode cX0_text 7 = .ok (.iconst 1, 1) := dk_4 (dk_at dksX0_text_0 7 rfl rfl)
theorem dX0_text_8 : decode cX0_text 8 = .ok (.iaload, 1) := dk_46 (dk_at dksX0_text_0 8 rfl rfl)
theorem dX0_text_9 : decode cX0_text 9 = .ok (.iconst 4, 1) := dk_7 (dk_at dksX0_text_0 9 rfl rfl)
theorem dX0_text_10 : decode cX0_text 10 = .ok (.if_icmp .ne 5, 3) := dk_160 0 5 (dk_at dksX0_text_0 10 rfl rfl)
theorem dX0_text_13 : decode cX0_text 13 = .ok (.iconst (-1), 1) := dk_2 (dk_at dksX0_text_0 13 rfl rfl)
theorem dX0_text_14 : decode cX0_text 14 = .ok (.ireturn, 1) := dk_172 (dk_at dksX0_text_0 14 rfl rfl)
theorem dX0_text_15 : decode cX0_text 15 = .ok (.aload_n 0, 1) := dk_42 (dk_at dksX0_text_0 15 rfl rfl)
theorem dX0_text_16 : decode cX0_text 16 = .ok (.getfield 78, 3) := dk_180 0 78 (dk_at dksX0_text_0 16 rfl rfl)
theorem dX0_text_19 : decode cX0_text 19 = .ok (.istore_n 1, 1) := dk_60 (dk_at dksX0_text_0 19 rfl rfl)
theorem dX0_text_20 : decode cX0_text 20 = .ok (.aload_n 0, 1) := dk_42 (dk_at dksX0_text_0 20 rfl rfl)
theorem dX0_text_21 : decode cX0_text 21 = .ok (.iconst 0, 1) := dk_3 (dk_at dksX0_text_0 21 rfl rfl)
theorem dX0_text_22 : decode cX0_text 22 = .ok (.putfield 32, 3) := dk_181 0 32 (dk_at dksX0_text_1 0 rfl rfl)
theorem dX0_text_25 : decode cX0_text 25 = .ok (.aload_n 0, 1) := dk_42 (dk_at dksX0_text_1 3 rfl rfl)
theorem dX0_text_26 : decode cX0_text 26 = .ok (.iconst (-1), 1) := dk_2 (dk_at dksX0_text_1 4 rfl rfl)
theorem dX0_text_27 : decode cX0_text 27 = .ok (.putfield 36, 3) := dk_181 0 36 (dk_at dksX0_text_1 5 rfl rfl)
theorem dX0_text_30 : decode cX0_text 30 = .ok (.aload_n 0, 1) := dk_42 (dk_at dksX0_text_1 8 rfl rfl)
theorem dX0_text_31 : decode cX0_text 31 = .ok (.getfield 21, 3) := dk_180 0 21 (dk_at dksX0_text_1 9 rfl rfl)
theorem dX0_text_34 : decode cX0_text 34 = .ok (.getfield 85, 3) := dk_180 0 85 (dk_at dksX0_text_1 12 rfl rfl)
theorem dX0_text_37 : decode cX0_text 37 = .ok (.aload_n 0, 1) := dk_42 (dk_at dksX0_text_1 15 rfl rfl)
theorem dX0_text_38 : decode cX0_text 38 = .ok (.getfield 21, 3) := dk_180 0 21 (dk_at dksX0_text_1 16 rfl rfl)
theorem dX0_text_41 : decode cX0_text 41 = .ok (.getfield 64, 3) := dk_180 0 64 (dk_at dksX0_text_1 19 rfl rfl)
theorem dX0_text_44 : decode cX0_text 44 = .ok (.iconst 1, 1) := dk_4 (dk_at dksX0_text_1 22 rfl rfl)
theorem dX0_text_45 : decode cX0_text 45 = .ok (.iaload, 1) := dk_46 (dk_at dksX0_text_1 23 rfl rfl)
theorem dX0_text_46 : decode cX0_text 46 = .ok (.new 89, 3) := dk_187 0 89 (dk_at dksX0_text_2 0 rfl rfl)
theorem dX0_text_49 : decode cX0_text 49 = .ok (.dup, 1) := dk_89 (dk_at dksX0_text_2 3 rfl rfl)
theorem dX0_text_50 : decode cX0_text 50 = .ok (.aload_n 0, 1) := dk_42 (dk_at dksX0_text_2 4 rfl rfl)
theorem dX0_text_51 : decode cX0_text 51 = .ok (.getfield 28, 3) := dk_180 0 28 (dk_at dksX0_text_2 5 rfl rfl)
theorem dX0_text_54 : decode cX0_text 54 = .ok (.iload_n 1, 1) := dk_27 (dk_at dksX0_text_2 8 rfl rfl)
theorem dX0_text_55 : decode cX0_text 55 = .ok (.invokespecial 91, 3) := dk_183 0 91 (dk_at dksX0_text_2 9 rfl rfl)
theorem dX0_text_58 : decode cX0_text 58 = .ok (.invokevirtual 94, 3) := dk_182 0 94 (dk_at dksX0_text_2 12 rfl rfl)
theorem dX0_text_61 : decode cX0_text 61 = .ok (.aastore, 1) := dk_83 (dk_at dksX0_text_2 15 rfl rfl)
theorem dX0_text_62 : decode cX0_text 62 = .ok (.aload_n 0, 1) := dk_42 (dk_at dksX0_text_2 16 rfl rfl)
theorem dX0_text_63 : decode cX0_text 63 = .ok (.iconst 0, 1) := dk_3 (dk_at dksX0_text_2 17 rfl rfl)
theorem dX0_text_64 : decode cX0_text 64 = .ok (.putfield 78, 3) := dk_181 0 78 (dk_at dksX0_text_2 18 rfl rfl)
theorem dX0_text_67 : decode cX0_text 67 = .ok (.goto 39, 3) := dk_167 0 39 (dk_at dksX0_text_2 21 rfl rfl)
theorem dX0_text_70 : decode cX0_text 70 = .ok (.astore_n 2, 1) := dk_77 (dk_at dksX0_text_3 0 rfl rfl)
theorem dX0_text_71 : decode cX0_text 71 = .ok (.aload_n 0, 1) := dk_42 (dk_at dksX0_text_3 1 rfl rfl)
theorem dX0_text_72 : decode cX0_text 72 = .ok (.aload_n 2, 1) := dk_44 (dk_at dksX0_text_3 2 rfl rfl)
theorem dX0_text_73 : decode cX0_text 73 = .ok (.getfield 100, 3) := dk_180 0 100 (dk_at dksX0_text_3 3 rfl rfl)
theorem dX0_text_76 : decode cX0_text 76 = .ok (.putfield 32, 3) := dk_181 0 32 (dk_at dksX0_text_3 6 rfl rfl)
theorem dX0_text_79 : decode cX0_text 79 = .ok (.aload_n 0, 1) := dk_42 (dk_at dksX0_text_3 9 rfl rfl)
theorem dX0_text_80 : decode cX0_text 80 = .ok (.aload_n 2, 1) := dk_44 (dk_at dksX0_text_3 10 rfl rfl)
theorem dX0_text_81 : decode cX0_text 81 = .ok (.getfield 101, 3) := dk_180 0 101 (dk_at dksX0_text_3 11 rfl rfl)
theorem dX0_text_84 : decode cX0_text 84 = .ok (.putfield 36, 3) := dk_181 0 36 (dk_at dksX0_text_3 14 rfl rfl)
theorem dX0_text_87 : decode cX0_text 87 = .ok (.iconst (-1), 1) := dk_2 (dk_at dksX0_text_3 17 rfl rfl)
theorem dX0_text_88 : decode cX0_text 88 = .ok (.istore_n 3, 1) := dk_62 (dk_at dksX0_text_3 18 rfl rfl)
theorem dX0_text_89 : decode cX0_text 89 = .ok (.aload_n 0, 1) := dk_42 (dk_at dksX0_text_3 19 rfl rfl)
theorem dX0_text_90 : decode cX0_text 90 = .ok (.iconst 0, 1) := dk_3 (dk_at dksX0_text_3 20 rfl rfl)
theorem dX0_text_91 : decode cX0_text 91 = .ok (.putfield 78, 3) := dk_181 0 78 (dk_at dksX0_text_3 21 rfl rfl)
theorem dX0_text_94 : decode cX0_text 94 = .ok (.iload_n 3, 1) := dk_29 (dk_at dksX0_text_4 0 rfl rfl)
theorem dX0_text_95 : decode cX0_text 95 = .ok (.ireturn, 1) := dk_172 (dk_at dksX0_text_4 1 rfl rfl)
theorem dX0_text_96 : decode cX0_text 96 = .ok (.astore 4, 2) := dk_58 4 (dk_at dksX0_text_4 2 rfl rfl)
theorem dX0_text_98 : decode cX0_text 98 = .ok (.aload_n 0, 1) := dk_42 (dk_at dksX0_text_4 4 rfl rfl)
theorem dX0_text_99 : decode cX0_text 99 = .ok (.iconst 0, 1) := dk_3 (dk_at dksX0_text_4 5 rfl rfl)
theorem dX0_text_100 : decode cX0_text 100 = .ok (.putfield 78, 3) := dk_181 0 78 (dk_at dksX0_text_4 6 rfl rfl)
theorem dX0_text_103 : decode cX0_text 103 = .ok (.aload 4, 2) := dk_25 4 (dk_at dksX0_text_4 9 rfl rfl)
theorem dX0_text_105 : decode cX0_text 105 = .ok (.athrow, 1) := dk_191 (dk_at dksX0_text_4 11 rfl rfl)
theorem dX0_text_106 : decode cX0_text 106 = .ok (.aload_n 0, 1) := dk_42 (dk_at dksX0_text_4 12 rfl rfl)
theorem dX0_text_107 : decode cX0_text 107 = .ok (.getfield 21, 3) := dk_180 0 21 (dk_at dksX0_text_4 13 rfl rfl)
theorem dX0_text_110 : decode cX0_text 110 = .ok (.getfield 64, 3) := dk_180 0 64 (dk_at dksX0_text_4 16 rfl rfl)
theorem dX0_text_113 : decode cX0_text 113 = .ok (.iconst 1, 1) := dk_4 (dk_at dksX0_text_4 19 rfl rfl)
theorem dX0_text_114 : decode cX0_text 114 = .ok (.dup2, 1) := dk_92 (dk_at dksX0_text_4 20 rfl rfl)
theorem dX0_text_115 : decode cX0_text 115 = .ok (.iaload, 1) := dk_46 (dk_at dksX0_text_4 21 rfl rfl)
theorem dX0_text_116 : decode cX0_text 116 = .ok (.iconst 1, 1) := dk_4 (dk_at dksX0_text_4 22 rfl rfl)
theorem dX0_text_117 : decode cX0_text 117 = .ok (.iadd, 1) := dk_96 (dk_at dksX0_text_4 23 rfl rfl)
theorem dX0_text_118 : decode cX0_text 118 = .ok (.iastore, 1) := dk_79 (dk_at dksX0_text_5 0 rfl rfl)
theorem dX0_text_119 : decode cX0_text 119 = .ok (.aload_n 0, 1) := dk_42 (dk_at dksX0_text_5 1 rfl rfl)
theorem dX0_text_120 : decode cX0_text 120 = .ok (.getfield 21, 3) := dk_180 0 21 (dk_at dksX0_text_5 2 rfl rfl)
theorem dX0_text_123 : decode cX0_text 123 = .ok (.getfield 64, 3) := dk_180 0 64 (dk_at dksX0_text_5 5 rfl rfl)
theorem dX0_text_126 : decode cX0_text 126 = .ok (.iconst 1, 1) := dk_4 (dk_at dksX0_text_5 8 rfl rfl)
theorem dX0_text_127 : decode cX0_text 127 = .ok (.iaload, 1) := dk_46 (dk_at dksX0_text_5 9 rfl rfl)
theorem dX0_text_128 : decode cX0_text 128 = .ok (.iconst 1, 1) := dk_4 (dk_at dksX0_text_5 10 rfl rfl)
theorem dX0_text_129 : decode cX0_text 129 = .ok (.isub, 1) := dk_100 (dk_at dksX0_text_5 11 rfl rfl)
theorem dX0_text_130 : decode cX0_text 130 = .ok (.ireturn, 1) := dk_172 (dk_at dksX0_text_5 12 rfl rfl)
abbrev cX0_fault : ByteArray := prog_1_method_11_code
def yX0_fault : MethodName := ⟨RX0, "fault", "(I)I"⟩
def dkwX0_fault_1 : List UInt8 := [172]
abbrev dktX0_fault_1 : List UInt8 := dkwX0_fault_1 ++ []
def dkwX0_fault_0 : List UInt8 := [27, 154, 0, 10, 42, 180, 0, 32, 167, 0, 16, 27, 4, 160, 0, 10, 42, 180, 0, 36, 167, 0, 4, 2]
abbrev dktX0_fault_0 : List UInt8 := dkwX0_fault_0 ++ dktX0_fault_1
theorem dksX0_fault_0 : cX0_fault.data.toList.drop 0 = dktX0_fault_0 := by decide +kernel
theorem dksX0_fault_1 : cX0_fault.data.toList.drop 24 = dktX0_fault_1 := dk_seg dksX0_fault_0 24 rfl rfl
theorem dX0_fault_0 : decode cX0_fault 0 = .ok (.iload_n 1, 1) := dk_27 (dk_at dksX0_fault_0 0 rfl rfl)
theorem dX0_fault_1 : decode cX0_fault 1 = .ok (.ifCond .ne 10, 3) := dk_154 0 10 (dk_at dksX0_fault_0 1 rfl rfl)
theorem dX0_fault_4 : decode cX0_fault 4 = .ok (.aload_n 0, 1) := dk_42 (dk_at dksX0_fault_0 4 rfl rfl)
theorem dX0_fault_5 : decode cX0_fault 5 = .ok (.getfield 32, 3) := dk_180 0 32 (dk_at dksX0_fault_0 5 rfl rfl)
theorem dX0_fault_8 : decode cX0_fault 8 = .ok (.goto 16, 3) := dk_167 0 16 (dk_at dksX0_fault_0 8 rfl rfl)
theorem dX0_fault_11 : decode cX0_fault 11 = .ok (.iload_n 1, 1) := dk_27 (dk_at dksX0_fault_0 11 rfl rfl)
theorem dX0_fault_12 : decode cX0_fault 12 = .ok (.iconst 1, 1) := dk_4 (dk_at dksX0_fault_0 12 rfl rfl)
theorem dX0_fault_13 : decode cX0_fault 13 = .ok (.if_icmp .ne 10, 3) := dk_160 0 10 (dk_at dksX0_fault_0 13 rfl rfl)
theorem dX0_fault_16 : decode cX0_fault 16 = .ok (.aload_n 0, 1) := dk_42 (dk_at dksX0_fault_0 16 rfl rfl)
theorem dX0_fault_17 : decode cX0_fault 17 = .ok (.getfield 36, 3) := dk_180 0 36 (dk_at dksX0_fault_0 17 rfl rfl)
theorem dX0_fault_20 : decode cX0_fault 20 = .ok (.goto 4, 3) := dk_167 0 4 (dk_at dksX0_fault_0 20 rfl rfl)
theorem dX0_fault_23 : decode cX0_fault 23 = .ok (.iconst (-1), 1) := dk_2 (dk_at dksX0_fault_0 23 rfl rfl)
theorem dX0_fault_24 : decode cX0_fault 24 = .ok (.ireturn, 1) := dk_172 (dk_at dksX0_fault_1 0 rfl rfl)
abbrev cX0_by : ByteArray := prog_1_method_13_code
def yX0_by : MethodName := ⟨RX0, "by", "(I)Z"⟩
def dkwX0_by_1 : List UInt8 := [79, 4, 172]
abbrev dktX0_by_1 : List UInt8 := dkwX0_by_1 ++ []
def dkwX0_by_0 : List UInt8 := [27, 2, 159, 0, 13, 42, 27, 182, 0, 104, 154, 0, 5, 3, 172, 42, 180, 0, 21, 180, 0, 64, 5, 27]
abbrev dktX0_by_0 : List UInt8 := dkwX0_by_0 ++ dktX0_by_1
theorem dksX0_by_0 : cX0_by.data.toList.drop 0 = dktX0_by_0 := by decide +kernel
theorem dksX0_by_1 : cX0_by.data.toList.drop 24 = dktX0_by_1 := dk_seg dksX0_by_0 24 rfl rfl
theorem dX0_by_0 : decode cX0_by 0 = .ok (.iload_n 1, 1) := dk_27 (dk_at dksX0_by_0 0 rfl rfl)
theorem dX0_by_1 : decode cX0_by 1 = .ok (.iconst (-1), 1) := dk_2 (dk_at dksX0_by_0 1 rfl rfl)
theorem dX0_by_2 : decode cX0_by 2 = .ok (.if_icmp .eq 13, 3) := dk_159 0 13 (dk_at dksX0_by_0 2 rfl rfl)
theorem dX0_by_5 : decode cX0_by 5 = .ok (.aload_n 0, 1) := dk_42 (dk_at dksX0_by_0 5 rfl rfl)
theorem dX0_by_6 : decode cX0_by 6 = .ok (.iload_n 1, 1) := dk_27 (dk_at dksX0_by_0 6 rfl rfl)
theorem dX0_by_7 : decode cX0_by 7 = .ok (.invokevirtual 104, 3) := dk_182 0 104 (dk_at dksX0_by_0 7 rfl rfl)
theorem dX0_by_10 : decode cX0_by 10 = .ok (.ifCond .ne 5, 3) := dk_154 0 5 (dk_at dksX0_by_0 10 rfl rfl)
theorem dX0_by_13 : decode cX0_by 13 = .ok (.iconst 0, 1) := dk_3 (dk_at dksX0_by_0 13 rfl rfl)
theorem dX0_by_14 : decode cX0_by 14 = .ok (.ireturn, 1) := dk_172 (dk_at dksX0_by_0 14 rfl rfl)
theorem dX0_by_15 : decode cX0_by 15 = .ok (.aload_n 0, 1) := dk_42 (dk_at dksX0_by_0 15 rfl rfl)
theorem dX0_by_16 : decode cX0_by 16 = .ok (.getfield 21, 3) := dk_180 0 21 (dk_at dksX0_by_0 16 rfl rfl)
theorem dX0_by_19 : decode cX0_by 19 = .ok (.getfield 64, 3) := dk_180 0 64 (dk_at dksX0_by_0 19 rfl rfl)
theorem dX0_by_22 : decode cX0_by 22 = .ok (.iconst 2, 1) := dk_5 (dk_at dksX0_by_0 22 rfl rfl)
theorem dX0_by_23 : decode cX0_by 23 = .ok (.iload_n 1, 1) := dk_27 (dk_at dksX0_by_0 23 rfl rfl)
theorem dX0_by_24 : decode cX0_by 24 = .ok (.iastore, 1) := dk_79 (dk_at dksX0_by_1 0 rfl rfl)
theorem dX0_by_25 : decode cX0_by 25 = .ok (.iconst 1, 1) := dk_4 (dk_at dksX0_by_1 1 rfl rfl)
theorem dX0_by_26 : decode cX0_by 26 = .ok (.ireturn, 1) := dk_172 (dk_at dksX0_by_1 2 rfl rfl)
abbrev cX0_isText : ByteArray := prog_1_method_12_code
def yX0_isText : MethodName := ⟨RX0, "isText", "(I)Z"⟩
def dkwX0_isText_0 : List UInt8 := [27, 3, 42, 180, 0, 21, 180, 0, 64, 4, 46, 4, 100, 184, 0, 67, 172]
abbrev dktX0_isText_0 : List UInt8 := dkwX0_isText_0 ++ []
theorem dksX0_isText_0 : cX0_isText.data.toList.drop 0 = dktX0_isText_0 := by decide +kernel
theorem dX0_isText_0 : decode cX0_isText 0 = .ok (.iload_n 1, 1) := dk_27 (dk_at dksX0_isText_0 0 rfl rfl)
theorem dX0_isText_1 : decode cX0_isText 1 = .ok (.iconst 0, 1) := dk_3 (dk_at dksX0_isText_0 1 rfl rfl)
theorem dX0_isText_2 : decode cX0_isText 2 = .ok (.aload_n 0, 1) := dk_42 (dk_at dksX0_isText_0 2 rfl rfl)
theorem dX0_isText_3 : decode cX0_isText 3 = .ok (.getfield 21, 3) := dk_180 0 21 (dk_at dksX0_isText_0 3 rfl rfl)
theorem dX0_isText_6 : decode cX0_isText 6 = .ok (.getfield 64, 3) := dk_180 0 64 (dk_at dksX0_isText_0 6 rfl rfl)
theorem dX0_isText_9 : decode cX0_isText 9 = .ok (.iconst 1, 1) := dk_4 (dk_at dksX0_isText_0 9 rfl rfl)
theorem dX0_isText_10 : decode cX0_isText 10 = .ok (.iaload, 1) := dk_46 (dk_at dksX0_isText_0 10 rfl rfl)
theorem dX0_isText_11 : decode cX0_isText 11 = .ok (.iconst 1, 1) := dk_4 (dk_at dksX0_isText_0 11 rfl rfl)
theorem dX0_isText_12 : decode cX0_isText 12 = .ok (.isub, 1) := dk_100 (dk_at dksX0_isText_0 12 rfl rfl)
theorem dX0_isText_13 : decode cX0_isText 13 = .ok (.invokestatic 67, 3) := dk_184 0 67 (dk_at dksX0_isText_0 13 rfl rfl)
theorem dX0_isText_16 : decode cX0_isText 16 = .ok (.ireturn, 1) := dk_172 (dk_at dksX0_isText_0 16 rfl rfl)
abbrev cX0_hour : ByteArray := prog_1_method_27_code
def yX0_hour : MethodName := ⟨RX0, "hour", "(I)I"⟩
def dkwX0_hour_3 : List UInt8 := [167, 255, 219, 28, 172]
abbrev dktX0_hour_3 : List UInt8 := dkwX0_hour_3 ++ []
def dkwX0_hour_2 : List UInt8 := [180, 0, 21, 180, 0, 205, 182, 0, 211, 153, 0, 7, 4, 167, 0, 4, 3, 96, 61, 132, 3, 1]
abbrev dktX0_hour_2 : List UInt8 := dkwX0_hour_2 ++ dktX0_hour_3
def dkwX0_hour_1 : List UInt8 := [164, 0, 5, 2, 172, 3, 61, 3, 62, 29, 27, 162, 0, 38, 42, 180, 0, 21, 182, 0, 208, 28, 42, 42]
abbrev dktX0_hour_1 : List UInt8 := dkwX0_hour_1 ++ dktX0_hour_2
def dkwX0_hour_0 : List UInt8 := [27, 4, 16, 60, 184, 0, 67, 153, 0, 20, 42, 180, 0, 21, 180, 0, 205, 6, 46, 27, 96, 17, 39, 15]
abbrev dktX0_hour_0 : List UInt8 := dkwX0_hour_0 ++ dktX0_hour_1
theorem dksX0_hour_0 : cX0_hour.data.toList.drop 0 = dktX0_hour_0 := by decide +kernel
theorem dksX0_hour_1 : cX0_hour.data.toList.drop 24 = dktX0_hour_1 := dk_seg dksX0_hour_0 24 rfl rfl
theorem dksX0_hour_2 : cX0_hour.data.toList.drop 48 = dktX0_hour_2 := dk_seg dksX0_hour_1 24 rfl rfl
theorem dksX0_hour_3 : cX0_hour.data.toList.drop 70 = dktX0_hour_3 := dk_seg dksX0_hour_2 22 rfl rfl
theorem dX0_hour_0 : decode cX0_hour 0 = .ok (.iload_n 1, 1) := dk_27 (dk_at dksX0_hour_0 0 rfl rfl)
theorem dX0_hour_1 : decode cX0_hour 1 = .ok (.iconst 1, 1) := dk_4 (dk_at dksX0_hour_0 1 rfl rfl)
theorem dX0_hour_2 : decode cX0_hour 2 = .ok (.bipush 60, 2) := dk_16 60 (dk_at dksX0_hour_0 2 rfl rfl)
theorem dX0_hour_4 : decode cX0_hour 4 = .ok (.invokestatic 67, 3) := dk_184 0 67 (dk_at dksX0_hour_0 4 rfl rfl)
theorem dX0_hour_7 : decode cX0_hour 7 = .ok (.ifCond .eq 20, 3) := dk_153 0 20 (dk_at dksX0_hour_0 7 rfl rfl)
theorem dX0_hour_10 : decode cX0_hour 10 = .ok (.aload_n 0, 1) := dk_42 (dk_at dksX0_hour_0 10 rfl rfl)
theorem dX0_hour_11 : decode cX0_hour 11 = .ok (.getfield 21, 3) := dk_180 0 21 (dk_at dksX0_hour_0 11 rfl rfl)
theorem dX0_hour_14 : decode cX0_hour 14 = .ok (.getfield 205, 3) := dk_180 0 205 (dk_at dksX0_hour_0 14 rfl rfl)
theorem dX0_hour_17 : decode cX0_hour 17 = .ok (.iconst 3, 1) := dk_6 (dk_at dksX0_hour_0 17 rfl rfl)
theorem dX0_hour_18 : decode cX0_hour 18 = .ok (.iaload, 1) := dk_46 (dk_at dksX0_hour_0 18 rfl rfl)
theorem dX0_hour_19 : decode cX0_hour 19 = .ok (.iload_n 1, 1) := dk_27 (dk_at dksX0_hour_0 19 rfl rfl)
theorem dX0_hour_20 : decode cX0_hour 20 = .ok (.iadd, 1) := dk_96 (dk_at dksX0_hour_0 20 rfl rfl)
theorem dX0_hour_21 : decode cX0_hour 21 = .ok (.sipush 9999, 3) := dk_17 39 15 (dk_at dksX0_hour_0 21 rfl rfl)
theorem dX0_hour_24 : decode cX0_hour 24 = .ok (.if_icmp .le 5, 3) := dk_164 0 5 (dk_at dksX0_hour_1 0 rfl rfl)
theorem dX0_hour_27 : decode cX0_hour 27 = .ok (.iconst (-1), 1) := dk_2 (dk_at dksX0_hour_1 3 rfl rfl)
theorem dX0_hour_28 : decode cX0_hour 28 = .ok (.ireturn, 1) := dk_172 (dk_at dksX0_hour_1 4 rfl rfl)
theorem dX0_hour_29 : decode cX0_hour 29 = .ok (.iconst 0, 1) := dk_3 (dk_at dksX0_hour_1 5 rfl rfl)
theorem dX0_hour_30 : decode cX0_hour 30 = .ok (.istore_n 2, 1) := dk_61 (dk_at dksX0_hour_1 6 rfl rfl)
theorem dX0_hour_31 : decode cX0_hour 31 = .ok (.iconst 0, 1) := dk_3 (dk_at dksX0_hour_1 7 rfl rfl)
theorem dX0_hour_32 : decode cX0_hour 32 = .ok (.istore_n 3, 1) := dk_62 (dk_at dksX0_hour_1 8 rfl rfl)
theorem dX0_hour_33 : decode cX0_hour 33 = .ok (.iload_n 3, 1) := dk_29 (dk_at dksX0_hour_1 9 rfl rfl)
theorem dX0_hour_34 : decode cX0_hour 34 = .ok (.iload_n 1, 1) := dk_27 (dk_at dksX0_hour_1 10 rfl rfl)
theorem dX0_hour_35 : decode cX0_hour 35 = .ok (.if_icmp .ge 38, 3) := dk_162 0 38 (dk_at dksX0_hour_1 11 rfl rfl)
theorem dX0_hour_38 : decode cX0_hour 38 = .ok (.aload_n 0, 1) := dk_42 (dk_at dksX0_hour_1 14 rfl rfl)
theorem dX0_hour_39 : decode cX0_hour 39 = .ok (.getfield 21, 3) := dk_180 0 21 (dk_at dksX0_hour_1 15 rfl rfl)
theorem dX0_hour_42 : decode cX0_hour 42 = .ok (.invokevirtual 208, 3) := dk_182 0 208 (dk_at dksX0_hour_1 18 rfl rfl)
theorem dX0_hour_45 : decode cX0_hour 45 = .ok (.iload_n 2, 1) := dk_28 (dk_at dksX0_hour_1 21 rfl rfl)
theorem dX0_hour_46 : decode cX0_hour 46 = .ok (.aload_n 0, 1) := dk_42 (dk_at dksX0_hour_1 22 rfl rfl)
theorem dX0_hour_47 : decode cX0_hour 47 = .ok (.aload_n 0, 1) := dk_42 (dk_at dksX0_hour_1 23 rfl rfl)
theorem dX0_hour_48 : decode cX0_hour 48 = .ok (.getfield 21, 3) := dk_180 0 21 (dk_at dksX0_hour_2 0 rfl rfl)
theorem dX0_hour_51 : decode cX0_hour 51 = .ok (.getfield 205, 3) := dk_180 0 205 (dk_at dksX0_hour_2 3 rfl rfl)
theorem dX0_hour_54 : decode cX0_hour 54 = .ok (.invokevirtual 211, 3) := dk_182 0 211 (dk_at dksX0_hour_2 6 rfl rfl)
theorem dX0_hour_57 : decode cX0_hour 57 = .ok (.ifCond .eq 7, 3) := dk_153 0 7 (dk_at dksX0_hour_2 9 rfl rfl)
theorem dX0_hour_60 : decode cX0_hour 60 = .ok (.iconst 1, 1) := dk_4 (dk_at dksX0_hour_2 12 rfl rfl)
theorem dX0_hour_61 : decode cX0_hour 61 = .ok (.goto 4, 3) := dk_167 0 4 (dk_at dksX0_hour_2 13 rfl rfl)
theorem dX0_hour_64 : decode cX0_hour 64 = .ok (.iconst 0, 1) := dk_3 (dk_at dksX0_hour_2 16 rfl rfl)
theorem dX0_hour_65 : decode cX0_hour 65 = .ok (.iadd, 1) := dk_96 (dk_at dksX0_hour_2 17 rfl rfl)
theorem dX0_hour_66 : decode cX0_hour 66 = .ok (.istore_n 2, 1) := dk_61 (dk_at dksX0_hour_2 18 rfl rfl)
theorem dX0_hour_67 : decode cX0_hour 67 = .ok (.iinc 3 1, 3) := dk_132 3 1 (dk_at dksX0_hour_2 19 rfl rfl)
theorem dX0_hour_70 : decode cX0_hour 70 = .ok (.goto (-37), 3) := dk_167 255 219 (dk_at dksX0_hour_3 0 rfl rfl)
theorem dX0_hour_73 : decode cX0_hour 73 = .ok (.iload_n 2, 1) := dk_28 (dk_at dksX0_hour_3 3 rfl rfl)
theorem dX0_hour_74 : decode cX0_hour 74 = .ok (.ireturn, 1) := dk_172 (dk_at dksX0_hour_3 4 rfl rfl)
abbrev cX0_passes : ByteArray := prog_1_method_26_code
def yX0_passes : MethodName := ⟨RX0, "passes", "([I)Z"⟩
def dkwX0_passes_0 : List UInt8 := [42, 43, 182, 0, 196, 61, 42, 43, 43, 184, 0, 199, 182, 0, 203, 28, 172]
abbrev dktX0_passes_0 : List UInt8 := dkwX0_passes_0 ++ []
theorem dksX0_passes_0 : cX0_passes.data.toList.drop 0 = dktX0_passes_0 := by decide +kernel
theorem dX0_passes_0 : decode cX0_passes 0 = .ok (.aload_n 0, 1) := dk_42 (dk_at dksX0_passes_0 0 rfl rfl)
theorem dX0_passes_1 : decode cX0_passes 1 = .ok (.aload_n 1, 1) := dk_43 (dk_at dksX0_passes_0 1 rfl rfl)
theorem dX0_passes_2 : decode cX0_passes 2 = .ok (.invokevirtual 196, 3) := dk_182 0 196 (dk_at dksX0_passes_0 2 rfl rfl)
theorem dX0_passes_5 : decode cX0_passes 5 = .ok (.istore_n 2, 1) := dk_61 (dk_at dksX0_passes_0 5 rfl rfl)
theorem dX0_passes_6 : decode cX0_passes 6 = .ok (.aload_n 0, 1) := dk_42 (dk_at dksX0_passes_0 6 rfl rfl)
theorem dX0_passes_7 : decode cX0_passes 7 = .ok (.aload_n 1, 1) := dk_43 (dk_at dksX0_passes_0 7 rfl rfl)
theorem dX0_passes_8 : decode cX0_passes 8 = .ok (.aload_n 1, 1) := dk_43 (dk_at dksX0_passes_0 8 rfl rfl)
theorem dX0_passes_9 : decode cX0_passes 9 = .ok (.invokestatic 199, 3) := dk_184 0 199 (dk_at dksX0_passes_0 9 rfl rfl)
theorem dX0_passes_12 : decode cX0_passes 12 = .ok (.invokevirtual 203, 3) := dk_182 0 203 (dk_at dksX0_passes_0 12 rfl rfl)
theorem dX0_passes_15 : decode cX0_passes 15 = .ok (.iload_n 2, 1) := dk_28 (dk_at dksX0_passes_0 15 rfl rfl)
theorem dX0_passes_16 : decode cX0_passes 16 = .ok (.ireturn, 1) := dk_172 (dk_at dksX0_passes_0 16 rfl rfl)
abbrev cX0_hears : ByteArray := prog_1_method_22_code
def yX0_hears : MethodName := ⟨RX0, "hears", "([I)Z"⟩
def dkwX0_hears_5 : List UInt8 := [172]
abbrev dktX0_hears_5 : List UInt8 := dkwX0_hears_5 ++ []
def dkwX0_hears_4 : List UInt8 := [167, 0, 4, 3, 79, 43, 28, 29, 153, 0, 7, 4, 167, 0, 4, 3, 184, 0, 175, 43, 184, 0, 179, 4]
abbrev dktX0_hears_4 : List UInt8 := dkwX0_hears_4 ++ dktX0_hears_5
def dkwX0_hears_3 : List UInt8 := [153, 0, 7, 6, 167, 0, 4, 5, 79, 43, 16, 17, 28, 96, 29, 153, 0, 12, 42, 43, 28, 182, 0, 171]
abbrev dktX0_hears_3 : List UInt8 := dkwX0_hears_3 ++ dktX0_hears_4
def dkwX0_hears_2 : List UInt8 := [16, 8, 46, 96, 162, 0, 5, 3, 172, 42, 43, 28, 182, 0, 167, 62, 43, 16, 9, 28, 96, 29]
abbrev dktX0_hears_2 : List UInt8 := dkwX0_hears_2 ++ dktX0_hears_3
def dkwX0_hears_1 : List UInt8 := [4, 43, 3, 46, 120, 128, 79, 43, 16, 6, 46, 42, 180, 0, 21, 180, 0, 71, 28, 50, 5, 46, 43]
abbrev dktX0_hears_1 : List UInt8 := dkwX0_hears_1 ++ dktX0_hears_2
def dkwX0_hears_0 : List UInt8 := [43, 8, 46, 61, 28, 2, 160, 0, 5, 3, 172, 43, 16, 6, 92, 46, 4, 96, 79, 43, 16, 7, 92, 46]
abbrev dktX0_hears_0 : List UInt8 := dkwX0_hears_0 ++ dktX0_hears_1
theorem dksX0_hears_0 : cX0_hears.data.toList.drop 0 = dktX0_hears_0 := by decide +kernel
theorem dksX0_hears_1 : cX0_hears.data.toList.drop 24 = dktX0_hears_1 := dk_seg dksX0_hears_0 24 rfl rfl
theorem dksX0_hears_2 : cX0_hears.data.toList.drop 47 = dktX0_hears_2 := dk_seg dksX0_hears_1 23 rfl rfl
theorem dksX0_hears_3 : cX0_hears.data.toList.drop 69 = dktX0_hears_3 := dk_seg dksX0_hears_2 22 rfl rfl
theorem dksX0_hears_4 : cX0_hears.data.toList.drop 93 = dktX0_hears_4 := dk_seg dksX0_hears_3 24 rfl rfl
theorem dksX0_hears_5 : cX0_hears.data.toList.drop 117 = dktX0_hears_5 := dk_seg dksX0_hears_4 24 rfl rfl
theorem dX0_hears_0 : decode cX0_hears 0 = .ok (.aload_n 1, 1) := dk_43 (dk_at dksX0_hears_0 0 rfl rfl)
theorem dX0_hears_1 : decode cX0_hears 1 = .ok (.iconst 5, 1) := dk_8 (dk_at dksX0_hears_0 1 rfl rfl)
theorem dX0_hears_2 : decode cX0_hears 2 = .ok (.iaload, 1) := dk_46 (dk_at dksX0_hears_0 2 rfl rfl)
theorem dX0_hears_3 : decode cX0_hears 3 = .ok (.istore_n 2, 1) := dk_61 (dk_at dksX0_hears_0 3 rfl rfl)
theorem dX0_hears_4 : decode cX0_hears 4 = .ok (.iload_n 2, 1) := dk_28 (dk_at dksX0_hears_0 4 rfl rfl)
theorem dX0_hears_5 : decode cX0_hears 5 = .ok (.iconst (-1), 1) := dk_2 (dk_at dksX0_hears_0 5 rfl rfl)
theorem dX0_hears_6 : decode cX0_hears 6 = .ok (.if_icmp .ne 5, 3) := dk_160 0 5 (dk_at dksX0_hears_0 6 rfl rfl)
theorem dX0_hears_9 : decode cX0_hears 9 = .ok (.iconst 0, 1) := dk_3 (dk_at dksX0_hears_0 9 rfl rfl)
theorem dX0_hears_10 : decode cX0_hears 10 = .ok (.ireturn, 1) := dk_172 (dk_at dksX0_hears_0 10 rfl rfl)
theorem dX0_hears_11 : decode cX0_hears 11 = .ok (.aload_n 1, 1) := dk_43 (dk_at dksX0_hears_0 11 rfl rfl)
theorem dX0_hears_12 : decode cX0_hears 12 = .ok (.bipush 6, 2) := dk_16 6 (dk_at dksX0_hears_0 12 rfl rfl)
theorem dX0_hears_14 : decode cX0_hears 14 = .ok (.dup2, 1) := dk_92 (dk_at dksX0_hears_0 14 rfl rfl)
theorem dX0_hears_15 : decode cX0_hears 15 = .ok (.iaload, 1) := dk_46 (dk_at dksX0_hears_0 15 rfl rfl)
theorem dX0_hears_16 : decode cX0_hears 16 = .ok (.iconst 1, 1) := dk_4 (dk_at dksX0_hears_0 16 rfl rfl)
theorem dX0_hears_17 : decode cX0_hears 17 = .ok (.iadd, 1) := dk_96 (dk_at dksX0_hears_0 17 rfl rfl)
theorem dX0_hears_18 : decode cX0_hears 18 = .ok (.iastore, 1) := dk_79 (dk_at dksX0_hears_0 18 rfl rfl)
theorem dX0_hears_19 : decode cX0_hears 19 = .ok (.aload_n 1, 1) := dk_43 (dk_at dksX0_hears_0 19 rfl rfl)
theorem dX0_hears_20 : decode cX0_hears 20 = .ok (.bipush 7, 2) := dk_16 7 (dk_at dksX0_hears_0 20 rfl rfl)
theorem dX0_hears_22 : decode cX0_hears 22 = .ok (.dup2, 1) := dk_92 (dk_at dksX0_hears_0 22 rfl rfl)
theorem dX0_hears_23 : decode cX0_hears 23 = .ok (.iaload, 1) := dk_46 (dk_at dksX0_hears_0 23 rfl rfl)
theorem dX0_hears_24 : decode cX0_hears 24 = .ok (.iconst 1, 1) := dk_4 (dk_at dksX0_hears_1 0 rfl rfl)
theorem dX0_hears_25 : decode cX0_hears 25 = .ok (.aload_n 1, 1) := dk_43 (dk_at dksX0_hears_1 1 rfl rfl)
theorem dX0_hears_26 : decode cX0_hears 26 = .ok (.iconst 0, 1) := dk_3 (dk_at dksX0_hears_1 2 rfl rfl)
theorem dX0_hears_27 : decode cX0_hears 27 = .ok (.iaload, 1) := dk_46 (dk_at dksX0_hears_1 3 rfl rfl)
theorem dX0_hears_28 : decode cX0_hears 28 = .ok (.ishl, 1) := dk_120 (dk_at dksX0_hears_1 4 rfl rfl)
theorem dX0_hears_29 : decode cX0_hears 29 = .ok (.ior, 1) := dk_128 (dk_at dksX0_hears_1 5 rfl rfl)
theorem dX0_hears_30 : decode cX0_hears 30 = .ok (.iastore, 1) := dk_79 (dk_at dksX0_hears_1 6 rfl rfl)
theorem dX0_hears_31 : decode cX0_hears 31 = .ok (.aload_n 1, 1) := dk_43 (dk_at dksX0_hears_1 7 rfl rfl)
theorem dX0_hears_32 : decode cX0_hears 32 = .ok (.bipush 6, 2) := dk_16 6 (dk_at dksX0_hears_1 8 rfl rfl)
theorem dX0_hears_34 : decode cX0_hears 34 = .ok (.iaload, 1) := dk_46 (dk_at dksX0_hears_1 10 rfl rfl)
theorem dX0_hears_35 : decode cX0_hears 35 = .ok (.aload_n 0, 1) := dk_42 (dk_at dksX0_hears_1 11 rfl rfl)
theorem dX0_hears_36 : decode cX0_hears 36 = .ok (.getfield 21, 3) := dk_180 0 21 (dk_at dksX0_hears_1 12 rfl rfl)
theorem dX0_hears_39 : decode cX0_hears 39 = .ok (.getfield 71, 3) := dk_180 0 71 (dk_at dksX0_hears_1 15 rfl rfl)
theorem dX0_hears_42 : decode cX0_hears 42 = .ok (.iload_n 2, 1) := dk_28 (dk_at dksX0_hears_1 18 rfl rfl)
theorem dX0_hears_43 : decode cX0_hears 43 = .ok (.aaload, 1) := dk_50 (dk_at dksX0_hears_1 19 rfl rfl)
theorem dX0_hears_44 : decode cX0_hears 44 = .ok (.iconst 2, 1) := dk_5 (dk_at dksX0_hears_1 20 rfl rfl)
theorem dX0_hears_45 : decode cX0_hears 45 = .ok (.iaload, 1) := dk_46 (dk_at dksX0_hears_1 21 rfl rfl)
theorem dX0_hears_46 : decode cX0_hears 46 = .ok (.aload_n 1, 1) := dk_43 (dk_at dksX0_hears_1 22 rfl rfl)
theorem dX0_hears_47 : decode cX0_hears 47 = .ok (.bipush 8, 2) := dk_16 8 (dk_at dksX0_hears_2 0 rfl rfl)
theorem dX0_hears_49 : decode cX0_hears 49 = .ok (.iaload, 1) := dk_46 (dk_at dksX0_hears_2 2 rfl rfl)
theorem dX0_hears_50 : decode cX0_hears 50 = .ok (.iadd, 1) := dk_96 (dk_at dksX0_hears_2 3 rfl rfl)
theorem dX0_hears_51 : decode cX0_hears 51 = .ok (.if_icmp .ge 5, 3) := dk_162 0 5 (dk_at dksX0_hears_2 4 rfl rfl)
theorem dX0_hears_54 : decode cX0_hears 54 = .ok (.iconst 0, 1) := dk_3 (dk_at dksX0_hears_2 7 rfl rfl)
theorem dX0_hears_55 : decode cX0_hears 55 = .ok (.ireturn, 1) := dk_172 (dk_at dksX0_hears_2 8 rfl rfl)
theorem dX0_hears_56 : decode cX0_hears 56 = .ok (.aload_n 0, 1) := dk_42 (dk_at dksX0_hears_2 9 rfl rfl)
theorem dX0_hears_57 : decode cX0_hears 57 = .ok (.aload_n 1, 1) := dk_43 (dk_at dksX0_hears_2 10 rfl rfl)
theorem dX0_hears_58 : decode cX0_hears 58 = .ok (.iload_n 2, 1) := dk_28 (dk_at dksX0_hears_2 11 rfl rfl)
theorem dX0_hears_59 : decode cX0_hears 59 = .ok (.invokevirtual 167, 3) := dk_182 0 167 (dk_at dksX0_hears_2 12 rfl rfl)
theorem dX0_hears_62 : decode cX0_hears 62 = .ok (.istore_n 3, 1) := dk_62 (dk_at dksX0_hears_2 15 rfl rfl)
theorem dX0_hears_63 : decode cX0_hears 63 = .ok (.aload_n 1, 1) := dk_43 (dk_at dksX0_hears_2 16 rfl rfl)
theorem dX0_hears_64 : decode cX0_hears 64 = .ok (.bipush 9, 2) := dk_16 9 (dk_at dksX0_hears_2 17 rfl rfl)
theorem dX0_hears_66 : decode cX0_hears 66 = .ok (.iload_n 2, 1) := dk_28 (dk_at dksX0_hears_2 19 rfl rfl)
theorem dX0_hears_67 : decode cX0_hears 67 = .ok (.iadd, 1) := dk_96 (dk_at dksX0_hears_2 20 rfl rfl)
theorem dX0_hears_68 : decode cX0_hears 68 = .ok (.iload_n 3, 1) := dk_29 (dk_at dksX0_hears_2 21 rfl rfl)
theorem dX0_hears_69 : decode cX0_hears 69 = .ok (.ifCond .eq 7, 3) := dk_153 0 7 (dk_at dksX0_hears_3 0 rfl rfl)
theorem dX0_hears_72 : decode cX0_hears 72 = .ok (.iconst 3, 1) := dk_6 (dk_at dksX0_hears_3 3 rfl rfl)
theorem dX0_hears_73 : decode cX0_hears 73 = .ok (.goto 4, 3) := dk_167 0 4 (dk_at dksX0_hears_3 4 rfl rfl)
theorem dX0_hears_76 : decode cX0_hears 76 = .ok (.iconst 2, 1) := dk_5 (dk_at dksX0_hears_3 7 rfl rfl)
theorem dX0_hears_77 : decode cX0_hears 77 = .ok (.iastore, 1) := dk_79 (dk_at dksX0_hears_3 8 rfl rfl)
theorem dX0_hears_78 : decode cX0_hears 78 = .ok (.aload_n 1, 1) := dk_43 (dk_at dksX0_hears_3 9 rfl rfl)
theorem dX0_hears_79 : decode cX0_hears 79 = .ok (.bipush 17, 2) := dk_16 17 (dk_at dksX0_hears_3 10 rfl rfl)
theorem dX0_hears_81 : decode cX0_hears 81 = .ok (.iload_n 2, 1) := dk_28 (dk_at dksX0_hears_3 12 rfl rfl)
theorem dX0_hears_82 : decode cX0_hears 82 = .ok (.iadd, 1) := dk_96 (dk_at dksX0_hears_3 13 rfl rfl)
theorem dX0_hears_83 : decode cX0_hears 83 = .ok (.iload_n 3, 1) := dk_29 (dk_at dksX0_hears_3 14 rfl rfl)
theorem dX0_hears_84 : decode cX0_hears 84 = .ok (.ifCond .eq 12, 3) := dk_153 0 12 (dk_at dksX0_hears_3 15 rfl rfl)
theorem dX0_hears_87 : decode cX0_hears 87 = .ok (.aload_n 0, 1) := dk_42 (dk_at dksX0_hears_3 18 rfl rfl)
theorem dX0_hears_88 : decode cX0_hears 88 = .ok (.aload_n 1, 1) := dk_43 (dk_at dksX0_hears_3 19 rfl rfl)
theorem dX0_hears_89 : decode cX0_hears 89 = .ok (.iload_n 2, 1) := dk_28 (dk_at dksX0_hears_3 20 rfl rfl)
theorem dX0_hears_90 : decode cX0_hears 90 = .ok (.invokevirtual 171, 3) := dk_182 0 171 (dk_at dksX0_hears_3 21 rfl rfl)
theorem dX0_hears_93 : decode cX0_hears 93 = .ok (.goto 4, 3) := dk_167 0 4 (dk_at dksX0_hears_4 0 rfl rfl)
theorem dX0_hears_96 : decode cX0_hears 96 = .ok (.iconst 0, 1) := dk_3 (dk_at dksX0_hears_4 3 rfl rfl)
theorem dX0_hears_97 : decode cX0_hears 97 = .ok (.iastore, 1) := dk_79 (dk_at dksX0_hears_4 4 rfl rfl)
theorem dX0_hears_98 : decode cX0_hears 98 = .ok (.aload_n 1, 1) := dk_43 (dk_at dksX0_hears_4 5 rfl rfl)
theorem dX0_hears_99 : decode cX0_hears 99 = .ok (.iload_n 2, 1) := dk_28 (dk_at dksX0_hears_4 6 rfl rfl)
theorem dX0_hears_100 : decode cX0_hears 100 = .ok (.iload_n 3, 1) := dk_29 (dk_at dksX0_hears_4 7 rfl rfl)
theorem dX0_hears_101 : decode cX0_hears 101 = .ok (.ifCond .eq 7, 3) := dk_153 0 7 (dk_at dksX0_hears_4 8 rfl rfl)
theorem dX0_hears_104 : decode cX0_hears 104 = .ok (.iconst 1, 1) := dk_4 (dk_at dksX0_hears_4 11 rfl rfl)
theorem dX0_hears_105 : decode cX0_hears 105 = .ok (.goto 4, 3) := dk_167 0 4 (dk_at dksX0_hears_4 12 rfl rfl)
theorem dX0_hears_108 : decode cX0_hears 108 = .ok (.iconst 0, 1) := dk_3 (dk_at dksX0_hears_4 15 rfl rfl)
theorem dX0_hears_109 : decode cX0_hears 109 = .ok (.invokestatic 175, 3) := dk_184 0 175 (dk_at dksX0_hears_4 16 rfl rfl)
theorem dX0_hears_112 : decode cX0_hears 112 = .ok (.aload_n 1, 1) := dk_43 (dk_at dksX0_hears_4 19 rfl rfl)
theorem dX0_hears_113 : decode cX0_hears 113 = .ok (.invokestatic 179, 3) := dk_184 0 179 (dk_at dksX0_hears_4 20 rfl rfl)
theorem dX0_hears_116 : decode cX0_hears 116 = .ok (.iconst 1, 1) := dk_4 (dk_at dksX0_hears_4 23 rfl rfl)
theorem dX0_hears_117 : decode cX0_hears 117 = .ok (.ireturn, 1) := dk_172 (dk_at dksX0_hears_5 0 rfl rfl)
abbrev cX0_isGuilty : ByteArray := prog_1_method_19_code
def yX0_isGuilty : MethodName := ⟨RX0, "isGuilty", "([II)Z"⟩
def dkwX0_isGuilty_3 : List UInt8 := [3, 172]
abbrev dktX0_isGuilty_3 : List UInt8 := dkwX0_isGuilty_3 ++ []
def dkwX0_isGuilty_2 : List UInt8 := [180, 0, 21, 180, 0, 71, 28, 50, 6, 46, 182, 0, 157, 153, 0, 5, 4, 172, 132, 3, 1, 167, 255, 206]
abbrev dktX0_isGuilty_2 : List UInt8 := dkwX0_isGuilty_2 ++ dktX0_isGuilty_3
def dkwX0_isGuilty_1 : List UInt8 := [16, 7, 46, 29, 184, 0, 124, 153, 0, 34, 42, 42, 182, 0, 134, 43, 29, 28, 43, 16, 6, 46, 42]
abbrev dktX0_isGuilty_1 : List UInt8 := dkwX0_isGuilty_1 ++ dktX0_isGuilty_2
def dkwX0_isGuilty_0 : List UInt8 := [43, 4, 46, 153, 0, 10, 43, 5, 46, 4, 160, 0, 5, 3, 172, 3, 62, 29, 7, 162, 0, 51, 43]
abbrev dktX0_isGuilty_0 : List UInt8 := dkwX0_isGuilty_0 ++ dktX0_isGuilty_1
theorem dksX0_isGuilty_0 : cX0_isGuilty.data.toList.drop 0 = dktX0_isGuilty_0 := by decide +kernel
theorem dksX0_isGuilty_1 : cX0_isGuilty.data.toList.drop 23 = dktX0_isGuilty_1 := dk_seg dksX0_isGuilty_0 23 rfl rfl
theorem dksX0_isGuilty_2 : cX0_isGuilty.data.toList.drop 46 = dktX0_isGuilty_2 := dk_seg dksX0_isGuilty_1 23 rfl rfl
theorem dksX0_isGuilty_3 : cX0_isGuilty.data.toList.drop 70 = dktX0_isGuilty_3 := dk_seg dksX0_isGuilty_2 24 rfl rfl
theorem dX0_isGuilty_0 : decode cX0_isGuilty 0 = .ok (.aload_n 1, 1) := dk_43 (dk_at dksX0_isGuilty_0 0 rfl rfl)
theorem dX0_isGuilty_1 : decode cX0_isGuilty 1 = .ok (.iconst 1, 1) := dk_4 (dk_at dksX0_isGuilty_0 1 rfl rfl)
theorem dX0_isGuilty_2 : decode cX0_isGuilty 2 = .ok (.iaload, 1) := dk_46 (dk_at dksX0_isGuilty_0 2 rfl rfl)
theorem dX0_isGuilty_3 : decode cX0_isGuilty 3 = .ok (.ifCond .eq 10, 3) := dk_153 0 10 (dk_at dksX0_isGuilty_0 3 rfl rfl)
theorem dX0_isGuilty_6 : decode cX0_isGuilty 6 = .ok (.aload_n 1, 1) := dk_43 (dk_at dksX0_isGuilty_0 6 rfl rfl)
theorem dX0_isGuilty_7 : decode cX0_isGuilty 7 = .ok (.iconst 2, 1) := dk_5 (dk_at dksX0_isGuilty_0 7 rfl rfl)
theorem dX0_isGuilty_8 : decode cX0_isGuilty 8 = .ok (.iaload, 1) := dk_46 (dk_at dksX0_isGuilty_0 8 rfl rfl)
theorem dX0_isGuilty_9 : decode cX0_isGuilty 9 = .ok (.iconst 1, 1) := dk_4 (dk_at dksX0_isGuilty_0 9 rfl rfl)
theorem dX0_isGuilty_10 : decode cX0_isGuilty 10 = .ok (.if_icmp .ne 5, 3) := dk_160 0 5 (dk_at dksX0_isGuilty_0 10 rfl rfl)
theorem dX0_isGuilty_13 : decode cX0_isGuilty 13 = .ok (.iconst 0, 1) := dk_3 (dk_at dksX0_isGuilty_0 13 rfl rfl)
theorem dX0_isGuilty_14 : decode cX0_isGuilty 14 = .ok (.ireturn, 1) := dk_172 (dk_at dksX0_isGuilty_0 14 rfl rfl)
theorem dX0_isGuilty_15 : decode cX0_isGuilty 15 = .ok (.iconst 0, 1) := dk_3 (dk_at dksX0_isGuilty_0 15 rfl rfl)
theorem dX0_isGuilty_16 : decode cX0_isGuilty 16 = .ok (.istore_n 3, 1) := dk_62 (dk_at dksX0_isGuilty_0 16 rfl rfl)
theorem dX0_isGuilty_17 : decode cX0_isGuilty 17 = .ok (.iload_n 3, 1) := dk_29 (dk_at dksX0_isGuilty_0 17 rfl rfl)
theorem dX0_isGuilty_18 : decode cX0_isGuilty 18 = .ok (.iconst 4, 1) := dk_7 (dk_at dksX0_isGuilty_0 18 rfl rfl)
theorem dX0_isGuilty_19 : decode cX0_isGuilty 19 = .ok (.if_icmp .ge 51, 3) := dk_162 0 51 (dk_at dksX0_isGuilty_0 19 rfl rfl)
theorem dX0_isGuilty_22 : decode cX0_isGuilty 22 = .ok (.aload_n 1, 1) := dk_43 (dk_at dksX0_isGuilty_0 22 rfl rfl)
theorem dX0_isGuilty_23 : decode cX0_isGuilty 23 = .ok (.bipush 7, 2) := dk_16 7 (dk_at dksX0_isGuilty_1 0 rfl rfl)
theorem dX0_isGuilty_25 : decode cX0_isGuilty 25 = .ok (.iaload, 1) := dk_46 (dk_at dksX0_isGuilty_1 2 rfl rfl)
theorem dX0_isGuilty_26 : decode cX0_isGuilty 26 = .ok (.iload_n 3, 1) := dk_29 (dk_at dksX0_isGuilty_1 3 rfl rfl)
theorem dX0_isGuilty_27 : decode cX0_isGuilty 27 = .ok (.invokestatic 124, 3) := dk_184 0 124 (dk_at dksX0_isGuilty_1 4 rfl rfl)
theorem dX0_isGuilty_30 : decode cX0_isGuilty 30 = .ok (.ifCond .eq 34, 3) := dk_153 0 34 (dk_at dksX0_isGuilty_1 7 rfl rfl)
theorem dX0_isGuilty_33 : decode cX0_isGuilty 33 = .ok (.aload_n 0, 1) := dk_42 (dk_at dksX0_isGuilty_1 10 rfl rfl)
theorem dX0_isGuilty_34 : decode cX0_isGuilty 34 = .ok (.aload_n 0, 1) := dk_42 (dk_at dksX0_isGuilty_1 11 rfl rfl)
theorem dX0_isGuilty_35 : decode cX0_isGuilty 35 = .ok (.invokevirtual 134, 3) := dk_182 0 134 (dk_at dksX0_isGuilty_1 12 rfl rfl)
theorem dX0_isGuilty_38 : decode cX0_isGuilty 38 = .ok (.aload_n 1, 1) := dk_43 (dk_at dksX0_isGuilty_1 15 rfl rfl)
theorem dX0_isGuilty_39 : decode cX0_isGuilty 39 = .ok (.iload_n 3, 1) := dk_29 (dk_at dksX0_isGuilty_1 16 rfl rfl)
theorem dX0_isGuilty_40 : decode cX0_isGuilty 40 = .ok (.iload_n 2, 1) := dk_28 (dk_at dksX0_isGuilty_1 17 rfl rfl)
theorem dX0_isGuilty_41 : decode cX0_isGuilty 41 = .ok (.aload_n 1, 1) := dk_43 (dk_at dksX0_isGuilty_1 18 rfl rfl)
theorem dX0_isGuilty_42 : decode cX0_isGuilty 42 = .ok (.bipush 6, 2) := dk_16 6 (dk_at dksX0_isGuilty_1 19 rfl rfl)
theorem dX0_isGuilty_44 : decode cX0_isGuilty 44 = .ok (.iaload, 1) := dk_46 (dk_at dksX0_isGuilty_1 21 rfl rfl)
theorem dX0_isGuilty_45 : decode cX0_isGuilty 45 = .ok (.aload_n 0, 1) := dk_42 (dk_at dksX0_isGuilty_1 22 rfl rfl)
theorem dX0_isGuilty_46 : decode cX0_isGuilty 46 = .ok (.getfield 21, 3) := dk_180 0 21 (dk_at dksX0_isGuilty_2 0 rfl rfl)
theorem dX0_isGuilty_49 : decode cX0_isGuilty 49 = .ok (.getfield 71, 3) := dk_180 0 71 (dk_at dksX0_isGuilty_2 3 rfl rfl)
theorem dX0_isGuilty_52 : decode cX0_isGuilty 52 = .ok (.iload_n 2, 1) := dk_28 (dk_at dksX0_isGuilty_2 6 rfl rfl)
theorem dX0_isGuilty_53 : decode cX0_isGuilty 53 = .ok (.aaload, 1) := dk_50 (dk_at dksX0_isGuilty_2 7 rfl rfl)
theorem dX0_isGuilty_54 : decode cX0_isGuilty 54 = .ok (.iconst 3, 1) := dk_6 (dk_at dksX0_isGuilty_2 8 rfl rfl)
theorem dX0_isGuilty_55 : decode cX0_isGuilty 55 = .ok (.iaload, 1) := dk_46 (dk_at dksX0_isGuilty_2 9 rfl rfl)
theorem dX0_isGuilty_56 : decode cX0_isGuilty 56 = .ok (.invokevirtual 157, 3) := dk_182 0 157 (dk_at dksX0_isGuilty_2 10 rfl rfl)
theorem dX0_isGuilty_59 : decode cX0_isGuilty 59 = .ok (.ifCond .eq 5, 3) := dk_153 0 5 (dk_at dksX0_isGuilty_2 13 rfl rfl)
theorem dX0_isGuilty_62 : decode cX0_isGuilty 62 = .ok (.iconst 1, 1) := dk_4 (dk_at dksX0_isGuilty_2 16 rfl rfl)
theorem dX0_isGuilty_63 : decode cX0_isGuilty 63 = .ok (.ireturn, 1) := dk_172 (dk_at dksX0_isGuilty_2 17 rfl rfl)
theorem dX0_isGuilty_64 : decode cX0_isGuilty 64 = .ok (.iinc 3 1, 3) := dk_132 3 1 (dk_at dksX0_isGuilty_2 18 rfl rfl)
theorem dX0_isGuilty_67 : decode cX0_isGuilty 67 = .ok (.goto (-50), 3) := dk_167 255 206 (dk_at dksX0_isGuilty_2 21 rfl rfl)
theorem dX0_isGuilty_70 : decode cX0_isGuilty 70 = .ok (.iconst 0, 1) := dk_3 (dk_at dksX0_isGuilty_3 0 rfl rfl)
theorem dX0_isGuilty_71 : decode cX0_isGuilty 71 = .ok (.ireturn, 1) := dk_172 (dk_at dksX0_isGuilty_3 1 rfl rfl)
abbrev cX0_has : ByteArray := prog_1_method_2_code
def yX0_has : MethodName := ⟨RX0, "has", "(II)Z"⟩
def dkwX0_has_0 : List UInt8 := [26, 27, 122, 4, 126, 4, 160, 0, 7, 4, 167, 0, 4, 3, 172]
abbrev dktX0_has_0 : List UInt8 := dkwX0_has_0 ++ []
theorem dksX0_has_0 : cX0_has.data.toList.drop 0 = dktX0_has_0 := by decide +kernel
theorem dX0_has_0 : decode cX0_has 0 = .ok (.iload_n 0, 1) := dk_26 (dk_at dksX0_has_0 0 rfl rfl)
theorem dX0_has_1 : decode cX0_has 1 = .ok (.iload_n 1, 1) := dk_27 (dk_at dksX0_has_0 1 rfl rfl)
theorem dX0_has_2 : decode cX0_has 2 = .ok (.ishr, 1) := dk_122 (dk_at dksX0_has_0 2 rfl rfl)
theorem dX0_has_3 : decode cX0_has 3 = .ok (.iconst 1, 1) := dk_4 (dk_at dksX0_has_0 3 rfl rfl)
theorem dX0_has_4 : decode cX0_has 4 = .ok (.iand, 1) := dk_126 (dk_at dksX0_has_0 4 rfl rfl)
theorem dX0_has_5 : decode cX0_has 5 = .ok (.iconst 1, 1) := dk_4 (dk_at dksX0_has_0 5 rfl rfl)
theorem dX0_has_6 : decode cX0_has 6 = .ok (.if_icmp .ne 7, 3) := dk_160 0 7 (dk_at dksX0_has_0 6 rfl rfl)
theorem dX0_has_9 : decode cX0_has 9 = .ok (.iconst 1, 1) := dk_4 (dk_at dksX0_has_0 9 rfl rfl)
theorem dX0_has_10 : decode cX0_has 10 = .ok (.goto 4, 3) := dk_167 0 4 (dk_at dksX0_has_0 10 rfl rfl)
theorem dX0_has_13 : decode cX0_has 13 = .ok (.iconst 0, 1) := dk_3 (dk_at dksX0_has_0 13 rfl rfl)
theorem dX0_has_14 : decode cX0_has 14 = .ok (.ireturn, 1) := dk_172 (dk_at dksX0_has_0 14 rfl rfl)
abbrev cX0_rules : ByteArray := prog_1_method_14_code
def yX0_rules : MethodName := ⟨RX0, "rules", "()LVaneCourt$Text;"⟩
def dkwX0_rules_1 : List UInt8 := [180, 0, 85, 42, 180, 0, 21, 180, 0, 64, 5, 46, 50, 176]
abbrev dktX0_rules_1 : List UInt8 := dkwX0_rules_1 ++ []
def dkwX0_rules_0 : List UInt8 := [42, 180, 0, 21, 180, 0, 64, 5, 46, 2, 160, 0, 9, 178, 0, 108, 167, 0, 20, 42, 180, 0, 21]
abbrev dktX0_rules_0 : List UInt8 := dkwX0_rules_0 ++ dktX0_rules_1
theorem dksX0_rules_0 : cX0_rules.data.toList.drop 0 = dktX0_rules_0 := by decide +kernel
theorem dksX0_rules_1 : cX0_rules.data.toList.drop 23 = dktX0_rules_1 := dk_seg dksX0_rules_0 23 rfl rfl
theorem dX0_rules_0 : decode cX0_rules 0 = .ok (.aload_n 0, 1) := dk_42 (dk_at dksX0_rules_0 0 rfl rfl)
theorem dX0_rules_1 : decode cX0_rules 1 = .ok (.getfield 21, 3) := dk_180 0 21 (dk_at dksX0_rules_0 1 rfl rfl)
theorem dX0_rules_4 : decode cX0_rules 4 = .ok (.getfield 64, 3) := dk_180 0 64 (dk_at dksX0_rules_0 4 rfl rfl)
theorem dX0_rules_7 : decode cX0_rules 7 = .ok (.iconst 2, 1) := dk_5 (dk_at dksX0_rules_0 7 rfl rfl)
theorem dX0_rules_8 : decode cX0_rules 8 = .ok (.iaload, 1) := dk_46 (dk_at dksX0_rules_0 8 rfl rfl)
theorem dX0_rules_9 : decode cX0_rules 9 = .ok (.iconst (-1), 1) := dk_2 (dk_at dksX0_rules_0 9 rfl rfl)
theorem dX0_rules_10 : decode cX0_rules 10 = .ok (.if_icmp .ne 9, 3) := dk_160 0 9 (dk_at dksX0_rules_0 10 rfl rfl)
theorem dX0_rules_13 : decode cX0_rules 13 = .ok (.getstatic 108, 3) := dk_178 0 108 (dk_at dksX0_rules_0 13 rfl rfl)
theorem dX0_rules_16 : decode cX0_rules 16 = .ok (.goto 20, 3) := dk_167 0 20 (dk_at dksX0_rules_0 16 rfl rfl)
theorem dX0_rules_19 : decode cX0_rules 19 = .ok (.aload_n 0, 1) := dk_42 (dk_at dksX0_rules_0 19 rfl rfl)
theorem dX0_rules_20 : decode cX0_rules 20 = .ok (.getfield 21, 3) := dk_180 0 21 (dk_at dksX0_rules_0 20 rfl rfl)
theorem dX0_rules_23 : decode cX0_rules 23 = .ok (.getfield 85, 3) := dk_180 0 85 (dk_at dksX0_rules_1 0 rfl rfl)
theorem dX0_rules_26 : decode cX0_rules 26 = .ok (.aload_n 0, 1) := dk_42 (dk_at dksX0_rules_1 3 rfl rfl)
theorem dX0_rules_27 : decode cX0_rules 27 = .ok (.getfield 21, 3) := dk_180 0 21 (dk_at dksX0_rules_1 4 rfl rfl)
theorem dX0_rules_30 : decode cX0_rules 30 = .ok (.getfield 64, 3) := dk_180 0 64 (dk_at dksX0_rules_1 7 rfl rfl)
theorem dX0_rules_33 : decode cX0_rules 33 = .ok (.iconst 2, 1) := dk_5 (dk_at dksX0_rules_1 10 rfl rfl)
theorem dX0_rules_34 : decode cX0_rules 34 = .ok (.iaload, 1) := dk_46 (dk_at dksX0_rules_1 11 rfl rfl)
theorem dX0_rules_35 : decode cX0_rules 35 = .ok (.aaload, 1) := dk_50 (dk_at dksX0_rules_1 12 rfl rfl)
theorem dX0_rules_36 : decode cX0_rules 36 = .ok (.areturn, 1) := dk_176 (dk_at dksX0_rules_1 13 rfl rfl)
abbrev cX0_isGuiltyBy : ByteArray := prog_1_method_17_code
def yX0_isGuiltyBy : MethodName := ⟨RX0, "isGuiltyBy", "(LVaneCourt$Text;[IIIII)Z"⟩
def dkwX0_isGuiltyBy_2 : List UInt8 := [167, 0, 22, 3, 167, 0, 18, 43, 180, 0, 118, 29, 50, 42, 180, 0, 39, 185, 0, 128, 2, 0, 172]
abbrev dktX0_isGuiltyBy_2 : List UInt8 := dkwX0_isGuiltyBy_2 ++ []
def dkwX0_isGuiltyBy_1 : List UInt8 := [50, 199, 0, 30, 42, 180, 0, 39, 8, 46, 29, 164, 0, 16, 21, 6, 3, 184, 0, 124, 153, 0, 7, 4]
abbrev dktX0_isGuiltyBy_1 : List UInt8 := dkwX0_isGuiltyBy_1 ++ dktX0_isGuiltyBy_2
def dkwX0_isGuiltyBy_0 : List UInt8 := [42, 44, 29, 21, 4, 21, 5, 182, 0, 115, 42, 180, 0, 39, 16, 8, 21, 6, 79, 43, 180, 0, 118, 29]
abbrev dktX0_isGuiltyBy_0 : List UInt8 := dkwX0_isGuiltyBy_0 ++ dktX0_isGuiltyBy_1
theorem dksX0_isGuiltyBy_0 : cX0_isGuiltyBy.data.toList.drop 0 = dktX0_isGuiltyBy_0 := by decide +kernel
theorem dksX0_isGuiltyBy_1 : cX0_isGuiltyBy.data.toList.drop 24 = dktX0_isGuiltyBy_1 := dk_seg dksX0_isGuiltyBy_0 24 rfl rfl
theorem dksX0_isGuiltyBy_2 : cX0_isGuiltyBy.data.toList.drop 48 = dktX0_isGuiltyBy_2 := dk_seg dksX0_isGuiltyBy_1 24 rfl rfl
theorem dX0_isGuiltyBy_0 : decode cX0_isGuiltyBy 0 = .ok (.aload_n 0, 1) := dk_42 (dk_at dksX0_isGuiltyBy_0 0 rfl rfl)
theorem dX0_isGuiltyBy_1 : decode cX0_isGuiltyBy 1 = .ok (.aload_n 2, 1) := dk_44 (dk_at dksX0_isGuiltyBy_0 1 rfl rfl)
theorem dX0_isGuiltyBy_2 : decode cX0_isGuiltyBy 2 = .ok (.iload_n 3, 1) := dk_29 (dk_at dksX0_isGuiltyBy_0 2 rfl rfl)
theorem dX0_isGuiltyBy_3 : decode cX0_isGuiltyBy 3 = .ok (.iload 4, 2) := dk_21 4 (dk_at dksX0_isGuiltyBy_0 3 rfl rfl)
theorem dX0_isGuiltyBy_5 : decode cX0_isGuiltyBy 5 = .ok (.iload 5, 2) := dk_21 5 (dk_at dksX0_isGuiltyBy_0 5 rfl rfl)
theorem dX0_isGuiltyBy_7 : decode cX0_isGuiltyBy 7 = .ok (.invokevirtual 115, 3) := dk_182 0 115 (dk_at dksX0_isGuiltyBy_0 7 rfl rfl)
theorem dX0_isGuiltyBy_10 : decode cX0_isGuiltyBy 10 = .ok (.aload_n 0, 1) := dk_42 (dk_at dksX0_isGuiltyBy_0 10 rfl rfl)
theorem dX0_isGuiltyBy_11 : decode cX0_isGuiltyBy 11 = .ok (.getfield 39, 3) := dk_180 0 39 (dk_at dksX0_isGuiltyBy_0 11 rfl rfl)
theorem dX0_isGuiltyBy_14 : decode cX0_isGuiltyBy 14 = .ok (.bipush 8, 2) := dk_16 8 (dk_at dksX0_isGuiltyBy_0 14 rfl rfl)
theorem dX0_isGuiltyBy_16 : decode cX0_isGuiltyBy 16 = .ok (.iload 6, 2) := dk_21 6 (dk_at dksX0_isGuiltyBy_0 16 rfl rfl)
theorem dX0_isGuiltyBy_18 : decode cX0_isGuiltyBy 18 = .ok (.iastore, 1) := dk_79 (dk_at dksX0_isGuiltyBy_0 18 rfl rfl)
theorem dX0_isGuiltyBy_19 : decode cX0_isGuiltyBy 19 = .ok (.aload_n 1, 1) := dk_43 (dk_at dksX0_isGuiltyBy_0 19 rfl rfl)
theorem dX0_isGuiltyBy_20 : decode cX0_isGuiltyBy 20 = .ok (.getfield 118, 3) := dk_180 0 118 (dk_at dksX0_isGuiltyBy_0 20 rfl rfl)
theorem dX0_isGuiltyBy_23 : decode cX0_isGuiltyBy 23 = .ok (.iload_n 3, 1) := dk_29 (dk_at dksX0_isGuiltyBy_0 23 rfl rfl)
theorem dX0_isGuiltyBy_24 : decode cX0_isGuiltyBy 24 = .ok (.aaload, 1) := dk_50 (dk_at dksX0_isGuiltyBy_1 0 rfl rfl)
theorem dX0_isGuiltyBy_25 : decode cX0_isGuiltyBy 25 = .ok (.ifnonnull 30, 3) := dk_199 0 30 (dk_at dksX0_isGuiltyBy_1 1 rfl rfl)
theorem dX0_isGuiltyBy_28 : decode cX0_isGuiltyBy 28 = .ok (.aload_n 0, 1) := dk_42 (dk_at dksX0_isGuiltyBy_1 4 rfl rfl)
theorem dX0_isGuiltyBy_29 : decode cX0_isGuiltyBy 29 = .ok (.getfield 39, 3) := dk_180 0 39 (dk_at dksX0_isGuiltyBy_1 5 rfl rfl)
theorem dX0_isGuiltyBy_32 : decode cX0_isGuiltyBy 32 = .ok (.iconst 5, 1) := dk_8 (dk_at dksX0_isGuiltyBy_1 8 rfl rfl)
theorem dX0_isGuiltyBy_33 : decode cX0_isGuiltyBy 33 = .ok (.iaload, 1) := dk_46 (dk_at dksX0_isGuiltyBy_1 9 rfl rfl)
theorem dX0_isGuiltyBy_34 : decode cX0_isGuiltyBy 34 = .ok (.iload_n 3, 1) := dk_29 (dk_at dksX0_isGuiltyBy_1 10 rfl rfl)
theorem dX0_isGuiltyBy_35 : decode cX0_isGuiltyBy 35 = .ok (.if_icmp .le 16, 3) := dk_164 0 16 (dk_at dksX0_isGuiltyBy_1 11 rfl rfl)
theorem dX0_isGuiltyBy_38 : decode cX0_isGuiltyBy 38 = .ok (.iload 6, 2) := dk_21 6 (dk_at dksX0_isGuiltyBy_1 14 rfl rfl)
theorem dX0_isGuiltyBy_40 : decode cX0_isGuiltyBy 40 = .ok (.iconst 0, 1) := dk_3 (dk_at dksX0_isGuiltyBy_1 16 rfl rfl)
theorem dX0_isGuiltyBy_41 : decode cX0_isGuiltyBy 41 = .ok (.invokestatic 124, 3) := dk_184 0 124 (dk_at dksX0_isGuiltyBy_1 17 rfl rfl)
theorem dX0_isGuiltyBy_44 : decode cX0_isGuiltyBy 44 = .ok (.ifCond .eq 7, 3) := dk_153 0 7 (dk_at dksX0_isGuiltyBy_1 20 rfl rfl)
theorem dX0_isGuiltyBy_47 : decode cX0_isGuiltyBy 47 = .ok (.iconst 1, 1) := dk_4 (dk_at dksX0_isGuiltyBy_1 23 rfl rfl)
theorem dX0_isGuiltyBy_48 : decode cX0_isGuiltyBy 48 = .ok (.goto 22, 3) := dk_167 0 22 (dk_at dksX0_isGuiltyBy_2 0 rfl rfl)
theorem dX0_isGuiltyBy_51 : decode cX0_isGuiltyBy 51 = .ok (.iconst 0, 1) := dk_3 (dk_at dksX0_isGuiltyBy_2 3 rfl rfl)
theorem dX0_isGuiltyBy_52 : decode cX0_isGuiltyBy 52 = .ok (.goto 18, 3) := dk_167 0 18 (dk_at dksX0_isGuiltyBy_2 4 rfl rfl)
theorem dX0_isGuiltyBy_55 : decode cX0_isGuiltyBy 55 = .ok (.aload_n 1, 1) := dk_43 (dk_at dksX0_isGuiltyBy_2 7 rfl rfl)
theorem dX0_isGuiltyBy_56 : decode cX0_isGuiltyBy 56 = .ok (.getfield 118, 3) := dk_180 0 118 (dk_at dksX0_isGuiltyBy_2 8 rfl rfl)
theorem dX0_isGuiltyBy_59 : decode cX0_isGuiltyBy 59 = .ok (.iload_n 3, 1) := dk_29 (dk_at dksX0_isGuiltyBy_2 11 rfl rfl)
theorem dX0_isGuiltyBy_60 : decode cX0_isGuiltyBy 60 = .ok (.aaload, 1) := dk_50 (dk_at dksX0_isGuiltyBy_2 12 rfl rfl)
theorem dX0_isGuiltyBy_61 : decode cX0_isGuiltyBy 61 = .ok (.aload_n 0, 1) := dk_42 (dk_at dksX0_isGuiltyBy_2 13 rfl rfl)
theorem dX0_isGuiltyBy_62 : decode cX0_isGuiltyBy 62 = .ok (.getfield 39, 3) := dk_180 0 39 (dk_at dksX0_isGuiltyBy_2 14 rfl rfl)
theorem dX0_isGuiltyBy_65 : decode cX0_isGuiltyBy 65 = .ok (.invokeinterface 128 2, 5) := by decide +kernel
theorem dX0_isGuiltyBy_70 : decode cX0_isGuiltyBy 70 = .ok (.ireturn, 1) := dk_172 (dk_at dksX0_isGuiltyBy_2 22 rfl rfl)
abbrev cX0_names : ByteArray := prog_1_method_16_code
def yX0_names : MethodName := ⟨RX0, "names", "([IIII)V"⟩
def dkwX0_names_2 : List UInt8 := [79, 177]
abbrev dktX0_names_2 : List UInt8 := dkwX0_names_2 ++ []
def dkwX0_names_1 : List UInt8 := [180, 0, 39, 8, 42, 180, 0, 21, 180, 0, 71, 29, 50, 4, 46, 79, 42, 180, 0, 39, 16, 6, 21, 4]
abbrev dktX0_names_1 : List UInt8 := dkwX0_names_1 ++ dktX0_names_2
def dkwX0_names_0 : List UInt8 := [42, 43, 28, 182, 0, 112, 42, 180, 0, 39, 7, 42, 180, 0, 21, 180, 0, 71, 29, 50, 3, 46, 79, 42]
abbrev dktX0_names_0 : List UInt8 := dkwX0_names_0 ++ dktX0_names_1
theorem dksX0_names_0 : cX0_names.data.toList.drop 0 = dktX0_names_0 := by decide +kernel
theorem dksX0_names_1 : cX0_names.data.toList.drop 24 = dktX0_names_1 := dk_seg dksX0_names_0 24 rfl rfl
theorem dksX0_names_2 : cX0_names.data.toList.drop 48 = dktX0_names_2 := dk_seg dksX0_names_1 24 rfl rfl
theorem dX0_names_0 : decode cX0_names 0 = .ok (.aload_n 0, 1) := dk_42 (dk_at dksX0_names_0 0 rfl rfl)
theorem dX0_names_1 : decode cX0_names 1 = .ok (.aload_n 1, 1) := dk_43 (dk_at dksX0_names_0 1 rfl rfl)
theorem dX0_names_2 : decode cX0_names 2 = .ok (.iload_n 2, 1) := dk_28 (dk_at dksX0_names_0 2 rfl rfl)
theorem dX0_names_3 : decode cX0_names 3 = .ok (.invokevirtual 112, 3) := dk_182 0 112 (dk_at dksX0_names_0 3 rfl rfl)
theorem dX0_names_6 : decode cX0_names 6 = .ok (.aload_n 0, 1) := dk_42 (dk_at dksX0_names_0 6 rfl rfl)
theorem dX0_names_7 : decode cX0_names 7 = .ok (.getfield 39, 3) := dk_180 0 39 (dk_at dksX0_names_0 7 rfl rfl)
theorem dX0_names_10 : decode cX0_names 10 = .ok (.iconst 4, 1) := dk_7 (dk_at dksX0_names_0 10 rfl rfl)
theorem dX0_names_11 : decode cX0_names 11 = .ok (.aload_n 0, 1) := dk_42 (dk_at dksX0_names_0 11 rfl rfl)
theorem dX0_names_12 : decode cX0_names 12 = .ok (.getfield 21, 3) := dk_180 0 21 (dk_at dksX0_names_0 12 rfl rfl)
theorem dX0_names_15 : decode cX0_names 15 = .ok (.getfield 71, 3) := dk_180 0 71 (dk_at dksX0_names_0 15 rfl rfl)
theorem dX0_names_18 : decode cX0_names 18 = .ok (.iload_n 3, 1) := dk_29 (dk_at dksX0_names_0 18 rfl rfl)
theorem dX0_names_19 : decode cX0_names 19 = .ok (.aaload, 1) := dk_50 (dk_at dksX0_names_0 19 rfl rfl)
theorem dX0_names_20 : decode cX0_names 20 = .ok (.iconst 0, 1) := dk_3 (dk_at dksX0_names_0 20 rfl rfl)
theorem dX0_names_21 : decode cX0_names 21 = .ok (.iaload, 1) := dk_46 (dk_at dksX0_names_0 21 rfl rfl)
theorem dX0_names_22 : decode cX0_names 22 = .ok (.iastore, 1) := dk_79 (dk_at dksX0_names_0 22 rfl rfl)
theorem dX0_names_23 : decode cX0_names 23 = .ok (.aload_n 0, 1) := dk_42 (dk_at dksX0_names_0 23 rfl rfl)
theorem dX0_names_24 : decode cX0_names 24 = .ok (.getfield 39, 3) := dk_180 0 39 (dk_at dksX0_names_1 0 rfl rfl)
theorem dX0_names_27 : decode cX0_names 27 = .ok (.iconst 5, 1) := dk_8 (dk_at dksX0_names_1 3 rfl rfl)
theorem dX0_names_28 : decode cX0_names 28 = .ok (.aload_n 0, 1) := dk_42 (dk_at dksX0_names_1 4 rfl rfl)
theorem dX0_names_29 : decode cX0_names 29 = .ok (.getfield 21, 3) := dk_180 0 21 (dk_at dksX0_names_1 5 rfl rfl)
theorem dX0_names_32 : decode cX0_names 32 = .ok (.getfield 71, 3) := dk_180 0 71 (dk_at dksX0_names_1 8 rfl rfl)
theorem dX0_names_35 : decode cX0_names 35 = .ok (.iload_n 3, 1) := dk_29 (dk_at dksX0_names_1 11 rfl rfl)
theorem dX0_names_36 : decode cX0_names 36 = .ok (.aaload, 1) := dk_50 (dk_at dksX0_names_1 12 rfl rfl)
theorem dX0_names_37 : decode cX0_names 37 = .ok (.iconst 1, 1) := dk_4 (dk_at dksX0_names_1 13 rfl rfl)
theorem dX0_names_38 : decode cX0_names 38 = .ok (.iaload, 1) := dk_46 (dk_at dksX0_names_1 14 rfl rfl)
theorem dX0_names_39 : decode cX0_names 39 = .ok (.iastore, 1) := dk_79 (dk_at dksX0_names_1 15 rfl rfl)
theorem dX0_names_40 : decode cX0_names 40 = .ok (.aload_n 0, 1) := dk_42 (dk_at dksX0_names_1 16 rfl rfl)
theorem dX0_names_41 : decode cX0_names 41 = .ok (.getfield 39, 3) := dk_180 0 39 (dk_at dksX0_names_1 17 rfl rfl)
theorem dX0_names_44 : decode cX0_names 44 = .ok (.bipush 6, 2) := dk_16 6 (dk_at dksX0_names_1 20 rfl rfl)
theorem dX0_names_46 : decode cX0_names 46 = .ok (.iload 4, 2) := dk_21 4 (dk_at dksX0_names_1 22 rfl rfl)
theorem dX0_names_48 : decode cX0_names 48 = .ok (.iastore, 1) := dk_79 (dk_at dksX0_names_2 0 rfl rfl)
theorem dX0_names_49 : decode cX0_names 49 = .ok (.return_, 1) := dk_177 (dk_at dksX0_names_2 1 rfl rfl)
abbrev cX0_names_2 : ByteArray := prog_1_method_15_code
def yX0_names_2 : MethodName := ⟨RX0, "names", "([II)V"⟩
def dkwX0_names_2_1 : List UInt8 := [79, 177]
abbrev dktX0_names_2_1 : List UInt8 := dkwX0_names_2_1 ++ []
def dkwX0_names_2_0 : List UInt8 := [42, 180, 0, 39, 3, 43, 6, 46, 79, 42, 180, 0, 39, 4, 28, 79, 42, 180, 0, 39, 5, 43, 4, 46]
abbrev dktX0_names_2_0 : List UInt8 := dkwX0_names_2_0 ++ dktX0_names_2_1
theorem dksX0_names_2_0 : cX0_names_2.data.toList.drop 0 = dktX0_names_2_0 := by decide +kernel
theorem dksX0_names_2_1 : cX0_names_2.data.toList.drop 24 = dktX0_names_2_1 := dk_seg dksX0_names_2_0 24 rfl rfl
theorem dX0_names_2_0 : decode cX0_names_2 0 = .ok (.aload_n 0, 1) := dk_42 (dk_at dksX0_names_2_0 0 rfl rfl)
theorem dX0_names_2_1 : decode cX0_names_2 1 = .ok (.getfield 39, 3) := dk_180 0 39 (dk_at dksX0_names_2_0 1 rfl rfl)
theorem dX0_names_2_4 : decode cX0_names_2 4 = .ok (.iconst 0, 1) := dk_3 (dk_at dksX0_names_2_0 4 rfl rfl)
theorem dX0_names_2_5 : decode cX0_names_2 5 = .ok (.aload_n 1, 1) := dk_43 (dk_at dksX0_names_2_0 5 rfl rfl)
theorem dX0_names_2_6 : decode cX0_names_2 6 = .ok (.iconst 3, 1) := dk_6 (dk_at dksX0_names_2_0 6 rfl rfl)
theorem dX0_names_2_7 : decode cX0_names_2 7 = .ok (.iaload, 1) := dk_46 (dk_at dksX0_names_2_0 7 rfl rfl)
theorem dX0_names_2_8 : decode cX0_names_2 8 = .ok (.iastore, 1) := dk_79 (dk_at dksX0_names_2_0 8 rfl rfl)
theorem dX0_names_2_9 : decode cX0_names_2 9 = .ok (.aload_n 0, 1) := dk_42 (dk_at dksX0_names_2_0 9 rfl rfl)
theorem dX0_names_2_10 : decode cX0_names_2 10 = .ok (.getfield 39, 3) := dk_180 0 39 (dk_at dksX0_names_2_0 10 rfl rfl)
theorem dX0_names_2_13 : decode cX0_names_2 13 = .ok (.iconst 1, 1) := dk_4 (dk_at dksX0_names_2_0 13 rfl rfl)
theorem dX0_names_2_14 : decode cX0_names_2 14 = .ok (.iload_n 2, 1) := dk_28 (dk_at dksX0_names_2_0 14 rfl rfl)
theorem dX0_names_2_15 : decode cX0_names_2 15 = .ok (.iastore, 1) := dk_79 (dk_at dksX0_names_2_0 15 rfl rfl)
theorem dX0_names_2_16 : decode cX0_names_2 16 = .ok (.aload_n 0, 1) := dk_42 (dk_at dksX0_names_2_0 16 rfl rfl)
theorem dX0_names_2_17 : decode cX0_names_2 17 = .ok (.getfield 39, 3) := dk_180 0 39 (dk_at dksX0_names_2_0 17 rfl rfl)
theorem dX0_names_2_20 : decode cX0_names_2 20 = .ok (.iconst 2, 1) := dk_5 (dk_at dksX0_names_2_0 20 rfl rfl)
theorem dX0_names_2_21 : decode cX0_names_2 21 = .ok (.aload_n 1, 1) := dk_43 (dk_at dksX0_names_2_0 21 rfl rfl)
theorem dX0_names_2_22 : decode cX0_names_2 22 = .ok (.iconst 1, 1) := dk_4 (dk_at dksX0_names_2_0 22 rfl rfl)
theorem dX0_names_2_23 : decode cX0_names_2 23 = .ok (.iaload, 1) := dk_46 (dk_at dksX0_names_2_0 23 rfl rfl)
theorem dX0_names_2_24 : decode cX0_names_2 24 = .ok (.iastore, 1) := dk_79 (dk_at dksX0_names_2_1 0 rfl rfl)
theorem dX0_names_2_25 : decode cX0_names_2 25 = .ok (.return_, 1) := dk_177 (dk_at dksX0_names_2_1 1 rfl rfl)
abbrev cX0_sentenceOf : ByteArray := prog_1_method_18_code
def yX0_sentenceOf : MethodName := ⟨RX0, "sentenceOf", "([II)I"⟩
def dkwX0_sentenceOf_3 : List UInt8 := [184, 0, 153, 172]
abbrev dktX0_sentenceOf_3 : List UInt8 := dkwX0_sentenceOf_3 ++ []
def dkwX0_sentenceOf_2 : List UInt8 := [180, 0, 39, 16, 6, 46, 104, 167, 0, 20, 45, 42, 180, 0, 39, 185, 0, 147, 2, 0, 3, 17, 3, 231]
abbrev dktX0_sentenceOf_2 : List UInt8 := dkwX0_sentenceOf_2 ++ dktX0_sentenceOf_3
def dkwX0_sentenceOf_1 : List UInt8 := [180, 0, 39, 16, 7, 43, 16, 7, 46, 184, 0, 141, 79, 45, 199, 0, 20, 42, 180, 0, 39, 8, 46, 42]
abbrev dktX0_sentenceOf_1 : List UInt8 := dkwX0_sentenceOf_1 ++ dktX0_sentenceOf_2
def dkwX0_sentenceOf_0 : List UInt8 := [42, 182, 0, 134, 180, 0, 137, 78, 42, 43, 43, 3, 46, 28, 43, 16, 6, 46, 182, 0, 115, 42]
abbrev dktX0_sentenceOf_0 : List UInt8 := dkwX0_sentenceOf_0 ++ dktX0_sentenceOf_1
theorem dksX0_sentenceOf_0 : cX0_sentenceOf.data.toList.drop 0 = dktX0_sentenceOf_0 := by decide +kernel
theorem dksX0_sentenceOf_1 : cX0_sentenceOf.data.toList.drop 22 = dktX0_sentenceOf_1 := dk_seg dksX0_sentenceOf_0 22 rfl rfl
theorem dksX0_sentenceOf_2 : cX0_sentenceOf.data.toList.drop 46 = dktX0_sentenceOf_2 := dk_seg dksX0_sentenceOf_1 24 rfl rfl
theorem dksX0_sentenceOf_3 : cX0_sentenceOf.data.toList.drop 70 = dktX0_sentenceOf_3 := dk_seg dksX0_sentenceOf_2 24 rfl rfl
theorem dX0_sentenceOf_0 : decode cX0_sentenceOf 0 = .ok (.aload_n 0, 1) := dk_42 (dk_at dksX0_sentenceOf_0 0 rfl rfl)
theorem dX0_sentenceOf_1 : decode cX0_sentenceOf 1 = .ok (.invokevirtual 134, 3) := dk_182 0 134 (dk_at dksX0_sentenceOf_0 1 rfl rfl)
theorem dX0_sentenceOf_4 : decode cX0_sentenceOf 4 = .ok (.getfield 137, 3) := dk_180 0 137 (dk_at dksX0_sentenceOf_0 4 rfl rfl)
theorem dX0_sentenceOf_7 : decode cX0_sentenceOf 7 = .ok (.astore_n 3, 1) := dk_78 (dk_at dksX0_sentenceOf_0 7 rfl rfl)
theorem dX0_sentenceOf_8 : decode cX0_sentenceOf 8 = .ok (.aload_n 0, 1) := dk_42 (dk_at dksX0_sentenceOf_0 8 rfl rfl)
theorem dX0_sentenceOf_9 : decode cX0_sentenceOf 9 = .ok (.aload_n 1, 1) := dk_43 (dk_at dksX0_sentenceOf_0 9 rfl rfl)
theorem dX0_sentenceOf_10 : decode cX0_sentenceOf 10 = .ok (.aload_n 1, 1) := dk_43 (dk_at dksX0_sentenceOf_0 10 rfl rfl)
theorem dX0_sentenceOf_11 : decode cX0_sentenceOf 11 = .ok (.iconst 0, 1) := dk_3 (dk_at dksX0_sentenceOf_0 11 rfl rfl)
theorem dX0_sentenceOf_12 : decode cX0_sentenceOf 12 = .ok (.iaload, 1) := dk_46 (dk_at dksX0_sentenceOf_0 12 rfl rfl)
theorem dX0_sentenceOf_13 : decode cX0_sentenceOf 13 = .ok (.iload_n 2, 1) := dk_28 (dk_at dksX0_sentenceOf_0 13 rfl rfl)
theorem dX0_sentenceOf_14 : decode cX0_sentenceOf 14 = .ok (.aload_n 1, 1) := dk_43 (dk_at dksX0_sentenceOf_0 14 rfl rfl)
theorem dX0_sentenceOf_15 : decode cX0_sentenceOf 15 = .ok (.bipush 6, 2) := dk_16 6 (dk_at dksX0_sentenceOf_0 15 rfl rfl)
theorem dX0_sentenceOf_17 : decode cX0_sentenceOf 17 = .ok (.iaload, 1) := dk_46 (dk_at dksX0_sentenceOf_0 17 rfl rfl)
theorem dX0_sentenceOf_18 : decode cX0_sentenceOf 18 = .ok (.invokevirtual 115, 3) := dk_182 0 115 (dk_at dksX0_sentenceOf_0 18 rfl rfl)
theorem dX0_sentenceOf_21 : decode cX0_sentenceOf 21 = .ok (.aload_n 0, 1) := dk_42 (dk_at dksX0_sentenceOf_0 21 rfl rfl)
theorem dX0_sentenceOf_22 : decode cX0_sentenceOf 22 = .ok (.getfield 39, 3) := dk_180 0 39 (dk_at dksX0_sentenceOf_1 0 rfl rfl)
theorem dX0_sentenceOf_25 : decode cX0_sentenceOf 25 = .ok (.bipush 7, 2) := dk_16 7 (dk_at dksX0_sentenceOf_1 3 rfl rfl)
theorem dX0_sentenceOf_27 : decode cX0_sentenceOf 27 = .ok (.aload_n 1, 1) := dk_43 (dk_at dksX0_sentenceOf_1 5 rfl rfl)
theorem dX0_sentenceOf_28 : decode cX0_sentenceOf 28 = .ok (.bipush 7, 2) := dk_16 7 (dk_at dksX0_sentenceOf_1 6 rfl rfl)
theorem dX0_sentenceOf_30 : decode cX0_sentenceOf 30 = .ok (.iaload, 1) := dk_46 (dk_at dksX0_sentenceOf_1 8 rfl rfl)
theorem dX0_sentenceOf_31 : decode cX0_sentenceOf 31 = .ok (.invokestatic 141, 3) := dk_184 0 141 (dk_at dksX0_sentenceOf_1 9 rfl rfl)
theorem dX0_sentenceOf_34 : decode cX0_sentenceOf 34 = .ok (.iastore, 1) := dk_79 (dk_at dksX0_sentenceOf_1 12 rfl rfl)
theorem dX0_sentenceOf_35 : decode cX0_sentenceOf 35 = .ok (.aload_n 3, 1) := dk_45 (dk_at dksX0_sentenceOf_1 13 rfl rfl)
theorem dX0_sentenceOf_36 : decode cX0_sentenceOf 36 = .ok (.ifnonnull 20, 3) := dk_199 0 20 (dk_at dksX0_sentenceOf_1 14 rfl rfl)
theorem dX0_sentenceOf_39 : decode cX0_sentenceOf 39 = .ok (.aload_n 0, 1) := dk_42 (dk_at dksX0_sentenceOf_1 17 rfl rfl)
theorem dX0_sentenceOf_40 : decode cX0_sentenceOf 40 = .ok (.getfield 39, 3) := dk_180 0 39 (dk_at dksX0_sentenceOf_1 18 rfl rfl)
theorem dX0_sentenceOf_43 : decode cX0_sentenceOf 43 = .ok (.iconst 5, 1) := dk_8 (dk_at dksX0_sentenceOf_1 21 rfl rfl)
theorem dX0_sentenceOf_44 : decode cX0_sentenceOf 44 = .ok (.iaload, 1) := dk_46 (dk_at dksX0_sentenceOf_1 22 rfl rfl)
theorem dX0_sentenceOf_45 : decode cX0_sentenceOf 45 = .ok (.aload_n 0, 1) := dk_42 (dk_at dksX0_sentenceOf_1 23 rfl rfl)
theorem dX0_sentenceOf_46 : decode cX0_sentenceOf 46 = .ok (.getfield 39, 3) := dk_180 0 39 (dk_at dksX0_sentenceOf_2 0 rfl rfl)
theorem dX0_sentenceOf_49 : decode cX0_sentenceOf 49 = .ok (.bipush 6, 2) := dk_16 6 (dk_at dksX0_sentenceOf_2 3 rfl rfl)
theorem dX0_sentenceOf_51 : decode cX0_sentenceOf 51 = .ok (.iaload, 1) := dk_46 (dk_at dksX0_sentenceOf_2 5 rfl rfl)
theorem dX0_sentenceOf_52 : decode cX0_sentenceOf 52 = .ok (.imul, 1) := dk_104 (dk_at dksX0_sentenceOf_2 6 rfl rfl)
theorem dX0_sentenceOf_53 : decode cX0_sentenceOf 53 = .ok (.goto 20, 3) := dk_167 0 20 (dk_at dksX0_sentenceOf_2 7 rfl rfl)
theorem dX0_sentenceOf_56 : decode cX0_sentenceOf 56 = .ok (.aload_n 3, 1) := dk_45 (dk_at dksX0_sentenceOf_2 10 rfl rfl)
theorem dX0_sentenceOf_57 : decode cX0_sentenceOf 57 = .ok (.aload_n 0, 1) := dk_42 (dk_at dksX0_sentenceOf_2 11 rfl rfl)
theorem dX0_sentenceOf_58 : decode cX0_sentenceOf 58 = .ok (.getfield 39, 3) := dk_180 0 39 (dk_at dksX0_sentenceOf_2 12 rfl rfl)
theorem dX0_sentenceOf_61 : decode cX0_sentenceOf 61 = .ok (.invokeinterface 147 2, 5) := by decide +kernel
theorem dX0_sentenceOf_66 : decode cX0_sentenceOf 66 = .ok (.iconst 0, 1) := dk_3 (dk_at dksX0_sentenceOf_2 20 rfl rfl)
theorem dX0_sentenceOf_67 : decode cX0_sentenceOf 67 = .ok (.sipush 999, 3) := dk_17 3 231 (dk_at dksX0_sentenceOf_2 21 rfl rfl)
theorem dX0_sentenceOf_70 : decode cX0_sentenceOf 70 = .ok (.invokestatic 153, 3) := dk_184 0 153 (dk_at dksX0_sentenceOf_3 0 rfl rfl)
theorem dX0_sentenceOf_73 : decode cX0_sentenceOf 73 = .ok (.ireturn, 1) := dk_172 (dk_at dksX0_sentenceOf_3 3 rfl rfl)
abbrev cX0_held : ByteArray := prog_1_method_3_code
def yX0_held : MethodName := ⟨RX0, "held", "(JII)I"⟩
def dkwX0_held_0 : List UInt8 := [28, 133, 29, 133, 30, 184, 0, 3, 184, 0, 9, 136, 172]
abbrev dktX0_held_0 : List UInt8 := dkwX0_held_0 ++ []
theorem dksX0_held_0 : cX0_held.data.toList.drop 0 = dktX0_held_0 := by decide +kernel
theorem dX0_held_0 : decode cX0_held 0 = .ok (.iload_n 2, 1) := dk_28 (dk_at dksX0_held_0 0 rfl rfl)
theorem dX0_held_1 : decode cX0_held 1 = .ok (.i2l, 1) := dk_133 (dk_at dksX0_held_0 1 rfl rfl)
theorem dX0_held_2 : decode cX0_held 2 = .ok (.iload_n 3, 1) := dk_29 (dk_at dksX0_held_0 2 rfl rfl)
theorem dX0_held_3 : decode cX0_held 3 = .ok (.i2l, 1) := dk_133 (dk_at dksX0_held_0 3 rfl rfl)
theorem dX0_held_4 : decode cX0_held 4 = .ok (.lload_n 0, 1) := dk_30 (dk_at dksX0_held_0 4 rfl rfl)
theorem dX0_held_5 : decode cX0_held 5 = .ok (.invokestatic 3, 3) := dk_184 0 3 (dk_at dksX0_held_0 5 rfl rfl)
theorem dX0_held_8 : decode cX0_held 8 = .ok (.invokestatic 9, 3) := dk_184 0 9 (dk_at dksX0_held_0 8 rfl rfl)
theorem dX0_held_11 : decode cX0_held 11 = .ok (.l2i, 1) := dk_136 (dk_at dksX0_held_0 11 rfl rfl)
theorem dX0_held_12 : decode cX0_held 12 = .ok (.ireturn, 1) := dk_172 (dk_at dksX0_held_0 12 rfl rfl)
abbrev cX0_writes : ByteArray := prog_1_method_20_code
def yX0_writes : MethodName := ⟨RX0, "writes", "([III)V"⟩
def dkwX0_writes_3 : List UInt8 := [4, 96, 79, 177]
abbrev dktX0_writes_3 : List UInt8 := dkwX0_writes_3 ++ []
def dkwX0_writes_2 : List UInt8 := [27, 79, 42, 29, 5, 96, 28, 79, 42, 29, 6, 96, 42, 16, 17, 27, 96, 46, 79, 42, 16, 33, 92, 46]
abbrev dktX0_writes_2 : List UInt8 := dkwX0_writes_2 ++ dktX0_writes_3
def dkwX0_writes_1 : List UInt8 := [46, 4, 100, 79, 16, 34, 7, 42, 16, 33, 46, 104, 96, 62, 42, 29, 42, 6, 46, 79, 42, 29, 4, 96]
abbrev dktX0_writes_1 : List UInt8 := dkwX0_writes_1 ++ dktX0_writes_2
def dkwX0_writes_0 : List UInt8 := [42, 16, 33, 46, 16, 30, 160, 0, 22, 42, 16, 38, 42, 16, 34, 16, 116, 184, 0, 161, 42, 16, 33, 92]
abbrev dktX0_writes_0 : List UInt8 := dkwX0_writes_0 ++ dktX0_writes_1
theorem dksX0_writes_0 : cX0_writes.data.toList.drop 0 = dktX0_writes_0 := by decide +kernel
theorem dksX0_writes_1 : cX0_writes.data.toList.drop 24 = dktX0_writes_1 := dk_seg dksX0_writes_0 24 rfl rfl
theorem dksX0_writes_2 : cX0_writes.data.toList.drop 48 = dktX0_writes_2 := dk_seg dksX0_writes_1 24 rfl rfl
theorem dksX0_writes_3 : cX0_writes.data.toList.drop 72 = dktX0_writes_3 := dk_seg dksX0_writes_2 24 rfl rfl
theorem dX0_writes_0 : decode cX0_writes 0 = .ok (.aload_n 0, 1) := dk_42 (dk_at dksX0_writes_0 0 rfl rfl)
theorem dX0_writes_1 : decode cX0_writes 1 = .ok (.bipush 33, 2) := dk_16 33 (dk_at dksX0_writes_0 1 rfl rfl)
theorem dX0_writes_3 : decode cX0_writes 3 = .ok (.iaload, 1) := dk_46 (dk_at dksX0_writes_0 3 rfl rfl)
theorem dX0_writes_4 : decode cX0_writes 4 = .ok (.bipush 30, 2) := dk_16 30 (dk_at dksX0_writes_0 4 rfl rfl)
theorem dX0_writes_6 : decode cX0_writes 6 = .ok (.if_icmp .ne 22, 3) := dk_160 0 22 (dk_at dksX0_writes_0 6 rfl rfl)
theorem dX0_writes_9 : decode cX0_writes 9 = .ok (.aload_n 0, 1) := dk_42 (dk_at dksX0_writes_0 9 rfl rfl)
theorem dX0_writes_10 : decode cX0_writes 10 = .ok (.bipush 38, 2) := dk_16 38 (dk_at dksX0_writes_0 10 rfl rfl)
theorem dX0_writes_12 : decode cX0_writes 12 = .ok (.aload_n 0, 1) := dk_42 (dk_at dksX0_writes_0 12 rfl rfl)
theorem dX0_writes_13 : decode cX0_writes 13 = .ok (.bipush 34, 2) := dk_16 34 (dk_at dksX0_writes_0 13 rfl rfl)
theorem dX0_writes_15 : decode cX0_writes 15 = .ok (.bipush 116, 2) := dk_16 116 (dk_at dksX0_writes_0 15 rfl rfl)
theorem dX0_writes_17 : decode cX0_writes 17 = .ok (.invokestatic 161, 3) := dk_184 0 161 (dk_at dksX0_writes_0 17 rfl rfl)
theorem dX0_writes_20 : decode cX0_writes 20 = .ok (.aload_n 0, 1) := dk_42 (dk_at dksX0_writes_0 20 rfl rfl)
theorem dX0_writes_21 : decode cX0_writes 21 = .ok (.bipush 33, 2) := dk_16 33 (dk_at dksX0_writes_0 21 rfl rfl)
theorem dX0_writes_23 : decode cX0_writes 23 = .ok (.dup2, 1) := dk_92 (dk_at dksX0_writes_0 23 rfl rfl)
theorem dX0_writes_24 : decode cX0_writes 24 = .ok (.iaload, 1) := dk_46 (dk_at dksX0_writes_1 0 rfl rfl)
theorem dX0_writes_25 : decode cX0_writes 25 = .ok (.iconst 1, 1) := dk_4 (dk_at dksX0_writes_1 1 rfl rfl)
theorem dX0_writes_26 : decode cX0_writes 26 = .ok (.isub, 1) := dk_100 (dk_at dksX0_writes_1 2 rfl rfl)
theorem dX0_writes_27 : decode cX0_writes 27 = .ok (.iastore, 1) := dk_79 (dk_at dksX0_writes_1 3 rfl rfl)
theorem dX0_writes_28 : decode cX0_writes 28 = .ok (.bipush 34, 2) := dk_16 34 (dk_at dksX0_writes_1 4 rfl rfl)
theorem dX0_writes_30 : decode cX0_writes 30 = .ok (.iconst 4, 1) := dk_7 (dk_at dksX0_writes_1 6 rfl rfl)
theorem dX0_writes_31 : decode cX0_writes 31 = .ok (.aload_n 0, 1) := dk_42 (dk_at dksX0_writes_1 7 rfl rfl)
theorem dX0_writes_32 : decode cX0_writes 32 = .ok (.bipush 33, 2) := dk_16 33 (dk_at dksX0_writes_1 8 rfl rfl)
theorem dX0_writes_34 : decode cX0_writes 34 = .ok (.iaload, 1) := dk_46 (dk_at dksX0_writes_1 10 rfl rfl)
theorem dX0_writes_35 : decode cX0_writes 35 = .ok (.imul, 1) := dk_104 (dk_at dksX0_writes_1 11 rfl rfl)
theorem dX0_writes_36 : decode cX0_writes 36 = .ok (.iadd, 1) := dk_96 (dk_at dksX0_writes_1 12 rfl rfl)
theorem dX0_writes_37 : decode cX0_writes 37 = .ok (.istore_n 3, 1) := dk_62 (dk_at dksX0_writes_1 13 rfl rfl)
theorem dX0_writes_38 : decode cX0_writes 38 = .ok (.aload_n 0, 1) := dk_42 (dk_at dksX0_writes_1 14 rfl rfl)
theorem dX0_writes_39 : decode cX0_writes 39 = .ok (.iload_n 3, 1) := dk_29 (dk_at dksX0_writes_1 15 rfl rfl)
theorem dX0_writes_40 : decode cX0_writes 40 = .ok (.aload_n 0, 1) := dk_42 (dk_at dksX0_writes_1 16 rfl rfl)
theorem dX0_writes_41 : decode cX0_writes 41 = .ok (.iconst 3, 1) := dk_6 (dk_at dksX0_writes_1 17 rfl rfl)
theorem dX0_writes_42 : decode cX0_writes 42 = .ok (.iaload, 1) := dk_46 (dk_at dksX0_writes_1 18 rfl rfl)
theorem dX0_writes_43 : decode cX0_writes 43 = .ok (.iastore, 1) := dk_79 (dk_at dksX0_writes_1 19 rfl rfl)
theorem dX0_writes_44 : decode cX0_writes 44 = .ok (.aload_n 0, 1) := dk_42 (dk_at dksX0_writes_1 20 rfl rfl)
theorem dX0_writes_45 : decode cX0_writes 45 = .ok (.iload_n 3, 1) := dk_29 (dk_at dksX0_writes_1 21 rfl rfl)
theorem dX0_writes_46 : decode cX0_writes 46 = .ok (.iconst 1, 1) := dk_4 (dk_at dksX0_writes_1 22 rfl rfl)
theorem dX0_writes_47 : decode cX0_writes 47 = .ok (.iadd, 1) := dk_96 (dk_at dksX0_writes_1 23 rfl rfl)
theorem dX0_writes_48 : decode cX0_writes 48 = .ok (.iload_n 1, 1) := dk_27 (dk_at dksX0_writes_2 0 rfl rfl)
theorem dX0_writes_49 : decode cX0_writes 49 = .ok (.iastore, 1) := dk_79 (dk_at dksX0_writes_2 1 rfl rfl)
theorem dX0_writes_50 : decode cX0_writes 50 = .ok (.aload_n 0, 1) := dk_42 (dk_at dksX0_writes_2 2 rfl rfl)
theorem dX0_writes_51 : decode cX0_writes 51 = .ok (.iload_n 3, 1) := dk_29 (dk_at dksX0_writes_2 3 rfl rfl)
theorem dX0_writes_52 : decode cX0_writes 52 = .ok (.iconst 2, 1) := dk_5 (dk_at dksX0_writes_2 4 rfl rfl)
theorem dX0_writes_53 : decode cX0_writes 53 = .ok (.iadd, 1) := dk_96 (dk_at dksX0_writes_2 5 rfl rfl)
theorem dX0_writes_54 : decode cX0_writes 54 = .ok (.iload_n 2, 1) := dk_28 (dk_at dksX0_writes_2 6 rfl rfl)
theorem dX0_writes_55 : decode cX0_writes 55 = .ok (.iastore, 1) := dk_79 (dk_at dksX0_writes_2 7 rfl rfl)
theorem dX0_writes_56 : decode cX0_writes 56 = .ok (.aload_n 0, 1) := dk_42 (dk_at dksX0_writes_2 8 rfl rfl)
theorem dX0_writes_57 : decode cX0_writes 57 = .ok (.iload_n 3, 1) := dk_29 (dk_at dksX0_writes_2 9 rfl rfl)
theorem dX0_writes_58 : decode cX0_writes 58 = .ok (.iconst 3, 1) := dk_6 (dk_at dksX0_writes_2 10 rfl rfl)
theorem dX0_writes_59 : decode cX0_writes 59 = .ok (.iadd, 1) := dk_96 (dk_at dksX0_writes_2 11 rfl rfl)
theorem dX0_writes_60 : decode cX0_writes 60 = .ok (.aload_n 0, 1) := dk_42 (dk_at dksX0_writes_2 12 rfl rfl)
theorem dX0_writes_61 : decode cX0_writes 61 = .ok (.bipush 17, 2) := dk_16 17 (dk_at dksX0_writes_2 13 rfl rfl)
theorem dX0_writes_63 : decode cX0_writes 63 = .ok (.iload_n 1, 1) := dk_27 (dk_at dksX0_writes_2 15 rfl rfl)
theorem dX0_writes_64 : decode cX0_writes 64 = .ok (.iadd, 1) := dk_96 (dk_at dksX0_writes_2 16 rfl rfl)
theorem dX0_writes_65 : decode cX0_writes 65 = .ok (.iaload, 1) := dk_46 (dk_at dksX0_writes_2 17 rfl rfl)
theorem dX0_writes_66 : decode cX0_writes 66 = .ok (.iastore, 1) := dk_79 (dk_at dksX0_writes_2 18 rfl rfl)
theorem dX0_writes_67 : decode cX0_writes 67 = .ok (.aload_n 0, 1) := dk_42 (dk_at dksX0_writes_2 19 rfl rfl)
theorem dX0_writes_68 : decode cX0_writes 68 = .ok (.bipush 33, 2) := dk_16 33 (dk_at dksX0_writes_2 20 rfl rfl)
theorem dX0_writes_70 : decode cX0_writes 70 = .ok (.dup2, 1) := dk_92 (dk_at dksX0_writes_2 22 rfl rfl)
theorem dX0_writes_71 : decode cX0_writes 71 = .ok (.iaload, 1) := dk_46 (dk_at dksX0_writes_2 23 rfl rfl)
theorem dX0_writes_72 : decode cX0_writes 72 = .ok (.iconst 1, 1) := dk_4 (dk_at dksX0_writes_3 0 rfl rfl)
theorem dX0_writes_73 : decode cX0_writes 73 = .ok (.iadd, 1) := dk_96 (dk_at dksX0_writes_3 1 rfl rfl)
theorem dX0_writes_74 : decode cX0_writes 74 = .ok (.iastore, 1) := dk_79 (dk_at dksX0_writes_3 2 rfl rfl)
theorem dX0_writes_75 : decode cX0_writes 75 = .ok (.return_, 1) := dk_177 (dk_at dksX0_writes_3 3 rfl rfl)
abbrev cX0_leaves : ByteArray := prog_1_method_21_code
def yX0_leaves : MethodName := ⟨RX0, "leaves", "([I)V"⟩
def dkwX0_leaves_0 : List UInt8 := [42, 8, 2, 79, 42, 16, 6, 3, 79, 42, 16, 7, 3, 79, 42, 16, 8, 3, 79, 177]
abbrev dktX0_leaves_0 : List UInt8 := dkwX0_leaves_0 ++ []
theorem dksX0_leaves_0 : cX0_leaves.data.toList.drop 0 = dktX0_leaves_0 := by decide +kernel
theorem dX0_leaves_0 : decode cX0_leaves 0 = .ok (.aload_n 0, 1) := dk_42 (dk_at dksX0_leaves_0 0 rfl rfl)
theorem dX0_leaves_1 : decode cX0_leaves 1 = .ok (.iconst 5, 1) := dk_8 (dk_at dksX0_leaves_0 1 rfl rfl)
theorem dX0_leaves_2 : decode cX0_leaves 2 = .ok (.iconst (-1), 1) := dk_2 (dk_at dksX0_leaves_0 2 rfl rfl)
theorem dX0_leaves_3 : decode cX0_leaves 3 = .ok (.iastore, 1) := dk_79 (dk_at dksX0_leaves_0 3 rfl rfl)
theorem dX0_leaves_4 : decode cX0_leaves 4 = .ok (.aload_n 0, 1) := dk_42 (dk_at dksX0_leaves_0 4 rfl rfl)
theorem dX0_leaves_5 : decode cX0_leaves 5 = .ok (.bipush 6, 2) := dk_16 6 (dk_at dksX0_leaves_0 5 rfl rfl)
theorem dX0_leaves_7 : decode cX0_leaves 7 = .ok (.iconst 0, 1) := dk_3 (dk_at dksX0_leaves_0 7 rfl rfl)
theorem dX0_leaves_8 : decode cX0_leaves 8 = .ok (.iastore, 1) := dk_79 (dk_at dksX0_leaves_0 8 rfl rfl)
theorem dX0_leaves_9 : decode cX0_leaves 9 = .ok (.aload_n 0, 1) := dk_42 (dk_at dksX0_leaves_0 9 rfl rfl)
theorem dX0_leaves_10 : decode cX0_leaves 10 = .ok (.bipush 7, 2) := dk_16 7 (dk_at dksX0_leaves_0 10 rfl rfl)
theorem dX0_leaves_12 : decode cX0_leaves 12 = .ok (.iconst 0, 1) := dk_3 (dk_at dksX0_leaves_0 12 rfl rfl)
theorem dX0_leaves_13 : decode cX0_leaves 13 = .ok (.iastore, 1) := dk_79 (dk_at dksX0_leaves_0 13 rfl rfl)
theorem dX0_leaves_14 : decode cX0_leaves 14 = .ok (.aload_n 0, 1) := dk_42 (dk_at dksX0_leaves_0 14 rfl rfl)
theorem dX0_leaves_15 : decode cX0_leaves 15 = .ok (.bipush 8, 2) := dk_16 8 (dk_at dksX0_leaves_0 15 rfl rfl)
theorem dX0_leaves_17 : decode cX0_leaves 17 = .ok (.iconst 0, 1) := dk_3 (dk_at dksX0_leaves_0 17 rfl rfl)
theorem dX0_leaves_18 : decode cX0_leaves 18 = .ok (.iastore, 1) := dk_79 (dk_at dksX0_leaves_0 18 rfl rfl)
theorem dX0_leaves_19 : decode cX0_leaves 19 = .ok (.return_, 1) := dk_177 (dk_at dksX0_leaves_0 19 rfl rfl)
abbrev cX0_draw : ByteArray := prog_1_method_24_code
def yX0_draw : MethodName := ⟨RX0, "draw", "([I)I"⟩
def dkwX0_draw_0 : List UInt8 := [42, 7, 46, 16, 10, 112, 60, 42, 184, 0, 193, 27, 172]
abbrev dktX0_draw_0 : List UInt8 := dkwX0_draw_0 ++ []
theorem dksX0_draw_0 : cX0_draw.data.toList.drop 0 = dktX0_draw_0 := by decide +kernel
theorem dX0_draw_0 : decode cX0_draw 0 = .ok (.aload_n 0, 1) := dk_42 (dk_at dksX0_draw_0 0 rfl rfl)
theorem dX0_draw_1 : decode cX0_draw 1 = .ok (.iconst 4, 1) := dk_7 (dk_at dksX0_draw_0 1 rfl rfl)
theorem dX0_draw_2 : decode cX0_draw 2 = .ok (.iaload, 1) := dk_46 (dk_at dksX0_draw_0 2 rfl rfl)
theorem dX0_draw_3 : decode cX0_draw 3 = .ok (.bipush 10, 2) := dk_16 10 (dk_at dksX0_draw_0 3 rfl rfl)
theorem dX0_draw_5 : decode cX0_draw 5 = .ok (.irem, 1) := dk_112 (dk_at dksX0_draw_0 5 rfl rfl)
theorem dX0_draw_6 : decode cX0_draw 6 = .ok (.istore_n 1, 1) := dk_60 (dk_at dksX0_draw_0 6 rfl rfl)
theorem dX0_draw_7 : decode cX0_draw 7 = .ok (.aload_n 0, 1) := dk_42 (dk_at dksX0_draw_0 7 rfl rfl)
theorem dX0_draw_8 : decode cX0_draw 8 = .ok (.invokestatic 193, 3) := dk_184 0 193 (dk_at dksX0_draw_0 8 rfl rfl)
theorem dX0_draw_11 : decode cX0_draw 11 = .ok (.iload_n 1, 1) := dk_27 (dk_at dksX0_draw_0 11 rfl rfl)
theorem dX0_draw_12 : decode cX0_draw 12 = .ok (.ireturn, 1) := dk_172 (dk_at dksX0_draw_0 12 rfl rfl)
abbrev cX0_draws : ByteArray := prog_1_method_25_code
def yX0_draws : MethodName := ⟨RX0, "draws", "([I)V"⟩
def dkwX0_draws_0 : List UInt8 := [42, 7, 42, 7, 46, 17, 1, 75, 104, 17, 0, 223, 96, 17, 118, 181, 112, 79, 177]
abbrev dktX0_draws_0 : List UInt8 := dkwX0_draws_0 ++ []
theorem dksX0_draws_0 : cX0_draws.data.toList.drop 0 = dktX0_draws_0 := by decide +kernel
theorem dX0_draws_0 : decode cX0_draws 0 = .ok (.aload_n 0, 1) := dk_42 (dk_at dksX0_draws_0 0 rfl rfl)
theorem dX0_draws_1 : decode cX0_draws 1 = .ok (.iconst 4, 1) := dk_7 (dk_at dksX0_draws_0 1 rfl rfl)
theorem dX0_draws_2 : decode cX0_draws 2 = .ok (.aload_n 0, 1) := dk_42 (dk_at dksX0_draws_0 2 rfl rfl)
theorem dX0_draws_3 : decode cX0_draws 3 = .ok (.iconst 4, 1) := dk_7 (dk_at dksX0_draws_0 3 rfl rfl)
theorem dX0_draws_4 : decode cX0_draws 4 = .ok (.iaload, 1) := dk_46 (dk_at dksX0_draws_0 4 rfl rfl)
theorem dX0_draws_5 : decode cX0_draws 5 = .ok (.sipush 331, 3) := dk_17 1 75 (dk_at dksX0_draws_0 5 rfl rfl)
theorem dX0_draws_8 : decode cX0_draws 8 = .ok (.imul, 1) := dk_104 (dk_at dksX0_draws_0 8 rfl rfl)
theorem dX0_draws_9 : decode cX0_draws 9 = .ok (.sipush 223, 3) := dk_17 0 223 (dk_at dksX0_draws_0 9 rfl rfl)
theorem dX0_draws_12 : decode cX0_draws 12 = .ok (.iadd, 1) := dk_96 (dk_at dksX0_draws_0 12 rfl rfl)
theorem dX0_draws_13 : decode cX0_draws 13 = .ok (.sipush 30389, 3) := dk_17 118 181 (dk_at dksX0_draws_0 13 rfl rfl)
theorem dX0_draws_16 : decode cX0_draws 16 = .ok (.irem, 1) := dk_112 (dk_at dksX0_draws_0 16 rfl rfl)
theorem dX0_draws_17 : decode cX0_draws 17 = .ok (.iastore, 1) := dk_79 (dk_at dksX0_draws_0 17 rfl rfl)
theorem dX0_draws_18 : decode cX0_draws 18 = .ok (.return_, 1) := dk_177 (dk_at dksX0_draws_0 18 rfl rfl)
abbrev cX0_blows : ByteArray := prog_1_method_23_code
def yX0_blows : MethodName := ⟨RX0, "blows", "([II)V"⟩
def dkwX0_blows_8 : List UInt8 := [153, 0, 7, 4, 167, 0, 4, 3, 79, 177]
abbrev dktX0_blows_8 : List UInt8 := dkwX0_blows_8 ++ []
def dkwX0_blows_7 : List UInt8 := [3, 167, 0, 16, 45, 180, 0, 189, 42, 180, 0, 39, 185, 0, 128, 2, 0, 54, 5, 43, 5, 21, 5]
abbrev dktX0_blows_7 : List UInt8 := dkwX0_blows_7 ++ dktX0_blows_8
def dkwX0_blows_6 : List UInt8 := [199, 0, 28, 43, 4, 46, 5, 162, 0, 17, 43, 6, 46, 16, 10, 112, 6, 162, 0, 7, 4, 167, 0, 20]
abbrev dktX0_blows_6 : List UInt8 := dkwX0_blows_6 ++ dktX0_blows_7
def dkwX0_blows_5 : List UInt8 := [185, 0, 147, 2, 0, 3, 16, 9, 184, 0, 153, 79, 42, 43, 43, 3, 46, 182, 0, 112, 45, 180, 0, 189]
abbrev dktX0_blows_5 : List UInt8 := dkwX0_blows_5 ++ dktX0_blows_6
def dkwX0_blows_4 : List UInt8 := [43, 4, 45, 180, 0, 186, 199, 0, 7, 28, 167, 0, 22, 45, 180, 0, 186, 42, 180, 0, 39]
abbrev dktX0_blows_4 : List UInt8 := dkwX0_blows_4 ++ dktX0_blows_5
def dkwX0_blows_3 : List UInt8 := [184, 0, 153, 54, 4, 43, 3, 43, 3, 46, 21, 4, 96, 6, 126, 79, 42, 43, 43, 3, 46, 182, 0, 112]
abbrev dktX0_blows_3 : List UInt8 := dkwX0_blows_3 ++ dktX0_blows_4
def dkwX0_blows_2 : List UInt8 := [167, 0, 26, 3, 167, 0, 22, 45, 180, 0, 183, 42, 180, 0, 39, 185, 0, 147, 2, 0, 16, 253, 6]
abbrev dktX0_blows_2 : List UInt8 := dkwX0_blows_2 ++ dktX0_blows_3
def dkwX0_blows_1 : List UInt8 := [6, 28, 79, 45, 180, 0, 183, 199, 0, 24, 28, 154, 0, 7, 4, 167, 0, 35, 28, 4, 160, 0, 7, 2]
abbrev dktX0_blows_1 : List UInt8 := dkwX0_blows_1 ++ dktX0_blows_2
def dkwX0_blows_0 : List UInt8 := [42, 182, 0, 134, 78, 43, 6, 92, 46, 4, 96, 79, 42, 43, 43, 3, 46, 182, 0, 112, 42, 180, 0, 39]
abbrev dktX0_blows_0 : List UInt8 := dkwX0_blows_0 ++ dktX0_blows_1
theorem dksX0_blows_0 : cX0_blows.data.toList.drop 0 = dktX0_blows_0 := by decide +kernel
theorem dksX0_blows_1 : cX0_blows.data.toList.drop 24 = dktX0_blows_1 := dk_seg dksX0_blows_0 24 rfl rfl
theorem dksX0_blows_2 : cX0_blows.data.toList.drop 48 = dktX0_blows_2 := dk_seg dksX0_blows_1 24 rfl rfl
theorem dksX0_blows_3 : cX0_blows.data.toList.drop 71 = dktX0_blows_3 := dk_seg dksX0_blows_2 23 rfl rfl
theorem dksX0_blows_4 : cX0_blows.data.toList.drop 95 = dktX0_blows_4 := dk_seg dksX0_blows_3 24 rfl rfl
theorem dksX0_blows_5 : cX0_blows.data.toList.drop 116 = dktX0_blows_5 := dk_seg dksX0_blows_4 21 rfl rfl
theorem dksX0_blows_6 : cX0_blows.data.toList.drop 140 = dktX0_blows_6 := dk_seg dksX0_blows_5 24 rfl rfl
theorem dksX0_blows_7 : cX0_blows.data.toList.drop 164 = dktX0_blows_7 := dk_seg dksX0_blows_6 24 rfl rfl
theorem dksX0_blows_8 : cX0_blows.data.toList.drop 187 = dktX0_blows_8 := dk_seg dksX0_blows_7 23 rfl rfl
theorem dX0_blows_0 : decode cX0_blows 0 = .ok (.aload_n 0, 1) := dk_42 (dk_at dksX0_blows_0 0 rfl rfl)
theorem dX0_blows_1 : decode cX0_blows 1 = .ok (.invokevirtual 134, 3) := dk_182 0 134 (dk_at dksX0_blows_0 1 rfl rfl)
theorem dX0_blows_4 : decode cX0_blows 4 = .ok (.astore_n 3, 1) := dk_78 (dk_at dksX0_blows_0 4 rfl rfl)
theorem dX0_blows_5 : decode cX0_blows 5 = .ok (.aload_n 1, 1) := dk_43 (dk_at dksX0_blows_0 5 rfl rfl)
theorem dX0_blows_6 : decode cX0_blows 6 = .ok (.iconst 3, 1) := dk_6 (dk_at dksX0_blows_0 6 rfl rfl)
theorem dX0_blows_7 : decode cX0_blows 7 = .ok (.dup2, 1) := dk_92 (dk_at dksX0_blows_0 7 rfl rfl)
theorem dX0_blows_8 : decode cX0_blows 8 = .ok (.iaload, 1) := dk_46 (dk_at dksX0_blows_0 8 rfl rfl)
theorem dX0_blows_9 : decode cX0_blows 9 = .ok (.iconst 1, 1) := dk_4 (dk_at dksX0_blows_0 9 rfl rfl)
theorem dX0_blows_10 : decode cX0_blows 10 = .ok (.iadd, 1) := dk_96 (dk_at dksX0_blows_0 10 rfl rfl)
theorem dX0_blows_11 : decode cX0_blows 11 = .ok (.iastore, 1) := dk_79 (dk_at dksX0_blows_0 11 rfl rfl)
theorem dX0_blows_12 : decode cX0_blows 12 = .ok (.aload_n 0, 1) := dk_42 (dk_at dksX0_blows_0 12 rfl rfl)
theorem dX0_blows_13 : decode cX0_blows 13 = .ok (.aload_n 1, 1) := dk_43 (dk_at dksX0_blows_0 13 rfl rfl)
theorem dX0_blows_14 : decode cX0_blows 14 = .ok (.aload_n 1, 1) := dk_43 (dk_at dksX0_blows_0 14 rfl rfl)
theorem dX0_blows_15 : decode cX0_blows 15 = .ok (.iconst 0, 1) := dk_3 (dk_at dksX0_blows_0 15 rfl rfl)
theorem dX0_blows_16 : decode cX0_blows 16 = .ok (.iaload, 1) := dk_46 (dk_at dksX0_blows_0 16 rfl rfl)
theorem dX0_blows_17 : decode cX0_blows 17 = .ok (.invokevirtual 112, 3) := dk_182 0 112 (dk_at dksX0_blows_0 17 rfl rfl)
theorem dX0_blows_20 : decode cX0_blows 20 = .ok (.aload_n 0, 1) := dk_42 (dk_at dksX0_blows_0 20 rfl rfl)
theorem dX0_blows_21 : decode cX0_blows 21 = .ok (.getfield 39, 3) := dk_180 0 39 (dk_at dksX0_blows_0 21 rfl rfl)
theorem dX0_blows_24 : decode cX0_blows 24 = .ok (.iconst 3, 1) := dk_6 (dk_at dksX0_blows_1 0 rfl rfl)
theorem dX0_blows_25 : decode cX0_blows 25 = .ok (.iload_n 2, 1) := dk_28 (dk_at dksX0_blows_1 1 rfl rfl)
theorem dX0_blows_26 : decode cX0_blows 26 = .ok (.iastore, 1) := dk_79 (dk_at dksX0_blows_1 2 rfl rfl)
theorem dX0_blows_27 : decode cX0_blows 27 = .ok (.aload_n 3, 1) := dk_45 (dk_at dksX0_blows_1 3 rfl rfl)
theorem dX0_blows_28 : decode cX0_blows 28 = .ok (.getfield 183, 3) := dk_180 0 183 (dk_at dksX0_blows_1 4 rfl rfl)
theorem dX0_blows_31 : decode cX0_blows 31 = .ok (.ifnonnull 24, 3) := dk_199 0 24 (dk_at dksX0_blows_1 7 rfl rfl)
theorem dX0_blows_34 : decode cX0_blows 34 = .ok (.iload_n 2, 1) := dk_28 (dk_at dksX0_blows_1 10 rfl rfl)
theorem dX0_blows_35 : decode cX0_blows 35 = .ok (.ifCond .ne 7, 3) := dk_154 0 7 (dk_at dksX0_blows_1 11 rfl rfl)
theorem dX0_blows_38 : decode cX0_blows 38 = .ok (.iconst 1, 1) := dk_4 (dk_at dksX0_blows_1 14 rfl rfl)
theorem dX0_blows_39 : decode cX0_blows 39 = .ok (.goto 35, 3) := dk_167 0 35 (dk_at dksX0_blows_1 15 rfl rfl)
theorem dX0_blows_42 : decode cX0_blows 42 = .ok (.iload_n 2, 1) := dk_28 (dk_at dksX0_blows_1 18 rfl rfl)
theorem dX0_blows_43 : decode cX0_blows 43 = .ok (.iconst 1, 1) := dk_4 (dk_at dksX0_blows_1 19 rfl rfl)
theorem dX0_blows_44 : decode cX0_blows 44 = .ok (.if_icmp .ne 7, 3) := dk_160 0 7 (dk_at dksX0_blows_1 20 rfl rfl)
theorem dX0_blows_47 : decode cX0_blows 47 = .ok (.iconst (-1), 1) := dk_2 (dk_at dksX0_blows_1 23 rfl rfl)
theorem dX0_blows_48 : decode cX0_blows 48 = .ok (.goto 26, 3) := dk_167 0 26 (dk_at dksX0_blows_2 0 rfl rfl)
theorem dX0_blows_51 : decode cX0_blows 51 = .ok (.iconst 0, 1) := dk_3 (dk_at dksX0_blows_2 3 rfl rfl)
theorem dX0_blows_52 : decode cX0_blows 52 = .ok (.goto 22, 3) := dk_167 0 22 (dk_at dksX0_blows_2 4 rfl rfl)
theorem dX0_blows_55 : decode cX0_blows 55 = .ok (.aload_n 3, 1) := dk_45 (dk_at dksX0_blows_2 7 rfl rfl)
theorem dX0_blows_56 : decode cX0_blows 56 = .ok (.getfield 183, 3) := dk_180 0 183 (dk_at dksX0_blows_2 8 rfl rfl)
theorem dX0_blows_59 : decode cX0_blows 59 = .ok (.aload_n 0, 1) := dk_42 (dk_at dksX0_blows_2 11 rfl rfl)
theorem dX0_blows_60 : decode cX0_blows 60 = .ok (.getfield 39, 3) := dk_180 0 39 (dk_at dksX0_blows_2 12 rfl rfl)
theorem dX0_blows_63 : decode cX0_blows 63 = .ok (.invokeinterface 147 2, 5) := by decide +kernel
theorem dX0_blows_68 : decode cX0_blows 68 = .ok (.bipush (-3), 2) := dk_16 253 (dk_at dksX0_blows_2 20 rfl rfl)
theorem dX0_blows_70 : decode cX0_blows 70 = .ok (.iconst 3, 1) := dk_6 (dk_at dksX0_blows_2 22 rfl rfl)
theorem dX0_blows_71 : decode cX0_blows 71 = .ok (.invokestatic 153, 3) := dk_184 0 153 (dk_at dksX0_blows_3 0 rfl rfl)
theorem dX0_blows_74 : decode cX0_blows 74 = .ok (.istore 4, 2) := dk_54 4 (dk_at dksX0_blows_3 3 rfl rfl)
theorem dX0_blows_76 : decode cX0_blows 76 = .ok (.aload_n 1, 1) := dk_43 (dk_at dksX0_blows_3 5 rfl rfl)
theorem dX0_blows_77 : decode cX0_blows 77 = .ok (.iconst 0, 1) := dk_3 (dk_at dksX0_blows_3 6 rfl rfl)
theorem dX0_blows_78 : decode cX0_blows 78 = .ok (.aload_n 1, 1) := dk_43 (dk_at dksX0_blows_3 7 rfl rfl)
theorem dX0_blows_79 : decode cX0_blows 79 = .ok (.iconst 0, 1) := dk_3 (dk_at dksX0_blows_3 8 rfl rfl)
theorem dX0_blows_80 : decode cX0_blows 80 = .ok (.iaload, 1) := dk_46 (dk_at dksX0_blows_3 9 rfl rfl)
theorem dX0_blows_81 : decode cX0_blows 81 = .ok (.iload 4, 2) := dk_21 4 (dk_at dksX0_blows_3 10 rfl rfl)
theorem dX0_blows_83 : decode cX0_blows 83 = .ok (.iadd, 1) := dk_96 (dk_at dksX0_blows_3 12 rfl rfl)
theorem dX0_blows_84 : decode cX0_blows 84 = .ok (.iconst 3, 1) := dk_6 (dk_at dksX0_blows_3 13 rfl rfl)
theorem dX0_blows_85 : decode cX0_blows 85 = .ok (.iand, 1) := dk_126 (dk_at dksX0_blows_3 14 rfl rfl)
theorem dX0_blows_86 : decode cX0_blows 86 = .ok (.iastore, 1) := dk_79 (dk_at dksX0_blows_3 15 rfl rfl)
theorem dX0_blows_87 : decode cX0_blows 87 = .ok (.aload_n 0, 1) := dk_42 (dk_at dksX0_blows_3 16 rfl rfl)
theorem dX0_blows_88 : decode cX0_blows 88 = .ok (.aload_n 1, 1) := dk_43 (dk_at dksX0_blows_3 17 rfl rfl)
theorem dX0_blows_89 : decode cX0_blows 89 = .ok (.aload_n 1, 1) := dk_43 (dk_at dksX0_blows_3 18 rfl rfl)
theorem dX0_blows_90 : decode cX0_blows 90 = .ok (.iconst 0, 1) := dk_3 (dk_at dksX0_blows_3 19 rfl rfl)
theorem dX0_blows_91 : decode cX0_blows 91 = .ok (.iaload, 1) := dk_46 (dk_at dksX0_blows_3 20 rfl rfl)
theorem dX0_blows_92 : decode cX0_blows 92 = .ok (.invokevirtual 112, 3) := dk_182 0 112 (dk_at dksX0_blows_3 21 rfl rfl)
theorem dX0_blows_95 : decode cX0_blows 95 = .ok (.aload_n 1, 1) := dk_43 (dk_at dksX0_blows_4 0 rfl rfl)
theorem dX0_blows_96 : decode cX0_blows 96 = .ok (.iconst 1, 1) := dk_4 (dk_at dksX0_blows_4 1 rfl rfl)
theorem dX0_blows_97 : decode cX0_blows 97 = .ok (.aload_n 3, 1) := dk_45 (dk_at dksX0_blows_4 2 rfl rfl)
theorem dX0_blows_98 : decode cX0_blows 98 = .ok (.getfield 186, 3) := dk_180 0 186 (dk_at dksX0_blows_4 3 rfl rfl)
theorem dX0_blows_101 : decode cX0_blows 101 = .ok (.ifnonnull 7, 3) := dk_199 0 7 (dk_at dksX0_blows_4 6 rfl rfl)
theorem dX0_blows_104 : decode cX0_blows 104 = .ok (.iload_n 2, 1) := dk_28 (dk_at dksX0_blows_4 9 rfl rfl)
theorem dX0_blows_105 : decode cX0_blows 105 = .ok (.goto 22, 3) := dk_167 0 22 (dk_at dksX0_blows_4 10 rfl rfl)
theorem dX0_blows_108 : decode cX0_blows 108 = .ok (.aload_n 3, 1) := dk_45 (dk_at dksX0_blows_4 13 rfl rfl)
theorem dX0_blows_109 : decode cX0_blows 109 = .ok (.getfield 186, 3) := dk_180 0 186 (dk_at dksX0_blows_4 14 rfl rfl)
theorem dX0_blows_112 : decode cX0_blows 112 = .ok (.aload_n 0, 1) := dk_42 (dk_at dksX0_blows_4 17 rfl rfl)
theorem dX0_blows_113 : decode cX0_blows 113 = .ok (.getfield 39, 3) := dk_180 0 39 (dk_at dksX0_blows_4 18 rfl rfl)
theorem dX0_blows_116 : decode cX0_blows 116 = .ok (.invokeinterface 147 2, 5) := by decide +kernel
theorem dX0_blows_121 : decode cX0_blows 121 = .ok (.iconst 0, 1) := dk_3 (dk_at dksX0_blows_5 5 rfl rfl)
theorem dX0_blows_122 : decode cX0_blows 122 = .ok (.bipush 9, 2) := dk_16 9 (dk_at dksX0_blows_5 6 rfl rfl)
theorem dX0_blows_124 : decode cX0_blows 124 = .ok (.invokestatic 153, 3) := dk_184 0 153 (dk_at dksX0_blows_5 8 rfl rfl)
theorem dX0_blows_127 : decode cX0_blows 127 = .ok (.iastore, 1) := dk_79 (dk_at dksX0_blows_5 11 rfl rfl)
theorem dX0_blows_128 : decode cX0_blows 128 = .ok (.aload_n 0, 1) := dk_42 (dk_at dksX0_blows_5 12 rfl rfl)
theorem dX0_blows_129 : decode cX0_blows 129 = .ok (.aload_n 1, 1) := dk_43 (dk_at dksX0_blows_5 13 rfl rfl)
theorem dX0_blows_130 : decode cX0_blows 130 = .ok (.aload_n 1, 1) := dk_43 (dk_at dksX0_blows_5 14 rfl rfl)
theorem dX0_blows_131 : decode cX0_blows 131 = .ok (.iconst 0, 1) := dk_3 (dk_at dksX0_blows_5 15 rfl rfl)
theorem dX0_blows_132 : decode cX0_blows 132 = .ok (.iaload, 1) := dk_46 (dk_at dksX0_blows_5 16 rfl rfl)
theorem dX0_blows_133 : decode cX0_blows 133 = .ok (.invokevirtual 112, 3) := dk_182 0 112 (dk_at dksX0_blows_5 17 rfl rfl)
theorem dX0_blows_136 : decode cX0_blows 136 = .ok (.aload_n 3, 1) := dk_45 (dk_at dksX0_blows_5 20 rfl rfl)
theorem dX0_blows_137 : decode cX0_blows 137 = .ok (.getfield 189, 3) := dk_180 0 189 (dk_at dksX0_blows_5 21 rfl rfl)
theorem dX0_blows_140 : decode cX0_blows 140 = .ok (.ifnonnull 28, 3) := dk_199 0 28 (dk_at dksX0_blows_6 0 rfl rfl)
theorem dX0_blows_143 : decode cX0_blows 143 = .ok (.aload_n 1, 1) := dk_43 (dk_at dksX0_blows_6 3 rfl rfl)
theorem dX0_blows_144 : decode cX0_blows 144 = .ok (.iconst 1, 1) := dk_4 (dk_at dksX0_blows_6 4 rfl rfl)
theorem dX0_blows_145 : decode cX0_blows 145 = .ok (.iaload, 1) := dk_46 (dk_at dksX0_blows_6 5 rfl rfl)
theorem dX0_blows_146 : decode cX0_blows 146 = .ok (.iconst 2, 1) := dk_5 (dk_at dksX0_blows_6 6 rfl rfl)
theorem dX0_blows_147 : decode cX0_blows 147 = .ok (.if_icmp .ge 17, 3) := dk_162 0 17 (dk_at dksX0_blows_6 7 rfl rfl)
theorem dX0_blows_150 : decode cX0_blows 150 = .ok (.aload_n 1, 1) := dk_43 (dk_at dksX0_blows_6 10 rfl rfl)
theorem dX0_blows_151 : decode cX0_blows 151 = .ok (.iconst 3, 1) := dk_6 (dk_at dksX0_blows_6 11 rfl rfl)
theorem dX0_blows_152 : decode cX0_blows 152 = .ok (.iaload, 1) := dk_46 (dk_at dksX0_blows_6 12 rfl rfl)
theorem dX0_blows_153 : decode cX0_blows 153 = .ok (.bipush 10, 2) := dk_16 10 (dk_at dksX0_blows_6 13 rfl rfl)
theorem dX0_blows_155 : decode cX0_blows 155 = .ok (.irem, 1) := dk_112 (dk_at dksX0_blows_6 15 rfl rfl)
theorem dX0_blows_156 : decode cX0_blows 156 = .ok (.iconst 3, 1) := dk_6 (dk_at dksX0_blows_6 16 rfl rfl)
theorem dX0_blows_157 : decode cX0_blows 157 = .ok (.if_icmp .ge 7, 3) := dk_162 0 7 (dk_at dksX0_blows_6 17 rfl rfl)
theorem dX0_blows_160 : decode cX0_blows 160 = .ok (.iconst 1, 1) := dk_4 (dk_at dksX0_blows_6 20 rfl rfl)
theorem dX0_blows_161 : decode cX0_blows 161 = .ok (.goto 20, 3) := dk_167 0 20 (dk_at dksX0_blows_6 21 rfl rfl)
theorem dX0_blows_164 : decode cX0_blows 164 = .ok (.iconst 0, 1) := dk_3 (dk_at dksX0_blows_7 0 rfl rfl)
theorem dX0_blows_165 : decode cX0_blows 165 = .ok (.goto 16, 3) := dk_167 0 16 (dk_at dksX0_blows_7 1 rfl rfl)
theorem dX0_blows_168 : decode cX0_blows 168 = .ok (.aload_n 3, 1) := dk_45 (dk_at dksX0_blows_7 4 rfl rfl)
theorem dX0_blows_169 : decode cX0_blows 169 = .ok (.getfield 189, 3) := dk_180 0 189 (dk_at dksX0_blows_7 5 rfl rfl)
theorem dX0_blows_172 : decode cX0_blows 172 = .ok (.aload_n 0, 1) := dk_42 (dk_at dksX0_blows_7 8 rfl rfl)
theorem dX0_blows_173 : decode cX0_blows 173 = .ok (.getfield 39, 3) := dk_180 0 39 (dk_at dksX0_blows_7 9 rfl rfl)
theorem dX0_blows_176 : decode cX0_blows 176 = .ok (.invokeinterface 128 2, 5) := by decide +kernel
theorem dX0_blows_181 : decode cX0_blows 181 = .ok (.istore 5, 2) := dk_54 5 (dk_at dksX0_blows_7 17 rfl rfl)
theorem dX0_blows_183 : decode cX0_blows 183 = .ok (.aload_n 1, 1) := dk_43 (dk_at dksX0_blows_7 19 rfl rfl)
theorem dX0_blows_184 : decode cX0_blows 184 = .ok (.iconst 2, 1) := dk_5 (dk_at dksX0_blows_7 20 rfl rfl)
theorem dX0_blows_185 : decode cX0_blows 185 = .ok (.iload 5, 2) := dk_21 5 (dk_at dksX0_blows_7 21 rfl rfl)
theorem dX0_blows_187 : decode cX0_blows 187 = .ok (.ifCond .eq 7, 3) := dk_153 0 7 (dk_at dksX0_blows_8 0 rfl rfl)
theorem dX0_blows_190 : decode cX0_blows 190 = .ok (.iconst 1, 1) := dk_4 (dk_at dksX0_blows_8 3 rfl rfl)
theorem dX0_blows_191 : decode cX0_blows 191 = .ok (.goto 4, 3) := dk_167 0 4 (dk_at dksX0_blows_8 4 rfl rfl)
theorem dX0_blows_194 : decode cX0_blows 194 = .ok (.iconst 0, 1) := dk_3 (dk_at dksX0_blows_8 7 rfl rfl)
theorem dX0_blows_195 : decode cX0_blows 195 = .ok (.iastore, 1) := dk_79 (dk_at dksX0_blows_8 8 rfl rfl)
theorem dX0_blows_196 : decode cX0_blows 196 = .ok (.return_, 1) := dk_177 (dk_at dksX0_blows_8 9 rfl rfl)
abbrev cX0_call : ByteArray := prog_1_method_31_code
def yX0_call : MethodName := ⟨RX0, "call", "(I)Z"⟩
def dkwX0_call_1 : List UInt8 := [27, 184, 0, 223, 4, 172]
abbrev dktX0_call_1 : List UInt8 := dkwX0_call_1 ++ []
def dkwX0_call_0 : List UInt8 := [42, 27, 182, 0, 220, 154, 0, 5, 3, 172, 42, 180, 0, 21, 182, 0, 208, 42, 180, 0, 21, 180, 0, 205]
abbrev dktX0_call_0 : List UInt8 := dkwX0_call_0 ++ dktX0_call_1
theorem dksX0_call_0 : cX0_call.data.toList.drop 0 = dktX0_call_0 := by decide +kernel
theorem dksX0_call_1 : cX0_call.data.toList.drop 24 = dktX0_call_1 := dk_seg dksX0_call_0 24 rfl rfl
theorem dX0_call_0 : decode cX0_call 0 = .ok (.aload_n 0, 1) := dk_42 (dk_at dksX0_call_0 0 rfl rfl)
theorem dX0_call_1 : decode cX0_call 1 = .ok (.iload_n 1, 1) := dk_27 (dk_at dksX0_call_0 1 rfl rfl)
theorem dX0_call_2 : decode cX0_call 2 = .ok (.invokevirtual 220, 3) := dk_182 0 220 (dk_at dksX0_call_0 2 rfl rfl)
theorem dX0_call_5 : decode cX0_call 5 = .ok (.ifCond .ne 5, 3) := dk_154 0 5 (dk_at dksX0_call_0 5 rfl rfl)
theorem dX0_call_8 : decode cX0_call 8 = .ok (.iconst 0, 1) := dk_3 (dk_at dksX0_call_0 8 rfl rfl)
theorem dX0_call_9 : decode cX0_call 9 = .ok (.ireturn, 1) := dk_172 (dk_at dksX0_call_0 9 rfl rfl)
theorem dX0_call_10 : decode cX0_call 10 = .ok (.aload_n 0, 1) := dk_42 (dk_at dksX0_call_0 10 rfl rfl)
theorem dX0_call_11 : decode cX0_call 11 = .ok (.getfield 21, 3) := dk_180 0 21 (dk_at dksX0_call_0 11 rfl rfl)
theorem dX0_call_14 : decode cX0_call 14 = .ok (.invokevirtual 208, 3) := dk_182 0 208 (dk_at dksX0_call_0 14 rfl rfl)
theorem dX0_call_17 : decode cX0_call 17 = .ok (.aload_n 0, 1) := dk_42 (dk_at dksX0_call_0 17 rfl rfl)
theorem dX0_call_18 : decode cX0_call 18 = .ok (.getfield 21, 3) := dk_180 0 21 (dk_at dksX0_call_0 18 rfl rfl)
theorem dX0_call_21 : decode cX0_call 21 = .ok (.getfield 205, 3) := dk_180 0 205 (dk_at dksX0_call_0 21 rfl rfl)
theorem dX0_call_24 : decode cX0_call 24 = .ok (.iload_n 1, 1) := dk_27 (dk_at dksX0_call_1 0 rfl rfl)
theorem dX0_call_25 : decode cX0_call 25 = .ok (.invokestatic 223, 3) := dk_184 0 223 (dk_at dksX0_call_1 1 rfl rfl)
theorem dX0_call_28 : decode cX0_call 28 = .ok (.iconst 1, 1) := dk_4 (dk_at dksX0_call_1 4 rfl rfl)
theorem dX0_call_29 : decode cX0_call 29 = .ok (.ireturn, 1) := dk_172 (dk_at dksX0_call_1 5 rfl rfl)
abbrev cX0_canCall : ByteArray := prog_1_method_30_code
def yX0_canCall : MethodName := ⟨RX0, "canCall", "(I)Z"⟩
def dkwX0_canCall_1 : List UInt8 := [167, 0, 4, 3, 172]
abbrev dktX0_canCall_1 : List UInt8 := dkwX0_canCall_1 ++ []
def dkwX0_canCall_0 : List UInt8 := [42, 27, 182, 0, 217, 153, 0, 20, 42, 180, 0, 21, 180, 0, 205, 8, 46, 2, 160, 0, 7, 4]
abbrev dktX0_canCall_0 : List UInt8 := dkwX0_canCall_0 ++ dktX0_canCall_1
theorem dksX0_canCall_0 : cX0_canCall.data.toList.drop 0 = dktX0_canCall_0 := by decide +kernel
theorem dksX0_canCall_1 : cX0_canCall.data.toList.drop 22 = dktX0_canCall_1 := dk_seg dksX0_canCall_0 22 rfl rfl
theorem dX0_canCall_0 : decode cX0_canCall 0 = .ok (.aload_n 0, 1) := dk_42 (dk_at dksX0_canCall_0 0 rfl rfl)
theorem dX0_canCall_1 : decode cX0_canCall 1 = .ok (.iload_n 1, 1) := dk_27 (dk_at dksX0_canCall_0 1 rfl rfl)
theorem dX0_canCall_2 : decode cX0_canCall 2 = .ok (.invokevirtual 217, 3) := dk_182 0 217 (dk_at dksX0_canCall_0 2 rfl rfl)
theorem dX0_canCall_5 : decode cX0_canCall 5 = .ok (.ifCond .eq 20, 3) := dk_153 0 20 (dk_at dksX0_canCall_0 5 rfl rfl)
theorem dX0_canCall_8 : decode cX0_canCall 8 = .ok (.aload_n 0, 1) := dk_42 (dk_at dksX0_canCall_0 8 rfl rfl)
theorem dX0_canCall_9 : decode cX0_canCall 9 = .ok (.getfield 21, 3) := dk_180 0 21 (dk_at dksX0_canCall_0 9 rfl rfl)
theorem dX0_canCall_12 : decode cX0_canCall 12 = .ok (.getfield 205, 3) := dk_180 0 205 (dk_at dksX0_canCall_0 12 rfl rfl)
theorem dX0_canCall_15 : decode cX0_canCall 15 = .ok (.iconst 5, 1) := dk_8 (dk_at dksX0_canCall_0 15 rfl rfl)
theorem dX0_canCall_16 : decode cX0_canCall 16 = .ok (.iaload, 1) := dk_46 (dk_at dksX0_canCall_0 16 rfl rfl)
theorem dX0_canCall_17 : decode cX0_canCall 17 = .ok (.iconst (-1), 1) := dk_2 (dk_at dksX0_canCall_0 17 rfl rfl)
theorem dX0_canCall_18 : decode cX0_canCall 18 = .ok (.if_icmp .ne 7, 3) := dk_160 0 7 (dk_at dksX0_canCall_0 18 rfl rfl)
theorem dX0_canCall_21 : decode cX0_canCall 21 = .ok (.iconst 1, 1) := dk_4 (dk_at dksX0_canCall_0 21 rfl rfl)
theorem dX0_canCall_22 : decode cX0_canCall 22 = .ok (.goto 4, 3) := dk_167 0 4 (dk_at dksX0_canCall_1 0 rfl rfl)
theorem dX0_canCall_25 : decode cX0_canCall 25 = .ok (.iconst 0, 1) := dk_3 (dk_at dksX0_canCall_1 3 rfl rfl)
theorem dX0_canCall_26 : decode cX0_canCall 26 = .ok (.ireturn, 1) := dk_172 (dk_at dksX0_canCall_1 4 rfl rfl)
abbrev cX0_waits : ByteArray := prog_1_method_29_code
def yX0_waits : MethodName := ⟨RX0, "waits", "(I)Z"⟩
def dkwX0_waits_1 : List UInt8 := [167, 0, 4, 3, 172]
abbrev dktX0_waits_1 : List UInt8 := dkwX0_waits_1 ++ []
def dkwX0_waits_0 : List UInt8 := [42, 27, 182, 0, 214, 153, 0, 22, 42, 180, 0, 21, 180, 0, 205, 16, 9, 27, 96, 46, 154, 0, 7, 4]
abbrev dktX0_waits_0 : List UInt8 := dkwX0_waits_0 ++ dktX0_waits_1
theorem dksX0_waits_0 : cX0_waits.data.toList.drop 0 = dktX0_waits_0 := by decide +kernel
theorem dksX0_waits_1 : cX0_waits.data.toList.drop 24 = dktX0_waits_1 := dk_seg dksX0_waits_0 24 rfl rfl
theorem dX0_waits_0 : decode cX0_waits 0 = .ok (.aload_n 0, 1) := dk_42 (dk_at dksX0_waits_0 0 rfl rfl)
theorem dX0_waits_1 : decode cX0_waits 1 = .ok (.iload_n 1, 1) := dk_27 (dk_at dksX0_waits_0 1 rfl rfl)
theorem dX0_waits_2 : decode cX0_waits 2 = .ok (.invokevirtual 214, 3) := dk_182 0 214 (dk_at dksX0_waits_0 2 rfl rfl)
theorem dX0_waits_5 : decode cX0_waits 5 = .ok (.ifCond .eq 22, 3) := dk_153 0 22 (dk_at dksX0_waits_0 5 rfl rfl)
theorem dX0_waits_8 : decode cX0_waits 8 = .ok (.aload_n 0, 1) := dk_42 (dk_at dksX0_waits_0 8 rfl rfl)
theorem dX0_waits_9 : decode cX0_waits 9 = .ok (.getfield 21, 3) := dk_180 0 21 (dk_at dksX0_waits_0 9 rfl rfl)
theorem dX0_waits_12 : decode cX0_waits 12 = .ok (.getfield 205, 3) := dk_180 0 205 (dk_at dksX0_waits_0 12 rfl rfl)
theorem dX0_waits_15 : decode cX0_waits 15 = .ok (.bipush 9, 2) := dk_16 9 (dk_at dksX0_waits_0 15 rfl rfl)
theorem dX0_waits_17 : decode cX0_waits 17 = .ok (.iload_n 1, 1) := dk_27 (dk_at dksX0_waits_0 17 rfl rfl)
theorem dX0_waits_18 : decode cX0_waits 18 = .ok (.iadd, 1) := dk_96 (dk_at dksX0_waits_0 18 rfl rfl)
theorem dX0_waits_19 : decode cX0_waits 19 = .ok (.iaload, 1) := dk_46 (dk_at dksX0_waits_0 19 rfl rfl)
theorem dX0_waits_20 : decode cX0_waits 20 = .ok (.ifCond .ne 7, 3) := dk_154 0 7 (dk_at dksX0_waits_0 20 rfl rfl)
theorem dX0_waits_23 : decode cX0_waits 23 = .ok (.iconst 1, 1) := dk_4 (dk_at dksX0_waits_0 23 rfl rfl)
theorem dX0_waits_24 : decode cX0_waits 24 = .ok (.goto 4, 3) := dk_167 0 4 (dk_at dksX0_waits_1 0 rfl rfl)
theorem dX0_waits_27 : decode cX0_waits 27 = .ok (.iconst 0, 1) := dk_3 (dk_at dksX0_waits_1 3 rfl rfl)
theorem dX0_waits_28 : decode cX0_waits 28 = .ok (.ireturn, 1) := dk_172 (dk_at dksX0_waits_1 4 rfl rfl)
abbrev cX0_isCase : ByteArray := prog_1_method_5_code
def yX0_isCase : MethodName := ⟨RX0, "isCase", "(I)Z"⟩
def dkwX0_isCase_0 : List UInt8 := [27, 3, 42, 180, 0, 21, 180, 0, 64, 3, 46, 4, 100, 184, 0, 67, 172]
abbrev dktX0_isCase_0 : List UInt8 := dkwX0_isCase_0 ++ []
theorem dksX0_isCase_0 : cX0_isCase.data.toList.drop 0 = dktX0_isCase_0 := by decide +kernel
theorem dX0_isCase_0 : decode cX0_isCase 0 = .ok (.iload_n 1, 1) := dk_27 (dk_at dksX0_isCase_0 0 rfl rfl)
theorem dX0_isCase_1 : decode cX0_isCase 1 = .ok (.iconst 0, 1) := dk_3 (dk_at dksX0_isCase_0 1 rfl rfl)
theorem dX0_isCase_2 : decode cX0_isCase 2 = .ok (.aload_n 0, 1) := dk_42 (dk_at dksX0_isCase_0 2 rfl rfl)
theorem dX0_isCase_3 : decode cX0_isCase 3 = .ok (.getfield 21, 3) := dk_180 0 21 (dk_at dksX0_isCase_0 3 rfl rfl)
theorem dX0_isCase_6 : decode cX0_isCase 6 = .ok (.getfield 64, 3) := dk_180 0 64 (dk_at dksX0_isCase_0 6 rfl rfl)
theorem dX0_isCase_9 : decode cX0_isCase 9 = .ok (.iconst 0, 1) := dk_3 (dk_at dksX0_isCase_0 9 rfl rfl)
theorem dX0_isCase_10 : decode cX0_isCase 10 = .ok (.iaload, 1) := dk_46 (dk_at dksX0_isCase_0 10 rfl rfl)
theorem dX0_isCase_11 : decode cX0_isCase 11 = .ok (.iconst 1, 1) := dk_4 (dk_at dksX0_isCase_0 11 rfl rfl)
theorem dX0_isCase_12 : decode cX0_isCase 12 = .ok (.isub, 1) := dk_100 (dk_at dksX0_isCase_0 12 rfl rfl)
theorem dX0_isCase_13 : decode cX0_isCase 13 = .ok (.invokestatic 67, 3) := dk_184 0 67 (dk_at dksX0_isCase_0 13 rfl rfl)
theorem dX0_isCase_16 : decode cX0_isCase 16 = .ok (.ireturn, 1) := dk_172 (dk_at dksX0_isCase_0 16 rfl rfl)
abbrev cX0_calls : ByteArray := prog_1_method_28_code
def yX0_calls : MethodName := ⟨RX0, "calls", "([II)V"⟩
def dkwX0_calls_0 : List UInt8 := [42, 8, 27, 79, 42, 16, 9, 27, 96, 4, 79, 177]
abbrev dktX0_calls_0 : List UInt8 := dkwX0_calls_0 ++ []
theorem dksX0_calls_0 : cX0_calls.data.toList.drop 0 = dktX0_calls_0 := by decide +kernel
theorem dX0_calls_0 : decode cX0_calls 0 = .ok (.aload_n 0, 1) := dk_42 (dk_at dksX0_calls_0 0 rfl rfl)
theorem dX0_calls_1 : decode cX0_calls 1 = .ok (.iconst 5, 1) := dk_8 (dk_at dksX0_calls_0 1 rfl rfl)
theorem dX0_calls_2 : decode cX0_calls 2 = .ok (.iload_n 1, 1) := dk_27 (dk_at dksX0_calls_0 2 rfl rfl)
theorem dX0_calls_3 : decode cX0_calls 3 = .ok (.iastore, 1) := dk_79 (dk_at dksX0_calls_0 3 rfl rfl)
theorem dX0_calls_4 : decode cX0_calls 4 = .ok (.aload_n 0, 1) := dk_42 (dk_at dksX0_calls_0 4 rfl rfl)
theorem dX0_calls_5 : decode cX0_calls 5 = .ok (.bipush 9, 2) := dk_16 9 (dk_at dksX0_calls_0 5 rfl rfl)
theorem dX0_calls_7 : decode cX0_calls 7 = .ok (.iload_n 1, 1) := dk_27 (dk_at dksX0_calls_0 7 rfl rfl)
theorem dX0_calls_8 : decode cX0_calls 8 = .ok (.iadd, 1) := dk_96 (dk_at dksX0_calls_0 8 rfl rfl)
theorem dX0_calls_9 : decode cX0_calls 9 = .ok (.iconst 1, 1) := dk_4 (dk_at dksX0_calls_0 9 rfl rfl)
theorem dX0_calls_10 : decode cX0_calls 10 = .ok (.iastore, 1) := dk_79 (dk_at dksX0_calls_0 10 rfl rfl)
theorem dX0_calls_11 : decode cX0_calls 11 = .ok (.return_, 1) := dk_177 (dk_at dksX0_calls_0 11 rfl rfl)
abbrev cX0_delay : ByteArray := prog_1_method_33_code
def yX0_delay : MethodName := ⟨RX0, "delay", "()I"⟩
def dkwX0_delay_1 : List UInt8 := [16, 8, 92, 46, 4, 96, 79, 42, 180, 0, 21, 180, 0, 205, 16, 8, 46, 172]
abbrev dktX0_delay_1 : List UInt8 := dkwX0_delay_1 ++ []
def dkwX0_delay_0 : List UInt8 := [42, 182, 0, 226, 154, 0, 5, 2, 172, 42, 180, 0, 21, 182, 0, 208, 42, 180, 0, 21, 180, 0, 205]
abbrev dktX0_delay_0 : List UInt8 := dkwX0_delay_0 ++ dktX0_delay_1
theorem dksX0_delay_0 : cX0_delay.data.toList.drop 0 = dktX0_delay_0 := by decide +kernel
theorem dksX0_delay_1 : cX0_delay.data.toList.drop 23 = dktX0_delay_1 := dk_seg dksX0_delay_0 23 rfl rfl
theorem dX0_delay_0 : decode cX0_delay 0 = .ok (.aload_n 0, 1) := dk_42 (dk_at dksX0_delay_0 0 rfl rfl)
theorem dX0_delay_1 : decode cX0_delay 1 = .ok (.invokevirtual 226, 3) := dk_182 0 226 (dk_at dksX0_delay_0 1 rfl rfl)
theorem dX0_delay_4 : decode cX0_delay 4 = .ok (.ifCond .ne 5, 3) := dk_154 0 5 (dk_at dksX0_delay_0 4 rfl rfl)
theorem dX0_delay_7 : decode cX0_delay 7 = .ok (.iconst (-1), 1) := dk_2 (dk_at dksX0_delay_0 7 rfl rfl)
theorem dX0_delay_8 : decode cX0_delay 8 = .ok (.ireturn, 1) := dk_172 (dk_at dksX0_delay_0 8 rfl rfl)
theorem dX0_delay_9 : decode cX0_delay 9 = .ok (.aload_n 0, 1) := dk_42 (dk_at dksX0_delay_0 9 rfl rfl)
theorem dX0_delay_10 : decode cX0_delay 10 = .ok (.getfield 21, 3) := dk_180 0 21 (dk_at dksX0_delay_0 10 rfl rfl)
theorem dX0_delay_13 : decode cX0_delay 13 = .ok (.invokevirtual 208, 3) := dk_182 0 208 (dk_at dksX0_delay_0 13 rfl rfl)
theorem dX0_delay_16 : decode cX0_delay 16 = .ok (.aload_n 0, 1) := dk_42 (dk_at dksX0_delay_0 16 rfl rfl)
theorem dX0_delay_17 : decode cX0_delay 17 = .ok (.getfield 21, 3) := dk_180 0 21 (dk_at dksX0_delay_0 17 rfl rfl)
theorem dX0_delay_20 : decode cX0_delay 20 = .ok (.getfield 205, 3) := dk_180 0 205 (dk_at dksX0_delay_0 20 rfl rfl)
theorem dX0_delay_23 : decode cX0_delay 23 = .ok (.bipush 8, 2) := dk_16 8 (dk_at dksX0_delay_1 0 rfl rfl)
theorem dX0_delay_25 : decode cX0_delay 25 = .ok (.dup2, 1) := dk_92 (dk_at dksX0_delay_1 2 rfl rfl)
theorem dX0_delay_26 : decode cX0_delay 26 = .ok (.iaload, 1) := dk_46 (dk_at dksX0_delay_1 3 rfl rfl)
theorem dX0_delay_27 : decode cX0_delay 27 = .ok (.iconst 1, 1) := dk_4 (dk_at dksX0_delay_1 4 rfl rfl)
theorem dX0_delay_28 : decode cX0_delay 28 = .ok (.iadd, 1) := dk_96 (dk_at dksX0_delay_1 5 rfl rfl)
theorem dX0_delay_29 : decode cX0_delay 29 = .ok (.iastore, 1) := dk_79 (dk_at dksX0_delay_1 6 rfl rfl)
theorem dX0_delay_30 : decode cX0_delay 30 = .ok (.aload_n 0, 1) := dk_42 (dk_at dksX0_delay_1 7 rfl rfl)
theorem dX0_delay_31 : decode cX0_delay 31 = .ok (.getfield 21, 3) := dk_180 0 21 (dk_at dksX0_delay_1 8 rfl rfl)
theorem dX0_delay_34 : decode cX0_delay 34 = .ok (.getfield 205, 3) := dk_180 0 205 (dk_at dksX0_delay_1 11 rfl rfl)
theorem dX0_delay_37 : decode cX0_delay 37 = .ok (.bipush 8, 2) := dk_16 8 (dk_at dksX0_delay_1 14 rfl rfl)
theorem dX0_delay_39 : decode cX0_delay 39 = .ok (.iaload, 1) := dk_46 (dk_at dksX0_delay_1 16 rfl rfl)
theorem dX0_delay_40 : decode cX0_delay 40 = .ok (.ireturn, 1) := dk_172 (dk_at dksX0_delay_1 17 rfl rfl)
abbrev cX0_canDelay : ByteArray := prog_1_method_32_code
def yX0_canDelay : MethodName := ⟨RX0, "canDelay", "()Z"⟩
def dkwX0_canDelay_1 : List UInt8 := [162, 0, 7, 4, 167, 0, 4, 3, 172]
abbrev dktX0_canDelay_1 : List UInt8 := dkwX0_canDelay_1 ++ []
def dkwX0_canDelay_0 : List UInt8 := [42, 180, 0, 21, 180, 0, 205, 8, 46, 2, 159, 0, 21, 42, 180, 0, 21, 180, 0, 205, 16, 8, 46, 6]
abbrev dktX0_canDelay_0 : List UInt8 := dkwX0_canDelay_0 ++ dktX0_canDelay_1
theorem dksX0_canDelay_0 : cX0_canDelay.data.toList.drop 0 = dktX0_canDelay_0 := by decide +kernel
theorem dksX0_canDelay_1 : cX0_canDelay.data.toList.drop 24 = dktX0_canDelay_1 := dk_seg dksX0_canDelay_0 24 rfl rfl
theorem dX0_canDelay_0 : decode cX0_canDelay 0 = .ok (.aload_n 0, 1) := dk_42 (dk_at dksX0_canDelay_0 0 rfl rfl)
theorem dX0_canDelay_1 : decode cX0_canDelay 1 = .ok (.getfield 21, 3) := dk_180 0 21 (dk_at dksX0_canDelay_0 1 rfl rfl)
theorem dX0_canDelay_4 : decode cX0_canDelay 4 = .ok (.getfield 205, 3) := dk_180 0 205 (dk_at dksX0_canDelay_0 4 rfl rfl)
theorem dX0_canDelay_7 : decode cX0_canDelay 7 = .ok (.iconst 5, 1) := dk_8 (dk_at dksX0_canDelay_0 7 rfl rfl)
theorem dX0_canDelay_8 : decode cX0_canDelay 8 = .ok (.iaload, 1) := dk_46 (dk_at dksX0_canDelay_0 8 rfl rfl)
theorem dX0_canDelay_9 : decode cX0_canDelay 9 = .ok (.iconst (-1), 1) := dk_2 (dk_at dksX0_canDelay_0 9 rfl rfl)
theorem dX0_canDelay_10 : decode cX0_canDelay 10 = .ok (.if_icmp .eq 21, 3) := dk_159 0 21 (dk_at dksX0_canDelay_0 10 rfl rfl)
theorem dX0_canDelay_13 : decode cX0_canDelay 13 = .ok (.aload_n 0, 1) := dk_42 (dk_at dksX0_canDelay_0 13 rfl rfl)
theorem dX0_canDelay_14 : decode cX0_canDelay 14 = .ok (.getfield 21, 3) := dk_180 0 21 (dk_at dksX0_canDelay_0 14 rfl rfl)
theorem dX0_canDelay_17 : decode cX0_canDelay 17 = .ok (.getfield 205, 3) := dk_180 0 205 (dk_at dksX0_canDelay_0 17 rfl rfl)
theorem dX0_canDelay_20 : decode cX0_canDelay 20 = .ok (.bipush 8, 2) := dk_16 8 (dk_at dksX0_canDelay_0 20 rfl rfl)
theorem dX0_canDelay_22 : decode cX0_canDelay 22 = .ok (.iaload, 1) := dk_46 (dk_at dksX0_canDelay_0 22 rfl rfl)
theorem dX0_canDelay_23 : decode cX0_canDelay 23 = .ok (.iconst 3, 1) := dk_6 (dk_at dksX0_canDelay_0 23 rfl rfl)
theorem dX0_canDelay_24 : decode cX0_canDelay 24 = .ok (.if_icmp .ge 7, 3) := dk_162 0 7 (dk_at dksX0_canDelay_1 0 rfl rfl)
theorem dX0_canDelay_27 : decode cX0_canDelay 27 = .ok (.iconst 1, 1) := dk_4 (dk_at dksX0_canDelay_1 3 rfl rfl)
theorem dX0_canDelay_28 : decode cX0_canDelay 28 = .ok (.goto 4, 3) := dk_167 0 4 (dk_at dksX0_canDelay_1 4 rfl rfl)
theorem dX0_canDelay_31 : decode cX0_canDelay 31 = .ok (.iconst 0, 1) := dk_3 (dk_at dksX0_canDelay_1 7 rfl rfl)
theorem dX0_canDelay_32 : decode cX0_canDelay 32 = .ok (.ireturn, 1) := dk_172 (dk_at dksX0_canDelay_1 8 rfl rfl)
abbrev cX0_appeal : ByteArray := prog_1_method_36_code
def yX0_appeal : MethodName := ⟨RX0, "appeal", "(I)Z"⟩
def dkwX0_appeal_0 : List UInt8 := [42, 27, 182, 0, 230, 154, 0, 5, 3, 172, 42, 180, 0, 21, 182, 0, 208, 42, 27, 182, 0, 233, 4, 172]
abbrev dktX0_appeal_0 : List UInt8 := dkwX0_appeal_0 ++ []
theorem dksX0_appeal_0 : cX0_appeal.data.toList.drop 0 = dktX0_appeal_0 := by decide +kernel
theorem dX0_appeal_0 : decode cX0_appeal 0 = .ok (.aload_n 0, 1) := dk_42 (dk_at dksX0_appeal_0 0 rfl rfl)
theorem dX0_appeal_1 : decode cX0_appeal 1 = .ok (.iload_n 1, 1) := dk_27 (dk_at dksX0_appeal_0 1 rfl rfl)
theorem dX0_appeal_2 : decode cX0_appeal 2 = .ok (.invokevirtual 230, 3) := dk_182 0 230 (dk_at dksX0_appeal_0 2 rfl rfl)
theorem dX0_appeal_5 : decode cX0_appeal 5 = .ok (.ifCond .ne 5, 3) := dk_154 0 5 (dk_at dksX0_appeal_0 5 rfl rfl)
theorem dX0_appeal_8 : decode cX0_appeal 8 = .ok (.iconst 0, 1) := dk_3 (dk_at dksX0_appeal_0 8 rfl rfl)
theorem dX0_appeal_9 : decode cX0_appeal 9 = .ok (.ireturn, 1) := dk_172 (dk_at dksX0_appeal_0 9 rfl rfl)
theorem dX0_appeal_10 : decode cX0_appeal 10 = .ok (.aload_n 0, 1) := dk_42 (dk_at dksX0_appeal_0 10 rfl rfl)
theorem dX0_appeal_11 : decode cX0_appeal 11 = .ok (.getfield 21, 3) := dk_180 0 21 (dk_at dksX0_appeal_0 11 rfl rfl)
theorem dX0_appeal_14 : decode cX0_appeal 14 = .ok (.invokevirtual 208, 3) := dk_182 0 208 (dk_at dksX0_appeal_0 14 rfl rfl)
theorem dX0_appeal_17 : decode cX0_appeal 17 = .ok (.aload_n 0, 1) := dk_42 (dk_at dksX0_appeal_0 17 rfl rfl)
theorem dX0_appeal_18 : decode cX0_appeal 18 = .ok (.iload_n 1, 1) := dk_27 (dk_at dksX0_appeal_0 18 rfl rfl)
theorem dX0_appeal_19 : decode cX0_appeal 19 = .ok (.invokevirtual 233, 3) := dk_182 0 233 (dk_at dksX0_appeal_0 19 rfl rfl)
theorem dX0_appeal_22 : decode cX0_appeal 22 = .ok (.iconst 1, 1) := dk_4 (dk_at dksX0_appeal_0 22 rfl rfl)
theorem dX0_appeal_23 : decode cX0_appeal 23 = .ok (.ireturn, 1) := dk_172 (dk_at dksX0_appeal_0 23 rfl rfl)
abbrev cX0_canAppeal : ByteArray := prog_1_method_34_code
def yX0_canAppeal : MethodName := ⟨RX0, "canAppeal", "(I)Z"⟩
def dkwX0_canAppeal_1 : List UInt8 := [42, 180, 0, 21, 180, 0, 205, 16, 25, 27, 96, 46, 154, 0, 7, 4, 167, 0, 4, 3, 172]
abbrev dktX0_canAppeal_1 : List UInt8 := dkwX0_canAppeal_1 ++ []
def dkwX0_canAppeal_0 : List UInt8 := [42, 27, 182, 0, 214, 153, 0, 38, 42, 180, 0, 21, 180, 0, 205, 16, 9, 27, 96, 46, 6, 160, 0, 22]
abbrev dktX0_canAppeal_0 : List UInt8 := dkwX0_canAppeal_0 ++ dktX0_canAppeal_1
theorem dksX0_canAppeal_0 : cX0_canAppeal.data.toList.drop 0 = dktX0_canAppeal_0 := by decide +kernel
theorem dksX0_canAppeal_1 : cX0_canAppeal.data.toList.drop 24 = dktX0_canAppeal_1 := dk_seg dksX0_canAppeal_0 24 rfl rfl
theorem dX0_canAppeal_0 : decode cX0_canAppeal 0 = .ok (.aload_n 0, 1) := dk_42 (dk_at dksX0_canAppeal_0 0 rfl rfl)
theorem dX0_canAppeal_1 : decode cX0_canAppeal 1 = .ok (.iload_n 1, 1) := dk_27 (dk_at dksX0_canAppeal_0 1 rfl rfl)
theorem dX0_canAppeal_2 : decode cX0_canAppeal 2 = .ok (.invokevirtual 214, 3) := dk_182 0 214 (dk_at dksX0_canAppeal_0 2 rfl rfl)
theorem dX0_canAppeal_5 : decode cX0_canAppeal 5 = .ok (.ifCond .eq 38, 3) := dk_153 0 38 (dk_at dksX0_canAppeal_0 5 rfl rfl)
theorem dX0_canAppeal_8 : decode cX0_canAppeal 8 = .ok (.aload_n 0, 1) := dk_42 (dk_at dksX0_canAppeal_0 8 rfl rfl)
theorem dX0_canAppeal_9 : decode cX0_canAppeal 9 = .ok (.getfield 21, 3) := dk_180 0 21 (dk_at dksX0_canAppeal_0 9 rfl rfl)
theorem dX0_canAppeal_12 : decode cX0_canAppeal 12 = .ok (.getfield 205, 3) := dk_180 0 205 (dk_at dksX0_canAppeal_0 12 rfl rfl)
theorem dX0_canAppeal_15 : decode cX0_canAppeal 15 = .ok (.bipush 9, 2) := dk_16 9 (dk_at dksX0_canAppeal_0 15 rfl rfl)
theorem dX0_canAppeal_17 : decode cX0_canAppeal 17 = .ok (.iload_n 1, 1) := dk_27 (dk_at dksX0_canAppeal_0 17 rfl rfl)
theorem dX0_canAppeal_18 : decode cX0_canAppeal 18 = .ok (.iadd, 1) := dk_96 (dk_at dksX0_canAppeal_0 18 rfl rfl)
theorem dX0_canAppeal_19 : decode cX0_canAppeal 19 = .ok (.iaload, 1) := dk_46 (dk_at dksX0_canAppeal_0 19 rfl rfl)
theorem dX0_canAppeal_20 : decode cX0_canAppeal 20 = .ok (.iconst 3, 1) := dk_6 (dk_at dksX0_canAppeal_0 20 rfl rfl)
theorem dX0_canAppeal_21 : decode cX0_canAppeal 21 = .ok (.if_icmp .ne 22, 3) := dk_160 0 22 (dk_at dksX0_canAppeal_0 21 rfl rfl)
theorem dX0_canAppeal_24 : decode cX0_canAppeal 24 = .ok (.aload_n 0, 1) := dk_42 (dk_at dksX0_canAppeal_1 0 rfl rfl)
theorem dX0_canAppeal_25 : decode cX0_canAppeal 25 = .ok (.getfield 21, 3) := dk_180 0 21 (dk_at dksX0_canAppeal_1 1 rfl rfl)
theorem dX0_canAppeal_28 : decode cX0_canAppeal 28 = .ok (.getfield 205, 3) := dk_180 0 205 (dk_at dksX0_canAppeal_1 4 rfl rfl)
theorem dX0_canAppeal_31 : decode cX0_canAppeal 31 = .ok (.bipush 25, 2) := dk_16 25 (dk_at dksX0_canAppeal_1 7 rfl rfl)
theorem dX0_canAppeal_33 : decode cX0_canAppeal 33 = .ok (.iload_n 1, 1) := dk_27 (dk_at dksX0_canAppeal_1 9 rfl rfl)
theorem dX0_canAppeal_34 : decode cX0_canAppeal 34 = .ok (.iadd, 1) := dk_96 (dk_at dksX0_canAppeal_1 10 rfl rfl)
theorem dX0_canAppeal_35 : decode cX0_canAppeal 35 = .ok (.iaload, 1) := dk_46 (dk_at dksX0_canAppeal_1 11 rfl rfl)
theorem dX0_canAppeal_36 : decode cX0_canAppeal 36 = .ok (.ifCond .ne 7, 3) := dk_154 0 7 (dk_at dksX0_canAppeal_1 12 rfl rfl)
theorem dX0_canAppeal_39 : decode cX0_canAppeal 39 = .ok (.iconst 1, 1) := dk_4 (dk_at dksX0_canAppeal_1 15 rfl rfl)
theorem dX0_canAppeal_40 : decode cX0_canAppeal 40 = .ok (.goto 4, 3) := dk_167 0 4 (dk_at dksX0_canAppeal_1 16 rfl rfl)
theorem dX0_canAppeal_43 : decode cX0_canAppeal 43 = .ok (.iconst 0, 1) := dk_3 (dk_at dksX0_canAppeal_1 19 rfl rfl)
theorem dX0_canAppeal_44 : decode cX0_canAppeal 44 = .ok (.ireturn, 1) := dk_172 (dk_at dksX0_canAppeal_1 20 rfl rfl)
abbrev cX0_appeals : ByteArray := prog_1_method_35_code
def yX0_appeals : MethodName := ⟨RX0, "appeals", "(I)V"⟩
def dkwX0_appeals_1 : List UInt8 := [3, 79, 42, 180, 0, 21, 180, 0, 205, 16, 25, 27, 96, 4, 79, 177]
abbrev dktX0_appeals_1 : List UInt8 := dkwX0_appeals_1 ++ []
def dkwX0_appeals_0 : List UInt8 := [42, 180, 0, 21, 180, 0, 205, 16, 9, 27, 96, 3, 79, 42, 180, 0, 21, 180, 0, 205, 16, 17, 27, 96]
abbrev dktX0_appeals_0 : List UInt8 := dkwX0_appeals_0 ++ dktX0_appeals_1
theorem dksX0_appeals_0 : cX0_appeals.data.toList.drop 0 = dktX0_appeals_0 := by decide +kernel
theorem dksX0_appeals_1 : cX0_appeals.data.toList.drop 24 = dktX0_appeals_1 := dk_seg dksX0_appeals_0 24 rfl rfl
theorem dX0_appeals_0 : decode cX0_appeals 0 = .ok (.aload_n 0, 1) := dk_42 (dk_at dksX0_appeals_0 0 rfl rfl)
theorem dX0_appeals_1 : decode cX0_appeals 1 = .ok (.getfield 21, 3) := dk_180 0 21 (dk_at dksX0_appeals_0 1 rfl rfl)
theorem dX0_appeals_4 : decode cX0_appeals 4 = .ok (.getfield 205, 3) := dk_180 0 205 (dk_at dksX0_appeals_0 4 rfl rfl)
theorem dX0_appeals_7 : decode cX0_appeals 7 = .ok (.bipush 9, 2) := dk_16 9 (dk_at dksX0_appeals_0 7 rfl rfl)
theorem dX0_appeals_9 : decode cX0_appeals 9 = .ok (.iload_n 1, 1) := dk_27 (dk_at dksX0_appeals_0 9 rfl rfl)
theorem dX0_appeals_10 : decode cX0_appeals 10 = .ok (.iadd, 1) := dk_96 (dk_at dksX0_appeals_0 10 rfl rfl)
theorem dX0_appeals_11 : decode cX0_appeals 11 = .ok (.iconst 0, 1) := dk_3 (dk_at dksX0_appeals_0 11 rfl rfl)
theorem dX0_appeals_12 : decode cX0_appeals 12 = .ok (.iastore, 1) := dk_79 (dk_at dksX0_appeals_0 12 rfl rfl)
theorem dX0_appeals_13 : decode cX0_appeals 13 = .ok (.aload_n 0, 1) := dk_42 (dk_at dksX0_appeals_0 13 rfl rfl)
theorem dX0_appeals_14 : decode cX0_appeals 14 = .ok (.getfield 21, 3) := dk_180 0 21 (dk_at dksX0_appeals_0 14 rfl rfl)
theorem dX0_appeals_17 : decode cX0_appeals 17 = .ok (.getfield 205, 3) := dk_180 0 205 (dk_at dksX0_appeals_0 17 rfl rfl)
theorem dX0_appeals_20 : decode cX0_appeals 20 = .ok (.bipush 17, 2) := dk_16 17 (dk_at dksX0_appeals_0 20 rfl rfl)
theorem dX0_appeals_22 : decode cX0_appeals 22 = .ok (.iload_n 1, 1) := dk_27 (dk_at dksX0_appeals_0 22 rfl rfl)
theorem dX0_appeals_23 : decode cX0_appeals 23 = .ok (.iadd, 1) := dk_96 (dk_at dksX0_appeals_0 23 rfl rfl)
theorem dX0_appeals_24 : decode cX0_appeals 24 = .ok (.iconst 0, 1) := dk_3 (dk_at dksX0_appeals_1 0 rfl rfl)
theorem dX0_appeals_25 : decode cX0_appeals 25 = .ok (.iastore, 1) := dk_79 (dk_at dksX0_appeals_1 1 rfl rfl)
theorem dX0_appeals_26 : decode cX0_appeals 26 = .ok (.aload_n 0, 1) := dk_42 (dk_at dksX0_appeals_1 2 rfl rfl)
theorem dX0_appeals_27 : decode cX0_appeals 27 = .ok (.getfield 21, 3) := dk_180 0 21 (dk_at dksX0_appeals_1 3 rfl rfl)
theorem dX0_appeals_30 : decode cX0_appeals 30 = .ok (.getfield 205, 3) := dk_180 0 205 (dk_at dksX0_appeals_1 6 rfl rfl)
theorem dX0_appeals_33 : decode cX0_appeals 33 = .ok (.bipush 25, 2) := dk_16 25 (dk_at dksX0_appeals_1 9 rfl rfl)
theorem dX0_appeals_35 : decode cX0_appeals 35 = .ok (.iload_n 1, 1) := dk_27 (dk_at dksX0_appeals_1 11 rfl rfl)
theorem dX0_appeals_36 : decode cX0_appeals 36 = .ok (.iadd, 1) := dk_96 (dk_at dksX0_appeals_1 12 rfl rfl)
theorem dX0_appeals_37 : decode cX0_appeals 37 = .ok (.iconst 1, 1) := dk_4 (dk_at dksX0_appeals_1 13 rfl rfl)
theorem dX0_appeals_38 : decode cX0_appeals 38 = .ok (.iastore, 1) := dk_79 (dk_at dksX0_appeals_1 14 rfl rfl)
theorem dX0_appeals_39 : decode cX0_appeals 39 = .ok (.return_, 1) := dk_177 (dk_at dksX0_appeals_1 15 rfl rfl)
abbrev cX0_gust : ByteArray := prog_1_method_37_code
def yX0_gust : MethodName := ⟨RX0, "gust", "(II)Z"⟩
def dkwX0_gust_3 : List UInt8 := [4, 28, 79, 4, 172]
abbrev dktX0_gust_3 : List UInt8 := dkwX0_gust_3 ++ []
def dkwX0_gust_2 : List UInt8 := [42, 180, 0, 21, 182, 0, 208, 42, 180, 0, 21, 180, 0, 205, 3, 27, 79, 42, 180, 0, 21, 180, 0, 205]
abbrev dktX0_gust_2 : List UInt8 := dkwX0_gust_2 ++ dktX0_gust_3
def dkwX0_gust_1 : List UInt8 := [180, 0, 205, 3, 46, 27, 160, 0, 18, 42, 180, 0, 21, 180, 0, 205, 4, 46, 28, 160, 0, 5, 3, 172]
abbrev dktX0_gust_1 : List UInt8 := dkwX0_gust_1 ++ dktX0_gust_2
def dkwX0_gust_0 : List UInt8 := [27, 3, 6, 184, 0, 67, 153, 0, 39, 28, 3, 16, 9, 184, 0, 67, 153, 0, 29, 42, 180, 0, 21]
abbrev dktX0_gust_0 : List UInt8 := dkwX0_gust_0 ++ dktX0_gust_1
theorem dksX0_gust_0 : cX0_gust.data.toList.drop 0 = dktX0_gust_0 := by decide +kernel
theorem dksX0_gust_1 : cX0_gust.data.toList.drop 23 = dktX0_gust_1 := dk_seg dksX0_gust_0 23 rfl rfl
theorem dksX0_gust_2 : cX0_gust.data.toList.drop 47 = dktX0_gust_2 := dk_seg dksX0_gust_1 24 rfl rfl
theorem dksX0_gust_3 : cX0_gust.data.toList.drop 71 = dktX0_gust_3 := dk_seg dksX0_gust_2 24 rfl rfl
theorem dX0_gust_0 : decode cX0_gust 0 = .ok (.iload_n 1, 1) := dk_27 (dk_at dksX0_gust_0 0 rfl rfl)
theorem dX0_gust_1 : decode cX0_gust 1 = .ok (.iconst 0, 1) := dk_3 (dk_at dksX0_gust_0 1 rfl rfl)
theorem dX0_gust_2 : decode cX0_gust 2 = .ok (.iconst 3, 1) := dk_6 (dk_at dksX0_gust_0 2 rfl rfl)
theorem dX0_gust_3 : decode cX0_gust 3 = .ok (.invokestatic 67, 3) := dk_184 0 67 (dk_at dksX0_gust_0 3 rfl rfl)
theorem dX0_gust_6 : decode cX0_gust 6 = .ok (.ifCond .eq 39, 3) := dk_153 0 39 (dk_at dksX0_gust_0 6 rfl rfl)
theorem dX0_gust_9 : decode cX0_gust 9 = .ok (.iload_n 2, 1) := dk_28 (dk_at dksX0_gust_0 9 rfl rfl)
theorem dX0_gust_10 : decode cX0_gust 10 = .ok (.iconst 0, 1) := dk_3 (dk_at dksX0_gust_0 10 rfl rfl)
theorem dX0_gust_11 : decode cX0_gust 11 = .ok (.bipush 9, 2) := dk_16 9 (dk_at dksX0_gust_0 11 rfl rfl)
theorem dX0_gust_13 : decode cX0_gust 13 = .ok (.invokestatic 67, 3) := dk_184 0 67 (dk_at dksX0_gust_0 13 rfl rfl)
theorem dX0_gust_16 : decode cX0_gust 16 = .ok (.ifCond .eq 29, 3) := dk_153 0 29 (dk_at dksX0_gust_0 16 rfl rfl)
theorem dX0_gust_19 : decode cX0_gust 19 = .ok (.aload_n 0, 1) := dk_42 (dk_at dksX0_gust_0 19 rfl rfl)
theorem dX0_gust_20 : decode cX0_gust 20 = .ok (.getfield 21, 3) := dk_180 0 21 (dk_at dksX0_gust_0 20 rfl rfl)
theorem dX0_gust_23 : decode cX0_gust 23 = .ok (.getfield 205, 3) := dk_180 0 205 (dk_at dksX0_gust_1 0 rfl rfl)
theorem dX0_gust_26 : decode cX0_gust 26 = .ok (.iconst 0, 1) := dk_3 (dk_at dksX0_gust_1 3 rfl rfl)
theorem dX0_gust_27 : decode cX0_gust 27 = .ok (.iaload, 1) := dk_46 (dk_at dksX0_gust_1 4 rfl rfl)
theorem dX0_gust_28 : decode cX0_gust 28 = .ok (.iload_n 1, 1) := dk_27 (dk_at dksX0_gust_1 5 rfl rfl)
theorem dX0_gust_29 : decode cX0_gust 29 = .ok (.if_icmp .ne 18, 3) := dk_160 0 18 (dk_at dksX0_gust_1 6 rfl rfl)
theorem dX0_gust_32 : decode cX0_gust 32 = .ok (.aload_n 0, 1) := dk_42 (dk_at dksX0_gust_1 9 rfl rfl)
theorem dX0_gust_33 : decode cX0_gust 33 = .ok (.getfield 21, 3) := dk_180 0 21 (dk_at dksX0_gust_1 10 rfl rfl)
theorem dX0_gust_36 : decode cX0_gust 36 = .ok (.getfield 205, 3) := dk_180 0 205 (dk_at dksX0_gust_1 13 rfl rfl)
theorem dX0_gust_39 : decode cX0_gust 39 = .ok (.iconst 1, 1) := dk_4 (dk_at dksX0_gust_1 16 rfl rfl)
theorem dX0_gust_40 : decode cX0_gust 40 = .ok (.iaload, 1) := dk_46 (dk_at dksX0_gust_1 17 rfl rfl)
theorem dX0_gust_41 : decode cX0_gust 41 = .ok (.iload_n 2, 1) := dk_28 (dk_at dksX0_gust_1 18 rfl rfl)
theorem dX0_gust_42 : decode cX0_gust 42 = .ok (.if_icmp .ne 5, 3) := dk_160 0 5 (dk_at dksX0_gust_1 19 rfl rfl)
theorem dX0_gust_45 : decode cX0_gust 45 = .ok (.iconst 0, 1) := dk_3 (dk_at dksX0_gust_1 22 rfl rfl)
theorem dX0_gust_46 : decode cX0_gust 46 = .ok (.ireturn, 1) := dk_172 (dk_at dksX0_gust_1 23 rfl rfl)
theorem dX0_gust_47 : decode cX0_gust 47 = .ok (.aload_n 0, 1) := dk_42 (dk_at dksX0_gust_2 0 rfl rfl)
theorem dX0_gust_48 : decode cX0_gust 48 = .ok (.getfield 21, 3) := dk_180 0 21 (dk_at dksX0_gust_2 1 rfl rfl)
theorem dX0_gust_51 : decode cX0_gust 51 = .ok (.invokevirtual 208, 3) := dk_182 0 208 (dk_at dksX0_gust_2 4 rfl rfl)
theorem dX0_gust_54 : decode cX0_gust 54 = .ok (.aload_n 0, 1) := dk_42 (dk_at dksX0_gust_2 7 rfl rfl)
theorem dX0_gust_55 : decode cX0_gust 55 = .ok (.getfield 21, 3) := dk_180 0 21 (dk_at dksX0_gust_2 8 rfl rfl)
theorem dX0_gust_58 : decode cX0_gust 58 = .ok (.getfield 205, 3) := dk_180 0 205 (dk_at dksX0_gust_2 11 rfl rfl)
theorem dX0_gust_61 : decode cX0_gust 61 = .ok (.iconst 0, 1) := dk_3 (dk_at dksX0_gust_2 14 rfl rfl)
theorem dX0_gust_62 : decode cX0_gust 62 = .ok (.iload_n 1, 1) := dk_27 (dk_at dksX0_gust_2 15 rfl rfl)
theorem dX0_gust_63 : decode cX0_gust 63 = .ok (.iastore, 1) := dk_79 (dk_at dksX0_gust_2 16 rfl rfl)
theorem dX0_gust_64 : decode cX0_gust 64 = .ok (.aload_n 0, 1) := dk_42 (dk_at dksX0_gust_2 17 rfl rfl)
theorem dX0_gust_65 : decode cX0_gust 65 = .ok (.getfield 21, 3) := dk_180 0 21 (dk_at dksX0_gust_2 18 rfl rfl)
theorem dX0_gust_68 : decode cX0_gust 68 = .ok (.getfield 205, 3) := dk_180 0 205 (dk_at dksX0_gust_2 21 rfl rfl)
theorem dX0_gust_71 : decode cX0_gust 71 = .ok (.iconst 1, 1) := dk_4 (dk_at dksX0_gust_3 0 rfl rfl)
theorem dX0_gust_72 : decode cX0_gust 72 = .ok (.iload_n 2, 1) := dk_28 (dk_at dksX0_gust_3 1 rfl rfl)
theorem dX0_gust_73 : decode cX0_gust 73 = .ok (.iastore, 1) := dk_79 (dk_at dksX0_gust_3 2 rfl rfl)
theorem dX0_gust_74 : decode cX0_gust 74 = .ok (.iconst 1, 1) := dk_4 (dk_at dksX0_gust_3 3 rfl rfl)
theorem dX0_gust_75 : decode cX0_gust 75 = .ok (.ireturn, 1) := dk_172 (dk_at dksX0_gust_3 4 rfl rfl)
abbrev cX0_withdraw : ByteArray := prog_1_method_39_code
def yX0_withdraw : MethodName := ⟨RX0, "withdraw", "()I"⟩
def dkwX0_withdraw_1 : List UInt8 := [42, 180, 0, 21, 180, 0, 205, 184, 0, 236, 27, 172]
abbrev dktX0_withdraw_1 : List UInt8 := dkwX0_withdraw_1 ++ []
def dkwX0_withdraw_0 : List UInt8 := [42, 180, 0, 21, 180, 0, 205, 8, 46, 60, 27, 2, 160, 0, 5, 2, 172, 42, 180, 0, 21, 182, 0, 208]
abbrev dktX0_withdraw_0 : List UInt8 := dkwX0_withdraw_0 ++ dktX0_withdraw_1
theorem dksX0_withdraw_0 : cX0_withdraw.data.toList.drop 0 = dktX0_withdraw_0 := by decide +kernel
theorem dksX0_withdraw_1 : cX0_withdraw.data.toList.drop 24 = dktX0_withdraw_1 := dk_seg dksX0_withdraw_0 24 rfl rfl
theorem dX0_withdraw_0 : decode cX0_withdraw 0 = .ok (.aload_n 0, 1) := dk_42 (dk_at dksX0_withdraw_0 0 rfl rfl)
theorem dX0_withdraw_1 : decode cX0_withdraw 1 = .ok (.getfield 21, 3) := dk_180 0 21 (dk_at dksX0_withdraw_0 1 rfl rfl)
theorem dX0_withdraw_4 : decode cX0_withdraw 4 = .ok (.getfield 205, 3) := dk_180 0 205 (dk_at dksX0_withdraw_0 4 rfl rfl)
theorem dX0_withdraw_7 : decode cX0_withdraw 7 = .ok (.iconst 5, 1) := dk_8 (dk_at dksX0_withdraw_0 7 rfl rfl)
theorem dX0_withdraw_8 : decode cX0_withdraw 8 = .ok (.iaload, 1) := dk_46 (dk_at dksX0_withdraw_0 8 rfl rfl)
theorem dX0_withdraw_9 : decode cX0_withdraw 9 = .ok (.istore_n 1, 1) := dk_60 (dk_at dksX0_withdraw_0 9 rfl rfl)
theorem dX0_withdraw_10 : decode cX0_withdraw 10 = .ok (.iload_n 1, 1) := dk_27 (dk_at dksX0_withdraw_0 10 rfl rfl)
theorem dX0_withdraw_11 : decode cX0_withdraw 11 = .ok (.iconst (-1), 1) := dk_2 (dk_at dksX0_withdraw_0 11 rfl rfl)
theorem dX0_withdraw_12 : decode cX0_withdraw 12 = .ok (.if_icmp .ne 5, 3) := dk_160 0 5 (dk_at dksX0_withdraw_0 12 rfl rfl)
theorem dX0_withdraw_15 : decode cX0_withdraw 15 = .ok (.iconst (-1), 1) := dk_2 (dk_at dksX0_withdraw_0 15 rfl rfl)
theorem dX0_withdraw_16 : decode cX0_withdraw 16 = .ok (.ireturn, 1) := dk_172 (dk_at dksX0_withdraw_0 16 rfl rfl)
theorem dX0_withdraw_17 : decode cX0_withdraw 17 = .ok (.aload_n 0, 1) := dk_42 (dk_at dksX0_withdraw_0 17 rfl rfl)
theorem dX0_withdraw_18 : decode cX0_withdraw 18 = .ok (.getfield 21, 3) := dk_180 0 21 (dk_at dksX0_withdraw_0 18 rfl rfl)
theorem dX0_withdraw_21 : decode cX0_withdraw 21 = .ok (.invokevirtual 208, 3) := dk_182 0 208 (dk_at dksX0_withdraw_0 21 rfl rfl)
theorem dX0_withdraw_24 : decode cX0_withdraw 24 = .ok (.aload_n 0, 1) := dk_42 (dk_at dksX0_withdraw_1 0 rfl rfl)
theorem dX0_withdraw_25 : decode cX0_withdraw 25 = .ok (.getfield 21, 3) := dk_180 0 21 (dk_at dksX0_withdraw_1 1 rfl rfl)
theorem dX0_withdraw_28 : decode cX0_withdraw 28 = .ok (.getfield 205, 3) := dk_180 0 205 (dk_at dksX0_withdraw_1 4 rfl rfl)
theorem dX0_withdraw_31 : decode cX0_withdraw 31 = .ok (.invokestatic 236, 3) := dk_184 0 236 (dk_at dksX0_withdraw_1 7 rfl rfl)
theorem dX0_withdraw_34 : decode cX0_withdraw 34 = .ok (.iload_n 1, 1) := dk_27 (dk_at dksX0_withdraw_1 10 rfl rfl)
theorem dX0_withdraw_35 : decode cX0_withdraw 35 = .ok (.ireturn, 1) := dk_172 (dk_at dksX0_withdraw_1 11 rfl rfl)
abbrev cX0_withdraws : ByteArray := prog_1_method_38_code
def yX0_withdraws : MethodName := ⟨RX0, "withdraws", "([I)V"⟩
def dkwX0_withdraws_0 : List UInt8 := [42, 8, 46, 2, 160, 0, 4, 177, 42, 16, 9, 42, 8, 46, 96, 3, 79, 42, 184, 0, 179, 177]
abbrev dktX0_withdraws_0 : List UInt8 := dkwX0_withdraws_0 ++ []
theorem dksX0_withdraws_0 : cX0_withdraws.data.toList.drop 0 = dktX0_withdraws_0 := by decide +kernel
theorem dX0_withdraws_0 : decode cX0_withdraws 0 = .ok (.aload_n 0, 1) := dk_42 (dk_at dksX0_withdraws_0 0 rfl rfl)
theorem dX0_withdraws_1 : decode cX0_withdraws 1 = .ok (.iconst 5, 1) := dk_8 (dk_at dksX0_withdraws_0 1 rfl rfl)
theorem dX0_withdraws_2 : decode cX0_withdraws 2 = .ok (.iaload, 1) := dk_46 (dk_at dksX0_withdraws_0 2 rfl rfl)
theorem dX0_withdraws_3 : decode cX0_withdraws 3 = .ok (.iconst (-1), 1) := dk_2 (dk_at dksX0_withdraws_0 3 rfl rfl)
theorem dX0_withdraws_4 : decode cX0_withdraws 4 = .ok (.if_icmp .ne 4, 3) := dk_160 0 4 (dk_at dksX0_withdraws_0 4 rfl rfl)
theorem dX0_withdraws_7 : decode cX0_withdraws 7 = .ok (.return_, 1) := dk_177 (dk_at dksX0_withdraws_0 7 rfl rfl)
theorem dX0_withdraws_8 : decode cX0_withdraws 8 = .ok (.aload_n 0, 1) := dk_42 (dk_at dksX0_withdraws_0 8 rfl rfl)
theorem dX0_withdraws_9 : decode cX0_withdraws 9 = .ok (.bipush 9, 2) := dk_16 9 (dk_at dksX0_withdraws_0 9 rfl rfl)
theorem dX0_withdraws_11 : decode cX0_withdraws 11 = .ok (.aload_n 0, 1) := dk_42 (dk_at dksX0_withdraws_0 11 rfl rfl)
theorem dX0_withdraws_12 : decode cX0_withdraws 12 = .ok (.iconst 5, 1) := dk_8 (dk_at dksX0_withdraws_0 12 rfl rfl)
theorem dX0_withdraws_13 : decode cX0_withdraws 13 = .ok (.iaload, 1) := dk_46 (dk_at dksX0_withdraws_0 13 rfl rfl)
theorem dX0_withdraws_14 : decode cX0_withdraws 14 = .ok (.iadd, 1) := dk_96 (dk_at dksX0_withdraws_0 14 rfl rfl)
theorem dX0_withdraws_15 : decode cX0_withdraws 15 = .ok (.iconst 0, 1) := dk_3 (dk_at dksX0_withdraws_0 15 rfl rfl)
theorem dX0_withdraws_16 : decode cX0_withdraws 16 = .ok (.iastore, 1) := dk_79 (dk_at dksX0_withdraws_0 16 rfl rfl)
theorem dX0_withdraws_17 : decode cX0_withdraws 17 = .ok (.aload_n 0, 1) := dk_42 (dk_at dksX0_withdraws_0 17 rfl rfl)
theorem dX0_withdraws_18 : decode cX0_withdraws 18 = .ok (.invokestatic 179, 3) := dk_184 0 179 (dk_at dksX0_withdraws_0 18 rfl rfl)
theorem dX0_withdraws_21 : decode cX0_withdraws 21 = .ok (.return_, 1) := dk_177 (dk_at dksX0_withdraws_0 21 rfl rfl)
abbrev cX0_played : ByteArray := prog_1_method_42_code
def yX0_played : MethodName := ⟨RX0, "played", "(I)I"⟩
def dkwX0_played_2 : List UInt8 := [154, 0, 15, 44, 29, 182, 1, 32, 192, 0, 243, 182, 1, 40, 172, 132, 3, 1, 167, 255, 218, 2, 172]
abbrev dktX0_played_2 : List UInt8 := dkwX0_played_2 ++ []
def dkwX0_played_1 : List UInt8 := [3, 62, 29, 44, 182, 1, 27, 162, 0, 36, 42, 44, 29, 182, 1, 32, 192, 0, 243, 182, 1, 36]
abbrev dktX0_played_1 : List UInt8 := dkwX0_played_1 ++ dktX0_played_2
def dkwX0_played_0 : List UInt8 := [42, 27, 182, 0, 104, 154, 0, 6, 16, 254, 172, 42, 180, 0, 21, 180, 0, 85, 27, 50, 180, 1, 23, 77]
abbrev dktX0_played_0 : List UInt8 := dkwX0_played_0 ++ dktX0_played_1
theorem dksX0_played_0 : cX0_played.data.toList.drop 0 = dktX0_played_0 := by decide +kernel
theorem dksX0_played_1 : cX0_played.data.toList.drop 24 = dktX0_played_1 := dk_seg dksX0_played_0 24 rfl rfl
theorem dksX0_played_2 : cX0_played.data.toList.drop 46 = dktX0_played_2 := dk_seg dksX0_played_1 22 rfl rfl
theorem dX0_played_0 : decode cX0_played 0 = .ok (.aload_n 0, 1) := dk_42 (dk_at dksX0_played_0 0 rfl rfl)
theorem dX0_played_1 : decode cX0_played 1 = .ok (.iload_n 1, 1) := dk_27 (dk_at dksX0_played_0 1 rfl rfl)
theorem dX0_played_2 : decode cX0_played 2 = .ok (.invokevirtual 104, 3) := dk_182 0 104 (dk_at dksX0_played_0 2 rfl rfl)
theorem dX0_played_5 : decode cX0_played 5 = .ok (.ifCond .ne 6, 3) := dk_154 0 6 (dk_at dksX0_played_0 5 rfl rfl)
theorem dX0_played_8 : decode cX0_played 8 = .ok (.bipush (-2), 2) := dk_16 254 (dk_at dksX0_played_0 8 rfl rfl)
theorem dX0_played_10 : decode cX0_played 10 = .ok (.ireturn, 1) := dk_172 (dk_at dksX0_played_0 10 rfl rfl)
theorem dX0_played_11 : decode cX0_played 11 = .ok (.aload_n 0, 1) := dk_42 (dk_at dksX0_played_0 11 rfl rfl)
theorem dX0_played_12 : decode cX0_played 12 = .ok (.getfield 21, 3) := dk_180 0 21 (dk_at dksX0_played_0 12 rfl rfl)
theorem dX0_played_15 : decode cX0_played 15 = .ok (.getfield 85, 3) := dk_180 0 85 (dk_at dksX0_played_0 15 rfl rfl)
theorem dX0_played_18 : decode cX0_played 18 = .ok (.iload_n 1, 1) := dk_27 (dk_at dksX0_played_0 18 rfl rfl)
theorem dX0_played_19 : decode cX0_played 19 = .ok (.aaload, 1) := dk_50 (dk_at dksX0_played_0 19 rfl rfl)
theorem dX0_played_20 : decode cX0_played 20 = .ok (.getfield 279, 3) := dk_180 1 23 (dk_at dksX0_played_0 20 rfl rfl)
theorem dX0_played_23 : decode cX0_played 23 = .ok (.astore_n 2, 1) := dk_77 (dk_at dksX0_played_0 23 rfl rfl)
theorem dX0_played_24 : decode cX0_played 24 = .ok (.iconst 0, 1) := dk_3 (dk_at dksX0_played_1 0 rfl rfl)
theorem dX0_played_25 : decode cX0_played 25 = .ok (.istore_n 3, 1) := dk_62 (dk_at dksX0_played_1 1 rfl rfl)
theorem dX0_played_26 : decode cX0_played 26 = .ok (.iload_n 3, 1) := dk_29 (dk_at dksX0_played_1 2 rfl rfl)
theorem dX0_played_27 : decode cX0_played 27 = .ok (.aload_n 2, 1) := dk_44 (dk_at dksX0_played_1 3 rfl rfl)
theorem dX0_played_28 : decode cX0_played 28 = .ok (.invokevirtual 283, 3) := dk_182 1 27 (dk_at dksX0_played_1 4 rfl rfl)
theorem dX0_played_31 : decode cX0_played 31 = .ok (.if_icmp .ge 36, 3) := dk_162 0 36 (dk_at dksX0_played_1 7 rfl rfl)
theorem dX0_played_34 : decode cX0_played 34 = .ok (.aload_n 0, 1) := dk_42 (dk_at dksX0_played_1 10 rfl rfl)
theorem dX0_played_35 : decode cX0_played 35 = .ok (.aload_n 2, 1) := dk_44 (dk_at dksX0_played_1 11 rfl rfl)
theorem dX0_played_36 : decode cX0_played 36 = .ok (.iload_n 3, 1) := dk_29 (dk_at dksX0_played_1 12 rfl rfl)
theorem dX0_played_37 : decode cX0_played 37 = .ok (.invokevirtual 288, 3) := dk_182 1 32 (dk_at dksX0_played_1 13 rfl rfl)
theorem dX0_played_40 : decode cX0_played 40 = .ok (.checkcast 243, 3) := dk_192 0 243 (dk_at dksX0_played_1 16 rfl rfl)
theorem dX0_played_43 : decode cX0_played 43 = .ok (.invokevirtual 292, 3) := dk_182 1 36 (dk_at dksX0_played_1 19 rfl rfl)
theorem dX0_played_46 : decode cX0_played 46 = .ok (.ifCond .ne 15, 3) := dk_154 0 15 (dk_at dksX0_played_2 0 rfl rfl)
theorem dX0_played_49 : decode cX0_played 49 = .ok (.aload_n 2, 1) := dk_44 (dk_at dksX0_played_2 3 rfl rfl)
theorem dX0_played_50 : decode cX0_played 50 = .ok (.iload_n 3, 1) := dk_29 (dk_at dksX0_played_2 4 rfl rfl)
theorem dX0_played_51 : decode cX0_played 51 = .ok (.invokevirtual 288, 3) := dk_182 1 32 (dk_at dksX0_played_2 5 rfl rfl)
theorem dX0_played_54 : decode cX0_played 54 = .ok (.checkcast 243, 3) := dk_192 0 243 (dk_at dksX0_played_2 8 rfl rfl)
theorem dX0_played_57 : decode cX0_played 57 = .ok (.invokevirtual 296, 3) := dk_182 1 40 (dk_at dksX0_played_2 11 rfl rfl)
theorem dX0_played_60 : decode cX0_played 60 = .ok (.ireturn, 1) := dk_172 (dk_at dksX0_played_2 14 rfl rfl)
theorem dX0_played_61 : decode cX0_played 61 = .ok (.iinc 3 1, 3) := dk_132 3 1 (dk_at dksX0_played_2 15 rfl rfl)
theorem dX0_played_64 : decode cX0_played 64 = .ok (.goto (-38), 3) := dk_167 255 218 (dk_at dksX0_played_2 18 rfl rfl)
theorem dX0_played_67 : decode cX0_played 67 = .ok (.iconst (-1), 1) := dk_2 (dk_at dksX0_played_2 21 rfl rfl)
theorem dX0_played_68 : decode cX0_played 68 = .ok (.ireturn, 1) := dk_172 (dk_at dksX0_played_2 22 rfl rfl)
abbrev cX0_does : ByteArray := prog_1_method_41_code
def yX0_does : MethodName := ⟨RX0, "does", "(LVaneCourt$Doing;)Z"⟩
def dkwX0_does_6 : List UInt8 := [182, 1, 20, 172]
abbrev dktX0_does_6 : List UInt8 := dkwX0_does_6 ++ []
def dkwX0_does_5 : List UInt8 := [182, 1, 14, 172, 42, 182, 1, 17, 2, 159, 0, 7, 4, 167, 0, 4, 3, 172, 42, 43, 182, 0, 248]
abbrev dktX0_does_5 : List UInt8 := dkwX0_does_5 ++ dktX0_does_6
def dkwX0_does_4 : List UInt8 := [167, 0, 4, 3, 172, 42, 43, 182, 0, 248, 182, 1, 11, 172, 42, 43, 182, 0, 248, 43, 182, 0, 251]
abbrev dktX0_does_4 : List UInt8 := dkwX0_does_4 ++ dktX0_does_5
def dkwX0_does_3 : List UInt8 := [167, 0, 4, 3, 172, 42, 43, 182, 0, 248, 182, 1, 5, 172, 42, 182, 1, 8, 2, 159, 0, 7, 4]
abbrev dktX0_does_3 : List UInt8 := dkwX0_does_3 ++ dktX0_does_4
def dkwX0_does_2 : List UInt8 := [42, 43, 182, 0, 248, 43, 182, 0, 251, 43, 182, 0, 254, 3, 182, 1, 1, 2, 159, 0, 7, 4]
abbrev dktX0_does_2 : List UInt8 := dkwX0_does_2 ++ dktX0_does_3
def dkwX0_does_1 : List UInt8 := [170, 0, 0, 0, 0, 0, 0, 126, 0, 0, 0, 205, 0, 0, 0, 210, 0, 0, 0, 40, 0, 0, 0, 67, 0, 0, 0, 76, 0, 0, 0, 90, 0, 0, 0, 99, 0, 0, 0, 112]
abbrev dktX0_does_1 : List UInt8 := dkwX0_does_1 ++ dktX0_does_2
def dkwX0_does_0 : List UInt8 := [43, 182, 0, 242]
abbrev dktX0_does_0 : List UInt8 := dkwX0_does_0 ++ dktX0_does_1
theorem dksX0_does_0 : cX0_does.data.toList.drop 0 = dktX0_does_0 := by decide +kernel
theorem dksX0_does_1 : cX0_does.data.toList.drop 4 = dktX0_does_1 := dk_seg dksX0_does_0 4 rfl rfl
theorem dksX0_does_2 : cX0_does.data.toList.drop 44 = dktX0_does_2 := dk_seg dksX0_does_1 40 rfl rfl
theorem dksX0_does_3 : cX0_does.data.toList.drop 66 = dktX0_does_3 := dk_seg dksX0_does_2 22 rfl rfl
theorem dksX0_does_4 : cX0_does.data.toList.drop 89 = dktX0_does_4 := dk_seg dksX0_does_3 23 rfl rfl
theorem dksX0_does_5 : cX0_does.data.toList.drop 112 = dktX0_does_5 := dk_seg dksX0_does_4 23 rfl rfl
theorem dksX0_does_6 : cX0_does.data.toList.drop 135 = dktX0_does_6 := dk_seg dksX0_does_5 23 rfl rfl
theorem dX0_does_0 : decode cX0_does 0 = .ok (.aload_n 1, 1) := dk_43 (dk_at dksX0_does_0 0 rfl rfl)
theorem dX0_does_1 : decode cX0_does 1 = .ok (.invokevirtual 242, 3) := dk_182 0 242 (dk_at dksX0_does_0 1 rfl rfl)
theorem dX0_does_4 : decode cX0_does 4 = .ok (.tableswitch 126 205 210 #[40, 67, 76, 90, 99, 112], 40) := by decide +kernel
theorem dX0_does_44 : decode cX0_does 44 = .ok (.aload_n 0, 1) := dk_42 (dk_at dksX0_does_2 0 rfl rfl)
theorem dX0_does_45 : decode cX0_does 45 = .ok (.aload_n 1, 1) := dk_43 (dk_at dksX0_does_2 1 rfl rfl)
theorem dX0_does_46 : decode cX0_does 46 = .ok (.invokevirtual 248, 3) := dk_182 0 248 (dk_at dksX0_does_2 2 rfl rfl)
theorem dX0_does_49 : decode cX0_does 49 = .ok (.aload_n 1, 1) := dk_43 (dk_at dksX0_does_2 5 rfl rfl)
theorem dX0_does_50 : decode cX0_does 50 = .ok (.invokevirtual 251, 3) := dk_182 0 251 (dk_at dksX0_does_2 6 rfl rfl)
theorem dX0_does_53 : decode cX0_does 53 = .ok (.aload_n 1, 1) := dk_43 (dk_at dksX0_does_2 9 rfl rfl)
theorem dX0_does_54 : decode cX0_does 54 = .ok (.invokevirtual 254, 3) := dk_182 0 254 (dk_at dksX0_does_2 10 rfl rfl)
theorem dX0_does_57 : decode cX0_does 57 = .ok (.iconst 0, 1) := dk_3 (dk_at dksX0_does_2 13 rfl rfl)
theorem dX0_does_58 : decode cX0_does 58 = .ok (.invokevirtual 257, 3) := dk_182 1 1 (dk_at dksX0_does_2 14 rfl rfl)
theorem dX0_does_61 : decode cX0_does 61 = .ok (.iconst (-1), 1) := dk_2 (dk_at dksX0_does_2 17 rfl rfl)
theorem dX0_does_62 : decode cX0_does 62 = .ok (.if_icmp .eq 7, 3) := dk_159 0 7 (dk_at dksX0_does_2 18 rfl rfl)
theorem dX0_does_65 : decode cX0_does 65 = .ok (.iconst 1, 1) := dk_4 (dk_at dksX0_does_2 21 rfl rfl)
theorem dX0_does_66 : decode cX0_does 66 = .ok (.goto 4, 3) := dk_167 0 4 (dk_at dksX0_does_3 0 rfl rfl)
theorem dX0_does_69 : decode cX0_does 69 = .ok (.iconst 0, 1) := dk_3 (dk_at dksX0_does_3 3 rfl rfl)
theorem dX0_does_70 : decode cX0_does 70 = .ok (.ireturn, 1) := dk_172 (dk_at dksX0_does_3 4 rfl rfl)
theorem dX0_does_71 : decode cX0_does 71 = .ok (.aload_n 0, 1) := dk_42 (dk_at dksX0_does_3 5 rfl rfl)
theorem dX0_does_72 : decode cX0_does 72 = .ok (.aload_n 1, 1) := dk_43 (dk_at dksX0_does_3 6 rfl rfl)
theorem dX0_does_73 : decode cX0_does 73 = .ok (.invokevirtual 248, 3) := dk_182 0 248 (dk_at dksX0_does_3 7 rfl rfl)
theorem dX0_does_76 : decode cX0_does 76 = .ok (.invokevirtual 261, 3) := dk_182 1 5 (dk_at dksX0_does_3 10 rfl rfl)
theorem dX0_does_79 : decode cX0_does 79 = .ok (.ireturn, 1) := dk_172 (dk_at dksX0_does_3 13 rfl rfl)
theorem dX0_does_80 : decode cX0_does 80 = .ok (.aload_n 0, 1) := dk_42 (dk_at dksX0_does_3 14 rfl rfl)
theorem dX0_does_81 : decode cX0_does 81 = .ok (.invokevirtual 264, 3) := dk_182 1 8 (dk_at dksX0_does_3 15 rfl rfl)
theorem dX0_does_84 : decode cX0_does 84 = .ok (.iconst (-1), 1) := dk_2 (dk_at dksX0_does_3 18 rfl rfl)
theorem dX0_does_85 : decode cX0_does 85 = .ok (.if_icmp .eq 7, 3) := dk_159 0 7 (dk_at dksX0_does_3 19 rfl rfl)
theorem dX0_does_88 : decode cX0_does 88 = .ok (.iconst 1, 1) := dk_4 (dk_at dksX0_does_3 22 rfl rfl)
theorem dX0_does_89 : decode cX0_does 89 = .ok (.goto 4, 3) := dk_167 0 4 (dk_at dksX0_does_4 0 rfl rfl)
theorem dX0_does_92 : decode cX0_does 92 = .ok (.iconst 0, 1) := dk_3 (dk_at dksX0_does_4 3 rfl rfl)
theorem dX0_does_93 : decode cX0_does 93 = .ok (.ireturn, 1) := dk_172 (dk_at dksX0_does_4 4 rfl rfl)
theorem dX0_does_94 : decode cX0_does 94 = .ok (.aload_n 0, 1) := dk_42 (dk_at dksX0_does_4 5 rfl rfl)
theorem dX0_does_95 : decode cX0_does 95 = .ok (.aload_n 1, 1) := dk_43 (dk_at dksX0_does_4 6 rfl rfl)
theorem dX0_does_96 : decode cX0_does 96 = .ok (.invokevirtual 248, 3) := dk_182 0 248 (dk_at dksX0_does_4 7 rfl rfl)
theorem dX0_does_99 : decode cX0_does 99 = .ok (.invokevirtual 267, 3) := dk_182 1 11 (dk_at dksX0_does_4 10 rfl rfl)
theorem dX0_does_102 : decode cX0_does 102 = .ok (.ireturn, 1) := dk_172 (dk_at dksX0_does_4 13 rfl rfl)
theorem dX0_does_103 : decode cX0_does 103 = .ok (.aload_n 0, 1) := dk_42 (dk_at dksX0_does_4 14 rfl rfl)
theorem dX0_does_104 : decode cX0_does 104 = .ok (.aload_n 1, 1) := dk_43 (dk_at dksX0_does_4 15 rfl rfl)
theorem dX0_does_105 : decode cX0_does 105 = .ok (.invokevirtual 248, 3) := dk_182 0 248 (dk_at dksX0_does_4 16 rfl rfl)
theorem dX0_does_108 : decode cX0_does 108 = .ok (.aload_n 1, 1) := dk_43 (dk_at dksX0_does_4 19 rfl rfl)
theorem dX0_does_109 : decode cX0_does 109 = .ok (.invokevirtual 251, 3) := dk_182 0 251 (dk_at dksX0_does_4 20 rfl rfl)
theorem dX0_does_112 : decode cX0_does 112 = .ok (.invokevirtual 270, 3) := dk_182 1 14 (dk_at dksX0_does_5 0 rfl rfl)
theorem dX0_does_115 : decode cX0_does 115 = .ok (.ireturn, 1) := dk_172 (dk_at dksX0_does_5 3 rfl rfl)
theorem dX0_does_116 : decode cX0_does 116 = .ok (.aload_n 0, 1) := dk_42 (dk_at dksX0_does_5 4 rfl rfl)
theorem dX0_does_117 : decode cX0_does 117 = .ok (.invokevirtual 273, 3) := dk_182 1 17 (dk_at dksX0_does_5 5 rfl rfl)
theorem dX0_does_120 : decode cX0_does 120 = .ok (.iconst (-1), 1) := dk_2 (dk_at dksX0_does_5 8 rfl rfl)
theorem dX0_does_121 : decode cX0_does 121 = .ok (.if_icmp .eq 7, 3) := dk_159 0 7 (dk_at dksX0_does_5 9 rfl rfl)
theorem dX0_does_124 : decode cX0_does 124 = .ok (.iconst 1, 1) := dk_4 (dk_at dksX0_does_5 12 rfl rfl)
theorem dX0_does_125 : decode cX0_does 125 = .ok (.goto 4, 3) := dk_167 0 4 (dk_at dksX0_does_5 13 rfl rfl)
theorem dX0_does_128 : decode cX0_does 128 = .ok (.iconst 0, 1) := dk_3 (dk_at dksX0_does_5 16 rfl rfl)
theorem dX0_does_129 : decode cX0_does 129 = .ok (.ireturn, 1) := dk_172 (dk_at dksX0_does_5 17 rfl rfl)
theorem dX0_does_130 : decode cX0_does 130 = .ok (.aload_n 0, 1) := dk_42 (dk_at dksX0_does_5 18 rfl rfl)
theorem dX0_does_131 : decode cX0_does 131 = .ok (.aload_n 1, 1) := dk_43 (dk_at dksX0_does_5 19 rfl rfl)
theorem dX0_does_132 : decode cX0_does 132 = .ok (.invokevirtual 248, 3) := dk_182 0 248 (dk_at dksX0_does_5 20 rfl rfl)
theorem dX0_does_135 : decode cX0_does 135 = .ok (.invokevirtual 276, 3) := dk_182 1 20 (dk_at dksX0_does_6 0 rfl rfl)
theorem dX0_does_138 : decode cX0_does 138 = .ok (.ireturn, 1) := dk_172 (dk_at dksX0_does_6 3 rfl rfl)
abbrev cX0_passesAll : ByteArray := prog_1_method_40_code
def yX0_passesAll : MethodName := ⟨RX0, "passesAll", "(I)Z"⟩
def dkwX0_passesAll_1 : List UInt8 := [4, 172]
abbrev dktX0_passesAll_1 : List UInt8 := dkwX0_passesAll_1 ++ []
def dkwX0_passesAll_0 : List UInt8 := [3, 61, 28, 27, 162, 0, 20, 42, 4, 182, 0, 239, 2, 160, 0, 5, 3, 172, 132, 2, 1, 167, 255, 237]
abbrev dktX0_passesAll_0 : List UInt8 := dkwX0_passesAll_0 ++ dktX0_passesAll_1
theorem dksX0_passesAll_0 : cX0_passesAll.data.toList.drop 0 = dktX0_passesAll_0 := by decide +kernel
theorem dksX0_passesAll_1 : cX0_passesAll.data.toList.drop 24 = dktX0_passesAll_1 := dk_seg dksX0_passesAll_0 24 rfl rfl
theorem dX0_passesAll_0 : decode cX0_passesAll 0 = .ok (.iconst 0, 1) := dk_3 (dk_at dksX0_passesAll_0 0 rfl rfl)
theorem dX0_passesAll_1 : decode cX0_passesAll 1 = .ok (.istore_n 2, 1) := dk_61 (dk_at dksX0_passesAll_0 1 rfl rfl)
theorem dX0_passesAll_2 : decode cX0_passesAll 2 = .ok (.iload_n 2, 1) := dk_28 (dk_at dksX0_passesAll_0 2 rfl rfl)
theorem dX0_passesAll_3 : decode cX0_passesAll 3 = .ok (.iload_n 1, 1) := dk_27 (dk_at dksX0_passesAll_0 3 rfl rfl)
theorem dX0_passesAll_4 : decode cX0_passesAll 4 = .ok (.if_icmp .ge 20, 3) := dk_162 0 20 (dk_at dksX0_passesAll_0 4 rfl rfl)
theorem dX0_passesAll_7 : decode cX0_passesAll 7 = .ok (.aload_n 0, 1) := dk_42 (dk_at dksX0_passesAll_0 7 rfl rfl)
theorem dX0_passesAll_8 : decode cX0_passesAll 8 = .ok (.iconst 1, 1) := dk_4 (dk_at dksX0_passesAll_0 8 rfl rfl)
theorem dX0_passesAll_9 : decode cX0_passesAll 9 = .ok (.invokevirtual 239, 3) := dk_182 0 239 (dk_at dksX0_passesAll_0 9 rfl rfl)
theorem dX0_passesAll_12 : decode cX0_passesAll 12 = .ok (.iconst (-1), 1) := dk_2 (dk_at dksX0_passesAll_0 12 rfl rfl)
theorem dX0_passesAll_13 : decode cX0_passesAll 13 = .ok (.if_icmp .ne 5, 3) := dk_160 0 5 (dk_at dksX0_passesAll_0 13 rfl rfl)
theorem dX0_passesAll_16 : decode cX0_passesAll 16 = .ok (.iconst 0, 1) := dk_3 (dk_at dksX0_passesAll_0 16 rfl rfl)
theorem dX0_passesAll_17 : decode cX0_passesAll 17 = .ok (.ireturn, 1) := dk_172 (dk_at dksX0_passesAll_0 17 rfl rfl)
theorem dX0_passesAll_18 : decode cX0_passesAll 18 = .ok (.iinc 2 1, 3) := dk_132 2 1 (dk_at dksX0_passesAll_0 18 rfl rfl)
theorem dX0_passesAll_21 : decode cX0_passesAll 21 = .ok (.goto (-19), 3) := dk_167 255 237 (dk_at dksX0_passesAll_0 21 rfl rfl)
theorem dX0_passesAll_24 : decode cX0_passesAll 24 = .ok (.iconst 1, 1) := dk_4 (dk_at dksX0_passesAll_1 0 rfl rfl)
theorem dX0_passesAll_25 : decode cX0_passesAll 25 = .ok (.ireturn, 1) := dk_172 (dk_at dksX0_passesAll_1 1 rfl rfl)
abbrev cX0_decades : ByteArray := prog_1_method_44_code
def yX0_decades : MethodName := ⟨RX0, "decades", "(II)I"⟩
def dkwX0_decades_4 : List UInt8 := [132, 3, 1, 167, 255, 221, 42, 180, 0, 21, 180, 0, 205, 6, 46, 172]
abbrev dktX0_decades_4 : List UInt8 := dkwX0_decades_4 ++ []
def dkwX0_decades_3 : List UInt8 := [180, 0, 205, 7, 46, 54, 4, 42, 180, 0, 21, 180, 0, 205, 184, 0, 193, 42, 21, 4, 182, 1, 43]
abbrev dktX0_decades_3 : List UInt8 := dkwX0_decades_3 ++ dktX0_decades_4
def dkwX0_decades_2 : List UInt8 := [180, 0, 205, 7, 27, 5, 104, 16, 107, 96, 79, 3, 62, 29, 28, 162, 0, 36, 42, 180, 0, 21]
abbrev dktX0_decades_2 : List UInt8 := dkwX0_decades_2 ++ dktX0_decades_3
def dkwX0_decades_1 : List UInt8 := [180, 0, 21, 180, 0, 64, 3, 46, 154, 0, 5, 2, 172, 42, 180, 0, 21, 182, 0, 208, 42, 180, 0, 21]
abbrev dktX0_decades_1 : List UInt8 := dkwX0_decades_1 ++ dktX0_decades_2
def dkwX0_decades_0 : List UInt8 := [27, 3, 17, 39, 15, 184, 0, 67, 153, 0, 25, 28, 4, 16, 40, 184, 0, 67, 153, 0, 15, 42]
abbrev dktX0_decades_0 : List UInt8 := dkwX0_decades_0 ++ dktX0_decades_1
theorem dksX0_decades_0 : cX0_decades.data.toList.drop 0 = dktX0_decades_0 := by decide +kernel
theorem dksX0_decades_1 : cX0_decades.data.toList.drop 22 = dktX0_decades_1 := dk_seg dksX0_decades_0 22 rfl rfl
theorem dksX0_decades_2 : cX0_decades.data.toList.drop 46 = dktX0_decades_2 := dk_seg dksX0_decades_1 24 rfl rfl
theorem dksX0_decades_3 : cX0_decades.data.toList.drop 68 = dktX0_decades_3 := dk_seg dksX0_decades_2 22 rfl rfl
theorem dksX0_decades_4 : cX0_decades.data.toList.drop 91 = dktX0_decades_4 := dk_seg dksX0_decades_3 23 rfl rfl
theorem dX0_decades_0 : decode cX0_decades 0 = .ok (.iload_n 1, 1) := dk_27 (dk_at dksX0_decades_0 0 rfl rfl)
theorem dX0_decades_1 : decode cX0_decades 1 = .ok (.iconst 0, 1) := dk_3 (dk_at dksX0_decades_0 1 rfl rfl)
theorem dX0_decades_2 : decode cX0_decades 2 = .ok (.sipush 9999, 3) := dk_17 39 15 (dk_at dksX0_decades_0 2 rfl rfl)
theorem dX0_decades_5 : decode cX0_decades 5 = .ok (.invokestatic 67, 3) := dk_184 0 67 (dk_at dksX0_decades_0 5 rfl rfl)
theorem dX0_decades_8 : decode cX0_decades 8 = .ok (.ifCond .eq 25, 3) := dk_153 0 25 (dk_at dksX0_decades_0 8 rfl rfl)
theorem dX0_decades_11 : decode cX0_decades 11 = .ok (.iload_n 2, 1) := dk_28 (dk_at dksX0_decades_0 11 rfl rfl)
theorem dX0_decades_12 : decode cX0_decades 12 = .ok (.iconst 1, 1) := dk_4 (dk_at dksX0_decades_0 12 rfl rfl)
theorem dX0_decades_13 : decode cX0_decades 13 = .ok (.bipush 40, 2) := dk_16 40 (dk_at dksX0_decades_0 13 rfl rfl)
theorem dX0_decades_15 : decode cX0_decades 15 = .ok (.invokestatic 67, 3) := dk_184 0 67 (dk_at dksX0_decades_0 15 rfl rfl)
theorem dX0_decades_18 : decode cX0_decades 18 = .ok (.ifCond .eq 15, 3) := dk_153 0 15 (dk_at dksX0_decades_0 18 rfl rfl)
theorem dX0_decades_21 : decode cX0_decades 21 = .ok (.aload_n 0, 1) := dk_42 (dk_at dksX0_decades_0 21 rfl rfl)
theorem dX0_decades_22 : decode cX0_decades 22 = .ok (.getfield 21, 3) := dk_180 0 21 (dk_at dksX0_decades_1 0 rfl rfl)
theorem dX0_decades_25 : decode cX0_decades 25 = .ok (.getfield 64, 3) := dk_180 0 64 (dk_at dksX0_decades_1 3 rfl rfl)
theorem dX0_decades_28 : decode cX0_decades 28 = .ok (.iconst 0, 1) := dk_3 (dk_at dksX0_decades_1 6 rfl rfl)
theorem dX0_decades_29 : decode cX0_decades 29 = .ok (.iaload, 1) := dk_46 (dk_at dksX0_decades_1 7 rfl rfl)
theorem dX0_decades_30 : decode cX0_decades 30 = .ok (.ifCond .ne 5, 3) := dk_154 0 5 (dk_at dksX0_decades_1 8 rfl rfl)
theorem dX0_decades_33 : decode cX0_decades 33 = .ok (.iconst (-1), 1) := dk_2 (dk_at dksX0_decades_1 11 rfl rfl)
theorem dX0_decades_34 : decode cX0_decades 34 = .ok (.ireturn, 1) := dk_172 (dk_at dksX0_decades_1 12 rfl rfl)
theorem dX0_decades_35 : decode cX0_decades 35 = .ok (.aload_n 0, 1) := dk_42 (dk_at dksX0_decades_1 13 rfl rfl)
theorem dX0_decades_36 : decode cX0_decades 36 = .ok (.getfield 21, 3) := dk_180 0 21 (dk_at dksX0_decades_1 14 rfl rfl)
theorem dX0_decades_39 : decode cX0_decades 39 = .ok (.invokevirtual 208, 3) := dk_182 0 208 (dk_at dksX0_decades_1 17 rfl rfl)
theorem dX0_decades_42 : decode cX0_decades 42 = .ok (.aload_n 0, 1) := dk_42 (dk_at dksX0_decades_1 20 rfl rfl)
theorem dX0_decades_43 : decode cX0_decades 43 = .ok (.getfield 21, 3) := dk_180 0 21 (dk_at dksX0_decades_1 21 rfl rfl)
theorem dX0_decades_46 : decode cX0_decades 46 = .ok (.getfield 205, 3) := dk_180 0 205 (dk_at dksX0_decades_2 0 rfl rfl)
theorem dX0_decades_49 : decode cX0_decades 49 = .ok (.iconst 4, 1) := dk_7 (dk_at dksX0_decades_2 3 rfl rfl)
theorem dX0_decades_50 : decode cX0_decades 50 = .ok (.iload_n 1, 1) := dk_27 (dk_at dksX0_decades_2 4 rfl rfl)
theorem dX0_decades_51 : decode cX0_decades 51 = .ok (.iconst 2, 1) := dk_5 (dk_at dksX0_decades_2 5 rfl rfl)
theorem dX0_decades_52 : decode cX0_decades 52 = .ok (.imul, 1) := dk_104 (dk_at dksX0_decades_2 6 rfl rfl)
theorem dX0_decades_53 : decode cX0_decades 53 = .ok (.bipush 107, 2) := dk_16 107 (dk_at dksX0_decades_2 7 rfl rfl)
theorem dX0_decades_55 : decode cX0_decades 55 = .ok (.iadd, 1) := dk_96 (dk_at dksX0_decades_2 9 rfl rfl)
theorem dX0_decades_56 : decode cX0_decades 56 = .ok (.iastore, 1) := dk_79 (dk_at dksX0_decades_2 10 rfl rfl)
theorem dX0_decades_57 : decode cX0_decades 57 = .ok (.iconst 0, 1) := dk_3 (dk_at dksX0_decades_2 11 rfl rfl)
theorem dX0_decades_58 : decode cX0_decades 58 = .ok (.istore_n 3, 1) := dk_62 (dk_at dksX0_decades_2 12 rfl rfl)
theorem dX0_decades_59 : decode cX0_decades 59 = .ok (.iload_n 3, 1) := dk_29 (dk_at dksX0_decades_2 13 rfl rfl)
theorem dX0_decades_60 : decode cX0_decades 60 = .ok (.iload_n 2, 1) := dk_28 (dk_at dksX0_decades_2 14 rfl rfl)
theorem dX0_decades_61 : decode cX0_decades 61 = .ok (.if_icmp .ge 36, 3) := dk_162 0 36 (dk_at dksX0_decades_2 15 rfl rfl)
theorem dX0_decades_64 : decode cX0_decades 64 = .ok (.aload_n 0, 1) := dk_42 (dk_at dksX0_decades_2 18 rfl rfl)
theorem dX0_decades_65 : decode cX0_decades 65 = .ok (.getfield 21, 3) := dk_180 0 21 (dk_at dksX0_decades_2 19 rfl rfl)
theorem dX0_decades_68 : decode cX0_decades 68 = .ok (.getfield 205, 3) := dk_180 0 205 (dk_at dksX0_decades_3 0 rfl rfl)
theorem dX0_decades_71 : decode cX0_decades 71 = .ok (.iconst 4, 1) := dk_7 (dk_at dksX0_decades_3 3 rfl rfl)
theorem dX0_decades_72 : decode cX0_decades 72 = .ok (.iaload, 1) := dk_46 (dk_at dksX0_decades_3 4 rfl rfl)
theorem dX0_decades_73 : decode cX0_decades 73 = .ok (.istore 4, 2) := dk_54 4 (dk_at dksX0_decades_3 5 rfl rfl)
theorem dX0_decades_75 : decode cX0_decades 75 = .ok (.aload_n 0, 1) := dk_42 (dk_at dksX0_decades_3 7 rfl rfl)
theorem dX0_decades_76 : decode cX0_decades 76 = .ok (.getfield 21, 3) := dk_180 0 21 (dk_at dksX0_decades_3 8 rfl rfl)
theorem dX0_decades_79 : decode cX0_decades 79 = .ok (.getfield 205, 3) := dk_180 0 205 (dk_at dksX0_decades_3 11 rfl rfl)
theorem dX0_decades_82 : decode cX0_decades 82 = .ok (.invokestatic 193, 3) := dk_184 0 193 (dk_at dksX0_decades_3 14 rfl rfl)
theorem dX0_decades_85 : decode cX0_decades 85 = .ok (.aload_n 0, 1) := dk_42 (dk_at dksX0_decades_3 17 rfl rfl)
theorem dX0_decades_86 : decode cX0_decades 86 = .ok (.iload 4, 2) := dk_21 4 (dk_at dksX0_decades_3 18 rfl rfl)
theorem dX0_decades_88 : decode cX0_decades 88 = .ok (.invokevirtual 299, 3) := dk_182 1 43 (dk_at dksX0_decades_3 20 rfl rfl)
theorem dX0_decades_91 : decode cX0_decades 91 = .ok (.iinc 3 1, 3) := dk_132 3 1 (dk_at dksX0_decades_4 0 rfl rfl)
theorem dX0_decades_94 : decode cX0_decades 94 = .ok (.goto (-35), 3) := dk_167 255 221 (dk_at dksX0_decades_4 3 rfl rfl)
theorem dX0_decades_97 : decode cX0_decades 97 = .ok (.aload_n 0, 1) := dk_42 (dk_at dksX0_decades_4 6 rfl rfl)
theorem dX0_decades_98 : decode cX0_decades 98 = .ok (.getfield 21, 3) := dk_180 0 21 (dk_at dksX0_decades_4 7 rfl rfl)
theorem dX0_decades_101 : decode cX0_decades 101 = .ok (.getfield 205, 3) := dk_180 0 205 (dk_at dksX0_decades_4 10 rfl rfl)
theorem dX0_decades_104 : decode cX0_decades 104 = .ok (.iconst 3, 1) := dk_6 (dk_at dksX0_decades_4 13 rfl rfl)
theorem dX0_decades_105 : decode cX0_decades 105 = .ok (.iaload, 1) := dk_46 (dk_at dksX0_decades_4 14 rfl rfl)
theorem dX0_decades_106 : decode cX0_decades 106 = .ok (.ireturn, 1) := dk_172 (dk_at dksX0_decades_4 15 rfl rfl)
abbrev cX0_happens : ByteArray := prog_1_method_43_code
def yX0_happens : MethodName := ⟨RX0, "happens", "(I)V"⟩
def dkwX0_happens_6 : List UInt8 := [3, 62, 167, 0, 3, 177]
abbrev dktX0_happens_6 : List UInt8 := dkwX0_happens_6 ++ []
def dkwX0_happens_5 : List UInt8 := [17, 39, 15, 162, 0, 21, 42, 42, 180, 0, 21, 180, 0, 205, 182, 0, 211, 153, 0, 7, 4, 167, 0, 4]
abbrev dktX0_happens_5 : List UInt8 := dkwX0_happens_5 ++ dktX0_happens_6
def dkwX0_happens_4 : List UInt8 := [28, 182, 0, 230, 153, 0, 49, 42, 28, 182, 0, 233, 167, 0, 41, 42, 180, 0, 21, 180, 0, 205, 6, 46]
abbrev dktX0_happens_4 : List UInt8 := dkwX0_happens_4 ++ dktX0_happens_5
def dkwX0_happens_3 : List UInt8 := [182, 0, 226, 153, 0, 74, 42, 180, 0, 21, 180, 0, 205, 16, 8, 92, 46, 4, 96, 79, 167, 0, 57, 42]
abbrev dktX0_happens_3 : List UInt8 := dkwX0_happens_3 ++ dktX0_happens_4
def dkwX0_happens_2 : List UInt8 := [42, 28, 182, 0, 220, 153, 0, 95, 42, 180, 0, 21, 180, 0, 205, 28, 184, 0, 223, 167, 0, 81, 42]
abbrev dktX0_happens_2 : List UInt8 := dkwX0_happens_2 ++ dktX0_happens_3
def dkwX0_happens_1 : List UInt8 := [170, 0, 0, 0, 0, 0, 0, 94, 0, 0, 0, 0, 0, 0, 0, 3, 0, 0, 0, 32, 0, 0, 0, 32, 0, 0, 0, 54, 0, 0, 0, 78]
abbrev dktX0_happens_1 : List UInt8 := dkwX0_happens_1 ++ dktX0_happens_2
def dkwX0_happens_0 : List UInt8 := [27, 42, 180, 0, 21, 180, 0, 64, 3, 46, 112, 61, 27, 16, 7, 112]
abbrev dktX0_happens_0 : List UInt8 := dkwX0_happens_0 ++ dktX0_happens_1
theorem dksX0_happens_0 : cX0_happens.data.toList.drop 0 = dktX0_happens_0 := by decide +kernel
theorem dksX0_happens_1 : cX0_happens.data.toList.drop 16 = dktX0_happens_1 := dk_seg dksX0_happens_0 16 rfl rfl
theorem dksX0_happens_2 : cX0_happens.data.toList.drop 48 = dktX0_happens_2 := dk_seg dksX0_happens_1 32 rfl rfl
theorem dksX0_happens_3 : cX0_happens.data.toList.drop 71 = dktX0_happens_3 := dk_seg dksX0_happens_2 23 rfl rfl
theorem dksX0_happens_4 : cX0_happens.data.toList.drop 95 = dktX0_happens_4 := dk_seg dksX0_happens_3 24 rfl rfl
theorem dksX0_happens_5 : cX0_happens.data.toList.drop 119 = dktX0_happens_5 := dk_seg dksX0_happens_4 24 rfl rfl
theorem dksX0_happens_6 : cX0_happens.data.toList.drop 143 = dktX0_happens_6 := dk_seg dksX0_happens_5 24 rfl rfl
theorem dX0_happens_0 : decode cX0_happens 0 = .ok (.iload_n 1, 1) := dk_27 (dk_at dksX0_happens_0 0 rfl rfl)
theorem dX0_happens_1 : decode cX0_happens 1 = .ok (.aload_n 0, 1) := dk_42 (dk_at dksX0_happens_0 1 rfl rfl)
theorem dX0_happens_2 : decode cX0_happens 2 = .ok (.getfield 21, 3) := dk_180 0 21 (dk_at dksX0_happens_0 2 rfl rfl)
theorem dX0_happens_5 : decode cX0_happens 5 = .ok (.getfield 64, 3) := dk_180 0 64 (dk_at dksX0_happens_0 5 rfl rfl)
theorem dX0_happens_8 : decode cX0_happens 8 = .ok (.iconst 0, 1) := dk_3 (dk_at dksX0_happens_0 8 rfl rfl)
theorem dX0_happens_9 : decode cX0_happens 9 = .ok (.iaload, 1) := dk_46 (dk_at dksX0_happens_0 9 rfl rfl)
theorem dX0_happens_10 : decode cX0_happens 10 = .ok (.irem, 1) := dk_112 (dk_at dksX0_happens_0 10 rfl rfl)
theorem dX0_happens_11 : decode cX0_happens 11 = .ok (.istore_n 2, 1) := dk_61 (dk_at dksX0_happens_0 11 rfl rfl)
theorem dX0_happens_12 : decode cX0_happens 12 = .ok (.iload_n 1, 1) := dk_27 (dk_at dksX0_happens_0 12 rfl rfl)
theorem dX0_happens_13 : decode cX0_happens 13 = .ok (.bipush 7, 2) := dk_16 7 (dk_at dksX0_happens_0 13 rfl rfl)
theorem dX0_happens_15 : decode cX0_happens 15 = .ok (.irem, 1) := dk_112 (dk_at dksX0_happens_0 15 rfl rfl)
theorem dX0_happens_16 : decode cX0_happens 16 = .ok (.tableswitch 94 0 3 #[32, 32, 54, 78], 32) := by decide +kernel
theorem dX0_happens_48 : decode cX0_happens 48 = .ok (.aload_n 0, 1) := dk_42 (dk_at dksX0_happens_2 0 rfl rfl)
theorem dX0_happens_49 : decode cX0_happens 49 = .ok (.iload_n 2, 1) := dk_28 (dk_at dksX0_happens_2 1 rfl rfl)
theorem dX0_happens_50 : decode cX0_happens 50 = .ok (.invokevirtual 220, 3) := dk_182 0 220 (dk_at dksX0_happens_2 2 rfl rfl)
theorem dX0_happens_53 : decode cX0_happens 53 = .ok (.ifCond .eq 95, 3) := dk_153 0 95 (dk_at dksX0_happens_2 5 rfl rfl)
theorem dX0_happens_56 : decode cX0_happens 56 = .ok (.aload_n 0, 1) := dk_42 (dk_at dksX0_happens_2 8 rfl rfl)
theorem dX0_happens_57 : decode cX0_happens 57 = .ok (.getfield 21, 3) := dk_180 0 21 (dk_at dksX0_happens_2 9 rfl rfl)
theorem dX0_happens_60 : decode cX0_happens 60 = .ok (.getfield 205, 3) := dk_180 0 205 (dk_at dksX0_happens_2 12 rfl rfl)
theorem dX0_happens_63 : decode cX0_happens 63 = .ok (.iload_n 2, 1) := dk_28 (dk_at dksX0_happens_2 15 rfl rfl)
theorem dX0_happens_64 : decode cX0_happens 64 = .ok (.invokestatic 223, 3) := dk_184 0 223 (dk_at dksX0_happens_2 16 rfl rfl)
theorem dX0_happens_67 : decode cX0_happens 67 = .ok (.goto 81, 3) := dk_167 0 81 (dk_at dksX0_happens_2 19 rfl rfl)
theorem dX0_happens_70 : decode cX0_happens 70 = .ok (.aload_n 0, 1) := dk_42 (dk_at dksX0_happens_2 22 rfl rfl)
theorem dX0_happens_71 : decode cX0_happens 71 = .ok (.invokevirtual 226, 3) := dk_182 0 226 (dk_at dksX0_happens_3 0 rfl rfl)
theorem dX0_happens_74 : decode cX0_happens 74 = .ok (.ifCond .eq 74, 3) := dk_153 0 74 (dk_at dksX0_happens_3 3 rfl rfl)
theorem dX0_happens_77 : decode cX0_happens 77 = .ok (.aload_n 0, 1) := dk_42 (dk_at dksX0_happens_3 6 rfl rfl)
theorem dX0_happens_78 : decode cX0_happens 78 = .ok (.getfield 21, 3) := dk_180 0 21 (dk_at dksX0_happens_3 7 rfl rfl)
theorem dX0_happens_81 : decode cX0_happens 81 = .ok (.getfield 205, 3) := dk_180 0 205 (dk_at dksX0_happens_3 10 rfl rfl)
theorem dX0_happens_84 : decode cX0_happens 84 = .ok (.bipush 8, 2) := dk_16 8 (dk_at dksX0_happens_3 13 rfl rfl)
theorem dX0_happens_86 : decode cX0_happens 86 = .ok (.dup2, 1) := dk_92 (dk_at dksX0_happens_3 15 rfl rfl)
theorem dX0_happens_87 : decode cX0_happens 87 = .ok (.iaload, 1) := dk_46 (dk_at dksX0_happens_3 16 rfl rfl)
theorem dX0_happens_88 : decode cX0_happens 88 = .ok (.iconst 1, 1) := dk_4 (dk_at dksX0_happens_3 17 rfl rfl)
theorem dX0_happens_89 : decode cX0_happens 89 = .ok (.iadd, 1) := dk_96 (dk_at dksX0_happens_3 18 rfl rfl)
theorem dX0_happens_90 : decode cX0_happens 90 = .ok (.iastore, 1) := dk_79 (dk_at dksX0_happens_3 19 rfl rfl)
theorem dX0_happens_91 : decode cX0_happens 91 = .ok (.goto 57, 3) := dk_167 0 57 (dk_at dksX0_happens_3 20 rfl rfl)
theorem dX0_happens_94 : decode cX0_happens 94 = .ok (.aload_n 0, 1) := dk_42 (dk_at dksX0_happens_3 23 rfl rfl)
theorem dX0_happens_95 : decode cX0_happens 95 = .ok (.iload_n 2, 1) := dk_28 (dk_at dksX0_happens_4 0 rfl rfl)
theorem dX0_happens_96 : decode cX0_happens 96 = .ok (.invokevirtual 230, 3) := dk_182 0 230 (dk_at dksX0_happens_4 1 rfl rfl)
theorem dX0_happens_99 : decode cX0_happens 99 = .ok (.ifCond .eq 49, 3) := dk_153 0 49 (dk_at dksX0_happens_4 4 rfl rfl)
theorem dX0_happens_102 : decode cX0_happens 102 = .ok (.aload_n 0, 1) := dk_42 (dk_at dksX0_happens_4 7 rfl rfl)
theorem dX0_happens_103 : decode cX0_happens 103 = .ok (.iload_n 2, 1) := dk_28 (dk_at dksX0_happens_4 8 rfl rfl)
theorem dX0_happens_104 : decode cX0_happens 104 = .ok (.invokevirtual 233, 3) := dk_182 0 233 (dk_at dksX0_happens_4 9 rfl rfl)
theorem dX0_happens_107 : decode cX0_happens 107 = .ok (.goto 41, 3) := dk_167 0 41 (dk_at dksX0_happens_4 12 rfl rfl)
theorem dX0_happens_110 : decode cX0_happens 110 = .ok (.aload_n 0, 1) := dk_42 (dk_at dksX0_happens_4 15 rfl rfl)
theorem dX0_happens_111 : decode cX0_happens 111 = .ok (.getfield 21, 3) := dk_180 0 21 (dk_at dksX0_happens_4 16 rfl rfl)
theorem dX0_happens_114 : decode cX0_happens 114 = .ok (.getfield 205, 3) := dk_180 0 205 (dk_at dksX0_happens_4 19 rfl rfl)
theorem dX0_happens_117 : decode cX0_happens 117 = .ok (.iconst 3, 1) := dk_6 (dk_at dksX0_happens_4 22 rfl rfl)
theorem dX0_happens_118 : decode cX0_happens 118 = .ok (.iaload, 1) := dk_46 (dk_at dksX0_happens_4 23 rfl rfl)
theorem dX0_happens_119 : decode cX0_happens 119 = .ok (.sipush 9999, 3) := dk_17 39 15 (dk_at dksX0_happens_5 0 rfl rfl)
theorem dX0_happens_122 : decode cX0_happens 122 = .ok (.if_icmp .ge 21, 3) := dk_162 0 21 (dk_at dksX0_happens_5 3 rfl rfl)
theorem dX0_happens_125 : decode cX0_happens 125 = .ok (.aload_n 0, 1) := dk_42 (dk_at dksX0_happens_5 6 rfl rfl)
theorem dX0_happens_126 : decode cX0_happens 126 = .ok (.aload_n 0, 1) := dk_42 (dk_at dksX0_happens_5 7 rfl rfl)
theorem dX0_happens_127 : decode cX0_happens 127 = .ok (.getfield 21, 3) := dk_180 0 21 (dk_at dksX0_happens_5 8 rfl rfl)
theorem dX0_happens_130 : decode cX0_happens 130 = .ok (.getfield 205, 3) := dk_180 0 205 (dk_at dksX0_happens_5 11 rfl rfl)
theorem dX0_happens_133 : decode cX0_happens 133 = .ok (.invokevirtual 211, 3) := dk_182 0 211 (dk_at dksX0_happens_5 14 rfl rfl)
theorem dX0_happens_136 : decode cX0_happens 136 = .ok (.ifCond .eq 7, 3) := dk_153 0 7 (dk_at dksX0_happens_5 17 rfl rfl)
theorem dX0_happens_139 : decode cX0_happens 139 = .ok (.iconst 1, 1) := dk_4 (dk_at dksX0_happens_5 20 rfl rfl)
theorem dX0_happens_140 : decode cX0_happens 140 = .ok (.goto 4, 3) := dk_167 0 4 (dk_at dksX0_happens_5 21 rfl rfl)
theorem dX0_happens_143 : decode cX0_happens 143 = .ok (.iconst 0, 1) := dk_3 (dk_at dksX0_happens_6 0 rfl rfl)
theorem dX0_happens_144 : decode cX0_happens 144 = .ok (.istore_n 3, 1) := dk_62 (dk_at dksX0_happens_6 1 rfl rfl)
theorem dX0_happens_145 : decode cX0_happens 145 = .ok (.goto 3, 3) := dk_167 0 3 (dk_at dksX0_happens_6 2 rfl rfl)
theorem dX0_happens_148 : decode cX0_happens 148 = .ok (.return_, 1) := dk_177 (dk_at dksX0_happens_6 5 rfl rfl)
abbrev cX0_undo : ByteArray := prog_1_method_45_code
def yX0_undo : MethodName := ⟨RX0, "undo", "()I"⟩
def dkwX0_undo_2 : List UInt8 := [180, 0, 205, 184, 1, 49, 42, 180, 0, 21, 180, 0, 64, 6, 46, 172]
abbrev dktX0_undo_2 : List UInt8 := dkwX0_undo_2 ++ []
def dkwX0_undo_1 : List UInt8 := [4, 100, 79, 42, 180, 0, 21, 180, 1, 46, 42, 180, 0, 21, 180, 0, 64, 6, 46, 50, 42, 180, 0, 21]
abbrev dktX0_undo_1 : List UInt8 := dkwX0_undo_1 ++ dktX0_undo_2
def dkwX0_undo_0 : List UInt8 := [42, 180, 0, 21, 180, 0, 64, 6, 46, 154, 0, 5, 2, 172, 42, 180, 0, 21, 180, 0, 64, 6, 92, 46]
abbrev dktX0_undo_0 : List UInt8 := dkwX0_undo_0 ++ dktX0_undo_1
theorem dksX0_undo_0 : cX0_undo.data.toList.drop 0 = dktX0_undo_0 := by decide +kernel
theorem dksX0_undo_1 : cX0_undo.data.toList.drop 24 = dktX0_undo_1 := dk_seg dksX0_undo_0 24 rfl rfl
theorem dksX0_undo_2 : cX0_undo.data.toList.drop 48 = dktX0_undo_2 := dk_seg dksX0_undo_1 24 rfl rfl
theorem dX0_undo_0 : decode cX0_undo 0 = .ok (.aload_n 0, 1) := dk_42 (dk_at dksX0_undo_0 0 rfl rfl)
theorem dX0_undo_1 : decode cX0_undo 1 = .ok (.getfield 21, 3) := dk_180 0 21 (dk_at dksX0_undo_0 1 rfl rfl)
theorem dX0_undo_4 : decode cX0_undo 4 = .ok (.getfield 64, 3) := dk_180 0 64 (dk_at dksX0_undo_0 4 rfl rfl)
theorem dX0_undo_7 : decode cX0_undo 7 = .ok (.iconst 3, 1) := dk_6 (dk_at dksX0_undo_0 7 rfl rfl)
theorem dX0_undo_8 : decode cX0_undo 8 = .ok (.iaload, 1) := dk_46 (dk_at dksX0_undo_0 8 rfl rfl)
theorem dX0_undo_9 : decode cX0_undo 9 = .ok (.ifCond .ne 5, 3) := dk_154 0 5 (dk_at dksX0_undo_0 9 rfl rfl)
theorem dX0_undo_12 : decode cX0_undo 12 = .ok (.iconst (-1), 1) := dk_2 (dk_at dksX0_undo_0 12 rfl rfl)
theorem dX0_undo_13 : decode cX0_undo 13 = .ok (.ireturn, 1) := dk_172 (dk_at dksX0_undo_0 13 rfl rfl)
theorem dX0_undo_14 : decode cX0_undo 14 = .ok (.aload_n 0, 1) := dk_42 (dk_at dksX0_undo_0 14 rfl rfl)
theorem dX0_undo_15 : decode cX0_undo 15 = .ok (.getfield 21, 3) := dk_180 0 21 (dk_at dksX0_undo_0 15 rfl rfl)
theorem dX0_undo_18 : decode cX0_undo 18 = .ok (.getfield 64, 3) := dk_180 0 64 (dk_at dksX0_undo_0 18 rfl rfl)
theorem dX0_undo_21 : decode cX0_undo 21 = .ok (.iconst 3, 1) := dk_6 (dk_at dksX0_undo_0 21 rfl rfl)
theorem dX0_undo_22 : decode cX0_undo 22 = .ok (.dup2, 1) := dk_92 (dk_at dksX0_undo_0 22 rfl rfl)
theorem dX0_undo_23 : decode cX0_undo 23 = .ok (.iaload, 1) := dk_46 (dk_at dksX0_undo_0 23 rfl rfl)
theorem dX0_undo_24 : decode cX0_undo 24 = .ok (.iconst 1, 1) := dk_4 (dk_at dksX0_undo_1 0 rfl rfl)
theorem dX0_undo_25 : decode cX0_undo 25 = .ok (.isub, 1) := dk_100 (dk_at dksX0_undo_1 1 rfl rfl)
theorem dX0_undo_26 : decode cX0_undo 26 = .ok (.iastore, 1) := dk_79 (dk_at dksX0_undo_1 2 rfl rfl)
theorem dX0_undo_27 : decode cX0_undo 27 = .ok (.aload_n 0, 1) := dk_42 (dk_at dksX0_undo_1 3 rfl rfl)
theorem dX0_undo_28 : decode cX0_undo 28 = .ok (.getfield 21, 3) := dk_180 0 21 (dk_at dksX0_undo_1 4 rfl rfl)
theorem dX0_undo_31 : decode cX0_undo 31 = .ok (.getfield 302, 3) := dk_180 1 46 (dk_at dksX0_undo_1 7 rfl rfl)
theorem dX0_undo_34 : decode cX0_undo 34 = .ok (.aload_n 0, 1) := dk_42 (dk_at dksX0_undo_1 10 rfl rfl)
theorem dX0_undo_35 : decode cX0_undo 35 = .ok (.getfield 21, 3) := dk_180 0 21 (dk_at dksX0_undo_1 11 rfl rfl)
theorem dX0_undo_38 : decode cX0_undo 38 = .ok (.getfield 64, 3) := dk_180 0 64 (dk_at dksX0_undo_1 14 rfl rfl)
theorem dX0_undo_41 : decode cX0_undo 41 = .ok (.iconst 3, 1) := dk_6 (dk_at dksX0_undo_1 17 rfl rfl)
theorem dX0_undo_42 : decode cX0_undo 42 = .ok (.iaload, 1) := dk_46 (dk_at dksX0_undo_1 18 rfl rfl)
theorem dX0_undo_43 : decode cX0_undo 43 = .ok (.aaload, 1) := dk_50 (dk_at dksX0_undo_1 19 rfl rfl)
theorem dX0_undo_44 : decode cX0_undo 44 = .ok (.aload_n 0, 1) := dk_42 (dk_at dksX0_undo_1 20 rfl rfl)
theorem dX0_undo_45 : decode cX0_undo 45 = .ok (.getfield 21, 3) := dk_180 0 21 (dk_at dksX0_undo_1 21 rfl rfl)
theorem dX0_undo_48 : decode cX0_undo 48 = .ok (.getfield 205, 3) := dk_180 0 205 (dk_at dksX0_undo_2 0 rfl rfl)
theorem dX0_undo_51 : decode cX0_undo 51 = .ok (.invokestatic 305, 3) := dk_184 1 49 (dk_at dksX0_undo_2 3 rfl rfl)
theorem dX0_undo_54 : decode cX0_undo 54 = .ok (.aload_n 0, 1) := dk_42 (dk_at dksX0_undo_2 6 rfl rfl)
theorem dX0_undo_55 : decode cX0_undo 55 = .ok (.getfield 21, 3) := dk_180 0 21 (dk_at dksX0_undo_2 7 rfl rfl)
theorem dX0_undo_58 : decode cX0_undo 58 = .ok (.getfield 64, 3) := dk_180 0 64 (dk_at dksX0_undo_2 10 rfl rfl)
theorem dX0_undo_61 : decode cX0_undo 61 = .ok (.iconst 3, 1) := dk_6 (dk_at dksX0_undo_2 13 rfl rfl)
theorem dX0_undo_62 : decode cX0_undo 62 = .ok (.iaload, 1) := dk_46 (dk_at dksX0_undo_2 14 rfl rfl)
theorem dX0_undo_63 : decode cX0_undo 63 = .ok (.ireturn, 1) := dk_172 (dk_at dksX0_undo_2 15 rfl rfl)
abbrev cX0_ofCase : ByteArray := prog_1_method_46_code
def yX0_ofCase : MethodName := ⟨RX0, "ofCase", "(II)I"⟩
def dkwX0_ofCase_4 : List UInt8 := [96, 46, 172, 2, 172]
abbrev dktX0_ofCase_4 : List UInt8 := dkwX0_ofCase_4 ++ []
def dkwX0_ofCase_3 : List UInt8 := [172, 42, 180, 0, 21, 180, 0, 205, 16, 17, 27, 96, 46, 172, 42, 180, 0, 21, 180, 0, 205, 16, 25, 27]
abbrev dktX0_ofCase_3 : List UInt8 := dkwX0_ofCase_3 ++ dktX0_ofCase_4
def dkwX0_ofCase_2 : List UInt8 := [42, 180, 0, 21, 180, 0, 71, 27, 50, 28, 46, 172, 42, 180, 0, 21, 180, 0, 205, 16, 9, 27, 96, 46]
abbrev dktX0_ofCase_2 : List UInt8 := dkwX0_ofCase_2 ++ dktX0_ofCase_3
def dkwX0_ofCase_1 : List UInt8 := [170, 0, 0, 0, 92, 0, 0, 0, 0, 0, 0, 0, 6, 0, 0, 0, 41, 0, 0, 0, 41, 0, 0, 0, 41, 0, 0, 0, 41, 0, 0, 0, 53, 0, 0, 0, 66, 0, 0, 0, 79]
abbrev dktX0_ofCase_1 : List UInt8 := dkwX0_ofCase_1 ++ dktX0_ofCase_2
def dkwX0_ofCase_0 : List UInt8 := [42, 27, 182, 0, 214, 154, 0, 5, 2, 172, 28]
abbrev dktX0_ofCase_0 : List UInt8 := dkwX0_ofCase_0 ++ dktX0_ofCase_1
theorem dksX0_ofCase_0 : cX0_ofCase.data.toList.drop 0 = dktX0_ofCase_0 := by decide +kernel
theorem dksX0_ofCase_1 : cX0_ofCase.data.toList.drop 11 = dktX0_ofCase_1 := dk_seg dksX0_ofCase_0 11 rfl rfl
theorem dksX0_ofCase_2 : cX0_ofCase.data.toList.drop 52 = dktX0_ofCase_2 := dk_seg dksX0_ofCase_1 41 rfl rfl
theorem dksX0_ofCase_3 : cX0_ofCase.data.toList.drop 76 = dktX0_ofCase_3 := dk_seg dksX0_ofCase_2 24 rfl rfl
theorem dksX0_ofCase_4 : cX0_ofCase.data.toList.drop 100 = dktX0_ofCase_4 := dk_seg dksX0_ofCase_3 24 rfl rfl
theorem dX0_ofCase_0 : decode cX0_ofCase 0 = .ok (.aload_n 0, 1) := dk_42 (dk_at dksX0_ofCase_0 0 rfl rfl)
theorem dX0_ofCase_1 : decode cX0_ofCase 1 = .ok (.iload_n 1, 1) := dk_27 (dk_at dksX0_ofCase_0 1 rfl rfl)
theorem dX0_ofCase_2 : decode cX0_ofCase 2 = .ok (.invokevirtual 214, 3) := dk_182 0 214 (dk_at dksX0_ofCase_0 2 rfl rfl)
theorem dX0_ofCase_5 : decode cX0_ofCase 5 = .ok (.ifCond .ne 5, 3) := dk_154 0 5 (dk_at dksX0_ofCase_0 5 rfl rfl)
theorem dX0_ofCase_8 : decode cX0_ofCase 8 = .ok (.iconst (-1), 1) := dk_2 (dk_at dksX0_ofCase_0 8 rfl rfl)
theorem dX0_ofCase_9 : decode cX0_ofCase 9 = .ok (.ireturn, 1) := dk_172 (dk_at dksX0_ofCase_0 9 rfl rfl)
theorem dX0_ofCase_10 : decode cX0_ofCase 10 = .ok (.iload_n 2, 1) := dk_28 (dk_at dksX0_ofCase_0 10 rfl rfl)
theorem dX0_ofCase_11 : decode cX0_ofCase 11 = .ok (.tableswitch 92 0 6 #[41, 41, 41, 41, 53, 66, 79], 41) := by decide +kernel
theorem dX0_ofCase_52 : decode cX0_ofCase 52 = .ok (.aload_n 0, 1) := dk_42 (dk_at dksX0_ofCase_2 0 rfl rfl)
theorem dX0_ofCase_53 : decode cX0_ofCase 53 = .ok (.getfield 21, 3) := dk_180 0 21 (dk_at dksX0_ofCase_2 1 rfl rfl)
theorem dX0_ofCase_56 : decode cX0_ofCase 56 = .ok (.getfield 71, 3) := dk_180 0 71 (dk_at dksX0_ofCase_2 4 rfl rfl)
theorem dX0_ofCase_59 : decode cX0_ofCase 59 = .ok (.iload_n 1, 1) := dk_27 (dk_at dksX0_ofCase_2 7 rfl rfl)
theorem dX0_ofCase_60 : decode cX0_ofCase 60 = .ok (.aaload, 1) := dk_50 (dk_at dksX0_ofCase_2 8 rfl rfl)
theorem dX0_ofCase_61 : decode cX0_ofCase 61 = .ok (.iload_n 2, 1) := dk_28 (dk_at dksX0_ofCase_2 9 rfl rfl)
theorem dX0_ofCase_62 : decode cX0_ofCase 62 = .ok (.iaload, 1) := dk_46 (dk_at dksX0_ofCase_2 10 rfl rfl)
theorem dX0_ofCase_63 : decode cX0_ofCase 63 = .ok (.ireturn, 1) := dk_172 (dk_at dksX0_ofCase_2 11 rfl rfl)
theorem dX0_ofCase_64 : decode cX0_ofCase 64 = .ok (.aload_n 0, 1) := dk_42 (dk_at dksX0_ofCase_2 12 rfl rfl)
theorem dX0_ofCase_65 : decode cX0_ofCase 65 = .ok (.getfield 21, 3) := dk_180 0 21 (dk_at dksX0_ofCase_2 13 rfl rfl)
theorem dX0_ofCase_68 : decode cX0_ofCase 68 = .ok (.getfield 205, 3) := dk_180 0 205 (dk_at dksX0_ofCase_2 16 rfl rfl)
theorem dX0_ofCase_71 : decode cX0_ofCase 71 = .ok (.bipush 9, 2) := dk_16 9 (dk_at dksX0_ofCase_2 19 rfl rfl)
theorem dX0_ofCase_73 : decode cX0_ofCase 73 = .ok (.iload_n 1, 1) := dk_27 (dk_at dksX0_ofCase_2 21 rfl rfl)
theorem dX0_ofCase_74 : decode cX0_ofCase 74 = .ok (.iadd, 1) := dk_96 (dk_at dksX0_ofCase_2 22 rfl rfl)
theorem dX0_ofCase_75 : decode cX0_ofCase 75 = .ok (.iaload, 1) := dk_46 (dk_at dksX0_ofCase_2 23 rfl rfl)
theorem dX0_ofCase_76 : decode cX0_ofCase 76 = .ok (.ireturn, 1) := dk_172 (dk_at dksX0_ofCase_3 0 rfl rfl)
theorem dX0_ofCase_77 : decode cX0_ofCase 77 = .ok (.aload_n 0, 1) := dk_42 (dk_at dksX0_ofCase_3 1 rfl rfl)
theorem dX0_ofCase_78 : decode cX0_ofCase 78 = .ok (.getfield 21, 3) := dk_180 0 21 (dk_at dksX0_ofCase_3 2 rfl rfl)
theorem dX0_ofCase_81 : decode cX0_ofCase 81 = .ok (.getfield 205, 3) := dk_180 0 205 (dk_at dksX0_ofCase_3 5 rfl rfl)
theorem dX0_ofCase_84 : decode cX0_ofCase 84 = .ok (.bipush 17, 2) := dk_16 17 (dk_at dksX0_ofCase_3 8 rfl rfl)
theorem dX0_ofCase_86 : decode cX0_ofCase 86 = .ok (.iload_n 1, 1) := dk_27 (dk_at dksX0_ofCase_3 10 rfl rfl)
theorem dX0_ofCase_87 : decode cX0_ofCase 87 = .ok (.iadd, 1) := dk_96 (dk_at dksX0_ofCase_3 11 rfl rfl)
theorem dX0_ofCase_88 : decode cX0_ofCase 88 = .ok (.iaload, 1) := dk_46 (dk_at dksX0_ofCase_3 12 rfl rfl)
theorem dX0_ofCase_89 : decode cX0_ofCase 89 = .ok (.ireturn, 1) := dk_172 (dk_at dksX0_ofCase_3 13 rfl rfl)
theorem dX0_ofCase_90 : decode cX0_ofCase 90 = .ok (.aload_n 0, 1) := dk_42 (dk_at dksX0_ofCase_3 14 rfl rfl)
theorem dX0_ofCase_91 : decode cX0_ofCase 91 = .ok (.getfield 21, 3) := dk_180 0 21 (dk_at dksX0_ofCase_3 15 rfl rfl)
theorem dX0_ofCase_94 : decode cX0_ofCase 94 = .ok (.getfield 205, 3) := dk_180 0 205 (dk_at dksX0_ofCase_3 18 rfl rfl)
theorem dX0_ofCase_97 : decode cX0_ofCase 97 = .ok (.bipush 25, 2) := dk_16 25 (dk_at dksX0_ofCase_3 21 rfl rfl)
theorem dX0_ofCase_99 : decode cX0_ofCase 99 = .ok (.iload_n 1, 1) := dk_27 (dk_at dksX0_ofCase_3 23 rfl rfl)
theorem dX0_ofCase_100 : decode cX0_ofCase 100 = .ok (.iadd, 1) := dk_96 (dk_at dksX0_ofCase_4 0 rfl rfl)
theorem dX0_ofCase_101 : decode cX0_ofCase 101 = .ok (.iaload, 1) := dk_46 (dk_at dksX0_ofCase_4 1 rfl rfl)
theorem dX0_ofCase_102 : decode cX0_ofCase 102 = .ok (.ireturn, 1) := dk_172 (dk_at dksX0_ofCase_4 2 rfl rfl)
theorem dX0_ofCase_103 : decode cX0_ofCase 103 = .ok (.iconst (-1), 1) := dk_2 (dk_at dksX0_ofCase_4 3 rfl rfl)
theorem dX0_ofCase_104 : decode cX0_ofCase 104 = .ok (.ireturn, 1) := dk_172 (dk_at dksX0_ofCase_4 4 rfl rfl)
abbrev cX0_is : ByteArray := prog_1_method_47_code
def yX0_is : MethodName := ⟨RX0, "is", "(I)I"⟩
def dkwX0_is_1 : List UInt8 := [172]
abbrev dktX0_is_1 : List UInt8 := dkwX0_is_1 ++ []
def dkwX0_is_0 : List UInt8 := [27, 3, 16, 8, 184, 0, 67, 153, 0, 15, 42, 180, 0, 21, 180, 0, 205, 27, 46, 167, 0, 5, 16, 254]
abbrev dktX0_is_0 : List UInt8 := dkwX0_is_0 ++ dktX0_is_1
theorem dksX0_is_0 : cX0_is.data.toList.drop 0 = dktX0_is_0 := by decide +kernel
theorem dksX0_is_1 : cX0_is.data.toList.drop 24 = dktX0_is_1 := dk_seg dksX0_is_0 24 rfl rfl
theorem dX0_is_0 : decode cX0_is 0 = .ok (.iload_n 1, 1) := dk_27 (dk_at dksX0_is_0 0 rfl rfl)
theorem dX0_is_1 : decode cX0_is 1 = .ok (.iconst 0, 1) := dk_3 (dk_at dksX0_is_0 1 rfl rfl)
theorem dX0_is_2 : decode cX0_is 2 = .ok (.bipush 8, 2) := dk_16 8 (dk_at dksX0_is_0 2 rfl rfl)
theorem dX0_is_4 : decode cX0_is 4 = .ok (.invokestatic 67, 3) := dk_184 0 67 (dk_at dksX0_is_0 4 rfl rfl)
theorem dX0_is_7 : decode cX0_is 7 = .ok (.ifCond .eq 15, 3) := dk_153 0 15 (dk_at dksX0_is_0 7 rfl rfl)
theorem dX0_is_10 : decode cX0_is 10 = .ok (.aload_n 0, 1) := dk_42 (dk_at dksX0_is_0 10 rfl rfl)
theorem dX0_is_11 : decode cX0_is 11 = .ok (.getfield 21, 3) := dk_180 0 21 (dk_at dksX0_is_0 11 rfl rfl)
theorem dX0_is_14 : decode cX0_is 14 = .ok (.getfield 205, 3) := dk_180 0 205 (dk_at dksX0_is_0 14 rfl rfl)
theorem dX0_is_17 : decode cX0_is 17 = .ok (.iload_n 1, 1) := dk_27 (dk_at dksX0_is_0 17 rfl rfl)
theorem dX0_is_18 : decode cX0_is 18 = .ok (.iaload, 1) := dk_46 (dk_at dksX0_is_0 18 rfl rfl)
theorem dX0_is_19 : decode cX0_is 19 = .ok (.goto 5, 3) := dk_167 0 5 (dk_at dksX0_is_0 19 rfl rfl)
theorem dX0_is_22 : decode cX0_is 22 = .ok (.bipush (-2), 2) := dk_16 254 (dk_at dksX0_is_0 22 rfl rfl)
theorem dX0_is_24 : decode cX0_is 24 = .ok (.ireturn, 1) := dk_172 (dk_at dksX0_is_1 0 rfl rfl)
abbrev cX0_book : ByteArray := prog_1_method_48_code
def yX0_book : MethodName := ⟨RX0, "book", "(II)I"⟩
def dkwX0_book_2 : List UInt8 := [180, 0, 21, 180, 0, 205, 16, 34, 7, 27, 104, 96, 28, 96, 46, 167, 0, 5, 16, 254, 172]
abbrev dktX0_book_2 : List UInt8 := dkwX0_book_2 ++ []
def dkwX0_book_1 : List UInt8 := [180, 0, 205, 16, 33, 46, 4, 100, 184, 0, 67, 153, 0, 31, 28, 3, 6, 184, 0, 67, 153, 0, 22, 42]
abbrev dktX0_book_1 : List UInt8 := dkwX0_book_1 ++ dktX0_book_2
def dkwX0_book_0 : List UInt8 := [27, 2, 160, 0, 14, 42, 180, 0, 21, 180, 0, 205, 16, 33, 46, 172, 27, 3, 42, 180, 0, 21]
abbrev dktX0_book_0 : List UInt8 := dkwX0_book_0 ++ dktX0_book_1
theorem dksX0_book_0 : cX0_book.data.toList.drop 0 = dktX0_book_0 := by decide +kernel
theorem dksX0_book_1 : cX0_book.data.toList.drop 22 = dktX0_book_1 := dk_seg dksX0_book_0 22 rfl rfl
theorem dksX0_book_2 : cX0_book.data.toList.drop 46 = dktX0_book_2 := dk_seg dksX0_book_1 24 rfl rfl
theorem dX0_book_0 : decode cX0_book 0 = .ok (.iload_n 1, 1) := dk_27 (dk_at dksX0_book_0 0 rfl rfl)
theorem dX0_book_1 : decode cX0_book 1 = .ok (.iconst (-1), 1) := dk_2 (dk_at dksX0_book_0 1 rfl rfl)
theorem dX0_book_2 : decode cX0_book 2 = .ok (.if_icmp .ne 14, 3) := dk_160 0 14 (dk_at dksX0_book_0 2 rfl rfl)
theorem dX0_book_5 : decode cX0_book 5 = .ok (.aload_n 0, 1) := dk_42 (dk_at dksX0_book_0 5 rfl rfl)
theorem dX0_book_6 : decode cX0_book 6 = .ok (.getfield 21, 3) := dk_180 0 21 (dk_at dksX0_book_0 6 rfl rfl)
theorem dX0_book_9 : decode cX0_book 9 = .ok (.getfield 205, 3) := dk_180 0 205 (dk_at dksX0_book_0 9 rfl rfl)
theorem dX0_book_12 : decode cX0_book 12 = .ok (.bipush 33, 2) := dk_16 33 (dk_at dksX0_book_0 12 rfl rfl)
theorem dX0_book_14 : decode cX0_book 14 = .ok (.iaload, 1) := dk_46 (dk_at dksX0_book_0 14 rfl rfl)
theorem dX0_book_15 : decode cX0_book 15 = .ok (.ireturn, 1) := dk_172 (dk_at dksX0_book_0 15 rfl rfl)
theorem dX0_book_16 : decode cX0_book 16 = .ok (.iload_n 1, 1) := dk_27 (dk_at dksX0_book_0 16 rfl rfl)
theorem dX0_book_17 : decode cX0_book 17 = .ok (.iconst 0, 1) := dk_3 (dk_at dksX0_book_0 17 rfl rfl)
theorem dX0_book_18 : decode cX0_book 18 = .ok (.aload_n 0, 1) := dk_42 (dk_at dksX0_book_0 18 rfl rfl)
theorem dX0_book_19 : decode cX0_book 19 = .ok (.getfield 21, 3) := dk_180 0 21 (dk_at dksX0_book_0 19 rfl rfl)
theorem dX0_book_22 : decode cX0_book 22 = .ok (.getfield 205, 3) := dk_180 0 205 (dk_at dksX0_book_1 0 rfl rfl)
theorem dX0_book_25 : decode cX0_book 25 = .ok (.bipush 33, 2) := dk_16 33 (dk_at dksX0_book_1 3 rfl rfl)
theorem dX0_book_27 : decode cX0_book 27 = .ok (.iaload, 1) := dk_46 (dk_at dksX0_book_1 5 rfl rfl)
theorem dX0_book_28 : decode cX0_book 28 = .ok (.iconst 1, 1) := dk_4 (dk_at dksX0_book_1 6 rfl rfl)
theorem dX0_book_29 : decode cX0_book 29 = .ok (.isub, 1) := dk_100 (dk_at dksX0_book_1 7 rfl rfl)
theorem dX0_book_30 : decode cX0_book 30 = .ok (.invokestatic 67, 3) := dk_184 0 67 (dk_at dksX0_book_1 8 rfl rfl)
theorem dX0_book_33 : decode cX0_book 33 = .ok (.ifCond .eq 31, 3) := dk_153 0 31 (dk_at dksX0_book_1 11 rfl rfl)
theorem dX0_book_36 : decode cX0_book 36 = .ok (.iload_n 2, 1) := dk_28 (dk_at dksX0_book_1 14 rfl rfl)
theorem dX0_book_37 : decode cX0_book 37 = .ok (.iconst 0, 1) := dk_3 (dk_at dksX0_book_1 15 rfl rfl)
theorem dX0_book_38 : decode cX0_book 38 = .ok (.iconst 3, 1) := dk_6 (dk_at dksX0_book_1 16 rfl rfl)
theorem dX0_book_39 : decode cX0_book 39 = .ok (.invokestatic 67, 3) := dk_184 0 67 (dk_at dksX0_book_1 17 rfl rfl)
theorem dX0_book_42 : decode cX0_book 42 = .ok (.ifCond .eq 22, 3) := dk_153 0 22 (dk_at dksX0_book_1 20 rfl rfl)
theorem dX0_book_45 : decode cX0_book 45 = .ok (.aload_n 0, 1) := dk_42 (dk_at dksX0_book_1 23 rfl rfl)
theorem dX0_book_46 : decode cX0_book 46 = .ok (.getfield 21, 3) := dk_180 0 21 (dk_at dksX0_book_2 0 rfl rfl)
theorem dX0_book_49 : decode cX0_book 49 = .ok (.getfield 205, 3) := dk_180 0 205 (dk_at dksX0_book_2 3 rfl rfl)
theorem dX0_book_52 : decode cX0_book 52 = .ok (.bipush 34, 2) := dk_16 34 (dk_at dksX0_book_2 6 rfl rfl)
theorem dX0_book_54 : decode cX0_book 54 = .ok (.iconst 4, 1) := dk_7 (dk_at dksX0_book_2 8 rfl rfl)
theorem dX0_book_55 : decode cX0_book 55 = .ok (.iload_n 1, 1) := dk_27 (dk_at dksX0_book_2 9 rfl rfl)
theorem dX0_book_56 : decode cX0_book 56 = .ok (.imul, 1) := dk_104 (dk_at dksX0_book_2 10 rfl rfl)
theorem dX0_book_57 : decode cX0_book 57 = .ok (.iadd, 1) := dk_96 (dk_at dksX0_book_2 11 rfl rfl)
theorem dX0_book_58 : decode cX0_book 58 = .ok (.iload_n 2, 1) := dk_28 (dk_at dksX0_book_2 12 rfl rfl)
theorem dX0_book_59 : decode cX0_book 59 = .ok (.iadd, 1) := dk_96 (dk_at dksX0_book_2 13 rfl rfl)
theorem dX0_book_60 : decode cX0_book 60 = .ok (.iaload, 1) := dk_46 (dk_at dksX0_book_2 14 rfl rfl)
theorem dX0_book_61 : decode cX0_book 61 = .ok (.goto 5, 3) := dk_167 0 5 (dk_at dksX0_book_2 15 rfl rfl)
theorem dX0_book_64 : decode cX0_book 64 = .ok (.bipush (-2), 2) := dk_16 254 (dk_at dksX0_book_2 18 rfl rfl)
theorem dX0_book_66 : decode cX0_book 66 = .ok (.ireturn, 1) := dk_172 (dk_at dksX0_book_2 20 rfl rfl)
abbrev cX0_foretold : ByteArray := prog_1_method_50_code
def yX0_foretold : MethodName := ⟨RX0, "foretold", "(II)I"⟩
def dkwX0_foretold_2 : List UInt8 := [46, 172]
abbrev dktX0_foretold_2 : List UInt8 := dkwX0_foretold_2 ++ []
def dkwX0_foretold_1 : List UInt8 := [180, 0, 21, 180, 0, 205, 42, 180, 0, 43, 184, 1, 49, 42, 27, 182, 1, 53, 62, 42, 180, 0, 43, 28]
abbrev dktX0_foretold_1 : List UInt8 := dkwX0_foretold_1 ++ dktX0_foretold_2
def dkwX0_foretold_0 : List UInt8 := [27, 4, 16, 60, 184, 0, 67, 153, 0, 12, 28, 3, 5, 184, 0, 67, 154, 0, 5, 2, 172, 42]
abbrev dktX0_foretold_0 : List UInt8 := dkwX0_foretold_0 ++ dktX0_foretold_1
theorem dksX0_foretold_0 : cX0_foretold.data.toList.drop 0 = dktX0_foretold_0 := by decide +kernel
theorem dksX0_foretold_1 : cX0_foretold.data.toList.drop 22 = dktX0_foretold_1 := dk_seg dksX0_foretold_0 22 rfl rfl
theorem dksX0_foretold_2 : cX0_foretold.data.toList.drop 46 = dktX0_foretold_2 := dk_seg dksX0_foretold_1 24 rfl rfl
theorem dX0_foretold_0 : decode cX0_foretold 0 = .ok (.iload_n 1, 1) := dk_27 (dk_at dksX0_foretold_0 0 rfl rfl)
theorem dX0_foretold_1 : decode cX0_foretold 1 = .ok (.iconst 1, 1) := dk_4 (dk_at dksX0_foretold_0 1 rfl rfl)
theorem dX0_foretold_2 : decode cX0_foretold 2 = .ok (.bipush 60, 2) := dk_16 60 (dk_at dksX0_foretold_0 2 rfl rfl)
theorem dX0_foretold_4 : decode cX0_foretold 4 = .ok (.invokestatic 67, 3) := dk_184 0 67 (dk_at dksX0_foretold_0 4 rfl rfl)
theorem dX0_foretold_7 : decode cX0_foretold 7 = .ok (.ifCond .eq 12, 3) := dk_153 0 12 (dk_at dksX0_foretold_0 7 rfl rfl)
theorem dX0_foretold_10 : decode cX0_foretold 10 = .ok (.iload_n 2, 1) := dk_28 (dk_at dksX0_foretold_0 10 rfl rfl)
theorem dX0_foretold_11 : decode cX0_foretold 11 = .ok (.iconst 0, 1) := dk_3 (dk_at dksX0_foretold_0 11 rfl rfl)
theorem dX0_foretold_12 : decode cX0_foretold 12 = .ok (.iconst 2, 1) := dk_5 (dk_at dksX0_foretold_0 12 rfl rfl)
theorem dX0_foretold_13 : decode cX0_foretold 13 = .ok (.invokestatic 67, 3) := dk_184 0 67 (dk_at dksX0_foretold_0 13 rfl rfl)
theorem dX0_foretold_16 : decode cX0_foretold 16 = .ok (.ifCond .ne 5, 3) := dk_154 0 5 (dk_at dksX0_foretold_0 16 rfl rfl)
theorem dX0_foretold_19 : decode cX0_foretold 19 = .ok (.iconst (-1), 1) := dk_2 (dk_at dksX0_foretold_0 19 rfl rfl)
theorem dX0_foretold_20 : decode cX0_foretold 20 = .ok (.ireturn, 1) := dk_172 (dk_at dksX0_foretold_0 20 rfl rfl)
theorem dX0_foretold_21 : decode cX0_foretold 21 = .ok (.aload_n 0, 1) := dk_42 (dk_at dksX0_foretold_0 21 rfl rfl)
theorem dX0_foretold_22 : decode cX0_foretold 22 = .ok (.getfield 21, 3) := dk_180 0 21 (dk_at dksX0_foretold_1 0 rfl rfl)
theorem dX0_foretold_25 : decode cX0_foretold 25 = .ok (.getfield 205, 3) := dk_180 0 205 (dk_at dksX0_foretold_1 3 rfl rfl)
theorem dX0_foretold_28 : decode cX0_foretold 28 = .ok (.aload_n 0, 1) := dk_42 (dk_at dksX0_foretold_1 6 rfl rfl)
theorem dX0_foretold_29 : decode cX0_foretold 29 = .ok (.getfield 43, 3) := dk_180 0 43 (dk_at dksX0_foretold_1 7 rfl rfl)
theorem dX0_foretold_32 : decode cX0_foretold 32 = .ok (.invokestatic 305, 3) := dk_184 1 49 (dk_at dksX0_foretold_1 10 rfl rfl)
theorem dX0_foretold_35 : decode cX0_foretold 35 = .ok (.aload_n 0, 1) := dk_42 (dk_at dksX0_foretold_1 13 rfl rfl)
theorem dX0_foretold_36 : decode cX0_foretold 36 = .ok (.iload_n 1, 1) := dk_27 (dk_at dksX0_foretold_1 14 rfl rfl)
theorem dX0_foretold_37 : decode cX0_foretold 37 = .ok (.invokevirtual 309, 3) := dk_182 1 53 (dk_at dksX0_foretold_1 15 rfl rfl)
theorem dX0_foretold_40 : decode cX0_foretold 40 = .ok (.istore_n 3, 1) := dk_62 (dk_at dksX0_foretold_1 18 rfl rfl)
theorem dX0_foretold_41 : decode cX0_foretold 41 = .ok (.aload_n 0, 1) := dk_42 (dk_at dksX0_foretold_1 19 rfl rfl)
theorem dX0_foretold_42 : decode cX0_foretold 42 = .ok (.getfield 43, 3) := dk_180 0 43 (dk_at dksX0_foretold_1 20 rfl rfl)
theorem dX0_foretold_45 : decode cX0_foretold 45 = .ok (.iload_n 2, 1) := dk_28 (dk_at dksX0_foretold_1 23 rfl rfl)
theorem dX0_foretold_46 : decode cX0_foretold 46 = .ok (.iaload, 1) := dk_46 (dk_at dksX0_foretold_2 0 rfl rfl)
theorem dX0_foretold_47 : decode cX0_foretold 47 = .ok (.ireturn, 1) := dk_172 (dk_at dksX0_foretold_2 1 rfl rfl)
abbrev cX0_goes : ByteArray := prog_1_method_49_code
def yX0_goes : MethodName := ⟨RX0, "goes", "(I)Z"⟩
def dkwX0_goes_1 : List UInt8 := [180, 0, 43, 182, 0, 211, 62, 132, 2, 1, 167, 255, 225, 4, 172]
abbrev dktX0_goes_1 : List UInt8 := dkwX0_goes_1 ++ []
def dkwX0_goes_0 : List UInt8 := [3, 61, 28, 27, 162, 0, 32, 42, 180, 0, 43, 6, 46, 17, 39, 15, 160, 0, 5, 3, 172, 42, 42]
abbrev dktX0_goes_0 : List UInt8 := dkwX0_goes_0 ++ dktX0_goes_1
theorem dksX0_goes_0 : cX0_goes.data.toList.drop 0 = dktX0_goes_0 := by decide +kernel
theorem dksX0_goes_1 : cX0_goes.data.toList.drop 23 = dktX0_goes_1 := dk_seg dksX0_goes_0 23 rfl rfl
theorem dX0_goes_0 : decode cX0_goes 0 = .ok (.iconst 0, 1) := dk_3 (dk_at dksX0_goes_0 0 rfl rfl)
theorem dX0_goes_1 : decode cX0_goes 1 = .ok (.istore_n 2, 1) := dk_61 (dk_at dksX0_goes_0 1 rfl rfl)
theorem dX0_goes_2 : decode cX0_goes 2 = .ok (.iload_n 2, 1) := dk_28 (dk_at dksX0_goes_0 2 rfl rfl)
theorem dX0_goes_3 : decode cX0_goes 3 = .ok (.iload_n 1, 1) := dk_27 (dk_at dksX0_goes_0 3 rfl rfl)
theorem dX0_goes_4 : decode cX0_goes 4 = .ok (.if_icmp .ge 32, 3) := dk_162 0 32 (dk_at dksX0_goes_0 4 rfl rfl)
theorem dX0_goes_7 : decode cX0_goes 7 = .ok (.aload_n 0, 1) := dk_42 (dk_at dksX0_goes_0 7 rfl rfl)
theorem dX0_goes_8 : decode cX0_goes 8 = .ok (.getfield 43, 3) := dk_180 0 43 (dk_at dksX0_goes_0 8 rfl rfl)
theorem dX0_goes_11 : decode cX0_goes 11 = .ok (.iconst 3, 1) := dk_6 (dk_at dksX0_goes_0 11 rfl rfl)
theorem dX0_goes_12 : decode cX0_goes 12 = .ok (.iaload, 1) := dk_46 (dk_at dksX0_goes_0 12 rfl rfl)
theorem dX0_goes_13 : decode cX0_goes 13 = .ok (.sipush 9999, 3) := dk_17 39 15 (dk_at dksX0_goes_0 13 rfl rfl)
theorem dX0_goes_16 : decode cX0_goes 16 = .ok (.if_icmp .ne 5, 3) := dk_160 0 5 (dk_at dksX0_goes_0 16 rfl rfl)
theorem dX0_goes_19 : decode cX0_goes 19 = .ok (.iconst 0, 1) := dk_3 (dk_at dksX0_goes_0 19 rfl rfl)
theorem dX0_goes_20 : decode cX0_goes 20 = .ok (.ireturn, 1) := dk_172 (dk_at dksX0_goes_0 20 rfl rfl)
theorem dX0_goes_21 : decode cX0_goes 21 = .ok (.aload_n 0, 1) := dk_42 (dk_at dksX0_goes_0 21 rfl rfl)
theorem dX0_goes_22 : decode cX0_goes 22 = .ok (.aload_n 0, 1) := dk_42 (dk_at dksX0_goes_0 22 rfl rfl)
theorem dX0_goes_23 : decode cX0_goes 23 = .ok (.getfield 43, 3) := dk_180 0 43 (dk_at dksX0_goes_1 0 rfl rfl)
theorem dX0_goes_26 : decode cX0_goes 26 = .ok (.invokevirtual 211, 3) := dk_182 0 211 (dk_at dksX0_goes_1 3 rfl rfl)
theorem dX0_goes_29 : decode cX0_goes 29 = .ok (.istore_n 3, 1) := dk_62 (dk_at dksX0_goes_1 6 rfl rfl)
theorem dX0_goes_30 : decode cX0_goes 30 = .ok (.iinc 2 1, 3) := dk_132 2 1 (dk_at dksX0_goes_1 7 rfl rfl)
theorem dX0_goes_33 : decode cX0_goes 33 = .ok (.goto (-31), 3) := dk_167 255 225 (dk_at dksX0_goes_1 10 rfl rfl)
theorem dX0_goes_36 : decode cX0_goes 36 = .ok (.iconst 1, 1) := dk_4 (dk_at dksX0_goes_1 13 rfl rfl)
theorem dX0_goes_37 : decode cX0_goes 37 = .ok (.ireturn, 1) := dk_172 (dk_at dksX0_goes_1 14 rfl rfl)
abbrev cX0_ends : ByteArray := prog_1_method_53_code
def yX0_ends : MethodName := ⟨RX0, "ends", "(IIII)I"⟩
def dkwX0_ends_4 : List UInt8 := [180, 0, 43, 16, 17, 27, 96, 46, 172]
abbrev dktX0_ends_4 : List UInt8 := dkwX0_ends_4 ++ []
def dkwX0_ends_3 : List UInt8 := [167, 0, 32, 21, 4, 4, 160, 0, 17, 42, 180, 0, 43, 16, 9, 27, 96, 46, 5, 100, 167, 0, 12, 42]
abbrev dktX0_ends_3 : List UInt8 := dkwX0_ends_3 ++ dktX0_ends_4
def dkwX0_ends_2 : List UInt8 := [172, 21, 4, 154, 0, 22, 42, 180, 0, 43, 6, 46, 42, 180, 0, 21, 180, 0, 205, 6, 46, 100]
abbrev dktX0_ends_2 : List UInt8 := dkwX0_ends_2 ++ dktX0_ends_3
def dkwX0_ends_1 : List UInt8 := [153, 0, 23, 21, 4, 3, 5, 184, 0, 67, 153, 0, 13, 42, 27, 28, 29, 182, 1, 59, 154, 0, 5, 2]
abbrev dktX0_ends_1 : List UInt8 := dkwX0_ends_1 ++ dktX0_ends_2
def dkwX0_ends_0 : List UInt8 := [42, 27, 182, 0, 217, 153, 0, 42, 28, 3, 16, 20, 184, 0, 67, 153, 0, 32, 29, 3, 6, 184, 0, 67]
abbrev dktX0_ends_0 : List UInt8 := dkwX0_ends_0 ++ dktX0_ends_1
theorem dksX0_ends_0 : cX0_ends.data.toList.drop 0 = dktX0_ends_0 := by decide +kernel
theorem dksX0_ends_1 : cX0_ends.data.toList.drop 24 = dktX0_ends_1 := dk_seg dksX0_ends_0 24 rfl rfl
theorem dksX0_ends_2 : cX0_ends.data.toList.drop 48 = dktX0_ends_2 := dk_seg dksX0_ends_1 24 rfl rfl
theorem dksX0_ends_3 : cX0_ends.data.toList.drop 70 = dktX0_ends_3 := dk_seg dksX0_ends_2 22 rfl rfl
theorem dksX0_ends_4 : cX0_ends.data.toList.drop 94 = dktX0_ends_4 := dk_seg dksX0_ends_3 24 rfl rfl
theorem dX0_ends_0 : decode cX0_ends 0 = .ok (.aload_n 0, 1) := dk_42 (dk_at dksX0_ends_0 0 rfl rfl)
theorem dX0_ends_1 : decode cX0_ends 1 = .ok (.iload_n 1, 1) := dk_27 (dk_at dksX0_ends_0 1 rfl rfl)
theorem dX0_ends_2 : decode cX0_ends 2 = .ok (.invokevirtual 217, 3) := dk_182 0 217 (dk_at dksX0_ends_0 2 rfl rfl)
theorem dX0_ends_5 : decode cX0_ends 5 = .ok (.ifCond .eq 42, 3) := dk_153 0 42 (dk_at dksX0_ends_0 5 rfl rfl)
theorem dX0_ends_8 : decode cX0_ends 8 = .ok (.iload_n 2, 1) := dk_28 (dk_at dksX0_ends_0 8 rfl rfl)
theorem dX0_ends_9 : decode cX0_ends 9 = .ok (.iconst 0, 1) := dk_3 (dk_at dksX0_ends_0 9 rfl rfl)
theorem dX0_ends_10 : decode cX0_ends 10 = .ok (.bipush 20, 2) := dk_16 20 (dk_at dksX0_ends_0 10 rfl rfl)
theorem dX0_ends_12 : decode cX0_ends 12 = .ok (.invokestatic 67, 3) := dk_184 0 67 (dk_at dksX0_ends_0 12 rfl rfl)
theorem dX0_ends_15 : decode cX0_ends 15 = .ok (.ifCond .eq 32, 3) := dk_153 0 32 (dk_at dksX0_ends_0 15 rfl rfl)
theorem dX0_ends_18 : decode cX0_ends 18 = .ok (.iload_n 3, 1) := dk_29 (dk_at dksX0_ends_0 18 rfl rfl)
theorem dX0_ends_19 : decode cX0_ends 19 = .ok (.iconst 0, 1) := dk_3 (dk_at dksX0_ends_0 19 rfl rfl)
theorem dX0_ends_20 : decode cX0_ends 20 = .ok (.iconst 3, 1) := dk_6 (dk_at dksX0_ends_0 20 rfl rfl)
theorem dX0_ends_21 : decode cX0_ends 21 = .ok (.invokestatic 67, 3) := dk_184 0 67 (dk_at dksX0_ends_0 21 rfl rfl)
theorem dX0_ends_24 : decode cX0_ends 24 = .ok (.ifCond .eq 23, 3) := dk_153 0 23 (dk_at dksX0_ends_1 0 rfl rfl)
theorem dX0_ends_27 : decode cX0_ends 27 = .ok (.iload 4, 2) := dk_21 4 (dk_at dksX0_ends_1 3 rfl rfl)
theorem dX0_ends_29 : decode cX0_ends 29 = .ok (.iconst 0, 1) := dk_3 (dk_at dksX0_ends_1 5 rfl rfl)
theorem dX0_ends_30 : decode cX0_ends 30 = .ok (.iconst 2, 1) := dk_5 (dk_at dksX0_ends_1 6 rfl rfl)
theorem dX0_ends_31 : decode cX0_ends 31 = .ok (.invokestatic 67, 3) := dk_184 0 67 (dk_at dksX0_ends_1 7 rfl rfl)
theorem dX0_ends_34 : decode cX0_ends 34 = .ok (.ifCond .eq 13, 3) := dk_153 0 13 (dk_at dksX0_ends_1 10 rfl rfl)
theorem dX0_ends_37 : decode cX0_ends 37 = .ok (.aload_n 0, 1) := dk_42 (dk_at dksX0_ends_1 13 rfl rfl)
theorem dX0_ends_38 : decode cX0_ends 38 = .ok (.iload_n 1, 1) := dk_27 (dk_at dksX0_ends_1 14 rfl rfl)
theorem dX0_ends_39 : decode cX0_ends 39 = .ok (.iload_n 2, 1) := dk_28 (dk_at dksX0_ends_1 15 rfl rfl)
theorem dX0_ends_40 : decode cX0_ends 40 = .ok (.iload_n 3, 1) := dk_29 (dk_at dksX0_ends_1 16 rfl rfl)
theorem dX0_ends_41 : decode cX0_ends 41 = .ok (.invokevirtual 315, 3) := dk_182 1 59 (dk_at dksX0_ends_1 17 rfl rfl)
theorem dX0_ends_44 : decode cX0_ends 44 = .ok (.ifCond .ne 5, 3) := dk_154 0 5 (dk_at dksX0_ends_1 20 rfl rfl)
theorem dX0_ends_47 : decode cX0_ends 47 = .ok (.iconst (-1), 1) := dk_2 (dk_at dksX0_ends_1 23 rfl rfl)
theorem dX0_ends_48 : decode cX0_ends 48 = .ok (.ireturn, 1) := dk_172 (dk_at dksX0_ends_2 0 rfl rfl)
theorem dX0_ends_49 : decode cX0_ends 49 = .ok (.iload 4, 2) := dk_21 4 (dk_at dksX0_ends_2 1 rfl rfl)
theorem dX0_ends_51 : decode cX0_ends 51 = .ok (.ifCond .ne 22, 3) := dk_154 0 22 (dk_at dksX0_ends_2 3 rfl rfl)
theorem dX0_ends_54 : decode cX0_ends 54 = .ok (.aload_n 0, 1) := dk_42 (dk_at dksX0_ends_2 6 rfl rfl)
theorem dX0_ends_55 : decode cX0_ends 55 = .ok (.getfield 43, 3) := dk_180 0 43 (dk_at dksX0_ends_2 7 rfl rfl)
theorem dX0_ends_58 : decode cX0_ends 58 = .ok (.iconst 3, 1) := dk_6 (dk_at dksX0_ends_2 10 rfl rfl)
theorem dX0_ends_59 : decode cX0_ends 59 = .ok (.iaload, 1) := dk_46 (dk_at dksX0_ends_2 11 rfl rfl)
theorem dX0_ends_60 : decode cX0_ends 60 = .ok (.aload_n 0, 1) := dk_42 (dk_at dksX0_ends_2 12 rfl rfl)
theorem dX0_ends_61 : decode cX0_ends 61 = .ok (.getfield 21, 3) := dk_180 0 21 (dk_at dksX0_ends_2 13 rfl rfl)
theorem dX0_ends_64 : decode cX0_ends 64 = .ok (.getfield 205, 3) := dk_180 0 205 (dk_at dksX0_ends_2 16 rfl rfl)
theorem dX0_ends_67 : decode cX0_ends 67 = .ok (.iconst 3, 1) := dk_6 (dk_at dksX0_ends_2 19 rfl rfl)
theorem dX0_ends_68 : decode cX0_ends 68 = .ok (.iaload, 1) := dk_46 (dk_at dksX0_ends_2 20 rfl rfl)
theorem dX0_ends_69 : decode cX0_ends 69 = .ok (.isub, 1) := dk_100 (dk_at dksX0_ends_2 21 rfl rfl)
theorem dX0_ends_70 : decode cX0_ends 70 = .ok (.goto 32, 3) := dk_167 0 32 (dk_at dksX0_ends_3 0 rfl rfl)
theorem dX0_ends_73 : decode cX0_ends 73 = .ok (.iload 4, 2) := dk_21 4 (dk_at dksX0_ends_3 3 rfl rfl)
theorem dX0_ends_75 : decode cX0_ends 75 = .ok (.iconst 1, 1) := dk_4 (dk_at dksX0_ends_3 5 rfl rfl)
theorem dX0_ends_76 : decode cX0_ends 76 = .ok (.if_icmp .ne 17, 3) := dk_160 0 17 (dk_at dksX0_ends_3 6 rfl rfl)
theorem dX0_ends_79 : decode cX0_ends 79 = .ok (.aload_n 0, 1) := dk_42 (dk_at dksX0_ends_3 9 rfl rfl)
theorem dX0_ends_80 : decode cX0_ends 80 = .ok (.getfield 43, 3) := dk_180 0 43 (dk_at dksX0_ends_3 10 rfl rfl)
theorem dX0_ends_83 : decode cX0_ends 83 = .ok (.bipush 9, 2) := dk_16 9 (dk_at dksX0_ends_3 13 rfl rfl)
theorem dX0_ends_85 : decode cX0_ends 85 = .ok (.iload_n 1, 1) := dk_27 (dk_at dksX0_ends_3 15 rfl rfl)
theorem dX0_ends_86 : decode cX0_ends 86 = .ok (.iadd, 1) := dk_96 (dk_at dksX0_ends_3 16 rfl rfl)
theorem dX0_ends_87 : decode cX0_ends 87 = .ok (.iaload, 1) := dk_46 (dk_at dksX0_ends_3 17 rfl rfl)
theorem dX0_ends_88 : decode cX0_ends 88 = .ok (.iconst 2, 1) := dk_5 (dk_at dksX0_ends_3 18 rfl rfl)
theorem dX0_ends_89 : decode cX0_ends 89 = .ok (.isub, 1) := dk_100 (dk_at dksX0_ends_3 19 rfl rfl)
theorem dX0_ends_90 : decode cX0_ends 90 = .ok (.goto 12, 3) := dk_167 0 12 (dk_at dksX0_ends_3 20 rfl rfl)
theorem dX0_ends_93 : decode cX0_ends 93 = .ok (.aload_n 0, 1) := dk_42 (dk_at dksX0_ends_3 23 rfl rfl)
theorem dX0_ends_94 : decode cX0_ends 94 = .ok (.getfield 43, 3) := dk_180 0 43 (dk_at dksX0_ends_4 0 rfl rfl)
theorem dX0_ends_97 : decode cX0_ends 97 = .ok (.bipush 17, 2) := dk_16 17 (dk_at dksX0_ends_4 3 rfl rfl)
theorem dX0_ends_99 : decode cX0_ends 99 = .ok (.iload_n 1, 1) := dk_27 (dk_at dksX0_ends_4 5 rfl rfl)
theorem dX0_ends_100 : decode cX0_ends 100 = .ok (.iadd, 1) := dk_96 (dk_at dksX0_ends_4 6 rfl rfl)
theorem dX0_ends_101 : decode cX0_ends 101 = .ok (.iaload, 1) := dk_46 (dk_at dksX0_ends_4 7 rfl rfl)
theorem dX0_ends_102 : decode cX0_ends 102 = .ok (.ireturn, 1) := dk_172 (dk_at dksX0_ends_4 8 rfl rfl)
abbrev cX0_endsIn : ByteArray := prog_1_method_52_code
def yX0_endsIn : MethodName := ⟨RX0, "endsIn", "(III)Z"⟩
def dkwX0_endsIn_1 : List UInt8 := [29, 182, 1, 56, 153, 0, 7, 4, 167, 0, 4, 3, 172]
abbrev dktX0_endsIn_1 : List UInt8 := dkwX0_endsIn_1 ++ []
def dkwX0_endsIn_0 : List UInt8 := [42, 180, 0, 21, 180, 0, 205, 42, 180, 0, 43, 184, 1, 49, 42, 28, 182, 1, 53, 153, 0, 16, 42, 27]
abbrev dktX0_endsIn_0 : List UInt8 := dkwX0_endsIn_0 ++ dktX0_endsIn_1
theorem dksX0_endsIn_0 : cX0_endsIn.data.toList.drop 0 = dktX0_endsIn_0 := by decide +kernel
theorem dksX0_endsIn_1 : cX0_endsIn.data.toList.drop 24 = dktX0_endsIn_1 := dk_seg dksX0_endsIn_0 24 rfl rfl
theorem dX0_endsIn_0 : decode cX0_endsIn 0 = .ok (.aload_n 0, 1) := dk_42 (dk_at dksX0_endsIn_0 0 rfl rfl)
theorem dX0_endsIn_1 : decode cX0_endsIn 1 = .ok (.getfield 21, 3) := dk_180 0 21 (dk_at dksX0_endsIn_0 1 rfl rfl)
theorem dX0_endsIn_4 : decode cX0_endsIn 4 = .ok (.getfield 205, 3) := dk_180 0 205 (dk_at dksX0_endsIn_0 4 rfl rfl)
theorem dX0_endsIn_7 : decode cX0_endsIn 7 = .ok (.aload_n 0, 1) := dk_42 (dk_at dksX0_endsIn_0 7 rfl rfl)
theorem dX0_endsIn_8 : decode cX0_endsIn 8 = .ok (.getfield 43, 3) := dk_180 0 43 (dk_at dksX0_endsIn_0 8 rfl rfl)
theorem dX0_endsIn_11 : decode cX0_endsIn 11 = .ok (.invokestatic 305, 3) := dk_184 1 49 (dk_at dksX0_endsIn_0 11 rfl rfl)
theorem dX0_endsIn_14 : decode cX0_endsIn 14 = .ok (.aload_n 0, 1) := dk_42 (dk_at dksX0_endsIn_0 14 rfl rfl)
theorem dX0_endsIn_15 : decode cX0_endsIn 15 = .ok (.iload_n 2, 1) := dk_28 (dk_at dksX0_endsIn_0 15 rfl rfl)
theorem dX0_endsIn_16 : decode cX0_endsIn 16 = .ok (.invokevirtual 309, 3) := dk_182 1 53 (dk_at dksX0_endsIn_0 16 rfl rfl)
theorem dX0_endsIn_19 : decode cX0_endsIn 19 = .ok (.ifCond .eq 16, 3) := dk_153 0 16 (dk_at dksX0_endsIn_0 19 rfl rfl)
theorem dX0_endsIn_22 : decode cX0_endsIn 22 = .ok (.aload_n 0, 1) := dk_42 (dk_at dksX0_endsIn_0 22 rfl rfl)
theorem dX0_endsIn_23 : decode cX0_endsIn 23 = .ok (.iload_n 1, 1) := dk_27 (dk_at dksX0_endsIn_0 23 rfl rfl)
theorem dX0_endsIn_24 : decode cX0_endsIn 24 = .ok (.iload_n 3, 1) := dk_29 (dk_at dksX0_endsIn_1 0 rfl rfl)
theorem dX0_endsIn_25 : decode cX0_endsIn 25 = .ok (.invokevirtual 312, 3) := dk_182 1 56 (dk_at dksX0_endsIn_1 1 rfl rfl)
theorem dX0_endsIn_28 : decode cX0_endsIn 28 = .ok (.ifCond .eq 7, 3) := dk_153 0 7 (dk_at dksX0_endsIn_1 4 rfl rfl)
theorem dX0_endsIn_31 : decode cX0_endsIn 31 = .ok (.iconst 1, 1) := dk_4 (dk_at dksX0_endsIn_1 7 rfl rfl)
theorem dX0_endsIn_32 : decode cX0_endsIn 32 = .ok (.goto 4, 3) := dk_167 0 4 (dk_at dksX0_endsIn_1 8 rfl rfl)
theorem dX0_endsIn_35 : decode cX0_endsIn 35 = .ok (.iconst 0, 1) := dk_3 (dk_at dksX0_endsIn_1 11 rfl rfl)
theorem dX0_endsIn_36 : decode cX0_endsIn 36 = .ok (.ireturn, 1) := dk_172 (dk_at dksX0_endsIn_1 12 rfl rfl)
abbrev cX0_endsTried : ByteArray := prog_1_method_51_code
def yX0_endsTried : MethodName := ⟨RX0, "endsTried", "(II)Z"⟩
def dkwX0_endsTried_1 : List UInt8 := [42, 180, 0, 21, 180, 0, 71, 27, 50, 5, 46, 28, 96, 182, 1, 53, 172]
abbrev dktX0_endsTried_1 : List UInt8 := dkwX0_endsTried_1 ++ []
def dkwX0_endsTried_0 : List UInt8 := [42, 180, 0, 43, 184, 0, 236, 42, 180, 0, 43, 27, 184, 0, 223, 42, 180, 0, 43, 16, 8, 28, 79, 42]
abbrev dktX0_endsTried_0 : List UInt8 := dkwX0_endsTried_0 ++ dktX0_endsTried_1
theorem dksX0_endsTried_0 : cX0_endsTried.data.toList.drop 0 = dktX0_endsTried_0 := by decide +kernel
theorem dksX0_endsTried_1 : cX0_endsTried.data.toList.drop 24 = dktX0_endsTried_1 := dk_seg dksX0_endsTried_0 24 rfl rfl
theorem dX0_endsTried_0 : decode cX0_endsTried 0 = .ok (.aload_n 0, 1) := dk_42 (dk_at dksX0_endsTried_0 0 rfl rfl)
theorem dX0_endsTried_1 : decode cX0_endsTried 1 = .ok (.getfield 43, 3) := dk_180 0 43 (dk_at dksX0_endsTried_0 1 rfl rfl)
theorem dX0_endsTried_4 : decode cX0_endsTried 4 = .ok (.invokestatic 236, 3) := dk_184 0 236 (dk_at dksX0_endsTried_0 4 rfl rfl)
theorem dX0_endsTried_7 : decode cX0_endsTried 7 = .ok (.aload_n 0, 1) := dk_42 (dk_at dksX0_endsTried_0 7 rfl rfl)
theorem dX0_endsTried_8 : decode cX0_endsTried 8 = .ok (.getfield 43, 3) := dk_180 0 43 (dk_at dksX0_endsTried_0 8 rfl rfl)
theorem dX0_endsTried_11 : decode cX0_endsTried 11 = .ok (.iload_n 1, 1) := dk_27 (dk_at dksX0_endsTried_0 11 rfl rfl)
theorem dX0_endsTried_12 : decode cX0_endsTried 12 = .ok (.invokestatic 223, 3) := dk_184 0 223 (dk_at dksX0_endsTried_0 12 rfl rfl)
theorem dX0_endsTried_15 : decode cX0_endsTried 15 = .ok (.aload_n 0, 1) := dk_42 (dk_at dksX0_endsTried_0 15 rfl rfl)
theorem dX0_endsTried_16 : decode cX0_endsTried 16 = .ok (.getfield 43, 3) := dk_180 0 43 (dk_at dksX0_endsTried_0 16 rfl rfl)
theorem dX0_endsTried_19 : decode cX0_endsTried 19 = .ok (.bipush 8, 2) := dk_16 8 (dk_at dksX0_endsTried_0 19 rfl rfl)
theorem dX0_endsTried_21 : decode cX0_endsTried 21 = .ok (.iload_n 2, 1) := dk_28 (dk_at dksX0_endsTried_0 21 rfl rfl)
theorem dX0_endsTried_22 : decode cX0_endsTried 22 = .ok (.iastore, 1) := dk_79 (dk_at dksX0_endsTried_0 22 rfl rfl)
theorem dX0_endsTried_23 : decode cX0_endsTried 23 = .ok (.aload_n 0, 1) := dk_42 (dk_at dksX0_endsTried_0 23 rfl rfl)
theorem dX0_endsTried_24 : decode cX0_endsTried 24 = .ok (.aload_n 0, 1) := dk_42 (dk_at dksX0_endsTried_1 0 rfl rfl)
theorem dX0_endsTried_25 : decode cX0_endsTried 25 = .ok (.getfield 21, 3) := dk_180 0 21 (dk_at dksX0_endsTried_1 1 rfl rfl)
theorem dX0_endsTried_28 : decode cX0_endsTried 28 = .ok (.getfield 71, 3) := dk_180 0 71 (dk_at dksX0_endsTried_1 4 rfl rfl)
theorem dX0_endsTried_31 : decode cX0_endsTried 31 = .ok (.iload_n 1, 1) := dk_27 (dk_at dksX0_endsTried_1 7 rfl rfl)
theorem dX0_endsTried_32 : decode cX0_endsTried 32 = .ok (.aaload, 1) := dk_50 (dk_at dksX0_endsTried_1 8 rfl rfl)
theorem dX0_endsTried_33 : decode cX0_endsTried 33 = .ok (.iconst 2, 1) := dk_5 (dk_at dksX0_endsTried_1 9 rfl rfl)
theorem dX0_endsTried_34 : decode cX0_endsTried 34 = .ok (.iaload, 1) := dk_46 (dk_at dksX0_endsTried_1 10 rfl rfl)
theorem dX0_endsTried_35 : decode cX0_endsTried 35 = .ok (.iload_n 2, 1) := dk_28 (dk_at dksX0_endsTried_1 11 rfl rfl)
theorem dX0_endsTried_36 : decode cX0_endsTried 36 = .ok (.iadd, 1) := dk_96 (dk_at dksX0_endsTried_1 12 rfl rfl)
theorem dX0_endsTried_37 : decode cX0_endsTried 37 = .ok (.invokevirtual 309, 3) := dk_182 1 53 (dk_at dksX0_endsTried_1 13 rfl rfl)
theorem dX0_endsTried_40 : decode cX0_endsTried 40 = .ok (.ireturn, 1) := dk_172 (dk_at dksX0_endsTried_1 16 rfl rfl)
abbrev cX0_best : ByteArray := prog_1_method_54_code
def yX0_best : MethodName := ⟨RX0, "best", "(IZI)I"⟩
def dkwX0_best_6 : List UInt8 := [132, 5, 1, 167, 255, 148, 2, 172]
abbrev dktX0_best_6 : List UInt8 := dkwX0_best_6 ++ []
def dkwX0_best_5 : List UInt8 := [21, 7, 167, 0, 15, 29, 4, 160, 0, 8, 21, 6, 167, 0, 5, 21, 5, 172, 132, 6, 255, 167, 255, 169]
abbrev dktX0_best_5 : List UInt8 := dkwX0_best_5 ++ dktX0_best_6
def dkwX0_best_4 : List UInt8 := [16, 9, 27, 96, 46, 28, 153, 0, 7, 6, 167, 0, 4, 5, 159, 0, 6, 167, 0, 25, 29, 154, 0, 8]
abbrev dktX0_best_4 : List UInt8 := dkwX0_best_4 ++ dktX0_best_5
def dkwX0_best_3 : List UInt8 := [16, 20, 184, 0, 67, 153, 0, 61, 42, 27, 21, 7, 21, 6, 182, 1, 59, 153, 0, 49, 42, 180, 0, 43]
abbrev dktX0_best_3 : List UInt8 := dkwX0_best_3 ++ dktX0_best_4
def dkwX0_best_2 : List UInt8 := [163, 0, 102, 6, 54, 6, 21, 6, 155, 0, 88, 21, 5, 21, 4, 100, 21, 6, 100, 54, 7, 21, 7, 3]
abbrev dktX0_best_2 : List UInt8 := dkwX0_best_2 ++ dktX0_best_3
def dkwX0_best_1 : List UInt8 := [180, 0, 71, 27, 50, 5, 46, 54, 4, 21, 4, 54, 5, 21, 5, 16, 20, 21, 4, 96, 6, 96]
abbrev dktX0_best_1 : List UInt8 := dkwX0_best_1 ++ dktX0_best_2
def dkwX0_best_0 : List UInt8 := [42, 27, 182, 0, 217, 153, 0, 12, 29, 3, 5, 184, 0, 67, 154, 0, 5, 2, 172, 42, 180, 0, 21]
abbrev dktX0_best_0 : List UInt8 := dkwX0_best_0 ++ dktX0_best_1
theorem dksX0_best_0 : cX0_best.data.toList.drop 0 = dktX0_best_0 := by decide +kernel
theorem dksX0_best_1 : cX0_best.data.toList.drop 23 = dktX0_best_1 := dk_seg dksX0_best_0 23 rfl rfl
theorem dksX0_best_2 : cX0_best.data.toList.drop 45 = dktX0_best_2 := dk_seg dksX0_best_1 22 rfl rfl
theorem dksX0_best_3 : cX0_best.data.toList.drop 69 = dktX0_best_3 := dk_seg dksX0_best_2 24 rfl rfl
theorem dksX0_best_4 : cX0_best.data.toList.drop 93 = dktX0_best_4 := dk_seg dksX0_best_3 24 rfl rfl
theorem dksX0_best_5 : cX0_best.data.toList.drop 117 = dktX0_best_5 := dk_seg dksX0_best_4 24 rfl rfl
theorem dksX0_best_6 : cX0_best.data.toList.drop 141 = dktX0_best_6 := dk_seg dksX0_best_5 24 rfl rfl
theorem dX0_best_0 : decode cX0_best 0 = .ok (.aload_n 0, 1) := dk_42 (dk_at dksX0_best_0 0 rfl rfl)
theorem dX0_best_1 : decode cX0_best 1 = .ok (.iload_n 1, 1) := dk_27 (dk_at dksX0_best_0 1 rfl rfl)
theorem dX0_best_2 : decode cX0_best 2 = .ok (.invokevirtual 217, 3) := dk_182 0 217 (dk_at dksX0_best_0 2 rfl rfl)
theorem dX0_best_5 : decode cX0_best 5 = .ok (.ifCond .eq 12, 3) := dk_153 0 12 (dk_at dksX0_best_0 5 rfl rfl)
theorem dX0_best_8 : decode cX0_best 8 = .ok (.iload_n 3, 1) := dk_29 (dk_at dksX0_best_0 8 rfl rfl)
theorem dX0_best_9 : decode cX0_best 9 = .ok (.iconst 0, 1) := dk_3 (dk_at dksX0_best_0 9 rfl rfl)
theorem dX0_best_10 : decode cX0_best 10 = .ok (.iconst 2, 1) := dk_5 (dk_at dksX0_best_0 10 rfl rfl)
theorem dX0_best_11 : decode cX0_best 11 = .ok (.invokestatic 67, 3) := dk_184 0 67 (dk_at dksX0_best_0 11 rfl rfl)
theorem dX0_best_14 : decode cX0_best 14 = .ok (.ifCond .ne 5, 3) := dk_154 0 5 (dk_at dksX0_best_0 14 rfl rfl)
theorem dX0_best_17 : decode cX0_best 17 = .ok (.iconst (-1), 1) := dk_2 (dk_at dksX0_best_0 17 rfl rfl)
theorem dX0_best_18 : decode cX0_best 18 = .ok (.ireturn, 1) := dk_172 (dk_at dksX0_best_0 18 rfl rfl)
theorem dX0_best_19 : decode cX0_best 19 = .ok (.aload_n 0, 1) := dk_42 (dk_at dksX0_best_0 19 rfl rfl)
theorem dX0_best_20 : decode cX0_best 20 = .ok (.getfield 21, 3) := dk_180 0 21 (dk_at dksX0_best_0 20 rfl rfl)
theorem dX0_best_23 : decode cX0_best 23 = .ok (.getfield 71, 3) := dk_180 0 71 (dk_at dksX0_best_1 0 rfl rfl)
theorem dX0_best_26 : decode cX0_best 26 = .ok (.iload_n 1, 1) := dk_27 (dk_at dksX0_best_1 3 rfl rfl)
theorem dX0_best_27 : decode cX0_best 27 = .ok (.aaload, 1) := dk_50 (dk_at dksX0_best_1 4 rfl rfl)
theorem dX0_best_28 : decode cX0_best 28 = .ok (.iconst 2, 1) := dk_5 (dk_at dksX0_best_1 5 rfl rfl)
theorem dX0_best_29 : decode cX0_best 29 = .ok (.iaload, 1) := dk_46 (dk_at dksX0_best_1 6 rfl rfl)
theorem dX0_best_30 : decode cX0_best 30 = .ok (.istore 4, 2) := dk_54 4 (dk_at dksX0_best_1 7 rfl rfl)
theorem dX0_best_32 : decode cX0_best 32 = .ok (.iload 4, 2) := dk_21 4 (dk_at dksX0_best_1 9 rfl rfl)
theorem dX0_best_34 : decode cX0_best 34 = .ok (.istore 5, 2) := dk_54 5 (dk_at dksX0_best_1 11 rfl rfl)
theorem dX0_best_36 : decode cX0_best 36 = .ok (.iload 5, 2) := dk_21 5 (dk_at dksX0_best_1 13 rfl rfl)
theorem dX0_best_38 : decode cX0_best 38 = .ok (.bipush 20, 2) := dk_16 20 (dk_at dksX0_best_1 15 rfl rfl)
theorem dX0_best_40 : decode cX0_best 40 = .ok (.iload 4, 2) := dk_21 4 (dk_at dksX0_best_1 17 rfl rfl)
theorem dX0_best_42 : decode cX0_best 42 = .ok (.iadd, 1) := dk_96 (dk_at dksX0_best_1 19 rfl rfl)
theorem dX0_best_43 : decode cX0_best 43 = .ok (.iconst 3, 1) := dk_6 (dk_at dksX0_best_1 20 rfl rfl)
theorem dX0_best_44 : decode cX0_best 44 = .ok (.iadd, 1) := dk_96 (dk_at dksX0_best_1 21 rfl rfl)
theorem dX0_best_45 : decode cX0_best 45 = .ok (.if_icmp .gt 102, 3) := dk_163 0 102 (dk_at dksX0_best_2 0 rfl rfl)
theorem dX0_best_48 : decode cX0_best 48 = .ok (.iconst 3, 1) := dk_6 (dk_at dksX0_best_2 3 rfl rfl)
theorem dX0_best_49 : decode cX0_best 49 = .ok (.istore 6, 2) := dk_54 6 (dk_at dksX0_best_2 4 rfl rfl)
theorem dX0_best_51 : decode cX0_best 51 = .ok (.iload 6, 2) := dk_21 6 (dk_at dksX0_best_2 6 rfl rfl)
theorem dX0_best_53 : decode cX0_best 53 = .ok (.ifCond .lt 88, 3) := dk_155 0 88 (dk_at dksX0_best_2 8 rfl rfl)
theorem dX0_best_56 : decode cX0_best 56 = .ok (.iload 5, 2) := dk_21 5 (dk_at dksX0_best_2 11 rfl rfl)
theorem dX0_best_58 : decode cX0_best 58 = .ok (.iload 4, 2) := dk_21 4 (dk_at dksX0_best_2 13 rfl rfl)
theorem dX0_best_60 : decode cX0_best 60 = .ok (.isub, 1) := dk_100 (dk_at dksX0_best_2 15 rfl rfl)
theorem dX0_best_61 : decode cX0_best 61 = .ok (.iload 6, 2) := dk_21 6 (dk_at dksX0_best_2 16 rfl rfl)
theorem dX0_best_63 : decode cX0_best 63 = .ok (.isub, 1) := dk_100 (dk_at dksX0_best_2 18 rfl rfl)
theorem dX0_best_64 : decode cX0_best 64 = .ok (.istore 7, 2) := dk_54 7 (dk_at dksX0_best_2 19 rfl rfl)
theorem dX0_best_66 : decode cX0_best 66 = .ok (.iload 7, 2) := dk_21 7 (dk_at dksX0_best_2 21 rfl rfl)
theorem dX0_best_68 : decode cX0_best 68 = .ok (.iconst 0, 1) := dk_3 (dk_at dksX0_best_2 23 rfl rfl)
theorem dX0_best_69 : decode cX0_best 69 = .ok (.bipush 20, 2) := dk_16 20 (dk_at dksX0_best_3 0 rfl rfl)
theorem dX0_best_71 : decode cX0_best 71 = .ok (.invokestatic 67, 3) := dk_184 0 67 (dk_at dksX0_best_3 2 rfl rfl)
theorem dX0_best_74 : decode cX0_best 74 = .ok (.ifCond .eq 61, 3) := dk_153 0 61 (dk_at dksX0_best_3 5 rfl rfl)
theorem dX0_best_77 : decode cX0_best 77 = .ok (.aload_n 0, 1) := dk_42 (dk_at dksX0_best_3 8 rfl rfl)
theorem dX0_best_78 : decode cX0_best 78 = .ok (.iload_n 1, 1) := dk_27 (dk_at dksX0_best_3 9 rfl rfl)
theorem dX0_best_79 : decode cX0_best 79 = .ok (.iload 7, 2) := dk_21 7 (dk_at dksX0_best_3 10 rfl rfl)
theorem dX0_best_81 : decode cX0_best 81 = .ok (.iload 6, 2) := dk_21 6 (dk_at dksX0_best_3 12 rfl rfl)
theorem dX0_best_83 : decode cX0_best 83 = .ok (.invokevirtual 315, 3) := dk_182 1 59 (dk_at dksX0_best_3 14 rfl rfl)
theorem dX0_best_86 : decode cX0_best 86 = .ok (.ifCond .eq 49, 3) := dk_153 0 49 (dk_at dksX0_best_3 17 rfl rfl)
theorem dX0_best_89 : decode cX0_best 89 = .ok (.aload_n 0, 1) := dk_42 (dk_at dksX0_best_3 20 rfl rfl)
theorem dX0_best_90 : decode cX0_best 90 = .ok (.getfield 43, 3) := dk_180 0 43 (dk_at dksX0_best_3 21 rfl rfl)
theorem dX0_best_93 : decode cX0_best 93 = .ok (.bipush 9, 2) := dk_16 9 (dk_at dksX0_best_4 0 rfl rfl)
theorem dX0_best_95 : decode cX0_best 95 = .ok (.iload_n 1, 1) := dk_27 (dk_at dksX0_best_4 2 rfl rfl)
theorem dX0_best_96 : decode cX0_best 96 = .ok (.iadd, 1) := dk_96 (dk_at dksX0_best_4 3 rfl rfl)
theorem dX0_best_97 : decode cX0_best 97 = .ok (.iaload, 1) := dk_46 (dk_at dksX0_best_4 4 rfl rfl)
theorem dX0_best_98 : decode cX0_best 98 = .ok (.iload_n 2, 1) := dk_28 (dk_at dksX0_best_4 5 rfl rfl)
theorem dX0_best_99 : decode cX0_best 99 = .ok (.ifCond .eq 7, 3) := dk_153 0 7 (dk_at dksX0_best_4 6 rfl rfl)
theorem dX0_best_102 : decode cX0_best 102 = .ok (.iconst 3, 1) := dk_6 (dk_at dksX0_best_4 9 rfl rfl)
theorem dX0_best_103 : decode cX0_best 103 = .ok (.goto 4, 3) := dk_167 0 4 (dk_at dksX0_best_4 10 rfl rfl)
theorem dX0_best_106 : decode cX0_best 106 = .ok (.iconst 2, 1) := dk_5 (dk_at dksX0_best_4 13 rfl rfl)
theorem dX0_best_107 : decode cX0_best 107 = .ok (.if_icmp .eq 6, 3) := dk_159 0 6 (dk_at dksX0_best_4 14 rfl rfl)
theorem dX0_best_110 : decode cX0_best 110 = .ok (.goto 25, 3) := dk_167 0 25 (dk_at dksX0_best_4 17 rfl rfl)
theorem dX0_best_113 : decode cX0_best 113 = .ok (.iload_n 3, 1) := dk_29 (dk_at dksX0_best_4 20 rfl rfl)
theorem dX0_best_114 : decode cX0_best 114 = .ok (.ifCond .ne 8, 3) := dk_154 0 8 (dk_at dksX0_best_4 21 rfl rfl)
theorem dX0_best_117 : decode cX0_best 117 = .ok (.iload 7, 2) := dk_21 7 (dk_at dksX0_best_5 0 rfl rfl)
theorem dX0_best_119 : decode cX0_best 119 = .ok (.goto 15, 3) := dk_167 0 15 (dk_at dksX0_best_5 2 rfl rfl)
theorem dX0_best_122 : decode cX0_best 122 = .ok (.iload_n 3, 1) := dk_29 (dk_at dksX0_best_5 5 rfl rfl)
theorem dX0_best_123 : decode cX0_best 123 = .ok (.iconst 1, 1) := dk_4 (dk_at dksX0_best_5 6 rfl rfl)
theorem dX0_best_124 : decode cX0_best 124 = .ok (.if_icmp .ne 8, 3) := dk_160 0 8 (dk_at dksX0_best_5 7 rfl rfl)
theorem dX0_best_127 : decode cX0_best 127 = .ok (.iload 6, 2) := dk_21 6 (dk_at dksX0_best_5 10 rfl rfl)
theorem dX0_best_129 : decode cX0_best 129 = .ok (.goto 5, 3) := dk_167 0 5 (dk_at dksX0_best_5 12 rfl rfl)
theorem dX0_best_132 : decode cX0_best 132 = .ok (.iload 5, 2) := dk_21 5 (dk_at dksX0_best_5 15 rfl rfl)
theorem dX0_best_134 : decode cX0_best 134 = .ok (.ireturn, 1) := dk_172 (dk_at dksX0_best_5 17 rfl rfl)
theorem dX0_best_135 : decode cX0_best 135 = .ok (.iinc 6 (-1), 3) := dk_132 6 255 (dk_at dksX0_best_5 18 rfl rfl)
theorem dX0_best_138 : decode cX0_best 138 = .ok (.goto (-87), 3) := dk_167 255 169 (dk_at dksX0_best_5 21 rfl rfl)
theorem dX0_best_141 : decode cX0_best 141 = .ok (.iinc 5 1, 3) := dk_132 5 1 (dk_at dksX0_best_6 0 rfl rfl)
theorem dX0_best_144 : decode cX0_best 144 = .ok (.goto (-108), 3) := dk_167 255 148 (dk_at dksX0_best_6 3 rfl rfl)
theorem dX0_best_147 : decode cX0_best 147 = .ok (.iconst (-1), 1) := dk_2 (dk_at dksX0_best_6 6 rfl rfl)
theorem dX0_best_148 : decode cX0_best 148 = .ok (.ireturn, 1) := dk_172 (dk_at dksX0_best_6 7 rfl rfl)
abbrev cX0_harshest : ByteArray := prog_1_method_55_code
def yX0_harshest : MethodName := ⟨RX0, "harshest", "(I)I"⟩
def dkwX0_harshest_2 : List UInt8 := [27, 96, 46, 184, 1, 62, 61, 132, 4, 1, 167, 255, 222, 132, 3, 1, 167, 255, 207, 28, 172]
abbrev dktX0_harshest_2 : List UInt8 := dkwX0_harshest_2 ++ []
def dkwX0_harshest_1 : List UInt8 := [21, 4, 6, 163, 0, 34, 42, 27, 29, 21, 4, 182, 1, 59, 153, 0, 17, 28, 42, 180, 0, 43, 16, 17]
abbrev dktX0_harshest_1 : List UInt8 := dkwX0_harshest_1 ++ dktX0_harshest_2
def dkwX0_harshest_0 : List UInt8 := [42, 27, 182, 0, 217, 154, 0, 5, 2, 172, 3, 61, 3, 62, 29, 16, 20, 163, 0, 49, 3, 54, 4]
abbrev dktX0_harshest_0 : List UInt8 := dkwX0_harshest_0 ++ dktX0_harshest_1
theorem dksX0_harshest_0 : cX0_harshest.data.toList.drop 0 = dktX0_harshest_0 := by decide +kernel
theorem dksX0_harshest_1 : cX0_harshest.data.toList.drop 23 = dktX0_harshest_1 := dk_seg dksX0_harshest_0 23 rfl rfl
theorem dksX0_harshest_2 : cX0_harshest.data.toList.drop 47 = dktX0_harshest_2 := dk_seg dksX0_harshest_1 24 rfl rfl
theorem dX0_harshest_0 : decode cX0_harshest 0 = .ok (.aload_n 0, 1) := dk_42 (dk_at dksX0_harshest_0 0 rfl rfl)
theorem dX0_harshest_1 : decode cX0_harshest 1 = .ok (.iload_n 1, 1) := dk_27 (dk_at dksX0_harshest_0 1 rfl rfl)
theorem dX0_harshest_2 : decode cX0_harshest 2 = .ok (.invokevirtual 217, 3) := dk_182 0 217 (dk_at dksX0_harshest_0 2 rfl rfl)
theorem dX0_harshest_5 : decode cX0_harshest 5 = .ok (.ifCond .ne 5, 3) := dk_154 0 5 (dk_at dksX0_harshest_0 5 rfl rfl)
theorem dX0_harshest_8 : decode cX0_harshest 8 = .ok (.iconst (-1), 1) := dk_2 (dk_at dksX0_harshest_0 8 rfl rfl)
theorem dX0_harshest_9 : decode cX0_harshest 9 = .ok (.ireturn, 1) := dk_172 (dk_at dksX0_harshest_0 9 rfl rfl)
theorem dX0_harshest_10 : decode cX0_harshest 10 = .ok (.iconst 0, 1) := dk_3 (dk_at dksX0_harshest_0 10 rfl rfl)
theorem dX0_harshest_11 : decode cX0_harshest 11 = .ok (.istore_n 2, 1) := dk_61 (dk_at dksX0_harshest_0 11 rfl rfl)
theorem dX0_harshest_12 : decode cX0_harshest 12 = .ok (.iconst 0, 1) := dk_3 (dk_at dksX0_harshest_0 12 rfl rfl)
theorem dX0_harshest_13 : decode cX0_harshest 13 = .ok (.istore_n 3, 1) := dk_62 (dk_at dksX0_harshest_0 13 rfl rfl)
theorem dX0_harshest_14 : decode cX0_harshest 14 = .ok (.iload_n 3, 1) := dk_29 (dk_at dksX0_harshest_0 14 rfl rfl)
theorem dX0_harshest_15 : decode cX0_harshest 15 = .ok (.bipush 20, 2) := dk_16 20 (dk_at dksX0_harshest_0 15 rfl rfl)
theorem dX0_harshest_17 : decode cX0_harshest 17 = .ok (.if_icmp .gt 49, 3) := dk_163 0 49 (dk_at dksX0_harshest_0 17 rfl rfl)
theorem dX0_harshest_20 : decode cX0_harshest 20 = .ok (.iconst 0, 1) := dk_3 (dk_at dksX0_harshest_0 20 rfl rfl)
theorem dX0_harshest_21 : decode cX0_harshest 21 = .ok (.istore 4, 2) := dk_54 4 (dk_at dksX0_harshest_0 21 rfl rfl)
theorem dX0_harshest_23 : decode cX0_harshest 23 = .ok (.iload 4, 2) := dk_21 4 (dk_at dksX0_harshest_1 0 rfl rfl)
theorem dX0_harshest_25 : decode cX0_harshest 25 = .ok (.iconst 3, 1) := dk_6 (dk_at dksX0_harshest_1 2 rfl rfl)
theorem dX0_harshest_26 : decode cX0_harshest 26 = .ok (.if_icmp .gt 34, 3) := dk_163 0 34 (dk_at dksX0_harshest_1 3 rfl rfl)
theorem dX0_harshest_29 : decode cX0_harshest 29 = .ok (.aload_n 0, 1) := dk_42 (dk_at dksX0_harshest_1 6 rfl rfl)
theorem dX0_harshest_30 : decode cX0_harshest 30 = .ok (.iload_n 1, 1) := dk_27 (dk_at dksX0_harshest_1 7 rfl rfl)
theorem dX0_harshest_31 : decode cX0_harshest 31 = .ok (.iload_n 3, 1) := dk_29 (dk_at dksX0_harshest_1 8 rfl rfl)
theorem dX0_harshest_32 : decode cX0_harshest 32 = .ok (.iload 4, 2) := dk_21 4 (dk_at dksX0_harshest_1 9 rfl rfl)
theorem dX0_harshest_34 : decode cX0_harshest 34 = .ok (.invokevirtual 315, 3) := dk_182 1 59 (dk_at dksX0_harshest_1 11 rfl rfl)
theorem dX0_harshest_37 : decode cX0_harshest 37 = .ok (.ifCond .eq 17, 3) := dk_153 0 17 (dk_at dksX0_harshest_1 14 rfl rfl)
theorem dX0_harshest_40 : decode cX0_harshest 40 = .ok (.iload_n 2, 1) := dk_28 (dk_at dksX0_harshest_1 17 rfl rfl)
theorem dX0_harshest_41 : decode cX0_harshest 41 = .ok (.aload_n 0, 1) := dk_42 (dk_at dksX0_harshest_1 18 rfl rfl)
theorem dX0_harshest_42 : decode cX0_harshest 42 = .ok (.getfield 43, 3) := dk_180 0 43 (dk_at dksX0_harshest_1 19 rfl rfl)
theorem dX0_harshest_45 : decode cX0_harshest 45 = .ok (.bipush 17, 2) := dk_16 17 (dk_at dksX0_harshest_1 22 rfl rfl)
theorem dX0_harshest_47 : decode cX0_harshest 47 = .ok (.iload_n 1, 1) := dk_27 (dk_at dksX0_harshest_2 0 rfl rfl)
theorem dX0_harshest_48 : decode cX0_harshest 48 = .ok (.iadd, 1) := dk_96 (dk_at dksX0_harshest_2 1 rfl rfl)
theorem dX0_harshest_49 : decode cX0_harshest 49 = .ok (.iaload, 1) := dk_46 (dk_at dksX0_harshest_2 2 rfl rfl)
theorem dX0_harshest_50 : decode cX0_harshest 50 = .ok (.invokestatic 318, 3) := dk_184 1 62 (dk_at dksX0_harshest_2 3 rfl rfl)
theorem dX0_harshest_53 : decode cX0_harshest 53 = .ok (.istore_n 2, 1) := dk_61 (dk_at dksX0_harshest_2 6 rfl rfl)
theorem dX0_harshest_54 : decode cX0_harshest 54 = .ok (.iinc 4 1, 3) := dk_132 4 1 (dk_at dksX0_harshest_2 7 rfl rfl)
theorem dX0_harshest_57 : decode cX0_harshest 57 = .ok (.goto (-34), 3) := dk_167 255 222 (dk_at dksX0_harshest_2 10 rfl rfl)
theorem dX0_harshest_60 : decode cX0_harshest 60 = .ok (.iinc 3 1, 3) := dk_132 3 1 (dk_at dksX0_harshest_2 13 rfl rfl)
theorem dX0_harshest_63 : decode cX0_harshest 63 = .ok (.goto (-49), 3) := dk_167 255 207 (dk_at dksX0_harshest_2 16 rfl rfl)
theorem dX0_harshest_66 : decode cX0_harshest 66 = .ok (.iload_n 2, 1) := dk_28 (dk_at dksX0_harshest_2 19 rfl rfl)
theorem dX0_harshest_67 : decode cX0_harshest 67 = .ok (.ireturn, 1) := dk_172 (dk_at dksX0_harshest_2 20 rfl rfl)
abbrev cX0_odds : ByteArray := prog_1_method_59_code
def yX0_odds : MethodName := ⟨RX0, "odds", "(Z)J"⟩
def dkwX0_odds_5 : List UInt8 := [184, 1, 72, 133, 22, 6, 109, 167, 0, 8, 22, 4, 22, 6, 109, 173]
abbrev dktX0_odds_5 : List UInt8 := dkwX0_odds_5 ++ []
def dkwX0_odds_4 : List UInt8 := [55, 4, 29, 4, 100, 184, 1, 72, 133, 22, 4, 184, 1, 69, 55, 6, 27, 153, 0, 16, 29, 4, 100]
abbrev dktX0_odds_4 : List UInt8 := dkwX0_odds_4 ++ dktX0_odds_5
def dkwX0_odds_3 : List UInt8 := [180, 0, 21, 180, 0, 205, 42, 180, 0, 48, 3, 50, 184, 1, 49, 42, 3, 29, 28, 182, 1, 65, 133]
abbrev dktX0_odds_3 : List UInt8 := dkwX0_odds_3 ++ dktX0_odds_4
def dkwX0_odds_2 : List UInt8 := [180, 0, 205, 16, 6, 46, 100, 62, 28, 2, 159, 0, 8, 29, 6, 164, 0, 7, 20, 1, 75, 173, 42]
abbrev dktX0_odds_2 : List UInt8 := dkwX0_odds_2 ++ dktX0_odds_3
def dkwX0_odds_1 : List UInt8 := [180, 0, 71, 28, 50, 5, 46, 42, 180, 0, 21, 180, 0, 205, 16, 8, 46, 96, 42, 180, 0, 21]
abbrev dktX0_odds_1 : List UInt8 := dkwX0_odds_1 ++ dktX0_odds_2
def dkwX0_odds_0 : List UInt8 := [42, 180, 0, 21, 180, 0, 205, 8, 46, 61, 28, 2, 160, 0, 7, 3, 167, 0, 36, 42, 180, 0, 21]
abbrev dktX0_odds_0 : List UInt8 := dkwX0_odds_0 ++ dktX0_odds_1
theorem dksX0_odds_0 : cX0_odds.data.toList.drop 0 = dktX0_odds_0 := by decide +kernel
theorem dksX0_odds_1 : cX0_odds.data.toList.drop 23 = dktX0_odds_1 := dk_seg dksX0_odds_0 23 rfl rfl
theorem dksX0_odds_2 : cX0_odds.data.toList.drop 45 = dktX0_odds_2 := dk_seg dksX0_odds_1 22 rfl rfl
theorem dksX0_odds_3 : cX0_odds.data.toList.drop 68 = dktX0_odds_3 := dk_seg dksX0_odds_2 23 rfl rfl
theorem dksX0_odds_4 : cX0_odds.data.toList.drop 91 = dktX0_odds_4 := dk_seg dksX0_odds_3 23 rfl rfl
theorem dksX0_odds_5 : cX0_odds.data.toList.drop 114 = dktX0_odds_5 := dk_seg dksX0_odds_4 23 rfl rfl
theorem dX0_odds_0 : decode cX0_odds 0 = .ok (.aload_n 0, 1) := dk_42 (dk_at dksX0_odds_0 0 rfl rfl)
theorem dX0_odds_1 : decode cX0_odds 1 = .ok (.getfield 21, 3) := dk_180 0 21 (dk_at dksX0_odds_0 1 rfl rfl)
theorem dX0_odds_4 : decode cX0_odds 4 = .ok (.getfield 205, 3) := dk_180 0 205 (dk_at dksX0_odds_0 4 rfl rfl)
theorem dX0_odds_7 : decode cX0_odds 7 = .ok (.iconst 5, 1) := dk_8 (dk_at dksX0_odds_0 7 rfl rfl)
theorem dX0_odds_8 : decode cX0_odds 8 = .ok (.iaload, 1) := dk_46 (dk_at dksX0_odds_0 8 rfl rfl)
theorem dX0_odds_9 : decode cX0_odds 9 = .ok (.istore_n 2, 1) := dk_61 (dk_at dksX0_odds_0 9 rfl rfl)
theorem dX0_odds_10 : decode cX0_odds 10 = .ok (.iload_n 2, 1) := dk_28 (dk_at dksX0_odds_0 10 rfl rfl)
theorem dX0_odds_11 : decode cX0_odds 11 = .ok (.iconst (-1), 1) := dk_2 (dk_at dksX0_odds_0 11 rfl rfl)
theorem dX0_odds_12 : decode cX0_odds 12 = .ok (.if_icmp .ne 7, 3) := dk_160 0 7 (dk_at dksX0_odds_0 12 rfl rfl)
theorem dX0_odds_15 : decode cX0_odds 15 = .ok (.iconst 0, 1) := dk_3 (dk_at dksX0_odds_0 15 rfl rfl)
theorem dX0_odds_16 : decode cX0_odds 16 = .ok (.goto 36, 3) := dk_167 0 36 (dk_at dksX0_odds_0 16 rfl rfl)
theorem dX0_odds_19 : decode cX0_odds 19 = .ok (.aload_n 0, 1) := dk_42 (dk_at dksX0_odds_0 19 rfl rfl)
theorem dX0_odds_20 : decode cX0_odds 20 = .ok (.getfield 21, 3) := dk_180 0 21 (dk_at dksX0_odds_0 20 rfl rfl)
theorem dX0_odds_23 : decode cX0_odds 23 = .ok (.getfield 71, 3) := dk_180 0 71 (dk_at dksX0_odds_1 0 rfl rfl)
theorem dX0_odds_26 : decode cX0_odds 26 = .ok (.iload_n 2, 1) := dk_28 (dk_at dksX0_odds_1 3 rfl rfl)
theorem dX0_odds_27 : decode cX0_odds 27 = .ok (.aaload, 1) := dk_50 (dk_at dksX0_odds_1 4 rfl rfl)
theorem dX0_odds_28 : decode cX0_odds 28 = .ok (.iconst 2, 1) := dk_5 (dk_at dksX0_odds_1 5 rfl rfl)
theorem dX0_odds_29 : decode cX0_odds 29 = .ok (.iaload, 1) := dk_46 (dk_at dksX0_odds_1 6 rfl rfl)
theorem dX0_odds_30 : decode cX0_odds 30 = .ok (.aload_n 0, 1) := dk_42 (dk_at dksX0_odds_1 7 rfl rfl)
theorem dX0_odds_31 : decode cX0_odds 31 = .ok (.getfield 21, 3) := dk_180 0 21 (dk_at dksX0_odds_1 8 rfl rfl)
theorem dX0_odds_34 : decode cX0_odds 34 = .ok (.getfield 205, 3) := dk_180 0 205 (dk_at dksX0_odds_1 11 rfl rfl)
theorem dX0_odds_37 : decode cX0_odds 37 = .ok (.bipush 8, 2) := dk_16 8 (dk_at dksX0_odds_1 14 rfl rfl)
theorem dX0_odds_39 : decode cX0_odds 39 = .ok (.iaload, 1) := dk_46 (dk_at dksX0_odds_1 16 rfl rfl)
theorem dX0_odds_40 : decode cX0_odds 40 = .ok (.iadd, 1) := dk_96 (dk_at dksX0_odds_1 17 rfl rfl)
theorem dX0_odds_41 : decode cX0_odds 41 = .ok (.aload_n 0, 1) := dk_42 (dk_at dksX0_odds_1 18 rfl rfl)
theorem dX0_odds_42 : decode cX0_odds 42 = .ok (.getfield 21, 3) := dk_180 0 21 (dk_at dksX0_odds_1 19 rfl rfl)
theorem dX0_odds_45 : decode cX0_odds 45 = .ok (.getfield 205, 3) := dk_180 0 205 (dk_at dksX0_odds_2 0 rfl rfl)
theorem dX0_odds_48 : decode cX0_odds 48 = .ok (.bipush 6, 2) := dk_16 6 (dk_at dksX0_odds_2 3 rfl rfl)
theorem dX0_odds_50 : decode cX0_odds 50 = .ok (.iaload, 1) := dk_46 (dk_at dksX0_odds_2 5 rfl rfl)
theorem dX0_odds_51 : decode cX0_odds 51 = .ok (.isub, 1) := dk_100 (dk_at dksX0_odds_2 6 rfl rfl)
theorem dX0_odds_52 : decode cX0_odds 52 = .ok (.istore_n 3, 1) := dk_62 (dk_at dksX0_odds_2 7 rfl rfl)
theorem dX0_odds_53 : decode cX0_odds 53 = .ok (.iload_n 2, 1) := dk_28 (dk_at dksX0_odds_2 8 rfl rfl)
theorem dX0_odds_54 : decode cX0_odds 54 = .ok (.iconst (-1), 1) := dk_2 (dk_at dksX0_odds_2 9 rfl rfl)
theorem dX0_odds_55 : decode cX0_odds 55 = .ok (.if_icmp .eq 8, 3) := dk_159 0 8 (dk_at dksX0_odds_2 10 rfl rfl)
theorem dX0_odds_58 : decode cX0_odds 58 = .ok (.iload_n 3, 1) := dk_29 (dk_at dksX0_odds_2 13 rfl rfl)
theorem dX0_odds_59 : decode cX0_odds 59 = .ok (.iconst 3, 1) := dk_6 (dk_at dksX0_odds_2 14 rfl rfl)
theorem dX0_odds_60 : decode cX0_odds 60 = .ok (.if_icmp .le 7, 3) := dk_164 0 7 (dk_at dksX0_odds_2 15 rfl rfl)
theorem dX0_odds_63 : decode cX0_odds 63 = .ok (.ldc2_w 331, 3) := dk_20 1 75 (dk_at dksX0_odds_2 18 rfl rfl)
theorem dX0_odds_66 : decode cX0_odds 66 = .ok (.lreturn, 1) := dk_173 (dk_at dksX0_odds_2 21 rfl rfl)
theorem dX0_odds_67 : decode cX0_odds 67 = .ok (.aload_n 0, 1) := dk_42 (dk_at dksX0_odds_2 22 rfl rfl)
theorem dX0_odds_68 : decode cX0_odds 68 = .ok (.getfield 21, 3) := dk_180 0 21 (dk_at dksX0_odds_3 0 rfl rfl)
theorem dX0_odds_71 : decode cX0_odds 71 = .ok (.getfield 205, 3) := dk_180 0 205 (dk_at dksX0_odds_3 3 rfl rfl)
theorem dX0_odds_74 : decode cX0_odds 74 = .ok (.aload_n 0, 1) := dk_42 (dk_at dksX0_odds_3 6 rfl rfl)
theorem dX0_odds_75 : decode cX0_odds 75 = .ok (.getfield 48, 3) := dk_180 0 48 (dk_at dksX0_odds_3 7 rfl rfl)
theorem dX0_odds_78 : decode cX0_odds 78 = .ok (.iconst 0, 1) := dk_3 (dk_at dksX0_odds_3 10 rfl rfl)
theorem dX0_odds_79 : decode cX0_odds 79 = .ok (.aaload, 1) := dk_50 (dk_at dksX0_odds_3 11 rfl rfl)
theorem dX0_odds_80 : decode cX0_odds 80 = .ok (.invokestatic 305, 3) := dk_184 1 49 (dk_at dksX0_odds_3 12 rfl rfl)
theorem dX0_odds_83 : decode cX0_odds 83 = .ok (.aload_n 0, 1) := dk_42 (dk_at dksX0_odds_3 15 rfl rfl)
theorem dX0_odds_84 : decode cX0_odds 84 = .ok (.iconst 0, 1) := dk_3 (dk_at dksX0_odds_3 16 rfl rfl)
theorem dX0_odds_85 : decode cX0_odds 85 = .ok (.iload_n 3, 1) := dk_29 (dk_at dksX0_odds_3 17 rfl rfl)
theorem dX0_odds_86 : decode cX0_odds 86 = .ok (.iload_n 2, 1) := dk_28 (dk_at dksX0_odds_3 18 rfl rfl)
theorem dX0_odds_87 : decode cX0_odds 87 = .ok (.invokevirtual 321, 3) := dk_182 1 65 (dk_at dksX0_odds_3 19 rfl rfl)
theorem dX0_odds_90 : decode cX0_odds 90 = .ok (.i2l, 1) := dk_133 (dk_at dksX0_odds_3 22 rfl rfl)
theorem dX0_odds_91 : decode cX0_odds 91 = .ok (.lstore 4, 2) := dk_55 4 (dk_at dksX0_odds_4 0 rfl rfl)
theorem dX0_odds_93 : decode cX0_odds 93 = .ok (.iload_n 3, 1) := dk_29 (dk_at dksX0_odds_4 2 rfl rfl)
theorem dX0_odds_94 : decode cX0_odds 94 = .ok (.iconst 1, 1) := dk_4 (dk_at dksX0_odds_4 3 rfl rfl)
theorem dX0_odds_95 : decode cX0_odds 95 = .ok (.isub, 1) := dk_100 (dk_at dksX0_odds_4 4 rfl rfl)
theorem dX0_odds_96 : decode cX0_odds 96 = .ok (.invokestatic 328, 3) := dk_184 1 72 (dk_at dksX0_odds_4 5 rfl rfl)
theorem dX0_odds_99 : decode cX0_odds 99 = .ok (.i2l, 1) := dk_133 (dk_at dksX0_odds_4 8 rfl rfl)
theorem dX0_odds_100 : decode cX0_odds 100 = .ok (.lload 4, 2) := dk_22 4 (dk_at dksX0_odds_4 9 rfl rfl)
theorem dX0_odds_102 : decode cX0_odds 102 = .ok (.invokestatic 325, 3) := dk_184 1 69 (dk_at dksX0_odds_4 11 rfl rfl)
theorem dX0_odds_105 : decode cX0_odds 105 = .ok (.lstore 6, 2) := dk_55 6 (dk_at dksX0_odds_4 14 rfl rfl)
theorem dX0_odds_107 : decode cX0_odds 107 = .ok (.iload_n 1, 1) := dk_27 (dk_at dksX0_odds_4 16 rfl rfl)
theorem dX0_odds_108 : decode cX0_odds 108 = .ok (.ifCond .eq 16, 3) := dk_153 0 16 (dk_at dksX0_odds_4 17 rfl rfl)
theorem dX0_odds_111 : decode cX0_odds 111 = .ok (.iload_n 3, 1) := dk_29 (dk_at dksX0_odds_4 20 rfl rfl)
theorem dX0_odds_112 : decode cX0_odds 112 = .ok (.iconst 1, 1) := dk_4 (dk_at dksX0_odds_4 21 rfl rfl)
theorem dX0_odds_113 : decode cX0_odds 113 = .ok (.isub, 1) := dk_100 (dk_at dksX0_odds_4 22 rfl rfl)
theorem dX0_odds_114 : decode cX0_odds 114 = .ok (.invokestatic 328, 3) := dk_184 1 72 (dk_at dksX0_odds_5 0 rfl rfl)
theorem dX0_odds_117 : decode cX0_odds 117 = .ok (.i2l, 1) := dk_133 (dk_at dksX0_odds_5 3 rfl rfl)
theorem dX0_odds_118 : decode cX0_odds 118 = .ok (.lload 6, 2) := dk_22 6 (dk_at dksX0_odds_5 4 rfl rfl)
theorem dX0_odds_120 : decode cX0_odds 120 = .ok (.ldiv, 1) := dk_109 (dk_at dksX0_odds_5 6 rfl rfl)
theorem dX0_odds_121 : decode cX0_odds 121 = .ok (.goto 8, 3) := dk_167 0 8 (dk_at dksX0_odds_5 7 rfl rfl)
theorem dX0_odds_124 : decode cX0_odds 124 = .ok (.lload 4, 2) := dk_22 4 (dk_at dksX0_odds_5 10 rfl rfl)
theorem dX0_odds_126 : decode cX0_odds 126 = .ok (.lload 6, 2) := dk_22 6 (dk_at dksX0_odds_5 12 rfl rfl)
theorem dX0_odds_128 : decode cX0_odds 128 = .ok (.ldiv, 1) := dk_109 (dk_at dksX0_odds_5 14 rfl rfl)
theorem dX0_odds_129 : decode cX0_odds 129 = .ok (.lreturn, 1) := dk_173 (dk_at dksX0_odds_5 15 rfl rfl)
abbrev cX0_guiltyBy : ByteArray := prog_1_method_56_code
def yX0_guiltyBy : MethodName := ⟨RX0, "guiltyBy", "(III)I"⟩
def dkwX0_guiltyBy_4 : List UInt8 := [182, 1, 65, 96, 54, 5, 132, 6, 1, 167, 255, 199, 21, 5, 172]
abbrev dktX0_guiltyBy_4 : List UInt8 := dkwX0_guiltyBy_4 ++ []
def dkwX0_guiltyBy_3 : List UInt8 := [180, 0, 48, 27, 4, 96, 50, 21, 6, 182, 0, 203, 21, 5, 42, 27, 4, 96, 28, 4, 100, 29]
abbrev dktX0_guiltyBy_3 : List UInt8 := dkwX0_guiltyBy_3 ++ dktX0_guiltyBy_4
def dkwX0_guiltyBy_2 : List UInt8 := [16, 10, 162, 0, 56, 42, 180, 0, 48, 27, 50, 42, 180, 0, 48, 27, 4, 96, 50, 184, 1, 49, 42, 42]
abbrev dktX0_guiltyBy_2 : List UInt8 := dkwX0_guiltyBy_2 ++ dktX0_guiltyBy_3
def dkwX0_guiltyBy_1 : List UInt8 := [16, 9, 29, 96, 46, 6, 160, 0, 7, 4, 167, 0, 4, 3, 172, 3, 54, 5, 3, 54, 6, 21, 6]
abbrev dktX0_guiltyBy_1 : List UInt8 := dkwX0_guiltyBy_1 ++ dktX0_guiltyBy_2
def dkwX0_guiltyBy_0 : List UInt8 := [42, 42, 180, 0, 48, 27, 50, 182, 0, 196, 54, 4, 28, 4, 160, 0, 24, 42, 180, 0, 48, 27, 50]
abbrev dktX0_guiltyBy_0 : List UInt8 := dkwX0_guiltyBy_0 ++ dktX0_guiltyBy_1
theorem dksX0_guiltyBy_0 : cX0_guiltyBy.data.toList.drop 0 = dktX0_guiltyBy_0 := by decide +kernel
theorem dksX0_guiltyBy_1 : cX0_guiltyBy.data.toList.drop 23 = dktX0_guiltyBy_1 := dk_seg dksX0_guiltyBy_0 23 rfl rfl
theorem dksX0_guiltyBy_2 : cX0_guiltyBy.data.toList.drop 46 = dktX0_guiltyBy_2 := dk_seg dksX0_guiltyBy_1 23 rfl rfl
theorem dksX0_guiltyBy_3 : cX0_guiltyBy.data.toList.drop 70 = dktX0_guiltyBy_3 := dk_seg dksX0_guiltyBy_2 24 rfl rfl
theorem dksX0_guiltyBy_4 : cX0_guiltyBy.data.toList.drop 92 = dktX0_guiltyBy_4 := dk_seg dksX0_guiltyBy_3 22 rfl rfl
theorem dX0_guiltyBy_0 : decode cX0_guiltyBy 0 = .ok (.aload_n 0, 1) := dk_42 (dk_at dksX0_guiltyBy_0 0 rfl rfl)
theorem dX0_guiltyBy_1 : decode cX0_guiltyBy 1 = .ok (.aload_n 0, 1) := dk_42 (dk_at dksX0_guiltyBy_0 1 rfl rfl)
theorem dX0_guiltyBy_2 : decode cX0_guiltyBy 2 = .ok (.getfield 48, 3) := dk_180 0 48 (dk_at dksX0_guiltyBy_0 2 rfl rfl)
theorem dX0_guiltyBy_5 : decode cX0_guiltyBy 5 = .ok (.iload_n 1, 1) := dk_27 (dk_at dksX0_guiltyBy_0 5 rfl rfl)
theorem dX0_guiltyBy_6 : decode cX0_guiltyBy 6 = .ok (.aaload, 1) := dk_50 (dk_at dksX0_guiltyBy_0 6 rfl rfl)
theorem dX0_guiltyBy_7 : decode cX0_guiltyBy 7 = .ok (.invokevirtual 196, 3) := dk_182 0 196 (dk_at dksX0_guiltyBy_0 7 rfl rfl)
theorem dX0_guiltyBy_10 : decode cX0_guiltyBy 10 = .ok (.istore 4, 2) := dk_54 4 (dk_at dksX0_guiltyBy_0 10 rfl rfl)
theorem dX0_guiltyBy_12 : decode cX0_guiltyBy 12 = .ok (.iload_n 2, 1) := dk_28 (dk_at dksX0_guiltyBy_0 12 rfl rfl)
theorem dX0_guiltyBy_13 : decode cX0_guiltyBy 13 = .ok (.iconst 1, 1) := dk_4 (dk_at dksX0_guiltyBy_0 13 rfl rfl)
theorem dX0_guiltyBy_14 : decode cX0_guiltyBy 14 = .ok (.if_icmp .ne 24, 3) := dk_160 0 24 (dk_at dksX0_guiltyBy_0 14 rfl rfl)
theorem dX0_guiltyBy_17 : decode cX0_guiltyBy 17 = .ok (.aload_n 0, 1) := dk_42 (dk_at dksX0_guiltyBy_0 17 rfl rfl)
theorem dX0_guiltyBy_18 : decode cX0_guiltyBy 18 = .ok (.getfield 48, 3) := dk_180 0 48 (dk_at dksX0_guiltyBy_0 18 rfl rfl)
theorem dX0_guiltyBy_21 : decode cX0_guiltyBy 21 = .ok (.iload_n 1, 1) := dk_27 (dk_at dksX0_guiltyBy_0 21 rfl rfl)
theorem dX0_guiltyBy_22 : decode cX0_guiltyBy 22 = .ok (.aaload, 1) := dk_50 (dk_at dksX0_guiltyBy_0 22 rfl rfl)
theorem dX0_guiltyBy_23 : decode cX0_guiltyBy 23 = .ok (.bipush 9, 2) := dk_16 9 (dk_at dksX0_guiltyBy_1 0 rfl rfl)
theorem dX0_guiltyBy_25 : decode cX0_guiltyBy 25 = .ok (.iload_n 3, 1) := dk_29 (dk_at dksX0_guiltyBy_1 2 rfl rfl)
theorem dX0_guiltyBy_26 : decode cX0_guiltyBy 26 = .ok (.iadd, 1) := dk_96 (dk_at dksX0_guiltyBy_1 3 rfl rfl)
theorem dX0_guiltyBy_27 : decode cX0_guiltyBy 27 = .ok (.iaload, 1) := dk_46 (dk_at dksX0_guiltyBy_1 4 rfl rfl)
theorem dX0_guiltyBy_28 : decode cX0_guiltyBy 28 = .ok (.iconst 3, 1) := dk_6 (dk_at dksX0_guiltyBy_1 5 rfl rfl)
theorem dX0_guiltyBy_29 : decode cX0_guiltyBy 29 = .ok (.if_icmp .ne 7, 3) := dk_160 0 7 (dk_at dksX0_guiltyBy_1 6 rfl rfl)
theorem dX0_guiltyBy_32 : decode cX0_guiltyBy 32 = .ok (.iconst 1, 1) := dk_4 (dk_at dksX0_guiltyBy_1 9 rfl rfl)
theorem dX0_guiltyBy_33 : decode cX0_guiltyBy 33 = .ok (.goto 4, 3) := dk_167 0 4 (dk_at dksX0_guiltyBy_1 10 rfl rfl)
theorem dX0_guiltyBy_36 : decode cX0_guiltyBy 36 = .ok (.iconst 0, 1) := dk_3 (dk_at dksX0_guiltyBy_1 13 rfl rfl)
theorem dX0_guiltyBy_37 : decode cX0_guiltyBy 37 = .ok (.ireturn, 1) := dk_172 (dk_at dksX0_guiltyBy_1 14 rfl rfl)
theorem dX0_guiltyBy_38 : decode cX0_guiltyBy 38 = .ok (.iconst 0, 1) := dk_3 (dk_at dksX0_guiltyBy_1 15 rfl rfl)
theorem dX0_guiltyBy_39 : decode cX0_guiltyBy 39 = .ok (.istore 5, 2) := dk_54 5 (dk_at dksX0_guiltyBy_1 16 rfl rfl)
theorem dX0_guiltyBy_41 : decode cX0_guiltyBy 41 = .ok (.iconst 0, 1) := dk_3 (dk_at dksX0_guiltyBy_1 18 rfl rfl)
theorem dX0_guiltyBy_42 : decode cX0_guiltyBy 42 = .ok (.istore 6, 2) := dk_54 6 (dk_at dksX0_guiltyBy_1 19 rfl rfl)
theorem dX0_guiltyBy_44 : decode cX0_guiltyBy 44 = .ok (.iload 6, 2) := dk_21 6 (dk_at dksX0_guiltyBy_1 21 rfl rfl)
theorem dX0_guiltyBy_46 : decode cX0_guiltyBy 46 = .ok (.bipush 10, 2) := dk_16 10 (dk_at dksX0_guiltyBy_2 0 rfl rfl)
theorem dX0_guiltyBy_48 : decode cX0_guiltyBy 48 = .ok (.if_icmp .ge 56, 3) := dk_162 0 56 (dk_at dksX0_guiltyBy_2 2 rfl rfl)
theorem dX0_guiltyBy_51 : decode cX0_guiltyBy 51 = .ok (.aload_n 0, 1) := dk_42 (dk_at dksX0_guiltyBy_2 5 rfl rfl)
theorem dX0_guiltyBy_52 : decode cX0_guiltyBy 52 = .ok (.getfield 48, 3) := dk_180 0 48 (dk_at dksX0_guiltyBy_2 6 rfl rfl)
theorem dX0_guiltyBy_55 : decode cX0_guiltyBy 55 = .ok (.iload_n 1, 1) := dk_27 (dk_at dksX0_guiltyBy_2 9 rfl rfl)
theorem dX0_guiltyBy_56 : decode cX0_guiltyBy 56 = .ok (.aaload, 1) := dk_50 (dk_at dksX0_guiltyBy_2 10 rfl rfl)
theorem dX0_guiltyBy_57 : decode cX0_guiltyBy 57 = .ok (.aload_n 0, 1) := dk_42 (dk_at dksX0_guiltyBy_2 11 rfl rfl)
theorem dX0_guiltyBy_58 : decode cX0_guiltyBy 58 = .ok (.getfield 48, 3) := dk_180 0 48 (dk_at dksX0_guiltyBy_2 12 rfl rfl)
theorem dX0_guiltyBy_61 : decode cX0_guiltyBy 61 = .ok (.iload_n 1, 1) := dk_27 (dk_at dksX0_guiltyBy_2 15 rfl rfl)
theorem dX0_guiltyBy_62 : decode cX0_guiltyBy 62 = .ok (.iconst 1, 1) := dk_4 (dk_at dksX0_guiltyBy_2 16 rfl rfl)
theorem dX0_guiltyBy_63 : decode cX0_guiltyBy 63 = .ok (.iadd, 1) := dk_96 (dk_at dksX0_guiltyBy_2 17 rfl rfl)
theorem dX0_guiltyBy_64 : decode cX0_guiltyBy 64 = .ok (.aaload, 1) := dk_50 (dk_at dksX0_guiltyBy_2 18 rfl rfl)
theorem dX0_guiltyBy_65 : decode cX0_guiltyBy 65 = .ok (.invokestatic 305, 3) := dk_184 1 49 (dk_at dksX0_guiltyBy_2 19 rfl rfl)
theorem dX0_guiltyBy_68 : decode cX0_guiltyBy 68 = .ok (.aload_n 0, 1) := dk_42 (dk_at dksX0_guiltyBy_2 22 rfl rfl)
theorem dX0_guiltyBy_69 : decode cX0_guiltyBy 69 = .ok (.aload_n 0, 1) := dk_42 (dk_at dksX0_guiltyBy_2 23 rfl rfl)
theorem dX0_guiltyBy_70 : decode cX0_guiltyBy 70 = .ok (.getfield 48, 3) := dk_180 0 48 (dk_at dksX0_guiltyBy_3 0 rfl rfl)
theorem dX0_guiltyBy_73 : decode cX0_guiltyBy 73 = .ok (.iload_n 1, 1) := dk_27 (dk_at dksX0_guiltyBy_3 3 rfl rfl)
theorem dX0_guiltyBy_74 : decode cX0_guiltyBy 74 = .ok (.iconst 1, 1) := dk_4 (dk_at dksX0_guiltyBy_3 4 rfl rfl)
theorem dX0_guiltyBy_75 : decode cX0_guiltyBy 75 = .ok (.iadd, 1) := dk_96 (dk_at dksX0_guiltyBy_3 5 rfl rfl)
theorem dX0_guiltyBy_76 : decode cX0_guiltyBy 76 = .ok (.aaload, 1) := dk_50 (dk_at dksX0_guiltyBy_3 6 rfl rfl)
theorem dX0_guiltyBy_77 : decode cX0_guiltyBy 77 = .ok (.iload 6, 2) := dk_21 6 (dk_at dksX0_guiltyBy_3 7 rfl rfl)
theorem dX0_guiltyBy_79 : decode cX0_guiltyBy 79 = .ok (.invokevirtual 203, 3) := dk_182 0 203 (dk_at dksX0_guiltyBy_3 9 rfl rfl)
theorem dX0_guiltyBy_82 : decode cX0_guiltyBy 82 = .ok (.iload 5, 2) := dk_21 5 (dk_at dksX0_guiltyBy_3 12 rfl rfl)
theorem dX0_guiltyBy_84 : decode cX0_guiltyBy 84 = .ok (.aload_n 0, 1) := dk_42 (dk_at dksX0_guiltyBy_3 14 rfl rfl)
theorem dX0_guiltyBy_85 : decode cX0_guiltyBy 85 = .ok (.iload_n 1, 1) := dk_27 (dk_at dksX0_guiltyBy_3 15 rfl rfl)
theorem dX0_guiltyBy_86 : decode cX0_guiltyBy 86 = .ok (.iconst 1, 1) := dk_4 (dk_at dksX0_guiltyBy_3 16 rfl rfl)
theorem dX0_guiltyBy_87 : decode cX0_guiltyBy 87 = .ok (.iadd, 1) := dk_96 (dk_at dksX0_guiltyBy_3 17 rfl rfl)
theorem dX0_guiltyBy_88 : decode cX0_guiltyBy 88 = .ok (.iload_n 2, 1) := dk_28 (dk_at dksX0_guiltyBy_3 18 rfl rfl)
theorem dX0_guiltyBy_89 : decode cX0_guiltyBy 89 = .ok (.iconst 1, 1) := dk_4 (dk_at dksX0_guiltyBy_3 19 rfl rfl)
theorem dX0_guiltyBy_90 : decode cX0_guiltyBy 90 = .ok (.isub, 1) := dk_100 (dk_at dksX0_guiltyBy_3 20 rfl rfl)
theorem dX0_guiltyBy_91 : decode cX0_guiltyBy 91 = .ok (.iload_n 3, 1) := dk_29 (dk_at dksX0_guiltyBy_3 21 rfl rfl)
theorem dX0_guiltyBy_92 : decode cX0_guiltyBy 92 = .ok (.invokevirtual 321, 3) := dk_182 1 65 (dk_at dksX0_guiltyBy_4 0 rfl rfl)
theorem dX0_guiltyBy_95 : decode cX0_guiltyBy 95 = .ok (.iadd, 1) := dk_96 (dk_at dksX0_guiltyBy_4 3 rfl rfl)
theorem dX0_guiltyBy_96 : decode cX0_guiltyBy 96 = .ok (.istore 5, 2) := dk_54 5 (dk_at dksX0_guiltyBy_4 4 rfl rfl)
theorem dX0_guiltyBy_98 : decode cX0_guiltyBy 98 = .ok (.iinc 6 1, 3) := dk_132 6 1 (dk_at dksX0_guiltyBy_4 6 rfl rfl)
theorem dX0_guiltyBy_101 : decode cX0_guiltyBy 101 = .ok (.goto (-57), 3) := dk_167 255 199 (dk_at dksX0_guiltyBy_4 9 rfl rfl)
theorem dX0_guiltyBy_104 : decode cX0_guiltyBy 104 = .ok (.iload 5, 2) := dk_21 5 (dk_at dksX0_guiltyBy_4 12 rfl rfl)
theorem dX0_guiltyBy_106 : decode cX0_guiltyBy 106 = .ok (.ireturn, 1) := dk_172 (dk_at dksX0_guiltyBy_4 14 rfl rfl)
abbrev cX0_tens : ByteArray := prog_1_method_58_code
def yX0_tens : MethodName := ⟨RX0, "tens", "(I)I"⟩
def dkwX0_tens_0 : List UInt8 := [26, 154, 0, 7, 4, 167, 0, 12, 16, 10, 26, 4, 100, 184, 1, 72, 104, 172]
abbrev dktX0_tens_0 : List UInt8 := dkwX0_tens_0 ++ []
theorem dksX0_tens_0 : cX0_tens.data.toList.drop 0 = dktX0_tens_0 := by decide +kernel
theorem dX0_tens_0 : decode cX0_tens 0 = .ok (.iload_n 0, 1) := dk_26 (dk_at dksX0_tens_0 0 rfl rfl)
theorem dX0_tens_1 : decode cX0_tens 1 = .ok (.ifCond .ne 7, 3) := dk_154 0 7 (dk_at dksX0_tens_0 1 rfl rfl)
theorem dX0_tens_4 : decode cX0_tens 4 = .ok (.iconst 1, 1) := dk_4 (dk_at dksX0_tens_0 4 rfl rfl)
theorem dX0_tens_5 : decode cX0_tens 5 = .ok (.goto 12, 3) := dk_167 0 12 (dk_at dksX0_tens_0 5 rfl rfl)
theorem dX0_tens_8 : decode cX0_tens 8 = .ok (.bipush 10, 2) := dk_16 10 (dk_at dksX0_tens_0 8 rfl rfl)
theorem dX0_tens_10 : decode cX0_tens 10 = .ok (.iload_n 0, 1) := dk_26 (dk_at dksX0_tens_0 10 rfl rfl)
theorem dX0_tens_11 : decode cX0_tens 11 = .ok (.iconst 1, 1) := dk_4 (dk_at dksX0_tens_0 11 rfl rfl)
theorem dX0_tens_12 : decode cX0_tens 12 = .ok (.isub, 1) := dk_100 (dk_at dksX0_tens_0 12 rfl rfl)
theorem dX0_tens_13 : decode cX0_tens 13 = .ok (.invokestatic 328, 3) := dk_184 1 72 (dk_at dksX0_tens_0 13 rfl rfl)
theorem dX0_tens_16 : decode cX0_tens 16 = .ok (.imul, 1) := dk_104 (dk_at dksX0_tens_0 16 rfl rfl)
theorem dX0_tens_17 : decode cX0_tens 17 = .ok (.ireturn, 1) := dk_172 (dk_at dksX0_tens_0 17 rfl rfl)
abbrev cX0_common : ByteArray := prog_1_method_57_code
def yX0_common : MethodName := ⟨RX0, "common", "(JJ)J"⟩
def dkwX0_common_0 : List UInt8 := [32, 9, 148, 154, 0, 7, 30, 167, 0, 10, 32, 30, 32, 113, 184, 1, 69, 173]
abbrev dktX0_common_0 : List UInt8 := dkwX0_common_0 ++ []
theorem dksX0_common_0 : cX0_common.data.toList.drop 0 = dktX0_common_0 := by decide +kernel
theorem dX0_common_0 : decode cX0_common 0 = .ok (.lload_n 2, 1) := dk_32 (dk_at dksX0_common_0 0 rfl rfl)
theorem dX0_common_1 : decode cX0_common 1 = .ok (.lconst 0, 1) := dk_9 (dk_at dksX0_common_0 1 rfl rfl)
theorem dX0_common_2 : decode cX0_common 2 = .ok (.lcmp, 1) := dk_148 (dk_at dksX0_common_0 2 rfl rfl)
theorem dX0_common_3 : decode cX0_common 3 = .ok (.ifCond .ne 7, 3) := dk_154 0 7 (dk_at dksX0_common_0 3 rfl rfl)
theorem dX0_common_6 : decode cX0_common 6 = .ok (.lload_n 0, 1) := dk_30 (dk_at dksX0_common_0 6 rfl rfl)
theorem dX0_common_7 : decode cX0_common 7 = .ok (.goto 10, 3) := dk_167 0 10 (dk_at dksX0_common_0 7 rfl rfl)
theorem dX0_common_10 : decode cX0_common 10 = .ok (.lload_n 2, 1) := dk_32 (dk_at dksX0_common_0 10 rfl rfl)
theorem dX0_common_11 : decode cX0_common 11 = .ok (.lload_n 0, 1) := dk_30 (dk_at dksX0_common_0 11 rfl rfl)
theorem dX0_common_12 : decode cX0_common 12 = .ok (.lload_n 2, 1) := dk_32 (dk_at dksX0_common_0 12 rfl rfl)
theorem dX0_common_13 : decode cX0_common 13 = .ok (.lrem, 1) := dk_113 (dk_at dksX0_common_0 13 rfl rfl)
theorem dX0_common_14 : decode cX0_common 14 = .ok (.invokestatic 325, 3) := dk_184 1 69 (dk_at dksX0_common_0 14 rfl rfl)
theorem dX0_common_17 : decode cX0_common 17 = .ok (.lreturn, 1) := dk_173 (dk_at dksX0_common_0 17 rfl rfl)
abbrev cX0_clash : ByteArray := prog_1_method_61_code
def yX0_clash : MethodName := ⟨RX0, "clash", "(I)I"⟩
def dkwX0_clash_1 : List UInt8 := [167, 0, 4, 2, 172]
abbrev dktX0_clash_1 : List UInt8 := dkwX0_clash_1 ++ []
def dkwX0_clash_0 : List UInt8 := [42, 27, 182, 0, 214, 153, 0, 22, 42, 27, 42, 180, 0, 21, 180, 0, 71, 27, 50, 6, 46, 182, 1, 77]
abbrev dktX0_clash_0 : List UInt8 := dkwX0_clash_0 ++ dktX0_clash_1
theorem dksX0_clash_0 : cX0_clash.data.toList.drop 0 = dktX0_clash_0 := by decide +kernel
theorem dksX0_clash_1 : cX0_clash.data.toList.drop 24 = dktX0_clash_1 := dk_seg dksX0_clash_0 24 rfl rfl
theorem dX0_clash_0 : decode cX0_clash 0 = .ok (.aload_n 0, 1) := dk_42 (dk_at dksX0_clash_0 0 rfl rfl)
theorem dX0_clash_1 : decode cX0_clash 1 = .ok (.iload_n 1, 1) := dk_27 (dk_at dksX0_clash_0 1 rfl rfl)
theorem dX0_clash_2 : decode cX0_clash 2 = .ok (.invokevirtual 214, 3) := dk_182 0 214 (dk_at dksX0_clash_0 2 rfl rfl)
theorem dX0_clash_5 : decode cX0_clash 5 = .ok (.ifCond .eq 22, 3) := dk_153 0 22 (dk_at dksX0_clash_0 5 rfl rfl)
theorem dX0_clash_8 : decode cX0_clash 8 = .ok (.aload_n 0, 1) := dk_42 (dk_at dksX0_clash_0 8 rfl rfl)
theorem dX0_clash_9 : decode cX0_clash 9 = .ok (.iload_n 1, 1) := dk_27 (dk_at dksX0_clash_0 9 rfl rfl)
theorem dX0_clash_10 : decode cX0_clash 10 = .ok (.aload_n 0, 1) := dk_42 (dk_at dksX0_clash_0 10 rfl rfl)
theorem dX0_clash_11 : decode cX0_clash 11 = .ok (.getfield 21, 3) := dk_180 0 21 (dk_at dksX0_clash_0 11 rfl rfl)
theorem dX0_clash_14 : decode cX0_clash 14 = .ok (.getfield 71, 3) := dk_180 0 71 (dk_at dksX0_clash_0 14 rfl rfl)
theorem dX0_clash_17 : decode cX0_clash 17 = .ok (.iload_n 1, 1) := dk_27 (dk_at dksX0_clash_0 17 rfl rfl)
theorem dX0_clash_18 : decode cX0_clash 18 = .ok (.aaload, 1) := dk_50 (dk_at dksX0_clash_0 18 rfl rfl)
theorem dX0_clash_19 : decode cX0_clash 19 = .ok (.iconst 3, 1) := dk_6 (dk_at dksX0_clash_0 19 rfl rfl)
theorem dX0_clash_20 : decode cX0_clash 20 = .ok (.iaload, 1) := dk_46 (dk_at dksX0_clash_0 20 rfl rfl)
theorem dX0_clash_21 : decode cX0_clash 21 = .ok (.invokevirtual 333, 3) := dk_182 1 77 (dk_at dksX0_clash_0 21 rfl rfl)
theorem dX0_clash_24 : decode cX0_clash 24 = .ok (.goto 4, 3) := dk_167 0 4 (dk_at dksX0_clash_1 0 rfl rfl)
theorem dX0_clash_27 : decode cX0_clash 27 = .ok (.iconst (-1), 1) := dk_2 (dk_at dksX0_clash_1 3 rfl rfl)
theorem dX0_clash_28 : decode cX0_clash 28 = .ok (.ireturn, 1) := dk_172 (dk_at dksX0_clash_1 4 rfl rfl)
abbrev cX0_guiltyCodes : ByteArray := prog_1_method_60_code
def yX0_guiltyCodes : MethodName := ⟨RX0, "guiltyCodes", "(II)I"⟩
def dkwX0_guiltyCodes_2 : List UInt8 := [120, 167, 0, 4, 3, 128, 62, 132, 4, 1, 167, 255, 203, 29, 172]
abbrev dktX0_guiltyCodes_2 : List UInt8 := dkwX0_guiltyCodes_2 ++ []
def dkwX0_guiltyCodes_1 : List UInt8 := [21, 4, 27, 42, 180, 0, 21, 180, 0, 71, 27, 50, 5, 46, 28, 182, 0, 157, 153, 0, 10, 4, 21, 4]
abbrev dktX0_guiltyCodes_1 : List UInt8 := dkwX0_guiltyCodes_1 ++ dktX0_guiltyCodes_2
def dkwX0_guiltyCodes_0 : List UInt8 := [3, 62, 3, 54, 4, 21, 4, 7, 162, 0, 53, 29, 42, 42, 182, 0, 134, 42, 180, 0, 21, 180, 0, 205]
abbrev dktX0_guiltyCodes_0 : List UInt8 := dkwX0_guiltyCodes_0 ++ dktX0_guiltyCodes_1
theorem dksX0_guiltyCodes_0 : cX0_guiltyCodes.data.toList.drop 0 = dktX0_guiltyCodes_0 := by decide +kernel
theorem dksX0_guiltyCodes_1 : cX0_guiltyCodes.data.toList.drop 24 = dktX0_guiltyCodes_1 := dk_seg dksX0_guiltyCodes_0 24 rfl rfl
theorem dksX0_guiltyCodes_2 : cX0_guiltyCodes.data.toList.drop 48 = dktX0_guiltyCodes_2 := dk_seg dksX0_guiltyCodes_1 24 rfl rfl
theorem dX0_guiltyCodes_0 : decode cX0_guiltyCodes 0 = .ok (.iconst 0, 1) := dk_3 (dk_at dksX0_guiltyCodes_0 0 rfl rfl)
theorem dX0_guiltyCodes_1 : decode cX0_guiltyCodes 1 = .ok (.istore_n 3, 1) := dk_62 (dk_at dksX0_guiltyCodes_0 1 rfl rfl)
theorem dX0_guiltyCodes_2 : decode cX0_guiltyCodes 2 = .ok (.iconst 0, 1) := dk_3 (dk_at dksX0_guiltyCodes_0 2 rfl rfl)
theorem dX0_guiltyCodes_3 : decode cX0_guiltyCodes 3 = .ok (.istore 4, 2) := dk_54 4 (dk_at dksX0_guiltyCodes_0 3 rfl rfl)
theorem dX0_guiltyCodes_5 : decode cX0_guiltyCodes 5 = .ok (.iload 4, 2) := dk_21 4 (dk_at dksX0_guiltyCodes_0 5 rfl rfl)
theorem dX0_guiltyCodes_7 : decode cX0_guiltyCodes 7 = .ok (.iconst 4, 1) := dk_7 (dk_at dksX0_guiltyCodes_0 7 rfl rfl)
theorem dX0_guiltyCodes_8 : decode cX0_guiltyCodes 8 = .ok (.if_icmp .ge 53, 3) := dk_162 0 53 (dk_at dksX0_guiltyCodes_0 8 rfl rfl)
theorem dX0_guiltyCodes_11 : decode cX0_guiltyCodes 11 = .ok (.iload_n 3, 1) := dk_29 (dk_at dksX0_guiltyCodes_0 11 rfl rfl)
theorem dX0_guiltyCodes_12 : decode cX0_guiltyCodes 12 = .ok (.aload_n 0, 1) := dk_42 (dk_at dksX0_guiltyCodes_0 12 rfl rfl)
theorem dX0_guiltyCodes_13 : decode cX0_guiltyCodes 13 = .ok (.aload_n 0, 1) := dk_42 (dk_at dksX0_guiltyCodes_0 13 rfl rfl)
theorem dX0_guiltyCodes_14 : decode cX0_guiltyCodes 14 = .ok (.invokevirtual 134, 3) := dk_182 0 134 (dk_at dksX0_guiltyCodes_0 14 rfl rfl)
theorem dX0_guiltyCodes_17 : decode cX0_guiltyCodes 17 = .ok (.aload_n 0, 1) := dk_42 (dk_at dksX0_guiltyCodes_0 17 rfl rfl)
theorem dX0_guiltyCodes_18 : decode cX0_guiltyCodes 18 = .ok (.getfield 21, 3) := dk_180 0 21 (dk_at dksX0_guiltyCodes_0 18 rfl rfl)
theorem dX0_guiltyCodes_21 : decode cX0_guiltyCodes 21 = .ok (.getfield 205, 3) := dk_180 0 205 (dk_at dksX0_guiltyCodes_0 21 rfl rfl)
theorem dX0_guiltyCodes_24 : decode cX0_guiltyCodes 24 = .ok (.iload 4, 2) := dk_21 4 (dk_at dksX0_guiltyCodes_1 0 rfl rfl)
theorem dX0_guiltyCodes_26 : decode cX0_guiltyCodes 26 = .ok (.iload_n 1, 1) := dk_27 (dk_at dksX0_guiltyCodes_1 2 rfl rfl)
theorem dX0_guiltyCodes_27 : decode cX0_guiltyCodes 27 = .ok (.aload_n 0, 1) := dk_42 (dk_at dksX0_guiltyCodes_1 3 rfl rfl)
theorem dX0_guiltyCodes_28 : decode cX0_guiltyCodes 28 = .ok (.getfield 21, 3) := dk_180 0 21 (dk_at dksX0_guiltyCodes_1 4 rfl rfl)
theorem dX0_guiltyCodes_31 : decode cX0_guiltyCodes 31 = .ok (.getfield 71, 3) := dk_180 0 71 (dk_at dksX0_guiltyCodes_1 7 rfl rfl)
theorem dX0_guiltyCodes_34 : decode cX0_guiltyCodes 34 = .ok (.iload_n 1, 1) := dk_27 (dk_at dksX0_guiltyCodes_1 10 rfl rfl)
theorem dX0_guiltyCodes_35 : decode cX0_guiltyCodes 35 = .ok (.aaload, 1) := dk_50 (dk_at dksX0_guiltyCodes_1 11 rfl rfl)
theorem dX0_guiltyCodes_36 : decode cX0_guiltyCodes 36 = .ok (.iconst 2, 1) := dk_5 (dk_at dksX0_guiltyCodes_1 12 rfl rfl)
theorem dX0_guiltyCodes_37 : decode cX0_guiltyCodes 37 = .ok (.iaload, 1) := dk_46 (dk_at dksX0_guiltyCodes_1 13 rfl rfl)
theorem dX0_guiltyCodes_38 : decode cX0_guiltyCodes 38 = .ok (.iload_n 2, 1) := dk_28 (dk_at dksX0_guiltyCodes_1 14 rfl rfl)
theorem dX0_guiltyCodes_39 : decode cX0_guiltyCodes 39 = .ok (.invokevirtual 157, 3) := dk_182 0 157 (dk_at dksX0_guiltyCodes_1 15 rfl rfl)
theorem dX0_guiltyCodes_42 : decode cX0_guiltyCodes 42 = .ok (.ifCond .eq 10, 3) := dk_153 0 10 (dk_at dksX0_guiltyCodes_1 18 rfl rfl)
theorem dX0_guiltyCodes_45 : decode cX0_guiltyCodes 45 = .ok (.iconst 1, 1) := dk_4 (dk_at dksX0_guiltyCodes_1 21 rfl rfl)
theorem dX0_guiltyCodes_46 : decode cX0_guiltyCodes 46 = .ok (.iload 4, 2) := dk_21 4 (dk_at dksX0_guiltyCodes_1 22 rfl rfl)
theorem dX0_guiltyCodes_48 : decode cX0_guiltyCodes 48 = .ok (.ishl, 1) := dk_120 (dk_at dksX0_guiltyCodes_2 0 rfl rfl)
theorem dX0_guiltyCodes_49 : decode cX0_guiltyCodes 49 = .ok (.goto 4, 3) := dk_167 0 4 (dk_at dksX0_guiltyCodes_2 1 rfl rfl)
theorem dX0_guiltyCodes_52 : decode cX0_guiltyCodes 52 = .ok (.iconst 0, 1) := dk_3 (dk_at dksX0_guiltyCodes_2 4 rfl rfl)
theorem dX0_guiltyCodes_53 : decode cX0_guiltyCodes 53 = .ok (.ior, 1) := dk_128 (dk_at dksX0_guiltyCodes_2 5 rfl rfl)
theorem dX0_guiltyCodes_54 : decode cX0_guiltyCodes 54 = .ok (.istore_n 3, 1) := dk_62 (dk_at dksX0_guiltyCodes_2 6 rfl rfl)
theorem dX0_guiltyCodes_55 : decode cX0_guiltyCodes 55 = .ok (.iinc 4 1, 3) := dk_132 4 1 (dk_at dksX0_guiltyCodes_2 7 rfl rfl)
theorem dX0_guiltyCodes_58 : decode cX0_guiltyCodes 58 = .ok (.goto (-53), 3) := dk_167 255 203 (dk_at dksX0_guiltyCodes_2 10 rfl rfl)
theorem dX0_guiltyCodes_61 : decode cX0_guiltyCodes 61 = .ok (.iload_n 3, 1) := dk_29 (dk_at dksX0_guiltyCodes_2 13 rfl rfl)
theorem dX0_guiltyCodes_62 : decode cX0_guiltyCodes 62 = .ok (.ireturn, 1) := dk_172 (dk_at dksX0_guiltyCodes_2 14 rfl rfl)
abbrev cX0_leastFacts : ByteArray := prog_1_method_62_code
def yX0_leastFacts : MethodName := ⟨RX0, "leastFacts", "(I)I"⟩
def dkwX0_leastFacts_3 : List UInt8 := [160, 0, 5, 29, 61, 132, 3, 1, 167, 255, 193, 28, 172]
abbrev dktX0_leastFacts_3 : List UInt8 := dkwX0_leastFacts_3 ++ []
def dkwX0_leastFacts_2 : List UInt8 := [180, 0, 71, 27, 50, 6, 46, 29, 130, 182, 1, 77, 54, 4, 21, 4, 153, 0, 10, 21, 4, 16, 15]
abbrev dktX0_leastFacts_2 : List UInt8 := dkwX0_leastFacts_2 ++ dktX0_leastFacts_3
def dkwX0_leastFacts_1 : List UInt8 := [159, 0, 17, 29, 184, 0, 141, 28, 184, 0, 141, 161, 0, 6, 167, 0, 37, 42, 27, 42, 180, 0, 21]
abbrev dktX0_leastFacts_1 : List UInt8 := dkwX0_leastFacts_1 ++ dktX0_leastFacts_2
def dkwX0_leastFacts_0 : List UInt8 := [42, 27, 182, 0, 214, 154, 0, 5, 2, 172, 2, 61, 3, 62, 29, 17, 1, 0, 162, 0, 62, 28, 2]
abbrev dktX0_leastFacts_0 : List UInt8 := dkwX0_leastFacts_0 ++ dktX0_leastFacts_1
theorem dksX0_leastFacts_0 : cX0_leastFacts.data.toList.drop 0 = dktX0_leastFacts_0 := by decide +kernel
theorem dksX0_leastFacts_1 : cX0_leastFacts.data.toList.drop 23 = dktX0_leastFacts_1 := dk_seg dksX0_leastFacts_0 23 rfl rfl
theorem dksX0_leastFacts_2 : cX0_leastFacts.data.toList.drop 46 = dktX0_leastFacts_2 := dk_seg dksX0_leastFacts_1 23 rfl rfl
theorem dksX0_leastFacts_3 : cX0_leastFacts.data.toList.drop 69 = dktX0_leastFacts_3 := dk_seg dksX0_leastFacts_2 23 rfl rfl
theorem dX0_leastFacts_0 : decode cX0_leastFacts 0 = .ok (.aload_n 0, 1) := dk_42 (dk_at dksX0_leastFacts_0 0 rfl rfl)
theorem dX0_leastFacts_1 : decode cX0_leastFacts 1 = .ok (.iload_n 1, 1) := dk_27 (dk_at dksX0_leastFacts_0 1 rfl rfl)
theorem dX0_leastFacts_2 : decode cX0_leastFacts 2 = .ok (.invokevirtual 214, 3) := dk_182 0 214 (dk_at dksX0_leastFacts_0 2 rfl rfl)
theorem dX0_leastFacts_5 : decode cX0_leastFacts 5 = .ok (.ifCond .ne 5, 3) := dk_154 0 5 (dk_at dksX0_leastFacts_0 5 rfl rfl)
theorem dX0_leastFacts_8 : decode cX0_leastFacts 8 = .ok (.iconst (-1), 1) := dk_2 (dk_at dksX0_leastFacts_0 8 rfl rfl)
theorem dX0_leastFacts_9 : decode cX0_leastFacts 9 = .ok (.ireturn, 1) := dk_172 (dk_at dksX0_leastFacts_0 9 rfl rfl)
theorem dX0_leastFacts_10 : decode cX0_leastFacts 10 = .ok (.iconst (-1), 1) := dk_2 (dk_at dksX0_leastFacts_0 10 rfl rfl)
theorem dX0_leastFacts_11 : decode cX0_leastFacts 11 = .ok (.istore_n 2, 1) := dk_61 (dk_at dksX0_leastFacts_0 11 rfl rfl)
theorem dX0_leastFacts_12 : decode cX0_leastFacts 12 = .ok (.iconst 0, 1) := dk_3 (dk_at dksX0_leastFacts_0 12 rfl rfl)
theorem dX0_leastFacts_13 : decode cX0_leastFacts 13 = .ok (.istore_n 3, 1) := dk_62 (dk_at dksX0_leastFacts_0 13 rfl rfl)
theorem dX0_leastFacts_14 : decode cX0_leastFacts 14 = .ok (.iload_n 3, 1) := dk_29 (dk_at dksX0_leastFacts_0 14 rfl rfl)
theorem dX0_leastFacts_15 : decode cX0_leastFacts 15 = .ok (.sipush 256, 3) := dk_17 1 0 (dk_at dksX0_leastFacts_0 15 rfl rfl)
theorem dX0_leastFacts_18 : decode cX0_leastFacts 18 = .ok (.if_icmp .ge 62, 3) := dk_162 0 62 (dk_at dksX0_leastFacts_0 18 rfl rfl)
theorem dX0_leastFacts_21 : decode cX0_leastFacts 21 = .ok (.iload_n 2, 1) := dk_28 (dk_at dksX0_leastFacts_0 21 rfl rfl)
theorem dX0_leastFacts_22 : decode cX0_leastFacts 22 = .ok (.iconst (-1), 1) := dk_2 (dk_at dksX0_leastFacts_0 22 rfl rfl)
theorem dX0_leastFacts_23 : decode cX0_leastFacts 23 = .ok (.if_icmp .eq 17, 3) := dk_159 0 17 (dk_at dksX0_leastFacts_1 0 rfl rfl)
theorem dX0_leastFacts_26 : decode cX0_leastFacts 26 = .ok (.iload_n 3, 1) := dk_29 (dk_at dksX0_leastFacts_1 3 rfl rfl)
theorem dX0_leastFacts_27 : decode cX0_leastFacts 27 = .ok (.invokestatic 141, 3) := dk_184 0 141 (dk_at dksX0_leastFacts_1 4 rfl rfl)
theorem dX0_leastFacts_30 : decode cX0_leastFacts 30 = .ok (.iload_n 2, 1) := dk_28 (dk_at dksX0_leastFacts_1 7 rfl rfl)
theorem dX0_leastFacts_31 : decode cX0_leastFacts 31 = .ok (.invokestatic 141, 3) := dk_184 0 141 (dk_at dksX0_leastFacts_1 8 rfl rfl)
theorem dX0_leastFacts_34 : decode cX0_leastFacts 34 = .ok (.if_icmp .lt 6, 3) := dk_161 0 6 (dk_at dksX0_leastFacts_1 11 rfl rfl)
theorem dX0_leastFacts_37 : decode cX0_leastFacts 37 = .ok (.goto 37, 3) := dk_167 0 37 (dk_at dksX0_leastFacts_1 14 rfl rfl)
theorem dX0_leastFacts_40 : decode cX0_leastFacts 40 = .ok (.aload_n 0, 1) := dk_42 (dk_at dksX0_leastFacts_1 17 rfl rfl)
theorem dX0_leastFacts_41 : decode cX0_leastFacts 41 = .ok (.iload_n 1, 1) := dk_27 (dk_at dksX0_leastFacts_1 18 rfl rfl)
theorem dX0_leastFacts_42 : decode cX0_leastFacts 42 = .ok (.aload_n 0, 1) := dk_42 (dk_at dksX0_leastFacts_1 19 rfl rfl)
theorem dX0_leastFacts_43 : decode cX0_leastFacts 43 = .ok (.getfield 21, 3) := dk_180 0 21 (dk_at dksX0_leastFacts_1 20 rfl rfl)
theorem dX0_leastFacts_46 : decode cX0_leastFacts 46 = .ok (.getfield 71, 3) := dk_180 0 71 (dk_at dksX0_leastFacts_2 0 rfl rfl)
theorem dX0_leastFacts_49 : decode cX0_leastFacts 49 = .ok (.iload_n 1, 1) := dk_27 (dk_at dksX0_leastFacts_2 3 rfl rfl)
theorem dX0_leastFacts_50 : decode cX0_leastFacts 50 = .ok (.aaload, 1) := dk_50 (dk_at dksX0_leastFacts_2 4 rfl rfl)
theorem dX0_leastFacts_51 : decode cX0_leastFacts 51 = .ok (.iconst 3, 1) := dk_6 (dk_at dksX0_leastFacts_2 5 rfl rfl)
theorem dX0_leastFacts_52 : decode cX0_leastFacts 52 = .ok (.iaload, 1) := dk_46 (dk_at dksX0_leastFacts_2 6 rfl rfl)
theorem dX0_leastFacts_53 : decode cX0_leastFacts 53 = .ok (.iload_n 3, 1) := dk_29 (dk_at dksX0_leastFacts_2 7 rfl rfl)
theorem dX0_leastFacts_54 : decode cX0_leastFacts 54 = .ok (.ixor, 1) := dk_130 (dk_at dksX0_leastFacts_2 8 rfl rfl)
theorem dX0_leastFacts_55 : decode cX0_leastFacts 55 = .ok (.invokevirtual 333, 3) := dk_182 1 77 (dk_at dksX0_leastFacts_2 9 rfl rfl)
theorem dX0_leastFacts_58 : decode cX0_leastFacts 58 = .ok (.istore 4, 2) := dk_54 4 (dk_at dksX0_leastFacts_2 12 rfl rfl)
theorem dX0_leastFacts_60 : decode cX0_leastFacts 60 = .ok (.iload 4, 2) := dk_21 4 (dk_at dksX0_leastFacts_2 14 rfl rfl)
theorem dX0_leastFacts_62 : decode cX0_leastFacts 62 = .ok (.ifCond .eq 10, 3) := dk_153 0 10 (dk_at dksX0_leastFacts_2 16 rfl rfl)
theorem dX0_leastFacts_65 : decode cX0_leastFacts 65 = .ok (.iload 4, 2) := dk_21 4 (dk_at dksX0_leastFacts_2 19 rfl rfl)
theorem dX0_leastFacts_67 : decode cX0_leastFacts 67 = .ok (.bipush 15, 2) := dk_16 15 (dk_at dksX0_leastFacts_2 21 rfl rfl)
theorem dX0_leastFacts_69 : decode cX0_leastFacts 69 = .ok (.if_icmp .ne 5, 3) := dk_160 0 5 (dk_at dksX0_leastFacts_3 0 rfl rfl)
theorem dX0_leastFacts_72 : decode cX0_leastFacts 72 = .ok (.iload_n 3, 1) := dk_29 (dk_at dksX0_leastFacts_3 3 rfl rfl)
theorem dX0_leastFacts_73 : decode cX0_leastFacts 73 = .ok (.istore_n 2, 1) := dk_61 (dk_at dksX0_leastFacts_3 4 rfl rfl)
theorem dX0_leastFacts_74 : decode cX0_leastFacts 74 = .ok (.iinc 3 1, 3) := dk_132 3 1 (dk_at dksX0_leastFacts_3 5 rfl rfl)
theorem dX0_leastFacts_77 : decode cX0_leastFacts 77 = .ok (.goto (-63), 3) := dk_167 255 193 (dk_at dksX0_leastFacts_3 8 rfl rfl)
theorem dX0_leastFacts_80 : decode cX0_leastFacts 80 = .ok (.iload_n 2, 1) := dk_28 (dk_at dksX0_leastFacts_3 11 rfl rfl)
theorem dX0_leastFacts_81 : decode cX0_leastFacts 81 = .ok (.ireturn, 1) := dk_172 (dk_at dksX0_leastFacts_3 12 rfl rfl)
abbrev cX0_game : ByteArray := prog_1_method_64_code
def yX0_game : MethodName := ⟨RX0, "game", "(IZZ)I"⟩
def dkwX0_game_4 : List UInt8 := [167, 0, 4, 3, 182, 1, 80, 21, 4, 160, 0, 7, 3, 167, 0, 9, 4, 167, 0, 5, 21, 4, 172]
abbrev dktX0_game_4 : List UInt8 := dkwX0_game_4 ++ []
def dkwX0_game_3 : List UInt8 := [167, 255, 199, 42, 3, 3, 28, 182, 1, 80, 54, 4, 29, 153, 0, 31, 42, 4, 3, 28, 154, 0, 7, 4]
abbrev dktX0_game_3 : List UInt8 := dkwX0_game_3 ++ dktX0_game_4
def dkwX0_game_2 : List UInt8 := [160, 0, 19, 19, 1, 86, 42, 180, 0, 43, 16, 17, 27, 96, 46, 96, 167, 0, 4, 3, 79, 132, 4, 1]
abbrev dktX0_game_2 : List UInt8 := dkwX0_game_2 ++ dktX0_game_3
def dkwX0_game_1 : List UInt8 := [21, 4, 42, 27, 3, 21, 4, 182, 1, 59, 153, 0, 32, 42, 180, 0, 43, 16, 9, 27, 96, 46, 6]
abbrev dktX0_game_1 : List UInt8 := dkwX0_game_1 ++ dktX0_game_2
def dkwX0_game_0 : List UInt8 := [42, 27, 182, 0, 217, 154, 0, 5, 2, 172, 3, 54, 4, 21, 4, 6, 163, 0, 57, 42, 180, 0, 51]
abbrev dktX0_game_0 : List UInt8 := dkwX0_game_0 ++ dktX0_game_1
theorem dksX0_game_0 : cX0_game.data.toList.drop 0 = dktX0_game_0 := by decide +kernel
theorem dksX0_game_1 : cX0_game.data.toList.drop 23 = dktX0_game_1 := dk_seg dksX0_game_0 23 rfl rfl
theorem dksX0_game_2 : cX0_game.data.toList.drop 46 = dktX0_game_2 := dk_seg dksX0_game_1 23 rfl rfl
theorem dksX0_game_3 : cX0_game.data.toList.drop 70 = dktX0_game_3 := dk_seg dksX0_game_2 24 rfl rfl
theorem dksX0_game_4 : cX0_game.data.toList.drop 94 = dktX0_game_4 := dk_seg dksX0_game_3 24 rfl rfl
theorem dX0_game_0 : decode cX0_game 0 = .ok (.aload_n 0, 1) := dk_42 (dk_at dksX0_game_0 0 rfl rfl)
theorem dX0_game_1 : decode cX0_game 1 = .ok (.iload_n 1, 1) := dk_27 (dk_at dksX0_game_0 1 rfl rfl)
theorem dX0_game_2 : decode cX0_game 2 = .ok (.invokevirtual 217, 3) := dk_182 0 217 (dk_at dksX0_game_0 2 rfl rfl)
theorem dX0_game_5 : decode cX0_game 5 = .ok (.ifCond .ne 5, 3) := dk_154 0 5 (dk_at dksX0_game_0 5 rfl rfl)
theorem dX0_game_8 : decode cX0_game 8 = .ok (.iconst (-1), 1) := dk_2 (dk_at dksX0_game_0 8 rfl rfl)
theorem dX0_game_9 : decode cX0_game 9 = .ok (.ireturn, 1) := dk_172 (dk_at dksX0_game_0 9 rfl rfl)
theorem dX0_game_10 : decode cX0_game 10 = .ok (.iconst 0, 1) := dk_3 (dk_at dksX0_game_0 10 rfl rfl)
theorem dX0_game_11 : decode cX0_game 11 = .ok (.istore 4, 2) := dk_54 4 (dk_at dksX0_game_0 11 rfl rfl)
theorem dX0_game_13 : decode cX0_game 13 = .ok (.iload 4, 2) := dk_21 4 (dk_at dksX0_game_0 13 rfl rfl)
theorem dX0_game_15 : decode cX0_game 15 = .ok (.iconst 3, 1) := dk_6 (dk_at dksX0_game_0 15 rfl rfl)
theorem dX0_game_16 : decode cX0_game 16 = .ok (.if_icmp .gt 57, 3) := dk_163 0 57 (dk_at dksX0_game_0 16 rfl rfl)
theorem dX0_game_19 : decode cX0_game 19 = .ok (.aload_n 0, 1) := dk_42 (dk_at dksX0_game_0 19 rfl rfl)
theorem dX0_game_20 : decode cX0_game 20 = .ok (.getfield 51, 3) := dk_180 0 51 (dk_at dksX0_game_0 20 rfl rfl)
theorem dX0_game_23 : decode cX0_game 23 = .ok (.iload 4, 2) := dk_21 4 (dk_at dksX0_game_1 0 rfl rfl)
theorem dX0_game_25 : decode cX0_game 25 = .ok (.aload_n 0, 1) := dk_42 (dk_at dksX0_game_1 2 rfl rfl)
theorem dX0_game_26 : decode cX0_game 26 = .ok (.iload_n 1, 1) := dk_27 (dk_at dksX0_game_1 3 rfl rfl)
theorem dX0_game_27 : decode cX0_game 27 = .ok (.iconst 0, 1) := dk_3 (dk_at dksX0_game_1 4 rfl rfl)
theorem dX0_game_28 : decode cX0_game 28 = .ok (.iload 4, 2) := dk_21 4 (dk_at dksX0_game_1 5 rfl rfl)
theorem dX0_game_30 : decode cX0_game 30 = .ok (.invokevirtual 315, 3) := dk_182 1 59 (dk_at dksX0_game_1 7 rfl rfl)
theorem dX0_game_33 : decode cX0_game 33 = .ok (.ifCond .eq 32, 3) := dk_153 0 32 (dk_at dksX0_game_1 10 rfl rfl)
theorem dX0_game_36 : decode cX0_game 36 = .ok (.aload_n 0, 1) := dk_42 (dk_at dksX0_game_1 13 rfl rfl)
theorem dX0_game_37 : decode cX0_game 37 = .ok (.getfield 43, 3) := dk_180 0 43 (dk_at dksX0_game_1 14 rfl rfl)
theorem dX0_game_40 : decode cX0_game 40 = .ok (.bipush 9, 2) := dk_16 9 (dk_at dksX0_game_1 17 rfl rfl)
theorem dX0_game_42 : decode cX0_game 42 = .ok (.iload_n 1, 1) := dk_27 (dk_at dksX0_game_1 19 rfl rfl)
theorem dX0_game_43 : decode cX0_game 43 = .ok (.iadd, 1) := dk_96 (dk_at dksX0_game_1 20 rfl rfl)
theorem dX0_game_44 : decode cX0_game 44 = .ok (.iaload, 1) := dk_46 (dk_at dksX0_game_1 21 rfl rfl)
theorem dX0_game_45 : decode cX0_game 45 = .ok (.iconst 3, 1) := dk_6 (dk_at dksX0_game_1 22 rfl rfl)
theorem dX0_game_46 : decode cX0_game 46 = .ok (.if_icmp .ne 19, 3) := dk_160 0 19 (dk_at dksX0_game_2 0 rfl rfl)
theorem dX0_game_49 : decode cX0_game 49 = .ok (.ldc_w 342, 3) := dk_19 1 86 (dk_at dksX0_game_2 3 rfl rfl)
theorem dX0_game_52 : decode cX0_game 52 = .ok (.aload_n 0, 1) := dk_42 (dk_at dksX0_game_2 6 rfl rfl)
theorem dX0_game_53 : decode cX0_game 53 = .ok (.getfield 43, 3) := dk_180 0 43 (dk_at dksX0_game_2 7 rfl rfl)
theorem dX0_game_56 : decode cX0_game 56 = .ok (.bipush 17, 2) := dk_16 17 (dk_at dksX0_game_2 10 rfl rfl)
theorem dX0_game_58 : decode cX0_game 58 = .ok (.iload_n 1, 1) := dk_27 (dk_at dksX0_game_2 12 rfl rfl)
theorem dX0_game_59 : decode cX0_game 59 = .ok (.iadd, 1) := dk_96 (dk_at dksX0_game_2 13 rfl rfl)
theorem dX0_game_60 : decode cX0_game 60 = .ok (.iaload, 1) := dk_46 (dk_at dksX0_game_2 14 rfl rfl)
theorem dX0_game_61 : decode cX0_game 61 = .ok (.iadd, 1) := dk_96 (dk_at dksX0_game_2 15 rfl rfl)
theorem dX0_game_62 : decode cX0_game 62 = .ok (.goto 4, 3) := dk_167 0 4 (dk_at dksX0_game_2 16 rfl rfl)
theorem dX0_game_65 : decode cX0_game 65 = .ok (.iconst 0, 1) := dk_3 (dk_at dksX0_game_2 19 rfl rfl)
theorem dX0_game_66 : decode cX0_game 66 = .ok (.iastore, 1) := dk_79 (dk_at dksX0_game_2 20 rfl rfl)
theorem dX0_game_67 : decode cX0_game 67 = .ok (.iinc 4 1, 3) := dk_132 4 1 (dk_at dksX0_game_2 21 rfl rfl)
theorem dX0_game_70 : decode cX0_game 70 = .ok (.goto (-57), 3) := dk_167 255 199 (dk_at dksX0_game_3 0 rfl rfl)
theorem dX0_game_73 : decode cX0_game 73 = .ok (.aload_n 0, 1) := dk_42 (dk_at dksX0_game_3 3 rfl rfl)
theorem dX0_game_74 : decode cX0_game 74 = .ok (.iconst 0, 1) := dk_3 (dk_at dksX0_game_3 4 rfl rfl)
theorem dX0_game_75 : decode cX0_game 75 = .ok (.iconst 0, 1) := dk_3 (dk_at dksX0_game_3 5 rfl rfl)
theorem dX0_game_76 : decode cX0_game 76 = .ok (.iload_n 2, 1) := dk_28 (dk_at dksX0_game_3 6 rfl rfl)
theorem dX0_game_77 : decode cX0_game 77 = .ok (.invokevirtual 336, 3) := dk_182 1 80 (dk_at dksX0_game_3 7 rfl rfl)
theorem dX0_game_80 : decode cX0_game 80 = .ok (.istore 4, 2) := dk_54 4 (dk_at dksX0_game_3 10 rfl rfl)
theorem dX0_game_82 : decode cX0_game 82 = .ok (.iload_n 3, 1) := dk_29 (dk_at dksX0_game_3 12 rfl rfl)
theorem dX0_game_83 : decode cX0_game 83 = .ok (.ifCond .eq 31, 3) := dk_153 0 31 (dk_at dksX0_game_3 13 rfl rfl)
theorem dX0_game_86 : decode cX0_game 86 = .ok (.aload_n 0, 1) := dk_42 (dk_at dksX0_game_3 16 rfl rfl)
theorem dX0_game_87 : decode cX0_game 87 = .ok (.iconst 1, 1) := dk_4 (dk_at dksX0_game_3 17 rfl rfl)
theorem dX0_game_88 : decode cX0_game 88 = .ok (.iconst 0, 1) := dk_3 (dk_at dksX0_game_3 18 rfl rfl)
theorem dX0_game_89 : decode cX0_game 89 = .ok (.iload_n 2, 1) := dk_28 (dk_at dksX0_game_3 19 rfl rfl)
theorem dX0_game_90 : decode cX0_game 90 = .ok (.ifCond .ne 7, 3) := dk_154 0 7 (dk_at dksX0_game_3 20 rfl rfl)
theorem dX0_game_93 : decode cX0_game 93 = .ok (.iconst 1, 1) := dk_4 (dk_at dksX0_game_3 23 rfl rfl)
theorem dX0_game_94 : decode cX0_game 94 = .ok (.goto 4, 3) := dk_167 0 4 (dk_at dksX0_game_4 0 rfl rfl)
theorem dX0_game_97 : decode cX0_game 97 = .ok (.iconst 0, 1) := dk_3 (dk_at dksX0_game_4 3 rfl rfl)
theorem dX0_game_98 : decode cX0_game 98 = .ok (.invokevirtual 336, 3) := dk_182 1 80 (dk_at dksX0_game_4 4 rfl rfl)
theorem dX0_game_101 : decode cX0_game 101 = .ok (.iload 4, 2) := dk_21 4 (dk_at dksX0_game_4 7 rfl rfl)
theorem dX0_game_103 : decode cX0_game 103 = .ok (.if_icmp .ne 7, 3) := dk_160 0 7 (dk_at dksX0_game_4 9 rfl rfl)
theorem dX0_game_106 : decode cX0_game 106 = .ok (.iconst 0, 1) := dk_3 (dk_at dksX0_game_4 12 rfl rfl)
theorem dX0_game_107 : decode cX0_game 107 = .ok (.goto 9, 3) := dk_167 0 9 (dk_at dksX0_game_4 13 rfl rfl)
theorem dX0_game_110 : decode cX0_game 110 = .ok (.iconst 1, 1) := dk_4 (dk_at dksX0_game_4 16 rfl rfl)
theorem dX0_game_111 : decode cX0_game 111 = .ok (.goto 5, 3) := dk_167 0 5 (dk_at dksX0_game_4 17 rfl rfl)
theorem dX0_game_114 : decode cX0_game 114 = .ok (.iload 4, 2) := dk_21 4 (dk_at dksX0_game_4 20 rfl rfl)
theorem dX0_game_116 : decode cX0_game 116 = .ok (.ireturn, 1) := dk_172 (dk_at dksX0_game_4 22 rfl rfl)
abbrev cX0_plays : ByteArray := prog_1_method_63_code
def yX0_plays : MethodName := ⟨RX0, "plays", "(IIZ)I"⟩
def dkwX0_plays_3 : List UInt8 := [184, 1, 62, 167, 0, 10, 21, 4, 21, 5, 184, 1, 84, 172]
abbrev dktX0_plays_3 : List UInt8 := dkwX0_plays_3 ++ []
def dkwX0_plays_2 : List UInt8 := [29, 154, 0, 7, 4, 167, 0, 4, 3, 182, 1, 80, 54, 5, 29, 153, 0, 13, 21, 4, 21, 5]
abbrev dktX0_plays_2 : List UInt8 := dkwX0_plays_2 ++ dktX0_plays_3
def dkwX0_plays_1 : List UInt8 := [167, 0, 4, 3, 182, 1, 80, 54, 4, 28, 6, 160, 0, 6, 21, 4, 172, 42, 27, 4, 96, 28, 4, 96]
abbrev dktX0_plays_1 : List UInt8 := dkwX0_plays_1 ++ dktX0_plays_2
def dkwX0_plays_0 : List UInt8 := [27, 16, 6, 160, 0, 10, 42, 180, 0, 51, 28, 46, 172, 42, 27, 4, 96, 28, 29, 154, 0, 7, 4]
abbrev dktX0_plays_0 : List UInt8 := dkwX0_plays_0 ++ dktX0_plays_1
theorem dksX0_plays_0 : cX0_plays.data.toList.drop 0 = dktX0_plays_0 := by decide +kernel
theorem dksX0_plays_1 : cX0_plays.data.toList.drop 23 = dktX0_plays_1 := dk_seg dksX0_plays_0 23 rfl rfl
theorem dksX0_plays_2 : cX0_plays.data.toList.drop 47 = dktX0_plays_2 := dk_seg dksX0_plays_1 24 rfl rfl
theorem dksX0_plays_3 : cX0_plays.data.toList.drop 69 = dktX0_plays_3 := dk_seg dksX0_plays_2 22 rfl rfl
theorem dX0_plays_0 : decode cX0_plays 0 = .ok (.iload_n 1, 1) := dk_27 (dk_at dksX0_plays_0 0 rfl rfl)
theorem dX0_plays_1 : decode cX0_plays 1 = .ok (.bipush 6, 2) := dk_16 6 (dk_at dksX0_plays_0 1 rfl rfl)
theorem dX0_plays_3 : decode cX0_plays 3 = .ok (.if_icmp .ne 10, 3) := dk_160 0 10 (dk_at dksX0_plays_0 3 rfl rfl)
theorem dX0_plays_6 : decode cX0_plays 6 = .ok (.aload_n 0, 1) := dk_42 (dk_at dksX0_plays_0 6 rfl rfl)
theorem dX0_plays_7 : decode cX0_plays 7 = .ok (.getfield 51, 3) := dk_180 0 51 (dk_at dksX0_plays_0 7 rfl rfl)
theorem dX0_plays_10 : decode cX0_plays 10 = .ok (.iload_n 2, 1) := dk_28 (dk_at dksX0_plays_0 10 rfl rfl)
theorem dX0_plays_11 : decode cX0_plays 11 = .ok (.iaload, 1) := dk_46 (dk_at dksX0_plays_0 11 rfl rfl)
theorem dX0_plays_12 : decode cX0_plays 12 = .ok (.ireturn, 1) := dk_172 (dk_at dksX0_plays_0 12 rfl rfl)
theorem dX0_plays_13 : decode cX0_plays 13 = .ok (.aload_n 0, 1) := dk_42 (dk_at dksX0_plays_0 13 rfl rfl)
theorem dX0_plays_14 : decode cX0_plays 14 = .ok (.iload_n 1, 1) := dk_27 (dk_at dksX0_plays_0 14 rfl rfl)
theorem dX0_plays_15 : decode cX0_plays 15 = .ok (.iconst 1, 1) := dk_4 (dk_at dksX0_plays_0 15 rfl rfl)
theorem dX0_plays_16 : decode cX0_plays 16 = .ok (.iadd, 1) := dk_96 (dk_at dksX0_plays_0 16 rfl rfl)
theorem dX0_plays_17 : decode cX0_plays 17 = .ok (.iload_n 2, 1) := dk_28 (dk_at dksX0_plays_0 17 rfl rfl)
theorem dX0_plays_18 : decode cX0_plays 18 = .ok (.iload_n 3, 1) := dk_29 (dk_at dksX0_plays_0 18 rfl rfl)
theorem dX0_plays_19 : decode cX0_plays 19 = .ok (.ifCond .ne 7, 3) := dk_154 0 7 (dk_at dksX0_plays_0 19 rfl rfl)
theorem dX0_plays_22 : decode cX0_plays 22 = .ok (.iconst 1, 1) := dk_4 (dk_at dksX0_plays_0 22 rfl rfl)
theorem dX0_plays_23 : decode cX0_plays 23 = .ok (.goto 4, 3) := dk_167 0 4 (dk_at dksX0_plays_1 0 rfl rfl)
theorem dX0_plays_26 : decode cX0_plays 26 = .ok (.iconst 0, 1) := dk_3 (dk_at dksX0_plays_1 3 rfl rfl)
theorem dX0_plays_27 : decode cX0_plays 27 = .ok (.invokevirtual 336, 3) := dk_182 1 80 (dk_at dksX0_plays_1 4 rfl rfl)
theorem dX0_plays_30 : decode cX0_plays 30 = .ok (.istore 4, 2) := dk_54 4 (dk_at dksX0_plays_1 7 rfl rfl)
theorem dX0_plays_32 : decode cX0_plays 32 = .ok (.iload_n 2, 1) := dk_28 (dk_at dksX0_plays_1 9 rfl rfl)
theorem dX0_plays_33 : decode cX0_plays 33 = .ok (.iconst 3, 1) := dk_6 (dk_at dksX0_plays_1 10 rfl rfl)
theorem dX0_plays_34 : decode cX0_plays 34 = .ok (.if_icmp .ne 6, 3) := dk_160 0 6 (dk_at dksX0_plays_1 11 rfl rfl)
theorem dX0_plays_37 : decode cX0_plays 37 = .ok (.iload 4, 2) := dk_21 4 (dk_at dksX0_plays_1 14 rfl rfl)
theorem dX0_plays_39 : decode cX0_plays 39 = .ok (.ireturn, 1) := dk_172 (dk_at dksX0_plays_1 16 rfl rfl)
theorem dX0_plays_40 : decode cX0_plays 40 = .ok (.aload_n 0, 1) := dk_42 (dk_at dksX0_plays_1 17 rfl rfl)
theorem dX0_plays_41 : decode cX0_plays 41 = .ok (.iload_n 1, 1) := dk_27 (dk_at dksX0_plays_1 18 rfl rfl)
theorem dX0_plays_42 : decode cX0_plays 42 = .ok (.iconst 1, 1) := dk_4 (dk_at dksX0_plays_1 19 rfl rfl)
theorem dX0_plays_43 : decode cX0_plays 43 = .ok (.iadd, 1) := dk_96 (dk_at dksX0_plays_1 20 rfl rfl)
theorem dX0_plays_44 : decode cX0_plays 44 = .ok (.iload_n 2, 1) := dk_28 (dk_at dksX0_plays_1 21 rfl rfl)
theorem dX0_plays_45 : decode cX0_plays 45 = .ok (.iconst 1, 1) := dk_4 (dk_at dksX0_plays_1 22 rfl rfl)
theorem dX0_plays_46 : decode cX0_plays 46 = .ok (.iadd, 1) := dk_96 (dk_at dksX0_plays_1 23 rfl rfl)
theorem dX0_plays_47 : decode cX0_plays 47 = .ok (.iload_n 3, 1) := dk_29 (dk_at dksX0_plays_2 0 rfl rfl)
theorem dX0_plays_48 : decode cX0_plays 48 = .ok (.ifCond .ne 7, 3) := dk_154 0 7 (dk_at dksX0_plays_2 1 rfl rfl)
theorem dX0_plays_51 : decode cX0_plays 51 = .ok (.iconst 1, 1) := dk_4 (dk_at dksX0_plays_2 4 rfl rfl)
theorem dX0_plays_52 : decode cX0_plays 52 = .ok (.goto 4, 3) := dk_167 0 4 (dk_at dksX0_plays_2 5 rfl rfl)
theorem dX0_plays_55 : decode cX0_plays 55 = .ok (.iconst 0, 1) := dk_3 (dk_at dksX0_plays_2 8 rfl rfl)
theorem dX0_plays_56 : decode cX0_plays 56 = .ok (.invokevirtual 336, 3) := dk_182 1 80 (dk_at dksX0_plays_2 9 rfl rfl)
theorem dX0_plays_59 : decode cX0_plays 59 = .ok (.istore 5, 2) := dk_54 5 (dk_at dksX0_plays_2 12 rfl rfl)
theorem dX0_plays_61 : decode cX0_plays 61 = .ok (.iload_n 3, 1) := dk_29 (dk_at dksX0_plays_2 14 rfl rfl)
theorem dX0_plays_62 : decode cX0_plays 62 = .ok (.ifCond .eq 13, 3) := dk_153 0 13 (dk_at dksX0_plays_2 15 rfl rfl)
theorem dX0_plays_65 : decode cX0_plays 65 = .ok (.iload 4, 2) := dk_21 4 (dk_at dksX0_plays_2 18 rfl rfl)
theorem dX0_plays_67 : decode cX0_plays 67 = .ok (.iload 5, 2) := dk_21 5 (dk_at dksX0_plays_2 20 rfl rfl)
theorem dX0_plays_69 : decode cX0_plays 69 = .ok (.invokestatic 318, 3) := dk_184 1 62 (dk_at dksX0_plays_3 0 rfl rfl)
theorem dX0_plays_72 : decode cX0_plays 72 = .ok (.goto 10, 3) := dk_167 0 10 (dk_at dksX0_plays_3 3 rfl rfl)
theorem dX0_plays_75 : decode cX0_plays 75 = .ok (.iload 4, 2) := dk_21 4 (dk_at dksX0_plays_3 6 rfl rfl)
theorem dX0_plays_77 : decode cX0_plays 77 = .ok (.iload 5, 2) := dk_21 5 (dk_at dksX0_plays_3 8 rfl rfl)
theorem dX0_plays_79 : decode cX0_plays 79 = .ok (.invokestatic 340, 3) := dk_184 1 84 (dk_at dksX0_plays_3 10 rfl rfl)
theorem dX0_plays_82 : decode cX0_plays 82 = .ok (.ireturn, 1) := dk_172 (dk_at dksX0_plays_3 13 rfl rfl)
abbrev cX0_session : ByteArray := prog_1_method_67_code
def yX0_session : MethodName := ⟨RX0, "session", "(II)I"⟩
def dkwX0_session_4 : List UInt8 := [182, 1, 93, 28, 2, 160, 0, 10, 42, 180, 1, 90, 167, 0, 9, 42, 180, 0, 57, 28, 46, 172]
abbrev dktX0_session_4 : List UInt8 := dkwX0_session_4 ++ []
def dkwX0_session_3 : List UInt8 := [29, 182, 0, 217, 154, 0, 6, 16, 254, 172, 132, 3, 1, 167, 255, 221, 42, 2, 181, 1, 90, 42, 27, 3]
abbrev dktX0_session_3 : List UInt8 := dkwX0_session_3 ++ dktX0_session_4
def dkwX0_session_2 : List UInt8 := [3, 62, 29, 42, 180, 0, 21, 180, 0, 64, 3, 46, 162, 0, 28, 27, 29, 184, 0, 124, 153, 0, 14, 42]
abbrev dktX0_session_2 : List UInt8 := dkwX0_session_2 ++ dktX0_session_3
def dkwX0_session_1 : List UInt8 := [184, 0, 141, 8, 163, 0, 17, 28, 2, 27, 184, 0, 141, 4, 100, 184, 0, 67, 154, 0, 6, 16, 254, 172]
abbrev dktX0_session_1 : List UInt8 := dkwX0_session_1 ++ dktX0_session_2
def dkwX0_session_0 : List UInt8 := [27, 4, 4, 42, 180, 0, 21, 180, 0, 64, 3, 46, 120, 4, 100, 184, 0, 67, 153, 0, 25, 27]
abbrev dktX0_session_0 : List UInt8 := dkwX0_session_0 ++ dktX0_session_1
theorem dksX0_session_0 : cX0_session.data.toList.drop 0 = dktX0_session_0 := by decide +kernel
theorem dksX0_session_1 : cX0_session.data.toList.drop 22 = dktX0_session_1 := dk_seg dksX0_session_0 22 rfl rfl
theorem dksX0_session_2 : cX0_session.data.toList.drop 46 = dktX0_session_2 := dk_seg dksX0_session_1 24 rfl rfl
theorem dksX0_session_3 : cX0_session.data.toList.drop 70 = dktX0_session_3 := dk_seg dksX0_session_2 24 rfl rfl
theorem dksX0_session_4 : cX0_session.data.toList.drop 94 = dktX0_session_4 := dk_seg dksX0_session_3 24 rfl rfl
theorem dX0_session_0 : decode cX0_session 0 = .ok (.iload_n 1, 1) := dk_27 (dk_at dksX0_session_0 0 rfl rfl)
theorem dX0_session_1 : decode cX0_session 1 = .ok (.iconst 1, 1) := dk_4 (dk_at dksX0_session_0 1 rfl rfl)
theorem dX0_session_2 : decode cX0_session 2 = .ok (.iconst 1, 1) := dk_4 (dk_at dksX0_session_0 2 rfl rfl)
theorem dX0_session_3 : decode cX0_session 3 = .ok (.aload_n 0, 1) := dk_42 (dk_at dksX0_session_0 3 rfl rfl)
theorem dX0_session_4 : decode cX0_session 4 = .ok (.getfield 21, 3) := dk_180 0 21 (dk_at dksX0_session_0 4 rfl rfl)
theorem dX0_session_7 : decode cX0_session 7 = .ok (.getfield 64, 3) := dk_180 0 64 (dk_at dksX0_session_0 7 rfl rfl)
theorem dX0_session_10 : decode cX0_session 10 = .ok (.iconst 0, 1) := dk_3 (dk_at dksX0_session_0 10 rfl rfl)
theorem dX0_session_11 : decode cX0_session 11 = .ok (.iaload, 1) := dk_46 (dk_at dksX0_session_0 11 rfl rfl)
theorem dX0_session_12 : decode cX0_session 12 = .ok (.ishl, 1) := dk_120 (dk_at dksX0_session_0 12 rfl rfl)
theorem dX0_session_13 : decode cX0_session 13 = .ok (.iconst 1, 1) := dk_4 (dk_at dksX0_session_0 13 rfl rfl)
theorem dX0_session_14 : decode cX0_session 14 = .ok (.isub, 1) := dk_100 (dk_at dksX0_session_0 14 rfl rfl)
theorem dX0_session_15 : decode cX0_session 15 = .ok (.invokestatic 67, 3) := dk_184 0 67 (dk_at dksX0_session_0 15 rfl rfl)
theorem dX0_session_18 : decode cX0_session 18 = .ok (.ifCond .eq 25, 3) := dk_153 0 25 (dk_at dksX0_session_0 18 rfl rfl)
theorem dX0_session_21 : decode cX0_session 21 = .ok (.iload_n 1, 1) := dk_27 (dk_at dksX0_session_0 21 rfl rfl)
theorem dX0_session_22 : decode cX0_session 22 = .ok (.invokestatic 141, 3) := dk_184 0 141 (dk_at dksX0_session_1 0 rfl rfl)
theorem dX0_session_25 : decode cX0_session 25 = .ok (.iconst 5, 1) := dk_8 (dk_at dksX0_session_1 3 rfl rfl)
theorem dX0_session_26 : decode cX0_session 26 = .ok (.if_icmp .gt 17, 3) := dk_163 0 17 (dk_at dksX0_session_1 4 rfl rfl)
theorem dX0_session_29 : decode cX0_session 29 = .ok (.iload_n 2, 1) := dk_28 (dk_at dksX0_session_1 7 rfl rfl)
theorem dX0_session_30 : decode cX0_session 30 = .ok (.iconst (-1), 1) := dk_2 (dk_at dksX0_session_1 8 rfl rfl)
theorem dX0_session_31 : decode cX0_session 31 = .ok (.iload_n 1, 1) := dk_27 (dk_at dksX0_session_1 9 rfl rfl)
theorem dX0_session_32 : decode cX0_session 32 = .ok (.invokestatic 141, 3) := dk_184 0 141 (dk_at dksX0_session_1 10 rfl rfl)
theorem dX0_session_35 : decode cX0_session 35 = .ok (.iconst 1, 1) := dk_4 (dk_at dksX0_session_1 13 rfl rfl)
theorem dX0_session_36 : decode cX0_session 36 = .ok (.isub, 1) := dk_100 (dk_at dksX0_session_1 14 rfl rfl)
theorem dX0_session_37 : decode cX0_session 37 = .ok (.invokestatic 67, 3) := dk_184 0 67 (dk_at dksX0_session_1 15 rfl rfl)
theorem dX0_session_40 : decode cX0_session 40 = .ok (.ifCond .ne 6, 3) := dk_154 0 6 (dk_at dksX0_session_1 18 rfl rfl)
theorem dX0_session_43 : decode cX0_session 43 = .ok (.bipush (-2), 2) := dk_16 254 (dk_at dksX0_session_1 21 rfl rfl)
theorem dX0_session_45 : decode cX0_session 45 = .ok (.ireturn, 1) := dk_172 (dk_at dksX0_session_1 23 rfl rfl)
theorem dX0_session_46 : decode cX0_session 46 = .ok (.iconst 0, 1) := dk_3 (dk_at dksX0_session_2 0 rfl rfl)
theorem dX0_session_47 : decode cX0_session 47 = .ok (.istore_n 3, 1) := dk_62 (dk_at dksX0_session_2 1 rfl rfl)
theorem dX0_session_48 : decode cX0_session 48 = .ok (.iload_n 3, 1) := dk_29 (dk_at dksX0_session_2 2 rfl rfl)
theorem dX0_session_49 : decode cX0_session 49 = .ok (.aload_n 0, 1) := dk_42 (dk_at dksX0_session_2 3 rfl rfl)
theorem dX0_session_50 : decode cX0_session 50 = .ok (.getfield 21, 3) := dk_180 0 21 (dk_at dksX0_session_2 4 rfl rfl)
theorem dX0_session_53 : decode cX0_session 53 = .ok (.getfield 64, 3) := dk_180 0 64 (dk_at dksX0_session_2 7 rfl rfl)
theorem dX0_session_56 : decode cX0_session 56 = .ok (.iconst 0, 1) := dk_3 (dk_at dksX0_session_2 10 rfl rfl)
theorem dX0_session_57 : decode cX0_session 57 = .ok (.iaload, 1) := dk_46 (dk_at dksX0_session_2 11 rfl rfl)
theorem dX0_session_58 : decode cX0_session 58 = .ok (.if_icmp .ge 28, 3) := dk_162 0 28 (dk_at dksX0_session_2 12 rfl rfl)
theorem dX0_session_61 : decode cX0_session 61 = .ok (.iload_n 1, 1) := dk_27 (dk_at dksX0_session_2 15 rfl rfl)
theorem dX0_session_62 : decode cX0_session 62 = .ok (.iload_n 3, 1) := dk_29 (dk_at dksX0_session_2 16 rfl rfl)
theorem dX0_session_63 : decode cX0_session 63 = .ok (.invokestatic 124, 3) := dk_184 0 124 (dk_at dksX0_session_2 17 rfl rfl)
theorem dX0_session_66 : decode cX0_session 66 = .ok (.ifCond .eq 14, 3) := dk_153 0 14 (dk_at dksX0_session_2 20 rfl rfl)
theorem dX0_session_69 : decode cX0_session 69 = .ok (.aload_n 0, 1) := dk_42 (dk_at dksX0_session_2 23 rfl rfl)
theorem dX0_session_70 : decode cX0_session 70 = .ok (.iload_n 3, 1) := dk_29 (dk_at dksX0_session_3 0 rfl rfl)
theorem dX0_session_71 : decode cX0_session 71 = .ok (.invokevirtual 217, 3) := dk_182 0 217 (dk_at dksX0_session_3 1 rfl rfl)
theorem dX0_session_74 : decode cX0_session 74 = .ok (.ifCond .ne 6, 3) := dk_154 0 6 (dk_at dksX0_session_3 4 rfl rfl)
theorem dX0_session_77 : decode cX0_session 77 = .ok (.bipush (-2), 2) := dk_16 254 (dk_at dksX0_session_3 7 rfl rfl)
theorem dX0_session_79 : decode cX0_session 79 = .ok (.ireturn, 1) := dk_172 (dk_at dksX0_session_3 9 rfl rfl)
theorem dX0_session_80 : decode cX0_session 80 = .ok (.iinc 3 1, 3) := dk_132 3 1 (dk_at dksX0_session_3 10 rfl rfl)
theorem dX0_session_83 : decode cX0_session 83 = .ok (.goto (-35), 3) := dk_167 255 221 (dk_at dksX0_session_3 13 rfl rfl)
theorem dX0_session_86 : decode cX0_session 86 = .ok (.aload_n 0, 1) := dk_42 (dk_at dksX0_session_3 16 rfl rfl)
theorem dX0_session_87 : decode cX0_session 87 = .ok (.iconst (-1), 1) := dk_2 (dk_at dksX0_session_3 17 rfl rfl)
theorem dX0_session_88 : decode cX0_session 88 = .ok (.putfield 346, 3) := dk_181 1 90 (dk_at dksX0_session_3 18 rfl rfl)
theorem dX0_session_91 : decode cX0_session 91 = .ok (.aload_n 0, 1) := dk_42 (dk_at dksX0_session_3 21 rfl rfl)
theorem dX0_session_92 : decode cX0_session 92 = .ok (.iload_n 1, 1) := dk_27 (dk_at dksX0_session_3 22 rfl rfl)
theorem dX0_session_93 : decode cX0_session 93 = .ok (.iconst 0, 1) := dk_3 (dk_at dksX0_session_3 23 rfl rfl)
theorem dX0_session_94 : decode cX0_session 94 = .ok (.invokevirtual 349, 3) := dk_182 1 93 (dk_at dksX0_session_4 0 rfl rfl)
theorem dX0_session_97 : decode cX0_session 97 = .ok (.iload_n 2, 1) := dk_28 (dk_at dksX0_session_4 3 rfl rfl)
theorem dX0_session_98 : decode cX0_session 98 = .ok (.iconst (-1), 1) := dk_2 (dk_at dksX0_session_4 4 rfl rfl)
theorem dX0_session_99 : decode cX0_session 99 = .ok (.if_icmp .ne 10, 3) := dk_160 0 10 (dk_at dksX0_session_4 5 rfl rfl)
theorem dX0_session_102 : decode cX0_session 102 = .ok (.aload_n 0, 1) := dk_42 (dk_at dksX0_session_4 8 rfl rfl)
theorem dX0_session_103 : decode cX0_session 103 = .ok (.getfield 346, 3) := dk_180 1 90 (dk_at dksX0_session_4 9 rfl rfl)
theorem dX0_session_106 : decode cX0_session 106 = .ok (.goto 9, 3) := dk_167 0 9 (dk_at dksX0_session_4 12 rfl rfl)
theorem dX0_session_109 : decode cX0_session 109 = .ok (.aload_n 0, 1) := dk_42 (dk_at dksX0_session_4 15 rfl rfl)
theorem dX0_session_110 : decode cX0_session 110 = .ok (.getfield 57, 3) := dk_180 0 57 (dk_at dksX0_session_4 16 rfl rfl)
theorem dX0_session_113 : decode cX0_session 113 = .ok (.iload_n 2, 1) := dk_28 (dk_at dksX0_session_4 19 rfl rfl)
theorem dX0_session_114 : decode cX0_session 114 = .ok (.iaload, 1) := dk_46 (dk_at dksX0_session_4 20 rfl rfl)
theorem dX0_session_115 : decode cX0_session 115 = .ok (.ireturn, 1) := dk_172 (dk_at dksX0_session_4 21 rfl rfl)
abbrev cX0_orders : ByteArray := prog_1_method_66_code
def yX0_orders : MethodName := ⟨RX0, "orders", "(II)V"⟩
def dkwX0_orders_3 : List UInt8 := [29, 79, 42, 27, 4, 29, 120, 2, 130, 126, 28, 4, 96, 182, 1, 93, 132, 3, 1, 167, 255, 208, 177]
abbrev dktX0_orders_3 : List UInt8 := dkwX0_orders_3 ++ []
def dkwX0_orders_2 : List UInt8 := [180, 0, 64, 3, 46, 162, 0, 41, 27, 29, 184, 0, 124, 154, 0, 6, 167, 0, 24, 42, 180, 0, 54, 28]
abbrev dktX0_orders_2 : List UInt8 := dkwX0_orders_2 ++ dktX0_orders_3
def dkwX0_orders_1 : List UInt8 := [42, 180, 0, 54, 3, 42, 180, 0, 57, 3, 28, 184, 0, 161, 177, 3, 62, 29, 42, 180, 0, 21]
abbrev dktX0_orders_1 : List UInt8 := dkwX0_orders_1 ++ dktX0_orders_2
def dkwX0_orders_0 : List UInt8 := [27, 154, 0, 38, 42, 28, 182, 1, 87, 62, 29, 42, 180, 1, 90, 163, 0, 4, 177, 42, 29, 181, 1, 90]
abbrev dktX0_orders_0 : List UInt8 := dkwX0_orders_0 ++ dktX0_orders_1
theorem dksX0_orders_0 : cX0_orders.data.toList.drop 0 = dktX0_orders_0 := by decide +kernel
theorem dksX0_orders_1 : cX0_orders.data.toList.drop 24 = dktX0_orders_1 := dk_seg dksX0_orders_0 24 rfl rfl
theorem dksX0_orders_2 : cX0_orders.data.toList.drop 46 = dktX0_orders_2 := dk_seg dksX0_orders_1 22 rfl rfl
theorem dksX0_orders_3 : cX0_orders.data.toList.drop 70 = dktX0_orders_3 := dk_seg dksX0_orders_2 24 rfl rfl
theorem dX0_orders_0 : decode cX0_orders 0 = .ok (.iload_n 1, 1) := dk_27 (dk_at dksX0_orders_0 0 rfl rfl)
theorem dX0_orders_1 : decode cX0_orders 1 = .ok (.ifCond .ne 38, 3) := dk_154 0 38 (dk_at dksX0_orders_0 1 rfl rfl)
theorem dX0_orders_4 : decode cX0_orders 4 = .ok (.aload_n 0, 1) := dk_42 (dk_at dksX0_orders_0 4 rfl rfl)
theorem dX0_orders_5 : decode cX0_orders 5 = .ok (.iload_n 2, 1) := dk_28 (dk_at dksX0_orders_0 5 rfl rfl)
theorem dX0_orders_6 : decode cX0_orders 6 = .ok (.invokevirtual 343, 3) := dk_182 1 87 (dk_at dksX0_orders_0 6 rfl rfl)
theorem dX0_orders_9 : decode cX0_orders 9 = .ok (.istore_n 3, 1) := dk_62 (dk_at dksX0_orders_0 9 rfl rfl)
theorem dX0_orders_10 : decode cX0_orders 10 = .ok (.iload_n 3, 1) := dk_29 (dk_at dksX0_orders_0 10 rfl rfl)
theorem dX0_orders_11 : decode cX0_orders 11 = .ok (.aload_n 0, 1) := dk_42 (dk_at dksX0_orders_0 11 rfl rfl)
theorem dX0_orders_12 : decode cX0_orders 12 = .ok (.getfield 346, 3) := dk_180 1 90 (dk_at dksX0_orders_0 12 rfl rfl)
theorem dX0_orders_15 : decode cX0_orders 15 = .ok (.if_icmp .gt 4, 3) := dk_163 0 4 (dk_at dksX0_orders_0 15 rfl rfl)
theorem dX0_orders_18 : decode cX0_orders 18 = .ok (.return_, 1) := dk_177 (dk_at dksX0_orders_0 18 rfl rfl)
theorem dX0_orders_19 : decode cX0_orders 19 = .ok (.aload_n 0, 1) := dk_42 (dk_at dksX0_orders_0 19 rfl rfl)
theorem dX0_orders_20 : decode cX0_orders 20 = .ok (.iload_n 3, 1) := dk_29 (dk_at dksX0_orders_0 20 rfl rfl)
theorem dX0_orders_21 : decode cX0_orders 21 = .ok (.putfield 346, 3) := dk_181 1 90 (dk_at dksX0_orders_0 21 rfl rfl)
theorem dX0_orders_24 : decode cX0_orders 24 = .ok (.aload_n 0, 1) := dk_42 (dk_at dksX0_orders_1 0 rfl rfl)
theorem dX0_orders_25 : decode cX0_orders 25 = .ok (.getfield 54, 3) := dk_180 0 54 (dk_at dksX0_orders_1 1 rfl rfl)
theorem dX0_orders_28 : decode cX0_orders 28 = .ok (.iconst 0, 1) := dk_3 (dk_at dksX0_orders_1 4 rfl rfl)
theorem dX0_orders_29 : decode cX0_orders 29 = .ok (.aload_n 0, 1) := dk_42 (dk_at dksX0_orders_1 5 rfl rfl)
theorem dX0_orders_30 : decode cX0_orders 30 = .ok (.getfield 57, 3) := dk_180 0 57 (dk_at dksX0_orders_1 6 rfl rfl)
theorem dX0_orders_33 : decode cX0_orders 33 = .ok (.iconst 0, 1) := dk_3 (dk_at dksX0_orders_1 9 rfl rfl)
theorem dX0_orders_34 : decode cX0_orders 34 = .ok (.iload_n 2, 1) := dk_28 (dk_at dksX0_orders_1 10 rfl rfl)
theorem dX0_orders_35 : decode cX0_orders 35 = .ok (.invokestatic 161, 3) := dk_184 0 161 (dk_at dksX0_orders_1 11 rfl rfl)
theorem dX0_orders_38 : decode cX0_orders 38 = .ok (.return_, 1) := dk_177 (dk_at dksX0_orders_1 14 rfl rfl)
theorem dX0_orders_39 : decode cX0_orders 39 = .ok (.iconst 0, 1) := dk_3 (dk_at dksX0_orders_1 15 rfl rfl)
theorem dX0_orders_40 : decode cX0_orders 40 = .ok (.istore_n 3, 1) := dk_62 (dk_at dksX0_orders_1 16 rfl rfl)
theorem dX0_orders_41 : decode cX0_orders 41 = .ok (.iload_n 3, 1) := dk_29 (dk_at dksX0_orders_1 17 rfl rfl)
theorem dX0_orders_42 : decode cX0_orders 42 = .ok (.aload_n 0, 1) := dk_42 (dk_at dksX0_orders_1 18 rfl rfl)
theorem dX0_orders_43 : decode cX0_orders 43 = .ok (.getfield 21, 3) := dk_180 0 21 (dk_at dksX0_orders_1 19 rfl rfl)
theorem dX0_orders_46 : decode cX0_orders 46 = .ok (.getfield 64, 3) := dk_180 0 64 (dk_at dksX0_orders_2 0 rfl rfl)
theorem dX0_orders_49 : decode cX0_orders 49 = .ok (.iconst 0, 1) := dk_3 (dk_at dksX0_orders_2 3 rfl rfl)
theorem dX0_orders_50 : decode cX0_orders 50 = .ok (.iaload, 1) := dk_46 (dk_at dksX0_orders_2 4 rfl rfl)
theorem dX0_orders_51 : decode cX0_orders 51 = .ok (.if_icmp .ge 41, 3) := dk_162 0 41 (dk_at dksX0_orders_2 5 rfl rfl)
theorem dX0_orders_54 : decode cX0_orders 54 = .ok (.iload_n 1, 1) := dk_27 (dk_at dksX0_orders_2 8 rfl rfl)
theorem dX0_orders_55 : decode cX0_orders 55 = .ok (.iload_n 3, 1) := dk_29 (dk_at dksX0_orders_2 9 rfl rfl)
theorem dX0_orders_56 : decode cX0_orders 56 = .ok (.invokestatic 124, 3) := dk_184 0 124 (dk_at dksX0_orders_2 10 rfl rfl)
theorem dX0_orders_59 : decode cX0_orders 59 = .ok (.ifCond .ne 6, 3) := dk_154 0 6 (dk_at dksX0_orders_2 13 rfl rfl)
theorem dX0_orders_62 : decode cX0_orders 62 = .ok (.goto 24, 3) := dk_167 0 24 (dk_at dksX0_orders_2 16 rfl rfl)
theorem dX0_orders_65 : decode cX0_orders 65 = .ok (.aload_n 0, 1) := dk_42 (dk_at dksX0_orders_2 19 rfl rfl)
theorem dX0_orders_66 : decode cX0_orders 66 = .ok (.getfield 54, 3) := dk_180 0 54 (dk_at dksX0_orders_2 20 rfl rfl)
theorem dX0_orders_69 : decode cX0_orders 69 = .ok (.iload_n 2, 1) := dk_28 (dk_at dksX0_orders_2 23 rfl rfl)
theorem dX0_orders_70 : decode cX0_orders 70 = .ok (.iload_n 3, 1) := dk_29 (dk_at dksX0_orders_3 0 rfl rfl)
theorem dX0_orders_71 : decode cX0_orders 71 = .ok (.iastore, 1) := dk_79 (dk_at dksX0_orders_3 1 rfl rfl)
theorem dX0_orders_72 : decode cX0_orders 72 = .ok (.aload_n 0, 1) := dk_42 (dk_at dksX0_orders_3 2 rfl rfl)
theorem dX0_orders_73 : decode cX0_orders 73 = .ok (.iload_n 1, 1) := dk_27 (dk_at dksX0_orders_3 3 rfl rfl)
theorem dX0_orders_74 : decode cX0_orders 74 = .ok (.iconst 1, 1) := dk_4 (dk_at dksX0_orders_3 4 rfl rfl)
theorem dX0_orders_75 : decode cX0_orders 75 = .ok (.iload_n 3, 1) := dk_29 (dk_at dksX0_orders_3 5 rfl rfl)
theorem dX0_orders_76 : decode cX0_orders 76 = .ok (.ishl, 1) := dk_120 (dk_at dksX0_orders_3 6 rfl rfl)
theorem dX0_orders_77 : decode cX0_orders 77 = .ok (.iconst (-1), 1) := dk_2 (dk_at dksX0_orders_3 7 rfl rfl)
theorem dX0_orders_78 : decode cX0_orders 78 = .ok (.ixor, 1) := dk_130 (dk_at dksX0_orders_3 8 rfl rfl)
theorem dX0_orders_79 : decode cX0_orders 79 = .ok (.iand, 1) := dk_126 (dk_at dksX0_orders_3 9 rfl rfl)
theorem dX0_orders_80 : decode cX0_orders 80 = .ok (.iload_n 2, 1) := dk_28 (dk_at dksX0_orders_3 10 rfl rfl)
theorem dX0_orders_81 : decode cX0_orders 81 = .ok (.iconst 1, 1) := dk_4 (dk_at dksX0_orders_3 11 rfl rfl)
theorem dX0_orders_82 : decode cX0_orders 82 = .ok (.iadd, 1) := dk_96 (dk_at dksX0_orders_3 12 rfl rfl)
theorem dX0_orders_83 : decode cX0_orders 83 = .ok (.invokevirtual 349, 3) := dk_182 1 93 (dk_at dksX0_orders_3 13 rfl rfl)
theorem dX0_orders_86 : decode cX0_orders 86 = .ok (.iinc 3 1, 3) := dk_132 3 1 (dk_at dksX0_orders_3 16 rfl rfl)
theorem dX0_orders_89 : decode cX0_orders 89 = .ok (.goto (-48), 3) := dk_167 255 208 (dk_at dksX0_orders_3 19 rfl rfl)
theorem dX0_orders_92 : decode cX0_orders 92 = .ok (.return_, 1) := dk_177 (dk_at dksX0_orders_3 22 rfl rfl)
abbrev cX0_sessionBy : ByteArray := prog_1_method_65_code
def yX0_sessionBy : MethodName := ⟨RX0, "sessionBy", "(I)I"⟩
def dkwX0_sessionBy_2 : List UInt8 := [29, 46, 96, 46, 167, 0, 4, 3, 96, 61, 132, 3, 1, 167, 255, 213, 28, 172]
abbrev dktX0_sessionBy_2 : List UInt8 := dkwX0_sessionBy_2 ++ []
def dkwX0_sessionBy_1 : List UInt8 := [42, 42, 180, 0, 54, 29, 46, 3, 182, 1, 56, 153, 0, 20, 42, 180, 0, 43, 16, 17, 42, 180, 0, 54]
abbrev dktX0_sessionBy_1 : List UInt8 := dkwX0_sessionBy_1 ++ dktX0_sessionBy_2
def dkwX0_sessionBy_0 : List UInt8 := [42, 180, 0, 21, 180, 0, 205, 42, 180, 0, 43, 184, 1, 49, 3, 61, 3, 62, 29, 27, 162, 0, 44, 28]
abbrev dktX0_sessionBy_0 : List UInt8 := dkwX0_sessionBy_0 ++ dktX0_sessionBy_1
theorem dksX0_sessionBy_0 : cX0_sessionBy.data.toList.drop 0 = dktX0_sessionBy_0 := by decide +kernel
theorem dksX0_sessionBy_1 : cX0_sessionBy.data.toList.drop 24 = dktX0_sessionBy_1 := dk_seg dksX0_sessionBy_0 24 rfl rfl
theorem dksX0_sessionBy_2 : cX0_sessionBy.data.toList.drop 48 = dktX0_sessionBy_2 := dk_seg dksX0_sessionBy_1 24 rfl rfl
theorem dX0_sessionBy_0 : decode cX0_sessionBy 0 = .ok (.aload_n 0, 1) := dk_42 (dk_at dksX0_sessionBy_0 0 rfl rfl)
theorem dX0_sessionBy_1 : decode cX0_sessionBy 1 = .ok (.getfield 21, 3) := dk_180 0 21 (dk_at dksX0_sessionBy_0 1 rfl rfl)
theorem dX0_sessionBy_4 : decode cX0_sessionBy 4 = .ok (.getfield 205, 3) := dk_180 0 205 (dk_at dksX0_sessionBy_0 4 rfl rfl)
theorem dX0_sessionBy_7 : decode cX0_sessionBy 7 = .ok (.aload_n 0, 1) := dk_42 (dk_at dksX0_sessionBy_0 7 rfl rfl)
theorem dX0_sessionBy_8 : decode cX0_sessionBy 8 = .ok (.getfield 43, 3) := dk_180 0 43 (dk_at dksX0_sessionBy_0 8 rfl rfl)
theorem dX0_sessionBy_11 : decode cX0_sessionBy 11 = .ok (.invokestatic 305, 3) := dk_184 1 49 (dk_at dksX0_sessionBy_0 11 rfl rfl)
theorem dX0_sessionBy_14 : decode cX0_sessionBy 14 = .ok (.iconst 0, 1) := dk_3 (dk_at dksX0_sessionBy_0 14 rfl rfl)
theorem dX0_sessionBy_15 : decode cX0_sessionBy 15 = .ok (.istore_n 2, 1) := dk_61 (dk_at dksX0_sessionBy_0 15 rfl rfl)
theorem dX0_sessionBy_16 : decode cX0_sessionBy 16 = .ok (.iconst 0, 1) := dk_3 (dk_at dksX0_sessionBy_0 16 rfl rfl)
theorem dX0_sessionBy_17 : decode cX0_sessionBy 17 = .ok (.istore_n 3, 1) := dk_62 (dk_at dksX0_sessionBy_0 17 rfl rfl)
theorem dX0_sessionBy_18 : decode cX0_sessionBy 18 = .ok (.iload_n 3, 1) := dk_29 (dk_at dksX0_sessionBy_0 18 rfl rfl)
theorem dX0_sessionBy_19 : decode cX0_sessionBy 19 = .ok (.iload_n 1, 1) := dk_27 (dk_at dksX0_sessionBy_0 19 rfl rfl)
theorem dX0_sessionBy_20 : decode cX0_sessionBy 20 = .ok (.if_icmp .ge 44, 3) := dk_162 0 44 (dk_at dksX0_sessionBy_0 20 rfl rfl)
theorem dX0_sessionBy_23 : decode cX0_sessionBy 23 = .ok (.iload_n 2, 1) := dk_28 (dk_at dksX0_sessionBy_0 23 rfl rfl)
theorem dX0_sessionBy_24 : decode cX0_sessionBy 24 = .ok (.aload_n 0, 1) := dk_42 (dk_at dksX0_sessionBy_1 0 rfl rfl)
theorem dX0_sessionBy_25 : decode cX0_sessionBy 25 = .ok (.aload_n 0, 1) := dk_42 (dk_at dksX0_sessionBy_1 1 rfl rfl)
theorem dX0_sessionBy_26 : decode cX0_sessionBy 26 = .ok (.getfield 54, 3) := dk_180 0 54 (dk_at dksX0_sessionBy_1 2 rfl rfl)
theorem dX0_sessionBy_29 : decode cX0_sessionBy 29 = .ok (.iload_n 3, 1) := dk_29 (dk_at dksX0_sessionBy_1 5 rfl rfl)
theorem dX0_sessionBy_30 : decode cX0_sessionBy 30 = .ok (.iaload, 1) := dk_46 (dk_at dksX0_sessionBy_1 6 rfl rfl)
theorem dX0_sessionBy_31 : decode cX0_sessionBy 31 = .ok (.iconst 0, 1) := dk_3 (dk_at dksX0_sessionBy_1 7 rfl rfl)
theorem dX0_sessionBy_32 : decode cX0_sessionBy 32 = .ok (.invokevirtual 312, 3) := dk_182 1 56 (dk_at dksX0_sessionBy_1 8 rfl rfl)
theorem dX0_sessionBy_35 : decode cX0_sessionBy 35 = .ok (.ifCond .eq 20, 3) := dk_153 0 20 (dk_at dksX0_sessionBy_1 11 rfl rfl)
theorem dX0_sessionBy_38 : decode cX0_sessionBy 38 = .ok (.aload_n 0, 1) := dk_42 (dk_at dksX0_sessionBy_1 14 rfl rfl)
theorem dX0_sessionBy_39 : decode cX0_sessionBy 39 = .ok (.getfield 43, 3) := dk_180 0 43 (dk_at dksX0_sessionBy_1 15 rfl rfl)
theorem dX0_sessionBy_42 : decode cX0_sessionBy 42 = .ok (.bipush 17, 2) := dk_16 17 (dk_at dksX0_sessionBy_1 18 rfl rfl)
theorem dX0_sessionBy_44 : decode cX0_sessionBy 44 = .ok (.aload_n 0, 1) := dk_42 (dk_at dksX0_sessionBy_1 20 rfl rfl)
theorem dX0_sessionBy_45 : decode cX0_sessionBy 45 = .ok (.getfield 54, 3) := dk_180 0 54 (dk_at dksX0_sessionBy_1 21 rfl rfl)
theorem dX0_sessionBy_48 : decode cX0_sessionBy 48 = .ok (.iload_n 3, 1) := dk_29 (dk_at dksX0_sessionBy_2 0 rfl rfl)
theorem dX0_sessionBy_49 : decode cX0_sessionBy 49 = .ok (.iaload, 1) := dk_46 (dk_at dksX0_sessionBy_2 1 rfl rfl)
theorem dX0_sessionBy_50 : decode cX0_sessionBy 50 = .ok (.iadd, 1) := dk_96 (dk_at dksX0_sessionBy_2 2 rfl rfl)
theorem dX0_sessionBy_51 : decode cX0_sessionBy 51 = .ok (.iaload, 1) := dk_46 (dk_at dksX0_sessionBy_2 3 rfl rfl)
theorem dX0_sessionBy_52 : decode cX0_sessionBy 52 = .ok (.goto 4, 3) := dk_167 0 4 (dk_at dksX0_sessionBy_2 4 rfl rfl)
theorem dX0_sessionBy_55 : decode cX0_sessionBy 55 = .ok (.iconst 0, 1) := dk_3 (dk_at dksX0_sessionBy_2 7 rfl rfl)
theorem dX0_sessionBy_56 : decode cX0_sessionBy 56 = .ok (.iadd, 1) := dk_96 (dk_at dksX0_sessionBy_2 8 rfl rfl)
theorem dX0_sessionBy_57 : decode cX0_sessionBy 57 = .ok (.istore_n 2, 1) := dk_61 (dk_at dksX0_sessionBy_2 9 rfl rfl)
theorem dX0_sessionBy_58 : decode cX0_sessionBy 58 = .ok (.iinc 3 1, 3) := dk_132 3 1 (dk_at dksX0_sessionBy_2 10 rfl rfl)
theorem dX0_sessionBy_61 : decode cX0_sessionBy 61 = .ok (.goto (-43), 3) := dk_167 255 213 (dk_at dksX0_sessionBy_2 13 rfl rfl)
theorem dX0_sessionBy_64 : decode cX0_sessionBy 64 = .ok (.iload_n 2, 1) := dk_28 (dk_at dksX0_sessionBy_2 16 rfl rfl)
theorem dX0_sessionBy_65 : decode cX0_sessionBy 65 = .ok (.ireturn, 1) := dk_172 (dk_at dksX0_sessionBy_2 17 rfl rfl)
abbrev cX0_record : ByteArray := prog_1_method_68_code
def yX0_record : MethodName := ⟨RX0, "record", "(IIZ)I"⟩
def dkwX0_record_4 : List UInt8 := [172]
abbrev dktX0_record_4 : List UInt8 := dkwX0_record_4 ++ []
def dkwX0_record_3 : List UInt8 := [167, 0, 4, 3, 79, 58, 4, 42, 180, 0, 21, 42, 180, 0, 21, 180, 1, 97, 7, 25, 4, 182, 0, 74]
abbrev dktX0_record_3 : List UInt8 := dkwX0_record_3 ++ dktX0_record_4
def dkwX0_record_2 : List UInt8 := [160, 0, 6, 16, 254, 172, 6, 188, 10, 89, 3, 27, 79, 89, 4, 28, 79, 89, 5, 29, 153, 0, 7, 4]
abbrev dktX0_record_2 : List UInt8 := dkwX0_record_2 ++ dktX0_record_3
def dkwX0_record_1 : List UInt8 := [153, 0, 26, 28, 3, 6, 184, 0, 67, 153, 0, 17, 42, 180, 0, 21, 180, 0, 64, 7, 46, 16, 8]
abbrev dktX0_record_1 : List UInt8 := dkwX0_record_1 ++ dktX0_record_2
def dkwX0_record_0 : List UInt8 := [27, 2, 160, 0, 15, 42, 180, 0, 21, 180, 0, 64, 7, 3, 79, 3, 172, 42, 27, 182, 0, 214]
abbrev dktX0_record_0 : List UInt8 := dkwX0_record_0 ++ dktX0_record_1
theorem dksX0_record_0 : cX0_record.data.toList.drop 0 = dktX0_record_0 := by decide +kernel
theorem dksX0_record_1 : cX0_record.data.toList.drop 22 = dktX0_record_1 := dk_seg dksX0_record_0 22 rfl rfl
theorem dksX0_record_2 : cX0_record.data.toList.drop 45 = dktX0_record_2 := dk_seg dksX0_record_1 23 rfl rfl
theorem dksX0_record_3 : cX0_record.data.toList.drop 69 = dktX0_record_3 := dk_seg dksX0_record_2 24 rfl rfl
theorem dksX0_record_4 : cX0_record.data.toList.drop 93 = dktX0_record_4 := dk_seg dksX0_record_3 24 rfl rfl
theorem dX0_record_0 : decode cX0_record 0 = .ok (.iload_n 1, 1) := dk_27 (dk_at dksX0_record_0 0 rfl rfl)
theorem dX0_record_1 : decode cX0_record 1 = .ok (.iconst (-1), 1) := dk_2 (dk_at dksX0_record_0 1 rfl rfl)
theorem dX0_record_2 : decode cX0_record 2 = .ok (.if_icmp .ne 15, 3) := dk_160 0 15 (dk_at dksX0_record_0 2 rfl rfl)
theorem dX0_record_5 : decode cX0_record 5 = .ok (.aload_n 0, 1) := dk_42 (dk_at dksX0_record_0 5 rfl rfl)
theorem dX0_record_6 : decode cX0_record 6 = .ok (.getfield 21, 3) := dk_180 0 21 (dk_at dksX0_record_0 6 rfl rfl)
theorem dX0_record_9 : decode cX0_record 9 = .ok (.getfield 64, 3) := dk_180 0 64 (dk_at dksX0_record_0 9 rfl rfl)
theorem dX0_record_12 : decode cX0_record 12 = .ok (.iconst 4, 1) := dk_7 (dk_at dksX0_record_0 12 rfl rfl)
theorem dX0_record_13 : decode cX0_record 13 = .ok (.iconst 0, 1) := dk_3 (dk_at dksX0_record_0 13 rfl rfl)
theorem dX0_record_14 : decode cX0_record 14 = .ok (.iastore, 1) := dk_79 (dk_at dksX0_record_0 14 rfl rfl)
theorem dX0_record_15 : decode cX0_record 15 = .ok (.iconst 0, 1) := dk_3 (dk_at dksX0_record_0 15 rfl rfl)
theorem dX0_record_16 : decode cX0_record 16 = .ok (.ireturn, 1) := dk_172 (dk_at dksX0_record_0 16 rfl rfl)
theorem dX0_record_17 : decode cX0_record 17 = .ok (.aload_n 0, 1) := dk_42 (dk_at dksX0_record_0 17 rfl rfl)
theorem dX0_record_18 : decode cX0_record 18 = .ok (.iload_n 1, 1) := dk_27 (dk_at dksX0_record_0 18 rfl rfl)
theorem dX0_record_19 : decode cX0_record 19 = .ok (.invokevirtual 214, 3) := dk_182 0 214 (dk_at dksX0_record_0 19 rfl rfl)
theorem dX0_record_22 : decode cX0_record 22 = .ok (.ifCond .eq 26, 3) := dk_153 0 26 (dk_at dksX0_record_1 0 rfl rfl)
theorem dX0_record_25 : decode cX0_record 25 = .ok (.iload_n 2, 1) := dk_28 (dk_at dksX0_record_1 3 rfl rfl)
theorem dX0_record_26 : decode cX0_record 26 = .ok (.iconst 0, 1) := dk_3 (dk_at dksX0_record_1 4 rfl rfl)
theorem dX0_record_27 : decode cX0_record 27 = .ok (.iconst 3, 1) := dk_6 (dk_at dksX0_record_1 5 rfl rfl)
theorem dX0_record_28 : decode cX0_record 28 = .ok (.invokestatic 67, 3) := dk_184 0 67 (dk_at dksX0_record_1 6 rfl rfl)
theorem dX0_record_31 : decode cX0_record 31 = .ok (.ifCond .eq 17, 3) := dk_153 0 17 (dk_at dksX0_record_1 9 rfl rfl)
theorem dX0_record_34 : decode cX0_record 34 = .ok (.aload_n 0, 1) := dk_42 (dk_at dksX0_record_1 12 rfl rfl)
theorem dX0_record_35 : decode cX0_record 35 = .ok (.getfield 21, 3) := dk_180 0 21 (dk_at dksX0_record_1 13 rfl rfl)
theorem dX0_record_38 : decode cX0_record 38 = .ok (.getfield 64, 3) := dk_180 0 64 (dk_at dksX0_record_1 16 rfl rfl)
theorem dX0_record_41 : decode cX0_record 41 = .ok (.iconst 4, 1) := dk_7 (dk_at dksX0_record_1 19 rfl rfl)
theorem dX0_record_42 : decode cX0_record 42 = .ok (.iaload, 1) := dk_46 (dk_at dksX0_record_1 20 rfl rfl)
theorem dX0_record_43 : decode cX0_record 43 = .ok (.bipush 8, 2) := dk_16 8 (dk_at dksX0_record_1 21 rfl rfl)
theorem dX0_record_45 : decode cX0_record 45 = .ok (.if_icmp .ne 6, 3) := dk_160 0 6 (dk_at dksX0_record_2 0 rfl rfl)
theorem dX0_record_48 : decode cX0_record 48 = .ok (.bipush (-2), 2) := dk_16 254 (dk_at dksX0_record_2 3 rfl rfl)
theorem dX0_record_50 : decode cX0_record 50 = .ok (.ireturn, 1) := dk_172 (dk_at dksX0_record_2 5 rfl rfl)
theorem dX0_record_51 : decode cX0_record 51 = .ok (.iconst 3, 1) := dk_6 (dk_at dksX0_record_2 6 rfl rfl)
theorem dX0_record_52 : decode cX0_record 52 = .ok (.newarray .int, 2) := dk_188_10 (dk_at dksX0_record_2 7 rfl rfl)
theorem dX0_record_54 : decode cX0_record 54 = .ok (.dup, 1) := dk_89 (dk_at dksX0_record_2 9 rfl rfl)
theorem dX0_record_55 : decode cX0_record 55 = .ok (.iconst 0, 1) := dk_3 (dk_at dksX0_record_2 10 rfl rfl)
theorem dX0_record_56 : decode cX0_record 56 = .ok (.iload_n 1, 1) := dk_27 (dk_at dksX0_record_2 11 rfl rfl)
theorem dX0_record_57 : decode cX0_record 57 = .ok (.iastore, 1) := dk_79 (dk_at dksX0_record_2 12 rfl rfl)
theorem dX0_record_58 : decode cX0_record 58 = .ok (.dup, 1) := dk_89 (dk_at dksX0_record_2 13 rfl rfl)
theorem dX0_record_59 : decode cX0_record 59 = .ok (.iconst 1, 1) := dk_4 (dk_at dksX0_record_2 14 rfl rfl)
theorem dX0_record_60 : decode cX0_record 60 = .ok (.iload_n 2, 1) := dk_28 (dk_at dksX0_record_2 15 rfl rfl)
theorem dX0_record_61 : decode cX0_record 61 = .ok (.iastore, 1) := dk_79 (dk_at dksX0_record_2 16 rfl rfl)
theorem dX0_record_62 : decode cX0_record 62 = .ok (.dup, 1) := dk_89 (dk_at dksX0_record_2 17 rfl rfl)
theorem dX0_record_63 : decode cX0_record 63 = .ok (.iconst 2, 1) := dk_5 (dk_at dksX0_record_2 18 rfl rfl)
theorem dX0_record_64 : decode cX0_record 64 = .ok (.iload_n 3, 1) := dk_29 (dk_at dksX0_record_2 19 rfl rfl)
theorem dX0_record_65 : decode cX0_record 65 = .ok (.ifCond .eq 7, 3) := dk_153 0 7 (dk_at dksX0_record_2 20 rfl rfl)
theorem dX0_record_68 : decode cX0_record 68 = .ok (.iconst 1, 1) := dk_4 (dk_at dksX0_record_2 23 rfl rfl)
theorem dX0_record_69 : decode cX0_record 69 = .ok (.goto 4, 3) := dk_167 0 4 (dk_at dksX0_record_3 0 rfl rfl)
theorem dX0_record_72 : decode cX0_record 72 = .ok (.iconst 0, 1) := dk_3 (dk_at dksX0_record_3 3 rfl rfl)
theorem dX0_record_73 : decode cX0_record 73 = .ok (.iastore, 1) := dk_79 (dk_at dksX0_record_3 4 rfl rfl)
theorem dX0_record_74 : decode cX0_record 74 = .ok (.astore 4, 2) := dk_58 4 (dk_at dksX0_record_3 5 rfl rfl)
theorem dX0_record_76 : decode cX0_record 76 = .ok (.aload_n 0, 1) := dk_42 (dk_at dksX0_record_3 7 rfl rfl)
theorem dX0_record_77 : decode cX0_record 77 = .ok (.getfield 21, 3) := dk_180 0 21 (dk_at dksX0_record_3 8 rfl rfl)
theorem dX0_record_80 : decode cX0_record 80 = .ok (.aload_n 0, 1) := dk_42 (dk_at dksX0_record_3 11 rfl rfl)
theorem dX0_record_81 : decode cX0_record 81 = .ok (.getfield 21, 3) := dk_180 0 21 (dk_at dksX0_record_3 12 rfl rfl)
theorem dX0_record_84 : decode cX0_record 84 = .ok (.getfield 353, 3) := dk_180 1 97 (dk_at dksX0_record_3 15 rfl rfl)
theorem dX0_record_87 : decode cX0_record 87 = .ok (.iconst 4, 1) := dk_7 (dk_at dksX0_record_3 18 rfl rfl)
theorem dX0_record_88 : decode cX0_record 88 = .ok (.aload 4, 2) := dk_25 4 (dk_at dksX0_record_3 19 rfl rfl)
theorem dX0_record_90 : decode cX0_record 90 = .ok (.invokevirtual 74, 3) := dk_182 0 74 (dk_at dksX0_record_3 21 rfl rfl)
theorem dX0_record_93 : decode cX0_record 93 = .ok (.ireturn, 1) := dk_172 (dk_at dksX0_record_4 0 rfl rfl)
abbrev cX0_turned : ByteArray := prog_1_method_70_code
def yX0_turned : MethodName := ⟨RX0, "turned", "()I"⟩
def dkwX0_turned_1 : List UInt8 := [120, 167, 0, 4, 3, 128, 60, 132, 2, 1, 167, 255, 226, 27, 172]
abbrev dktX0_turned_1 : List UInt8 := dkwX0_turned_1 ++ []
def dkwX0_turned_0 : List UInt8 := [3, 60, 3, 61, 28, 7, 162, 0, 31, 27, 42, 42, 182, 0, 134, 28, 182, 1, 100, 154, 0, 9, 4, 28]
abbrev dktX0_turned_0 : List UInt8 := dkwX0_turned_0 ++ dktX0_turned_1
theorem dksX0_turned_0 : cX0_turned.data.toList.drop 0 = dktX0_turned_0 := by decide +kernel
theorem dksX0_turned_1 : cX0_turned.data.toList.drop 24 = dktX0_turned_1 := dk_seg dksX0_turned_0 24 rfl rfl
theorem dX0_turned_0 : decode cX0_turned 0 = .ok (.iconst 0, 1) := dk_3 (dk_at dksX0_turned_0 0 rfl rfl)
theorem dX0_turned_1 : decode cX0_turned 1 = .ok (.istore_n 1, 1) := dk_60 (dk_at dksX0_turned_0 1 rfl rfl)
theorem dX0_turned_2 : decode cX0_turned 2 = .ok (.iconst 0, 1) := dk_3 (dk_at dksX0_turned_0 2 rfl rfl)
theorem dX0_turned_3 : decode cX0_turned 3 = .ok (.istore_n 2, 1) := dk_61 (dk_at dksX0_turned_0 3 rfl rfl)
theorem dX0_turned_4 : decode cX0_turned 4 = .ok (.iload_n 2, 1) := dk_28 (dk_at dksX0_turned_0 4 rfl rfl)
theorem dX0_turned_5 : decode cX0_turned 5 = .ok (.iconst 4, 1) := dk_7 (dk_at dksX0_turned_0 5 rfl rfl)
theorem dX0_turned_6 : decode cX0_turned 6 = .ok (.if_icmp .ge 31, 3) := dk_162 0 31 (dk_at dksX0_turned_0 6 rfl rfl)
theorem dX0_turned_9 : decode cX0_turned 9 = .ok (.iload_n 1, 1) := dk_27 (dk_at dksX0_turned_0 9 rfl rfl)
theorem dX0_turned_10 : decode cX0_turned 10 = .ok (.aload_n 0, 1) := dk_42 (dk_at dksX0_turned_0 10 rfl rfl)
theorem dX0_turned_11 : decode cX0_turned 11 = .ok (.aload_n 0, 1) := dk_42 (dk_at dksX0_turned_0 11 rfl rfl)
theorem dX0_turned_12 : decode cX0_turned 12 = .ok (.invokevirtual 134, 3) := dk_182 0 134 (dk_at dksX0_turned_0 12 rfl rfl)
theorem dX0_turned_15 : decode cX0_turned 15 = .ok (.iload_n 2, 1) := dk_28 (dk_at dksX0_turned_0 15 rfl rfl)
theorem dX0_turned_16 : decode cX0_turned 16 = .ok (.invokevirtual 356, 3) := dk_182 1 100 (dk_at dksX0_turned_0 16 rfl rfl)
theorem dX0_turned_19 : decode cX0_turned 19 = .ok (.ifCond .ne 9, 3) := dk_154 0 9 (dk_at dksX0_turned_0 19 rfl rfl)
theorem dX0_turned_22 : decode cX0_turned 22 = .ok (.iconst 1, 1) := dk_4 (dk_at dksX0_turned_0 22 rfl rfl)
theorem dX0_turned_23 : decode cX0_turned 23 = .ok (.iload_n 2, 1) := dk_28 (dk_at dksX0_turned_0 23 rfl rfl)
theorem dX0_turned_24 : decode cX0_turned 24 = .ok (.ishl, 1) := dk_120 (dk_at dksX0_turned_1 0 rfl rfl)
theorem dX0_turned_25 : decode cX0_turned 25 = .ok (.goto 4, 3) := dk_167 0 4 (dk_at dksX0_turned_1 1 rfl rfl)
theorem dX0_turned_28 : decode cX0_turned 28 = .ok (.iconst 0, 1) := dk_3 (dk_at dksX0_turned_1 4 rfl rfl)
theorem dX0_turned_29 : decode cX0_turned 29 = .ok (.ior, 1) := dk_128 (dk_at dksX0_turned_1 5 rfl rfl)
theorem dX0_turned_30 : decode cX0_turned 30 = .ok (.istore_n 1, 1) := dk_60 (dk_at dksX0_turned_1 6 rfl rfl)
theorem dX0_turned_31 : decode cX0_turned 31 = .ok (.iinc 2 1, 3) := dk_132 2 1 (dk_at dksX0_turned_1 7 rfl rfl)
theorem dX0_turned_34 : decode cX0_turned 34 = .ok (.goto (-30), 3) := dk_167 255 226 (dk_at dksX0_turned_1 10 rfl rfl)
theorem dX0_turned_37 : decode cX0_turned 37 = .ok (.iload_n 1, 1) := dk_27 (dk_at dksX0_turned_1 13 rfl rfl)
theorem dX0_turned_38 : decode cX0_turned 38 = .ok (.ireturn, 1) := dk_172 (dk_at dksX0_turned_1 14 rfl rfl)
abbrev cX0_wrongBy : ByteArray := prog_1_method_69_code
def yX0_wrongBy : MethodName := ⟨RX0, "wrongBy", "(LVaneCourt$Text;I)I"⟩
def dkwX0_wrongBy_4 : List UInt8 := [167, 0, 4, 3, 160, 0, 7, 3, 167, 0, 4, 4, 96, 62, 132, 4, 1, 167, 255, 151, 29, 172]
abbrev dktX0_wrongBy_4 : List UInt8 := dkwX0_wrongBy_4 ++ []
def dkwX0_wrongBy_3 : List UInt8 := [180, 0, 71, 25, 5, 3, 46, 50, 6, 46, 182, 0, 157, 25, 5, 5, 46, 4, 160, 0, 7, 4]
abbrev dktX0_wrongBy_3 : List UInt8 := dkwX0_wrongBy_3 ++ dktX0_wrongBy_4
def dkwX0_wrongBy_2 : List UInt8 := [6, 126, 25, 5, 3, 46, 42, 180, 0, 21, 180, 0, 71, 25, 5, 3, 46, 50, 5, 46, 42, 180, 0, 21]
abbrev dktX0_wrongBy_2 : List UInt8 := dkwX0_wrongBy_2 ++ dktX0_wrongBy_3
def dkwX0_wrongBy_1 : List UInt8 := [180, 1, 97, 21, 4, 50, 58, 5, 29, 42, 43, 42, 180, 0, 21, 180, 0, 205, 25, 5, 4, 46, 28, 96]
abbrev dktX0_wrongBy_1 : List UInt8 := dkwX0_wrongBy_1 ++ dktX0_wrongBy_2
def dkwX0_wrongBy_0 : List UInt8 := [3, 62, 3, 54, 4, 21, 4, 42, 180, 0, 21, 180, 0, 64, 7, 46, 162, 0, 97, 42, 180, 0, 21]
abbrev dktX0_wrongBy_0 : List UInt8 := dkwX0_wrongBy_0 ++ dktX0_wrongBy_1
theorem dksX0_wrongBy_0 : cX0_wrongBy.data.toList.drop 0 = dktX0_wrongBy_0 := by decide +kernel
theorem dksX0_wrongBy_1 : cX0_wrongBy.data.toList.drop 23 = dktX0_wrongBy_1 := dk_seg dksX0_wrongBy_0 23 rfl rfl
theorem dksX0_wrongBy_2 : cX0_wrongBy.data.toList.drop 47 = dktX0_wrongBy_2 := dk_seg dksX0_wrongBy_1 24 rfl rfl
theorem dksX0_wrongBy_3 : cX0_wrongBy.data.toList.drop 71 = dktX0_wrongBy_3 := dk_seg dksX0_wrongBy_2 24 rfl rfl
theorem dksX0_wrongBy_4 : cX0_wrongBy.data.toList.drop 93 = dktX0_wrongBy_4 := dk_seg dksX0_wrongBy_3 22 rfl rfl
theorem dX0_wrongBy_0 : decode cX0_wrongBy 0 = .ok (.iconst 0, 1) := dk_3 (dk_at dksX0_wrongBy_0 0 rfl rfl)
theorem dX0_wrongBy_1 : decode cX0_wrongBy 1 = .ok (.istore_n 3, 1) := dk_62 (dk_at dksX0_wrongBy_0 1 rfl rfl)
theorem dX0_wrongBy_2 : decode cX0_wrongBy 2 = .ok (.iconst 0, 1) := dk_3 (dk_at dksX0_wrongBy_0 2 rfl rfl)
theorem dX0_wrongBy_3 : decode cX0_wrongBy 3 = .ok (.istore 4, 2) := dk_54 4 (dk_at dksX0_wrongBy_0 3 rfl rfl)
theorem dX0_wrongBy_5 : decode cX0_wrongBy 5 = .ok (.iload 4, 2) := dk_21 4 (dk_at dksX0_wrongBy_0 5 rfl rfl)
theorem dX0_wrongBy_7 : decode cX0_wrongBy 7 = .ok (.aload_n 0, 1) := dk_42 (dk_at dksX0_wrongBy_0 7 rfl rfl)
theorem dX0_wrongBy_8 : decode cX0_wrongBy 8 = .ok (.getfield 21, 3) := dk_180 0 21 (dk_at dksX0_wrongBy_0 8 rfl rfl)
theorem dX0_wrongBy_11 : decode cX0_wrongBy 11 = .ok (.getfield 64, 3) := dk_180 0 64 (dk_at dksX0_wrongBy_0 11 rfl rfl)
theorem dX0_wrongBy_14 : decode cX0_wrongBy 14 = .ok (.iconst 4, 1) := dk_7 (dk_at dksX0_wrongBy_0 14 rfl rfl)
theorem dX0_wrongBy_15 : decode cX0_wrongBy 15 = .ok (.iaload, 1) := dk_46 (dk_at dksX0_wrongBy_0 15 rfl rfl)
theorem dX0_wrongBy_16 : decode cX0_wrongBy 16 = .ok (.if_icmp .ge 97, 3) := dk_162 0 97 (dk_at dksX0_wrongBy_0 16 rfl rfl)
theorem dX0_wrongBy_19 : decode cX0_wrongBy 19 = .ok (.aload_n 0, 1) := dk_42 (dk_at dksX0_wrongBy_0 19 rfl rfl)
theorem dX0_wrongBy_20 : decode cX0_wrongBy 20 = .ok (.getfield 21, 3) := dk_180 0 21 (dk_at dksX0_wrongBy_0 20 rfl rfl)
theorem dX0_wrongBy_23 : decode cX0_wrongBy 23 = .ok (.getfield 353, 3) := dk_180 1 97 (dk_at dksX0_wrongBy_1 0 rfl rfl)
theorem dX0_wrongBy_26 : decode cX0_wrongBy 26 = .ok (.iload 4, 2) := dk_21 4 (dk_at dksX0_wrongBy_1 3 rfl rfl)
theorem dX0_wrongBy_28 : decode cX0_wrongBy 28 = .ok (.aaload, 1) := dk_50 (dk_at dksX0_wrongBy_1 5 rfl rfl)
theorem dX0_wrongBy_29 : decode cX0_wrongBy 29 = .ok (.astore 5, 2) := dk_58 5 (dk_at dksX0_wrongBy_1 6 rfl rfl)
theorem dX0_wrongBy_31 : decode cX0_wrongBy 31 = .ok (.iload_n 3, 1) := dk_29 (dk_at dksX0_wrongBy_1 8 rfl rfl)
theorem dX0_wrongBy_32 : decode cX0_wrongBy 32 = .ok (.aload_n 0, 1) := dk_42 (dk_at dksX0_wrongBy_1 9 rfl rfl)
theorem dX0_wrongBy_33 : decode cX0_wrongBy 33 = .ok (.aload_n 1, 1) := dk_43 (dk_at dksX0_wrongBy_1 10 rfl rfl)
theorem dX0_wrongBy_34 : decode cX0_wrongBy 34 = .ok (.aload_n 0, 1) := dk_42 (dk_at dksX0_wrongBy_1 11 rfl rfl)
theorem dX0_wrongBy_35 : decode cX0_wrongBy 35 = .ok (.getfield 21, 3) := dk_180 0 21 (dk_at dksX0_wrongBy_1 12 rfl rfl)
theorem dX0_wrongBy_38 : decode cX0_wrongBy 38 = .ok (.getfield 205, 3) := dk_180 0 205 (dk_at dksX0_wrongBy_1 15 rfl rfl)
theorem dX0_wrongBy_41 : decode cX0_wrongBy 41 = .ok (.aload 5, 2) := dk_25 5 (dk_at dksX0_wrongBy_1 18 rfl rfl)
theorem dX0_wrongBy_43 : decode cX0_wrongBy 43 = .ok (.iconst 1, 1) := dk_4 (dk_at dksX0_wrongBy_1 20 rfl rfl)
theorem dX0_wrongBy_44 : decode cX0_wrongBy 44 = .ok (.iaload, 1) := dk_46 (dk_at dksX0_wrongBy_1 21 rfl rfl)
theorem dX0_wrongBy_45 : decode cX0_wrongBy 45 = .ok (.iload_n 2, 1) := dk_28 (dk_at dksX0_wrongBy_1 22 rfl rfl)
theorem dX0_wrongBy_46 : decode cX0_wrongBy 46 = .ok (.iadd, 1) := dk_96 (dk_at dksX0_wrongBy_1 23 rfl rfl)
theorem dX0_wrongBy_47 : decode cX0_wrongBy 47 = .ok (.iconst 3, 1) := dk_6 (dk_at dksX0_wrongBy_2 0 rfl rfl)
theorem dX0_wrongBy_48 : decode cX0_wrongBy 48 = .ok (.iand, 1) := dk_126 (dk_at dksX0_wrongBy_2 1 rfl rfl)
theorem dX0_wrongBy_49 : decode cX0_wrongBy 49 = .ok (.aload 5, 2) := dk_25 5 (dk_at dksX0_wrongBy_2 2 rfl rfl)
theorem dX0_wrongBy_51 : decode cX0_wrongBy 51 = .ok (.iconst 0, 1) := dk_3 (dk_at dksX0_wrongBy_2 4 rfl rfl)
theorem dX0_wrongBy_52 : decode cX0_wrongBy 52 = .ok (.iaload, 1) := dk_46 (dk_at dksX0_wrongBy_2 5 rfl rfl)
theorem dX0_wrongBy_53 : decode cX0_wrongBy 53 = .ok (.aload_n 0, 1) := dk_42 (dk_at dksX0_wrongBy_2 6 rfl rfl)
theorem dX0_wrongBy_54 : decode cX0_wrongBy 54 = .ok (.getfield 21, 3) := dk_180 0 21 (dk_at dksX0_wrongBy_2 7 rfl rfl)
theorem dX0_wrongBy_57 : decode cX0_wrongBy 57 = .ok (.getfield 71, 3) := dk_180 0 71 (dk_at dksX0_wrongBy_2 10 rfl rfl)
theorem dX0_wrongBy_60 : decode cX0_wrongBy 60 = .ok (.aload 5, 2) := dk_25 5 (dk_at dksX0_wrongBy_2 13 rfl rfl)
theorem dX0_wrongBy_62 : decode cX0_wrongBy 62 = .ok (.iconst 0, 1) := dk_3 (dk_at dksX0_wrongBy_2 15 rfl rfl)
theorem dX0_wrongBy_63 : decode cX0_wrongBy 63 = .ok (.iaload, 1) := dk_46 (dk_at dksX0_wrongBy_2 16 rfl rfl)
theorem dX0_wrongBy_64 : decode cX0_wrongBy 64 = .ok (.aaload, 1) := dk_50 (dk_at dksX0_wrongBy_2 17 rfl rfl)
theorem dX0_wrongBy_65 : decode cX0_wrongBy 65 = .ok (.iconst 2, 1) := dk_5 (dk_at dksX0_wrongBy_2 18 rfl rfl)
theorem dX0_wrongBy_66 : decode cX0_wrongBy 66 = .ok (.iaload, 1) := dk_46 (dk_at dksX0_wrongBy_2 19 rfl rfl)
theorem dX0_wrongBy_67 : decode cX0_wrongBy 67 = .ok (.aload_n 0, 1) := dk_42 (dk_at dksX0_wrongBy_2 20 rfl rfl)
theorem dX0_wrongBy_68 : decode cX0_wrongBy 68 = .ok (.getfield 21, 3) := dk_180 0 21 (dk_at dksX0_wrongBy_2 21 rfl rfl)
theorem dX0_wrongBy_71 : decode cX0_wrongBy 71 = .ok (.getfield 71, 3) := dk_180 0 71 (dk_at dksX0_wrongBy_3 0 rfl rfl)
theorem dX0_wrongBy_74 : decode cX0_wrongBy 74 = .ok (.aload 5, 2) := dk_25 5 (dk_at dksX0_wrongBy_3 3 rfl rfl)
theorem dX0_wrongBy_76 : decode cX0_wrongBy 76 = .ok (.iconst 0, 1) := dk_3 (dk_at dksX0_wrongBy_3 5 rfl rfl)
theorem dX0_wrongBy_77 : decode cX0_wrongBy 77 = .ok (.iaload, 1) := dk_46 (dk_at dksX0_wrongBy_3 6 rfl rfl)
theorem dX0_wrongBy_78 : decode cX0_wrongBy 78 = .ok (.aaload, 1) := dk_50 (dk_at dksX0_wrongBy_3 7 rfl rfl)
theorem dX0_wrongBy_79 : decode cX0_wrongBy 79 = .ok (.iconst 3, 1) := dk_6 (dk_at dksX0_wrongBy_3 8 rfl rfl)
theorem dX0_wrongBy_80 : decode cX0_wrongBy 80 = .ok (.iaload, 1) := dk_46 (dk_at dksX0_wrongBy_3 9 rfl rfl)
theorem dX0_wrongBy_81 : decode cX0_wrongBy 81 = .ok (.invokevirtual 157, 3) := dk_182 0 157 (dk_at dksX0_wrongBy_3 10 rfl rfl)
theorem dX0_wrongBy_84 : decode cX0_wrongBy 84 = .ok (.aload 5, 2) := dk_25 5 (dk_at dksX0_wrongBy_3 13 rfl rfl)
theorem dX0_wrongBy_86 : decode cX0_wrongBy 86 = .ok (.iconst 2, 1) := dk_5 (dk_at dksX0_wrongBy_3 15 rfl rfl)
theorem dX0_wrongBy_87 : decode cX0_wrongBy 87 = .ok (.iaload, 1) := dk_46 (dk_at dksX0_wrongBy_3 16 rfl rfl)
theorem dX0_wrongBy_88 : decode cX0_wrongBy 88 = .ok (.iconst 1, 1) := dk_4 (dk_at dksX0_wrongBy_3 17 rfl rfl)
theorem dX0_wrongBy_89 : decode cX0_wrongBy 89 = .ok (.if_icmp .ne 7, 3) := dk_160 0 7 (dk_at dksX0_wrongBy_3 18 rfl rfl)
theorem dX0_wrongBy_92 : decode cX0_wrongBy 92 = .ok (.iconst 1, 1) := dk_4 (dk_at dksX0_wrongBy_3 21 rfl rfl)
theorem dX0_wrongBy_93 : decode cX0_wrongBy 93 = .ok (.goto 4, 3) := dk_167 0 4 (dk_at dksX0_wrongBy_4 0 rfl rfl)
theorem dX0_wrongBy_96 : decode cX0_wrongBy 96 = .ok (.iconst 0, 1) := dk_3 (dk_at dksX0_wrongBy_4 3 rfl rfl)
theorem dX0_wrongBy_97 : decode cX0_wrongBy 97 = .ok (.if_icmp .ne 7, 3) := dk_160 0 7 (dk_at dksX0_wrongBy_4 4 rfl rfl)
theorem dX0_wrongBy_100 : decode cX0_wrongBy 100 = .ok (.iconst 0, 1) := dk_3 (dk_at dksX0_wrongBy_4 7 rfl rfl)
theorem dX0_wrongBy_101 : decode cX0_wrongBy 101 = .ok (.goto 4, 3) := dk_167 0 4 (dk_at dksX0_wrongBy_4 8 rfl rfl)
theorem dX0_wrongBy_104 : decode cX0_wrongBy 104 = .ok (.iconst 1, 1) := dk_4 (dk_at dksX0_wrongBy_4 11 rfl rfl)
theorem dX0_wrongBy_105 : decode cX0_wrongBy 105 = .ok (.iadd, 1) := dk_96 (dk_at dksX0_wrongBy_4 12 rfl rfl)
theorem dX0_wrongBy_106 : decode cX0_wrongBy 106 = .ok (.istore_n 3, 1) := dk_62 (dk_at dksX0_wrongBy_4 13 rfl rfl)
theorem dX0_wrongBy_107 : decode cX0_wrongBy 107 = .ok (.iinc 4 1, 3) := dk_132 4 1 (dk_at dksX0_wrongBy_4 14 rfl rfl)
theorem dX0_wrongBy_110 : decode cX0_wrongBy 110 = .ok (.goto (-105), 3) := dk_167 255 151 (dk_at dksX0_wrongBy_4 17 rfl rfl)
theorem dX0_wrongBy_113 : decode cX0_wrongBy 113 = .ok (.iload_n 3, 1) := dk_29 (dk_at dksX0_wrongBy_4 20 rfl rfl)
theorem dX0_wrongBy_114 : decode cX0_wrongBy 114 = .ok (.ireturn, 1) := dk_172 (dk_at dksX0_wrongBy_4 21 rfl rfl)
abbrev cX0_fewestWrong : ByteArray := prog_1_method_71_code
def yX0_fewestWrong : MethodName := ⟨RX0, "fewestWrong", "()I"⟩
def dkwX0_fewestWrong_1 : List UInt8 := [132, 2, 1, 167, 255, 234, 27, 172]
abbrev dktX0_fewestWrong_1 : List UInt8 := dkwX0_fewestWrong_1 ++ []
def dkwX0_fewestWrong_0 : List UInt8 := [16, 8, 60, 3, 61, 28, 7, 162, 0, 23, 27, 42, 42, 182, 0, 134, 28, 182, 1, 100, 184, 1, 84, 60]
abbrev dktX0_fewestWrong_0 : List UInt8 := dkwX0_fewestWrong_0 ++ dktX0_fewestWrong_1
theorem dksX0_fewestWrong_0 : cX0_fewestWrong.data.toList.drop 0 = dktX0_fewestWrong_0 := by decide +kernel
theorem dksX0_fewestWrong_1 : cX0_fewestWrong.data.toList.drop 24 = dktX0_fewestWrong_1 := dk_seg dksX0_fewestWrong_0 24 rfl rfl
theorem dX0_fewestWrong_0 : decode cX0_fewestWrong 0 = .ok (.bipush 8, 2) := dk_16 8 (dk_at dksX0_fewestWrong_0 0 rfl rfl)
theorem dX0_fewestWrong_2 : decode cX0_fewestWrong 2 = .ok (.istore_n 1, 1) := dk_60 (dk_at dksX0_fewestWrong_0 2 rfl rfl)
theorem dX0_fewestWrong_3 : decode cX0_fewestWrong 3 = .ok (.iconst 0, 1) := dk_3 (dk_at dksX0_fewestWrong_0 3 rfl rfl)
theorem dX0_fewestWrong_4 : decode cX0_fewestWrong 4 = .ok (.istore_n 2, 1) := dk_61 (dk_at dksX0_fewestWrong_0 4 rfl rfl)
theorem dX0_fewestWrong_5 : decode cX0_fewestWrong 5 = .ok (.iload_n 2, 1) := dk_28 (dk_at dksX0_fewestWrong_0 5 rfl rfl)
theorem dX0_fewestWrong_6 : decode cX0_fewestWrong 6 = .ok (.iconst 4, 1) := dk_7 (dk_at dksX0_fewestWrong_0 6 rfl rfl)
theorem dX0_fewestWrong_7 : decode cX0_fewestWrong 7 = .ok (.if_icmp .ge 23, 3) := dk_162 0 23 (dk_at dksX0_fewestWrong_0 7 rfl rfl)
theorem dX0_fewestWrong_10 : decode cX0_fewestWrong 10 = .ok (.iload_n 1, 1) := dk_27 (dk_at dksX0_fewestWrong_0 10 rfl rfl)
theorem dX0_fewestWrong_11 : decode cX0_fewestWrong 11 = .ok (.aload_n 0, 1) := dk_42 (dk_at dksX0_fewestWrong_0 11 rfl rfl)
theorem dX0_fewestWrong_12 : decode cX0_fewestWrong 12 = .ok (.aload_n 0, 1) := dk_42 (dk_at dksX0_fewestWrong_0 12 rfl rfl)
theorem dX0_fewestWrong_13 : decode cX0_fewestWrong 13 = .ok (.invokevirtual 134, 3) := dk_182 0 134 (dk_at dksX0_fewestWrong_0 13 rfl rfl)
theorem dX0_fewestWrong_16 : decode cX0_fewestWrong 16 = .ok (.iload_n 2, 1) := dk_28 (dk_at dksX0_fewestWrong_0 16 rfl rfl)
theorem dX0_fewestWrong_17 : decode cX0_fewestWrong 17 = .ok (.invokevirtual 356, 3) := dk_182 1 100 (dk_at dksX0_fewestWrong_0 17 rfl rfl)
theorem dX0_fewestWrong_20 : decode cX0_fewestWrong 20 = .ok (.invokestatic 340, 3) := dk_184 1 84 (dk_at dksX0_fewestWrong_0 20 rfl rfl)
theorem dX0_fewestWrong_23 : decode cX0_fewestWrong 23 = .ok (.istore_n 1, 1) := dk_60 (dk_at dksX0_fewestWrong_0 23 rfl rfl)
theorem dX0_fewestWrong_24 : decode cX0_fewestWrong 24 = .ok (.iinc 2 1, 3) := dk_132 2 1 (dk_at dksX0_fewestWrong_1 0 rfl rfl)
theorem dX0_fewestWrong_27 : decode cX0_fewestWrong 27 = .ok (.goto (-22), 3) := dk_167 255 234 (dk_at dksX0_fewestWrong_1 3 rfl rfl)
theorem dX0_fewestWrong_30 : decode cX0_fewestWrong 30 = .ok (.iload_n 1, 1) := dk_27 (dk_at dksX0_fewestWrong_1 6 rfl rfl)
theorem dX0_fewestWrong_31 : decode cX0_fewestWrong 31 = .ok (.ireturn, 1) := dk_172 (dk_at dksX0_fewestWrong_1 7 rfl rfl)
abbrev cX0_whose : ByteArray := prog_1_method_72_code
def yX0_whose : MethodName := ⟨RX0, "whose", "()I"⟩
def dkwX0_whose_2 : List UInt8 := [167, 255, 213, 27, 172]
abbrev dktX0_whose_2 : List UInt8 := dkwX0_whose_2 ++ []
def dkwX0_whose_1 : List UInt8 := [180, 0, 85, 28, 50, 3, 182, 1, 100, 154, 0, 9, 4, 28, 120, 167, 0, 4, 3, 128, 60, 132, 2, 1]
abbrev dktX0_whose_1 : List UInt8 := dkwX0_whose_1 ++ dktX0_whose_2
def dkwX0_whose_0 : List UInt8 := [3, 60, 3, 61, 28, 42, 180, 0, 21, 180, 0, 64, 4, 46, 162, 0, 36, 27, 42, 42, 180, 0, 21]
abbrev dktX0_whose_0 : List UInt8 := dkwX0_whose_0 ++ dktX0_whose_1
theorem dksX0_whose_0 : cX0_whose.data.toList.drop 0 = dktX0_whose_0 := by decide +kernel
theorem dksX0_whose_1 : cX0_whose.data.toList.drop 23 = dktX0_whose_1 := dk_seg dksX0_whose_0 23 rfl rfl
theorem dksX0_whose_2 : cX0_whose.data.toList.drop 47 = dktX0_whose_2 := dk_seg dksX0_whose_1 24 rfl rfl
theorem dX0_whose_0 : decode cX0_whose 0 = .ok (.iconst 0, 1) := dk_3 (dk_at dksX0_whose_0 0 rfl rfl)
theorem dX0_whose_1 : decode cX0_whose 1 = .ok (.istore_n 1, 1) := dk_60 (dk_at dksX0_whose_0 1 rfl rfl)
theorem dX0_whose_2 : decode cX0_whose 2 = .ok (.iconst 0, 1) := dk_3 (dk_at dksX0_whose_0 2 rfl rfl)
theorem dX0_whose_3 : decode cX0_whose 3 = .ok (.istore_n 2, 1) := dk_61 (dk_at dksX0_whose_0 3 rfl rfl)
theorem dX0_whose_4 : decode cX0_whose 4 = .ok (.iload_n 2, 1) := dk_28 (dk_at dksX0_whose_0 4 rfl rfl)
theorem dX0_whose_5 : decode cX0_whose 5 = .ok (.aload_n 0, 1) := dk_42 (dk_at dksX0_whose_0 5 rfl rfl)
theorem dX0_whose_6 : decode cX0_whose 6 = .ok (.getfield 21, 3) := dk_180 0 21 (dk_at dksX0_whose_0 6 rfl rfl)
theorem dX0_whose_9 : decode cX0_whose 9 = .ok (.getfield 64, 3) := dk_180 0 64 (dk_at dksX0_whose_0 9 rfl rfl)
theorem dX0_whose_12 : decode cX0_whose 12 = .ok (.iconst 1, 1) := dk_4 (dk_at dksX0_whose_0 12 rfl rfl)
theorem dX0_whose_13 : decode cX0_whose 13 = .ok (.iaload, 1) := dk_46 (dk_at dksX0_whose_0 13 rfl rfl)
theorem dX0_whose_14 : decode cX0_whose 14 = .ok (.if_icmp .ge 36, 3) := dk_162 0 36 (dk_at dksX0_whose_0 14 rfl rfl)
theorem dX0_whose_17 : decode cX0_whose 17 = .ok (.iload_n 1, 1) := dk_27 (dk_at dksX0_whose_0 17 rfl rfl)
theorem dX0_whose_18 : decode cX0_whose 18 = .ok (.aload_n 0, 1) := dk_42 (dk_at dksX0_whose_0 18 rfl rfl)
theorem dX0_whose_19 : decode cX0_whose 19 = .ok (.aload_n 0, 1) := dk_42 (dk_at dksX0_whose_0 19 rfl rfl)
theorem dX0_whose_20 : decode cX0_whose 20 = .ok (.getfield 21, 3) := dk_180 0 21 (dk_at dksX0_whose_0 20 rfl rfl)
theorem dX0_whose_23 : decode cX0_whose 23 = .ok (.getfield 85, 3) := dk_180 0 85 (dk_at dksX0_whose_1 0 rfl rfl)
theorem dX0_whose_26 : decode cX0_whose 26 = .ok (.iload_n 2, 1) := dk_28 (dk_at dksX0_whose_1 3 rfl rfl)
theorem dX0_whose_27 : decode cX0_whose 27 = .ok (.aaload, 1) := dk_50 (dk_at dksX0_whose_1 4 rfl rfl)
theorem dX0_whose_28 : decode cX0_whose 28 = .ok (.iconst 0, 1) := dk_3 (dk_at dksX0_whose_1 5 rfl rfl)
theorem dX0_whose_29 : decode cX0_whose 29 = .ok (.invokevirtual 356, 3) := dk_182 1 100 (dk_at dksX0_whose_1 6 rfl rfl)
theorem dX0_whose_32 : decode cX0_whose 32 = .ok (.ifCond .ne 9, 3) := dk_154 0 9 (dk_at dksX0_whose_1 9 rfl rfl)
theorem dX0_whose_35 : decode cX0_whose 35 = .ok (.iconst 1, 1) := dk_4 (dk_at dksX0_whose_1 12 rfl rfl)
theorem dX0_whose_36 : decode cX0_whose 36 = .ok (.iload_n 2, 1) := dk_28 (dk_at dksX0_whose_1 13 rfl rfl)
theorem dX0_whose_37 : decode cX0_whose 37 = .ok (.ishl, 1) := dk_120 (dk_at dksX0_whose_1 14 rfl rfl)
theorem dX0_whose_38 : decode cX0_whose 38 = .ok (.goto 4, 3) := dk_167 0 4 (dk_at dksX0_whose_1 15 rfl rfl)
theorem dX0_whose_41 : decode cX0_whose 41 = .ok (.iconst 0, 1) := dk_3 (dk_at dksX0_whose_1 18 rfl rfl)
theorem dX0_whose_42 : decode cX0_whose 42 = .ok (.ior, 1) := dk_128 (dk_at dksX0_whose_1 19 rfl rfl)
theorem dX0_whose_43 : decode cX0_whose 43 = .ok (.istore_n 1, 1) := dk_60 (dk_at dksX0_whose_1 20 rfl rfl)
theorem dX0_whose_44 : decode cX0_whose 44 = .ok (.iinc 2 1, 3) := dk_132 2 1 (dk_at dksX0_whose_1 21 rfl rfl)
theorem dX0_whose_47 : decode cX0_whose 47 = .ok (.goto (-43), 3) := dk_167 255 213 (dk_at dksX0_whose_2 0 rfl rfl)
theorem dX0_whose_50 : decode cX0_whose 50 = .ok (.iload_n 1, 1) := dk_27 (dk_at dksX0_whose_2 3 rfl rfl)
theorem dX0_whose_51 : decode cX0_whose 51 = .ok (.ireturn, 1) := dk_172 (dk_at dksX0_whose_2 4 rfl rfl)
abbrev cX0_learn : ByteArray := prog_1_method_73_code
def yX0_learn : MethodName := ⟨RX0, "learn", "(IZ)I"⟩
def dkwX0_learn_3 : List UInt8 := [180, 1, 104, 8, 45, 182, 0, 74, 172]
abbrev dktX0_learn_3 : List UInt8 := dkwX0_learn_3 ++ []
def dkwX0_learn_2 : List UInt8 := [3, 27, 79, 89, 4, 28, 153, 0, 7, 4, 167, 0, 4, 3, 79, 78, 42, 180, 0, 21, 42, 180, 0, 21]
abbrev dktX0_learn_2 : List UInt8 := dkwX0_learn_2 ++ dktX0_learn_3
def dkwX0_learn_1 : List UInt8 := [153, 0, 17, 42, 180, 0, 21, 180, 0, 64, 8, 46, 16, 8, 160, 0, 6, 16, 254, 172, 5, 188, 10, 89]
abbrev dktX0_learn_1 : List UInt8 := dkwX0_learn_1 ++ dktX0_learn_2
def dkwX0_learn_0 : List UInt8 := [27, 2, 160, 0, 15, 42, 180, 0, 21, 180, 0, 64, 8, 3, 79, 3, 172, 42, 27, 182, 0, 214]
abbrev dktX0_learn_0 : List UInt8 := dkwX0_learn_0 ++ dktX0_learn_1
theorem dksX0_learn_0 : cX0_learn.data.toList.drop 0 = dktX0_learn_0 := by decide +kernel
theorem dksX0_learn_1 : cX0_learn.data.toList.drop 22 = dktX0_learn_1 := dk_seg dksX0_learn_0 22 rfl rfl
theorem dksX0_learn_2 : cX0_learn.data.toList.drop 46 = dktX0_learn_2 := dk_seg dksX0_learn_1 24 rfl rfl
theorem dksX0_learn_3 : cX0_learn.data.toList.drop 70 = dktX0_learn_3 := dk_seg dksX0_learn_2 24 rfl rfl
theorem dX0_learn_0 : decode cX0_learn 0 = .ok (.iload_n 1, 1) := dk_27 (dk_at dksX0_learn_0 0 rfl rfl)
theorem dX0_learn_1 : decode cX0_learn 1 = .ok (.iconst (-1), 1) := dk_2 (dk_at dksX0_learn_0 1 rfl rfl)
theorem dX0_learn_2 : decode cX0_learn 2 = .ok (.if_icmp .ne 15, 3) := dk_160 0 15 (dk_at dksX0_learn_0 2 rfl rfl)
theorem dX0_learn_5 : decode cX0_learn 5 = .ok (.aload_n 0, 1) := dk_42 (dk_at dksX0_learn_0 5 rfl rfl)
theorem dX0_learn_6 : decode cX0_learn 6 = .ok (.getfield 21, 3) := dk_180 0 21 (dk_at dksX0_learn_0 6 rfl rfl)
theorem dX0_learn_9 : decode cX0_learn 9 = .ok (.getfield 64, 3) := dk_180 0 64 (dk_at dksX0_learn_0 9 rfl rfl)
theorem dX0_learn_12 : decode cX0_learn 12 = .ok (.iconst 5, 1) := dk_8 (dk_at dksX0_learn_0 12 rfl rfl)
theorem dX0_learn_13 : decode cX0_learn 13 = .ok (.iconst 0, 1) := dk_3 (dk_at dksX0_learn_0 13 rfl rfl)
theorem dX0_learn_14 : decode cX0_learn 14 = .ok (.iastore, 1) := dk_79 (dk_at dksX0_learn_0 14 rfl rfl)
theorem dX0_learn_15 : decode cX0_learn 15 = .ok (.iconst 0, 1) := dk_3 (dk_at dksX0_learn_0 15 rfl rfl)
theorem dX0_learn_16 : decode cX0_learn 16 = .ok (.ireturn, 1) := dk_172 (dk_at dksX0_learn_0 16 rfl rfl)
theorem dX0_learn_17 : decode cX0_learn 17 = .ok (.aload_n 0, 1) := dk_42 (dk_at dksX0_learn_0 17 rfl rfl)
theorem dX0_learn_18 : decode cX0_learn 18 = .ok (.iload_n 1, 1) := dk_27 (dk_at dksX0_learn_0 18 rfl rfl)
theorem dX0_learn_19 : decode cX0_learn 19 = .ok (.invokevirtual 214, 3) := dk_182 0 214 (dk_at dksX0_learn_0 19 rfl rfl)
theorem dX0_learn_22 : decode cX0_learn 22 = .ok (.ifCond .eq 17, 3) := dk_153 0 17 (dk_at dksX0_learn_1 0 rfl rfl)
theorem dX0_learn_25 : decode cX0_learn 25 = .ok (.aload_n 0, 1) := dk_42 (dk_at dksX0_learn_1 3 rfl rfl)
theorem dX0_learn_26 : decode cX0_learn 26 = .ok (.getfield 21, 3) := dk_180 0 21 (dk_at dksX0_learn_1 4 rfl rfl)
theorem dX0_learn_29 : decode cX0_learn 29 = .ok (.getfield 64, 3) := dk_180 0 64 (dk_at dksX0_learn_1 7 rfl rfl)
theorem dX0_learn_32 : decode cX0_learn 32 = .ok (.iconst 5, 1) := dk_8 (dk_at dksX0_learn_1 10 rfl rfl)
theorem dX0_learn_33 : decode cX0_learn 33 = .ok (.iaload, 1) := dk_46 (dk_at dksX0_learn_1 11 rfl rfl)
theorem dX0_learn_34 : decode cX0_learn 34 = .ok (.bipush 8, 2) := dk_16 8 (dk_at dksX0_learn_1 12 rfl rfl)
theorem dX0_learn_36 : decode cX0_learn 36 = .ok (.if_icmp .ne 6, 3) := dk_160 0 6 (dk_at dksX0_learn_1 14 rfl rfl)
theorem dX0_learn_39 : decode cX0_learn 39 = .ok (.bipush (-2), 2) := dk_16 254 (dk_at dksX0_learn_1 17 rfl rfl)
theorem dX0_learn_41 : decode cX0_learn 41 = .ok (.ireturn, 1) := dk_172 (dk_at dksX0_learn_1 19 rfl rfl)
theorem dX0_learn_42 : decode cX0_learn 42 = .ok (.iconst 2, 1) := dk_5 (dk_at dksX0_learn_1 20 rfl rfl)
theorem dX0_learn_43 : decode cX0_learn 43 = .ok (.newarray .int, 2) := dk_188_10 (dk_at dksX0_learn_1 21 rfl rfl)
theorem dX0_learn_45 : decode cX0_learn 45 = .ok (.dup, 1) := dk_89 (dk_at dksX0_learn_1 23 rfl rfl)
theorem dX0_learn_46 : decode cX0_learn 46 = .ok (.iconst 0, 1) := dk_3 (dk_at dksX0_learn_2 0 rfl rfl)
theorem dX0_learn_47 : decode cX0_learn 47 = .ok (.iload_n 1, 1) := dk_27 (dk_at dksX0_learn_2 1 rfl rfl)
theorem dX0_learn_48 : decode cX0_learn 48 = .ok (.iastore, 1) := dk_79 (dk_at dksX0_learn_2 2 rfl rfl)
theorem dX0_learn_49 : decode cX0_learn 49 = .ok (.dup, 1) := dk_89 (dk_at dksX0_learn_2 3 rfl rfl)
theorem dX0_learn_50 : decode cX0_learn 50 = .ok (.iconst 1, 1) := dk_4 (dk_at dksX0_learn_2 4 rfl rfl)
theorem dX0_learn_51 : decode cX0_learn 51 = .ok (.iload_n 2, 1) := dk_28 (dk_at dksX0_learn_2 5 rfl rfl)
theorem dX0_learn_52 : decode cX0_learn 52 = .ok (.ifCond .eq 7, 3) := dk_153 0 7 (dk_at dksX0_learn_2 6 rfl rfl)
theorem dX0_learn_55 : decode cX0_learn 55 = .ok (.iconst 1, 1) := dk_4 (dk_at dksX0_learn_2 9 rfl rfl)
theorem dX0_learn_56 : decode cX0_learn 56 = .ok (.goto 4, 3) := dk_167 0 4 (dk_at dksX0_learn_2 10 rfl rfl)
theorem dX0_learn_59 : decode cX0_learn 59 = .ok (.iconst 0, 1) := dk_3 (dk_at dksX0_learn_2 13 rfl rfl)
theorem dX0_learn_60 : decode cX0_learn 60 = .ok (.iastore, 1) := dk_79 (dk_at dksX0_learn_2 14 rfl rfl)
theorem dX0_learn_61 : decode cX0_learn 61 = .ok (.astore_n 3, 1) := dk_78 (dk_at dksX0_learn_2 15 rfl rfl)
theorem dX0_learn_62 : decode cX0_learn 62 = .ok (.aload_n 0, 1) := dk_42 (dk_at dksX0_learn_2 16 rfl rfl)
theorem dX0_learn_63 : decode cX0_learn 63 = .ok (.getfield 21, 3) := dk_180 0 21 (dk_at dksX0_learn_2 17 rfl rfl)
theorem dX0_learn_66 : decode cX0_learn 66 = .ok (.aload_n 0, 1) := dk_42 (dk_at dksX0_learn_2 20 rfl rfl)
theorem dX0_learn_67 : decode cX0_learn 67 = .ok (.getfield 21, 3) := dk_180 0 21 (dk_at dksX0_learn_2 21 rfl rfl)
theorem dX0_learn_70 : decode cX0_learn 70 = .ok (.getfield 360, 3) := dk_180 1 104 (dk_at dksX0_learn_3 0 rfl rfl)
theorem dX0_learn_73 : decode cX0_learn 73 = .ok (.iconst 5, 1) := dk_8 (dk_at dksX0_learn_3 3 rfl rfl)
theorem dX0_learn_74 : decode cX0_learn 74 = .ok (.aload_n 3, 1) := dk_45 (dk_at dksX0_learn_3 4 rfl rfl)
theorem dX0_learn_75 : decode cX0_learn 75 = .ok (.invokevirtual 74, 3) := dk_182 0 74 (dk_at dksX0_learn_3 5 rfl rfl)
theorem dX0_learn_78 : decode cX0_learn 78 = .ok (.ireturn, 1) := dk_172 (dk_at dksX0_learn_3 8 rfl rfl)
abbrev cX0_codes : ByteArray := prog_1_method_76_code
def yX0_codes : MethodName := ⟨RX0, "codes", "(I)I"⟩
def dkwX0_codes_2 : List UInt8 := [160, 0, 7, 28, 167, 0, 4, 2, 172]
abbrev dktX0_codes_2 : List UInt8 := dkwX0_codes_2 ++ []
def dkwX0_codes_1 : List UInt8 := [154, 0, 6, 167, 0, 13, 28, 27, 160, 0, 5, 29, 172, 132, 2, 1, 132, 3, 1, 167, 255, 225, 27, 2]
abbrev dktX0_codes_1 : List UInt8 := dkwX0_codes_1 ++ dktX0_codes_2
def dkwX0_codes_0 : List UInt8 := [27, 2, 162, 0, 5, 2, 172, 3, 61, 3, 62, 29, 17, 1, 0, 162, 0, 30, 42, 29, 182, 1, 110]
abbrev dktX0_codes_0 : List UInt8 := dkwX0_codes_0 ++ dktX0_codes_1
theorem dksX0_codes_0 : cX0_codes.data.toList.drop 0 = dktX0_codes_0 := by decide +kernel
theorem dksX0_codes_1 : cX0_codes.data.toList.drop 23 = dktX0_codes_1 := dk_seg dksX0_codes_0 23 rfl rfl
theorem dksX0_codes_2 : cX0_codes.data.toList.drop 47 = dktX0_codes_2 := dk_seg dksX0_codes_1 24 rfl rfl
theorem dX0_codes_0 : decode cX0_codes 0 = .ok (.iload_n 1, 1) := dk_27 (dk_at dksX0_codes_0 0 rfl rfl)
theorem dX0_codes_1 : decode cX0_codes 1 = .ok (.iconst (-1), 1) := dk_2 (dk_at dksX0_codes_0 1 rfl rfl)
theorem dX0_codes_2 : decode cX0_codes 2 = .ok (.if_icmp .ge 5, 3) := dk_162 0 5 (dk_at dksX0_codes_0 2 rfl rfl)
theorem dX0_codes_5 : decode cX0_codes 5 = .ok (.iconst (-1), 1) := dk_2 (dk_at dksX0_codes_0 5 rfl rfl)
theorem dX0_codes_6 : decode cX0_codes 6 = .ok (.ireturn, 1) := dk_172 (dk_at dksX0_codes_0 6 rfl rfl)
theorem dX0_codes_7 : decode cX0_codes 7 = .ok (.iconst 0, 1) := dk_3 (dk_at dksX0_codes_0 7 rfl rfl)
theorem dX0_codes_8 : decode cX0_codes 8 = .ok (.istore_n 2, 1) := dk_61 (dk_at dksX0_codes_0 8 rfl rfl)
theorem dX0_codes_9 : decode cX0_codes 9 = .ok (.iconst 0, 1) := dk_3 (dk_at dksX0_codes_0 9 rfl rfl)
theorem dX0_codes_10 : decode cX0_codes 10 = .ok (.istore_n 3, 1) := dk_62 (dk_at dksX0_codes_0 10 rfl rfl)
theorem dX0_codes_11 : decode cX0_codes 11 = .ok (.iload_n 3, 1) := dk_29 (dk_at dksX0_codes_0 11 rfl rfl)
theorem dX0_codes_12 : decode cX0_codes 12 = .ok (.sipush 256, 3) := dk_17 1 0 (dk_at dksX0_codes_0 12 rfl rfl)
theorem dX0_codes_15 : decode cX0_codes 15 = .ok (.if_icmp .ge 30, 3) := dk_162 0 30 (dk_at dksX0_codes_0 15 rfl rfl)
theorem dX0_codes_18 : decode cX0_codes 18 = .ok (.aload_n 0, 1) := dk_42 (dk_at dksX0_codes_0 18 rfl rfl)
theorem dX0_codes_19 : decode cX0_codes 19 = .ok (.iload_n 3, 1) := dk_29 (dk_at dksX0_codes_0 19 rfl rfl)
theorem dX0_codes_20 : decode cX0_codes 20 = .ok (.invokevirtual 366, 3) := dk_182 1 110 (dk_at dksX0_codes_0 20 rfl rfl)
theorem dX0_codes_23 : decode cX0_codes 23 = .ok (.ifCond .ne 6, 3) := dk_154 0 6 (dk_at dksX0_codes_1 0 rfl rfl)
theorem dX0_codes_26 : decode cX0_codes 26 = .ok (.goto 13, 3) := dk_167 0 13 (dk_at dksX0_codes_1 3 rfl rfl)
theorem dX0_codes_29 : decode cX0_codes 29 = .ok (.iload_n 2, 1) := dk_28 (dk_at dksX0_codes_1 6 rfl rfl)
theorem dX0_codes_30 : decode cX0_codes 30 = .ok (.iload_n 1, 1) := dk_27 (dk_at dksX0_codes_1 7 rfl rfl)
theorem dX0_codes_31 : decode cX0_codes 31 = .ok (.if_icmp .ne 5, 3) := dk_160 0 5 (dk_at dksX0_codes_1 8 rfl rfl)
theorem dX0_codes_34 : decode cX0_codes 34 = .ok (.iload_n 3, 1) := dk_29 (dk_at dksX0_codes_1 11 rfl rfl)
theorem dX0_codes_35 : decode cX0_codes 35 = .ok (.ireturn, 1) := dk_172 (dk_at dksX0_codes_1 12 rfl rfl)
theorem dX0_codes_36 : decode cX0_codes 36 = .ok (.iinc 2 1, 3) := dk_132 2 1 (dk_at dksX0_codes_1 13 rfl rfl)
theorem dX0_codes_39 : decode cX0_codes 39 = .ok (.iinc 3 1, 3) := dk_132 3 1 (dk_at dksX0_codes_1 16 rfl rfl)
theorem dX0_codes_42 : decode cX0_codes 42 = .ok (.goto (-31), 3) := dk_167 255 225 (dk_at dksX0_codes_1 19 rfl rfl)
theorem dX0_codes_45 : decode cX0_codes 45 = .ok (.iload_n 1, 1) := dk_27 (dk_at dksX0_codes_1 22 rfl rfl)
theorem dX0_codes_46 : decode cX0_codes 46 = .ok (.iconst (-1), 1) := dk_2 (dk_at dksX0_codes_1 23 rfl rfl)
theorem dX0_codes_47 : decode cX0_codes 47 = .ok (.if_icmp .ne 7, 3) := dk_160 0 7 (dk_at dksX0_codes_2 0 rfl rfl)
theorem dX0_codes_50 : decode cX0_codes 50 = .ok (.iload_n 2, 1) := dk_28 (dk_at dksX0_codes_2 3 rfl rfl)
theorem dX0_codes_51 : decode cX0_codes 51 = .ok (.goto 4, 3) := dk_167 0 4 (dk_at dksX0_codes_2 4 rfl rfl)
theorem dX0_codes_54 : decode cX0_codes 54 = .ok (.iconst (-1), 1) := dk_2 (dk_at dksX0_codes_2 7 rfl rfl)
theorem dX0_codes_55 : decode cX0_codes 55 = .ok (.ireturn, 1) := dk_172 (dk_at dksX0_codes_2 8 rfl rfl)
abbrev cX0_isCode : ByteArray := prog_1_method_75_code
def yX0_isCode : MethodName := ⟨RX0, "isCode", "(I)Z"⟩
def dkwX0_isCode_2 : List UInt8 := [167, 0, 4, 3, 159, 0, 5, 3, 172, 132, 2, 1, 167, 255, 199, 4, 172]
abbrev dktX0_isCode_2 : List UInt8 := dkwX0_isCode_2 ++ []
def dkwX0_isCode_1 : List UInt8 := [28, 50, 3, 46, 182, 1, 107, 42, 180, 0, 21, 180, 1, 104, 28, 50, 4, 46, 4, 160, 0, 7, 4]
abbrev dktX0_isCode_1 : List UInt8 := dkwX0_isCode_1 ++ dktX0_isCode_2
def dkwX0_isCode_0 : List UInt8 := [3, 61, 28, 42, 180, 0, 21, 180, 0, 64, 8, 46, 162, 0, 50, 42, 27, 42, 180, 0, 21, 180, 1, 104]
abbrev dktX0_isCode_0 : List UInt8 := dkwX0_isCode_0 ++ dktX0_isCode_1
theorem dksX0_isCode_0 : cX0_isCode.data.toList.drop 0 = dktX0_isCode_0 := by decide +kernel
theorem dksX0_isCode_1 : cX0_isCode.data.toList.drop 24 = dktX0_isCode_1 := dk_seg dksX0_isCode_0 24 rfl rfl
theorem dksX0_isCode_2 : cX0_isCode.data.toList.drop 47 = dktX0_isCode_2 := dk_seg dksX0_isCode_1 23 rfl rfl
theorem dX0_isCode_0 : decode cX0_isCode 0 = .ok (.iconst 0, 1) := dk_3 (dk_at dksX0_isCode_0 0 rfl rfl)
theorem dX0_isCode_1 : decode cX0_isCode 1 = .ok (.istore_n 2, 1) := dk_61 (dk_at dksX0_isCode_0 1 rfl rfl)
theorem dX0_isCode_2 : decode cX0_isCode 2 = .ok (.iload_n 2, 1) := dk_28 (dk_at dksX0_isCode_0 2 rfl rfl)
theorem dX0_isCode_3 : decode cX0_isCode 3 = .ok (.aload_n 0, 1) := dk_42 (dk_at dksX0_isCode_0 3 rfl rfl)
theorem dX0_isCode_4 : decode cX0_isCode 4 = .ok (.getfield 21, 3) := dk_180 0 21 (dk_at dksX0_isCode_0 4 rfl rfl)
theorem dX0_isCode_7 : decode cX0_isCode 7 = .ok (.getfield 64, 3) := dk_180 0 64 (dk_at dksX0_isCode_0 7 rfl rfl)
theorem dX0_isCode_10 : decode cX0_isCode 10 = .ok (.iconst 5, 1) := dk_8 (dk_at dksX0_isCode_0 10 rfl rfl)
theorem dX0_isCode_11 : decode cX0_isCode 11 = .ok (.iaload, 1) := dk_46 (dk_at dksX0_isCode_0 11 rfl rfl)
theorem dX0_isCode_12 : decode cX0_isCode 12 = .ok (.if_icmp .ge 50, 3) := dk_162 0 50 (dk_at dksX0_isCode_0 12 rfl rfl)
theorem dX0_isCode_15 : decode cX0_isCode 15 = .ok (.aload_n 0, 1) := dk_42 (dk_at dksX0_isCode_0 15 rfl rfl)
theorem dX0_isCode_16 : decode cX0_isCode 16 = .ok (.iload_n 1, 1) := dk_27 (dk_at dksX0_isCode_0 16 rfl rfl)
theorem dX0_isCode_17 : decode cX0_isCode 17 = .ok (.aload_n 0, 1) := dk_42 (dk_at dksX0_isCode_0 17 rfl rfl)
theorem dX0_isCode_18 : decode cX0_isCode 18 = .ok (.getfield 21, 3) := dk_180 0 21 (dk_at dksX0_isCode_0 18 rfl rfl)
theorem dX0_isCode_21 : decode cX0_isCode 21 = .ok (.getfield 360, 3) := dk_180 1 104 (dk_at dksX0_isCode_0 21 rfl rfl)
theorem dX0_isCode_24 : decode cX0_isCode 24 = .ok (.iload_n 2, 1) := dk_28 (dk_at dksX0_isCode_1 0 rfl rfl)
theorem dX0_isCode_25 : decode cX0_isCode 25 = .ok (.aaload, 1) := dk_50 (dk_at dksX0_isCode_1 1 rfl rfl)
theorem dX0_isCode_26 : decode cX0_isCode 26 = .ok (.iconst 0, 1) := dk_3 (dk_at dksX0_isCode_1 2 rfl rfl)
theorem dX0_isCode_27 : decode cX0_isCode 27 = .ok (.iaload, 1) := dk_46 (dk_at dksX0_isCode_1 3 rfl rfl)
theorem dX0_isCode_28 : decode cX0_isCode 28 = .ok (.invokevirtual 363, 3) := dk_182 1 107 (dk_at dksX0_isCode_1 4 rfl rfl)
theorem dX0_isCode_31 : decode cX0_isCode 31 = .ok (.aload_n 0, 1) := dk_42 (dk_at dksX0_isCode_1 7 rfl rfl)
theorem dX0_isCode_32 : decode cX0_isCode 32 = .ok (.getfield 21, 3) := dk_180 0 21 (dk_at dksX0_isCode_1 8 rfl rfl)
theorem dX0_isCode_35 : decode cX0_isCode 35 = .ok (.getfield 360, 3) := dk_180 1 104 (dk_at dksX0_isCode_1 11 rfl rfl)
theorem dX0_isCode_38 : decode cX0_isCode 38 = .ok (.iload_n 2, 1) := dk_28 (dk_at dksX0_isCode_1 14 rfl rfl)
theorem dX0_isCode_39 : decode cX0_isCode 39 = .ok (.aaload, 1) := dk_50 (dk_at dksX0_isCode_1 15 rfl rfl)
theorem dX0_isCode_40 : decode cX0_isCode 40 = .ok (.iconst 1, 1) := dk_4 (dk_at dksX0_isCode_1 16 rfl rfl)
theorem dX0_isCode_41 : decode cX0_isCode 41 = .ok (.iaload, 1) := dk_46 (dk_at dksX0_isCode_1 17 rfl rfl)
theorem dX0_isCode_42 : decode cX0_isCode 42 = .ok (.iconst 1, 1) := dk_4 (dk_at dksX0_isCode_1 18 rfl rfl)
theorem dX0_isCode_43 : decode cX0_isCode 43 = .ok (.if_icmp .ne 7, 3) := dk_160 0 7 (dk_at dksX0_isCode_1 19 rfl rfl)
theorem dX0_isCode_46 : decode cX0_isCode 46 = .ok (.iconst 1, 1) := dk_4 (dk_at dksX0_isCode_1 22 rfl rfl)
theorem dX0_isCode_47 : decode cX0_isCode 47 = .ok (.goto 4, 3) := dk_167 0 4 (dk_at dksX0_isCode_2 0 rfl rfl)
theorem dX0_isCode_50 : decode cX0_isCode 50 = .ok (.iconst 0, 1) := dk_3 (dk_at dksX0_isCode_2 3 rfl rfl)
theorem dX0_isCode_51 : decode cX0_isCode 51 = .ok (.if_icmp .eq 5, 3) := dk_159 0 5 (dk_at dksX0_isCode_2 4 rfl rfl)
theorem dX0_isCode_54 : decode cX0_isCode 54 = .ok (.iconst 0, 1) := dk_3 (dk_at dksX0_isCode_2 7 rfl rfl)
theorem dX0_isCode_55 : decode cX0_isCode 55 = .ok (.ireturn, 1) := dk_172 (dk_at dksX0_isCode_2 8 rfl rfl)
theorem dX0_isCode_56 : decode cX0_isCode 56 = .ok (.iinc 2 1, 3) := dk_132 2 1 (dk_at dksX0_isCode_2 9 rfl rfl)
theorem dX0_isCode_59 : decode cX0_isCode 59 = .ok (.goto (-57), 3) := dk_167 255 199 (dk_at dksX0_isCode_2 12 rfl rfl)
theorem dX0_isCode_62 : decode cX0_isCode 62 = .ok (.iconst 1, 1) := dk_4 (dk_at dksX0_isCode_2 15 rfl rfl)
theorem dX0_isCode_63 : decode cX0_isCode 63 = .ok (.ireturn, 1) := dk_172 (dk_at dksX0_isCode_2 16 rfl rfl)
abbrev cX0_finds : ByteArray := prog_1_method_74_code
def yX0_finds : MethodName := ⟨RX0, "finds", "(II)Z"⟩
def dkwX0_finds_0 : List UInt8 := [27, 42, 180, 0, 21, 180, 0, 71, 28, 50, 6, 46, 2, 130, 126, 154, 0, 7, 4, 167, 0, 4, 3, 172]
abbrev dktX0_finds_0 : List UInt8 := dkwX0_finds_0 ++ []
theorem dksX0_finds_0 : cX0_finds.data.toList.drop 0 = dktX0_finds_0 := by decide +kernel
theorem dX0_finds_0 : decode cX0_finds 0 = .ok (.iload_n 1, 1) := dk_27 (dk_at dksX0_finds_0 0 rfl rfl)
theorem dX0_finds_1 : decode cX0_finds 1 = .ok (.aload_n 0, 1) := dk_42 (dk_at dksX0_finds_0 1 rfl rfl)
theorem dX0_finds_2 : decode cX0_finds 2 = .ok (.getfield 21, 3) := dk_180 0 21 (dk_at dksX0_finds_0 2 rfl rfl)
theorem dX0_finds_5 : decode cX0_finds 5 = .ok (.getfield 71, 3) := dk_180 0 71 (dk_at dksX0_finds_0 5 rfl rfl)
theorem dX0_finds_8 : decode cX0_finds 8 = .ok (.iload_n 2, 1) := dk_28 (dk_at dksX0_finds_0 8 rfl rfl)
theorem dX0_finds_9 : decode cX0_finds 9 = .ok (.aaload, 1) := dk_50 (dk_at dksX0_finds_0 9 rfl rfl)
theorem dX0_finds_10 : decode cX0_finds 10 = .ok (.iconst 3, 1) := dk_6 (dk_at dksX0_finds_0 10 rfl rfl)
theorem dX0_finds_11 : decode cX0_finds 11 = .ok (.iaload, 1) := dk_46 (dk_at dksX0_finds_0 11 rfl rfl)
theorem dX0_finds_12 : decode cX0_finds 12 = .ok (.iconst (-1), 1) := dk_2 (dk_at dksX0_finds_0 12 rfl rfl)
theorem dX0_finds_13 : decode cX0_finds 13 = .ok (.ixor, 1) := dk_130 (dk_at dksX0_finds_0 13 rfl rfl)
theorem dX0_finds_14 : decode cX0_finds 14 = .ok (.iand, 1) := dk_126 (dk_at dksX0_finds_0 14 rfl rfl)
theorem dX0_finds_15 : decode cX0_finds 15 = .ok (.ifCond .ne 7, 3) := dk_154 0 7 (dk_at dksX0_finds_0 15 rfl rfl)
theorem dX0_finds_18 : decode cX0_finds 18 = .ok (.iconst 1, 1) := dk_4 (dk_at dksX0_finds_0 18 rfl rfl)
theorem dX0_finds_19 : decode cX0_finds 19 = .ok (.goto 4, 3) := dk_167 0 4 (dk_at dksX0_finds_0 19 rfl rfl)
theorem dX0_finds_22 : decode cX0_finds 22 = .ok (.iconst 0, 1) := dk_3 (dk_at dksX0_finds_0 22 rfl rfl)
theorem dX0_finds_23 : decode cX0_finds 23 = .ok (.ireturn, 1) := dk_172 (dk_at dksX0_finds_0 23 rfl rfl)
abbrev cX0_sure : ByteArray := prog_1_method_78_code
def yX0_sure : MethodName := ⟨RX0, "sure", "(I)I"⟩
def dkwX0_sure_1 : List UInt8 := [182, 1, 116, 62, 29, 28, 160, 0, 7, 4, 167, 0, 12, 29, 154, 0, 7, 3, 167, 0, 4, 2, 172]
abbrev dktX0_sure_1 : List UInt8 := dkwX0_sure_1 ++ []
def dkwX0_sure_0 : List UInt8 := [42, 2, 182, 1, 113, 61, 42, 27, 182, 0, 214, 153, 0, 7, 28, 154, 0, 5, 2, 172, 42, 27]
abbrev dktX0_sure_0 : List UInt8 := dkwX0_sure_0 ++ dktX0_sure_1
theorem dksX0_sure_0 : cX0_sure.data.toList.drop 0 = dktX0_sure_0 := by decide +kernel
theorem dksX0_sure_1 : cX0_sure.data.toList.drop 22 = dktX0_sure_1 := dk_seg dksX0_sure_0 22 rfl rfl
theorem dX0_sure_0 : decode cX0_sure 0 = .ok (.aload_n 0, 1) := dk_42 (dk_at dksX0_sure_0 0 rfl rfl)
theorem dX0_sure_1 : decode cX0_sure 1 = .ok (.iconst (-1), 1) := dk_2 (dk_at dksX0_sure_0 1 rfl rfl)
theorem dX0_sure_2 : decode cX0_sure 2 = .ok (.invokevirtual 369, 3) := dk_182 1 113 (dk_at dksX0_sure_0 2 rfl rfl)
theorem dX0_sure_5 : decode cX0_sure 5 = .ok (.istore_n 2, 1) := dk_61 (dk_at dksX0_sure_0 5 rfl rfl)
theorem dX0_sure_6 : decode cX0_sure 6 = .ok (.aload_n 0, 1) := dk_42 (dk_at dksX0_sure_0 6 rfl rfl)
theorem dX0_sure_7 : decode cX0_sure 7 = .ok (.iload_n 1, 1) := dk_27 (dk_at dksX0_sure_0 7 rfl rfl)
theorem dX0_sure_8 : decode cX0_sure 8 = .ok (.invokevirtual 214, 3) := dk_182 0 214 (dk_at dksX0_sure_0 8 rfl rfl)
theorem dX0_sure_11 : decode cX0_sure 11 = .ok (.ifCond .eq 7, 3) := dk_153 0 7 (dk_at dksX0_sure_0 11 rfl rfl)
theorem dX0_sure_14 : decode cX0_sure 14 = .ok (.iload_n 2, 1) := dk_28 (dk_at dksX0_sure_0 14 rfl rfl)
theorem dX0_sure_15 : decode cX0_sure 15 = .ok (.ifCond .ne 5, 3) := dk_154 0 5 (dk_at dksX0_sure_0 15 rfl rfl)
theorem dX0_sure_18 : decode cX0_sure 18 = .ok (.iconst (-1), 1) := dk_2 (dk_at dksX0_sure_0 18 rfl rfl)
theorem dX0_sure_19 : decode cX0_sure 19 = .ok (.ireturn, 1) := dk_172 (dk_at dksX0_sure_0 19 rfl rfl)
theorem dX0_sure_20 : decode cX0_sure 20 = .ok (.aload_n 0, 1) := dk_42 (dk_at dksX0_sure_0 20 rfl rfl)
theorem dX0_sure_21 : decode cX0_sure 21 = .ok (.iload_n 1, 1) := dk_27 (dk_at dksX0_sure_0 21 rfl rfl)
theorem dX0_sure_22 : decode cX0_sure 22 = .ok (.invokevirtual 372, 3) := dk_182 1 116 (dk_at dksX0_sure_1 0 rfl rfl)
theorem dX0_sure_25 : decode cX0_sure 25 = .ok (.istore_n 3, 1) := dk_62 (dk_at dksX0_sure_1 3 rfl rfl)
theorem dX0_sure_26 : decode cX0_sure 26 = .ok (.iload_n 3, 1) := dk_29 (dk_at dksX0_sure_1 4 rfl rfl)
theorem dX0_sure_27 : decode cX0_sure 27 = .ok (.iload_n 2, 1) := dk_28 (dk_at dksX0_sure_1 5 rfl rfl)
theorem dX0_sure_28 : decode cX0_sure 28 = .ok (.if_icmp .ne 7, 3) := dk_160 0 7 (dk_at dksX0_sure_1 6 rfl rfl)
theorem dX0_sure_31 : decode cX0_sure 31 = .ok (.iconst 1, 1) := dk_4 (dk_at dksX0_sure_1 9 rfl rfl)
theorem dX0_sure_32 : decode cX0_sure 32 = .ok (.goto 12, 3) := dk_167 0 12 (dk_at dksX0_sure_1 10 rfl rfl)
theorem dX0_sure_35 : decode cX0_sure 35 = .ok (.iload_n 3, 1) := dk_29 (dk_at dksX0_sure_1 13 rfl rfl)
theorem dX0_sure_36 : decode cX0_sure 36 = .ok (.ifCond .ne 7, 3) := dk_154 0 7 (dk_at dksX0_sure_1 14 rfl rfl)
theorem dX0_sure_39 : decode cX0_sure 39 = .ok (.iconst 0, 1) := dk_3 (dk_at dksX0_sure_1 17 rfl rfl)
theorem dX0_sure_40 : decode cX0_sure 40 = .ok (.goto 4, 3) := dk_167 0 4 (dk_at dksX0_sure_1 18 rfl rfl)
theorem dX0_sure_43 : decode cX0_sure 43 = .ok (.iconst (-1), 1) := dk_2 (dk_at dksX0_sure_1 21 rfl rfl)
theorem dX0_sure_44 : decode cX0_sure 44 = .ok (.ireturn, 1) := dk_172 (dk_at dksX0_sure_1 22 rfl rfl)
abbrev cX0_findBy : ByteArray := prog_1_method_77_code
def yX0_findBy : MethodName := ⟨RX0, "findBy", "(I)I"⟩
def dkwX0_findBy_1 : List UInt8 := [182, 1, 107, 153, 0, 7, 4, 167, 0, 4, 3, 96, 61, 132, 3, 1, 167, 255, 221, 28, 172]
abbrev dktX0_findBy_1 : List UInt8 := dkwX0_findBy_1 ++ []
def dkwX0_findBy_0 : List UInt8 := [3, 61, 3, 62, 29, 17, 1, 0, 162, 0, 34, 28, 42, 29, 182, 1, 110, 153, 0, 16, 42, 29, 27]
abbrev dktX0_findBy_0 : List UInt8 := dkwX0_findBy_0 ++ dktX0_findBy_1
theorem dksX0_findBy_0 : cX0_findBy.data.toList.drop 0 = dktX0_findBy_0 := by decide +kernel
theorem dksX0_findBy_1 : cX0_findBy.data.toList.drop 23 = dktX0_findBy_1 := dk_seg dksX0_findBy_0 23 rfl rfl
theorem dX0_findBy_0 : decode cX0_findBy 0 = .ok (.iconst 0, 1) := dk_3 (dk_at dksX0_findBy_0 0 rfl rfl)
theorem dX0_findBy_1 : decode cX0_findBy 1 = .ok (.istore_n 2, 1) := dk_61 (dk_at dksX0_findBy_0 1 rfl rfl)
theorem dX0_findBy_2 : decode cX0_findBy 2 = .ok (.iconst 0, 1) := dk_3 (dk_at dksX0_findBy_0 2 rfl rfl)
theorem dX0_findBy_3 : decode cX0_findBy 3 = .ok (.istore_n 3, 1) := dk_62 (dk_at dksX0_findBy_0 3 rfl rfl)
theorem dX0_findBy_4 : decode cX0_findBy 4 = .ok (.iload_n 3, 1) := dk_29 (dk_at dksX0_findBy_0 4 rfl rfl)
theorem dX0_findBy_5 : decode cX0_findBy 5 = .ok (.sipush 256, 3) := dk_17 1 0 (dk_at dksX0_findBy_0 5 rfl rfl)
theorem dX0_findBy_8 : decode cX0_findBy 8 = .ok (.if_icmp .ge 34, 3) := dk_162 0 34 (dk_at dksX0_findBy_0 8 rfl rfl)
theorem dX0_findBy_11 : decode cX0_findBy 11 = .ok (.iload_n 2, 1) := dk_28 (dk_at dksX0_findBy_0 11 rfl rfl)
theorem dX0_findBy_12 : decode cX0_findBy 12 = .ok (.aload_n 0, 1) := dk_42 (dk_at dksX0_findBy_0 12 rfl rfl)
theorem dX0_findBy_13 : decode cX0_findBy 13 = .ok (.iload_n 3, 1) := dk_29 (dk_at dksX0_findBy_0 13 rfl rfl)
theorem dX0_findBy_14 : decode cX0_findBy 14 = .ok (.invokevirtual 366, 3) := dk_182 1 110 (dk_at dksX0_findBy_0 14 rfl rfl)
theorem dX0_findBy_17 : decode cX0_findBy 17 = .ok (.ifCond .eq 16, 3) := dk_153 0 16 (dk_at dksX0_findBy_0 17 rfl rfl)
theorem dX0_findBy_20 : decode cX0_findBy 20 = .ok (.aload_n 0, 1) := dk_42 (dk_at dksX0_findBy_0 20 rfl rfl)
theorem dX0_findBy_21 : decode cX0_findBy 21 = .ok (.iload_n 3, 1) := dk_29 (dk_at dksX0_findBy_0 21 rfl rfl)
theorem dX0_findBy_22 : decode cX0_findBy 22 = .ok (.iload_n 1, 1) := dk_27 (dk_at dksX0_findBy_0 22 rfl rfl)
theorem dX0_findBy_23 : decode cX0_findBy 23 = .ok (.invokevirtual 363, 3) := dk_182 1 107 (dk_at dksX0_findBy_1 0 rfl rfl)
theorem dX0_findBy_26 : decode cX0_findBy 26 = .ok (.ifCond .eq 7, 3) := dk_153 0 7 (dk_at dksX0_findBy_1 3 rfl rfl)
theorem dX0_findBy_29 : decode cX0_findBy 29 = .ok (.iconst 1, 1) := dk_4 (dk_at dksX0_findBy_1 6 rfl rfl)
theorem dX0_findBy_30 : decode cX0_findBy 30 = .ok (.goto 4, 3) := dk_167 0 4 (dk_at dksX0_findBy_1 7 rfl rfl)
theorem dX0_findBy_33 : decode cX0_findBy 33 = .ok (.iconst 0, 1) := dk_3 (dk_at dksX0_findBy_1 10 rfl rfl)
theorem dX0_findBy_34 : decode cX0_findBy 34 = .ok (.iadd, 1) := dk_96 (dk_at dksX0_findBy_1 11 rfl rfl)
theorem dX0_findBy_35 : decode cX0_findBy 35 = .ok (.istore_n 2, 1) := dk_61 (dk_at dksX0_findBy_1 12 rfl rfl)
theorem dX0_findBy_36 : decode cX0_findBy 36 = .ok (.iinc 3 1, 3) := dk_132 3 1 (dk_at dksX0_findBy_1 13 rfl rfl)
theorem dX0_findBy_39 : decode cX0_findBy 39 = .ok (.goto (-35), 3) := dk_167 255 221 (dk_at dksX0_findBy_1 16 rfl rfl)
theorem dX0_findBy_42 : decode cX0_findBy 42 = .ok (.iload_n 2, 1) := dk_28 (dk_at dksX0_findBy_1 19 rfl rfl)
theorem dX0_findBy_43 : decode cX0_findBy 43 = .ok (.ireturn, 1) := dk_172 (dk_at dksX0_findBy_1 20 rfl rfl)
abbrev cX0_toBring : ByteArray := prog_1_method_79_code
def yX0_toBring : MethodName := ⟨RX0, "toBring", "()I"⟩
def dkwX0_toBring_2 : List UInt8 := [167, 0, 9, 21, 4, 61, 21, 5, 62, 132, 4, 1, 167, 255, 209, 28, 172]
abbrev dktX0_toBring_2 : List UInt8 := dkwX0_toBring_2 ++ []
def dkwX0_toBring_1 : List UInt8 := [162, 0, 39, 5, 42, 21, 4, 182, 1, 116, 104, 27, 100, 184, 1, 119, 54, 5, 21, 5, 29, 161, 0, 6]
abbrev dktX0_toBring_1 : List UInt8 := dkwX0_toBring_1 ++ dktX0_toBring_2
def dkwX0_toBring_0 : List UInt8 := [42, 2, 182, 1, 113, 60, 2, 61, 27, 62, 3, 54, 4, 21, 4, 42, 180, 0, 21, 180, 0, 64, 3, 46]
abbrev dktX0_toBring_0 : List UInt8 := dkwX0_toBring_0 ++ dktX0_toBring_1
theorem dksX0_toBring_0 : cX0_toBring.data.toList.drop 0 = dktX0_toBring_0 := by decide +kernel
theorem dksX0_toBring_1 : cX0_toBring.data.toList.drop 24 = dktX0_toBring_1 := dk_seg dksX0_toBring_0 24 rfl rfl
theorem dksX0_toBring_2 : cX0_toBring.data.toList.drop 48 = dktX0_toBring_2 := dk_seg dksX0_toBring_1 24 rfl rfl
theorem dX0_toBring_0 : decode cX0_toBring 0 = .ok (.aload_n 0, 1) := dk_42 (dk_at dksX0_toBring_0 0 rfl rfl)
theorem dX0_toBring_1 : decode cX0_toBring 1 = .ok (.iconst (-1), 1) := dk_2 (dk_at dksX0_toBring_0 1 rfl rfl)
theorem dX0_toBring_2 : decode cX0_toBring 2 = .ok (.invokevirtual 369, 3) := dk_182 1 113 (dk_at dksX0_toBring_0 2 rfl rfl)
theorem dX0_toBring_5 : decode cX0_toBring 5 = .ok (.istore_n 1, 1) := dk_60 (dk_at dksX0_toBring_0 5 rfl rfl)
theorem dX0_toBring_6 : decode cX0_toBring 6 = .ok (.iconst (-1), 1) := dk_2 (dk_at dksX0_toBring_0 6 rfl rfl)
theorem dX0_toBring_7 : decode cX0_toBring 7 = .ok (.istore_n 2, 1) := dk_61 (dk_at dksX0_toBring_0 7 rfl rfl)
theorem dX0_toBring_8 : decode cX0_toBring 8 = .ok (.iload_n 1, 1) := dk_27 (dk_at dksX0_toBring_0 8 rfl rfl)
theorem dX0_toBring_9 : decode cX0_toBring 9 = .ok (.istore_n 3, 1) := dk_62 (dk_at dksX0_toBring_0 9 rfl rfl)
theorem dX0_toBring_10 : decode cX0_toBring 10 = .ok (.iconst 0, 1) := dk_3 (dk_at dksX0_toBring_0 10 rfl rfl)
theorem dX0_toBring_11 : decode cX0_toBring 11 = .ok (.istore 4, 2) := dk_54 4 (dk_at dksX0_toBring_0 11 rfl rfl)
theorem dX0_toBring_13 : decode cX0_toBring 13 = .ok (.iload 4, 2) := dk_21 4 (dk_at dksX0_toBring_0 13 rfl rfl)
theorem dX0_toBring_15 : decode cX0_toBring 15 = .ok (.aload_n 0, 1) := dk_42 (dk_at dksX0_toBring_0 15 rfl rfl)
theorem dX0_toBring_16 : decode cX0_toBring 16 = .ok (.getfield 21, 3) := dk_180 0 21 (dk_at dksX0_toBring_0 16 rfl rfl)
theorem dX0_toBring_19 : decode cX0_toBring 19 = .ok (.getfield 64, 3) := dk_180 0 64 (dk_at dksX0_toBring_0 19 rfl rfl)
theorem dX0_toBring_22 : decode cX0_toBring 22 = .ok (.iconst 0, 1) := dk_3 (dk_at dksX0_toBring_0 22 rfl rfl)
theorem dX0_toBring_23 : decode cX0_toBring 23 = .ok (.iaload, 1) := dk_46 (dk_at dksX0_toBring_0 23 rfl rfl)
theorem dX0_toBring_24 : decode cX0_toBring 24 = .ok (.if_icmp .ge 39, 3) := dk_162 0 39 (dk_at dksX0_toBring_1 0 rfl rfl)
theorem dX0_toBring_27 : decode cX0_toBring 27 = .ok (.iconst 2, 1) := dk_5 (dk_at dksX0_toBring_1 3 rfl rfl)
theorem dX0_toBring_28 : decode cX0_toBring 28 = .ok (.aload_n 0, 1) := dk_42 (dk_at dksX0_toBring_1 4 rfl rfl)
theorem dX0_toBring_29 : decode cX0_toBring 29 = .ok (.iload 4, 2) := dk_21 4 (dk_at dksX0_toBring_1 5 rfl rfl)
theorem dX0_toBring_31 : decode cX0_toBring 31 = .ok (.invokevirtual 372, 3) := dk_182 1 116 (dk_at dksX0_toBring_1 7 rfl rfl)
theorem dX0_toBring_34 : decode cX0_toBring 34 = .ok (.imul, 1) := dk_104 (dk_at dksX0_toBring_1 10 rfl rfl)
theorem dX0_toBring_35 : decode cX0_toBring 35 = .ok (.iload_n 1, 1) := dk_27 (dk_at dksX0_toBring_1 11 rfl rfl)
theorem dX0_toBring_36 : decode cX0_toBring 36 = .ok (.isub, 1) := dk_100 (dk_at dksX0_toBring_1 12 rfl rfl)
theorem dX0_toBring_37 : decode cX0_toBring 37 = .ok (.invokestatic 375, 3) := dk_184 1 119 (dk_at dksX0_toBring_1 13 rfl rfl)
theorem dX0_toBring_40 : decode cX0_toBring 40 = .ok (.istore 5, 2) := dk_54 5 (dk_at dksX0_toBring_1 16 rfl rfl)
theorem dX0_toBring_42 : decode cX0_toBring 42 = .ok (.iload 5, 2) := dk_21 5 (dk_at dksX0_toBring_1 18 rfl rfl)
theorem dX0_toBring_44 : decode cX0_toBring 44 = .ok (.iload_n 3, 1) := dk_29 (dk_at dksX0_toBring_1 20 rfl rfl)
theorem dX0_toBring_45 : decode cX0_toBring 45 = .ok (.if_icmp .lt 6, 3) := dk_161 0 6 (dk_at dksX0_toBring_1 21 rfl rfl)
theorem dX0_toBring_48 : decode cX0_toBring 48 = .ok (.goto 9, 3) := dk_167 0 9 (dk_at dksX0_toBring_2 0 rfl rfl)
theorem dX0_toBring_51 : decode cX0_toBring 51 = .ok (.iload 4, 2) := dk_21 4 (dk_at dksX0_toBring_2 3 rfl rfl)
theorem dX0_toBring_53 : decode cX0_toBring 53 = .ok (.istore_n 2, 1) := dk_61 (dk_at dksX0_toBring_2 5 rfl rfl)
theorem dX0_toBring_54 : decode cX0_toBring 54 = .ok (.iload 5, 2) := dk_21 5 (dk_at dksX0_toBring_2 6 rfl rfl)
theorem dX0_toBring_56 : decode cX0_toBring 56 = .ok (.istore_n 3, 1) := dk_62 (dk_at dksX0_toBring_2 8 rfl rfl)
theorem dX0_toBring_57 : decode cX0_toBring 57 = .ok (.iinc 4 1, 3) := dk_132 4 1 (dk_at dksX0_toBring_2 9 rfl rfl)
theorem dX0_toBring_60 : decode cX0_toBring 60 = .ok (.goto (-47), 3) := dk_167 255 209 (dk_at dksX0_toBring_2 12 rfl rfl)
theorem dX0_toBring_63 : decode cX0_toBring 63 = .ok (.iload_n 2, 1) := dk_28 (dk_at dksX0_toBring_2 15 rfl rfl)
theorem dX0_toBring_64 : decode cX0_toBring 64 = .ok (.ireturn, 1) := dk_172 (dk_at dksX0_toBring_2 16 rfl rfl)
abbrev cX0_counsel : ByteArray := prog_1_method_80_code
def yX0_counsel : MethodName := ⟨RX0, "counsel", "(II)I"⟩
def dkwX0_counsel_3 : List UInt8 := [180, 0, 21, 42, 180, 0, 21, 180, 1, 122, 16, 6, 45, 182, 0, 74, 172]
abbrev dktX0_counsel_3 : List UInt8 := dkwX0_counsel_3 ++ []
def dkwX0_counsel_2 : List UInt8 := [16, 6, 46, 16, 8, 160, 0, 6, 16, 254, 172, 5, 188, 10, 89, 3, 27, 79, 89, 4, 28, 79, 78, 42]
abbrev dktX0_counsel_2 : List UInt8 := dkwX0_counsel_2 ++ dktX0_counsel_3
def dkwX0_counsel_1 : List UInt8 := [184, 0, 67, 153, 0, 28, 28, 3, 16, 99, 184, 0, 67, 153, 0, 18, 42, 180, 0, 21, 180, 0, 64]
abbrev dktX0_counsel_1 : List UInt8 := dkwX0_counsel_1 ++ dktX0_counsel_2
def dkwX0_counsel_0 : List UInt8 := [27, 2, 160, 0, 16, 42, 180, 0, 21, 180, 0, 64, 16, 6, 3, 79, 3, 172, 27, 4, 17, 3, 231]
abbrev dktX0_counsel_0 : List UInt8 := dkwX0_counsel_0 ++ dktX0_counsel_1
theorem dksX0_counsel_0 : cX0_counsel.data.toList.drop 0 = dktX0_counsel_0 := by decide +kernel
theorem dksX0_counsel_1 : cX0_counsel.data.toList.drop 23 = dktX0_counsel_1 := dk_seg dksX0_counsel_0 23 rfl rfl
theorem dksX0_counsel_2 : cX0_counsel.data.toList.drop 46 = dktX0_counsel_2 := dk_seg dksX0_counsel_1 23 rfl rfl
theorem dksX0_counsel_3 : cX0_counsel.data.toList.drop 70 = dktX0_counsel_3 := dk_seg dksX0_counsel_2 24 rfl rfl
theorem dX0_counsel_0 : decode cX0_counsel 0 = .ok (.iload_n 1, 1) := dk_27 (dk_at dksX0_counsel_0 0 rfl rfl)
theorem dX0_counsel_1 : decode cX0_counsel 1 = .ok (.iconst (-1), 1) := dk_2 (dk_at dksX0_counsel_0 1 rfl rfl)
theorem dX0_counsel_2 : decode cX0_counsel 2 = .ok (.if_icmp .ne 16, 3) := dk_160 0 16 (dk_at dksX0_counsel_0 2 rfl rfl)
theorem dX0_counsel_5 : decode cX0_counsel 5 = .ok (.aload_n 0, 1) := dk_42 (dk_at dksX0_counsel_0 5 rfl rfl)
theorem dX0_counsel_6 : decode cX0_counsel 6 = .ok (.getfield 21, 3) := dk_180 0 21 (dk_at dksX0_counsel_0 6 rfl rfl)
theorem dX0_counsel_9 : decode cX0_counsel 9 = .ok (.getfield 64, 3) := dk_180 0 64 (dk_at dksX0_counsel_0 9 rfl rfl)
theorem dX0_counsel_12 : decode cX0_counsel 12 = .ok (.bipush 6, 2) := dk_16 6 (dk_at dksX0_counsel_0 12 rfl rfl)
theorem dX0_counsel_14 : decode cX0_counsel 14 = .ok (.iconst 0, 1) := dk_3 (dk_at dksX0_counsel_0 14 rfl rfl)
theorem dX0_counsel_15 : decode cX0_counsel 15 = .ok (.iastore, 1) := dk_79 (dk_at dksX0_counsel_0 15 rfl rfl)
theorem dX0_counsel_16 : decode cX0_counsel 16 = .ok (.iconst 0, 1) := dk_3 (dk_at dksX0_counsel_0 16 rfl rfl)
theorem dX0_counsel_17 : decode cX0_counsel 17 = .ok (.ireturn, 1) := dk_172 (dk_at dksX0_counsel_0 17 rfl rfl)
theorem dX0_counsel_18 : decode cX0_counsel 18 = .ok (.iload_n 1, 1) := dk_27 (dk_at dksX0_counsel_0 18 rfl rfl)
theorem dX0_counsel_19 : decode cX0_counsel 19 = .ok (.iconst 1, 1) := dk_4 (dk_at dksX0_counsel_0 19 rfl rfl)
theorem dX0_counsel_20 : decode cX0_counsel 20 = .ok (.sipush 999, 3) := dk_17 3 231 (dk_at dksX0_counsel_0 20 rfl rfl)
theorem dX0_counsel_23 : decode cX0_counsel 23 = .ok (.invokestatic 67, 3) := dk_184 0 67 (dk_at dksX0_counsel_1 0 rfl rfl)
theorem dX0_counsel_26 : decode cX0_counsel 26 = .ok (.ifCond .eq 28, 3) := dk_153 0 28 (dk_at dksX0_counsel_1 3 rfl rfl)
theorem dX0_counsel_29 : decode cX0_counsel 29 = .ok (.iload_n 2, 1) := dk_28 (dk_at dksX0_counsel_1 6 rfl rfl)
theorem dX0_counsel_30 : decode cX0_counsel 30 = .ok (.iconst 0, 1) := dk_3 (dk_at dksX0_counsel_1 7 rfl rfl)
theorem dX0_counsel_31 : decode cX0_counsel 31 = .ok (.bipush 99, 2) := dk_16 99 (dk_at dksX0_counsel_1 8 rfl rfl)
theorem dX0_counsel_33 : decode cX0_counsel 33 = .ok (.invokestatic 67, 3) := dk_184 0 67 (dk_at dksX0_counsel_1 10 rfl rfl)
theorem dX0_counsel_36 : decode cX0_counsel 36 = .ok (.ifCond .eq 18, 3) := dk_153 0 18 (dk_at dksX0_counsel_1 13 rfl rfl)
theorem dX0_counsel_39 : decode cX0_counsel 39 = .ok (.aload_n 0, 1) := dk_42 (dk_at dksX0_counsel_1 16 rfl rfl)
theorem dX0_counsel_40 : decode cX0_counsel 40 = .ok (.getfield 21, 3) := dk_180 0 21 (dk_at dksX0_counsel_1 17 rfl rfl)
theorem dX0_counsel_43 : decode cX0_counsel 43 = .ok (.getfield 64, 3) := dk_180 0 64 (dk_at dksX0_counsel_1 20 rfl rfl)
theorem dX0_counsel_46 : decode cX0_counsel 46 = .ok (.bipush 6, 2) := dk_16 6 (dk_at dksX0_counsel_2 0 rfl rfl)
theorem dX0_counsel_48 : decode cX0_counsel 48 = .ok (.iaload, 1) := dk_46 (dk_at dksX0_counsel_2 2 rfl rfl)
theorem dX0_counsel_49 : decode cX0_counsel 49 = .ok (.bipush 8, 2) := dk_16 8 (dk_at dksX0_counsel_2 3 rfl rfl)
theorem dX0_counsel_51 : decode cX0_counsel 51 = .ok (.if_icmp .ne 6, 3) := dk_160 0 6 (dk_at dksX0_counsel_2 5 rfl rfl)
theorem dX0_counsel_54 : decode cX0_counsel 54 = .ok (.bipush (-2), 2) := dk_16 254 (dk_at dksX0_counsel_2 8 rfl rfl)
theorem dX0_counsel_56 : decode cX0_counsel 56 = .ok (.ireturn, 1) := dk_172 (dk_at dksX0_counsel_2 10 rfl rfl)
theorem dX0_counsel_57 : decode cX0_counsel 57 = .ok (.iconst 2, 1) := dk_5 (dk_at dksX0_counsel_2 11 rfl rfl)
theorem dX0_counsel_58 : decode cX0_counsel 58 = .ok (.newarray .int, 2) := dk_188_10 (dk_at dksX0_counsel_2 12 rfl rfl)
theorem dX0_counsel_60 : decode cX0_counsel 60 = .ok (.dup, 1) := dk_89 (dk_at dksX0_counsel_2 14 rfl rfl)
theorem dX0_counsel_61 : decode cX0_counsel 61 = .ok (.iconst 0, 1) := dk_3 (dk_at dksX0_counsel_2 15 rfl rfl)
theorem dX0_counsel_62 : decode cX0_counsel 62 = .ok (.iload_n 1, 1) := dk_27 (dk_at dksX0_counsel_2 16 rfl rfl)
theorem dX0_counsel_63 : decode cX0_counsel 63 = .ok (.iastore, 1) := dk_79 (dk_at dksX0_counsel_2 17 rfl rfl)
theorem dX0_counsel_64 : decode cX0_counsel 64 = .ok (.dup, 1) := dk_89 (dk_at dksX0_counsel_2 18 rfl rfl)
theorem dX0_counsel_65 : decode cX0_counsel 65 = .ok (.iconst 1, 1) := dk_4 (dk_at dksX0_counsel_2 19 rfl rfl)
theorem dX0_counsel_66 : decode cX0_counsel 66 = .ok (.iload_n 2, 1) := dk_28 (dk_at dksX0_counsel_2 20 rfl rfl)
theorem dX0_counsel_67 : decode cX0_counsel 67 = .ok (.iastore, 1) := dk_79 (dk_at dksX0_counsel_2 21 rfl rfl)
theorem dX0_counsel_68 : decode cX0_counsel 68 = .ok (.astore_n 3, 1) := dk_78 (dk_at dksX0_counsel_2 22 rfl rfl)
theorem dX0_counsel_69 : decode cX0_counsel 69 = .ok (.aload_n 0, 1) := dk_42 (dk_at dksX0_counsel_2 23 rfl rfl)
theorem dX0_counsel_70 : decode cX0_counsel 70 = .ok (.getfield 21, 3) := dk_180 0 21 (dk_at dksX0_counsel_3 0 rfl rfl)
theorem dX0_counsel_73 : decode cX0_counsel 73 = .ok (.aload_n 0, 1) := dk_42 (dk_at dksX0_counsel_3 3 rfl rfl)
theorem dX0_counsel_74 : decode cX0_counsel 74 = .ok (.getfield 21, 3) := dk_180 0 21 (dk_at dksX0_counsel_3 4 rfl rfl)
theorem dX0_counsel_77 : decode cX0_counsel 77 = .ok (.getfield 378, 3) := dk_180 1 122 (dk_at dksX0_counsel_3 7 rfl rfl)
theorem dX0_counsel_80 : decode cX0_counsel 80 = .ok (.bipush 6, 2) := dk_16 6 (dk_at dksX0_counsel_3 10 rfl rfl)
theorem dX0_counsel_82 : decode cX0_counsel 82 = .ok (.aload_n 3, 1) := dk_45 (dk_at dksX0_counsel_3 12 rfl rfl)
theorem dX0_counsel_83 : decode cX0_counsel 83 = .ok (.invokevirtual 74, 3) := dk_182 0 74 (dk_at dksX0_counsel_3 13 rfl rfl)
theorem dX0_counsel_86 : decode cX0_counsel 86 = .ok (.ireturn, 1) := dk_172 (dk_at dksX0_counsel_3 16 rfl rfl)
abbrev cX0_hired : ByteArray := prog_1_method_82_code
def yX0_hired : MethodName := ⟨RX0, "hired", "(IZ)I"⟩
def dkwX0_hired_5 : List UInt8 := [182, 1, 125, 172]
abbrev dktX0_hired_5 : List UInt8 := dkwX0_hired_5 ++ []
def dkwX0_hired_4 : List UInt8 := [158, 0, 6, 21, 4, 62, 132, 4, 1, 167, 255, 175, 28, 153, 0, 7, 29, 167, 0, 9, 42, 29, 4]
abbrev dktX0_hired_4 : List UInt8 := dkwX0_hired_4 ++ dktX0_hired_5
def dkwX0_hired_3 : List UInt8 := [21, 4, 3, 182, 1, 125, 27, 163, 0, 21, 21, 5, 157, 0, 13, 21, 5, 154, 0, 11, 21, 6]
abbrev dktX0_hired_3 : List UInt8 := dkwX0_hired_3 ++ dktX0_hired_4
def dkwX0_hired_2 : List UInt8 := [182, 1, 125, 100, 54, 5, 42, 29, 3, 182, 1, 125, 42, 21, 4, 3, 182, 1, 125, 100, 54, 6, 42]
abbrev dktX0_hired_2 : List UInt8 := dkwX0_hired_2 ++ dktX0_hired_3
def dkwX0_hired_1 : List UInt8 := [180, 0, 21, 180, 0, 64, 16, 6, 46, 120, 162, 0, 70, 42, 21, 4, 4, 182, 1, 125, 42, 29, 4]
abbrev dktX0_hired_1 : List UInt8 := dkwX0_hired_1 ++ dktX0_hired_2
def dkwX0_hired_0 : List UInt8 := [27, 3, 17, 39, 15, 184, 0, 67, 154, 0, 5, 2, 172, 3, 62, 4, 54, 4, 21, 4, 4, 42]
abbrev dktX0_hired_0 : List UInt8 := dkwX0_hired_0 ++ dktX0_hired_1
theorem dksX0_hired_0 : cX0_hired.data.toList.drop 0 = dktX0_hired_0 := by decide +kernel
theorem dksX0_hired_1 : cX0_hired.data.toList.drop 22 = dktX0_hired_1 := dk_seg dksX0_hired_0 22 rfl rfl
theorem dksX0_hired_2 : cX0_hired.data.toList.drop 45 = dktX0_hired_2 := dk_seg dksX0_hired_1 23 rfl rfl
theorem dksX0_hired_3 : cX0_hired.data.toList.drop 68 = dktX0_hired_3 := dk_seg dksX0_hired_2 23 rfl rfl
theorem dksX0_hired_4 : cX0_hired.data.toList.drop 90 = dktX0_hired_4 := dk_seg dksX0_hired_3 22 rfl rfl
theorem dksX0_hired_5 : cX0_hired.data.toList.drop 113 = dktX0_hired_5 := dk_seg dksX0_hired_4 23 rfl rfl
theorem dX0_hired_0 : decode cX0_hired 0 = .ok (.iload_n 1, 1) := dk_27 (dk_at dksX0_hired_0 0 rfl rfl)
theorem dX0_hired_1 : decode cX0_hired 1 = .ok (.iconst 0, 1) := dk_3 (dk_at dksX0_hired_0 1 rfl rfl)
theorem dX0_hired_2 : decode cX0_hired 2 = .ok (.sipush 9999, 3) := dk_17 39 15 (dk_at dksX0_hired_0 2 rfl rfl)
theorem dX0_hired_5 : decode cX0_hired 5 = .ok (.invokestatic 67, 3) := dk_184 0 67 (dk_at dksX0_hired_0 5 rfl rfl)
theorem dX0_hired_8 : decode cX0_hired 8 = .ok (.ifCond .ne 5, 3) := dk_154 0 5 (dk_at dksX0_hired_0 8 rfl rfl)
theorem dX0_hired_11 : decode cX0_hired 11 = .ok (.iconst (-1), 1) := dk_2 (dk_at dksX0_hired_0 11 rfl rfl)
theorem dX0_hired_12 : decode cX0_hired 12 = .ok (.ireturn, 1) := dk_172 (dk_at dksX0_hired_0 12 rfl rfl)
theorem dX0_hired_13 : decode cX0_hired 13 = .ok (.iconst 0, 1) := dk_3 (dk_at dksX0_hired_0 13 rfl rfl)
theorem dX0_hired_14 : decode cX0_hired 14 = .ok (.istore_n 3, 1) := dk_62 (dk_at dksX0_hired_0 14 rfl rfl)
theorem dX0_hired_15 : decode cX0_hired 15 = .ok (.iconst 1, 1) := dk_4 (dk_at dksX0_hired_0 15 rfl rfl)
theorem dX0_hired_16 : decode cX0_hired 16 = .ok (.istore 4, 2) := dk_54 4 (dk_at dksX0_hired_0 16 rfl rfl)
theorem dX0_hired_18 : decode cX0_hired 18 = .ok (.iload 4, 2) := dk_21 4 (dk_at dksX0_hired_0 18 rfl rfl)
theorem dX0_hired_20 : decode cX0_hired 20 = .ok (.iconst 1, 1) := dk_4 (dk_at dksX0_hired_0 20 rfl rfl)
theorem dX0_hired_21 : decode cX0_hired 21 = .ok (.aload_n 0, 1) := dk_42 (dk_at dksX0_hired_0 21 rfl rfl)
theorem dX0_hired_22 : decode cX0_hired 22 = .ok (.getfield 21, 3) := dk_180 0 21 (dk_at dksX0_hired_1 0 rfl rfl)
theorem dX0_hired_25 : decode cX0_hired 25 = .ok (.getfield 64, 3) := dk_180 0 64 (dk_at dksX0_hired_1 3 rfl rfl)
theorem dX0_hired_28 : decode cX0_hired 28 = .ok (.bipush 6, 2) := dk_16 6 (dk_at dksX0_hired_1 6 rfl rfl)
theorem dX0_hired_30 : decode cX0_hired 30 = .ok (.iaload, 1) := dk_46 (dk_at dksX0_hired_1 8 rfl rfl)
theorem dX0_hired_31 : decode cX0_hired 31 = .ok (.ishl, 1) := dk_120 (dk_at dksX0_hired_1 9 rfl rfl)
theorem dX0_hired_32 : decode cX0_hired 32 = .ok (.if_icmp .ge 70, 3) := dk_162 0 70 (dk_at dksX0_hired_1 10 rfl rfl)
theorem dX0_hired_35 : decode cX0_hired 35 = .ok (.aload_n 0, 1) := dk_42 (dk_at dksX0_hired_1 13 rfl rfl)
theorem dX0_hired_36 : decode cX0_hired 36 = .ok (.iload 4, 2) := dk_21 4 (dk_at dksX0_hired_1 14 rfl rfl)
theorem dX0_hired_38 : decode cX0_hired 38 = .ok (.iconst 1, 1) := dk_4 (dk_at dksX0_hired_1 16 rfl rfl)
theorem dX0_hired_39 : decode cX0_hired 39 = .ok (.invokevirtual 381, 3) := dk_182 1 125 (dk_at dksX0_hired_1 17 rfl rfl)
theorem dX0_hired_42 : decode cX0_hired 42 = .ok (.aload_n 0, 1) := dk_42 (dk_at dksX0_hired_1 20 rfl rfl)
theorem dX0_hired_43 : decode cX0_hired 43 = .ok (.iload_n 3, 1) := dk_29 (dk_at dksX0_hired_1 21 rfl rfl)
theorem dX0_hired_44 : decode cX0_hired 44 = .ok (.iconst 1, 1) := dk_4 (dk_at dksX0_hired_1 22 rfl rfl)
theorem dX0_hired_45 : decode cX0_hired 45 = .ok (.invokevirtual 381, 3) := dk_182 1 125 (dk_at dksX0_hired_2 0 rfl rfl)
theorem dX0_hired_48 : decode cX0_hired 48 = .ok (.isub, 1) := dk_100 (dk_at dksX0_hired_2 3 rfl rfl)
theorem dX0_hired_49 : decode cX0_hired 49 = .ok (.istore 5, 2) := dk_54 5 (dk_at dksX0_hired_2 4 rfl rfl)
theorem dX0_hired_51 : decode cX0_hired 51 = .ok (.aload_n 0, 1) := dk_42 (dk_at dksX0_hired_2 6 rfl rfl)
theorem dX0_hired_52 : decode cX0_hired 52 = .ok (.iload_n 3, 1) := dk_29 (dk_at dksX0_hired_2 7 rfl rfl)
theorem dX0_hired_53 : decode cX0_hired 53 = .ok (.iconst 0, 1) := dk_3 (dk_at dksX0_hired_2 8 rfl rfl)
theorem dX0_hired_54 : decode cX0_hired 54 = .ok (.invokevirtual 381, 3) := dk_182 1 125 (dk_at dksX0_hired_2 9 rfl rfl)
theorem dX0_hired_57 : decode cX0_hired 57 = .ok (.aload_n 0, 1) := dk_42 (dk_at dksX0_hired_2 12 rfl rfl)
theorem dX0_hired_58 : decode cX0_hired 58 = .ok (.iload 4, 2) := dk_21 4 (dk_at dksX0_hired_2 13 rfl rfl)
theorem dX0_hired_60 : decode cX0_hired 60 = .ok (.iconst 0, 1) := dk_3 (dk_at dksX0_hired_2 15 rfl rfl)
theorem dX0_hired_61 : decode cX0_hired 61 = .ok (.invokevirtual 381, 3) := dk_182 1 125 (dk_at dksX0_hired_2 16 rfl rfl)
theorem dX0_hired_64 : decode cX0_hired 64 = .ok (.isub, 1) := dk_100 (dk_at dksX0_hired_2 19 rfl rfl)
theorem dX0_hired_65 : decode cX0_hired 65 = .ok (.istore 6, 2) := dk_54 6 (dk_at dksX0_hired_2 20 rfl rfl)
theorem dX0_hired_67 : decode cX0_hired 67 = .ok (.aload_n 0, 1) := dk_42 (dk_at dksX0_hired_2 22 rfl rfl)
theorem dX0_hired_68 : decode cX0_hired 68 = .ok (.iload 4, 2) := dk_21 4 (dk_at dksX0_hired_3 0 rfl rfl)
theorem dX0_hired_70 : decode cX0_hired 70 = .ok (.iconst 0, 1) := dk_3 (dk_at dksX0_hired_3 2 rfl rfl)
theorem dX0_hired_71 : decode cX0_hired 71 = .ok (.invokevirtual 381, 3) := dk_182 1 125 (dk_at dksX0_hired_3 3 rfl rfl)
theorem dX0_hired_74 : decode cX0_hired 74 = .ok (.iload_n 1, 1) := dk_27 (dk_at dksX0_hired_3 6 rfl rfl)
theorem dX0_hired_75 : decode cX0_hired 75 = .ok (.if_icmp .gt 21, 3) := dk_163 0 21 (dk_at dksX0_hired_3 7 rfl rfl)
theorem dX0_hired_78 : decode cX0_hired 78 = .ok (.iload 5, 2) := dk_21 5 (dk_at dksX0_hired_3 10 rfl rfl)
theorem dX0_hired_80 : decode cX0_hired 80 = .ok (.ifCond .gt 13, 3) := dk_157 0 13 (dk_at dksX0_hired_3 12 rfl rfl)
theorem dX0_hired_83 : decode cX0_hired 83 = .ok (.iload 5, 2) := dk_21 5 (dk_at dksX0_hired_3 15 rfl rfl)
theorem dX0_hired_85 : decode cX0_hired 85 = .ok (.ifCond .ne 11, 3) := dk_154 0 11 (dk_at dksX0_hired_3 17 rfl rfl)
theorem dX0_hired_88 : decode cX0_hired 88 = .ok (.iload 6, 2) := dk_21 6 (dk_at dksX0_hired_3 20 rfl rfl)
theorem dX0_hired_90 : decode cX0_hired 90 = .ok (.ifCond .le 6, 3) := dk_158 0 6 (dk_at dksX0_hired_4 0 rfl rfl)
theorem dX0_hired_93 : decode cX0_hired 93 = .ok (.iload 4, 2) := dk_21 4 (dk_at dksX0_hired_4 3 rfl rfl)
theorem dX0_hired_95 : decode cX0_hired 95 = .ok (.istore_n 3, 1) := dk_62 (dk_at dksX0_hired_4 5 rfl rfl)
theorem dX0_hired_96 : decode cX0_hired 96 = .ok (.iinc 4 1, 3) := dk_132 4 1 (dk_at dksX0_hired_4 6 rfl rfl)
theorem dX0_hired_99 : decode cX0_hired 99 = .ok (.goto (-81), 3) := dk_167 255 175 (dk_at dksX0_hired_4 9 rfl rfl)
theorem dX0_hired_102 : decode cX0_hired 102 = .ok (.iload_n 2, 1) := dk_28 (dk_at dksX0_hired_4 12 rfl rfl)
theorem dX0_hired_103 : decode cX0_hired 103 = .ok (.ifCond .eq 7, 3) := dk_153 0 7 (dk_at dksX0_hired_4 13 rfl rfl)
theorem dX0_hired_106 : decode cX0_hired 106 = .ok (.iload_n 3, 1) := dk_29 (dk_at dksX0_hired_4 16 rfl rfl)
theorem dX0_hired_107 : decode cX0_hired 107 = .ok (.goto 9, 3) := dk_167 0 9 (dk_at dksX0_hired_4 17 rfl rfl)
theorem dX0_hired_110 : decode cX0_hired 110 = .ok (.aload_n 0, 1) := dk_42 (dk_at dksX0_hired_4 20 rfl rfl)
theorem dX0_hired_111 : decode cX0_hired 111 = .ok (.iload_n 3, 1) := dk_29 (dk_at dksX0_hired_4 21 rfl rfl)
theorem dX0_hired_112 : decode cX0_hired 112 = .ok (.iconst 1, 1) := dk_4 (dk_at dksX0_hired_4 22 rfl rfl)
theorem dX0_hired_113 : decode cX0_hired 113 = .ok (.invokevirtual 381, 3) := dk_182 1 125 (dk_at dksX0_hired_5 0 rfl rfl)
theorem dX0_hired_116 : decode cX0_hired 116 = .ok (.ireturn, 1) := dk_172 (dk_at dksX0_hired_5 3 rfl rfl)
abbrev cX0_sumOf : ByteArray := prog_1_method_81_code
def yX0_sumOf : MethodName := ⟨RX0, "sumOf", "(II)I"⟩
def dkwX0_sumOf_2 : List UInt8 := [132, 4, 1, 167, 255, 210, 29, 172]
abbrev dktX0_sumOf_2 : List UInt8 := dkwX0_sumOf_2 ++ []
def dkwX0_sumOf_1 : List UInt8 := [184, 0, 124, 153, 0, 18, 42, 180, 0, 21, 180, 1, 122, 21, 4, 50, 28, 46, 167, 0, 4, 3, 96, 62]
abbrev dktX0_sumOf_1 : List UInt8 := dkwX0_sumOf_1 ++ dktX0_sumOf_2
def dkwX0_sumOf_0 : List UInt8 := [3, 62, 3, 54, 4, 21, 4, 42, 180, 0, 21, 180, 0, 64, 16, 6, 46, 162, 0, 37, 29, 27, 21, 4]
abbrev dktX0_sumOf_0 : List UInt8 := dkwX0_sumOf_0 ++ dktX0_sumOf_1
theorem dksX0_sumOf_0 : cX0_sumOf.data.toList.drop 0 = dktX0_sumOf_0 := by decide +kernel
theorem dksX0_sumOf_1 : cX0_sumOf.data.toList.drop 24 = dktX0_sumOf_1 := dk_seg dksX0_sumOf_0 24 rfl rfl
theorem dksX0_sumOf_2 : cX0_sumOf.data.toList.drop 48 = dktX0_sumOf_2 := dk_seg dksX0_sumOf_1 24 rfl rfl
theorem dX0_sumOf_0 : decode cX0_sumOf 0 = .ok (.iconst 0, 1) := dk_3 (dk_at dksX0_sumOf_0 0 rfl rfl)
theorem dX0_sumOf_1 : decode cX0_sumOf 1 = .ok (.istore_n 3, 1) := dk_62 (dk_at dksX0_sumOf_0 1 rfl rfl)
theorem dX0_sumOf_2 : decode cX0_sumOf 2 = .ok (.iconst 0, 1) := dk_3 (dk_at dksX0_sumOf_0 2 rfl rfl)
theorem dX0_sumOf_3 : decode cX0_sumOf 3 = .ok (.istore 4, 2) := dk_54 4 (dk_at dksX0_sumOf_0 3 rfl rfl)
theorem dX0_sumOf_5 : decode cX0_sumOf 5 = .ok (.iload 4, 2) := dk_21 4 (dk_at dksX0_sumOf_0 5 rfl rfl)
theorem dX0_sumOf_7 : decode cX0_sumOf 7 = .ok (.aload_n 0, 1) := dk_42 (dk_at dksX0_sumOf_0 7 rfl rfl)
theorem dX0_sumOf_8 : decode cX0_sumOf 8 = .ok (.getfield 21, 3) := dk_180 0 21 (dk_at dksX0_sumOf_0 8 rfl rfl)
theorem dX0_sumOf_11 : decode cX0_sumOf 11 = .ok (.getfield 64, 3) := dk_180 0 64 (dk_at dksX0_sumOf_0 11 rfl rfl)
theorem dX0_sumOf_14 : decode cX0_sumOf 14 = .ok (.bipush 6, 2) := dk_16 6 (dk_at dksX0_sumOf_0 14 rfl rfl)
theorem dX0_sumOf_16 : decode cX0_sumOf 16 = .ok (.iaload, 1) := dk_46 (dk_at dksX0_sumOf_0 16 rfl rfl)
theorem dX0_sumOf_17 : decode cX0_sumOf 17 = .ok (.if_icmp .ge 37, 3) := dk_162 0 37 (dk_at dksX0_sumOf_0 17 rfl rfl)
theorem dX0_sumOf_20 : decode cX0_sumOf 20 = .ok (.iload_n 3, 1) := dk_29 (dk_at dksX0_sumOf_0 20 rfl rfl)
theorem dX0_sumOf_21 : decode cX0_sumOf 21 = .ok (.iload_n 1, 1) := dk_27 (dk_at dksX0_sumOf_0 21 rfl rfl)
theorem dX0_sumOf_22 : decode cX0_sumOf 22 = .ok (.iload 4, 2) := dk_21 4 (dk_at dksX0_sumOf_0 22 rfl rfl)
theorem dX0_sumOf_24 : decode cX0_sumOf 24 = .ok (.invokestatic 124, 3) := dk_184 0 124 (dk_at dksX0_sumOf_1 0 rfl rfl)
theorem dX0_sumOf_27 : decode cX0_sumOf 27 = .ok (.ifCond .eq 18, 3) := dk_153 0 18 (dk_at dksX0_sumOf_1 3 rfl rfl)
theorem dX0_sumOf_30 : decode cX0_sumOf 30 = .ok (.aload_n 0, 1) := dk_42 (dk_at dksX0_sumOf_1 6 rfl rfl)
theorem dX0_sumOf_31 : decode cX0_sumOf 31 = .ok (.getfield 21, 3) := dk_180 0 21 (dk_at dksX0_sumOf_1 7 rfl rfl)
theorem dX0_sumOf_34 : decode cX0_sumOf 34 = .ok (.getfield 378, 3) := dk_180 1 122 (dk_at dksX0_sumOf_1 10 rfl rfl)
theorem dX0_sumOf_37 : decode cX0_sumOf 37 = .ok (.iload 4, 2) := dk_21 4 (dk_at dksX0_sumOf_1 13 rfl rfl)
theorem dX0_sumOf_39 : decode cX0_sumOf 39 = .ok (.aaload, 1) := dk_50 (dk_at dksX0_sumOf_1 15 rfl rfl)
theorem dX0_sumOf_40 : decode cX0_sumOf 40 = .ok (.iload_n 2, 1) := dk_28 (dk_at dksX0_sumOf_1 16 rfl rfl)
theorem dX0_sumOf_41 : decode cX0_sumOf 41 = .ok (.iaload, 1) := dk_46 (dk_at dksX0_sumOf_1 17 rfl rfl)
theorem dX0_sumOf_42 : decode cX0_sumOf 42 = .ok (.goto 4, 3) := dk_167 0 4 (dk_at dksX0_sumOf_1 18 rfl rfl)
theorem dX0_sumOf_45 : decode cX0_sumOf 45 = .ok (.iconst 0, 1) := dk_3 (dk_at dksX0_sumOf_1 21 rfl rfl)
theorem dX0_sumOf_46 : decode cX0_sumOf 46 = .ok (.iadd, 1) := dk_96 (dk_at dksX0_sumOf_1 22 rfl rfl)
theorem dX0_sumOf_47 : decode cX0_sumOf 47 = .ok (.istore_n 3, 1) := dk_62 (dk_at dksX0_sumOf_1 23 rfl rfl)
theorem dX0_sumOf_48 : decode cX0_sumOf 48 = .ok (.iinc 4 1, 3) := dk_132 4 1 (dk_at dksX0_sumOf_2 0 rfl rfl)
theorem dX0_sumOf_51 : decode cX0_sumOf 51 = .ok (.goto (-46), 3) := dk_167 255 210 (dk_at dksX0_sumOf_2 3 rfl rfl)
theorem dX0_sumOf_54 : decode cX0_sumOf 54 = .ok (.iload_n 3, 1) := dk_29 (dk_at dksX0_sumOf_2 6 rfl rfl)
theorem dX0_sumOf_55 : decode cX0_sumOf 55 = .ok (.ireturn, 1) := dk_172 (dk_at dksX0_sumOf_2 7 rfl rfl)
abbrev cX0_calm : ByteArray := prog_1_method_83_code
def yX0_calm : MethodName := ⟨RX0, "calm", "(I)I"⟩
def dkwX0_calm_4 : List UInt8 := [182, 0, 211, 54, 5, 132, 4, 1, 167, 255, 192, 28, 172]
abbrev dktX0_calm_4 : List UInt8 := dkwX0_calm_4 ++ []
def dkwX0_calm_3 : List UInt8 := [160, 0, 9, 29, 4, 96, 167, 0, 4, 3, 62, 28, 29, 184, 1, 62, 61, 42, 42, 180, 0, 43]
abbrev dktX0_calm_3 : List UInt8 := dkwX0_calm_3 ++ dktX0_calm_4
def dkwX0_calm_2 : List UInt8 := [17, 39, 15, 162, 0, 52, 42, 180, 0, 43, 4, 46, 153, 0, 13, 42, 180, 0, 43, 5, 46, 4]
abbrev dktX0_calm_2 : List UInt8 := dkwX0_calm_2 ++ dktX0_calm_3
def dkwX0_calm_1 : List UInt8 := [184, 1, 49, 3, 61, 3, 62, 3, 54, 4, 21, 4, 27, 162, 0, 64, 42, 180, 0, 43, 6, 46]
abbrev dktX0_calm_1 : List UInt8 := dkwX0_calm_1 ++ dktX0_calm_2
def dkwX0_calm_0 : List UInt8 := [27, 4, 16, 60, 184, 0, 67, 154, 0, 5, 2, 172, 42, 180, 0, 21, 180, 0, 205, 42, 180, 0, 43]
abbrev dktX0_calm_0 : List UInt8 := dkwX0_calm_0 ++ dktX0_calm_1
theorem dksX0_calm_0 : cX0_calm.data.toList.drop 0 = dktX0_calm_0 := by decide +kernel
theorem dksX0_calm_1 : cX0_calm.data.toList.drop 23 = dktX0_calm_1 := dk_seg dksX0_calm_0 23 rfl rfl
theorem dksX0_calm_2 : cX0_calm.data.toList.drop 45 = dktX0_calm_2 := dk_seg dksX0_calm_1 22 rfl rfl
theorem dksX0_calm_3 : cX0_calm.data.toList.drop 67 = dktX0_calm_3 := dk_seg dksX0_calm_2 22 rfl rfl
theorem dksX0_calm_4 : cX0_calm.data.toList.drop 89 = dktX0_calm_4 := dk_seg dksX0_calm_3 22 rfl rfl
theorem dX0_calm_0 : decode cX0_calm 0 = .ok (.iload_n 1, 1) := dk_27 (dk_at dksX0_calm_0 0 rfl rfl)
theorem dX0_calm_1 : decode cX0_calm 1 = .ok (.iconst 1, 1) := dk_4 (dk_at dksX0_calm_0 1 rfl rfl)
theorem dX0_calm_2 : decode cX0_calm 2 = .ok (.bipush 60, 2) := dk_16 60 (dk_at dksX0_calm_0 2 rfl rfl)
theorem dX0_calm_4 : decode cX0_calm 4 = .ok (.invokestatic 67, 3) := dk_184 0 67 (dk_at dksX0_calm_0 4 rfl rfl)
theorem dX0_calm_7 : decode cX0_calm 7 = .ok (.ifCond .ne 5, 3) := dk_154 0 5 (dk_at dksX0_calm_0 7 rfl rfl)
theorem dX0_calm_10 : decode cX0_calm 10 = .ok (.iconst (-1), 1) := dk_2 (dk_at dksX0_calm_0 10 rfl rfl)
theorem dX0_calm_11 : decode cX0_calm 11 = .ok (.ireturn, 1) := dk_172 (dk_at dksX0_calm_0 11 rfl rfl)
theorem dX0_calm_12 : decode cX0_calm 12 = .ok (.aload_n 0, 1) := dk_42 (dk_at dksX0_calm_0 12 rfl rfl)
theorem dX0_calm_13 : decode cX0_calm 13 = .ok (.getfield 21, 3) := dk_180 0 21 (dk_at dksX0_calm_0 13 rfl rfl)
theorem dX0_calm_16 : decode cX0_calm 16 = .ok (.getfield 205, 3) := dk_180 0 205 (dk_at dksX0_calm_0 16 rfl rfl)
theorem dX0_calm_19 : decode cX0_calm 19 = .ok (.aload_n 0, 1) := dk_42 (dk_at dksX0_calm_0 19 rfl rfl)
theorem dX0_calm_20 : decode cX0_calm 20 = .ok (.getfield 43, 3) := dk_180 0 43 (dk_at dksX0_calm_0 20 rfl rfl)
theorem dX0_calm_23 : decode cX0_calm 23 = .ok (.invokestatic 305, 3) := dk_184 1 49 (dk_at dksX0_calm_1 0 rfl rfl)
theorem dX0_calm_26 : decode cX0_calm 26 = .ok (.iconst 0, 1) := dk_3 (dk_at dksX0_calm_1 3 rfl rfl)
theorem dX0_calm_27 : decode cX0_calm 27 = .ok (.istore_n 2, 1) := dk_61 (dk_at dksX0_calm_1 4 rfl rfl)
theorem dX0_calm_28 : decode cX0_calm 28 = .ok (.iconst 0, 1) := dk_3 (dk_at dksX0_calm_1 5 rfl rfl)
theorem dX0_calm_29 : decode cX0_calm 29 = .ok (.istore_n 3, 1) := dk_62 (dk_at dksX0_calm_1 6 rfl rfl)
theorem dX0_calm_30 : decode cX0_calm 30 = .ok (.iconst 0, 1) := dk_3 (dk_at dksX0_calm_1 7 rfl rfl)
theorem dX0_calm_31 : decode cX0_calm 31 = .ok (.istore 4, 2) := dk_54 4 (dk_at dksX0_calm_1 8 rfl rfl)
theorem dX0_calm_33 : decode cX0_calm 33 = .ok (.iload 4, 2) := dk_21 4 (dk_at dksX0_calm_1 10 rfl rfl)
theorem dX0_calm_35 : decode cX0_calm 35 = .ok (.iload_n 1, 1) := dk_27 (dk_at dksX0_calm_1 12 rfl rfl)
theorem dX0_calm_36 : decode cX0_calm 36 = .ok (.if_icmp .ge 64, 3) := dk_162 0 64 (dk_at dksX0_calm_1 13 rfl rfl)
theorem dX0_calm_39 : decode cX0_calm 39 = .ok (.aload_n 0, 1) := dk_42 (dk_at dksX0_calm_1 16 rfl rfl)
theorem dX0_calm_40 : decode cX0_calm 40 = .ok (.getfield 43, 3) := dk_180 0 43 (dk_at dksX0_calm_1 17 rfl rfl)
theorem dX0_calm_43 : decode cX0_calm 43 = .ok (.iconst 3, 1) := dk_6 (dk_at dksX0_calm_1 20 rfl rfl)
theorem dX0_calm_44 : decode cX0_calm 44 = .ok (.iaload, 1) := dk_46 (dk_at dksX0_calm_1 21 rfl rfl)
theorem dX0_calm_45 : decode cX0_calm 45 = .ok (.sipush 9999, 3) := dk_17 39 15 (dk_at dksX0_calm_2 0 rfl rfl)
theorem dX0_calm_48 : decode cX0_calm 48 = .ok (.if_icmp .ge 52, 3) := dk_162 0 52 (dk_at dksX0_calm_2 3 rfl rfl)
theorem dX0_calm_51 : decode cX0_calm 51 = .ok (.aload_n 0, 1) := dk_42 (dk_at dksX0_calm_2 6 rfl rfl)
theorem dX0_calm_52 : decode cX0_calm 52 = .ok (.getfield 43, 3) := dk_180 0 43 (dk_at dksX0_calm_2 7 rfl rfl)
theorem dX0_calm_55 : decode cX0_calm 55 = .ok (.iconst 1, 1) := dk_4 (dk_at dksX0_calm_2 10 rfl rfl)
theorem dX0_calm_56 : decode cX0_calm 56 = .ok (.iaload, 1) := dk_46 (dk_at dksX0_calm_2 11 rfl rfl)
theorem dX0_calm_57 : decode cX0_calm 57 = .ok (.ifCond .eq 13, 3) := dk_153 0 13 (dk_at dksX0_calm_2 12 rfl rfl)
theorem dX0_calm_60 : decode cX0_calm 60 = .ok (.aload_n 0, 1) := dk_42 (dk_at dksX0_calm_2 15 rfl rfl)
theorem dX0_calm_61 : decode cX0_calm 61 = .ok (.getfield 43, 3) := dk_180 0 43 (dk_at dksX0_calm_2 16 rfl rfl)
theorem dX0_calm_64 : decode cX0_calm 64 = .ok (.iconst 2, 1) := dk_5 (dk_at dksX0_calm_2 19 rfl rfl)
theorem dX0_calm_65 : decode cX0_calm 65 = .ok (.iaload, 1) := dk_46 (dk_at dksX0_calm_2 20 rfl rfl)
theorem dX0_calm_66 : decode cX0_calm 66 = .ok (.iconst 1, 1) := dk_4 (dk_at dksX0_calm_2 21 rfl rfl)
theorem dX0_calm_67 : decode cX0_calm 67 = .ok (.if_icmp .ne 9, 3) := dk_160 0 9 (dk_at dksX0_calm_3 0 rfl rfl)
theorem dX0_calm_70 : decode cX0_calm 70 = .ok (.iload_n 3, 1) := dk_29 (dk_at dksX0_calm_3 3 rfl rfl)
theorem dX0_calm_71 : decode cX0_calm 71 = .ok (.iconst 1, 1) := dk_4 (dk_at dksX0_calm_3 4 rfl rfl)
theorem dX0_calm_72 : decode cX0_calm 72 = .ok (.iadd, 1) := dk_96 (dk_at dksX0_calm_3 5 rfl rfl)
theorem dX0_calm_73 : decode cX0_calm 73 = .ok (.goto 4, 3) := dk_167 0 4 (dk_at dksX0_calm_3 6 rfl rfl)
theorem dX0_calm_76 : decode cX0_calm 76 = .ok (.iconst 0, 1) := dk_3 (dk_at dksX0_calm_3 9 rfl rfl)
theorem dX0_calm_77 : decode cX0_calm 77 = .ok (.istore_n 3, 1) := dk_62 (dk_at dksX0_calm_3 10 rfl rfl)
theorem dX0_calm_78 : decode cX0_calm 78 = .ok (.iload_n 2, 1) := dk_28 (dk_at dksX0_calm_3 11 rfl rfl)
theorem dX0_calm_79 : decode cX0_calm 79 = .ok (.iload_n 3, 1) := dk_29 (dk_at dksX0_calm_3 12 rfl rfl)
theorem dX0_calm_80 : decode cX0_calm 80 = .ok (.invokestatic 318, 3) := dk_184 1 62 (dk_at dksX0_calm_3 13 rfl rfl)
theorem dX0_calm_83 : decode cX0_calm 83 = .ok (.istore_n 2, 1) := dk_61 (dk_at dksX0_calm_3 16 rfl rfl)
theorem dX0_calm_84 : decode cX0_calm 84 = .ok (.aload_n 0, 1) := dk_42 (dk_at dksX0_calm_3 17 rfl rfl)
theorem dX0_calm_85 : decode cX0_calm 85 = .ok (.aload_n 0, 1) := dk_42 (dk_at dksX0_calm_3 18 rfl rfl)
theorem dX0_calm_86 : decode cX0_calm 86 = .ok (.getfield 43, 3) := dk_180 0 43 (dk_at dksX0_calm_3 19 rfl rfl)
theorem dX0_calm_89 : decode cX0_calm 89 = .ok (.invokevirtual 211, 3) := dk_182 0 211 (dk_at dksX0_calm_4 0 rfl rfl)
theorem dX0_calm_92 : decode cX0_calm 92 = .ok (.istore 5, 2) := dk_54 5 (dk_at dksX0_calm_4 3 rfl rfl)
theorem dX0_calm_94 : decode cX0_calm 94 = .ok (.iinc 4 1, 3) := dk_132 4 1 (dk_at dksX0_calm_4 5 rfl rfl)
theorem dX0_calm_97 : decode cX0_calm 97 = .ok (.goto (-64), 3) := dk_167 255 192 (dk_at dksX0_calm_4 8 rfl rfl)
theorem dX0_calm_100 : decode cX0_calm 100 = .ok (.iload_n 2, 1) := dk_28 (dk_at dksX0_calm_4 11 rfl rfl)
theorem dX0_calm_101 : decode cX0_calm 101 = .ok (.ireturn, 1) := dk_172 (dk_at dksX0_calm_4 12 rfl rfl)
abbrev cX0_standing : ByteArray := prog_1_method_84_code
def yX0_standing : MethodName := ⟨RX0, "standing", "(II)I"⟩
def dkwX0_standing_3 : List UInt8 := [167, 0, 4, 3, 96, 62, 42, 42, 180, 0, 43, 182, 0, 211, 54, 5, 132, 4, 1, 167, 255, 207, 29, 172]
abbrev dktX0_standing_3 : List UInt8 := dkwX0_standing_3 ++ []
def dkwX0_standing_2 : List UInt8 := [42, 180, 0, 43, 6, 46, 17, 39, 15, 162, 0, 37, 29, 42, 180, 0, 43, 3, 46, 28, 160, 0, 7, 4]
abbrev dktX0_standing_2 : List UInt8 := dkwX0_standing_2 ++ dktX0_standing_3
def dkwX0_standing_1 : List UInt8 := [180, 0, 21, 180, 0, 205, 42, 180, 0, 43, 184, 1, 49, 3, 62, 3, 54, 4, 21, 4, 27, 162, 0, 49]
abbrev dktX0_standing_1 : List UInt8 := dkwX0_standing_1 ++ dktX0_standing_2
def dkwX0_standing_0 : List UInt8 := [27, 4, 16, 60, 184, 0, 67, 153, 0, 12, 28, 3, 6, 184, 0, 67, 154, 0, 5, 2, 172, 42]
abbrev dktX0_standing_0 : List UInt8 := dkwX0_standing_0 ++ dktX0_standing_1
theorem dksX0_standing_0 : cX0_standing.data.toList.drop 0 = dktX0_standing_0 := by decide +kernel
theorem dksX0_standing_1 : cX0_standing.data.toList.drop 22 = dktX0_standing_1 := dk_seg dksX0_standing_0 22 rfl rfl
theorem dksX0_standing_2 : cX0_standing.data.toList.drop 46 = dktX0_standing_2 := dk_seg dksX0_standing_1 24 rfl rfl
theorem dksX0_standing_3 : cX0_standing.data.toList.drop 70 = dktX0_standing_3 := dk_seg dksX0_standing_2 24 rfl rfl
theorem dX0_standing_0 : decode cX0_standing 0 = .ok (.iload_n 1, 1) := dk_27 (dk_at dksX0_standing_0 0 rfl rfl)
theorem dX0_standing_1 : decode cX0_standing 1 = .ok (.iconst 1, 1) := dk_4 (dk_at dksX0_standing_0 1 rfl rfl)
theorem dX0_standing_2 : decode cX0_standing 2 = .ok (.bipush 60, 2) := dk_16 60 (dk_at dksX0_standing_0 2 rfl rfl)
theorem dX0_standing_4 : decode cX0_standing 4 = .ok (.invokestatic 67, 3) := dk_184 0 67 (dk_at dksX0_standing_0 4 rfl rfl)
theorem dX0_standing_7 : decode cX0_standing 7 = .ok (.ifCond .eq 12, 3) := dk_153 0 12 (dk_at dksX0_standing_0 7 rfl rfl)
theorem dX0_standing_10 : decode cX0_standing 10 = .ok (.iload_n 2, 1) := dk_28 (dk_at dksX0_standing_0 10 rfl rfl)
theorem dX0_standing_11 : decode cX0_standing 11 = .ok (.iconst 0, 1) := dk_3 (dk_at dksX0_standing_0 11 rfl rfl)
theorem dX0_standing_12 : decode cX0_standing 12 = .ok (.iconst 3, 1) := dk_6 (dk_at dksX0_standing_0 12 rfl rfl)
theorem dX0_standing_13 : decode cX0_standing 13 = .ok (.invokestatic 67, 3) := dk_184 0 67 (dk_at dksX0_standing_0 13 rfl rfl)
theorem dX0_standing_16 : decode cX0_standing 16 = .ok (.ifCond .ne 5, 3) := dk_154 0 5 (dk_at dksX0_standing_0 16 rfl rfl)
theorem dX0_standing_19 : decode cX0_standing 19 = .ok (.iconst (-1), 1) := dk_2 (dk_at dksX0_standing_0 19 rfl rfl)
theorem dX0_standing_20 : decode cX0_standing 20 = .ok (.ireturn, 1) := dk_172 (dk_at dksX0_standing_0 20 rfl rfl)
theorem dX0_standing_21 : decode cX0_standing 21 = .ok (.aload_n 0, 1) := dk_42 (dk_at dksX0_standing_0 21 rfl rfl)
theorem dX0_standing_22 : decode cX0_standing 22 = .ok (.getfield 21, 3) := dk_180 0 21 (dk_at dksX0_standing_1 0 rfl rfl)
theorem dX0_standing_25 : decode cX0_standing 25 = .ok (.getfield 205, 3) := dk_180 0 205 (dk_at dksX0_standing_1 3 rfl rfl)
theorem dX0_standing_28 : decode cX0_standing 28 = .ok (.aload_n 0, 1) := dk_42 (dk_at dksX0_standing_1 6 rfl rfl)
theorem dX0_standing_29 : decode cX0_standing 29 = .ok (.getfield 43, 3) := dk_180 0 43 (dk_at dksX0_standing_1 7 rfl rfl)
theorem dX0_standing_32 : decode cX0_standing 32 = .ok (.invokestatic 305, 3) := dk_184 1 49 (dk_at dksX0_standing_1 10 rfl rfl)
theorem dX0_standing_35 : decode cX0_standing 35 = .ok (.iconst 0, 1) := dk_3 (dk_at dksX0_standing_1 13 rfl rfl)
theorem dX0_standing_36 : decode cX0_standing 36 = .ok (.istore_n 3, 1) := dk_62 (dk_at dksX0_standing_1 14 rfl rfl)
theorem dX0_standing_37 : decode cX0_standing 37 = .ok (.iconst 0, 1) := dk_3 (dk_at dksX0_standing_1 15 rfl rfl)
theorem dX0_standing_38 : decode cX0_standing 38 = .ok (.istore 4, 2) := dk_54 4 (dk_at dksX0_standing_1 16 rfl rfl)
theorem dX0_standing_40 : decode cX0_standing 40 = .ok (.iload 4, 2) := dk_21 4 (dk_at dksX0_standing_1 18 rfl rfl)
theorem dX0_standing_42 : decode cX0_standing 42 = .ok (.iload_n 1, 1) := dk_27 (dk_at dksX0_standing_1 20 rfl rfl)
theorem dX0_standing_43 : decode cX0_standing 43 = .ok (.if_icmp .ge 49, 3) := dk_162 0 49 (dk_at dksX0_standing_1 21 rfl rfl)
theorem dX0_standing_46 : decode cX0_standing 46 = .ok (.aload_n 0, 1) := dk_42 (dk_at dksX0_standing_2 0 rfl rfl)
theorem dX0_standing_47 : decode cX0_standing 47 = .ok (.getfield 43, 3) := dk_180 0 43 (dk_at dksX0_standing_2 1 rfl rfl)
theorem dX0_standing_50 : decode cX0_standing 50 = .ok (.iconst 3, 1) := dk_6 (dk_at dksX0_standing_2 4 rfl rfl)
theorem dX0_standing_51 : decode cX0_standing 51 = .ok (.iaload, 1) := dk_46 (dk_at dksX0_standing_2 5 rfl rfl)
theorem dX0_standing_52 : decode cX0_standing 52 = .ok (.sipush 9999, 3) := dk_17 39 15 (dk_at dksX0_standing_2 6 rfl rfl)
theorem dX0_standing_55 : decode cX0_standing 55 = .ok (.if_icmp .ge 37, 3) := dk_162 0 37 (dk_at dksX0_standing_2 9 rfl rfl)
theorem dX0_standing_58 : decode cX0_standing 58 = .ok (.iload_n 3, 1) := dk_29 (dk_at dksX0_standing_2 12 rfl rfl)
theorem dX0_standing_59 : decode cX0_standing 59 = .ok (.aload_n 0, 1) := dk_42 (dk_at dksX0_standing_2 13 rfl rfl)
theorem dX0_standing_60 : decode cX0_standing 60 = .ok (.getfield 43, 3) := dk_180 0 43 (dk_at dksX0_standing_2 14 rfl rfl)
theorem dX0_standing_63 : decode cX0_standing 63 = .ok (.iconst 0, 1) := dk_3 (dk_at dksX0_standing_2 17 rfl rfl)
theorem dX0_standing_64 : decode cX0_standing 64 = .ok (.iaload, 1) := dk_46 (dk_at dksX0_standing_2 18 rfl rfl)
theorem dX0_standing_65 : decode cX0_standing 65 = .ok (.iload_n 2, 1) := dk_28 (dk_at dksX0_standing_2 19 rfl rfl)
theorem dX0_standing_66 : decode cX0_standing 66 = .ok (.if_icmp .ne 7, 3) := dk_160 0 7 (dk_at dksX0_standing_2 20 rfl rfl)
theorem dX0_standing_69 : decode cX0_standing 69 = .ok (.iconst 1, 1) := dk_4 (dk_at dksX0_standing_2 23 rfl rfl)
theorem dX0_standing_70 : decode cX0_standing 70 = .ok (.goto 4, 3) := dk_167 0 4 (dk_at dksX0_standing_3 0 rfl rfl)
theorem dX0_standing_73 : decode cX0_standing 73 = .ok (.iconst 0, 1) := dk_3 (dk_at dksX0_standing_3 3 rfl rfl)
theorem dX0_standing_74 : decode cX0_standing 74 = .ok (.iadd, 1) := dk_96 (dk_at dksX0_standing_3 4 rfl rfl)
theorem dX0_standing_75 : decode cX0_standing 75 = .ok (.istore_n 3, 1) := dk_62 (dk_at dksX0_standing_3 5 rfl rfl)
theorem dX0_standing_76 : decode cX0_standing 76 = .ok (.aload_n 0, 1) := dk_42 (dk_at dksX0_standing_3 6 rfl rfl)
theorem dX0_standing_77 : decode cX0_standing 77 = .ok (.aload_n 0, 1) := dk_42 (dk_at dksX0_standing_3 7 rfl rfl)
theorem dX0_standing_78 : decode cX0_standing 78 = .ok (.getfield 43, 3) := dk_180 0 43 (dk_at dksX0_standing_3 8 rfl rfl)
theorem dX0_standing_81 : decode cX0_standing 81 = .ok (.invokevirtual 211, 3) := dk_182 0 211 (dk_at dksX0_standing_3 11 rfl rfl)
theorem dX0_standing_84 : decode cX0_standing 84 = .ok (.istore 5, 2) := dk_54 5 (dk_at dksX0_standing_3 14 rfl rfl)
theorem dX0_standing_86 : decode cX0_standing 86 = .ok (.iinc 4 1, 3) := dk_132 4 1 (dk_at dksX0_standing_3 16 rfl rfl)
theorem dX0_standing_89 : decode cX0_standing 89 = .ok (.goto (-49), 3) := dk_167 255 207 (dk_at dksX0_standing_3 19 rfl rfl)
theorem dX0_standing_92 : decode cX0_standing 92 = .ok (.iload_n 3, 1) := dk_29 (dk_at dksX0_standing_3 22 rfl rfl)
theorem dX0_standing_93 : decode cX0_standing 93 = .ok (.ireturn, 1) := dk_172 (dk_at dksX0_standing_3 23 rfl rfl)
abbrev cX0_image : ByteArray := prog_1_method_85_code
def yX0_image : MethodName := ⟨RX0, "image", "()I"⟩
def dkwX0_image_0 : List UInt8 := [42, 180, 0, 25, 42, 180, 0, 21, 182, 0, 60, 42, 180, 0, 21, 180, 0, 205, 6, 46, 172]
abbrev dktX0_image_0 : List UInt8 := dkwX0_image_0 ++ []
theorem dksX0_image_0 : cX0_image.data.toList.drop 0 = dktX0_image_0 := by decide +kernel
theorem dX0_image_0 : decode cX0_image 0 = .ok (.aload_n 0, 1) := dk_42 (dk_at dksX0_image_0 0 rfl rfl)
theorem dX0_image_1 : decode cX0_image 1 = .ok (.getfield 25, 3) := dk_180 0 25 (dk_at dksX0_image_0 1 rfl rfl)
theorem dX0_image_4 : decode cX0_image 4 = .ok (.aload_n 0, 1) := dk_42 (dk_at dksX0_image_0 4 rfl rfl)
theorem dX0_image_5 : decode cX0_image 5 = .ok (.getfield 21, 3) := dk_180 0 21 (dk_at dksX0_image_0 5 rfl rfl)
theorem dX0_image_8 : decode cX0_image 8 = .ok (.invokevirtual 60, 3) := dk_182 0 60 (dk_at dksX0_image_0 8 rfl rfl)
theorem dX0_image_11 : decode cX0_image 11 = .ok (.aload_n 0, 1) := dk_42 (dk_at dksX0_image_0 11 rfl rfl)
theorem dX0_image_12 : decode cX0_image 12 = .ok (.getfield 21, 3) := dk_180 0 21 (dk_at dksX0_image_0 12 rfl rfl)
theorem dX0_image_15 : decode cX0_image 15 = .ok (.getfield 205, 3) := dk_180 0 205 (dk_at dksX0_image_0 15 rfl rfl)
theorem dX0_image_18 : decode cX0_image 18 = .ok (.iconst 3, 1) := dk_6 (dk_at dksX0_image_0 18 rfl rfl)
theorem dX0_image_19 : decode cX0_image 19 = .ok (.iaload, 1) := dk_46 (dk_at dksX0_image_0 19 rfl rfl)
theorem dX0_image_20 : decode cX0_image 20 = .ok (.ireturn, 1) := dk_172 (dk_at dksX0_image_0 20 rfl rfl)
abbrev cX0_back : ByteArray := prog_1_method_86_code
def yX0_back : MethodName := ⟨RX0, "back", "()I"⟩
def dkwX0_back_0 : List UInt8 := [42, 180, 0, 21, 42, 180, 0, 25, 182, 0, 60, 42, 180, 0, 21, 180, 0, 205, 6, 46, 172]
abbrev dktX0_back_0 : List UInt8 := dkwX0_back_0 ++ []
theorem dksX0_back_0 : cX0_back.data.toList.drop 0 = dktX0_back_0 := by decide +kernel
theorem dX0_back_0 : decode cX0_back 0 = .ok (.aload_n 0, 1) := dk_42 (dk_at dksX0_back_0 0 rfl rfl)
theorem dX0_back_1 : decode cX0_back 1 = .ok (.getfield 21, 3) := dk_180 0 21 (dk_at dksX0_back_0 1 rfl rfl)
theorem dX0_back_4 : decode cX0_back 4 = .ok (.aload_n 0, 1) := dk_42 (dk_at dksX0_back_0 4 rfl rfl)
theorem dX0_back_5 : decode cX0_back 5 = .ok (.getfield 25, 3) := dk_180 0 25 (dk_at dksX0_back_0 5 rfl rfl)
theorem dX0_back_8 : decode cX0_back 8 = .ok (.invokevirtual 60, 3) := dk_182 0 60 (dk_at dksX0_back_0 8 rfl rfl)
theorem dX0_back_11 : decode cX0_back 11 = .ok (.aload_n 0, 1) := dk_42 (dk_at dksX0_back_0 11 rfl rfl)
theorem dX0_back_12 : decode cX0_back 12 = .ok (.getfield 21, 3) := dk_180 0 21 (dk_at dksX0_back_0 12 rfl rfl)
theorem dX0_back_15 : decode cX0_back 15 = .ok (.getfield 205, 3) := dk_180 0 205 (dk_at dksX0_back_0 15 rfl rfl)
theorem dX0_back_18 : decode cX0_back 18 = .ok (.iconst 3, 1) := dk_6 (dk_at dksX0_back_0 18 rfl rfl)
theorem dX0_back_19 : decode cX0_back 19 = .ok (.iaload, 1) := dk_46 (dk_at dksX0_back_0 19 rfl rfl)
theorem dX0_back_20 : decode cX0_back 20 = .ok (.ireturn, 1) := dk_172 (dk_at dksX0_back_0 20 rfl rfl)
abbrev cX0_about : ByteArray := prog_1_method_87_code
def yX0_about : MethodName := ⟨RX0, "about", "(I)I"⟩
def dkwX0_about_5 : List UInt8 := [180, 0, 78, 172, 16, 254, 172]
abbrev dktX0_about_5 : List UInt8 := dkwX0_about_5 ++ []
def dkwX0_about_4 : List UInt8 := [46, 172, 42, 180, 0, 21, 180, 0, 64, 8, 46, 172, 42, 180, 0, 21, 180, 0, 64, 16, 6, 46, 172, 42]
abbrev dktX0_about_4 : List UInt8 := dkwX0_about_4 ++ dktX0_about_5
def dkwX0_about_3 : List UInt8 := [180, 0, 64, 5, 46, 172, 42, 180, 0, 21, 180, 0, 64, 6, 46, 172, 42, 180, 0, 21, 180, 0, 64, 7]
abbrev dktX0_about_3 : List UInt8 := dkwX0_about_3 ++ dktX0_about_4
def dkwX0_about_2 : List UInt8 := [42, 180, 0, 21, 180, 0, 64, 3, 46, 172, 42, 180, 0, 21, 180, 0, 64, 4, 46, 172, 42, 180, 0, 21]
abbrev dktX0_about_2 : List UInt8 := dkwX0_about_2 ++ dktX0_about_3
def dkwX0_about_1 : List UInt8 := [170, 0, 0, 0, 0, 0, 123, 0, 0, 0, 0, 0, 0, 0, 7, 0, 0, 0, 47, 0, 0, 0, 57, 0, 0, 0, 67, 0, 0, 0, 77, 0, 0, 0, 87, 0, 0, 0, 97, 0, 0, 0, 107, 0, 0, 0, 118]
abbrev dktX0_about_1 : List UInt8 := dkwX0_about_1 ++ dktX0_about_2
def dkwX0_about_0 : List UInt8 := [27]
abbrev dktX0_about_0 : List UInt8 := dkwX0_about_0 ++ dktX0_about_1
theorem dksX0_about_0 : cX0_about.data.toList.drop 0 = dktX0_about_0 := by decide +kernel
theorem dksX0_about_1 : cX0_about.data.toList.drop 1 = dktX0_about_1 := dk_seg dksX0_about_0 1 rfl rfl
theorem dksX0_about_2 : cX0_about.data.toList.drop 48 = dktX0_about_2 := dk_seg dksX0_about_1 47 rfl rfl
theorem dksX0_about_3 : cX0_about.data.toList.drop 72 = dktX0_about_3 := dk_seg dksX0_about_2 24 rfl rfl
theorem dksX0_about_4 : cX0_about.data.toList.drop 96 = dktX0_about_4 := dk_seg dksX0_about_3 24 rfl rfl
theorem dksX0_about_5 : cX0_about.data.toList.drop 120 = dktX0_about_5 := dk_seg dksX0_about_4 24 rfl rfl
theorem dX0_about_0 : decode cX0_about 0 = .ok (.iload_n 1, 1) := dk_27 (dk_at dksX0_about_0 0 rfl rfl)
theorem dX0_about_1 : decode cX0_about 1 = .ok (.tableswitch 123 0 7 #[47, 57, 67, 77, 87, 97, 107, 118], 47) := by decide +kernel
theorem dX0_about_48 : decode cX0_about 48 = .ok (.aload_n 0, 1) := dk_42 (dk_at dksX0_about_2 0 rfl rfl)
theorem dX0_about_49 : decode cX0_about 49 = .ok (.getfield 21, 3) := dk_180 0 21 (dk_at dksX0_about_2 1 rfl rfl)
theorem dX0_about_52 : decode cX0_about 52 = .ok (.getfield 64, 3) := dk_180 0 64 (dk_at dksX0_about_2 4 rfl rfl)
theorem dX0_about_55 : decode cX0_about 55 = .ok (.iconst 0, 1) := dk_3 (dk_at dksX0_about_2 7 rfl rfl)
theorem dX0_about_56 : decode cX0_about 56 = .ok (.iaload, 1) := dk_46 (dk_at dksX0_about_2 8 rfl rfl)
theorem dX0_about_57 : decode cX0_about 57 = .ok (.ireturn, 1) := dk_172 (dk_at dksX0_about_2 9 rfl rfl)
theorem dX0_about_58 : decode cX0_about 58 = .ok (.aload_n 0, 1) := dk_42 (dk_at dksX0_about_2 10 rfl rfl)
theorem dX0_about_59 : decode cX0_about 59 = .ok (.getfield 21, 3) := dk_180 0 21 (dk_at dksX0_about_2 11 rfl rfl)
theorem dX0_about_62 : decode cX0_about 62 = .ok (.getfield 64, 3) := dk_180 0 64 (dk_at dksX0_about_2 14 rfl rfl)
theorem dX0_about_65 : decode cX0_about 65 = .ok (.iconst 1, 1) := dk_4 (dk_at dksX0_about_2 17 rfl rfl)
theorem dX0_about_66 : decode cX0_about 66 = .ok (.iaload, 1) := dk_46 (dk_at dksX0_about_2 18 rfl rfl)
theorem dX0_about_67 : decode cX0_about 67 = .ok (.ireturn, 1) := dk_172 (dk_at dksX0_about_2 19 rfl rfl)
theorem dX0_about_68 : decode cX0_about 68 = .ok (.aload_n 0, 1) := dk_42 (dk_at dksX0_about_2 20 rfl rfl)
theorem dX0_about_69 : decode cX0_about 69 = .ok (.getfield 21, 3) := dk_180 0 21 (dk_at dksX0_about_2 21 rfl rfl)
theorem dX0_about_72 : decode cX0_about 72 = .ok (.getfield 64, 3) := dk_180 0 64 (dk_at dksX0_about_3 0 rfl rfl)
theorem dX0_about_75 : decode cX0_about 75 = .ok (.iconst 2, 1) := dk_5 (dk_at dksX0_about_3 3 rfl rfl)
theorem dX0_about_76 : decode cX0_about 76 = .ok (.iaload, 1) := dk_46 (dk_at dksX0_about_3 4 rfl rfl)
theorem dX0_about_77 : decode cX0_about 77 = .ok (.ireturn, 1) := dk_172 (dk_at dksX0_about_3 5 rfl rfl)
theorem dX0_about_78 : decode cX0_about 78 = .ok (.aload_n 0, 1) := dk_42 (dk_at dksX0_about_3 6 rfl rfl)
theorem dX0_about_79 : decode cX0_about 79 = .ok (.getfield 21, 3) := dk_180 0 21 (dk_at dksX0_about_3 7 rfl rfl)
theorem dX0_about_82 : decode cX0_about 82 = .ok (.getfield 64, 3) := dk_180 0 64 (dk_at dksX0_about_3 10 rfl rfl)
theorem dX0_about_85 : decode cX0_about 85 = .ok (.iconst 3, 1) := dk_6 (dk_at dksX0_about_3 13 rfl rfl)
theorem dX0_about_86 : decode cX0_about 86 = .ok (.iaload, 1) := dk_46 (dk_at dksX0_about_3 14 rfl rfl)
theorem dX0_about_87 : decode cX0_about 87 = .ok (.ireturn, 1) := dk_172 (dk_at dksX0_about_3 15 rfl rfl)
theorem dX0_about_88 : decode cX0_about 88 = .ok (.aload_n 0, 1) := dk_42 (dk_at dksX0_about_3 16 rfl rfl)
theorem dX0_about_89 : decode cX0_about 89 = .ok (.getfield 21, 3) := dk_180 0 21 (dk_at dksX0_about_3 17 rfl rfl)
theorem dX0_about_92 : decode cX0_about 92 = .ok (.getfield 64, 3) := dk_180 0 64 (dk_at dksX0_about_3 20 rfl rfl)
theorem dX0_about_95 : decode cX0_about 95 = .ok (.iconst 4, 1) := dk_7 (dk_at dksX0_about_3 23 rfl rfl)
theorem dX0_about_96 : decode cX0_about 96 = .ok (.iaload, 1) := dk_46 (dk_at dksX0_about_4 0 rfl rfl)
theorem dX0_about_97 : decode cX0_about 97 = .ok (.ireturn, 1) := dk_172 (dk_at dksX0_about_4 1 rfl rfl)
theorem dX0_about_98 : decode cX0_about 98 = .ok (.aload_n 0, 1) := dk_42 (dk_at dksX0_about_4 2 rfl rfl)
theorem dX0_about_99 : decode cX0_about 99 = .ok (.getfield 21, 3) := dk_180 0 21 (dk_at dksX0_about_4 3 rfl rfl)
theorem dX0_about_102 : decode cX0_about 102 = .ok (.getfield 64, 3) := dk_180 0 64 (dk_at dksX0_about_4 6 rfl rfl)
theorem dX0_about_105 : decode cX0_about 105 = .ok (.iconst 5, 1) := dk_8 (dk_at dksX0_about_4 9 rfl rfl)
theorem dX0_about_106 : decode cX0_about 106 = .ok (.iaload, 1) := dk_46 (dk_at dksX0_about_4 10 rfl rfl)
theorem dX0_about_107 : decode cX0_about 107 = .ok (.ireturn, 1) := dk_172 (dk_at dksX0_about_4 11 rfl rfl)
theorem dX0_about_108 : decode cX0_about 108 = .ok (.aload_n 0, 1) := dk_42 (dk_at dksX0_about_4 12 rfl rfl)
theorem dX0_about_109 : decode cX0_about 109 = .ok (.getfield 21, 3) := dk_180 0 21 (dk_at dksX0_about_4 13 rfl rfl)
theorem dX0_about_112 : decode cX0_about 112 = .ok (.getfield 64, 3) := dk_180 0 64 (dk_at dksX0_about_4 16 rfl rfl)
theorem dX0_about_115 : decode cX0_about 115 = .ok (.bipush 6, 2) := dk_16 6 (dk_at dksX0_about_4 19 rfl rfl)
theorem dX0_about_117 : decode cX0_about 117 = .ok (.iaload, 1) := dk_46 (dk_at dksX0_about_4 21 rfl rfl)
theorem dX0_about_118 : decode cX0_about 118 = .ok (.ireturn, 1) := dk_172 (dk_at dksX0_about_4 22 rfl rfl)
theorem dX0_about_119 : decode cX0_about 119 = .ok (.aload_n 0, 1) := dk_42 (dk_at dksX0_about_4 23 rfl rfl)
theorem dX0_about_120 : decode cX0_about 120 = .ok (.getfield 78, 3) := dk_180 0 78 (dk_at dksX0_about_5 0 rfl rfl)
theorem dX0_about_123 : decode cX0_about 123 = .ok (.ireturn, 1) := dk_172 (dk_at dksX0_about_5 3 rfl rfl)
theorem dX0_about_124 : decode cX0_about 124 = .ok (.bipush (-2), 2) := dk_16 254 (dk_at dksX0_about_5 4 rfl rfl)
theorem dX0_about_126 : decode cX0_about 126 = .ok (.ireturn, 1) := dk_172 (dk_at dksX0_about_5 6 rfl rfl)
theorem q137 : (Jvm.Cond.initialized "VaneCourt") ∈ lw_all := lw_g (lw_at lw_m1 1 rfl) rfl
theorem q173 : (Jvm.Cond.instantiable "VaneCourt" (13 : Nat)) ∈ lw_all := lw_g (lw_at lw_m1 37 rfl) rfl
theorem q175 : (Jvm.Cond.instanceMethod ({ cls := "VaneCourt", name := "<init>", desc := "()V" } : Jvm.MethodName)) ∈ lw_all := lw_g (lw_at lw_m1 39 rfl) rfl
theorem q176 : (Jvm.Cond.code ({ cls := "VaneCourt", name := "<init>", desc := "()V" } : Jvm.MethodName) prog_1_method_4_code (1 : Nat) (Option.none : Option Jvm.ClassFile.FieldType)) ∈ lw_all := lw_g (lw_at lw_m1 40 rfl) rfl
theorem q177 : (Jvm.Cond.methodLink "VaneCourt" (12 : Nat) ({ cls := "java/lang/Object", name := "<init>", desc := "()V" } : Jvm.MethodName)) ∈ lw_all := lw_g (lw_at lw_m1 41 rfl) rfl
theorem q180 : (Jvm.Cond.classLink "VaneCourt" (18 : Nat) "VaneCourt$State") ∈ lw_all := lw_g (lw_at lw_m1 44 rfl) rfl
theorem q182 : (Jvm.Cond.methodLink "VaneCourt" (20 : Nat) ({ cls := "VaneCourt$State", name := "<init>", desc := "()V" } : Jvm.MethodName)) ∈ lw_all := lw_g (lw_at lw_m1 46 rfl) rfl
theorem q191 : (Jvm.Cond.fieldLinkNest "VaneCourt" (64 : Nat) "VaneCourt$State" "n" "[I" "VaneCourt") ∈ lw_tbl := lw_at lw_m1 55 rfl
theorem q193 : (Jvm.Cond.fieldLinkNest "VaneCourt" (205 : Nat) "VaneCourt$State" "row" "[I" "VaneCourt") ∈ lw_tbl := lw_at lw_m1 57 rfl
theorem q195 : (Jvm.Cond.fieldLinkNest "VaneCourt" (71 : Nat) "VaneCourt$State" "trial" "[[I" "VaneCourt") ∈ lw_tbl := lw_at lw_m1 59 rfl
theorem q197 : (Jvm.Cond.fieldLinkNest "VaneCourt" (353 : Nat) "VaneCourt$State" "record" "[[I" "VaneCourt") ∈ lw_tbl := lw_at lw_m1 61 rfl
theorem q199 : (Jvm.Cond.fieldLinkNest "VaneCourt" (360 : Nat) "VaneCourt$State" "learned" "[[I" "VaneCourt") ∈ lw_tbl := lw_at lw_m1 63 rfl
theorem q201 : (Jvm.Cond.fieldLinkNest "VaneCourt" (378 : Nat) "VaneCourt$State" "counsel" "[[I" "VaneCourt") ∈ lw_tbl := lw_at lw_m1 65 rfl
theorem q203 : (Jvm.Cond.fieldLinkNest "VaneCourt" (302 : Nat) "VaneCourt$State" "step" "[[I" "VaneCourt") ∈ lw_tbl := lw_at lw_m1 67 rfl
theorem q205 : (Jvm.Cond.fieldLinkNest "VaneCourt" (85 : Nat) "VaneCourt$State" "text" "[LVaneCourt$Text;" "VaneCourt") ∈ lw_tbl := lw_at lw_m1 69 rfl
theorem q224 : (Jvm.Cond.classLink "VaneCourt" (46 : Nat) "[[I") ∈ lw_all := lw_g (lw_at lw_m1 88 rfl) rfl
theorem q225 : (Jvm.Cond.methodLink "VaneCourt" (60 : Nat) ({ cls := "VaneCourt$State", name := "be", desc := "(LVaneCourt$State;)V" } : Jvm.MethodName)) ∈ lw_all := lw_g (lw_at lw_m1 89 rfl) rfl
theorem q238 : (Jvm.Cond.fieldLink "VaneCourt" (21 : Nat) "VaneCourt" "now" "LVaneCourt$State;") ∈ lw_all := lw_g (lw_at lw_m1 102 rfl) rfl
theorem q239 : (Jvm.Cond.fieldLink "VaneCourt" (25 : Nat) "VaneCourt" "image" "LVaneCourt$State;") ∈ lw_all := lw_g (lw_at lw_m1 103 rfl) rfl
theorem q240 : (Jvm.Cond.fieldLink "VaneCourt" (28 : Nat) "VaneCourt" "tape" "[B") ∈ lw_all := lw_g (lw_at lw_m1 104 rfl) rfl
theorem q241 : (Jvm.Cond.fieldLink "VaneCourt" (78 : Nat) "VaneCourt" "taped" "I") ∈ lw_all := lw_g (lw_at lw_m1 105 rfl) rfl
theorem q242 : (Jvm.Cond.fieldLink "VaneCourt" (32 : Nat) "VaneCourt" "fault" "I") ∈ lw_all := lw_g (lw_at lw_m1 106 rfl) rfl
theorem q243 : (Jvm.Cond.fieldLink "VaneCourt" (36 : Nat) "VaneCourt" "faultAt" "I") ∈ lw_all := lw_g (lw_at lw_m1 107 rfl) rfl
theorem q244 : (Jvm.Cond.fieldLink "VaneCourt" (39 : Nat) "VaneCourt" "names" "[I") ∈ lw_all := lw_g (lw_at lw_m1 108 rfl) rfl
theorem q245 : (Jvm.Cond.fieldLink "VaneCourt" (43 : Nat) "VaneCourt" "tried" "[I") ∈ lw_all := lw_g (lw_at lw_m1 109 rfl) rfl
theorem q246 : (Jvm.Cond.fieldLink "VaneCourt" (48 : Nat) "VaneCourt" "gone" "[[I") ∈ lw_all := lw_g (lw_at lw_m1 110 rfl) rfl
theorem q247 : (Jvm.Cond.fieldLink "VaneCourt" (51 : Nat) "VaneCourt" "comes" "[I") ∈ lw_all := lw_g (lw_at lw_m1 111 rfl) rfl
theorem q248 : (Jvm.Cond.fieldLink "VaneCourt" (54 : Nat) "VaneCourt" "order" "[I") ∈ lw_all := lw_g (lw_at lw_m1 112 rfl) rfl
theorem q249 : (Jvm.Cond.fieldLink "VaneCourt" (57 : Nat) "VaneCourt" "bestOrder" "[I") ∈ lw_all := lw_g (lw_at lw_m1 113 rfl) rfl
theorem q250 : (Jvm.Cond.fieldLink "VaneCourt" (346 : Nat) "VaneCourt" "most" "I") ∈ lw_all := lw_g (lw_at lw_m1 114 rfl) rfl
theorem q251 : (Jvm.Cond.laysFinal "VaneCourt" "VaneCourt" "now" "LVaneCourt$State;") ∈ lw_all := lw_g (lw_at lw_m1 115 rfl) rfl
theorem q252 : (Jvm.Cond.soleField "VaneCourt" "now") ∈ lw_all := lw_g (lw_at lw_m1 116 rfl) rfl
theorem q253 : (Jvm.Cond.laysFinal "VaneCourt" "VaneCourt" "image" "LVaneCourt$State;") ∈ lw_all := lw_g (lw_at lw_m1 117 rfl) rfl
theorem q254 : (Jvm.Cond.soleField "VaneCourt" "image") ∈ lw_all := lw_g (lw_at lw_m1 118 rfl) rfl
theorem q255 : (Jvm.Cond.laysFinal "VaneCourt" "VaneCourt" "tape" "[B") ∈ lw_all := lw_g (lw_at lw_m1 119 rfl) rfl
theorem q256 : (Jvm.Cond.soleField "VaneCourt" "tape") ∈ lw_all := lw_g (lw_at lw_m1 120 rfl) rfl
theorem q257 : (Jvm.Cond.lays "VaneCourt" "VaneCourt" "taped" "I") ∈ lw_all := lw_g (lw_at lw_m1 121 rfl) rfl
theorem q258 : (Jvm.Cond.soleField "VaneCourt" "taped") ∈ lw_all := lw_g (lw_at lw_m1 122 rfl) rfl
theorem q259 : (Jvm.Cond.lays "VaneCourt" "VaneCourt" "fault" "I") ∈ lw_all := lw_g (lw_at lw_m1 123 rfl) rfl
theorem q260 : (Jvm.Cond.soleField "VaneCourt" "fault") ∈ lw_all := lw_g (lw_at lw_m1 124 rfl) rfl
theorem q261 : (Jvm.Cond.lays "VaneCourt" "VaneCourt" "faultAt" "I") ∈ lw_all := lw_g (lw_at lw_m1 125 rfl) rfl
theorem q262 : (Jvm.Cond.soleField "VaneCourt" "faultAt") ∈ lw_all := lw_g (lw_at lw_m1 126 rfl) rfl
theorem q263 : (Jvm.Cond.laysFinal "VaneCourt" "VaneCourt" "names" "[I") ∈ lw_all := lw_g (lw_at lw_m1 127 rfl) rfl
theorem q264 : (Jvm.Cond.soleField "VaneCourt" "names") ∈ lw_all := lw_g (lw_at lw_m1 128 rfl) rfl
theorem q265 : (Jvm.Cond.laysFinal "VaneCourt" "VaneCourt" "tried" "[I") ∈ lw_all := lw_g (lw_at lw_m1 129 rfl) rfl
theorem q266 : (Jvm.Cond.soleField "VaneCourt" "tried") ∈ lw_all := lw_g (lw_at lw_m1 130 rfl) rfl
theorem q267 : (Jvm.Cond.laysFinal "VaneCourt" "VaneCourt" "gone" "[[I") ∈ lw_all := lw_g (lw_at lw_m1 131 rfl) rfl
theorem q268 : (Jvm.Cond.soleField "VaneCourt" "gone") ∈ lw_all := lw_g (lw_at lw_m1 132 rfl) rfl
theorem q269 : (Jvm.Cond.laysFinal "VaneCourt" "VaneCourt" "comes" "[I") ∈ lw_all := lw_g (lw_at lw_m1 133 rfl) rfl
theorem q270 : (Jvm.Cond.soleField "VaneCourt" "comes") ∈ lw_all := lw_g (lw_at lw_m1 134 rfl) rfl
theorem q271 : (Jvm.Cond.laysFinal "VaneCourt" "VaneCourt" "order" "[I") ∈ lw_all := lw_g (lw_at lw_m1 135 rfl) rfl
theorem q272 : (Jvm.Cond.soleField "VaneCourt" "order") ∈ lw_all := lw_g (lw_at lw_m1 136 rfl) rfl
theorem q273 : (Jvm.Cond.laysFinal "VaneCourt" "VaneCourt" "bestOrder" "[I") ∈ lw_all := lw_g (lw_at lw_m1 137 rfl) rfl
theorem q274 : (Jvm.Cond.soleField "VaneCourt" "bestOrder") ∈ lw_all := lw_g (lw_at lw_m1 138 rfl) rfl
theorem q275 : (Jvm.Cond.lays "VaneCourt" "VaneCourt" "most" "I") ∈ lw_all := lw_g (lw_at lw_m1 139 rfl) rfl
theorem q276 : (Jvm.Cond.soleField "VaneCourt" "most") ∈ lw_all := lw_g (lw_at lw_m1 140 rfl) rfl
theorem q277 : (Jvm.Cond.superclass "VaneCourt" "java/lang/Object") ∈ lw_all := lw_g (lw_at lw_m1 141 rfl) rfl
theorem q280 : (Jvm.Cond.instanceMethod ({ cls := "VaneCourt", name := "newCase", desc := "(IIII)I" } : Jvm.MethodName)) ∈ lw_all := lw_g (lw_at lw_m1 144 rfl) rfl
theorem q281 : (Jvm.Cond.selects "VaneCourt" ({ cls := "VaneCourt", name := "newCase", desc := "(IIII)I" } : Jvm.MethodName) ({ cls := "VaneCourt", name := "newCase", desc := "(IIII)I" } : Jvm.MethodName)) ∈ lw_all := lw_g (lw_at lw_m1 145 rfl) rfl
theorem q282 : (Jvm.Cond.code ({ cls := "VaneCourt", name := "newCase", desc := "(IIII)I" } : Jvm.MethodName) prog_1_method_6_code (6 : Nat) (Option.some Jvm.ClassFile.FieldType.int)) ∈ lw_all := lw_g (lw_at lw_m1 146 rfl) rfl
theorem q283 : (Jvm.Cond.methodLink "VaneCourt" (67 : Nat) ({ cls := "VaneCourt", name := "in", desc := "(III)Z" } : Jvm.MethodName)) ∈ lw_all := lw_g (lw_at lw_m1 147 rfl) rfl
theorem q284 : (Jvm.Cond.static ({ cls := "VaneCourt", name := "in", desc := "(III)Z" } : Jvm.MethodName)) ∈ lw_all := lw_g (lw_at lw_m1 148 rfl) rfl
theorem q285 : (Jvm.Cond.code ({ cls := "VaneCourt", name := "in", desc := "(III)Z" } : Jvm.MethodName) prog_1_method_1_code (3 : Nat) (Option.some Jvm.ClassFile.FieldType.boolean)) ∈ lw_all := lw_g (lw_at lw_m1 149 rfl) rfl
theorem q286 : (Jvm.Cond.methodLink "VaneCourt" (74 : Nat) ({ cls := "VaneCourt$State", name := "tells", desc := "([[II[I)I" } : Jvm.MethodName)) ∈ lw_all := lw_g (lw_at lw_m1 150 rfl) rfl
theorem q291 : (Jvm.Cond.instanceMethod ({ cls := "VaneCourt", name := "feed", desc := "(IIIII)I" } : Jvm.MethodName)) ∈ lw_all := lw_g (lw_at lw_m1 155 rfl) rfl
theorem q292 : (Jvm.Cond.selects "VaneCourt" ({ cls := "VaneCourt", name := "feed", desc := "(IIIII)I" } : Jvm.MethodName) ({ cls := "VaneCourt", name := "feed", desc := "(IIIII)I" } : Jvm.MethodName)) ∈ lw_all := lw_g (lw_at lw_m1 156 rfl) rfl
theorem q293 : (Jvm.Cond.code ({ cls := "VaneCourt", name := "feed", desc := "(IIIII)I" } : Jvm.MethodName) prog_1_method_8_code (6 : Nat) (Option.some Jvm.ClassFile.FieldType.int)) ∈ lw_all := lw_g (lw_at lw_m1 157 rfl) rfl
theorem q294 : (Jvm.Cond.methodLink "VaneCourt" (81 : Nat) ({ cls := "VaneCourt", name := "put", desc := "(I)V" } : Jvm.MethodName)) ∈ lw_all := lw_g (lw_at lw_m1 158 rfl) rfl
theorem q295 : (Jvm.Cond.privateMethod ({ cls := "VaneCourt", name := "put", desc := "(I)V" } : Jvm.MethodName)) ∈ lw_tbl := lw_at lw_m1 159 rfl
theorem q296 : (Jvm.Cond.instanceMethod ({ cls := "VaneCourt", name := "put", desc := "(I)V" } : Jvm.MethodName)) ∈ lw_all := lw_g (lw_at lw_m1 160 rfl) rfl
theorem q297 : (Jvm.Cond.code ({ cls := "VaneCourt", name := "put", desc := "(I)V" } : Jvm.MethodName) prog_1_method_7_code (3 : Nat) (Option.none : Option Jvm.ClassFile.FieldType)) ∈ lw_all := lw_g (lw_at lw_m1 161 rfl) rfl
theorem q299 : (Jvm.Cond.instanceMethod ({ cls := "VaneCourt", name := "end", desc := "(I)I" } : Jvm.MethodName)) ∈ lw_all := lw_g (lw_at lw_m1 163 rfl) rfl
theorem q300 : (Jvm.Cond.selects "VaneCourt" ({ cls := "VaneCourt", name := "end", desc := "(I)I" } : Jvm.MethodName) ({ cls := "VaneCourt", name := "end", desc := "(I)I" } : Jvm.MethodName)) ∈ lw_all := lw_g (lw_at lw_m1 164 rfl) rfl
theorem q301 : (Jvm.Cond.code ({ cls := "VaneCourt", name := "end", desc := "(I)I" } : Jvm.MethodName) prog_1_method_9_code (2 : Nat) (Option.some Jvm.ClassFile.FieldType.int)) ∈ lw_all := lw_g (lw_at lw_m1 165 rfl) rfl
theorem q303 : (Jvm.Cond.instanceMethod ({ cls := "VaneCourt", name := "text", desc := "()I" } : Jvm.MethodName)) ∈ lw_all := lw_g (lw_at lw_m1 167 rfl) rfl
theorem q304 : (Jvm.Cond.selects "VaneCourt" ({ cls := "VaneCourt", name := "text", desc := "()I" } : Jvm.MethodName) ({ cls := "VaneCourt", name := "text", desc := "()I" } : Jvm.MethodName)) ∈ lw_all := lw_g (lw_at lw_m1 168 rfl) rfl
theorem q305 : (Jvm.Cond.codeWith ({ cls := "VaneCourt", name := "text", desc := "()I" } : Jvm.MethodName) prog_1_method_10_code (5 : Nat) (Option.some Jvm.ClassFile.FieldType.int) [((30 : Nat), (62 : Nat), (70 : Nat), (98 : Nat)), ((30 : Nat), (62 : Nat), (96 : Nat), (0 : Nat)), ((70 : Nat), (89 : Nat), (96 : Nat), (0 : Nat)), ((96 : Nat), (98 : Nat), (96 : Nat), (0 : Nat))]) ∈ lw_all := lw_g (lw_at lw_m1 169 rfl) rfl
theorem q306 : (Jvm.Cond.classLink "VaneCourt" (98 : Nat) "VaneCourt$Wrong") ∈ lw_all := lw_g (lw_at lw_m1 170 rfl) rfl
theorem q307 : (Jvm.Cond.classLink "VaneCourt" (89 : Nat) "VaneCourt$Tokens") ∈ lw_all := lw_g (lw_at lw_m1 171 rfl) rfl
theorem q309 : (Jvm.Cond.methodLink "VaneCourt" (91 : Nat) ({ cls := "VaneCourt$Tokens", name := "<init>", desc := "([BI)V" } : Jvm.MethodName)) ∈ lw_all := lw_g (lw_at lw_m1 173 rfl) rfl
theorem q338 : (Jvm.Cond.methodLink "VaneCourt" (94 : Nat) ({ cls := "VaneCourt$Tokens", name := "read", desc := "()LVaneCourt$Text;" } : Jvm.MethodName)) ∈ lw_all := lw_g (lw_at lw_m1 202 rfl) rfl
theorem q378 : (Jvm.Cond.fieldLinkNest "VaneCourt" (118 : Nat) "VaneCourt$Text" "code" "[LVaneCourt$Asked;" "VaneCourt") ∈ lw_tbl := lw_at lw_m2 2 rfl
theorem q380 : (Jvm.Cond.fieldLinkNest "VaneCourt" (183 : Nat) "VaneCourt$Text" "veers" "LVaneCourt$Sum;" "VaneCourt") ∈ lw_tbl := lw_at lw_m2 4 rfl
theorem q382 : (Jvm.Cond.fieldLinkNest "VaneCourt" (186 : Nat) "VaneCourt$Text" "blows" "LVaneCourt$Sum;" "VaneCourt") ∈ lw_tbl := lw_at lw_m2 6 rfl
theorem q384 : (Jvm.Cond.fieldLinkNest "VaneCourt" (137 : Nat) "VaneCourt$Text" "sentence" "LVaneCourt$Sum;" "VaneCourt") ∈ lw_tbl := lw_at lw_m2 8 rfl
theorem q386 : (Jvm.Cond.fieldLinkNest "VaneCourt" (189 : Nat) "VaneCourt$Text" "fogs" "LVaneCourt$Asked;" "VaneCourt") ∈ lw_tbl := lw_at lw_m2 10 rfl
theorem q390 : (Jvm.Cond.fieldLinkNest "VaneCourt" (279 : Nat) "VaneCourt$Text" "doings" "Ljava/util/ArrayList;" "VaneCourt") ∈ lw_tbl := lw_at lw_m2 14 rfl
theorem q524 : (Jvm.Cond.fieldLinkNest "VaneCourt" (100 : Nat) "VaneCourt$Wrong" "fault" "I" "VaneCourt") ∈ lw_tbl := lw_at lw_m2 148 rfl
theorem q526 : (Jvm.Cond.fieldLinkNest "VaneCourt" (101 : Nat) "VaneCourt$Wrong" "place" "I" "VaneCourt") ∈ lw_tbl := lw_at lw_m2 150 rfl
theorem q644 : (Jvm.Cond.selects "VaneCourt" ({ cls := "java/lang/Object", name := "getClass", desc := "()Ljava/lang/Class;" } : Jvm.MethodName) ({ cls := "java/lang/Object", name := "getClass", desc := "()Ljava/lang/Class;" } : Jvm.MethodName)) ∈ lw_all := lw_g (lw_at lw_m3 28 rfl) rfl
theorem q876 : (Jvm.Cond.instanceMethod ({ cls := "VaneCourt", name := "fault", desc := "(I)I" } : Jvm.MethodName)) ∈ lw_all := lw_g (lw_at lw_m4 20 rfl) rfl
theorem q877 : (Jvm.Cond.selects "VaneCourt" ({ cls := "VaneCourt", name := "fault", desc := "(I)I" } : Jvm.MethodName) ({ cls := "VaneCourt", name := "fault", desc := "(I)I" } : Jvm.MethodName)) ∈ lw_all := lw_g (lw_at lw_m4 21 rfl) rfl
theorem q878 : (Jvm.Cond.code ({ cls := "VaneCourt", name := "fault", desc := "(I)I" } : Jvm.MethodName) prog_1_method_11_code (2 : Nat) (Option.some Jvm.ClassFile.FieldType.int)) ∈ lw_all := lw_g (lw_at lw_m4 22 rfl) rfl
theorem q880 : (Jvm.Cond.instanceMethod ({ cls := "VaneCourt", name := "by", desc := "(I)Z" } : Jvm.MethodName)) ∈ lw_all := lw_g (lw_at lw_m4 24 rfl) rfl
theorem q881 : (Jvm.Cond.selects "VaneCourt" ({ cls := "VaneCourt", name := "by", desc := "(I)Z" } : Jvm.MethodName) ({ cls := "VaneCourt", name := "by", desc := "(I)Z" } : Jvm.MethodName)) ∈ lw_all := lw_g (lw_at lw_m4 25 rfl) rfl
theorem q882 : (Jvm.Cond.code ({ cls := "VaneCourt", name := "by", desc := "(I)Z" } : Jvm.MethodName) prog_1_method_13_code (2 : Nat) (Option.some Jvm.ClassFile.FieldType.boolean)) ∈ lw_all := lw_g (lw_at lw_m4 26 rfl) rfl
theorem q883 : (Jvm.Cond.methodLink "VaneCourt" (104 : Nat) ({ cls := "VaneCourt", name := "isText", desc := "(I)Z" } : Jvm.MethodName)) ∈ lw_all := lw_g (lw_at lw_m4 27 rfl) rfl
theorem q884 : (Jvm.Cond.privateMethod ({ cls := "VaneCourt", name := "isText", desc := "(I)Z" } : Jvm.MethodName)) ∈ lw_tbl := lw_at lw_m4 28 rfl
theorem q885 : (Jvm.Cond.instanceMethod ({ cls := "VaneCourt", name := "isText", desc := "(I)Z" } : Jvm.MethodName)) ∈ lw_all := lw_g (lw_at lw_m4 29 rfl) rfl
theorem q886 : (Jvm.Cond.code ({ cls := "VaneCourt", name := "isText", desc := "(I)Z" } : Jvm.MethodName) prog_1_method_12_code (2 : Nat) (Option.some Jvm.ClassFile.FieldType.boolean)) ∈ lw_all := lw_g (lw_at lw_m4 30 rfl) rfl
theorem q888 : (Jvm.Cond.instanceMethod ({ cls := "VaneCourt", name := "hour", desc := "(I)I" } : Jvm.MethodName)) ∈ lw_all := lw_g (lw_at lw_m4 32 rfl) rfl
theorem q889 : (Jvm.Cond.selects "VaneCourt" ({ cls := "VaneCourt", name := "hour", desc := "(I)I" } : Jvm.MethodName) ({ cls := "VaneCourt", name := "hour", desc := "(I)I" } : Jvm.MethodName)) ∈ lw_all := lw_g (lw_at lw_m4 33 rfl) rfl
theorem q890 : (Jvm.Cond.code ({ cls := "VaneCourt", name := "hour", desc := "(I)I" } : Jvm.MethodName) prog_1_method_27_code (4 : Nat) (Option.some Jvm.ClassFile.FieldType.int)) ∈ lw_all := lw_g (lw_at lw_m4 34 rfl) rfl
theorem q891 : (Jvm.Cond.methodLink "VaneCourt" (208 : Nat) ({ cls := "VaneCourt$State", name := "keeps", desc := "()V" } : Jvm.MethodName)) ∈ lw_all := lw_g (lw_at lw_m4 35 rfl) rfl
theorem q895 : (Jvm.Cond.methodLink "VaneCourt" (211 : Nat) ({ cls := "VaneCourt", name := "passes", desc := "([I)Z" } : Jvm.MethodName)) ∈ lw_all := lw_g (lw_at lw_m4 39 rfl) rfl
theorem q896 : (Jvm.Cond.privateMethod ({ cls := "VaneCourt", name := "passes", desc := "([I)Z" } : Jvm.MethodName)) ∈ lw_tbl := lw_at lw_m4 40 rfl
theorem q897 : (Jvm.Cond.instanceMethod ({ cls := "VaneCourt", name := "passes", desc := "([I)Z" } : Jvm.MethodName)) ∈ lw_all := lw_g (lw_at lw_m4 41 rfl) rfl
theorem q898 : (Jvm.Cond.code ({ cls := "VaneCourt", name := "passes", desc := "([I)Z" } : Jvm.MethodName) prog_1_method_26_code (3 : Nat) (Option.some Jvm.ClassFile.FieldType.boolean)) ∈ lw_all := lw_g (lw_at lw_m4 42 rfl) rfl
theorem q899 : (Jvm.Cond.methodLink "VaneCourt" (196 : Nat) ({ cls := "VaneCourt", name := "hears", desc := "([I)Z" } : Jvm.MethodName)) ∈ lw_all := lw_g (lw_at lw_m4 43 rfl) rfl
theorem q900 : (Jvm.Cond.privateMethod ({ cls := "VaneCourt", name := "hears", desc := "([I)Z" } : Jvm.MethodName)) ∈ lw_tbl := lw_at lw_m4 44 rfl
theorem q901 : (Jvm.Cond.instanceMethod ({ cls := "VaneCourt", name := "hears", desc := "([I)Z" } : Jvm.MethodName)) ∈ lw_all := lw_g (lw_at lw_m4 45 rfl) rfl
theorem q902 : (Jvm.Cond.code ({ cls := "VaneCourt", name := "hears", desc := "([I)Z" } : Jvm.MethodName) prog_1_method_22_code (4 : Nat) (Option.some Jvm.ClassFile.FieldType.boolean)) ∈ lw_all := lw_g (lw_at lw_m4 46 rfl) rfl
theorem q903 : (Jvm.Cond.methodLink "VaneCourt" (167 : Nat) ({ cls := "VaneCourt", name := "isGuilty", desc := "([II)Z" } : Jvm.MethodName)) ∈ lw_all := lw_g (lw_at lw_m4 47 rfl) rfl
theorem q904 : (Jvm.Cond.privateMethod ({ cls := "VaneCourt", name := "isGuilty", desc := "([II)Z" } : Jvm.MethodName)) ∈ lw_tbl := lw_at lw_m4 48 rfl
theorem q905 : (Jvm.Cond.instanceMethod ({ cls := "VaneCourt", name := "isGuilty", desc := "([II)Z" } : Jvm.MethodName)) ∈ lw_all := lw_g (lw_at lw_m4 49 rfl) rfl
theorem q906 : (Jvm.Cond.code ({ cls := "VaneCourt", name := "isGuilty", desc := "([II)Z" } : Jvm.MethodName) prog_1_method_19_code (4 : Nat) (Option.some Jvm.ClassFile.FieldType.boolean)) ∈ lw_all := lw_g (lw_at lw_m4 50 rfl) rfl
theorem q907 : (Jvm.Cond.methodLink "VaneCourt" (124 : Nat) ({ cls := "VaneCourt", name := "has", desc := "(II)Z" } : Jvm.MethodName)) ∈ lw_all := lw_g (lw_at lw_m4 51 rfl) rfl
theorem q908 : (Jvm.Cond.static ({ cls := "VaneCourt", name := "has", desc := "(II)Z" } : Jvm.MethodName)) ∈ lw_all := lw_g (lw_at lw_m4 52 rfl) rfl
theorem q909 : (Jvm.Cond.code ({ cls := "VaneCourt", name := "has", desc := "(II)Z" } : Jvm.MethodName) prog_1_method_2_code (2 : Nat) (Option.some Jvm.ClassFile.FieldType.boolean)) ∈ lw_all := lw_g (lw_at lw_m4 53 rfl) rfl
theorem q910 : (Jvm.Cond.methodLink "VaneCourt" (134 : Nat) ({ cls := "VaneCourt", name := "rules", desc := "()LVaneCourt$Text;" } : Jvm.MethodName)) ∈ lw_all := lw_g (lw_at lw_m4 54 rfl) rfl
theorem q911 : (Jvm.Cond.privateMethod ({ cls := "VaneCourt", name := "rules", desc := "()LVaneCourt$Text;" } : Jvm.MethodName)) ∈ lw_tbl := lw_at lw_m4 55 rfl
theorem q912 : (Jvm.Cond.instanceMethod ({ cls := "VaneCourt", name := "rules", desc := "()LVaneCourt$Text;" } : Jvm.MethodName)) ∈ lw_all := lw_g (lw_at lw_m4 56 rfl) rfl
theorem q913 : (Jvm.Cond.code ({ cls := "VaneCourt", name := "rules", desc := "()LVaneCourt$Text;" } : Jvm.MethodName) prog_1_method_14_code (1 : Nat) (Option.some (Jvm.ClassFile.FieldType.object "VaneCourt$Text"))) ∈ lw_all := lw_g (lw_at lw_m4 57 rfl) rfl
theorem q914 : (Jvm.Cond.fieldLink "VaneCourt" (108 : Nat) "VaneCourt" "NOTHING" "LVaneCourt$Text;") ∈ lw_all := lw_g (lw_at lw_m4 58 rfl) rfl
theorem q915 : (Jvm.Cond.laysStatic "VaneCourt" "NOTHING" "LVaneCourt$Text;") ∈ lw_tbl := lw_at lw_m4 59 rfl
theorem q916 : (Jvm.Cond.methodLink "VaneCourt" (157 : Nat) ({ cls := "VaneCourt", name := "isGuiltyBy", desc := "(LVaneCourt$Text;[IIIII)Z" } : Jvm.MethodName)) ∈ lw_all := lw_g (lw_at lw_m4 60 rfl) rfl
theorem q917 : (Jvm.Cond.privateMethod ({ cls := "VaneCourt", name := "isGuiltyBy", desc := "(LVaneCourt$Text;[IIIII)Z" } : Jvm.MethodName)) ∈ lw_tbl := lw_at lw_m4 61 rfl
theorem q918 : (Jvm.Cond.instanceMethod ({ cls := "VaneCourt", name := "isGuiltyBy", desc := "(LVaneCourt$Text;[IIIII)Z" } : Jvm.MethodName)) ∈ lw_all := lw_g (lw_at lw_m4 62 rfl) rfl
theorem q919 : (Jvm.Cond.code ({ cls := "VaneCourt", name := "isGuiltyBy", desc := "(LVaneCourt$Text;[IIIII)Z" } : Jvm.MethodName) prog_1_method_17_code (7 : Nat) (Option.some Jvm.ClassFile.FieldType.boolean)) ∈ lw_all := lw_g (lw_at lw_m4 63 rfl) rfl
theorem q920 : (Jvm.Cond.methodLink "VaneCourt" (115 : Nat) ({ cls := "VaneCourt", name := "names", desc := "([IIII)V" } : Jvm.MethodName)) ∈ lw_all := lw_g (lw_at lw_m4 64 rfl) rfl
theorem q921 : (Jvm.Cond.privateMethod ({ cls := "VaneCourt", name := "names", desc := "([IIII)V" } : Jvm.MethodName)) ∈ lw_tbl := lw_at lw_m4 65 rfl
theorem q922 : (Jvm.Cond.instanceMethod ({ cls := "VaneCourt", name := "names", desc := "([IIII)V" } : Jvm.MethodName)) ∈ lw_all := lw_g (lw_at lw_m4 66 rfl) rfl
theorem q923 : (Jvm.Cond.code ({ cls := "VaneCourt", name := "names", desc := "([IIII)V" } : Jvm.MethodName) prog_1_method_16_code (5 : Nat) (Option.none : Option Jvm.ClassFile.FieldType)) ∈ lw_all := lw_g (lw_at lw_m4 67 rfl) rfl
theorem q924 : (Jvm.Cond.methodLink "VaneCourt" (112 : Nat) ({ cls := "VaneCourt", name := "names", desc := "([II)V" } : Jvm.MethodName)) ∈ lw_all := lw_g (lw_at lw_m4 68 rfl) rfl
theorem q925 : (Jvm.Cond.privateMethod ({ cls := "VaneCourt", name := "names", desc := "([II)V" } : Jvm.MethodName)) ∈ lw_tbl := lw_at lw_m4 69 rfl
theorem q926 : (Jvm.Cond.instanceMethod ({ cls := "VaneCourt", name := "names", desc := "([II)V" } : Jvm.MethodName)) ∈ lw_all := lw_g (lw_at lw_m4 70 rfl) rfl
theorem q927 : (Jvm.Cond.code ({ cls := "VaneCourt", name := "names", desc := "([II)V" } : Jvm.MethodName) prog_1_method_15_code (3 : Nat) (Option.none : Option Jvm.ClassFile.FieldType)) ∈ lw_all := lw_g (lw_at lw_m4 71 rfl) rfl
theorem q928 : (Jvm.Cond.interfaceEntry "VaneCourt" (128 : Nat)) ∈ lw_tbl := lw_at lw_m4 72 rfl
theorem q929 : (Jvm.Cond.methodLink "VaneCourt" (128 : Nat) ({ cls := "VaneCourt$Asked", name := "is", desc := "([I)Z" } : Jvm.MethodName)) ∈ lw_all := lw_g (lw_at lw_m4 73 rfl) rfl
theorem q1031 : (Jvm.Cond.methodLink "VaneCourt" (171 : Nat) ({ cls := "VaneCourt", name := "sentenceOf", desc := "([II)I" } : Jvm.MethodName)) ∈ lw_all := lw_g (lw_at lw_m4 175 rfl) rfl
theorem q1032 : (Jvm.Cond.privateMethod ({ cls := "VaneCourt", name := "sentenceOf", desc := "([II)I" } : Jvm.MethodName)) ∈ lw_tbl := lw_at lw_m4 176 rfl
theorem q1033 : (Jvm.Cond.instanceMethod ({ cls := "VaneCourt", name := "sentenceOf", desc := "([II)I" } : Jvm.MethodName)) ∈ lw_all := lw_g (lw_at lw_m4 177 rfl) rfl
theorem q1034 : (Jvm.Cond.code ({ cls := "VaneCourt", name := "sentenceOf", desc := "([II)I" } : Jvm.MethodName) prog_1_method_18_code (4 : Nat) (Option.some Jvm.ClassFile.FieldType.int)) ∈ lw_all := lw_g (lw_at lw_m4 178 rfl) rfl
theorem q1035 : (Jvm.Cond.methodLink "VaneCourt" (141 : Nat) ({ cls := "java/lang/Integer", name := "bitCount", desc := "(I)I" } : Jvm.MethodName)) ∈ lw_all := lw_g (lw_at lw_m4 179 rfl) rfl
theorem q1041 : (Jvm.Cond.interfaceEntry "VaneCourt" (147 : Nat)) ∈ lw_tbl := lw_at lw_m4 185 rfl
theorem q1042 : (Jvm.Cond.methodLink "VaneCourt" (147 : Nat) ({ cls := "VaneCourt$Sum", name := "of", desc := "([I)J" } : Jvm.MethodName)) ∈ lw_all := lw_g (lw_at lw_m4 186 rfl) rfl
theorem q1043 : (Jvm.Cond.methodLink "VaneCourt" (153 : Nat) ({ cls := "VaneCourt", name := "held", desc := "(JII)I" } : Jvm.MethodName)) ∈ lw_all := lw_g (lw_at lw_m4 187 rfl) rfl
theorem q1044 : (Jvm.Cond.static ({ cls := "VaneCourt", name := "held", desc := "(JII)I" } : Jvm.MethodName)) ∈ lw_all := lw_g (lw_at lw_m4 188 rfl) rfl
theorem q1045 : (Jvm.Cond.code ({ cls := "VaneCourt", name := "held", desc := "(JII)I" } : Jvm.MethodName) prog_1_method_3_code (4 : Nat) (Option.some Jvm.ClassFile.FieldType.int)) ∈ lw_all := lw_g (lw_at lw_m4 189 rfl) rfl
theorem q1046 : (Jvm.Cond.methodLink "VaneCourt" (3 : Nat) ({ cls := "java/lang/Math", name := "min", desc := "(JJ)J" } : Jvm.MethodName)) ∈ lw_all := lw_g (lw_at lw_m4 190 rfl) rfl
theorem q1047 : (Jvm.Cond.methodLink "VaneCourt" (9 : Nat) ({ cls := "java/lang/Math", name := "max", desc := "(JJ)J" } : Jvm.MethodName)) ∈ lw_all := lw_g (lw_at lw_m4 191 rfl) rfl
theorem q1048 : (Jvm.Cond.methodLink "VaneCourt" (175 : Nat) ({ cls := "VaneCourt", name := "writes", desc := "([III)V" } : Jvm.MethodName)) ∈ lw_all := lw_g (lw_at lw_m4 192 rfl) rfl
theorem q1049 : (Jvm.Cond.static ({ cls := "VaneCourt", name := "writes", desc := "([III)V" } : Jvm.MethodName)) ∈ lw_all := lw_g (lw_at lw_m4 193 rfl) rfl
theorem q1050 : (Jvm.Cond.code ({ cls := "VaneCourt", name := "writes", desc := "([III)V" } : Jvm.MethodName) prog_1_method_20_code (4 : Nat) (Option.none : Option Jvm.ClassFile.FieldType)) ∈ lw_all := lw_g (lw_at lw_m4 194 rfl) rfl
theorem q1051 : (Jvm.Cond.methodLink "VaneCourt" (161 : Nat) ({ cls := "java/lang/System", name := "arraycopy", desc := "(Ljava/lang/Object;ILjava/lang/Object;II)V" } : Jvm.MethodName)) ∈ lw_all := lw_g (lw_at lw_m4 195 rfl) rfl
theorem q1052 : (Jvm.Cond.methodLink "VaneCourt" (179 : Nat) ({ cls := "VaneCourt", name := "leaves", desc := "([I)V" } : Jvm.MethodName)) ∈ lw_all := lw_g (lw_at lw_m4 196 rfl) rfl
theorem q1053 : (Jvm.Cond.static ({ cls := "VaneCourt", name := "leaves", desc := "([I)V" } : Jvm.MethodName)) ∈ lw_all := lw_g (lw_at lw_m4 197 rfl) rfl
theorem q1054 : (Jvm.Cond.code ({ cls := "VaneCourt", name := "leaves", desc := "([I)V" } : Jvm.MethodName) prog_1_method_21_code (1 : Nat) (Option.none : Option Jvm.ClassFile.FieldType)) ∈ lw_all := lw_g (lw_at lw_m4 198 rfl) rfl
theorem q1055 : (Jvm.Cond.methodLink "VaneCourt" (199 : Nat) ({ cls := "VaneCourt", name := "draw", desc := "([I)I" } : Jvm.MethodName)) ∈ lw_all := lw_g (lw_at lw_m4 199 rfl) rfl
theorem q1056 : (Jvm.Cond.static ({ cls := "VaneCourt", name := "draw", desc := "([I)I" } : Jvm.MethodName)) ∈ lw_all := lw_g (lw_at lw_m4 200 rfl) rfl
theorem q1057 : (Jvm.Cond.code ({ cls := "VaneCourt", name := "draw", desc := "([I)I" } : Jvm.MethodName) prog_1_method_24_code (2 : Nat) (Option.some Jvm.ClassFile.FieldType.int)) ∈ lw_all := lw_g (lw_at lw_m4 201 rfl) rfl
theorem q1058 : (Jvm.Cond.methodLink "VaneCourt" (193 : Nat) ({ cls := "VaneCourt", name := "draws", desc := "([I)V" } : Jvm.MethodName)) ∈ lw_all := lw_g (lw_at lw_m4 202 rfl) rfl
theorem q1059 : (Jvm.Cond.static ({ cls := "VaneCourt", name := "draws", desc := "([I)V" } : Jvm.MethodName)) ∈ lw_all := lw_g (lw_at lw_m4 203 rfl) rfl
theorem q1060 : (Jvm.Cond.code ({ cls := "VaneCourt", name := "draws", desc := "([I)V" } : Jvm.MethodName) prog_1_method_25_code (1 : Nat) (Option.none : Option Jvm.ClassFile.FieldType)) ∈ lw_all := lw_g (lw_at lw_m4 204 rfl) rfl
theorem q1061 : (Jvm.Cond.methodLink "VaneCourt" (203 : Nat) ({ cls := "VaneCourt", name := "blows", desc := "([II)V" } : Jvm.MethodName)) ∈ lw_all := lw_g (lw_at lw_m4 205 rfl) rfl
theorem q1062 : (Jvm.Cond.privateMethod ({ cls := "VaneCourt", name := "blows", desc := "([II)V" } : Jvm.MethodName)) ∈ lw_tbl := lw_at lw_m4 206 rfl
theorem q1063 : (Jvm.Cond.instanceMethod ({ cls := "VaneCourt", name := "blows", desc := "([II)V" } : Jvm.MethodName)) ∈ lw_all := lw_g (lw_at lw_m4 207 rfl) rfl
theorem q1064 : (Jvm.Cond.code ({ cls := "VaneCourt", name := "blows", desc := "([II)V" } : Jvm.MethodName) prog_1_method_23_code (6 : Nat) (Option.none : Option Jvm.ClassFile.FieldType)) ∈ lw_all := lw_g (lw_at lw_m4 208 rfl) rfl
theorem q1066 : (Jvm.Cond.instanceMethod ({ cls := "VaneCourt", name := "call", desc := "(I)Z" } : Jvm.MethodName)) ∈ lw_all := lw_g (lw_at lw_m4 210 rfl) rfl
theorem q1067 : (Jvm.Cond.selects "VaneCourt" ({ cls := "VaneCourt", name := "call", desc := "(I)Z" } : Jvm.MethodName) ({ cls := "VaneCourt", name := "call", desc := "(I)Z" } : Jvm.MethodName)) ∈ lw_all := lw_g (lw_at lw_m4 211 rfl) rfl
theorem q1068 : (Jvm.Cond.code ({ cls := "VaneCourt", name := "call", desc := "(I)Z" } : Jvm.MethodName) prog_1_method_31_code (2 : Nat) (Option.some Jvm.ClassFile.FieldType.boolean)) ∈ lw_all := lw_g (lw_at lw_m4 212 rfl) rfl
theorem q1069 : (Jvm.Cond.methodLink "VaneCourt" (220 : Nat) ({ cls := "VaneCourt", name := "canCall", desc := "(I)Z" } : Jvm.MethodName)) ∈ lw_all := lw_g (lw_at lw_m4 213 rfl) rfl
theorem q1070 : (Jvm.Cond.privateMethod ({ cls := "VaneCourt", name := "canCall", desc := "(I)Z" } : Jvm.MethodName)) ∈ lw_tbl := lw_at lw_m4 214 rfl
theorem q1071 : (Jvm.Cond.instanceMethod ({ cls := "VaneCourt", name := "canCall", desc := "(I)Z" } : Jvm.MethodName)) ∈ lw_all := lw_g (lw_at lw_m4 215 rfl) rfl
theorem q1072 : (Jvm.Cond.code ({ cls := "VaneCourt", name := "canCall", desc := "(I)Z" } : Jvm.MethodName) prog_1_method_30_code (2 : Nat) (Option.some Jvm.ClassFile.FieldType.boolean)) ∈ lw_all := lw_g (lw_at lw_m4 216 rfl) rfl
theorem q1073 : (Jvm.Cond.methodLink "VaneCourt" (217 : Nat) ({ cls := "VaneCourt", name := "waits", desc := "(I)Z" } : Jvm.MethodName)) ∈ lw_all := lw_g (lw_at lw_m4 217 rfl) rfl
theorem q1074 : (Jvm.Cond.privateMethod ({ cls := "VaneCourt", name := "waits", desc := "(I)Z" } : Jvm.MethodName)) ∈ lw_tbl := lw_at lw_m4 218 rfl
theorem q1075 : (Jvm.Cond.instanceMethod ({ cls := "VaneCourt", name := "waits", desc := "(I)Z" } : Jvm.MethodName)) ∈ lw_all := lw_g (lw_at lw_m4 219 rfl) rfl
theorem q1076 : (Jvm.Cond.code ({ cls := "VaneCourt", name := "waits", desc := "(I)Z" } : Jvm.MethodName) prog_1_method_29_code (2 : Nat) (Option.some Jvm.ClassFile.FieldType.boolean)) ∈ lw_all := lw_g (lw_at lw_m4 220 rfl) rfl
theorem q1077 : (Jvm.Cond.methodLink "VaneCourt" (214 : Nat) ({ cls := "VaneCourt", name := "isCase", desc := "(I)Z" } : Jvm.MethodName)) ∈ lw_all := lw_g (lw_at lw_m4 221 rfl) rfl
theorem q1078 : (Jvm.Cond.privateMethod ({ cls := "VaneCourt", name := "isCase", desc := "(I)Z" } : Jvm.MethodName)) ∈ lw_tbl := lw_at lw_m4 222 rfl
theorem q1079 : (Jvm.Cond.instanceMethod ({ cls := "VaneCourt", name := "isCase", desc := "(I)Z" } : Jvm.MethodName)) ∈ lw_all := lw_g (lw_at lw_m4 223 rfl) rfl
theorem q1080 : (Jvm.Cond.code ({ cls := "VaneCourt", name := "isCase", desc := "(I)Z" } : Jvm.MethodName) prog_1_method_5_code (2 : Nat) (Option.some Jvm.ClassFile.FieldType.boolean)) ∈ lw_all := lw_g (lw_at lw_m4 224 rfl) rfl
theorem q1081 : (Jvm.Cond.methodLink "VaneCourt" (223 : Nat) ({ cls := "VaneCourt", name := "calls", desc := "([II)V" } : Jvm.MethodName)) ∈ lw_all := lw_g (lw_at lw_m4 225 rfl) rfl
theorem q1082 : (Jvm.Cond.static ({ cls := "VaneCourt", name := "calls", desc := "([II)V" } : Jvm.MethodName)) ∈ lw_all := lw_g (lw_at lw_m4 226 rfl) rfl
theorem q1083 : (Jvm.Cond.code ({ cls := "VaneCourt", name := "calls", desc := "([II)V" } : Jvm.MethodName) prog_1_method_28_code (2 : Nat) (Option.none : Option Jvm.ClassFile.FieldType)) ∈ lw_all := lw_g (lw_at lw_m4 227 rfl) rfl
theorem q1085 : (Jvm.Cond.instanceMethod ({ cls := "VaneCourt", name := "delay", desc := "()I" } : Jvm.MethodName)) ∈ lw_all := lw_g (lw_at lw_m4 229 rfl) rfl
theorem q1086 : (Jvm.Cond.selects "VaneCourt" ({ cls := "VaneCourt", name := "delay", desc := "()I" } : Jvm.MethodName) ({ cls := "VaneCourt", name := "delay", desc := "()I" } : Jvm.MethodName)) ∈ lw_all := lw_g (lw_at lw_m4 230 rfl) rfl
theorem q1087 : (Jvm.Cond.code ({ cls := "VaneCourt", name := "delay", desc := "()I" } : Jvm.MethodName) prog_1_method_33_code (1 : Nat) (Option.some Jvm.ClassFile.FieldType.int)) ∈ lw_all := lw_g (lw_at lw_m4 231 rfl) rfl
theorem q1088 : (Jvm.Cond.methodLink "VaneCourt" (226 : Nat) ({ cls := "VaneCourt", name := "canDelay", desc := "()Z" } : Jvm.MethodName)) ∈ lw_all := lw_g (lw_at lw_m4 232 rfl) rfl
theorem q1089 : (Jvm.Cond.privateMethod ({ cls := "VaneCourt", name := "canDelay", desc := "()Z" } : Jvm.MethodName)) ∈ lw_tbl := lw_at lw_m4 233 rfl
theorem q1090 : (Jvm.Cond.instanceMethod ({ cls := "VaneCourt", name := "canDelay", desc := "()Z" } : Jvm.MethodName)) ∈ lw_all := lw_g (lw_at lw_m4 234 rfl) rfl
theorem q1091 : (Jvm.Cond.code ({ cls := "VaneCourt", name := "canDelay", desc := "()Z" } : Jvm.MethodName) prog_1_method_32_code (1 : Nat) (Option.some Jvm.ClassFile.FieldType.boolean)) ∈ lw_all := lw_g (lw_at lw_m4 235 rfl) rfl
theorem q1093 : (Jvm.Cond.instanceMethod ({ cls := "VaneCourt", name := "appeal", desc := "(I)Z" } : Jvm.MethodName)) ∈ lw_all := lw_g (lw_at lw_m4 237 rfl) rfl
theorem q1094 : (Jvm.Cond.selects "VaneCourt" ({ cls := "VaneCourt", name := "appeal", desc := "(I)Z" } : Jvm.MethodName) ({ cls := "VaneCourt", name := "appeal", desc := "(I)Z" } : Jvm.MethodName)) ∈ lw_all := lw_g (lw_at lw_m4 238 rfl) rfl
theorem q1095 : (Jvm.Cond.code ({ cls := "VaneCourt", name := "appeal", desc := "(I)Z" } : Jvm.MethodName) prog_1_method_36_code (2 : Nat) (Option.some Jvm.ClassFile.FieldType.boolean)) ∈ lw_all := lw_g (lw_at lw_m4 239 rfl) rfl
theorem q1096 : (Jvm.Cond.methodLink "VaneCourt" (230 : Nat) ({ cls := "VaneCourt", name := "canAppeal", desc := "(I)Z" } : Jvm.MethodName)) ∈ lw_all := lw_g (lw_at lw_m5 0 rfl) rfl
theorem q1097 : (Jvm.Cond.privateMethod ({ cls := "VaneCourt", name := "canAppeal", desc := "(I)Z" } : Jvm.MethodName)) ∈ lw_tbl := lw_at lw_m5 1 rfl
theorem q1098 : (Jvm.Cond.instanceMethod ({ cls := "VaneCourt", name := "canAppeal", desc := "(I)Z" } : Jvm.MethodName)) ∈ lw_all := lw_g (lw_at lw_m5 2 rfl) rfl
theorem q1099 : (Jvm.Cond.code ({ cls := "VaneCourt", name := "canAppeal", desc := "(I)Z" } : Jvm.MethodName) prog_1_method_34_code (2 : Nat) (Option.some Jvm.ClassFile.FieldType.boolean)) ∈ lw_all := lw_g (lw_at lw_m5 3 rfl) rfl
theorem q1100 : (Jvm.Cond.methodLink "VaneCourt" (233 : Nat) ({ cls := "VaneCourt", name := "appeals", desc := "(I)V" } : Jvm.MethodName)) ∈ lw_all := lw_g (lw_at lw_m5 4 rfl) rfl
theorem q1101 : (Jvm.Cond.privateMethod ({ cls := "VaneCourt", name := "appeals", desc := "(I)V" } : Jvm.MethodName)) ∈ lw_tbl := lw_at lw_m5 5 rfl
theorem q1102 : (Jvm.Cond.instanceMethod ({ cls := "VaneCourt", name := "appeals", desc := "(I)V" } : Jvm.MethodName)) ∈ lw_all := lw_g (lw_at lw_m5 6 rfl) rfl
theorem q1103 : (Jvm.Cond.code ({ cls := "VaneCourt", name := "appeals", desc := "(I)V" } : Jvm.MethodName) prog_1_method_35_code (2 : Nat) (Option.none : Option Jvm.ClassFile.FieldType)) ∈ lw_all := lw_g (lw_at lw_m5 7 rfl) rfl
theorem q1105 : (Jvm.Cond.instanceMethod ({ cls := "VaneCourt", name := "gust", desc := "(II)Z" } : Jvm.MethodName)) ∈ lw_all := lw_g (lw_at lw_m5 9 rfl) rfl
theorem q1106 : (Jvm.Cond.selects "VaneCourt" ({ cls := "VaneCourt", name := "gust", desc := "(II)Z" } : Jvm.MethodName) ({ cls := "VaneCourt", name := "gust", desc := "(II)Z" } : Jvm.MethodName)) ∈ lw_all := lw_g (lw_at lw_m5 10 rfl) rfl
theorem q1107 : (Jvm.Cond.code ({ cls := "VaneCourt", name := "gust", desc := "(II)Z" } : Jvm.MethodName) prog_1_method_37_code (3 : Nat) (Option.some Jvm.ClassFile.FieldType.boolean)) ∈ lw_all := lw_g (lw_at lw_m5 11 rfl) rfl
theorem q1109 : (Jvm.Cond.instanceMethod ({ cls := "VaneCourt", name := "withdraw", desc := "()I" } : Jvm.MethodName)) ∈ lw_all := lw_g (lw_at lw_m5 13 rfl) rfl
theorem q1110 : (Jvm.Cond.selects "VaneCourt" ({ cls := "VaneCourt", name := "withdraw", desc := "()I" } : Jvm.MethodName) ({ cls := "VaneCourt", name := "withdraw", desc := "()I" } : Jvm.MethodName)) ∈ lw_all := lw_g (lw_at lw_m5 14 rfl) rfl
theorem q1111 : (Jvm.Cond.code ({ cls := "VaneCourt", name := "withdraw", desc := "()I" } : Jvm.MethodName) prog_1_method_39_code (2 : Nat) (Option.some Jvm.ClassFile.FieldType.int)) ∈ lw_all := lw_g (lw_at lw_m5 15 rfl) rfl
theorem q1112 : (Jvm.Cond.methodLink "VaneCourt" (236 : Nat) ({ cls := "VaneCourt", name := "withdraws", desc := "([I)V" } : Jvm.MethodName)) ∈ lw_all := lw_g (lw_at lw_m5 16 rfl) rfl
theorem q1113 : (Jvm.Cond.static ({ cls := "VaneCourt", name := "withdraws", desc := "([I)V" } : Jvm.MethodName)) ∈ lw_all := lw_g (lw_at lw_m5 17 rfl) rfl
theorem q1114 : (Jvm.Cond.code ({ cls := "VaneCourt", name := "withdraws", desc := "([I)V" } : Jvm.MethodName) prog_1_method_38_code (1 : Nat) (Option.none : Option Jvm.ClassFile.FieldType)) ∈ lw_all := lw_g (lw_at lw_m5 18 rfl) rfl
theorem q1116 : (Jvm.Cond.instanceMethod ({ cls := "VaneCourt", name := "played", desc := "(I)I" } : Jvm.MethodName)) ∈ lw_all := lw_g (lw_at lw_m5 20 rfl) rfl
theorem q1117 : (Jvm.Cond.selects "VaneCourt" ({ cls := "VaneCourt", name := "played", desc := "(I)I" } : Jvm.MethodName) ({ cls := "VaneCourt", name := "played", desc := "(I)I" } : Jvm.MethodName)) ∈ lw_all := lw_g (lw_at lw_m5 21 rfl) rfl
theorem q1118 : (Jvm.Cond.code ({ cls := "VaneCourt", name := "played", desc := "(I)I" } : Jvm.MethodName) prog_1_method_42_code (4 : Nat) (Option.some Jvm.ClassFile.FieldType.int)) ∈ lw_all := lw_g (lw_at lw_m5 22 rfl) rfl
theorem q1119 : (Jvm.Cond.methodLink "VaneCourt" (283 : Nat) ({ cls := "java/util/ArrayList", name := "size", desc := "()I" } : Jvm.MethodName)) ∈ lw_all := lw_g (lw_at lw_m5 23 rfl) rfl
theorem q1120 : (Jvm.Cond.methodLink "VaneCourt" (288 : Nat) ({ cls := "java/util/ArrayList", name := "get", desc := "(I)Ljava/lang/Object;" } : Jvm.MethodName)) ∈ lw_all := lw_g (lw_at lw_m5 24 rfl) rfl
theorem q1121 : (Jvm.Cond.classLink "VaneCourt" (243 : Nat) "VaneCourt$Doing") ∈ lw_all := lw_g (lw_at lw_m5 25 rfl) rfl
theorem q1122 : (Jvm.Cond.methodLink "VaneCourt" (292 : Nat) ({ cls := "VaneCourt", name := "does", desc := "(LVaneCourt$Doing;)Z" } : Jvm.MethodName)) ∈ lw_all := lw_g (lw_at lw_m5 26 rfl) rfl
theorem q1123 : (Jvm.Cond.privateMethod ({ cls := "VaneCourt", name := "does", desc := "(LVaneCourt$Doing;)Z" } : Jvm.MethodName)) ∈ lw_tbl := lw_at lw_m5 27 rfl
theorem q1124 : (Jvm.Cond.instanceMethod ({ cls := "VaneCourt", name := "does", desc := "(LVaneCourt$Doing;)Z" } : Jvm.MethodName)) ∈ lw_all := lw_g (lw_at lw_m5 28 rfl) rfl
theorem q1125 : (Jvm.Cond.code ({ cls := "VaneCourt", name := "does", desc := "(LVaneCourt$Doing;)Z" } : Jvm.MethodName) prog_1_method_41_code (2 : Nat) (Option.some Jvm.ClassFile.FieldType.boolean)) ∈ lw_all := lw_g (lw_at lw_m5 29 rfl) rfl
theorem q1126 : (Jvm.Cond.methodLink "VaneCourt" (242 : Nat) ({ cls := "VaneCourt$Doing", name := "sort", desc := "()I" } : Jvm.MethodName)) ∈ lw_all := lw_g (lw_at lw_m5 30 rfl) rfl
theorem q1130 : (Jvm.Cond.methodLink "VaneCourt" (248 : Nat) ({ cls := "VaneCourt$Doing", name := "a", desc := "()I" } : Jvm.MethodName)) ∈ lw_all := lw_g (lw_at lw_m5 34 rfl) rfl
theorem q1134 : (Jvm.Cond.methodLink "VaneCourt" (251 : Nat) ({ cls := "VaneCourt$Doing", name := "b", desc := "()I" } : Jvm.MethodName)) ∈ lw_all := lw_g (lw_at lw_m5 38 rfl) rfl
theorem q1138 : (Jvm.Cond.methodLink "VaneCourt" (254 : Nat) ({ cls := "VaneCourt$Doing", name := "c", desc := "()I" } : Jvm.MethodName)) ∈ lw_all := lw_g (lw_at lw_m5 42 rfl) rfl
theorem q1142 : (Jvm.Cond.methodLink "VaneCourt" (257 : Nat) ({ cls := "VaneCourt", name := "newCase", desc := "(IIII)I" } : Jvm.MethodName)) ∈ lw_all := lw_g (lw_at lw_m5 46 rfl) rfl
theorem q1143 : (Jvm.Cond.methodLink "VaneCourt" (261 : Nat) ({ cls := "VaneCourt", name := "call", desc := "(I)Z" } : Jvm.MethodName)) ∈ lw_all := lw_g (lw_at lw_m5 47 rfl) rfl
theorem q1144 : (Jvm.Cond.methodLink "VaneCourt" (264 : Nat) ({ cls := "VaneCourt", name := "delay", desc := "()I" } : Jvm.MethodName)) ∈ lw_all := lw_g (lw_at lw_m5 48 rfl) rfl
theorem q1145 : (Jvm.Cond.methodLink "VaneCourt" (267 : Nat) ({ cls := "VaneCourt", name := "appeal", desc := "(I)Z" } : Jvm.MethodName)) ∈ lw_all := lw_g (lw_at lw_m5 49 rfl) rfl
theorem q1146 : (Jvm.Cond.methodLink "VaneCourt" (270 : Nat) ({ cls := "VaneCourt", name := "gust", desc := "(II)Z" } : Jvm.MethodName)) ∈ lw_all := lw_g (lw_at lw_m5 50 rfl) rfl
theorem q1147 : (Jvm.Cond.methodLink "VaneCourt" (273 : Nat) ({ cls := "VaneCourt", name := "withdraw", desc := "()I" } : Jvm.MethodName)) ∈ lw_all := lw_g (lw_at lw_m5 51 rfl) rfl
theorem q1148 : (Jvm.Cond.methodLink "VaneCourt" (276 : Nat) ({ cls := "VaneCourt", name := "passesAll", desc := "(I)Z" } : Jvm.MethodName)) ∈ lw_all := lw_g (lw_at lw_m5 52 rfl) rfl
theorem q1149 : (Jvm.Cond.privateMethod ({ cls := "VaneCourt", name := "passesAll", desc := "(I)Z" } : Jvm.MethodName)) ∈ lw_tbl := lw_at lw_m5 53 rfl
theorem q1150 : (Jvm.Cond.instanceMethod ({ cls := "VaneCourt", name := "passesAll", desc := "(I)Z" } : Jvm.MethodName)) ∈ lw_all := lw_g (lw_at lw_m5 54 rfl) rfl
theorem q1151 : (Jvm.Cond.code ({ cls := "VaneCourt", name := "passesAll", desc := "(I)Z" } : Jvm.MethodName) prog_1_method_40_code (3 : Nat) (Option.some Jvm.ClassFile.FieldType.boolean)) ∈ lw_all := lw_g (lw_at lw_m5 55 rfl) rfl
theorem q1152 : (Jvm.Cond.methodLink "VaneCourt" (239 : Nat) ({ cls := "VaneCourt", name := "hour", desc := "(I)I" } : Jvm.MethodName)) ∈ lw_all := lw_g (lw_at lw_m5 56 rfl) rfl
theorem q1153 : (Jvm.Cond.methodLink "VaneCourt" (296 : Nat) ({ cls := "VaneCourt$Doing", name := "number", desc := "()I" } : Jvm.MethodName)) ∈ lw_all := lw_g (lw_at lw_m5 57 rfl) rfl
theorem q1158 : (Jvm.Cond.instanceMethod ({ cls := "VaneCourt", name := "decades", desc := "(II)I" } : Jvm.MethodName)) ∈ lw_all := lw_g (lw_at lw_m5 62 rfl) rfl
theorem q1159 : (Jvm.Cond.selects "VaneCourt" ({ cls := "VaneCourt", name := "decades", desc := "(II)I" } : Jvm.MethodName) ({ cls := "VaneCourt", name := "decades", desc := "(II)I" } : Jvm.MethodName)) ∈ lw_all := lw_g (lw_at lw_m5 63 rfl) rfl
theorem q1160 : (Jvm.Cond.code ({ cls := "VaneCourt", name := "decades", desc := "(II)I" } : Jvm.MethodName) prog_1_method_44_code (5 : Nat) (Option.some Jvm.ClassFile.FieldType.int)) ∈ lw_all := lw_g (lw_at lw_m5 64 rfl) rfl
theorem q1161 : (Jvm.Cond.methodLink "VaneCourt" (299 : Nat) ({ cls := "VaneCourt", name := "happens", desc := "(I)V" } : Jvm.MethodName)) ∈ lw_all := lw_g (lw_at lw_m5 65 rfl) rfl
theorem q1162 : (Jvm.Cond.privateMethod ({ cls := "VaneCourt", name := "happens", desc := "(I)V" } : Jvm.MethodName)) ∈ lw_tbl := lw_at lw_m5 66 rfl
theorem q1163 : (Jvm.Cond.instanceMethod ({ cls := "VaneCourt", name := "happens", desc := "(I)V" } : Jvm.MethodName)) ∈ lw_all := lw_g (lw_at lw_m5 67 rfl) rfl
theorem q1164 : (Jvm.Cond.code ({ cls := "VaneCourt", name := "happens", desc := "(I)V" } : Jvm.MethodName) prog_1_method_43_code (4 : Nat) (Option.none : Option Jvm.ClassFile.FieldType)) ∈ lw_all := lw_g (lw_at lw_m5 68 rfl) rfl
theorem q1166 : (Jvm.Cond.instanceMethod ({ cls := "VaneCourt", name := "undo", desc := "()I" } : Jvm.MethodName)) ∈ lw_all := lw_g (lw_at lw_m5 70 rfl) rfl
theorem q1167 : (Jvm.Cond.selects "VaneCourt" ({ cls := "VaneCourt", name := "undo", desc := "()I" } : Jvm.MethodName) ({ cls := "VaneCourt", name := "undo", desc := "()I" } : Jvm.MethodName)) ∈ lw_all := lw_g (lw_at lw_m5 71 rfl) rfl
theorem q1168 : (Jvm.Cond.code ({ cls := "VaneCourt", name := "undo", desc := "()I" } : Jvm.MethodName) prog_1_method_45_code (1 : Nat) (Option.some Jvm.ClassFile.FieldType.int)) ∈ lw_all := lw_g (lw_at lw_m5 72 rfl) rfl
theorem q1169 : (Jvm.Cond.methodLinkNest "VaneCourt" (305 : Nat) ({ cls := "VaneCourt$State", name := "copy", desc := "([I[I)V" } : Jvm.MethodName) "VaneCourt") ∈ lw_tbl := lw_at lw_m5 73 rfl
theorem q1171 : (Jvm.Cond.instanceMethod ({ cls := "VaneCourt", name := "ofCase", desc := "(II)I" } : Jvm.MethodName)) ∈ lw_all := lw_g (lw_at lw_m5 75 rfl) rfl
theorem q1172 : (Jvm.Cond.selects "VaneCourt" ({ cls := "VaneCourt", name := "ofCase", desc := "(II)I" } : Jvm.MethodName) ({ cls := "VaneCourt", name := "ofCase", desc := "(II)I" } : Jvm.MethodName)) ∈ lw_all := lw_g (lw_at lw_m5 76 rfl) rfl
theorem q1173 : (Jvm.Cond.code ({ cls := "VaneCourt", name := "ofCase", desc := "(II)I" } : Jvm.MethodName) prog_1_method_46_code (3 : Nat) (Option.some Jvm.ClassFile.FieldType.int)) ∈ lw_all := lw_g (lw_at lw_m5 77 rfl) rfl
theorem q1175 : (Jvm.Cond.instanceMethod ({ cls := "VaneCourt", name := "is", desc := "(I)I" } : Jvm.MethodName)) ∈ lw_all := lw_g (lw_at lw_m5 79 rfl) rfl
theorem q1176 : (Jvm.Cond.selects "VaneCourt" ({ cls := "VaneCourt", name := "is", desc := "(I)I" } : Jvm.MethodName) ({ cls := "VaneCourt", name := "is", desc := "(I)I" } : Jvm.MethodName)) ∈ lw_all := lw_g (lw_at lw_m5 80 rfl) rfl
theorem q1177 : (Jvm.Cond.code ({ cls := "VaneCourt", name := "is", desc := "(I)I" } : Jvm.MethodName) prog_1_method_47_code (2 : Nat) (Option.some Jvm.ClassFile.FieldType.int)) ∈ lw_all := lw_g (lw_at lw_m5 81 rfl) rfl
theorem q1179 : (Jvm.Cond.instanceMethod ({ cls := "VaneCourt", name := "book", desc := "(II)I" } : Jvm.MethodName)) ∈ lw_all := lw_g (lw_at lw_m5 83 rfl) rfl
theorem q1180 : (Jvm.Cond.selects "VaneCourt" ({ cls := "VaneCourt", name := "book", desc := "(II)I" } : Jvm.MethodName) ({ cls := "VaneCourt", name := "book", desc := "(II)I" } : Jvm.MethodName)) ∈ lw_all := lw_g (lw_at lw_m5 84 rfl) rfl
theorem q1181 : (Jvm.Cond.code ({ cls := "VaneCourt", name := "book", desc := "(II)I" } : Jvm.MethodName) prog_1_method_48_code (3 : Nat) (Option.some Jvm.ClassFile.FieldType.int)) ∈ lw_all := lw_g (lw_at lw_m5 85 rfl) rfl
theorem q1183 : (Jvm.Cond.instanceMethod ({ cls := "VaneCourt", name := "foretold", desc := "(II)I" } : Jvm.MethodName)) ∈ lw_all := lw_g (lw_at lw_m5 87 rfl) rfl
theorem q1184 : (Jvm.Cond.selects "VaneCourt" ({ cls := "VaneCourt", name := "foretold", desc := "(II)I" } : Jvm.MethodName) ({ cls := "VaneCourt", name := "foretold", desc := "(II)I" } : Jvm.MethodName)) ∈ lw_all := lw_g (lw_at lw_m5 88 rfl) rfl
theorem q1185 : (Jvm.Cond.code ({ cls := "VaneCourt", name := "foretold", desc := "(II)I" } : Jvm.MethodName) prog_1_method_50_code (4 : Nat) (Option.some Jvm.ClassFile.FieldType.int)) ∈ lw_all := lw_g (lw_at lw_m5 89 rfl) rfl
theorem q1186 : (Jvm.Cond.methodLink "VaneCourt" (309 : Nat) ({ cls := "VaneCourt", name := "goes", desc := "(I)Z" } : Jvm.MethodName)) ∈ lw_all := lw_g (lw_at lw_m5 90 rfl) rfl
theorem q1187 : (Jvm.Cond.privateMethod ({ cls := "VaneCourt", name := "goes", desc := "(I)Z" } : Jvm.MethodName)) ∈ lw_tbl := lw_at lw_m5 91 rfl
theorem q1188 : (Jvm.Cond.instanceMethod ({ cls := "VaneCourt", name := "goes", desc := "(I)Z" } : Jvm.MethodName)) ∈ lw_all := lw_g (lw_at lw_m5 92 rfl) rfl
theorem q1189 : (Jvm.Cond.code ({ cls := "VaneCourt", name := "goes", desc := "(I)Z" } : Jvm.MethodName) prog_1_method_49_code (4 : Nat) (Option.some Jvm.ClassFile.FieldType.boolean)) ∈ lw_all := lw_g (lw_at lw_m5 93 rfl) rfl
theorem q1191 : (Jvm.Cond.instanceMethod ({ cls := "VaneCourt", name := "ends", desc := "(IIII)I" } : Jvm.MethodName)) ∈ lw_all := lw_g (lw_at lw_m5 95 rfl) rfl
theorem q1192 : (Jvm.Cond.selects "VaneCourt" ({ cls := "VaneCourt", name := "ends", desc := "(IIII)I" } : Jvm.MethodName) ({ cls := "VaneCourt", name := "ends", desc := "(IIII)I" } : Jvm.MethodName)) ∈ lw_all := lw_g (lw_at lw_m5 96 rfl) rfl
theorem q1193 : (Jvm.Cond.code ({ cls := "VaneCourt", name := "ends", desc := "(IIII)I" } : Jvm.MethodName) prog_1_method_53_code (5 : Nat) (Option.some Jvm.ClassFile.FieldType.int)) ∈ lw_all := lw_g (lw_at lw_m5 97 rfl) rfl
theorem q1194 : (Jvm.Cond.methodLink "VaneCourt" (315 : Nat) ({ cls := "VaneCourt", name := "endsIn", desc := "(III)Z" } : Jvm.MethodName)) ∈ lw_all := lw_g (lw_at lw_m5 98 rfl) rfl
theorem q1195 : (Jvm.Cond.privateMethod ({ cls := "VaneCourt", name := "endsIn", desc := "(III)Z" } : Jvm.MethodName)) ∈ lw_tbl := lw_at lw_m5 99 rfl
theorem q1196 : (Jvm.Cond.instanceMethod ({ cls := "VaneCourt", name := "endsIn", desc := "(III)Z" } : Jvm.MethodName)) ∈ lw_all := lw_g (lw_at lw_m5 100 rfl) rfl
theorem q1197 : (Jvm.Cond.code ({ cls := "VaneCourt", name := "endsIn", desc := "(III)Z" } : Jvm.MethodName) prog_1_method_52_code (4 : Nat) (Option.some Jvm.ClassFile.FieldType.boolean)) ∈ lw_all := lw_g (lw_at lw_m5 101 rfl) rfl
theorem q1198 : (Jvm.Cond.methodLink "VaneCourt" (312 : Nat) ({ cls := "VaneCourt", name := "endsTried", desc := "(II)Z" } : Jvm.MethodName)) ∈ lw_all := lw_g (lw_at lw_m5 102 rfl) rfl
theorem q1199 : (Jvm.Cond.privateMethod ({ cls := "VaneCourt", name := "endsTried", desc := "(II)Z" } : Jvm.MethodName)) ∈ lw_tbl := lw_at lw_m5 103 rfl
theorem q1200 : (Jvm.Cond.instanceMethod ({ cls := "VaneCourt", name := "endsTried", desc := "(II)Z" } : Jvm.MethodName)) ∈ lw_all := lw_g (lw_at lw_m5 104 rfl) rfl
theorem q1201 : (Jvm.Cond.code ({ cls := "VaneCourt", name := "endsTried", desc := "(II)Z" } : Jvm.MethodName) prog_1_method_51_code (3 : Nat) (Option.some Jvm.ClassFile.FieldType.boolean)) ∈ lw_all := lw_g (lw_at lw_m5 105 rfl) rfl
theorem q1203 : (Jvm.Cond.instanceMethod ({ cls := "VaneCourt", name := "best", desc := "(IZI)I" } : Jvm.MethodName)) ∈ lw_all := lw_g (lw_at lw_m5 107 rfl) rfl
theorem q1204 : (Jvm.Cond.selects "VaneCourt" ({ cls := "VaneCourt", name := "best", desc := "(IZI)I" } : Jvm.MethodName) ({ cls := "VaneCourt", name := "best", desc := "(IZI)I" } : Jvm.MethodName)) ∈ lw_all := lw_g (lw_at lw_m5 108 rfl) rfl
theorem q1205 : (Jvm.Cond.code ({ cls := "VaneCourt", name := "best", desc := "(IZI)I" } : Jvm.MethodName) prog_1_method_54_code (8 : Nat) (Option.some Jvm.ClassFile.FieldType.int)) ∈ lw_all := lw_g (lw_at lw_m5 109 rfl) rfl
theorem q1207 : (Jvm.Cond.instanceMethod ({ cls := "VaneCourt", name := "harshest", desc := "(I)I" } : Jvm.MethodName)) ∈ lw_all := lw_g (lw_at lw_m5 111 rfl) rfl
theorem q1208 : (Jvm.Cond.selects "VaneCourt" ({ cls := "VaneCourt", name := "harshest", desc := "(I)I" } : Jvm.MethodName) ({ cls := "VaneCourt", name := "harshest", desc := "(I)I" } : Jvm.MethodName)) ∈ lw_all := lw_g (lw_at lw_m5 112 rfl) rfl
theorem q1209 : (Jvm.Cond.code ({ cls := "VaneCourt", name := "harshest", desc := "(I)I" } : Jvm.MethodName) prog_1_method_55_code (5 : Nat) (Option.some Jvm.ClassFile.FieldType.int)) ∈ lw_all := lw_g (lw_at lw_m5 113 rfl) rfl
theorem q1210 : (Jvm.Cond.methodLink "VaneCourt" (318 : Nat) ({ cls := "java/lang/Math", name := "max", desc := "(II)I" } : Jvm.MethodName)) ∈ lw_all := lw_g (lw_at lw_m5 114 rfl) rfl
theorem q1212 : (Jvm.Cond.instanceMethod ({ cls := "VaneCourt", name := "odds", desc := "(Z)J" } : Jvm.MethodName)) ∈ lw_all := lw_g (lw_at lw_m5 116 rfl) rfl
theorem q1213 : (Jvm.Cond.selects "VaneCourt" ({ cls := "VaneCourt", name := "odds", desc := "(Z)J" } : Jvm.MethodName) ({ cls := "VaneCourt", name := "odds", desc := "(Z)J" } : Jvm.MethodName)) ∈ lw_all := lw_g (lw_at lw_m5 117 rfl) rfl
theorem q1214 : (Jvm.Cond.code ({ cls := "VaneCourt", name := "odds", desc := "(Z)J" } : Jvm.MethodName) prog_1_method_59_code (8 : Nat) (Option.some Jvm.ClassFile.FieldType.long)) ∈ lw_all := lw_g (lw_at lw_m5 118 rfl) rfl
theorem q1215 : (Jvm.Cond.constantLong "VaneCourt" (331 : Nat) (-1 : Int64)) ∈ lw_all := lw_g (lw_at lw_m5 119 rfl) rfl
theorem q1216 : (Jvm.Cond.methodLink "VaneCourt" (321 : Nat) ({ cls := "VaneCourt", name := "guiltyBy", desc := "(III)I" } : Jvm.MethodName)) ∈ lw_all := lw_g (lw_at lw_m5 120 rfl) rfl
theorem q1217 : (Jvm.Cond.privateMethod ({ cls := "VaneCourt", name := "guiltyBy", desc := "(III)I" } : Jvm.MethodName)) ∈ lw_tbl := lw_at lw_m5 121 rfl
theorem q1218 : (Jvm.Cond.instanceMethod ({ cls := "VaneCourt", name := "guiltyBy", desc := "(III)I" } : Jvm.MethodName)) ∈ lw_all := lw_g (lw_at lw_m5 122 rfl) rfl
theorem q1219 : (Jvm.Cond.code ({ cls := "VaneCourt", name := "guiltyBy", desc := "(III)I" } : Jvm.MethodName) prog_1_method_56_code (7 : Nat) (Option.some Jvm.ClassFile.FieldType.int)) ∈ lw_all := lw_g (lw_at lw_m5 123 rfl) rfl
theorem q1220 : (Jvm.Cond.methodLink "VaneCourt" (328 : Nat) ({ cls := "VaneCourt", name := "tens", desc := "(I)I" } : Jvm.MethodName)) ∈ lw_all := lw_g (lw_at lw_m5 124 rfl) rfl
theorem q1221 : (Jvm.Cond.static ({ cls := "VaneCourt", name := "tens", desc := "(I)I" } : Jvm.MethodName)) ∈ lw_all := lw_g (lw_at lw_m5 125 rfl) rfl
theorem q1222 : (Jvm.Cond.code ({ cls := "VaneCourt", name := "tens", desc := "(I)I" } : Jvm.MethodName) prog_1_method_58_code (1 : Nat) (Option.some Jvm.ClassFile.FieldType.int)) ∈ lw_all := lw_g (lw_at lw_m5 126 rfl) rfl
theorem q1223 : (Jvm.Cond.methodLink "VaneCourt" (325 : Nat) ({ cls := "VaneCourt", name := "common", desc := "(JJ)J" } : Jvm.MethodName)) ∈ lw_all := lw_g (lw_at lw_m5 127 rfl) rfl
theorem q1224 : (Jvm.Cond.static ({ cls := "VaneCourt", name := "common", desc := "(JJ)J" } : Jvm.MethodName)) ∈ lw_all := lw_g (lw_at lw_m5 128 rfl) rfl
theorem q1225 : (Jvm.Cond.code ({ cls := "VaneCourt", name := "common", desc := "(JJ)J" } : Jvm.MethodName) prog_1_method_57_code (4 : Nat) (Option.some Jvm.ClassFile.FieldType.long)) ∈ lw_all := lw_g (lw_at lw_m5 129 rfl) rfl
theorem q1227 : (Jvm.Cond.instanceMethod ({ cls := "VaneCourt", name := "clash", desc := "(I)I" } : Jvm.MethodName)) ∈ lw_all := lw_g (lw_at lw_m5 131 rfl) rfl
theorem q1228 : (Jvm.Cond.selects "VaneCourt" ({ cls := "VaneCourt", name := "clash", desc := "(I)I" } : Jvm.MethodName) ({ cls := "VaneCourt", name := "clash", desc := "(I)I" } : Jvm.MethodName)) ∈ lw_all := lw_g (lw_at lw_m5 132 rfl) rfl
theorem q1229 : (Jvm.Cond.code ({ cls := "VaneCourt", name := "clash", desc := "(I)I" } : Jvm.MethodName) prog_1_method_61_code (2 : Nat) (Option.some Jvm.ClassFile.FieldType.int)) ∈ lw_all := lw_g (lw_at lw_m5 133 rfl) rfl
theorem q1230 : (Jvm.Cond.methodLink "VaneCourt" (333 : Nat) ({ cls := "VaneCourt", name := "guiltyCodes", desc := "(II)I" } : Jvm.MethodName)) ∈ lw_all := lw_g (lw_at lw_m5 134 rfl) rfl
theorem q1231 : (Jvm.Cond.privateMethod ({ cls := "VaneCourt", name := "guiltyCodes", desc := "(II)I" } : Jvm.MethodName)) ∈ lw_tbl := lw_at lw_m5 135 rfl
theorem q1232 : (Jvm.Cond.instanceMethod ({ cls := "VaneCourt", name := "guiltyCodes", desc := "(II)I" } : Jvm.MethodName)) ∈ lw_all := lw_g (lw_at lw_m5 136 rfl) rfl
theorem q1233 : (Jvm.Cond.code ({ cls := "VaneCourt", name := "guiltyCodes", desc := "(II)I" } : Jvm.MethodName) prog_1_method_60_code (5 : Nat) (Option.some Jvm.ClassFile.FieldType.int)) ∈ lw_all := lw_g (lw_at lw_m5 137 rfl) rfl
theorem q1235 : (Jvm.Cond.instanceMethod ({ cls := "VaneCourt", name := "leastFacts", desc := "(I)I" } : Jvm.MethodName)) ∈ lw_all := lw_g (lw_at lw_m5 139 rfl) rfl
theorem q1236 : (Jvm.Cond.selects "VaneCourt" ({ cls := "VaneCourt", name := "leastFacts", desc := "(I)I" } : Jvm.MethodName) ({ cls := "VaneCourt", name := "leastFacts", desc := "(I)I" } : Jvm.MethodName)) ∈ lw_all := lw_g (lw_at lw_m5 140 rfl) rfl
theorem q1237 : (Jvm.Cond.code ({ cls := "VaneCourt", name := "leastFacts", desc := "(I)I" } : Jvm.MethodName) prog_1_method_62_code (5 : Nat) (Option.some Jvm.ClassFile.FieldType.int)) ∈ lw_all := lw_g (lw_at lw_m5 141 rfl) rfl
theorem q1239 : (Jvm.Cond.instanceMethod ({ cls := "VaneCourt", name := "game", desc := "(IZZ)I" } : Jvm.MethodName)) ∈ lw_all := lw_g (lw_at lw_m5 143 rfl) rfl
theorem q1240 : (Jvm.Cond.selects "VaneCourt" ({ cls := "VaneCourt", name := "game", desc := "(IZZ)I" } : Jvm.MethodName) ({ cls := "VaneCourt", name := "game", desc := "(IZZ)I" } : Jvm.MethodName)) ∈ lw_all := lw_g (lw_at lw_m5 144 rfl) rfl
theorem q1241 : (Jvm.Cond.code ({ cls := "VaneCourt", name := "game", desc := "(IZZ)I" } : Jvm.MethodName) prog_1_method_64_code (5 : Nat) (Option.some Jvm.ClassFile.FieldType.int)) ∈ lw_all := lw_g (lw_at lw_m5 145 rfl) rfl
theorem q1242 : (Jvm.Cond.constant "VaneCourt" (342 : Nat) (100000 : Int32)) ∈ lw_all := lw_g (lw_at lw_m5 146 rfl) rfl
theorem q1243 : (Jvm.Cond.methodLink "VaneCourt" (336 : Nat) ({ cls := "VaneCourt", name := "plays", desc := "(IIZ)I" } : Jvm.MethodName)) ∈ lw_all := lw_g (lw_at lw_m5 147 rfl) rfl
theorem q1244 : (Jvm.Cond.privateMethod ({ cls := "VaneCourt", name := "plays", desc := "(IIZ)I" } : Jvm.MethodName)) ∈ lw_tbl := lw_at lw_m5 148 rfl
theorem q1245 : (Jvm.Cond.instanceMethod ({ cls := "VaneCourt", name := "plays", desc := "(IIZ)I" } : Jvm.MethodName)) ∈ lw_all := lw_g (lw_at lw_m5 149 rfl) rfl
theorem q1246 : (Jvm.Cond.code ({ cls := "VaneCourt", name := "plays", desc := "(IIZ)I" } : Jvm.MethodName) prog_1_method_63_code (6 : Nat) (Option.some Jvm.ClassFile.FieldType.int)) ∈ lw_all := lw_g (lw_at lw_m5 150 rfl) rfl
theorem q1247 : (Jvm.Cond.methodLink "VaneCourt" (340 : Nat) ({ cls := "java/lang/Math", name := "min", desc := "(II)I" } : Jvm.MethodName)) ∈ lw_all := lw_g (lw_at lw_m5 151 rfl) rfl
theorem q1249 : (Jvm.Cond.instanceMethod ({ cls := "VaneCourt", name := "session", desc := "(II)I" } : Jvm.MethodName)) ∈ lw_all := lw_g (lw_at lw_m5 153 rfl) rfl
theorem q1250 : (Jvm.Cond.selects "VaneCourt" ({ cls := "VaneCourt", name := "session", desc := "(II)I" } : Jvm.MethodName) ({ cls := "VaneCourt", name := "session", desc := "(II)I" } : Jvm.MethodName)) ∈ lw_all := lw_g (lw_at lw_m5 154 rfl) rfl
theorem q1251 : (Jvm.Cond.code ({ cls := "VaneCourt", name := "session", desc := "(II)I" } : Jvm.MethodName) prog_1_method_67_code (4 : Nat) (Option.some Jvm.ClassFile.FieldType.int)) ∈ lw_all := lw_g (lw_at lw_m5 155 rfl) rfl
theorem q1252 : (Jvm.Cond.methodLink "VaneCourt" (349 : Nat) ({ cls := "VaneCourt", name := "orders", desc := "(II)V" } : Jvm.MethodName)) ∈ lw_all := lw_g (lw_at lw_m5 156 rfl) rfl
theorem q1253 : (Jvm.Cond.privateMethod ({ cls := "VaneCourt", name := "orders", desc := "(II)V" } : Jvm.MethodName)) ∈ lw_tbl := lw_at lw_m5 157 rfl
theorem q1254 : (Jvm.Cond.instanceMethod ({ cls := "VaneCourt", name := "orders", desc := "(II)V" } : Jvm.MethodName)) ∈ lw_all := lw_g (lw_at lw_m5 158 rfl) rfl
theorem q1255 : (Jvm.Cond.code ({ cls := "VaneCourt", name := "orders", desc := "(II)V" } : Jvm.MethodName) prog_1_method_66_code (4 : Nat) (Option.none : Option Jvm.ClassFile.FieldType)) ∈ lw_all := lw_g (lw_at lw_m5 159 rfl) rfl
theorem q1256 : (Jvm.Cond.methodLink "VaneCourt" (343 : Nat) ({ cls := "VaneCourt", name := "sessionBy", desc := "(I)I" } : Jvm.MethodName)) ∈ lw_all := lw_g (lw_at lw_m5 160 rfl) rfl
theorem q1257 : (Jvm.Cond.privateMethod ({ cls := "VaneCourt", name := "sessionBy", desc := "(I)I" } : Jvm.MethodName)) ∈ lw_tbl := lw_at lw_m5 161 rfl
theorem q1258 : (Jvm.Cond.instanceMethod ({ cls := "VaneCourt", name := "sessionBy", desc := "(I)I" } : Jvm.MethodName)) ∈ lw_all := lw_g (lw_at lw_m5 162 rfl) rfl
theorem q1259 : (Jvm.Cond.code ({ cls := "VaneCourt", name := "sessionBy", desc := "(I)I" } : Jvm.MethodName) prog_1_method_65_code (4 : Nat) (Option.some Jvm.ClassFile.FieldType.int)) ∈ lw_all := lw_g (lw_at lw_m5 163 rfl) rfl
theorem q1261 : (Jvm.Cond.instanceMethod ({ cls := "VaneCourt", name := "record", desc := "(IIZ)I" } : Jvm.MethodName)) ∈ lw_all := lw_g (lw_at lw_m5 165 rfl) rfl
theorem q1262 : (Jvm.Cond.selects "VaneCourt" ({ cls := "VaneCourt", name := "record", desc := "(IIZ)I" } : Jvm.MethodName) ({ cls := "VaneCourt", name := "record", desc := "(IIZ)I" } : Jvm.MethodName)) ∈ lw_all := lw_g (lw_at lw_m5 166 rfl) rfl
theorem q1263 : (Jvm.Cond.code ({ cls := "VaneCourt", name := "record", desc := "(IIZ)I" } : Jvm.MethodName) prog_1_method_68_code (5 : Nat) (Option.some Jvm.ClassFile.FieldType.int)) ∈ lw_all := lw_g (lw_at lw_m5 167 rfl) rfl
theorem q1265 : (Jvm.Cond.instanceMethod ({ cls := "VaneCourt", name := "turned", desc := "()I" } : Jvm.MethodName)) ∈ lw_all := lw_g (lw_at lw_m5 169 rfl) rfl
theorem q1266 : (Jvm.Cond.selects "VaneCourt" ({ cls := "VaneCourt", name := "turned", desc := "()I" } : Jvm.MethodName) ({ cls := "VaneCourt", name := "turned", desc := "()I" } : Jvm.MethodName)) ∈ lw_all := lw_g (lw_at lw_m5 170 rfl) rfl
theorem q1267 : (Jvm.Cond.code ({ cls := "VaneCourt", name := "turned", desc := "()I" } : Jvm.MethodName) prog_1_method_70_code (3 : Nat) (Option.some Jvm.ClassFile.FieldType.int)) ∈ lw_all := lw_g (lw_at lw_m5 171 rfl) rfl
theorem q1268 : (Jvm.Cond.methodLink "VaneCourt" (356 : Nat) ({ cls := "VaneCourt", name := "wrongBy", desc := "(LVaneCourt$Text;I)I" } : Jvm.MethodName)) ∈ lw_all := lw_g (lw_at lw_m5 172 rfl) rfl
theorem q1269 : (Jvm.Cond.privateMethod ({ cls := "VaneCourt", name := "wrongBy", desc := "(LVaneCourt$Text;I)I" } : Jvm.MethodName)) ∈ lw_tbl := lw_at lw_m5 173 rfl
theorem q1270 : (Jvm.Cond.instanceMethod ({ cls := "VaneCourt", name := "wrongBy", desc := "(LVaneCourt$Text;I)I" } : Jvm.MethodName)) ∈ lw_all := lw_g (lw_at lw_m5 174 rfl) rfl
theorem q1271 : (Jvm.Cond.code ({ cls := "VaneCourt", name := "wrongBy", desc := "(LVaneCourt$Text;I)I" } : Jvm.MethodName) prog_1_method_69_code (6 : Nat) (Option.some Jvm.ClassFile.FieldType.int)) ∈ lw_all := lw_g (lw_at lw_m5 175 rfl) rfl
theorem q1273 : (Jvm.Cond.instanceMethod ({ cls := "VaneCourt", name := "fewestWrong", desc := "()I" } : Jvm.MethodName)) ∈ lw_all := lw_g (lw_at lw_m5 177 rfl) rfl
theorem q1274 : (Jvm.Cond.selects "VaneCourt" ({ cls := "VaneCourt", name := "fewestWrong", desc := "()I" } : Jvm.MethodName) ({ cls := "VaneCourt", name := "fewestWrong", desc := "()I" } : Jvm.MethodName)) ∈ lw_all := lw_g (lw_at lw_m5 178 rfl) rfl
theorem q1275 : (Jvm.Cond.code ({ cls := "VaneCourt", name := "fewestWrong", desc := "()I" } : Jvm.MethodName) prog_1_method_71_code (3 : Nat) (Option.some Jvm.ClassFile.FieldType.int)) ∈ lw_all := lw_g (lw_at lw_m5 179 rfl) rfl
theorem q1277 : (Jvm.Cond.instanceMethod ({ cls := "VaneCourt", name := "whose", desc := "()I" } : Jvm.MethodName)) ∈ lw_all := lw_g (lw_at lw_m5 181 rfl) rfl
theorem q1278 : (Jvm.Cond.selects "VaneCourt" ({ cls := "VaneCourt", name := "whose", desc := "()I" } : Jvm.MethodName) ({ cls := "VaneCourt", name := "whose", desc := "()I" } : Jvm.MethodName)) ∈ lw_all := lw_g (lw_at lw_m5 182 rfl) rfl
theorem q1279 : (Jvm.Cond.code ({ cls := "VaneCourt", name := "whose", desc := "()I" } : Jvm.MethodName) prog_1_method_72_code (3 : Nat) (Option.some Jvm.ClassFile.FieldType.int)) ∈ lw_all := lw_g (lw_at lw_m5 183 rfl) rfl
theorem q1281 : (Jvm.Cond.instanceMethod ({ cls := "VaneCourt", name := "learn", desc := "(IZ)I" } : Jvm.MethodName)) ∈ lw_all := lw_g (lw_at lw_m5 185 rfl) rfl
theorem q1282 : (Jvm.Cond.selects "VaneCourt" ({ cls := "VaneCourt", name := "learn", desc := "(IZ)I" } : Jvm.MethodName) ({ cls := "VaneCourt", name := "learn", desc := "(IZ)I" } : Jvm.MethodName)) ∈ lw_all := lw_g (lw_at lw_m5 186 rfl) rfl
theorem q1283 : (Jvm.Cond.code ({ cls := "VaneCourt", name := "learn", desc := "(IZ)I" } : Jvm.MethodName) prog_1_method_73_code (4 : Nat) (Option.some Jvm.ClassFile.FieldType.int)) ∈ lw_all := lw_g (lw_at lw_m5 187 rfl) rfl
theorem q1285 : (Jvm.Cond.instanceMethod ({ cls := "VaneCourt", name := "codes", desc := "(I)I" } : Jvm.MethodName)) ∈ lw_all := lw_g (lw_at lw_m5 189 rfl) rfl
theorem q1286 : (Jvm.Cond.selects "VaneCourt" ({ cls := "VaneCourt", name := "codes", desc := "(I)I" } : Jvm.MethodName) ({ cls := "VaneCourt", name := "codes", desc := "(I)I" } : Jvm.MethodName)) ∈ lw_all := lw_g (lw_at lw_m5 190 rfl) rfl
theorem q1287 : (Jvm.Cond.code ({ cls := "VaneCourt", name := "codes", desc := "(I)I" } : Jvm.MethodName) prog_1_method_76_code (4 : Nat) (Option.some Jvm.ClassFile.FieldType.int)) ∈ lw_all := lw_g (lw_at lw_m5 191 rfl) rfl
theorem q1288 : (Jvm.Cond.methodLink "VaneCourt" (366 : Nat) ({ cls := "VaneCourt", name := "isCode", desc := "(I)Z" } : Jvm.MethodName)) ∈ lw_all := lw_g (lw_at lw_m5 192 rfl) rfl
theorem q1289 : (Jvm.Cond.privateMethod ({ cls := "VaneCourt", name := "isCode", desc := "(I)Z" } : Jvm.MethodName)) ∈ lw_tbl := lw_at lw_m5 193 rfl
theorem q1290 : (Jvm.Cond.instanceMethod ({ cls := "VaneCourt", name := "isCode", desc := "(I)Z" } : Jvm.MethodName)) ∈ lw_all := lw_g (lw_at lw_m5 194 rfl) rfl
theorem q1291 : (Jvm.Cond.code ({ cls := "VaneCourt", name := "isCode", desc := "(I)Z" } : Jvm.MethodName) prog_1_method_75_code (3 : Nat) (Option.some Jvm.ClassFile.FieldType.boolean)) ∈ lw_all := lw_g (lw_at lw_m5 195 rfl) rfl
theorem q1292 : (Jvm.Cond.methodLink "VaneCourt" (363 : Nat) ({ cls := "VaneCourt", name := "finds", desc := "(II)Z" } : Jvm.MethodName)) ∈ lw_all := lw_g (lw_at lw_m5 196 rfl) rfl
theorem q1293 : (Jvm.Cond.privateMethod ({ cls := "VaneCourt", name := "finds", desc := "(II)Z" } : Jvm.MethodName)) ∈ lw_tbl := lw_at lw_m5 197 rfl
theorem q1294 : (Jvm.Cond.instanceMethod ({ cls := "VaneCourt", name := "finds", desc := "(II)Z" } : Jvm.MethodName)) ∈ lw_all := lw_g (lw_at lw_m5 198 rfl) rfl
theorem q1295 : (Jvm.Cond.code ({ cls := "VaneCourt", name := "finds", desc := "(II)Z" } : Jvm.MethodName) prog_1_method_74_code (3 : Nat) (Option.some Jvm.ClassFile.FieldType.boolean)) ∈ lw_all := lw_g (lw_at lw_m5 199 rfl) rfl
theorem q1297 : (Jvm.Cond.instanceMethod ({ cls := "VaneCourt", name := "sure", desc := "(I)I" } : Jvm.MethodName)) ∈ lw_all := lw_g (lw_at lw_m5 201 rfl) rfl
theorem q1298 : (Jvm.Cond.selects "VaneCourt" ({ cls := "VaneCourt", name := "sure", desc := "(I)I" } : Jvm.MethodName) ({ cls := "VaneCourt", name := "sure", desc := "(I)I" } : Jvm.MethodName)) ∈ lw_all := lw_g (lw_at lw_m5 202 rfl) rfl
theorem q1299 : (Jvm.Cond.code ({ cls := "VaneCourt", name := "sure", desc := "(I)I" } : Jvm.MethodName) prog_1_method_78_code (4 : Nat) (Option.some Jvm.ClassFile.FieldType.int)) ∈ lw_all := lw_g (lw_at lw_m5 203 rfl) rfl
theorem q1300 : (Jvm.Cond.methodLink "VaneCourt" (369 : Nat) ({ cls := "VaneCourt", name := "codes", desc := "(I)I" } : Jvm.MethodName)) ∈ lw_all := lw_g (lw_at lw_m5 204 rfl) rfl
theorem q1301 : (Jvm.Cond.methodLink "VaneCourt" (372 : Nat) ({ cls := "VaneCourt", name := "findBy", desc := "(I)I" } : Jvm.MethodName)) ∈ lw_all := lw_g (lw_at lw_m5 205 rfl) rfl
theorem q1302 : (Jvm.Cond.privateMethod ({ cls := "VaneCourt", name := "findBy", desc := "(I)I" } : Jvm.MethodName)) ∈ lw_tbl := lw_at lw_m5 206 rfl
theorem q1303 : (Jvm.Cond.instanceMethod ({ cls := "VaneCourt", name := "findBy", desc := "(I)I" } : Jvm.MethodName)) ∈ lw_all := lw_g (lw_at lw_m5 207 rfl) rfl
theorem q1304 : (Jvm.Cond.code ({ cls := "VaneCourt", name := "findBy", desc := "(I)I" } : Jvm.MethodName) prog_1_method_77_code (4 : Nat) (Option.some Jvm.ClassFile.FieldType.int)) ∈ lw_all := lw_g (lw_at lw_m5 208 rfl) rfl
theorem q1306 : (Jvm.Cond.instanceMethod ({ cls := "VaneCourt", name := "toBring", desc := "()I" } : Jvm.MethodName)) ∈ lw_all := lw_g (lw_at lw_m5 210 rfl) rfl
theorem q1307 : (Jvm.Cond.selects "VaneCourt" ({ cls := "VaneCourt", name := "toBring", desc := "()I" } : Jvm.MethodName) ({ cls := "VaneCourt", name := "toBring", desc := "()I" } : Jvm.MethodName)) ∈ lw_all := lw_g (lw_at lw_m5 211 rfl) rfl
theorem q1308 : (Jvm.Cond.code ({ cls := "VaneCourt", name := "toBring", desc := "()I" } : Jvm.MethodName) prog_1_method_79_code (6 : Nat) (Option.some Jvm.ClassFile.FieldType.int)) ∈ lw_all := lw_g (lw_at lw_m5 212 rfl) rfl
theorem q1309 : (Jvm.Cond.methodLink "VaneCourt" (375 : Nat) ({ cls := "java/lang/Math", name := "abs", desc := "(I)I" } : Jvm.MethodName)) ∈ lw_all := lw_g (lw_at lw_m5 213 rfl) rfl
theorem q1313 : (Jvm.Cond.instanceMethod ({ cls := "VaneCourt", name := "counsel", desc := "(II)I" } : Jvm.MethodName)) ∈ lw_all := lw_g (lw_at lw_m5 217 rfl) rfl
theorem q1314 : (Jvm.Cond.selects "VaneCourt" ({ cls := "VaneCourt", name := "counsel", desc := "(II)I" } : Jvm.MethodName) ({ cls := "VaneCourt", name := "counsel", desc := "(II)I" } : Jvm.MethodName)) ∈ lw_all := lw_g (lw_at lw_m5 218 rfl) rfl
theorem q1315 : (Jvm.Cond.code ({ cls := "VaneCourt", name := "counsel", desc := "(II)I" } : Jvm.MethodName) prog_1_method_80_code (4 : Nat) (Option.some Jvm.ClassFile.FieldType.int)) ∈ lw_all := lw_g (lw_at lw_m5 219 rfl) rfl
theorem q1317 : (Jvm.Cond.instanceMethod ({ cls := "VaneCourt", name := "hired", desc := "(IZ)I" } : Jvm.MethodName)) ∈ lw_all := lw_g (lw_at lw_m5 221 rfl) rfl
theorem q1318 : (Jvm.Cond.selects "VaneCourt" ({ cls := "VaneCourt", name := "hired", desc := "(IZ)I" } : Jvm.MethodName) ({ cls := "VaneCourt", name := "hired", desc := "(IZ)I" } : Jvm.MethodName)) ∈ lw_all := lw_g (lw_at lw_m5 222 rfl) rfl
theorem q1319 : (Jvm.Cond.code ({ cls := "VaneCourt", name := "hired", desc := "(IZ)I" } : Jvm.MethodName) prog_1_method_82_code (7 : Nat) (Option.some Jvm.ClassFile.FieldType.int)) ∈ lw_all := lw_g (lw_at lw_m5 223 rfl) rfl
theorem q1320 : (Jvm.Cond.methodLink "VaneCourt" (381 : Nat) ({ cls := "VaneCourt", name := "sumOf", desc := "(II)I" } : Jvm.MethodName)) ∈ lw_all := lw_g (lw_at lw_m5 224 rfl) rfl
theorem q1321 : (Jvm.Cond.privateMethod ({ cls := "VaneCourt", name := "sumOf", desc := "(II)I" } : Jvm.MethodName)) ∈ lw_tbl := lw_at lw_m5 225 rfl
theorem q1322 : (Jvm.Cond.instanceMethod ({ cls := "VaneCourt", name := "sumOf", desc := "(II)I" } : Jvm.MethodName)) ∈ lw_all := lw_g (lw_at lw_m5 226 rfl) rfl
theorem q1323 : (Jvm.Cond.code ({ cls := "VaneCourt", name := "sumOf", desc := "(II)I" } : Jvm.MethodName) prog_1_method_81_code (5 : Nat) (Option.some Jvm.ClassFile.FieldType.int)) ∈ lw_all := lw_g (lw_at lw_m5 227 rfl) rfl
theorem q1325 : (Jvm.Cond.instanceMethod ({ cls := "VaneCourt", name := "calm", desc := "(I)I" } : Jvm.MethodName)) ∈ lw_all := lw_g (lw_at lw_m5 229 rfl) rfl
theorem q1326 : (Jvm.Cond.selects "VaneCourt" ({ cls := "VaneCourt", name := "calm", desc := "(I)I" } : Jvm.MethodName) ({ cls := "VaneCourt", name := "calm", desc := "(I)I" } : Jvm.MethodName)) ∈ lw_all := lw_g (lw_at lw_m5 230 rfl) rfl
theorem q1327 : (Jvm.Cond.code ({ cls := "VaneCourt", name := "calm", desc := "(I)I" } : Jvm.MethodName) prog_1_method_83_code (6 : Nat) (Option.some Jvm.ClassFile.FieldType.int)) ∈ lw_all := lw_g (lw_at lw_m5 231 rfl) rfl
theorem q1329 : (Jvm.Cond.instanceMethod ({ cls := "VaneCourt", name := "standing", desc := "(II)I" } : Jvm.MethodName)) ∈ lw_all := lw_g (lw_at lw_m5 233 rfl) rfl
theorem q1330 : (Jvm.Cond.selects "VaneCourt" ({ cls := "VaneCourt", name := "standing", desc := "(II)I" } : Jvm.MethodName) ({ cls := "VaneCourt", name := "standing", desc := "(II)I" } : Jvm.MethodName)) ∈ lw_all := lw_g (lw_at lw_m5 234 rfl) rfl
theorem q1331 : (Jvm.Cond.code ({ cls := "VaneCourt", name := "standing", desc := "(II)I" } : Jvm.MethodName) prog_1_method_84_code (6 : Nat) (Option.some Jvm.ClassFile.FieldType.int)) ∈ lw_all := lw_g (lw_at lw_m5 235 rfl) rfl
theorem q1333 : (Jvm.Cond.instanceMethod ({ cls := "VaneCourt", name := "image", desc := "()I" } : Jvm.MethodName)) ∈ lw_all := lw_g (lw_at lw_m5 237 rfl) rfl
theorem q1334 : (Jvm.Cond.selects "VaneCourt" ({ cls := "VaneCourt", name := "image", desc := "()I" } : Jvm.MethodName) ({ cls := "VaneCourt", name := "image", desc := "()I" } : Jvm.MethodName)) ∈ lw_all := lw_g (lw_at lw_m5 238 rfl) rfl
theorem q1335 : (Jvm.Cond.code ({ cls := "VaneCourt", name := "image", desc := "()I" } : Jvm.MethodName) prog_1_method_85_code (1 : Nat) (Option.some Jvm.ClassFile.FieldType.int)) ∈ lw_all := lw_g (lw_at lw_m5 239 rfl) rfl
theorem q1337 : (Jvm.Cond.instanceMethod ({ cls := "VaneCourt", name := "back", desc := "()I" } : Jvm.MethodName)) ∈ lw_all := lw_g (lw_at lw_m6 1 rfl) rfl
theorem q1338 : (Jvm.Cond.selects "VaneCourt" ({ cls := "VaneCourt", name := "back", desc := "()I" } : Jvm.MethodName) ({ cls := "VaneCourt", name := "back", desc := "()I" } : Jvm.MethodName)) ∈ lw_all := lw_g (lw_at lw_m6 2 rfl) rfl
theorem q1339 : (Jvm.Cond.code ({ cls := "VaneCourt", name := "back", desc := "()I" } : Jvm.MethodName) prog_1_method_86_code (1 : Nat) (Option.some Jvm.ClassFile.FieldType.int)) ∈ lw_all := lw_g (lw_at lw_m6 3 rfl) rfl
theorem q1341 : (Jvm.Cond.instanceMethod ({ cls := "VaneCourt", name := "about", desc := "(I)I" } : Jvm.MethodName)) ∈ lw_all := lw_g (lw_at lw_m6 5 rfl) rfl
theorem q1342 : (Jvm.Cond.selects "VaneCourt" ({ cls := "VaneCourt", name := "about", desc := "(I)I" } : Jvm.MethodName) ({ cls := "VaneCourt", name := "about", desc := "(I)I" } : Jvm.MethodName)) ∈ lw_all := lw_g (lw_at lw_m6 6 rfl) rfl
theorem q1343 : (Jvm.Cond.code ({ cls := "VaneCourt", name := "about", desc := "(I)I" } : Jvm.MethodName) prog_1_method_87_code (2 : Nat) (Option.some Jvm.ClassFile.FieldType.int)) ∈ lw_all := lw_g (lw_at lw_m6 7 rfl) rfl
theorem q2028 : (Jvm.Cond.castable "VaneCourt" "java/lang/Object") ∈ lw_tbl := lw_at lw_m8 212 rfl
theorem in_X0 : ∀ w ∈ wsX00, w ∈ lw_all := lw_in wsX00 [251, 253, 255, 257, 259, 261, 263, 265, 267, 269, 271, 273, 275] (by decide +kernel) (by decide +kernel)
