/-! KilnBench -/
set_option maxRecDepth 100000
def RX2 : String := "KilnBench"
def TX2 : u_T := fun k => match k with
  | 0 => ("KilnBench", "tape", "[C", true)
  | 1 => ("KilnBench", "taped", "I", false)
  | 2 => ("KilnBench", "refusals", "[I", true)
  | 3 => ("KilnBench", "land", "LKilnBench$Town;", false)
  | 4 => ("KilnBench", "fault", "I", false)
  | 5 => ("KilnBench", "faultPlace", "I", false)
  | 6 => ("KilnBench", "weekNow", "I", false)
  | 7 => ("KilnBench", "told", "Ljava/util/ArrayList;", true)
  | 8 => ("KilnBench", "rowsSeen", "Ljava/util/ArrayList;", true)
  | 9 => ("KilnBench", "asking", "LKilnBench$Asking;", true)
  | 10 => ("KilnBench", "isThought", "Z", false)
  | 11 => ("KilnBench", "firedSet", "I", false)
  | 12 => ("KilnBench", "acts", "Ljava/util/ArrayList;", true)
  | 13 => ("KilnBench", "seeded", "J", false)
  | 14 => ("KilnBench", "image", "[C", true)
  | _ => ("KilnBench", "imaged", "I", false)
def tyX2 : Nat → FieldType := fun k => match k with
  | 0 => .array .char
  | 1 => .int
  | 2 => .array .int
  | 3 => .object "KilnBench$Town"
  | 4 => .int
  | 5 => .int
  | 6 => .int
  | 7 => .object "java/util/ArrayList"
  | 8 => .object "java/util/ArrayList"
  | 9 => .object "KilnBench$Asking"
  | 10 => .boolean
  | 11 => .int
  | 12 => .object "java/util/ArrayList"
  | 13 => .long
  | 14 => .array .char
  | _ => .int
abbrev wsX20 : List Cond := u_ws RX2 TX2 16
set_option maxRecDepth 100000 in
theorem nmX2 : ∀ a, a < 16 → ∀ b, b < 16 → a ≠ b → (TX2 a).2.1 ≠ (TX2 b).2.1 := by decide +kernel
set_option maxRecDepth 100000 in
theorem tyX2_ok : ∀ k, k < 16 → parseFieldDescriptor (TX2 k).2.2.1 = some (tyX2 k) := by decide +kernel
abbrev cX2_init : ByteArray := prog_1_method_1_code
def yX2_init : MethodName := ⟨RX2, "<init>", "()V"⟩
def dkwX2_init_4 : List UInt8 := [181, 0, 52, 177]
abbrev dktX2_init_4 : List UInt8 := dkwX2_init_4 ++ []
def dkwX2_init_3 : List UInt8 := [181, 0, 41, 42, 187, 0, 28, 89, 183, 0, 30, 181, 0, 45, 42, 10, 181, 0, 48, 42, 16, 56, 188, 5]
abbrev dktX2_init_3 : List UInt8 := dkwX2_init_3 ++ dktX2_init_4
def dkwX2_init_2 : List UInt8 := [181, 0, 31, 42, 187, 0, 28, 89, 183, 0, 30, 181, 0, 35, 42, 187, 0, 38, 89, 183, 0, 40]
abbrev dktX2_init_2 : List UInt8 := dkwX2_init_2 ++ dktX2_init_3
def dkwX2_init_1 : List UInt8 := [187, 0, 17, 89, 183, 0, 19, 181, 0, 20, 42, 2, 181, 0, 24, 42, 187, 0, 28, 89, 183, 0, 30]
abbrev dktX2_init_1 : List UInt8 := dkwX2_init_1 ++ dktX2_init_2
def dkwX2_init_0 : List UInt8 := [42, 183, 0, 1, 42, 17, 6, 64, 188, 5, 181, 0, 9, 42, 16, 6, 188, 10, 181, 0, 13, 42]
abbrev dktX2_init_0 : List UInt8 := dkwX2_init_0 ++ dktX2_init_1
theorem dksX2_init_0 : cX2_init.data.toList.drop 0 = dktX2_init_0 := by decide +kernel
theorem dksX2_init_1 : cX2_init.data.toList.drop 22 = dktX2_init_1 := dk_seg dksX2_init_0 22 rfl rfl
theorem dksX2_init_2 : cX2_init.data.toList.drop 45 = dktX2_init_2 := dk_seg dksX2_init_1 23 rfl rfl
theorem dksX2_init_3 : cX2_init.data.toList.drop 67 = dktX2_init_3 := dk_seg dksX2_init_2 22 rfl rfl
theorem dksX2_init_4 : cX2_init.data.toList.drop 91 = dktX2_init_4 := dk_seg dksX2_init_3 24 rfl rfl
theorem dX2_init_0 : decode cX2_init 0 = .ok (.aload_n 0, 1) := dk_42 (dk_at dksX2_init_0 0 rfl rfl)
theorem dX2_init_1 : decode cX2_init 1 = .ok (.invokespecial 1, 3) := dk_183 0 1 (dk_at dksX2_init_0 1 rfl rfl)
theorem dX2_init_4 : decode cX2_init 4 = .ok (.aload_n 0, 1) := dk_42 (dk_at dksX2_init_0 4 rfl rfl)
theorem dX2_init_5 : decode cX2_init 5 = .ok (.sipush 1600, 3) := dk_17 6 64 (dk_at dksX2_init_0 5 rfl rfl)
theorem dX2_init_8 : decode cX2_init 8 = .ok (.newarray .char, 2) := dk_188_5 (dk_at dksX2_init_0 8 rfl rfl)
theorem dX2_init_10 : decode cX2_init 10 = .ok (.putfield 9, 3) := dk_181 0 9 (dk_at dksX2_init_0 10 rfl rfl)
theorem dX2_init_13 : decode cX2_init 13 = .ok (.aload_n 0, 1) := dk_42 (dk_at dksX2_init_0 13 rfl rfl)
theorem dX2_init_14 : decode cX2_init 14 = .ok (.bipush 6, 2) := dk_16 6 (dk_at dksX2_init_0 14 rfl rfl)
theorem dX2_init_16 : decode cX2_init 16 = .ok (.newarray .int, 2) := dk_188_10 (dk_at dksX2_init_0 16 rfl rfl)
theorem dX2_init_18 : decode cX2_init 18 = .ok (.putfield 13, 3) := dk_181 0 13 (dk_at dksX2_init_0 18 rfl rfl)
theorem dX2_init_21 : decode cX2_init 21 = .ok (.aload_n 0, 1) := dk_42 (dk_at dksX2_init_0 21 rfl rfl)
theorem dX2_init_22 : decode cX2_init 22 = .ok (.new 17, 3) := dk_187 0 17 (dk_at dksX2_init_1 0 rfl rfl)
theorem dX2_init_25 : decode cX2_init 25 = .ok (.dup, 1) := dk_89 (dk_at dksX2_init_1 3 rfl rfl)
theorem dX2_init_26 : decode cX2_init 26 = .ok (.invokespecial 19, 3) := dk_183 0 19 (dk_at dksX2_init_1 4 rfl rfl)
theorem dX2_init_29 : decode cX2_init 29 = .ok (.putfield 20, 3) := dk_181 0 20 (dk_at dksX2_init_1 7 rfl rfl)
theorem dX2_init_32 : decode cX2_init 32 = .ok (.aload_n 0, 1) := dk_42 (dk_at dksX2_init_1 10 rfl rfl)
theorem dX2_init_33 : decode cX2_init 33 = .ok (.iconst (-1), 1) := dk_2 (dk_at dksX2_init_1 11 rfl rfl)
theorem dX2_init_34 : decode cX2_init 34 = .ok (.putfield 24, 3) := dk_181 0 24 (dk_at dksX2_init_1 12 rfl rfl)
theorem dX2_init_37 : decode cX2_init 37 = .ok (.aload_n 0, 1) := dk_42 (dk_at dksX2_init_1 15 rfl rfl)
theorem dX2_init_38 : decode cX2_init 38 = .ok (.new 28, 3) := dk_187 0 28 (dk_at dksX2_init_1 16 rfl rfl)
theorem dX2_init_41 : decode cX2_init 41 = .ok (.dup, 1) := dk_89 (dk_at dksX2_init_1 19 rfl rfl)
theorem dX2_init_42 : decode cX2_init 42 = .ok (.invokespecial 30, 3) := dk_183 0 30 (dk_at dksX2_init_1 20 rfl rfl)
theorem dX2_init_45 : decode cX2_init 45 = .ok (.putfield 31, 3) := dk_181 0 31 (dk_at dksX2_init_2 0 rfl rfl)
theorem dX2_init_48 : decode cX2_init 48 = .ok (.aload_n 0, 1) := dk_42 (dk_at dksX2_init_2 3 rfl rfl)
theorem dX2_init_49 : decode cX2_init 49 = .ok (.new 28, 3) := dk_187 0 28 (dk_at dksX2_init_2 4 rfl rfl)
theorem dX2_init_52 : decode cX2_init 52 = .ok (.dup, 1) := dk_89 (dk_at dksX2_init_2 7 rfl rfl)
theorem dX2_init_53 : decode cX2_init 53 = .ok (.invokespecial 30, 3) := dk_183 0 30 (dk_at dksX2_init_2 8 rfl rfl)
theorem dX2_init_56 : decode cX2_init 56 = .ok (.putfield 35, 3) := dk_181 0 35 (dk_at dksX2_init_2 11 rfl rfl)
theorem dX2_init_59 : decode cX2_init 59 = .ok (.aload_n 0, 1) := dk_42 (dk_at dksX2_init_2 14 rfl rfl)
theorem dX2_init_60 : decode cX2_init 60 = .ok (.new 38, 3) := dk_187 0 38 (dk_at dksX2_init_2 15 rfl rfl)
theorem dX2_init_63 : decode cX2_init 63 = .ok (.dup, 1) := dk_89 (dk_at dksX2_init_2 18 rfl rfl)
theorem dX2_init_64 : decode cX2_init 64 = .ok (.invokespecial 40, 3) := dk_183 0 40 (dk_at dksX2_init_2 19 rfl rfl)
theorem dX2_init_67 : decode cX2_init 67 = .ok (.putfield 41, 3) := dk_181 0 41 (dk_at dksX2_init_3 0 rfl rfl)
theorem dX2_init_70 : decode cX2_init 70 = .ok (.aload_n 0, 1) := dk_42 (dk_at dksX2_init_3 3 rfl rfl)
theorem dX2_init_71 : decode cX2_init 71 = .ok (.new 28, 3) := dk_187 0 28 (dk_at dksX2_init_3 4 rfl rfl)
theorem dX2_init_74 : decode cX2_init 74 = .ok (.dup, 1) := dk_89 (dk_at dksX2_init_3 7 rfl rfl)
theorem dX2_init_75 : decode cX2_init 75 = .ok (.invokespecial 30, 3) := dk_183 0 30 (dk_at dksX2_init_3 8 rfl rfl)
theorem dX2_init_78 : decode cX2_init 78 = .ok (.putfield 45, 3) := dk_181 0 45 (dk_at dksX2_init_3 11 rfl rfl)
theorem dX2_init_81 : decode cX2_init 81 = .ok (.aload_n 0, 1) := dk_42 (dk_at dksX2_init_3 14 rfl rfl)
theorem dX2_init_82 : decode cX2_init 82 = .ok (.lconst 1, 1) := dk_10 (dk_at dksX2_init_3 15 rfl rfl)
theorem dX2_init_83 : decode cX2_init 83 = .ok (.putfield 48, 3) := dk_181 0 48 (dk_at dksX2_init_3 16 rfl rfl)
theorem dX2_init_86 : decode cX2_init 86 = .ok (.aload_n 0, 1) := dk_42 (dk_at dksX2_init_3 19 rfl rfl)
theorem dX2_init_87 : decode cX2_init 87 = .ok (.bipush 56, 2) := dk_16 56 (dk_at dksX2_init_3 20 rfl rfl)
theorem dX2_init_89 : decode cX2_init 89 = .ok (.newarray .char, 2) := dk_188_5 (dk_at dksX2_init_3 22 rfl rfl)
theorem dX2_init_91 : decode cX2_init 91 = .ok (.putfield 52, 3) := dk_181 0 52 (dk_at dksX2_init_4 0 rfl rfl)
theorem dX2_init_94 : decode cX2_init 94 = .ok (.return_, 1) := dk_177 (dk_at dksX2_init_4 3 rfl rfl)
abbrev cX2_town : ByteArray := prog_1_method_13_code
def yX2_town : MethodName := ⟨RX2, "town", "()I"⟩
def dkwX2_town_3 : List UInt8 := [44, 180, 0, 130, 181, 0, 116, 42, 44, 180, 0, 133, 181, 0, 24, 42, 4, 182, 0, 78, 172]
abbrev dktX2_town_3 : List UInt8 := dkwX2_town_3 ++ []
def dkwX2_town_2 : List UInt8 := [182, 0, 122, 42, 180, 0, 35, 182, 0, 122, 42, 180, 0, 45, 182, 0, 122, 44, 180, 0, 125, 172, 77, 42]
abbrev dktX2_town_2 : List UInt8 := dkwX2_town_2 ++ dktX2_town_3
def dkwX2_town_1 : List UInt8 := [44, 181, 0, 20, 42, 3, 181, 0, 116, 42, 2, 181, 0, 24, 42, 3, 181, 0, 119, 42, 180, 0, 31]
abbrev dktX2_town_1 : List UInt8 := dkwX2_town_1 ++ dktX2_town_2
def dkwX2_town_0 : List UInt8 := [187, 0, 107, 89, 42, 42, 180, 0, 82, 183, 0, 109, 76, 42, 3, 181, 0, 82, 43, 182, 0, 112, 77, 42]
abbrev dktX2_town_0 : List UInt8 := dkwX2_town_0 ++ dktX2_town_1
theorem dksX2_town_0 : cX2_town.data.toList.drop 0 = dktX2_town_0 := by decide +kernel
theorem dksX2_town_1 : cX2_town.data.toList.drop 24 = dktX2_town_1 := dk_seg dksX2_town_0 24 rfl rfl
theorem dksX2_town_2 : cX2_town.data.toList.drop 47 = dktX2_town_2 := dk_seg dksX2_town_1 23 rfl rfl
theorem dksX2_town_3 : cX2_town.data.toList.drop 71 = dktX2_town_3 := dk_seg dksX2_town_2 24 rfl rfl
theorem dX2_town_0 : decode cX2_town 0 = .ok (.new 107, 3) := dk_187 0 107 (dk_at dksX2_town_0 0 rfl rfl)
theorem dX2_town_3 : decode cX2_town 3 = .ok (.dup, 1) := dk_89 (dk_at dksX2_town_0 3 rfl rfl)
theorem dX2_town_4 : decode cX2_town 4 = .ok (.aload_n 0, 1) := dk_42 (dk_at dksX2_town_0 4 rfl rfl)
theorem dX2_town_5 : decode cX2_town 5 = .ok (.aload_n 0, 1) := dk_42 (dk_at dksX2_town_0 5 rfl rfl)
theorem dX2_town_6 : decode cX2_town 6 = .ok (.getfield 82, 3) := dk_180 0 82 (dk_at dksX2_town_0 6 rfl rfl)
theorem dX2_town_9 : decode cX2_town 9 = .ok (.invokespecial 109, 3) := dk_183 0 109 (dk_at dksX2_town_0 9 rfl rfl)
theorem dX2_town_12 : decode cX2_town 12 = .ok (.astore_n 1, 1) := dk_76 (dk_at dksX2_town_0 12 rfl rfl)
theorem dX2_town_13 : decode cX2_town 13 = .ok (.aload_n 0, 1) := dk_42 (dk_at dksX2_town_0 13 rfl rfl)
theorem dX2_town_14 : decode cX2_town 14 = .ok (.iconst 0, 1) := dk_3 (dk_at dksX2_town_0 14 rfl rfl)
theorem dX2_town_15 : decode cX2_town 15 = .ok (.putfield 82, 3) := dk_181 0 82 (dk_at dksX2_town_0 15 rfl rfl)
theorem dX2_town_18 : decode cX2_town 18 = .ok (.aload_n 1, 1) := dk_43 (dk_at dksX2_town_0 18 rfl rfl)
theorem dX2_town_19 : decode cX2_town 19 = .ok (.invokevirtual 112, 3) := dk_182 0 112 (dk_at dksX2_town_0 19 rfl rfl)
theorem dX2_town_22 : decode cX2_town 22 = .ok (.astore_n 2, 1) := dk_77 (dk_at dksX2_town_0 22 rfl rfl)
theorem dX2_town_23 : decode cX2_town 23 = .ok (.aload_n 0, 1) := dk_42 (dk_at dksX2_town_0 23 rfl rfl)
theorem dX2_town_24 : decode cX2_town 24 = .ok (.aload_n 2, 1) := dk_44 (dk_at dksX2_town_1 0 rfl rfl)
theorem dX2_town_25 : decode cX2_town 25 = .ok (.putfield 20, 3) := dk_181 0 20 (dk_at dksX2_town_1 1 rfl rfl)
theorem dX2_town_28 : decode cX2_town 28 = .ok (.aload_n 0, 1) := dk_42 (dk_at dksX2_town_1 4 rfl rfl)
theorem dX2_town_29 : decode cX2_town 29 = .ok (.iconst 0, 1) := dk_3 (dk_at dksX2_town_1 5 rfl rfl)
theorem dX2_town_30 : decode cX2_town 30 = .ok (.putfield 116, 3) := dk_181 0 116 (dk_at dksX2_town_1 6 rfl rfl)
theorem dX2_town_33 : decode cX2_town 33 = .ok (.aload_n 0, 1) := dk_42 (dk_at dksX2_town_1 9 rfl rfl)
theorem dX2_town_34 : decode cX2_town 34 = .ok (.iconst (-1), 1) := dk_2 (dk_at dksX2_town_1 10 rfl rfl)
theorem dX2_town_35 : decode cX2_town 35 = .ok (.putfield 24, 3) := dk_181 0 24 (dk_at dksX2_town_1 11 rfl rfl)
theorem dX2_town_38 : decode cX2_town 38 = .ok (.aload_n 0, 1) := dk_42 (dk_at dksX2_town_1 14 rfl rfl)
theorem dX2_town_39 : decode cX2_town 39 = .ok (.iconst 0, 1) := dk_3 (dk_at dksX2_town_1 15 rfl rfl)
theorem dX2_town_40 : decode cX2_town 40 = .ok (.putfield 119, 3) := dk_181 0 119 (dk_at dksX2_town_1 16 rfl rfl)
theorem dX2_town_43 : decode cX2_town 43 = .ok (.aload_n 0, 1) := dk_42 (dk_at dksX2_town_1 19 rfl rfl)
theorem dX2_town_44 : decode cX2_town 44 = .ok (.getfield 31, 3) := dk_180 0 31 (dk_at dksX2_town_1 20 rfl rfl)
theorem dX2_town_47 : decode cX2_town 47 = .ok (.invokevirtual 122, 3) := dk_182 0 122 (dk_at dksX2_town_2 0 rfl rfl)
theorem dX2_town_50 : decode cX2_town 50 = .ok (.aload_n 0, 1) := dk_42 (dk_at dksX2_town_2 3 rfl rfl)
theorem dX2_town_51 : decode cX2_town 51 = .ok (.getfield 35, 3) := dk_180 0 35 (dk_at dksX2_town_2 4 rfl rfl)
theorem dX2_town_54 : decode cX2_town 54 = .ok (.invokevirtual 122, 3) := dk_182 0 122 (dk_at dksX2_town_2 7 rfl rfl)
theorem dX2_town_57 : decode cX2_town 57 = .ok (.aload_n 0, 1) := dk_42 (dk_at dksX2_town_2 10 rfl rfl)
theorem dX2_town_58 : decode cX2_town 58 = .ok (.getfield 45, 3) := dk_180 0 45 (dk_at dksX2_town_2 11 rfl rfl)
theorem dX2_town_61 : decode cX2_town 61 = .ok (.invokevirtual 122, 3) := dk_182 0 122 (dk_at dksX2_town_2 14 rfl rfl)
theorem dX2_town_64 : decode cX2_town 64 = .ok (.aload_n 2, 1) := dk_44 (dk_at dksX2_town_2 17 rfl rfl)
theorem dX2_town_65 : decode cX2_town 65 = .ok (.getfield 125, 3) := dk_180 0 125 (dk_at dksX2_town_2 18 rfl rfl)
theorem dX2_town_68 : decode cX2_town 68 = .ok (.ireturn, 1) := dk_172 (dk_at dksX2_town_2 21 rfl rfl)
theorem dX2_town_69 : decode cX2_town 69 = .ok (.astore_n 2, 1) := dk_77 (dk_at dksX2_town_2 22 rfl rfl)
theorem dX2_town_70 : decode cX2_town 70 = .ok (.aload_n 0, 1) := dk_42 (dk_at dksX2_town_2 23 rfl rfl)
theorem dX2_town_71 : decode cX2_town 71 = .ok (.aload_n 2, 1) := dk_44 (dk_at dksX2_town_3 0 rfl rfl)
theorem dX2_town_72 : decode cX2_town 72 = .ok (.getfield 130, 3) := dk_180 0 130 (dk_at dksX2_town_3 1 rfl rfl)
theorem dX2_town_75 : decode cX2_town 75 = .ok (.putfield 116, 3) := dk_181 0 116 (dk_at dksX2_town_3 4 rfl rfl)
theorem dX2_town_78 : decode cX2_town 78 = .ok (.aload_n 0, 1) := dk_42 (dk_at dksX2_town_3 7 rfl rfl)
theorem dX2_town_79 : decode cX2_town 79 = .ok (.aload_n 2, 1) := dk_44 (dk_at dksX2_town_3 8 rfl rfl)
theorem dX2_town_80 : decode cX2_town 80 = .ok (.getfield 133, 3) := dk_180 0 133 (dk_at dksX2_town_3 9 rfl rfl)
theorem dX2_town_83 : decode cX2_town 83 = .ok (.putfield 24, 3) := dk_181 0 24 (dk_at dksX2_town_3 12 rfl rfl)
theorem dX2_town_86 : decode cX2_town 86 = .ok (.aload_n 0, 1) := dk_42 (dk_at dksX2_town_3 15 rfl rfl)
theorem dX2_town_87 : decode cX2_town 87 = .ok (.iconst 1, 1) := dk_4 (dk_at dksX2_town_3 16 rfl rfl)
theorem dX2_town_88 : decode cX2_town 88 = .ok (.invokevirtual 78, 3) := dk_182 0 78 (dk_at dksX2_town_3 17 rfl rfl)
theorem dX2_town_91 : decode cX2_town 91 = .ok (.ireturn, 1) := dk_172 (dk_at dksX2_town_3 20 rfl rfl)
abbrev cX2_isOwn : ByteArray := prog_1_method_3_code
def yX2_isOwn : MethodName := ⟨RX2, "isOwn", "(Ljava/lang/String;)Z"⟩
def dkwX2_isOwn_1 : List UInt8 := [132, 1, 1, 167, 255, 231, 3, 172]
abbrev dktX2_isOwn_1 : List UInt8 := dkwX2_isOwn_1 ++ []
def dkwX2_isOwn_0 : List UInt8 := [3, 60, 27, 178, 0, 55, 190, 162, 0, 23, 178, 0, 55, 27, 50, 42, 182, 0, 59, 153, 0, 5, 4, 172]
abbrev dktX2_isOwn_0 : List UInt8 := dkwX2_isOwn_0 ++ dktX2_isOwn_1
theorem dksX2_isOwn_0 : cX2_isOwn.data.toList.drop 0 = dktX2_isOwn_0 := by decide +kernel
theorem dksX2_isOwn_1 : cX2_isOwn.data.toList.drop 24 = dktX2_isOwn_1 := dk_seg dksX2_isOwn_0 24 rfl rfl
theorem dX2_isOwn_0 : decode cX2_isOwn 0 = .ok (.iconst 0, 1) := dk_3 (dk_at dksX2_isOwn_0 0 rfl rfl)
theorem dX2_isOwn_1 : decode cX2_isOwn 1 = .ok (.istore_n 1, 1) := dk_60 (dk_at dksX2_isOwn_0 1 rfl rfl)
theorem dX2_isOwn_2 : decode cX2_isOwn 2 = .ok (.iload_n 1, 1) := dk_27 (dk_at dksX2_isOwn_0 2 rfl rfl)
theorem dX2_isOwn_3 : decode cX2_isOwn 3 = .ok (.getstatic 55, 3) := dk_178 0 55 (dk_at dksX2_isOwn_0 3 rfl rfl)
theorem dX2_isOwn_6 : decode cX2_isOwn 6 = .ok (.arraylength, 1) := dk_190 (dk_at dksX2_isOwn_0 6 rfl rfl)
theorem dX2_isOwn_7 : decode cX2_isOwn 7 = .ok (.if_icmp .ge 23, 3) := dk_162 0 23 (dk_at dksX2_isOwn_0 7 rfl rfl)
theorem dX2_isOwn_10 : decode cX2_isOwn 10 = .ok (.getstatic 55, 3) := dk_178 0 55 (dk_at dksX2_isOwn_0 10 rfl rfl)
theorem dX2_isOwn_13 : decode cX2_isOwn 13 = .ok (.iload_n 1, 1) := dk_27 (dk_at dksX2_isOwn_0 13 rfl rfl)
theorem dX2_isOwn_14 : decode cX2_isOwn 14 = .ok (.aaload, 1) := dk_50 (dk_at dksX2_isOwn_0 14 rfl rfl)
theorem dX2_isOwn_15 : decode cX2_isOwn 15 = .ok (.aload_n 0, 1) := dk_42 (dk_at dksX2_isOwn_0 15 rfl rfl)
theorem dX2_isOwn_16 : decode cX2_isOwn 16 = .ok (.invokevirtual 59, 3) := dk_182 0 59 (dk_at dksX2_isOwn_0 16 rfl rfl)
theorem dX2_isOwn_19 : decode cX2_isOwn 19 = .ok (.ifCond .eq 5, 3) := dk_153 0 5 (dk_at dksX2_isOwn_0 19 rfl rfl)
theorem dX2_isOwn_22 : decode cX2_isOwn 22 = .ok (.iconst 1, 1) := dk_4 (dk_at dksX2_isOwn_0 22 rfl rfl)
theorem dX2_isOwn_23 : decode cX2_isOwn 23 = .ok (.ireturn, 1) := dk_172 (dk_at dksX2_isOwn_0 23 rfl rfl)
theorem dX2_isOwn_24 : decode cX2_isOwn 24 = .ok (.iinc 1 1, 3) := dk_132 1 1 (dk_at dksX2_isOwn_1 0 rfl rfl)
theorem dX2_isOwn_27 : decode cX2_isOwn 27 = .ok (.goto (-25), 3) := dk_167 255 231 (dk_at dksX2_isOwn_1 3 rfl rfl)
theorem dX2_isOwn_30 : decode cX2_isOwn 30 = .ok (.iconst 0, 1) := dk_3 (dk_at dksX2_isOwn_1 6 rfl rfl)
theorem dX2_isOwn_31 : decode cX2_isOwn 31 = .ok (.ireturn, 1) := dk_172 (dk_at dksX2_isOwn_1 7 rfl rfl)
abbrev cX2_digitsOf : ByteArray := prog_1_method_12_code
def yX2_digitsOf : MethodName := ⟨RX2, "digitsOf", "(Ljava/lang/String;)I"⟩
def dkwX2_digitsOf_1 : List UInt8 := [100, 60, 132, 2, 1, 167, 255, 231, 27, 172]
abbrev dktX2_digitsOf_1 : List UInt8 := dkwX2_digitsOf_1 ++ []
def dkwX2_digitsOf_0 : List UInt8 := [3, 60, 3, 61, 28, 42, 182, 0, 99, 162, 0, 23, 16, 10, 27, 104, 42, 28, 182, 0, 103, 96, 16, 48]
abbrev dktX2_digitsOf_0 : List UInt8 := dkwX2_digitsOf_0 ++ dktX2_digitsOf_1
theorem dksX2_digitsOf_0 : cX2_digitsOf.data.toList.drop 0 = dktX2_digitsOf_0 := by decide +kernel
theorem dksX2_digitsOf_1 : cX2_digitsOf.data.toList.drop 24 = dktX2_digitsOf_1 := dk_seg dksX2_digitsOf_0 24 rfl rfl
theorem dX2_digitsOf_0 : decode cX2_digitsOf 0 = .ok (.iconst 0, 1) := dk_3 (dk_at dksX2_digitsOf_0 0 rfl rfl)
theorem dX2_digitsOf_1 : decode cX2_digitsOf 1 = .ok (.istore_n 1, 1) := dk_60 (dk_at dksX2_digitsOf_0 1 rfl rfl)
theorem dX2_digitsOf_2 : decode cX2_digitsOf 2 = .ok (.iconst 0, 1) := dk_3 (dk_at dksX2_digitsOf_0 2 rfl rfl)
theorem dX2_digitsOf_3 : decode cX2_digitsOf 3 = .ok (.istore_n 2, 1) := dk_61 (dk_at dksX2_digitsOf_0 3 rfl rfl)
theorem dX2_digitsOf_4 : decode cX2_digitsOf 4 = .ok (.iload_n 2, 1) := dk_28 (dk_at dksX2_digitsOf_0 4 rfl rfl)
theorem dX2_digitsOf_5 : decode cX2_digitsOf 5 = .ok (.aload_n 0, 1) := dk_42 (dk_at dksX2_digitsOf_0 5 rfl rfl)
theorem dX2_digitsOf_6 : decode cX2_digitsOf 6 = .ok (.invokevirtual 99, 3) := dk_182 0 99 (dk_at dksX2_digitsOf_0 6 rfl rfl)
theorem dX2_digitsOf_9 : decode cX2_digitsOf 9 = .ok (.if_icmp .ge 23, 3) := dk_162 0 23 (dk_at dksX2_digitsOf_0 9 rfl rfl)
theorem dX2_digitsOf_12 : decode cX2_digitsOf 12 = .ok (.bipush 10, 2) := dk_16 10 (dk_at dksX2_digitsOf_0 12 rfl rfl)
theorem dX2_digitsOf_14 : decode cX2_digitsOf 14 = .ok (.iload_n 1, 1) := dk_27 (dk_at dksX2_digitsOf_0 14 rfl rfl)
theorem dX2_digitsOf_15 : decode cX2_digitsOf 15 = .ok (.imul, 1) := dk_104 (dk_at dksX2_digitsOf_0 15 rfl rfl)
theorem dX2_digitsOf_16 : decode cX2_digitsOf 16 = .ok (.aload_n 0, 1) := dk_42 (dk_at dksX2_digitsOf_0 16 rfl rfl)
theorem dX2_digitsOf_17 : decode cX2_digitsOf 17 = .ok (.iload_n 2, 1) := dk_28 (dk_at dksX2_digitsOf_0 17 rfl rfl)
theorem dX2_digitsOf_18 : decode cX2_digitsOf 18 = .ok (.invokevirtual 103, 3) := dk_182 0 103 (dk_at dksX2_digitsOf_0 18 rfl rfl)
theorem dX2_digitsOf_21 : decode cX2_digitsOf 21 = .ok (.iadd, 1) := dk_96 (dk_at dksX2_digitsOf_0 21 rfl rfl)
theorem dX2_digitsOf_22 : decode cX2_digitsOf 22 = .ok (.bipush 48, 2) := dk_16 48 (dk_at dksX2_digitsOf_0 22 rfl rfl)
theorem dX2_digitsOf_24 : decode cX2_digitsOf 24 = .ok (.isub, 1) := dk_100 (dk_at dksX2_digitsOf_1 0 rfl rfl)
theorem dX2_digitsOf_25 : decode cX2_digitsOf 25 = .ok (.istore_n 1, 1) := dk_60 (dk_at dksX2_digitsOf_1 1 rfl rfl)
theorem dX2_digitsOf_26 : decode cX2_digitsOf 26 = .ok (.iinc 2 1, 3) := dk_132 2 1 (dk_at dksX2_digitsOf_1 2 rfl rfl)
theorem dX2_digitsOf_29 : decode cX2_digitsOf 29 = .ok (.goto (-25), 3) := dk_167 255 231 (dk_at dksX2_digitsOf_1 5 rfl rfl)
theorem dX2_digitsOf_32 : decode cX2_digitsOf 32 = .ok (.iload_n 1, 1) := dk_27 (dk_at dksX2_digitsOf_1 8 rfl rfl)
theorem dX2_digitsOf_33 : decode cX2_digitsOf 33 = .ok (.ireturn, 1) := dk_172 (dk_at dksX2_digitsOf_1 9 rfl rfl)
abbrev cX2_isIn : ByteArray := prog_1_method_2_code
def yX2_isIn : MethodName := ⟨RX2, "isIn", "(JJJ)Z"⟩
def dkwX2_isIn_0 : List UInt8 := [30, 32, 148, 155, 0, 14, 30, 22, 4, 148, 157, 0, 7, 4, 167, 0, 4, 3, 172]
abbrev dktX2_isIn_0 : List UInt8 := dkwX2_isIn_0 ++ []
theorem dksX2_isIn_0 : cX2_isIn.data.toList.drop 0 = dktX2_isIn_0 := by decide +kernel
theorem dX2_isIn_0 : decode cX2_isIn 0 = .ok (.lload_n 0, 1) := dk_30 (dk_at dksX2_isIn_0 0 rfl rfl)
theorem dX2_isIn_1 : decode cX2_isIn 1 = .ok (.lload_n 2, 1) := dk_32 (dk_at dksX2_isIn_0 1 rfl rfl)
theorem dX2_isIn_2 : decode cX2_isIn 2 = .ok (.lcmp, 1) := dk_148 (dk_at dksX2_isIn_0 2 rfl rfl)
theorem dX2_isIn_3 : decode cX2_isIn 3 = .ok (.ifCond .lt 14, 3) := dk_155 0 14 (dk_at dksX2_isIn_0 3 rfl rfl)
theorem dX2_isIn_6 : decode cX2_isIn 6 = .ok (.lload_n 0, 1) := dk_30 (dk_at dksX2_isIn_0 6 rfl rfl)
theorem dX2_isIn_7 : decode cX2_isIn 7 = .ok (.lload 4, 2) := dk_22 4 (dk_at dksX2_isIn_0 7 rfl rfl)
theorem dX2_isIn_9 : decode cX2_isIn 9 = .ok (.lcmp, 1) := dk_148 (dk_at dksX2_isIn_0 9 rfl rfl)
theorem dX2_isIn_10 : decode cX2_isIn 10 = .ok (.ifCond .gt 7, 3) := dk_157 0 7 (dk_at dksX2_isIn_0 10 rfl rfl)
theorem dX2_isIn_13 : decode cX2_isIn 13 = .ok (.iconst 1, 1) := dk_4 (dk_at dksX2_isIn_0 13 rfl rfl)
theorem dX2_isIn_14 : decode cX2_isIn 14 = .ok (.goto 4, 3) := dk_167 0 4 (dk_at dksX2_isIn_0 14 rfl rfl)
theorem dX2_isIn_17 : decode cX2_isIn 17 = .ok (.iconst 0, 1) := dk_3 (dk_at dksX2_isIn_0 17 rfl rfl)
theorem dX2_isIn_18 : decode cX2_isIn 18 = .ok (.ireturn, 1) := dk_172 (dk_at dksX2_isIn_0 18 rfl rfl)
abbrev cX2_refused : ByteArray := prog_1_method_6_code
def yX2_refused : MethodName := ⟨RX2, "refused", "(I)I"⟩
def dkwX2_refused_0 : List UInt8 := [42, 180, 0, 13, 27, 92, 46, 4, 96, 79, 2, 172]
abbrev dktX2_refused_0 : List UInt8 := dkwX2_refused_0 ++ []
theorem dksX2_refused_0 : cX2_refused.data.toList.drop 0 = dktX2_refused_0 := by decide +kernel
theorem dX2_refused_0 : decode cX2_refused 0 = .ok (.aload_n 0, 1) := dk_42 (dk_at dksX2_refused_0 0 rfl rfl)
theorem dX2_refused_1 : decode cX2_refused 1 = .ok (.getfield 13, 3) := dk_180 0 13 (dk_at dksX2_refused_0 1 rfl rfl)
theorem dX2_refused_4 : decode cX2_refused 4 = .ok (.iload_n 1, 1) := dk_27 (dk_at dksX2_refused_0 4 rfl rfl)
theorem dX2_refused_5 : decode cX2_refused 5 = .ok (.dup2, 1) := dk_92 (dk_at dksX2_refused_0 5 rfl rfl)
theorem dX2_refused_6 : decode cX2_refused 6 = .ok (.iaload, 1) := dk_46 (dk_at dksX2_refused_0 6 rfl rfl)
theorem dX2_refused_7 : decode cX2_refused 7 = .ok (.iconst 1, 1) := dk_4 (dk_at dksX2_refused_0 7 rfl rfl)
theorem dX2_refused_8 : decode cX2_refused 8 = .ok (.iadd, 1) := dk_96 (dk_at dksX2_refused_0 8 rfl rfl)
theorem dX2_refused_9 : decode cX2_refused 9 = .ok (.iastore, 1) := dk_79 (dk_at dksX2_refused_0 9 rfl rfl)
theorem dX2_refused_10 : decode cX2_refused 10 = .ok (.iconst (-1), 1) := dk_2 (dk_at dksX2_refused_0 10 rfl rfl)
theorem dX2_refused_11 : decode cX2_refused 11 = .ok (.ireturn, 1) := dk_172 (dk_at dksX2_refused_0 11 rfl rfl)
abbrev cX2_feed : ByteArray := prog_1_method_8_code
def yX2_feed : MethodName := ⟨RX2, "feed", "(IIIII)I"⟩
def dkwX2_feed_2 : List UInt8 := [180, 0, 82, 172]
abbrev dktX2_feed_2 : List UInt8 := dkwX2_feed_2 ++ []
def dkwX2_feed_1 : List UInt8 := [42, 28, 182, 0, 85, 42, 29, 182, 0, 85, 42, 21, 4, 182, 0, 85, 42, 21, 5, 182, 0, 85, 42]
abbrev dktX2_feed_1 : List UInt8 := dkwX2_feed_1 ++ dktX2_feed_2
def dkwX2_feed_0 : List UInt8 := [42, 180, 0, 82, 16, 20, 96, 17, 6, 64, 164, 0, 9, 42, 3, 182, 0, 78, 172, 42, 27, 182, 0, 85]
abbrev dktX2_feed_0 : List UInt8 := dkwX2_feed_0 ++ dktX2_feed_1
theorem dksX2_feed_0 : cX2_feed.data.toList.drop 0 = dktX2_feed_0 := by decide +kernel
theorem dksX2_feed_1 : cX2_feed.data.toList.drop 24 = dktX2_feed_1 := dk_seg dksX2_feed_0 24 rfl rfl
theorem dksX2_feed_2 : cX2_feed.data.toList.drop 47 = dktX2_feed_2 := dk_seg dksX2_feed_1 23 rfl rfl
theorem dX2_feed_0 : decode cX2_feed 0 = .ok (.aload_n 0, 1) := dk_42 (dk_at dksX2_feed_0 0 rfl rfl)
theorem dX2_feed_1 : decode cX2_feed 1 = .ok (.getfield 82, 3) := dk_180 0 82 (dk_at dksX2_feed_0 1 rfl rfl)
theorem dX2_feed_4 : decode cX2_feed 4 = .ok (.bipush 20, 2) := dk_16 20 (dk_at dksX2_feed_0 4 rfl rfl)
theorem dX2_feed_6 : decode cX2_feed 6 = .ok (.iadd, 1) := dk_96 (dk_at dksX2_feed_0 6 rfl rfl)
theorem dX2_feed_7 : decode cX2_feed 7 = .ok (.sipush 1600, 3) := dk_17 6 64 (dk_at dksX2_feed_0 7 rfl rfl)
theorem dX2_feed_10 : decode cX2_feed 10 = .ok (.if_icmp .le 9, 3) := dk_164 0 9 (dk_at dksX2_feed_0 10 rfl rfl)
theorem dX2_feed_13 : decode cX2_feed 13 = .ok (.aload_n 0, 1) := dk_42 (dk_at dksX2_feed_0 13 rfl rfl)
theorem dX2_feed_14 : decode cX2_feed 14 = .ok (.iconst 0, 1) := dk_3 (dk_at dksX2_feed_0 14 rfl rfl)
theorem dX2_feed_15 : decode cX2_feed 15 = .ok (.invokevirtual 78, 3) := dk_182 0 78 (dk_at dksX2_feed_0 15 rfl rfl)
theorem dX2_feed_18 : decode cX2_feed 18 = .ok (.ireturn, 1) := dk_172 (dk_at dksX2_feed_0 18 rfl rfl)
theorem dX2_feed_19 : decode cX2_feed 19 = .ok (.aload_n 0, 1) := dk_42 (dk_at dksX2_feed_0 19 rfl rfl)
theorem dX2_feed_20 : decode cX2_feed 20 = .ok (.iload_n 1, 1) := dk_27 (dk_at dksX2_feed_0 20 rfl rfl)
theorem dX2_feed_21 : decode cX2_feed 21 = .ok (.invokevirtual 85, 3) := dk_182 0 85 (dk_at dksX2_feed_0 21 rfl rfl)
theorem dX2_feed_24 : decode cX2_feed 24 = .ok (.aload_n 0, 1) := dk_42 (dk_at dksX2_feed_1 0 rfl rfl)
theorem dX2_feed_25 : decode cX2_feed 25 = .ok (.iload_n 2, 1) := dk_28 (dk_at dksX2_feed_1 1 rfl rfl)
theorem dX2_feed_26 : decode cX2_feed 26 = .ok (.invokevirtual 85, 3) := dk_182 0 85 (dk_at dksX2_feed_1 2 rfl rfl)
theorem dX2_feed_29 : decode cX2_feed 29 = .ok (.aload_n 0, 1) := dk_42 (dk_at dksX2_feed_1 5 rfl rfl)
theorem dX2_feed_30 : decode cX2_feed 30 = .ok (.iload_n 3, 1) := dk_29 (dk_at dksX2_feed_1 6 rfl rfl)
theorem dX2_feed_31 : decode cX2_feed 31 = .ok (.invokevirtual 85, 3) := dk_182 0 85 (dk_at dksX2_feed_1 7 rfl rfl)
theorem dX2_feed_34 : decode cX2_feed 34 = .ok (.aload_n 0, 1) := dk_42 (dk_at dksX2_feed_1 10 rfl rfl)
theorem dX2_feed_35 : decode cX2_feed 35 = .ok (.iload 4, 2) := dk_21 4 (dk_at dksX2_feed_1 11 rfl rfl)
theorem dX2_feed_37 : decode cX2_feed 37 = .ok (.invokevirtual 85, 3) := dk_182 0 85 (dk_at dksX2_feed_1 13 rfl rfl)
theorem dX2_feed_40 : decode cX2_feed 40 = .ok (.aload_n 0, 1) := dk_42 (dk_at dksX2_feed_1 16 rfl rfl)
theorem dX2_feed_41 : decode cX2_feed 41 = .ok (.iload 5, 2) := dk_21 5 (dk_at dksX2_feed_1 17 rfl rfl)
theorem dX2_feed_43 : decode cX2_feed 43 = .ok (.invokevirtual 85, 3) := dk_182 0 85 (dk_at dksX2_feed_1 19 rfl rfl)
theorem dX2_feed_46 : decode cX2_feed 46 = .ok (.aload_n 0, 1) := dk_42 (dk_at dksX2_feed_1 22 rfl rfl)
theorem dX2_feed_47 : decode cX2_feed 47 = .ok (.getfield 82, 3) := dk_180 0 82 (dk_at dksX2_feed_2 0 rfl rfl)
theorem dX2_feed_50 : decode cX2_feed 50 = .ok (.ireturn, 1) := dk_172 (dk_at dksX2_feed_2 3 rfl rfl)
abbrev cX2_lays : ByteArray := prog_1_method_9_code
def yX2_lays : MethodName := ⟨RX2, "lays", "(I)V"⟩
def dkwX2_lays_1 : List UInt8 := [42, 89, 180, 0, 82, 4, 96, 181, 0, 82, 132, 2, 248, 167, 255, 222, 177]
abbrev dktX2_lays_1 : List UInt8 := dkwX2_lays_1 ++ []
def dkwX2_lays_0 : List UInt8 := [16, 24, 61, 28, 155, 0, 36, 42, 180, 0, 9, 42, 180, 0, 82, 27, 28, 122, 17, 0, 255, 126, 146, 85]
abbrev dktX2_lays_0 : List UInt8 := dkwX2_lays_0 ++ dktX2_lays_1
theorem dksX2_lays_0 : cX2_lays.data.toList.drop 0 = dktX2_lays_0 := by decide +kernel
theorem dksX2_lays_1 : cX2_lays.data.toList.drop 24 = dktX2_lays_1 := dk_seg dksX2_lays_0 24 rfl rfl
theorem dX2_lays_0 : decode cX2_lays 0 = .ok (.bipush 24, 2) := dk_16 24 (dk_at dksX2_lays_0 0 rfl rfl)
theorem dX2_lays_2 : decode cX2_lays 2 = .ok (.istore_n 2, 1) := dk_61 (dk_at dksX2_lays_0 2 rfl rfl)
theorem dX2_lays_3 : decode cX2_lays 3 = .ok (.iload_n 2, 1) := dk_28 (dk_at dksX2_lays_0 3 rfl rfl)
theorem dX2_lays_4 : decode cX2_lays 4 = .ok (.ifCond .lt 36, 3) := dk_155 0 36 (dk_at dksX2_lays_0 4 rfl rfl)
theorem dX2_lays_7 : decode cX2_lays 7 = .ok (.aload_n 0, 1) := dk_42 (dk_at dksX2_lays_0 7 rfl rfl)
theorem dX2_lays_8 : decode cX2_lays 8 = .ok (.getfield 9, 3) := dk_180 0 9 (dk_at dksX2_lays_0 8 rfl rfl)
theorem dX2_lays_11 : decode cX2_lays 11 = .ok (.aload_n 0, 1) := dk_42 (dk_at dksX2_lays_0 11 rfl rfl)
theorem dX2_lays_12 : decode cX2_lays 12 = .ok (.getfield 82, 3) := dk_180 0 82 (dk_at dksX2_lays_0 12 rfl rfl)
theorem dX2_lays_15 : decode cX2_lays 15 = .ok (.iload_n 1, 1) := dk_27 (dk_at dksX2_lays_0 15 rfl rfl)
theorem dX2_lays_16 : decode cX2_lays 16 = .ok (.iload_n 2, 1) := dk_28 (dk_at dksX2_lays_0 16 rfl rfl)
theorem dX2_lays_17 : decode cX2_lays 17 = .ok (.ishr, 1) := dk_122 (dk_at dksX2_lays_0 17 rfl rfl)
theorem dX2_lays_18 : decode cX2_lays 18 = .ok (.sipush 255, 3) := dk_17 0 255 (dk_at dksX2_lays_0 18 rfl rfl)
theorem dX2_lays_21 : decode cX2_lays 21 = .ok (.iand, 1) := dk_126 (dk_at dksX2_lays_0 21 rfl rfl)
theorem dX2_lays_22 : decode cX2_lays 22 = .ok (.i2c, 1) := dk_146 (dk_at dksX2_lays_0 22 rfl rfl)
theorem dX2_lays_23 : decode cX2_lays 23 = .ok (.castore, 1) := dk_85 (dk_at dksX2_lays_0 23 rfl rfl)
theorem dX2_lays_24 : decode cX2_lays 24 = .ok (.aload_n 0, 1) := dk_42 (dk_at dksX2_lays_1 0 rfl rfl)
theorem dX2_lays_25 : decode cX2_lays 25 = .ok (.dup, 1) := dk_89 (dk_at dksX2_lays_1 1 rfl rfl)
theorem dX2_lays_26 : decode cX2_lays 26 = .ok (.getfield 82, 3) := dk_180 0 82 (dk_at dksX2_lays_1 2 rfl rfl)
theorem dX2_lays_29 : decode cX2_lays 29 = .ok (.iconst 1, 1) := dk_4 (dk_at dksX2_lays_1 5 rfl rfl)
theorem dX2_lays_30 : decode cX2_lays 30 = .ok (.iadd, 1) := dk_96 (dk_at dksX2_lays_1 6 rfl rfl)
theorem dX2_lays_31 : decode cX2_lays 31 = .ok (.putfield 82, 3) := dk_181 0 82 (dk_at dksX2_lays_1 7 rfl rfl)
theorem dX2_lays_34 : decode cX2_lays 34 = .ok (.iinc 2 (-8), 3) := dk_132 2 248 (dk_at dksX2_lays_1 10 rfl rfl)
theorem dX2_lays_37 : decode cX2_lays 37 = .ok (.goto (-34), 3) := dk_167 255 222 (dk_at dksX2_lays_1 13 rfl rfl)
theorem dX2_lays_40 : decode cX2_lays 40 = .ok (.return_, 1) := dk_177 (dk_at dksX2_lays_1 16 rfl rfl)
abbrev cX2_end : ByteArray := prog_1_method_10_code
def yX2_end : MethodName := ⟨RX2, "end", "(I)Z"⟩
def dkwX2_end_1 : List UInt8 := [172]
abbrev dktX2_end_1 : List UInt8 := dkwX2_end_1 ++ []
def dkwX2_end_0 : List UInt8 := [27, 155, 0, 11, 27, 42, 180, 0, 82, 164, 0, 9, 42, 3, 182, 0, 89, 172, 42, 27, 181, 0, 82, 4]
abbrev dktX2_end_0 : List UInt8 := dkwX2_end_0 ++ dktX2_end_1
theorem dksX2_end_0 : cX2_end.data.toList.drop 0 = dktX2_end_0 := by decide +kernel
theorem dksX2_end_1 : cX2_end.data.toList.drop 24 = dktX2_end_1 := dk_seg dksX2_end_0 24 rfl rfl
theorem dX2_end_0 : decode cX2_end 0 = .ok (.iload_n 1, 1) := dk_27 (dk_at dksX2_end_0 0 rfl rfl)
theorem dX2_end_1 : decode cX2_end 1 = .ok (.ifCond .lt 11, 3) := dk_155 0 11 (dk_at dksX2_end_0 1 rfl rfl)
theorem dX2_end_4 : decode cX2_end 4 = .ok (.iload_n 1, 1) := dk_27 (dk_at dksX2_end_0 4 rfl rfl)
theorem dX2_end_5 : decode cX2_end 5 = .ok (.aload_n 0, 1) := dk_42 (dk_at dksX2_end_0 5 rfl rfl)
theorem dX2_end_6 : decode cX2_end 6 = .ok (.getfield 82, 3) := dk_180 0 82 (dk_at dksX2_end_0 6 rfl rfl)
theorem dX2_end_9 : decode cX2_end 9 = .ok (.if_icmp .le 9, 3) := dk_164 0 9 (dk_at dksX2_end_0 9 rfl rfl)
theorem dX2_end_12 : decode cX2_end 12 = .ok (.aload_n 0, 1) := dk_42 (dk_at dksX2_end_0 12 rfl rfl)
theorem dX2_end_13 : decode cX2_end 13 = .ok (.iconst 0, 1) := dk_3 (dk_at dksX2_end_0 13 rfl rfl)
theorem dX2_end_14 : decode cX2_end 14 = .ok (.invokevirtual 89, 3) := dk_182 0 89 (dk_at dksX2_end_0 14 rfl rfl)
theorem dX2_end_17 : decode cX2_end 17 = .ok (.ireturn, 1) := dk_172 (dk_at dksX2_end_0 17 rfl rfl)
theorem dX2_end_18 : decode cX2_end 18 = .ok (.aload_n 0, 1) := dk_42 (dk_at dksX2_end_0 18 rfl rfl)
theorem dX2_end_19 : decode cX2_end 19 = .ok (.iload_n 1, 1) := dk_27 (dk_at dksX2_end_0 19 rfl rfl)
theorem dX2_end_20 : decode cX2_end 20 = .ok (.putfield 82, 3) := dk_181 0 82 (dk_at dksX2_end_0 20 rfl rfl)
theorem dX2_end_23 : decode cX2_end 23 = .ok (.iconst 1, 1) := dk_4 (dk_at dksX2_end_0 23 rfl rfl)
theorem dX2_end_24 : decode cX2_end 24 = .ok (.ireturn, 1) := dk_172 (dk_at dksX2_end_1 0 rfl rfl)
abbrev cX2_refuses : ByteArray := prog_1_method_7_code
def yX2_refuses : MethodName := ⟨RX2, "refuses", "(I)Z"⟩
def dkwX2_refuses_0 : List UInt8 := [42, 27, 182, 0, 78, 2, 159, 0, 7, 4, 167, 0, 4, 3, 172]
abbrev dktX2_refuses_0 : List UInt8 := dkwX2_refuses_0 ++ []
theorem dksX2_refuses_0 : cX2_refuses.data.toList.drop 0 = dktX2_refuses_0 := by decide +kernel
theorem dX2_refuses_0 : decode cX2_refuses 0 = .ok (.aload_n 0, 1) := dk_42 (dk_at dksX2_refuses_0 0 rfl rfl)
theorem dX2_refuses_1 : decode cX2_refuses 1 = .ok (.iload_n 1, 1) := dk_27 (dk_at dksX2_refuses_0 1 rfl rfl)
theorem dX2_refuses_2 : decode cX2_refuses 2 = .ok (.invokevirtual 78, 3) := dk_182 0 78 (dk_at dksX2_refuses_0 2 rfl rfl)
theorem dX2_refuses_5 : decode cX2_refuses 5 = .ok (.iconst (-1), 1) := dk_2 (dk_at dksX2_refuses_0 5 rfl rfl)
theorem dX2_refuses_6 : decode cX2_refuses 6 = .ok (.if_icmp .eq 7, 3) := dk_159 0 7 (dk_at dksX2_refuses_0 6 rfl rfl)
theorem dX2_refuses_9 : decode cX2_refuses 9 = .ok (.iconst 1, 1) := dk_4 (dk_at dksX2_refuses_0 9 rfl rfl)
theorem dX2_refuses_10 : decode cX2_refuses 10 = .ok (.goto 4, 3) := dk_167 0 4 (dk_at dksX2_refuses_0 10 rfl rfl)
theorem dX2_refuses_13 : decode cX2_refuses 13 = .ok (.iconst 0, 1) := dk_3 (dk_at dksX2_refuses_0 13 rfl rfl)
theorem dX2_refuses_14 : decode cX2_refuses 14 = .ok (.ireturn, 1) := dk_172 (dk_at dksX2_refuses_0 14 rfl rfl)
abbrev cX2_child : ByteArray := prog_1_method_45_code
def yX2_child : MethodName := ⟨RX2, "child", "(II)I"⟩
def dkwX2_child_4 : List UInt8 := [167, 0, 4, 3, 172, 2, 172]
abbrev dktX2_child_4 : List UInt8 := dkwX2_child_4 ++ []
def dkwX2_child_3 : List UInt8 := [153, 0, 7, 4, 167, 0, 4, 3, 172, 45, 180, 1, 115, 172, 45, 180, 1, 117, 153, 0, 7, 4]
abbrev dktX2_child_3 : List UInt8 := dkwX2_child_3 ++ dktX2_child_4
def dkwX2_child_2 : List UInt8 := [45, 180, 0, 164, 172, 45, 180, 0, 167, 172, 45, 182, 1, 112, 172, 45, 180, 1, 114, 172, 45, 182, 1, 65]
abbrev dktX2_child_2 : List UInt8 := dkwX2_child_2 ++ dktX2_child_3
def dkwX2_child_1 : List UInt8 := [170, 0, 0, 0, 0, 0, 94, 0, 0, 0, 0, 0, 0, 0, 6, 0, 0, 0, 43, 0, 0, 0, 48, 0, 0, 0, 53, 0, 0, 0, 58, 0, 0, 0, 63, 0, 0, 0, 76, 0, 0, 0, 81]
abbrev dktX2_child_1 : List UInt8 := dkwX2_child_1 ++ dktX2_child_2
def dkwX2_child_0 : List UInt8 := [42, 27, 182, 1, 57, 78, 45, 199, 0, 5, 2, 172, 28]
abbrev dktX2_child_0 : List UInt8 := dkwX2_child_0 ++ dktX2_child_1
theorem dksX2_child_0 : cX2_child.data.toList.drop 0 = dktX2_child_0 := by decide +kernel
theorem dksX2_child_1 : cX2_child.data.toList.drop 13 = dktX2_child_1 := dk_seg dksX2_child_0 13 rfl rfl
theorem dksX2_child_2 : cX2_child.data.toList.drop 56 = dktX2_child_2 := dk_seg dksX2_child_1 43 rfl rfl
theorem dksX2_child_3 : cX2_child.data.toList.drop 80 = dktX2_child_3 := dk_seg dksX2_child_2 24 rfl rfl
theorem dksX2_child_4 : cX2_child.data.toList.drop 102 = dktX2_child_4 := dk_seg dksX2_child_3 22 rfl rfl
theorem dX2_child_0 : decode cX2_child 0 = .ok (.aload_n 0, 1) := dk_42 (dk_at dksX2_child_0 0 rfl rfl)
theorem dX2_child_1 : decode cX2_child 1 = .ok (.iload_n 1, 1) := dk_27 (dk_at dksX2_child_0 1 rfl rfl)
theorem dX2_child_2 : decode cX2_child 2 = .ok (.invokevirtual 313, 3) := dk_182 1 57 (dk_at dksX2_child_0 2 rfl rfl)
theorem dX2_child_5 : decode cX2_child 5 = .ok (.astore_n 3, 1) := dk_78 (dk_at dksX2_child_0 5 rfl rfl)
theorem dX2_child_6 : decode cX2_child 6 = .ok (.aload_n 3, 1) := dk_45 (dk_at dksX2_child_0 6 rfl rfl)
theorem dX2_child_7 : decode cX2_child 7 = .ok (.ifnonnull 5, 3) := dk_199 0 5 (dk_at dksX2_child_0 7 rfl rfl)
theorem dX2_child_10 : decode cX2_child 10 = .ok (.iconst (-1), 1) := dk_2 (dk_at dksX2_child_0 10 rfl rfl)
theorem dX2_child_11 : decode cX2_child 11 = .ok (.ireturn, 1) := dk_172 (dk_at dksX2_child_0 11 rfl rfl)
theorem dX2_child_12 : decode cX2_child 12 = .ok (.iload_n 2, 1) := dk_28 (dk_at dksX2_child_0 12 rfl rfl)
theorem dX2_child_13 : decode cX2_child 13 = .ok (.tableswitch 94 0 6 #[43, 48, 53, 58, 63, 76, 81], 43) := by decide +kernel
theorem dX2_child_56 : decode cX2_child 56 = .ok (.aload_n 3, 1) := dk_45 (dk_at dksX2_child_2 0 rfl rfl)
theorem dX2_child_57 : decode cX2_child 57 = .ok (.getfield 164, 3) := dk_180 0 164 (dk_at dksX2_child_2 1 rfl rfl)
theorem dX2_child_60 : decode cX2_child 60 = .ok (.ireturn, 1) := dk_172 (dk_at dksX2_child_2 4 rfl rfl)
theorem dX2_child_61 : decode cX2_child 61 = .ok (.aload_n 3, 1) := dk_45 (dk_at dksX2_child_2 5 rfl rfl)
theorem dX2_child_62 : decode cX2_child 62 = .ok (.getfield 167, 3) := dk_180 0 167 (dk_at dksX2_child_2 6 rfl rfl)
theorem dX2_child_65 : decode cX2_child 65 = .ok (.ireturn, 1) := dk_172 (dk_at dksX2_child_2 9 rfl rfl)
theorem dX2_child_66 : decode cX2_child 66 = .ok (.aload_n 3, 1) := dk_45 (dk_at dksX2_child_2 10 rfl rfl)
theorem dX2_child_67 : decode cX2_child 67 = .ok (.invokevirtual 368, 3) := dk_182 1 112 (dk_at dksX2_child_2 11 rfl rfl)
theorem dX2_child_70 : decode cX2_child 70 = .ok (.ireturn, 1) := dk_172 (dk_at dksX2_child_2 14 rfl rfl)
theorem dX2_child_71 : decode cX2_child 71 = .ok (.aload_n 3, 1) := dk_45 (dk_at dksX2_child_2 15 rfl rfl)
theorem dX2_child_72 : decode cX2_child 72 = .ok (.getfield 370, 3) := dk_180 1 114 (dk_at dksX2_child_2 16 rfl rfl)
theorem dX2_child_75 : decode cX2_child 75 = .ok (.ireturn, 1) := dk_172 (dk_at dksX2_child_2 19 rfl rfl)
theorem dX2_child_76 : decode cX2_child 76 = .ok (.aload_n 3, 1) := dk_45 (dk_at dksX2_child_2 20 rfl rfl)
theorem dX2_child_77 : decode cX2_child 77 = .ok (.invokevirtual 321, 3) := dk_182 1 65 (dk_at dksX2_child_2 21 rfl rfl)
theorem dX2_child_80 : decode cX2_child 80 = .ok (.ifCond .eq 7, 3) := dk_153 0 7 (dk_at dksX2_child_3 0 rfl rfl)
theorem dX2_child_83 : decode cX2_child 83 = .ok (.iconst 1, 1) := dk_4 (dk_at dksX2_child_3 3 rfl rfl)
theorem dX2_child_84 : decode cX2_child 84 = .ok (.goto 4, 3) := dk_167 0 4 (dk_at dksX2_child_3 4 rfl rfl)
theorem dX2_child_87 : decode cX2_child 87 = .ok (.iconst 0, 1) := dk_3 (dk_at dksX2_child_3 7 rfl rfl)
theorem dX2_child_88 : decode cX2_child 88 = .ok (.ireturn, 1) := dk_172 (dk_at dksX2_child_3 8 rfl rfl)
theorem dX2_child_89 : decode cX2_child 89 = .ok (.aload_n 3, 1) := dk_45 (dk_at dksX2_child_3 9 rfl rfl)
theorem dX2_child_90 : decode cX2_child 90 = .ok (.getfield 371, 3) := dk_180 1 115 (dk_at dksX2_child_3 10 rfl rfl)
theorem dX2_child_93 : decode cX2_child 93 = .ok (.ireturn, 1) := dk_172 (dk_at dksX2_child_3 13 rfl rfl)
theorem dX2_child_94 : decode cX2_child 94 = .ok (.aload_n 3, 1) := dk_45 (dk_at dksX2_child_3 14 rfl rfl)
theorem dX2_child_95 : decode cX2_child 95 = .ok (.getfield 373, 3) := dk_180 1 117 (dk_at dksX2_child_3 15 rfl rfl)
theorem dX2_child_98 : decode cX2_child 98 = .ok (.ifCond .eq 7, 3) := dk_153 0 7 (dk_at dksX2_child_3 18 rfl rfl)
theorem dX2_child_101 : decode cX2_child 101 = .ok (.iconst 1, 1) := dk_4 (dk_at dksX2_child_3 21 rfl rfl)
theorem dX2_child_102 : decode cX2_child 102 = .ok (.goto 4, 3) := dk_167 0 4 (dk_at dksX2_child_4 0 rfl rfl)
theorem dX2_child_105 : decode cX2_child 105 = .ok (.iconst 0, 1) := dk_3 (dk_at dksX2_child_4 3 rfl rfl)
theorem dX2_child_106 : decode cX2_child 106 = .ok (.ireturn, 1) := dk_172 (dk_at dksX2_child_4 4 rfl rfl)
theorem dX2_child_107 : decode cX2_child 107 = .ok (.iconst (-1), 1) := dk_2 (dk_at dksX2_child_4 5 rfl rfl)
theorem dX2_child_108 : decode cX2_child 108 = .ok (.ireturn, 1) := dk_172 (dk_at dksX2_child_4 6 rfl rfl)
abbrev cX2_childOf : ByteArray := prog_1_method_16_code
def yX2_childOf : MethodName := ⟨RX2, "childOf", "(I)LKilnBench$Child;"⟩
def dkwX2_childOf_0 : List UInt8 := [42, 180, 0, 20, 180, 0, 143, 27, 184, 0, 146, 192, 0, 150, 176]
abbrev dktX2_childOf_0 : List UInt8 := dkwX2_childOf_0 ++ []
theorem dksX2_childOf_0 : cX2_childOf.data.toList.drop 0 = dktX2_childOf_0 := by decide +kernel
theorem dX2_childOf_0 : decode cX2_childOf 0 = .ok (.aload_n 0, 1) := dk_42 (dk_at dksX2_childOf_0 0 rfl rfl)
theorem dX2_childOf_1 : decode cX2_childOf 1 = .ok (.getfield 20, 3) := dk_180 0 20 (dk_at dksX2_childOf_0 1 rfl rfl)
theorem dX2_childOf_4 : decode cX2_childOf 4 = .ok (.getfield 143, 3) := dk_180 0 143 (dk_at dksX2_childOf_0 4 rfl rfl)
theorem dX2_childOf_7 : decode cX2_childOf 7 = .ok (.iload_n 1, 1) := dk_27 (dk_at dksX2_childOf_0 7 rfl rfl)
theorem dX2_childOf_8 : decode cX2_childOf 8 = .ok (.invokestatic 146, 3) := dk_184 0 146 (dk_at dksX2_childOf_0 8 rfl rfl)
theorem dX2_childOf_11 : decode cX2_childOf 11 = .ok (.checkcast 150, 3) := dk_192 0 150 (dk_at dksX2_childOf_0 11 rfl rfl)
theorem dX2_childOf_14 : decode cX2_childOf 14 = .ok (.areturn, 1) := dk_176 (dk_at dksX2_childOf_0 14 rfl rfl)
abbrev cX2_of : ByteArray := prog_1_method_15_code
def yX2_of : MethodName := ⟨RX2, "of", "(Ljava/util/ArrayList;I)Ljava/lang/Object;"⟩
def dkwX2_of_1 : List UInt8 := [1, 176]
abbrev dktX2_of_1 : List UInt8 := dkwX2_of_1 ++ []
def dkwX2_of_0 : List UInt8 := [27, 133, 9, 42, 182, 0, 136, 4, 100, 133, 184, 0, 95, 153, 0, 11, 42, 27, 182, 0, 139, 167, 0, 4]
abbrev dktX2_of_0 : List UInt8 := dkwX2_of_0 ++ dktX2_of_1
theorem dksX2_of_0 : cX2_of.data.toList.drop 0 = dktX2_of_0 := by decide +kernel
theorem dksX2_of_1 : cX2_of.data.toList.drop 24 = dktX2_of_1 := dk_seg dksX2_of_0 24 rfl rfl
theorem dX2_of_0 : decode cX2_of 0 = .ok (.iload_n 1, 1) := dk_27 (dk_at dksX2_of_0 0 rfl rfl)
theorem dX2_of_1 : decode cX2_of 1 = .ok (.i2l, 1) := dk_133 (dk_at dksX2_of_0 1 rfl rfl)
theorem dX2_of_2 : decode cX2_of 2 = .ok (.lconst 0, 1) := dk_9 (dk_at dksX2_of_0 2 rfl rfl)
theorem dX2_of_3 : decode cX2_of 3 = .ok (.aload_n 0, 1) := dk_42 (dk_at dksX2_of_0 3 rfl rfl)
theorem dX2_of_4 : decode cX2_of 4 = .ok (.invokevirtual 136, 3) := dk_182 0 136 (dk_at dksX2_of_0 4 rfl rfl)
theorem dX2_of_7 : decode cX2_of 7 = .ok (.iconst 1, 1) := dk_4 (dk_at dksX2_of_0 7 rfl rfl)
theorem dX2_of_8 : decode cX2_of 8 = .ok (.isub, 1) := dk_100 (dk_at dksX2_of_0 8 rfl rfl)
theorem dX2_of_9 : decode cX2_of 9 = .ok (.i2l, 1) := dk_133 (dk_at dksX2_of_0 9 rfl rfl)
theorem dX2_of_10 : decode cX2_of 10 = .ok (.invokestatic 95, 3) := dk_184 0 95 (dk_at dksX2_of_0 10 rfl rfl)
theorem dX2_of_13 : decode cX2_of 13 = .ok (.ifCond .eq 11, 3) := dk_153 0 11 (dk_at dksX2_of_0 13 rfl rfl)
theorem dX2_of_16 : decode cX2_of 16 = .ok (.aload_n 0, 1) := dk_42 (dk_at dksX2_of_0 16 rfl rfl)
theorem dX2_of_17 : decode cX2_of 17 = .ok (.iload_n 1, 1) := dk_27 (dk_at dksX2_of_0 17 rfl rfl)
theorem dX2_of_18 : decode cX2_of 18 = .ok (.invokevirtual 139, 3) := dk_182 0 139 (dk_at dksX2_of_0 18 rfl rfl)
theorem dX2_of_21 : decode cX2_of 21 = .ok (.goto 4, 3) := dk_167 0 4 (dk_at dksX2_of_0 21 rfl rfl)
theorem dX2_of_24 : decode cX2_of 24 = .ok (.aconst_null, 1) := dk_1 (dk_at dksX2_of_1 0 rfl rfl)
theorem dX2_of_25 : decode cX2_of 25 = .ok (.areturn, 1) := dk_176 (dk_at dksX2_of_1 1 rfl rfl)
abbrev cX2_place : ByteArray := prog_1_method_47_code
def yX2_place : MethodName := ⟨RX2, "place", "(II)I"⟩
def dkwX2_place_2 : List UInt8 := [180, 1, 120, 172]
abbrev dktX2_place_2 : List UInt8 := dkwX2_place_2 ++ []
def dkwX2_place_1 : List UInt8 := [153, 0, 12, 45, 180, 1, 68, 28, 50, 199, 0, 7, 2, 167, 0, 12, 45, 180, 1, 68, 28, 50]
abbrev dktX2_place_1 : List UInt8 := dkwX2_place_1 ++ dktX2_place_2
def dkwX2_place_0 : List UInt8 := [42, 27, 182, 1, 61, 78, 45, 198, 0, 28, 28, 133, 9, 45, 180, 0, 214, 4, 100, 133, 184, 0, 95]
abbrev dktX2_place_0 : List UInt8 := dkwX2_place_0 ++ dktX2_place_1
theorem dksX2_place_0 : cX2_place.data.toList.drop 0 = dktX2_place_0 := by decide +kernel
theorem dksX2_place_1 : cX2_place.data.toList.drop 23 = dktX2_place_1 := dk_seg dksX2_place_0 23 rfl rfl
theorem dksX2_place_2 : cX2_place.data.toList.drop 45 = dktX2_place_2 := dk_seg dksX2_place_1 22 rfl rfl
theorem dX2_place_0 : decode cX2_place 0 = .ok (.aload_n 0, 1) := dk_42 (dk_at dksX2_place_0 0 rfl rfl)
theorem dX2_place_1 : decode cX2_place 1 = .ok (.iload_n 1, 1) := dk_27 (dk_at dksX2_place_0 1 rfl rfl)
theorem dX2_place_2 : decode cX2_place 2 = .ok (.invokevirtual 317, 3) := dk_182 1 61 (dk_at dksX2_place_0 2 rfl rfl)
theorem dX2_place_5 : decode cX2_place 5 = .ok (.astore_n 3, 1) := dk_78 (dk_at dksX2_place_0 5 rfl rfl)
theorem dX2_place_6 : decode cX2_place 6 = .ok (.aload_n 3, 1) := dk_45 (dk_at dksX2_place_0 6 rfl rfl)
theorem dX2_place_7 : decode cX2_place 7 = .ok (.ifnull 28, 3) := dk_198 0 28 (dk_at dksX2_place_0 7 rfl rfl)
theorem dX2_place_10 : decode cX2_place 10 = .ok (.iload_n 2, 1) := dk_28 (dk_at dksX2_place_0 10 rfl rfl)
theorem dX2_place_11 : decode cX2_place 11 = .ok (.i2l, 1) := dk_133 (dk_at dksX2_place_0 11 rfl rfl)
theorem dX2_place_12 : decode cX2_place 12 = .ok (.lconst 0, 1) := dk_9 (dk_at dksX2_place_0 12 rfl rfl)
theorem dX2_place_13 : decode cX2_place 13 = .ok (.aload_n 3, 1) := dk_45 (dk_at dksX2_place_0 13 rfl rfl)
theorem dX2_place_14 : decode cX2_place 14 = .ok (.getfield 214, 3) := dk_180 0 214 (dk_at dksX2_place_0 14 rfl rfl)
theorem dX2_place_17 : decode cX2_place 17 = .ok (.iconst 1, 1) := dk_4 (dk_at dksX2_place_0 17 rfl rfl)
theorem dX2_place_18 : decode cX2_place 18 = .ok (.isub, 1) := dk_100 (dk_at dksX2_place_0 18 rfl rfl)
theorem dX2_place_19 : decode cX2_place 19 = .ok (.i2l, 1) := dk_133 (dk_at dksX2_place_0 19 rfl rfl)
theorem dX2_place_20 : decode cX2_place 20 = .ok (.invokestatic 95, 3) := dk_184 0 95 (dk_at dksX2_place_0 20 rfl rfl)
theorem dX2_place_23 : decode cX2_place 23 = .ok (.ifCond .eq 12, 3) := dk_153 0 12 (dk_at dksX2_place_1 0 rfl rfl)
theorem dX2_place_26 : decode cX2_place 26 = .ok (.aload_n 3, 1) := dk_45 (dk_at dksX2_place_1 3 rfl rfl)
theorem dX2_place_27 : decode cX2_place 27 = .ok (.getfield 324, 3) := dk_180 1 68 (dk_at dksX2_place_1 4 rfl rfl)
theorem dX2_place_30 : decode cX2_place 30 = .ok (.iload_n 2, 1) := dk_28 (dk_at dksX2_place_1 7 rfl rfl)
theorem dX2_place_31 : decode cX2_place 31 = .ok (.aaload, 1) := dk_50 (dk_at dksX2_place_1 8 rfl rfl)
theorem dX2_place_32 : decode cX2_place 32 = .ok (.ifnonnull 7, 3) := dk_199 0 7 (dk_at dksX2_place_1 9 rfl rfl)
theorem dX2_place_35 : decode cX2_place 35 = .ok (.iconst (-1), 1) := dk_2 (dk_at dksX2_place_1 12 rfl rfl)
theorem dX2_place_36 : decode cX2_place 36 = .ok (.goto 12, 3) := dk_167 0 12 (dk_at dksX2_place_1 13 rfl rfl)
theorem dX2_place_39 : decode cX2_place 39 = .ok (.aload_n 3, 1) := dk_45 (dk_at dksX2_place_1 16 rfl rfl)
theorem dX2_place_40 : decode cX2_place 40 = .ok (.getfield 324, 3) := dk_180 1 68 (dk_at dksX2_place_1 17 rfl rfl)
theorem dX2_place_43 : decode cX2_place 43 = .ok (.iload_n 2, 1) := dk_28 (dk_at dksX2_place_1 20 rfl rfl)
theorem dX2_place_44 : decode cX2_place 44 = .ok (.aaload, 1) := dk_50 (dk_at dksX2_place_1 21 rfl rfl)
theorem dX2_place_45 : decode cX2_place 45 = .ok (.getfield 376, 3) := dk_180 1 120 (dk_at dksX2_place_2 0 rfl rfl)
theorem dX2_place_48 : decode cX2_place 48 = .ok (.ireturn, 1) := dk_172 (dk_at dksX2_place_2 3 rfl rfl)
abbrev cX2_kilnOf : ByteArray := prog_1_method_17_code
def yX2_kilnOf : MethodName := ⟨RX2, "kilnOf", "(I)LKilnBench$Kiln;"⟩
def dkwX2_kilnOf_0 : List UInt8 := [42, 180, 0, 20, 180, 0, 152, 27, 184, 0, 146, 192, 0, 155, 176]
abbrev dktX2_kilnOf_0 : List UInt8 := dkwX2_kilnOf_0 ++ []
theorem dksX2_kilnOf_0 : cX2_kilnOf.data.toList.drop 0 = dktX2_kilnOf_0 := by decide +kernel
theorem dX2_kilnOf_0 : decode cX2_kilnOf 0 = .ok (.aload_n 0, 1) := dk_42 (dk_at dksX2_kilnOf_0 0 rfl rfl)
theorem dX2_kilnOf_1 : decode cX2_kilnOf 1 = .ok (.getfield 20, 3) := dk_180 0 20 (dk_at dksX2_kilnOf_0 1 rfl rfl)
theorem dX2_kilnOf_4 : decode cX2_kilnOf 4 = .ok (.getfield 152, 3) := dk_180 0 152 (dk_at dksX2_kilnOf_0 4 rfl rfl)
theorem dX2_kilnOf_7 : decode cX2_kilnOf 7 = .ok (.iload_n 1, 1) := dk_27 (dk_at dksX2_kilnOf_0 7 rfl rfl)
theorem dX2_kilnOf_8 : decode cX2_kilnOf 8 = .ok (.invokestatic 146, 3) := dk_184 0 146 (dk_at dksX2_kilnOf_0 8 rfl rfl)
theorem dX2_kilnOf_11 : decode cX2_kilnOf 11 = .ok (.checkcast 155, 3) := dk_192 0 155 (dk_at dksX2_kilnOf_0 11 rfl rfl)
theorem dX2_kilnOf_14 : decode cX2_kilnOf 14 = .ok (.areturn, 1) := dk_176 (dk_at dksX2_kilnOf_0 14 rfl rfl)
abbrev cX2_has : ByteArray := prog_1_method_43_code
def yX2_has : MethodName := ⟨RX2, "has", "(I)I"⟩
def dkwX2_has_7 : List UInt8 := [172]
abbrev dktX2_has_7 : List UInt8 := dkwX2_has_7 ++ []
def dkwX2_has_6 : List UInt8 := [172, 42, 180, 0, 35, 182, 0, 136, 172, 42, 180, 0, 45, 182, 0, 136, 172, 42, 180, 0, 48, 136, 172, 2]
abbrev dktX2_has_6 : List UInt8 := dkwX2_has_6 ++ dktX2_has_7
def dkwX2_has_5 : List UInt8 := [172, 42, 180, 0, 20, 180, 0, 152, 186, 1, 106, 0, 0, 184, 1, 100, 172, 42, 180, 0, 31, 182, 0, 136]
abbrev dktX2_has_5 : List UInt8 := dkwX2_has_5 ++ dktX2_has_6
def dkwX2_has_4 : List UInt8 := [186, 1, 104, 0, 0, 184, 1, 100, 172, 42, 180, 0, 20, 180, 0, 143, 186, 1, 105, 0, 0, 184, 1, 100]
abbrev dktX2_has_4 : List UInt8 := dkwX2_has_4 ++ dktX2_has_5
def dkwX2_has_3 : List UInt8 := [180, 0, 20, 180, 0, 143, 186, 1, 97, 0, 0, 184, 1, 100, 172, 42, 180, 0, 20, 180, 0, 143]
abbrev dktX2_has_3 : List UInt8 := dkwX2_has_3 ++ dktX2_has_4
def dkwX2_has_2 : List UInt8 := [42, 182, 1, 95, 172, 42, 182, 0, 232, 172, 42, 180, 0, 119, 172, 42, 180, 0, 20, 180, 0, 223, 172, 42]
abbrev dktX2_has_2 : List UInt8 := dkwX2_has_2 ++ dktX2_has_3
def dkwX2_has_1 : List UInt8 := [170, 0, 0, 0, 0, 0, 180, 0, 0, 0, 0, 0, 0, 0, 11, 0, 0, 0, 63, 0, 0, 0, 68, 0, 0, 0, 73, 0, 0, 0, 78, 0, 0, 0, 86, 0, 0, 0, 102, 0, 0, 0, 118, 0, 0, 0, 134, 0, 0, 0, 150, 0, 0, 0, 158, 0, 0, 0, 166, 0, 0, 0, 174]
abbrev dktX2_has_1 : List UInt8 := dkwX2_has_1 ++ dktX2_has_2
def dkwX2_has_0 : List UInt8 := [27]
abbrev dktX2_has_0 : List UInt8 := dkwX2_has_0 ++ dktX2_has_1
theorem dksX2_has_0 : cX2_has.data.toList.drop 0 = dktX2_has_0 := by decide +kernel
theorem dksX2_has_1 : cX2_has.data.toList.drop 1 = dktX2_has_1 := dk_seg dksX2_has_0 1 rfl rfl
theorem dksX2_has_2 : cX2_has.data.toList.drop 64 = dktX2_has_2 := dk_seg dksX2_has_1 63 rfl rfl
theorem dksX2_has_3 : cX2_has.data.toList.drop 88 = dktX2_has_3 := dk_seg dksX2_has_2 24 rfl rfl
theorem dksX2_has_4 : cX2_has.data.toList.drop 110 = dktX2_has_4 := dk_seg dksX2_has_3 22 rfl rfl
theorem dksX2_has_5 : cX2_has.data.toList.drop 134 = dktX2_has_5 := dk_seg dksX2_has_4 24 rfl rfl
theorem dksX2_has_6 : cX2_has.data.toList.drop 158 = dktX2_has_6 := dk_seg dksX2_has_5 24 rfl rfl
theorem dksX2_has_7 : cX2_has.data.toList.drop 182 = dktX2_has_7 := dk_seg dksX2_has_6 24 rfl rfl
theorem dX2_has_0 : decode cX2_has 0 = .ok (.iload_n 1, 1) := dk_27 (dk_at dksX2_has_0 0 rfl rfl)
theorem dX2_has_1 : decode cX2_has 1 = .ok (.tableswitch 180 0 11 #[63, 68, 73, 78, 86, 102, 118, 134, 150, 158, 166, 174], 63) := by decide +kernel
theorem dX2_has_64 : decode cX2_has 64 = .ok (.aload_n 0, 1) := dk_42 (dk_at dksX2_has_2 0 rfl rfl)
theorem dX2_has_65 : decode cX2_has 65 = .ok (.invokevirtual 351, 3) := dk_182 1 95 (dk_at dksX2_has_2 1 rfl rfl)
theorem dX2_has_68 : decode cX2_has 68 = .ok (.ireturn, 1) := dk_172 (dk_at dksX2_has_2 4 rfl rfl)
theorem dX2_has_69 : decode cX2_has 69 = .ok (.aload_n 0, 1) := dk_42 (dk_at dksX2_has_2 5 rfl rfl)
theorem dX2_has_70 : decode cX2_has 70 = .ok (.invokevirtual 232, 3) := dk_182 0 232 (dk_at dksX2_has_2 6 rfl rfl)
theorem dX2_has_73 : decode cX2_has 73 = .ok (.ireturn, 1) := dk_172 (dk_at dksX2_has_2 9 rfl rfl)
theorem dX2_has_74 : decode cX2_has 74 = .ok (.aload_n 0, 1) := dk_42 (dk_at dksX2_has_2 10 rfl rfl)
theorem dX2_has_75 : decode cX2_has 75 = .ok (.getfield 119, 3) := dk_180 0 119 (dk_at dksX2_has_2 11 rfl rfl)
theorem dX2_has_78 : decode cX2_has 78 = .ok (.ireturn, 1) := dk_172 (dk_at dksX2_has_2 14 rfl rfl)
theorem dX2_has_79 : decode cX2_has 79 = .ok (.aload_n 0, 1) := dk_42 (dk_at dksX2_has_2 15 rfl rfl)
theorem dX2_has_80 : decode cX2_has 80 = .ok (.getfield 20, 3) := dk_180 0 20 (dk_at dksX2_has_2 16 rfl rfl)
theorem dX2_has_83 : decode cX2_has 83 = .ok (.getfield 223, 3) := dk_180 0 223 (dk_at dksX2_has_2 19 rfl rfl)
theorem dX2_has_86 : decode cX2_has 86 = .ok (.ireturn, 1) := dk_172 (dk_at dksX2_has_2 22 rfl rfl)
theorem dX2_has_87 : decode cX2_has 87 = .ok (.aload_n 0, 1) := dk_42 (dk_at dksX2_has_2 23 rfl rfl)
theorem dX2_has_88 : decode cX2_has 88 = .ok (.getfield 20, 3) := dk_180 0 20 (dk_at dksX2_has_3 0 rfl rfl)
theorem dX2_has_91 : decode cX2_has 91 = .ok (.getfield 143, 3) := dk_180 0 143 (dk_at dksX2_has_3 3 rfl rfl)
theorem dX2_has_94 : decode cX2_has 94 = .ok (.invokedynamic 353, 5) := by decide +kernel
theorem dX2_has_99 : decode cX2_has 99 = .ok (.invokestatic 356, 3) := dk_184 1 100 (dk_at dksX2_has_3 11 rfl rfl)
theorem dX2_has_102 : decode cX2_has 102 = .ok (.ireturn, 1) := dk_172 (dk_at dksX2_has_3 14 rfl rfl)
theorem dX2_has_103 : decode cX2_has 103 = .ok (.aload_n 0, 1) := dk_42 (dk_at dksX2_has_3 15 rfl rfl)
theorem dX2_has_104 : decode cX2_has 104 = .ok (.getfield 20, 3) := dk_180 0 20 (dk_at dksX2_has_3 16 rfl rfl)
theorem dX2_has_107 : decode cX2_has 107 = .ok (.getfield 143, 3) := dk_180 0 143 (dk_at dksX2_has_3 19 rfl rfl)
theorem dX2_has_110 : decode cX2_has 110 = .ok (.invokedynamic 360, 5) := by decide +kernel
theorem dX2_has_115 : decode cX2_has 115 = .ok (.invokestatic 356, 3) := dk_184 1 100 (dk_at dksX2_has_4 5 rfl rfl)
theorem dX2_has_118 : decode cX2_has 118 = .ok (.ireturn, 1) := dk_172 (dk_at dksX2_has_4 8 rfl rfl)
theorem dX2_has_119 : decode cX2_has 119 = .ok (.aload_n 0, 1) := dk_42 (dk_at dksX2_has_4 9 rfl rfl)
theorem dX2_has_120 : decode cX2_has 120 = .ok (.getfield 20, 3) := dk_180 0 20 (dk_at dksX2_has_4 10 rfl rfl)
theorem dX2_has_123 : decode cX2_has 123 = .ok (.getfield 143, 3) := dk_180 0 143 (dk_at dksX2_has_4 13 rfl rfl)
theorem dX2_has_126 : decode cX2_has 126 = .ok (.invokedynamic 361, 5) := by decide +kernel
theorem dX2_has_131 : decode cX2_has 131 = .ok (.invokestatic 356, 3) := dk_184 1 100 (dk_at dksX2_has_4 21 rfl rfl)
theorem dX2_has_134 : decode cX2_has 134 = .ok (.ireturn, 1) := dk_172 (dk_at dksX2_has_5 0 rfl rfl)
theorem dX2_has_135 : decode cX2_has 135 = .ok (.aload_n 0, 1) := dk_42 (dk_at dksX2_has_5 1 rfl rfl)
theorem dX2_has_136 : decode cX2_has 136 = .ok (.getfield 20, 3) := dk_180 0 20 (dk_at dksX2_has_5 2 rfl rfl)
theorem dX2_has_139 : decode cX2_has 139 = .ok (.getfield 152, 3) := dk_180 0 152 (dk_at dksX2_has_5 5 rfl rfl)
theorem dX2_has_142 : decode cX2_has 142 = .ok (.invokedynamic 362, 5) := by decide +kernel
theorem dX2_has_147 : decode cX2_has 147 = .ok (.invokestatic 356, 3) := dk_184 1 100 (dk_at dksX2_has_5 13 rfl rfl)
theorem dX2_has_150 : decode cX2_has 150 = .ok (.ireturn, 1) := dk_172 (dk_at dksX2_has_5 16 rfl rfl)
theorem dX2_has_151 : decode cX2_has 151 = .ok (.aload_n 0, 1) := dk_42 (dk_at dksX2_has_5 17 rfl rfl)
theorem dX2_has_152 : decode cX2_has 152 = .ok (.getfield 31, 3) := dk_180 0 31 (dk_at dksX2_has_5 18 rfl rfl)
theorem dX2_has_155 : decode cX2_has 155 = .ok (.invokevirtual 136, 3) := dk_182 0 136 (dk_at dksX2_has_5 21 rfl rfl)
theorem dX2_has_158 : decode cX2_has 158 = .ok (.ireturn, 1) := dk_172 (dk_at dksX2_has_6 0 rfl rfl)
theorem dX2_has_159 : decode cX2_has 159 = .ok (.aload_n 0, 1) := dk_42 (dk_at dksX2_has_6 1 rfl rfl)
theorem dX2_has_160 : decode cX2_has 160 = .ok (.getfield 35, 3) := dk_180 0 35 (dk_at dksX2_has_6 2 rfl rfl)
theorem dX2_has_163 : decode cX2_has 163 = .ok (.invokevirtual 136, 3) := dk_182 0 136 (dk_at dksX2_has_6 5 rfl rfl)
theorem dX2_has_166 : decode cX2_has 166 = .ok (.ireturn, 1) := dk_172 (dk_at dksX2_has_6 8 rfl rfl)
theorem dX2_has_167 : decode cX2_has 167 = .ok (.aload_n 0, 1) := dk_42 (dk_at dksX2_has_6 9 rfl rfl)
theorem dX2_has_168 : decode cX2_has 168 = .ok (.getfield 45, 3) := dk_180 0 45 (dk_at dksX2_has_6 10 rfl rfl)
theorem dX2_has_171 : decode cX2_has 171 = .ok (.invokevirtual 136, 3) := dk_182 0 136 (dk_at dksX2_has_6 13 rfl rfl)
theorem dX2_has_174 : decode cX2_has 174 = .ok (.ireturn, 1) := dk_172 (dk_at dksX2_has_6 16 rfl rfl)
theorem dX2_has_175 : decode cX2_has 175 = .ok (.aload_n 0, 1) := dk_42 (dk_at dksX2_has_6 17 rfl rfl)
theorem dX2_has_176 : decode cX2_has 176 = .ok (.getfield 48, 3) := dk_180 0 48 (dk_at dksX2_has_6 18 rfl rfl)
theorem dX2_has_179 : decode cX2_has 179 = .ok (.l2i, 1) := dk_136 (dk_at dksX2_has_6 21 rfl rfl)
theorem dX2_has_180 : decode cX2_has 180 = .ok (.ireturn, 1) := dk_172 (dk_at dksX2_has_6 22 rfl rfl)
theorem dX2_has_181 : decode cX2_has 181 = .ok (.iconst (-1), 1) := dk_2 (dk_at dksX2_has_6 23 rfl rfl)
theorem dX2_has_182 : decode cX2_has 182 = .ok (.ireturn, 1) := dk_172 (dk_at dksX2_has_7 0 rfl rfl)
abbrev cX2_children : ByteArray := prog_1_method_18_code
def yX2_children : MethodName := ⟨RX2, "children", "()I"⟩
def dkwX2_children_0 : List UInt8 := [42, 180, 0, 20, 180, 0, 143, 182, 0, 136, 172]
abbrev dktX2_children_0 : List UInt8 := dkwX2_children_0 ++ []
theorem dksX2_children_0 : cX2_children.data.toList.drop 0 = dktX2_children_0 := by decide +kernel
theorem dX2_children_0 : decode cX2_children 0 = .ok (.aload_n 0, 1) := dk_42 (dk_at dksX2_children_0 0 rfl rfl)
theorem dX2_children_1 : decode cX2_children 1 = .ok (.getfield 20, 3) := dk_180 0 20 (dk_at dksX2_children_0 1 rfl rfl)
theorem dX2_children_4 : decode cX2_children 4 = .ok (.getfield 143, 3) := dk_180 0 143 (dk_at dksX2_children_0 4 rfl rfl)
theorem dX2_children_7 : decode cX2_children 7 = .ok (.invokevirtual 136, 3) := dk_182 0 136 (dk_at dksX2_children_0 7 rfl rfl)
theorem dX2_children_10 : decode cX2_children 10 = .ok (.ireturn, 1) := dk_172 (dk_at dksX2_children_0 10 rfl rfl)
abbrev cX2_kilns : ByteArray := prog_1_method_19_code
def yX2_kilns : MethodName := ⟨RX2, "kilns", "()I"⟩
def dkwX2_kilns_0 : List UInt8 := [42, 180, 0, 20, 180, 0, 152, 182, 0, 136, 172]
abbrev dktX2_kilns_0 : List UInt8 := dkwX2_kilns_0 ++ []
theorem dksX2_kilns_0 : cX2_kilns.data.toList.drop 0 = dktX2_kilns_0 := by decide +kernel
theorem dX2_kilns_0 : decode cX2_kilns 0 = .ok (.aload_n 0, 1) := dk_42 (dk_at dksX2_kilns_0 0 rfl rfl)
theorem dX2_kilns_1 : decode cX2_kilns 1 = .ok (.getfield 20, 3) := dk_180 0 20 (dk_at dksX2_kilns_0 1 rfl rfl)
theorem dX2_kilns_4 : decode cX2_kilns 4 = .ok (.getfield 152, 3) := dk_180 0 152 (dk_at dksX2_kilns_0 4 rfl rfl)
theorem dX2_kilns_7 : decode cX2_kilns 7 = .ok (.invokevirtual 136, 3) := dk_182 0 136 (dk_at dksX2_kilns_0 7 rfl rfl)
theorem dX2_kilns_10 : decode cX2_kilns 10 = .ok (.ireturn, 1) := dk_172 (dk_at dksX2_kilns_0 10 rfl rfl)
abbrev cX2_lambda_has_0 : ByteArray := prog_1_method_85_code
def yX2_lambda_has_0 : MethodName := ⟨RX2, "lambda$has$0", "(LKilnBench$Child;)Z"⟩
def dkwX2_lambda_has_0_0 : List UInt8 := [42, 180, 1, 79, 198, 0, 7, 4, 167, 0, 4, 3, 172]
abbrev dktX2_lambda_has_0_0 : List UInt8 := dkwX2_lambda_has_0_0 ++ []
theorem dksX2_lambda_has_0_0 : cX2_lambda_has_0.data.toList.drop 0 = dktX2_lambda_has_0_0 := by decide +kernel
theorem dX2_lambda_has_0_0 : decode cX2_lambda_has_0 0 = .ok (.aload_n 0, 1) := dk_42 (dk_at dksX2_lambda_has_0_0 0 rfl rfl)
theorem dX2_lambda_has_0_1 : decode cX2_lambda_has_0 1 = .ok (.getfield 335, 3) := dk_180 1 79 (dk_at dksX2_lambda_has_0_0 1 rfl rfl)
theorem dX2_lambda_has_0_4 : decode cX2_lambda_has_0 4 = .ok (.ifnull 7, 3) := dk_198 0 7 (dk_at dksX2_lambda_has_0_0 4 rfl rfl)
theorem dX2_lambda_has_0_7 : decode cX2_lambda_has_0 7 = .ok (.iconst 1, 1) := dk_4 (dk_at dksX2_lambda_has_0_0 7 rfl rfl)
theorem dX2_lambda_has_0_8 : decode cX2_lambda_has_0 8 = .ok (.goto 4, 3) := dk_167 0 4 (dk_at dksX2_lambda_has_0_0 8 rfl rfl)
theorem dX2_lambda_has_0_11 : decode cX2_lambda_has_0 11 = .ok (.iconst 0, 1) := dk_3 (dk_at dksX2_lambda_has_0_0 11 rfl rfl)
theorem dX2_lambda_has_0_12 : decode cX2_lambda_has_0 12 = .ok (.ireturn, 1) := dk_172 (dk_at dksX2_lambda_has_0_0 12 rfl rfl)
abbrev cX2_many : ByteArray := prog_1_method_42_code
def yX2_many : MethodName := ⟨RX2, "many", "(Ljava/util/ArrayList;LKilnBench$Meant;)I"⟩
def dkwX2_many_1 : List UInt8 := [153, 0, 6, 132, 2, 1, 132, 3, 1, 167, 255, 228, 28, 172]
abbrev dktX2_many_1 : List UInt8 := dkwX2_many_1 ++ []
def dkwX2_many_0 : List UInt8 := [3, 61, 3, 62, 29, 42, 182, 0, 136, 162, 0, 26, 43, 42, 29, 182, 0, 139, 185, 1, 90, 2, 0]
abbrev dktX2_many_0 : List UInt8 := dkwX2_many_0 ++ dktX2_many_1
theorem dksX2_many_0 : cX2_many.data.toList.drop 0 = dktX2_many_0 := by decide +kernel
theorem dksX2_many_1 : cX2_many.data.toList.drop 23 = dktX2_many_1 := dk_seg dksX2_many_0 23 rfl rfl
theorem dX2_many_0 : decode cX2_many 0 = .ok (.iconst 0, 1) := dk_3 (dk_at dksX2_many_0 0 rfl rfl)
theorem dX2_many_1 : decode cX2_many 1 = .ok (.istore_n 2, 1) := dk_61 (dk_at dksX2_many_0 1 rfl rfl)
theorem dX2_many_2 : decode cX2_many 2 = .ok (.iconst 0, 1) := dk_3 (dk_at dksX2_many_0 2 rfl rfl)
theorem dX2_many_3 : decode cX2_many 3 = .ok (.istore_n 3, 1) := dk_62 (dk_at dksX2_many_0 3 rfl rfl)
theorem dX2_many_4 : decode cX2_many 4 = .ok (.iload_n 3, 1) := dk_29 (dk_at dksX2_many_0 4 rfl rfl)
theorem dX2_many_5 : decode cX2_many 5 = .ok (.aload_n 0, 1) := dk_42 (dk_at dksX2_many_0 5 rfl rfl)
theorem dX2_many_6 : decode cX2_many 6 = .ok (.invokevirtual 136, 3) := dk_182 0 136 (dk_at dksX2_many_0 6 rfl rfl)
theorem dX2_many_9 : decode cX2_many 9 = .ok (.if_icmp .ge 26, 3) := dk_162 0 26 (dk_at dksX2_many_0 9 rfl rfl)
theorem dX2_many_12 : decode cX2_many 12 = .ok (.aload_n 1, 1) := dk_43 (dk_at dksX2_many_0 12 rfl rfl)
theorem dX2_many_13 : decode cX2_many 13 = .ok (.aload_n 0, 1) := dk_42 (dk_at dksX2_many_0 13 rfl rfl)
theorem dX2_many_14 : decode cX2_many 14 = .ok (.iload_n 3, 1) := dk_29 (dk_at dksX2_many_0 14 rfl rfl)
theorem dX2_many_15 : decode cX2_many 15 = .ok (.invokevirtual 139, 3) := dk_182 0 139 (dk_at dksX2_many_0 15 rfl rfl)
theorem dX2_many_18 : decode cX2_many 18 = .ok (.invokeinterface 346 2, 5) := by decide +kernel
theorem dX2_many_23 : decode cX2_many 23 = .ok (.ifCond .eq 6, 3) := dk_153 0 6 (dk_at dksX2_many_1 0 rfl rfl)
theorem dX2_many_26 : decode cX2_many 26 = .ok (.iinc 2 1, 3) := dk_132 2 1 (dk_at dksX2_many_1 3 rfl rfl)
theorem dX2_many_29 : decode cX2_many 29 = .ok (.iinc 3 1, 3) := dk_132 3 1 (dk_at dksX2_many_1 6 rfl rfl)
theorem dX2_many_32 : decode cX2_many 32 = .ok (.goto (-28), 3) := dk_167 255 228 (dk_at dksX2_many_1 9 rfl rfl)
theorem dX2_many_35 : decode cX2_many 35 = .ok (.iload_n 2, 1) := dk_28 (dk_at dksX2_many_1 12 rfl rfl)
theorem dX2_many_36 : decode cX2_many 36 = .ok (.ireturn, 1) := dk_172 (dk_at dksX2_many_1 13 rfl rfl)
abbrev cX2_lambda_has_1 : ByteArray := prog_1_method_84_code
def yX2_lambda_has_1 : MethodName := ⟨RX2, "lambda$has$1", "(LKilnBench$Child;)Z"⟩
theorem dX2_lambda_has_1_0 : decode cX2_lambda_has_1 0 = .ok (.aload_n 0, 1) := by decide +kernel
theorem dX2_lambda_has_1_1 : decode cX2_lambda_has_1 1 = .ok (.invokevirtual 321, 3) := by decide +kernel
theorem dX2_lambda_has_1_4 : decode cX2_lambda_has_1 4 = .ok (.ireturn, 1) := by decide +kernel
abbrev cX2_lambda_has_2 : ByteArray := prog_1_method_83_code
def yX2_lambda_has_2 : MethodName := ⟨RX2, "lambda$has$2", "(LKilnBench$Child;)Z"⟩
theorem dX2_lambda_has_2_0 : decode cX2_lambda_has_2 0 = .ok (.aload_n 0, 1) := by decide +kernel
theorem dX2_lambda_has_2_1 : decode cX2_lambda_has_2 1 = .ok (.getfield 373, 3) := by decide +kernel
theorem dX2_lambda_has_2_4 : decode cX2_lambda_has_2 4 = .ok (.ireturn, 1) := by decide +kernel
abbrev cX2_lambda_has_3 : ByteArray := prog_1_method_82_code
def yX2_lambda_has_3 : MethodName := ⟨RX2, "lambda$has$3", "(LKilnBench$Kiln;)Z"⟩
theorem dX2_lambda_has_3_0 : decode cX2_lambda_has_3 0 = .ok (.aload_n 0, 1) := by decide +kernel
theorem dX2_lambda_has_3_1 : decode cX2_lambda_has_3 1 = .ok (.invokevirtual 234, 3) := by decide +kernel
theorem dX2_lambda_has_3_4 : decode cX2_lambda_has_3 4 = .ok (.ireturn, 1) := by decide +kernel
abbrev cX2_kiln : ByteArray := prog_1_method_46_code
def yX2_kiln : MethodName := ⟨RX2, "kiln", "(II)I"⟩
def dkwX2_kiln_3 : List UInt8 := [182, 0, 238, 167, 0, 4, 2, 172, 2, 172]
abbrev dktX2_kiln_3 : List UInt8 := dkwX2_kiln_3 ++ []
def dkwX2_kiln_2 : List UInt8 := [45, 180, 0, 214, 172, 45, 182, 0, 217, 172, 45, 180, 0, 211, 172, 45, 182, 0, 234, 153, 0, 11, 42, 45]
abbrev dktX2_kiln_2 : List UInt8 := dkwX2_kiln_2 ++ dktX2_kiln_3
def dkwX2_kiln_1 : List UInt8 := [170, 0, 0, 0, 0, 0, 63, 0, 0, 0, 0, 0, 0, 0, 3, 0, 0, 0, 31, 0, 0, 0, 36, 0, 0, 0, 41, 0, 0, 0, 46]
abbrev dktX2_kiln_1 : List UInt8 := dkwX2_kiln_1 ++ dktX2_kiln_2
def dkwX2_kiln_0 : List UInt8 := [42, 27, 182, 1, 61, 78, 45, 199, 0, 5, 2, 172, 28]
abbrev dktX2_kiln_0 : List UInt8 := dkwX2_kiln_0 ++ dktX2_kiln_1
theorem dksX2_kiln_0 : cX2_kiln.data.toList.drop 0 = dktX2_kiln_0 := by decide +kernel
theorem dksX2_kiln_1 : cX2_kiln.data.toList.drop 13 = dktX2_kiln_1 := dk_seg dksX2_kiln_0 13 rfl rfl
theorem dksX2_kiln_2 : cX2_kiln.data.toList.drop 44 = dktX2_kiln_2 := dk_seg dksX2_kiln_1 31 rfl rfl
theorem dksX2_kiln_3 : cX2_kiln.data.toList.drop 68 = dktX2_kiln_3 := dk_seg dksX2_kiln_2 24 rfl rfl
theorem dX2_kiln_0 : decode cX2_kiln 0 = .ok (.aload_n 0, 1) := dk_42 (dk_at dksX2_kiln_0 0 rfl rfl)
theorem dX2_kiln_1 : decode cX2_kiln 1 = .ok (.iload_n 1, 1) := dk_27 (dk_at dksX2_kiln_0 1 rfl rfl)
theorem dX2_kiln_2 : decode cX2_kiln 2 = .ok (.invokevirtual 317, 3) := dk_182 1 61 (dk_at dksX2_kiln_0 2 rfl rfl)
theorem dX2_kiln_5 : decode cX2_kiln 5 = .ok (.astore_n 3, 1) := dk_78 (dk_at dksX2_kiln_0 5 rfl rfl)
theorem dX2_kiln_6 : decode cX2_kiln 6 = .ok (.aload_n 3, 1) := dk_45 (dk_at dksX2_kiln_0 6 rfl rfl)
theorem dX2_kiln_7 : decode cX2_kiln 7 = .ok (.ifnonnull 5, 3) := dk_199 0 5 (dk_at dksX2_kiln_0 7 rfl rfl)
theorem dX2_kiln_10 : decode cX2_kiln 10 = .ok (.iconst (-1), 1) := dk_2 (dk_at dksX2_kiln_0 10 rfl rfl)
theorem dX2_kiln_11 : decode cX2_kiln 11 = .ok (.ireturn, 1) := dk_172 (dk_at dksX2_kiln_0 11 rfl rfl)
theorem dX2_kiln_12 : decode cX2_kiln 12 = .ok (.iload_n 2, 1) := dk_28 (dk_at dksX2_kiln_0 12 rfl rfl)
theorem dX2_kiln_13 : decode cX2_kiln 13 = .ok (.tableswitch 63 0 3 #[31, 36, 41, 46], 31) := by decide +kernel
theorem dX2_kiln_44 : decode cX2_kiln 44 = .ok (.aload_n 3, 1) := dk_45 (dk_at dksX2_kiln_2 0 rfl rfl)
theorem dX2_kiln_45 : decode cX2_kiln 45 = .ok (.getfield 214, 3) := dk_180 0 214 (dk_at dksX2_kiln_2 1 rfl rfl)
theorem dX2_kiln_48 : decode cX2_kiln 48 = .ok (.ireturn, 1) := dk_172 (dk_at dksX2_kiln_2 4 rfl rfl)
theorem dX2_kiln_49 : decode cX2_kiln 49 = .ok (.aload_n 3, 1) := dk_45 (dk_at dksX2_kiln_2 5 rfl rfl)
theorem dX2_kiln_50 : decode cX2_kiln 50 = .ok (.invokevirtual 217, 3) := dk_182 0 217 (dk_at dksX2_kiln_2 6 rfl rfl)
theorem dX2_kiln_53 : decode cX2_kiln 53 = .ok (.ireturn, 1) := dk_172 (dk_at dksX2_kiln_2 9 rfl rfl)
theorem dX2_kiln_54 : decode cX2_kiln 54 = .ok (.aload_n 3, 1) := dk_45 (dk_at dksX2_kiln_2 10 rfl rfl)
theorem dX2_kiln_55 : decode cX2_kiln 55 = .ok (.getfield 211, 3) := dk_180 0 211 (dk_at dksX2_kiln_2 11 rfl rfl)
theorem dX2_kiln_58 : decode cX2_kiln 58 = .ok (.ireturn, 1) := dk_172 (dk_at dksX2_kiln_2 14 rfl rfl)
theorem dX2_kiln_59 : decode cX2_kiln 59 = .ok (.aload_n 3, 1) := dk_45 (dk_at dksX2_kiln_2 15 rfl rfl)
theorem dX2_kiln_60 : decode cX2_kiln 60 = .ok (.invokevirtual 234, 3) := dk_182 0 234 (dk_at dksX2_kiln_2 16 rfl rfl)
theorem dX2_kiln_63 : decode cX2_kiln 63 = .ok (.ifCond .eq 11, 3) := dk_153 0 11 (dk_at dksX2_kiln_2 19 rfl rfl)
theorem dX2_kiln_66 : decode cX2_kiln 66 = .ok (.aload_n 0, 1) := dk_42 (dk_at dksX2_kiln_2 22 rfl rfl)
theorem dX2_kiln_67 : decode cX2_kiln 67 = .ok (.aload_n 3, 1) := dk_45 (dk_at dksX2_kiln_2 23 rfl rfl)
theorem dX2_kiln_68 : decode cX2_kiln 68 = .ok (.invokevirtual 238, 3) := dk_182 0 238 (dk_at dksX2_kiln_3 0 rfl rfl)
theorem dX2_kiln_71 : decode cX2_kiln 71 = .ok (.goto 4, 3) := dk_167 0 4 (dk_at dksX2_kiln_3 3 rfl rfl)
theorem dX2_kiln_74 : decode cX2_kiln 74 = .ok (.iconst (-1), 1) := dk_2 (dk_at dksX2_kiln_3 6 rfl rfl)
theorem dX2_kiln_75 : decode cX2_kiln 75 = .ok (.ireturn, 1) := dk_172 (dk_at dksX2_kiln_3 7 rfl rfl)
theorem dX2_kiln_76 : decode cX2_kiln 76 = .ok (.iconst (-1), 1) := dk_2 (dk_at dksX2_kiln_3 8 rfl rfl)
theorem dX2_kiln_77 : decode cX2_kiln 77 = .ok (.ireturn, 1) := dk_172 (dk_at dksX2_kiln_3 9 rfl rfl)
abbrev cX2_burnt : ByteArray := prog_1_method_25_code
def yX2_burnt : MethodName := ⟨RX2, "burnt", "(LKilnBench$Kiln;)I"⟩
def dkwX2_burnt_2 : List UInt8 := [180, 0, 208, 42, 180, 0, 41, 185, 0, 183, 2, 0, 184, 0, 71, 136, 172]
abbrev dktX2_burnt_2 : List UInt8 := dkwX2_burnt_2 ++ []
def dkwX2_burnt_1 : List UInt8 := [44, 16, 8, 43, 180, 0, 214, 133, 80, 44, 16, 9, 43, 182, 0, 217, 133, 80, 9, 42, 180, 0, 20]
abbrev dktX2_burnt_1 : List UInt8 := dkwX2_burnt_1 ++ dktX2_burnt_2
def dkwX2_burnt_0 : List UInt8 := [42, 180, 0, 20, 180, 0, 208, 199, 0, 8, 43, 180, 0, 211, 172, 42, 43, 180, 0, 211, 182, 0, 160, 77]
abbrev dktX2_burnt_0 : List UInt8 := dkwX2_burnt_0 ++ dktX2_burnt_1
theorem dksX2_burnt_0 : cX2_burnt.data.toList.drop 0 = dktX2_burnt_0 := by decide +kernel
theorem dksX2_burnt_1 : cX2_burnt.data.toList.drop 24 = dktX2_burnt_1 := dk_seg dksX2_burnt_0 24 rfl rfl
theorem dksX2_burnt_2 : cX2_burnt.data.toList.drop 47 = dktX2_burnt_2 := dk_seg dksX2_burnt_1 23 rfl rfl
theorem dX2_burnt_0 : decode cX2_burnt 0 = .ok (.aload_n 0, 1) := dk_42 (dk_at dksX2_burnt_0 0 rfl rfl)
theorem dX2_burnt_1 : decode cX2_burnt 1 = .ok (.getfield 20, 3) := dk_180 0 20 (dk_at dksX2_burnt_0 1 rfl rfl)
theorem dX2_burnt_4 : decode cX2_burnt 4 = .ok (.getfield 208, 3) := dk_180 0 208 (dk_at dksX2_burnt_0 4 rfl rfl)
theorem dX2_burnt_7 : decode cX2_burnt 7 = .ok (.ifnonnull 8, 3) := dk_199 0 8 (dk_at dksX2_burnt_0 7 rfl rfl)
theorem dX2_burnt_10 : decode cX2_burnt 10 = .ok (.aload_n 1, 1) := dk_43 (dk_at dksX2_burnt_0 10 rfl rfl)
theorem dX2_burnt_11 : decode cX2_burnt 11 = .ok (.getfield 211, 3) := dk_180 0 211 (dk_at dksX2_burnt_0 11 rfl rfl)
theorem dX2_burnt_14 : decode cX2_burnt 14 = .ok (.ireturn, 1) := dk_172 (dk_at dksX2_burnt_0 14 rfl rfl)
theorem dX2_burnt_15 : decode cX2_burnt 15 = .ok (.aload_n 0, 1) := dk_42 (dk_at dksX2_burnt_0 15 rfl rfl)
theorem dX2_burnt_16 : decode cX2_burnt 16 = .ok (.aload_n 1, 1) := dk_43 (dk_at dksX2_burnt_0 16 rfl rfl)
theorem dX2_burnt_17 : decode cX2_burnt 17 = .ok (.getfield 211, 3) := dk_180 0 211 (dk_at dksX2_burnt_0 17 rfl rfl)
theorem dX2_burnt_20 : decode cX2_burnt 20 = .ok (.invokevirtual 160, 3) := dk_182 0 160 (dk_at dksX2_burnt_0 20 rfl rfl)
theorem dX2_burnt_23 : decode cX2_burnt 23 = .ok (.astore_n 2, 1) := dk_77 (dk_at dksX2_burnt_0 23 rfl rfl)
theorem dX2_burnt_24 : decode cX2_burnt 24 = .ok (.aload_n 2, 1) := dk_44 (dk_at dksX2_burnt_1 0 rfl rfl)
theorem dX2_burnt_25 : decode cX2_burnt 25 = .ok (.bipush 8, 2) := dk_16 8 (dk_at dksX2_burnt_1 1 rfl rfl)
theorem dX2_burnt_27 : decode cX2_burnt 27 = .ok (.aload_n 1, 1) := dk_43 (dk_at dksX2_burnt_1 3 rfl rfl)
theorem dX2_burnt_28 : decode cX2_burnt 28 = .ok (.getfield 214, 3) := dk_180 0 214 (dk_at dksX2_burnt_1 4 rfl rfl)
theorem dX2_burnt_31 : decode cX2_burnt 31 = .ok (.i2l, 1) := dk_133 (dk_at dksX2_burnt_1 7 rfl rfl)
theorem dX2_burnt_32 : decode cX2_burnt 32 = .ok (.lastore, 1) := dk_80 (dk_at dksX2_burnt_1 8 rfl rfl)
theorem dX2_burnt_33 : decode cX2_burnt 33 = .ok (.aload_n 2, 1) := dk_44 (dk_at dksX2_burnt_1 9 rfl rfl)
theorem dX2_burnt_34 : decode cX2_burnt 34 = .ok (.bipush 9, 2) := dk_16 9 (dk_at dksX2_burnt_1 10 rfl rfl)
theorem dX2_burnt_36 : decode cX2_burnt 36 = .ok (.aload_n 1, 1) := dk_43 (dk_at dksX2_burnt_1 12 rfl rfl)
theorem dX2_burnt_37 : decode cX2_burnt 37 = .ok (.invokevirtual 217, 3) := dk_182 0 217 (dk_at dksX2_burnt_1 13 rfl rfl)
theorem dX2_burnt_40 : decode cX2_burnt 40 = .ok (.i2l, 1) := dk_133 (dk_at dksX2_burnt_1 16 rfl rfl)
theorem dX2_burnt_41 : decode cX2_burnt 41 = .ok (.lastore, 1) := dk_80 (dk_at dksX2_burnt_1 17 rfl rfl)
theorem dX2_burnt_42 : decode cX2_burnt 42 = .ok (.lconst 0, 1) := dk_9 (dk_at dksX2_burnt_1 18 rfl rfl)
theorem dX2_burnt_43 : decode cX2_burnt 43 = .ok (.aload_n 0, 1) := dk_42 (dk_at dksX2_burnt_1 19 rfl rfl)
theorem dX2_burnt_44 : decode cX2_burnt 44 = .ok (.getfield 20, 3) := dk_180 0 20 (dk_at dksX2_burnt_1 20 rfl rfl)
theorem dX2_burnt_47 : decode cX2_burnt 47 = .ok (.getfield 208, 3) := dk_180 0 208 (dk_at dksX2_burnt_2 0 rfl rfl)
theorem dX2_burnt_50 : decode cX2_burnt 50 = .ok (.aload_n 0, 1) := dk_42 (dk_at dksX2_burnt_2 3 rfl rfl)
theorem dX2_burnt_51 : decode cX2_burnt 51 = .ok (.getfield 41, 3) := dk_180 0 41 (dk_at dksX2_burnt_2 4 rfl rfl)
theorem dX2_burnt_54 : decode cX2_burnt 54 = .ok (.invokeinterface 183 2, 5) := by decide +kernel
theorem dX2_burnt_59 : decode cX2_burnt 59 = .ok (.invokestatic 71, 3) := dk_184 0 71 (dk_at dksX2_burnt_2 12 rfl rfl)
theorem dX2_burnt_62 : decode cX2_burnt 62 = .ok (.l2i, 1) := dk_136 (dk_at dksX2_burnt_2 15 rfl rfl)
theorem dX2_burnt_63 : decode cX2_burnt 63 = .ok (.ireturn, 1) := dk_172 (dk_at dksX2_burnt_2 16 rfl rfl)
abbrev cX2_asked : ByteArray := prog_1_method_20_code
def yX2_asked : MethodName := ⟨RX2, "asked", "(I)[J"⟩
def dkwX2_asked_1 : List UInt8 := [80, 42, 180, 0, 41, 180, 0, 157, 176]
abbrev dktX2_asked_1 : List UInt8 := dkwX2_asked_1 ++ []
def dkwX2_asked_0 : List UInt8 := [42, 180, 0, 41, 180, 0, 157, 3, 27, 133, 80, 42, 180, 0, 41, 180, 0, 157, 4, 42, 180, 0, 119, 133]
abbrev dktX2_asked_0 : List UInt8 := dkwX2_asked_0 ++ dktX2_asked_1
theorem dksX2_asked_0 : cX2_asked.data.toList.drop 0 = dktX2_asked_0 := by decide +kernel
theorem dksX2_asked_1 : cX2_asked.data.toList.drop 24 = dktX2_asked_1 := dk_seg dksX2_asked_0 24 rfl rfl
theorem dX2_asked_0 : decode cX2_asked 0 = .ok (.aload_n 0, 1) := dk_42 (dk_at dksX2_asked_0 0 rfl rfl)
theorem dX2_asked_1 : decode cX2_asked 1 = .ok (.getfield 41, 3) := dk_180 0 41 (dk_at dksX2_asked_0 1 rfl rfl)
theorem dX2_asked_4 : decode cX2_asked 4 = .ok (.getfield 157, 3) := dk_180 0 157 (dk_at dksX2_asked_0 4 rfl rfl)
theorem dX2_asked_7 : decode cX2_asked 7 = .ok (.iconst 0, 1) := dk_3 (dk_at dksX2_asked_0 7 rfl rfl)
theorem dX2_asked_8 : decode cX2_asked 8 = .ok (.iload_n 1, 1) := dk_27 (dk_at dksX2_asked_0 8 rfl rfl)
theorem dX2_asked_9 : decode cX2_asked 9 = .ok (.i2l, 1) := dk_133 (dk_at dksX2_asked_0 9 rfl rfl)
theorem dX2_asked_10 : decode cX2_asked 10 = .ok (.lastore, 1) := dk_80 (dk_at dksX2_asked_0 10 rfl rfl)
theorem dX2_asked_11 : decode cX2_asked 11 = .ok (.aload_n 0, 1) := dk_42 (dk_at dksX2_asked_0 11 rfl rfl)
theorem dX2_asked_12 : decode cX2_asked 12 = .ok (.getfield 41, 3) := dk_180 0 41 (dk_at dksX2_asked_0 12 rfl rfl)
theorem dX2_asked_15 : decode cX2_asked 15 = .ok (.getfield 157, 3) := dk_180 0 157 (dk_at dksX2_asked_0 15 rfl rfl)
theorem dX2_asked_18 : decode cX2_asked 18 = .ok (.iconst 1, 1) := dk_4 (dk_at dksX2_asked_0 18 rfl rfl)
theorem dX2_asked_19 : decode cX2_asked 19 = .ok (.aload_n 0, 1) := dk_42 (dk_at dksX2_asked_0 19 rfl rfl)
theorem dX2_asked_20 : decode cX2_asked 20 = .ok (.getfield 119, 3) := dk_180 0 119 (dk_at dksX2_asked_0 20 rfl rfl)
theorem dX2_asked_23 : decode cX2_asked 23 = .ok (.i2l, 1) := dk_133 (dk_at dksX2_asked_0 23 rfl rfl)
theorem dX2_asked_24 : decode cX2_asked 24 = .ok (.lastore, 1) := dk_80 (dk_at dksX2_asked_1 0 rfl rfl)
theorem dX2_asked_25 : decode cX2_asked 25 = .ok (.aload_n 0, 1) := dk_42 (dk_at dksX2_asked_1 1 rfl rfl)
theorem dX2_asked_26 : decode cX2_asked 26 = .ok (.getfield 41, 3) := dk_180 0 41 (dk_at dksX2_asked_1 2 rfl rfl)
theorem dX2_asked_29 : decode cX2_asked 29 = .ok (.getfield 157, 3) := dk_180 0 157 (dk_at dksX2_asked_1 5 rfl rfl)
theorem dX2_asked_32 : decode cX2_asked 32 = .ok (.areturn, 1) := dk_176 (dk_at dksX2_asked_1 8 rfl rfl)
abbrev cX2_clip : ByteArray := prog_1_method_5_code
def yX2_clip : MethodName := ⟨RX2, "clip", "(J)J"⟩
def dkwX2_clip_0 : List UInt8 := [20, 0, 74, 20, 0, 76, 30, 184, 0, 65, 184, 0, 71, 173]
abbrev dktX2_clip_0 : List UInt8 := dkwX2_clip_0 ++ []
theorem dksX2_clip_0 : cX2_clip.data.toList.drop 0 = dktX2_clip_0 := by decide +kernel
theorem dX2_clip_0 : decode cX2_clip 0 = .ok (.ldc2_w 74, 3) := dk_20 0 74 (dk_at dksX2_clip_0 0 rfl rfl)
theorem dX2_clip_3 : decode cX2_clip 3 = .ok (.ldc2_w 76, 3) := dk_20 0 76 (dk_at dksX2_clip_0 3 rfl rfl)
theorem dX2_clip_6 : decode cX2_clip 6 = .ok (.lload_n 0, 1) := dk_30 (dk_at dksX2_clip_0 6 rfl rfl)
theorem dX2_clip_7 : decode cX2_clip 7 = .ok (.invokestatic 65, 3) := dk_184 0 65 (dk_at dksX2_clip_0 7 rfl rfl)
theorem dX2_clip_10 : decode cX2_clip 10 = .ok (.invokestatic 71, 3) := dk_184 0 71 (dk_at dksX2_clip_0 10 rfl rfl)
theorem dX2_clip_13 : decode cX2_clip 13 = .ok (.lreturn, 1) := dk_173 (dk_at dksX2_clip_0 13 rfl rfl)
abbrev cX2_rings : ByteArray := prog_1_method_49_code
def yX2_rings : MethodName := ⟨RX2, "rings", "(III)I"⟩
def dkwX2_rings_1 : List UInt8 := [182, 0, 192, 167, 0, 4, 2, 172]
abbrev dktX2_rings_1 : List UInt8 := dkwX2_rings_1 ++ []
def dkwX2_rings_0 : List UInt8 := [42, 27, 182, 1, 57, 58, 4, 42, 25, 4, 28, 29, 182, 1, 123, 153, 0, 14, 42, 25, 4, 28, 29]
abbrev dktX2_rings_0 : List UInt8 := dkwX2_rings_0 ++ dktX2_rings_1
theorem dksX2_rings_0 : cX2_rings.data.toList.drop 0 = dktX2_rings_0 := by decide +kernel
theorem dksX2_rings_1 : cX2_rings.data.toList.drop 23 = dktX2_rings_1 := dk_seg dksX2_rings_0 23 rfl rfl
theorem dX2_rings_0 : decode cX2_rings 0 = .ok (.aload_n 0, 1) := dk_42 (dk_at dksX2_rings_0 0 rfl rfl)
theorem dX2_rings_1 : decode cX2_rings 1 = .ok (.iload_n 1, 1) := dk_27 (dk_at dksX2_rings_0 1 rfl rfl)
theorem dX2_rings_2 : decode cX2_rings 2 = .ok (.invokevirtual 313, 3) := dk_182 1 57 (dk_at dksX2_rings_0 2 rfl rfl)
theorem dX2_rings_5 : decode cX2_rings 5 = .ok (.astore 4, 2) := dk_58 4 (dk_at dksX2_rings_0 5 rfl rfl)
theorem dX2_rings_7 : decode cX2_rings 7 = .ok (.aload_n 0, 1) := dk_42 (dk_at dksX2_rings_0 7 rfl rfl)
theorem dX2_rings_8 : decode cX2_rings 8 = .ok (.aload 4, 2) := dk_25 4 (dk_at dksX2_rings_0 8 rfl rfl)
theorem dX2_rings_10 : decode cX2_rings 10 = .ok (.iload_n 2, 1) := dk_28 (dk_at dksX2_rings_0 10 rfl rfl)
theorem dX2_rings_11 : decode cX2_rings 11 = .ok (.iload_n 3, 1) := dk_29 (dk_at dksX2_rings_0 11 rfl rfl)
theorem dX2_rings_12 : decode cX2_rings 12 = .ok (.invokevirtual 379, 3) := dk_182 1 123 (dk_at dksX2_rings_0 12 rfl rfl)
theorem dX2_rings_15 : decode cX2_rings 15 = .ok (.ifCond .eq 14, 3) := dk_153 0 14 (dk_at dksX2_rings_0 15 rfl rfl)
theorem dX2_rings_18 : decode cX2_rings 18 = .ok (.aload_n 0, 1) := dk_42 (dk_at dksX2_rings_0 18 rfl rfl)
theorem dX2_rings_19 : decode cX2_rings 19 = .ok (.aload 4, 2) := dk_25 4 (dk_at dksX2_rings_0 19 rfl rfl)
theorem dX2_rings_21 : decode cX2_rings 21 = .ok (.iload_n 2, 1) := dk_28 (dk_at dksX2_rings_0 21 rfl rfl)
theorem dX2_rings_22 : decode cX2_rings 22 = .ok (.iload_n 3, 1) := dk_29 (dk_at dksX2_rings_0 22 rfl rfl)
theorem dX2_rings_23 : decode cX2_rings 23 = .ok (.invokevirtual 192, 3) := dk_182 0 192 (dk_at dksX2_rings_1 0 rfl rfl)
theorem dX2_rings_26 : decode cX2_rings 26 = .ok (.goto 4, 3) := dk_167 0 4 (dk_at dksX2_rings_1 3 rfl rfl)
theorem dX2_rings_29 : decode cX2_rings 29 = .ok (.iconst (-1), 1) := dk_2 (dk_at dksX2_rings_1 6 rfl rfl)
theorem dX2_rings_30 : decode cX2_rings 30 = .ok (.ireturn, 1) := dk_172 (dk_at dksX2_rings_1 7 rfl rfl)
abbrev cX2_areThere : ByteArray := prog_1_method_48_code
def yX2_areThere : MethodName := ⟨RX2, "areThere", "(LKilnBench$Child;II)Z"⟩
def dkwX2_areThere_1 : List UInt8 := [184, 0, 95, 153, 0, 7, 4, 167, 0, 4, 3, 172]
abbrev dktX2_areThere_1 : List UInt8 := dkwX2_areThere_1 ++ []
def dkwX2_areThere_0 : List UInt8 := [43, 198, 0, 31, 28, 133, 9, 20, 1, 85, 184, 0, 95, 153, 0, 19, 29, 133, 9, 20, 0, 93]
abbrev dktX2_areThere_0 : List UInt8 := dkwX2_areThere_0 ++ dktX2_areThere_1
theorem dksX2_areThere_0 : cX2_areThere.data.toList.drop 0 = dktX2_areThere_0 := by decide +kernel
theorem dksX2_areThere_1 : cX2_areThere.data.toList.drop 22 = dktX2_areThere_1 := dk_seg dksX2_areThere_0 22 rfl rfl
theorem dX2_areThere_0 : decode cX2_areThere 0 = .ok (.aload_n 1, 1) := dk_43 (dk_at dksX2_areThere_0 0 rfl rfl)
theorem dX2_areThere_1 : decode cX2_areThere 1 = .ok (.ifnull 31, 3) := dk_198 0 31 (dk_at dksX2_areThere_0 1 rfl rfl)
theorem dX2_areThere_4 : decode cX2_areThere 4 = .ok (.iload_n 2, 1) := dk_28 (dk_at dksX2_areThere_0 4 rfl rfl)
theorem dX2_areThere_5 : decode cX2_areThere 5 = .ok (.i2l, 1) := dk_133 (dk_at dksX2_areThere_0 5 rfl rfl)
theorem dX2_areThere_6 : decode cX2_areThere 6 = .ok (.lconst 0, 1) := dk_9 (dk_at dksX2_areThere_0 6 rfl rfl)
theorem dX2_areThere_7 : decode cX2_areThere 7 = .ok (.ldc2_w 341, 3) := dk_20 1 85 (dk_at dksX2_areThere_0 7 rfl rfl)
theorem dX2_areThere_10 : decode cX2_areThere 10 = .ok (.invokestatic 95, 3) := dk_184 0 95 (dk_at dksX2_areThere_0 10 rfl rfl)
theorem dX2_areThere_13 : decode cX2_areThere 13 = .ok (.ifCond .eq 19, 3) := dk_153 0 19 (dk_at dksX2_areThere_0 13 rfl rfl)
theorem dX2_areThere_16 : decode cX2_areThere 16 = .ok (.iload_n 3, 1) := dk_29 (dk_at dksX2_areThere_0 16 rfl rfl)
theorem dX2_areThere_17 : decode cX2_areThere 17 = .ok (.i2l, 1) := dk_133 (dk_at dksX2_areThere_0 17 rfl rfl)
theorem dX2_areThere_18 : decode cX2_areThere 18 = .ok (.lconst 0, 1) := dk_9 (dk_at dksX2_areThere_0 18 rfl rfl)
theorem dX2_areThere_19 : decode cX2_areThere 19 = .ok (.ldc2_w 93, 3) := dk_20 0 93 (dk_at dksX2_areThere_0 19 rfl rfl)
theorem dX2_areThere_22 : decode cX2_areThere 22 = .ok (.invokestatic 95, 3) := dk_184 0 95 (dk_at dksX2_areThere_1 0 rfl rfl)
theorem dX2_areThere_25 : decode cX2_areThere 25 = .ok (.ifCond .eq 7, 3) := dk_153 0 7 (dk_at dksX2_areThere_1 3 rfl rfl)
theorem dX2_areThere_28 : decode cX2_areThere 28 = .ok (.iconst 1, 1) := dk_4 (dk_at dksX2_areThere_1 6 rfl rfl)
theorem dX2_areThere_29 : decode cX2_areThere 29 = .ok (.goto 4, 3) := dk_167 0 4 (dk_at dksX2_areThere_1 7 rfl rfl)
theorem dX2_areThere_32 : decode cX2_areThere 32 = .ok (.iconst 0, 1) := dk_3 (dk_at dksX2_areThere_1 10 rfl rfl)
theorem dX2_areThere_33 : decode cX2_areThere 33 = .ok (.ireturn, 1) := dk_172 (dk_at dksX2_areThere_1 11 rfl rfl)
abbrev cX2_temperOf : ByteArray := prog_1_method_22_code
def yX2_temperOf : MethodName := ⟨RX2, "temperOf", "(LKilnBench$Child;II)I"⟩
def dkwX2_temperOf_2 : List UInt8 := [172]
abbrev dktX2_temperOf_2 : List UInt8 := dkwX2_temperOf_2 ++ []
def dkwX2_temperOf_1 : List UInt8 := [42, 180, 0, 20, 180, 0, 170, 42, 43, 28, 29, 182, 0, 180, 185, 0, 183, 2, 0, 16, 99, 184, 0, 176]
abbrev dktX2_temperOf_1 : List UInt8 := dkwX2_temperOf_1 ++ dktX2_temperOf_2
def dkwX2_temperOf_0 : List UInt8 := [42, 180, 0, 20, 180, 0, 170, 199, 0, 17, 20, 0, 174, 28, 133, 105, 16, 99, 184, 0, 176, 167, 0, 27]
abbrev dktX2_temperOf_0 : List UInt8 := dkwX2_temperOf_0 ++ dktX2_temperOf_1
theorem dksX2_temperOf_0 : cX2_temperOf.data.toList.drop 0 = dktX2_temperOf_0 := by decide +kernel
theorem dksX2_temperOf_1 : cX2_temperOf.data.toList.drop 24 = dktX2_temperOf_1 := dk_seg dksX2_temperOf_0 24 rfl rfl
theorem dksX2_temperOf_2 : cX2_temperOf.data.toList.drop 48 = dktX2_temperOf_2 := dk_seg dksX2_temperOf_1 24 rfl rfl
theorem dX2_temperOf_0 : decode cX2_temperOf 0 = .ok (.aload_n 0, 1) := dk_42 (dk_at dksX2_temperOf_0 0 rfl rfl)
theorem dX2_temperOf_1 : decode cX2_temperOf 1 = .ok (.getfield 20, 3) := dk_180 0 20 (dk_at dksX2_temperOf_0 1 rfl rfl)
theorem dX2_temperOf_4 : decode cX2_temperOf 4 = .ok (.getfield 170, 3) := dk_180 0 170 (dk_at dksX2_temperOf_0 4 rfl rfl)
theorem dX2_temperOf_7 : decode cX2_temperOf 7 = .ok (.ifnonnull 17, 3) := dk_199 0 17 (dk_at dksX2_temperOf_0 7 rfl rfl)
theorem dX2_temperOf_10 : decode cX2_temperOf 10 = .ok (.ldc2_w 174, 3) := dk_20 0 174 (dk_at dksX2_temperOf_0 10 rfl rfl)
theorem dX2_temperOf_13 : decode cX2_temperOf 13 = .ok (.iload_n 2, 1) := dk_28 (dk_at dksX2_temperOf_0 13 rfl rfl)
theorem dX2_temperOf_14 : decode cX2_temperOf 14 = .ok (.i2l, 1) := dk_133 (dk_at dksX2_temperOf_0 14 rfl rfl)
theorem dX2_temperOf_15 : decode cX2_temperOf 15 = .ok (.lmul, 1) := dk_105 (dk_at dksX2_temperOf_0 15 rfl rfl)
theorem dX2_temperOf_16 : decode cX2_temperOf 16 = .ok (.bipush 99, 2) := dk_16 99 (dk_at dksX2_temperOf_0 16 rfl rfl)
theorem dX2_temperOf_18 : decode cX2_temperOf 18 = .ok (.invokestatic 176, 3) := dk_184 0 176 (dk_at dksX2_temperOf_0 18 rfl rfl)
theorem dX2_temperOf_21 : decode cX2_temperOf 21 = .ok (.goto 27, 3) := dk_167 0 27 (dk_at dksX2_temperOf_0 21 rfl rfl)
theorem dX2_temperOf_24 : decode cX2_temperOf 24 = .ok (.aload_n 0, 1) := dk_42 (dk_at dksX2_temperOf_1 0 rfl rfl)
theorem dX2_temperOf_25 : decode cX2_temperOf 25 = .ok (.getfield 20, 3) := dk_180 0 20 (dk_at dksX2_temperOf_1 1 rfl rfl)
theorem dX2_temperOf_28 : decode cX2_temperOf 28 = .ok (.getfield 170, 3) := dk_180 0 170 (dk_at dksX2_temperOf_1 4 rfl rfl)
theorem dX2_temperOf_31 : decode cX2_temperOf 31 = .ok (.aload_n 0, 1) := dk_42 (dk_at dksX2_temperOf_1 7 rfl rfl)
theorem dX2_temperOf_32 : decode cX2_temperOf 32 = .ok (.aload_n 1, 1) := dk_43 (dk_at dksX2_temperOf_1 8 rfl rfl)
theorem dX2_temperOf_33 : decode cX2_temperOf 33 = .ok (.iload_n 2, 1) := dk_28 (dk_at dksX2_temperOf_1 9 rfl rfl)
theorem dX2_temperOf_34 : decode cX2_temperOf 34 = .ok (.iload_n 3, 1) := dk_29 (dk_at dksX2_temperOf_1 10 rfl rfl)
theorem dX2_temperOf_35 : decode cX2_temperOf 35 = .ok (.invokevirtual 180, 3) := dk_182 0 180 (dk_at dksX2_temperOf_1 11 rfl rfl)
theorem dX2_temperOf_38 : decode cX2_temperOf 38 = .ok (.invokeinterface 183 2, 5) := by decide +kernel
theorem dX2_temperOf_43 : decode cX2_temperOf 43 = .ok (.bipush 99, 2) := dk_16 99 (dk_at dksX2_temperOf_1 19 rfl rfl)
theorem dX2_temperOf_45 : decode cX2_temperOf 45 = .ok (.invokestatic 176, 3) := dk_184 0 176 (dk_at dksX2_temperOf_1 21 rfl rfl)
theorem dX2_temperOf_48 : decode cX2_temperOf 48 = .ok (.ireturn, 1) := dk_172 (dk_at dksX2_temperOf_2 0 rfl rfl)
abbrev cX2_cut : ByteArray := prog_1_method_4_code
def yX2_cut : MethodName := ⟨RX2, "cut", "(JI)I"⟩
def dkwX2_cut_0 : List UInt8 := [9, 28, 133, 30, 184, 0, 65, 184, 0, 71, 136, 172]
abbrev dktX2_cut_0 : List UInt8 := dkwX2_cut_0 ++ []
theorem dksX2_cut_0 : cX2_cut.data.toList.drop 0 = dktX2_cut_0 := by decide +kernel
theorem dX2_cut_0 : decode cX2_cut 0 = .ok (.lconst 0, 1) := dk_9 (dk_at dksX2_cut_0 0 rfl rfl)
theorem dX2_cut_1 : decode cX2_cut 1 = .ok (.iload_n 2, 1) := dk_28 (dk_at dksX2_cut_0 1 rfl rfl)
theorem dX2_cut_2 : decode cX2_cut 2 = .ok (.i2l, 1) := dk_133 (dk_at dksX2_cut_0 2 rfl rfl)
theorem dX2_cut_3 : decode cX2_cut 3 = .ok (.lload_n 0, 1) := dk_30 (dk_at dksX2_cut_0 3 rfl rfl)
theorem dX2_cut_4 : decode cX2_cut 4 = .ok (.invokestatic 65, 3) := dk_184 0 65 (dk_at dksX2_cut_0 4 rfl rfl)
theorem dX2_cut_7 : decode cX2_cut 7 = .ok (.invokestatic 71, 3) := dk_184 0 71 (dk_at dksX2_cut_0 7 rfl rfl)
theorem dX2_cut_10 : decode cX2_cut 10 = .ok (.l2i, 1) := dk_136 (dk_at dksX2_cut_0 10 rfl rfl)
theorem dX2_cut_11 : decode cX2_cut 11 = .ok (.ireturn, 1) := dk_172 (dk_at dksX2_cut_0 11 rfl rfl)
abbrev cX2_asked_2 : ByteArray := prog_1_method_21_code
def yX2_asked_2 : MethodName := ⟨RX2, "asked", "(LKilnBench$Child;II)LKilnBench$Asking;"⟩
def dkwX2_asked_2_1 : List UInt8 := [80, 25, 4, 7, 29, 133, 80, 42, 180, 0, 41, 176]
abbrev dktX2_asked_2_1 : List UInt8 := dkwX2_asked_2_1 ++ []
def dkwX2_asked_2_0 : List UInt8 := [42, 28, 182, 0, 160, 58, 4, 25, 4, 5, 43, 180, 0, 164, 133, 80, 25, 4, 6, 43, 180, 0, 167, 133]
abbrev dktX2_asked_2_0 : List UInt8 := dkwX2_asked_2_0 ++ dktX2_asked_2_1
theorem dksX2_asked_2_0 : cX2_asked_2.data.toList.drop 0 = dktX2_asked_2_0 := by decide +kernel
theorem dksX2_asked_2_1 : cX2_asked_2.data.toList.drop 24 = dktX2_asked_2_1 := dk_seg dksX2_asked_2_0 24 rfl rfl
theorem dX2_asked_2_0 : decode cX2_asked_2 0 = .ok (.aload_n 0, 1) := dk_42 (dk_at dksX2_asked_2_0 0 rfl rfl)
theorem dX2_asked_2_1 : decode cX2_asked_2 1 = .ok (.iload_n 2, 1) := dk_28 (dk_at dksX2_asked_2_0 1 rfl rfl)
theorem dX2_asked_2_2 : decode cX2_asked_2 2 = .ok (.invokevirtual 160, 3) := dk_182 0 160 (dk_at dksX2_asked_2_0 2 rfl rfl)
theorem dX2_asked_2_5 : decode cX2_asked_2 5 = .ok (.astore 4, 2) := dk_58 4 (dk_at dksX2_asked_2_0 5 rfl rfl)
theorem dX2_asked_2_7 : decode cX2_asked_2 7 = .ok (.aload 4, 2) := dk_25 4 (dk_at dksX2_asked_2_0 7 rfl rfl)
theorem dX2_asked_2_9 : decode cX2_asked_2 9 = .ok (.iconst 2, 1) := dk_5 (dk_at dksX2_asked_2_0 9 rfl rfl)
theorem dX2_asked_2_10 : decode cX2_asked_2 10 = .ok (.aload_n 1, 1) := dk_43 (dk_at dksX2_asked_2_0 10 rfl rfl)
theorem dX2_asked_2_11 : decode cX2_asked_2 11 = .ok (.getfield 164, 3) := dk_180 0 164 (dk_at dksX2_asked_2_0 11 rfl rfl)
theorem dX2_asked_2_14 : decode cX2_asked_2 14 = .ok (.i2l, 1) := dk_133 (dk_at dksX2_asked_2_0 14 rfl rfl)
theorem dX2_asked_2_15 : decode cX2_asked_2 15 = .ok (.lastore, 1) := dk_80 (dk_at dksX2_asked_2_0 15 rfl rfl)
theorem dX2_asked_2_16 : decode cX2_asked_2 16 = .ok (.aload 4, 2) := dk_25 4 (dk_at dksX2_asked_2_0 16 rfl rfl)
theorem dX2_asked_2_18 : decode cX2_asked_2 18 = .ok (.iconst 3, 1) := dk_6 (dk_at dksX2_asked_2_0 18 rfl rfl)
theorem dX2_asked_2_19 : decode cX2_asked_2 19 = .ok (.aload_n 1, 1) := dk_43 (dk_at dksX2_asked_2_0 19 rfl rfl)
theorem dX2_asked_2_20 : decode cX2_asked_2 20 = .ok (.getfield 167, 3) := dk_180 0 167 (dk_at dksX2_asked_2_0 20 rfl rfl)
theorem dX2_asked_2_23 : decode cX2_asked_2 23 = .ok (.i2l, 1) := dk_133 (dk_at dksX2_asked_2_0 23 rfl rfl)
theorem dX2_asked_2_24 : decode cX2_asked_2 24 = .ok (.lastore, 1) := dk_80 (dk_at dksX2_asked_2_1 0 rfl rfl)
theorem dX2_asked_2_25 : decode cX2_asked_2 25 = .ok (.aload 4, 2) := dk_25 4 (dk_at dksX2_asked_2_1 1 rfl rfl)
theorem dX2_asked_2_27 : decode cX2_asked_2 27 = .ok (.iconst 4, 1) := dk_7 (dk_at dksX2_asked_2_1 3 rfl rfl)
theorem dX2_asked_2_28 : decode cX2_asked_2 28 = .ok (.iload_n 3, 1) := dk_29 (dk_at dksX2_asked_2_1 4 rfl rfl)
theorem dX2_asked_2_29 : decode cX2_asked_2 29 = .ok (.i2l, 1) := dk_133 (dk_at dksX2_asked_2_1 5 rfl rfl)
theorem dX2_asked_2_30 : decode cX2_asked_2 30 = .ok (.lastore, 1) := dk_80 (dk_at dksX2_asked_2_1 6 rfl rfl)
theorem dX2_asked_2_31 : decode cX2_asked_2 31 = .ok (.aload_n 0, 1) := dk_42 (dk_at dksX2_asked_2_1 7 rfl rfl)
theorem dX2_asked_2_32 : decode cX2_asked_2 32 = .ok (.getfield 41, 3) := dk_180 0 41 (dk_at dksX2_asked_2_1 8 rfl rfl)
theorem dX2_asked_2_35 : decode cX2_asked_2 35 = .ok (.areturn, 1) := dk_176 (dk_at dksX2_asked_2_1 11 rfl rfl)
abbrev cX2_cracks : ByteArray := prog_1_method_50_code
def yX2_cracks : MethodName := ⟨RX2, "cracks", "(III)I"⟩
def dkwX2_cracks_1 : List UInt8 := [25, 4, 28, 29, 182, 1, 127, 153, 0, 7, 4, 167, 0, 4, 3, 172]
abbrev dktX2_cracks_1 : List UInt8 := dkwX2_cracks_1 ++ []
def dkwX2_cracks_0 : List UInt8 := [42, 27, 182, 1, 57, 58, 4, 42, 25, 4, 28, 29, 182, 1, 123, 154, 0, 7, 2, 167, 0, 19, 42]
abbrev dktX2_cracks_0 : List UInt8 := dkwX2_cracks_0 ++ dktX2_cracks_1
theorem dksX2_cracks_0 : cX2_cracks.data.toList.drop 0 = dktX2_cracks_0 := by decide +kernel
theorem dksX2_cracks_1 : cX2_cracks.data.toList.drop 23 = dktX2_cracks_1 := dk_seg dksX2_cracks_0 23 rfl rfl
theorem dX2_cracks_0 : decode cX2_cracks 0 = .ok (.aload_n 0, 1) := dk_42 (dk_at dksX2_cracks_0 0 rfl rfl)
theorem dX2_cracks_1 : decode cX2_cracks 1 = .ok (.iload_n 1, 1) := dk_27 (dk_at dksX2_cracks_0 1 rfl rfl)
theorem dX2_cracks_2 : decode cX2_cracks 2 = .ok (.invokevirtual 313, 3) := dk_182 1 57 (dk_at dksX2_cracks_0 2 rfl rfl)
theorem dX2_cracks_5 : decode cX2_cracks 5 = .ok (.astore 4, 2) := dk_58 4 (dk_at dksX2_cracks_0 5 rfl rfl)
theorem dX2_cracks_7 : decode cX2_cracks 7 = .ok (.aload_n 0, 1) := dk_42 (dk_at dksX2_cracks_0 7 rfl rfl)
theorem dX2_cracks_8 : decode cX2_cracks 8 = .ok (.aload 4, 2) := dk_25 4 (dk_at dksX2_cracks_0 8 rfl rfl)
theorem dX2_cracks_10 : decode cX2_cracks 10 = .ok (.iload_n 2, 1) := dk_28 (dk_at dksX2_cracks_0 10 rfl rfl)
theorem dX2_cracks_11 : decode cX2_cracks 11 = .ok (.iload_n 3, 1) := dk_29 (dk_at dksX2_cracks_0 11 rfl rfl)
theorem dX2_cracks_12 : decode cX2_cracks 12 = .ok (.invokevirtual 379, 3) := dk_182 1 123 (dk_at dksX2_cracks_0 12 rfl rfl)
theorem dX2_cracks_15 : decode cX2_cracks 15 = .ok (.ifCond .ne 7, 3) := dk_154 0 7 (dk_at dksX2_cracks_0 15 rfl rfl)
theorem dX2_cracks_18 : decode cX2_cracks 18 = .ok (.iconst (-1), 1) := dk_2 (dk_at dksX2_cracks_0 18 rfl rfl)
theorem dX2_cracks_19 : decode cX2_cracks 19 = .ok (.goto 19, 3) := dk_167 0 19 (dk_at dksX2_cracks_0 19 rfl rfl)
theorem dX2_cracks_22 : decode cX2_cracks 22 = .ok (.aload_n 0, 1) := dk_42 (dk_at dksX2_cracks_0 22 rfl rfl)
theorem dX2_cracks_23 : decode cX2_cracks 23 = .ok (.aload 4, 2) := dk_25 4 (dk_at dksX2_cracks_1 0 rfl rfl)
theorem dX2_cracks_25 : decode cX2_cracks 25 = .ok (.iload_n 2, 1) := dk_28 (dk_at dksX2_cracks_1 2 rfl rfl)
theorem dX2_cracks_26 : decode cX2_cracks 26 = .ok (.iload_n 3, 1) := dk_29 (dk_at dksX2_cracks_1 3 rfl rfl)
theorem dX2_cracks_27 : decode cX2_cracks 27 = .ok (.invokevirtual 383, 3) := dk_182 1 127 (dk_at dksX2_cracks_1 4 rfl rfl)
theorem dX2_cracks_30 : decode cX2_cracks 30 = .ok (.ifCond .eq 7, 3) := dk_153 0 7 (dk_at dksX2_cracks_1 7 rfl rfl)
theorem dX2_cracks_33 : decode cX2_cracks 33 = .ok (.iconst 1, 1) := dk_4 (dk_at dksX2_cracks_1 10 rfl rfl)
theorem dX2_cracks_34 : decode cX2_cracks 34 = .ok (.goto 4, 3) := dk_167 0 4 (dk_at dksX2_cracks_1 11 rfl rfl)
theorem dX2_cracks_37 : decode cX2_cracks 37 = .ok (.iconst 0, 1) := dk_3 (dk_at dksX2_cracks_1 14 rfl rfl)
theorem dX2_cracks_38 : decode cX2_cracks 38 = .ok (.ireturn, 1) := dk_172 (dk_at dksX2_cracks_1 15 rfl rfl)
abbrev cX2_doesCrack : ByteArray := prog_1_method_23_code
def yX2_doesCrack : MethodName := ⟨RX2, "doesCrack", "(LKilnBench$Child;II)Z"⟩
def dkwX2_doesCrack_2 : List UInt8 := [185, 0, 196, 2, 0, 172]
abbrev dktX2_doesCrack_2 : List UInt8 := dkwX2_doesCrack_2 ++ []
def dkwX2_doesCrack_1 : List UInt8 := [29, 182, 0, 180, 180, 0, 157, 8, 21, 4, 133, 80, 42, 180, 0, 20, 180, 0, 188, 42, 180, 0, 41]
abbrev dktX2_doesCrack_1 : List UInt8 := dkwX2_doesCrack_1 ++ dktX2_doesCrack_2
def dkwX2_doesCrack_0 : List UInt8 := [42, 180, 0, 20, 180, 0, 188, 199, 0, 5, 3, 172, 42, 43, 28, 29, 182, 0, 192, 54, 4, 42, 43, 28]
abbrev dktX2_doesCrack_0 : List UInt8 := dkwX2_doesCrack_0 ++ dktX2_doesCrack_1
theorem dksX2_doesCrack_0 : cX2_doesCrack.data.toList.drop 0 = dktX2_doesCrack_0 := by decide +kernel
theorem dksX2_doesCrack_1 : cX2_doesCrack.data.toList.drop 24 = dktX2_doesCrack_1 := dk_seg dksX2_doesCrack_0 24 rfl rfl
theorem dksX2_doesCrack_2 : cX2_doesCrack.data.toList.drop 47 = dktX2_doesCrack_2 := dk_seg dksX2_doesCrack_1 23 rfl rfl
theorem dX2_doesCrack_0 : decode cX2_doesCrack 0 = .ok (.aload_n 0, 1) := dk_42 (dk_at dksX2_doesCrack_0 0 rfl rfl)
theorem dX2_doesCrack_1 : decode cX2_doesCrack 1 = .ok (.getfield 20, 3) := dk_180 0 20 (dk_at dksX2_doesCrack_0 1 rfl rfl)
theorem dX2_doesCrack_4 : decode cX2_doesCrack 4 = .ok (.getfield 188, 3) := dk_180 0 188 (dk_at dksX2_doesCrack_0 4 rfl rfl)
theorem dX2_doesCrack_7 : decode cX2_doesCrack 7 = .ok (.ifnonnull 5, 3) := dk_199 0 5 (dk_at dksX2_doesCrack_0 7 rfl rfl)
theorem dX2_doesCrack_10 : decode cX2_doesCrack 10 = .ok (.iconst 0, 1) := dk_3 (dk_at dksX2_doesCrack_0 10 rfl rfl)
theorem dX2_doesCrack_11 : decode cX2_doesCrack 11 = .ok (.ireturn, 1) := dk_172 (dk_at dksX2_doesCrack_0 11 rfl rfl)
theorem dX2_doesCrack_12 : decode cX2_doesCrack 12 = .ok (.aload_n 0, 1) := dk_42 (dk_at dksX2_doesCrack_0 12 rfl rfl)
theorem dX2_doesCrack_13 : decode cX2_doesCrack 13 = .ok (.aload_n 1, 1) := dk_43 (dk_at dksX2_doesCrack_0 13 rfl rfl)
theorem dX2_doesCrack_14 : decode cX2_doesCrack 14 = .ok (.iload_n 2, 1) := dk_28 (dk_at dksX2_doesCrack_0 14 rfl rfl)
theorem dX2_doesCrack_15 : decode cX2_doesCrack 15 = .ok (.iload_n 3, 1) := dk_29 (dk_at dksX2_doesCrack_0 15 rfl rfl)
theorem dX2_doesCrack_16 : decode cX2_doesCrack 16 = .ok (.invokevirtual 192, 3) := dk_182 0 192 (dk_at dksX2_doesCrack_0 16 rfl rfl)
theorem dX2_doesCrack_19 : decode cX2_doesCrack 19 = .ok (.istore 4, 2) := dk_54 4 (dk_at dksX2_doesCrack_0 19 rfl rfl)
theorem dX2_doesCrack_21 : decode cX2_doesCrack 21 = .ok (.aload_n 0, 1) := dk_42 (dk_at dksX2_doesCrack_0 21 rfl rfl)
theorem dX2_doesCrack_22 : decode cX2_doesCrack 22 = .ok (.aload_n 1, 1) := dk_43 (dk_at dksX2_doesCrack_0 22 rfl rfl)
theorem dX2_doesCrack_23 : decode cX2_doesCrack 23 = .ok (.iload_n 2, 1) := dk_28 (dk_at dksX2_doesCrack_0 23 rfl rfl)
theorem dX2_doesCrack_24 : decode cX2_doesCrack 24 = .ok (.iload_n 3, 1) := dk_29 (dk_at dksX2_doesCrack_1 0 rfl rfl)
theorem dX2_doesCrack_25 : decode cX2_doesCrack 25 = .ok (.invokevirtual 180, 3) := dk_182 0 180 (dk_at dksX2_doesCrack_1 1 rfl rfl)
theorem dX2_doesCrack_28 : decode cX2_doesCrack 28 = .ok (.getfield 157, 3) := dk_180 0 157 (dk_at dksX2_doesCrack_1 4 rfl rfl)
theorem dX2_doesCrack_31 : decode cX2_doesCrack 31 = .ok (.iconst 5, 1) := dk_8 (dk_at dksX2_doesCrack_1 7 rfl rfl)
theorem dX2_doesCrack_32 : decode cX2_doesCrack 32 = .ok (.iload 4, 2) := dk_21 4 (dk_at dksX2_doesCrack_1 8 rfl rfl)
theorem dX2_doesCrack_34 : decode cX2_doesCrack 34 = .ok (.i2l, 1) := dk_133 (dk_at dksX2_doesCrack_1 10 rfl rfl)
theorem dX2_doesCrack_35 : decode cX2_doesCrack 35 = .ok (.lastore, 1) := dk_80 (dk_at dksX2_doesCrack_1 11 rfl rfl)
theorem dX2_doesCrack_36 : decode cX2_doesCrack 36 = .ok (.aload_n 0, 1) := dk_42 (dk_at dksX2_doesCrack_1 12 rfl rfl)
theorem dX2_doesCrack_37 : decode cX2_doesCrack 37 = .ok (.getfield 20, 3) := dk_180 0 20 (dk_at dksX2_doesCrack_1 13 rfl rfl)
theorem dX2_doesCrack_40 : decode cX2_doesCrack 40 = .ok (.getfield 188, 3) := dk_180 0 188 (dk_at dksX2_doesCrack_1 16 rfl rfl)
theorem dX2_doesCrack_43 : decode cX2_doesCrack 43 = .ok (.aload_n 0, 1) := dk_42 (dk_at dksX2_doesCrack_1 19 rfl rfl)
theorem dX2_doesCrack_44 : decode cX2_doesCrack 44 = .ok (.getfield 41, 3) := dk_180 0 41 (dk_at dksX2_doesCrack_1 20 rfl rfl)
theorem dX2_doesCrack_47 : decode cX2_doesCrack 47 = .ok (.invokeinterface 196 2, 5) := by decide +kernel
theorem dX2_doesCrack_52 : decode cX2_doesCrack 52 = .ok (.ireturn, 1) := dk_172 (dk_at dksX2_doesCrack_2 5 rfl rfl)
abbrev cX2_heats : ByteArray := prog_1_method_52_code
def yX2_heats : MethodName := ⟨RX2, "heats", "(IIII)I"⟩
def dkwX2_heats_1 : List UInt8 := [21, 4, 186, 1, 134, 0, 0, 184, 1, 137, 167, 0, 4, 2, 172]
abbrev dktX2_heats_1 : List UInt8 := dkwX2_heats_1 ++ []
def dkwX2_heats_0 : List UInt8 := [42, 27, 182, 1, 57, 58, 5, 42, 25, 5, 3, 28, 182, 1, 123, 153, 0, 21, 42, 25, 5, 28, 29]
abbrev dktX2_heats_0 : List UInt8 := dkwX2_heats_0 ++ dktX2_heats_1
theorem dksX2_heats_0 : cX2_heats.data.toList.drop 0 = dktX2_heats_0 := by decide +kernel
theorem dksX2_heats_1 : cX2_heats.data.toList.drop 23 = dktX2_heats_1 := dk_seg dksX2_heats_0 23 rfl rfl
theorem dX2_heats_0 : decode cX2_heats 0 = .ok (.aload_n 0, 1) := dk_42 (dk_at dksX2_heats_0 0 rfl rfl)
theorem dX2_heats_1 : decode cX2_heats 1 = .ok (.iload_n 1, 1) := dk_27 (dk_at dksX2_heats_0 1 rfl rfl)
theorem dX2_heats_2 : decode cX2_heats 2 = .ok (.invokevirtual 313, 3) := dk_182 1 57 (dk_at dksX2_heats_0 2 rfl rfl)
theorem dX2_heats_5 : decode cX2_heats 5 = .ok (.astore 5, 2) := dk_58 5 (dk_at dksX2_heats_0 5 rfl rfl)
theorem dX2_heats_7 : decode cX2_heats 7 = .ok (.aload_n 0, 1) := dk_42 (dk_at dksX2_heats_0 7 rfl rfl)
theorem dX2_heats_8 : decode cX2_heats 8 = .ok (.aload 5, 2) := dk_25 5 (dk_at dksX2_heats_0 8 rfl rfl)
theorem dX2_heats_10 : decode cX2_heats 10 = .ok (.iconst 0, 1) := dk_3 (dk_at dksX2_heats_0 10 rfl rfl)
theorem dX2_heats_11 : decode cX2_heats 11 = .ok (.iload_n 2, 1) := dk_28 (dk_at dksX2_heats_0 11 rfl rfl)
theorem dX2_heats_12 : decode cX2_heats 12 = .ok (.invokevirtual 379, 3) := dk_182 1 123 (dk_at dksX2_heats_0 12 rfl rfl)
theorem dX2_heats_15 : decode cX2_heats 15 = .ok (.ifCond .eq 21, 3) := dk_153 0 21 (dk_at dksX2_heats_0 15 rfl rfl)
theorem dX2_heats_18 : decode cX2_heats 18 = .ok (.aload_n 0, 1) := dk_42 (dk_at dksX2_heats_0 18 rfl rfl)
theorem dX2_heats_19 : decode cX2_heats 19 = .ok (.aload 5, 2) := dk_25 5 (dk_at dksX2_heats_0 19 rfl rfl)
theorem dX2_heats_21 : decode cX2_heats 21 = .ok (.iload_n 2, 1) := dk_28 (dk_at dksX2_heats_0 21 rfl rfl)
theorem dX2_heats_22 : decode cX2_heats 22 = .ok (.iload_n 3, 1) := dk_29 (dk_at dksX2_heats_0 22 rfl rfl)
theorem dX2_heats_23 : decode cX2_heats 23 = .ok (.iload 4, 2) := dk_21 4 (dk_at dksX2_heats_1 0 rfl rfl)
theorem dX2_heats_25 : decode cX2_heats 25 = .ok (.invokedynamic 390, 5) := by decide +kernel
theorem dX2_heats_30 : decode cX2_heats 30 = .ok (.invokestatic 393, 3) := dk_184 1 137 (dk_at dksX2_heats_1 7 rfl rfl)
theorem dX2_heats_33 : decode cX2_heats 33 = .ok (.goto 4, 3) := dk_167 0 4 (dk_at dksX2_heats_1 10 rfl rfl)
theorem dX2_heats_36 : decode cX2_heats 36 = .ok (.iconst (-1), 1) := dk_2 (dk_at dksX2_heats_1 13 rfl rfl)
theorem dX2_heats_37 : decode cX2_heats 37 = .ok (.ireturn, 1) := dk_172 (dk_at dksX2_heats_1 14 rfl rfl)
abbrev cX2_lambda_heats_4 : ByteArray := prog_1_method_81_code
def yX2_lambda_heats_4 : MethodName := ⟨RX2, "lambda$heats$4", "(LKilnBench$Child;IIII)Z"⟩
def dkwX2_lambda_heats_4_1 : List UInt8 := [28, 182, 1, 127, 154, 0, 7, 4, 167, 0, 4, 3, 172]
abbrev dktX2_lambda_heats_4_1 : List UInt8 := dkwX2_lambda_heats_4_1 ++ []
def dkwX2_lambda_heats_4_0 : List UInt8 := [42, 43, 21, 5, 28, 182, 0, 192, 133, 29, 133, 21, 4, 133, 184, 0, 95, 153, 0, 18, 42, 43, 21, 5]
abbrev dktX2_lambda_heats_4_0 : List UInt8 := dkwX2_lambda_heats_4_0 ++ dktX2_lambda_heats_4_1
theorem dksX2_lambda_heats_4_0 : cX2_lambda_heats_4.data.toList.drop 0 = dktX2_lambda_heats_4_0 := by decide +kernel
theorem dksX2_lambda_heats_4_1 : cX2_lambda_heats_4.data.toList.drop 24 = dktX2_lambda_heats_4_1 := dk_seg dksX2_lambda_heats_4_0 24 rfl rfl
theorem dX2_lambda_heats_4_0 : decode cX2_lambda_heats_4 0 = .ok (.aload_n 0, 1) := dk_42 (dk_at dksX2_lambda_heats_4_0 0 rfl rfl)
theorem dX2_lambda_heats_4_1 : decode cX2_lambda_heats_4 1 = .ok (.aload_n 1, 1) := dk_43 (dk_at dksX2_lambda_heats_4_0 1 rfl rfl)
theorem dX2_lambda_heats_4_2 : decode cX2_lambda_heats_4 2 = .ok (.iload 5, 2) := dk_21 5 (dk_at dksX2_lambda_heats_4_0 2 rfl rfl)
theorem dX2_lambda_heats_4_4 : decode cX2_lambda_heats_4 4 = .ok (.iload_n 2, 1) := dk_28 (dk_at dksX2_lambda_heats_4_0 4 rfl rfl)
theorem dX2_lambda_heats_4_5 : decode cX2_lambda_heats_4 5 = .ok (.invokevirtual 192, 3) := dk_182 0 192 (dk_at dksX2_lambda_heats_4_0 5 rfl rfl)
theorem dX2_lambda_heats_4_8 : decode cX2_lambda_heats_4 8 = .ok (.i2l, 1) := dk_133 (dk_at dksX2_lambda_heats_4_0 8 rfl rfl)
theorem dX2_lambda_heats_4_9 : decode cX2_lambda_heats_4 9 = .ok (.iload_n 3, 1) := dk_29 (dk_at dksX2_lambda_heats_4_0 9 rfl rfl)
theorem dX2_lambda_heats_4_10 : decode cX2_lambda_heats_4 10 = .ok (.i2l, 1) := dk_133 (dk_at dksX2_lambda_heats_4_0 10 rfl rfl)
theorem dX2_lambda_heats_4_11 : decode cX2_lambda_heats_4 11 = .ok (.iload 4, 2) := dk_21 4 (dk_at dksX2_lambda_heats_4_0 11 rfl rfl)
theorem dX2_lambda_heats_4_13 : decode cX2_lambda_heats_4 13 = .ok (.i2l, 1) := dk_133 (dk_at dksX2_lambda_heats_4_0 13 rfl rfl)
theorem dX2_lambda_heats_4_14 : decode cX2_lambda_heats_4 14 = .ok (.invokestatic 95, 3) := dk_184 0 95 (dk_at dksX2_lambda_heats_4_0 14 rfl rfl)
theorem dX2_lambda_heats_4_17 : decode cX2_lambda_heats_4 17 = .ok (.ifCond .eq 18, 3) := dk_153 0 18 (dk_at dksX2_lambda_heats_4_0 17 rfl rfl)
theorem dX2_lambda_heats_4_20 : decode cX2_lambda_heats_4 20 = .ok (.aload_n 0, 1) := dk_42 (dk_at dksX2_lambda_heats_4_0 20 rfl rfl)
theorem dX2_lambda_heats_4_21 : decode cX2_lambda_heats_4 21 = .ok (.aload_n 1, 1) := dk_43 (dk_at dksX2_lambda_heats_4_0 21 rfl rfl)
theorem dX2_lambda_heats_4_22 : decode cX2_lambda_heats_4 22 = .ok (.iload 5, 2) := dk_21 5 (dk_at dksX2_lambda_heats_4_0 22 rfl rfl)
theorem dX2_lambda_heats_4_24 : decode cX2_lambda_heats_4 24 = .ok (.iload_n 2, 1) := dk_28 (dk_at dksX2_lambda_heats_4_1 0 rfl rfl)
theorem dX2_lambda_heats_4_25 : decode cX2_lambda_heats_4 25 = .ok (.invokevirtual 383, 3) := dk_182 1 127 (dk_at dksX2_lambda_heats_4_1 1 rfl rfl)
theorem dX2_lambda_heats_4_28 : decode cX2_lambda_heats_4 28 = .ok (.ifCond .ne 7, 3) := dk_154 0 7 (dk_at dksX2_lambda_heats_4_1 4 rfl rfl)
theorem dX2_lambda_heats_4_31 : decode cX2_lambda_heats_4 31 = .ok (.iconst 1, 1) := dk_4 (dk_at dksX2_lambda_heats_4_1 7 rfl rfl)
theorem dX2_lambda_heats_4_32 : decode cX2_lambda_heats_4 32 = .ok (.goto 4, 3) := dk_167 0 4 (dk_at dksX2_lambda_heats_4_1 8 rfl rfl)
theorem dX2_lambda_heats_4_35 : decode cX2_lambda_heats_4 35 = .ok (.iconst 0, 1) := dk_3 (dk_at dksX2_lambda_heats_4_1 11 rfl rfl)
theorem dX2_lambda_heats_4_36 : decode cX2_lambda_heats_4 36 = .ok (.ireturn, 1) := dk_172 (dk_at dksX2_lambda_heats_4_1 12 rfl rfl)
abbrev cX2_allHeats : ByteArray := prog_1_method_51_code
def yX2_allHeats : MethodName := ⟨RX2, "allHeats", "(LKilnBench$Good;)I"⟩
def dkwX2_allHeats_1 : List UInt8 := [128, 60, 132, 2, 1, 167, 255, 231, 27, 172]
abbrev dktX2_allHeats_1 : List UInt8 := dkwX2_allHeats_1 ++ []
def dkwX2_allHeats_0 : List UInt8 := [3, 60, 3, 61, 28, 16, 20, 163, 0, 25, 42, 28, 185, 1, 130, 2, 0, 153, 0, 9, 27, 4, 28, 120]
abbrev dktX2_allHeats_0 : List UInt8 := dkwX2_allHeats_0 ++ dktX2_allHeats_1
theorem dksX2_allHeats_0 : cX2_allHeats.data.toList.drop 0 = dktX2_allHeats_0 := by decide +kernel
theorem dksX2_allHeats_1 : cX2_allHeats.data.toList.drop 24 = dktX2_allHeats_1 := dk_seg dksX2_allHeats_0 24 rfl rfl
theorem dX2_allHeats_0 : decode cX2_allHeats 0 = .ok (.iconst 0, 1) := dk_3 (dk_at dksX2_allHeats_0 0 rfl rfl)
theorem dX2_allHeats_1 : decode cX2_allHeats 1 = .ok (.istore_n 1, 1) := dk_60 (dk_at dksX2_allHeats_0 1 rfl rfl)
theorem dX2_allHeats_2 : decode cX2_allHeats 2 = .ok (.iconst 0, 1) := dk_3 (dk_at dksX2_allHeats_0 2 rfl rfl)
theorem dX2_allHeats_3 : decode cX2_allHeats 3 = .ok (.istore_n 2, 1) := dk_61 (dk_at dksX2_allHeats_0 3 rfl rfl)
theorem dX2_allHeats_4 : decode cX2_allHeats 4 = .ok (.iload_n 2, 1) := dk_28 (dk_at dksX2_allHeats_0 4 rfl rfl)
theorem dX2_allHeats_5 : decode cX2_allHeats 5 = .ok (.bipush 20, 2) := dk_16 20 (dk_at dksX2_allHeats_0 5 rfl rfl)
theorem dX2_allHeats_7 : decode cX2_allHeats 7 = .ok (.if_icmp .gt 25, 3) := dk_163 0 25 (dk_at dksX2_allHeats_0 7 rfl rfl)
theorem dX2_allHeats_10 : decode cX2_allHeats 10 = .ok (.aload_n 0, 1) := dk_42 (dk_at dksX2_allHeats_0 10 rfl rfl)
theorem dX2_allHeats_11 : decode cX2_allHeats 11 = .ok (.iload_n 2, 1) := dk_28 (dk_at dksX2_allHeats_0 11 rfl rfl)
theorem dX2_allHeats_12 : decode cX2_allHeats 12 = .ok (.invokeinterface 386 2, 5) := by decide +kernel
theorem dX2_allHeats_17 : decode cX2_allHeats 17 = .ok (.ifCond .eq 9, 3) := dk_153 0 9 (dk_at dksX2_allHeats_0 17 rfl rfl)
theorem dX2_allHeats_20 : decode cX2_allHeats 20 = .ok (.iload_n 1, 1) := dk_27 (dk_at dksX2_allHeats_0 20 rfl rfl)
theorem dX2_allHeats_21 : decode cX2_allHeats 21 = .ok (.iconst 1, 1) := dk_4 (dk_at dksX2_allHeats_0 21 rfl rfl)
theorem dX2_allHeats_22 : decode cX2_allHeats 22 = .ok (.iload_n 2, 1) := dk_28 (dk_at dksX2_allHeats_0 22 rfl rfl)
theorem dX2_allHeats_23 : decode cX2_allHeats 23 = .ok (.ishl, 1) := dk_120 (dk_at dksX2_allHeats_0 23 rfl rfl)
theorem dX2_allHeats_24 : decode cX2_allHeats 24 = .ok (.ior, 1) := dk_128 (dk_at dksX2_allHeats_1 0 rfl rfl)
theorem dX2_allHeats_25 : decode cX2_allHeats 25 = .ok (.istore_n 1, 1) := dk_60 (dk_at dksX2_allHeats_1 1 rfl rfl)
theorem dX2_allHeats_26 : decode cX2_allHeats 26 = .ok (.iinc 2 1, 3) := dk_132 2 1 (dk_at dksX2_allHeats_1 2 rfl rfl)
theorem dX2_allHeats_29 : decode cX2_allHeats 29 = .ok (.goto (-25), 3) := dk_167 255 231 (dk_at dksX2_allHeats_1 5 rfl rfl)
theorem dX2_allHeats_32 : decode cX2_allHeats 32 = .ok (.iload_n 1, 1) := dk_27 (dk_at dksX2_allHeats_1 8 rfl rfl)
theorem dX2_allHeats_33 : decode cX2_allHeats 33 = .ok (.ireturn, 1) := dk_172 (dk_at dksX2_allHeats_1 9 rfl rfl)
abbrev cX2_status : ByteArray := prog_1_method_11_code
def yX2_status : MethodName := ⟨RX2, "status", "(I)I"⟩
def dkwX2_status_0 : List UInt8 := [27, 133, 9, 20, 0, 93, 184, 0, 95, 153, 0, 12, 42, 180, 0, 13, 27, 46, 167, 0, 4, 2, 172]
abbrev dktX2_status_0 : List UInt8 := dkwX2_status_0 ++ []
theorem dksX2_status_0 : cX2_status.data.toList.drop 0 = dktX2_status_0 := by decide +kernel
theorem dX2_status_0 : decode cX2_status 0 = .ok (.iload_n 1, 1) := dk_27 (dk_at dksX2_status_0 0 rfl rfl)
theorem dX2_status_1 : decode cX2_status 1 = .ok (.i2l, 1) := dk_133 (dk_at dksX2_status_0 1 rfl rfl)
theorem dX2_status_2 : decode cX2_status 2 = .ok (.lconst 0, 1) := dk_9 (dk_at dksX2_status_0 2 rfl rfl)
theorem dX2_status_3 : decode cX2_status 3 = .ok (.ldc2_w 93, 3) := dk_20 0 93 (dk_at dksX2_status_0 3 rfl rfl)
theorem dX2_status_6 : decode cX2_status 6 = .ok (.invokestatic 95, 3) := dk_184 0 95 (dk_at dksX2_status_0 6 rfl rfl)
theorem dX2_status_9 : decode cX2_status 9 = .ok (.ifCond .eq 12, 3) := dk_153 0 12 (dk_at dksX2_status_0 9 rfl rfl)
theorem dX2_status_12 : decode cX2_status 12 = .ok (.aload_n 0, 1) := dk_42 (dk_at dksX2_status_0 12 rfl rfl)
theorem dX2_status_13 : decode cX2_status 13 = .ok (.getfield 13, 3) := dk_180 0 13 (dk_at dksX2_status_0 13 rfl rfl)
theorem dX2_status_16 : decode cX2_status 16 = .ok (.iload_n 1, 1) := dk_27 (dk_at dksX2_status_0 16 rfl rfl)
theorem dX2_status_17 : decode cX2_status 17 = .ok (.iaload, 1) := dk_46 (dk_at dksX2_status_0 17 rfl rfl)
theorem dX2_status_18 : decode cX2_status 18 = .ok (.goto 4, 3) := dk_167 0 4 (dk_at dksX2_status_0 18 rfl rfl)
theorem dX2_status_21 : decode cX2_status 21 = .ok (.iconst (-1), 1) := dk_2 (dk_at dksX2_status_0 21 rfl rfl)
theorem dX2_status_22 : decode cX2_status 22 = .ok (.ireturn, 1) := dk_172 (dk_at dksX2_status_0 22 rfl rfl)
abbrev cX2_fuel : ByteArray := prog_1_method_58_code
def yX2_fuel : MethodName := ⟨RX2, "fuel", "(I)I"⟩
def dkwX2_fuel_0 : List UInt8 := [42, 27, 42, 186, 1, 171, 0, 0, 182, 1, 174, 172]
abbrev dktX2_fuel_0 : List UInt8 := dkwX2_fuel_0 ++ []
theorem dksX2_fuel_0 : cX2_fuel.data.toList.drop 0 = dktX2_fuel_0 := by decide +kernel
theorem dX2_fuel_0 : decode cX2_fuel 0 = .ok (.aload_n 0, 1) := dk_42 (dk_at dksX2_fuel_0 0 rfl rfl)
theorem dX2_fuel_1 : decode cX2_fuel 1 = .ok (.iload_n 1, 1) := dk_27 (dk_at dksX2_fuel_0 1 rfl rfl)
theorem dX2_fuel_2 : decode cX2_fuel 2 = .ok (.aload_n 0, 1) := dk_42 (dk_at dksX2_fuel_0 2 rfl rfl)
theorem dX2_fuel_3 : decode cX2_fuel 3 = .ok (.invokedynamic 427, 5) := by decide +kernel
theorem dX2_fuel_8 : decode cX2_fuel 8 = .ok (.invokevirtual 430, 3) := dk_182 1 174 (dk_at dksX2_fuel_0 8 rfl rfl)
theorem dX2_fuel_11 : decode cX2_fuel 11 = .ok (.ireturn, 1) := dk_172 (dk_at dksX2_fuel_0 11 rfl rfl)
abbrev cX2_lambda_fuel_5 : ByteArray := prog_1_method_80_code
def yX2_lambda_fuel_5 : MethodName := ⟨RX2, "lambda$fuel$5", "()I"⟩
def dkwX2_lambda_fuel_5_0 : List UInt8 := [42, 180, 0, 20, 180, 0, 223, 172]
abbrev dktX2_lambda_fuel_5_0 : List UInt8 := dkwX2_lambda_fuel_5_0 ++ []
theorem dksX2_lambda_fuel_5_0 : cX2_lambda_fuel_5.data.toList.drop 0 = dktX2_lambda_fuel_5_0 := by decide +kernel
theorem dX2_lambda_fuel_5_0 : decode cX2_lambda_fuel_5 0 = .ok (.aload_n 0, 1) := dk_42 (dk_at dksX2_lambda_fuel_5_0 0 rfl rfl)
theorem dX2_lambda_fuel_5_1 : decode cX2_lambda_fuel_5 1 = .ok (.getfield 20, 3) := dk_180 0 20 (dk_at dksX2_lambda_fuel_5_0 1 rfl rfl)
theorem dX2_lambda_fuel_5_4 : decode cX2_lambda_fuel_5 4 = .ok (.getfield 223, 3) := dk_180 0 223 (dk_at dksX2_lambda_fuel_5_0 4 rfl rfl)
theorem dX2_lambda_fuel_5_7 : decode cX2_lambda_fuel_5 7 = .ok (.ireturn, 1) := dk_172 (dk_at dksX2_lambda_fuel_5_0 7 rfl rfl)
abbrev cX2_behind : ByteArray := prog_1_method_56_code
def yX2_behind : MethodName := ⟨RX2, "behind", "(ILKilnBench$Told;)I"⟩
def dkwX2_behind_1 : List UInt8 := [44, 185, 1, 163, 1, 0, 54, 4, 42, 45, 182, 1, 167, 21, 4, 172]
abbrev dktX2_behind_1 : List UInt8 := dkwX2_behind_1 ++ []
def dkwX2_behind_0 : List UInt8 := [42, 27, 3, 16, 40, 182, 1, 33, 154, 0, 5, 2, 172, 42, 182, 1, 159, 78, 42, 27, 182, 1, 40, 87]
abbrev dktX2_behind_0 : List UInt8 := dkwX2_behind_0 ++ dktX2_behind_1
theorem dksX2_behind_0 : cX2_behind.data.toList.drop 0 = dktX2_behind_0 := by decide +kernel
theorem dksX2_behind_1 : cX2_behind.data.toList.drop 24 = dktX2_behind_1 := dk_seg dksX2_behind_0 24 rfl rfl
theorem dX2_behind_0 : decode cX2_behind 0 = .ok (.aload_n 0, 1) := dk_42 (dk_at dksX2_behind_0 0 rfl rfl)
theorem dX2_behind_1 : decode cX2_behind 1 = .ok (.iload_n 1, 1) := dk_27 (dk_at dksX2_behind_0 1 rfl rfl)
theorem dX2_behind_2 : decode cX2_behind 2 = .ok (.iconst 0, 1) := dk_3 (dk_at dksX2_behind_0 2 rfl rfl)
theorem dX2_behind_3 : decode cX2_behind 3 = .ok (.bipush 40, 2) := dk_16 40 (dk_at dksX2_behind_0 3 rfl rfl)
theorem dX2_behind_5 : decode cX2_behind 5 = .ok (.invokevirtual 289, 3) := dk_182 1 33 (dk_at dksX2_behind_0 5 rfl rfl)
theorem dX2_behind_8 : decode cX2_behind 8 = .ok (.ifCond .ne 5, 3) := dk_154 0 5 (dk_at dksX2_behind_0 8 rfl rfl)
theorem dX2_behind_11 : decode cX2_behind 11 = .ok (.iconst (-1), 1) := dk_2 (dk_at dksX2_behind_0 11 rfl rfl)
theorem dX2_behind_12 : decode cX2_behind 12 = .ok (.ireturn, 1) := dk_172 (dk_at dksX2_behind_0 12 rfl rfl)
theorem dX2_behind_13 : decode cX2_behind 13 = .ok (.aload_n 0, 1) := dk_42 (dk_at dksX2_behind_0 13 rfl rfl)
theorem dX2_behind_14 : decode cX2_behind 14 = .ok (.invokevirtual 415, 3) := dk_182 1 159 (dk_at dksX2_behind_0 14 rfl rfl)
theorem dX2_behind_17 : decode cX2_behind 17 = .ok (.astore_n 3, 1) := dk_78 (dk_at dksX2_behind_0 17 rfl rfl)
theorem dX2_behind_18 : decode cX2_behind 18 = .ok (.aload_n 0, 1) := dk_42 (dk_at dksX2_behind_0 18 rfl rfl)
theorem dX2_behind_19 : decode cX2_behind 19 = .ok (.iload_n 1, 1) := dk_27 (dk_at dksX2_behind_0 19 rfl rfl)
theorem dX2_behind_20 : decode cX2_behind 20 = .ok (.invokevirtual 296, 3) := dk_182 1 40 (dk_at dksX2_behind_0 20 rfl rfl)
theorem dX2_behind_23 : decode cX2_behind 23 = .ok (.pop, 1) := dk_87 (dk_at dksX2_behind_0 23 rfl rfl)
theorem dX2_behind_24 : decode cX2_behind 24 = .ok (.aload_n 2, 1) := dk_44 (dk_at dksX2_behind_1 0 rfl rfl)
theorem dX2_behind_25 : decode cX2_behind 25 = .ok (.invokeinterface 419 1, 5) := by decide +kernel
theorem dX2_behind_30 : decode cX2_behind 30 = .ok (.istore 4, 2) := dk_54 4 (dk_at dksX2_behind_1 6 rfl rfl)
theorem dX2_behind_32 : decode cX2_behind 32 = .ok (.aload_n 0, 1) := dk_42 (dk_at dksX2_behind_1 8 rfl rfl)
theorem dX2_behind_33 : decode cX2_behind 33 = .ok (.aload_n 3, 1) := dk_45 (dk_at dksX2_behind_1 9 rfl rfl)
theorem dX2_behind_34 : decode cX2_behind 34 = .ok (.invokevirtual 423, 3) := dk_182 1 167 (dk_at dksX2_behind_1 10 rfl rfl)
theorem dX2_behind_37 : decode cX2_behind 37 = .ok (.iload 4, 2) := dk_21 4 (dk_at dksX2_behind_1 13 rfl rfl)
theorem dX2_behind_39 : decode cX2_behind 39 = .ok (.ireturn, 1) := dk_172 (dk_at dksX2_behind_1 15 rfl rfl)
abbrev cX2_isAhead : ByteArray := prog_1_method_33_code
def yX2_isAhead : MethodName := ⟨RX2, "isAhead", "(III)Z"⟩
def dkwX2_isAhead_1 : List UInt8 := [4, 167, 0, 4, 3, 172]
abbrev dktX2_isAhead_1 : List UInt8 := dkwX2_isAhead_1 ++ []
def dkwX2_isAhead_0 : List UInt8 := [27, 133, 28, 133, 29, 133, 184, 0, 95, 153, 0, 19, 42, 180, 0, 119, 27, 96, 17, 3, 231, 163, 0, 7]
abbrev dktX2_isAhead_0 : List UInt8 := dkwX2_isAhead_0 ++ dktX2_isAhead_1
theorem dksX2_isAhead_0 : cX2_isAhead.data.toList.drop 0 = dktX2_isAhead_0 := by decide +kernel
theorem dksX2_isAhead_1 : cX2_isAhead.data.toList.drop 24 = dktX2_isAhead_1 := dk_seg dksX2_isAhead_0 24 rfl rfl
theorem dX2_isAhead_0 : decode cX2_isAhead 0 = .ok (.iload_n 1, 1) := dk_27 (dk_at dksX2_isAhead_0 0 rfl rfl)
theorem dX2_isAhead_1 : decode cX2_isAhead 1 = .ok (.i2l, 1) := dk_133 (dk_at dksX2_isAhead_0 1 rfl rfl)
theorem dX2_isAhead_2 : decode cX2_isAhead 2 = .ok (.iload_n 2, 1) := dk_28 (dk_at dksX2_isAhead_0 2 rfl rfl)
theorem dX2_isAhead_3 : decode cX2_isAhead 3 = .ok (.i2l, 1) := dk_133 (dk_at dksX2_isAhead_0 3 rfl rfl)
theorem dX2_isAhead_4 : decode cX2_isAhead 4 = .ok (.iload_n 3, 1) := dk_29 (dk_at dksX2_isAhead_0 4 rfl rfl)
theorem dX2_isAhead_5 : decode cX2_isAhead 5 = .ok (.i2l, 1) := dk_133 (dk_at dksX2_isAhead_0 5 rfl rfl)
theorem dX2_isAhead_6 : decode cX2_isAhead 6 = .ok (.invokestatic 95, 3) := dk_184 0 95 (dk_at dksX2_isAhead_0 6 rfl rfl)
theorem dX2_isAhead_9 : decode cX2_isAhead 9 = .ok (.ifCond .eq 19, 3) := dk_153 0 19 (dk_at dksX2_isAhead_0 9 rfl rfl)
theorem dX2_isAhead_12 : decode cX2_isAhead 12 = .ok (.aload_n 0, 1) := dk_42 (dk_at dksX2_isAhead_0 12 rfl rfl)
theorem dX2_isAhead_13 : decode cX2_isAhead 13 = .ok (.getfield 119, 3) := dk_180 0 119 (dk_at dksX2_isAhead_0 13 rfl rfl)
theorem dX2_isAhead_16 : decode cX2_isAhead 16 = .ok (.iload_n 1, 1) := dk_27 (dk_at dksX2_isAhead_0 16 rfl rfl)
theorem dX2_isAhead_17 : decode cX2_isAhead 17 = .ok (.iadd, 1) := dk_96 (dk_at dksX2_isAhead_0 17 rfl rfl)
theorem dX2_isAhead_18 : decode cX2_isAhead 18 = .ok (.sipush 999, 3) := dk_17 3 231 (dk_at dksX2_isAhead_0 18 rfl rfl)
theorem dX2_isAhead_21 : decode cX2_isAhead 21 = .ok (.if_icmp .gt 7, 3) := dk_163 0 7 (dk_at dksX2_isAhead_0 21 rfl rfl)
theorem dX2_isAhead_24 : decode cX2_isAhead 24 = .ok (.iconst 1, 1) := dk_4 (dk_at dksX2_isAhead_1 0 rfl rfl)
theorem dX2_isAhead_25 : decode cX2_isAhead 25 = .ok (.goto 4, 3) := dk_167 0 4 (dk_at dksX2_isAhead_1 1 rfl rfl)
theorem dX2_isAhead_28 : decode cX2_isAhead 28 = .ok (.iconst 0, 1) := dk_3 (dk_at dksX2_isAhead_1 4 rfl rfl)
theorem dX2_isAhead_29 : decode cX2_isAhead 29 = .ok (.ireturn, 1) := dk_172 (dk_at dksX2_isAhead_1 5 rfl rfl)
abbrev cX2_thinks : ByteArray := prog_1_method_29_code
def yX2_thinks : MethodName := ⟨RX2, "thinks", "()LKilnBench$Spot;"⟩
def dkwX2_thinks_0 : List UInt8 := [42, 4, 181, 0, 250, 187, 1, 16, 89, 42, 183, 1, 18, 176]
abbrev dktX2_thinks_0 : List UInt8 := dkwX2_thinks_0 ++ []
theorem dksX2_thinks_0 : cX2_thinks.data.toList.drop 0 = dktX2_thinks_0 := by decide +kernel
theorem dX2_thinks_0 : decode cX2_thinks 0 = .ok (.aload_n 0, 1) := dk_42 (dk_at dksX2_thinks_0 0 rfl rfl)
theorem dX2_thinks_1 : decode cX2_thinks 1 = .ok (.iconst 1, 1) := dk_4 (dk_at dksX2_thinks_0 1 rfl rfl)
theorem dX2_thinks_2 : decode cX2_thinks 2 = .ok (.putfield 250, 3) := dk_181 0 250 (dk_at dksX2_thinks_0 2 rfl rfl)
theorem dX2_thinks_5 : decode cX2_thinks 5 = .ok (.new 272, 3) := dk_187 1 16 (dk_at dksX2_thinks_0 5 rfl rfl)
theorem dX2_thinks_8 : decode cX2_thinks 8 = .ok (.dup, 1) := dk_89 (dk_at dksX2_thinks_0 8 rfl rfl)
theorem dX2_thinks_9 : decode cX2_thinks 9 = .ok (.aload_n 0, 1) := dk_42 (dk_at dksX2_thinks_0 9 rfl rfl)
theorem dX2_thinks_10 : decode cX2_thinks 10 = .ok (.invokespecial 274, 3) := dk_183 1 18 (dk_at dksX2_thinks_0 10 rfl rfl)
theorem dX2_thinks_13 : decode cX2_thinks 13 = .ok (.areturn, 1) := dk_176 (dk_at dksX2_thinks_0 13 rfl rfl)
abbrev cX2_goes : ByteArray := prog_1_method_28_code
def yX2_goes : MethodName := ⟨RX2, "goes", "(I)I"⟩
def dkwX2_goes_1 : List UInt8 := [132, 3, 1, 167, 255, 233, 28, 172]
abbrev dktX2_goes_1 : List UInt8 := dkwX2_goes_1 ++ []
def dkwX2_goes_0 : List UInt8 := [3, 61, 3, 62, 29, 27, 162, 0, 24, 42, 3, 182, 1, 8, 28, 42, 180, 0, 220, 184, 1, 11, 96, 61]
abbrev dktX2_goes_0 : List UInt8 := dkwX2_goes_0 ++ dktX2_goes_1
theorem dksX2_goes_0 : cX2_goes.data.toList.drop 0 = dktX2_goes_0 := by decide +kernel
theorem dksX2_goes_1 : cX2_goes.data.toList.drop 24 = dktX2_goes_1 := dk_seg dksX2_goes_0 24 rfl rfl
theorem dX2_goes_0 : decode cX2_goes 0 = .ok (.iconst 0, 1) := dk_3 (dk_at dksX2_goes_0 0 rfl rfl)
theorem dX2_goes_1 : decode cX2_goes 1 = .ok (.istore_n 2, 1) := dk_61 (dk_at dksX2_goes_0 1 rfl rfl)
theorem dX2_goes_2 : decode cX2_goes 2 = .ok (.iconst 0, 1) := dk_3 (dk_at dksX2_goes_0 2 rfl rfl)
theorem dX2_goes_3 : decode cX2_goes 3 = .ok (.istore_n 3, 1) := dk_62 (dk_at dksX2_goes_0 3 rfl rfl)
theorem dX2_goes_4 : decode cX2_goes 4 = .ok (.iload_n 3, 1) := dk_29 (dk_at dksX2_goes_0 4 rfl rfl)
theorem dX2_goes_5 : decode cX2_goes 5 = .ok (.iload_n 1, 1) := dk_27 (dk_at dksX2_goes_0 5 rfl rfl)
theorem dX2_goes_6 : decode cX2_goes 6 = .ok (.if_icmp .ge 24, 3) := dk_162 0 24 (dk_at dksX2_goes_0 6 rfl rfl)
theorem dX2_goes_9 : decode cX2_goes 9 = .ok (.aload_n 0, 1) := dk_42 (dk_at dksX2_goes_0 9 rfl rfl)
theorem dX2_goes_10 : decode cX2_goes 10 = .ok (.iconst 0, 1) := dk_3 (dk_at dksX2_goes_0 10 rfl rfl)
theorem dX2_goes_11 : decode cX2_goes 11 = .ok (.invokevirtual 264, 3) := dk_182 1 8 (dk_at dksX2_goes_0 11 rfl rfl)
theorem dX2_goes_14 : decode cX2_goes 14 = .ok (.iload_n 2, 1) := dk_28 (dk_at dksX2_goes_0 14 rfl rfl)
theorem dX2_goes_15 : decode cX2_goes 15 = .ok (.aload_n 0, 1) := dk_42 (dk_at dksX2_goes_0 15 rfl rfl)
theorem dX2_goes_16 : decode cX2_goes 16 = .ok (.getfield 220, 3) := dk_180 0 220 (dk_at dksX2_goes_0 16 rfl rfl)
theorem dX2_goes_19 : decode cX2_goes 19 = .ok (.invokestatic 267, 3) := dk_184 1 11 (dk_at dksX2_goes_0 19 rfl rfl)
theorem dX2_goes_22 : decode cX2_goes 22 = .ok (.iadd, 1) := dk_96 (dk_at dksX2_goes_0 22 rfl rfl)
theorem dX2_goes_23 : decode cX2_goes 23 = .ok (.istore_n 2, 1) := dk_61 (dk_at dksX2_goes_0 23 rfl rfl)
theorem dX2_goes_24 : decode cX2_goes 24 = .ok (.iinc 3 1, 3) := dk_132 3 1 (dk_at dksX2_goes_1 0 rfl rfl)
theorem dX2_goes_27 : decode cX2_goes 27 = .ok (.goto (-23), 3) := dk_167 255 233 (dk_at dksX2_goes_1 3 rfl rfl)
theorem dX2_goes_30 : decode cX2_goes 30 = .ok (.iload_n 2, 1) := dk_28 (dk_at dksX2_goes_1 6 rfl rfl)
theorem dX2_goes_31 : decode cX2_goes 31 = .ok (.ireturn, 1) := dk_172 (dk_at dksX2_goes_1 7 rfl rfl)
abbrev cX2_weekGoes : ByteArray := prog_1_method_26_code
def yX2_weekGoes : MethodName := ⟨RX2, "weekGoes", "(I)V"⟩
def dkwX2_weekGoes_7 : List UInt8 := [21, 5, 21, 6, 182, 0, 254, 132, 2, 1, 167, 255, 120, 42, 89, 180, 0, 119, 4, 96, 181, 0, 119, 177]
abbrev dktX2_weekGoes_7 : List UInt8 := dkwX2_weekGoes_7 ++ []
def dkwX2_weekGoes_6 : List UInt8 := [54, 6, 42, 89, 180, 0, 220, 4, 28, 120, 128, 181, 0, 220, 42, 180, 0, 250, 154, 0, 12, 42, 28]
abbrev dktX2_weekGoes_6 : List UInt8 := dkwX2_weekGoes_6 ++ dktX2_weekGoes_7
def dkwX2_weekGoes_5 : List UInt8 := [180, 0, 211, 27, 96, 184, 0, 229, 54, 5, 187, 0, 242, 89, 42, 45, 21, 5, 183, 0, 244, 182, 0, 247]
abbrev dktX2_weekGoes_5 : List UInt8 := dkwX2_weekGoes_5 ++ dktX2_weekGoes_6
def dkwX2_weekGoes_4 : List UInt8 := [164, 0, 6, 167, 0, 74, 42, 180, 0, 20, 89, 180, 0, 223, 21, 4, 100, 181, 0, 223, 16, 20, 45]
abbrev dktX2_weekGoes_4 : List UInt8 := dkwX2_weekGoes_4 ++ dktX2_weekGoes_5
def dkwX2_weekGoes_3 : List UInt8 := [154, 0, 6, 167, 0, 96, 42, 45, 182, 0, 238, 54, 4, 21, 4, 42, 180, 0, 20, 180, 0, 223]
abbrev dktX2_weekGoes_3 : List UInt8 := dkwX2_weekGoes_3 ++ dktX2_weekGoes_4
def dkwX2_weekGoes_2 : List UInt8 := [180, 0, 152, 28, 182, 0, 139, 192, 0, 155, 78, 45, 182, 0, 234, 153, 0, 106, 45, 182, 0, 217]
abbrev dktX2_weekGoes_2 : List UInt8 := dkwX2_weekGoes_2 ++ dktX2_weekGoes_3
def dkwX2_weekGoes_1 : List UInt8 := [180, 0, 226, 96, 184, 0, 229, 181, 0, 223, 3, 61, 28, 42, 182, 0, 232, 162, 0, 134, 42, 180, 0, 20]
abbrev dktX2_weekGoes_1 : List UInt8 := dkwX2_weekGoes_1 ++ dktX2_weekGoes_2
def dkwX2_weekGoes_0 : List UInt8 := [42, 3, 181, 0, 220, 42, 180, 0, 20, 17, 39, 15, 42, 180, 0, 20, 180, 0, 223, 42, 180, 0, 20]
abbrev dktX2_weekGoes_0 : List UInt8 := dkwX2_weekGoes_0 ++ dktX2_weekGoes_1
theorem dksX2_weekGoes_0 : cX2_weekGoes.data.toList.drop 0 = dktX2_weekGoes_0 := by decide +kernel
theorem dksX2_weekGoes_1 : cX2_weekGoes.data.toList.drop 23 = dktX2_weekGoes_1 := dk_seg dksX2_weekGoes_0 23 rfl rfl
theorem dksX2_weekGoes_2 : cX2_weekGoes.data.toList.drop 47 = dktX2_weekGoes_2 := dk_seg dksX2_weekGoes_1 24 rfl rfl
theorem dksX2_weekGoes_3 : cX2_weekGoes.data.toList.drop 69 = dktX2_weekGoes_3 := dk_seg dksX2_weekGoes_2 22 rfl rfl
theorem dksX2_weekGoes_4 : cX2_weekGoes.data.toList.drop 91 = dktX2_weekGoes_4 := dk_seg dksX2_weekGoes_3 22 rfl rfl
theorem dksX2_weekGoes_5 : cX2_weekGoes.data.toList.drop 114 = dktX2_weekGoes_5 := dk_seg dksX2_weekGoes_4 23 rfl rfl
theorem dksX2_weekGoes_6 : cX2_weekGoes.data.toList.drop 138 = dktX2_weekGoes_6 := dk_seg dksX2_weekGoes_5 24 rfl rfl
theorem dksX2_weekGoes_7 : cX2_weekGoes.data.toList.drop 161 = dktX2_weekGoes_7 := dk_seg dksX2_weekGoes_6 23 rfl rfl
theorem dX2_weekGoes_0 : decode cX2_weekGoes 0 = .ok (.aload_n 0, 1) := dk_42 (dk_at dksX2_weekGoes_0 0 rfl rfl)
theorem dX2_weekGoes_1 : decode cX2_weekGoes 1 = .ok (.iconst 0, 1) := dk_3 (dk_at dksX2_weekGoes_0 1 rfl rfl)
theorem dX2_weekGoes_2 : decode cX2_weekGoes 2 = .ok (.putfield 220, 3) := dk_181 0 220 (dk_at dksX2_weekGoes_0 2 rfl rfl)
theorem dX2_weekGoes_5 : decode cX2_weekGoes 5 = .ok (.aload_n 0, 1) := dk_42 (dk_at dksX2_weekGoes_0 5 rfl rfl)
theorem dX2_weekGoes_6 : decode cX2_weekGoes 6 = .ok (.getfield 20, 3) := dk_180 0 20 (dk_at dksX2_weekGoes_0 6 rfl rfl)
theorem dX2_weekGoes_9 : decode cX2_weekGoes 9 = .ok (.sipush 9999, 3) := dk_17 39 15 (dk_at dksX2_weekGoes_0 9 rfl rfl)
theorem dX2_weekGoes_12 : decode cX2_weekGoes 12 = .ok (.aload_n 0, 1) := dk_42 (dk_at dksX2_weekGoes_0 12 rfl rfl)
theorem dX2_weekGoes_13 : decode cX2_weekGoes 13 = .ok (.getfield 20, 3) := dk_180 0 20 (dk_at dksX2_weekGoes_0 13 rfl rfl)
theorem dX2_weekGoes_16 : decode cX2_weekGoes 16 = .ok (.getfield 223, 3) := dk_180 0 223 (dk_at dksX2_weekGoes_0 16 rfl rfl)
theorem dX2_weekGoes_19 : decode cX2_weekGoes 19 = .ok (.aload_n 0, 1) := dk_42 (dk_at dksX2_weekGoes_0 19 rfl rfl)
theorem dX2_weekGoes_20 : decode cX2_weekGoes 20 = .ok (.getfield 20, 3) := dk_180 0 20 (dk_at dksX2_weekGoes_0 20 rfl rfl)
theorem dX2_weekGoes_23 : decode cX2_weekGoes 23 = .ok (.getfield 226, 3) := dk_180 0 226 (dk_at dksX2_weekGoes_1 0 rfl rfl)
theorem dX2_weekGoes_26 : decode cX2_weekGoes 26 = .ok (.iadd, 1) := dk_96 (dk_at dksX2_weekGoes_1 3 rfl rfl)
theorem dX2_weekGoes_27 : decode cX2_weekGoes 27 = .ok (.invokestatic 229, 3) := dk_184 0 229 (dk_at dksX2_weekGoes_1 4 rfl rfl)
theorem dX2_weekGoes_30 : decode cX2_weekGoes 30 = .ok (.putfield 223, 3) := dk_181 0 223 (dk_at dksX2_weekGoes_1 7 rfl rfl)
theorem dX2_weekGoes_33 : decode cX2_weekGoes 33 = .ok (.iconst 0, 1) := dk_3 (dk_at dksX2_weekGoes_1 10 rfl rfl)
theorem dX2_weekGoes_34 : decode cX2_weekGoes 34 = .ok (.istore_n 2, 1) := dk_61 (dk_at dksX2_weekGoes_1 11 rfl rfl)
theorem dX2_weekGoes_35 : decode cX2_weekGoes 35 = .ok (.iload_n 2, 1) := dk_28 (dk_at dksX2_weekGoes_1 12 rfl rfl)
theorem dX2_weekGoes_36 : decode cX2_weekGoes 36 = .ok (.aload_n 0, 1) := dk_42 (dk_at dksX2_weekGoes_1 13 rfl rfl)
theorem dX2_weekGoes_37 : decode cX2_weekGoes 37 = .ok (.invokevirtual 232, 3) := dk_182 0 232 (dk_at dksX2_weekGoes_1 14 rfl rfl)
theorem dX2_weekGoes_40 : decode cX2_weekGoes 40 = .ok (.if_icmp .ge 134, 3) := dk_162 0 134 (dk_at dksX2_weekGoes_1 17 rfl rfl)
theorem dX2_weekGoes_43 : decode cX2_weekGoes 43 = .ok (.aload_n 0, 1) := dk_42 (dk_at dksX2_weekGoes_1 20 rfl rfl)
theorem dX2_weekGoes_44 : decode cX2_weekGoes 44 = .ok (.getfield 20, 3) := dk_180 0 20 (dk_at dksX2_weekGoes_1 21 rfl rfl)
theorem dX2_weekGoes_47 : decode cX2_weekGoes 47 = .ok (.getfield 152, 3) := dk_180 0 152 (dk_at dksX2_weekGoes_2 0 rfl rfl)
theorem dX2_weekGoes_50 : decode cX2_weekGoes 50 = .ok (.iload_n 2, 1) := dk_28 (dk_at dksX2_weekGoes_2 3 rfl rfl)
theorem dX2_weekGoes_51 : decode cX2_weekGoes 51 = .ok (.invokevirtual 139, 3) := dk_182 0 139 (dk_at dksX2_weekGoes_2 4 rfl rfl)
theorem dX2_weekGoes_54 : decode cX2_weekGoes 54 = .ok (.checkcast 155, 3) := dk_192 0 155 (dk_at dksX2_weekGoes_2 7 rfl rfl)
theorem dX2_weekGoes_57 : decode cX2_weekGoes 57 = .ok (.astore_n 3, 1) := dk_78 (dk_at dksX2_weekGoes_2 10 rfl rfl)
theorem dX2_weekGoes_58 : decode cX2_weekGoes 58 = .ok (.aload_n 3, 1) := dk_45 (dk_at dksX2_weekGoes_2 11 rfl rfl)
theorem dX2_weekGoes_59 : decode cX2_weekGoes 59 = .ok (.invokevirtual 234, 3) := dk_182 0 234 (dk_at dksX2_weekGoes_2 12 rfl rfl)
theorem dX2_weekGoes_62 : decode cX2_weekGoes 62 = .ok (.ifCond .eq 106, 3) := dk_153 0 106 (dk_at dksX2_weekGoes_2 15 rfl rfl)
theorem dX2_weekGoes_65 : decode cX2_weekGoes 65 = .ok (.aload_n 3, 1) := dk_45 (dk_at dksX2_weekGoes_2 18 rfl rfl)
theorem dX2_weekGoes_66 : decode cX2_weekGoes 66 = .ok (.invokevirtual 217, 3) := dk_182 0 217 (dk_at dksX2_weekGoes_2 19 rfl rfl)
theorem dX2_weekGoes_69 : decode cX2_weekGoes 69 = .ok (.ifCond .ne 6, 3) := dk_154 0 6 (dk_at dksX2_weekGoes_3 0 rfl rfl)
theorem dX2_weekGoes_72 : decode cX2_weekGoes 72 = .ok (.goto 96, 3) := dk_167 0 96 (dk_at dksX2_weekGoes_3 3 rfl rfl)
theorem dX2_weekGoes_75 : decode cX2_weekGoes 75 = .ok (.aload_n 0, 1) := dk_42 (dk_at dksX2_weekGoes_3 6 rfl rfl)
theorem dX2_weekGoes_76 : decode cX2_weekGoes 76 = .ok (.aload_n 3, 1) := dk_45 (dk_at dksX2_weekGoes_3 7 rfl rfl)
theorem dX2_weekGoes_77 : decode cX2_weekGoes 77 = .ok (.invokevirtual 238, 3) := dk_182 0 238 (dk_at dksX2_weekGoes_3 8 rfl rfl)
theorem dX2_weekGoes_80 : decode cX2_weekGoes 80 = .ok (.istore 4, 2) := dk_54 4 (dk_at dksX2_weekGoes_3 11 rfl rfl)
theorem dX2_weekGoes_82 : decode cX2_weekGoes 82 = .ok (.iload 4, 2) := dk_21 4 (dk_at dksX2_weekGoes_3 13 rfl rfl)
theorem dX2_weekGoes_84 : decode cX2_weekGoes 84 = .ok (.aload_n 0, 1) := dk_42 (dk_at dksX2_weekGoes_3 15 rfl rfl)
theorem dX2_weekGoes_85 : decode cX2_weekGoes 85 = .ok (.getfield 20, 3) := dk_180 0 20 (dk_at dksX2_weekGoes_3 16 rfl rfl)
theorem dX2_weekGoes_88 : decode cX2_weekGoes 88 = .ok (.getfield 223, 3) := dk_180 0 223 (dk_at dksX2_weekGoes_3 19 rfl rfl)
theorem dX2_weekGoes_91 : decode cX2_weekGoes 91 = .ok (.if_icmp .le 6, 3) := dk_164 0 6 (dk_at dksX2_weekGoes_4 0 rfl rfl)
theorem dX2_weekGoes_94 : decode cX2_weekGoes 94 = .ok (.goto 74, 3) := dk_167 0 74 (dk_at dksX2_weekGoes_4 3 rfl rfl)
theorem dX2_weekGoes_97 : decode cX2_weekGoes 97 = .ok (.aload_n 0, 1) := dk_42 (dk_at dksX2_weekGoes_4 6 rfl rfl)
theorem dX2_weekGoes_98 : decode cX2_weekGoes 98 = .ok (.getfield 20, 3) := dk_180 0 20 (dk_at dksX2_weekGoes_4 7 rfl rfl)
theorem dX2_weekGoes_101 : decode cX2_weekGoes 101 = .ok (.dup, 1) := dk_89 (dk_at dksX2_weekGoes_4 10 rfl rfl)
theorem dX2_weekGoes_102 : decode cX2_weekGoes 102 = .ok (.getfield 223, 3) := dk_180 0 223 (dk_at dksX2_weekGoes_4 11 rfl rfl)
theorem dX2_weekGoes_105 : decode cX2_weekGoes 105 = .ok (.iload 4, 2) := dk_21 4 (dk_at dksX2_weekGoes_4 14 rfl rfl)
theorem dX2_weekGoes_107 : decode cX2_weekGoes 107 = .ok (.isub, 1) := dk_100 (dk_at dksX2_weekGoes_4 16 rfl rfl)
theorem dX2_weekGoes_108 : decode cX2_weekGoes 108 = .ok (.putfield 223, 3) := dk_181 0 223 (dk_at dksX2_weekGoes_4 17 rfl rfl)
theorem dX2_weekGoes_111 : decode cX2_weekGoes 111 = .ok (.bipush 20, 2) := dk_16 20 (dk_at dksX2_weekGoes_4 20 rfl rfl)
theorem dX2_weekGoes_113 : decode cX2_weekGoes 113 = .ok (.aload_n 3, 1) := dk_45 (dk_at dksX2_weekGoes_4 22 rfl rfl)
theorem dX2_weekGoes_114 : decode cX2_weekGoes 114 = .ok (.getfield 211, 3) := dk_180 0 211 (dk_at dksX2_weekGoes_5 0 rfl rfl)
theorem dX2_weekGoes_117 : decode cX2_weekGoes 117 = .ok (.iload_n 1, 1) := dk_27 (dk_at dksX2_weekGoes_5 3 rfl rfl)
theorem dX2_weekGoes_118 : decode cX2_weekGoes 118 = .ok (.iadd, 1) := dk_96 (dk_at dksX2_weekGoes_5 4 rfl rfl)
theorem dX2_weekGoes_119 : decode cX2_weekGoes 119 = .ok (.invokestatic 229, 3) := dk_184 0 229 (dk_at dksX2_weekGoes_5 5 rfl rfl)
theorem dX2_weekGoes_122 : decode cX2_weekGoes 122 = .ok (.istore 5, 2) := dk_54 5 (dk_at dksX2_weekGoes_5 8 rfl rfl)
theorem dX2_weekGoes_124 : decode cX2_weekGoes 124 = .ok (.new 242, 3) := dk_187 0 242 (dk_at dksX2_weekGoes_5 10 rfl rfl)
theorem dX2_weekGoes_127 : decode cX2_weekGoes 127 = .ok (.dup, 1) := dk_89 (dk_at dksX2_weekGoes_5 13 rfl rfl)
theorem dX2_weekGoes_128 : decode cX2_weekGoes 128 = .ok (.aload_n 0, 1) := dk_42 (dk_at dksX2_weekGoes_5 14 rfl rfl)
theorem dX2_weekGoes_129 : decode cX2_weekGoes 129 = .ok (.aload_n 3, 1) := dk_45 (dk_at dksX2_weekGoes_5 15 rfl rfl)
theorem dX2_weekGoes_130 : decode cX2_weekGoes 130 = .ok (.iload 5, 2) := dk_21 5 (dk_at dksX2_weekGoes_5 16 rfl rfl)
theorem dX2_weekGoes_132 : decode cX2_weekGoes 132 = .ok (.invokespecial 244, 3) := dk_183 0 244 (dk_at dksX2_weekGoes_5 18 rfl rfl)
theorem dX2_weekGoes_135 : decode cX2_weekGoes 135 = .ok (.invokevirtual 247, 3) := dk_182 0 247 (dk_at dksX2_weekGoes_5 21 rfl rfl)
theorem dX2_weekGoes_138 : decode cX2_weekGoes 138 = .ok (.istore 6, 2) := dk_54 6 (dk_at dksX2_weekGoes_6 0 rfl rfl)
theorem dX2_weekGoes_140 : decode cX2_weekGoes 140 = .ok (.aload_n 0, 1) := dk_42 (dk_at dksX2_weekGoes_6 2 rfl rfl)
theorem dX2_weekGoes_141 : decode cX2_weekGoes 141 = .ok (.dup, 1) := dk_89 (dk_at dksX2_weekGoes_6 3 rfl rfl)
theorem dX2_weekGoes_142 : decode cX2_weekGoes 142 = .ok (.getfield 220, 3) := dk_180 0 220 (dk_at dksX2_weekGoes_6 4 rfl rfl)
theorem dX2_weekGoes_145 : decode cX2_weekGoes 145 = .ok (.iconst 1, 1) := dk_4 (dk_at dksX2_weekGoes_6 7 rfl rfl)
theorem dX2_weekGoes_146 : decode cX2_weekGoes 146 = .ok (.iload_n 2, 1) := dk_28 (dk_at dksX2_weekGoes_6 8 rfl rfl)
theorem dX2_weekGoes_147 : decode cX2_weekGoes 147 = .ok (.ishl, 1) := dk_120 (dk_at dksX2_weekGoes_6 9 rfl rfl)
theorem dX2_weekGoes_148 : decode cX2_weekGoes 148 = .ok (.ior, 1) := dk_128 (dk_at dksX2_weekGoes_6 10 rfl rfl)
theorem dX2_weekGoes_149 : decode cX2_weekGoes 149 = .ok (.putfield 220, 3) := dk_181 0 220 (dk_at dksX2_weekGoes_6 11 rfl rfl)
theorem dX2_weekGoes_152 : decode cX2_weekGoes 152 = .ok (.aload_n 0, 1) := dk_42 (dk_at dksX2_weekGoes_6 14 rfl rfl)
theorem dX2_weekGoes_153 : decode cX2_weekGoes 153 = .ok (.getfield 250, 3) := dk_180 0 250 (dk_at dksX2_weekGoes_6 15 rfl rfl)
theorem dX2_weekGoes_156 : decode cX2_weekGoes 156 = .ok (.ifCond .ne 12, 3) := dk_154 0 12 (dk_at dksX2_weekGoes_6 18 rfl rfl)
theorem dX2_weekGoes_159 : decode cX2_weekGoes 159 = .ok (.aload_n 0, 1) := dk_42 (dk_at dksX2_weekGoes_6 21 rfl rfl)
theorem dX2_weekGoes_160 : decode cX2_weekGoes 160 = .ok (.iload_n 2, 1) := dk_28 (dk_at dksX2_weekGoes_6 22 rfl rfl)
theorem dX2_weekGoes_161 : decode cX2_weekGoes 161 = .ok (.iload 5, 2) := dk_21 5 (dk_at dksX2_weekGoes_7 0 rfl rfl)
theorem dX2_weekGoes_163 : decode cX2_weekGoes 163 = .ok (.iload 6, 2) := dk_21 6 (dk_at dksX2_weekGoes_7 2 rfl rfl)
theorem dX2_weekGoes_165 : decode cX2_weekGoes 165 = .ok (.invokevirtual 254, 3) := dk_182 0 254 (dk_at dksX2_weekGoes_7 4 rfl rfl)
theorem dX2_weekGoes_168 : decode cX2_weekGoes 168 = .ok (.iinc 2 1, 3) := dk_132 2 1 (dk_at dksX2_weekGoes_7 7 rfl rfl)
theorem dX2_weekGoes_171 : decode cX2_weekGoes 171 = .ok (.goto (-136), 3) := dk_167 255 120 (dk_at dksX2_weekGoes_7 10 rfl rfl)
theorem dX2_weekGoes_174 : decode cX2_weekGoes 174 = .ok (.aload_n 0, 1) := dk_42 (dk_at dksX2_weekGoes_7 13 rfl rfl)
theorem dX2_weekGoes_175 : decode cX2_weekGoes 175 = .ok (.dup, 1) := dk_89 (dk_at dksX2_weekGoes_7 14 rfl rfl)
theorem dX2_weekGoes_176 : decode cX2_weekGoes 176 = .ok (.getfield 119, 3) := dk_180 0 119 (dk_at dksX2_weekGoes_7 15 rfl rfl)
theorem dX2_weekGoes_179 : decode cX2_weekGoes 179 = .ok (.iconst 1, 1) := dk_4 (dk_at dksX2_weekGoes_7 18 rfl rfl)
theorem dX2_weekGoes_180 : decode cX2_weekGoes 180 = .ok (.iadd, 1) := dk_96 (dk_at dksX2_weekGoes_7 19 rfl rfl)
theorem dX2_weekGoes_181 : decode cX2_weekGoes 181 = .ok (.putfield 119, 3) := dk_181 0 119 (dk_at dksX2_weekGoes_7 20 rfl rfl)
theorem dX2_weekGoes_184 : decode cX2_weekGoes 184 = .ok (.return_, 1) := dk_177 (dk_at dksX2_weekGoes_7 23 rfl rfl)
abbrev cX2_doStick : ByteArray := prog_1_method_24_code
def yX2_doStick : MethodName := ⟨RX2, "doStick", "(LKilnBench$Child;ILKilnBench$Child;II)Z"⟩
def dkwX2_doStick_2 : List UInt8 := [42, 180, 0, 20, 180, 0, 202, 42, 180, 0, 41, 185, 0, 196, 2, 0, 172]
abbrev dktX2_doStick_2 : List UInt8 := dkwX2_doStick_2 ++ []
def dkwX2_doStick_1 : List UInt8 := [28, 21, 4, 100, 184, 0, 205, 133, 80, 25, 6, 16, 7, 43, 180, 0, 167, 45, 180, 0, 167, 96, 133, 80]
abbrev dktX2_doStick_1 : List UInt8 := dkwX2_doStick_1 ++ dktX2_doStick_2
def dkwX2_doStick_0 : List UInt8 := [42, 180, 0, 20, 180, 0, 202, 199, 0, 5, 3, 172, 42, 21, 5, 182, 0, 160, 58, 6, 25, 6, 16, 6]
abbrev dktX2_doStick_0 : List UInt8 := dkwX2_doStick_0 ++ dktX2_doStick_1
theorem dksX2_doStick_0 : cX2_doStick.data.toList.drop 0 = dktX2_doStick_0 := by decide +kernel
theorem dksX2_doStick_1 : cX2_doStick.data.toList.drop 24 = dktX2_doStick_1 := dk_seg dksX2_doStick_0 24 rfl rfl
theorem dksX2_doStick_2 : cX2_doStick.data.toList.drop 48 = dktX2_doStick_2 := dk_seg dksX2_doStick_1 24 rfl rfl
theorem dX2_doStick_0 : decode cX2_doStick 0 = .ok (.aload_n 0, 1) := dk_42 (dk_at dksX2_doStick_0 0 rfl rfl)
theorem dX2_doStick_1 : decode cX2_doStick 1 = .ok (.getfield 20, 3) := dk_180 0 20 (dk_at dksX2_doStick_0 1 rfl rfl)
theorem dX2_doStick_4 : decode cX2_doStick 4 = .ok (.getfield 202, 3) := dk_180 0 202 (dk_at dksX2_doStick_0 4 rfl rfl)
theorem dX2_doStick_7 : decode cX2_doStick 7 = .ok (.ifnonnull 5, 3) := dk_199 0 5 (dk_at dksX2_doStick_0 7 rfl rfl)
theorem dX2_doStick_10 : decode cX2_doStick 10 = .ok (.iconst 0, 1) := dk_3 (dk_at dksX2_doStick_0 10 rfl rfl)
theorem dX2_doStick_11 : decode cX2_doStick 11 = .ok (.ireturn, 1) := dk_172 (dk_at dksX2_doStick_0 11 rfl rfl)
theorem dX2_doStick_12 : decode cX2_doStick 12 = .ok (.aload_n 0, 1) := dk_42 (dk_at dksX2_doStick_0 12 rfl rfl)
theorem dX2_doStick_13 : decode cX2_doStick 13 = .ok (.iload 5, 2) := dk_21 5 (dk_at dksX2_doStick_0 13 rfl rfl)
theorem dX2_doStick_15 : decode cX2_doStick 15 = .ok (.invokevirtual 160, 3) := dk_182 0 160 (dk_at dksX2_doStick_0 15 rfl rfl)
theorem dX2_doStick_18 : decode cX2_doStick 18 = .ok (.astore 6, 2) := dk_58 6 (dk_at dksX2_doStick_0 18 rfl rfl)
theorem dX2_doStick_20 : decode cX2_doStick 20 = .ok (.aload 6, 2) := dk_25 6 (dk_at dksX2_doStick_0 20 rfl rfl)
theorem dX2_doStick_22 : decode cX2_doStick 22 = .ok (.bipush 6, 2) := dk_16 6 (dk_at dksX2_doStick_0 22 rfl rfl)
theorem dX2_doStick_24 : decode cX2_doStick 24 = .ok (.iload_n 2, 1) := dk_28 (dk_at dksX2_doStick_1 0 rfl rfl)
theorem dX2_doStick_25 : decode cX2_doStick 25 = .ok (.iload 4, 2) := dk_21 4 (dk_at dksX2_doStick_1 1 rfl rfl)
theorem dX2_doStick_27 : decode cX2_doStick 27 = .ok (.isub, 1) := dk_100 (dk_at dksX2_doStick_1 3 rfl rfl)
theorem dX2_doStick_28 : decode cX2_doStick 28 = .ok (.invokestatic 205, 3) := dk_184 0 205 (dk_at dksX2_doStick_1 4 rfl rfl)
theorem dX2_doStick_31 : decode cX2_doStick 31 = .ok (.i2l, 1) := dk_133 (dk_at dksX2_doStick_1 7 rfl rfl)
theorem dX2_doStick_32 : decode cX2_doStick 32 = .ok (.lastore, 1) := dk_80 (dk_at dksX2_doStick_1 8 rfl rfl)
theorem dX2_doStick_33 : decode cX2_doStick 33 = .ok (.aload 6, 2) := dk_25 6 (dk_at dksX2_doStick_1 9 rfl rfl)
theorem dX2_doStick_35 : decode cX2_doStick 35 = .ok (.bipush 7, 2) := dk_16 7 (dk_at dksX2_doStick_1 11 rfl rfl)
theorem dX2_doStick_37 : decode cX2_doStick 37 = .ok (.aload_n 1, 1) := dk_43 (dk_at dksX2_doStick_1 13 rfl rfl)
theorem dX2_doStick_38 : decode cX2_doStick 38 = .ok (.getfield 167, 3) := dk_180 0 167 (dk_at dksX2_doStick_1 14 rfl rfl)
theorem dX2_doStick_41 : decode cX2_doStick 41 = .ok (.aload_n 3, 1) := dk_45 (dk_at dksX2_doStick_1 17 rfl rfl)
theorem dX2_doStick_42 : decode cX2_doStick 42 = .ok (.getfield 167, 3) := dk_180 0 167 (dk_at dksX2_doStick_1 18 rfl rfl)
theorem dX2_doStick_45 : decode cX2_doStick 45 = .ok (.iadd, 1) := dk_96 (dk_at dksX2_doStick_1 21 rfl rfl)
theorem dX2_doStick_46 : decode cX2_doStick 46 = .ok (.i2l, 1) := dk_133 (dk_at dksX2_doStick_1 22 rfl rfl)
theorem dX2_doStick_47 : decode cX2_doStick 47 = .ok (.lastore, 1) := dk_80 (dk_at dksX2_doStick_1 23 rfl rfl)
theorem dX2_doStick_48 : decode cX2_doStick 48 = .ok (.aload_n 0, 1) := dk_42 (dk_at dksX2_doStick_2 0 rfl rfl)
theorem dX2_doStick_49 : decode cX2_doStick 49 = .ok (.getfield 20, 3) := dk_180 0 20 (dk_at dksX2_doStick_2 1 rfl rfl)
theorem dX2_doStick_52 : decode cX2_doStick 52 = .ok (.getfield 202, 3) := dk_180 0 202 (dk_at dksX2_doStick_2 4 rfl rfl)
theorem dX2_doStick_55 : decode cX2_doStick 55 = .ok (.aload_n 0, 1) := dk_42 (dk_at dksX2_doStick_2 7 rfl rfl)
theorem dX2_doStick_56 : decode cX2_doStick 56 = .ok (.getfield 41, 3) := dk_180 0 41 (dk_at dksX2_doStick_2 8 rfl rfl)
theorem dX2_doStick_59 : decode cX2_doStick 59 = .ok (.invokeinterface 196 2, 5) := by decide +kernel
theorem dX2_doStick_64 : decode cX2_doStick 64 = .ok (.ireturn, 1) := dk_172 (dk_at dksX2_doStick_2 16 rfl rfl)
abbrev cX2_isKept : ByteArray := prog_1_method_27_code
def yX2_isKept : MethodName := ⟨RX2, "isKept", "(III)V"⟩
def dkwX2_isKept_2 : List UInt8 := [180, 0, 31, 25, 4, 182, 1, 5, 87, 177]
abbrev dktX2_isKept_2 : List UInt8 := dkwX2_isKept_2 ++ []
def dkwX2_isKept_1 : List UInt8 := [42, 180, 0, 31, 182, 0, 136, 16, 40, 160, 0, 12, 42, 180, 0, 31, 3, 182, 1, 2, 87, 42]
abbrev dktX2_isKept_1 : List UInt8 := dkwX2_isKept_1 ++ dktX2_isKept_2
def dkwX2_isKept_0 : List UInt8 := [7, 188, 10, 89, 3, 42, 180, 0, 119, 79, 89, 4, 27, 79, 89, 5, 28, 79, 89, 6, 29, 79, 58, 4]
abbrev dktX2_isKept_0 : List UInt8 := dkwX2_isKept_0 ++ dktX2_isKept_1
theorem dksX2_isKept_0 : cX2_isKept.data.toList.drop 0 = dktX2_isKept_0 := by decide +kernel
theorem dksX2_isKept_1 : cX2_isKept.data.toList.drop 24 = dktX2_isKept_1 := dk_seg dksX2_isKept_0 24 rfl rfl
theorem dksX2_isKept_2 : cX2_isKept.data.toList.drop 46 = dktX2_isKept_2 := dk_seg dksX2_isKept_1 22 rfl rfl
theorem dX2_isKept_0 : decode cX2_isKept 0 = .ok (.iconst 4, 1) := dk_7 (dk_at dksX2_isKept_0 0 rfl rfl)
theorem dX2_isKept_1 : decode cX2_isKept 1 = .ok (.newarray .int, 2) := dk_188_10 (dk_at dksX2_isKept_0 1 rfl rfl)
theorem dX2_isKept_3 : decode cX2_isKept 3 = .ok (.dup, 1) := dk_89 (dk_at dksX2_isKept_0 3 rfl rfl)
theorem dX2_isKept_4 : decode cX2_isKept 4 = .ok (.iconst 0, 1) := dk_3 (dk_at dksX2_isKept_0 4 rfl rfl)
theorem dX2_isKept_5 : decode cX2_isKept 5 = .ok (.aload_n 0, 1) := dk_42 (dk_at dksX2_isKept_0 5 rfl rfl)
theorem dX2_isKept_6 : decode cX2_isKept 6 = .ok (.getfield 119, 3) := dk_180 0 119 (dk_at dksX2_isKept_0 6 rfl rfl)
theorem dX2_isKept_9 : decode cX2_isKept 9 = .ok (.iastore, 1) := dk_79 (dk_at dksX2_isKept_0 9 rfl rfl)
theorem dX2_isKept_10 : decode cX2_isKept 10 = .ok (.dup, 1) := dk_89 (dk_at dksX2_isKept_0 10 rfl rfl)
theorem dX2_isKept_11 : decode cX2_isKept 11 = .ok (.iconst 1, 1) := dk_4 (dk_at dksX2_isKept_0 11 rfl rfl)
theorem dX2_isKept_12 : decode cX2_isKept 12 = .ok (.iload_n 1, 1) := dk_27 (dk_at dksX2_isKept_0 12 rfl rfl)
theorem dX2_isKept_13 : decode cX2_isKept 13 = .ok (.iastore, 1) := dk_79 (dk_at dksX2_isKept_0 13 rfl rfl)
theorem dX2_isKept_14 : decode cX2_isKept 14 = .ok (.dup, 1) := dk_89 (dk_at dksX2_isKept_0 14 rfl rfl)
theorem dX2_isKept_15 : decode cX2_isKept 15 = .ok (.iconst 2, 1) := dk_5 (dk_at dksX2_isKept_0 15 rfl rfl)
theorem dX2_isKept_16 : decode cX2_isKept 16 = .ok (.iload_n 2, 1) := dk_28 (dk_at dksX2_isKept_0 16 rfl rfl)
theorem dX2_isKept_17 : decode cX2_isKept 17 = .ok (.iastore, 1) := dk_79 (dk_at dksX2_isKept_0 17 rfl rfl)
theorem dX2_isKept_18 : decode cX2_isKept 18 = .ok (.dup, 1) := dk_89 (dk_at dksX2_isKept_0 18 rfl rfl)
theorem dX2_isKept_19 : decode cX2_isKept 19 = .ok (.iconst 3, 1) := dk_6 (dk_at dksX2_isKept_0 19 rfl rfl)
theorem dX2_isKept_20 : decode cX2_isKept 20 = .ok (.iload_n 3, 1) := dk_29 (dk_at dksX2_isKept_0 20 rfl rfl)
theorem dX2_isKept_21 : decode cX2_isKept 21 = .ok (.iastore, 1) := dk_79 (dk_at dksX2_isKept_0 21 rfl rfl)
theorem dX2_isKept_22 : decode cX2_isKept 22 = .ok (.astore 4, 2) := dk_58 4 (dk_at dksX2_isKept_0 22 rfl rfl)
theorem dX2_isKept_24 : decode cX2_isKept 24 = .ok (.aload_n 0, 1) := dk_42 (dk_at dksX2_isKept_1 0 rfl rfl)
theorem dX2_isKept_25 : decode cX2_isKept 25 = .ok (.getfield 31, 3) := dk_180 0 31 (dk_at dksX2_isKept_1 1 rfl rfl)
theorem dX2_isKept_28 : decode cX2_isKept 28 = .ok (.invokevirtual 136, 3) := dk_182 0 136 (dk_at dksX2_isKept_1 4 rfl rfl)
theorem dX2_isKept_31 : decode cX2_isKept 31 = .ok (.bipush 40, 2) := dk_16 40 (dk_at dksX2_isKept_1 7 rfl rfl)
theorem dX2_isKept_33 : decode cX2_isKept 33 = .ok (.if_icmp .ne 12, 3) := dk_160 0 12 (dk_at dksX2_isKept_1 9 rfl rfl)
theorem dX2_isKept_36 : decode cX2_isKept 36 = .ok (.aload_n 0, 1) := dk_42 (dk_at dksX2_isKept_1 12 rfl rfl)
theorem dX2_isKept_37 : decode cX2_isKept 37 = .ok (.getfield 31, 3) := dk_180 0 31 (dk_at dksX2_isKept_1 13 rfl rfl)
theorem dX2_isKept_40 : decode cX2_isKept 40 = .ok (.iconst 0, 1) := dk_3 (dk_at dksX2_isKept_1 16 rfl rfl)
theorem dX2_isKept_41 : decode cX2_isKept 41 = .ok (.invokevirtual 258, 3) := dk_182 1 2 (dk_at dksX2_isKept_1 17 rfl rfl)
theorem dX2_isKept_44 : decode cX2_isKept 44 = .ok (.pop, 1) := dk_87 (dk_at dksX2_isKept_1 20 rfl rfl)
theorem dX2_isKept_45 : decode cX2_isKept 45 = .ok (.aload_n 0, 1) := dk_42 (dk_at dksX2_isKept_1 21 rfl rfl)
theorem dX2_isKept_46 : decode cX2_isKept 46 = .ok (.getfield 31, 3) := dk_180 0 31 (dk_at dksX2_isKept_2 0 rfl rfl)
theorem dX2_isKept_49 : decode cX2_isKept 49 = .ok (.aload 4, 2) := dk_25 4 (dk_at dksX2_isKept_2 3 rfl rfl)
theorem dX2_isKept_51 : decode cX2_isKept 51 = .ok (.invokevirtual 261, 3) := dk_182 1 5 (dk_at dksX2_isKept_2 5 rfl rfl)
theorem dX2_isKept_54 : decode cX2_isKept 54 = .ok (.pop, 1) := dk_87 (dk_at dksX2_isKept_2 8 rfl rfl)
theorem dX2_isKept_55 : decode cX2_isKept 55 = .ok (.return_, 1) := dk_177 (dk_at dksX2_isKept_2 9 rfl rfl)
abbrev cX2_thoughtOf : ByteArray := prog_1_method_30_code
def yX2_thoughtOf : MethodName := ⟨RX2, "thoughtOf", "(LKilnBench$Spot;)V"⟩
def dkwX2_thoughtOf_0 : List UInt8 := [42, 3, 181, 0, 250, 43, 182, 1, 21, 177]
abbrev dktX2_thoughtOf_0 : List UInt8 := dkwX2_thoughtOf_0 ++ []
theorem dksX2_thoughtOf_0 : cX2_thoughtOf.data.toList.drop 0 = dktX2_thoughtOf_0 := by decide +kernel
theorem dX2_thoughtOf_0 : decode cX2_thoughtOf 0 = .ok (.aload_n 0, 1) := dk_42 (dk_at dksX2_thoughtOf_0 0 rfl rfl)
theorem dX2_thoughtOf_1 : decode cX2_thoughtOf 1 = .ok (.iconst 0, 1) := dk_3 (dk_at dksX2_thoughtOf_0 1 rfl rfl)
theorem dX2_thoughtOf_2 : decode cX2_thoughtOf 2 = .ok (.putfield 250, 3) := dk_181 0 250 (dk_at dksX2_thoughtOf_0 2 rfl rfl)
theorem dX2_thoughtOf_5 : decode cX2_thoughtOf 5 = .ok (.aload_n 1, 1) := dk_43 (dk_at dksX2_thoughtOf_0 5 rfl rfl)
theorem dX2_thoughtOf_6 : decode cX2_thoughtOf 6 = .ok (.invokevirtual 277, 3) := dk_182 1 21 (dk_at dksX2_thoughtOf_0 6 rfl rfl)
theorem dX2_thoughtOf_9 : decode cX2_thoughtOf 9 = .ok (.return_, 1) := dk_177 (dk_at dksX2_thoughtOf_0 9 rfl rfl)
abbrev cX2_kept : ByteArray := prog_1_method_41_code
def yX2_kept : MethodName := ⟨RX2, "kept", "(II)I"⟩
def dkwX2_kept_2 : List UInt8 := [167, 0, 4, 2, 172]
abbrev dktX2_kept_2 : List UInt8 := dkwX2_kept_2 ++ []
def dkwX2_kept_1 : List UInt8 := [20, 1, 87, 184, 0, 95, 153, 0, 19, 42, 180, 0, 31, 27, 182, 0, 139, 192, 1, 89, 28, 46]
abbrev dktX2_kept_1 : List UInt8 := dkwX2_kept_1 ++ dktX2_kept_2
def dkwX2_kept_0 : List UInt8 := [27, 133, 9, 42, 180, 0, 31, 182, 0, 136, 4, 100, 133, 184, 0, 95, 153, 0, 31, 28, 133, 9]
abbrev dktX2_kept_0 : List UInt8 := dkwX2_kept_0 ++ dktX2_kept_1
theorem dksX2_kept_0 : cX2_kept.data.toList.drop 0 = dktX2_kept_0 := by decide +kernel
theorem dksX2_kept_1 : cX2_kept.data.toList.drop 22 = dktX2_kept_1 := dk_seg dksX2_kept_0 22 rfl rfl
theorem dksX2_kept_2 : cX2_kept.data.toList.drop 44 = dktX2_kept_2 := dk_seg dksX2_kept_1 22 rfl rfl
theorem dX2_kept_0 : decode cX2_kept 0 = .ok (.iload_n 1, 1) := dk_27 (dk_at dksX2_kept_0 0 rfl rfl)
theorem dX2_kept_1 : decode cX2_kept 1 = .ok (.i2l, 1) := dk_133 (dk_at dksX2_kept_0 1 rfl rfl)
theorem dX2_kept_2 : decode cX2_kept 2 = .ok (.lconst 0, 1) := dk_9 (dk_at dksX2_kept_0 2 rfl rfl)
theorem dX2_kept_3 : decode cX2_kept 3 = .ok (.aload_n 0, 1) := dk_42 (dk_at dksX2_kept_0 3 rfl rfl)
theorem dX2_kept_4 : decode cX2_kept 4 = .ok (.getfield 31, 3) := dk_180 0 31 (dk_at dksX2_kept_0 4 rfl rfl)
theorem dX2_kept_7 : decode cX2_kept 7 = .ok (.invokevirtual 136, 3) := dk_182 0 136 (dk_at dksX2_kept_0 7 rfl rfl)
theorem dX2_kept_10 : decode cX2_kept 10 = .ok (.iconst 1, 1) := dk_4 (dk_at dksX2_kept_0 10 rfl rfl)
theorem dX2_kept_11 : decode cX2_kept 11 = .ok (.isub, 1) := dk_100 (dk_at dksX2_kept_0 11 rfl rfl)
theorem dX2_kept_12 : decode cX2_kept 12 = .ok (.i2l, 1) := dk_133 (dk_at dksX2_kept_0 12 rfl rfl)
theorem dX2_kept_13 : decode cX2_kept 13 = .ok (.invokestatic 95, 3) := dk_184 0 95 (dk_at dksX2_kept_0 13 rfl rfl)
theorem dX2_kept_16 : decode cX2_kept 16 = .ok (.ifCond .eq 31, 3) := dk_153 0 31 (dk_at dksX2_kept_0 16 rfl rfl)
theorem dX2_kept_19 : decode cX2_kept 19 = .ok (.iload_n 2, 1) := dk_28 (dk_at dksX2_kept_0 19 rfl rfl)
theorem dX2_kept_20 : decode cX2_kept 20 = .ok (.i2l, 1) := dk_133 (dk_at dksX2_kept_0 20 rfl rfl)
theorem dX2_kept_21 : decode cX2_kept 21 = .ok (.lconst 0, 1) := dk_9 (dk_at dksX2_kept_0 21 rfl rfl)
theorem dX2_kept_22 : decode cX2_kept 22 = .ok (.ldc2_w 343, 3) := dk_20 1 87 (dk_at dksX2_kept_1 0 rfl rfl)
theorem dX2_kept_25 : decode cX2_kept 25 = .ok (.invokestatic 95, 3) := dk_184 0 95 (dk_at dksX2_kept_1 3 rfl rfl)
theorem dX2_kept_28 : decode cX2_kept 28 = .ok (.ifCond .eq 19, 3) := dk_153 0 19 (dk_at dksX2_kept_1 6 rfl rfl)
theorem dX2_kept_31 : decode cX2_kept 31 = .ok (.aload_n 0, 1) := dk_42 (dk_at dksX2_kept_1 9 rfl rfl)
theorem dX2_kept_32 : decode cX2_kept 32 = .ok (.getfield 31, 3) := dk_180 0 31 (dk_at dksX2_kept_1 10 rfl rfl)
theorem dX2_kept_35 : decode cX2_kept 35 = .ok (.iload_n 1, 1) := dk_27 (dk_at dksX2_kept_1 13 rfl rfl)
theorem dX2_kept_36 : decode cX2_kept 36 = .ok (.invokevirtual 139, 3) := dk_182 0 139 (dk_at dksX2_kept_1 14 rfl rfl)
theorem dX2_kept_39 : decode cX2_kept 39 = .ok (.checkcast 345, 3) := dk_192 1 89 (dk_at dksX2_kept_1 17 rfl rfl)
theorem dX2_kept_42 : decode cX2_kept 42 = .ok (.iload_n 2, 1) := dk_28 (dk_at dksX2_kept_1 20 rfl rfl)
theorem dX2_kept_43 : decode cX2_kept 43 = .ok (.iaload, 1) := dk_46 (dk_at dksX2_kept_1 21 rfl rfl)
theorem dX2_kept_44 : decode cX2_kept 44 = .ok (.goto 4, 3) := dk_167 0 4 (dk_at dksX2_kept_2 0 rfl rfl)
theorem dX2_kept_47 : decode cX2_kept 47 = .ok (.iconst (-1), 1) := dk_2 (dk_at dksX2_kept_2 3 rfl rfl)
theorem dX2_kept_48 : decode cX2_kept 48 = .ok (.ireturn, 1) := dk_172 (dk_at dksX2_kept_2 4 rfl rfl)
abbrev cX2_fired : ByteArray := prog_1_method_57_code
def yX2_fired : MethodName := ⟨RX2, "fired", "(I)I"⟩
def dkwX2_fired_3 : List UInt8 := [182, 1, 167, 29, 172]
abbrev dktX2_fired_3 : List UInt8 := dkwX2_fired_3 ++ []
def dkwX2_fired_2 : List UInt8 := [180, 0, 220, 27, 122, 4, 126, 4, 160, 0, 6, 21, 4, 62, 132, 4, 1, 167, 255, 211, 42, 44]
abbrev dktX2_fired_2 : List UInt8 := dkwX2_fired_2 ++ dktX2_fired_3
def dkwX2_fired_1 : List UInt8 := [162, 0, 44, 42, 180, 0, 119, 17, 3, 231, 162, 0, 34, 29, 2, 160, 0, 29, 42, 3, 182, 1, 8, 42]
abbrev dktX2_fired_1 : List UInt8 := dkwX2_fired_1 ++ dktX2_fired_2
def dkwX2_fired_0 : List UInt8 := [42, 27, 182, 1, 61, 199, 0, 5, 2, 172, 42, 182, 1, 159, 77, 2, 62, 3, 54, 4, 21, 4, 16, 40]
abbrev dktX2_fired_0 : List UInt8 := dkwX2_fired_0 ++ dktX2_fired_1
theorem dksX2_fired_0 : cX2_fired.data.toList.drop 0 = dktX2_fired_0 := by decide +kernel
theorem dksX2_fired_1 : cX2_fired.data.toList.drop 24 = dktX2_fired_1 := dk_seg dksX2_fired_0 24 rfl rfl
theorem dksX2_fired_2 : cX2_fired.data.toList.drop 48 = dktX2_fired_2 := dk_seg dksX2_fired_1 24 rfl rfl
theorem dksX2_fired_3 : cX2_fired.data.toList.drop 70 = dktX2_fired_3 := dk_seg dksX2_fired_2 22 rfl rfl
theorem dX2_fired_0 : decode cX2_fired 0 = .ok (.aload_n 0, 1) := dk_42 (dk_at dksX2_fired_0 0 rfl rfl)
theorem dX2_fired_1 : decode cX2_fired 1 = .ok (.iload_n 1, 1) := dk_27 (dk_at dksX2_fired_0 1 rfl rfl)
theorem dX2_fired_2 : decode cX2_fired 2 = .ok (.invokevirtual 317, 3) := dk_182 1 61 (dk_at dksX2_fired_0 2 rfl rfl)
theorem dX2_fired_5 : decode cX2_fired 5 = .ok (.ifnonnull 5, 3) := dk_199 0 5 (dk_at dksX2_fired_0 5 rfl rfl)
theorem dX2_fired_8 : decode cX2_fired 8 = .ok (.iconst (-1), 1) := dk_2 (dk_at dksX2_fired_0 8 rfl rfl)
theorem dX2_fired_9 : decode cX2_fired 9 = .ok (.ireturn, 1) := dk_172 (dk_at dksX2_fired_0 9 rfl rfl)
theorem dX2_fired_10 : decode cX2_fired 10 = .ok (.aload_n 0, 1) := dk_42 (dk_at dksX2_fired_0 10 rfl rfl)
theorem dX2_fired_11 : decode cX2_fired 11 = .ok (.invokevirtual 415, 3) := dk_182 1 159 (dk_at dksX2_fired_0 11 rfl rfl)
theorem dX2_fired_14 : decode cX2_fired 14 = .ok (.astore_n 2, 1) := dk_77 (dk_at dksX2_fired_0 14 rfl rfl)
theorem dX2_fired_15 : decode cX2_fired 15 = .ok (.iconst (-1), 1) := dk_2 (dk_at dksX2_fired_0 15 rfl rfl)
theorem dX2_fired_16 : decode cX2_fired 16 = .ok (.istore_n 3, 1) := dk_62 (dk_at dksX2_fired_0 16 rfl rfl)
theorem dX2_fired_17 : decode cX2_fired 17 = .ok (.iconst 0, 1) := dk_3 (dk_at dksX2_fired_0 17 rfl rfl)
theorem dX2_fired_18 : decode cX2_fired 18 = .ok (.istore 4, 2) := dk_54 4 (dk_at dksX2_fired_0 18 rfl rfl)
theorem dX2_fired_20 : decode cX2_fired 20 = .ok (.iload 4, 2) := dk_21 4 (dk_at dksX2_fired_0 20 rfl rfl)
theorem dX2_fired_22 : decode cX2_fired 22 = .ok (.bipush 40, 2) := dk_16 40 (dk_at dksX2_fired_0 22 rfl rfl)
theorem dX2_fired_24 : decode cX2_fired 24 = .ok (.if_icmp .ge 44, 3) := dk_162 0 44 (dk_at dksX2_fired_1 0 rfl rfl)
theorem dX2_fired_27 : decode cX2_fired 27 = .ok (.aload_n 0, 1) := dk_42 (dk_at dksX2_fired_1 3 rfl rfl)
theorem dX2_fired_28 : decode cX2_fired 28 = .ok (.getfield 119, 3) := dk_180 0 119 (dk_at dksX2_fired_1 4 rfl rfl)
theorem dX2_fired_31 : decode cX2_fired 31 = .ok (.sipush 999, 3) := dk_17 3 231 (dk_at dksX2_fired_1 7 rfl rfl)
theorem dX2_fired_34 : decode cX2_fired 34 = .ok (.if_icmp .ge 34, 3) := dk_162 0 34 (dk_at dksX2_fired_1 10 rfl rfl)
theorem dX2_fired_37 : decode cX2_fired 37 = .ok (.iload_n 3, 1) := dk_29 (dk_at dksX2_fired_1 13 rfl rfl)
theorem dX2_fired_38 : decode cX2_fired 38 = .ok (.iconst (-1), 1) := dk_2 (dk_at dksX2_fired_1 14 rfl rfl)
theorem dX2_fired_39 : decode cX2_fired 39 = .ok (.if_icmp .ne 29, 3) := dk_160 0 29 (dk_at dksX2_fired_1 15 rfl rfl)
theorem dX2_fired_42 : decode cX2_fired 42 = .ok (.aload_n 0, 1) := dk_42 (dk_at dksX2_fired_1 18 rfl rfl)
theorem dX2_fired_43 : decode cX2_fired 43 = .ok (.iconst 0, 1) := dk_3 (dk_at dksX2_fired_1 19 rfl rfl)
theorem dX2_fired_44 : decode cX2_fired 44 = .ok (.invokevirtual 264, 3) := dk_182 1 8 (dk_at dksX2_fired_1 20 rfl rfl)
theorem dX2_fired_47 : decode cX2_fired 47 = .ok (.aload_n 0, 1) := dk_42 (dk_at dksX2_fired_1 23 rfl rfl)
theorem dX2_fired_48 : decode cX2_fired 48 = .ok (.getfield 220, 3) := dk_180 0 220 (dk_at dksX2_fired_2 0 rfl rfl)
theorem dX2_fired_51 : decode cX2_fired 51 = .ok (.iload_n 1, 1) := dk_27 (dk_at dksX2_fired_2 3 rfl rfl)
theorem dX2_fired_52 : decode cX2_fired 52 = .ok (.ishr, 1) := dk_122 (dk_at dksX2_fired_2 4 rfl rfl)
theorem dX2_fired_53 : decode cX2_fired 53 = .ok (.iconst 1, 1) := dk_4 (dk_at dksX2_fired_2 5 rfl rfl)
theorem dX2_fired_54 : decode cX2_fired 54 = .ok (.iand, 1) := dk_126 (dk_at dksX2_fired_2 6 rfl rfl)
theorem dX2_fired_55 : decode cX2_fired 55 = .ok (.iconst 1, 1) := dk_4 (dk_at dksX2_fired_2 7 rfl rfl)
theorem dX2_fired_56 : decode cX2_fired 56 = .ok (.if_icmp .ne 6, 3) := dk_160 0 6 (dk_at dksX2_fired_2 8 rfl rfl)
theorem dX2_fired_59 : decode cX2_fired 59 = .ok (.iload 4, 2) := dk_21 4 (dk_at dksX2_fired_2 11 rfl rfl)
theorem dX2_fired_61 : decode cX2_fired 61 = .ok (.istore_n 3, 1) := dk_62 (dk_at dksX2_fired_2 13 rfl rfl)
theorem dX2_fired_62 : decode cX2_fired 62 = .ok (.iinc 4 1, 3) := dk_132 4 1 (dk_at dksX2_fired_2 14 rfl rfl)
theorem dX2_fired_65 : decode cX2_fired 65 = .ok (.goto (-45), 3) := dk_167 255 211 (dk_at dksX2_fired_2 17 rfl rfl)
theorem dX2_fired_68 : decode cX2_fired 68 = .ok (.aload_n 0, 1) := dk_42 (dk_at dksX2_fired_2 20 rfl rfl)
theorem dX2_fired_69 : decode cX2_fired 69 = .ok (.aload_n 2, 1) := dk_44 (dk_at dksX2_fired_2 21 rfl rfl)
theorem dX2_fired_70 : decode cX2_fired 70 = .ok (.invokevirtual 423, 3) := dk_182 1 167 (dk_at dksX2_fired_3 0 rfl rfl)
theorem dX2_fired_73 : decode cX2_fired 73 = .ok (.iload_n 3, 1) := dk_29 (dk_at dksX2_fired_3 3 rfl rfl)
theorem dX2_fired_74 : decode cX2_fired 74 = .ok (.ireturn, 1) := dk_172 (dk_at dksX2_fired_3 4 rfl rfl)
abbrev cX2_brothers : ByteArray := prog_1_method_55_code
def yX2_brothers : MethodName := ⟨RX2, "brothers", "(I)I"⟩
def dkwX2_brothers_3 : List UInt8 := [182, 0, 139, 192, 0, 150, 180, 1, 156, 128, 62, 132, 5, 1, 167, 255, 212, 167, 255, 197, 29, 172]
abbrev dktX2_brothers_3 : List UInt8 := dkwX2_brothers_3 ++ []
def dkwX2_brothers_2 : List UInt8 := [162, 0, 41, 21, 4, 21, 5, 122, 4, 126, 4, 160, 0, 24, 29, 42, 180, 0, 20, 180, 0, 143, 21, 5]
abbrev dktX2_brothers_2 : List UInt8 := dkwX2_brothers_2 ++ dktX2_brothers_3
def dkwX2_brothers_1 : List UInt8 := [62, 3, 54, 4, 29, 21, 4, 159, 0, 59, 29, 54, 4, 3, 54, 5, 21, 5, 42, 182, 1, 95]
abbrev dktX2_brothers_1 : List UInt8 := dkwX2_brothers_1 ++ dktX2_brothers_2
def dkwX2_brothers_0 : List UInt8 := [42, 27, 182, 1, 57, 77, 44, 199, 0, 5, 2, 172, 44, 182, 1, 65, 154, 0, 5, 3, 172, 4, 27, 120]
abbrev dktX2_brothers_0 : List UInt8 := dkwX2_brothers_0 ++ dktX2_brothers_1
theorem dksX2_brothers_0 : cX2_brothers.data.toList.drop 0 = dktX2_brothers_0 := by decide +kernel
theorem dksX2_brothers_1 : cX2_brothers.data.toList.drop 24 = dktX2_brothers_1 := dk_seg dksX2_brothers_0 24 rfl rfl
theorem dksX2_brothers_2 : cX2_brothers.data.toList.drop 46 = dktX2_brothers_2 := dk_seg dksX2_brothers_1 22 rfl rfl
theorem dksX2_brothers_3 : cX2_brothers.data.toList.drop 70 = dktX2_brothers_3 := dk_seg dksX2_brothers_2 24 rfl rfl
theorem dX2_brothers_0 : decode cX2_brothers 0 = .ok (.aload_n 0, 1) := dk_42 (dk_at dksX2_brothers_0 0 rfl rfl)
theorem dX2_brothers_1 : decode cX2_brothers 1 = .ok (.iload_n 1, 1) := dk_27 (dk_at dksX2_brothers_0 1 rfl rfl)
theorem dX2_brothers_2 : decode cX2_brothers 2 = .ok (.invokevirtual 313, 3) := dk_182 1 57 (dk_at dksX2_brothers_0 2 rfl rfl)
theorem dX2_brothers_5 : decode cX2_brothers 5 = .ok (.astore_n 2, 1) := dk_77 (dk_at dksX2_brothers_0 5 rfl rfl)
theorem dX2_brothers_6 : decode cX2_brothers 6 = .ok (.aload_n 2, 1) := dk_44 (dk_at dksX2_brothers_0 6 rfl rfl)
theorem dX2_brothers_7 : decode cX2_brothers 7 = .ok (.ifnonnull 5, 3) := dk_199 0 5 (dk_at dksX2_brothers_0 7 rfl rfl)
theorem dX2_brothers_10 : decode cX2_brothers 10 = .ok (.iconst (-1), 1) := dk_2 (dk_at dksX2_brothers_0 10 rfl rfl)
theorem dX2_brothers_11 : decode cX2_brothers 11 = .ok (.ireturn, 1) := dk_172 (dk_at dksX2_brothers_0 11 rfl rfl)
theorem dX2_brothers_12 : decode cX2_brothers 12 = .ok (.aload_n 2, 1) := dk_44 (dk_at dksX2_brothers_0 12 rfl rfl)
theorem dX2_brothers_13 : decode cX2_brothers 13 = .ok (.invokevirtual 321, 3) := dk_182 1 65 (dk_at dksX2_brothers_0 13 rfl rfl)
theorem dX2_brothers_16 : decode cX2_brothers 16 = .ok (.ifCond .ne 5, 3) := dk_154 0 5 (dk_at dksX2_brothers_0 16 rfl rfl)
theorem dX2_brothers_19 : decode cX2_brothers 19 = .ok (.iconst 0, 1) := dk_3 (dk_at dksX2_brothers_0 19 rfl rfl)
theorem dX2_brothers_20 : decode cX2_brothers 20 = .ok (.ireturn, 1) := dk_172 (dk_at dksX2_brothers_0 20 rfl rfl)
theorem dX2_brothers_21 : decode cX2_brothers 21 = .ok (.iconst 1, 1) := dk_4 (dk_at dksX2_brothers_0 21 rfl rfl)
theorem dX2_brothers_22 : decode cX2_brothers 22 = .ok (.iload_n 1, 1) := dk_27 (dk_at dksX2_brothers_0 22 rfl rfl)
theorem dX2_brothers_23 : decode cX2_brothers 23 = .ok (.ishl, 1) := dk_120 (dk_at dksX2_brothers_0 23 rfl rfl)
theorem dX2_brothers_24 : decode cX2_brothers 24 = .ok (.istore_n 3, 1) := dk_62 (dk_at dksX2_brothers_1 0 rfl rfl)
theorem dX2_brothers_25 : decode cX2_brothers 25 = .ok (.iconst 0, 1) := dk_3 (dk_at dksX2_brothers_1 1 rfl rfl)
theorem dX2_brothers_26 : decode cX2_brothers 26 = .ok (.istore 4, 2) := dk_54 4 (dk_at dksX2_brothers_1 2 rfl rfl)
theorem dX2_brothers_28 : decode cX2_brothers 28 = .ok (.iload_n 3, 1) := dk_29 (dk_at dksX2_brothers_1 4 rfl rfl)
theorem dX2_brothers_29 : decode cX2_brothers 29 = .ok (.iload 4, 2) := dk_21 4 (dk_at dksX2_brothers_1 5 rfl rfl)
theorem dX2_brothers_31 : decode cX2_brothers 31 = .ok (.if_icmp .eq 59, 3) := dk_159 0 59 (dk_at dksX2_brothers_1 7 rfl rfl)
theorem dX2_brothers_34 : decode cX2_brothers 34 = .ok (.iload_n 3, 1) := dk_29 (dk_at dksX2_brothers_1 10 rfl rfl)
theorem dX2_brothers_35 : decode cX2_brothers 35 = .ok (.istore 4, 2) := dk_54 4 (dk_at dksX2_brothers_1 11 rfl rfl)
theorem dX2_brothers_37 : decode cX2_brothers 37 = .ok (.iconst 0, 1) := dk_3 (dk_at dksX2_brothers_1 13 rfl rfl)
theorem dX2_brothers_38 : decode cX2_brothers 38 = .ok (.istore 5, 2) := dk_54 5 (dk_at dksX2_brothers_1 14 rfl rfl)
theorem dX2_brothers_40 : decode cX2_brothers 40 = .ok (.iload 5, 2) := dk_21 5 (dk_at dksX2_brothers_1 16 rfl rfl)
theorem dX2_brothers_42 : decode cX2_brothers 42 = .ok (.aload_n 0, 1) := dk_42 (dk_at dksX2_brothers_1 18 rfl rfl)
theorem dX2_brothers_43 : decode cX2_brothers 43 = .ok (.invokevirtual 351, 3) := dk_182 1 95 (dk_at dksX2_brothers_1 19 rfl rfl)
theorem dX2_brothers_46 : decode cX2_brothers 46 = .ok (.if_icmp .ge 41, 3) := dk_162 0 41 (dk_at dksX2_brothers_2 0 rfl rfl)
theorem dX2_brothers_49 : decode cX2_brothers 49 = .ok (.iload 4, 2) := dk_21 4 (dk_at dksX2_brothers_2 3 rfl rfl)
theorem dX2_brothers_51 : decode cX2_brothers 51 = .ok (.iload 5, 2) := dk_21 5 (dk_at dksX2_brothers_2 5 rfl rfl)
theorem dX2_brothers_53 : decode cX2_brothers 53 = .ok (.ishr, 1) := dk_122 (dk_at dksX2_brothers_2 7 rfl rfl)
theorem dX2_brothers_54 : decode cX2_brothers 54 = .ok (.iconst 1, 1) := dk_4 (dk_at dksX2_brothers_2 8 rfl rfl)
theorem dX2_brothers_55 : decode cX2_brothers 55 = .ok (.iand, 1) := dk_126 (dk_at dksX2_brothers_2 9 rfl rfl)
theorem dX2_brothers_56 : decode cX2_brothers 56 = .ok (.iconst 1, 1) := dk_4 (dk_at dksX2_brothers_2 10 rfl rfl)
theorem dX2_brothers_57 : decode cX2_brothers 57 = .ok (.if_icmp .ne 24, 3) := dk_160 0 24 (dk_at dksX2_brothers_2 11 rfl rfl)
theorem dX2_brothers_60 : decode cX2_brothers 60 = .ok (.iload_n 3, 1) := dk_29 (dk_at dksX2_brothers_2 14 rfl rfl)
theorem dX2_brothers_61 : decode cX2_brothers 61 = .ok (.aload_n 0, 1) := dk_42 (dk_at dksX2_brothers_2 15 rfl rfl)
theorem dX2_brothers_62 : decode cX2_brothers 62 = .ok (.getfield 20, 3) := dk_180 0 20 (dk_at dksX2_brothers_2 16 rfl rfl)
theorem dX2_brothers_65 : decode cX2_brothers 65 = .ok (.getfield 143, 3) := dk_180 0 143 (dk_at dksX2_brothers_2 19 rfl rfl)
theorem dX2_brothers_68 : decode cX2_brothers 68 = .ok (.iload 5, 2) := dk_21 5 (dk_at dksX2_brothers_2 22 rfl rfl)
theorem dX2_brothers_70 : decode cX2_brothers 70 = .ok (.invokevirtual 139, 3) := dk_182 0 139 (dk_at dksX2_brothers_3 0 rfl rfl)
theorem dX2_brothers_73 : decode cX2_brothers 73 = .ok (.checkcast 150, 3) := dk_192 0 150 (dk_at dksX2_brothers_3 3 rfl rfl)
theorem dX2_brothers_76 : decode cX2_brothers 76 = .ok (.getfield 412, 3) := dk_180 1 156 (dk_at dksX2_brothers_3 6 rfl rfl)
theorem dX2_brothers_79 : decode cX2_brothers 79 = .ok (.ior, 1) := dk_128 (dk_at dksX2_brothers_3 9 rfl rfl)
theorem dX2_brothers_80 : decode cX2_brothers 80 = .ok (.istore_n 3, 1) := dk_62 (dk_at dksX2_brothers_3 10 rfl rfl)
theorem dX2_brothers_81 : decode cX2_brothers 81 = .ok (.iinc 5 1, 3) := dk_132 5 1 (dk_at dksX2_brothers_3 11 rfl rfl)
theorem dX2_brothers_84 : decode cX2_brothers 84 = .ok (.goto (-44), 3) := dk_167 255 212 (dk_at dksX2_brothers_3 14 rfl rfl)
theorem dX2_brothers_87 : decode cX2_brothers 87 = .ok (.goto (-59), 3) := dk_167 255 197 (dk_at dksX2_brothers_3 17 rfl rfl)
theorem dX2_brothers_90 : decode cX2_brothers 90 = .ok (.iload_n 3, 1) := dk_29 (dk_at dksX2_brothers_3 20 rfl rfl)
theorem dX2_brothers_91 : decode cX2_brothers 91 = .ok (.ireturn, 1) := dk_172 (dk_at dksX2_brothers_3 21 rfl rfl)
abbrev cX2_later : ByteArray := prog_1_method_59_code
def yX2_later : MethodName := ⟨RX2, "later", "(II)I"⟩
def dkwX2_later_1 : List UInt8 := [182, 1, 174, 172]
abbrev dktX2_later_1 : List UInt8 := dkwX2_later_1 ++ []
def dkwX2_later_0 : List UInt8 := [42, 27, 182, 1, 57, 78, 45, 199, 0, 7, 2, 167, 0, 14, 42, 28, 45, 186, 1, 178, 0, 0]
abbrev dktX2_later_0 : List UInt8 := dkwX2_later_0 ++ dktX2_later_1
theorem dksX2_later_0 : cX2_later.data.toList.drop 0 = dktX2_later_0 := by decide +kernel
theorem dksX2_later_1 : cX2_later.data.toList.drop 22 = dktX2_later_1 := dk_seg dksX2_later_0 22 rfl rfl
theorem dX2_later_0 : decode cX2_later 0 = .ok (.aload_n 0, 1) := dk_42 (dk_at dksX2_later_0 0 rfl rfl)
theorem dX2_later_1 : decode cX2_later 1 = .ok (.iload_n 1, 1) := dk_27 (dk_at dksX2_later_0 1 rfl rfl)
theorem dX2_later_2 : decode cX2_later 2 = .ok (.invokevirtual 313, 3) := dk_182 1 57 (dk_at dksX2_later_0 2 rfl rfl)
theorem dX2_later_5 : decode cX2_later 5 = .ok (.astore_n 3, 1) := dk_78 (dk_at dksX2_later_0 5 rfl rfl)
theorem dX2_later_6 : decode cX2_later 6 = .ok (.aload_n 3, 1) := dk_45 (dk_at dksX2_later_0 6 rfl rfl)
theorem dX2_later_7 : decode cX2_later 7 = .ok (.ifnonnull 7, 3) := dk_199 0 7 (dk_at dksX2_later_0 7 rfl rfl)
theorem dX2_later_10 : decode cX2_later 10 = .ok (.iconst (-1), 1) := dk_2 (dk_at dksX2_later_0 10 rfl rfl)
theorem dX2_later_11 : decode cX2_later 11 = .ok (.goto 14, 3) := dk_167 0 14 (dk_at dksX2_later_0 11 rfl rfl)
theorem dX2_later_14 : decode cX2_later 14 = .ok (.aload_n 0, 1) := dk_42 (dk_at dksX2_later_0 14 rfl rfl)
theorem dX2_later_15 : decode cX2_later 15 = .ok (.iload_n 2, 1) := dk_28 (dk_at dksX2_later_0 15 rfl rfl)
theorem dX2_later_16 : decode cX2_later 16 = .ok (.aload_n 3, 1) := dk_45 (dk_at dksX2_later_0 16 rfl rfl)
theorem dX2_later_17 : decode cX2_later 17 = .ok (.invokedynamic 434, 5) := by decide +kernel
theorem dX2_later_22 : decode cX2_later 22 = .ok (.invokevirtual 430, 3) := dk_182 1 174 (dk_at dksX2_later_1 0 rfl rfl)
theorem dX2_later_25 : decode cX2_later 25 = .ok (.ireturn, 1) := dk_172 (dk_at dksX2_later_1 3 rfl rfl)
abbrev cX2_lambda_later_6 : ByteArray := prog_1_method_79_code
def yX2_lambda_later_6 : MethodName := ⟨RX2, "lambda$later$6", "(LKilnBench$Child;)I"⟩
theorem dX2_lambda_later_6_0 : decode cX2_lambda_later_6 0 = .ok (.aload_n 0, 1) := by decide +kernel
theorem dX2_lambda_later_6_1 : decode cX2_lambda_later_6 1 = .ok (.getfield 371, 3) := by decide +kernel
theorem dX2_lambda_later_6_4 : decode cX2_lambda_later_6 4 = .ok (.ireturn, 1) := by decide +kernel
abbrev cX2_safe : ByteArray := prog_1_method_53_code
def yX2_safe : MethodName := ⟨RX2, "safe", "(I)I"⟩
def dkwX2_safe_2 : List UInt8 := [167, 255, 231, 2, 172]
abbrev dktX2_safe_2 : List UInt8 := dkwX2_safe_2 ++ []
def dkwX2_safe_1 : List UInt8 := [155, 0, 27, 187, 0, 242, 89, 42, 44, 29, 183, 0, 244, 182, 1, 141, 153, 0, 5, 29, 172, 132, 3, 255]
abbrev dktX2_safe_1 : List UInt8 := dkwX2_safe_1 ++ dktX2_safe_2
def dkwX2_safe_0 : List UInt8 := [42, 27, 182, 1, 61, 77, 44, 198, 0, 10, 44, 182, 0, 217, 154, 0, 5, 2, 172, 16, 20, 62, 29]
abbrev dktX2_safe_0 : List UInt8 := dkwX2_safe_0 ++ dktX2_safe_1
theorem dksX2_safe_0 : cX2_safe.data.toList.drop 0 = dktX2_safe_0 := by decide +kernel
theorem dksX2_safe_1 : cX2_safe.data.toList.drop 23 = dktX2_safe_1 := dk_seg dksX2_safe_0 23 rfl rfl
theorem dksX2_safe_2 : cX2_safe.data.toList.drop 47 = dktX2_safe_2 := dk_seg dksX2_safe_1 24 rfl rfl
theorem dX2_safe_0 : decode cX2_safe 0 = .ok (.aload_n 0, 1) := dk_42 (dk_at dksX2_safe_0 0 rfl rfl)
theorem dX2_safe_1 : decode cX2_safe 1 = .ok (.iload_n 1, 1) := dk_27 (dk_at dksX2_safe_0 1 rfl rfl)
theorem dX2_safe_2 : decode cX2_safe 2 = .ok (.invokevirtual 317, 3) := dk_182 1 61 (dk_at dksX2_safe_0 2 rfl rfl)
theorem dX2_safe_5 : decode cX2_safe 5 = .ok (.astore_n 2, 1) := dk_77 (dk_at dksX2_safe_0 5 rfl rfl)
theorem dX2_safe_6 : decode cX2_safe 6 = .ok (.aload_n 2, 1) := dk_44 (dk_at dksX2_safe_0 6 rfl rfl)
theorem dX2_safe_7 : decode cX2_safe 7 = .ok (.ifnull 10, 3) := dk_198 0 10 (dk_at dksX2_safe_0 7 rfl rfl)
theorem dX2_safe_10 : decode cX2_safe 10 = .ok (.aload_n 2, 1) := dk_44 (dk_at dksX2_safe_0 10 rfl rfl)
theorem dX2_safe_11 : decode cX2_safe 11 = .ok (.invokevirtual 217, 3) := dk_182 0 217 (dk_at dksX2_safe_0 11 rfl rfl)
theorem dX2_safe_14 : decode cX2_safe 14 = .ok (.ifCond .ne 5, 3) := dk_154 0 5 (dk_at dksX2_safe_0 14 rfl rfl)
theorem dX2_safe_17 : decode cX2_safe 17 = .ok (.iconst (-1), 1) := dk_2 (dk_at dksX2_safe_0 17 rfl rfl)
theorem dX2_safe_18 : decode cX2_safe 18 = .ok (.ireturn, 1) := dk_172 (dk_at dksX2_safe_0 18 rfl rfl)
theorem dX2_safe_19 : decode cX2_safe 19 = .ok (.bipush 20, 2) := dk_16 20 (dk_at dksX2_safe_0 19 rfl rfl)
theorem dX2_safe_21 : decode cX2_safe 21 = .ok (.istore_n 3, 1) := dk_62 (dk_at dksX2_safe_0 21 rfl rfl)
theorem dX2_safe_22 : decode cX2_safe 22 = .ok (.iload_n 3, 1) := dk_29 (dk_at dksX2_safe_0 22 rfl rfl)
theorem dX2_safe_23 : decode cX2_safe 23 = .ok (.ifCond .lt 27, 3) := dk_155 0 27 (dk_at dksX2_safe_1 0 rfl rfl)
theorem dX2_safe_26 : decode cX2_safe 26 = .ok (.new 242, 3) := dk_187 0 242 (dk_at dksX2_safe_1 3 rfl rfl)
theorem dX2_safe_29 : decode cX2_safe 29 = .ok (.dup, 1) := dk_89 (dk_at dksX2_safe_1 6 rfl rfl)
theorem dX2_safe_30 : decode cX2_safe 30 = .ok (.aload_n 0, 1) := dk_42 (dk_at dksX2_safe_1 7 rfl rfl)
theorem dX2_safe_31 : decode cX2_safe 31 = .ok (.aload_n 2, 1) := dk_44 (dk_at dksX2_safe_1 8 rfl rfl)
theorem dX2_safe_32 : decode cX2_safe 32 = .ok (.iload_n 3, 1) := dk_29 (dk_at dksX2_safe_1 9 rfl rfl)
theorem dX2_safe_33 : decode cX2_safe 33 = .ok (.invokespecial 244, 3) := dk_183 0 244 (dk_at dksX2_safe_1 10 rfl rfl)
theorem dX2_safe_36 : decode cX2_safe 36 = .ok (.invokevirtual 397, 3) := dk_182 1 141 (dk_at dksX2_safe_1 13 rfl rfl)
theorem dX2_safe_39 : decode cX2_safe 39 = .ok (.ifCond .eq 5, 3) := dk_153 0 5 (dk_at dksX2_safe_1 16 rfl rfl)
theorem dX2_safe_42 : decode cX2_safe 42 = .ok (.iload_n 3, 1) := dk_29 (dk_at dksX2_safe_1 19 rfl rfl)
theorem dX2_safe_43 : decode cX2_safe 43 = .ok (.ireturn, 1) := dk_172 (dk_at dksX2_safe_1 20 rfl rfl)
theorem dX2_safe_44 : decode cX2_safe 44 = .ok (.iinc 3 (-1), 3) := dk_132 3 255 (dk_at dksX2_safe_1 21 rfl rfl)
theorem dX2_safe_47 : decode cX2_safe 47 = .ok (.goto (-25), 3) := dk_167 255 231 (dk_at dksX2_safe_2 0 rfl rfl)
theorem dX2_safe_50 : decode cX2_safe 50 = .ok (.iconst (-1), 1) := dk_2 (dk_at dksX2_safe_2 3 rfl rfl)
theorem dX2_safe_51 : decode cX2_safe 51 = .ok (.ireturn, 1) := dk_172 (dk_at dksX2_safe_2 4 rfl rfl)
abbrev cX2_best : ByteArray := prog_1_method_54_code
def yX2_best : MethodName := ⟨RX2, "best", "(II)I"⟩
def dkwX2_best_3 : List UInt8 := [4, 160, 0, 11, 25, 4, 180, 1, 150, 167, 0, 12, 25, 4, 180, 1, 153, 28, 5, 100, 46, 172]
abbrev dktX2_best_3 : List UInt8 := dkwX2_best_3 ++ []
def dkwX2_best_2 : List UInt8 := [25, 4, 180, 1, 149, 2, 160, 0, 5, 2, 172, 28, 154, 0, 11, 25, 4, 180, 1, 149, 167, 0, 25, 28]
abbrev dktX2_best_2 : List UInt8 := dkwX2_best_2 ++ dktX2_best_3
def dkwX2_best_1 : List UInt8 := [180, 0, 214, 96, 133, 184, 0, 95, 154, 0, 5, 2, 172, 187, 1, 144, 89, 42, 45, 183, 1, 146, 58, 4]
abbrev dktX2_best_1 : List UInt8 := dkwX2_best_1 ++ dktX2_best_2
def dkwX2_best_0 : List UInt8 := [42, 27, 182, 1, 61, 78, 45, 198, 0, 26, 45, 182, 0, 217, 153, 0, 19, 28, 133, 9, 4, 45]
abbrev dktX2_best_0 : List UInt8 := dkwX2_best_0 ++ dktX2_best_1
theorem dksX2_best_0 : cX2_best.data.toList.drop 0 = dktX2_best_0 := by decide +kernel
theorem dksX2_best_1 : cX2_best.data.toList.drop 22 = dktX2_best_1 := dk_seg dksX2_best_0 22 rfl rfl
theorem dksX2_best_2 : cX2_best.data.toList.drop 46 = dktX2_best_2 := dk_seg dksX2_best_1 24 rfl rfl
theorem dksX2_best_3 : cX2_best.data.toList.drop 70 = dktX2_best_3 := dk_seg dksX2_best_2 24 rfl rfl
theorem dX2_best_0 : decode cX2_best 0 = .ok (.aload_n 0, 1) := dk_42 (dk_at dksX2_best_0 0 rfl rfl)
theorem dX2_best_1 : decode cX2_best 1 = .ok (.iload_n 1, 1) := dk_27 (dk_at dksX2_best_0 1 rfl rfl)
theorem dX2_best_2 : decode cX2_best 2 = .ok (.invokevirtual 317, 3) := dk_182 1 61 (dk_at dksX2_best_0 2 rfl rfl)
theorem dX2_best_5 : decode cX2_best 5 = .ok (.astore_n 3, 1) := dk_78 (dk_at dksX2_best_0 5 rfl rfl)
theorem dX2_best_6 : decode cX2_best 6 = .ok (.aload_n 3, 1) := dk_45 (dk_at dksX2_best_0 6 rfl rfl)
theorem dX2_best_7 : decode cX2_best 7 = .ok (.ifnull 26, 3) := dk_198 0 26 (dk_at dksX2_best_0 7 rfl rfl)
theorem dX2_best_10 : decode cX2_best 10 = .ok (.aload_n 3, 1) := dk_45 (dk_at dksX2_best_0 10 rfl rfl)
theorem dX2_best_11 : decode cX2_best 11 = .ok (.invokevirtual 217, 3) := dk_182 0 217 (dk_at dksX2_best_0 11 rfl rfl)
theorem dX2_best_14 : decode cX2_best 14 = .ok (.ifCond .eq 19, 3) := dk_153 0 19 (dk_at dksX2_best_0 14 rfl rfl)
theorem dX2_best_17 : decode cX2_best 17 = .ok (.iload_n 2, 1) := dk_28 (dk_at dksX2_best_0 17 rfl rfl)
theorem dX2_best_18 : decode cX2_best 18 = .ok (.i2l, 1) := dk_133 (dk_at dksX2_best_0 18 rfl rfl)
theorem dX2_best_19 : decode cX2_best 19 = .ok (.lconst 0, 1) := dk_9 (dk_at dksX2_best_0 19 rfl rfl)
theorem dX2_best_20 : decode cX2_best 20 = .ok (.iconst 1, 1) := dk_4 (dk_at dksX2_best_0 20 rfl rfl)
theorem dX2_best_21 : decode cX2_best 21 = .ok (.aload_n 3, 1) := dk_45 (dk_at dksX2_best_0 21 rfl rfl)
theorem dX2_best_22 : decode cX2_best 22 = .ok (.getfield 214, 3) := dk_180 0 214 (dk_at dksX2_best_1 0 rfl rfl)
theorem dX2_best_25 : decode cX2_best 25 = .ok (.iadd, 1) := dk_96 (dk_at dksX2_best_1 3 rfl rfl)
theorem dX2_best_26 : decode cX2_best 26 = .ok (.i2l, 1) := dk_133 (dk_at dksX2_best_1 4 rfl rfl)
theorem dX2_best_27 : decode cX2_best 27 = .ok (.invokestatic 95, 3) := dk_184 0 95 (dk_at dksX2_best_1 5 rfl rfl)
theorem dX2_best_30 : decode cX2_best 30 = .ok (.ifCond .ne 5, 3) := dk_154 0 5 (dk_at dksX2_best_1 8 rfl rfl)
theorem dX2_best_33 : decode cX2_best 33 = .ok (.iconst (-1), 1) := dk_2 (dk_at dksX2_best_1 11 rfl rfl)
theorem dX2_best_34 : decode cX2_best 34 = .ok (.ireturn, 1) := dk_172 (dk_at dksX2_best_1 12 rfl rfl)
theorem dX2_best_35 : decode cX2_best 35 = .ok (.new 400, 3) := dk_187 1 144 (dk_at dksX2_best_1 13 rfl rfl)
theorem dX2_best_38 : decode cX2_best 38 = .ok (.dup, 1) := dk_89 (dk_at dksX2_best_1 16 rfl rfl)
theorem dX2_best_39 : decode cX2_best 39 = .ok (.aload_n 0, 1) := dk_42 (dk_at dksX2_best_1 17 rfl rfl)
theorem dX2_best_40 : decode cX2_best 40 = .ok (.aload_n 3, 1) := dk_45 (dk_at dksX2_best_1 18 rfl rfl)
theorem dX2_best_41 : decode cX2_best 41 = .ok (.invokespecial 402, 3) := dk_183 1 146 (dk_at dksX2_best_1 19 rfl rfl)
theorem dX2_best_44 : decode cX2_best 44 = .ok (.astore 4, 2) := dk_58 4 (dk_at dksX2_best_1 22 rfl rfl)
theorem dX2_best_46 : decode cX2_best 46 = .ok (.aload 4, 2) := dk_25 4 (dk_at dksX2_best_2 0 rfl rfl)
theorem dX2_best_48 : decode cX2_best 48 = .ok (.getfield 405, 3) := dk_180 1 149 (dk_at dksX2_best_2 2 rfl rfl)
theorem dX2_best_51 : decode cX2_best 51 = .ok (.iconst (-1), 1) := dk_2 (dk_at dksX2_best_2 5 rfl rfl)
theorem dX2_best_52 : decode cX2_best 52 = .ok (.if_icmp .ne 5, 3) := dk_160 0 5 (dk_at dksX2_best_2 6 rfl rfl)
theorem dX2_best_55 : decode cX2_best 55 = .ok (.iconst (-1), 1) := dk_2 (dk_at dksX2_best_2 9 rfl rfl)
theorem dX2_best_56 : decode cX2_best 56 = .ok (.ireturn, 1) := dk_172 (dk_at dksX2_best_2 10 rfl rfl)
theorem dX2_best_57 : decode cX2_best 57 = .ok (.iload_n 2, 1) := dk_28 (dk_at dksX2_best_2 11 rfl rfl)
theorem dX2_best_58 : decode cX2_best 58 = .ok (.ifCond .ne 11, 3) := dk_154 0 11 (dk_at dksX2_best_2 12 rfl rfl)
theorem dX2_best_61 : decode cX2_best 61 = .ok (.aload 4, 2) := dk_25 4 (dk_at dksX2_best_2 15 rfl rfl)
theorem dX2_best_63 : decode cX2_best 63 = .ok (.getfield 405, 3) := dk_180 1 149 (dk_at dksX2_best_2 17 rfl rfl)
theorem dX2_best_66 : decode cX2_best 66 = .ok (.goto 25, 3) := dk_167 0 25 (dk_at dksX2_best_2 20 rfl rfl)
theorem dX2_best_69 : decode cX2_best 69 = .ok (.iload_n 2, 1) := dk_28 (dk_at dksX2_best_2 23 rfl rfl)
theorem dX2_best_70 : decode cX2_best 70 = .ok (.iconst 1, 1) := dk_4 (dk_at dksX2_best_3 0 rfl rfl)
theorem dX2_best_71 : decode cX2_best 71 = .ok (.if_icmp .ne 11, 3) := dk_160 0 11 (dk_at dksX2_best_3 1 rfl rfl)
theorem dX2_best_74 : decode cX2_best 74 = .ok (.aload 4, 2) := dk_25 4 (dk_at dksX2_best_3 4 rfl rfl)
theorem dX2_best_76 : decode cX2_best 76 = .ok (.getfield 406, 3) := dk_180 1 150 (dk_at dksX2_best_3 6 rfl rfl)
theorem dX2_best_79 : decode cX2_best 79 = .ok (.goto 12, 3) := dk_167 0 12 (dk_at dksX2_best_3 9 rfl rfl)
theorem dX2_best_82 : decode cX2_best 82 = .ok (.aload 4, 2) := dk_25 4 (dk_at dksX2_best_3 12 rfl rfl)
theorem dX2_best_84 : decode cX2_best 84 = .ok (.getfield 409, 3) := dk_180 1 153 (dk_at dksX2_best_3 14 rfl rfl)
theorem dX2_best_87 : decode cX2_best 87 = .ok (.iload_n 2, 1) := dk_28 (dk_at dksX2_best_3 17 rfl rfl)
theorem dX2_best_88 : decode cX2_best 88 = .ok (.iconst 2, 1) := dk_5 (dk_at dksX2_best_3 18 rfl rfl)
theorem dX2_best_89 : decode cX2_best 89 = .ok (.isub, 1) := dk_100 (dk_at dksX2_best_3 19 rfl rfl)
theorem dX2_best_90 : decode cX2_best 90 = .ok (.iaload, 1) := dk_46 (dk_at dksX2_best_3 20 rfl rfl)
theorem dX2_best_91 : decode cX2_best 91 = .ok (.ireturn, 1) := dk_172 (dk_at dksX2_best_3 21 rfl rfl)
abbrev cX2_odds : ByteArray := prog_1_method_60_code
def yX2_odds : MethodName := ⟨RX2, "odds", "(I)I"⟩
def dkwX2_odds_4 : List UInt8 := [180, 1, 46, 96, 54, 4, 45, 182, 1, 21, 132, 5, 1, 167, 255, 198, 42, 45, 182, 1, 167, 21, 4, 172]
abbrev dktX2_odds_4 : List UInt8 := dkwX2_odds_4 ++ []
def dkwX2_odds_3 : List UInt8 := [21, 5, 154, 0, 18, 16, 100, 42, 180, 0, 20, 180, 1, 46, 100, 6, 104, 167, 0, 10, 42, 180, 0, 20]
abbrev dktX2_odds_3 : List UInt8 := dkwX2_odds_3 ++ dktX2_odds_4
def dkwX2_odds_2 : List UInt8 := [54, 5, 21, 5, 6, 163, 0, 58, 42, 21, 5, 182, 1, 8, 44, 180, 1, 117, 153, 0, 35, 21, 4]
abbrev dktX2_odds_2 : List UInt8 := dkwX2_odds_2 ++ dktX2_odds_3
def dkwX2_odds_1 : List UInt8 := [153, 0, 13, 42, 4, 4, 4, 182, 1, 33, 154, 0, 5, 2, 172, 42, 182, 1, 159, 78, 3, 54, 4, 3]
abbrev dktX2_odds_1 : List UInt8 := dkwX2_odds_1 ++ dktX2_odds_2
def dkwX2_odds_0 : List UInt8 := [42, 27, 182, 1, 57, 77, 44, 198, 0, 30, 44, 180, 1, 79, 198, 0, 23, 44, 180, 1, 79, 182, 0, 234]
abbrev dktX2_odds_0 : List UInt8 := dkwX2_odds_0 ++ dktX2_odds_1
theorem dksX2_odds_0 : cX2_odds.data.toList.drop 0 = dktX2_odds_0 := by decide +kernel
theorem dksX2_odds_1 : cX2_odds.data.toList.drop 24 = dktX2_odds_1 := dk_seg dksX2_odds_0 24 rfl rfl
theorem dksX2_odds_2 : cX2_odds.data.toList.drop 48 = dktX2_odds_2 := dk_seg dksX2_odds_1 24 rfl rfl
theorem dksX2_odds_3 : cX2_odds.data.toList.drop 71 = dktX2_odds_3 := dk_seg dksX2_odds_2 23 rfl rfl
theorem dksX2_odds_4 : cX2_odds.data.toList.drop 95 = dktX2_odds_4 := dk_seg dksX2_odds_3 24 rfl rfl
theorem dX2_odds_0 : decode cX2_odds 0 = .ok (.aload_n 0, 1) := dk_42 (dk_at dksX2_odds_0 0 rfl rfl)
theorem dX2_odds_1 : decode cX2_odds 1 = .ok (.iload_n 1, 1) := dk_27 (dk_at dksX2_odds_0 1 rfl rfl)
theorem dX2_odds_2 : decode cX2_odds 2 = .ok (.invokevirtual 313, 3) := dk_182 1 57 (dk_at dksX2_odds_0 2 rfl rfl)
theorem dX2_odds_5 : decode cX2_odds 5 = .ok (.astore_n 2, 1) := dk_77 (dk_at dksX2_odds_0 5 rfl rfl)
theorem dX2_odds_6 : decode cX2_odds 6 = .ok (.aload_n 2, 1) := dk_44 (dk_at dksX2_odds_0 6 rfl rfl)
theorem dX2_odds_7 : decode cX2_odds 7 = .ok (.ifnull 30, 3) := dk_198 0 30 (dk_at dksX2_odds_0 7 rfl rfl)
theorem dX2_odds_10 : decode cX2_odds 10 = .ok (.aload_n 2, 1) := dk_44 (dk_at dksX2_odds_0 10 rfl rfl)
theorem dX2_odds_11 : decode cX2_odds 11 = .ok (.getfield 335, 3) := dk_180 1 79 (dk_at dksX2_odds_0 11 rfl rfl)
theorem dX2_odds_14 : decode cX2_odds 14 = .ok (.ifnull 23, 3) := dk_198 0 23 (dk_at dksX2_odds_0 14 rfl rfl)
theorem dX2_odds_17 : decode cX2_odds 17 = .ok (.aload_n 2, 1) := dk_44 (dk_at dksX2_odds_0 17 rfl rfl)
theorem dX2_odds_18 : decode cX2_odds 18 = .ok (.getfield 335, 3) := dk_180 1 79 (dk_at dksX2_odds_0 18 rfl rfl)
theorem dX2_odds_21 : decode cX2_odds 21 = .ok (.invokevirtual 234, 3) := dk_182 0 234 (dk_at dksX2_odds_0 21 rfl rfl)
theorem dX2_odds_24 : decode cX2_odds 24 = .ok (.ifCond .eq 13, 3) := dk_153 0 13 (dk_at dksX2_odds_1 0 rfl rfl)
theorem dX2_odds_27 : decode cX2_odds 27 = .ok (.aload_n 0, 1) := dk_42 (dk_at dksX2_odds_1 3 rfl rfl)
theorem dX2_odds_28 : decode cX2_odds 28 = .ok (.iconst 1, 1) := dk_4 (dk_at dksX2_odds_1 4 rfl rfl)
theorem dX2_odds_29 : decode cX2_odds 29 = .ok (.iconst 1, 1) := dk_4 (dk_at dksX2_odds_1 5 rfl rfl)
theorem dX2_odds_30 : decode cX2_odds 30 = .ok (.iconst 1, 1) := dk_4 (dk_at dksX2_odds_1 6 rfl rfl)
theorem dX2_odds_31 : decode cX2_odds 31 = .ok (.invokevirtual 289, 3) := dk_182 1 33 (dk_at dksX2_odds_1 7 rfl rfl)
theorem dX2_odds_34 : decode cX2_odds 34 = .ok (.ifCond .ne 5, 3) := dk_154 0 5 (dk_at dksX2_odds_1 10 rfl rfl)
theorem dX2_odds_37 : decode cX2_odds 37 = .ok (.iconst (-1), 1) := dk_2 (dk_at dksX2_odds_1 13 rfl rfl)
theorem dX2_odds_38 : decode cX2_odds 38 = .ok (.ireturn, 1) := dk_172 (dk_at dksX2_odds_1 14 rfl rfl)
theorem dX2_odds_39 : decode cX2_odds 39 = .ok (.aload_n 0, 1) := dk_42 (dk_at dksX2_odds_1 15 rfl rfl)
theorem dX2_odds_40 : decode cX2_odds 40 = .ok (.invokevirtual 415, 3) := dk_182 1 159 (dk_at dksX2_odds_1 16 rfl rfl)
theorem dX2_odds_43 : decode cX2_odds 43 = .ok (.astore_n 3, 1) := dk_78 (dk_at dksX2_odds_1 19 rfl rfl)
theorem dX2_odds_44 : decode cX2_odds 44 = .ok (.iconst 0, 1) := dk_3 (dk_at dksX2_odds_1 20 rfl rfl)
theorem dX2_odds_45 : decode cX2_odds 45 = .ok (.istore 4, 2) := dk_54 4 (dk_at dksX2_odds_1 21 rfl rfl)
theorem dX2_odds_47 : decode cX2_odds 47 = .ok (.iconst 0, 1) := dk_3 (dk_at dksX2_odds_1 23 rfl rfl)
theorem dX2_odds_48 : decode cX2_odds 48 = .ok (.istore 5, 2) := dk_54 5 (dk_at dksX2_odds_2 0 rfl rfl)
theorem dX2_odds_50 : decode cX2_odds 50 = .ok (.iload 5, 2) := dk_21 5 (dk_at dksX2_odds_2 2 rfl rfl)
theorem dX2_odds_52 : decode cX2_odds 52 = .ok (.iconst 3, 1) := dk_6 (dk_at dksX2_odds_2 4 rfl rfl)
theorem dX2_odds_53 : decode cX2_odds 53 = .ok (.if_icmp .gt 58, 3) := dk_163 0 58 (dk_at dksX2_odds_2 5 rfl rfl)
theorem dX2_odds_56 : decode cX2_odds 56 = .ok (.aload_n 0, 1) := dk_42 (dk_at dksX2_odds_2 8 rfl rfl)
theorem dX2_odds_57 : decode cX2_odds 57 = .ok (.iload 5, 2) := dk_21 5 (dk_at dksX2_odds_2 9 rfl rfl)
theorem dX2_odds_59 : decode cX2_odds 59 = .ok (.invokevirtual 264, 3) := dk_182 1 8 (dk_at dksX2_odds_2 11 rfl rfl)
theorem dX2_odds_62 : decode cX2_odds 62 = .ok (.aload_n 2, 1) := dk_44 (dk_at dksX2_odds_2 14 rfl rfl)
theorem dX2_odds_63 : decode cX2_odds 63 = .ok (.getfield 373, 3) := dk_180 1 117 (dk_at dksX2_odds_2 15 rfl rfl)
theorem dX2_odds_66 : decode cX2_odds 66 = .ok (.ifCond .eq 35, 3) := dk_153 0 35 (dk_at dksX2_odds_2 18 rfl rfl)
theorem dX2_odds_69 : decode cX2_odds 69 = .ok (.iload 4, 2) := dk_21 4 (dk_at dksX2_odds_2 21 rfl rfl)
theorem dX2_odds_71 : decode cX2_odds 71 = .ok (.iload 5, 2) := dk_21 5 (dk_at dksX2_odds_3 0 rfl rfl)
theorem dX2_odds_73 : decode cX2_odds 73 = .ok (.ifCond .ne 18, 3) := dk_154 0 18 (dk_at dksX2_odds_3 2 rfl rfl)
theorem dX2_odds_76 : decode cX2_odds 76 = .ok (.bipush 100, 2) := dk_16 100 (dk_at dksX2_odds_3 5 rfl rfl)
theorem dX2_odds_78 : decode cX2_odds 78 = .ok (.aload_n 0, 1) := dk_42 (dk_at dksX2_odds_3 7 rfl rfl)
theorem dX2_odds_79 : decode cX2_odds 79 = .ok (.getfield 20, 3) := dk_180 0 20 (dk_at dksX2_odds_3 8 rfl rfl)
theorem dX2_odds_82 : decode cX2_odds 82 = .ok (.getfield 302, 3) := dk_180 1 46 (dk_at dksX2_odds_3 11 rfl rfl)
theorem dX2_odds_85 : decode cX2_odds 85 = .ok (.isub, 1) := dk_100 (dk_at dksX2_odds_3 14 rfl rfl)
theorem dX2_odds_86 : decode cX2_odds 86 = .ok (.iconst 3, 1) := dk_6 (dk_at dksX2_odds_3 15 rfl rfl)
theorem dX2_odds_87 : decode cX2_odds 87 = .ok (.imul, 1) := dk_104 (dk_at dksX2_odds_3 16 rfl rfl)
theorem dX2_odds_88 : decode cX2_odds 88 = .ok (.goto 10, 3) := dk_167 0 10 (dk_at dksX2_odds_3 17 rfl rfl)
theorem dX2_odds_91 : decode cX2_odds 91 = .ok (.aload_n 0, 1) := dk_42 (dk_at dksX2_odds_3 20 rfl rfl)
theorem dX2_odds_92 : decode cX2_odds 92 = .ok (.getfield 20, 3) := dk_180 0 20 (dk_at dksX2_odds_3 21 rfl rfl)
theorem dX2_odds_95 : decode cX2_odds 95 = .ok (.getfield 302, 3) := dk_180 1 46 (dk_at dksX2_odds_4 0 rfl rfl)
theorem dX2_odds_98 : decode cX2_odds 98 = .ok (.iadd, 1) := dk_96 (dk_at dksX2_odds_4 3 rfl rfl)
theorem dX2_odds_99 : decode cX2_odds 99 = .ok (.istore 4, 2) := dk_54 4 (dk_at dksX2_odds_4 4 rfl rfl)
theorem dX2_odds_101 : decode cX2_odds 101 = .ok (.aload_n 3, 1) := dk_45 (dk_at dksX2_odds_4 6 rfl rfl)
theorem dX2_odds_102 : decode cX2_odds 102 = .ok (.invokevirtual 277, 3) := dk_182 1 21 (dk_at dksX2_odds_4 7 rfl rfl)
theorem dX2_odds_105 : decode cX2_odds 105 = .ok (.iinc 5 1, 3) := dk_132 5 1 (dk_at dksX2_odds_4 10 rfl rfl)
theorem dX2_odds_108 : decode cX2_odds 108 = .ok (.goto (-58), 3) := dk_167 255 198 (dk_at dksX2_odds_4 13 rfl rfl)
theorem dX2_odds_111 : decode cX2_odds 111 = .ok (.aload_n 0, 1) := dk_42 (dk_at dksX2_odds_4 16 rfl rfl)
theorem dX2_odds_112 : decode cX2_odds 112 = .ok (.aload_n 3, 1) := dk_45 (dk_at dksX2_odds_4 17 rfl rfl)
theorem dX2_odds_113 : decode cX2_odds 113 = .ok (.invokevirtual 423, 3) := dk_182 1 167 (dk_at dksX2_odds_4 18 rfl rfl)
theorem dX2_odds_116 : decode cX2_odds 116 = .ok (.iload 4, 2) := dk_21 4 (dk_at dksX2_odds_4 21 rfl rfl)
theorem dX2_odds_118 : decode cX2_odds 118 = .ok (.ireturn, 1) := dk_172 (dk_at dksX2_odds_4 23 rfl rfl)
abbrev cX2_weeks : ByteArray := prog_1_method_34_code
def yX2_weeks : MethodName := ⟨RX2, "weeks", "(I)I"⟩
def dkwX2_weeks_1 : List UInt8 := [182, 1, 40, 172]
abbrev dktX2_weeks_1 : List UInt8 := dkwX2_weeks_1 ++ []
def dkwX2_weeks_0 : List UInt8 := [42, 27, 4, 16, 40, 182, 1, 33, 154, 0, 9, 42, 5, 182, 0, 78, 172, 42, 182, 1, 37, 42, 27]
abbrev dktX2_weeks_0 : List UInt8 := dkwX2_weeks_0 ++ dktX2_weeks_1
theorem dksX2_weeks_0 : cX2_weeks.data.toList.drop 0 = dktX2_weeks_0 := by decide +kernel
theorem dksX2_weeks_1 : cX2_weeks.data.toList.drop 23 = dktX2_weeks_1 := dk_seg dksX2_weeks_0 23 rfl rfl
theorem dX2_weeks_0 : decode cX2_weeks 0 = .ok (.aload_n 0, 1) := dk_42 (dk_at dksX2_weeks_0 0 rfl rfl)
theorem dX2_weeks_1 : decode cX2_weeks 1 = .ok (.iload_n 1, 1) := dk_27 (dk_at dksX2_weeks_0 1 rfl rfl)
theorem dX2_weeks_2 : decode cX2_weeks 2 = .ok (.iconst 1, 1) := dk_4 (dk_at dksX2_weeks_0 2 rfl rfl)
theorem dX2_weeks_3 : decode cX2_weeks 3 = .ok (.bipush 40, 2) := dk_16 40 (dk_at dksX2_weeks_0 3 rfl rfl)
theorem dX2_weeks_5 : decode cX2_weeks 5 = .ok (.invokevirtual 289, 3) := dk_182 1 33 (dk_at dksX2_weeks_0 5 rfl rfl)
theorem dX2_weeks_8 : decode cX2_weeks 8 = .ok (.ifCond .ne 9, 3) := dk_154 0 9 (dk_at dksX2_weeks_0 8 rfl rfl)
theorem dX2_weeks_11 : decode cX2_weeks 11 = .ok (.aload_n 0, 1) := dk_42 (dk_at dksX2_weeks_0 11 rfl rfl)
theorem dX2_weeks_12 : decode cX2_weeks 12 = .ok (.iconst 2, 1) := dk_5 (dk_at dksX2_weeks_0 12 rfl rfl)
theorem dX2_weeks_13 : decode cX2_weeks 13 = .ok (.invokevirtual 78, 3) := dk_182 0 78 (dk_at dksX2_weeks_0 13 rfl rfl)
theorem dX2_weeks_16 : decode cX2_weeks 16 = .ok (.ireturn, 1) := dk_172 (dk_at dksX2_weeks_0 16 rfl rfl)
theorem dX2_weeks_17 : decode cX2_weeks 17 = .ok (.aload_n 0, 1) := dk_42 (dk_at dksX2_weeks_0 17 rfl rfl)
theorem dX2_weeks_18 : decode cX2_weeks 18 = .ok (.invokevirtual 293, 3) := dk_182 1 37 (dk_at dksX2_weeks_0 18 rfl rfl)
theorem dX2_weeks_21 : decode cX2_weeks 21 = .ok (.aload_n 0, 1) := dk_42 (dk_at dksX2_weeks_0 21 rfl rfl)
theorem dX2_weeks_22 : decode cX2_weeks 22 = .ok (.iload_n 1, 1) := dk_27 (dk_at dksX2_weeks_0 22 rfl rfl)
theorem dX2_weeks_23 : decode cX2_weeks 23 = .ok (.invokevirtual 296, 3) := dk_182 1 40 (dk_at dksX2_weeks_1 0 rfl rfl)
theorem dX2_weeks_26 : decode cX2_weeks 26 = .ok (.ireturn, 1) := dk_172 (dk_at dksX2_weeks_1 3 rfl rfl)
abbrev cX2_keeps : ByteArray := prog_1_method_31_code
def yX2_keeps : MethodName := ⟨RX2, "keeps", "()V"⟩
def dkwX2_keeps_1 : List UInt8 := [180, 0, 45, 187, 1, 24, 89, 42, 183, 1, 26, 182, 1, 5, 87, 177]
abbrev dktX2_keeps_1 : List UInt8 := dkwX2_keeps_1 ++ []
def dkwX2_keeps_0 : List UInt8 := [42, 180, 0, 45, 182, 0, 136, 16, 20, 160, 0, 12, 42, 180, 0, 45, 3, 182, 1, 2, 87, 42]
abbrev dktX2_keeps_0 : List UInt8 := dkwX2_keeps_0 ++ dktX2_keeps_1
theorem dksX2_keeps_0 : cX2_keeps.data.toList.drop 0 = dktX2_keeps_0 := by decide +kernel
theorem dksX2_keeps_1 : cX2_keeps.data.toList.drop 22 = dktX2_keeps_1 := dk_seg dksX2_keeps_0 22 rfl rfl
theorem dX2_keeps_0 : decode cX2_keeps 0 = .ok (.aload_n 0, 1) := dk_42 (dk_at dksX2_keeps_0 0 rfl rfl)
theorem dX2_keeps_1 : decode cX2_keeps 1 = .ok (.getfield 45, 3) := dk_180 0 45 (dk_at dksX2_keeps_0 1 rfl rfl)
theorem dX2_keeps_4 : decode cX2_keeps 4 = .ok (.invokevirtual 136, 3) := dk_182 0 136 (dk_at dksX2_keeps_0 4 rfl rfl)
theorem dX2_keeps_7 : decode cX2_keeps 7 = .ok (.bipush 20, 2) := dk_16 20 (dk_at dksX2_keeps_0 7 rfl rfl)
theorem dX2_keeps_9 : decode cX2_keeps 9 = .ok (.if_icmp .ne 12, 3) := dk_160 0 12 (dk_at dksX2_keeps_0 9 rfl rfl)
theorem dX2_keeps_12 : decode cX2_keeps 12 = .ok (.aload_n 0, 1) := dk_42 (dk_at dksX2_keeps_0 12 rfl rfl)
theorem dX2_keeps_13 : decode cX2_keeps 13 = .ok (.getfield 45, 3) := dk_180 0 45 (dk_at dksX2_keeps_0 13 rfl rfl)
theorem dX2_keeps_16 : decode cX2_keeps 16 = .ok (.iconst 0, 1) := dk_3 (dk_at dksX2_keeps_0 16 rfl rfl)
theorem dX2_keeps_17 : decode cX2_keeps 17 = .ok (.invokevirtual 258, 3) := dk_182 1 2 (dk_at dksX2_keeps_0 17 rfl rfl)
theorem dX2_keeps_20 : decode cX2_keeps 20 = .ok (.pop, 1) := dk_87 (dk_at dksX2_keeps_0 20 rfl rfl)
theorem dX2_keeps_21 : decode cX2_keeps 21 = .ok (.aload_n 0, 1) := dk_42 (dk_at dksX2_keeps_0 21 rfl rfl)
theorem dX2_keeps_22 : decode cX2_keeps 22 = .ok (.getfield 45, 3) := dk_180 0 45 (dk_at dksX2_keeps_1 0 rfl rfl)
theorem dX2_keeps_25 : decode cX2_keeps 25 = .ok (.new 280, 3) := dk_187 1 24 (dk_at dksX2_keeps_1 3 rfl rfl)
theorem dX2_keeps_28 : decode cX2_keeps 28 = .ok (.dup, 1) := dk_89 (dk_at dksX2_keeps_1 6 rfl rfl)
theorem dX2_keeps_29 : decode cX2_keeps 29 = .ok (.aload_n 0, 1) := dk_42 (dk_at dksX2_keeps_1 7 rfl rfl)
theorem dX2_keeps_30 : decode cX2_keeps 30 = .ok (.invokespecial 282, 3) := dk_183 1 26 (dk_at dksX2_keeps_1 8 rfl rfl)
theorem dX2_keeps_33 : decode cX2_keeps 33 = .ok (.invokevirtual 261, 3) := dk_182 1 5 (dk_at dksX2_keeps_1 11 rfl rfl)
theorem dX2_keeps_36 : decode cX2_keeps 36 = .ok (.pop, 1) := dk_87 (dk_at dksX2_keeps_1 14 rfl rfl)
theorem dX2_keeps_37 : decode cX2_keeps 37 = .ok (.return_, 1) := dk_177 (dk_at dksX2_keeps_1 15 rfl rfl)
abbrev cX2_undo : ByteArray := prog_1_method_32_code
def yX2_undo : MethodName := ⟨RX2, "undo", "()Z"⟩
def dkwX2_undo_1 : List UInt8 := [182, 0, 136, 4, 100, 182, 1, 2, 192, 1, 24, 182, 1, 30, 4, 172]
abbrev dktX2_undo_1 : List UInt8 := dkwX2_undo_1 ++ []
def dkwX2_undo_0 : List UInt8 := [42, 180, 0, 45, 182, 1, 27, 153, 0, 9, 42, 7, 182, 0, 89, 172, 42, 180, 0, 45, 42, 180, 0, 45]
abbrev dktX2_undo_0 : List UInt8 := dkwX2_undo_0 ++ dktX2_undo_1
theorem dksX2_undo_0 : cX2_undo.data.toList.drop 0 = dktX2_undo_0 := by decide +kernel
theorem dksX2_undo_1 : cX2_undo.data.toList.drop 24 = dktX2_undo_1 := dk_seg dksX2_undo_0 24 rfl rfl
theorem dX2_undo_0 : decode cX2_undo 0 = .ok (.aload_n 0, 1) := dk_42 (dk_at dksX2_undo_0 0 rfl rfl)
theorem dX2_undo_1 : decode cX2_undo 1 = .ok (.getfield 45, 3) := dk_180 0 45 (dk_at dksX2_undo_0 1 rfl rfl)
theorem dX2_undo_4 : decode cX2_undo 4 = .ok (.invokevirtual 283, 3) := dk_182 1 27 (dk_at dksX2_undo_0 4 rfl rfl)
theorem dX2_undo_7 : decode cX2_undo 7 = .ok (.ifCond .eq 9, 3) := dk_153 0 9 (dk_at dksX2_undo_0 7 rfl rfl)
theorem dX2_undo_10 : decode cX2_undo 10 = .ok (.aload_n 0, 1) := dk_42 (dk_at dksX2_undo_0 10 rfl rfl)
theorem dX2_undo_11 : decode cX2_undo 11 = .ok (.iconst 4, 1) := dk_7 (dk_at dksX2_undo_0 11 rfl rfl)
theorem dX2_undo_12 : decode cX2_undo 12 = .ok (.invokevirtual 89, 3) := dk_182 0 89 (dk_at dksX2_undo_0 12 rfl rfl)
theorem dX2_undo_15 : decode cX2_undo 15 = .ok (.ireturn, 1) := dk_172 (dk_at dksX2_undo_0 15 rfl rfl)
theorem dX2_undo_16 : decode cX2_undo 16 = .ok (.aload_n 0, 1) := dk_42 (dk_at dksX2_undo_0 16 rfl rfl)
theorem dX2_undo_17 : decode cX2_undo 17 = .ok (.getfield 45, 3) := dk_180 0 45 (dk_at dksX2_undo_0 17 rfl rfl)
theorem dX2_undo_20 : decode cX2_undo 20 = .ok (.aload_n 0, 1) := dk_42 (dk_at dksX2_undo_0 20 rfl rfl)
theorem dX2_undo_21 : decode cX2_undo 21 = .ok (.getfield 45, 3) := dk_180 0 45 (dk_at dksX2_undo_0 21 rfl rfl)
theorem dX2_undo_24 : decode cX2_undo 24 = .ok (.invokevirtual 136, 3) := dk_182 0 136 (dk_at dksX2_undo_1 0 rfl rfl)
theorem dX2_undo_27 : decode cX2_undo 27 = .ok (.iconst 1, 1) := dk_4 (dk_at dksX2_undo_1 3 rfl rfl)
theorem dX2_undo_28 : decode cX2_undo 28 = .ok (.isub, 1) := dk_100 (dk_at dksX2_undo_1 4 rfl rfl)
theorem dX2_undo_29 : decode cX2_undo 29 = .ok (.invokevirtual 258, 3) := dk_182 1 2 (dk_at dksX2_undo_1 5 rfl rfl)
theorem dX2_undo_32 : decode cX2_undo 32 = .ok (.checkcast 280, 3) := dk_192 1 24 (dk_at dksX2_undo_1 8 rfl rfl)
theorem dX2_undo_35 : decode cX2_undo 35 = .ok (.invokevirtual 286, 3) := dk_182 1 30 (dk_at dksX2_undo_1 11 rfl rfl)
theorem dX2_undo_38 : decode cX2_undo 38 = .ok (.iconst 1, 1) := dk_4 (dk_at dksX2_undo_1 14 rfl rfl)
theorem dX2_undo_39 : decode cX2_undo 39 = .ok (.ireturn, 1) := dk_172 (dk_at dksX2_undo_1 15 rfl rfl)
abbrev cX2_chance : ByteArray := prog_1_method_35_code
def yX2_chance : MethodName := ⟨RX2, "chance", "(I)I"⟩
def dkwX2_chance_3 : List UInt8 := [182, 1, 8, 132, 3, 1, 167, 255, 205, 28, 172]
abbrev dktX2_chance_3 : List UInt8 := dkwX2_chance_3 ++ []
def dkwX2_chance_2 : List UInt8 := [6, 182, 1, 43, 96, 167, 0, 4, 3, 54, 4, 21, 4, 158, 0, 6, 132, 2, 1, 42, 21, 4]
abbrev dktX2_chance_2 : List UInt8 := dkwX2_chance_2 ++ dktX2_chance_3
def dkwX2_chance_1 : List UInt8 := [62, 29, 27, 162, 0, 52, 42, 16, 100, 182, 1, 43, 42, 180, 0, 20, 180, 1, 46, 162, 0, 13, 4, 42]
abbrev dktX2_chance_1 : List UInt8 := dkwX2_chance_1 ++ dktX2_chance_2
def dkwX2_chance_0 : List UInt8 := [42, 27, 4, 16, 40, 182, 1, 33, 154, 0, 9, 42, 5, 182, 0, 78, 172, 42, 182, 1, 37, 3, 61, 3]
abbrev dktX2_chance_0 : List UInt8 := dkwX2_chance_0 ++ dktX2_chance_1
theorem dksX2_chance_0 : cX2_chance.data.toList.drop 0 = dktX2_chance_0 := by decide +kernel
theorem dksX2_chance_1 : cX2_chance.data.toList.drop 24 = dktX2_chance_1 := dk_seg dksX2_chance_0 24 rfl rfl
theorem dksX2_chance_2 : cX2_chance.data.toList.drop 48 = dktX2_chance_2 := dk_seg dksX2_chance_1 24 rfl rfl
theorem dksX2_chance_3 : cX2_chance.data.toList.drop 70 = dktX2_chance_3 := dk_seg dksX2_chance_2 22 rfl rfl
theorem dX2_chance_0 : decode cX2_chance 0 = .ok (.aload_n 0, 1) := dk_42 (dk_at dksX2_chance_0 0 rfl rfl)
theorem dX2_chance_1 : decode cX2_chance 1 = .ok (.iload_n 1, 1) := dk_27 (dk_at dksX2_chance_0 1 rfl rfl)
theorem dX2_chance_2 : decode cX2_chance 2 = .ok (.iconst 1, 1) := dk_4 (dk_at dksX2_chance_0 2 rfl rfl)
theorem dX2_chance_3 : decode cX2_chance 3 = .ok (.bipush 40, 2) := dk_16 40 (dk_at dksX2_chance_0 3 rfl rfl)
theorem dX2_chance_5 : decode cX2_chance 5 = .ok (.invokevirtual 289, 3) := dk_182 1 33 (dk_at dksX2_chance_0 5 rfl rfl)
theorem dX2_chance_8 : decode cX2_chance 8 = .ok (.ifCond .ne 9, 3) := dk_154 0 9 (dk_at dksX2_chance_0 8 rfl rfl)
theorem dX2_chance_11 : decode cX2_chance 11 = .ok (.aload_n 0, 1) := dk_42 (dk_at dksX2_chance_0 11 rfl rfl)
theorem dX2_chance_12 : decode cX2_chance 12 = .ok (.iconst 2, 1) := dk_5 (dk_at dksX2_chance_0 12 rfl rfl)
theorem dX2_chance_13 : decode cX2_chance 13 = .ok (.invokevirtual 78, 3) := dk_182 0 78 (dk_at dksX2_chance_0 13 rfl rfl)
theorem dX2_chance_16 : decode cX2_chance 16 = .ok (.ireturn, 1) := dk_172 (dk_at dksX2_chance_0 16 rfl rfl)
theorem dX2_chance_17 : decode cX2_chance 17 = .ok (.aload_n 0, 1) := dk_42 (dk_at dksX2_chance_0 17 rfl rfl)
theorem dX2_chance_18 : decode cX2_chance 18 = .ok (.invokevirtual 293, 3) := dk_182 1 37 (dk_at dksX2_chance_0 18 rfl rfl)
theorem dX2_chance_21 : decode cX2_chance 21 = .ok (.iconst 0, 1) := dk_3 (dk_at dksX2_chance_0 21 rfl rfl)
theorem dX2_chance_22 : decode cX2_chance 22 = .ok (.istore_n 2, 1) := dk_61 (dk_at dksX2_chance_0 22 rfl rfl)
theorem dX2_chance_23 : decode cX2_chance 23 = .ok (.iconst 0, 1) := dk_3 (dk_at dksX2_chance_0 23 rfl rfl)
theorem dX2_chance_24 : decode cX2_chance 24 = .ok (.istore_n 3, 1) := dk_62 (dk_at dksX2_chance_1 0 rfl rfl)
theorem dX2_chance_25 : decode cX2_chance 25 = .ok (.iload_n 3, 1) := dk_29 (dk_at dksX2_chance_1 1 rfl rfl)
theorem dX2_chance_26 : decode cX2_chance 26 = .ok (.iload_n 1, 1) := dk_27 (dk_at dksX2_chance_1 2 rfl rfl)
theorem dX2_chance_27 : decode cX2_chance 27 = .ok (.if_icmp .ge 52, 3) := dk_162 0 52 (dk_at dksX2_chance_1 3 rfl rfl)
theorem dX2_chance_30 : decode cX2_chance 30 = .ok (.aload_n 0, 1) := dk_42 (dk_at dksX2_chance_1 6 rfl rfl)
theorem dX2_chance_31 : decode cX2_chance 31 = .ok (.bipush 100, 2) := dk_16 100 (dk_at dksX2_chance_1 7 rfl rfl)
theorem dX2_chance_33 : decode cX2_chance 33 = .ok (.invokevirtual 299, 3) := dk_182 1 43 (dk_at dksX2_chance_1 9 rfl rfl)
theorem dX2_chance_36 : decode cX2_chance 36 = .ok (.aload_n 0, 1) := dk_42 (dk_at dksX2_chance_1 12 rfl rfl)
theorem dX2_chance_37 : decode cX2_chance 37 = .ok (.getfield 20, 3) := dk_180 0 20 (dk_at dksX2_chance_1 13 rfl rfl)
theorem dX2_chance_40 : decode cX2_chance 40 = .ok (.getfield 302, 3) := dk_180 1 46 (dk_at dksX2_chance_1 16 rfl rfl)
theorem dX2_chance_43 : decode cX2_chance 43 = .ok (.if_icmp .ge 13, 3) := dk_162 0 13 (dk_at dksX2_chance_1 19 rfl rfl)
theorem dX2_chance_46 : decode cX2_chance 46 = .ok (.iconst 1, 1) := dk_4 (dk_at dksX2_chance_1 22 rfl rfl)
theorem dX2_chance_47 : decode cX2_chance 47 = .ok (.aload_n 0, 1) := dk_42 (dk_at dksX2_chance_1 23 rfl rfl)
theorem dX2_chance_48 : decode cX2_chance 48 = .ok (.iconst 3, 1) := dk_6 (dk_at dksX2_chance_2 0 rfl rfl)
theorem dX2_chance_49 : decode cX2_chance 49 = .ok (.invokevirtual 299, 3) := dk_182 1 43 (dk_at dksX2_chance_2 1 rfl rfl)
theorem dX2_chance_52 : decode cX2_chance 52 = .ok (.iadd, 1) := dk_96 (dk_at dksX2_chance_2 4 rfl rfl)
theorem dX2_chance_53 : decode cX2_chance 53 = .ok (.goto 4, 3) := dk_167 0 4 (dk_at dksX2_chance_2 5 rfl rfl)
theorem dX2_chance_56 : decode cX2_chance 56 = .ok (.iconst 0, 1) := dk_3 (dk_at dksX2_chance_2 8 rfl rfl)
theorem dX2_chance_57 : decode cX2_chance 57 = .ok (.istore 4, 2) := dk_54 4 (dk_at dksX2_chance_2 9 rfl rfl)
theorem dX2_chance_59 : decode cX2_chance 59 = .ok (.iload 4, 2) := dk_21 4 (dk_at dksX2_chance_2 11 rfl rfl)
theorem dX2_chance_61 : decode cX2_chance 61 = .ok (.ifCond .le 6, 3) := dk_158 0 6 (dk_at dksX2_chance_2 13 rfl rfl)
theorem dX2_chance_64 : decode cX2_chance 64 = .ok (.iinc 2 1, 3) := dk_132 2 1 (dk_at dksX2_chance_2 16 rfl rfl)
theorem dX2_chance_67 : decode cX2_chance 67 = .ok (.aload_n 0, 1) := dk_42 (dk_at dksX2_chance_2 19 rfl rfl)
theorem dX2_chance_68 : decode cX2_chance 68 = .ok (.iload 4, 2) := dk_21 4 (dk_at dksX2_chance_2 20 rfl rfl)
theorem dX2_chance_70 : decode cX2_chance 70 = .ok (.invokevirtual 264, 3) := dk_182 1 8 (dk_at dksX2_chance_3 0 rfl rfl)
theorem dX2_chance_73 : decode cX2_chance 73 = .ok (.iinc 3 1, 3) := dk_132 3 1 (dk_at dksX2_chance_3 3 rfl rfl)
theorem dX2_chance_76 : decode cX2_chance 76 = .ok (.goto (-51), 3) := dk_167 255 205 (dk_at dksX2_chance_3 6 rfl rfl)
theorem dX2_chance_79 : decode cX2_chance 79 = .ok (.iload_n 2, 1) := dk_28 (dk_at dksX2_chance_3 9 rfl rfl)
theorem dX2_chance_80 : decode cX2_chance 80 = .ok (.ireturn, 1) := dk_172 (dk_at dksX2_chance_3 10 rfl rfl)
abbrev cX2_drawOf : ByteArray := prog_1_method_37_code
def yX2_drawOf : MethodName := ⟨RX2, "drawOf", "(I)I"⟩
def dkwX2_drawOf_1 : List UInt8 := [20, 1, 55, 109, 27, 133, 113, 136, 172]
abbrev dktX2_drawOf_1 : List UInt8 := dkwX2_drawOf_1 ++ []
def dkwX2_drawOf_0 : List UInt8 := [42, 20, 1, 49, 42, 180, 0, 48, 105, 20, 1, 51, 97, 20, 1, 53, 113, 181, 0, 48, 42, 180, 0, 48]
abbrev dktX2_drawOf_0 : List UInt8 := dkwX2_drawOf_0 ++ dktX2_drawOf_1
theorem dksX2_drawOf_0 : cX2_drawOf.data.toList.drop 0 = dktX2_drawOf_0 := by decide +kernel
theorem dksX2_drawOf_1 : cX2_drawOf.data.toList.drop 24 = dktX2_drawOf_1 := dk_seg dksX2_drawOf_0 24 rfl rfl
theorem dX2_drawOf_0 : decode cX2_drawOf 0 = .ok (.aload_n 0, 1) := dk_42 (dk_at dksX2_drawOf_0 0 rfl rfl)
theorem dX2_drawOf_1 : decode cX2_drawOf 1 = .ok (.ldc2_w 305, 3) := dk_20 1 49 (dk_at dksX2_drawOf_0 1 rfl rfl)
theorem dX2_drawOf_4 : decode cX2_drawOf 4 = .ok (.aload_n 0, 1) := dk_42 (dk_at dksX2_drawOf_0 4 rfl rfl)
theorem dX2_drawOf_5 : decode cX2_drawOf 5 = .ok (.getfield 48, 3) := dk_180 0 48 (dk_at dksX2_drawOf_0 5 rfl rfl)
theorem dX2_drawOf_8 : decode cX2_drawOf 8 = .ok (.lmul, 1) := dk_105 (dk_at dksX2_drawOf_0 8 rfl rfl)
theorem dX2_drawOf_9 : decode cX2_drawOf 9 = .ok (.ldc2_w 307, 3) := dk_20 1 51 (dk_at dksX2_drawOf_0 9 rfl rfl)
theorem dX2_drawOf_12 : decode cX2_drawOf 12 = .ok (.ladd, 1) := dk_97 (dk_at dksX2_drawOf_0 12 rfl rfl)
theorem dX2_drawOf_13 : decode cX2_drawOf 13 = .ok (.ldc2_w 309, 3) := dk_20 1 53 (dk_at dksX2_drawOf_0 13 rfl rfl)
theorem dX2_drawOf_16 : decode cX2_drawOf 16 = .ok (.lrem, 1) := dk_113 (dk_at dksX2_drawOf_0 16 rfl rfl)
theorem dX2_drawOf_17 : decode cX2_drawOf 17 = .ok (.putfield 48, 3) := dk_181 0 48 (dk_at dksX2_drawOf_0 17 rfl rfl)
theorem dX2_drawOf_20 : decode cX2_drawOf 20 = .ok (.aload_n 0, 1) := dk_42 (dk_at dksX2_drawOf_0 20 rfl rfl)
theorem dX2_drawOf_21 : decode cX2_drawOf 21 = .ok (.getfield 48, 3) := dk_180 0 48 (dk_at dksX2_drawOf_0 21 rfl rfl)
theorem dX2_drawOf_24 : decode cX2_drawOf 24 = .ok (.ldc2_w 311, 3) := dk_20 1 55 (dk_at dksX2_drawOf_1 0 rfl rfl)
theorem dX2_drawOf_27 : decode cX2_drawOf 27 = .ok (.ldiv, 1) := dk_109 (dk_at dksX2_drawOf_1 3 rfl rfl)
theorem dX2_drawOf_28 : decode cX2_drawOf 28 = .ok (.iload_n 1, 1) := dk_27 (dk_at dksX2_drawOf_1 4 rfl rfl)
theorem dX2_drawOf_29 : decode cX2_drawOf 29 = .ok (.i2l, 1) := dk_133 (dk_at dksX2_drawOf_1 5 rfl rfl)
theorem dX2_drawOf_30 : decode cX2_drawOf 30 = .ok (.lrem, 1) := dk_113 (dk_at dksX2_drawOf_1 6 rfl rfl)
theorem dX2_drawOf_31 : decode cX2_drawOf 31 = .ok (.l2i, 1) := dk_136 (dk_at dksX2_drawOf_1 7 rfl rfl)
theorem dX2_drawOf_32 : decode cX2_drawOf 32 = .ok (.ireturn, 1) := dk_172 (dk_at dksX2_drawOf_1 8 rfl rfl)
abbrev cX2_seed : ByteArray := prog_1_method_36_code
def yX2_seed : MethodName := ⟨RX2, "seed", "(I)Z"⟩
def dkwX2_seed_0 : List UInt8 := [27, 156, 0, 9, 42, 8, 182, 0, 89, 172, 42, 27, 133, 181, 0, 48, 4, 172]
abbrev dktX2_seed_0 : List UInt8 := dkwX2_seed_0 ++ []
theorem dksX2_seed_0 : cX2_seed.data.toList.drop 0 = dktX2_seed_0 := by decide +kernel
theorem dX2_seed_0 : decode cX2_seed 0 = .ok (.iload_n 1, 1) := dk_27 (dk_at dksX2_seed_0 0 rfl rfl)
theorem dX2_seed_1 : decode cX2_seed 1 = .ok (.ifCond .ge 9, 3) := dk_156 0 9 (dk_at dksX2_seed_0 1 rfl rfl)
theorem dX2_seed_4 : decode cX2_seed 4 = .ok (.aload_n 0, 1) := dk_42 (dk_at dksX2_seed_0 4 rfl rfl)
theorem dX2_seed_5 : decode cX2_seed 5 = .ok (.iconst 5, 1) := dk_8 (dk_at dksX2_seed_0 5 rfl rfl)
theorem dX2_seed_6 : decode cX2_seed 6 = .ok (.invokevirtual 89, 3) := dk_182 0 89 (dk_at dksX2_seed_0 6 rfl rfl)
theorem dX2_seed_9 : decode cX2_seed 9 = .ok (.ireturn, 1) := dk_172 (dk_at dksX2_seed_0 9 rfl rfl)
theorem dX2_seed_10 : decode cX2_seed 10 = .ok (.aload_n 0, 1) := dk_42 (dk_at dksX2_seed_0 10 rfl rfl)
theorem dX2_seed_11 : decode cX2_seed 11 = .ok (.iload_n 1, 1) := dk_27 (dk_at dksX2_seed_0 11 rfl rfl)
theorem dX2_seed_12 : decode cX2_seed 12 = .ok (.i2l, 1) := dk_133 (dk_at dksX2_seed_0 12 rfl rfl)
theorem dX2_seed_13 : decode cX2_seed 13 = .ok (.putfield 48, 3) := dk_181 0 48 (dk_at dksX2_seed_0 13 rfl rfl)
theorem dX2_seed_16 : decode cX2_seed 16 = .ok (.iconst 1, 1) := dk_4 (dk_at dksX2_seed_0 16 rfl rfl)
theorem dX2_seed_17 : decode cX2_seed 17 = .ok (.ireturn, 1) := dk_172 (dk_at dksX2_seed_0 17 rfl rfl)
abbrev cX2_set : ByteArray := prog_1_method_38_code
def yX2_set : MethodName := ⟨RX2, "set", "(III)Z"⟩
def dkwX2_set_3 : List UInt8 := [25, 4, 182, 1, 72, 25, 4, 25, 5, 29, 182, 1, 75, 4, 172]
abbrev dktX2_set_3 : List UInt8 := dkwX2_set_3 ++ []
def dkwX2_set_2 : List UInt8 := [153, 0, 13, 25, 5, 180, 1, 68, 29, 50, 198, 0, 9, 42, 6, 182, 0, 89, 172, 42, 182, 1, 37]
abbrev dktX2_set_2 : List UInt8 := dkwX2_set_2 ++ dktX2_set_3
def dkwX2_set_1 : List UInt8 := [25, 4, 182, 1, 65, 154, 0, 30, 29, 133, 9, 25, 5, 180, 0, 214, 4, 100, 133, 184, 0, 95]
abbrev dktX2_set_1 : List UInt8 := dkwX2_set_1 ++ dktX2_set_2
def dkwX2_set_0 : List UInt8 := [42, 27, 182, 1, 57, 58, 4, 42, 28, 182, 1, 61, 58, 5, 25, 4, 198, 0, 43, 25, 5, 198, 0, 38]
abbrev dktX2_set_0 : List UInt8 := dkwX2_set_0 ++ dktX2_set_1
theorem dksX2_set_0 : cX2_set.data.toList.drop 0 = dktX2_set_0 := by decide +kernel
theorem dksX2_set_1 : cX2_set.data.toList.drop 24 = dktX2_set_1 := dk_seg dksX2_set_0 24 rfl rfl
theorem dksX2_set_2 : cX2_set.data.toList.drop 46 = dktX2_set_2 := dk_seg dksX2_set_1 22 rfl rfl
theorem dksX2_set_3 : cX2_set.data.toList.drop 69 = dktX2_set_3 := dk_seg dksX2_set_2 23 rfl rfl
theorem dX2_set_0 : decode cX2_set 0 = .ok (.aload_n 0, 1) := dk_42 (dk_at dksX2_set_0 0 rfl rfl)
theorem dX2_set_1 : decode cX2_set 1 = .ok (.iload_n 1, 1) := dk_27 (dk_at dksX2_set_0 1 rfl rfl)
theorem dX2_set_2 : decode cX2_set 2 = .ok (.invokevirtual 313, 3) := dk_182 1 57 (dk_at dksX2_set_0 2 rfl rfl)
theorem dX2_set_5 : decode cX2_set 5 = .ok (.astore 4, 2) := dk_58 4 (dk_at dksX2_set_0 5 rfl rfl)
theorem dX2_set_7 : decode cX2_set 7 = .ok (.aload_n 0, 1) := dk_42 (dk_at dksX2_set_0 7 rfl rfl)
theorem dX2_set_8 : decode cX2_set 8 = .ok (.iload_n 2, 1) := dk_28 (dk_at dksX2_set_0 8 rfl rfl)
theorem dX2_set_9 : decode cX2_set 9 = .ok (.invokevirtual 317, 3) := dk_182 1 61 (dk_at dksX2_set_0 9 rfl rfl)
theorem dX2_set_12 : decode cX2_set 12 = .ok (.astore 5, 2) := dk_58 5 (dk_at dksX2_set_0 12 rfl rfl)
theorem dX2_set_14 : decode cX2_set 14 = .ok (.aload 4, 2) := dk_25 4 (dk_at dksX2_set_0 14 rfl rfl)
theorem dX2_set_16 : decode cX2_set 16 = .ok (.ifnull 43, 3) := dk_198 0 43 (dk_at dksX2_set_0 16 rfl rfl)
theorem dX2_set_19 : decode cX2_set 19 = .ok (.aload 5, 2) := dk_25 5 (dk_at dksX2_set_0 19 rfl rfl)
theorem dX2_set_21 : decode cX2_set 21 = .ok (.ifnull 38, 3) := dk_198 0 38 (dk_at dksX2_set_0 21 rfl rfl)
theorem dX2_set_24 : decode cX2_set 24 = .ok (.aload 4, 2) := dk_25 4 (dk_at dksX2_set_1 0 rfl rfl)
theorem dX2_set_26 : decode cX2_set 26 = .ok (.invokevirtual 321, 3) := dk_182 1 65 (dk_at dksX2_set_1 2 rfl rfl)
theorem dX2_set_29 : decode cX2_set 29 = .ok (.ifCond .ne 30, 3) := dk_154 0 30 (dk_at dksX2_set_1 5 rfl rfl)
theorem dX2_set_32 : decode cX2_set 32 = .ok (.iload_n 3, 1) := dk_29 (dk_at dksX2_set_1 8 rfl rfl)
theorem dX2_set_33 : decode cX2_set 33 = .ok (.i2l, 1) := dk_133 (dk_at dksX2_set_1 9 rfl rfl)
theorem dX2_set_34 : decode cX2_set 34 = .ok (.lconst 0, 1) := dk_9 (dk_at dksX2_set_1 10 rfl rfl)
theorem dX2_set_35 : decode cX2_set 35 = .ok (.aload 5, 2) := dk_25 5 (dk_at dksX2_set_1 11 rfl rfl)
theorem dX2_set_37 : decode cX2_set 37 = .ok (.getfield 214, 3) := dk_180 0 214 (dk_at dksX2_set_1 13 rfl rfl)
theorem dX2_set_40 : decode cX2_set 40 = .ok (.iconst 1, 1) := dk_4 (dk_at dksX2_set_1 16 rfl rfl)
theorem dX2_set_41 : decode cX2_set 41 = .ok (.isub, 1) := dk_100 (dk_at dksX2_set_1 17 rfl rfl)
theorem dX2_set_42 : decode cX2_set 42 = .ok (.i2l, 1) := dk_133 (dk_at dksX2_set_1 18 rfl rfl)
theorem dX2_set_43 : decode cX2_set 43 = .ok (.invokestatic 95, 3) := dk_184 0 95 (dk_at dksX2_set_1 19 rfl rfl)
theorem dX2_set_46 : decode cX2_set 46 = .ok (.ifCond .eq 13, 3) := dk_153 0 13 (dk_at dksX2_set_2 0 rfl rfl)
theorem dX2_set_49 : decode cX2_set 49 = .ok (.aload 5, 2) := dk_25 5 (dk_at dksX2_set_2 3 rfl rfl)
theorem dX2_set_51 : decode cX2_set 51 = .ok (.getfield 324, 3) := dk_180 1 68 (dk_at dksX2_set_2 5 rfl rfl)
theorem dX2_set_54 : decode cX2_set 54 = .ok (.iload_n 3, 1) := dk_29 (dk_at dksX2_set_2 8 rfl rfl)
theorem dX2_set_55 : decode cX2_set 55 = .ok (.aaload, 1) := dk_50 (dk_at dksX2_set_2 9 rfl rfl)
theorem dX2_set_56 : decode cX2_set 56 = .ok (.ifnull 9, 3) := dk_198 0 9 (dk_at dksX2_set_2 10 rfl rfl)
theorem dX2_set_59 : decode cX2_set 59 = .ok (.aload_n 0, 1) := dk_42 (dk_at dksX2_set_2 13 rfl rfl)
theorem dX2_set_60 : decode cX2_set 60 = .ok (.iconst 3, 1) := dk_6 (dk_at dksX2_set_2 14 rfl rfl)
theorem dX2_set_61 : decode cX2_set 61 = .ok (.invokevirtual 89, 3) := dk_182 0 89 (dk_at dksX2_set_2 15 rfl rfl)
theorem dX2_set_64 : decode cX2_set 64 = .ok (.ireturn, 1) := dk_172 (dk_at dksX2_set_2 18 rfl rfl)
theorem dX2_set_65 : decode cX2_set 65 = .ok (.aload_n 0, 1) := dk_42 (dk_at dksX2_set_2 19 rfl rfl)
theorem dX2_set_66 : decode cX2_set 66 = .ok (.invokevirtual 293, 3) := dk_182 1 37 (dk_at dksX2_set_2 20 rfl rfl)
theorem dX2_set_69 : decode cX2_set 69 = .ok (.aload 4, 2) := dk_25 4 (dk_at dksX2_set_3 0 rfl rfl)
theorem dX2_set_71 : decode cX2_set 71 = .ok (.invokevirtual 328, 3) := dk_182 1 72 (dk_at dksX2_set_3 2 rfl rfl)
theorem dX2_set_74 : decode cX2_set 74 = .ok (.aload 4, 2) := dk_25 4 (dk_at dksX2_set_3 5 rfl rfl)
theorem dX2_set_76 : decode cX2_set 76 = .ok (.aload 5, 2) := dk_25 5 (dk_at dksX2_set_3 7 rfl rfl)
theorem dX2_set_78 : decode cX2_set 78 = .ok (.iload_n 3, 1) := dk_29 (dk_at dksX2_set_3 9 rfl rfl)
theorem dX2_set_79 : decode cX2_set 79 = .ok (.invokevirtual 331, 3) := dk_182 1 75 (dk_at dksX2_set_3 10 rfl rfl)
theorem dX2_set_82 : decode cX2_set 82 = .ok (.iconst 1, 1) := dk_4 (dk_at dksX2_set_3 13 rfl rfl)
theorem dX2_set_83 : decode cX2_set 83 = .ok (.ireturn, 1) := dk_172 (dk_at dksX2_set_3 14 rfl rfl)
abbrev cX2_take : ByteArray := prog_1_method_39_code
def yX2_take : MethodName := ⟨RX2, "take", "(I)Z"⟩
def dkwX2_take_1 : List UInt8 := [182, 1, 37, 44, 182, 1, 72, 4, 172]
abbrev dktX2_take_1 : List UInt8 := dkwX2_take_1 ++ []
def dkwX2_take_0 : List UInt8 := [42, 27, 182, 1, 57, 77, 44, 198, 0, 10, 44, 180, 1, 79, 199, 0, 9, 42, 6, 182, 0, 89, 172, 42]
abbrev dktX2_take_0 : List UInt8 := dkwX2_take_0 ++ dktX2_take_1
theorem dksX2_take_0 : cX2_take.data.toList.drop 0 = dktX2_take_0 := by decide +kernel
theorem dksX2_take_1 : cX2_take.data.toList.drop 24 = dktX2_take_1 := dk_seg dksX2_take_0 24 rfl rfl
theorem dX2_take_0 : decode cX2_take 0 = .ok (.aload_n 0, 1) := dk_42 (dk_at dksX2_take_0 0 rfl rfl)
theorem dX2_take_1 : decode cX2_take 1 = .ok (.iload_n 1, 1) := dk_27 (dk_at dksX2_take_0 1 rfl rfl)
theorem dX2_take_2 : decode cX2_take 2 = .ok (.invokevirtual 313, 3) := dk_182 1 57 (dk_at dksX2_take_0 2 rfl rfl)
theorem dX2_take_5 : decode cX2_take 5 = .ok (.astore_n 2, 1) := dk_77 (dk_at dksX2_take_0 5 rfl rfl)
theorem dX2_take_6 : decode cX2_take 6 = .ok (.aload_n 2, 1) := dk_44 (dk_at dksX2_take_0 6 rfl rfl)
theorem dX2_take_7 : decode cX2_take 7 = .ok (.ifnull 10, 3) := dk_198 0 10 (dk_at dksX2_take_0 7 rfl rfl)
theorem dX2_take_10 : decode cX2_take 10 = .ok (.aload_n 2, 1) := dk_44 (dk_at dksX2_take_0 10 rfl rfl)
theorem dX2_take_11 : decode cX2_take 11 = .ok (.getfield 335, 3) := dk_180 1 79 (dk_at dksX2_take_0 11 rfl rfl)
theorem dX2_take_14 : decode cX2_take 14 = .ok (.ifnonnull 9, 3) := dk_199 0 9 (dk_at dksX2_take_0 14 rfl rfl)
theorem dX2_take_17 : decode cX2_take 17 = .ok (.aload_n 0, 1) := dk_42 (dk_at dksX2_take_0 17 rfl rfl)
theorem dX2_take_18 : decode cX2_take 18 = .ok (.iconst 3, 1) := dk_6 (dk_at dksX2_take_0 18 rfl rfl)
theorem dX2_take_19 : decode cX2_take 19 = .ok (.invokevirtual 89, 3) := dk_182 0 89 (dk_at dksX2_take_0 19 rfl rfl)
theorem dX2_take_22 : decode cX2_take 22 = .ok (.ireturn, 1) := dk_172 (dk_at dksX2_take_0 22 rfl rfl)
theorem dX2_take_23 : decode cX2_take 23 = .ok (.aload_n 0, 1) := dk_42 (dk_at dksX2_take_0 23 rfl rfl)
theorem dX2_take_24 : decode cX2_take 24 = .ok (.invokevirtual 293, 3) := dk_182 1 37 (dk_at dksX2_take_1 0 rfl rfl)
theorem dX2_take_27 : decode cX2_take 27 = .ok (.aload_n 2, 1) := dk_44 (dk_at dksX2_take_1 3 rfl rfl)
theorem dX2_take_28 : decode cX2_take 28 = .ok (.invokevirtual 328, 3) := dk_182 1 72 (dk_at dksX2_take_1 4 rfl rfl)
theorem dX2_take_31 : decode cX2_take 31 = .ok (.iconst 1, 1) := dk_4 (dk_at dksX2_take_1 7 rfl rfl)
theorem dX2_take_32 : decode cX2_take 32 = .ok (.ireturn, 1) := dk_172 (dk_at dksX2_take_1 8 rfl rfl)
abbrev cX2_light : ByteArray := prog_1_method_40_code
def yX2_light : MethodName := ⟨RX2, "light", "(II)Z"⟩
def dkwX2_light_2 : List UInt8 := [172]
abbrev dktX2_light_2 : List UInt8 := dkwX2_light_2 ++ []
def dkwX2_light_1 : List UInt8 := [45, 180, 0, 211, 28, 160, 0, 9, 42, 6, 182, 0, 89, 172, 42, 182, 1, 37, 45, 28, 181, 0, 211, 4]
abbrev dktX2_light_1 : List UInt8 := dkwX2_light_1 ++ dktX2_light_2
def dkwX2_light_0 : List UInt8 := [42, 27, 182, 1, 61, 78, 45, 198, 0, 25, 28, 133, 20, 1, 83, 20, 1, 85, 184, 0, 95, 153, 0, 11]
abbrev dktX2_light_0 : List UInt8 := dkwX2_light_0 ++ dktX2_light_1
theorem dksX2_light_0 : cX2_light.data.toList.drop 0 = dktX2_light_0 := by decide +kernel
theorem dksX2_light_1 : cX2_light.data.toList.drop 24 = dktX2_light_1 := dk_seg dksX2_light_0 24 rfl rfl
theorem dksX2_light_2 : cX2_light.data.toList.drop 48 = dktX2_light_2 := dk_seg dksX2_light_1 24 rfl rfl
theorem dX2_light_0 : decode cX2_light 0 = .ok (.aload_n 0, 1) := dk_42 (dk_at dksX2_light_0 0 rfl rfl)
theorem dX2_light_1 : decode cX2_light 1 = .ok (.iload_n 1, 1) := dk_27 (dk_at dksX2_light_0 1 rfl rfl)
theorem dX2_light_2 : decode cX2_light 2 = .ok (.invokevirtual 317, 3) := dk_182 1 61 (dk_at dksX2_light_0 2 rfl rfl)
theorem dX2_light_5 : decode cX2_light 5 = .ok (.astore_n 3, 1) := dk_78 (dk_at dksX2_light_0 5 rfl rfl)
theorem dX2_light_6 : decode cX2_light 6 = .ok (.aload_n 3, 1) := dk_45 (dk_at dksX2_light_0 6 rfl rfl)
theorem dX2_light_7 : decode cX2_light 7 = .ok (.ifnull 25, 3) := dk_198 0 25 (dk_at dksX2_light_0 7 rfl rfl)
theorem dX2_light_10 : decode cX2_light 10 = .ok (.iload_n 2, 1) := dk_28 (dk_at dksX2_light_0 10 rfl rfl)
theorem dX2_light_11 : decode cX2_light 11 = .ok (.i2l, 1) := dk_133 (dk_at dksX2_light_0 11 rfl rfl)
theorem dX2_light_12 : decode cX2_light 12 = .ok (.ldc2_w 339, 3) := dk_20 1 83 (dk_at dksX2_light_0 12 rfl rfl)
theorem dX2_light_15 : decode cX2_light 15 = .ok (.ldc2_w 341, 3) := dk_20 1 85 (dk_at dksX2_light_0 15 rfl rfl)
theorem dX2_light_18 : decode cX2_light 18 = .ok (.invokestatic 95, 3) := dk_184 0 95 (dk_at dksX2_light_0 18 rfl rfl)
theorem dX2_light_21 : decode cX2_light 21 = .ok (.ifCond .eq 11, 3) := dk_153 0 11 (dk_at dksX2_light_0 21 rfl rfl)
theorem dX2_light_24 : decode cX2_light 24 = .ok (.aload_n 3, 1) := dk_45 (dk_at dksX2_light_1 0 rfl rfl)
theorem dX2_light_25 : decode cX2_light 25 = .ok (.getfield 211, 3) := dk_180 0 211 (dk_at dksX2_light_1 1 rfl rfl)
theorem dX2_light_28 : decode cX2_light 28 = .ok (.iload_n 2, 1) := dk_28 (dk_at dksX2_light_1 4 rfl rfl)
theorem dX2_light_29 : decode cX2_light 29 = .ok (.if_icmp .ne 9, 3) := dk_160 0 9 (dk_at dksX2_light_1 5 rfl rfl)
theorem dX2_light_32 : decode cX2_light 32 = .ok (.aload_n 0, 1) := dk_42 (dk_at dksX2_light_1 8 rfl rfl)
theorem dX2_light_33 : decode cX2_light 33 = .ok (.iconst 3, 1) := dk_6 (dk_at dksX2_light_1 9 rfl rfl)
theorem dX2_light_34 : decode cX2_light 34 = .ok (.invokevirtual 89, 3) := dk_182 0 89 (dk_at dksX2_light_1 10 rfl rfl)
theorem dX2_light_37 : decode cX2_light 37 = .ok (.ireturn, 1) := dk_172 (dk_at dksX2_light_1 13 rfl rfl)
theorem dX2_light_38 : decode cX2_light 38 = .ok (.aload_n 0, 1) := dk_42 (dk_at dksX2_light_1 14 rfl rfl)
theorem dX2_light_39 : decode cX2_light 39 = .ok (.invokevirtual 293, 3) := dk_182 1 37 (dk_at dksX2_light_1 15 rfl rfl)
theorem dX2_light_42 : decode cX2_light 42 = .ok (.aload_n 3, 1) := dk_45 (dk_at dksX2_light_1 18 rfl rfl)
theorem dX2_light_43 : decode cX2_light 43 = .ok (.iload_n 2, 1) := dk_28 (dk_at dksX2_light_1 19 rfl rfl)
theorem dX2_light_44 : decode cX2_light 44 = .ok (.putfield 211, 3) := dk_181 0 211 (dk_at dksX2_light_1 20 rfl rfl)
theorem dX2_light_47 : decode cX2_light 47 = .ok (.iconst 1, 1) := dk_4 (dk_at dksX2_light_1 23 rfl rfl)
theorem dX2_light_48 : decode cX2_light 48 = .ok (.ireturn, 1) := dk_172 (dk_at dksX2_light_2 0 rfl rfl)
abbrev cX2_seen : ByteArray := prog_1_method_64_code
def yX2_seen : MethodName := ⟨RX2, "seen", "()I"⟩
def dkwX2_seen_0 : List UInt8 := [42, 186, 1, 184, 0, 0, 184, 1, 137, 172]
abbrev dktX2_seen_0 : List UInt8 := dkwX2_seen_0 ++ []
theorem dksX2_seen_0 : cX2_seen.data.toList.drop 0 = dktX2_seen_0 := by decide +kernel
theorem dX2_seen_0 : decode cX2_seen 0 = .ok (.aload_n 0, 1) := dk_42 (dk_at dksX2_seen_0 0 rfl rfl)
theorem dX2_seen_1 : decode cX2_seen 1 = .ok (.invokedynamic 440, 5) := by decide +kernel
theorem dX2_seen_6 : decode cX2_seen 6 = .ok (.invokestatic 393, 3) := dk_184 1 137 (dk_at dksX2_seen_0 6 rfl rfl)
theorem dX2_seen_9 : decode cX2_seen 9 = .ok (.ireturn, 1) := dk_172 (dk_at dksX2_seen_0 9 rfl rfl)
abbrev cX2_lambda_seen_7 : ByteArray := prog_1_method_78_code
def yX2_lambda_seen_7 : MethodName := ⟨RX2, "lambda$seen$7", "(I)Z"⟩
def dkwX2_lambda_seen_7_0 : List UInt8 := [42, 27, 182, 1, 225, 172]
abbrev dktX2_lambda_seen_7_0 : List UInt8 := dkwX2_lambda_seen_7_0 ++ []
theorem dksX2_lambda_seen_7_0 : cX2_lambda_seen_7.data.toList.drop 0 = dktX2_lambda_seen_7_0 := by decide +kernel
theorem dX2_lambda_seen_7_0 : decode cX2_lambda_seen_7 0 = .ok (.aload_n 0, 1) := dk_42 (dk_at dksX2_lambda_seen_7_0 0 rfl rfl)
theorem dX2_lambda_seen_7_1 : decode cX2_lambda_seen_7 1 = .ok (.iload_n 1, 1) := dk_27 (dk_at dksX2_lambda_seen_7_0 1 rfl rfl)
theorem dX2_lambda_seen_7_2 : decode cX2_lambda_seen_7 2 = .ok (.invokevirtual 481, 3) := dk_182 1 225 (dk_at dksX2_lambda_seen_7_0 2 rfl rfl)
theorem dX2_lambda_seen_7_5 : decode cX2_lambda_seen_7 5 = .ok (.ireturn, 1) := dk_172 (dk_at dksX2_lambda_seen_7_0 5 rfl rfl)
abbrev cX2_isAsSeen : ByteArray := prog_1_method_63_code
def yX2_isAsSeen : MethodName := ⟨RX2, "isAsSeen", "(I)Z"⟩
def dkwX2_isAsSeen_2 : List UInt8 := [182, 0, 192, 45, 5, 46, 159, 0, 5, 3, 172, 132, 2, 1, 167, 255, 198, 4, 172]
abbrev dktX2_isAsSeen_2 : List UInt8 := dkwX2_isAsSeen_2 ++ []
def dkwX2_isAsSeen_1 : List UInt8 := [78, 42, 42, 180, 0, 20, 180, 0, 143, 45, 3, 46, 182, 0, 139, 192, 0, 150, 27, 45, 4, 46]
abbrev dktX2_isAsSeen_1 : List UInt8 := dkwX2_isAsSeen_1 ++ dktX2_isAsSeen_2
def dkwX2_isAsSeen_0 : List UInt8 := [3, 61, 28, 42, 180, 0, 35, 182, 0, 136, 162, 0, 53, 42, 180, 0, 35, 28, 182, 0, 139, 192, 1, 89]
abbrev dktX2_isAsSeen_0 : List UInt8 := dkwX2_isAsSeen_0 ++ dktX2_isAsSeen_1
theorem dksX2_isAsSeen_0 : cX2_isAsSeen.data.toList.drop 0 = dktX2_isAsSeen_0 := by decide +kernel
theorem dksX2_isAsSeen_1 : cX2_isAsSeen.data.toList.drop 24 = dktX2_isAsSeen_1 := dk_seg dksX2_isAsSeen_0 24 rfl rfl
theorem dksX2_isAsSeen_2 : cX2_isAsSeen.data.toList.drop 46 = dktX2_isAsSeen_2 := dk_seg dksX2_isAsSeen_1 22 rfl rfl
theorem dX2_isAsSeen_0 : decode cX2_isAsSeen 0 = .ok (.iconst 0, 1) := dk_3 (dk_at dksX2_isAsSeen_0 0 rfl rfl)
theorem dX2_isAsSeen_1 : decode cX2_isAsSeen 1 = .ok (.istore_n 2, 1) := dk_61 (dk_at dksX2_isAsSeen_0 1 rfl rfl)
theorem dX2_isAsSeen_2 : decode cX2_isAsSeen 2 = .ok (.iload_n 2, 1) := dk_28 (dk_at dksX2_isAsSeen_0 2 rfl rfl)
theorem dX2_isAsSeen_3 : decode cX2_isAsSeen 3 = .ok (.aload_n 0, 1) := dk_42 (dk_at dksX2_isAsSeen_0 3 rfl rfl)
theorem dX2_isAsSeen_4 : decode cX2_isAsSeen 4 = .ok (.getfield 35, 3) := dk_180 0 35 (dk_at dksX2_isAsSeen_0 4 rfl rfl)
theorem dX2_isAsSeen_7 : decode cX2_isAsSeen 7 = .ok (.invokevirtual 136, 3) := dk_182 0 136 (dk_at dksX2_isAsSeen_0 7 rfl rfl)
theorem dX2_isAsSeen_10 : decode cX2_isAsSeen 10 = .ok (.if_icmp .ge 53, 3) := dk_162 0 53 (dk_at dksX2_isAsSeen_0 10 rfl rfl)
theorem dX2_isAsSeen_13 : decode cX2_isAsSeen 13 = .ok (.aload_n 0, 1) := dk_42 (dk_at dksX2_isAsSeen_0 13 rfl rfl)
theorem dX2_isAsSeen_14 : decode cX2_isAsSeen 14 = .ok (.getfield 35, 3) := dk_180 0 35 (dk_at dksX2_isAsSeen_0 14 rfl rfl)
theorem dX2_isAsSeen_17 : decode cX2_isAsSeen 17 = .ok (.iload_n 2, 1) := dk_28 (dk_at dksX2_isAsSeen_0 17 rfl rfl)
theorem dX2_isAsSeen_18 : decode cX2_isAsSeen 18 = .ok (.invokevirtual 139, 3) := dk_182 0 139 (dk_at dksX2_isAsSeen_0 18 rfl rfl)
theorem dX2_isAsSeen_21 : decode cX2_isAsSeen 21 = .ok (.checkcast 345, 3) := dk_192 1 89 (dk_at dksX2_isAsSeen_0 21 rfl rfl)
theorem dX2_isAsSeen_24 : decode cX2_isAsSeen 24 = .ok (.astore_n 3, 1) := dk_78 (dk_at dksX2_isAsSeen_1 0 rfl rfl)
theorem dX2_isAsSeen_25 : decode cX2_isAsSeen 25 = .ok (.aload_n 0, 1) := dk_42 (dk_at dksX2_isAsSeen_1 1 rfl rfl)
theorem dX2_isAsSeen_26 : decode cX2_isAsSeen 26 = .ok (.aload_n 0, 1) := dk_42 (dk_at dksX2_isAsSeen_1 2 rfl rfl)
theorem dX2_isAsSeen_27 : decode cX2_isAsSeen 27 = .ok (.getfield 20, 3) := dk_180 0 20 (dk_at dksX2_isAsSeen_1 3 rfl rfl)
theorem dX2_isAsSeen_30 : decode cX2_isAsSeen 30 = .ok (.getfield 143, 3) := dk_180 0 143 (dk_at dksX2_isAsSeen_1 6 rfl rfl)
theorem dX2_isAsSeen_33 : decode cX2_isAsSeen 33 = .ok (.aload_n 3, 1) := dk_45 (dk_at dksX2_isAsSeen_1 9 rfl rfl)
theorem dX2_isAsSeen_34 : decode cX2_isAsSeen 34 = .ok (.iconst 0, 1) := dk_3 (dk_at dksX2_isAsSeen_1 10 rfl rfl)
theorem dX2_isAsSeen_35 : decode cX2_isAsSeen 35 = .ok (.iaload, 1) := dk_46 (dk_at dksX2_isAsSeen_1 11 rfl rfl)
theorem dX2_isAsSeen_36 : decode cX2_isAsSeen 36 = .ok (.invokevirtual 139, 3) := dk_182 0 139 (dk_at dksX2_isAsSeen_1 12 rfl rfl)
theorem dX2_isAsSeen_39 : decode cX2_isAsSeen 39 = .ok (.checkcast 150, 3) := dk_192 0 150 (dk_at dksX2_isAsSeen_1 15 rfl rfl)
theorem dX2_isAsSeen_42 : decode cX2_isAsSeen 42 = .ok (.iload_n 1, 1) := dk_27 (dk_at dksX2_isAsSeen_1 18 rfl rfl)
theorem dX2_isAsSeen_43 : decode cX2_isAsSeen 43 = .ok (.aload_n 3, 1) := dk_45 (dk_at dksX2_isAsSeen_1 19 rfl rfl)
theorem dX2_isAsSeen_44 : decode cX2_isAsSeen 44 = .ok (.iconst 1, 1) := dk_4 (dk_at dksX2_isAsSeen_1 20 rfl rfl)
theorem dX2_isAsSeen_45 : decode cX2_isAsSeen 45 = .ok (.iaload, 1) := dk_46 (dk_at dksX2_isAsSeen_1 21 rfl rfl)
theorem dX2_isAsSeen_46 : decode cX2_isAsSeen 46 = .ok (.invokevirtual 192, 3) := dk_182 0 192 (dk_at dksX2_isAsSeen_2 0 rfl rfl)
theorem dX2_isAsSeen_49 : decode cX2_isAsSeen 49 = .ok (.aload_n 3, 1) := dk_45 (dk_at dksX2_isAsSeen_2 3 rfl rfl)
theorem dX2_isAsSeen_50 : decode cX2_isAsSeen 50 = .ok (.iconst 2, 1) := dk_5 (dk_at dksX2_isAsSeen_2 4 rfl rfl)
theorem dX2_isAsSeen_51 : decode cX2_isAsSeen 51 = .ok (.iaload, 1) := dk_46 (dk_at dksX2_isAsSeen_2 5 rfl rfl)
theorem dX2_isAsSeen_52 : decode cX2_isAsSeen 52 = .ok (.if_icmp .eq 5, 3) := dk_159 0 5 (dk_at dksX2_isAsSeen_2 6 rfl rfl)
theorem dX2_isAsSeen_55 : decode cX2_isAsSeen 55 = .ok (.iconst 0, 1) := dk_3 (dk_at dksX2_isAsSeen_2 9 rfl rfl)
theorem dX2_isAsSeen_56 : decode cX2_isAsSeen 56 = .ok (.ireturn, 1) := dk_172 (dk_at dksX2_isAsSeen_2 10 rfl rfl)
theorem dX2_isAsSeen_57 : decode cX2_isAsSeen 57 = .ok (.iinc 2 1, 3) := dk_132 2 1 (dk_at dksX2_isAsSeen_2 11 rfl rfl)
theorem dX2_isAsSeen_60 : decode cX2_isAsSeen 60 = .ok (.goto (-58), 3) := dk_167 255 198 (dk_at dksX2_isAsSeen_2 14 rfl rfl)
theorem dX2_isAsSeen_63 : decode cX2_isAsSeen 63 = .ok (.iconst 1, 1) := dk_4 (dk_at dksX2_isAsSeen_2 17 rfl rfl)
theorem dX2_isAsSeen_64 : decode cX2_isAsSeen 64 = .ok (.ireturn, 1) := dk_172 (dk_at dksX2_isAsSeen_2 18 rfl rfl)
abbrev cX2_see : ByteArray := prog_1_method_62_code
def yX2_see : MethodName := ⟨RX2, "see", "()I"⟩
def dkwX2_see_3 : List UInt8 := [78, 42, 180, 0, 35, 45, 182, 1, 5, 87, 132, 2, 3, 167, 255, 204, 42, 180, 0, 35, 182, 0, 136, 172]
abbrev dktX2_see_3 : List UInt8 := dkwX2_see_3 ++ []
def dkwX2_see_2 : List UInt8 := [52, 79, 89, 4, 42, 180, 0, 9, 28, 4, 96, 52, 79, 89, 5, 42, 180, 0, 9, 28, 5, 96, 52, 79]
abbrev dktX2_see_2 : List UInt8 := dkwX2_see_2 ++ dktX2_see_3
def dkwX2_see_1 : List UInt8 := [42, 180, 0, 35, 182, 0, 122, 3, 61, 28, 27, 162, 0, 53, 6, 188, 10, 89, 3, 42, 180, 0, 9, 28]
abbrev dktX2_see_1 : List UInt8 := dkwX2_see_1 ++ dktX2_see_2
def dkwX2_see_0 : List UInt8 := [42, 180, 0, 82, 60, 42, 3, 181, 0, 82, 42, 27, 182, 1, 181, 154, 0, 9, 42, 8, 182, 0, 78, 172]
abbrev dktX2_see_0 : List UInt8 := dkwX2_see_0 ++ dktX2_see_1
theorem dksX2_see_0 : cX2_see.data.toList.drop 0 = dktX2_see_0 := by decide +kernel
theorem dksX2_see_1 : cX2_see.data.toList.drop 24 = dktX2_see_1 := dk_seg dksX2_see_0 24 rfl rfl
theorem dksX2_see_2 : cX2_see.data.toList.drop 48 = dktX2_see_2 := dk_seg dksX2_see_1 24 rfl rfl
theorem dksX2_see_3 : cX2_see.data.toList.drop 72 = dktX2_see_3 := dk_seg dksX2_see_2 24 rfl rfl
theorem dX2_see_0 : decode cX2_see 0 = .ok (.aload_n 0, 1) := dk_42 (dk_at dksX2_see_0 0 rfl rfl)
theorem dX2_see_1 : decode cX2_see 1 = .ok (.getfield 82, 3) := dk_180 0 82 (dk_at dksX2_see_0 1 rfl rfl)
theorem dX2_see_4 : decode cX2_see 4 = .ok (.istore_n 1, 1) := dk_60 (dk_at dksX2_see_0 4 rfl rfl)
theorem dX2_see_5 : decode cX2_see 5 = .ok (.aload_n 0, 1) := dk_42 (dk_at dksX2_see_0 5 rfl rfl)
theorem dX2_see_6 : decode cX2_see 6 = .ok (.iconst 0, 1) := dk_3 (dk_at dksX2_see_0 6 rfl rfl)
theorem dX2_see_7 : decode cX2_see 7 = .ok (.putfield 82, 3) := dk_181 0 82 (dk_at dksX2_see_0 7 rfl rfl)
theorem dX2_see_10 : decode cX2_see 10 = .ok (.aload_n 0, 1) := dk_42 (dk_at dksX2_see_0 10 rfl rfl)
theorem dX2_see_11 : decode cX2_see 11 = .ok (.iload_n 1, 1) := dk_27 (dk_at dksX2_see_0 11 rfl rfl)
theorem dX2_see_12 : decode cX2_see 12 = .ok (.invokevirtual 437, 3) := dk_182 1 181 (dk_at dksX2_see_0 12 rfl rfl)
theorem dX2_see_15 : decode cX2_see 15 = .ok (.ifCond .ne 9, 3) := dk_154 0 9 (dk_at dksX2_see_0 15 rfl rfl)
theorem dX2_see_18 : decode cX2_see 18 = .ok (.aload_n 0, 1) := dk_42 (dk_at dksX2_see_0 18 rfl rfl)
theorem dX2_see_19 : decode cX2_see 19 = .ok (.iconst 5, 1) := dk_8 (dk_at dksX2_see_0 19 rfl rfl)
theorem dX2_see_20 : decode cX2_see 20 = .ok (.invokevirtual 78, 3) := dk_182 0 78 (dk_at dksX2_see_0 20 rfl rfl)
theorem dX2_see_23 : decode cX2_see 23 = .ok (.ireturn, 1) := dk_172 (dk_at dksX2_see_0 23 rfl rfl)
theorem dX2_see_24 : decode cX2_see 24 = .ok (.aload_n 0, 1) := dk_42 (dk_at dksX2_see_1 0 rfl rfl)
theorem dX2_see_25 : decode cX2_see 25 = .ok (.getfield 35, 3) := dk_180 0 35 (dk_at dksX2_see_1 1 rfl rfl)
theorem dX2_see_28 : decode cX2_see 28 = .ok (.invokevirtual 122, 3) := dk_182 0 122 (dk_at dksX2_see_1 4 rfl rfl)
theorem dX2_see_31 : decode cX2_see 31 = .ok (.iconst 0, 1) := dk_3 (dk_at dksX2_see_1 7 rfl rfl)
theorem dX2_see_32 : decode cX2_see 32 = .ok (.istore_n 2, 1) := dk_61 (dk_at dksX2_see_1 8 rfl rfl)
theorem dX2_see_33 : decode cX2_see 33 = .ok (.iload_n 2, 1) := dk_28 (dk_at dksX2_see_1 9 rfl rfl)
theorem dX2_see_34 : decode cX2_see 34 = .ok (.iload_n 1, 1) := dk_27 (dk_at dksX2_see_1 10 rfl rfl)
theorem dX2_see_35 : decode cX2_see 35 = .ok (.if_icmp .ge 53, 3) := dk_162 0 53 (dk_at dksX2_see_1 11 rfl rfl)
theorem dX2_see_38 : decode cX2_see 38 = .ok (.iconst 3, 1) := dk_6 (dk_at dksX2_see_1 14 rfl rfl)
theorem dX2_see_39 : decode cX2_see 39 = .ok (.newarray .int, 2) := dk_188_10 (dk_at dksX2_see_1 15 rfl rfl)
theorem dX2_see_41 : decode cX2_see 41 = .ok (.dup, 1) := dk_89 (dk_at dksX2_see_1 17 rfl rfl)
theorem dX2_see_42 : decode cX2_see 42 = .ok (.iconst 0, 1) := dk_3 (dk_at dksX2_see_1 18 rfl rfl)
theorem dX2_see_43 : decode cX2_see 43 = .ok (.aload_n 0, 1) := dk_42 (dk_at dksX2_see_1 19 rfl rfl)
theorem dX2_see_44 : decode cX2_see 44 = .ok (.getfield 9, 3) := dk_180 0 9 (dk_at dksX2_see_1 20 rfl rfl)
theorem dX2_see_47 : decode cX2_see 47 = .ok (.iload_n 2, 1) := dk_28 (dk_at dksX2_see_1 23 rfl rfl)
theorem dX2_see_48 : decode cX2_see 48 = .ok (.caload, 1) := dk_52 (dk_at dksX2_see_2 0 rfl rfl)
theorem dX2_see_49 : decode cX2_see 49 = .ok (.iastore, 1) := dk_79 (dk_at dksX2_see_2 1 rfl rfl)
theorem dX2_see_50 : decode cX2_see 50 = .ok (.dup, 1) := dk_89 (dk_at dksX2_see_2 2 rfl rfl)
theorem dX2_see_51 : decode cX2_see 51 = .ok (.iconst 1, 1) := dk_4 (dk_at dksX2_see_2 3 rfl rfl)
theorem dX2_see_52 : decode cX2_see 52 = .ok (.aload_n 0, 1) := dk_42 (dk_at dksX2_see_2 4 rfl rfl)
theorem dX2_see_53 : decode cX2_see 53 = .ok (.getfield 9, 3) := dk_180 0 9 (dk_at dksX2_see_2 5 rfl rfl)
theorem dX2_see_56 : decode cX2_see 56 = .ok (.iload_n 2, 1) := dk_28 (dk_at dksX2_see_2 8 rfl rfl)
theorem dX2_see_57 : decode cX2_see 57 = .ok (.iconst 1, 1) := dk_4 (dk_at dksX2_see_2 9 rfl rfl)
theorem dX2_see_58 : decode cX2_see 58 = .ok (.iadd, 1) := dk_96 (dk_at dksX2_see_2 10 rfl rfl)
theorem dX2_see_59 : decode cX2_see 59 = .ok (.caload, 1) := dk_52 (dk_at dksX2_see_2 11 rfl rfl)
theorem dX2_see_60 : decode cX2_see 60 = .ok (.iastore, 1) := dk_79 (dk_at dksX2_see_2 12 rfl rfl)
theorem dX2_see_61 : decode cX2_see 61 = .ok (.dup, 1) := dk_89 (dk_at dksX2_see_2 13 rfl rfl)
theorem dX2_see_62 : decode cX2_see 62 = .ok (.iconst 2, 1) := dk_5 (dk_at dksX2_see_2 14 rfl rfl)
theorem dX2_see_63 : decode cX2_see 63 = .ok (.aload_n 0, 1) := dk_42 (dk_at dksX2_see_2 15 rfl rfl)
theorem dX2_see_64 : decode cX2_see 64 = .ok (.getfield 9, 3) := dk_180 0 9 (dk_at dksX2_see_2 16 rfl rfl)
theorem dX2_see_67 : decode cX2_see 67 = .ok (.iload_n 2, 1) := dk_28 (dk_at dksX2_see_2 19 rfl rfl)
theorem dX2_see_68 : decode cX2_see 68 = .ok (.iconst 2, 1) := dk_5 (dk_at dksX2_see_2 20 rfl rfl)
theorem dX2_see_69 : decode cX2_see 69 = .ok (.iadd, 1) := dk_96 (dk_at dksX2_see_2 21 rfl rfl)
theorem dX2_see_70 : decode cX2_see 70 = .ok (.caload, 1) := dk_52 (dk_at dksX2_see_2 22 rfl rfl)
theorem dX2_see_71 : decode cX2_see 71 = .ok (.iastore, 1) := dk_79 (dk_at dksX2_see_2 23 rfl rfl)
theorem dX2_see_72 : decode cX2_see 72 = .ok (.astore_n 3, 1) := dk_78 (dk_at dksX2_see_3 0 rfl rfl)
theorem dX2_see_73 : decode cX2_see 73 = .ok (.aload_n 0, 1) := dk_42 (dk_at dksX2_see_3 1 rfl rfl)
theorem dX2_see_74 : decode cX2_see 74 = .ok (.getfield 35, 3) := dk_180 0 35 (dk_at dksX2_see_3 2 rfl rfl)
theorem dX2_see_77 : decode cX2_see 77 = .ok (.aload_n 3, 1) := dk_45 (dk_at dksX2_see_3 5 rfl rfl)
theorem dX2_see_78 : decode cX2_see 78 = .ok (.invokevirtual 261, 3) := dk_182 1 5 (dk_at dksX2_see_3 6 rfl rfl)
theorem dX2_see_81 : decode cX2_see 81 = .ok (.pop, 1) := dk_87 (dk_at dksX2_see_3 9 rfl rfl)
theorem dX2_see_82 : decode cX2_see 82 = .ok (.iinc 2 3, 3) := dk_132 2 3 (dk_at dksX2_see_3 10 rfl rfl)
theorem dX2_see_85 : decode cX2_see 85 = .ok (.goto (-52), 3) := dk_167 255 204 (dk_at dksX2_see_3 13 rfl rfl)
theorem dX2_see_88 : decode cX2_see 88 = .ok (.aload_n 0, 1) := dk_42 (dk_at dksX2_see_3 16 rfl rfl)
theorem dX2_see_89 : decode cX2_see 89 = .ok (.getfield 35, 3) := dk_180 0 35 (dk_at dksX2_see_3 17 rfl rfl)
theorem dX2_see_92 : decode cX2_see 92 = .ok (.invokevirtual 136, 3) := dk_182 0 136 (dk_at dksX2_see_3 20 rfl rfl)
theorem dX2_see_95 : decode cX2_see 95 = .ok (.ireturn, 1) := dk_172 (dk_at dksX2_see_3 23 rfl rfl)
abbrev cX2_areRows : ByteArray := prog_1_method_61_code
def yX2_areRows : MethodName := ⟨RX2, "areRows", "(I)Z"⟩
def dkwX2_areRows_3 : List UInt8 := [167, 255, 207, 4, 172]
abbrev dktX2_areRows_3 : List UInt8 := dkwX2_areRows_3 ++ []
def dkwX2_areRows_2 : List UInt8 := [16, 6, 162, 0, 16, 42, 180, 0, 9, 28, 5, 96, 52, 16, 99, 164, 0, 5, 3, 172, 132, 2, 3]
abbrev dktX2_areRows_2 : List UInt8 := dkwX2_areRows_2 ++ dktX2_areRows_3
def dkwX2_areRows_1 : List UInt8 := [162, 0, 50, 42, 42, 180, 0, 9, 28, 52, 182, 1, 57, 198, 0, 29, 42, 180, 0, 9, 28, 4, 96, 52]
abbrev dktX2_areRows_1 : List UInt8 := dkwX2_areRows_1 ++ dktX2_areRows_2
def dkwX2_areRows_0 : List UInt8 := [27, 153, 0, 17, 27, 6, 112, 154, 0, 11, 27, 6, 108, 16, 16, 164, 0, 5, 3, 172, 3, 61, 28, 27]
abbrev dktX2_areRows_0 : List UInt8 := dkwX2_areRows_0 ++ dktX2_areRows_1
theorem dksX2_areRows_0 : cX2_areRows.data.toList.drop 0 = dktX2_areRows_0 := by decide +kernel
theorem dksX2_areRows_1 : cX2_areRows.data.toList.drop 24 = dktX2_areRows_1 := dk_seg dksX2_areRows_0 24 rfl rfl
theorem dksX2_areRows_2 : cX2_areRows.data.toList.drop 48 = dktX2_areRows_2 := dk_seg dksX2_areRows_1 24 rfl rfl
theorem dksX2_areRows_3 : cX2_areRows.data.toList.drop 71 = dktX2_areRows_3 := dk_seg dksX2_areRows_2 23 rfl rfl
theorem dX2_areRows_0 : decode cX2_areRows 0 = .ok (.iload_n 1, 1) := dk_27 (dk_at dksX2_areRows_0 0 rfl rfl)
theorem dX2_areRows_1 : decode cX2_areRows 1 = .ok (.ifCond .eq 17, 3) := dk_153 0 17 (dk_at dksX2_areRows_0 1 rfl rfl)
theorem dX2_areRows_4 : decode cX2_areRows 4 = .ok (.iload_n 1, 1) := dk_27 (dk_at dksX2_areRows_0 4 rfl rfl)
theorem dX2_areRows_5 : decode cX2_areRows 5 = .ok (.iconst 3, 1) := dk_6 (dk_at dksX2_areRows_0 5 rfl rfl)
theorem dX2_areRows_6 : decode cX2_areRows 6 = .ok (.irem, 1) := dk_112 (dk_at dksX2_areRows_0 6 rfl rfl)
theorem dX2_areRows_7 : decode cX2_areRows 7 = .ok (.ifCond .ne 11, 3) := dk_154 0 11 (dk_at dksX2_areRows_0 7 rfl rfl)
theorem dX2_areRows_10 : decode cX2_areRows 10 = .ok (.iload_n 1, 1) := dk_27 (dk_at dksX2_areRows_0 10 rfl rfl)
theorem dX2_areRows_11 : decode cX2_areRows 11 = .ok (.iconst 3, 1) := dk_6 (dk_at dksX2_areRows_0 11 rfl rfl)
theorem dX2_areRows_12 : decode cX2_areRows 12 = .ok (.idiv, 1) := dk_108 (dk_at dksX2_areRows_0 12 rfl rfl)
theorem dX2_areRows_13 : decode cX2_areRows 13 = .ok (.bipush 16, 2) := dk_16 16 (dk_at dksX2_areRows_0 13 rfl rfl)
theorem dX2_areRows_15 : decode cX2_areRows 15 = .ok (.if_icmp .le 5, 3) := dk_164 0 5 (dk_at dksX2_areRows_0 15 rfl rfl)
theorem dX2_areRows_18 : decode cX2_areRows 18 = .ok (.iconst 0, 1) := dk_3 (dk_at dksX2_areRows_0 18 rfl rfl)
theorem dX2_areRows_19 : decode cX2_areRows 19 = .ok (.ireturn, 1) := dk_172 (dk_at dksX2_areRows_0 19 rfl rfl)
theorem dX2_areRows_20 : decode cX2_areRows 20 = .ok (.iconst 0, 1) := dk_3 (dk_at dksX2_areRows_0 20 rfl rfl)
theorem dX2_areRows_21 : decode cX2_areRows 21 = .ok (.istore_n 2, 1) := dk_61 (dk_at dksX2_areRows_0 21 rfl rfl)
theorem dX2_areRows_22 : decode cX2_areRows 22 = .ok (.iload_n 2, 1) := dk_28 (dk_at dksX2_areRows_0 22 rfl rfl)
theorem dX2_areRows_23 : decode cX2_areRows 23 = .ok (.iload_n 1, 1) := dk_27 (dk_at dksX2_areRows_0 23 rfl rfl)
theorem dX2_areRows_24 : decode cX2_areRows 24 = .ok (.if_icmp .ge 50, 3) := dk_162 0 50 (dk_at dksX2_areRows_1 0 rfl rfl)
theorem dX2_areRows_27 : decode cX2_areRows 27 = .ok (.aload_n 0, 1) := dk_42 (dk_at dksX2_areRows_1 3 rfl rfl)
theorem dX2_areRows_28 : decode cX2_areRows 28 = .ok (.aload_n 0, 1) := dk_42 (dk_at dksX2_areRows_1 4 rfl rfl)
theorem dX2_areRows_29 : decode cX2_areRows 29 = .ok (.getfield 9, 3) := dk_180 0 9 (dk_at dksX2_areRows_1 5 rfl rfl)
theorem dX2_areRows_32 : decode cX2_areRows 32 = .ok (.iload_n 2, 1) := dk_28 (dk_at dksX2_areRows_1 8 rfl rfl)
theorem dX2_areRows_33 : decode cX2_areRows 33 = .ok (.caload, 1) := dk_52 (dk_at dksX2_areRows_1 9 rfl rfl)
theorem dX2_areRows_34 : decode cX2_areRows 34 = .ok (.invokevirtual 313, 3) := dk_182 1 57 (dk_at dksX2_areRows_1 10 rfl rfl)
theorem dX2_areRows_37 : decode cX2_areRows 37 = .ok (.ifnull 29, 3) := dk_198 0 29 (dk_at dksX2_areRows_1 13 rfl rfl)
theorem dX2_areRows_40 : decode cX2_areRows 40 = .ok (.aload_n 0, 1) := dk_42 (dk_at dksX2_areRows_1 16 rfl rfl)
theorem dX2_areRows_41 : decode cX2_areRows 41 = .ok (.getfield 9, 3) := dk_180 0 9 (dk_at dksX2_areRows_1 17 rfl rfl)
theorem dX2_areRows_44 : decode cX2_areRows 44 = .ok (.iload_n 2, 1) := dk_28 (dk_at dksX2_areRows_1 20 rfl rfl)
theorem dX2_areRows_45 : decode cX2_areRows 45 = .ok (.iconst 1, 1) := dk_4 (dk_at dksX2_areRows_1 21 rfl rfl)
theorem dX2_areRows_46 : decode cX2_areRows 46 = .ok (.iadd, 1) := dk_96 (dk_at dksX2_areRows_1 22 rfl rfl)
theorem dX2_areRows_47 : decode cX2_areRows 47 = .ok (.caload, 1) := dk_52 (dk_at dksX2_areRows_1 23 rfl rfl)
theorem dX2_areRows_48 : decode cX2_areRows 48 = .ok (.bipush 6, 2) := dk_16 6 (dk_at dksX2_areRows_2 0 rfl rfl)
theorem dX2_areRows_50 : decode cX2_areRows 50 = .ok (.if_icmp .ge 16, 3) := dk_162 0 16 (dk_at dksX2_areRows_2 2 rfl rfl)
theorem dX2_areRows_53 : decode cX2_areRows 53 = .ok (.aload_n 0, 1) := dk_42 (dk_at dksX2_areRows_2 5 rfl rfl)
theorem dX2_areRows_54 : decode cX2_areRows 54 = .ok (.getfield 9, 3) := dk_180 0 9 (dk_at dksX2_areRows_2 6 rfl rfl)
theorem dX2_areRows_57 : decode cX2_areRows 57 = .ok (.iload_n 2, 1) := dk_28 (dk_at dksX2_areRows_2 9 rfl rfl)
theorem dX2_areRows_58 : decode cX2_areRows 58 = .ok (.iconst 2, 1) := dk_5 (dk_at dksX2_areRows_2 10 rfl rfl)
theorem dX2_areRows_59 : decode cX2_areRows 59 = .ok (.iadd, 1) := dk_96 (dk_at dksX2_areRows_2 11 rfl rfl)
theorem dX2_areRows_60 : decode cX2_areRows 60 = .ok (.caload, 1) := dk_52 (dk_at dksX2_areRows_2 12 rfl rfl)
theorem dX2_areRows_61 : decode cX2_areRows 61 = .ok (.bipush 99, 2) := dk_16 99 (dk_at dksX2_areRows_2 13 rfl rfl)
theorem dX2_areRows_63 : decode cX2_areRows 63 = .ok (.if_icmp .le 5, 3) := dk_164 0 5 (dk_at dksX2_areRows_2 15 rfl rfl)
theorem dX2_areRows_66 : decode cX2_areRows 66 = .ok (.iconst 0, 1) := dk_3 (dk_at dksX2_areRows_2 18 rfl rfl)
theorem dX2_areRows_67 : decode cX2_areRows 67 = .ok (.ireturn, 1) := dk_172 (dk_at dksX2_areRows_2 19 rfl rfl)
theorem dX2_areRows_68 : decode cX2_areRows 68 = .ok (.iinc 2 3, 3) := dk_132 2 3 (dk_at dksX2_areRows_2 20 rfl rfl)
theorem dX2_areRows_71 : decode cX2_areRows 71 = .ok (.goto (-49), 3) := dk_167 255 207 (dk_at dksX2_areRows_3 0 rfl rfl)
theorem dX2_areRows_74 : decode cX2_areRows 74 = .ok (.iconst 1, 1) := dk_4 (dk_at dksX2_areRows_3 3 rfl rfl)
theorem dX2_areRows_75 : decode cX2_areRows 75 = .ok (.ireturn, 1) := dk_172 (dk_at dksX2_areRows_3 4 rfl rfl)
abbrev cX2_image : ByteArray := prog_1_method_69_code
def yX2_image : MethodName := ⟨RX2, "image", "()I"⟩
def dkwX2_image_7 : List UInt8 := [180, 1, 194, 184, 1, 206, 182, 1, 197, 42, 180, 1, 194, 172]
abbrev dktX2_image_7 : List UInt8 := dkwX2_image_7 ++ []
def dkwX2_image_6 : List UInt8 := [182, 0, 139, 192, 0, 155, 180, 0, 211, 182, 1, 197, 132, 1, 1, 167, 255, 224, 42, 42, 180, 0, 52, 42]
abbrev dktX2_image_6 : List UInt8 := dkwX2_image_6 ++ dktX2_image_7
def dkwX2_image_5 : List UInt8 := [167, 255, 166, 3, 60, 27, 42, 182, 0, 232, 162, 0, 30, 42, 42, 180, 0, 20, 180, 0, 152, 27]
abbrev dktX2_image_5 : List UInt8 := dkwX2_image_5 ++ dktX2_image_6
def dkwX2_image_4 : List UInt8 := [153, 0, 7, 4, 167, 0, 4, 3, 182, 1, 197, 42, 44, 180, 1, 156, 182, 1, 203, 132, 1, 1]
abbrev dktX2_image_4 : List UInt8 := dkwX2_image_4 ++ dktX2_image_5
def dkwX2_image_3 : List UInt8 := [182, 1, 197, 42, 44, 180, 1, 114, 182, 1, 197, 42, 44, 180, 1, 115, 182, 1, 197, 42, 44, 180, 1, 117]
abbrev dktX2_image_3 : List UInt8 := dkwX2_image_3 ++ dktX2_image_4
def dkwX2_image_2 : List UInt8 := [77, 42, 44, 182, 1, 65, 153, 0, 7, 4, 167, 0, 4, 3, 182, 1, 197, 42, 44, 182, 1, 112]
abbrev dktX2_image_2 : List UInt8 := dkwX2_image_2 ++ dktX2_image_3
def dkwX2_image_1 : List UInt8 := [3, 60, 27, 42, 182, 1, 95, 162, 0, 88, 42, 180, 0, 20, 180, 0, 143, 27, 182, 0, 139, 192, 0, 150]
abbrev dktX2_image_1 : List UInt8 := dkwX2_image_1 ++ dktX2_image_2
def dkwX2_image_0 : List UInt8 := [42, 3, 181, 1, 194, 42, 42, 180, 0, 119, 182, 1, 200, 42, 42, 180, 0, 20, 180, 0, 223, 182, 1, 200]
abbrev dktX2_image_0 : List UInt8 := dkwX2_image_0 ++ dktX2_image_1
theorem dksX2_image_0 : cX2_image.data.toList.drop 0 = dktX2_image_0 := by decide +kernel
theorem dksX2_image_1 : cX2_image.data.toList.drop 24 = dktX2_image_1 := dk_seg dksX2_image_0 24 rfl rfl
theorem dksX2_image_2 : cX2_image.data.toList.drop 48 = dktX2_image_2 := dk_seg dksX2_image_1 24 rfl rfl
theorem dksX2_image_3 : cX2_image.data.toList.drop 70 = dktX2_image_3 := dk_seg dksX2_image_2 22 rfl rfl
theorem dksX2_image_4 : cX2_image.data.toList.drop 94 = dktX2_image_4 := dk_seg dksX2_image_3 24 rfl rfl
theorem dksX2_image_5 : cX2_image.data.toList.drop 116 = dktX2_image_5 := dk_seg dksX2_image_4 22 rfl rfl
theorem dksX2_image_6 : cX2_image.data.toList.drop 138 = dktX2_image_6 := dk_seg dksX2_image_5 22 rfl rfl
theorem dksX2_image_7 : cX2_image.data.toList.drop 162 = dktX2_image_7 := dk_seg dksX2_image_6 24 rfl rfl
theorem dX2_image_0 : decode cX2_image 0 = .ok (.aload_n 0, 1) := dk_42 (dk_at dksX2_image_0 0 rfl rfl)
theorem dX2_image_1 : decode cX2_image 1 = .ok (.iconst 0, 1) := dk_3 (dk_at dksX2_image_0 1 rfl rfl)
theorem dX2_image_2 : decode cX2_image 2 = .ok (.putfield 450, 3) := dk_181 1 194 (dk_at dksX2_image_0 2 rfl rfl)
theorem dX2_image_5 : decode cX2_image 5 = .ok (.aload_n 0, 1) := dk_42 (dk_at dksX2_image_0 5 rfl rfl)
theorem dX2_image_6 : decode cX2_image 6 = .ok (.aload_n 0, 1) := dk_42 (dk_at dksX2_image_0 6 rfl rfl)
theorem dX2_image_7 : decode cX2_image 7 = .ok (.getfield 119, 3) := dk_180 0 119 (dk_at dksX2_image_0 7 rfl rfl)
theorem dX2_image_10 : decode cX2_image 10 = .ok (.invokevirtual 456, 3) := dk_182 1 200 (dk_at dksX2_image_0 10 rfl rfl)
theorem dX2_image_13 : decode cX2_image 13 = .ok (.aload_n 0, 1) := dk_42 (dk_at dksX2_image_0 13 rfl rfl)
theorem dX2_image_14 : decode cX2_image 14 = .ok (.aload_n 0, 1) := dk_42 (dk_at dksX2_image_0 14 rfl rfl)
theorem dX2_image_15 : decode cX2_image 15 = .ok (.getfield 20, 3) := dk_180 0 20 (dk_at dksX2_image_0 15 rfl rfl)
theorem dX2_image_18 : decode cX2_image 18 = .ok (.getfield 223, 3) := dk_180 0 223 (dk_at dksX2_image_0 18 rfl rfl)
theorem dX2_image_21 : decode cX2_image 21 = .ok (.invokevirtual 456, 3) := dk_182 1 200 (dk_at dksX2_image_0 21 rfl rfl)
theorem dX2_image_24 : decode cX2_image 24 = .ok (.iconst 0, 1) := dk_3 (dk_at dksX2_image_1 0 rfl rfl)
theorem dX2_image_25 : decode cX2_image 25 = .ok (.istore_n 1, 1) := dk_60 (dk_at dksX2_image_1 1 rfl rfl)
theorem dX2_image_26 : decode cX2_image 26 = .ok (.iload_n 1, 1) := dk_27 (dk_at dksX2_image_1 2 rfl rfl)
theorem dX2_image_27 : decode cX2_image 27 = .ok (.aload_n 0, 1) := dk_42 (dk_at dksX2_image_1 3 rfl rfl)
theorem dX2_image_28 : decode cX2_image 28 = .ok (.invokevirtual 351, 3) := dk_182 1 95 (dk_at dksX2_image_1 4 rfl rfl)
theorem dX2_image_31 : decode cX2_image 31 = .ok (.if_icmp .ge 88, 3) := dk_162 0 88 (dk_at dksX2_image_1 7 rfl rfl)
theorem dX2_image_34 : decode cX2_image 34 = .ok (.aload_n 0, 1) := dk_42 (dk_at dksX2_image_1 10 rfl rfl)
theorem dX2_image_35 : decode cX2_image 35 = .ok (.getfield 20, 3) := dk_180 0 20 (dk_at dksX2_image_1 11 rfl rfl)
theorem dX2_image_38 : decode cX2_image 38 = .ok (.getfield 143, 3) := dk_180 0 143 (dk_at dksX2_image_1 14 rfl rfl)
theorem dX2_image_41 : decode cX2_image 41 = .ok (.iload_n 1, 1) := dk_27 (dk_at dksX2_image_1 17 rfl rfl)
theorem dX2_image_42 : decode cX2_image 42 = .ok (.invokevirtual 139, 3) := dk_182 0 139 (dk_at dksX2_image_1 18 rfl rfl)
theorem dX2_image_45 : decode cX2_image 45 = .ok (.checkcast 150, 3) := dk_192 0 150 (dk_at dksX2_image_1 21 rfl rfl)
theorem dX2_image_48 : decode cX2_image 48 = .ok (.astore_n 2, 1) := dk_77 (dk_at dksX2_image_2 0 rfl rfl)
theorem dX2_image_49 : decode cX2_image 49 = .ok (.aload_n 0, 1) := dk_42 (dk_at dksX2_image_2 1 rfl rfl)
theorem dX2_image_50 : decode cX2_image 50 = .ok (.aload_n 2, 1) := dk_44 (dk_at dksX2_image_2 2 rfl rfl)
theorem dX2_image_51 : decode cX2_image 51 = .ok (.invokevirtual 321, 3) := dk_182 1 65 (dk_at dksX2_image_2 3 rfl rfl)
theorem dX2_image_54 : decode cX2_image 54 = .ok (.ifCond .eq 7, 3) := dk_153 0 7 (dk_at dksX2_image_2 6 rfl rfl)
theorem dX2_image_57 : decode cX2_image 57 = .ok (.iconst 1, 1) := dk_4 (dk_at dksX2_image_2 9 rfl rfl)
theorem dX2_image_58 : decode cX2_image 58 = .ok (.goto 4, 3) := dk_167 0 4 (dk_at dksX2_image_2 10 rfl rfl)
theorem dX2_image_61 : decode cX2_image 61 = .ok (.iconst 0, 1) := dk_3 (dk_at dksX2_image_2 13 rfl rfl)
theorem dX2_image_62 : decode cX2_image 62 = .ok (.invokevirtual 453, 3) := dk_182 1 197 (dk_at dksX2_image_2 14 rfl rfl)
theorem dX2_image_65 : decode cX2_image 65 = .ok (.aload_n 0, 1) := dk_42 (dk_at dksX2_image_2 17 rfl rfl)
theorem dX2_image_66 : decode cX2_image 66 = .ok (.aload_n 2, 1) := dk_44 (dk_at dksX2_image_2 18 rfl rfl)
theorem dX2_image_67 : decode cX2_image 67 = .ok (.invokevirtual 368, 3) := dk_182 1 112 (dk_at dksX2_image_2 19 rfl rfl)
theorem dX2_image_70 : decode cX2_image 70 = .ok (.invokevirtual 453, 3) := dk_182 1 197 (dk_at dksX2_image_3 0 rfl rfl)
theorem dX2_image_73 : decode cX2_image 73 = .ok (.aload_n 0, 1) := dk_42 (dk_at dksX2_image_3 3 rfl rfl)
theorem dX2_image_74 : decode cX2_image 74 = .ok (.aload_n 2, 1) := dk_44 (dk_at dksX2_image_3 4 rfl rfl)
theorem dX2_image_75 : decode cX2_image 75 = .ok (.getfield 370, 3) := dk_180 1 114 (dk_at dksX2_image_3 5 rfl rfl)
theorem dX2_image_78 : decode cX2_image 78 = .ok (.invokevirtual 453, 3) := dk_182 1 197 (dk_at dksX2_image_3 8 rfl rfl)
theorem dX2_image_81 : decode cX2_image 81 = .ok (.aload_n 0, 1) := dk_42 (dk_at dksX2_image_3 11 rfl rfl)
theorem dX2_image_82 : decode cX2_image 82 = .ok (.aload_n 2, 1) := dk_44 (dk_at dksX2_image_3 12 rfl rfl)
theorem dX2_image_83 : decode cX2_image 83 = .ok (.getfield 371, 3) := dk_180 1 115 (dk_at dksX2_image_3 13 rfl rfl)
theorem dX2_image_86 : decode cX2_image 86 = .ok (.invokevirtual 453, 3) := dk_182 1 197 (dk_at dksX2_image_3 16 rfl rfl)
theorem dX2_image_89 : decode cX2_image 89 = .ok (.aload_n 0, 1) := dk_42 (dk_at dksX2_image_3 19 rfl rfl)
theorem dX2_image_90 : decode cX2_image 90 = .ok (.aload_n 2, 1) := dk_44 (dk_at dksX2_image_3 20 rfl rfl)
theorem dX2_image_91 : decode cX2_image 91 = .ok (.getfield 373, 3) := dk_180 1 117 (dk_at dksX2_image_3 21 rfl rfl)
theorem dX2_image_94 : decode cX2_image 94 = .ok (.ifCond .eq 7, 3) := dk_153 0 7 (dk_at dksX2_image_4 0 rfl rfl)
theorem dX2_image_97 : decode cX2_image 97 = .ok (.iconst 1, 1) := dk_4 (dk_at dksX2_image_4 3 rfl rfl)
theorem dX2_image_98 : decode cX2_image 98 = .ok (.goto 4, 3) := dk_167 0 4 (dk_at dksX2_image_4 4 rfl rfl)
theorem dX2_image_101 : decode cX2_image 101 = .ok (.iconst 0, 1) := dk_3 (dk_at dksX2_image_4 7 rfl rfl)
theorem dX2_image_102 : decode cX2_image 102 = .ok (.invokevirtual 453, 3) := dk_182 1 197 (dk_at dksX2_image_4 8 rfl rfl)
theorem dX2_image_105 : decode cX2_image 105 = .ok (.aload_n 0, 1) := dk_42 (dk_at dksX2_image_4 11 rfl rfl)
theorem dX2_image_106 : decode cX2_image 106 = .ok (.aload_n 2, 1) := dk_44 (dk_at dksX2_image_4 12 rfl rfl)
theorem dX2_image_107 : decode cX2_image 107 = .ok (.getfield 412, 3) := dk_180 1 156 (dk_at dksX2_image_4 13 rfl rfl)
theorem dX2_image_110 : decode cX2_image 110 = .ok (.invokevirtual 459, 3) := dk_182 1 203 (dk_at dksX2_image_4 16 rfl rfl)
theorem dX2_image_113 : decode cX2_image 113 = .ok (.iinc 1 1, 3) := dk_132 1 1 (dk_at dksX2_image_4 19 rfl rfl)
theorem dX2_image_116 : decode cX2_image 116 = .ok (.goto (-90), 3) := dk_167 255 166 (dk_at dksX2_image_5 0 rfl rfl)
theorem dX2_image_119 : decode cX2_image 119 = .ok (.iconst 0, 1) := dk_3 (dk_at dksX2_image_5 3 rfl rfl)
theorem dX2_image_120 : decode cX2_image 120 = .ok (.istore_n 1, 1) := dk_60 (dk_at dksX2_image_5 4 rfl rfl)
theorem dX2_image_121 : decode cX2_image 121 = .ok (.iload_n 1, 1) := dk_27 (dk_at dksX2_image_5 5 rfl rfl)
theorem dX2_image_122 : decode cX2_image 122 = .ok (.aload_n 0, 1) := dk_42 (dk_at dksX2_image_5 6 rfl rfl)
theorem dX2_image_123 : decode cX2_image 123 = .ok (.invokevirtual 232, 3) := dk_182 0 232 (dk_at dksX2_image_5 7 rfl rfl)
theorem dX2_image_126 : decode cX2_image 126 = .ok (.if_icmp .ge 30, 3) := dk_162 0 30 (dk_at dksX2_image_5 10 rfl rfl)
theorem dX2_image_129 : decode cX2_image 129 = .ok (.aload_n 0, 1) := dk_42 (dk_at dksX2_image_5 13 rfl rfl)
theorem dX2_image_130 : decode cX2_image 130 = .ok (.aload_n 0, 1) := dk_42 (dk_at dksX2_image_5 14 rfl rfl)
theorem dX2_image_131 : decode cX2_image 131 = .ok (.getfield 20, 3) := dk_180 0 20 (dk_at dksX2_image_5 15 rfl rfl)
theorem dX2_image_134 : decode cX2_image 134 = .ok (.getfield 152, 3) := dk_180 0 152 (dk_at dksX2_image_5 18 rfl rfl)
theorem dX2_image_137 : decode cX2_image 137 = .ok (.iload_n 1, 1) := dk_27 (dk_at dksX2_image_5 21 rfl rfl)
theorem dX2_image_138 : decode cX2_image 138 = .ok (.invokevirtual 139, 3) := dk_182 0 139 (dk_at dksX2_image_6 0 rfl rfl)
theorem dX2_image_141 : decode cX2_image 141 = .ok (.checkcast 155, 3) := dk_192 0 155 (dk_at dksX2_image_6 3 rfl rfl)
theorem dX2_image_144 : decode cX2_image 144 = .ok (.getfield 211, 3) := dk_180 0 211 (dk_at dksX2_image_6 6 rfl rfl)
theorem dX2_image_147 : decode cX2_image 147 = .ok (.invokevirtual 453, 3) := dk_182 1 197 (dk_at dksX2_image_6 9 rfl rfl)
theorem dX2_image_150 : decode cX2_image 150 = .ok (.iinc 1 1, 3) := dk_132 1 1 (dk_at dksX2_image_6 12 rfl rfl)
theorem dX2_image_153 : decode cX2_image 153 = .ok (.goto (-32), 3) := dk_167 255 224 (dk_at dksX2_image_6 15 rfl rfl)
theorem dX2_image_156 : decode cX2_image 156 = .ok (.aload_n 0, 1) := dk_42 (dk_at dksX2_image_6 18 rfl rfl)
theorem dX2_image_157 : decode cX2_image 157 = .ok (.aload_n 0, 1) := dk_42 (dk_at dksX2_image_6 19 rfl rfl)
theorem dX2_image_158 : decode cX2_image 158 = .ok (.getfield 52, 3) := dk_180 0 52 (dk_at dksX2_image_6 20 rfl rfl)
theorem dX2_image_161 : decode cX2_image 161 = .ok (.aload_n 0, 1) := dk_42 (dk_at dksX2_image_6 23 rfl rfl)
theorem dX2_image_162 : decode cX2_image 162 = .ok (.getfield 450, 3) := dk_180 1 194 (dk_at dksX2_image_7 0 rfl rfl)
theorem dX2_image_165 : decode cX2_image 165 = .ok (.invokestatic 462, 3) := dk_184 1 206 (dk_at dksX2_image_7 3 rfl rfl)
theorem dX2_image_168 : decode cX2_image 168 = .ok (.invokevirtual 453, 3) := dk_182 1 197 (dk_at dksX2_image_7 6 rfl rfl)
theorem dX2_image_171 : decode cX2_image 171 = .ok (.aload_n 0, 1) := dk_42 (dk_at dksX2_image_7 9 rfl rfl)
theorem dX2_image_172 : decode cX2_image 172 = .ok (.getfield 450, 3) := dk_180 1 194 (dk_at dksX2_image_7 10 rfl rfl)
theorem dX2_image_175 : decode cX2_image 175 = .ok (.ireturn, 1) := dk_172 (dk_at dksX2_image_7 13 rfl rfl)
abbrev cX2_writesTwo : ByteArray := prog_1_method_67_code
def yX2_writesTwo : MethodName := ⟨RX2, "writesTwo", "(I)V"⟩
def dkwX2_writesTwo_0 : List UInt8 := [42, 27, 17, 1, 0, 108, 182, 1, 197, 42, 27, 17, 1, 0, 112, 182, 1, 197, 177]
abbrev dktX2_writesTwo_0 : List UInt8 := dkwX2_writesTwo_0 ++ []
theorem dksX2_writesTwo_0 : cX2_writesTwo.data.toList.drop 0 = dktX2_writesTwo_0 := by decide +kernel
theorem dX2_writesTwo_0 : decode cX2_writesTwo 0 = .ok (.aload_n 0, 1) := dk_42 (dk_at dksX2_writesTwo_0 0 rfl rfl)
theorem dX2_writesTwo_1 : decode cX2_writesTwo 1 = .ok (.iload_n 1, 1) := dk_27 (dk_at dksX2_writesTwo_0 1 rfl rfl)
theorem dX2_writesTwo_2 : decode cX2_writesTwo 2 = .ok (.sipush 256, 3) := dk_17 1 0 (dk_at dksX2_writesTwo_0 2 rfl rfl)
theorem dX2_writesTwo_5 : decode cX2_writesTwo 5 = .ok (.idiv, 1) := dk_108 (dk_at dksX2_writesTwo_0 5 rfl rfl)
theorem dX2_writesTwo_6 : decode cX2_writesTwo 6 = .ok (.invokevirtual 453, 3) := dk_182 1 197 (dk_at dksX2_writesTwo_0 6 rfl rfl)
theorem dX2_writesTwo_9 : decode cX2_writesTwo 9 = .ok (.aload_n 0, 1) := dk_42 (dk_at dksX2_writesTwo_0 9 rfl rfl)
theorem dX2_writesTwo_10 : decode cX2_writesTwo 10 = .ok (.iload_n 1, 1) := dk_27 (dk_at dksX2_writesTwo_0 10 rfl rfl)
theorem dX2_writesTwo_11 : decode cX2_writesTwo 11 = .ok (.sipush 256, 3) := dk_17 1 0 (dk_at dksX2_writesTwo_0 11 rfl rfl)
theorem dX2_writesTwo_14 : decode cX2_writesTwo 14 = .ok (.irem, 1) := dk_112 (dk_at dksX2_writesTwo_0 14 rfl rfl)
theorem dX2_writesTwo_15 : decode cX2_writesTwo 15 = .ok (.invokevirtual 453, 3) := dk_182 1 197 (dk_at dksX2_writesTwo_0 15 rfl rfl)
theorem dX2_writesTwo_18 : decode cX2_writesTwo 18 = .ok (.return_, 1) := dk_177 (dk_at dksX2_writesTwo_0 18 rfl rfl)
abbrev cX2_writes : ByteArray := prog_1_method_66_code
def yX2_writes : MethodName := ⟨RX2, "writes", "(I)V"⟩
def dkwX2_writes_1 : List UInt8 := [180, 1, 194, 4, 96, 181, 1, 194, 177]
abbrev dktX2_writes_1 : List UInt8 := dkwX2_writes_1 ++ []
def dkwX2_writes_0 : List UInt8 := [42, 180, 0, 52, 42, 180, 1, 194, 27, 2, 160, 0, 9, 17, 0, 255, 167, 0, 4, 27, 146, 85, 42, 89]
abbrev dktX2_writes_0 : List UInt8 := dkwX2_writes_0 ++ dktX2_writes_1
theorem dksX2_writes_0 : cX2_writes.data.toList.drop 0 = dktX2_writes_0 := by decide +kernel
theorem dksX2_writes_1 : cX2_writes.data.toList.drop 24 = dktX2_writes_1 := dk_seg dksX2_writes_0 24 rfl rfl
theorem dX2_writes_0 : decode cX2_writes 0 = .ok (.aload_n 0, 1) := dk_42 (dk_at dksX2_writes_0 0 rfl rfl)
theorem dX2_writes_1 : decode cX2_writes 1 = .ok (.getfield 52, 3) := dk_180 0 52 (dk_at dksX2_writes_0 1 rfl rfl)
theorem dX2_writes_4 : decode cX2_writes 4 = .ok (.aload_n 0, 1) := dk_42 (dk_at dksX2_writes_0 4 rfl rfl)
theorem dX2_writes_5 : decode cX2_writes 5 = .ok (.getfield 450, 3) := dk_180 1 194 (dk_at dksX2_writes_0 5 rfl rfl)
theorem dX2_writes_8 : decode cX2_writes 8 = .ok (.iload_n 1, 1) := dk_27 (dk_at dksX2_writes_0 8 rfl rfl)
theorem dX2_writes_9 : decode cX2_writes 9 = .ok (.iconst (-1), 1) := dk_2 (dk_at dksX2_writes_0 9 rfl rfl)
theorem dX2_writes_10 : decode cX2_writes 10 = .ok (.if_icmp .ne 9, 3) := dk_160 0 9 (dk_at dksX2_writes_0 10 rfl rfl)
theorem dX2_writes_13 : decode cX2_writes 13 = .ok (.sipush 255, 3) := dk_17 0 255 (dk_at dksX2_writes_0 13 rfl rfl)
theorem dX2_writes_16 : decode cX2_writes 16 = .ok (.goto 4, 3) := dk_167 0 4 (dk_at dksX2_writes_0 16 rfl rfl)
theorem dX2_writes_19 : decode cX2_writes 19 = .ok (.iload_n 1, 1) := dk_27 (dk_at dksX2_writes_0 19 rfl rfl)
theorem dX2_writes_20 : decode cX2_writes 20 = .ok (.i2c, 1) := dk_146 (dk_at dksX2_writes_0 20 rfl rfl)
theorem dX2_writes_21 : decode cX2_writes 21 = .ok (.castore, 1) := dk_85 (dk_at dksX2_writes_0 21 rfl rfl)
theorem dX2_writes_22 : decode cX2_writes 22 = .ok (.aload_n 0, 1) := dk_42 (dk_at dksX2_writes_0 22 rfl rfl)
theorem dX2_writes_23 : decode cX2_writes 23 = .ok (.dup, 1) := dk_89 (dk_at dksX2_writes_0 23 rfl rfl)
theorem dX2_writes_24 : decode cX2_writes 24 = .ok (.getfield 450, 3) := dk_180 1 194 (dk_at dksX2_writes_1 0 rfl rfl)
theorem dX2_writes_27 : decode cX2_writes 27 = .ok (.iconst 1, 1) := dk_4 (dk_at dksX2_writes_1 3 rfl rfl)
theorem dX2_writes_28 : decode cX2_writes 28 = .ok (.iadd, 1) := dk_96 (dk_at dksX2_writes_1 4 rfl rfl)
theorem dX2_writes_29 : decode cX2_writes 29 = .ok (.putfield 450, 3) := dk_181 1 194 (dk_at dksX2_writes_1 5 rfl rfl)
theorem dX2_writes_32 : decode cX2_writes 32 = .ok (.return_, 1) := dk_177 (dk_at dksX2_writes_1 8 rfl rfl)
abbrev cX2_writesBits : ByteArray := prog_1_method_70_code
def yX2_writesBits : MethodName := ⟨RX2, "writesBits", "(I)V"⟩
def dkwX2_writesBits_0 : List UInt8 := [42, 180, 0, 52, 42, 180, 1, 194, 27, 146, 85, 42, 89, 180, 1, 194, 4, 96, 181, 1, 194, 177]
abbrev dktX2_writesBits_0 : List UInt8 := dkwX2_writesBits_0 ++ []
theorem dksX2_writesBits_0 : cX2_writesBits.data.toList.drop 0 = dktX2_writesBits_0 := by decide +kernel
theorem dX2_writesBits_0 : decode cX2_writesBits 0 = .ok (.aload_n 0, 1) := dk_42 (dk_at dksX2_writesBits_0 0 rfl rfl)
theorem dX2_writesBits_1 : decode cX2_writesBits 1 = .ok (.getfield 52, 3) := dk_180 0 52 (dk_at dksX2_writesBits_0 1 rfl rfl)
theorem dX2_writesBits_4 : decode cX2_writesBits 4 = .ok (.aload_n 0, 1) := dk_42 (dk_at dksX2_writesBits_0 4 rfl rfl)
theorem dX2_writesBits_5 : decode cX2_writesBits 5 = .ok (.getfield 450, 3) := dk_180 1 194 (dk_at dksX2_writesBits_0 5 rfl rfl)
theorem dX2_writesBits_8 : decode cX2_writesBits 8 = .ok (.iload_n 1, 1) := dk_27 (dk_at dksX2_writesBits_0 8 rfl rfl)
theorem dX2_writesBits_9 : decode cX2_writesBits 9 = .ok (.i2c, 1) := dk_146 (dk_at dksX2_writesBits_0 9 rfl rfl)
theorem dX2_writesBits_10 : decode cX2_writesBits 10 = .ok (.castore, 1) := dk_85 (dk_at dksX2_writesBits_0 10 rfl rfl)
theorem dX2_writesBits_11 : decode cX2_writesBits 11 = .ok (.aload_n 0, 1) := dk_42 (dk_at dksX2_writesBits_0 11 rfl rfl)
theorem dX2_writesBits_12 : decode cX2_writesBits 12 = .ok (.dup, 1) := dk_89 (dk_at dksX2_writesBits_0 12 rfl rfl)
theorem dX2_writesBits_13 : decode cX2_writesBits 13 = .ok (.getfield 450, 3) := dk_180 1 194 (dk_at dksX2_writesBits_0 13 rfl rfl)
theorem dX2_writesBits_16 : decode cX2_writesBits 16 = .ok (.iconst 1, 1) := dk_4 (dk_at dksX2_writesBits_0 16 rfl rfl)
theorem dX2_writesBits_17 : decode cX2_writesBits 17 = .ok (.iadd, 1) := dk_96 (dk_at dksX2_writesBits_0 17 rfl rfl)
theorem dX2_writesBits_18 : decode cX2_writesBits 18 = .ok (.putfield 450, 3) := dk_181 1 194 (dk_at dksX2_writesBits_0 18 rfl rfl)
theorem dX2_writesBits_21 : decode cX2_writesBits 21 = .ok (.return_, 1) := dk_177 (dk_at dksX2_writesBits_0 21 rfl rfl)
abbrev cX2_last : ByteArray := prog_1_method_68_code
def yX2_last : MethodName := ⟨RX2, "last", "([CI)I"⟩
def dkwX2_last_1 : List UInt8 := [132, 3, 1, 167, 255, 236, 28, 172]
abbrev dktX2_last_1 : List UInt8 := dkwX2_last_1 ++ []
def dkwX2_last_0 : List UInt8 := [17, 0, 241, 61, 3, 62, 29, 27, 162, 0, 21, 8, 28, 104, 42, 29, 52, 96, 17, 0, 251, 112, 61]
abbrev dktX2_last_0 : List UInt8 := dkwX2_last_0 ++ dktX2_last_1
theorem dksX2_last_0 : cX2_last.data.toList.drop 0 = dktX2_last_0 := by decide +kernel
theorem dksX2_last_1 : cX2_last.data.toList.drop 23 = dktX2_last_1 := dk_seg dksX2_last_0 23 rfl rfl
theorem dX2_last_0 : decode cX2_last 0 = .ok (.sipush 241, 3) := dk_17 0 241 (dk_at dksX2_last_0 0 rfl rfl)
theorem dX2_last_3 : decode cX2_last 3 = .ok (.istore_n 2, 1) := dk_61 (dk_at dksX2_last_0 3 rfl rfl)
theorem dX2_last_4 : decode cX2_last 4 = .ok (.iconst 0, 1) := dk_3 (dk_at dksX2_last_0 4 rfl rfl)
theorem dX2_last_5 : decode cX2_last 5 = .ok (.istore_n 3, 1) := dk_62 (dk_at dksX2_last_0 5 rfl rfl)
theorem dX2_last_6 : decode cX2_last 6 = .ok (.iload_n 3, 1) := dk_29 (dk_at dksX2_last_0 6 rfl rfl)
theorem dX2_last_7 : decode cX2_last 7 = .ok (.iload_n 1, 1) := dk_27 (dk_at dksX2_last_0 7 rfl rfl)
theorem dX2_last_8 : decode cX2_last 8 = .ok (.if_icmp .ge 21, 3) := dk_162 0 21 (dk_at dksX2_last_0 8 rfl rfl)
theorem dX2_last_11 : decode cX2_last 11 = .ok (.iconst 5, 1) := dk_8 (dk_at dksX2_last_0 11 rfl rfl)
theorem dX2_last_12 : decode cX2_last 12 = .ok (.iload_n 2, 1) := dk_28 (dk_at dksX2_last_0 12 rfl rfl)
theorem dX2_last_13 : decode cX2_last 13 = .ok (.imul, 1) := dk_104 (dk_at dksX2_last_0 13 rfl rfl)
theorem dX2_last_14 : decode cX2_last 14 = .ok (.aload_n 0, 1) := dk_42 (dk_at dksX2_last_0 14 rfl rfl)
theorem dX2_last_15 : decode cX2_last 15 = .ok (.iload_n 3, 1) := dk_29 (dk_at dksX2_last_0 15 rfl rfl)
theorem dX2_last_16 : decode cX2_last 16 = .ok (.caload, 1) := dk_52 (dk_at dksX2_last_0 16 rfl rfl)
theorem dX2_last_17 : decode cX2_last 17 = .ok (.iadd, 1) := dk_96 (dk_at dksX2_last_0 17 rfl rfl)
theorem dX2_last_18 : decode cX2_last 18 = .ok (.sipush 251, 3) := dk_17 0 251 (dk_at dksX2_last_0 18 rfl rfl)
theorem dX2_last_21 : decode cX2_last 21 = .ok (.irem, 1) := dk_112 (dk_at dksX2_last_0 21 rfl rfl)
theorem dX2_last_22 : decode cX2_last 22 = .ok (.istore_n 2, 1) := dk_61 (dk_at dksX2_last_0 22 rfl rfl)
theorem dX2_last_23 : decode cX2_last 23 = .ok (.iinc 3 1, 3) := dk_132 3 1 (dk_at dksX2_last_1 0 rfl rfl)
theorem dX2_last_26 : decode cX2_last 26 = .ok (.goto (-20), 3) := dk_167 255 236 (dk_at dksX2_last_1 3 rfl rfl)
theorem dX2_last_29 : decode cX2_last 29 = .ok (.iload_n 2, 1) := dk_28 (dk_at dksX2_last_1 6 rfl rfl)
theorem dX2_last_30 : decode cX2_last 30 = .ok (.ireturn, 1) := dk_172 (dk_at dksX2_last_1 7 rfl rfl)
abbrev cX2_octet : ByteArray := prog_1_method_71_code
def yX2_octet : MethodName := ⟨RX2, "octet", "(I)I"⟩
def dkwX2_octet_1 : List UInt8 := [167, 0, 4, 2, 172]
abbrev dktX2_octet_1 : List UInt8 := dkwX2_octet_1 ++ []
def dkwX2_octet_0 : List UInt8 := [27, 133, 9, 42, 180, 1, 194, 4, 100, 133, 184, 0, 95, 153, 0, 12, 42, 180, 0, 52, 27, 52]
abbrev dktX2_octet_0 : List UInt8 := dkwX2_octet_0 ++ dktX2_octet_1
theorem dksX2_octet_0 : cX2_octet.data.toList.drop 0 = dktX2_octet_0 := by decide +kernel
theorem dksX2_octet_1 : cX2_octet.data.toList.drop 22 = dktX2_octet_1 := dk_seg dksX2_octet_0 22 rfl rfl
theorem dX2_octet_0 : decode cX2_octet 0 = .ok (.iload_n 1, 1) := dk_27 (dk_at dksX2_octet_0 0 rfl rfl)
theorem dX2_octet_1 : decode cX2_octet 1 = .ok (.i2l, 1) := dk_133 (dk_at dksX2_octet_0 1 rfl rfl)
theorem dX2_octet_2 : decode cX2_octet 2 = .ok (.lconst 0, 1) := dk_9 (dk_at dksX2_octet_0 2 rfl rfl)
theorem dX2_octet_3 : decode cX2_octet 3 = .ok (.aload_n 0, 1) := dk_42 (dk_at dksX2_octet_0 3 rfl rfl)
theorem dX2_octet_4 : decode cX2_octet 4 = .ok (.getfield 450, 3) := dk_180 1 194 (dk_at dksX2_octet_0 4 rfl rfl)
theorem dX2_octet_7 : decode cX2_octet 7 = .ok (.iconst 1, 1) := dk_4 (dk_at dksX2_octet_0 7 rfl rfl)
theorem dX2_octet_8 : decode cX2_octet 8 = .ok (.isub, 1) := dk_100 (dk_at dksX2_octet_0 8 rfl rfl)
theorem dX2_octet_9 : decode cX2_octet 9 = .ok (.i2l, 1) := dk_133 (dk_at dksX2_octet_0 9 rfl rfl)
theorem dX2_octet_10 : decode cX2_octet 10 = .ok (.invokestatic 95, 3) := dk_184 0 95 (dk_at dksX2_octet_0 10 rfl rfl)
theorem dX2_octet_13 : decode cX2_octet 13 = .ok (.ifCond .eq 12, 3) := dk_153 0 12 (dk_at dksX2_octet_0 13 rfl rfl)
theorem dX2_octet_16 : decode cX2_octet 16 = .ok (.aload_n 0, 1) := dk_42 (dk_at dksX2_octet_0 16 rfl rfl)
theorem dX2_octet_17 : decode cX2_octet 17 = .ok (.getfield 52, 3) := dk_180 0 52 (dk_at dksX2_octet_0 17 rfl rfl)
theorem dX2_octet_20 : decode cX2_octet 20 = .ok (.iload_n 1, 1) := dk_27 (dk_at dksX2_octet_0 20 rfl rfl)
theorem dX2_octet_21 : decode cX2_octet 21 = .ok (.caload, 1) := dk_52 (dk_at dksX2_octet_0 21 rfl rfl)
theorem dX2_octet_22 : decode cX2_octet 22 = .ok (.goto 4, 3) := dk_167 0 4 (dk_at dksX2_octet_1 0 rfl rfl)
theorem dX2_octet_25 : decode cX2_octet 25 = .ok (.iconst (-1), 1) := dk_2 (dk_at dksX2_octet_1 3 rfl rfl)
theorem dX2_octet_26 : decode cX2_octet 26 = .ok (.ireturn, 1) := dk_172 (dk_at dksX2_octet_1 4 rfl rfl)
abbrev cX2_on : ByteArray := prog_1_method_77_code
def yX2_on : MethodName := ⟨RX2, "on", "()Z"⟩
def dkwX2_on_11 : List UInt8 := [172]
abbrev dktX2_on_11 : List UInt8 := dkwX2_on_11 ++ []
def dkwX2_on_10 : List UInt8 := [181, 0, 211, 132, 2, 1, 167, 255, 209, 42, 180, 0, 31, 182, 0, 122, 42, 180, 0, 45, 182, 0, 122, 4]
abbrev dktX2_on_10 : List UInt8 := dkwX2_on_10 ++ dktX2_on_11
def dkwX2_on_9 : List UInt8 := [192, 0, 155, 42, 180, 0, 9, 7, 16, 6, 42, 182, 1, 95, 104, 96, 28, 96, 52, 184, 1, 222]
abbrev dktX2_on_9 : List UInt8 := dkwX2_on_9 ++ dktX2_on_10
def dkwX2_on_8 : List UInt8 := [167, 255, 145, 3, 61, 28, 42, 182, 0, 232, 162, 0, 45, 42, 180, 0, 20, 180, 0, 152, 28, 182, 0, 139]
abbrev dktX2_on_8 : List UInt8 := dkwX2_on_8 ++ dktX2_on_9
def dkwX2_on_7 : List UInt8 := [167, 0, 4, 3, 181, 1, 117, 45, 42, 180, 0, 9, 21, 4, 8, 96, 52, 181, 1, 156, 132, 2, 1]
abbrev dktX2_on_7 : List UInt8 := dkwX2_on_7 ++ dktX2_on_8
def dkwX2_on_6 : List UInt8 := [6, 96, 52, 184, 1, 222, 181, 1, 115, 45, 42, 180, 0, 9, 21, 4, 7, 96, 52, 4, 160, 0, 7, 4]
abbrev dktX2_on_6 : List UInt8 := dkwX2_on_6 ++ dktX2_on_7
def dkwX2_on_5 : List UInt8 := [96, 52, 182, 1, 61, 42, 180, 0, 9, 21, 4, 5, 96, 52, 182, 1, 75, 45, 42, 180, 0, 9, 21, 4]
abbrev dktX2_on_5 : List UInt8 := dkwX2_on_5 ++ dktX2_on_6
def dkwX2_on_4 : List UInt8 := [182, 0, 139, 192, 0, 150, 78, 7, 16, 6, 28, 104, 96, 54, 4, 45, 42, 42, 180, 0, 9, 21, 4, 4]
abbrev dktX2_on_4 : List UInt8 := dkwX2_on_4 ++ dktX2_on_5
def dkwX2_on_3 : List UInt8 := [132, 2, 1, 167, 255, 228, 3, 61, 28, 42, 182, 1, 95, 162, 0, 109, 42, 180, 0, 20, 180, 0, 143, 28]
abbrev dktX2_on_3 : List UInt8 := dkwX2_on_3 ++ dktX2_on_4
def dkwX2_on_2 : List UInt8 := [42, 182, 1, 95, 162, 0, 26, 42, 180, 0, 20, 180, 0, 143, 28, 182, 0, 139, 192, 0, 150, 182, 1, 72]
abbrev dktX2_on_2 : List UInt8 := dkwX2_on_2 ++ dktX2_on_3
def dkwX2_on_1 : List UInt8 := [42, 42, 3, 182, 1, 210, 181, 0, 119, 42, 180, 0, 20, 42, 5, 182, 1, 210, 181, 0, 223, 3, 61, 28]
abbrev dktX2_on_1 : List UInt8 := dkwX2_on_1 ++ dktX2_on_2
def dkwX2_on_0 : List UInt8 := [42, 180, 0, 82, 60, 42, 3, 181, 0, 82, 42, 27, 182, 1, 219, 154, 0, 9, 42, 8, 182, 0, 89, 172]
abbrev dktX2_on_0 : List UInt8 := dkwX2_on_0 ++ dktX2_on_1
theorem dksX2_on_0 : cX2_on.data.toList.drop 0 = dktX2_on_0 := by decide +kernel
theorem dksX2_on_1 : cX2_on.data.toList.drop 24 = dktX2_on_1 := dk_seg dksX2_on_0 24 rfl rfl
theorem dksX2_on_2 : cX2_on.data.toList.drop 48 = dktX2_on_2 := dk_seg dksX2_on_1 24 rfl rfl
theorem dksX2_on_3 : cX2_on.data.toList.drop 72 = dktX2_on_3 := dk_seg dksX2_on_2 24 rfl rfl
theorem dksX2_on_4 : cX2_on.data.toList.drop 96 = dktX2_on_4 := dk_seg dksX2_on_3 24 rfl rfl
theorem dksX2_on_5 : cX2_on.data.toList.drop 120 = dktX2_on_5 := dk_seg dksX2_on_4 24 rfl rfl
theorem dksX2_on_6 : cX2_on.data.toList.drop 144 = dktX2_on_6 := dk_seg dksX2_on_5 24 rfl rfl
theorem dksX2_on_7 : cX2_on.data.toList.drop 168 = dktX2_on_7 := dk_seg dksX2_on_6 24 rfl rfl
theorem dksX2_on_8 : cX2_on.data.toList.drop 191 = dktX2_on_8 := dk_seg dksX2_on_7 23 rfl rfl
theorem dksX2_on_9 : cX2_on.data.toList.drop 215 = dktX2_on_9 := dk_seg dksX2_on_8 24 rfl rfl
theorem dksX2_on_10 : cX2_on.data.toList.drop 237 = dktX2_on_10 := dk_seg dksX2_on_9 22 rfl rfl
theorem dksX2_on_11 : cX2_on.data.toList.drop 261 = dktX2_on_11 := dk_seg dksX2_on_10 24 rfl rfl
theorem dX2_on_0 : decode cX2_on 0 = .ok (.aload_n 0, 1) := dk_42 (dk_at dksX2_on_0 0 rfl rfl)
theorem dX2_on_1 : decode cX2_on 1 = .ok (.getfield 82, 3) := dk_180 0 82 (dk_at dksX2_on_0 1 rfl rfl)
theorem dX2_on_4 : decode cX2_on 4 = .ok (.istore_n 1, 1) := dk_60 (dk_at dksX2_on_0 4 rfl rfl)
theorem dX2_on_5 : decode cX2_on 5 = .ok (.aload_n 0, 1) := dk_42 (dk_at dksX2_on_0 5 rfl rfl)
theorem dX2_on_6 : decode cX2_on 6 = .ok (.iconst 0, 1) := dk_3 (dk_at dksX2_on_0 6 rfl rfl)
theorem dX2_on_7 : decode cX2_on 7 = .ok (.putfield 82, 3) := dk_181 0 82 (dk_at dksX2_on_0 7 rfl rfl)
theorem dX2_on_10 : decode cX2_on 10 = .ok (.aload_n 0, 1) := dk_42 (dk_at dksX2_on_0 10 rfl rfl)
theorem dX2_on_11 : decode cX2_on 11 = .ok (.iload_n 1, 1) := dk_27 (dk_at dksX2_on_0 11 rfl rfl)
theorem dX2_on_12 : decode cX2_on 12 = .ok (.invokevirtual 475, 3) := dk_182 1 219 (dk_at dksX2_on_0 12 rfl rfl)
theorem dX2_on_15 : decode cX2_on 15 = .ok (.ifCond .ne 9, 3) := dk_154 0 9 (dk_at dksX2_on_0 15 rfl rfl)
theorem dX2_on_18 : decode cX2_on 18 = .ok (.aload_n 0, 1) := dk_42 (dk_at dksX2_on_0 18 rfl rfl)
theorem dX2_on_19 : decode cX2_on 19 = .ok (.iconst 5, 1) := dk_8 (dk_at dksX2_on_0 19 rfl rfl)
theorem dX2_on_20 : decode cX2_on 20 = .ok (.invokevirtual 89, 3) := dk_182 0 89 (dk_at dksX2_on_0 20 rfl rfl)
theorem dX2_on_23 : decode cX2_on 23 = .ok (.ireturn, 1) := dk_172 (dk_at dksX2_on_0 23 rfl rfl)
theorem dX2_on_24 : decode cX2_on 24 = .ok (.aload_n 0, 1) := dk_42 (dk_at dksX2_on_1 0 rfl rfl)
theorem dX2_on_25 : decode cX2_on 25 = .ok (.aload_n 0, 1) := dk_42 (dk_at dksX2_on_1 1 rfl rfl)
theorem dX2_on_26 : decode cX2_on 26 = .ok (.iconst 0, 1) := dk_3 (dk_at dksX2_on_1 2 rfl rfl)
theorem dX2_on_27 : decode cX2_on 27 = .ok (.invokevirtual 466, 3) := dk_182 1 210 (dk_at dksX2_on_1 3 rfl rfl)
theorem dX2_on_30 : decode cX2_on 30 = .ok (.putfield 119, 3) := dk_181 0 119 (dk_at dksX2_on_1 6 rfl rfl)
theorem dX2_on_33 : decode cX2_on 33 = .ok (.aload_n 0, 1) := dk_42 (dk_at dksX2_on_1 9 rfl rfl)
theorem dX2_on_34 : decode cX2_on 34 = .ok (.getfield 20, 3) := dk_180 0 20 (dk_at dksX2_on_1 10 rfl rfl)
theorem dX2_on_37 : decode cX2_on 37 = .ok (.aload_n 0, 1) := dk_42 (dk_at dksX2_on_1 13 rfl rfl)
theorem dX2_on_38 : decode cX2_on 38 = .ok (.iconst 2, 1) := dk_5 (dk_at dksX2_on_1 14 rfl rfl)
theorem dX2_on_39 : decode cX2_on 39 = .ok (.invokevirtual 466, 3) := dk_182 1 210 (dk_at dksX2_on_1 15 rfl rfl)
theorem dX2_on_42 : decode cX2_on 42 = .ok (.putfield 223, 3) := dk_181 0 223 (dk_at dksX2_on_1 18 rfl rfl)
theorem dX2_on_45 : decode cX2_on 45 = .ok (.iconst 0, 1) := dk_3 (dk_at dksX2_on_1 21 rfl rfl)
theorem dX2_on_46 : decode cX2_on 46 = .ok (.istore_n 2, 1) := dk_61 (dk_at dksX2_on_1 22 rfl rfl)
theorem dX2_on_47 : decode cX2_on 47 = .ok (.iload_n 2, 1) := dk_28 (dk_at dksX2_on_1 23 rfl rfl)
theorem dX2_on_48 : decode cX2_on 48 = .ok (.aload_n 0, 1) := dk_42 (dk_at dksX2_on_2 0 rfl rfl)
theorem dX2_on_49 : decode cX2_on 49 = .ok (.invokevirtual 351, 3) := dk_182 1 95 (dk_at dksX2_on_2 1 rfl rfl)
theorem dX2_on_52 : decode cX2_on 52 = .ok (.if_icmp .ge 26, 3) := dk_162 0 26 (dk_at dksX2_on_2 4 rfl rfl)
theorem dX2_on_55 : decode cX2_on 55 = .ok (.aload_n 0, 1) := dk_42 (dk_at dksX2_on_2 7 rfl rfl)
theorem dX2_on_56 : decode cX2_on 56 = .ok (.getfield 20, 3) := dk_180 0 20 (dk_at dksX2_on_2 8 rfl rfl)
theorem dX2_on_59 : decode cX2_on 59 = .ok (.getfield 143, 3) := dk_180 0 143 (dk_at dksX2_on_2 11 rfl rfl)
theorem dX2_on_62 : decode cX2_on 62 = .ok (.iload_n 2, 1) := dk_28 (dk_at dksX2_on_2 14 rfl rfl)
theorem dX2_on_63 : decode cX2_on 63 = .ok (.invokevirtual 139, 3) := dk_182 0 139 (dk_at dksX2_on_2 15 rfl rfl)
theorem dX2_on_66 : decode cX2_on 66 = .ok (.checkcast 150, 3) := dk_192 0 150 (dk_at dksX2_on_2 18 rfl rfl)
theorem dX2_on_69 : decode cX2_on 69 = .ok (.invokevirtual 328, 3) := dk_182 1 72 (dk_at dksX2_on_2 21 rfl rfl)
theorem dX2_on_72 : decode cX2_on 72 = .ok (.iinc 2 1, 3) := dk_132 2 1 (dk_at dksX2_on_3 0 rfl rfl)
theorem dX2_on_75 : decode cX2_on 75 = .ok (.goto (-28), 3) := dk_167 255 228 (dk_at dksX2_on_3 3 rfl rfl)
theorem dX2_on_78 : decode cX2_on 78 = .ok (.iconst 0, 1) := dk_3 (dk_at dksX2_on_3 6 rfl rfl)
theorem dX2_on_79 : decode cX2_on 79 = .ok (.istore_n 2, 1) := dk_61 (dk_at dksX2_on_3 7 rfl rfl)
theorem dX2_on_80 : decode cX2_on 80 = .ok (.iload_n 2, 1) := dk_28 (dk_at dksX2_on_3 8 rfl rfl)
theorem dX2_on_81 : decode cX2_on 81 = .ok (.aload_n 0, 1) := dk_42 (dk_at dksX2_on_3 9 rfl rfl)
theorem dX2_on_82 : decode cX2_on 82 = .ok (.invokevirtual 351, 3) := dk_182 1 95 (dk_at dksX2_on_3 10 rfl rfl)
theorem dX2_on_85 : decode cX2_on 85 = .ok (.if_icmp .ge 109, 3) := dk_162 0 109 (dk_at dksX2_on_3 13 rfl rfl)
theorem dX2_on_88 : decode cX2_on 88 = .ok (.aload_n 0, 1) := dk_42 (dk_at dksX2_on_3 16 rfl rfl)
theorem dX2_on_89 : decode cX2_on 89 = .ok (.getfield 20, 3) := dk_180 0 20 (dk_at dksX2_on_3 17 rfl rfl)
theorem dX2_on_92 : decode cX2_on 92 = .ok (.getfield 143, 3) := dk_180 0 143 (dk_at dksX2_on_3 20 rfl rfl)
theorem dX2_on_95 : decode cX2_on 95 = .ok (.iload_n 2, 1) := dk_28 (dk_at dksX2_on_3 23 rfl rfl)
theorem dX2_on_96 : decode cX2_on 96 = .ok (.invokevirtual 139, 3) := dk_182 0 139 (dk_at dksX2_on_4 0 rfl rfl)
theorem dX2_on_99 : decode cX2_on 99 = .ok (.checkcast 150, 3) := dk_192 0 150 (dk_at dksX2_on_4 3 rfl rfl)
theorem dX2_on_102 : decode cX2_on 102 = .ok (.astore_n 3, 1) := dk_78 (dk_at dksX2_on_4 6 rfl rfl)
theorem dX2_on_103 : decode cX2_on 103 = .ok (.iconst 4, 1) := dk_7 (dk_at dksX2_on_4 7 rfl rfl)
theorem dX2_on_104 : decode cX2_on 104 = .ok (.bipush 6, 2) := dk_16 6 (dk_at dksX2_on_4 8 rfl rfl)
theorem dX2_on_106 : decode cX2_on 106 = .ok (.iload_n 2, 1) := dk_28 (dk_at dksX2_on_4 10 rfl rfl)
theorem dX2_on_107 : decode cX2_on 107 = .ok (.imul, 1) := dk_104 (dk_at dksX2_on_4 11 rfl rfl)
theorem dX2_on_108 : decode cX2_on 108 = .ok (.iadd, 1) := dk_96 (dk_at dksX2_on_4 12 rfl rfl)
theorem dX2_on_109 : decode cX2_on 109 = .ok (.istore 4, 2) := dk_54 4 (dk_at dksX2_on_4 13 rfl rfl)
theorem dX2_on_111 : decode cX2_on 111 = .ok (.aload_n 3, 1) := dk_45 (dk_at dksX2_on_4 15 rfl rfl)
theorem dX2_on_112 : decode cX2_on 112 = .ok (.aload_n 0, 1) := dk_42 (dk_at dksX2_on_4 16 rfl rfl)
theorem dX2_on_113 : decode cX2_on 113 = .ok (.aload_n 0, 1) := dk_42 (dk_at dksX2_on_4 17 rfl rfl)
theorem dX2_on_114 : decode cX2_on 114 = .ok (.getfield 9, 3) := dk_180 0 9 (dk_at dksX2_on_4 18 rfl rfl)
theorem dX2_on_117 : decode cX2_on 117 = .ok (.iload 4, 2) := dk_21 4 (dk_at dksX2_on_4 21 rfl rfl)
theorem dX2_on_119 : decode cX2_on 119 = .ok (.iconst 1, 1) := dk_4 (dk_at dksX2_on_4 23 rfl rfl)
theorem dX2_on_120 : decode cX2_on 120 = .ok (.iadd, 1) := dk_96 (dk_at dksX2_on_5 0 rfl rfl)
theorem dX2_on_121 : decode cX2_on 121 = .ok (.caload, 1) := dk_52 (dk_at dksX2_on_5 1 rfl rfl)
theorem dX2_on_122 : decode cX2_on 122 = .ok (.invokevirtual 317, 3) := dk_182 1 61 (dk_at dksX2_on_5 2 rfl rfl)
theorem dX2_on_125 : decode cX2_on 125 = .ok (.aload_n 0, 1) := dk_42 (dk_at dksX2_on_5 5 rfl rfl)
theorem dX2_on_126 : decode cX2_on 126 = .ok (.getfield 9, 3) := dk_180 0 9 (dk_at dksX2_on_5 6 rfl rfl)
theorem dX2_on_129 : decode cX2_on 129 = .ok (.iload 4, 2) := dk_21 4 (dk_at dksX2_on_5 9 rfl rfl)
theorem dX2_on_131 : decode cX2_on 131 = .ok (.iconst 2, 1) := dk_5 (dk_at dksX2_on_5 11 rfl rfl)
theorem dX2_on_132 : decode cX2_on 132 = .ok (.iadd, 1) := dk_96 (dk_at dksX2_on_5 12 rfl rfl)
theorem dX2_on_133 : decode cX2_on 133 = .ok (.caload, 1) := dk_52 (dk_at dksX2_on_5 13 rfl rfl)
theorem dX2_on_134 : decode cX2_on 134 = .ok (.invokevirtual 331, 3) := dk_182 1 75 (dk_at dksX2_on_5 14 rfl rfl)
theorem dX2_on_137 : decode cX2_on 137 = .ok (.aload_n 3, 1) := dk_45 (dk_at dksX2_on_5 17 rfl rfl)
theorem dX2_on_138 : decode cX2_on 138 = .ok (.aload_n 0, 1) := dk_42 (dk_at dksX2_on_5 18 rfl rfl)
theorem dX2_on_139 : decode cX2_on 139 = .ok (.getfield 9, 3) := dk_180 0 9 (dk_at dksX2_on_5 19 rfl rfl)
theorem dX2_on_142 : decode cX2_on 142 = .ok (.iload 4, 2) := dk_21 4 (dk_at dksX2_on_5 22 rfl rfl)
theorem dX2_on_144 : decode cX2_on 144 = .ok (.iconst 3, 1) := dk_6 (dk_at dksX2_on_6 0 rfl rfl)
theorem dX2_on_145 : decode cX2_on 145 = .ok (.iadd, 1) := dk_96 (dk_at dksX2_on_6 1 rfl rfl)
theorem dX2_on_146 : decode cX2_on 146 = .ok (.caload, 1) := dk_52 (dk_at dksX2_on_6 2 rfl rfl)
theorem dX2_on_147 : decode cX2_on 147 = .ok (.invokestatic 478, 3) := dk_184 1 222 (dk_at dksX2_on_6 3 rfl rfl)
theorem dX2_on_150 : decode cX2_on 150 = .ok (.putfield 371, 3) := dk_181 1 115 (dk_at dksX2_on_6 6 rfl rfl)
theorem dX2_on_153 : decode cX2_on 153 = .ok (.aload_n 3, 1) := dk_45 (dk_at dksX2_on_6 9 rfl rfl)
theorem dX2_on_154 : decode cX2_on 154 = .ok (.aload_n 0, 1) := dk_42 (dk_at dksX2_on_6 10 rfl rfl)
theorem dX2_on_155 : decode cX2_on 155 = .ok (.getfield 9, 3) := dk_180 0 9 (dk_at dksX2_on_6 11 rfl rfl)
theorem dX2_on_158 : decode cX2_on 158 = .ok (.iload 4, 2) := dk_21 4 (dk_at dksX2_on_6 14 rfl rfl)
theorem dX2_on_160 : decode cX2_on 160 = .ok (.iconst 4, 1) := dk_7 (dk_at dksX2_on_6 16 rfl rfl)
theorem dX2_on_161 : decode cX2_on 161 = .ok (.iadd, 1) := dk_96 (dk_at dksX2_on_6 17 rfl rfl)
theorem dX2_on_162 : decode cX2_on 162 = .ok (.caload, 1) := dk_52 (dk_at dksX2_on_6 18 rfl rfl)
theorem dX2_on_163 : decode cX2_on 163 = .ok (.iconst 1, 1) := dk_4 (dk_at dksX2_on_6 19 rfl rfl)
theorem dX2_on_164 : decode cX2_on 164 = .ok (.if_icmp .ne 7, 3) := dk_160 0 7 (dk_at dksX2_on_6 20 rfl rfl)
theorem dX2_on_167 : decode cX2_on 167 = .ok (.iconst 1, 1) := dk_4 (dk_at dksX2_on_6 23 rfl rfl)
theorem dX2_on_168 : decode cX2_on 168 = .ok (.goto 4, 3) := dk_167 0 4 (dk_at dksX2_on_7 0 rfl rfl)
theorem dX2_on_171 : decode cX2_on 171 = .ok (.iconst 0, 1) := dk_3 (dk_at dksX2_on_7 3 rfl rfl)
theorem dX2_on_172 : decode cX2_on 172 = .ok (.putfield 373, 3) := dk_181 1 117 (dk_at dksX2_on_7 4 rfl rfl)
theorem dX2_on_175 : decode cX2_on 175 = .ok (.aload_n 3, 1) := dk_45 (dk_at dksX2_on_7 7 rfl rfl)
theorem dX2_on_176 : decode cX2_on 176 = .ok (.aload_n 0, 1) := dk_42 (dk_at dksX2_on_7 8 rfl rfl)
theorem dX2_on_177 : decode cX2_on 177 = .ok (.getfield 9, 3) := dk_180 0 9 (dk_at dksX2_on_7 9 rfl rfl)
theorem dX2_on_180 : decode cX2_on 180 = .ok (.iload 4, 2) := dk_21 4 (dk_at dksX2_on_7 12 rfl rfl)
theorem dX2_on_182 : decode cX2_on 182 = .ok (.iconst 5, 1) := dk_8 (dk_at dksX2_on_7 14 rfl rfl)
theorem dX2_on_183 : decode cX2_on 183 = .ok (.iadd, 1) := dk_96 (dk_at dksX2_on_7 15 rfl rfl)
theorem dX2_on_184 : decode cX2_on 184 = .ok (.caload, 1) := dk_52 (dk_at dksX2_on_7 16 rfl rfl)
theorem dX2_on_185 : decode cX2_on 185 = .ok (.putfield 412, 3) := dk_181 1 156 (dk_at dksX2_on_7 17 rfl rfl)
theorem dX2_on_188 : decode cX2_on 188 = .ok (.iinc 2 1, 3) := dk_132 2 1 (dk_at dksX2_on_7 20 rfl rfl)
theorem dX2_on_191 : decode cX2_on 191 = .ok (.goto (-111), 3) := dk_167 255 145 (dk_at dksX2_on_8 0 rfl rfl)
theorem dX2_on_194 : decode cX2_on 194 = .ok (.iconst 0, 1) := dk_3 (dk_at dksX2_on_8 3 rfl rfl)
theorem dX2_on_195 : decode cX2_on 195 = .ok (.istore_n 2, 1) := dk_61 (dk_at dksX2_on_8 4 rfl rfl)
theorem dX2_on_196 : decode cX2_on 196 = .ok (.iload_n 2, 1) := dk_28 (dk_at dksX2_on_8 5 rfl rfl)
theorem dX2_on_197 : decode cX2_on 197 = .ok (.aload_n 0, 1) := dk_42 (dk_at dksX2_on_8 6 rfl rfl)
theorem dX2_on_198 : decode cX2_on 198 = .ok (.invokevirtual 232, 3) := dk_182 0 232 (dk_at dksX2_on_8 7 rfl rfl)
theorem dX2_on_201 : decode cX2_on 201 = .ok (.if_icmp .ge 45, 3) := dk_162 0 45 (dk_at dksX2_on_8 10 rfl rfl)
theorem dX2_on_204 : decode cX2_on 204 = .ok (.aload_n 0, 1) := dk_42 (dk_at dksX2_on_8 13 rfl rfl)
theorem dX2_on_205 : decode cX2_on 205 = .ok (.getfield 20, 3) := dk_180 0 20 (dk_at dksX2_on_8 14 rfl rfl)
theorem dX2_on_208 : decode cX2_on 208 = .ok (.getfield 152, 3) := dk_180 0 152 (dk_at dksX2_on_8 17 rfl rfl)
theorem dX2_on_211 : decode cX2_on 211 = .ok (.iload_n 2, 1) := dk_28 (dk_at dksX2_on_8 20 rfl rfl)
theorem dX2_on_212 : decode cX2_on 212 = .ok (.invokevirtual 139, 3) := dk_182 0 139 (dk_at dksX2_on_8 21 rfl rfl)
theorem dX2_on_215 : decode cX2_on 215 = .ok (.checkcast 155, 3) := dk_192 0 155 (dk_at dksX2_on_9 0 rfl rfl)
theorem dX2_on_218 : decode cX2_on 218 = .ok (.aload_n 0, 1) := dk_42 (dk_at dksX2_on_9 3 rfl rfl)
theorem dX2_on_219 : decode cX2_on 219 = .ok (.getfield 9, 3) := dk_180 0 9 (dk_at dksX2_on_9 4 rfl rfl)
theorem dX2_on_222 : decode cX2_on 222 = .ok (.iconst 4, 1) := dk_7 (dk_at dksX2_on_9 7 rfl rfl)
theorem dX2_on_223 : decode cX2_on 223 = .ok (.bipush 6, 2) := dk_16 6 (dk_at dksX2_on_9 8 rfl rfl)
theorem dX2_on_225 : decode cX2_on 225 = .ok (.aload_n 0, 1) := dk_42 (dk_at dksX2_on_9 10 rfl rfl)
theorem dX2_on_226 : decode cX2_on 226 = .ok (.invokevirtual 351, 3) := dk_182 1 95 (dk_at dksX2_on_9 11 rfl rfl)
theorem dX2_on_229 : decode cX2_on 229 = .ok (.imul, 1) := dk_104 (dk_at dksX2_on_9 14 rfl rfl)
theorem dX2_on_230 : decode cX2_on 230 = .ok (.iadd, 1) := dk_96 (dk_at dksX2_on_9 15 rfl rfl)
theorem dX2_on_231 : decode cX2_on 231 = .ok (.iload_n 2, 1) := dk_28 (dk_at dksX2_on_9 16 rfl rfl)
theorem dX2_on_232 : decode cX2_on 232 = .ok (.iadd, 1) := dk_96 (dk_at dksX2_on_9 17 rfl rfl)
theorem dX2_on_233 : decode cX2_on 233 = .ok (.caload, 1) := dk_52 (dk_at dksX2_on_9 18 rfl rfl)
theorem dX2_on_234 : decode cX2_on 234 = .ok (.invokestatic 478, 3) := dk_184 1 222 (dk_at dksX2_on_9 19 rfl rfl)
theorem dX2_on_237 : decode cX2_on 237 = .ok (.putfield 211, 3) := dk_181 0 211 (dk_at dksX2_on_10 0 rfl rfl)
theorem dX2_on_240 : decode cX2_on 240 = .ok (.iinc 2 1, 3) := dk_132 2 1 (dk_at dksX2_on_10 3 rfl rfl)
theorem dX2_on_243 : decode cX2_on 243 = .ok (.goto (-47), 3) := dk_167 255 209 (dk_at dksX2_on_10 6 rfl rfl)
theorem dX2_on_246 : decode cX2_on 246 = .ok (.aload_n 0, 1) := dk_42 (dk_at dksX2_on_10 9 rfl rfl)
theorem dX2_on_247 : decode cX2_on 247 = .ok (.getfield 31, 3) := dk_180 0 31 (dk_at dksX2_on_10 10 rfl rfl)
theorem dX2_on_250 : decode cX2_on 250 = .ok (.invokevirtual 122, 3) := dk_182 0 122 (dk_at dksX2_on_10 13 rfl rfl)
theorem dX2_on_253 : decode cX2_on 253 = .ok (.aload_n 0, 1) := dk_42 (dk_at dksX2_on_10 16 rfl rfl)
theorem dX2_on_254 : decode cX2_on 254 = .ok (.getfield 45, 3) := dk_180 0 45 (dk_at dksX2_on_10 17 rfl rfl)
theorem dX2_on_257 : decode cX2_on 257 = .ok (.invokevirtual 122, 3) := dk_182 0 122 (dk_at dksX2_on_10 20 rfl rfl)
theorem dX2_on_260 : decode cX2_on 260 = .ok (.iconst 1, 1) := dk_4 (dk_at dksX2_on_10 23 rfl rfl)
theorem dX2_on_261 : decode cX2_on 261 = .ok (.ireturn, 1) := dk_172 (dk_at dksX2_on_11 0 rfl rfl)
abbrev cX2_isTold : ByteArray := prog_1_method_75_code
def yX2_isTold : MethodName := ⟨RX2, "isTold", "(I)Z"⟩
def dkwX2_isTold_6 : List UInt8 := [180, 0, 9, 29, 52, 17, 0, 255, 159, 0, 5, 3, 172, 132, 3, 1, 167, 255, 221, 4, 172]
abbrev dktX2_isTold_6 : List UInt8 := dkwX2_isTold_6 ++ []
def dkwX2_isTold_5 : List UInt8 := [167, 255, 208, 28, 62, 29, 27, 4, 100, 162, 0, 34, 42, 180, 0, 9, 29, 52, 16, 20, 164, 0, 17, 42]
abbrev dktX2_isTold_5 : List UInt8 := dkwX2_isTold_5 ++ dktX2_isTold_6
def dkwX2_isTold_4 : List UInt8 := [42, 29, 182, 1, 213, 153, 0, 14, 167, 0, 13, 42, 29, 182, 1, 216, 154, 0, 5, 3, 172, 132, 3, 6]
abbrev dktX2_isTold_4 : List UInt8 := dkwX2_isTold_4 ++ dktX2_isTold_5
def dkwX2_isTold_3 : List UInt8 := [29, 28, 162, 0, 49, 42, 180, 0, 9, 29, 52, 4, 163, 0, 31, 42, 180, 0, 9, 29, 52, 154, 0, 14]
abbrev dktX2_isTold_3 : List UInt8 := dkwX2_isTold_3 ++ dktX2_isTold_4
def dkwX2_isTold_2 : List UInt8 := [182, 1, 210, 17, 3, 231, 163, 0, 14, 42, 5, 182, 1, 210, 17, 39, 15, 164, 0, 5, 3, 172, 7, 62]
abbrev dktX2_isTold_2 : List UInt8 := dkwX2_isTold_2 ++ dktX2_isTold_3
def dkwX2_isTold_1 : List UInt8 := [180, 0, 9, 27, 4, 100, 52, 42, 180, 0, 9, 27, 4, 100, 184, 1, 206, 160, 0, 25, 42, 3]
abbrev dktX2_isTold_1 : List UInt8 := dkwX2_isTold_1 ++ dktX2_isTold_2
def dkwX2_isTold_0 : List UInt8 := [7, 16, 6, 42, 182, 1, 95, 104, 96, 61, 27, 28, 42, 182, 0, 232, 96, 4, 96, 160, 0, 46, 42]
abbrev dktX2_isTold_0 : List UInt8 := dkwX2_isTold_0 ++ dktX2_isTold_1
theorem dksX2_isTold_0 : cX2_isTold.data.toList.drop 0 = dktX2_isTold_0 := by decide +kernel
theorem dksX2_isTold_1 : cX2_isTold.data.toList.drop 23 = dktX2_isTold_1 := dk_seg dksX2_isTold_0 23 rfl rfl
theorem dksX2_isTold_2 : cX2_isTold.data.toList.drop 45 = dktX2_isTold_2 := dk_seg dksX2_isTold_1 22 rfl rfl
theorem dksX2_isTold_3 : cX2_isTold.data.toList.drop 69 = dktX2_isTold_3 := dk_seg dksX2_isTold_2 24 rfl rfl
theorem dksX2_isTold_4 : cX2_isTold.data.toList.drop 93 = dktX2_isTold_4 := dk_seg dksX2_isTold_3 24 rfl rfl
theorem dksX2_isTold_5 : cX2_isTold.data.toList.drop 117 = dktX2_isTold_5 := dk_seg dksX2_isTold_4 24 rfl rfl
theorem dksX2_isTold_6 : cX2_isTold.data.toList.drop 141 = dktX2_isTold_6 := dk_seg dksX2_isTold_5 24 rfl rfl
theorem dX2_isTold_0 : decode cX2_isTold 0 = .ok (.iconst 4, 1) := dk_7 (dk_at dksX2_isTold_0 0 rfl rfl)
theorem dX2_isTold_1 : decode cX2_isTold 1 = .ok (.bipush 6, 2) := dk_16 6 (dk_at dksX2_isTold_0 1 rfl rfl)
theorem dX2_isTold_3 : decode cX2_isTold 3 = .ok (.aload_n 0, 1) := dk_42 (dk_at dksX2_isTold_0 3 rfl rfl)
theorem dX2_isTold_4 : decode cX2_isTold 4 = .ok (.invokevirtual 351, 3) := dk_182 1 95 (dk_at dksX2_isTold_0 4 rfl rfl)
theorem dX2_isTold_7 : decode cX2_isTold 7 = .ok (.imul, 1) := dk_104 (dk_at dksX2_isTold_0 7 rfl rfl)
theorem dX2_isTold_8 : decode cX2_isTold 8 = .ok (.iadd, 1) := dk_96 (dk_at dksX2_isTold_0 8 rfl rfl)
theorem dX2_isTold_9 : decode cX2_isTold 9 = .ok (.istore_n 2, 1) := dk_61 (dk_at dksX2_isTold_0 9 rfl rfl)
theorem dX2_isTold_10 : decode cX2_isTold 10 = .ok (.iload_n 1, 1) := dk_27 (dk_at dksX2_isTold_0 10 rfl rfl)
theorem dX2_isTold_11 : decode cX2_isTold 11 = .ok (.iload_n 2, 1) := dk_28 (dk_at dksX2_isTold_0 11 rfl rfl)
theorem dX2_isTold_12 : decode cX2_isTold 12 = .ok (.aload_n 0, 1) := dk_42 (dk_at dksX2_isTold_0 12 rfl rfl)
theorem dX2_isTold_13 : decode cX2_isTold 13 = .ok (.invokevirtual 232, 3) := dk_182 0 232 (dk_at dksX2_isTold_0 13 rfl rfl)
theorem dX2_isTold_16 : decode cX2_isTold 16 = .ok (.iadd, 1) := dk_96 (dk_at dksX2_isTold_0 16 rfl rfl)
theorem dX2_isTold_17 : decode cX2_isTold 17 = .ok (.iconst 1, 1) := dk_4 (dk_at dksX2_isTold_0 17 rfl rfl)
theorem dX2_isTold_18 : decode cX2_isTold 18 = .ok (.iadd, 1) := dk_96 (dk_at dksX2_isTold_0 18 rfl rfl)
theorem dX2_isTold_19 : decode cX2_isTold 19 = .ok (.if_icmp .ne 46, 3) := dk_160 0 46 (dk_at dksX2_isTold_0 19 rfl rfl)
theorem dX2_isTold_22 : decode cX2_isTold 22 = .ok (.aload_n 0, 1) := dk_42 (dk_at dksX2_isTold_0 22 rfl rfl)
theorem dX2_isTold_23 : decode cX2_isTold 23 = .ok (.getfield 9, 3) := dk_180 0 9 (dk_at dksX2_isTold_1 0 rfl rfl)
theorem dX2_isTold_26 : decode cX2_isTold 26 = .ok (.iload_n 1, 1) := dk_27 (dk_at dksX2_isTold_1 3 rfl rfl)
theorem dX2_isTold_27 : decode cX2_isTold 27 = .ok (.iconst 1, 1) := dk_4 (dk_at dksX2_isTold_1 4 rfl rfl)
theorem dX2_isTold_28 : decode cX2_isTold 28 = .ok (.isub, 1) := dk_100 (dk_at dksX2_isTold_1 5 rfl rfl)
theorem dX2_isTold_29 : decode cX2_isTold 29 = .ok (.caload, 1) := dk_52 (dk_at dksX2_isTold_1 6 rfl rfl)
theorem dX2_isTold_30 : decode cX2_isTold 30 = .ok (.aload_n 0, 1) := dk_42 (dk_at dksX2_isTold_1 7 rfl rfl)
theorem dX2_isTold_31 : decode cX2_isTold 31 = .ok (.getfield 9, 3) := dk_180 0 9 (dk_at dksX2_isTold_1 8 rfl rfl)
theorem dX2_isTold_34 : decode cX2_isTold 34 = .ok (.iload_n 1, 1) := dk_27 (dk_at dksX2_isTold_1 11 rfl rfl)
theorem dX2_isTold_35 : decode cX2_isTold 35 = .ok (.iconst 1, 1) := dk_4 (dk_at dksX2_isTold_1 12 rfl rfl)
theorem dX2_isTold_36 : decode cX2_isTold 36 = .ok (.isub, 1) := dk_100 (dk_at dksX2_isTold_1 13 rfl rfl)
theorem dX2_isTold_37 : decode cX2_isTold 37 = .ok (.invokestatic 462, 3) := dk_184 1 206 (dk_at dksX2_isTold_1 14 rfl rfl)
theorem dX2_isTold_40 : decode cX2_isTold 40 = .ok (.if_icmp .ne 25, 3) := dk_160 0 25 (dk_at dksX2_isTold_1 17 rfl rfl)
theorem dX2_isTold_43 : decode cX2_isTold 43 = .ok (.aload_n 0, 1) := dk_42 (dk_at dksX2_isTold_1 20 rfl rfl)
theorem dX2_isTold_44 : decode cX2_isTold 44 = .ok (.iconst 0, 1) := dk_3 (dk_at dksX2_isTold_1 21 rfl rfl)
theorem dX2_isTold_45 : decode cX2_isTold 45 = .ok (.invokevirtual 466, 3) := dk_182 1 210 (dk_at dksX2_isTold_2 0 rfl rfl)
theorem dX2_isTold_48 : decode cX2_isTold 48 = .ok (.sipush 999, 3) := dk_17 3 231 (dk_at dksX2_isTold_2 3 rfl rfl)
theorem dX2_isTold_51 : decode cX2_isTold 51 = .ok (.if_icmp .gt 14, 3) := dk_163 0 14 (dk_at dksX2_isTold_2 6 rfl rfl)
theorem dX2_isTold_54 : decode cX2_isTold 54 = .ok (.aload_n 0, 1) := dk_42 (dk_at dksX2_isTold_2 9 rfl rfl)
theorem dX2_isTold_55 : decode cX2_isTold 55 = .ok (.iconst 2, 1) := dk_5 (dk_at dksX2_isTold_2 10 rfl rfl)
theorem dX2_isTold_56 : decode cX2_isTold 56 = .ok (.invokevirtual 466, 3) := dk_182 1 210 (dk_at dksX2_isTold_2 11 rfl rfl)
theorem dX2_isTold_59 : decode cX2_isTold 59 = .ok (.sipush 9999, 3) := dk_17 39 15 (dk_at dksX2_isTold_2 14 rfl rfl)
theorem dX2_isTold_62 : decode cX2_isTold 62 = .ok (.if_icmp .le 5, 3) := dk_164 0 5 (dk_at dksX2_isTold_2 17 rfl rfl)
theorem dX2_isTold_65 : decode cX2_isTold 65 = .ok (.iconst 0, 1) := dk_3 (dk_at dksX2_isTold_2 20 rfl rfl)
theorem dX2_isTold_66 : decode cX2_isTold 66 = .ok (.ireturn, 1) := dk_172 (dk_at dksX2_isTold_2 21 rfl rfl)
theorem dX2_isTold_67 : decode cX2_isTold 67 = .ok (.iconst 4, 1) := dk_7 (dk_at dksX2_isTold_2 22 rfl rfl)
theorem dX2_isTold_68 : decode cX2_isTold 68 = .ok (.istore_n 3, 1) := dk_62 (dk_at dksX2_isTold_2 23 rfl rfl)
theorem dX2_isTold_69 : decode cX2_isTold 69 = .ok (.iload_n 3, 1) := dk_29 (dk_at dksX2_isTold_3 0 rfl rfl)
theorem dX2_isTold_70 : decode cX2_isTold 70 = .ok (.iload_n 2, 1) := dk_28 (dk_at dksX2_isTold_3 1 rfl rfl)
theorem dX2_isTold_71 : decode cX2_isTold 71 = .ok (.if_icmp .ge 49, 3) := dk_162 0 49 (dk_at dksX2_isTold_3 2 rfl rfl)
theorem dX2_isTold_74 : decode cX2_isTold 74 = .ok (.aload_n 0, 1) := dk_42 (dk_at dksX2_isTold_3 5 rfl rfl)
theorem dX2_isTold_75 : decode cX2_isTold 75 = .ok (.getfield 9, 3) := dk_180 0 9 (dk_at dksX2_isTold_3 6 rfl rfl)
theorem dX2_isTold_78 : decode cX2_isTold 78 = .ok (.iload_n 3, 1) := dk_29 (dk_at dksX2_isTold_3 9 rfl rfl)
theorem dX2_isTold_79 : decode cX2_isTold 79 = .ok (.caload, 1) := dk_52 (dk_at dksX2_isTold_3 10 rfl rfl)
theorem dX2_isTold_80 : decode cX2_isTold 80 = .ok (.iconst 1, 1) := dk_4 (dk_at dksX2_isTold_3 11 rfl rfl)
theorem dX2_isTold_81 : decode cX2_isTold 81 = .ok (.if_icmp .gt 31, 3) := dk_163 0 31 (dk_at dksX2_isTold_3 12 rfl rfl)
theorem dX2_isTold_84 : decode cX2_isTold 84 = .ok (.aload_n 0, 1) := dk_42 (dk_at dksX2_isTold_3 15 rfl rfl)
theorem dX2_isTold_85 : decode cX2_isTold 85 = .ok (.getfield 9, 3) := dk_180 0 9 (dk_at dksX2_isTold_3 16 rfl rfl)
theorem dX2_isTold_88 : decode cX2_isTold 88 = .ok (.iload_n 3, 1) := dk_29 (dk_at dksX2_isTold_3 19 rfl rfl)
theorem dX2_isTold_89 : decode cX2_isTold 89 = .ok (.caload, 1) := dk_52 (dk_at dksX2_isTold_3 20 rfl rfl)
theorem dX2_isTold_90 : decode cX2_isTold 90 = .ok (.ifCond .ne 14, 3) := dk_154 0 14 (dk_at dksX2_isTold_3 21 rfl rfl)
theorem dX2_isTold_93 : decode cX2_isTold 93 = .ok (.aload_n 0, 1) := dk_42 (dk_at dksX2_isTold_4 0 rfl rfl)
theorem dX2_isTold_94 : decode cX2_isTold 94 = .ok (.iload_n 3, 1) := dk_29 (dk_at dksX2_isTold_4 1 rfl rfl)
theorem dX2_isTold_95 : decode cX2_isTold 95 = .ok (.invokevirtual 469, 3) := dk_182 1 213 (dk_at dksX2_isTold_4 2 rfl rfl)
theorem dX2_isTold_98 : decode cX2_isTold 98 = .ok (.ifCond .eq 14, 3) := dk_153 0 14 (dk_at dksX2_isTold_4 5 rfl rfl)
theorem dX2_isTold_101 : decode cX2_isTold 101 = .ok (.goto 13, 3) := dk_167 0 13 (dk_at dksX2_isTold_4 8 rfl rfl)
theorem dX2_isTold_104 : decode cX2_isTold 104 = .ok (.aload_n 0, 1) := dk_42 (dk_at dksX2_isTold_4 11 rfl rfl)
theorem dX2_isTold_105 : decode cX2_isTold 105 = .ok (.iload_n 3, 1) := dk_29 (dk_at dksX2_isTold_4 12 rfl rfl)
theorem dX2_isTold_106 : decode cX2_isTold 106 = .ok (.invokevirtual 472, 3) := dk_182 1 216 (dk_at dksX2_isTold_4 13 rfl rfl)
theorem dX2_isTold_109 : decode cX2_isTold 109 = .ok (.ifCond .ne 5, 3) := dk_154 0 5 (dk_at dksX2_isTold_4 16 rfl rfl)
theorem dX2_isTold_112 : decode cX2_isTold 112 = .ok (.iconst 0, 1) := dk_3 (dk_at dksX2_isTold_4 19 rfl rfl)
theorem dX2_isTold_113 : decode cX2_isTold 113 = .ok (.ireturn, 1) := dk_172 (dk_at dksX2_isTold_4 20 rfl rfl)
theorem dX2_isTold_114 : decode cX2_isTold 114 = .ok (.iinc 3 6, 3) := dk_132 3 6 (dk_at dksX2_isTold_4 21 rfl rfl)
theorem dX2_isTold_117 : decode cX2_isTold 117 = .ok (.goto (-48), 3) := dk_167 255 208 (dk_at dksX2_isTold_5 0 rfl rfl)
theorem dX2_isTold_120 : decode cX2_isTold 120 = .ok (.iload_n 2, 1) := dk_28 (dk_at dksX2_isTold_5 3 rfl rfl)
theorem dX2_isTold_121 : decode cX2_isTold 121 = .ok (.istore_n 3, 1) := dk_62 (dk_at dksX2_isTold_5 4 rfl rfl)
theorem dX2_isTold_122 : decode cX2_isTold 122 = .ok (.iload_n 3, 1) := dk_29 (dk_at dksX2_isTold_5 5 rfl rfl)
theorem dX2_isTold_123 : decode cX2_isTold 123 = .ok (.iload_n 1, 1) := dk_27 (dk_at dksX2_isTold_5 6 rfl rfl)
theorem dX2_isTold_124 : decode cX2_isTold 124 = .ok (.iconst 1, 1) := dk_4 (dk_at dksX2_isTold_5 7 rfl rfl)
theorem dX2_isTold_125 : decode cX2_isTold 125 = .ok (.isub, 1) := dk_100 (dk_at dksX2_isTold_5 8 rfl rfl)
theorem dX2_isTold_126 : decode cX2_isTold 126 = .ok (.if_icmp .ge 34, 3) := dk_162 0 34 (dk_at dksX2_isTold_5 9 rfl rfl)
theorem dX2_isTold_129 : decode cX2_isTold 129 = .ok (.aload_n 0, 1) := dk_42 (dk_at dksX2_isTold_5 12 rfl rfl)
theorem dX2_isTold_130 : decode cX2_isTold 130 = .ok (.getfield 9, 3) := dk_180 0 9 (dk_at dksX2_isTold_5 13 rfl rfl)
theorem dX2_isTold_133 : decode cX2_isTold 133 = .ok (.iload_n 3, 1) := dk_29 (dk_at dksX2_isTold_5 16 rfl rfl)
theorem dX2_isTold_134 : decode cX2_isTold 134 = .ok (.caload, 1) := dk_52 (dk_at dksX2_isTold_5 17 rfl rfl)
theorem dX2_isTold_135 : decode cX2_isTold 135 = .ok (.bipush 20, 2) := dk_16 20 (dk_at dksX2_isTold_5 18 rfl rfl)
theorem dX2_isTold_137 : decode cX2_isTold 137 = .ok (.if_icmp .le 17, 3) := dk_164 0 17 (dk_at dksX2_isTold_5 20 rfl rfl)
theorem dX2_isTold_140 : decode cX2_isTold 140 = .ok (.aload_n 0, 1) := dk_42 (dk_at dksX2_isTold_5 23 rfl rfl)
theorem dX2_isTold_141 : decode cX2_isTold 141 = .ok (.getfield 9, 3) := dk_180 0 9 (dk_at dksX2_isTold_6 0 rfl rfl)
theorem dX2_isTold_144 : decode cX2_isTold 144 = .ok (.iload_n 3, 1) := dk_29 (dk_at dksX2_isTold_6 3 rfl rfl)
theorem dX2_isTold_145 : decode cX2_isTold 145 = .ok (.caload, 1) := dk_52 (dk_at dksX2_isTold_6 4 rfl rfl)
theorem dX2_isTold_146 : decode cX2_isTold 146 = .ok (.sipush 255, 3) := dk_17 0 255 (dk_at dksX2_isTold_6 5 rfl rfl)
theorem dX2_isTold_149 : decode cX2_isTold 149 = .ok (.if_icmp .eq 5, 3) := dk_159 0 5 (dk_at dksX2_isTold_6 8 rfl rfl)
theorem dX2_isTold_152 : decode cX2_isTold 152 = .ok (.iconst 0, 1) := dk_3 (dk_at dksX2_isTold_6 11 rfl rfl)
theorem dX2_isTold_153 : decode cX2_isTold 153 = .ok (.ireturn, 1) := dk_172 (dk_at dksX2_isTold_6 12 rfl rfl)
theorem dX2_isTold_154 : decode cX2_isTold 154 = .ok (.iinc 3 1, 3) := dk_132 3 1 (dk_at dksX2_isTold_6 13 rfl rfl)
theorem dX2_isTold_157 : decode cX2_isTold 157 = .ok (.goto (-35), 3) := dk_167 255 221 (dk_at dksX2_isTold_6 16 rfl rfl)
theorem dX2_isTold_160 : decode cX2_isTold 160 = .ok (.iconst 1, 1) := dk_4 (dk_at dksX2_isTold_6 19 rfl rfl)
theorem dX2_isTold_161 : decode cX2_isTold 161 = .ok (.ireturn, 1) := dk_172 (dk_at dksX2_isTold_6 20 rfl rfl)
abbrev cX2_twoAt : ByteArray := prog_1_method_72_code
def yX2_twoAt : MethodName := ⟨RX2, "twoAt", "(I)I"⟩
def dkwX2_twoAt_0 : List UInt8 := [17, 1, 0, 42, 180, 0, 9, 27, 52, 104, 42, 180, 0, 9, 27, 4, 96, 52, 96, 172]
abbrev dktX2_twoAt_0 : List UInt8 := dkwX2_twoAt_0 ++ []
theorem dksX2_twoAt_0 : cX2_twoAt.data.toList.drop 0 = dktX2_twoAt_0 := by decide +kernel
theorem dX2_twoAt_0 : decode cX2_twoAt 0 = .ok (.sipush 256, 3) := dk_17 1 0 (dk_at dksX2_twoAt_0 0 rfl rfl)
theorem dX2_twoAt_3 : decode cX2_twoAt 3 = .ok (.aload_n 0, 1) := dk_42 (dk_at dksX2_twoAt_0 3 rfl rfl)
theorem dX2_twoAt_4 : decode cX2_twoAt 4 = .ok (.getfield 9, 3) := dk_180 0 9 (dk_at dksX2_twoAt_0 4 rfl rfl)
theorem dX2_twoAt_7 : decode cX2_twoAt 7 = .ok (.iload_n 1, 1) := dk_27 (dk_at dksX2_twoAt_0 7 rfl rfl)
theorem dX2_twoAt_8 : decode cX2_twoAt 8 = .ok (.caload, 1) := dk_52 (dk_at dksX2_twoAt_0 8 rfl rfl)
theorem dX2_twoAt_9 : decode cX2_twoAt 9 = .ok (.imul, 1) := dk_104 (dk_at dksX2_twoAt_0 9 rfl rfl)
theorem dX2_twoAt_10 : decode cX2_twoAt 10 = .ok (.aload_n 0, 1) := dk_42 (dk_at dksX2_twoAt_0 10 rfl rfl)
theorem dX2_twoAt_11 : decode cX2_twoAt 11 = .ok (.getfield 9, 3) := dk_180 0 9 (dk_at dksX2_twoAt_0 11 rfl rfl)
theorem dX2_twoAt_14 : decode cX2_twoAt 14 = .ok (.iload_n 1, 1) := dk_27 (dk_at dksX2_twoAt_0 14 rfl rfl)
theorem dX2_twoAt_15 : decode cX2_twoAt 15 = .ok (.iconst 1, 1) := dk_4 (dk_at dksX2_twoAt_0 15 rfl rfl)
theorem dX2_twoAt_16 : decode cX2_twoAt 16 = .ok (.iadd, 1) := dk_96 (dk_at dksX2_twoAt_0 16 rfl rfl)
theorem dX2_twoAt_17 : decode cX2_twoAt 17 = .ok (.caload, 1) := dk_52 (dk_at dksX2_twoAt_0 17 rfl rfl)
theorem dX2_twoAt_18 : decode cX2_twoAt 18 = .ok (.iadd, 1) := dk_96 (dk_at dksX2_twoAt_0 18 rfl rfl)
theorem dX2_twoAt_19 : decode cX2_twoAt 19 = .ok (.ireturn, 1) := dk_172 (dk_at dksX2_twoAt_0 19 rfl rfl)
abbrev cX2_isRawTold : ByteArray := prog_1_method_73_code
def yX2_isRawTold : MethodName := ⟨RX2, "isRawTold", "(I)Z"⟩
def dkwX2_isRawTold_7 : List UInt8 := [167, 255, 208, 4, 172]
abbrev dktX2_isRawTold_7 : List UInt8 := dkwX2_isRawTold_7 ++ []
def dkwX2_isRawTold_6 : List UInt8 := [180, 0, 9, 28, 5, 96, 52, 42, 180, 0, 9, 27, 5, 96, 52, 160, 0, 5, 3, 172, 132, 2, 6]
abbrev dktX2_isRawTold_6 : List UInt8 := dkwX2_isRawTold_6 ++ dktX2_isRawTold_7
def dkwX2_isRawTold_5 : List UInt8 := [162, 0, 49, 42, 180, 0, 9, 28, 4, 96, 52, 42, 180, 0, 9, 27, 4, 96, 52, 160, 0, 24, 42]
abbrev dktX2_isRawTold_5 : List UInt8 := dkwX2_isRawTold_5 ++ dktX2_isRawTold_6
def dkwX2_isRawTold_4 : List UInt8 := [180, 0, 9, 27, 4, 96, 52, 182, 1, 61, 180, 0, 214, 161, 0, 5, 3, 172, 7, 61, 28, 27]
abbrev dktX2_isRawTold_4 : List UInt8 := dkwX2_isRawTold_4 ++ dktX2_isRawTold_5
def dkwX2_isRawTold_3 : List UInt8 := [180, 0, 9, 27, 4, 96, 52, 182, 1, 61, 198, 0, 29, 42, 180, 0, 9, 27, 5, 96, 52, 42, 42]
abbrev dktX2_isRawTold_3 : List UInt8 := dkwX2_isRawTold_3 ++ dktX2_isRawTold_4
def dkwX2_isRawTold_2 : List UInt8 := [17, 0, 255, 160, 0, 19, 42, 180, 0, 9, 27, 5, 96, 52, 17, 0, 255, 160, 0, 5, 4, 172, 42, 42]
abbrev dktX2_isRawTold_2 : List UInt8 := dkwX2_isRawTold_2 ++ dktX2_isRawTold_3
def dkwX2_isRawTold_1 : List UInt8 := [154, 0, 14, 42, 180, 0, 9, 27, 8, 96, 52, 153, 0, 5, 3, 172, 42, 180, 0, 9, 27, 4, 96, 52]
abbrev dktX2_isRawTold_1 : List UInt8 := dkwX2_isRawTold_1 ++ dktX2_isRawTold_2
def dkwX2_isRawTold_0 : List UInt8 := [42, 180, 0, 9, 27, 6, 96, 52, 17, 0, 255, 160, 0, 25, 42, 180, 0, 9, 27, 7, 96, 52]
abbrev dktX2_isRawTold_0 : List UInt8 := dkwX2_isRawTold_0 ++ dktX2_isRawTold_1
theorem dksX2_isRawTold_0 : cX2_isRawTold.data.toList.drop 0 = dktX2_isRawTold_0 := by decide +kernel
theorem dksX2_isRawTold_1 : cX2_isRawTold.data.toList.drop 22 = dktX2_isRawTold_1 := dk_seg dksX2_isRawTold_0 22 rfl rfl
theorem dksX2_isRawTold_2 : cX2_isRawTold.data.toList.drop 46 = dktX2_isRawTold_2 := dk_seg dksX2_isRawTold_1 24 rfl rfl
theorem dksX2_isRawTold_3 : cX2_isRawTold.data.toList.drop 70 = dktX2_isRawTold_3 := dk_seg dksX2_isRawTold_2 24 rfl rfl
theorem dksX2_isRawTold_4 : cX2_isRawTold.data.toList.drop 93 = dktX2_isRawTold_4 := dk_seg dksX2_isRawTold_3 23 rfl rfl
theorem dksX2_isRawTold_5 : cX2_isRawTold.data.toList.drop 115 = dktX2_isRawTold_5 := dk_seg dksX2_isRawTold_4 22 rfl rfl
theorem dksX2_isRawTold_6 : cX2_isRawTold.data.toList.drop 138 = dktX2_isRawTold_6 := dk_seg dksX2_isRawTold_5 23 rfl rfl
theorem dksX2_isRawTold_7 : cX2_isRawTold.data.toList.drop 161 = dktX2_isRawTold_7 := dk_seg dksX2_isRawTold_6 23 rfl rfl
theorem dX2_isRawTold_0 : decode cX2_isRawTold 0 = .ok (.aload_n 0, 1) := dk_42 (dk_at dksX2_isRawTold_0 0 rfl rfl)
theorem dX2_isRawTold_1 : decode cX2_isRawTold 1 = .ok (.getfield 9, 3) := dk_180 0 9 (dk_at dksX2_isRawTold_0 1 rfl rfl)
theorem dX2_isRawTold_4 : decode cX2_isRawTold 4 = .ok (.iload_n 1, 1) := dk_27 (dk_at dksX2_isRawTold_0 4 rfl rfl)
theorem dX2_isRawTold_5 : decode cX2_isRawTold 5 = .ok (.iconst 3, 1) := dk_6 (dk_at dksX2_isRawTold_0 5 rfl rfl)
theorem dX2_isRawTold_6 : decode cX2_isRawTold 6 = .ok (.iadd, 1) := dk_96 (dk_at dksX2_isRawTold_0 6 rfl rfl)
theorem dX2_isRawTold_7 : decode cX2_isRawTold 7 = .ok (.caload, 1) := dk_52 (dk_at dksX2_isRawTold_0 7 rfl rfl)
theorem dX2_isRawTold_8 : decode cX2_isRawTold 8 = .ok (.sipush 255, 3) := dk_17 0 255 (dk_at dksX2_isRawTold_0 8 rfl rfl)
theorem dX2_isRawTold_11 : decode cX2_isRawTold 11 = .ok (.if_icmp .ne 25, 3) := dk_160 0 25 (dk_at dksX2_isRawTold_0 11 rfl rfl)
theorem dX2_isRawTold_14 : decode cX2_isRawTold 14 = .ok (.aload_n 0, 1) := dk_42 (dk_at dksX2_isRawTold_0 14 rfl rfl)
theorem dX2_isRawTold_15 : decode cX2_isRawTold 15 = .ok (.getfield 9, 3) := dk_180 0 9 (dk_at dksX2_isRawTold_0 15 rfl rfl)
theorem dX2_isRawTold_18 : decode cX2_isRawTold 18 = .ok (.iload_n 1, 1) := dk_27 (dk_at dksX2_isRawTold_0 18 rfl rfl)
theorem dX2_isRawTold_19 : decode cX2_isRawTold 19 = .ok (.iconst 4, 1) := dk_7 (dk_at dksX2_isRawTold_0 19 rfl rfl)
theorem dX2_isRawTold_20 : decode cX2_isRawTold 20 = .ok (.iadd, 1) := dk_96 (dk_at dksX2_isRawTold_0 20 rfl rfl)
theorem dX2_isRawTold_21 : decode cX2_isRawTold 21 = .ok (.caload, 1) := dk_52 (dk_at dksX2_isRawTold_0 21 rfl rfl)
theorem dX2_isRawTold_22 : decode cX2_isRawTold 22 = .ok (.ifCond .ne 14, 3) := dk_154 0 14 (dk_at dksX2_isRawTold_1 0 rfl rfl)
theorem dX2_isRawTold_25 : decode cX2_isRawTold 25 = .ok (.aload_n 0, 1) := dk_42 (dk_at dksX2_isRawTold_1 3 rfl rfl)
theorem dX2_isRawTold_26 : decode cX2_isRawTold 26 = .ok (.getfield 9, 3) := dk_180 0 9 (dk_at dksX2_isRawTold_1 4 rfl rfl)
theorem dX2_isRawTold_29 : decode cX2_isRawTold 29 = .ok (.iload_n 1, 1) := dk_27 (dk_at dksX2_isRawTold_1 7 rfl rfl)
theorem dX2_isRawTold_30 : decode cX2_isRawTold 30 = .ok (.iconst 5, 1) := dk_8 (dk_at dksX2_isRawTold_1 8 rfl rfl)
theorem dX2_isRawTold_31 : decode cX2_isRawTold 31 = .ok (.iadd, 1) := dk_96 (dk_at dksX2_isRawTold_1 9 rfl rfl)
theorem dX2_isRawTold_32 : decode cX2_isRawTold 32 = .ok (.caload, 1) := dk_52 (dk_at dksX2_isRawTold_1 10 rfl rfl)
theorem dX2_isRawTold_33 : decode cX2_isRawTold 33 = .ok (.ifCond .eq 5, 3) := dk_153 0 5 (dk_at dksX2_isRawTold_1 11 rfl rfl)
theorem dX2_isRawTold_36 : decode cX2_isRawTold 36 = .ok (.iconst 0, 1) := dk_3 (dk_at dksX2_isRawTold_1 14 rfl rfl)
theorem dX2_isRawTold_37 : decode cX2_isRawTold 37 = .ok (.ireturn, 1) := dk_172 (dk_at dksX2_isRawTold_1 15 rfl rfl)
theorem dX2_isRawTold_38 : decode cX2_isRawTold 38 = .ok (.aload_n 0, 1) := dk_42 (dk_at dksX2_isRawTold_1 16 rfl rfl)
theorem dX2_isRawTold_39 : decode cX2_isRawTold 39 = .ok (.getfield 9, 3) := dk_180 0 9 (dk_at dksX2_isRawTold_1 17 rfl rfl)
theorem dX2_isRawTold_42 : decode cX2_isRawTold 42 = .ok (.iload_n 1, 1) := dk_27 (dk_at dksX2_isRawTold_1 20 rfl rfl)
theorem dX2_isRawTold_43 : decode cX2_isRawTold 43 = .ok (.iconst 1, 1) := dk_4 (dk_at dksX2_isRawTold_1 21 rfl rfl)
theorem dX2_isRawTold_44 : decode cX2_isRawTold 44 = .ok (.iadd, 1) := dk_96 (dk_at dksX2_isRawTold_1 22 rfl rfl)
theorem dX2_isRawTold_45 : decode cX2_isRawTold 45 = .ok (.caload, 1) := dk_52 (dk_at dksX2_isRawTold_1 23 rfl rfl)
theorem dX2_isRawTold_46 : decode cX2_isRawTold 46 = .ok (.sipush 255, 3) := dk_17 0 255 (dk_at dksX2_isRawTold_2 0 rfl rfl)
theorem dX2_isRawTold_49 : decode cX2_isRawTold 49 = .ok (.if_icmp .ne 19, 3) := dk_160 0 19 (dk_at dksX2_isRawTold_2 3 rfl rfl)
theorem dX2_isRawTold_52 : decode cX2_isRawTold 52 = .ok (.aload_n 0, 1) := dk_42 (dk_at dksX2_isRawTold_2 6 rfl rfl)
theorem dX2_isRawTold_53 : decode cX2_isRawTold 53 = .ok (.getfield 9, 3) := dk_180 0 9 (dk_at dksX2_isRawTold_2 7 rfl rfl)
theorem dX2_isRawTold_56 : decode cX2_isRawTold 56 = .ok (.iload_n 1, 1) := dk_27 (dk_at dksX2_isRawTold_2 10 rfl rfl)
theorem dX2_isRawTold_57 : decode cX2_isRawTold 57 = .ok (.iconst 2, 1) := dk_5 (dk_at dksX2_isRawTold_2 11 rfl rfl)
theorem dX2_isRawTold_58 : decode cX2_isRawTold 58 = .ok (.iadd, 1) := dk_96 (dk_at dksX2_isRawTold_2 12 rfl rfl)
theorem dX2_isRawTold_59 : decode cX2_isRawTold 59 = .ok (.caload, 1) := dk_52 (dk_at dksX2_isRawTold_2 13 rfl rfl)
theorem dX2_isRawTold_60 : decode cX2_isRawTold 60 = .ok (.sipush 255, 3) := dk_17 0 255 (dk_at dksX2_isRawTold_2 14 rfl rfl)
theorem dX2_isRawTold_63 : decode cX2_isRawTold 63 = .ok (.if_icmp .ne 5, 3) := dk_160 0 5 (dk_at dksX2_isRawTold_2 17 rfl rfl)
theorem dX2_isRawTold_66 : decode cX2_isRawTold 66 = .ok (.iconst 1, 1) := dk_4 (dk_at dksX2_isRawTold_2 20 rfl rfl)
theorem dX2_isRawTold_67 : decode cX2_isRawTold 67 = .ok (.ireturn, 1) := dk_172 (dk_at dksX2_isRawTold_2 21 rfl rfl)
theorem dX2_isRawTold_68 : decode cX2_isRawTold 68 = .ok (.aload_n 0, 1) := dk_42 (dk_at dksX2_isRawTold_2 22 rfl rfl)
theorem dX2_isRawTold_69 : decode cX2_isRawTold 69 = .ok (.aload_n 0, 1) := dk_42 (dk_at dksX2_isRawTold_2 23 rfl rfl)
theorem dX2_isRawTold_70 : decode cX2_isRawTold 70 = .ok (.getfield 9, 3) := dk_180 0 9 (dk_at dksX2_isRawTold_3 0 rfl rfl)
theorem dX2_isRawTold_73 : decode cX2_isRawTold 73 = .ok (.iload_n 1, 1) := dk_27 (dk_at dksX2_isRawTold_3 3 rfl rfl)
theorem dX2_isRawTold_74 : decode cX2_isRawTold 74 = .ok (.iconst 1, 1) := dk_4 (dk_at dksX2_isRawTold_3 4 rfl rfl)
theorem dX2_isRawTold_75 : decode cX2_isRawTold 75 = .ok (.iadd, 1) := dk_96 (dk_at dksX2_isRawTold_3 5 rfl rfl)
theorem dX2_isRawTold_76 : decode cX2_isRawTold 76 = .ok (.caload, 1) := dk_52 (dk_at dksX2_isRawTold_3 6 rfl rfl)
theorem dX2_isRawTold_77 : decode cX2_isRawTold 77 = .ok (.invokevirtual 317, 3) := dk_182 1 61 (dk_at dksX2_isRawTold_3 7 rfl rfl)
theorem dX2_isRawTold_80 : decode cX2_isRawTold 80 = .ok (.ifnull 29, 3) := dk_198 0 29 (dk_at dksX2_isRawTold_3 10 rfl rfl)
theorem dX2_isRawTold_83 : decode cX2_isRawTold 83 = .ok (.aload_n 0, 1) := dk_42 (dk_at dksX2_isRawTold_3 13 rfl rfl)
theorem dX2_isRawTold_84 : decode cX2_isRawTold 84 = .ok (.getfield 9, 3) := dk_180 0 9 (dk_at dksX2_isRawTold_3 14 rfl rfl)
theorem dX2_isRawTold_87 : decode cX2_isRawTold 87 = .ok (.iload_n 1, 1) := dk_27 (dk_at dksX2_isRawTold_3 17 rfl rfl)
theorem dX2_isRawTold_88 : decode cX2_isRawTold 88 = .ok (.iconst 2, 1) := dk_5 (dk_at dksX2_isRawTold_3 18 rfl rfl)
theorem dX2_isRawTold_89 : decode cX2_isRawTold 89 = .ok (.iadd, 1) := dk_96 (dk_at dksX2_isRawTold_3 19 rfl rfl)
theorem dX2_isRawTold_90 : decode cX2_isRawTold 90 = .ok (.caload, 1) := dk_52 (dk_at dksX2_isRawTold_3 20 rfl rfl)
theorem dX2_isRawTold_91 : decode cX2_isRawTold 91 = .ok (.aload_n 0, 1) := dk_42 (dk_at dksX2_isRawTold_3 21 rfl rfl)
theorem dX2_isRawTold_92 : decode cX2_isRawTold 92 = .ok (.aload_n 0, 1) := dk_42 (dk_at dksX2_isRawTold_3 22 rfl rfl)
theorem dX2_isRawTold_93 : decode cX2_isRawTold 93 = .ok (.getfield 9, 3) := dk_180 0 9 (dk_at dksX2_isRawTold_4 0 rfl rfl)
theorem dX2_isRawTold_96 : decode cX2_isRawTold 96 = .ok (.iload_n 1, 1) := dk_27 (dk_at dksX2_isRawTold_4 3 rfl rfl)
theorem dX2_isRawTold_97 : decode cX2_isRawTold 97 = .ok (.iconst 1, 1) := dk_4 (dk_at dksX2_isRawTold_4 4 rfl rfl)
theorem dX2_isRawTold_98 : decode cX2_isRawTold 98 = .ok (.iadd, 1) := dk_96 (dk_at dksX2_isRawTold_4 5 rfl rfl)
theorem dX2_isRawTold_99 : decode cX2_isRawTold 99 = .ok (.caload, 1) := dk_52 (dk_at dksX2_isRawTold_4 6 rfl rfl)
theorem dX2_isRawTold_100 : decode cX2_isRawTold 100 = .ok (.invokevirtual 317, 3) := dk_182 1 61 (dk_at dksX2_isRawTold_4 7 rfl rfl)
theorem dX2_isRawTold_103 : decode cX2_isRawTold 103 = .ok (.getfield 214, 3) := dk_180 0 214 (dk_at dksX2_isRawTold_4 10 rfl rfl)
theorem dX2_isRawTold_106 : decode cX2_isRawTold 106 = .ok (.if_icmp .lt 5, 3) := dk_161 0 5 (dk_at dksX2_isRawTold_4 13 rfl rfl)
theorem dX2_isRawTold_109 : decode cX2_isRawTold 109 = .ok (.iconst 0, 1) := dk_3 (dk_at dksX2_isRawTold_4 16 rfl rfl)
theorem dX2_isRawTold_110 : decode cX2_isRawTold 110 = .ok (.ireturn, 1) := dk_172 (dk_at dksX2_isRawTold_4 17 rfl rfl)
theorem dX2_isRawTold_111 : decode cX2_isRawTold 111 = .ok (.iconst 4, 1) := dk_7 (dk_at dksX2_isRawTold_4 18 rfl rfl)
theorem dX2_isRawTold_112 : decode cX2_isRawTold 112 = .ok (.istore_n 2, 1) := dk_61 (dk_at dksX2_isRawTold_4 19 rfl rfl)
theorem dX2_isRawTold_113 : decode cX2_isRawTold 113 = .ok (.iload_n 2, 1) := dk_28 (dk_at dksX2_isRawTold_4 20 rfl rfl)
theorem dX2_isRawTold_114 : decode cX2_isRawTold 114 = .ok (.iload_n 1, 1) := dk_27 (dk_at dksX2_isRawTold_4 21 rfl rfl)
theorem dX2_isRawTold_115 : decode cX2_isRawTold 115 = .ok (.if_icmp .ge 49, 3) := dk_162 0 49 (dk_at dksX2_isRawTold_5 0 rfl rfl)
theorem dX2_isRawTold_118 : decode cX2_isRawTold 118 = .ok (.aload_n 0, 1) := dk_42 (dk_at dksX2_isRawTold_5 3 rfl rfl)
theorem dX2_isRawTold_119 : decode cX2_isRawTold 119 = .ok (.getfield 9, 3) := dk_180 0 9 (dk_at dksX2_isRawTold_5 4 rfl rfl)
theorem dX2_isRawTold_122 : decode cX2_isRawTold 122 = .ok (.iload_n 2, 1) := dk_28 (dk_at dksX2_isRawTold_5 7 rfl rfl)
theorem dX2_isRawTold_123 : decode cX2_isRawTold 123 = .ok (.iconst 1, 1) := dk_4 (dk_at dksX2_isRawTold_5 8 rfl rfl)
theorem dX2_isRawTold_124 : decode cX2_isRawTold 124 = .ok (.iadd, 1) := dk_96 (dk_at dksX2_isRawTold_5 9 rfl rfl)
theorem dX2_isRawTold_125 : decode cX2_isRawTold 125 = .ok (.caload, 1) := dk_52 (dk_at dksX2_isRawTold_5 10 rfl rfl)
theorem dX2_isRawTold_126 : decode cX2_isRawTold 126 = .ok (.aload_n 0, 1) := dk_42 (dk_at dksX2_isRawTold_5 11 rfl rfl)
theorem dX2_isRawTold_127 : decode cX2_isRawTold 127 = .ok (.getfield 9, 3) := dk_180 0 9 (dk_at dksX2_isRawTold_5 12 rfl rfl)
theorem dX2_isRawTold_130 : decode cX2_isRawTold 130 = .ok (.iload_n 1, 1) := dk_27 (dk_at dksX2_isRawTold_5 15 rfl rfl)
theorem dX2_isRawTold_131 : decode cX2_isRawTold 131 = .ok (.iconst 1, 1) := dk_4 (dk_at dksX2_isRawTold_5 16 rfl rfl)
theorem dX2_isRawTold_132 : decode cX2_isRawTold 132 = .ok (.iadd, 1) := dk_96 (dk_at dksX2_isRawTold_5 17 rfl rfl)
theorem dX2_isRawTold_133 : decode cX2_isRawTold 133 = .ok (.caload, 1) := dk_52 (dk_at dksX2_isRawTold_5 18 rfl rfl)
theorem dX2_isRawTold_134 : decode cX2_isRawTold 134 = .ok (.if_icmp .ne 24, 3) := dk_160 0 24 (dk_at dksX2_isRawTold_5 19 rfl rfl)
theorem dX2_isRawTold_137 : decode cX2_isRawTold 137 = .ok (.aload_n 0, 1) := dk_42 (dk_at dksX2_isRawTold_5 22 rfl rfl)
theorem dX2_isRawTold_138 : decode cX2_isRawTold 138 = .ok (.getfield 9, 3) := dk_180 0 9 (dk_at dksX2_isRawTold_6 0 rfl rfl)
theorem dX2_isRawTold_141 : decode cX2_isRawTold 141 = .ok (.iload_n 2, 1) := dk_28 (dk_at dksX2_isRawTold_6 3 rfl rfl)
theorem dX2_isRawTold_142 : decode cX2_isRawTold 142 = .ok (.iconst 2, 1) := dk_5 (dk_at dksX2_isRawTold_6 4 rfl rfl)
theorem dX2_isRawTold_143 : decode cX2_isRawTold 143 = .ok (.iadd, 1) := dk_96 (dk_at dksX2_isRawTold_6 5 rfl rfl)
theorem dX2_isRawTold_144 : decode cX2_isRawTold 144 = .ok (.caload, 1) := dk_52 (dk_at dksX2_isRawTold_6 6 rfl rfl)
theorem dX2_isRawTold_145 : decode cX2_isRawTold 145 = .ok (.aload_n 0, 1) := dk_42 (dk_at dksX2_isRawTold_6 7 rfl rfl)
theorem dX2_isRawTold_146 : decode cX2_isRawTold 146 = .ok (.getfield 9, 3) := dk_180 0 9 (dk_at dksX2_isRawTold_6 8 rfl rfl)
theorem dX2_isRawTold_149 : decode cX2_isRawTold 149 = .ok (.iload_n 1, 1) := dk_27 (dk_at dksX2_isRawTold_6 11 rfl rfl)
theorem dX2_isRawTold_150 : decode cX2_isRawTold 150 = .ok (.iconst 2, 1) := dk_5 (dk_at dksX2_isRawTold_6 12 rfl rfl)
theorem dX2_isRawTold_151 : decode cX2_isRawTold 151 = .ok (.iadd, 1) := dk_96 (dk_at dksX2_isRawTold_6 13 rfl rfl)
theorem dX2_isRawTold_152 : decode cX2_isRawTold 152 = .ok (.caload, 1) := dk_52 (dk_at dksX2_isRawTold_6 14 rfl rfl)
theorem dX2_isRawTold_153 : decode cX2_isRawTold 153 = .ok (.if_icmp .ne 5, 3) := dk_160 0 5 (dk_at dksX2_isRawTold_6 15 rfl rfl)
theorem dX2_isRawTold_156 : decode cX2_isRawTold 156 = .ok (.iconst 0, 1) := dk_3 (dk_at dksX2_isRawTold_6 18 rfl rfl)
theorem dX2_isRawTold_157 : decode cX2_isRawTold 157 = .ok (.ireturn, 1) := dk_172 (dk_at dksX2_isRawTold_6 19 rfl rfl)
theorem dX2_isRawTold_158 : decode cX2_isRawTold 158 = .ok (.iinc 2 6, 3) := dk_132 2 6 (dk_at dksX2_isRawTold_6 20 rfl rfl)
theorem dX2_isRawTold_161 : decode cX2_isRawTold 161 = .ok (.goto (-48), 3) := dk_167 255 208 (dk_at dksX2_isRawTold_7 0 rfl rfl)
theorem dX2_isRawTold_164 : decode cX2_isRawTold 164 = .ok (.iconst 1, 1) := dk_4 (dk_at dksX2_isRawTold_7 3 rfl rfl)
theorem dX2_isRawTold_165 : decode cX2_isRawTold 165 = .ok (.ireturn, 1) := dk_172 (dk_at dksX2_isRawTold_7 4 rfl rfl)
abbrev cX2_isFiredTold : ByteArray := prog_1_method_74_code
def yX2_isFiredTold : MethodName := ⟨RX2, "isFiredTold", "(I)Z"⟩
def dkwX2_isFiredTold_6 : List UInt8 := [154, 0, 5, 3, 172, 132, 3, 1, 167, 255, 188, 4, 172]
abbrev dktX2_isFiredTold_6 : List UInt8 := dkwX2_isFiredTold_6 ++ []
def dkwX2_isFiredTold_5 : List UInt8 := [104, 96, 52, 4, 160, 0, 22, 42, 180, 0, 9, 16, 9, 16, 6, 29, 104, 96, 52, 28, 122, 4, 126]
abbrev dktX2_isFiredTold_5 : List UInt8 := dkwX2_isFiredTold_5 ++ dktX2_isFiredTold_6
def dkwX2_isFiredTold_4 : List UInt8 := [8, 96, 52, 29, 122, 4, 126, 4, 160, 0, 44, 29, 28, 159, 0, 37, 42, 180, 0, 9, 7, 16, 6, 29]
abbrev dktX2_isFiredTold_4 : List UInt8 := dkwX2_isFiredTold_4 ++ dktX2_isFiredTold_5
def dkwX2_isFiredTold_3 : List UInt8 := [3, 172, 27, 7, 100, 16, 6, 108, 61, 3, 62, 29, 42, 182, 1, 95, 162, 0, 66, 42, 180, 0, 9, 27]
abbrev dktX2_isFiredTold_3 : List UInt8 := dkwX2_isFiredTold_3 ++ dktX2_isFiredTold_4
def dkwX2_isFiredTold_2 : List UInt8 := [7, 96, 52, 4, 163, 0, 20, 42, 180, 0, 9, 27, 8, 96, 52, 4, 42, 182, 1, 95, 120, 161, 0, 5]
abbrev dktX2_isFiredTold_2 : List UInt8 := dkwX2_isFiredTold_2 ++ dktX2_isFiredTold_3
def dkwX2_isFiredTold_1 : List UInt8 := [17, 0, 255, 160, 0, 45, 42, 180, 0, 9, 27, 6, 96, 52, 16, 99, 163, 0, 32, 42, 180, 0, 9, 27]
abbrev dktX2_isFiredTold_1 : List UInt8 := dkwX2_isFiredTold_1 ++ dktX2_isFiredTold_2
def dkwX2_isFiredTold_0 : List UInt8 := [42, 180, 0, 9, 27, 4, 96, 52, 17, 0, 255, 160, 0, 59, 42, 180, 0, 9, 27, 5, 96, 52]
abbrev dktX2_isFiredTold_0 : List UInt8 := dkwX2_isFiredTold_0 ++ dktX2_isFiredTold_1
theorem dksX2_isFiredTold_0 : cX2_isFiredTold.data.toList.drop 0 = dktX2_isFiredTold_0 := by decide +kernel
theorem dksX2_isFiredTold_1 : cX2_isFiredTold.data.toList.drop 22 = dktX2_isFiredTold_1 := dk_seg dksX2_isFiredTold_0 22 rfl rfl
theorem dksX2_isFiredTold_2 : cX2_isFiredTold.data.toList.drop 46 = dktX2_isFiredTold_2 := dk_seg dksX2_isFiredTold_1 24 rfl rfl
theorem dksX2_isFiredTold_3 : cX2_isFiredTold.data.toList.drop 70 = dktX2_isFiredTold_3 := dk_seg dksX2_isFiredTold_2 24 rfl rfl
theorem dksX2_isFiredTold_4 : cX2_isFiredTold.data.toList.drop 94 = dktX2_isFiredTold_4 := dk_seg dksX2_isFiredTold_3 24 rfl rfl
theorem dksX2_isFiredTold_5 : cX2_isFiredTold.data.toList.drop 118 = dktX2_isFiredTold_5 := dk_seg dksX2_isFiredTold_4 24 rfl rfl
theorem dksX2_isFiredTold_6 : cX2_isFiredTold.data.toList.drop 141 = dktX2_isFiredTold_6 := dk_seg dksX2_isFiredTold_5 23 rfl rfl
theorem dX2_isFiredTold_0 : decode cX2_isFiredTold 0 = .ok (.aload_n 0, 1) := dk_42 (dk_at dksX2_isFiredTold_0 0 rfl rfl)
theorem dX2_isFiredTold_1 : decode cX2_isFiredTold 1 = .ok (.getfield 9, 3) := dk_180 0 9 (dk_at dksX2_isFiredTold_0 1 rfl rfl)
theorem dX2_isFiredTold_4 : decode cX2_isFiredTold 4 = .ok (.iload_n 1, 1) := dk_27 (dk_at dksX2_isFiredTold_0 4 rfl rfl)
theorem dX2_isFiredTold_5 : decode cX2_isFiredTold 5 = .ok (.iconst 1, 1) := dk_4 (dk_at dksX2_isFiredTold_0 5 rfl rfl)
theorem dX2_isFiredTold_6 : decode cX2_isFiredTold 6 = .ok (.iadd, 1) := dk_96 (dk_at dksX2_isFiredTold_0 6 rfl rfl)
theorem dX2_isFiredTold_7 : decode cX2_isFiredTold 7 = .ok (.caload, 1) := dk_52 (dk_at dksX2_isFiredTold_0 7 rfl rfl)
theorem dX2_isFiredTold_8 : decode cX2_isFiredTold 8 = .ok (.sipush 255, 3) := dk_17 0 255 (dk_at dksX2_isFiredTold_0 8 rfl rfl)
theorem dX2_isFiredTold_11 : decode cX2_isFiredTold 11 = .ok (.if_icmp .ne 59, 3) := dk_160 0 59 (dk_at dksX2_isFiredTold_0 11 rfl rfl)
theorem dX2_isFiredTold_14 : decode cX2_isFiredTold 14 = .ok (.aload_n 0, 1) := dk_42 (dk_at dksX2_isFiredTold_0 14 rfl rfl)
theorem dX2_isFiredTold_15 : decode cX2_isFiredTold 15 = .ok (.getfield 9, 3) := dk_180 0 9 (dk_at dksX2_isFiredTold_0 15 rfl rfl)
theorem dX2_isFiredTold_18 : decode cX2_isFiredTold 18 = .ok (.iload_n 1, 1) := dk_27 (dk_at dksX2_isFiredTold_0 18 rfl rfl)
theorem dX2_isFiredTold_19 : decode cX2_isFiredTold 19 = .ok (.iconst 2, 1) := dk_5 (dk_at dksX2_isFiredTold_0 19 rfl rfl)
theorem dX2_isFiredTold_20 : decode cX2_isFiredTold 20 = .ok (.iadd, 1) := dk_96 (dk_at dksX2_isFiredTold_0 20 rfl rfl)
theorem dX2_isFiredTold_21 : decode cX2_isFiredTold 21 = .ok (.caload, 1) := dk_52 (dk_at dksX2_isFiredTold_0 21 rfl rfl)
theorem dX2_isFiredTold_22 : decode cX2_isFiredTold 22 = .ok (.sipush 255, 3) := dk_17 0 255 (dk_at dksX2_isFiredTold_1 0 rfl rfl)
theorem dX2_isFiredTold_25 : decode cX2_isFiredTold 25 = .ok (.if_icmp .ne 45, 3) := dk_160 0 45 (dk_at dksX2_isFiredTold_1 3 rfl rfl)
theorem dX2_isFiredTold_28 : decode cX2_isFiredTold 28 = .ok (.aload_n 0, 1) := dk_42 (dk_at dksX2_isFiredTold_1 6 rfl rfl)
theorem dX2_isFiredTold_29 : decode cX2_isFiredTold 29 = .ok (.getfield 9, 3) := dk_180 0 9 (dk_at dksX2_isFiredTold_1 7 rfl rfl)
theorem dX2_isFiredTold_32 : decode cX2_isFiredTold 32 = .ok (.iload_n 1, 1) := dk_27 (dk_at dksX2_isFiredTold_1 10 rfl rfl)
theorem dX2_isFiredTold_33 : decode cX2_isFiredTold 33 = .ok (.iconst 3, 1) := dk_6 (dk_at dksX2_isFiredTold_1 11 rfl rfl)
theorem dX2_isFiredTold_34 : decode cX2_isFiredTold 34 = .ok (.iadd, 1) := dk_96 (dk_at dksX2_isFiredTold_1 12 rfl rfl)
theorem dX2_isFiredTold_35 : decode cX2_isFiredTold 35 = .ok (.caload, 1) := dk_52 (dk_at dksX2_isFiredTold_1 13 rfl rfl)
theorem dX2_isFiredTold_36 : decode cX2_isFiredTold 36 = .ok (.bipush 99, 2) := dk_16 99 (dk_at dksX2_isFiredTold_1 14 rfl rfl)
theorem dX2_isFiredTold_38 : decode cX2_isFiredTold 38 = .ok (.if_icmp .gt 32, 3) := dk_163 0 32 (dk_at dksX2_isFiredTold_1 16 rfl rfl)
theorem dX2_isFiredTold_41 : decode cX2_isFiredTold 41 = .ok (.aload_n 0, 1) := dk_42 (dk_at dksX2_isFiredTold_1 19 rfl rfl)
theorem dX2_isFiredTold_42 : decode cX2_isFiredTold 42 = .ok (.getfield 9, 3) := dk_180 0 9 (dk_at dksX2_isFiredTold_1 20 rfl rfl)
theorem dX2_isFiredTold_45 : decode cX2_isFiredTold 45 = .ok (.iload_n 1, 1) := dk_27 (dk_at dksX2_isFiredTold_1 23 rfl rfl)
theorem dX2_isFiredTold_46 : decode cX2_isFiredTold 46 = .ok (.iconst 4, 1) := dk_7 (dk_at dksX2_isFiredTold_2 0 rfl rfl)
theorem dX2_isFiredTold_47 : decode cX2_isFiredTold 47 = .ok (.iadd, 1) := dk_96 (dk_at dksX2_isFiredTold_2 1 rfl rfl)
theorem dX2_isFiredTold_48 : decode cX2_isFiredTold 48 = .ok (.caload, 1) := dk_52 (dk_at dksX2_isFiredTold_2 2 rfl rfl)
theorem dX2_isFiredTold_49 : decode cX2_isFiredTold 49 = .ok (.iconst 1, 1) := dk_4 (dk_at dksX2_isFiredTold_2 3 rfl rfl)
theorem dX2_isFiredTold_50 : decode cX2_isFiredTold 50 = .ok (.if_icmp .gt 20, 3) := dk_163 0 20 (dk_at dksX2_isFiredTold_2 4 rfl rfl)
theorem dX2_isFiredTold_53 : decode cX2_isFiredTold 53 = .ok (.aload_n 0, 1) := dk_42 (dk_at dksX2_isFiredTold_2 7 rfl rfl)
theorem dX2_isFiredTold_54 : decode cX2_isFiredTold 54 = .ok (.getfield 9, 3) := dk_180 0 9 (dk_at dksX2_isFiredTold_2 8 rfl rfl)
theorem dX2_isFiredTold_57 : decode cX2_isFiredTold 57 = .ok (.iload_n 1, 1) := dk_27 (dk_at dksX2_isFiredTold_2 11 rfl rfl)
theorem dX2_isFiredTold_58 : decode cX2_isFiredTold 58 = .ok (.iconst 5, 1) := dk_8 (dk_at dksX2_isFiredTold_2 12 rfl rfl)
theorem dX2_isFiredTold_59 : decode cX2_isFiredTold 59 = .ok (.iadd, 1) := dk_96 (dk_at dksX2_isFiredTold_2 13 rfl rfl)
theorem dX2_isFiredTold_60 : decode cX2_isFiredTold 60 = .ok (.caload, 1) := dk_52 (dk_at dksX2_isFiredTold_2 14 rfl rfl)
theorem dX2_isFiredTold_61 : decode cX2_isFiredTold 61 = .ok (.iconst 1, 1) := dk_4 (dk_at dksX2_isFiredTold_2 15 rfl rfl)
theorem dX2_isFiredTold_62 : decode cX2_isFiredTold 62 = .ok (.aload_n 0, 1) := dk_42 (dk_at dksX2_isFiredTold_2 16 rfl rfl)
theorem dX2_isFiredTold_63 : decode cX2_isFiredTold 63 = .ok (.invokevirtual 351, 3) := dk_182 1 95 (dk_at dksX2_isFiredTold_2 17 rfl rfl)
theorem dX2_isFiredTold_66 : decode cX2_isFiredTold 66 = .ok (.ishl, 1) := dk_120 (dk_at dksX2_isFiredTold_2 20 rfl rfl)
theorem dX2_isFiredTold_67 : decode cX2_isFiredTold 67 = .ok (.if_icmp .lt 5, 3) := dk_161 0 5 (dk_at dksX2_isFiredTold_2 21 rfl rfl)
theorem dX2_isFiredTold_70 : decode cX2_isFiredTold 70 = .ok (.iconst 0, 1) := dk_3 (dk_at dksX2_isFiredTold_3 0 rfl rfl)
theorem dX2_isFiredTold_71 : decode cX2_isFiredTold 71 = .ok (.ireturn, 1) := dk_172 (dk_at dksX2_isFiredTold_3 1 rfl rfl)
theorem dX2_isFiredTold_72 : decode cX2_isFiredTold 72 = .ok (.iload_n 1, 1) := dk_27 (dk_at dksX2_isFiredTold_3 2 rfl rfl)
theorem dX2_isFiredTold_73 : decode cX2_isFiredTold 73 = .ok (.iconst 4, 1) := dk_7 (dk_at dksX2_isFiredTold_3 3 rfl rfl)
theorem dX2_isFiredTold_74 : decode cX2_isFiredTold 74 = .ok (.isub, 1) := dk_100 (dk_at dksX2_isFiredTold_3 4 rfl rfl)
theorem dX2_isFiredTold_75 : decode cX2_isFiredTold 75 = .ok (.bipush 6, 2) := dk_16 6 (dk_at dksX2_isFiredTold_3 5 rfl rfl)
theorem dX2_isFiredTold_77 : decode cX2_isFiredTold 77 = .ok (.idiv, 1) := dk_108 (dk_at dksX2_isFiredTold_3 7 rfl rfl)
theorem dX2_isFiredTold_78 : decode cX2_isFiredTold 78 = .ok (.istore_n 2, 1) := dk_61 (dk_at dksX2_isFiredTold_3 8 rfl rfl)
theorem dX2_isFiredTold_79 : decode cX2_isFiredTold 79 = .ok (.iconst 0, 1) := dk_3 (dk_at dksX2_isFiredTold_3 9 rfl rfl)
theorem dX2_isFiredTold_80 : decode cX2_isFiredTold 80 = .ok (.istore_n 3, 1) := dk_62 (dk_at dksX2_isFiredTold_3 10 rfl rfl)
theorem dX2_isFiredTold_81 : decode cX2_isFiredTold 81 = .ok (.iload_n 3, 1) := dk_29 (dk_at dksX2_isFiredTold_3 11 rfl rfl)
theorem dX2_isFiredTold_82 : decode cX2_isFiredTold 82 = .ok (.aload_n 0, 1) := dk_42 (dk_at dksX2_isFiredTold_3 12 rfl rfl)
theorem dX2_isFiredTold_83 : decode cX2_isFiredTold 83 = .ok (.invokevirtual 351, 3) := dk_182 1 95 (dk_at dksX2_isFiredTold_3 13 rfl rfl)
theorem dX2_isFiredTold_86 : decode cX2_isFiredTold 86 = .ok (.if_icmp .ge 66, 3) := dk_162 0 66 (dk_at dksX2_isFiredTold_3 16 rfl rfl)
theorem dX2_isFiredTold_89 : decode cX2_isFiredTold 89 = .ok (.aload_n 0, 1) := dk_42 (dk_at dksX2_isFiredTold_3 19 rfl rfl)
theorem dX2_isFiredTold_90 : decode cX2_isFiredTold 90 = .ok (.getfield 9, 3) := dk_180 0 9 (dk_at dksX2_isFiredTold_3 20 rfl rfl)
theorem dX2_isFiredTold_93 : decode cX2_isFiredTold 93 = .ok (.iload_n 1, 1) := dk_27 (dk_at dksX2_isFiredTold_3 23 rfl rfl)
theorem dX2_isFiredTold_94 : decode cX2_isFiredTold 94 = .ok (.iconst 5, 1) := dk_8 (dk_at dksX2_isFiredTold_4 0 rfl rfl)
theorem dX2_isFiredTold_95 : decode cX2_isFiredTold 95 = .ok (.iadd, 1) := dk_96 (dk_at dksX2_isFiredTold_4 1 rfl rfl)
theorem dX2_isFiredTold_96 : decode cX2_isFiredTold 96 = .ok (.caload, 1) := dk_52 (dk_at dksX2_isFiredTold_4 2 rfl rfl)
theorem dX2_isFiredTold_97 : decode cX2_isFiredTold 97 = .ok (.iload_n 3, 1) := dk_29 (dk_at dksX2_isFiredTold_4 3 rfl rfl)
theorem dX2_isFiredTold_98 : decode cX2_isFiredTold 98 = .ok (.ishr, 1) := dk_122 (dk_at dksX2_isFiredTold_4 4 rfl rfl)
theorem dX2_isFiredTold_99 : decode cX2_isFiredTold 99 = .ok (.iconst 1, 1) := dk_4 (dk_at dksX2_isFiredTold_4 5 rfl rfl)
theorem dX2_isFiredTold_100 : decode cX2_isFiredTold 100 = .ok (.iand, 1) := dk_126 (dk_at dksX2_isFiredTold_4 6 rfl rfl)
theorem dX2_isFiredTold_101 : decode cX2_isFiredTold 101 = .ok (.iconst 1, 1) := dk_4 (dk_at dksX2_isFiredTold_4 7 rfl rfl)
theorem dX2_isFiredTold_102 : decode cX2_isFiredTold 102 = .ok (.if_icmp .ne 44, 3) := dk_160 0 44 (dk_at dksX2_isFiredTold_4 8 rfl rfl)
theorem dX2_isFiredTold_105 : decode cX2_isFiredTold 105 = .ok (.iload_n 3, 1) := dk_29 (dk_at dksX2_isFiredTold_4 11 rfl rfl)
theorem dX2_isFiredTold_106 : decode cX2_isFiredTold 106 = .ok (.iload_n 2, 1) := dk_28 (dk_at dksX2_isFiredTold_4 12 rfl rfl)
theorem dX2_isFiredTold_107 : decode cX2_isFiredTold 107 = .ok (.if_icmp .eq 37, 3) := dk_159 0 37 (dk_at dksX2_isFiredTold_4 13 rfl rfl)
theorem dX2_isFiredTold_110 : decode cX2_isFiredTold 110 = .ok (.aload_n 0, 1) := dk_42 (dk_at dksX2_isFiredTold_4 16 rfl rfl)
theorem dX2_isFiredTold_111 : decode cX2_isFiredTold 111 = .ok (.getfield 9, 3) := dk_180 0 9 (dk_at dksX2_isFiredTold_4 17 rfl rfl)
theorem dX2_isFiredTold_114 : decode cX2_isFiredTold 114 = .ok (.iconst 4, 1) := dk_7 (dk_at dksX2_isFiredTold_4 20 rfl rfl)
theorem dX2_isFiredTold_115 : decode cX2_isFiredTold 115 = .ok (.bipush 6, 2) := dk_16 6 (dk_at dksX2_isFiredTold_4 21 rfl rfl)
theorem dX2_isFiredTold_117 : decode cX2_isFiredTold 117 = .ok (.iload_n 3, 1) := dk_29 (dk_at dksX2_isFiredTold_4 23 rfl rfl)
theorem dX2_isFiredTold_118 : decode cX2_isFiredTold 118 = .ok (.imul, 1) := dk_104 (dk_at dksX2_isFiredTold_5 0 rfl rfl)
theorem dX2_isFiredTold_119 : decode cX2_isFiredTold 119 = .ok (.iadd, 1) := dk_96 (dk_at dksX2_isFiredTold_5 1 rfl rfl)
theorem dX2_isFiredTold_120 : decode cX2_isFiredTold 120 = .ok (.caload, 1) := dk_52 (dk_at dksX2_isFiredTold_5 2 rfl rfl)
theorem dX2_isFiredTold_121 : decode cX2_isFiredTold 121 = .ok (.iconst 1, 1) := dk_4 (dk_at dksX2_isFiredTold_5 3 rfl rfl)
theorem dX2_isFiredTold_122 : decode cX2_isFiredTold 122 = .ok (.if_icmp .ne 22, 3) := dk_160 0 22 (dk_at dksX2_isFiredTold_5 4 rfl rfl)
theorem dX2_isFiredTold_125 : decode cX2_isFiredTold 125 = .ok (.aload_n 0, 1) := dk_42 (dk_at dksX2_isFiredTold_5 7 rfl rfl)
theorem dX2_isFiredTold_126 : decode cX2_isFiredTold 126 = .ok (.getfield 9, 3) := dk_180 0 9 (dk_at dksX2_isFiredTold_5 8 rfl rfl)
theorem dX2_isFiredTold_129 : decode cX2_isFiredTold 129 = .ok (.bipush 9, 2) := dk_16 9 (dk_at dksX2_isFiredTold_5 11 rfl rfl)
theorem dX2_isFiredTold_131 : decode cX2_isFiredTold 131 = .ok (.bipush 6, 2) := dk_16 6 (dk_at dksX2_isFiredTold_5 13 rfl rfl)
theorem dX2_isFiredTold_133 : decode cX2_isFiredTold 133 = .ok (.iload_n 3, 1) := dk_29 (dk_at dksX2_isFiredTold_5 15 rfl rfl)
theorem dX2_isFiredTold_134 : decode cX2_isFiredTold 134 = .ok (.imul, 1) := dk_104 (dk_at dksX2_isFiredTold_5 16 rfl rfl)
theorem dX2_isFiredTold_135 : decode cX2_isFiredTold 135 = .ok (.iadd, 1) := dk_96 (dk_at dksX2_isFiredTold_5 17 rfl rfl)
theorem dX2_isFiredTold_136 : decode cX2_isFiredTold 136 = .ok (.caload, 1) := dk_52 (dk_at dksX2_isFiredTold_5 18 rfl rfl)
theorem dX2_isFiredTold_137 : decode cX2_isFiredTold 137 = .ok (.iload_n 2, 1) := dk_28 (dk_at dksX2_isFiredTold_5 19 rfl rfl)
theorem dX2_isFiredTold_138 : decode cX2_isFiredTold 138 = .ok (.ishr, 1) := dk_122 (dk_at dksX2_isFiredTold_5 20 rfl rfl)
theorem dX2_isFiredTold_139 : decode cX2_isFiredTold 139 = .ok (.iconst 1, 1) := dk_4 (dk_at dksX2_isFiredTold_5 21 rfl rfl)
theorem dX2_isFiredTold_140 : decode cX2_isFiredTold 140 = .ok (.iand, 1) := dk_126 (dk_at dksX2_isFiredTold_5 22 rfl rfl)
theorem dX2_isFiredTold_141 : decode cX2_isFiredTold 141 = .ok (.ifCond .ne 5, 3) := dk_154 0 5 (dk_at dksX2_isFiredTold_6 0 rfl rfl)
theorem dX2_isFiredTold_144 : decode cX2_isFiredTold 144 = .ok (.iconst 0, 1) := dk_3 (dk_at dksX2_isFiredTold_6 3 rfl rfl)
theorem dX2_isFiredTold_145 : decode cX2_isFiredTold 145 = .ok (.ireturn, 1) := dk_172 (dk_at dksX2_isFiredTold_6 4 rfl rfl)
theorem dX2_isFiredTold_146 : decode cX2_isFiredTold 146 = .ok (.iinc 3 1, 3) := dk_132 3 1 (dk_at dksX2_isFiredTold_6 5 rfl rfl)
theorem dX2_isFiredTold_149 : decode cX2_isFiredTold 149 = .ok (.goto (-68), 3) := dk_167 255 188 (dk_at dksX2_isFiredTold_6 8 rfl rfl)
theorem dX2_isFiredTold_152 : decode cX2_isFiredTold 152 = .ok (.iconst 1, 1) := dk_4 (dk_at dksX2_isFiredTold_6 11 rfl rfl)
theorem dX2_isFiredTold_153 : decode cX2_isFiredTold 153 = .ok (.ireturn, 1) := dk_172 (dk_at dksX2_isFiredTold_6 12 rfl rfl)
abbrev cX2_orNone : ByteArray := prog_1_method_76_code
def yX2_orNone : MethodName := ⟨RX2, "orNone", "(I)I"⟩
def dkwX2_orNone_0 : List UInt8 := [26, 17, 0, 255, 160, 0, 7, 2, 167, 0, 4, 26, 172]
abbrev dktX2_orNone_0 : List UInt8 := dkwX2_orNone_0 ++ []
theorem dksX2_orNone_0 : cX2_orNone.data.toList.drop 0 = dktX2_orNone_0 := by decide +kernel
theorem dX2_orNone_0 : decode cX2_orNone 0 = .ok (.iload_n 0, 1) := dk_26 (dk_at dksX2_orNone_0 0 rfl rfl)
theorem dX2_orNone_1 : decode cX2_orNone 1 = .ok (.sipush 255, 3) := dk_17 0 255 (dk_at dksX2_orNone_0 1 rfl rfl)
theorem dX2_orNone_4 : decode cX2_orNone 4 = .ok (.if_icmp .ne 7, 3) := dk_160 0 7 (dk_at dksX2_orNone_0 4 rfl rfl)
theorem dX2_orNone_7 : decode cX2_orNone 7 = .ok (.iconst (-1), 1) := dk_2 (dk_at dksX2_orNone_0 7 rfl rfl)
theorem dX2_orNone_8 : decode cX2_orNone 8 = .ok (.goto 4, 3) := dk_167 0 4 (dk_at dksX2_orNone_0 8 rfl rfl)
theorem dX2_orNone_11 : decode cX2_orNone 11 = .ok (.iload_n 0, 1) := dk_26 (dk_at dksX2_orNone_0 11 rfl rfl)
theorem dX2_orNone_12 : decode cX2_orNone 12 = .ok (.ireturn, 1) := dk_172 (dk_at dksX2_orNone_0 12 rfl rfl)
theorem q79 : (Jvm.Cond.initialized "KilnBench") ∈ lw_all := lw_g (lw_at lw_m1 3 rfl) rfl
theorem q119 : (Jvm.Cond.instantiable "KilnBench" (16 : Nat)) ∈ lw_all := lw_g (lw_at lw_m1 43 rfl) rfl
theorem q121 : (Jvm.Cond.instanceMethod ({ cls := "KilnBench", name := "<init>", desc := "()V" } : Jvm.MethodName)) ∈ lw_all := lw_g (lw_at lw_m1 45 rfl) rfl
theorem q122 : (Jvm.Cond.code ({ cls := "KilnBench", name := "<init>", desc := "()V" } : Jvm.MethodName) prog_1_method_1_code (1 : Nat) (Option.none : Option Jvm.ClassFile.FieldType)) ∈ lw_all := lw_g (lw_at lw_m1 46 rfl) rfl
theorem q123 : (Jvm.Cond.methodLink "KilnBench" (1 : Nat) ({ cls := "java/lang/Object", name := "<init>", desc := "()V" } : Jvm.MethodName)) ∈ lw_all := lw_g (lw_at lw_m1 47 rfl) rfl
theorem q126 : (Jvm.Cond.classLink "KilnBench" (17 : Nat) "KilnBench$Town") ∈ lw_all := lw_g (lw_at lw_m1 50 rfl) rfl
theorem q128 : (Jvm.Cond.methodLinkNest "KilnBench" (19 : Nat) ({ cls := "KilnBench$Town", name := "<init>", desc := "()V" } : Jvm.MethodName) "KilnBench") ∈ lw_tbl := lw_at lw_m1 52 rfl
theorem q161 : (Jvm.Cond.fieldLink "KilnBench" (223 : Nat) "KilnBench$Town" "fuel" "I") ∈ lw_all := lw_g (lw_at lw_m1 85 rfl) rfl
theorem q163 : (Jvm.Cond.fieldLink "KilnBench" (226 : Nat) "KilnBench$Town" "load" "I") ∈ lw_all := lw_g (lw_at lw_m1 87 rfl) rfl
theorem q165 : (Jvm.Cond.fieldLink "KilnBench" (302 : Nat) "KilnBench$Town" "wind" "I") ∈ lw_all := lw_g (lw_at lw_m1 89 rfl) rfl
theorem q167 : (Jvm.Cond.fieldLink "KilnBench" (125 : Nat) "KilnBench$Town" "statements" "I") ∈ lw_all := lw_g (lw_at lw_m1 91 rfl) rfl
theorem q169 : (Jvm.Cond.fieldLink "KilnBench" (170 : Nat) "KilnBench$Town" "temper" "LKilnBench$Sum;") ∈ lw_all := lw_g (lw_at lw_m1 93 rfl) rfl
theorem q171 : (Jvm.Cond.fieldLink "KilnBench" (208 : Nat) "KilnBench$Town" "burns" "LKilnBench$Sum;") ∈ lw_all := lw_g (lw_at lw_m1 95 rfl) rfl
theorem q173 : (Jvm.Cond.fieldLink "KilnBench" (188 : Nat) "KilnBench$Town" "cracks" "LKilnBench$Test;") ∈ lw_all := lw_g (lw_at lw_m1 97 rfl) rfl
theorem q175 : (Jvm.Cond.fieldLink "KilnBench" (202 : Nat) "KilnBench$Town" "sticks" "LKilnBench$Test;") ∈ lw_all := lw_g (lw_at lw_m1 99 rfl) rfl
theorem q181 : (Jvm.Cond.fieldLink "KilnBench" (143 : Nat) "KilnBench$Town" "children" "Ljava/util/ArrayList;") ∈ lw_all := lw_g (lw_at lw_m1 105 rfl) rfl
theorem q185 : (Jvm.Cond.fieldLink "KilnBench" (152 : Nat) "KilnBench$Town" "kilns" "Ljava/util/ArrayList;") ∈ lw_all := lw_g (lw_at lw_m1 109 rfl) rfl
theorem q208 : (Jvm.Cond.classLink "KilnBench" (28 : Nat) "java/util/ArrayList") ∈ lw_all := lw_g (lw_at lw_m1 132 rfl) rfl
theorem q209 : (Jvm.Cond.methodLink "KilnBench" (30 : Nat) ({ cls := "java/util/ArrayList", name := "<init>", desc := "()V" } : Jvm.MethodName)) ∈ lw_all := lw_g (lw_at lw_m1 133 rfl) rfl
theorem q210 : (Jvm.Cond.classLink "KilnBench" (38 : Nat) "KilnBench$Asking") ∈ lw_all := lw_g (lw_at lw_m1 134 rfl) rfl
theorem q212 : (Jvm.Cond.methodLinkNest "KilnBench" (40 : Nat) ({ cls := "KilnBench$Asking", name := "<init>", desc := "()V" } : Jvm.MethodName) "KilnBench") ∈ lw_tbl := lw_at lw_m1 136 rfl
theorem q218 : (Jvm.Cond.fieldLink "KilnBench" (157 : Nat) "KilnBench$Asking" "told" "[J") ∈ lw_all := lw_g (lw_at lw_m1 142 rfl) rfl
theorem q223 : (Jvm.Cond.fieldLink "KilnBench" (9 : Nat) "KilnBench" "tape" "[C") ∈ lw_all := lw_g (lw_at lw_m1 147 rfl) rfl
theorem q225 : (Jvm.Cond.fieldLink "KilnBench" (82 : Nat) "KilnBench" "taped" "I") ∈ lw_all := lw_g (lw_at lw_m1 149 rfl) rfl
theorem q226 : (Jvm.Cond.fieldLink "KilnBench" (13 : Nat) "KilnBench" "refusals" "[I") ∈ lw_all := lw_g (lw_at lw_m1 150 rfl) rfl
theorem q228 : (Jvm.Cond.fieldLink "KilnBench" (20 : Nat) "KilnBench" "land" "LKilnBench$Town;") ∈ lw_all := lw_g (lw_at lw_m1 152 rfl) rfl
theorem q231 : (Jvm.Cond.fieldLink "KilnBench" (116 : Nat) "KilnBench" "fault" "I") ∈ lw_all := lw_g (lw_at lw_m1 155 rfl) rfl
theorem q232 : (Jvm.Cond.fieldLink "KilnBench" (24 : Nat) "KilnBench" "faultPlace" "I") ∈ lw_all := lw_g (lw_at lw_m1 156 rfl) rfl
theorem q234 : (Jvm.Cond.fieldLink "KilnBench" (119 : Nat) "KilnBench" "weekNow" "I") ∈ lw_all := lw_g (lw_at lw_m1 158 rfl) rfl
theorem q236 : (Jvm.Cond.fieldLink "KilnBench" (31 : Nat) "KilnBench" "told" "Ljava/util/ArrayList;") ∈ lw_all := lw_g (lw_at lw_m1 160 rfl) rfl
theorem q237 : (Jvm.Cond.fieldLink "KilnBench" (35 : Nat) "KilnBench" "rowsSeen" "Ljava/util/ArrayList;") ∈ lw_all := lw_g (lw_at lw_m1 161 rfl) rfl
theorem q238 : (Jvm.Cond.fieldLink "KilnBench" (41 : Nat) "KilnBench" "asking" "LKilnBench$Asking;") ∈ lw_all := lw_g (lw_at lw_m1 162 rfl) rfl
theorem q239 : (Jvm.Cond.fieldLink "KilnBench" (250 : Nat) "KilnBench" "isThought" "Z") ∈ lw_all := lw_g (lw_at lw_m1 163 rfl) rfl
theorem q240 : (Jvm.Cond.fieldLink "KilnBench" (220 : Nat) "KilnBench" "firedSet" "I") ∈ lw_all := lw_g (lw_at lw_m1 164 rfl) rfl
theorem q241 : (Jvm.Cond.fieldLink "KilnBench" (45 : Nat) "KilnBench" "acts" "Ljava/util/ArrayList;") ∈ lw_all := lw_g (lw_at lw_m1 165 rfl) rfl
theorem q242 : (Jvm.Cond.fieldLink "KilnBench" (48 : Nat) "KilnBench" "seeded" "J") ∈ lw_all := lw_g (lw_at lw_m1 166 rfl) rfl
theorem q243 : (Jvm.Cond.fieldLink "KilnBench" (52 : Nat) "KilnBench" "image" "[C") ∈ lw_all := lw_g (lw_at lw_m1 167 rfl) rfl
theorem q244 : (Jvm.Cond.fieldLink "KilnBench" (450 : Nat) "KilnBench" "imaged" "I") ∈ lw_all := lw_g (lw_at lw_m1 168 rfl) rfl
theorem q245 : (Jvm.Cond.laysFinal "KilnBench" "KilnBench" "tape" "[C") ∈ lw_all := lw_g (lw_at lw_m1 169 rfl) rfl
theorem q246 : (Jvm.Cond.soleField "KilnBench" "tape") ∈ lw_all := lw_g (lw_at lw_m1 170 rfl) rfl
theorem q247 : (Jvm.Cond.lays "KilnBench" "KilnBench" "taped" "I") ∈ lw_all := lw_g (lw_at lw_m1 171 rfl) rfl
theorem q248 : (Jvm.Cond.soleField "KilnBench" "taped") ∈ lw_all := lw_g (lw_at lw_m1 172 rfl) rfl
theorem q249 : (Jvm.Cond.laysFinal "KilnBench" "KilnBench" "refusals" "[I") ∈ lw_all := lw_g (lw_at lw_m1 173 rfl) rfl
theorem q250 : (Jvm.Cond.soleField "KilnBench" "refusals") ∈ lw_all := lw_g (lw_at lw_m1 174 rfl) rfl
theorem q251 : (Jvm.Cond.lays "KilnBench" "KilnBench" "land" "LKilnBench$Town;") ∈ lw_all := lw_g (lw_at lw_m1 175 rfl) rfl
theorem q252 : (Jvm.Cond.soleField "KilnBench" "land") ∈ lw_all := lw_g (lw_at lw_m1 176 rfl) rfl
theorem q253 : (Jvm.Cond.lays "KilnBench" "KilnBench" "fault" "I") ∈ lw_all := lw_g (lw_at lw_m1 177 rfl) rfl
theorem q254 : (Jvm.Cond.soleField "KilnBench" "fault") ∈ lw_all := lw_g (lw_at lw_m1 178 rfl) rfl
theorem q255 : (Jvm.Cond.lays "KilnBench" "KilnBench" "faultPlace" "I") ∈ lw_all := lw_g (lw_at lw_m1 179 rfl) rfl
theorem q256 : (Jvm.Cond.soleField "KilnBench" "faultPlace") ∈ lw_all := lw_g (lw_at lw_m1 180 rfl) rfl
theorem q257 : (Jvm.Cond.lays "KilnBench" "KilnBench" "weekNow" "I") ∈ lw_all := lw_g (lw_at lw_m1 181 rfl) rfl
theorem q258 : (Jvm.Cond.soleField "KilnBench" "weekNow") ∈ lw_all := lw_g (lw_at lw_m1 182 rfl) rfl
theorem q259 : (Jvm.Cond.laysFinal "KilnBench" "KilnBench" "told" "Ljava/util/ArrayList;") ∈ lw_all := lw_g (lw_at lw_m1 183 rfl) rfl
theorem q260 : (Jvm.Cond.soleField "KilnBench" "told") ∈ lw_all := lw_g (lw_at lw_m1 184 rfl) rfl
theorem q261 : (Jvm.Cond.laysFinal "KilnBench" "KilnBench" "rowsSeen" "Ljava/util/ArrayList;") ∈ lw_all := lw_g (lw_at lw_m1 185 rfl) rfl
theorem q262 : (Jvm.Cond.soleField "KilnBench" "rowsSeen") ∈ lw_all := lw_g (lw_at lw_m1 186 rfl) rfl
theorem q263 : (Jvm.Cond.laysFinal "KilnBench" "KilnBench" "asking" "LKilnBench$Asking;") ∈ lw_all := lw_g (lw_at lw_m1 187 rfl) rfl
theorem q264 : (Jvm.Cond.soleField "KilnBench" "asking") ∈ lw_all := lw_g (lw_at lw_m1 188 rfl) rfl
theorem q265 : (Jvm.Cond.lays "KilnBench" "KilnBench" "isThought" "Z") ∈ lw_all := lw_g (lw_at lw_m1 189 rfl) rfl
theorem q266 : (Jvm.Cond.soleField "KilnBench" "isThought") ∈ lw_all := lw_g (lw_at lw_m1 190 rfl) rfl
theorem q267 : (Jvm.Cond.lays "KilnBench" "KilnBench" "firedSet" "I") ∈ lw_all := lw_g (lw_at lw_m1 191 rfl) rfl
theorem q268 : (Jvm.Cond.soleField "KilnBench" "firedSet") ∈ lw_all := lw_g (lw_at lw_m1 192 rfl) rfl
theorem q269 : (Jvm.Cond.laysFinal "KilnBench" "KilnBench" "acts" "Ljava/util/ArrayList;") ∈ lw_all := lw_g (lw_at lw_m1 193 rfl) rfl
theorem q270 : (Jvm.Cond.soleField "KilnBench" "acts") ∈ lw_all := lw_g (lw_at lw_m1 194 rfl) rfl
theorem q271 : (Jvm.Cond.lays "KilnBench" "KilnBench" "seeded" "J") ∈ lw_all := lw_g (lw_at lw_m1 195 rfl) rfl
theorem q272 : (Jvm.Cond.soleField "KilnBench" "seeded") ∈ lw_all := lw_g (lw_at lw_m1 196 rfl) rfl
theorem q273 : (Jvm.Cond.laysFinal "KilnBench" "KilnBench" "image" "[C") ∈ lw_all := lw_g (lw_at lw_m1 197 rfl) rfl
theorem q274 : (Jvm.Cond.soleField "KilnBench" "image") ∈ lw_all := lw_g (lw_at lw_m1 198 rfl) rfl
theorem q275 : (Jvm.Cond.lays "KilnBench" "KilnBench" "imaged" "I") ∈ lw_all := lw_g (lw_at lw_m1 199 rfl) rfl
theorem q276 : (Jvm.Cond.soleField "KilnBench" "imaged") ∈ lw_all := lw_g (lw_at lw_m1 200 rfl) rfl
theorem q277 : (Jvm.Cond.superclass "KilnBench" "java/lang/Object") ∈ lw_all := lw_g (lw_at lw_m1 201 rfl) rfl
theorem q279 : (Jvm.Cond.instanceMethod ({ cls := "KilnBench", name := "town", desc := "()I" } : Jvm.MethodName)) ∈ lw_all := lw_g (lw_at lw_m1 203 rfl) rfl
theorem q280 : (Jvm.Cond.selects "KilnBench" ({ cls := "KilnBench", name := "town", desc := "()I" } : Jvm.MethodName) ({ cls := "KilnBench", name := "town", desc := "()I" } : Jvm.MethodName)) ∈ lw_all := lw_g (lw_at lw_m1 204 rfl) rfl
theorem q281 : (Jvm.Cond.codeWith ({ cls := "KilnBench", name := "town", desc := "()I" } : Jvm.MethodName) prog_1_method_13_code (3 : Nat) (Option.some Jvm.ClassFile.FieldType.int) [((18 : Nat), (68 : Nat), (69 : Nat), (128 : Nat))]) ∈ lw_all := lw_g (lw_at lw_m1 205 rfl) rfl
theorem q282 : (Jvm.Cond.classLink "KilnBench" (128 : Nat) "KilnBench$Fault") ∈ lw_all := lw_g (lw_at lw_m1 206 rfl) rfl
theorem q283 : (Jvm.Cond.classLink "KilnBench" (107 : Nat) "KilnBench$Scan") ∈ lw_all := lw_g (lw_at lw_m1 207 rfl) rfl
theorem q285 : (Jvm.Cond.methodLink "KilnBench" (109 : Nat) ({ cls := "KilnBench$Scan", name := "<init>", desc := "(LKilnBench;I)V" } : Jvm.MethodName)) ∈ lw_all := lw_g (lw_at lw_m1 209 rfl) rfl
theorem q334 : (Jvm.Cond.methodLink "KilnBench" (112 : Nat) ({ cls := "KilnBench$Scan", name := "town", desc := "()LKilnBench$Town;" } : Jvm.MethodName)) ∈ lw_all := lw_g (lw_at lw_m2 18 rfl) rfl
theorem q401 : (Jvm.Cond.fieldLink "KilnBench" (130 : Nat) "KilnBench$Fault" "kind" "I") ∈ lw_all := lw_g (lw_at lw_m2 85 rfl) rfl
theorem q403 : (Jvm.Cond.fieldLink "KilnBench" (133 : Nat) "KilnBench$Fault" "place" "I") ∈ lw_all := lw_g (lw_at lw_m2 87 rfl) rfl
theorem q507 : (Jvm.Cond.static ({ cls := "KilnBench", name := "isOwn", desc := "(Ljava/lang/String;)Z" } : Jvm.MethodName)) ∈ lw_all := lw_g (lw_at lw_m2 191 rfl) rfl
theorem q508 : (Jvm.Cond.code ({ cls := "KilnBench", name := "isOwn", desc := "(Ljava/lang/String;)Z" } : Jvm.MethodName) prog_1_method_3_code (2 : Nat) (Option.some Jvm.ClassFile.FieldType.boolean)) ∈ lw_all := lw_g (lw_at lw_m2 192 rfl) rfl
theorem q509 : (Jvm.Cond.fieldLink "KilnBench" (55 : Nat) "KilnBench" "OWN" "[Ljava/lang/String;") ∈ lw_all := lw_g (lw_at lw_m2 193 rfl) rfl
theorem q510 : (Jvm.Cond.laysStatic "KilnBench" "OWN" "[Ljava/lang/String;") ∈ lw_tbl := lw_at lw_m2 194 rfl
theorem q511 : (Jvm.Cond.methodLink "KilnBench" (59 : Nat) ({ cls := "java/lang/String", name := "equals", desc := "(Ljava/lang/Object;)Z" } : Jvm.MethodName)) ∈ lw_all := lw_g (lw_at lw_m2 195 rfl) rfl
theorem q520 : (Jvm.Cond.static ({ cls := "KilnBench", name := "digitsOf", desc := "(Ljava/lang/String;)I" } : Jvm.MethodName)) ∈ lw_all := lw_g (lw_at lw_m2 204 rfl) rfl
theorem q521 : (Jvm.Cond.code ({ cls := "KilnBench", name := "digitsOf", desc := "(Ljava/lang/String;)I" } : Jvm.MethodName) prog_1_method_12_code (3 : Nat) (Option.some Jvm.ClassFile.FieldType.int)) ∈ lw_all := lw_g (lw_at lw_m2 205 rfl) rfl
theorem q522 : (Jvm.Cond.methodLink "KilnBench" (99 : Nat) ({ cls := "java/lang/String", name := "length", desc := "()I" } : Jvm.MethodName)) ∈ lw_all := lw_g (lw_at lw_m2 206 rfl) rfl
theorem q523 : (Jvm.Cond.methodLink "KilnBench" (103 : Nat) ({ cls := "java/lang/String", name := "charAt", desc := "(I)C" } : Jvm.MethodName)) ∈ lw_all := lw_g (lw_at lw_m2 207 rfl) rfl
theorem q616 : (Jvm.Cond.fieldLink "KilnBench" (164 : Nat) "KilnBench$Child" "clay" "I") ∈ lw_all := lw_g (lw_at lw_m3 60 rfl) rfl
theorem q618 : (Jvm.Cond.fieldLink "KilnBench" (167 : Nat) "KilnBench$Child" "grit" "I") ∈ lw_all := lw_g (lw_at lw_m3 62 rfl) rfl
theorem q622 : (Jvm.Cond.fieldLink "KilnBench" (370 : Nat) "KilnBench$Child" "place" "I") ∈ lw_all := lw_g (lw_at lw_m3 66 rfl) rfl
theorem q626 : (Jvm.Cond.fieldLink "KilnBench" (371 : Nat) "KilnBench$Child" "temper" "I") ∈ lw_all := lw_g (lw_at lw_m3 70 rfl) rfl
theorem q629 : (Jvm.Cond.fieldLink "KilnBench" (412 : Nat) "KilnBench$Child" "stuck" "I") ∈ lw_all := lw_g (lw_at lw_m3 73 rfl) rfl
theorem q633 : (Jvm.Cond.fieldLink "KilnBench" (335 : Nat) "KilnBench$Child" "kiln" "LKilnBench$Kiln;") ∈ lw_all := lw_g (lw_at lw_m3 77 rfl) rfl
theorem q636 : (Jvm.Cond.fieldLink "KilnBench" (373 : Nat) "KilnBench$Child" "isCracked" "Z") ∈ lw_all := lw_g (lw_at lw_m3 80 rfl) rfl
theorem q644 : (Jvm.Cond.fieldLink "KilnBench" (376 : Nat) "KilnBench$Child" "number" "I") ∈ lw_all := lw_g (lw_at lw_m3 88 rfl) rfl
theorem q674 : (Jvm.Cond.static ({ cls := "KilnBench", name := "isIn", desc := "(JJJ)Z" } : Jvm.MethodName)) ∈ lw_all := lw_g (lw_at lw_m3 118 rfl) rfl
theorem q675 : (Jvm.Cond.code ({ cls := "KilnBench", name := "isIn", desc := "(JJJ)Z" } : Jvm.MethodName) prog_1_method_2_code (6 : Nat) (Option.some Jvm.ClassFile.FieldType.boolean)) ∈ lw_all := lw_g (lw_at lw_m3 119 rfl) rfl
theorem q709 : (Jvm.Cond.selects "KilnBench" ({ cls := "java/lang/Object", name := "getClass", desc := "()Ljava/lang/Class;" } : Jvm.MethodName) ({ cls := "java/lang/Object", name := "getClass", desc := "()Ljava/lang/Class;" } : Jvm.MethodName)) ∈ lw_all := lw_g (lw_at lw_m3 153 rfl) rfl
theorem q765 : (Jvm.Cond.fieldLink "KilnBench" (214 : Nat) "KilnBench$Kiln" "room" "I") ∈ lw_all := lw_g (lw_at lw_m3 209 rfl) rfl
theorem q770 : (Jvm.Cond.fieldLink "KilnBench" (211 : Nat) "KilnBench$Kiln" "heat" "I") ∈ lw_all := lw_g (lw_at lw_m3 214 rfl) rfl
theorem q774 : (Jvm.Cond.fieldLink "KilnBench" (324 : Nat) "KilnBench$Kiln" "places" "[LKilnBench$Child;") ∈ lw_all := lw_g (lw_at lw_m3 218 rfl) rfl
theorem q1094 : (Jvm.Cond.methodLink "KilnBench" (122 : Nat) ({ cls := "java/util/ArrayList", name := "clear", desc := "()V" } : Jvm.MethodName)) ∈ lw_all := lw_g (lw_at lw_m5 58 rfl) rfl
theorem q1098 : (Jvm.Cond.methodLink "KilnBench" (78 : Nat) ({ cls := "KilnBench", name := "refused", desc := "(I)I" } : Jvm.MethodName)) ∈ lw_all := lw_g (lw_at lw_m5 62 rfl) rfl
theorem q1099 : (Jvm.Cond.privateMethod ({ cls := "KilnBench", name := "refused", desc := "(I)I" } : Jvm.MethodName)) ∈ lw_tbl := lw_at lw_m5 63 rfl
theorem q1100 : (Jvm.Cond.instanceMethod ({ cls := "KilnBench", name := "refused", desc := "(I)I" } : Jvm.MethodName)) ∈ lw_all := lw_g (lw_at lw_m5 64 rfl) rfl
theorem q1101 : (Jvm.Cond.code ({ cls := "KilnBench", name := "refused", desc := "(I)I" } : Jvm.MethodName) prog_1_method_6_code (2 : Nat) (Option.some Jvm.ClassFile.FieldType.int)) ∈ lw_all := lw_g (lw_at lw_m5 65 rfl) rfl
theorem q1312 : (Jvm.Cond.instanceMethod ({ cls := "KilnBench", name := "feed", desc := "(IIIII)I" } : Jvm.MethodName)) ∈ lw_all := lw_g (lw_at lw_m6 36 rfl) rfl
theorem q1313 : (Jvm.Cond.selects "KilnBench" ({ cls := "KilnBench", name := "feed", desc := "(IIIII)I" } : Jvm.MethodName) ({ cls := "KilnBench", name := "feed", desc := "(IIIII)I" } : Jvm.MethodName)) ∈ lw_all := lw_g (lw_at lw_m6 37 rfl) rfl
theorem q1314 : (Jvm.Cond.code ({ cls := "KilnBench", name := "feed", desc := "(IIIII)I" } : Jvm.MethodName) prog_1_method_8_code (6 : Nat) (Option.some Jvm.ClassFile.FieldType.int)) ∈ lw_all := lw_g (lw_at lw_m6 38 rfl) rfl
theorem q1315 : (Jvm.Cond.methodLink "KilnBench" (85 : Nat) ({ cls := "KilnBench", name := "lays", desc := "(I)V" } : Jvm.MethodName)) ∈ lw_all := lw_g (lw_at lw_m6 39 rfl) rfl
theorem q1316 : (Jvm.Cond.privateMethod ({ cls := "KilnBench", name := "lays", desc := "(I)V" } : Jvm.MethodName)) ∈ lw_tbl := lw_at lw_m6 40 rfl
theorem q1317 : (Jvm.Cond.instanceMethod ({ cls := "KilnBench", name := "lays", desc := "(I)V" } : Jvm.MethodName)) ∈ lw_all := lw_g (lw_at lw_m6 41 rfl) rfl
theorem q1318 : (Jvm.Cond.code ({ cls := "KilnBench", name := "lays", desc := "(I)V" } : Jvm.MethodName) prog_1_method_9_code (3 : Nat) (Option.none : Option Jvm.ClassFile.FieldType)) ∈ lw_all := lw_g (lw_at lw_m6 42 rfl) rfl
theorem q1320 : (Jvm.Cond.instanceMethod ({ cls := "KilnBench", name := "end", desc := "(I)Z" } : Jvm.MethodName)) ∈ lw_all := lw_g (lw_at lw_m6 44 rfl) rfl
theorem q1321 : (Jvm.Cond.selects "KilnBench" ({ cls := "KilnBench", name := "end", desc := "(I)Z" } : Jvm.MethodName) ({ cls := "KilnBench", name := "end", desc := "(I)Z" } : Jvm.MethodName)) ∈ lw_all := lw_g (lw_at lw_m6 45 rfl) rfl
theorem q1322 : (Jvm.Cond.code ({ cls := "KilnBench", name := "end", desc := "(I)Z" } : Jvm.MethodName) prog_1_method_10_code (2 : Nat) (Option.some Jvm.ClassFile.FieldType.boolean)) ∈ lw_all := lw_g (lw_at lw_m6 46 rfl) rfl
theorem q1323 : (Jvm.Cond.methodLink "KilnBench" (89 : Nat) ({ cls := "KilnBench", name := "refuses", desc := "(I)Z" } : Jvm.MethodName)) ∈ lw_all := lw_g (lw_at lw_m6 47 rfl) rfl
theorem q1324 : (Jvm.Cond.privateMethod ({ cls := "KilnBench", name := "refuses", desc := "(I)Z" } : Jvm.MethodName)) ∈ lw_tbl := lw_at lw_m6 48 rfl
theorem q1325 : (Jvm.Cond.instanceMethod ({ cls := "KilnBench", name := "refuses", desc := "(I)Z" } : Jvm.MethodName)) ∈ lw_all := lw_g (lw_at lw_m6 49 rfl) rfl
theorem q1326 : (Jvm.Cond.code ({ cls := "KilnBench", name := "refuses", desc := "(I)Z" } : Jvm.MethodName) prog_1_method_7_code (2 : Nat) (Option.some Jvm.ClassFile.FieldType.boolean)) ∈ lw_all := lw_g (lw_at lw_m6 50 rfl) rfl
theorem q1331 : (Jvm.Cond.instanceMethod ({ cls := "KilnBench", name := "child", desc := "(II)I" } : Jvm.MethodName)) ∈ lw_all := lw_g (lw_at lw_m6 55 rfl) rfl
theorem q1332 : (Jvm.Cond.selects "KilnBench" ({ cls := "KilnBench", name := "child", desc := "(II)I" } : Jvm.MethodName) ({ cls := "KilnBench", name := "child", desc := "(II)I" } : Jvm.MethodName)) ∈ lw_all := lw_g (lw_at lw_m6 56 rfl) rfl
theorem q1333 : (Jvm.Cond.code ({ cls := "KilnBench", name := "child", desc := "(II)I" } : Jvm.MethodName) prog_1_method_45_code (4 : Nat) (Option.some Jvm.ClassFile.FieldType.int)) ∈ lw_all := lw_g (lw_at lw_m6 57 rfl) rfl
theorem q1334 : (Jvm.Cond.methodLink "KilnBench" (313 : Nat) ({ cls := "KilnBench", name := "childOf", desc := "(I)LKilnBench$Child;" } : Jvm.MethodName)) ∈ lw_all := lw_g (lw_at lw_m6 58 rfl) rfl
theorem q1335 : (Jvm.Cond.privateMethod ({ cls := "KilnBench", name := "childOf", desc := "(I)LKilnBench$Child;" } : Jvm.MethodName)) ∈ lw_tbl := lw_at lw_m6 59 rfl
theorem q1336 : (Jvm.Cond.instanceMethod ({ cls := "KilnBench", name := "childOf", desc := "(I)LKilnBench$Child;" } : Jvm.MethodName)) ∈ lw_all := lw_g (lw_at lw_m6 60 rfl) rfl
theorem q1337 : (Jvm.Cond.code ({ cls := "KilnBench", name := "childOf", desc := "(I)LKilnBench$Child;" } : Jvm.MethodName) prog_1_method_16_code (2 : Nat) (Option.some (Jvm.ClassFile.FieldType.object "KilnBench$Child"))) ∈ lw_all := lw_g (lw_at lw_m6 61 rfl) rfl
theorem q1338 : (Jvm.Cond.methodLink "KilnBench" (146 : Nat) ({ cls := "KilnBench", name := "of", desc := "(Ljava/util/ArrayList;I)Ljava/lang/Object;" } : Jvm.MethodName)) ∈ lw_all := lw_g (lw_at lw_m6 62 rfl) rfl
theorem q1339 : (Jvm.Cond.static ({ cls := "KilnBench", name := "of", desc := "(Ljava/util/ArrayList;I)Ljava/lang/Object;" } : Jvm.MethodName)) ∈ lw_all := lw_g (lw_at lw_m6 63 rfl) rfl
theorem q1340 : (Jvm.Cond.code ({ cls := "KilnBench", name := "of", desc := "(Ljava/util/ArrayList;I)Ljava/lang/Object;" } : Jvm.MethodName) prog_1_method_15_code (2 : Nat) (Option.some (Jvm.ClassFile.FieldType.object "java/lang/Object"))) ∈ lw_all := lw_g (lw_at lw_m6 64 rfl) rfl
theorem q1341 : (Jvm.Cond.methodLink "KilnBench" (136 : Nat) ({ cls := "java/util/ArrayList", name := "size", desc := "()I" } : Jvm.MethodName)) ∈ lw_all := lw_g (lw_at lw_m6 65 rfl) rfl
theorem q1342 : (Jvm.Cond.methodLink "KilnBench" (95 : Nat) ({ cls := "KilnBench", name := "isIn", desc := "(JJJ)Z" } : Jvm.MethodName)) ∈ lw_all := lw_g (lw_at lw_m6 66 rfl) rfl
theorem q1343 : (Jvm.Cond.methodLink "KilnBench" (139 : Nat) ({ cls := "java/util/ArrayList", name := "get", desc := "(I)Ljava/lang/Object;" } : Jvm.MethodName)) ∈ lw_all := lw_g (lw_at lw_m6 67 rfl) rfl
theorem q1344 : (Jvm.Cond.classLink "KilnBench" (150 : Nat) "KilnBench$Child") ∈ lw_all := lw_g (lw_at lw_m6 68 rfl) rfl
theorem q1345 : (Jvm.Cond.methodLink "KilnBench" (368 : Nat) ({ cls := "KilnBench$Child", name := "kiln", desc := "()I" } : Jvm.MethodName)) ∈ lw_all := lw_g (lw_at lw_m6 69 rfl) rfl
theorem q1349 : (Jvm.Cond.methodLink "KilnBench" (321 : Nat) ({ cls := "KilnBench$Child", name := "isFired", desc := "()Z" } : Jvm.MethodName)) ∈ lw_all := lw_g (lw_at lw_m6 73 rfl) rfl
theorem q1354 : (Jvm.Cond.instanceMethod ({ cls := "KilnBench", name := "place", desc := "(II)I" } : Jvm.MethodName)) ∈ lw_all := lw_g (lw_at lw_m6 78 rfl) rfl
theorem q1355 : (Jvm.Cond.selects "KilnBench" ({ cls := "KilnBench", name := "place", desc := "(II)I" } : Jvm.MethodName) ({ cls := "KilnBench", name := "place", desc := "(II)I" } : Jvm.MethodName)) ∈ lw_all := lw_g (lw_at lw_m6 79 rfl) rfl
theorem q1356 : (Jvm.Cond.code ({ cls := "KilnBench", name := "place", desc := "(II)I" } : Jvm.MethodName) prog_1_method_47_code (4 : Nat) (Option.some Jvm.ClassFile.FieldType.int)) ∈ lw_all := lw_g (lw_at lw_m6 80 rfl) rfl
theorem q1357 : (Jvm.Cond.methodLink "KilnBench" (317 : Nat) ({ cls := "KilnBench", name := "kilnOf", desc := "(I)LKilnBench$Kiln;" } : Jvm.MethodName)) ∈ lw_all := lw_g (lw_at lw_m6 81 rfl) rfl
theorem q1358 : (Jvm.Cond.privateMethod ({ cls := "KilnBench", name := "kilnOf", desc := "(I)LKilnBench$Kiln;" } : Jvm.MethodName)) ∈ lw_tbl := lw_at lw_m6 82 rfl
theorem q1359 : (Jvm.Cond.instanceMethod ({ cls := "KilnBench", name := "kilnOf", desc := "(I)LKilnBench$Kiln;" } : Jvm.MethodName)) ∈ lw_all := lw_g (lw_at lw_m6 83 rfl) rfl
theorem q1360 : (Jvm.Cond.code ({ cls := "KilnBench", name := "kilnOf", desc := "(I)LKilnBench$Kiln;" } : Jvm.MethodName) prog_1_method_17_code (2 : Nat) (Option.some (Jvm.ClassFile.FieldType.object "KilnBench$Kiln"))) ∈ lw_all := lw_g (lw_at lw_m6 84 rfl) rfl
theorem q1361 : (Jvm.Cond.classLink "KilnBench" (155 : Nat) "KilnBench$Kiln") ∈ lw_all := lw_g (lw_at lw_m6 85 rfl) rfl
theorem q1366 : (Jvm.Cond.instanceMethod ({ cls := "KilnBench", name := "has", desc := "(I)I" } : Jvm.MethodName)) ∈ lw_all := lw_g (lw_at lw_m6 90 rfl) rfl
theorem q1367 : (Jvm.Cond.selects "KilnBench" ({ cls := "KilnBench", name := "has", desc := "(I)I" } : Jvm.MethodName) ({ cls := "KilnBench", name := "has", desc := "(I)I" } : Jvm.MethodName)) ∈ lw_all := lw_g (lw_at lw_m6 91 rfl) rfl
theorem q1368 : (Jvm.Cond.code ({ cls := "KilnBench", name := "has", desc := "(I)I" } : Jvm.MethodName) prog_1_method_43_code (2 : Nat) (Option.some Jvm.ClassFile.FieldType.int)) ∈ lw_all := lw_g (lw_at lw_m6 92 rfl) rfl
theorem q1369 : (Jvm.Cond.methodLink "KilnBench" (351 : Nat) ({ cls := "KilnBench", name := "children", desc := "()I" } : Jvm.MethodName)) ∈ lw_all := lw_g (lw_at lw_m6 93 rfl) rfl
theorem q1370 : (Jvm.Cond.privateMethod ({ cls := "KilnBench", name := "children", desc := "()I" } : Jvm.MethodName)) ∈ lw_tbl := lw_at lw_m6 94 rfl
theorem q1371 : (Jvm.Cond.instanceMethod ({ cls := "KilnBench", name := "children", desc := "()I" } : Jvm.MethodName)) ∈ lw_all := lw_g (lw_at lw_m6 95 rfl) rfl
theorem q1372 : (Jvm.Cond.code ({ cls := "KilnBench", name := "children", desc := "()I" } : Jvm.MethodName) prog_1_method_18_code (1 : Nat) (Option.some Jvm.ClassFile.FieldType.int)) ∈ lw_all := lw_g (lw_at lw_m6 96 rfl) rfl
theorem q1373 : (Jvm.Cond.methodLink "KilnBench" (232 : Nat) ({ cls := "KilnBench", name := "kilns", desc := "()I" } : Jvm.MethodName)) ∈ lw_all := lw_g (lw_at lw_m6 97 rfl) rfl
theorem q1374 : (Jvm.Cond.privateMethod ({ cls := "KilnBench", name := "kilns", desc := "()I" } : Jvm.MethodName)) ∈ lw_tbl := lw_at lw_m6 98 rfl
theorem q1375 : (Jvm.Cond.instanceMethod ({ cls := "KilnBench", name := "kilns", desc := "()I" } : Jvm.MethodName)) ∈ lw_all := lw_g (lw_at lw_m6 99 rfl) rfl
theorem q1376 : (Jvm.Cond.code ({ cls := "KilnBench", name := "kilns", desc := "()I" } : Jvm.MethodName) prog_1_method_19_code (1 : Nat) (Option.some Jvm.ClassFile.FieldType.int)) ∈ lw_all := lw_g (lw_at lw_m6 100 rfl) rfl
theorem q1377 : (Jvm.Cond.static ({ cls := "KilnBench", name := "lambda$has$0", desc := "(LKilnBench$Child;)Z" } : Jvm.MethodName)) ∈ lw_all := lw_g (lw_at lw_m6 101 rfl) rfl
theorem q1378 : (Jvm.Cond.code ({ cls := "KilnBench", name := "lambda$has$0", desc := "(LKilnBench$Child;)Z" } : Jvm.MethodName) prog_1_method_85_code (1 : Nat) (Option.some Jvm.ClassFile.FieldType.boolean)) ∈ lw_all := lw_g (lw_at lw_m6 102 rfl) rfl
theorem q1379 : (Jvm.Cond.methodLink "KilnBench" (356 : Nat) ({ cls := "KilnBench", name := "many", desc := "(Ljava/util/ArrayList;LKilnBench$Meant;)I" } : Jvm.MethodName)) ∈ lw_all := lw_g (lw_at lw_m6 103 rfl) rfl
theorem q1380 : (Jvm.Cond.static ({ cls := "KilnBench", name := "many", desc := "(Ljava/util/ArrayList;LKilnBench$Meant;)I" } : Jvm.MethodName)) ∈ lw_all := lw_g (lw_at lw_m6 104 rfl) rfl
theorem q1381 : (Jvm.Cond.code ({ cls := "KilnBench", name := "many", desc := "(Ljava/util/ArrayList;LKilnBench$Meant;)I" } : Jvm.MethodName) prog_1_method_42_code (4 : Nat) (Option.some Jvm.ClassFile.FieldType.int)) ∈ lw_all := lw_g (lw_at lw_m6 105 rfl) rfl
theorem q1382 : (Jvm.Cond.interfaceEntry "KilnBench" (346 : Nat)) ∈ lw_tbl := lw_at lw_m6 106 rfl
theorem q1383 : (Jvm.Cond.methodLink "KilnBench" (346 : Nat) ({ cls := "KilnBench$Meant", name := "is", desc := "(Ljava/lang/Object;)Z" } : Jvm.MethodName)) ∈ lw_all := lw_g (lw_at lw_m6 107 rfl) rfl
theorem q1386 : (Jvm.Cond.static ({ cls := "KilnBench", name := "lambda$has$1", desc := "(LKilnBench$Child;)Z" } : Jvm.MethodName)) ∈ lw_all := lw_g (lw_at lw_m6 110 rfl) rfl
theorem q1387 : (Jvm.Cond.code ({ cls := "KilnBench", name := "lambda$has$1", desc := "(LKilnBench$Child;)Z" } : Jvm.MethodName) prog_1_method_84_code (1 : Nat) (Option.some Jvm.ClassFile.FieldType.boolean)) ∈ lw_all := lw_g (lw_at lw_m6 111 rfl) rfl
theorem q1388 : (Jvm.Cond.static ({ cls := "KilnBench", name := "lambda$has$2", desc := "(LKilnBench$Child;)Z" } : Jvm.MethodName)) ∈ lw_all := lw_g (lw_at lw_m6 112 rfl) rfl
theorem q1389 : (Jvm.Cond.code ({ cls := "KilnBench", name := "lambda$has$2", desc := "(LKilnBench$Child;)Z" } : Jvm.MethodName) prog_1_method_83_code (1 : Nat) (Option.some Jvm.ClassFile.FieldType.boolean)) ∈ lw_all := lw_g (lw_at lw_m6 113 rfl) rfl
theorem q1390 : (Jvm.Cond.static ({ cls := "KilnBench", name := "lambda$has$3", desc := "(LKilnBench$Kiln;)Z" } : Jvm.MethodName)) ∈ lw_all := lw_g (lw_at lw_m6 114 rfl) rfl
theorem q1391 : (Jvm.Cond.code ({ cls := "KilnBench", name := "lambda$has$3", desc := "(LKilnBench$Kiln;)Z" } : Jvm.MethodName) prog_1_method_82_code (1 : Nat) (Option.some Jvm.ClassFile.FieldType.boolean)) ∈ lw_all := lw_g (lw_at lw_m6 115 rfl) rfl
theorem q1392 : (Jvm.Cond.methodLink "KilnBench" (234 : Nat) ({ cls := "KilnBench$Kiln", name := "isLit", desc := "()Z" } : Jvm.MethodName)) ∈ lw_all := lw_g (lw_at lw_m6 116 rfl) rfl
theorem q1397 : (Jvm.Cond.instanceMethod ({ cls := "KilnBench", name := "kiln", desc := "(II)I" } : Jvm.MethodName)) ∈ lw_all := lw_g (lw_at lw_m6 121 rfl) rfl
theorem q1398 : (Jvm.Cond.selects "KilnBench" ({ cls := "KilnBench", name := "kiln", desc := "(II)I" } : Jvm.MethodName) ({ cls := "KilnBench", name := "kiln", desc := "(II)I" } : Jvm.MethodName)) ∈ lw_all := lw_g (lw_at lw_m6 122 rfl) rfl
theorem q1399 : (Jvm.Cond.code ({ cls := "KilnBench", name := "kiln", desc := "(II)I" } : Jvm.MethodName) prog_1_method_46_code (4 : Nat) (Option.some Jvm.ClassFile.FieldType.int)) ∈ lw_all := lw_g (lw_at lw_m6 123 rfl) rfl
theorem q1400 : (Jvm.Cond.methodLink "KilnBench" (217 : Nat) ({ cls := "KilnBench$Kiln", name := "full", desc := "()I" } : Jvm.MethodName)) ∈ lw_all := lw_g (lw_at lw_m6 124 rfl) rfl
theorem q1404 : (Jvm.Cond.methodLink "KilnBench" (238 : Nat) ({ cls := "KilnBench", name := "burnt", desc := "(LKilnBench$Kiln;)I" } : Jvm.MethodName)) ∈ lw_all := lw_g (lw_at lw_m6 128 rfl) rfl
theorem q1405 : (Jvm.Cond.privateMethod ({ cls := "KilnBench", name := "burnt", desc := "(LKilnBench$Kiln;)I" } : Jvm.MethodName)) ∈ lw_tbl := lw_at lw_m6 129 rfl
theorem q1406 : (Jvm.Cond.instanceMethod ({ cls := "KilnBench", name := "burnt", desc := "(LKilnBench$Kiln;)I" } : Jvm.MethodName)) ∈ lw_all := lw_g (lw_at lw_m6 130 rfl) rfl
theorem q1407 : (Jvm.Cond.code ({ cls := "KilnBench", name := "burnt", desc := "(LKilnBench$Kiln;)I" } : Jvm.MethodName) prog_1_method_25_code (3 : Nat) (Option.some Jvm.ClassFile.FieldType.int)) ∈ lw_all := lw_g (lw_at lw_m6 131 rfl) rfl
theorem q1408 : (Jvm.Cond.methodLink "KilnBench" (160 : Nat) ({ cls := "KilnBench", name := "asked", desc := "(I)[J" } : Jvm.MethodName)) ∈ lw_all := lw_g (lw_at lw_m6 132 rfl) rfl
theorem q1409 : (Jvm.Cond.privateMethod ({ cls := "KilnBench", name := "asked", desc := "(I)[J" } : Jvm.MethodName)) ∈ lw_tbl := lw_at lw_m6 133 rfl
theorem q1410 : (Jvm.Cond.instanceMethod ({ cls := "KilnBench", name := "asked", desc := "(I)[J" } : Jvm.MethodName)) ∈ lw_all := lw_g (lw_at lw_m6 134 rfl) rfl
theorem q1411 : (Jvm.Cond.code ({ cls := "KilnBench", name := "asked", desc := "(I)[J" } : Jvm.MethodName) prog_1_method_20_code (2 : Nat) (Option.some (Jvm.ClassFile.FieldType.array Jvm.ClassFile.FieldType.long))) ∈ lw_all := lw_g (lw_at lw_m6 135 rfl) rfl
theorem q1412 : (Jvm.Cond.interfaceEntry "KilnBench" (183 : Nat)) ∈ lw_tbl := lw_at lw_m6 136 rfl
theorem q1413 : (Jvm.Cond.methodLink "KilnBench" (183 : Nat) ({ cls := "KilnBench$Sum", name := "of", desc := "(LKilnBench$Asking;)J" } : Jvm.MethodName)) ∈ lw_all := lw_g (lw_at lw_m6 137 rfl) rfl
theorem q1508 : (Jvm.Cond.static ({ cls := "KilnBench", name := "clip", desc := "(J)J" } : Jvm.MethodName)) ∈ lw_all := lw_g (lw_at lw_m6 232 rfl) rfl
theorem q1509 : (Jvm.Cond.code ({ cls := "KilnBench", name := "clip", desc := "(J)J" } : Jvm.MethodName) prog_1_method_5_code (2 : Nat) (Option.some Jvm.ClassFile.FieldType.long)) ∈ lw_all := lw_g (lw_at lw_m6 233 rfl) rfl
theorem q1510 : (Jvm.Cond.constantLong "KilnBench" (74 : Nat) (-1000000 : Int64)) ∈ lw_all := lw_g (lw_at lw_m6 234 rfl) rfl
theorem q1511 : (Jvm.Cond.constantLong "KilnBench" (76 : Nat) (1000000 : Int64)) ∈ lw_all := lw_g (lw_at lw_m6 235 rfl) rfl
theorem q1512 : (Jvm.Cond.methodLink "KilnBench" (65 : Nat) ({ cls := "java/lang/Math", name := "min", desc := "(JJ)J" } : Jvm.MethodName)) ∈ lw_all := lw_g (lw_at lw_m6 236 rfl) rfl
theorem q1513 : (Jvm.Cond.methodLink "KilnBench" (71 : Nat) ({ cls := "java/lang/Math", name := "max", desc := "(JJ)J" } : Jvm.MethodName)) ∈ lw_all := lw_g (lw_at lw_m6 237 rfl) rfl
theorem q1532 : (Jvm.Cond.instanceMethod ({ cls := "KilnBench", name := "rings", desc := "(III)I" } : Jvm.MethodName)) ∈ lw_all := lw_g (lw_at lw_m7 16 rfl) rfl
theorem q1533 : (Jvm.Cond.selects "KilnBench" ({ cls := "KilnBench", name := "rings", desc := "(III)I" } : Jvm.MethodName) ({ cls := "KilnBench", name := "rings", desc := "(III)I" } : Jvm.MethodName)) ∈ lw_all := lw_g (lw_at lw_m7 17 rfl) rfl
theorem q1534 : (Jvm.Cond.code ({ cls := "KilnBench", name := "rings", desc := "(III)I" } : Jvm.MethodName) prog_1_method_49_code (5 : Nat) (Option.some Jvm.ClassFile.FieldType.int)) ∈ lw_all := lw_g (lw_at lw_m7 18 rfl) rfl
theorem q1535 : (Jvm.Cond.methodLink "KilnBench" (379 : Nat) ({ cls := "KilnBench", name := "areThere", desc := "(LKilnBench$Child;II)Z" } : Jvm.MethodName)) ∈ lw_all := lw_g (lw_at lw_m7 19 rfl) rfl
theorem q1536 : (Jvm.Cond.privateMethod ({ cls := "KilnBench", name := "areThere", desc := "(LKilnBench$Child;II)Z" } : Jvm.MethodName)) ∈ lw_tbl := lw_at lw_m7 20 rfl
theorem q1537 : (Jvm.Cond.instanceMethod ({ cls := "KilnBench", name := "areThere", desc := "(LKilnBench$Child;II)Z" } : Jvm.MethodName)) ∈ lw_all := lw_g (lw_at lw_m7 21 rfl) rfl
theorem q1538 : (Jvm.Cond.code ({ cls := "KilnBench", name := "areThere", desc := "(LKilnBench$Child;II)Z" } : Jvm.MethodName) prog_1_method_48_code (4 : Nat) (Option.some Jvm.ClassFile.FieldType.boolean)) ∈ lw_all := lw_g (lw_at lw_m7 22 rfl) rfl
theorem q1539 : (Jvm.Cond.constantLong "KilnBench" (341 : Nat) (20 : Int64)) ∈ lw_all := lw_g (lw_at lw_m7 23 rfl) rfl
theorem q1540 : (Jvm.Cond.constantLong "KilnBench" (93 : Nat) (5 : Int64)) ∈ lw_all := lw_g (lw_at lw_m7 24 rfl) rfl
theorem q1541 : (Jvm.Cond.methodLink "KilnBench" (192 : Nat) ({ cls := "KilnBench", name := "temperOf", desc := "(LKilnBench$Child;II)I" } : Jvm.MethodName)) ∈ lw_all := lw_g (lw_at lw_m7 25 rfl) rfl
theorem q1542 : (Jvm.Cond.privateMethod ({ cls := "KilnBench", name := "temperOf", desc := "(LKilnBench$Child;II)I" } : Jvm.MethodName)) ∈ lw_tbl := lw_at lw_m7 26 rfl
theorem q1543 : (Jvm.Cond.instanceMethod ({ cls := "KilnBench", name := "temperOf", desc := "(LKilnBench$Child;II)I" } : Jvm.MethodName)) ∈ lw_all := lw_g (lw_at lw_m7 27 rfl) rfl
theorem q1544 : (Jvm.Cond.code ({ cls := "KilnBench", name := "temperOf", desc := "(LKilnBench$Child;II)I" } : Jvm.MethodName) prog_1_method_22_code (4 : Nat) (Option.some Jvm.ClassFile.FieldType.int)) ∈ lw_all := lw_g (lw_at lw_m7 28 rfl) rfl
theorem q1545 : (Jvm.Cond.constantLong "KilnBench" (174 : Nat) (4 : Int64)) ∈ lw_all := lw_g (lw_at lw_m7 29 rfl) rfl
theorem q1546 : (Jvm.Cond.methodLink "KilnBench" (176 : Nat) ({ cls := "KilnBench", name := "cut", desc := "(JI)I" } : Jvm.MethodName)) ∈ lw_all := lw_g (lw_at lw_m7 30 rfl) rfl
theorem q1547 : (Jvm.Cond.static ({ cls := "KilnBench", name := "cut", desc := "(JI)I" } : Jvm.MethodName)) ∈ lw_all := lw_g (lw_at lw_m7 31 rfl) rfl
theorem q1548 : (Jvm.Cond.code ({ cls := "KilnBench", name := "cut", desc := "(JI)I" } : Jvm.MethodName) prog_1_method_4_code (3 : Nat) (Option.some Jvm.ClassFile.FieldType.int)) ∈ lw_all := lw_g (lw_at lw_m7 32 rfl) rfl
theorem q1549 : (Jvm.Cond.methodLink "KilnBench" (180 : Nat) ({ cls := "KilnBench", name := "asked", desc := "(LKilnBench$Child;II)LKilnBench$Asking;" } : Jvm.MethodName)) ∈ lw_all := lw_g (lw_at lw_m7 33 rfl) rfl
theorem q1550 : (Jvm.Cond.privateMethod ({ cls := "KilnBench", name := "asked", desc := "(LKilnBench$Child;II)LKilnBench$Asking;" } : Jvm.MethodName)) ∈ lw_tbl := lw_at lw_m7 34 rfl
theorem q1551 : (Jvm.Cond.instanceMethod ({ cls := "KilnBench", name := "asked", desc := "(LKilnBench$Child;II)LKilnBench$Asking;" } : Jvm.MethodName)) ∈ lw_all := lw_g (lw_at lw_m7 35 rfl) rfl
theorem q1552 : (Jvm.Cond.code ({ cls := "KilnBench", name := "asked", desc := "(LKilnBench$Child;II)LKilnBench$Asking;" } : Jvm.MethodName) prog_1_method_21_code (5 : Nat) (Option.some (Jvm.ClassFile.FieldType.object "KilnBench$Asking"))) ∈ lw_all := lw_g (lw_at lw_m7 36 rfl) rfl
theorem q1563 : (Jvm.Cond.instanceMethod ({ cls := "KilnBench", name := "cracks", desc := "(III)I" } : Jvm.MethodName)) ∈ lw_all := lw_g (lw_at lw_m7 47 rfl) rfl
theorem q1564 : (Jvm.Cond.selects "KilnBench" ({ cls := "KilnBench", name := "cracks", desc := "(III)I" } : Jvm.MethodName) ({ cls := "KilnBench", name := "cracks", desc := "(III)I" } : Jvm.MethodName)) ∈ lw_all := lw_g (lw_at lw_m7 48 rfl) rfl
theorem q1565 : (Jvm.Cond.code ({ cls := "KilnBench", name := "cracks", desc := "(III)I" } : Jvm.MethodName) prog_1_method_50_code (5 : Nat) (Option.some Jvm.ClassFile.FieldType.int)) ∈ lw_all := lw_g (lw_at lw_m7 49 rfl) rfl
theorem q1566 : (Jvm.Cond.methodLink "KilnBench" (383 : Nat) ({ cls := "KilnBench", name := "doesCrack", desc := "(LKilnBench$Child;II)Z" } : Jvm.MethodName)) ∈ lw_all := lw_g (lw_at lw_m7 50 rfl) rfl
theorem q1567 : (Jvm.Cond.privateMethod ({ cls := "KilnBench", name := "doesCrack", desc := "(LKilnBench$Child;II)Z" } : Jvm.MethodName)) ∈ lw_tbl := lw_at lw_m7 51 rfl
theorem q1568 : (Jvm.Cond.instanceMethod ({ cls := "KilnBench", name := "doesCrack", desc := "(LKilnBench$Child;II)Z" } : Jvm.MethodName)) ∈ lw_all := lw_g (lw_at lw_m7 52 rfl) rfl
theorem q1569 : (Jvm.Cond.code ({ cls := "KilnBench", name := "doesCrack", desc := "(LKilnBench$Child;II)Z" } : Jvm.MethodName) prog_1_method_23_code (5 : Nat) (Option.some Jvm.ClassFile.FieldType.boolean)) ∈ lw_all := lw_g (lw_at lw_m7 53 rfl) rfl
theorem q1570 : (Jvm.Cond.interfaceEntry "KilnBench" (196 : Nat)) ∈ lw_tbl := lw_at lw_m7 54 rfl
theorem q1571 : (Jvm.Cond.methodLink "KilnBench" (196 : Nat) ({ cls := "KilnBench$Test", name := "holds", desc := "(LKilnBench$Asking;)Z" } : Jvm.MethodName)) ∈ lw_all := lw_g (lw_at lw_m7 55 rfl) rfl
theorem q1580 : (Jvm.Cond.instanceMethod ({ cls := "KilnBench", name := "heats", desc := "(IIII)I" } : Jvm.MethodName)) ∈ lw_all := lw_g (lw_at lw_m7 64 rfl) rfl
theorem q1581 : (Jvm.Cond.selects "KilnBench" ({ cls := "KilnBench", name := "heats", desc := "(IIII)I" } : Jvm.MethodName) ({ cls := "KilnBench", name := "heats", desc := "(IIII)I" } : Jvm.MethodName)) ∈ lw_all := lw_g (lw_at lw_m7 65 rfl) rfl
theorem q1582 : (Jvm.Cond.code ({ cls := "KilnBench", name := "heats", desc := "(IIII)I" } : Jvm.MethodName) prog_1_method_52_code (6 : Nat) (Option.some Jvm.ClassFile.FieldType.int)) ∈ lw_all := lw_g (lw_at lw_m7 66 rfl) rfl
theorem q1583 : (Jvm.Cond.privateMethod ({ cls := "KilnBench", name := "lambda$heats$4", desc := "(LKilnBench$Child;IIII)Z" } : Jvm.MethodName)) ∈ lw_tbl := lw_at lw_m7 67 rfl
theorem q1584 : (Jvm.Cond.instanceMethod ({ cls := "KilnBench", name := "lambda$heats$4", desc := "(LKilnBench$Child;IIII)Z" } : Jvm.MethodName)) ∈ lw_all := lw_g (lw_at lw_m7 68 rfl) rfl
theorem q1585 : (Jvm.Cond.code ({ cls := "KilnBench", name := "lambda$heats$4", desc := "(LKilnBench$Child;IIII)Z" } : Jvm.MethodName) prog_1_method_81_code (6 : Nat) (Option.some Jvm.ClassFile.FieldType.boolean)) ∈ lw_all := lw_g (lw_at lw_m7 69 rfl) rfl
theorem q1586 : (Jvm.Cond.methodLink "KilnBench" (393 : Nat) ({ cls := "KilnBench", name := "allHeats", desc := "(LKilnBench$Good;)I" } : Jvm.MethodName)) ∈ lw_all := lw_g (lw_at lw_m7 70 rfl) rfl
theorem q1587 : (Jvm.Cond.static ({ cls := "KilnBench", name := "allHeats", desc := "(LKilnBench$Good;)I" } : Jvm.MethodName)) ∈ lw_all := lw_g (lw_at lw_m7 71 rfl) rfl
theorem q1588 : (Jvm.Cond.code ({ cls := "KilnBench", name := "allHeats", desc := "(LKilnBench$Good;)I" } : Jvm.MethodName) prog_1_method_51_code (3 : Nat) (Option.some Jvm.ClassFile.FieldType.int)) ∈ lw_all := lw_g (lw_at lw_m7 72 rfl) rfl
theorem q1589 : (Jvm.Cond.interfaceEntry "KilnBench" (386 : Nat)) ∈ lw_tbl := lw_at lw_m7 73 rfl
theorem q1590 : (Jvm.Cond.methodLink "KilnBench" (386 : Nat) ({ cls := "KilnBench$Good", name := "is", desc := "(I)Z" } : Jvm.MethodName)) ∈ lw_all := lw_g (lw_at lw_m7 74 rfl) rfl
theorem q1607 : (Jvm.Cond.instanceMethod ({ cls := "KilnBench", name := "status", desc := "(I)I" } : Jvm.MethodName)) ∈ lw_all := lw_g (lw_at lw_m7 91 rfl) rfl
theorem q1608 : (Jvm.Cond.selects "KilnBench" ({ cls := "KilnBench", name := "status", desc := "(I)I" } : Jvm.MethodName) ({ cls := "KilnBench", name := "status", desc := "(I)I" } : Jvm.MethodName)) ∈ lw_all := lw_g (lw_at lw_m7 92 rfl) rfl
theorem q1609 : (Jvm.Cond.code ({ cls := "KilnBench", name := "status", desc := "(I)I" } : Jvm.MethodName) prog_1_method_11_code (2 : Nat) (Option.some Jvm.ClassFile.FieldType.int)) ∈ lw_all := lw_g (lw_at lw_m7 93 rfl) rfl
theorem q1611 : (Jvm.Cond.instanceMethod ({ cls := "KilnBench", name := "fuel", desc := "(I)I" } : Jvm.MethodName)) ∈ lw_all := lw_g (lw_at lw_m7 95 rfl) rfl
theorem q1612 : (Jvm.Cond.selects "KilnBench" ({ cls := "KilnBench", name := "fuel", desc := "(I)I" } : Jvm.MethodName) ({ cls := "KilnBench", name := "fuel", desc := "(I)I" } : Jvm.MethodName)) ∈ lw_all := lw_g (lw_at lw_m7 96 rfl) rfl
theorem q1613 : (Jvm.Cond.code ({ cls := "KilnBench", name := "fuel", desc := "(I)I" } : Jvm.MethodName) prog_1_method_58_code (2 : Nat) (Option.some Jvm.ClassFile.FieldType.int)) ∈ lw_all := lw_g (lw_at lw_m7 97 rfl) rfl
theorem q1614 : (Jvm.Cond.privateMethod ({ cls := "KilnBench", name := "lambda$fuel$5", desc := "()I" } : Jvm.MethodName)) ∈ lw_tbl := lw_at lw_m7 98 rfl
theorem q1615 : (Jvm.Cond.instanceMethod ({ cls := "KilnBench", name := "lambda$fuel$5", desc := "()I" } : Jvm.MethodName)) ∈ lw_all := lw_g (lw_at lw_m7 99 rfl) rfl
theorem q1616 : (Jvm.Cond.code ({ cls := "KilnBench", name := "lambda$fuel$5", desc := "()I" } : Jvm.MethodName) prog_1_method_80_code (1 : Nat) (Option.some Jvm.ClassFile.FieldType.int)) ∈ lw_all := lw_g (lw_at lw_m7 100 rfl) rfl
theorem q1617 : (Jvm.Cond.methodLink "KilnBench" (430 : Nat) ({ cls := "KilnBench", name := "behind", desc := "(ILKilnBench$Told;)I" } : Jvm.MethodName)) ∈ lw_all := lw_g (lw_at lw_m7 101 rfl) rfl
theorem q1618 : (Jvm.Cond.privateMethod ({ cls := "KilnBench", name := "behind", desc := "(ILKilnBench$Told;)I" } : Jvm.MethodName)) ∈ lw_tbl := lw_at lw_m7 102 rfl
theorem q1619 : (Jvm.Cond.instanceMethod ({ cls := "KilnBench", name := "behind", desc := "(ILKilnBench$Told;)I" } : Jvm.MethodName)) ∈ lw_all := lw_g (lw_at lw_m7 103 rfl) rfl
theorem q1620 : (Jvm.Cond.code ({ cls := "KilnBench", name := "behind", desc := "(ILKilnBench$Told;)I" } : Jvm.MethodName) prog_1_method_56_code (5 : Nat) (Option.some Jvm.ClassFile.FieldType.int)) ∈ lw_all := lw_g (lw_at lw_m7 104 rfl) rfl
theorem q1621 : (Jvm.Cond.methodLink "KilnBench" (289 : Nat) ({ cls := "KilnBench", name := "isAhead", desc := "(III)Z" } : Jvm.MethodName)) ∈ lw_all := lw_g (lw_at lw_m7 105 rfl) rfl
theorem q1622 : (Jvm.Cond.privateMethod ({ cls := "KilnBench", name := "isAhead", desc := "(III)Z" } : Jvm.MethodName)) ∈ lw_tbl := lw_at lw_m7 106 rfl
theorem q1623 : (Jvm.Cond.instanceMethod ({ cls := "KilnBench", name := "isAhead", desc := "(III)Z" } : Jvm.MethodName)) ∈ lw_all := lw_g (lw_at lw_m7 107 rfl) rfl
theorem q1624 : (Jvm.Cond.code ({ cls := "KilnBench", name := "isAhead", desc := "(III)Z" } : Jvm.MethodName) prog_1_method_33_code (4 : Nat) (Option.some Jvm.ClassFile.FieldType.boolean)) ∈ lw_all := lw_g (lw_at lw_m7 108 rfl) rfl
theorem q1625 : (Jvm.Cond.methodLink "KilnBench" (415 : Nat) ({ cls := "KilnBench", name := "thinks", desc := "()LKilnBench$Spot;" } : Jvm.MethodName)) ∈ lw_all := lw_g (lw_at lw_m7 109 rfl) rfl
theorem q1626 : (Jvm.Cond.privateMethod ({ cls := "KilnBench", name := "thinks", desc := "()LKilnBench$Spot;" } : Jvm.MethodName)) ∈ lw_tbl := lw_at lw_m7 110 rfl
theorem q1627 : (Jvm.Cond.instanceMethod ({ cls := "KilnBench", name := "thinks", desc := "()LKilnBench$Spot;" } : Jvm.MethodName)) ∈ lw_all := lw_g (lw_at lw_m7 111 rfl) rfl
theorem q1628 : (Jvm.Cond.code ({ cls := "KilnBench", name := "thinks", desc := "()LKilnBench$Spot;" } : Jvm.MethodName) prog_1_method_29_code (1 : Nat) (Option.some (Jvm.ClassFile.FieldType.object "KilnBench$Spot"))) ∈ lw_all := lw_g (lw_at lw_m7 112 rfl) rfl
theorem q1629 : (Jvm.Cond.classLink "KilnBench" (272 : Nat) "KilnBench$Spot") ∈ lw_all := lw_g (lw_at lw_m7 113 rfl) rfl
theorem q1631 : (Jvm.Cond.methodLink "KilnBench" (274 : Nat) ({ cls := "KilnBench$Spot", name := "<init>", desc := "(LKilnBench;)V" } : Jvm.MethodName)) ∈ lw_all := lw_g (lw_at lw_m7 115 rfl) rfl
theorem q1658 : (Jvm.Cond.methodLink "KilnBench" (296 : Nat) ({ cls := "KilnBench", name := "goes", desc := "(I)I" } : Jvm.MethodName)) ∈ lw_all := lw_g (lw_at lw_m7 142 rfl) rfl
theorem q1659 : (Jvm.Cond.privateMethod ({ cls := "KilnBench", name := "goes", desc := "(I)I" } : Jvm.MethodName)) ∈ lw_tbl := lw_at lw_m7 143 rfl
theorem q1660 : (Jvm.Cond.instanceMethod ({ cls := "KilnBench", name := "goes", desc := "(I)I" } : Jvm.MethodName)) ∈ lw_all := lw_g (lw_at lw_m7 144 rfl) rfl
theorem q1661 : (Jvm.Cond.code ({ cls := "KilnBench", name := "goes", desc := "(I)I" } : Jvm.MethodName) prog_1_method_28_code (4 : Nat) (Option.some Jvm.ClassFile.FieldType.int)) ∈ lw_all := lw_g (lw_at lw_m7 145 rfl) rfl
theorem q1662 : (Jvm.Cond.methodLink "KilnBench" (264 : Nat) ({ cls := "KilnBench", name := "weekGoes", desc := "(I)V" } : Jvm.MethodName)) ∈ lw_all := lw_g (lw_at lw_m7 146 rfl) rfl
theorem q1663 : (Jvm.Cond.privateMethod ({ cls := "KilnBench", name := "weekGoes", desc := "(I)V" } : Jvm.MethodName)) ∈ lw_tbl := lw_at lw_m7 147 rfl
theorem q1664 : (Jvm.Cond.instanceMethod ({ cls := "KilnBench", name := "weekGoes", desc := "(I)V" } : Jvm.MethodName)) ∈ lw_all := lw_g (lw_at lw_m7 148 rfl) rfl
theorem q1665 : (Jvm.Cond.code ({ cls := "KilnBench", name := "weekGoes", desc := "(I)V" } : Jvm.MethodName) prog_1_method_26_code (7 : Nat) (Option.none : Option Jvm.ClassFile.FieldType)) ∈ lw_all := lw_g (lw_at lw_m7 149 rfl) rfl
theorem q1666 : (Jvm.Cond.methodLink "KilnBench" (229 : Nat) ({ cls := "java/lang/Math", name := "min", desc := "(II)I" } : Jvm.MethodName)) ∈ lw_all := lw_g (lw_at lw_m7 150 rfl) rfl
theorem q1667 : (Jvm.Cond.classLink "KilnBench" (242 : Nat) "KilnBench$Bench") ∈ lw_all := lw_g (lw_at lw_m7 151 rfl) rfl
theorem q1669 : (Jvm.Cond.methodLink "KilnBench" (244 : Nat) ({ cls := "KilnBench$Bench", name := "<init>", desc := "(LKilnBench;LKilnBench$Kiln;I)V" } : Jvm.MethodName)) ∈ lw_all := lw_g (lw_at lw_m7 153 rfl) rfl
theorem q1700 : (Jvm.Cond.methodLink "KilnBench" (247 : Nat) ({ cls := "KilnBench$Bench", name := "fires", desc := "()I" } : Jvm.MethodName)) ∈ lw_all := lw_g (lw_at lw_m7 184 rfl) rfl
theorem q1709 : (Jvm.Cond.privateMethod ({ cls := "KilnBench", name := "doStick", desc := "(LKilnBench$Child;ILKilnBench$Child;II)Z" } : Jvm.MethodName)) ∈ lw_tbl := lw_at lw_m7 193 rfl
theorem q1710 : (Jvm.Cond.instanceMethod ({ cls := "KilnBench", name := "doStick", desc := "(LKilnBench$Child;ILKilnBench$Child;II)Z" } : Jvm.MethodName)) ∈ lw_all := lw_g (lw_at lw_m7 194 rfl) rfl
theorem q1711 : (Jvm.Cond.code ({ cls := "KilnBench", name := "doStick", desc := "(LKilnBench$Child;ILKilnBench$Child;II)Z" } : Jvm.MethodName) prog_1_method_24_code (7 : Nat) (Option.some Jvm.ClassFile.FieldType.boolean)) ∈ lw_all := lw_g (lw_at lw_m7 195 rfl) rfl
theorem q1712 : (Jvm.Cond.methodLink "KilnBench" (205 : Nat) ({ cls := "java/lang/Math", name := "abs", desc := "(I)I" } : Jvm.MethodName)) ∈ lw_all := lw_g (lw_at lw_m7 196 rfl) rfl
theorem q1719 : (Jvm.Cond.methodLink "KilnBench" (254 : Nat) ({ cls := "KilnBench", name := "isKept", desc := "(III)V" } : Jvm.MethodName)) ∈ lw_all := lw_g (lw_at lw_m7 203 rfl) rfl
theorem q1720 : (Jvm.Cond.privateMethod ({ cls := "KilnBench", name := "isKept", desc := "(III)V" } : Jvm.MethodName)) ∈ lw_tbl := lw_at lw_m7 204 rfl
theorem q1721 : (Jvm.Cond.instanceMethod ({ cls := "KilnBench", name := "isKept", desc := "(III)V" } : Jvm.MethodName)) ∈ lw_all := lw_g (lw_at lw_m7 205 rfl) rfl
theorem q1722 : (Jvm.Cond.code ({ cls := "KilnBench", name := "isKept", desc := "(III)V" } : Jvm.MethodName) prog_1_method_27_code (5 : Nat) (Option.none : Option Jvm.ClassFile.FieldType)) ∈ lw_all := lw_g (lw_at lw_m7 206 rfl) rfl
theorem q1723 : (Jvm.Cond.methodLink "KilnBench" (258 : Nat) ({ cls := "java/util/ArrayList", name := "remove", desc := "(I)Ljava/lang/Object;" } : Jvm.MethodName)) ∈ lw_all := lw_g (lw_at lw_m7 207 rfl) rfl
theorem q1732 : (Jvm.Cond.methodLink "KilnBench" (261 : Nat) ({ cls := "java/util/ArrayList", name := "add", desc := "(Ljava/lang/Object;)Z" } : Jvm.MethodName)) ∈ lw_all := lw_g (lw_at lw_m7 216 rfl) rfl
theorem q1733 : (Jvm.Cond.methodLink "KilnBench" (267 : Nat) ({ cls := "java/lang/Integer", name := "bitCount", desc := "(I)I" } : Jvm.MethodName)) ∈ lw_all := lw_g (lw_at lw_m7 217 rfl) rfl
theorem q1739 : (Jvm.Cond.interfaceEntry "KilnBench" (419 : Nat)) ∈ lw_tbl := lw_at lw_m7 223 rfl
theorem q1740 : (Jvm.Cond.methodLink "KilnBench" (419 : Nat) ({ cls := "KilnBench$Told", name := "of", desc := "()I" } : Jvm.MethodName)) ∈ lw_all := lw_g (lw_at lw_m7 224 rfl) rfl
theorem q1743 : (Jvm.Cond.methodLink "KilnBench" (423 : Nat) ({ cls := "KilnBench", name := "thoughtOf", desc := "(LKilnBench$Spot;)V" } : Jvm.MethodName)) ∈ lw_all := lw_g (lw_at lw_m7 227 rfl) rfl
theorem q1744 : (Jvm.Cond.privateMethod ({ cls := "KilnBench", name := "thoughtOf", desc := "(LKilnBench$Spot;)V" } : Jvm.MethodName)) ∈ lw_tbl := lw_at lw_m7 228 rfl
theorem q1745 : (Jvm.Cond.instanceMethod ({ cls := "KilnBench", name := "thoughtOf", desc := "(LKilnBench$Spot;)V" } : Jvm.MethodName)) ∈ lw_all := lw_g (lw_at lw_m7 229 rfl) rfl
theorem q1746 : (Jvm.Cond.code ({ cls := "KilnBench", name := "thoughtOf", desc := "(LKilnBench$Spot;)V" } : Jvm.MethodName) prog_1_method_30_code (2 : Nat) (Option.none : Option Jvm.ClassFile.FieldType)) ∈ lw_all := lw_g (lw_at lw_m7 230 rfl) rfl
theorem q1747 : (Jvm.Cond.methodLink "KilnBench" (277 : Nat) ({ cls := "KilnBench$Spot", name := "isBack", desc := "()V" } : Jvm.MethodName)) ∈ lw_all := lw_g (lw_at lw_m7 231 rfl) rfl
theorem q1760 : (Jvm.Cond.instanceMethod ({ cls := "KilnBench", name := "kept", desc := "(II)I" } : Jvm.MethodName)) ∈ lw_all := lw_g (lw_at lw_m8 4 rfl) rfl
theorem q1761 : (Jvm.Cond.selects "KilnBench" ({ cls := "KilnBench", name := "kept", desc := "(II)I" } : Jvm.MethodName) ({ cls := "KilnBench", name := "kept", desc := "(II)I" } : Jvm.MethodName)) ∈ lw_all := lw_g (lw_at lw_m8 5 rfl) rfl
theorem q1762 : (Jvm.Cond.code ({ cls := "KilnBench", name := "kept", desc := "(II)I" } : Jvm.MethodName) prog_1_method_41_code (3 : Nat) (Option.some Jvm.ClassFile.FieldType.int)) ∈ lw_all := lw_g (lw_at lw_m8 6 rfl) rfl
theorem q1763 : (Jvm.Cond.constantLong "KilnBench" (343 : Nat) (3 : Int64)) ∈ lw_all := lw_g (lw_at lw_m8 7 rfl) rfl
theorem q1764 : (Jvm.Cond.classLink "KilnBench" (345 : Nat) "[I") ∈ lw_all := lw_g (lw_at lw_m8 8 rfl) rfl
theorem q1767 : (Jvm.Cond.instanceMethod ({ cls := "KilnBench", name := "fired", desc := "(I)I" } : Jvm.MethodName)) ∈ lw_all := lw_g (lw_at lw_m8 11 rfl) rfl
theorem q1768 : (Jvm.Cond.selects "KilnBench" ({ cls := "KilnBench", name := "fired", desc := "(I)I" } : Jvm.MethodName) ({ cls := "KilnBench", name := "fired", desc := "(I)I" } : Jvm.MethodName)) ∈ lw_all := lw_g (lw_at lw_m8 12 rfl) rfl
theorem q1769 : (Jvm.Cond.code ({ cls := "KilnBench", name := "fired", desc := "(I)I" } : Jvm.MethodName) prog_1_method_57_code (5 : Nat) (Option.some Jvm.ClassFile.FieldType.int)) ∈ lw_all := lw_g (lw_at lw_m8 13 rfl) rfl
theorem q1772 : (Jvm.Cond.instanceMethod ({ cls := "KilnBench", name := "brothers", desc := "(I)I" } : Jvm.MethodName)) ∈ lw_all := lw_g (lw_at lw_m8 16 rfl) rfl
theorem q1773 : (Jvm.Cond.selects "KilnBench" ({ cls := "KilnBench", name := "brothers", desc := "(I)I" } : Jvm.MethodName) ({ cls := "KilnBench", name := "brothers", desc := "(I)I" } : Jvm.MethodName)) ∈ lw_all := lw_g (lw_at lw_m8 17 rfl) rfl
theorem q1774 : (Jvm.Cond.code ({ cls := "KilnBench", name := "brothers", desc := "(I)I" } : Jvm.MethodName) prog_1_method_55_code (6 : Nat) (Option.some Jvm.ClassFile.FieldType.int)) ∈ lw_all := lw_g (lw_at lw_m8 18 rfl) rfl
theorem q1776 : (Jvm.Cond.instanceMethod ({ cls := "KilnBench", name := "later", desc := "(II)I" } : Jvm.MethodName)) ∈ lw_all := lw_g (lw_at lw_m8 20 rfl) rfl
theorem q1777 : (Jvm.Cond.selects "KilnBench" ({ cls := "KilnBench", name := "later", desc := "(II)I" } : Jvm.MethodName) ({ cls := "KilnBench", name := "later", desc := "(II)I" } : Jvm.MethodName)) ∈ lw_all := lw_g (lw_at lw_m8 21 rfl) rfl
theorem q1778 : (Jvm.Cond.code ({ cls := "KilnBench", name := "later", desc := "(II)I" } : Jvm.MethodName) prog_1_method_59_code (4 : Nat) (Option.some Jvm.ClassFile.FieldType.int)) ∈ lw_all := lw_g (lw_at lw_m8 22 rfl) rfl
theorem q1779 : (Jvm.Cond.static ({ cls := "KilnBench", name := "lambda$later$6", desc := "(LKilnBench$Child;)I" } : Jvm.MethodName)) ∈ lw_all := lw_g (lw_at lw_m8 23 rfl) rfl
theorem q1780 : (Jvm.Cond.code ({ cls := "KilnBench", name := "lambda$later$6", desc := "(LKilnBench$Child;)I" } : Jvm.MethodName) prog_1_method_79_code (1 : Nat) (Option.some Jvm.ClassFile.FieldType.int)) ∈ lw_all := lw_g (lw_at lw_m8 24 rfl) rfl
theorem q1872 : (Jvm.Cond.instanceMethod ({ cls := "KilnBench", name := "safe", desc := "(I)I" } : Jvm.MethodName)) ∈ lw_all := lw_g (lw_at lw_m8 116 rfl) rfl
theorem q1873 : (Jvm.Cond.selects "KilnBench" ({ cls := "KilnBench", name := "safe", desc := "(I)I" } : Jvm.MethodName) ({ cls := "KilnBench", name := "safe", desc := "(I)I" } : Jvm.MethodName)) ∈ lw_all := lw_g (lw_at lw_m8 117 rfl) rfl
theorem q1874 : (Jvm.Cond.code ({ cls := "KilnBench", name := "safe", desc := "(I)I" } : Jvm.MethodName) prog_1_method_53_code (4 : Nat) (Option.some Jvm.ClassFile.FieldType.int)) ∈ lw_all := lw_g (lw_at lw_m8 118 rfl) rfl
theorem q1875 : (Jvm.Cond.methodLink "KilnBench" (397 : Nat) ({ cls := "KilnBench$Bench", name := "isSafe", desc := "()Z" } : Jvm.MethodName)) ∈ lw_all := lw_g (lw_at lw_m8 119 rfl) rfl
theorem q1883 : (Jvm.Cond.instanceMethod ({ cls := "KilnBench", name := "best", desc := "(II)I" } : Jvm.MethodName)) ∈ lw_all := lw_g (lw_at lw_m8 127 rfl) rfl
theorem q1884 : (Jvm.Cond.selects "KilnBench" ({ cls := "KilnBench", name := "best", desc := "(II)I" } : Jvm.MethodName) ({ cls := "KilnBench", name := "best", desc := "(II)I" } : Jvm.MethodName)) ∈ lw_all := lw_g (lw_at lw_m8 128 rfl) rfl
theorem q1885 : (Jvm.Cond.code ({ cls := "KilnBench", name := "best", desc := "(II)I" } : Jvm.MethodName) prog_1_method_54_code (5 : Nat) (Option.some Jvm.ClassFile.FieldType.int)) ∈ lw_all := lw_g (lw_at lw_m8 129 rfl) rfl
theorem q1886 : (Jvm.Cond.classLink "KilnBench" (400 : Nat) "KilnBench$Settings") ∈ lw_all := lw_g (lw_at lw_m8 130 rfl) rfl
theorem q1888 : (Jvm.Cond.methodLink "KilnBench" (402 : Nat) ({ cls := "KilnBench$Settings", name := "<init>", desc := "(LKilnBench;LKilnBench$Kiln;)V" } : Jvm.MethodName)) ∈ lw_all := lw_g (lw_at lw_m8 132 rfl) rfl
theorem q1906 : (Jvm.Cond.fieldLinkNest "KilnBench" (409 : Nat) "KilnBench$Settings" "best" "[I" "KilnBench") ∈ lw_tbl := lw_at lw_m8 150 rfl
theorem q1909 : (Jvm.Cond.fieldLinkNest "KilnBench" (405 : Nat) "KilnBench$Settings" "heat" "I" "KilnBench") ∈ lw_tbl := lw_at lw_m8 153 rfl
theorem q1911 : (Jvm.Cond.fieldLinkNest "KilnBench" (406 : Nat) "KilnBench$Settings" "most" "I" "KilnBench") ∈ lw_tbl := lw_at lw_m8 155 rfl
theorem q1933 : (Jvm.Cond.instanceMethod ({ cls := "KilnBench", name := "odds", desc := "(I)I" } : Jvm.MethodName)) ∈ lw_all := lw_g (lw_at lw_m8 177 rfl) rfl
theorem q1934 : (Jvm.Cond.selects "KilnBench" ({ cls := "KilnBench", name := "odds", desc := "(I)I" } : Jvm.MethodName) ({ cls := "KilnBench", name := "odds", desc := "(I)I" } : Jvm.MethodName)) ∈ lw_all := lw_g (lw_at lw_m8 178 rfl) rfl
theorem q1935 : (Jvm.Cond.code ({ cls := "KilnBench", name := "odds", desc := "(I)I" } : Jvm.MethodName) prog_1_method_60_code (6 : Nat) (Option.some Jvm.ClassFile.FieldType.int)) ∈ lw_all := lw_g (lw_at lw_m8 179 rfl) rfl
theorem q1940 : (Jvm.Cond.instanceMethod ({ cls := "KilnBench", name := "weeks", desc := "(I)I" } : Jvm.MethodName)) ∈ lw_all := lw_g (lw_at lw_m8 184 rfl) rfl
theorem q1941 : (Jvm.Cond.selects "KilnBench" ({ cls := "KilnBench", name := "weeks", desc := "(I)I" } : Jvm.MethodName) ({ cls := "KilnBench", name := "weeks", desc := "(I)I" } : Jvm.MethodName)) ∈ lw_all := lw_g (lw_at lw_m8 185 rfl) rfl
theorem q1942 : (Jvm.Cond.code ({ cls := "KilnBench", name := "weeks", desc := "(I)I" } : Jvm.MethodName) prog_1_method_34_code (2 : Nat) (Option.some Jvm.ClassFile.FieldType.int)) ∈ lw_all := lw_g (lw_at lw_m8 186 rfl) rfl
theorem q1943 : (Jvm.Cond.methodLink "KilnBench" (293 : Nat) ({ cls := "KilnBench", name := "keeps", desc := "()V" } : Jvm.MethodName)) ∈ lw_all := lw_g (lw_at lw_m8 187 rfl) rfl
theorem q1944 : (Jvm.Cond.privateMethod ({ cls := "KilnBench", name := "keeps", desc := "()V" } : Jvm.MethodName)) ∈ lw_tbl := lw_at lw_m8 188 rfl
theorem q1945 : (Jvm.Cond.instanceMethod ({ cls := "KilnBench", name := "keeps", desc := "()V" } : Jvm.MethodName)) ∈ lw_all := lw_g (lw_at lw_m8 189 rfl) rfl
theorem q1946 : (Jvm.Cond.code ({ cls := "KilnBench", name := "keeps", desc := "()V" } : Jvm.MethodName) prog_1_method_31_code (1 : Nat) (Option.none : Option Jvm.ClassFile.FieldType)) ∈ lw_all := lw_g (lw_at lw_m8 190 rfl) rfl
theorem q1947 : (Jvm.Cond.classLink "KilnBench" (280 : Nat) "KilnBench$Act") ∈ lw_all := lw_g (lw_at lw_m8 191 rfl) rfl
theorem q1949 : (Jvm.Cond.methodLink "KilnBench" (282 : Nat) ({ cls := "KilnBench$Act", name := "<init>", desc := "(LKilnBench;)V" } : Jvm.MethodName)) ∈ lw_all := lw_g (lw_at lw_m8 193 rfl) rfl
theorem q1991 : (Jvm.Cond.instanceMethod ({ cls := "KilnBench", name := "undo", desc := "()Z" } : Jvm.MethodName)) ∈ lw_all := lw_g (lw_at lw_m8 235 rfl) rfl
theorem q1992 : (Jvm.Cond.selects "KilnBench" ({ cls := "KilnBench", name := "undo", desc := "()Z" } : Jvm.MethodName) ({ cls := "KilnBench", name := "undo", desc := "()Z" } : Jvm.MethodName)) ∈ lw_all := lw_g (lw_at lw_m8 236 rfl) rfl
theorem q1993 : (Jvm.Cond.code ({ cls := "KilnBench", name := "undo", desc := "()Z" } : Jvm.MethodName) prog_1_method_32_code (1 : Nat) (Option.some Jvm.ClassFile.FieldType.boolean)) ∈ lw_all := lw_g (lw_at lw_m8 237 rfl) rfl
theorem q1994 : (Jvm.Cond.methodLink "KilnBench" (283 : Nat) ({ cls := "java/util/ArrayList", name := "isEmpty", desc := "()Z" } : Jvm.MethodName)) ∈ lw_all := lw_g (lw_at lw_m8 238 rfl) rfl
theorem q1998 : (Jvm.Cond.methodLink "KilnBench" (286 : Nat) ({ cls := "KilnBench$Act", name := "isUndone", desc := "()V" } : Jvm.MethodName)) ∈ lw_all := lw_g (lw_at lw_m9 2 rfl) rfl
theorem q2023 : (Jvm.Cond.instanceMethod ({ cls := "KilnBench", name := "chance", desc := "(I)I" } : Jvm.MethodName)) ∈ lw_all := lw_g (lw_at lw_m9 27 rfl) rfl
theorem q2024 : (Jvm.Cond.selects "KilnBench" ({ cls := "KilnBench", name := "chance", desc := "(I)I" } : Jvm.MethodName) ({ cls := "KilnBench", name := "chance", desc := "(I)I" } : Jvm.MethodName)) ∈ lw_all := lw_g (lw_at lw_m9 28 rfl) rfl
theorem q2025 : (Jvm.Cond.code ({ cls := "KilnBench", name := "chance", desc := "(I)I" } : Jvm.MethodName) prog_1_method_35_code (5 : Nat) (Option.some Jvm.ClassFile.FieldType.int)) ∈ lw_all := lw_g (lw_at lw_m9 29 rfl) rfl
theorem q2026 : (Jvm.Cond.methodLink "KilnBench" (299 : Nat) ({ cls := "KilnBench", name := "drawOf", desc := "(I)I" } : Jvm.MethodName)) ∈ lw_all := lw_g (lw_at lw_m9 30 rfl) rfl
theorem q2027 : (Jvm.Cond.privateMethod ({ cls := "KilnBench", name := "drawOf", desc := "(I)I" } : Jvm.MethodName)) ∈ lw_tbl := lw_at lw_m9 31 rfl
theorem q2028 : (Jvm.Cond.instanceMethod ({ cls := "KilnBench", name := "drawOf", desc := "(I)I" } : Jvm.MethodName)) ∈ lw_all := lw_g (lw_at lw_m9 32 rfl) rfl
theorem q2029 : (Jvm.Cond.code ({ cls := "KilnBench", name := "drawOf", desc := "(I)I" } : Jvm.MethodName) prog_1_method_37_code (2 : Nat) (Option.some Jvm.ClassFile.FieldType.int)) ∈ lw_all := lw_g (lw_at lw_m9 33 rfl) rfl
theorem q2030 : (Jvm.Cond.constantLong "KilnBench" (305 : Nat) (1103515245 : Int64)) ∈ lw_all := lw_g (lw_at lw_m9 34 rfl) rfl
theorem q2031 : (Jvm.Cond.constantLong "KilnBench" (307 : Nat) (12345 : Int64)) ∈ lw_all := lw_g (lw_at lw_m9 35 rfl) rfl
theorem q2032 : (Jvm.Cond.constantLong "KilnBench" (309 : Nat) (2147483648 : Int64)) ∈ lw_all := lw_g (lw_at lw_m9 36 rfl) rfl
theorem q2033 : (Jvm.Cond.constantLong "KilnBench" (311 : Nat) (64 : Int64)) ∈ lw_all := lw_g (lw_at lw_m9 37 rfl) rfl
theorem q2035 : (Jvm.Cond.instanceMethod ({ cls := "KilnBench", name := "seed", desc := "(I)Z" } : Jvm.MethodName)) ∈ lw_all := lw_g (lw_at lw_m9 39 rfl) rfl
theorem q2036 : (Jvm.Cond.selects "KilnBench" ({ cls := "KilnBench", name := "seed", desc := "(I)Z" } : Jvm.MethodName) ({ cls := "KilnBench", name := "seed", desc := "(I)Z" } : Jvm.MethodName)) ∈ lw_all := lw_g (lw_at lw_m9 40 rfl) rfl
theorem q2037 : (Jvm.Cond.code ({ cls := "KilnBench", name := "seed", desc := "(I)Z" } : Jvm.MethodName) prog_1_method_36_code (2 : Nat) (Option.some Jvm.ClassFile.FieldType.boolean)) ∈ lw_all := lw_g (lw_at lw_m9 41 rfl) rfl
theorem q2052 : (Jvm.Cond.instanceMethod ({ cls := "KilnBench", name := "set", desc := "(III)Z" } : Jvm.MethodName)) ∈ lw_all := lw_g (lw_at lw_m9 56 rfl) rfl
theorem q2053 : (Jvm.Cond.selects "KilnBench" ({ cls := "KilnBench", name := "set", desc := "(III)Z" } : Jvm.MethodName) ({ cls := "KilnBench", name := "set", desc := "(III)Z" } : Jvm.MethodName)) ∈ lw_all := lw_g (lw_at lw_m9 57 rfl) rfl
theorem q2054 : (Jvm.Cond.code ({ cls := "KilnBench", name := "set", desc := "(III)Z" } : Jvm.MethodName) prog_1_method_38_code (6 : Nat) (Option.some Jvm.ClassFile.FieldType.boolean)) ∈ lw_all := lw_g (lw_at lw_m9 58 rfl) rfl
theorem q2055 : (Jvm.Cond.methodLink "KilnBench" (328 : Nat) ({ cls := "KilnBench$Child", name := "goesOut", desc := "()V" } : Jvm.MethodName)) ∈ lw_all := lw_g (lw_at lw_m9 59 rfl) rfl
theorem q2056 : (Jvm.Cond.methodLink "KilnBench" (331 : Nat) ({ cls := "KilnBench$Child", name := "goesIn", desc := "(LKilnBench$Kiln;I)V" } : Jvm.MethodName)) ∈ lw_all := lw_g (lw_at lw_m9 60 rfl) rfl
theorem q2065 : (Jvm.Cond.instanceMethod ({ cls := "KilnBench", name := "take", desc := "(I)Z" } : Jvm.MethodName)) ∈ lw_all := lw_g (lw_at lw_m9 69 rfl) rfl
theorem q2066 : (Jvm.Cond.selects "KilnBench" ({ cls := "KilnBench", name := "take", desc := "(I)Z" } : Jvm.MethodName) ({ cls := "KilnBench", name := "take", desc := "(I)Z" } : Jvm.MethodName)) ∈ lw_all := lw_g (lw_at lw_m9 70 rfl) rfl
theorem q2067 : (Jvm.Cond.code ({ cls := "KilnBench", name := "take", desc := "(I)Z" } : Jvm.MethodName) prog_1_method_39_code (3 : Nat) (Option.some Jvm.ClassFile.FieldType.boolean)) ∈ lw_all := lw_g (lw_at lw_m9 71 rfl) rfl
theorem q2072 : (Jvm.Cond.instanceMethod ({ cls := "KilnBench", name := "light", desc := "(II)Z" } : Jvm.MethodName)) ∈ lw_all := lw_g (lw_at lw_m9 76 rfl) rfl
theorem q2073 : (Jvm.Cond.selects "KilnBench" ({ cls := "KilnBench", name := "light", desc := "(II)Z" } : Jvm.MethodName) ({ cls := "KilnBench", name := "light", desc := "(II)Z" } : Jvm.MethodName)) ∈ lw_all := lw_g (lw_at lw_m9 77 rfl) rfl
theorem q2074 : (Jvm.Cond.code ({ cls := "KilnBench", name := "light", desc := "(II)Z" } : Jvm.MethodName) prog_1_method_40_code (4 : Nat) (Option.some Jvm.ClassFile.FieldType.boolean)) ∈ lw_all := lw_g (lw_at lw_m9 78 rfl) rfl
theorem q2075 : (Jvm.Cond.constantLong "KilnBench" (339 : Nat) (-1 : Int64)) ∈ lw_all := lw_g (lw_at lw_m9 79 rfl) rfl
theorem q2086 : (Jvm.Cond.instanceMethod ({ cls := "KilnBench", name := "seen", desc := "()I" } : Jvm.MethodName)) ∈ lw_all := lw_g (lw_at lw_m9 90 rfl) rfl
theorem q2087 : (Jvm.Cond.selects "KilnBench" ({ cls := "KilnBench", name := "seen", desc := "()I" } : Jvm.MethodName) ({ cls := "KilnBench", name := "seen", desc := "()I" } : Jvm.MethodName)) ∈ lw_all := lw_g (lw_at lw_m9 91 rfl) rfl
theorem q2088 : (Jvm.Cond.code ({ cls := "KilnBench", name := "seen", desc := "()I" } : Jvm.MethodName) prog_1_method_64_code (1 : Nat) (Option.some Jvm.ClassFile.FieldType.int)) ∈ lw_all := lw_g (lw_at lw_m9 92 rfl) rfl
theorem q2089 : (Jvm.Cond.privateMethod ({ cls := "KilnBench", name := "lambda$seen$7", desc := "(I)Z" } : Jvm.MethodName)) ∈ lw_tbl := lw_at lw_m9 93 rfl
theorem q2090 : (Jvm.Cond.instanceMethod ({ cls := "KilnBench", name := "lambda$seen$7", desc := "(I)Z" } : Jvm.MethodName)) ∈ lw_all := lw_g (lw_at lw_m9 94 rfl) rfl
theorem q2091 : (Jvm.Cond.code ({ cls := "KilnBench", name := "lambda$seen$7", desc := "(I)Z" } : Jvm.MethodName) prog_1_method_78_code (2 : Nat) (Option.some Jvm.ClassFile.FieldType.boolean)) ∈ lw_all := lw_g (lw_at lw_m9 95 rfl) rfl
theorem q2092 : (Jvm.Cond.methodLink "KilnBench" (481 : Nat) ({ cls := "KilnBench", name := "isAsSeen", desc := "(I)Z" } : Jvm.MethodName)) ∈ lw_all := lw_g (lw_at lw_m9 96 rfl) rfl
theorem q2093 : (Jvm.Cond.privateMethod ({ cls := "KilnBench", name := "isAsSeen", desc := "(I)Z" } : Jvm.MethodName)) ∈ lw_tbl := lw_at lw_m9 97 rfl
theorem q2094 : (Jvm.Cond.instanceMethod ({ cls := "KilnBench", name := "isAsSeen", desc := "(I)Z" } : Jvm.MethodName)) ∈ lw_all := lw_g (lw_at lw_m9 98 rfl) rfl
theorem q2095 : (Jvm.Cond.code ({ cls := "KilnBench", name := "isAsSeen", desc := "(I)Z" } : Jvm.MethodName) prog_1_method_63_code (4 : Nat) (Option.some Jvm.ClassFile.FieldType.boolean)) ∈ lw_all := lw_g (lw_at lw_m9 99 rfl) rfl
theorem q2098 : (Jvm.Cond.instanceMethod ({ cls := "KilnBench", name := "see", desc := "()I" } : Jvm.MethodName)) ∈ lw_all := lw_g (lw_at lw_m9 102 rfl) rfl
theorem q2099 : (Jvm.Cond.selects "KilnBench" ({ cls := "KilnBench", name := "see", desc := "()I" } : Jvm.MethodName) ({ cls := "KilnBench", name := "see", desc := "()I" } : Jvm.MethodName)) ∈ lw_all := lw_g (lw_at lw_m9 103 rfl) rfl
theorem q2100 : (Jvm.Cond.code ({ cls := "KilnBench", name := "see", desc := "()I" } : Jvm.MethodName) prog_1_method_62_code (4 : Nat) (Option.some Jvm.ClassFile.FieldType.int)) ∈ lw_all := lw_g (lw_at lw_m9 104 rfl) rfl
theorem q2101 : (Jvm.Cond.methodLink "KilnBench" (437 : Nat) ({ cls := "KilnBench", name := "areRows", desc := "(I)Z" } : Jvm.MethodName)) ∈ lw_all := lw_g (lw_at lw_m9 105 rfl) rfl
theorem q2102 : (Jvm.Cond.privateMethod ({ cls := "KilnBench", name := "areRows", desc := "(I)Z" } : Jvm.MethodName)) ∈ lw_tbl := lw_at lw_m9 106 rfl
theorem q2103 : (Jvm.Cond.instanceMethod ({ cls := "KilnBench", name := "areRows", desc := "(I)Z" } : Jvm.MethodName)) ∈ lw_all := lw_g (lw_at lw_m9 107 rfl) rfl
theorem q2104 : (Jvm.Cond.code ({ cls := "KilnBench", name := "areRows", desc := "(I)Z" } : Jvm.MethodName) prog_1_method_61_code (3 : Nat) (Option.some Jvm.ClassFile.FieldType.boolean)) ∈ lw_all := lw_g (lw_at lw_m9 108 rfl) rfl
theorem q2109 : (Jvm.Cond.instanceMethod ({ cls := "KilnBench", name := "image", desc := "()I" } : Jvm.MethodName)) ∈ lw_all := lw_g (lw_at lw_m9 113 rfl) rfl
theorem q2110 : (Jvm.Cond.selects "KilnBench" ({ cls := "KilnBench", name := "image", desc := "()I" } : Jvm.MethodName) ({ cls := "KilnBench", name := "image", desc := "()I" } : Jvm.MethodName)) ∈ lw_all := lw_g (lw_at lw_m9 114 rfl) rfl
theorem q2111 : (Jvm.Cond.code ({ cls := "KilnBench", name := "image", desc := "()I" } : Jvm.MethodName) prog_1_method_69_code (3 : Nat) (Option.some Jvm.ClassFile.FieldType.int)) ∈ lw_all := lw_g (lw_at lw_m9 115 rfl) rfl
theorem q2112 : (Jvm.Cond.methodLink "KilnBench" (456 : Nat) ({ cls := "KilnBench", name := "writesTwo", desc := "(I)V" } : Jvm.MethodName)) ∈ lw_all := lw_g (lw_at lw_m9 116 rfl) rfl
theorem q2113 : (Jvm.Cond.privateMethod ({ cls := "KilnBench", name := "writesTwo", desc := "(I)V" } : Jvm.MethodName)) ∈ lw_tbl := lw_at lw_m9 117 rfl
theorem q2114 : (Jvm.Cond.instanceMethod ({ cls := "KilnBench", name := "writesTwo", desc := "(I)V" } : Jvm.MethodName)) ∈ lw_all := lw_g (lw_at lw_m9 118 rfl) rfl
theorem q2115 : (Jvm.Cond.code ({ cls := "KilnBench", name := "writesTwo", desc := "(I)V" } : Jvm.MethodName) prog_1_method_67_code (2 : Nat) (Option.none : Option Jvm.ClassFile.FieldType)) ∈ lw_all := lw_g (lw_at lw_m9 119 rfl) rfl
theorem q2116 : (Jvm.Cond.methodLink "KilnBench" (453 : Nat) ({ cls := "KilnBench", name := "writes", desc := "(I)V" } : Jvm.MethodName)) ∈ lw_all := lw_g (lw_at lw_m9 120 rfl) rfl
theorem q2117 : (Jvm.Cond.privateMethod ({ cls := "KilnBench", name := "writes", desc := "(I)V" } : Jvm.MethodName)) ∈ lw_tbl := lw_at lw_m9 121 rfl
theorem q2118 : (Jvm.Cond.instanceMethod ({ cls := "KilnBench", name := "writes", desc := "(I)V" } : Jvm.MethodName)) ∈ lw_all := lw_g (lw_at lw_m9 122 rfl) rfl
theorem q2119 : (Jvm.Cond.code ({ cls := "KilnBench", name := "writes", desc := "(I)V" } : Jvm.MethodName) prog_1_method_66_code (2 : Nat) (Option.none : Option Jvm.ClassFile.FieldType)) ∈ lw_all := lw_g (lw_at lw_m9 123 rfl) rfl
theorem q2120 : (Jvm.Cond.methodLink "KilnBench" (459 : Nat) ({ cls := "KilnBench", name := "writesBits", desc := "(I)V" } : Jvm.MethodName)) ∈ lw_all := lw_g (lw_at lw_m9 124 rfl) rfl
theorem q2121 : (Jvm.Cond.privateMethod ({ cls := "KilnBench", name := "writesBits", desc := "(I)V" } : Jvm.MethodName)) ∈ lw_tbl := lw_at lw_m9 125 rfl
theorem q2122 : (Jvm.Cond.instanceMethod ({ cls := "KilnBench", name := "writesBits", desc := "(I)V" } : Jvm.MethodName)) ∈ lw_all := lw_g (lw_at lw_m9 126 rfl) rfl
theorem q2123 : (Jvm.Cond.code ({ cls := "KilnBench", name := "writesBits", desc := "(I)V" } : Jvm.MethodName) prog_1_method_70_code (2 : Nat) (Option.none : Option Jvm.ClassFile.FieldType)) ∈ lw_all := lw_g (lw_at lw_m9 127 rfl) rfl
theorem q2124 : (Jvm.Cond.methodLink "KilnBench" (462 : Nat) ({ cls := "KilnBench", name := "last", desc := "([CI)I" } : Jvm.MethodName)) ∈ lw_all := lw_g (lw_at lw_m9 128 rfl) rfl
theorem q2125 : (Jvm.Cond.static ({ cls := "KilnBench", name := "last", desc := "([CI)I" } : Jvm.MethodName)) ∈ lw_all := lw_g (lw_at lw_m9 129 rfl) rfl
theorem q2126 : (Jvm.Cond.code ({ cls := "KilnBench", name := "last", desc := "([CI)I" } : Jvm.MethodName) prog_1_method_68_code (4 : Nat) (Option.some Jvm.ClassFile.FieldType.int)) ∈ lw_all := lw_g (lw_at lw_m9 130 rfl) rfl
theorem q2128 : (Jvm.Cond.instanceMethod ({ cls := "KilnBench", name := "octet", desc := "(I)I" } : Jvm.MethodName)) ∈ lw_all := lw_g (lw_at lw_m9 132 rfl) rfl
theorem q2129 : (Jvm.Cond.selects "KilnBench" ({ cls := "KilnBench", name := "octet", desc := "(I)I" } : Jvm.MethodName) ({ cls := "KilnBench", name := "octet", desc := "(I)I" } : Jvm.MethodName)) ∈ lw_all := lw_g (lw_at lw_m9 133 rfl) rfl
theorem q2130 : (Jvm.Cond.code ({ cls := "KilnBench", name := "octet", desc := "(I)I" } : Jvm.MethodName) prog_1_method_71_code (2 : Nat) (Option.some Jvm.ClassFile.FieldType.int)) ∈ lw_all := lw_g (lw_at lw_m9 134 rfl) rfl
theorem q2132 : (Jvm.Cond.instanceMethod ({ cls := "KilnBench", name := "on", desc := "()Z" } : Jvm.MethodName)) ∈ lw_all := lw_g (lw_at lw_m9 136 rfl) rfl
theorem q2133 : (Jvm.Cond.selects "KilnBench" ({ cls := "KilnBench", name := "on", desc := "()Z" } : Jvm.MethodName) ({ cls := "KilnBench", name := "on", desc := "()Z" } : Jvm.MethodName)) ∈ lw_all := lw_g (lw_at lw_m9 137 rfl) rfl
theorem q2134 : (Jvm.Cond.code ({ cls := "KilnBench", name := "on", desc := "()Z" } : Jvm.MethodName) prog_1_method_77_code (5 : Nat) (Option.some Jvm.ClassFile.FieldType.boolean)) ∈ lw_all := lw_g (lw_at lw_m9 138 rfl) rfl
theorem q2135 : (Jvm.Cond.methodLink "KilnBench" (475 : Nat) ({ cls := "KilnBench", name := "isTold", desc := "(I)Z" } : Jvm.MethodName)) ∈ lw_all := lw_g (lw_at lw_m9 139 rfl) rfl
theorem q2136 : (Jvm.Cond.privateMethod ({ cls := "KilnBench", name := "isTold", desc := "(I)Z" } : Jvm.MethodName)) ∈ lw_tbl := lw_at lw_m9 140 rfl
theorem q2137 : (Jvm.Cond.instanceMethod ({ cls := "KilnBench", name := "isTold", desc := "(I)Z" } : Jvm.MethodName)) ∈ lw_all := lw_g (lw_at lw_m9 141 rfl) rfl
theorem q2138 : (Jvm.Cond.code ({ cls := "KilnBench", name := "isTold", desc := "(I)Z" } : Jvm.MethodName) prog_1_method_75_code (4 : Nat) (Option.some Jvm.ClassFile.FieldType.boolean)) ∈ lw_all := lw_g (lw_at lw_m9 142 rfl) rfl
theorem q2139 : (Jvm.Cond.methodLink "KilnBench" (466 : Nat) ({ cls := "KilnBench", name := "twoAt", desc := "(I)I" } : Jvm.MethodName)) ∈ lw_all := lw_g (lw_at lw_m9 143 rfl) rfl
theorem q2140 : (Jvm.Cond.privateMethod ({ cls := "KilnBench", name := "twoAt", desc := "(I)I" } : Jvm.MethodName)) ∈ lw_tbl := lw_at lw_m9 144 rfl
theorem q2141 : (Jvm.Cond.instanceMethod ({ cls := "KilnBench", name := "twoAt", desc := "(I)I" } : Jvm.MethodName)) ∈ lw_all := lw_g (lw_at lw_m9 145 rfl) rfl
theorem q2142 : (Jvm.Cond.code ({ cls := "KilnBench", name := "twoAt", desc := "(I)I" } : Jvm.MethodName) prog_1_method_72_code (2 : Nat) (Option.some Jvm.ClassFile.FieldType.int)) ∈ lw_all := lw_g (lw_at lw_m9 146 rfl) rfl
theorem q2143 : (Jvm.Cond.methodLink "KilnBench" (469 : Nat) ({ cls := "KilnBench", name := "isRawTold", desc := "(I)Z" } : Jvm.MethodName)) ∈ lw_all := lw_g (lw_at lw_m9 147 rfl) rfl
theorem q2144 : (Jvm.Cond.privateMethod ({ cls := "KilnBench", name := "isRawTold", desc := "(I)Z" } : Jvm.MethodName)) ∈ lw_tbl := lw_at lw_m9 148 rfl
theorem q2145 : (Jvm.Cond.instanceMethod ({ cls := "KilnBench", name := "isRawTold", desc := "(I)Z" } : Jvm.MethodName)) ∈ lw_all := lw_g (lw_at lw_m9 149 rfl) rfl
theorem q2146 : (Jvm.Cond.code ({ cls := "KilnBench", name := "isRawTold", desc := "(I)Z" } : Jvm.MethodName) prog_1_method_73_code (3 : Nat) (Option.some Jvm.ClassFile.FieldType.boolean)) ∈ lw_all := lw_g (lw_at lw_m9 150 rfl) rfl
theorem q2147 : (Jvm.Cond.methodLink "KilnBench" (472 : Nat) ({ cls := "KilnBench", name := "isFiredTold", desc := "(I)Z" } : Jvm.MethodName)) ∈ lw_all := lw_g (lw_at lw_m9 151 rfl) rfl
theorem q2148 : (Jvm.Cond.privateMethod ({ cls := "KilnBench", name := "isFiredTold", desc := "(I)Z" } : Jvm.MethodName)) ∈ lw_tbl := lw_at lw_m9 152 rfl
theorem q2149 : (Jvm.Cond.instanceMethod ({ cls := "KilnBench", name := "isFiredTold", desc := "(I)Z" } : Jvm.MethodName)) ∈ lw_all := lw_g (lw_at lw_m9 153 rfl) rfl
theorem q2150 : (Jvm.Cond.code ({ cls := "KilnBench", name := "isFiredTold", desc := "(I)Z" } : Jvm.MethodName) prog_1_method_74_code (4 : Nat) (Option.some Jvm.ClassFile.FieldType.boolean)) ∈ lw_all := lw_g (lw_at lw_m9 154 rfl) rfl
theorem q2151 : (Jvm.Cond.methodLink "KilnBench" (478 : Nat) ({ cls := "KilnBench", name := "orNone", desc := "(I)I" } : Jvm.MethodName)) ∈ lw_all := lw_g (lw_at lw_m9 155 rfl) rfl
theorem q2152 : (Jvm.Cond.static ({ cls := "KilnBench", name := "orNone", desc := "(I)I" } : Jvm.MethodName)) ∈ lw_all := lw_g (lw_at lw_m9 156 rfl) rfl
theorem q2153 : (Jvm.Cond.code ({ cls := "KilnBench", name := "orNone", desc := "(I)I" } : Jvm.MethodName) prog_1_method_76_code (1 : Nat) (Option.some Jvm.ClassFile.FieldType.int)) ∈ lw_all := lw_g (lw_at lw_m9 157 rfl) rfl
theorem q2172 : (Jvm.Cond.castable "KilnBench" "java/lang/Object") ∈ lw_tbl := lw_at lw_m9 176 rfl
theorem q2208 : (Jvm.Cond.stringRef "KilnBench" (484 : Nat) "child") ∈ lw_tbl := lw_at lw_m9 212 rfl
theorem q2209 : (Jvm.Cond.stringRef "KilnBench" (486 : Nat) "clay") ∈ lw_tbl := lw_at lw_m9 213 rfl
theorem q2210 : (Jvm.Cond.stringRef "KilnBench" (487 : Nat) "grit") ∈ lw_tbl := lw_at lw_m9 214 rfl
theorem q2211 : (Jvm.Cond.stringRef "KilnBench" (488 : Nat) "kiln") ∈ lw_tbl := lw_at lw_m9 215 rfl
theorem q2212 : (Jvm.Cond.stringRef "KilnBench" (489 : Nat) "room") ∈ lw_tbl := lw_at lw_m9 216 rfl
theorem q2213 : (Jvm.Cond.stringRef "KilnBench" (490 : Nat) "temper") ∈ lw_tbl := lw_at lw_m9 217 rfl
theorem q2214 : (Jvm.Cond.stringRef "KilnBench" (491 : Nat) "cracks") ∈ lw_tbl := lw_at lw_m9 218 rfl
theorem q2215 : (Jvm.Cond.stringRef "KilnBench" (492 : Nat) "sticks") ∈ lw_tbl := lw_at lw_m9 219 rfl
theorem q2216 : (Jvm.Cond.stringRef "KilnBench" (493 : Nat) "burns") ∈ lw_tbl := lw_at lw_m9 220 rfl
theorem q2217 : (Jvm.Cond.stringRef "KilnBench" (494 : Nat) "fuel") ∈ lw_tbl := lw_at lw_m9 221 rfl
theorem q2218 : (Jvm.Cond.stringRef "KilnBench" (495 : Nat) "load") ∈ lw_tbl := lw_at lw_m9 222 rfl
theorem q2219 : (Jvm.Cond.stringRef "KilnBench" (496 : Nat) "wind") ∈ lw_tbl := lw_at lw_m9 223 rfl
theorem q2220 : (Jvm.Cond.stringRef "KilnBench" (497 : Nat) "heat") ∈ lw_tbl := lw_at lw_m9 224 rfl
theorem q2221 : (Jvm.Cond.stringRef "KilnBench" (498 : Nat) "week") ∈ lw_tbl := lw_at lw_m9 225 rfl
theorem q2222 : (Jvm.Cond.stringRef "KilnBench" (500 : Nat) "place") ∈ lw_tbl := lw_at lw_m9 226 rfl
theorem q2223 : (Jvm.Cond.stringRef "KilnBench" (501 : Nat) "rings") ∈ lw_tbl := lw_at lw_m9 227 rfl
theorem q2224 : (Jvm.Cond.stringRef "KilnBench" (503 : Nat) "near") ∈ lw_tbl := lw_at lw_m9 228 rfl
theorem q2225 : (Jvm.Cond.stringRef "KilnBench" (505 : Nat) "grits") ∈ lw_tbl := lw_at lw_m9 229 rfl
theorem q2226 : (Jvm.Cond.stringRef "KilnBench" (507 : Nat) "full") ∈ lw_tbl := lw_at lw_m9 230 rfl
theorem q2227 : (Jvm.Cond.stringRef "KilnBench" (508 : Nat) "if") ∈ lw_tbl := lw_at lw_m9 231 rfl
theorem q2228 : (Jvm.Cond.stringRef "KilnBench" (510 : Nat) "or") ∈ lw_tbl := lw_at lw_m9 232 rfl
theorem q2229 : (Jvm.Cond.stringRef "KilnBench" (512 : Nat) "and") ∈ lw_tbl := lw_at lw_m9 233 rfl
theorem q2230 : (Jvm.Cond.stringRef "KilnBench" (514 : Nat) "not") ∈ lw_tbl := lw_at lw_m9 234 rfl
theorem q2231 : (Jvm.Cond.stringRef "KilnBench" (516 : Nat) "all") ∈ lw_tbl := lw_at lw_m9 235 rfl
theorem q2232 : (Jvm.Cond.stringRef "KilnBench" (518 : Nat) "min") ∈ lw_tbl := lw_at lw_m9 236 rfl
theorem q2233 : (Jvm.Cond.stringRef "KilnBench" (519 : Nat) "max") ∈ lw_tbl := lw_at lw_m9 237 rfl
theorem in_X2 : ∀ w ∈ wsX20, w ∈ lw_all := lw_in wsX20 [245, 247, 249, 251, 253, 255, 257, 259, 261, 263, 265, 267, 269, 271, 273, 275] (by decide +kernel) (by decide +kernel)

