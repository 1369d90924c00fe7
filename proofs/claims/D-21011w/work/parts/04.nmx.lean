/-! KilnBenchLaw$All -/
set_option maxRecDepth 100000
def RX1 : String := "KilnBenchLaw$All"
def TX1 : u_T := fun k => match k with
  | 0 => ("KilnBenchLaw$All", "children", "I", true)
  | 1 => ("KilnBenchLaw$All", "kilns", "I", true)
  | 2 => ("KilnBenchLaw$All", "temper", "I", true)
  | 3 => ("KilnBenchLaw$All", "crack", "I", true)
  | 4 => ("KilnBenchLaw$All", "stick", "I", true)
  | 5 => ("KilnBenchLaw$All", "burn", "I", true)
  | 6 => ("KilnBenchLaw$All", "fuel", "I", true)
  | 7 => ("KilnBenchLaw$All", "load", "I", true)
  | 8 => ("KilnBenchLaw$All", "wind", "I", true)
  | 9 => ("KilnBenchLaw$All", "clay", "[I", true)
  | 10 => ("KilnBenchLaw$All", "grit", "[I", true)
  | _ => ("KilnBenchLaw$All", "room", "[I", true)
def tyX1 : Nat → FieldType := fun k => match k with
  | 0 => .int
  | 1 => .int
  | 2 => .int
  | 3 => .int
  | 4 => .int
  | 5 => .int
  | 6 => .int
  | 7 => .int
  | 8 => .int
  | 9 => .array .int
  | 10 => .array .int
  | _ => .array .int
abbrev wsX10 : List Cond := u_ws RX1 TX1 12
theorem nmX1 : ∀ a, a < 12 → ∀ b, b < 12 → a ≠ b → (TX1 a).2.1 ≠ (TX1 b).2.1 := by decide +kernel
theorem tyX1_ok : ∀ k, k < 12 → parseFieldDescriptor (TX1 k).2.2.1 = some (tyX1 k) := by decide +kernel
abbrev cX1_init : ByteArray := prog_29_method_1_code
def yX1_init : MethodName := ⟨RX1, "<init>", "([I)V"⟩
def dkwX1_init_11 : List UInt8 := [16, 21, 21, 4, 96, 16, 6, 184, 0, 19, 96, 79, 132, 4, 1, 167, 255, 224, 177]
abbrev dktX1_init_11 : List UInt8 := dkwX1_init_11 ++ []
def dkwX1_init_10 : List UInt8 := [167, 255, 204, 3, 54, 4, 21, 4, 42, 180, 0, 29, 162, 0, 29, 42, 180, 0, 16, 21, 4, 4, 43]
abbrev dktX1_init_10 : List UInt8 := dkwX1_init_10 ++ dktX1_init_11
def dkwX1_init_9 : List UInt8 := [180, 0, 13, 21, 4, 43, 16, 10, 5, 21, 4, 104, 96, 16, 10, 184, 0, 19, 79, 132, 4, 1]
abbrev dktX1_init_9 : List UInt8 := dkwX1_init_9 ++ dktX1_init_10
def dkwX1_init_8 : List UInt8 := [162, 0, 49, 42, 180, 0, 7, 21, 4, 43, 16, 9, 5, 21, 4, 104, 96, 16, 80, 184, 0, 19, 79, 42]
abbrev dktX1_init_8 : List UInt8 := dkwX1_init_8 ++ dktX1_init_9
def dkwX1_init_7 : List UInt8 := [181, 0, 60, 42, 43, 16, 8, 16, 101, 184, 0, 19, 181, 0, 63, 3, 54, 4, 21, 4, 42, 180, 0, 25]
abbrev dktX1_init_7 : List UInt8 := dkwX1_init_7 ++ dktX1_init_8
def dkwX1_init_6 : List UInt8 := [181, 0, 54, 42, 43, 16, 6, 16, 120, 184, 0, 19, 181, 0, 57, 42, 43, 16, 7, 16, 30, 184, 0, 19]
abbrev dktX1_init_6 : List UInt8 := dkwX1_init_6 ++ dktX1_init_7
def dkwX1_init_5 : List UInt8 := [96, 184, 0, 19, 4, 100, 181, 0, 48, 42, 43, 8, 178, 0, 51, 190, 4, 96, 184, 0, 19, 4, 100]
abbrev dktX1_init_5 : List UInt8 := dkwX1_init_5 ++ dktX1_init_6
def dkwX1_init_4 : List UInt8 := [43, 6, 178, 0, 39, 190, 4, 96, 184, 0, 19, 4, 100, 181, 0, 42, 42, 43, 7, 178, 0, 45, 190, 4]
abbrev dktX1_init_4 : List UInt8 := dkwX1_init_4 ++ dktX1_init_5
def dkwX1_init_3 : List UInt8 := [6, 112, 96, 181, 0, 29, 42, 43, 5, 178, 0, 32, 190, 4, 96, 184, 0, 19, 4, 100, 181, 0, 36, 42]
abbrev dktX1_init_3 : List UInt8 := dkwX1_init_3 ++ dktX1_init_4
def dkwX1_init_2 : List UInt8 := [3, 167, 0, 9, 4, 28, 16, 6, 112, 96, 181, 0, 25, 42, 29, 154, 0, 7, 3, 167, 0, 8, 4, 29]
abbrev dktX1_init_2 : List UInt8 := dkwX1_init_2 ++ dktX1_init_3
def dkwX1_init_1 : List UInt8 := [181, 0, 16, 43, 3, 16, 13, 184, 0, 19, 61, 43, 4, 16, 10, 184, 0, 19, 62, 42, 28, 154, 0, 7]
abbrev dktX1_init_1 : List UInt8 := dkwX1_init_1 ++ dktX1_init_2
def dkwX1_init_0 : List UInt8 := [42, 183, 0, 1, 42, 16, 6, 188, 10, 181, 0, 7, 42, 16, 6, 188, 10, 181, 0, 13, 42, 6, 188, 10]
abbrev dktX1_init_0 : List UInt8 := dkwX1_init_0 ++ dktX1_init_1
theorem dksX1_init_0 : cX1_init.data.toList.drop 0 = dktX1_init_0 := by decide +kernel
theorem dksX1_init_1 : cX1_init.data.toList.drop 24 = dktX1_init_1 := dk_seg dksX1_init_0 24 rfl rfl
theorem dksX1_init_2 : cX1_init.data.toList.drop 48 = dktX1_init_2 := dk_seg dksX1_init_1 24 rfl rfl
theorem dksX1_init_3 : cX1_init.data.toList.drop 72 = dktX1_init_3 := dk_seg dksX1_init_2 24 rfl rfl
theorem dksX1_init_4 : cX1_init.data.toList.drop 96 = dktX1_init_4 := dk_seg dksX1_init_3 24 rfl rfl
theorem dksX1_init_5 : cX1_init.data.toList.drop 120 = dktX1_init_5 := dk_seg dksX1_init_4 24 rfl rfl
theorem dksX1_init_6 : cX1_init.data.toList.drop 143 = dktX1_init_6 := dk_seg dksX1_init_5 23 rfl rfl
theorem dksX1_init_7 : cX1_init.data.toList.drop 167 = dktX1_init_7 := dk_seg dksX1_init_6 24 rfl rfl
theorem dksX1_init_8 : cX1_init.data.toList.drop 191 = dktX1_init_8 := dk_seg dksX1_init_7 24 rfl rfl
theorem dksX1_init_9 : cX1_init.data.toList.drop 215 = dktX1_init_9 := dk_seg dksX1_init_8 24 rfl rfl
theorem dksX1_init_10 : cX1_init.data.toList.drop 237 = dktX1_init_10 := dk_seg dksX1_init_9 22 rfl rfl
theorem dksX1_init_11 : cX1_init.data.toList.drop 260 = dktX1_init_11 := dk_seg dksX1_init_10 23 rfl rfl
theorem dX1_init_0 : decode cX1_init 0 = .ok (.aload_n 0, 1) := dk_42 (dk_at dksX1_init_0 0 rfl rfl)
theorem dX1_init_1 : decode cX1_init 1 = .ok (.invokespecial 1, 3) := dk_183 0 1 (dk_at dksX1_init_0 1 rfl rfl)
theorem dX1_init_4 : decode cX1_init 4 = .ok (.aload_n 0, 1) := dk_42 (dk_at dksX1_init_0 4 rfl rfl)
theorem dX1_init_5 : decode cX1_init 5 = .ok (.bipush 6, 2) := dk_16 6 (dk_at dksX1_init_0 5 rfl rfl)
theorem dX1_init_7 : decode cX1_init 7 = .ok (.newarray .int, 2) := dk_188_10 (dk_at dksX1_init_0 7 rfl rfl)
theorem dX1_init_9 : decode cX1_init 9 = .ok (.putfield 7, 3) := dk_181 0 7 (dk_at dksX1_init_0 9 rfl rfl)
theorem dX1_init_12 : decode cX1_init 12 = .ok (.aload_n 0, 1) := dk_42 (dk_at dksX1_init_0 12 rfl rfl)
theorem dX1_init_13 : decode cX1_init 13 = .ok (.bipush 6, 2) := dk_16 6 (dk_at dksX1_init_0 13 rfl rfl)
theorem dX1_init_15 : decode cX1_init 15 = .ok (.newarray .int, 2) := dk_188_10 (dk_at dksX1_init_0 15 rfl rfl)
theorem dX1_init_17 : decode cX1_init 17 = .ok (.putfield 13, 3) := dk_181 0 13 (dk_at dksX1_init_0 17 rfl rfl)
theorem dX1_init_20 : decode cX1_init 20 = .ok (.aload_n 0, 1) := dk_42 (dk_at dksX1_init_0 20 rfl rfl)
theorem dX1_init_21 : decode cX1_init 21 = .ok (.iconst 3, 1) := dk_6 (dk_at dksX1_init_0 21 rfl rfl)
theorem dX1_init_22 : decode cX1_init 22 = .ok (.newarray .int, 2) := dk_188_10 (dk_at dksX1_init_0 22 rfl rfl)
theorem dX1_init_24 : decode cX1_init 24 = .ok (.putfield 16, 3) := dk_181 0 16 (dk_at dksX1_init_1 0 rfl rfl)
theorem dX1_init_27 : decode cX1_init 27 = .ok (.aload_n 1, 1) := dk_43 (dk_at dksX1_init_1 3 rfl rfl)
theorem dX1_init_28 : decode cX1_init 28 = .ok (.iconst 0, 1) := dk_3 (dk_at dksX1_init_1 4 rfl rfl)
theorem dX1_init_29 : decode cX1_init 29 = .ok (.bipush 13, 2) := dk_16 13 (dk_at dksX1_init_1 5 rfl rfl)
theorem dX1_init_31 : decode cX1_init 31 = .ok (.invokestatic 19, 3) := dk_184 0 19 (dk_at dksX1_init_1 7 rfl rfl)
theorem dX1_init_34 : decode cX1_init 34 = .ok (.istore_n 2, 1) := dk_61 (dk_at dksX1_init_1 10 rfl rfl)
theorem dX1_init_35 : decode cX1_init 35 = .ok (.aload_n 1, 1) := dk_43 (dk_at dksX1_init_1 11 rfl rfl)
theorem dX1_init_36 : decode cX1_init 36 = .ok (.iconst 1, 1) := dk_4 (dk_at dksX1_init_1 12 rfl rfl)
theorem dX1_init_37 : decode cX1_init 37 = .ok (.bipush 10, 2) := dk_16 10 (dk_at dksX1_init_1 13 rfl rfl)
theorem dX1_init_39 : decode cX1_init 39 = .ok (.invokestatic 19, 3) := dk_184 0 19 (dk_at dksX1_init_1 15 rfl rfl)
theorem dX1_init_42 : decode cX1_init 42 = .ok (.istore_n 3, 1) := dk_62 (dk_at dksX1_init_1 18 rfl rfl)
theorem dX1_init_43 : decode cX1_init 43 = .ok (.aload_n 0, 1) := dk_42 (dk_at dksX1_init_1 19 rfl rfl)
theorem dX1_init_44 : decode cX1_init 44 = .ok (.iload_n 2, 1) := dk_28 (dk_at dksX1_init_1 20 rfl rfl)
theorem dX1_init_45 : decode cX1_init 45 = .ok (.ifCond .ne 7, 3) := dk_154 0 7 (dk_at dksX1_init_1 21 rfl rfl)
theorem dX1_init_48 : decode cX1_init 48 = .ok (.iconst 0, 1) := dk_3 (dk_at dksX1_init_2 0 rfl rfl)
theorem dX1_init_49 : decode cX1_init 49 = .ok (.goto 9, 3) := dk_167 0 9 (dk_at dksX1_init_2 1 rfl rfl)
theorem dX1_init_52 : decode cX1_init 52 = .ok (.iconst 1, 1) := dk_4 (dk_at dksX1_init_2 4 rfl rfl)
theorem dX1_init_53 : decode cX1_init 53 = .ok (.iload_n 2, 1) := dk_28 (dk_at dksX1_init_2 5 rfl rfl)
theorem dX1_init_54 : decode cX1_init 54 = .ok (.bipush 6, 2) := dk_16 6 (dk_at dksX1_init_2 6 rfl rfl)
theorem dX1_init_56 : decode cX1_init 56 = .ok (.irem, 1) := dk_112 (dk_at dksX1_init_2 8 rfl rfl)
theorem dX1_init_57 : decode cX1_init 57 = .ok (.iadd, 1) := dk_96 (dk_at dksX1_init_2 9 rfl rfl)
theorem dX1_init_58 : decode cX1_init 58 = .ok (.putfield 25, 3) := dk_181 0 25 (dk_at dksX1_init_2 10 rfl rfl)
theorem dX1_init_61 : decode cX1_init 61 = .ok (.aload_n 0, 1) := dk_42 (dk_at dksX1_init_2 13 rfl rfl)
theorem dX1_init_62 : decode cX1_init 62 = .ok (.iload_n 3, 1) := dk_29 (dk_at dksX1_init_2 14 rfl rfl)
theorem dX1_init_63 : decode cX1_init 63 = .ok (.ifCond .ne 7, 3) := dk_154 0 7 (dk_at dksX1_init_2 15 rfl rfl)
theorem dX1_init_66 : decode cX1_init 66 = .ok (.iconst 0, 1) := dk_3 (dk_at dksX1_init_2 18 rfl rfl)
theorem dX1_init_67 : decode cX1_init 67 = .ok (.goto 8, 3) := dk_167 0 8 (dk_at dksX1_init_2 19 rfl rfl)
theorem dX1_init_70 : decode cX1_init 70 = .ok (.iconst 1, 1) := dk_4 (dk_at dksX1_init_2 22 rfl rfl)
theorem dX1_init_71 : decode cX1_init 71 = .ok (.iload_n 3, 1) := dk_29 (dk_at dksX1_init_2 23 rfl rfl)
theorem dX1_init_72 : decode cX1_init 72 = .ok (.iconst 3, 1) := dk_6 (dk_at dksX1_init_3 0 rfl rfl)
theorem dX1_init_73 : decode cX1_init 73 = .ok (.irem, 1) := dk_112 (dk_at dksX1_init_3 1 rfl rfl)
theorem dX1_init_74 : decode cX1_init 74 = .ok (.iadd, 1) := dk_96 (dk_at dksX1_init_3 2 rfl rfl)
theorem dX1_init_75 : decode cX1_init 75 = .ok (.putfield 29, 3) := dk_181 0 29 (dk_at dksX1_init_3 3 rfl rfl)
theorem dX1_init_78 : decode cX1_init 78 = .ok (.aload_n 0, 1) := dk_42 (dk_at dksX1_init_3 6 rfl rfl)
theorem dX1_init_79 : decode cX1_init 79 = .ok (.aload_n 1, 1) := dk_43 (dk_at dksX1_init_3 7 rfl rfl)
theorem dX1_init_80 : decode cX1_init 80 = .ok (.iconst 2, 1) := dk_5 (dk_at dksX1_init_3 8 rfl rfl)
theorem dX1_init_81 : decode cX1_init 81 = .ok (.getstatic 32, 3) := dk_178 0 32 (dk_at dksX1_init_3 9 rfl rfl)
theorem dX1_init_84 : decode cX1_init 84 = .ok (.arraylength, 1) := dk_190 (dk_at dksX1_init_3 12 rfl rfl)
theorem dX1_init_85 : decode cX1_init 85 = .ok (.iconst 1, 1) := dk_4 (dk_at dksX1_init_3 13 rfl rfl)
theorem dX1_init_86 : decode cX1_init 86 = .ok (.iadd, 1) := dk_96 (dk_at dksX1_init_3 14 rfl rfl)
theorem dX1_init_87 : decode cX1_init 87 = .ok (.invokestatic 19, 3) := dk_184 0 19 (dk_at dksX1_init_3 15 rfl rfl)
theorem dX1_init_90 : decode cX1_init 90 = .ok (.iconst 1, 1) := dk_4 (dk_at dksX1_init_3 18 rfl rfl)
theorem dX1_init_91 : decode cX1_init 91 = .ok (.isub, 1) := dk_100 (dk_at dksX1_init_3 19 rfl rfl)
theorem dX1_init_92 : decode cX1_init 92 = .ok (.putfield 36, 3) := dk_181 0 36 (dk_at dksX1_init_3 20 rfl rfl)
theorem dX1_init_95 : decode cX1_init 95 = .ok (.aload_n 0, 1) := dk_42 (dk_at dksX1_init_3 23 rfl rfl)
theorem dX1_init_96 : decode cX1_init 96 = .ok (.aload_n 1, 1) := dk_43 (dk_at dksX1_init_4 0 rfl rfl)
theorem dX1_init_97 : decode cX1_init 97 = .ok (.iconst 3, 1) := dk_6 (dk_at dksX1_init_4 1 rfl rfl)
theorem dX1_init_98 : decode cX1_init 98 = .ok (.getstatic 39, 3) := dk_178 0 39 (dk_at dksX1_init_4 2 rfl rfl)
theorem dX1_init_101 : decode cX1_init 101 = .ok (.arraylength, 1) := dk_190 (dk_at dksX1_init_4 5 rfl rfl)
theorem dX1_init_102 : decode cX1_init 102 = .ok (.iconst 1, 1) := dk_4 (dk_at dksX1_init_4 6 rfl rfl)
theorem dX1_init_103 : decode cX1_init 103 = .ok (.iadd, 1) := dk_96 (dk_at dksX1_init_4 7 rfl rfl)
theorem dX1_init_104 : decode cX1_init 104 = .ok (.invokestatic 19, 3) := dk_184 0 19 (dk_at dksX1_init_4 8 rfl rfl)
theorem dX1_init_107 : decode cX1_init 107 = .ok (.iconst 1, 1) := dk_4 (dk_at dksX1_init_4 11 rfl rfl)
theorem dX1_init_108 : decode cX1_init 108 = .ok (.isub, 1) := dk_100 (dk_at dksX1_init_4 12 rfl rfl)
theorem dX1_init_109 : decode cX1_init 109 = .ok (.putfield 42, 3) := dk_181 0 42 (dk_at dksX1_init_4 13 rfl rfl)
theorem dX1_init_112 : decode cX1_init 112 = .ok (.aload_n 0, 1) := dk_42 (dk_at dksX1_init_4 16 rfl rfl)
theorem dX1_init_113 : decode cX1_init 113 = .ok (.aload_n 1, 1) := dk_43 (dk_at dksX1_init_4 17 rfl rfl)
theorem dX1_init_114 : decode cX1_init 114 = .ok (.iconst 4, 1) := dk_7 (dk_at dksX1_init_4 18 rfl rfl)
theorem dX1_init_115 : decode cX1_init 115 = .ok (.getstatic 45, 3) := dk_178 0 45 (dk_at dksX1_init_4 19 rfl rfl)
theorem dX1_init_118 : decode cX1_init 118 = .ok (.arraylength, 1) := dk_190 (dk_at dksX1_init_4 22 rfl rfl)
theorem dX1_init_119 : decode cX1_init 119 = .ok (.iconst 1, 1) := dk_4 (dk_at dksX1_init_4 23 rfl rfl)
theorem dX1_init_120 : decode cX1_init 120 = .ok (.iadd, 1) := dk_96 (dk_at dksX1_init_5 0 rfl rfl)
theorem dX1_init_121 : decode cX1_init 121 = .ok (.invokestatic 19, 3) := dk_184 0 19 (dk_at dksX1_init_5 1 rfl rfl)
theorem dX1_init_124 : decode cX1_init 124 = .ok (.iconst 1, 1) := dk_4 (dk_at dksX1_init_5 4 rfl rfl)
theorem dX1_init_125 : decode cX1_init 125 = .ok (.isub, 1) := dk_100 (dk_at dksX1_init_5 5 rfl rfl)
theorem dX1_init_126 : decode cX1_init 126 = .ok (.putfield 48, 3) := dk_181 0 48 (dk_at dksX1_init_5 6 rfl rfl)
theorem dX1_init_129 : decode cX1_init 129 = .ok (.aload_n 0, 1) := dk_42 (dk_at dksX1_init_5 9 rfl rfl)
theorem dX1_init_130 : decode cX1_init 130 = .ok (.aload_n 1, 1) := dk_43 (dk_at dksX1_init_5 10 rfl rfl)
theorem dX1_init_131 : decode cX1_init 131 = .ok (.iconst 5, 1) := dk_8 (dk_at dksX1_init_5 11 rfl rfl)
theorem dX1_init_132 : decode cX1_init 132 = .ok (.getstatic 51, 3) := dk_178 0 51 (dk_at dksX1_init_5 12 rfl rfl)
theorem dX1_init_135 : decode cX1_init 135 = .ok (.arraylength, 1) := dk_190 (dk_at dksX1_init_5 15 rfl rfl)
theorem dX1_init_136 : decode cX1_init 136 = .ok (.iconst 1, 1) := dk_4 (dk_at dksX1_init_5 16 rfl rfl)
theorem dX1_init_137 : decode cX1_init 137 = .ok (.iadd, 1) := dk_96 (dk_at dksX1_init_5 17 rfl rfl)
theorem dX1_init_138 : decode cX1_init 138 = .ok (.invokestatic 19, 3) := dk_184 0 19 (dk_at dksX1_init_5 18 rfl rfl)
theorem dX1_init_141 : decode cX1_init 141 = .ok (.iconst 1, 1) := dk_4 (dk_at dksX1_init_5 21 rfl rfl)
theorem dX1_init_142 : decode cX1_init 142 = .ok (.isub, 1) := dk_100 (dk_at dksX1_init_5 22 rfl rfl)
theorem dX1_init_143 : decode cX1_init 143 = .ok (.putfield 54, 3) := dk_181 0 54 (dk_at dksX1_init_6 0 rfl rfl)
theorem dX1_init_146 : decode cX1_init 146 = .ok (.aload_n 0, 1) := dk_42 (dk_at dksX1_init_6 3 rfl rfl)
theorem dX1_init_147 : decode cX1_init 147 = .ok (.aload_n 1, 1) := dk_43 (dk_at dksX1_init_6 4 rfl rfl)
theorem dX1_init_148 : decode cX1_init 148 = .ok (.bipush 6, 2) := dk_16 6 (dk_at dksX1_init_6 5 rfl rfl)
theorem dX1_init_150 : decode cX1_init 150 = .ok (.bipush 120, 2) := dk_16 120 (dk_at dksX1_init_6 7 rfl rfl)
theorem dX1_init_152 : decode cX1_init 152 = .ok (.invokestatic 19, 3) := dk_184 0 19 (dk_at dksX1_init_6 9 rfl rfl)
theorem dX1_init_155 : decode cX1_init 155 = .ok (.putfield 57, 3) := dk_181 0 57 (dk_at dksX1_init_6 12 rfl rfl)
theorem dX1_init_158 : decode cX1_init 158 = .ok (.aload_n 0, 1) := dk_42 (dk_at dksX1_init_6 15 rfl rfl)
theorem dX1_init_159 : decode cX1_init 159 = .ok (.aload_n 1, 1) := dk_43 (dk_at dksX1_init_6 16 rfl rfl)
theorem dX1_init_160 : decode cX1_init 160 = .ok (.bipush 7, 2) := dk_16 7 (dk_at dksX1_init_6 17 rfl rfl)
theorem dX1_init_162 : decode cX1_init 162 = .ok (.bipush 30, 2) := dk_16 30 (dk_at dksX1_init_6 19 rfl rfl)
theorem dX1_init_164 : decode cX1_init 164 = .ok (.invokestatic 19, 3) := dk_184 0 19 (dk_at dksX1_init_6 21 rfl rfl)
theorem dX1_init_167 : decode cX1_init 167 = .ok (.putfield 60, 3) := dk_181 0 60 (dk_at dksX1_init_7 0 rfl rfl)
theorem dX1_init_170 : decode cX1_init 170 = .ok (.aload_n 0, 1) := dk_42 (dk_at dksX1_init_7 3 rfl rfl)
theorem dX1_init_171 : decode cX1_init 171 = .ok (.aload_n 1, 1) := dk_43 (dk_at dksX1_init_7 4 rfl rfl)
theorem dX1_init_172 : decode cX1_init 172 = .ok (.bipush 8, 2) := dk_16 8 (dk_at dksX1_init_7 5 rfl rfl)
theorem dX1_init_174 : decode cX1_init 174 = .ok (.bipush 101, 2) := dk_16 101 (dk_at dksX1_init_7 7 rfl rfl)
theorem dX1_init_176 : decode cX1_init 176 = .ok (.invokestatic 19, 3) := dk_184 0 19 (dk_at dksX1_init_7 9 rfl rfl)
theorem dX1_init_179 : decode cX1_init 179 = .ok (.putfield 63, 3) := dk_181 0 63 (dk_at dksX1_init_7 12 rfl rfl)
theorem dX1_init_182 : decode cX1_init 182 = .ok (.iconst 0, 1) := dk_3 (dk_at dksX1_init_7 15 rfl rfl)
theorem dX1_init_183 : decode cX1_init 183 = .ok (.istore 4, 2) := dk_54 4 (dk_at dksX1_init_7 16 rfl rfl)
theorem dX1_init_185 : decode cX1_init 185 = .ok (.iload 4, 2) := dk_21 4 (dk_at dksX1_init_7 18 rfl rfl)
theorem dX1_init_187 : decode cX1_init 187 = .ok (.aload_n 0, 1) := dk_42 (dk_at dksX1_init_7 20 rfl rfl)
theorem dX1_init_188 : decode cX1_init 188 = .ok (.getfield 25, 3) := dk_180 0 25 (dk_at dksX1_init_7 21 rfl rfl)
theorem dX1_init_191 : decode cX1_init 191 = .ok (.if_icmp .ge 49, 3) := dk_162 0 49 (dk_at dksX1_init_8 0 rfl rfl)
theorem dX1_init_194 : decode cX1_init 194 = .ok (.aload_n 0, 1) := dk_42 (dk_at dksX1_init_8 3 rfl rfl)
theorem dX1_init_195 : decode cX1_init 195 = .ok (.getfield 7, 3) := dk_180 0 7 (dk_at dksX1_init_8 4 rfl rfl)
theorem dX1_init_198 : decode cX1_init 198 = .ok (.iload 4, 2) := dk_21 4 (dk_at dksX1_init_8 7 rfl rfl)
theorem dX1_init_200 : decode cX1_init 200 = .ok (.aload_n 1, 1) := dk_43 (dk_at dksX1_init_8 9 rfl rfl)
theorem dX1_init_201 : decode cX1_init 201 = .ok (.bipush 9, 2) := dk_16 9 (dk_at dksX1_init_8 10 rfl rfl)
theorem dX1_init_203 : decode cX1_init 203 = .ok (.iconst 2, 1) := dk_5 (dk_at dksX1_init_8 12 rfl rfl)
theorem dX1_init_204 : decode cX1_init 204 = .ok (.iload 4, 2) := dk_21 4 (dk_at dksX1_init_8 13 rfl rfl)
theorem dX1_init_206 : decode cX1_init 206 = .ok (.imul, 1) := dk_104 (dk_at dksX1_init_8 15 rfl rfl)
theorem dX1_init_207 : decode cX1_init 207 = .ok (.iadd, 1) := dk_96 (dk_at dksX1_init_8 16 rfl rfl)
theorem dX1_init_208 : decode cX1_init 208 = .ok (.bipush 80, 2) := dk_16 80 (dk_at dksX1_init_8 17 rfl rfl)
theorem dX1_init_210 : decode cX1_init 210 = .ok (.invokestatic 19, 3) := dk_184 0 19 (dk_at dksX1_init_8 19 rfl rfl)
theorem dX1_init_213 : decode cX1_init 213 = .ok (.iastore, 1) := dk_79 (dk_at dksX1_init_8 22 rfl rfl)
theorem dX1_init_214 : decode cX1_init 214 = .ok (.aload_n 0, 1) := dk_42 (dk_at dksX1_init_8 23 rfl rfl)
theorem dX1_init_215 : decode cX1_init 215 = .ok (.getfield 13, 3) := dk_180 0 13 (dk_at dksX1_init_9 0 rfl rfl)
theorem dX1_init_218 : decode cX1_init 218 = .ok (.iload 4, 2) := dk_21 4 (dk_at dksX1_init_9 3 rfl rfl)
theorem dX1_init_220 : decode cX1_init 220 = .ok (.aload_n 1, 1) := dk_43 (dk_at dksX1_init_9 5 rfl rfl)
theorem dX1_init_221 : decode cX1_init 221 = .ok (.bipush 10, 2) := dk_16 10 (dk_at dksX1_init_9 6 rfl rfl)
theorem dX1_init_223 : decode cX1_init 223 = .ok (.iconst 2, 1) := dk_5 (dk_at dksX1_init_9 8 rfl rfl)
theorem dX1_init_224 : decode cX1_init 224 = .ok (.iload 4, 2) := dk_21 4 (dk_at dksX1_init_9 9 rfl rfl)
theorem dX1_init_226 : decode cX1_init 226 = .ok (.imul, 1) := dk_104 (dk_at dksX1_init_9 11 rfl rfl)
theorem dX1_init_227 : decode cX1_init 227 = .ok (.iadd, 1) := dk_96 (dk_at dksX1_init_9 12 rfl rfl)
theorem dX1_init_228 : decode cX1_init 228 = .ok (.bipush 10, 2) := dk_16 10 (dk_at dksX1_init_9 13 rfl rfl)
theorem dX1_init_230 : decode cX1_init 230 = .ok (.invokestatic 19, 3) := dk_184 0 19 (dk_at dksX1_init_9 15 rfl rfl)
theorem dX1_init_233 : decode cX1_init 233 = .ok (.iastore, 1) := dk_79 (dk_at dksX1_init_9 18 rfl rfl)
theorem dX1_init_234 : decode cX1_init 234 = .ok (.iinc 4 1, 3) := dk_132 4 1 (dk_at dksX1_init_9 19 rfl rfl)
theorem dX1_init_237 : decode cX1_init 237 = .ok (.goto (-52), 3) := dk_167 255 204 (dk_at dksX1_init_10 0 rfl rfl)
theorem dX1_init_240 : decode cX1_init 240 = .ok (.iconst 0, 1) := dk_3 (dk_at dksX1_init_10 3 rfl rfl)
theorem dX1_init_241 : decode cX1_init 241 = .ok (.istore 4, 2) := dk_54 4 (dk_at dksX1_init_10 4 rfl rfl)
theorem dX1_init_243 : decode cX1_init 243 = .ok (.iload 4, 2) := dk_21 4 (dk_at dksX1_init_10 6 rfl rfl)
theorem dX1_init_245 : decode cX1_init 245 = .ok (.aload_n 0, 1) := dk_42 (dk_at dksX1_init_10 8 rfl rfl)
theorem dX1_init_246 : decode cX1_init 246 = .ok (.getfield 29, 3) := dk_180 0 29 (dk_at dksX1_init_10 9 rfl rfl)
theorem dX1_init_249 : decode cX1_init 249 = .ok (.if_icmp .ge 29, 3) := dk_162 0 29 (dk_at dksX1_init_10 12 rfl rfl)
theorem dX1_init_252 : decode cX1_init 252 = .ok (.aload_n 0, 1) := dk_42 (dk_at dksX1_init_10 15 rfl rfl)
theorem dX1_init_253 : decode cX1_init 253 = .ok (.getfield 16, 3) := dk_180 0 16 (dk_at dksX1_init_10 16 rfl rfl)
theorem dX1_init_256 : decode cX1_init 256 = .ok (.iload 4, 2) := dk_21 4 (dk_at dksX1_init_10 19 rfl rfl)
theorem dX1_init_258 : decode cX1_init 258 = .ok (.iconst 1, 1) := dk_4 (dk_at dksX1_init_10 21 rfl rfl)
theorem dX1_init_259 : decode cX1_init 259 = .ok (.aload_n 1, 1) := dk_43 (dk_at dksX1_init_10 22 rfl rfl)
theorem dX1_init_260 : decode cX1_init 260 = .ok (.bipush 21, 2) := dk_16 21 (dk_at dksX1_init_11 0 rfl rfl)
theorem dX1_init_262 : decode cX1_init 262 = .ok (.iload 4, 2) := dk_21 4 (dk_at dksX1_init_11 2 rfl rfl)
theorem dX1_init_264 : decode cX1_init 264 = .ok (.iadd, 1) := dk_96 (dk_at dksX1_init_11 4 rfl rfl)
theorem dX1_init_265 : decode cX1_init 265 = .ok (.bipush 6, 2) := dk_16 6 (dk_at dksX1_init_11 5 rfl rfl)
theorem dX1_init_267 : decode cX1_init 267 = .ok (.invokestatic 19, 3) := dk_184 0 19 (dk_at dksX1_init_11 7 rfl rfl)
theorem dX1_init_270 : decode cX1_init 270 = .ok (.iadd, 1) := dk_96 (dk_at dksX1_init_11 10 rfl rfl)
theorem dX1_init_271 : decode cX1_init 271 = .ok (.iastore, 1) := dk_79 (dk_at dksX1_init_11 11 rfl rfl)
theorem dX1_init_272 : decode cX1_init 272 = .ok (.iinc 4 1, 3) := dk_132 4 1 (dk_at dksX1_init_11 12 rfl rfl)
theorem dX1_init_275 : decode cX1_init 275 = .ok (.goto (-32), 3) := dk_167 255 224 (dk_at dksX1_init_11 15 rfl rfl)
theorem dX1_init_278 : decode cX1_init 278 = .ok (.return_, 1) := dk_177 (dk_at dksX1_init_11 18 rfl rfl)
abbrev cX1_text : ByteArray := prog_29_method_2_code
def yX1_text : MethodName := ⟨RX1, "text", "()Ljava/lang/String;"⟩
def dkwX1_text_15 : List UInt8 := [182, 0, 95, 176]
abbrev dktX1_text_15 : List UInt8 := dkwX1_text_15 ++ []
def dkwX1_text_14 : List UInt8 := [180, 0, 60, 182, 0, 80, 18, 109, 182, 0, 71, 42, 180, 0, 63, 182, 0, 80, 16, 59, 182, 0, 75]
abbrev dktX1_text_14 : List UInt8 := dkwX1_text_14 ++ dktX1_text_15
def dkwX1_text_13 : List UInt8 := [182, 0, 71, 87, 43, 18, 105, 182, 0, 71, 42, 180, 0, 57, 182, 0, 80, 18, 107, 182, 0, 71, 42]
abbrev dktX1_text_13 : List UInt8 := dkwX1_text_13 ++ dktX1_text_14
def dkwX1_text_12 : List UInt8 := [182, 0, 71, 178, 0, 51, 42, 180, 0, 54, 50, 182, 0, 71, 18, 93, 182, 0, 71, 182, 0, 95]
abbrev dktX1_text_12 : List UInt8 := dkwX1_text_12 ++ dktX1_text_13
def dkwX1_text_11 : List UInt8 := [182, 0, 71, 42, 180, 0, 54, 156, 0, 8, 18, 89, 167, 0, 34, 187, 0, 66, 89, 183, 0, 68, 18, 103]
abbrev dktX1_text_11 : List UInt8 := dkwX1_text_11 ++ dktX1_text_12
def dkwX1_text_10 : List UInt8 := [182, 0, 71, 178, 0, 45, 42, 180, 0, 48, 50, 182, 0, 71, 18, 93, 182, 0, 71, 182, 0, 95]
abbrev dktX1_text_10 : List UInt8 := dkwX1_text_10 ++ dktX1_text_11
def dkwX1_text_9 : List UInt8 := [182, 0, 71, 42, 180, 0, 48, 156, 0, 8, 18, 89, 167, 0, 34, 187, 0, 66, 89, 183, 0, 68, 18, 101]
abbrev dktX1_text_9 : List UInt8 := dkwX1_text_9 ++ dktX1_text_10
def dkwX1_text_8 : List UInt8 := [182, 0, 71, 178, 0, 39, 42, 180, 0, 42, 50, 182, 0, 71, 18, 93, 182, 0, 71, 182, 0, 95]
abbrev dktX1_text_8 : List UInt8 := dkwX1_text_8 ++ dktX1_text_9
def dkwX1_text_7 : List UInt8 := [182, 0, 71, 42, 180, 0, 42, 156, 0, 8, 18, 89, 167, 0, 34, 187, 0, 66, 89, 183, 0, 68, 18, 99]
abbrev dktX1_text_7 : List UInt8 := dkwX1_text_7 ++ dktX1_text_8
def dkwX1_text_6 : List UInt8 := [18, 91, 182, 0, 71, 178, 0, 32, 42, 180, 0, 36, 50, 182, 0, 71, 18, 93, 182, 0, 71, 182, 0, 95]
abbrev dktX1_text_6 : List UInt8 := dkwX1_text_6 ++ dktX1_text_7
def dkwX1_text_5 : List UInt8 := [167, 255, 211, 43, 42, 180, 0, 36, 156, 0, 8, 18, 89, 167, 0, 34, 187, 0, 66, 89, 183, 0, 68]
abbrev dktX1_text_5 : List UInt8 := dkwX1_text_5 ++ dktX1_text_6
def dkwX1_text_4 : List UInt8 := [18, 87, 182, 0, 71, 42, 180, 0, 16, 28, 46, 182, 0, 80, 16, 59, 182, 0, 75, 87, 132, 2, 1]
abbrev dktX1_text_4 : List UInt8 := dkwX1_text_4 ++ dktX1_text_5
def dkwX1_text_3 : List UInt8 := [3, 61, 28, 42, 180, 0, 29, 162, 0, 43, 43, 18, 85, 182, 0, 71, 16, 97, 28, 96, 146, 182, 0, 75]
abbrev dktX1_text_3 : List UInt8 := dkwX1_text_3 ++ dktX1_text_4
def dkwX1_text_2 : List UInt8 := [182, 0, 71, 42, 180, 0, 13, 28, 46, 182, 0, 80, 16, 59, 182, 0, 75, 87, 132, 2, 1, 167, 255, 197]
abbrev dktX1_text_2 : List UInt8 := dkwX1_text_2 ++ dktX1_text_3
def dkwX1_text_1 : List UInt8 := [16, 97, 28, 96, 146, 182, 0, 75, 18, 78, 182, 0, 71, 42, 180, 0, 7, 28, 46, 182, 0, 80, 18, 83]
abbrev dktX1_text_1 : List UInt8 := dkwX1_text_1 ++ dktX1_text_2
def dkwX1_text_0 : List UInt8 := [187, 0, 66, 89, 183, 0, 68, 76, 3, 61, 28, 42, 180, 0, 25, 162, 0, 57, 43, 18, 69, 182, 0, 71]
abbrev dktX1_text_0 : List UInt8 := dkwX1_text_0 ++ dktX1_text_1
theorem dksX1_text_0 : cX1_text.data.toList.drop 0 = dktX1_text_0 := by decide +kernel
theorem dksX1_text_1 : cX1_text.data.toList.drop 24 = dktX1_text_1 := dk_seg dksX1_text_0 24 rfl rfl
theorem dksX1_text_2 : cX1_text.data.toList.drop 48 = dktX1_text_2 := dk_seg dksX1_text_1 24 rfl rfl
theorem dksX1_text_3 : cX1_text.data.toList.drop 72 = dktX1_text_3 := dk_seg dksX1_text_2 24 rfl rfl
theorem dksX1_text_4 : cX1_text.data.toList.drop 96 = dktX1_text_4 := dk_seg dksX1_text_3 24 rfl rfl
theorem dksX1_text_5 : cX1_text.data.toList.drop 119 = dktX1_text_5 := dk_seg dksX1_text_4 23 rfl rfl
theorem dksX1_text_6 : cX1_text.data.toList.drop 142 = dktX1_text_6 := dk_seg dksX1_text_5 23 rfl rfl
theorem dksX1_text_7 : cX1_text.data.toList.drop 166 = dktX1_text_7 := dk_seg dksX1_text_6 24 rfl rfl
theorem dksX1_text_8 : cX1_text.data.toList.drop 190 = dktX1_text_8 := dk_seg dksX1_text_7 24 rfl rfl
theorem dksX1_text_9 : cX1_text.data.toList.drop 212 = dktX1_text_9 := dk_seg dksX1_text_8 22 rfl rfl
theorem dksX1_text_10 : cX1_text.data.toList.drop 236 = dktX1_text_10 := dk_seg dksX1_text_9 24 rfl rfl
theorem dksX1_text_11 : cX1_text.data.toList.drop 258 = dktX1_text_11 := dk_seg dksX1_text_10 22 rfl rfl
theorem dksX1_text_12 : cX1_text.data.toList.drop 282 = dktX1_text_12 := dk_seg dksX1_text_11 24 rfl rfl
theorem dksX1_text_13 : cX1_text.data.toList.drop 304 = dktX1_text_13 := dk_seg dksX1_text_12 22 rfl rfl
theorem dksX1_text_14 : cX1_text.data.toList.drop 327 = dktX1_text_14 := dk_seg dksX1_text_13 23 rfl rfl
theorem dksX1_text_15 : cX1_text.data.toList.drop 350 = dktX1_text_15 := dk_seg dksX1_text_14 23 rfl rfl
theorem dX1_text_0 : decode cX1_text 0 = .ok (.new 66, 3) := dk_187 0 66 (dk_at dksX1_text_0 0 rfl rfl)
theorem dX1_text_3 : decode cX1_text 3 = .ok (.dup, 1) := dk_89 (dk_at dksX1_text_0 3 rfl rfl)
theorem dX1_text_4 : decode cX1_text 4 = .ok (.invokespecial 68, 3) := dk_183 0 68 (dk_at dksX1_text_0 4 rfl rfl)
theorem dX1_text_7 : decode cX1_text 7 = .ok (.astore_n 1, 1) := dk_76 (dk_at dksX1_text_0 7 rfl rfl)
theorem dX1_text_8 : decode cX1_text 8 = .ok (.iconst 0, 1) := dk_3 (dk_at dksX1_text_0 8 rfl rfl)
theorem dX1_text_9 : decode cX1_text 9 = .ok (.istore_n 2, 1) := dk_61 (dk_at dksX1_text_0 9 rfl rfl)
theorem dX1_text_10 : decode cX1_text 10 = .ok (.iload_n 2, 1) := dk_28 (dk_at dksX1_text_0 10 rfl rfl)
theorem dX1_text_11 : decode cX1_text 11 = .ok (.aload_n 0, 1) := dk_42 (dk_at dksX1_text_0 11 rfl rfl)
theorem dX1_text_12 : decode cX1_text 12 = .ok (.getfield 25, 3) := dk_180 0 25 (dk_at dksX1_text_0 12 rfl rfl)
theorem dX1_text_15 : decode cX1_text 15 = .ok (.if_icmp .ge 57, 3) := dk_162 0 57 (dk_at dksX1_text_0 15 rfl rfl)
theorem dX1_text_18 : decode cX1_text 18 = .ok (.aload_n 1, 1) := dk_43 (dk_at dksX1_text_0 18 rfl rfl)
theorem dX1_text_19 : decode cX1_text 19 = .ok (.ldc 69, 2) := dk_18 69 (dk_at dksX1_text_0 19 rfl rfl)
theorem dX1_text_21 : decode cX1_text 21 = .ok (.invokevirtual 71, 3) := dk_182 0 71 (dk_at dksX1_text_0 21 rfl rfl)
theorem dX1_text_24 : decode cX1_text 24 = .ok (.bipush 97, 2) := dk_16 97 (dk_at dksX1_text_1 0 rfl rfl)
theorem dX1_text_26 : decode cX1_text 26 = .ok (.iload_n 2, 1) := dk_28 (dk_at dksX1_text_1 2 rfl rfl)
theorem dX1_text_27 : decode cX1_text 27 = .ok (.iadd, 1) := dk_96 (dk_at dksX1_text_1 3 rfl rfl)
theorem dX1_text_28 : decode cX1_text 28 = .ok (.i2c, 1) := dk_146 (dk_at dksX1_text_1 4 rfl rfl)
theorem dX1_text_29 : decode cX1_text 29 = .ok (.invokevirtual 75, 3) := dk_182 0 75 (dk_at dksX1_text_1 5 rfl rfl)
theorem dX1_text_32 : decode cX1_text 32 = .ok (.ldc 78, 2) := dk_18 78 (dk_at dksX1_text_1 8 rfl rfl)
theorem dX1_text_34 : decode cX1_text 34 = .ok (.invokevirtual 71, 3) := dk_182 0 71 (dk_at dksX1_text_1 10 rfl rfl)
theorem dX1_text_37 : decode cX1_text 37 = .ok (.aload_n 0, 1) := dk_42 (dk_at dksX1_text_1 13 rfl rfl)
theorem dX1_text_38 : decode cX1_text 38 = .ok (.getfield 7, 3) := dk_180 0 7 (dk_at dksX1_text_1 14 rfl rfl)
theorem dX1_text_41 : decode cX1_text 41 = .ok (.iload_n 2, 1) := dk_28 (dk_at dksX1_text_1 17 rfl rfl)
theorem dX1_text_42 : decode cX1_text 42 = .ok (.iaload, 1) := dk_46 (dk_at dksX1_text_1 18 rfl rfl)
theorem dX1_text_43 : decode cX1_text 43 = .ok (.invokevirtual 80, 3) := dk_182 0 80 (dk_at dksX1_text_1 19 rfl rfl)
theorem dX1_text_46 : decode cX1_text 46 = .ok (.ldc 83, 2) := dk_18 83 (dk_at dksX1_text_1 22 rfl rfl)
theorem dX1_text_48 : decode cX1_text 48 = .ok (.invokevirtual 71, 3) := dk_182 0 71 (dk_at dksX1_text_2 0 rfl rfl)
theorem dX1_text_51 : decode cX1_text 51 = .ok (.aload_n 0, 1) := dk_42 (dk_at dksX1_text_2 3 rfl rfl)
theorem dX1_text_52 : decode cX1_text 52 = .ok (.getfield 13, 3) := dk_180 0 13 (dk_at dksX1_text_2 4 rfl rfl)
theorem dX1_text_55 : decode cX1_text 55 = .ok (.iload_n 2, 1) := dk_28 (dk_at dksX1_text_2 7 rfl rfl)
theorem dX1_text_56 : decode cX1_text 56 = .ok (.iaload, 1) := dk_46 (dk_at dksX1_text_2 8 rfl rfl)
theorem dX1_text_57 : decode cX1_text 57 = .ok (.invokevirtual 80, 3) := dk_182 0 80 (dk_at dksX1_text_2 9 rfl rfl)
theorem dX1_text_60 : decode cX1_text 60 = .ok (.bipush 59, 2) := dk_16 59 (dk_at dksX1_text_2 12 rfl rfl)
theorem dX1_text_62 : decode cX1_text 62 = .ok (.invokevirtual 75, 3) := dk_182 0 75 (dk_at dksX1_text_2 14 rfl rfl)
theorem dX1_text_65 : decode cX1_text 65 = .ok (.pop, 1) := dk_87 (dk_at dksX1_text_2 17 rfl rfl)
theorem dX1_text_66 : decode cX1_text 66 = .ok (.iinc 2 1, 3) := dk_132 2 1 (dk_at dksX1_text_2 18 rfl rfl)
theorem dX1_text_69 : decode cX1_text 69 = .ok (.goto (-59), 3) := dk_167 255 197 (dk_at dksX1_text_2 21 rfl rfl)
theorem dX1_text_72 : decode cX1_text 72 = .ok (.iconst 0, 1) := dk_3 (dk_at dksX1_text_3 0 rfl rfl)
theorem dX1_text_73 : decode cX1_text 73 = .ok (.istore_n 2, 1) := dk_61 (dk_at dksX1_text_3 1 rfl rfl)
theorem dX1_text_74 : decode cX1_text 74 = .ok (.iload_n 2, 1) := dk_28 (dk_at dksX1_text_3 2 rfl rfl)
theorem dX1_text_75 : decode cX1_text 75 = .ok (.aload_n 0, 1) := dk_42 (dk_at dksX1_text_3 3 rfl rfl)
theorem dX1_text_76 : decode cX1_text 76 = .ok (.getfield 29, 3) := dk_180 0 29 (dk_at dksX1_text_3 4 rfl rfl)
theorem dX1_text_79 : decode cX1_text 79 = .ok (.if_icmp .ge 43, 3) := dk_162 0 43 (dk_at dksX1_text_3 7 rfl rfl)
theorem dX1_text_82 : decode cX1_text 82 = .ok (.aload_n 1, 1) := dk_43 (dk_at dksX1_text_3 10 rfl rfl)
theorem dX1_text_83 : decode cX1_text 83 = .ok (.ldc 85, 2) := dk_18 85 (dk_at dksX1_text_3 11 rfl rfl)
theorem dX1_text_85 : decode cX1_text 85 = .ok (.invokevirtual 71, 3) := dk_182 0 71 (dk_at dksX1_text_3 13 rfl rfl)
theorem dX1_text_88 : decode cX1_text 88 = .ok (.bipush 97, 2) := dk_16 97 (dk_at dksX1_text_3 16 rfl rfl)
theorem dX1_text_90 : decode cX1_text 90 = .ok (.iload_n 2, 1) := dk_28 (dk_at dksX1_text_3 18 rfl rfl)
theorem dX1_text_91 : decode cX1_text 91 = .ok (.iadd, 1) := dk_96 (dk_at dksX1_text_3 19 rfl rfl)
theorem dX1_text_92 : decode cX1_text 92 = .ok (.i2c, 1) := dk_146 (dk_at dksX1_text_3 20 rfl rfl)
theorem dX1_text_93 : decode cX1_text 93 = .ok (.invokevirtual 75, 3) := dk_182 0 75 (dk_at dksX1_text_3 21 rfl rfl)
theorem dX1_text_96 : decode cX1_text 96 = .ok (.ldc 87, 2) := dk_18 87 (dk_at dksX1_text_4 0 rfl rfl)
theorem dX1_text_98 : decode cX1_text 98 = .ok (.invokevirtual 71, 3) := dk_182 0 71 (dk_at dksX1_text_4 2 rfl rfl)
theorem dX1_text_101 : decode cX1_text 101 = .ok (.aload_n 0, 1) := dk_42 (dk_at dksX1_text_4 5 rfl rfl)
theorem dX1_text_102 : decode cX1_text 102 = .ok (.getfield 16, 3) := dk_180 0 16 (dk_at dksX1_text_4 6 rfl rfl)
theorem dX1_text_105 : decode cX1_text 105 = .ok (.iload_n 2, 1) := dk_28 (dk_at dksX1_text_4 9 rfl rfl)
theorem dX1_text_106 : decode cX1_text 106 = .ok (.iaload, 1) := dk_46 (dk_at dksX1_text_4 10 rfl rfl)
theorem dX1_text_107 : decode cX1_text 107 = .ok (.invokevirtual 80, 3) := dk_182 0 80 (dk_at dksX1_text_4 11 rfl rfl)
theorem dX1_text_110 : decode cX1_text 110 = .ok (.bipush 59, 2) := dk_16 59 (dk_at dksX1_text_4 14 rfl rfl)
theorem dX1_text_112 : decode cX1_text 112 = .ok (.invokevirtual 75, 3) := dk_182 0 75 (dk_at dksX1_text_4 16 rfl rfl)
theorem dX1_text_115 : decode cX1_text 115 = .ok (.pop, 1) := dk_87 (dk_at dksX1_text_4 19 rfl rfl)
theorem dX1_text_116 : decode cX1_text 116 = .ok (.iinc 2 1, 3) := dk_132 2 1 (dk_at dksX1_text_4 20 rfl rfl)
theorem dX1_text_119 : decode cX1_text 119 = .ok (.goto (-45), 3) := dk_167 255 211 (dk_at dksX1_text_5 0 rfl rfl)
theorem dX1_text_122 : decode cX1_text 122 = .ok (.aload_n 1, 1) := dk_43 (dk_at dksX1_text_5 3 rfl rfl)
theorem dX1_text_123 : decode cX1_text 123 = .ok (.aload_n 0, 1) := dk_42 (dk_at dksX1_text_5 4 rfl rfl)
theorem dX1_text_124 : decode cX1_text 124 = .ok (.getfield 36, 3) := dk_180 0 36 (dk_at dksX1_text_5 5 rfl rfl)
theorem dX1_text_127 : decode cX1_text 127 = .ok (.ifCond .ge 8, 3) := dk_156 0 8 (dk_at dksX1_text_5 8 rfl rfl)
theorem dX1_text_130 : decode cX1_text 130 = .ok (.ldc 89, 2) := dk_18 89 (dk_at dksX1_text_5 11 rfl rfl)
theorem dX1_text_132 : decode cX1_text 132 = .ok (.goto 34, 3) := dk_167 0 34 (dk_at dksX1_text_5 13 rfl rfl)
theorem dX1_text_135 : decode cX1_text 135 = .ok (.new 66, 3) := dk_187 0 66 (dk_at dksX1_text_5 16 rfl rfl)
theorem dX1_text_138 : decode cX1_text 138 = .ok (.dup, 1) := dk_89 (dk_at dksX1_text_5 19 rfl rfl)
theorem dX1_text_139 : decode cX1_text 139 = .ok (.invokespecial 68, 3) := dk_183 0 68 (dk_at dksX1_text_5 20 rfl rfl)
theorem dX1_text_142 : decode cX1_text 142 = .ok (.ldc 91, 2) := dk_18 91 (dk_at dksX1_text_6 0 rfl rfl)
theorem dX1_text_144 : decode cX1_text 144 = .ok (.invokevirtual 71, 3) := dk_182 0 71 (dk_at dksX1_text_6 2 rfl rfl)
theorem dX1_text_147 : decode cX1_text 147 = .ok (.getstatic 32, 3) := dk_178 0 32 (dk_at dksX1_text_6 5 rfl rfl)
theorem dX1_text_150 : decode cX1_text 150 = .ok (.aload_n 0, 1) := dk_42 (dk_at dksX1_text_6 8 rfl rfl)
theorem dX1_text_151 : decode cX1_text 151 = .ok (.getfield 36, 3) := dk_180 0 36 (dk_at dksX1_text_6 9 rfl rfl)
theorem dX1_text_154 : decode cX1_text 154 = .ok (.aaload, 1) := dk_50 (dk_at dksX1_text_6 12 rfl rfl)
theorem dX1_text_155 : decode cX1_text 155 = .ok (.invokevirtual 71, 3) := dk_182 0 71 (dk_at dksX1_text_6 13 rfl rfl)
theorem dX1_text_158 : decode cX1_text 158 = .ok (.ldc 93, 2) := dk_18 93 (dk_at dksX1_text_6 16 rfl rfl)
theorem dX1_text_160 : decode cX1_text 160 = .ok (.invokevirtual 71, 3) := dk_182 0 71 (dk_at dksX1_text_6 18 rfl rfl)
theorem dX1_text_163 : decode cX1_text 163 = .ok (.invokevirtual 95, 3) := dk_182 0 95 (dk_at dksX1_text_6 21 rfl rfl)
theorem dX1_text_166 : decode cX1_text 166 = .ok (.invokevirtual 71, 3) := dk_182 0 71 (dk_at dksX1_text_7 0 rfl rfl)
theorem dX1_text_169 : decode cX1_text 169 = .ok (.aload_n 0, 1) := dk_42 (dk_at dksX1_text_7 3 rfl rfl)
theorem dX1_text_170 : decode cX1_text 170 = .ok (.getfield 42, 3) := dk_180 0 42 (dk_at dksX1_text_7 4 rfl rfl)
theorem dX1_text_173 : decode cX1_text 173 = .ok (.ifCond .ge 8, 3) := dk_156 0 8 (dk_at dksX1_text_7 7 rfl rfl)
theorem dX1_text_176 : decode cX1_text 176 = .ok (.ldc 89, 2) := dk_18 89 (dk_at dksX1_text_7 10 rfl rfl)
theorem dX1_text_178 : decode cX1_text 178 = .ok (.goto 34, 3) := dk_167 0 34 (dk_at dksX1_text_7 12 rfl rfl)
theorem dX1_text_181 : decode cX1_text 181 = .ok (.new 66, 3) := dk_187 0 66 (dk_at dksX1_text_7 15 rfl rfl)
theorem dX1_text_184 : decode cX1_text 184 = .ok (.dup, 1) := dk_89 (dk_at dksX1_text_7 18 rfl rfl)
theorem dX1_text_185 : decode cX1_text 185 = .ok (.invokespecial 68, 3) := dk_183 0 68 (dk_at dksX1_text_7 19 rfl rfl)
theorem dX1_text_188 : decode cX1_text 188 = .ok (.ldc 99, 2) := dk_18 99 (dk_at dksX1_text_7 22 rfl rfl)
theorem dX1_text_190 : decode cX1_text 190 = .ok (.invokevirtual 71, 3) := dk_182 0 71 (dk_at dksX1_text_8 0 rfl rfl)
theorem dX1_text_193 : decode cX1_text 193 = .ok (.getstatic 39, 3) := dk_178 0 39 (dk_at dksX1_text_8 3 rfl rfl)
theorem dX1_text_196 : decode cX1_text 196 = .ok (.aload_n 0, 1) := dk_42 (dk_at dksX1_text_8 6 rfl rfl)
theorem dX1_text_197 : decode cX1_text 197 = .ok (.getfield 42, 3) := dk_180 0 42 (dk_at dksX1_text_8 7 rfl rfl)
theorem dX1_text_200 : decode cX1_text 200 = .ok (.aaload, 1) := dk_50 (dk_at dksX1_text_8 10 rfl rfl)
theorem dX1_text_201 : decode cX1_text 201 = .ok (.invokevirtual 71, 3) := dk_182 0 71 (dk_at dksX1_text_8 11 rfl rfl)
theorem dX1_text_204 : decode cX1_text 204 = .ok (.ldc 93, 2) := dk_18 93 (dk_at dksX1_text_8 14 rfl rfl)
theorem dX1_text_206 : decode cX1_text 206 = .ok (.invokevirtual 71, 3) := dk_182 0 71 (dk_at dksX1_text_8 16 rfl rfl)
theorem dX1_text_209 : decode cX1_text 209 = .ok (.invokevirtual 95, 3) := dk_182 0 95 (dk_at dksX1_text_8 19 rfl rfl)
theorem dX1_text_212 : decode cX1_text 212 = .ok (.invokevirtual 71, 3) := dk_182 0 71 (dk_at dksX1_text_9 0 rfl rfl)
theorem dX1_text_215 : decode cX1_text 215 = .ok (.aload_n 0, 1) := dk_42 (dk_at dksX1_text_9 3 rfl rfl)
theorem dX1_text_216 : decode cX1_text 216 = .ok (.getfield 48, 3) := dk_180 0 48 (dk_at dksX1_text_9 4 rfl rfl)
theorem dX1_text_219 : decode cX1_text 219 = .ok (.ifCond .ge 8, 3) := dk_156 0 8 (dk_at dksX1_text_9 7 rfl rfl)
theorem dX1_text_222 : decode cX1_text 222 = .ok (.ldc 89, 2) := dk_18 89 (dk_at dksX1_text_9 10 rfl rfl)
theorem dX1_text_224 : decode cX1_text 224 = .ok (.goto 34, 3) := dk_167 0 34 (dk_at dksX1_text_9 12 rfl rfl)
theorem dX1_text_227 : decode cX1_text 227 = .ok (.new 66, 3) := dk_187 0 66 (dk_at dksX1_text_9 15 rfl rfl)
theorem dX1_text_230 : decode cX1_text 230 = .ok (.dup, 1) := dk_89 (dk_at dksX1_text_9 18 rfl rfl)
theorem dX1_text_231 : decode cX1_text 231 = .ok (.invokespecial 68, 3) := dk_183 0 68 (dk_at dksX1_text_9 19 rfl rfl)
theorem dX1_text_234 : decode cX1_text 234 = .ok (.ldc 101, 2) := dk_18 101 (dk_at dksX1_text_9 22 rfl rfl)
theorem dX1_text_236 : decode cX1_text 236 = .ok (.invokevirtual 71, 3) := dk_182 0 71 (dk_at dksX1_text_10 0 rfl rfl)
theorem dX1_text_239 : decode cX1_text 239 = .ok (.getstatic 45, 3) := dk_178 0 45 (dk_at dksX1_text_10 3 rfl rfl)
theorem dX1_text_242 : decode cX1_text 242 = .ok (.aload_n 0, 1) := dk_42 (dk_at dksX1_text_10 6 rfl rfl)
theorem dX1_text_243 : decode cX1_text 243 = .ok (.getfield 48, 3) := dk_180 0 48 (dk_at dksX1_text_10 7 rfl rfl)
theorem dX1_text_246 : decode cX1_text 246 = .ok (.aaload, 1) := dk_50 (dk_at dksX1_text_10 10 rfl rfl)
theorem dX1_text_247 : decode cX1_text 247 = .ok (.invokevirtual 71, 3) := dk_182 0 71 (dk_at dksX1_text_10 11 rfl rfl)
theorem dX1_text_250 : decode cX1_text 250 = .ok (.ldc 93, 2) := dk_18 93 (dk_at dksX1_text_10 14 rfl rfl)
theorem dX1_text_252 : decode cX1_text 252 = .ok (.invokevirtual 71, 3) := dk_182 0 71 (dk_at dksX1_text_10 16 rfl rfl)
theorem dX1_text_255 : decode cX1_text 255 = .ok (.invokevirtual 95, 3) := dk_182 0 95 (dk_at dksX1_text_10 19 rfl rfl)
theorem dX1_text_258 : decode cX1_text 258 = .ok (.invokevirtual 71, 3) := dk_182 0 71 (dk_at dksX1_text_11 0 rfl rfl)
theorem dX1_text_261 : decode cX1_text 261 = .ok (.aload_n 0, 1) := dk_42 (dk_at dksX1_text_11 3 rfl rfl)
theorem dX1_text_262 : decode cX1_text 262 = .ok (.getfield 54, 3) := dk_180 0 54 (dk_at dksX1_text_11 4 rfl rfl)
theorem dX1_text_265 : decode cX1_text 265 = .ok (.ifCond .ge 8, 3) := dk_156 0 8 (dk_at dksX1_text_11 7 rfl rfl)
theorem dX1_text_268 : decode cX1_text 268 = .ok (.ldc 89, 2) := dk_18 89 (dk_at dksX1_text_11 10 rfl rfl)
theorem dX1_text_270 : decode cX1_text 270 = .ok (.goto 34, 3) := dk_167 0 34 (dk_at dksX1_text_11 12 rfl rfl)
theorem dX1_text_273 : decode cX1_text 273 = .ok (.new 66, 3) := dk_187 0 66 (dk_at dksX1_text_11 15 rfl rfl)
theorem dX1_text_276 : decode cX1_text 276 = .ok (.dup, 1) := dk_89 (dk_at dksX1_text_11 18 rfl rfl)
theorem dX1_text_277 : decode cX1_text 277 = .ok (.invokespecial 68, 3) := dk_183 0 68 (dk_at dksX1_text_11 19 rfl rfl)
theorem dX1_text_280 : decode cX1_text 280 = .ok (.ldc 103, 2) := dk_18 103 (dk_at dksX1_text_11 22 rfl rfl)
theorem dX1_text_282 : decode cX1_text 282 = .ok (.invokevirtual 71, 3) := dk_182 0 71 (dk_at dksX1_text_12 0 rfl rfl)
theorem dX1_text_285 : decode cX1_text 285 = .ok (.getstatic 51, 3) := dk_178 0 51 (dk_at dksX1_text_12 3 rfl rfl)
theorem dX1_text_288 : decode cX1_text 288 = .ok (.aload_n 0, 1) := dk_42 (dk_at dksX1_text_12 6 rfl rfl)
theorem dX1_text_289 : decode cX1_text 289 = .ok (.getfield 54, 3) := dk_180 0 54 (dk_at dksX1_text_12 7 rfl rfl)
theorem dX1_text_292 : decode cX1_text 292 = .ok (.aaload, 1) := dk_50 (dk_at dksX1_text_12 10 rfl rfl)
theorem dX1_text_293 : decode cX1_text 293 = .ok (.invokevirtual 71, 3) := dk_182 0 71 (dk_at dksX1_text_12 11 rfl rfl)
theorem dX1_text_296 : decode cX1_text 296 = .ok (.ldc 93, 2) := dk_18 93 (dk_at dksX1_text_12 14 rfl rfl)
theorem dX1_text_298 : decode cX1_text 298 = .ok (.invokevirtual 71, 3) := dk_182 0 71 (dk_at dksX1_text_12 16 rfl rfl)
theorem dX1_text_301 : decode cX1_text 301 = .ok (.invokevirtual 95, 3) := dk_182 0 95 (dk_at dksX1_text_12 19 rfl rfl)
theorem dX1_text_304 : decode cX1_text 304 = .ok (.invokevirtual 71, 3) := dk_182 0 71 (dk_at dksX1_text_13 0 rfl rfl)
theorem dX1_text_307 : decode cX1_text 307 = .ok (.pop, 1) := dk_87 (dk_at dksX1_text_13 3 rfl rfl)
theorem dX1_text_308 : decode cX1_text 308 = .ok (.aload_n 1, 1) := dk_43 (dk_at dksX1_text_13 4 rfl rfl)
theorem dX1_text_309 : decode cX1_text 309 = .ok (.ldc 105, 2) := dk_18 105 (dk_at dksX1_text_13 5 rfl rfl)
theorem dX1_text_311 : decode cX1_text 311 = .ok (.invokevirtual 71, 3) := dk_182 0 71 (dk_at dksX1_text_13 7 rfl rfl)
theorem dX1_text_314 : decode cX1_text 314 = .ok (.aload_n 0, 1) := dk_42 (dk_at dksX1_text_13 10 rfl rfl)
theorem dX1_text_315 : decode cX1_text 315 = .ok (.getfield 57, 3) := dk_180 0 57 (dk_at dksX1_text_13 11 rfl rfl)
theorem dX1_text_318 : decode cX1_text 318 = .ok (.invokevirtual 80, 3) := dk_182 0 80 (dk_at dksX1_text_13 14 rfl rfl)
theorem dX1_text_321 : decode cX1_text 321 = .ok (.ldc 107, 2) := dk_18 107 (dk_at dksX1_text_13 17 rfl rfl)
theorem dX1_text_323 : decode cX1_text 323 = .ok (.invokevirtual 71, 3) := dk_182 0 71 (dk_at dksX1_text_13 19 rfl rfl)
theorem dX1_text_326 : decode cX1_text 326 = .ok (.aload_n 0, 1) := dk_42 (dk_at dksX1_text_13 22 rfl rfl)
theorem dX1_text_327 : decode cX1_text 327 = .ok (.getfield 60, 3) := dk_180 0 60 (dk_at dksX1_text_14 0 rfl rfl)
theorem dX1_text_330 : decode cX1_text 330 = .ok (.invokevirtual 80, 3) := dk_182 0 80 (dk_at dksX1_text_14 3 rfl rfl)
theorem dX1_text_333 : decode cX1_text 333 = .ok (.ldc 109, 2) := dk_18 109 (dk_at dksX1_text_14 6 rfl rfl)
theorem dX1_text_335 : decode cX1_text 335 = .ok (.invokevirtual 71, 3) := dk_182 0 71 (dk_at dksX1_text_14 8 rfl rfl)
theorem dX1_text_338 : decode cX1_text 338 = .ok (.aload_n 0, 1) := dk_42 (dk_at dksX1_text_14 11 rfl rfl)
theorem dX1_text_339 : decode cX1_text 339 = .ok (.getfield 63, 3) := dk_180 0 63 (dk_at dksX1_text_14 12 rfl rfl)
theorem dX1_text_342 : decode cX1_text 342 = .ok (.invokevirtual 80, 3) := dk_182 0 80 (dk_at dksX1_text_14 15 rfl rfl)
theorem dX1_text_345 : decode cX1_text 345 = .ok (.bipush 59, 2) := dk_16 59 (dk_at dksX1_text_14 18 rfl rfl)
theorem dX1_text_347 : decode cX1_text 347 = .ok (.invokevirtual 75, 3) := dk_182 0 75 (dk_at dksX1_text_14 20 rfl rfl)
theorem dX1_text_350 : decode cX1_text 350 = .ok (.invokevirtual 95, 3) := dk_182 0 95 (dk_at dksX1_text_15 0 rfl rfl)
theorem dX1_text_353 : decode cX1_text 353 = .ok (.areturn, 1) := dk_176 (dk_at dksX1_text_15 3 rfl rfl)
abbrev cX1_burns : ByteArray := prog_29_method_6_code
def yX1_burns : MethodName := ⟨RX1, "burns", "(IIII)I"⟩
def dkwX1_burns_3 : List UInt8 := [184, 0, 115, 167, 0, 15, 27, 16, 9, 164, 0, 8, 16, 40, 167, 0, 4, 8, 172]
abbrev dktX1_burns_3 : List UInt8 := dkwX1_burns_3 ++ []
def dkwX1_burns_2 : List UInt8 := [167, 0, 40, 42, 180, 0, 54, 5, 160, 0, 20, 3, 5, 42, 180, 0, 16, 28, 46, 104, 27, 100]
abbrev dktX1_burns_2 : List UInt8 := dkwX1_burns_2 ++ dktX1_burns_3
def dkwX1_burns_1 : List UInt8 := [46, 104, 167, 0, 61, 42, 180, 0, 54, 4, 160, 0, 16, 27, 6, 29, 104, 96, 21, 4, 5, 112, 96]
abbrev dktX1_burns_1 : List UInt8 := dkwX1_burns_1 ++ dktX1_burns_2
def dkwX1_burns_0 : List UInt8 := [42, 180, 0, 54, 156, 0, 7, 27, 167, 0, 79, 42, 180, 0, 54, 154, 0, 14, 27, 42, 180, 0, 16, 28]
abbrev dktX1_burns_0 : List UInt8 := dkwX1_burns_0 ++ dktX1_burns_1
theorem dksX1_burns_0 : cX1_burns.data.toList.drop 0 = dktX1_burns_0 := by decide +kernel
theorem dksX1_burns_1 : cX1_burns.data.toList.drop 24 = dktX1_burns_1 := dk_seg dksX1_burns_0 24 rfl rfl
theorem dksX1_burns_2 : cX1_burns.data.toList.drop 47 = dktX1_burns_2 := dk_seg dksX1_burns_1 23 rfl rfl
theorem dksX1_burns_3 : cX1_burns.data.toList.drop 69 = dktX1_burns_3 := dk_seg dksX1_burns_2 22 rfl rfl
theorem dX1_burns_0 : decode cX1_burns 0 = .ok (.aload_n 0, 1) := dk_42 (dk_at dksX1_burns_0 0 rfl rfl)
theorem dX1_burns_1 : decode cX1_burns 1 = .ok (.getfield 54, 3) := dk_180 0 54 (dk_at dksX1_burns_0 1 rfl rfl)
theorem dX1_burns_4 : decode cX1_burns 4 = .ok (.ifCond .ge 7, 3) := dk_156 0 7 (dk_at dksX1_burns_0 4 rfl rfl)
theorem dX1_burns_7 : decode cX1_burns 7 = .ok (.iload_n 1, 1) := dk_27 (dk_at dksX1_burns_0 7 rfl rfl)
theorem dX1_burns_8 : decode cX1_burns 8 = .ok (.goto 79, 3) := dk_167 0 79 (dk_at dksX1_burns_0 8 rfl rfl)
theorem dX1_burns_11 : decode cX1_burns 11 = .ok (.aload_n 0, 1) := dk_42 (dk_at dksX1_burns_0 11 rfl rfl)
theorem dX1_burns_12 : decode cX1_burns 12 = .ok (.getfield 54, 3) := dk_180 0 54 (dk_at dksX1_burns_0 12 rfl rfl)
theorem dX1_burns_15 : decode cX1_burns 15 = .ok (.ifCond .ne 14, 3) := dk_154 0 14 (dk_at dksX1_burns_0 15 rfl rfl)
theorem dX1_burns_18 : decode cX1_burns 18 = .ok (.iload_n 1, 1) := dk_27 (dk_at dksX1_burns_0 18 rfl rfl)
theorem dX1_burns_19 : decode cX1_burns 19 = .ok (.aload_n 0, 1) := dk_42 (dk_at dksX1_burns_0 19 rfl rfl)
theorem dX1_burns_20 : decode cX1_burns 20 = .ok (.getfield 16, 3) := dk_180 0 16 (dk_at dksX1_burns_0 20 rfl rfl)
theorem dX1_burns_23 : decode cX1_burns 23 = .ok (.iload_n 2, 1) := dk_28 (dk_at dksX1_burns_0 23 rfl rfl)
theorem dX1_burns_24 : decode cX1_burns 24 = .ok (.iaload, 1) := dk_46 (dk_at dksX1_burns_1 0 rfl rfl)
theorem dX1_burns_25 : decode cX1_burns 25 = .ok (.imul, 1) := dk_104 (dk_at dksX1_burns_1 1 rfl rfl)
theorem dX1_burns_26 : decode cX1_burns 26 = .ok (.goto 61, 3) := dk_167 0 61 (dk_at dksX1_burns_1 2 rfl rfl)
theorem dX1_burns_29 : decode cX1_burns 29 = .ok (.aload_n 0, 1) := dk_42 (dk_at dksX1_burns_1 5 rfl rfl)
theorem dX1_burns_30 : decode cX1_burns 30 = .ok (.getfield 54, 3) := dk_180 0 54 (dk_at dksX1_burns_1 6 rfl rfl)
theorem dX1_burns_33 : decode cX1_burns 33 = .ok (.iconst 1, 1) := dk_4 (dk_at dksX1_burns_1 9 rfl rfl)
theorem dX1_burns_34 : decode cX1_burns 34 = .ok (.if_icmp .ne 16, 3) := dk_160 0 16 (dk_at dksX1_burns_1 10 rfl rfl)
theorem dX1_burns_37 : decode cX1_burns 37 = .ok (.iload_n 1, 1) := dk_27 (dk_at dksX1_burns_1 13 rfl rfl)
theorem dX1_burns_38 : decode cX1_burns 38 = .ok (.iconst 3, 1) := dk_6 (dk_at dksX1_burns_1 14 rfl rfl)
theorem dX1_burns_39 : decode cX1_burns 39 = .ok (.iload_n 3, 1) := dk_29 (dk_at dksX1_burns_1 15 rfl rfl)
theorem dX1_burns_40 : decode cX1_burns 40 = .ok (.imul, 1) := dk_104 (dk_at dksX1_burns_1 16 rfl rfl)
theorem dX1_burns_41 : decode cX1_burns 41 = .ok (.iadd, 1) := dk_96 (dk_at dksX1_burns_1 17 rfl rfl)
theorem dX1_burns_42 : decode cX1_burns 42 = .ok (.iload 4, 2) := dk_21 4 (dk_at dksX1_burns_1 18 rfl rfl)
theorem dX1_burns_44 : decode cX1_burns 44 = .ok (.iconst 2, 1) := dk_5 (dk_at dksX1_burns_1 20 rfl rfl)
theorem dX1_burns_45 : decode cX1_burns 45 = .ok (.irem, 1) := dk_112 (dk_at dksX1_burns_1 21 rfl rfl)
theorem dX1_burns_46 : decode cX1_burns 46 = .ok (.iadd, 1) := dk_96 (dk_at dksX1_burns_1 22 rfl rfl)
theorem dX1_burns_47 : decode cX1_burns 47 = .ok (.goto 40, 3) := dk_167 0 40 (dk_at dksX1_burns_2 0 rfl rfl)
theorem dX1_burns_50 : decode cX1_burns 50 = .ok (.aload_n 0, 1) := dk_42 (dk_at dksX1_burns_2 3 rfl rfl)
theorem dX1_burns_51 : decode cX1_burns 51 = .ok (.getfield 54, 3) := dk_180 0 54 (dk_at dksX1_burns_2 4 rfl rfl)
theorem dX1_burns_54 : decode cX1_burns 54 = .ok (.iconst 2, 1) := dk_5 (dk_at dksX1_burns_2 7 rfl rfl)
theorem dX1_burns_55 : decode cX1_burns 55 = .ok (.if_icmp .ne 20, 3) := dk_160 0 20 (dk_at dksX1_burns_2 8 rfl rfl)
theorem dX1_burns_58 : decode cX1_burns 58 = .ok (.iconst 0, 1) := dk_3 (dk_at dksX1_burns_2 11 rfl rfl)
theorem dX1_burns_59 : decode cX1_burns 59 = .ok (.iconst 2, 1) := dk_5 (dk_at dksX1_burns_2 12 rfl rfl)
theorem dX1_burns_60 : decode cX1_burns 60 = .ok (.aload_n 0, 1) := dk_42 (dk_at dksX1_burns_2 13 rfl rfl)
theorem dX1_burns_61 : decode cX1_burns 61 = .ok (.getfield 16, 3) := dk_180 0 16 (dk_at dksX1_burns_2 14 rfl rfl)
theorem dX1_burns_64 : decode cX1_burns 64 = .ok (.iload_n 2, 1) := dk_28 (dk_at dksX1_burns_2 17 rfl rfl)
theorem dX1_burns_65 : decode cX1_burns 65 = .ok (.iaload, 1) := dk_46 (dk_at dksX1_burns_2 18 rfl rfl)
theorem dX1_burns_66 : decode cX1_burns 66 = .ok (.imul, 1) := dk_104 (dk_at dksX1_burns_2 19 rfl rfl)
theorem dX1_burns_67 : decode cX1_burns 67 = .ok (.iload_n 1, 1) := dk_27 (dk_at dksX1_burns_2 20 rfl rfl)
theorem dX1_burns_68 : decode cX1_burns 68 = .ok (.isub, 1) := dk_100 (dk_at dksX1_burns_2 21 rfl rfl)
theorem dX1_burns_69 : decode cX1_burns 69 = .ok (.invokestatic 115, 3) := dk_184 0 115 (dk_at dksX1_burns_3 0 rfl rfl)
theorem dX1_burns_72 : decode cX1_burns 72 = .ok (.goto 15, 3) := dk_167 0 15 (dk_at dksX1_burns_3 3 rfl rfl)
theorem dX1_burns_75 : decode cX1_burns 75 = .ok (.iload_n 1, 1) := dk_27 (dk_at dksX1_burns_3 6 rfl rfl)
theorem dX1_burns_76 : decode cX1_burns 76 = .ok (.bipush 9, 2) := dk_16 9 (dk_at dksX1_burns_3 7 rfl rfl)
theorem dX1_burns_78 : decode cX1_burns 78 = .ok (.if_icmp .le 8, 3) := dk_164 0 8 (dk_at dksX1_burns_3 9 rfl rfl)
theorem dX1_burns_81 : decode cX1_burns 81 = .ok (.bipush 40, 2) := dk_16 40 (dk_at dksX1_burns_3 12 rfl rfl)
theorem dX1_burns_83 : decode cX1_burns 83 = .ok (.goto 4, 3) := dk_167 0 4 (dk_at dksX1_burns_3 14 rfl rfl)
theorem dX1_burns_86 : decode cX1_burns 86 = .ok (.iconst 5, 1) := dk_8 (dk_at dksX1_burns_3 17 rfl rfl)
theorem dX1_burns_87 : decode cX1_burns 87 = .ok (.ireturn, 1) := dk_172 (dk_at dksX1_burns_3 18 rfl rfl)
abbrev cX1_rings : ByteArray := prog_29_method_3_code
def yX1_rings : MethodName := ⟨RX1, "rings", "(IIII)I"⟩
def dkwX1_rings_3 : List UInt8 := [172]
abbrev dktX1_rings_3 : List UInt8 := dkwX1_rings_3 ++ []
def dkwX1_rings_2 : List UInt8 := [180, 0, 36, 4, 160, 0, 18, 29, 154, 0, 14, 42, 180, 0, 7, 27, 46, 5, 108, 167, 0, 5, 21, 4]
abbrev dktX1_rings_2 : List UInt8 := dkwX1_rings_2 ++ dktX1_rings_3
def dkwX1_rings_1 : List UInt8 := [180, 0, 7, 27, 46, 5, 28, 104, 96, 42, 180, 0, 13, 27, 46, 100, 184, 0, 111, 167, 0, 28, 42]
abbrev dktX1_rings_1 : List UInt8 := dkwX1_rings_1 ++ dktX1_rings_2
def dkwX1_rings_0 : List UInt8 := [42, 180, 0, 36, 156, 0, 12, 7, 28, 104, 184, 0, 111, 167, 0, 58, 42, 180, 0, 36, 154, 0, 26, 42]
abbrev dktX1_rings_0 : List UInt8 := dkwX1_rings_0 ++ dktX1_rings_1
theorem dksX1_rings_0 : cX1_rings.data.toList.drop 0 = dktX1_rings_0 := by decide +kernel
theorem dksX1_rings_1 : cX1_rings.data.toList.drop 24 = dktX1_rings_1 := dk_seg dksX1_rings_0 24 rfl rfl
theorem dksX1_rings_2 : cX1_rings.data.toList.drop 47 = dktX1_rings_2 := dk_seg dksX1_rings_1 23 rfl rfl
theorem dksX1_rings_3 : cX1_rings.data.toList.drop 71 = dktX1_rings_3 := dk_seg dksX1_rings_2 24 rfl rfl
theorem dX1_rings_0 : decode cX1_rings 0 = .ok (.aload_n 0, 1) := dk_42 (dk_at dksX1_rings_0 0 rfl rfl)
theorem dX1_rings_1 : decode cX1_rings 1 = .ok (.getfield 36, 3) := dk_180 0 36 (dk_at dksX1_rings_0 1 rfl rfl)
theorem dX1_rings_4 : decode cX1_rings 4 = .ok (.ifCond .ge 12, 3) := dk_156 0 12 (dk_at dksX1_rings_0 4 rfl rfl)
theorem dX1_rings_7 : decode cX1_rings 7 = .ok (.iconst 4, 1) := dk_7 (dk_at dksX1_rings_0 7 rfl rfl)
theorem dX1_rings_8 : decode cX1_rings 8 = .ok (.iload_n 2, 1) := dk_28 (dk_at dksX1_rings_0 8 rfl rfl)
theorem dX1_rings_9 : decode cX1_rings 9 = .ok (.imul, 1) := dk_104 (dk_at dksX1_rings_0 9 rfl rfl)
theorem dX1_rings_10 : decode cX1_rings 10 = .ok (.invokestatic 111, 3) := dk_184 0 111 (dk_at dksX1_rings_0 10 rfl rfl)
theorem dX1_rings_13 : decode cX1_rings 13 = .ok (.goto 58, 3) := dk_167 0 58 (dk_at dksX1_rings_0 13 rfl rfl)
theorem dX1_rings_16 : decode cX1_rings 16 = .ok (.aload_n 0, 1) := dk_42 (dk_at dksX1_rings_0 16 rfl rfl)
theorem dX1_rings_17 : decode cX1_rings 17 = .ok (.getfield 36, 3) := dk_180 0 36 (dk_at dksX1_rings_0 17 rfl rfl)
theorem dX1_rings_20 : decode cX1_rings 20 = .ok (.ifCond .ne 26, 3) := dk_154 0 26 (dk_at dksX1_rings_0 20 rfl rfl)
theorem dX1_rings_23 : decode cX1_rings 23 = .ok (.aload_n 0, 1) := dk_42 (dk_at dksX1_rings_0 23 rfl rfl)
theorem dX1_rings_24 : decode cX1_rings 24 = .ok (.getfield 7, 3) := dk_180 0 7 (dk_at dksX1_rings_1 0 rfl rfl)
theorem dX1_rings_27 : decode cX1_rings 27 = .ok (.iload_n 1, 1) := dk_27 (dk_at dksX1_rings_1 3 rfl rfl)
theorem dX1_rings_28 : decode cX1_rings 28 = .ok (.iaload, 1) := dk_46 (dk_at dksX1_rings_1 4 rfl rfl)
theorem dX1_rings_29 : decode cX1_rings 29 = .ok (.iconst 2, 1) := dk_5 (dk_at dksX1_rings_1 5 rfl rfl)
theorem dX1_rings_30 : decode cX1_rings 30 = .ok (.iload_n 2, 1) := dk_28 (dk_at dksX1_rings_1 6 rfl rfl)
theorem dX1_rings_31 : decode cX1_rings 31 = .ok (.imul, 1) := dk_104 (dk_at dksX1_rings_1 7 rfl rfl)
theorem dX1_rings_32 : decode cX1_rings 32 = .ok (.iadd, 1) := dk_96 (dk_at dksX1_rings_1 8 rfl rfl)
theorem dX1_rings_33 : decode cX1_rings 33 = .ok (.aload_n 0, 1) := dk_42 (dk_at dksX1_rings_1 9 rfl rfl)
theorem dX1_rings_34 : decode cX1_rings 34 = .ok (.getfield 13, 3) := dk_180 0 13 (dk_at dksX1_rings_1 10 rfl rfl)
theorem dX1_rings_37 : decode cX1_rings 37 = .ok (.iload_n 1, 1) := dk_27 (dk_at dksX1_rings_1 13 rfl rfl)
theorem dX1_rings_38 : decode cX1_rings 38 = .ok (.iaload, 1) := dk_46 (dk_at dksX1_rings_1 14 rfl rfl)
theorem dX1_rings_39 : decode cX1_rings 39 = .ok (.isub, 1) := dk_100 (dk_at dksX1_rings_1 15 rfl rfl)
theorem dX1_rings_40 : decode cX1_rings 40 = .ok (.invokestatic 111, 3) := dk_184 0 111 (dk_at dksX1_rings_1 16 rfl rfl)
theorem dX1_rings_43 : decode cX1_rings 43 = .ok (.goto 28, 3) := dk_167 0 28 (dk_at dksX1_rings_1 19 rfl rfl)
theorem dX1_rings_46 : decode cX1_rings 46 = .ok (.aload_n 0, 1) := dk_42 (dk_at dksX1_rings_1 22 rfl rfl)
theorem dX1_rings_47 : decode cX1_rings 47 = .ok (.getfield 36, 3) := dk_180 0 36 (dk_at dksX1_rings_2 0 rfl rfl)
theorem dX1_rings_50 : decode cX1_rings 50 = .ok (.iconst 1, 1) := dk_4 (dk_at dksX1_rings_2 3 rfl rfl)
theorem dX1_rings_51 : decode cX1_rings 51 = .ok (.if_icmp .ne 18, 3) := dk_160 0 18 (dk_at dksX1_rings_2 4 rfl rfl)
theorem dX1_rings_54 : decode cX1_rings 54 = .ok (.iload_n 3, 1) := dk_29 (dk_at dksX1_rings_2 7 rfl rfl)
theorem dX1_rings_55 : decode cX1_rings 55 = .ok (.ifCond .ne 14, 3) := dk_154 0 14 (dk_at dksX1_rings_2 8 rfl rfl)
theorem dX1_rings_58 : decode cX1_rings 58 = .ok (.aload_n 0, 1) := dk_42 (dk_at dksX1_rings_2 11 rfl rfl)
theorem dX1_rings_59 : decode cX1_rings 59 = .ok (.getfield 7, 3) := dk_180 0 7 (dk_at dksX1_rings_2 12 rfl rfl)
theorem dX1_rings_62 : decode cX1_rings 62 = .ok (.iload_n 1, 1) := dk_27 (dk_at dksX1_rings_2 15 rfl rfl)
theorem dX1_rings_63 : decode cX1_rings 63 = .ok (.iaload, 1) := dk_46 (dk_at dksX1_rings_2 16 rfl rfl)
theorem dX1_rings_64 : decode cX1_rings 64 = .ok (.iconst 2, 1) := dk_5 (dk_at dksX1_rings_2 17 rfl rfl)
theorem dX1_rings_65 : decode cX1_rings 65 = .ok (.idiv, 1) := dk_108 (dk_at dksX1_rings_2 18 rfl rfl)
theorem dX1_rings_66 : decode cX1_rings 66 = .ok (.goto 5, 3) := dk_167 0 5 (dk_at dksX1_rings_2 19 rfl rfl)
theorem dX1_rings_69 : decode cX1_rings 69 = .ok (.iload 4, 2) := dk_21 4 (dk_at dksX1_rings_2 22 rfl rfl)
theorem dX1_rings_71 : decode cX1_rings 71 = .ok (.ireturn, 1) := dk_172 (dk_at dksX1_rings_3 0 rfl rfl)
abbrev cX1_cracks : ByteArray := prog_29_method_4_code
def yX1_cracks : MethodName := ⟨RX1, "cracks", "(IIII)Z"⟩
def dkwX1_cracks_4 : List UInt8 := [180, 0, 7, 27, 46, 164, 0, 7, 4, 167, 0, 4, 3, 172]
abbrev dktX1_cracks_4 : List UInt8 := dkwX1_cracks_4 ++ []
def dkwX1_cracks_3 : List UInt8 := [167, 0, 37, 3, 167, 0, 33, 42, 180, 0, 42, 6, 160, 0, 24, 21, 4, 154, 0, 19, 5, 29, 104, 42]
abbrev dktX1_cracks_3 : List UInt8 := dkwX1_cracks_3 ++ dktX1_cracks_4
def dkwX1_cracks_2 : List UInt8 := [167, 0, 60, 3, 167, 0, 56, 42, 180, 0, 42, 5, 160, 0, 18, 28, 16, 7, 112, 154, 0, 7, 4]
abbrev dktX1_cracks_2 : List UInt8 := dkwX1_cracks_2 ++ dktX1_cracks_3
def dkwX1_cracks_1 : List UInt8 := [180, 0, 42, 4, 160, 0, 27, 29, 16, 12, 164, 0, 17, 42, 180, 0, 13, 27, 46, 7, 162, 0, 7, 4]
abbrev dktX1_cracks_1 : List UInt8 := dkwX1_cracks_1 ++ dktX1_cracks_2
def dkwX1_cracks_0 : List UInt8 := [42, 180, 0, 42, 154, 0, 17, 28, 16, 70, 164, 0, 7, 4, 167, 0, 92, 3, 167, 0, 88, 42]
abbrev dktX1_cracks_0 : List UInt8 := dkwX1_cracks_0 ++ dktX1_cracks_1
theorem dksX1_cracks_0 : cX1_cracks.data.toList.drop 0 = dktX1_cracks_0 := by decide +kernel
theorem dksX1_cracks_1 : cX1_cracks.data.toList.drop 22 = dktX1_cracks_1 := dk_seg dksX1_cracks_0 22 rfl rfl
theorem dksX1_cracks_2 : cX1_cracks.data.toList.drop 46 = dktX1_cracks_2 := dk_seg dksX1_cracks_1 24 rfl rfl
theorem dksX1_cracks_3 : cX1_cracks.data.toList.drop 69 = dktX1_cracks_3 := dk_seg dksX1_cracks_2 23 rfl rfl
theorem dksX1_cracks_4 : cX1_cracks.data.toList.drop 93 = dktX1_cracks_4 := dk_seg dksX1_cracks_3 24 rfl rfl
theorem dX1_cracks_0 : decode cX1_cracks 0 = .ok (.aload_n 0, 1) := dk_42 (dk_at dksX1_cracks_0 0 rfl rfl)
theorem dX1_cracks_1 : decode cX1_cracks 1 = .ok (.getfield 42, 3) := dk_180 0 42 (dk_at dksX1_cracks_0 1 rfl rfl)
theorem dX1_cracks_4 : decode cX1_cracks 4 = .ok (.ifCond .ne 17, 3) := dk_154 0 17 (dk_at dksX1_cracks_0 4 rfl rfl)
theorem dX1_cracks_7 : decode cX1_cracks 7 = .ok (.iload_n 2, 1) := dk_28 (dk_at dksX1_cracks_0 7 rfl rfl)
theorem dX1_cracks_8 : decode cX1_cracks 8 = .ok (.bipush 70, 2) := dk_16 70 (dk_at dksX1_cracks_0 8 rfl rfl)
theorem dX1_cracks_10 : decode cX1_cracks 10 = .ok (.if_icmp .le 7, 3) := dk_164 0 7 (dk_at dksX1_cracks_0 10 rfl rfl)
theorem dX1_cracks_13 : decode cX1_cracks 13 = .ok (.iconst 1, 1) := dk_4 (dk_at dksX1_cracks_0 13 rfl rfl)
theorem dX1_cracks_14 : decode cX1_cracks 14 = .ok (.goto 92, 3) := dk_167 0 92 (dk_at dksX1_cracks_0 14 rfl rfl)
theorem dX1_cracks_17 : decode cX1_cracks 17 = .ok (.iconst 0, 1) := dk_3 (dk_at dksX1_cracks_0 17 rfl rfl)
theorem dX1_cracks_18 : decode cX1_cracks 18 = .ok (.goto 88, 3) := dk_167 0 88 (dk_at dksX1_cracks_0 18 rfl rfl)
theorem dX1_cracks_21 : decode cX1_cracks 21 = .ok (.aload_n 0, 1) := dk_42 (dk_at dksX1_cracks_0 21 rfl rfl)
theorem dX1_cracks_22 : decode cX1_cracks 22 = .ok (.getfield 42, 3) := dk_180 0 42 (dk_at dksX1_cracks_1 0 rfl rfl)
theorem dX1_cracks_25 : decode cX1_cracks 25 = .ok (.iconst 1, 1) := dk_4 (dk_at dksX1_cracks_1 3 rfl rfl)
theorem dX1_cracks_26 : decode cX1_cracks 26 = .ok (.if_icmp .ne 27, 3) := dk_160 0 27 (dk_at dksX1_cracks_1 4 rfl rfl)
theorem dX1_cracks_29 : decode cX1_cracks 29 = .ok (.iload_n 3, 1) := dk_29 (dk_at dksX1_cracks_1 7 rfl rfl)
theorem dX1_cracks_30 : decode cX1_cracks 30 = .ok (.bipush 12, 2) := dk_16 12 (dk_at dksX1_cracks_1 8 rfl rfl)
theorem dX1_cracks_32 : decode cX1_cracks 32 = .ok (.if_icmp .le 17, 3) := dk_164 0 17 (dk_at dksX1_cracks_1 10 rfl rfl)
theorem dX1_cracks_35 : decode cX1_cracks 35 = .ok (.aload_n 0, 1) := dk_42 (dk_at dksX1_cracks_1 13 rfl rfl)
theorem dX1_cracks_36 : decode cX1_cracks 36 = .ok (.getfield 13, 3) := dk_180 0 13 (dk_at dksX1_cracks_1 14 rfl rfl)
theorem dX1_cracks_39 : decode cX1_cracks 39 = .ok (.iload_n 1, 1) := dk_27 (dk_at dksX1_cracks_1 17 rfl rfl)
theorem dX1_cracks_40 : decode cX1_cracks 40 = .ok (.iaload, 1) := dk_46 (dk_at dksX1_cracks_1 18 rfl rfl)
theorem dX1_cracks_41 : decode cX1_cracks 41 = .ok (.iconst 4, 1) := dk_7 (dk_at dksX1_cracks_1 19 rfl rfl)
theorem dX1_cracks_42 : decode cX1_cracks 42 = .ok (.if_icmp .ge 7, 3) := dk_162 0 7 (dk_at dksX1_cracks_1 20 rfl rfl)
theorem dX1_cracks_45 : decode cX1_cracks 45 = .ok (.iconst 1, 1) := dk_4 (dk_at dksX1_cracks_1 23 rfl rfl)
theorem dX1_cracks_46 : decode cX1_cracks 46 = .ok (.goto 60, 3) := dk_167 0 60 (dk_at dksX1_cracks_2 0 rfl rfl)
theorem dX1_cracks_49 : decode cX1_cracks 49 = .ok (.iconst 0, 1) := dk_3 (dk_at dksX1_cracks_2 3 rfl rfl)
theorem dX1_cracks_50 : decode cX1_cracks 50 = .ok (.goto 56, 3) := dk_167 0 56 (dk_at dksX1_cracks_2 4 rfl rfl)
theorem dX1_cracks_53 : decode cX1_cracks 53 = .ok (.aload_n 0, 1) := dk_42 (dk_at dksX1_cracks_2 7 rfl rfl)
theorem dX1_cracks_54 : decode cX1_cracks 54 = .ok (.getfield 42, 3) := dk_180 0 42 (dk_at dksX1_cracks_2 8 rfl rfl)
theorem dX1_cracks_57 : decode cX1_cracks 57 = .ok (.iconst 2, 1) := dk_5 (dk_at dksX1_cracks_2 11 rfl rfl)
theorem dX1_cracks_58 : decode cX1_cracks 58 = .ok (.if_icmp .ne 18, 3) := dk_160 0 18 (dk_at dksX1_cracks_2 12 rfl rfl)
theorem dX1_cracks_61 : decode cX1_cracks 61 = .ok (.iload_n 2, 1) := dk_28 (dk_at dksX1_cracks_2 15 rfl rfl)
theorem dX1_cracks_62 : decode cX1_cracks 62 = .ok (.bipush 7, 2) := dk_16 7 (dk_at dksX1_cracks_2 16 rfl rfl)
theorem dX1_cracks_64 : decode cX1_cracks 64 = .ok (.irem, 1) := dk_112 (dk_at dksX1_cracks_2 18 rfl rfl)
theorem dX1_cracks_65 : decode cX1_cracks 65 = .ok (.ifCond .ne 7, 3) := dk_154 0 7 (dk_at dksX1_cracks_2 19 rfl rfl)
theorem dX1_cracks_68 : decode cX1_cracks 68 = .ok (.iconst 1, 1) := dk_4 (dk_at dksX1_cracks_2 22 rfl rfl)
theorem dX1_cracks_69 : decode cX1_cracks 69 = .ok (.goto 37, 3) := dk_167 0 37 (dk_at dksX1_cracks_3 0 rfl rfl)
theorem dX1_cracks_72 : decode cX1_cracks 72 = .ok (.iconst 0, 1) := dk_3 (dk_at dksX1_cracks_3 3 rfl rfl)
theorem dX1_cracks_73 : decode cX1_cracks 73 = .ok (.goto 33, 3) := dk_167 0 33 (dk_at dksX1_cracks_3 4 rfl rfl)
theorem dX1_cracks_76 : decode cX1_cracks 76 = .ok (.aload_n 0, 1) := dk_42 (dk_at dksX1_cracks_3 7 rfl rfl)
theorem dX1_cracks_77 : decode cX1_cracks 77 = .ok (.getfield 42, 3) := dk_180 0 42 (dk_at dksX1_cracks_3 8 rfl rfl)
theorem dX1_cracks_80 : decode cX1_cracks 80 = .ok (.iconst 3, 1) := dk_6 (dk_at dksX1_cracks_3 11 rfl rfl)
theorem dX1_cracks_81 : decode cX1_cracks 81 = .ok (.if_icmp .ne 24, 3) := dk_160 0 24 (dk_at dksX1_cracks_3 12 rfl rfl)
theorem dX1_cracks_84 : decode cX1_cracks 84 = .ok (.iload 4, 2) := dk_21 4 (dk_at dksX1_cracks_3 15 rfl rfl)
theorem dX1_cracks_86 : decode cX1_cracks 86 = .ok (.ifCond .ne 19, 3) := dk_154 0 19 (dk_at dksX1_cracks_3 17 rfl rfl)
theorem dX1_cracks_89 : decode cX1_cracks 89 = .ok (.iconst 2, 1) := dk_5 (dk_at dksX1_cracks_3 20 rfl rfl)
theorem dX1_cracks_90 : decode cX1_cracks 90 = .ok (.iload_n 3, 1) := dk_29 (dk_at dksX1_cracks_3 21 rfl rfl)
theorem dX1_cracks_91 : decode cX1_cracks 91 = .ok (.imul, 1) := dk_104 (dk_at dksX1_cracks_3 22 rfl rfl)
theorem dX1_cracks_92 : decode cX1_cracks 92 = .ok (.aload_n 0, 1) := dk_42 (dk_at dksX1_cracks_3 23 rfl rfl)
theorem dX1_cracks_93 : decode cX1_cracks 93 = .ok (.getfield 7, 3) := dk_180 0 7 (dk_at dksX1_cracks_4 0 rfl rfl)
theorem dX1_cracks_96 : decode cX1_cracks 96 = .ok (.iload_n 1, 1) := dk_27 (dk_at dksX1_cracks_4 3 rfl rfl)
theorem dX1_cracks_97 : decode cX1_cracks 97 = .ok (.iaload, 1) := dk_46 (dk_at dksX1_cracks_4 4 rfl rfl)
theorem dX1_cracks_98 : decode cX1_cracks 98 = .ok (.if_icmp .le 7, 3) := dk_164 0 7 (dk_at dksX1_cracks_4 5 rfl rfl)
theorem dX1_cracks_101 : decode cX1_cracks 101 = .ok (.iconst 1, 1) := dk_4 (dk_at dksX1_cracks_4 8 rfl rfl)
theorem dX1_cracks_102 : decode cX1_cracks 102 = .ok (.goto 4, 3) := dk_167 0 4 (dk_at dksX1_cracks_4 9 rfl rfl)
theorem dX1_cracks_105 : decode cX1_cracks 105 = .ok (.iconst 0, 1) := dk_3 (dk_at dksX1_cracks_4 12 rfl rfl)
theorem dX1_cracks_106 : decode cX1_cracks 106 = .ok (.ireturn, 1) := dk_172 (dk_at dksX1_cracks_4 13 rfl rfl)
abbrev cX1_sticks : ByteArray := prog_29_method_5_code
def yX1_sticks : MethodName := ⟨RX1, "sticks", "(IIII)Z"⟩
def dkwX1_sticks_4 : List UInt8 := [160, 0, 18, 21, 5, 16, 8, 161, 0, 7, 29, 154, 0, 7, 4, 167, 0, 4, 3, 172]
abbrev dktX1_sticks_4 : List UInt8 := dkwX1_sticks_4 ++ []
def dkwX1_sticks_3 : List UInt8 := [160, 0, 18, 29, 6, 112, 4, 160, 0, 7, 4, 167, 0, 31, 3, 167, 0, 27, 42, 180, 0, 48, 6]
abbrev dktX1_sticks_3 : List UInt8 := dkwX1_sticks_3 ++ dktX1_sticks_4
def dkwX1_sticks_2 : List UInt8 := [162, 0, 14, 21, 5, 16, 6, 164, 0, 7, 4, 167, 0, 54, 3, 167, 0, 50, 42, 180, 0, 48, 5]
abbrev dktX1_sticks_2 : List UInt8 := dkwX1_sticks_2 ++ dktX1_sticks_3
def dkwX1_sticks_1 : List UInt8 := [162, 0, 7, 4, 167, 0, 83, 3, 167, 0, 79, 42, 180, 0, 48, 4, 160, 0, 24, 29, 21, 4]
abbrev dktX1_sticks_1 : List UInt8 := dkwX1_sticks_1 ++ dktX1_sticks_2
def dkwX1_sticks_0 : List UInt8 := [42, 180, 0, 13, 27, 46, 42, 180, 0, 13, 28, 46, 96, 54, 5, 42, 180, 0, 48, 154, 0, 16, 29, 8]
abbrev dktX1_sticks_0 : List UInt8 := dkwX1_sticks_0 ++ dktX1_sticks_1
theorem dksX1_sticks_0 : cX1_sticks.data.toList.drop 0 = dktX1_sticks_0 := by decide +kernel
theorem dksX1_sticks_1 : cX1_sticks.data.toList.drop 24 = dktX1_sticks_1 := dk_seg dksX1_sticks_0 24 rfl rfl
theorem dksX1_sticks_2 : cX1_sticks.data.toList.drop 46 = dktX1_sticks_2 := dk_seg dksX1_sticks_1 22 rfl rfl
theorem dksX1_sticks_3 : cX1_sticks.data.toList.drop 69 = dktX1_sticks_3 := dk_seg dksX1_sticks_2 23 rfl rfl
theorem dksX1_sticks_4 : cX1_sticks.data.toList.drop 92 = dktX1_sticks_4 := dk_seg dksX1_sticks_3 23 rfl rfl
theorem dX1_sticks_0 : decode cX1_sticks 0 = .ok (.aload_n 0, 1) := dk_42 (dk_at dksX1_sticks_0 0 rfl rfl)
theorem dX1_sticks_1 : decode cX1_sticks 1 = .ok (.getfield 13, 3) := dk_180 0 13 (dk_at dksX1_sticks_0 1 rfl rfl)
theorem dX1_sticks_4 : decode cX1_sticks 4 = .ok (.iload_n 1, 1) := dk_27 (dk_at dksX1_sticks_0 4 rfl rfl)
theorem dX1_sticks_5 : decode cX1_sticks 5 = .ok (.iaload, 1) := dk_46 (dk_at dksX1_sticks_0 5 rfl rfl)
theorem dX1_sticks_6 : decode cX1_sticks 6 = .ok (.aload_n 0, 1) := dk_42 (dk_at dksX1_sticks_0 6 rfl rfl)
theorem dX1_sticks_7 : decode cX1_sticks 7 = .ok (.getfield 13, 3) := dk_180 0 13 (dk_at dksX1_sticks_0 7 rfl rfl)
theorem dX1_sticks_10 : decode cX1_sticks 10 = .ok (.iload_n 2, 1) := dk_28 (dk_at dksX1_sticks_0 10 rfl rfl)
theorem dX1_sticks_11 : decode cX1_sticks 11 = .ok (.iaload, 1) := dk_46 (dk_at dksX1_sticks_0 11 rfl rfl)
theorem dX1_sticks_12 : decode cX1_sticks 12 = .ok (.iadd, 1) := dk_96 (dk_at dksX1_sticks_0 12 rfl rfl)
theorem dX1_sticks_13 : decode cX1_sticks 13 = .ok (.istore 5, 2) := dk_54 5 (dk_at dksX1_sticks_0 13 rfl rfl)
theorem dX1_sticks_15 : decode cX1_sticks 15 = .ok (.aload_n 0, 1) := dk_42 (dk_at dksX1_sticks_0 15 rfl rfl)
theorem dX1_sticks_16 : decode cX1_sticks 16 = .ok (.getfield 48, 3) := dk_180 0 48 (dk_at dksX1_sticks_0 16 rfl rfl)
theorem dX1_sticks_19 : decode cX1_sticks 19 = .ok (.ifCond .ne 16, 3) := dk_154 0 16 (dk_at dksX1_sticks_0 19 rfl rfl)
theorem dX1_sticks_22 : decode cX1_sticks 22 = .ok (.iload_n 3, 1) := dk_29 (dk_at dksX1_sticks_0 22 rfl rfl)
theorem dX1_sticks_23 : decode cX1_sticks 23 = .ok (.iconst 5, 1) := dk_8 (dk_at dksX1_sticks_0 23 rfl rfl)
theorem dX1_sticks_24 : decode cX1_sticks 24 = .ok (.if_icmp .ge 7, 3) := dk_162 0 7 (dk_at dksX1_sticks_1 0 rfl rfl)
theorem dX1_sticks_27 : decode cX1_sticks 27 = .ok (.iconst 1, 1) := dk_4 (dk_at dksX1_sticks_1 3 rfl rfl)
theorem dX1_sticks_28 : decode cX1_sticks 28 = .ok (.goto 83, 3) := dk_167 0 83 (dk_at dksX1_sticks_1 4 rfl rfl)
theorem dX1_sticks_31 : decode cX1_sticks 31 = .ok (.iconst 0, 1) := dk_3 (dk_at dksX1_sticks_1 7 rfl rfl)
theorem dX1_sticks_32 : decode cX1_sticks 32 = .ok (.goto 79, 3) := dk_167 0 79 (dk_at dksX1_sticks_1 8 rfl rfl)
theorem dX1_sticks_35 : decode cX1_sticks 35 = .ok (.aload_n 0, 1) := dk_42 (dk_at dksX1_sticks_1 11 rfl rfl)
theorem dX1_sticks_36 : decode cX1_sticks 36 = .ok (.getfield 48, 3) := dk_180 0 48 (dk_at dksX1_sticks_1 12 rfl rfl)
theorem dX1_sticks_39 : decode cX1_sticks 39 = .ok (.iconst 1, 1) := dk_4 (dk_at dksX1_sticks_1 15 rfl rfl)
theorem dX1_sticks_40 : decode cX1_sticks 40 = .ok (.if_icmp .ne 24, 3) := dk_160 0 24 (dk_at dksX1_sticks_1 16 rfl rfl)
theorem dX1_sticks_43 : decode cX1_sticks 43 = .ok (.iload_n 3, 1) := dk_29 (dk_at dksX1_sticks_1 19 rfl rfl)
theorem dX1_sticks_44 : decode cX1_sticks 44 = .ok (.iload 4, 2) := dk_21 4 (dk_at dksX1_sticks_1 20 rfl rfl)
theorem dX1_sticks_46 : decode cX1_sticks 46 = .ok (.if_icmp .ge 14, 3) := dk_162 0 14 (dk_at dksX1_sticks_2 0 rfl rfl)
theorem dX1_sticks_49 : decode cX1_sticks 49 = .ok (.iload 5, 2) := dk_21 5 (dk_at dksX1_sticks_2 3 rfl rfl)
theorem dX1_sticks_51 : decode cX1_sticks 51 = .ok (.bipush 6, 2) := dk_16 6 (dk_at dksX1_sticks_2 5 rfl rfl)
theorem dX1_sticks_53 : decode cX1_sticks 53 = .ok (.if_icmp .le 7, 3) := dk_164 0 7 (dk_at dksX1_sticks_2 7 rfl rfl)
theorem dX1_sticks_56 : decode cX1_sticks 56 = .ok (.iconst 1, 1) := dk_4 (dk_at dksX1_sticks_2 10 rfl rfl)
theorem dX1_sticks_57 : decode cX1_sticks 57 = .ok (.goto 54, 3) := dk_167 0 54 (dk_at dksX1_sticks_2 11 rfl rfl)
theorem dX1_sticks_60 : decode cX1_sticks 60 = .ok (.iconst 0, 1) := dk_3 (dk_at dksX1_sticks_2 14 rfl rfl)
theorem dX1_sticks_61 : decode cX1_sticks 61 = .ok (.goto 50, 3) := dk_167 0 50 (dk_at dksX1_sticks_2 15 rfl rfl)
theorem dX1_sticks_64 : decode cX1_sticks 64 = .ok (.aload_n 0, 1) := dk_42 (dk_at dksX1_sticks_2 18 rfl rfl)
theorem dX1_sticks_65 : decode cX1_sticks 65 = .ok (.getfield 48, 3) := dk_180 0 48 (dk_at dksX1_sticks_2 19 rfl rfl)
theorem dX1_sticks_68 : decode cX1_sticks 68 = .ok (.iconst 2, 1) := dk_5 (dk_at dksX1_sticks_2 22 rfl rfl)
theorem dX1_sticks_69 : decode cX1_sticks 69 = .ok (.if_icmp .ne 18, 3) := dk_160 0 18 (dk_at dksX1_sticks_3 0 rfl rfl)
theorem dX1_sticks_72 : decode cX1_sticks 72 = .ok (.iload_n 3, 1) := dk_29 (dk_at dksX1_sticks_3 3 rfl rfl)
theorem dX1_sticks_73 : decode cX1_sticks 73 = .ok (.iconst 3, 1) := dk_6 (dk_at dksX1_sticks_3 4 rfl rfl)
theorem dX1_sticks_74 : decode cX1_sticks 74 = .ok (.irem, 1) := dk_112 (dk_at dksX1_sticks_3 5 rfl rfl)
theorem dX1_sticks_75 : decode cX1_sticks 75 = .ok (.iconst 1, 1) := dk_4 (dk_at dksX1_sticks_3 6 rfl rfl)
theorem dX1_sticks_76 : decode cX1_sticks 76 = .ok (.if_icmp .ne 7, 3) := dk_160 0 7 (dk_at dksX1_sticks_3 7 rfl rfl)
theorem dX1_sticks_79 : decode cX1_sticks 79 = .ok (.iconst 1, 1) := dk_4 (dk_at dksX1_sticks_3 10 rfl rfl)
theorem dX1_sticks_80 : decode cX1_sticks 80 = .ok (.goto 31, 3) := dk_167 0 31 (dk_at dksX1_sticks_3 11 rfl rfl)
theorem dX1_sticks_83 : decode cX1_sticks 83 = .ok (.iconst 0, 1) := dk_3 (dk_at dksX1_sticks_3 14 rfl rfl)
theorem dX1_sticks_84 : decode cX1_sticks 84 = .ok (.goto 27, 3) := dk_167 0 27 (dk_at dksX1_sticks_3 15 rfl rfl)
theorem dX1_sticks_87 : decode cX1_sticks 87 = .ok (.aload_n 0, 1) := dk_42 (dk_at dksX1_sticks_3 18 rfl rfl)
theorem dX1_sticks_88 : decode cX1_sticks 88 = .ok (.getfield 48, 3) := dk_180 0 48 (dk_at dksX1_sticks_3 19 rfl rfl)
theorem dX1_sticks_91 : decode cX1_sticks 91 = .ok (.iconst 3, 1) := dk_6 (dk_at dksX1_sticks_3 22 rfl rfl)
theorem dX1_sticks_92 : decode cX1_sticks 92 = .ok (.if_icmp .ne 18, 3) := dk_160 0 18 (dk_at dksX1_sticks_4 0 rfl rfl)
theorem dX1_sticks_95 : decode cX1_sticks 95 = .ok (.iload 5, 2) := dk_21 5 (dk_at dksX1_sticks_4 3 rfl rfl)
theorem dX1_sticks_97 : decode cX1_sticks 97 = .ok (.bipush 8, 2) := dk_16 8 (dk_at dksX1_sticks_4 5 rfl rfl)
theorem dX1_sticks_99 : decode cX1_sticks 99 = .ok (.if_icmp .lt 7, 3) := dk_161 0 7 (dk_at dksX1_sticks_4 7 rfl rfl)
theorem dX1_sticks_102 : decode cX1_sticks 102 = .ok (.iload_n 3, 1) := dk_29 (dk_at dksX1_sticks_4 10 rfl rfl)
theorem dX1_sticks_103 : decode cX1_sticks 103 = .ok (.ifCond .ne 7, 3) := dk_154 0 7 (dk_at dksX1_sticks_4 11 rfl rfl)
theorem dX1_sticks_106 : decode cX1_sticks 106 = .ok (.iconst 1, 1) := dk_4 (dk_at dksX1_sticks_4 14 rfl rfl)
theorem dX1_sticks_107 : decode cX1_sticks 107 = .ok (.goto 4, 3) := dk_167 0 4 (dk_at dksX1_sticks_4 15 rfl rfl)
theorem dX1_sticks_110 : decode cX1_sticks 110 = .ok (.iconst 0, 1) := dk_3 (dk_at dksX1_sticks_4 18 rfl rfl)
theorem dX1_sticks_111 : decode cX1_sticks 111 = .ok (.ireturn, 1) := dk_172 (dk_at dksX1_sticks_4 19 rfl rfl)
theorem q77 : (Jvm.Cond.initialized "KilnBenchLaw$All") ∈ lw_all := lw_g (lw_at lw_m1 1 rfl) rfl
theorem q730 : (Jvm.Cond.selects "KilnBenchLaw$All" ({ cls := "java/lang/Object", name := "getClass", desc := "()Ljava/lang/Class;" } : Jvm.MethodName) ({ cls := "java/lang/Object", name := "getClass", desc := "()Ljava/lang/Class;" } : Jvm.MethodName)) ∈ lw_all := lw_g (lw_at lw_m3 174 rfl) rfl
theorem q1103 : (Jvm.Cond.instantiable "KilnBenchLaw$All" (12 : Nat)) ∈ lw_all := lw_g (lw_at lw_m5 67 rfl) rfl
theorem q1105 : (Jvm.Cond.instanceMethod ({ cls := "KilnBenchLaw$All", name := "<init>", desc := "([I)V" } : Jvm.MethodName)) ∈ lw_all := lw_g (lw_at lw_m5 69 rfl) rfl
theorem q1106 : (Jvm.Cond.code ({ cls := "KilnBenchLaw$All", name := "<init>", desc := "([I)V" } : Jvm.MethodName) prog_29_method_1_code (5 : Nat) (Option.none : Option Jvm.ClassFile.FieldType)) ∈ lw_all := lw_g (lw_at lw_m5 70 rfl) rfl
theorem q1107 : (Jvm.Cond.methodLink "KilnBenchLaw$All" (1 : Nat) ({ cls := "java/lang/Object", name := "<init>", desc := "()V" } : Jvm.MethodName)) ∈ lw_all := lw_g (lw_at lw_m5 71 rfl) rfl
theorem q1108 : (Jvm.Cond.methodLinkNest "KilnBenchLaw$All" (19 : Nat) ({ cls := "KilnBenchLaw", name := "pick", desc := "([III)I" } : Jvm.MethodName) "KilnBenchLaw") ∈ lw_tbl := lw_at lw_m5 72 rfl
theorem q1117 : (Jvm.Cond.fieldLinkNest "KilnBenchLaw$All" (32 : Nat) "KilnBenchLaw" "TEMPER" "[Ljava/lang/String;" "KilnBenchLaw") ∈ lw_tbl := lw_at lw_m5 81 rfl
theorem q1119 : (Jvm.Cond.fieldLinkNest "KilnBenchLaw$All" (39 : Nat) "KilnBenchLaw" "CRACK" "[Ljava/lang/String;" "KilnBenchLaw") ∈ lw_tbl := lw_at lw_m5 83 rfl
theorem q1121 : (Jvm.Cond.fieldLinkNest "KilnBenchLaw$All" (45 : Nat) "KilnBenchLaw" "STICK" "[Ljava/lang/String;" "KilnBenchLaw") ∈ lw_tbl := lw_at lw_m5 85 rfl
theorem q1123 : (Jvm.Cond.fieldLinkNest "KilnBenchLaw$All" (51 : Nat) "KilnBenchLaw" "BURN" "[Ljava/lang/String;" "KilnBenchLaw") ∈ lw_tbl := lw_at lw_m5 87 rfl
theorem q1125 : (Jvm.Cond.fieldLink "KilnBenchLaw$All" (25 : Nat) "KilnBenchLaw$All" "children" "I") ∈ lw_all := lw_g (lw_at lw_m5 89 rfl) rfl
theorem q1128 : (Jvm.Cond.fieldLink "KilnBenchLaw$All" (29 : Nat) "KilnBenchLaw$All" "kilns" "I") ∈ lw_all := lw_g (lw_at lw_m5 92 rfl) rfl
theorem q1131 : (Jvm.Cond.fieldLink "KilnBenchLaw$All" (36 : Nat) "KilnBenchLaw$All" "temper" "I") ∈ lw_all := lw_g (lw_at lw_m5 95 rfl) rfl
theorem q1133 : (Jvm.Cond.fieldLink "KilnBenchLaw$All" (42 : Nat) "KilnBenchLaw$All" "crack" "I") ∈ lw_all := lw_g (lw_at lw_m5 97 rfl) rfl
theorem q1134 : (Jvm.Cond.fieldLink "KilnBenchLaw$All" (48 : Nat) "KilnBenchLaw$All" "stick" "I") ∈ lw_all := lw_g (lw_at lw_m5 98 rfl) rfl
theorem q1135 : (Jvm.Cond.fieldLink "KilnBenchLaw$All" (54 : Nat) "KilnBenchLaw$All" "burn" "I") ∈ lw_all := lw_g (lw_at lw_m5 99 rfl) rfl
theorem q1136 : (Jvm.Cond.fieldLink "KilnBenchLaw$All" (57 : Nat) "KilnBenchLaw$All" "fuel" "I") ∈ lw_all := lw_g (lw_at lw_m5 100 rfl) rfl
theorem q1138 : (Jvm.Cond.fieldLink "KilnBenchLaw$All" (60 : Nat) "KilnBenchLaw$All" "load" "I") ∈ lw_all := lw_g (lw_at lw_m5 102 rfl) rfl
theorem q1140 : (Jvm.Cond.fieldLink "KilnBenchLaw$All" (63 : Nat) "KilnBenchLaw$All" "wind" "I") ∈ lw_all := lw_g (lw_at lw_m5 104 rfl) rfl
theorem q1142 : (Jvm.Cond.fieldLink "KilnBenchLaw$All" (7 : Nat) "KilnBenchLaw$All" "clay" "[I") ∈ lw_all := lw_g (lw_at lw_m5 106 rfl) rfl
theorem q1144 : (Jvm.Cond.fieldLink "KilnBenchLaw$All" (13 : Nat) "KilnBenchLaw$All" "grit" "[I") ∈ lw_all := lw_g (lw_at lw_m5 108 rfl) rfl
theorem q1146 : (Jvm.Cond.fieldLink "KilnBenchLaw$All" (16 : Nat) "KilnBenchLaw$All" "room" "[I") ∈ lw_all := lw_g (lw_at lw_m5 110 rfl) rfl
theorem q1148 : (Jvm.Cond.laysFinal "KilnBenchLaw$All" "KilnBenchLaw$All" "children" "I") ∈ lw_all := lw_g (lw_at lw_m5 112 rfl) rfl
theorem q1149 : (Jvm.Cond.soleField "KilnBenchLaw$All" "children") ∈ lw_all := lw_g (lw_at lw_m5 113 rfl) rfl
theorem q1150 : (Jvm.Cond.laysFinal "KilnBenchLaw$All" "KilnBenchLaw$All" "kilns" "I") ∈ lw_all := lw_g (lw_at lw_m5 114 rfl) rfl
theorem q1151 : (Jvm.Cond.soleField "KilnBenchLaw$All" "kilns") ∈ lw_all := lw_g (lw_at lw_m5 115 rfl) rfl
theorem q1152 : (Jvm.Cond.laysFinal "KilnBenchLaw$All" "KilnBenchLaw$All" "temper" "I") ∈ lw_all := lw_g (lw_at lw_m5 116 rfl) rfl
theorem q1153 : (Jvm.Cond.soleField "KilnBenchLaw$All" "temper") ∈ lw_all := lw_g (lw_at lw_m5 117 rfl) rfl
theorem q1154 : (Jvm.Cond.laysFinal "KilnBenchLaw$All" "KilnBenchLaw$All" "crack" "I") ∈ lw_all := lw_g (lw_at lw_m5 118 rfl) rfl
theorem q1155 : (Jvm.Cond.soleField "KilnBenchLaw$All" "crack") ∈ lw_all := lw_g (lw_at lw_m5 119 rfl) rfl
theorem q1156 : (Jvm.Cond.laysFinal "KilnBenchLaw$All" "KilnBenchLaw$All" "stick" "I") ∈ lw_all := lw_g (lw_at lw_m5 120 rfl) rfl
theorem q1157 : (Jvm.Cond.soleField "KilnBenchLaw$All" "stick") ∈ lw_all := lw_g (lw_at lw_m5 121 rfl) rfl
theorem q1158 : (Jvm.Cond.laysFinal "KilnBenchLaw$All" "KilnBenchLaw$All" "burn" "I") ∈ lw_all := lw_g (lw_at lw_m5 122 rfl) rfl
theorem q1159 : (Jvm.Cond.soleField "KilnBenchLaw$All" "burn") ∈ lw_all := lw_g (lw_at lw_m5 123 rfl) rfl
theorem q1160 : (Jvm.Cond.laysFinal "KilnBenchLaw$All" "KilnBenchLaw$All" "fuel" "I") ∈ lw_all := lw_g (lw_at lw_m5 124 rfl) rfl
theorem q1161 : (Jvm.Cond.soleField "KilnBenchLaw$All" "fuel") ∈ lw_all := lw_g (lw_at lw_m5 125 rfl) rfl
theorem q1162 : (Jvm.Cond.laysFinal "KilnBenchLaw$All" "KilnBenchLaw$All" "load" "I") ∈ lw_all := lw_g (lw_at lw_m5 126 rfl) rfl
theorem q1163 : (Jvm.Cond.soleField "KilnBenchLaw$All" "load") ∈ lw_all := lw_g (lw_at lw_m5 127 rfl) rfl
theorem q1164 : (Jvm.Cond.laysFinal "KilnBenchLaw$All" "KilnBenchLaw$All" "wind" "I") ∈ lw_all := lw_g (lw_at lw_m5 128 rfl) rfl
theorem q1165 : (Jvm.Cond.soleField "KilnBenchLaw$All" "wind") ∈ lw_all := lw_g (lw_at lw_m5 129 rfl) rfl
theorem q1166 : (Jvm.Cond.laysFinal "KilnBenchLaw$All" "KilnBenchLaw$All" "clay" "[I") ∈ lw_all := lw_g (lw_at lw_m5 130 rfl) rfl
theorem q1167 : (Jvm.Cond.soleField "KilnBenchLaw$All" "clay") ∈ lw_all := lw_g (lw_at lw_m5 131 rfl) rfl
theorem q1168 : (Jvm.Cond.laysFinal "KilnBenchLaw$All" "KilnBenchLaw$All" "grit" "[I") ∈ lw_all := lw_g (lw_at lw_m5 132 rfl) rfl
theorem q1169 : (Jvm.Cond.soleField "KilnBenchLaw$All" "grit") ∈ lw_all := lw_g (lw_at lw_m5 133 rfl) rfl
theorem q1170 : (Jvm.Cond.laysFinal "KilnBenchLaw$All" "KilnBenchLaw$All" "room" "[I") ∈ lw_all := lw_g (lw_at lw_m5 134 rfl) rfl
theorem q1171 : (Jvm.Cond.soleField "KilnBenchLaw$All" "room") ∈ lw_all := lw_g (lw_at lw_m5 135 rfl) rfl
theorem q1172 : (Jvm.Cond.superclass "KilnBenchLaw$All" "java/lang/Object") ∈ lw_all := lw_g (lw_at lw_m5 136 rfl) rfl
theorem q1174 : (Jvm.Cond.instanceMethod ({ cls := "KilnBenchLaw$All", name := "text", desc := "()Ljava/lang/String;" } : Jvm.MethodName)) ∈ lw_all := lw_g (lw_at lw_m5 138 rfl) rfl
theorem q1175 : (Jvm.Cond.selects "KilnBenchLaw$All" ({ cls := "KilnBenchLaw$All", name := "text", desc := "()Ljava/lang/String;" } : Jvm.MethodName) ({ cls := "KilnBenchLaw$All", name := "text", desc := "()Ljava/lang/String;" } : Jvm.MethodName)) ∈ lw_all := lw_g (lw_at lw_m5 139 rfl) rfl
theorem q1176 : (Jvm.Cond.code ({ cls := "KilnBenchLaw$All", name := "text", desc := "()Ljava/lang/String;" } : Jvm.MethodName) prog_29_method_2_code (3 : Nat) (Option.some (Jvm.ClassFile.FieldType.object "java/lang/String"))) ∈ lw_all := lw_g (lw_at lw_m5 140 rfl) rfl
theorem q1177 : (Jvm.Cond.classLink "KilnBenchLaw$All" (66 : Nat) "java/lang/StringBuilder") ∈ lw_all := lw_g (lw_at lw_m5 141 rfl) rfl
theorem q1178 : (Jvm.Cond.methodLink "KilnBenchLaw$All" (68 : Nat) ({ cls := "java/lang/StringBuilder", name := "<init>", desc := "()V" } : Jvm.MethodName)) ∈ lw_all := lw_g (lw_at lw_m5 142 rfl) rfl
theorem q1179 : (Jvm.Cond.stringRef "KilnBenchLaw$All" (69 : Nat) "child c") ∈ lw_tbl := lw_at lw_m5 143 rfl
theorem q1180 : (Jvm.Cond.methodLink "KilnBenchLaw$All" (71 : Nat) ({ cls := "java/lang/StringBuilder", name := "append", desc := "(Ljava/lang/String;)Ljava/lang/StringBuilder;" } : Jvm.MethodName)) ∈ lw_all := lw_g (lw_at lw_m5 144 rfl) rfl
theorem q1219 : (Jvm.Cond.methodLink "KilnBenchLaw$All" (75 : Nat) ({ cls := "java/lang/StringBuilder", name := "append", desc := "(C)Ljava/lang/StringBuilder;" } : Jvm.MethodName)) ∈ lw_all := lw_g (lw_at lw_m5 183 rfl) rfl
theorem q1220 : (Jvm.Cond.stringRef "KilnBenchLaw$All" (78 : Nat) " clay ") ∈ lw_tbl := lw_at lw_m5 184 rfl
theorem q1221 : (Jvm.Cond.methodLink "KilnBenchLaw$All" (80 : Nat) ({ cls := "java/lang/StringBuilder", name := "append", desc := "(I)Ljava/lang/StringBuilder;" } : Jvm.MethodName)) ∈ lw_all := lw_g (lw_at lw_m5 185 rfl) rfl
theorem q1246 : (Jvm.Cond.stringRef "KilnBenchLaw$All" (83 : Nat) " grit ") ∈ lw_tbl := lw_at lw_m5 210 rfl
theorem q1247 : (Jvm.Cond.stringRef "KilnBenchLaw$All" (85 : Nat) "kiln k") ∈ lw_tbl := lw_at lw_m5 211 rfl
theorem q1248 : (Jvm.Cond.stringRef "KilnBenchLaw$All" (87 : Nat) " room ") ∈ lw_tbl := lw_at lw_m5 212 rfl
theorem q1249 : (Jvm.Cond.stringRef "KilnBenchLaw$All" (89 : Nat) "") ∈ lw_tbl := lw_at lw_m5 213 rfl
theorem q1250 : (Jvm.Cond.stringRef "KilnBenchLaw$All" (91 : Nat) "temper ") ∈ lw_tbl := lw_at lw_m5 214 rfl
theorem q1251 : (Jvm.Cond.stringRef "KilnBenchLaw$All" (93 : Nat) ";") ∈ lw_tbl := lw_at lw_m5 215 rfl
theorem q1252 : (Jvm.Cond.methodLink "KilnBenchLaw$All" (95 : Nat) ({ cls := "java/lang/StringBuilder", name := "toString", desc := "()Ljava/lang/String;" } : Jvm.MethodName)) ∈ lw_all := lw_g (lw_at lw_m5 216 rfl) rfl
theorem q1290 : (Jvm.Cond.stringRef "KilnBenchLaw$All" (99 : Nat) "cracks ") ∈ lw_tbl := lw_at lw_m6 14 rfl
theorem q1291 : (Jvm.Cond.stringRef "KilnBenchLaw$All" (101 : Nat) "sticks ") ∈ lw_tbl := lw_at lw_m6 15 rfl
theorem q1292 : (Jvm.Cond.stringRef "KilnBenchLaw$All" (103 : Nat) "burns ") ∈ lw_tbl := lw_at lw_m6 16 rfl
theorem q1293 : (Jvm.Cond.stringRef "KilnBenchLaw$All" (105 : Nat) "fuel ") ∈ lw_tbl := lw_at lw_m6 17 rfl
theorem q1294 : (Jvm.Cond.stringRef "KilnBenchLaw$All" (107 : Nat) "; load ") ∈ lw_tbl := lw_at lw_m6 18 rfl
theorem q1295 : (Jvm.Cond.stringRef "KilnBenchLaw$All" (109 : Nat) "; wind ") ∈ lw_tbl := lw_at lw_m6 19 rfl
theorem q1524 : (Jvm.Cond.instanceMethod ({ cls := "KilnBenchLaw$All", name := "burns", desc := "(IIII)I" } : Jvm.MethodName)) ∈ lw_all := lw_g (lw_at lw_m7 8 rfl) rfl
theorem q1525 : (Jvm.Cond.selects "KilnBenchLaw$All" ({ cls := "KilnBenchLaw$All", name := "burns", desc := "(IIII)I" } : Jvm.MethodName) ({ cls := "KilnBenchLaw$All", name := "burns", desc := "(IIII)I" } : Jvm.MethodName)) ∈ lw_all := lw_g (lw_at lw_m7 9 rfl) rfl
theorem q1526 : (Jvm.Cond.code ({ cls := "KilnBenchLaw$All", name := "burns", desc := "(IIII)I" } : Jvm.MethodName) prog_29_method_6_code (5 : Nat) (Option.some Jvm.ClassFile.FieldType.int)) ∈ lw_all := lw_g (lw_at lw_m7 10 rfl) rfl
theorem q1527 : (Jvm.Cond.methodLink "KilnBenchLaw$All" (115 : Nat) ({ cls := "java/lang/Math", name := "max", desc := "(II)I" } : Jvm.MethodName)) ∈ lw_all := lw_g (lw_at lw_m7 11 rfl) rfl
theorem q1554 : (Jvm.Cond.instanceMethod ({ cls := "KilnBenchLaw$All", name := "rings", desc := "(IIII)I" } : Jvm.MethodName)) ∈ lw_all := lw_g (lw_at lw_m7 38 rfl) rfl
theorem q1555 : (Jvm.Cond.selects "KilnBenchLaw$All" ({ cls := "KilnBenchLaw$All", name := "rings", desc := "(IIII)I" } : Jvm.MethodName) ({ cls := "KilnBenchLaw$All", name := "rings", desc := "(IIII)I" } : Jvm.MethodName)) ∈ lw_all := lw_g (lw_at lw_m7 39 rfl) rfl
theorem q1556 : (Jvm.Cond.code ({ cls := "KilnBenchLaw$All", name := "rings", desc := "(IIII)I" } : Jvm.MethodName) prog_29_method_3_code (5 : Nat) (Option.some Jvm.ClassFile.FieldType.int)) ∈ lw_all := lw_g (lw_at lw_m7 40 rfl) rfl
theorem q1557 : (Jvm.Cond.methodLinkNest "KilnBenchLaw$All" (111 : Nat) ({ cls := "KilnBenchLaw", name := "within", desc := "(I)I" } : Jvm.MethodName) "KilnBenchLaw") ∈ lw_tbl := lw_at lw_m7 41 rfl
theorem q1573 : (Jvm.Cond.instanceMethod ({ cls := "KilnBenchLaw$All", name := "cracks", desc := "(IIII)Z" } : Jvm.MethodName)) ∈ lw_all := lw_g (lw_at lw_m7 57 rfl) rfl
theorem q1574 : (Jvm.Cond.selects "KilnBenchLaw$All" ({ cls := "KilnBenchLaw$All", name := "cracks", desc := "(IIII)Z" } : Jvm.MethodName) ({ cls := "KilnBenchLaw$All", name := "cracks", desc := "(IIII)Z" } : Jvm.MethodName)) ∈ lw_all := lw_g (lw_at lw_m7 58 rfl) rfl
theorem q1575 : (Jvm.Cond.code ({ cls := "KilnBenchLaw$All", name := "cracks", desc := "(IIII)Z" } : Jvm.MethodName) prog_29_method_4_code (5 : Nat) (Option.some Jvm.ClassFile.FieldType.boolean)) ∈ lw_all := lw_g (lw_at lw_m7 59 rfl) rfl
theorem q1868 : (Jvm.Cond.instanceMethod ({ cls := "KilnBenchLaw$All", name := "sticks", desc := "(IIII)Z" } : Jvm.MethodName)) ∈ lw_all := lw_g (lw_at lw_m8 112 rfl) rfl
theorem q1869 : (Jvm.Cond.selects "KilnBenchLaw$All" ({ cls := "KilnBenchLaw$All", name := "sticks", desc := "(IIII)Z" } : Jvm.MethodName) ({ cls := "KilnBenchLaw$All", name := "sticks", desc := "(IIII)Z" } : Jvm.MethodName)) ∈ lw_all := lw_g (lw_at lw_m8 113 rfl) rfl
theorem q1870 : (Jvm.Cond.code ({ cls := "KilnBenchLaw$All", name := "sticks", desc := "(IIII)Z" } : Jvm.MethodName) prog_29_method_5_code (6 : Nat) (Option.some Jvm.ClassFile.FieldType.boolean)) ∈ lw_all := lw_g (lw_at lw_m8 114 rfl) rfl
theorem q2171 : (Jvm.Cond.castable "KilnBenchLaw$All" "java/lang/Object") ∈ lw_tbl := lw_at lw_m9 175 rfl
theorem in_X1 : ∀ w ∈ wsX10, w ∈ lw_all := lw_in wsX10 [1148, 1150, 1152, 1154, 1156, 1158, 1160, 1162, 1164, 1166, 1168, 1170] (by decide +kernel) (by decide +kernel)

/-! KilnBench$Plain -/
set_option maxRecDepth 100000
def RX10 : String := "KilnBench$Plain"
def TX10 : u_T := fun k => match k with
  | _ => ("KilnBench$Plain", "v", "I", true)
def tyX10 : Nat → FieldType := fun k => match k with
  | _ => .int
abbrev wsX100 : List Cond := u_ws RX10 TX10 1
theorem nmX10 : ∀ a, a < 1 → ∀ b, b < 1 → a ≠ b → (TX10 a).2.1 ≠ (TX10 b).2.1 := by decide +kernel
theorem tyX10_ok : ∀ k, k < 1 → parseFieldDescriptor (TX10 k).2.2.1 = some (tyX10 k) := by decide +kernel
abbrev cX10_init : ByteArray := prog_18_method_1_code
def yX10_init : MethodName := ⟨RX10, "<init>", "(I)V"⟩
def dkwX10_init_0 : List UInt8 := [42, 183, 0, 1, 42, 27, 181, 0, 7, 177]
abbrev dktX10_init_0 : List UInt8 := dkwX10_init_0 ++ []
theorem dksX10_init_0 : cX10_init.data.toList.drop 0 = dktX10_init_0 := by decide +kernel
theorem dX10_init_0 : decode cX10_init 0 = .ok (.aload_n 0, 1) := dk_42 (dk_at dksX10_init_0 0 rfl rfl)
theorem dX10_init_1 : decode cX10_init 1 = .ok (.invokespecial 1, 3) := dk_183 0 1 (dk_at dksX10_init_0 1 rfl rfl)
theorem dX10_init_4 : decode cX10_init 4 = .ok (.aload_n 0, 1) := dk_42 (dk_at dksX10_init_0 4 rfl rfl)
theorem dX10_init_5 : decode cX10_init 5 = .ok (.iload_n 1, 1) := dk_27 (dk_at dksX10_init_0 5 rfl rfl)
theorem dX10_init_6 : decode cX10_init 6 = .ok (.putfield 7, 3) := dk_181 0 7 (dk_at dksX10_init_0 6 rfl rfl)
theorem dX10_init_9 : decode cX10_init 9 = .ok (.return_, 1) := dk_177 (dk_at dksX10_init_0 9 rfl rfl)
abbrev cX10_of : ByteArray := prog_18_method_2_code
def yX10_of : MethodName := ⟨RX10, "of", "(LKilnBench$Asking;)J"⟩
def dkwX10_of_0 : List UInt8 := [42, 180, 0, 7, 133, 173]
abbrev dktX10_of_0 : List UInt8 := dkwX10_of_0 ++ []
theorem dksX10_of_0 : cX10_of.data.toList.drop 0 = dktX10_of_0 := by decide +kernel
theorem dX10_of_0 : decode cX10_of 0 = .ok (.aload_n 0, 1) := dk_42 (dk_at dksX10_of_0 0 rfl rfl)
theorem dX10_of_1 : decode cX10_of 1 = .ok (.getfield 7, 3) := dk_180 0 7 (dk_at dksX10_of_0 1 rfl rfl)
theorem dX10_of_4 : decode cX10_of 4 = .ok (.i2l, 1) := dk_133 (dk_at dksX10_of_0 4 rfl rfl)
theorem dX10_of_5 : decode cX10_of 5 = .ok (.lreturn, 1) := dk_173 (dk_at dksX10_of_0 5 rfl rfl)
theorem q104 : (Jvm.Cond.initialized "KilnBench$Plain") ∈ lw_all := lw_g (lw_at lw_m1 28 rfl) rfl
theorem q723 : (Jvm.Cond.selects "KilnBench$Plain" ({ cls := "java/lang/Object", name := "getClass", desc := "()Ljava/lang/Class;" } : Jvm.MethodName) ({ cls := "java/lang/Object", name := "getClass", desc := "()Ljava/lang/Class;" } : Jvm.MethodName)) ∈ lw_all := lw_g (lw_at lw_m3 167 rfl) rfl
theorem q807 : (Jvm.Cond.instantiable "KilnBench$Plain" (1 : Nat)) ∈ lw_all := lw_g (lw_at lw_m4 11 rfl) rfl
theorem q809 : (Jvm.Cond.instanceMethod ({ cls := "KilnBench$Plain", name := "<init>", desc := "(I)V" } : Jvm.MethodName)) ∈ lw_all := lw_g (lw_at lw_m4 13 rfl) rfl
theorem q810 : (Jvm.Cond.code ({ cls := "KilnBench$Plain", name := "<init>", desc := "(I)V" } : Jvm.MethodName) prog_18_method_1_code (2 : Nat) (Option.none : Option Jvm.ClassFile.FieldType)) ∈ lw_all := lw_g (lw_at lw_m4 14 rfl) rfl
theorem q811 : (Jvm.Cond.methodLink "KilnBench$Plain" (1 : Nat) ({ cls := "java/lang/Object", name := "<init>", desc := "()V" } : Jvm.MethodName)) ∈ lw_all := lw_g (lw_at lw_m4 15 rfl) rfl
theorem q812 : (Jvm.Cond.fieldLink "KilnBench$Plain" (7 : Nat) "KilnBench$Plain" "v" "I") ∈ lw_all := lw_g (lw_at lw_m4 16 rfl) rfl
theorem q813 : (Jvm.Cond.laysFinal "KilnBench$Plain" "KilnBench$Plain" "v" "I") ∈ lw_all := lw_g (lw_at lw_m4 17 rfl) rfl
theorem q814 : (Jvm.Cond.soleField "KilnBench$Plain" "v") ∈ lw_all := lw_g (lw_at lw_m4 18 rfl) rfl
theorem q815 : (Jvm.Cond.superclass "KilnBench$Plain" "java/lang/Object") ∈ lw_all := lw_g (lw_at lw_m4 19 rfl) rfl
theorem q1457 : (Jvm.Cond.castable "KilnBench$Plain" "KilnBench$Sum") ∈ lw_tbl := lw_at lw_m6 181 rfl
theorem q1458 : (Jvm.Cond.selects "KilnBench$Plain" ({ cls := "KilnBench$Sum", name := "of", desc := "(LKilnBench$Asking;)J" } : Jvm.MethodName) ({ cls := "KilnBench$Plain", name := "of", desc := "(LKilnBench$Asking;)J" } : Jvm.MethodName)) ∈ lw_all := lw_g (lw_at lw_m6 182 rfl) rfl
theorem q1459 : (Jvm.Cond.unhidden "KilnBench$Plain" "of" "(LKilnBench$Asking;)J") ∈ lw_tbl := lw_at lw_m6 183 rfl
theorem q1460 : (Jvm.Cond.instanceMethod ({ cls := "KilnBench$Plain", name := "of", desc := "(LKilnBench$Asking;)J" } : Jvm.MethodName)) ∈ lw_all := lw_g (lw_at lw_m6 184 rfl) rfl
theorem q1461 : (Jvm.Cond.publicMethod ({ cls := "KilnBench$Plain", name := "of", desc := "(LKilnBench$Asking;)J" } : Jvm.MethodName)) ∈ lw_tbl := lw_at lw_m6 185 rfl
theorem q1462 : (Jvm.Cond.code ({ cls := "KilnBench$Plain", name := "of", desc := "(LKilnBench$Asking;)J" } : Jvm.MethodName) prog_18_method_2_code (2 : Nat) (Option.some Jvm.ClassFile.FieldType.long)) ∈ lw_all := lw_g (lw_at lw_m6 186 rfl) rfl
theorem q2180 : (Jvm.Cond.castable "KilnBench$Plain" "java/lang/Object") ∈ lw_tbl := lw_at lw_m9 184 rfl
theorem in_X10 : ∀ w ∈ wsX100, w ∈ lw_all := lw_in wsX100 [813] (by decide +kernel) (by decide +kernel)

/-! KilnBench$Asked -/
set_option maxRecDepth 100000
def RX11 : String := "KilnBench$Asked"
def TX11 : u_T := fun k => match k with
  | _ => ("KilnBench$Asked", "which", "I", true)
def tyX11 : Nat → FieldType := fun k => match k with
  | _ => .int
abbrev wsX110 : List Cond := u_ws RX11 TX11 1
theorem nmX11 : ∀ a, a < 1 → ∀ b, b < 1 → a ≠ b → (TX11 a).2.1 ≠ (TX11 b).2.1 := by decide +kernel
theorem tyX11_ok : ∀ k, k < 1 → parseFieldDescriptor (TX11 k).2.2.1 = some (tyX11 k) := by decide +kernel
abbrev cX11_init : ByteArray := prog_5_method_1_code
def yX11_init : MethodName := ⟨RX11, "<init>", "(I)V"⟩
def dkwX11_init_0 : List UInt8 := [42, 183, 0, 1, 42, 27, 181, 0, 7, 177]
abbrev dktX11_init_0 : List UInt8 := dkwX11_init_0 ++ []
theorem dksX11_init_0 : cX11_init.data.toList.drop 0 = dktX11_init_0 := by decide +kernel
theorem dX11_init_0 : decode cX11_init 0 = .ok (.aload_n 0, 1) := dk_42 (dk_at dksX11_init_0 0 rfl rfl)
theorem dX11_init_1 : decode cX11_init 1 = .ok (.invokespecial 1, 3) := dk_183 0 1 (dk_at dksX11_init_0 1 rfl rfl)
theorem dX11_init_4 : decode cX11_init 4 = .ok (.aload_n 0, 1) := dk_42 (dk_at dksX11_init_0 4 rfl rfl)
theorem dX11_init_5 : decode cX11_init 5 = .ok (.iload_n 1, 1) := dk_27 (dk_at dksX11_init_0 5 rfl rfl)
theorem dX11_init_6 : decode cX11_init 6 = .ok (.putfield 7, 3) := dk_181 0 7 (dk_at dksX11_init_0 6 rfl rfl)
theorem dX11_init_9 : decode cX11_init 9 = .ok (.return_, 1) := dk_177 (dk_at dksX11_init_0 9 rfl rfl)
abbrev cX11_of : ByteArray := prog_5_method_2_code
def yX11_of : MethodName := ⟨RX11, "of", "(LKilnBench$Asking;)J"⟩
def dkwX11_of_0 : List UInt8 := [43, 180, 0, 13, 42, 180, 0, 7, 47, 173]
abbrev dktX11_of_0 : List UInt8 := dkwX11_of_0 ++ []
theorem dksX11_of_0 : cX11_of.data.toList.drop 0 = dktX11_of_0 := by decide +kernel
theorem dX11_of_0 : decode cX11_of 0 = .ok (.aload_n 1, 1) := dk_43 (dk_at dksX11_of_0 0 rfl rfl)
theorem dX11_of_1 : decode cX11_of 1 = .ok (.getfield 13, 3) := dk_180 0 13 (dk_at dksX11_of_0 1 rfl rfl)
theorem dX11_of_4 : decode cX11_of 4 = .ok (.aload_n 0, 1) := dk_42 (dk_at dksX11_of_0 4 rfl rfl)
theorem dX11_of_5 : decode cX11_of 5 = .ok (.getfield 7, 3) := dk_180 0 7 (dk_at dksX11_of_0 5 rfl rfl)
theorem dX11_of_8 : decode cX11_of 8 = .ok (.laload, 1) := dk_47 (dk_at dksX11_of_0 8 rfl rfl)
theorem dX11_of_9 : decode cX11_of 9 = .ok (.lreturn, 1) := dk_173 (dk_at dksX11_of_0 9 rfl rfl)
theorem q105 : (Jvm.Cond.initialized "KilnBench$Asked") ∈ lw_all := lw_g (lw_at lw_m1 29 rfl) rfl
theorem q217 : (Jvm.Cond.fieldLink "KilnBench$Asked" (13 : Nat) "KilnBench$Asking" "told" "[J") ∈ lw_all := lw_g (lw_at lw_m1 141 rfl) rfl
theorem q713 : (Jvm.Cond.selects "KilnBench$Asked" ({ cls := "java/lang/Object", name := "getClass", desc := "()Ljava/lang/Class;" } : Jvm.MethodName) ({ cls := "java/lang/Object", name := "getClass", desc := "()Ljava/lang/Class;" } : Jvm.MethodName)) ∈ lw_all := lw_g (lw_at lw_m3 157 rfl) rfl
theorem q821 : (Jvm.Cond.laysStatic "KilnBench$Asked" "WORDS" "[Ljava/lang/String;") ∈ lw_tbl := lw_at lw_m4 25 rfl
theorem q823 : (Jvm.Cond.instantiable "KilnBench$Asked" (1 : Nat)) ∈ lw_all := lw_g (lw_at lw_m4 27 rfl) rfl
theorem q825 : (Jvm.Cond.instanceMethod ({ cls := "KilnBench$Asked", name := "<init>", desc := "(I)V" } : Jvm.MethodName)) ∈ lw_all := lw_g (lw_at lw_m4 29 rfl) rfl
theorem q826 : (Jvm.Cond.code ({ cls := "KilnBench$Asked", name := "<init>", desc := "(I)V" } : Jvm.MethodName) prog_5_method_1_code (2 : Nat) (Option.none : Option Jvm.ClassFile.FieldType)) ∈ lw_all := lw_g (lw_at lw_m4 30 rfl) rfl
theorem q827 : (Jvm.Cond.methodLink "KilnBench$Asked" (1 : Nat) ({ cls := "java/lang/Object", name := "<init>", desc := "()V" } : Jvm.MethodName)) ∈ lw_all := lw_g (lw_at lw_m4 31 rfl) rfl
theorem q828 : (Jvm.Cond.fieldLink "KilnBench$Asked" (7 : Nat) "KilnBench$Asked" "which" "I") ∈ lw_all := lw_g (lw_at lw_m4 32 rfl) rfl
theorem q829 : (Jvm.Cond.laysFinal "KilnBench$Asked" "KilnBench$Asked" "which" "I") ∈ lw_all := lw_g (lw_at lw_m4 33 rfl) rfl
theorem q830 : (Jvm.Cond.soleField "KilnBench$Asked" "which") ∈ lw_all := lw_g (lw_at lw_m4 34 rfl) rfl
theorem q831 : (Jvm.Cond.superclass "KilnBench$Asked" "java/lang/Object") ∈ lw_all := lw_g (lw_at lw_m4 35 rfl) rfl
theorem q1416 : (Jvm.Cond.castable "KilnBench$Asked" "KilnBench$Sum") ∈ lw_tbl := lw_at lw_m6 140 rfl
theorem q1417 : (Jvm.Cond.selects "KilnBench$Asked" ({ cls := "KilnBench$Sum", name := "of", desc := "(LKilnBench$Asking;)J" } : Jvm.MethodName) ({ cls := "KilnBench$Asked", name := "of", desc := "(LKilnBench$Asking;)J" } : Jvm.MethodName)) ∈ lw_all := lw_g (lw_at lw_m6 141 rfl) rfl
theorem q1418 : (Jvm.Cond.unhidden "KilnBench$Asked" "of" "(LKilnBench$Asking;)J") ∈ lw_tbl := lw_at lw_m6 142 rfl
theorem q1419 : (Jvm.Cond.instanceMethod ({ cls := "KilnBench$Asked", name := "of", desc := "(LKilnBench$Asking;)J" } : Jvm.MethodName)) ∈ lw_all := lw_g (lw_at lw_m6 143 rfl) rfl
theorem q1420 : (Jvm.Cond.publicMethod ({ cls := "KilnBench$Asked", name := "of", desc := "(LKilnBench$Asking;)J" } : Jvm.MethodName)) ∈ lw_tbl := lw_at lw_m6 144 rfl
theorem q1421 : (Jvm.Cond.code ({ cls := "KilnBench$Asked", name := "of", desc := "(LKilnBench$Asking;)J" } : Jvm.MethodName) prog_5_method_2_code (2 : Nat) (Option.some Jvm.ClassFile.FieldType.long)) ∈ lw_all := lw_g (lw_at lw_m6 145 rfl) rfl
theorem q2181 : (Jvm.Cond.castable "KilnBench$Asked" "java/lang/Object") ∈ lw_tbl := lw_at lw_m9 185 rfl
theorem q2235 : (Jvm.Cond.stringRef "KilnBench$Asked" (21 : Nat) "heat") ∈ lw_tbl := lw_at lw_m9 239 rfl
theorem q2236 : (Jvm.Cond.stringRef "KilnBench$Asked" (23 : Nat) "week") ∈ lw_tbl := lw_at lw_m10 0 rfl
theorem q2237 : (Jvm.Cond.stringRef "KilnBench$Asked" (25 : Nat) "clay") ∈ lw_tbl := lw_at lw_m10 1 rfl
theorem q2238 : (Jvm.Cond.stringRef "KilnBench$Asked" (27 : Nat) "grit") ∈ lw_tbl := lw_at lw_m10 2 rfl
theorem q2239 : (Jvm.Cond.stringRef "KilnBench$Asked" (29 : Nat) "place") ∈ lw_tbl := lw_at lw_m10 3 rfl
theorem q2240 : (Jvm.Cond.stringRef "KilnBench$Asked" (31 : Nat) "rings") ∈ lw_tbl := lw_at lw_m10 4 rfl
theorem q2241 : (Jvm.Cond.stringRef "KilnBench$Asked" (33 : Nat) "near") ∈ lw_tbl := lw_at lw_m10 5 rfl
theorem q2242 : (Jvm.Cond.stringRef "KilnBench$Asked" (35 : Nat) "grits") ∈ lw_tbl := lw_at lw_m10 6 rfl
theorem q2243 : (Jvm.Cond.stringRef "KilnBench$Asked" (37 : Nat) "room") ∈ lw_tbl := lw_at lw_m10 7 rfl
theorem q2244 : (Jvm.Cond.stringRef "KilnBench$Asked" (39 : Nat) "full") ∈ lw_tbl := lw_at lw_m10 8 rfl
theorem in_X11 : ∀ w ∈ wsX110, w ∈ lw_all := lw_in wsX110 [829] (by decide +kernel) (by decide +kernel)

/-! KilnBench$Always -/
set_option maxRecDepth 100000
def RX12 : String := "KilnBench$Always"
abbrev cX12_init : ByteArray := prog_4_method_1_code
def yX12_init : MethodName := ⟨RX12, "<init>", "()V"⟩
theorem dX12_init_0 : decode cX12_init 0 = .ok (.aload_n 0, 1) := by decide +kernel
theorem dX12_init_1 : decode cX12_init 1 = .ok (.invokespecial 1, 3) := by decide +kernel
theorem dX12_init_4 : decode cX12_init 4 = .ok (.return_, 1) := by decide +kernel
abbrev cX12_holds : ByteArray := prog_4_method_2_code
def yX12_holds : MethodName := ⟨RX12, "holds", "(LKilnBench$Asking;)Z"⟩
theorem dX12_holds_0 : decode cX12_holds 0 = .ok (.iconst 1, 1) := by decide +kernel
theorem dX12_holds_1 : decode cX12_holds 1 = .ok (.ireturn, 1) := by decide +kernel
theorem q106 : (Jvm.Cond.initialized "KilnBench$Always") ∈ lw_all := lw_g (lw_at lw_m1 30 rfl) rfl
theorem q712 : (Jvm.Cond.selects "KilnBench$Always" ({ cls := "java/lang/Object", name := "getClass", desc := "()Ljava/lang/Class;" } : Jvm.MethodName) ({ cls := "java/lang/Object", name := "getClass", desc := "()Ljava/lang/Class;" } : Jvm.MethodName)) ∈ lw_all := lw_g (lw_at lw_m3 156 rfl) rfl
theorem q880 : (Jvm.Cond.instantiable "KilnBench$Always" (0 : Nat)) ∈ lw_all := lw_g (lw_at lw_m4 84 rfl) rfl
theorem q882 : (Jvm.Cond.instanceMethod ({ cls := "KilnBench$Always", name := "<init>", desc := "()V" } : Jvm.MethodName)) ∈ lw_all := lw_g (lw_at lw_m4 86 rfl) rfl
theorem q883 : (Jvm.Cond.code ({ cls := "KilnBench$Always", name := "<init>", desc := "()V" } : Jvm.MethodName) prog_4_method_1_code (1 : Nat) (Option.none : Option Jvm.ClassFile.FieldType)) ∈ lw_all := lw_g (lw_at lw_m4 87 rfl) rfl
theorem q884 : (Jvm.Cond.methodLink "KilnBench$Always" (1 : Nat) ({ cls := "java/lang/Object", name := "<init>", desc := "()V" } : Jvm.MethodName)) ∈ lw_all := lw_g (lw_at lw_m4 88 rfl) rfl
theorem q885 : (Jvm.Cond.superclass "KilnBench$Always" "java/lang/Object") ∈ lw_all := lw_g (lw_at lw_m4 89 rfl) rfl
theorem q925 : (Jvm.Cond.castable "KilnBench$Always" "KilnBench$Test") ∈ lw_tbl := lw_at lw_m4 129 rfl
theorem q926 : (Jvm.Cond.unhidden "KilnBench$Always" "not" "()LKilnBench$Test;") ∈ lw_tbl := lw_at lw_m4 130 rfl
theorem q1469 : (Jvm.Cond.selects "KilnBench$Always" ({ cls := "KilnBench$Test", name := "holds", desc := "(LKilnBench$Asking;)Z" } : Jvm.MethodName) ({ cls := "KilnBench$Always", name := "holds", desc := "(LKilnBench$Asking;)Z" } : Jvm.MethodName)) ∈ lw_all := lw_g (lw_at lw_m6 193 rfl) rfl
theorem q1470 : (Jvm.Cond.unhidden "KilnBench$Always" "holds" "(LKilnBench$Asking;)Z") ∈ lw_tbl := lw_at lw_m6 194 rfl
theorem q1471 : (Jvm.Cond.instanceMethod ({ cls := "KilnBench$Always", name := "holds", desc := "(LKilnBench$Asking;)Z" } : Jvm.MethodName)) ∈ lw_all := lw_g (lw_at lw_m6 195 rfl) rfl
theorem q1472 : (Jvm.Cond.publicMethod ({ cls := "KilnBench$Always", name := "holds", desc := "(LKilnBench$Asking;)Z" } : Jvm.MethodName)) ∈ lw_tbl := lw_at lw_m6 196 rfl
theorem q1473 : (Jvm.Cond.code ({ cls := "KilnBench$Always", name := "holds", desc := "(LKilnBench$Asking;)Z" } : Jvm.MethodName) prog_4_method_2_code (2 : Nat) (Option.some Jvm.ClassFile.FieldType.boolean)) ∈ lw_all := lw_g (lw_at lw_m6 197 rfl) rfl
theorem q2182 : (Jvm.Cond.castable "KilnBench$Always" "java/lang/Object") ∈ lw_tbl := lw_at lw_m9 186 rfl

/-! KilnBench$Against -/
set_option maxRecDepth 100000
def RX13 : String := "KilnBench$Against"
def TX13 : u_T := fun k => match k with
  | 0 => ("KilnBench$Against", "sign", "C", true)
  | 1 => ("KilnBench$Against", "a", "LKilnBench$Sum;", true)
  | _ => ("KilnBench$Against", "b", "LKilnBench$Sum;", true)
def tyX13 : Nat → FieldType := fun k => match k with
  | 0 => .char
  | 1 => .object "KilnBench$Sum"
  | _ => .object "KilnBench$Sum"
abbrev wsX130 : List Cond := u_ws RX13 TX13 3
theorem nmX13 : ∀ a, a < 3 → ∀ b, b < 3 → a ≠ b → (TX13 a).2.1 ≠ (TX13 b).2.1 := by decide +kernel
theorem tyX13_ok : ∀ k, k < 3 → parseFieldDescriptor (TX13 k).2.2.1 = some (tyX13 k) := by decide +kernel
abbrev cX13_init : ByteArray := prog_3_method_1_code
def yX13_init : MethodName := ⟨RX13, "<init>", "(CLKilnBench$Sum;LKilnBench$Sum;)V"⟩
def dkwX13_init_0 : List UInt8 := [42, 183, 0, 1, 42, 27, 181, 0, 7, 42, 44, 181, 0, 13, 42, 45, 181, 0, 17, 177]
abbrev dktX13_init_0 : List UInt8 := dkwX13_init_0 ++ []
theorem dksX13_init_0 : cX13_init.data.toList.drop 0 = dktX13_init_0 := by decide +kernel
theorem dX13_init_0 : decode cX13_init 0 = .ok (.aload_n 0, 1) := dk_42 (dk_at dksX13_init_0 0 rfl rfl)
theorem dX13_init_1 : decode cX13_init 1 = .ok (.invokespecial 1, 3) := dk_183 0 1 (dk_at dksX13_init_0 1 rfl rfl)
theorem dX13_init_4 : decode cX13_init 4 = .ok (.aload_n 0, 1) := dk_42 (dk_at dksX13_init_0 4 rfl rfl)
theorem dX13_init_5 : decode cX13_init 5 = .ok (.iload_n 1, 1) := dk_27 (dk_at dksX13_init_0 5 rfl rfl)
theorem dX13_init_6 : decode cX13_init 6 = .ok (.putfield 7, 3) := dk_181 0 7 (dk_at dksX13_init_0 6 rfl rfl)
theorem dX13_init_9 : decode cX13_init 9 = .ok (.aload_n 0, 1) := dk_42 (dk_at dksX13_init_0 9 rfl rfl)
theorem dX13_init_10 : decode cX13_init 10 = .ok (.aload_n 2, 1) := dk_44 (dk_at dksX13_init_0 10 rfl rfl)
theorem dX13_init_11 : decode cX13_init 11 = .ok (.putfield 13, 3) := dk_181 0 13 (dk_at dksX13_init_0 11 rfl rfl)
theorem dX13_init_14 : decode cX13_init 14 = .ok (.aload_n 0, 1) := dk_42 (dk_at dksX13_init_0 14 rfl rfl)
theorem dX13_init_15 : decode cX13_init 15 = .ok (.aload_n 3, 1) := dk_45 (dk_at dksX13_init_0 15 rfl rfl)
theorem dX13_init_16 : decode cX13_init 16 = .ok (.putfield 17, 3) := dk_181 0 17 (dk_at dksX13_init_0 16 rfl rfl)
theorem dX13_init_19 : decode cX13_init 19 = .ok (.return_, 1) := dk_177 (dk_at dksX13_init_0 19 rfl rfl)
abbrev cX13_holds : ByteArray := prog_3_method_2_code
def yX13_holds : MethodName := ⟨RX13, "holds", "(LKilnBench$Asking;)Z"⟩
def dkwX13_holds_3 : List UInt8 := [22, 4, 148, 154, 0, 7, 4, 167, 0, 4, 3, 172]
abbrev dktX13_holds_3 : List UInt8 := dkwX13_holds_3 ++ []
def dkwX13_holds_2 : List UInt8 := [180, 0, 7, 16, 62, 160, 0, 18, 32, 22, 4, 148, 158, 0, 7, 4, 167, 0, 19, 3, 167, 0, 15, 32]
abbrev dktX13_holds_2 : List UInt8 := dkwX13_holds_2 ++ dktX13_holds_3
def dkwX13_holds_1 : List UInt8 := [180, 0, 7, 16, 60, 160, 0, 18, 32, 22, 4, 148, 156, 0, 7, 4, 167, 0, 43, 3, 167, 0, 39, 42]
abbrev dktX13_holds_1 : List UInt8 := dkwX13_holds_1 ++ dktX13_holds_2
def dkwX13_holds_0 : List UInt8 := [42, 180, 0, 13, 43, 185, 0, 20, 2, 0, 65, 42, 180, 0, 17, 43, 185, 0, 20, 2, 0, 55, 4, 42]
abbrev dktX13_holds_0 : List UInt8 := dkwX13_holds_0 ++ dktX13_holds_1
theorem dksX13_holds_0 : cX13_holds.data.toList.drop 0 = dktX13_holds_0 := by decide +kernel
theorem dksX13_holds_1 : cX13_holds.data.toList.drop 24 = dktX13_holds_1 := dk_seg dksX13_holds_0 24 rfl rfl
theorem dksX13_holds_2 : cX13_holds.data.toList.drop 48 = dktX13_holds_2 := dk_seg dksX13_holds_1 24 rfl rfl
theorem dksX13_holds_3 : cX13_holds.data.toList.drop 72 = dktX13_holds_3 := dk_seg dksX13_holds_2 24 rfl rfl
theorem dX13_holds_0 : decode cX13_holds 0 = .ok (.aload_n 0, 1) := dk_42 (dk_at dksX13_holds_0 0 rfl rfl)
theorem dX13_holds_1 : decode cX13_holds 1 = .ok (.getfield 13, 3) := dk_180 0 13 (dk_at dksX13_holds_0 1 rfl rfl)
theorem dX13_holds_4 : decode cX13_holds 4 = .ok (.aload_n 1, 1) := dk_43 (dk_at dksX13_holds_0 4 rfl rfl)
theorem dX13_holds_5 : decode cX13_holds 5 = .ok (.invokeinterface 20 2, 5) := by decide +kernel
theorem dX13_holds_10 : decode cX13_holds 10 = .ok (.lstore_n 2, 1) := dk_65 (dk_at dksX13_holds_0 10 rfl rfl)
theorem dX13_holds_11 : decode cX13_holds 11 = .ok (.aload_n 0, 1) := dk_42 (dk_at dksX13_holds_0 11 rfl rfl)
theorem dX13_holds_12 : decode cX13_holds 12 = .ok (.getfield 17, 3) := dk_180 0 17 (dk_at dksX13_holds_0 12 rfl rfl)
theorem dX13_holds_15 : decode cX13_holds 15 = .ok (.aload_n 1, 1) := dk_43 (dk_at dksX13_holds_0 15 rfl rfl)
theorem dX13_holds_16 : decode cX13_holds 16 = .ok (.invokeinterface 20 2, 5) := by decide +kernel
theorem dX13_holds_21 : decode cX13_holds 21 = .ok (.lstore 4, 2) := dk_55 4 (dk_at dksX13_holds_0 21 rfl rfl)
theorem dX13_holds_23 : decode cX13_holds 23 = .ok (.aload_n 0, 1) := dk_42 (dk_at dksX13_holds_0 23 rfl rfl)
theorem dX13_holds_24 : decode cX13_holds 24 = .ok (.getfield 7, 3) := dk_180 0 7 (dk_at dksX13_holds_1 0 rfl rfl)
theorem dX13_holds_27 : decode cX13_holds 27 = .ok (.bipush 60, 2) := dk_16 60 (dk_at dksX13_holds_1 3 rfl rfl)
theorem dX13_holds_29 : decode cX13_holds 29 = .ok (.if_icmp .ne 18, 3) := dk_160 0 18 (dk_at dksX13_holds_1 5 rfl rfl)
theorem dX13_holds_32 : decode cX13_holds 32 = .ok (.lload_n 2, 1) := dk_32 (dk_at dksX13_holds_1 8 rfl rfl)
theorem dX13_holds_33 : decode cX13_holds 33 = .ok (.lload 4, 2) := dk_22 4 (dk_at dksX13_holds_1 9 rfl rfl)
theorem dX13_holds_35 : decode cX13_holds 35 = .ok (.lcmp, 1) := dk_148 (dk_at dksX13_holds_1 11 rfl rfl)
theorem dX13_holds_36 : decode cX13_holds 36 = .ok (.ifCond .ge 7, 3) := dk_156 0 7 (dk_at dksX13_holds_1 12 rfl rfl)
theorem dX13_holds_39 : decode cX13_holds 39 = .ok (.iconst 1, 1) := dk_4 (dk_at dksX13_holds_1 15 rfl rfl)
theorem dX13_holds_40 : decode cX13_holds 40 = .ok (.goto 43, 3) := dk_167 0 43 (dk_at dksX13_holds_1 16 rfl rfl)
theorem dX13_holds_43 : decode cX13_holds 43 = .ok (.iconst 0, 1) := dk_3 (dk_at dksX13_holds_1 19 rfl rfl)
theorem dX13_holds_44 : decode cX13_holds 44 = .ok (.goto 39, 3) := dk_167 0 39 (dk_at dksX13_holds_1 20 rfl rfl)
theorem dX13_holds_47 : decode cX13_holds 47 = .ok (.aload_n 0, 1) := dk_42 (dk_at dksX13_holds_1 23 rfl rfl)
theorem dX13_holds_48 : decode cX13_holds 48 = .ok (.getfield 7, 3) := dk_180 0 7 (dk_at dksX13_holds_2 0 rfl rfl)
theorem dX13_holds_51 : decode cX13_holds 51 = .ok (.bipush 62, 2) := dk_16 62 (dk_at dksX13_holds_2 3 rfl rfl)
theorem dX13_holds_53 : decode cX13_holds 53 = .ok (.if_icmp .ne 18, 3) := dk_160 0 18 (dk_at dksX13_holds_2 5 rfl rfl)
theorem dX13_holds_56 : decode cX13_holds 56 = .ok (.lload_n 2, 1) := dk_32 (dk_at dksX13_holds_2 8 rfl rfl)
theorem dX13_holds_57 : decode cX13_holds 57 = .ok (.lload 4, 2) := dk_22 4 (dk_at dksX13_holds_2 9 rfl rfl)
theorem dX13_holds_59 : decode cX13_holds 59 = .ok (.lcmp, 1) := dk_148 (dk_at dksX13_holds_2 11 rfl rfl)
theorem dX13_holds_60 : decode cX13_holds 60 = .ok (.ifCond .le 7, 3) := dk_158 0 7 (dk_at dksX13_holds_2 12 rfl rfl)
theorem dX13_holds_63 : decode cX13_holds 63 = .ok (.iconst 1, 1) := dk_4 (dk_at dksX13_holds_2 15 rfl rfl)
theorem dX13_holds_64 : decode cX13_holds 64 = .ok (.goto 19, 3) := dk_167 0 19 (dk_at dksX13_holds_2 16 rfl rfl)
theorem dX13_holds_67 : decode cX13_holds 67 = .ok (.iconst 0, 1) := dk_3 (dk_at dksX13_holds_2 19 rfl rfl)
theorem dX13_holds_68 : decode cX13_holds 68 = .ok (.goto 15, 3) := dk_167 0 15 (dk_at dksX13_holds_2 20 rfl rfl)
theorem dX13_holds_71 : decode cX13_holds 71 = .ok (.lload_n 2, 1) := dk_32 (dk_at dksX13_holds_2 23 rfl rfl)
theorem dX13_holds_72 : decode cX13_holds 72 = .ok (.lload 4, 2) := dk_22 4 (dk_at dksX13_holds_3 0 rfl rfl)
theorem dX13_holds_74 : decode cX13_holds 74 = .ok (.lcmp, 1) := dk_148 (dk_at dksX13_holds_3 2 rfl rfl)
theorem dX13_holds_75 : decode cX13_holds 75 = .ok (.ifCond .ne 7, 3) := dk_154 0 7 (dk_at dksX13_holds_3 3 rfl rfl)
theorem dX13_holds_78 : decode cX13_holds 78 = .ok (.iconst 1, 1) := dk_4 (dk_at dksX13_holds_3 6 rfl rfl)
theorem dX13_holds_79 : decode cX13_holds 79 = .ok (.goto 4, 3) := dk_167 0 4 (dk_at dksX13_holds_3 7 rfl rfl)
theorem dX13_holds_82 : decode cX13_holds 82 = .ok (.iconst 0, 1) := dk_3 (dk_at dksX13_holds_3 10 rfl rfl)
theorem dX13_holds_83 : decode cX13_holds 83 = .ok (.ireturn, 1) := dk_172 (dk_at dksX13_holds_3 11 rfl rfl)
theorem q107 : (Jvm.Cond.initialized "KilnBench$Against") ∈ lw_all := lw_g (lw_at lw_m1 31 rfl) rfl
theorem q711 : (Jvm.Cond.selects "KilnBench$Against" ({ cls := "java/lang/Object", name := "getClass", desc := "()Ljava/lang/Class;" } : Jvm.MethodName) ({ cls := "java/lang/Object", name := "getClass", desc := "()Ljava/lang/Class;" } : Jvm.MethodName)) ∈ lw_all := lw_g (lw_at lw_m3 155 rfl) rfl
theorem q891 : (Jvm.Cond.instantiable "KilnBench$Against" (3 : Nat)) ∈ lw_all := lw_g (lw_at lw_m4 95 rfl) rfl
theorem q893 : (Jvm.Cond.instanceMethod ({ cls := "KilnBench$Against", name := "<init>", desc := "(CLKilnBench$Sum;LKilnBench$Sum;)V" } : Jvm.MethodName)) ∈ lw_all := lw_g (lw_at lw_m4 97 rfl) rfl
theorem q894 : (Jvm.Cond.code ({ cls := "KilnBench$Against", name := "<init>", desc := "(CLKilnBench$Sum;LKilnBench$Sum;)V" } : Jvm.MethodName) prog_3_method_1_code (4 : Nat) (Option.none : Option Jvm.ClassFile.FieldType)) ∈ lw_all := lw_g (lw_at lw_m4 98 rfl) rfl
theorem q895 : (Jvm.Cond.methodLink "KilnBench$Against" (1 : Nat) ({ cls := "java/lang/Object", name := "<init>", desc := "()V" } : Jvm.MethodName)) ∈ lw_all := lw_g (lw_at lw_m4 99 rfl) rfl
theorem q896 : (Jvm.Cond.fieldLink "KilnBench$Against" (7 : Nat) "KilnBench$Against" "sign" "C") ∈ lw_all := lw_g (lw_at lw_m4 100 rfl) rfl
theorem q897 : (Jvm.Cond.fieldLink "KilnBench$Against" (13 : Nat) "KilnBench$Against" "a" "LKilnBench$Sum;") ∈ lw_all := lw_g (lw_at lw_m4 101 rfl) rfl
theorem q898 : (Jvm.Cond.fieldLink "KilnBench$Against" (17 : Nat) "KilnBench$Against" "b" "LKilnBench$Sum;") ∈ lw_all := lw_g (lw_at lw_m4 102 rfl) rfl
theorem q899 : (Jvm.Cond.laysFinal "KilnBench$Against" "KilnBench$Against" "sign" "C") ∈ lw_all := lw_g (lw_at lw_m4 103 rfl) rfl
theorem q900 : (Jvm.Cond.soleField "KilnBench$Against" "sign") ∈ lw_all := lw_g (lw_at lw_m4 104 rfl) rfl
theorem q901 : (Jvm.Cond.laysFinal "KilnBench$Against" "KilnBench$Against" "a" "LKilnBench$Sum;") ∈ lw_all := lw_g (lw_at lw_m4 105 rfl) rfl
theorem q902 : (Jvm.Cond.soleField "KilnBench$Against" "a") ∈ lw_all := lw_g (lw_at lw_m4 106 rfl) rfl
theorem q903 : (Jvm.Cond.laysFinal "KilnBench$Against" "KilnBench$Against" "b" "LKilnBench$Sum;") ∈ lw_all := lw_g (lw_at lw_m4 107 rfl) rfl
theorem q904 : (Jvm.Cond.soleField "KilnBench$Against" "b") ∈ lw_all := lw_g (lw_at lw_m4 108 rfl) rfl
theorem q905 : (Jvm.Cond.superclass "KilnBench$Against" "java/lang/Object") ∈ lw_all := lw_g (lw_at lw_m4 109 rfl) rfl
theorem q910 : (Jvm.Cond.castable "KilnBench$Against" "KilnBench$Test") ∈ lw_tbl := lw_at lw_m4 114 rfl
theorem q911 : (Jvm.Cond.unhidden "KilnBench$Against" "not" "()LKilnBench$Test;") ∈ lw_tbl := lw_at lw_m4 115 rfl
theorem q1442 : (Jvm.Cond.selects "KilnBench$Against" ({ cls := "KilnBench$Test", name := "holds", desc := "(LKilnBench$Asking;)Z" } : Jvm.MethodName) ({ cls := "KilnBench$Against", name := "holds", desc := "(LKilnBench$Asking;)Z" } : Jvm.MethodName)) ∈ lw_all := lw_g (lw_at lw_m6 166 rfl) rfl
theorem q1443 : (Jvm.Cond.unhidden "KilnBench$Against" "holds" "(LKilnBench$Asking;)Z") ∈ lw_tbl := lw_at lw_m6 167 rfl
theorem q1444 : (Jvm.Cond.instanceMethod ({ cls := "KilnBench$Against", name := "holds", desc := "(LKilnBench$Asking;)Z" } : Jvm.MethodName)) ∈ lw_all := lw_g (lw_at lw_m6 168 rfl) rfl
theorem q1445 : (Jvm.Cond.publicMethod ({ cls := "KilnBench$Against", name := "holds", desc := "(LKilnBench$Asking;)Z" } : Jvm.MethodName)) ∈ lw_tbl := lw_at lw_m6 169 rfl
theorem q1446 : (Jvm.Cond.code ({ cls := "KilnBench$Against", name := "holds", desc := "(LKilnBench$Asking;)Z" } : Jvm.MethodName) prog_3_method_2_code (6 : Nat) (Option.some Jvm.ClassFile.FieldType.boolean)) ∈ lw_all := lw_g (lw_at lw_m6 170 rfl) rfl
theorem q1447 : (Jvm.Cond.interfaceEntry "KilnBench$Against" (20 : Nat)) ∈ lw_tbl := lw_at lw_m6 171 rfl
theorem q1448 : (Jvm.Cond.methodLink "KilnBench$Against" (20 : Nat) ({ cls := "KilnBench$Sum", name := "of", desc := "(LKilnBench$Asking;)J" } : Jvm.MethodName)) ∈ lw_all := lw_g (lw_at lw_m6 172 rfl) rfl
theorem q2183 : (Jvm.Cond.castable "KilnBench$Against" "java/lang/Object") ∈ lw_tbl := lw_at lw_m9 187 rfl
theorem in_X13 : ∀ w ∈ wsX130, w ∈ lw_all := lw_in wsX130 [899, 901, 903] (by decide +kernel) (by decide +kernel)

/-! KilnBench$Not -/
set_option maxRecDepth 100000
def RX14 : String := "KilnBench$Not"
def TX14 : u_T := fun k => match k with
  | _ => ("KilnBench$Not", "test", "LKilnBench$Test;", true)
def tyX14 : Nat → FieldType := fun k => match k with
  | _ => .object "KilnBench$Test"
abbrev wsX140 : List Cond := u_ws RX14 TX14 1
theorem nmX14 : ∀ a, a < 1 → ∀ b, b < 1 → a ≠ b → (TX14 a).2.1 ≠ (TX14 b).2.1 := by decide +kernel
theorem tyX14_ok : ∀ k, k < 1 → parseFieldDescriptor (TX14 k).2.2.1 = some (tyX14 k) := by decide +kernel
abbrev cX14_init : ByteArray := prog_17_method_1_code
def yX14_init : MethodName := ⟨RX14, "<init>", "(LKilnBench$Test;)V"⟩
def dkwX14_init_0 : List UInt8 := [42, 183, 0, 1, 42, 43, 181, 0, 7, 177]
abbrev dktX14_init_0 : List UInt8 := dkwX14_init_0 ++ []
theorem dksX14_init_0 : cX14_init.data.toList.drop 0 = dktX14_init_0 := by decide +kernel
theorem dX14_init_0 : decode cX14_init 0 = .ok (.aload_n 0, 1) := dk_42 (dk_at dksX14_init_0 0 rfl rfl)
theorem dX14_init_1 : decode cX14_init 1 = .ok (.invokespecial 1, 3) := dk_183 0 1 (dk_at dksX14_init_0 1 rfl rfl)
theorem dX14_init_4 : decode cX14_init 4 = .ok (.aload_n 0, 1) := dk_42 (dk_at dksX14_init_0 4 rfl rfl)
theorem dX14_init_5 : decode cX14_init 5 = .ok (.aload_n 1, 1) := dk_43 (dk_at dksX14_init_0 5 rfl rfl)
theorem dX14_init_6 : decode cX14_init 6 = .ok (.putfield 7, 3) := dk_181 0 7 (dk_at dksX14_init_0 6 rfl rfl)
theorem dX14_init_9 : decode cX14_init 9 = .ok (.return_, 1) := dk_177 (dk_at dksX14_init_0 9 rfl rfl)
abbrev cX14_not : ByteArray := prog_17_method_3_code
def yX14_not : MethodName := ⟨RX14, "not", "()LKilnBench$Test;"⟩
theorem dX14_not_0 : decode cX14_not 0 = .ok (.aload_n 0, 1) := by decide +kernel
theorem dX14_not_1 : decode cX14_not 1 = .ok (.getfield 7, 3) := by decide +kernel
theorem dX14_not_4 : decode cX14_not 4 = .ok (.areturn, 1) := by decide +kernel
abbrev cX14_holds : ByteArray := prog_17_method_2_code
def yX14_holds : MethodName := ⟨RX14, "holds", "(LKilnBench$Asking;)Z"⟩
def dkwX14_holds_0 : List UInt8 := [42, 180, 0, 7, 43, 185, 0, 13, 2, 0, 154, 0, 7, 4, 167, 0, 4, 3, 172]
abbrev dktX14_holds_0 : List UInt8 := dkwX14_holds_0 ++ []
theorem dksX14_holds_0 : cX14_holds.data.toList.drop 0 = dktX14_holds_0 := by decide +kernel
theorem dX14_holds_0 : decode cX14_holds 0 = .ok (.aload_n 0, 1) := dk_42 (dk_at dksX14_holds_0 0 rfl rfl)
theorem dX14_holds_1 : decode cX14_holds 1 = .ok (.getfield 7, 3) := dk_180 0 7 (dk_at dksX14_holds_0 1 rfl rfl)
theorem dX14_holds_4 : decode cX14_holds 4 = .ok (.aload_n 1, 1) := dk_43 (dk_at dksX14_holds_0 4 rfl rfl)
theorem dX14_holds_5 : decode cX14_holds 5 = .ok (.invokeinterface 13 2, 5) := by decide +kernel
theorem dX14_holds_10 : decode cX14_holds 10 = .ok (.ifCond .ne 7, 3) := dk_154 0 7 (dk_at dksX14_holds_0 10 rfl rfl)
theorem dX14_holds_13 : decode cX14_holds 13 = .ok (.iconst 1, 1) := dk_4 (dk_at dksX14_holds_0 13 rfl rfl)
theorem dX14_holds_14 : decode cX14_holds 14 = .ok (.goto 4, 3) := dk_167 0 4 (dk_at dksX14_holds_0 14 rfl rfl)
theorem dX14_holds_17 : decode cX14_holds 17 = .ok (.iconst 0, 1) := dk_3 (dk_at dksX14_holds_0 17 rfl rfl)
theorem dX14_holds_18 : decode cX14_holds 18 = .ok (.ireturn, 1) := dk_172 (dk_at dksX14_holds_0 18 rfl rfl)
theorem q108 : (Jvm.Cond.initialized "KilnBench$Not") ∈ lw_all := lw_g (lw_at lw_m1 32 rfl) rfl
theorem q722 : (Jvm.Cond.selects "KilnBench$Not" ({ cls := "java/lang/Object", name := "getClass", desc := "()Ljava/lang/Class;" } : Jvm.MethodName) ({ cls := "java/lang/Object", name := "getClass", desc := "()Ljava/lang/Class;" } : Jvm.MethodName)) ∈ lw_all := lw_g (lw_at lw_m3 166 rfl) rfl
theorem q916 : (Jvm.Cond.instantiable "KilnBench$Not" (1 : Nat)) ∈ lw_all := lw_g (lw_at lw_m4 120 rfl) rfl
theorem q918 : (Jvm.Cond.instanceMethod ({ cls := "KilnBench$Not", name := "<init>", desc := "(LKilnBench$Test;)V" } : Jvm.MethodName)) ∈ lw_all := lw_g (lw_at lw_m4 122 rfl) rfl
theorem q919 : (Jvm.Cond.code ({ cls := "KilnBench$Not", name := "<init>", desc := "(LKilnBench$Test;)V" } : Jvm.MethodName) prog_17_method_1_code (2 : Nat) (Option.none : Option Jvm.ClassFile.FieldType)) ∈ lw_all := lw_g (lw_at lw_m4 123 rfl) rfl
theorem q920 : (Jvm.Cond.methodLink "KilnBench$Not" (1 : Nat) ({ cls := "java/lang/Object", name := "<init>", desc := "()V" } : Jvm.MethodName)) ∈ lw_all := lw_g (lw_at lw_m4 124 rfl) rfl
theorem q921 : (Jvm.Cond.fieldLink "KilnBench$Not" (7 : Nat) "KilnBench$Not" "test" "LKilnBench$Test;") ∈ lw_all := lw_g (lw_at lw_m4 125 rfl) rfl
theorem q922 : (Jvm.Cond.laysFinal "KilnBench$Not" "KilnBench$Not" "test" "LKilnBench$Test;") ∈ lw_all := lw_g (lw_at lw_m4 126 rfl) rfl
theorem q923 : (Jvm.Cond.soleField "KilnBench$Not" "test") ∈ lw_all := lw_g (lw_at lw_m4 127 rfl) rfl
theorem q924 : (Jvm.Cond.superclass "KilnBench$Not" "java/lang/Object") ∈ lw_all := lw_g (lw_at lw_m4 128 rfl) rfl
theorem q927 : (Jvm.Cond.castable "KilnBench$Not" "KilnBench$Test") ∈ lw_tbl := lw_at lw_m4 131 rfl
theorem q928 : (Jvm.Cond.selects "KilnBench$Not" ({ cls := "KilnBench$Test", name := "not", desc := "()LKilnBench$Test;" } : Jvm.MethodName) ({ cls := "KilnBench$Not", name := "not", desc := "()LKilnBench$Test;" } : Jvm.MethodName)) ∈ lw_all := lw_g (lw_at lw_m4 132 rfl) rfl
theorem q929 : (Jvm.Cond.unhidden "KilnBench$Not" "not" "()LKilnBench$Test;") ∈ lw_tbl := lw_at lw_m4 133 rfl
theorem q930 : (Jvm.Cond.instanceMethod ({ cls := "KilnBench$Not", name := "not", desc := "()LKilnBench$Test;" } : Jvm.MethodName)) ∈ lw_all := lw_g (lw_at lw_m4 134 rfl) rfl
theorem q931 : (Jvm.Cond.publicMethod ({ cls := "KilnBench$Not", name := "not", desc := "()LKilnBench$Test;" } : Jvm.MethodName)) ∈ lw_tbl := lw_at lw_m4 135 rfl
theorem q932 : (Jvm.Cond.code ({ cls := "KilnBench$Not", name := "not", desc := "()LKilnBench$Test;" } : Jvm.MethodName) prog_17_method_3_code (1 : Nat) (Option.some (Jvm.ClassFile.FieldType.object "KilnBench$Test"))) ∈ lw_all := lw_g (lw_at lw_m4 136 rfl) rfl
theorem q1474 : (Jvm.Cond.selects "KilnBench$Not" ({ cls := "KilnBench$Test", name := "holds", desc := "(LKilnBench$Asking;)Z" } : Jvm.MethodName) ({ cls := "KilnBench$Not", name := "holds", desc := "(LKilnBench$Asking;)Z" } : Jvm.MethodName)) ∈ lw_all := lw_g (lw_at lw_m6 198 rfl) rfl
theorem q1475 : (Jvm.Cond.unhidden "KilnBench$Not" "holds" "(LKilnBench$Asking;)Z") ∈ lw_tbl := lw_at lw_m6 199 rfl
theorem q1476 : (Jvm.Cond.instanceMethod ({ cls := "KilnBench$Not", name := "holds", desc := "(LKilnBench$Asking;)Z" } : Jvm.MethodName)) ∈ lw_all := lw_g (lw_at lw_m6 200 rfl) rfl
theorem q1477 : (Jvm.Cond.publicMethod ({ cls := "KilnBench$Not", name := "holds", desc := "(LKilnBench$Asking;)Z" } : Jvm.MethodName)) ∈ lw_tbl := lw_at lw_m6 201 rfl
theorem q1478 : (Jvm.Cond.code ({ cls := "KilnBench$Not", name := "holds", desc := "(LKilnBench$Asking;)Z" } : Jvm.MethodName) prog_17_method_2_code (2 : Nat) (Option.some Jvm.ClassFile.FieldType.boolean)) ∈ lw_all := lw_g (lw_at lw_m6 202 rfl) rfl
theorem q1479 : (Jvm.Cond.interfaceEntry "KilnBench$Not" (13 : Nat)) ∈ lw_tbl := lw_at lw_m6 203 rfl
theorem q1480 : (Jvm.Cond.methodLink "KilnBench$Not" (13 : Nat) ({ cls := "KilnBench$Test", name := "holds", desc := "(LKilnBench$Asking;)Z" } : Jvm.MethodName)) ∈ lw_all := lw_g (lw_at lw_m6 204 rfl) rfl
theorem q2184 : (Jvm.Cond.castable "KilnBench$Not" "java/lang/Object") ∈ lw_tbl := lw_at lw_m9 188 rfl
theorem in_X14 : ∀ w ∈ wsX140, w ∈ lw_all := lw_in wsX140 [922] (by decide +kernel) (by decide +kernel)

/-! KilnBench$Several -/
set_option maxRecDepth 100000
def RX15 : String := "KilnBench$Several"
def TX15 : u_T := fun k => match k with
  | 0 => ("KilnBench$Several", "all", "Z", true)
  | _ => ("KilnBench$Several", "tests", "Ljava/util/ArrayList;", true)
def tyX15 : Nat → FieldType := fun k => match k with
  | 0 => .boolean
  | _ => .object "java/util/ArrayList"
abbrev wsX150 : List Cond := u_ws RX15 TX15 2
theorem nmX15 : ∀ a, a < 2 → ∀ b, b < 2 → a ≠ b → (TX15 a).2.1 ≠ (TX15 b).2.1 := by decide +kernel
theorem tyX15_ok : ∀ k, k < 2 → parseFieldDescriptor (TX15 k).2.2.1 = some (tyX15 k) := by decide +kernel
abbrev cX15_init : ByteArray := prog_21_method_1_code
def yX15_init : MethodName := ⟨RX15, "<init>", "(ZLKilnBench$Test;)V"⟩
def dkwX15_init_1 : List UInt8 := [44, 182, 0, 20, 87, 177]
abbrev dktX15_init_1 : List UInt8 := dkwX15_init_1 ++ []
def dkwX15_init_0 : List UInt8 := [42, 183, 0, 1, 42, 187, 0, 7, 89, 183, 0, 9, 181, 0, 10, 42, 27, 181, 0, 16, 42, 180, 0, 10]
abbrev dktX15_init_0 : List UInt8 := dkwX15_init_0 ++ dktX15_init_1
theorem dksX15_init_0 : cX15_init.data.toList.drop 0 = dktX15_init_0 := by decide +kernel
theorem dksX15_init_1 : cX15_init.data.toList.drop 24 = dktX15_init_1 := dk_seg dksX15_init_0 24 rfl rfl
theorem dX15_init_0 : decode cX15_init 0 = .ok (.aload_n 0, 1) := dk_42 (dk_at dksX15_init_0 0 rfl rfl)
theorem dX15_init_1 : decode cX15_init 1 = .ok (.invokespecial 1, 3) := dk_183 0 1 (dk_at dksX15_init_0 1 rfl rfl)
theorem dX15_init_4 : decode cX15_init 4 = .ok (.aload_n 0, 1) := dk_42 (dk_at dksX15_init_0 4 rfl rfl)
theorem dX15_init_5 : decode cX15_init 5 = .ok (.new 7, 3) := dk_187 0 7 (dk_at dksX15_init_0 5 rfl rfl)
theorem dX15_init_8 : decode cX15_init 8 = .ok (.dup, 1) := dk_89 (dk_at dksX15_init_0 8 rfl rfl)
theorem dX15_init_9 : decode cX15_init 9 = .ok (.invokespecial 9, 3) := dk_183 0 9 (dk_at dksX15_init_0 9 rfl rfl)
theorem dX15_init_12 : decode cX15_init 12 = .ok (.putfield 10, 3) := dk_181 0 10 (dk_at dksX15_init_0 12 rfl rfl)
theorem dX15_init_15 : decode cX15_init 15 = .ok (.aload_n 0, 1) := dk_42 (dk_at dksX15_init_0 15 rfl rfl)
theorem dX15_init_16 : decode cX15_init 16 = .ok (.iload_n 1, 1) := dk_27 (dk_at dksX15_init_0 16 rfl rfl)
theorem dX15_init_17 : decode cX15_init 17 = .ok (.putfield 16, 3) := dk_181 0 16 (dk_at dksX15_init_0 17 rfl rfl)
theorem dX15_init_20 : decode cX15_init 20 = .ok (.aload_n 0, 1) := dk_42 (dk_at dksX15_init_0 20 rfl rfl)
theorem dX15_init_21 : decode cX15_init 21 = .ok (.getfield 10, 3) := dk_180 0 10 (dk_at dksX15_init_0 21 rfl rfl)
theorem dX15_init_24 : decode cX15_init 24 = .ok (.aload_n 2, 1) := dk_44 (dk_at dksX15_init_1 0 rfl rfl)
theorem dX15_init_25 : decode cX15_init 25 = .ok (.invokevirtual 20, 3) := dk_182 0 20 (dk_at dksX15_init_1 1 rfl rfl)
theorem dX15_init_28 : decode cX15_init 28 = .ok (.pop, 1) := dk_87 (dk_at dksX15_init_1 4 rfl rfl)
theorem dX15_init_29 : decode cX15_init 29 = .ok (.return_, 1) := dk_177 (dk_at dksX15_init_1 5 rfl rfl)
abbrev cX15_holds : ByteArray := prog_21_method_2_code
def yX15_holds : MethodName := ⟨RX15, "holds", "(LKilnBench$Asking;)Z"⟩
def dkwX15_holds_2 : List UInt8 := [3, 172, 132, 2, 1, 167, 255, 205, 42, 180, 0, 16, 172]
abbrev dktX15_holds_2 : List UInt8 := dkwX15_holds_2 ++ []
def dkwX15_holds_1 : List UInt8 := [43, 185, 0, 34, 2, 0, 42, 180, 0, 16, 159, 0, 16, 42, 180, 0, 16, 154, 0, 7, 4, 167, 0, 4]
abbrev dktX15_holds_1 : List UInt8 := dkwX15_holds_1 ++ dktX15_holds_2
def dkwX15_holds_0 : List UInt8 := [3, 61, 28, 42, 180, 0, 10, 182, 0, 24, 162, 0, 46, 42, 180, 0, 10, 28, 182, 0, 28, 192, 0, 32]
abbrev dktX15_holds_0 : List UInt8 := dkwX15_holds_0 ++ dktX15_holds_1
theorem dksX15_holds_0 : cX15_holds.data.toList.drop 0 = dktX15_holds_0 := by decide +kernel
theorem dksX15_holds_1 : cX15_holds.data.toList.drop 24 = dktX15_holds_1 := dk_seg dksX15_holds_0 24 rfl rfl
theorem dksX15_holds_2 : cX15_holds.data.toList.drop 48 = dktX15_holds_2 := dk_seg dksX15_holds_1 24 rfl rfl
theorem dX15_holds_0 : decode cX15_holds 0 = .ok (.iconst 0, 1) := dk_3 (dk_at dksX15_holds_0 0 rfl rfl)
theorem dX15_holds_1 : decode cX15_holds 1 = .ok (.istore_n 2, 1) := dk_61 (dk_at dksX15_holds_0 1 rfl rfl)
theorem dX15_holds_2 : decode cX15_holds 2 = .ok (.iload_n 2, 1) := dk_28 (dk_at dksX15_holds_0 2 rfl rfl)
theorem dX15_holds_3 : decode cX15_holds 3 = .ok (.aload_n 0, 1) := dk_42 (dk_at dksX15_holds_0 3 rfl rfl)
theorem dX15_holds_4 : decode cX15_holds 4 = .ok (.getfield 10, 3) := dk_180 0 10 (dk_at dksX15_holds_0 4 rfl rfl)
theorem dX15_holds_7 : decode cX15_holds 7 = .ok (.invokevirtual 24, 3) := dk_182 0 24 (dk_at dksX15_holds_0 7 rfl rfl)
theorem dX15_holds_10 : decode cX15_holds 10 = .ok (.if_icmp .ge 46, 3) := dk_162 0 46 (dk_at dksX15_holds_0 10 rfl rfl)
theorem dX15_holds_13 : decode cX15_holds 13 = .ok (.aload_n 0, 1) := dk_42 (dk_at dksX15_holds_0 13 rfl rfl)
theorem dX15_holds_14 : decode cX15_holds 14 = .ok (.getfield 10, 3) := dk_180 0 10 (dk_at dksX15_holds_0 14 rfl rfl)
theorem dX15_holds_17 : decode cX15_holds 17 = .ok (.iload_n 2, 1) := dk_28 (dk_at dksX15_holds_0 17 rfl rfl)
theorem dX15_holds_18 : decode cX15_holds 18 = .ok (.invokevirtual 28, 3) := dk_182 0 28 (dk_at dksX15_holds_0 18 rfl rfl)
theorem dX15_holds_21 : decode cX15_holds 21 = .ok (.checkcast 32, 3) := dk_192 0 32 (dk_at dksX15_holds_0 21 rfl rfl)
theorem dX15_holds_24 : decode cX15_holds 24 = .ok (.aload_n 1, 1) := dk_43 (dk_at dksX15_holds_1 0 rfl rfl)
theorem dX15_holds_25 : decode cX15_holds 25 = .ok (.invokeinterface 34 2, 5) := by decide +kernel
theorem dX15_holds_30 : decode cX15_holds 30 = .ok (.aload_n 0, 1) := dk_42 (dk_at dksX15_holds_1 6 rfl rfl)
theorem dX15_holds_31 : decode cX15_holds 31 = .ok (.getfield 16, 3) := dk_180 0 16 (dk_at dksX15_holds_1 7 rfl rfl)
theorem dX15_holds_34 : decode cX15_holds 34 = .ok (.if_icmp .eq 16, 3) := dk_159 0 16 (dk_at dksX15_holds_1 10 rfl rfl)
theorem dX15_holds_37 : decode cX15_holds 37 = .ok (.aload_n 0, 1) := dk_42 (dk_at dksX15_holds_1 13 rfl rfl)
theorem dX15_holds_38 : decode cX15_holds 38 = .ok (.getfield 16, 3) := dk_180 0 16 (dk_at dksX15_holds_1 14 rfl rfl)
theorem dX15_holds_41 : decode cX15_holds 41 = .ok (.ifCond .ne 7, 3) := dk_154 0 7 (dk_at dksX15_holds_1 17 rfl rfl)
theorem dX15_holds_44 : decode cX15_holds 44 = .ok (.iconst 1, 1) := dk_4 (dk_at dksX15_holds_1 20 rfl rfl)
theorem dX15_holds_45 : decode cX15_holds 45 = .ok (.goto 4, 3) := dk_167 0 4 (dk_at dksX15_holds_1 21 rfl rfl)
theorem dX15_holds_48 : decode cX15_holds 48 = .ok (.iconst 0, 1) := dk_3 (dk_at dksX15_holds_2 0 rfl rfl)
theorem dX15_holds_49 : decode cX15_holds 49 = .ok (.ireturn, 1) := dk_172 (dk_at dksX15_holds_2 1 rfl rfl)
theorem dX15_holds_50 : decode cX15_holds 50 = .ok (.iinc 2 1, 3) := dk_132 2 1 (dk_at dksX15_holds_2 2 rfl rfl)
theorem dX15_holds_53 : decode cX15_holds 53 = .ok (.goto (-51), 3) := dk_167 255 205 (dk_at dksX15_holds_2 5 rfl rfl)
theorem dX15_holds_56 : decode cX15_holds 56 = .ok (.aload_n 0, 1) := dk_42 (dk_at dksX15_holds_2 8 rfl rfl)
theorem dX15_holds_57 : decode cX15_holds 57 = .ok (.getfield 16, 3) := dk_180 0 16 (dk_at dksX15_holds_2 9 rfl rfl)
theorem dX15_holds_60 : decode cX15_holds 60 = .ok (.ireturn, 1) := dk_172 (dk_at dksX15_holds_2 12 rfl rfl)
theorem q109 : (Jvm.Cond.initialized "KilnBench$Several") ∈ lw_all := lw_g (lw_at lw_m1 33 rfl) rfl
theorem q726 : (Jvm.Cond.selects "KilnBench$Several" ({ cls := "java/lang/Object", name := "getClass", desc := "()Ljava/lang/Class;" } : Jvm.MethodName) ({ cls := "java/lang/Object", name := "getClass", desc := "()Ljava/lang/Class;" } : Jvm.MethodName)) ∈ lw_all := lw_g (lw_at lw_m3 170 rfl) rfl
theorem q933 : (Jvm.Cond.castable "KilnBench$Several" "KilnBench$Test") ∈ lw_tbl := lw_at lw_m4 137 rfl
theorem q934 : (Jvm.Cond.unhidden "KilnBench$Several" "not" "()LKilnBench$Test;") ∈ lw_tbl := lw_at lw_m4 138 rfl
theorem q937 : (Jvm.Cond.instantiable "KilnBench$Several" (2 : Nat)) ∈ lw_all := lw_g (lw_at lw_m4 141 rfl) rfl
theorem q939 : (Jvm.Cond.instanceMethod ({ cls := "KilnBench$Several", name := "<init>", desc := "(ZLKilnBench$Test;)V" } : Jvm.MethodName)) ∈ lw_all := lw_g (lw_at lw_m4 143 rfl) rfl
theorem q940 : (Jvm.Cond.code ({ cls := "KilnBench$Several", name := "<init>", desc := "(ZLKilnBench$Test;)V" } : Jvm.MethodName) prog_21_method_1_code (3 : Nat) (Option.none : Option Jvm.ClassFile.FieldType)) ∈ lw_all := lw_g (lw_at lw_m4 144 rfl) rfl
theorem q941 : (Jvm.Cond.methodLink "KilnBench$Several" (1 : Nat) ({ cls := "java/lang/Object", name := "<init>", desc := "()V" } : Jvm.MethodName)) ∈ lw_all := lw_g (lw_at lw_m4 145 rfl) rfl
theorem q942 : (Jvm.Cond.classLink "KilnBench$Several" (7 : Nat) "java/util/ArrayList") ∈ lw_all := lw_g (lw_at lw_m4 146 rfl) rfl
theorem q943 : (Jvm.Cond.methodLink "KilnBench$Several" (9 : Nat) ({ cls := "java/util/ArrayList", name := "<init>", desc := "()V" } : Jvm.MethodName)) ∈ lw_all := lw_g (lw_at lw_m4 147 rfl) rfl
theorem q944 : (Jvm.Cond.methodLink "KilnBench$Several" (20 : Nat) ({ cls := "java/util/ArrayList", name := "add", desc := "(Ljava/lang/Object;)Z" } : Jvm.MethodName)) ∈ lw_all := lw_g (lw_at lw_m4 148 rfl) rfl
theorem q945 : (Jvm.Cond.fieldLink "KilnBench$Several" (16 : Nat) "KilnBench$Several" "all" "Z") ∈ lw_all := lw_g (lw_at lw_m4 149 rfl) rfl
theorem q946 : (Jvm.Cond.fieldLink "KilnBench$Several" (10 : Nat) "KilnBench$Several" "tests" "Ljava/util/ArrayList;") ∈ lw_all := lw_g (lw_at lw_m4 150 rfl) rfl
theorem q948 : (Jvm.Cond.laysFinal "KilnBench$Several" "KilnBench$Several" "all" "Z") ∈ lw_all := lw_g (lw_at lw_m4 152 rfl) rfl
theorem q949 : (Jvm.Cond.soleField "KilnBench$Several" "all") ∈ lw_all := lw_g (lw_at lw_m4 153 rfl) rfl
theorem q950 : (Jvm.Cond.laysFinal "KilnBench$Several" "KilnBench$Several" "tests" "Ljava/util/ArrayList;") ∈ lw_all := lw_g (lw_at lw_m4 154 rfl) rfl
theorem q951 : (Jvm.Cond.soleField "KilnBench$Several" "tests") ∈ lw_all := lw_g (lw_at lw_m4 155 rfl) rfl
theorem q952 : (Jvm.Cond.superclass "KilnBench$Several" "java/lang/Object") ∈ lw_all := lw_g (lw_at lw_m4 156 rfl) rfl
theorem q1481 : (Jvm.Cond.selects "KilnBench$Several" ({ cls := "KilnBench$Test", name := "holds", desc := "(LKilnBench$Asking;)Z" } : Jvm.MethodName) ({ cls := "KilnBench$Several", name := "holds", desc := "(LKilnBench$Asking;)Z" } : Jvm.MethodName)) ∈ lw_all := lw_g (lw_at lw_m6 205 rfl) rfl
theorem q1482 : (Jvm.Cond.unhidden "KilnBench$Several" "holds" "(LKilnBench$Asking;)Z") ∈ lw_tbl := lw_at lw_m6 206 rfl
theorem q1483 : (Jvm.Cond.instanceMethod ({ cls := "KilnBench$Several", name := "holds", desc := "(LKilnBench$Asking;)Z" } : Jvm.MethodName)) ∈ lw_all := lw_g (lw_at lw_m6 207 rfl) rfl
theorem q1484 : (Jvm.Cond.publicMethod ({ cls := "KilnBench$Several", name := "holds", desc := "(LKilnBench$Asking;)Z" } : Jvm.MethodName)) ∈ lw_tbl := lw_at lw_m6 208 rfl
theorem q1485 : (Jvm.Cond.code ({ cls := "KilnBench$Several", name := "holds", desc := "(LKilnBench$Asking;)Z" } : Jvm.MethodName) prog_21_method_2_code (3 : Nat) (Option.some Jvm.ClassFile.FieldType.boolean)) ∈ lw_all := lw_g (lw_at lw_m6 209 rfl) rfl
theorem q1486 : (Jvm.Cond.methodLink "KilnBench$Several" (24 : Nat) ({ cls := "java/util/ArrayList", name := "size", desc := "()I" } : Jvm.MethodName)) ∈ lw_all := lw_g (lw_at lw_m6 210 rfl) rfl
theorem q1487 : (Jvm.Cond.methodLink "KilnBench$Several" (28 : Nat) ({ cls := "java/util/ArrayList", name := "get", desc := "(I)Ljava/lang/Object;" } : Jvm.MethodName)) ∈ lw_all := lw_g (lw_at lw_m6 211 rfl) rfl
theorem q1488 : (Jvm.Cond.classLink "KilnBench$Several" (32 : Nat) "KilnBench$Test") ∈ lw_all := lw_g (lw_at lw_m6 212 rfl) rfl
theorem q1489 : (Jvm.Cond.interfaceEntry "KilnBench$Several" (34 : Nat)) ∈ lw_tbl := lw_at lw_m6 213 rfl
theorem q1490 : (Jvm.Cond.methodLink "KilnBench$Several" (34 : Nat) ({ cls := "KilnBench$Test", name := "holds", desc := "(LKilnBench$Asking;)Z" } : Jvm.MethodName)) ∈ lw_all := lw_g (lw_at lw_m6 214 rfl) rfl
theorem q2185 : (Jvm.Cond.castable "KilnBench$Several" "java/lang/Object") ∈ lw_tbl := lw_at lw_m9 189 rfl
theorem in_X15 : ∀ w ∈ wsX150, w ∈ lw_all := lw_in wsX150 [948, 950] (by decide +kernel) (by decide +kernel)

/-! KilnBench$Chosen -/
set_option maxRecDepth 100000
def RX16 : String := "KilnBench$Chosen"
def TX16 : u_T := fun k => match k with
  | 0 => ("KilnBench$Chosen", "when", "LKilnBench$Test;", true)
  | 1 => ("KilnBench$Chosen", "a", "LKilnBench$Sum;", true)
  | _ => ("KilnBench$Chosen", "b", "LKilnBench$Sum;", true)
def tyX16 : Nat → FieldType := fun k => match k with
  | 0 => .object "KilnBench$Test"
  | 1 => .object "KilnBench$Sum"
  | _ => .object "KilnBench$Sum"
abbrev wsX160 : List Cond := u_ws RX16 TX16 3
theorem nmX16 : ∀ a, a < 3 → ∀ b, b < 3 → a ≠ b → (TX16 a).2.1 ≠ (TX16 b).2.1 := by decide +kernel
theorem tyX16_ok : ∀ k, k < 3 → parseFieldDescriptor (TX16 k).2.2.1 = some (tyX16 k) := by decide +kernel
abbrev cX16_init : ByteArray := prog_10_method_1_code
def yX16_init : MethodName := ⟨RX16, "<init>", "(LKilnBench$Test;LKilnBench$Sum;LKilnBench$Sum;)V"⟩
def dkwX16_init_0 : List UInt8 := [42, 183, 0, 1, 42, 43, 181, 0, 7, 42, 44, 181, 0, 13, 42, 45, 181, 0, 17, 177]
abbrev dktX16_init_0 : List UInt8 := dkwX16_init_0 ++ []
theorem dksX16_init_0 : cX16_init.data.toList.drop 0 = dktX16_init_0 := by decide +kernel
theorem dX16_init_0 : decode cX16_init 0 = .ok (.aload_n 0, 1) := dk_42 (dk_at dksX16_init_0 0 rfl rfl)
theorem dX16_init_1 : decode cX16_init 1 = .ok (.invokespecial 1, 3) := dk_183 0 1 (dk_at dksX16_init_0 1 rfl rfl)
theorem dX16_init_4 : decode cX16_init 4 = .ok (.aload_n 0, 1) := dk_42 (dk_at dksX16_init_0 4 rfl rfl)
theorem dX16_init_5 : decode cX16_init 5 = .ok (.aload_n 1, 1) := dk_43 (dk_at dksX16_init_0 5 rfl rfl)
theorem dX16_init_6 : decode cX16_init 6 = .ok (.putfield 7, 3) := dk_181 0 7 (dk_at dksX16_init_0 6 rfl rfl)
theorem dX16_init_9 : decode cX16_init 9 = .ok (.aload_n 0, 1) := dk_42 (dk_at dksX16_init_0 9 rfl rfl)
theorem dX16_init_10 : decode cX16_init 10 = .ok (.aload_n 2, 1) := dk_44 (dk_at dksX16_init_0 10 rfl rfl)
theorem dX16_init_11 : decode cX16_init 11 = .ok (.putfield 13, 3) := dk_181 0 13 (dk_at dksX16_init_0 11 rfl rfl)
theorem dX16_init_14 : decode cX16_init 14 = .ok (.aload_n 0, 1) := dk_42 (dk_at dksX16_init_0 14 rfl rfl)
theorem dX16_init_15 : decode cX16_init 15 = .ok (.aload_n 3, 1) := dk_45 (dk_at dksX16_init_0 15 rfl rfl)
theorem dX16_init_16 : decode cX16_init 16 = .ok (.putfield 17, 3) := dk_181 0 17 (dk_at dksX16_init_0 16 rfl rfl)
theorem dX16_init_19 : decode cX16_init 19 = .ok (.return_, 1) := dk_177 (dk_at dksX16_init_0 19 rfl rfl)
abbrev cX16_of : ByteArray := prog_10_method_2_code
def yX16_of : MethodName := ⟨RX16, "of", "(LKilnBench$Asking;)J"⟩
def dkwX16_of_1 : List UInt8 := [167, 0, 13, 42, 180, 0, 17, 43, 185, 0, 26, 2, 0, 173]
abbrev dktX16_of_1 : List UInt8 := dkwX16_of_1 ++ []
def dkwX16_of_0 : List UInt8 := [42, 180, 0, 7, 43, 185, 0, 20, 2, 0, 153, 0, 16, 42, 180, 0, 13, 43, 185, 0, 26, 2, 0]
abbrev dktX16_of_0 : List UInt8 := dkwX16_of_0 ++ dktX16_of_1
theorem dksX16_of_0 : cX16_of.data.toList.drop 0 = dktX16_of_0 := by decide +kernel
theorem dksX16_of_1 : cX16_of.data.toList.drop 23 = dktX16_of_1 := dk_seg dksX16_of_0 23 rfl rfl
theorem dX16_of_0 : decode cX16_of 0 = .ok (.aload_n 0, 1) := dk_42 (dk_at dksX16_of_0 0 rfl rfl)
theorem dX16_of_1 : decode cX16_of 1 = .ok (.getfield 7, 3) := dk_180 0 7 (dk_at dksX16_of_0 1 rfl rfl)
theorem dX16_of_4 : decode cX16_of 4 = .ok (.aload_n 1, 1) := dk_43 (dk_at dksX16_of_0 4 rfl rfl)
theorem dX16_of_5 : decode cX16_of 5 = .ok (.invokeinterface 20 2, 5) := by decide +kernel
theorem dX16_of_10 : decode cX16_of 10 = .ok (.ifCond .eq 16, 3) := dk_153 0 16 (dk_at dksX16_of_0 10 rfl rfl)
theorem dX16_of_13 : decode cX16_of 13 = .ok (.aload_n 0, 1) := dk_42 (dk_at dksX16_of_0 13 rfl rfl)
theorem dX16_of_14 : decode cX16_of 14 = .ok (.getfield 13, 3) := dk_180 0 13 (dk_at dksX16_of_0 14 rfl rfl)
theorem dX16_of_17 : decode cX16_of 17 = .ok (.aload_n 1, 1) := dk_43 (dk_at dksX16_of_0 17 rfl rfl)
theorem dX16_of_18 : decode cX16_of 18 = .ok (.invokeinterface 26 2, 5) := by decide +kernel
theorem dX16_of_23 : decode cX16_of 23 = .ok (.goto 13, 3) := dk_167 0 13 (dk_at dksX16_of_1 0 rfl rfl)
theorem dX16_of_26 : decode cX16_of 26 = .ok (.aload_n 0, 1) := dk_42 (dk_at dksX16_of_1 3 rfl rfl)
theorem dX16_of_27 : decode cX16_of 27 = .ok (.getfield 17, 3) := dk_180 0 17 (dk_at dksX16_of_1 4 rfl rfl)
theorem dX16_of_30 : decode cX16_of 30 = .ok (.aload_n 1, 1) := dk_43 (dk_at dksX16_of_1 7 rfl rfl)
theorem dX16_of_31 : decode cX16_of 31 = .ok (.invokeinterface 26 2, 5) := by decide +kernel
theorem dX16_of_36 : decode cX16_of 36 = .ok (.lreturn, 1) := dk_173 (dk_at dksX16_of_1 13 rfl rfl)
theorem q110 : (Jvm.Cond.initialized "KilnBench$Chosen") ∈ lw_all := lw_g (lw_at lw_m1 34 rfl) rfl
theorem q718 : (Jvm.Cond.selects "KilnBench$Chosen" ({ cls := "java/lang/Object", name := "getClass", desc := "()Ljava/lang/Class;" } : Jvm.MethodName) ({ cls := "java/lang/Object", name := "getClass", desc := "()Ljava/lang/Class;" } : Jvm.MethodName)) ∈ lw_all := lw_g (lw_at lw_m3 162 rfl) rfl
theorem q955 : (Jvm.Cond.instantiable "KilnBench$Chosen" (3 : Nat)) ∈ lw_all := lw_g (lw_at lw_m4 159 rfl) rfl
theorem q957 : (Jvm.Cond.instanceMethod ({ cls := "KilnBench$Chosen", name := "<init>", desc := "(LKilnBench$Test;LKilnBench$Sum;LKilnBench$Sum;)V" } : Jvm.MethodName)) ∈ lw_all := lw_g (lw_at lw_m4 161 rfl) rfl
theorem q958 : (Jvm.Cond.code ({ cls := "KilnBench$Chosen", name := "<init>", desc := "(LKilnBench$Test;LKilnBench$Sum;LKilnBench$Sum;)V" } : Jvm.MethodName) prog_10_method_1_code (4 : Nat) (Option.none : Option Jvm.ClassFile.FieldType)) ∈ lw_all := lw_g (lw_at lw_m4 162 rfl) rfl
theorem q959 : (Jvm.Cond.methodLink "KilnBench$Chosen" (1 : Nat) ({ cls := "java/lang/Object", name := "<init>", desc := "()V" } : Jvm.MethodName)) ∈ lw_all := lw_g (lw_at lw_m4 163 rfl) rfl
theorem q960 : (Jvm.Cond.fieldLink "KilnBench$Chosen" (7 : Nat) "KilnBench$Chosen" "when" "LKilnBench$Test;") ∈ lw_all := lw_g (lw_at lw_m4 164 rfl) rfl
theorem q961 : (Jvm.Cond.fieldLink "KilnBench$Chosen" (13 : Nat) "KilnBench$Chosen" "a" "LKilnBench$Sum;") ∈ lw_all := lw_g (lw_at lw_m4 165 rfl) rfl
theorem q962 : (Jvm.Cond.fieldLink "KilnBench$Chosen" (17 : Nat) "KilnBench$Chosen" "b" "LKilnBench$Sum;") ∈ lw_all := lw_g (lw_at lw_m4 166 rfl) rfl
theorem q963 : (Jvm.Cond.laysFinal "KilnBench$Chosen" "KilnBench$Chosen" "when" "LKilnBench$Test;") ∈ lw_all := lw_g (lw_at lw_m4 167 rfl) rfl
theorem q964 : (Jvm.Cond.soleField "KilnBench$Chosen" "when") ∈ lw_all := lw_g (lw_at lw_m4 168 rfl) rfl
theorem q965 : (Jvm.Cond.laysFinal "KilnBench$Chosen" "KilnBench$Chosen" "a" "LKilnBench$Sum;") ∈ lw_all := lw_g (lw_at lw_m4 169 rfl) rfl
theorem q966 : (Jvm.Cond.soleField "KilnBench$Chosen" "a") ∈ lw_all := lw_g (lw_at lw_m4 170 rfl) rfl
theorem q967 : (Jvm.Cond.laysFinal "KilnBench$Chosen" "KilnBench$Chosen" "b" "LKilnBench$Sum;") ∈ lw_all := lw_g (lw_at lw_m4 171 rfl) rfl
theorem q968 : (Jvm.Cond.soleField "KilnBench$Chosen" "b") ∈ lw_all := lw_g (lw_at lw_m4 172 rfl) rfl
theorem q969 : (Jvm.Cond.superclass "KilnBench$Chosen" "java/lang/Object") ∈ lw_all := lw_g (lw_at lw_m4 173 rfl) rfl
theorem q1432 : (Jvm.Cond.castable "KilnBench$Chosen" "KilnBench$Sum") ∈ lw_tbl := lw_at lw_m6 156 rfl
theorem q1433 : (Jvm.Cond.selects "KilnBench$Chosen" ({ cls := "KilnBench$Sum", name := "of", desc := "(LKilnBench$Asking;)J" } : Jvm.MethodName) ({ cls := "KilnBench$Chosen", name := "of", desc := "(LKilnBench$Asking;)J" } : Jvm.MethodName)) ∈ lw_all := lw_g (lw_at lw_m6 157 rfl) rfl
theorem q1434 : (Jvm.Cond.unhidden "KilnBench$Chosen" "of" "(LKilnBench$Asking;)J") ∈ lw_tbl := lw_at lw_m6 158 rfl
theorem q1435 : (Jvm.Cond.instanceMethod ({ cls := "KilnBench$Chosen", name := "of", desc := "(LKilnBench$Asking;)J" } : Jvm.MethodName)) ∈ lw_all := lw_g (lw_at lw_m6 159 rfl) rfl
theorem q1436 : (Jvm.Cond.publicMethod ({ cls := "KilnBench$Chosen", name := "of", desc := "(LKilnBench$Asking;)J" } : Jvm.MethodName)) ∈ lw_tbl := lw_at lw_m6 160 rfl
theorem q1437 : (Jvm.Cond.code ({ cls := "KilnBench$Chosen", name := "of", desc := "(LKilnBench$Asking;)J" } : Jvm.MethodName) prog_10_method_2_code (2 : Nat) (Option.some Jvm.ClassFile.FieldType.long)) ∈ lw_all := lw_g (lw_at lw_m6 161 rfl) rfl
theorem q1438 : (Jvm.Cond.interfaceEntry "KilnBench$Chosen" (20 : Nat)) ∈ lw_tbl := lw_at lw_m6 162 rfl
theorem q1439 : (Jvm.Cond.methodLink "KilnBench$Chosen" (20 : Nat) ({ cls := "KilnBench$Test", name := "holds", desc := "(LKilnBench$Asking;)Z" } : Jvm.MethodName)) ∈ lw_all := lw_g (lw_at lw_m6 163 rfl) rfl
theorem q1491 : (Jvm.Cond.interfaceEntry "KilnBench$Chosen" (26 : Nat)) ∈ lw_tbl := lw_at lw_m6 215 rfl
theorem q1492 : (Jvm.Cond.methodLink "KilnBench$Chosen" (26 : Nat) ({ cls := "KilnBench$Sum", name := "of", desc := "(LKilnBench$Asking;)J" } : Jvm.MethodName)) ∈ lw_all := lw_g (lw_at lw_m6 216 rfl) rfl
theorem q2186 : (Jvm.Cond.castable "KilnBench$Chosen" "java/lang/Object") ∈ lw_tbl := lw_at lw_m9 190 rfl
theorem in_X16 : ∀ w ∈ wsX160, w ∈ lw_all := lw_in wsX160 [963, 965, 967] (by decide +kernel) (by decide +kernel)

/-! KilnBench$Ends -/
set_option maxRecDepth 100000
def RX17 : String := "KilnBench$Ends"
def TX17 : u_T := fun k => match k with
  | 0 => ("KilnBench$Ends", "least", "Z", true)
  | 1 => ("KilnBench$Ends", "a", "LKilnBench$Sum;", true)
  | _ => ("KilnBench$Ends", "b", "LKilnBench$Sum;", true)
def tyX17 : Nat → FieldType := fun k => match k with
  | 0 => .boolean
  | 1 => .object "KilnBench$Sum"
  | _ => .object "KilnBench$Sum"
abbrev wsX170 : List Cond := u_ws RX17 TX17 3
theorem nmX17 : ∀ a, a < 3 → ∀ b, b < 3 → a ≠ b → (TX17 a).2.1 ≠ (TX17 b).2.1 := by decide +kernel
theorem tyX17_ok : ∀ k, k < 3 → parseFieldDescriptor (TX17 k).2.2.1 = some (tyX17 k) := by decide +kernel
abbrev cX17_init : ByteArray := prog_11_method_1_code
def yX17_init : MethodName := ⟨RX17, "<init>", "(ZLKilnBench$Sum;LKilnBench$Sum;)V"⟩
def dkwX17_init_0 : List UInt8 := [42, 183, 0, 1, 42, 27, 181, 0, 7, 42, 44, 181, 0, 13, 42, 45, 181, 0, 17, 177]
abbrev dktX17_init_0 : List UInt8 := dkwX17_init_0 ++ []
theorem dksX17_init_0 : cX17_init.data.toList.drop 0 = dktX17_init_0 := by decide +kernel
theorem dX17_init_0 : decode cX17_init 0 = .ok (.aload_n 0, 1) := dk_42 (dk_at dksX17_init_0 0 rfl rfl)
theorem dX17_init_1 : decode cX17_init 1 = .ok (.invokespecial 1, 3) := dk_183 0 1 (dk_at dksX17_init_0 1 rfl rfl)
theorem dX17_init_4 : decode cX17_init 4 = .ok (.aload_n 0, 1) := dk_42 (dk_at dksX17_init_0 4 rfl rfl)
theorem dX17_init_5 : decode cX17_init 5 = .ok (.iload_n 1, 1) := dk_27 (dk_at dksX17_init_0 5 rfl rfl)
theorem dX17_init_6 : decode cX17_init 6 = .ok (.putfield 7, 3) := dk_181 0 7 (dk_at dksX17_init_0 6 rfl rfl)
theorem dX17_init_9 : decode cX17_init 9 = .ok (.aload_n 0, 1) := dk_42 (dk_at dksX17_init_0 9 rfl rfl)
theorem dX17_init_10 : decode cX17_init 10 = .ok (.aload_n 2, 1) := dk_44 (dk_at dksX17_init_0 10 rfl rfl)
theorem dX17_init_11 : decode cX17_init 11 = .ok (.putfield 13, 3) := dk_181 0 13 (dk_at dksX17_init_0 11 rfl rfl)
theorem dX17_init_14 : decode cX17_init 14 = .ok (.aload_n 0, 1) := dk_42 (dk_at dksX17_init_0 14 rfl rfl)
theorem dX17_init_15 : decode cX17_init 15 = .ok (.aload_n 3, 1) := dk_45 (dk_at dksX17_init_0 15 rfl rfl)
theorem dX17_init_16 : decode cX17_init 16 = .ok (.putfield 17, 3) := dk_181 0 17 (dk_at dksX17_init_0 16 rfl rfl)
theorem dX17_init_19 : decode cX17_init 19 = .ok (.return_, 1) := dk_177 (dk_at dksX17_init_0 19 rfl rfl)
abbrev cX17_of : ByteArray := prog_11_method_2_code
def yX17_of : MethodName := ⟨RX17, "of", "(LKilnBench$Asking;)J"⟩
def dkwX17_of_2 : List UInt8 := [180, 0, 17, 43, 185, 0, 20, 2, 0, 184, 0, 32, 173]
abbrev dktX17_of_2 : List UInt8 := dkwX17_of_2 ++ []
def dkwX17_of_1 : List UInt8 := [185, 0, 20, 2, 0, 184, 0, 26, 167, 0, 26, 42, 180, 0, 13, 43, 185, 0, 20, 2, 0, 42]
abbrev dktX17_of_1 : List UInt8 := dkwX17_of_1 ++ dktX17_of_2
def dkwX17_of_0 : List UInt8 := [42, 180, 0, 7, 153, 0, 29, 42, 180, 0, 13, 43, 185, 0, 20, 2, 0, 42, 180, 0, 17, 43]
abbrev dktX17_of_0 : List UInt8 := dkwX17_of_0 ++ dktX17_of_1
theorem dksX17_of_0 : cX17_of.data.toList.drop 0 = dktX17_of_0 := by decide +kernel
theorem dksX17_of_1 : cX17_of.data.toList.drop 22 = dktX17_of_1 := dk_seg dksX17_of_0 22 rfl rfl
theorem dksX17_of_2 : cX17_of.data.toList.drop 44 = dktX17_of_2 := dk_seg dksX17_of_1 22 rfl rfl
theorem dX17_of_0 : decode cX17_of 0 = .ok (.aload_n 0, 1) := dk_42 (dk_at dksX17_of_0 0 rfl rfl)
theorem dX17_of_1 : decode cX17_of 1 = .ok (.getfield 7, 3) := dk_180 0 7 (dk_at dksX17_of_0 1 rfl rfl)
theorem dX17_of_4 : decode cX17_of 4 = .ok (.ifCond .eq 29, 3) := dk_153 0 29 (dk_at dksX17_of_0 4 rfl rfl)
theorem dX17_of_7 : decode cX17_of 7 = .ok (.aload_n 0, 1) := dk_42 (dk_at dksX17_of_0 7 rfl rfl)
theorem dX17_of_8 : decode cX17_of 8 = .ok (.getfield 13, 3) := dk_180 0 13 (dk_at dksX17_of_0 8 rfl rfl)
theorem dX17_of_11 : decode cX17_of 11 = .ok (.aload_n 1, 1) := dk_43 (dk_at dksX17_of_0 11 rfl rfl)
theorem dX17_of_12 : decode cX17_of 12 = .ok (.invokeinterface 20 2, 5) := by decide +kernel
theorem dX17_of_17 : decode cX17_of 17 = .ok (.aload_n 0, 1) := dk_42 (dk_at dksX17_of_0 17 rfl rfl)
theorem dX17_of_18 : decode cX17_of 18 = .ok (.getfield 17, 3) := dk_180 0 17 (dk_at dksX17_of_0 18 rfl rfl)
theorem dX17_of_21 : decode cX17_of 21 = .ok (.aload_n 1, 1) := dk_43 (dk_at dksX17_of_0 21 rfl rfl)
theorem dX17_of_22 : decode cX17_of 22 = .ok (.invokeinterface 20 2, 5) := by decide +kernel
theorem dX17_of_27 : decode cX17_of 27 = .ok (.invokestatic 26, 3) := dk_184 0 26 (dk_at dksX17_of_1 5 rfl rfl)
theorem dX17_of_30 : decode cX17_of 30 = .ok (.goto 26, 3) := dk_167 0 26 (dk_at dksX17_of_1 8 rfl rfl)
theorem dX17_of_33 : decode cX17_of 33 = .ok (.aload_n 0, 1) := dk_42 (dk_at dksX17_of_1 11 rfl rfl)
theorem dX17_of_34 : decode cX17_of 34 = .ok (.getfield 13, 3) := dk_180 0 13 (dk_at dksX17_of_1 12 rfl rfl)
theorem dX17_of_37 : decode cX17_of 37 = .ok (.aload_n 1, 1) := dk_43 (dk_at dksX17_of_1 15 rfl rfl)
theorem dX17_of_38 : decode cX17_of 38 = .ok (.invokeinterface 20 2, 5) := by decide +kernel
theorem dX17_of_43 : decode cX17_of 43 = .ok (.aload_n 0, 1) := dk_42 (dk_at dksX17_of_1 21 rfl rfl)
theorem dX17_of_44 : decode cX17_of 44 = .ok (.getfield 17, 3) := dk_180 0 17 (dk_at dksX17_of_2 0 rfl rfl)
theorem dX17_of_47 : decode cX17_of 47 = .ok (.aload_n 1, 1) := dk_43 (dk_at dksX17_of_2 3 rfl rfl)
theorem dX17_of_48 : decode cX17_of 48 = .ok (.invokeinterface 20 2, 5) := by decide +kernel
theorem dX17_of_53 : decode cX17_of 53 = .ok (.invokestatic 32, 3) := dk_184 0 32 (dk_at dksX17_of_2 9 rfl rfl)
theorem dX17_of_56 : decode cX17_of 56 = .ok (.lreturn, 1) := dk_173 (dk_at dksX17_of_2 12 rfl rfl)
theorem q111 : (Jvm.Cond.initialized "KilnBench$Ends") ∈ lw_all := lw_g (lw_at lw_m1 35 rfl) rfl
theorem q719 : (Jvm.Cond.selects "KilnBench$Ends" ({ cls := "java/lang/Object", name := "getClass", desc := "()Ljava/lang/Class;" } : Jvm.MethodName) ({ cls := "java/lang/Object", name := "getClass", desc := "()Ljava/lang/Class;" } : Jvm.MethodName)) ∈ lw_all := lw_g (lw_at lw_m3 163 rfl) rfl
theorem q973 : (Jvm.Cond.instantiable "KilnBench$Ends" (3 : Nat)) ∈ lw_all := lw_g (lw_at lw_m4 177 rfl) rfl
theorem q975 : (Jvm.Cond.instanceMethod ({ cls := "KilnBench$Ends", name := "<init>", desc := "(ZLKilnBench$Sum;LKilnBench$Sum;)V" } : Jvm.MethodName)) ∈ lw_all := lw_g (lw_at lw_m4 179 rfl) rfl
theorem q976 : (Jvm.Cond.code ({ cls := "KilnBench$Ends", name := "<init>", desc := "(ZLKilnBench$Sum;LKilnBench$Sum;)V" } : Jvm.MethodName) prog_11_method_1_code (4 : Nat) (Option.none : Option Jvm.ClassFile.FieldType)) ∈ lw_all := lw_g (lw_at lw_m4 180 rfl) rfl
theorem q977 : (Jvm.Cond.methodLink "KilnBench$Ends" (1 : Nat) ({ cls := "java/lang/Object", name := "<init>", desc := "()V" } : Jvm.MethodName)) ∈ lw_all := lw_g (lw_at lw_m4 181 rfl) rfl
theorem q978 : (Jvm.Cond.fieldLink "KilnBench$Ends" (7 : Nat) "KilnBench$Ends" "least" "Z") ∈ lw_all := lw_g (lw_at lw_m4 182 rfl) rfl
theorem q979 : (Jvm.Cond.fieldLink "KilnBench$Ends" (13 : Nat) "KilnBench$Ends" "a" "LKilnBench$Sum;") ∈ lw_all := lw_g (lw_at lw_m4 183 rfl) rfl
theorem q980 : (Jvm.Cond.fieldLink "KilnBench$Ends" (17 : Nat) "KilnBench$Ends" "b" "LKilnBench$Sum;") ∈ lw_all := lw_g (lw_at lw_m4 184 rfl) rfl
theorem q981 : (Jvm.Cond.laysFinal "KilnBench$Ends" "KilnBench$Ends" "least" "Z") ∈ lw_all := lw_g (lw_at lw_m4 185 rfl) rfl
theorem q982 : (Jvm.Cond.soleField "KilnBench$Ends" "least") ∈ lw_all := lw_g (lw_at lw_m4 186 rfl) rfl
theorem q983 : (Jvm.Cond.laysFinal "KilnBench$Ends" "KilnBench$Ends" "a" "LKilnBench$Sum;") ∈ lw_all := lw_g (lw_at lw_m4 187 rfl) rfl
theorem q984 : (Jvm.Cond.soleField "KilnBench$Ends" "a") ∈ lw_all := lw_g (lw_at lw_m4 188 rfl) rfl
theorem q985 : (Jvm.Cond.laysFinal "KilnBench$Ends" "KilnBench$Ends" "b" "LKilnBench$Sum;") ∈ lw_all := lw_g (lw_at lw_m4 189 rfl) rfl
theorem q986 : (Jvm.Cond.soleField "KilnBench$Ends" "b") ∈ lw_all := lw_g (lw_at lw_m4 190 rfl) rfl
theorem q987 : (Jvm.Cond.superclass "KilnBench$Ends" "java/lang/Object") ∈ lw_all := lw_g (lw_at lw_m4 191 rfl) rfl
theorem q1449 : (Jvm.Cond.castable "KilnBench$Ends" "KilnBench$Sum") ∈ lw_tbl := lw_at lw_m6 173 rfl
theorem q1450 : (Jvm.Cond.selects "KilnBench$Ends" ({ cls := "KilnBench$Sum", name := "of", desc := "(LKilnBench$Asking;)J" } : Jvm.MethodName) ({ cls := "KilnBench$Ends", name := "of", desc := "(LKilnBench$Asking;)J" } : Jvm.MethodName)) ∈ lw_all := lw_g (lw_at lw_m6 174 rfl) rfl
theorem q1451 : (Jvm.Cond.unhidden "KilnBench$Ends" "of" "(LKilnBench$Asking;)J") ∈ lw_tbl := lw_at lw_m6 175 rfl
theorem q1452 : (Jvm.Cond.instanceMethod ({ cls := "KilnBench$Ends", name := "of", desc := "(LKilnBench$Asking;)J" } : Jvm.MethodName)) ∈ lw_all := lw_g (lw_at lw_m6 176 rfl) rfl
theorem q1453 : (Jvm.Cond.publicMethod ({ cls := "KilnBench$Ends", name := "of", desc := "(LKilnBench$Asking;)J" } : Jvm.MethodName)) ∈ lw_tbl := lw_at lw_m6 177 rfl
theorem q1454 : (Jvm.Cond.code ({ cls := "KilnBench$Ends", name := "of", desc := "(LKilnBench$Asking;)J" } : Jvm.MethodName) prog_11_method_2_code (2 : Nat) (Option.some Jvm.ClassFile.FieldType.long)) ∈ lw_all := lw_g (lw_at lw_m6 178 rfl) rfl
theorem q1455 : (Jvm.Cond.interfaceEntry "KilnBench$Ends" (20 : Nat)) ∈ lw_tbl := lw_at lw_m6 179 rfl
theorem q1456 : (Jvm.Cond.methodLink "KilnBench$Ends" (20 : Nat) ({ cls := "KilnBench$Sum", name := "of", desc := "(LKilnBench$Asking;)J" } : Jvm.MethodName)) ∈ lw_all := lw_g (lw_at lw_m6 180 rfl) rfl
theorem q1463 : (Jvm.Cond.methodLink "KilnBench$Ends" (26 : Nat) ({ cls := "java/lang/Math", name := "min", desc := "(JJ)J" } : Jvm.MethodName)) ∈ lw_all := lw_g (lw_at lw_m6 187 rfl) rfl
theorem q1466 : (Jvm.Cond.methodLink "KilnBench$Ends" (32 : Nat) ({ cls := "java/lang/Math", name := "max", desc := "(JJ)J" } : Jvm.MethodName)) ∈ lw_all := lw_g (lw_at lw_m6 190 rfl) rfl
theorem q2187 : (Jvm.Cond.castable "KilnBench$Ends" "java/lang/Object") ∈ lw_tbl := lw_at lw_m9 191 rfl
theorem in_X17 : ∀ w ∈ wsX170, w ∈ lw_all := lw_in wsX170 [981, 983, 985] (by decide +kernel) (by decide +kernel)

/-! KilnBench$Chain -/
set_option maxRecDepth 100000
def RX18 : String := "KilnBench$Chain"
def TX18 : u_T := fun k => match k with
  | 0 => ("KilnBench$Chain", "parts", "Ljava/util/ArrayList;", true)
  | _ => ("KilnBench$Chain", "signs", "Ljava/lang/StringBuilder;", true)
def tyX18 : Nat → FieldType := fun k => match k with
  | 0 => .object "java/util/ArrayList"
  | _ => .object "java/lang/StringBuilder"
abbrev wsX180 : List Cond := u_ws RX18 TX18 2
theorem nmX18 : ∀ a, a < 2 → ∀ b, b < 2 → a ≠ b → (TX18 a).2.1 ≠ (TX18 b).2.1 := by decide +kernel
theorem tyX18_ok : ∀ k, k < 2 → parseFieldDescriptor (TX18 k).2.2.1 = some (tyX18 k) := by decide +kernel
abbrev cX18_init : ByteArray := prog_8_method_1_code
def yX18_init : MethodName := ⟨RX18, "<init>", "()V"⟩
def dkwX18_init_1 : List UInt8 := [181, 0, 19, 177]
abbrev dktX18_init_1 : List UInt8 := dkwX18_init_1 ++ []
def dkwX18_init_0 : List UInt8 := [42, 183, 0, 1, 42, 187, 0, 7, 89, 183, 0, 9, 181, 0, 10, 42, 187, 0, 16, 89, 183, 0, 18]
abbrev dktX18_init_0 : List UInt8 := dkwX18_init_0 ++ dktX18_init_1
theorem dksX18_init_0 : cX18_init.data.toList.drop 0 = dktX18_init_0 := by decide +kernel
theorem dksX18_init_1 : cX18_init.data.toList.drop 23 = dktX18_init_1 := dk_seg dksX18_init_0 23 rfl rfl
theorem dX18_init_0 : decode cX18_init 0 = .ok (.aload_n 0, 1) := dk_42 (dk_at dksX18_init_0 0 rfl rfl)
theorem dX18_init_1 : decode cX18_init 1 = .ok (.invokespecial 1, 3) := dk_183 0 1 (dk_at dksX18_init_0 1 rfl rfl)
theorem dX18_init_4 : decode cX18_init 4 = .ok (.aload_n 0, 1) := dk_42 (dk_at dksX18_init_0 4 rfl rfl)
theorem dX18_init_5 : decode cX18_init 5 = .ok (.new 7, 3) := dk_187 0 7 (dk_at dksX18_init_0 5 rfl rfl)
theorem dX18_init_8 : decode cX18_init 8 = .ok (.dup, 1) := dk_89 (dk_at dksX18_init_0 8 rfl rfl)
theorem dX18_init_9 : decode cX18_init 9 = .ok (.invokespecial 9, 3) := dk_183 0 9 (dk_at dksX18_init_0 9 rfl rfl)
theorem dX18_init_12 : decode cX18_init 12 = .ok (.putfield 10, 3) := dk_181 0 10 (dk_at dksX18_init_0 12 rfl rfl)
theorem dX18_init_15 : decode cX18_init 15 = .ok (.aload_n 0, 1) := dk_42 (dk_at dksX18_init_0 15 rfl rfl)
theorem dX18_init_16 : decode cX18_init 16 = .ok (.new 16, 3) := dk_187 0 16 (dk_at dksX18_init_0 16 rfl rfl)
theorem dX18_init_19 : decode cX18_init 19 = .ok (.dup, 1) := dk_89 (dk_at dksX18_init_0 19 rfl rfl)
theorem dX18_init_20 : decode cX18_init 20 = .ok (.invokespecial 18, 3) := dk_183 0 18 (dk_at dksX18_init_0 20 rfl rfl)
theorem dX18_init_23 : decode cX18_init 23 = .ok (.putfield 19, 3) := dk_181 0 19 (dk_at dksX18_init_1 0 rfl rfl)
theorem dX18_init_26 : decode cX18_init 26 = .ok (.return_, 1) := dk_177 (dk_at dksX18_init_1 3 rfl rfl)
abbrev cX18_comes : ByteArray := prog_8_method_2_code
def yX18_comes : MethodName := ⟨RX18, "comes", "(CLKilnBench$Sum;)V"⟩
def dkwX18_comes_0 : List UInt8 := [42, 180, 0, 19, 27, 182, 0, 23, 87, 42, 180, 0, 10, 44, 182, 0, 27, 87, 177]
abbrev dktX18_comes_0 : List UInt8 := dkwX18_comes_0 ++ []
theorem dksX18_comes_0 : cX18_comes.data.toList.drop 0 = dktX18_comes_0 := by decide +kernel
theorem dX18_comes_0 : decode cX18_comes 0 = .ok (.aload_n 0, 1) := dk_42 (dk_at dksX18_comes_0 0 rfl rfl)
theorem dX18_comes_1 : decode cX18_comes 1 = .ok (.getfield 19, 3) := dk_180 0 19 (dk_at dksX18_comes_0 1 rfl rfl)
theorem dX18_comes_4 : decode cX18_comes 4 = .ok (.iload_n 1, 1) := dk_27 (dk_at dksX18_comes_0 4 rfl rfl)
theorem dX18_comes_5 : decode cX18_comes 5 = .ok (.invokevirtual 23, 3) := dk_182 0 23 (dk_at dksX18_comes_0 5 rfl rfl)
theorem dX18_comes_8 : decode cX18_comes 8 = .ok (.pop, 1) := dk_87 (dk_at dksX18_comes_0 8 rfl rfl)
theorem dX18_comes_9 : decode cX18_comes 9 = .ok (.aload_n 0, 1) := dk_42 (dk_at dksX18_comes_0 9 rfl rfl)
theorem dX18_comes_10 : decode cX18_comes 10 = .ok (.getfield 10, 3) := dk_180 0 10 (dk_at dksX18_comes_0 10 rfl rfl)
theorem dX18_comes_13 : decode cX18_comes 13 = .ok (.aload_n 2, 1) := dk_44 (dk_at dksX18_comes_0 13 rfl rfl)
theorem dX18_comes_14 : decode cX18_comes 14 = .ok (.invokevirtual 27, 3) := dk_182 0 27 (dk_at dksX18_comes_0 14 rfl rfl)
theorem dX18_comes_17 : decode cX18_comes 17 = .ok (.pop, 1) := dk_87 (dk_at dksX18_comes_0 17 rfl rfl)
theorem dX18_comes_18 : decode cX18_comes 18 = .ok (.return_, 1) := dk_177 (dk_at dksX18_comes_0 18 rfl rfl)
abbrev cX18_of : ByteArray := prog_8_method_4_code
def yX18_of : MethodName := ⟨RX18, "of", "(LKilnBench$Asking;)J"⟩
def dkwX18_of_3 : List UInt8 := [32, 173]
abbrev dktX18_of_3 : List UInt8 := dkwX18_of_3 ++ []
def dkwX18_of_2 : List UInt8 := [21, 4, 182, 0, 46, 192, 0, 50, 43, 185, 0, 52, 2, 0, 184, 0, 64, 65, 132, 4, 1, 167, 255, 209]
abbrev dktX18_of_2 : List UInt8 := dkwX18_of_2 ++ dktX18_of_3
def dkwX18_of_1 : List UInt8 := [180, 0, 10, 182, 0, 56, 162, 0, 41, 42, 180, 0, 19, 21, 4, 182, 0, 60, 32, 42, 180, 0, 10]
abbrev dktX18_of_1 : List UInt8 := dkwX18_of_1 ++ dktX18_of_2
def dkwX18_of_0 : List UInt8 := [42, 180, 0, 10, 3, 182, 0, 46, 192, 0, 50, 43, 185, 0, 52, 2, 0, 65, 4, 54, 4, 21, 4, 42]
abbrev dktX18_of_0 : List UInt8 := dkwX18_of_0 ++ dktX18_of_1
theorem dksX18_of_0 : cX18_of.data.toList.drop 0 = dktX18_of_0 := by decide +kernel
theorem dksX18_of_1 : cX18_of.data.toList.drop 24 = dktX18_of_1 := dk_seg dksX18_of_0 24 rfl rfl
theorem dksX18_of_2 : cX18_of.data.toList.drop 47 = dktX18_of_2 := dk_seg dksX18_of_1 23 rfl rfl
theorem dksX18_of_3 : cX18_of.data.toList.drop 71 = dktX18_of_3 := dk_seg dksX18_of_2 24 rfl rfl
theorem dX18_of_0 : decode cX18_of 0 = .ok (.aload_n 0, 1) := dk_42 (dk_at dksX18_of_0 0 rfl rfl)
theorem dX18_of_1 : decode cX18_of 1 = .ok (.getfield 10, 3) := dk_180 0 10 (dk_at dksX18_of_0 1 rfl rfl)
theorem dX18_of_4 : decode cX18_of 4 = .ok (.iconst 0, 1) := dk_3 (dk_at dksX18_of_0 4 rfl rfl)
theorem dX18_of_5 : decode cX18_of 5 = .ok (.invokevirtual 46, 3) := dk_182 0 46 (dk_at dksX18_of_0 5 rfl rfl)
theorem dX18_of_8 : decode cX18_of 8 = .ok (.checkcast 50, 3) := dk_192 0 50 (dk_at dksX18_of_0 8 rfl rfl)
theorem dX18_of_11 : decode cX18_of 11 = .ok (.aload_n 1, 1) := dk_43 (dk_at dksX18_of_0 11 rfl rfl)
theorem dX18_of_12 : decode cX18_of 12 = .ok (.invokeinterface 52 2, 5) := by decide +kernel
theorem dX18_of_17 : decode cX18_of 17 = .ok (.lstore_n 2, 1) := dk_65 (dk_at dksX18_of_0 17 rfl rfl)
theorem dX18_of_18 : decode cX18_of 18 = .ok (.iconst 1, 1) := dk_4 (dk_at dksX18_of_0 18 rfl rfl)
theorem dX18_of_19 : decode cX18_of 19 = .ok (.istore 4, 2) := dk_54 4 (dk_at dksX18_of_0 19 rfl rfl)
theorem dX18_of_21 : decode cX18_of 21 = .ok (.iload 4, 2) := dk_21 4 (dk_at dksX18_of_0 21 rfl rfl)
theorem dX18_of_23 : decode cX18_of 23 = .ok (.aload_n 0, 1) := dk_42 (dk_at dksX18_of_0 23 rfl rfl)
theorem dX18_of_24 : decode cX18_of 24 = .ok (.getfield 10, 3) := dk_180 0 10 (dk_at dksX18_of_1 0 rfl rfl)
theorem dX18_of_27 : decode cX18_of 27 = .ok (.invokevirtual 56, 3) := dk_182 0 56 (dk_at dksX18_of_1 3 rfl rfl)
theorem dX18_of_30 : decode cX18_of 30 = .ok (.if_icmp .ge 41, 3) := dk_162 0 41 (dk_at dksX18_of_1 6 rfl rfl)
theorem dX18_of_33 : decode cX18_of 33 = .ok (.aload_n 0, 1) := dk_42 (dk_at dksX18_of_1 9 rfl rfl)
theorem dX18_of_34 : decode cX18_of 34 = .ok (.getfield 19, 3) := dk_180 0 19 (dk_at dksX18_of_1 10 rfl rfl)
theorem dX18_of_37 : decode cX18_of 37 = .ok (.iload 4, 2) := dk_21 4 (dk_at dksX18_of_1 13 rfl rfl)
theorem dX18_of_39 : decode cX18_of 39 = .ok (.invokevirtual 60, 3) := dk_182 0 60 (dk_at dksX18_of_1 15 rfl rfl)
theorem dX18_of_42 : decode cX18_of 42 = .ok (.lload_n 2, 1) := dk_32 (dk_at dksX18_of_1 18 rfl rfl)
theorem dX18_of_43 : decode cX18_of 43 = .ok (.aload_n 0, 1) := dk_42 (dk_at dksX18_of_1 19 rfl rfl)
theorem dX18_of_44 : decode cX18_of 44 = .ok (.getfield 10, 3) := dk_180 0 10 (dk_at dksX18_of_1 20 rfl rfl)
theorem dX18_of_47 : decode cX18_of 47 = .ok (.iload 4, 2) := dk_21 4 (dk_at dksX18_of_2 0 rfl rfl)
theorem dX18_of_49 : decode cX18_of 49 = .ok (.invokevirtual 46, 3) := dk_182 0 46 (dk_at dksX18_of_2 2 rfl rfl)
theorem dX18_of_52 : decode cX18_of 52 = .ok (.checkcast 50, 3) := dk_192 0 50 (dk_at dksX18_of_2 5 rfl rfl)
theorem dX18_of_55 : decode cX18_of 55 = .ok (.aload_n 1, 1) := dk_43 (dk_at dksX18_of_2 8 rfl rfl)
theorem dX18_of_56 : decode cX18_of 56 = .ok (.invokeinterface 52 2, 5) := by decide +kernel
theorem dX18_of_61 : decode cX18_of 61 = .ok (.invokestatic 64, 3) := dk_184 0 64 (dk_at dksX18_of_2 14 rfl rfl)
theorem dX18_of_64 : decode cX18_of 64 = .ok (.lstore_n 2, 1) := dk_65 (dk_at dksX18_of_2 17 rfl rfl)
theorem dX18_of_65 : decode cX18_of 65 = .ok (.iinc 4 1, 3) := dk_132 4 1 (dk_at dksX18_of_2 18 rfl rfl)
theorem dX18_of_68 : decode cX18_of 68 = .ok (.goto (-47), 3) := dk_167 255 209 (dk_at dksX18_of_2 21 rfl rfl)
theorem dX18_of_71 : decode cX18_of 71 = .ok (.lload_n 2, 1) := dk_32 (dk_at dksX18_of_3 0 rfl rfl)
theorem dX18_of_72 : decode cX18_of 72 = .ok (.lreturn, 1) := dk_173 (dk_at dksX18_of_3 1 rfl rfl)
abbrev cX18_joined : ByteArray := prog_8_method_3_code
def yX18_joined : MethodName := ⟨RX18, "joined", "(CJJ)J"⟩
def dkwX18_joined_4 : List UInt8 := [33, 184, 0, 43, 173]
abbrev dktX18_joined_4 : List UInt8 := dkwX18_joined_4 ++ []
def dkwX18_joined_3 : List UInt8 := [154, 0, 7, 9, 167, 0, 8, 31, 33, 184, 0, 37, 173, 33, 9, 148, 154, 0, 7, 9, 167, 0, 8, 31]
abbrev dktX18_joined_3 : List UInt8 := dkwX18_joined_3 ++ dktX18_joined_4
def dkwX18_joined_2 : List UInt8 := [31, 33, 97, 184, 0, 31, 173, 31, 33, 101, 184, 0, 31, 173, 31, 33, 105, 184, 0, 31, 173, 33, 9, 148]
abbrev dktX18_joined_2 : List UInt8 := dkwX18_joined_2 ++ dktX18_joined_3
def dkwX18_joined_1 : List UInt8 := [170, 0, 0, 0, 0, 0, 76, 0, 0, 0, 42, 0, 0, 0, 47, 0, 0, 0, 53, 0, 0, 0, 39, 0, 0, 0, 76, 0, 0, 0, 46, 0, 0, 0, 76, 0, 0, 0, 60]
abbrev dktX18_joined_1 : List UInt8 := dkwX18_joined_1 ++ dktX18_joined_2
def dkwX18_joined_0 : List UInt8 := [26]
abbrev dktX18_joined_0 : List UInt8 := dkwX18_joined_0 ++ dktX18_joined_1
theorem dksX18_joined_0 : cX18_joined.data.toList.drop 0 = dktX18_joined_0 := by decide +kernel
theorem dksX18_joined_1 : cX18_joined.data.toList.drop 1 = dktX18_joined_1 := dk_seg dksX18_joined_0 1 rfl rfl
theorem dksX18_joined_2 : cX18_joined.data.toList.drop 40 = dktX18_joined_2 := dk_seg dksX18_joined_1 39 rfl rfl
theorem dksX18_joined_3 : cX18_joined.data.toList.drop 64 = dktX18_joined_3 := dk_seg dksX18_joined_2 24 rfl rfl
theorem dksX18_joined_4 : cX18_joined.data.toList.drop 88 = dktX18_joined_4 := dk_seg dksX18_joined_3 24 rfl rfl
theorem dX18_joined_0 : decode cX18_joined 0 = .ok (.iload_n 0, 1) := dk_26 (dk_at dksX18_joined_0 0 rfl rfl)
theorem dX18_joined_1 : decode cX18_joined 1 = .ok (.tableswitch 76 42 47 #[53, 39, 76, 46, 76, 60], 39) := by decide +kernel
theorem dX18_joined_40 : decode cX18_joined 40 = .ok (.lload_n 1, 1) := dk_31 (dk_at dksX18_joined_2 0 rfl rfl)
theorem dX18_joined_41 : decode cX18_joined 41 = .ok (.lload_n 3, 1) := dk_33 (dk_at dksX18_joined_2 1 rfl rfl)
theorem dX18_joined_42 : decode cX18_joined 42 = .ok (.ladd, 1) := dk_97 (dk_at dksX18_joined_2 2 rfl rfl)
theorem dX18_joined_43 : decode cX18_joined 43 = .ok (.invokestatic 31, 3) := dk_184 0 31 (dk_at dksX18_joined_2 3 rfl rfl)
theorem dX18_joined_46 : decode cX18_joined 46 = .ok (.lreturn, 1) := dk_173 (dk_at dksX18_joined_2 6 rfl rfl)
theorem dX18_joined_47 : decode cX18_joined 47 = .ok (.lload_n 1, 1) := dk_31 (dk_at dksX18_joined_2 7 rfl rfl)
theorem dX18_joined_48 : decode cX18_joined 48 = .ok (.lload_n 3, 1) := dk_33 (dk_at dksX18_joined_2 8 rfl rfl)
theorem dX18_joined_49 : decode cX18_joined 49 = .ok (.lsub, 1) := dk_101 (dk_at dksX18_joined_2 9 rfl rfl)
theorem dX18_joined_50 : decode cX18_joined 50 = .ok (.invokestatic 31, 3) := dk_184 0 31 (dk_at dksX18_joined_2 10 rfl rfl)
theorem dX18_joined_53 : decode cX18_joined 53 = .ok (.lreturn, 1) := dk_173 (dk_at dksX18_joined_2 13 rfl rfl)
theorem dX18_joined_54 : decode cX18_joined 54 = .ok (.lload_n 1, 1) := dk_31 (dk_at dksX18_joined_2 14 rfl rfl)
theorem dX18_joined_55 : decode cX18_joined 55 = .ok (.lload_n 3, 1) := dk_33 (dk_at dksX18_joined_2 15 rfl rfl)
theorem dX18_joined_56 : decode cX18_joined 56 = .ok (.lmul, 1) := dk_105 (dk_at dksX18_joined_2 16 rfl rfl)
theorem dX18_joined_57 : decode cX18_joined 57 = .ok (.invokestatic 31, 3) := dk_184 0 31 (dk_at dksX18_joined_2 17 rfl rfl)
theorem dX18_joined_60 : decode cX18_joined 60 = .ok (.lreturn, 1) := dk_173 (dk_at dksX18_joined_2 20 rfl rfl)
theorem dX18_joined_61 : decode cX18_joined 61 = .ok (.lload_n 3, 1) := dk_33 (dk_at dksX18_joined_2 21 rfl rfl)
theorem dX18_joined_62 : decode cX18_joined 62 = .ok (.lconst 0, 1) := dk_9 (dk_at dksX18_joined_2 22 rfl rfl)
theorem dX18_joined_63 : decode cX18_joined 63 = .ok (.lcmp, 1) := dk_148 (dk_at dksX18_joined_2 23 rfl rfl)
theorem dX18_joined_64 : decode cX18_joined 64 = .ok (.ifCond .ne 7, 3) := dk_154 0 7 (dk_at dksX18_joined_3 0 rfl rfl)
theorem dX18_joined_67 : decode cX18_joined 67 = .ok (.lconst 0, 1) := dk_9 (dk_at dksX18_joined_3 3 rfl rfl)
theorem dX18_joined_68 : decode cX18_joined 68 = .ok (.goto 8, 3) := dk_167 0 8 (dk_at dksX18_joined_3 4 rfl rfl)
theorem dX18_joined_71 : decode cX18_joined 71 = .ok (.lload_n 1, 1) := dk_31 (dk_at dksX18_joined_3 7 rfl rfl)
theorem dX18_joined_72 : decode cX18_joined 72 = .ok (.lload_n 3, 1) := dk_33 (dk_at dksX18_joined_3 8 rfl rfl)
theorem dX18_joined_73 : decode cX18_joined 73 = .ok (.invokestatic 37, 3) := dk_184 0 37 (dk_at dksX18_joined_3 9 rfl rfl)
theorem dX18_joined_76 : decode cX18_joined 76 = .ok (.lreturn, 1) := dk_173 (dk_at dksX18_joined_3 12 rfl rfl)
theorem dX18_joined_77 : decode cX18_joined 77 = .ok (.lload_n 3, 1) := dk_33 (dk_at dksX18_joined_3 13 rfl rfl)
theorem dX18_joined_78 : decode cX18_joined 78 = .ok (.lconst 0, 1) := dk_9 (dk_at dksX18_joined_3 14 rfl rfl)
theorem dX18_joined_79 : decode cX18_joined 79 = .ok (.lcmp, 1) := dk_148 (dk_at dksX18_joined_3 15 rfl rfl)
theorem dX18_joined_80 : decode cX18_joined 80 = .ok (.ifCond .ne 7, 3) := dk_154 0 7 (dk_at dksX18_joined_3 16 rfl rfl)
theorem dX18_joined_83 : decode cX18_joined 83 = .ok (.lconst 0, 1) := dk_9 (dk_at dksX18_joined_3 19 rfl rfl)
theorem dX18_joined_84 : decode cX18_joined 84 = .ok (.goto 8, 3) := dk_167 0 8 (dk_at dksX18_joined_3 20 rfl rfl)
theorem dX18_joined_87 : decode cX18_joined 87 = .ok (.lload_n 1, 1) := dk_31 (dk_at dksX18_joined_3 23 rfl rfl)
theorem dX18_joined_88 : decode cX18_joined 88 = .ok (.lload_n 3, 1) := dk_33 (dk_at dksX18_joined_4 0 rfl rfl)
theorem dX18_joined_89 : decode cX18_joined 89 = .ok (.invokestatic 43, 3) := dk_184 0 43 (dk_at dksX18_joined_4 1 rfl rfl)
theorem dX18_joined_92 : decode cX18_joined 92 = .ok (.lreturn, 1) := dk_173 (dk_at dksX18_joined_4 4 rfl rfl)
theorem q112 : (Jvm.Cond.initialized "KilnBench$Chain") ∈ lw_all := lw_g (lw_at lw_m1 36 rfl) rfl
theorem q716 : (Jvm.Cond.selects "KilnBench$Chain" ({ cls := "java/lang/Object", name := "getClass", desc := "()Ljava/lang/Class;" } : Jvm.MethodName) ({ cls := "java/lang/Object", name := "getClass", desc := "()Ljava/lang/Class;" } : Jvm.MethodName)) ∈ lw_all := lw_g (lw_at lw_m3 160 rfl) rfl
theorem q993 : (Jvm.Cond.instantiable "KilnBench$Chain" (2 : Nat)) ∈ lw_all := lw_g (lw_at lw_m4 197 rfl) rfl
theorem q995 : (Jvm.Cond.instanceMethod ({ cls := "KilnBench$Chain", name := "<init>", desc := "()V" } : Jvm.MethodName)) ∈ lw_all := lw_g (lw_at lw_m4 199 rfl) rfl
theorem q996 : (Jvm.Cond.code ({ cls := "KilnBench$Chain", name := "<init>", desc := "()V" } : Jvm.MethodName) prog_8_method_1_code (1 : Nat) (Option.none : Option Jvm.ClassFile.FieldType)) ∈ lw_all := lw_g (lw_at lw_m4 200 rfl) rfl
theorem q997 : (Jvm.Cond.methodLink "KilnBench$Chain" (1 : Nat) ({ cls := "java/lang/Object", name := "<init>", desc := "()V" } : Jvm.MethodName)) ∈ lw_all := lw_g (lw_at lw_m4 201 rfl) rfl
theorem q998 : (Jvm.Cond.classLink "KilnBench$Chain" (7 : Nat) "java/util/ArrayList") ∈ lw_all := lw_g (lw_at lw_m4 202 rfl) rfl
theorem q999 : (Jvm.Cond.methodLink "KilnBench$Chain" (9 : Nat) ({ cls := "java/util/ArrayList", name := "<init>", desc := "()V" } : Jvm.MethodName)) ∈ lw_all := lw_g (lw_at lw_m4 203 rfl) rfl
theorem q1000 : (Jvm.Cond.classLink "KilnBench$Chain" (16 : Nat) "java/lang/StringBuilder") ∈ lw_all := lw_g (lw_at lw_m4 204 rfl) rfl
theorem q1002 : (Jvm.Cond.methodLink "KilnBench$Chain" (18 : Nat) ({ cls := "java/lang/StringBuilder", name := "<init>", desc := "()V" } : Jvm.MethodName)) ∈ lw_all := lw_g (lw_at lw_m4 206 rfl) rfl
theorem q1024 : (Jvm.Cond.fieldLink "KilnBench$Chain" (10 : Nat) "KilnBench$Chain" "parts" "Ljava/util/ArrayList;") ∈ lw_all := lw_g (lw_at lw_m4 228 rfl) rfl
theorem q1025 : (Jvm.Cond.fieldLink "KilnBench$Chain" (19 : Nat) "KilnBench$Chain" "signs" "Ljava/lang/StringBuilder;") ∈ lw_all := lw_g (lw_at lw_m4 229 rfl) rfl
theorem q1026 : (Jvm.Cond.laysFinal "KilnBench$Chain" "KilnBench$Chain" "parts" "Ljava/util/ArrayList;") ∈ lw_all := lw_g (lw_at lw_m4 230 rfl) rfl
theorem q1027 : (Jvm.Cond.soleField "KilnBench$Chain" "parts") ∈ lw_all := lw_g (lw_at lw_m4 231 rfl) rfl
theorem q1028 : (Jvm.Cond.laysFinal "KilnBench$Chain" "KilnBench$Chain" "signs" "Ljava/lang/StringBuilder;") ∈ lw_all := lw_g (lw_at lw_m4 232 rfl) rfl
theorem q1029 : (Jvm.Cond.soleField "KilnBench$Chain" "signs") ∈ lw_all := lw_g (lw_at lw_m4 233 rfl) rfl
theorem q1030 : (Jvm.Cond.superclass "KilnBench$Chain" "java/lang/Object") ∈ lw_all := lw_g (lw_at lw_m4 234 rfl) rfl
theorem q1032 : (Jvm.Cond.instanceMethod ({ cls := "KilnBench$Chain", name := "comes", desc := "(CLKilnBench$Sum;)V" } : Jvm.MethodName)) ∈ lw_all := lw_g (lw_at lw_m4 236 rfl) rfl
theorem q1033 : (Jvm.Cond.selects "KilnBench$Chain" ({ cls := "KilnBench$Chain", name := "comes", desc := "(CLKilnBench$Sum;)V" } : Jvm.MethodName) ({ cls := "KilnBench$Chain", name := "comes", desc := "(CLKilnBench$Sum;)V" } : Jvm.MethodName)) ∈ lw_all := lw_g (lw_at lw_m4 237 rfl) rfl
theorem q1034 : (Jvm.Cond.code ({ cls := "KilnBench$Chain", name := "comes", desc := "(CLKilnBench$Sum;)V" } : Jvm.MethodName) prog_8_method_2_code (3 : Nat) (Option.none : Option Jvm.ClassFile.FieldType)) ∈ lw_all := lw_g (lw_at lw_m4 238 rfl) rfl
theorem q1035 : (Jvm.Cond.methodLink "KilnBench$Chain" (23 : Nat) ({ cls := "java/lang/StringBuilder", name := "append", desc := "(C)Ljava/lang/StringBuilder;" } : Jvm.MethodName)) ∈ lw_all := lw_g (lw_at lw_m4 239 rfl) rfl
theorem q1083 : (Jvm.Cond.methodLink "KilnBench$Chain" (27 : Nat) ({ cls := "java/util/ArrayList", name := "add", desc := "(Ljava/lang/Object;)Z" } : Jvm.MethodName)) ∈ lw_all := lw_g (lw_at lw_m5 47 rfl) rfl
theorem q1422 : (Jvm.Cond.castable "KilnBench$Chain" "KilnBench$Sum") ∈ lw_tbl := lw_at lw_m6 146 rfl
theorem q1423 : (Jvm.Cond.selects "KilnBench$Chain" ({ cls := "KilnBench$Sum", name := "of", desc := "(LKilnBench$Asking;)J" } : Jvm.MethodName) ({ cls := "KilnBench$Chain", name := "of", desc := "(LKilnBench$Asking;)J" } : Jvm.MethodName)) ∈ lw_all := lw_g (lw_at lw_m6 147 rfl) rfl
theorem q1424 : (Jvm.Cond.unhidden "KilnBench$Chain" "of" "(LKilnBench$Asking;)J") ∈ lw_tbl := lw_at lw_m6 148 rfl
theorem q1425 : (Jvm.Cond.instanceMethod ({ cls := "KilnBench$Chain", name := "of", desc := "(LKilnBench$Asking;)J" } : Jvm.MethodName)) ∈ lw_all := lw_g (lw_at lw_m6 149 rfl) rfl
theorem q1426 : (Jvm.Cond.publicMethod ({ cls := "KilnBench$Chain", name := "of", desc := "(LKilnBench$Asking;)J" } : Jvm.MethodName)) ∈ lw_tbl := lw_at lw_m6 150 rfl
theorem q1427 : (Jvm.Cond.code ({ cls := "KilnBench$Chain", name := "of", desc := "(LKilnBench$Asking;)J" } : Jvm.MethodName) prog_8_method_4_code (5 : Nat) (Option.some Jvm.ClassFile.FieldType.long)) ∈ lw_all := lw_g (lw_at lw_m6 151 rfl) rfl
theorem q1428 : (Jvm.Cond.methodLink "KilnBench$Chain" (46 : Nat) ({ cls := "java/util/ArrayList", name := "get", desc := "(I)Ljava/lang/Object;" } : Jvm.MethodName)) ∈ lw_all := lw_g (lw_at lw_m6 152 rfl) rfl
theorem q1429 : (Jvm.Cond.classLink "KilnBench$Chain" (50 : Nat) "KilnBench$Sum") ∈ lw_all := lw_g (lw_at lw_m6 153 rfl) rfl
theorem q1430 : (Jvm.Cond.interfaceEntry "KilnBench$Chain" (52 : Nat)) ∈ lw_tbl := lw_at lw_m6 154 rfl
theorem q1431 : (Jvm.Cond.methodLink "KilnBench$Chain" (52 : Nat) ({ cls := "KilnBench$Sum", name := "of", desc := "(LKilnBench$Asking;)J" } : Jvm.MethodName)) ∈ lw_all := lw_g (lw_at lw_m6 155 rfl) rfl
theorem q1493 : (Jvm.Cond.methodLink "KilnBench$Chain" (56 : Nat) ({ cls := "java/util/ArrayList", name := "size", desc := "()I" } : Jvm.MethodName)) ∈ lw_all := lw_g (lw_at lw_m6 217 rfl) rfl
theorem q1494 : (Jvm.Cond.methodLink "KilnBench$Chain" (60 : Nat) ({ cls := "java/lang/StringBuilder", name := "charAt", desc := "(I)C" } : Jvm.MethodName)) ∈ lw_all := lw_g (lw_at lw_m6 218 rfl) rfl
theorem q1504 : (Jvm.Cond.methodLink "KilnBench$Chain" (64 : Nat) ({ cls := "KilnBench$Chain", name := "joined", desc := "(CJJ)J" } : Jvm.MethodName)) ∈ lw_all := lw_g (lw_at lw_m6 228 rfl) rfl
theorem q1505 : (Jvm.Cond.static ({ cls := "KilnBench$Chain", name := "joined", desc := "(CJJ)J" } : Jvm.MethodName)) ∈ lw_all := lw_g (lw_at lw_m6 229 rfl) rfl
theorem q1506 : (Jvm.Cond.code ({ cls := "KilnBench$Chain", name := "joined", desc := "(CJJ)J" } : Jvm.MethodName) prog_8_method_3_code (5 : Nat) (Option.some Jvm.ClassFile.FieldType.long)) ∈ lw_all := lw_g (lw_at lw_m6 230 rfl) rfl
theorem q1507 : (Jvm.Cond.methodLinkNest "KilnBench$Chain" (31 : Nat) ({ cls := "KilnBench", name := "clip", desc := "(J)J" } : Jvm.MethodName) "KilnBench") ∈ lw_tbl := lw_at lw_m6 231 rfl
theorem q1514 : (Jvm.Cond.methodLink "KilnBench$Chain" (37 : Nat) ({ cls := "java/lang/Math", name := "floorDiv", desc := "(JJ)J" } : Jvm.MethodName)) ∈ lw_all := lw_g (lw_at lw_m6 238 rfl) rfl
theorem q1517 : (Jvm.Cond.methodLink "KilnBench$Chain" (43 : Nat) ({ cls := "java/lang/Math", name := "floorMod", desc := "(JJ)J" } : Jvm.MethodName)) ∈ lw_all := lw_g (lw_at lw_m7 1 rfl) rfl
theorem q2188 : (Jvm.Cond.castable "KilnBench$Chain" "java/lang/Object") ∈ lw_tbl := lw_at lw_m9 192 rfl
theorem in_X18 : ∀ w ∈ wsX180, w ∈ lw_all := lw_in wsX180 [1026, 1028] (by decide +kernel) (by decide +kernel)

/-! KilnBenchLaw$Ahead -/
set_option maxRecDepth 100000
def RX19 : String := "KilnBenchLaw$Ahead"
def TX19 : u_T := fun k => match k with
  | 0 => ("KilnBenchLaw$Ahead", "fuel", "I", true)
  | 1 => ("KilnBenchLaw$Ahead", "rows", "I", true)
  | 2 => ("KilnBenchLaw$Ahead", "week", "I", true)
  | 3 => ("KilnBenchLaw$Ahead", "refused", "I", true)
  | 4 => ("KilnBenchLaw$Ahead", "comingFuel", "I", true)
  | 5 => ("KilnBenchLaw$Ahead", "rooms", "[I", true)
  | 6 => ("KilnBenchLaw$Ahead", "full", "[I", true)
  | 7 => ("KilnBenchLaw$Ahead", "heats", "[I", true)
  | 8 => ("KilnBenchLaw$Ahead", "burns", "[I", true)
  | 9 => ("KilnBenchLaw$Ahead", "coming", "[I", true)
  | 10 => ("KilnBenchLaw$Ahead", "kiln", "[I", true)
  | 11 => ("KilnBenchLaw$Ahead", "place", "[I", true)
  | 12 => ("KilnBenchLaw$Ahead", "temper", "[I", true)
  | 13 => ("KilnBenchLaw$Ahead", "brothers", "[I", true)
  | 14 => ("KilnBenchLaw$Ahead", "later", "[I", true)
  | 15 => ("KilnBenchLaw$Ahead", "isRaw", "[Z", true)
  | 16 => ("KilnBenchLaw$Ahead", "rings", "[[I", true)
  | 17 => ("KilnBenchLaw$Ahead", "cracks", "[[I", true)
  | _ => ("KilnBenchLaw$Ahead", "kept", "[[I", true)
def tyX19 : Nat → FieldType := fun k => match k with
  | 0 => .int
  | 1 => .int
  | 2 => .int
  | 3 => .int
  | 4 => .int
  | 5 => .array .int
  | 6 => .array .int
  | 7 => .array .int
  | 8 => .array .int
  | 9 => .array .int
  | 10 => .array .int
  | 11 => .array .int
  | 12 => .array .int
  | 13 => .array .int
  | 14 => .array .int
  | 15 => .array .boolean
  | 16 => .array (.array .int)
  | 17 => .array (.array .int)
  | _ => .array (.array .int)
abbrev wsX190 : List Cond := u_ws RX19 TX19 19
set_option maxRecDepth 100000 in
theorem nmX19 : ∀ a, a < 19 → ∀ b, b < 19 → a ≠ b → (TX19 a).2.1 ≠ (TX19 b).2.1 := by decide +kernel
set_option maxRecDepth 100000 in
theorem tyX19_ok : ∀ k, k < 19 → parseFieldDescriptor (TX19 k).2.2.1 = some (tyX19 k) := by decide +kernel
abbrev cX19_init : ByteArray := prog_28_method_1_code
def yX19_init : MethodName := ⟨RX19, "<init>", "(LKilnBench;LKilnBenchLaw$All;)V"⟩
def dkwX19_init_21 : List UInt8 := [132, 3, 1, 167, 255, 60, 177]
abbrev dktX19_init_21 : List UInt8 := dkwX19_init_21 ++ []
def dkwX19_init_20 : List UInt8 := [21, 5, 96, 184, 0, 65, 42, 180, 0, 28, 29, 46, 182, 0, 113, 79, 132, 5, 1, 167, 255, 182]
abbrev dktX19_init_20 : List UInt8 := dkwX19_init_20 ++ dktX19_init_21
def dkwX19_init_19 : List UInt8 := [180, 0, 28, 29, 46, 182, 0, 110, 79, 42, 180, 0, 49, 29, 50, 21, 5, 43, 29, 16, 20, 21, 4]
abbrev dktX19_init_19 : List UInt8 := dkwX19_init_19 ++ dktX19_init_20
def dkwX19_init_18 : List UInt8 := [162, 0, 69, 42, 180, 0, 46, 29, 50, 21, 5, 43, 29, 16, 20, 21, 4, 21, 5, 96, 184, 0, 65, 42]
abbrev dktX19_init_18 : List UInt8 := dkwX19_init_18 ++ dktX19_init_19
def dkwX19_init_17 : List UInt8 := [42, 180, 0, 16, 42, 180, 0, 25, 29, 46, 46, 54, 4, 3, 54, 5, 21, 4, 155, 0, 75, 21, 5, 7]
abbrev dktX19_init_17 : List UInt8 := dkwX19_init_17 ++ dktX19_init_18
def dkwX19_init_16 : List UInt8 := [180, 0, 37, 29, 43, 29, 4, 182, 0, 108, 79, 42, 180, 0, 25, 29, 46, 156, 0, 7, 2, 167, 0, 14]
abbrev dktX19_init_16 : List UInt8 := dkwX19_init_16 ++ dktX19_init_17
def dkwX19_init_15 : List UInt8 := [42, 180, 0, 31, 29, 43, 29, 8, 182, 0, 103, 79, 42, 180, 0, 34, 29, 43, 29, 182, 0, 106, 79, 42]
abbrev dktX19_init_15 : List UInt8 := dkwX19_init_15 ++ dktX19_init_16
def dkwX19_init_14 : List UInt8 := [182, 0, 103, 79, 42, 180, 0, 40, 29, 43, 29, 7, 182, 0, 103, 154, 0, 7, 4, 167, 0, 4, 3, 84]
abbrev dktX19_init_14 : List UInt8 := dkwX19_init_14 ++ dktX19_init_15
def dkwX19_init_13 : List UInt8 := [162, 0, 194, 42, 180, 0, 25, 29, 43, 29, 5, 182, 0, 103, 79, 42, 180, 0, 28, 29, 43, 29, 6]
abbrev dktX19_init_13 : List UInt8 := dkwX19_init_13 ++ dktX19_init_14
def dkwX19_init_12 : List UInt8 := [180, 0, 22, 29, 43, 29, 182, 0, 97, 79, 132, 3, 1, 167, 255, 186, 3, 62, 29, 44, 180, 0, 100]
abbrev dktX19_init_12 : List UInt8 := dkwX19_init_12 ++ dktX19_init_13
def dkwX19_init_11 : List UInt8 := [180, 0, 16, 29, 43, 29, 5, 182, 0, 95, 79, 42, 180, 0, 19, 29, 43, 29, 6, 182, 0, 95, 79, 42]
abbrev dktX19_init_11 : List UInt8 := dkwX19_init_11 ++ dktX19_init_12
def dkwX19_init_10 : List UInt8 := [180, 0, 7, 29, 43, 29, 3, 182, 0, 95, 79, 42, 180, 0, 13, 29, 43, 29, 4, 182, 0, 95, 79, 42]
abbrev dktX19_init_10 : List UInt8 := dkwX19_init_10 ++ dktX19_init_11
def dkwX19_init_9 : List UInt8 := [132, 4, 1, 167, 255, 231, 132, 3, 1, 167, 255, 214, 3, 62, 29, 44, 180, 0, 90, 162, 0, 68, 42]
abbrev dktX19_init_9 : List UInt8 := dkwX19_init_9 ++ dktX19_init_10
def dkwX19_init_8 : List UInt8 := [54, 4, 21, 4, 7, 162, 0, 25, 42, 180, 0, 52, 29, 50, 21, 4, 43, 29, 21, 4, 182, 0, 88, 79]
abbrev dktX19_init_8 : List UInt8 := dkwX19_init_8 ++ dktX19_init_9
def dkwX19_init_7 : List UInt8 := [181, 0, 80, 42, 43, 4, 182, 0, 83, 181, 0, 85, 3, 62, 29, 42, 180, 0, 71, 162, 0, 40, 3]
abbrev dktX19_init_7 : List UInt8 := dkwX19_init_7 ++ dktX19_init_8
def dkwX19_init_6 : List UInt8 := [182, 0, 55, 184, 0, 65, 181, 0, 71, 42, 43, 5, 182, 0, 55, 181, 0, 74, 42, 43, 6, 182, 0, 77]
abbrev dktX19_init_6 : List UInt8 := dkwX19_init_6 ++ dktX19_init_7
def dkwX19_init_5 : List UInt8 := [197, 0, 44, 2, 181, 0, 52, 42, 43, 6, 182, 0, 55, 181, 0, 61, 42, 16, 40, 43, 16, 8]
abbrev dktX19_init_5 : List UInt8 := dkwX19_init_5 ++ dktX19_init_6
def dkwX19_init_4 : List UInt8 := [197, 0, 44, 2, 181, 0, 46, 42, 16, 6, 7, 197, 0, 44, 2, 181, 0, 49, 42, 16, 40, 7]
abbrev dktX19_init_4 : List UInt8 := dkwX19_init_4 ++ dktX19_init_5
def dkwX19_init_3 : List UInt8 := [181, 0, 34, 42, 16, 6, 188, 10, 181, 0, 37, 42, 16, 6, 188, 4, 181, 0, 40, 42, 16, 6, 7]
abbrev dktX19_init_3 : List UInt8 := dkwX19_init_3 ++ dktX19_init_4
def dkwX19_init_2 : List UInt8 := [181, 0, 25, 42, 16, 6, 188, 10, 181, 0, 28, 42, 16, 6, 188, 10, 181, 0, 31, 42, 16, 6, 188, 10]
abbrev dktX19_init_2 : List UInt8 := dkwX19_init_2 ++ dktX19_init_3
def dkwX19_init_1 : List UInt8 := [181, 0, 16, 42, 6, 188, 10, 181, 0, 19, 42, 6, 188, 10, 181, 0, 22, 42, 16, 6, 188, 10]
abbrev dktX19_init_1 : List UInt8 := dkwX19_init_1 ++ dktX19_init_2
def dkwX19_init_0 : List UInt8 := [42, 183, 0, 1, 42, 6, 188, 10, 181, 0, 7, 42, 6, 188, 10, 181, 0, 13, 42, 6, 188, 10]
abbrev dktX19_init_0 : List UInt8 := dkwX19_init_0 ++ dktX19_init_1
theorem dksX19_init_0 : cX19_init.data.toList.drop 0 = dktX19_init_0 := by decide +kernel
theorem dksX19_init_1 : cX19_init.data.toList.drop 22 = dktX19_init_1 := dk_seg dksX19_init_0 22 rfl rfl
theorem dksX19_init_2 : cX19_init.data.toList.drop 44 = dktX19_init_2 := dk_seg dksX19_init_1 22 rfl rfl
theorem dksX19_init_3 : cX19_init.data.toList.drop 68 = dktX19_init_3 := dk_seg dksX19_init_2 24 rfl rfl
theorem dksX19_init_4 : cX19_init.data.toList.drop 91 = dktX19_init_4 := dk_seg dksX19_init_3 23 rfl rfl
theorem dksX19_init_5 : cX19_init.data.toList.drop 113 = dktX19_init_5 := dk_seg dksX19_init_4 22 rfl rfl
theorem dksX19_init_6 : cX19_init.data.toList.drop 135 = dktX19_init_6 := dk_seg dksX19_init_5 22 rfl rfl
theorem dksX19_init_7 : cX19_init.data.toList.drop 159 = dktX19_init_7 := dk_seg dksX19_init_6 24 rfl rfl
theorem dksX19_init_8 : cX19_init.data.toList.drop 182 = dktX19_init_8 := dk_seg dksX19_init_7 23 rfl rfl
theorem dksX19_init_9 : cX19_init.data.toList.drop 206 = dktX19_init_9 := dk_seg dksX19_init_8 24 rfl rfl
theorem dksX19_init_10 : cX19_init.data.toList.drop 229 = dktX19_init_10 := dk_seg dksX19_init_9 23 rfl rfl
theorem dksX19_init_11 : cX19_init.data.toList.drop 253 = dktX19_init_11 := dk_seg dksX19_init_10 24 rfl rfl
theorem dksX19_init_12 : cX19_init.data.toList.drop 277 = dktX19_init_12 := dk_seg dksX19_init_11 24 rfl rfl
theorem dksX19_init_13 : cX19_init.data.toList.drop 300 = dktX19_init_13 := dk_seg dksX19_init_12 23 rfl rfl
theorem dksX19_init_14 : cX19_init.data.toList.drop 323 = dktX19_init_14 := dk_seg dksX19_init_13 23 rfl rfl
theorem dksX19_init_15 : cX19_init.data.toList.drop 347 = dktX19_init_15 := dk_seg dksX19_init_14 24 rfl rfl
theorem dksX19_init_16 : cX19_init.data.toList.drop 371 = dktX19_init_16 := dk_seg dksX19_init_15 24 rfl rfl
theorem dksX19_init_17 : cX19_init.data.toList.drop 395 = dktX19_init_17 := dk_seg dksX19_init_16 24 rfl rfl
theorem dksX19_init_18 : cX19_init.data.toList.drop 419 = dktX19_init_18 := dk_seg dksX19_init_17 24 rfl rfl
theorem dksX19_init_19 : cX19_init.data.toList.drop 443 = dktX19_init_19 := dk_seg dksX19_init_18 24 rfl rfl
theorem dksX19_init_20 : cX19_init.data.toList.drop 466 = dktX19_init_20 := dk_seg dksX19_init_19 23 rfl rfl
theorem dksX19_init_21 : cX19_init.data.toList.drop 488 = dktX19_init_21 := dk_seg dksX19_init_20 22 rfl rfl
theorem dX19_init_0 : decode cX19_init 0 = .ok (.aload_n 0, 1) := dk_42 (dk_at dksX19_init_0 0 rfl rfl)
theorem dX19_init_1 : decode cX19_init 1 = .ok (.invokespecial 1, 3) := dk_183 0 1 (dk_at dksX19_init_0 1 rfl rfl)
theorem dX19_init_4 : decode cX19_init 4 = .ok (.aload_n 0, 1) := dk_42 (dk_at dksX19_init_0 4 rfl rfl)
theorem dX19_init_5 : decode cX19_init 5 = .ok (.iconst 3, 1) := dk_6 (dk_at dksX19_init_0 5 rfl rfl)
theorem dX19_init_6 : decode cX19_init 6 = .ok (.newarray .int, 2) := dk_188_10 (dk_at dksX19_init_0 6 rfl rfl)
theorem dX19_init_8 : decode cX19_init 8 = .ok (.putfield 7, 3) := dk_181 0 7 (dk_at dksX19_init_0 8 rfl rfl)
theorem dX19_init_11 : decode cX19_init 11 = .ok (.aload_n 0, 1) := dk_42 (dk_at dksX19_init_0 11 rfl rfl)
theorem dX19_init_12 : decode cX19_init 12 = .ok (.iconst 3, 1) := dk_6 (dk_at dksX19_init_0 12 rfl rfl)
theorem dX19_init_13 : decode cX19_init 13 = .ok (.newarray .int, 2) := dk_188_10 (dk_at dksX19_init_0 13 rfl rfl)
theorem dX19_init_15 : decode cX19_init 15 = .ok (.putfield 13, 3) := dk_181 0 13 (dk_at dksX19_init_0 15 rfl rfl)
theorem dX19_init_18 : decode cX19_init 18 = .ok (.aload_n 0, 1) := dk_42 (dk_at dksX19_init_0 18 rfl rfl)
theorem dX19_init_19 : decode cX19_init 19 = .ok (.iconst 3, 1) := dk_6 (dk_at dksX19_init_0 19 rfl rfl)
theorem dX19_init_20 : decode cX19_init 20 = .ok (.newarray .int, 2) := dk_188_10 (dk_at dksX19_init_0 20 rfl rfl)
theorem dX19_init_22 : decode cX19_init 22 = .ok (.putfield 16, 3) := dk_181 0 16 (dk_at dksX19_init_1 0 rfl rfl)
theorem dX19_init_25 : decode cX19_init 25 = .ok (.aload_n 0, 1) := dk_42 (dk_at dksX19_init_1 3 rfl rfl)
theorem dX19_init_26 : decode cX19_init 26 = .ok (.iconst 3, 1) := dk_6 (dk_at dksX19_init_1 4 rfl rfl)
theorem dX19_init_27 : decode cX19_init 27 = .ok (.newarray .int, 2) := dk_188_10 (dk_at dksX19_init_1 5 rfl rfl)
theorem dX19_init_29 : decode cX19_init 29 = .ok (.putfield 19, 3) := dk_181 0 19 (dk_at dksX19_init_1 7 rfl rfl)
theorem dX19_init_32 : decode cX19_init 32 = .ok (.aload_n 0, 1) := dk_42 (dk_at dksX19_init_1 10 rfl rfl)
theorem dX19_init_33 : decode cX19_init 33 = .ok (.iconst 3, 1) := dk_6 (dk_at dksX19_init_1 11 rfl rfl)
theorem dX19_init_34 : decode cX19_init 34 = .ok (.newarray .int, 2) := dk_188_10 (dk_at dksX19_init_1 12 rfl rfl)
theorem dX19_init_36 : decode cX19_init 36 = .ok (.putfield 22, 3) := dk_181 0 22 (dk_at dksX19_init_1 14 rfl rfl)
theorem dX19_init_39 : decode cX19_init 39 = .ok (.aload_n 0, 1) := dk_42 (dk_at dksX19_init_1 17 rfl rfl)
theorem dX19_init_40 : decode cX19_init 40 = .ok (.bipush 6, 2) := dk_16 6 (dk_at dksX19_init_1 18 rfl rfl)
theorem dX19_init_42 : decode cX19_init 42 = .ok (.newarray .int, 2) := dk_188_10 (dk_at dksX19_init_1 20 rfl rfl)
theorem dX19_init_44 : decode cX19_init 44 = .ok (.putfield 25, 3) := dk_181 0 25 (dk_at dksX19_init_2 0 rfl rfl)
theorem dX19_init_47 : decode cX19_init 47 = .ok (.aload_n 0, 1) := dk_42 (dk_at dksX19_init_2 3 rfl rfl)
theorem dX19_init_48 : decode cX19_init 48 = .ok (.bipush 6, 2) := dk_16 6 (dk_at dksX19_init_2 4 rfl rfl)
theorem dX19_init_50 : decode cX19_init 50 = .ok (.newarray .int, 2) := dk_188_10 (dk_at dksX19_init_2 6 rfl rfl)
theorem dX19_init_52 : decode cX19_init 52 = .ok (.putfield 28, 3) := dk_181 0 28 (dk_at dksX19_init_2 8 rfl rfl)
theorem dX19_init_55 : decode cX19_init 55 = .ok (.aload_n 0, 1) := dk_42 (dk_at dksX19_init_2 11 rfl rfl)
theorem dX19_init_56 : decode cX19_init 56 = .ok (.bipush 6, 2) := dk_16 6 (dk_at dksX19_init_2 12 rfl rfl)
theorem dX19_init_58 : decode cX19_init 58 = .ok (.newarray .int, 2) := dk_188_10 (dk_at dksX19_init_2 14 rfl rfl)
theorem dX19_init_60 : decode cX19_init 60 = .ok (.putfield 31, 3) := dk_181 0 31 (dk_at dksX19_init_2 16 rfl rfl)
theorem dX19_init_63 : decode cX19_init 63 = .ok (.aload_n 0, 1) := dk_42 (dk_at dksX19_init_2 19 rfl rfl)
theorem dX19_init_64 : decode cX19_init 64 = .ok (.bipush 6, 2) := dk_16 6 (dk_at dksX19_init_2 20 rfl rfl)
theorem dX19_init_66 : decode cX19_init 66 = .ok (.newarray .int, 2) := dk_188_10 (dk_at dksX19_init_2 22 rfl rfl)
theorem dX19_init_68 : decode cX19_init 68 = .ok (.putfield 34, 3) := dk_181 0 34 (dk_at dksX19_init_3 0 rfl rfl)
theorem dX19_init_71 : decode cX19_init 71 = .ok (.aload_n 0, 1) := dk_42 (dk_at dksX19_init_3 3 rfl rfl)
theorem dX19_init_72 : decode cX19_init 72 = .ok (.bipush 6, 2) := dk_16 6 (dk_at dksX19_init_3 4 rfl rfl)
theorem dX19_init_74 : decode cX19_init 74 = .ok (.newarray .int, 2) := dk_188_10 (dk_at dksX19_init_3 6 rfl rfl)
theorem dX19_init_76 : decode cX19_init 76 = .ok (.putfield 37, 3) := dk_181 0 37 (dk_at dksX19_init_3 8 rfl rfl)
theorem dX19_init_79 : decode cX19_init 79 = .ok (.aload_n 0, 1) := dk_42 (dk_at dksX19_init_3 11 rfl rfl)
theorem dX19_init_80 : decode cX19_init 80 = .ok (.bipush 6, 2) := dk_16 6 (dk_at dksX19_init_3 12 rfl rfl)
theorem dX19_init_82 : decode cX19_init 82 = .ok (.newarray .boolean, 2) := dk_188_4 (dk_at dksX19_init_3 14 rfl rfl)
theorem dX19_init_84 : decode cX19_init 84 = .ok (.putfield 40, 3) := dk_181 0 40 (dk_at dksX19_init_3 16 rfl rfl)
theorem dX19_init_87 : decode cX19_init 87 = .ok (.aload_n 0, 1) := dk_42 (dk_at dksX19_init_3 19 rfl rfl)
theorem dX19_init_88 : decode cX19_init 88 = .ok (.bipush 6, 2) := dk_16 6 (dk_at dksX19_init_3 20 rfl rfl)
theorem dX19_init_90 : decode cX19_init 90 = .ok (.iconst 4, 1) := dk_7 (dk_at dksX19_init_3 22 rfl rfl)
theorem dX19_init_91 : decode cX19_init 91 = .ok (.multianewarray 44 2, 4) := by decide +kernel
theorem dX19_init_95 : decode cX19_init 95 = .ok (.putfield 46, 3) := dk_181 0 46 (dk_at dksX19_init_4 4 rfl rfl)
theorem dX19_init_98 : decode cX19_init 98 = .ok (.aload_n 0, 1) := dk_42 (dk_at dksX19_init_4 7 rfl rfl)
theorem dX19_init_99 : decode cX19_init 99 = .ok (.bipush 6, 2) := dk_16 6 (dk_at dksX19_init_4 8 rfl rfl)
theorem dX19_init_101 : decode cX19_init 101 = .ok (.iconst 4, 1) := dk_7 (dk_at dksX19_init_4 10 rfl rfl)
theorem dX19_init_102 : decode cX19_init 102 = .ok (.multianewarray 44 2, 4) := by decide +kernel
theorem dX19_init_106 : decode cX19_init 106 = .ok (.putfield 49, 3) := dk_181 0 49 (dk_at dksX19_init_4 15 rfl rfl)
theorem dX19_init_109 : decode cX19_init 109 = .ok (.aload_n 0, 1) := dk_42 (dk_at dksX19_init_4 18 rfl rfl)
theorem dX19_init_110 : decode cX19_init 110 = .ok (.bipush 40, 2) := dk_16 40 (dk_at dksX19_init_4 19 rfl rfl)
theorem dX19_init_112 : decode cX19_init 112 = .ok (.iconst 4, 1) := dk_7 (dk_at dksX19_init_4 21 rfl rfl)
theorem dX19_init_113 : decode cX19_init 113 = .ok (.multianewarray 44 2, 4) := by decide +kernel
theorem dX19_init_117 : decode cX19_init 117 = .ok (.putfield 52, 3) := dk_181 0 52 (dk_at dksX19_init_5 4 rfl rfl)
theorem dX19_init_120 : decode cX19_init 120 = .ok (.aload_n 0, 1) := dk_42 (dk_at dksX19_init_5 7 rfl rfl)
theorem dX19_init_121 : decode cX19_init 121 = .ok (.aload_n 1, 1) := dk_43 (dk_at dksX19_init_5 8 rfl rfl)
theorem dX19_init_122 : decode cX19_init 122 = .ok (.iconst 3, 1) := dk_6 (dk_at dksX19_init_5 9 rfl rfl)
theorem dX19_init_123 : decode cX19_init 123 = .ok (.invokevirtual 55, 3) := dk_182 0 55 (dk_at dksX19_init_5 10 rfl rfl)
theorem dX19_init_126 : decode cX19_init 126 = .ok (.putfield 61, 3) := dk_181 0 61 (dk_at dksX19_init_5 13 rfl rfl)
theorem dX19_init_129 : decode cX19_init 129 = .ok (.aload_n 0, 1) := dk_42 (dk_at dksX19_init_5 16 rfl rfl)
theorem dX19_init_130 : decode cX19_init 130 = .ok (.bipush 40, 2) := dk_16 40 (dk_at dksX19_init_5 17 rfl rfl)
theorem dX19_init_132 : decode cX19_init 132 = .ok (.aload_n 1, 1) := dk_43 (dk_at dksX19_init_5 19 rfl rfl)
theorem dX19_init_133 : decode cX19_init 133 = .ok (.bipush 8, 2) := dk_16 8 (dk_at dksX19_init_5 20 rfl rfl)
theorem dX19_init_135 : decode cX19_init 135 = .ok (.invokevirtual 55, 3) := dk_182 0 55 (dk_at dksX19_init_6 0 rfl rfl)
theorem dX19_init_138 : decode cX19_init 138 = .ok (.invokestatic 65, 3) := dk_184 0 65 (dk_at dksX19_init_6 3 rfl rfl)
theorem dX19_init_141 : decode cX19_init 141 = .ok (.putfield 71, 3) := dk_181 0 71 (dk_at dksX19_init_6 6 rfl rfl)
theorem dX19_init_144 : decode cX19_init 144 = .ok (.aload_n 0, 1) := dk_42 (dk_at dksX19_init_6 9 rfl rfl)
theorem dX19_init_145 : decode cX19_init 145 = .ok (.aload_n 1, 1) := dk_43 (dk_at dksX19_init_6 10 rfl rfl)
theorem dX19_init_146 : decode cX19_init 146 = .ok (.iconst 2, 1) := dk_5 (dk_at dksX19_init_6 11 rfl rfl)
theorem dX19_init_147 : decode cX19_init 147 = .ok (.invokevirtual 55, 3) := dk_182 0 55 (dk_at dksX19_init_6 12 rfl rfl)
theorem dX19_init_150 : decode cX19_init 150 = .ok (.putfield 74, 3) := dk_181 0 74 (dk_at dksX19_init_6 15 rfl rfl)
theorem dX19_init_153 : decode cX19_init 153 = .ok (.aload_n 0, 1) := dk_42 (dk_at dksX19_init_6 18 rfl rfl)
theorem dX19_init_154 : decode cX19_init 154 = .ok (.aload_n 1, 1) := dk_43 (dk_at dksX19_init_6 19 rfl rfl)
theorem dX19_init_155 : decode cX19_init 155 = .ok (.iconst 3, 1) := dk_6 (dk_at dksX19_init_6 20 rfl rfl)
theorem dX19_init_156 : decode cX19_init 156 = .ok (.invokevirtual 77, 3) := dk_182 0 77 (dk_at dksX19_init_6 21 rfl rfl)
theorem dX19_init_159 : decode cX19_init 159 = .ok (.putfield 80, 3) := dk_181 0 80 (dk_at dksX19_init_7 0 rfl rfl)
theorem dX19_init_162 : decode cX19_init 162 = .ok (.aload_n 0, 1) := dk_42 (dk_at dksX19_init_7 3 rfl rfl)
theorem dX19_init_163 : decode cX19_init 163 = .ok (.aload_n 1, 1) := dk_43 (dk_at dksX19_init_7 4 rfl rfl)
theorem dX19_init_164 : decode cX19_init 164 = .ok (.iconst 1, 1) := dk_4 (dk_at dksX19_init_7 5 rfl rfl)
theorem dX19_init_165 : decode cX19_init 165 = .ok (.invokevirtual 83, 3) := dk_182 0 83 (dk_at dksX19_init_7 6 rfl rfl)
theorem dX19_init_168 : decode cX19_init 168 = .ok (.putfield 85, 3) := dk_181 0 85 (dk_at dksX19_init_7 9 rfl rfl)
theorem dX19_init_171 : decode cX19_init 171 = .ok (.iconst 0, 1) := dk_3 (dk_at dksX19_init_7 12 rfl rfl)
theorem dX19_init_172 : decode cX19_init 172 = .ok (.istore_n 3, 1) := dk_62 (dk_at dksX19_init_7 13 rfl rfl)
theorem dX19_init_173 : decode cX19_init 173 = .ok (.iload_n 3, 1) := dk_29 (dk_at dksX19_init_7 14 rfl rfl)
theorem dX19_init_174 : decode cX19_init 174 = .ok (.aload_n 0, 1) := dk_42 (dk_at dksX19_init_7 15 rfl rfl)
theorem dX19_init_175 : decode cX19_init 175 = .ok (.getfield 71, 3) := dk_180 0 71 (dk_at dksX19_init_7 16 rfl rfl)
theorem dX19_init_178 : decode cX19_init 178 = .ok (.if_icmp .ge 40, 3) := dk_162 0 40 (dk_at dksX19_init_7 19 rfl rfl)
theorem dX19_init_181 : decode cX19_init 181 = .ok (.iconst 0, 1) := dk_3 (dk_at dksX19_init_7 22 rfl rfl)
theorem dX19_init_182 : decode cX19_init 182 = .ok (.istore 4, 2) := dk_54 4 (dk_at dksX19_init_8 0 rfl rfl)
theorem dX19_init_184 : decode cX19_init 184 = .ok (.iload 4, 2) := dk_21 4 (dk_at dksX19_init_8 2 rfl rfl)
theorem dX19_init_186 : decode cX19_init 186 = .ok (.iconst 4, 1) := dk_7 (dk_at dksX19_init_8 4 rfl rfl)
theorem dX19_init_187 : decode cX19_init 187 = .ok (.if_icmp .ge 25, 3) := dk_162 0 25 (dk_at dksX19_init_8 5 rfl rfl)
theorem dX19_init_190 : decode cX19_init 190 = .ok (.aload_n 0, 1) := dk_42 (dk_at dksX19_init_8 8 rfl rfl)
theorem dX19_init_191 : decode cX19_init 191 = .ok (.getfield 52, 3) := dk_180 0 52 (dk_at dksX19_init_8 9 rfl rfl)
theorem dX19_init_194 : decode cX19_init 194 = .ok (.iload_n 3, 1) := dk_29 (dk_at dksX19_init_8 12 rfl rfl)
theorem dX19_init_195 : decode cX19_init 195 = .ok (.aaload, 1) := dk_50 (dk_at dksX19_init_8 13 rfl rfl)
theorem dX19_init_196 : decode cX19_init 196 = .ok (.iload 4, 2) := dk_21 4 (dk_at dksX19_init_8 14 rfl rfl)
theorem dX19_init_198 : decode cX19_init 198 = .ok (.aload_n 1, 1) := dk_43 (dk_at dksX19_init_8 16 rfl rfl)
theorem dX19_init_199 : decode cX19_init 199 = .ok (.iload_n 3, 1) := dk_29 (dk_at dksX19_init_8 17 rfl rfl)
theorem dX19_init_200 : decode cX19_init 200 = .ok (.iload 4, 2) := dk_21 4 (dk_at dksX19_init_8 18 rfl rfl)
theorem dX19_init_202 : decode cX19_init 202 = .ok (.invokevirtual 88, 3) := dk_182 0 88 (dk_at dksX19_init_8 20 rfl rfl)
theorem dX19_init_205 : decode cX19_init 205 = .ok (.iastore, 1) := dk_79 (dk_at dksX19_init_8 23 rfl rfl)
theorem dX19_init_206 : decode cX19_init 206 = .ok (.iinc 4 1, 3) := dk_132 4 1 (dk_at dksX19_init_9 0 rfl rfl)
theorem dX19_init_209 : decode cX19_init 209 = .ok (.goto (-25), 3) := dk_167 255 231 (dk_at dksX19_init_9 3 rfl rfl)
theorem dX19_init_212 : decode cX19_init 212 = .ok (.iinc 3 1, 3) := dk_132 3 1 (dk_at dksX19_init_9 6 rfl rfl)
theorem dX19_init_215 : decode cX19_init 215 = .ok (.goto (-42), 3) := dk_167 255 214 (dk_at dksX19_init_9 9 rfl rfl)
theorem dX19_init_218 : decode cX19_init 218 = .ok (.iconst 0, 1) := dk_3 (dk_at dksX19_init_9 12 rfl rfl)
theorem dX19_init_219 : decode cX19_init 219 = .ok (.istore_n 3, 1) := dk_62 (dk_at dksX19_init_9 13 rfl rfl)
theorem dX19_init_220 : decode cX19_init 220 = .ok (.iload_n 3, 1) := dk_29 (dk_at dksX19_init_9 14 rfl rfl)
theorem dX19_init_221 : decode cX19_init 221 = .ok (.aload_n 2, 1) := dk_44 (dk_at dksX19_init_9 15 rfl rfl)
theorem dX19_init_222 : decode cX19_init 222 = .ok (.getfield 90, 3) := dk_180 0 90 (dk_at dksX19_init_9 16 rfl rfl)
theorem dX19_init_225 : decode cX19_init 225 = .ok (.if_icmp .ge 68, 3) := dk_162 0 68 (dk_at dksX19_init_9 19 rfl rfl)
theorem dX19_init_228 : decode cX19_init 228 = .ok (.aload_n 0, 1) := dk_42 (dk_at dksX19_init_9 22 rfl rfl)
theorem dX19_init_229 : decode cX19_init 229 = .ok (.getfield 7, 3) := dk_180 0 7 (dk_at dksX19_init_10 0 rfl rfl)
theorem dX19_init_232 : decode cX19_init 232 = .ok (.iload_n 3, 1) := dk_29 (dk_at dksX19_init_10 3 rfl rfl)
theorem dX19_init_233 : decode cX19_init 233 = .ok (.aload_n 1, 1) := dk_43 (dk_at dksX19_init_10 4 rfl rfl)
theorem dX19_init_234 : decode cX19_init 234 = .ok (.iload_n 3, 1) := dk_29 (dk_at dksX19_init_10 5 rfl rfl)
theorem dX19_init_235 : decode cX19_init 235 = .ok (.iconst 0, 1) := dk_3 (dk_at dksX19_init_10 6 rfl rfl)
theorem dX19_init_236 : decode cX19_init 236 = .ok (.invokevirtual 95, 3) := dk_182 0 95 (dk_at dksX19_init_10 7 rfl rfl)
theorem dX19_init_239 : decode cX19_init 239 = .ok (.iastore, 1) := dk_79 (dk_at dksX19_init_10 10 rfl rfl)
theorem dX19_init_240 : decode cX19_init 240 = .ok (.aload_n 0, 1) := dk_42 (dk_at dksX19_init_10 11 rfl rfl)
theorem dX19_init_241 : decode cX19_init 241 = .ok (.getfield 13, 3) := dk_180 0 13 (dk_at dksX19_init_10 12 rfl rfl)
theorem dX19_init_244 : decode cX19_init 244 = .ok (.iload_n 3, 1) := dk_29 (dk_at dksX19_init_10 15 rfl rfl)
theorem dX19_init_245 : decode cX19_init 245 = .ok (.aload_n 1, 1) := dk_43 (dk_at dksX19_init_10 16 rfl rfl)
theorem dX19_init_246 : decode cX19_init 246 = .ok (.iload_n 3, 1) := dk_29 (dk_at dksX19_init_10 17 rfl rfl)
theorem dX19_init_247 : decode cX19_init 247 = .ok (.iconst 1, 1) := dk_4 (dk_at dksX19_init_10 18 rfl rfl)
theorem dX19_init_248 : decode cX19_init 248 = .ok (.invokevirtual 95, 3) := dk_182 0 95 (dk_at dksX19_init_10 19 rfl rfl)
theorem dX19_init_251 : decode cX19_init 251 = .ok (.iastore, 1) := dk_79 (dk_at dksX19_init_10 22 rfl rfl)
theorem dX19_init_252 : decode cX19_init 252 = .ok (.aload_n 0, 1) := dk_42 (dk_at dksX19_init_10 23 rfl rfl)
theorem dX19_init_253 : decode cX19_init 253 = .ok (.getfield 16, 3) := dk_180 0 16 (dk_at dksX19_init_11 0 rfl rfl)
theorem dX19_init_256 : decode cX19_init 256 = .ok (.iload_n 3, 1) := dk_29 (dk_at dksX19_init_11 3 rfl rfl)
theorem dX19_init_257 : decode cX19_init 257 = .ok (.aload_n 1, 1) := dk_43 (dk_at dksX19_init_11 4 rfl rfl)
theorem dX19_init_258 : decode cX19_init 258 = .ok (.iload_n 3, 1) := dk_29 (dk_at dksX19_init_11 5 rfl rfl)
theorem dX19_init_259 : decode cX19_init 259 = .ok (.iconst 2, 1) := dk_5 (dk_at dksX19_init_11 6 rfl rfl)
theorem dX19_init_260 : decode cX19_init 260 = .ok (.invokevirtual 95, 3) := dk_182 0 95 (dk_at dksX19_init_11 7 rfl rfl)
theorem dX19_init_263 : decode cX19_init 263 = .ok (.iastore, 1) := dk_79 (dk_at dksX19_init_11 10 rfl rfl)
theorem dX19_init_264 : decode cX19_init 264 = .ok (.aload_n 0, 1) := dk_42 (dk_at dksX19_init_11 11 rfl rfl)
theorem dX19_init_265 : decode cX19_init 265 = .ok (.getfield 19, 3) := dk_180 0 19 (dk_at dksX19_init_11 12 rfl rfl)
theorem dX19_init_268 : decode cX19_init 268 = .ok (.iload_n 3, 1) := dk_29 (dk_at dksX19_init_11 15 rfl rfl)
theorem dX19_init_269 : decode cX19_init 269 = .ok (.aload_n 1, 1) := dk_43 (dk_at dksX19_init_11 16 rfl rfl)
theorem dX19_init_270 : decode cX19_init 270 = .ok (.iload_n 3, 1) := dk_29 (dk_at dksX19_init_11 17 rfl rfl)
theorem dX19_init_271 : decode cX19_init 271 = .ok (.iconst 3, 1) := dk_6 (dk_at dksX19_init_11 18 rfl rfl)
theorem dX19_init_272 : decode cX19_init 272 = .ok (.invokevirtual 95, 3) := dk_182 0 95 (dk_at dksX19_init_11 19 rfl rfl)
theorem dX19_init_275 : decode cX19_init 275 = .ok (.iastore, 1) := dk_79 (dk_at dksX19_init_11 22 rfl rfl)
theorem dX19_init_276 : decode cX19_init 276 = .ok (.aload_n 0, 1) := dk_42 (dk_at dksX19_init_11 23 rfl rfl)
theorem dX19_init_277 : decode cX19_init 277 = .ok (.getfield 22, 3) := dk_180 0 22 (dk_at dksX19_init_12 0 rfl rfl)
theorem dX19_init_280 : decode cX19_init 280 = .ok (.iload_n 3, 1) := dk_29 (dk_at dksX19_init_12 3 rfl rfl)
theorem dX19_init_281 : decode cX19_init 281 = .ok (.aload_n 1, 1) := dk_43 (dk_at dksX19_init_12 4 rfl rfl)
theorem dX19_init_282 : decode cX19_init 282 = .ok (.iload_n 3, 1) := dk_29 (dk_at dksX19_init_12 5 rfl rfl)
theorem dX19_init_283 : decode cX19_init 283 = .ok (.invokevirtual 97, 3) := dk_182 0 97 (dk_at dksX19_init_12 6 rfl rfl)
theorem dX19_init_286 : decode cX19_init 286 = .ok (.iastore, 1) := dk_79 (dk_at dksX19_init_12 9 rfl rfl)
theorem dX19_init_287 : decode cX19_init 287 = .ok (.iinc 3 1, 3) := dk_132 3 1 (dk_at dksX19_init_12 10 rfl rfl)
theorem dX19_init_290 : decode cX19_init 290 = .ok (.goto (-70), 3) := dk_167 255 186 (dk_at dksX19_init_12 13 rfl rfl)
theorem dX19_init_293 : decode cX19_init 293 = .ok (.iconst 0, 1) := dk_3 (dk_at dksX19_init_12 16 rfl rfl)
theorem dX19_init_294 : decode cX19_init 294 = .ok (.istore_n 3, 1) := dk_62 (dk_at dksX19_init_12 17 rfl rfl)
theorem dX19_init_295 : decode cX19_init 295 = .ok (.iload_n 3, 1) := dk_29 (dk_at dksX19_init_12 18 rfl rfl)
theorem dX19_init_296 : decode cX19_init 296 = .ok (.aload_n 2, 1) := dk_44 (dk_at dksX19_init_12 19 rfl rfl)
theorem dX19_init_297 : decode cX19_init 297 = .ok (.getfield 100, 3) := dk_180 0 100 (dk_at dksX19_init_12 20 rfl rfl)
theorem dX19_init_300 : decode cX19_init 300 = .ok (.if_icmp .ge 194, 3) := dk_162 0 194 (dk_at dksX19_init_13 0 rfl rfl)
theorem dX19_init_303 : decode cX19_init 303 = .ok (.aload_n 0, 1) := dk_42 (dk_at dksX19_init_13 3 rfl rfl)
theorem dX19_init_304 : decode cX19_init 304 = .ok (.getfield 25, 3) := dk_180 0 25 (dk_at dksX19_init_13 4 rfl rfl)
theorem dX19_init_307 : decode cX19_init 307 = .ok (.iload_n 3, 1) := dk_29 (dk_at dksX19_init_13 7 rfl rfl)
theorem dX19_init_308 : decode cX19_init 308 = .ok (.aload_n 1, 1) := dk_43 (dk_at dksX19_init_13 8 rfl rfl)
theorem dX19_init_309 : decode cX19_init 309 = .ok (.iload_n 3, 1) := dk_29 (dk_at dksX19_init_13 9 rfl rfl)
theorem dX19_init_310 : decode cX19_init 310 = .ok (.iconst 2, 1) := dk_5 (dk_at dksX19_init_13 10 rfl rfl)
theorem dX19_init_311 : decode cX19_init 311 = .ok (.invokevirtual 103, 3) := dk_182 0 103 (dk_at dksX19_init_13 11 rfl rfl)
theorem dX19_init_314 : decode cX19_init 314 = .ok (.iastore, 1) := dk_79 (dk_at dksX19_init_13 14 rfl rfl)
theorem dX19_init_315 : decode cX19_init 315 = .ok (.aload_n 0, 1) := dk_42 (dk_at dksX19_init_13 15 rfl rfl)
theorem dX19_init_316 : decode cX19_init 316 = .ok (.getfield 28, 3) := dk_180 0 28 (dk_at dksX19_init_13 16 rfl rfl)
theorem dX19_init_319 : decode cX19_init 319 = .ok (.iload_n 3, 1) := dk_29 (dk_at dksX19_init_13 19 rfl rfl)
theorem dX19_init_320 : decode cX19_init 320 = .ok (.aload_n 1, 1) := dk_43 (dk_at dksX19_init_13 20 rfl rfl)
theorem dX19_init_321 : decode cX19_init 321 = .ok (.iload_n 3, 1) := dk_29 (dk_at dksX19_init_13 21 rfl rfl)
theorem dX19_init_322 : decode cX19_init 322 = .ok (.iconst 3, 1) := dk_6 (dk_at dksX19_init_13 22 rfl rfl)
theorem dX19_init_323 : decode cX19_init 323 = .ok (.invokevirtual 103, 3) := dk_182 0 103 (dk_at dksX19_init_14 0 rfl rfl)
theorem dX19_init_326 : decode cX19_init 326 = .ok (.iastore, 1) := dk_79 (dk_at dksX19_init_14 3 rfl rfl)
theorem dX19_init_327 : decode cX19_init 327 = .ok (.aload_n 0, 1) := dk_42 (dk_at dksX19_init_14 4 rfl rfl)
theorem dX19_init_328 : decode cX19_init 328 = .ok (.getfield 40, 3) := dk_180 0 40 (dk_at dksX19_init_14 5 rfl rfl)
theorem dX19_init_331 : decode cX19_init 331 = .ok (.iload_n 3, 1) := dk_29 (dk_at dksX19_init_14 8 rfl rfl)
theorem dX19_init_332 : decode cX19_init 332 = .ok (.aload_n 1, 1) := dk_43 (dk_at dksX19_init_14 9 rfl rfl)
theorem dX19_init_333 : decode cX19_init 333 = .ok (.iload_n 3, 1) := dk_29 (dk_at dksX19_init_14 10 rfl rfl)
theorem dX19_init_334 : decode cX19_init 334 = .ok (.iconst 4, 1) := dk_7 (dk_at dksX19_init_14 11 rfl rfl)
theorem dX19_init_335 : decode cX19_init 335 = .ok (.invokevirtual 103, 3) := dk_182 0 103 (dk_at dksX19_init_14 12 rfl rfl)
theorem dX19_init_338 : decode cX19_init 338 = .ok (.ifCond .ne 7, 3) := dk_154 0 7 (dk_at dksX19_init_14 15 rfl rfl)
theorem dX19_init_341 : decode cX19_init 341 = .ok (.iconst 1, 1) := dk_4 (dk_at dksX19_init_14 18 rfl rfl)
theorem dX19_init_342 : decode cX19_init 342 = .ok (.goto 4, 3) := dk_167 0 4 (dk_at dksX19_init_14 19 rfl rfl)
theorem dX19_init_345 : decode cX19_init 345 = .ok (.iconst 0, 1) := dk_3 (dk_at dksX19_init_14 22 rfl rfl)
theorem dX19_init_346 : decode cX19_init 346 = .ok (.bastore, 1) := dk_84 (dk_at dksX19_init_14 23 rfl rfl)
theorem dX19_init_347 : decode cX19_init 347 = .ok (.aload_n 0, 1) := dk_42 (dk_at dksX19_init_15 0 rfl rfl)
theorem dX19_init_348 : decode cX19_init 348 = .ok (.getfield 31, 3) := dk_180 0 31 (dk_at dksX19_init_15 1 rfl rfl)
theorem dX19_init_351 : decode cX19_init 351 = .ok (.iload_n 3, 1) := dk_29 (dk_at dksX19_init_15 4 rfl rfl)
theorem dX19_init_352 : decode cX19_init 352 = .ok (.aload_n 1, 1) := dk_43 (dk_at dksX19_init_15 5 rfl rfl)
theorem dX19_init_353 : decode cX19_init 353 = .ok (.iload_n 3, 1) := dk_29 (dk_at dksX19_init_15 6 rfl rfl)
theorem dX19_init_354 : decode cX19_init 354 = .ok (.iconst 5, 1) := dk_8 (dk_at dksX19_init_15 7 rfl rfl)
theorem dX19_init_355 : decode cX19_init 355 = .ok (.invokevirtual 103, 3) := dk_182 0 103 (dk_at dksX19_init_15 8 rfl rfl)
theorem dX19_init_358 : decode cX19_init 358 = .ok (.iastore, 1) := dk_79 (dk_at dksX19_init_15 11 rfl rfl)
theorem dX19_init_359 : decode cX19_init 359 = .ok (.aload_n 0, 1) := dk_42 (dk_at dksX19_init_15 12 rfl rfl)
theorem dX19_init_360 : decode cX19_init 360 = .ok (.getfield 34, 3) := dk_180 0 34 (dk_at dksX19_init_15 13 rfl rfl)
theorem dX19_init_363 : decode cX19_init 363 = .ok (.iload_n 3, 1) := dk_29 (dk_at dksX19_init_15 16 rfl rfl)
theorem dX19_init_364 : decode cX19_init 364 = .ok (.aload_n 1, 1) := dk_43 (dk_at dksX19_init_15 17 rfl rfl)
theorem dX19_init_365 : decode cX19_init 365 = .ok (.iload_n 3, 1) := dk_29 (dk_at dksX19_init_15 18 rfl rfl)
theorem dX19_init_366 : decode cX19_init 366 = .ok (.invokevirtual 106, 3) := dk_182 0 106 (dk_at dksX19_init_15 19 rfl rfl)
theorem dX19_init_369 : decode cX19_init 369 = .ok (.iastore, 1) := dk_79 (dk_at dksX19_init_15 22 rfl rfl)
theorem dX19_init_370 : decode cX19_init 370 = .ok (.aload_n 0, 1) := dk_42 (dk_at dksX19_init_15 23 rfl rfl)
theorem dX19_init_371 : decode cX19_init 371 = .ok (.getfield 37, 3) := dk_180 0 37 (dk_at dksX19_init_16 0 rfl rfl)
theorem dX19_init_374 : decode cX19_init 374 = .ok (.iload_n 3, 1) := dk_29 (dk_at dksX19_init_16 3 rfl rfl)
theorem dX19_init_375 : decode cX19_init 375 = .ok (.aload_n 1, 1) := dk_43 (dk_at dksX19_init_16 4 rfl rfl)
theorem dX19_init_376 : decode cX19_init 376 = .ok (.iload_n 3, 1) := dk_29 (dk_at dksX19_init_16 5 rfl rfl)
theorem dX19_init_377 : decode cX19_init 377 = .ok (.iconst 1, 1) := dk_4 (dk_at dksX19_init_16 6 rfl rfl)
theorem dX19_init_378 : decode cX19_init 378 = .ok (.invokevirtual 108, 3) := dk_182 0 108 (dk_at dksX19_init_16 7 rfl rfl)
theorem dX19_init_381 : decode cX19_init 381 = .ok (.iastore, 1) := dk_79 (dk_at dksX19_init_16 10 rfl rfl)
theorem dX19_init_382 : decode cX19_init 382 = .ok (.aload_n 0, 1) := dk_42 (dk_at dksX19_init_16 11 rfl rfl)
theorem dX19_init_383 : decode cX19_init 383 = .ok (.getfield 25, 3) := dk_180 0 25 (dk_at dksX19_init_16 12 rfl rfl)
theorem dX19_init_386 : decode cX19_init 386 = .ok (.iload_n 3, 1) := dk_29 (dk_at dksX19_init_16 15 rfl rfl)
theorem dX19_init_387 : decode cX19_init 387 = .ok (.iaload, 1) := dk_46 (dk_at dksX19_init_16 16 rfl rfl)
theorem dX19_init_388 : decode cX19_init 388 = .ok (.ifCond .ge 7, 3) := dk_156 0 7 (dk_at dksX19_init_16 17 rfl rfl)
theorem dX19_init_391 : decode cX19_init 391 = .ok (.iconst (-1), 1) := dk_2 (dk_at dksX19_init_16 20 rfl rfl)
theorem dX19_init_392 : decode cX19_init 392 = .ok (.goto 14, 3) := dk_167 0 14 (dk_at dksX19_init_16 21 rfl rfl)
theorem dX19_init_395 : decode cX19_init 395 = .ok (.aload_n 0, 1) := dk_42 (dk_at dksX19_init_17 0 rfl rfl)
theorem dX19_init_396 : decode cX19_init 396 = .ok (.getfield 16, 3) := dk_180 0 16 (dk_at dksX19_init_17 1 rfl rfl)
theorem dX19_init_399 : decode cX19_init 399 = .ok (.aload_n 0, 1) := dk_42 (dk_at dksX19_init_17 4 rfl rfl)
theorem dX19_init_400 : decode cX19_init 400 = .ok (.getfield 25, 3) := dk_180 0 25 (dk_at dksX19_init_17 5 rfl rfl)
theorem dX19_init_403 : decode cX19_init 403 = .ok (.iload_n 3, 1) := dk_29 (dk_at dksX19_init_17 8 rfl rfl)
theorem dX19_init_404 : decode cX19_init 404 = .ok (.iaload, 1) := dk_46 (dk_at dksX19_init_17 9 rfl rfl)
theorem dX19_init_405 : decode cX19_init 405 = .ok (.iaload, 1) := dk_46 (dk_at dksX19_init_17 10 rfl rfl)
theorem dX19_init_406 : decode cX19_init 406 = .ok (.istore 4, 2) := dk_54 4 (dk_at dksX19_init_17 11 rfl rfl)
theorem dX19_init_408 : decode cX19_init 408 = .ok (.iconst 0, 1) := dk_3 (dk_at dksX19_init_17 13 rfl rfl)
theorem dX19_init_409 : decode cX19_init 409 = .ok (.istore 5, 2) := dk_54 5 (dk_at dksX19_init_17 14 rfl rfl)
theorem dX19_init_411 : decode cX19_init 411 = .ok (.iload 4, 2) := dk_21 4 (dk_at dksX19_init_17 16 rfl rfl)
theorem dX19_init_413 : decode cX19_init 413 = .ok (.ifCond .lt 75, 3) := dk_155 0 75 (dk_at dksX19_init_17 18 rfl rfl)
theorem dX19_init_416 : decode cX19_init 416 = .ok (.iload 5, 2) := dk_21 5 (dk_at dksX19_init_17 21 rfl rfl)
theorem dX19_init_418 : decode cX19_init 418 = .ok (.iconst 4, 1) := dk_7 (dk_at dksX19_init_17 23 rfl rfl)
theorem dX19_init_419 : decode cX19_init 419 = .ok (.if_icmp .ge 69, 3) := dk_162 0 69 (dk_at dksX19_init_18 0 rfl rfl)
theorem dX19_init_422 : decode cX19_init 422 = .ok (.aload_n 0, 1) := dk_42 (dk_at dksX19_init_18 3 rfl rfl)
theorem dX19_init_423 : decode cX19_init 423 = .ok (.getfield 46, 3) := dk_180 0 46 (dk_at dksX19_init_18 4 rfl rfl)
theorem dX19_init_426 : decode cX19_init 426 = .ok (.iload_n 3, 1) := dk_29 (dk_at dksX19_init_18 7 rfl rfl)
theorem dX19_init_427 : decode cX19_init 427 = .ok (.aaload, 1) := dk_50 (dk_at dksX19_init_18 8 rfl rfl)
theorem dX19_init_428 : decode cX19_init 428 = .ok (.iload 5, 2) := dk_21 5 (dk_at dksX19_init_18 9 rfl rfl)
theorem dX19_init_430 : decode cX19_init 430 = .ok (.aload_n 1, 1) := dk_43 (dk_at dksX19_init_18 11 rfl rfl)
theorem dX19_init_431 : decode cX19_init 431 = .ok (.iload_n 3, 1) := dk_29 (dk_at dksX19_init_18 12 rfl rfl)
theorem dX19_init_432 : decode cX19_init 432 = .ok (.bipush 20, 2) := dk_16 20 (dk_at dksX19_init_18 13 rfl rfl)
theorem dX19_init_434 : decode cX19_init 434 = .ok (.iload 4, 2) := dk_21 4 (dk_at dksX19_init_18 15 rfl rfl)
theorem dX19_init_436 : decode cX19_init 436 = .ok (.iload 5, 2) := dk_21 5 (dk_at dksX19_init_18 17 rfl rfl)
theorem dX19_init_438 : decode cX19_init 438 = .ok (.iadd, 1) := dk_96 (dk_at dksX19_init_18 19 rfl rfl)
theorem dX19_init_439 : decode cX19_init 439 = .ok (.invokestatic 65, 3) := dk_184 0 65 (dk_at dksX19_init_18 20 rfl rfl)
theorem dX19_init_442 : decode cX19_init 442 = .ok (.aload_n 0, 1) := dk_42 (dk_at dksX19_init_18 23 rfl rfl)
theorem dX19_init_443 : decode cX19_init 443 = .ok (.getfield 28, 3) := dk_180 0 28 (dk_at dksX19_init_19 0 rfl rfl)
theorem dX19_init_446 : decode cX19_init 446 = .ok (.iload_n 3, 1) := dk_29 (dk_at dksX19_init_19 3 rfl rfl)
theorem dX19_init_447 : decode cX19_init 447 = .ok (.iaload, 1) := dk_46 (dk_at dksX19_init_19 4 rfl rfl)
theorem dX19_init_448 : decode cX19_init 448 = .ok (.invokevirtual 110, 3) := dk_182 0 110 (dk_at dksX19_init_19 5 rfl rfl)
theorem dX19_init_451 : decode cX19_init 451 = .ok (.iastore, 1) := dk_79 (dk_at dksX19_init_19 8 rfl rfl)
theorem dX19_init_452 : decode cX19_init 452 = .ok (.aload_n 0, 1) := dk_42 (dk_at dksX19_init_19 9 rfl rfl)
theorem dX19_init_453 : decode cX19_init 453 = .ok (.getfield 49, 3) := dk_180 0 49 (dk_at dksX19_init_19 10 rfl rfl)
theorem dX19_init_456 : decode cX19_init 456 = .ok (.iload_n 3, 1) := dk_29 (dk_at dksX19_init_19 13 rfl rfl)
theorem dX19_init_457 : decode cX19_init 457 = .ok (.aaload, 1) := dk_50 (dk_at dksX19_init_19 14 rfl rfl)
theorem dX19_init_458 : decode cX19_init 458 = .ok (.iload 5, 2) := dk_21 5 (dk_at dksX19_init_19 15 rfl rfl)
theorem dX19_init_460 : decode cX19_init 460 = .ok (.aload_n 1, 1) := dk_43 (dk_at dksX19_init_19 17 rfl rfl)
theorem dX19_init_461 : decode cX19_init 461 = .ok (.iload_n 3, 1) := dk_29 (dk_at dksX19_init_19 18 rfl rfl)
theorem dX19_init_462 : decode cX19_init 462 = .ok (.bipush 20, 2) := dk_16 20 (dk_at dksX19_init_19 19 rfl rfl)
theorem dX19_init_464 : decode cX19_init 464 = .ok (.iload 4, 2) := dk_21 4 (dk_at dksX19_init_19 21 rfl rfl)
theorem dX19_init_466 : decode cX19_init 466 = .ok (.iload 5, 2) := dk_21 5 (dk_at dksX19_init_20 0 rfl rfl)
theorem dX19_init_468 : decode cX19_init 468 = .ok (.iadd, 1) := dk_96 (dk_at dksX19_init_20 2 rfl rfl)
theorem dX19_init_469 : decode cX19_init 469 = .ok (.invokestatic 65, 3) := dk_184 0 65 (dk_at dksX19_init_20 3 rfl rfl)
theorem dX19_init_472 : decode cX19_init 472 = .ok (.aload_n 0, 1) := dk_42 (dk_at dksX19_init_20 6 rfl rfl)
theorem dX19_init_473 : decode cX19_init 473 = .ok (.getfield 28, 3) := dk_180 0 28 (dk_at dksX19_init_20 7 rfl rfl)
theorem dX19_init_476 : decode cX19_init 476 = .ok (.iload_n 3, 1) := dk_29 (dk_at dksX19_init_20 10 rfl rfl)
theorem dX19_init_477 : decode cX19_init 477 = .ok (.iaload, 1) := dk_46 (dk_at dksX19_init_20 11 rfl rfl)
theorem dX19_init_478 : decode cX19_init 478 = .ok (.invokevirtual 113, 3) := dk_182 0 113 (dk_at dksX19_init_20 12 rfl rfl)
theorem dX19_init_481 : decode cX19_init 481 = .ok (.iastore, 1) := dk_79 (dk_at dksX19_init_20 15 rfl rfl)
theorem dX19_init_482 : decode cX19_init 482 = .ok (.iinc 5 1, 3) := dk_132 5 1 (dk_at dksX19_init_20 16 rfl rfl)
theorem dX19_init_485 : decode cX19_init 485 = .ok (.goto (-74), 3) := dk_167 255 182 (dk_at dksX19_init_20 19 rfl rfl)
theorem dX19_init_488 : decode cX19_init 488 = .ok (.iinc 3 1, 3) := dk_132 3 1 (dk_at dksX19_init_21 0 rfl rfl)
theorem dX19_init_491 : decode cX19_init 491 = .ok (.goto (-196), 3) := dk_167 255 60 (dk_at dksX19_init_21 3 rfl rfl)
theorem dX19_init_494 : decode cX19_init 494 = .ok (.return_, 1) := dk_177 (dk_at dksX19_init_21 6 rfl rfl)
abbrev cX19_who : ByteArray := prog_28_method_2_code
def yX19_who : MethodName := ⟨RX19, "who", "(LKilnBenchLaw$All;II)I"⟩
def dkwX19_who_2 : List UInt8 := [132, 5, 1, 167, 255, 213, 21, 4, 172]
abbrev dktX19_who_2 : List UInt8 := dkwX19_who_2 ++ []
def dkwX19_who_1 : List UInt8 := [160, 0, 19, 42, 180, 0, 28, 21, 5, 46, 29, 160, 0, 8, 21, 5, 167, 0, 5, 21, 4, 54, 4]
abbrev dktX19_who_1 : List UInt8 := dkwX19_who_1 ++ dktX19_who_2
def dkwX19_who_0 : List UInt8 := [2, 54, 4, 3, 54, 5, 21, 5, 43, 180, 0, 100, 162, 0, 40, 42, 180, 0, 25, 21, 5, 46, 28]
abbrev dktX19_who_0 : List UInt8 := dkwX19_who_0 ++ dktX19_who_1
theorem dksX19_who_0 : cX19_who.data.toList.drop 0 = dktX19_who_0 := by decide +kernel
theorem dksX19_who_1 : cX19_who.data.toList.drop 23 = dktX19_who_1 := dk_seg dksX19_who_0 23 rfl rfl
theorem dksX19_who_2 : cX19_who.data.toList.drop 46 = dktX19_who_2 := dk_seg dksX19_who_1 23 rfl rfl
theorem dX19_who_0 : decode cX19_who 0 = .ok (.iconst (-1), 1) := dk_2 (dk_at dksX19_who_0 0 rfl rfl)
theorem dX19_who_1 : decode cX19_who 1 = .ok (.istore 4, 2) := dk_54 4 (dk_at dksX19_who_0 1 rfl rfl)
theorem dX19_who_3 : decode cX19_who 3 = .ok (.iconst 0, 1) := dk_3 (dk_at dksX19_who_0 3 rfl rfl)
theorem dX19_who_4 : decode cX19_who 4 = .ok (.istore 5, 2) := dk_54 5 (dk_at dksX19_who_0 4 rfl rfl)
theorem dX19_who_6 : decode cX19_who 6 = .ok (.iload 5, 2) := dk_21 5 (dk_at dksX19_who_0 6 rfl rfl)
theorem dX19_who_8 : decode cX19_who 8 = .ok (.aload_n 1, 1) := dk_43 (dk_at dksX19_who_0 8 rfl rfl)
theorem dX19_who_9 : decode cX19_who 9 = .ok (.getfield 100, 3) := dk_180 0 100 (dk_at dksX19_who_0 9 rfl rfl)
theorem dX19_who_12 : decode cX19_who 12 = .ok (.if_icmp .ge 40, 3) := dk_162 0 40 (dk_at dksX19_who_0 12 rfl rfl)
theorem dX19_who_15 : decode cX19_who 15 = .ok (.aload_n 0, 1) := dk_42 (dk_at dksX19_who_0 15 rfl rfl)
theorem dX19_who_16 : decode cX19_who 16 = .ok (.getfield 25, 3) := dk_180 0 25 (dk_at dksX19_who_0 16 rfl rfl)
theorem dX19_who_19 : decode cX19_who 19 = .ok (.iload 5, 2) := dk_21 5 (dk_at dksX19_who_0 19 rfl rfl)
theorem dX19_who_21 : decode cX19_who 21 = .ok (.iaload, 1) := dk_46 (dk_at dksX19_who_0 21 rfl rfl)
theorem dX19_who_22 : decode cX19_who 22 = .ok (.iload_n 2, 1) := dk_28 (dk_at dksX19_who_0 22 rfl rfl)
theorem dX19_who_23 : decode cX19_who 23 = .ok (.if_icmp .ne 19, 3) := dk_160 0 19 (dk_at dksX19_who_1 0 rfl rfl)
theorem dX19_who_26 : decode cX19_who 26 = .ok (.aload_n 0, 1) := dk_42 (dk_at dksX19_who_1 3 rfl rfl)
theorem dX19_who_27 : decode cX19_who 27 = .ok (.getfield 28, 3) := dk_180 0 28 (dk_at dksX19_who_1 4 rfl rfl)
theorem dX19_who_30 : decode cX19_who 30 = .ok (.iload 5, 2) := dk_21 5 (dk_at dksX19_who_1 7 rfl rfl)
theorem dX19_who_32 : decode cX19_who 32 = .ok (.iaload, 1) := dk_46 (dk_at dksX19_who_1 9 rfl rfl)
theorem dX19_who_33 : decode cX19_who 33 = .ok (.iload_n 3, 1) := dk_29 (dk_at dksX19_who_1 10 rfl rfl)
theorem dX19_who_34 : decode cX19_who 34 = .ok (.if_icmp .ne 8, 3) := dk_160 0 8 (dk_at dksX19_who_1 11 rfl rfl)
theorem dX19_who_37 : decode cX19_who 37 = .ok (.iload 5, 2) := dk_21 5 (dk_at dksX19_who_1 14 rfl rfl)
theorem dX19_who_39 : decode cX19_who 39 = .ok (.goto 5, 3) := dk_167 0 5 (dk_at dksX19_who_1 16 rfl rfl)
theorem dX19_who_42 : decode cX19_who 42 = .ok (.iload 4, 2) := dk_21 4 (dk_at dksX19_who_1 19 rfl rfl)
theorem dX19_who_44 : decode cX19_who 44 = .ok (.istore 4, 2) := dk_54 4 (dk_at dksX19_who_1 21 rfl rfl)
theorem dX19_who_46 : decode cX19_who 46 = .ok (.iinc 5 1, 3) := dk_132 5 1 (dk_at dksX19_who_2 0 rfl rfl)
theorem dX19_who_49 : decode cX19_who 49 = .ok (.goto (-43), 3) := dk_167 255 213 (dk_at dksX19_who_2 3 rfl rfl)
theorem dX19_who_52 : decode cX19_who 52 = .ok (.iload 4, 2) := dk_21 4 (dk_at dksX19_who_2 6 rfl rfl)
theorem dX19_who_54 : decode cX19_who 54 = .ok (.ireturn, 1) := dk_172 (dk_at dksX19_who_2 8 rfl rfl)
abbrev cX19_isSameChild : ByteArray := prog_28_method_4_code
def yX19_isSameChild : MethodName := ⟨RX19, "isSameChild", "(LKilnBench;I)Z"⟩
def dkwX19_isSameChild_3 : List UInt8 := [182, 0, 106, 42, 180, 0, 34, 28, 46, 160, 0, 7, 4, 167, 0, 4, 3, 172]
abbrev dktX19_isSameChild_3 : List UInt8 := dkwX19_isSameChild_3 ++ []
def dkwX19_isSameChild_2 : List UInt8 := [167, 0, 4, 4, 160, 0, 36, 43, 28, 8, 182, 0, 103, 42, 180, 0, 31, 28, 46, 160, 0, 21, 43, 28]
abbrev dktX19_isSameChild_2 : List UInt8 := dkwX19_isSameChild_2 ++ dktX19_isSameChild_3
def dkwX19_isSameChild_1 : List UInt8 := [180, 0, 28, 28, 46, 160, 0, 59, 43, 28, 7, 182, 0, 103, 42, 180, 0, 40, 28, 51, 153, 0, 7, 3]
abbrev dktX19_isSameChild_1 : List UInt8 := dkwX19_isSameChild_1 ++ dktX19_isSameChild_2
def dkwX19_isSameChild_0 : List UInt8 := [43, 28, 5, 182, 0, 103, 42, 180, 0, 25, 28, 46, 160, 0, 74, 43, 28, 6, 182, 0, 103, 42]
abbrev dktX19_isSameChild_0 : List UInt8 := dkwX19_isSameChild_0 ++ dktX19_isSameChild_1
theorem dksX19_isSameChild_0 : cX19_isSameChild.data.toList.drop 0 = dktX19_isSameChild_0 := by decide +kernel
theorem dksX19_isSameChild_1 : cX19_isSameChild.data.toList.drop 22 = dktX19_isSameChild_1 := dk_seg dksX19_isSameChild_0 22 rfl rfl
theorem dksX19_isSameChild_2 : cX19_isSameChild.data.toList.drop 46 = dktX19_isSameChild_2 := dk_seg dksX19_isSameChild_1 24 rfl rfl
theorem dksX19_isSameChild_3 : cX19_isSameChild.data.toList.drop 70 = dktX19_isSameChild_3 := dk_seg dksX19_isSameChild_2 24 rfl rfl
theorem dX19_isSameChild_0 : decode cX19_isSameChild 0 = .ok (.aload_n 1, 1) := dk_43 (dk_at dksX19_isSameChild_0 0 rfl rfl)
theorem dX19_isSameChild_1 : decode cX19_isSameChild 1 = .ok (.iload_n 2, 1) := dk_28 (dk_at dksX19_isSameChild_0 1 rfl rfl)
theorem dX19_isSameChild_2 : decode cX19_isSameChild 2 = .ok (.iconst 2, 1) := dk_5 (dk_at dksX19_isSameChild_0 2 rfl rfl)
theorem dX19_isSameChild_3 : decode cX19_isSameChild 3 = .ok (.invokevirtual 103, 3) := dk_182 0 103 (dk_at dksX19_isSameChild_0 3 rfl rfl)
theorem dX19_isSameChild_6 : decode cX19_isSameChild 6 = .ok (.aload_n 0, 1) := dk_42 (dk_at dksX19_isSameChild_0 6 rfl rfl)
theorem dX19_isSameChild_7 : decode cX19_isSameChild 7 = .ok (.getfield 25, 3) := dk_180 0 25 (dk_at dksX19_isSameChild_0 7 rfl rfl)
theorem dX19_isSameChild_10 : decode cX19_isSameChild 10 = .ok (.iload_n 2, 1) := dk_28 (dk_at dksX19_isSameChild_0 10 rfl rfl)
theorem dX19_isSameChild_11 : decode cX19_isSameChild 11 = .ok (.iaload, 1) := dk_46 (dk_at dksX19_isSameChild_0 11 rfl rfl)
theorem dX19_isSameChild_12 : decode cX19_isSameChild 12 = .ok (.if_icmp .ne 74, 3) := dk_160 0 74 (dk_at dksX19_isSameChild_0 12 rfl rfl)
theorem dX19_isSameChild_15 : decode cX19_isSameChild 15 = .ok (.aload_n 1, 1) := dk_43 (dk_at dksX19_isSameChild_0 15 rfl rfl)
theorem dX19_isSameChild_16 : decode cX19_isSameChild 16 = .ok (.iload_n 2, 1) := dk_28 (dk_at dksX19_isSameChild_0 16 rfl rfl)
theorem dX19_isSameChild_17 : decode cX19_isSameChild 17 = .ok (.iconst 3, 1) := dk_6 (dk_at dksX19_isSameChild_0 17 rfl rfl)
theorem dX19_isSameChild_18 : decode cX19_isSameChild 18 = .ok (.invokevirtual 103, 3) := dk_182 0 103 (dk_at dksX19_isSameChild_0 18 rfl rfl)
theorem dX19_isSameChild_21 : decode cX19_isSameChild 21 = .ok (.aload_n 0, 1) := dk_42 (dk_at dksX19_isSameChild_0 21 rfl rfl)
theorem dX19_isSameChild_22 : decode cX19_isSameChild 22 = .ok (.getfield 28, 3) := dk_180 0 28 (dk_at dksX19_isSameChild_1 0 rfl rfl)
theorem dX19_isSameChild_25 : decode cX19_isSameChild 25 = .ok (.iload_n 2, 1) := dk_28 (dk_at dksX19_isSameChild_1 3 rfl rfl)
theorem dX19_isSameChild_26 : decode cX19_isSameChild 26 = .ok (.iaload, 1) := dk_46 (dk_at dksX19_isSameChild_1 4 rfl rfl)
theorem dX19_isSameChild_27 : decode cX19_isSameChild 27 = .ok (.if_icmp .ne 59, 3) := dk_160 0 59 (dk_at dksX19_isSameChild_1 5 rfl rfl)
theorem dX19_isSameChild_30 : decode cX19_isSameChild 30 = .ok (.aload_n 1, 1) := dk_43 (dk_at dksX19_isSameChild_1 8 rfl rfl)
theorem dX19_isSameChild_31 : decode cX19_isSameChild 31 = .ok (.iload_n 2, 1) := dk_28 (dk_at dksX19_isSameChild_1 9 rfl rfl)
theorem dX19_isSameChild_32 : decode cX19_isSameChild 32 = .ok (.iconst 4, 1) := dk_7 (dk_at dksX19_isSameChild_1 10 rfl rfl)
theorem dX19_isSameChild_33 : decode cX19_isSameChild 33 = .ok (.invokevirtual 103, 3) := dk_182 0 103 (dk_at dksX19_isSameChild_1 11 rfl rfl)
theorem dX19_isSameChild_36 : decode cX19_isSameChild 36 = .ok (.aload_n 0, 1) := dk_42 (dk_at dksX19_isSameChild_1 14 rfl rfl)
theorem dX19_isSameChild_37 : decode cX19_isSameChild 37 = .ok (.getfield 40, 3) := dk_180 0 40 (dk_at dksX19_isSameChild_1 15 rfl rfl)
theorem dX19_isSameChild_40 : decode cX19_isSameChild 40 = .ok (.iload_n 2, 1) := dk_28 (dk_at dksX19_isSameChild_1 18 rfl rfl)
theorem dX19_isSameChild_41 : decode cX19_isSameChild 41 = .ok (.baload, 1) := dk_51 (dk_at dksX19_isSameChild_1 19 rfl rfl)
theorem dX19_isSameChild_42 : decode cX19_isSameChild 42 = .ok (.ifCond .eq 7, 3) := dk_153 0 7 (dk_at dksX19_isSameChild_1 20 rfl rfl)
theorem dX19_isSameChild_45 : decode cX19_isSameChild 45 = .ok (.iconst 0, 1) := dk_3 (dk_at dksX19_isSameChild_1 23 rfl rfl)
theorem dX19_isSameChild_46 : decode cX19_isSameChild 46 = .ok (.goto 4, 3) := dk_167 0 4 (dk_at dksX19_isSameChild_2 0 rfl rfl)
theorem dX19_isSameChild_49 : decode cX19_isSameChild 49 = .ok (.iconst 1, 1) := dk_4 (dk_at dksX19_isSameChild_2 3 rfl rfl)
theorem dX19_isSameChild_50 : decode cX19_isSameChild 50 = .ok (.if_icmp .ne 36, 3) := dk_160 0 36 (dk_at dksX19_isSameChild_2 4 rfl rfl)
theorem dX19_isSameChild_53 : decode cX19_isSameChild 53 = .ok (.aload_n 1, 1) := dk_43 (dk_at dksX19_isSameChild_2 7 rfl rfl)
theorem dX19_isSameChild_54 : decode cX19_isSameChild 54 = .ok (.iload_n 2, 1) := dk_28 (dk_at dksX19_isSameChild_2 8 rfl rfl)
theorem dX19_isSameChild_55 : decode cX19_isSameChild 55 = .ok (.iconst 5, 1) := dk_8 (dk_at dksX19_isSameChild_2 9 rfl rfl)
theorem dX19_isSameChild_56 : decode cX19_isSameChild 56 = .ok (.invokevirtual 103, 3) := dk_182 0 103 (dk_at dksX19_isSameChild_2 10 rfl rfl)
theorem dX19_isSameChild_59 : decode cX19_isSameChild 59 = .ok (.aload_n 0, 1) := dk_42 (dk_at dksX19_isSameChild_2 13 rfl rfl)
theorem dX19_isSameChild_60 : decode cX19_isSameChild 60 = .ok (.getfield 31, 3) := dk_180 0 31 (dk_at dksX19_isSameChild_2 14 rfl rfl)
theorem dX19_isSameChild_63 : decode cX19_isSameChild 63 = .ok (.iload_n 2, 1) := dk_28 (dk_at dksX19_isSameChild_2 17 rfl rfl)
theorem dX19_isSameChild_64 : decode cX19_isSameChild 64 = .ok (.iaload, 1) := dk_46 (dk_at dksX19_isSameChild_2 18 rfl rfl)
theorem dX19_isSameChild_65 : decode cX19_isSameChild 65 = .ok (.if_icmp .ne 21, 3) := dk_160 0 21 (dk_at dksX19_isSameChild_2 19 rfl rfl)
theorem dX19_isSameChild_68 : decode cX19_isSameChild 68 = .ok (.aload_n 1, 1) := dk_43 (dk_at dksX19_isSameChild_2 22 rfl rfl)
theorem dX19_isSameChild_69 : decode cX19_isSameChild 69 = .ok (.iload_n 2, 1) := dk_28 (dk_at dksX19_isSameChild_2 23 rfl rfl)
theorem dX19_isSameChild_70 : decode cX19_isSameChild 70 = .ok (.invokevirtual 106, 3) := dk_182 0 106 (dk_at dksX19_isSameChild_3 0 rfl rfl)
theorem dX19_isSameChild_73 : decode cX19_isSameChild 73 = .ok (.aload_n 0, 1) := dk_42 (dk_at dksX19_isSameChild_3 3 rfl rfl)
theorem dX19_isSameChild_74 : decode cX19_isSameChild 74 = .ok (.getfield 34, 3) := dk_180 0 34 (dk_at dksX19_isSameChild_3 4 rfl rfl)
theorem dX19_isSameChild_77 : decode cX19_isSameChild 77 = .ok (.iload_n 2, 1) := dk_28 (dk_at dksX19_isSameChild_3 7 rfl rfl)
theorem dX19_isSameChild_78 : decode cX19_isSameChild 78 = .ok (.iaload, 1) := dk_46 (dk_at dksX19_isSameChild_3 8 rfl rfl)
theorem dX19_isSameChild_79 : decode cX19_isSameChild 79 = .ok (.if_icmp .ne 7, 3) := dk_160 0 7 (dk_at dksX19_isSameChild_3 9 rfl rfl)
theorem dX19_isSameChild_82 : decode cX19_isSameChild 82 = .ok (.iconst 1, 1) := dk_4 (dk_at dksX19_isSameChild_3 12 rfl rfl)
theorem dX19_isSameChild_83 : decode cX19_isSameChild 83 = .ok (.goto 4, 3) := dk_167 0 4 (dk_at dksX19_isSameChild_3 13 rfl rfl)
theorem dX19_isSameChild_86 : decode cX19_isSameChild 86 = .ok (.iconst 0, 1) := dk_3 (dk_at dksX19_isSameChild_3 16 rfl rfl)
theorem dX19_isSameChild_87 : decode cX19_isSameChild 87 = .ok (.ireturn, 1) := dk_172 (dk_at dksX19_isSameChild_3 17 rfl rfl)
abbrev cX19_areElder : ByteArray := prog_28_method_5_code
def yX19_areElder : MethodName := ⟨RX19, "areElder", "(LKilnBench;)Z"⟩
def dkwX19_areElder_2 : List UInt8 := [167, 0, 4, 3, 61, 132, 4, 1, 167, 255, 218, 132, 3, 1, 167, 255, 201, 28, 172]
abbrev dktX19_areElder_2 : List UInt8 := dkwX19_areElder_2 ++ []
def dkwX19_areElder_1 : List UInt8 := [153, 0, 26, 43, 29, 21, 4, 182, 0, 88, 42, 180, 0, 52, 29, 50, 21, 4, 46, 160, 0, 7, 4]
abbrev dktX19_areElder_1 : List UInt8 := dkwX19_areElder_1 ++ dktX19_areElder_2
def dkwX19_areElder_0 : List UInt8 := [4, 61, 3, 62, 29, 42, 180, 0, 71, 162, 0, 53, 3, 54, 4, 21, 4, 7, 162, 0, 38, 28]
abbrev dktX19_areElder_0 : List UInt8 := dkwX19_areElder_0 ++ dktX19_areElder_1
theorem dksX19_areElder_0 : cX19_areElder.data.toList.drop 0 = dktX19_areElder_0 := by decide +kernel
theorem dksX19_areElder_1 : cX19_areElder.data.toList.drop 22 = dktX19_areElder_1 := dk_seg dksX19_areElder_0 22 rfl rfl
theorem dksX19_areElder_2 : cX19_areElder.data.toList.drop 45 = dktX19_areElder_2 := dk_seg dksX19_areElder_1 23 rfl rfl
theorem dX19_areElder_0 : decode cX19_areElder 0 = .ok (.iconst 1, 1) := dk_4 (dk_at dksX19_areElder_0 0 rfl rfl)
theorem dX19_areElder_1 : decode cX19_areElder 1 = .ok (.istore_n 2, 1) := dk_61 (dk_at dksX19_areElder_0 1 rfl rfl)
theorem dX19_areElder_2 : decode cX19_areElder 2 = .ok (.iconst 0, 1) := dk_3 (dk_at dksX19_areElder_0 2 rfl rfl)
theorem dX19_areElder_3 : decode cX19_areElder 3 = .ok (.istore_n 3, 1) := dk_62 (dk_at dksX19_areElder_0 3 rfl rfl)
theorem dX19_areElder_4 : decode cX19_areElder 4 = .ok (.iload_n 3, 1) := dk_29 (dk_at dksX19_areElder_0 4 rfl rfl)
theorem dX19_areElder_5 : decode cX19_areElder 5 = .ok (.aload_n 0, 1) := dk_42 (dk_at dksX19_areElder_0 5 rfl rfl)
theorem dX19_areElder_6 : decode cX19_areElder 6 = .ok (.getfield 71, 3) := dk_180 0 71 (dk_at dksX19_areElder_0 6 rfl rfl)
theorem dX19_areElder_9 : decode cX19_areElder 9 = .ok (.if_icmp .ge 53, 3) := dk_162 0 53 (dk_at dksX19_areElder_0 9 rfl rfl)
theorem dX19_areElder_12 : decode cX19_areElder 12 = .ok (.iconst 0, 1) := dk_3 (dk_at dksX19_areElder_0 12 rfl rfl)
theorem dX19_areElder_13 : decode cX19_areElder 13 = .ok (.istore 4, 2) := dk_54 4 (dk_at dksX19_areElder_0 13 rfl rfl)
theorem dX19_areElder_15 : decode cX19_areElder 15 = .ok (.iload 4, 2) := dk_21 4 (dk_at dksX19_areElder_0 15 rfl rfl)
theorem dX19_areElder_17 : decode cX19_areElder 17 = .ok (.iconst 4, 1) := dk_7 (dk_at dksX19_areElder_0 17 rfl rfl)
theorem dX19_areElder_18 : decode cX19_areElder 18 = .ok (.if_icmp .ge 38, 3) := dk_162 0 38 (dk_at dksX19_areElder_0 18 rfl rfl)
theorem dX19_areElder_21 : decode cX19_areElder 21 = .ok (.iload_n 2, 1) := dk_28 (dk_at dksX19_areElder_0 21 rfl rfl)
theorem dX19_areElder_22 : decode cX19_areElder 22 = .ok (.ifCond .eq 26, 3) := dk_153 0 26 (dk_at dksX19_areElder_1 0 rfl rfl)
theorem dX19_areElder_25 : decode cX19_areElder 25 = .ok (.aload_n 1, 1) := dk_43 (dk_at dksX19_areElder_1 3 rfl rfl)
theorem dX19_areElder_26 : decode cX19_areElder 26 = .ok (.iload_n 3, 1) := dk_29 (dk_at dksX19_areElder_1 4 rfl rfl)
theorem dX19_areElder_27 : decode cX19_areElder 27 = .ok (.iload 4, 2) := dk_21 4 (dk_at dksX19_areElder_1 5 rfl rfl)
theorem dX19_areElder_29 : decode cX19_areElder 29 = .ok (.invokevirtual 88, 3) := dk_182 0 88 (dk_at dksX19_areElder_1 7 rfl rfl)
theorem dX19_areElder_32 : decode cX19_areElder 32 = .ok (.aload_n 0, 1) := dk_42 (dk_at dksX19_areElder_1 10 rfl rfl)
theorem dX19_areElder_33 : decode cX19_areElder 33 = .ok (.getfield 52, 3) := dk_180 0 52 (dk_at dksX19_areElder_1 11 rfl rfl)
theorem dX19_areElder_36 : decode cX19_areElder 36 = .ok (.iload_n 3, 1) := dk_29 (dk_at dksX19_areElder_1 14 rfl rfl)
theorem dX19_areElder_37 : decode cX19_areElder 37 = .ok (.aaload, 1) := dk_50 (dk_at dksX19_areElder_1 15 rfl rfl)
theorem dX19_areElder_38 : decode cX19_areElder 38 = .ok (.iload 4, 2) := dk_21 4 (dk_at dksX19_areElder_1 16 rfl rfl)
theorem dX19_areElder_40 : decode cX19_areElder 40 = .ok (.iaload, 1) := dk_46 (dk_at dksX19_areElder_1 18 rfl rfl)
theorem dX19_areElder_41 : decode cX19_areElder 41 = .ok (.if_icmp .ne 7, 3) := dk_160 0 7 (dk_at dksX19_areElder_1 19 rfl rfl)
theorem dX19_areElder_44 : decode cX19_areElder 44 = .ok (.iconst 1, 1) := dk_4 (dk_at dksX19_areElder_1 22 rfl rfl)
theorem dX19_areElder_45 : decode cX19_areElder 45 = .ok (.goto 4, 3) := dk_167 0 4 (dk_at dksX19_areElder_2 0 rfl rfl)
theorem dX19_areElder_48 : decode cX19_areElder 48 = .ok (.iconst 0, 1) := dk_3 (dk_at dksX19_areElder_2 3 rfl rfl)
theorem dX19_areElder_49 : decode cX19_areElder 49 = .ok (.istore_n 2, 1) := dk_61 (dk_at dksX19_areElder_2 4 rfl rfl)
theorem dX19_areElder_50 : decode cX19_areElder 50 = .ok (.iinc 4 1, 3) := dk_132 4 1 (dk_at dksX19_areElder_2 5 rfl rfl)
theorem dX19_areElder_53 : decode cX19_areElder 53 = .ok (.goto (-38), 3) := dk_167 255 218 (dk_at dksX19_areElder_2 8 rfl rfl)
theorem dX19_areElder_56 : decode cX19_areElder 56 = .ok (.iinc 3 1, 3) := dk_132 3 1 (dk_at dksX19_areElder_2 11 rfl rfl)
theorem dX19_areElder_59 : decode cX19_areElder 59 = .ok (.goto (-55), 3) := dk_167 255 201 (dk_at dksX19_areElder_2 14 rfl rfl)
theorem dX19_areElder_62 : decode cX19_areElder 62 = .ok (.iload_n 2, 1) := dk_28 (dk_at dksX19_areElder_2 17 rfl rfl)
theorem dX19_areElder_63 : decode cX19_areElder 63 = .ok (.ireturn, 1) := dk_172 (dk_at dksX19_areElder_2 18 rfl rfl)
abbrev cX19_isSame : ByteArray := prog_28_method_6_code
def yX19_isSame : MethodName := ⟨RX19, "isSame", "(LKilnBench;LKilnBenchLaw$All;II)Z"⟩
def dkwX19_isSame_7 : List UInt8 := [132, 6, 1, 167, 255, 191, 21, 5, 172]
abbrev dktX19_isSame_7 : List UInt8 := dkwX19_isSame_7 ++ []
def dkwX19_isSame_6 : List UInt8 := [21, 6, 5, 182, 0, 95, 42, 180, 0, 16, 21, 6, 46, 160, 0, 7, 4, 167, 0, 4, 3, 54, 5]
abbrev dktX19_isSame_6 : List UInt8 := dkwX19_isSame_6 ++ dktX19_isSame_7
def dkwX19_isSame_5 : List UInt8 := [21, 6, 3, 182, 0, 95, 42, 180, 0, 7, 21, 6, 46, 160, 0, 31, 21, 6, 21, 4, 159, 0, 20, 43]
abbrev dktX19_isSame_5 : List UInt8 := dkwX19_isSame_5 ++ dktX19_isSame_6
def dkwX19_isSame_4 : List UInt8 := [132, 6, 1, 167, 255, 216, 3, 54, 6, 21, 6, 44, 180, 0, 90, 162, 0, 62, 21, 5, 153, 0, 57, 43]
abbrev dktX19_isSame_4 : List UInt8 := dkwX19_isSame_4 ++ dktX19_isSame_5
def dkwX19_isSame_3 : List UInt8 := [21, 6, 29, 159, 0, 13, 42, 43, 21, 6, 182, 0, 123, 153, 0, 7, 4, 167, 0, 4, 3, 54, 5]
abbrev dktX19_isSame_3 : List UInt8 := dkwX19_isSame_3 ++ dktX19_isSame_4
def dkwX19_isSame_2 : List UInt8 := [167, 0, 4, 3, 54, 5, 3, 54, 6, 21, 6, 44, 180, 0, 100, 162, 0, 37, 21, 5, 153, 0, 32]
abbrev dktX19_isSame_2 : List UInt8 := dkwX19_isSame_2 ++ dktX19_isSame_3
def dkwX19_isSame_1 : List UInt8 := [160, 0, 27, 43, 5, 182, 0, 55, 42, 180, 0, 74, 160, 0, 15, 42, 43, 182, 0, 119, 153, 0, 7, 4]
abbrev dktX19_isSame_1 : List UInt8 := dkwX19_isSame_1 ++ dktX19_isSame_2
def dkwX19_isSame_0 : List UInt8 := [43, 6, 182, 0, 55, 42, 180, 0, 61, 160, 0, 40, 43, 16, 8, 182, 0, 55, 42, 180, 0, 71]
abbrev dktX19_isSame_0 : List UInt8 := dkwX19_isSame_0 ++ dktX19_isSame_1
theorem dksX19_isSame_0 : cX19_isSame.data.toList.drop 0 = dktX19_isSame_0 := by decide +kernel
theorem dksX19_isSame_1 : cX19_isSame.data.toList.drop 22 = dktX19_isSame_1 := dk_seg dksX19_isSame_0 22 rfl rfl
theorem dksX19_isSame_2 : cX19_isSame.data.toList.drop 46 = dktX19_isSame_2 := dk_seg dksX19_isSame_1 24 rfl rfl
theorem dksX19_isSame_3 : cX19_isSame.data.toList.drop 69 = dktX19_isSame_3 := dk_seg dksX19_isSame_2 23 rfl rfl
theorem dksX19_isSame_4 : cX19_isSame.data.toList.drop 92 = dktX19_isSame_4 := dk_seg dksX19_isSame_3 23 rfl rfl
theorem dksX19_isSame_5 : cX19_isSame.data.toList.drop 116 = dktX19_isSame_5 := dk_seg dksX19_isSame_4 24 rfl rfl
theorem dksX19_isSame_6 : cX19_isSame.data.toList.drop 140 = dktX19_isSame_6 := dk_seg dksX19_isSame_5 24 rfl rfl
theorem dksX19_isSame_7 : cX19_isSame.data.toList.drop 163 = dktX19_isSame_7 := dk_seg dksX19_isSame_6 23 rfl rfl
theorem dX19_isSame_0 : decode cX19_isSame 0 = .ok (.aload_n 1, 1) := dk_43 (dk_at dksX19_isSame_0 0 rfl rfl)
theorem dX19_isSame_1 : decode cX19_isSame 1 = .ok (.iconst 3, 1) := dk_6 (dk_at dksX19_isSame_0 1 rfl rfl)
theorem dX19_isSame_2 : decode cX19_isSame 2 = .ok (.invokevirtual 55, 3) := dk_182 0 55 (dk_at dksX19_isSame_0 2 rfl rfl)
theorem dX19_isSame_5 : decode cX19_isSame 5 = .ok (.aload_n 0, 1) := dk_42 (dk_at dksX19_isSame_0 5 rfl rfl)
theorem dX19_isSame_6 : decode cX19_isSame 6 = .ok (.getfield 61, 3) := dk_180 0 61 (dk_at dksX19_isSame_0 6 rfl rfl)
theorem dX19_isSame_9 : decode cX19_isSame 9 = .ok (.if_icmp .ne 40, 3) := dk_160 0 40 (dk_at dksX19_isSame_0 9 rfl rfl)
theorem dX19_isSame_12 : decode cX19_isSame 12 = .ok (.aload_n 1, 1) := dk_43 (dk_at dksX19_isSame_0 12 rfl rfl)
theorem dX19_isSame_13 : decode cX19_isSame 13 = .ok (.bipush 8, 2) := dk_16 8 (dk_at dksX19_isSame_0 13 rfl rfl)
theorem dX19_isSame_15 : decode cX19_isSame 15 = .ok (.invokevirtual 55, 3) := dk_182 0 55 (dk_at dksX19_isSame_0 15 rfl rfl)
theorem dX19_isSame_18 : decode cX19_isSame 18 = .ok (.aload_n 0, 1) := dk_42 (dk_at dksX19_isSame_0 18 rfl rfl)
theorem dX19_isSame_19 : decode cX19_isSame 19 = .ok (.getfield 71, 3) := dk_180 0 71 (dk_at dksX19_isSame_0 19 rfl rfl)
theorem dX19_isSame_22 : decode cX19_isSame 22 = .ok (.if_icmp .ne 27, 3) := dk_160 0 27 (dk_at dksX19_isSame_1 0 rfl rfl)
theorem dX19_isSame_25 : decode cX19_isSame 25 = .ok (.aload_n 1, 1) := dk_43 (dk_at dksX19_isSame_1 3 rfl rfl)
theorem dX19_isSame_26 : decode cX19_isSame 26 = .ok (.iconst 2, 1) := dk_5 (dk_at dksX19_isSame_1 4 rfl rfl)
theorem dX19_isSame_27 : decode cX19_isSame 27 = .ok (.invokevirtual 55, 3) := dk_182 0 55 (dk_at dksX19_isSame_1 5 rfl rfl)
theorem dX19_isSame_30 : decode cX19_isSame 30 = .ok (.aload_n 0, 1) := dk_42 (dk_at dksX19_isSame_1 8 rfl rfl)
theorem dX19_isSame_31 : decode cX19_isSame 31 = .ok (.getfield 74, 3) := dk_180 0 74 (dk_at dksX19_isSame_1 9 rfl rfl)
theorem dX19_isSame_34 : decode cX19_isSame 34 = .ok (.if_icmp .ne 15, 3) := dk_160 0 15 (dk_at dksX19_isSame_1 12 rfl rfl)
theorem dX19_isSame_37 : decode cX19_isSame 37 = .ok (.aload_n 0, 1) := dk_42 (dk_at dksX19_isSame_1 15 rfl rfl)
theorem dX19_isSame_38 : decode cX19_isSame 38 = .ok (.aload_n 1, 1) := dk_43 (dk_at dksX19_isSame_1 16 rfl rfl)
theorem dX19_isSame_39 : decode cX19_isSame 39 = .ok (.invokevirtual 119, 3) := dk_182 0 119 (dk_at dksX19_isSame_1 17 rfl rfl)
theorem dX19_isSame_42 : decode cX19_isSame 42 = .ok (.ifCond .eq 7, 3) := dk_153 0 7 (dk_at dksX19_isSame_1 20 rfl rfl)
theorem dX19_isSame_45 : decode cX19_isSame 45 = .ok (.iconst 1, 1) := dk_4 (dk_at dksX19_isSame_1 23 rfl rfl)
theorem dX19_isSame_46 : decode cX19_isSame 46 = .ok (.goto 4, 3) := dk_167 0 4 (dk_at dksX19_isSame_2 0 rfl rfl)
theorem dX19_isSame_49 : decode cX19_isSame 49 = .ok (.iconst 0, 1) := dk_3 (dk_at dksX19_isSame_2 3 rfl rfl)
theorem dX19_isSame_50 : decode cX19_isSame 50 = .ok (.istore 5, 2) := dk_54 5 (dk_at dksX19_isSame_2 4 rfl rfl)
theorem dX19_isSame_52 : decode cX19_isSame 52 = .ok (.iconst 0, 1) := dk_3 (dk_at dksX19_isSame_2 6 rfl rfl)
theorem dX19_isSame_53 : decode cX19_isSame 53 = .ok (.istore 6, 2) := dk_54 6 (dk_at dksX19_isSame_2 7 rfl rfl)
theorem dX19_isSame_55 : decode cX19_isSame 55 = .ok (.iload 6, 2) := dk_21 6 (dk_at dksX19_isSame_2 9 rfl rfl)
theorem dX19_isSame_57 : decode cX19_isSame 57 = .ok (.aload_n 2, 1) := dk_44 (dk_at dksX19_isSame_2 11 rfl rfl)
theorem dX19_isSame_58 : decode cX19_isSame 58 = .ok (.getfield 100, 3) := dk_180 0 100 (dk_at dksX19_isSame_2 12 rfl rfl)
theorem dX19_isSame_61 : decode cX19_isSame 61 = .ok (.if_icmp .ge 37, 3) := dk_162 0 37 (dk_at dksX19_isSame_2 15 rfl rfl)
theorem dX19_isSame_64 : decode cX19_isSame 64 = .ok (.iload 5, 2) := dk_21 5 (dk_at dksX19_isSame_2 18 rfl rfl)
theorem dX19_isSame_66 : decode cX19_isSame 66 = .ok (.ifCond .eq 32, 3) := dk_153 0 32 (dk_at dksX19_isSame_2 20 rfl rfl)
theorem dX19_isSame_69 : decode cX19_isSame 69 = .ok (.iload 6, 2) := dk_21 6 (dk_at dksX19_isSame_3 0 rfl rfl)
theorem dX19_isSame_71 : decode cX19_isSame 71 = .ok (.iload_n 3, 1) := dk_29 (dk_at dksX19_isSame_3 2 rfl rfl)
theorem dX19_isSame_72 : decode cX19_isSame 72 = .ok (.if_icmp .eq 13, 3) := dk_159 0 13 (dk_at dksX19_isSame_3 3 rfl rfl)
theorem dX19_isSame_75 : decode cX19_isSame 75 = .ok (.aload_n 0, 1) := dk_42 (dk_at dksX19_isSame_3 6 rfl rfl)
theorem dX19_isSame_76 : decode cX19_isSame 76 = .ok (.aload_n 1, 1) := dk_43 (dk_at dksX19_isSame_3 7 rfl rfl)
theorem dX19_isSame_77 : decode cX19_isSame 77 = .ok (.iload 6, 2) := dk_21 6 (dk_at dksX19_isSame_3 8 rfl rfl)
theorem dX19_isSame_79 : decode cX19_isSame 79 = .ok (.invokevirtual 123, 3) := dk_182 0 123 (dk_at dksX19_isSame_3 10 rfl rfl)
theorem dX19_isSame_82 : decode cX19_isSame 82 = .ok (.ifCond .eq 7, 3) := dk_153 0 7 (dk_at dksX19_isSame_3 13 rfl rfl)
theorem dX19_isSame_85 : decode cX19_isSame 85 = .ok (.iconst 1, 1) := dk_4 (dk_at dksX19_isSame_3 16 rfl rfl)
theorem dX19_isSame_86 : decode cX19_isSame 86 = .ok (.goto 4, 3) := dk_167 0 4 (dk_at dksX19_isSame_3 17 rfl rfl)
theorem dX19_isSame_89 : decode cX19_isSame 89 = .ok (.iconst 0, 1) := dk_3 (dk_at dksX19_isSame_3 20 rfl rfl)
theorem dX19_isSame_90 : decode cX19_isSame 90 = .ok (.istore 5, 2) := dk_54 5 (dk_at dksX19_isSame_3 21 rfl rfl)
theorem dX19_isSame_92 : decode cX19_isSame 92 = .ok (.iinc 6 1, 3) := dk_132 6 1 (dk_at dksX19_isSame_4 0 rfl rfl)
theorem dX19_isSame_95 : decode cX19_isSame 95 = .ok (.goto (-40), 3) := dk_167 255 216 (dk_at dksX19_isSame_4 3 rfl rfl)
theorem dX19_isSame_98 : decode cX19_isSame 98 = .ok (.iconst 0, 1) := dk_3 (dk_at dksX19_isSame_4 6 rfl rfl)
theorem dX19_isSame_99 : decode cX19_isSame 99 = .ok (.istore 6, 2) := dk_54 6 (dk_at dksX19_isSame_4 7 rfl rfl)
theorem dX19_isSame_101 : decode cX19_isSame 101 = .ok (.iload 6, 2) := dk_21 6 (dk_at dksX19_isSame_4 9 rfl rfl)
theorem dX19_isSame_103 : decode cX19_isSame 103 = .ok (.aload_n 2, 1) := dk_44 (dk_at dksX19_isSame_4 11 rfl rfl)
theorem dX19_isSame_104 : decode cX19_isSame 104 = .ok (.getfield 90, 3) := dk_180 0 90 (dk_at dksX19_isSame_4 12 rfl rfl)
theorem dX19_isSame_107 : decode cX19_isSame 107 = .ok (.if_icmp .ge 62, 3) := dk_162 0 62 (dk_at dksX19_isSame_4 15 rfl rfl)
theorem dX19_isSame_110 : decode cX19_isSame 110 = .ok (.iload 5, 2) := dk_21 5 (dk_at dksX19_isSame_4 18 rfl rfl)
theorem dX19_isSame_112 : decode cX19_isSame 112 = .ok (.ifCond .eq 57, 3) := dk_153 0 57 (dk_at dksX19_isSame_4 20 rfl rfl)
theorem dX19_isSame_115 : decode cX19_isSame 115 = .ok (.aload_n 1, 1) := dk_43 (dk_at dksX19_isSame_4 23 rfl rfl)
theorem dX19_isSame_116 : decode cX19_isSame 116 = .ok (.iload 6, 2) := dk_21 6 (dk_at dksX19_isSame_5 0 rfl rfl)
theorem dX19_isSame_118 : decode cX19_isSame 118 = .ok (.iconst 0, 1) := dk_3 (dk_at dksX19_isSame_5 2 rfl rfl)
theorem dX19_isSame_119 : decode cX19_isSame 119 = .ok (.invokevirtual 95, 3) := dk_182 0 95 (dk_at dksX19_isSame_5 3 rfl rfl)
theorem dX19_isSame_122 : decode cX19_isSame 122 = .ok (.aload_n 0, 1) := dk_42 (dk_at dksX19_isSame_5 6 rfl rfl)
theorem dX19_isSame_123 : decode cX19_isSame 123 = .ok (.getfield 7, 3) := dk_180 0 7 (dk_at dksX19_isSame_5 7 rfl rfl)
theorem dX19_isSame_126 : decode cX19_isSame 126 = .ok (.iload 6, 2) := dk_21 6 (dk_at dksX19_isSame_5 10 rfl rfl)
theorem dX19_isSame_128 : decode cX19_isSame 128 = .ok (.iaload, 1) := dk_46 (dk_at dksX19_isSame_5 12 rfl rfl)
theorem dX19_isSame_129 : decode cX19_isSame 129 = .ok (.if_icmp .ne 31, 3) := dk_160 0 31 (dk_at dksX19_isSame_5 13 rfl rfl)
theorem dX19_isSame_132 : decode cX19_isSame 132 = .ok (.iload 6, 2) := dk_21 6 (dk_at dksX19_isSame_5 16 rfl rfl)
theorem dX19_isSame_134 : decode cX19_isSame 134 = .ok (.iload 4, 2) := dk_21 4 (dk_at dksX19_isSame_5 18 rfl rfl)
theorem dX19_isSame_136 : decode cX19_isSame 136 = .ok (.if_icmp .eq 20, 3) := dk_159 0 20 (dk_at dksX19_isSame_5 20 rfl rfl)
theorem dX19_isSame_139 : decode cX19_isSame 139 = .ok (.aload_n 1, 1) := dk_43 (dk_at dksX19_isSame_5 23 rfl rfl)
theorem dX19_isSame_140 : decode cX19_isSame 140 = .ok (.iload 6, 2) := dk_21 6 (dk_at dksX19_isSame_6 0 rfl rfl)
theorem dX19_isSame_142 : decode cX19_isSame 142 = .ok (.iconst 2, 1) := dk_5 (dk_at dksX19_isSame_6 2 rfl rfl)
theorem dX19_isSame_143 : decode cX19_isSame 143 = .ok (.invokevirtual 95, 3) := dk_182 0 95 (dk_at dksX19_isSame_6 3 rfl rfl)
theorem dX19_isSame_146 : decode cX19_isSame 146 = .ok (.aload_n 0, 1) := dk_42 (dk_at dksX19_isSame_6 6 rfl rfl)
theorem dX19_isSame_147 : decode cX19_isSame 147 = .ok (.getfield 16, 3) := dk_180 0 16 (dk_at dksX19_isSame_6 7 rfl rfl)
theorem dX19_isSame_150 : decode cX19_isSame 150 = .ok (.iload 6, 2) := dk_21 6 (dk_at dksX19_isSame_6 10 rfl rfl)
theorem dX19_isSame_152 : decode cX19_isSame 152 = .ok (.iaload, 1) := dk_46 (dk_at dksX19_isSame_6 12 rfl rfl)
theorem dX19_isSame_153 : decode cX19_isSame 153 = .ok (.if_icmp .ne 7, 3) := dk_160 0 7 (dk_at dksX19_isSame_6 13 rfl rfl)
theorem dX19_isSame_156 : decode cX19_isSame 156 = .ok (.iconst 1, 1) := dk_4 (dk_at dksX19_isSame_6 16 rfl rfl)
theorem dX19_isSame_157 : decode cX19_isSame 157 = .ok (.goto 4, 3) := dk_167 0 4 (dk_at dksX19_isSame_6 17 rfl rfl)
theorem dX19_isSame_160 : decode cX19_isSame 160 = .ok (.iconst 0, 1) := dk_3 (dk_at dksX19_isSame_6 20 rfl rfl)
theorem dX19_isSame_161 : decode cX19_isSame 161 = .ok (.istore 5, 2) := dk_54 5 (dk_at dksX19_isSame_6 21 rfl rfl)
theorem dX19_isSame_163 : decode cX19_isSame 163 = .ok (.iinc 6 1, 3) := dk_132 6 1 (dk_at dksX19_isSame_7 0 rfl rfl)
theorem dX19_isSame_166 : decode cX19_isSame 166 = .ok (.goto (-65), 3) := dk_167 255 191 (dk_at dksX19_isSame_7 3 rfl rfl)
theorem dX19_isSame_169 : decode cX19_isSame 169 = .ok (.iload 5, 2) := dk_21 5 (dk_at dksX19_isSame_7 6 rfl rfl)
theorem dX19_isSame_171 : decode cX19_isSame 171 = .ok (.ireturn, 1) := dk_172 (dk_at dksX19_isSame_7 8 rfl rfl)
abbrev cX19_firstFree : ByteArray := prog_28_method_3_code
def yX19_firstFree : MethodName := ⟨RX19, "firstFree", "(LKilnBenchLaw$All;I)I"⟩
def dkwX19_firstFree_0 : List UInt8 := [3, 62, 42, 43, 28, 29, 182, 0, 115, 155, 0, 9, 132, 3, 1, 167, 255, 243, 29, 172]
abbrev dktX19_firstFree_0 : List UInt8 := dkwX19_firstFree_0 ++ []
theorem dksX19_firstFree_0 : cX19_firstFree.data.toList.drop 0 = dktX19_firstFree_0 := by decide +kernel
theorem dX19_firstFree_0 : decode cX19_firstFree 0 = .ok (.iconst 0, 1) := dk_3 (dk_at dksX19_firstFree_0 0 rfl rfl)
theorem dX19_firstFree_1 : decode cX19_firstFree 1 = .ok (.istore_n 3, 1) := dk_62 (dk_at dksX19_firstFree_0 1 rfl rfl)
theorem dX19_firstFree_2 : decode cX19_firstFree 2 = .ok (.aload_n 0, 1) := dk_42 (dk_at dksX19_firstFree_0 2 rfl rfl)
theorem dX19_firstFree_3 : decode cX19_firstFree 3 = .ok (.aload_n 1, 1) := dk_43 (dk_at dksX19_firstFree_0 3 rfl rfl)
theorem dX19_firstFree_4 : decode cX19_firstFree 4 = .ok (.iload_n 2, 1) := dk_28 (dk_at dksX19_firstFree_0 4 rfl rfl)
theorem dX19_firstFree_5 : decode cX19_firstFree 5 = .ok (.iload_n 3, 1) := dk_29 (dk_at dksX19_firstFree_0 5 rfl rfl)
theorem dX19_firstFree_6 : decode cX19_firstFree 6 = .ok (.invokevirtual 115, 3) := dk_182 0 115 (dk_at dksX19_firstFree_0 6 rfl rfl)
theorem dX19_firstFree_9 : decode cX19_firstFree 9 = .ok (.ifCond .lt 9, 3) := dk_155 0 9 (dk_at dksX19_firstFree_0 9 rfl rfl)
theorem dX19_firstFree_12 : decode cX19_firstFree 12 = .ok (.iinc 3 1, 3) := dk_132 3 1 (dk_at dksX19_firstFree_0 12 rfl rfl)
theorem dX19_firstFree_15 : decode cX19_firstFree 15 = .ok (.goto (-13), 3) := dk_167 255 243 (dk_at dksX19_firstFree_0 15 rfl rfl)
theorem dX19_firstFree_18 : decode cX19_firstFree 18 = .ok (.iload_n 3, 1) := dk_29 (dk_at dksX19_firstFree_0 18 rfl rfl)
theorem dX19_firstFree_19 : decode cX19_firstFree 19 = .ok (.ireturn, 1) := dk_172 (dk_at dksX19_firstFree_0 19 rfl rfl)
theorem q113 : (Jvm.Cond.initialized "KilnBenchLaw$Ahead") ∈ lw_all := lw_g (lw_at lw_m1 37 rfl) rfl
theorem q729 : (Jvm.Cond.selects "KilnBenchLaw$Ahead" ({ cls := "java/lang/Object", name := "getClass", desc := "()Ljava/lang/Class;" } : Jvm.MethodName) ({ cls := "java/lang/Object", name := "getClass", desc := "()Ljava/lang/Class;" } : Jvm.MethodName)) ∈ lw_all := lw_g (lw_at lw_m3 173 rfl) rfl
theorem q1126 : (Jvm.Cond.fieldLinkNest "KilnBenchLaw$Ahead" (100 : Nat) "KilnBenchLaw$All" "children" "I" "KilnBenchLaw") ∈ lw_tbl := lw_at lw_m5 90 rfl
theorem q1129 : (Jvm.Cond.fieldLinkNest "KilnBenchLaw$Ahead" (90 : Nat) "KilnBenchLaw$All" "kilns" "I" "KilnBenchLaw") ∈ lw_tbl := lw_at lw_m5 93 rfl
theorem q1597 : (Jvm.Cond.instantiable "KilnBenchLaw$Ahead" (19 : Nat)) ∈ lw_all := lw_g (lw_at lw_m7 81 rfl) rfl
theorem q1599 : (Jvm.Cond.instanceMethod ({ cls := "KilnBenchLaw$Ahead", name := "<init>", desc := "(LKilnBench;LKilnBenchLaw$All;)V" } : Jvm.MethodName)) ∈ lw_all := lw_g (lw_at lw_m7 83 rfl) rfl
theorem q1600 : (Jvm.Cond.code ({ cls := "KilnBenchLaw$Ahead", name := "<init>", desc := "(LKilnBench;LKilnBenchLaw$All;)V" } : Jvm.MethodName) prog_28_method_1_code (6 : Nat) (Option.none : Option Jvm.ClassFile.FieldType)) ∈ lw_all := lw_g (lw_at lw_m7 84 rfl) rfl
theorem q1601 : (Jvm.Cond.methodLink "KilnBenchLaw$Ahead" (1 : Nat) ({ cls := "java/lang/Object", name := "<init>", desc := "()V" } : Jvm.MethodName)) ∈ lw_all := lw_g (lw_at lw_m7 85 rfl) rfl
theorem q1602 : (Jvm.Cond.classLink "KilnBenchLaw$Ahead" (44 : Nat) "[[I") ∈ lw_all := lw_g (lw_at lw_m7 86 rfl) rfl
theorem q1604 : (Jvm.Cond.methodLink "KilnBenchLaw$Ahead" (55 : Nat) ({ cls := "KilnBench", name := "has", desc := "(I)I" } : Jvm.MethodName)) ∈ lw_all := lw_g (lw_at lw_m7 88 rfl) rfl
theorem q1605 : (Jvm.Cond.methodLink "KilnBenchLaw$Ahead" (65 : Nat) ({ cls := "java/lang/Math", name := "min", desc := "(II)I" } : Jvm.MethodName)) ∈ lw_all := lw_g (lw_at lw_m7 89 rfl) rfl
theorem q1606 : (Jvm.Cond.methodLink "KilnBenchLaw$Ahead" (77 : Nat) ({ cls := "KilnBench", name := "status", desc := "(I)I" } : Jvm.MethodName)) ∈ lw_all := lw_g (lw_at lw_m7 90 rfl) rfl
theorem q1610 : (Jvm.Cond.methodLink "KilnBenchLaw$Ahead" (83 : Nat) ({ cls := "KilnBench", name := "fuel", desc := "(I)I" } : Jvm.MethodName)) ∈ lw_all := lw_g (lw_at lw_m7 94 rfl) rfl
theorem q1759 : (Jvm.Cond.methodLink "KilnBenchLaw$Ahead" (88 : Nat) ({ cls := "KilnBench", name := "kept", desc := "(II)I" } : Jvm.MethodName)) ∈ lw_all := lw_g (lw_at lw_m8 3 rfl) rfl
theorem q1765 : (Jvm.Cond.methodLink "KilnBenchLaw$Ahead" (95 : Nat) ({ cls := "KilnBench", name := "kiln", desc := "(II)I" } : Jvm.MethodName)) ∈ lw_all := lw_g (lw_at lw_m8 9 rfl) rfl
theorem q1766 : (Jvm.Cond.methodLink "KilnBenchLaw$Ahead" (97 : Nat) ({ cls := "KilnBench", name := "fired", desc := "(I)I" } : Jvm.MethodName)) ∈ lw_all := lw_g (lw_at lw_m8 10 rfl) rfl
theorem q1770 : (Jvm.Cond.methodLink "KilnBenchLaw$Ahead" (103 : Nat) ({ cls := "KilnBench", name := "child", desc := "(II)I" } : Jvm.MethodName)) ∈ lw_all := lw_g (lw_at lw_m8 14 rfl) rfl
theorem q1771 : (Jvm.Cond.methodLink "KilnBenchLaw$Ahead" (106 : Nat) ({ cls := "KilnBench", name := "brothers", desc := "(I)I" } : Jvm.MethodName)) ∈ lw_all := lw_g (lw_at lw_m8 15 rfl) rfl
theorem q1775 : (Jvm.Cond.methodLink "KilnBenchLaw$Ahead" (108 : Nat) ({ cls := "KilnBench", name := "later", desc := "(II)I" } : Jvm.MethodName)) ∈ lw_all := lw_g (lw_at lw_m8 19 rfl) rfl
theorem q1781 : (Jvm.Cond.methodLink "KilnBenchLaw$Ahead" (110 : Nat) ({ cls := "KilnBench", name := "rings", desc := "(III)I" } : Jvm.MethodName)) ∈ lw_all := lw_g (lw_at lw_m8 25 rfl) rfl
theorem q1782 : (Jvm.Cond.methodLink "KilnBenchLaw$Ahead" (113 : Nat) ({ cls := "KilnBench", name := "cracks", desc := "(III)I" } : Jvm.MethodName)) ∈ lw_all := lw_g (lw_at lw_m8 26 rfl) rfl
theorem q1783 : (Jvm.Cond.fieldLink "KilnBenchLaw$Ahead" (61 : Nat) "KilnBenchLaw$Ahead" "fuel" "I") ∈ lw_all := lw_g (lw_at lw_m8 27 rfl) rfl
theorem q1785 : (Jvm.Cond.fieldLink "KilnBenchLaw$Ahead" (71 : Nat) "KilnBenchLaw$Ahead" "rows" "I") ∈ lw_all := lw_g (lw_at lw_m8 29 rfl) rfl
theorem q1787 : (Jvm.Cond.fieldLink "KilnBenchLaw$Ahead" (74 : Nat) "KilnBenchLaw$Ahead" "week" "I") ∈ lw_all := lw_g (lw_at lw_m8 31 rfl) rfl
theorem q1789 : (Jvm.Cond.fieldLink "KilnBenchLaw$Ahead" (80 : Nat) "KilnBenchLaw$Ahead" "refused" "I") ∈ lw_all := lw_g (lw_at lw_m8 33 rfl) rfl
theorem q1791 : (Jvm.Cond.fieldLink "KilnBenchLaw$Ahead" (85 : Nat) "KilnBenchLaw$Ahead" "comingFuel" "I") ∈ lw_all := lw_g (lw_at lw_m8 35 rfl) rfl
theorem q1793 : (Jvm.Cond.fieldLink "KilnBenchLaw$Ahead" (7 : Nat) "KilnBenchLaw$Ahead" "rooms" "[I") ∈ lw_all := lw_g (lw_at lw_m8 37 rfl) rfl
theorem q1795 : (Jvm.Cond.fieldLink "KilnBenchLaw$Ahead" (13 : Nat) "KilnBenchLaw$Ahead" "full" "[I") ∈ lw_all := lw_g (lw_at lw_m8 39 rfl) rfl
theorem q1797 : (Jvm.Cond.fieldLink "KilnBenchLaw$Ahead" (16 : Nat) "KilnBenchLaw$Ahead" "heats" "[I") ∈ lw_all := lw_g (lw_at lw_m8 41 rfl) rfl
theorem q1799 : (Jvm.Cond.fieldLink "KilnBenchLaw$Ahead" (19 : Nat) "KilnBenchLaw$Ahead" "burns" "[I") ∈ lw_all := lw_g (lw_at lw_m8 43 rfl) rfl
theorem q1801 : (Jvm.Cond.fieldLink "KilnBenchLaw$Ahead" (22 : Nat) "KilnBenchLaw$Ahead" "coming" "[I") ∈ lw_all := lw_g (lw_at lw_m8 45 rfl) rfl
theorem q1803 : (Jvm.Cond.fieldLink "KilnBenchLaw$Ahead" (25 : Nat) "KilnBenchLaw$Ahead" "kiln" "[I") ∈ lw_all := lw_g (lw_at lw_m8 47 rfl) rfl
theorem q1805 : (Jvm.Cond.fieldLink "KilnBenchLaw$Ahead" (28 : Nat) "KilnBenchLaw$Ahead" "place" "[I") ∈ lw_all := lw_g (lw_at lw_m8 49 rfl) rfl
theorem q1807 : (Jvm.Cond.fieldLink "KilnBenchLaw$Ahead" (31 : Nat) "KilnBenchLaw$Ahead" "temper" "[I") ∈ lw_all := lw_g (lw_at lw_m8 51 rfl) rfl
theorem q1809 : (Jvm.Cond.fieldLink "KilnBenchLaw$Ahead" (34 : Nat) "KilnBenchLaw$Ahead" "brothers" "[I") ∈ lw_all := lw_g (lw_at lw_m8 53 rfl) rfl
theorem q1811 : (Jvm.Cond.fieldLink "KilnBenchLaw$Ahead" (37 : Nat) "KilnBenchLaw$Ahead" "later" "[I") ∈ lw_all := lw_g (lw_at lw_m8 55 rfl) rfl
theorem q1813 : (Jvm.Cond.fieldLink "KilnBenchLaw$Ahead" (40 : Nat) "KilnBenchLaw$Ahead" "isRaw" "[Z") ∈ lw_all := lw_g (lw_at lw_m8 57 rfl) rfl
theorem q1815 : (Jvm.Cond.fieldLink "KilnBenchLaw$Ahead" (46 : Nat) "KilnBenchLaw$Ahead" "rings" "[[I") ∈ lw_all := lw_g (lw_at lw_m8 59 rfl) rfl
theorem q1817 : (Jvm.Cond.fieldLink "KilnBenchLaw$Ahead" (49 : Nat) "KilnBenchLaw$Ahead" "cracks" "[[I") ∈ lw_all := lw_g (lw_at lw_m8 61 rfl) rfl
theorem q1819 : (Jvm.Cond.fieldLink "KilnBenchLaw$Ahead" (52 : Nat) "KilnBenchLaw$Ahead" "kept" "[[I") ∈ lw_all := lw_g (lw_at lw_m8 63 rfl) rfl
theorem q1820 : (Jvm.Cond.laysFinal "KilnBenchLaw$Ahead" "KilnBenchLaw$Ahead" "fuel" "I") ∈ lw_all := lw_g (lw_at lw_m8 64 rfl) rfl
theorem q1821 : (Jvm.Cond.soleField "KilnBenchLaw$Ahead" "fuel") ∈ lw_all := lw_g (lw_at lw_m8 65 rfl) rfl
theorem q1822 : (Jvm.Cond.laysFinal "KilnBenchLaw$Ahead" "KilnBenchLaw$Ahead" "rows" "I") ∈ lw_all := lw_g (lw_at lw_m8 66 rfl) rfl
theorem q1823 : (Jvm.Cond.soleField "KilnBenchLaw$Ahead" "rows") ∈ lw_all := lw_g (lw_at lw_m8 67 rfl) rfl
theorem q1824 : (Jvm.Cond.laysFinal "KilnBenchLaw$Ahead" "KilnBenchLaw$Ahead" "week" "I") ∈ lw_all := lw_g (lw_at lw_m8 68 rfl) rfl
theorem q1825 : (Jvm.Cond.soleField "KilnBenchLaw$Ahead" "week") ∈ lw_all := lw_g (lw_at lw_m8 69 rfl) rfl
theorem q1826 : (Jvm.Cond.laysFinal "KilnBenchLaw$Ahead" "KilnBenchLaw$Ahead" "refused" "I") ∈ lw_all := lw_g (lw_at lw_m8 70 rfl) rfl
theorem q1827 : (Jvm.Cond.soleField "KilnBenchLaw$Ahead" "refused") ∈ lw_all := lw_g (lw_at lw_m8 71 rfl) rfl
theorem q1828 : (Jvm.Cond.laysFinal "KilnBenchLaw$Ahead" "KilnBenchLaw$Ahead" "comingFuel" "I") ∈ lw_all := lw_g (lw_at lw_m8 72 rfl) rfl
theorem q1829 : (Jvm.Cond.soleField "KilnBenchLaw$Ahead" "comingFuel") ∈ lw_all := lw_g (lw_at lw_m8 73 rfl) rfl
theorem q1830 : (Jvm.Cond.laysFinal "KilnBenchLaw$Ahead" "KilnBenchLaw$Ahead" "rooms" "[I") ∈ lw_all := lw_g (lw_at lw_m8 74 rfl) rfl
theorem q1831 : (Jvm.Cond.soleField "KilnBenchLaw$Ahead" "rooms") ∈ lw_all := lw_g (lw_at lw_m8 75 rfl) rfl
theorem q1832 : (Jvm.Cond.laysFinal "KilnBenchLaw$Ahead" "KilnBenchLaw$Ahead" "full" "[I") ∈ lw_all := lw_g (lw_at lw_m8 76 rfl) rfl
theorem q1833 : (Jvm.Cond.soleField "KilnBenchLaw$Ahead" "full") ∈ lw_all := lw_g (lw_at lw_m8 77 rfl) rfl
theorem q1834 : (Jvm.Cond.laysFinal "KilnBenchLaw$Ahead" "KilnBenchLaw$Ahead" "heats" "[I") ∈ lw_all := lw_g (lw_at lw_m8 78 rfl) rfl
theorem q1835 : (Jvm.Cond.soleField "KilnBenchLaw$Ahead" "heats") ∈ lw_all := lw_g (lw_at lw_m8 79 rfl) rfl
theorem q1836 : (Jvm.Cond.laysFinal "KilnBenchLaw$Ahead" "KilnBenchLaw$Ahead" "burns" "[I") ∈ lw_all := lw_g (lw_at lw_m8 80 rfl) rfl
theorem q1837 : (Jvm.Cond.soleField "KilnBenchLaw$Ahead" "burns") ∈ lw_all := lw_g (lw_at lw_m8 81 rfl) rfl
theorem q1838 : (Jvm.Cond.laysFinal "KilnBenchLaw$Ahead" "KilnBenchLaw$Ahead" "coming" "[I") ∈ lw_all := lw_g (lw_at lw_m8 82 rfl) rfl
theorem q1839 : (Jvm.Cond.soleField "KilnBenchLaw$Ahead" "coming") ∈ lw_all := lw_g (lw_at lw_m8 83 rfl) rfl
theorem q1840 : (Jvm.Cond.laysFinal "KilnBenchLaw$Ahead" "KilnBenchLaw$Ahead" "kiln" "[I") ∈ lw_all := lw_g (lw_at lw_m8 84 rfl) rfl
theorem q1841 : (Jvm.Cond.soleField "KilnBenchLaw$Ahead" "kiln") ∈ lw_all := lw_g (lw_at lw_m8 85 rfl) rfl
theorem q1842 : (Jvm.Cond.laysFinal "KilnBenchLaw$Ahead" "KilnBenchLaw$Ahead" "place" "[I") ∈ lw_all := lw_g (lw_at lw_m8 86 rfl) rfl
theorem q1843 : (Jvm.Cond.soleField "KilnBenchLaw$Ahead" "place") ∈ lw_all := lw_g (lw_at lw_m8 87 rfl) rfl
theorem q1844 : (Jvm.Cond.laysFinal "KilnBenchLaw$Ahead" "KilnBenchLaw$Ahead" "temper" "[I") ∈ lw_all := lw_g (lw_at lw_m8 88 rfl) rfl
theorem q1845 : (Jvm.Cond.soleField "KilnBenchLaw$Ahead" "temper") ∈ lw_all := lw_g (lw_at lw_m8 89 rfl) rfl
theorem q1846 : (Jvm.Cond.laysFinal "KilnBenchLaw$Ahead" "KilnBenchLaw$Ahead" "brothers" "[I") ∈ lw_all := lw_g (lw_at lw_m8 90 rfl) rfl
theorem q1847 : (Jvm.Cond.soleField "KilnBenchLaw$Ahead" "brothers") ∈ lw_all := lw_g (lw_at lw_m8 91 rfl) rfl
theorem q1848 : (Jvm.Cond.laysFinal "KilnBenchLaw$Ahead" "KilnBenchLaw$Ahead" "later" "[I") ∈ lw_all := lw_g (lw_at lw_m8 92 rfl) rfl
theorem q1849 : (Jvm.Cond.soleField "KilnBenchLaw$Ahead" "later") ∈ lw_all := lw_g (lw_at lw_m8 93 rfl) rfl
theorem q1850 : (Jvm.Cond.laysFinal "KilnBenchLaw$Ahead" "KilnBenchLaw$Ahead" "isRaw" "[Z") ∈ lw_all := lw_g (lw_at lw_m8 94 rfl) rfl
theorem q1851 : (Jvm.Cond.soleField "KilnBenchLaw$Ahead" "isRaw") ∈ lw_all := lw_g (lw_at lw_m8 95 rfl) rfl
theorem q1852 : (Jvm.Cond.laysFinal "KilnBenchLaw$Ahead" "KilnBenchLaw$Ahead" "rings" "[[I") ∈ lw_all := lw_g (lw_at lw_m8 96 rfl) rfl
theorem q1853 : (Jvm.Cond.soleField "KilnBenchLaw$Ahead" "rings") ∈ lw_all := lw_g (lw_at lw_m8 97 rfl) rfl
theorem q1854 : (Jvm.Cond.laysFinal "KilnBenchLaw$Ahead" "KilnBenchLaw$Ahead" "cracks" "[[I") ∈ lw_all := lw_g (lw_at lw_m8 98 rfl) rfl
theorem q1855 : (Jvm.Cond.soleField "KilnBenchLaw$Ahead" "cracks") ∈ lw_all := lw_g (lw_at lw_m8 99 rfl) rfl
theorem q1856 : (Jvm.Cond.laysFinal "KilnBenchLaw$Ahead" "KilnBenchLaw$Ahead" "kept" "[[I") ∈ lw_all := lw_g (lw_at lw_m8 100 rfl) rfl
theorem q1857 : (Jvm.Cond.soleField "KilnBenchLaw$Ahead" "kept") ∈ lw_all := lw_g (lw_at lw_m8 101 rfl) rfl
theorem q1858 : (Jvm.Cond.superclass "KilnBenchLaw$Ahead" "java/lang/Object") ∈ lw_all := lw_g (lw_at lw_m8 102 rfl) rfl
theorem q1863 : (Jvm.Cond.instanceMethod ({ cls := "KilnBenchLaw$Ahead", name := "who", desc := "(LKilnBenchLaw$All;II)I" } : Jvm.MethodName)) ∈ lw_all := lw_g (lw_at lw_m8 107 rfl) rfl
theorem q1864 : (Jvm.Cond.selects "KilnBenchLaw$Ahead" ({ cls := "KilnBenchLaw$Ahead", name := "who", desc := "(LKilnBenchLaw$All;II)I" } : Jvm.MethodName) ({ cls := "KilnBenchLaw$Ahead", name := "who", desc := "(LKilnBenchLaw$All;II)I" } : Jvm.MethodName)) ∈ lw_all := lw_g (lw_at lw_m8 108 rfl) rfl
theorem q1865 : (Jvm.Cond.code ({ cls := "KilnBenchLaw$Ahead", name := "who", desc := "(LKilnBenchLaw$All;II)I" } : Jvm.MethodName) prog_28_method_2_code (6 : Nat) (Option.some Jvm.ClassFile.FieldType.int)) ∈ lw_all := lw_g (lw_at lw_m8 109 rfl) rfl
theorem q1983 : (Jvm.Cond.instanceMethod ({ cls := "KilnBenchLaw$Ahead", name := "isSameChild", desc := "(LKilnBench;I)Z" } : Jvm.MethodName)) ∈ lw_all := lw_g (lw_at lw_m8 227 rfl) rfl
theorem q1984 : (Jvm.Cond.selects "KilnBenchLaw$Ahead" ({ cls := "KilnBenchLaw$Ahead", name := "isSameChild", desc := "(LKilnBench;I)Z" } : Jvm.MethodName) ({ cls := "KilnBenchLaw$Ahead", name := "isSameChild", desc := "(LKilnBench;I)Z" } : Jvm.MethodName)) ∈ lw_all := lw_g (lw_at lw_m8 228 rfl) rfl
theorem q1985 : (Jvm.Cond.code ({ cls := "KilnBenchLaw$Ahead", name := "isSameChild", desc := "(LKilnBench;I)Z" } : Jvm.MethodName) prog_28_method_4_code (3 : Nat) (Option.some Jvm.ClassFile.FieldType.boolean)) ∈ lw_all := lw_g (lw_at lw_m8 229 rfl) rfl
theorem q1987 : (Jvm.Cond.instanceMethod ({ cls := "KilnBenchLaw$Ahead", name := "areElder", desc := "(LKilnBench;)Z" } : Jvm.MethodName)) ∈ lw_all := lw_g (lw_at lw_m8 231 rfl) rfl
theorem q1988 : (Jvm.Cond.selects "KilnBenchLaw$Ahead" ({ cls := "KilnBenchLaw$Ahead", name := "areElder", desc := "(LKilnBench;)Z" } : Jvm.MethodName) ({ cls := "KilnBenchLaw$Ahead", name := "areElder", desc := "(LKilnBench;)Z" } : Jvm.MethodName)) ∈ lw_all := lw_g (lw_at lw_m8 232 rfl) rfl
theorem q1989 : (Jvm.Cond.code ({ cls := "KilnBenchLaw$Ahead", name := "areElder", desc := "(LKilnBench;)Z" } : Jvm.MethodName) prog_28_method_5_code (5 : Nat) (Option.some Jvm.ClassFile.FieldType.boolean)) ∈ lw_all := lw_g (lw_at lw_m8 233 rfl) rfl
theorem q2008 : (Jvm.Cond.instanceMethod ({ cls := "KilnBenchLaw$Ahead", name := "isSame", desc := "(LKilnBench;LKilnBenchLaw$All;II)Z" } : Jvm.MethodName)) ∈ lw_all := lw_g (lw_at lw_m9 12 rfl) rfl
theorem q2009 : (Jvm.Cond.selects "KilnBenchLaw$Ahead" ({ cls := "KilnBenchLaw$Ahead", name := "isSame", desc := "(LKilnBench;LKilnBenchLaw$All;II)Z" } : Jvm.MethodName) ({ cls := "KilnBenchLaw$Ahead", name := "isSame", desc := "(LKilnBench;LKilnBenchLaw$All;II)Z" } : Jvm.MethodName)) ∈ lw_all := lw_g (lw_at lw_m9 13 rfl) rfl
theorem q2010 : (Jvm.Cond.code ({ cls := "KilnBenchLaw$Ahead", name := "isSame", desc := "(LKilnBench;LKilnBenchLaw$All;II)Z" } : Jvm.MethodName) prog_28_method_6_code (7 : Nat) (Option.some Jvm.ClassFile.FieldType.boolean)) ∈ lw_all := lw_g (lw_at lw_m9 14 rfl) rfl
theorem q2011 : (Jvm.Cond.methodLink "KilnBenchLaw$Ahead" (119 : Nat) ({ cls := "KilnBenchLaw$Ahead", name := "areElder", desc := "(LKilnBench;)Z" } : Jvm.MethodName)) ∈ lw_all := lw_g (lw_at lw_m9 15 rfl) rfl
theorem q2012 : (Jvm.Cond.methodLink "KilnBenchLaw$Ahead" (123 : Nat) ({ cls := "KilnBenchLaw$Ahead", name := "isSameChild", desc := "(LKilnBench;I)Z" } : Jvm.MethodName)) ∈ lw_all := lw_g (lw_at lw_m9 16 rfl) rfl
theorem q2044 : (Jvm.Cond.instanceMethod ({ cls := "KilnBenchLaw$Ahead", name := "firstFree", desc := "(LKilnBenchLaw$All;I)I" } : Jvm.MethodName)) ∈ lw_all := lw_g (lw_at lw_m9 48 rfl) rfl
theorem q2045 : (Jvm.Cond.selects "KilnBenchLaw$Ahead" ({ cls := "KilnBenchLaw$Ahead", name := "firstFree", desc := "(LKilnBenchLaw$All;I)I" } : Jvm.MethodName) ({ cls := "KilnBenchLaw$Ahead", name := "firstFree", desc := "(LKilnBenchLaw$All;I)I" } : Jvm.MethodName)) ∈ lw_all := lw_g (lw_at lw_m9 49 rfl) rfl
theorem q2046 : (Jvm.Cond.code ({ cls := "KilnBenchLaw$Ahead", name := "firstFree", desc := "(LKilnBenchLaw$All;I)I" } : Jvm.MethodName) prog_28_method_3_code (4 : Nat) (Option.some Jvm.ClassFile.FieldType.int)) ∈ lw_all := lw_g (lw_at lw_m9 50 rfl) rfl
theorem q2047 : (Jvm.Cond.methodLink "KilnBenchLaw$Ahead" (115 : Nat) ({ cls := "KilnBenchLaw$Ahead", name := "who", desc := "(LKilnBenchLaw$All;II)I" } : Jvm.MethodName)) ∈ lw_all := lw_g (lw_at lw_m9 51 rfl) rfl
theorem q2189 : (Jvm.Cond.castable "KilnBenchLaw$Ahead" "java/lang/Object") ∈ lw_tbl := lw_at lw_m9 193 rfl
theorem in_X19 : ∀ w ∈ wsX190, w ∈ lw_all := lw_in wsX190 [1820, 1822, 1824, 1826, 1828, 1830, 1832, 1834, 1836, 1838, 1840, 1842, 1844, 1846, 1848, 1850, 1852, 1854, 1856] (by decide +kernel) (by decide +kernel)

/-! KilnBench$Spot -/
set_option maxRecDepth 100000
def RX20 : String := "KilnBench$Spot"
def TX20 : u_T := fun k => match k with
  | 0 => ("KilnBench$Spot", "week", "I", true)
  | 1 => ("KilnBench$Spot", "fuel", "I", true)
  | 2 => ("KilnBench$Spot", "was", "[I", true)
  | 3 => ("KilnBench$Spot", "heats", "[I", true)
  | _ => ("KilnBench$Spot", "this$0", "LKilnBench;", true)
def tyX20 : Nat → FieldType := fun k => match k with
  | 0 => .int
  | 1 => .int
  | 2 => .array .int
  | 3 => .array .int
  | _ => .object "KilnBench"
abbrev wsX200 : List Cond := u_ws RX20 TX20 5
theorem nmX20 : ∀ a, a < 5 → ∀ b, b < 5 → a ≠ b → (TX20 a).2.1 ≠ (TX20 b).2.1 := by decide +kernel
theorem tyX20_ok : ∀ k, k < 5 → parseFieldDescriptor (TX20 k).2.2.1 = some (tyX20 k) := by decide +kernel
abbrev cX20_init : ByteArray := prog_22_method_1_code
def yX20_init : MethodName := ⟨RX20, "<init>", "(LKilnBench;)V"⟩
def dkwX20_init_8 : List UInt8 := [132, 2, 1, 167, 255, 222, 177]
abbrev dktX20_init_8 : List UInt8 := dkwX20_init_8 ++ []
def dkwX20_init_7 : List UInt8 := [42, 180, 0, 36, 28, 43, 180, 0, 22, 180, 0, 73, 28, 182, 0, 46, 192, 0, 75, 180, 0, 77, 79]
abbrev dktX20_init_7 : List UInt8 := dkwX20_init_7 ++ dktX20_init_8
def dkwX20_init_6 : List UInt8 := [104, 7, 96, 45, 180, 0, 67, 79, 132, 2, 1, 167, 255, 154, 3, 61, 28, 43, 182, 0, 70, 162, 0, 32]
abbrev dktX20_init_6 : List UInt8 := dkwX20_init_6 ++ dktX20_init_7
def dkwX20_init_5 : List UInt8 := [8, 28, 104, 6, 96, 45, 180, 0, 63, 153, 0, 7, 4, 167, 0, 4, 3, 79, 42, 180, 0, 32, 8, 28]
abbrev dktX20_init_5 : List UInt8 := dkwX20_init_5 ++ dktX20_init_6
def dkwX20_init_4 : List UInt8 := [96, 45, 180, 0, 57, 79, 42, 180, 0, 32, 8, 28, 104, 5, 96, 45, 180, 0, 60, 79, 42, 180, 0, 32]
abbrev dktX20_init_4 : List UInt8 := dkwX20_init_4 ++ dktX20_init_5
def dkwX20_init_3 : List UInt8 := [192, 0, 52, 78, 42, 180, 0, 32, 8, 28, 104, 45, 182, 0, 54, 79, 42, 180, 0, 32, 8, 28, 104, 4]
abbrev dktX20_init_3 : List UInt8 := dkwX20_init_3 ++ dktX20_init_4
def dkwX20_init_2 : List UInt8 := [181, 0, 36, 3, 61, 28, 43, 182, 0, 39, 162, 0, 100, 43, 180, 0, 22, 180, 0, 43, 28, 182, 0, 46]
abbrev dktX20_init_2 : List UInt8 := dkwX20_init_2 ++ dktX20_init_3
def dkwX20_init_1 : List UInt8 := [180, 0, 3, 180, 0, 22, 180, 0, 26, 181, 0, 31, 42, 16, 40, 188, 10, 181, 0, 32, 42, 6, 188, 10]
abbrev dktX20_init_1 : List UInt8 := dkwX20_init_1 ++ dktX20_init_2
def dkwX20_init_0 : List UInt8 := [42, 43, 181, 0, 3, 42, 183, 0, 9, 42, 42, 180, 0, 3, 180, 0, 15, 181, 0, 19, 42, 42]
abbrev dktX20_init_0 : List UInt8 := dkwX20_init_0 ++ dktX20_init_1
theorem dksX20_init_0 : cX20_init.data.toList.drop 0 = dktX20_init_0 := by decide +kernel
theorem dksX20_init_1 : cX20_init.data.toList.drop 22 = dktX20_init_1 := dk_seg dksX20_init_0 22 rfl rfl
theorem dksX20_init_2 : cX20_init.data.toList.drop 46 = dktX20_init_2 := dk_seg dksX20_init_1 24 rfl rfl
theorem dksX20_init_3 : cX20_init.data.toList.drop 70 = dktX20_init_3 := dk_seg dksX20_init_2 24 rfl rfl
theorem dksX20_init_4 : cX20_init.data.toList.drop 94 = dktX20_init_4 := dk_seg dksX20_init_3 24 rfl rfl
theorem dksX20_init_5 : cX20_init.data.toList.drop 118 = dktX20_init_5 := dk_seg dksX20_init_4 24 rfl rfl
theorem dksX20_init_6 : cX20_init.data.toList.drop 142 = dktX20_init_6 := dk_seg dksX20_init_5 24 rfl rfl
theorem dksX20_init_7 : cX20_init.data.toList.drop 166 = dktX20_init_7 := dk_seg dksX20_init_6 24 rfl rfl
theorem dksX20_init_8 : cX20_init.data.toList.drop 189 = dktX20_init_8 := dk_seg dksX20_init_7 23 rfl rfl
theorem dX20_init_0 : decode cX20_init 0 = .ok (.aload_n 0, 1) := dk_42 (dk_at dksX20_init_0 0 rfl rfl)
theorem dX20_init_1 : decode cX20_init 1 = .ok (.aload_n 1, 1) := dk_43 (dk_at dksX20_init_0 1 rfl rfl)
theorem dX20_init_2 : decode cX20_init 2 = .ok (.putfield 3, 3) := dk_181 0 3 (dk_at dksX20_init_0 2 rfl rfl)
theorem dX20_init_5 : decode cX20_init 5 = .ok (.aload_n 0, 1) := dk_42 (dk_at dksX20_init_0 5 rfl rfl)
theorem dX20_init_6 : decode cX20_init 6 = .ok (.invokespecial 9, 3) := dk_183 0 9 (dk_at dksX20_init_0 6 rfl rfl)
theorem dX20_init_9 : decode cX20_init 9 = .ok (.aload_n 0, 1) := dk_42 (dk_at dksX20_init_0 9 rfl rfl)
theorem dX20_init_10 : decode cX20_init 10 = .ok (.aload_n 0, 1) := dk_42 (dk_at dksX20_init_0 10 rfl rfl)
theorem dX20_init_11 : decode cX20_init 11 = .ok (.getfield 3, 3) := dk_180 0 3 (dk_at dksX20_init_0 11 rfl rfl)
theorem dX20_init_14 : decode cX20_init 14 = .ok (.getfield 15, 3) := dk_180 0 15 (dk_at dksX20_init_0 14 rfl rfl)
theorem dX20_init_17 : decode cX20_init 17 = .ok (.putfield 19, 3) := dk_181 0 19 (dk_at dksX20_init_0 17 rfl rfl)
theorem dX20_init_20 : decode cX20_init 20 = .ok (.aload_n 0, 1) := dk_42 (dk_at dksX20_init_0 20 rfl rfl)
theorem dX20_init_21 : decode cX20_init 21 = .ok (.aload_n 0, 1) := dk_42 (dk_at dksX20_init_0 21 rfl rfl)
theorem dX20_init_22 : decode cX20_init 22 = .ok (.getfield 3, 3) := dk_180 0 3 (dk_at dksX20_init_1 0 rfl rfl)
theorem dX20_init_25 : decode cX20_init 25 = .ok (.getfield 22, 3) := dk_180 0 22 (dk_at dksX20_init_1 3 rfl rfl)
theorem dX20_init_28 : decode cX20_init 28 = .ok (.getfield 26, 3) := dk_180 0 26 (dk_at dksX20_init_1 6 rfl rfl)
theorem dX20_init_31 : decode cX20_init 31 = .ok (.putfield 31, 3) := dk_181 0 31 (dk_at dksX20_init_1 9 rfl rfl)
theorem dX20_init_34 : decode cX20_init 34 = .ok (.aload_n 0, 1) := dk_42 (dk_at dksX20_init_1 12 rfl rfl)
theorem dX20_init_35 : decode cX20_init 35 = .ok (.bipush 40, 2) := dk_16 40 (dk_at dksX20_init_1 13 rfl rfl)
theorem dX20_init_37 : decode cX20_init 37 = .ok (.newarray .int, 2) := dk_188_10 (dk_at dksX20_init_1 15 rfl rfl)
theorem dX20_init_39 : decode cX20_init 39 = .ok (.putfield 32, 3) := dk_181 0 32 (dk_at dksX20_init_1 17 rfl rfl)
theorem dX20_init_42 : decode cX20_init 42 = .ok (.aload_n 0, 1) := dk_42 (dk_at dksX20_init_1 20 rfl rfl)
theorem dX20_init_43 : decode cX20_init 43 = .ok (.iconst 3, 1) := dk_6 (dk_at dksX20_init_1 21 rfl rfl)
theorem dX20_init_44 : decode cX20_init 44 = .ok (.newarray .int, 2) := dk_188_10 (dk_at dksX20_init_1 22 rfl rfl)
theorem dX20_init_46 : decode cX20_init 46 = .ok (.putfield 36, 3) := dk_181 0 36 (dk_at dksX20_init_2 0 rfl rfl)
theorem dX20_init_49 : decode cX20_init 49 = .ok (.iconst 0, 1) := dk_3 (dk_at dksX20_init_2 3 rfl rfl)
theorem dX20_init_50 : decode cX20_init 50 = .ok (.istore_n 2, 1) := dk_61 (dk_at dksX20_init_2 4 rfl rfl)
theorem dX20_init_51 : decode cX20_init 51 = .ok (.iload_n 2, 1) := dk_28 (dk_at dksX20_init_2 5 rfl rfl)
theorem dX20_init_52 : decode cX20_init 52 = .ok (.aload_n 1, 1) := dk_43 (dk_at dksX20_init_2 6 rfl rfl)
theorem dX20_init_53 : decode cX20_init 53 = .ok (.invokevirtual 39, 3) := dk_182 0 39 (dk_at dksX20_init_2 7 rfl rfl)
theorem dX20_init_56 : decode cX20_init 56 = .ok (.if_icmp .ge 100, 3) := dk_162 0 100 (dk_at dksX20_init_2 10 rfl rfl)
theorem dX20_init_59 : decode cX20_init 59 = .ok (.aload_n 1, 1) := dk_43 (dk_at dksX20_init_2 13 rfl rfl)
theorem dX20_init_60 : decode cX20_init 60 = .ok (.getfield 22, 3) := dk_180 0 22 (dk_at dksX20_init_2 14 rfl rfl)
theorem dX20_init_63 : decode cX20_init 63 = .ok (.getfield 43, 3) := dk_180 0 43 (dk_at dksX20_init_2 17 rfl rfl)
theorem dX20_init_66 : decode cX20_init 66 = .ok (.iload_n 2, 1) := dk_28 (dk_at dksX20_init_2 20 rfl rfl)
theorem dX20_init_67 : decode cX20_init 67 = .ok (.invokevirtual 46, 3) := dk_182 0 46 (dk_at dksX20_init_2 21 rfl rfl)
theorem dX20_init_70 : decode cX20_init 70 = .ok (.checkcast 52, 3) := dk_192 0 52 (dk_at dksX20_init_3 0 rfl rfl)
theorem dX20_init_73 : decode cX20_init 73 = .ok (.astore_n 3, 1) := dk_78 (dk_at dksX20_init_3 3 rfl rfl)
theorem dX20_init_74 : decode cX20_init 74 = .ok (.aload_n 0, 1) := dk_42 (dk_at dksX20_init_3 4 rfl rfl)
theorem dX20_init_75 : decode cX20_init 75 = .ok (.getfield 32, 3) := dk_180 0 32 (dk_at dksX20_init_3 5 rfl rfl)
theorem dX20_init_78 : decode cX20_init 78 = .ok (.iconst 5, 1) := dk_8 (dk_at dksX20_init_3 8 rfl rfl)
theorem dX20_init_79 : decode cX20_init 79 = .ok (.iload_n 2, 1) := dk_28 (dk_at dksX20_init_3 9 rfl rfl)
theorem dX20_init_80 : decode cX20_init 80 = .ok (.imul, 1) := dk_104 (dk_at dksX20_init_3 10 rfl rfl)
theorem dX20_init_81 : decode cX20_init 81 = .ok (.aload_n 3, 1) := dk_45 (dk_at dksX20_init_3 11 rfl rfl)
theorem dX20_init_82 : decode cX20_init 82 = .ok (.invokevirtual 54, 3) := dk_182 0 54 (dk_at dksX20_init_3 12 rfl rfl)
theorem dX20_init_85 : decode cX20_init 85 = .ok (.iastore, 1) := dk_79 (dk_at dksX20_init_3 15 rfl rfl)
theorem dX20_init_86 : decode cX20_init 86 = .ok (.aload_n 0, 1) := dk_42 (dk_at dksX20_init_3 16 rfl rfl)
theorem dX20_init_87 : decode cX20_init 87 = .ok (.getfield 32, 3) := dk_180 0 32 (dk_at dksX20_init_3 17 rfl rfl)
theorem dX20_init_90 : decode cX20_init 90 = .ok (.iconst 5, 1) := dk_8 (dk_at dksX20_init_3 20 rfl rfl)
theorem dX20_init_91 : decode cX20_init 91 = .ok (.iload_n 2, 1) := dk_28 (dk_at dksX20_init_3 21 rfl rfl)
theorem dX20_init_92 : decode cX20_init 92 = .ok (.imul, 1) := dk_104 (dk_at dksX20_init_3 22 rfl rfl)
theorem dX20_init_93 : decode cX20_init 93 = .ok (.iconst 1, 1) := dk_4 (dk_at dksX20_init_3 23 rfl rfl)
theorem dX20_init_94 : decode cX20_init 94 = .ok (.iadd, 1) := dk_96 (dk_at dksX20_init_4 0 rfl rfl)
theorem dX20_init_95 : decode cX20_init 95 = .ok (.aload_n 3, 1) := dk_45 (dk_at dksX20_init_4 1 rfl rfl)
theorem dX20_init_96 : decode cX20_init 96 = .ok (.getfield 57, 3) := dk_180 0 57 (dk_at dksX20_init_4 2 rfl rfl)
theorem dX20_init_99 : decode cX20_init 99 = .ok (.iastore, 1) := dk_79 (dk_at dksX20_init_4 5 rfl rfl)
theorem dX20_init_100 : decode cX20_init 100 = .ok (.aload_n 0, 1) := dk_42 (dk_at dksX20_init_4 6 rfl rfl)
theorem dX20_init_101 : decode cX20_init 101 = .ok (.getfield 32, 3) := dk_180 0 32 (dk_at dksX20_init_4 7 rfl rfl)
theorem dX20_init_104 : decode cX20_init 104 = .ok (.iconst 5, 1) := dk_8 (dk_at dksX20_init_4 10 rfl rfl)
theorem dX20_init_105 : decode cX20_init 105 = .ok (.iload_n 2, 1) := dk_28 (dk_at dksX20_init_4 11 rfl rfl)
theorem dX20_init_106 : decode cX20_init 106 = .ok (.imul, 1) := dk_104 (dk_at dksX20_init_4 12 rfl rfl)
theorem dX20_init_107 : decode cX20_init 107 = .ok (.iconst 2, 1) := dk_5 (dk_at dksX20_init_4 13 rfl rfl)
theorem dX20_init_108 : decode cX20_init 108 = .ok (.iadd, 1) := dk_96 (dk_at dksX20_init_4 14 rfl rfl)
theorem dX20_init_109 : decode cX20_init 109 = .ok (.aload_n 3, 1) := dk_45 (dk_at dksX20_init_4 15 rfl rfl)
theorem dX20_init_110 : decode cX20_init 110 = .ok (.getfield 60, 3) := dk_180 0 60 (dk_at dksX20_init_4 16 rfl rfl)
theorem dX20_init_113 : decode cX20_init 113 = .ok (.iastore, 1) := dk_79 (dk_at dksX20_init_4 19 rfl rfl)
theorem dX20_init_114 : decode cX20_init 114 = .ok (.aload_n 0, 1) := dk_42 (dk_at dksX20_init_4 20 rfl rfl)
theorem dX20_init_115 : decode cX20_init 115 = .ok (.getfield 32, 3) := dk_180 0 32 (dk_at dksX20_init_4 21 rfl rfl)
theorem dX20_init_118 : decode cX20_init 118 = .ok (.iconst 5, 1) := dk_8 (dk_at dksX20_init_5 0 rfl rfl)
theorem dX20_init_119 : decode cX20_init 119 = .ok (.iload_n 2, 1) := dk_28 (dk_at dksX20_init_5 1 rfl rfl)
theorem dX20_init_120 : decode cX20_init 120 = .ok (.imul, 1) := dk_104 (dk_at dksX20_init_5 2 rfl rfl)
theorem dX20_init_121 : decode cX20_init 121 = .ok (.iconst 3, 1) := dk_6 (dk_at dksX20_init_5 3 rfl rfl)
theorem dX20_init_122 : decode cX20_init 122 = .ok (.iadd, 1) := dk_96 (dk_at dksX20_init_5 4 rfl rfl)
theorem dX20_init_123 : decode cX20_init 123 = .ok (.aload_n 3, 1) := dk_45 (dk_at dksX20_init_5 5 rfl rfl)
theorem dX20_init_124 : decode cX20_init 124 = .ok (.getfield 63, 3) := dk_180 0 63 (dk_at dksX20_init_5 6 rfl rfl)
theorem dX20_init_127 : decode cX20_init 127 = .ok (.ifCond .eq 7, 3) := dk_153 0 7 (dk_at dksX20_init_5 9 rfl rfl)
theorem dX20_init_130 : decode cX20_init 130 = .ok (.iconst 1, 1) := dk_4 (dk_at dksX20_init_5 12 rfl rfl)
theorem dX20_init_131 : decode cX20_init 131 = .ok (.goto 4, 3) := dk_167 0 4 (dk_at dksX20_init_5 13 rfl rfl)
theorem dX20_init_134 : decode cX20_init 134 = .ok (.iconst 0, 1) := dk_3 (dk_at dksX20_init_5 16 rfl rfl)
theorem dX20_init_135 : decode cX20_init 135 = .ok (.iastore, 1) := dk_79 (dk_at dksX20_init_5 17 rfl rfl)
theorem dX20_init_136 : decode cX20_init 136 = .ok (.aload_n 0, 1) := dk_42 (dk_at dksX20_init_5 18 rfl rfl)
theorem dX20_init_137 : decode cX20_init 137 = .ok (.getfield 32, 3) := dk_180 0 32 (dk_at dksX20_init_5 19 rfl rfl)
theorem dX20_init_140 : decode cX20_init 140 = .ok (.iconst 5, 1) := dk_8 (dk_at dksX20_init_5 22 rfl rfl)
theorem dX20_init_141 : decode cX20_init 141 = .ok (.iload_n 2, 1) := dk_28 (dk_at dksX20_init_5 23 rfl rfl)
theorem dX20_init_142 : decode cX20_init 142 = .ok (.imul, 1) := dk_104 (dk_at dksX20_init_6 0 rfl rfl)
theorem dX20_init_143 : decode cX20_init 143 = .ok (.iconst 4, 1) := dk_7 (dk_at dksX20_init_6 1 rfl rfl)
theorem dX20_init_144 : decode cX20_init 144 = .ok (.iadd, 1) := dk_96 (dk_at dksX20_init_6 2 rfl rfl)
theorem dX20_init_145 : decode cX20_init 145 = .ok (.aload_n 3, 1) := dk_45 (dk_at dksX20_init_6 3 rfl rfl)
theorem dX20_init_146 : decode cX20_init 146 = .ok (.getfield 67, 3) := dk_180 0 67 (dk_at dksX20_init_6 4 rfl rfl)
theorem dX20_init_149 : decode cX20_init 149 = .ok (.iastore, 1) := dk_79 (dk_at dksX20_init_6 7 rfl rfl)
theorem dX20_init_150 : decode cX20_init 150 = .ok (.iinc 2 1, 3) := dk_132 2 1 (dk_at dksX20_init_6 8 rfl rfl)
theorem dX20_init_153 : decode cX20_init 153 = .ok (.goto (-102), 3) := dk_167 255 154 (dk_at dksX20_init_6 11 rfl rfl)
theorem dX20_init_156 : decode cX20_init 156 = .ok (.iconst 0, 1) := dk_3 (dk_at dksX20_init_6 14 rfl rfl)
theorem dX20_init_157 : decode cX20_init 157 = .ok (.istore_n 2, 1) := dk_61 (dk_at dksX20_init_6 15 rfl rfl)
theorem dX20_init_158 : decode cX20_init 158 = .ok (.iload_n 2, 1) := dk_28 (dk_at dksX20_init_6 16 rfl rfl)
theorem dX20_init_159 : decode cX20_init 159 = .ok (.aload_n 1, 1) := dk_43 (dk_at dksX20_init_6 17 rfl rfl)
theorem dX20_init_160 : decode cX20_init 160 = .ok (.invokevirtual 70, 3) := dk_182 0 70 (dk_at dksX20_init_6 18 rfl rfl)
theorem dX20_init_163 : decode cX20_init 163 = .ok (.if_icmp .ge 32, 3) := dk_162 0 32 (dk_at dksX20_init_6 21 rfl rfl)
theorem dX20_init_166 : decode cX20_init 166 = .ok (.aload_n 0, 1) := dk_42 (dk_at dksX20_init_7 0 rfl rfl)
theorem dX20_init_167 : decode cX20_init 167 = .ok (.getfield 36, 3) := dk_180 0 36 (dk_at dksX20_init_7 1 rfl rfl)
theorem dX20_init_170 : decode cX20_init 170 = .ok (.iload_n 2, 1) := dk_28 (dk_at dksX20_init_7 4 rfl rfl)
theorem dX20_init_171 : decode cX20_init 171 = .ok (.aload_n 1, 1) := dk_43 (dk_at dksX20_init_7 5 rfl rfl)
theorem dX20_init_172 : decode cX20_init 172 = .ok (.getfield 22, 3) := dk_180 0 22 (dk_at dksX20_init_7 6 rfl rfl)
theorem dX20_init_175 : decode cX20_init 175 = .ok (.getfield 73, 3) := dk_180 0 73 (dk_at dksX20_init_7 9 rfl rfl)
theorem dX20_init_178 : decode cX20_init 178 = .ok (.iload_n 2, 1) := dk_28 (dk_at dksX20_init_7 12 rfl rfl)
theorem dX20_init_179 : decode cX20_init 179 = .ok (.invokevirtual 46, 3) := dk_182 0 46 (dk_at dksX20_init_7 13 rfl rfl)
theorem dX20_init_182 : decode cX20_init 182 = .ok (.checkcast 75, 3) := dk_192 0 75 (dk_at dksX20_init_7 16 rfl rfl)
theorem dX20_init_185 : decode cX20_init 185 = .ok (.getfield 77, 3) := dk_180 0 77 (dk_at dksX20_init_7 19 rfl rfl)
theorem dX20_init_188 : decode cX20_init 188 = .ok (.iastore, 1) := dk_79 (dk_at dksX20_init_7 22 rfl rfl)
theorem dX20_init_189 : decode cX20_init 189 = .ok (.iinc 2 1, 3) := dk_132 2 1 (dk_at dksX20_init_8 0 rfl rfl)
theorem dX20_init_192 : decode cX20_init 192 = .ok (.goto (-34), 3) := dk_167 255 222 (dk_at dksX20_init_8 3 rfl rfl)
theorem dX20_init_195 : decode cX20_init 195 = .ok (.return_, 1) := dk_177 (dk_at dksX20_init_8 6 rfl rfl)
abbrev cX20_isBack : ByteArray := prog_22_method_2_code
def yX20_isBack : MethodName := ⟨RX20, "isBack", "()V"⟩
def dkwX20_isBack_9 : List UInt8 := [192, 0, 75, 42, 180, 0, 36, 27, 46, 181, 0, 77, 132, 1, 1, 167, 255, 216, 177]
abbrev dktX20_isBack_9 : List UInt8 := dkwX20_isBack_9 ++ []
def dkwX20_isBack_8 : List UInt8 := [180, 0, 3, 182, 0, 70, 162, 0, 35, 42, 180, 0, 3, 180, 0, 22, 180, 0, 73, 27, 182, 0, 46]
abbrev dktX20_isBack_8 : List UInt8 := dkwX20_isBack_8 ++ dktX20_isBack_9
def dkwX20_isBack_7 : List UInt8 := [180, 0, 32, 8, 27, 104, 7, 96, 46, 181, 0, 67, 132, 1, 1, 167, 255, 144, 3, 60, 27, 42]
abbrev dktX20_isBack_7 : List UInt8 := dkwX20_isBack_7 ++ dktX20_isBack_8
def dkwX20_isBack_6 : List UInt8 := [42, 180, 0, 32, 8, 27, 104, 6, 96, 46, 4, 160, 0, 7, 4, 167, 0, 4, 3, 181, 0, 63, 44, 42]
abbrev dktX20_isBack_6 : List UInt8 := dkwX20_isBack_6 ++ dktX20_isBack_7
def dkwX20_isBack_5 : List UInt8 := [8, 27, 104, 4, 96, 46, 182, 0, 87, 44, 42, 180, 0, 32, 8, 27, 104, 5, 96, 46, 181, 0, 60, 44]
abbrev dktX20_isBack_5 : List UInt8 := dkwX20_isBack_5 ++ dktX20_isBack_6
def dkwX20_isBack_4 : List UInt8 := [192, 0, 52, 77, 44, 42, 180, 0, 3, 42, 180, 0, 32, 8, 27, 104, 46, 182, 0, 83, 42, 180, 0, 32]
abbrev dktX20_isBack_4 : List UInt8 := dkwX20_isBack_4 ++ dktX20_isBack_5
def dkwX20_isBack_3 : List UInt8 := [180, 0, 3, 182, 0, 39, 162, 0, 107, 42, 180, 0, 3, 180, 0, 22, 180, 0, 43, 27, 182, 0, 46]
abbrev dktX20_isBack_3 : List UInt8 := dkwX20_isBack_3 ++ dktX20_isBack_4
def dkwX20_isBack_2 : List UInt8 := [180, 0, 43, 27, 182, 0, 46, 192, 0, 52, 182, 0, 80, 132, 1, 1, 167, 255, 222, 3, 60, 27, 42]
abbrev dktX20_isBack_2 : List UInt8 := dkwX20_isBack_2 ++ dktX20_isBack_3
def dkwX20_isBack_1 : List UInt8 := [181, 0, 26, 3, 60, 27, 42, 180, 0, 3, 182, 0, 39, 162, 0, 29, 42, 180, 0, 3, 180, 0, 22]
abbrev dktX20_isBack_1 : List UInt8 := dkwX20_isBack_1 ++ dktX20_isBack_2
def dkwX20_isBack_0 : List UInt8 := [42, 180, 0, 3, 42, 180, 0, 19, 181, 0, 15, 42, 180, 0, 3, 180, 0, 22, 42, 180, 0, 31]
abbrev dktX20_isBack_0 : List UInt8 := dkwX20_isBack_0 ++ dktX20_isBack_1
theorem dksX20_isBack_0 : cX20_isBack.data.toList.drop 0 = dktX20_isBack_0 := by decide +kernel
theorem dksX20_isBack_1 : cX20_isBack.data.toList.drop 22 = dktX20_isBack_1 := dk_seg dksX20_isBack_0 22 rfl rfl
theorem dksX20_isBack_2 : cX20_isBack.data.toList.drop 45 = dktX20_isBack_2 := dk_seg dksX20_isBack_1 23 rfl rfl
theorem dksX20_isBack_3 : cX20_isBack.data.toList.drop 68 = dktX20_isBack_3 := dk_seg dksX20_isBack_2 23 rfl rfl
theorem dksX20_isBack_4 : cX20_isBack.data.toList.drop 91 = dktX20_isBack_4 := dk_seg dksX20_isBack_3 23 rfl rfl
theorem dksX20_isBack_5 : cX20_isBack.data.toList.drop 115 = dktX20_isBack_5 := dk_seg dksX20_isBack_4 24 rfl rfl
theorem dksX20_isBack_6 : cX20_isBack.data.toList.drop 139 = dktX20_isBack_6 := dk_seg dksX20_isBack_5 24 rfl rfl
theorem dksX20_isBack_7 : cX20_isBack.data.toList.drop 163 = dktX20_isBack_7 := dk_seg dksX20_isBack_6 24 rfl rfl
theorem dksX20_isBack_8 : cX20_isBack.data.toList.drop 185 = dktX20_isBack_8 := dk_seg dksX20_isBack_7 22 rfl rfl
theorem dksX20_isBack_9 : cX20_isBack.data.toList.drop 208 = dktX20_isBack_9 := dk_seg dksX20_isBack_8 23 rfl rfl
theorem dX20_isBack_0 : decode cX20_isBack 0 = .ok (.aload_n 0, 1) := dk_42 (dk_at dksX20_isBack_0 0 rfl rfl)
theorem dX20_isBack_1 : decode cX20_isBack 1 = .ok (.getfield 3, 3) := dk_180 0 3 (dk_at dksX20_isBack_0 1 rfl rfl)
theorem dX20_isBack_4 : decode cX20_isBack 4 = .ok (.aload_n 0, 1) := dk_42 (dk_at dksX20_isBack_0 4 rfl rfl)
theorem dX20_isBack_5 : decode cX20_isBack 5 = .ok (.getfield 19, 3) := dk_180 0 19 (dk_at dksX20_isBack_0 5 rfl rfl)
theorem dX20_isBack_8 : decode cX20_isBack 8 = .ok (.putfield 15, 3) := dk_181 0 15 (dk_at dksX20_isBack_0 8 rfl rfl)
theorem dX20_isBack_11 : decode cX20_isBack 11 = .ok (.aload_n 0, 1) := dk_42 (dk_at dksX20_isBack_0 11 rfl rfl)
theorem dX20_isBack_12 : decode cX20_isBack 12 = .ok (.getfield 3, 3) := dk_180 0 3 (dk_at dksX20_isBack_0 12 rfl rfl)
theorem dX20_isBack_15 : decode cX20_isBack 15 = .ok (.getfield 22, 3) := dk_180 0 22 (dk_at dksX20_isBack_0 15 rfl rfl)
theorem dX20_isBack_18 : decode cX20_isBack 18 = .ok (.aload_n 0, 1) := dk_42 (dk_at dksX20_isBack_0 18 rfl rfl)
theorem dX20_isBack_19 : decode cX20_isBack 19 = .ok (.getfield 31, 3) := dk_180 0 31 (dk_at dksX20_isBack_0 19 rfl rfl)
theorem dX20_isBack_22 : decode cX20_isBack 22 = .ok (.putfield 26, 3) := dk_181 0 26 (dk_at dksX20_isBack_1 0 rfl rfl)
theorem dX20_isBack_25 : decode cX20_isBack 25 = .ok (.iconst 0, 1) := dk_3 (dk_at dksX20_isBack_1 3 rfl rfl)
theorem dX20_isBack_26 : decode cX20_isBack 26 = .ok (.istore_n 1, 1) := dk_60 (dk_at dksX20_isBack_1 4 rfl rfl)
theorem dX20_isBack_27 : decode cX20_isBack 27 = .ok (.iload_n 1, 1) := dk_27 (dk_at dksX20_isBack_1 5 rfl rfl)
theorem dX20_isBack_28 : decode cX20_isBack 28 = .ok (.aload_n 0, 1) := dk_42 (dk_at dksX20_isBack_1 6 rfl rfl)
theorem dX20_isBack_29 : decode cX20_isBack 29 = .ok (.getfield 3, 3) := dk_180 0 3 (dk_at dksX20_isBack_1 7 rfl rfl)
theorem dX20_isBack_32 : decode cX20_isBack 32 = .ok (.invokevirtual 39, 3) := dk_182 0 39 (dk_at dksX20_isBack_1 10 rfl rfl)
theorem dX20_isBack_35 : decode cX20_isBack 35 = .ok (.if_icmp .ge 29, 3) := dk_162 0 29 (dk_at dksX20_isBack_1 13 rfl rfl)
theorem dX20_isBack_38 : decode cX20_isBack 38 = .ok (.aload_n 0, 1) := dk_42 (dk_at dksX20_isBack_1 16 rfl rfl)
theorem dX20_isBack_39 : decode cX20_isBack 39 = .ok (.getfield 3, 3) := dk_180 0 3 (dk_at dksX20_isBack_1 17 rfl rfl)
theorem dX20_isBack_42 : decode cX20_isBack 42 = .ok (.getfield 22, 3) := dk_180 0 22 (dk_at dksX20_isBack_1 20 rfl rfl)
theorem dX20_isBack_45 : decode cX20_isBack 45 = .ok (.getfield 43, 3) := dk_180 0 43 (dk_at dksX20_isBack_2 0 rfl rfl)
theorem dX20_isBack_48 : decode cX20_isBack 48 = .ok (.iload_n 1, 1) := dk_27 (dk_at dksX20_isBack_2 3 rfl rfl)
theorem dX20_isBack_49 : decode cX20_isBack 49 = .ok (.invokevirtual 46, 3) := dk_182 0 46 (dk_at dksX20_isBack_2 4 rfl rfl)
theorem dX20_isBack_52 : decode cX20_isBack 52 = .ok (.checkcast 52, 3) := dk_192 0 52 (dk_at dksX20_isBack_2 7 rfl rfl)
theorem dX20_isBack_55 : decode cX20_isBack 55 = .ok (.invokevirtual 80, 3) := dk_182 0 80 (dk_at dksX20_isBack_2 10 rfl rfl)
theorem dX20_isBack_58 : decode cX20_isBack 58 = .ok (.iinc 1 1, 3) := dk_132 1 1 (dk_at dksX20_isBack_2 13 rfl rfl)
theorem dX20_isBack_61 : decode cX20_isBack 61 = .ok (.goto (-34), 3) := dk_167 255 222 (dk_at dksX20_isBack_2 16 rfl rfl)
theorem dX20_isBack_64 : decode cX20_isBack 64 = .ok (.iconst 0, 1) := dk_3 (dk_at dksX20_isBack_2 19 rfl rfl)
theorem dX20_isBack_65 : decode cX20_isBack 65 = .ok (.istore_n 1, 1) := dk_60 (dk_at dksX20_isBack_2 20 rfl rfl)
theorem dX20_isBack_66 : decode cX20_isBack 66 = .ok (.iload_n 1, 1) := dk_27 (dk_at dksX20_isBack_2 21 rfl rfl)
theorem dX20_isBack_67 : decode cX20_isBack 67 = .ok (.aload_n 0, 1) := dk_42 (dk_at dksX20_isBack_2 22 rfl rfl)
theorem dX20_isBack_68 : decode cX20_isBack 68 = .ok (.getfield 3, 3) := dk_180 0 3 (dk_at dksX20_isBack_3 0 rfl rfl)
theorem dX20_isBack_71 : decode cX20_isBack 71 = .ok (.invokevirtual 39, 3) := dk_182 0 39 (dk_at dksX20_isBack_3 3 rfl rfl)
theorem dX20_isBack_74 : decode cX20_isBack 74 = .ok (.if_icmp .ge 107, 3) := dk_162 0 107 (dk_at dksX20_isBack_3 6 rfl rfl)
theorem dX20_isBack_77 : decode cX20_isBack 77 = .ok (.aload_n 0, 1) := dk_42 (dk_at dksX20_isBack_3 9 rfl rfl)
theorem dX20_isBack_78 : decode cX20_isBack 78 = .ok (.getfield 3, 3) := dk_180 0 3 (dk_at dksX20_isBack_3 10 rfl rfl)
theorem dX20_isBack_81 : decode cX20_isBack 81 = .ok (.getfield 22, 3) := dk_180 0 22 (dk_at dksX20_isBack_3 13 rfl rfl)
theorem dX20_isBack_84 : decode cX20_isBack 84 = .ok (.getfield 43, 3) := dk_180 0 43 (dk_at dksX20_isBack_3 16 rfl rfl)
theorem dX20_isBack_87 : decode cX20_isBack 87 = .ok (.iload_n 1, 1) := dk_27 (dk_at dksX20_isBack_3 19 rfl rfl)
theorem dX20_isBack_88 : decode cX20_isBack 88 = .ok (.invokevirtual 46, 3) := dk_182 0 46 (dk_at dksX20_isBack_3 20 rfl rfl)
theorem dX20_isBack_91 : decode cX20_isBack 91 = .ok (.checkcast 52, 3) := dk_192 0 52 (dk_at dksX20_isBack_4 0 rfl rfl)
theorem dX20_isBack_94 : decode cX20_isBack 94 = .ok (.astore_n 2, 1) := dk_77 (dk_at dksX20_isBack_4 3 rfl rfl)
theorem dX20_isBack_95 : decode cX20_isBack 95 = .ok (.aload_n 2, 1) := dk_44 (dk_at dksX20_isBack_4 4 rfl rfl)
theorem dX20_isBack_96 : decode cX20_isBack 96 = .ok (.aload_n 0, 1) := dk_42 (dk_at dksX20_isBack_4 5 rfl rfl)
theorem dX20_isBack_97 : decode cX20_isBack 97 = .ok (.getfield 3, 3) := dk_180 0 3 (dk_at dksX20_isBack_4 6 rfl rfl)
theorem dX20_isBack_100 : decode cX20_isBack 100 = .ok (.aload_n 0, 1) := dk_42 (dk_at dksX20_isBack_4 9 rfl rfl)
theorem dX20_isBack_101 : decode cX20_isBack 101 = .ok (.getfield 32, 3) := dk_180 0 32 (dk_at dksX20_isBack_4 10 rfl rfl)
theorem dX20_isBack_104 : decode cX20_isBack 104 = .ok (.iconst 5, 1) := dk_8 (dk_at dksX20_isBack_4 13 rfl rfl)
theorem dX20_isBack_105 : decode cX20_isBack 105 = .ok (.iload_n 1, 1) := dk_27 (dk_at dksX20_isBack_4 14 rfl rfl)
theorem dX20_isBack_106 : decode cX20_isBack 106 = .ok (.imul, 1) := dk_104 (dk_at dksX20_isBack_4 15 rfl rfl)
theorem dX20_isBack_107 : decode cX20_isBack 107 = .ok (.iaload, 1) := dk_46 (dk_at dksX20_isBack_4 16 rfl rfl)
theorem dX20_isBack_108 : decode cX20_isBack 108 = .ok (.invokevirtual 83, 3) := dk_182 0 83 (dk_at dksX20_isBack_4 17 rfl rfl)
theorem dX20_isBack_111 : decode cX20_isBack 111 = .ok (.aload_n 0, 1) := dk_42 (dk_at dksX20_isBack_4 20 rfl rfl)
theorem dX20_isBack_112 : decode cX20_isBack 112 = .ok (.getfield 32, 3) := dk_180 0 32 (dk_at dksX20_isBack_4 21 rfl rfl)
theorem dX20_isBack_115 : decode cX20_isBack 115 = .ok (.iconst 5, 1) := dk_8 (dk_at dksX20_isBack_5 0 rfl rfl)
theorem dX20_isBack_116 : decode cX20_isBack 116 = .ok (.iload_n 1, 1) := dk_27 (dk_at dksX20_isBack_5 1 rfl rfl)
theorem dX20_isBack_117 : decode cX20_isBack 117 = .ok (.imul, 1) := dk_104 (dk_at dksX20_isBack_5 2 rfl rfl)
theorem dX20_isBack_118 : decode cX20_isBack 118 = .ok (.iconst 1, 1) := dk_4 (dk_at dksX20_isBack_5 3 rfl rfl)
theorem dX20_isBack_119 : decode cX20_isBack 119 = .ok (.iadd, 1) := dk_96 (dk_at dksX20_isBack_5 4 rfl rfl)
theorem dX20_isBack_120 : decode cX20_isBack 120 = .ok (.iaload, 1) := dk_46 (dk_at dksX20_isBack_5 5 rfl rfl)
theorem dX20_isBack_121 : decode cX20_isBack 121 = .ok (.invokevirtual 87, 3) := dk_182 0 87 (dk_at dksX20_isBack_5 6 rfl rfl)
theorem dX20_isBack_124 : decode cX20_isBack 124 = .ok (.aload_n 2, 1) := dk_44 (dk_at dksX20_isBack_5 9 rfl rfl)
theorem dX20_isBack_125 : decode cX20_isBack 125 = .ok (.aload_n 0, 1) := dk_42 (dk_at dksX20_isBack_5 10 rfl rfl)
theorem dX20_isBack_126 : decode cX20_isBack 126 = .ok (.getfield 32, 3) := dk_180 0 32 (dk_at dksX20_isBack_5 11 rfl rfl)
theorem dX20_isBack_129 : decode cX20_isBack 129 = .ok (.iconst 5, 1) := dk_8 (dk_at dksX20_isBack_5 14 rfl rfl)
theorem dX20_isBack_130 : decode cX20_isBack 130 = .ok (.iload_n 1, 1) := dk_27 (dk_at dksX20_isBack_5 15 rfl rfl)
theorem dX20_isBack_131 : decode cX20_isBack 131 = .ok (.imul, 1) := dk_104 (dk_at dksX20_isBack_5 16 rfl rfl)
theorem dX20_isBack_132 : decode cX20_isBack 132 = .ok (.iconst 2, 1) := dk_5 (dk_at dksX20_isBack_5 17 rfl rfl)
theorem dX20_isBack_133 : decode cX20_isBack 133 = .ok (.iadd, 1) := dk_96 (dk_at dksX20_isBack_5 18 rfl rfl)
theorem dX20_isBack_134 : decode cX20_isBack 134 = .ok (.iaload, 1) := dk_46 (dk_at dksX20_isBack_5 19 rfl rfl)
theorem dX20_isBack_135 : decode cX20_isBack 135 = .ok (.putfield 60, 3) := dk_181 0 60 (dk_at dksX20_isBack_5 20 rfl rfl)
theorem dX20_isBack_138 : decode cX20_isBack 138 = .ok (.aload_n 2, 1) := dk_44 (dk_at dksX20_isBack_5 23 rfl rfl)
theorem dX20_isBack_139 : decode cX20_isBack 139 = .ok (.aload_n 0, 1) := dk_42 (dk_at dksX20_isBack_6 0 rfl rfl)
theorem dX20_isBack_140 : decode cX20_isBack 140 = .ok (.getfield 32, 3) := dk_180 0 32 (dk_at dksX20_isBack_6 1 rfl rfl)
theorem dX20_isBack_143 : decode cX20_isBack 143 = .ok (.iconst 5, 1) := dk_8 (dk_at dksX20_isBack_6 4 rfl rfl)
theorem dX20_isBack_144 : decode cX20_isBack 144 = .ok (.iload_n 1, 1) := dk_27 (dk_at dksX20_isBack_6 5 rfl rfl)
theorem dX20_isBack_145 : decode cX20_isBack 145 = .ok (.imul, 1) := dk_104 (dk_at dksX20_isBack_6 6 rfl rfl)
theorem dX20_isBack_146 : decode cX20_isBack 146 = .ok (.iconst 3, 1) := dk_6 (dk_at dksX20_isBack_6 7 rfl rfl)
theorem dX20_isBack_147 : decode cX20_isBack 147 = .ok (.iadd, 1) := dk_96 (dk_at dksX20_isBack_6 8 rfl rfl)
theorem dX20_isBack_148 : decode cX20_isBack 148 = .ok (.iaload, 1) := dk_46 (dk_at dksX20_isBack_6 9 rfl rfl)
theorem dX20_isBack_149 : decode cX20_isBack 149 = .ok (.iconst 1, 1) := dk_4 (dk_at dksX20_isBack_6 10 rfl rfl)
theorem dX20_isBack_150 : decode cX20_isBack 150 = .ok (.if_icmp .ne 7, 3) := dk_160 0 7 (dk_at dksX20_isBack_6 11 rfl rfl)
theorem dX20_isBack_153 : decode cX20_isBack 153 = .ok (.iconst 1, 1) := dk_4 (dk_at dksX20_isBack_6 14 rfl rfl)
theorem dX20_isBack_154 : decode cX20_isBack 154 = .ok (.goto 4, 3) := dk_167 0 4 (dk_at dksX20_isBack_6 15 rfl rfl)
theorem dX20_isBack_157 : decode cX20_isBack 157 = .ok (.iconst 0, 1) := dk_3 (dk_at dksX20_isBack_6 18 rfl rfl)
theorem dX20_isBack_158 : decode cX20_isBack 158 = .ok (.putfield 63, 3) := dk_181 0 63 (dk_at dksX20_isBack_6 19 rfl rfl)
theorem dX20_isBack_161 : decode cX20_isBack 161 = .ok (.aload_n 2, 1) := dk_44 (dk_at dksX20_isBack_6 22 rfl rfl)
theorem dX20_isBack_162 : decode cX20_isBack 162 = .ok (.aload_n 0, 1) := dk_42 (dk_at dksX20_isBack_6 23 rfl rfl)
theorem dX20_isBack_163 : decode cX20_isBack 163 = .ok (.getfield 32, 3) := dk_180 0 32 (dk_at dksX20_isBack_7 0 rfl rfl)
theorem dX20_isBack_166 : decode cX20_isBack 166 = .ok (.iconst 5, 1) := dk_8 (dk_at dksX20_isBack_7 3 rfl rfl)
theorem dX20_isBack_167 : decode cX20_isBack 167 = .ok (.iload_n 1, 1) := dk_27 (dk_at dksX20_isBack_7 4 rfl rfl)
theorem dX20_isBack_168 : decode cX20_isBack 168 = .ok (.imul, 1) := dk_104 (dk_at dksX20_isBack_7 5 rfl rfl)
theorem dX20_isBack_169 : decode cX20_isBack 169 = .ok (.iconst 4, 1) := dk_7 (dk_at dksX20_isBack_7 6 rfl rfl)
theorem dX20_isBack_170 : decode cX20_isBack 170 = .ok (.iadd, 1) := dk_96 (dk_at dksX20_isBack_7 7 rfl rfl)
theorem dX20_isBack_171 : decode cX20_isBack 171 = .ok (.iaload, 1) := dk_46 (dk_at dksX20_isBack_7 8 rfl rfl)
theorem dX20_isBack_172 : decode cX20_isBack 172 = .ok (.putfield 67, 3) := dk_181 0 67 (dk_at dksX20_isBack_7 9 rfl rfl)
theorem dX20_isBack_175 : decode cX20_isBack 175 = .ok (.iinc 1 1, 3) := dk_132 1 1 (dk_at dksX20_isBack_7 12 rfl rfl)
theorem dX20_isBack_178 : decode cX20_isBack 178 = .ok (.goto (-112), 3) := dk_167 255 144 (dk_at dksX20_isBack_7 15 rfl rfl)
theorem dX20_isBack_181 : decode cX20_isBack 181 = .ok (.iconst 0, 1) := dk_3 (dk_at dksX20_isBack_7 18 rfl rfl)
theorem dX20_isBack_182 : decode cX20_isBack 182 = .ok (.istore_n 1, 1) := dk_60 (dk_at dksX20_isBack_7 19 rfl rfl)
theorem dX20_isBack_183 : decode cX20_isBack 183 = .ok (.iload_n 1, 1) := dk_27 (dk_at dksX20_isBack_7 20 rfl rfl)
theorem dX20_isBack_184 : decode cX20_isBack 184 = .ok (.aload_n 0, 1) := dk_42 (dk_at dksX20_isBack_7 21 rfl rfl)
theorem dX20_isBack_185 : decode cX20_isBack 185 = .ok (.getfield 3, 3) := dk_180 0 3 (dk_at dksX20_isBack_8 0 rfl rfl)
theorem dX20_isBack_188 : decode cX20_isBack 188 = .ok (.invokevirtual 70, 3) := dk_182 0 70 (dk_at dksX20_isBack_8 3 rfl rfl)
theorem dX20_isBack_191 : decode cX20_isBack 191 = .ok (.if_icmp .ge 35, 3) := dk_162 0 35 (dk_at dksX20_isBack_8 6 rfl rfl)
theorem dX20_isBack_194 : decode cX20_isBack 194 = .ok (.aload_n 0, 1) := dk_42 (dk_at dksX20_isBack_8 9 rfl rfl)
theorem dX20_isBack_195 : decode cX20_isBack 195 = .ok (.getfield 3, 3) := dk_180 0 3 (dk_at dksX20_isBack_8 10 rfl rfl)
theorem dX20_isBack_198 : decode cX20_isBack 198 = .ok (.getfield 22, 3) := dk_180 0 22 (dk_at dksX20_isBack_8 13 rfl rfl)
theorem dX20_isBack_201 : decode cX20_isBack 201 = .ok (.getfield 73, 3) := dk_180 0 73 (dk_at dksX20_isBack_8 16 rfl rfl)
theorem dX20_isBack_204 : decode cX20_isBack 204 = .ok (.iload_n 1, 1) := dk_27 (dk_at dksX20_isBack_8 19 rfl rfl)
theorem dX20_isBack_205 : decode cX20_isBack 205 = .ok (.invokevirtual 46, 3) := dk_182 0 46 (dk_at dksX20_isBack_8 20 rfl rfl)
theorem dX20_isBack_208 : decode cX20_isBack 208 = .ok (.checkcast 75, 3) := dk_192 0 75 (dk_at dksX20_isBack_9 0 rfl rfl)
theorem dX20_isBack_211 : decode cX20_isBack 211 = .ok (.aload_n 0, 1) := dk_42 (dk_at dksX20_isBack_9 3 rfl rfl)
theorem dX20_isBack_212 : decode cX20_isBack 212 = .ok (.getfield 36, 3) := dk_180 0 36 (dk_at dksX20_isBack_9 4 rfl rfl)
theorem dX20_isBack_215 : decode cX20_isBack 215 = .ok (.iload_n 1, 1) := dk_27 (dk_at dksX20_isBack_9 7 rfl rfl)
theorem dX20_isBack_216 : decode cX20_isBack 216 = .ok (.iaload, 1) := dk_46 (dk_at dksX20_isBack_9 8 rfl rfl)
theorem dX20_isBack_217 : decode cX20_isBack 217 = .ok (.putfield 77, 3) := dk_181 0 77 (dk_at dksX20_isBack_9 9 rfl rfl)
theorem dX20_isBack_220 : decode cX20_isBack 220 = .ok (.iinc 1 1, 3) := dk_132 1 1 (dk_at dksX20_isBack_9 12 rfl rfl)
theorem dX20_isBack_223 : decode cX20_isBack 223 = .ok (.goto (-40), 3) := dk_167 255 216 (dk_at dksX20_isBack_9 15 rfl rfl)
theorem dX20_isBack_226 : decode cX20_isBack 226 = .ok (.return_, 1) := dk_177 (dk_at dksX20_isBack_9 18 rfl rfl)
theorem q114 : (Jvm.Cond.initialized "KilnBench$Spot") ∈ lw_all := lw_g (lw_at lw_m1 38 rfl) rfl
theorem q160 : (Jvm.Cond.fieldLink "KilnBench$Spot" (26 : Nat) "KilnBench$Town" "fuel" "I") ∈ lw_all := lw_g (lw_at lw_m1 84 rfl) rfl
theorem q180 : (Jvm.Cond.fieldLink "KilnBench$Spot" (43 : Nat) "KilnBench$Town" "children" "Ljava/util/ArrayList;") ∈ lw_all := lw_g (lw_at lw_m1 104 rfl) rfl
theorem q184 : (Jvm.Cond.fieldLink "KilnBench$Spot" (73 : Nat) "KilnBench$Town" "kilns" "Ljava/util/ArrayList;") ∈ lw_all := lw_g (lw_at lw_m1 108 rfl) rfl
theorem q227 : (Jvm.Cond.fieldLinkNest "KilnBench$Spot" (22 : Nat) "KilnBench" "land" "LKilnBench$Town;" "KilnBench") ∈ lw_tbl := lw_at lw_m1 151 rfl
theorem q233 : (Jvm.Cond.fieldLinkNest "KilnBench$Spot" (15 : Nat) "KilnBench" "weekNow" "I" "KilnBench") ∈ lw_tbl := lw_at lw_m1 157 rfl
theorem q621 : (Jvm.Cond.fieldLink "KilnBench$Spot" (57 : Nat) "KilnBench$Child" "place" "I") ∈ lw_all := lw_g (lw_at lw_m3 65 rfl) rfl
theorem q624 : (Jvm.Cond.fieldLink "KilnBench$Spot" (60 : Nat) "KilnBench$Child" "temper" "I") ∈ lw_all := lw_g (lw_at lw_m3 68 rfl) rfl
theorem q627 : (Jvm.Cond.fieldLink "KilnBench$Spot" (67 : Nat) "KilnBench$Child" "stuck" "I") ∈ lw_all := lw_g (lw_at lw_m3 71 rfl) rfl
theorem q634 : (Jvm.Cond.fieldLink "KilnBench$Spot" (63 : Nat) "KilnBench$Child" "isCracked" "Z") ∈ lw_all := lw_g (lw_at lw_m3 78 rfl) rfl
theorem q727 : (Jvm.Cond.selects "KilnBench$Spot" ({ cls := "java/lang/Object", name := "getClass", desc := "()Ljava/lang/Class;" } : Jvm.MethodName) ({ cls := "java/lang/Object", name := "getClass", desc := "()Ljava/lang/Class;" } : Jvm.MethodName)) ∈ lw_all := lw_g (lw_at lw_m3 171 rfl) rfl
theorem q768 : (Jvm.Cond.fieldLink "KilnBench$Spot" (77 : Nat) "KilnBench$Kiln" "heat" "I") ∈ lw_all := lw_g (lw_at lw_m3 212 rfl) rfl
theorem q1630 : (Jvm.Cond.instantiable "KilnBench$Spot" (5 : Nat)) ∈ lw_all := lw_g (lw_at lw_m7 114 rfl) rfl
theorem q1632 : (Jvm.Cond.instanceMethod ({ cls := "KilnBench$Spot", name := "<init>", desc := "(LKilnBench;)V" } : Jvm.MethodName)) ∈ lw_all := lw_g (lw_at lw_m7 116 rfl) rfl
theorem q1633 : (Jvm.Cond.code ({ cls := "KilnBench$Spot", name := "<init>", desc := "(LKilnBench;)V" } : Jvm.MethodName) prog_22_method_1_code (4 : Nat) (Option.none : Option Jvm.ClassFile.FieldType)) ∈ lw_all := lw_g (lw_at lw_m7 117 rfl) rfl
theorem q1634 : (Jvm.Cond.methodLink "KilnBench$Spot" (9 : Nat) ({ cls := "java/lang/Object", name := "<init>", desc := "()V" } : Jvm.MethodName)) ∈ lw_all := lw_g (lw_at lw_m7 118 rfl) rfl
theorem q1635 : (Jvm.Cond.methodLinkNest "KilnBench$Spot" (39 : Nat) ({ cls := "KilnBench", name := "children", desc := "()I" } : Jvm.MethodName) "KilnBench") ∈ lw_tbl := lw_at lw_m7 119 rfl
theorem q1636 : (Jvm.Cond.methodLink "KilnBench$Spot" (46 : Nat) ({ cls := "java/util/ArrayList", name := "get", desc := "(I)Ljava/lang/Object;" } : Jvm.MethodName)) ∈ lw_all := lw_g (lw_at lw_m7 120 rfl) rfl
theorem q1637 : (Jvm.Cond.classLink "KilnBench$Spot" (52 : Nat) "KilnBench$Child") ∈ lw_all := lw_g (lw_at lw_m7 121 rfl) rfl
theorem q1638 : (Jvm.Cond.methodLink "KilnBench$Spot" (54 : Nat) ({ cls := "KilnBench$Child", name := "kiln", desc := "()I" } : Jvm.MethodName)) ∈ lw_all := lw_g (lw_at lw_m7 122 rfl) rfl
theorem q1639 : (Jvm.Cond.methodLinkNest "KilnBench$Spot" (70 : Nat) ({ cls := "KilnBench", name := "kilns", desc := "()I" } : Jvm.MethodName) "KilnBench") ∈ lw_tbl := lw_at lw_m7 123 rfl
theorem q1640 : (Jvm.Cond.classLink "KilnBench$Spot" (75 : Nat) "KilnBench$Kiln") ∈ lw_all := lw_g (lw_at lw_m7 124 rfl) rfl
theorem q1641 : (Jvm.Cond.fieldLink "KilnBench$Spot" (19 : Nat) "KilnBench$Spot" "week" "I") ∈ lw_all := lw_g (lw_at lw_m7 125 rfl) rfl
theorem q1642 : (Jvm.Cond.fieldLink "KilnBench$Spot" (31 : Nat) "KilnBench$Spot" "fuel" "I") ∈ lw_all := lw_g (lw_at lw_m7 126 rfl) rfl
theorem q1643 : (Jvm.Cond.fieldLink "KilnBench$Spot" (32 : Nat) "KilnBench$Spot" "was" "[I") ∈ lw_all := lw_g (lw_at lw_m7 127 rfl) rfl
theorem q1644 : (Jvm.Cond.fieldLink "KilnBench$Spot" (36 : Nat) "KilnBench$Spot" "heats" "[I") ∈ lw_all := lw_g (lw_at lw_m7 128 rfl) rfl
theorem q1645 : (Jvm.Cond.fieldLink "KilnBench$Spot" (3 : Nat) "KilnBench$Spot" "this$0" "LKilnBench;") ∈ lw_all := lw_g (lw_at lw_m7 129 rfl) rfl
theorem q1646 : (Jvm.Cond.laysFinal "KilnBench$Spot" "KilnBench$Spot" "week" "I") ∈ lw_all := lw_g (lw_at lw_m7 130 rfl) rfl
theorem q1647 : (Jvm.Cond.soleField "KilnBench$Spot" "week") ∈ lw_all := lw_g (lw_at lw_m7 131 rfl) rfl
theorem q1648 : (Jvm.Cond.laysFinal "KilnBench$Spot" "KilnBench$Spot" "fuel" "I") ∈ lw_all := lw_g (lw_at lw_m7 132 rfl) rfl
theorem q1649 : (Jvm.Cond.soleField "KilnBench$Spot" "fuel") ∈ lw_all := lw_g (lw_at lw_m7 133 rfl) rfl
theorem q1650 : (Jvm.Cond.laysFinal "KilnBench$Spot" "KilnBench$Spot" "was" "[I") ∈ lw_all := lw_g (lw_at lw_m7 134 rfl) rfl
theorem q1651 : (Jvm.Cond.soleField "KilnBench$Spot" "was") ∈ lw_all := lw_g (lw_at lw_m7 135 rfl) rfl
theorem q1652 : (Jvm.Cond.laysFinal "KilnBench$Spot" "KilnBench$Spot" "heats" "[I") ∈ lw_all := lw_g (lw_at lw_m7 136 rfl) rfl
theorem q1653 : (Jvm.Cond.soleField "KilnBench$Spot" "heats") ∈ lw_all := lw_g (lw_at lw_m7 137 rfl) rfl
theorem q1654 : (Jvm.Cond.laysFinal "KilnBench$Spot" "KilnBench$Spot" "this$0" "LKilnBench;") ∈ lw_all := lw_g (lw_at lw_m7 138 rfl) rfl
theorem q1655 : (Jvm.Cond.soleField "KilnBench$Spot" "this$0") ∈ lw_all := lw_g (lw_at lw_m7 139 rfl) rfl
theorem q1656 : (Jvm.Cond.superclass "KilnBench$Spot" "java/lang/Object") ∈ lw_all := lw_g (lw_at lw_m7 140 rfl) rfl
theorem q1748 : (Jvm.Cond.instanceMethod ({ cls := "KilnBench$Spot", name := "isBack", desc := "()V" } : Jvm.MethodName)) ∈ lw_all := lw_g (lw_at lw_m7 232 rfl) rfl
theorem q1749 : (Jvm.Cond.selects "KilnBench$Spot" ({ cls := "KilnBench$Spot", name := "isBack", desc := "()V" } : Jvm.MethodName) ({ cls := "KilnBench$Spot", name := "isBack", desc := "()V" } : Jvm.MethodName)) ∈ lw_all := lw_g (lw_at lw_m7 233 rfl) rfl
theorem q1750 : (Jvm.Cond.sameMethod "KilnBench$Spot" "KilnBench$Spot" "isBack" "()V") ∈ lw_all := lw_g (lw_at lw_m7 234 rfl) rfl
theorem q1752 : (Jvm.Cond.code ({ cls := "KilnBench$Spot", name := "isBack", desc := "()V" } : Jvm.MethodName) prog_22_method_2_code (3 : Nat) (Option.none : Option Jvm.ClassFile.FieldType)) ∈ lw_all := lw_g (lw_at lw_m7 236 rfl) rfl
theorem q1753 : (Jvm.Cond.methodLink "KilnBench$Spot" (80 : Nat) ({ cls := "KilnBench$Child", name := "goesOut", desc := "()V" } : Jvm.MethodName)) ∈ lw_all := lw_g (lw_at lw_m7 237 rfl) rfl
theorem q1754 : (Jvm.Cond.methodLinkNest "KilnBench$Spot" (83 : Nat) ({ cls := "KilnBench", name := "kilnOf", desc := "(I)LKilnBench$Kiln;" } : Jvm.MethodName) "KilnBench") ∈ lw_tbl := lw_at lw_m7 238 rfl
theorem q1755 : (Jvm.Cond.methodLink "KilnBench$Spot" (87 : Nat) ({ cls := "KilnBench$Child", name := "goesIn", desc := "(LKilnBench$Kiln;I)V" } : Jvm.MethodName)) ∈ lw_all := lw_g (lw_at lw_m7 239 rfl) rfl
theorem q2004 : (Jvm.Cond.declares ({ cls := "KilnBench$Spot", name := "isBack", desc := "()V" } : Jvm.MethodName)) ∈ lw_tbl := lw_at lw_m9 8 rfl
theorem q2190 : (Jvm.Cond.castable "KilnBench$Spot" "java/lang/Object") ∈ lw_tbl := lw_at lw_m9 194 rfl
theorem in_X20 : ∀ w ∈ wsX200, w ∈ lw_all := lw_in wsX200 [1646, 1648, 1650, 1652, 1654] (by decide +kernel) (by decide +kernel)

/-! KilnBench$Bench -/
set_option maxRecDepth 100000
def RX21 : String := "KilnBench$Bench"
def TX21 : u_T := fun k => match k with
  | 0 => ("KilnBench$Bench", "kiln", "LKilnBench$Kiln;", true)
  | 1 => ("KilnBench$Bench", "heat", "I", true)
  | 2 => ("KilnBench$Bench", "tempers", "[[I", true)
  | 3 => ("KilnBench$Bench", "cracks", "[[Z", true)
  | _ => ("KilnBench$Bench", "this$0", "LKilnBench;", true)
def tyX21 : Nat → FieldType := fun k => match k with
  | 0 => .object "KilnBench$Kiln"
  | 1 => .int
  | 2 => .array (.array .int)
  | 3 => .array (.array .boolean)
  | _ => .object "KilnBench"
abbrev wsX210 : List Cond := u_ws RX21 TX21 5
theorem nmX21 : ∀ a, a < 5 → ∀ b, b < 5 → a ≠ b → (TX21 a).2.1 ≠ (TX21 b).2.1 := by decide +kernel
theorem tyX21_ok : ∀ k, k < 5 → parseFieldDescriptor (TX21 k).2.2.1 = some (tyX21 k) := by decide +kernel
abbrev cX21_init : ByteArray := prog_7_method_1_code
def yX21_init : MethodName := ⟨RX21, "<init>", "(LKilnBench;LKilnBench$Kiln;I)V"⟩
def dkwX21_init_6 : List UInt8 := [167, 255, 159, 177]
abbrev dktX21_init_6 : List UInt8 := dkwX21_init_6 ++ []
def dkwX21_init_5 : List UInt8 := [21, 4, 50, 21, 6, 43, 25, 5, 29, 21, 6, 182, 0, 64, 84, 132, 6, 1, 167, 255, 206, 132, 4, 1]
abbrev dktX21_init_5 : List UInt8 := dkwX21_init_5 ++ dktX21_init_6
def dkwX21_init_4 : List UInt8 := [42, 180, 0, 17, 21, 4, 50, 21, 6, 43, 25, 5, 29, 21, 6, 182, 0, 60, 79, 42, 180, 0, 22]
abbrev dktX21_init_4 : List UInt8 := dkwX21_init_4 ++ dktX21_init_5
def dkwX21_init_3 : List UInt8 := [25, 5, 180, 0, 54, 44, 165, 0, 6, 167, 0, 59, 3, 54, 6, 21, 6, 44, 180, 0, 55, 162, 0, 47]
abbrev dktX21_init_3 : List UInt8 := dkwX21_init_3 ++ dktX21_init_4
def dkwX21_init_2 : List UInt8 := [43, 182, 0, 33, 162, 0, 94, 43, 180, 0, 37, 180, 0, 41, 21, 4, 182, 0, 46, 192, 0, 52, 58, 5]
abbrev dktX21_init_2 : List UInt8 := dkwX21_init_2 ++ dktX21_init_3
def dkwX21_init_1 : List UInt8 := [16, 6, 197, 0, 20, 2, 181, 0, 22, 42, 44, 181, 0, 25, 42, 29, 181, 0, 29, 3, 54, 4, 21, 4]
abbrev dktX21_init_1 : List UInt8 := dkwX21_init_1 ++ dktX21_init_2
def dkwX21_init_0 : List UInt8 := [42, 43, 181, 0, 3, 42, 183, 0, 9, 42, 16, 8, 16, 6, 197, 0, 15, 2, 181, 0, 17, 42, 16, 8]
abbrev dktX21_init_0 : List UInt8 := dkwX21_init_0 ++ dktX21_init_1
theorem dksX21_init_0 : cX21_init.data.toList.drop 0 = dktX21_init_0 := by decide +kernel
theorem dksX21_init_1 : cX21_init.data.toList.drop 24 = dktX21_init_1 := dk_seg dksX21_init_0 24 rfl rfl
theorem dksX21_init_2 : cX21_init.data.toList.drop 48 = dktX21_init_2 := dk_seg dksX21_init_1 24 rfl rfl
theorem dksX21_init_3 : cX21_init.data.toList.drop 72 = dktX21_init_3 := dk_seg dksX21_init_2 24 rfl rfl
theorem dksX21_init_4 : cX21_init.data.toList.drop 96 = dktX21_init_4 := dk_seg dksX21_init_3 24 rfl rfl
theorem dksX21_init_5 : cX21_init.data.toList.drop 119 = dktX21_init_5 := dk_seg dksX21_init_4 23 rfl rfl
theorem dksX21_init_6 : cX21_init.data.toList.drop 143 = dktX21_init_6 := dk_seg dksX21_init_5 24 rfl rfl
theorem dX21_init_0 : decode cX21_init 0 = .ok (.aload_n 0, 1) := dk_42 (dk_at dksX21_init_0 0 rfl rfl)
theorem dX21_init_1 : decode cX21_init 1 = .ok (.aload_n 1, 1) := dk_43 (dk_at dksX21_init_0 1 rfl rfl)
theorem dX21_init_2 : decode cX21_init 2 = .ok (.putfield 3, 3) := dk_181 0 3 (dk_at dksX21_init_0 2 rfl rfl)
theorem dX21_init_5 : decode cX21_init 5 = .ok (.aload_n 0, 1) := dk_42 (dk_at dksX21_init_0 5 rfl rfl)
theorem dX21_init_6 : decode cX21_init 6 = .ok (.invokespecial 9, 3) := dk_183 0 9 (dk_at dksX21_init_0 6 rfl rfl)
theorem dX21_init_9 : decode cX21_init 9 = .ok (.aload_n 0, 1) := dk_42 (dk_at dksX21_init_0 9 rfl rfl)
theorem dX21_init_10 : decode cX21_init 10 = .ok (.bipush 8, 2) := dk_16 8 (dk_at dksX21_init_0 10 rfl rfl)
theorem dX21_init_12 : decode cX21_init 12 = .ok (.bipush 6, 2) := dk_16 6 (dk_at dksX21_init_0 12 rfl rfl)
theorem dX21_init_14 : decode cX21_init 14 = .ok (.multianewarray 15 2, 4) := by decide +kernel
theorem dX21_init_18 : decode cX21_init 18 = .ok (.putfield 17, 3) := dk_181 0 17 (dk_at dksX21_init_0 18 rfl rfl)
theorem dX21_init_21 : decode cX21_init 21 = .ok (.aload_n 0, 1) := dk_42 (dk_at dksX21_init_0 21 rfl rfl)
theorem dX21_init_22 : decode cX21_init 22 = .ok (.bipush 8, 2) := dk_16 8 (dk_at dksX21_init_0 22 rfl rfl)
theorem dX21_init_24 : decode cX21_init 24 = .ok (.bipush 6, 2) := dk_16 6 (dk_at dksX21_init_1 0 rfl rfl)
theorem dX21_init_26 : decode cX21_init 26 = .ok (.multianewarray 20 2, 4) := by decide +kernel
theorem dX21_init_30 : decode cX21_init 30 = .ok (.putfield 22, 3) := dk_181 0 22 (dk_at dksX21_init_1 6 rfl rfl)
theorem dX21_init_33 : decode cX21_init 33 = .ok (.aload_n 0, 1) := dk_42 (dk_at dksX21_init_1 9 rfl rfl)
theorem dX21_init_34 : decode cX21_init 34 = .ok (.aload_n 2, 1) := dk_44 (dk_at dksX21_init_1 10 rfl rfl)
theorem dX21_init_35 : decode cX21_init 35 = .ok (.putfield 25, 3) := dk_181 0 25 (dk_at dksX21_init_1 11 rfl rfl)
theorem dX21_init_38 : decode cX21_init 38 = .ok (.aload_n 0, 1) := dk_42 (dk_at dksX21_init_1 14 rfl rfl)
theorem dX21_init_39 : decode cX21_init 39 = .ok (.iload_n 3, 1) := dk_29 (dk_at dksX21_init_1 15 rfl rfl)
theorem dX21_init_40 : decode cX21_init 40 = .ok (.putfield 29, 3) := dk_181 0 29 (dk_at dksX21_init_1 16 rfl rfl)
theorem dX21_init_43 : decode cX21_init 43 = .ok (.iconst 0, 1) := dk_3 (dk_at dksX21_init_1 19 rfl rfl)
theorem dX21_init_44 : decode cX21_init 44 = .ok (.istore 4, 2) := dk_54 4 (dk_at dksX21_init_1 20 rfl rfl)
theorem dX21_init_46 : decode cX21_init 46 = .ok (.iload 4, 2) := dk_21 4 (dk_at dksX21_init_1 22 rfl rfl)
theorem dX21_init_48 : decode cX21_init 48 = .ok (.aload_n 1, 1) := dk_43 (dk_at dksX21_init_2 0 rfl rfl)
theorem dX21_init_49 : decode cX21_init 49 = .ok (.invokevirtual 33, 3) := dk_182 0 33 (dk_at dksX21_init_2 1 rfl rfl)
theorem dX21_init_52 : decode cX21_init 52 = .ok (.if_icmp .ge 94, 3) := dk_162 0 94 (dk_at dksX21_init_2 4 rfl rfl)
theorem dX21_init_55 : decode cX21_init 55 = .ok (.aload_n 1, 1) := dk_43 (dk_at dksX21_init_2 7 rfl rfl)
theorem dX21_init_56 : decode cX21_init 56 = .ok (.getfield 37, 3) := dk_180 0 37 (dk_at dksX21_init_2 8 rfl rfl)
theorem dX21_init_59 : decode cX21_init 59 = .ok (.getfield 41, 3) := dk_180 0 41 (dk_at dksX21_init_2 11 rfl rfl)
theorem dX21_init_62 : decode cX21_init 62 = .ok (.iload 4, 2) := dk_21 4 (dk_at dksX21_init_2 14 rfl rfl)
theorem dX21_init_64 : decode cX21_init 64 = .ok (.invokevirtual 46, 3) := dk_182 0 46 (dk_at dksX21_init_2 16 rfl rfl)
theorem dX21_init_67 : decode cX21_init 67 = .ok (.checkcast 52, 3) := dk_192 0 52 (dk_at dksX21_init_2 19 rfl rfl)
theorem dX21_init_70 : decode cX21_init 70 = .ok (.astore 5, 2) := dk_58 5 (dk_at dksX21_init_2 22 rfl rfl)
theorem dX21_init_72 : decode cX21_init 72 = .ok (.aload 5, 2) := dk_25 5 (dk_at dksX21_init_3 0 rfl rfl)
theorem dX21_init_74 : decode cX21_init 74 = .ok (.getfield 54, 3) := dk_180 0 54 (dk_at dksX21_init_3 2 rfl rfl)
theorem dX21_init_77 : decode cX21_init 77 = .ok (.aload_n 2, 1) := dk_44 (dk_at dksX21_init_3 5 rfl rfl)
theorem dX21_init_78 : decode cX21_init 78 = .ok (.if_acmp .eq 6, 3) := dk_165 0 6 (dk_at dksX21_init_3 6 rfl rfl)
theorem dX21_init_81 : decode cX21_init 81 = .ok (.goto 59, 3) := dk_167 0 59 (dk_at dksX21_init_3 9 rfl rfl)
theorem dX21_init_84 : decode cX21_init 84 = .ok (.iconst 0, 1) := dk_3 (dk_at dksX21_init_3 12 rfl rfl)
theorem dX21_init_85 : decode cX21_init 85 = .ok (.istore 6, 2) := dk_54 6 (dk_at dksX21_init_3 13 rfl rfl)
theorem dX21_init_87 : decode cX21_init 87 = .ok (.iload 6, 2) := dk_21 6 (dk_at dksX21_init_3 15 rfl rfl)
theorem dX21_init_89 : decode cX21_init 89 = .ok (.aload_n 2, 1) := dk_44 (dk_at dksX21_init_3 17 rfl rfl)
theorem dX21_init_90 : decode cX21_init 90 = .ok (.getfield 55, 3) := dk_180 0 55 (dk_at dksX21_init_3 18 rfl rfl)
theorem dX21_init_93 : decode cX21_init 93 = .ok (.if_icmp .ge 47, 3) := dk_162 0 47 (dk_at dksX21_init_3 21 rfl rfl)
theorem dX21_init_96 : decode cX21_init 96 = .ok (.aload_n 0, 1) := dk_42 (dk_at dksX21_init_4 0 rfl rfl)
theorem dX21_init_97 : decode cX21_init 97 = .ok (.getfield 17, 3) := dk_180 0 17 (dk_at dksX21_init_4 1 rfl rfl)
theorem dX21_init_100 : decode cX21_init 100 = .ok (.iload 4, 2) := dk_21 4 (dk_at dksX21_init_4 4 rfl rfl)
theorem dX21_init_102 : decode cX21_init 102 = .ok (.aaload, 1) := dk_50 (dk_at dksX21_init_4 6 rfl rfl)
theorem dX21_init_103 : decode cX21_init 103 = .ok (.iload 6, 2) := dk_21 6 (dk_at dksX21_init_4 7 rfl rfl)
theorem dX21_init_105 : decode cX21_init 105 = .ok (.aload_n 1, 1) := dk_43 (dk_at dksX21_init_4 9 rfl rfl)
theorem dX21_init_106 : decode cX21_init 106 = .ok (.aload 5, 2) := dk_25 5 (dk_at dksX21_init_4 10 rfl rfl)
theorem dX21_init_108 : decode cX21_init 108 = .ok (.iload_n 3, 1) := dk_29 (dk_at dksX21_init_4 12 rfl rfl)
theorem dX21_init_109 : decode cX21_init 109 = .ok (.iload 6, 2) := dk_21 6 (dk_at dksX21_init_4 13 rfl rfl)
theorem dX21_init_111 : decode cX21_init 111 = .ok (.invokevirtual 60, 3) := dk_182 0 60 (dk_at dksX21_init_4 15 rfl rfl)
theorem dX21_init_114 : decode cX21_init 114 = .ok (.iastore, 1) := dk_79 (dk_at dksX21_init_4 18 rfl rfl)
theorem dX21_init_115 : decode cX21_init 115 = .ok (.aload_n 0, 1) := dk_42 (dk_at dksX21_init_4 19 rfl rfl)
theorem dX21_init_116 : decode cX21_init 116 = .ok (.getfield 22, 3) := dk_180 0 22 (dk_at dksX21_init_4 20 rfl rfl)
theorem dX21_init_119 : decode cX21_init 119 = .ok (.iload 4, 2) := dk_21 4 (dk_at dksX21_init_5 0 rfl rfl)
theorem dX21_init_121 : decode cX21_init 121 = .ok (.aaload, 1) := dk_50 (dk_at dksX21_init_5 2 rfl rfl)
theorem dX21_init_122 : decode cX21_init 122 = .ok (.iload 6, 2) := dk_21 6 (dk_at dksX21_init_5 3 rfl rfl)
theorem dX21_init_124 : decode cX21_init 124 = .ok (.aload_n 1, 1) := dk_43 (dk_at dksX21_init_5 5 rfl rfl)
theorem dX21_init_125 : decode cX21_init 125 = .ok (.aload 5, 2) := dk_25 5 (dk_at dksX21_init_5 6 rfl rfl)
theorem dX21_init_127 : decode cX21_init 127 = .ok (.iload_n 3, 1) := dk_29 (dk_at dksX21_init_5 8 rfl rfl)
theorem dX21_init_128 : decode cX21_init 128 = .ok (.iload 6, 2) := dk_21 6 (dk_at dksX21_init_5 9 rfl rfl)
theorem dX21_init_130 : decode cX21_init 130 = .ok (.invokevirtual 64, 3) := dk_182 0 64 (dk_at dksX21_init_5 11 rfl rfl)
theorem dX21_init_133 : decode cX21_init 133 = .ok (.bastore, 1) := dk_84 (dk_at dksX21_init_5 14 rfl rfl)
theorem dX21_init_134 : decode cX21_init 134 = .ok (.iinc 6 1, 3) := dk_132 6 1 (dk_at dksX21_init_5 15 rfl rfl)
theorem dX21_init_137 : decode cX21_init 137 = .ok (.goto (-50), 3) := dk_167 255 206 (dk_at dksX21_init_5 18 rfl rfl)
theorem dX21_init_140 : decode cX21_init 140 = .ok (.iinc 4 1, 3) := dk_132 4 1 (dk_at dksX21_init_5 21 rfl rfl)
theorem dX21_init_143 : decode cX21_init 143 = .ok (.goto (-97), 3) := dk_167 255 159 (dk_at dksX21_init_6 0 rfl rfl)
theorem dX21_init_146 : decode cX21_init 146 = .ok (.return_, 1) := dk_177 (dk_at dksX21_init_6 3 rfl rfl)
abbrev cX21_fires : ByteArray := prog_7_method_4_code
def yX21_fires : MethodName := ⟨RX21, "fires", "()I"⟩
def dkwX21_fires_9 : List UInt8 := [2, 181, 0, 95, 28, 172]
abbrev dktX21_fires_9 : List UInt8 := dkwX21_fires_9 ++ []
def dkwX21_fires_8 : List UInt8 := [180, 0, 88, 153, 0, 6, 132, 2, 1, 25, 4, 182, 0, 92, 132, 3, 1, 167, 255, 98, 42, 180, 0, 25]
abbrev dktX21_fires_8 : List UInt8 := dkwX21_fires_8 ++ dktX21_fires_9
def dkwX21_fires_7 : List UInt8 := [181, 0, 85, 25, 4, 42, 180, 0, 22, 25, 4, 180, 0, 76, 50, 29, 51, 181, 0, 88, 25, 4]
abbrev dktX21_fires_7 : List UInt8 := dkwX21_fires_7 ++ dktX21_fires_8
def dkwX21_fires_6 : List UInt8 := [180, 0, 76, 120, 128, 181, 0, 82, 25, 4, 42, 180, 0, 17, 25, 4, 180, 0, 76, 50, 29, 46]
abbrev dktX21_fires_6 : List UInt8 := dkwX21_fires_6 ++ dktX21_fires_7
def dkwX21_fires_5 : List UInt8 := [180, 0, 82, 4, 25, 5, 180, 0, 76, 120, 128, 181, 0, 82, 25, 5, 89, 180, 0, 82, 4, 25, 4]
abbrev dktX21_fires_5 : List UInt8 := dkwX21_fires_5 ++ dktX21_fires_6
def dkwX21_fires_4 : List UInt8 := [198, 0, 55, 42, 25, 4, 180, 0, 76, 25, 5, 180, 0, 76, 29, 182, 0, 79, 153, 0, 37, 25, 4, 89]
abbrev dktX21_fires_4 : List UInt8 := dkwX21_fires_4 ++ dktX21_fires_5
def dkwX21_fires_3 : List UInt8 := [180, 0, 25, 180, 0, 55, 162, 0, 11, 43, 29, 4, 96, 50, 167, 0, 4, 1, 58, 5, 25, 5]
abbrev dktX21_fires_3 : List UInt8 := dkwX21_fires_3 ++ dktX21_fires_4
def dkwX21_fires_2 : List UInt8 := [180, 0, 55, 162, 0, 153, 43, 29, 50, 58, 4, 25, 4, 199, 0, 6, 167, 0, 134, 29, 4, 96, 42]
abbrev dktX21_fires_2 : List UInt8 := dkwX21_fires_2 ++ dktX21_fires_3
def dkwX21_fires_1 : List UInt8 := [180, 0, 25, 180, 0, 72, 28, 50, 83, 132, 2, 1, 167, 255, 230, 3, 61, 3, 62, 29, 42, 180, 0, 25]
abbrev dktX21_fires_1 : List UInt8 := dkwX21_fires_1 ++ dktX21_fires_2
def dkwX21_fires_0 : List UInt8 := [16, 6, 189, 0, 52, 76, 3, 61, 28, 42, 180, 0, 25, 180, 0, 55, 162, 0, 21, 43, 28, 42]
abbrev dktX21_fires_0 : List UInt8 := dkwX21_fires_0 ++ dktX21_fires_1
theorem dksX21_fires_0 : cX21_fires.data.toList.drop 0 = dktX21_fires_0 := by decide +kernel
theorem dksX21_fires_1 : cX21_fires.data.toList.drop 22 = dktX21_fires_1 := dk_seg dksX21_fires_0 22 rfl rfl
theorem dksX21_fires_2 : cX21_fires.data.toList.drop 46 = dktX21_fires_2 := dk_seg dksX21_fires_1 24 rfl rfl
theorem dksX21_fires_3 : cX21_fires.data.toList.drop 69 = dktX21_fires_3 := dk_seg dksX21_fires_2 23 rfl rfl
theorem dksX21_fires_4 : cX21_fires.data.toList.drop 91 = dktX21_fires_4 := dk_seg dksX21_fires_3 22 rfl rfl
theorem dksX21_fires_5 : cX21_fires.data.toList.drop 115 = dktX21_fires_5 := dk_seg dksX21_fires_4 24 rfl rfl
theorem dksX21_fires_6 : cX21_fires.data.toList.drop 138 = dktX21_fires_6 := dk_seg dksX21_fires_5 23 rfl rfl
theorem dksX21_fires_7 : cX21_fires.data.toList.drop 160 = dktX21_fires_7 := dk_seg dksX21_fires_6 22 rfl rfl
theorem dksX21_fires_8 : cX21_fires.data.toList.drop 182 = dktX21_fires_8 := dk_seg dksX21_fires_7 22 rfl rfl
theorem dksX21_fires_9 : cX21_fires.data.toList.drop 206 = dktX21_fires_9 := dk_seg dksX21_fires_8 24 rfl rfl
theorem dX21_fires_0 : decode cX21_fires 0 = .ok (.bipush 6, 2) := dk_16 6 (dk_at dksX21_fires_0 0 rfl rfl)
theorem dX21_fires_2 : decode cX21_fires 2 = .ok (.anewarray 52, 3) := dk_189 0 52 (dk_at dksX21_fires_0 2 rfl rfl)
theorem dX21_fires_5 : decode cX21_fires 5 = .ok (.astore_n 1, 1) := dk_76 (dk_at dksX21_fires_0 5 rfl rfl)
theorem dX21_fires_6 : decode cX21_fires 6 = .ok (.iconst 0, 1) := dk_3 (dk_at dksX21_fires_0 6 rfl rfl)
theorem dX21_fires_7 : decode cX21_fires 7 = .ok (.istore_n 2, 1) := dk_61 (dk_at dksX21_fires_0 7 rfl rfl)
theorem dX21_fires_8 : decode cX21_fires 8 = .ok (.iload_n 2, 1) := dk_28 (dk_at dksX21_fires_0 8 rfl rfl)
theorem dX21_fires_9 : decode cX21_fires 9 = .ok (.aload_n 0, 1) := dk_42 (dk_at dksX21_fires_0 9 rfl rfl)
theorem dX21_fires_10 : decode cX21_fires 10 = .ok (.getfield 25, 3) := dk_180 0 25 (dk_at dksX21_fires_0 10 rfl rfl)
theorem dX21_fires_13 : decode cX21_fires 13 = .ok (.getfield 55, 3) := dk_180 0 55 (dk_at dksX21_fires_0 13 rfl rfl)
theorem dX21_fires_16 : decode cX21_fires 16 = .ok (.if_icmp .ge 21, 3) := dk_162 0 21 (dk_at dksX21_fires_0 16 rfl rfl)
theorem dX21_fires_19 : decode cX21_fires 19 = .ok (.aload_n 1, 1) := dk_43 (dk_at dksX21_fires_0 19 rfl rfl)
theorem dX21_fires_20 : decode cX21_fires 20 = .ok (.iload_n 2, 1) := dk_28 (dk_at dksX21_fires_0 20 rfl rfl)
theorem dX21_fires_21 : decode cX21_fires 21 = .ok (.aload_n 0, 1) := dk_42 (dk_at dksX21_fires_0 21 rfl rfl)
theorem dX21_fires_22 : decode cX21_fires 22 = .ok (.getfield 25, 3) := dk_180 0 25 (dk_at dksX21_fires_1 0 rfl rfl)
theorem dX21_fires_25 : decode cX21_fires 25 = .ok (.getfield 72, 3) := dk_180 0 72 (dk_at dksX21_fires_1 3 rfl rfl)
theorem dX21_fires_28 : decode cX21_fires 28 = .ok (.iload_n 2, 1) := dk_28 (dk_at dksX21_fires_1 6 rfl rfl)
theorem dX21_fires_29 : decode cX21_fires 29 = .ok (.aaload, 1) := dk_50 (dk_at dksX21_fires_1 7 rfl rfl)
theorem dX21_fires_30 : decode cX21_fires 30 = .ok (.aastore, 1) := dk_83 (dk_at dksX21_fires_1 8 rfl rfl)
theorem dX21_fires_31 : decode cX21_fires 31 = .ok (.iinc 2 1, 3) := dk_132 2 1 (dk_at dksX21_fires_1 9 rfl rfl)
theorem dX21_fires_34 : decode cX21_fires 34 = .ok (.goto (-26), 3) := dk_167 255 230 (dk_at dksX21_fires_1 12 rfl rfl)
theorem dX21_fires_37 : decode cX21_fires 37 = .ok (.iconst 0, 1) := dk_3 (dk_at dksX21_fires_1 15 rfl rfl)
theorem dX21_fires_38 : decode cX21_fires 38 = .ok (.istore_n 2, 1) := dk_61 (dk_at dksX21_fires_1 16 rfl rfl)
theorem dX21_fires_39 : decode cX21_fires 39 = .ok (.iconst 0, 1) := dk_3 (dk_at dksX21_fires_1 17 rfl rfl)
theorem dX21_fires_40 : decode cX21_fires 40 = .ok (.istore_n 3, 1) := dk_62 (dk_at dksX21_fires_1 18 rfl rfl)
theorem dX21_fires_41 : decode cX21_fires 41 = .ok (.iload_n 3, 1) := dk_29 (dk_at dksX21_fires_1 19 rfl rfl)
theorem dX21_fires_42 : decode cX21_fires 42 = .ok (.aload_n 0, 1) := dk_42 (dk_at dksX21_fires_1 20 rfl rfl)
theorem dX21_fires_43 : decode cX21_fires 43 = .ok (.getfield 25, 3) := dk_180 0 25 (dk_at dksX21_fires_1 21 rfl rfl)
theorem dX21_fires_46 : decode cX21_fires 46 = .ok (.getfield 55, 3) := dk_180 0 55 (dk_at dksX21_fires_2 0 rfl rfl)
theorem dX21_fires_49 : decode cX21_fires 49 = .ok (.if_icmp .ge 153, 3) := dk_162 0 153 (dk_at dksX21_fires_2 3 rfl rfl)
theorem dX21_fires_52 : decode cX21_fires 52 = .ok (.aload_n 1, 1) := dk_43 (dk_at dksX21_fires_2 6 rfl rfl)
theorem dX21_fires_53 : decode cX21_fires 53 = .ok (.iload_n 3, 1) := dk_29 (dk_at dksX21_fires_2 7 rfl rfl)
theorem dX21_fires_54 : decode cX21_fires 54 = .ok (.aaload, 1) := dk_50 (dk_at dksX21_fires_2 8 rfl rfl)
theorem dX21_fires_55 : decode cX21_fires 55 = .ok (.astore 4, 2) := dk_58 4 (dk_at dksX21_fires_2 9 rfl rfl)
theorem dX21_fires_57 : decode cX21_fires 57 = .ok (.aload 4, 2) := dk_25 4 (dk_at dksX21_fires_2 11 rfl rfl)
theorem dX21_fires_59 : decode cX21_fires 59 = .ok (.ifnonnull 6, 3) := dk_199 0 6 (dk_at dksX21_fires_2 13 rfl rfl)
theorem dX21_fires_62 : decode cX21_fires 62 = .ok (.goto 134, 3) := dk_167 0 134 (dk_at dksX21_fires_2 16 rfl rfl)
theorem dX21_fires_65 : decode cX21_fires 65 = .ok (.iload_n 3, 1) := dk_29 (dk_at dksX21_fires_2 19 rfl rfl)
theorem dX21_fires_66 : decode cX21_fires 66 = .ok (.iconst 1, 1) := dk_4 (dk_at dksX21_fires_2 20 rfl rfl)
theorem dX21_fires_67 : decode cX21_fires 67 = .ok (.iadd, 1) := dk_96 (dk_at dksX21_fires_2 21 rfl rfl)
theorem dX21_fires_68 : decode cX21_fires 68 = .ok (.aload_n 0, 1) := dk_42 (dk_at dksX21_fires_2 22 rfl rfl)
theorem dX21_fires_69 : decode cX21_fires 69 = .ok (.getfield 25, 3) := dk_180 0 25 (dk_at dksX21_fires_3 0 rfl rfl)
theorem dX21_fires_72 : decode cX21_fires 72 = .ok (.getfield 55, 3) := dk_180 0 55 (dk_at dksX21_fires_3 3 rfl rfl)
theorem dX21_fires_75 : decode cX21_fires 75 = .ok (.if_icmp .ge 11, 3) := dk_162 0 11 (dk_at dksX21_fires_3 6 rfl rfl)
theorem dX21_fires_78 : decode cX21_fires 78 = .ok (.aload_n 1, 1) := dk_43 (dk_at dksX21_fires_3 9 rfl rfl)
theorem dX21_fires_79 : decode cX21_fires 79 = .ok (.iload_n 3, 1) := dk_29 (dk_at dksX21_fires_3 10 rfl rfl)
theorem dX21_fires_80 : decode cX21_fires 80 = .ok (.iconst 1, 1) := dk_4 (dk_at dksX21_fires_3 11 rfl rfl)
theorem dX21_fires_81 : decode cX21_fires 81 = .ok (.iadd, 1) := dk_96 (dk_at dksX21_fires_3 12 rfl rfl)
theorem dX21_fires_82 : decode cX21_fires 82 = .ok (.aaload, 1) := dk_50 (dk_at dksX21_fires_3 13 rfl rfl)
theorem dX21_fires_83 : decode cX21_fires 83 = .ok (.goto 4, 3) := dk_167 0 4 (dk_at dksX21_fires_3 14 rfl rfl)
theorem dX21_fires_86 : decode cX21_fires 86 = .ok (.aconst_null, 1) := dk_1 (dk_at dksX21_fires_3 17 rfl rfl)
theorem dX21_fires_87 : decode cX21_fires 87 = .ok (.astore 5, 2) := dk_58 5 (dk_at dksX21_fires_3 18 rfl rfl)
theorem dX21_fires_89 : decode cX21_fires 89 = .ok (.aload 5, 2) := dk_25 5 (dk_at dksX21_fires_3 20 rfl rfl)
theorem dX21_fires_91 : decode cX21_fires 91 = .ok (.ifnull 55, 3) := dk_198 0 55 (dk_at dksX21_fires_4 0 rfl rfl)
theorem dX21_fires_94 : decode cX21_fires 94 = .ok (.aload_n 0, 1) := dk_42 (dk_at dksX21_fires_4 3 rfl rfl)
theorem dX21_fires_95 : decode cX21_fires 95 = .ok (.aload 4, 2) := dk_25 4 (dk_at dksX21_fires_4 4 rfl rfl)
theorem dX21_fires_97 : decode cX21_fires 97 = .ok (.getfield 76, 3) := dk_180 0 76 (dk_at dksX21_fires_4 6 rfl rfl)
theorem dX21_fires_100 : decode cX21_fires 100 = .ok (.aload 5, 2) := dk_25 5 (dk_at dksX21_fires_4 9 rfl rfl)
theorem dX21_fires_102 : decode cX21_fires 102 = .ok (.getfield 76, 3) := dk_180 0 76 (dk_at dksX21_fires_4 11 rfl rfl)
theorem dX21_fires_105 : decode cX21_fires 105 = .ok (.iload_n 3, 1) := dk_29 (dk_at dksX21_fires_4 14 rfl rfl)
theorem dX21_fires_106 : decode cX21_fires 106 = .ok (.invokevirtual 79, 3) := dk_182 0 79 (dk_at dksX21_fires_4 15 rfl rfl)
theorem dX21_fires_109 : decode cX21_fires 109 = .ok (.ifCond .eq 37, 3) := dk_153 0 37 (dk_at dksX21_fires_4 18 rfl rfl)
theorem dX21_fires_112 : decode cX21_fires 112 = .ok (.aload 4, 2) := dk_25 4 (dk_at dksX21_fires_4 21 rfl rfl)
theorem dX21_fires_114 : decode cX21_fires 114 = .ok (.dup, 1) := dk_89 (dk_at dksX21_fires_4 23 rfl rfl)
theorem dX21_fires_115 : decode cX21_fires 115 = .ok (.getfield 82, 3) := dk_180 0 82 (dk_at dksX21_fires_5 0 rfl rfl)
theorem dX21_fires_118 : decode cX21_fires 118 = .ok (.iconst 1, 1) := dk_4 (dk_at dksX21_fires_5 3 rfl rfl)
theorem dX21_fires_119 : decode cX21_fires 119 = .ok (.aload 5, 2) := dk_25 5 (dk_at dksX21_fires_5 4 rfl rfl)
theorem dX21_fires_121 : decode cX21_fires 121 = .ok (.getfield 76, 3) := dk_180 0 76 (dk_at dksX21_fires_5 6 rfl rfl)
theorem dX21_fires_124 : decode cX21_fires 124 = .ok (.ishl, 1) := dk_120 (dk_at dksX21_fires_5 9 rfl rfl)
theorem dX21_fires_125 : decode cX21_fires 125 = .ok (.ior, 1) := dk_128 (dk_at dksX21_fires_5 10 rfl rfl)
theorem dX21_fires_126 : decode cX21_fires 126 = .ok (.putfield 82, 3) := dk_181 0 82 (dk_at dksX21_fires_5 11 rfl rfl)
theorem dX21_fires_129 : decode cX21_fires 129 = .ok (.aload 5, 2) := dk_25 5 (dk_at dksX21_fires_5 14 rfl rfl)
theorem dX21_fires_131 : decode cX21_fires 131 = .ok (.dup, 1) := dk_89 (dk_at dksX21_fires_5 16 rfl rfl)
theorem dX21_fires_132 : decode cX21_fires 132 = .ok (.getfield 82, 3) := dk_180 0 82 (dk_at dksX21_fires_5 17 rfl rfl)
theorem dX21_fires_135 : decode cX21_fires 135 = .ok (.iconst 1, 1) := dk_4 (dk_at dksX21_fires_5 20 rfl rfl)
theorem dX21_fires_136 : decode cX21_fires 136 = .ok (.aload 4, 2) := dk_25 4 (dk_at dksX21_fires_5 21 rfl rfl)
theorem dX21_fires_138 : decode cX21_fires 138 = .ok (.getfield 76, 3) := dk_180 0 76 (dk_at dksX21_fires_6 0 rfl rfl)
theorem dX21_fires_141 : decode cX21_fires 141 = .ok (.ishl, 1) := dk_120 (dk_at dksX21_fires_6 3 rfl rfl)
theorem dX21_fires_142 : decode cX21_fires 142 = .ok (.ior, 1) := dk_128 (dk_at dksX21_fires_6 4 rfl rfl)
theorem dX21_fires_143 : decode cX21_fires 143 = .ok (.putfield 82, 3) := dk_181 0 82 (dk_at dksX21_fires_6 5 rfl rfl)
theorem dX21_fires_146 : decode cX21_fires 146 = .ok (.aload 4, 2) := dk_25 4 (dk_at dksX21_fires_6 8 rfl rfl)
theorem dX21_fires_148 : decode cX21_fires 148 = .ok (.aload_n 0, 1) := dk_42 (dk_at dksX21_fires_6 10 rfl rfl)
theorem dX21_fires_149 : decode cX21_fires 149 = .ok (.getfield 17, 3) := dk_180 0 17 (dk_at dksX21_fires_6 11 rfl rfl)
theorem dX21_fires_152 : decode cX21_fires 152 = .ok (.aload 4, 2) := dk_25 4 (dk_at dksX21_fires_6 14 rfl rfl)
theorem dX21_fires_154 : decode cX21_fires 154 = .ok (.getfield 76, 3) := dk_180 0 76 (dk_at dksX21_fires_6 16 rfl rfl)
theorem dX21_fires_157 : decode cX21_fires 157 = .ok (.aaload, 1) := dk_50 (dk_at dksX21_fires_6 19 rfl rfl)
theorem dX21_fires_158 : decode cX21_fires 158 = .ok (.iload_n 3, 1) := dk_29 (dk_at dksX21_fires_6 20 rfl rfl)
theorem dX21_fires_159 : decode cX21_fires 159 = .ok (.iaload, 1) := dk_46 (dk_at dksX21_fires_6 21 rfl rfl)
theorem dX21_fires_160 : decode cX21_fires 160 = .ok (.putfield 85, 3) := dk_181 0 85 (dk_at dksX21_fires_7 0 rfl rfl)
theorem dX21_fires_163 : decode cX21_fires 163 = .ok (.aload 4, 2) := dk_25 4 (dk_at dksX21_fires_7 3 rfl rfl)
theorem dX21_fires_165 : decode cX21_fires 165 = .ok (.aload_n 0, 1) := dk_42 (dk_at dksX21_fires_7 5 rfl rfl)
theorem dX21_fires_166 : decode cX21_fires 166 = .ok (.getfield 22, 3) := dk_180 0 22 (dk_at dksX21_fires_7 6 rfl rfl)
theorem dX21_fires_169 : decode cX21_fires 169 = .ok (.aload 4, 2) := dk_25 4 (dk_at dksX21_fires_7 9 rfl rfl)
theorem dX21_fires_171 : decode cX21_fires 171 = .ok (.getfield 76, 3) := dk_180 0 76 (dk_at dksX21_fires_7 11 rfl rfl)
theorem dX21_fires_174 : decode cX21_fires 174 = .ok (.aaload, 1) := dk_50 (dk_at dksX21_fires_7 14 rfl rfl)
theorem dX21_fires_175 : decode cX21_fires 175 = .ok (.iload_n 3, 1) := dk_29 (dk_at dksX21_fires_7 15 rfl rfl)
theorem dX21_fires_176 : decode cX21_fires 176 = .ok (.baload, 1) := dk_51 (dk_at dksX21_fires_7 16 rfl rfl)
theorem dX21_fires_177 : decode cX21_fires 177 = .ok (.putfield 88, 3) := dk_181 0 88 (dk_at dksX21_fires_7 17 rfl rfl)
theorem dX21_fires_180 : decode cX21_fires 180 = .ok (.aload 4, 2) := dk_25 4 (dk_at dksX21_fires_7 20 rfl rfl)
theorem dX21_fires_182 : decode cX21_fires 182 = .ok (.getfield 88, 3) := dk_180 0 88 (dk_at dksX21_fires_8 0 rfl rfl)
theorem dX21_fires_185 : decode cX21_fires 185 = .ok (.ifCond .eq 6, 3) := dk_153 0 6 (dk_at dksX21_fires_8 3 rfl rfl)
theorem dX21_fires_188 : decode cX21_fires 188 = .ok (.iinc 2 1, 3) := dk_132 2 1 (dk_at dksX21_fires_8 6 rfl rfl)
theorem dX21_fires_191 : decode cX21_fires 191 = .ok (.aload 4, 2) := dk_25 4 (dk_at dksX21_fires_8 9 rfl rfl)
theorem dX21_fires_193 : decode cX21_fires 193 = .ok (.invokevirtual 92, 3) := dk_182 0 92 (dk_at dksX21_fires_8 11 rfl rfl)
theorem dX21_fires_196 : decode cX21_fires 196 = .ok (.iinc 3 1, 3) := dk_132 3 1 (dk_at dksX21_fires_8 14 rfl rfl)
theorem dX21_fires_199 : decode cX21_fires 199 = .ok (.goto (-158), 3) := dk_167 255 98 (dk_at dksX21_fires_8 17 rfl rfl)
theorem dX21_fires_202 : decode cX21_fires 202 = .ok (.aload_n 0, 1) := dk_42 (dk_at dksX21_fires_8 20 rfl rfl)
theorem dX21_fires_203 : decode cX21_fires 203 = .ok (.getfield 25, 3) := dk_180 0 25 (dk_at dksX21_fires_8 21 rfl rfl)
theorem dX21_fires_206 : decode cX21_fires 206 = .ok (.iconst (-1), 1) := dk_2 (dk_at dksX21_fires_9 0 rfl rfl)
theorem dX21_fires_207 : decode cX21_fires 207 = .ok (.putfield 95, 3) := dk_181 0 95 (dk_at dksX21_fires_9 1 rfl rfl)
theorem dX21_fires_210 : decode cX21_fires 210 = .ok (.iload_n 2, 1) := dk_28 (dk_at dksX21_fires_9 4 rfl rfl)
theorem dX21_fires_211 : decode cX21_fires 211 = .ok (.ireturn, 1) := dk_172 (dk_at dksX21_fires_9 5 rfl rfl)
abbrev cX21_doStick : ByteArray := prog_7_method_2_code
def yX21_doStick : MethodName := ⟨RX21, "doStick", "(III)Z"⟩
def dkwX21_doStick_2 : List UInt8 := [42, 180, 0, 17, 28, 50, 29, 4, 96, 46, 42, 180, 0, 29, 182, 0, 68, 172]
abbrev dktX21_doStick_2 : List UInt8 := dkwX21_doStick_2 ++ []
def dkwX21_doStick_1 : List UInt8 := [180, 0, 17, 27, 50, 29, 46, 42, 180, 0, 3, 180, 0, 37, 180, 0, 41, 28, 182, 0, 46, 192, 0, 52]
abbrev dktX21_doStick_1 : List UInt8 := dkwX21_doStick_1 ++ dktX21_doStick_2
def dkwX21_doStick_0 : List UInt8 := [42, 180, 0, 3, 42, 180, 0, 3, 180, 0, 37, 180, 0, 41, 27, 182, 0, 46, 192, 0, 52, 42]
abbrev dktX21_doStick_0 : List UInt8 := dkwX21_doStick_0 ++ dktX21_doStick_1
theorem dksX21_doStick_0 : cX21_doStick.data.toList.drop 0 = dktX21_doStick_0 := by decide +kernel
theorem dksX21_doStick_1 : cX21_doStick.data.toList.drop 22 = dktX21_doStick_1 := dk_seg dksX21_doStick_0 22 rfl rfl
theorem dksX21_doStick_2 : cX21_doStick.data.toList.drop 46 = dktX21_doStick_2 := dk_seg dksX21_doStick_1 24 rfl rfl
theorem dX21_doStick_0 : decode cX21_doStick 0 = .ok (.aload_n 0, 1) := dk_42 (dk_at dksX21_doStick_0 0 rfl rfl)
theorem dX21_doStick_1 : decode cX21_doStick 1 = .ok (.getfield 3, 3) := dk_180 0 3 (dk_at dksX21_doStick_0 1 rfl rfl)
theorem dX21_doStick_4 : decode cX21_doStick 4 = .ok (.aload_n 0, 1) := dk_42 (dk_at dksX21_doStick_0 4 rfl rfl)
theorem dX21_doStick_5 : decode cX21_doStick 5 = .ok (.getfield 3, 3) := dk_180 0 3 (dk_at dksX21_doStick_0 5 rfl rfl)
theorem dX21_doStick_8 : decode cX21_doStick 8 = .ok (.getfield 37, 3) := dk_180 0 37 (dk_at dksX21_doStick_0 8 rfl rfl)
theorem dX21_doStick_11 : decode cX21_doStick 11 = .ok (.getfield 41, 3) := dk_180 0 41 (dk_at dksX21_doStick_0 11 rfl rfl)
theorem dX21_doStick_14 : decode cX21_doStick 14 = .ok (.iload_n 1, 1) := dk_27 (dk_at dksX21_doStick_0 14 rfl rfl)
theorem dX21_doStick_15 : decode cX21_doStick 15 = .ok (.invokevirtual 46, 3) := dk_182 0 46 (dk_at dksX21_doStick_0 15 rfl rfl)
theorem dX21_doStick_18 : decode cX21_doStick 18 = .ok (.checkcast 52, 3) := dk_192 0 52 (dk_at dksX21_doStick_0 18 rfl rfl)
theorem dX21_doStick_21 : decode cX21_doStick 21 = .ok (.aload_n 0, 1) := dk_42 (dk_at dksX21_doStick_0 21 rfl rfl)
theorem dX21_doStick_22 : decode cX21_doStick 22 = .ok (.getfield 17, 3) := dk_180 0 17 (dk_at dksX21_doStick_1 0 rfl rfl)
theorem dX21_doStick_25 : decode cX21_doStick 25 = .ok (.iload_n 1, 1) := dk_27 (dk_at dksX21_doStick_1 3 rfl rfl)
theorem dX21_doStick_26 : decode cX21_doStick 26 = .ok (.aaload, 1) := dk_50 (dk_at dksX21_doStick_1 4 rfl rfl)
theorem dX21_doStick_27 : decode cX21_doStick 27 = .ok (.iload_n 3, 1) := dk_29 (dk_at dksX21_doStick_1 5 rfl rfl)
theorem dX21_doStick_28 : decode cX21_doStick 28 = .ok (.iaload, 1) := dk_46 (dk_at dksX21_doStick_1 6 rfl rfl)
theorem dX21_doStick_29 : decode cX21_doStick 29 = .ok (.aload_n 0, 1) := dk_42 (dk_at dksX21_doStick_1 7 rfl rfl)
theorem dX21_doStick_30 : decode cX21_doStick 30 = .ok (.getfield 3, 3) := dk_180 0 3 (dk_at dksX21_doStick_1 8 rfl rfl)
theorem dX21_doStick_33 : decode cX21_doStick 33 = .ok (.getfield 37, 3) := dk_180 0 37 (dk_at dksX21_doStick_1 11 rfl rfl)
theorem dX21_doStick_36 : decode cX21_doStick 36 = .ok (.getfield 41, 3) := dk_180 0 41 (dk_at dksX21_doStick_1 14 rfl rfl)
theorem dX21_doStick_39 : decode cX21_doStick 39 = .ok (.iload_n 2, 1) := dk_28 (dk_at dksX21_doStick_1 17 rfl rfl)
theorem dX21_doStick_40 : decode cX21_doStick 40 = .ok (.invokevirtual 46, 3) := dk_182 0 46 (dk_at dksX21_doStick_1 18 rfl rfl)
theorem dX21_doStick_43 : decode cX21_doStick 43 = .ok (.checkcast 52, 3) := dk_192 0 52 (dk_at dksX21_doStick_1 21 rfl rfl)
theorem dX21_doStick_46 : decode cX21_doStick 46 = .ok (.aload_n 0, 1) := dk_42 (dk_at dksX21_doStick_2 0 rfl rfl)
theorem dX21_doStick_47 : decode cX21_doStick 47 = .ok (.getfield 17, 3) := dk_180 0 17 (dk_at dksX21_doStick_2 1 rfl rfl)
theorem dX21_doStick_50 : decode cX21_doStick 50 = .ok (.iload_n 2, 1) := dk_28 (dk_at dksX21_doStick_2 4 rfl rfl)
theorem dX21_doStick_51 : decode cX21_doStick 51 = .ok (.aaload, 1) := dk_50 (dk_at dksX21_doStick_2 5 rfl rfl)
theorem dX21_doStick_52 : decode cX21_doStick 52 = .ok (.iload_n 3, 1) := dk_29 (dk_at dksX21_doStick_2 6 rfl rfl)
theorem dX21_doStick_53 : decode cX21_doStick 53 = .ok (.iconst 1, 1) := dk_4 (dk_at dksX21_doStick_2 7 rfl rfl)
theorem dX21_doStick_54 : decode cX21_doStick 54 = .ok (.iadd, 1) := dk_96 (dk_at dksX21_doStick_2 8 rfl rfl)
theorem dX21_doStick_55 : decode cX21_doStick 55 = .ok (.iaload, 1) := dk_46 (dk_at dksX21_doStick_2 9 rfl rfl)
theorem dX21_doStick_56 : decode cX21_doStick 56 = .ok (.aload_n 0, 1) := dk_42 (dk_at dksX21_doStick_2 10 rfl rfl)
theorem dX21_doStick_57 : decode cX21_doStick 57 = .ok (.getfield 29, 3) := dk_180 0 29 (dk_at dksX21_doStick_2 11 rfl rfl)
theorem dX21_doStick_60 : decode cX21_doStick 60 = .ok (.invokevirtual 68, 3) := dk_182 0 68 (dk_at dksX21_doStick_2 14 rfl rfl)
theorem dX21_doStick_63 : decode cX21_doStick 63 = .ok (.ireturn, 1) := dk_172 (dk_at dksX21_doStick_2 17 rfl rfl)
abbrev cX21_isSafe : ByteArray := prog_7_method_3_code
def yX21_isSafe : MethodName := ⟨RX21, "isSafe", "()Z"⟩
def dkwX21_isSafe_4 : List UInt8 := [172, 132, 1, 1, 167, 255, 160, 4, 172]
abbrev dktX21_isSafe_4 : List UInt8 := dkwX21_isSafe_4 ++ []
def dkwX21_isSafe_3 : List UInt8 := [154, 0, 23, 45, 198, 0, 21, 42, 44, 180, 0, 76, 45, 180, 0, 76, 27, 182, 0, 79, 153, 0, 5, 3]
abbrev dktX21_isSafe_3 : List UInt8 := dkwX21_isSafe_3 ++ dktX21_isSafe_4
def dkwX21_isSafe_2 : List UInt8 := [167, 0, 4, 1, 78, 44, 199, 0, 6, 167, 0, 39, 42, 180, 0, 22, 44, 180, 0, 76, 50, 27, 51]
abbrev dktX21_isSafe_2 : List UInt8 := dkwX21_isSafe_2 ++ dktX21_isSafe_3
def dkwX21_isSafe_1 : List UInt8 := [4, 96, 42, 180, 0, 25, 180, 0, 55, 162, 0, 17, 42, 180, 0, 25, 180, 0, 72, 27, 4, 96, 50]
abbrev dktX21_isSafe_1 : List UInt8 := dkwX21_isSafe_1 ++ dktX21_isSafe_2
def dkwX21_isSafe_0 : List UInt8 := [3, 60, 27, 42, 180, 0, 25, 180, 0, 55, 162, 0, 91, 42, 180, 0, 25, 180, 0, 72, 27, 50, 77, 27]
abbrev dktX21_isSafe_0 : List UInt8 := dkwX21_isSafe_0 ++ dktX21_isSafe_1
theorem dksX21_isSafe_0 : cX21_isSafe.data.toList.drop 0 = dktX21_isSafe_0 := by decide +kernel
theorem dksX21_isSafe_1 : cX21_isSafe.data.toList.drop 24 = dktX21_isSafe_1 := dk_seg dksX21_isSafe_0 24 rfl rfl
theorem dksX21_isSafe_2 : cX21_isSafe.data.toList.drop 47 = dktX21_isSafe_2 := dk_seg dksX21_isSafe_1 23 rfl rfl
theorem dksX21_isSafe_3 : cX21_isSafe.data.toList.drop 70 = dktX21_isSafe_3 := dk_seg dksX21_isSafe_2 23 rfl rfl
theorem dksX21_isSafe_4 : cX21_isSafe.data.toList.drop 94 = dktX21_isSafe_4 := dk_seg dksX21_isSafe_3 24 rfl rfl
theorem dX21_isSafe_0 : decode cX21_isSafe 0 = .ok (.iconst 0, 1) := dk_3 (dk_at dksX21_isSafe_0 0 rfl rfl)
theorem dX21_isSafe_1 : decode cX21_isSafe 1 = .ok (.istore_n 1, 1) := dk_60 (dk_at dksX21_isSafe_0 1 rfl rfl)
theorem dX21_isSafe_2 : decode cX21_isSafe 2 = .ok (.iload_n 1, 1) := dk_27 (dk_at dksX21_isSafe_0 2 rfl rfl)
theorem dX21_isSafe_3 : decode cX21_isSafe 3 = .ok (.aload_n 0, 1) := dk_42 (dk_at dksX21_isSafe_0 3 rfl rfl)
theorem dX21_isSafe_4 : decode cX21_isSafe 4 = .ok (.getfield 25, 3) := dk_180 0 25 (dk_at dksX21_isSafe_0 4 rfl rfl)
theorem dX21_isSafe_7 : decode cX21_isSafe 7 = .ok (.getfield 55, 3) := dk_180 0 55 (dk_at dksX21_isSafe_0 7 rfl rfl)
theorem dX21_isSafe_10 : decode cX21_isSafe 10 = .ok (.if_icmp .ge 91, 3) := dk_162 0 91 (dk_at dksX21_isSafe_0 10 rfl rfl)
theorem dX21_isSafe_13 : decode cX21_isSafe 13 = .ok (.aload_n 0, 1) := dk_42 (dk_at dksX21_isSafe_0 13 rfl rfl)
theorem dX21_isSafe_14 : decode cX21_isSafe 14 = .ok (.getfield 25, 3) := dk_180 0 25 (dk_at dksX21_isSafe_0 14 rfl rfl)
theorem dX21_isSafe_17 : decode cX21_isSafe 17 = .ok (.getfield 72, 3) := dk_180 0 72 (dk_at dksX21_isSafe_0 17 rfl rfl)
theorem dX21_isSafe_20 : decode cX21_isSafe 20 = .ok (.iload_n 1, 1) := dk_27 (dk_at dksX21_isSafe_0 20 rfl rfl)
theorem dX21_isSafe_21 : decode cX21_isSafe 21 = .ok (.aaload, 1) := dk_50 (dk_at dksX21_isSafe_0 21 rfl rfl)
theorem dX21_isSafe_22 : decode cX21_isSafe 22 = .ok (.astore_n 2, 1) := dk_77 (dk_at dksX21_isSafe_0 22 rfl rfl)
theorem dX21_isSafe_23 : decode cX21_isSafe 23 = .ok (.iload_n 1, 1) := dk_27 (dk_at dksX21_isSafe_0 23 rfl rfl)
theorem dX21_isSafe_24 : decode cX21_isSafe 24 = .ok (.iconst 1, 1) := dk_4 (dk_at dksX21_isSafe_1 0 rfl rfl)
theorem dX21_isSafe_25 : decode cX21_isSafe 25 = .ok (.iadd, 1) := dk_96 (dk_at dksX21_isSafe_1 1 rfl rfl)
theorem dX21_isSafe_26 : decode cX21_isSafe 26 = .ok (.aload_n 0, 1) := dk_42 (dk_at dksX21_isSafe_1 2 rfl rfl)
theorem dX21_isSafe_27 : decode cX21_isSafe 27 = .ok (.getfield 25, 3) := dk_180 0 25 (dk_at dksX21_isSafe_1 3 rfl rfl)
theorem dX21_isSafe_30 : decode cX21_isSafe 30 = .ok (.getfield 55, 3) := dk_180 0 55 (dk_at dksX21_isSafe_1 6 rfl rfl)
theorem dX21_isSafe_33 : decode cX21_isSafe 33 = .ok (.if_icmp .ge 17, 3) := dk_162 0 17 (dk_at dksX21_isSafe_1 9 rfl rfl)
theorem dX21_isSafe_36 : decode cX21_isSafe 36 = .ok (.aload_n 0, 1) := dk_42 (dk_at dksX21_isSafe_1 12 rfl rfl)
theorem dX21_isSafe_37 : decode cX21_isSafe 37 = .ok (.getfield 25, 3) := dk_180 0 25 (dk_at dksX21_isSafe_1 13 rfl rfl)
theorem dX21_isSafe_40 : decode cX21_isSafe 40 = .ok (.getfield 72, 3) := dk_180 0 72 (dk_at dksX21_isSafe_1 16 rfl rfl)
theorem dX21_isSafe_43 : decode cX21_isSafe 43 = .ok (.iload_n 1, 1) := dk_27 (dk_at dksX21_isSafe_1 19 rfl rfl)
theorem dX21_isSafe_44 : decode cX21_isSafe 44 = .ok (.iconst 1, 1) := dk_4 (dk_at dksX21_isSafe_1 20 rfl rfl)
theorem dX21_isSafe_45 : decode cX21_isSafe 45 = .ok (.iadd, 1) := dk_96 (dk_at dksX21_isSafe_1 21 rfl rfl)
theorem dX21_isSafe_46 : decode cX21_isSafe 46 = .ok (.aaload, 1) := dk_50 (dk_at dksX21_isSafe_1 22 rfl rfl)
theorem dX21_isSafe_47 : decode cX21_isSafe 47 = .ok (.goto 4, 3) := dk_167 0 4 (dk_at dksX21_isSafe_2 0 rfl rfl)
theorem dX21_isSafe_50 : decode cX21_isSafe 50 = .ok (.aconst_null, 1) := dk_1 (dk_at dksX21_isSafe_2 3 rfl rfl)
theorem dX21_isSafe_51 : decode cX21_isSafe 51 = .ok (.astore_n 3, 1) := dk_78 (dk_at dksX21_isSafe_2 4 rfl rfl)
theorem dX21_isSafe_52 : decode cX21_isSafe 52 = .ok (.aload_n 2, 1) := dk_44 (dk_at dksX21_isSafe_2 5 rfl rfl)
theorem dX21_isSafe_53 : decode cX21_isSafe 53 = .ok (.ifnonnull 6, 3) := dk_199 0 6 (dk_at dksX21_isSafe_2 6 rfl rfl)
theorem dX21_isSafe_56 : decode cX21_isSafe 56 = .ok (.goto 39, 3) := dk_167 0 39 (dk_at dksX21_isSafe_2 9 rfl rfl)
theorem dX21_isSafe_59 : decode cX21_isSafe 59 = .ok (.aload_n 0, 1) := dk_42 (dk_at dksX21_isSafe_2 12 rfl rfl)
theorem dX21_isSafe_60 : decode cX21_isSafe 60 = .ok (.getfield 22, 3) := dk_180 0 22 (dk_at dksX21_isSafe_2 13 rfl rfl)
theorem dX21_isSafe_63 : decode cX21_isSafe 63 = .ok (.aload_n 2, 1) := dk_44 (dk_at dksX21_isSafe_2 16 rfl rfl)
theorem dX21_isSafe_64 : decode cX21_isSafe 64 = .ok (.getfield 76, 3) := dk_180 0 76 (dk_at dksX21_isSafe_2 17 rfl rfl)
theorem dX21_isSafe_67 : decode cX21_isSafe 67 = .ok (.aaload, 1) := dk_50 (dk_at dksX21_isSafe_2 20 rfl rfl)
theorem dX21_isSafe_68 : decode cX21_isSafe 68 = .ok (.iload_n 1, 1) := dk_27 (dk_at dksX21_isSafe_2 21 rfl rfl)
theorem dX21_isSafe_69 : decode cX21_isSafe 69 = .ok (.baload, 1) := dk_51 (dk_at dksX21_isSafe_2 22 rfl rfl)
theorem dX21_isSafe_70 : decode cX21_isSafe 70 = .ok (.ifCond .ne 23, 3) := dk_154 0 23 (dk_at dksX21_isSafe_3 0 rfl rfl)
theorem dX21_isSafe_73 : decode cX21_isSafe 73 = .ok (.aload_n 3, 1) := dk_45 (dk_at dksX21_isSafe_3 3 rfl rfl)
theorem dX21_isSafe_74 : decode cX21_isSafe 74 = .ok (.ifnull 21, 3) := dk_198 0 21 (dk_at dksX21_isSafe_3 4 rfl rfl)
theorem dX21_isSafe_77 : decode cX21_isSafe 77 = .ok (.aload_n 0, 1) := dk_42 (dk_at dksX21_isSafe_3 7 rfl rfl)
theorem dX21_isSafe_78 : decode cX21_isSafe 78 = .ok (.aload_n 2, 1) := dk_44 (dk_at dksX21_isSafe_3 8 rfl rfl)
theorem dX21_isSafe_79 : decode cX21_isSafe 79 = .ok (.getfield 76, 3) := dk_180 0 76 (dk_at dksX21_isSafe_3 9 rfl rfl)
theorem dX21_isSafe_82 : decode cX21_isSafe 82 = .ok (.aload_n 3, 1) := dk_45 (dk_at dksX21_isSafe_3 12 rfl rfl)
theorem dX21_isSafe_83 : decode cX21_isSafe 83 = .ok (.getfield 76, 3) := dk_180 0 76 (dk_at dksX21_isSafe_3 13 rfl rfl)
theorem dX21_isSafe_86 : decode cX21_isSafe 86 = .ok (.iload_n 1, 1) := dk_27 (dk_at dksX21_isSafe_3 16 rfl rfl)
theorem dX21_isSafe_87 : decode cX21_isSafe 87 = .ok (.invokevirtual 79, 3) := dk_182 0 79 (dk_at dksX21_isSafe_3 17 rfl rfl)
theorem dX21_isSafe_90 : decode cX21_isSafe 90 = .ok (.ifCond .eq 5, 3) := dk_153 0 5 (dk_at dksX21_isSafe_3 20 rfl rfl)
theorem dX21_isSafe_93 : decode cX21_isSafe 93 = .ok (.iconst 0, 1) := dk_3 (dk_at dksX21_isSafe_3 23 rfl rfl)
theorem dX21_isSafe_94 : decode cX21_isSafe 94 = .ok (.ireturn, 1) := dk_172 (dk_at dksX21_isSafe_4 0 rfl rfl)
theorem dX21_isSafe_95 : decode cX21_isSafe 95 = .ok (.iinc 1 1, 3) := dk_132 1 1 (dk_at dksX21_isSafe_4 1 rfl rfl)
theorem dX21_isSafe_98 : decode cX21_isSafe 98 = .ok (.goto (-96), 3) := dk_167 255 160 (dk_at dksX21_isSafe_4 4 rfl rfl)
theorem dX21_isSafe_101 : decode cX21_isSafe 101 = .ok (.iconst 1, 1) := dk_4 (dk_at dksX21_isSafe_4 7 rfl rfl)
theorem dX21_isSafe_102 : decode cX21_isSafe 102 = .ok (.ireturn, 1) := dk_172 (dk_at dksX21_isSafe_4 8 rfl rfl)
theorem q115 : (Jvm.Cond.initialized "KilnBench$Bench") ∈ lw_all := lw_g (lw_at lw_m1 39 rfl) rfl
theorem q179 : (Jvm.Cond.fieldLink "KilnBench$Bench" (41 : Nat) "KilnBench$Town" "children" "Ljava/util/ArrayList;") ∈ lw_all := lw_g (lw_at lw_m1 103 rfl) rfl
theorem q230 : (Jvm.Cond.fieldLinkNest "KilnBench$Bench" (37 : Nat) "KilnBench" "land" "LKilnBench$Town;" "KilnBench") ∈ lw_tbl := lw_at lw_m1 154 rfl
theorem q625 : (Jvm.Cond.fieldLink "KilnBench$Bench" (85 : Nat) "KilnBench$Child" "temper" "I") ∈ lw_all := lw_g (lw_at lw_m3 69 rfl) rfl
theorem q628 : (Jvm.Cond.fieldLink "KilnBench$Bench" (82 : Nat) "KilnBench$Child" "stuck" "I") ∈ lw_all := lw_g (lw_at lw_m3 72 rfl) rfl
theorem q631 : (Jvm.Cond.fieldLink "KilnBench$Bench" (54 : Nat) "KilnBench$Child" "kiln" "LKilnBench$Kiln;") ∈ lw_all := lw_g (lw_at lw_m3 75 rfl) rfl
theorem q635 : (Jvm.Cond.fieldLink "KilnBench$Bench" (88 : Nat) "KilnBench$Child" "isCracked" "Z") ∈ lw_all := lw_g (lw_at lw_m3 79 rfl) rfl
theorem q642 : (Jvm.Cond.fieldLink "KilnBench$Bench" (76 : Nat) "KilnBench$Child" "number" "I") ∈ lw_all := lw_g (lw_at lw_m3 86 rfl) rfl
theorem q715 : (Jvm.Cond.selects "KilnBench$Bench" ({ cls := "java/lang/Object", name := "getClass", desc := "()Ljava/lang/Class;" } : Jvm.MethodName) ({ cls := "java/lang/Object", name := "getClass", desc := "()Ljava/lang/Class;" } : Jvm.MethodName)) ∈ lw_all := lw_g (lw_at lw_m3 159 rfl) rfl
theorem q762 : (Jvm.Cond.fieldLink "KilnBench$Bench" (55 : Nat) "KilnBench$Kiln" "room" "I") ∈ lw_all := lw_g (lw_at lw_m3 206 rfl) rfl
theorem q769 : (Jvm.Cond.fieldLink "KilnBench$Bench" (95 : Nat) "KilnBench$Kiln" "heat" "I") ∈ lw_all := lw_g (lw_at lw_m3 213 rfl) rfl
theorem q772 : (Jvm.Cond.fieldLink "KilnBench$Bench" (72 : Nat) "KilnBench$Kiln" "places" "[LKilnBench$Child;") ∈ lw_all := lw_g (lw_at lw_m3 216 rfl) rfl
theorem q1668 : (Jvm.Cond.instantiable "KilnBench$Bench" (5 : Nat)) ∈ lw_all := lw_g (lw_at lw_m7 152 rfl) rfl
theorem q1670 : (Jvm.Cond.instanceMethod ({ cls := "KilnBench$Bench", name := "<init>", desc := "(LKilnBench;LKilnBench$Kiln;I)V" } : Jvm.MethodName)) ∈ lw_all := lw_g (lw_at lw_m7 154 rfl) rfl
theorem q1671 : (Jvm.Cond.code ({ cls := "KilnBench$Bench", name := "<init>", desc := "(LKilnBench;LKilnBench$Kiln;I)V" } : Jvm.MethodName) prog_7_method_1_code (7 : Nat) (Option.none : Option Jvm.ClassFile.FieldType)) ∈ lw_all := lw_g (lw_at lw_m7 155 rfl) rfl
theorem q1672 : (Jvm.Cond.methodLink "KilnBench$Bench" (9 : Nat) ({ cls := "java/lang/Object", name := "<init>", desc := "()V" } : Jvm.MethodName)) ∈ lw_all := lw_g (lw_at lw_m7 156 rfl) rfl
theorem q1673 : (Jvm.Cond.classLink "KilnBench$Bench" (15 : Nat) "[[I") ∈ lw_all := lw_g (lw_at lw_m7 157 rfl) rfl
theorem q1674 : (Jvm.Cond.classLink "KilnBench$Bench" (20 : Nat) "[[Z") ∈ lw_all := lw_g (lw_at lw_m7 158 rfl) rfl
theorem q1676 : (Jvm.Cond.methodLinkNest "KilnBench$Bench" (33 : Nat) ({ cls := "KilnBench", name := "children", desc := "()I" } : Jvm.MethodName) "KilnBench") ∈ lw_tbl := lw_at lw_m7 160 rfl
theorem q1677 : (Jvm.Cond.methodLink "KilnBench$Bench" (46 : Nat) ({ cls := "java/util/ArrayList", name := "get", desc := "(I)Ljava/lang/Object;" } : Jvm.MethodName)) ∈ lw_all := lw_g (lw_at lw_m7 161 rfl) rfl
theorem q1678 : (Jvm.Cond.classLink "KilnBench$Bench" (52 : Nat) "KilnBench$Child") ∈ lw_all := lw_g (lw_at lw_m7 162 rfl) rfl
theorem q1679 : (Jvm.Cond.methodLinkNest "KilnBench$Bench" (60 : Nat) ({ cls := "KilnBench", name := "temperOf", desc := "(LKilnBench$Child;II)I" } : Jvm.MethodName) "KilnBench") ∈ lw_tbl := lw_at lw_m7 163 rfl
theorem q1680 : (Jvm.Cond.methodLinkNest "KilnBench$Bench" (64 : Nat) ({ cls := "KilnBench", name := "doesCrack", desc := "(LKilnBench$Child;II)Z" } : Jvm.MethodName) "KilnBench") ∈ lw_tbl := lw_at lw_m7 164 rfl
theorem q1681 : (Jvm.Cond.fieldLink "KilnBench$Bench" (25 : Nat) "KilnBench$Bench" "kiln" "LKilnBench$Kiln;") ∈ lw_all := lw_g (lw_at lw_m7 165 rfl) rfl
theorem q1682 : (Jvm.Cond.fieldLink "KilnBench$Bench" (29 : Nat) "KilnBench$Bench" "heat" "I") ∈ lw_all := lw_g (lw_at lw_m7 166 rfl) rfl
theorem q1684 : (Jvm.Cond.fieldLink "KilnBench$Bench" (17 : Nat) "KilnBench$Bench" "tempers" "[[I") ∈ lw_all := lw_g (lw_at lw_m7 168 rfl) rfl
theorem q1686 : (Jvm.Cond.fieldLink "KilnBench$Bench" (22 : Nat) "KilnBench$Bench" "cracks" "[[Z") ∈ lw_all := lw_g (lw_at lw_m7 170 rfl) rfl
theorem q1688 : (Jvm.Cond.fieldLink "KilnBench$Bench" (3 : Nat) "KilnBench$Bench" "this$0" "LKilnBench;") ∈ lw_all := lw_g (lw_at lw_m7 172 rfl) rfl
theorem q1689 : (Jvm.Cond.laysFinal "KilnBench$Bench" "KilnBench$Bench" "kiln" "LKilnBench$Kiln;") ∈ lw_all := lw_g (lw_at lw_m7 173 rfl) rfl
theorem q1690 : (Jvm.Cond.soleField "KilnBench$Bench" "kiln") ∈ lw_all := lw_g (lw_at lw_m7 174 rfl) rfl
theorem q1691 : (Jvm.Cond.laysFinal "KilnBench$Bench" "KilnBench$Bench" "heat" "I") ∈ lw_all := lw_g (lw_at lw_m7 175 rfl) rfl
theorem q1692 : (Jvm.Cond.soleField "KilnBench$Bench" "heat") ∈ lw_all := lw_g (lw_at lw_m7 176 rfl) rfl
theorem q1693 : (Jvm.Cond.laysFinal "KilnBench$Bench" "KilnBench$Bench" "tempers" "[[I") ∈ lw_all := lw_g (lw_at lw_m7 177 rfl) rfl
theorem q1694 : (Jvm.Cond.soleField "KilnBench$Bench" "tempers") ∈ lw_all := lw_g (lw_at lw_m7 178 rfl) rfl
theorem q1695 : (Jvm.Cond.laysFinal "KilnBench$Bench" "KilnBench$Bench" "cracks" "[[Z") ∈ lw_all := lw_g (lw_at lw_m7 179 rfl) rfl
theorem q1696 : (Jvm.Cond.soleField "KilnBench$Bench" "cracks") ∈ lw_all := lw_g (lw_at lw_m7 180 rfl) rfl
theorem q1697 : (Jvm.Cond.laysFinal "KilnBench$Bench" "KilnBench$Bench" "this$0" "LKilnBench;") ∈ lw_all := lw_g (lw_at lw_m7 181 rfl) rfl
theorem q1698 : (Jvm.Cond.soleField "KilnBench$Bench" "this$0") ∈ lw_all := lw_g (lw_at lw_m7 182 rfl) rfl
theorem q1699 : (Jvm.Cond.superclass "KilnBench$Bench" "java/lang/Object") ∈ lw_all := lw_g (lw_at lw_m7 183 rfl) rfl
theorem q1701 : (Jvm.Cond.instanceMethod ({ cls := "KilnBench$Bench", name := "fires", desc := "()I" } : Jvm.MethodName)) ∈ lw_all := lw_g (lw_at lw_m7 185 rfl) rfl
theorem q1702 : (Jvm.Cond.selects "KilnBench$Bench" ({ cls := "KilnBench$Bench", name := "fires", desc := "()I" } : Jvm.MethodName) ({ cls := "KilnBench$Bench", name := "fires", desc := "()I" } : Jvm.MethodName)) ∈ lw_all := lw_g (lw_at lw_m7 186 rfl) rfl
theorem q1703 : (Jvm.Cond.code ({ cls := "KilnBench$Bench", name := "fires", desc := "()I" } : Jvm.MethodName) prog_7_method_4_code (6 : Nat) (Option.some Jvm.ClassFile.FieldType.int)) ∈ lw_all := lw_g (lw_at lw_m7 187 rfl) rfl
theorem q1704 : (Jvm.Cond.methodLink "KilnBench$Bench" (79 : Nat) ({ cls := "KilnBench$Bench", name := "doStick", desc := "(III)Z" } : Jvm.MethodName)) ∈ lw_all := lw_g (lw_at lw_m7 188 rfl) rfl
theorem q1705 : (Jvm.Cond.instanceMethod ({ cls := "KilnBench$Bench", name := "doStick", desc := "(III)Z" } : Jvm.MethodName)) ∈ lw_all := lw_g (lw_at lw_m7 189 rfl) rfl
theorem q1706 : (Jvm.Cond.selects "KilnBench$Bench" ({ cls := "KilnBench$Bench", name := "doStick", desc := "(III)Z" } : Jvm.MethodName) ({ cls := "KilnBench$Bench", name := "doStick", desc := "(III)Z" } : Jvm.MethodName)) ∈ lw_all := lw_g (lw_at lw_m7 190 rfl) rfl
theorem q1707 : (Jvm.Cond.code ({ cls := "KilnBench$Bench", name := "doStick", desc := "(III)Z" } : Jvm.MethodName) prog_7_method_2_code (4 : Nat) (Option.some Jvm.ClassFile.FieldType.boolean)) ∈ lw_all := lw_g (lw_at lw_m7 191 rfl) rfl
theorem q1708 : (Jvm.Cond.methodLinkNest "KilnBench$Bench" (68 : Nat) ({ cls := "KilnBench", name := "doStick", desc := "(LKilnBench$Child;ILKilnBench$Child;II)Z" } : Jvm.MethodName) "KilnBench") ∈ lw_tbl := lw_at lw_m7 192 rfl
theorem q1715 : (Jvm.Cond.methodLink "KilnBench$Bench" (92 : Nat) ({ cls := "KilnBench$Child", name := "goesOut", desc := "()V" } : Jvm.MethodName)) ∈ lw_all := lw_g (lw_at lw_m7 199 rfl) rfl
theorem q1876 : (Jvm.Cond.instanceMethod ({ cls := "KilnBench$Bench", name := "isSafe", desc := "()Z" } : Jvm.MethodName)) ∈ lw_all := lw_g (lw_at lw_m8 120 rfl) rfl
theorem q1877 : (Jvm.Cond.selects "KilnBench$Bench" ({ cls := "KilnBench$Bench", name := "isSafe", desc := "()Z" } : Jvm.MethodName) ({ cls := "KilnBench$Bench", name := "isSafe", desc := "()Z" } : Jvm.MethodName)) ∈ lw_all := lw_g (lw_at lw_m8 121 rfl) rfl
theorem q1878 : (Jvm.Cond.code ({ cls := "KilnBench$Bench", name := "isSafe", desc := "()Z" } : Jvm.MethodName) prog_7_method_3_code (4 : Nat) (Option.some Jvm.ClassFile.FieldType.boolean)) ∈ lw_all := lw_g (lw_at lw_m8 122 rfl) rfl
theorem q2191 : (Jvm.Cond.castable "KilnBench$Bench" "java/lang/Object") ∈ lw_tbl := lw_at lw_m9 195 rfl
theorem in_X21 : ∀ w ∈ wsX210, w ∈ lw_all := lw_in wsX210 [1689, 1691, 1693, 1695, 1697] (by decide +kernel) (by decide +kernel)

/-! KilnBench$Settings -/
set_option maxRecDepth 100000
def RX22 : String := "KilnBench$Settings"
def TX22 : u_T := fun k => match k with
  | 0 => ("KilnBench$Settings", "kiln", "LKilnBench$Kiln;", true)
  | 1 => ("KilnBench$Settings", "row", "[I", true)
  | 2 => ("KilnBench$Settings", "best", "[I", true)
  | 3 => ("KilnBench$Settings", "all", "I", false)
  | 4 => ("KilnBench$Settings", "heat", "I", false)
  | 5 => ("KilnBench$Settings", "most", "I", false)
  | _ => ("KilnBench$Settings", "this$0", "LKilnBench;", true)
def tyX22 : Nat → FieldType := fun k => match k with
  | 0 => .object "KilnBench$Kiln"
  | 1 => .array .int
  | 2 => .array .int
  | 3 => .int
  | 4 => .int
  | 5 => .int
  | _ => .object "KilnBench"
abbrev wsX220 : List Cond := u_ws RX22 TX22 7
theorem nmX22 : ∀ a, a < 7 → ∀ b, b < 7 → a ≠ b → (TX22 a).2.1 ≠ (TX22 b).2.1 := by decide +kernel
theorem tyX22_ok : ∀ k, k < 7 → parseFieldDescriptor (TX22 k).2.2.1 = some (tyX22 k) := by decide +kernel
abbrev cX22_init : ByteArray := prog_20_method_1_code
def yX22_init : MethodName := ⟨RX22, "<init>", "(LKilnBench;LKilnBench$Kiln;)V"⟩
def dkwX22_init_5 : List UInt8 := [180, 0, 63, 44, 182, 0, 68, 100, 3, 182, 0, 71, 132, 3, 1, 167, 255, 218, 177]
abbrev dktX22_init_5 : List UInt8 := dkwX22_init_5 ++ []
def dkwX22_init_4 : List UInt8 := [16, 20, 163, 0, 38, 42, 187, 0, 58, 89, 43, 44, 29, 183, 0, 60, 3, 42, 180, 0, 55, 44]
abbrev dktX22_init_4 : List UInt8 := dkwX22_init_4 ++ dktX22_init_5
def dkwX22_init_3 : List UInt8 := [166, 0, 15, 42, 89, 180, 0, 55, 4, 29, 120, 128, 181, 0, 55, 132, 3, 1, 167, 255, 212, 3, 62, 29]
abbrev dktX22_init_3 : List UInt8 := dkwX22_init_3 ++ dktX22_init_4
def dkwX22_init_2 : List UInt8 := [182, 0, 33, 162, 0, 42, 43, 180, 0, 37, 180, 0, 41, 29, 182, 0, 46, 192, 0, 52, 180, 0, 54, 44]
abbrev dktX22_init_2 : List UInt8 := dkwX22_init_2 ++ dktX22_init_3
def dkwX22_init_1 : List UInt8 := [181, 0, 19, 42, 2, 181, 0, 22, 42, 2, 181, 0, 26, 42, 44, 181, 0, 29, 3, 62, 29, 43]
abbrev dktX22_init_1 : List UInt8 := dkwX22_init_1 ++ dktX22_init_2
def dkwX22_init_0 : List UInt8 := [42, 43, 181, 0, 3, 42, 183, 0, 9, 42, 16, 6, 188, 10, 181, 0, 15, 42, 16, 6, 188, 10]
abbrev dktX22_init_0 : List UInt8 := dkwX22_init_0 ++ dktX22_init_1
theorem dksX22_init_0 : cX22_init.data.toList.drop 0 = dktX22_init_0 := by decide +kernel
theorem dksX22_init_1 : cX22_init.data.toList.drop 22 = dktX22_init_1 := dk_seg dksX22_init_0 22 rfl rfl
theorem dksX22_init_2 : cX22_init.data.toList.drop 44 = dktX22_init_2 := dk_seg dksX22_init_1 22 rfl rfl
theorem dksX22_init_3 : cX22_init.data.toList.drop 68 = dktX22_init_3 := dk_seg dksX22_init_2 24 rfl rfl
theorem dksX22_init_4 : cX22_init.data.toList.drop 92 = dktX22_init_4 := dk_seg dksX22_init_3 24 rfl rfl
theorem dksX22_init_5 : cX22_init.data.toList.drop 114 = dktX22_init_5 := dk_seg dksX22_init_4 22 rfl rfl
theorem dX22_init_0 : decode cX22_init 0 = .ok (.aload_n 0, 1) := dk_42 (dk_at dksX22_init_0 0 rfl rfl)
theorem dX22_init_1 : decode cX22_init 1 = .ok (.aload_n 1, 1) := dk_43 (dk_at dksX22_init_0 1 rfl rfl)
theorem dX22_init_2 : decode cX22_init 2 = .ok (.putfield 3, 3) := dk_181 0 3 (dk_at dksX22_init_0 2 rfl rfl)
theorem dX22_init_5 : decode cX22_init 5 = .ok (.aload_n 0, 1) := dk_42 (dk_at dksX22_init_0 5 rfl rfl)
theorem dX22_init_6 : decode cX22_init 6 = .ok (.invokespecial 9, 3) := dk_183 0 9 (dk_at dksX22_init_0 6 rfl rfl)
theorem dX22_init_9 : decode cX22_init 9 = .ok (.aload_n 0, 1) := dk_42 (dk_at dksX22_init_0 9 rfl rfl)
theorem dX22_init_10 : decode cX22_init 10 = .ok (.bipush 6, 2) := dk_16 6 (dk_at dksX22_init_0 10 rfl rfl)
theorem dX22_init_12 : decode cX22_init 12 = .ok (.newarray .int, 2) := dk_188_10 (dk_at dksX22_init_0 12 rfl rfl)
theorem dX22_init_14 : decode cX22_init 14 = .ok (.putfield 15, 3) := dk_181 0 15 (dk_at dksX22_init_0 14 rfl rfl)
theorem dX22_init_17 : decode cX22_init 17 = .ok (.aload_n 0, 1) := dk_42 (dk_at dksX22_init_0 17 rfl rfl)
theorem dX22_init_18 : decode cX22_init 18 = .ok (.bipush 6, 2) := dk_16 6 (dk_at dksX22_init_0 18 rfl rfl)
theorem dX22_init_20 : decode cX22_init 20 = .ok (.newarray .int, 2) := dk_188_10 (dk_at dksX22_init_0 20 rfl rfl)
theorem dX22_init_22 : decode cX22_init 22 = .ok (.putfield 19, 3) := dk_181 0 19 (dk_at dksX22_init_1 0 rfl rfl)
theorem dX22_init_25 : decode cX22_init 25 = .ok (.aload_n 0, 1) := dk_42 (dk_at dksX22_init_1 3 rfl rfl)
theorem dX22_init_26 : decode cX22_init 26 = .ok (.iconst (-1), 1) := dk_2 (dk_at dksX22_init_1 4 rfl rfl)
theorem dX22_init_27 : decode cX22_init 27 = .ok (.putfield 22, 3) := dk_181 0 22 (dk_at dksX22_init_1 5 rfl rfl)
theorem dX22_init_30 : decode cX22_init 30 = .ok (.aload_n 0, 1) := dk_42 (dk_at dksX22_init_1 8 rfl rfl)
theorem dX22_init_31 : decode cX22_init 31 = .ok (.iconst (-1), 1) := dk_2 (dk_at dksX22_init_1 9 rfl rfl)
theorem dX22_init_32 : decode cX22_init 32 = .ok (.putfield 26, 3) := dk_181 0 26 (dk_at dksX22_init_1 10 rfl rfl)
theorem dX22_init_35 : decode cX22_init 35 = .ok (.aload_n 0, 1) := dk_42 (dk_at dksX22_init_1 13 rfl rfl)
theorem dX22_init_36 : decode cX22_init 36 = .ok (.aload_n 2, 1) := dk_44 (dk_at dksX22_init_1 14 rfl rfl)
theorem dX22_init_37 : decode cX22_init 37 = .ok (.putfield 29, 3) := dk_181 0 29 (dk_at dksX22_init_1 15 rfl rfl)
theorem dX22_init_40 : decode cX22_init 40 = .ok (.iconst 0, 1) := dk_3 (dk_at dksX22_init_1 18 rfl rfl)
theorem dX22_init_41 : decode cX22_init 41 = .ok (.istore_n 3, 1) := dk_62 (dk_at dksX22_init_1 19 rfl rfl)
theorem dX22_init_42 : decode cX22_init 42 = .ok (.iload_n 3, 1) := dk_29 (dk_at dksX22_init_1 20 rfl rfl)
theorem dX22_init_43 : decode cX22_init 43 = .ok (.aload_n 1, 1) := dk_43 (dk_at dksX22_init_1 21 rfl rfl)
theorem dX22_init_44 : decode cX22_init 44 = .ok (.invokevirtual 33, 3) := dk_182 0 33 (dk_at dksX22_init_2 0 rfl rfl)
theorem dX22_init_47 : decode cX22_init 47 = .ok (.if_icmp .ge 42, 3) := dk_162 0 42 (dk_at dksX22_init_2 3 rfl rfl)
theorem dX22_init_50 : decode cX22_init 50 = .ok (.aload_n 1, 1) := dk_43 (dk_at dksX22_init_2 6 rfl rfl)
theorem dX22_init_51 : decode cX22_init 51 = .ok (.getfield 37, 3) := dk_180 0 37 (dk_at dksX22_init_2 7 rfl rfl)
theorem dX22_init_54 : decode cX22_init 54 = .ok (.getfield 41, 3) := dk_180 0 41 (dk_at dksX22_init_2 10 rfl rfl)
theorem dX22_init_57 : decode cX22_init 57 = .ok (.iload_n 3, 1) := dk_29 (dk_at dksX22_init_2 13 rfl rfl)
theorem dX22_init_58 : decode cX22_init 58 = .ok (.invokevirtual 46, 3) := dk_182 0 46 (dk_at dksX22_init_2 14 rfl rfl)
theorem dX22_init_61 : decode cX22_init 61 = .ok (.checkcast 52, 3) := dk_192 0 52 (dk_at dksX22_init_2 17 rfl rfl)
theorem dX22_init_64 : decode cX22_init 64 = .ok (.getfield 54, 3) := dk_180 0 54 (dk_at dksX22_init_2 20 rfl rfl)
theorem dX22_init_67 : decode cX22_init 67 = .ok (.aload_n 2, 1) := dk_44 (dk_at dksX22_init_2 23 rfl rfl)
theorem dX22_init_68 : decode cX22_init 68 = .ok (.if_acmp .ne 15, 3) := dk_166 0 15 (dk_at dksX22_init_3 0 rfl rfl)
theorem dX22_init_71 : decode cX22_init 71 = .ok (.aload_n 0, 1) := dk_42 (dk_at dksX22_init_3 3 rfl rfl)
theorem dX22_init_72 : decode cX22_init 72 = .ok (.dup, 1) := dk_89 (dk_at dksX22_init_3 4 rfl rfl)
theorem dX22_init_73 : decode cX22_init 73 = .ok (.getfield 55, 3) := dk_180 0 55 (dk_at dksX22_init_3 5 rfl rfl)
theorem dX22_init_76 : decode cX22_init 76 = .ok (.iconst 1, 1) := dk_4 (dk_at dksX22_init_3 8 rfl rfl)
theorem dX22_init_77 : decode cX22_init 77 = .ok (.iload_n 3, 1) := dk_29 (dk_at dksX22_init_3 9 rfl rfl)
theorem dX22_init_78 : decode cX22_init 78 = .ok (.ishl, 1) := dk_120 (dk_at dksX22_init_3 10 rfl rfl)
theorem dX22_init_79 : decode cX22_init 79 = .ok (.ior, 1) := dk_128 (dk_at dksX22_init_3 11 rfl rfl)
theorem dX22_init_80 : decode cX22_init 80 = .ok (.putfield 55, 3) := dk_181 0 55 (dk_at dksX22_init_3 12 rfl rfl)
theorem dX22_init_83 : decode cX22_init 83 = .ok (.iinc 3 1, 3) := dk_132 3 1 (dk_at dksX22_init_3 15 rfl rfl)
theorem dX22_init_86 : decode cX22_init 86 = .ok (.goto (-44), 3) := dk_167 255 212 (dk_at dksX22_init_3 18 rfl rfl)
theorem dX22_init_89 : decode cX22_init 89 = .ok (.iconst 0, 1) := dk_3 (dk_at dksX22_init_3 21 rfl rfl)
theorem dX22_init_90 : decode cX22_init 90 = .ok (.istore_n 3, 1) := dk_62 (dk_at dksX22_init_3 22 rfl rfl)
theorem dX22_init_91 : decode cX22_init 91 = .ok (.iload_n 3, 1) := dk_29 (dk_at dksX22_init_3 23 rfl rfl)
theorem dX22_init_92 : decode cX22_init 92 = .ok (.bipush 20, 2) := dk_16 20 (dk_at dksX22_init_4 0 rfl rfl)
theorem dX22_init_94 : decode cX22_init 94 = .ok (.if_icmp .gt 38, 3) := dk_163 0 38 (dk_at dksX22_init_4 2 rfl rfl)
theorem dX22_init_97 : decode cX22_init 97 = .ok (.aload_n 0, 1) := dk_42 (dk_at dksX22_init_4 5 rfl rfl)
theorem dX22_init_98 : decode cX22_init 98 = .ok (.new 58, 3) := dk_187 0 58 (dk_at dksX22_init_4 6 rfl rfl)
theorem dX22_init_101 : decode cX22_init 101 = .ok (.dup, 1) := dk_89 (dk_at dksX22_init_4 9 rfl rfl)
theorem dX22_init_102 : decode cX22_init 102 = .ok (.aload_n 1, 1) := dk_43 (dk_at dksX22_init_4 10 rfl rfl)
theorem dX22_init_103 : decode cX22_init 103 = .ok (.aload_n 2, 1) := dk_44 (dk_at dksX22_init_4 11 rfl rfl)
theorem dX22_init_104 : decode cX22_init 104 = .ok (.iload_n 3, 1) := dk_29 (dk_at dksX22_init_4 12 rfl rfl)
theorem dX22_init_105 : decode cX22_init 105 = .ok (.invokespecial 60, 3) := dk_183 0 60 (dk_at dksX22_init_4 13 rfl rfl)
theorem dX22_init_108 : decode cX22_init 108 = .ok (.iconst 0, 1) := dk_3 (dk_at dksX22_init_4 16 rfl rfl)
theorem dX22_init_109 : decode cX22_init 109 = .ok (.aload_n 0, 1) := dk_42 (dk_at dksX22_init_4 17 rfl rfl)
theorem dX22_init_110 : decode cX22_init 110 = .ok (.getfield 55, 3) := dk_180 0 55 (dk_at dksX22_init_4 18 rfl rfl)
theorem dX22_init_113 : decode cX22_init 113 = .ok (.aload_n 2, 1) := dk_44 (dk_at dksX22_init_4 21 rfl rfl)
theorem dX22_init_114 : decode cX22_init 114 = .ok (.getfield 63, 3) := dk_180 0 63 (dk_at dksX22_init_5 0 rfl rfl)
theorem dX22_init_117 : decode cX22_init 117 = .ok (.aload_n 2, 1) := dk_44 (dk_at dksX22_init_5 3 rfl rfl)
theorem dX22_init_118 : decode cX22_init 118 = .ok (.invokevirtual 68, 3) := dk_182 0 68 (dk_at dksX22_init_5 4 rfl rfl)
theorem dX22_init_121 : decode cX22_init 121 = .ok (.isub, 1) := dk_100 (dk_at dksX22_init_5 7 rfl rfl)
theorem dX22_init_122 : decode cX22_init 122 = .ok (.iconst 0, 1) := dk_3 (dk_at dksX22_init_5 8 rfl rfl)
theorem dX22_init_123 : decode cX22_init 123 = .ok (.invokevirtual 71, 3) := dk_182 0 71 (dk_at dksX22_init_5 9 rfl rfl)
theorem dX22_init_126 : decode cX22_init 126 = .ok (.iinc 3 1, 3) := dk_132 3 1 (dk_at dksX22_init_5 12 rfl rfl)
theorem dX22_init_129 : decode cX22_init 129 = .ok (.goto (-38), 3) := dk_167 255 218 (dk_at dksX22_init_5 15 rfl rfl)
theorem dX22_init_132 : decode cX22_init 132 = .ok (.return_, 1) := dk_177 (dk_at dksX22_init_5 18 rfl rfl)
abbrev cX22_tries : ByteArray := prog_20_method_2_code
def yX22_tries : MethodName := ⟨RX22, "tries", "(LKilnBench$Bench;IIII)V"⟩
def dkwX22_tries_8 : List UInt8 := [21, 4, 21, 5, 43, 180, 0, 84, 21, 6, 50, 28, 46, 96, 182, 0, 71, 132, 6, 1, 167, 255, 143, 177]
abbrev dktX22_tries_8 : List UInt8 := dkwX22_tries_8 ++ []
def dkwX22_tries_7 : List UInt8 := [167, 0, 41, 42, 180, 0, 15, 28, 21, 6, 79, 42, 43, 28, 4, 96, 29, 4, 21, 6, 120, 2, 130, 126]
abbrev dktX22_tries_7 : List UInt8 := dkwX22_tries_7 ++ dktX22_tries_8
def dkwX22_tries_6 : List UInt8 := [159, 0, 26, 43, 42, 180, 0, 15, 28, 4, 100, 46, 21, 6, 28, 4, 100, 182, 0, 80, 153, 0, 6]
abbrev dktX22_tries_6 : List UInt8 := dkwX22_tries_6 ++ dktX22_tries_7
def dkwX22_tries_5 : List UInt8 := [180, 0, 76, 21, 6, 50, 28, 51, 154, 0, 80, 28, 158, 0, 38, 42, 180, 0, 15, 28, 4, 100, 46, 2]
abbrev dktX22_tries_5 : List UInt8 := dkwX22_tries_5 ++ dktX22_tries_6
def dkwX22_tries_4 : List UInt8 := [21, 6, 42, 180, 0, 3, 182, 0, 33, 162, 0, 107, 29, 21, 6, 122, 4, 126, 153, 0, 92, 43]
abbrev dktX22_tries_4 : List UInt8 := dkwX22_tries_4 ++ dktX22_tries_5
def dkwX22_tries_3 : List UInt8 := [180, 0, 15, 28, 2, 79, 42, 43, 28, 4, 96, 29, 21, 4, 4, 100, 21, 5, 182, 0, 71, 3, 54, 6]
abbrev dktX22_tries_3 : List UInt8 := dkwX22_tries_3 ++ dktX22_tries_4
def dkwX22_tries_2 : List UInt8 := [21, 6, 42, 180, 0, 15, 21, 6, 46, 79, 132, 6, 1, 167, 255, 233, 177, 21, 4, 158, 0, 25, 42]
abbrev dktX22_tries_2 : List UInt8 := dkwX22_tries_2 ++ dktX22_tries_3
def dkwX22_tries_1 : List UInt8 := [181, 0, 26, 42, 43, 180, 0, 75, 181, 0, 22, 3, 54, 6, 21, 6, 28, 162, 0, 23, 42, 180, 0, 19]
abbrev dktX22_tries_1 : List UInt8 := dkwX22_tries_1 ++ dktX22_tries_2
def dkwX22_tries_0 : List UInt8 := [28, 42, 180, 0, 29, 180, 0, 63, 160, 0, 57, 21, 5, 42, 180, 0, 26, 163, 0, 4, 177, 42, 21, 5]
abbrev dktX22_tries_0 : List UInt8 := dkwX22_tries_0 ++ dktX22_tries_1
theorem dksX22_tries_0 : cX22_tries.data.toList.drop 0 = dktX22_tries_0 := by decide +kernel
theorem dksX22_tries_1 : cX22_tries.data.toList.drop 24 = dktX22_tries_1 := dk_seg dksX22_tries_0 24 rfl rfl
theorem dksX22_tries_2 : cX22_tries.data.toList.drop 48 = dktX22_tries_2 := dk_seg dksX22_tries_1 24 rfl rfl
theorem dksX22_tries_3 : cX22_tries.data.toList.drop 71 = dktX22_tries_3 := dk_seg dksX22_tries_2 23 rfl rfl
theorem dksX22_tries_4 : cX22_tries.data.toList.drop 95 = dktX22_tries_4 := dk_seg dksX22_tries_3 24 rfl rfl
theorem dksX22_tries_5 : cX22_tries.data.toList.drop 117 = dktX22_tries_5 := dk_seg dksX22_tries_4 22 rfl rfl
theorem dksX22_tries_6 : cX22_tries.data.toList.drop 141 = dktX22_tries_6 := dk_seg dksX22_tries_5 24 rfl rfl
theorem dksX22_tries_7 : cX22_tries.data.toList.drop 164 = dktX22_tries_7 := dk_seg dksX22_tries_6 23 rfl rfl
theorem dksX22_tries_8 : cX22_tries.data.toList.drop 188 = dktX22_tries_8 := dk_seg dksX22_tries_7 24 rfl rfl
theorem dX22_tries_0 : decode cX22_tries 0 = .ok (.iload_n 2, 1) := dk_28 (dk_at dksX22_tries_0 0 rfl rfl)
theorem dX22_tries_1 : decode cX22_tries 1 = .ok (.aload_n 0, 1) := dk_42 (dk_at dksX22_tries_0 1 rfl rfl)
theorem dX22_tries_2 : decode cX22_tries 2 = .ok (.getfield 29, 3) := dk_180 0 29 (dk_at dksX22_tries_0 2 rfl rfl)
theorem dX22_tries_5 : decode cX22_tries 5 = .ok (.getfield 63, 3) := dk_180 0 63 (dk_at dksX22_tries_0 5 rfl rfl)
theorem dX22_tries_8 : decode cX22_tries 8 = .ok (.if_icmp .ne 57, 3) := dk_160 0 57 (dk_at dksX22_tries_0 8 rfl rfl)
theorem dX22_tries_11 : decode cX22_tries 11 = .ok (.iload 5, 2) := dk_21 5 (dk_at dksX22_tries_0 11 rfl rfl)
theorem dX22_tries_13 : decode cX22_tries 13 = .ok (.aload_n 0, 1) := dk_42 (dk_at dksX22_tries_0 13 rfl rfl)
theorem dX22_tries_14 : decode cX22_tries 14 = .ok (.getfield 26, 3) := dk_180 0 26 (dk_at dksX22_tries_0 14 rfl rfl)
theorem dX22_tries_17 : decode cX22_tries 17 = .ok (.if_icmp .gt 4, 3) := dk_163 0 4 (dk_at dksX22_tries_0 17 rfl rfl)
theorem dX22_tries_20 : decode cX22_tries 20 = .ok (.return_, 1) := dk_177 (dk_at dksX22_tries_0 20 rfl rfl)
theorem dX22_tries_21 : decode cX22_tries 21 = .ok (.aload_n 0, 1) := dk_42 (dk_at dksX22_tries_0 21 rfl rfl)
theorem dX22_tries_22 : decode cX22_tries 22 = .ok (.iload 5, 2) := dk_21 5 (dk_at dksX22_tries_0 22 rfl rfl)
theorem dX22_tries_24 : decode cX22_tries 24 = .ok (.putfield 26, 3) := dk_181 0 26 (dk_at dksX22_tries_1 0 rfl rfl)
theorem dX22_tries_27 : decode cX22_tries 27 = .ok (.aload_n 0, 1) := dk_42 (dk_at dksX22_tries_1 3 rfl rfl)
theorem dX22_tries_28 : decode cX22_tries 28 = .ok (.aload_n 1, 1) := dk_43 (dk_at dksX22_tries_1 4 rfl rfl)
theorem dX22_tries_29 : decode cX22_tries 29 = .ok (.getfield 75, 3) := dk_180 0 75 (dk_at dksX22_tries_1 5 rfl rfl)
theorem dX22_tries_32 : decode cX22_tries 32 = .ok (.putfield 22, 3) := dk_181 0 22 (dk_at dksX22_tries_1 8 rfl rfl)
theorem dX22_tries_35 : decode cX22_tries 35 = .ok (.iconst 0, 1) := dk_3 (dk_at dksX22_tries_1 11 rfl rfl)
theorem dX22_tries_36 : decode cX22_tries 36 = .ok (.istore 6, 2) := dk_54 6 (dk_at dksX22_tries_1 12 rfl rfl)
theorem dX22_tries_38 : decode cX22_tries 38 = .ok (.iload 6, 2) := dk_21 6 (dk_at dksX22_tries_1 14 rfl rfl)
theorem dX22_tries_40 : decode cX22_tries 40 = .ok (.iload_n 2, 1) := dk_28 (dk_at dksX22_tries_1 16 rfl rfl)
theorem dX22_tries_41 : decode cX22_tries 41 = .ok (.if_icmp .ge 23, 3) := dk_162 0 23 (dk_at dksX22_tries_1 17 rfl rfl)
theorem dX22_tries_44 : decode cX22_tries 44 = .ok (.aload_n 0, 1) := dk_42 (dk_at dksX22_tries_1 20 rfl rfl)
theorem dX22_tries_45 : decode cX22_tries 45 = .ok (.getfield 19, 3) := dk_180 0 19 (dk_at dksX22_tries_1 21 rfl rfl)
theorem dX22_tries_48 : decode cX22_tries 48 = .ok (.iload 6, 2) := dk_21 6 (dk_at dksX22_tries_2 0 rfl rfl)
theorem dX22_tries_50 : decode cX22_tries 50 = .ok (.aload_n 0, 1) := dk_42 (dk_at dksX22_tries_2 2 rfl rfl)
theorem dX22_tries_51 : decode cX22_tries 51 = .ok (.getfield 15, 3) := dk_180 0 15 (dk_at dksX22_tries_2 3 rfl rfl)
theorem dX22_tries_54 : decode cX22_tries 54 = .ok (.iload 6, 2) := dk_21 6 (dk_at dksX22_tries_2 6 rfl rfl)
theorem dX22_tries_56 : decode cX22_tries 56 = .ok (.iaload, 1) := dk_46 (dk_at dksX22_tries_2 8 rfl rfl)
theorem dX22_tries_57 : decode cX22_tries 57 = .ok (.iastore, 1) := dk_79 (dk_at dksX22_tries_2 9 rfl rfl)
theorem dX22_tries_58 : decode cX22_tries 58 = .ok (.iinc 6 1, 3) := dk_132 6 1 (dk_at dksX22_tries_2 10 rfl rfl)
theorem dX22_tries_61 : decode cX22_tries 61 = .ok (.goto (-23), 3) := dk_167 255 233 (dk_at dksX22_tries_2 13 rfl rfl)
theorem dX22_tries_64 : decode cX22_tries 64 = .ok (.return_, 1) := dk_177 (dk_at dksX22_tries_2 16 rfl rfl)
theorem dX22_tries_65 : decode cX22_tries 65 = .ok (.iload 4, 2) := dk_21 4 (dk_at dksX22_tries_2 17 rfl rfl)
theorem dX22_tries_67 : decode cX22_tries 67 = .ok (.ifCond .le 25, 3) := dk_158 0 25 (dk_at dksX22_tries_2 19 rfl rfl)
theorem dX22_tries_70 : decode cX22_tries 70 = .ok (.aload_n 0, 1) := dk_42 (dk_at dksX22_tries_2 22 rfl rfl)
theorem dX22_tries_71 : decode cX22_tries 71 = .ok (.getfield 15, 3) := dk_180 0 15 (dk_at dksX22_tries_3 0 rfl rfl)
theorem dX22_tries_74 : decode cX22_tries 74 = .ok (.iload_n 2, 1) := dk_28 (dk_at dksX22_tries_3 3 rfl rfl)
theorem dX22_tries_75 : decode cX22_tries 75 = .ok (.iconst (-1), 1) := dk_2 (dk_at dksX22_tries_3 4 rfl rfl)
theorem dX22_tries_76 : decode cX22_tries 76 = .ok (.iastore, 1) := dk_79 (dk_at dksX22_tries_3 5 rfl rfl)
theorem dX22_tries_77 : decode cX22_tries 77 = .ok (.aload_n 0, 1) := dk_42 (dk_at dksX22_tries_3 6 rfl rfl)
theorem dX22_tries_78 : decode cX22_tries 78 = .ok (.aload_n 1, 1) := dk_43 (dk_at dksX22_tries_3 7 rfl rfl)
theorem dX22_tries_79 : decode cX22_tries 79 = .ok (.iload_n 2, 1) := dk_28 (dk_at dksX22_tries_3 8 rfl rfl)
theorem dX22_tries_80 : decode cX22_tries 80 = .ok (.iconst 1, 1) := dk_4 (dk_at dksX22_tries_3 9 rfl rfl)
theorem dX22_tries_81 : decode cX22_tries 81 = .ok (.iadd, 1) := dk_96 (dk_at dksX22_tries_3 10 rfl rfl)
theorem dX22_tries_82 : decode cX22_tries 82 = .ok (.iload_n 3, 1) := dk_29 (dk_at dksX22_tries_3 11 rfl rfl)
theorem dX22_tries_83 : decode cX22_tries 83 = .ok (.iload 4, 2) := dk_21 4 (dk_at dksX22_tries_3 12 rfl rfl)
theorem dX22_tries_85 : decode cX22_tries 85 = .ok (.iconst 1, 1) := dk_4 (dk_at dksX22_tries_3 14 rfl rfl)
theorem dX22_tries_86 : decode cX22_tries 86 = .ok (.isub, 1) := dk_100 (dk_at dksX22_tries_3 15 rfl rfl)
theorem dX22_tries_87 : decode cX22_tries 87 = .ok (.iload 5, 2) := dk_21 5 (dk_at dksX22_tries_3 16 rfl rfl)
theorem dX22_tries_89 : decode cX22_tries 89 = .ok (.invokevirtual 71, 3) := dk_182 0 71 (dk_at dksX22_tries_3 18 rfl rfl)
theorem dX22_tries_92 : decode cX22_tries 92 = .ok (.iconst 0, 1) := dk_3 (dk_at dksX22_tries_3 21 rfl rfl)
theorem dX22_tries_93 : decode cX22_tries 93 = .ok (.istore 6, 2) := dk_54 6 (dk_at dksX22_tries_3 22 rfl rfl)
theorem dX22_tries_95 : decode cX22_tries 95 = .ok (.iload 6, 2) := dk_21 6 (dk_at dksX22_tries_4 0 rfl rfl)
theorem dX22_tries_97 : decode cX22_tries 97 = .ok (.aload_n 0, 1) := dk_42 (dk_at dksX22_tries_4 2 rfl rfl)
theorem dX22_tries_98 : decode cX22_tries 98 = .ok (.getfield 3, 3) := dk_180 0 3 (dk_at dksX22_tries_4 3 rfl rfl)
theorem dX22_tries_101 : decode cX22_tries 101 = .ok (.invokevirtual 33, 3) := dk_182 0 33 (dk_at dksX22_tries_4 6 rfl rfl)
theorem dX22_tries_104 : decode cX22_tries 104 = .ok (.if_icmp .ge 107, 3) := dk_162 0 107 (dk_at dksX22_tries_4 9 rfl rfl)
theorem dX22_tries_107 : decode cX22_tries 107 = .ok (.iload_n 3, 1) := dk_29 (dk_at dksX22_tries_4 12 rfl rfl)
theorem dX22_tries_108 : decode cX22_tries 108 = .ok (.iload 6, 2) := dk_21 6 (dk_at dksX22_tries_4 13 rfl rfl)
theorem dX22_tries_110 : decode cX22_tries 110 = .ok (.ishr, 1) := dk_122 (dk_at dksX22_tries_4 15 rfl rfl)
theorem dX22_tries_111 : decode cX22_tries 111 = .ok (.iconst 1, 1) := dk_4 (dk_at dksX22_tries_4 16 rfl rfl)
theorem dX22_tries_112 : decode cX22_tries 112 = .ok (.iand, 1) := dk_126 (dk_at dksX22_tries_4 17 rfl rfl)
theorem dX22_tries_113 : decode cX22_tries 113 = .ok (.ifCond .eq 92, 3) := dk_153 0 92 (dk_at dksX22_tries_4 18 rfl rfl)
theorem dX22_tries_116 : decode cX22_tries 116 = .ok (.aload_n 1, 1) := dk_43 (dk_at dksX22_tries_4 21 rfl rfl)
theorem dX22_tries_117 : decode cX22_tries 117 = .ok (.getfield 76, 3) := dk_180 0 76 (dk_at dksX22_tries_5 0 rfl rfl)
theorem dX22_tries_120 : decode cX22_tries 120 = .ok (.iload 6, 2) := dk_21 6 (dk_at dksX22_tries_5 3 rfl rfl)
theorem dX22_tries_122 : decode cX22_tries 122 = .ok (.aaload, 1) := dk_50 (dk_at dksX22_tries_5 5 rfl rfl)
theorem dX22_tries_123 : decode cX22_tries 123 = .ok (.iload_n 2, 1) := dk_28 (dk_at dksX22_tries_5 6 rfl rfl)
theorem dX22_tries_124 : decode cX22_tries 124 = .ok (.baload, 1) := dk_51 (dk_at dksX22_tries_5 7 rfl rfl)
theorem dX22_tries_125 : decode cX22_tries 125 = .ok (.ifCond .ne 80, 3) := dk_154 0 80 (dk_at dksX22_tries_5 8 rfl rfl)
theorem dX22_tries_128 : decode cX22_tries 128 = .ok (.iload_n 2, 1) := dk_28 (dk_at dksX22_tries_5 11 rfl rfl)
theorem dX22_tries_129 : decode cX22_tries 129 = .ok (.ifCond .le 38, 3) := dk_158 0 38 (dk_at dksX22_tries_5 12 rfl rfl)
theorem dX22_tries_132 : decode cX22_tries 132 = .ok (.aload_n 0, 1) := dk_42 (dk_at dksX22_tries_5 15 rfl rfl)
theorem dX22_tries_133 : decode cX22_tries 133 = .ok (.getfield 15, 3) := dk_180 0 15 (dk_at dksX22_tries_5 16 rfl rfl)
theorem dX22_tries_136 : decode cX22_tries 136 = .ok (.iload_n 2, 1) := dk_28 (dk_at dksX22_tries_5 19 rfl rfl)
theorem dX22_tries_137 : decode cX22_tries 137 = .ok (.iconst 1, 1) := dk_4 (dk_at dksX22_tries_5 20 rfl rfl)
theorem dX22_tries_138 : decode cX22_tries 138 = .ok (.isub, 1) := dk_100 (dk_at dksX22_tries_5 21 rfl rfl)
theorem dX22_tries_139 : decode cX22_tries 139 = .ok (.iaload, 1) := dk_46 (dk_at dksX22_tries_5 22 rfl rfl)
theorem dX22_tries_140 : decode cX22_tries 140 = .ok (.iconst (-1), 1) := dk_2 (dk_at dksX22_tries_5 23 rfl rfl)
theorem dX22_tries_141 : decode cX22_tries 141 = .ok (.if_icmp .eq 26, 3) := dk_159 0 26 (dk_at dksX22_tries_6 0 rfl rfl)
theorem dX22_tries_144 : decode cX22_tries 144 = .ok (.aload_n 1, 1) := dk_43 (dk_at dksX22_tries_6 3 rfl rfl)
theorem dX22_tries_145 : decode cX22_tries 145 = .ok (.aload_n 0, 1) := dk_42 (dk_at dksX22_tries_6 4 rfl rfl)
theorem dX22_tries_146 : decode cX22_tries 146 = .ok (.getfield 15, 3) := dk_180 0 15 (dk_at dksX22_tries_6 5 rfl rfl)
theorem dX22_tries_149 : decode cX22_tries 149 = .ok (.iload_n 2, 1) := dk_28 (dk_at dksX22_tries_6 8 rfl rfl)
theorem dX22_tries_150 : decode cX22_tries 150 = .ok (.iconst 1, 1) := dk_4 (dk_at dksX22_tries_6 9 rfl rfl)
theorem dX22_tries_151 : decode cX22_tries 151 = .ok (.isub, 1) := dk_100 (dk_at dksX22_tries_6 10 rfl rfl)
theorem dX22_tries_152 : decode cX22_tries 152 = .ok (.iaload, 1) := dk_46 (dk_at dksX22_tries_6 11 rfl rfl)
theorem dX22_tries_153 : decode cX22_tries 153 = .ok (.iload 6, 2) := dk_21 6 (dk_at dksX22_tries_6 12 rfl rfl)
theorem dX22_tries_155 : decode cX22_tries 155 = .ok (.iload_n 2, 1) := dk_28 (dk_at dksX22_tries_6 14 rfl rfl)
theorem dX22_tries_156 : decode cX22_tries 156 = .ok (.iconst 1, 1) := dk_4 (dk_at dksX22_tries_6 15 rfl rfl)
theorem dX22_tries_157 : decode cX22_tries 157 = .ok (.isub, 1) := dk_100 (dk_at dksX22_tries_6 16 rfl rfl)
theorem dX22_tries_158 : decode cX22_tries 158 = .ok (.invokevirtual 80, 3) := dk_182 0 80 (dk_at dksX22_tries_6 17 rfl rfl)
theorem dX22_tries_161 : decode cX22_tries 161 = .ok (.ifCond .eq 6, 3) := dk_153 0 6 (dk_at dksX22_tries_6 20 rfl rfl)
theorem dX22_tries_164 : decode cX22_tries 164 = .ok (.goto 41, 3) := dk_167 0 41 (dk_at dksX22_tries_7 0 rfl rfl)
theorem dX22_tries_167 : decode cX22_tries 167 = .ok (.aload_n 0, 1) := dk_42 (dk_at dksX22_tries_7 3 rfl rfl)
theorem dX22_tries_168 : decode cX22_tries 168 = .ok (.getfield 15, 3) := dk_180 0 15 (dk_at dksX22_tries_7 4 rfl rfl)
theorem dX22_tries_171 : decode cX22_tries 171 = .ok (.iload_n 2, 1) := dk_28 (dk_at dksX22_tries_7 7 rfl rfl)
theorem dX22_tries_172 : decode cX22_tries 172 = .ok (.iload 6, 2) := dk_21 6 (dk_at dksX22_tries_7 8 rfl rfl)
theorem dX22_tries_174 : decode cX22_tries 174 = .ok (.iastore, 1) := dk_79 (dk_at dksX22_tries_7 10 rfl rfl)
theorem dX22_tries_175 : decode cX22_tries 175 = .ok (.aload_n 0, 1) := dk_42 (dk_at dksX22_tries_7 11 rfl rfl)
theorem dX22_tries_176 : decode cX22_tries 176 = .ok (.aload_n 1, 1) := dk_43 (dk_at dksX22_tries_7 12 rfl rfl)
theorem dX22_tries_177 : decode cX22_tries 177 = .ok (.iload_n 2, 1) := dk_28 (dk_at dksX22_tries_7 13 rfl rfl)
theorem dX22_tries_178 : decode cX22_tries 178 = .ok (.iconst 1, 1) := dk_4 (dk_at dksX22_tries_7 14 rfl rfl)
theorem dX22_tries_179 : decode cX22_tries 179 = .ok (.iadd, 1) := dk_96 (dk_at dksX22_tries_7 15 rfl rfl)
theorem dX22_tries_180 : decode cX22_tries 180 = .ok (.iload_n 3, 1) := dk_29 (dk_at dksX22_tries_7 16 rfl rfl)
theorem dX22_tries_181 : decode cX22_tries 181 = .ok (.iconst 1, 1) := dk_4 (dk_at dksX22_tries_7 17 rfl rfl)
theorem dX22_tries_182 : decode cX22_tries 182 = .ok (.iload 6, 2) := dk_21 6 (dk_at dksX22_tries_7 18 rfl rfl)
theorem dX22_tries_184 : decode cX22_tries 184 = .ok (.ishl, 1) := dk_120 (dk_at dksX22_tries_7 20 rfl rfl)
theorem dX22_tries_185 : decode cX22_tries 185 = .ok (.iconst (-1), 1) := dk_2 (dk_at dksX22_tries_7 21 rfl rfl)
theorem dX22_tries_186 : decode cX22_tries 186 = .ok (.ixor, 1) := dk_130 (dk_at dksX22_tries_7 22 rfl rfl)
theorem dX22_tries_187 : decode cX22_tries 187 = .ok (.iand, 1) := dk_126 (dk_at dksX22_tries_7 23 rfl rfl)
theorem dX22_tries_188 : decode cX22_tries 188 = .ok (.iload 4, 2) := dk_21 4 (dk_at dksX22_tries_8 0 rfl rfl)
theorem dX22_tries_190 : decode cX22_tries 190 = .ok (.iload 5, 2) := dk_21 5 (dk_at dksX22_tries_8 2 rfl rfl)
theorem dX22_tries_192 : decode cX22_tries 192 = .ok (.aload_n 1, 1) := dk_43 (dk_at dksX22_tries_8 4 rfl rfl)
theorem dX22_tries_193 : decode cX22_tries 193 = .ok (.getfield 84, 3) := dk_180 0 84 (dk_at dksX22_tries_8 5 rfl rfl)
theorem dX22_tries_196 : decode cX22_tries 196 = .ok (.iload 6, 2) := dk_21 6 (dk_at dksX22_tries_8 8 rfl rfl)
theorem dX22_tries_198 : decode cX22_tries 198 = .ok (.aaload, 1) := dk_50 (dk_at dksX22_tries_8 10 rfl rfl)
theorem dX22_tries_199 : decode cX22_tries 199 = .ok (.iload_n 2, 1) := dk_28 (dk_at dksX22_tries_8 11 rfl rfl)
theorem dX22_tries_200 : decode cX22_tries 200 = .ok (.iaload, 1) := dk_46 (dk_at dksX22_tries_8 12 rfl rfl)
theorem dX22_tries_201 : decode cX22_tries 201 = .ok (.iadd, 1) := dk_96 (dk_at dksX22_tries_8 13 rfl rfl)
theorem dX22_tries_202 : decode cX22_tries 202 = .ok (.invokevirtual 71, 3) := dk_182 0 71 (dk_at dksX22_tries_8 14 rfl rfl)
theorem dX22_tries_205 : decode cX22_tries 205 = .ok (.iinc 6 1, 3) := dk_132 6 1 (dk_at dksX22_tries_8 17 rfl rfl)
theorem dX22_tries_208 : decode cX22_tries 208 = .ok (.goto (-113), 3) := dk_167 255 143 (dk_at dksX22_tries_8 20 rfl rfl)
theorem dX22_tries_211 : decode cX22_tries 211 = .ok (.return_, 1) := dk_177 (dk_at dksX22_tries_8 23 rfl rfl)
theorem q116 : (Jvm.Cond.initialized "KilnBench$Settings") ∈ lw_all := lw_g (lw_at lw_m1 40 rfl) rfl
theorem q178 : (Jvm.Cond.fieldLink "KilnBench$Settings" (41 : Nat) "KilnBench$Town" "children" "Ljava/util/ArrayList;") ∈ lw_all := lw_g (lw_at lw_m1 102 rfl) rfl
theorem q229 : (Jvm.Cond.fieldLinkNest "KilnBench$Settings" (37 : Nat) "KilnBench" "land" "LKilnBench$Town;" "KilnBench") ∈ lw_tbl := lw_at lw_m1 153 rfl
theorem q630 : (Jvm.Cond.fieldLink "KilnBench$Settings" (54 : Nat) "KilnBench$Child" "kiln" "LKilnBench$Kiln;") ∈ lw_all := lw_g (lw_at lw_m3 74 rfl) rfl
theorem q725 : (Jvm.Cond.selects "KilnBench$Settings" ({ cls := "java/lang/Object", name := "getClass", desc := "()Ljava/lang/Class;" } : Jvm.MethodName) ({ cls := "java/lang/Object", name := "getClass", desc := "()Ljava/lang/Class;" } : Jvm.MethodName)) ∈ lw_all := lw_g (lw_at lw_m3 169 rfl) rfl
theorem q763 : (Jvm.Cond.fieldLink "KilnBench$Settings" (63 : Nat) "KilnBench$Kiln" "room" "I") ∈ lw_all := lw_g (lw_at lw_m3 207 rfl) rfl
theorem q1683 : (Jvm.Cond.fieldLinkNest "KilnBench$Settings" (75 : Nat) "KilnBench$Bench" "heat" "I" "KilnBench") ∈ lw_tbl := lw_at lw_m7 167 rfl
theorem q1685 : (Jvm.Cond.fieldLinkNest "KilnBench$Settings" (84 : Nat) "KilnBench$Bench" "tempers" "[[I" "KilnBench") ∈ lw_tbl := lw_at lw_m7 169 rfl
theorem q1687 : (Jvm.Cond.fieldLinkNest "KilnBench$Settings" (76 : Nat) "KilnBench$Bench" "cracks" "[[Z" "KilnBench") ∈ lw_tbl := lw_at lw_m7 171 rfl
theorem q1887 : (Jvm.Cond.instantiable "KilnBench$Settings" (7 : Nat)) ∈ lw_all := lw_g (lw_at lw_m8 131 rfl) rfl
theorem q1889 : (Jvm.Cond.instanceMethod ({ cls := "KilnBench$Settings", name := "<init>", desc := "(LKilnBench;LKilnBench$Kiln;)V" } : Jvm.MethodName)) ∈ lw_all := lw_g (lw_at lw_m8 133 rfl) rfl
theorem q1890 : (Jvm.Cond.code ({ cls := "KilnBench$Settings", name := "<init>", desc := "(LKilnBench;LKilnBench$Kiln;)V" } : Jvm.MethodName) prog_20_method_1_code (4 : Nat) (Option.none : Option Jvm.ClassFile.FieldType)) ∈ lw_all := lw_g (lw_at lw_m8 134 rfl) rfl
theorem q1891 : (Jvm.Cond.methodLink "KilnBench$Settings" (9 : Nat) ({ cls := "java/lang/Object", name := "<init>", desc := "()V" } : Jvm.MethodName)) ∈ lw_all := lw_g (lw_at lw_m8 135 rfl) rfl
theorem q1892 : (Jvm.Cond.methodLinkNest "KilnBench$Settings" (33 : Nat) ({ cls := "KilnBench", name := "children", desc := "()I" } : Jvm.MethodName) "KilnBench") ∈ lw_tbl := lw_at lw_m8 136 rfl
theorem q1893 : (Jvm.Cond.methodLink "KilnBench$Settings" (46 : Nat) ({ cls := "java/util/ArrayList", name := "get", desc := "(I)Ljava/lang/Object;" } : Jvm.MethodName)) ∈ lw_all := lw_g (lw_at lw_m8 137 rfl) rfl
theorem q1894 : (Jvm.Cond.classLink "KilnBench$Settings" (52 : Nat) "KilnBench$Child") ∈ lw_all := lw_g (lw_at lw_m8 138 rfl) rfl
theorem q1895 : (Jvm.Cond.classLink "KilnBench$Settings" (58 : Nat) "KilnBench$Bench") ∈ lw_all := lw_g (lw_at lw_m8 139 rfl) rfl
theorem q1896 : (Jvm.Cond.methodLink "KilnBench$Settings" (60 : Nat) ({ cls := "KilnBench$Bench", name := "<init>", desc := "(LKilnBench;LKilnBench$Kiln;I)V" } : Jvm.MethodName)) ∈ lw_all := lw_g (lw_at lw_m8 140 rfl) rfl
theorem q1897 : (Jvm.Cond.methodLink "KilnBench$Settings" (68 : Nat) ({ cls := "KilnBench$Kiln", name := "full", desc := "()I" } : Jvm.MethodName)) ∈ lw_all := lw_g (lw_at lw_m8 141 rfl) rfl
theorem q1898 : (Jvm.Cond.methodLink "KilnBench$Settings" (71 : Nat) ({ cls := "KilnBench$Settings", name := "tries", desc := "(LKilnBench$Bench;IIII)V" } : Jvm.MethodName)) ∈ lw_all := lw_g (lw_at lw_m8 142 rfl) rfl
theorem q1899 : (Jvm.Cond.privateMethod ({ cls := "KilnBench$Settings", name := "tries", desc := "(LKilnBench$Bench;IIII)V" } : Jvm.MethodName)) ∈ lw_tbl := lw_at lw_m8 143 rfl
theorem q1900 : (Jvm.Cond.instanceMethod ({ cls := "KilnBench$Settings", name := "tries", desc := "(LKilnBench$Bench;IIII)V" } : Jvm.MethodName)) ∈ lw_all := lw_g (lw_at lw_m8 144 rfl) rfl
theorem q1901 : (Jvm.Cond.code ({ cls := "KilnBench$Settings", name := "tries", desc := "(LKilnBench$Bench;IIII)V" } : Jvm.MethodName) prog_20_method_2_code (7 : Nat) (Option.none : Option Jvm.ClassFile.FieldType)) ∈ lw_all := lw_g (lw_at lw_m8 145 rfl) rfl
theorem q1902 : (Jvm.Cond.methodLink "KilnBench$Settings" (80 : Nat) ({ cls := "KilnBench$Bench", name := "doStick", desc := "(III)Z" } : Jvm.MethodName)) ∈ lw_all := lw_g (lw_at lw_m8 146 rfl) rfl
theorem q1903 : (Jvm.Cond.fieldLink "KilnBench$Settings" (29 : Nat) "KilnBench$Settings" "kiln" "LKilnBench$Kiln;") ∈ lw_all := lw_g (lw_at lw_m8 147 rfl) rfl
theorem q1904 : (Jvm.Cond.fieldLink "KilnBench$Settings" (15 : Nat) "KilnBench$Settings" "row" "[I") ∈ lw_all := lw_g (lw_at lw_m8 148 rfl) rfl
theorem q1905 : (Jvm.Cond.fieldLink "KilnBench$Settings" (19 : Nat) "KilnBench$Settings" "best" "[I") ∈ lw_all := lw_g (lw_at lw_m8 149 rfl) rfl
theorem q1907 : (Jvm.Cond.fieldLink "KilnBench$Settings" (55 : Nat) "KilnBench$Settings" "all" "I") ∈ lw_all := lw_g (lw_at lw_m8 151 rfl) rfl
theorem q1908 : (Jvm.Cond.fieldLink "KilnBench$Settings" (22 : Nat) "KilnBench$Settings" "heat" "I") ∈ lw_all := lw_g (lw_at lw_m8 152 rfl) rfl
theorem q1910 : (Jvm.Cond.fieldLink "KilnBench$Settings" (26 : Nat) "KilnBench$Settings" "most" "I") ∈ lw_all := lw_g (lw_at lw_m8 154 rfl) rfl
theorem q1912 : (Jvm.Cond.fieldLink "KilnBench$Settings" (3 : Nat) "KilnBench$Settings" "this$0" "LKilnBench;") ∈ lw_all := lw_g (lw_at lw_m8 156 rfl) rfl
theorem q1913 : (Jvm.Cond.laysFinal "KilnBench$Settings" "KilnBench$Settings" "kiln" "LKilnBench$Kiln;") ∈ lw_all := lw_g (lw_at lw_m8 157 rfl) rfl
theorem q1914 : (Jvm.Cond.soleField "KilnBench$Settings" "kiln") ∈ lw_all := lw_g (lw_at lw_m8 158 rfl) rfl
theorem q1915 : (Jvm.Cond.laysFinal "KilnBench$Settings" "KilnBench$Settings" "row" "[I") ∈ lw_all := lw_g (lw_at lw_m8 159 rfl) rfl
theorem q1916 : (Jvm.Cond.soleField "KilnBench$Settings" "row") ∈ lw_all := lw_g (lw_at lw_m8 160 rfl) rfl
theorem q1917 : (Jvm.Cond.laysFinal "KilnBench$Settings" "KilnBench$Settings" "best" "[I") ∈ lw_all := lw_g (lw_at lw_m8 161 rfl) rfl
theorem q1918 : (Jvm.Cond.soleField "KilnBench$Settings" "best") ∈ lw_all := lw_g (lw_at lw_m8 162 rfl) rfl
theorem q1919 : (Jvm.Cond.lays "KilnBench$Settings" "KilnBench$Settings" "all" "I") ∈ lw_all := lw_g (lw_at lw_m8 163 rfl) rfl
theorem q1920 : (Jvm.Cond.soleField "KilnBench$Settings" "all") ∈ lw_all := lw_g (lw_at lw_m8 164 rfl) rfl
theorem q1921 : (Jvm.Cond.lays "KilnBench$Settings" "KilnBench$Settings" "heat" "I") ∈ lw_all := lw_g (lw_at lw_m8 165 rfl) rfl
theorem q1922 : (Jvm.Cond.soleField "KilnBench$Settings" "heat") ∈ lw_all := lw_g (lw_at lw_m8 166 rfl) rfl
theorem q1923 : (Jvm.Cond.lays "KilnBench$Settings" "KilnBench$Settings" "most" "I") ∈ lw_all := lw_g (lw_at lw_m8 167 rfl) rfl
theorem q1924 : (Jvm.Cond.soleField "KilnBench$Settings" "most") ∈ lw_all := lw_g (lw_at lw_m8 168 rfl) rfl
theorem q1925 : (Jvm.Cond.laysFinal "KilnBench$Settings" "KilnBench$Settings" "this$0" "LKilnBench;") ∈ lw_all := lw_g (lw_at lw_m8 169 rfl) rfl
theorem q1926 : (Jvm.Cond.soleField "KilnBench$Settings" "this$0") ∈ lw_all := lw_g (lw_at lw_m8 170 rfl) rfl
theorem q1927 : (Jvm.Cond.superclass "KilnBench$Settings" "java/lang/Object") ∈ lw_all := lw_g (lw_at lw_m8 171 rfl) rfl
theorem q2192 : (Jvm.Cond.castable "KilnBench$Settings" "java/lang/Object") ∈ lw_tbl := lw_at lw_m9 196 rfl
theorem in_X22 : ∀ w ∈ wsX220, w ∈ lw_all := lw_in wsX220 [1913, 1915, 1917, 1919, 1921, 1923, 1925] (by decide +kernel) (by decide +kernel)

/-! KilnBench$Act -/
set_option maxRecDepth 100000
def RX23 : String := "KilnBench$Act"
def TX23 : u_T := fun k => match k with
  | 0 => ("KilnBench$Spot", "week", "I", true)
  | 1 => ("KilnBench$Spot", "fuel", "I", true)
  | 2 => ("KilnBench$Spot", "was", "[I", true)
  | 3 => ("KilnBench$Spot", "heats", "[I", true)
  | 4 => ("KilnBench$Spot", "this$0", "LKilnBench;", true)
  | 5 => ("KilnBench$Act", "rows", "Ljava/util/ArrayList;", true)
  | _ => ("KilnBench$Act", "this$0", "LKilnBench;", true)
def tyX23 : Nat → FieldType := fun k => match k with
  | 0 => .int
  | 1 => .int
  | 2 => .array .int
  | 3 => .array .int
  | 4 => .object "KilnBench"
  | 5 => .object "java/util/ArrayList"
  | _ => .object "KilnBench"
abbrev wsX230 : List Cond := u_ws RX23 TX23 7
-- two fields of one name: no nmX23
theorem tyX23_ok : ∀ k, k < 7 → parseFieldDescriptor (TX23 k).2.2.1 = some (tyX23 k) := by decide +kernel
abbrev cX23_init : ByteArray := prog_2_method_1_code
def yX23_init : MethodName := ⟨RX23, "<init>", "(LKilnBench;)V"⟩
def dkwX23_init_2 : List UInt8 := [192, 0, 35, 182, 0, 37, 87, 132, 2, 1, 167, 255, 223, 177]
abbrev dktX23_init_2 : List UInt8 := dkwX23_init_2 ++ []
def dkwX23_init_1 : List UInt8 := [43, 180, 0, 22, 182, 0, 27, 162, 0, 28, 42, 180, 0, 18, 43, 180, 0, 22, 28, 182, 0, 31]
abbrev dktX23_init_1 : List UInt8 := dkwX23_init_1 ++ dktX23_init_2
def dkwX23_init_0 : List UInt8 := [42, 43, 181, 0, 1, 42, 43, 183, 0, 7, 42, 187, 0, 13, 89, 183, 0, 15, 181, 0, 18, 3, 61, 28]
abbrev dktX23_init_0 : List UInt8 := dkwX23_init_0 ++ dktX23_init_1
theorem dksX23_init_0 : cX23_init.data.toList.drop 0 = dktX23_init_0 := by decide +kernel
theorem dksX23_init_1 : cX23_init.data.toList.drop 24 = dktX23_init_1 := dk_seg dksX23_init_0 24 rfl rfl
theorem dksX23_init_2 : cX23_init.data.toList.drop 46 = dktX23_init_2 := dk_seg dksX23_init_1 22 rfl rfl
theorem dX23_init_0 : decode cX23_init 0 = .ok (.aload_n 0, 1) := dk_42 (dk_at dksX23_init_0 0 rfl rfl)
theorem dX23_init_1 : decode cX23_init 1 = .ok (.aload_n 1, 1) := dk_43 (dk_at dksX23_init_0 1 rfl rfl)
theorem dX23_init_2 : decode cX23_init 2 = .ok (.putfield 1, 3) := dk_181 0 1 (dk_at dksX23_init_0 2 rfl rfl)
theorem dX23_init_5 : decode cX23_init 5 = .ok (.aload_n 0, 1) := dk_42 (dk_at dksX23_init_0 5 rfl rfl)
theorem dX23_init_6 : decode cX23_init 6 = .ok (.aload_n 1, 1) := dk_43 (dk_at dksX23_init_0 6 rfl rfl)
theorem dX23_init_7 : decode cX23_init 7 = .ok (.invokespecial 7, 3) := dk_183 0 7 (dk_at dksX23_init_0 7 rfl rfl)
theorem dX23_init_10 : decode cX23_init 10 = .ok (.aload_n 0, 1) := dk_42 (dk_at dksX23_init_0 10 rfl rfl)
theorem dX23_init_11 : decode cX23_init 11 = .ok (.new 13, 3) := dk_187 0 13 (dk_at dksX23_init_0 11 rfl rfl)
theorem dX23_init_14 : decode cX23_init 14 = .ok (.dup, 1) := dk_89 (dk_at dksX23_init_0 14 rfl rfl)
theorem dX23_init_15 : decode cX23_init 15 = .ok (.invokespecial 15, 3) := dk_183 0 15 (dk_at dksX23_init_0 15 rfl rfl)
theorem dX23_init_18 : decode cX23_init 18 = .ok (.putfield 18, 3) := dk_181 0 18 (dk_at dksX23_init_0 18 rfl rfl)
theorem dX23_init_21 : decode cX23_init 21 = .ok (.iconst 0, 1) := dk_3 (dk_at dksX23_init_0 21 rfl rfl)
theorem dX23_init_22 : decode cX23_init 22 = .ok (.istore_n 2, 1) := dk_61 (dk_at dksX23_init_0 22 rfl rfl)
theorem dX23_init_23 : decode cX23_init 23 = .ok (.iload_n 2, 1) := dk_28 (dk_at dksX23_init_0 23 rfl rfl)
theorem dX23_init_24 : decode cX23_init 24 = .ok (.aload_n 1, 1) := dk_43 (dk_at dksX23_init_1 0 rfl rfl)
theorem dX23_init_25 : decode cX23_init 25 = .ok (.getfield 22, 3) := dk_180 0 22 (dk_at dksX23_init_1 1 rfl rfl)
theorem dX23_init_28 : decode cX23_init 28 = .ok (.invokevirtual 27, 3) := dk_182 0 27 (dk_at dksX23_init_1 4 rfl rfl)
theorem dX23_init_31 : decode cX23_init 31 = .ok (.if_icmp .ge 28, 3) := dk_162 0 28 (dk_at dksX23_init_1 7 rfl rfl)
theorem dX23_init_34 : decode cX23_init 34 = .ok (.aload_n 0, 1) := dk_42 (dk_at dksX23_init_1 10 rfl rfl)
theorem dX23_init_35 : decode cX23_init 35 = .ok (.getfield 18, 3) := dk_180 0 18 (dk_at dksX23_init_1 11 rfl rfl)
theorem dX23_init_38 : decode cX23_init 38 = .ok (.aload_n 1, 1) := dk_43 (dk_at dksX23_init_1 14 rfl rfl)
theorem dX23_init_39 : decode cX23_init 39 = .ok (.getfield 22, 3) := dk_180 0 22 (dk_at dksX23_init_1 15 rfl rfl)
theorem dX23_init_42 : decode cX23_init 42 = .ok (.iload_n 2, 1) := dk_28 (dk_at dksX23_init_1 18 rfl rfl)
theorem dX23_init_43 : decode cX23_init 43 = .ok (.invokevirtual 31, 3) := dk_182 0 31 (dk_at dksX23_init_1 19 rfl rfl)
theorem dX23_init_46 : decode cX23_init 46 = .ok (.checkcast 35, 3) := dk_192 0 35 (dk_at dksX23_init_2 0 rfl rfl)
theorem dX23_init_49 : decode cX23_init 49 = .ok (.invokevirtual 37, 3) := dk_182 0 37 (dk_at dksX23_init_2 3 rfl rfl)
theorem dX23_init_52 : decode cX23_init 52 = .ok (.pop, 1) := dk_87 (dk_at dksX23_init_2 6 rfl rfl)
theorem dX23_init_53 : decode cX23_init 53 = .ok (.iinc 2 1, 3) := dk_132 2 1 (dk_at dksX23_init_2 7 rfl rfl)
theorem dX23_init_56 : decode cX23_init 56 = .ok (.goto (-33), 3) := dk_167 255 223 (dk_at dksX23_init_2 10 rfl rfl)
theorem dX23_init_59 : decode cX23_init 59 = .ok (.return_, 1) := dk_177 (dk_at dksX23_init_2 13 rfl rfl)
abbrev cX23_isUndone : ByteArray := prog_2_method_2_code
def yX23_isUndone : MethodName := ⟨RX23, "isUndone", "()V"⟩
def dkwX23_isUndone_2 : List UInt8 := [87, 132, 1, 1, 167, 255, 220, 177]
abbrev dktX23_isUndone_2 : List UInt8 := dkwX23_isUndone_2 ++ []
def dkwX23_isUndone_1 : List UInt8 := [162, 0, 31, 42, 180, 0, 1, 180, 0, 22, 42, 180, 0, 18, 27, 182, 0, 31, 192, 0, 35, 182, 0, 37]
abbrev dktX23_isUndone_1 : List UInt8 := dkwX23_isUndone_1 ++ dktX23_isUndone_2
def dkwX23_isUndone_0 : List UInt8 := [42, 182, 0, 41, 42, 180, 0, 1, 180, 0, 22, 182, 0, 44, 3, 60, 27, 42, 180, 0, 18, 182, 0, 27]
abbrev dktX23_isUndone_0 : List UInt8 := dkwX23_isUndone_0 ++ dktX23_isUndone_1
theorem dksX23_isUndone_0 : cX23_isUndone.data.toList.drop 0 = dktX23_isUndone_0 := by decide +kernel
theorem dksX23_isUndone_1 : cX23_isUndone.data.toList.drop 24 = dktX23_isUndone_1 := dk_seg dksX23_isUndone_0 24 rfl rfl
theorem dksX23_isUndone_2 : cX23_isUndone.data.toList.drop 48 = dktX23_isUndone_2 := dk_seg dksX23_isUndone_1 24 rfl rfl
theorem dX23_isUndone_0 : decode cX23_isUndone 0 = .ok (.aload_n 0, 1) := dk_42 (dk_at dksX23_isUndone_0 0 rfl rfl)
theorem dX23_isUndone_1 : decode cX23_isUndone 1 = .ok (.invokevirtual 41, 3) := dk_182 0 41 (dk_at dksX23_isUndone_0 1 rfl rfl)
theorem dX23_isUndone_4 : decode cX23_isUndone 4 = .ok (.aload_n 0, 1) := dk_42 (dk_at dksX23_isUndone_0 4 rfl rfl)
theorem dX23_isUndone_5 : decode cX23_isUndone 5 = .ok (.getfield 1, 3) := dk_180 0 1 (dk_at dksX23_isUndone_0 5 rfl rfl)
theorem dX23_isUndone_8 : decode cX23_isUndone 8 = .ok (.getfield 22, 3) := dk_180 0 22 (dk_at dksX23_isUndone_0 8 rfl rfl)
theorem dX23_isUndone_11 : decode cX23_isUndone 11 = .ok (.invokevirtual 44, 3) := dk_182 0 44 (dk_at dksX23_isUndone_0 11 rfl rfl)
theorem dX23_isUndone_14 : decode cX23_isUndone 14 = .ok (.iconst 0, 1) := dk_3 (dk_at dksX23_isUndone_0 14 rfl rfl)
theorem dX23_isUndone_15 : decode cX23_isUndone 15 = .ok (.istore_n 1, 1) := dk_60 (dk_at dksX23_isUndone_0 15 rfl rfl)
theorem dX23_isUndone_16 : decode cX23_isUndone 16 = .ok (.iload_n 1, 1) := dk_27 (dk_at dksX23_isUndone_0 16 rfl rfl)
theorem dX23_isUndone_17 : decode cX23_isUndone 17 = .ok (.aload_n 0, 1) := dk_42 (dk_at dksX23_isUndone_0 17 rfl rfl)
theorem dX23_isUndone_18 : decode cX23_isUndone 18 = .ok (.getfield 18, 3) := dk_180 0 18 (dk_at dksX23_isUndone_0 18 rfl rfl)
theorem dX23_isUndone_21 : decode cX23_isUndone 21 = .ok (.invokevirtual 27, 3) := dk_182 0 27 (dk_at dksX23_isUndone_0 21 rfl rfl)
theorem dX23_isUndone_24 : decode cX23_isUndone 24 = .ok (.if_icmp .ge 31, 3) := dk_162 0 31 (dk_at dksX23_isUndone_1 0 rfl rfl)
theorem dX23_isUndone_27 : decode cX23_isUndone 27 = .ok (.aload_n 0, 1) := dk_42 (dk_at dksX23_isUndone_1 3 rfl rfl)
theorem dX23_isUndone_28 : decode cX23_isUndone 28 = .ok (.getfield 1, 3) := dk_180 0 1 (dk_at dksX23_isUndone_1 4 rfl rfl)
theorem dX23_isUndone_31 : decode cX23_isUndone 31 = .ok (.getfield 22, 3) := dk_180 0 22 (dk_at dksX23_isUndone_1 7 rfl rfl)
theorem dX23_isUndone_34 : decode cX23_isUndone 34 = .ok (.aload_n 0, 1) := dk_42 (dk_at dksX23_isUndone_1 10 rfl rfl)
theorem dX23_isUndone_35 : decode cX23_isUndone 35 = .ok (.getfield 18, 3) := dk_180 0 18 (dk_at dksX23_isUndone_1 11 rfl rfl)
theorem dX23_isUndone_38 : decode cX23_isUndone 38 = .ok (.iload_n 1, 1) := dk_27 (dk_at dksX23_isUndone_1 14 rfl rfl)
theorem dX23_isUndone_39 : decode cX23_isUndone 39 = .ok (.invokevirtual 31, 3) := dk_182 0 31 (dk_at dksX23_isUndone_1 15 rfl rfl)
theorem dX23_isUndone_42 : decode cX23_isUndone 42 = .ok (.checkcast 35, 3) := dk_192 0 35 (dk_at dksX23_isUndone_1 18 rfl rfl)
theorem dX23_isUndone_45 : decode cX23_isUndone 45 = .ok (.invokevirtual 37, 3) := dk_182 0 37 (dk_at dksX23_isUndone_1 21 rfl rfl)
theorem dX23_isUndone_48 : decode cX23_isUndone 48 = .ok (.pop, 1) := dk_87 (dk_at dksX23_isUndone_2 0 rfl rfl)
theorem dX23_isUndone_49 : decode cX23_isUndone 49 = .ok (.iinc 1 1, 3) := dk_132 1 1 (dk_at dksX23_isUndone_2 1 rfl rfl)
theorem dX23_isUndone_52 : decode cX23_isUndone 52 = .ok (.goto (-36), 3) := dk_167 255 220 (dk_at dksX23_isUndone_2 4 rfl rfl)
theorem dX23_isUndone_55 : decode cX23_isUndone 55 = .ok (.return_, 1) := dk_177 (dk_at dksX23_isUndone_2 7 rfl rfl)
theorem q117 : (Jvm.Cond.initialized "KilnBench$Act") ∈ lw_all := lw_g (lw_at lw_m1 41 rfl) rfl
theorem q235 : (Jvm.Cond.fieldLinkNest "KilnBench$Act" (22 : Nat) "KilnBench" "told" "Ljava/util/ArrayList;" "KilnBench") ∈ lw_tbl := lw_at lw_m1 159 rfl
theorem q710 : (Jvm.Cond.selects "KilnBench$Act" ({ cls := "java/lang/Object", name := "getClass", desc := "()Ljava/lang/Class;" } : Jvm.MethodName) ({ cls := "java/lang/Object", name := "getClass", desc := "()Ljava/lang/Class;" } : Jvm.MethodName)) ∈ lw_all := lw_g (lw_at lw_m3 154 rfl) rfl
theorem q1751 : (Jvm.Cond.selects "KilnBench$Act" ({ cls := "KilnBench$Spot", name := "isBack", desc := "()V" } : Jvm.MethodName) ({ cls := "KilnBench$Spot", name := "isBack", desc := "()V" } : Jvm.MethodName)) ∈ lw_all := lw_g (lw_at lw_m7 235 rfl) rfl
theorem q1948 : (Jvm.Cond.instantiable "KilnBench$Act" (7 : Nat)) ∈ lw_all := lw_g (lw_at lw_m8 192 rfl) rfl
theorem q1950 : (Jvm.Cond.instanceMethod ({ cls := "KilnBench$Act", name := "<init>", desc := "(LKilnBench;)V" } : Jvm.MethodName)) ∈ lw_all := lw_g (lw_at lw_m8 194 rfl) rfl
theorem q1951 : (Jvm.Cond.code ({ cls := "KilnBench$Act", name := "<init>", desc := "(LKilnBench;)V" } : Jvm.MethodName) prog_2_method_1_code (3 : Nat) (Option.none : Option Jvm.ClassFile.FieldType)) ∈ lw_all := lw_g (lw_at lw_m8 195 rfl) rfl
theorem q1952 : (Jvm.Cond.methodLink "KilnBench$Act" (7 : Nat) ({ cls := "KilnBench$Spot", name := "<init>", desc := "(LKilnBench;)V" } : Jvm.MethodName)) ∈ lw_all := lw_g (lw_at lw_m8 196 rfl) rfl
theorem q1953 : (Jvm.Cond.classLink "KilnBench$Act" (13 : Nat) "java/util/ArrayList") ∈ lw_all := lw_g (lw_at lw_m8 197 rfl) rfl
theorem q1954 : (Jvm.Cond.methodLink "KilnBench$Act" (15 : Nat) ({ cls := "java/util/ArrayList", name := "<init>", desc := "()V" } : Jvm.MethodName)) ∈ lw_all := lw_g (lw_at lw_m8 198 rfl) rfl
theorem q1955 : (Jvm.Cond.methodLink "KilnBench$Act" (27 : Nat) ({ cls := "java/util/ArrayList", name := "size", desc := "()I" } : Jvm.MethodName)) ∈ lw_all := lw_g (lw_at lw_m8 199 rfl) rfl
theorem q1956 : (Jvm.Cond.methodLink "KilnBench$Act" (31 : Nat) ({ cls := "java/util/ArrayList", name := "get", desc := "(I)Ljava/lang/Object;" } : Jvm.MethodName)) ∈ lw_all := lw_g (lw_at lw_m8 200 rfl) rfl
theorem q1957 : (Jvm.Cond.classLink "KilnBench$Act" (35 : Nat) "[I") ∈ lw_all := lw_g (lw_at lw_m8 201 rfl) rfl
theorem q1958 : (Jvm.Cond.methodLink "KilnBench$Act" (37 : Nat) ({ cls := "java/util/ArrayList", name := "add", desc := "(Ljava/lang/Object;)Z" } : Jvm.MethodName)) ∈ lw_all := lw_g (lw_at lw_m8 202 rfl) rfl
theorem q1959 : (Jvm.Cond.fieldLink "KilnBench$Act" (18 : Nat) "KilnBench$Act" "rows" "Ljava/util/ArrayList;") ∈ lw_all := lw_g (lw_at lw_m8 203 rfl) rfl
theorem q1960 : (Jvm.Cond.fieldLink "KilnBench$Act" (1 : Nat) "KilnBench$Act" "this$0" "LKilnBench;") ∈ lw_all := lw_g (lw_at lw_m8 204 rfl) rfl
theorem q1961 : (Jvm.Cond.laysFinal "KilnBench$Act" "KilnBench$Act" "rows" "Ljava/util/ArrayList;") ∈ lw_all := lw_g (lw_at lw_m8 205 rfl) rfl
theorem q1962 : (Jvm.Cond.soleField "KilnBench$Act" "rows") ∈ lw_all := lw_g (lw_at lw_m8 206 rfl) rfl
theorem q1963 : (Jvm.Cond.laysFinal "KilnBench$Act" "KilnBench$Act" "this$0" "LKilnBench;") ∈ lw_all := lw_g (lw_at lw_m8 207 rfl) rfl
theorem q1964 : (Jvm.Cond.soleField "KilnBench$Act" "this$0") ∈ lw_all := lw_g (lw_at lw_m8 208 rfl) rfl
theorem q1965 : (Jvm.Cond.laysFinal "KilnBench$Act" "KilnBench$Spot" "week" "I") ∈ lw_all := lw_g (lw_at lw_m8 209 rfl) rfl
theorem q1966 : (Jvm.Cond.laysFinal "KilnBench$Act" "KilnBench$Spot" "fuel" "I") ∈ lw_all := lw_g (lw_at lw_m8 210 rfl) rfl
theorem q1967 : (Jvm.Cond.laysFinal "KilnBench$Act" "KilnBench$Spot" "was" "[I") ∈ lw_all := lw_g (lw_at lw_m8 211 rfl) rfl
theorem q1968 : (Jvm.Cond.laysFinal "KilnBench$Act" "KilnBench$Spot" "heats" "[I") ∈ lw_all := lw_g (lw_at lw_m8 212 rfl) rfl
theorem q1969 : (Jvm.Cond.laysFinal "KilnBench$Act" "KilnBench$Spot" "this$0" "LKilnBench;") ∈ lw_all := lw_g (lw_at lw_m8 213 rfl) rfl
theorem q1970 : (Jvm.Cond.superclass "KilnBench$Act" "KilnBench$Spot") ∈ lw_all := lw_g (lw_at lw_m8 214 rfl) rfl
theorem q1999 : (Jvm.Cond.instanceMethod ({ cls := "KilnBench$Act", name := "isUndone", desc := "()V" } : Jvm.MethodName)) ∈ lw_all := lw_g (lw_at lw_m9 3 rfl) rfl
theorem q2000 : (Jvm.Cond.selects "KilnBench$Act" ({ cls := "KilnBench$Act", name := "isUndone", desc := "()V" } : Jvm.MethodName) ({ cls := "KilnBench$Act", name := "isUndone", desc := "()V" } : Jvm.MethodName)) ∈ lw_all := lw_g (lw_at lw_m9 4 rfl) rfl
theorem q2001 : (Jvm.Cond.code ({ cls := "KilnBench$Act", name := "isUndone", desc := "()V" } : Jvm.MethodName) prog_2_method_2_code (2 : Nat) (Option.none : Option Jvm.ClassFile.FieldType)) ∈ lw_all := lw_g (lw_at lw_m9 5 rfl) rfl
theorem q2002 : (Jvm.Cond.methodLink "KilnBench$Act" (41 : Nat) ({ cls := "KilnBench$Act", name := "isBack", desc := "()V" } : Jvm.MethodName)) ∈ lw_all := lw_g (lw_at lw_m9 6 rfl) rfl
theorem q2003 : (Jvm.Cond.sameMethod "KilnBench$Act" "KilnBench$Spot" "isBack" "()V") ∈ lw_all := lw_g (lw_at lw_m9 7 rfl) rfl
theorem q2005 : (Jvm.Cond.selects "KilnBench$Act" ({ cls := "KilnBench$Act", name := "isBack", desc := "()V" } : Jvm.MethodName) ({ cls := "KilnBench$Spot", name := "isBack", desc := "()V" } : Jvm.MethodName)) ∈ lw_all := lw_g (lw_at lw_m9 9 rfl) rfl
theorem q2006 : (Jvm.Cond.methodLink "KilnBench$Act" (44 : Nat) ({ cls := "java/util/ArrayList", name := "clear", desc := "()V" } : Jvm.MethodName)) ∈ lw_all := lw_g (lw_at lw_m9 10 rfl) rfl
theorem q2193 : (Jvm.Cond.castable "KilnBench$Act" "java/lang/Object") ∈ lw_tbl := lw_at lw_m9 197 rfl
theorem in_X23 : ∀ w ∈ wsX230, w ∈ lw_all := lw_in wsX230 [1965, 1966, 1967, 1968, 1969, 1961, 1963] (by decide +kernel) (by decide +kernel)

/-! KilnBench$Test -/
set_option maxRecDepth 100000
def RX24 : String := "KilnBench$Test"
abbrev cX24_not : ByteArray := prog_24_method_2_code
def yX24_not : MethodName := ⟨RX24, "not", "()LKilnBench$Test;"⟩
def dkwX24_not_0 : List UInt8 := [187, 0, 1, 89, 42, 183, 0, 3, 176]
abbrev dktX24_not_0 : List UInt8 := dkwX24_not_0 ++ []
theorem dksX24_not_0 : cX24_not.data.toList.drop 0 = dktX24_not_0 := by decide +kernel
theorem dX24_not_0 : decode cX24_not 0 = .ok (.new 1, 3) := dk_187 0 1 (dk_at dksX24_not_0 0 rfl rfl)
theorem dX24_not_3 : decode cX24_not 3 = .ok (.dup, 1) := dk_89 (dk_at dksX24_not_0 3 rfl rfl)
theorem dX24_not_4 : decode cX24_not 4 = .ok (.aload_n 0, 1) := dk_42 (dk_at dksX24_not_0 4 rfl rfl)
theorem dX24_not_5 : decode cX24_not 5 = .ok (.invokespecial 3, 3) := dk_183 0 3 (dk_at dksX24_not_0 5 rfl rfl)
theorem dX24_not_8 : decode cX24_not 8 = .ok (.areturn, 1) := dk_176 (dk_at dksX24_not_0 8 rfl rfl)
theorem q908 : (Jvm.Cond.interfaceMethod "KilnBench$Test" "KilnBench$Test" "not" "()LKilnBench$Test;") ∈ lw_tbl := lw_at lw_m4 112 rfl
theorem q909 : (Jvm.Cond.declares ({ cls := "KilnBench$Test", name := "not", desc := "()LKilnBench$Test;" } : Jvm.MethodName)) ∈ lw_tbl := lw_at lw_m4 113 rfl
theorem q912 : (Jvm.Cond.instanceMethod ({ cls := "KilnBench$Test", name := "not", desc := "()LKilnBench$Test;" } : Jvm.MethodName)) ∈ lw_all := lw_g (lw_at lw_m4 116 rfl) rfl
theorem q913 : (Jvm.Cond.publicMethod ({ cls := "KilnBench$Test", name := "not", desc := "()LKilnBench$Test;" } : Jvm.MethodName)) ∈ lw_tbl := lw_at lw_m4 117 rfl
theorem q914 : (Jvm.Cond.code ({ cls := "KilnBench$Test", name := "not", desc := "()LKilnBench$Test;" } : Jvm.MethodName) prog_24_method_2_code (1 : Nat) (Option.some (Jvm.ClassFile.FieldType.object "KilnBench$Test"))) ∈ lw_all := lw_g (lw_at lw_m4 118 rfl) rfl
theorem q915 : (Jvm.Cond.classLink "KilnBench$Test" (1 : Nat) "KilnBench$Not") ∈ lw_all := lw_g (lw_at lw_m4 119 rfl) rfl
theorem q917 : (Jvm.Cond.methodLink "KilnBench$Test" (3 : Nat) ({ cls := "KilnBench$Not", name := "<init>", desc := "(LKilnBench$Test;)V" } : Jvm.MethodName)) ∈ lw_all := lw_g (lw_at lw_m4 121 rfl) rfl
theorem q1440 : (Jvm.Cond.interfaceMethod "KilnBench$Test" "KilnBench$Test" "holds" "(LKilnBench$Asking;)Z") ∈ lw_tbl := lw_at lw_m6 164 rfl
theorem q1441 : (Jvm.Cond.declares ({ cls := "KilnBench$Test", name := "holds", desc := "(LKilnBench$Asking;)Z" } : Jvm.MethodName)) ∈ lw_tbl := lw_at lw_m6 165 rfl
theorem q2166 : (Jvm.Cond.initialized "KilnBench$Test") ∈ lw_all := lw_g (lw_at lw_m9 170 rfl) rfl

/-! KilnBench$Town -/
set_option maxRecDepth 100000
def RX3 : String := "KilnBench$Town"
def TX3 : u_T := fun k => match k with
  | 0 => ("KilnBench$Town", "fuel", "I", false)
  | 1 => ("KilnBench$Town", "load", "I", false)
  | 2 => ("KilnBench$Town", "wind", "I", false)
  | 3 => ("KilnBench$Town", "statements", "I", false)
  | 4 => ("KilnBench$Town", "temper", "LKilnBench$Sum;", false)
  | 5 => ("KilnBench$Town", "burns", "LKilnBench$Sum;", false)
  | 6 => ("KilnBench$Town", "cracks", "LKilnBench$Test;", false)
  | 7 => ("KilnBench$Town", "sticks", "LKilnBench$Test;", false)
  | 8 => ("KilnBench$Town", "children", "Ljava/util/ArrayList;", true)
  | _ => ("KilnBench$Town", "kilns", "Ljava/util/ArrayList;", true)
def tyX3 : Nat → FieldType := fun k => match k with
  | 0 => .int
  | 1 => .int
  | 2 => .int
  | 3 => .int
  | 4 => .object "KilnBench$Sum"
  | 5 => .object "KilnBench$Sum"
  | 6 => .object "KilnBench$Test"
  | 7 => .object "KilnBench$Test"
  | 8 => .object "java/util/ArrayList"
  | _ => .object "java/util/ArrayList"
abbrev wsX30 : List Cond := u_ws RX3 TX3 10
theorem nmX3 : ∀ a, a < 10 → ∀ b, b < 10 → a ≠ b → (TX3 a).2.1 ≠ (TX3 b).2.1 := by decide +kernel
theorem tyX3_ok : ∀ k, k < 10 → parseFieldDescriptor (TX3 k).2.2.1 = some (tyX3 k) := by decide +kernel
abbrev cX3_init : ByteArray := prog_26_method_1_code
def yX3_init : MethodName := ⟨RX3, "<init>", "()V"⟩
def dkwX3_init_1 : List UInt8 := [181, 0, 16, 177]
abbrev dktX3_init_1 : List UInt8 := dkwX3_init_1 ++ []
def dkwX3_init_0 : List UInt8 := [42, 183, 0, 1, 42, 187, 0, 7, 89, 183, 0, 9, 181, 0, 10, 42, 187, 0, 7, 89, 183, 0, 9]
abbrev dktX3_init_0 : List UInt8 := dkwX3_init_0 ++ dktX3_init_1
theorem dksX3_init_0 : cX3_init.data.toList.drop 0 = dktX3_init_0 := by decide +kernel
theorem dksX3_init_1 : cX3_init.data.toList.drop 23 = dktX3_init_1 := dk_seg dksX3_init_0 23 rfl rfl
theorem dX3_init_0 : decode cX3_init 0 = .ok (.aload_n 0, 1) := dk_42 (dk_at dksX3_init_0 0 rfl rfl)
theorem dX3_init_1 : decode cX3_init 1 = .ok (.invokespecial 1, 3) := dk_183 0 1 (dk_at dksX3_init_0 1 rfl rfl)
theorem dX3_init_4 : decode cX3_init 4 = .ok (.aload_n 0, 1) := dk_42 (dk_at dksX3_init_0 4 rfl rfl)
theorem dX3_init_5 : decode cX3_init 5 = .ok (.new 7, 3) := dk_187 0 7 (dk_at dksX3_init_0 5 rfl rfl)
theorem dX3_init_8 : decode cX3_init 8 = .ok (.dup, 1) := dk_89 (dk_at dksX3_init_0 8 rfl rfl)
theorem dX3_init_9 : decode cX3_init 9 = .ok (.invokespecial 9, 3) := dk_183 0 9 (dk_at dksX3_init_0 9 rfl rfl)
theorem dX3_init_12 : decode cX3_init 12 = .ok (.putfield 10, 3) := dk_181 0 10 (dk_at dksX3_init_0 12 rfl rfl)
theorem dX3_init_15 : decode cX3_init 15 = .ok (.aload_n 0, 1) := dk_42 (dk_at dksX3_init_0 15 rfl rfl)
theorem dX3_init_16 : decode cX3_init 16 = .ok (.new 7, 3) := dk_187 0 7 (dk_at dksX3_init_0 16 rfl rfl)
theorem dX3_init_19 : decode cX3_init 19 = .ok (.dup, 1) := dk_89 (dk_at dksX3_init_0 19 rfl rfl)
theorem dX3_init_20 : decode cX3_init 20 = .ok (.invokespecial 9, 3) := dk_183 0 9 (dk_at dksX3_init_0 20 rfl rfl)
theorem dX3_init_23 : decode cX3_init 23 = .ok (.putfield 16, 3) := dk_181 0 16 (dk_at dksX3_init_1 0 rfl rfl)
theorem dX3_init_26 : decode cX3_init 26 = .ok (.return_, 1) := dk_177 (dk_at dksX3_init_1 3 rfl rfl)
abbrev cX3_knows : ByteArray := prog_26_method_3_code
def yX3_knows : MethodName := ⟨RX3, "knows", "(Ljava/lang/String;)Z"⟩
def dkwX3_knows_1 : List UInt8 := [167, 0, 4, 3, 172]
abbrev dktX3_knows_1 : List UInt8 := dkwX3_knows_1 ++ []
def dkwX3_knows_0 : List UInt8 := [42, 180, 0, 10, 43, 184, 0, 39, 154, 0, 14, 42, 180, 0, 16, 43, 184, 0, 39, 153, 0, 7, 4]
abbrev dktX3_knows_0 : List UInt8 := dkwX3_knows_0 ++ dktX3_knows_1
theorem dksX3_knows_0 : cX3_knows.data.toList.drop 0 = dktX3_knows_0 := by decide +kernel
theorem dksX3_knows_1 : cX3_knows.data.toList.drop 23 = dktX3_knows_1 := dk_seg dksX3_knows_0 23 rfl rfl
theorem dX3_knows_0 : decode cX3_knows 0 = .ok (.aload_n 0, 1) := dk_42 (dk_at dksX3_knows_0 0 rfl rfl)
theorem dX3_knows_1 : decode cX3_knows 1 = .ok (.getfield 10, 3) := dk_180 0 10 (dk_at dksX3_knows_0 1 rfl rfl)
theorem dX3_knows_4 : decode cX3_knows 4 = .ok (.aload_n 1, 1) := dk_43 (dk_at dksX3_knows_0 4 rfl rfl)
theorem dX3_knows_5 : decode cX3_knows 5 = .ok (.invokestatic 39, 3) := dk_184 0 39 (dk_at dksX3_knows_0 5 rfl rfl)
theorem dX3_knows_8 : decode cX3_knows 8 = .ok (.ifCond .ne 14, 3) := dk_154 0 14 (dk_at dksX3_knows_0 8 rfl rfl)
theorem dX3_knows_11 : decode cX3_knows 11 = .ok (.aload_n 0, 1) := dk_42 (dk_at dksX3_knows_0 11 rfl rfl)
theorem dX3_knows_12 : decode cX3_knows 12 = .ok (.getfield 16, 3) := dk_180 0 16 (dk_at dksX3_knows_0 12 rfl rfl)
theorem dX3_knows_15 : decode cX3_knows 15 = .ok (.aload_n 1, 1) := dk_43 (dk_at dksX3_knows_0 15 rfl rfl)
theorem dX3_knows_16 : decode cX3_knows 16 = .ok (.invokestatic 39, 3) := dk_184 0 39 (dk_at dksX3_knows_0 16 rfl rfl)
theorem dX3_knows_19 : decode cX3_knows 19 = .ok (.ifCond .eq 7, 3) := dk_153 0 7 (dk_at dksX3_knows_0 19 rfl rfl)
theorem dX3_knows_22 : decode cX3_knows 22 = .ok (.iconst 1, 1) := dk_4 (dk_at dksX3_knows_0 22 rfl rfl)
theorem dX3_knows_23 : decode cX3_knows 23 = .ok (.goto 4, 3) := dk_167 0 4 (dk_at dksX3_knows_1 0 rfl rfl)
theorem dX3_knows_26 : decode cX3_knows 26 = .ok (.iconst 0, 1) := dk_3 (dk_at dksX3_knows_1 3 rfl rfl)
theorem dX3_knows_27 : decode cX3_knows 27 = .ok (.ireturn, 1) := dk_172 (dk_at dksX3_knows_1 4 rfl rfl)
abbrev cX3_has : ByteArray := prog_26_method_2_code
def yX3_has : MethodName := ⟨RX3, "has", "(Ljava/util/ArrayList;Ljava/lang/String;)Z"⟩
def dkwX3_has_1 : List UInt8 := [182, 0, 33, 153, 0, 5, 4, 172, 132, 2, 1, 167, 255, 225, 3, 172]
abbrev dktX3_has_1 : List UInt8 := dkwX3_has_1 ++ []
def dkwX3_has_0 : List UInt8 := [3, 61, 28, 42, 182, 0, 19, 162, 0, 29, 42, 28, 182, 0, 23, 192, 0, 27, 180, 0, 29, 43]
abbrev dktX3_has_0 : List UInt8 := dkwX3_has_0 ++ dktX3_has_1
theorem dksX3_has_0 : cX3_has.data.toList.drop 0 = dktX3_has_0 := by decide +kernel
theorem dksX3_has_1 : cX3_has.data.toList.drop 22 = dktX3_has_1 := dk_seg dksX3_has_0 22 rfl rfl
theorem dX3_has_0 : decode cX3_has 0 = .ok (.iconst 0, 1) := dk_3 (dk_at dksX3_has_0 0 rfl rfl)
theorem dX3_has_1 : decode cX3_has 1 = .ok (.istore_n 2, 1) := dk_61 (dk_at dksX3_has_0 1 rfl rfl)
theorem dX3_has_2 : decode cX3_has 2 = .ok (.iload_n 2, 1) := dk_28 (dk_at dksX3_has_0 2 rfl rfl)
theorem dX3_has_3 : decode cX3_has 3 = .ok (.aload_n 0, 1) := dk_42 (dk_at dksX3_has_0 3 rfl rfl)
theorem dX3_has_4 : decode cX3_has 4 = .ok (.invokevirtual 19, 3) := dk_182 0 19 (dk_at dksX3_has_0 4 rfl rfl)
theorem dX3_has_7 : decode cX3_has 7 = .ok (.if_icmp .ge 29, 3) := dk_162 0 29 (dk_at dksX3_has_0 7 rfl rfl)
theorem dX3_has_10 : decode cX3_has 10 = .ok (.aload_n 0, 1) := dk_42 (dk_at dksX3_has_0 10 rfl rfl)
theorem dX3_has_11 : decode cX3_has 11 = .ok (.iload_n 2, 1) := dk_28 (dk_at dksX3_has_0 11 rfl rfl)
theorem dX3_has_12 : decode cX3_has 12 = .ok (.invokevirtual 23, 3) := dk_182 0 23 (dk_at dksX3_has_0 12 rfl rfl)
theorem dX3_has_15 : decode cX3_has 15 = .ok (.checkcast 27, 3) := dk_192 0 27 (dk_at dksX3_has_0 15 rfl rfl)
theorem dX3_has_18 : decode cX3_has 18 = .ok (.getfield 29, 3) := dk_180 0 29 (dk_at dksX3_has_0 18 rfl rfl)
theorem dX3_has_21 : decode cX3_has 21 = .ok (.aload_n 1, 1) := dk_43 (dk_at dksX3_has_0 21 rfl rfl)
theorem dX3_has_22 : decode cX3_has 22 = .ok (.invokevirtual 33, 3) := dk_182 0 33 (dk_at dksX3_has_1 0 rfl rfl)
theorem dX3_has_25 : decode cX3_has 25 = .ok (.ifCond .eq 5, 3) := dk_153 0 5 (dk_at dksX3_has_1 3 rfl rfl)
theorem dX3_has_28 : decode cX3_has 28 = .ok (.iconst 1, 1) := dk_4 (dk_at dksX3_has_1 6 rfl rfl)
theorem dX3_has_29 : decode cX3_has 29 = .ok (.ireturn, 1) := dk_172 (dk_at dksX3_has_1 7 rfl rfl)
theorem dX3_has_30 : decode cX3_has 30 = .ok (.iinc 2 1, 3) := dk_132 2 1 (dk_at dksX3_has_1 8 rfl rfl)
theorem dX3_has_33 : decode cX3_has 33 = .ok (.goto (-31), 3) := dk_167 255 225 (dk_at dksX3_has_1 11 rfl rfl)
theorem dX3_has_36 : decode cX3_has 36 = .ok (.iconst 0, 1) := dk_3 (dk_at dksX3_has_1 14 rfl rfl)
theorem dX3_has_37 : decode cX3_has 37 = .ok (.ireturn, 1) := dk_172 (dk_at dksX3_has_1 15 rfl rfl)
theorem q80 : (Jvm.Cond.initialized "KilnBench$Town") ∈ lw_all := lw_g (lw_at lw_m1 4 rfl) rfl
theorem q127 : (Jvm.Cond.instantiable "KilnBench$Town" (10 : Nat)) ∈ lw_all := lw_g (lw_at lw_m1 51 rfl) rfl
theorem q129 : (Jvm.Cond.instanceMethod ({ cls := "KilnBench$Town", name := "<init>", desc := "()V" } : Jvm.MethodName)) ∈ lw_all := lw_g (lw_at lw_m1 53 rfl) rfl
theorem q130 : (Jvm.Cond.code ({ cls := "KilnBench$Town", name := "<init>", desc := "()V" } : Jvm.MethodName) prog_26_method_1_code (1 : Nat) (Option.none : Option Jvm.ClassFile.FieldType)) ∈ lw_all := lw_g (lw_at lw_m1 54 rfl) rfl
theorem q131 : (Jvm.Cond.methodLink "KilnBench$Town" (1 : Nat) ({ cls := "java/lang/Object", name := "<init>", desc := "()V" } : Jvm.MethodName)) ∈ lw_all := lw_g (lw_at lw_m1 55 rfl) rfl
theorem q132 : (Jvm.Cond.classLink "KilnBench$Town" (7 : Nat) "java/util/ArrayList") ∈ lw_all := lw_g (lw_at lw_m1 56 rfl) rfl
theorem q134 : (Jvm.Cond.methodLink "KilnBench$Town" (9 : Nat) ({ cls := "java/util/ArrayList", name := "<init>", desc := "()V" } : Jvm.MethodName)) ∈ lw_all := lw_g (lw_at lw_m1 58 rfl) rfl
theorem q177 : (Jvm.Cond.fieldLink "KilnBench$Town" (10 : Nat) "KilnBench$Town" "children" "Ljava/util/ArrayList;") ∈ lw_all := lw_g (lw_at lw_m1 101 rfl) rfl
theorem q183 : (Jvm.Cond.fieldLink "KilnBench$Town" (16 : Nat) "KilnBench$Town" "kilns" "Ljava/util/ArrayList;") ∈ lw_all := lw_g (lw_at lw_m1 107 rfl) rfl
theorem q187 : (Jvm.Cond.lays "KilnBench$Town" "KilnBench$Town" "fuel" "I") ∈ lw_all := lw_g (lw_at lw_m1 111 rfl) rfl
theorem q188 : (Jvm.Cond.soleField "KilnBench$Town" "fuel") ∈ lw_all := lw_g (lw_at lw_m1 112 rfl) rfl
theorem q189 : (Jvm.Cond.lays "KilnBench$Town" "KilnBench$Town" "load" "I") ∈ lw_all := lw_g (lw_at lw_m1 113 rfl) rfl
theorem q190 : (Jvm.Cond.soleField "KilnBench$Town" "load") ∈ lw_all := lw_g (lw_at lw_m1 114 rfl) rfl
theorem q191 : (Jvm.Cond.lays "KilnBench$Town" "KilnBench$Town" "wind" "I") ∈ lw_all := lw_g (lw_at lw_m1 115 rfl) rfl
theorem q192 : (Jvm.Cond.soleField "KilnBench$Town" "wind") ∈ lw_all := lw_g (lw_at lw_m1 116 rfl) rfl
theorem q193 : (Jvm.Cond.lays "KilnBench$Town" "KilnBench$Town" "statements" "I") ∈ lw_all := lw_g (lw_at lw_m1 117 rfl) rfl
theorem q194 : (Jvm.Cond.soleField "KilnBench$Town" "statements") ∈ lw_all := lw_g (lw_at lw_m1 118 rfl) rfl
theorem q195 : (Jvm.Cond.lays "KilnBench$Town" "KilnBench$Town" "temper" "LKilnBench$Sum;") ∈ lw_all := lw_g (lw_at lw_m1 119 rfl) rfl
theorem q196 : (Jvm.Cond.soleField "KilnBench$Town" "temper") ∈ lw_all := lw_g (lw_at lw_m1 120 rfl) rfl
theorem q197 : (Jvm.Cond.lays "KilnBench$Town" "KilnBench$Town" "burns" "LKilnBench$Sum;") ∈ lw_all := lw_g (lw_at lw_m1 121 rfl) rfl
theorem q198 : (Jvm.Cond.soleField "KilnBench$Town" "burns") ∈ lw_all := lw_g (lw_at lw_m1 122 rfl) rfl
theorem q199 : (Jvm.Cond.lays "KilnBench$Town" "KilnBench$Town" "cracks" "LKilnBench$Test;") ∈ lw_all := lw_g (lw_at lw_m1 123 rfl) rfl
theorem q200 : (Jvm.Cond.soleField "KilnBench$Town" "cracks") ∈ lw_all := lw_g (lw_at lw_m1 124 rfl) rfl
theorem q201 : (Jvm.Cond.lays "KilnBench$Town" "KilnBench$Town" "sticks" "LKilnBench$Test;") ∈ lw_all := lw_g (lw_at lw_m1 125 rfl) rfl
theorem q202 : (Jvm.Cond.soleField "KilnBench$Town" "sticks") ∈ lw_all := lw_g (lw_at lw_m1 126 rfl) rfl
theorem q203 : (Jvm.Cond.laysFinal "KilnBench$Town" "KilnBench$Town" "children" "Ljava/util/ArrayList;") ∈ lw_all := lw_g (lw_at lw_m1 127 rfl) rfl
theorem q204 : (Jvm.Cond.soleField "KilnBench$Town" "children") ∈ lw_all := lw_g (lw_at lw_m1 128 rfl) rfl
theorem q205 : (Jvm.Cond.laysFinal "KilnBench$Town" "KilnBench$Town" "kilns" "Ljava/util/ArrayList;") ∈ lw_all := lw_g (lw_at lw_m1 129 rfl) rfl
theorem q206 : (Jvm.Cond.soleField "KilnBench$Town" "kilns") ∈ lw_all := lw_g (lw_at lw_m1 130 rfl) rfl
theorem q207 : (Jvm.Cond.superclass "KilnBench$Town" "java/lang/Object") ∈ lw_all := lw_g (lw_at lw_m1 131 rfl) rfl
theorem q588 : (Jvm.Cond.instanceMethod ({ cls := "KilnBench$Town", name := "knows", desc := "(Ljava/lang/String;)Z" } : Jvm.MethodName)) ∈ lw_all := lw_g (lw_at lw_m3 32 rfl) rfl
theorem q589 : (Jvm.Cond.selects "KilnBench$Town" ({ cls := "KilnBench$Town", name := "knows", desc := "(Ljava/lang/String;)Z" } : Jvm.MethodName) ({ cls := "KilnBench$Town", name := "knows", desc := "(Ljava/lang/String;)Z" } : Jvm.MethodName)) ∈ lw_all := lw_g (lw_at lw_m3 33 rfl) rfl
theorem q590 : (Jvm.Cond.code ({ cls := "KilnBench$Town", name := "knows", desc := "(Ljava/lang/String;)Z" } : Jvm.MethodName) prog_26_method_3_code (2 : Nat) (Option.some Jvm.ClassFile.FieldType.boolean)) ∈ lw_all := lw_g (lw_at lw_m3 34 rfl) rfl
theorem q591 : (Jvm.Cond.methodLink "KilnBench$Town" (39 : Nat) ({ cls := "KilnBench$Town", name := "has", desc := "(Ljava/util/ArrayList;Ljava/lang/String;)Z" } : Jvm.MethodName)) ∈ lw_all := lw_g (lw_at lw_m3 35 rfl) rfl
theorem q592 : (Jvm.Cond.static ({ cls := "KilnBench$Town", name := "has", desc := "(Ljava/util/ArrayList;Ljava/lang/String;)Z" } : Jvm.MethodName)) ∈ lw_all := lw_g (lw_at lw_m3 36 rfl) rfl
theorem q593 : (Jvm.Cond.code ({ cls := "KilnBench$Town", name := "has", desc := "(Ljava/util/ArrayList;Ljava/lang/String;)Z" } : Jvm.MethodName) prog_26_method_2_code (3 : Nat) (Option.some Jvm.ClassFile.FieldType.boolean)) ∈ lw_all := lw_g (lw_at lw_m3 37 rfl) rfl
theorem q594 : (Jvm.Cond.methodLink "KilnBench$Town" (19 : Nat) ({ cls := "java/util/ArrayList", name := "size", desc := "()I" } : Jvm.MethodName)) ∈ lw_all := lw_g (lw_at lw_m3 38 rfl) rfl
theorem q595 : (Jvm.Cond.methodLink "KilnBench$Town" (23 : Nat) ({ cls := "java/util/ArrayList", name := "get", desc := "(I)Ljava/lang/Object;" } : Jvm.MethodName)) ∈ lw_all := lw_g (lw_at lw_m3 39 rfl) rfl
theorem q607 : (Jvm.Cond.classLink "KilnBench$Town" (27 : Nat) "KilnBench$Named") ∈ lw_all := lw_g (lw_at lw_m3 51 rfl) rfl
theorem q608 : (Jvm.Cond.methodLink "KilnBench$Town" (33 : Nat) ({ cls := "java/lang/String", name := "equals", desc := "(Ljava/lang/Object;)Z" } : Jvm.MethodName)) ∈ lw_all := lw_g (lw_at lw_m3 52 rfl) rfl
theorem q638 : (Jvm.Cond.fieldLink "KilnBench$Town" (29 : Nat) "KilnBench$Named" "name" "Ljava/lang/String;") ∈ lw_all := lw_g (lw_at lw_m3 82 rfl) rfl
theorem q728 : (Jvm.Cond.selects "KilnBench$Town" ({ cls := "java/lang/Object", name := "getClass", desc := "()Ljava/lang/Class;" } : Jvm.MethodName) ({ cls := "java/lang/Object", name := "getClass", desc := "()Ljava/lang/Class;" } : Jvm.MethodName)) ∈ lw_all := lw_g (lw_at lw_m3 172 rfl) rfl
theorem q2173 : (Jvm.Cond.castable "KilnBench$Town" "java/lang/Object") ∈ lw_tbl := lw_at lw_m9 177 rfl
theorem in_X3 : ∀ w ∈ wsX30, w ∈ lw_all := lw_in wsX30 [187, 189, 191, 193, 195, 197, 199, 201, 203, 205] (by decide +kernel) (by decide +kernel)

/-! KilnBench$Asking -/
set_option maxRecDepth 100000
def RX4 : String := "KilnBench$Asking"
def TX4 : u_T := fun k => match k with
  | _ => ("KilnBench$Asking", "told", "[J", true)
def tyX4 : Nat → FieldType := fun k => match k with
  | _ => .array .long
abbrev wsX40 : List Cond := u_ws RX4 TX4 1
theorem nmX4 : ∀ a, a < 1 → ∀ b, b < 1 → a ≠ b → (TX4 a).2.1 ≠ (TX4 b).2.1 := by decide +kernel
theorem tyX4_ok : ∀ k, k < 1 → parseFieldDescriptor (TX4 k).2.2.1 = some (tyX4 k) := by decide +kernel
abbrev cX4_init : ByteArray := prog_6_method_1_code
def yX4_init : MethodName := ⟨RX4, "<init>", "()V"⟩
def dkwX4_init_0 : List UInt8 := [42, 183, 0, 1, 42, 16, 10, 188, 11, 181, 0, 7, 177]
abbrev dktX4_init_0 : List UInt8 := dkwX4_init_0 ++ []
theorem dksX4_init_0 : cX4_init.data.toList.drop 0 = dktX4_init_0 := by decide +kernel
theorem dX4_init_0 : decode cX4_init 0 = .ok (.aload_n 0, 1) := dk_42 (dk_at dksX4_init_0 0 rfl rfl)
theorem dX4_init_1 : decode cX4_init 1 = .ok (.invokespecial 1, 3) := dk_183 0 1 (dk_at dksX4_init_0 1 rfl rfl)
theorem dX4_init_4 : decode cX4_init 4 = .ok (.aload_n 0, 1) := dk_42 (dk_at dksX4_init_0 4 rfl rfl)
theorem dX4_init_5 : decode cX4_init 5 = .ok (.bipush 10, 2) := dk_16 10 (dk_at dksX4_init_0 5 rfl rfl)
theorem dX4_init_7 : decode cX4_init 7 = .ok (.newarray .long, 2) := dk_188_11 (dk_at dksX4_init_0 7 rfl rfl)
theorem dX4_init_9 : decode cX4_init 9 = .ok (.putfield 7, 3) := dk_181 0 7 (dk_at dksX4_init_0 9 rfl rfl)
theorem dX4_init_12 : decode cX4_init 12 = .ok (.return_, 1) := dk_177 (dk_at dksX4_init_0 12 rfl rfl)
theorem q84 : (Jvm.Cond.initialized "KilnBench$Asking") ∈ lw_all := lw_g (lw_at lw_m1 8 rfl) rfl
theorem q211 : (Jvm.Cond.instantiable "KilnBench$Asking" (1 : Nat)) ∈ lw_all := lw_g (lw_at lw_m1 135 rfl) rfl
theorem q213 : (Jvm.Cond.instanceMethod ({ cls := "KilnBench$Asking", name := "<init>", desc := "()V" } : Jvm.MethodName)) ∈ lw_all := lw_g (lw_at lw_m1 137 rfl) rfl
theorem q214 : (Jvm.Cond.code ({ cls := "KilnBench$Asking", name := "<init>", desc := "()V" } : Jvm.MethodName) prog_6_method_1_code (1 : Nat) (Option.none : Option Jvm.ClassFile.FieldType)) ∈ lw_all := lw_g (lw_at lw_m1 138 rfl) rfl
theorem q215 : (Jvm.Cond.methodLink "KilnBench$Asking" (1 : Nat) ({ cls := "java/lang/Object", name := "<init>", desc := "()V" } : Jvm.MethodName)) ∈ lw_all := lw_g (lw_at lw_m1 139 rfl) rfl
theorem q216 : (Jvm.Cond.fieldLink "KilnBench$Asking" (7 : Nat) "KilnBench$Asking" "told" "[J") ∈ lw_all := lw_g (lw_at lw_m1 140 rfl) rfl
theorem q219 : (Jvm.Cond.laysFinal "KilnBench$Asking" "KilnBench$Asking" "told" "[J") ∈ lw_all := lw_g (lw_at lw_m1 143 rfl) rfl
theorem q220 : (Jvm.Cond.soleField "KilnBench$Asking" "told") ∈ lw_all := lw_g (lw_at lw_m1 144 rfl) rfl
theorem q221 : (Jvm.Cond.superclass "KilnBench$Asking" "java/lang/Object") ∈ lw_all := lw_g (lw_at lw_m1 145 rfl) rfl
theorem q714 : (Jvm.Cond.selects "KilnBench$Asking" ({ cls := "java/lang/Object", name := "getClass", desc := "()Ljava/lang/Class;" } : Jvm.MethodName) ({ cls := "java/lang/Object", name := "getClass", desc := "()Ljava/lang/Class;" } : Jvm.MethodName)) ∈ lw_all := lw_g (lw_at lw_m3 158 rfl) rfl
theorem q2175 : (Jvm.Cond.castable "KilnBench$Asking" "java/lang/Object") ∈ lw_tbl := lw_at lw_m9 179 rfl
theorem in_X4 : ∀ w ∈ wsX40, w ∈ lw_all := lw_in wsX40 [219] (by decide +kernel) (by decide +kernel)

/-! KilnBench$Fault -/
set_option maxRecDepth 100000
def RX6 : String := "KilnBench$Fault"
def TX6 : u_T := fun k => match k with
  | 0 => ("java/lang/Throwable", "cause", "Ljava/lang/Throwable;", false)
  | 1 => ("java/lang/Throwable", "stackTrace", "[Ljava/lang/StackTraceElement;", false)
  | 2 => ("java/lang/Throwable", "suppressedExceptions", "Ljava/util/List;", false)
  | 3 => ("java/lang/Throwable", "detailMessage", "Ljava/lang/String;", false)
  | 4 => ("java/lang/Throwable", "backtrace", "Ljava/lang/Object;", false)
  | 5 => ("java/lang/Throwable", "depth", "I", false)
  | 6 => ("KilnBench$Fault", "kind", "I", true)
  | _ => ("KilnBench$Fault", "place", "I", true)
def tyX6 : Nat → FieldType := fun k => match k with
  | 0 => .object "java/lang/Throwable"
  | 1 => .array (.object "java/lang/StackTraceElement")
  | 2 => .object "java/util/List"
  | 3 => .object "java/lang/String"
  | 4 => .object "java/lang/Object"
  | 5 => .int
  | 6 => .int
  | _ => .int
abbrev wsX60 : List Cond := u_ws RX6 TX6 8
theorem nmX6 : ∀ a, a < 8 → ∀ b, b < 8 → a ≠ b → (TX6 a).2.1 ≠ (TX6 b).2.1 := by decide +kernel
theorem tyX6_ok : ∀ k, k < 8 → parseFieldDescriptor (TX6 k).2.2.1 = some (tyX6 k) := by decide +kernel
abbrev cX6_init : ByteArray := prog_12_method_1_code
def yX6_init : MethodName := ⟨RX6, "<init>", "(II)V"⟩
def dkwX6_init_0 : List UInt8 := [42, 1, 1, 3, 3, 183, 0, 1, 42, 27, 181, 0, 7, 42, 28, 181, 0, 13, 177]
abbrev dktX6_init_0 : List UInt8 := dkwX6_init_0 ++ []
theorem dksX6_init_0 : cX6_init.data.toList.drop 0 = dktX6_init_0 := by decide +kernel
theorem dX6_init_0 : decode cX6_init 0 = .ok (.aload_n 0, 1) := dk_42 (dk_at dksX6_init_0 0 rfl rfl)
theorem dX6_init_1 : decode cX6_init 1 = .ok (.aconst_null, 1) := dk_1 (dk_at dksX6_init_0 1 rfl rfl)
theorem dX6_init_2 : decode cX6_init 2 = .ok (.aconst_null, 1) := dk_1 (dk_at dksX6_init_0 2 rfl rfl)
theorem dX6_init_3 : decode cX6_init 3 = .ok (.iconst 0, 1) := dk_3 (dk_at dksX6_init_0 3 rfl rfl)
theorem dX6_init_4 : decode cX6_init 4 = .ok (.iconst 0, 1) := dk_3 (dk_at dksX6_init_0 4 rfl rfl)
theorem dX6_init_5 : decode cX6_init 5 = .ok (.invokespecial 1, 3) := dk_183 0 1 (dk_at dksX6_init_0 5 rfl rfl)
theorem dX6_init_8 : decode cX6_init 8 = .ok (.aload_n 0, 1) := dk_42 (dk_at dksX6_init_0 8 rfl rfl)
theorem dX6_init_9 : decode cX6_init 9 = .ok (.iload_n 1, 1) := dk_27 (dk_at dksX6_init_0 9 rfl rfl)
theorem dX6_init_10 : decode cX6_init 10 = .ok (.putfield 7, 3) := dk_181 0 7 (dk_at dksX6_init_0 10 rfl rfl)
theorem dX6_init_13 : decode cX6_init 13 = .ok (.aload_n 0, 1) := dk_42 (dk_at dksX6_init_0 13 rfl rfl)
theorem dX6_init_14 : decode cX6_init 14 = .ok (.iload_n 2, 1) := dk_28 (dk_at dksX6_init_0 14 rfl rfl)
theorem dX6_init_15 : decode cX6_init 15 = .ok (.putfield 13, 3) := dk_181 0 13 (dk_at dksX6_init_0 15 rfl rfl)
theorem dX6_init_18 : decode cX6_init 18 = .ok (.return_, 1) := dk_177 (dk_at dksX6_init_0 18 rfl rfl)
theorem q99 : (Jvm.Cond.initialized "KilnBench$Fault") ∈ lw_all := lw_g (lw_at lw_m1 23 rfl) rfl
theorem q355 : (Jvm.Cond.instantiable "KilnBench$Fault" (8 : Nat)) ∈ lw_all := lw_g (lw_at lw_m2 39 rfl) rfl
theorem q356 : (Jvm.Cond.castable "KilnBench$Fault" "KilnBench$Fault") ∈ lw_tbl := lw_at lw_m2 40 rfl
theorem q361 : (Jvm.Cond.selects "KilnBench$Fault" ({ cls := "java/lang/Throwable", name := "fillInStackTrace", desc := "(I)Ljava/lang/Throwable;" } : Jvm.MethodName) ({ cls := "java/lang/Throwable", name := "fillInStackTrace", desc := "(I)Ljava/lang/Throwable;" } : Jvm.MethodName)) ∈ lw_all := lw_g (lw_at lw_m2 45 rfl) rfl
theorem q362 : (Jvm.Cond.selects "KilnBench$Fault" ({ cls := "java/lang/Throwable", name := "fillInStackTrace", desc := "()Ljava/lang/Throwable;" } : Jvm.MethodName) ({ cls := "java/lang/Throwable", name := "fillInStackTrace", desc := "()Ljava/lang/Throwable;" } : Jvm.MethodName)) ∈ lw_all := lw_g (lw_at lw_m2 46 rfl) rfl
theorem q363 : (Jvm.Cond.lays "KilnBench$Fault" "java/lang/Throwable" "cause" "Ljava/lang/Throwable;") ∈ lw_all := lw_g (lw_at lw_m2 47 rfl) rfl
theorem q365 : (Jvm.Cond.lays "KilnBench$Fault" "java/lang/Throwable" "stackTrace" "[Ljava/lang/StackTraceElement;") ∈ lw_all := lw_g (lw_at lw_m2 49 rfl) rfl
theorem q367 : (Jvm.Cond.lays "KilnBench$Fault" "java/lang/Throwable" "suppressedExceptions" "Ljava/util/List;") ∈ lw_all := lw_g (lw_at lw_m2 51 rfl) rfl
theorem q369 : (Jvm.Cond.lays "KilnBench$Fault" "java/lang/Throwable" "detailMessage" "Ljava/lang/String;") ∈ lw_all := lw_g (lw_at lw_m2 53 rfl) rfl
theorem q371 : (Jvm.Cond.lays "KilnBench$Fault" "java/lang/Throwable" "backtrace" "Ljava/lang/Object;") ∈ lw_all := lw_g (lw_at lw_m2 55 rfl) rfl
theorem q392 : (Jvm.Cond.instanceMethod ({ cls := "KilnBench$Fault", name := "<init>", desc := "(II)V" } : Jvm.MethodName)) ∈ lw_all := lw_g (lw_at lw_m2 76 rfl) rfl
theorem q393 : (Jvm.Cond.code ({ cls := "KilnBench$Fault", name := "<init>", desc := "(II)V" } : Jvm.MethodName) prog_12_method_1_code (3 : Nat) (Option.none : Option Jvm.ClassFile.FieldType)) ∈ lw_all := lw_g (lw_at lw_m2 77 rfl) rfl
theorem q394 : (Jvm.Cond.methodLink "KilnBench$Fault" (1 : Nat) ({ cls := "java/lang/Exception", name := "<init>", desc := "(Ljava/lang/String;Ljava/lang/Throwable;ZZ)V" } : Jvm.MethodName)) ∈ lw_all := lw_g (lw_at lw_m2 78 rfl) rfl
theorem q400 : (Jvm.Cond.fieldLink "KilnBench$Fault" (7 : Nat) "KilnBench$Fault" "kind" "I") ∈ lw_all := lw_g (lw_at lw_m2 84 rfl) rfl
theorem q402 : (Jvm.Cond.fieldLink "KilnBench$Fault" (13 : Nat) "KilnBench$Fault" "place" "I") ∈ lw_all := lw_g (lw_at lw_m2 86 rfl) rfl
theorem q409 : (Jvm.Cond.laysFinal "KilnBench$Fault" "KilnBench$Fault" "kind" "I") ∈ lw_all := lw_g (lw_at lw_m2 93 rfl) rfl
theorem q410 : (Jvm.Cond.soleField "KilnBench$Fault" "kind") ∈ lw_all := lw_g (lw_at lw_m2 94 rfl) rfl
theorem q411 : (Jvm.Cond.laysFinal "KilnBench$Fault" "KilnBench$Fault" "place" "I") ∈ lw_all := lw_g (lw_at lw_m2 95 rfl) rfl
theorem q412 : (Jvm.Cond.soleField "KilnBench$Fault" "place") ∈ lw_all := lw_g (lw_at lw_m2 96 rfl) rfl
theorem q417 : (Jvm.Cond.lays "KilnBench$Fault" "java/lang/Throwable" "depth" "I") ∈ lw_all := lw_g (lw_at lw_m2 101 rfl) rfl
theorem q420 : (Jvm.Cond.superclass "KilnBench$Fault" "java/lang/Exception") ∈ lw_all := lw_g (lw_at lw_m2 104 rfl) rfl
theorem q720 : (Jvm.Cond.selects "KilnBench$Fault" ({ cls := "java/lang/Object", name := "getClass", desc := "()Ljava/lang/Class;" } : Jvm.MethodName) ({ cls := "java/lang/Object", name := "getClass", desc := "()Ljava/lang/Class;" } : Jvm.MethodName)) ∈ lw_all := lw_g (lw_at lw_m3 164 rfl) rfl
theorem q2178 : (Jvm.Cond.castable "KilnBench$Fault" "java/lang/Object") ∈ lw_tbl := lw_at lw_m9 182 rfl
theorem in_X6 : ∀ w ∈ wsX60, w ∈ lw_all := lw_in wsX60 [363, 365, 367, 369, 371, 417, 409, 411] (by decide +kernel) (by decide +kernel)

/-! KilnBench$Named -/
set_option maxRecDepth 100000
def RX7 : String := "KilnBench$Named"
abbrev cX7_init : ByteArray := prog_16_method_1_code
def yX7_init : MethodName := ⟨RX7, "<init>", "(Ljava/lang/String;I)V"⟩
def dkwX7_init_0 : List UInt8 := [42, 183, 0, 1, 42, 43, 181, 0, 7, 42, 28, 181, 0, 13, 177]
abbrev dktX7_init_0 : List UInt8 := dkwX7_init_0 ++ []
theorem dksX7_init_0 : cX7_init.data.toList.drop 0 = dktX7_init_0 := by decide +kernel
theorem dX7_init_0 : decode cX7_init 0 = .ok (.aload_n 0, 1) := dk_42 (dk_at dksX7_init_0 0 rfl rfl)
theorem dX7_init_1 : decode cX7_init 1 = .ok (.invokespecial 1, 3) := dk_183 0 1 (dk_at dksX7_init_0 1 rfl rfl)
theorem dX7_init_4 : decode cX7_init 4 = .ok (.aload_n 0, 1) := dk_42 (dk_at dksX7_init_0 4 rfl rfl)
theorem dX7_init_5 : decode cX7_init 5 = .ok (.aload_n 1, 1) := dk_43 (dk_at dksX7_init_0 5 rfl rfl)
theorem dX7_init_6 : decode cX7_init 6 = .ok (.putfield 7, 3) := dk_181 0 7 (dk_at dksX7_init_0 6 rfl rfl)
theorem dX7_init_9 : decode cX7_init 9 = .ok (.aload_n 0, 1) := dk_42 (dk_at dksX7_init_0 9 rfl rfl)
theorem dX7_init_10 : decode cX7_init 10 = .ok (.iload_n 2, 1) := dk_28 (dk_at dksX7_init_0 10 rfl rfl)
theorem dX7_init_11 : decode cX7_init 11 = .ok (.putfield 13, 3) := dk_181 0 13 (dk_at dksX7_init_0 11 rfl rfl)
theorem dX7_init_14 : decode cX7_init 14 = .ok (.return_, 1) := dk_177 (dk_at dksX7_init_0 14 rfl rfl)
theorem q100 : (Jvm.Cond.initialized "KilnBench$Named") ∈ lw_all := lw_g (lw_at lw_m1 24 rfl) rfl
theorem q613 : (Jvm.Cond.instanceMethod ({ cls := "KilnBench$Named", name := "<init>", desc := "(Ljava/lang/String;I)V" } : Jvm.MethodName)) ∈ lw_all := lw_g (lw_at lw_m3 57 rfl) rfl
theorem q614 : (Jvm.Cond.code ({ cls := "KilnBench$Named", name := "<init>", desc := "(Ljava/lang/String;I)V" } : Jvm.MethodName) prog_16_method_1_code (3 : Nat) (Option.none : Option Jvm.ClassFile.FieldType)) ∈ lw_all := lw_g (lw_at lw_m3 58 rfl) rfl
theorem q615 : (Jvm.Cond.methodLink "KilnBench$Named" (1 : Nat) ({ cls := "java/lang/Object", name := "<init>", desc := "()V" } : Jvm.MethodName)) ∈ lw_all := lw_g (lw_at lw_m3 59 rfl) rfl
theorem q637 : (Jvm.Cond.fieldLink "KilnBench$Named" (7 : Nat) "KilnBench$Named" "name" "Ljava/lang/String;") ∈ lw_all := lw_g (lw_at lw_m3 81 rfl) rfl
theorem q639 : (Jvm.Cond.fieldLink "KilnBench$Named" (13 : Nat) "KilnBench$Named" "number" "I") ∈ lw_all := lw_g (lw_at lw_m3 83 rfl) rfl
theorem q660 : (Jvm.Cond.soleField "KilnBench$Named" "name") ∈ lw_all := lw_g (lw_at lw_m3 104 rfl) rfl
theorem q662 : (Jvm.Cond.soleField "KilnBench$Named" "number") ∈ lw_all := lw_g (lw_at lw_m3 106 rfl) rfl

/-! KilnBench$Child -/
set_option maxRecDepth 100000
def RX8 : String := "KilnBench$Child"
def TX8 : u_T := fun k => match k with
  | 0 => ("KilnBench$Named", "name", "Ljava/lang/String;", true)
  | 1 => ("KilnBench$Named", "number", "I", true)
  | 2 => ("KilnBench$Child", "clay", "I", false)
  | 3 => ("KilnBench$Child", "grit", "I", false)
  | 4 => ("KilnBench$Child", "place", "I", false)
  | 5 => ("KilnBench$Child", "temper", "I", false)
  | 6 => ("KilnBench$Child", "stuck", "I", false)
  | 7 => ("KilnBench$Child", "kiln", "LKilnBench$Kiln;", false)
  | _ => ("KilnBench$Child", "isCracked", "Z", false)
def tyX8 : Nat → FieldType := fun k => match k with
  | 0 => .object "java/lang/String"
  | 1 => .int
  | 2 => .int
  | 3 => .int
  | 4 => .int
  | 5 => .int
  | 6 => .int
  | 7 => .object "KilnBench$Kiln"
  | _ => .boolean
abbrev wsX80 : List Cond := u_ws RX8 TX8 9
theorem nmX8 : ∀ a, a < 9 → ∀ b, b < 9 → a ≠ b → (TX8 a).2.1 ≠ (TX8 b).2.1 := by decide +kernel
theorem tyX8_ok : ∀ k, k < 9 → parseFieldDescriptor (TX8 k).2.2.1 = some (tyX8 k) := by decide +kernel
abbrev cX8_init : ByteArray := prog_9_method_1_code
def yX8_init : MethodName := ⟨RX8, "<init>", "(Ljava/lang/String;I)V"⟩
def dkwX8_init_0 : List UInt8 := [42, 43, 28, 183, 0, 3, 42, 2, 181, 0, 9, 42, 2, 181, 0, 15, 177]
abbrev dktX8_init_0 : List UInt8 := dkwX8_init_0 ++ []
theorem dksX8_init_0 : cX8_init.data.toList.drop 0 = dktX8_init_0 := by decide +kernel
theorem dX8_init_0 : decode cX8_init 0 = .ok (.aload_n 0, 1) := dk_42 (dk_at dksX8_init_0 0 rfl rfl)
theorem dX8_init_1 : decode cX8_init 1 = .ok (.aload_n 1, 1) := dk_43 (dk_at dksX8_init_0 1 rfl rfl)
theorem dX8_init_2 : decode cX8_init 2 = .ok (.iload_n 2, 1) := dk_28 (dk_at dksX8_init_0 2 rfl rfl)
theorem dX8_init_3 : decode cX8_init 3 = .ok (.invokespecial 3, 3) := dk_183 0 3 (dk_at dksX8_init_0 3 rfl rfl)
theorem dX8_init_6 : decode cX8_init 6 = .ok (.aload_n 0, 1) := dk_42 (dk_at dksX8_init_0 6 rfl rfl)
theorem dX8_init_7 : decode cX8_init 7 = .ok (.iconst (-1), 1) := dk_2 (dk_at dksX8_init_0 7 rfl rfl)
theorem dX8_init_8 : decode cX8_init 8 = .ok (.putfield 9, 3) := dk_181 0 9 (dk_at dksX8_init_0 8 rfl rfl)
theorem dX8_init_11 : decode cX8_init 11 = .ok (.aload_n 0, 1) := dk_42 (dk_at dksX8_init_0 11 rfl rfl)
theorem dX8_init_12 : decode cX8_init 12 = .ok (.iconst (-1), 1) := dk_2 (dk_at dksX8_init_0 12 rfl rfl)
theorem dX8_init_13 : decode cX8_init 13 = .ok (.putfield 15, 3) := dk_181 0 15 (dk_at dksX8_init_0 13 rfl rfl)
theorem dX8_init_16 : decode cX8_init 16 = .ok (.return_, 1) := dk_177 (dk_at dksX8_init_0 16 rfl rfl)
abbrev cX8_kiln : ByteArray := prog_9_method_3_code
def yX8_kiln : MethodName := ⟨RX8, "kiln", "()I"⟩
def dkwX8_kiln_0 : List UInt8 := [42, 180, 0, 18, 199, 0, 7, 2, 167, 0, 10, 42, 180, 0, 18, 180, 0, 22, 172]
abbrev dktX8_kiln_0 : List UInt8 := dkwX8_kiln_0 ++ []
theorem dksX8_kiln_0 : cX8_kiln.data.toList.drop 0 = dktX8_kiln_0 := by decide +kernel
theorem dX8_kiln_0 : decode cX8_kiln 0 = .ok (.aload_n 0, 1) := dk_42 (dk_at dksX8_kiln_0 0 rfl rfl)
theorem dX8_kiln_1 : decode cX8_kiln 1 = .ok (.getfield 18, 3) := dk_180 0 18 (dk_at dksX8_kiln_0 1 rfl rfl)
theorem dX8_kiln_4 : decode cX8_kiln 4 = .ok (.ifnonnull 7, 3) := dk_199 0 7 (dk_at dksX8_kiln_0 4 rfl rfl)
theorem dX8_kiln_7 : decode cX8_kiln 7 = .ok (.iconst (-1), 1) := dk_2 (dk_at dksX8_kiln_0 7 rfl rfl)
theorem dX8_kiln_8 : decode cX8_kiln 8 = .ok (.goto 10, 3) := dk_167 0 10 (dk_at dksX8_kiln_0 8 rfl rfl)
theorem dX8_kiln_11 : decode cX8_kiln 11 = .ok (.aload_n 0, 1) := dk_42 (dk_at dksX8_kiln_0 11 rfl rfl)
theorem dX8_kiln_12 : decode cX8_kiln 12 = .ok (.getfield 18, 3) := dk_180 0 18 (dk_at dksX8_kiln_0 12 rfl rfl)
theorem dX8_kiln_15 : decode cX8_kiln 15 = .ok (.getfield 22, 3) := dk_180 0 22 (dk_at dksX8_kiln_0 15 rfl rfl)
theorem dX8_kiln_18 : decode cX8_kiln 18 = .ok (.ireturn, 1) := dk_172 (dk_at dksX8_kiln_0 18 rfl rfl)
abbrev cX8_isFired : ByteArray := prog_9_method_2_code
def yX8_isFired : MethodName := ⟨RX8, "isFired", "()Z"⟩
def dkwX8_isFired_0 : List UInt8 := [42, 180, 0, 15, 2, 159, 0, 7, 4, 167, 0, 4, 3, 172]
abbrev dktX8_isFired_0 : List UInt8 := dkwX8_isFired_0 ++ []
theorem dksX8_isFired_0 : cX8_isFired.data.toList.drop 0 = dktX8_isFired_0 := by decide +kernel
theorem dX8_isFired_0 : decode cX8_isFired 0 = .ok (.aload_n 0, 1) := dk_42 (dk_at dksX8_isFired_0 0 rfl rfl)
theorem dX8_isFired_1 : decode cX8_isFired 1 = .ok (.getfield 15, 3) := dk_180 0 15 (dk_at dksX8_isFired_0 1 rfl rfl)
theorem dX8_isFired_4 : decode cX8_isFired 4 = .ok (.iconst (-1), 1) := dk_2 (dk_at dksX8_isFired_0 4 rfl rfl)
theorem dX8_isFired_5 : decode cX8_isFired 5 = .ok (.if_icmp .eq 7, 3) := dk_159 0 7 (dk_at dksX8_isFired_0 5 rfl rfl)
theorem dX8_isFired_8 : decode cX8_isFired 8 = .ok (.iconst 1, 1) := dk_4 (dk_at dksX8_isFired_0 8 rfl rfl)
theorem dX8_isFired_9 : decode cX8_isFired 9 = .ok (.goto 4, 3) := dk_167 0 4 (dk_at dksX8_isFired_0 9 rfl rfl)
theorem dX8_isFired_12 : decode cX8_isFired 12 = .ok (.iconst 0, 1) := dk_3 (dk_at dksX8_isFired_0 12 rfl rfl)
theorem dX8_isFired_13 : decode cX8_isFired 13 = .ok (.ireturn, 1) := dk_172 (dk_at dksX8_isFired_0 13 rfl rfl)
abbrev cX8_goesOut : ByteArray := prog_9_method_4_code
def yX8_goesOut : MethodName := ⟨RX8, "goesOut", "()V"⟩
def dkwX8_goesOut_1 : List UInt8 := [181, 0, 18, 42, 2, 181, 0, 9, 177]
abbrev dktX8_goesOut_1 : List UInt8 := dkwX8_goesOut_1 ++ []
def dkwX8_goesOut_0 : List UInt8 := [42, 180, 0, 18, 198, 0, 16, 42, 180, 0, 18, 180, 0, 27, 42, 180, 0, 9, 1, 83, 42, 1]
abbrev dktX8_goesOut_0 : List UInt8 := dkwX8_goesOut_0 ++ dktX8_goesOut_1
theorem dksX8_goesOut_0 : cX8_goesOut.data.toList.drop 0 = dktX8_goesOut_0 := by decide +kernel
theorem dksX8_goesOut_1 : cX8_goesOut.data.toList.drop 22 = dktX8_goesOut_1 := dk_seg dksX8_goesOut_0 22 rfl rfl
theorem dX8_goesOut_0 : decode cX8_goesOut 0 = .ok (.aload_n 0, 1) := dk_42 (dk_at dksX8_goesOut_0 0 rfl rfl)
theorem dX8_goesOut_1 : decode cX8_goesOut 1 = .ok (.getfield 18, 3) := dk_180 0 18 (dk_at dksX8_goesOut_0 1 rfl rfl)
theorem dX8_goesOut_4 : decode cX8_goesOut 4 = .ok (.ifnull 16, 3) := dk_198 0 16 (dk_at dksX8_goesOut_0 4 rfl rfl)
theorem dX8_goesOut_7 : decode cX8_goesOut 7 = .ok (.aload_n 0, 1) := dk_42 (dk_at dksX8_goesOut_0 7 rfl rfl)
theorem dX8_goesOut_8 : decode cX8_goesOut 8 = .ok (.getfield 18, 3) := dk_180 0 18 (dk_at dksX8_goesOut_0 8 rfl rfl)
theorem dX8_goesOut_11 : decode cX8_goesOut 11 = .ok (.getfield 27, 3) := dk_180 0 27 (dk_at dksX8_goesOut_0 11 rfl rfl)
theorem dX8_goesOut_14 : decode cX8_goesOut 14 = .ok (.aload_n 0, 1) := dk_42 (dk_at dksX8_goesOut_0 14 rfl rfl)
theorem dX8_goesOut_15 : decode cX8_goesOut 15 = .ok (.getfield 9, 3) := dk_180 0 9 (dk_at dksX8_goesOut_0 15 rfl rfl)
theorem dX8_goesOut_18 : decode cX8_goesOut 18 = .ok (.aconst_null, 1) := dk_1 (dk_at dksX8_goesOut_0 18 rfl rfl)
theorem dX8_goesOut_19 : decode cX8_goesOut 19 = .ok (.aastore, 1) := dk_83 (dk_at dksX8_goesOut_0 19 rfl rfl)
theorem dX8_goesOut_20 : decode cX8_goesOut 20 = .ok (.aload_n 0, 1) := dk_42 (dk_at dksX8_goesOut_0 20 rfl rfl)
theorem dX8_goesOut_21 : decode cX8_goesOut 21 = .ok (.aconst_null, 1) := dk_1 (dk_at dksX8_goesOut_0 21 rfl rfl)
theorem dX8_goesOut_22 : decode cX8_goesOut 22 = .ok (.putfield 18, 3) := dk_181 0 18 (dk_at dksX8_goesOut_1 0 rfl rfl)
theorem dX8_goesOut_25 : decode cX8_goesOut 25 = .ok (.aload_n 0, 1) := dk_42 (dk_at dksX8_goesOut_1 3 rfl rfl)
theorem dX8_goesOut_26 : decode cX8_goesOut 26 = .ok (.iconst (-1), 1) := dk_2 (dk_at dksX8_goesOut_1 4 rfl rfl)
theorem dX8_goesOut_27 : decode cX8_goesOut 27 = .ok (.putfield 9, 3) := dk_181 0 9 (dk_at dksX8_goesOut_1 5 rfl rfl)
theorem dX8_goesOut_30 : decode cX8_goesOut 30 = .ok (.return_, 1) := dk_177 (dk_at dksX8_goesOut_1 8 rfl rfl)
abbrev cX8_goesIn : ByteArray := prog_9_method_5_code
def yX8_goesIn : MethodName := ⟨RX8, "goesIn", "(LKilnBench$Kiln;I)V"⟩
def dkwX8_goesIn_1 : List UInt8 := [180, 0, 27, 28, 42, 83, 177]
abbrev dktX8_goesIn_1 : List UInt8 := dkwX8_goesIn_1 ++ []
def dkwX8_goesIn_0 : List UInt8 := [42, 43, 181, 0, 18, 42, 43, 199, 0, 7, 2, 167, 0, 4, 28, 181, 0, 9, 43, 198, 0, 10, 43]
abbrev dktX8_goesIn_0 : List UInt8 := dkwX8_goesIn_0 ++ dktX8_goesIn_1
theorem dksX8_goesIn_0 : cX8_goesIn.data.toList.drop 0 = dktX8_goesIn_0 := by decide +kernel
theorem dksX8_goesIn_1 : cX8_goesIn.data.toList.drop 23 = dktX8_goesIn_1 := dk_seg dksX8_goesIn_0 23 rfl rfl
theorem dX8_goesIn_0 : decode cX8_goesIn 0 = .ok (.aload_n 0, 1) := dk_42 (dk_at dksX8_goesIn_0 0 rfl rfl)
theorem dX8_goesIn_1 : decode cX8_goesIn 1 = .ok (.aload_n 1, 1) := dk_43 (dk_at dksX8_goesIn_0 1 rfl rfl)
theorem dX8_goesIn_2 : decode cX8_goesIn 2 = .ok (.putfield 18, 3) := dk_181 0 18 (dk_at dksX8_goesIn_0 2 rfl rfl)
theorem dX8_goesIn_5 : decode cX8_goesIn 5 = .ok (.aload_n 0, 1) := dk_42 (dk_at dksX8_goesIn_0 5 rfl rfl)
theorem dX8_goesIn_6 : decode cX8_goesIn 6 = .ok (.aload_n 1, 1) := dk_43 (dk_at dksX8_goesIn_0 6 rfl rfl)
theorem dX8_goesIn_7 : decode cX8_goesIn 7 = .ok (.ifnonnull 7, 3) := dk_199 0 7 (dk_at dksX8_goesIn_0 7 rfl rfl)
theorem dX8_goesIn_10 : decode cX8_goesIn 10 = .ok (.iconst (-1), 1) := dk_2 (dk_at dksX8_goesIn_0 10 rfl rfl)
theorem dX8_goesIn_11 : decode cX8_goesIn 11 = .ok (.goto 4, 3) := dk_167 0 4 (dk_at dksX8_goesIn_0 11 rfl rfl)
theorem dX8_goesIn_14 : decode cX8_goesIn 14 = .ok (.iload_n 2, 1) := dk_28 (dk_at dksX8_goesIn_0 14 rfl rfl)
theorem dX8_goesIn_15 : decode cX8_goesIn 15 = .ok (.putfield 9, 3) := dk_181 0 9 (dk_at dksX8_goesIn_0 15 rfl rfl)
theorem dX8_goesIn_18 : decode cX8_goesIn 18 = .ok (.aload_n 1, 1) := dk_43 (dk_at dksX8_goesIn_0 18 rfl rfl)
theorem dX8_goesIn_19 : decode cX8_goesIn 19 = .ok (.ifnull 10, 3) := dk_198 0 10 (dk_at dksX8_goesIn_0 19 rfl rfl)
theorem dX8_goesIn_22 : decode cX8_goesIn 22 = .ok (.aload_n 1, 1) := dk_43 (dk_at dksX8_goesIn_0 22 rfl rfl)
theorem dX8_goesIn_23 : decode cX8_goesIn 23 = .ok (.getfield 27, 3) := dk_180 0 27 (dk_at dksX8_goesIn_1 0 rfl rfl)
theorem dX8_goesIn_26 : decode cX8_goesIn 26 = .ok (.iload_n 2, 1) := dk_28 (dk_at dksX8_goesIn_1 3 rfl rfl)
theorem dX8_goesIn_27 : decode cX8_goesIn 27 = .ok (.aload_n 0, 1) := dk_42 (dk_at dksX8_goesIn_1 4 rfl rfl)
theorem dX8_goesIn_28 : decode cX8_goesIn 28 = .ok (.aastore, 1) := dk_83 (dk_at dksX8_goesIn_1 5 rfl rfl)
theorem dX8_goesIn_29 : decode cX8_goesIn 29 = .ok (.return_, 1) := dk_177 (dk_at dksX8_goesIn_1 6 rfl rfl)
theorem q101 : (Jvm.Cond.initialized "KilnBench$Child") ∈ lw_all := lw_g (lw_at lw_m1 25 rfl) rfl
theorem q574 : (Jvm.Cond.instantiable "KilnBench$Child" (9 : Nat)) ∈ lw_all := lw_g (lw_at lw_m3 18 rfl) rfl
theorem q610 : (Jvm.Cond.instanceMethod ({ cls := "KilnBench$Child", name := "<init>", desc := "(Ljava/lang/String;I)V" } : Jvm.MethodName)) ∈ lw_all := lw_g (lw_at lw_m3 54 rfl) rfl
theorem q611 : (Jvm.Cond.code ({ cls := "KilnBench$Child", name := "<init>", desc := "(Ljava/lang/String;I)V" } : Jvm.MethodName) prog_9_method_1_code (3 : Nat) (Option.none : Option Jvm.ClassFile.FieldType)) ∈ lw_all := lw_g (lw_at lw_m3 55 rfl) rfl
theorem q612 : (Jvm.Cond.methodLink "KilnBench$Child" (3 : Nat) ({ cls := "KilnBench$Named", name := "<init>", desc := "(Ljava/lang/String;I)V" } : Jvm.MethodName)) ∈ lw_all := lw_g (lw_at lw_m3 56 rfl) rfl
theorem q620 : (Jvm.Cond.fieldLink "KilnBench$Child" (9 : Nat) "KilnBench$Child" "place" "I") ∈ lw_all := lw_g (lw_at lw_m3 64 rfl) rfl
theorem q623 : (Jvm.Cond.fieldLink "KilnBench$Child" (15 : Nat) "KilnBench$Child" "temper" "I") ∈ lw_all := lw_g (lw_at lw_m3 67 rfl) rfl
theorem q632 : (Jvm.Cond.fieldLink "KilnBench$Child" (18 : Nat) "KilnBench$Child" "kiln" "LKilnBench$Kiln;") ∈ lw_all := lw_g (lw_at lw_m3 76 rfl) rfl
theorem q640 : (Jvm.Cond.fieldLink "KilnBench$Child" (22 : Nat) "KilnBench$Kiln" "number" "I") ∈ lw_all := lw_g (lw_at lw_m3 84 rfl) rfl
theorem q643 : (Jvm.Cond.sameField "KilnBench$Child" "KilnBench$Named" "number" "I") ∈ lw_all := lw_g (lw_at lw_m3 87 rfl) rfl
theorem q645 : (Jvm.Cond.lays "KilnBench$Child" "KilnBench$Child" "clay" "I") ∈ lw_all := lw_g (lw_at lw_m3 89 rfl) rfl
theorem q646 : (Jvm.Cond.soleField "KilnBench$Child" "clay") ∈ lw_all := lw_g (lw_at lw_m3 90 rfl) rfl
theorem q647 : (Jvm.Cond.lays "KilnBench$Child" "KilnBench$Child" "grit" "I") ∈ lw_all := lw_g (lw_at lw_m3 91 rfl) rfl
theorem q648 : (Jvm.Cond.soleField "KilnBench$Child" "grit") ∈ lw_all := lw_g (lw_at lw_m3 92 rfl) rfl
theorem q649 : (Jvm.Cond.lays "KilnBench$Child" "KilnBench$Child" "place" "I") ∈ lw_all := lw_g (lw_at lw_m3 93 rfl) rfl
theorem q650 : (Jvm.Cond.soleField "KilnBench$Child" "place") ∈ lw_all := lw_g (lw_at lw_m3 94 rfl) rfl
theorem q651 : (Jvm.Cond.lays "KilnBench$Child" "KilnBench$Child" "temper" "I") ∈ lw_all := lw_g (lw_at lw_m3 95 rfl) rfl
theorem q652 : (Jvm.Cond.soleField "KilnBench$Child" "temper") ∈ lw_all := lw_g (lw_at lw_m3 96 rfl) rfl
theorem q653 : (Jvm.Cond.lays "KilnBench$Child" "KilnBench$Child" "stuck" "I") ∈ lw_all := lw_g (lw_at lw_m3 97 rfl) rfl
theorem q654 : (Jvm.Cond.soleField "KilnBench$Child" "stuck") ∈ lw_all := lw_g (lw_at lw_m3 98 rfl) rfl
theorem q655 : (Jvm.Cond.lays "KilnBench$Child" "KilnBench$Child" "kiln" "LKilnBench$Kiln;") ∈ lw_all := lw_g (lw_at lw_m3 99 rfl) rfl
theorem q656 : (Jvm.Cond.soleField "KilnBench$Child" "kiln") ∈ lw_all := lw_g (lw_at lw_m3 100 rfl) rfl
theorem q657 : (Jvm.Cond.lays "KilnBench$Child" "KilnBench$Child" "isCracked" "Z") ∈ lw_all := lw_g (lw_at lw_m3 101 rfl) rfl
theorem q658 : (Jvm.Cond.soleField "KilnBench$Child" "isCracked") ∈ lw_all := lw_g (lw_at lw_m3 102 rfl) rfl
theorem q659 : (Jvm.Cond.laysFinal "KilnBench$Child" "KilnBench$Named" "name" "Ljava/lang/String;") ∈ lw_all := lw_g (lw_at lw_m3 103 rfl) rfl
theorem q661 : (Jvm.Cond.laysFinal "KilnBench$Child" "KilnBench$Named" "number" "I") ∈ lw_all := lw_g (lw_at lw_m3 105 rfl) rfl
theorem q663 : (Jvm.Cond.superclass "KilnBench$Child" "KilnBench$Named") ∈ lw_all := lw_g (lw_at lw_m3 107 rfl) rfl
theorem q717 : (Jvm.Cond.selects "KilnBench$Child" ({ cls := "java/lang/Object", name := "getClass", desc := "()Ljava/lang/Class;" } : Jvm.MethodName) ({ cls := "java/lang/Object", name := "getClass", desc := "()Ljava/lang/Class;" } : Jvm.MethodName)) ∈ lw_all := lw_g (lw_at lw_m3 161 rfl) rfl
theorem q773 : (Jvm.Cond.fieldLink "KilnBench$Child" (27 : Nat) "KilnBench$Kiln" "places" "[LKilnBench$Child;") ∈ lw_all := lw_g (lw_at lw_m3 217 rfl) rfl
theorem q1346 : (Jvm.Cond.instanceMethod ({ cls := "KilnBench$Child", name := "kiln", desc := "()I" } : Jvm.MethodName)) ∈ lw_all := lw_g (lw_at lw_m6 70 rfl) rfl
theorem q1347 : (Jvm.Cond.selects "KilnBench$Child" ({ cls := "KilnBench$Child", name := "kiln", desc := "()I" } : Jvm.MethodName) ({ cls := "KilnBench$Child", name := "kiln", desc := "()I" } : Jvm.MethodName)) ∈ lw_all := lw_g (lw_at lw_m6 71 rfl) rfl
theorem q1348 : (Jvm.Cond.code ({ cls := "KilnBench$Child", name := "kiln", desc := "()I" } : Jvm.MethodName) prog_9_method_3_code (1 : Nat) (Option.some Jvm.ClassFile.FieldType.int)) ∈ lw_all := lw_g (lw_at lw_m6 72 rfl) rfl
theorem q1350 : (Jvm.Cond.instanceMethod ({ cls := "KilnBench$Child", name := "isFired", desc := "()Z" } : Jvm.MethodName)) ∈ lw_all := lw_g (lw_at lw_m6 74 rfl) rfl
theorem q1351 : (Jvm.Cond.selects "KilnBench$Child" ({ cls := "KilnBench$Child", name := "isFired", desc := "()Z" } : Jvm.MethodName) ({ cls := "KilnBench$Child", name := "isFired", desc := "()Z" } : Jvm.MethodName)) ∈ lw_all := lw_g (lw_at lw_m6 75 rfl) rfl
theorem q1352 : (Jvm.Cond.code ({ cls := "KilnBench$Child", name := "isFired", desc := "()Z" } : Jvm.MethodName) prog_9_method_2_code (1 : Nat) (Option.some Jvm.ClassFile.FieldType.boolean)) ∈ lw_all := lw_g (lw_at lw_m6 76 rfl) rfl
theorem q1716 : (Jvm.Cond.instanceMethod ({ cls := "KilnBench$Child", name := "goesOut", desc := "()V" } : Jvm.MethodName)) ∈ lw_all := lw_g (lw_at lw_m7 200 rfl) rfl
theorem q1717 : (Jvm.Cond.selects "KilnBench$Child" ({ cls := "KilnBench$Child", name := "goesOut", desc := "()V" } : Jvm.MethodName) ({ cls := "KilnBench$Child", name := "goesOut", desc := "()V" } : Jvm.MethodName)) ∈ lw_all := lw_g (lw_at lw_m7 201 rfl) rfl
theorem q1718 : (Jvm.Cond.code ({ cls := "KilnBench$Child", name := "goesOut", desc := "()V" } : Jvm.MethodName) prog_9_method_4_code (1 : Nat) (Option.none : Option Jvm.ClassFile.FieldType)) ∈ lw_all := lw_g (lw_at lw_m7 202 rfl) rfl
theorem q1756 : (Jvm.Cond.instanceMethod ({ cls := "KilnBench$Child", name := "goesIn", desc := "(LKilnBench$Kiln;I)V" } : Jvm.MethodName)) ∈ lw_all := lw_g (lw_at lw_m8 0 rfl) rfl
theorem q1757 : (Jvm.Cond.selects "KilnBench$Child" ({ cls := "KilnBench$Child", name := "goesIn", desc := "(LKilnBench$Kiln;I)V" } : Jvm.MethodName) ({ cls := "KilnBench$Child", name := "goesIn", desc := "(LKilnBench$Kiln;I)V" } : Jvm.MethodName)) ∈ lw_all := lw_g (lw_at lw_m8 1 rfl) rfl
theorem q1758 : (Jvm.Cond.code ({ cls := "KilnBench$Child", name := "goesIn", desc := "(LKilnBench$Kiln;I)V" } : Jvm.MethodName) prog_9_method_5_code (3 : Nat) (Option.none : Option Jvm.ClassFile.FieldType)) ∈ lw_all := lw_g (lw_at lw_m8 2 rfl) rfl
theorem q2167 : (Jvm.Cond.castable "KilnBench$Child" "KilnBench$Named") ∈ lw_tbl := lw_at lw_m9 171 rfl
theorem q2169 : (Jvm.Cond.castable "KilnBench$Child" "java/lang/Object") ∈ lw_tbl := lw_at lw_m9 173 rfl
theorem in_X8 : ∀ w ∈ wsX80, w ∈ lw_all := lw_in wsX80 [659, 661, 645, 647, 649, 651, 653, 655, 657] (by decide +kernel) (by decide +kernel)

/-! KilnBench$Kiln -/
set_option maxRecDepth 100000
def RX9 : String := "KilnBench$Kiln"
def TX9 : u_T := fun k => match k with
  | 0 => ("KilnBench$Named", "name", "Ljava/lang/String;", true)
  | 1 => ("KilnBench$Named", "number", "I", true)
  | 2 => ("KilnBench$Kiln", "room", "I", false)
  | 3 => ("KilnBench$Kiln", "heat", "I", false)
  | _ => ("KilnBench$Kiln", "places", "[LKilnBench$Child;", true)
def tyX9 : Nat → FieldType := fun k => match k with
  | 0 => .object "java/lang/String"
  | 1 => .int
  | 2 => .int
  | 3 => .int
  | _ => .array (.object "KilnBench$Child")
abbrev wsX90 : List Cond := u_ws RX9 TX9 5
theorem nmX9 : ∀ a, a < 5 → ∀ b, b < 5 → a ≠ b → (TX9 a).2.1 ≠ (TX9 b).2.1 := by decide +kernel
theorem tyX9_ok : ∀ k, k < 5 → parseFieldDescriptor (TX9 k).2.2.1 = some (tyX9 k) := by decide +kernel
abbrev cX9_init : ByteArray := prog_14_method_1_code
def yX9_init : MethodName := ⟨RX9, "<init>", "(Ljava/lang/String;I)V"⟩
def dkwX9_init_0 : List UInt8 := [42, 43, 28, 183, 0, 3, 42, 2, 181, 0, 9, 42, 16, 6, 189, 0, 15, 181, 0, 17, 177]
abbrev dktX9_init_0 : List UInt8 := dkwX9_init_0 ++ []
theorem dksX9_init_0 : cX9_init.data.toList.drop 0 = dktX9_init_0 := by decide +kernel
theorem dX9_init_0 : decode cX9_init 0 = .ok (.aload_n 0, 1) := dk_42 (dk_at dksX9_init_0 0 rfl rfl)
theorem dX9_init_1 : decode cX9_init 1 = .ok (.aload_n 1, 1) := dk_43 (dk_at dksX9_init_0 1 rfl rfl)
theorem dX9_init_2 : decode cX9_init 2 = .ok (.iload_n 2, 1) := dk_28 (dk_at dksX9_init_0 2 rfl rfl)
theorem dX9_init_3 : decode cX9_init 3 = .ok (.invokespecial 3, 3) := dk_183 0 3 (dk_at dksX9_init_0 3 rfl rfl)
theorem dX9_init_6 : decode cX9_init 6 = .ok (.aload_n 0, 1) := dk_42 (dk_at dksX9_init_0 6 rfl rfl)
theorem dX9_init_7 : decode cX9_init 7 = .ok (.iconst (-1), 1) := dk_2 (dk_at dksX9_init_0 7 rfl rfl)
theorem dX9_init_8 : decode cX9_init 8 = .ok (.putfield 9, 3) := dk_181 0 9 (dk_at dksX9_init_0 8 rfl rfl)
theorem dX9_init_11 : decode cX9_init 11 = .ok (.aload_n 0, 1) := dk_42 (dk_at dksX9_init_0 11 rfl rfl)
theorem dX9_init_12 : decode cX9_init 12 = .ok (.bipush 6, 2) := dk_16 6 (dk_at dksX9_init_0 12 rfl rfl)
theorem dX9_init_14 : decode cX9_init 14 = .ok (.anewarray 15, 3) := dk_189 0 15 (dk_at dksX9_init_0 14 rfl rfl)
theorem dX9_init_17 : decode cX9_init 17 = .ok (.putfield 17, 3) := dk_181 0 17 (dk_at dksX9_init_0 17 rfl rfl)
theorem dX9_init_20 : decode cX9_init 20 = .ok (.return_, 1) := dk_177 (dk_at dksX9_init_0 20 rfl rfl)
abbrev cX9_isLit : ByteArray := prog_14_method_3_code
def yX9_isLit : MethodName := ⟨RX9, "isLit", "()Z"⟩
def dkwX9_isLit_0 : List UInt8 := [42, 180, 0, 9, 2, 159, 0, 7, 4, 167, 0, 4, 3, 172]
abbrev dktX9_isLit_0 : List UInt8 := dkwX9_isLit_0 ++ []
theorem dksX9_isLit_0 : cX9_isLit.data.toList.drop 0 = dktX9_isLit_0 := by decide +kernel
theorem dX9_isLit_0 : decode cX9_isLit 0 = .ok (.aload_n 0, 1) := dk_42 (dk_at dksX9_isLit_0 0 rfl rfl)
theorem dX9_isLit_1 : decode cX9_isLit 1 = .ok (.getfield 9, 3) := dk_180 0 9 (dk_at dksX9_isLit_0 1 rfl rfl)
theorem dX9_isLit_4 : decode cX9_isLit 4 = .ok (.iconst (-1), 1) := dk_2 (dk_at dksX9_isLit_0 4 rfl rfl)
theorem dX9_isLit_5 : decode cX9_isLit 5 = .ok (.if_icmp .eq 7, 3) := dk_159 0 7 (dk_at dksX9_isLit_0 5 rfl rfl)
theorem dX9_isLit_8 : decode cX9_isLit 8 = .ok (.iconst 1, 1) := dk_4 (dk_at dksX9_isLit_0 8 rfl rfl)
theorem dX9_isLit_9 : decode cX9_isLit 9 = .ok (.goto 4, 3) := dk_167 0 4 (dk_at dksX9_isLit_0 9 rfl rfl)
theorem dX9_isLit_12 : decode cX9_isLit 12 = .ok (.iconst 0, 1) := dk_3 (dk_at dksX9_isLit_0 12 rfl rfl)
theorem dX9_isLit_13 : decode cX9_isLit 13 = .ok (.ireturn, 1) := dk_172 (dk_at dksX9_isLit_0 13 rfl rfl)
abbrev cX9_full : ByteArray := prog_14_method_2_code
def yX9_full : MethodName := ⟨RX9, "full", "()I"⟩
def dkwX9_full_1 : List UInt8 := [132, 2, 1, 167, 255, 233, 27, 172]
abbrev dktX9_full_1 : List UInt8 := dkwX9_full_1 ++ []
def dkwX9_full_0 : List UInt8 := [3, 60, 3, 61, 28, 42, 180, 0, 21, 162, 0, 21, 42, 180, 0, 17, 28, 50, 198, 0, 6, 132, 1, 1]
abbrev dktX9_full_0 : List UInt8 := dkwX9_full_0 ++ dktX9_full_1
theorem dksX9_full_0 : cX9_full.data.toList.drop 0 = dktX9_full_0 := by decide +kernel
theorem dksX9_full_1 : cX9_full.data.toList.drop 24 = dktX9_full_1 := dk_seg dksX9_full_0 24 rfl rfl
theorem dX9_full_0 : decode cX9_full 0 = .ok (.iconst 0, 1) := dk_3 (dk_at dksX9_full_0 0 rfl rfl)
theorem dX9_full_1 : decode cX9_full 1 = .ok (.istore_n 1, 1) := dk_60 (dk_at dksX9_full_0 1 rfl rfl)
theorem dX9_full_2 : decode cX9_full 2 = .ok (.iconst 0, 1) := dk_3 (dk_at dksX9_full_0 2 rfl rfl)
theorem dX9_full_3 : decode cX9_full 3 = .ok (.istore_n 2, 1) := dk_61 (dk_at dksX9_full_0 3 rfl rfl)
theorem dX9_full_4 : decode cX9_full 4 = .ok (.iload_n 2, 1) := dk_28 (dk_at dksX9_full_0 4 rfl rfl)
theorem dX9_full_5 : decode cX9_full 5 = .ok (.aload_n 0, 1) := dk_42 (dk_at dksX9_full_0 5 rfl rfl)
theorem dX9_full_6 : decode cX9_full 6 = .ok (.getfield 21, 3) := dk_180 0 21 (dk_at dksX9_full_0 6 rfl rfl)
theorem dX9_full_9 : decode cX9_full 9 = .ok (.if_icmp .ge 21, 3) := dk_162 0 21 (dk_at dksX9_full_0 9 rfl rfl)
theorem dX9_full_12 : decode cX9_full 12 = .ok (.aload_n 0, 1) := dk_42 (dk_at dksX9_full_0 12 rfl rfl)
theorem dX9_full_13 : decode cX9_full 13 = .ok (.getfield 17, 3) := dk_180 0 17 (dk_at dksX9_full_0 13 rfl rfl)
theorem dX9_full_16 : decode cX9_full 16 = .ok (.iload_n 2, 1) := dk_28 (dk_at dksX9_full_0 16 rfl rfl)
theorem dX9_full_17 : decode cX9_full 17 = .ok (.aaload, 1) := dk_50 (dk_at dksX9_full_0 17 rfl rfl)
theorem dX9_full_18 : decode cX9_full 18 = .ok (.ifnull 6, 3) := dk_198 0 6 (dk_at dksX9_full_0 18 rfl rfl)
theorem dX9_full_21 : decode cX9_full 21 = .ok (.iinc 1 1, 3) := dk_132 1 1 (dk_at dksX9_full_0 21 rfl rfl)
theorem dX9_full_24 : decode cX9_full 24 = .ok (.iinc 2 1, 3) := dk_132 2 1 (dk_at dksX9_full_1 0 rfl rfl)
theorem dX9_full_27 : decode cX9_full 27 = .ok (.goto (-23), 3) := dk_167 255 233 (dk_at dksX9_full_1 3 rfl rfl)
theorem dX9_full_30 : decode cX9_full 30 = .ok (.iload_n 1, 1) := dk_27 (dk_at dksX9_full_1 6 rfl rfl)
theorem dX9_full_31 : decode cX9_full 31 = .ok (.ireturn, 1) := dk_172 (dk_at dksX9_full_1 7 rfl rfl)
theorem q103 : (Jvm.Cond.initialized "KilnBench$Kiln") ∈ lw_all := lw_g (lw_at lw_m1 27 rfl) rfl
theorem q641 : (Jvm.Cond.sameField "KilnBench$Kiln" "KilnBench$Named" "number" "I") ∈ lw_all := lw_g (lw_at lw_m3 85 rfl) rfl
theorem q721 : (Jvm.Cond.selects "KilnBench$Kiln" ({ cls := "java/lang/Object", name := "getClass", desc := "()Ljava/lang/Class;" } : Jvm.MethodName) ({ cls := "java/lang/Object", name := "getClass", desc := "()Ljava/lang/Class;" } : Jvm.MethodName)) ∈ lw_all := lw_g (lw_at lw_m3 165 rfl) rfl
theorem q755 : (Jvm.Cond.instantiable "KilnBench$Kiln" (5 : Nat)) ∈ lw_all := lw_g (lw_at lw_m3 199 rfl) rfl
theorem q757 : (Jvm.Cond.instanceMethod ({ cls := "KilnBench$Kiln", name := "<init>", desc := "(Ljava/lang/String;I)V" } : Jvm.MethodName)) ∈ lw_all := lw_g (lw_at lw_m3 201 rfl) rfl
theorem q758 : (Jvm.Cond.code ({ cls := "KilnBench$Kiln", name := "<init>", desc := "(Ljava/lang/String;I)V" } : Jvm.MethodName) prog_14_method_1_code (3 : Nat) (Option.none : Option Jvm.ClassFile.FieldType)) ∈ lw_all := lw_g (lw_at lw_m3 202 rfl) rfl
theorem q759 : (Jvm.Cond.methodLink "KilnBench$Kiln" (3 : Nat) ({ cls := "KilnBench$Named", name := "<init>", desc := "(Ljava/lang/String;I)V" } : Jvm.MethodName)) ∈ lw_all := lw_g (lw_at lw_m3 203 rfl) rfl
theorem q760 : (Jvm.Cond.classLink "KilnBench$Kiln" (15 : Nat) "KilnBench$Child") ∈ lw_all := lw_g (lw_at lw_m3 204 rfl) rfl
theorem q764 : (Jvm.Cond.fieldLink "KilnBench$Kiln" (21 : Nat) "KilnBench$Kiln" "room" "I") ∈ lw_all := lw_g (lw_at lw_m3 208 rfl) rfl
theorem q767 : (Jvm.Cond.fieldLink "KilnBench$Kiln" (9 : Nat) "KilnBench$Kiln" "heat" "I") ∈ lw_all := lw_g (lw_at lw_m3 211 rfl) rfl
theorem q771 : (Jvm.Cond.fieldLink "KilnBench$Kiln" (17 : Nat) "KilnBench$Kiln" "places" "[LKilnBench$Child;") ∈ lw_all := lw_g (lw_at lw_m3 215 rfl) rfl
theorem q775 : (Jvm.Cond.lays "KilnBench$Kiln" "KilnBench$Kiln" "room" "I") ∈ lw_all := lw_g (lw_at lw_m3 219 rfl) rfl
theorem q776 : (Jvm.Cond.soleField "KilnBench$Kiln" "room") ∈ lw_all := lw_g (lw_at lw_m3 220 rfl) rfl
theorem q777 : (Jvm.Cond.lays "KilnBench$Kiln" "KilnBench$Kiln" "heat" "I") ∈ lw_all := lw_g (lw_at lw_m3 221 rfl) rfl
theorem q778 : (Jvm.Cond.soleField "KilnBench$Kiln" "heat") ∈ lw_all := lw_g (lw_at lw_m3 222 rfl) rfl
theorem q779 : (Jvm.Cond.laysFinal "KilnBench$Kiln" "KilnBench$Kiln" "places" "[LKilnBench$Child;") ∈ lw_all := lw_g (lw_at lw_m3 223 rfl) rfl
theorem q780 : (Jvm.Cond.soleField "KilnBench$Kiln" "places") ∈ lw_all := lw_g (lw_at lw_m3 224 rfl) rfl
theorem q781 : (Jvm.Cond.laysFinal "KilnBench$Kiln" "KilnBench$Named" "name" "Ljava/lang/String;") ∈ lw_all := lw_g (lw_at lw_m3 225 rfl) rfl
theorem q782 : (Jvm.Cond.laysFinal "KilnBench$Kiln" "KilnBench$Named" "number" "I") ∈ lw_all := lw_g (lw_at lw_m3 226 rfl) rfl
theorem q783 : (Jvm.Cond.superclass "KilnBench$Kiln" "KilnBench$Named") ∈ lw_all := lw_g (lw_at lw_m3 227 rfl) rfl
theorem q1393 : (Jvm.Cond.instanceMethod ({ cls := "KilnBench$Kiln", name := "isLit", desc := "()Z" } : Jvm.MethodName)) ∈ lw_all := lw_g (lw_at lw_m6 117 rfl) rfl
theorem q1394 : (Jvm.Cond.selects "KilnBench$Kiln" ({ cls := "KilnBench$Kiln", name := "isLit", desc := "()Z" } : Jvm.MethodName) ({ cls := "KilnBench$Kiln", name := "isLit", desc := "()Z" } : Jvm.MethodName)) ∈ lw_all := lw_g (lw_at lw_m6 118 rfl) rfl
theorem q1395 : (Jvm.Cond.code ({ cls := "KilnBench$Kiln", name := "isLit", desc := "()Z" } : Jvm.MethodName) prog_14_method_3_code (1 : Nat) (Option.some Jvm.ClassFile.FieldType.boolean)) ∈ lw_all := lw_g (lw_at lw_m6 119 rfl) rfl
theorem q1401 : (Jvm.Cond.instanceMethod ({ cls := "KilnBench$Kiln", name := "full", desc := "()I" } : Jvm.MethodName)) ∈ lw_all := lw_g (lw_at lw_m6 125 rfl) rfl
theorem q1402 : (Jvm.Cond.selects "KilnBench$Kiln" ({ cls := "KilnBench$Kiln", name := "full", desc := "()I" } : Jvm.MethodName) ({ cls := "KilnBench$Kiln", name := "full", desc := "()I" } : Jvm.MethodName)) ∈ lw_all := lw_g (lw_at lw_m6 126 rfl) rfl
theorem q1403 : (Jvm.Cond.code ({ cls := "KilnBench$Kiln", name := "full", desc := "()I" } : Jvm.MethodName) prog_14_method_2_code (3 : Nat) (Option.some Jvm.ClassFile.FieldType.int)) ∈ lw_all := lw_g (lw_at lw_m6 127 rfl) rfl
theorem q2168 : (Jvm.Cond.castable "KilnBench$Kiln" "KilnBench$Named") ∈ lw_tbl := lw_at lw_m9 172 rfl
theorem q2179 : (Jvm.Cond.castable "KilnBench$Kiln" "java/lang/Object") ∈ lw_tbl := lw_at lw_m9 183 rfl
theorem in_X9 : ∀ w ∈ wsX90, w ∈ lw_all := lw_in wsX90 [781, 782, 775, 777, 779] (by decide +kernel) (by decide +kernel)

theorem q1591 : (Jvm.Cond.interfaceMethod "KilnBench$Good" "KilnBench$Good" "is" "(I)Z") ∈ lw_tbl := lw_at lw_m7 75 rfl
set_option maxRecDepth 100000
theorem q1592 : (Jvm.Cond.declares ({ cls := "KilnBench$Good", name := "is", desc := "(I)Z" } : Jvm.MethodName)) ∈ lw_tbl := lw_at lw_m7 76 rfl

theorem q1384 : (Jvm.Cond.interfaceMethod "KilnBench$Meant" "KilnBench$Meant" "is" "(Ljava/lang/Object;)Z") ∈ lw_tbl := lw_at lw_m6 108 rfl
set_option maxRecDepth 100000
theorem q1385 : (Jvm.Cond.declares ({ cls := "KilnBench$Meant", name := "is", desc := "(Ljava/lang/Object;)Z" } : Jvm.MethodName)) ∈ lw_tbl := lw_at lw_m6 109 rfl

theorem q1414 : (Jvm.Cond.interfaceMethod "KilnBench$Sum" "KilnBench$Sum" "of" "(LKilnBench$Asking;)J") ∈ lw_tbl := lw_at lw_m6 138 rfl
set_option maxRecDepth 100000
theorem q1415 : (Jvm.Cond.declares ({ cls := "KilnBench$Sum", name := "of", desc := "(LKilnBench$Asking;)J" } : Jvm.MethodName)) ∈ lw_tbl := lw_at lw_m6 139 rfl

theorem q1741 : (Jvm.Cond.interfaceMethod "KilnBench$Told" "KilnBench$Told" "of" "()I") ∈ lw_tbl := lw_at lw_m7 225 rfl
set_option maxRecDepth 100000
theorem q1742 : (Jvm.Cond.declares ({ cls := "KilnBench$Told", name := "of", desc := "()I" } : Jvm.MethodName)) ∈ lw_tbl := lw_at lw_m7 226 rfl

theorem q1056 : (Jvm.Cond.sameMethod "[B" "java/lang/Object" "clone" "()Ljava/lang/Object;") ∈ lw_all := lw_g (lw_at lw_m5 20 rfl) rfl
set_option maxRecDepth 100000
theorem q1059 : (Jvm.Cond.selects "[B" ({ cls := "[B", name := "clone", desc := "()Ljava/lang/Object;" } : Jvm.MethodName) ({ cls := "java/lang/Object", name := "clone", desc := "()Ljava/lang/Object;" } : Jvm.MethodName)) ∈ lw_all := lw_g (lw_at lw_m5 23 rfl) rfl
theorem q1060 : (Jvm.Cond.castable "[B" "java/lang/Cloneable") ∈ lw_tbl := lw_at lw_m5 24 rfl
theorem q2201 : (Jvm.Cond.castable "[B" "java/lang/Object") ∈ lw_tbl := lw_at lw_m9 205 rfl

theorem q2198 : (Jvm.Cond.castable "[C" "java/lang/Object") ∈ lw_tbl := lw_at lw_m9 202 rfl
set_option maxRecDepth 100000

theorem q2199 : (Jvm.Cond.castable "[I" "java/lang/Object") ∈ lw_tbl := lw_at lw_m9 203 rfl
set_option maxRecDepth 100000

theorem q2200 : (Jvm.Cond.castable "[J" "java/lang/Object") ∈ lw_tbl := lw_at lw_m9 204 rfl
set_option maxRecDepth 100000

theorem q2203 : (Jvm.Cond.castable "[LKilnBench$Child;" "java/lang/Object") ∈ lw_tbl := lw_at lw_m9 207 rfl
set_option maxRecDepth 100000

theorem q2195 : (Jvm.Cond.sameMethod "[Ljava/lang/Object;" "java/lang/Object" "getClass" "()Ljava/lang/Class;") ∈ lw_all := lw_g (lw_at lw_m9 199 rfl) rfl
set_option maxRecDepth 100000
theorem q2196 : (Jvm.Cond.selects "[Ljava/lang/Object;" ({ cls := "java/lang/Object", name := "getClass", desc := "()Ljava/lang/Class;" } : Jvm.MethodName) ({ cls := "java/lang/Object", name := "getClass", desc := "()Ljava/lang/Class;" } : Jvm.MethodName)) ∈ lw_all := lw_g (lw_at lw_m9 200 rfl) rfl
theorem q2202 : (Jvm.Cond.castable "[Ljava/lang/Object;" "java/lang/Object") ∈ lw_tbl := lw_at lw_m9 206 rfl

theorem q2207 : (Jvm.Cond.castable "[Ljava/lang/String;" "java/lang/Object") ∈ lw_tbl := lw_at lw_m9 211 rfl
set_option maxRecDepth 100000

theorem q2205 : (Jvm.Cond.castable "[Z" "java/lang/Object") ∈ lw_tbl := lw_at lw_m9 209 rfl
set_option maxRecDepth 100000

theorem q2204 : (Jvm.Cond.castable "[[I" "java/lang/Object") ∈ lw_tbl := lw_at lw_m9 208 rfl
set_option maxRecDepth 100000

theorem q2206 : (Jvm.Cond.castable "[[Z" "java/lang/Object") ∈ lw_tbl := lw_at lw_m9 210 rfl
set_option maxRecDepth 100000

theorem q94 : (Jvm.Cond.initialized "java/lang/Number") ∈ lw_all := lw_g (lw_at lw_m1 18 rfl) rfl
set_option maxRecDepth 100000

theorem q91 : (Jvm.Cond.initialized "java/lang/System") ∈ lw_all := lw_g (lw_at lw_m1 15 rfl) rfl
set_option maxRecDepth 100000
theorem q745 : (Jvm.Cond.static ({ cls := "java/lang/System", name := "arraycopy", desc := "(Ljava/lang/Object;ILjava/lang/Object;II)V" } : Jvm.MethodName)) ∈ lw_all := lw_g (lw_at lw_m3 189 rfl) rfl
theorem q746 : (Jvm.Cond.native ({ cls := "java/lang/System", name := "arraycopy", desc := "(Ljava/lang/Object;ILjava/lang/Object;II)V" } : Jvm.MethodName)) ∈ lw_all := lw_g (lw_at lw_m3 190 rfl) rfl

theorem q158 : (Jvm.Cond.arrayClass Jvm.ClassFile.FieldType.char) ∈ lw_all := lw_g (lw_at lw_m1 82 rfl) rfl
set_option maxRecDepth 100000
theorem q159 : (Jvm.Cond.arrayClass Jvm.ClassFile.FieldType.int) ∈ lw_all := lw_g (lw_at lw_m1 83 rfl) rfl
theorem q222 : (Jvm.Cond.arrayClass Jvm.ClassFile.FieldType.long) ∈ lw_all := lw_g (lw_at lw_m1 146 rfl) rfl
theorem q497 : (Jvm.Cond.arrayClass Jvm.ClassFile.FieldType.byte) ∈ lw_all := lw_g (lw_at lw_m2 181 rfl) rfl
theorem q739 : (Jvm.Cond.arrayOver (Jvm.ClassFile.FieldType.object "java/lang/Object")) ∈ lw_tbl := lw_at lw_m3 183 rfl
theorem q761 : (Jvm.Cond.arrayOver (Jvm.ClassFile.FieldType.object "KilnBench$Child")) ∈ lw_tbl := lw_at lw_m3 205 rfl
theorem q1603 : (Jvm.Cond.arrayOver (Jvm.ClassFile.FieldType.array Jvm.ClassFile.FieldType.int)) ∈ lw_tbl := lw_at lw_m7 87 rfl
theorem q1657 : (Jvm.Cond.arrayClass Jvm.ClassFile.FieldType.boolean) ∈ lw_all := lw_g (lw_at lw_m7 141 rfl) rfl
theorem q1675 : (Jvm.Cond.arrayOver (Jvm.ClassFile.FieldType.array Jvm.ClassFile.FieldType.boolean)) ∈ lw_tbl := lw_at lw_m7 159 rfl
theorem q2234 : (Jvm.Cond.arrayOver (Jvm.ClassFile.FieldType.object "java/lang/String")) ∈ lw_tbl := lw_at lw_m9 238 rfl

