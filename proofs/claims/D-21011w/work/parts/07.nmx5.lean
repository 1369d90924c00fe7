/-! KilnBench$Scan -/
set_option maxRecDepth 100000
def RX5 : String := "KilnBench$Scan"
def TX5 : u_T := fun k => match k with
  | 0 => ("KilnBench$Scan", "size", "I", true)
  | 1 => ("KilnBench$Scan", "h", "LKilnBench$Town;", true)
  | 2 => ("KilnBench$Scan", "from", "I", false)
  | 3 => ("KilnBench$Scan", "to", "I", false)
  | 4 => ("KilnBench$Scan", "at", "I", false)
  | 5 => ("KilnBench$Scan", "behind", "I", false)
  | 6 => ("KilnBench$Scan", "place", "I", false)
  | 7 => ("KilnBench$Scan", "number", "I", false)
  | 8 => ("KilnBench$Scan", "what", "I", false)
  | 9 => ("KilnBench$Scan", "open", "I", false)
  | 10 => ("KilnBench$Scan", "isSeen", "Z", false)
  | 11 => ("KilnBench$Scan", "sign", "C", false)
  | 12 => ("KilnBench$Scan", "word", "Ljava/lang/String;", false)
  | _ => ("KilnBench$Scan", "this$0", "LKilnBench;", true)
def tyX5 : Nat → FieldType := fun k => match k with
  | 0 => .int
  | 1 => .object "KilnBench$Town"
  | 2 => .int
  | 3 => .int
  | 4 => .int
  | 5 => .int
  | 6 => .int
  | 7 => .int
  | 8 => .int
  | 9 => .int
  | 10 => .boolean
  | 11 => .char
  | 12 => .object "java/lang/String"
  | _ => .object "KilnBench"
abbrev wsX50 : List Cond := u_ws RX5 TX5 14
set_option maxRecDepth 100000 in
theorem nmX5 : ∀ a, a < 14 → ∀ b, b < 14 → a ≠ b → (TX5 a).2.1 ≠ (TX5 b).2.1 := by decide +kernel
set_option maxRecDepth 100000 in
theorem tyX5_ok : ∀ k, k < 14 → parseFieldDescriptor (TX5 k).2.2.1 = some (tyX5 k) := by decide +kernel
abbrev cX5_init : ByteArray := prog_19_method_1_code
def yX5_init : MethodName := ⟨RX5, "<init>", "(LKilnBench;I)V"⟩
def dkwX5_init_1 : List UInt8 := [181, 0, 22, 42, 28, 181, 0, 26, 177]
abbrev dktX5_init_1 : List UInt8 := dkwX5_init_1 ++ []
def dkwX5_init_0 : List UInt8 := [42, 43, 181, 0, 3, 42, 183, 0, 9, 42, 187, 0, 15, 89, 183, 0, 17, 181, 0, 18, 42, 2]
abbrev dktX5_init_0 : List UInt8 := dkwX5_init_0 ++ dktX5_init_1
theorem dksX5_init_0 : cX5_init.data.toList.drop 0 = dktX5_init_0 := by decide +kernel
theorem dksX5_init_1 : cX5_init.data.toList.drop 22 = dktX5_init_1 := dk_seg dksX5_init_0 22 rfl rfl
theorem dX5_init_0 : decode cX5_init 0 = .ok (.aload_n 0, 1) := dk_42 (dk_at dksX5_init_0 0 rfl rfl)
theorem dX5_init_1 : decode cX5_init 1 = .ok (.aload_n 1, 1) := dk_43 (dk_at dksX5_init_0 1 rfl rfl)
theorem dX5_init_2 : decode cX5_init 2 = .ok (.putfield 3, 3) := dk_181 0 3 (dk_at dksX5_init_0 2 rfl rfl)
theorem dX5_init_5 : decode cX5_init 5 = .ok (.aload_n 0, 1) := dk_42 (dk_at dksX5_init_0 5 rfl rfl)
theorem dX5_init_6 : decode cX5_init 6 = .ok (.invokespecial 9, 3) := dk_183 0 9 (dk_at dksX5_init_0 6 rfl rfl)
theorem dX5_init_9 : decode cX5_init 9 = .ok (.aload_n 0, 1) := dk_42 (dk_at dksX5_init_0 9 rfl rfl)
theorem dX5_init_10 : decode cX5_init 10 = .ok (.new 15, 3) := dk_187 0 15 (dk_at dksX5_init_0 10 rfl rfl)
theorem dX5_init_13 : decode cX5_init 13 = .ok (.dup, 1) := dk_89 (dk_at dksX5_init_0 13 rfl rfl)
theorem dX5_init_14 : decode cX5_init 14 = .ok (.invokespecial 17, 3) := dk_183 0 17 (dk_at dksX5_init_0 14 rfl rfl)
theorem dX5_init_17 : decode cX5_init 17 = .ok (.putfield 18, 3) := dk_181 0 18 (dk_at dksX5_init_0 17 rfl rfl)
theorem dX5_init_20 : decode cX5_init 20 = .ok (.aload_n 0, 1) := dk_42 (dk_at dksX5_init_0 20 rfl rfl)
theorem dX5_init_21 : decode cX5_init 21 = .ok (.iconst (-1), 1) := dk_2 (dk_at dksX5_init_0 21 rfl rfl)
theorem dX5_init_22 : decode cX5_init 22 = .ok (.putfield 22, 3) := dk_181 0 22 (dk_at dksX5_init_1 0 rfl rfl)
theorem dX5_init_25 : decode cX5_init 25 = .ok (.aload_n 0, 1) := dk_42 (dk_at dksX5_init_1 3 rfl rfl)
theorem dX5_init_26 : decode cX5_init 26 = .ok (.iload_n 2, 1) := dk_28 (dk_at dksX5_init_1 4 rfl rfl)
theorem dX5_init_27 : decode cX5_init 27 = .ok (.putfield 26, 3) := dk_181 0 26 (dk_at dksX5_init_1 5 rfl rfl)
theorem dX5_init_30 : decode cX5_init 30 = .ok (.return_, 1) := dk_177 (dk_at dksX5_init_1 8 rfl rfl)
abbrev cX5_town : ByteArray := prog_19_method_36_code
def yX5_town : MethodName := ⟨RX5, "town", "()LKilnBench$Town;"⟩
def dkwX5_town_0 : List UInt8 := [42, 182, 1, 82, 153, 0, 10, 42, 182, 1, 85, 167, 255, 245, 42, 180, 0, 18, 176]
abbrev dktX5_town_0 : List UInt8 := dkwX5_town_0 ++ []
theorem dksX5_town_0 : cX5_town.data.toList.drop 0 = dktX5_town_0 := by decide +kernel
theorem dX5_town_0 : decode cX5_town 0 = .ok (.aload_n 0, 1) := dk_42 (dk_at dksX5_town_0 0 rfl rfl)
theorem dX5_town_1 : decode cX5_town 1 = .ok (.invokevirtual 338, 3) := dk_182 1 82 (dk_at dksX5_town_0 1 rfl rfl)
theorem dX5_town_4 : decode cX5_town 4 = .ok (.ifCond .eq 10, 3) := dk_153 0 10 (dk_at dksX5_town_0 4 rfl rfl)
theorem dX5_town_7 : decode cX5_town 7 = .ok (.aload_n 0, 1) := dk_42 (dk_at dksX5_town_0 7 rfl rfl)
theorem dX5_town_8 : decode cX5_town 8 = .ok (.invokevirtual 341, 3) := dk_182 1 85 (dk_at dksX5_town_0 8 rfl rfl)
theorem dX5_town_11 : decode cX5_town 11 = .ok (.goto (-11), 3) := dk_167 255 245 (dk_at dksX5_town_0 11 rfl rfl)
theorem dX5_town_14 : decode cX5_town 14 = .ok (.aload_n 0, 1) := dk_42 (dk_at dksX5_town_0 14 rfl rfl)
theorem dX5_town_15 : decode cX5_town 15 = .ok (.getfield 18, 3) := dk_180 0 18 (dk_at dksX5_town_0 15 rfl rfl)
theorem dX5_town_18 : decode cX5_town 18 = .ok (.areturn, 1) := dk_176 (dk_at dksX5_town_0 18 rfl rfl)
abbrev cX5_isMore : ByteArray := prog_19_method_37_code
def yX5_isMore : MethodName := ⟨RX5, "isMore", "()Z"⟩
def dkwX5_isMore_4 : List UInt8 := [180, 0, 26, 162, 0, 17, 187, 0, 57, 89, 16, 6, 42, 180, 0, 36, 183, 0, 59, 191, 3, 172]
abbrev dktX5_isMore_4 : List UInt8 := dkwX5_isMore_4 ++ []
def dkwX5_isMore_3 : List UInt8 := [180, 0, 36, 4, 96, 181, 0, 36, 167, 255, 201, 42, 42, 180, 0, 36, 181, 0, 43, 42, 180, 0, 36, 42]
abbrev dktX5_isMore_3 : List UInt8 := dkwX5_isMore_3 ++ dktX5_isMore_4
def dkwX5_isMore_2 : List UInt8 := [16, 32, 159, 0, 20, 42, 180, 0, 3, 180, 0, 39, 42, 180, 0, 36, 52, 16, 10, 160, 0, 16, 42, 89]
abbrev dktX5_isMore_2 : List UInt8 := dkwX5_isMore_2 ++ dktX5_isMore_3
def dkwX5_isMore_1 : List UInt8 := [172, 42, 180, 0, 36, 42, 180, 0, 26, 162, 0, 50, 42, 180, 0, 3, 180, 0, 39, 42, 180, 0, 36, 52]
abbrev dktX5_isMore_1 : List UInt8 := dkwX5_isMore_1 ++ dktX5_isMore_2
def dkwX5_isMore_0 : List UInt8 := [42, 180, 0, 18, 180, 1, 35, 16, 80, 162, 0, 16, 42, 182, 0, 86, 153, 0, 7, 4, 167, 0, 4, 3]
abbrev dktX5_isMore_0 : List UInt8 := dkwX5_isMore_0 ++ dktX5_isMore_1
theorem dksX5_isMore_0 : cX5_isMore.data.toList.drop 0 = dktX5_isMore_0 := by decide +kernel
theorem dksX5_isMore_1 : cX5_isMore.data.toList.drop 24 = dktX5_isMore_1 := dk_seg dksX5_isMore_0 24 rfl rfl
theorem dksX5_isMore_2 : cX5_isMore.data.toList.drop 48 = dktX5_isMore_2 := dk_seg dksX5_isMore_1 24 rfl rfl
theorem dksX5_isMore_3 : cX5_isMore.data.toList.drop 72 = dktX5_isMore_3 := dk_seg dksX5_isMore_2 24 rfl rfl
theorem dksX5_isMore_4 : cX5_isMore.data.toList.drop 96 = dktX5_isMore_4 := dk_seg dksX5_isMore_3 24 rfl rfl
theorem dX5_isMore_0 : decode cX5_isMore 0 = .ok (.aload_n 0, 1) := dk_42 (dk_at dksX5_isMore_0 0 rfl rfl)
theorem dX5_isMore_1 : decode cX5_isMore 1 = .ok (.getfield 18, 3) := dk_180 0 18 (dk_at dksX5_isMore_0 1 rfl rfl)
theorem dX5_isMore_4 : decode cX5_isMore 4 = .ok (.getfield 291, 3) := dk_180 1 35 (dk_at dksX5_isMore_0 4 rfl rfl)
theorem dX5_isMore_7 : decode cX5_isMore 7 = .ok (.bipush 80, 2) := dk_16 80 (dk_at dksX5_isMore_0 7 rfl rfl)
theorem dX5_isMore_9 : decode cX5_isMore 9 = .ok (.if_icmp .ge 16, 3) := dk_162 0 16 (dk_at dksX5_isMore_0 9 rfl rfl)
theorem dX5_isMore_12 : decode cX5_isMore 12 = .ok (.aload_n 0, 1) := dk_42 (dk_at dksX5_isMore_0 12 rfl rfl)
theorem dX5_isMore_13 : decode cX5_isMore 13 = .ok (.invokevirtual 86, 3) := dk_182 0 86 (dk_at dksX5_isMore_0 13 rfl rfl)
theorem dX5_isMore_16 : decode cX5_isMore 16 = .ok (.ifCond .eq 7, 3) := dk_153 0 7 (dk_at dksX5_isMore_0 16 rfl rfl)
theorem dX5_isMore_19 : decode cX5_isMore 19 = .ok (.iconst 1, 1) := dk_4 (dk_at dksX5_isMore_0 19 rfl rfl)
theorem dX5_isMore_20 : decode cX5_isMore 20 = .ok (.goto 4, 3) := dk_167 0 4 (dk_at dksX5_isMore_0 20 rfl rfl)
theorem dX5_isMore_23 : decode cX5_isMore 23 = .ok (.iconst 0, 1) := dk_3 (dk_at dksX5_isMore_0 23 rfl rfl)
theorem dX5_isMore_24 : decode cX5_isMore 24 = .ok (.ireturn, 1) := dk_172 (dk_at dksX5_isMore_1 0 rfl rfl)
theorem dX5_isMore_25 : decode cX5_isMore 25 = .ok (.aload_n 0, 1) := dk_42 (dk_at dksX5_isMore_1 1 rfl rfl)
theorem dX5_isMore_26 : decode cX5_isMore 26 = .ok (.getfield 36, 3) := dk_180 0 36 (dk_at dksX5_isMore_1 2 rfl rfl)
theorem dX5_isMore_29 : decode cX5_isMore 29 = .ok (.aload_n 0, 1) := dk_42 (dk_at dksX5_isMore_1 5 rfl rfl)
theorem dX5_isMore_30 : decode cX5_isMore 30 = .ok (.getfield 26, 3) := dk_180 0 26 (dk_at dksX5_isMore_1 6 rfl rfl)
theorem dX5_isMore_33 : decode cX5_isMore 33 = .ok (.if_icmp .ge 50, 3) := dk_162 0 50 (dk_at dksX5_isMore_1 9 rfl rfl)
theorem dX5_isMore_36 : decode cX5_isMore 36 = .ok (.aload_n 0, 1) := dk_42 (dk_at dksX5_isMore_1 12 rfl rfl)
theorem dX5_isMore_37 : decode cX5_isMore 37 = .ok (.getfield 3, 3) := dk_180 0 3 (dk_at dksX5_isMore_1 13 rfl rfl)
theorem dX5_isMore_40 : decode cX5_isMore 40 = .ok (.getfield 39, 3) := dk_180 0 39 (dk_at dksX5_isMore_1 16 rfl rfl)
theorem dX5_isMore_43 : decode cX5_isMore 43 = .ok (.aload_n 0, 1) := dk_42 (dk_at dksX5_isMore_1 19 rfl rfl)
theorem dX5_isMore_44 : decode cX5_isMore 44 = .ok (.getfield 36, 3) := dk_180 0 36 (dk_at dksX5_isMore_1 20 rfl rfl)
theorem dX5_isMore_47 : decode cX5_isMore 47 = .ok (.caload, 1) := dk_52 (dk_at dksX5_isMore_1 23 rfl rfl)
theorem dX5_isMore_48 : decode cX5_isMore 48 = .ok (.bipush 32, 2) := dk_16 32 (dk_at dksX5_isMore_2 0 rfl rfl)
theorem dX5_isMore_50 : decode cX5_isMore 50 = .ok (.if_icmp .eq 20, 3) := dk_159 0 20 (dk_at dksX5_isMore_2 2 rfl rfl)
theorem dX5_isMore_53 : decode cX5_isMore 53 = .ok (.aload_n 0, 1) := dk_42 (dk_at dksX5_isMore_2 5 rfl rfl)
theorem dX5_isMore_54 : decode cX5_isMore 54 = .ok (.getfield 3, 3) := dk_180 0 3 (dk_at dksX5_isMore_2 6 rfl rfl)
theorem dX5_isMore_57 : decode cX5_isMore 57 = .ok (.getfield 39, 3) := dk_180 0 39 (dk_at dksX5_isMore_2 9 rfl rfl)
theorem dX5_isMore_60 : decode cX5_isMore 60 = .ok (.aload_n 0, 1) := dk_42 (dk_at dksX5_isMore_2 12 rfl rfl)
theorem dX5_isMore_61 : decode cX5_isMore 61 = .ok (.getfield 36, 3) := dk_180 0 36 (dk_at dksX5_isMore_2 13 rfl rfl)
theorem dX5_isMore_64 : decode cX5_isMore 64 = .ok (.caload, 1) := dk_52 (dk_at dksX5_isMore_2 16 rfl rfl)
theorem dX5_isMore_65 : decode cX5_isMore 65 = .ok (.bipush 10, 2) := dk_16 10 (dk_at dksX5_isMore_2 17 rfl rfl)
theorem dX5_isMore_67 : decode cX5_isMore 67 = .ok (.if_icmp .ne 16, 3) := dk_160 0 16 (dk_at dksX5_isMore_2 19 rfl rfl)
theorem dX5_isMore_70 : decode cX5_isMore 70 = .ok (.aload_n 0, 1) := dk_42 (dk_at dksX5_isMore_2 22 rfl rfl)
theorem dX5_isMore_71 : decode cX5_isMore 71 = .ok (.dup, 1) := dk_89 (dk_at dksX5_isMore_2 23 rfl rfl)
theorem dX5_isMore_72 : decode cX5_isMore 72 = .ok (.getfield 36, 3) := dk_180 0 36 (dk_at dksX5_isMore_3 0 rfl rfl)
theorem dX5_isMore_75 : decode cX5_isMore 75 = .ok (.iconst 1, 1) := dk_4 (dk_at dksX5_isMore_3 3 rfl rfl)
theorem dX5_isMore_76 : decode cX5_isMore 76 = .ok (.iadd, 1) := dk_96 (dk_at dksX5_isMore_3 4 rfl rfl)
theorem dX5_isMore_77 : decode cX5_isMore 77 = .ok (.putfield 36, 3) := dk_181 0 36 (dk_at dksX5_isMore_3 5 rfl rfl)
theorem dX5_isMore_80 : decode cX5_isMore 80 = .ok (.goto (-55), 3) := dk_167 255 201 (dk_at dksX5_isMore_3 8 rfl rfl)
theorem dX5_isMore_83 : decode cX5_isMore 83 = .ok (.aload_n 0, 1) := dk_42 (dk_at dksX5_isMore_3 11 rfl rfl)
theorem dX5_isMore_84 : decode cX5_isMore 84 = .ok (.aload_n 0, 1) := dk_42 (dk_at dksX5_isMore_3 12 rfl rfl)
theorem dX5_isMore_85 : decode cX5_isMore 85 = .ok (.getfield 36, 3) := dk_180 0 36 (dk_at dksX5_isMore_3 13 rfl rfl)
theorem dX5_isMore_88 : decode cX5_isMore 88 = .ok (.putfield 43, 3) := dk_181 0 43 (dk_at dksX5_isMore_3 16 rfl rfl)
theorem dX5_isMore_91 : decode cX5_isMore 91 = .ok (.aload_n 0, 1) := dk_42 (dk_at dksX5_isMore_3 19 rfl rfl)
theorem dX5_isMore_92 : decode cX5_isMore 92 = .ok (.getfield 36, 3) := dk_180 0 36 (dk_at dksX5_isMore_3 20 rfl rfl)
theorem dX5_isMore_95 : decode cX5_isMore 95 = .ok (.aload_n 0, 1) := dk_42 (dk_at dksX5_isMore_3 23 rfl rfl)
theorem dX5_isMore_96 : decode cX5_isMore 96 = .ok (.getfield 26, 3) := dk_180 0 26 (dk_at dksX5_isMore_4 0 rfl rfl)
theorem dX5_isMore_99 : decode cX5_isMore 99 = .ok (.if_icmp .ge 17, 3) := dk_162 0 17 (dk_at dksX5_isMore_4 3 rfl rfl)
theorem dX5_isMore_102 : decode cX5_isMore 102 = .ok (.new 57, 3) := dk_187 0 57 (dk_at dksX5_isMore_4 6 rfl rfl)
theorem dX5_isMore_105 : decode cX5_isMore 105 = .ok (.dup, 1) := dk_89 (dk_at dksX5_isMore_4 9 rfl rfl)
theorem dX5_isMore_106 : decode cX5_isMore 106 = .ok (.bipush 6, 2) := dk_16 6 (dk_at dksX5_isMore_4 10 rfl rfl)
theorem dX5_isMore_108 : decode cX5_isMore 108 = .ok (.aload_n 0, 1) := dk_42 (dk_at dksX5_isMore_4 12 rfl rfl)
theorem dX5_isMore_109 : decode cX5_isMore 109 = .ok (.getfield 36, 3) := dk_180 0 36 (dk_at dksX5_isMore_4 13 rfl rfl)
theorem dX5_isMore_112 : decode cX5_isMore 112 = .ok (.invokespecial 59, 3) := dk_183 0 59 (dk_at dksX5_isMore_4 16 rfl rfl)
theorem dX5_isMore_115 : decode cX5_isMore 115 = .ok (.athrow, 1) := dk_191 (dk_at dksX5_isMore_4 19 rfl rfl)
theorem dX5_isMore_116 : decode cX5_isMore 116 = .ok (.iconst 0, 1) := dk_3 (dk_at dksX5_isMore_4 20 rfl rfl)
theorem dX5_isMore_117 : decode cX5_isMore 117 = .ok (.ireturn, 1) := dk_172 (dk_at dksX5_isMore_4 21 rfl rfl)
abbrev cX5_see : ByteArray := prog_19_method_4_code
def yX5_see : MethodName := ⟨RX5, "see", "()I"⟩
def dkwX5_see_15 : List UInt8 := [181, 0, 83, 42, 28, 153, 0, 7, 4, 167, 0, 4, 5, 181, 0, 33, 42, 180, 0, 33, 172]
abbrev dktX5_see_15 : List UInt8 := dkwX5_see_15 ++ []
def dkwX5_see_14 : List UInt8 := [4, 42, 180, 0, 43, 29, 96, 183, 0, 59, 191, 28, 154, 0, 14, 42, 42, 180, 0, 67, 184, 0, 79]
abbrev dktX5_see_14 : List UInt8 := dkwX5_see_14 ++ dktX5_see_15
def dkwX5_see_13 : List UInt8 := [180, 0, 67, 182, 0, 71, 29, 164, 0, 28, 42, 180, 0, 67, 184, 0, 75, 154, 0, 18, 187, 0, 57, 89]
abbrev dktX5_see_13 : List UInt8 := dkwX5_see_13 ++ dktX5_see_14
def dkwX5_see_12 : List UInt8 := [180, 0, 43, 100, 183, 0, 64, 181, 0, 67, 28, 153, 0, 8, 16, 6, 167, 0, 4, 7, 62, 42]
abbrev dktX5_see_12 : List UInt8 := dkwX5_see_12 ++ dktX5_see_13
def dkwX5_see_11 : List UInt8 := [181, 0, 22, 42, 187, 0, 62, 89, 42, 180, 0, 3, 180, 0, 39, 42, 180, 0, 43, 42, 180, 0, 36, 42]
abbrev dktX5_see_11 : List UInt8 := dkwX5_see_11 ++ dktX5_see_12
def dkwX5_see_10 : List UInt8 := [182, 0, 50, 153, 0, 16, 42, 89, 180, 0, 36, 4, 96, 181, 0, 36, 167, 255, 190, 42, 42, 180, 0, 36]
abbrev dktX5_see_10 : List UInt8 := dkwX5_see_10 ++ dktX5_see_11
def dkwX5_see_9 : List UInt8 := [182, 0, 46, 153, 0, 38, 167, 0, 22, 42, 42, 180, 0, 3, 180, 0, 39, 42, 180, 0, 36, 52]
abbrev dktX5_see_9 : List UInt8 := dkwX5_see_9 ++ dktX5_see_10
def dkwX5_see_8 : List UInt8 := [180, 0, 26, 162, 0, 61, 28, 153, 0, 25, 42, 42, 180, 0, 3, 180, 0, 39, 42, 180, 0, 36, 52]
abbrev dktX5_see_8 : List UInt8 := dkwX5_see_8 ++ dktX5_see_9
def dkwX5_see_7 : List UInt8 := [180, 0, 22, 160, 0, 16, 187, 0, 57, 89, 4, 42, 180, 0, 36, 183, 0, 59, 191, 42, 180, 0, 36, 42]
abbrev dktX5_see_7 : List UInt8 := dkwX5_see_7 ++ dktX5_see_8
def dkwX5_see_6 : List UInt8 := [180, 0, 36, 4, 96, 181, 0, 36, 42, 6, 181, 0, 33, 42, 180, 0, 33, 172, 42, 180, 0, 36, 42]
abbrev dktX5_see_6 : List UInt8 := dkwX5_see_6 ++ dktX5_see_7
def dkwX5_see_5 : List UInt8 := [182, 0, 46, 61, 28, 154, 0, 36, 42, 27, 182, 0, 50, 154, 0, 28, 42, 27, 181, 0, 53, 42, 89]
abbrev dktX5_see_5 : List UInt8 := dkwX5_see_5 ++ dktX5_see_6
def dkwX5_see_4 : List UInt8 := [160, 0, 8, 42, 180, 0, 33, 172, 42, 180, 0, 3, 180, 0, 39, 42, 180, 0, 36, 52, 60, 42, 27]
abbrev dktX5_see_4 : List UInt8 := dkwX5_see_4 ++ dktX5_see_5
def dkwX5_see_3 : List UInt8 := [180, 0, 36, 181, 0, 43, 42, 4, 181, 0, 29, 42, 3, 181, 0, 33, 42, 180, 0, 36, 42, 180, 0, 26]
abbrev dktX5_see_3 : List UInt8 := dkwX5_see_3 ++ dktX5_see_4
def dkwX5_see_2 : List UInt8 := [180, 0, 36, 52, 16, 10, 160, 0, 16, 42, 89, 180, 0, 36, 4, 96, 181, 0, 36, 167, 255, 201, 42, 42]
abbrev dktX5_see_2 : List UInt8 := dkwX5_see_2 ++ dktX5_see_3
def dkwX5_see_1 : List UInt8 := [180, 0, 3, 180, 0, 39, 42, 180, 0, 36, 52, 16, 32, 159, 0, 20, 42, 180, 0, 3, 180, 0, 39, 42]
abbrev dktX5_see_1 : List UInt8 := dkwX5_see_1 ++ dktX5_see_2
def dkwX5_see_0 : List UInt8 := [42, 180, 0, 29, 153, 0, 8, 42, 180, 0, 33, 172, 42, 180, 0, 36, 42, 180, 0, 26, 162, 0, 50, 42]
abbrev dktX5_see_0 : List UInt8 := dkwX5_see_0 ++ dktX5_see_1
theorem dksX5_see_0 : cX5_see.data.toList.drop 0 = dktX5_see_0 := by decide +kernel
theorem dksX5_see_1 : cX5_see.data.toList.drop 24 = dktX5_see_1 := dk_seg dksX5_see_0 24 rfl rfl
theorem dksX5_see_2 : cX5_see.data.toList.drop 48 = dktX5_see_2 := dk_seg dksX5_see_1 24 rfl rfl
theorem dksX5_see_3 : cX5_see.data.toList.drop 72 = dktX5_see_3 := dk_seg dksX5_see_2 24 rfl rfl
theorem dksX5_see_4 : cX5_see.data.toList.drop 96 = dktX5_see_4 := dk_seg dksX5_see_3 24 rfl rfl
theorem dksX5_see_5 : cX5_see.data.toList.drop 119 = dktX5_see_5 := dk_seg dksX5_see_4 23 rfl rfl
theorem dksX5_see_6 : cX5_see.data.toList.drop 142 = dktX5_see_6 := dk_seg dksX5_see_5 23 rfl rfl
theorem dksX5_see_7 : cX5_see.data.toList.drop 165 = dktX5_see_7 := dk_seg dksX5_see_6 23 rfl rfl
theorem dksX5_see_8 : cX5_see.data.toList.drop 189 = dktX5_see_8 := dk_seg dksX5_see_7 24 rfl rfl
theorem dksX5_see_9 : cX5_see.data.toList.drop 212 = dktX5_see_9 := dk_seg dksX5_see_8 23 rfl rfl
theorem dksX5_see_10 : cX5_see.data.toList.drop 234 = dktX5_see_10 := dk_seg dksX5_see_9 22 rfl rfl
theorem dksX5_see_11 : cX5_see.data.toList.drop 258 = dktX5_see_11 := dk_seg dksX5_see_10 24 rfl rfl
theorem dksX5_see_12 : cX5_see.data.toList.drop 282 = dktX5_see_12 := dk_seg dksX5_see_11 24 rfl rfl
theorem dksX5_see_13 : cX5_see.data.toList.drop 304 = dktX5_see_13 := dk_seg dksX5_see_12 22 rfl rfl
theorem dksX5_see_14 : cX5_see.data.toList.drop 328 = dktX5_see_14 := dk_seg dksX5_see_13 24 rfl rfl
theorem dksX5_see_15 : cX5_see.data.toList.drop 351 = dktX5_see_15 := dk_seg dksX5_see_14 23 rfl rfl
theorem dX5_see_0 : decode cX5_see 0 = .ok (.aload_n 0, 1) := dk_42 (dk_at dksX5_see_0 0 rfl rfl)
theorem dX5_see_1 : decode cX5_see 1 = .ok (.getfield 29, 3) := dk_180 0 29 (dk_at dksX5_see_0 1 rfl rfl)
theorem dX5_see_4 : decode cX5_see 4 = .ok (.ifCond .eq 8, 3) := dk_153 0 8 (dk_at dksX5_see_0 4 rfl rfl)
theorem dX5_see_7 : decode cX5_see 7 = .ok (.aload_n 0, 1) := dk_42 (dk_at dksX5_see_0 7 rfl rfl)
theorem dX5_see_8 : decode cX5_see 8 = .ok (.getfield 33, 3) := dk_180 0 33 (dk_at dksX5_see_0 8 rfl rfl)
theorem dX5_see_11 : decode cX5_see 11 = .ok (.ireturn, 1) := dk_172 (dk_at dksX5_see_0 11 rfl rfl)
theorem dX5_see_12 : decode cX5_see 12 = .ok (.aload_n 0, 1) := dk_42 (dk_at dksX5_see_0 12 rfl rfl)
theorem dX5_see_13 : decode cX5_see 13 = .ok (.getfield 36, 3) := dk_180 0 36 (dk_at dksX5_see_0 13 rfl rfl)
theorem dX5_see_16 : decode cX5_see 16 = .ok (.aload_n 0, 1) := dk_42 (dk_at dksX5_see_0 16 rfl rfl)
theorem dX5_see_17 : decode cX5_see 17 = .ok (.getfield 26, 3) := dk_180 0 26 (dk_at dksX5_see_0 17 rfl rfl)
theorem dX5_see_20 : decode cX5_see 20 = .ok (.if_icmp .ge 50, 3) := dk_162 0 50 (dk_at dksX5_see_0 20 rfl rfl)
theorem dX5_see_23 : decode cX5_see 23 = .ok (.aload_n 0, 1) := dk_42 (dk_at dksX5_see_0 23 rfl rfl)
theorem dX5_see_24 : decode cX5_see 24 = .ok (.getfield 3, 3) := dk_180 0 3 (dk_at dksX5_see_1 0 rfl rfl)
theorem dX5_see_27 : decode cX5_see 27 = .ok (.getfield 39, 3) := dk_180 0 39 (dk_at dksX5_see_1 3 rfl rfl)
theorem dX5_see_30 : decode cX5_see 30 = .ok (.aload_n 0, 1) := dk_42 (dk_at dksX5_see_1 6 rfl rfl)
theorem dX5_see_31 : decode cX5_see 31 = .ok (.getfield 36, 3) := dk_180 0 36 (dk_at dksX5_see_1 7 rfl rfl)
theorem dX5_see_34 : decode cX5_see 34 = .ok (.caload, 1) := dk_52 (dk_at dksX5_see_1 10 rfl rfl)
theorem dX5_see_35 : decode cX5_see 35 = .ok (.bipush 32, 2) := dk_16 32 (dk_at dksX5_see_1 11 rfl rfl)
theorem dX5_see_37 : decode cX5_see 37 = .ok (.if_icmp .eq 20, 3) := dk_159 0 20 (dk_at dksX5_see_1 13 rfl rfl)
theorem dX5_see_40 : decode cX5_see 40 = .ok (.aload_n 0, 1) := dk_42 (dk_at dksX5_see_1 16 rfl rfl)
theorem dX5_see_41 : decode cX5_see 41 = .ok (.getfield 3, 3) := dk_180 0 3 (dk_at dksX5_see_1 17 rfl rfl)
theorem dX5_see_44 : decode cX5_see 44 = .ok (.getfield 39, 3) := dk_180 0 39 (dk_at dksX5_see_1 20 rfl rfl)
theorem dX5_see_47 : decode cX5_see 47 = .ok (.aload_n 0, 1) := dk_42 (dk_at dksX5_see_1 23 rfl rfl)
theorem dX5_see_48 : decode cX5_see 48 = .ok (.getfield 36, 3) := dk_180 0 36 (dk_at dksX5_see_2 0 rfl rfl)
theorem dX5_see_51 : decode cX5_see 51 = .ok (.caload, 1) := dk_52 (dk_at dksX5_see_2 3 rfl rfl)
theorem dX5_see_52 : decode cX5_see 52 = .ok (.bipush 10, 2) := dk_16 10 (dk_at dksX5_see_2 4 rfl rfl)
theorem dX5_see_54 : decode cX5_see 54 = .ok (.if_icmp .ne 16, 3) := dk_160 0 16 (dk_at dksX5_see_2 6 rfl rfl)
theorem dX5_see_57 : decode cX5_see 57 = .ok (.aload_n 0, 1) := dk_42 (dk_at dksX5_see_2 9 rfl rfl)
theorem dX5_see_58 : decode cX5_see 58 = .ok (.dup, 1) := dk_89 (dk_at dksX5_see_2 10 rfl rfl)
theorem dX5_see_59 : decode cX5_see 59 = .ok (.getfield 36, 3) := dk_180 0 36 (dk_at dksX5_see_2 11 rfl rfl)
theorem dX5_see_62 : decode cX5_see 62 = .ok (.iconst 1, 1) := dk_4 (dk_at dksX5_see_2 14 rfl rfl)
theorem dX5_see_63 : decode cX5_see 63 = .ok (.iadd, 1) := dk_96 (dk_at dksX5_see_2 15 rfl rfl)
theorem dX5_see_64 : decode cX5_see 64 = .ok (.putfield 36, 3) := dk_181 0 36 (dk_at dksX5_see_2 16 rfl rfl)
theorem dX5_see_67 : decode cX5_see 67 = .ok (.goto (-55), 3) := dk_167 255 201 (dk_at dksX5_see_2 19 rfl rfl)
theorem dX5_see_70 : decode cX5_see 70 = .ok (.aload_n 0, 1) := dk_42 (dk_at dksX5_see_2 22 rfl rfl)
theorem dX5_see_71 : decode cX5_see 71 = .ok (.aload_n 0, 1) := dk_42 (dk_at dksX5_see_2 23 rfl rfl)
theorem dX5_see_72 : decode cX5_see 72 = .ok (.getfield 36, 3) := dk_180 0 36 (dk_at dksX5_see_3 0 rfl rfl)
theorem dX5_see_75 : decode cX5_see 75 = .ok (.putfield 43, 3) := dk_181 0 43 (dk_at dksX5_see_3 3 rfl rfl)
theorem dX5_see_78 : decode cX5_see 78 = .ok (.aload_n 0, 1) := dk_42 (dk_at dksX5_see_3 6 rfl rfl)
theorem dX5_see_79 : decode cX5_see 79 = .ok (.iconst 1, 1) := dk_4 (dk_at dksX5_see_3 7 rfl rfl)
theorem dX5_see_80 : decode cX5_see 80 = .ok (.putfield 29, 3) := dk_181 0 29 (dk_at dksX5_see_3 8 rfl rfl)
theorem dX5_see_83 : decode cX5_see 83 = .ok (.aload_n 0, 1) := dk_42 (dk_at dksX5_see_3 11 rfl rfl)
theorem dX5_see_84 : decode cX5_see 84 = .ok (.iconst 0, 1) := dk_3 (dk_at dksX5_see_3 12 rfl rfl)
theorem dX5_see_85 : decode cX5_see 85 = .ok (.putfield 33, 3) := dk_181 0 33 (dk_at dksX5_see_3 13 rfl rfl)
theorem dX5_see_88 : decode cX5_see 88 = .ok (.aload_n 0, 1) := dk_42 (dk_at dksX5_see_3 16 rfl rfl)
theorem dX5_see_89 : decode cX5_see 89 = .ok (.getfield 36, 3) := dk_180 0 36 (dk_at dksX5_see_3 17 rfl rfl)
theorem dX5_see_92 : decode cX5_see 92 = .ok (.aload_n 0, 1) := dk_42 (dk_at dksX5_see_3 20 rfl rfl)
theorem dX5_see_93 : decode cX5_see 93 = .ok (.getfield 26, 3) := dk_180 0 26 (dk_at dksX5_see_3 21 rfl rfl)
theorem dX5_see_96 : decode cX5_see 96 = .ok (.if_icmp .ne 8, 3) := dk_160 0 8 (dk_at dksX5_see_4 0 rfl rfl)
theorem dX5_see_99 : decode cX5_see 99 = .ok (.aload_n 0, 1) := dk_42 (dk_at dksX5_see_4 3 rfl rfl)
theorem dX5_see_100 : decode cX5_see 100 = .ok (.getfield 33, 3) := dk_180 0 33 (dk_at dksX5_see_4 4 rfl rfl)
theorem dX5_see_103 : decode cX5_see 103 = .ok (.ireturn, 1) := dk_172 (dk_at dksX5_see_4 7 rfl rfl)
theorem dX5_see_104 : decode cX5_see 104 = .ok (.aload_n 0, 1) := dk_42 (dk_at dksX5_see_4 8 rfl rfl)
theorem dX5_see_105 : decode cX5_see 105 = .ok (.getfield 3, 3) := dk_180 0 3 (dk_at dksX5_see_4 9 rfl rfl)
theorem dX5_see_108 : decode cX5_see 108 = .ok (.getfield 39, 3) := dk_180 0 39 (dk_at dksX5_see_4 12 rfl rfl)
theorem dX5_see_111 : decode cX5_see 111 = .ok (.aload_n 0, 1) := dk_42 (dk_at dksX5_see_4 15 rfl rfl)
theorem dX5_see_112 : decode cX5_see 112 = .ok (.getfield 36, 3) := dk_180 0 36 (dk_at dksX5_see_4 16 rfl rfl)
theorem dX5_see_115 : decode cX5_see 115 = .ok (.caload, 1) := dk_52 (dk_at dksX5_see_4 19 rfl rfl)
theorem dX5_see_116 : decode cX5_see 116 = .ok (.istore_n 1, 1) := dk_60 (dk_at dksX5_see_4 20 rfl rfl)
theorem dX5_see_117 : decode cX5_see 117 = .ok (.aload_n 0, 1) := dk_42 (dk_at dksX5_see_4 21 rfl rfl)
theorem dX5_see_118 : decode cX5_see 118 = .ok (.iload_n 1, 1) := dk_27 (dk_at dksX5_see_4 22 rfl rfl)
theorem dX5_see_119 : decode cX5_see 119 = .ok (.invokevirtual 46, 3) := dk_182 0 46 (dk_at dksX5_see_5 0 rfl rfl)
theorem dX5_see_122 : decode cX5_see 122 = .ok (.istore_n 2, 1) := dk_61 (dk_at dksX5_see_5 3 rfl rfl)
theorem dX5_see_123 : decode cX5_see 123 = .ok (.iload_n 2, 1) := dk_28 (dk_at dksX5_see_5 4 rfl rfl)
theorem dX5_see_124 : decode cX5_see 124 = .ok (.ifCond .ne 36, 3) := dk_154 0 36 (dk_at dksX5_see_5 5 rfl rfl)
theorem dX5_see_127 : decode cX5_see 127 = .ok (.aload_n 0, 1) := dk_42 (dk_at dksX5_see_5 8 rfl rfl)
theorem dX5_see_128 : decode cX5_see 128 = .ok (.iload_n 1, 1) := dk_27 (dk_at dksX5_see_5 9 rfl rfl)
theorem dX5_see_129 : decode cX5_see 129 = .ok (.invokevirtual 50, 3) := dk_182 0 50 (dk_at dksX5_see_5 10 rfl rfl)
theorem dX5_see_132 : decode cX5_see 132 = .ok (.ifCond .ne 28, 3) := dk_154 0 28 (dk_at dksX5_see_5 13 rfl rfl)
theorem dX5_see_135 : decode cX5_see 135 = .ok (.aload_n 0, 1) := dk_42 (dk_at dksX5_see_5 16 rfl rfl)
theorem dX5_see_136 : decode cX5_see 136 = .ok (.iload_n 1, 1) := dk_27 (dk_at dksX5_see_5 17 rfl rfl)
theorem dX5_see_137 : decode cX5_see 137 = .ok (.putfield 53, 3) := dk_181 0 53 (dk_at dksX5_see_5 18 rfl rfl)
theorem dX5_see_140 : decode cX5_see 140 = .ok (.aload_n 0, 1) := dk_42 (dk_at dksX5_see_5 21 rfl rfl)
theorem dX5_see_141 : decode cX5_see 141 = .ok (.dup, 1) := dk_89 (dk_at dksX5_see_5 22 rfl rfl)
theorem dX5_see_142 : decode cX5_see 142 = .ok (.getfield 36, 3) := dk_180 0 36 (dk_at dksX5_see_6 0 rfl rfl)
theorem dX5_see_145 : decode cX5_see 145 = .ok (.iconst 1, 1) := dk_4 (dk_at dksX5_see_6 3 rfl rfl)
theorem dX5_see_146 : decode cX5_see 146 = .ok (.iadd, 1) := dk_96 (dk_at dksX5_see_6 4 rfl rfl)
theorem dX5_see_147 : decode cX5_see 147 = .ok (.putfield 36, 3) := dk_181 0 36 (dk_at dksX5_see_6 5 rfl rfl)
theorem dX5_see_150 : decode cX5_see 150 = .ok (.aload_n 0, 1) := dk_42 (dk_at dksX5_see_6 8 rfl rfl)
theorem dX5_see_151 : decode cX5_see 151 = .ok (.iconst 3, 1) := dk_6 (dk_at dksX5_see_6 9 rfl rfl)
theorem dX5_see_152 : decode cX5_see 152 = .ok (.putfield 33, 3) := dk_181 0 33 (dk_at dksX5_see_6 10 rfl rfl)
theorem dX5_see_155 : decode cX5_see 155 = .ok (.aload_n 0, 1) := dk_42 (dk_at dksX5_see_6 13 rfl rfl)
theorem dX5_see_156 : decode cX5_see 156 = .ok (.getfield 33, 3) := dk_180 0 33 (dk_at dksX5_see_6 14 rfl rfl)
theorem dX5_see_159 : decode cX5_see 159 = .ok (.ireturn, 1) := dk_172 (dk_at dksX5_see_6 17 rfl rfl)
theorem dX5_see_160 : decode cX5_see 160 = .ok (.aload_n 0, 1) := dk_42 (dk_at dksX5_see_6 18 rfl rfl)
theorem dX5_see_161 : decode cX5_see 161 = .ok (.getfield 36, 3) := dk_180 0 36 (dk_at dksX5_see_6 19 rfl rfl)
theorem dX5_see_164 : decode cX5_see 164 = .ok (.aload_n 0, 1) := dk_42 (dk_at dksX5_see_6 22 rfl rfl)
theorem dX5_see_165 : decode cX5_see 165 = .ok (.getfield 22, 3) := dk_180 0 22 (dk_at dksX5_see_7 0 rfl rfl)
theorem dX5_see_168 : decode cX5_see 168 = .ok (.if_icmp .ne 16, 3) := dk_160 0 16 (dk_at dksX5_see_7 3 rfl rfl)
theorem dX5_see_171 : decode cX5_see 171 = .ok (.new 57, 3) := dk_187 0 57 (dk_at dksX5_see_7 6 rfl rfl)
theorem dX5_see_174 : decode cX5_see 174 = .ok (.dup, 1) := dk_89 (dk_at dksX5_see_7 9 rfl rfl)
theorem dX5_see_175 : decode cX5_see 175 = .ok (.iconst 1, 1) := dk_4 (dk_at dksX5_see_7 10 rfl rfl)
theorem dX5_see_176 : decode cX5_see 176 = .ok (.aload_n 0, 1) := dk_42 (dk_at dksX5_see_7 11 rfl rfl)
theorem dX5_see_177 : decode cX5_see 177 = .ok (.getfield 36, 3) := dk_180 0 36 (dk_at dksX5_see_7 12 rfl rfl)
theorem dX5_see_180 : decode cX5_see 180 = .ok (.invokespecial 59, 3) := dk_183 0 59 (dk_at dksX5_see_7 15 rfl rfl)
theorem dX5_see_183 : decode cX5_see 183 = .ok (.athrow, 1) := dk_191 (dk_at dksX5_see_7 18 rfl rfl)
theorem dX5_see_184 : decode cX5_see 184 = .ok (.aload_n 0, 1) := dk_42 (dk_at dksX5_see_7 19 rfl rfl)
theorem dX5_see_185 : decode cX5_see 185 = .ok (.getfield 36, 3) := dk_180 0 36 (dk_at dksX5_see_7 20 rfl rfl)
theorem dX5_see_188 : decode cX5_see 188 = .ok (.aload_n 0, 1) := dk_42 (dk_at dksX5_see_7 23 rfl rfl)
theorem dX5_see_189 : decode cX5_see 189 = .ok (.getfield 26, 3) := dk_180 0 26 (dk_at dksX5_see_8 0 rfl rfl)
theorem dX5_see_192 : decode cX5_see 192 = .ok (.if_icmp .ge 61, 3) := dk_162 0 61 (dk_at dksX5_see_8 3 rfl rfl)
theorem dX5_see_195 : decode cX5_see 195 = .ok (.iload_n 2, 1) := dk_28 (dk_at dksX5_see_8 6 rfl rfl)
theorem dX5_see_196 : decode cX5_see 196 = .ok (.ifCond .eq 25, 3) := dk_153 0 25 (dk_at dksX5_see_8 7 rfl rfl)
theorem dX5_see_199 : decode cX5_see 199 = .ok (.aload_n 0, 1) := dk_42 (dk_at dksX5_see_8 10 rfl rfl)
theorem dX5_see_200 : decode cX5_see 200 = .ok (.aload_n 0, 1) := dk_42 (dk_at dksX5_see_8 11 rfl rfl)
theorem dX5_see_201 : decode cX5_see 201 = .ok (.getfield 3, 3) := dk_180 0 3 (dk_at dksX5_see_8 12 rfl rfl)
theorem dX5_see_204 : decode cX5_see 204 = .ok (.getfield 39, 3) := dk_180 0 39 (dk_at dksX5_see_8 15 rfl rfl)
theorem dX5_see_207 : decode cX5_see 207 = .ok (.aload_n 0, 1) := dk_42 (dk_at dksX5_see_8 18 rfl rfl)
theorem dX5_see_208 : decode cX5_see 208 = .ok (.getfield 36, 3) := dk_180 0 36 (dk_at dksX5_see_8 19 rfl rfl)
theorem dX5_see_211 : decode cX5_see 211 = .ok (.caload, 1) := dk_52 (dk_at dksX5_see_8 22 rfl rfl)
theorem dX5_see_212 : decode cX5_see 212 = .ok (.invokevirtual 46, 3) := dk_182 0 46 (dk_at dksX5_see_9 0 rfl rfl)
theorem dX5_see_215 : decode cX5_see 215 = .ok (.ifCond .eq 38, 3) := dk_153 0 38 (dk_at dksX5_see_9 3 rfl rfl)
theorem dX5_see_218 : decode cX5_see 218 = .ok (.goto 22, 3) := dk_167 0 22 (dk_at dksX5_see_9 6 rfl rfl)
theorem dX5_see_221 : decode cX5_see 221 = .ok (.aload_n 0, 1) := dk_42 (dk_at dksX5_see_9 9 rfl rfl)
theorem dX5_see_222 : decode cX5_see 222 = .ok (.aload_n 0, 1) := dk_42 (dk_at dksX5_see_9 10 rfl rfl)
theorem dX5_see_223 : decode cX5_see 223 = .ok (.getfield 3, 3) := dk_180 0 3 (dk_at dksX5_see_9 11 rfl rfl)
theorem dX5_see_226 : decode cX5_see 226 = .ok (.getfield 39, 3) := dk_180 0 39 (dk_at dksX5_see_9 14 rfl rfl)
theorem dX5_see_229 : decode cX5_see 229 = .ok (.aload_n 0, 1) := dk_42 (dk_at dksX5_see_9 17 rfl rfl)
theorem dX5_see_230 : decode cX5_see 230 = .ok (.getfield 36, 3) := dk_180 0 36 (dk_at dksX5_see_9 18 rfl rfl)
theorem dX5_see_233 : decode cX5_see 233 = .ok (.caload, 1) := dk_52 (dk_at dksX5_see_9 21 rfl rfl)
theorem dX5_see_234 : decode cX5_see 234 = .ok (.invokevirtual 50, 3) := dk_182 0 50 (dk_at dksX5_see_10 0 rfl rfl)
theorem dX5_see_237 : decode cX5_see 237 = .ok (.ifCond .eq 16, 3) := dk_153 0 16 (dk_at dksX5_see_10 3 rfl rfl)
theorem dX5_see_240 : decode cX5_see 240 = .ok (.aload_n 0, 1) := dk_42 (dk_at dksX5_see_10 6 rfl rfl)
theorem dX5_see_241 : decode cX5_see 241 = .ok (.dup, 1) := dk_89 (dk_at dksX5_see_10 7 rfl rfl)
theorem dX5_see_242 : decode cX5_see 242 = .ok (.getfield 36, 3) := dk_180 0 36 (dk_at dksX5_see_10 8 rfl rfl)
theorem dX5_see_245 : decode cX5_see 245 = .ok (.iconst 1, 1) := dk_4 (dk_at dksX5_see_10 11 rfl rfl)
theorem dX5_see_246 : decode cX5_see 246 = .ok (.iadd, 1) := dk_96 (dk_at dksX5_see_10 12 rfl rfl)
theorem dX5_see_247 : decode cX5_see 247 = .ok (.putfield 36, 3) := dk_181 0 36 (dk_at dksX5_see_10 13 rfl rfl)
theorem dX5_see_250 : decode cX5_see 250 = .ok (.goto (-66), 3) := dk_167 255 190 (dk_at dksX5_see_10 16 rfl rfl)
theorem dX5_see_253 : decode cX5_see 253 = .ok (.aload_n 0, 1) := dk_42 (dk_at dksX5_see_10 19 rfl rfl)
theorem dX5_see_254 : decode cX5_see 254 = .ok (.aload_n 0, 1) := dk_42 (dk_at dksX5_see_10 20 rfl rfl)
theorem dX5_see_255 : decode cX5_see 255 = .ok (.getfield 36, 3) := dk_180 0 36 (dk_at dksX5_see_10 21 rfl rfl)
theorem dX5_see_258 : decode cX5_see 258 = .ok (.putfield 22, 3) := dk_181 0 22 (dk_at dksX5_see_11 0 rfl rfl)
theorem dX5_see_261 : decode cX5_see 261 = .ok (.aload_n 0, 1) := dk_42 (dk_at dksX5_see_11 3 rfl rfl)
theorem dX5_see_262 : decode cX5_see 262 = .ok (.new 62, 3) := dk_187 0 62 (dk_at dksX5_see_11 4 rfl rfl)
theorem dX5_see_265 : decode cX5_see 265 = .ok (.dup, 1) := dk_89 (dk_at dksX5_see_11 7 rfl rfl)
theorem dX5_see_266 : decode cX5_see 266 = .ok (.aload_n 0, 1) := dk_42 (dk_at dksX5_see_11 8 rfl rfl)
theorem dX5_see_267 : decode cX5_see 267 = .ok (.getfield 3, 3) := dk_180 0 3 (dk_at dksX5_see_11 9 rfl rfl)
theorem dX5_see_270 : decode cX5_see 270 = .ok (.getfield 39, 3) := dk_180 0 39 (dk_at dksX5_see_11 12 rfl rfl)
theorem dX5_see_273 : decode cX5_see 273 = .ok (.aload_n 0, 1) := dk_42 (dk_at dksX5_see_11 15 rfl rfl)
theorem dX5_see_274 : decode cX5_see 274 = .ok (.getfield 43, 3) := dk_180 0 43 (dk_at dksX5_see_11 16 rfl rfl)
theorem dX5_see_277 : decode cX5_see 277 = .ok (.aload_n 0, 1) := dk_42 (dk_at dksX5_see_11 19 rfl rfl)
theorem dX5_see_278 : decode cX5_see 278 = .ok (.getfield 36, 3) := dk_180 0 36 (dk_at dksX5_see_11 20 rfl rfl)
theorem dX5_see_281 : decode cX5_see 281 = .ok (.aload_n 0, 1) := dk_42 (dk_at dksX5_see_11 23 rfl rfl)
theorem dX5_see_282 : decode cX5_see 282 = .ok (.getfield 43, 3) := dk_180 0 43 (dk_at dksX5_see_12 0 rfl rfl)
theorem dX5_see_285 : decode cX5_see 285 = .ok (.isub, 1) := dk_100 (dk_at dksX5_see_12 3 rfl rfl)
theorem dX5_see_286 : decode cX5_see 286 = .ok (.invokespecial 64, 3) := dk_183 0 64 (dk_at dksX5_see_12 4 rfl rfl)
theorem dX5_see_289 : decode cX5_see 289 = .ok (.putfield 67, 3) := dk_181 0 67 (dk_at dksX5_see_12 7 rfl rfl)
theorem dX5_see_292 : decode cX5_see 292 = .ok (.iload_n 2, 1) := dk_28 (dk_at dksX5_see_12 10 rfl rfl)
theorem dX5_see_293 : decode cX5_see 293 = .ok (.ifCond .eq 8, 3) := dk_153 0 8 (dk_at dksX5_see_12 11 rfl rfl)
theorem dX5_see_296 : decode cX5_see 296 = .ok (.bipush 6, 2) := dk_16 6 (dk_at dksX5_see_12 14 rfl rfl)
theorem dX5_see_298 : decode cX5_see 298 = .ok (.goto 4, 3) := dk_167 0 4 (dk_at dksX5_see_12 16 rfl rfl)
theorem dX5_see_301 : decode cX5_see 301 = .ok (.iconst 4, 1) := dk_7 (dk_at dksX5_see_12 19 rfl rfl)
theorem dX5_see_302 : decode cX5_see 302 = .ok (.istore_n 3, 1) := dk_62 (dk_at dksX5_see_12 20 rfl rfl)
theorem dX5_see_303 : decode cX5_see 303 = .ok (.aload_n 0, 1) := dk_42 (dk_at dksX5_see_12 21 rfl rfl)
theorem dX5_see_304 : decode cX5_see 304 = .ok (.getfield 67, 3) := dk_180 0 67 (dk_at dksX5_see_13 0 rfl rfl)
theorem dX5_see_307 : decode cX5_see 307 = .ok (.invokevirtual 71, 3) := dk_182 0 71 (dk_at dksX5_see_13 3 rfl rfl)
theorem dX5_see_310 : decode cX5_see 310 = .ok (.iload_n 3, 1) := dk_29 (dk_at dksX5_see_13 6 rfl rfl)
theorem dX5_see_311 : decode cX5_see 311 = .ok (.if_icmp .le 28, 3) := dk_164 0 28 (dk_at dksX5_see_13 7 rfl rfl)
theorem dX5_see_314 : decode cX5_see 314 = .ok (.aload_n 0, 1) := dk_42 (dk_at dksX5_see_13 10 rfl rfl)
theorem dX5_see_315 : decode cX5_see 315 = .ok (.getfield 67, 3) := dk_180 0 67 (dk_at dksX5_see_13 11 rfl rfl)
theorem dX5_see_318 : decode cX5_see 318 = .ok (.invokestatic 75, 3) := dk_184 0 75 (dk_at dksX5_see_13 14 rfl rfl)
theorem dX5_see_321 : decode cX5_see 321 = .ok (.ifCond .ne 18, 3) := dk_154 0 18 (dk_at dksX5_see_13 17 rfl rfl)
theorem dX5_see_324 : decode cX5_see 324 = .ok (.new 57, 3) := dk_187 0 57 (dk_at dksX5_see_13 20 rfl rfl)
theorem dX5_see_327 : decode cX5_see 327 = .ok (.dup, 1) := dk_89 (dk_at dksX5_see_13 23 rfl rfl)
theorem dX5_see_328 : decode cX5_see 328 = .ok (.iconst 1, 1) := dk_4 (dk_at dksX5_see_14 0 rfl rfl)
theorem dX5_see_329 : decode cX5_see 329 = .ok (.aload_n 0, 1) := dk_42 (dk_at dksX5_see_14 1 rfl rfl)
theorem dX5_see_330 : decode cX5_see 330 = .ok (.getfield 43, 3) := dk_180 0 43 (dk_at dksX5_see_14 2 rfl rfl)
theorem dX5_see_333 : decode cX5_see 333 = .ok (.iload_n 3, 1) := dk_29 (dk_at dksX5_see_14 5 rfl rfl)
theorem dX5_see_334 : decode cX5_see 334 = .ok (.iadd, 1) := dk_96 (dk_at dksX5_see_14 6 rfl rfl)
theorem dX5_see_335 : decode cX5_see 335 = .ok (.invokespecial 59, 3) := dk_183 0 59 (dk_at dksX5_see_14 7 rfl rfl)
theorem dX5_see_338 : decode cX5_see 338 = .ok (.athrow, 1) := dk_191 (dk_at dksX5_see_14 10 rfl rfl)
theorem dX5_see_339 : decode cX5_see 339 = .ok (.iload_n 2, 1) := dk_28 (dk_at dksX5_see_14 11 rfl rfl)
theorem dX5_see_340 : decode cX5_see 340 = .ok (.ifCond .ne 14, 3) := dk_154 0 14 (dk_at dksX5_see_14 12 rfl rfl)
theorem dX5_see_343 : decode cX5_see 343 = .ok (.aload_n 0, 1) := dk_42 (dk_at dksX5_see_14 15 rfl rfl)
theorem dX5_see_344 : decode cX5_see 344 = .ok (.aload_n 0, 1) := dk_42 (dk_at dksX5_see_14 16 rfl rfl)
theorem dX5_see_345 : decode cX5_see 345 = .ok (.getfield 67, 3) := dk_180 0 67 (dk_at dksX5_see_14 17 rfl rfl)
theorem dX5_see_348 : decode cX5_see 348 = .ok (.invokestatic 79, 3) := dk_184 0 79 (dk_at dksX5_see_14 20 rfl rfl)
theorem dX5_see_351 : decode cX5_see 351 = .ok (.putfield 83, 3) := dk_181 0 83 (dk_at dksX5_see_15 0 rfl rfl)
theorem dX5_see_354 : decode cX5_see 354 = .ok (.aload_n 0, 1) := dk_42 (dk_at dksX5_see_15 3 rfl rfl)
theorem dX5_see_355 : decode cX5_see 355 = .ok (.iload_n 2, 1) := dk_28 (dk_at dksX5_see_15 4 rfl rfl)
theorem dX5_see_356 : decode cX5_see 356 = .ok (.ifCond .eq 7, 3) := dk_153 0 7 (dk_at dksX5_see_15 5 rfl rfl)
theorem dX5_see_359 : decode cX5_see 359 = .ok (.iconst 1, 1) := dk_4 (dk_at dksX5_see_15 8 rfl rfl)
theorem dX5_see_360 : decode cX5_see 360 = .ok (.goto 4, 3) := dk_167 0 4 (dk_at dksX5_see_15 9 rfl rfl)
theorem dX5_see_363 : decode cX5_see 363 = .ok (.iconst 2, 1) := dk_5 (dk_at dksX5_see_15 12 rfl rfl)
theorem dX5_see_364 : decode cX5_see 364 = .ok (.putfield 33, 3) := dk_181 0 33 (dk_at dksX5_see_15 13 rfl rfl)
theorem dX5_see_367 : decode cX5_see 367 = .ok (.aload_n 0, 1) := dk_42 (dk_at dksX5_see_15 16 rfl rfl)
theorem dX5_see_368 : decode cX5_see 368 = .ok (.getfield 33, 3) := dk_180 0 33 (dk_at dksX5_see_15 17 rfl rfl)
theorem dX5_see_371 : decode cX5_see 371 = .ok (.ireturn, 1) := dk_172 (dk_at dksX5_see_15 20 rfl rfl)
abbrev cX5_isLetter : ByteArray := prog_19_method_2_code
def yX5_isLetter : MethodName := ⟨RX5, "isLetter", "(C)Z"⟩
def dkwX5_isLetter_0 : List UInt8 := [27, 16, 97, 161, 0, 13, 27, 16, 122, 163, 0, 7, 4, 167, 0, 4, 3, 172]
abbrev dktX5_isLetter_0 : List UInt8 := dkwX5_isLetter_0 ++ []
theorem dksX5_isLetter_0 : cX5_isLetter.data.toList.drop 0 = dktX5_isLetter_0 := by decide +kernel
theorem dX5_isLetter_0 : decode cX5_isLetter 0 = .ok (.iload_n 1, 1) := dk_27 (dk_at dksX5_isLetter_0 0 rfl rfl)
theorem dX5_isLetter_1 : decode cX5_isLetter 1 = .ok (.bipush 97, 2) := dk_16 97 (dk_at dksX5_isLetter_0 1 rfl rfl)
theorem dX5_isLetter_3 : decode cX5_isLetter 3 = .ok (.if_icmp .lt 13, 3) := dk_161 0 13 (dk_at dksX5_isLetter_0 3 rfl rfl)
theorem dX5_isLetter_6 : decode cX5_isLetter 6 = .ok (.iload_n 1, 1) := dk_27 (dk_at dksX5_isLetter_0 6 rfl rfl)
theorem dX5_isLetter_7 : decode cX5_isLetter 7 = .ok (.bipush 122, 2) := dk_16 122 (dk_at dksX5_isLetter_0 7 rfl rfl)
theorem dX5_isLetter_9 : decode cX5_isLetter 9 = .ok (.if_icmp .gt 7, 3) := dk_163 0 7 (dk_at dksX5_isLetter_0 9 rfl rfl)
theorem dX5_isLetter_12 : decode cX5_isLetter 12 = .ok (.iconst 1, 1) := dk_4 (dk_at dksX5_isLetter_0 12 rfl rfl)
theorem dX5_isLetter_13 : decode cX5_isLetter 13 = .ok (.goto 4, 3) := dk_167 0 4 (dk_at dksX5_isLetter_0 13 rfl rfl)
theorem dX5_isLetter_16 : decode cX5_isLetter 16 = .ok (.iconst 0, 1) := dk_3 (dk_at dksX5_isLetter_0 16 rfl rfl)
theorem dX5_isLetter_17 : decode cX5_isLetter 17 = .ok (.ireturn, 1) := dk_172 (dk_at dksX5_isLetter_0 17 rfl rfl)
abbrev cX5_isDigit : ByteArray := prog_19_method_3_code
def yX5_isDigit : MethodName := ⟨RX5, "isDigit", "(C)Z"⟩
def dkwX5_isDigit_0 : List UInt8 := [27, 16, 48, 161, 0, 13, 27, 16, 57, 163, 0, 7, 4, 167, 0, 4, 3, 172]
abbrev dktX5_isDigit_0 : List UInt8 := dkwX5_isDigit_0 ++ []
theorem dksX5_isDigit_0 : cX5_isDigit.data.toList.drop 0 = dktX5_isDigit_0 := by decide +kernel
theorem dX5_isDigit_0 : decode cX5_isDigit 0 = .ok (.iload_n 1, 1) := dk_27 (dk_at dksX5_isDigit_0 0 rfl rfl)
theorem dX5_isDigit_1 : decode cX5_isDigit 1 = .ok (.bipush 48, 2) := dk_16 48 (dk_at dksX5_isDigit_0 1 rfl rfl)
theorem dX5_isDigit_3 : decode cX5_isDigit 3 = .ok (.if_icmp .lt 13, 3) := dk_161 0 13 (dk_at dksX5_isDigit_0 3 rfl rfl)
theorem dX5_isDigit_6 : decode cX5_isDigit 6 = .ok (.iload_n 1, 1) := dk_27 (dk_at dksX5_isDigit_0 6 rfl rfl)
theorem dX5_isDigit_7 : decode cX5_isDigit 7 = .ok (.bipush 57, 2) := dk_16 57 (dk_at dksX5_isDigit_0 7 rfl rfl)
theorem dX5_isDigit_9 : decode cX5_isDigit 9 = .ok (.if_icmp .gt 7, 3) := dk_163 0 7 (dk_at dksX5_isDigit_0 9 rfl rfl)
theorem dX5_isDigit_12 : decode cX5_isDigit 12 = .ok (.iconst 1, 1) := dk_4 (dk_at dksX5_isDigit_0 12 rfl rfl)
theorem dX5_isDigit_13 : decode cX5_isDigit 13 = .ok (.goto 4, 3) := dk_167 0 4 (dk_at dksX5_isDigit_0 13 rfl rfl)
theorem dX5_isDigit_16 : decode cX5_isDigit 16 = .ok (.iconst 0, 1) := dk_3 (dk_at dksX5_isDigit_0 16 rfl rfl)
theorem dX5_isDigit_17 : decode cX5_isDigit 17 = .ok (.ireturn, 1) := dk_172 (dk_at dksX5_isDigit_0 17 rfl rfl)
abbrev cX5_statement : ByteArray := prog_19_method_35_code
def yX5_statement : MethodName := ⟨RX5, "statement", "()V"⟩
def dkwX5_statement_12 : List UInt8 := [182, 0, 122, 42, 180, 0, 18, 89, 180, 1, 35, 4, 96, 181, 1, 35, 177]
abbrev dktX5_statement_12 : List UInt8 := dkwX5_statement_12 ++ []
def dkwX5_statement_11 : List UInt8 := [19, 1, 78, 182, 0, 244, 42, 180, 0, 18, 42, 3, 16, 100, 182, 0, 208, 181, 1, 80, 42, 16, 59]
abbrev dktX5_statement_11 : List UInt8 := dkwX5_statement_11 ++ dktX5_statement_12
def dkwX5_statement_10 : List UInt8 := [153, 0, 21, 42, 180, 0, 18, 42, 3, 17, 3, 231, 182, 0, 208, 181, 1, 76, 167, 0, 24, 42]
abbrev dktX5_statement_10 : List UInt8 := dkwX5_statement_10 ++ dktX5_statement_11
def dkwX5_statement_9 : List UInt8 := [180, 0, 18, 42, 3, 17, 3, 231, 182, 0, 208, 181, 1, 72, 167, 0, 52, 42, 19, 1, 74, 182, 0, 106]
abbrev dktX5_statement_9 : List UInt8 := dkwX5_statement_9 ++ dktX5_statement_10
def dkwX5_statement_8 : List UInt8 := [16, 9, 182, 1, 51, 181, 1, 68, 167, 0, 80, 42, 19, 1, 70, 182, 0, 106, 153, 0, 21, 42]
abbrev dktX5_statement_8 : List UInt8 := dkwX5_statement_8 ++ dktX5_statement_9
def dkwX5_statement_7 : List UInt8 := [19, 1, 66, 182, 0, 106, 153, 0, 29, 42, 180, 0, 18, 42, 42, 180, 0, 18, 180, 1, 68, 27, 16, 8]
abbrev dktX5_statement_7 : List UInt8 := dkwX5_statement_7 ++ dktX5_statement_8
def dkwX5_statement_6 : List UInt8 := [42, 42, 180, 0, 18, 180, 1, 64, 27, 16, 6, 16, 7, 182, 1, 59, 181, 1, 64, 167, 0, 116, 42]
abbrev dktX5_statement_6 : List UInt8 := dkwX5_statement_6 ++ dktX5_statement_7
def dkwX5_statement_5 : List UInt8 := [8, 182, 1, 59, 181, 1, 56, 167, 0, 152, 42, 19, 1, 62, 182, 0, 106, 153, 0, 29, 42, 180, 0, 18]
abbrev dktX5_statement_5 : List UInt8 := dkwX5_statement_5 ++ dktX5_statement_6
def dkwX5_statement_4 : List UInt8 := [42, 19, 1, 54, 182, 0, 106, 153, 0, 27, 42, 180, 0, 18, 42, 42, 180, 0, 18, 180, 1, 56, 27, 5]
abbrev dktX5_statement_4 : List UInt8 := dkwX5_statement_4 ++ dktX5_statement_5
def dkwX5_statement_3 : List UInt8 := [42, 180, 0, 18, 42, 42, 180, 0, 18, 180, 1, 48, 27, 5, 7, 182, 1, 51, 181, 1, 48, 167, 0, 186]
abbrev dktX5_statement_3 : List UInt8 := dkwX5_statement_3 ++ dktX5_statement_4
def dkwX5_statement_2 : List UInt8 := [182, 0, 106, 153, 0, 11, 42, 27, 182, 1, 44, 167, 0, 220, 42, 19, 1, 46, 182, 0, 106, 153, 0, 27]
abbrev dktX5_statement_2 : List UInt8 := dkwX5_statement_2 ++ dktX5_statement_3
def dkwX5_statement_1 : List UInt8 := [42, 19, 1, 38, 182, 0, 106, 153, 0, 11, 42, 27, 182, 1, 40, 167, 0, 238, 42, 19, 1, 42]
abbrev dktX5_statement_1 : List UInt8 := dkwX5_statement_1 ++ dktX5_statement_2
def dkwX5_statement_0 : List UInt8 := [42, 182, 0, 86, 87, 42, 180, 0, 43, 60, 42, 42, 180, 0, 18, 180, 1, 35, 16, 80, 27, 182, 1, 1]
abbrev dktX5_statement_0 : List UInt8 := dkwX5_statement_0 ++ dktX5_statement_1
theorem dksX5_statement_0 : cX5_statement.data.toList.drop 0 = dktX5_statement_0 := by decide +kernel
theorem dksX5_statement_1 : cX5_statement.data.toList.drop 24 = dktX5_statement_1 := dk_seg dksX5_statement_0 24 rfl rfl
theorem dksX5_statement_2 : cX5_statement.data.toList.drop 46 = dktX5_statement_2 := dk_seg dksX5_statement_1 22 rfl rfl
theorem dksX5_statement_3 : cX5_statement.data.toList.drop 70 = dktX5_statement_3 := dk_seg dksX5_statement_2 24 rfl rfl
theorem dksX5_statement_4 : cX5_statement.data.toList.drop 94 = dktX5_statement_4 := dk_seg dksX5_statement_3 24 rfl rfl
theorem dksX5_statement_5 : cX5_statement.data.toList.drop 118 = dktX5_statement_5 := dk_seg dksX5_statement_4 24 rfl rfl
theorem dksX5_statement_6 : cX5_statement.data.toList.drop 142 = dktX5_statement_6 := dk_seg dksX5_statement_5 24 rfl rfl
theorem dksX5_statement_7 : cX5_statement.data.toList.drop 165 = dktX5_statement_7 := dk_seg dksX5_statement_6 23 rfl rfl
theorem dksX5_statement_8 : cX5_statement.data.toList.drop 189 = dktX5_statement_8 := dk_seg dksX5_statement_7 24 rfl rfl
theorem dksX5_statement_9 : cX5_statement.data.toList.drop 211 = dktX5_statement_9 := dk_seg dksX5_statement_8 22 rfl rfl
theorem dksX5_statement_10 : cX5_statement.data.toList.drop 235 = dktX5_statement_10 := dk_seg dksX5_statement_9 24 rfl rfl
theorem dksX5_statement_11 : cX5_statement.data.toList.drop 257 = dktX5_statement_11 := dk_seg dksX5_statement_10 22 rfl rfl
theorem dksX5_statement_12 : cX5_statement.data.toList.drop 280 = dktX5_statement_12 := dk_seg dksX5_statement_11 23 rfl rfl
theorem dX5_statement_0 : decode cX5_statement 0 = .ok (.aload_n 0, 1) := dk_42 (dk_at dksX5_statement_0 0 rfl rfl)
theorem dX5_statement_1 : decode cX5_statement 1 = .ok (.invokevirtual 86, 3) := dk_182 0 86 (dk_at dksX5_statement_0 1 rfl rfl)
theorem dX5_statement_4 : decode cX5_statement 4 = .ok (.pop, 1) := dk_87 (dk_at dksX5_statement_0 4 rfl rfl)
theorem dX5_statement_5 : decode cX5_statement 5 = .ok (.aload_n 0, 1) := dk_42 (dk_at dksX5_statement_0 5 rfl rfl)
theorem dX5_statement_6 : decode cX5_statement 6 = .ok (.getfield 43, 3) := dk_180 0 43 (dk_at dksX5_statement_0 6 rfl rfl)
theorem dX5_statement_9 : decode cX5_statement 9 = .ok (.istore_n 1, 1) := dk_60 (dk_at dksX5_statement_0 9 rfl rfl)
theorem dX5_statement_10 : decode cX5_statement 10 = .ok (.aload_n 0, 1) := dk_42 (dk_at dksX5_statement_0 10 rfl rfl)
theorem dX5_statement_11 : decode cX5_statement 11 = .ok (.aload_n 0, 1) := dk_42 (dk_at dksX5_statement_0 11 rfl rfl)
theorem dX5_statement_12 : decode cX5_statement 12 = .ok (.getfield 18, 3) := dk_180 0 18 (dk_at dksX5_statement_0 12 rfl rfl)
theorem dX5_statement_15 : decode cX5_statement 15 = .ok (.getfield 291, 3) := dk_180 1 35 (dk_at dksX5_statement_0 15 rfl rfl)
theorem dX5_statement_18 : decode cX5_statement 18 = .ok (.bipush 80, 2) := dk_16 80 (dk_at dksX5_statement_0 18 rfl rfl)
theorem dX5_statement_20 : decode cX5_statement 20 = .ok (.iload_n 1, 1) := dk_27 (dk_at dksX5_statement_0 20 rfl rfl)
theorem dX5_statement_21 : decode cX5_statement 21 = .ok (.invokevirtual 257, 3) := dk_182 1 1 (dk_at dksX5_statement_0 21 rfl rfl)
theorem dX5_statement_24 : decode cX5_statement 24 = .ok (.aload_n 0, 1) := dk_42 (dk_at dksX5_statement_1 0 rfl rfl)
theorem dX5_statement_25 : decode cX5_statement 25 = .ok (.ldc_w 294, 3) := dk_19 1 38 (dk_at dksX5_statement_1 1 rfl rfl)
theorem dX5_statement_28 : decode cX5_statement 28 = .ok (.invokevirtual 106, 3) := dk_182 0 106 (dk_at dksX5_statement_1 4 rfl rfl)
theorem dX5_statement_31 : decode cX5_statement 31 = .ok (.ifCond .eq 11, 3) := dk_153 0 11 (dk_at dksX5_statement_1 7 rfl rfl)
theorem dX5_statement_34 : decode cX5_statement 34 = .ok (.aload_n 0, 1) := dk_42 (dk_at dksX5_statement_1 10 rfl rfl)
theorem dX5_statement_35 : decode cX5_statement 35 = .ok (.iload_n 1, 1) := dk_27 (dk_at dksX5_statement_1 11 rfl rfl)
theorem dX5_statement_36 : decode cX5_statement 36 = .ok (.invokevirtual 296, 3) := dk_182 1 40 (dk_at dksX5_statement_1 12 rfl rfl)
theorem dX5_statement_39 : decode cX5_statement 39 = .ok (.goto 238, 3) := dk_167 0 238 (dk_at dksX5_statement_1 15 rfl rfl)
theorem dX5_statement_42 : decode cX5_statement 42 = .ok (.aload_n 0, 1) := dk_42 (dk_at dksX5_statement_1 18 rfl rfl)
theorem dX5_statement_43 : decode cX5_statement 43 = .ok (.ldc_w 298, 3) := dk_19 1 42 (dk_at dksX5_statement_1 19 rfl rfl)
theorem dX5_statement_46 : decode cX5_statement 46 = .ok (.invokevirtual 106, 3) := dk_182 0 106 (dk_at dksX5_statement_2 0 rfl rfl)
theorem dX5_statement_49 : decode cX5_statement 49 = .ok (.ifCond .eq 11, 3) := dk_153 0 11 (dk_at dksX5_statement_2 3 rfl rfl)
theorem dX5_statement_52 : decode cX5_statement 52 = .ok (.aload_n 0, 1) := dk_42 (dk_at dksX5_statement_2 6 rfl rfl)
theorem dX5_statement_53 : decode cX5_statement 53 = .ok (.iload_n 1, 1) := dk_27 (dk_at dksX5_statement_2 7 rfl rfl)
theorem dX5_statement_54 : decode cX5_statement 54 = .ok (.invokevirtual 300, 3) := dk_182 1 44 (dk_at dksX5_statement_2 8 rfl rfl)
theorem dX5_statement_57 : decode cX5_statement 57 = .ok (.goto 220, 3) := dk_167 0 220 (dk_at dksX5_statement_2 11 rfl rfl)
theorem dX5_statement_60 : decode cX5_statement 60 = .ok (.aload_n 0, 1) := dk_42 (dk_at dksX5_statement_2 14 rfl rfl)
theorem dX5_statement_61 : decode cX5_statement 61 = .ok (.ldc_w 302, 3) := dk_19 1 46 (dk_at dksX5_statement_2 15 rfl rfl)
theorem dX5_statement_64 : decode cX5_statement 64 = .ok (.invokevirtual 106, 3) := dk_182 0 106 (dk_at dksX5_statement_2 18 rfl rfl)
theorem dX5_statement_67 : decode cX5_statement 67 = .ok (.ifCond .eq 27, 3) := dk_153 0 27 (dk_at dksX5_statement_2 21 rfl rfl)
theorem dX5_statement_70 : decode cX5_statement 70 = .ok (.aload_n 0, 1) := dk_42 (dk_at dksX5_statement_3 0 rfl rfl)
theorem dX5_statement_71 : decode cX5_statement 71 = .ok (.getfield 18, 3) := dk_180 0 18 (dk_at dksX5_statement_3 1 rfl rfl)
theorem dX5_statement_74 : decode cX5_statement 74 = .ok (.aload_n 0, 1) := dk_42 (dk_at dksX5_statement_3 4 rfl rfl)
theorem dX5_statement_75 : decode cX5_statement 75 = .ok (.aload_n 0, 1) := dk_42 (dk_at dksX5_statement_3 5 rfl rfl)
theorem dX5_statement_76 : decode cX5_statement 76 = .ok (.getfield 18, 3) := dk_180 0 18 (dk_at dksX5_statement_3 6 rfl rfl)
theorem dX5_statement_79 : decode cX5_statement 79 = .ok (.getfield 304, 3) := dk_180 1 48 (dk_at dksX5_statement_3 9 rfl rfl)
theorem dX5_statement_82 : decode cX5_statement 82 = .ok (.iload_n 1, 1) := dk_27 (dk_at dksX5_statement_3 12 rfl rfl)
theorem dX5_statement_83 : decode cX5_statement 83 = .ok (.iconst 2, 1) := dk_5 (dk_at dksX5_statement_3 13 rfl rfl)
theorem dX5_statement_84 : decode cX5_statement 84 = .ok (.iconst 4, 1) := dk_7 (dk_at dksX5_statement_3 14 rfl rfl)
theorem dX5_statement_85 : decode cX5_statement 85 = .ok (.invokevirtual 307, 3) := dk_182 1 51 (dk_at dksX5_statement_3 15 rfl rfl)
theorem dX5_statement_88 : decode cX5_statement 88 = .ok (.putfield 304, 3) := dk_181 1 48 (dk_at dksX5_statement_3 18 rfl rfl)
theorem dX5_statement_91 : decode cX5_statement 91 = .ok (.goto 186, 3) := dk_167 0 186 (dk_at dksX5_statement_3 21 rfl rfl)
theorem dX5_statement_94 : decode cX5_statement 94 = .ok (.aload_n 0, 1) := dk_42 (dk_at dksX5_statement_4 0 rfl rfl)
theorem dX5_statement_95 : decode cX5_statement 95 = .ok (.ldc_w 310, 3) := dk_19 1 54 (dk_at dksX5_statement_4 1 rfl rfl)
theorem dX5_statement_98 : decode cX5_statement 98 = .ok (.invokevirtual 106, 3) := dk_182 0 106 (dk_at dksX5_statement_4 4 rfl rfl)
theorem dX5_statement_101 : decode cX5_statement 101 = .ok (.ifCond .eq 27, 3) := dk_153 0 27 (dk_at dksX5_statement_4 7 rfl rfl)
theorem dX5_statement_104 : decode cX5_statement 104 = .ok (.aload_n 0, 1) := dk_42 (dk_at dksX5_statement_4 10 rfl rfl)
theorem dX5_statement_105 : decode cX5_statement 105 = .ok (.getfield 18, 3) := dk_180 0 18 (dk_at dksX5_statement_4 11 rfl rfl)
theorem dX5_statement_108 : decode cX5_statement 108 = .ok (.aload_n 0, 1) := dk_42 (dk_at dksX5_statement_4 14 rfl rfl)
theorem dX5_statement_109 : decode cX5_statement 109 = .ok (.aload_n 0, 1) := dk_42 (dk_at dksX5_statement_4 15 rfl rfl)
theorem dX5_statement_110 : decode cX5_statement 110 = .ok (.getfield 18, 3) := dk_180 0 18 (dk_at dksX5_statement_4 16 rfl rfl)
theorem dX5_statement_113 : decode cX5_statement 113 = .ok (.getfield 312, 3) := dk_180 1 56 (dk_at dksX5_statement_4 19 rfl rfl)
theorem dX5_statement_116 : decode cX5_statement 116 = .ok (.iload_n 1, 1) := dk_27 (dk_at dksX5_statement_4 22 rfl rfl)
theorem dX5_statement_117 : decode cX5_statement 117 = .ok (.iconst 2, 1) := dk_5 (dk_at dksX5_statement_4 23 rfl rfl)
theorem dX5_statement_118 : decode cX5_statement 118 = .ok (.iconst 5, 1) := dk_8 (dk_at dksX5_statement_5 0 rfl rfl)
theorem dX5_statement_119 : decode cX5_statement 119 = .ok (.invokevirtual 315, 3) := dk_182 1 59 (dk_at dksX5_statement_5 1 rfl rfl)
theorem dX5_statement_122 : decode cX5_statement 122 = .ok (.putfield 312, 3) := dk_181 1 56 (dk_at dksX5_statement_5 4 rfl rfl)
theorem dX5_statement_125 : decode cX5_statement 125 = .ok (.goto 152, 3) := dk_167 0 152 (dk_at dksX5_statement_5 7 rfl rfl)
theorem dX5_statement_128 : decode cX5_statement 128 = .ok (.aload_n 0, 1) := dk_42 (dk_at dksX5_statement_5 10 rfl rfl)
theorem dX5_statement_129 : decode cX5_statement 129 = .ok (.ldc_w 318, 3) := dk_19 1 62 (dk_at dksX5_statement_5 11 rfl rfl)
theorem dX5_statement_132 : decode cX5_statement 132 = .ok (.invokevirtual 106, 3) := dk_182 0 106 (dk_at dksX5_statement_5 14 rfl rfl)
theorem dX5_statement_135 : decode cX5_statement 135 = .ok (.ifCond .eq 29, 3) := dk_153 0 29 (dk_at dksX5_statement_5 17 rfl rfl)
theorem dX5_statement_138 : decode cX5_statement 138 = .ok (.aload_n 0, 1) := dk_42 (dk_at dksX5_statement_5 20 rfl rfl)
theorem dX5_statement_139 : decode cX5_statement 139 = .ok (.getfield 18, 3) := dk_180 0 18 (dk_at dksX5_statement_5 21 rfl rfl)
theorem dX5_statement_142 : decode cX5_statement 142 = .ok (.aload_n 0, 1) := dk_42 (dk_at dksX5_statement_6 0 rfl rfl)
theorem dX5_statement_143 : decode cX5_statement 143 = .ok (.aload_n 0, 1) := dk_42 (dk_at dksX5_statement_6 1 rfl rfl)
theorem dX5_statement_144 : decode cX5_statement 144 = .ok (.getfield 18, 3) := dk_180 0 18 (dk_at dksX5_statement_6 2 rfl rfl)
theorem dX5_statement_147 : decode cX5_statement 147 = .ok (.getfield 320, 3) := dk_180 1 64 (dk_at dksX5_statement_6 5 rfl rfl)
theorem dX5_statement_150 : decode cX5_statement 150 = .ok (.iload_n 1, 1) := dk_27 (dk_at dksX5_statement_6 8 rfl rfl)
theorem dX5_statement_151 : decode cX5_statement 151 = .ok (.bipush 6, 2) := dk_16 6 (dk_at dksX5_statement_6 9 rfl rfl)
theorem dX5_statement_153 : decode cX5_statement 153 = .ok (.bipush 7, 2) := dk_16 7 (dk_at dksX5_statement_6 11 rfl rfl)
theorem dX5_statement_155 : decode cX5_statement 155 = .ok (.invokevirtual 315, 3) := dk_182 1 59 (dk_at dksX5_statement_6 13 rfl rfl)
theorem dX5_statement_158 : decode cX5_statement 158 = .ok (.putfield 320, 3) := dk_181 1 64 (dk_at dksX5_statement_6 16 rfl rfl)
theorem dX5_statement_161 : decode cX5_statement 161 = .ok (.goto 116, 3) := dk_167 0 116 (dk_at dksX5_statement_6 19 rfl rfl)
theorem dX5_statement_164 : decode cX5_statement 164 = .ok (.aload_n 0, 1) := dk_42 (dk_at dksX5_statement_6 22 rfl rfl)
theorem dX5_statement_165 : decode cX5_statement 165 = .ok (.ldc_w 322, 3) := dk_19 1 66 (dk_at dksX5_statement_7 0 rfl rfl)
theorem dX5_statement_168 : decode cX5_statement 168 = .ok (.invokevirtual 106, 3) := dk_182 0 106 (dk_at dksX5_statement_7 3 rfl rfl)
theorem dX5_statement_171 : decode cX5_statement 171 = .ok (.ifCond .eq 29, 3) := dk_153 0 29 (dk_at dksX5_statement_7 6 rfl rfl)
theorem dX5_statement_174 : decode cX5_statement 174 = .ok (.aload_n 0, 1) := dk_42 (dk_at dksX5_statement_7 9 rfl rfl)
theorem dX5_statement_175 : decode cX5_statement 175 = .ok (.getfield 18, 3) := dk_180 0 18 (dk_at dksX5_statement_7 10 rfl rfl)
theorem dX5_statement_178 : decode cX5_statement 178 = .ok (.aload_n 0, 1) := dk_42 (dk_at dksX5_statement_7 13 rfl rfl)
theorem dX5_statement_179 : decode cX5_statement 179 = .ok (.aload_n 0, 1) := dk_42 (dk_at dksX5_statement_7 14 rfl rfl)
theorem dX5_statement_180 : decode cX5_statement 180 = .ok (.getfield 18, 3) := dk_180 0 18 (dk_at dksX5_statement_7 15 rfl rfl)
theorem dX5_statement_183 : decode cX5_statement 183 = .ok (.getfield 324, 3) := dk_180 1 68 (dk_at dksX5_statement_7 18 rfl rfl)
theorem dX5_statement_186 : decode cX5_statement 186 = .ok (.iload_n 1, 1) := dk_27 (dk_at dksX5_statement_7 21 rfl rfl)
theorem dX5_statement_187 : decode cX5_statement 187 = .ok (.bipush 8, 2) := dk_16 8 (dk_at dksX5_statement_7 22 rfl rfl)
theorem dX5_statement_189 : decode cX5_statement 189 = .ok (.bipush 9, 2) := dk_16 9 (dk_at dksX5_statement_8 0 rfl rfl)
theorem dX5_statement_191 : decode cX5_statement 191 = .ok (.invokevirtual 307, 3) := dk_182 1 51 (dk_at dksX5_statement_8 2 rfl rfl)
theorem dX5_statement_194 : decode cX5_statement 194 = .ok (.putfield 324, 3) := dk_181 1 68 (dk_at dksX5_statement_8 5 rfl rfl)
theorem dX5_statement_197 : decode cX5_statement 197 = .ok (.goto 80, 3) := dk_167 0 80 (dk_at dksX5_statement_8 8 rfl rfl)
theorem dX5_statement_200 : decode cX5_statement 200 = .ok (.aload_n 0, 1) := dk_42 (dk_at dksX5_statement_8 11 rfl rfl)
theorem dX5_statement_201 : decode cX5_statement 201 = .ok (.ldc_w 326, 3) := dk_19 1 70 (dk_at dksX5_statement_8 12 rfl rfl)
theorem dX5_statement_204 : decode cX5_statement 204 = .ok (.invokevirtual 106, 3) := dk_182 0 106 (dk_at dksX5_statement_8 15 rfl rfl)
theorem dX5_statement_207 : decode cX5_statement 207 = .ok (.ifCond .eq 21, 3) := dk_153 0 21 (dk_at dksX5_statement_8 18 rfl rfl)
theorem dX5_statement_210 : decode cX5_statement 210 = .ok (.aload_n 0, 1) := dk_42 (dk_at dksX5_statement_8 21 rfl rfl)
theorem dX5_statement_211 : decode cX5_statement 211 = .ok (.getfield 18, 3) := dk_180 0 18 (dk_at dksX5_statement_9 0 rfl rfl)
theorem dX5_statement_214 : decode cX5_statement 214 = .ok (.aload_n 0, 1) := dk_42 (dk_at dksX5_statement_9 3 rfl rfl)
theorem dX5_statement_215 : decode cX5_statement 215 = .ok (.iconst 0, 1) := dk_3 (dk_at dksX5_statement_9 4 rfl rfl)
theorem dX5_statement_216 : decode cX5_statement 216 = .ok (.sipush 999, 3) := dk_17 3 231 (dk_at dksX5_statement_9 5 rfl rfl)
theorem dX5_statement_219 : decode cX5_statement 219 = .ok (.invokevirtual 208, 3) := dk_182 0 208 (dk_at dksX5_statement_9 8 rfl rfl)
theorem dX5_statement_222 : decode cX5_statement 222 = .ok (.putfield 328, 3) := dk_181 1 72 (dk_at dksX5_statement_9 11 rfl rfl)
theorem dX5_statement_225 : decode cX5_statement 225 = .ok (.goto 52, 3) := dk_167 0 52 (dk_at dksX5_statement_9 14 rfl rfl)
theorem dX5_statement_228 : decode cX5_statement 228 = .ok (.aload_n 0, 1) := dk_42 (dk_at dksX5_statement_9 17 rfl rfl)
theorem dX5_statement_229 : decode cX5_statement 229 = .ok (.ldc_w 330, 3) := dk_19 1 74 (dk_at dksX5_statement_9 18 rfl rfl)
theorem dX5_statement_232 : decode cX5_statement 232 = .ok (.invokevirtual 106, 3) := dk_182 0 106 (dk_at dksX5_statement_9 21 rfl rfl)
theorem dX5_statement_235 : decode cX5_statement 235 = .ok (.ifCond .eq 21, 3) := dk_153 0 21 (dk_at dksX5_statement_10 0 rfl rfl)
theorem dX5_statement_238 : decode cX5_statement 238 = .ok (.aload_n 0, 1) := dk_42 (dk_at dksX5_statement_10 3 rfl rfl)
theorem dX5_statement_239 : decode cX5_statement 239 = .ok (.getfield 18, 3) := dk_180 0 18 (dk_at dksX5_statement_10 4 rfl rfl)
theorem dX5_statement_242 : decode cX5_statement 242 = .ok (.aload_n 0, 1) := dk_42 (dk_at dksX5_statement_10 7 rfl rfl)
theorem dX5_statement_243 : decode cX5_statement 243 = .ok (.iconst 0, 1) := dk_3 (dk_at dksX5_statement_10 8 rfl rfl)
theorem dX5_statement_244 : decode cX5_statement 244 = .ok (.sipush 999, 3) := dk_17 3 231 (dk_at dksX5_statement_10 9 rfl rfl)
theorem dX5_statement_247 : decode cX5_statement 247 = .ok (.invokevirtual 208, 3) := dk_182 0 208 (dk_at dksX5_statement_10 12 rfl rfl)
theorem dX5_statement_250 : decode cX5_statement 250 = .ok (.putfield 332, 3) := dk_181 1 76 (dk_at dksX5_statement_10 15 rfl rfl)
theorem dX5_statement_253 : decode cX5_statement 253 = .ok (.goto 24, 3) := dk_167 0 24 (dk_at dksX5_statement_10 18 rfl rfl)
theorem dX5_statement_256 : decode cX5_statement 256 = .ok (.aload_n 0, 1) := dk_42 (dk_at dksX5_statement_10 21 rfl rfl)
theorem dX5_statement_257 : decode cX5_statement 257 = .ok (.ldc_w 334, 3) := dk_19 1 78 (dk_at dksX5_statement_11 0 rfl rfl)
theorem dX5_statement_260 : decode cX5_statement 260 = .ok (.invokevirtual 244, 3) := dk_182 0 244 (dk_at dksX5_statement_11 3 rfl rfl)
theorem dX5_statement_263 : decode cX5_statement 263 = .ok (.aload_n 0, 1) := dk_42 (dk_at dksX5_statement_11 6 rfl rfl)
theorem dX5_statement_264 : decode cX5_statement 264 = .ok (.getfield 18, 3) := dk_180 0 18 (dk_at dksX5_statement_11 7 rfl rfl)
theorem dX5_statement_267 : decode cX5_statement 267 = .ok (.aload_n 0, 1) := dk_42 (dk_at dksX5_statement_11 10 rfl rfl)
theorem dX5_statement_268 : decode cX5_statement 268 = .ok (.iconst 0, 1) := dk_3 (dk_at dksX5_statement_11 11 rfl rfl)
theorem dX5_statement_269 : decode cX5_statement 269 = .ok (.bipush 100, 2) := dk_16 100 (dk_at dksX5_statement_11 12 rfl rfl)
theorem dX5_statement_271 : decode cX5_statement 271 = .ok (.invokevirtual 208, 3) := dk_182 0 208 (dk_at dksX5_statement_11 14 rfl rfl)
theorem dX5_statement_274 : decode cX5_statement 274 = .ok (.putfield 336, 3) := dk_181 1 80 (dk_at dksX5_statement_11 17 rfl rfl)
theorem dX5_statement_277 : decode cX5_statement 277 = .ok (.aload_n 0, 1) := dk_42 (dk_at dksX5_statement_11 20 rfl rfl)
theorem dX5_statement_278 : decode cX5_statement 278 = .ok (.bipush 59, 2) := dk_16 59 (dk_at dksX5_statement_11 21 rfl rfl)
theorem dX5_statement_280 : decode cX5_statement 280 = .ok (.invokevirtual 122, 3) := dk_182 0 122 (dk_at dksX5_statement_12 0 rfl rfl)
theorem dX5_statement_283 : decode cX5_statement 283 = .ok (.aload_n 0, 1) := dk_42 (dk_at dksX5_statement_12 3 rfl rfl)
theorem dX5_statement_284 : decode cX5_statement 284 = .ok (.getfield 18, 3) := dk_180 0 18 (dk_at dksX5_statement_12 4 rfl rfl)
theorem dX5_statement_287 : decode cX5_statement 287 = .ok (.dup, 1) := dk_89 (dk_at dksX5_statement_12 7 rfl rfl)
theorem dX5_statement_288 : decode cX5_statement 288 = .ok (.getfield 291, 3) := dk_180 1 35 (dk_at dksX5_statement_12 8 rfl rfl)
theorem dX5_statement_291 : decode cX5_statement 291 = .ok (.iconst 1, 1) := dk_4 (dk_at dksX5_statement_12 11 rfl rfl)
theorem dX5_statement_292 : decode cX5_statement 292 = .ok (.iadd, 1) := dk_96 (dk_at dksX5_statement_12 12 rfl rfl)
theorem dX5_statement_293 : decode cX5_statement 293 = .ok (.putfield 291, 3) := dk_181 1 35 (dk_at dksX5_statement_12 13 rfl rfl)
theorem dX5_statement_296 : decode cX5_statement 296 = .ok (.return_, 1) := dk_177 (dk_at dksX5_statement_12 16 rfl rfl)
abbrev cX5_space : ByteArray := prog_19_method_29_code
def yX5_space : MethodName := ⟨RX5, "space", "(III)V"⟩
def dkwX5_space_0 : List UInt8 := [27, 28, 160, 0, 14, 187, 0, 57, 89, 16, 6, 29, 183, 0, 59, 191, 177]
abbrev dktX5_space_0 : List UInt8 := dkwX5_space_0 ++ []
theorem dksX5_space_0 : cX5_space.data.toList.drop 0 = dktX5_space_0 := by decide +kernel
theorem dX5_space_0 : decode cX5_space 0 = .ok (.iload_n 1, 1) := dk_27 (dk_at dksX5_space_0 0 rfl rfl)
theorem dX5_space_1 : decode cX5_space 1 = .ok (.iload_n 2, 1) := dk_28 (dk_at dksX5_space_0 1 rfl rfl)
theorem dX5_space_2 : decode cX5_space 2 = .ok (.if_icmp .ne 14, 3) := dk_160 0 14 (dk_at dksX5_space_0 2 rfl rfl)
theorem dX5_space_5 : decode cX5_space 5 = .ok (.new 57, 3) := dk_187 0 57 (dk_at dksX5_space_0 5 rfl rfl)
theorem dX5_space_8 : decode cX5_space 8 = .ok (.dup, 1) := dk_89 (dk_at dksX5_space_0 8 rfl rfl)
theorem dX5_space_9 : decode cX5_space 9 = .ok (.bipush 6, 2) := dk_16 6 (dk_at dksX5_space_0 9 rfl rfl)
theorem dX5_space_11 : decode cX5_space 11 = .ok (.iload_n 3, 1) := dk_29 (dk_at dksX5_space_0 11 rfl rfl)
theorem dX5_space_12 : decode cX5_space 12 = .ok (.invokespecial 59, 3) := dk_183 0 59 (dk_at dksX5_space_0 12 rfl rfl)
theorem dX5_space_15 : decode cX5_space 15 = .ok (.athrow, 1) := dk_191 (dk_at dksX5_space_0 15 rfl rfl)
theorem dX5_space_16 : decode cX5_space 16 = .ok (.return_, 1) := dk_177 (dk_at dksX5_space_0 16 rfl rfl)
abbrev cX5_takes : ByteArray := prog_19_method_9_code
def yX5_takes : MethodName := ⟨RX5, "takes", "(Ljava/lang/String;)Z"⟩
def dkwX5_takes_0 : List UInt8 := [42, 43, 182, 0, 96, 154, 0, 5, 3, 172, 42, 3, 181, 0, 29, 4, 172]
abbrev dktX5_takes_0 : List UInt8 := dkwX5_takes_0 ++ []
theorem dksX5_takes_0 : cX5_takes.data.toList.drop 0 = dktX5_takes_0 := by decide +kernel
theorem dX5_takes_0 : decode cX5_takes 0 = .ok (.aload_n 0, 1) := dk_42 (dk_at dksX5_takes_0 0 rfl rfl)
theorem dX5_takes_1 : decode cX5_takes 1 = .ok (.aload_n 1, 1) := dk_43 (dk_at dksX5_takes_0 1 rfl rfl)
theorem dX5_takes_2 : decode cX5_takes 2 = .ok (.invokevirtual 96, 3) := dk_182 0 96 (dk_at dksX5_takes_0 2 rfl rfl)
theorem dX5_takes_5 : decode cX5_takes 5 = .ok (.ifCond .ne 5, 3) := dk_154 0 5 (dk_at dksX5_takes_0 5 rfl rfl)
theorem dX5_takes_8 : decode cX5_takes 8 = .ok (.iconst 0, 1) := dk_3 (dk_at dksX5_takes_0 8 rfl rfl)
theorem dX5_takes_9 : decode cX5_takes 9 = .ok (.ireturn, 1) := dk_172 (dk_at dksX5_takes_0 9 rfl rfl)
theorem dX5_takes_10 : decode cX5_takes 10 = .ok (.aload_n 0, 1) := dk_42 (dk_at dksX5_takes_0 10 rfl rfl)
theorem dX5_takes_11 : decode cX5_takes 11 = .ok (.iconst 0, 1) := dk_3 (dk_at dksX5_takes_0 11 rfl rfl)
theorem dX5_takes_12 : decode cX5_takes 12 = .ok (.putfield 29, 3) := dk_181 0 29 (dk_at dksX5_takes_0 12 rfl rfl)
theorem dX5_takes_15 : decode cX5_takes 15 = .ok (.iconst 1, 1) := dk_4 (dk_at dksX5_takes_0 15 rfl rfl)
theorem dX5_takes_16 : decode cX5_takes 16 = .ok (.ireturn, 1) := dk_172 (dk_at dksX5_takes_0 16 rfl rfl)
abbrev cX5_isWord : ByteArray := prog_19_method_7_code
def yX5_isWord : MethodName := ⟨RX5, "isWord", "(Ljava/lang/String;)Z"⟩
def dkwX5_isWord_1 : List UInt8 := [172]
abbrev dktX5_isWord_1 : List UInt8 := dkwX5_isWord_1 ++ []
def dkwX5_isWord_0 : List UInt8 := [42, 182, 0, 86, 4, 160, 0, 18, 42, 180, 0, 67, 43, 182, 0, 89, 153, 0, 7, 4, 167, 0, 4, 3]
abbrev dktX5_isWord_0 : List UInt8 := dkwX5_isWord_0 ++ dktX5_isWord_1
theorem dksX5_isWord_0 : cX5_isWord.data.toList.drop 0 = dktX5_isWord_0 := by decide +kernel
theorem dksX5_isWord_1 : cX5_isWord.data.toList.drop 24 = dktX5_isWord_1 := dk_seg dksX5_isWord_0 24 rfl rfl
theorem dX5_isWord_0 : decode cX5_isWord 0 = .ok (.aload_n 0, 1) := dk_42 (dk_at dksX5_isWord_0 0 rfl rfl)
theorem dX5_isWord_1 : decode cX5_isWord 1 = .ok (.invokevirtual 86, 3) := dk_182 0 86 (dk_at dksX5_isWord_0 1 rfl rfl)
theorem dX5_isWord_4 : decode cX5_isWord 4 = .ok (.iconst 1, 1) := dk_4 (dk_at dksX5_isWord_0 4 rfl rfl)
theorem dX5_isWord_5 : decode cX5_isWord 5 = .ok (.if_icmp .ne 18, 3) := dk_160 0 18 (dk_at dksX5_isWord_0 5 rfl rfl)
theorem dX5_isWord_8 : decode cX5_isWord 8 = .ok (.aload_n 0, 1) := dk_42 (dk_at dksX5_isWord_0 8 rfl rfl)
theorem dX5_isWord_9 : decode cX5_isWord 9 = .ok (.getfield 67, 3) := dk_180 0 67 (dk_at dksX5_isWord_0 9 rfl rfl)
theorem dX5_isWord_12 : decode cX5_isWord 12 = .ok (.aload_n 1, 1) := dk_43 (dk_at dksX5_isWord_0 12 rfl rfl)
theorem dX5_isWord_13 : decode cX5_isWord 13 = .ok (.invokevirtual 89, 3) := dk_182 0 89 (dk_at dksX5_isWord_0 13 rfl rfl)
theorem dX5_isWord_16 : decode cX5_isWord 16 = .ok (.ifCond .eq 7, 3) := dk_153 0 7 (dk_at dksX5_isWord_0 16 rfl rfl)
theorem dX5_isWord_19 : decode cX5_isWord 19 = .ok (.iconst 1, 1) := dk_4 (dk_at dksX5_isWord_0 19 rfl rfl)
theorem dX5_isWord_20 : decode cX5_isWord 20 = .ok (.goto 4, 3) := dk_167 0 4 (dk_at dksX5_isWord_0 20 rfl rfl)
theorem dX5_isWord_23 : decode cX5_isWord 23 = .ok (.iconst 0, 1) := dk_3 (dk_at dksX5_isWord_0 23 rfl rfl)
theorem dX5_isWord_24 : decode cX5_isWord 24 = .ok (.ireturn, 1) := dk_172 (dk_at dksX5_isWord_1 0 rfl rfl)
abbrev cX5_child : ByteArray := prog_19_method_30_code
def yX5_child : MethodName := ⟨RX5, "child", "(I)V"⟩
def dkwX5_child_3 : List UInt8 := [182, 0, 208, 181, 1, 19, 42, 180, 0, 18, 180, 0, 252, 44, 182, 0, 141, 87, 177]
abbrev dktX5_child_3 : List UInt8 := dkwX5_child_3 ++ []
def dkwX5_child_2 : List UInt8 := [44, 42, 3, 16, 99, 182, 0, 208, 181, 1, 15, 42, 19, 1, 17, 182, 0, 244, 44, 42, 3, 16, 9]
abbrev dktX5_child_2 : List UInt8 := dkwX5_child_2 ++ dktX5_child_3
def dkwX5_child_1 : List UInt8 := [182, 1, 7, 42, 180, 0, 18, 180, 0, 252, 182, 0, 255, 183, 1, 10, 77, 42, 19, 1, 13, 182, 0, 244]
abbrev dktX5_child_1 : List UInt8 := dkwX5_child_1 ++ dktX5_child_2
def dkwX5_child_0 : List UInt8 := [42, 42, 180, 0, 18, 180, 0, 252, 182, 0, 255, 16, 8, 27, 182, 1, 1, 187, 1, 5, 89, 42]
abbrev dktX5_child_0 : List UInt8 := dkwX5_child_0 ++ dktX5_child_1
theorem dksX5_child_0 : cX5_child.data.toList.drop 0 = dktX5_child_0 := by decide +kernel
theorem dksX5_child_1 : cX5_child.data.toList.drop 22 = dktX5_child_1 := dk_seg dksX5_child_0 22 rfl rfl
theorem dksX5_child_2 : cX5_child.data.toList.drop 46 = dktX5_child_2 := dk_seg dksX5_child_1 24 rfl rfl
theorem dksX5_child_3 : cX5_child.data.toList.drop 69 = dktX5_child_3 := dk_seg dksX5_child_2 23 rfl rfl
theorem dX5_child_0 : decode cX5_child 0 = .ok (.aload_n 0, 1) := dk_42 (dk_at dksX5_child_0 0 rfl rfl)
theorem dX5_child_1 : decode cX5_child 1 = .ok (.aload_n 0, 1) := dk_42 (dk_at dksX5_child_0 1 rfl rfl)
theorem dX5_child_2 : decode cX5_child 2 = .ok (.getfield 18, 3) := dk_180 0 18 (dk_at dksX5_child_0 2 rfl rfl)
theorem dX5_child_5 : decode cX5_child 5 = .ok (.getfield 252, 3) := dk_180 0 252 (dk_at dksX5_child_0 5 rfl rfl)
theorem dX5_child_8 : decode cX5_child 8 = .ok (.invokevirtual 255, 3) := dk_182 0 255 (dk_at dksX5_child_0 8 rfl rfl)
theorem dX5_child_11 : decode cX5_child 11 = .ok (.bipush 8, 2) := dk_16 8 (dk_at dksX5_child_0 11 rfl rfl)
theorem dX5_child_13 : decode cX5_child 13 = .ok (.iload_n 1, 1) := dk_27 (dk_at dksX5_child_0 13 rfl rfl)
theorem dX5_child_14 : decode cX5_child 14 = .ok (.invokevirtual 257, 3) := dk_182 1 1 (dk_at dksX5_child_0 14 rfl rfl)
theorem dX5_child_17 : decode cX5_child 17 = .ok (.new 261, 3) := dk_187 1 5 (dk_at dksX5_child_0 17 rfl rfl)
theorem dX5_child_20 : decode cX5_child 20 = .ok (.dup, 1) := dk_89 (dk_at dksX5_child_0 20 rfl rfl)
theorem dX5_child_21 : decode cX5_child 21 = .ok (.aload_n 0, 1) := dk_42 (dk_at dksX5_child_0 21 rfl rfl)
theorem dX5_child_22 : decode cX5_child 22 = .ok (.invokevirtual 263, 3) := dk_182 1 7 (dk_at dksX5_child_1 0 rfl rfl)
theorem dX5_child_25 : decode cX5_child 25 = .ok (.aload_n 0, 1) := dk_42 (dk_at dksX5_child_1 3 rfl rfl)
theorem dX5_child_26 : decode cX5_child 26 = .ok (.getfield 18, 3) := dk_180 0 18 (dk_at dksX5_child_1 4 rfl rfl)
theorem dX5_child_29 : decode cX5_child 29 = .ok (.getfield 252, 3) := dk_180 0 252 (dk_at dksX5_child_1 7 rfl rfl)
theorem dX5_child_32 : decode cX5_child 32 = .ok (.invokevirtual 255, 3) := dk_182 0 255 (dk_at dksX5_child_1 10 rfl rfl)
theorem dX5_child_35 : decode cX5_child 35 = .ok (.invokespecial 266, 3) := dk_183 1 10 (dk_at dksX5_child_1 13 rfl rfl)
theorem dX5_child_38 : decode cX5_child 38 = .ok (.astore_n 2, 1) := dk_77 (dk_at dksX5_child_1 16 rfl rfl)
theorem dX5_child_39 : decode cX5_child 39 = .ok (.aload_n 0, 1) := dk_42 (dk_at dksX5_child_1 17 rfl rfl)
theorem dX5_child_40 : decode cX5_child 40 = .ok (.ldc_w 269, 3) := dk_19 1 13 (dk_at dksX5_child_1 18 rfl rfl)
theorem dX5_child_43 : decode cX5_child 43 = .ok (.invokevirtual 244, 3) := dk_182 0 244 (dk_at dksX5_child_1 21 rfl rfl)
theorem dX5_child_46 : decode cX5_child 46 = .ok (.aload_n 2, 1) := dk_44 (dk_at dksX5_child_2 0 rfl rfl)
theorem dX5_child_47 : decode cX5_child 47 = .ok (.aload_n 0, 1) := dk_42 (dk_at dksX5_child_2 1 rfl rfl)
theorem dX5_child_48 : decode cX5_child 48 = .ok (.iconst 0, 1) := dk_3 (dk_at dksX5_child_2 2 rfl rfl)
theorem dX5_child_49 : decode cX5_child 49 = .ok (.bipush 99, 2) := dk_16 99 (dk_at dksX5_child_2 3 rfl rfl)
theorem dX5_child_51 : decode cX5_child 51 = .ok (.invokevirtual 208, 3) := dk_182 0 208 (dk_at dksX5_child_2 5 rfl rfl)
theorem dX5_child_54 : decode cX5_child 54 = .ok (.putfield 271, 3) := dk_181 1 15 (dk_at dksX5_child_2 8 rfl rfl)
theorem dX5_child_57 : decode cX5_child 57 = .ok (.aload_n 0, 1) := dk_42 (dk_at dksX5_child_2 11 rfl rfl)
theorem dX5_child_58 : decode cX5_child 58 = .ok (.ldc_w 273, 3) := dk_19 1 17 (dk_at dksX5_child_2 12 rfl rfl)
theorem dX5_child_61 : decode cX5_child 61 = .ok (.invokevirtual 244, 3) := dk_182 0 244 (dk_at dksX5_child_2 15 rfl rfl)
theorem dX5_child_64 : decode cX5_child 64 = .ok (.aload_n 2, 1) := dk_44 (dk_at dksX5_child_2 18 rfl rfl)
theorem dX5_child_65 : decode cX5_child 65 = .ok (.aload_n 0, 1) := dk_42 (dk_at dksX5_child_2 19 rfl rfl)
theorem dX5_child_66 : decode cX5_child 66 = .ok (.iconst 0, 1) := dk_3 (dk_at dksX5_child_2 20 rfl rfl)
theorem dX5_child_67 : decode cX5_child 67 = .ok (.bipush 9, 2) := dk_16 9 (dk_at dksX5_child_2 21 rfl rfl)
theorem dX5_child_69 : decode cX5_child 69 = .ok (.invokevirtual 208, 3) := dk_182 0 208 (dk_at dksX5_child_3 0 rfl rfl)
theorem dX5_child_72 : decode cX5_child 72 = .ok (.putfield 275, 3) := dk_181 1 19 (dk_at dksX5_child_3 3 rfl rfl)
theorem dX5_child_75 : decode cX5_child 75 = .ok (.aload_n 0, 1) := dk_42 (dk_at dksX5_child_3 6 rfl rfl)
theorem dX5_child_76 : decode cX5_child 76 = .ok (.getfield 18, 3) := dk_180 0 18 (dk_at dksX5_child_3 7 rfl rfl)
theorem dX5_child_79 : decode cX5_child 79 = .ok (.getfield 252, 3) := dk_180 0 252 (dk_at dksX5_child_3 10 rfl rfl)
theorem dX5_child_82 : decode cX5_child 82 = .ok (.aload_n 2, 1) := dk_44 (dk_at dksX5_child_3 13 rfl rfl)
theorem dX5_child_83 : decode cX5_child 83 = .ok (.invokevirtual 141, 3) := dk_182 0 141 (dk_at dksX5_child_3 14 rfl rfl)
theorem dX5_child_86 : decode cX5_child 86 = .ok (.pop, 1) := dk_87 (dk_at dksX5_child_3 17 rfl rfl)
theorem dX5_child_87 : decode cX5_child 87 = .ok (.return_, 1) := dk_177 (dk_at dksX5_child_3 18 rfl rfl)
abbrev cX5_newName : ByteArray := prog_19_method_14_code
def yX5_newName : MethodName := ⟨RX5, "newName", "()Ljava/lang/String;"⟩
def dkwX5_newName_1 : List UInt8 := [180, 0, 43, 183, 0, 59, 191, 42, 3, 181, 0, 29, 43, 176]
abbrev dktX5_newName_1 : List UInt8 := dkwX5_newName_1 ++ []
def dkwX5_newName_0 : List UInt8 := [42, 182, 0, 112, 76, 42, 180, 0, 18, 43, 182, 0, 116, 153, 0, 16, 187, 0, 57, 89, 5, 42]
abbrev dktX5_newName_0 : List UInt8 := dkwX5_newName_0 ++ dktX5_newName_1
theorem dksX5_newName_0 : cX5_newName.data.toList.drop 0 = dktX5_newName_0 := by decide +kernel
theorem dksX5_newName_1 : cX5_newName.data.toList.drop 22 = dktX5_newName_1 := dk_seg dksX5_newName_0 22 rfl rfl
theorem dX5_newName_0 : decode cX5_newName 0 = .ok (.aload_n 0, 1) := dk_42 (dk_at dksX5_newName_0 0 rfl rfl)
theorem dX5_newName_1 : decode cX5_newName 1 = .ok (.invokevirtual 112, 3) := dk_182 0 112 (dk_at dksX5_newName_0 1 rfl rfl)
theorem dX5_newName_4 : decode cX5_newName 4 = .ok (.astore_n 1, 1) := dk_76 (dk_at dksX5_newName_0 4 rfl rfl)
theorem dX5_newName_5 : decode cX5_newName 5 = .ok (.aload_n 0, 1) := dk_42 (dk_at dksX5_newName_0 5 rfl rfl)
theorem dX5_newName_6 : decode cX5_newName 6 = .ok (.getfield 18, 3) := dk_180 0 18 (dk_at dksX5_newName_0 6 rfl rfl)
theorem dX5_newName_9 : decode cX5_newName 9 = .ok (.aload_n 1, 1) := dk_43 (dk_at dksX5_newName_0 9 rfl rfl)
theorem dX5_newName_10 : decode cX5_newName 10 = .ok (.invokevirtual 116, 3) := dk_182 0 116 (dk_at dksX5_newName_0 10 rfl rfl)
theorem dX5_newName_13 : decode cX5_newName 13 = .ok (.ifCond .eq 16, 3) := dk_153 0 16 (dk_at dksX5_newName_0 13 rfl rfl)
theorem dX5_newName_16 : decode cX5_newName 16 = .ok (.new 57, 3) := dk_187 0 57 (dk_at dksX5_newName_0 16 rfl rfl)
theorem dX5_newName_19 : decode cX5_newName 19 = .ok (.dup, 1) := dk_89 (dk_at dksX5_newName_0 19 rfl rfl)
theorem dX5_newName_20 : decode cX5_newName 20 = .ok (.iconst 2, 1) := dk_5 (dk_at dksX5_newName_0 20 rfl rfl)
theorem dX5_newName_21 : decode cX5_newName 21 = .ok (.aload_n 0, 1) := dk_42 (dk_at dksX5_newName_0 21 rfl rfl)
theorem dX5_newName_22 : decode cX5_newName 22 = .ok (.getfield 43, 3) := dk_180 0 43 (dk_at dksX5_newName_1 0 rfl rfl)
theorem dX5_newName_25 : decode cX5_newName 25 = .ok (.invokespecial 59, 3) := dk_183 0 59 (dk_at dksX5_newName_1 3 rfl rfl)
theorem dX5_newName_28 : decode cX5_newName 28 = .ok (.athrow, 1) := dk_191 (dk_at dksX5_newName_1 6 rfl rfl)
theorem dX5_newName_29 : decode cX5_newName 29 = .ok (.aload_n 0, 1) := dk_42 (dk_at dksX5_newName_1 7 rfl rfl)
theorem dX5_newName_30 : decode cX5_newName 30 = .ok (.iconst 0, 1) := dk_3 (dk_at dksX5_newName_1 8 rfl rfl)
theorem dX5_newName_31 : decode cX5_newName 31 = .ok (.putfield 29, 3) := dk_181 0 29 (dk_at dksX5_newName_1 9 rfl rfl)
theorem dX5_newName_34 : decode cX5_newName 34 = .ok (.aload_n 1, 1) := dk_43 (dk_at dksX5_newName_1 12 rfl rfl)
theorem dX5_newName_35 : decode cX5_newName 35 = .ok (.areturn, 1) := dk_176 (dk_at dksX5_newName_1 13 rfl rfl)
abbrev cX5_name : ByteArray := prog_19_method_13_code
def yX5_name : MethodName := ⟨RX5, "name", "()Ljava/lang/String;"⟩
def dkwX5_name_1 : List UInt8 := [180, 0, 67, 176]
abbrev dktX5_name_1 : List UInt8 := dkwX5_name_1 ++ []
def dkwX5_name_0 : List UInt8 := [42, 182, 0, 86, 4, 160, 0, 13, 42, 180, 0, 67, 184, 0, 75, 153, 0, 8, 42, 182, 0, 102, 191, 42]
abbrev dktX5_name_0 : List UInt8 := dkwX5_name_0 ++ dktX5_name_1
theorem dksX5_name_0 : cX5_name.data.toList.drop 0 = dktX5_name_0 := by decide +kernel
theorem dksX5_name_1 : cX5_name.data.toList.drop 24 = dktX5_name_1 := dk_seg dksX5_name_0 24 rfl rfl
theorem dX5_name_0 : decode cX5_name 0 = .ok (.aload_n 0, 1) := dk_42 (dk_at dksX5_name_0 0 rfl rfl)
theorem dX5_name_1 : decode cX5_name 1 = .ok (.invokevirtual 86, 3) := dk_182 0 86 (dk_at dksX5_name_0 1 rfl rfl)
theorem dX5_name_4 : decode cX5_name 4 = .ok (.iconst 1, 1) := dk_4 (dk_at dksX5_name_0 4 rfl rfl)
theorem dX5_name_5 : decode cX5_name 5 = .ok (.if_icmp .ne 13, 3) := dk_160 0 13 (dk_at dksX5_name_0 5 rfl rfl)
theorem dX5_name_8 : decode cX5_name 8 = .ok (.aload_n 0, 1) := dk_42 (dk_at dksX5_name_0 8 rfl rfl)
theorem dX5_name_9 : decode cX5_name 9 = .ok (.getfield 67, 3) := dk_180 0 67 (dk_at dksX5_name_0 9 rfl rfl)
theorem dX5_name_12 : decode cX5_name 12 = .ok (.invokestatic 75, 3) := dk_184 0 75 (dk_at dksX5_name_0 12 rfl rfl)
theorem dX5_name_15 : decode cX5_name 15 = .ok (.ifCond .eq 8, 3) := dk_153 0 8 (dk_at dksX5_name_0 15 rfl rfl)
theorem dX5_name_18 : decode cX5_name 18 = .ok (.aload_n 0, 1) := dk_42 (dk_at dksX5_name_0 18 rfl rfl)
theorem dX5_name_19 : decode cX5_name 19 = .ok (.invokevirtual 102, 3) := dk_182 0 102 (dk_at dksX5_name_0 19 rfl rfl)
theorem dX5_name_22 : decode cX5_name 22 = .ok (.athrow, 1) := dk_191 (dk_at dksX5_name_0 22 rfl rfl)
theorem dX5_name_23 : decode cX5_name 23 = .ok (.aload_n 0, 1) := dk_42 (dk_at dksX5_name_0 23 rfl rfl)
theorem dX5_name_24 : decode cX5_name 24 = .ok (.getfield 67, 3) := dk_180 0 67 (dk_at dksX5_name_1 0 rfl rfl)
theorem dX5_name_27 : decode cX5_name 27 = .ok (.areturn, 1) := dk_176 (dk_at dksX5_name_1 3 rfl rfl)
abbrev cX5_wrong : ByteArray := prog_19_method_5_code
def yX5_wrong : MethodName := ⟨RX5, "wrong", "()LKilnBench$Fault;"⟩
def dkwX5_wrong_0 : List UInt8 := [187, 0, 57, 89, 4, 42, 180, 0, 43, 183, 0, 59, 176]
abbrev dktX5_wrong_0 : List UInt8 := dkwX5_wrong_0 ++ []
theorem dksX5_wrong_0 : cX5_wrong.data.toList.drop 0 = dktX5_wrong_0 := by decide +kernel
theorem dX5_wrong_0 : decode cX5_wrong 0 = .ok (.new 57, 3) := dk_187 0 57 (dk_at dksX5_wrong_0 0 rfl rfl)
theorem dX5_wrong_3 : decode cX5_wrong 3 = .ok (.dup, 1) := dk_89 (dk_at dksX5_wrong_0 3 rfl rfl)
theorem dX5_wrong_4 : decode cX5_wrong 4 = .ok (.iconst 1, 1) := dk_4 (dk_at dksX5_wrong_0 4 rfl rfl)
theorem dX5_wrong_5 : decode cX5_wrong 5 = .ok (.aload_n 0, 1) := dk_42 (dk_at dksX5_wrong_0 5 rfl rfl)
theorem dX5_wrong_6 : decode cX5_wrong 6 = .ok (.getfield 43, 3) := dk_180 0 43 (dk_at dksX5_wrong_0 6 rfl rfl)
theorem dX5_wrong_9 : decode cX5_wrong 9 = .ok (.invokespecial 59, 3) := dk_183 0 59 (dk_at dksX5_wrong_0 9 rfl rfl)
theorem dX5_wrong_12 : decode cX5_wrong 12 = .ok (.areturn, 1) := dk_176 (dk_at dksX5_wrong_0 12 rfl rfl)
abbrev cX5_asks : ByteArray := prog_19_method_11_code
def yX5_asks : MethodName := ⟨RX5, "asks", "(Ljava/lang/String;)V"⟩
def dkwX5_asks_0 : List UInt8 := [42, 43, 182, 0, 106, 154, 0, 8, 42, 182, 0, 102, 191, 177]
abbrev dktX5_asks_0 : List UInt8 := dkwX5_asks_0 ++ []
theorem dksX5_asks_0 : cX5_asks.data.toList.drop 0 = dktX5_asks_0 := by decide +kernel
theorem dX5_asks_0 : decode cX5_asks 0 = .ok (.aload_n 0, 1) := dk_42 (dk_at dksX5_asks_0 0 rfl rfl)
theorem dX5_asks_1 : decode cX5_asks 1 = .ok (.aload_n 1, 1) := dk_43 (dk_at dksX5_asks_0 1 rfl rfl)
theorem dX5_asks_2 : decode cX5_asks 2 = .ok (.invokevirtual 106, 3) := dk_182 0 106 (dk_at dksX5_asks_0 2 rfl rfl)
theorem dX5_asks_5 : decode cX5_asks 5 = .ok (.ifCond .ne 8, 3) := dk_154 0 8 (dk_at dksX5_asks_0 5 rfl rfl)
theorem dX5_asks_8 : decode cX5_asks 8 = .ok (.aload_n 0, 1) := dk_42 (dk_at dksX5_asks_0 8 rfl rfl)
theorem dX5_asks_9 : decode cX5_asks 9 = .ok (.invokevirtual 102, 3) := dk_182 0 102 (dk_at dksX5_asks_0 9 rfl rfl)
theorem dX5_asks_12 : decode cX5_asks 12 = .ok (.athrow, 1) := dk_191 (dk_at dksX5_asks_0 12 rfl rfl)
theorem dX5_asks_13 : decode cX5_asks 13 = .ok (.return_, 1) := dk_177 (dk_at dksX5_asks_0 13 rfl rfl)
abbrev cX5_number : ByteArray := prog_19_method_12_code
def yX5_number : MethodName := ⟨RX5, "number", "(II)I"⟩
def dkwX5_number_2 : List UInt8 := [42, 180, 0, 83, 172]
abbrev dktX5_number_2 : List UInt8 := dkwX5_number_2 ++ []
def dkwX5_number_1 : List UInt8 := [184, 0, 108, 154, 0, 16, 187, 0, 57, 89, 7, 42, 180, 0, 43, 183, 0, 59, 191, 42, 3, 181, 0, 29]
abbrev dktX5_number_1 : List UInt8 := dkwX5_number_1 ++ dktX5_number_2
def dkwX5_number_0 : List UInt8 := [42, 182, 0, 86, 5, 159, 0, 8, 42, 182, 0, 102, 191, 42, 180, 0, 83, 133, 27, 133, 28, 133]
abbrev dktX5_number_0 : List UInt8 := dkwX5_number_0 ++ dktX5_number_1
theorem dksX5_number_0 : cX5_number.data.toList.drop 0 = dktX5_number_0 := by decide +kernel
theorem dksX5_number_1 : cX5_number.data.toList.drop 22 = dktX5_number_1 := dk_seg dksX5_number_0 22 rfl rfl
theorem dksX5_number_2 : cX5_number.data.toList.drop 46 = dktX5_number_2 := dk_seg dksX5_number_1 24 rfl rfl
theorem dX5_number_0 : decode cX5_number 0 = .ok (.aload_n 0, 1) := dk_42 (dk_at dksX5_number_0 0 rfl rfl)
theorem dX5_number_1 : decode cX5_number 1 = .ok (.invokevirtual 86, 3) := dk_182 0 86 (dk_at dksX5_number_0 1 rfl rfl)
theorem dX5_number_4 : decode cX5_number 4 = .ok (.iconst 2, 1) := dk_5 (dk_at dksX5_number_0 4 rfl rfl)
theorem dX5_number_5 : decode cX5_number 5 = .ok (.if_icmp .eq 8, 3) := dk_159 0 8 (dk_at dksX5_number_0 5 rfl rfl)
theorem dX5_number_8 : decode cX5_number 8 = .ok (.aload_n 0, 1) := dk_42 (dk_at dksX5_number_0 8 rfl rfl)
theorem dX5_number_9 : decode cX5_number 9 = .ok (.invokevirtual 102, 3) := dk_182 0 102 (dk_at dksX5_number_0 9 rfl rfl)
theorem dX5_number_12 : decode cX5_number 12 = .ok (.athrow, 1) := dk_191 (dk_at dksX5_number_0 12 rfl rfl)
theorem dX5_number_13 : decode cX5_number 13 = .ok (.aload_n 0, 1) := dk_42 (dk_at dksX5_number_0 13 rfl rfl)
theorem dX5_number_14 : decode cX5_number 14 = .ok (.getfield 83, 3) := dk_180 0 83 (dk_at dksX5_number_0 14 rfl rfl)
theorem dX5_number_17 : decode cX5_number 17 = .ok (.i2l, 1) := dk_133 (dk_at dksX5_number_0 17 rfl rfl)
theorem dX5_number_18 : decode cX5_number 18 = .ok (.iload_n 1, 1) := dk_27 (dk_at dksX5_number_0 18 rfl rfl)
theorem dX5_number_19 : decode cX5_number 19 = .ok (.i2l, 1) := dk_133 (dk_at dksX5_number_0 19 rfl rfl)
theorem dX5_number_20 : decode cX5_number 20 = .ok (.iload_n 2, 1) := dk_28 (dk_at dksX5_number_0 20 rfl rfl)
theorem dX5_number_21 : decode cX5_number 21 = .ok (.i2l, 1) := dk_133 (dk_at dksX5_number_0 21 rfl rfl)
theorem dX5_number_22 : decode cX5_number 22 = .ok (.invokestatic 108, 3) := dk_184 0 108 (dk_at dksX5_number_1 0 rfl rfl)
theorem dX5_number_25 : decode cX5_number 25 = .ok (.ifCond .ne 16, 3) := dk_154 0 16 (dk_at dksX5_number_1 3 rfl rfl)
theorem dX5_number_28 : decode cX5_number 28 = .ok (.new 57, 3) := dk_187 0 57 (dk_at dksX5_number_1 6 rfl rfl)
theorem dX5_number_31 : decode cX5_number 31 = .ok (.dup, 1) := dk_89 (dk_at dksX5_number_1 9 rfl rfl)
theorem dX5_number_32 : decode cX5_number 32 = .ok (.iconst 4, 1) := dk_7 (dk_at dksX5_number_1 10 rfl rfl)
theorem dX5_number_33 : decode cX5_number 33 = .ok (.aload_n 0, 1) := dk_42 (dk_at dksX5_number_1 11 rfl rfl)
theorem dX5_number_34 : decode cX5_number 34 = .ok (.getfield 43, 3) := dk_180 0 43 (dk_at dksX5_number_1 12 rfl rfl)
theorem dX5_number_37 : decode cX5_number 37 = .ok (.invokespecial 59, 3) := dk_183 0 59 (dk_at dksX5_number_1 15 rfl rfl)
theorem dX5_number_40 : decode cX5_number 40 = .ok (.athrow, 1) := dk_191 (dk_at dksX5_number_1 18 rfl rfl)
theorem dX5_number_41 : decode cX5_number 41 = .ok (.aload_n 0, 1) := dk_42 (dk_at dksX5_number_1 19 rfl rfl)
theorem dX5_number_42 : decode cX5_number 42 = .ok (.iconst 0, 1) := dk_3 (dk_at dksX5_number_1 20 rfl rfl)
theorem dX5_number_43 : decode cX5_number 43 = .ok (.putfield 29, 3) := dk_181 0 29 (dk_at dksX5_number_1 21 rfl rfl)
theorem dX5_number_46 : decode cX5_number 46 = .ok (.aload_n 0, 1) := dk_42 (dk_at dksX5_number_2 0 rfl rfl)
theorem dX5_number_47 : decode cX5_number 47 = .ok (.getfield 83, 3) := dk_180 0 83 (dk_at dksX5_number_2 1 rfl rfl)
theorem dX5_number_50 : decode cX5_number 50 = .ok (.ireturn, 1) := dk_172 (dk_at dksX5_number_2 4 rfl rfl)
abbrev cX5_kiln : ByteArray := prog_19_method_31_code
def yX5_kiln : MethodName := ⟨RX5, "kiln", "(I)V"⟩
def dkwX5_kiln_2 : List UInt8 := [16, 6, 182, 0, 208, 181, 1, 29, 42, 180, 0, 18, 180, 1, 21, 44, 182, 0, 141, 87, 177]
abbrev dktX5_kiln_2 : List UInt8 := dkwX5_kiln_2 ++ []
def dkwX5_kiln_1 : List UInt8 := [42, 180, 0, 18, 180, 1, 21, 182, 0, 255, 183, 1, 26, 77, 42, 19, 1, 27, 182, 0, 244, 44, 42, 4]
abbrev dktX5_kiln_1 : List UInt8 := dkwX5_kiln_1 ++ dktX5_kiln_2
def dkwX5_kiln_0 : List UInt8 := [42, 42, 180, 0, 18, 180, 1, 21, 182, 0, 255, 6, 27, 182, 1, 1, 187, 1, 24, 89, 42, 182, 1, 7]
abbrev dktX5_kiln_0 : List UInt8 := dkwX5_kiln_0 ++ dktX5_kiln_1
theorem dksX5_kiln_0 : cX5_kiln.data.toList.drop 0 = dktX5_kiln_0 := by decide +kernel
theorem dksX5_kiln_1 : cX5_kiln.data.toList.drop 24 = dktX5_kiln_1 := dk_seg dksX5_kiln_0 24 rfl rfl
theorem dksX5_kiln_2 : cX5_kiln.data.toList.drop 48 = dktX5_kiln_2 := dk_seg dksX5_kiln_1 24 rfl rfl
theorem dX5_kiln_0 : decode cX5_kiln 0 = .ok (.aload_n 0, 1) := dk_42 (dk_at dksX5_kiln_0 0 rfl rfl)
theorem dX5_kiln_1 : decode cX5_kiln 1 = .ok (.aload_n 0, 1) := dk_42 (dk_at dksX5_kiln_0 1 rfl rfl)
theorem dX5_kiln_2 : decode cX5_kiln 2 = .ok (.getfield 18, 3) := dk_180 0 18 (dk_at dksX5_kiln_0 2 rfl rfl)
theorem dX5_kiln_5 : decode cX5_kiln 5 = .ok (.getfield 277, 3) := dk_180 1 21 (dk_at dksX5_kiln_0 5 rfl rfl)
theorem dX5_kiln_8 : decode cX5_kiln 8 = .ok (.invokevirtual 255, 3) := dk_182 0 255 (dk_at dksX5_kiln_0 8 rfl rfl)
theorem dX5_kiln_11 : decode cX5_kiln 11 = .ok (.iconst 3, 1) := dk_6 (dk_at dksX5_kiln_0 11 rfl rfl)
theorem dX5_kiln_12 : decode cX5_kiln 12 = .ok (.iload_n 1, 1) := dk_27 (dk_at dksX5_kiln_0 12 rfl rfl)
theorem dX5_kiln_13 : decode cX5_kiln 13 = .ok (.invokevirtual 257, 3) := dk_182 1 1 (dk_at dksX5_kiln_0 13 rfl rfl)
theorem dX5_kiln_16 : decode cX5_kiln 16 = .ok (.new 280, 3) := dk_187 1 24 (dk_at dksX5_kiln_0 16 rfl rfl)
theorem dX5_kiln_19 : decode cX5_kiln 19 = .ok (.dup, 1) := dk_89 (dk_at dksX5_kiln_0 19 rfl rfl)
theorem dX5_kiln_20 : decode cX5_kiln 20 = .ok (.aload_n 0, 1) := dk_42 (dk_at dksX5_kiln_0 20 rfl rfl)
theorem dX5_kiln_21 : decode cX5_kiln 21 = .ok (.invokevirtual 263, 3) := dk_182 1 7 (dk_at dksX5_kiln_0 21 rfl rfl)
theorem dX5_kiln_24 : decode cX5_kiln 24 = .ok (.aload_n 0, 1) := dk_42 (dk_at dksX5_kiln_1 0 rfl rfl)
theorem dX5_kiln_25 : decode cX5_kiln 25 = .ok (.getfield 18, 3) := dk_180 0 18 (dk_at dksX5_kiln_1 1 rfl rfl)
theorem dX5_kiln_28 : decode cX5_kiln 28 = .ok (.getfield 277, 3) := dk_180 1 21 (dk_at dksX5_kiln_1 4 rfl rfl)
theorem dX5_kiln_31 : decode cX5_kiln 31 = .ok (.invokevirtual 255, 3) := dk_182 0 255 (dk_at dksX5_kiln_1 7 rfl rfl)
theorem dX5_kiln_34 : decode cX5_kiln 34 = .ok (.invokespecial 282, 3) := dk_183 1 26 (dk_at dksX5_kiln_1 10 rfl rfl)
theorem dX5_kiln_37 : decode cX5_kiln 37 = .ok (.astore_n 2, 1) := dk_77 (dk_at dksX5_kiln_1 13 rfl rfl)
theorem dX5_kiln_38 : decode cX5_kiln 38 = .ok (.aload_n 0, 1) := dk_42 (dk_at dksX5_kiln_1 14 rfl rfl)
theorem dX5_kiln_39 : decode cX5_kiln 39 = .ok (.ldc_w 283, 3) := dk_19 1 27 (dk_at dksX5_kiln_1 15 rfl rfl)
theorem dX5_kiln_42 : decode cX5_kiln 42 = .ok (.invokevirtual 244, 3) := dk_182 0 244 (dk_at dksX5_kiln_1 18 rfl rfl)
theorem dX5_kiln_45 : decode cX5_kiln 45 = .ok (.aload_n 2, 1) := dk_44 (dk_at dksX5_kiln_1 21 rfl rfl)
theorem dX5_kiln_46 : decode cX5_kiln 46 = .ok (.aload_n 0, 1) := dk_42 (dk_at dksX5_kiln_1 22 rfl rfl)
theorem dX5_kiln_47 : decode cX5_kiln 47 = .ok (.iconst 1, 1) := dk_4 (dk_at dksX5_kiln_1 23 rfl rfl)
theorem dX5_kiln_48 : decode cX5_kiln 48 = .ok (.bipush 6, 2) := dk_16 6 (dk_at dksX5_kiln_2 0 rfl rfl)
theorem dX5_kiln_50 : decode cX5_kiln 50 = .ok (.invokevirtual 208, 3) := dk_182 0 208 (dk_at dksX5_kiln_2 2 rfl rfl)
theorem dX5_kiln_53 : decode cX5_kiln 53 = .ok (.putfield 285, 3) := dk_181 1 29 (dk_at dksX5_kiln_2 5 rfl rfl)
theorem dX5_kiln_56 : decode cX5_kiln 56 = .ok (.aload_n 0, 1) := dk_42 (dk_at dksX5_kiln_2 8 rfl rfl)
theorem dX5_kiln_57 : decode cX5_kiln 57 = .ok (.getfield 18, 3) := dk_180 0 18 (dk_at dksX5_kiln_2 9 rfl rfl)
theorem dX5_kiln_60 : decode cX5_kiln 60 = .ok (.getfield 277, 3) := dk_180 1 21 (dk_at dksX5_kiln_2 12 rfl rfl)
theorem dX5_kiln_63 : decode cX5_kiln 63 = .ok (.aload_n 2, 1) := dk_44 (dk_at dksX5_kiln_2 15 rfl rfl)
theorem dX5_kiln_64 : decode cX5_kiln 64 = .ok (.invokevirtual 141, 3) := dk_182 0 141 (dk_at dksX5_kiln_2 16 rfl rfl)
theorem dX5_kiln_67 : decode cX5_kiln 67 = .ok (.pop, 1) := dk_87 (dk_at dksX5_kiln_2 19 rfl rfl)
theorem dX5_kiln_68 : decode cX5_kiln 68 = .ok (.return_, 1) := dk_177 (dk_at dksX5_kiln_2 20 rfl rfl)
abbrev cX5_sum : ByteArray := prog_19_method_33_code
def yX5_sum : MethodName := ⟨RX5, "sum", "(LKilnBench$Sum;III)LKilnBench$Sum;"⟩
def dkwX5_sum_0 : List UInt8 := [42, 43, 28, 29, 21, 4, 182, 1, 31, 42, 182, 0, 180, 176]
abbrev dktX5_sum_0 : List UInt8 := dkwX5_sum_0 ++ []
theorem dksX5_sum_0 : cX5_sum.data.toList.drop 0 = dktX5_sum_0 := by decide +kernel
theorem dX5_sum_0 : decode cX5_sum 0 = .ok (.aload_n 0, 1) := dk_42 (dk_at dksX5_sum_0 0 rfl rfl)
theorem dX5_sum_1 : decode cX5_sum 1 = .ok (.aload_n 1, 1) := dk_43 (dk_at dksX5_sum_0 1 rfl rfl)
theorem dX5_sum_2 : decode cX5_sum 2 = .ok (.iload_n 2, 1) := dk_28 (dk_at dksX5_sum_0 2 rfl rfl)
theorem dX5_sum_3 : decode cX5_sum 3 = .ok (.iload_n 3, 1) := dk_29 (dk_at dksX5_sum_0 3 rfl rfl)
theorem dX5_sum_4 : decode cX5_sum 4 = .ok (.iload 4, 2) := dk_21 4 (dk_at dksX5_sum_0 4 rfl rfl)
theorem dX5_sum_6 : decode cX5_sum 6 = .ok (.invokevirtual 287, 3) := dk_182 1 31 (dk_at dksX5_sum_0 6 rfl rfl)
theorem dX5_sum_9 : decode cX5_sum 9 = .ok (.aload_n 0, 1) := dk_42 (dk_at dksX5_sum_0 9 rfl rfl)
theorem dX5_sum_10 : decode cX5_sum 10 = .ok (.invokevirtual 180, 3) := dk_182 0 180 (dk_at dksX5_sum_0 10 rfl rfl)
theorem dX5_sum_13 : decode cX5_sum 13 = .ok (.areturn, 1) := dk_176 (dk_at dksX5_sum_0 13 rfl rfl)
abbrev cX5_parts : ByteArray := prog_19_method_32_code
def yX5_parts : MethodName := ⟨RX5, "parts", "(Ljava/lang/Object;III)V"⟩
def dkwX5_parts_1 : List UInt8 := [181, 0, 231, 177]
abbrev dktX5_parts_1 : List UInt8 := dkwX5_parts_1 ++ []
def dkwX5_parts_0 : List UInt8 := [42, 43, 199, 0, 7, 3, 167, 0, 4, 4, 4, 28, 182, 1, 1, 42, 29, 181, 0, 228, 42, 21, 4]
abbrev dktX5_parts_0 : List UInt8 := dkwX5_parts_0 ++ dktX5_parts_1
theorem dksX5_parts_0 : cX5_parts.data.toList.drop 0 = dktX5_parts_0 := by decide +kernel
theorem dksX5_parts_1 : cX5_parts.data.toList.drop 23 = dktX5_parts_1 := dk_seg dksX5_parts_0 23 rfl rfl
theorem dX5_parts_0 : decode cX5_parts 0 = .ok (.aload_n 0, 1) := dk_42 (dk_at dksX5_parts_0 0 rfl rfl)
theorem dX5_parts_1 : decode cX5_parts 1 = .ok (.aload_n 1, 1) := dk_43 (dk_at dksX5_parts_0 1 rfl rfl)
theorem dX5_parts_2 : decode cX5_parts 2 = .ok (.ifnonnull 7, 3) := dk_199 0 7 (dk_at dksX5_parts_0 2 rfl rfl)
theorem dX5_parts_5 : decode cX5_parts 5 = .ok (.iconst 0, 1) := dk_3 (dk_at dksX5_parts_0 5 rfl rfl)
theorem dX5_parts_6 : decode cX5_parts 6 = .ok (.goto 4, 3) := dk_167 0 4 (dk_at dksX5_parts_0 6 rfl rfl)
theorem dX5_parts_9 : decode cX5_parts 9 = .ok (.iconst 1, 1) := dk_4 (dk_at dksX5_parts_0 9 rfl rfl)
theorem dX5_parts_10 : decode cX5_parts 10 = .ok (.iconst 1, 1) := dk_4 (dk_at dksX5_parts_0 10 rfl rfl)
theorem dX5_parts_11 : decode cX5_parts 11 = .ok (.iload_n 2, 1) := dk_28 (dk_at dksX5_parts_0 11 rfl rfl)
theorem dX5_parts_12 : decode cX5_parts 12 = .ok (.invokevirtual 257, 3) := dk_182 1 1 (dk_at dksX5_parts_0 12 rfl rfl)
theorem dX5_parts_15 : decode cX5_parts 15 = .ok (.aload_n 0, 1) := dk_42 (dk_at dksX5_parts_0 15 rfl rfl)
theorem dX5_parts_16 : decode cX5_parts 16 = .ok (.iload_n 3, 1) := dk_29 (dk_at dksX5_parts_0 16 rfl rfl)
theorem dX5_parts_17 : decode cX5_parts 17 = .ok (.putfield 228, 3) := dk_181 0 228 (dk_at dksX5_parts_0 17 rfl rfl)
theorem dX5_parts_20 : decode cX5_parts 20 = .ok (.aload_n 0, 1) := dk_42 (dk_at dksX5_parts_0 20 rfl rfl)
theorem dX5_parts_21 : decode cX5_parts 21 = .ok (.iload 4, 2) := dk_21 4 (dk_at dksX5_parts_0 21 rfl rfl)
theorem dX5_parts_23 : decode cX5_parts 23 = .ok (.putfield 231, 3) := dk_181 0 231 (dk_at dksX5_parts_1 0 rfl rfl)
theorem dX5_parts_26 : decode cX5_parts 26 = .ok (.return_, 1) := dk_177 (dk_at dksX5_parts_1 3 rfl rfl)
abbrev cX5_sum_2 : ByteArray := prog_19_method_23_code
def yX5_sum_2 : MethodName := ⟨RX5, "sum", "()LKilnBench$Sum;"⟩
def dkwX5_sum_2_3 : List UInt8 := [42, 182, 0, 189, 182, 0, 195, 167, 255, 219, 44, 176]
abbrev dktX5_sum_2_3 : List UInt8 := dkwX5_sum_2_3 ++ []
def dkwX5_sum_2_2 : List UInt8 := [154, 0, 12, 42, 16, 45, 182, 0, 93, 153, 0, 25, 42, 180, 0, 53, 62, 42, 3, 181, 0, 29, 44, 29]
abbrev dktX5_sum_2_2 : List UInt8 := dkwX5_sum_2_2 ++ dktX5_sum_2_3
def dkwX5_sum_2_1 : List UInt8 := [176, 187, 0, 192, 89, 183, 0, 194, 77, 44, 16, 43, 43, 182, 0, 195, 42, 16, 43, 182, 0, 93]
abbrev dktX5_sum_2_1 : List UInt8 := dkwX5_sum_2_1 ++ dktX5_sum_2_2
def dkwX5_sum_2_0 : List UInt8 := [42, 182, 0, 189, 76, 42, 16, 43, 182, 0, 93, 154, 0, 14, 42, 16, 45, 182, 0, 93, 154, 0, 5, 43]
abbrev dktX5_sum_2_0 : List UInt8 := dkwX5_sum_2_0 ++ dktX5_sum_2_1
theorem dksX5_sum_2_0 : cX5_sum_2.data.toList.drop 0 = dktX5_sum_2_0 := by decide +kernel
theorem dksX5_sum_2_1 : cX5_sum_2.data.toList.drop 24 = dktX5_sum_2_1 := dk_seg dksX5_sum_2_0 24 rfl rfl
theorem dksX5_sum_2_2 : cX5_sum_2.data.toList.drop 46 = dktX5_sum_2_2 := dk_seg dksX5_sum_2_1 22 rfl rfl
theorem dksX5_sum_2_3 : cX5_sum_2.data.toList.drop 70 = dktX5_sum_2_3 := dk_seg dksX5_sum_2_2 24 rfl rfl
theorem dX5_sum_2_0 : decode cX5_sum_2 0 = .ok (.aload_n 0, 1) := dk_42 (dk_at dksX5_sum_2_0 0 rfl rfl)
theorem dX5_sum_2_1 : decode cX5_sum_2 1 = .ok (.invokevirtual 189, 3) := dk_182 0 189 (dk_at dksX5_sum_2_0 1 rfl rfl)
theorem dX5_sum_2_4 : decode cX5_sum_2 4 = .ok (.astore_n 1, 1) := dk_76 (dk_at dksX5_sum_2_0 4 rfl rfl)
theorem dX5_sum_2_5 : decode cX5_sum_2 5 = .ok (.aload_n 0, 1) := dk_42 (dk_at dksX5_sum_2_0 5 rfl rfl)
theorem dX5_sum_2_6 : decode cX5_sum_2 6 = .ok (.bipush 43, 2) := dk_16 43 (dk_at dksX5_sum_2_0 6 rfl rfl)
theorem dX5_sum_2_8 : decode cX5_sum_2 8 = .ok (.invokevirtual 93, 3) := dk_182 0 93 (dk_at dksX5_sum_2_0 8 rfl rfl)
theorem dX5_sum_2_11 : decode cX5_sum_2 11 = .ok (.ifCond .ne 14, 3) := dk_154 0 14 (dk_at dksX5_sum_2_0 11 rfl rfl)
theorem dX5_sum_2_14 : decode cX5_sum_2 14 = .ok (.aload_n 0, 1) := dk_42 (dk_at dksX5_sum_2_0 14 rfl rfl)
theorem dX5_sum_2_15 : decode cX5_sum_2 15 = .ok (.bipush 45, 2) := dk_16 45 (dk_at dksX5_sum_2_0 15 rfl rfl)
theorem dX5_sum_2_17 : decode cX5_sum_2 17 = .ok (.invokevirtual 93, 3) := dk_182 0 93 (dk_at dksX5_sum_2_0 17 rfl rfl)
theorem dX5_sum_2_20 : decode cX5_sum_2 20 = .ok (.ifCond .ne 5, 3) := dk_154 0 5 (dk_at dksX5_sum_2_0 20 rfl rfl)
theorem dX5_sum_2_23 : decode cX5_sum_2 23 = .ok (.aload_n 1, 1) := dk_43 (dk_at dksX5_sum_2_0 23 rfl rfl)
theorem dX5_sum_2_24 : decode cX5_sum_2 24 = .ok (.areturn, 1) := dk_176 (dk_at dksX5_sum_2_1 0 rfl rfl)
theorem dX5_sum_2_25 : decode cX5_sum_2 25 = .ok (.new 192, 3) := dk_187 0 192 (dk_at dksX5_sum_2_1 1 rfl rfl)
theorem dX5_sum_2_28 : decode cX5_sum_2 28 = .ok (.dup, 1) := dk_89 (dk_at dksX5_sum_2_1 4 rfl rfl)
theorem dX5_sum_2_29 : decode cX5_sum_2 29 = .ok (.invokespecial 194, 3) := dk_183 0 194 (dk_at dksX5_sum_2_1 5 rfl rfl)
theorem dX5_sum_2_32 : decode cX5_sum_2 32 = .ok (.astore_n 2, 1) := dk_77 (dk_at dksX5_sum_2_1 8 rfl rfl)
theorem dX5_sum_2_33 : decode cX5_sum_2 33 = .ok (.aload_n 2, 1) := dk_44 (dk_at dksX5_sum_2_1 9 rfl rfl)
theorem dX5_sum_2_34 : decode cX5_sum_2 34 = .ok (.bipush 43, 2) := dk_16 43 (dk_at dksX5_sum_2_1 10 rfl rfl)
theorem dX5_sum_2_36 : decode cX5_sum_2 36 = .ok (.aload_n 1, 1) := dk_43 (dk_at dksX5_sum_2_1 12 rfl rfl)
theorem dX5_sum_2_37 : decode cX5_sum_2 37 = .ok (.invokevirtual 195, 3) := dk_182 0 195 (dk_at dksX5_sum_2_1 13 rfl rfl)
theorem dX5_sum_2_40 : decode cX5_sum_2 40 = .ok (.aload_n 0, 1) := dk_42 (dk_at dksX5_sum_2_1 16 rfl rfl)
theorem dX5_sum_2_41 : decode cX5_sum_2 41 = .ok (.bipush 43, 2) := dk_16 43 (dk_at dksX5_sum_2_1 17 rfl rfl)
theorem dX5_sum_2_43 : decode cX5_sum_2 43 = .ok (.invokevirtual 93, 3) := dk_182 0 93 (dk_at dksX5_sum_2_1 19 rfl rfl)
theorem dX5_sum_2_46 : decode cX5_sum_2 46 = .ok (.ifCond .ne 12, 3) := dk_154 0 12 (dk_at dksX5_sum_2_2 0 rfl rfl)
theorem dX5_sum_2_49 : decode cX5_sum_2 49 = .ok (.aload_n 0, 1) := dk_42 (dk_at dksX5_sum_2_2 3 rfl rfl)
theorem dX5_sum_2_50 : decode cX5_sum_2 50 = .ok (.bipush 45, 2) := dk_16 45 (dk_at dksX5_sum_2_2 4 rfl rfl)
theorem dX5_sum_2_52 : decode cX5_sum_2 52 = .ok (.invokevirtual 93, 3) := dk_182 0 93 (dk_at dksX5_sum_2_2 6 rfl rfl)
theorem dX5_sum_2_55 : decode cX5_sum_2 55 = .ok (.ifCond .eq 25, 3) := dk_153 0 25 (dk_at dksX5_sum_2_2 9 rfl rfl)
theorem dX5_sum_2_58 : decode cX5_sum_2 58 = .ok (.aload_n 0, 1) := dk_42 (dk_at dksX5_sum_2_2 12 rfl rfl)
theorem dX5_sum_2_59 : decode cX5_sum_2 59 = .ok (.getfield 53, 3) := dk_180 0 53 (dk_at dksX5_sum_2_2 13 rfl rfl)
theorem dX5_sum_2_62 : decode cX5_sum_2 62 = .ok (.istore_n 3, 1) := dk_62 (dk_at dksX5_sum_2_2 16 rfl rfl)
theorem dX5_sum_2_63 : decode cX5_sum_2 63 = .ok (.aload_n 0, 1) := dk_42 (dk_at dksX5_sum_2_2 17 rfl rfl)
theorem dX5_sum_2_64 : decode cX5_sum_2 64 = .ok (.iconst 0, 1) := dk_3 (dk_at dksX5_sum_2_2 18 rfl rfl)
theorem dX5_sum_2_65 : decode cX5_sum_2 65 = .ok (.putfield 29, 3) := dk_181 0 29 (dk_at dksX5_sum_2_2 19 rfl rfl)
theorem dX5_sum_2_68 : decode cX5_sum_2 68 = .ok (.aload_n 2, 1) := dk_44 (dk_at dksX5_sum_2_2 22 rfl rfl)
theorem dX5_sum_2_69 : decode cX5_sum_2 69 = .ok (.iload_n 3, 1) := dk_29 (dk_at dksX5_sum_2_2 23 rfl rfl)
theorem dX5_sum_2_70 : decode cX5_sum_2 70 = .ok (.aload_n 0, 1) := dk_42 (dk_at dksX5_sum_2_3 0 rfl rfl)
theorem dX5_sum_2_71 : decode cX5_sum_2 71 = .ok (.invokevirtual 189, 3) := dk_182 0 189 (dk_at dksX5_sum_2_3 1 rfl rfl)
theorem dX5_sum_2_74 : decode cX5_sum_2 74 = .ok (.invokevirtual 195, 3) := dk_182 0 195 (dk_at dksX5_sum_2_3 4 rfl rfl)
theorem dX5_sum_2_77 : decode cX5_sum_2 77 = .ok (.goto (-37), 3) := dk_167 255 219 (dk_at dksX5_sum_2_3 7 rfl rfl)
theorem dX5_sum_2_80 : decode cX5_sum_2 80 = .ok (.aload_n 2, 1) := dk_44 (dk_at dksX5_sum_2_3 10 rfl rfl)
theorem dX5_sum_2_81 : decode cX5_sum_2 81 = .ok (.areturn, 1) := dk_176 (dk_at dksX5_sum_2_3 11 rfl rfl)
abbrev cX5_product : ByteArray := prog_19_method_25_code
def yX5_product : MethodName := ⟨RX5, "product", "()LKilnBench$Sum;"⟩
def dkwX5_product_2 : List UInt8 := [29, 42, 182, 0, 199, 182, 0, 195, 167, 255, 230, 44, 176]
abbrev dktX5_product_2 : List UInt8 := dkwX5_product_2 ++ []
def dkwX5_product_1 : List UInt8 := [16, 42, 43, 182, 0, 195, 42, 182, 0, 202, 153, 0, 25, 42, 180, 0, 53, 62, 42, 3, 181, 0, 29, 44]
abbrev dktX5_product_1 : List UInt8 := dkwX5_product_1 ++ dktX5_product_2
def dkwX5_product_0 : List UInt8 := [42, 182, 0, 199, 76, 42, 182, 0, 202, 154, 0, 5, 43, 176, 187, 0, 192, 89, 183, 0, 194, 77, 44]
abbrev dktX5_product_0 : List UInt8 := dkwX5_product_0 ++ dktX5_product_1
theorem dksX5_product_0 : cX5_product.data.toList.drop 0 = dktX5_product_0 := by decide +kernel
theorem dksX5_product_1 : cX5_product.data.toList.drop 23 = dktX5_product_1 := dk_seg dksX5_product_0 23 rfl rfl
theorem dksX5_product_2 : cX5_product.data.toList.drop 47 = dktX5_product_2 := dk_seg dksX5_product_1 24 rfl rfl
theorem dX5_product_0 : decode cX5_product 0 = .ok (.aload_n 0, 1) := dk_42 (dk_at dksX5_product_0 0 rfl rfl)
theorem dX5_product_1 : decode cX5_product 1 = .ok (.invokevirtual 199, 3) := dk_182 0 199 (dk_at dksX5_product_0 1 rfl rfl)
theorem dX5_product_4 : decode cX5_product 4 = .ok (.astore_n 1, 1) := dk_76 (dk_at dksX5_product_0 4 rfl rfl)
theorem dX5_product_5 : decode cX5_product 5 = .ok (.aload_n 0, 1) := dk_42 (dk_at dksX5_product_0 5 rfl rfl)
theorem dX5_product_6 : decode cX5_product 6 = .ok (.invokevirtual 202, 3) := dk_182 0 202 (dk_at dksX5_product_0 6 rfl rfl)
theorem dX5_product_9 : decode cX5_product 9 = .ok (.ifCond .ne 5, 3) := dk_154 0 5 (dk_at dksX5_product_0 9 rfl rfl)
theorem dX5_product_12 : decode cX5_product 12 = .ok (.aload_n 1, 1) := dk_43 (dk_at dksX5_product_0 12 rfl rfl)
theorem dX5_product_13 : decode cX5_product 13 = .ok (.areturn, 1) := dk_176 (dk_at dksX5_product_0 13 rfl rfl)
theorem dX5_product_14 : decode cX5_product 14 = .ok (.new 192, 3) := dk_187 0 192 (dk_at dksX5_product_0 14 rfl rfl)
theorem dX5_product_17 : decode cX5_product 17 = .ok (.dup, 1) := dk_89 (dk_at dksX5_product_0 17 rfl rfl)
theorem dX5_product_18 : decode cX5_product 18 = .ok (.invokespecial 194, 3) := dk_183 0 194 (dk_at dksX5_product_0 18 rfl rfl)
theorem dX5_product_21 : decode cX5_product 21 = .ok (.astore_n 2, 1) := dk_77 (dk_at dksX5_product_0 21 rfl rfl)
theorem dX5_product_22 : decode cX5_product 22 = .ok (.aload_n 2, 1) := dk_44 (dk_at dksX5_product_0 22 rfl rfl)
theorem dX5_product_23 : decode cX5_product 23 = .ok (.bipush 42, 2) := dk_16 42 (dk_at dksX5_product_1 0 rfl rfl)
theorem dX5_product_25 : decode cX5_product 25 = .ok (.aload_n 1, 1) := dk_43 (dk_at dksX5_product_1 2 rfl rfl)
theorem dX5_product_26 : decode cX5_product 26 = .ok (.invokevirtual 195, 3) := dk_182 0 195 (dk_at dksX5_product_1 3 rfl rfl)
theorem dX5_product_29 : decode cX5_product 29 = .ok (.aload_n 0, 1) := dk_42 (dk_at dksX5_product_1 6 rfl rfl)
theorem dX5_product_30 : decode cX5_product 30 = .ok (.invokevirtual 202, 3) := dk_182 0 202 (dk_at dksX5_product_1 7 rfl rfl)
theorem dX5_product_33 : decode cX5_product 33 = .ok (.ifCond .eq 25, 3) := dk_153 0 25 (dk_at dksX5_product_1 10 rfl rfl)
theorem dX5_product_36 : decode cX5_product 36 = .ok (.aload_n 0, 1) := dk_42 (dk_at dksX5_product_1 13 rfl rfl)
theorem dX5_product_37 : decode cX5_product 37 = .ok (.getfield 53, 3) := dk_180 0 53 (dk_at dksX5_product_1 14 rfl rfl)
theorem dX5_product_40 : decode cX5_product 40 = .ok (.istore_n 3, 1) := dk_62 (dk_at dksX5_product_1 17 rfl rfl)
theorem dX5_product_41 : decode cX5_product 41 = .ok (.aload_n 0, 1) := dk_42 (dk_at dksX5_product_1 18 rfl rfl)
theorem dX5_product_42 : decode cX5_product 42 = .ok (.iconst 0, 1) := dk_3 (dk_at dksX5_product_1 19 rfl rfl)
theorem dX5_product_43 : decode cX5_product 43 = .ok (.putfield 29, 3) := dk_181 0 29 (dk_at dksX5_product_1 20 rfl rfl)
theorem dX5_product_46 : decode cX5_product 46 = .ok (.aload_n 2, 1) := dk_44 (dk_at dksX5_product_1 23 rfl rfl)
theorem dX5_product_47 : decode cX5_product 47 = .ok (.iload_n 3, 1) := dk_29 (dk_at dksX5_product_2 0 rfl rfl)
theorem dX5_product_48 : decode cX5_product 48 = .ok (.aload_n 0, 1) := dk_42 (dk_at dksX5_product_2 1 rfl rfl)
theorem dX5_product_49 : decode cX5_product 49 = .ok (.invokevirtual 199, 3) := dk_182 0 199 (dk_at dksX5_product_2 2 rfl rfl)
theorem dX5_product_52 : decode cX5_product 52 = .ok (.invokevirtual 195, 3) := dk_182 0 195 (dk_at dksX5_product_2 5 rfl rfl)
theorem dX5_product_55 : decode cX5_product 55 = .ok (.goto (-26), 3) := dk_167 255 230 (dk_at dksX5_product_2 8 rfl rfl)
theorem dX5_product_58 : decode cX5_product 58 = .ok (.aload_n 2, 1) := dk_44 (dk_at dksX5_product_2 11 rfl rfl)
theorem dX5_product_59 : decode cX5_product 59 = .ok (.areturn, 1) := dk_176 (dk_at dksX5_product_2 12 rfl rfl)
abbrev cX5_part : ByteArray := prog_19_method_26_code
def yX5_part : MethodName := ⟨RX5, "part", "()LKilnBench$Sum;"⟩
def dkwX5_part_2 : List UInt8 := [42, 16, 41, 182, 0, 169, 43, 176]
abbrev dktX5_part_2 : List UInt8 := dkwX5_part_2 ++ []
def dkwX5_part_1 : List UInt8 := [42, 180, 0, 33, 4, 160, 0, 8, 42, 182, 0, 214, 176, 42, 16, 40, 182, 0, 163, 42, 182, 0, 180, 76]
abbrev dktX5_part_1 : List UInt8 := dkwX5_part_1 ++ dktX5_part_2
def dkwX5_part_0 : List UInt8 := [42, 182, 0, 86, 5, 160, 0, 19, 187, 0, 206, 89, 42, 3, 17, 39, 15, 182, 0, 208, 183, 0, 211, 176]
abbrev dktX5_part_0 : List UInt8 := dkwX5_part_0 ++ dktX5_part_1
theorem dksX5_part_0 : cX5_part.data.toList.drop 0 = dktX5_part_0 := by decide +kernel
theorem dksX5_part_1 : cX5_part.data.toList.drop 24 = dktX5_part_1 := dk_seg dksX5_part_0 24 rfl rfl
theorem dksX5_part_2 : cX5_part.data.toList.drop 48 = dktX5_part_2 := dk_seg dksX5_part_1 24 rfl rfl
theorem dX5_part_0 : decode cX5_part 0 = .ok (.aload_n 0, 1) := dk_42 (dk_at dksX5_part_0 0 rfl rfl)
theorem dX5_part_1 : decode cX5_part 1 = .ok (.invokevirtual 86, 3) := dk_182 0 86 (dk_at dksX5_part_0 1 rfl rfl)
theorem dX5_part_4 : decode cX5_part 4 = .ok (.iconst 2, 1) := dk_5 (dk_at dksX5_part_0 4 rfl rfl)
theorem dX5_part_5 : decode cX5_part 5 = .ok (.if_icmp .ne 19, 3) := dk_160 0 19 (dk_at dksX5_part_0 5 rfl rfl)
theorem dX5_part_8 : decode cX5_part 8 = .ok (.new 206, 3) := dk_187 0 206 (dk_at dksX5_part_0 8 rfl rfl)
theorem dX5_part_11 : decode cX5_part 11 = .ok (.dup, 1) := dk_89 (dk_at dksX5_part_0 11 rfl rfl)
theorem dX5_part_12 : decode cX5_part 12 = .ok (.aload_n 0, 1) := dk_42 (dk_at dksX5_part_0 12 rfl rfl)
theorem dX5_part_13 : decode cX5_part 13 = .ok (.iconst 0, 1) := dk_3 (dk_at dksX5_part_0 13 rfl rfl)
theorem dX5_part_14 : decode cX5_part 14 = .ok (.sipush 9999, 3) := dk_17 39 15 (dk_at dksX5_part_0 14 rfl rfl)
theorem dX5_part_17 : decode cX5_part 17 = .ok (.invokevirtual 208, 3) := dk_182 0 208 (dk_at dksX5_part_0 17 rfl rfl)
theorem dX5_part_20 : decode cX5_part 20 = .ok (.invokespecial 211, 3) := dk_183 0 211 (dk_at dksX5_part_0 20 rfl rfl)
theorem dX5_part_23 : decode cX5_part 23 = .ok (.areturn, 1) := dk_176 (dk_at dksX5_part_0 23 rfl rfl)
theorem dX5_part_24 : decode cX5_part 24 = .ok (.aload_n 0, 1) := dk_42 (dk_at dksX5_part_1 0 rfl rfl)
theorem dX5_part_25 : decode cX5_part 25 = .ok (.getfield 33, 3) := dk_180 0 33 (dk_at dksX5_part_1 1 rfl rfl)
theorem dX5_part_28 : decode cX5_part 28 = .ok (.iconst 1, 1) := dk_4 (dk_at dksX5_part_1 4 rfl rfl)
theorem dX5_part_29 : decode cX5_part 29 = .ok (.if_icmp .ne 8, 3) := dk_160 0 8 (dk_at dksX5_part_1 5 rfl rfl)
theorem dX5_part_32 : decode cX5_part 32 = .ok (.aload_n 0, 1) := dk_42 (dk_at dksX5_part_1 8 rfl rfl)
theorem dX5_part_33 : decode cX5_part 33 = .ok (.invokevirtual 214, 3) := dk_182 0 214 (dk_at dksX5_part_1 9 rfl rfl)
theorem dX5_part_36 : decode cX5_part 36 = .ok (.areturn, 1) := dk_176 (dk_at dksX5_part_1 12 rfl rfl)
theorem dX5_part_37 : decode cX5_part 37 = .ok (.aload_n 0, 1) := dk_42 (dk_at dksX5_part_1 13 rfl rfl)
theorem dX5_part_38 : decode cX5_part 38 = .ok (.bipush 40, 2) := dk_16 40 (dk_at dksX5_part_1 14 rfl rfl)
theorem dX5_part_40 : decode cX5_part 40 = .ok (.invokevirtual 163, 3) := dk_182 0 163 (dk_at dksX5_part_1 16 rfl rfl)
theorem dX5_part_43 : decode cX5_part 43 = .ok (.aload_n 0, 1) := dk_42 (dk_at dksX5_part_1 19 rfl rfl)
theorem dX5_part_44 : decode cX5_part 44 = .ok (.invokevirtual 180, 3) := dk_182 0 180 (dk_at dksX5_part_1 20 rfl rfl)
theorem dX5_part_47 : decode cX5_part 47 = .ok (.astore_n 1, 1) := dk_76 (dk_at dksX5_part_1 23 rfl rfl)
theorem dX5_part_48 : decode cX5_part 48 = .ok (.aload_n 0, 1) := dk_42 (dk_at dksX5_part_2 0 rfl rfl)
theorem dX5_part_49 : decode cX5_part 49 = .ok (.bipush 41, 2) := dk_16 41 (dk_at dksX5_part_2 1 rfl rfl)
theorem dX5_part_51 : decode cX5_part 51 = .ok (.invokevirtual 169, 3) := dk_182 0 169 (dk_at dksX5_part_2 3 rfl rfl)
theorem dX5_part_54 : decode cX5_part 54 = .ok (.aload_n 1, 1) := dk_43 (dk_at dksX5_part_2 6 rfl rfl)
theorem dX5_part_55 : decode cX5_part 55 = .ok (.areturn, 1) := dk_176 (dk_at dksX5_part_2 7 rfl rfl)
abbrev cX5_wordPart : ByteArray := prog_19_method_28_code
def yX5_wordPart : MethodName := ⟨RX5, "wordPart", "()LKilnBench$Sum;"⟩
def dkwX5_wordPart_5 : List UInt8 := [182, 0, 169, 187, 0, 247, 89, 27, 44, 45, 183, 0, 249, 176]
abbrev dktX5_wordPart_5 : List UInt8 := dkwX5_wordPart_5 ++ []
def dkwX5_wordPart_4 : List UInt8 := [16, 40, 182, 0, 163, 42, 182, 0, 180, 77, 42, 16, 44, 182, 0, 122, 42, 182, 0, 180, 78, 42, 16, 41]
abbrev dktX5_wordPart_4 : List UInt8 := dkwX5_wordPart_4 ++ dktX5_wordPart_5
def dkwX5_wordPart_3 : List UInt8 := [42, 182, 0, 237, 176, 42, 18, 240, 182, 0, 106, 60, 27, 154, 0, 9, 42, 18, 242, 182, 0, 244, 42]
abbrev dktX5_wordPart_3 : List UInt8 := dkwX5_wordPart_3 ++ dktX5_wordPart_4
def dkwX5_wordPart_2 : List UInt8 := [187, 0, 223, 89, 27, 183, 0, 234, 176, 132, 1, 1, 167, 255, 201, 42, 18, 235, 182, 0, 106, 153, 0, 8]
abbrev dktX5_wordPart_2 : List UInt8 := dkwX5_wordPart_2 ++ dktX5_wordPart_3
def dkwX5_wordPart_1 : List UInt8 := [180, 0, 231, 133, 184, 0, 108, 153, 0, 24, 42, 178, 0, 222, 27, 50, 182, 0, 106, 153, 0, 12]
abbrev dktX5_wordPart_1 : List UInt8 := dkwX5_wordPart_1 ++ dktX5_wordPart_2
def dkwX5_wordPart_0 : List UInt8 := [3, 60, 27, 178, 0, 222, 190, 162, 0, 53, 27, 5, 161, 0, 21, 27, 133, 42, 180, 0, 228, 133, 42]
abbrev dktX5_wordPart_0 : List UInt8 := dkwX5_wordPart_0 ++ dktX5_wordPart_1
theorem dksX5_wordPart_0 : cX5_wordPart.data.toList.drop 0 = dktX5_wordPart_0 := by decide +kernel
theorem dksX5_wordPart_1 : cX5_wordPart.data.toList.drop 23 = dktX5_wordPart_1 := dk_seg dksX5_wordPart_0 23 rfl rfl
theorem dksX5_wordPart_2 : cX5_wordPart.data.toList.drop 45 = dktX5_wordPart_2 := dk_seg dksX5_wordPart_1 22 rfl rfl
theorem dksX5_wordPart_3 : cX5_wordPart.data.toList.drop 69 = dktX5_wordPart_3 := dk_seg dksX5_wordPart_2 24 rfl rfl
theorem dksX5_wordPart_4 : cX5_wordPart.data.toList.drop 92 = dktX5_wordPart_4 := dk_seg dksX5_wordPart_3 23 rfl rfl
theorem dksX5_wordPart_5 : cX5_wordPart.data.toList.drop 116 = dktX5_wordPart_5 := dk_seg dksX5_wordPart_4 24 rfl rfl
theorem dX5_wordPart_0 : decode cX5_wordPart 0 = .ok (.iconst 0, 1) := dk_3 (dk_at dksX5_wordPart_0 0 rfl rfl)
theorem dX5_wordPart_1 : decode cX5_wordPart 1 = .ok (.istore_n 1, 1) := dk_60 (dk_at dksX5_wordPart_0 1 rfl rfl)
theorem dX5_wordPart_2 : decode cX5_wordPart 2 = .ok (.iload_n 1, 1) := dk_27 (dk_at dksX5_wordPart_0 2 rfl rfl)
theorem dX5_wordPart_3 : decode cX5_wordPart 3 = .ok (.getstatic 222, 3) := dk_178 0 222 (dk_at dksX5_wordPart_0 3 rfl rfl)
theorem dX5_wordPart_6 : decode cX5_wordPart 6 = .ok (.arraylength, 1) := dk_190 (dk_at dksX5_wordPart_0 6 rfl rfl)
theorem dX5_wordPart_7 : decode cX5_wordPart 7 = .ok (.if_icmp .ge 53, 3) := dk_162 0 53 (dk_at dksX5_wordPart_0 7 rfl rfl)
theorem dX5_wordPart_10 : decode cX5_wordPart 10 = .ok (.iload_n 1, 1) := dk_27 (dk_at dksX5_wordPart_0 10 rfl rfl)
theorem dX5_wordPart_11 : decode cX5_wordPart 11 = .ok (.iconst 2, 1) := dk_5 (dk_at dksX5_wordPart_0 11 rfl rfl)
theorem dX5_wordPart_12 : decode cX5_wordPart 12 = .ok (.if_icmp .lt 21, 3) := dk_161 0 21 (dk_at dksX5_wordPart_0 12 rfl rfl)
theorem dX5_wordPart_15 : decode cX5_wordPart 15 = .ok (.iload_n 1, 1) := dk_27 (dk_at dksX5_wordPart_0 15 rfl rfl)
theorem dX5_wordPart_16 : decode cX5_wordPart 16 = .ok (.i2l, 1) := dk_133 (dk_at dksX5_wordPart_0 16 rfl rfl)
theorem dX5_wordPart_17 : decode cX5_wordPart 17 = .ok (.aload_n 0, 1) := dk_42 (dk_at dksX5_wordPart_0 17 rfl rfl)
theorem dX5_wordPart_18 : decode cX5_wordPart 18 = .ok (.getfield 228, 3) := dk_180 0 228 (dk_at dksX5_wordPart_0 18 rfl rfl)
theorem dX5_wordPart_21 : decode cX5_wordPart 21 = .ok (.i2l, 1) := dk_133 (dk_at dksX5_wordPart_0 21 rfl rfl)
theorem dX5_wordPart_22 : decode cX5_wordPart 22 = .ok (.aload_n 0, 1) := dk_42 (dk_at dksX5_wordPart_0 22 rfl rfl)
theorem dX5_wordPart_23 : decode cX5_wordPart 23 = .ok (.getfield 231, 3) := dk_180 0 231 (dk_at dksX5_wordPart_1 0 rfl rfl)
theorem dX5_wordPart_26 : decode cX5_wordPart 26 = .ok (.i2l, 1) := dk_133 (dk_at dksX5_wordPart_1 3 rfl rfl)
theorem dX5_wordPart_27 : decode cX5_wordPart 27 = .ok (.invokestatic 108, 3) := dk_184 0 108 (dk_at dksX5_wordPart_1 4 rfl rfl)
theorem dX5_wordPart_30 : decode cX5_wordPart 30 = .ok (.ifCond .eq 24, 3) := dk_153 0 24 (dk_at dksX5_wordPart_1 7 rfl rfl)
theorem dX5_wordPart_33 : decode cX5_wordPart 33 = .ok (.aload_n 0, 1) := dk_42 (dk_at dksX5_wordPart_1 10 rfl rfl)
theorem dX5_wordPart_34 : decode cX5_wordPart 34 = .ok (.getstatic 222, 3) := dk_178 0 222 (dk_at dksX5_wordPart_1 11 rfl rfl)
theorem dX5_wordPart_37 : decode cX5_wordPart 37 = .ok (.iload_n 1, 1) := dk_27 (dk_at dksX5_wordPart_1 14 rfl rfl)
theorem dX5_wordPart_38 : decode cX5_wordPart 38 = .ok (.aaload, 1) := dk_50 (dk_at dksX5_wordPart_1 15 rfl rfl)
theorem dX5_wordPart_39 : decode cX5_wordPart 39 = .ok (.invokevirtual 106, 3) := dk_182 0 106 (dk_at dksX5_wordPart_1 16 rfl rfl)
theorem dX5_wordPart_42 : decode cX5_wordPart 42 = .ok (.ifCond .eq 12, 3) := dk_153 0 12 (dk_at dksX5_wordPart_1 19 rfl rfl)
theorem dX5_wordPart_45 : decode cX5_wordPart 45 = .ok (.new 223, 3) := dk_187 0 223 (dk_at dksX5_wordPart_2 0 rfl rfl)
theorem dX5_wordPart_48 : decode cX5_wordPart 48 = .ok (.dup, 1) := dk_89 (dk_at dksX5_wordPart_2 3 rfl rfl)
theorem dX5_wordPart_49 : decode cX5_wordPart 49 = .ok (.iload_n 1, 1) := dk_27 (dk_at dksX5_wordPart_2 4 rfl rfl)
theorem dX5_wordPart_50 : decode cX5_wordPart 50 = .ok (.invokespecial 234, 3) := dk_183 0 234 (dk_at dksX5_wordPart_2 5 rfl rfl)
theorem dX5_wordPart_53 : decode cX5_wordPart 53 = .ok (.areturn, 1) := dk_176 (dk_at dksX5_wordPart_2 8 rfl rfl)
theorem dX5_wordPart_54 : decode cX5_wordPart 54 = .ok (.iinc 1 1, 3) := dk_132 1 1 (dk_at dksX5_wordPart_2 9 rfl rfl)
theorem dX5_wordPart_57 : decode cX5_wordPart 57 = .ok (.goto (-55), 3) := dk_167 255 201 (dk_at dksX5_wordPart_2 12 rfl rfl)
theorem dX5_wordPart_60 : decode cX5_wordPart 60 = .ok (.aload_n 0, 1) := dk_42 (dk_at dksX5_wordPart_2 15 rfl rfl)
theorem dX5_wordPart_61 : decode cX5_wordPart 61 = .ok (.ldc 235, 2) := dk_18 235 (dk_at dksX5_wordPart_2 16 rfl rfl)
theorem dX5_wordPart_63 : decode cX5_wordPart 63 = .ok (.invokevirtual 106, 3) := dk_182 0 106 (dk_at dksX5_wordPart_2 18 rfl rfl)
theorem dX5_wordPart_66 : decode cX5_wordPart 66 = .ok (.ifCond .eq 8, 3) := dk_153 0 8 (dk_at dksX5_wordPart_2 21 rfl rfl)
theorem dX5_wordPart_69 : decode cX5_wordPart 69 = .ok (.aload_n 0, 1) := dk_42 (dk_at dksX5_wordPart_3 0 rfl rfl)
theorem dX5_wordPart_70 : decode cX5_wordPart 70 = .ok (.invokevirtual 237, 3) := dk_182 0 237 (dk_at dksX5_wordPart_3 1 rfl rfl)
theorem dX5_wordPart_73 : decode cX5_wordPart 73 = .ok (.areturn, 1) := dk_176 (dk_at dksX5_wordPart_3 4 rfl rfl)
theorem dX5_wordPart_74 : decode cX5_wordPart 74 = .ok (.aload_n 0, 1) := dk_42 (dk_at dksX5_wordPart_3 5 rfl rfl)
theorem dX5_wordPart_75 : decode cX5_wordPart 75 = .ok (.ldc 240, 2) := dk_18 240 (dk_at dksX5_wordPart_3 6 rfl rfl)
theorem dX5_wordPart_77 : decode cX5_wordPart 77 = .ok (.invokevirtual 106, 3) := dk_182 0 106 (dk_at dksX5_wordPart_3 8 rfl rfl)
theorem dX5_wordPart_80 : decode cX5_wordPart 80 = .ok (.istore_n 1, 1) := dk_60 (dk_at dksX5_wordPart_3 11 rfl rfl)
theorem dX5_wordPart_81 : decode cX5_wordPart 81 = .ok (.iload_n 1, 1) := dk_27 (dk_at dksX5_wordPart_3 12 rfl rfl)
theorem dX5_wordPart_82 : decode cX5_wordPart 82 = .ok (.ifCond .ne 9, 3) := dk_154 0 9 (dk_at dksX5_wordPart_3 13 rfl rfl)
theorem dX5_wordPart_85 : decode cX5_wordPart 85 = .ok (.aload_n 0, 1) := dk_42 (dk_at dksX5_wordPart_3 16 rfl rfl)
theorem dX5_wordPart_86 : decode cX5_wordPart 86 = .ok (.ldc 242, 2) := dk_18 242 (dk_at dksX5_wordPart_3 17 rfl rfl)
theorem dX5_wordPart_88 : decode cX5_wordPart 88 = .ok (.invokevirtual 244, 3) := dk_182 0 244 (dk_at dksX5_wordPart_3 19 rfl rfl)
theorem dX5_wordPart_91 : decode cX5_wordPart 91 = .ok (.aload_n 0, 1) := dk_42 (dk_at dksX5_wordPart_3 22 rfl rfl)
theorem dX5_wordPart_92 : decode cX5_wordPart 92 = .ok (.bipush 40, 2) := dk_16 40 (dk_at dksX5_wordPart_4 0 rfl rfl)
theorem dX5_wordPart_94 : decode cX5_wordPart 94 = .ok (.invokevirtual 163, 3) := dk_182 0 163 (dk_at dksX5_wordPart_4 2 rfl rfl)
theorem dX5_wordPart_97 : decode cX5_wordPart 97 = .ok (.aload_n 0, 1) := dk_42 (dk_at dksX5_wordPart_4 5 rfl rfl)
theorem dX5_wordPart_98 : decode cX5_wordPart 98 = .ok (.invokevirtual 180, 3) := dk_182 0 180 (dk_at dksX5_wordPart_4 6 rfl rfl)
theorem dX5_wordPart_101 : decode cX5_wordPart 101 = .ok (.astore_n 2, 1) := dk_77 (dk_at dksX5_wordPart_4 9 rfl rfl)
theorem dX5_wordPart_102 : decode cX5_wordPart 102 = .ok (.aload_n 0, 1) := dk_42 (dk_at dksX5_wordPart_4 10 rfl rfl)
theorem dX5_wordPart_103 : decode cX5_wordPart 103 = .ok (.bipush 44, 2) := dk_16 44 (dk_at dksX5_wordPart_4 11 rfl rfl)
theorem dX5_wordPart_105 : decode cX5_wordPart 105 = .ok (.invokevirtual 122, 3) := dk_182 0 122 (dk_at dksX5_wordPart_4 13 rfl rfl)
theorem dX5_wordPart_108 : decode cX5_wordPart 108 = .ok (.aload_n 0, 1) := dk_42 (dk_at dksX5_wordPart_4 16 rfl rfl)
theorem dX5_wordPart_109 : decode cX5_wordPart 109 = .ok (.invokevirtual 180, 3) := dk_182 0 180 (dk_at dksX5_wordPart_4 17 rfl rfl)
theorem dX5_wordPart_112 : decode cX5_wordPart 112 = .ok (.astore_n 3, 1) := dk_78 (dk_at dksX5_wordPart_4 20 rfl rfl)
theorem dX5_wordPart_113 : decode cX5_wordPart 113 = .ok (.aload_n 0, 1) := dk_42 (dk_at dksX5_wordPart_4 21 rfl rfl)
theorem dX5_wordPart_114 : decode cX5_wordPart 114 = .ok (.bipush 41, 2) := dk_16 41 (dk_at dksX5_wordPart_4 22 rfl rfl)
theorem dX5_wordPart_116 : decode cX5_wordPart 116 = .ok (.invokevirtual 169, 3) := dk_182 0 169 (dk_at dksX5_wordPart_5 0 rfl rfl)
theorem dX5_wordPart_119 : decode cX5_wordPart 119 = .ok (.new 247, 3) := dk_187 0 247 (dk_at dksX5_wordPart_5 3 rfl rfl)
theorem dX5_wordPart_122 : decode cX5_wordPart 122 = .ok (.dup, 1) := dk_89 (dk_at dksX5_wordPart_5 6 rfl rfl)
theorem dX5_wordPart_123 : decode cX5_wordPart 123 = .ok (.iload_n 1, 1) := dk_27 (dk_at dksX5_wordPart_5 7 rfl rfl)
theorem dX5_wordPart_124 : decode cX5_wordPart 124 = .ok (.aload_n 2, 1) := dk_44 (dk_at dksX5_wordPart_5 8 rfl rfl)
theorem dX5_wordPart_125 : decode cX5_wordPart 125 = .ok (.aload_n 3, 1) := dk_45 (dk_at dksX5_wordPart_5 9 rfl rfl)
theorem dX5_wordPart_126 : decode cX5_wordPart 126 = .ok (.invokespecial 249, 3) := dk_183 0 249 (dk_at dksX5_wordPart_5 10 rfl rfl)
theorem dX5_wordPart_129 : decode cX5_wordPart 129 = .ok (.areturn, 1) := dk_176 (dk_at dksX5_wordPart_5 13 rfl rfl)
abbrev cX5_chosen : ByteArray := prog_19_method_27_code
def yX5_chosen : MethodName := ⟨RX5, "chosen", "()LKilnBench$Sum;"⟩
def dkwX5_chosen_2 : List UInt8 := [183, 0, 219, 176]
abbrev dktX5_chosen_2 : List UInt8 := dkwX5_chosen_2 ++ []
def dkwX5_chosen_1 : List UInt8 := [16, 44, 182, 0, 122, 42, 182, 0, 180, 78, 42, 16, 41, 182, 0, 169, 187, 0, 217, 89, 43, 44, 45]
abbrev dktX5_chosen_1 : List UInt8 := dkwX5_chosen_1 ++ dktX5_chosen_2
def dkwX5_chosen_0 : List UInt8 := [42, 16, 40, 182, 0, 163, 42, 182, 0, 166, 76, 42, 16, 44, 182, 0, 122, 42, 182, 0, 180, 77, 42]
abbrev dktX5_chosen_0 : List UInt8 := dkwX5_chosen_0 ++ dktX5_chosen_1
theorem dksX5_chosen_0 : cX5_chosen.data.toList.drop 0 = dktX5_chosen_0 := by decide +kernel
theorem dksX5_chosen_1 : cX5_chosen.data.toList.drop 23 = dktX5_chosen_1 := dk_seg dksX5_chosen_0 23 rfl rfl
theorem dksX5_chosen_2 : cX5_chosen.data.toList.drop 46 = dktX5_chosen_2 := dk_seg dksX5_chosen_1 23 rfl rfl
theorem dX5_chosen_0 : decode cX5_chosen 0 = .ok (.aload_n 0, 1) := dk_42 (dk_at dksX5_chosen_0 0 rfl rfl)
theorem dX5_chosen_1 : decode cX5_chosen 1 = .ok (.bipush 40, 2) := dk_16 40 (dk_at dksX5_chosen_0 1 rfl rfl)
theorem dX5_chosen_3 : decode cX5_chosen 3 = .ok (.invokevirtual 163, 3) := dk_182 0 163 (dk_at dksX5_chosen_0 3 rfl rfl)
theorem dX5_chosen_6 : decode cX5_chosen 6 = .ok (.aload_n 0, 1) := dk_42 (dk_at dksX5_chosen_0 6 rfl rfl)
theorem dX5_chosen_7 : decode cX5_chosen 7 = .ok (.invokevirtual 166, 3) := dk_182 0 166 (dk_at dksX5_chosen_0 7 rfl rfl)
theorem dX5_chosen_10 : decode cX5_chosen 10 = .ok (.astore_n 1, 1) := dk_76 (dk_at dksX5_chosen_0 10 rfl rfl)
theorem dX5_chosen_11 : decode cX5_chosen 11 = .ok (.aload_n 0, 1) := dk_42 (dk_at dksX5_chosen_0 11 rfl rfl)
theorem dX5_chosen_12 : decode cX5_chosen 12 = .ok (.bipush 44, 2) := dk_16 44 (dk_at dksX5_chosen_0 12 rfl rfl)
theorem dX5_chosen_14 : decode cX5_chosen 14 = .ok (.invokevirtual 122, 3) := dk_182 0 122 (dk_at dksX5_chosen_0 14 rfl rfl)
theorem dX5_chosen_17 : decode cX5_chosen 17 = .ok (.aload_n 0, 1) := dk_42 (dk_at dksX5_chosen_0 17 rfl rfl)
theorem dX5_chosen_18 : decode cX5_chosen 18 = .ok (.invokevirtual 180, 3) := dk_182 0 180 (dk_at dksX5_chosen_0 18 rfl rfl)
theorem dX5_chosen_21 : decode cX5_chosen 21 = .ok (.astore_n 2, 1) := dk_77 (dk_at dksX5_chosen_0 21 rfl rfl)
theorem dX5_chosen_22 : decode cX5_chosen 22 = .ok (.aload_n 0, 1) := dk_42 (dk_at dksX5_chosen_0 22 rfl rfl)
theorem dX5_chosen_23 : decode cX5_chosen 23 = .ok (.bipush 44, 2) := dk_16 44 (dk_at dksX5_chosen_1 0 rfl rfl)
theorem dX5_chosen_25 : decode cX5_chosen 25 = .ok (.invokevirtual 122, 3) := dk_182 0 122 (dk_at dksX5_chosen_1 2 rfl rfl)
theorem dX5_chosen_28 : decode cX5_chosen 28 = .ok (.aload_n 0, 1) := dk_42 (dk_at dksX5_chosen_1 5 rfl rfl)
theorem dX5_chosen_29 : decode cX5_chosen 29 = .ok (.invokevirtual 180, 3) := dk_182 0 180 (dk_at dksX5_chosen_1 6 rfl rfl)
theorem dX5_chosen_32 : decode cX5_chosen 32 = .ok (.astore_n 3, 1) := dk_78 (dk_at dksX5_chosen_1 9 rfl rfl)
theorem dX5_chosen_33 : decode cX5_chosen 33 = .ok (.aload_n 0, 1) := dk_42 (dk_at dksX5_chosen_1 10 rfl rfl)
theorem dX5_chosen_34 : decode cX5_chosen 34 = .ok (.bipush 41, 2) := dk_16 41 (dk_at dksX5_chosen_1 11 rfl rfl)
theorem dX5_chosen_36 : decode cX5_chosen 36 = .ok (.invokevirtual 169, 3) := dk_182 0 169 (dk_at dksX5_chosen_1 13 rfl rfl)
theorem dX5_chosen_39 : decode cX5_chosen 39 = .ok (.new 217, 3) := dk_187 0 217 (dk_at dksX5_chosen_1 16 rfl rfl)
theorem dX5_chosen_42 : decode cX5_chosen 42 = .ok (.dup, 1) := dk_89 (dk_at dksX5_chosen_1 19 rfl rfl)
theorem dX5_chosen_43 : decode cX5_chosen 43 = .ok (.aload_n 1, 1) := dk_43 (dk_at dksX5_chosen_1 20 rfl rfl)
theorem dX5_chosen_44 : decode cX5_chosen 44 = .ok (.aload_n 2, 1) := dk_44 (dk_at dksX5_chosen_1 21 rfl rfl)
theorem dX5_chosen_45 : decode cX5_chosen 45 = .ok (.aload_n 3, 1) := dk_45 (dk_at dksX5_chosen_1 22 rfl rfl)
theorem dX5_chosen_46 : decode cX5_chosen 46 = .ok (.invokespecial 219, 3) := dk_183 0 219 (dk_at dksX5_chosen_2 0 rfl rfl)
theorem dX5_chosen_49 : decode cX5_chosen 49 = .ok (.areturn, 1) := dk_176 (dk_at dksX5_chosen_2 3 rfl rfl)
abbrev cX5_opens : ByteArray := prog_19_method_15_code
def yX5_opens : MethodName := ⟨RX5, "opens", "(C)V"⟩
def dkwX5_opens_2 : List UInt8 := [3, 181, 0, 29, 177]
abbrev dktX5_opens_2 : List UInt8 := dkwX5_opens_2 ++ []
def dkwX5_opens_1 : List UInt8 := [187, 0, 57, 89, 8, 42, 180, 0, 43, 183, 0, 59, 191, 42, 89, 180, 0, 119, 4, 96, 181, 0, 119, 42]
abbrev dktX5_opens_1 : List UInt8 := dkwX5_opens_1 ++ dktX5_opens_2
def dkwX5_opens_0 : List UInt8 := [42, 27, 182, 0, 93, 154, 0, 8, 42, 182, 0, 102, 191, 42, 180, 0, 119, 16, 7, 160, 0, 16]
abbrev dktX5_opens_0 : List UInt8 := dkwX5_opens_0 ++ dktX5_opens_1
theorem dksX5_opens_0 : cX5_opens.data.toList.drop 0 = dktX5_opens_0 := by decide +kernel
theorem dksX5_opens_1 : cX5_opens.data.toList.drop 22 = dktX5_opens_1 := dk_seg dksX5_opens_0 22 rfl rfl
theorem dksX5_opens_2 : cX5_opens.data.toList.drop 46 = dktX5_opens_2 := dk_seg dksX5_opens_1 24 rfl rfl
theorem dX5_opens_0 : decode cX5_opens 0 = .ok (.aload_n 0, 1) := dk_42 (dk_at dksX5_opens_0 0 rfl rfl)
theorem dX5_opens_1 : decode cX5_opens 1 = .ok (.iload_n 1, 1) := dk_27 (dk_at dksX5_opens_0 1 rfl rfl)
theorem dX5_opens_2 : decode cX5_opens 2 = .ok (.invokevirtual 93, 3) := dk_182 0 93 (dk_at dksX5_opens_0 2 rfl rfl)
theorem dX5_opens_5 : decode cX5_opens 5 = .ok (.ifCond .ne 8, 3) := dk_154 0 8 (dk_at dksX5_opens_0 5 rfl rfl)
theorem dX5_opens_8 : decode cX5_opens 8 = .ok (.aload_n 0, 1) := dk_42 (dk_at dksX5_opens_0 8 rfl rfl)
theorem dX5_opens_9 : decode cX5_opens 9 = .ok (.invokevirtual 102, 3) := dk_182 0 102 (dk_at dksX5_opens_0 9 rfl rfl)
theorem dX5_opens_12 : decode cX5_opens 12 = .ok (.athrow, 1) := dk_191 (dk_at dksX5_opens_0 12 rfl rfl)
theorem dX5_opens_13 : decode cX5_opens 13 = .ok (.aload_n 0, 1) := dk_42 (dk_at dksX5_opens_0 13 rfl rfl)
theorem dX5_opens_14 : decode cX5_opens 14 = .ok (.getfield 119, 3) := dk_180 0 119 (dk_at dksX5_opens_0 14 rfl rfl)
theorem dX5_opens_17 : decode cX5_opens 17 = .ok (.bipush 7, 2) := dk_16 7 (dk_at dksX5_opens_0 17 rfl rfl)
theorem dX5_opens_19 : decode cX5_opens 19 = .ok (.if_icmp .ne 16, 3) := dk_160 0 16 (dk_at dksX5_opens_0 19 rfl rfl)
theorem dX5_opens_22 : decode cX5_opens 22 = .ok (.new 57, 3) := dk_187 0 57 (dk_at dksX5_opens_1 0 rfl rfl)
theorem dX5_opens_25 : decode cX5_opens 25 = .ok (.dup, 1) := dk_89 (dk_at dksX5_opens_1 3 rfl rfl)
theorem dX5_opens_26 : decode cX5_opens 26 = .ok (.iconst 5, 1) := dk_8 (dk_at dksX5_opens_1 4 rfl rfl)
theorem dX5_opens_27 : decode cX5_opens 27 = .ok (.aload_n 0, 1) := dk_42 (dk_at dksX5_opens_1 5 rfl rfl)
theorem dX5_opens_28 : decode cX5_opens 28 = .ok (.getfield 43, 3) := dk_180 0 43 (dk_at dksX5_opens_1 6 rfl rfl)
theorem dX5_opens_31 : decode cX5_opens 31 = .ok (.invokespecial 59, 3) := dk_183 0 59 (dk_at dksX5_opens_1 9 rfl rfl)
theorem dX5_opens_34 : decode cX5_opens 34 = .ok (.athrow, 1) := dk_191 (dk_at dksX5_opens_1 12 rfl rfl)
theorem dX5_opens_35 : decode cX5_opens 35 = .ok (.aload_n 0, 1) := dk_42 (dk_at dksX5_opens_1 13 rfl rfl)
theorem dX5_opens_36 : decode cX5_opens 36 = .ok (.dup, 1) := dk_89 (dk_at dksX5_opens_1 14 rfl rfl)
theorem dX5_opens_37 : decode cX5_opens 37 = .ok (.getfield 119, 3) := dk_180 0 119 (dk_at dksX5_opens_1 15 rfl rfl)
theorem dX5_opens_40 : decode cX5_opens 40 = .ok (.iconst 1, 1) := dk_4 (dk_at dksX5_opens_1 18 rfl rfl)
theorem dX5_opens_41 : decode cX5_opens 41 = .ok (.iadd, 1) := dk_96 (dk_at dksX5_opens_1 19 rfl rfl)
theorem dX5_opens_42 : decode cX5_opens 42 = .ok (.putfield 119, 3) := dk_181 0 119 (dk_at dksX5_opens_1 20 rfl rfl)
theorem dX5_opens_45 : decode cX5_opens 45 = .ok (.aload_n 0, 1) := dk_42 (dk_at dksX5_opens_1 23 rfl rfl)
theorem dX5_opens_46 : decode cX5_opens 46 = .ok (.iconst 0, 1) := dk_3 (dk_at dksX5_opens_2 0 rfl rfl)
theorem dX5_opens_47 : decode cX5_opens 47 = .ok (.putfield 29, 3) := dk_181 0 29 (dk_at dksX5_opens_2 1 rfl rfl)
theorem dX5_opens_50 : decode cX5_opens 50 = .ok (.return_, 1) := dk_177 (dk_at dksX5_opens_2 4 rfl rfl)
abbrev cX5_isSign : ByteArray := prog_19_method_6_code
def yX5_isSign : MethodName := ⟨RX5, "isSign", "(C)Z"⟩
def dkwX5_isSign_0 : List UInt8 := [42, 182, 0, 86, 6, 160, 0, 15, 42, 180, 0, 53, 27, 160, 0, 7, 4, 167, 0, 4, 3, 172]
abbrev dktX5_isSign_0 : List UInt8 := dkwX5_isSign_0 ++ []
theorem dksX5_isSign_0 : cX5_isSign.data.toList.drop 0 = dktX5_isSign_0 := by decide +kernel
theorem dX5_isSign_0 : decode cX5_isSign 0 = .ok (.aload_n 0, 1) := dk_42 (dk_at dksX5_isSign_0 0 rfl rfl)
theorem dX5_isSign_1 : decode cX5_isSign 1 = .ok (.invokevirtual 86, 3) := dk_182 0 86 (dk_at dksX5_isSign_0 1 rfl rfl)
theorem dX5_isSign_4 : decode cX5_isSign 4 = .ok (.iconst 3, 1) := dk_6 (dk_at dksX5_isSign_0 4 rfl rfl)
theorem dX5_isSign_5 : decode cX5_isSign 5 = .ok (.if_icmp .ne 15, 3) := dk_160 0 15 (dk_at dksX5_isSign_0 5 rfl rfl)
theorem dX5_isSign_8 : decode cX5_isSign 8 = .ok (.aload_n 0, 1) := dk_42 (dk_at dksX5_isSign_0 8 rfl rfl)
theorem dX5_isSign_9 : decode cX5_isSign 9 = .ok (.getfield 53, 3) := dk_180 0 53 (dk_at dksX5_isSign_0 9 rfl rfl)
theorem dX5_isSign_12 : decode cX5_isSign 12 = .ok (.iload_n 1, 1) := dk_27 (dk_at dksX5_isSign_0 12 rfl rfl)
theorem dX5_isSign_13 : decode cX5_isSign 13 = .ok (.if_icmp .ne 7, 3) := dk_160 0 7 (dk_at dksX5_isSign_0 13 rfl rfl)
theorem dX5_isSign_16 : decode cX5_isSign 16 = .ok (.iconst 1, 1) := dk_4 (dk_at dksX5_isSign_0 16 rfl rfl)
theorem dX5_isSign_17 : decode cX5_isSign 17 = .ok (.goto 4, 3) := dk_167 0 4 (dk_at dksX5_isSign_0 17 rfl rfl)
theorem dX5_isSign_20 : decode cX5_isSign 20 = .ok (.iconst 0, 1) := dk_3 (dk_at dksX5_isSign_0 20 rfl rfl)
theorem dX5_isSign_21 : decode cX5_isSign 21 = .ok (.ireturn, 1) := dk_172 (dk_at dksX5_isSign_0 21 rfl rfl)
abbrev cX5_test : ByteArray := prog_19_method_17_code
def yX5_test : MethodName := ⟨RX5, "test", "()LKilnBench$Test;"⟩
def dkwX5_test_2 : List UInt8 := [87, 167, 255, 235, 44, 176]
abbrev dktX5_test_2 : List UInt8 := dkwX5_test_2 ++ []
def dkwX5_test_1 : List UInt8 := [183, 0, 134, 77, 42, 18, 130, 182, 0, 106, 153, 0, 18, 44, 180, 0, 137, 42, 182, 0, 126, 182, 0, 141]
abbrev dktX5_test_1 : List UInt8 := dkwX5_test_1 ++ dktX5_test_2
def dkwX5_test_0 : List UInt8 := [42, 182, 0, 126, 76, 42, 18, 130, 182, 0, 96, 154, 0, 5, 43, 176, 187, 0, 132, 89, 3, 43]
abbrev dktX5_test_0 : List UInt8 := dkwX5_test_0 ++ dktX5_test_1
theorem dksX5_test_0 : cX5_test.data.toList.drop 0 = dktX5_test_0 := by decide +kernel
theorem dksX5_test_1 : cX5_test.data.toList.drop 22 = dktX5_test_1 := dk_seg dksX5_test_0 22 rfl rfl
theorem dksX5_test_2 : cX5_test.data.toList.drop 46 = dktX5_test_2 := dk_seg dksX5_test_1 24 rfl rfl
theorem dX5_test_0 : decode cX5_test 0 = .ok (.aload_n 0, 1) := dk_42 (dk_at dksX5_test_0 0 rfl rfl)
theorem dX5_test_1 : decode cX5_test 1 = .ok (.invokevirtual 126, 3) := dk_182 0 126 (dk_at dksX5_test_0 1 rfl rfl)
theorem dX5_test_4 : decode cX5_test 4 = .ok (.astore_n 1, 1) := dk_76 (dk_at dksX5_test_0 4 rfl rfl)
theorem dX5_test_5 : decode cX5_test 5 = .ok (.aload_n 0, 1) := dk_42 (dk_at dksX5_test_0 5 rfl rfl)
theorem dX5_test_6 : decode cX5_test 6 = .ok (.ldc 130, 2) := dk_18 130 (dk_at dksX5_test_0 6 rfl rfl)
theorem dX5_test_8 : decode cX5_test 8 = .ok (.invokevirtual 96, 3) := dk_182 0 96 (dk_at dksX5_test_0 8 rfl rfl)
theorem dX5_test_11 : decode cX5_test 11 = .ok (.ifCond .ne 5, 3) := dk_154 0 5 (dk_at dksX5_test_0 11 rfl rfl)
theorem dX5_test_14 : decode cX5_test 14 = .ok (.aload_n 1, 1) := dk_43 (dk_at dksX5_test_0 14 rfl rfl)
theorem dX5_test_15 : decode cX5_test 15 = .ok (.areturn, 1) := dk_176 (dk_at dksX5_test_0 15 rfl rfl)
theorem dX5_test_16 : decode cX5_test 16 = .ok (.new 132, 3) := dk_187 0 132 (dk_at dksX5_test_0 16 rfl rfl)
theorem dX5_test_19 : decode cX5_test 19 = .ok (.dup, 1) := dk_89 (dk_at dksX5_test_0 19 rfl rfl)
theorem dX5_test_20 : decode cX5_test 20 = .ok (.iconst 0, 1) := dk_3 (dk_at dksX5_test_0 20 rfl rfl)
theorem dX5_test_21 : decode cX5_test 21 = .ok (.aload_n 1, 1) := dk_43 (dk_at dksX5_test_0 21 rfl rfl)
theorem dX5_test_22 : decode cX5_test 22 = .ok (.invokespecial 134, 3) := dk_183 0 134 (dk_at dksX5_test_1 0 rfl rfl)
theorem dX5_test_25 : decode cX5_test 25 = .ok (.astore_n 2, 1) := dk_77 (dk_at dksX5_test_1 3 rfl rfl)
theorem dX5_test_26 : decode cX5_test 26 = .ok (.aload_n 0, 1) := dk_42 (dk_at dksX5_test_1 4 rfl rfl)
theorem dX5_test_27 : decode cX5_test 27 = .ok (.ldc 130, 2) := dk_18 130 (dk_at dksX5_test_1 5 rfl rfl)
theorem dX5_test_29 : decode cX5_test 29 = .ok (.invokevirtual 106, 3) := dk_182 0 106 (dk_at dksX5_test_1 7 rfl rfl)
theorem dX5_test_32 : decode cX5_test 32 = .ok (.ifCond .eq 18, 3) := dk_153 0 18 (dk_at dksX5_test_1 10 rfl rfl)
theorem dX5_test_35 : decode cX5_test 35 = .ok (.aload_n 2, 1) := dk_44 (dk_at dksX5_test_1 13 rfl rfl)
theorem dX5_test_36 : decode cX5_test 36 = .ok (.getfield 137, 3) := dk_180 0 137 (dk_at dksX5_test_1 14 rfl rfl)
theorem dX5_test_39 : decode cX5_test 39 = .ok (.aload_n 0, 1) := dk_42 (dk_at dksX5_test_1 17 rfl rfl)
theorem dX5_test_40 : decode cX5_test 40 = .ok (.invokevirtual 126, 3) := dk_182 0 126 (dk_at dksX5_test_1 18 rfl rfl)
theorem dX5_test_43 : decode cX5_test 43 = .ok (.invokevirtual 141, 3) := dk_182 0 141 (dk_at dksX5_test_1 21 rfl rfl)
theorem dX5_test_46 : decode cX5_test 46 = .ok (.pop, 1) := dk_87 (dk_at dksX5_test_2 0 rfl rfl)
theorem dX5_test_47 : decode cX5_test 47 = .ok (.goto (-21), 3) := dk_167 255 235 (dk_at dksX5_test_2 1 rfl rfl)
theorem dX5_test_50 : decode cX5_test 50 = .ok (.aload_n 2, 1) := dk_44 (dk_at dksX5_test_2 4 rfl rfl)
theorem dX5_test_51 : decode cX5_test 51 = .ok (.areturn, 1) := dk_176 (dk_at dksX5_test_2 5 rfl rfl)
abbrev cX5_both : ByteArray := prog_19_method_18_code
def yX5_both : MethodName := ⟨RX5, "both", "()LKilnBench$Test;"⟩
def dkwX5_both_2 : List UInt8 := [87, 167, 255, 235, 44, 176]
abbrev dktX5_both_2 : List UInt8 := dkwX5_both_2 ++ []
def dkwX5_both_1 : List UInt8 := [183, 0, 134, 77, 42, 18, 149, 182, 0, 106, 153, 0, 18, 44, 180, 0, 137, 42, 182, 0, 146, 182, 0, 141]
abbrev dktX5_both_1 : List UInt8 := dkwX5_both_1 ++ dktX5_both_2
def dkwX5_both_0 : List UInt8 := [42, 182, 0, 146, 76, 42, 18, 149, 182, 0, 96, 154, 0, 5, 43, 176, 187, 0, 132, 89, 4, 43]
abbrev dktX5_both_0 : List UInt8 := dkwX5_both_0 ++ dktX5_both_1
theorem dksX5_both_0 : cX5_both.data.toList.drop 0 = dktX5_both_0 := by decide +kernel
theorem dksX5_both_1 : cX5_both.data.toList.drop 22 = dktX5_both_1 := dk_seg dksX5_both_0 22 rfl rfl
theorem dksX5_both_2 : cX5_both.data.toList.drop 46 = dktX5_both_2 := dk_seg dksX5_both_1 24 rfl rfl
theorem dX5_both_0 : decode cX5_both 0 = .ok (.aload_n 0, 1) := dk_42 (dk_at dksX5_both_0 0 rfl rfl)
theorem dX5_both_1 : decode cX5_both 1 = .ok (.invokevirtual 146, 3) := dk_182 0 146 (dk_at dksX5_both_0 1 rfl rfl)
theorem dX5_both_4 : decode cX5_both 4 = .ok (.astore_n 1, 1) := dk_76 (dk_at dksX5_both_0 4 rfl rfl)
theorem dX5_both_5 : decode cX5_both 5 = .ok (.aload_n 0, 1) := dk_42 (dk_at dksX5_both_0 5 rfl rfl)
theorem dX5_both_6 : decode cX5_both 6 = .ok (.ldc 149, 2) := dk_18 149 (dk_at dksX5_both_0 6 rfl rfl)
theorem dX5_both_8 : decode cX5_both 8 = .ok (.invokevirtual 96, 3) := dk_182 0 96 (dk_at dksX5_both_0 8 rfl rfl)
theorem dX5_both_11 : decode cX5_both 11 = .ok (.ifCond .ne 5, 3) := dk_154 0 5 (dk_at dksX5_both_0 11 rfl rfl)
theorem dX5_both_14 : decode cX5_both 14 = .ok (.aload_n 1, 1) := dk_43 (dk_at dksX5_both_0 14 rfl rfl)
theorem dX5_both_15 : decode cX5_both 15 = .ok (.areturn, 1) := dk_176 (dk_at dksX5_both_0 15 rfl rfl)
theorem dX5_both_16 : decode cX5_both 16 = .ok (.new 132, 3) := dk_187 0 132 (dk_at dksX5_both_0 16 rfl rfl)
theorem dX5_both_19 : decode cX5_both 19 = .ok (.dup, 1) := dk_89 (dk_at dksX5_both_0 19 rfl rfl)
theorem dX5_both_20 : decode cX5_both 20 = .ok (.iconst 1, 1) := dk_4 (dk_at dksX5_both_0 20 rfl rfl)
theorem dX5_both_21 : decode cX5_both 21 = .ok (.aload_n 1, 1) := dk_43 (dk_at dksX5_both_0 21 rfl rfl)
theorem dX5_both_22 : decode cX5_both 22 = .ok (.invokespecial 134, 3) := dk_183 0 134 (dk_at dksX5_both_1 0 rfl rfl)
theorem dX5_both_25 : decode cX5_both 25 = .ok (.astore_n 2, 1) := dk_77 (dk_at dksX5_both_1 3 rfl rfl)
theorem dX5_both_26 : decode cX5_both 26 = .ok (.aload_n 0, 1) := dk_42 (dk_at dksX5_both_1 4 rfl rfl)
theorem dX5_both_27 : decode cX5_both 27 = .ok (.ldc 149, 2) := dk_18 149 (dk_at dksX5_both_1 5 rfl rfl)
theorem dX5_both_29 : decode cX5_both 29 = .ok (.invokevirtual 106, 3) := dk_182 0 106 (dk_at dksX5_both_1 7 rfl rfl)
theorem dX5_both_32 : decode cX5_both 32 = .ok (.ifCond .eq 18, 3) := dk_153 0 18 (dk_at dksX5_both_1 10 rfl rfl)
theorem dX5_both_35 : decode cX5_both 35 = .ok (.aload_n 2, 1) := dk_44 (dk_at dksX5_both_1 13 rfl rfl)
theorem dX5_both_36 : decode cX5_both 36 = .ok (.getfield 137, 3) := dk_180 0 137 (dk_at dksX5_both_1 14 rfl rfl)
theorem dX5_both_39 : decode cX5_both 39 = .ok (.aload_n 0, 1) := dk_42 (dk_at dksX5_both_1 17 rfl rfl)
theorem dX5_both_40 : decode cX5_both 40 = .ok (.invokevirtual 146, 3) := dk_182 0 146 (dk_at dksX5_both_1 18 rfl rfl)
theorem dX5_both_43 : decode cX5_both 43 = .ok (.invokevirtual 141, 3) := dk_182 0 141 (dk_at dksX5_both_1 21 rfl rfl)
theorem dX5_both_46 : decode cX5_both 46 = .ok (.pop, 1) := dk_87 (dk_at dksX5_both_2 0 rfl rfl)
theorem dX5_both_47 : decode cX5_both 47 = .ok (.goto (-21), 3) := dk_167 255 235 (dk_at dksX5_both_2 1 rfl rfl)
theorem dX5_both_50 : decode cX5_both 50 = .ok (.aload_n 2, 1) := dk_44 (dk_at dksX5_both_2 4 rfl rfl)
theorem dX5_both_51 : decode cX5_both 51 = .ok (.areturn, 1) := dk_176 (dk_at dksX5_both_2 5 rfl rfl)
abbrev cX5_fact : ByteArray := prog_19_method_19_code
def yX5_fact : MethodName := ⟨RX5, "fact", "()LKilnBench$Test;"⟩
def dkwX5_fact_4 : List UInt8 := [185, 0, 159, 1, 0, 167, 0, 4, 44, 176]
abbrev dktX5_fact_4 : List UInt8 := dkwX5_fact_4 ++ []
def dkwX5_fact_3 : List UInt8 := [182, 0, 156, 77, 42, 89, 180, 0, 119, 27, 100, 181, 0, 119, 27, 5, 112, 4, 160, 0, 12, 44]
abbrev dktX5_fact_3 : List UInt8 := dkwX5_fact_3 ++ dktX5_fact_4
def dkwX5_fact_2 : List UInt8 := [181, 0, 29, 167, 255, 207, 42, 16, 91, 182, 0, 93, 153, 0, 10, 42, 182, 0, 153, 167, 0, 7, 42]
abbrev dktX5_fact_2 : List UInt8 := dkwX5_fact_2 ++ dktX5_fact_3
def dkwX5_fact_1 : List UInt8 := [8, 42, 180, 0, 43, 183, 0, 59, 191, 42, 89, 180, 0, 119, 4, 96, 181, 0, 119, 132, 1, 1, 42, 3]
abbrev dktX5_fact_1 : List UInt8 := dkwX5_fact_1 ++ dktX5_fact_2
def dkwX5_fact_0 : List UInt8 := [3, 60, 42, 18, 151, 182, 0, 96, 153, 0, 46, 42, 180, 0, 119, 16, 7, 160, 0, 16, 187, 0, 57, 89]
abbrev dktX5_fact_0 : List UInt8 := dkwX5_fact_0 ++ dktX5_fact_1
theorem dksX5_fact_0 : cX5_fact.data.toList.drop 0 = dktX5_fact_0 := by decide +kernel
theorem dksX5_fact_1 : cX5_fact.data.toList.drop 24 = dktX5_fact_1 := dk_seg dksX5_fact_0 24 rfl rfl
theorem dksX5_fact_2 : cX5_fact.data.toList.drop 48 = dktX5_fact_2 := dk_seg dksX5_fact_1 24 rfl rfl
theorem dksX5_fact_3 : cX5_fact.data.toList.drop 71 = dktX5_fact_3 := dk_seg dksX5_fact_2 23 rfl rfl
theorem dksX5_fact_4 : cX5_fact.data.toList.drop 93 = dktX5_fact_4 := dk_seg dksX5_fact_3 22 rfl rfl
theorem dX5_fact_0 : decode cX5_fact 0 = .ok (.iconst 0, 1) := dk_3 (dk_at dksX5_fact_0 0 rfl rfl)
theorem dX5_fact_1 : decode cX5_fact 1 = .ok (.istore_n 1, 1) := dk_60 (dk_at dksX5_fact_0 1 rfl rfl)
theorem dX5_fact_2 : decode cX5_fact 2 = .ok (.aload_n 0, 1) := dk_42 (dk_at dksX5_fact_0 2 rfl rfl)
theorem dX5_fact_3 : decode cX5_fact 3 = .ok (.ldc 151, 2) := dk_18 151 (dk_at dksX5_fact_0 3 rfl rfl)
theorem dX5_fact_5 : decode cX5_fact 5 = .ok (.invokevirtual 96, 3) := dk_182 0 96 (dk_at dksX5_fact_0 5 rfl rfl)
theorem dX5_fact_8 : decode cX5_fact 8 = .ok (.ifCond .eq 46, 3) := dk_153 0 46 (dk_at dksX5_fact_0 8 rfl rfl)
theorem dX5_fact_11 : decode cX5_fact 11 = .ok (.aload_n 0, 1) := dk_42 (dk_at dksX5_fact_0 11 rfl rfl)
theorem dX5_fact_12 : decode cX5_fact 12 = .ok (.getfield 119, 3) := dk_180 0 119 (dk_at dksX5_fact_0 12 rfl rfl)
theorem dX5_fact_15 : decode cX5_fact 15 = .ok (.bipush 7, 2) := dk_16 7 (dk_at dksX5_fact_0 15 rfl rfl)
theorem dX5_fact_17 : decode cX5_fact 17 = .ok (.if_icmp .ne 16, 3) := dk_160 0 16 (dk_at dksX5_fact_0 17 rfl rfl)
theorem dX5_fact_20 : decode cX5_fact 20 = .ok (.new 57, 3) := dk_187 0 57 (dk_at dksX5_fact_0 20 rfl rfl)
theorem dX5_fact_23 : decode cX5_fact 23 = .ok (.dup, 1) := dk_89 (dk_at dksX5_fact_0 23 rfl rfl)
theorem dX5_fact_24 : decode cX5_fact 24 = .ok (.iconst 5, 1) := dk_8 (dk_at dksX5_fact_1 0 rfl rfl)
theorem dX5_fact_25 : decode cX5_fact 25 = .ok (.aload_n 0, 1) := dk_42 (dk_at dksX5_fact_1 1 rfl rfl)
theorem dX5_fact_26 : decode cX5_fact 26 = .ok (.getfield 43, 3) := dk_180 0 43 (dk_at dksX5_fact_1 2 rfl rfl)
theorem dX5_fact_29 : decode cX5_fact 29 = .ok (.invokespecial 59, 3) := dk_183 0 59 (dk_at dksX5_fact_1 5 rfl rfl)
theorem dX5_fact_32 : decode cX5_fact 32 = .ok (.athrow, 1) := dk_191 (dk_at dksX5_fact_1 8 rfl rfl)
theorem dX5_fact_33 : decode cX5_fact 33 = .ok (.aload_n 0, 1) := dk_42 (dk_at dksX5_fact_1 9 rfl rfl)
theorem dX5_fact_34 : decode cX5_fact 34 = .ok (.dup, 1) := dk_89 (dk_at dksX5_fact_1 10 rfl rfl)
theorem dX5_fact_35 : decode cX5_fact 35 = .ok (.getfield 119, 3) := dk_180 0 119 (dk_at dksX5_fact_1 11 rfl rfl)
theorem dX5_fact_38 : decode cX5_fact 38 = .ok (.iconst 1, 1) := dk_4 (dk_at dksX5_fact_1 14 rfl rfl)
theorem dX5_fact_39 : decode cX5_fact 39 = .ok (.iadd, 1) := dk_96 (dk_at dksX5_fact_1 15 rfl rfl)
theorem dX5_fact_40 : decode cX5_fact 40 = .ok (.putfield 119, 3) := dk_181 0 119 (dk_at dksX5_fact_1 16 rfl rfl)
theorem dX5_fact_43 : decode cX5_fact 43 = .ok (.iinc 1 1, 3) := dk_132 1 1 (dk_at dksX5_fact_1 19 rfl rfl)
theorem dX5_fact_46 : decode cX5_fact 46 = .ok (.aload_n 0, 1) := dk_42 (dk_at dksX5_fact_1 22 rfl rfl)
theorem dX5_fact_47 : decode cX5_fact 47 = .ok (.iconst 0, 1) := dk_3 (dk_at dksX5_fact_1 23 rfl rfl)
theorem dX5_fact_48 : decode cX5_fact 48 = .ok (.putfield 29, 3) := dk_181 0 29 (dk_at dksX5_fact_2 0 rfl rfl)
theorem dX5_fact_51 : decode cX5_fact 51 = .ok (.goto (-49), 3) := dk_167 255 207 (dk_at dksX5_fact_2 3 rfl rfl)
theorem dX5_fact_54 : decode cX5_fact 54 = .ok (.aload_n 0, 1) := dk_42 (dk_at dksX5_fact_2 6 rfl rfl)
theorem dX5_fact_55 : decode cX5_fact 55 = .ok (.bipush 91, 2) := dk_16 91 (dk_at dksX5_fact_2 7 rfl rfl)
theorem dX5_fact_57 : decode cX5_fact 57 = .ok (.invokevirtual 93, 3) := dk_182 0 93 (dk_at dksX5_fact_2 9 rfl rfl)
theorem dX5_fact_60 : decode cX5_fact 60 = .ok (.ifCond .eq 10, 3) := dk_153 0 10 (dk_at dksX5_fact_2 12 rfl rfl)
theorem dX5_fact_63 : decode cX5_fact 63 = .ok (.aload_n 0, 1) := dk_42 (dk_at dksX5_fact_2 15 rfl rfl)
theorem dX5_fact_64 : decode cX5_fact 64 = .ok (.invokevirtual 153, 3) := dk_182 0 153 (dk_at dksX5_fact_2 16 rfl rfl)
theorem dX5_fact_67 : decode cX5_fact 67 = .ok (.goto 7, 3) := dk_167 0 7 (dk_at dksX5_fact_2 19 rfl rfl)
theorem dX5_fact_70 : decode cX5_fact 70 = .ok (.aload_n 0, 1) := dk_42 (dk_at dksX5_fact_2 22 rfl rfl)
theorem dX5_fact_71 : decode cX5_fact 71 = .ok (.invokevirtual 156, 3) := dk_182 0 156 (dk_at dksX5_fact_3 0 rfl rfl)
theorem dX5_fact_74 : decode cX5_fact 74 = .ok (.astore_n 2, 1) := dk_77 (dk_at dksX5_fact_3 3 rfl rfl)
theorem dX5_fact_75 : decode cX5_fact 75 = .ok (.aload_n 0, 1) := dk_42 (dk_at dksX5_fact_3 4 rfl rfl)
theorem dX5_fact_76 : decode cX5_fact 76 = .ok (.dup, 1) := dk_89 (dk_at dksX5_fact_3 5 rfl rfl)
theorem dX5_fact_77 : decode cX5_fact 77 = .ok (.getfield 119, 3) := dk_180 0 119 (dk_at dksX5_fact_3 6 rfl rfl)
theorem dX5_fact_80 : decode cX5_fact 80 = .ok (.iload_n 1, 1) := dk_27 (dk_at dksX5_fact_3 9 rfl rfl)
theorem dX5_fact_81 : decode cX5_fact 81 = .ok (.isub, 1) := dk_100 (dk_at dksX5_fact_3 10 rfl rfl)
theorem dX5_fact_82 : decode cX5_fact 82 = .ok (.putfield 119, 3) := dk_181 0 119 (dk_at dksX5_fact_3 11 rfl rfl)
theorem dX5_fact_85 : decode cX5_fact 85 = .ok (.iload_n 1, 1) := dk_27 (dk_at dksX5_fact_3 14 rfl rfl)
theorem dX5_fact_86 : decode cX5_fact 86 = .ok (.iconst 2, 1) := dk_5 (dk_at dksX5_fact_3 15 rfl rfl)
theorem dX5_fact_87 : decode cX5_fact 87 = .ok (.irem, 1) := dk_112 (dk_at dksX5_fact_3 16 rfl rfl)
theorem dX5_fact_88 : decode cX5_fact 88 = .ok (.iconst 1, 1) := dk_4 (dk_at dksX5_fact_3 17 rfl rfl)
theorem dX5_fact_89 : decode cX5_fact 89 = .ok (.if_icmp .ne 12, 3) := dk_160 0 12 (dk_at dksX5_fact_3 18 rfl rfl)
theorem dX5_fact_92 : decode cX5_fact 92 = .ok (.aload_n 2, 1) := dk_44 (dk_at dksX5_fact_3 21 rfl rfl)
theorem dX5_fact_93 : decode cX5_fact 93 = .ok (.invokeinterface 159 1, 5) := by decide +kernel
theorem dX5_fact_98 : decode cX5_fact 98 = .ok (.goto 4, 3) := dk_167 0 4 (dk_at dksX5_fact_4 5 rfl rfl)
theorem dX5_fact_101 : decode cX5_fact 101 = .ok (.aload_n 2, 1) := dk_44 (dk_at dksX5_fact_4 8 rfl rfl)
theorem dX5_fact_102 : decode cX5_fact 102 = .ok (.areturn, 1) := dk_176 (dk_at dksX5_fact_4 9 rfl rfl)
abbrev cX5_inner : ByteArray := prog_19_method_20_code
def yX5_inner : MethodName := ⟨RX5, "inner", "()LKilnBench$Test;"⟩
def dkwX5_inner_0 : List UInt8 := [42, 16, 91, 182, 0, 163, 42, 182, 0, 166, 76, 42, 16, 93, 182, 0, 169, 43, 176]
abbrev dktX5_inner_0 : List UInt8 := dkwX5_inner_0 ++ []
theorem dksX5_inner_0 : cX5_inner.data.toList.drop 0 = dktX5_inner_0 := by decide +kernel
theorem dX5_inner_0 : decode cX5_inner 0 = .ok (.aload_n 0, 1) := dk_42 (dk_at dksX5_inner_0 0 rfl rfl)
theorem dX5_inner_1 : decode cX5_inner 1 = .ok (.bipush 91, 2) := dk_16 91 (dk_at dksX5_inner_0 1 rfl rfl)
theorem dX5_inner_3 : decode cX5_inner 3 = .ok (.invokevirtual 163, 3) := dk_182 0 163 (dk_at dksX5_inner_0 3 rfl rfl)
theorem dX5_inner_6 : decode cX5_inner 6 = .ok (.aload_n 0, 1) := dk_42 (dk_at dksX5_inner_0 6 rfl rfl)
theorem dX5_inner_7 : decode cX5_inner 7 = .ok (.invokevirtual 166, 3) := dk_182 0 166 (dk_at dksX5_inner_0 7 rfl rfl)
theorem dX5_inner_10 : decode cX5_inner 10 = .ok (.astore_n 1, 1) := dk_76 (dk_at dksX5_inner_0 10 rfl rfl)
theorem dX5_inner_11 : decode cX5_inner 11 = .ok (.aload_n 0, 1) := dk_42 (dk_at dksX5_inner_0 11 rfl rfl)
theorem dX5_inner_12 : decode cX5_inner 12 = .ok (.bipush 93, 2) := dk_16 93 (dk_at dksX5_inner_0 12 rfl rfl)
theorem dX5_inner_14 : decode cX5_inner 14 = .ok (.invokevirtual 169, 3) := dk_182 0 169 (dk_at dksX5_inner_0 14 rfl rfl)
theorem dX5_inner_17 : decode cX5_inner 17 = .ok (.aload_n 1, 1) := dk_43 (dk_at dksX5_inner_0 17 rfl rfl)
theorem dX5_inner_18 : decode cX5_inner 18 = .ok (.areturn, 1) := dk_176 (dk_at dksX5_inner_0 18 rfl rfl)
abbrev cX5_closes : ByteArray := prog_19_method_16_code
def yX5_closes : MethodName := ⟨RX5, "closes", "(C)V"⟩
def dkwX5_closes_0 : List UInt8 := [42, 27, 182, 0, 122, 42, 89, 180, 0, 119, 4, 100, 181, 0, 119, 177]
abbrev dktX5_closes_0 : List UInt8 := dkwX5_closes_0 ++ []
theorem dksX5_closes_0 : cX5_closes.data.toList.drop 0 = dktX5_closes_0 := by decide +kernel
theorem dX5_closes_0 : decode cX5_closes 0 = .ok (.aload_n 0, 1) := dk_42 (dk_at dksX5_closes_0 0 rfl rfl)
theorem dX5_closes_1 : decode cX5_closes 1 = .ok (.iload_n 1, 1) := dk_27 (dk_at dksX5_closes_0 1 rfl rfl)
theorem dX5_closes_2 : decode cX5_closes 2 = .ok (.invokevirtual 122, 3) := dk_182 0 122 (dk_at dksX5_closes_0 2 rfl rfl)
theorem dX5_closes_5 : decode cX5_closes 5 = .ok (.aload_n 0, 1) := dk_42 (dk_at dksX5_closes_0 5 rfl rfl)
theorem dX5_closes_6 : decode cX5_closes 6 = .ok (.dup, 1) := dk_89 (dk_at dksX5_closes_0 6 rfl rfl)
theorem dX5_closes_7 : decode cX5_closes 7 = .ok (.getfield 119, 3) := dk_180 0 119 (dk_at dksX5_closes_0 7 rfl rfl)
theorem dX5_closes_10 : decode cX5_closes 10 = .ok (.iconst 1, 1) := dk_4 (dk_at dksX5_closes_0 10 rfl rfl)
theorem dX5_closes_11 : decode cX5_closes 11 = .ok (.isub, 1) := dk_100 (dk_at dksX5_closes_0 11 rfl rfl)
theorem dX5_closes_12 : decode cX5_closes 12 = .ok (.putfield 119, 3) := dk_181 0 119 (dk_at dksX5_closes_0 12 rfl rfl)
theorem dX5_closes_15 : decode cX5_closes 15 = .ok (.return_, 1) := dk_177 (dk_at dksX5_closes_0 15 rfl rfl)
abbrev cX5_asks_2 : ByteArray := prog_19_method_10_code
def yX5_asks_2 : MethodName := ⟨RX5, "asks", "(C)V"⟩
def dkwX5_asks_2_0 : List UInt8 := [42, 27, 182, 0, 99, 154, 0, 8, 42, 182, 0, 102, 191, 177]
abbrev dktX5_asks_2_0 : List UInt8 := dkwX5_asks_2_0 ++ []
theorem dksX5_asks_2_0 : cX5_asks_2.data.toList.drop 0 = dktX5_asks_2_0 := by decide +kernel
theorem dX5_asks_2_0 : decode cX5_asks_2 0 = .ok (.aload_n 0, 1) := dk_42 (dk_at dksX5_asks_2_0 0 rfl rfl)
theorem dX5_asks_2_1 : decode cX5_asks_2 1 = .ok (.iload_n 1, 1) := dk_27 (dk_at dksX5_asks_2_0 1 rfl rfl)
theorem dX5_asks_2_2 : decode cX5_asks_2 2 = .ok (.invokevirtual 99, 3) := dk_182 0 99 (dk_at dksX5_asks_2_0 2 rfl rfl)
theorem dX5_asks_2_5 : decode cX5_asks_2 5 = .ok (.ifCond .ne 8, 3) := dk_154 0 8 (dk_at dksX5_asks_2_0 5 rfl rfl)
theorem dX5_asks_2_8 : decode cX5_asks_2 8 = .ok (.aload_n 0, 1) := dk_42 (dk_at dksX5_asks_2_0 8 rfl rfl)
theorem dX5_asks_2_9 : decode cX5_asks_2 9 = .ok (.invokevirtual 102, 3) := dk_182 0 102 (dk_at dksX5_asks_2_0 9 rfl rfl)
theorem dX5_asks_2_12 : decode cX5_asks_2 12 = .ok (.athrow, 1) := dk_191 (dk_at dksX5_asks_2_0 12 rfl rfl)
theorem dX5_asks_2_13 : decode cX5_asks_2 13 = .ok (.return_, 1) := dk_177 (dk_at dksX5_asks_2_0 13 rfl rfl)
abbrev cX5_takes_2 : ByteArray := prog_19_method_8_code
def yX5_takes_2 : MethodName := ⟨RX5, "takes", "(C)Z"⟩
def dkwX5_takes_2_0 : List UInt8 := [42, 27, 182, 0, 93, 154, 0, 5, 3, 172, 42, 3, 181, 0, 29, 4, 172]
abbrev dktX5_takes_2_0 : List UInt8 := dkwX5_takes_2_0 ++ []
theorem dksX5_takes_2_0 : cX5_takes_2.data.toList.drop 0 = dktX5_takes_2_0 := by decide +kernel
theorem dX5_takes_2_0 : decode cX5_takes_2 0 = .ok (.aload_n 0, 1) := dk_42 (dk_at dksX5_takes_2_0 0 rfl rfl)
theorem dX5_takes_2_1 : decode cX5_takes_2 1 = .ok (.iload_n 1, 1) := dk_27 (dk_at dksX5_takes_2_0 1 rfl rfl)
theorem dX5_takes_2_2 : decode cX5_takes_2 2 = .ok (.invokevirtual 93, 3) := dk_182 0 93 (dk_at dksX5_takes_2_0 2 rfl rfl)
theorem dX5_takes_2_5 : decode cX5_takes_2 5 = .ok (.ifCond .ne 5, 3) := dk_154 0 5 (dk_at dksX5_takes_2_0 5 rfl rfl)
theorem dX5_takes_2_8 : decode cX5_takes_2 8 = .ok (.iconst 0, 1) := dk_3 (dk_at dksX5_takes_2_0 8 rfl rfl)
theorem dX5_takes_2_9 : decode cX5_takes_2 9 = .ok (.ireturn, 1) := dk_172 (dk_at dksX5_takes_2_0 9 rfl rfl)
theorem dX5_takes_2_10 : decode cX5_takes_2 10 = .ok (.aload_n 0, 1) := dk_42 (dk_at dksX5_takes_2_0 10 rfl rfl)
theorem dX5_takes_2_11 : decode cX5_takes_2 11 = .ok (.iconst 0, 1) := dk_3 (dk_at dksX5_takes_2_0 11 rfl rfl)
theorem dX5_takes_2_12 : decode cX5_takes_2 12 = .ok (.putfield 29, 3) := dk_181 0 29 (dk_at dksX5_takes_2_0 12 rfl rfl)
theorem dX5_takes_2_15 : decode cX5_takes_2 15 = .ok (.iconst 1, 1) := dk_4 (dk_at dksX5_takes_2_0 15 rfl rfl)
theorem dX5_takes_2_16 : decode cX5_takes_2 16 = .ok (.ireturn, 1) := dk_172 (dk_at dksX5_takes_2_0 16 rfl rfl)
abbrev cX5_wordFact : ByteArray := prog_19_method_21_code
def yX5_wordFact : MethodName := ⟨RX5, "wordFact", "()LKilnBench$Test;"⟩
def dkwX5_wordFact_0 : List UInt8 := [42, 18, 172, 182, 0, 106, 153, 0, 13, 187, 0, 174, 89, 183, 0, 176, 167, 0, 7, 42, 182, 0, 177, 176]
abbrev dktX5_wordFact_0 : List UInt8 := dkwX5_wordFact_0 ++ []
theorem dksX5_wordFact_0 : cX5_wordFact.data.toList.drop 0 = dktX5_wordFact_0 := by decide +kernel
theorem dX5_wordFact_0 : decode cX5_wordFact 0 = .ok (.aload_n 0, 1) := dk_42 (dk_at dksX5_wordFact_0 0 rfl rfl)
theorem dX5_wordFact_1 : decode cX5_wordFact 1 = .ok (.ldc 172, 2) := dk_18 172 (dk_at dksX5_wordFact_0 1 rfl rfl)
theorem dX5_wordFact_3 : decode cX5_wordFact 3 = .ok (.invokevirtual 106, 3) := dk_182 0 106 (dk_at dksX5_wordFact_0 3 rfl rfl)
theorem dX5_wordFact_6 : decode cX5_wordFact 6 = .ok (.ifCond .eq 13, 3) := dk_153 0 13 (dk_at dksX5_wordFact_0 6 rfl rfl)
theorem dX5_wordFact_9 : decode cX5_wordFact 9 = .ok (.new 174, 3) := dk_187 0 174 (dk_at dksX5_wordFact_0 9 rfl rfl)
theorem dX5_wordFact_12 : decode cX5_wordFact 12 = .ok (.dup, 1) := dk_89 (dk_at dksX5_wordFact_0 12 rfl rfl)
theorem dX5_wordFact_13 : decode cX5_wordFact 13 = .ok (.invokespecial 176, 3) := dk_183 0 176 (dk_at dksX5_wordFact_0 13 rfl rfl)
theorem dX5_wordFact_16 : decode cX5_wordFact 16 = .ok (.goto 7, 3) := dk_167 0 7 (dk_at dksX5_wordFact_0 16 rfl rfl)
theorem dX5_wordFact_19 : decode cX5_wordFact 19 = .ok (.aload_n 0, 1) := dk_42 (dk_at dksX5_wordFact_0 19 rfl rfl)
theorem dX5_wordFact_20 : decode cX5_wordFact 20 = .ok (.invokevirtual 177, 3) := dk_182 0 177 (dk_at dksX5_wordFact_0 20 rfl rfl)
theorem dX5_wordFact_23 : decode cX5_wordFact 23 = .ok (.areturn, 1) := dk_176 (dk_at dksX5_wordFact_0 23 rfl rfl)
abbrev cX5_against : ByteArray := prog_19_method_22_code
def yX5_against : MethodName := ⟨RX5, "against", "()LKilnBench$Test;"⟩
def dkwX5_against_2 : List UInt8 := [187, 0, 184, 89, 28, 43, 42, 182, 0, 180, 183, 0, 186, 176]
abbrev dktX5_against_2 : List UInt8 := dkwX5_against_2 ++ []
def dkwX5_against_1 : List UInt8 := [16, 61, 182, 0, 93, 154, 0, 8, 42, 182, 0, 102, 191, 42, 180, 0, 53, 61, 42, 3, 181, 0, 29]
abbrev dktX5_against_1 : List UInt8 := dkwX5_against_1 ++ dktX5_against_2
def dkwX5_against_0 : List UInt8 := [42, 182, 0, 180, 76, 42, 16, 60, 182, 0, 93, 154, 0, 26, 42, 16, 62, 182, 0, 93, 154, 0, 17, 42]
abbrev dktX5_against_0 : List UInt8 := dkwX5_against_0 ++ dktX5_against_1
theorem dksX5_against_0 : cX5_against.data.toList.drop 0 = dktX5_against_0 := by decide +kernel
theorem dksX5_against_1 : cX5_against.data.toList.drop 24 = dktX5_against_1 := dk_seg dksX5_against_0 24 rfl rfl
theorem dksX5_against_2 : cX5_against.data.toList.drop 47 = dktX5_against_2 := dk_seg dksX5_against_1 23 rfl rfl
theorem dX5_against_0 : decode cX5_against 0 = .ok (.aload_n 0, 1) := dk_42 (dk_at dksX5_against_0 0 rfl rfl)
theorem dX5_against_1 : decode cX5_against 1 = .ok (.invokevirtual 180, 3) := dk_182 0 180 (dk_at dksX5_against_0 1 rfl rfl)
theorem dX5_against_4 : decode cX5_against 4 = .ok (.astore_n 1, 1) := dk_76 (dk_at dksX5_against_0 4 rfl rfl)
theorem dX5_against_5 : decode cX5_against 5 = .ok (.aload_n 0, 1) := dk_42 (dk_at dksX5_against_0 5 rfl rfl)
theorem dX5_against_6 : decode cX5_against 6 = .ok (.bipush 60, 2) := dk_16 60 (dk_at dksX5_against_0 6 rfl rfl)
theorem dX5_against_8 : decode cX5_against 8 = .ok (.invokevirtual 93, 3) := dk_182 0 93 (dk_at dksX5_against_0 8 rfl rfl)
theorem dX5_against_11 : decode cX5_against 11 = .ok (.ifCond .ne 26, 3) := dk_154 0 26 (dk_at dksX5_against_0 11 rfl rfl)
theorem dX5_against_14 : decode cX5_against 14 = .ok (.aload_n 0, 1) := dk_42 (dk_at dksX5_against_0 14 rfl rfl)
theorem dX5_against_15 : decode cX5_against 15 = .ok (.bipush 62, 2) := dk_16 62 (dk_at dksX5_against_0 15 rfl rfl)
theorem dX5_against_17 : decode cX5_against 17 = .ok (.invokevirtual 93, 3) := dk_182 0 93 (dk_at dksX5_against_0 17 rfl rfl)
theorem dX5_against_20 : decode cX5_against 20 = .ok (.ifCond .ne 17, 3) := dk_154 0 17 (dk_at dksX5_against_0 20 rfl rfl)
theorem dX5_against_23 : decode cX5_against 23 = .ok (.aload_n 0, 1) := dk_42 (dk_at dksX5_against_0 23 rfl rfl)
theorem dX5_against_24 : decode cX5_against 24 = .ok (.bipush 61, 2) := dk_16 61 (dk_at dksX5_against_1 0 rfl rfl)
theorem dX5_against_26 : decode cX5_against 26 = .ok (.invokevirtual 93, 3) := dk_182 0 93 (dk_at dksX5_against_1 2 rfl rfl)
theorem dX5_against_29 : decode cX5_against 29 = .ok (.ifCond .ne 8, 3) := dk_154 0 8 (dk_at dksX5_against_1 5 rfl rfl)
theorem dX5_against_32 : decode cX5_against 32 = .ok (.aload_n 0, 1) := dk_42 (dk_at dksX5_against_1 8 rfl rfl)
theorem dX5_against_33 : decode cX5_against 33 = .ok (.invokevirtual 102, 3) := dk_182 0 102 (dk_at dksX5_against_1 9 rfl rfl)
theorem dX5_against_36 : decode cX5_against 36 = .ok (.athrow, 1) := dk_191 (dk_at dksX5_against_1 12 rfl rfl)
theorem dX5_against_37 : decode cX5_against 37 = .ok (.aload_n 0, 1) := dk_42 (dk_at dksX5_against_1 13 rfl rfl)
theorem dX5_against_38 : decode cX5_against 38 = .ok (.getfield 53, 3) := dk_180 0 53 (dk_at dksX5_against_1 14 rfl rfl)
theorem dX5_against_41 : decode cX5_against 41 = .ok (.istore_n 2, 1) := dk_61 (dk_at dksX5_against_1 17 rfl rfl)
theorem dX5_against_42 : decode cX5_against 42 = .ok (.aload_n 0, 1) := dk_42 (dk_at dksX5_against_1 18 rfl rfl)
theorem dX5_against_43 : decode cX5_against 43 = .ok (.iconst 0, 1) := dk_3 (dk_at dksX5_against_1 19 rfl rfl)
theorem dX5_against_44 : decode cX5_against 44 = .ok (.putfield 29, 3) := dk_181 0 29 (dk_at dksX5_against_1 20 rfl rfl)
theorem dX5_against_47 : decode cX5_against 47 = .ok (.new 184, 3) := dk_187 0 184 (dk_at dksX5_against_2 0 rfl rfl)
theorem dX5_against_50 : decode cX5_against 50 = .ok (.dup, 1) := dk_89 (dk_at dksX5_against_2 3 rfl rfl)
theorem dX5_against_51 : decode cX5_against 51 = .ok (.iload_n 2, 1) := dk_28 (dk_at dksX5_against_2 4 rfl rfl)
theorem dX5_against_52 : decode cX5_against 52 = .ok (.aload_n 1, 1) := dk_43 (dk_at dksX5_against_2 5 rfl rfl)
theorem dX5_against_53 : decode cX5_against 53 = .ok (.aload_n 0, 1) := dk_42 (dk_at dksX5_against_2 6 rfl rfl)
theorem dX5_against_54 : decode cX5_against 54 = .ok (.invokevirtual 180, 3) := dk_182 0 180 (dk_at dksX5_against_2 7 rfl rfl)
theorem dX5_against_57 : decode cX5_against 57 = .ok (.invokespecial 186, 3) := dk_183 0 186 (dk_at dksX5_against_2 10 rfl rfl)
theorem dX5_against_60 : decode cX5_against 60 = .ok (.areturn, 1) := dk_176 (dk_at dksX5_against_2 13 rfl rfl)
abbrev cX5_isProduct : ByteArray := prog_19_method_24_code
def yX5_isProduct : MethodName := ⟨RX5, "isProduct", "()Z"⟩
def dkwX5_isProduct_1 : List UInt8 := [153, 0, 7, 4, 167, 0, 4, 3, 172]
abbrev dktX5_isProduct_1 : List UInt8 := dkwX5_isProduct_1 ++ []
def dkwX5_isProduct_0 : List UInt8 := [42, 16, 42, 182, 0, 93, 154, 0, 21, 42, 16, 47, 182, 0, 93, 154, 0, 12, 42, 16, 37, 182, 0, 93]
abbrev dktX5_isProduct_0 : List UInt8 := dkwX5_isProduct_0 ++ dktX5_isProduct_1
theorem dksX5_isProduct_0 : cX5_isProduct.data.toList.drop 0 = dktX5_isProduct_0 := by decide +kernel
theorem dksX5_isProduct_1 : cX5_isProduct.data.toList.drop 24 = dktX5_isProduct_1 := dk_seg dksX5_isProduct_0 24 rfl rfl
theorem dX5_isProduct_0 : decode cX5_isProduct 0 = .ok (.aload_n 0, 1) := dk_42 (dk_at dksX5_isProduct_0 0 rfl rfl)
theorem dX5_isProduct_1 : decode cX5_isProduct 1 = .ok (.bipush 42, 2) := dk_16 42 (dk_at dksX5_isProduct_0 1 rfl rfl)
theorem dX5_isProduct_3 : decode cX5_isProduct 3 = .ok (.invokevirtual 93, 3) := dk_182 0 93 (dk_at dksX5_isProduct_0 3 rfl rfl)
theorem dX5_isProduct_6 : decode cX5_isProduct 6 = .ok (.ifCond .ne 21, 3) := dk_154 0 21 (dk_at dksX5_isProduct_0 6 rfl rfl)
theorem dX5_isProduct_9 : decode cX5_isProduct 9 = .ok (.aload_n 0, 1) := dk_42 (dk_at dksX5_isProduct_0 9 rfl rfl)
theorem dX5_isProduct_10 : decode cX5_isProduct 10 = .ok (.bipush 47, 2) := dk_16 47 (dk_at dksX5_isProduct_0 10 rfl rfl)
theorem dX5_isProduct_12 : decode cX5_isProduct 12 = .ok (.invokevirtual 93, 3) := dk_182 0 93 (dk_at dksX5_isProduct_0 12 rfl rfl)
theorem dX5_isProduct_15 : decode cX5_isProduct 15 = .ok (.ifCond .ne 12, 3) := dk_154 0 12 (dk_at dksX5_isProduct_0 15 rfl rfl)
theorem dX5_isProduct_18 : decode cX5_isProduct 18 = .ok (.aload_n 0, 1) := dk_42 (dk_at dksX5_isProduct_0 18 rfl rfl)
theorem dX5_isProduct_19 : decode cX5_isProduct 19 = .ok (.bipush 37, 2) := dk_16 37 (dk_at dksX5_isProduct_0 19 rfl rfl)
theorem dX5_isProduct_21 : decode cX5_isProduct 21 = .ok (.invokevirtual 93, 3) := dk_182 0 93 (dk_at dksX5_isProduct_0 21 rfl rfl)
theorem dX5_isProduct_24 : decode cX5_isProduct 24 = .ok (.ifCond .eq 7, 3) := dk_153 0 7 (dk_at dksX5_isProduct_1 0 rfl rfl)
theorem dX5_isProduct_27 : decode cX5_isProduct 27 = .ok (.iconst 1, 1) := dk_4 (dk_at dksX5_isProduct_1 3 rfl rfl)
theorem dX5_isProduct_28 : decode cX5_isProduct 28 = .ok (.goto 4, 3) := dk_167 0 4 (dk_at dksX5_isProduct_1 4 rfl rfl)
theorem dX5_isProduct_31 : decode cX5_isProduct 31 = .ok (.iconst 0, 1) := dk_3 (dk_at dksX5_isProduct_1 7 rfl rfl)
theorem dX5_isProduct_32 : decode cX5_isProduct 32 = .ok (.ireturn, 1) := dk_172 (dk_at dksX5_isProduct_1 8 rfl rfl)
abbrev cX5_test_2 : ByteArray := prog_19_method_34_code
def yX5_test_2 : MethodName := ⟨RX5, "test", "(LKilnBench$Test;III)LKilnBench$Test;"⟩
def dkwX5_test_2_0 : List UInt8 := [42, 43, 28, 29, 21, 4, 182, 1, 31, 42, 182, 0, 166, 176]
abbrev dktX5_test_2_0 : List UInt8 := dkwX5_test_2_0 ++ []
theorem dksX5_test_2_0 : cX5_test_2.data.toList.drop 0 = dktX5_test_2_0 := by decide +kernel
theorem dX5_test_2_0 : decode cX5_test_2 0 = .ok (.aload_n 0, 1) := dk_42 (dk_at dksX5_test_2_0 0 rfl rfl)
theorem dX5_test_2_1 : decode cX5_test_2 1 = .ok (.aload_n 1, 1) := dk_43 (dk_at dksX5_test_2_0 1 rfl rfl)
theorem dX5_test_2_2 : decode cX5_test_2 2 = .ok (.iload_n 2, 1) := dk_28 (dk_at dksX5_test_2_0 2 rfl rfl)
theorem dX5_test_2_3 : decode cX5_test_2 3 = .ok (.iload_n 3, 1) := dk_29 (dk_at dksX5_test_2_0 3 rfl rfl)
theorem dX5_test_2_4 : decode cX5_test_2 4 = .ok (.iload 4, 2) := dk_21 4 (dk_at dksX5_test_2_0 4 rfl rfl)
theorem dX5_test_2_6 : decode cX5_test_2 6 = .ok (.invokevirtual 287, 3) := dk_182 1 31 (dk_at dksX5_test_2_0 6 rfl rfl)
theorem dX5_test_2_9 : decode cX5_test_2 9 = .ok (.aload_n 0, 1) := dk_42 (dk_at dksX5_test_2_0 9 rfl rfl)
theorem dX5_test_2_10 : decode cX5_test_2 10 = .ok (.invokevirtual 166, 3) := dk_182 0 166 (dk_at dksX5_test_2_0 10 rfl rfl)
theorem dX5_test_2_13 : decode cX5_test_2 13 = .ok (.areturn, 1) := dk_176 (dk_at dksX5_test_2_0 13 rfl rfl)
theorem q96 : (Jvm.Cond.initialized "KilnBench$Scan") ∈ lw_all := lw_g (lw_at lw_m1 20 rfl) rfl
theorem q162 : (Jvm.Cond.fieldLink "KilnBench$Scan" (328 : Nat) "KilnBench$Town" "fuel" "I") ∈ lw_all := lw_g (lw_at lw_m1 86 rfl) rfl
theorem q164 : (Jvm.Cond.fieldLink "KilnBench$Scan" (332 : Nat) "KilnBench$Town" "load" "I") ∈ lw_all := lw_g (lw_at lw_m1 88 rfl) rfl
theorem q166 : (Jvm.Cond.fieldLink "KilnBench$Scan" (336 : Nat) "KilnBench$Town" "wind" "I") ∈ lw_all := lw_g (lw_at lw_m1 90 rfl) rfl
theorem q168 : (Jvm.Cond.fieldLink "KilnBench$Scan" (291 : Nat) "KilnBench$Town" "statements" "I") ∈ lw_all := lw_g (lw_at lw_m1 92 rfl) rfl
theorem q170 : (Jvm.Cond.fieldLink "KilnBench$Scan" (304 : Nat) "KilnBench$Town" "temper" "LKilnBench$Sum;") ∈ lw_all := lw_g (lw_at lw_m1 94 rfl) rfl
theorem q172 : (Jvm.Cond.fieldLink "KilnBench$Scan" (324 : Nat) "KilnBench$Town" "burns" "LKilnBench$Sum;") ∈ lw_all := lw_g (lw_at lw_m1 96 rfl) rfl
theorem q174 : (Jvm.Cond.fieldLink "KilnBench$Scan" (312 : Nat) "KilnBench$Town" "cracks" "LKilnBench$Test;") ∈ lw_all := lw_g (lw_at lw_m1 98 rfl) rfl
theorem q176 : (Jvm.Cond.fieldLink "KilnBench$Scan" (320 : Nat) "KilnBench$Town" "sticks" "LKilnBench$Test;") ∈ lw_all := lw_g (lw_at lw_m1 100 rfl) rfl
theorem q182 : (Jvm.Cond.fieldLink "KilnBench$Scan" (252 : Nat) "KilnBench$Town" "children" "Ljava/util/ArrayList;") ∈ lw_all := lw_g (lw_at lw_m1 106 rfl) rfl
theorem q186 : (Jvm.Cond.fieldLink "KilnBench$Scan" (277 : Nat) "KilnBench$Town" "kilns" "Ljava/util/ArrayList;") ∈ lw_all := lw_g (lw_at lw_m1 110 rfl) rfl
theorem q224 : (Jvm.Cond.fieldLinkNest "KilnBench$Scan" (39 : Nat) "KilnBench" "tape" "[C" "KilnBench") ∈ lw_tbl := lw_at lw_m1 148 rfl
theorem q284 : (Jvm.Cond.instantiable "KilnBench$Scan" (14 : Nat)) ∈ lw_all := lw_g (lw_at lw_m1 208 rfl) rfl
theorem q286 : (Jvm.Cond.instanceMethod ({ cls := "KilnBench$Scan", name := "<init>", desc := "(LKilnBench;I)V" } : Jvm.MethodName)) ∈ lw_all := lw_g (lw_at lw_m1 210 rfl) rfl
theorem q287 : (Jvm.Cond.code ({ cls := "KilnBench$Scan", name := "<init>", desc := "(LKilnBench;I)V" } : Jvm.MethodName) prog_19_method_1_code (3 : Nat) (Option.none : Option Jvm.ClassFile.FieldType)) ∈ lw_all := lw_g (lw_at lw_m1 211 rfl) rfl
theorem q288 : (Jvm.Cond.methodLink "KilnBench$Scan" (9 : Nat) ({ cls := "java/lang/Object", name := "<init>", desc := "()V" } : Jvm.MethodName)) ∈ lw_all := lw_g (lw_at lw_m1 212 rfl) rfl
theorem q289 : (Jvm.Cond.classLink "KilnBench$Scan" (15 : Nat) "KilnBench$Town") ∈ lw_all := lw_g (lw_at lw_m1 213 rfl) rfl
theorem q290 : (Jvm.Cond.methodLinkNest "KilnBench$Scan" (17 : Nat) ({ cls := "KilnBench$Town", name := "<init>", desc := "()V" } : Jvm.MethodName) "KilnBench") ∈ lw_tbl := lw_at lw_m1 214 rfl
theorem q291 : (Jvm.Cond.fieldLink "KilnBench$Scan" (26 : Nat) "KilnBench$Scan" "size" "I") ∈ lw_all := lw_g (lw_at lw_m1 215 rfl) rfl
theorem q292 : (Jvm.Cond.fieldLink "KilnBench$Scan" (18 : Nat) "KilnBench$Scan" "h" "LKilnBench$Town;") ∈ lw_all := lw_g (lw_at lw_m1 216 rfl) rfl
theorem q293 : (Jvm.Cond.fieldLink "KilnBench$Scan" (228 : Nat) "KilnBench$Scan" "from" "I") ∈ lw_all := lw_g (lw_at lw_m1 217 rfl) rfl
theorem q294 : (Jvm.Cond.fieldLink "KilnBench$Scan" (231 : Nat) "KilnBench$Scan" "to" "I") ∈ lw_all := lw_g (lw_at lw_m1 218 rfl) rfl
theorem q295 : (Jvm.Cond.fieldLink "KilnBench$Scan" (36 : Nat) "KilnBench$Scan" "at" "I") ∈ lw_all := lw_g (lw_at lw_m1 219 rfl) rfl
theorem q296 : (Jvm.Cond.fieldLink "KilnBench$Scan" (22 : Nat) "KilnBench$Scan" "behind" "I") ∈ lw_all := lw_g (lw_at lw_m1 220 rfl) rfl
theorem q297 : (Jvm.Cond.fieldLink "KilnBench$Scan" (43 : Nat) "KilnBench$Scan" "place" "I") ∈ lw_all := lw_g (lw_at lw_m1 221 rfl) rfl
theorem q298 : (Jvm.Cond.fieldLink "KilnBench$Scan" (83 : Nat) "KilnBench$Scan" "number" "I") ∈ lw_all := lw_g (lw_at lw_m1 222 rfl) rfl
theorem q299 : (Jvm.Cond.fieldLink "KilnBench$Scan" (33 : Nat) "KilnBench$Scan" "what" "I") ∈ lw_all := lw_g (lw_at lw_m1 223 rfl) rfl
theorem q300 : (Jvm.Cond.fieldLink "KilnBench$Scan" (119 : Nat) "KilnBench$Scan" "open" "I") ∈ lw_all := lw_g (lw_at lw_m1 224 rfl) rfl
theorem q301 : (Jvm.Cond.fieldLink "KilnBench$Scan" (29 : Nat) "KilnBench$Scan" "isSeen" "Z") ∈ lw_all := lw_g (lw_at lw_m1 225 rfl) rfl
theorem q302 : (Jvm.Cond.fieldLink "KilnBench$Scan" (53 : Nat) "KilnBench$Scan" "sign" "C") ∈ lw_all := lw_g (lw_at lw_m1 226 rfl) rfl
theorem q303 : (Jvm.Cond.fieldLink "KilnBench$Scan" (67 : Nat) "KilnBench$Scan" "word" "Ljava/lang/String;") ∈ lw_all := lw_g (lw_at lw_m1 227 rfl) rfl
theorem q304 : (Jvm.Cond.fieldLink "KilnBench$Scan" (3 : Nat) "KilnBench$Scan" "this$0" "LKilnBench;") ∈ lw_all := lw_g (lw_at lw_m1 228 rfl) rfl
theorem q305 : (Jvm.Cond.laysFinal "KilnBench$Scan" "KilnBench$Scan" "size" "I") ∈ lw_all := lw_g (lw_at lw_m1 229 rfl) rfl
theorem q306 : (Jvm.Cond.soleField "KilnBench$Scan" "size") ∈ lw_all := lw_g (lw_at lw_m1 230 rfl) rfl
theorem q307 : (Jvm.Cond.laysFinal "KilnBench$Scan" "KilnBench$Scan" "h" "LKilnBench$Town;") ∈ lw_all := lw_g (lw_at lw_m1 231 rfl) rfl
theorem q308 : (Jvm.Cond.soleField "KilnBench$Scan" "h") ∈ lw_all := lw_g (lw_at lw_m1 232 rfl) rfl
theorem q309 : (Jvm.Cond.lays "KilnBench$Scan" "KilnBench$Scan" "from" "I") ∈ lw_all := lw_g (lw_at lw_m1 233 rfl) rfl
theorem q310 : (Jvm.Cond.soleField "KilnBench$Scan" "from") ∈ lw_all := lw_g (lw_at lw_m1 234 rfl) rfl
theorem q311 : (Jvm.Cond.lays "KilnBench$Scan" "KilnBench$Scan" "to" "I") ∈ lw_all := lw_g (lw_at lw_m1 235 rfl) rfl
theorem q312 : (Jvm.Cond.soleField "KilnBench$Scan" "to") ∈ lw_all := lw_g (lw_at lw_m1 236 rfl) rfl
theorem q313 : (Jvm.Cond.lays "KilnBench$Scan" "KilnBench$Scan" "at" "I") ∈ lw_all := lw_g (lw_at lw_m1 237 rfl) rfl
theorem q314 : (Jvm.Cond.soleField "KilnBench$Scan" "at") ∈ lw_all := lw_g (lw_at lw_m1 238 rfl) rfl
theorem q315 : (Jvm.Cond.lays "KilnBench$Scan" "KilnBench$Scan" "behind" "I") ∈ lw_all := lw_g (lw_at lw_m1 239 rfl) rfl
theorem q316 : (Jvm.Cond.soleField "KilnBench$Scan" "behind") ∈ lw_all := lw_g (lw_at lw_m2 0 rfl) rfl
theorem q317 : (Jvm.Cond.lays "KilnBench$Scan" "KilnBench$Scan" "place" "I") ∈ lw_all := lw_g (lw_at lw_m2 1 rfl) rfl
theorem q318 : (Jvm.Cond.soleField "KilnBench$Scan" "place") ∈ lw_all := lw_g (lw_at lw_m2 2 rfl) rfl
theorem q319 : (Jvm.Cond.lays "KilnBench$Scan" "KilnBench$Scan" "number" "I") ∈ lw_all := lw_g (lw_at lw_m2 3 rfl) rfl
theorem q320 : (Jvm.Cond.soleField "KilnBench$Scan" "number") ∈ lw_all := lw_g (lw_at lw_m2 4 rfl) rfl
theorem q321 : (Jvm.Cond.lays "KilnBench$Scan" "KilnBench$Scan" "what" "I") ∈ lw_all := lw_g (lw_at lw_m2 5 rfl) rfl
theorem q322 : (Jvm.Cond.soleField "KilnBench$Scan" "what") ∈ lw_all := lw_g (lw_at lw_m2 6 rfl) rfl
theorem q323 : (Jvm.Cond.lays "KilnBench$Scan" "KilnBench$Scan" "open" "I") ∈ lw_all := lw_g (lw_at lw_m2 7 rfl) rfl
theorem q324 : (Jvm.Cond.soleField "KilnBench$Scan" "open") ∈ lw_all := lw_g (lw_at lw_m2 8 rfl) rfl
theorem q325 : (Jvm.Cond.lays "KilnBench$Scan" "KilnBench$Scan" "isSeen" "Z") ∈ lw_all := lw_g (lw_at lw_m2 9 rfl) rfl
theorem q326 : (Jvm.Cond.soleField "KilnBench$Scan" "isSeen") ∈ lw_all := lw_g (lw_at lw_m2 10 rfl) rfl
theorem q327 : (Jvm.Cond.lays "KilnBench$Scan" "KilnBench$Scan" "sign" "C") ∈ lw_all := lw_g (lw_at lw_m2 11 rfl) rfl
theorem q328 : (Jvm.Cond.soleField "KilnBench$Scan" "sign") ∈ lw_all := lw_g (lw_at lw_m2 12 rfl) rfl
theorem q329 : (Jvm.Cond.lays "KilnBench$Scan" "KilnBench$Scan" "word" "Ljava/lang/String;") ∈ lw_all := lw_g (lw_at lw_m2 13 rfl) rfl
theorem q330 : (Jvm.Cond.soleField "KilnBench$Scan" "word") ∈ lw_all := lw_g (lw_at lw_m2 14 rfl) rfl
theorem q331 : (Jvm.Cond.laysFinal "KilnBench$Scan" "KilnBench$Scan" "this$0" "LKilnBench;") ∈ lw_all := lw_g (lw_at lw_m2 15 rfl) rfl
theorem q332 : (Jvm.Cond.soleField "KilnBench$Scan" "this$0") ∈ lw_all := lw_g (lw_at lw_m2 16 rfl) rfl
theorem q333 : (Jvm.Cond.superclass "KilnBench$Scan" "java/lang/Object") ∈ lw_all := lw_g (lw_at lw_m2 17 rfl) rfl
theorem q335 : (Jvm.Cond.instanceMethod ({ cls := "KilnBench$Scan", name := "town", desc := "()LKilnBench$Town;" } : Jvm.MethodName)) ∈ lw_all := lw_g (lw_at lw_m2 19 rfl) rfl
theorem q336 : (Jvm.Cond.selects "KilnBench$Scan" ({ cls := "KilnBench$Scan", name := "town", desc := "()LKilnBench$Town;" } : Jvm.MethodName) ({ cls := "KilnBench$Scan", name := "town", desc := "()LKilnBench$Town;" } : Jvm.MethodName)) ∈ lw_all := lw_g (lw_at lw_m2 20 rfl) rfl
theorem q337 : (Jvm.Cond.code ({ cls := "KilnBench$Scan", name := "town", desc := "()LKilnBench$Town;" } : Jvm.MethodName) prog_19_method_36_code (1 : Nat) (Option.some (Jvm.ClassFile.FieldType.object "KilnBench$Town"))) ∈ lw_all := lw_g (lw_at lw_m2 21 rfl) rfl
theorem q338 : (Jvm.Cond.methodLink "KilnBench$Scan" (338 : Nat) ({ cls := "KilnBench$Scan", name := "isMore", desc := "()Z" } : Jvm.MethodName)) ∈ lw_all := lw_g (lw_at lw_m2 22 rfl) rfl
theorem q339 : (Jvm.Cond.privateMethod ({ cls := "KilnBench$Scan", name := "isMore", desc := "()Z" } : Jvm.MethodName)) ∈ lw_tbl := lw_at lw_m2 23 rfl
theorem q340 : (Jvm.Cond.instanceMethod ({ cls := "KilnBench$Scan", name := "isMore", desc := "()Z" } : Jvm.MethodName)) ∈ lw_all := lw_g (lw_at lw_m2 24 rfl) rfl
theorem q341 : (Jvm.Cond.code ({ cls := "KilnBench$Scan", name := "isMore", desc := "()Z" } : Jvm.MethodName) prog_19_method_37_code (1 : Nat) (Option.some Jvm.ClassFile.FieldType.boolean)) ∈ lw_all := lw_g (lw_at lw_m2 25 rfl) rfl
theorem q342 : (Jvm.Cond.methodLink "KilnBench$Scan" (86 : Nat) ({ cls := "KilnBench$Scan", name := "see", desc := "()I" } : Jvm.MethodName)) ∈ lw_all := lw_g (lw_at lw_m2 26 rfl) rfl
theorem q343 : (Jvm.Cond.privateMethod ({ cls := "KilnBench$Scan", name := "see", desc := "()I" } : Jvm.MethodName)) ∈ lw_tbl := lw_at lw_m2 27 rfl
theorem q344 : (Jvm.Cond.instanceMethod ({ cls := "KilnBench$Scan", name := "see", desc := "()I" } : Jvm.MethodName)) ∈ lw_all := lw_g (lw_at lw_m2 28 rfl) rfl
theorem q345 : (Jvm.Cond.code ({ cls := "KilnBench$Scan", name := "see", desc := "()I" } : Jvm.MethodName) prog_19_method_4_code (4 : Nat) (Option.some Jvm.ClassFile.FieldType.int)) ∈ lw_all := lw_g (lw_at lw_m2 29 rfl) rfl
theorem q346 : (Jvm.Cond.methodLink "KilnBench$Scan" (46 : Nat) ({ cls := "KilnBench$Scan", name := "isLetter", desc := "(C)Z" } : Jvm.MethodName)) ∈ lw_all := lw_g (lw_at lw_m2 30 rfl) rfl
theorem q347 : (Jvm.Cond.privateMethod ({ cls := "KilnBench$Scan", name := "isLetter", desc := "(C)Z" } : Jvm.MethodName)) ∈ lw_tbl := lw_at lw_m2 31 rfl
theorem q348 : (Jvm.Cond.instanceMethod ({ cls := "KilnBench$Scan", name := "isLetter", desc := "(C)Z" } : Jvm.MethodName)) ∈ lw_all := lw_g (lw_at lw_m2 32 rfl) rfl
theorem q349 : (Jvm.Cond.code ({ cls := "KilnBench$Scan", name := "isLetter", desc := "(C)Z" } : Jvm.MethodName) prog_19_method_2_code (2 : Nat) (Option.some Jvm.ClassFile.FieldType.boolean)) ∈ lw_all := lw_g (lw_at lw_m2 33 rfl) rfl
theorem q350 : (Jvm.Cond.methodLink "KilnBench$Scan" (50 : Nat) ({ cls := "KilnBench$Scan", name := "isDigit", desc := "(C)Z" } : Jvm.MethodName)) ∈ lw_all := lw_g (lw_at lw_m2 34 rfl) rfl
theorem q351 : (Jvm.Cond.privateMethod ({ cls := "KilnBench$Scan", name := "isDigit", desc := "(C)Z" } : Jvm.MethodName)) ∈ lw_tbl := lw_at lw_m2 35 rfl
theorem q352 : (Jvm.Cond.instanceMethod ({ cls := "KilnBench$Scan", name := "isDigit", desc := "(C)Z" } : Jvm.MethodName)) ∈ lw_all := lw_g (lw_at lw_m2 36 rfl) rfl
theorem q353 : (Jvm.Cond.code ({ cls := "KilnBench$Scan", name := "isDigit", desc := "(C)Z" } : Jvm.MethodName) prog_19_method_3_code (2 : Nat) (Option.some Jvm.ClassFile.FieldType.boolean)) ∈ lw_all := lw_g (lw_at lw_m2 37 rfl) rfl
theorem q354 : (Jvm.Cond.classLink "KilnBench$Scan" (57 : Nat) "KilnBench$Fault") ∈ lw_all := lw_g (lw_at lw_m2 38 rfl) rfl
theorem q391 : (Jvm.Cond.methodLink "KilnBench$Scan" (59 : Nat) ({ cls := "KilnBench$Fault", name := "<init>", desc := "(II)V" } : Jvm.MethodName)) ∈ lw_all := lw_g (lw_at lw_m2 75 rfl) rfl
theorem q421 : (Jvm.Cond.classLink "KilnBench$Scan" (62 : Nat) "java/lang/String") ∈ lw_all := lw_g (lw_at lw_m2 105 rfl) rfl
theorem q423 : (Jvm.Cond.methodLink "KilnBench$Scan" (64 : Nat) ({ cls := "java/lang/String", name := "<init>", desc := "([CII)V" } : Jvm.MethodName)) ∈ lw_all := lw_g (lw_at lw_m2 107 rfl) rfl
theorem q498 : (Jvm.Cond.methodLink "KilnBench$Scan" (71 : Nat) ({ cls := "java/lang/String", name := "length", desc := "()I" } : Jvm.MethodName)) ∈ lw_all := lw_g (lw_at lw_m2 182 rfl) rfl
theorem q506 : (Jvm.Cond.methodLinkNest "KilnBench$Scan" (75 : Nat) ({ cls := "KilnBench", name := "isOwn", desc := "(Ljava/lang/String;)Z" } : Jvm.MethodName) "KilnBench") ∈ lw_tbl := lw_at lw_m2 190 rfl
theorem q519 : (Jvm.Cond.methodLinkNest "KilnBench$Scan" (79 : Nat) ({ cls := "KilnBench", name := "digitsOf", desc := "(Ljava/lang/String;)I" } : Jvm.MethodName) "KilnBench") ∈ lw_tbl := lw_at lw_m2 203 rfl
theorem q547 : (Jvm.Cond.methodLink "KilnBench$Scan" (341 : Nat) ({ cls := "KilnBench$Scan", name := "statement", desc := "()V" } : Jvm.MethodName)) ∈ lw_all := lw_g (lw_at lw_m2 231 rfl) rfl
theorem q548 : (Jvm.Cond.privateMethod ({ cls := "KilnBench$Scan", name := "statement", desc := "()V" } : Jvm.MethodName)) ∈ lw_tbl := lw_at lw_m2 232 rfl
theorem q549 : (Jvm.Cond.instanceMethod ({ cls := "KilnBench$Scan", name := "statement", desc := "()V" } : Jvm.MethodName)) ∈ lw_all := lw_g (lw_at lw_m2 233 rfl) rfl
theorem q550 : (Jvm.Cond.code ({ cls := "KilnBench$Scan", name := "statement", desc := "()V" } : Jvm.MethodName) prog_19_method_35_code (2 : Nat) (Option.none : Option Jvm.ClassFile.FieldType)) ∈ lw_all := lw_g (lw_at lw_m2 234 rfl) rfl
theorem q551 : (Jvm.Cond.methodLink "KilnBench$Scan" (257 : Nat) ({ cls := "KilnBench$Scan", name := "space", desc := "(III)V" } : Jvm.MethodName)) ∈ lw_all := lw_g (lw_at lw_m2 235 rfl) rfl
theorem q552 : (Jvm.Cond.privateMethod ({ cls := "KilnBench$Scan", name := "space", desc := "(III)V" } : Jvm.MethodName)) ∈ lw_tbl := lw_at lw_m2 236 rfl
theorem q553 : (Jvm.Cond.instanceMethod ({ cls := "KilnBench$Scan", name := "space", desc := "(III)V" } : Jvm.MethodName)) ∈ lw_all := lw_g (lw_at lw_m2 237 rfl) rfl
theorem q554 : (Jvm.Cond.code ({ cls := "KilnBench$Scan", name := "space", desc := "(III)V" } : Jvm.MethodName) prog_19_method_29_code (4 : Nat) (Option.none : Option Jvm.ClassFile.FieldType)) ∈ lw_all := lw_g (lw_at lw_m2 238 rfl) rfl
theorem q555 : (Jvm.Cond.stringRef "KilnBench$Scan" (294 : Nat) "child") ∈ lw_tbl := lw_at lw_m2 239 rfl
theorem q556 : (Jvm.Cond.methodLink "KilnBench$Scan" (106 : Nat) ({ cls := "KilnBench$Scan", name := "takes", desc := "(Ljava/lang/String;)Z" } : Jvm.MethodName)) ∈ lw_all := lw_g (lw_at lw_m3 0 rfl) rfl
theorem q557 : (Jvm.Cond.privateMethod ({ cls := "KilnBench$Scan", name := "takes", desc := "(Ljava/lang/String;)Z" } : Jvm.MethodName)) ∈ lw_tbl := lw_at lw_m3 1 rfl
theorem q558 : (Jvm.Cond.instanceMethod ({ cls := "KilnBench$Scan", name := "takes", desc := "(Ljava/lang/String;)Z" } : Jvm.MethodName)) ∈ lw_all := lw_g (lw_at lw_m3 2 rfl) rfl
theorem q559 : (Jvm.Cond.code ({ cls := "KilnBench$Scan", name := "takes", desc := "(Ljava/lang/String;)Z" } : Jvm.MethodName) prog_19_method_9_code (2 : Nat) (Option.some Jvm.ClassFile.FieldType.boolean)) ∈ lw_all := lw_g (lw_at lw_m3 3 rfl) rfl
theorem q560 : (Jvm.Cond.methodLink "KilnBench$Scan" (96 : Nat) ({ cls := "KilnBench$Scan", name := "isWord", desc := "(Ljava/lang/String;)Z" } : Jvm.MethodName)) ∈ lw_all := lw_g (lw_at lw_m3 4 rfl) rfl
theorem q561 : (Jvm.Cond.privateMethod ({ cls := "KilnBench$Scan", name := "isWord", desc := "(Ljava/lang/String;)Z" } : Jvm.MethodName)) ∈ lw_tbl := lw_at lw_m3 5 rfl
theorem q562 : (Jvm.Cond.instanceMethod ({ cls := "KilnBench$Scan", name := "isWord", desc := "(Ljava/lang/String;)Z" } : Jvm.MethodName)) ∈ lw_all := lw_g (lw_at lw_m3 6 rfl) rfl
theorem q563 : (Jvm.Cond.code ({ cls := "KilnBench$Scan", name := "isWord", desc := "(Ljava/lang/String;)Z" } : Jvm.MethodName) prog_19_method_7_code (2 : Nat) (Option.some Jvm.ClassFile.FieldType.boolean)) ∈ lw_all := lw_g (lw_at lw_m3 7 rfl) rfl
theorem q564 : (Jvm.Cond.methodLink "KilnBench$Scan" (89 : Nat) ({ cls := "java/lang/String", name := "equals", desc := "(Ljava/lang/Object;)Z" } : Jvm.MethodName)) ∈ lw_all := lw_g (lw_at lw_m3 8 rfl) rfl
theorem q565 : (Jvm.Cond.methodLink "KilnBench$Scan" (296 : Nat) ({ cls := "KilnBench$Scan", name := "child", desc := "(I)V" } : Jvm.MethodName)) ∈ lw_all := lw_g (lw_at lw_m3 9 rfl) rfl
theorem q566 : (Jvm.Cond.privateMethod ({ cls := "KilnBench$Scan", name := "child", desc := "(I)V" } : Jvm.MethodName)) ∈ lw_tbl := lw_at lw_m3 10 rfl
theorem q567 : (Jvm.Cond.instanceMethod ({ cls := "KilnBench$Scan", name := "child", desc := "(I)V" } : Jvm.MethodName)) ∈ lw_all := lw_g (lw_at lw_m3 11 rfl) rfl
theorem q568 : (Jvm.Cond.code ({ cls := "KilnBench$Scan", name := "child", desc := "(I)V" } : Jvm.MethodName) prog_19_method_30_code (3 : Nat) (Option.none : Option Jvm.ClassFile.FieldType)) ∈ lw_all := lw_g (lw_at lw_m3 12 rfl) rfl
theorem q569 : (Jvm.Cond.methodLink "KilnBench$Scan" (255 : Nat) ({ cls := "java/util/ArrayList", name := "size", desc := "()I" } : Jvm.MethodName)) ∈ lw_all := lw_g (lw_at lw_m3 13 rfl) rfl
theorem q573 : (Jvm.Cond.classLink "KilnBench$Scan" (261 : Nat) "KilnBench$Child") ∈ lw_all := lw_g (lw_at lw_m3 17 rfl) rfl
theorem q575 : (Jvm.Cond.methodLink "KilnBench$Scan" (263 : Nat) ({ cls := "KilnBench$Scan", name := "newName", desc := "()Ljava/lang/String;" } : Jvm.MethodName)) ∈ lw_all := lw_g (lw_at lw_m3 19 rfl) rfl
theorem q576 : (Jvm.Cond.privateMethod ({ cls := "KilnBench$Scan", name := "newName", desc := "()Ljava/lang/String;" } : Jvm.MethodName)) ∈ lw_tbl := lw_at lw_m3 20 rfl
theorem q577 : (Jvm.Cond.instanceMethod ({ cls := "KilnBench$Scan", name := "newName", desc := "()Ljava/lang/String;" } : Jvm.MethodName)) ∈ lw_all := lw_g (lw_at lw_m3 21 rfl) rfl
theorem q578 : (Jvm.Cond.code ({ cls := "KilnBench$Scan", name := "newName", desc := "()Ljava/lang/String;" } : Jvm.MethodName) prog_19_method_14_code (2 : Nat) (Option.some (Jvm.ClassFile.FieldType.object "java/lang/String"))) ∈ lw_all := lw_g (lw_at lw_m3 22 rfl) rfl
theorem q579 : (Jvm.Cond.methodLink "KilnBench$Scan" (112 : Nat) ({ cls := "KilnBench$Scan", name := "name", desc := "()Ljava/lang/String;" } : Jvm.MethodName)) ∈ lw_all := lw_g (lw_at lw_m3 23 rfl) rfl
theorem q580 : (Jvm.Cond.privateMethod ({ cls := "KilnBench$Scan", name := "name", desc := "()Ljava/lang/String;" } : Jvm.MethodName)) ∈ lw_tbl := lw_at lw_m3 24 rfl
theorem q581 : (Jvm.Cond.instanceMethod ({ cls := "KilnBench$Scan", name := "name", desc := "()Ljava/lang/String;" } : Jvm.MethodName)) ∈ lw_all := lw_g (lw_at lw_m3 25 rfl) rfl
theorem q582 : (Jvm.Cond.code ({ cls := "KilnBench$Scan", name := "name", desc := "()Ljava/lang/String;" } : Jvm.MethodName) prog_19_method_13_code (1 : Nat) (Option.some (Jvm.ClassFile.FieldType.object "java/lang/String"))) ∈ lw_all := lw_g (lw_at lw_m3 26 rfl) rfl
theorem q583 : (Jvm.Cond.methodLink "KilnBench$Scan" (102 : Nat) ({ cls := "KilnBench$Scan", name := "wrong", desc := "()LKilnBench$Fault;" } : Jvm.MethodName)) ∈ lw_all := lw_g (lw_at lw_m3 27 rfl) rfl
theorem q584 : (Jvm.Cond.privateMethod ({ cls := "KilnBench$Scan", name := "wrong", desc := "()LKilnBench$Fault;" } : Jvm.MethodName)) ∈ lw_tbl := lw_at lw_m3 28 rfl
theorem q585 : (Jvm.Cond.instanceMethod ({ cls := "KilnBench$Scan", name := "wrong", desc := "()LKilnBench$Fault;" } : Jvm.MethodName)) ∈ lw_all := lw_g (lw_at lw_m3 29 rfl) rfl
theorem q586 : (Jvm.Cond.code ({ cls := "KilnBench$Scan", name := "wrong", desc := "()LKilnBench$Fault;" } : Jvm.MethodName) prog_19_method_5_code (1 : Nat) (Option.some (Jvm.ClassFile.FieldType.object "KilnBench$Fault"))) ∈ lw_all := lw_g (lw_at lw_m3 30 rfl) rfl
theorem q587 : (Jvm.Cond.methodLink "KilnBench$Scan" (116 : Nat) ({ cls := "KilnBench$Town", name := "knows", desc := "(Ljava/lang/String;)Z" } : Jvm.MethodName)) ∈ lw_all := lw_g (lw_at lw_m3 31 rfl) rfl
theorem q609 : (Jvm.Cond.methodLink "KilnBench$Scan" (266 : Nat) ({ cls := "KilnBench$Child", name := "<init>", desc := "(Ljava/lang/String;I)V" } : Jvm.MethodName)) ∈ lw_all := lw_g (lw_at lw_m3 53 rfl) rfl
theorem q617 : (Jvm.Cond.fieldLink "KilnBench$Scan" (271 : Nat) "KilnBench$Child" "clay" "I") ∈ lw_all := lw_g (lw_at lw_m3 61 rfl) rfl
theorem q619 : (Jvm.Cond.fieldLink "KilnBench$Scan" (275 : Nat) "KilnBench$Child" "grit" "I") ∈ lw_all := lw_g (lw_at lw_m3 63 rfl) rfl
theorem q664 : (Jvm.Cond.stringRef "KilnBench$Scan" (269 : Nat) "clay") ∈ lw_tbl := lw_at lw_m3 108 rfl
theorem q665 : (Jvm.Cond.methodLink "KilnBench$Scan" (244 : Nat) ({ cls := "KilnBench$Scan", name := "asks", desc := "(Ljava/lang/String;)V" } : Jvm.MethodName)) ∈ lw_all := lw_g (lw_at lw_m3 109 rfl) rfl
theorem q666 : (Jvm.Cond.privateMethod ({ cls := "KilnBench$Scan", name := "asks", desc := "(Ljava/lang/String;)V" } : Jvm.MethodName)) ∈ lw_tbl := lw_at lw_m3 110 rfl
theorem q667 : (Jvm.Cond.instanceMethod ({ cls := "KilnBench$Scan", name := "asks", desc := "(Ljava/lang/String;)V" } : Jvm.MethodName)) ∈ lw_all := lw_g (lw_at lw_m3 111 rfl) rfl
theorem q668 : (Jvm.Cond.code ({ cls := "KilnBench$Scan", name := "asks", desc := "(Ljava/lang/String;)V" } : Jvm.MethodName) prog_19_method_11_code (2 : Nat) (Option.none : Option Jvm.ClassFile.FieldType)) ∈ lw_all := lw_g (lw_at lw_m3 112 rfl) rfl
theorem q669 : (Jvm.Cond.methodLink "KilnBench$Scan" (208 : Nat) ({ cls := "KilnBench$Scan", name := "number", desc := "(II)I" } : Jvm.MethodName)) ∈ lw_all := lw_g (lw_at lw_m3 113 rfl) rfl
theorem q670 : (Jvm.Cond.privateMethod ({ cls := "KilnBench$Scan", name := "number", desc := "(II)I" } : Jvm.MethodName)) ∈ lw_tbl := lw_at lw_m3 114 rfl
theorem q671 : (Jvm.Cond.instanceMethod ({ cls := "KilnBench$Scan", name := "number", desc := "(II)I" } : Jvm.MethodName)) ∈ lw_all := lw_g (lw_at lw_m3 115 rfl) rfl
theorem q672 : (Jvm.Cond.code ({ cls := "KilnBench$Scan", name := "number", desc := "(II)I" } : Jvm.MethodName) prog_19_method_12_code (3 : Nat) (Option.some Jvm.ClassFile.FieldType.int)) ∈ lw_all := lw_g (lw_at lw_m3 116 rfl) rfl
theorem q673 : (Jvm.Cond.methodLinkNest "KilnBench$Scan" (108 : Nat) ({ cls := "KilnBench", name := "isIn", desc := "(JJJ)Z" } : Jvm.MethodName) "KilnBench") ∈ lw_tbl := lw_at lw_m3 117 rfl
theorem q676 : (Jvm.Cond.stringRef "KilnBench$Scan" (273 : Nat) "grit") ∈ lw_tbl := lw_at lw_m3 120 rfl
theorem q677 : (Jvm.Cond.methodLink "KilnBench$Scan" (141 : Nat) ({ cls := "java/util/ArrayList", name := "add", desc := "(Ljava/lang/Object;)Z" } : Jvm.MethodName)) ∈ lw_all := lw_g (lw_at lw_m3 121 rfl) rfl
theorem q724 : (Jvm.Cond.selects "KilnBench$Scan" ({ cls := "java/lang/Object", name := "getClass", desc := "()Ljava/lang/Class;" } : Jvm.MethodName) ({ cls := "java/lang/Object", name := "getClass", desc := "()Ljava/lang/Class;" } : Jvm.MethodName)) ∈ lw_all := lw_g (lw_at lw_m3 168 rfl) rfl
theorem q749 : (Jvm.Cond.stringRef "KilnBench$Scan" (298 : Nat) "kiln") ∈ lw_tbl := lw_at lw_m3 193 rfl
theorem q750 : (Jvm.Cond.methodLink "KilnBench$Scan" (300 : Nat) ({ cls := "KilnBench$Scan", name := "kiln", desc := "(I)V" } : Jvm.MethodName)) ∈ lw_all := lw_g (lw_at lw_m3 194 rfl) rfl
theorem q751 : (Jvm.Cond.privateMethod ({ cls := "KilnBench$Scan", name := "kiln", desc := "(I)V" } : Jvm.MethodName)) ∈ lw_tbl := lw_at lw_m3 195 rfl
theorem q752 : (Jvm.Cond.instanceMethod ({ cls := "KilnBench$Scan", name := "kiln", desc := "(I)V" } : Jvm.MethodName)) ∈ lw_all := lw_g (lw_at lw_m3 196 rfl) rfl
theorem q753 : (Jvm.Cond.code ({ cls := "KilnBench$Scan", name := "kiln", desc := "(I)V" } : Jvm.MethodName) prog_19_method_31_code (3 : Nat) (Option.none : Option Jvm.ClassFile.FieldType)) ∈ lw_all := lw_g (lw_at lw_m3 197 rfl) rfl
theorem q754 : (Jvm.Cond.classLink "KilnBench$Scan" (280 : Nat) "KilnBench$Kiln") ∈ lw_all := lw_g (lw_at lw_m3 198 rfl) rfl
theorem q756 : (Jvm.Cond.methodLink "KilnBench$Scan" (282 : Nat) ({ cls := "KilnBench$Kiln", name := "<init>", desc := "(Ljava/lang/String;I)V" } : Jvm.MethodName)) ∈ lw_all := lw_g (lw_at lw_m3 200 rfl) rfl
theorem q766 : (Jvm.Cond.fieldLink "KilnBench$Scan" (285 : Nat) "KilnBench$Kiln" "room" "I") ∈ lw_all := lw_g (lw_at lw_m3 210 rfl) rfl
theorem q784 : (Jvm.Cond.stringRef "KilnBench$Scan" (283 : Nat) "room") ∈ lw_tbl := lw_at lw_m3 228 rfl
theorem q785 : (Jvm.Cond.stringRef "KilnBench$Scan" (302 : Nat) "temper") ∈ lw_tbl := lw_at lw_m3 229 rfl
theorem q786 : (Jvm.Cond.methodLink "KilnBench$Scan" (307 : Nat) ({ cls := "KilnBench$Scan", name := "sum", desc := "(LKilnBench$Sum;III)LKilnBench$Sum;" } : Jvm.MethodName)) ∈ lw_all := lw_g (lw_at lw_m3 230 rfl) rfl
theorem q787 : (Jvm.Cond.privateMethod ({ cls := "KilnBench$Scan", name := "sum", desc := "(LKilnBench$Sum;III)LKilnBench$Sum;" } : Jvm.MethodName)) ∈ lw_tbl := lw_at lw_m3 231 rfl
theorem q788 : (Jvm.Cond.instanceMethod ({ cls := "KilnBench$Scan", name := "sum", desc := "(LKilnBench$Sum;III)LKilnBench$Sum;" } : Jvm.MethodName)) ∈ lw_all := lw_g (lw_at lw_m3 232 rfl) rfl
theorem q789 : (Jvm.Cond.code ({ cls := "KilnBench$Scan", name := "sum", desc := "(LKilnBench$Sum;III)LKilnBench$Sum;" } : Jvm.MethodName) prog_19_method_33_code (5 : Nat) (Option.some (Jvm.ClassFile.FieldType.object "KilnBench$Sum"))) ∈ lw_all := lw_g (lw_at lw_m3 233 rfl) rfl
theorem q790 : (Jvm.Cond.methodLink "KilnBench$Scan" (287 : Nat) ({ cls := "KilnBench$Scan", name := "parts", desc := "(Ljava/lang/Object;III)V" } : Jvm.MethodName)) ∈ lw_all := lw_g (lw_at lw_m3 234 rfl) rfl
theorem q791 : (Jvm.Cond.privateMethod ({ cls := "KilnBench$Scan", name := "parts", desc := "(Ljava/lang/Object;III)V" } : Jvm.MethodName)) ∈ lw_tbl := lw_at lw_m3 235 rfl
theorem q792 : (Jvm.Cond.instanceMethod ({ cls := "KilnBench$Scan", name := "parts", desc := "(Ljava/lang/Object;III)V" } : Jvm.MethodName)) ∈ lw_all := lw_g (lw_at lw_m3 236 rfl) rfl
theorem q793 : (Jvm.Cond.code ({ cls := "KilnBench$Scan", name := "parts", desc := "(Ljava/lang/Object;III)V" } : Jvm.MethodName) prog_19_method_32_code (5 : Nat) (Option.none : Option Jvm.ClassFile.FieldType)) ∈ lw_all := lw_g (lw_at lw_m3 237 rfl) rfl
theorem q794 : (Jvm.Cond.methodLink "KilnBench$Scan" (180 : Nat) ({ cls := "KilnBench$Scan", name := "sum", desc := "()LKilnBench$Sum;" } : Jvm.MethodName)) ∈ lw_all := lw_g (lw_at lw_m3 238 rfl) rfl
theorem q795 : (Jvm.Cond.privateMethod ({ cls := "KilnBench$Scan", name := "sum", desc := "()LKilnBench$Sum;" } : Jvm.MethodName)) ∈ lw_tbl := lw_at lw_m3 239 rfl
theorem q796 : (Jvm.Cond.instanceMethod ({ cls := "KilnBench$Scan", name := "sum", desc := "()LKilnBench$Sum;" } : Jvm.MethodName)) ∈ lw_all := lw_g (lw_at lw_m4 0 rfl) rfl
theorem q797 : (Jvm.Cond.code ({ cls := "KilnBench$Scan", name := "sum", desc := "()LKilnBench$Sum;" } : Jvm.MethodName) prog_19_method_23_code (4 : Nat) (Option.some (Jvm.ClassFile.FieldType.object "KilnBench$Sum"))) ∈ lw_all := lw_g (lw_at lw_m4 1 rfl) rfl
theorem q798 : (Jvm.Cond.methodLink "KilnBench$Scan" (189 : Nat) ({ cls := "KilnBench$Scan", name := "product", desc := "()LKilnBench$Sum;" } : Jvm.MethodName)) ∈ lw_all := lw_g (lw_at lw_m4 2 rfl) rfl
theorem q799 : (Jvm.Cond.privateMethod ({ cls := "KilnBench$Scan", name := "product", desc := "()LKilnBench$Sum;" } : Jvm.MethodName)) ∈ lw_tbl := lw_at lw_m4 3 rfl
theorem q800 : (Jvm.Cond.instanceMethod ({ cls := "KilnBench$Scan", name := "product", desc := "()LKilnBench$Sum;" } : Jvm.MethodName)) ∈ lw_all := lw_g (lw_at lw_m4 4 rfl) rfl
theorem q801 : (Jvm.Cond.code ({ cls := "KilnBench$Scan", name := "product", desc := "()LKilnBench$Sum;" } : Jvm.MethodName) prog_19_method_25_code (4 : Nat) (Option.some (Jvm.ClassFile.FieldType.object "KilnBench$Sum"))) ∈ lw_all := lw_g (lw_at lw_m4 5 rfl) rfl
theorem q802 : (Jvm.Cond.methodLink "KilnBench$Scan" (199 : Nat) ({ cls := "KilnBench$Scan", name := "part", desc := "()LKilnBench$Sum;" } : Jvm.MethodName)) ∈ lw_all := lw_g (lw_at lw_m4 6 rfl) rfl
theorem q803 : (Jvm.Cond.privateMethod ({ cls := "KilnBench$Scan", name := "part", desc := "()LKilnBench$Sum;" } : Jvm.MethodName)) ∈ lw_tbl := lw_at lw_m4 7 rfl
theorem q804 : (Jvm.Cond.instanceMethod ({ cls := "KilnBench$Scan", name := "part", desc := "()LKilnBench$Sum;" } : Jvm.MethodName)) ∈ lw_all := lw_g (lw_at lw_m4 8 rfl) rfl
theorem q805 : (Jvm.Cond.code ({ cls := "KilnBench$Scan", name := "part", desc := "()LKilnBench$Sum;" } : Jvm.MethodName) prog_19_method_26_code (2 : Nat) (Option.some (Jvm.ClassFile.FieldType.object "KilnBench$Sum"))) ∈ lw_all := lw_g (lw_at lw_m4 9 rfl) rfl
theorem q806 : (Jvm.Cond.classLink "KilnBench$Scan" (206 : Nat) "KilnBench$Plain") ∈ lw_all := lw_g (lw_at lw_m4 10 rfl) rfl
theorem q808 : (Jvm.Cond.methodLink "KilnBench$Scan" (211 : Nat) ({ cls := "KilnBench$Plain", name := "<init>", desc := "(I)V" } : Jvm.MethodName)) ∈ lw_all := lw_g (lw_at lw_m4 12 rfl) rfl
theorem q816 : (Jvm.Cond.methodLink "KilnBench$Scan" (214 : Nat) ({ cls := "KilnBench$Scan", name := "wordPart", desc := "()LKilnBench$Sum;" } : Jvm.MethodName)) ∈ lw_all := lw_g (lw_at lw_m4 20 rfl) rfl
theorem q817 : (Jvm.Cond.privateMethod ({ cls := "KilnBench$Scan", name := "wordPart", desc := "()LKilnBench$Sum;" } : Jvm.MethodName)) ∈ lw_tbl := lw_at lw_m4 21 rfl
theorem q818 : (Jvm.Cond.instanceMethod ({ cls := "KilnBench$Scan", name := "wordPart", desc := "()LKilnBench$Sum;" } : Jvm.MethodName)) ∈ lw_all := lw_g (lw_at lw_m4 22 rfl) rfl
theorem q819 : (Jvm.Cond.code ({ cls := "KilnBench$Scan", name := "wordPart", desc := "()LKilnBench$Sum;" } : Jvm.MethodName) prog_19_method_28_code (4 : Nat) (Option.some (Jvm.ClassFile.FieldType.object "KilnBench$Sum"))) ∈ lw_all := lw_g (lw_at lw_m4 23 rfl) rfl
theorem q820 : (Jvm.Cond.fieldLinkNest "KilnBench$Scan" (222 : Nat) "KilnBench$Asked" "WORDS" "[Ljava/lang/String;" "KilnBench") ∈ lw_tbl := lw_at lw_m4 24 rfl
theorem q822 : (Jvm.Cond.classLink "KilnBench$Scan" (223 : Nat) "KilnBench$Asked") ∈ lw_all := lw_g (lw_at lw_m4 26 rfl) rfl
theorem q824 : (Jvm.Cond.methodLink "KilnBench$Scan" (234 : Nat) ({ cls := "KilnBench$Asked", name := "<init>", desc := "(I)V" } : Jvm.MethodName)) ∈ lw_all := lw_g (lw_at lw_m4 28 rfl) rfl
theorem q832 : (Jvm.Cond.stringRef "KilnBench$Scan" (235 : Nat) "if") ∈ lw_tbl := lw_at lw_m4 36 rfl
theorem q833 : (Jvm.Cond.methodLink "KilnBench$Scan" (237 : Nat) ({ cls := "KilnBench$Scan", name := "chosen", desc := "()LKilnBench$Sum;" } : Jvm.MethodName)) ∈ lw_all := lw_g (lw_at lw_m4 37 rfl) rfl
theorem q834 : (Jvm.Cond.privateMethod ({ cls := "KilnBench$Scan", name := "chosen", desc := "()LKilnBench$Sum;" } : Jvm.MethodName)) ∈ lw_tbl := lw_at lw_m4 38 rfl
theorem q835 : (Jvm.Cond.instanceMethod ({ cls := "KilnBench$Scan", name := "chosen", desc := "()LKilnBench$Sum;" } : Jvm.MethodName)) ∈ lw_all := lw_g (lw_at lw_m4 39 rfl) rfl
theorem q836 : (Jvm.Cond.code ({ cls := "KilnBench$Scan", name := "chosen", desc := "()LKilnBench$Sum;" } : Jvm.MethodName) prog_19_method_27_code (4 : Nat) (Option.some (Jvm.ClassFile.FieldType.object "KilnBench$Sum"))) ∈ lw_all := lw_g (lw_at lw_m4 40 rfl) rfl
theorem q837 : (Jvm.Cond.methodLink "KilnBench$Scan" (163 : Nat) ({ cls := "KilnBench$Scan", name := "opens", desc := "(C)V" } : Jvm.MethodName)) ∈ lw_all := lw_g (lw_at lw_m4 41 rfl) rfl
theorem q838 : (Jvm.Cond.privateMethod ({ cls := "KilnBench$Scan", name := "opens", desc := "(C)V" } : Jvm.MethodName)) ∈ lw_tbl := lw_at lw_m4 42 rfl
theorem q839 : (Jvm.Cond.instanceMethod ({ cls := "KilnBench$Scan", name := "opens", desc := "(C)V" } : Jvm.MethodName)) ∈ lw_all := lw_g (lw_at lw_m4 43 rfl) rfl
theorem q840 : (Jvm.Cond.code ({ cls := "KilnBench$Scan", name := "opens", desc := "(C)V" } : Jvm.MethodName) prog_19_method_15_code (2 : Nat) (Option.none : Option Jvm.ClassFile.FieldType)) ∈ lw_all := lw_g (lw_at lw_m4 44 rfl) rfl
theorem q841 : (Jvm.Cond.methodLink "KilnBench$Scan" (93 : Nat) ({ cls := "KilnBench$Scan", name := "isSign", desc := "(C)Z" } : Jvm.MethodName)) ∈ lw_all := lw_g (lw_at lw_m4 45 rfl) rfl
theorem q842 : (Jvm.Cond.privateMethod ({ cls := "KilnBench$Scan", name := "isSign", desc := "(C)Z" } : Jvm.MethodName)) ∈ lw_tbl := lw_at lw_m4 46 rfl
theorem q843 : (Jvm.Cond.instanceMethod ({ cls := "KilnBench$Scan", name := "isSign", desc := "(C)Z" } : Jvm.MethodName)) ∈ lw_all := lw_g (lw_at lw_m4 47 rfl) rfl
theorem q844 : (Jvm.Cond.code ({ cls := "KilnBench$Scan", name := "isSign", desc := "(C)Z" } : Jvm.MethodName) prog_19_method_6_code (2 : Nat) (Option.some Jvm.ClassFile.FieldType.boolean)) ∈ lw_all := lw_g (lw_at lw_m4 48 rfl) rfl
theorem q845 : (Jvm.Cond.methodLink "KilnBench$Scan" (166 : Nat) ({ cls := "KilnBench$Scan", name := "test", desc := "()LKilnBench$Test;" } : Jvm.MethodName)) ∈ lw_all := lw_g (lw_at lw_m4 49 rfl) rfl
theorem q846 : (Jvm.Cond.privateMethod ({ cls := "KilnBench$Scan", name := "test", desc := "()LKilnBench$Test;" } : Jvm.MethodName)) ∈ lw_tbl := lw_at lw_m4 50 rfl
theorem q847 : (Jvm.Cond.instanceMethod ({ cls := "KilnBench$Scan", name := "test", desc := "()LKilnBench$Test;" } : Jvm.MethodName)) ∈ lw_all := lw_g (lw_at lw_m4 51 rfl) rfl
theorem q848 : (Jvm.Cond.code ({ cls := "KilnBench$Scan", name := "test", desc := "()LKilnBench$Test;" } : Jvm.MethodName) prog_19_method_17_code (3 : Nat) (Option.some (Jvm.ClassFile.FieldType.object "KilnBench$Test"))) ∈ lw_all := lw_g (lw_at lw_m4 52 rfl) rfl
theorem q849 : (Jvm.Cond.methodLink "KilnBench$Scan" (126 : Nat) ({ cls := "KilnBench$Scan", name := "both", desc := "()LKilnBench$Test;" } : Jvm.MethodName)) ∈ lw_all := lw_g (lw_at lw_m4 53 rfl) rfl
theorem q850 : (Jvm.Cond.privateMethod ({ cls := "KilnBench$Scan", name := "both", desc := "()LKilnBench$Test;" } : Jvm.MethodName)) ∈ lw_tbl := lw_at lw_m4 54 rfl
theorem q851 : (Jvm.Cond.instanceMethod ({ cls := "KilnBench$Scan", name := "both", desc := "()LKilnBench$Test;" } : Jvm.MethodName)) ∈ lw_all := lw_g (lw_at lw_m4 55 rfl) rfl
theorem q852 : (Jvm.Cond.code ({ cls := "KilnBench$Scan", name := "both", desc := "()LKilnBench$Test;" } : Jvm.MethodName) prog_19_method_18_code (3 : Nat) (Option.some (Jvm.ClassFile.FieldType.object "KilnBench$Test"))) ∈ lw_all := lw_g (lw_at lw_m4 56 rfl) rfl
theorem q853 : (Jvm.Cond.methodLink "KilnBench$Scan" (146 : Nat) ({ cls := "KilnBench$Scan", name := "fact", desc := "()LKilnBench$Test;" } : Jvm.MethodName)) ∈ lw_all := lw_g (lw_at lw_m4 57 rfl) rfl
theorem q854 : (Jvm.Cond.privateMethod ({ cls := "KilnBench$Scan", name := "fact", desc := "()LKilnBench$Test;" } : Jvm.MethodName)) ∈ lw_tbl := lw_at lw_m4 58 rfl
theorem q855 : (Jvm.Cond.instanceMethod ({ cls := "KilnBench$Scan", name := "fact", desc := "()LKilnBench$Test;" } : Jvm.MethodName)) ∈ lw_all := lw_g (lw_at lw_m4 59 rfl) rfl
theorem q856 : (Jvm.Cond.code ({ cls := "KilnBench$Scan", name := "fact", desc := "()LKilnBench$Test;" } : Jvm.MethodName) prog_19_method_19_code (3 : Nat) (Option.some (Jvm.ClassFile.FieldType.object "KilnBench$Test"))) ∈ lw_all := lw_g (lw_at lw_m4 60 rfl) rfl
theorem q857 : (Jvm.Cond.stringRef "KilnBench$Scan" (151 : Nat) "not") ∈ lw_tbl := lw_at lw_m4 61 rfl
theorem q858 : (Jvm.Cond.methodLink "KilnBench$Scan" (153 : Nat) ({ cls := "KilnBench$Scan", name := "inner", desc := "()LKilnBench$Test;" } : Jvm.MethodName)) ∈ lw_all := lw_g (lw_at lw_m4 62 rfl) rfl
theorem q859 : (Jvm.Cond.privateMethod ({ cls := "KilnBench$Scan", name := "inner", desc := "()LKilnBench$Test;" } : Jvm.MethodName)) ∈ lw_tbl := lw_at lw_m4 63 rfl
theorem q860 : (Jvm.Cond.instanceMethod ({ cls := "KilnBench$Scan", name := "inner", desc := "()LKilnBench$Test;" } : Jvm.MethodName)) ∈ lw_all := lw_g (lw_at lw_m4 64 rfl) rfl
theorem q861 : (Jvm.Cond.code ({ cls := "KilnBench$Scan", name := "inner", desc := "()LKilnBench$Test;" } : Jvm.MethodName) prog_19_method_20_code (2 : Nat) (Option.some (Jvm.ClassFile.FieldType.object "KilnBench$Test"))) ∈ lw_all := lw_g (lw_at lw_m4 65 rfl) rfl
theorem q862 : (Jvm.Cond.methodLink "KilnBench$Scan" (169 : Nat) ({ cls := "KilnBench$Scan", name := "closes", desc := "(C)V" } : Jvm.MethodName)) ∈ lw_all := lw_g (lw_at lw_m4 66 rfl) rfl
theorem q863 : (Jvm.Cond.privateMethod ({ cls := "KilnBench$Scan", name := "closes", desc := "(C)V" } : Jvm.MethodName)) ∈ lw_tbl := lw_at lw_m4 67 rfl
theorem q864 : (Jvm.Cond.instanceMethod ({ cls := "KilnBench$Scan", name := "closes", desc := "(C)V" } : Jvm.MethodName)) ∈ lw_all := lw_g (lw_at lw_m4 68 rfl) rfl
theorem q865 : (Jvm.Cond.code ({ cls := "KilnBench$Scan", name := "closes", desc := "(C)V" } : Jvm.MethodName) prog_19_method_16_code (2 : Nat) (Option.none : Option Jvm.ClassFile.FieldType)) ∈ lw_all := lw_g (lw_at lw_m4 69 rfl) rfl
theorem q866 : (Jvm.Cond.methodLink "KilnBench$Scan" (122 : Nat) ({ cls := "KilnBench$Scan", name := "asks", desc := "(C)V" } : Jvm.MethodName)) ∈ lw_all := lw_g (lw_at lw_m4 70 rfl) rfl
theorem q867 : (Jvm.Cond.privateMethod ({ cls := "KilnBench$Scan", name := "asks", desc := "(C)V" } : Jvm.MethodName)) ∈ lw_tbl := lw_at lw_m4 71 rfl
theorem q868 : (Jvm.Cond.instanceMethod ({ cls := "KilnBench$Scan", name := "asks", desc := "(C)V" } : Jvm.MethodName)) ∈ lw_all := lw_g (lw_at lw_m4 72 rfl) rfl
theorem q869 : (Jvm.Cond.code ({ cls := "KilnBench$Scan", name := "asks", desc := "(C)V" } : Jvm.MethodName) prog_19_method_10_code (2 : Nat) (Option.none : Option Jvm.ClassFile.FieldType)) ∈ lw_all := lw_g (lw_at lw_m4 73 rfl) rfl
theorem q870 : (Jvm.Cond.methodLink "KilnBench$Scan" (99 : Nat) ({ cls := "KilnBench$Scan", name := "takes", desc := "(C)Z" } : Jvm.MethodName)) ∈ lw_all := lw_g (lw_at lw_m4 74 rfl) rfl
theorem q871 : (Jvm.Cond.privateMethod ({ cls := "KilnBench$Scan", name := "takes", desc := "(C)Z" } : Jvm.MethodName)) ∈ lw_tbl := lw_at lw_m4 75 rfl
theorem q872 : (Jvm.Cond.instanceMethod ({ cls := "KilnBench$Scan", name := "takes", desc := "(C)Z" } : Jvm.MethodName)) ∈ lw_all := lw_g (lw_at lw_m4 76 rfl) rfl
theorem q873 : (Jvm.Cond.code ({ cls := "KilnBench$Scan", name := "takes", desc := "(C)Z" } : Jvm.MethodName) prog_19_method_8_code (2 : Nat) (Option.some Jvm.ClassFile.FieldType.boolean)) ∈ lw_all := lw_g (lw_at lw_m4 77 rfl) rfl
theorem q874 : (Jvm.Cond.methodLink "KilnBench$Scan" (156 : Nat) ({ cls := "KilnBench$Scan", name := "wordFact", desc := "()LKilnBench$Test;" } : Jvm.MethodName)) ∈ lw_all := lw_g (lw_at lw_m4 78 rfl) rfl
theorem q875 : (Jvm.Cond.privateMethod ({ cls := "KilnBench$Scan", name := "wordFact", desc := "()LKilnBench$Test;" } : Jvm.MethodName)) ∈ lw_tbl := lw_at lw_m4 79 rfl
theorem q876 : (Jvm.Cond.instanceMethod ({ cls := "KilnBench$Scan", name := "wordFact", desc := "()LKilnBench$Test;" } : Jvm.MethodName)) ∈ lw_all := lw_g (lw_at lw_m4 80 rfl) rfl
theorem q877 : (Jvm.Cond.code ({ cls := "KilnBench$Scan", name := "wordFact", desc := "()LKilnBench$Test;" } : Jvm.MethodName) prog_19_method_21_code (1 : Nat) (Option.some (Jvm.ClassFile.FieldType.object "KilnBench$Test"))) ∈ lw_all := lw_g (lw_at lw_m4 81 rfl) rfl
theorem q878 : (Jvm.Cond.stringRef "KilnBench$Scan" (172 : Nat) "all") ∈ lw_tbl := lw_at lw_m4 82 rfl
theorem q879 : (Jvm.Cond.classLink "KilnBench$Scan" (174 : Nat) "KilnBench$Always") ∈ lw_all := lw_g (lw_at lw_m4 83 rfl) rfl
theorem q881 : (Jvm.Cond.methodLinkNest "KilnBench$Scan" (176 : Nat) ({ cls := "KilnBench$Always", name := "<init>", desc := "()V" } : Jvm.MethodName) "KilnBench") ∈ lw_tbl := lw_at lw_m4 85 rfl
theorem q886 : (Jvm.Cond.methodLink "KilnBench$Scan" (177 : Nat) ({ cls := "KilnBench$Scan", name := "against", desc := "()LKilnBench$Test;" } : Jvm.MethodName)) ∈ lw_all := lw_g (lw_at lw_m4 90 rfl) rfl
theorem q887 : (Jvm.Cond.privateMethod ({ cls := "KilnBench$Scan", name := "against", desc := "()LKilnBench$Test;" } : Jvm.MethodName)) ∈ lw_tbl := lw_at lw_m4 91 rfl
theorem q888 : (Jvm.Cond.instanceMethod ({ cls := "KilnBench$Scan", name := "against", desc := "()LKilnBench$Test;" } : Jvm.MethodName)) ∈ lw_all := lw_g (lw_at lw_m4 92 rfl) rfl
theorem q889 : (Jvm.Cond.code ({ cls := "KilnBench$Scan", name := "against", desc := "()LKilnBench$Test;" } : Jvm.MethodName) prog_19_method_22_code (3 : Nat) (Option.some (Jvm.ClassFile.FieldType.object "KilnBench$Test"))) ∈ lw_all := lw_g (lw_at lw_m4 93 rfl) rfl
theorem q890 : (Jvm.Cond.classLink "KilnBench$Scan" (184 : Nat) "KilnBench$Against") ∈ lw_all := lw_g (lw_at lw_m4 94 rfl) rfl
theorem q892 : (Jvm.Cond.methodLink "KilnBench$Scan" (186 : Nat) ({ cls := "KilnBench$Against", name := "<init>", desc := "(CLKilnBench$Sum;LKilnBench$Sum;)V" } : Jvm.MethodName)) ∈ lw_all := lw_g (lw_at lw_m4 96 rfl) rfl
theorem q906 : (Jvm.Cond.interfaceEntry "KilnBench$Scan" (159 : Nat)) ∈ lw_tbl := lw_at lw_m4 110 rfl
theorem q907 : (Jvm.Cond.methodLink "KilnBench$Scan" (159 : Nat) ({ cls := "KilnBench$Test", name := "not", desc := "()LKilnBench$Test;" } : Jvm.MethodName)) ∈ lw_all := lw_g (lw_at lw_m4 111 rfl) rfl
theorem q935 : (Jvm.Cond.stringRef "KilnBench$Scan" (149 : Nat) "and") ∈ lw_tbl := lw_at lw_m4 139 rfl
theorem q936 : (Jvm.Cond.classLink "KilnBench$Scan" (132 : Nat) "KilnBench$Several") ∈ lw_all := lw_g (lw_at lw_m4 140 rfl) rfl
theorem q938 : (Jvm.Cond.methodLink "KilnBench$Scan" (134 : Nat) ({ cls := "KilnBench$Several", name := "<init>", desc := "(ZLKilnBench$Test;)V" } : Jvm.MethodName)) ∈ lw_all := lw_g (lw_at lw_m4 142 rfl) rfl
theorem q947 : (Jvm.Cond.fieldLinkNest "KilnBench$Scan" (137 : Nat) "KilnBench$Several" "tests" "Ljava/util/ArrayList;" "KilnBench") ∈ lw_tbl := lw_at lw_m4 151 rfl
theorem q953 : (Jvm.Cond.stringRef "KilnBench$Scan" (130 : Nat) "or") ∈ lw_tbl := lw_at lw_m4 157 rfl
theorem q954 : (Jvm.Cond.classLink "KilnBench$Scan" (217 : Nat) "KilnBench$Chosen") ∈ lw_all := lw_g (lw_at lw_m4 158 rfl) rfl
theorem q956 : (Jvm.Cond.methodLink "KilnBench$Scan" (219 : Nat) ({ cls := "KilnBench$Chosen", name := "<init>", desc := "(LKilnBench$Test;LKilnBench$Sum;LKilnBench$Sum;)V" } : Jvm.MethodName)) ∈ lw_all := lw_g (lw_at lw_m4 160 rfl) rfl
theorem q970 : (Jvm.Cond.stringRef "KilnBench$Scan" (240 : Nat) "min") ∈ lw_tbl := lw_at lw_m4 174 rfl
theorem q971 : (Jvm.Cond.stringRef "KilnBench$Scan" (242 : Nat) "max") ∈ lw_tbl := lw_at lw_m4 175 rfl
theorem q972 : (Jvm.Cond.classLink "KilnBench$Scan" (247 : Nat) "KilnBench$Ends") ∈ lw_all := lw_g (lw_at lw_m4 176 rfl) rfl
theorem q974 : (Jvm.Cond.methodLink "KilnBench$Scan" (249 : Nat) ({ cls := "KilnBench$Ends", name := "<init>", desc := "(ZLKilnBench$Sum;LKilnBench$Sum;)V" } : Jvm.MethodName)) ∈ lw_all := lw_g (lw_at lw_m4 178 rfl) rfl
theorem q988 : (Jvm.Cond.methodLink "KilnBench$Scan" (202 : Nat) ({ cls := "KilnBench$Scan", name := "isProduct", desc := "()Z" } : Jvm.MethodName)) ∈ lw_all := lw_g (lw_at lw_m4 192 rfl) rfl
theorem q989 : (Jvm.Cond.privateMethod ({ cls := "KilnBench$Scan", name := "isProduct", desc := "()Z" } : Jvm.MethodName)) ∈ lw_tbl := lw_at lw_m4 193 rfl
theorem q990 : (Jvm.Cond.instanceMethod ({ cls := "KilnBench$Scan", name := "isProduct", desc := "()Z" } : Jvm.MethodName)) ∈ lw_all := lw_g (lw_at lw_m4 194 rfl) rfl
theorem q991 : (Jvm.Cond.code ({ cls := "KilnBench$Scan", name := "isProduct", desc := "()Z" } : Jvm.MethodName) prog_19_method_24_code (1 : Nat) (Option.some Jvm.ClassFile.FieldType.boolean)) ∈ lw_all := lw_g (lw_at lw_m4 195 rfl) rfl
theorem q992 : (Jvm.Cond.classLink "KilnBench$Scan" (192 : Nat) "KilnBench$Chain") ∈ lw_all := lw_g (lw_at lw_m4 196 rfl) rfl
theorem q994 : (Jvm.Cond.methodLinkNest "KilnBench$Scan" (194 : Nat) ({ cls := "KilnBench$Chain", name := "<init>", desc := "()V" } : Jvm.MethodName) "KilnBench") ∈ lw_tbl := lw_at lw_m4 198 rfl
theorem q1031 : (Jvm.Cond.methodLink "KilnBench$Scan" (195 : Nat) ({ cls := "KilnBench$Chain", name := "comes", desc := "(CLKilnBench$Sum;)V" } : Jvm.MethodName)) ∈ lw_all := lw_g (lw_at lw_m4 235 rfl) rfl
theorem q1084 : (Jvm.Cond.stringRef "KilnBench$Scan" (310 : Nat) "cracks") ∈ lw_tbl := lw_at lw_m5 48 rfl
theorem q1085 : (Jvm.Cond.methodLink "KilnBench$Scan" (315 : Nat) ({ cls := "KilnBench$Scan", name := "test", desc := "(LKilnBench$Test;III)LKilnBench$Test;" } : Jvm.MethodName)) ∈ lw_all := lw_g (lw_at lw_m5 49 rfl) rfl
theorem q1086 : (Jvm.Cond.privateMethod ({ cls := "KilnBench$Scan", name := "test", desc := "(LKilnBench$Test;III)LKilnBench$Test;" } : Jvm.MethodName)) ∈ lw_tbl := lw_at lw_m5 50 rfl
theorem q1087 : (Jvm.Cond.instanceMethod ({ cls := "KilnBench$Scan", name := "test", desc := "(LKilnBench$Test;III)LKilnBench$Test;" } : Jvm.MethodName)) ∈ lw_all := lw_g (lw_at lw_m5 51 rfl) rfl
theorem q1088 : (Jvm.Cond.code ({ cls := "KilnBench$Scan", name := "test", desc := "(LKilnBench$Test;III)LKilnBench$Test;" } : Jvm.MethodName) prog_19_method_34_code (5 : Nat) (Option.some (Jvm.ClassFile.FieldType.object "KilnBench$Test"))) ∈ lw_all := lw_g (lw_at lw_m5 52 rfl) rfl
theorem q1089 : (Jvm.Cond.stringRef "KilnBench$Scan" (318 : Nat) "sticks") ∈ lw_tbl := lw_at lw_m5 53 rfl
theorem q1090 : (Jvm.Cond.stringRef "KilnBench$Scan" (322 : Nat) "burns") ∈ lw_tbl := lw_at lw_m5 54 rfl
theorem q1091 : (Jvm.Cond.stringRef "KilnBench$Scan" (326 : Nat) "fuel") ∈ lw_tbl := lw_at lw_m5 55 rfl
theorem q1092 : (Jvm.Cond.stringRef "KilnBench$Scan" (330 : Nat) "load") ∈ lw_tbl := lw_at lw_m5 56 rfl
theorem q1093 : (Jvm.Cond.stringRef "KilnBench$Scan" (334 : Nat) "wind") ∈ lw_tbl := lw_at lw_m5 57 rfl
theorem q2177 : (Jvm.Cond.castable "KilnBench$Scan" "java/lang/Object") ∈ lw_tbl := lw_at lw_m9 181 rfl
theorem in_X5 : ∀ w ∈ wsX50, w ∈ lw_all := lw_in wsX50 [305, 307, 309, 311, 313, 315, 317, 319, 321, 323, 325, 327, 329, 331] (by decide +kernel) (by decide +kernel)

