/-! KilnBenchLaw -/
set_option maxRecDepth 100000
def RX0 : String := "KilnBenchLaw"
abbrev cX0_pick : ByteArray := method_4_code
def yX0_pick : MethodName := ⟨RX0, "pick", "([III)I"⟩
def dkwX0_pick_0 : List UInt8 := [42, 27, 184, 0, 13, 28, 184, 0, 19, 172]
abbrev dktX0_pick_0 : List UInt8 := dkwX0_pick_0 ++ []
theorem dksX0_pick_0 : cX0_pick.data.toList.drop 0 = dktX0_pick_0 := by decide +kernel
theorem dX0_pick_0 : decode cX0_pick 0 = .ok (.aload_n 0, 1) := dk_42 (dk_at dksX0_pick_0 0 rfl rfl)
theorem dX0_pick_1 : decode cX0_pick 1 = .ok (.iload_n 1, 1) := dk_27 (dk_at dksX0_pick_0 1 rfl rfl)
theorem dX0_pick_2 : decode cX0_pick 2 = .ok (.invokestatic 13, 3) := dk_184 0 13 (dk_at dksX0_pick_0 2 rfl rfl)
theorem dX0_pick_5 : decode cX0_pick 5 = .ok (.iload_n 2, 1) := dk_28 (dk_at dksX0_pick_0 5 rfl rfl)
theorem dX0_pick_6 : decode cX0_pick 6 = .ok (.invokestatic 19, 3) := dk_184 0 19 (dk_at dksX0_pick_0 6 rfl rfl)
theorem dX0_pick_9 : decode cX0_pick 9 = .ok (.ireturn, 1) := dk_172 (dk_at dksX0_pick_0 9 rfl rfl)
abbrev cX0_pick_2 : ByteArray := method_3_code
def yX0_pick_2 : MethodName := ⟨RX0, "pick", "([II)I"⟩
def dkwX0_pick_2_0 : List UInt8 := [27, 155, 0, 15, 27, 42, 190, 162, 0, 9, 42, 27, 46, 167, 0, 4, 3, 172]
abbrev dktX0_pick_2_0 : List UInt8 := dkwX0_pick_2_0 ++ []
theorem dksX0_pick_2_0 : cX0_pick_2.data.toList.drop 0 = dktX0_pick_2_0 := by decide +kernel
theorem dX0_pick_2_0 : decode cX0_pick_2 0 = .ok (.iload_n 1, 1) := dk_27 (dk_at dksX0_pick_2_0 0 rfl rfl)
theorem dX0_pick_2_1 : decode cX0_pick_2 1 = .ok (.ifCond .lt 15, 3) := dk_155 0 15 (dk_at dksX0_pick_2_0 1 rfl rfl)
theorem dX0_pick_2_4 : decode cX0_pick_2 4 = .ok (.iload_n 1, 1) := dk_27 (dk_at dksX0_pick_2_0 4 rfl rfl)
theorem dX0_pick_2_5 : decode cX0_pick_2 5 = .ok (.aload_n 0, 1) := dk_42 (dk_at dksX0_pick_2_0 5 rfl rfl)
theorem dX0_pick_2_6 : decode cX0_pick_2 6 = .ok (.arraylength, 1) := dk_190 (dk_at dksX0_pick_2_0 6 rfl rfl)
theorem dX0_pick_2_7 : decode cX0_pick_2 7 = .ok (.if_icmp .ge 9, 3) := dk_162 0 9 (dk_at dksX0_pick_2_0 7 rfl rfl)
theorem dX0_pick_2_10 : decode cX0_pick_2 10 = .ok (.aload_n 0, 1) := dk_42 (dk_at dksX0_pick_2_0 10 rfl rfl)
theorem dX0_pick_2_11 : decode cX0_pick_2 11 = .ok (.iload_n 1, 1) := dk_27 (dk_at dksX0_pick_2_0 11 rfl rfl)
theorem dX0_pick_2_12 : decode cX0_pick_2 12 = .ok (.iaload, 1) := dk_46 (dk_at dksX0_pick_2_0 12 rfl rfl)
theorem dX0_pick_2_13 : decode cX0_pick_2 13 = .ok (.goto 4, 3) := dk_167 0 4 (dk_at dksX0_pick_2_0 13 rfl rfl)
theorem dX0_pick_2_16 : decode cX0_pick_2 16 = .ok (.iconst 0, 1) := dk_3 (dk_at dksX0_pick_2_0 16 rfl rfl)
theorem dX0_pick_2_17 : decode cX0_pick_2 17 = .ok (.ireturn, 1) := dk_172 (dk_at dksX0_pick_2_0 17 rfl rfl)
abbrev cX0_stirred : ByteArray := method_2_code
def yX0_stirred : MethodName := ⟨RX0, "stirred", "([I)[I"⟩
def dkwX0_stirred_3 : List UInt8 := [97, 64, 45, 21, 4, 31, 16, 33, 125, 136, 79, 132, 4, 1, 167, 255, 227, 45, 176]
abbrev dktX0_stirred_3 : List UInt8 := dkwX0_stirred_3 ++ []
def dkwX0_stirred_2 : List UInt8 := [17, 1, 144, 188, 10, 78, 3, 54, 4, 21, 4, 45, 190, 162, 0, 28, 31, 20, 0, 9, 105, 20, 0, 11]
abbrev dktX0_stirred_2 : List UInt8 := dkwX0_stirred_2 ++ dktX0_stirred_3
def dkwX0_stirred_1 : List UInt8 := [54, 6, 31, 21, 6, 133, 131, 20, 0, 9, 105, 20, 0, 11, 97, 64, 132, 5, 1, 167, 255, 226]
abbrev dktX0_stirred_1 : List UInt8 := dkwX0_stirred_1 ++ dktX0_stirred_2
def dkwX0_stirred_0 : List UInt8 := [20, 0, 7, 64, 42, 78, 45, 190, 54, 4, 3, 54, 5, 21, 5, 21, 4, 162, 0, 29, 45, 21, 5, 46]
abbrev dktX0_stirred_0 : List UInt8 := dkwX0_stirred_0 ++ dktX0_stirred_1
theorem dksX0_stirred_0 : cX0_stirred.data.toList.drop 0 = dktX0_stirred_0 := by decide +kernel
theorem dksX0_stirred_1 : cX0_stirred.data.toList.drop 24 = dktX0_stirred_1 := dk_seg dksX0_stirred_0 24 rfl rfl
theorem dksX0_stirred_2 : cX0_stirred.data.toList.drop 46 = dktX0_stirred_2 := dk_seg dksX0_stirred_1 22 rfl rfl
theorem dksX0_stirred_3 : cX0_stirred.data.toList.drop 70 = dktX0_stirred_3 := dk_seg dksX0_stirred_2 24 rfl rfl
theorem dX0_stirred_0 : decode cX0_stirred 0 = .ok (.ldc2_w 7, 3) := dk_20 0 7 (dk_at dksX0_stirred_0 0 rfl rfl)
theorem dX0_stirred_3 : decode cX0_stirred 3 = .ok (.lstore_n 1, 1) := dk_64 (dk_at dksX0_stirred_0 3 rfl rfl)
theorem dX0_stirred_4 : decode cX0_stirred 4 = .ok (.aload_n 0, 1) := dk_42 (dk_at dksX0_stirred_0 4 rfl rfl)
theorem dX0_stirred_5 : decode cX0_stirred 5 = .ok (.astore_n 3, 1) := dk_78 (dk_at dksX0_stirred_0 5 rfl rfl)
theorem dX0_stirred_6 : decode cX0_stirred 6 = .ok (.aload_n 3, 1) := dk_45 (dk_at dksX0_stirred_0 6 rfl rfl)
theorem dX0_stirred_7 : decode cX0_stirred 7 = .ok (.arraylength, 1) := dk_190 (dk_at dksX0_stirred_0 7 rfl rfl)
theorem dX0_stirred_8 : decode cX0_stirred 8 = .ok (.istore 4, 2) := dk_54 4 (dk_at dksX0_stirred_0 8 rfl rfl)
theorem dX0_stirred_10 : decode cX0_stirred 10 = .ok (.iconst 0, 1) := dk_3 (dk_at dksX0_stirred_0 10 rfl rfl)
theorem dX0_stirred_11 : decode cX0_stirred 11 = .ok (.istore 5, 2) := dk_54 5 (dk_at dksX0_stirred_0 11 rfl rfl)
theorem dX0_stirred_13 : decode cX0_stirred 13 = .ok (.iload 5, 2) := dk_21 5 (dk_at dksX0_stirred_0 13 rfl rfl)
theorem dX0_stirred_15 : decode cX0_stirred 15 = .ok (.iload 4, 2) := dk_21 4 (dk_at dksX0_stirred_0 15 rfl rfl)
theorem dX0_stirred_17 : decode cX0_stirred 17 = .ok (.if_icmp .ge 29, 3) := dk_162 0 29 (dk_at dksX0_stirred_0 17 rfl rfl)
theorem dX0_stirred_20 : decode cX0_stirred 20 = .ok (.aload_n 3, 1) := dk_45 (dk_at dksX0_stirred_0 20 rfl rfl)
theorem dX0_stirred_21 : decode cX0_stirred 21 = .ok (.iload 5, 2) := dk_21 5 (dk_at dksX0_stirred_0 21 rfl rfl)
theorem dX0_stirred_23 : decode cX0_stirred 23 = .ok (.iaload, 1) := dk_46 (dk_at dksX0_stirred_0 23 rfl rfl)
theorem dX0_stirred_24 : decode cX0_stirred 24 = .ok (.istore 6, 2) := dk_54 6 (dk_at dksX0_stirred_1 0 rfl rfl)
theorem dX0_stirred_26 : decode cX0_stirred 26 = .ok (.lload_n 1, 1) := dk_31 (dk_at dksX0_stirred_1 2 rfl rfl)
theorem dX0_stirred_27 : decode cX0_stirred 27 = .ok (.iload 6, 2) := dk_21 6 (dk_at dksX0_stirred_1 3 rfl rfl)
theorem dX0_stirred_29 : decode cX0_stirred 29 = .ok (.i2l, 1) := dk_133 (dk_at dksX0_stirred_1 5 rfl rfl)
theorem dX0_stirred_30 : decode cX0_stirred 30 = .ok (.lxor, 1) := dk_131 (dk_at dksX0_stirred_1 6 rfl rfl)
theorem dX0_stirred_31 : decode cX0_stirred 31 = .ok (.ldc2_w 9, 3) := dk_20 0 9 (dk_at dksX0_stirred_1 7 rfl rfl)
theorem dX0_stirred_34 : decode cX0_stirred 34 = .ok (.lmul, 1) := dk_105 (dk_at dksX0_stirred_1 10 rfl rfl)
theorem dX0_stirred_35 : decode cX0_stirred 35 = .ok (.ldc2_w 11, 3) := dk_20 0 11 (dk_at dksX0_stirred_1 11 rfl rfl)
theorem dX0_stirred_38 : decode cX0_stirred 38 = .ok (.ladd, 1) := dk_97 (dk_at dksX0_stirred_1 14 rfl rfl)
theorem dX0_stirred_39 : decode cX0_stirred 39 = .ok (.lstore_n 1, 1) := dk_64 (dk_at dksX0_stirred_1 15 rfl rfl)
theorem dX0_stirred_40 : decode cX0_stirred 40 = .ok (.iinc 5 1, 3) := dk_132 5 1 (dk_at dksX0_stirred_1 16 rfl rfl)
theorem dX0_stirred_43 : decode cX0_stirred 43 = .ok (.goto (-30), 3) := dk_167 255 226 (dk_at dksX0_stirred_1 19 rfl rfl)
theorem dX0_stirred_46 : decode cX0_stirred 46 = .ok (.sipush 400, 3) := dk_17 1 144 (dk_at dksX0_stirred_2 0 rfl rfl)
theorem dX0_stirred_49 : decode cX0_stirred 49 = .ok (.newarray .int, 2) := dk_188_10 (dk_at dksX0_stirred_2 3 rfl rfl)
theorem dX0_stirred_51 : decode cX0_stirred 51 = .ok (.astore_n 3, 1) := dk_78 (dk_at dksX0_stirred_2 5 rfl rfl)
theorem dX0_stirred_52 : decode cX0_stirred 52 = .ok (.iconst 0, 1) := dk_3 (dk_at dksX0_stirred_2 6 rfl rfl)
theorem dX0_stirred_53 : decode cX0_stirred 53 = .ok (.istore 4, 2) := dk_54 4 (dk_at dksX0_stirred_2 7 rfl rfl)
theorem dX0_stirred_55 : decode cX0_stirred 55 = .ok (.iload 4, 2) := dk_21 4 (dk_at dksX0_stirred_2 9 rfl rfl)
theorem dX0_stirred_57 : decode cX0_stirred 57 = .ok (.aload_n 3, 1) := dk_45 (dk_at dksX0_stirred_2 11 rfl rfl)
theorem dX0_stirred_58 : decode cX0_stirred 58 = .ok (.arraylength, 1) := dk_190 (dk_at dksX0_stirred_2 12 rfl rfl)
theorem dX0_stirred_59 : decode cX0_stirred 59 = .ok (.if_icmp .ge 28, 3) := dk_162 0 28 (dk_at dksX0_stirred_2 13 rfl rfl)
theorem dX0_stirred_62 : decode cX0_stirred 62 = .ok (.lload_n 1, 1) := dk_31 (dk_at dksX0_stirred_2 16 rfl rfl)
theorem dX0_stirred_63 : decode cX0_stirred 63 = .ok (.ldc2_w 9, 3) := dk_20 0 9 (dk_at dksX0_stirred_2 17 rfl rfl)
theorem dX0_stirred_66 : decode cX0_stirred 66 = .ok (.lmul, 1) := dk_105 (dk_at dksX0_stirred_2 20 rfl rfl)
theorem dX0_stirred_67 : decode cX0_stirred 67 = .ok (.ldc2_w 11, 3) := dk_20 0 11 (dk_at dksX0_stirred_2 21 rfl rfl)
theorem dX0_stirred_70 : decode cX0_stirred 70 = .ok (.ladd, 1) := dk_97 (dk_at dksX0_stirred_3 0 rfl rfl)
theorem dX0_stirred_71 : decode cX0_stirred 71 = .ok (.lstore_n 1, 1) := dk_64 (dk_at dksX0_stirred_3 1 rfl rfl)
theorem dX0_stirred_72 : decode cX0_stirred 72 = .ok (.aload_n 3, 1) := dk_45 (dk_at dksX0_stirred_3 2 rfl rfl)
theorem dX0_stirred_73 : decode cX0_stirred 73 = .ok (.iload 4, 2) := dk_21 4 (dk_at dksX0_stirred_3 3 rfl rfl)
theorem dX0_stirred_75 : decode cX0_stirred 75 = .ok (.lload_n 1, 1) := dk_31 (dk_at dksX0_stirred_3 5 rfl rfl)
theorem dX0_stirred_76 : decode cX0_stirred 76 = .ok (.bipush 33, 2) := dk_16 33 (dk_at dksX0_stirred_3 6 rfl rfl)
theorem dX0_stirred_78 : decode cX0_stirred 78 = .ok (.lushr, 1) := dk_125 (dk_at dksX0_stirred_3 8 rfl rfl)
theorem dX0_stirred_79 : decode cX0_stirred 79 = .ok (.l2i, 1) := dk_136 (dk_at dksX0_stirred_3 9 rfl rfl)
theorem dX0_stirred_80 : decode cX0_stirred 80 = .ok (.iastore, 1) := dk_79 (dk_at dksX0_stirred_3 10 rfl rfl)
theorem dX0_stirred_81 : decode cX0_stirred 81 = .ok (.iinc 4 1, 3) := dk_132 4 1 (dk_at dksX0_stirred_3 11 rfl rfl)
theorem dX0_stirred_84 : decode cX0_stirred 84 = .ok (.goto (-29), 3) := dk_167 255 227 (dk_at dksX0_stirred_3 14 rfl rfl)
theorem dX0_stirred_87 : decode cX0_stirred 87 = .ok (.aload_n 3, 1) := dk_45 (dk_at dksX0_stirred_3 17 rfl rfl)
theorem dX0_stirred_88 : decode cX0_stirred 88 = .ok (.areturn, 1) := dk_176 (dk_at dksX0_stirred_3 18 rfl rfl)
abbrev cX0_feed : ByteArray := method_6_code
def yX0_feed : MethodName := ⟨RX0, "feed", "(LKilnBench;Ljava/lang/String;)Z"⟩
def dkwX0_feed_1 : List UInt8 := [132, 3, 1, 167, 255, 239, 42, 44, 184, 0, 45, 172]
abbrev dktX0_feed_1 : List UInt8 := dkwX0_feed_1 ++ []
def dkwX0_feed_0 : List UInt8 := [43, 182, 0, 35, 188, 10, 77, 3, 62, 29, 44, 190, 162, 0, 17, 44, 29, 43, 29, 182, 0, 41, 79]
abbrev dktX0_feed_0 : List UInt8 := dkwX0_feed_0 ++ dktX0_feed_1
theorem dksX0_feed_0 : cX0_feed.data.toList.drop 0 = dktX0_feed_0 := by decide +kernel
theorem dksX0_feed_1 : cX0_feed.data.toList.drop 23 = dktX0_feed_1 := dk_seg dksX0_feed_0 23 rfl rfl
theorem dX0_feed_0 : decode cX0_feed 0 = .ok (.aload_n 1, 1) := dk_43 (dk_at dksX0_feed_0 0 rfl rfl)
theorem dX0_feed_1 : decode cX0_feed 1 = .ok (.invokevirtual 35, 3) := dk_182 0 35 (dk_at dksX0_feed_0 1 rfl rfl)
theorem dX0_feed_4 : decode cX0_feed 4 = .ok (.newarray .int, 2) := dk_188_10 (dk_at dksX0_feed_0 4 rfl rfl)
theorem dX0_feed_6 : decode cX0_feed 6 = .ok (.astore_n 2, 1) := dk_77 (dk_at dksX0_feed_0 6 rfl rfl)
theorem dX0_feed_7 : decode cX0_feed 7 = .ok (.iconst 0, 1) := dk_3 (dk_at dksX0_feed_0 7 rfl rfl)
theorem dX0_feed_8 : decode cX0_feed 8 = .ok (.istore_n 3, 1) := dk_62 (dk_at dksX0_feed_0 8 rfl rfl)
theorem dX0_feed_9 : decode cX0_feed 9 = .ok (.iload_n 3, 1) := dk_29 (dk_at dksX0_feed_0 9 rfl rfl)
theorem dX0_feed_10 : decode cX0_feed 10 = .ok (.aload_n 2, 1) := dk_44 (dk_at dksX0_feed_0 10 rfl rfl)
theorem dX0_feed_11 : decode cX0_feed 11 = .ok (.arraylength, 1) := dk_190 (dk_at dksX0_feed_0 11 rfl rfl)
theorem dX0_feed_12 : decode cX0_feed 12 = .ok (.if_icmp .ge 17, 3) := dk_162 0 17 (dk_at dksX0_feed_0 12 rfl rfl)
theorem dX0_feed_15 : decode cX0_feed 15 = .ok (.aload_n 2, 1) := dk_44 (dk_at dksX0_feed_0 15 rfl rfl)
theorem dX0_feed_16 : decode cX0_feed 16 = .ok (.iload_n 3, 1) := dk_29 (dk_at dksX0_feed_0 16 rfl rfl)
theorem dX0_feed_17 : decode cX0_feed 17 = .ok (.aload_n 1, 1) := dk_43 (dk_at dksX0_feed_0 17 rfl rfl)
theorem dX0_feed_18 : decode cX0_feed 18 = .ok (.iload_n 3, 1) := dk_29 (dk_at dksX0_feed_0 18 rfl rfl)
theorem dX0_feed_19 : decode cX0_feed 19 = .ok (.invokevirtual 41, 3) := dk_182 0 41 (dk_at dksX0_feed_0 19 rfl rfl)
theorem dX0_feed_22 : decode cX0_feed 22 = .ok (.iastore, 1) := dk_79 (dk_at dksX0_feed_0 22 rfl rfl)
theorem dX0_feed_23 : decode cX0_feed 23 = .ok (.iinc 3 1, 3) := dk_132 3 1 (dk_at dksX0_feed_1 0 rfl rfl)
theorem dX0_feed_26 : decode cX0_feed 26 = .ok (.goto (-17), 3) := dk_167 255 239 (dk_at dksX0_feed_1 3 rfl rfl)
theorem dX0_feed_29 : decode cX0_feed 29 = .ok (.aload_n 0, 1) := dk_42 (dk_at dksX0_feed_1 6 rfl rfl)
theorem dX0_feed_30 : decode cX0_feed 30 = .ok (.aload_n 2, 1) := dk_44 (dk_at dksX0_feed_1 7 rfl rfl)
theorem dX0_feed_31 : decode cX0_feed 31 = .ok (.invokestatic 45, 3) := dk_184 0 45 (dk_at dksX0_feed_1 8 rfl rfl)
theorem dX0_feed_34 : decode cX0_feed 34 = .ok (.ireturn, 1) := dk_172 (dk_at dksX0_feed_1 11 rfl rfl)
abbrev cX0_feed_2 : ByteArray := method_5_code
def yX0_feed_2 : MethodName := ⟨RX0, "feed", "(LKilnBench;[I)Z"⟩
def dkwX0_feed_2_4 : List UInt8 := [167, 255, 163, 42, 43, 190, 182, 0, 31, 172]
abbrev dktX0_feed_2_4 : List UInt8 := dkwX0_feed_2_4 ++ []
def dkwX0_feed_2_3 : List UInt8 := [46, 45, 4, 46, 45, 5, 46, 45, 6, 46, 45, 7, 46, 182, 0, 25, 156, 0, 5, 3, 172, 132, 2, 20]
abbrev dktX0_feed_2_3 : List UInt8 := dkwX0_feed_2_3 ++ dktX0_feed_2_4
def dkwX0_feed_2_2 : List UInt8 := [21, 4, 96, 46, 17, 0, 255, 126, 167, 0, 5, 16, 32, 128, 79, 132, 4, 1, 167, 255, 206, 42, 45, 3]
abbrev dktX0_feed_2_2 : List UInt8 := dkwX0_feed_2_2 ++ dktX0_feed_2_3
def dkwX0_feed_2_1 : List UInt8 := [21, 4, 7, 108, 45, 21, 4, 7, 108, 46, 16, 8, 120, 28, 21, 4, 96, 43, 190, 162, 0, 16, 43, 28]
abbrev dktX0_feed_2_1 : List UInt8 := dkwX0_feed_2_1 ++ dktX0_feed_2_2
def dkwX0_feed_2_0 : List UInt8 := [3, 61, 28, 43, 190, 162, 0, 93, 8, 188, 10, 78, 3, 54, 4, 21, 4, 16, 20, 162, 0, 49, 45]
abbrev dktX0_feed_2_0 : List UInt8 := dkwX0_feed_2_0 ++ dktX0_feed_2_1
theorem dksX0_feed_2_0 : cX0_feed_2.data.toList.drop 0 = dktX0_feed_2_0 := by decide +kernel
theorem dksX0_feed_2_1 : cX0_feed_2.data.toList.drop 23 = dktX0_feed_2_1 := dk_seg dksX0_feed_2_0 23 rfl rfl
theorem dksX0_feed_2_2 : cX0_feed_2.data.toList.drop 47 = dktX0_feed_2_2 := dk_seg dksX0_feed_2_1 24 rfl rfl
theorem dksX0_feed_2_3 : cX0_feed_2.data.toList.drop 71 = dktX0_feed_2_3 := dk_seg dksX0_feed_2_2 24 rfl rfl
theorem dksX0_feed_2_4 : cX0_feed_2.data.toList.drop 95 = dktX0_feed_2_4 := dk_seg dksX0_feed_2_3 24 rfl rfl
theorem dX0_feed_2_0 : decode cX0_feed_2 0 = .ok (.iconst 0, 1) := dk_3 (dk_at dksX0_feed_2_0 0 rfl rfl)
theorem dX0_feed_2_1 : decode cX0_feed_2 1 = .ok (.istore_n 2, 1) := dk_61 (dk_at dksX0_feed_2_0 1 rfl rfl)
theorem dX0_feed_2_2 : decode cX0_feed_2 2 = .ok (.iload_n 2, 1) := dk_28 (dk_at dksX0_feed_2_0 2 rfl rfl)
theorem dX0_feed_2_3 : decode cX0_feed_2 3 = .ok (.aload_n 1, 1) := dk_43 (dk_at dksX0_feed_2_0 3 rfl rfl)
theorem dX0_feed_2_4 : decode cX0_feed_2 4 = .ok (.arraylength, 1) := dk_190 (dk_at dksX0_feed_2_0 4 rfl rfl)
theorem dX0_feed_2_5 : decode cX0_feed_2 5 = .ok (.if_icmp .ge 93, 3) := dk_162 0 93 (dk_at dksX0_feed_2_0 5 rfl rfl)
theorem dX0_feed_2_8 : decode cX0_feed_2 8 = .ok (.iconst 5, 1) := dk_8 (dk_at dksX0_feed_2_0 8 rfl rfl)
theorem dX0_feed_2_9 : decode cX0_feed_2 9 = .ok (.newarray .int, 2) := dk_188_10 (dk_at dksX0_feed_2_0 9 rfl rfl)
theorem dX0_feed_2_11 : decode cX0_feed_2 11 = .ok (.astore_n 3, 1) := dk_78 (dk_at dksX0_feed_2_0 11 rfl rfl)
theorem dX0_feed_2_12 : decode cX0_feed_2 12 = .ok (.iconst 0, 1) := dk_3 (dk_at dksX0_feed_2_0 12 rfl rfl)
theorem dX0_feed_2_13 : decode cX0_feed_2 13 = .ok (.istore 4, 2) := dk_54 4 (dk_at dksX0_feed_2_0 13 rfl rfl)
theorem dX0_feed_2_15 : decode cX0_feed_2 15 = .ok (.iload 4, 2) := dk_21 4 (dk_at dksX0_feed_2_0 15 rfl rfl)
theorem dX0_feed_2_17 : decode cX0_feed_2 17 = .ok (.bipush 20, 2) := dk_16 20 (dk_at dksX0_feed_2_0 17 rfl rfl)
theorem dX0_feed_2_19 : decode cX0_feed_2 19 = .ok (.if_icmp .ge 49, 3) := dk_162 0 49 (dk_at dksX0_feed_2_0 19 rfl rfl)
theorem dX0_feed_2_22 : decode cX0_feed_2 22 = .ok (.aload_n 3, 1) := dk_45 (dk_at dksX0_feed_2_0 22 rfl rfl)
theorem dX0_feed_2_23 : decode cX0_feed_2 23 = .ok (.iload 4, 2) := dk_21 4 (dk_at dksX0_feed_2_1 0 rfl rfl)
theorem dX0_feed_2_25 : decode cX0_feed_2 25 = .ok (.iconst 4, 1) := dk_7 (dk_at dksX0_feed_2_1 2 rfl rfl)
theorem dX0_feed_2_26 : decode cX0_feed_2 26 = .ok (.idiv, 1) := dk_108 (dk_at dksX0_feed_2_1 3 rfl rfl)
theorem dX0_feed_2_27 : decode cX0_feed_2 27 = .ok (.aload_n 3, 1) := dk_45 (dk_at dksX0_feed_2_1 4 rfl rfl)
theorem dX0_feed_2_28 : decode cX0_feed_2 28 = .ok (.iload 4, 2) := dk_21 4 (dk_at dksX0_feed_2_1 5 rfl rfl)
theorem dX0_feed_2_30 : decode cX0_feed_2 30 = .ok (.iconst 4, 1) := dk_7 (dk_at dksX0_feed_2_1 7 rfl rfl)
theorem dX0_feed_2_31 : decode cX0_feed_2 31 = .ok (.idiv, 1) := dk_108 (dk_at dksX0_feed_2_1 8 rfl rfl)
theorem dX0_feed_2_32 : decode cX0_feed_2 32 = .ok (.iaload, 1) := dk_46 (dk_at dksX0_feed_2_1 9 rfl rfl)
theorem dX0_feed_2_33 : decode cX0_feed_2 33 = .ok (.bipush 8, 2) := dk_16 8 (dk_at dksX0_feed_2_1 10 rfl rfl)
theorem dX0_feed_2_35 : decode cX0_feed_2 35 = .ok (.ishl, 1) := dk_120 (dk_at dksX0_feed_2_1 12 rfl rfl)
theorem dX0_feed_2_36 : decode cX0_feed_2 36 = .ok (.iload_n 2, 1) := dk_28 (dk_at dksX0_feed_2_1 13 rfl rfl)
theorem dX0_feed_2_37 : decode cX0_feed_2 37 = .ok (.iload 4, 2) := dk_21 4 (dk_at dksX0_feed_2_1 14 rfl rfl)
theorem dX0_feed_2_39 : decode cX0_feed_2 39 = .ok (.iadd, 1) := dk_96 (dk_at dksX0_feed_2_1 16 rfl rfl)
theorem dX0_feed_2_40 : decode cX0_feed_2 40 = .ok (.aload_n 1, 1) := dk_43 (dk_at dksX0_feed_2_1 17 rfl rfl)
theorem dX0_feed_2_41 : decode cX0_feed_2 41 = .ok (.arraylength, 1) := dk_190 (dk_at dksX0_feed_2_1 18 rfl rfl)
theorem dX0_feed_2_42 : decode cX0_feed_2 42 = .ok (.if_icmp .ge 16, 3) := dk_162 0 16 (dk_at dksX0_feed_2_1 19 rfl rfl)
theorem dX0_feed_2_45 : decode cX0_feed_2 45 = .ok (.aload_n 1, 1) := dk_43 (dk_at dksX0_feed_2_1 22 rfl rfl)
theorem dX0_feed_2_46 : decode cX0_feed_2 46 = .ok (.iload_n 2, 1) := dk_28 (dk_at dksX0_feed_2_1 23 rfl rfl)
theorem dX0_feed_2_47 : decode cX0_feed_2 47 = .ok (.iload 4, 2) := dk_21 4 (dk_at dksX0_feed_2_2 0 rfl rfl)
theorem dX0_feed_2_49 : decode cX0_feed_2 49 = .ok (.iadd, 1) := dk_96 (dk_at dksX0_feed_2_2 2 rfl rfl)
theorem dX0_feed_2_50 : decode cX0_feed_2 50 = .ok (.iaload, 1) := dk_46 (dk_at dksX0_feed_2_2 3 rfl rfl)
theorem dX0_feed_2_51 : decode cX0_feed_2 51 = .ok (.sipush 255, 3) := dk_17 0 255 (dk_at dksX0_feed_2_2 4 rfl rfl)
theorem dX0_feed_2_54 : decode cX0_feed_2 54 = .ok (.iand, 1) := dk_126 (dk_at dksX0_feed_2_2 7 rfl rfl)
theorem dX0_feed_2_55 : decode cX0_feed_2 55 = .ok (.goto 5, 3) := dk_167 0 5 (dk_at dksX0_feed_2_2 8 rfl rfl)
theorem dX0_feed_2_58 : decode cX0_feed_2 58 = .ok (.bipush 32, 2) := dk_16 32 (dk_at dksX0_feed_2_2 11 rfl rfl)
theorem dX0_feed_2_60 : decode cX0_feed_2 60 = .ok (.ior, 1) := dk_128 (dk_at dksX0_feed_2_2 13 rfl rfl)
theorem dX0_feed_2_61 : decode cX0_feed_2 61 = .ok (.iastore, 1) := dk_79 (dk_at dksX0_feed_2_2 14 rfl rfl)
theorem dX0_feed_2_62 : decode cX0_feed_2 62 = .ok (.iinc 4 1, 3) := dk_132 4 1 (dk_at dksX0_feed_2_2 15 rfl rfl)
theorem dX0_feed_2_65 : decode cX0_feed_2 65 = .ok (.goto (-50), 3) := dk_167 255 206 (dk_at dksX0_feed_2_2 18 rfl rfl)
theorem dX0_feed_2_68 : decode cX0_feed_2 68 = .ok (.aload_n 0, 1) := dk_42 (dk_at dksX0_feed_2_2 21 rfl rfl)
theorem dX0_feed_2_69 : decode cX0_feed_2 69 = .ok (.aload_n 3, 1) := dk_45 (dk_at dksX0_feed_2_2 22 rfl rfl)
theorem dX0_feed_2_70 : decode cX0_feed_2 70 = .ok (.iconst 0, 1) := dk_3 (dk_at dksX0_feed_2_2 23 rfl rfl)
theorem dX0_feed_2_71 : decode cX0_feed_2 71 = .ok (.iaload, 1) := dk_46 (dk_at dksX0_feed_2_3 0 rfl rfl)
theorem dX0_feed_2_72 : decode cX0_feed_2 72 = .ok (.aload_n 3, 1) := dk_45 (dk_at dksX0_feed_2_3 1 rfl rfl)
theorem dX0_feed_2_73 : decode cX0_feed_2 73 = .ok (.iconst 1, 1) := dk_4 (dk_at dksX0_feed_2_3 2 rfl rfl)
theorem dX0_feed_2_74 : decode cX0_feed_2 74 = .ok (.iaload, 1) := dk_46 (dk_at dksX0_feed_2_3 3 rfl rfl)
theorem dX0_feed_2_75 : decode cX0_feed_2 75 = .ok (.aload_n 3, 1) := dk_45 (dk_at dksX0_feed_2_3 4 rfl rfl)
theorem dX0_feed_2_76 : decode cX0_feed_2 76 = .ok (.iconst 2, 1) := dk_5 (dk_at dksX0_feed_2_3 5 rfl rfl)
theorem dX0_feed_2_77 : decode cX0_feed_2 77 = .ok (.iaload, 1) := dk_46 (dk_at dksX0_feed_2_3 6 rfl rfl)
theorem dX0_feed_2_78 : decode cX0_feed_2 78 = .ok (.aload_n 3, 1) := dk_45 (dk_at dksX0_feed_2_3 7 rfl rfl)
theorem dX0_feed_2_79 : decode cX0_feed_2 79 = .ok (.iconst 3, 1) := dk_6 (dk_at dksX0_feed_2_3 8 rfl rfl)
theorem dX0_feed_2_80 : decode cX0_feed_2 80 = .ok (.iaload, 1) := dk_46 (dk_at dksX0_feed_2_3 9 rfl rfl)
theorem dX0_feed_2_81 : decode cX0_feed_2 81 = .ok (.aload_n 3, 1) := dk_45 (dk_at dksX0_feed_2_3 10 rfl rfl)
theorem dX0_feed_2_82 : decode cX0_feed_2 82 = .ok (.iconst 4, 1) := dk_7 (dk_at dksX0_feed_2_3 11 rfl rfl)
theorem dX0_feed_2_83 : decode cX0_feed_2 83 = .ok (.iaload, 1) := dk_46 (dk_at dksX0_feed_2_3 12 rfl rfl)
theorem dX0_feed_2_84 : decode cX0_feed_2 84 = .ok (.invokevirtual 25, 3) := dk_182 0 25 (dk_at dksX0_feed_2_3 13 rfl rfl)
theorem dX0_feed_2_87 : decode cX0_feed_2 87 = .ok (.ifCond .ge 5, 3) := dk_156 0 5 (dk_at dksX0_feed_2_3 16 rfl rfl)
theorem dX0_feed_2_90 : decode cX0_feed_2 90 = .ok (.iconst 0, 1) := dk_3 (dk_at dksX0_feed_2_3 19 rfl rfl)
theorem dX0_feed_2_91 : decode cX0_feed_2 91 = .ok (.ireturn, 1) := dk_172 (dk_at dksX0_feed_2_3 20 rfl rfl)
theorem dX0_feed_2_92 : decode cX0_feed_2 92 = .ok (.iinc 2 20, 3) := dk_132 2 20 (dk_at dksX0_feed_2_3 21 rfl rfl)
theorem dX0_feed_2_95 : decode cX0_feed_2 95 = .ok (.goto (-93), 3) := dk_167 255 163 (dk_at dksX0_feed_2_4 0 rfl rfl)
theorem dX0_feed_2_98 : decode cX0_feed_2 98 = .ok (.aload_n 0, 1) := dk_42 (dk_at dksX0_feed_2_4 3 rfl rfl)
theorem dX0_feed_2_99 : decode cX0_feed_2 99 = .ok (.aload_n 1, 1) := dk_43 (dk_at dksX0_feed_2_4 4 rfl rfl)
theorem dX0_feed_2_100 : decode cX0_feed_2 100 = .ok (.arraylength, 1) := dk_190 (dk_at dksX0_feed_2_4 5 rfl rfl)
theorem dX0_feed_2_101 : decode cX0_feed_2 101 = .ok (.invokevirtual 31, 3) := dk_182 0 31 (dk_at dksX0_feed_2_4 6 rfl rfl)
theorem dX0_feed_2_104 : decode cX0_feed_2 104 = .ok (.ireturn, 1) := dk_172 (dk_at dksX0_feed_2_4 9 rfl rfl)
abbrev cX0_areThere : ByteArray := method_8_code
def yX0_areThere : MethodName := ⟨RX0, "areThere", "(LKilnBench;LKilnBenchLaw$All;)Z"⟩
def dkwX0_areThere_5 : List UInt8 := [3, 182, 0, 66, 2, 160, 0, 17, 42, 2, 3, 182, 0, 66, 2, 160, 0, 7, 4, 167, 0, 4, 3, 172]
abbrev dktX0_areThere_5 : List UInt8 := dkwX0_areThere_5 ++ []
def dkwX0_areThere_4 : List UInt8 := [28, 46, 161, 0, 5, 3, 172, 132, 3, 1, 167, 255, 162, 132, 2, 1, 167, 255, 146, 42, 43, 180, 0, 54]
abbrev dktX0_areThere_4 : List UInt8 := dkwX0_areThere_4 ++ dktX0_areThere_5
def dkwX0_areThere_3 : List UInt8 := [167, 255, 208, 42, 28, 29, 182, 0, 66, 21, 4, 160, 0, 18, 21, 4, 155, 0, 15, 29, 43, 180, 0, 69]
abbrev dktX0_areThere_3 : List UInt8 := dkwX0_areThere_3 ++ dktX0_areThere_4
def dkwX0_areThere_2 : List UInt8 := [182, 0, 63, 29, 159, 0, 6, 167, 0, 14, 21, 4, 155, 0, 5, 3, 172, 21, 5, 54, 4, 132, 5, 1]
abbrev dktX0_areThere_2 : List UInt8 := dkwX0_areThere_2 ++ dktX0_areThere_3
def dkwX0_areThere_1 : List UInt8 := [21, 5, 43, 180, 0, 60, 162, 0, 45, 42, 21, 5, 5, 182, 0, 63, 28, 160, 0, 28, 42, 21, 5, 6]
abbrev dktX0_areThere_1 : List UInt8 := dkwX0_areThere_1 ++ dktX0_areThere_2
def dkwX0_areThere_0 : List UInt8 := [3, 61, 28, 43, 180, 0, 54, 162, 0, 108, 3, 62, 29, 16, 7, 162, 0, 94, 2, 54, 4, 3, 54, 5]
abbrev dktX0_areThere_0 : List UInt8 := dkwX0_areThere_0 ++ dktX0_areThere_1
theorem dksX0_areThere_0 : cX0_areThere.data.toList.drop 0 = dktX0_areThere_0 := by decide +kernel
theorem dksX0_areThere_1 : cX0_areThere.data.toList.drop 24 = dktX0_areThere_1 := dk_seg dksX0_areThere_0 24 rfl rfl
theorem dksX0_areThere_2 : cX0_areThere.data.toList.drop 48 = dktX0_areThere_2 := dk_seg dksX0_areThere_1 24 rfl rfl
theorem dksX0_areThere_3 : cX0_areThere.data.toList.drop 72 = dktX0_areThere_3 := dk_seg dksX0_areThere_2 24 rfl rfl
theorem dksX0_areThere_4 : cX0_areThere.data.toList.drop 96 = dktX0_areThere_4 := dk_seg dksX0_areThere_3 24 rfl rfl
theorem dksX0_areThere_5 : cX0_areThere.data.toList.drop 120 = dktX0_areThere_5 := dk_seg dksX0_areThere_4 24 rfl rfl
theorem dX0_areThere_0 : decode cX0_areThere 0 = .ok (.iconst 0, 1) := dk_3 (dk_at dksX0_areThere_0 0 rfl rfl)
theorem dX0_areThere_1 : decode cX0_areThere 1 = .ok (.istore_n 2, 1) := dk_61 (dk_at dksX0_areThere_0 1 rfl rfl)
theorem dX0_areThere_2 : decode cX0_areThere 2 = .ok (.iload_n 2, 1) := dk_28 (dk_at dksX0_areThere_0 2 rfl rfl)
theorem dX0_areThere_3 : decode cX0_areThere 3 = .ok (.aload_n 1, 1) := dk_43 (dk_at dksX0_areThere_0 3 rfl rfl)
theorem dX0_areThere_4 : decode cX0_areThere 4 = .ok (.getfield 54, 3) := dk_180 0 54 (dk_at dksX0_areThere_0 4 rfl rfl)
theorem dX0_areThere_7 : decode cX0_areThere 7 = .ok (.if_icmp .ge 108, 3) := dk_162 0 108 (dk_at dksX0_areThere_0 7 rfl rfl)
theorem dX0_areThere_10 : decode cX0_areThere 10 = .ok (.iconst 0, 1) := dk_3 (dk_at dksX0_areThere_0 10 rfl rfl)
theorem dX0_areThere_11 : decode cX0_areThere 11 = .ok (.istore_n 3, 1) := dk_62 (dk_at dksX0_areThere_0 11 rfl rfl)
theorem dX0_areThere_12 : decode cX0_areThere 12 = .ok (.iload_n 3, 1) := dk_29 (dk_at dksX0_areThere_0 12 rfl rfl)
theorem dX0_areThere_13 : decode cX0_areThere 13 = .ok (.bipush 7, 2) := dk_16 7 (dk_at dksX0_areThere_0 13 rfl rfl)
theorem dX0_areThere_15 : decode cX0_areThere 15 = .ok (.if_icmp .ge 94, 3) := dk_162 0 94 (dk_at dksX0_areThere_0 15 rfl rfl)
theorem dX0_areThere_18 : decode cX0_areThere 18 = .ok (.iconst (-1), 1) := dk_2 (dk_at dksX0_areThere_0 18 rfl rfl)
theorem dX0_areThere_19 : decode cX0_areThere 19 = .ok (.istore 4, 2) := dk_54 4 (dk_at dksX0_areThere_0 19 rfl rfl)
theorem dX0_areThere_21 : decode cX0_areThere 21 = .ok (.iconst 0, 1) := dk_3 (dk_at dksX0_areThere_0 21 rfl rfl)
theorem dX0_areThere_22 : decode cX0_areThere 22 = .ok (.istore 5, 2) := dk_54 5 (dk_at dksX0_areThere_0 22 rfl rfl)
theorem dX0_areThere_24 : decode cX0_areThere 24 = .ok (.iload 5, 2) := dk_21 5 (dk_at dksX0_areThere_1 0 rfl rfl)
theorem dX0_areThere_26 : decode cX0_areThere 26 = .ok (.aload_n 1, 1) := dk_43 (dk_at dksX0_areThere_1 2 rfl rfl)
theorem dX0_areThere_27 : decode cX0_areThere 27 = .ok (.getfield 60, 3) := dk_180 0 60 (dk_at dksX0_areThere_1 3 rfl rfl)
theorem dX0_areThere_30 : decode cX0_areThere 30 = .ok (.if_icmp .ge 45, 3) := dk_162 0 45 (dk_at dksX0_areThere_1 6 rfl rfl)
theorem dX0_areThere_33 : decode cX0_areThere 33 = .ok (.aload_n 0, 1) := dk_42 (dk_at dksX0_areThere_1 9 rfl rfl)
theorem dX0_areThere_34 : decode cX0_areThere 34 = .ok (.iload 5, 2) := dk_21 5 (dk_at dksX0_areThere_1 10 rfl rfl)
theorem dX0_areThere_36 : decode cX0_areThere 36 = .ok (.iconst 2, 1) := dk_5 (dk_at dksX0_areThere_1 12 rfl rfl)
theorem dX0_areThere_37 : decode cX0_areThere 37 = .ok (.invokevirtual 63, 3) := dk_182 0 63 (dk_at dksX0_areThere_1 13 rfl rfl)
theorem dX0_areThere_40 : decode cX0_areThere 40 = .ok (.iload_n 2, 1) := dk_28 (dk_at dksX0_areThere_1 16 rfl rfl)
theorem dX0_areThere_41 : decode cX0_areThere 41 = .ok (.if_icmp .ne 28, 3) := dk_160 0 28 (dk_at dksX0_areThere_1 17 rfl rfl)
theorem dX0_areThere_44 : decode cX0_areThere 44 = .ok (.aload_n 0, 1) := dk_42 (dk_at dksX0_areThere_1 20 rfl rfl)
theorem dX0_areThere_45 : decode cX0_areThere 45 = .ok (.iload 5, 2) := dk_21 5 (dk_at dksX0_areThere_1 21 rfl rfl)
theorem dX0_areThere_47 : decode cX0_areThere 47 = .ok (.iconst 3, 1) := dk_6 (dk_at dksX0_areThere_1 23 rfl rfl)
theorem dX0_areThere_48 : decode cX0_areThere 48 = .ok (.invokevirtual 63, 3) := dk_182 0 63 (dk_at dksX0_areThere_2 0 rfl rfl)
theorem dX0_areThere_51 : decode cX0_areThere 51 = .ok (.iload_n 3, 1) := dk_29 (dk_at dksX0_areThere_2 3 rfl rfl)
theorem dX0_areThere_52 : decode cX0_areThere 52 = .ok (.if_icmp .eq 6, 3) := dk_159 0 6 (dk_at dksX0_areThere_2 4 rfl rfl)
theorem dX0_areThere_55 : decode cX0_areThere 55 = .ok (.goto 14, 3) := dk_167 0 14 (dk_at dksX0_areThere_2 7 rfl rfl)
theorem dX0_areThere_58 : decode cX0_areThere 58 = .ok (.iload 4, 2) := dk_21 4 (dk_at dksX0_areThere_2 10 rfl rfl)
theorem dX0_areThere_60 : decode cX0_areThere 60 = .ok (.ifCond .lt 5, 3) := dk_155 0 5 (dk_at dksX0_areThere_2 12 rfl rfl)
theorem dX0_areThere_63 : decode cX0_areThere 63 = .ok (.iconst 0, 1) := dk_3 (dk_at dksX0_areThere_2 15 rfl rfl)
theorem dX0_areThere_64 : decode cX0_areThere 64 = .ok (.ireturn, 1) := dk_172 (dk_at dksX0_areThere_2 16 rfl rfl)
theorem dX0_areThere_65 : decode cX0_areThere 65 = .ok (.iload 5, 2) := dk_21 5 (dk_at dksX0_areThere_2 17 rfl rfl)
theorem dX0_areThere_67 : decode cX0_areThere 67 = .ok (.istore 4, 2) := dk_54 4 (dk_at dksX0_areThere_2 19 rfl rfl)
theorem dX0_areThere_69 : decode cX0_areThere 69 = .ok (.iinc 5 1, 3) := dk_132 5 1 (dk_at dksX0_areThere_2 21 rfl rfl)
theorem dX0_areThere_72 : decode cX0_areThere 72 = .ok (.goto (-48), 3) := dk_167 255 208 (dk_at dksX0_areThere_3 0 rfl rfl)
theorem dX0_areThere_75 : decode cX0_areThere 75 = .ok (.aload_n 0, 1) := dk_42 (dk_at dksX0_areThere_3 3 rfl rfl)
theorem dX0_areThere_76 : decode cX0_areThere 76 = .ok (.iload_n 2, 1) := dk_28 (dk_at dksX0_areThere_3 4 rfl rfl)
theorem dX0_areThere_77 : decode cX0_areThere 77 = .ok (.iload_n 3, 1) := dk_29 (dk_at dksX0_areThere_3 5 rfl rfl)
theorem dX0_areThere_78 : decode cX0_areThere 78 = .ok (.invokevirtual 66, 3) := dk_182 0 66 (dk_at dksX0_areThere_3 6 rfl rfl)
theorem dX0_areThere_81 : decode cX0_areThere 81 = .ok (.iload 4, 2) := dk_21 4 (dk_at dksX0_areThere_3 9 rfl rfl)
theorem dX0_areThere_83 : decode cX0_areThere 83 = .ok (.if_icmp .ne 18, 3) := dk_160 0 18 (dk_at dksX0_areThere_3 11 rfl rfl)
theorem dX0_areThere_86 : decode cX0_areThere 86 = .ok (.iload 4, 2) := dk_21 4 (dk_at dksX0_areThere_3 14 rfl rfl)
theorem dX0_areThere_88 : decode cX0_areThere 88 = .ok (.ifCond .lt 15, 3) := dk_155 0 15 (dk_at dksX0_areThere_3 16 rfl rfl)
theorem dX0_areThere_91 : decode cX0_areThere 91 = .ok (.iload_n 3, 1) := dk_29 (dk_at dksX0_areThere_3 19 rfl rfl)
theorem dX0_areThere_92 : decode cX0_areThere 92 = .ok (.aload_n 1, 1) := dk_43 (dk_at dksX0_areThere_3 20 rfl rfl)
theorem dX0_areThere_93 : decode cX0_areThere 93 = .ok (.getfield 69, 3) := dk_180 0 69 (dk_at dksX0_areThere_3 21 rfl rfl)
theorem dX0_areThere_96 : decode cX0_areThere 96 = .ok (.iload_n 2, 1) := dk_28 (dk_at dksX0_areThere_4 0 rfl rfl)
theorem dX0_areThere_97 : decode cX0_areThere 97 = .ok (.iaload, 1) := dk_46 (dk_at dksX0_areThere_4 1 rfl rfl)
theorem dX0_areThere_98 : decode cX0_areThere 98 = .ok (.if_icmp .lt 5, 3) := dk_161 0 5 (dk_at dksX0_areThere_4 2 rfl rfl)
theorem dX0_areThere_101 : decode cX0_areThere 101 = .ok (.iconst 0, 1) := dk_3 (dk_at dksX0_areThere_4 5 rfl rfl)
theorem dX0_areThere_102 : decode cX0_areThere 102 = .ok (.ireturn, 1) := dk_172 (dk_at dksX0_areThere_4 6 rfl rfl)
theorem dX0_areThere_103 : decode cX0_areThere 103 = .ok (.iinc 3 1, 3) := dk_132 3 1 (dk_at dksX0_areThere_4 7 rfl rfl)
theorem dX0_areThere_106 : decode cX0_areThere 106 = .ok (.goto (-94), 3) := dk_167 255 162 (dk_at dksX0_areThere_4 10 rfl rfl)
theorem dX0_areThere_109 : decode cX0_areThere 109 = .ok (.iinc 2 1, 3) := dk_132 2 1 (dk_at dksX0_areThere_4 13 rfl rfl)
theorem dX0_areThere_112 : decode cX0_areThere 112 = .ok (.goto (-110), 3) := dk_167 255 146 (dk_at dksX0_areThere_4 16 rfl rfl)
theorem dX0_areThere_115 : decode cX0_areThere 115 = .ok (.aload_n 0, 1) := dk_42 (dk_at dksX0_areThere_4 19 rfl rfl)
theorem dX0_areThere_116 : decode cX0_areThere 116 = .ok (.aload_n 1, 1) := dk_43 (dk_at dksX0_areThere_4 20 rfl rfl)
theorem dX0_areThere_117 : decode cX0_areThere 117 = .ok (.getfield 54, 3) := dk_180 0 54 (dk_at dksX0_areThere_4 21 rfl rfl)
theorem dX0_areThere_120 : decode cX0_areThere 120 = .ok (.iconst 0, 1) := dk_3 (dk_at dksX0_areThere_5 0 rfl rfl)
theorem dX0_areThere_121 : decode cX0_areThere 121 = .ok (.invokevirtual 66, 3) := dk_182 0 66 (dk_at dksX0_areThere_5 1 rfl rfl)
theorem dX0_areThere_124 : decode cX0_areThere 124 = .ok (.iconst (-1), 1) := dk_2 (dk_at dksX0_areThere_5 4 rfl rfl)
theorem dX0_areThere_125 : decode cX0_areThere 125 = .ok (.if_icmp .ne 17, 3) := dk_160 0 17 (dk_at dksX0_areThere_5 5 rfl rfl)
theorem dX0_areThere_128 : decode cX0_areThere 128 = .ok (.aload_n 0, 1) := dk_42 (dk_at dksX0_areThere_5 8 rfl rfl)
theorem dX0_areThere_129 : decode cX0_areThere 129 = .ok (.iconst (-1), 1) := dk_2 (dk_at dksX0_areThere_5 9 rfl rfl)
theorem dX0_areThere_130 : decode cX0_areThere 130 = .ok (.iconst 0, 1) := dk_3 (dk_at dksX0_areThere_5 10 rfl rfl)
theorem dX0_areThere_131 : decode cX0_areThere 131 = .ok (.invokevirtual 66, 3) := dk_182 0 66 (dk_at dksX0_areThere_5 11 rfl rfl)
theorem dX0_areThere_134 : decode cX0_areThere 134 = .ok (.iconst (-1), 1) := dk_2 (dk_at dksX0_areThere_5 14 rfl rfl)
theorem dX0_areThere_135 : decode cX0_areThere 135 = .ok (.if_icmp .ne 7, 3) := dk_160 0 7 (dk_at dksX0_areThere_5 15 rfl rfl)
theorem dX0_areThere_138 : decode cX0_areThere 138 = .ok (.iconst 1, 1) := dk_4 (dk_at dksX0_areThere_5 18 rfl rfl)
theorem dX0_areThere_139 : decode cX0_areThere 139 = .ok (.goto 4, 3) := dk_167 0 4 (dk_at dksX0_areThere_5 19 rfl rfl)
theorem dX0_areThere_142 : decode cX0_areThere 142 = .ok (.iconst 0, 1) := dk_3 (dk_at dksX0_areThere_5 22 rfl rfl)
theorem dX0_areThere_143 : decode cX0_areThere 143 = .ok (.ireturn, 1) := dk_172 (dk_at dksX0_areThere_5 23 rfl rfl)
abbrev cX0_begins : ByteArray := method_9_code
def yX0_begins : MethodName := ⟨RX0, "begins", "(LKilnBench;LKilnBenchLaw$All;)Z"⟩
def dkwX0_begins_7 : List UInt8 := [42, 28, 7, 182, 0, 63, 153, 0, 5, 3, 172, 132, 2, 1, 167, 255, 184, 42, 43, 184, 0, 89, 172]
abbrev dktX0_begins_7 : List UInt8 := dkwX0_begins_7 ++ []
def dkwX0_begins_6 : List UInt8 := [46, 160, 0, 32, 42, 28, 5, 182, 0, 63, 2, 160, 0, 22, 42, 28, 6, 182, 0, 63, 2, 160, 0, 12]
abbrev dktX0_begins_6 : List UInt8 := dkwX0_begins_6 ++ dktX0_begins_7
def dkwX0_begins_5 : List UInt8 := [3, 182, 0, 63, 43, 180, 0, 83, 28, 46, 160, 0, 47, 42, 28, 4, 182, 0, 63, 43, 180, 0, 86, 28]
abbrev dktX0_begins_5 : List UInt8 := dkwX0_begins_5 ++ dktX0_begins_6
def dkwX0_begins_4 : List UInt8 := [2, 159, 0, 5, 3, 172, 132, 2, 1, 167, 255, 218, 3, 61, 28, 43, 180, 0, 60, 162, 0, 70, 42, 28]
abbrev dktX0_begins_4 : List UInt8 := dkwX0_begins_4 ++ dktX0_begins_5
def dkwX0_begins_3 : List UInt8 := [162, 0, 36, 42, 28, 3, 182, 0, 80, 43, 180, 0, 69, 28, 46, 160, 0, 13, 42, 28, 5, 182, 0, 80]
abbrev dktX0_begins_3 : List UInt8 := dkwX0_begins_3 ++ dktX0_begins_4
def dkwX0_begins_2 : List UInt8 := [182, 0, 73, 154, 0, 12, 42, 16, 10, 182, 0, 73, 153, 0, 5, 3, 172, 3, 61, 28, 43, 180, 0, 54]
abbrev dktX0_begins_2 : List UInt8 := dkwX0_begins_2 ++ dktX0_begins_3
def dkwX0_begins_1 : List UInt8 := [42, 6, 182, 0, 73, 43, 180, 0, 77, 160, 0, 29, 42, 5, 182, 0, 73, 154, 0, 21, 42, 16, 8]
abbrev dktX0_begins_1 : List UInt8 := dkwX0_begins_1 ++ dktX0_begins_2
def dkwX0_begins_0 : List UInt8 := [42, 3, 182, 0, 73, 43, 180, 0, 60, 160, 0, 53, 42, 4, 182, 0, 73, 43, 180, 0, 54, 160, 0, 41]
abbrev dktX0_begins_0 : List UInt8 := dkwX0_begins_0 ++ dktX0_begins_1
theorem dksX0_begins_0 : cX0_begins.data.toList.drop 0 = dktX0_begins_0 := by decide +kernel
theorem dksX0_begins_1 : cX0_begins.data.toList.drop 24 = dktX0_begins_1 := dk_seg dksX0_begins_0 24 rfl rfl
theorem dksX0_begins_2 : cX0_begins.data.toList.drop 47 = dktX0_begins_2 := dk_seg dksX0_begins_1 23 rfl rfl
theorem dksX0_begins_3 : cX0_begins.data.toList.drop 71 = dktX0_begins_3 := dk_seg dksX0_begins_2 24 rfl rfl
theorem dksX0_begins_4 : cX0_begins.data.toList.drop 95 = dktX0_begins_4 := dk_seg dksX0_begins_3 24 rfl rfl
theorem dksX0_begins_5 : cX0_begins.data.toList.drop 119 = dktX0_begins_5 := dk_seg dksX0_begins_4 24 rfl rfl
theorem dksX0_begins_6 : cX0_begins.data.toList.drop 143 = dktX0_begins_6 := dk_seg dksX0_begins_5 24 rfl rfl
theorem dksX0_begins_7 : cX0_begins.data.toList.drop 167 = dktX0_begins_7 := dk_seg dksX0_begins_6 24 rfl rfl
theorem dX0_begins_0 : decode cX0_begins 0 = .ok (.aload_n 0, 1) := dk_42 (dk_at dksX0_begins_0 0 rfl rfl)
theorem dX0_begins_1 : decode cX0_begins 1 = .ok (.iconst 0, 1) := dk_3 (dk_at dksX0_begins_0 1 rfl rfl)
theorem dX0_begins_2 : decode cX0_begins 2 = .ok (.invokevirtual 73, 3) := dk_182 0 73 (dk_at dksX0_begins_0 2 rfl rfl)
theorem dX0_begins_5 : decode cX0_begins 5 = .ok (.aload_n 1, 1) := dk_43 (dk_at dksX0_begins_0 5 rfl rfl)
theorem dX0_begins_6 : decode cX0_begins 6 = .ok (.getfield 60, 3) := dk_180 0 60 (dk_at dksX0_begins_0 6 rfl rfl)
theorem dX0_begins_9 : decode cX0_begins 9 = .ok (.if_icmp .ne 53, 3) := dk_160 0 53 (dk_at dksX0_begins_0 9 rfl rfl)
theorem dX0_begins_12 : decode cX0_begins 12 = .ok (.aload_n 0, 1) := dk_42 (dk_at dksX0_begins_0 12 rfl rfl)
theorem dX0_begins_13 : decode cX0_begins 13 = .ok (.iconst 1, 1) := dk_4 (dk_at dksX0_begins_0 13 rfl rfl)
theorem dX0_begins_14 : decode cX0_begins 14 = .ok (.invokevirtual 73, 3) := dk_182 0 73 (dk_at dksX0_begins_0 14 rfl rfl)
theorem dX0_begins_17 : decode cX0_begins 17 = .ok (.aload_n 1, 1) := dk_43 (dk_at dksX0_begins_0 17 rfl rfl)
theorem dX0_begins_18 : decode cX0_begins 18 = .ok (.getfield 54, 3) := dk_180 0 54 (dk_at dksX0_begins_0 18 rfl rfl)
theorem dX0_begins_21 : decode cX0_begins 21 = .ok (.if_icmp .ne 41, 3) := dk_160 0 41 (dk_at dksX0_begins_0 21 rfl rfl)
theorem dX0_begins_24 : decode cX0_begins 24 = .ok (.aload_n 0, 1) := dk_42 (dk_at dksX0_begins_1 0 rfl rfl)
theorem dX0_begins_25 : decode cX0_begins 25 = .ok (.iconst 3, 1) := dk_6 (dk_at dksX0_begins_1 1 rfl rfl)
theorem dX0_begins_26 : decode cX0_begins 26 = .ok (.invokevirtual 73, 3) := dk_182 0 73 (dk_at dksX0_begins_1 2 rfl rfl)
theorem dX0_begins_29 : decode cX0_begins 29 = .ok (.aload_n 1, 1) := dk_43 (dk_at dksX0_begins_1 5 rfl rfl)
theorem dX0_begins_30 : decode cX0_begins 30 = .ok (.getfield 77, 3) := dk_180 0 77 (dk_at dksX0_begins_1 6 rfl rfl)
theorem dX0_begins_33 : decode cX0_begins 33 = .ok (.if_icmp .ne 29, 3) := dk_160 0 29 (dk_at dksX0_begins_1 9 rfl rfl)
theorem dX0_begins_36 : decode cX0_begins 36 = .ok (.aload_n 0, 1) := dk_42 (dk_at dksX0_begins_1 12 rfl rfl)
theorem dX0_begins_37 : decode cX0_begins 37 = .ok (.iconst 2, 1) := dk_5 (dk_at dksX0_begins_1 13 rfl rfl)
theorem dX0_begins_38 : decode cX0_begins 38 = .ok (.invokevirtual 73, 3) := dk_182 0 73 (dk_at dksX0_begins_1 14 rfl rfl)
theorem dX0_begins_41 : decode cX0_begins 41 = .ok (.ifCond .ne 21, 3) := dk_154 0 21 (dk_at dksX0_begins_1 17 rfl rfl)
theorem dX0_begins_44 : decode cX0_begins 44 = .ok (.aload_n 0, 1) := dk_42 (dk_at dksX0_begins_1 20 rfl rfl)
theorem dX0_begins_45 : decode cX0_begins 45 = .ok (.bipush 8, 2) := dk_16 8 (dk_at dksX0_begins_1 21 rfl rfl)
theorem dX0_begins_47 : decode cX0_begins 47 = .ok (.invokevirtual 73, 3) := dk_182 0 73 (dk_at dksX0_begins_2 0 rfl rfl)
theorem dX0_begins_50 : decode cX0_begins 50 = .ok (.ifCond .ne 12, 3) := dk_154 0 12 (dk_at dksX0_begins_2 3 rfl rfl)
theorem dX0_begins_53 : decode cX0_begins 53 = .ok (.aload_n 0, 1) := dk_42 (dk_at dksX0_begins_2 6 rfl rfl)
theorem dX0_begins_54 : decode cX0_begins 54 = .ok (.bipush 10, 2) := dk_16 10 (dk_at dksX0_begins_2 7 rfl rfl)
theorem dX0_begins_56 : decode cX0_begins 56 = .ok (.invokevirtual 73, 3) := dk_182 0 73 (dk_at dksX0_begins_2 9 rfl rfl)
theorem dX0_begins_59 : decode cX0_begins 59 = .ok (.ifCond .eq 5, 3) := dk_153 0 5 (dk_at dksX0_begins_2 12 rfl rfl)
theorem dX0_begins_62 : decode cX0_begins 62 = .ok (.iconst 0, 1) := dk_3 (dk_at dksX0_begins_2 15 rfl rfl)
theorem dX0_begins_63 : decode cX0_begins 63 = .ok (.ireturn, 1) := dk_172 (dk_at dksX0_begins_2 16 rfl rfl)
theorem dX0_begins_64 : decode cX0_begins 64 = .ok (.iconst 0, 1) := dk_3 (dk_at dksX0_begins_2 17 rfl rfl)
theorem dX0_begins_65 : decode cX0_begins 65 = .ok (.istore_n 2, 1) := dk_61 (dk_at dksX0_begins_2 18 rfl rfl)
theorem dX0_begins_66 : decode cX0_begins 66 = .ok (.iload_n 2, 1) := dk_28 (dk_at dksX0_begins_2 19 rfl rfl)
theorem dX0_begins_67 : decode cX0_begins 67 = .ok (.aload_n 1, 1) := dk_43 (dk_at dksX0_begins_2 20 rfl rfl)
theorem dX0_begins_68 : decode cX0_begins 68 = .ok (.getfield 54, 3) := dk_180 0 54 (dk_at dksX0_begins_2 21 rfl rfl)
theorem dX0_begins_71 : decode cX0_begins 71 = .ok (.if_icmp .ge 36, 3) := dk_162 0 36 (dk_at dksX0_begins_3 0 rfl rfl)
theorem dX0_begins_74 : decode cX0_begins 74 = .ok (.aload_n 0, 1) := dk_42 (dk_at dksX0_begins_3 3 rfl rfl)
theorem dX0_begins_75 : decode cX0_begins 75 = .ok (.iload_n 2, 1) := dk_28 (dk_at dksX0_begins_3 4 rfl rfl)
theorem dX0_begins_76 : decode cX0_begins 76 = .ok (.iconst 0, 1) := dk_3 (dk_at dksX0_begins_3 5 rfl rfl)
theorem dX0_begins_77 : decode cX0_begins 77 = .ok (.invokevirtual 80, 3) := dk_182 0 80 (dk_at dksX0_begins_3 6 rfl rfl)
theorem dX0_begins_80 : decode cX0_begins 80 = .ok (.aload_n 1, 1) := dk_43 (dk_at dksX0_begins_3 9 rfl rfl)
theorem dX0_begins_81 : decode cX0_begins 81 = .ok (.getfield 69, 3) := dk_180 0 69 (dk_at dksX0_begins_3 10 rfl rfl)
theorem dX0_begins_84 : decode cX0_begins 84 = .ok (.iload_n 2, 1) := dk_28 (dk_at dksX0_begins_3 13 rfl rfl)
theorem dX0_begins_85 : decode cX0_begins 85 = .ok (.iaload, 1) := dk_46 (dk_at dksX0_begins_3 14 rfl rfl)
theorem dX0_begins_86 : decode cX0_begins 86 = .ok (.if_icmp .ne 13, 3) := dk_160 0 13 (dk_at dksX0_begins_3 15 rfl rfl)
theorem dX0_begins_89 : decode cX0_begins 89 = .ok (.aload_n 0, 1) := dk_42 (dk_at dksX0_begins_3 18 rfl rfl)
theorem dX0_begins_90 : decode cX0_begins 90 = .ok (.iload_n 2, 1) := dk_28 (dk_at dksX0_begins_3 19 rfl rfl)
theorem dX0_begins_91 : decode cX0_begins 91 = .ok (.iconst 2, 1) := dk_5 (dk_at dksX0_begins_3 20 rfl rfl)
theorem dX0_begins_92 : decode cX0_begins 92 = .ok (.invokevirtual 80, 3) := dk_182 0 80 (dk_at dksX0_begins_3 21 rfl rfl)
theorem dX0_begins_95 : decode cX0_begins 95 = .ok (.iconst (-1), 1) := dk_2 (dk_at dksX0_begins_4 0 rfl rfl)
theorem dX0_begins_96 : decode cX0_begins 96 = .ok (.if_icmp .eq 5, 3) := dk_159 0 5 (dk_at dksX0_begins_4 1 rfl rfl)
theorem dX0_begins_99 : decode cX0_begins 99 = .ok (.iconst 0, 1) := dk_3 (dk_at dksX0_begins_4 4 rfl rfl)
theorem dX0_begins_100 : decode cX0_begins 100 = .ok (.ireturn, 1) := dk_172 (dk_at dksX0_begins_4 5 rfl rfl)
theorem dX0_begins_101 : decode cX0_begins 101 = .ok (.iinc 2 1, 3) := dk_132 2 1 (dk_at dksX0_begins_4 6 rfl rfl)
theorem dX0_begins_104 : decode cX0_begins 104 = .ok (.goto (-38), 3) := dk_167 255 218 (dk_at dksX0_begins_4 9 rfl rfl)
theorem dX0_begins_107 : decode cX0_begins 107 = .ok (.iconst 0, 1) := dk_3 (dk_at dksX0_begins_4 12 rfl rfl)
theorem dX0_begins_108 : decode cX0_begins 108 = .ok (.istore_n 2, 1) := dk_61 (dk_at dksX0_begins_4 13 rfl rfl)
theorem dX0_begins_109 : decode cX0_begins 109 = .ok (.iload_n 2, 1) := dk_28 (dk_at dksX0_begins_4 14 rfl rfl)
theorem dX0_begins_110 : decode cX0_begins 110 = .ok (.aload_n 1, 1) := dk_43 (dk_at dksX0_begins_4 15 rfl rfl)
theorem dX0_begins_111 : decode cX0_begins 111 = .ok (.getfield 60, 3) := dk_180 0 60 (dk_at dksX0_begins_4 16 rfl rfl)
theorem dX0_begins_114 : decode cX0_begins 114 = .ok (.if_icmp .ge 70, 3) := dk_162 0 70 (dk_at dksX0_begins_4 19 rfl rfl)
theorem dX0_begins_117 : decode cX0_begins 117 = .ok (.aload_n 0, 1) := dk_42 (dk_at dksX0_begins_4 22 rfl rfl)
theorem dX0_begins_118 : decode cX0_begins 118 = .ok (.iload_n 2, 1) := dk_28 (dk_at dksX0_begins_4 23 rfl rfl)
theorem dX0_begins_119 : decode cX0_begins 119 = .ok (.iconst 0, 1) := dk_3 (dk_at dksX0_begins_5 0 rfl rfl)
theorem dX0_begins_120 : decode cX0_begins 120 = .ok (.invokevirtual 63, 3) := dk_182 0 63 (dk_at dksX0_begins_5 1 rfl rfl)
theorem dX0_begins_123 : decode cX0_begins 123 = .ok (.aload_n 1, 1) := dk_43 (dk_at dksX0_begins_5 4 rfl rfl)
theorem dX0_begins_124 : decode cX0_begins 124 = .ok (.getfield 83, 3) := dk_180 0 83 (dk_at dksX0_begins_5 5 rfl rfl)
theorem dX0_begins_127 : decode cX0_begins 127 = .ok (.iload_n 2, 1) := dk_28 (dk_at dksX0_begins_5 8 rfl rfl)
theorem dX0_begins_128 : decode cX0_begins 128 = .ok (.iaload, 1) := dk_46 (dk_at dksX0_begins_5 9 rfl rfl)
theorem dX0_begins_129 : decode cX0_begins 129 = .ok (.if_icmp .ne 47, 3) := dk_160 0 47 (dk_at dksX0_begins_5 10 rfl rfl)
theorem dX0_begins_132 : decode cX0_begins 132 = .ok (.aload_n 0, 1) := dk_42 (dk_at dksX0_begins_5 13 rfl rfl)
theorem dX0_begins_133 : decode cX0_begins 133 = .ok (.iload_n 2, 1) := dk_28 (dk_at dksX0_begins_5 14 rfl rfl)
theorem dX0_begins_134 : decode cX0_begins 134 = .ok (.iconst 1, 1) := dk_4 (dk_at dksX0_begins_5 15 rfl rfl)
theorem dX0_begins_135 : decode cX0_begins 135 = .ok (.invokevirtual 63, 3) := dk_182 0 63 (dk_at dksX0_begins_5 16 rfl rfl)
theorem dX0_begins_138 : decode cX0_begins 138 = .ok (.aload_n 1, 1) := dk_43 (dk_at dksX0_begins_5 19 rfl rfl)
theorem dX0_begins_139 : decode cX0_begins 139 = .ok (.getfield 86, 3) := dk_180 0 86 (dk_at dksX0_begins_5 20 rfl rfl)
theorem dX0_begins_142 : decode cX0_begins 142 = .ok (.iload_n 2, 1) := dk_28 (dk_at dksX0_begins_5 23 rfl rfl)
theorem dX0_begins_143 : decode cX0_begins 143 = .ok (.iaload, 1) := dk_46 (dk_at dksX0_begins_6 0 rfl rfl)
theorem dX0_begins_144 : decode cX0_begins 144 = .ok (.if_icmp .ne 32, 3) := dk_160 0 32 (dk_at dksX0_begins_6 1 rfl rfl)
theorem dX0_begins_147 : decode cX0_begins 147 = .ok (.aload_n 0, 1) := dk_42 (dk_at dksX0_begins_6 4 rfl rfl)
theorem dX0_begins_148 : decode cX0_begins 148 = .ok (.iload_n 2, 1) := dk_28 (dk_at dksX0_begins_6 5 rfl rfl)
theorem dX0_begins_149 : decode cX0_begins 149 = .ok (.iconst 2, 1) := dk_5 (dk_at dksX0_begins_6 6 rfl rfl)
theorem dX0_begins_150 : decode cX0_begins 150 = .ok (.invokevirtual 63, 3) := dk_182 0 63 (dk_at dksX0_begins_6 7 rfl rfl)
theorem dX0_begins_153 : decode cX0_begins 153 = .ok (.iconst (-1), 1) := dk_2 (dk_at dksX0_begins_6 10 rfl rfl)
theorem dX0_begins_154 : decode cX0_begins 154 = .ok (.if_icmp .ne 22, 3) := dk_160 0 22 (dk_at dksX0_begins_6 11 rfl rfl)
theorem dX0_begins_157 : decode cX0_begins 157 = .ok (.aload_n 0, 1) := dk_42 (dk_at dksX0_begins_6 14 rfl rfl)
theorem dX0_begins_158 : decode cX0_begins 158 = .ok (.iload_n 2, 1) := dk_28 (dk_at dksX0_begins_6 15 rfl rfl)
theorem dX0_begins_159 : decode cX0_begins 159 = .ok (.iconst 3, 1) := dk_6 (dk_at dksX0_begins_6 16 rfl rfl)
theorem dX0_begins_160 : decode cX0_begins 160 = .ok (.invokevirtual 63, 3) := dk_182 0 63 (dk_at dksX0_begins_6 17 rfl rfl)
theorem dX0_begins_163 : decode cX0_begins 163 = .ok (.iconst (-1), 1) := dk_2 (dk_at dksX0_begins_6 20 rfl rfl)
theorem dX0_begins_164 : decode cX0_begins 164 = .ok (.if_icmp .ne 12, 3) := dk_160 0 12 (dk_at dksX0_begins_6 21 rfl rfl)
theorem dX0_begins_167 : decode cX0_begins 167 = .ok (.aload_n 0, 1) := dk_42 (dk_at dksX0_begins_7 0 rfl rfl)
theorem dX0_begins_168 : decode cX0_begins 168 = .ok (.iload_n 2, 1) := dk_28 (dk_at dksX0_begins_7 1 rfl rfl)
theorem dX0_begins_169 : decode cX0_begins 169 = .ok (.iconst 4, 1) := dk_7 (dk_at dksX0_begins_7 2 rfl rfl)
theorem dX0_begins_170 : decode cX0_begins 170 = .ok (.invokevirtual 63, 3) := dk_182 0 63 (dk_at dksX0_begins_7 3 rfl rfl)
theorem dX0_begins_173 : decode cX0_begins 173 = .ok (.ifCond .eq 5, 3) := dk_153 0 5 (dk_at dksX0_begins_7 6 rfl rfl)
theorem dX0_begins_176 : decode cX0_begins 176 = .ok (.iconst 0, 1) := dk_3 (dk_at dksX0_begins_7 9 rfl rfl)
theorem dX0_begins_177 : decode cX0_begins 177 = .ok (.ireturn, 1) := dk_172 (dk_at dksX0_begins_7 10 rfl rfl)
theorem dX0_begins_178 : decode cX0_begins 178 = .ok (.iinc 2 1, 3) := dk_132 2 1 (dk_at dksX0_begins_7 11 rfl rfl)
theorem dX0_begins_181 : decode cX0_begins 181 = .ok (.goto (-72), 3) := dk_167 255 184 (dk_at dksX0_begins_7 14 rfl rfl)
theorem dX0_begins_184 : decode cX0_begins 184 = .ok (.aload_n 0, 1) := dk_42 (dk_at dksX0_begins_7 17 rfl rfl)
theorem dX0_begins_185 : decode cX0_begins 185 = .ok (.aload_n 1, 1) := dk_43 (dk_at dksX0_begins_7 18 rfl rfl)
theorem dX0_begins_186 : decode cX0_begins 186 = .ok (.invokestatic 89, 3) := dk_184 0 89 (dk_at dksX0_begins_7 19 rfl rfl)
theorem dX0_begins_189 : decode cX0_begins 189 = .ok (.ireturn, 1) := dk_172 (dk_at dksX0_begins_7 22 rfl rfl)
abbrev cX0_isCounted : ByteArray := method_10_code
def yX0_isCounted : MethodName := ⟨RX0, "isCounted", "(LKilnBench;LKilnBenchLaw$All;)Z"⟩
def dkwX0_isCounted_11 : List UInt8 := [4, 167, 0, 4, 3, 172]
abbrev dktX0_isCounted_11 : List UInt8 := dkwX0_isCounted_11 ++ []
def dkwX0_isCounted_10 : List UInt8 := [160, 0, 28, 42, 16, 6, 182, 0, 73, 29, 160, 0, 18, 42, 16, 7, 182, 0, 73, 21, 4, 160, 0, 7]
abbrev dktX0_isCounted_10 : List UInt8 := dkwX0_isCounted_10 ++ dktX0_isCounted_11
def dkwX0_isCounted_9 : List UInt8 := [132, 6, 1, 167, 255, 195, 42, 7, 182, 0, 73, 21, 5, 160, 0, 37, 42, 8, 182, 0, 73, 28]
abbrev dktX0_isCounted_9 : List UInt8 := dkwX0_isCounted_9 ++ dktX0_isCounted_10
def dkwX0_isCounted_8 : List UInt8 := [182, 0, 63, 42, 21, 6, 8, 182, 0, 63, 2, 160, 0, 7, 3, 167, 0, 4, 4, 159, 0, 5, 3, 172]
abbrev dktX0_isCounted_8 : List UInt8 := dkwX0_isCounted_8 ++ dktX0_isCounted_9
def dkwX0_isCounted_7 : List UInt8 := [42, 21, 6, 7, 182, 0, 63, 96, 61, 29, 42, 21, 6, 16, 6, 182, 0, 63, 96, 62, 42, 21, 6, 7]
abbrev dktX0_isCounted_7 : List UInt8 := dkwX0_isCounted_7 ++ dktX0_isCounted_8
def dkwX0_isCounted_6 : List UInt8 := [159, 0, 5, 3, 172, 132, 6, 1, 167, 255, 122, 3, 54, 6, 21, 6, 43, 180, 0, 60, 162, 0, 58, 28]
abbrev dktX0_isCounted_6 : List UInt8 := dkwX0_isCounted_6 ++ dktX0_isCounted_7
def dkwX0_isCounted_5 : List UInt8 := [21, 7, 156, 0, 7, 2, 167, 0, 18, 43, 21, 7, 21, 6, 21, 8, 42, 5, 182, 0, 73, 182, 0, 93]
abbrev dktX0_isCounted_5 : List UInt8 := dkwX0_isCounted_5 ++ dktX0_isCounted_6
def dkwX0_isCounted_4 : List UInt8 := [21, 8, 96, 54, 5, 42, 21, 6, 4, 182, 0, 80, 21, 8, 160, 0, 37, 42, 21, 6, 6, 182, 0, 80]
abbrev dktX0_isCounted_4 : List UInt8 := dkwX0_isCounted_4 ++ dktX0_isCounted_5
def dkwX0_isCounted_3 : List UInt8 := [132, 9, 1, 167, 255, 222, 21, 4, 21, 7, 155, 0, 7, 4, 167, 0, 4, 3, 96, 54, 4, 21, 5]
abbrev dktX0_isCounted_3 : List UInt8 := dkwX0_isCounted_3 ++ dktX0_isCounted_4
def dkwX0_isCounted_2 : List UInt8 := [21, 8, 42, 21, 9, 5, 182, 0, 63, 21, 6, 160, 0, 7, 4, 167, 0, 4, 3, 96, 54, 8]
abbrev dktX0_isCounted_2 : List UInt8 := dkwX0_isCounted_2 ++ dktX0_isCounted_3
def dkwX0_isCounted_1 : List UInt8 := [21, 6, 5, 182, 0, 80, 54, 7, 3, 54, 8, 3, 54, 9, 21, 9, 43, 180, 0, 60, 162, 0, 31]
abbrev dktX0_isCounted_1 : List UInt8 := dkwX0_isCounted_1 ++ dktX0_isCounted_2
def dkwX0_isCounted_0 : List UInt8 := [3, 61, 3, 62, 3, 54, 4, 3, 54, 5, 3, 54, 6, 21, 6, 43, 180, 0, 54, 162, 0, 131, 42]
abbrev dktX0_isCounted_0 : List UInt8 := dkwX0_isCounted_0 ++ dktX0_isCounted_1
theorem dksX0_isCounted_0 : cX0_isCounted.data.toList.drop 0 = dktX0_isCounted_0 := by decide +kernel
theorem dksX0_isCounted_1 : cX0_isCounted.data.toList.drop 23 = dktX0_isCounted_1 := dk_seg dksX0_isCounted_0 23 rfl rfl
theorem dksX0_isCounted_2 : cX0_isCounted.data.toList.drop 46 = dktX0_isCounted_2 := dk_seg dksX0_isCounted_1 23 rfl rfl
theorem dksX0_isCounted_3 : cX0_isCounted.data.toList.drop 68 = dktX0_isCounted_3 := dk_seg dksX0_isCounted_2 22 rfl rfl
theorem dksX0_isCounted_4 : cX0_isCounted.data.toList.drop 91 = dktX0_isCounted_4 := dk_seg dksX0_isCounted_3 23 rfl rfl
theorem dksX0_isCounted_5 : cX0_isCounted.data.toList.drop 115 = dktX0_isCounted_5 := dk_seg dksX0_isCounted_4 24 rfl rfl
theorem dksX0_isCounted_6 : cX0_isCounted.data.toList.drop 139 = dktX0_isCounted_6 := dk_seg dksX0_isCounted_5 24 rfl rfl
theorem dksX0_isCounted_7 : cX0_isCounted.data.toList.drop 163 = dktX0_isCounted_7 := dk_seg dksX0_isCounted_6 24 rfl rfl
theorem dksX0_isCounted_8 : cX0_isCounted.data.toList.drop 187 = dktX0_isCounted_8 := dk_seg dksX0_isCounted_7 24 rfl rfl
theorem dksX0_isCounted_9 : cX0_isCounted.data.toList.drop 211 = dktX0_isCounted_9 := dk_seg dksX0_isCounted_8 24 rfl rfl
theorem dksX0_isCounted_10 : cX0_isCounted.data.toList.drop 233 = dktX0_isCounted_10 := dk_seg dksX0_isCounted_9 22 rfl rfl
theorem dksX0_isCounted_11 : cX0_isCounted.data.toList.drop 257 = dktX0_isCounted_11 := dk_seg dksX0_isCounted_10 24 rfl rfl
theorem dX0_isCounted_0 : decode cX0_isCounted 0 = .ok (.iconst 0, 1) := dk_3 (dk_at dksX0_isCounted_0 0 rfl rfl)
theorem dX0_isCounted_1 : decode cX0_isCounted 1 = .ok (.istore_n 2, 1) := dk_61 (dk_at dksX0_isCounted_0 1 rfl rfl)
theorem dX0_isCounted_2 : decode cX0_isCounted 2 = .ok (.iconst 0, 1) := dk_3 (dk_at dksX0_isCounted_0 2 rfl rfl)
theorem dX0_isCounted_3 : decode cX0_isCounted 3 = .ok (.istore_n 3, 1) := dk_62 (dk_at dksX0_isCounted_0 3 rfl rfl)
theorem dX0_isCounted_4 : decode cX0_isCounted 4 = .ok (.iconst 0, 1) := dk_3 (dk_at dksX0_isCounted_0 4 rfl rfl)
theorem dX0_isCounted_5 : decode cX0_isCounted 5 = .ok (.istore 4, 2) := dk_54 4 (dk_at dksX0_isCounted_0 5 rfl rfl)
theorem dX0_isCounted_7 : decode cX0_isCounted 7 = .ok (.iconst 0, 1) := dk_3 (dk_at dksX0_isCounted_0 7 rfl rfl)
theorem dX0_isCounted_8 : decode cX0_isCounted 8 = .ok (.istore 5, 2) := dk_54 5 (dk_at dksX0_isCounted_0 8 rfl rfl)
theorem dX0_isCounted_10 : decode cX0_isCounted 10 = .ok (.iconst 0, 1) := dk_3 (dk_at dksX0_isCounted_0 10 rfl rfl)
theorem dX0_isCounted_11 : decode cX0_isCounted 11 = .ok (.istore 6, 2) := dk_54 6 (dk_at dksX0_isCounted_0 11 rfl rfl)
theorem dX0_isCounted_13 : decode cX0_isCounted 13 = .ok (.iload 6, 2) := dk_21 6 (dk_at dksX0_isCounted_0 13 rfl rfl)
theorem dX0_isCounted_15 : decode cX0_isCounted 15 = .ok (.aload_n 1, 1) := dk_43 (dk_at dksX0_isCounted_0 15 rfl rfl)
theorem dX0_isCounted_16 : decode cX0_isCounted 16 = .ok (.getfield 54, 3) := dk_180 0 54 (dk_at dksX0_isCounted_0 16 rfl rfl)
theorem dX0_isCounted_19 : decode cX0_isCounted 19 = .ok (.if_icmp .ge 131, 3) := dk_162 0 131 (dk_at dksX0_isCounted_0 19 rfl rfl)
theorem dX0_isCounted_22 : decode cX0_isCounted 22 = .ok (.aload_n 0, 1) := dk_42 (dk_at dksX0_isCounted_0 22 rfl rfl)
theorem dX0_isCounted_23 : decode cX0_isCounted 23 = .ok (.iload 6, 2) := dk_21 6 (dk_at dksX0_isCounted_1 0 rfl rfl)
theorem dX0_isCounted_25 : decode cX0_isCounted 25 = .ok (.iconst 2, 1) := dk_5 (dk_at dksX0_isCounted_1 2 rfl rfl)
theorem dX0_isCounted_26 : decode cX0_isCounted 26 = .ok (.invokevirtual 80, 3) := dk_182 0 80 (dk_at dksX0_isCounted_1 3 rfl rfl)
theorem dX0_isCounted_29 : decode cX0_isCounted 29 = .ok (.istore 7, 2) := dk_54 7 (dk_at dksX0_isCounted_1 6 rfl rfl)
theorem dX0_isCounted_31 : decode cX0_isCounted 31 = .ok (.iconst 0, 1) := dk_3 (dk_at dksX0_isCounted_1 8 rfl rfl)
theorem dX0_isCounted_32 : decode cX0_isCounted 32 = .ok (.istore 8, 2) := dk_54 8 (dk_at dksX0_isCounted_1 9 rfl rfl)
theorem dX0_isCounted_34 : decode cX0_isCounted 34 = .ok (.iconst 0, 1) := dk_3 (dk_at dksX0_isCounted_1 11 rfl rfl)
theorem dX0_isCounted_35 : decode cX0_isCounted 35 = .ok (.istore 9, 2) := dk_54 9 (dk_at dksX0_isCounted_1 12 rfl rfl)
theorem dX0_isCounted_37 : decode cX0_isCounted 37 = .ok (.iload 9, 2) := dk_21 9 (dk_at dksX0_isCounted_1 14 rfl rfl)
theorem dX0_isCounted_39 : decode cX0_isCounted 39 = .ok (.aload_n 1, 1) := dk_43 (dk_at dksX0_isCounted_1 16 rfl rfl)
theorem dX0_isCounted_40 : decode cX0_isCounted 40 = .ok (.getfield 60, 3) := dk_180 0 60 (dk_at dksX0_isCounted_1 17 rfl rfl)
theorem dX0_isCounted_43 : decode cX0_isCounted 43 = .ok (.if_icmp .ge 31, 3) := dk_162 0 31 (dk_at dksX0_isCounted_1 20 rfl rfl)
theorem dX0_isCounted_46 : decode cX0_isCounted 46 = .ok (.iload 8, 2) := dk_21 8 (dk_at dksX0_isCounted_2 0 rfl rfl)
theorem dX0_isCounted_48 : decode cX0_isCounted 48 = .ok (.aload_n 0, 1) := dk_42 (dk_at dksX0_isCounted_2 2 rfl rfl)
theorem dX0_isCounted_49 : decode cX0_isCounted 49 = .ok (.iload 9, 2) := dk_21 9 (dk_at dksX0_isCounted_2 3 rfl rfl)
theorem dX0_isCounted_51 : decode cX0_isCounted 51 = .ok (.iconst 2, 1) := dk_5 (dk_at dksX0_isCounted_2 5 rfl rfl)
theorem dX0_isCounted_52 : decode cX0_isCounted 52 = .ok (.invokevirtual 63, 3) := dk_182 0 63 (dk_at dksX0_isCounted_2 6 rfl rfl)
theorem dX0_isCounted_55 : decode cX0_isCounted 55 = .ok (.iload 6, 2) := dk_21 6 (dk_at dksX0_isCounted_2 9 rfl rfl)
theorem dX0_isCounted_57 : decode cX0_isCounted 57 = .ok (.if_icmp .ne 7, 3) := dk_160 0 7 (dk_at dksX0_isCounted_2 11 rfl rfl)
theorem dX0_isCounted_60 : decode cX0_isCounted 60 = .ok (.iconst 1, 1) := dk_4 (dk_at dksX0_isCounted_2 14 rfl rfl)
theorem dX0_isCounted_61 : decode cX0_isCounted 61 = .ok (.goto 4, 3) := dk_167 0 4 (dk_at dksX0_isCounted_2 15 rfl rfl)
theorem dX0_isCounted_64 : decode cX0_isCounted 64 = .ok (.iconst 0, 1) := dk_3 (dk_at dksX0_isCounted_2 18 rfl rfl)
theorem dX0_isCounted_65 : decode cX0_isCounted 65 = .ok (.iadd, 1) := dk_96 (dk_at dksX0_isCounted_2 19 rfl rfl)
theorem dX0_isCounted_66 : decode cX0_isCounted 66 = .ok (.istore 8, 2) := dk_54 8 (dk_at dksX0_isCounted_2 20 rfl rfl)
theorem dX0_isCounted_68 : decode cX0_isCounted 68 = .ok (.iinc 9 1, 3) := dk_132 9 1 (dk_at dksX0_isCounted_3 0 rfl rfl)
theorem dX0_isCounted_71 : decode cX0_isCounted 71 = .ok (.goto (-34), 3) := dk_167 255 222 (dk_at dksX0_isCounted_3 3 rfl rfl)
theorem dX0_isCounted_74 : decode cX0_isCounted 74 = .ok (.iload 4, 2) := dk_21 4 (dk_at dksX0_isCounted_3 6 rfl rfl)
theorem dX0_isCounted_76 : decode cX0_isCounted 76 = .ok (.iload 7, 2) := dk_21 7 (dk_at dksX0_isCounted_3 8 rfl rfl)
theorem dX0_isCounted_78 : decode cX0_isCounted 78 = .ok (.ifCond .lt 7, 3) := dk_155 0 7 (dk_at dksX0_isCounted_3 10 rfl rfl)
theorem dX0_isCounted_81 : decode cX0_isCounted 81 = .ok (.iconst 1, 1) := dk_4 (dk_at dksX0_isCounted_3 13 rfl rfl)
theorem dX0_isCounted_82 : decode cX0_isCounted 82 = .ok (.goto 4, 3) := dk_167 0 4 (dk_at dksX0_isCounted_3 14 rfl rfl)
theorem dX0_isCounted_85 : decode cX0_isCounted 85 = .ok (.iconst 0, 1) := dk_3 (dk_at dksX0_isCounted_3 17 rfl rfl)
theorem dX0_isCounted_86 : decode cX0_isCounted 86 = .ok (.iadd, 1) := dk_96 (dk_at dksX0_isCounted_3 18 rfl rfl)
theorem dX0_isCounted_87 : decode cX0_isCounted 87 = .ok (.istore 4, 2) := dk_54 4 (dk_at dksX0_isCounted_3 19 rfl rfl)
theorem dX0_isCounted_89 : decode cX0_isCounted 89 = .ok (.iload 5, 2) := dk_21 5 (dk_at dksX0_isCounted_3 21 rfl rfl)
theorem dX0_isCounted_91 : decode cX0_isCounted 91 = .ok (.iload 8, 2) := dk_21 8 (dk_at dksX0_isCounted_4 0 rfl rfl)
theorem dX0_isCounted_93 : decode cX0_isCounted 93 = .ok (.iadd, 1) := dk_96 (dk_at dksX0_isCounted_4 2 rfl rfl)
theorem dX0_isCounted_94 : decode cX0_isCounted 94 = .ok (.istore 5, 2) := dk_54 5 (dk_at dksX0_isCounted_4 3 rfl rfl)
theorem dX0_isCounted_96 : decode cX0_isCounted 96 = .ok (.aload_n 0, 1) := dk_42 (dk_at dksX0_isCounted_4 5 rfl rfl)
theorem dX0_isCounted_97 : decode cX0_isCounted 97 = .ok (.iload 6, 2) := dk_21 6 (dk_at dksX0_isCounted_4 6 rfl rfl)
theorem dX0_isCounted_99 : decode cX0_isCounted 99 = .ok (.iconst 1, 1) := dk_4 (dk_at dksX0_isCounted_4 8 rfl rfl)
theorem dX0_isCounted_100 : decode cX0_isCounted 100 = .ok (.invokevirtual 80, 3) := dk_182 0 80 (dk_at dksX0_isCounted_4 9 rfl rfl)
theorem dX0_isCounted_103 : decode cX0_isCounted 103 = .ok (.iload 8, 2) := dk_21 8 (dk_at dksX0_isCounted_4 12 rfl rfl)
theorem dX0_isCounted_105 : decode cX0_isCounted 105 = .ok (.if_icmp .ne 37, 3) := dk_160 0 37 (dk_at dksX0_isCounted_4 14 rfl rfl)
theorem dX0_isCounted_108 : decode cX0_isCounted 108 = .ok (.aload_n 0, 1) := dk_42 (dk_at dksX0_isCounted_4 17 rfl rfl)
theorem dX0_isCounted_109 : decode cX0_isCounted 109 = .ok (.iload 6, 2) := dk_21 6 (dk_at dksX0_isCounted_4 18 rfl rfl)
theorem dX0_isCounted_111 : decode cX0_isCounted 111 = .ok (.iconst 3, 1) := dk_6 (dk_at dksX0_isCounted_4 20 rfl rfl)
theorem dX0_isCounted_112 : decode cX0_isCounted 112 = .ok (.invokevirtual 80, 3) := dk_182 0 80 (dk_at dksX0_isCounted_4 21 rfl rfl)
theorem dX0_isCounted_115 : decode cX0_isCounted 115 = .ok (.iload 7, 2) := dk_21 7 (dk_at dksX0_isCounted_5 0 rfl rfl)
theorem dX0_isCounted_117 : decode cX0_isCounted 117 = .ok (.ifCond .ge 7, 3) := dk_156 0 7 (dk_at dksX0_isCounted_5 2 rfl rfl)
theorem dX0_isCounted_120 : decode cX0_isCounted 120 = .ok (.iconst (-1), 1) := dk_2 (dk_at dksX0_isCounted_5 5 rfl rfl)
theorem dX0_isCounted_121 : decode cX0_isCounted 121 = .ok (.goto 18, 3) := dk_167 0 18 (dk_at dksX0_isCounted_5 6 rfl rfl)
theorem dX0_isCounted_124 : decode cX0_isCounted 124 = .ok (.aload_n 1, 1) := dk_43 (dk_at dksX0_isCounted_5 9 rfl rfl)
theorem dX0_isCounted_125 : decode cX0_isCounted 125 = .ok (.iload 7, 2) := dk_21 7 (dk_at dksX0_isCounted_5 10 rfl rfl)
theorem dX0_isCounted_127 : decode cX0_isCounted 127 = .ok (.iload 6, 2) := dk_21 6 (dk_at dksX0_isCounted_5 12 rfl rfl)
theorem dX0_isCounted_129 : decode cX0_isCounted 129 = .ok (.iload 8, 2) := dk_21 8 (dk_at dksX0_isCounted_5 14 rfl rfl)
theorem dX0_isCounted_131 : decode cX0_isCounted 131 = .ok (.aload_n 0, 1) := dk_42 (dk_at dksX0_isCounted_5 16 rfl rfl)
theorem dX0_isCounted_132 : decode cX0_isCounted 132 = .ok (.iconst 2, 1) := dk_5 (dk_at dksX0_isCounted_5 17 rfl rfl)
theorem dX0_isCounted_133 : decode cX0_isCounted 133 = .ok (.invokevirtual 73, 3) := dk_182 0 73 (dk_at dksX0_isCounted_5 18 rfl rfl)
theorem dX0_isCounted_136 : decode cX0_isCounted 136 = .ok (.invokevirtual 93, 3) := dk_182 0 93 (dk_at dksX0_isCounted_5 21 rfl rfl)
theorem dX0_isCounted_139 : decode cX0_isCounted 139 = .ok (.if_icmp .eq 5, 3) := dk_159 0 5 (dk_at dksX0_isCounted_6 0 rfl rfl)
theorem dX0_isCounted_142 : decode cX0_isCounted 142 = .ok (.iconst 0, 1) := dk_3 (dk_at dksX0_isCounted_6 3 rfl rfl)
theorem dX0_isCounted_143 : decode cX0_isCounted 143 = .ok (.ireturn, 1) := dk_172 (dk_at dksX0_isCounted_6 4 rfl rfl)
theorem dX0_isCounted_144 : decode cX0_isCounted 144 = .ok (.iinc 6 1, 3) := dk_132 6 1 (dk_at dksX0_isCounted_6 5 rfl rfl)
theorem dX0_isCounted_147 : decode cX0_isCounted 147 = .ok (.goto (-134), 3) := dk_167 255 122 (dk_at dksX0_isCounted_6 8 rfl rfl)
theorem dX0_isCounted_150 : decode cX0_isCounted 150 = .ok (.iconst 0, 1) := dk_3 (dk_at dksX0_isCounted_6 11 rfl rfl)
theorem dX0_isCounted_151 : decode cX0_isCounted 151 = .ok (.istore 6, 2) := dk_54 6 (dk_at dksX0_isCounted_6 12 rfl rfl)
theorem dX0_isCounted_153 : decode cX0_isCounted 153 = .ok (.iload 6, 2) := dk_21 6 (dk_at dksX0_isCounted_6 14 rfl rfl)
theorem dX0_isCounted_155 : decode cX0_isCounted 155 = .ok (.aload_n 1, 1) := dk_43 (dk_at dksX0_isCounted_6 16 rfl rfl)
theorem dX0_isCounted_156 : decode cX0_isCounted 156 = .ok (.getfield 60, 3) := dk_180 0 60 (dk_at dksX0_isCounted_6 17 rfl rfl)
theorem dX0_isCounted_159 : decode cX0_isCounted 159 = .ok (.if_icmp .ge 58, 3) := dk_162 0 58 (dk_at dksX0_isCounted_6 20 rfl rfl)
theorem dX0_isCounted_162 : decode cX0_isCounted 162 = .ok (.iload_n 2, 1) := dk_28 (dk_at dksX0_isCounted_6 23 rfl rfl)
theorem dX0_isCounted_163 : decode cX0_isCounted 163 = .ok (.aload_n 0, 1) := dk_42 (dk_at dksX0_isCounted_7 0 rfl rfl)
theorem dX0_isCounted_164 : decode cX0_isCounted 164 = .ok (.iload 6, 2) := dk_21 6 (dk_at dksX0_isCounted_7 1 rfl rfl)
theorem dX0_isCounted_166 : decode cX0_isCounted 166 = .ok (.iconst 4, 1) := dk_7 (dk_at dksX0_isCounted_7 3 rfl rfl)
theorem dX0_isCounted_167 : decode cX0_isCounted 167 = .ok (.invokevirtual 63, 3) := dk_182 0 63 (dk_at dksX0_isCounted_7 4 rfl rfl)
theorem dX0_isCounted_170 : decode cX0_isCounted 170 = .ok (.iadd, 1) := dk_96 (dk_at dksX0_isCounted_7 7 rfl rfl)
theorem dX0_isCounted_171 : decode cX0_isCounted 171 = .ok (.istore_n 2, 1) := dk_61 (dk_at dksX0_isCounted_7 8 rfl rfl)
theorem dX0_isCounted_172 : decode cX0_isCounted 172 = .ok (.iload_n 3, 1) := dk_29 (dk_at dksX0_isCounted_7 9 rfl rfl)
theorem dX0_isCounted_173 : decode cX0_isCounted 173 = .ok (.aload_n 0, 1) := dk_42 (dk_at dksX0_isCounted_7 10 rfl rfl)
theorem dX0_isCounted_174 : decode cX0_isCounted 174 = .ok (.iload 6, 2) := dk_21 6 (dk_at dksX0_isCounted_7 11 rfl rfl)
theorem dX0_isCounted_176 : decode cX0_isCounted 176 = .ok (.bipush 6, 2) := dk_16 6 (dk_at dksX0_isCounted_7 13 rfl rfl)
theorem dX0_isCounted_178 : decode cX0_isCounted 178 = .ok (.invokevirtual 63, 3) := dk_182 0 63 (dk_at dksX0_isCounted_7 15 rfl rfl)
theorem dX0_isCounted_181 : decode cX0_isCounted 181 = .ok (.iadd, 1) := dk_96 (dk_at dksX0_isCounted_7 18 rfl rfl)
theorem dX0_isCounted_182 : decode cX0_isCounted 182 = .ok (.istore_n 3, 1) := dk_62 (dk_at dksX0_isCounted_7 19 rfl rfl)
theorem dX0_isCounted_183 : decode cX0_isCounted 183 = .ok (.aload_n 0, 1) := dk_42 (dk_at dksX0_isCounted_7 20 rfl rfl)
theorem dX0_isCounted_184 : decode cX0_isCounted 184 = .ok (.iload 6, 2) := dk_21 6 (dk_at dksX0_isCounted_7 21 rfl rfl)
theorem dX0_isCounted_186 : decode cX0_isCounted 186 = .ok (.iconst 4, 1) := dk_7 (dk_at dksX0_isCounted_7 23 rfl rfl)
theorem dX0_isCounted_187 : decode cX0_isCounted 187 = .ok (.invokevirtual 63, 3) := dk_182 0 63 (dk_at dksX0_isCounted_8 0 rfl rfl)
theorem dX0_isCounted_190 : decode cX0_isCounted 190 = .ok (.aload_n 0, 1) := dk_42 (dk_at dksX0_isCounted_8 3 rfl rfl)
theorem dX0_isCounted_191 : decode cX0_isCounted 191 = .ok (.iload 6, 2) := dk_21 6 (dk_at dksX0_isCounted_8 4 rfl rfl)
theorem dX0_isCounted_193 : decode cX0_isCounted 193 = .ok (.iconst 5, 1) := dk_8 (dk_at dksX0_isCounted_8 6 rfl rfl)
theorem dX0_isCounted_194 : decode cX0_isCounted 194 = .ok (.invokevirtual 63, 3) := dk_182 0 63 (dk_at dksX0_isCounted_8 7 rfl rfl)
theorem dX0_isCounted_197 : decode cX0_isCounted 197 = .ok (.iconst (-1), 1) := dk_2 (dk_at dksX0_isCounted_8 10 rfl rfl)
theorem dX0_isCounted_198 : decode cX0_isCounted 198 = .ok (.if_icmp .ne 7, 3) := dk_160 0 7 (dk_at dksX0_isCounted_8 11 rfl rfl)
theorem dX0_isCounted_201 : decode cX0_isCounted 201 = .ok (.iconst 0, 1) := dk_3 (dk_at dksX0_isCounted_8 14 rfl rfl)
theorem dX0_isCounted_202 : decode cX0_isCounted 202 = .ok (.goto 4, 3) := dk_167 0 4 (dk_at dksX0_isCounted_8 15 rfl rfl)
theorem dX0_isCounted_205 : decode cX0_isCounted 205 = .ok (.iconst 1, 1) := dk_4 (dk_at dksX0_isCounted_8 18 rfl rfl)
theorem dX0_isCounted_206 : decode cX0_isCounted 206 = .ok (.if_icmp .eq 5, 3) := dk_159 0 5 (dk_at dksX0_isCounted_8 19 rfl rfl)
theorem dX0_isCounted_209 : decode cX0_isCounted 209 = .ok (.iconst 0, 1) := dk_3 (dk_at dksX0_isCounted_8 22 rfl rfl)
theorem dX0_isCounted_210 : decode cX0_isCounted 210 = .ok (.ireturn, 1) := dk_172 (dk_at dksX0_isCounted_8 23 rfl rfl)
theorem dX0_isCounted_211 : decode cX0_isCounted 211 = .ok (.iinc 6 1, 3) := dk_132 6 1 (dk_at dksX0_isCounted_9 0 rfl rfl)
theorem dX0_isCounted_214 : decode cX0_isCounted 214 = .ok (.goto (-61), 3) := dk_167 255 195 (dk_at dksX0_isCounted_9 3 rfl rfl)
theorem dX0_isCounted_217 : decode cX0_isCounted 217 = .ok (.aload_n 0, 1) := dk_42 (dk_at dksX0_isCounted_9 6 rfl rfl)
theorem dX0_isCounted_218 : decode cX0_isCounted 218 = .ok (.iconst 4, 1) := dk_7 (dk_at dksX0_isCounted_9 7 rfl rfl)
theorem dX0_isCounted_219 : decode cX0_isCounted 219 = .ok (.invokevirtual 73, 3) := dk_182 0 73 (dk_at dksX0_isCounted_9 8 rfl rfl)
theorem dX0_isCounted_222 : decode cX0_isCounted 222 = .ok (.iload 5, 2) := dk_21 5 (dk_at dksX0_isCounted_9 11 rfl rfl)
theorem dX0_isCounted_224 : decode cX0_isCounted 224 = .ok (.if_icmp .ne 37, 3) := dk_160 0 37 (dk_at dksX0_isCounted_9 13 rfl rfl)
theorem dX0_isCounted_227 : decode cX0_isCounted 227 = .ok (.aload_n 0, 1) := dk_42 (dk_at dksX0_isCounted_9 16 rfl rfl)
theorem dX0_isCounted_228 : decode cX0_isCounted 228 = .ok (.iconst 5, 1) := dk_8 (dk_at dksX0_isCounted_9 17 rfl rfl)
theorem dX0_isCounted_229 : decode cX0_isCounted 229 = .ok (.invokevirtual 73, 3) := dk_182 0 73 (dk_at dksX0_isCounted_9 18 rfl rfl)
theorem dX0_isCounted_232 : decode cX0_isCounted 232 = .ok (.iload_n 2, 1) := dk_28 (dk_at dksX0_isCounted_9 21 rfl rfl)
theorem dX0_isCounted_233 : decode cX0_isCounted 233 = .ok (.if_icmp .ne 28, 3) := dk_160 0 28 (dk_at dksX0_isCounted_10 0 rfl rfl)
theorem dX0_isCounted_236 : decode cX0_isCounted 236 = .ok (.aload_n 0, 1) := dk_42 (dk_at dksX0_isCounted_10 3 rfl rfl)
theorem dX0_isCounted_237 : decode cX0_isCounted 237 = .ok (.bipush 6, 2) := dk_16 6 (dk_at dksX0_isCounted_10 4 rfl rfl)
theorem dX0_isCounted_239 : decode cX0_isCounted 239 = .ok (.invokevirtual 73, 3) := dk_182 0 73 (dk_at dksX0_isCounted_10 6 rfl rfl)
theorem dX0_isCounted_242 : decode cX0_isCounted 242 = .ok (.iload_n 3, 1) := dk_29 (dk_at dksX0_isCounted_10 9 rfl rfl)
theorem dX0_isCounted_243 : decode cX0_isCounted 243 = .ok (.if_icmp .ne 18, 3) := dk_160 0 18 (dk_at dksX0_isCounted_10 10 rfl rfl)
theorem dX0_isCounted_246 : decode cX0_isCounted 246 = .ok (.aload_n 0, 1) := dk_42 (dk_at dksX0_isCounted_10 13 rfl rfl)
theorem dX0_isCounted_247 : decode cX0_isCounted 247 = .ok (.bipush 7, 2) := dk_16 7 (dk_at dksX0_isCounted_10 14 rfl rfl)
theorem dX0_isCounted_249 : decode cX0_isCounted 249 = .ok (.invokevirtual 73, 3) := dk_182 0 73 (dk_at dksX0_isCounted_10 16 rfl rfl)
theorem dX0_isCounted_252 : decode cX0_isCounted 252 = .ok (.iload 4, 2) := dk_21 4 (dk_at dksX0_isCounted_10 19 rfl rfl)
theorem dX0_isCounted_254 : decode cX0_isCounted 254 = .ok (.if_icmp .ne 7, 3) := dk_160 0 7 (dk_at dksX0_isCounted_10 21 rfl rfl)
theorem dX0_isCounted_257 : decode cX0_isCounted 257 = .ok (.iconst 1, 1) := dk_4 (dk_at dksX0_isCounted_11 0 rfl rfl)
theorem dX0_isCounted_258 : decode cX0_isCounted 258 = .ok (.goto 4, 3) := dk_167 0 4 (dk_at dksX0_isCounted_11 1 rfl rfl)
theorem dX0_isCounted_261 : decode cX0_isCounted 261 = .ok (.iconst 0, 1) := dk_3 (dk_at dksX0_isCounted_11 4 rfl rfl)
theorem dX0_isCounted_262 : decode cX0_isCounted 262 = .ok (.ireturn, 1) := dk_172 (dk_at dksX0_isCounted_11 5 rfl rfl)
abbrev cX0_isTold : ByteArray := method_11_code
def yX0_isTold : MethodName := ⟨RX0, "isTold", "(LKilnBench;LKilnBenchLaw$All;III)Z"⟩
def dkwX0_isTold_5 : List UInt8 := [4, 172]
abbrev dktX0_isTold_5 : List UInt8 := dkwX0_isTold_5 ++ []
def dkwX0_isTold_4 : List UInt8 := [21, 4, 182, 0, 109, 153, 0, 7, 4, 167, 0, 4, 3, 159, 0, 5, 3, 172, 132, 5, 3, 167, 255, 145]
abbrev dktX0_isTold_4 : List UInt8 := dkwX0_isTold_4 ++ dktX0_isTold_5
def dkwX0_isTold_3 : List UInt8 := [182, 0, 97, 159, 0, 5, 3, 172, 42, 28, 21, 5, 21, 4, 182, 0, 106, 43, 28, 21, 6, 21, 5]
abbrev dktX0_isTold_3 : List UInt8 := dkwX0_isTold_3 ++ dktX0_isTold_4
def dkwX0_isTold_2 : List UInt8 := [160, 0, 30, 43, 180, 0, 103, 4, 159, 0, 24, 21, 6, 42, 28, 21, 5, 21, 4, 4, 96, 16, 6, 112]
abbrev dktX0_isTold_2 : List UInt8 := dkwX0_isTold_2 ++ dktX0_isTold_3
def dkwX0_isTold_1 : List UInt8 := [155, 0, 53, 21, 6, 16, 99, 163, 0, 46, 21, 6, 43, 28, 21, 5, 21, 4, 21, 6, 182, 0, 101]
abbrev dktX0_isTold_1 : List UInt8 := dkwX0_isTold_1 ++ dktX0_isTold_2
def dkwX0_isTold_0 : List UInt8 := [29, 54, 5, 21, 5, 16, 20, 163, 0, 110, 42, 28, 21, 5, 21, 4, 182, 0, 97, 54, 6, 21, 6]
abbrev dktX0_isTold_0 : List UInt8 := dkwX0_isTold_0 ++ dktX0_isTold_1
theorem dksX0_isTold_0 : cX0_isTold.data.toList.drop 0 = dktX0_isTold_0 := by decide +kernel
theorem dksX0_isTold_1 : cX0_isTold.data.toList.drop 23 = dktX0_isTold_1 := dk_seg dksX0_isTold_0 23 rfl rfl
theorem dksX0_isTold_2 : cX0_isTold.data.toList.drop 46 = dktX0_isTold_2 := dk_seg dksX0_isTold_1 23 rfl rfl
theorem dksX0_isTold_3 : cX0_isTold.data.toList.drop 70 = dktX0_isTold_3 := dk_seg dksX0_isTold_2 24 rfl rfl
theorem dksX0_isTold_4 : cX0_isTold.data.toList.drop 93 = dktX0_isTold_4 := dk_seg dksX0_isTold_3 23 rfl rfl
theorem dksX0_isTold_5 : cX0_isTold.data.toList.drop 117 = dktX0_isTold_5 := dk_seg dksX0_isTold_4 24 rfl rfl
theorem dX0_isTold_0 : decode cX0_isTold 0 = .ok (.iload_n 3, 1) := dk_29 (dk_at dksX0_isTold_0 0 rfl rfl)
theorem dX0_isTold_1 : decode cX0_isTold 1 = .ok (.istore 5, 2) := dk_54 5 (dk_at dksX0_isTold_0 1 rfl rfl)
theorem dX0_isTold_3 : decode cX0_isTold 3 = .ok (.iload 5, 2) := dk_21 5 (dk_at dksX0_isTold_0 3 rfl rfl)
theorem dX0_isTold_5 : decode cX0_isTold 5 = .ok (.bipush 20, 2) := dk_16 20 (dk_at dksX0_isTold_0 5 rfl rfl)
theorem dX0_isTold_7 : decode cX0_isTold 7 = .ok (.if_icmp .gt 110, 3) := dk_163 0 110 (dk_at dksX0_isTold_0 7 rfl rfl)
theorem dX0_isTold_10 : decode cX0_isTold 10 = .ok (.aload_n 0, 1) := dk_42 (dk_at dksX0_isTold_0 10 rfl rfl)
theorem dX0_isTold_11 : decode cX0_isTold 11 = .ok (.iload_n 2, 1) := dk_28 (dk_at dksX0_isTold_0 11 rfl rfl)
theorem dX0_isTold_12 : decode cX0_isTold 12 = .ok (.iload 5, 2) := dk_21 5 (dk_at dksX0_isTold_0 12 rfl rfl)
theorem dX0_isTold_14 : decode cX0_isTold 14 = .ok (.iload 4, 2) := dk_21 4 (dk_at dksX0_isTold_0 14 rfl rfl)
theorem dX0_isTold_16 : decode cX0_isTold 16 = .ok (.invokevirtual 97, 3) := dk_182 0 97 (dk_at dksX0_isTold_0 16 rfl rfl)
theorem dX0_isTold_19 : decode cX0_isTold 19 = .ok (.istore 6, 2) := dk_54 6 (dk_at dksX0_isTold_0 19 rfl rfl)
theorem dX0_isTold_21 : decode cX0_isTold 21 = .ok (.iload 6, 2) := dk_21 6 (dk_at dksX0_isTold_0 21 rfl rfl)
theorem dX0_isTold_23 : decode cX0_isTold 23 = .ok (.ifCond .lt 53, 3) := dk_155 0 53 (dk_at dksX0_isTold_1 0 rfl rfl)
theorem dX0_isTold_26 : decode cX0_isTold 26 = .ok (.iload 6, 2) := dk_21 6 (dk_at dksX0_isTold_1 3 rfl rfl)
theorem dX0_isTold_28 : decode cX0_isTold 28 = .ok (.bipush 99, 2) := dk_16 99 (dk_at dksX0_isTold_1 5 rfl rfl)
theorem dX0_isTold_30 : decode cX0_isTold 30 = .ok (.if_icmp .gt 46, 3) := dk_163 0 46 (dk_at dksX0_isTold_1 7 rfl rfl)
theorem dX0_isTold_33 : decode cX0_isTold 33 = .ok (.iload 6, 2) := dk_21 6 (dk_at dksX0_isTold_1 10 rfl rfl)
theorem dX0_isTold_35 : decode cX0_isTold 35 = .ok (.aload_n 1, 1) := dk_43 (dk_at dksX0_isTold_1 12 rfl rfl)
theorem dX0_isTold_36 : decode cX0_isTold 36 = .ok (.iload_n 2, 1) := dk_28 (dk_at dksX0_isTold_1 13 rfl rfl)
theorem dX0_isTold_37 : decode cX0_isTold 37 = .ok (.iload 5, 2) := dk_21 5 (dk_at dksX0_isTold_1 14 rfl rfl)
theorem dX0_isTold_39 : decode cX0_isTold 39 = .ok (.iload 4, 2) := dk_21 4 (dk_at dksX0_isTold_1 16 rfl rfl)
theorem dX0_isTold_41 : decode cX0_isTold 41 = .ok (.iload 6, 2) := dk_21 6 (dk_at dksX0_isTold_1 18 rfl rfl)
theorem dX0_isTold_43 : decode cX0_isTold 43 = .ok (.invokevirtual 101, 3) := dk_182 0 101 (dk_at dksX0_isTold_1 20 rfl rfl)
theorem dX0_isTold_46 : decode cX0_isTold 46 = .ok (.if_icmp .ne 30, 3) := dk_160 0 30 (dk_at dksX0_isTold_2 0 rfl rfl)
theorem dX0_isTold_49 : decode cX0_isTold 49 = .ok (.aload_n 1, 1) := dk_43 (dk_at dksX0_isTold_2 3 rfl rfl)
theorem dX0_isTold_50 : decode cX0_isTold 50 = .ok (.getfield 103, 3) := dk_180 0 103 (dk_at dksX0_isTold_2 4 rfl rfl)
theorem dX0_isTold_53 : decode cX0_isTold 53 = .ok (.iconst 1, 1) := dk_4 (dk_at dksX0_isTold_2 7 rfl rfl)
theorem dX0_isTold_54 : decode cX0_isTold 54 = .ok (.if_icmp .eq 24, 3) := dk_159 0 24 (dk_at dksX0_isTold_2 8 rfl rfl)
theorem dX0_isTold_57 : decode cX0_isTold 57 = .ok (.iload 6, 2) := dk_21 6 (dk_at dksX0_isTold_2 11 rfl rfl)
theorem dX0_isTold_59 : decode cX0_isTold 59 = .ok (.aload_n 0, 1) := dk_42 (dk_at dksX0_isTold_2 13 rfl rfl)
theorem dX0_isTold_60 : decode cX0_isTold 60 = .ok (.iload_n 2, 1) := dk_28 (dk_at dksX0_isTold_2 14 rfl rfl)
theorem dX0_isTold_61 : decode cX0_isTold 61 = .ok (.iload 5, 2) := dk_21 5 (dk_at dksX0_isTold_2 15 rfl rfl)
theorem dX0_isTold_63 : decode cX0_isTold 63 = .ok (.iload 4, 2) := dk_21 4 (dk_at dksX0_isTold_2 17 rfl rfl)
theorem dX0_isTold_65 : decode cX0_isTold 65 = .ok (.iconst 1, 1) := dk_4 (dk_at dksX0_isTold_2 19 rfl rfl)
theorem dX0_isTold_66 : decode cX0_isTold 66 = .ok (.iadd, 1) := dk_96 (dk_at dksX0_isTold_2 20 rfl rfl)
theorem dX0_isTold_67 : decode cX0_isTold 67 = .ok (.bipush 6, 2) := dk_16 6 (dk_at dksX0_isTold_2 21 rfl rfl)
theorem dX0_isTold_69 : decode cX0_isTold 69 = .ok (.irem, 1) := dk_112 (dk_at dksX0_isTold_2 23 rfl rfl)
theorem dX0_isTold_70 : decode cX0_isTold 70 = .ok (.invokevirtual 97, 3) := dk_182 0 97 (dk_at dksX0_isTold_3 0 rfl rfl)
theorem dX0_isTold_73 : decode cX0_isTold 73 = .ok (.if_icmp .eq 5, 3) := dk_159 0 5 (dk_at dksX0_isTold_3 3 rfl rfl)
theorem dX0_isTold_76 : decode cX0_isTold 76 = .ok (.iconst 0, 1) := dk_3 (dk_at dksX0_isTold_3 6 rfl rfl)
theorem dX0_isTold_77 : decode cX0_isTold 77 = .ok (.ireturn, 1) := dk_172 (dk_at dksX0_isTold_3 7 rfl rfl)
theorem dX0_isTold_78 : decode cX0_isTold 78 = .ok (.aload_n 0, 1) := dk_42 (dk_at dksX0_isTold_3 8 rfl rfl)
theorem dX0_isTold_79 : decode cX0_isTold 79 = .ok (.iload_n 2, 1) := dk_28 (dk_at dksX0_isTold_3 9 rfl rfl)
theorem dX0_isTold_80 : decode cX0_isTold 80 = .ok (.iload 5, 2) := dk_21 5 (dk_at dksX0_isTold_3 10 rfl rfl)
theorem dX0_isTold_82 : decode cX0_isTold 82 = .ok (.iload 4, 2) := dk_21 4 (dk_at dksX0_isTold_3 12 rfl rfl)
theorem dX0_isTold_84 : decode cX0_isTold 84 = .ok (.invokevirtual 106, 3) := dk_182 0 106 (dk_at dksX0_isTold_3 14 rfl rfl)
theorem dX0_isTold_87 : decode cX0_isTold 87 = .ok (.aload_n 1, 1) := dk_43 (dk_at dksX0_isTold_3 17 rfl rfl)
theorem dX0_isTold_88 : decode cX0_isTold 88 = .ok (.iload_n 2, 1) := dk_28 (dk_at dksX0_isTold_3 18 rfl rfl)
theorem dX0_isTold_89 : decode cX0_isTold 89 = .ok (.iload 6, 2) := dk_21 6 (dk_at dksX0_isTold_3 19 rfl rfl)
theorem dX0_isTold_91 : decode cX0_isTold 91 = .ok (.iload 5, 2) := dk_21 5 (dk_at dksX0_isTold_3 21 rfl rfl)
theorem dX0_isTold_93 : decode cX0_isTold 93 = .ok (.iload 4, 2) := dk_21 4 (dk_at dksX0_isTold_4 0 rfl rfl)
theorem dX0_isTold_95 : decode cX0_isTold 95 = .ok (.invokevirtual 109, 3) := dk_182 0 109 (dk_at dksX0_isTold_4 2 rfl rfl)
theorem dX0_isTold_98 : decode cX0_isTold 98 = .ok (.ifCond .eq 7, 3) := dk_153 0 7 (dk_at dksX0_isTold_4 5 rfl rfl)
theorem dX0_isTold_101 : decode cX0_isTold 101 = .ok (.iconst 1, 1) := dk_4 (dk_at dksX0_isTold_4 8 rfl rfl)
theorem dX0_isTold_102 : decode cX0_isTold 102 = .ok (.goto 4, 3) := dk_167 0 4 (dk_at dksX0_isTold_4 9 rfl rfl)
theorem dX0_isTold_105 : decode cX0_isTold 105 = .ok (.iconst 0, 1) := dk_3 (dk_at dksX0_isTold_4 12 rfl rfl)
theorem dX0_isTold_106 : decode cX0_isTold 106 = .ok (.if_icmp .eq 5, 3) := dk_159 0 5 (dk_at dksX0_isTold_4 13 rfl rfl)
theorem dX0_isTold_109 : decode cX0_isTold 109 = .ok (.iconst 0, 1) := dk_3 (dk_at dksX0_isTold_4 16 rfl rfl)
theorem dX0_isTold_110 : decode cX0_isTold 110 = .ok (.ireturn, 1) := dk_172 (dk_at dksX0_isTold_4 17 rfl rfl)
theorem dX0_isTold_111 : decode cX0_isTold 111 = .ok (.iinc 5 3, 3) := dk_132 5 3 (dk_at dksX0_isTold_4 18 rfl rfl)
theorem dX0_isTold_114 : decode cX0_isTold 114 = .ok (.goto (-111), 3) := dk_167 255 145 (dk_at dksX0_isTold_4 21 rfl rfl)
theorem dX0_isTold_117 : decode cX0_isTold 117 = .ok (.iconst 1, 1) := dk_4 (dk_at dksX0_isTold_5 0 rfl rfl)
theorem dX0_isTold_118 : decode cX0_isTold 118 = .ok (.ireturn, 1) := dk_172 (dk_at dksX0_isTold_5 1 rfl rfl)
abbrev cX0_within : ByteArray := method_7_code
def yX0_within : MethodName := ⟨RX0, "within", "(I)I"⟩
def dkwX0_within_0 : List UInt8 := [3, 16, 99, 26, 184, 0, 48, 184, 0, 51, 172]
abbrev dktX0_within_0 : List UInt8 := dkwX0_within_0 ++ []
theorem dksX0_within_0 : cX0_within.data.toList.drop 0 = dktX0_within_0 := by decide +kernel
theorem dX0_within_0 : decode cX0_within 0 = .ok (.iconst 0, 1) := dk_3 (dk_at dksX0_within_0 0 rfl rfl)
theorem dX0_within_1 : decode cX0_within 1 = .ok (.bipush 99, 2) := dk_16 99 (dk_at dksX0_within_0 1 rfl rfl)
theorem dX0_within_3 : decode cX0_within 3 = .ok (.iload_n 0, 1) := dk_26 (dk_at dksX0_within_0 3 rfl rfl)
theorem dX0_within_4 : decode cX0_within 4 = .ok (.invokestatic 48, 3) := dk_184 0 48 (dk_at dksX0_within_0 4 rfl rfl)
theorem dX0_within_7 : decode cX0_within 7 = .ok (.invokestatic 51, 3) := dk_184 0 51 (dk_at dksX0_within_0 7 rfl rfl)
theorem dX0_within_10 : decode cX0_within 10 = .ok (.ireturn, 1) := dk_172 (dk_at dksX0_within_0 10 rfl rfl)
abbrev cX0_areHeats : ByteArray := method_12_code
def yX0_areHeats : MethodName := ⟨RX0, "areHeats", "(LKilnBench;IIII)Z"⟩
def dkwX0_areHeats_3 : List UInt8 := [21, 4, 182, 0, 112, 21, 5, 160, 0, 7, 4, 167, 0, 4, 3, 172]
abbrev dktX0_areHeats_3 : List UInt8 := dkwX0_areHeats_3 ++ []
def dkwX0_areHeats_2 : List UInt8 := [154, 0, 10, 4, 21, 6, 120, 167, 0, 4, 3, 128, 54, 5, 132, 6, 1, 167, 255, 199, 42, 27, 28, 29]
abbrev dktX0_areHeats_2 : List UInt8 := dkwX0_areHeats_2 ++ dktX0_areHeats_3
def dkwX0_areHeats_1 : List UInt8 := [21, 5, 21, 7, 29, 161, 0, 28, 21, 7, 21, 4, 163, 0, 21, 42, 27, 21, 6, 28, 182, 0, 106]
abbrev dktX0_areHeats_1 : List UInt8 := dkwX0_areHeats_1 ++ dktX0_areHeats_2
def dkwX0_areHeats_0 : List UInt8 := [3, 54, 5, 3, 54, 6, 21, 6, 16, 20, 163, 0, 56, 42, 27, 21, 6, 28, 182, 0, 97, 54, 7]
abbrev dktX0_areHeats_0 : List UInt8 := dkwX0_areHeats_0 ++ dktX0_areHeats_1
theorem dksX0_areHeats_0 : cX0_areHeats.data.toList.drop 0 = dktX0_areHeats_0 := by decide +kernel
theorem dksX0_areHeats_1 : cX0_areHeats.data.toList.drop 23 = dktX0_areHeats_1 := dk_seg dksX0_areHeats_0 23 rfl rfl
theorem dksX0_areHeats_2 : cX0_areHeats.data.toList.drop 46 = dktX0_areHeats_2 := dk_seg dksX0_areHeats_1 23 rfl rfl
theorem dksX0_areHeats_3 : cX0_areHeats.data.toList.drop 70 = dktX0_areHeats_3 := dk_seg dksX0_areHeats_2 24 rfl rfl
theorem dX0_areHeats_0 : decode cX0_areHeats 0 = .ok (.iconst 0, 1) := dk_3 (dk_at dksX0_areHeats_0 0 rfl rfl)
theorem dX0_areHeats_1 : decode cX0_areHeats 1 = .ok (.istore 5, 2) := dk_54 5 (dk_at dksX0_areHeats_0 1 rfl rfl)
theorem dX0_areHeats_3 : decode cX0_areHeats 3 = .ok (.iconst 0, 1) := dk_3 (dk_at dksX0_areHeats_0 3 rfl rfl)
theorem dX0_areHeats_4 : decode cX0_areHeats 4 = .ok (.istore 6, 2) := dk_54 6 (dk_at dksX0_areHeats_0 4 rfl rfl)
theorem dX0_areHeats_6 : decode cX0_areHeats 6 = .ok (.iload 6, 2) := dk_21 6 (dk_at dksX0_areHeats_0 6 rfl rfl)
theorem dX0_areHeats_8 : decode cX0_areHeats 8 = .ok (.bipush 20, 2) := dk_16 20 (dk_at dksX0_areHeats_0 8 rfl rfl)
theorem dX0_areHeats_10 : decode cX0_areHeats 10 = .ok (.if_icmp .gt 56, 3) := dk_163 0 56 (dk_at dksX0_areHeats_0 10 rfl rfl)
theorem dX0_areHeats_13 : decode cX0_areHeats 13 = .ok (.aload_n 0, 1) := dk_42 (dk_at dksX0_areHeats_0 13 rfl rfl)
theorem dX0_areHeats_14 : decode cX0_areHeats 14 = .ok (.iload_n 1, 1) := dk_27 (dk_at dksX0_areHeats_0 14 rfl rfl)
theorem dX0_areHeats_15 : decode cX0_areHeats 15 = .ok (.iload 6, 2) := dk_21 6 (dk_at dksX0_areHeats_0 15 rfl rfl)
theorem dX0_areHeats_17 : decode cX0_areHeats 17 = .ok (.iload_n 2, 1) := dk_28 (dk_at dksX0_areHeats_0 17 rfl rfl)
theorem dX0_areHeats_18 : decode cX0_areHeats 18 = .ok (.invokevirtual 97, 3) := dk_182 0 97 (dk_at dksX0_areHeats_0 18 rfl rfl)
theorem dX0_areHeats_21 : decode cX0_areHeats 21 = .ok (.istore 7, 2) := dk_54 7 (dk_at dksX0_areHeats_0 21 rfl rfl)
theorem dX0_areHeats_23 : decode cX0_areHeats 23 = .ok (.iload 5, 2) := dk_21 5 (dk_at dksX0_areHeats_1 0 rfl rfl)
theorem dX0_areHeats_25 : decode cX0_areHeats 25 = .ok (.iload 7, 2) := dk_21 7 (dk_at dksX0_areHeats_1 2 rfl rfl)
theorem dX0_areHeats_27 : decode cX0_areHeats 27 = .ok (.iload_n 3, 1) := dk_29 (dk_at dksX0_areHeats_1 4 rfl rfl)
theorem dX0_areHeats_28 : decode cX0_areHeats 28 = .ok (.if_icmp .lt 28, 3) := dk_161 0 28 (dk_at dksX0_areHeats_1 5 rfl rfl)
theorem dX0_areHeats_31 : decode cX0_areHeats 31 = .ok (.iload 7, 2) := dk_21 7 (dk_at dksX0_areHeats_1 8 rfl rfl)
theorem dX0_areHeats_33 : decode cX0_areHeats 33 = .ok (.iload 4, 2) := dk_21 4 (dk_at dksX0_areHeats_1 10 rfl rfl)
theorem dX0_areHeats_35 : decode cX0_areHeats 35 = .ok (.if_icmp .gt 21, 3) := dk_163 0 21 (dk_at dksX0_areHeats_1 12 rfl rfl)
theorem dX0_areHeats_38 : decode cX0_areHeats 38 = .ok (.aload_n 0, 1) := dk_42 (dk_at dksX0_areHeats_1 15 rfl rfl)
theorem dX0_areHeats_39 : decode cX0_areHeats 39 = .ok (.iload_n 1, 1) := dk_27 (dk_at dksX0_areHeats_1 16 rfl rfl)
theorem dX0_areHeats_40 : decode cX0_areHeats 40 = .ok (.iload 6, 2) := dk_21 6 (dk_at dksX0_areHeats_1 17 rfl rfl)
theorem dX0_areHeats_42 : decode cX0_areHeats 42 = .ok (.iload_n 2, 1) := dk_28 (dk_at dksX0_areHeats_1 19 rfl rfl)
theorem dX0_areHeats_43 : decode cX0_areHeats 43 = .ok (.invokevirtual 106, 3) := dk_182 0 106 (dk_at dksX0_areHeats_1 20 rfl rfl)
theorem dX0_areHeats_46 : decode cX0_areHeats 46 = .ok (.ifCond .ne 10, 3) := dk_154 0 10 (dk_at dksX0_areHeats_2 0 rfl rfl)
theorem dX0_areHeats_49 : decode cX0_areHeats 49 = .ok (.iconst 1, 1) := dk_4 (dk_at dksX0_areHeats_2 3 rfl rfl)
theorem dX0_areHeats_50 : decode cX0_areHeats 50 = .ok (.iload 6, 2) := dk_21 6 (dk_at dksX0_areHeats_2 4 rfl rfl)
theorem dX0_areHeats_52 : decode cX0_areHeats 52 = .ok (.ishl, 1) := dk_120 (dk_at dksX0_areHeats_2 6 rfl rfl)
theorem dX0_areHeats_53 : decode cX0_areHeats 53 = .ok (.goto 4, 3) := dk_167 0 4 (dk_at dksX0_areHeats_2 7 rfl rfl)
theorem dX0_areHeats_56 : decode cX0_areHeats 56 = .ok (.iconst 0, 1) := dk_3 (dk_at dksX0_areHeats_2 10 rfl rfl)
theorem dX0_areHeats_57 : decode cX0_areHeats 57 = .ok (.ior, 1) := dk_128 (dk_at dksX0_areHeats_2 11 rfl rfl)
theorem dX0_areHeats_58 : decode cX0_areHeats 58 = .ok (.istore 5, 2) := dk_54 5 (dk_at dksX0_areHeats_2 12 rfl rfl)
theorem dX0_areHeats_60 : decode cX0_areHeats 60 = .ok (.iinc 6 1, 3) := dk_132 6 1 (dk_at dksX0_areHeats_2 14 rfl rfl)
theorem dX0_areHeats_63 : decode cX0_areHeats 63 = .ok (.goto (-57), 3) := dk_167 255 199 (dk_at dksX0_areHeats_2 17 rfl rfl)
theorem dX0_areHeats_66 : decode cX0_areHeats 66 = .ok (.aload_n 0, 1) := dk_42 (dk_at dksX0_areHeats_2 20 rfl rfl)
theorem dX0_areHeats_67 : decode cX0_areHeats 67 = .ok (.iload_n 1, 1) := dk_27 (dk_at dksX0_areHeats_2 21 rfl rfl)
theorem dX0_areHeats_68 : decode cX0_areHeats 68 = .ok (.iload_n 2, 1) := dk_28 (dk_at dksX0_areHeats_2 22 rfl rfl)
theorem dX0_areHeats_69 : decode cX0_areHeats 69 = .ok (.iload_n 3, 1) := dk_29 (dk_at dksX0_areHeats_2 23 rfl rfl)
theorem dX0_areHeats_70 : decode cX0_areHeats 70 = .ok (.iload 4, 2) := dk_21 4 (dk_at dksX0_areHeats_3 0 rfl rfl)
theorem dX0_areHeats_72 : decode cX0_areHeats 72 = .ok (.invokevirtual 112, 3) := dk_182 0 112 (dk_at dksX0_areHeats_3 2 rfl rfl)
theorem dX0_areHeats_75 : decode cX0_areHeats 75 = .ok (.iload 5, 2) := dk_21 5 (dk_at dksX0_areHeats_3 5 rfl rfl)
theorem dX0_areHeats_77 : decode cX0_areHeats 77 = .ok (.if_icmp .ne 7, 3) := dk_160 0 7 (dk_at dksX0_areHeats_3 7 rfl rfl)
theorem dX0_areHeats_80 : decode cX0_areHeats 80 = .ok (.iconst 1, 1) := dk_4 (dk_at dksX0_areHeats_3 10 rfl rfl)
theorem dX0_areHeats_81 : decode cX0_areHeats 81 = .ok (.goto 4, 3) := dk_167 0 4 (dk_at dksX0_areHeats_3 11 rfl rfl)
theorem dX0_areHeats_84 : decode cX0_areHeats 84 = .ok (.iconst 0, 1) := dk_3 (dk_at dksX0_areHeats_3 14 rfl rfl)
theorem dX0_areHeats_85 : decode cX0_areHeats 85 = .ok (.ireturn, 1) := dk_172 (dk_at dksX0_areHeats_3 15 rfl rfl)
abbrev cX0_acts : ByteArray := method_28_code
def yX0_acts : MethodName := ⟨RX0, "acts", "(LKilnBench;LKilnBenchLaw$All;[II)Z"⟩
def dkwX0_acts_20 : List UInt8 := [153, 0, 7, 4, 167, 0, 4, 3, 172]
abbrev dktX0_acts_20 : List UInt8 := dkwX0_acts_20 ++ []
def dkwX0_acts_19 : List UInt8 := [25, 4, 180, 0, 188, 163, 0, 21, 42, 43, 25, 4, 21, 10, 21, 7, 21, 8, 21, 11, 184, 1, 48]
abbrev dktX0_acts_19 : List UInt8 := dkwX0_acts_19 ++ dktX0_acts_20
def dkwX0_acts_18 : List UInt8 := [42, 43, 25, 4, 21, 8, 21, 11, 184, 1, 45, 54, 12, 21, 12, 153, 0, 38, 42, 6, 182, 0, 185]
abbrev dktX0_acts_18 : List UInt8 := dkwX0_acts_18 ++ dktX0_acts_19
def dkwX0_acts_17 : List UInt8 := [184, 1, 38, 167, 0, 32, 21, 10, 4, 160, 0, 15, 42, 43, 25, 4, 21, 7, 184, 1, 42, 167, 0, 14]
abbrev dktX0_acts_17 : List UInt8 := dkwX0_acts_17 ++ dktX0_acts_18
def dkwX0_acts_16 : List UInt8 := [21, 9, 16, 22, 112, 4, 100, 54, 11, 21, 10, 154, 0, 19, 42, 43, 25, 4, 21, 7, 21, 8, 21, 11]
abbrev dktX0_acts_16 : List UInt8 := dkwX0_acts_16 ++ dktX0_acts_17
def dkwX0_acts_15 : List UInt8 := [158, 0, 14, 25, 4, 43, 21, 8, 182, 1, 34, 167, 0, 20, 21, 9, 7, 108, 16, 7, 112, 167, 0, 10]
abbrev dktX0_acts_15 : List UInt8 := dkwX0_acts_15 ++ dktX0_acts_16
def dkwX0_acts_14 : List UInt8 := [21, 6, 16, 15, 162, 0, 7, 4, 167, 0, 4, 5, 54, 10, 21, 10, 154, 0, 31, 21, 9, 7, 112]
abbrev dktX0_acts_14 : List UInt8 := dkwX0_acts_14 ++ dktX0_acts_15
def dkwX0_acts_13 : List UInt8 := [43, 25, 4, 5, 21, 9, 7, 112, 96, 184, 1, 31, 172, 21, 6, 16, 14, 162, 0, 7, 3, 167, 0, 15]
abbrev dktX0_acts_13 : List UInt8 := dkwX0_acts_13 ++ dktX0_acts_14
def dkwX0_acts_12 : List UInt8 := [172, 21, 6, 16, 6, 162, 0, 11, 42, 43, 25, 4, 184, 1, 28, 172, 21, 6, 16, 8, 162, 0, 17, 42]
abbrev dktX0_acts_12 : List UInt8 := dkwX0_acts_12 ++ dktX0_acts_13
def dkwX0_acts_11 : List UInt8 := [167, 0, 9, 29, 43, 180, 0, 60, 100, 54, 8, 21, 6, 7, 162, 0, 11, 42, 43, 25, 4, 184, 1, 24]
abbrev dktX0_acts_11 : List UInt8 := dkwX0_acts_11 ++ dktX0_acts_12
def dkwX0_acts_10 : List UInt8 := [16, 8, 167, 0, 5, 16, 19, 54, 6, 29, 54, 7, 29, 43, 180, 0, 60, 162, 0, 8, 21, 8]
abbrev dktX0_acts_10 : List UInt8 := dkwX0_acts_10 ++ dktX0_acts_11
def dkwX0_acts_9 : List UInt8 := [158, 0, 57, 29, 43, 180, 0, 60, 43, 180, 0, 54, 96, 162, 0, 44, 29, 43, 180, 0, 60, 162, 0, 8]
abbrev dktX0_acts_9 : List UInt8 := dkwX0_acts_9 ++ dktX0_acts_10
def dkwX0_acts_8 : List UInt8 := [184, 1, 21, 54, 8, 44, 21, 5, 8, 96, 17, 3, 232, 184, 1, 21, 54, 9, 43, 180, 0, 54]
abbrev dktX0_acts_8 : List UInt8 := dkwX0_acts_8 ++ dktX0_acts_9
def dkwX0_acts_7 : List UInt8 := [158, 0, 18, 44, 21, 5, 7, 96, 43, 180, 0, 54, 184, 1, 21, 167, 0, 12, 44, 21, 5, 7, 96, 7]
abbrev dktX0_acts_7 : List UInt8 := dkwX0_acts_7 ++ dktX0_acts_8
def dkwX0_acts_6 : List UInt8 := [184, 1, 21, 54, 7, 44, 21, 5, 6, 96, 16, 6, 184, 1, 21, 158, 0, 25, 43, 180, 0, 54]
abbrev dktX0_acts_6 : List UInt8 := dkwX0_acts_6 ++ dktX0_acts_7
def dkwX0_acts_5 : List UInt8 := [44, 21, 5, 5, 96, 43, 180, 0, 60, 184, 1, 21, 167, 0, 13, 44, 21, 5, 5, 96, 16, 8]
abbrev dktX0_acts_5 : List UInt8 := dkwX0_acts_5 ++ dktX0_acts_6
def dkwX0_acts_4 : List UInt8 := [184, 1, 21, 54, 6, 44, 21, 5, 4, 96, 8, 184, 1, 21, 158, 0, 25, 43, 180, 0, 60, 158, 0, 18]
abbrev dktX0_acts_4 : List UInt8 := dkwX0_acts_4 ++ dktX0_acts_5
def dkwX0_acts_3 : List UInt8 := [184, 1, 18, 154, 0, 5, 3, 172, 16, 24, 16, 6, 29, 104, 96, 54, 5, 44, 21, 5, 16, 20]
abbrev dktX0_acts_3 : List UInt8 := dkwX0_acts_3 ++ dktX0_acts_4
def dkwX0_acts_2 : List UInt8 := [180, 0, 60, 158, 0, 29, 29, 6, 112, 154, 0, 23, 42, 43, 25, 4, 29, 6, 108, 43, 180, 0, 60, 112]
abbrev dktX0_acts_2 : List UInt8 := dkwX0_acts_2 ++ dktX0_acts_3
def dkwX0_acts_1 : List UInt8 := [180, 0, 54, 112, 29, 8, 112, 154, 0, 7, 4, 167, 0, 4, 3, 184, 1, 14, 154, 0, 5, 3, 172, 43]
abbrev dktX0_acts_1 : List UInt8 := dkwX0_acts_1 ++ dktX0_acts_2
def dkwX0_acts_0 : List UInt8 := [187, 0, 116, 89, 42, 43, 183, 1, 11, 58, 4, 43, 180, 0, 54, 158, 0, 32, 42, 43, 25, 4, 29, 43]
abbrev dktX0_acts_0 : List UInt8 := dkwX0_acts_0 ++ dktX0_acts_1
theorem dksX0_acts_0 : cX0_acts.data.toList.drop 0 = dktX0_acts_0 := by decide +kernel
theorem dksX0_acts_1 : cX0_acts.data.toList.drop 24 = dktX0_acts_1 := dk_seg dksX0_acts_0 24 rfl rfl
theorem dksX0_acts_2 : cX0_acts.data.toList.drop 48 = dktX0_acts_2 := dk_seg dksX0_acts_1 24 rfl rfl
theorem dksX0_acts_3 : cX0_acts.data.toList.drop 72 = dktX0_acts_3 := dk_seg dksX0_acts_2 24 rfl rfl
theorem dksX0_acts_4 : cX0_acts.data.toList.drop 94 = dktX0_acts_4 := dk_seg dksX0_acts_3 22 rfl rfl
theorem dksX0_acts_5 : cX0_acts.data.toList.drop 118 = dktX0_acts_5 := dk_seg dksX0_acts_4 24 rfl rfl
theorem dksX0_acts_6 : cX0_acts.data.toList.drop 140 = dktX0_acts_6 := dk_seg dksX0_acts_5 22 rfl rfl
theorem dksX0_acts_7 : cX0_acts.data.toList.drop 162 = dktX0_acts_7 := dk_seg dksX0_acts_6 22 rfl rfl
theorem dksX0_acts_8 : cX0_acts.data.toList.drop 186 = dktX0_acts_8 := dk_seg dksX0_acts_7 24 rfl rfl
theorem dksX0_acts_9 : cX0_acts.data.toList.drop 208 = dktX0_acts_9 := dk_seg dksX0_acts_8 22 rfl rfl
theorem dksX0_acts_10 : cX0_acts.data.toList.drop 232 = dktX0_acts_10 := dk_seg dksX0_acts_9 24 rfl rfl
theorem dksX0_acts_11 : cX0_acts.data.toList.drop 254 = dktX0_acts_11 := dk_seg dksX0_acts_10 22 rfl rfl
theorem dksX0_acts_12 : cX0_acts.data.toList.drop 278 = dktX0_acts_12 := dk_seg dksX0_acts_11 24 rfl rfl
theorem dksX0_acts_13 : cX0_acts.data.toList.drop 302 = dktX0_acts_13 := dk_seg dksX0_acts_12 24 rfl rfl
theorem dksX0_acts_14 : cX0_acts.data.toList.drop 326 = dktX0_acts_14 := dk_seg dksX0_acts_13 24 rfl rfl
theorem dksX0_acts_15 : cX0_acts.data.toList.drop 349 = dktX0_acts_15 := dk_seg dksX0_acts_14 23 rfl rfl
theorem dksX0_acts_16 : cX0_acts.data.toList.drop 373 = dktX0_acts_16 := dk_seg dksX0_acts_15 24 rfl rfl
theorem dksX0_acts_17 : cX0_acts.data.toList.drop 397 = dktX0_acts_17 := dk_seg dksX0_acts_16 24 rfl rfl
theorem dksX0_acts_18 : cX0_acts.data.toList.drop 421 = dktX0_acts_18 := dk_seg dksX0_acts_17 24 rfl rfl
theorem dksX0_acts_19 : cX0_acts.data.toList.drop 444 = dktX0_acts_19 := dk_seg dksX0_acts_18 23 rfl rfl
theorem dksX0_acts_20 : cX0_acts.data.toList.drop 467 = dktX0_acts_20 := dk_seg dksX0_acts_19 23 rfl rfl
theorem dX0_acts_0 : decode cX0_acts 0 = .ok (.new 116, 3) := dk_187 0 116 (dk_at dksX0_acts_0 0 rfl rfl)
theorem dX0_acts_3 : decode cX0_acts 3 = .ok (.dup, 1) := dk_89 (dk_at dksX0_acts_0 3 rfl rfl)
theorem dX0_acts_4 : decode cX0_acts 4 = .ok (.aload_n 0, 1) := dk_42 (dk_at dksX0_acts_0 4 rfl rfl)
theorem dX0_acts_5 : decode cX0_acts 5 = .ok (.aload_n 1, 1) := dk_43 (dk_at dksX0_acts_0 5 rfl rfl)
theorem dX0_acts_6 : decode cX0_acts 6 = .ok (.invokespecial 267, 3) := dk_183 1 11 (dk_at dksX0_acts_0 6 rfl rfl)
theorem dX0_acts_9 : decode cX0_acts 9 = .ok (.astore 4, 2) := dk_58 4 (dk_at dksX0_acts_0 9 rfl rfl)
theorem dX0_acts_11 : decode cX0_acts 11 = .ok (.aload_n 1, 1) := dk_43 (dk_at dksX0_acts_0 11 rfl rfl)
theorem dX0_acts_12 : decode cX0_acts 12 = .ok (.getfield 54, 3) := dk_180 0 54 (dk_at dksX0_acts_0 12 rfl rfl)
theorem dX0_acts_15 : decode cX0_acts 15 = .ok (.ifCond .le 32, 3) := dk_158 0 32 (dk_at dksX0_acts_0 15 rfl rfl)
theorem dX0_acts_18 : decode cX0_acts 18 = .ok (.aload_n 0, 1) := dk_42 (dk_at dksX0_acts_0 18 rfl rfl)
theorem dX0_acts_19 : decode cX0_acts 19 = .ok (.aload_n 1, 1) := dk_43 (dk_at dksX0_acts_0 19 rfl rfl)
theorem dX0_acts_20 : decode cX0_acts 20 = .ok (.aload 4, 2) := dk_25 4 (dk_at dksX0_acts_0 20 rfl rfl)
theorem dX0_acts_22 : decode cX0_acts 22 = .ok (.iload_n 3, 1) := dk_29 (dk_at dksX0_acts_0 22 rfl rfl)
theorem dX0_acts_23 : decode cX0_acts 23 = .ok (.aload_n 1, 1) := dk_43 (dk_at dksX0_acts_0 23 rfl rfl)
theorem dX0_acts_24 : decode cX0_acts 24 = .ok (.getfield 54, 3) := dk_180 0 54 (dk_at dksX0_acts_1 0 rfl rfl)
theorem dX0_acts_27 : decode cX0_acts 27 = .ok (.irem, 1) := dk_112 (dk_at dksX0_acts_1 3 rfl rfl)
theorem dX0_acts_28 : decode cX0_acts 28 = .ok (.iload_n 3, 1) := dk_29 (dk_at dksX0_acts_1 4 rfl rfl)
theorem dX0_acts_29 : decode cX0_acts 29 = .ok (.iconst 5, 1) := dk_8 (dk_at dksX0_acts_1 5 rfl rfl)
theorem dX0_acts_30 : decode cX0_acts 30 = .ok (.irem, 1) := dk_112 (dk_at dksX0_acts_1 6 rfl rfl)
theorem dX0_acts_31 : decode cX0_acts 31 = .ok (.ifCond .ne 7, 3) := dk_154 0 7 (dk_at dksX0_acts_1 7 rfl rfl)
theorem dX0_acts_34 : decode cX0_acts 34 = .ok (.iconst 1, 1) := dk_4 (dk_at dksX0_acts_1 10 rfl rfl)
theorem dX0_acts_35 : decode cX0_acts 35 = .ok (.goto 4, 3) := dk_167 0 4 (dk_at dksX0_acts_1 11 rfl rfl)
theorem dX0_acts_38 : decode cX0_acts 38 = .ok (.iconst 0, 1) := dk_3 (dk_at dksX0_acts_1 14 rfl rfl)
theorem dX0_acts_39 : decode cX0_acts 39 = .ok (.invokestatic 270, 3) := dk_184 1 14 (dk_at dksX0_acts_1 15 rfl rfl)
theorem dX0_acts_42 : decode cX0_acts 42 = .ok (.ifCond .ne 5, 3) := dk_154 0 5 (dk_at dksX0_acts_1 18 rfl rfl)
theorem dX0_acts_45 : decode cX0_acts 45 = .ok (.iconst 0, 1) := dk_3 (dk_at dksX0_acts_1 21 rfl rfl)
theorem dX0_acts_46 : decode cX0_acts 46 = .ok (.ireturn, 1) := dk_172 (dk_at dksX0_acts_1 22 rfl rfl)
theorem dX0_acts_47 : decode cX0_acts 47 = .ok (.aload_n 1, 1) := dk_43 (dk_at dksX0_acts_1 23 rfl rfl)
theorem dX0_acts_48 : decode cX0_acts 48 = .ok (.getfield 60, 3) := dk_180 0 60 (dk_at dksX0_acts_2 0 rfl rfl)
theorem dX0_acts_51 : decode cX0_acts 51 = .ok (.ifCond .le 29, 3) := dk_158 0 29 (dk_at dksX0_acts_2 3 rfl rfl)
theorem dX0_acts_54 : decode cX0_acts 54 = .ok (.iload_n 3, 1) := dk_29 (dk_at dksX0_acts_2 6 rfl rfl)
theorem dX0_acts_55 : decode cX0_acts 55 = .ok (.iconst 3, 1) := dk_6 (dk_at dksX0_acts_2 7 rfl rfl)
theorem dX0_acts_56 : decode cX0_acts 56 = .ok (.irem, 1) := dk_112 (dk_at dksX0_acts_2 8 rfl rfl)
theorem dX0_acts_57 : decode cX0_acts 57 = .ok (.ifCond .ne 23, 3) := dk_154 0 23 (dk_at dksX0_acts_2 9 rfl rfl)
theorem dX0_acts_60 : decode cX0_acts 60 = .ok (.aload_n 0, 1) := dk_42 (dk_at dksX0_acts_2 12 rfl rfl)
theorem dX0_acts_61 : decode cX0_acts 61 = .ok (.aload_n 1, 1) := dk_43 (dk_at dksX0_acts_2 13 rfl rfl)
theorem dX0_acts_62 : decode cX0_acts 62 = .ok (.aload 4, 2) := dk_25 4 (dk_at dksX0_acts_2 14 rfl rfl)
theorem dX0_acts_64 : decode cX0_acts 64 = .ok (.iload_n 3, 1) := dk_29 (dk_at dksX0_acts_2 16 rfl rfl)
theorem dX0_acts_65 : decode cX0_acts 65 = .ok (.iconst 3, 1) := dk_6 (dk_at dksX0_acts_2 17 rfl rfl)
theorem dX0_acts_66 : decode cX0_acts 66 = .ok (.idiv, 1) := dk_108 (dk_at dksX0_acts_2 18 rfl rfl)
theorem dX0_acts_67 : decode cX0_acts 67 = .ok (.aload_n 1, 1) := dk_43 (dk_at dksX0_acts_2 19 rfl rfl)
theorem dX0_acts_68 : decode cX0_acts 68 = .ok (.getfield 60, 3) := dk_180 0 60 (dk_at dksX0_acts_2 20 rfl rfl)
theorem dX0_acts_71 : decode cX0_acts 71 = .ok (.irem, 1) := dk_112 (dk_at dksX0_acts_2 23 rfl rfl)
theorem dX0_acts_72 : decode cX0_acts 72 = .ok (.invokestatic 274, 3) := dk_184 1 18 (dk_at dksX0_acts_3 0 rfl rfl)
theorem dX0_acts_75 : decode cX0_acts 75 = .ok (.ifCond .ne 5, 3) := dk_154 0 5 (dk_at dksX0_acts_3 3 rfl rfl)
theorem dX0_acts_78 : decode cX0_acts 78 = .ok (.iconst 0, 1) := dk_3 (dk_at dksX0_acts_3 6 rfl rfl)
theorem dX0_acts_79 : decode cX0_acts 79 = .ok (.ireturn, 1) := dk_172 (dk_at dksX0_acts_3 7 rfl rfl)
theorem dX0_acts_80 : decode cX0_acts 80 = .ok (.bipush 24, 2) := dk_16 24 (dk_at dksX0_acts_3 8 rfl rfl)
theorem dX0_acts_82 : decode cX0_acts 82 = .ok (.bipush 6, 2) := dk_16 6 (dk_at dksX0_acts_3 10 rfl rfl)
theorem dX0_acts_84 : decode cX0_acts 84 = .ok (.iload_n 3, 1) := dk_29 (dk_at dksX0_acts_3 12 rfl rfl)
theorem dX0_acts_85 : decode cX0_acts 85 = .ok (.imul, 1) := dk_104 (dk_at dksX0_acts_3 13 rfl rfl)
theorem dX0_acts_86 : decode cX0_acts 86 = .ok (.iadd, 1) := dk_96 (dk_at dksX0_acts_3 14 rfl rfl)
theorem dX0_acts_87 : decode cX0_acts 87 = .ok (.istore 5, 2) := dk_54 5 (dk_at dksX0_acts_3 15 rfl rfl)
theorem dX0_acts_89 : decode cX0_acts 89 = .ok (.aload_n 2, 1) := dk_44 (dk_at dksX0_acts_3 17 rfl rfl)
theorem dX0_acts_90 : decode cX0_acts 90 = .ok (.iload 5, 2) := dk_21 5 (dk_at dksX0_acts_3 18 rfl rfl)
theorem dX0_acts_92 : decode cX0_acts 92 = .ok (.bipush 20, 2) := dk_16 20 (dk_at dksX0_acts_3 20 rfl rfl)
theorem dX0_acts_94 : decode cX0_acts 94 = .ok (.invokestatic 277, 3) := dk_184 1 21 (dk_at dksX0_acts_4 0 rfl rfl)
theorem dX0_acts_97 : decode cX0_acts 97 = .ok (.istore 6, 2) := dk_54 6 (dk_at dksX0_acts_4 3 rfl rfl)
theorem dX0_acts_99 : decode cX0_acts 99 = .ok (.aload_n 2, 1) := dk_44 (dk_at dksX0_acts_4 5 rfl rfl)
theorem dX0_acts_100 : decode cX0_acts 100 = .ok (.iload 5, 2) := dk_21 5 (dk_at dksX0_acts_4 6 rfl rfl)
theorem dX0_acts_102 : decode cX0_acts 102 = .ok (.iconst 1, 1) := dk_4 (dk_at dksX0_acts_4 8 rfl rfl)
theorem dX0_acts_103 : decode cX0_acts 103 = .ok (.iadd, 1) := dk_96 (dk_at dksX0_acts_4 9 rfl rfl)
theorem dX0_acts_104 : decode cX0_acts 104 = .ok (.iconst 5, 1) := dk_8 (dk_at dksX0_acts_4 10 rfl rfl)
theorem dX0_acts_105 : decode cX0_acts 105 = .ok (.invokestatic 277, 3) := dk_184 1 21 (dk_at dksX0_acts_4 11 rfl rfl)
theorem dX0_acts_108 : decode cX0_acts 108 = .ok (.ifCond .le 25, 3) := dk_158 0 25 (dk_at dksX0_acts_4 14 rfl rfl)
theorem dX0_acts_111 : decode cX0_acts 111 = .ok (.aload_n 1, 1) := dk_43 (dk_at dksX0_acts_4 17 rfl rfl)
theorem dX0_acts_112 : decode cX0_acts 112 = .ok (.getfield 60, 3) := dk_180 0 60 (dk_at dksX0_acts_4 18 rfl rfl)
theorem dX0_acts_115 : decode cX0_acts 115 = .ok (.ifCond .le 18, 3) := dk_158 0 18 (dk_at dksX0_acts_4 21 rfl rfl)
theorem dX0_acts_118 : decode cX0_acts 118 = .ok (.aload_n 2, 1) := dk_44 (dk_at dksX0_acts_5 0 rfl rfl)
theorem dX0_acts_119 : decode cX0_acts 119 = .ok (.iload 5, 2) := dk_21 5 (dk_at dksX0_acts_5 1 rfl rfl)
theorem dX0_acts_121 : decode cX0_acts 121 = .ok (.iconst 2, 1) := dk_5 (dk_at dksX0_acts_5 3 rfl rfl)
theorem dX0_acts_122 : decode cX0_acts 122 = .ok (.iadd, 1) := dk_96 (dk_at dksX0_acts_5 4 rfl rfl)
theorem dX0_acts_123 : decode cX0_acts 123 = .ok (.aload_n 1, 1) := dk_43 (dk_at dksX0_acts_5 5 rfl rfl)
theorem dX0_acts_124 : decode cX0_acts 124 = .ok (.getfield 60, 3) := dk_180 0 60 (dk_at dksX0_acts_5 6 rfl rfl)
theorem dX0_acts_127 : decode cX0_acts 127 = .ok (.invokestatic 277, 3) := dk_184 1 21 (dk_at dksX0_acts_5 9 rfl rfl)
theorem dX0_acts_130 : decode cX0_acts 130 = .ok (.goto 13, 3) := dk_167 0 13 (dk_at dksX0_acts_5 12 rfl rfl)
theorem dX0_acts_133 : decode cX0_acts 133 = .ok (.aload_n 2, 1) := dk_44 (dk_at dksX0_acts_5 15 rfl rfl)
theorem dX0_acts_134 : decode cX0_acts 134 = .ok (.iload 5, 2) := dk_21 5 (dk_at dksX0_acts_5 16 rfl rfl)
theorem dX0_acts_136 : decode cX0_acts 136 = .ok (.iconst 2, 1) := dk_5 (dk_at dksX0_acts_5 18 rfl rfl)
theorem dX0_acts_137 : decode cX0_acts 137 = .ok (.iadd, 1) := dk_96 (dk_at dksX0_acts_5 19 rfl rfl)
theorem dX0_acts_138 : decode cX0_acts 138 = .ok (.bipush 8, 2) := dk_16 8 (dk_at dksX0_acts_5 20 rfl rfl)
theorem dX0_acts_140 : decode cX0_acts 140 = .ok (.invokestatic 277, 3) := dk_184 1 21 (dk_at dksX0_acts_6 0 rfl rfl)
theorem dX0_acts_143 : decode cX0_acts 143 = .ok (.istore 7, 2) := dk_54 7 (dk_at dksX0_acts_6 3 rfl rfl)
theorem dX0_acts_145 : decode cX0_acts 145 = .ok (.aload_n 2, 1) := dk_44 (dk_at dksX0_acts_6 5 rfl rfl)
theorem dX0_acts_146 : decode cX0_acts 146 = .ok (.iload 5, 2) := dk_21 5 (dk_at dksX0_acts_6 6 rfl rfl)
theorem dX0_acts_148 : decode cX0_acts 148 = .ok (.iconst 3, 1) := dk_6 (dk_at dksX0_acts_6 8 rfl rfl)
theorem dX0_acts_149 : decode cX0_acts 149 = .ok (.iadd, 1) := dk_96 (dk_at dksX0_acts_6 9 rfl rfl)
theorem dX0_acts_150 : decode cX0_acts 150 = .ok (.bipush 6, 2) := dk_16 6 (dk_at dksX0_acts_6 10 rfl rfl)
theorem dX0_acts_152 : decode cX0_acts 152 = .ok (.invokestatic 277, 3) := dk_184 1 21 (dk_at dksX0_acts_6 12 rfl rfl)
theorem dX0_acts_155 : decode cX0_acts 155 = .ok (.ifCond .le 25, 3) := dk_158 0 25 (dk_at dksX0_acts_6 15 rfl rfl)
theorem dX0_acts_158 : decode cX0_acts 158 = .ok (.aload_n 1, 1) := dk_43 (dk_at dksX0_acts_6 18 rfl rfl)
theorem dX0_acts_159 : decode cX0_acts 159 = .ok (.getfield 54, 3) := dk_180 0 54 (dk_at dksX0_acts_6 19 rfl rfl)
theorem dX0_acts_162 : decode cX0_acts 162 = .ok (.ifCond .le 18, 3) := dk_158 0 18 (dk_at dksX0_acts_7 0 rfl rfl)
theorem dX0_acts_165 : decode cX0_acts 165 = .ok (.aload_n 2, 1) := dk_44 (dk_at dksX0_acts_7 3 rfl rfl)
theorem dX0_acts_166 : decode cX0_acts 166 = .ok (.iload 5, 2) := dk_21 5 (dk_at dksX0_acts_7 4 rfl rfl)
theorem dX0_acts_168 : decode cX0_acts 168 = .ok (.iconst 4, 1) := dk_7 (dk_at dksX0_acts_7 6 rfl rfl)
theorem dX0_acts_169 : decode cX0_acts 169 = .ok (.iadd, 1) := dk_96 (dk_at dksX0_acts_7 7 rfl rfl)
theorem dX0_acts_170 : decode cX0_acts 170 = .ok (.aload_n 1, 1) := dk_43 (dk_at dksX0_acts_7 8 rfl rfl)
theorem dX0_acts_171 : decode cX0_acts 171 = .ok (.getfield 54, 3) := dk_180 0 54 (dk_at dksX0_acts_7 9 rfl rfl)
theorem dX0_acts_174 : decode cX0_acts 174 = .ok (.invokestatic 277, 3) := dk_184 1 21 (dk_at dksX0_acts_7 12 rfl rfl)
theorem dX0_acts_177 : decode cX0_acts 177 = .ok (.goto 12, 3) := dk_167 0 12 (dk_at dksX0_acts_7 15 rfl rfl)
theorem dX0_acts_180 : decode cX0_acts 180 = .ok (.aload_n 2, 1) := dk_44 (dk_at dksX0_acts_7 18 rfl rfl)
theorem dX0_acts_181 : decode cX0_acts 181 = .ok (.iload 5, 2) := dk_21 5 (dk_at dksX0_acts_7 19 rfl rfl)
theorem dX0_acts_183 : decode cX0_acts 183 = .ok (.iconst 4, 1) := dk_7 (dk_at dksX0_acts_7 21 rfl rfl)
theorem dX0_acts_184 : decode cX0_acts 184 = .ok (.iadd, 1) := dk_96 (dk_at dksX0_acts_7 22 rfl rfl)
theorem dX0_acts_185 : decode cX0_acts 185 = .ok (.iconst 4, 1) := dk_7 (dk_at dksX0_acts_7 23 rfl rfl)
theorem dX0_acts_186 : decode cX0_acts 186 = .ok (.invokestatic 277, 3) := dk_184 1 21 (dk_at dksX0_acts_8 0 rfl rfl)
theorem dX0_acts_189 : decode cX0_acts 189 = .ok (.istore 8, 2) := dk_54 8 (dk_at dksX0_acts_8 3 rfl rfl)
theorem dX0_acts_191 : decode cX0_acts 191 = .ok (.aload_n 2, 1) := dk_44 (dk_at dksX0_acts_8 5 rfl rfl)
theorem dX0_acts_192 : decode cX0_acts 192 = .ok (.iload 5, 2) := dk_21 5 (dk_at dksX0_acts_8 6 rfl rfl)
theorem dX0_acts_194 : decode cX0_acts 194 = .ok (.iconst 5, 1) := dk_8 (dk_at dksX0_acts_8 8 rfl rfl)
theorem dX0_acts_195 : decode cX0_acts 195 = .ok (.iadd, 1) := dk_96 (dk_at dksX0_acts_8 9 rfl rfl)
theorem dX0_acts_196 : decode cX0_acts 196 = .ok (.sipush 1000, 3) := dk_17 3 232 (dk_at dksX0_acts_8 10 rfl rfl)
theorem dX0_acts_199 : decode cX0_acts 199 = .ok (.invokestatic 277, 3) := dk_184 1 21 (dk_at dksX0_acts_8 13 rfl rfl)
theorem dX0_acts_202 : decode cX0_acts 202 = .ok (.istore 9, 2) := dk_54 9 (dk_at dksX0_acts_8 16 rfl rfl)
theorem dX0_acts_204 : decode cX0_acts 204 = .ok (.aload_n 1, 1) := dk_43 (dk_at dksX0_acts_8 18 rfl rfl)
theorem dX0_acts_205 : decode cX0_acts 205 = .ok (.getfield 54, 3) := dk_180 0 54 (dk_at dksX0_acts_8 19 rfl rfl)
theorem dX0_acts_208 : decode cX0_acts 208 = .ok (.ifCond .le 57, 3) := dk_158 0 57 (dk_at dksX0_acts_9 0 rfl rfl)
theorem dX0_acts_211 : decode cX0_acts 211 = .ok (.iload_n 3, 1) := dk_29 (dk_at dksX0_acts_9 3 rfl rfl)
theorem dX0_acts_212 : decode cX0_acts 212 = .ok (.aload_n 1, 1) := dk_43 (dk_at dksX0_acts_9 4 rfl rfl)
theorem dX0_acts_213 : decode cX0_acts 213 = .ok (.getfield 60, 3) := dk_180 0 60 (dk_at dksX0_acts_9 5 rfl rfl)
theorem dX0_acts_216 : decode cX0_acts 216 = .ok (.aload_n 1, 1) := dk_43 (dk_at dksX0_acts_9 8 rfl rfl)
theorem dX0_acts_217 : decode cX0_acts 217 = .ok (.getfield 54, 3) := dk_180 0 54 (dk_at dksX0_acts_9 9 rfl rfl)
theorem dX0_acts_220 : decode cX0_acts 220 = .ok (.iadd, 1) := dk_96 (dk_at dksX0_acts_9 12 rfl rfl)
theorem dX0_acts_221 : decode cX0_acts 221 = .ok (.if_icmp .ge 44, 3) := dk_162 0 44 (dk_at dksX0_acts_9 13 rfl rfl)
theorem dX0_acts_224 : decode cX0_acts 224 = .ok (.iload_n 3, 1) := dk_29 (dk_at dksX0_acts_9 16 rfl rfl)
theorem dX0_acts_225 : decode cX0_acts 225 = .ok (.aload_n 1, 1) := dk_43 (dk_at dksX0_acts_9 17 rfl rfl)
theorem dX0_acts_226 : decode cX0_acts 226 = .ok (.getfield 60, 3) := dk_180 0 60 (dk_at dksX0_acts_9 18 rfl rfl)
theorem dX0_acts_229 : decode cX0_acts 229 = .ok (.if_icmp .ge 8, 3) := dk_162 0 8 (dk_at dksX0_acts_9 21 rfl rfl)
theorem dX0_acts_232 : decode cX0_acts 232 = .ok (.bipush 8, 2) := dk_16 8 (dk_at dksX0_acts_10 0 rfl rfl)
theorem dX0_acts_234 : decode cX0_acts 234 = .ok (.goto 5, 3) := dk_167 0 5 (dk_at dksX0_acts_10 2 rfl rfl)
theorem dX0_acts_237 : decode cX0_acts 237 = .ok (.bipush 19, 2) := dk_16 19 (dk_at dksX0_acts_10 5 rfl rfl)
theorem dX0_acts_239 : decode cX0_acts 239 = .ok (.istore 6, 2) := dk_54 6 (dk_at dksX0_acts_10 7 rfl rfl)
theorem dX0_acts_241 : decode cX0_acts 241 = .ok (.iload_n 3, 1) := dk_29 (dk_at dksX0_acts_10 9 rfl rfl)
theorem dX0_acts_242 : decode cX0_acts 242 = .ok (.istore 7, 2) := dk_54 7 (dk_at dksX0_acts_10 10 rfl rfl)
theorem dX0_acts_244 : decode cX0_acts 244 = .ok (.iload_n 3, 1) := dk_29 (dk_at dksX0_acts_10 12 rfl rfl)
theorem dX0_acts_245 : decode cX0_acts 245 = .ok (.aload_n 1, 1) := dk_43 (dk_at dksX0_acts_10 13 rfl rfl)
theorem dX0_acts_246 : decode cX0_acts 246 = .ok (.getfield 60, 3) := dk_180 0 60 (dk_at dksX0_acts_10 14 rfl rfl)
theorem dX0_acts_249 : decode cX0_acts 249 = .ok (.if_icmp .ge 8, 3) := dk_162 0 8 (dk_at dksX0_acts_10 17 rfl rfl)
theorem dX0_acts_252 : decode cX0_acts 252 = .ok (.iload 8, 2) := dk_21 8 (dk_at dksX0_acts_10 20 rfl rfl)
theorem dX0_acts_254 : decode cX0_acts 254 = .ok (.goto 9, 3) := dk_167 0 9 (dk_at dksX0_acts_11 0 rfl rfl)
theorem dX0_acts_257 : decode cX0_acts 257 = .ok (.iload_n 3, 1) := dk_29 (dk_at dksX0_acts_11 3 rfl rfl)
theorem dX0_acts_258 : decode cX0_acts 258 = .ok (.aload_n 1, 1) := dk_43 (dk_at dksX0_acts_11 4 rfl rfl)
theorem dX0_acts_259 : decode cX0_acts 259 = .ok (.getfield 60, 3) := dk_180 0 60 (dk_at dksX0_acts_11 5 rfl rfl)
theorem dX0_acts_262 : decode cX0_acts 262 = .ok (.isub, 1) := dk_100 (dk_at dksX0_acts_11 8 rfl rfl)
theorem dX0_acts_263 : decode cX0_acts 263 = .ok (.istore 8, 2) := dk_54 8 (dk_at dksX0_acts_11 9 rfl rfl)
theorem dX0_acts_265 : decode cX0_acts 265 = .ok (.iload 6, 2) := dk_21 6 (dk_at dksX0_acts_11 11 rfl rfl)
theorem dX0_acts_267 : decode cX0_acts 267 = .ok (.iconst 4, 1) := dk_7 (dk_at dksX0_acts_11 13 rfl rfl)
theorem dX0_acts_268 : decode cX0_acts 268 = .ok (.if_icmp .ge 11, 3) := dk_162 0 11 (dk_at dksX0_acts_11 14 rfl rfl)
theorem dX0_acts_271 : decode cX0_acts 271 = .ok (.aload_n 0, 1) := dk_42 (dk_at dksX0_acts_11 17 rfl rfl)
theorem dX0_acts_272 : decode cX0_acts 272 = .ok (.aload_n 1, 1) := dk_43 (dk_at dksX0_acts_11 18 rfl rfl)
theorem dX0_acts_273 : decode cX0_acts 273 = .ok (.aload 4, 2) := dk_25 4 (dk_at dksX0_acts_11 19 rfl rfl)
theorem dX0_acts_275 : decode cX0_acts 275 = .ok (.invokestatic 280, 3) := dk_184 1 24 (dk_at dksX0_acts_11 21 rfl rfl)
theorem dX0_acts_278 : decode cX0_acts 278 = .ok (.ireturn, 1) := dk_172 (dk_at dksX0_acts_12 0 rfl rfl)
theorem dX0_acts_279 : decode cX0_acts 279 = .ok (.iload 6, 2) := dk_21 6 (dk_at dksX0_acts_12 1 rfl rfl)
theorem dX0_acts_281 : decode cX0_acts 281 = .ok (.bipush 6, 2) := dk_16 6 (dk_at dksX0_acts_12 3 rfl rfl)
theorem dX0_acts_283 : decode cX0_acts 283 = .ok (.if_icmp .ge 11, 3) := dk_162 0 11 (dk_at dksX0_acts_12 5 rfl rfl)
theorem dX0_acts_286 : decode cX0_acts 286 = .ok (.aload_n 0, 1) := dk_42 (dk_at dksX0_acts_12 8 rfl rfl)
theorem dX0_acts_287 : decode cX0_acts 287 = .ok (.aload_n 1, 1) := dk_43 (dk_at dksX0_acts_12 9 rfl rfl)
theorem dX0_acts_288 : decode cX0_acts 288 = .ok (.aload 4, 2) := dk_25 4 (dk_at dksX0_acts_12 10 rfl rfl)
theorem dX0_acts_290 : decode cX0_acts 290 = .ok (.invokestatic 284, 3) := dk_184 1 28 (dk_at dksX0_acts_12 12 rfl rfl)
theorem dX0_acts_293 : decode cX0_acts 293 = .ok (.ireturn, 1) := dk_172 (dk_at dksX0_acts_12 15 rfl rfl)
theorem dX0_acts_294 : decode cX0_acts 294 = .ok (.iload 6, 2) := dk_21 6 (dk_at dksX0_acts_12 16 rfl rfl)
theorem dX0_acts_296 : decode cX0_acts 296 = .ok (.bipush 8, 2) := dk_16 8 (dk_at dksX0_acts_12 18 rfl rfl)
theorem dX0_acts_298 : decode cX0_acts 298 = .ok (.if_icmp .ge 17, 3) := dk_162 0 17 (dk_at dksX0_acts_12 20 rfl rfl)
theorem dX0_acts_301 : decode cX0_acts 301 = .ok (.aload_n 0, 1) := dk_42 (dk_at dksX0_acts_12 23 rfl rfl)
theorem dX0_acts_302 : decode cX0_acts 302 = .ok (.aload_n 1, 1) := dk_43 (dk_at dksX0_acts_13 0 rfl rfl)
theorem dX0_acts_303 : decode cX0_acts 303 = .ok (.aload 4, 2) := dk_25 4 (dk_at dksX0_acts_13 1 rfl rfl)
theorem dX0_acts_305 : decode cX0_acts 305 = .ok (.iconst 2, 1) := dk_5 (dk_at dksX0_acts_13 3 rfl rfl)
theorem dX0_acts_306 : decode cX0_acts 306 = .ok (.iload 9, 2) := dk_21 9 (dk_at dksX0_acts_13 4 rfl rfl)
theorem dX0_acts_308 : decode cX0_acts 308 = .ok (.iconst 4, 1) := dk_7 (dk_at dksX0_acts_13 6 rfl rfl)
theorem dX0_acts_309 : decode cX0_acts 309 = .ok (.irem, 1) := dk_112 (dk_at dksX0_acts_13 7 rfl rfl)
theorem dX0_acts_310 : decode cX0_acts 310 = .ok (.iadd, 1) := dk_96 (dk_at dksX0_acts_13 8 rfl rfl)
theorem dX0_acts_311 : decode cX0_acts 311 = .ok (.invokestatic 287, 3) := dk_184 1 31 (dk_at dksX0_acts_13 9 rfl rfl)
theorem dX0_acts_314 : decode cX0_acts 314 = .ok (.ireturn, 1) := dk_172 (dk_at dksX0_acts_13 12 rfl rfl)
theorem dX0_acts_315 : decode cX0_acts 315 = .ok (.iload 6, 2) := dk_21 6 (dk_at dksX0_acts_13 13 rfl rfl)
theorem dX0_acts_317 : decode cX0_acts 317 = .ok (.bipush 14, 2) := dk_16 14 (dk_at dksX0_acts_13 15 rfl rfl)
theorem dX0_acts_319 : decode cX0_acts 319 = .ok (.if_icmp .ge 7, 3) := dk_162 0 7 (dk_at dksX0_acts_13 17 rfl rfl)
theorem dX0_acts_322 : decode cX0_acts 322 = .ok (.iconst 0, 1) := dk_3 (dk_at dksX0_acts_13 20 rfl rfl)
theorem dX0_acts_323 : decode cX0_acts 323 = .ok (.goto 15, 3) := dk_167 0 15 (dk_at dksX0_acts_13 21 rfl rfl)
theorem dX0_acts_326 : decode cX0_acts 326 = .ok (.iload 6, 2) := dk_21 6 (dk_at dksX0_acts_14 0 rfl rfl)
theorem dX0_acts_328 : decode cX0_acts 328 = .ok (.bipush 15, 2) := dk_16 15 (dk_at dksX0_acts_14 2 rfl rfl)
theorem dX0_acts_330 : decode cX0_acts 330 = .ok (.if_icmp .ge 7, 3) := dk_162 0 7 (dk_at dksX0_acts_14 4 rfl rfl)
theorem dX0_acts_333 : decode cX0_acts 333 = .ok (.iconst 1, 1) := dk_4 (dk_at dksX0_acts_14 7 rfl rfl)
theorem dX0_acts_334 : decode cX0_acts 334 = .ok (.goto 4, 3) := dk_167 0 4 (dk_at dksX0_acts_14 8 rfl rfl)
theorem dX0_acts_337 : decode cX0_acts 337 = .ok (.iconst 2, 1) := dk_5 (dk_at dksX0_acts_14 11 rfl rfl)
theorem dX0_acts_338 : decode cX0_acts 338 = .ok (.istore 10, 2) := dk_54 10 (dk_at dksX0_acts_14 12 rfl rfl)
theorem dX0_acts_340 : decode cX0_acts 340 = .ok (.iload 10, 2) := dk_21 10 (dk_at dksX0_acts_14 14 rfl rfl)
theorem dX0_acts_342 : decode cX0_acts 342 = .ok (.ifCond .ne 31, 3) := dk_154 0 31 (dk_at dksX0_acts_14 16 rfl rfl)
theorem dX0_acts_345 : decode cX0_acts 345 = .ok (.iload 9, 2) := dk_21 9 (dk_at dksX0_acts_14 19 rfl rfl)
theorem dX0_acts_347 : decode cX0_acts 347 = .ok (.iconst 4, 1) := dk_7 (dk_at dksX0_acts_14 21 rfl rfl)
theorem dX0_acts_348 : decode cX0_acts 348 = .ok (.irem, 1) := dk_112 (dk_at dksX0_acts_14 22 rfl rfl)
theorem dX0_acts_349 : decode cX0_acts 349 = .ok (.ifCond .le 14, 3) := dk_158 0 14 (dk_at dksX0_acts_15 0 rfl rfl)
theorem dX0_acts_352 : decode cX0_acts 352 = .ok (.aload 4, 2) := dk_25 4 (dk_at dksX0_acts_15 3 rfl rfl)
theorem dX0_acts_354 : decode cX0_acts 354 = .ok (.aload_n 1, 1) := dk_43 (dk_at dksX0_acts_15 5 rfl rfl)
theorem dX0_acts_355 : decode cX0_acts 355 = .ok (.iload 8, 2) := dk_21 8 (dk_at dksX0_acts_15 6 rfl rfl)
theorem dX0_acts_357 : decode cX0_acts 357 = .ok (.invokevirtual 290, 3) := dk_182 1 34 (dk_at dksX0_acts_15 8 rfl rfl)
theorem dX0_acts_360 : decode cX0_acts 360 = .ok (.goto 20, 3) := dk_167 0 20 (dk_at dksX0_acts_15 11 rfl rfl)
theorem dX0_acts_363 : decode cX0_acts 363 = .ok (.iload 9, 2) := dk_21 9 (dk_at dksX0_acts_15 14 rfl rfl)
theorem dX0_acts_365 : decode cX0_acts 365 = .ok (.iconst 4, 1) := dk_7 (dk_at dksX0_acts_15 16 rfl rfl)
theorem dX0_acts_366 : decode cX0_acts 366 = .ok (.idiv, 1) := dk_108 (dk_at dksX0_acts_15 17 rfl rfl)
theorem dX0_acts_367 : decode cX0_acts 367 = .ok (.bipush 7, 2) := dk_16 7 (dk_at dksX0_acts_15 18 rfl rfl)
theorem dX0_acts_369 : decode cX0_acts 369 = .ok (.irem, 1) := dk_112 (dk_at dksX0_acts_15 20 rfl rfl)
theorem dX0_acts_370 : decode cX0_acts 370 = .ok (.goto 10, 3) := dk_167 0 10 (dk_at dksX0_acts_15 21 rfl rfl)
theorem dX0_acts_373 : decode cX0_acts 373 = .ok (.iload 9, 2) := dk_21 9 (dk_at dksX0_acts_16 0 rfl rfl)
theorem dX0_acts_375 : decode cX0_acts 375 = .ok (.bipush 22, 2) := dk_16 22 (dk_at dksX0_acts_16 2 rfl rfl)
theorem dX0_acts_377 : decode cX0_acts 377 = .ok (.irem, 1) := dk_112 (dk_at dksX0_acts_16 4 rfl rfl)
theorem dX0_acts_378 : decode cX0_acts 378 = .ok (.iconst 1, 1) := dk_4 (dk_at dksX0_acts_16 5 rfl rfl)
theorem dX0_acts_379 : decode cX0_acts 379 = .ok (.isub, 1) := dk_100 (dk_at dksX0_acts_16 6 rfl rfl)
theorem dX0_acts_380 : decode cX0_acts 380 = .ok (.istore 11, 2) := dk_54 11 (dk_at dksX0_acts_16 7 rfl rfl)
theorem dX0_acts_382 : decode cX0_acts 382 = .ok (.iload 10, 2) := dk_21 10 (dk_at dksX0_acts_16 9 rfl rfl)
theorem dX0_acts_384 : decode cX0_acts 384 = .ok (.ifCond .ne 19, 3) := dk_154 0 19 (dk_at dksX0_acts_16 11 rfl rfl)
theorem dX0_acts_387 : decode cX0_acts 387 = .ok (.aload_n 0, 1) := dk_42 (dk_at dksX0_acts_16 14 rfl rfl)
theorem dX0_acts_388 : decode cX0_acts 388 = .ok (.aload_n 1, 1) := dk_43 (dk_at dksX0_acts_16 15 rfl rfl)
theorem dX0_acts_389 : decode cX0_acts 389 = .ok (.aload 4, 2) := dk_25 4 (dk_at dksX0_acts_16 16 rfl rfl)
theorem dX0_acts_391 : decode cX0_acts 391 = .ok (.iload 7, 2) := dk_21 7 (dk_at dksX0_acts_16 18 rfl rfl)
theorem dX0_acts_393 : decode cX0_acts 393 = .ok (.iload 8, 2) := dk_21 8 (dk_at dksX0_acts_16 20 rfl rfl)
theorem dX0_acts_395 : decode cX0_acts 395 = .ok (.iload 11, 2) := dk_21 11 (dk_at dksX0_acts_16 22 rfl rfl)
theorem dX0_acts_397 : decode cX0_acts 397 = .ok (.invokestatic 294, 3) := dk_184 1 38 (dk_at dksX0_acts_17 0 rfl rfl)
theorem dX0_acts_400 : decode cX0_acts 400 = .ok (.goto 32, 3) := dk_167 0 32 (dk_at dksX0_acts_17 3 rfl rfl)
theorem dX0_acts_403 : decode cX0_acts 403 = .ok (.iload 10, 2) := dk_21 10 (dk_at dksX0_acts_17 6 rfl rfl)
theorem dX0_acts_405 : decode cX0_acts 405 = .ok (.iconst 1, 1) := dk_4 (dk_at dksX0_acts_17 8 rfl rfl)
theorem dX0_acts_406 : decode cX0_acts 406 = .ok (.if_icmp .ne 15, 3) := dk_160 0 15 (dk_at dksX0_acts_17 9 rfl rfl)
theorem dX0_acts_409 : decode cX0_acts 409 = .ok (.aload_n 0, 1) := dk_42 (dk_at dksX0_acts_17 12 rfl rfl)
theorem dX0_acts_410 : decode cX0_acts 410 = .ok (.aload_n 1, 1) := dk_43 (dk_at dksX0_acts_17 13 rfl rfl)
theorem dX0_acts_411 : decode cX0_acts 411 = .ok (.aload 4, 2) := dk_25 4 (dk_at dksX0_acts_17 14 rfl rfl)
theorem dX0_acts_413 : decode cX0_acts 413 = .ok (.iload 7, 2) := dk_21 7 (dk_at dksX0_acts_17 16 rfl rfl)
theorem dX0_acts_415 : decode cX0_acts 415 = .ok (.invokestatic 298, 3) := dk_184 1 42 (dk_at dksX0_acts_17 18 rfl rfl)
theorem dX0_acts_418 : decode cX0_acts 418 = .ok (.goto 14, 3) := dk_167 0 14 (dk_at dksX0_acts_17 21 rfl rfl)
theorem dX0_acts_421 : decode cX0_acts 421 = .ok (.aload_n 0, 1) := dk_42 (dk_at dksX0_acts_18 0 rfl rfl)
theorem dX0_acts_422 : decode cX0_acts 422 = .ok (.aload_n 1, 1) := dk_43 (dk_at dksX0_acts_18 1 rfl rfl)
theorem dX0_acts_423 : decode cX0_acts 423 = .ok (.aload 4, 2) := dk_25 4 (dk_at dksX0_acts_18 2 rfl rfl)
theorem dX0_acts_425 : decode cX0_acts 425 = .ok (.iload 8, 2) := dk_21 8 (dk_at dksX0_acts_18 4 rfl rfl)
theorem dX0_acts_427 : decode cX0_acts 427 = .ok (.iload 11, 2) := dk_21 11 (dk_at dksX0_acts_18 6 rfl rfl)
theorem dX0_acts_429 : decode cX0_acts 429 = .ok (.invokestatic 301, 3) := dk_184 1 45 (dk_at dksX0_acts_18 8 rfl rfl)
theorem dX0_acts_432 : decode cX0_acts 432 = .ok (.istore 12, 2) := dk_54 12 (dk_at dksX0_acts_18 11 rfl rfl)
theorem dX0_acts_434 : decode cX0_acts 434 = .ok (.iload 12, 2) := dk_21 12 (dk_at dksX0_acts_18 13 rfl rfl)
theorem dX0_acts_436 : decode cX0_acts 436 = .ok (.ifCond .eq 38, 3) := dk_153 0 38 (dk_at dksX0_acts_18 15 rfl rfl)
theorem dX0_acts_439 : decode cX0_acts 439 = .ok (.aload_n 0, 1) := dk_42 (dk_at dksX0_acts_18 18 rfl rfl)
theorem dX0_acts_440 : decode cX0_acts 440 = .ok (.iconst 3, 1) := dk_6 (dk_at dksX0_acts_18 19 rfl rfl)
theorem dX0_acts_441 : decode cX0_acts 441 = .ok (.invokevirtual 185, 3) := dk_182 0 185 (dk_at dksX0_acts_18 20 rfl rfl)
theorem dX0_acts_444 : decode cX0_acts 444 = .ok (.aload 4, 2) := dk_25 4 (dk_at dksX0_acts_19 0 rfl rfl)
theorem dX0_acts_446 : decode cX0_acts 446 = .ok (.getfield 188, 3) := dk_180 0 188 (dk_at dksX0_acts_19 2 rfl rfl)
theorem dX0_acts_449 : decode cX0_acts 449 = .ok (.if_icmp .gt 21, 3) := dk_163 0 21 (dk_at dksX0_acts_19 5 rfl rfl)
theorem dX0_acts_452 : decode cX0_acts 452 = .ok (.aload_n 0, 1) := dk_42 (dk_at dksX0_acts_19 8 rfl rfl)
theorem dX0_acts_453 : decode cX0_acts 453 = .ok (.aload_n 1, 1) := dk_43 (dk_at dksX0_acts_19 9 rfl rfl)
theorem dX0_acts_454 : decode cX0_acts 454 = .ok (.aload 4, 2) := dk_25 4 (dk_at dksX0_acts_19 10 rfl rfl)
theorem dX0_acts_456 : decode cX0_acts 456 = .ok (.iload 10, 2) := dk_21 10 (dk_at dksX0_acts_19 12 rfl rfl)
theorem dX0_acts_458 : decode cX0_acts 458 = .ok (.iload 7, 2) := dk_21 7 (dk_at dksX0_acts_19 14 rfl rfl)
theorem dX0_acts_460 : decode cX0_acts 460 = .ok (.iload 8, 2) := dk_21 8 (dk_at dksX0_acts_19 16 rfl rfl)
theorem dX0_acts_462 : decode cX0_acts 462 = .ok (.iload 11, 2) := dk_21 11 (dk_at dksX0_acts_19 18 rfl rfl)
theorem dX0_acts_464 : decode cX0_acts 464 = .ok (.invokestatic 304, 3) := dk_184 1 48 (dk_at dksX0_acts_19 20 rfl rfl)
theorem dX0_acts_467 : decode cX0_acts 467 = .ok (.ifCond .eq 7, 3) := dk_153 0 7 (dk_at dksX0_acts_20 0 rfl rfl)
theorem dX0_acts_470 : decode cX0_acts 470 = .ok (.iconst 1, 1) := dk_4 (dk_at dksX0_acts_20 3 rfl rfl)
theorem dX0_acts_471 : decode cX0_acts 471 = .ok (.goto 4, 3) := dk_167 0 4 (dk_at dksX0_acts_20 4 rfl rfl)
theorem dX0_acts_474 : decode cX0_acts 474 = .ok (.iconst 0, 1) := dk_3 (dk_at dksX0_acts_20 7 rfl rfl)
theorem dX0_acts_475 : decode cX0_acts 475 = .ok (.ireturn, 1) := dk_172 (dk_at dksX0_acts_20 8 rfl rfl)
abbrev cX0_isSafe : ByteArray := method_13_code
def yX0_isSafe : MethodName := ⟨RX0, "isSafe", "(LKilnBench;LKilnBenchLaw$All;LKilnBenchLaw$Ahead;IZ)Z"⟩
def dkwX0_isSafe_9 : List UInt8 := [43, 44, 29, 21, 5, 184, 0, 137, 153, 0, 7, 4, 167, 0, 4, 3, 172]
abbrev dktX0_isSafe_9 : List UInt8 := dkwX0_isSafe_9 ++ []
def dkwX0_isSafe_8 : List UInt8 := [182, 0, 134, 21, 5, 160, 0, 34, 21, 4, 153, 0, 25, 43, 180, 0, 69, 29, 46, 7, 163, 0, 15, 42]
abbrev dktX0_isSafe_8 : List UInt8 := dkwX0_isSafe_8 ++ dktX0_isSafe_9
def dkwX0_isSafe_7 : List UInt8 := [21, 7, 153, 0, 8, 21, 6, 167, 0, 5, 21, 5, 54, 5, 132, 6, 1, 167, 255, 85, 42, 29]
abbrev dktX0_isSafe_7 : List UInt8 := dkwX0_isSafe_7 ++ dktX0_isSafe_8
def dkwX0_isSafe_6 : List UInt8 := [184, 0, 128, 21, 6, 182, 0, 131, 154, 0, 7, 4, 167, 0, 4, 3, 54, 7, 132, 8, 1, 167, 255, 127]
abbrev dktX0_isSafe_6 : List UInt8 := dkwX0_isSafe_6 ++ dktX0_isSafe_7
def dkwX0_isSafe_5 : List UInt8 := [21, 8, 21, 9, 21, 10, 42, 21, 9, 21, 6, 44, 180, 0, 122, 21, 9, 46, 182, 0, 97, 100]
abbrev dktX0_isSafe_5 : List UInt8 := dkwX0_isSafe_5 ++ dktX0_isSafe_6
def dkwX0_isSafe_4 : List UInt8 := [21, 8, 21, 6, 44, 180, 0, 122, 21, 8, 46, 182, 0, 106, 154, 0, 46, 21, 9, 155, 0, 37, 43]
abbrev dktX0_isSafe_4 : List UInt8 := dkwX0_isSafe_4 ++ dktX0_isSafe_5
def dkwX0_isSafe_3 : List UInt8 := [182, 0, 124, 54, 9, 42, 21, 8, 21, 6, 44, 180, 0, 122, 21, 8, 46, 182, 0, 97, 54, 10, 42]
abbrev dktX0_isSafe_3 : List UInt8 := dkwX0_isSafe_3 ++ dktX0_isSafe_4
def dkwX0_isSafe_2 : List UInt8 := [21, 8, 46, 29, 159, 0, 6, 167, 0, 101, 44, 43, 29, 44, 180, 0, 122, 21, 8, 46, 4, 96]
abbrev dktX0_isSafe_2 : List UInt8 := dkwX0_isSafe_2 ++ dktX0_isSafe_3
def dkwX0_isSafe_1 : List UInt8 := [54, 7, 3, 54, 8, 21, 8, 43, 180, 0, 60, 162, 0, 126, 21, 7, 153, 0, 121, 44, 180, 0, 120]
abbrev dktX0_isSafe_1 : List UInt8 := dkwX0_isSafe_1 ++ dktX0_isSafe_2
def dkwX0_isSafe_0 : List UInt8 := [2, 54, 5, 3, 54, 6, 21, 6, 16, 20, 163, 0, 170, 44, 180, 0, 115, 29, 46, 158, 0, 161, 4]
abbrev dktX0_isSafe_0 : List UInt8 := dkwX0_isSafe_0 ++ dktX0_isSafe_1
theorem dksX0_isSafe_0 : cX0_isSafe.data.toList.drop 0 = dktX0_isSafe_0 := by decide +kernel
theorem dksX0_isSafe_1 : cX0_isSafe.data.toList.drop 23 = dktX0_isSafe_1 := dk_seg dksX0_isSafe_0 23 rfl rfl
theorem dksX0_isSafe_2 : cX0_isSafe.data.toList.drop 46 = dktX0_isSafe_2 := dk_seg dksX0_isSafe_1 23 rfl rfl
theorem dksX0_isSafe_3 : cX0_isSafe.data.toList.drop 68 = dktX0_isSafe_3 := dk_seg dksX0_isSafe_2 22 rfl rfl
theorem dksX0_isSafe_4 : cX0_isSafe.data.toList.drop 91 = dktX0_isSafe_4 := dk_seg dksX0_isSafe_3 23 rfl rfl
theorem dksX0_isSafe_5 : cX0_isSafe.data.toList.drop 114 = dktX0_isSafe_5 := dk_seg dksX0_isSafe_4 23 rfl rfl
theorem dksX0_isSafe_6 : cX0_isSafe.data.toList.drop 136 = dktX0_isSafe_6 := dk_seg dksX0_isSafe_5 22 rfl rfl
theorem dksX0_isSafe_7 : cX0_isSafe.data.toList.drop 160 = dktX0_isSafe_7 := dk_seg dksX0_isSafe_6 24 rfl rfl
theorem dksX0_isSafe_8 : cX0_isSafe.data.toList.drop 182 = dktX0_isSafe_8 := dk_seg dksX0_isSafe_7 22 rfl rfl
theorem dksX0_isSafe_9 : cX0_isSafe.data.toList.drop 206 = dktX0_isSafe_9 := dk_seg dksX0_isSafe_8 24 rfl rfl
theorem dX0_isSafe_0 : decode cX0_isSafe 0 = .ok (.iconst (-1), 1) := dk_2 (dk_at dksX0_isSafe_0 0 rfl rfl)
theorem dX0_isSafe_1 : decode cX0_isSafe 1 = .ok (.istore 5, 2) := dk_54 5 (dk_at dksX0_isSafe_0 1 rfl rfl)
theorem dX0_isSafe_3 : decode cX0_isSafe 3 = .ok (.iconst 0, 1) := dk_3 (dk_at dksX0_isSafe_0 3 rfl rfl)
theorem dX0_isSafe_4 : decode cX0_isSafe 4 = .ok (.istore 6, 2) := dk_54 6 (dk_at dksX0_isSafe_0 4 rfl rfl)
theorem dX0_isSafe_6 : decode cX0_isSafe 6 = .ok (.iload 6, 2) := dk_21 6 (dk_at dksX0_isSafe_0 6 rfl rfl)
theorem dX0_isSafe_8 : decode cX0_isSafe 8 = .ok (.bipush 20, 2) := dk_16 20 (dk_at dksX0_isSafe_0 8 rfl rfl)
theorem dX0_isSafe_10 : decode cX0_isSafe 10 = .ok (.if_icmp .gt 170, 3) := dk_163 0 170 (dk_at dksX0_isSafe_0 10 rfl rfl)
theorem dX0_isSafe_13 : decode cX0_isSafe 13 = .ok (.aload_n 2, 1) := dk_44 (dk_at dksX0_isSafe_0 13 rfl rfl)
theorem dX0_isSafe_14 : decode cX0_isSafe 14 = .ok (.getfield 115, 3) := dk_180 0 115 (dk_at dksX0_isSafe_0 14 rfl rfl)
theorem dX0_isSafe_17 : decode cX0_isSafe 17 = .ok (.iload_n 3, 1) := dk_29 (dk_at dksX0_isSafe_0 17 rfl rfl)
theorem dX0_isSafe_18 : decode cX0_isSafe 18 = .ok (.iaload, 1) := dk_46 (dk_at dksX0_isSafe_0 18 rfl rfl)
theorem dX0_isSafe_19 : decode cX0_isSafe 19 = .ok (.ifCond .le 161, 3) := dk_158 0 161 (dk_at dksX0_isSafe_0 19 rfl rfl)
theorem dX0_isSafe_22 : decode cX0_isSafe 22 = .ok (.iconst 1, 1) := dk_4 (dk_at dksX0_isSafe_0 22 rfl rfl)
theorem dX0_isSafe_23 : decode cX0_isSafe 23 = .ok (.istore 7, 2) := dk_54 7 (dk_at dksX0_isSafe_1 0 rfl rfl)
theorem dX0_isSafe_25 : decode cX0_isSafe 25 = .ok (.iconst 0, 1) := dk_3 (dk_at dksX0_isSafe_1 2 rfl rfl)
theorem dX0_isSafe_26 : decode cX0_isSafe 26 = .ok (.istore 8, 2) := dk_54 8 (dk_at dksX0_isSafe_1 3 rfl rfl)
theorem dX0_isSafe_28 : decode cX0_isSafe 28 = .ok (.iload 8, 2) := dk_21 8 (dk_at dksX0_isSafe_1 5 rfl rfl)
theorem dX0_isSafe_30 : decode cX0_isSafe 30 = .ok (.aload_n 1, 1) := dk_43 (dk_at dksX0_isSafe_1 7 rfl rfl)
theorem dX0_isSafe_31 : decode cX0_isSafe 31 = .ok (.getfield 60, 3) := dk_180 0 60 (dk_at dksX0_isSafe_1 8 rfl rfl)
theorem dX0_isSafe_34 : decode cX0_isSafe 34 = .ok (.if_icmp .ge 126, 3) := dk_162 0 126 (dk_at dksX0_isSafe_1 11 rfl rfl)
theorem dX0_isSafe_37 : decode cX0_isSafe 37 = .ok (.iload 7, 2) := dk_21 7 (dk_at dksX0_isSafe_1 14 rfl rfl)
theorem dX0_isSafe_39 : decode cX0_isSafe 39 = .ok (.ifCond .eq 121, 3) := dk_153 0 121 (dk_at dksX0_isSafe_1 16 rfl rfl)
theorem dX0_isSafe_42 : decode cX0_isSafe 42 = .ok (.aload_n 2, 1) := dk_44 (dk_at dksX0_isSafe_1 19 rfl rfl)
theorem dX0_isSafe_43 : decode cX0_isSafe 43 = .ok (.getfield 120, 3) := dk_180 0 120 (dk_at dksX0_isSafe_1 20 rfl rfl)
theorem dX0_isSafe_46 : decode cX0_isSafe 46 = .ok (.iload 8, 2) := dk_21 8 (dk_at dksX0_isSafe_2 0 rfl rfl)
theorem dX0_isSafe_48 : decode cX0_isSafe 48 = .ok (.iaload, 1) := dk_46 (dk_at dksX0_isSafe_2 2 rfl rfl)
theorem dX0_isSafe_49 : decode cX0_isSafe 49 = .ok (.iload_n 3, 1) := dk_29 (dk_at dksX0_isSafe_2 3 rfl rfl)
theorem dX0_isSafe_50 : decode cX0_isSafe 50 = .ok (.if_icmp .eq 6, 3) := dk_159 0 6 (dk_at dksX0_isSafe_2 4 rfl rfl)
theorem dX0_isSafe_53 : decode cX0_isSafe 53 = .ok (.goto 101, 3) := dk_167 0 101 (dk_at dksX0_isSafe_2 7 rfl rfl)
theorem dX0_isSafe_56 : decode cX0_isSafe 56 = .ok (.aload_n 2, 1) := dk_44 (dk_at dksX0_isSafe_2 10 rfl rfl)
theorem dX0_isSafe_57 : decode cX0_isSafe 57 = .ok (.aload_n 1, 1) := dk_43 (dk_at dksX0_isSafe_2 11 rfl rfl)
theorem dX0_isSafe_58 : decode cX0_isSafe 58 = .ok (.iload_n 3, 1) := dk_29 (dk_at dksX0_isSafe_2 12 rfl rfl)
theorem dX0_isSafe_59 : decode cX0_isSafe 59 = .ok (.aload_n 2, 1) := dk_44 (dk_at dksX0_isSafe_2 13 rfl rfl)
theorem dX0_isSafe_60 : decode cX0_isSafe 60 = .ok (.getfield 122, 3) := dk_180 0 122 (dk_at dksX0_isSafe_2 14 rfl rfl)
theorem dX0_isSafe_63 : decode cX0_isSafe 63 = .ok (.iload 8, 2) := dk_21 8 (dk_at dksX0_isSafe_2 17 rfl rfl)
theorem dX0_isSafe_65 : decode cX0_isSafe 65 = .ok (.iaload, 1) := dk_46 (dk_at dksX0_isSafe_2 19 rfl rfl)
theorem dX0_isSafe_66 : decode cX0_isSafe 66 = .ok (.iconst 1, 1) := dk_4 (dk_at dksX0_isSafe_2 20 rfl rfl)
theorem dX0_isSafe_67 : decode cX0_isSafe 67 = .ok (.iadd, 1) := dk_96 (dk_at dksX0_isSafe_2 21 rfl rfl)
theorem dX0_isSafe_68 : decode cX0_isSafe 68 = .ok (.invokevirtual 124, 3) := dk_182 0 124 (dk_at dksX0_isSafe_3 0 rfl rfl)
theorem dX0_isSafe_71 : decode cX0_isSafe 71 = .ok (.istore 9, 2) := dk_54 9 (dk_at dksX0_isSafe_3 3 rfl rfl)
theorem dX0_isSafe_73 : decode cX0_isSafe 73 = .ok (.aload_n 0, 1) := dk_42 (dk_at dksX0_isSafe_3 5 rfl rfl)
theorem dX0_isSafe_74 : decode cX0_isSafe 74 = .ok (.iload 8, 2) := dk_21 8 (dk_at dksX0_isSafe_3 6 rfl rfl)
theorem dX0_isSafe_76 : decode cX0_isSafe 76 = .ok (.iload 6, 2) := dk_21 6 (dk_at dksX0_isSafe_3 8 rfl rfl)
theorem dX0_isSafe_78 : decode cX0_isSafe 78 = .ok (.aload_n 2, 1) := dk_44 (dk_at dksX0_isSafe_3 10 rfl rfl)
theorem dX0_isSafe_79 : decode cX0_isSafe 79 = .ok (.getfield 122, 3) := dk_180 0 122 (dk_at dksX0_isSafe_3 11 rfl rfl)
theorem dX0_isSafe_82 : decode cX0_isSafe 82 = .ok (.iload 8, 2) := dk_21 8 (dk_at dksX0_isSafe_3 14 rfl rfl)
theorem dX0_isSafe_84 : decode cX0_isSafe 84 = .ok (.iaload, 1) := dk_46 (dk_at dksX0_isSafe_3 16 rfl rfl)
theorem dX0_isSafe_85 : decode cX0_isSafe 85 = .ok (.invokevirtual 97, 3) := dk_182 0 97 (dk_at dksX0_isSafe_3 17 rfl rfl)
theorem dX0_isSafe_88 : decode cX0_isSafe 88 = .ok (.istore 10, 2) := dk_54 10 (dk_at dksX0_isSafe_3 20 rfl rfl)
theorem dX0_isSafe_90 : decode cX0_isSafe 90 = .ok (.aload_n 0, 1) := dk_42 (dk_at dksX0_isSafe_3 22 rfl rfl)
theorem dX0_isSafe_91 : decode cX0_isSafe 91 = .ok (.iload 8, 2) := dk_21 8 (dk_at dksX0_isSafe_4 0 rfl rfl)
theorem dX0_isSafe_93 : decode cX0_isSafe 93 = .ok (.iload 6, 2) := dk_21 6 (dk_at dksX0_isSafe_4 2 rfl rfl)
theorem dX0_isSafe_95 : decode cX0_isSafe 95 = .ok (.aload_n 2, 1) := dk_44 (dk_at dksX0_isSafe_4 4 rfl rfl)
theorem dX0_isSafe_96 : decode cX0_isSafe 96 = .ok (.getfield 122, 3) := dk_180 0 122 (dk_at dksX0_isSafe_4 5 rfl rfl)
theorem dX0_isSafe_99 : decode cX0_isSafe 99 = .ok (.iload 8, 2) := dk_21 8 (dk_at dksX0_isSafe_4 8 rfl rfl)
theorem dX0_isSafe_101 : decode cX0_isSafe 101 = .ok (.iaload, 1) := dk_46 (dk_at dksX0_isSafe_4 10 rfl rfl)
theorem dX0_isSafe_102 : decode cX0_isSafe 102 = .ok (.invokevirtual 106, 3) := dk_182 0 106 (dk_at dksX0_isSafe_4 11 rfl rfl)
theorem dX0_isSafe_105 : decode cX0_isSafe 105 = .ok (.ifCond .ne 46, 3) := dk_154 0 46 (dk_at dksX0_isSafe_4 14 rfl rfl)
theorem dX0_isSafe_108 : decode cX0_isSafe 108 = .ok (.iload 9, 2) := dk_21 9 (dk_at dksX0_isSafe_4 17 rfl rfl)
theorem dX0_isSafe_110 : decode cX0_isSafe 110 = .ok (.ifCond .lt 37, 3) := dk_155 0 37 (dk_at dksX0_isSafe_4 19 rfl rfl)
theorem dX0_isSafe_113 : decode cX0_isSafe 113 = .ok (.aload_n 1, 1) := dk_43 (dk_at dksX0_isSafe_4 22 rfl rfl)
theorem dX0_isSafe_114 : decode cX0_isSafe 114 = .ok (.iload 8, 2) := dk_21 8 (dk_at dksX0_isSafe_5 0 rfl rfl)
theorem dX0_isSafe_116 : decode cX0_isSafe 116 = .ok (.iload 9, 2) := dk_21 9 (dk_at dksX0_isSafe_5 2 rfl rfl)
theorem dX0_isSafe_118 : decode cX0_isSafe 118 = .ok (.iload 10, 2) := dk_21 10 (dk_at dksX0_isSafe_5 4 rfl rfl)
theorem dX0_isSafe_120 : decode cX0_isSafe 120 = .ok (.aload_n 0, 1) := dk_42 (dk_at dksX0_isSafe_5 6 rfl rfl)
theorem dX0_isSafe_121 : decode cX0_isSafe 121 = .ok (.iload 9, 2) := dk_21 9 (dk_at dksX0_isSafe_5 7 rfl rfl)
theorem dX0_isSafe_123 : decode cX0_isSafe 123 = .ok (.iload 6, 2) := dk_21 6 (dk_at dksX0_isSafe_5 9 rfl rfl)
theorem dX0_isSafe_125 : decode cX0_isSafe 125 = .ok (.aload_n 2, 1) := dk_44 (dk_at dksX0_isSafe_5 11 rfl rfl)
theorem dX0_isSafe_126 : decode cX0_isSafe 126 = .ok (.getfield 122, 3) := dk_180 0 122 (dk_at dksX0_isSafe_5 12 rfl rfl)
theorem dX0_isSafe_129 : decode cX0_isSafe 129 = .ok (.iload 9, 2) := dk_21 9 (dk_at dksX0_isSafe_5 15 rfl rfl)
theorem dX0_isSafe_131 : decode cX0_isSafe 131 = .ok (.iaload, 1) := dk_46 (dk_at dksX0_isSafe_5 17 rfl rfl)
theorem dX0_isSafe_132 : decode cX0_isSafe 132 = .ok (.invokevirtual 97, 3) := dk_182 0 97 (dk_at dksX0_isSafe_5 18 rfl rfl)
theorem dX0_isSafe_135 : decode cX0_isSafe 135 = .ok (.isub, 1) := dk_100 (dk_at dksX0_isSafe_5 21 rfl rfl)
theorem dX0_isSafe_136 : decode cX0_isSafe 136 = .ok (.invokestatic 128, 3) := dk_184 0 128 (dk_at dksX0_isSafe_6 0 rfl rfl)
theorem dX0_isSafe_139 : decode cX0_isSafe 139 = .ok (.iload 6, 2) := dk_21 6 (dk_at dksX0_isSafe_6 3 rfl rfl)
theorem dX0_isSafe_141 : decode cX0_isSafe 141 = .ok (.invokevirtual 131, 3) := dk_182 0 131 (dk_at dksX0_isSafe_6 5 rfl rfl)
theorem dX0_isSafe_144 : decode cX0_isSafe 144 = .ok (.ifCond .ne 7, 3) := dk_154 0 7 (dk_at dksX0_isSafe_6 8 rfl rfl)
theorem dX0_isSafe_147 : decode cX0_isSafe 147 = .ok (.iconst 1, 1) := dk_4 (dk_at dksX0_isSafe_6 11 rfl rfl)
theorem dX0_isSafe_148 : decode cX0_isSafe 148 = .ok (.goto 4, 3) := dk_167 0 4 (dk_at dksX0_isSafe_6 12 rfl rfl)
theorem dX0_isSafe_151 : decode cX0_isSafe 151 = .ok (.iconst 0, 1) := dk_3 (dk_at dksX0_isSafe_6 15 rfl rfl)
theorem dX0_isSafe_152 : decode cX0_isSafe 152 = .ok (.istore 7, 2) := dk_54 7 (dk_at dksX0_isSafe_6 16 rfl rfl)
theorem dX0_isSafe_154 : decode cX0_isSafe 154 = .ok (.iinc 8 1, 3) := dk_132 8 1 (dk_at dksX0_isSafe_6 18 rfl rfl)
theorem dX0_isSafe_157 : decode cX0_isSafe 157 = .ok (.goto (-129), 3) := dk_167 255 127 (dk_at dksX0_isSafe_6 21 rfl rfl)
theorem dX0_isSafe_160 : decode cX0_isSafe 160 = .ok (.iload 7, 2) := dk_21 7 (dk_at dksX0_isSafe_7 0 rfl rfl)
theorem dX0_isSafe_162 : decode cX0_isSafe 162 = .ok (.ifCond .eq 8, 3) := dk_153 0 8 (dk_at dksX0_isSafe_7 2 rfl rfl)
theorem dX0_isSafe_165 : decode cX0_isSafe 165 = .ok (.iload 6, 2) := dk_21 6 (dk_at dksX0_isSafe_7 5 rfl rfl)
theorem dX0_isSafe_167 : decode cX0_isSafe 167 = .ok (.goto 5, 3) := dk_167 0 5 (dk_at dksX0_isSafe_7 7 rfl rfl)
theorem dX0_isSafe_170 : decode cX0_isSafe 170 = .ok (.iload 5, 2) := dk_21 5 (dk_at dksX0_isSafe_7 10 rfl rfl)
theorem dX0_isSafe_172 : decode cX0_isSafe 172 = .ok (.istore 5, 2) := dk_54 5 (dk_at dksX0_isSafe_7 12 rfl rfl)
theorem dX0_isSafe_174 : decode cX0_isSafe 174 = .ok (.iinc 6 1, 3) := dk_132 6 1 (dk_at dksX0_isSafe_7 14 rfl rfl)
theorem dX0_isSafe_177 : decode cX0_isSafe 177 = .ok (.goto (-171), 3) := dk_167 255 85 (dk_at dksX0_isSafe_7 17 rfl rfl)
theorem dX0_isSafe_180 : decode cX0_isSafe 180 = .ok (.aload_n 0, 1) := dk_42 (dk_at dksX0_isSafe_7 20 rfl rfl)
theorem dX0_isSafe_181 : decode cX0_isSafe 181 = .ok (.iload_n 3, 1) := dk_29 (dk_at dksX0_isSafe_7 21 rfl rfl)
theorem dX0_isSafe_182 : decode cX0_isSafe 182 = .ok (.invokevirtual 134, 3) := dk_182 0 134 (dk_at dksX0_isSafe_8 0 rfl rfl)
theorem dX0_isSafe_185 : decode cX0_isSafe 185 = .ok (.iload 5, 2) := dk_21 5 (dk_at dksX0_isSafe_8 3 rfl rfl)
theorem dX0_isSafe_187 : decode cX0_isSafe 187 = .ok (.if_icmp .ne 34, 3) := dk_160 0 34 (dk_at dksX0_isSafe_8 5 rfl rfl)
theorem dX0_isSafe_190 : decode cX0_isSafe 190 = .ok (.iload 4, 2) := dk_21 4 (dk_at dksX0_isSafe_8 8 rfl rfl)
theorem dX0_isSafe_192 : decode cX0_isSafe 192 = .ok (.ifCond .eq 25, 3) := dk_153 0 25 (dk_at dksX0_isSafe_8 10 rfl rfl)
theorem dX0_isSafe_195 : decode cX0_isSafe 195 = .ok (.aload_n 1, 1) := dk_43 (dk_at dksX0_isSafe_8 13 rfl rfl)
theorem dX0_isSafe_196 : decode cX0_isSafe 196 = .ok (.getfield 69, 3) := dk_180 0 69 (dk_at dksX0_isSafe_8 14 rfl rfl)
theorem dX0_isSafe_199 : decode cX0_isSafe 199 = .ok (.iload_n 3, 1) := dk_29 (dk_at dksX0_isSafe_8 17 rfl rfl)
theorem dX0_isSafe_200 : decode cX0_isSafe 200 = .ok (.iaload, 1) := dk_46 (dk_at dksX0_isSafe_8 18 rfl rfl)
theorem dX0_isSafe_201 : decode cX0_isSafe 201 = .ok (.iconst 4, 1) := dk_7 (dk_at dksX0_isSafe_8 19 rfl rfl)
theorem dX0_isSafe_202 : decode cX0_isSafe 202 = .ok (.if_icmp .gt 15, 3) := dk_163 0 15 (dk_at dksX0_isSafe_8 20 rfl rfl)
theorem dX0_isSafe_205 : decode cX0_isSafe 205 = .ok (.aload_n 0, 1) := dk_42 (dk_at dksX0_isSafe_8 23 rfl rfl)
theorem dX0_isSafe_206 : decode cX0_isSafe 206 = .ok (.aload_n 1, 1) := dk_43 (dk_at dksX0_isSafe_9 0 rfl rfl)
theorem dX0_isSafe_207 : decode cX0_isSafe 207 = .ok (.aload_n 2, 1) := dk_44 (dk_at dksX0_isSafe_9 1 rfl rfl)
theorem dX0_isSafe_208 : decode cX0_isSafe 208 = .ok (.iload_n 3, 1) := dk_29 (dk_at dksX0_isSafe_9 2 rfl rfl)
theorem dX0_isSafe_209 : decode cX0_isSafe 209 = .ok (.iload 5, 2) := dk_21 5 (dk_at dksX0_isSafe_9 3 rfl rfl)
theorem dX0_isSafe_211 : decode cX0_isSafe 211 = .ok (.invokestatic 137, 3) := dk_184 0 137 (dk_at dksX0_isSafe_9 5 rfl rfl)
theorem dX0_isSafe_214 : decode cX0_isSafe 214 = .ok (.ifCond .eq 7, 3) := dk_153 0 7 (dk_at dksX0_isSafe_9 8 rfl rfl)
theorem dX0_isSafe_217 : decode cX0_isSafe 217 = .ok (.iconst 1, 1) := dk_4 (dk_at dksX0_isSafe_9 11 rfl rfl)
theorem dX0_isSafe_218 : decode cX0_isSafe 218 = .ok (.goto 4, 3) := dk_167 0 4 (dk_at dksX0_isSafe_9 12 rfl rfl)
theorem dX0_isSafe_221 : decode cX0_isSafe 221 = .ok (.iconst 0, 1) := dk_3 (dk_at dksX0_isSafe_9 15 rfl rfl)
theorem dX0_isSafe_222 : decode cX0_isSafe 222 = .ok (.ireturn, 1) := dk_172 (dk_at dksX0_isSafe_9 16 rfl rfl)
abbrev cX0_isBest : ByteArray := method_14_code
def yX0_isBest : MethodName := ⟨RX0, "isBest", "(LKilnBench;LKilnBenchLaw$All;LKilnBenchLaw$Ahead;II)Z"⟩
def dkwX0_isBest_14 : List UInt8 := [3, 172]
abbrev dktX0_isBest_14 : List UInt8 := dkwX0_isBest_14 ++ []
def dkwX0_isBest_13 : List UInt8 := [161, 0, 24, 42, 29, 5, 43, 180, 0, 69, 29, 46, 96, 182, 0, 141, 2, 160, 0, 7, 4, 167, 0, 4]
abbrev dktX0_isBest_13 : List UInt8 := dkwX0_isBest_13 ++ dktX0_isBest_14
def dkwX0_isBest_12 : List UInt8 := [44, 180, 0, 115, 29, 46, 160, 0, 42, 42, 29, 4, 182, 0, 141, 21, 7, 160, 0, 31, 21, 7, 21, 9]
abbrev dktX0_isBest_12 : List UInt8 := dkwX0_isBest_12 ++ dktX0_isBest_13
def dkwX0_isBest_11 : List UInt8 := [21, 10, 46, 182, 0, 97, 167, 0, 4, 3, 96, 54, 9, 132, 10, 1, 167, 255, 204, 21, 6, 184, 0, 144]
abbrev dktX0_isBest_11 : List UInt8 := dkwX0_isBest_11 ++ dktX0_isBest_12
def dkwX0_isBest_10 : List UInt8 := [155, 0, 32, 44, 180, 0, 120, 21, 10, 46, 29, 160, 0, 21, 42, 21, 10, 21, 4, 44, 180, 0, 122]
abbrev dktX0_isBest_10 : List UInt8 := dkwX0_isBest_10 ++ dktX0_isBest_11
def dkwX0_isBest_9 : List UInt8 := [167, 255, 106, 3, 54, 9, 3, 54, 10, 21, 10, 43, 180, 0, 60, 162, 0, 49, 21, 9, 21, 4]
abbrev dktX0_isBest_9 : List UInt8 := dkwX0_isBest_9 ++ dktX0_isBest_10
def dkwX0_isBest_8 : List UInt8 := [54, 6, 21, 7, 42, 21, 10, 21, 5, 21, 9, 182, 0, 97, 96, 54, 7, 21, 10, 54, 8, 132, 9, 1]
abbrev dktX0_isBest_8 : List UInt8 := dkwX0_isBest_8 ++ dktX0_isBest_9
def dkwX0_isBest_7 : List UInt8 := [182, 0, 97, 100, 184, 0, 128, 21, 5, 182, 0, 131, 153, 0, 5, 3, 172, 21, 6, 4, 21, 10, 120, 128]
abbrev dktX0_isBest_7 : List UInt8 := dkwX0_isBest_7 ++ dktX0_isBest_8
def dkwX0_isBest_6 : List UInt8 := [43, 21, 8, 21, 10, 42, 21, 8, 21, 5, 21, 9, 4, 100, 182, 0, 97, 42, 21, 10, 21, 5, 21, 9]
abbrev dktX0_isBest_6 : List UInt8 := dkwX0_isBest_6 ++ dktX0_isBest_7
def dkwX0_isBest_5 : List UInt8 := [4, 159, 0, 16, 42, 21, 10, 21, 5, 21, 9, 182, 0, 106, 153, 0, 5, 3, 172, 21, 8, 155, 0, 44]
abbrev dktX0_isBest_5 : List UInt8 := dkwX0_isBest_5 ++ dktX0_isBest_6
def dkwX0_isBest_4 : List UInt8 := [180, 0, 60, 162, 0, 38, 44, 180, 0, 120, 21, 10, 46, 29, 160, 0, 27, 21, 6, 21, 10, 122, 4, 126]
abbrev dktX0_isBest_4 : List UInt8 := dkwX0_isBest_4 ++ dktX0_isBest_5
def dkwX0_isBest_3 : List UInt8 := [46, 162, 0, 145, 42, 29, 5, 21, 9, 96, 182, 0, 141, 54, 10, 21, 10, 155, 0, 119, 21, 10, 43]
abbrev dktX0_isBest_3 : List UInt8 := dkwX0_isBest_3 ++ dktX0_isBest_4
def dkwX0_isBest_2 : List UInt8 := [167, 0, 4, 3, 172, 3, 54, 6, 3, 54, 7, 2, 54, 8, 3, 54, 9, 21, 9, 43, 180, 0, 69, 29]
abbrev dktX0_isBest_2 : List UInt8 := dkwX0_isBest_2 ++ dktX0_isBest_3
def dkwX0_isBest_1 : List UInt8 := [182, 0, 141, 2, 160, 0, 22, 42, 29, 5, 182, 0, 141, 2, 160, 0, 12, 21, 4, 156, 0, 7, 4]
abbrev dktX0_isBest_1 : List UInt8 := dkwX0_isBest_1 ++ dktX0_isBest_2
def dkwX0_isBest_0 : List UInt8 := [42, 29, 3, 182, 0, 141, 54, 5, 21, 5, 156, 0, 40, 21, 5, 2, 160, 0, 32, 42, 29, 4]
abbrev dktX0_isBest_0 : List UInt8 := dkwX0_isBest_0 ++ dktX0_isBest_1
theorem dksX0_isBest_0 : cX0_isBest.data.toList.drop 0 = dktX0_isBest_0 := by decide +kernel
theorem dksX0_isBest_1 : cX0_isBest.data.toList.drop 22 = dktX0_isBest_1 := dk_seg dksX0_isBest_0 22 rfl rfl
theorem dksX0_isBest_2 : cX0_isBest.data.toList.drop 45 = dktX0_isBest_2 := dk_seg dksX0_isBest_1 23 rfl rfl
theorem dksX0_isBest_3 : cX0_isBest.data.toList.drop 69 = dktX0_isBest_3 := dk_seg dksX0_isBest_2 24 rfl rfl
theorem dksX0_isBest_4 : cX0_isBest.data.toList.drop 92 = dktX0_isBest_4 := dk_seg dksX0_isBest_3 23 rfl rfl
theorem dksX0_isBest_5 : cX0_isBest.data.toList.drop 116 = dktX0_isBest_5 := dk_seg dksX0_isBest_4 24 rfl rfl
theorem dksX0_isBest_6 : cX0_isBest.data.toList.drop 140 = dktX0_isBest_6 := dk_seg dksX0_isBest_5 24 rfl rfl
theorem dksX0_isBest_7 : cX0_isBest.data.toList.drop 164 = dktX0_isBest_7 := dk_seg dksX0_isBest_6 24 rfl rfl
theorem dksX0_isBest_8 : cX0_isBest.data.toList.drop 188 = dktX0_isBest_8 := dk_seg dksX0_isBest_7 24 rfl rfl
theorem dksX0_isBest_9 : cX0_isBest.data.toList.drop 212 = dktX0_isBest_9 := dk_seg dksX0_isBest_8 24 rfl rfl
theorem dksX0_isBest_10 : cX0_isBest.data.toList.drop 234 = dktX0_isBest_10 := dk_seg dksX0_isBest_9 22 rfl rfl
theorem dksX0_isBest_11 : cX0_isBest.data.toList.drop 257 = dktX0_isBest_11 := dk_seg dksX0_isBest_10 23 rfl rfl
theorem dksX0_isBest_12 : cX0_isBest.data.toList.drop 281 = dktX0_isBest_12 := dk_seg dksX0_isBest_11 24 rfl rfl
theorem dksX0_isBest_13 : cX0_isBest.data.toList.drop 305 = dktX0_isBest_13 := dk_seg dksX0_isBest_12 24 rfl rfl
theorem dksX0_isBest_14 : cX0_isBest.data.toList.drop 329 = dktX0_isBest_14 := dk_seg dksX0_isBest_13 24 rfl rfl
theorem dX0_isBest_0 : decode cX0_isBest 0 = .ok (.aload_n 0, 1) := dk_42 (dk_at dksX0_isBest_0 0 rfl rfl)
theorem dX0_isBest_1 : decode cX0_isBest 1 = .ok (.iload_n 3, 1) := dk_29 (dk_at dksX0_isBest_0 1 rfl rfl)
theorem dX0_isBest_2 : decode cX0_isBest 2 = .ok (.iconst 0, 1) := dk_3 (dk_at dksX0_isBest_0 2 rfl rfl)
theorem dX0_isBest_3 : decode cX0_isBest 3 = .ok (.invokevirtual 141, 3) := dk_182 0 141 (dk_at dksX0_isBest_0 3 rfl rfl)
theorem dX0_isBest_6 : decode cX0_isBest 6 = .ok (.istore 5, 2) := dk_54 5 (dk_at dksX0_isBest_0 6 rfl rfl)
theorem dX0_isBest_8 : decode cX0_isBest 8 = .ok (.iload 5, 2) := dk_21 5 (dk_at dksX0_isBest_0 8 rfl rfl)
theorem dX0_isBest_10 : decode cX0_isBest 10 = .ok (.ifCond .ge 40, 3) := dk_156 0 40 (dk_at dksX0_isBest_0 10 rfl rfl)
theorem dX0_isBest_13 : decode cX0_isBest 13 = .ok (.iload 5, 2) := dk_21 5 (dk_at dksX0_isBest_0 13 rfl rfl)
theorem dX0_isBest_15 : decode cX0_isBest 15 = .ok (.iconst (-1), 1) := dk_2 (dk_at dksX0_isBest_0 15 rfl rfl)
theorem dX0_isBest_16 : decode cX0_isBest 16 = .ok (.if_icmp .ne 32, 3) := dk_160 0 32 (dk_at dksX0_isBest_0 16 rfl rfl)
theorem dX0_isBest_19 : decode cX0_isBest 19 = .ok (.aload_n 0, 1) := dk_42 (dk_at dksX0_isBest_0 19 rfl rfl)
theorem dX0_isBest_20 : decode cX0_isBest 20 = .ok (.iload_n 3, 1) := dk_29 (dk_at dksX0_isBest_0 20 rfl rfl)
theorem dX0_isBest_21 : decode cX0_isBest 21 = .ok (.iconst 1, 1) := dk_4 (dk_at dksX0_isBest_0 21 rfl rfl)
theorem dX0_isBest_22 : decode cX0_isBest 22 = .ok (.invokevirtual 141, 3) := dk_182 0 141 (dk_at dksX0_isBest_1 0 rfl rfl)
theorem dX0_isBest_25 : decode cX0_isBest 25 = .ok (.iconst (-1), 1) := dk_2 (dk_at dksX0_isBest_1 3 rfl rfl)
theorem dX0_isBest_26 : decode cX0_isBest 26 = .ok (.if_icmp .ne 22, 3) := dk_160 0 22 (dk_at dksX0_isBest_1 4 rfl rfl)
theorem dX0_isBest_29 : decode cX0_isBest 29 = .ok (.aload_n 0, 1) := dk_42 (dk_at dksX0_isBest_1 7 rfl rfl)
theorem dX0_isBest_30 : decode cX0_isBest 30 = .ok (.iload_n 3, 1) := dk_29 (dk_at dksX0_isBest_1 8 rfl rfl)
theorem dX0_isBest_31 : decode cX0_isBest 31 = .ok (.iconst 2, 1) := dk_5 (dk_at dksX0_isBest_1 9 rfl rfl)
theorem dX0_isBest_32 : decode cX0_isBest 32 = .ok (.invokevirtual 141, 3) := dk_182 0 141 (dk_at dksX0_isBest_1 10 rfl rfl)
theorem dX0_isBest_35 : decode cX0_isBest 35 = .ok (.iconst (-1), 1) := dk_2 (dk_at dksX0_isBest_1 13 rfl rfl)
theorem dX0_isBest_36 : decode cX0_isBest 36 = .ok (.if_icmp .ne 12, 3) := dk_160 0 12 (dk_at dksX0_isBest_1 14 rfl rfl)
theorem dX0_isBest_39 : decode cX0_isBest 39 = .ok (.iload 4, 2) := dk_21 4 (dk_at dksX0_isBest_1 17 rfl rfl)
theorem dX0_isBest_41 : decode cX0_isBest 41 = .ok (.ifCond .ge 7, 3) := dk_156 0 7 (dk_at dksX0_isBest_1 19 rfl rfl)
theorem dX0_isBest_44 : decode cX0_isBest 44 = .ok (.iconst 1, 1) := dk_4 (dk_at dksX0_isBest_1 22 rfl rfl)
theorem dX0_isBest_45 : decode cX0_isBest 45 = .ok (.goto 4, 3) := dk_167 0 4 (dk_at dksX0_isBest_2 0 rfl rfl)
theorem dX0_isBest_48 : decode cX0_isBest 48 = .ok (.iconst 0, 1) := dk_3 (dk_at dksX0_isBest_2 3 rfl rfl)
theorem dX0_isBest_49 : decode cX0_isBest 49 = .ok (.ireturn, 1) := dk_172 (dk_at dksX0_isBest_2 4 rfl rfl)
theorem dX0_isBest_50 : decode cX0_isBest 50 = .ok (.iconst 0, 1) := dk_3 (dk_at dksX0_isBest_2 5 rfl rfl)
theorem dX0_isBest_51 : decode cX0_isBest 51 = .ok (.istore 6, 2) := dk_54 6 (dk_at dksX0_isBest_2 6 rfl rfl)
theorem dX0_isBest_53 : decode cX0_isBest 53 = .ok (.iconst 0, 1) := dk_3 (dk_at dksX0_isBest_2 8 rfl rfl)
theorem dX0_isBest_54 : decode cX0_isBest 54 = .ok (.istore 7, 2) := dk_54 7 (dk_at dksX0_isBest_2 9 rfl rfl)
theorem dX0_isBest_56 : decode cX0_isBest 56 = .ok (.iconst (-1), 1) := dk_2 (dk_at dksX0_isBest_2 11 rfl rfl)
theorem dX0_isBest_57 : decode cX0_isBest 57 = .ok (.istore 8, 2) := dk_54 8 (dk_at dksX0_isBest_2 12 rfl rfl)
theorem dX0_isBest_59 : decode cX0_isBest 59 = .ok (.iconst 0, 1) := dk_3 (dk_at dksX0_isBest_2 14 rfl rfl)
theorem dX0_isBest_60 : decode cX0_isBest 60 = .ok (.istore 9, 2) := dk_54 9 (dk_at dksX0_isBest_2 15 rfl rfl)
theorem dX0_isBest_62 : decode cX0_isBest 62 = .ok (.iload 9, 2) := dk_21 9 (dk_at dksX0_isBest_2 17 rfl rfl)
theorem dX0_isBest_64 : decode cX0_isBest 64 = .ok (.aload_n 1, 1) := dk_43 (dk_at dksX0_isBest_2 19 rfl rfl)
theorem dX0_isBest_65 : decode cX0_isBest 65 = .ok (.getfield 69, 3) := dk_180 0 69 (dk_at dksX0_isBest_2 20 rfl rfl)
theorem dX0_isBest_68 : decode cX0_isBest 68 = .ok (.iload_n 3, 1) := dk_29 (dk_at dksX0_isBest_2 23 rfl rfl)
theorem dX0_isBest_69 : decode cX0_isBest 69 = .ok (.iaload, 1) := dk_46 (dk_at dksX0_isBest_3 0 rfl rfl)
theorem dX0_isBest_70 : decode cX0_isBest 70 = .ok (.if_icmp .ge 145, 3) := dk_162 0 145 (dk_at dksX0_isBest_3 1 rfl rfl)
theorem dX0_isBest_73 : decode cX0_isBest 73 = .ok (.aload_n 0, 1) := dk_42 (dk_at dksX0_isBest_3 4 rfl rfl)
theorem dX0_isBest_74 : decode cX0_isBest 74 = .ok (.iload_n 3, 1) := dk_29 (dk_at dksX0_isBest_3 5 rfl rfl)
theorem dX0_isBest_75 : decode cX0_isBest 75 = .ok (.iconst 2, 1) := dk_5 (dk_at dksX0_isBest_3 6 rfl rfl)
theorem dX0_isBest_76 : decode cX0_isBest 76 = .ok (.iload 9, 2) := dk_21 9 (dk_at dksX0_isBest_3 7 rfl rfl)
theorem dX0_isBest_78 : decode cX0_isBest 78 = .ok (.iadd, 1) := dk_96 (dk_at dksX0_isBest_3 9 rfl rfl)
theorem dX0_isBest_79 : decode cX0_isBest 79 = .ok (.invokevirtual 141, 3) := dk_182 0 141 (dk_at dksX0_isBest_3 10 rfl rfl)
theorem dX0_isBest_82 : decode cX0_isBest 82 = .ok (.istore 10, 2) := dk_54 10 (dk_at dksX0_isBest_3 13 rfl rfl)
theorem dX0_isBest_84 : decode cX0_isBest 84 = .ok (.iload 10, 2) := dk_21 10 (dk_at dksX0_isBest_3 15 rfl rfl)
theorem dX0_isBest_86 : decode cX0_isBest 86 = .ok (.ifCond .lt 119, 3) := dk_155 0 119 (dk_at dksX0_isBest_3 17 rfl rfl)
theorem dX0_isBest_89 : decode cX0_isBest 89 = .ok (.iload 10, 2) := dk_21 10 (dk_at dksX0_isBest_3 20 rfl rfl)
theorem dX0_isBest_91 : decode cX0_isBest 91 = .ok (.aload_n 1, 1) := dk_43 (dk_at dksX0_isBest_3 22 rfl rfl)
theorem dX0_isBest_92 : decode cX0_isBest 92 = .ok (.getfield 60, 3) := dk_180 0 60 (dk_at dksX0_isBest_4 0 rfl rfl)
theorem dX0_isBest_95 : decode cX0_isBest 95 = .ok (.if_icmp .ge 38, 3) := dk_162 0 38 (dk_at dksX0_isBest_4 3 rfl rfl)
theorem dX0_isBest_98 : decode cX0_isBest 98 = .ok (.aload_n 2, 1) := dk_44 (dk_at dksX0_isBest_4 6 rfl rfl)
theorem dX0_isBest_99 : decode cX0_isBest 99 = .ok (.getfield 120, 3) := dk_180 0 120 (dk_at dksX0_isBest_4 7 rfl rfl)
theorem dX0_isBest_102 : decode cX0_isBest 102 = .ok (.iload 10, 2) := dk_21 10 (dk_at dksX0_isBest_4 10 rfl rfl)
theorem dX0_isBest_104 : decode cX0_isBest 104 = .ok (.iaload, 1) := dk_46 (dk_at dksX0_isBest_4 12 rfl rfl)
theorem dX0_isBest_105 : decode cX0_isBest 105 = .ok (.iload_n 3, 1) := dk_29 (dk_at dksX0_isBest_4 13 rfl rfl)
theorem dX0_isBest_106 : decode cX0_isBest 106 = .ok (.if_icmp .ne 27, 3) := dk_160 0 27 (dk_at dksX0_isBest_4 14 rfl rfl)
theorem dX0_isBest_109 : decode cX0_isBest 109 = .ok (.iload 6, 2) := dk_21 6 (dk_at dksX0_isBest_4 17 rfl rfl)
theorem dX0_isBest_111 : decode cX0_isBest 111 = .ok (.iload 10, 2) := dk_21 10 (dk_at dksX0_isBest_4 19 rfl rfl)
theorem dX0_isBest_113 : decode cX0_isBest 113 = .ok (.ishr, 1) := dk_122 (dk_at dksX0_isBest_4 21 rfl rfl)
theorem dX0_isBest_114 : decode cX0_isBest 114 = .ok (.iconst 1, 1) := dk_4 (dk_at dksX0_isBest_4 22 rfl rfl)
theorem dX0_isBest_115 : decode cX0_isBest 115 = .ok (.iand, 1) := dk_126 (dk_at dksX0_isBest_4 23 rfl rfl)
theorem dX0_isBest_116 : decode cX0_isBest 116 = .ok (.iconst 1, 1) := dk_4 (dk_at dksX0_isBest_5 0 rfl rfl)
theorem dX0_isBest_117 : decode cX0_isBest 117 = .ok (.if_icmp .eq 16, 3) := dk_159 0 16 (dk_at dksX0_isBest_5 1 rfl rfl)
theorem dX0_isBest_120 : decode cX0_isBest 120 = .ok (.aload_n 0, 1) := dk_42 (dk_at dksX0_isBest_5 4 rfl rfl)
theorem dX0_isBest_121 : decode cX0_isBest 121 = .ok (.iload 10, 2) := dk_21 10 (dk_at dksX0_isBest_5 5 rfl rfl)
theorem dX0_isBest_123 : decode cX0_isBest 123 = .ok (.iload 5, 2) := dk_21 5 (dk_at dksX0_isBest_5 7 rfl rfl)
theorem dX0_isBest_125 : decode cX0_isBest 125 = .ok (.iload 9, 2) := dk_21 9 (dk_at dksX0_isBest_5 9 rfl rfl)
theorem dX0_isBest_127 : decode cX0_isBest 127 = .ok (.invokevirtual 106, 3) := dk_182 0 106 (dk_at dksX0_isBest_5 11 rfl rfl)
theorem dX0_isBest_130 : decode cX0_isBest 130 = .ok (.ifCond .eq 5, 3) := dk_153 0 5 (dk_at dksX0_isBest_5 14 rfl rfl)
theorem dX0_isBest_133 : decode cX0_isBest 133 = .ok (.iconst 0, 1) := dk_3 (dk_at dksX0_isBest_5 17 rfl rfl)
theorem dX0_isBest_134 : decode cX0_isBest 134 = .ok (.ireturn, 1) := dk_172 (dk_at dksX0_isBest_5 18 rfl rfl)
theorem dX0_isBest_135 : decode cX0_isBest 135 = .ok (.iload 8, 2) := dk_21 8 (dk_at dksX0_isBest_5 19 rfl rfl)
theorem dX0_isBest_137 : decode cX0_isBest 137 = .ok (.ifCond .lt 44, 3) := dk_155 0 44 (dk_at dksX0_isBest_5 21 rfl rfl)
theorem dX0_isBest_140 : decode cX0_isBest 140 = .ok (.aload_n 1, 1) := dk_43 (dk_at dksX0_isBest_6 0 rfl rfl)
theorem dX0_isBest_141 : decode cX0_isBest 141 = .ok (.iload 8, 2) := dk_21 8 (dk_at dksX0_isBest_6 1 rfl rfl)
theorem dX0_isBest_143 : decode cX0_isBest 143 = .ok (.iload 10, 2) := dk_21 10 (dk_at dksX0_isBest_6 3 rfl rfl)
theorem dX0_isBest_145 : decode cX0_isBest 145 = .ok (.aload_n 0, 1) := dk_42 (dk_at dksX0_isBest_6 5 rfl rfl)
theorem dX0_isBest_146 : decode cX0_isBest 146 = .ok (.iload 8, 2) := dk_21 8 (dk_at dksX0_isBest_6 6 rfl rfl)
theorem dX0_isBest_148 : decode cX0_isBest 148 = .ok (.iload 5, 2) := dk_21 5 (dk_at dksX0_isBest_6 8 rfl rfl)
theorem dX0_isBest_150 : decode cX0_isBest 150 = .ok (.iload 9, 2) := dk_21 9 (dk_at dksX0_isBest_6 10 rfl rfl)
theorem dX0_isBest_152 : decode cX0_isBest 152 = .ok (.iconst 1, 1) := dk_4 (dk_at dksX0_isBest_6 12 rfl rfl)
theorem dX0_isBest_153 : decode cX0_isBest 153 = .ok (.isub, 1) := dk_100 (dk_at dksX0_isBest_6 13 rfl rfl)
theorem dX0_isBest_154 : decode cX0_isBest 154 = .ok (.invokevirtual 97, 3) := dk_182 0 97 (dk_at dksX0_isBest_6 14 rfl rfl)
theorem dX0_isBest_157 : decode cX0_isBest 157 = .ok (.aload_n 0, 1) := dk_42 (dk_at dksX0_isBest_6 17 rfl rfl)
theorem dX0_isBest_158 : decode cX0_isBest 158 = .ok (.iload 10, 2) := dk_21 10 (dk_at dksX0_isBest_6 18 rfl rfl)
theorem dX0_isBest_160 : decode cX0_isBest 160 = .ok (.iload 5, 2) := dk_21 5 (dk_at dksX0_isBest_6 20 rfl rfl)
theorem dX0_isBest_162 : decode cX0_isBest 162 = .ok (.iload 9, 2) := dk_21 9 (dk_at dksX0_isBest_6 22 rfl rfl)
theorem dX0_isBest_164 : decode cX0_isBest 164 = .ok (.invokevirtual 97, 3) := dk_182 0 97 (dk_at dksX0_isBest_7 0 rfl rfl)
theorem dX0_isBest_167 : decode cX0_isBest 167 = .ok (.isub, 1) := dk_100 (dk_at dksX0_isBest_7 3 rfl rfl)
theorem dX0_isBest_168 : decode cX0_isBest 168 = .ok (.invokestatic 128, 3) := dk_184 0 128 (dk_at dksX0_isBest_7 4 rfl rfl)
theorem dX0_isBest_171 : decode cX0_isBest 171 = .ok (.iload 5, 2) := dk_21 5 (dk_at dksX0_isBest_7 7 rfl rfl)
theorem dX0_isBest_173 : decode cX0_isBest 173 = .ok (.invokevirtual 131, 3) := dk_182 0 131 (dk_at dksX0_isBest_7 9 rfl rfl)
theorem dX0_isBest_176 : decode cX0_isBest 176 = .ok (.ifCond .eq 5, 3) := dk_153 0 5 (dk_at dksX0_isBest_7 12 rfl rfl)
theorem dX0_isBest_179 : decode cX0_isBest 179 = .ok (.iconst 0, 1) := dk_3 (dk_at dksX0_isBest_7 15 rfl rfl)
theorem dX0_isBest_180 : decode cX0_isBest 180 = .ok (.ireturn, 1) := dk_172 (dk_at dksX0_isBest_7 16 rfl rfl)
theorem dX0_isBest_181 : decode cX0_isBest 181 = .ok (.iload 6, 2) := dk_21 6 (dk_at dksX0_isBest_7 17 rfl rfl)
theorem dX0_isBest_183 : decode cX0_isBest 183 = .ok (.iconst 1, 1) := dk_4 (dk_at dksX0_isBest_7 19 rfl rfl)
theorem dX0_isBest_184 : decode cX0_isBest 184 = .ok (.iload 10, 2) := dk_21 10 (dk_at dksX0_isBest_7 20 rfl rfl)
theorem dX0_isBest_186 : decode cX0_isBest 186 = .ok (.ishl, 1) := dk_120 (dk_at dksX0_isBest_7 22 rfl rfl)
theorem dX0_isBest_187 : decode cX0_isBest 187 = .ok (.ior, 1) := dk_128 (dk_at dksX0_isBest_7 23 rfl rfl)
theorem dX0_isBest_188 : decode cX0_isBest 188 = .ok (.istore 6, 2) := dk_54 6 (dk_at dksX0_isBest_8 0 rfl rfl)
theorem dX0_isBest_190 : decode cX0_isBest 190 = .ok (.iload 7, 2) := dk_21 7 (dk_at dksX0_isBest_8 2 rfl rfl)
theorem dX0_isBest_192 : decode cX0_isBest 192 = .ok (.aload_n 0, 1) := dk_42 (dk_at dksX0_isBest_8 4 rfl rfl)
theorem dX0_isBest_193 : decode cX0_isBest 193 = .ok (.iload 10, 2) := dk_21 10 (dk_at dksX0_isBest_8 5 rfl rfl)
theorem dX0_isBest_195 : decode cX0_isBest 195 = .ok (.iload 5, 2) := dk_21 5 (dk_at dksX0_isBest_8 7 rfl rfl)
theorem dX0_isBest_197 : decode cX0_isBest 197 = .ok (.iload 9, 2) := dk_21 9 (dk_at dksX0_isBest_8 9 rfl rfl)
theorem dX0_isBest_199 : decode cX0_isBest 199 = .ok (.invokevirtual 97, 3) := dk_182 0 97 (dk_at dksX0_isBest_8 11 rfl rfl)
theorem dX0_isBest_202 : decode cX0_isBest 202 = .ok (.iadd, 1) := dk_96 (dk_at dksX0_isBest_8 14 rfl rfl)
theorem dX0_isBest_203 : decode cX0_isBest 203 = .ok (.istore 7, 2) := dk_54 7 (dk_at dksX0_isBest_8 15 rfl rfl)
theorem dX0_isBest_205 : decode cX0_isBest 205 = .ok (.iload 10, 2) := dk_21 10 (dk_at dksX0_isBest_8 17 rfl rfl)
theorem dX0_isBest_207 : decode cX0_isBest 207 = .ok (.istore 8, 2) := dk_54 8 (dk_at dksX0_isBest_8 19 rfl rfl)
theorem dX0_isBest_209 : decode cX0_isBest 209 = .ok (.iinc 9 1, 3) := dk_132 9 1 (dk_at dksX0_isBest_8 21 rfl rfl)
theorem dX0_isBest_212 : decode cX0_isBest 212 = .ok (.goto (-150), 3) := dk_167 255 106 (dk_at dksX0_isBest_9 0 rfl rfl)
theorem dX0_isBest_215 : decode cX0_isBest 215 = .ok (.iconst 0, 1) := dk_3 (dk_at dksX0_isBest_9 3 rfl rfl)
theorem dX0_isBest_216 : decode cX0_isBest 216 = .ok (.istore 9, 2) := dk_54 9 (dk_at dksX0_isBest_9 4 rfl rfl)
theorem dX0_isBest_218 : decode cX0_isBest 218 = .ok (.iconst 0, 1) := dk_3 (dk_at dksX0_isBest_9 6 rfl rfl)
theorem dX0_isBest_219 : decode cX0_isBest 219 = .ok (.istore 10, 2) := dk_54 10 (dk_at dksX0_isBest_9 7 rfl rfl)
theorem dX0_isBest_221 : decode cX0_isBest 221 = .ok (.iload 10, 2) := dk_21 10 (dk_at dksX0_isBest_9 9 rfl rfl)
theorem dX0_isBest_223 : decode cX0_isBest 223 = .ok (.aload_n 1, 1) := dk_43 (dk_at dksX0_isBest_9 11 rfl rfl)
theorem dX0_isBest_224 : decode cX0_isBest 224 = .ok (.getfield 60, 3) := dk_180 0 60 (dk_at dksX0_isBest_9 12 rfl rfl)
theorem dX0_isBest_227 : decode cX0_isBest 227 = .ok (.if_icmp .ge 49, 3) := dk_162 0 49 (dk_at dksX0_isBest_9 15 rfl rfl)
theorem dX0_isBest_230 : decode cX0_isBest 230 = .ok (.iload 9, 2) := dk_21 9 (dk_at dksX0_isBest_9 18 rfl rfl)
theorem dX0_isBest_232 : decode cX0_isBest 232 = .ok (.iload 4, 2) := dk_21 4 (dk_at dksX0_isBest_9 20 rfl rfl)
theorem dX0_isBest_234 : decode cX0_isBest 234 = .ok (.ifCond .lt 32, 3) := dk_155 0 32 (dk_at dksX0_isBest_10 0 rfl rfl)
theorem dX0_isBest_237 : decode cX0_isBest 237 = .ok (.aload_n 2, 1) := dk_44 (dk_at dksX0_isBest_10 3 rfl rfl)
theorem dX0_isBest_238 : decode cX0_isBest 238 = .ok (.getfield 120, 3) := dk_180 0 120 (dk_at dksX0_isBest_10 4 rfl rfl)
theorem dX0_isBest_241 : decode cX0_isBest 241 = .ok (.iload 10, 2) := dk_21 10 (dk_at dksX0_isBest_10 7 rfl rfl)
theorem dX0_isBest_243 : decode cX0_isBest 243 = .ok (.iaload, 1) := dk_46 (dk_at dksX0_isBest_10 9 rfl rfl)
theorem dX0_isBest_244 : decode cX0_isBest 244 = .ok (.iload_n 3, 1) := dk_29 (dk_at dksX0_isBest_10 10 rfl rfl)
theorem dX0_isBest_245 : decode cX0_isBest 245 = .ok (.if_icmp .ne 21, 3) := dk_160 0 21 (dk_at dksX0_isBest_10 11 rfl rfl)
theorem dX0_isBest_248 : decode cX0_isBest 248 = .ok (.aload_n 0, 1) := dk_42 (dk_at dksX0_isBest_10 14 rfl rfl)
theorem dX0_isBest_249 : decode cX0_isBest 249 = .ok (.iload 10, 2) := dk_21 10 (dk_at dksX0_isBest_10 15 rfl rfl)
theorem dX0_isBest_251 : decode cX0_isBest 251 = .ok (.iload 4, 2) := dk_21 4 (dk_at dksX0_isBest_10 17 rfl rfl)
theorem dX0_isBest_253 : decode cX0_isBest 253 = .ok (.aload_n 2, 1) := dk_44 (dk_at dksX0_isBest_10 19 rfl rfl)
theorem dX0_isBest_254 : decode cX0_isBest 254 = .ok (.getfield 122, 3) := dk_180 0 122 (dk_at dksX0_isBest_10 20 rfl rfl)
theorem dX0_isBest_257 : decode cX0_isBest 257 = .ok (.iload 10, 2) := dk_21 10 (dk_at dksX0_isBest_11 0 rfl rfl)
theorem dX0_isBest_259 : decode cX0_isBest 259 = .ok (.iaload, 1) := dk_46 (dk_at dksX0_isBest_11 2 rfl rfl)
theorem dX0_isBest_260 : decode cX0_isBest 260 = .ok (.invokevirtual 97, 3) := dk_182 0 97 (dk_at dksX0_isBest_11 3 rfl rfl)
theorem dX0_isBest_263 : decode cX0_isBest 263 = .ok (.goto 4, 3) := dk_167 0 4 (dk_at dksX0_isBest_11 6 rfl rfl)
theorem dX0_isBest_266 : decode cX0_isBest 266 = .ok (.iconst 0, 1) := dk_3 (dk_at dksX0_isBest_11 9 rfl rfl)
theorem dX0_isBest_267 : decode cX0_isBest 267 = .ok (.iadd, 1) := dk_96 (dk_at dksX0_isBest_11 10 rfl rfl)
theorem dX0_isBest_268 : decode cX0_isBest 268 = .ok (.istore 9, 2) := dk_54 9 (dk_at dksX0_isBest_11 11 rfl rfl)
theorem dX0_isBest_270 : decode cX0_isBest 270 = .ok (.iinc 10 1, 3) := dk_132 10 1 (dk_at dksX0_isBest_11 13 rfl rfl)
theorem dX0_isBest_273 : decode cX0_isBest 273 = .ok (.goto (-52), 3) := dk_167 255 204 (dk_at dksX0_isBest_11 16 rfl rfl)
theorem dX0_isBest_276 : decode cX0_isBest 276 = .ok (.iload 6, 2) := dk_21 6 (dk_at dksX0_isBest_11 19 rfl rfl)
theorem dX0_isBest_278 : decode cX0_isBest 278 = .ok (.invokestatic 144, 3) := dk_184 0 144 (dk_at dksX0_isBest_11 21 rfl rfl)
theorem dX0_isBest_281 : decode cX0_isBest 281 = .ok (.aload_n 2, 1) := dk_44 (dk_at dksX0_isBest_12 0 rfl rfl)
theorem dX0_isBest_282 : decode cX0_isBest 282 = .ok (.getfield 115, 3) := dk_180 0 115 (dk_at dksX0_isBest_12 1 rfl rfl)
theorem dX0_isBest_285 : decode cX0_isBest 285 = .ok (.iload_n 3, 1) := dk_29 (dk_at dksX0_isBest_12 4 rfl rfl)
theorem dX0_isBest_286 : decode cX0_isBest 286 = .ok (.iaload, 1) := dk_46 (dk_at dksX0_isBest_12 5 rfl rfl)
theorem dX0_isBest_287 : decode cX0_isBest 287 = .ok (.if_icmp .ne 42, 3) := dk_160 0 42 (dk_at dksX0_isBest_12 6 rfl rfl)
theorem dX0_isBest_290 : decode cX0_isBest 290 = .ok (.aload_n 0, 1) := dk_42 (dk_at dksX0_isBest_12 9 rfl rfl)
theorem dX0_isBest_291 : decode cX0_isBest 291 = .ok (.iload_n 3, 1) := dk_29 (dk_at dksX0_isBest_12 10 rfl rfl)
theorem dX0_isBest_292 : decode cX0_isBest 292 = .ok (.iconst 1, 1) := dk_4 (dk_at dksX0_isBest_12 11 rfl rfl)
theorem dX0_isBest_293 : decode cX0_isBest 293 = .ok (.invokevirtual 141, 3) := dk_182 0 141 (dk_at dksX0_isBest_12 12 rfl rfl)
theorem dX0_isBest_296 : decode cX0_isBest 296 = .ok (.iload 7, 2) := dk_21 7 (dk_at dksX0_isBest_12 15 rfl rfl)
theorem dX0_isBest_298 : decode cX0_isBest 298 = .ok (.if_icmp .ne 31, 3) := dk_160 0 31 (dk_at dksX0_isBest_12 17 rfl rfl)
theorem dX0_isBest_301 : decode cX0_isBest 301 = .ok (.iload 7, 2) := dk_21 7 (dk_at dksX0_isBest_12 20 rfl rfl)
theorem dX0_isBest_303 : decode cX0_isBest 303 = .ok (.iload 9, 2) := dk_21 9 (dk_at dksX0_isBest_12 22 rfl rfl)
theorem dX0_isBest_305 : decode cX0_isBest 305 = .ok (.if_icmp .lt 24, 3) := dk_161 0 24 (dk_at dksX0_isBest_13 0 rfl rfl)
theorem dX0_isBest_308 : decode cX0_isBest 308 = .ok (.aload_n 0, 1) := dk_42 (dk_at dksX0_isBest_13 3 rfl rfl)
theorem dX0_isBest_309 : decode cX0_isBest 309 = .ok (.iload_n 3, 1) := dk_29 (dk_at dksX0_isBest_13 4 rfl rfl)
theorem dX0_isBest_310 : decode cX0_isBest 310 = .ok (.iconst 2, 1) := dk_5 (dk_at dksX0_isBest_13 5 rfl rfl)
theorem dX0_isBest_311 : decode cX0_isBest 311 = .ok (.aload_n 1, 1) := dk_43 (dk_at dksX0_isBest_13 6 rfl rfl)
theorem dX0_isBest_312 : decode cX0_isBest 312 = .ok (.getfield 69, 3) := dk_180 0 69 (dk_at dksX0_isBest_13 7 rfl rfl)
theorem dX0_isBest_315 : decode cX0_isBest 315 = .ok (.iload_n 3, 1) := dk_29 (dk_at dksX0_isBest_13 10 rfl rfl)
theorem dX0_isBest_316 : decode cX0_isBest 316 = .ok (.iaload, 1) := dk_46 (dk_at dksX0_isBest_13 11 rfl rfl)
theorem dX0_isBest_317 : decode cX0_isBest 317 = .ok (.iadd, 1) := dk_96 (dk_at dksX0_isBest_13 12 rfl rfl)
theorem dX0_isBest_318 : decode cX0_isBest 318 = .ok (.invokevirtual 141, 3) := dk_182 0 141 (dk_at dksX0_isBest_13 13 rfl rfl)
theorem dX0_isBest_321 : decode cX0_isBest 321 = .ok (.iconst (-1), 1) := dk_2 (dk_at dksX0_isBest_13 16 rfl rfl)
theorem dX0_isBest_322 : decode cX0_isBest 322 = .ok (.if_icmp .ne 7, 3) := dk_160 0 7 (dk_at dksX0_isBest_13 17 rfl rfl)
theorem dX0_isBest_325 : decode cX0_isBest 325 = .ok (.iconst 1, 1) := dk_4 (dk_at dksX0_isBest_13 20 rfl rfl)
theorem dX0_isBest_326 : decode cX0_isBest 326 = .ok (.goto 4, 3) := dk_167 0 4 (dk_at dksX0_isBest_13 21 rfl rfl)
theorem dX0_isBest_329 : decode cX0_isBest 329 = .ok (.iconst 0, 1) := dk_3 (dk_at dksX0_isBest_14 0 rfl rfl)
theorem dX0_isBest_330 : decode cX0_isBest 330 = .ok (.ireturn, 1) := dk_172 (dk_at dksX0_isBest_14 1 rfl rfl)
abbrev cX0_areOdds : ByteArray := method_15_code
def yX0_areOdds : MethodName := ⟨RX0, "areOdds", "(LKilnBench;LKilnBenchLaw$All;LKilnBenchLaw$Ahead;I)Z"⟩
def dkwX0_areOdds_4 : List UInt8 := [180, 0, 160, 21, 4, 46, 154, 0, 8, 21, 5, 167, 0, 4, 3, 160, 0, 7, 4, 167, 0, 4, 3, 172]
abbrev dktX0_areOdds_4 : List UInt8 := dkwX0_areOdds_4 ++ []
def dkwX0_areOdds_3 : List UInt8 := [29, 50, 5, 46, 96, 44, 180, 0, 157, 29, 50, 6, 46, 96, 104, 96, 54, 5, 42, 29, 182, 0, 151, 44]
abbrev dktX0_areOdds_3 : List UInt8 := dkwX0_areOdds_3 ++ dktX0_areOdds_4
def dkwX0_areOdds_2 : List UInt8 := [180, 0, 157, 29, 50, 3, 46, 104, 43, 180, 0, 154, 44, 180, 0, 157, 29, 50, 4, 46, 44, 180, 0, 157]
abbrev dktX0_areOdds_2 : List UInt8 := dkwX0_areOdds_2 ++ dktX0_areOdds_3
def dkwX0_areOdds_1 : List UInt8 := [29, 182, 0, 151, 2, 160, 0, 7, 4, 167, 0, 4, 3, 172, 6, 16, 100, 43, 180, 0, 154, 100, 104, 44]
abbrev dktX0_areOdds_1 : List UInt8 := dkwX0_areOdds_1 ++ dktX0_areOdds_2
def dkwX0_areOdds_0 : List UInt8 := [44, 180, 0, 120, 29, 46, 54, 4, 21, 4, 155, 0, 13, 44, 180, 0, 149, 21, 4, 46, 156, 0, 18, 42]
abbrev dktX0_areOdds_0 : List UInt8 := dkwX0_areOdds_0 ++ dktX0_areOdds_1
theorem dksX0_areOdds_0 : cX0_areOdds.data.toList.drop 0 = dktX0_areOdds_0 := by decide +kernel
theorem dksX0_areOdds_1 : cX0_areOdds.data.toList.drop 24 = dktX0_areOdds_1 := dk_seg dksX0_areOdds_0 24 rfl rfl
theorem dksX0_areOdds_2 : cX0_areOdds.data.toList.drop 48 = dktX0_areOdds_2 := dk_seg dksX0_areOdds_1 24 rfl rfl
theorem dksX0_areOdds_3 : cX0_areOdds.data.toList.drop 72 = dktX0_areOdds_3 := dk_seg dksX0_areOdds_2 24 rfl rfl
theorem dksX0_areOdds_4 : cX0_areOdds.data.toList.drop 96 = dktX0_areOdds_4 := dk_seg dksX0_areOdds_3 24 rfl rfl
theorem dX0_areOdds_0 : decode cX0_areOdds 0 = .ok (.aload_n 2, 1) := dk_44 (dk_at dksX0_areOdds_0 0 rfl rfl)
theorem dX0_areOdds_1 : decode cX0_areOdds 1 = .ok (.getfield 120, 3) := dk_180 0 120 (dk_at dksX0_areOdds_0 1 rfl rfl)
theorem dX0_areOdds_4 : decode cX0_areOdds 4 = .ok (.iload_n 3, 1) := dk_29 (dk_at dksX0_areOdds_0 4 rfl rfl)
theorem dX0_areOdds_5 : decode cX0_areOdds 5 = .ok (.iaload, 1) := dk_46 (dk_at dksX0_areOdds_0 5 rfl rfl)
theorem dX0_areOdds_6 : decode cX0_areOdds 6 = .ok (.istore 4, 2) := dk_54 4 (dk_at dksX0_areOdds_0 6 rfl rfl)
theorem dX0_areOdds_8 : decode cX0_areOdds 8 = .ok (.iload 4, 2) := dk_21 4 (dk_at dksX0_areOdds_0 8 rfl rfl)
theorem dX0_areOdds_10 : decode cX0_areOdds 10 = .ok (.ifCond .lt 13, 3) := dk_155 0 13 (dk_at dksX0_areOdds_0 10 rfl rfl)
theorem dX0_areOdds_13 : decode cX0_areOdds 13 = .ok (.aload_n 2, 1) := dk_44 (dk_at dksX0_areOdds_0 13 rfl rfl)
theorem dX0_areOdds_14 : decode cX0_areOdds 14 = .ok (.getfield 149, 3) := dk_180 0 149 (dk_at dksX0_areOdds_0 14 rfl rfl)
theorem dX0_areOdds_17 : decode cX0_areOdds 17 = .ok (.iload 4, 2) := dk_21 4 (dk_at dksX0_areOdds_0 17 rfl rfl)
theorem dX0_areOdds_19 : decode cX0_areOdds 19 = .ok (.iaload, 1) := dk_46 (dk_at dksX0_areOdds_0 19 rfl rfl)
theorem dX0_areOdds_20 : decode cX0_areOdds 20 = .ok (.ifCond .ge 18, 3) := dk_156 0 18 (dk_at dksX0_areOdds_0 20 rfl rfl)
theorem dX0_areOdds_23 : decode cX0_areOdds 23 = .ok (.aload_n 0, 1) := dk_42 (dk_at dksX0_areOdds_0 23 rfl rfl)
theorem dX0_areOdds_24 : decode cX0_areOdds 24 = .ok (.iload_n 3, 1) := dk_29 (dk_at dksX0_areOdds_1 0 rfl rfl)
theorem dX0_areOdds_25 : decode cX0_areOdds 25 = .ok (.invokevirtual 151, 3) := dk_182 0 151 (dk_at dksX0_areOdds_1 1 rfl rfl)
theorem dX0_areOdds_28 : decode cX0_areOdds 28 = .ok (.iconst (-1), 1) := dk_2 (dk_at dksX0_areOdds_1 4 rfl rfl)
theorem dX0_areOdds_29 : decode cX0_areOdds 29 = .ok (.if_icmp .ne 7, 3) := dk_160 0 7 (dk_at dksX0_areOdds_1 5 rfl rfl)
theorem dX0_areOdds_32 : decode cX0_areOdds 32 = .ok (.iconst 1, 1) := dk_4 (dk_at dksX0_areOdds_1 8 rfl rfl)
theorem dX0_areOdds_33 : decode cX0_areOdds 33 = .ok (.goto 4, 3) := dk_167 0 4 (dk_at dksX0_areOdds_1 9 rfl rfl)
theorem dX0_areOdds_36 : decode cX0_areOdds 36 = .ok (.iconst 0, 1) := dk_3 (dk_at dksX0_areOdds_1 12 rfl rfl)
theorem dX0_areOdds_37 : decode cX0_areOdds 37 = .ok (.ireturn, 1) := dk_172 (dk_at dksX0_areOdds_1 13 rfl rfl)
theorem dX0_areOdds_38 : decode cX0_areOdds 38 = .ok (.iconst 3, 1) := dk_6 (dk_at dksX0_areOdds_1 14 rfl rfl)
theorem dX0_areOdds_39 : decode cX0_areOdds 39 = .ok (.bipush 100, 2) := dk_16 100 (dk_at dksX0_areOdds_1 15 rfl rfl)
theorem dX0_areOdds_41 : decode cX0_areOdds 41 = .ok (.aload_n 1, 1) := dk_43 (dk_at dksX0_areOdds_1 17 rfl rfl)
theorem dX0_areOdds_42 : decode cX0_areOdds 42 = .ok (.getfield 154, 3) := dk_180 0 154 (dk_at dksX0_areOdds_1 18 rfl rfl)
theorem dX0_areOdds_45 : decode cX0_areOdds 45 = .ok (.isub, 1) := dk_100 (dk_at dksX0_areOdds_1 21 rfl rfl)
theorem dX0_areOdds_46 : decode cX0_areOdds 46 = .ok (.imul, 1) := dk_104 (dk_at dksX0_areOdds_1 22 rfl rfl)
theorem dX0_areOdds_47 : decode cX0_areOdds 47 = .ok (.aload_n 2, 1) := dk_44 (dk_at dksX0_areOdds_1 23 rfl rfl)
theorem dX0_areOdds_48 : decode cX0_areOdds 48 = .ok (.getfield 157, 3) := dk_180 0 157 (dk_at dksX0_areOdds_2 0 rfl rfl)
theorem dX0_areOdds_51 : decode cX0_areOdds 51 = .ok (.iload_n 3, 1) := dk_29 (dk_at dksX0_areOdds_2 3 rfl rfl)
theorem dX0_areOdds_52 : decode cX0_areOdds 52 = .ok (.aaload, 1) := dk_50 (dk_at dksX0_areOdds_2 4 rfl rfl)
theorem dX0_areOdds_53 : decode cX0_areOdds 53 = .ok (.iconst 0, 1) := dk_3 (dk_at dksX0_areOdds_2 5 rfl rfl)
theorem dX0_areOdds_54 : decode cX0_areOdds 54 = .ok (.iaload, 1) := dk_46 (dk_at dksX0_areOdds_2 6 rfl rfl)
theorem dX0_areOdds_55 : decode cX0_areOdds 55 = .ok (.imul, 1) := dk_104 (dk_at dksX0_areOdds_2 7 rfl rfl)
theorem dX0_areOdds_56 : decode cX0_areOdds 56 = .ok (.aload_n 1, 1) := dk_43 (dk_at dksX0_areOdds_2 8 rfl rfl)
theorem dX0_areOdds_57 : decode cX0_areOdds 57 = .ok (.getfield 154, 3) := dk_180 0 154 (dk_at dksX0_areOdds_2 9 rfl rfl)
theorem dX0_areOdds_60 : decode cX0_areOdds 60 = .ok (.aload_n 2, 1) := dk_44 (dk_at dksX0_areOdds_2 12 rfl rfl)
theorem dX0_areOdds_61 : decode cX0_areOdds 61 = .ok (.getfield 157, 3) := dk_180 0 157 (dk_at dksX0_areOdds_2 13 rfl rfl)
theorem dX0_areOdds_64 : decode cX0_areOdds 64 = .ok (.iload_n 3, 1) := dk_29 (dk_at dksX0_areOdds_2 16 rfl rfl)
theorem dX0_areOdds_65 : decode cX0_areOdds 65 = .ok (.aaload, 1) := dk_50 (dk_at dksX0_areOdds_2 17 rfl rfl)
theorem dX0_areOdds_66 : decode cX0_areOdds 66 = .ok (.iconst 1, 1) := dk_4 (dk_at dksX0_areOdds_2 18 rfl rfl)
theorem dX0_areOdds_67 : decode cX0_areOdds 67 = .ok (.iaload, 1) := dk_46 (dk_at dksX0_areOdds_2 19 rfl rfl)
theorem dX0_areOdds_68 : decode cX0_areOdds 68 = .ok (.aload_n 2, 1) := dk_44 (dk_at dksX0_areOdds_2 20 rfl rfl)
theorem dX0_areOdds_69 : decode cX0_areOdds 69 = .ok (.getfield 157, 3) := dk_180 0 157 (dk_at dksX0_areOdds_2 21 rfl rfl)
theorem dX0_areOdds_72 : decode cX0_areOdds 72 = .ok (.iload_n 3, 1) := dk_29 (dk_at dksX0_areOdds_3 0 rfl rfl)
theorem dX0_areOdds_73 : decode cX0_areOdds 73 = .ok (.aaload, 1) := dk_50 (dk_at dksX0_areOdds_3 1 rfl rfl)
theorem dX0_areOdds_74 : decode cX0_areOdds 74 = .ok (.iconst 2, 1) := dk_5 (dk_at dksX0_areOdds_3 2 rfl rfl)
theorem dX0_areOdds_75 : decode cX0_areOdds 75 = .ok (.iaload, 1) := dk_46 (dk_at dksX0_areOdds_3 3 rfl rfl)
theorem dX0_areOdds_76 : decode cX0_areOdds 76 = .ok (.iadd, 1) := dk_96 (dk_at dksX0_areOdds_3 4 rfl rfl)
theorem dX0_areOdds_77 : decode cX0_areOdds 77 = .ok (.aload_n 2, 1) := dk_44 (dk_at dksX0_areOdds_3 5 rfl rfl)
theorem dX0_areOdds_78 : decode cX0_areOdds 78 = .ok (.getfield 157, 3) := dk_180 0 157 (dk_at dksX0_areOdds_3 6 rfl rfl)
theorem dX0_areOdds_81 : decode cX0_areOdds 81 = .ok (.iload_n 3, 1) := dk_29 (dk_at dksX0_areOdds_3 9 rfl rfl)
theorem dX0_areOdds_82 : decode cX0_areOdds 82 = .ok (.aaload, 1) := dk_50 (dk_at dksX0_areOdds_3 10 rfl rfl)
theorem dX0_areOdds_83 : decode cX0_areOdds 83 = .ok (.iconst 3, 1) := dk_6 (dk_at dksX0_areOdds_3 11 rfl rfl)
theorem dX0_areOdds_84 : decode cX0_areOdds 84 = .ok (.iaload, 1) := dk_46 (dk_at dksX0_areOdds_3 12 rfl rfl)
theorem dX0_areOdds_85 : decode cX0_areOdds 85 = .ok (.iadd, 1) := dk_96 (dk_at dksX0_areOdds_3 13 rfl rfl)
theorem dX0_areOdds_86 : decode cX0_areOdds 86 = .ok (.imul, 1) := dk_104 (dk_at dksX0_areOdds_3 14 rfl rfl)
theorem dX0_areOdds_87 : decode cX0_areOdds 87 = .ok (.iadd, 1) := dk_96 (dk_at dksX0_areOdds_3 15 rfl rfl)
theorem dX0_areOdds_88 : decode cX0_areOdds 88 = .ok (.istore 5, 2) := dk_54 5 (dk_at dksX0_areOdds_3 16 rfl rfl)
theorem dX0_areOdds_90 : decode cX0_areOdds 90 = .ok (.aload_n 0, 1) := dk_42 (dk_at dksX0_areOdds_3 18 rfl rfl)
theorem dX0_areOdds_91 : decode cX0_areOdds 91 = .ok (.iload_n 3, 1) := dk_29 (dk_at dksX0_areOdds_3 19 rfl rfl)
theorem dX0_areOdds_92 : decode cX0_areOdds 92 = .ok (.invokevirtual 151, 3) := dk_182 0 151 (dk_at dksX0_areOdds_3 20 rfl rfl)
theorem dX0_areOdds_95 : decode cX0_areOdds 95 = .ok (.aload_n 2, 1) := dk_44 (dk_at dksX0_areOdds_3 23 rfl rfl)
theorem dX0_areOdds_96 : decode cX0_areOdds 96 = .ok (.getfield 160, 3) := dk_180 0 160 (dk_at dksX0_areOdds_4 0 rfl rfl)
theorem dX0_areOdds_99 : decode cX0_areOdds 99 = .ok (.iload 4, 2) := dk_21 4 (dk_at dksX0_areOdds_4 3 rfl rfl)
theorem dX0_areOdds_101 : decode cX0_areOdds 101 = .ok (.iaload, 1) := dk_46 (dk_at dksX0_areOdds_4 5 rfl rfl)
theorem dX0_areOdds_102 : decode cX0_areOdds 102 = .ok (.ifCond .ne 8, 3) := dk_154 0 8 (dk_at dksX0_areOdds_4 6 rfl rfl)
theorem dX0_areOdds_105 : decode cX0_areOdds 105 = .ok (.iload 5, 2) := dk_21 5 (dk_at dksX0_areOdds_4 9 rfl rfl)
theorem dX0_areOdds_107 : decode cX0_areOdds 107 = .ok (.goto 4, 3) := dk_167 0 4 (dk_at dksX0_areOdds_4 11 rfl rfl)
theorem dX0_areOdds_110 : decode cX0_areOdds 110 = .ok (.iconst 0, 1) := dk_3 (dk_at dksX0_areOdds_4 14 rfl rfl)
theorem dX0_areOdds_111 : decode cX0_areOdds 111 = .ok (.if_icmp .ne 7, 3) := dk_160 0 7 (dk_at dksX0_areOdds_4 15 rfl rfl)
theorem dX0_areOdds_114 : decode cX0_areOdds 114 = .ok (.iconst 1, 1) := dk_4 (dk_at dksX0_areOdds_4 18 rfl rfl)
theorem dX0_areOdds_115 : decode cX0_areOdds 115 = .ok (.goto 4, 3) := dk_167 0 4 (dk_at dksX0_areOdds_4 19 rfl rfl)
theorem dX0_areOdds_118 : decode cX0_areOdds 118 = .ok (.iconst 0, 1) := dk_3 (dk_at dksX0_areOdds_4 22 rfl rfl)
theorem dX0_areOdds_119 : decode cX0_areOdds 119 = .ok (.ireturn, 1) := dk_172 (dk_at dksX0_areOdds_4 23 rfl rfl)
abbrev cX0_oneWeek : ByteArray := method_23_code
def yX0_oneWeek : MethodName := ⟨RX0, "oneWeek", "(LKilnBench;LKilnBenchLaw$All;LKilnBenchLaw$Ahead;)Z"⟩
def dkwX0_oneWeek_3 : List UInt8 := [184, 0, 240, 153, 0, 7, 4, 167, 0, 4, 3, 172]
abbrev dktX0_oneWeek_3 : List UInt8 := dkwX0_oneWeek_3 ++ []
def dkwX0_oneWeek_2 : List UInt8 := [43, 2, 2, 182, 0, 191, 153, 0, 26, 42, 4, 182, 0, 237, 29, 160, 0, 17, 42, 43, 44, 3]
abbrev dktX0_oneWeek_2 : List UInt8 := dkwX0_oneWeek_2 ++ dktX0_oneWeek_3
def dkwX0_oneWeek_1 : List UInt8 := [160, 0, 13, 42, 43, 44, 3, 184, 0, 240, 154, 0, 5, 3, 172, 42, 182, 0, 244, 153, 0, 37, 44, 42]
abbrev dktX0_oneWeek_1 : List UInt8 := dkwX0_oneWeek_1 ++ dktX0_oneWeek_2
def dkwX0_oneWeek_0 : List UInt8 := [42, 4, 182, 0, 237, 62, 29, 155, 0, 28, 29, 42, 16, 8, 182, 0, 73, 44, 180, 0, 199, 100]
abbrev dktX0_oneWeek_0 : List UInt8 := dkwX0_oneWeek_0 ++ dktX0_oneWeek_1
theorem dksX0_oneWeek_0 : cX0_oneWeek.data.toList.drop 0 = dktX0_oneWeek_0 := by decide +kernel
theorem dksX0_oneWeek_1 : cX0_oneWeek.data.toList.drop 22 = dktX0_oneWeek_1 := dk_seg dksX0_oneWeek_0 22 rfl rfl
theorem dksX0_oneWeek_2 : cX0_oneWeek.data.toList.drop 46 = dktX0_oneWeek_2 := dk_seg dksX0_oneWeek_1 24 rfl rfl
theorem dksX0_oneWeek_3 : cX0_oneWeek.data.toList.drop 68 = dktX0_oneWeek_3 := dk_seg dksX0_oneWeek_2 22 rfl rfl
theorem dX0_oneWeek_0 : decode cX0_oneWeek 0 = .ok (.aload_n 0, 1) := dk_42 (dk_at dksX0_oneWeek_0 0 rfl rfl)
theorem dX0_oneWeek_1 : decode cX0_oneWeek 1 = .ok (.iconst 1, 1) := dk_4 (dk_at dksX0_oneWeek_0 1 rfl rfl)
theorem dX0_oneWeek_2 : decode cX0_oneWeek 2 = .ok (.invokevirtual 237, 3) := dk_182 0 237 (dk_at dksX0_oneWeek_0 2 rfl rfl)
theorem dX0_oneWeek_5 : decode cX0_oneWeek 5 = .ok (.istore_n 3, 1) := dk_62 (dk_at dksX0_oneWeek_0 5 rfl rfl)
theorem dX0_oneWeek_6 : decode cX0_oneWeek 6 = .ok (.iload_n 3, 1) := dk_29 (dk_at dksX0_oneWeek_0 6 rfl rfl)
theorem dX0_oneWeek_7 : decode cX0_oneWeek 7 = .ok (.ifCond .lt 28, 3) := dk_155 0 28 (dk_at dksX0_oneWeek_0 7 rfl rfl)
theorem dX0_oneWeek_10 : decode cX0_oneWeek 10 = .ok (.iload_n 3, 1) := dk_29 (dk_at dksX0_oneWeek_0 10 rfl rfl)
theorem dX0_oneWeek_11 : decode cX0_oneWeek 11 = .ok (.aload_n 0, 1) := dk_42 (dk_at dksX0_oneWeek_0 11 rfl rfl)
theorem dX0_oneWeek_12 : decode cX0_oneWeek 12 = .ok (.bipush 8, 2) := dk_16 8 (dk_at dksX0_oneWeek_0 12 rfl rfl)
theorem dX0_oneWeek_14 : decode cX0_oneWeek 14 = .ok (.invokevirtual 73, 3) := dk_182 0 73 (dk_at dksX0_oneWeek_0 14 rfl rfl)
theorem dX0_oneWeek_17 : decode cX0_oneWeek 17 = .ok (.aload_n 2, 1) := dk_44 (dk_at dksX0_oneWeek_0 17 rfl rfl)
theorem dX0_oneWeek_18 : decode cX0_oneWeek 18 = .ok (.getfield 199, 3) := dk_180 0 199 (dk_at dksX0_oneWeek_0 18 rfl rfl)
theorem dX0_oneWeek_21 : decode cX0_oneWeek 21 = .ok (.isub, 1) := dk_100 (dk_at dksX0_oneWeek_0 21 rfl rfl)
theorem dX0_oneWeek_22 : decode cX0_oneWeek 22 = .ok (.if_icmp .ne 13, 3) := dk_160 0 13 (dk_at dksX0_oneWeek_1 0 rfl rfl)
theorem dX0_oneWeek_25 : decode cX0_oneWeek 25 = .ok (.aload_n 0, 1) := dk_42 (dk_at dksX0_oneWeek_1 3 rfl rfl)
theorem dX0_oneWeek_26 : decode cX0_oneWeek 26 = .ok (.aload_n 1, 1) := dk_43 (dk_at dksX0_oneWeek_1 4 rfl rfl)
theorem dX0_oneWeek_27 : decode cX0_oneWeek 27 = .ok (.aload_n 2, 1) := dk_44 (dk_at dksX0_oneWeek_1 5 rfl rfl)
theorem dX0_oneWeek_28 : decode cX0_oneWeek 28 = .ok (.iconst 0, 1) := dk_3 (dk_at dksX0_oneWeek_1 6 rfl rfl)
theorem dX0_oneWeek_29 : decode cX0_oneWeek 29 = .ok (.invokestatic 240, 3) := dk_184 0 240 (dk_at dksX0_oneWeek_1 7 rfl rfl)
theorem dX0_oneWeek_32 : decode cX0_oneWeek 32 = .ok (.ifCond .ne 5, 3) := dk_154 0 5 (dk_at dksX0_oneWeek_1 10 rfl rfl)
theorem dX0_oneWeek_35 : decode cX0_oneWeek 35 = .ok (.iconst 0, 1) := dk_3 (dk_at dksX0_oneWeek_1 13 rfl rfl)
theorem dX0_oneWeek_36 : decode cX0_oneWeek 36 = .ok (.ireturn, 1) := dk_172 (dk_at dksX0_oneWeek_1 14 rfl rfl)
theorem dX0_oneWeek_37 : decode cX0_oneWeek 37 = .ok (.aload_n 0, 1) := dk_42 (dk_at dksX0_oneWeek_1 15 rfl rfl)
theorem dX0_oneWeek_38 : decode cX0_oneWeek 38 = .ok (.invokevirtual 244, 3) := dk_182 0 244 (dk_at dksX0_oneWeek_1 16 rfl rfl)
theorem dX0_oneWeek_41 : decode cX0_oneWeek 41 = .ok (.ifCond .eq 37, 3) := dk_153 0 37 (dk_at dksX0_oneWeek_1 19 rfl rfl)
theorem dX0_oneWeek_44 : decode cX0_oneWeek 44 = .ok (.aload_n 2, 1) := dk_44 (dk_at dksX0_oneWeek_1 22 rfl rfl)
theorem dX0_oneWeek_45 : decode cX0_oneWeek 45 = .ok (.aload_n 0, 1) := dk_42 (dk_at dksX0_oneWeek_1 23 rfl rfl)
theorem dX0_oneWeek_46 : decode cX0_oneWeek 46 = .ok (.aload_n 1, 1) := dk_43 (dk_at dksX0_oneWeek_2 0 rfl rfl)
theorem dX0_oneWeek_47 : decode cX0_oneWeek 47 = .ok (.iconst (-1), 1) := dk_2 (dk_at dksX0_oneWeek_2 1 rfl rfl)
theorem dX0_oneWeek_48 : decode cX0_oneWeek 48 = .ok (.iconst (-1), 1) := dk_2 (dk_at dksX0_oneWeek_2 2 rfl rfl)
theorem dX0_oneWeek_49 : decode cX0_oneWeek 49 = .ok (.invokevirtual 191, 3) := dk_182 0 191 (dk_at dksX0_oneWeek_2 3 rfl rfl)
theorem dX0_oneWeek_52 : decode cX0_oneWeek 52 = .ok (.ifCond .eq 26, 3) := dk_153 0 26 (dk_at dksX0_oneWeek_2 6 rfl rfl)
theorem dX0_oneWeek_55 : decode cX0_oneWeek 55 = .ok (.aload_n 0, 1) := dk_42 (dk_at dksX0_oneWeek_2 9 rfl rfl)
theorem dX0_oneWeek_56 : decode cX0_oneWeek 56 = .ok (.iconst 1, 1) := dk_4 (dk_at dksX0_oneWeek_2 10 rfl rfl)
theorem dX0_oneWeek_57 : decode cX0_oneWeek 57 = .ok (.invokevirtual 237, 3) := dk_182 0 237 (dk_at dksX0_oneWeek_2 11 rfl rfl)
theorem dX0_oneWeek_60 : decode cX0_oneWeek 60 = .ok (.iload_n 3, 1) := dk_29 (dk_at dksX0_oneWeek_2 14 rfl rfl)
theorem dX0_oneWeek_61 : decode cX0_oneWeek 61 = .ok (.if_icmp .ne 17, 3) := dk_160 0 17 (dk_at dksX0_oneWeek_2 15 rfl rfl)
theorem dX0_oneWeek_64 : decode cX0_oneWeek 64 = .ok (.aload_n 0, 1) := dk_42 (dk_at dksX0_oneWeek_2 18 rfl rfl)
theorem dX0_oneWeek_65 : decode cX0_oneWeek 65 = .ok (.aload_n 1, 1) := dk_43 (dk_at dksX0_oneWeek_2 19 rfl rfl)
theorem dX0_oneWeek_66 : decode cX0_oneWeek 66 = .ok (.aload_n 2, 1) := dk_44 (dk_at dksX0_oneWeek_2 20 rfl rfl)
theorem dX0_oneWeek_67 : decode cX0_oneWeek 67 = .ok (.iconst 0, 1) := dk_3 (dk_at dksX0_oneWeek_2 21 rfl rfl)
theorem dX0_oneWeek_68 : decode cX0_oneWeek 68 = .ok (.invokestatic 240, 3) := dk_184 0 240 (dk_at dksX0_oneWeek_3 0 rfl rfl)
theorem dX0_oneWeek_71 : decode cX0_oneWeek 71 = .ok (.ifCond .eq 7, 3) := dk_153 0 7 (dk_at dksX0_oneWeek_3 3 rfl rfl)
theorem dX0_oneWeek_74 : decode cX0_oneWeek 74 = .ok (.iconst 1, 1) := dk_4 (dk_at dksX0_oneWeek_3 6 rfl rfl)
theorem dX0_oneWeek_75 : decode cX0_oneWeek 75 = .ok (.goto 4, 3) := dk_167 0 4 (dk_at dksX0_oneWeek_3 7 rfl rfl)
theorem dX0_oneWeek_78 : decode cX0_oneWeek 78 = .ok (.iconst 0, 1) := dk_3 (dk_at dksX0_oneWeek_3 10 rfl rfl)
theorem dX0_oneWeek_79 : decode cX0_oneWeek 79 = .ok (.ireturn, 1) := dk_172 (dk_at dksX0_oneWeek_3 11 rfl rfl)
abbrev cX0_passes : ByteArray := method_20_code
def yX0_passes : MethodName := ⟨RX0, "passes", "(LKilnBench;LKilnBenchLaw$All;LKilnBenchLaw$Ahead;I)Z"⟩
def dkwX0_passes_17 : List UInt8 := [160, 0, 7, 4, 167, 0, 4, 3, 172]
abbrev dktX0_passes_17 : List UInt8 := dkwX0_passes_17 ++ []
def dkwX0_passes_16 : List UInt8 := [160, 0, 30, 44, 180, 0, 225, 21, 4, 160, 0, 21, 42, 5, 182, 0, 73, 44, 180, 0, 207, 4, 96]
abbrev dktX0_passes_16 : List UInt8 := dkwX0_passes_16 ++ dktX0_passes_17
def dkwX0_passes_15 : List UInt8 := [182, 0, 73, 21, 5, 160, 0, 48, 44, 42, 182, 0, 221, 153, 0, 40, 42, 6, 182, 0, 73, 21, 4]
abbrev dktX0_passes_15 : List UInt8 := dkwX0_passes_15 ++ dktX0_passes_16
def dkwX0_passes_14 : List UInt8 := [21, 7, 46, 42, 21, 7, 8, 182, 0, 63, 159, 0, 5, 3, 172, 132, 7, 1, 167, 255, 188, 42, 16, 8]
abbrev dktX0_passes_14 : List UInt8 := dkwX0_passes_14 ++ dktX0_passes_15
def dkwX0_passes_13 : List UInt8 := [46, 51, 154, 0, 13, 44, 42, 21, 7, 182, 0, 214, 153, 0, 24, 29, 154, 0, 22, 44, 180, 0, 218]
abbrev dktX0_passes_13 : List UInt8 := dkwX0_passes_13 ++ dktX0_passes_14
def dkwX0_passes_12 : List UInt8 := [180, 0, 60, 162, 0, 65, 44, 180, 0, 120, 21, 7, 46, 155, 0, 16, 25, 6, 44, 180, 0, 120, 21, 7]
abbrev dktX0_passes_12 : List UInt8 := dkwX0_passes_12 ++ dktX0_passes_13
def dkwX0_passes_11 : List UInt8 := [182, 0, 80, 2, 159, 0, 5, 3, 172, 132, 5, 1, 132, 7, 1, 167, 255, 18, 3, 54, 7, 21, 7, 43]
abbrev dktX0_passes_11 : List UInt8 := dkwX0_passes_11 ++ dktX0_passes_12
def dkwX0_passes_10 : List UInt8 := [182, 0, 204, 184, 0, 210, 153, 0, 24, 42, 21, 7, 4, 182, 0, 80, 154, 0, 14, 42, 21, 7, 5]
abbrev dktX0_passes_10 : List UInt8 := dkwX0_passes_10 ++ dktX0_passes_11
def dkwX0_passes_9 : List UInt8 := [182, 0, 204, 21, 8, 159, 0, 5, 3, 172, 42, 43, 44, 21, 7, 29, 21, 8, 42, 21, 5, 6]
abbrev dktX0_passes_9 : List UInt8 := dkwX0_passes_9 ++ dktX0_passes_10
def dkwX0_passes_8 : List UInt8 := [180, 0, 207, 160, 0, 27, 42, 21, 5, 4, 182, 0, 204, 21, 7, 160, 0, 15, 42, 21, 5, 5]
abbrev dktX0_passes_8 : List UInt8 := dkwX0_passes_8 ++ dktX0_passes_9
def dkwX0_passes_7 : List UInt8 := [16, 20, 44, 180, 0, 149, 21, 7, 46, 29, 96, 184, 0, 48, 54, 8, 42, 21, 5, 3, 182, 0, 204, 44]
abbrev dktX0_passes_7 : List UInt8 := dkwX0_passes_7 ++ dktX0_passes_8
def dkwX0_passes_6 : List UInt8 := [180, 0, 149, 21, 7, 46, 159, 0, 120, 3, 172, 21, 4, 44, 180, 0, 202, 21, 7, 46, 100, 54, 4]
abbrev dktX0_passes_6 : List UInt8 := dkwX0_passes_6 ++ dktX0_passes_7
def dkwX0_passes_5 : List UInt8 := [21, 7, 4, 182, 0, 80, 44, 180, 0, 115, 21, 7, 46, 160, 0, 20, 42, 21, 7, 5, 182, 0, 80, 44]
abbrev dktX0_passes_5 : List UInt8 := dkwX0_passes_5 ++ dktX0_passes_6
def dkwX0_passes_4 : List UInt8 := [167, 0, 4, 3, 25, 6, 21, 7, 51, 159, 0, 5, 3, 172, 25, 6, 21, 7, 51, 154, 0, 39, 42]
abbrev dktX0_passes_4 : List UInt8 := dkwX0_passes_4 ++ dktX0_passes_5
def dkwX0_passes_3 : List UInt8 := [21, 4, 163, 0, 7, 4, 167, 0, 4, 3, 84, 44, 180, 0, 160, 21, 7, 46, 154, 0, 7, 4]
abbrev dktX0_passes_3 : List UInt8 := dkwX0_passes_3 ++ dktX0_passes_4
def dkwX0_passes_2 : List UInt8 := [21, 7, 46, 155, 0, 29, 44, 180, 0, 115, 21, 7, 46, 158, 0, 19, 44, 180, 0, 202, 21, 7, 46]
abbrev dktX0_passes_2 : List UInt8 := dkwX0_passes_2 ++ dktX0_passes_3
def dkwX0_passes_1 : List UInt8 := [188, 4, 58, 6, 3, 54, 7, 21, 7, 43, 180, 0, 54, 162, 0, 235, 25, 6, 21, 7, 44, 180, 0, 149]
abbrev dktX0_passes_1 : List UInt8 := dkwX0_passes_1 ++ dktX0_passes_2
def dkwX0_passes_0 : List UInt8 := [17, 39, 15, 44, 180, 0, 195, 43, 180, 0, 196, 96, 184, 0, 48, 54, 4, 44, 180, 0, 199, 54, 5, 6]
abbrev dktX0_passes_0 : List UInt8 := dkwX0_passes_0 ++ dktX0_passes_1
theorem dksX0_passes_0 : cX0_passes.data.toList.drop 0 = dktX0_passes_0 := by decide +kernel
theorem dksX0_passes_1 : cX0_passes.data.toList.drop 24 = dktX0_passes_1 := dk_seg dksX0_passes_0 24 rfl rfl
theorem dksX0_passes_2 : cX0_passes.data.toList.drop 48 = dktX0_passes_2 := dk_seg dksX0_passes_1 24 rfl rfl
theorem dksX0_passes_3 : cX0_passes.data.toList.drop 71 = dktX0_passes_3 := dk_seg dksX0_passes_2 23 rfl rfl
theorem dksX0_passes_4 : cX0_passes.data.toList.drop 93 = dktX0_passes_4 := dk_seg dksX0_passes_3 22 rfl rfl
theorem dksX0_passes_5 : cX0_passes.data.toList.drop 116 = dktX0_passes_5 := dk_seg dksX0_passes_4 23 rfl rfl
theorem dksX0_passes_6 : cX0_passes.data.toList.drop 140 = dktX0_passes_6 := dk_seg dksX0_passes_5 24 rfl rfl
theorem dksX0_passes_7 : cX0_passes.data.toList.drop 163 = dktX0_passes_7 := dk_seg dksX0_passes_6 23 rfl rfl
theorem dksX0_passes_8 : cX0_passes.data.toList.drop 187 = dktX0_passes_8 := dk_seg dksX0_passes_7 24 rfl rfl
theorem dksX0_passes_9 : cX0_passes.data.toList.drop 209 = dktX0_passes_9 := dk_seg dksX0_passes_8 22 rfl rfl
theorem dksX0_passes_10 : cX0_passes.data.toList.drop 231 = dktX0_passes_10 := dk_seg dksX0_passes_9 22 rfl rfl
theorem dksX0_passes_11 : cX0_passes.data.toList.drop 254 = dktX0_passes_11 := dk_seg dksX0_passes_10 23 rfl rfl
theorem dksX0_passes_12 : cX0_passes.data.toList.drop 278 = dktX0_passes_12 := dk_seg dksX0_passes_11 24 rfl rfl
theorem dksX0_passes_13 : cX0_passes.data.toList.drop 302 = dktX0_passes_13 := dk_seg dksX0_passes_12 24 rfl rfl
theorem dksX0_passes_14 : cX0_passes.data.toList.drop 325 = dktX0_passes_14 := dk_seg dksX0_passes_13 23 rfl rfl
theorem dksX0_passes_15 : cX0_passes.data.toList.drop 349 = dktX0_passes_15 := dk_seg dksX0_passes_14 24 rfl rfl
theorem dksX0_passes_16 : cX0_passes.data.toList.drop 372 = dktX0_passes_16 := dk_seg dksX0_passes_15 23 rfl rfl
theorem dksX0_passes_17 : cX0_passes.data.toList.drop 395 = dktX0_passes_17 := dk_seg dksX0_passes_16 23 rfl rfl
theorem dX0_passes_0 : decode cX0_passes 0 = .ok (.sipush 9999, 3) := dk_17 39 15 (dk_at dksX0_passes_0 0 rfl rfl)
theorem dX0_passes_3 : decode cX0_passes 3 = .ok (.aload_n 2, 1) := dk_44 (dk_at dksX0_passes_0 3 rfl rfl)
theorem dX0_passes_4 : decode cX0_passes 4 = .ok (.getfield 195, 3) := dk_180 0 195 (dk_at dksX0_passes_0 4 rfl rfl)
theorem dX0_passes_7 : decode cX0_passes 7 = .ok (.aload_n 1, 1) := dk_43 (dk_at dksX0_passes_0 7 rfl rfl)
theorem dX0_passes_8 : decode cX0_passes 8 = .ok (.getfield 196, 3) := dk_180 0 196 (dk_at dksX0_passes_0 8 rfl rfl)
theorem dX0_passes_11 : decode cX0_passes 11 = .ok (.iadd, 1) := dk_96 (dk_at dksX0_passes_0 11 rfl rfl)
theorem dX0_passes_12 : decode cX0_passes 12 = .ok (.invokestatic 48, 3) := dk_184 0 48 (dk_at dksX0_passes_0 12 rfl rfl)
theorem dX0_passes_15 : decode cX0_passes 15 = .ok (.istore 4, 2) := dk_54 4 (dk_at dksX0_passes_0 15 rfl rfl)
theorem dX0_passes_17 : decode cX0_passes 17 = .ok (.aload_n 2, 1) := dk_44 (dk_at dksX0_passes_0 17 rfl rfl)
theorem dX0_passes_18 : decode cX0_passes 18 = .ok (.getfield 199, 3) := dk_180 0 199 (dk_at dksX0_passes_0 18 rfl rfl)
theorem dX0_passes_21 : decode cX0_passes 21 = .ok (.istore 5, 2) := dk_54 5 (dk_at dksX0_passes_0 21 rfl rfl)
theorem dX0_passes_23 : decode cX0_passes 23 = .ok (.iconst 3, 1) := dk_6 (dk_at dksX0_passes_0 23 rfl rfl)
theorem dX0_passes_24 : decode cX0_passes 24 = .ok (.newarray .boolean, 2) := dk_188_4 (dk_at dksX0_passes_1 0 rfl rfl)
theorem dX0_passes_26 : decode cX0_passes 26 = .ok (.astore 6, 2) := dk_58 6 (dk_at dksX0_passes_1 2 rfl rfl)
theorem dX0_passes_28 : decode cX0_passes 28 = .ok (.iconst 0, 1) := dk_3 (dk_at dksX0_passes_1 4 rfl rfl)
theorem dX0_passes_29 : decode cX0_passes 29 = .ok (.istore 7, 2) := dk_54 7 (dk_at dksX0_passes_1 5 rfl rfl)
theorem dX0_passes_31 : decode cX0_passes 31 = .ok (.iload 7, 2) := dk_21 7 (dk_at dksX0_passes_1 7 rfl rfl)
theorem dX0_passes_33 : decode cX0_passes 33 = .ok (.aload_n 1, 1) := dk_43 (dk_at dksX0_passes_1 9 rfl rfl)
theorem dX0_passes_34 : decode cX0_passes 34 = .ok (.getfield 54, 3) := dk_180 0 54 (dk_at dksX0_passes_1 10 rfl rfl)
theorem dX0_passes_37 : decode cX0_passes 37 = .ok (.if_icmp .ge 235, 3) := dk_162 0 235 (dk_at dksX0_passes_1 13 rfl rfl)
theorem dX0_passes_40 : decode cX0_passes 40 = .ok (.aload 6, 2) := dk_25 6 (dk_at dksX0_passes_1 16 rfl rfl)
theorem dX0_passes_42 : decode cX0_passes 42 = .ok (.iload 7, 2) := dk_21 7 (dk_at dksX0_passes_1 18 rfl rfl)
theorem dX0_passes_44 : decode cX0_passes 44 = .ok (.aload_n 2, 1) := dk_44 (dk_at dksX0_passes_1 20 rfl rfl)
theorem dX0_passes_45 : decode cX0_passes 45 = .ok (.getfield 149, 3) := dk_180 0 149 (dk_at dksX0_passes_1 21 rfl rfl)
theorem dX0_passes_48 : decode cX0_passes 48 = .ok (.iload 7, 2) := dk_21 7 (dk_at dksX0_passes_2 0 rfl rfl)
theorem dX0_passes_50 : decode cX0_passes 50 = .ok (.iaload, 1) := dk_46 (dk_at dksX0_passes_2 2 rfl rfl)
theorem dX0_passes_51 : decode cX0_passes 51 = .ok (.ifCond .lt 29, 3) := dk_155 0 29 (dk_at dksX0_passes_2 3 rfl rfl)
theorem dX0_passes_54 : decode cX0_passes 54 = .ok (.aload_n 2, 1) := dk_44 (dk_at dksX0_passes_2 6 rfl rfl)
theorem dX0_passes_55 : decode cX0_passes 55 = .ok (.getfield 115, 3) := dk_180 0 115 (dk_at dksX0_passes_2 7 rfl rfl)
theorem dX0_passes_58 : decode cX0_passes 58 = .ok (.iload 7, 2) := dk_21 7 (dk_at dksX0_passes_2 10 rfl rfl)
theorem dX0_passes_60 : decode cX0_passes 60 = .ok (.iaload, 1) := dk_46 (dk_at dksX0_passes_2 12 rfl rfl)
theorem dX0_passes_61 : decode cX0_passes 61 = .ok (.ifCond .le 19, 3) := dk_158 0 19 (dk_at dksX0_passes_2 13 rfl rfl)
theorem dX0_passes_64 : decode cX0_passes 64 = .ok (.aload_n 2, 1) := dk_44 (dk_at dksX0_passes_2 16 rfl rfl)
theorem dX0_passes_65 : decode cX0_passes 65 = .ok (.getfield 202, 3) := dk_180 0 202 (dk_at dksX0_passes_2 17 rfl rfl)
theorem dX0_passes_68 : decode cX0_passes 68 = .ok (.iload 7, 2) := dk_21 7 (dk_at dksX0_passes_2 20 rfl rfl)
theorem dX0_passes_70 : decode cX0_passes 70 = .ok (.iaload, 1) := dk_46 (dk_at dksX0_passes_2 22 rfl rfl)
theorem dX0_passes_71 : decode cX0_passes 71 = .ok (.iload 4, 2) := dk_21 4 (dk_at dksX0_passes_3 0 rfl rfl)
theorem dX0_passes_73 : decode cX0_passes 73 = .ok (.if_icmp .gt 7, 3) := dk_163 0 7 (dk_at dksX0_passes_3 2 rfl rfl)
theorem dX0_passes_76 : decode cX0_passes 76 = .ok (.iconst 1, 1) := dk_4 (dk_at dksX0_passes_3 5 rfl rfl)
theorem dX0_passes_77 : decode cX0_passes 77 = .ok (.goto 4, 3) := dk_167 0 4 (dk_at dksX0_passes_3 6 rfl rfl)
theorem dX0_passes_80 : decode cX0_passes 80 = .ok (.iconst 0, 1) := dk_3 (dk_at dksX0_passes_3 9 rfl rfl)
theorem dX0_passes_81 : decode cX0_passes 81 = .ok (.bastore, 1) := dk_84 (dk_at dksX0_passes_3 10 rfl rfl)
theorem dX0_passes_82 : decode cX0_passes 82 = .ok (.aload_n 2, 1) := dk_44 (dk_at dksX0_passes_3 11 rfl rfl)
theorem dX0_passes_83 : decode cX0_passes 83 = .ok (.getfield 160, 3) := dk_180 0 160 (dk_at dksX0_passes_3 12 rfl rfl)
theorem dX0_passes_86 : decode cX0_passes 86 = .ok (.iload 7, 2) := dk_21 7 (dk_at dksX0_passes_3 15 rfl rfl)
theorem dX0_passes_88 : decode cX0_passes 88 = .ok (.iaload, 1) := dk_46 (dk_at dksX0_passes_3 17 rfl rfl)
theorem dX0_passes_89 : decode cX0_passes 89 = .ok (.ifCond .ne 7, 3) := dk_154 0 7 (dk_at dksX0_passes_3 18 rfl rfl)
theorem dX0_passes_92 : decode cX0_passes 92 = .ok (.iconst 1, 1) := dk_4 (dk_at dksX0_passes_3 21 rfl rfl)
theorem dX0_passes_93 : decode cX0_passes 93 = .ok (.goto 4, 3) := dk_167 0 4 (dk_at dksX0_passes_4 0 rfl rfl)
theorem dX0_passes_96 : decode cX0_passes 96 = .ok (.iconst 0, 1) := dk_3 (dk_at dksX0_passes_4 3 rfl rfl)
theorem dX0_passes_97 : decode cX0_passes 97 = .ok (.aload 6, 2) := dk_25 6 (dk_at dksX0_passes_4 4 rfl rfl)
theorem dX0_passes_99 : decode cX0_passes 99 = .ok (.iload 7, 2) := dk_21 7 (dk_at dksX0_passes_4 6 rfl rfl)
theorem dX0_passes_101 : decode cX0_passes 101 = .ok (.baload, 1) := dk_51 (dk_at dksX0_passes_4 8 rfl rfl)
theorem dX0_passes_102 : decode cX0_passes 102 = .ok (.if_icmp .eq 5, 3) := dk_159 0 5 (dk_at dksX0_passes_4 9 rfl rfl)
theorem dX0_passes_105 : decode cX0_passes 105 = .ok (.iconst 0, 1) := dk_3 (dk_at dksX0_passes_4 12 rfl rfl)
theorem dX0_passes_106 : decode cX0_passes 106 = .ok (.ireturn, 1) := dk_172 (dk_at dksX0_passes_4 13 rfl rfl)
theorem dX0_passes_107 : decode cX0_passes 107 = .ok (.aload 6, 2) := dk_25 6 (dk_at dksX0_passes_4 14 rfl rfl)
theorem dX0_passes_109 : decode cX0_passes 109 = .ok (.iload 7, 2) := dk_21 7 (dk_at dksX0_passes_4 16 rfl rfl)
theorem dX0_passes_111 : decode cX0_passes 111 = .ok (.baload, 1) := dk_51 (dk_at dksX0_passes_4 18 rfl rfl)
theorem dX0_passes_112 : decode cX0_passes 112 = .ok (.ifCond .ne 39, 3) := dk_154 0 39 (dk_at dksX0_passes_4 19 rfl rfl)
theorem dX0_passes_115 : decode cX0_passes 115 = .ok (.aload_n 0, 1) := dk_42 (dk_at dksX0_passes_4 22 rfl rfl)
theorem dX0_passes_116 : decode cX0_passes 116 = .ok (.iload 7, 2) := dk_21 7 (dk_at dksX0_passes_5 0 rfl rfl)
theorem dX0_passes_118 : decode cX0_passes 118 = .ok (.iconst 1, 1) := dk_4 (dk_at dksX0_passes_5 2 rfl rfl)
theorem dX0_passes_119 : decode cX0_passes 119 = .ok (.invokevirtual 80, 3) := dk_182 0 80 (dk_at dksX0_passes_5 3 rfl rfl)
theorem dX0_passes_122 : decode cX0_passes 122 = .ok (.aload_n 2, 1) := dk_44 (dk_at dksX0_passes_5 6 rfl rfl)
theorem dX0_passes_123 : decode cX0_passes 123 = .ok (.getfield 115, 3) := dk_180 0 115 (dk_at dksX0_passes_5 7 rfl rfl)
theorem dX0_passes_126 : decode cX0_passes 126 = .ok (.iload 7, 2) := dk_21 7 (dk_at dksX0_passes_5 10 rfl rfl)
theorem dX0_passes_128 : decode cX0_passes 128 = .ok (.iaload, 1) := dk_46 (dk_at dksX0_passes_5 12 rfl rfl)
theorem dX0_passes_129 : decode cX0_passes 129 = .ok (.if_icmp .ne 20, 3) := dk_160 0 20 (dk_at dksX0_passes_5 13 rfl rfl)
theorem dX0_passes_132 : decode cX0_passes 132 = .ok (.aload_n 0, 1) := dk_42 (dk_at dksX0_passes_5 16 rfl rfl)
theorem dX0_passes_133 : decode cX0_passes 133 = .ok (.iload 7, 2) := dk_21 7 (dk_at dksX0_passes_5 17 rfl rfl)
theorem dX0_passes_135 : decode cX0_passes 135 = .ok (.iconst 2, 1) := dk_5 (dk_at dksX0_passes_5 19 rfl rfl)
theorem dX0_passes_136 : decode cX0_passes 136 = .ok (.invokevirtual 80, 3) := dk_182 0 80 (dk_at dksX0_passes_5 20 rfl rfl)
theorem dX0_passes_139 : decode cX0_passes 139 = .ok (.aload_n 2, 1) := dk_44 (dk_at dksX0_passes_5 23 rfl rfl)
theorem dX0_passes_140 : decode cX0_passes 140 = .ok (.getfield 149, 3) := dk_180 0 149 (dk_at dksX0_passes_6 0 rfl rfl)
theorem dX0_passes_143 : decode cX0_passes 143 = .ok (.iload 7, 2) := dk_21 7 (dk_at dksX0_passes_6 3 rfl rfl)
theorem dX0_passes_145 : decode cX0_passes 145 = .ok (.iaload, 1) := dk_46 (dk_at dksX0_passes_6 5 rfl rfl)
theorem dX0_passes_146 : decode cX0_passes 146 = .ok (.if_icmp .eq 120, 3) := dk_159 0 120 (dk_at dksX0_passes_6 6 rfl rfl)
theorem dX0_passes_149 : decode cX0_passes 149 = .ok (.iconst 0, 1) := dk_3 (dk_at dksX0_passes_6 9 rfl rfl)
theorem dX0_passes_150 : decode cX0_passes 150 = .ok (.ireturn, 1) := dk_172 (dk_at dksX0_passes_6 10 rfl rfl)
theorem dX0_passes_151 : decode cX0_passes 151 = .ok (.iload 4, 2) := dk_21 4 (dk_at dksX0_passes_6 11 rfl rfl)
theorem dX0_passes_153 : decode cX0_passes 153 = .ok (.aload_n 2, 1) := dk_44 (dk_at dksX0_passes_6 13 rfl rfl)
theorem dX0_passes_154 : decode cX0_passes 154 = .ok (.getfield 202, 3) := dk_180 0 202 (dk_at dksX0_passes_6 14 rfl rfl)
theorem dX0_passes_157 : decode cX0_passes 157 = .ok (.iload 7, 2) := dk_21 7 (dk_at dksX0_passes_6 17 rfl rfl)
theorem dX0_passes_159 : decode cX0_passes 159 = .ok (.iaload, 1) := dk_46 (dk_at dksX0_passes_6 19 rfl rfl)
theorem dX0_passes_160 : decode cX0_passes 160 = .ok (.isub, 1) := dk_100 (dk_at dksX0_passes_6 20 rfl rfl)
theorem dX0_passes_161 : decode cX0_passes 161 = .ok (.istore 4, 2) := dk_54 4 (dk_at dksX0_passes_6 21 rfl rfl)
theorem dX0_passes_163 : decode cX0_passes 163 = .ok (.bipush 20, 2) := dk_16 20 (dk_at dksX0_passes_7 0 rfl rfl)
theorem dX0_passes_165 : decode cX0_passes 165 = .ok (.aload_n 2, 1) := dk_44 (dk_at dksX0_passes_7 2 rfl rfl)
theorem dX0_passes_166 : decode cX0_passes 166 = .ok (.getfield 149, 3) := dk_180 0 149 (dk_at dksX0_passes_7 3 rfl rfl)
theorem dX0_passes_169 : decode cX0_passes 169 = .ok (.iload 7, 2) := dk_21 7 (dk_at dksX0_passes_7 6 rfl rfl)
theorem dX0_passes_171 : decode cX0_passes 171 = .ok (.iaload, 1) := dk_46 (dk_at dksX0_passes_7 8 rfl rfl)
theorem dX0_passes_172 : decode cX0_passes 172 = .ok (.iload_n 3, 1) := dk_29 (dk_at dksX0_passes_7 9 rfl rfl)
theorem dX0_passes_173 : decode cX0_passes 173 = .ok (.iadd, 1) := dk_96 (dk_at dksX0_passes_7 10 rfl rfl)
theorem dX0_passes_174 : decode cX0_passes 174 = .ok (.invokestatic 48, 3) := dk_184 0 48 (dk_at dksX0_passes_7 11 rfl rfl)
theorem dX0_passes_177 : decode cX0_passes 177 = .ok (.istore 8, 2) := dk_54 8 (dk_at dksX0_passes_7 14 rfl rfl)
theorem dX0_passes_179 : decode cX0_passes 179 = .ok (.aload_n 0, 1) := dk_42 (dk_at dksX0_passes_7 16 rfl rfl)
theorem dX0_passes_180 : decode cX0_passes 180 = .ok (.iload 5, 2) := dk_21 5 (dk_at dksX0_passes_7 17 rfl rfl)
theorem dX0_passes_182 : decode cX0_passes 182 = .ok (.iconst 0, 1) := dk_3 (dk_at dksX0_passes_7 19 rfl rfl)
theorem dX0_passes_183 : decode cX0_passes 183 = .ok (.invokevirtual 204, 3) := dk_182 0 204 (dk_at dksX0_passes_7 20 rfl rfl)
theorem dX0_passes_186 : decode cX0_passes 186 = .ok (.aload_n 2, 1) := dk_44 (dk_at dksX0_passes_7 23 rfl rfl)
theorem dX0_passes_187 : decode cX0_passes 187 = .ok (.getfield 207, 3) := dk_180 0 207 (dk_at dksX0_passes_8 0 rfl rfl)
theorem dX0_passes_190 : decode cX0_passes 190 = .ok (.if_icmp .ne 27, 3) := dk_160 0 27 (dk_at dksX0_passes_8 3 rfl rfl)
theorem dX0_passes_193 : decode cX0_passes 193 = .ok (.aload_n 0, 1) := dk_42 (dk_at dksX0_passes_8 6 rfl rfl)
theorem dX0_passes_194 : decode cX0_passes 194 = .ok (.iload 5, 2) := dk_21 5 (dk_at dksX0_passes_8 7 rfl rfl)
theorem dX0_passes_196 : decode cX0_passes 196 = .ok (.iconst 1, 1) := dk_4 (dk_at dksX0_passes_8 9 rfl rfl)
theorem dX0_passes_197 : decode cX0_passes 197 = .ok (.invokevirtual 204, 3) := dk_182 0 204 (dk_at dksX0_passes_8 10 rfl rfl)
theorem dX0_passes_200 : decode cX0_passes 200 = .ok (.iload 7, 2) := dk_21 7 (dk_at dksX0_passes_8 13 rfl rfl)
theorem dX0_passes_202 : decode cX0_passes 202 = .ok (.if_icmp .ne 15, 3) := dk_160 0 15 (dk_at dksX0_passes_8 15 rfl rfl)
theorem dX0_passes_205 : decode cX0_passes 205 = .ok (.aload_n 0, 1) := dk_42 (dk_at dksX0_passes_8 18 rfl rfl)
theorem dX0_passes_206 : decode cX0_passes 206 = .ok (.iload 5, 2) := dk_21 5 (dk_at dksX0_passes_8 19 rfl rfl)
theorem dX0_passes_208 : decode cX0_passes 208 = .ok (.iconst 2, 1) := dk_5 (dk_at dksX0_passes_8 21 rfl rfl)
theorem dX0_passes_209 : decode cX0_passes 209 = .ok (.invokevirtual 204, 3) := dk_182 0 204 (dk_at dksX0_passes_9 0 rfl rfl)
theorem dX0_passes_212 : decode cX0_passes 212 = .ok (.iload 8, 2) := dk_21 8 (dk_at dksX0_passes_9 3 rfl rfl)
theorem dX0_passes_214 : decode cX0_passes 214 = .ok (.if_icmp .eq 5, 3) := dk_159 0 5 (dk_at dksX0_passes_9 5 rfl rfl)
theorem dX0_passes_217 : decode cX0_passes 217 = .ok (.iconst 0, 1) := dk_3 (dk_at dksX0_passes_9 8 rfl rfl)
theorem dX0_passes_218 : decode cX0_passes 218 = .ok (.ireturn, 1) := dk_172 (dk_at dksX0_passes_9 9 rfl rfl)
theorem dX0_passes_219 : decode cX0_passes 219 = .ok (.aload_n 0, 1) := dk_42 (dk_at dksX0_passes_9 10 rfl rfl)
theorem dX0_passes_220 : decode cX0_passes 220 = .ok (.aload_n 1, 1) := dk_43 (dk_at dksX0_passes_9 11 rfl rfl)
theorem dX0_passes_221 : decode cX0_passes 221 = .ok (.aload_n 2, 1) := dk_44 (dk_at dksX0_passes_9 12 rfl rfl)
theorem dX0_passes_222 : decode cX0_passes 222 = .ok (.iload 7, 2) := dk_21 7 (dk_at dksX0_passes_9 13 rfl rfl)
theorem dX0_passes_224 : decode cX0_passes 224 = .ok (.iload_n 3, 1) := dk_29 (dk_at dksX0_passes_9 15 rfl rfl)
theorem dX0_passes_225 : decode cX0_passes 225 = .ok (.iload 8, 2) := dk_21 8 (dk_at dksX0_passes_9 16 rfl rfl)
theorem dX0_passes_227 : decode cX0_passes 227 = .ok (.aload_n 0, 1) := dk_42 (dk_at dksX0_passes_9 18 rfl rfl)
theorem dX0_passes_228 : decode cX0_passes 228 = .ok (.iload 5, 2) := dk_21 5 (dk_at dksX0_passes_9 19 rfl rfl)
theorem dX0_passes_230 : decode cX0_passes 230 = .ok (.iconst 3, 1) := dk_6 (dk_at dksX0_passes_9 21 rfl rfl)
theorem dX0_passes_231 : decode cX0_passes 231 = .ok (.invokevirtual 204, 3) := dk_182 0 204 (dk_at dksX0_passes_10 0 rfl rfl)
theorem dX0_passes_234 : decode cX0_passes 234 = .ok (.invokestatic 210, 3) := dk_184 0 210 (dk_at dksX0_passes_10 3 rfl rfl)
theorem dX0_passes_237 : decode cX0_passes 237 = .ok (.ifCond .eq 24, 3) := dk_153 0 24 (dk_at dksX0_passes_10 6 rfl rfl)
theorem dX0_passes_240 : decode cX0_passes 240 = .ok (.aload_n 0, 1) := dk_42 (dk_at dksX0_passes_10 9 rfl rfl)
theorem dX0_passes_241 : decode cX0_passes 241 = .ok (.iload 7, 2) := dk_21 7 (dk_at dksX0_passes_10 10 rfl rfl)
theorem dX0_passes_243 : decode cX0_passes 243 = .ok (.iconst 1, 1) := dk_4 (dk_at dksX0_passes_10 12 rfl rfl)
theorem dX0_passes_244 : decode cX0_passes 244 = .ok (.invokevirtual 80, 3) := dk_182 0 80 (dk_at dksX0_passes_10 13 rfl rfl)
theorem dX0_passes_247 : decode cX0_passes 247 = .ok (.ifCond .ne 14, 3) := dk_154 0 14 (dk_at dksX0_passes_10 16 rfl rfl)
theorem dX0_passes_250 : decode cX0_passes 250 = .ok (.aload_n 0, 1) := dk_42 (dk_at dksX0_passes_10 19 rfl rfl)
theorem dX0_passes_251 : decode cX0_passes 251 = .ok (.iload 7, 2) := dk_21 7 (dk_at dksX0_passes_10 20 rfl rfl)
theorem dX0_passes_253 : decode cX0_passes 253 = .ok (.iconst 2, 1) := dk_5 (dk_at dksX0_passes_10 22 rfl rfl)
theorem dX0_passes_254 : decode cX0_passes 254 = .ok (.invokevirtual 80, 3) := dk_182 0 80 (dk_at dksX0_passes_11 0 rfl rfl)
theorem dX0_passes_257 : decode cX0_passes 257 = .ok (.iconst (-1), 1) := dk_2 (dk_at dksX0_passes_11 3 rfl rfl)
theorem dX0_passes_258 : decode cX0_passes 258 = .ok (.if_icmp .eq 5, 3) := dk_159 0 5 (dk_at dksX0_passes_11 4 rfl rfl)
theorem dX0_passes_261 : decode cX0_passes 261 = .ok (.iconst 0, 1) := dk_3 (dk_at dksX0_passes_11 7 rfl rfl)
theorem dX0_passes_262 : decode cX0_passes 262 = .ok (.ireturn, 1) := dk_172 (dk_at dksX0_passes_11 8 rfl rfl)
theorem dX0_passes_263 : decode cX0_passes 263 = .ok (.iinc 5 1, 3) := dk_132 5 1 (dk_at dksX0_passes_11 9 rfl rfl)
theorem dX0_passes_266 : decode cX0_passes 266 = .ok (.iinc 7 1, 3) := dk_132 7 1 (dk_at dksX0_passes_11 12 rfl rfl)
theorem dX0_passes_269 : decode cX0_passes 269 = .ok (.goto (-238), 3) := dk_167 255 18 (dk_at dksX0_passes_11 15 rfl rfl)
theorem dX0_passes_272 : decode cX0_passes 272 = .ok (.iconst 0, 1) := dk_3 (dk_at dksX0_passes_11 18 rfl rfl)
theorem dX0_passes_273 : decode cX0_passes 273 = .ok (.istore 7, 2) := dk_54 7 (dk_at dksX0_passes_11 19 rfl rfl)
theorem dX0_passes_275 : decode cX0_passes 275 = .ok (.iload 7, 2) := dk_21 7 (dk_at dksX0_passes_11 21 rfl rfl)
theorem dX0_passes_277 : decode cX0_passes 277 = .ok (.aload_n 1, 1) := dk_43 (dk_at dksX0_passes_11 23 rfl rfl)
theorem dX0_passes_278 : decode cX0_passes 278 = .ok (.getfield 60, 3) := dk_180 0 60 (dk_at dksX0_passes_12 0 rfl rfl)
theorem dX0_passes_281 : decode cX0_passes 281 = .ok (.if_icmp .ge 65, 3) := dk_162 0 65 (dk_at dksX0_passes_12 3 rfl rfl)
theorem dX0_passes_284 : decode cX0_passes 284 = .ok (.aload_n 2, 1) := dk_44 (dk_at dksX0_passes_12 6 rfl rfl)
theorem dX0_passes_285 : decode cX0_passes 285 = .ok (.getfield 120, 3) := dk_180 0 120 (dk_at dksX0_passes_12 7 rfl rfl)
theorem dX0_passes_288 : decode cX0_passes 288 = .ok (.iload 7, 2) := dk_21 7 (dk_at dksX0_passes_12 10 rfl rfl)
theorem dX0_passes_290 : decode cX0_passes 290 = .ok (.iaload, 1) := dk_46 (dk_at dksX0_passes_12 12 rfl rfl)
theorem dX0_passes_291 : decode cX0_passes 291 = .ok (.ifCond .lt 16, 3) := dk_155 0 16 (dk_at dksX0_passes_12 13 rfl rfl)
theorem dX0_passes_294 : decode cX0_passes 294 = .ok (.aload 6, 2) := dk_25 6 (dk_at dksX0_passes_12 16 rfl rfl)
theorem dX0_passes_296 : decode cX0_passes 296 = .ok (.aload_n 2, 1) := dk_44 (dk_at dksX0_passes_12 18 rfl rfl)
theorem dX0_passes_297 : decode cX0_passes 297 = .ok (.getfield 120, 3) := dk_180 0 120 (dk_at dksX0_passes_12 19 rfl rfl)
theorem dX0_passes_300 : decode cX0_passes 300 = .ok (.iload 7, 2) := dk_21 7 (dk_at dksX0_passes_12 22 rfl rfl)
theorem dX0_passes_302 : decode cX0_passes 302 = .ok (.iaload, 1) := dk_46 (dk_at dksX0_passes_13 0 rfl rfl)
theorem dX0_passes_303 : decode cX0_passes 303 = .ok (.baload, 1) := dk_51 (dk_at dksX0_passes_13 1 rfl rfl)
theorem dX0_passes_304 : decode cX0_passes 304 = .ok (.ifCond .ne 13, 3) := dk_154 0 13 (dk_at dksX0_passes_13 2 rfl rfl)
theorem dX0_passes_307 : decode cX0_passes 307 = .ok (.aload_n 2, 1) := dk_44 (dk_at dksX0_passes_13 5 rfl rfl)
theorem dX0_passes_308 : decode cX0_passes 308 = .ok (.aload_n 0, 1) := dk_42 (dk_at dksX0_passes_13 6 rfl rfl)
theorem dX0_passes_309 : decode cX0_passes 309 = .ok (.iload 7, 2) := dk_21 7 (dk_at dksX0_passes_13 7 rfl rfl)
theorem dX0_passes_311 : decode cX0_passes 311 = .ok (.invokevirtual 214, 3) := dk_182 0 214 (dk_at dksX0_passes_13 9 rfl rfl)
theorem dX0_passes_314 : decode cX0_passes 314 = .ok (.ifCond .eq 24, 3) := dk_153 0 24 (dk_at dksX0_passes_13 12 rfl rfl)
theorem dX0_passes_317 : decode cX0_passes 317 = .ok (.iload_n 3, 1) := dk_29 (dk_at dksX0_passes_13 15 rfl rfl)
theorem dX0_passes_318 : decode cX0_passes 318 = .ok (.ifCond .ne 22, 3) := dk_154 0 22 (dk_at dksX0_passes_13 16 rfl rfl)
theorem dX0_passes_321 : decode cX0_passes 321 = .ok (.aload_n 2, 1) := dk_44 (dk_at dksX0_passes_13 19 rfl rfl)
theorem dX0_passes_322 : decode cX0_passes 322 = .ok (.getfield 218, 3) := dk_180 0 218 (dk_at dksX0_passes_13 20 rfl rfl)
theorem dX0_passes_325 : decode cX0_passes 325 = .ok (.iload 7, 2) := dk_21 7 (dk_at dksX0_passes_14 0 rfl rfl)
theorem dX0_passes_327 : decode cX0_passes 327 = .ok (.iaload, 1) := dk_46 (dk_at dksX0_passes_14 2 rfl rfl)
theorem dX0_passes_328 : decode cX0_passes 328 = .ok (.aload_n 0, 1) := dk_42 (dk_at dksX0_passes_14 3 rfl rfl)
theorem dX0_passes_329 : decode cX0_passes 329 = .ok (.iload 7, 2) := dk_21 7 (dk_at dksX0_passes_14 4 rfl rfl)
theorem dX0_passes_331 : decode cX0_passes 331 = .ok (.iconst 5, 1) := dk_8 (dk_at dksX0_passes_14 6 rfl rfl)
theorem dX0_passes_332 : decode cX0_passes 332 = .ok (.invokevirtual 63, 3) := dk_182 0 63 (dk_at dksX0_passes_14 7 rfl rfl)
theorem dX0_passes_335 : decode cX0_passes 335 = .ok (.if_icmp .eq 5, 3) := dk_159 0 5 (dk_at dksX0_passes_14 10 rfl rfl)
theorem dX0_passes_338 : decode cX0_passes 338 = .ok (.iconst 0, 1) := dk_3 (dk_at dksX0_passes_14 13 rfl rfl)
theorem dX0_passes_339 : decode cX0_passes 339 = .ok (.ireturn, 1) := dk_172 (dk_at dksX0_passes_14 14 rfl rfl)
theorem dX0_passes_340 : decode cX0_passes 340 = .ok (.iinc 7 1, 3) := dk_132 7 1 (dk_at dksX0_passes_14 15 rfl rfl)
theorem dX0_passes_343 : decode cX0_passes 343 = .ok (.goto (-68), 3) := dk_167 255 188 (dk_at dksX0_passes_14 18 rfl rfl)
theorem dX0_passes_346 : decode cX0_passes 346 = .ok (.aload_n 0, 1) := dk_42 (dk_at dksX0_passes_14 21 rfl rfl)
theorem dX0_passes_347 : decode cX0_passes 347 = .ok (.bipush 8, 2) := dk_16 8 (dk_at dksX0_passes_14 22 rfl rfl)
theorem dX0_passes_349 : decode cX0_passes 349 = .ok (.invokevirtual 73, 3) := dk_182 0 73 (dk_at dksX0_passes_15 0 rfl rfl)
theorem dX0_passes_352 : decode cX0_passes 352 = .ok (.iload 5, 2) := dk_21 5 (dk_at dksX0_passes_15 3 rfl rfl)
theorem dX0_passes_354 : decode cX0_passes 354 = .ok (.if_icmp .ne 48, 3) := dk_160 0 48 (dk_at dksX0_passes_15 5 rfl rfl)
theorem dX0_passes_357 : decode cX0_passes 357 = .ok (.aload_n 2, 1) := dk_44 (dk_at dksX0_passes_15 8 rfl rfl)
theorem dX0_passes_358 : decode cX0_passes 358 = .ok (.aload_n 0, 1) := dk_42 (dk_at dksX0_passes_15 9 rfl rfl)
theorem dX0_passes_359 : decode cX0_passes 359 = .ok (.invokevirtual 221, 3) := dk_182 0 221 (dk_at dksX0_passes_15 10 rfl rfl)
theorem dX0_passes_362 : decode cX0_passes 362 = .ok (.ifCond .eq 40, 3) := dk_153 0 40 (dk_at dksX0_passes_15 13 rfl rfl)
theorem dX0_passes_365 : decode cX0_passes 365 = .ok (.aload_n 0, 1) := dk_42 (dk_at dksX0_passes_15 16 rfl rfl)
theorem dX0_passes_366 : decode cX0_passes 366 = .ok (.iconst 3, 1) := dk_6 (dk_at dksX0_passes_15 17 rfl rfl)
theorem dX0_passes_367 : decode cX0_passes 367 = .ok (.invokevirtual 73, 3) := dk_182 0 73 (dk_at dksX0_passes_15 18 rfl rfl)
theorem dX0_passes_370 : decode cX0_passes 370 = .ok (.iload 4, 2) := dk_21 4 (dk_at dksX0_passes_15 21 rfl rfl)
theorem dX0_passes_372 : decode cX0_passes 372 = .ok (.if_icmp .ne 30, 3) := dk_160 0 30 (dk_at dksX0_passes_16 0 rfl rfl)
theorem dX0_passes_375 : decode cX0_passes 375 = .ok (.aload_n 2, 1) := dk_44 (dk_at dksX0_passes_16 3 rfl rfl)
theorem dX0_passes_376 : decode cX0_passes 376 = .ok (.getfield 225, 3) := dk_180 0 225 (dk_at dksX0_passes_16 4 rfl rfl)
theorem dX0_passes_379 : decode cX0_passes 379 = .ok (.iload 4, 2) := dk_21 4 (dk_at dksX0_passes_16 7 rfl rfl)
theorem dX0_passes_381 : decode cX0_passes 381 = .ok (.if_icmp .ne 21, 3) := dk_160 0 21 (dk_at dksX0_passes_16 9 rfl rfl)
theorem dX0_passes_384 : decode cX0_passes 384 = .ok (.aload_n 0, 1) := dk_42 (dk_at dksX0_passes_16 12 rfl rfl)
theorem dX0_passes_385 : decode cX0_passes 385 = .ok (.iconst 2, 1) := dk_5 (dk_at dksX0_passes_16 13 rfl rfl)
theorem dX0_passes_386 : decode cX0_passes 386 = .ok (.invokevirtual 73, 3) := dk_182 0 73 (dk_at dksX0_passes_16 14 rfl rfl)
theorem dX0_passes_389 : decode cX0_passes 389 = .ok (.aload_n 2, 1) := dk_44 (dk_at dksX0_passes_16 17 rfl rfl)
theorem dX0_passes_390 : decode cX0_passes 390 = .ok (.getfield 207, 3) := dk_180 0 207 (dk_at dksX0_passes_16 18 rfl rfl)
theorem dX0_passes_393 : decode cX0_passes 393 = .ok (.iconst 1, 1) := dk_4 (dk_at dksX0_passes_16 21 rfl rfl)
theorem dX0_passes_394 : decode cX0_passes 394 = .ok (.iadd, 1) := dk_96 (dk_at dksX0_passes_16 22 rfl rfl)
theorem dX0_passes_395 : decode cX0_passes 395 = .ok (.if_icmp .ne 7, 3) := dk_160 0 7 (dk_at dksX0_passes_17 0 rfl rfl)
theorem dX0_passes_398 : decode cX0_passes 398 = .ok (.iconst 1, 1) := dk_4 (dk_at dksX0_passes_17 3 rfl rfl)
theorem dX0_passes_399 : decode cX0_passes 399 = .ok (.goto 4, 3) := dk_167 0 4 (dk_at dksX0_passes_17 4 rfl rfl)
theorem dX0_passes_402 : decode cX0_passes 402 = .ok (.iconst 0, 1) := dk_3 (dk_at dksX0_passes_17 7 rfl rfl)
theorem dX0_passes_403 : decode cX0_passes 403 = .ok (.ireturn, 1) := dk_172 (dk_at dksX0_passes_17 8 rfl rfl)
abbrev cX0_isOut : ByteArray := method_21_code
def yX0_isOut : MethodName := ⟨RX0, "isOut", "(LKilnBench;LKilnBenchLaw$All;LKilnBenchLaw$Ahead;IIII)Z"⟩
def dkwX0_isOut_6 : List UInt8 := [159, 0, 5, 3, 172, 132, 8, 1, 167, 255, 113, 21, 6, 21, 7, 160, 0, 7, 4, 167, 0, 4, 3, 172]
abbrev dktX0_isOut_6 : List UInt8 := dkwX0_isOut_6 ++ []
def dkwX0_isOut_5 : List UInt8 := [43, 44, 21, 8, 4, 21, 5, 184, 0, 233, 128, 42, 43, 44, 21, 8, 2, 21, 5, 184, 0, 233, 128]
abbrev dktX0_isOut_5 : List UInt8 := dkwX0_isOut_5 ++ dktX0_isOut_6
def dkwX0_isOut_4 : List UInt8 := [21, 7, 42, 21, 8, 16, 6, 182, 0, 63, 96, 54, 7, 42, 21, 8, 182, 0, 230, 4, 21, 8, 120, 42]
abbrev dktX0_isOut_4 : List UInt8 := dkwX0_isOut_4 ++ dktX0_isOut_5
def dkwX0_isOut_3 : List UInt8 := [42, 21, 8, 16, 6, 182, 0, 63, 44, 180, 0, 157, 21, 8, 50, 21, 4, 46, 159, 0, 5, 3, 172]
abbrev dktX0_isOut_3 : List UInt8 := dkwX0_isOut_3 ++ dktX0_isOut_4
def dkwX0_isOut_2 : List UInt8 := [4, 160, 0, 44, 42, 21, 8, 8, 182, 0, 63, 44, 180, 0, 228, 21, 8, 50, 21, 4, 46, 160, 0, 24]
abbrev dktX0_isOut_2 : List UInt8 := dkwX0_isOut_2 ++ dktX0_isOut_3
def dkwX0_isOut_1 : List UInt8 := [159, 0, 6, 167, 0, 120, 42, 21, 8, 5, 182, 0, 63, 2, 160, 0, 55, 42, 21, 8, 7, 182, 0, 63]
abbrev dktX0_isOut_1 : List UInt8 := dkwX0_isOut_1 ++ dktX0_isOut_2
def dkwX0_isOut_0 : List UInt8 := [3, 54, 7, 3, 54, 8, 21, 8, 43, 180, 0, 60, 162, 0, 140, 44, 180, 0, 120, 21, 8, 46, 29]
abbrev dktX0_isOut_0 : List UInt8 := dkwX0_isOut_0 ++ dktX0_isOut_1
theorem dksX0_isOut_0 : cX0_isOut.data.toList.drop 0 = dktX0_isOut_0 := by decide +kernel
theorem dksX0_isOut_1 : cX0_isOut.data.toList.drop 23 = dktX0_isOut_1 := dk_seg dksX0_isOut_0 23 rfl rfl
theorem dksX0_isOut_2 : cX0_isOut.data.toList.drop 47 = dktX0_isOut_2 := dk_seg dksX0_isOut_1 24 rfl rfl
theorem dksX0_isOut_3 : cX0_isOut.data.toList.drop 71 = dktX0_isOut_3 := dk_seg dksX0_isOut_2 24 rfl rfl
theorem dksX0_isOut_4 : cX0_isOut.data.toList.drop 94 = dktX0_isOut_4 := dk_seg dksX0_isOut_3 23 rfl rfl
theorem dksX0_isOut_5 : cX0_isOut.data.toList.drop 118 = dktX0_isOut_5 := dk_seg dksX0_isOut_4 24 rfl rfl
theorem dksX0_isOut_6 : cX0_isOut.data.toList.drop 141 = dktX0_isOut_6 := dk_seg dksX0_isOut_5 23 rfl rfl
theorem dX0_isOut_0 : decode cX0_isOut 0 = .ok (.iconst 0, 1) := dk_3 (dk_at dksX0_isOut_0 0 rfl rfl)
theorem dX0_isOut_1 : decode cX0_isOut 1 = .ok (.istore 7, 2) := dk_54 7 (dk_at dksX0_isOut_0 1 rfl rfl)
theorem dX0_isOut_3 : decode cX0_isOut 3 = .ok (.iconst 0, 1) := dk_3 (dk_at dksX0_isOut_0 3 rfl rfl)
theorem dX0_isOut_4 : decode cX0_isOut 4 = .ok (.istore 8, 2) := dk_54 8 (dk_at dksX0_isOut_0 4 rfl rfl)
theorem dX0_isOut_6 : decode cX0_isOut 6 = .ok (.iload 8, 2) := dk_21 8 (dk_at dksX0_isOut_0 6 rfl rfl)
theorem dX0_isOut_8 : decode cX0_isOut 8 = .ok (.aload_n 1, 1) := dk_43 (dk_at dksX0_isOut_0 8 rfl rfl)
theorem dX0_isOut_9 : decode cX0_isOut 9 = .ok (.getfield 60, 3) := dk_180 0 60 (dk_at dksX0_isOut_0 9 rfl rfl)
theorem dX0_isOut_12 : decode cX0_isOut 12 = .ok (.if_icmp .ge 140, 3) := dk_162 0 140 (dk_at dksX0_isOut_0 12 rfl rfl)
theorem dX0_isOut_15 : decode cX0_isOut 15 = .ok (.aload_n 2, 1) := dk_44 (dk_at dksX0_isOut_0 15 rfl rfl)
theorem dX0_isOut_16 : decode cX0_isOut 16 = .ok (.getfield 120, 3) := dk_180 0 120 (dk_at dksX0_isOut_0 16 rfl rfl)
theorem dX0_isOut_19 : decode cX0_isOut 19 = .ok (.iload 8, 2) := dk_21 8 (dk_at dksX0_isOut_0 19 rfl rfl)
theorem dX0_isOut_21 : decode cX0_isOut 21 = .ok (.iaload, 1) := dk_46 (dk_at dksX0_isOut_0 21 rfl rfl)
theorem dX0_isOut_22 : decode cX0_isOut 22 = .ok (.iload_n 3, 1) := dk_29 (dk_at dksX0_isOut_0 22 rfl rfl)
theorem dX0_isOut_23 : decode cX0_isOut 23 = .ok (.if_icmp .eq 6, 3) := dk_159 0 6 (dk_at dksX0_isOut_1 0 rfl rfl)
theorem dX0_isOut_26 : decode cX0_isOut 26 = .ok (.goto 120, 3) := dk_167 0 120 (dk_at dksX0_isOut_1 3 rfl rfl)
theorem dX0_isOut_29 : decode cX0_isOut 29 = .ok (.aload_n 0, 1) := dk_42 (dk_at dksX0_isOut_1 6 rfl rfl)
theorem dX0_isOut_30 : decode cX0_isOut 30 = .ok (.iload 8, 2) := dk_21 8 (dk_at dksX0_isOut_1 7 rfl rfl)
theorem dX0_isOut_32 : decode cX0_isOut 32 = .ok (.iconst 2, 1) := dk_5 (dk_at dksX0_isOut_1 9 rfl rfl)
theorem dX0_isOut_33 : decode cX0_isOut 33 = .ok (.invokevirtual 63, 3) := dk_182 0 63 (dk_at dksX0_isOut_1 10 rfl rfl)
theorem dX0_isOut_36 : decode cX0_isOut 36 = .ok (.iconst (-1), 1) := dk_2 (dk_at dksX0_isOut_1 13 rfl rfl)
theorem dX0_isOut_37 : decode cX0_isOut 37 = .ok (.if_icmp .ne 55, 3) := dk_160 0 55 (dk_at dksX0_isOut_1 14 rfl rfl)
theorem dX0_isOut_40 : decode cX0_isOut 40 = .ok (.aload_n 0, 1) := dk_42 (dk_at dksX0_isOut_1 17 rfl rfl)
theorem dX0_isOut_41 : decode cX0_isOut 41 = .ok (.iload 8, 2) := dk_21 8 (dk_at dksX0_isOut_1 18 rfl rfl)
theorem dX0_isOut_43 : decode cX0_isOut 43 = .ok (.iconst 4, 1) := dk_7 (dk_at dksX0_isOut_1 20 rfl rfl)
theorem dX0_isOut_44 : decode cX0_isOut 44 = .ok (.invokevirtual 63, 3) := dk_182 0 63 (dk_at dksX0_isOut_1 21 rfl rfl)
theorem dX0_isOut_47 : decode cX0_isOut 47 = .ok (.iconst 1, 1) := dk_4 (dk_at dksX0_isOut_2 0 rfl rfl)
theorem dX0_isOut_48 : decode cX0_isOut 48 = .ok (.if_icmp .ne 44, 3) := dk_160 0 44 (dk_at dksX0_isOut_2 1 rfl rfl)
theorem dX0_isOut_51 : decode cX0_isOut 51 = .ok (.aload_n 0, 1) := dk_42 (dk_at dksX0_isOut_2 4 rfl rfl)
theorem dX0_isOut_52 : decode cX0_isOut 52 = .ok (.iload 8, 2) := dk_21 8 (dk_at dksX0_isOut_2 5 rfl rfl)
theorem dX0_isOut_54 : decode cX0_isOut 54 = .ok (.iconst 5, 1) := dk_8 (dk_at dksX0_isOut_2 7 rfl rfl)
theorem dX0_isOut_55 : decode cX0_isOut 55 = .ok (.invokevirtual 63, 3) := dk_182 0 63 (dk_at dksX0_isOut_2 8 rfl rfl)
theorem dX0_isOut_58 : decode cX0_isOut 58 = .ok (.aload_n 2, 1) := dk_44 (dk_at dksX0_isOut_2 11 rfl rfl)
theorem dX0_isOut_59 : decode cX0_isOut 59 = .ok (.getfield 228, 3) := dk_180 0 228 (dk_at dksX0_isOut_2 12 rfl rfl)
theorem dX0_isOut_62 : decode cX0_isOut 62 = .ok (.iload 8, 2) := dk_21 8 (dk_at dksX0_isOut_2 15 rfl rfl)
theorem dX0_isOut_64 : decode cX0_isOut 64 = .ok (.aaload, 1) := dk_50 (dk_at dksX0_isOut_2 17 rfl rfl)
theorem dX0_isOut_65 : decode cX0_isOut 65 = .ok (.iload 4, 2) := dk_21 4 (dk_at dksX0_isOut_2 18 rfl rfl)
theorem dX0_isOut_67 : decode cX0_isOut 67 = .ok (.iaload, 1) := dk_46 (dk_at dksX0_isOut_2 20 rfl rfl)
theorem dX0_isOut_68 : decode cX0_isOut 68 = .ok (.if_icmp .ne 24, 3) := dk_160 0 24 (dk_at dksX0_isOut_2 21 rfl rfl)
theorem dX0_isOut_71 : decode cX0_isOut 71 = .ok (.aload_n 0, 1) := dk_42 (dk_at dksX0_isOut_3 0 rfl rfl)
theorem dX0_isOut_72 : decode cX0_isOut 72 = .ok (.iload 8, 2) := dk_21 8 (dk_at dksX0_isOut_3 1 rfl rfl)
theorem dX0_isOut_74 : decode cX0_isOut 74 = .ok (.bipush 6, 2) := dk_16 6 (dk_at dksX0_isOut_3 3 rfl rfl)
theorem dX0_isOut_76 : decode cX0_isOut 76 = .ok (.invokevirtual 63, 3) := dk_182 0 63 (dk_at dksX0_isOut_3 5 rfl rfl)
theorem dX0_isOut_79 : decode cX0_isOut 79 = .ok (.aload_n 2, 1) := dk_44 (dk_at dksX0_isOut_3 8 rfl rfl)
theorem dX0_isOut_80 : decode cX0_isOut 80 = .ok (.getfield 157, 3) := dk_180 0 157 (dk_at dksX0_isOut_3 9 rfl rfl)
theorem dX0_isOut_83 : decode cX0_isOut 83 = .ok (.iload 8, 2) := dk_21 8 (dk_at dksX0_isOut_3 12 rfl rfl)
theorem dX0_isOut_85 : decode cX0_isOut 85 = .ok (.aaload, 1) := dk_50 (dk_at dksX0_isOut_3 14 rfl rfl)
theorem dX0_isOut_86 : decode cX0_isOut 86 = .ok (.iload 4, 2) := dk_21 4 (dk_at dksX0_isOut_3 15 rfl rfl)
theorem dX0_isOut_88 : decode cX0_isOut 88 = .ok (.iaload, 1) := dk_46 (dk_at dksX0_isOut_3 17 rfl rfl)
theorem dX0_isOut_89 : decode cX0_isOut 89 = .ok (.if_icmp .eq 5, 3) := dk_159 0 5 (dk_at dksX0_isOut_3 18 rfl rfl)
theorem dX0_isOut_92 : decode cX0_isOut 92 = .ok (.iconst 0, 1) := dk_3 (dk_at dksX0_isOut_3 21 rfl rfl)
theorem dX0_isOut_93 : decode cX0_isOut 93 = .ok (.ireturn, 1) := dk_172 (dk_at dksX0_isOut_3 22 rfl rfl)
theorem dX0_isOut_94 : decode cX0_isOut 94 = .ok (.iload 7, 2) := dk_21 7 (dk_at dksX0_isOut_4 0 rfl rfl)
theorem dX0_isOut_96 : decode cX0_isOut 96 = .ok (.aload_n 0, 1) := dk_42 (dk_at dksX0_isOut_4 2 rfl rfl)
theorem dX0_isOut_97 : decode cX0_isOut 97 = .ok (.iload 8, 2) := dk_21 8 (dk_at dksX0_isOut_4 3 rfl rfl)
theorem dX0_isOut_99 : decode cX0_isOut 99 = .ok (.bipush 6, 2) := dk_16 6 (dk_at dksX0_isOut_4 5 rfl rfl)
theorem dX0_isOut_101 : decode cX0_isOut 101 = .ok (.invokevirtual 63, 3) := dk_182 0 63 (dk_at dksX0_isOut_4 7 rfl rfl)
theorem dX0_isOut_104 : decode cX0_isOut 104 = .ok (.iadd, 1) := dk_96 (dk_at dksX0_isOut_4 10 rfl rfl)
theorem dX0_isOut_105 : decode cX0_isOut 105 = .ok (.istore 7, 2) := dk_54 7 (dk_at dksX0_isOut_4 11 rfl rfl)
theorem dX0_isOut_107 : decode cX0_isOut 107 = .ok (.aload_n 0, 1) := dk_42 (dk_at dksX0_isOut_4 13 rfl rfl)
theorem dX0_isOut_108 : decode cX0_isOut 108 = .ok (.iload 8, 2) := dk_21 8 (dk_at dksX0_isOut_4 14 rfl rfl)
theorem dX0_isOut_110 : decode cX0_isOut 110 = .ok (.invokevirtual 230, 3) := dk_182 0 230 (dk_at dksX0_isOut_4 16 rfl rfl)
theorem dX0_isOut_113 : decode cX0_isOut 113 = .ok (.iconst 1, 1) := dk_4 (dk_at dksX0_isOut_4 19 rfl rfl)
theorem dX0_isOut_114 : decode cX0_isOut 114 = .ok (.iload 8, 2) := dk_21 8 (dk_at dksX0_isOut_4 20 rfl rfl)
theorem dX0_isOut_116 : decode cX0_isOut 116 = .ok (.ishl, 1) := dk_120 (dk_at dksX0_isOut_4 22 rfl rfl)
theorem dX0_isOut_117 : decode cX0_isOut 117 = .ok (.aload_n 0, 1) := dk_42 (dk_at dksX0_isOut_4 23 rfl rfl)
theorem dX0_isOut_118 : decode cX0_isOut 118 = .ok (.aload_n 1, 1) := dk_43 (dk_at dksX0_isOut_5 0 rfl rfl)
theorem dX0_isOut_119 : decode cX0_isOut 119 = .ok (.aload_n 2, 1) := dk_44 (dk_at dksX0_isOut_5 1 rfl rfl)
theorem dX0_isOut_120 : decode cX0_isOut 120 = .ok (.iload 8, 2) := dk_21 8 (dk_at dksX0_isOut_5 2 rfl rfl)
theorem dX0_isOut_122 : decode cX0_isOut 122 = .ok (.iconst 1, 1) := dk_4 (dk_at dksX0_isOut_5 4 rfl rfl)
theorem dX0_isOut_123 : decode cX0_isOut 123 = .ok (.iload 5, 2) := dk_21 5 (dk_at dksX0_isOut_5 5 rfl rfl)
theorem dX0_isOut_125 : decode cX0_isOut 125 = .ok (.invokestatic 233, 3) := dk_184 0 233 (dk_at dksX0_isOut_5 7 rfl rfl)
theorem dX0_isOut_128 : decode cX0_isOut 128 = .ok (.ior, 1) := dk_128 (dk_at dksX0_isOut_5 10 rfl rfl)
theorem dX0_isOut_129 : decode cX0_isOut 129 = .ok (.aload_n 0, 1) := dk_42 (dk_at dksX0_isOut_5 11 rfl rfl)
theorem dX0_isOut_130 : decode cX0_isOut 130 = .ok (.aload_n 1, 1) := dk_43 (dk_at dksX0_isOut_5 12 rfl rfl)
theorem dX0_isOut_131 : decode cX0_isOut 131 = .ok (.aload_n 2, 1) := dk_44 (dk_at dksX0_isOut_5 13 rfl rfl)
theorem dX0_isOut_132 : decode cX0_isOut 132 = .ok (.iload 8, 2) := dk_21 8 (dk_at dksX0_isOut_5 14 rfl rfl)
theorem dX0_isOut_134 : decode cX0_isOut 134 = .ok (.iconst (-1), 1) := dk_2 (dk_at dksX0_isOut_5 16 rfl rfl)
theorem dX0_isOut_135 : decode cX0_isOut 135 = .ok (.iload 5, 2) := dk_21 5 (dk_at dksX0_isOut_5 17 rfl rfl)
theorem dX0_isOut_137 : decode cX0_isOut 137 = .ok (.invokestatic 233, 3) := dk_184 0 233 (dk_at dksX0_isOut_5 19 rfl rfl)
theorem dX0_isOut_140 : decode cX0_isOut 140 = .ok (.ior, 1) := dk_128 (dk_at dksX0_isOut_5 22 rfl rfl)
theorem dX0_isOut_141 : decode cX0_isOut 141 = .ok (.if_icmp .eq 5, 3) := dk_159 0 5 (dk_at dksX0_isOut_6 0 rfl rfl)
theorem dX0_isOut_144 : decode cX0_isOut 144 = .ok (.iconst 0, 1) := dk_3 (dk_at dksX0_isOut_6 3 rfl rfl)
theorem dX0_isOut_145 : decode cX0_isOut 145 = .ok (.ireturn, 1) := dk_172 (dk_at dksX0_isOut_6 4 rfl rfl)
theorem dX0_isOut_146 : decode cX0_isOut 146 = .ok (.iinc 8 1, 3) := dk_132 8 1 (dk_at dksX0_isOut_6 5 rfl rfl)
theorem dX0_isOut_149 : decode cX0_isOut 149 = .ok (.goto (-143), 3) := dk_167 255 113 (dk_at dksX0_isOut_6 8 rfl rfl)
theorem dX0_isOut_152 : decode cX0_isOut 152 = .ok (.iload 6, 2) := dk_21 6 (dk_at dksX0_isOut_6 11 rfl rfl)
theorem dX0_isOut_154 : decode cX0_isOut 154 = .ok (.iload 7, 2) := dk_21 7 (dk_at dksX0_isOut_6 13 rfl rfl)
theorem dX0_isOut_156 : decode cX0_isOut 156 = .ok (.if_icmp .ne 7, 3) := dk_160 0 7 (dk_at dksX0_isOut_6 15 rfl rfl)
theorem dX0_isOut_159 : decode cX0_isOut 159 = .ok (.iconst 1, 1) := dk_4 (dk_at dksX0_isOut_6 18 rfl rfl)
theorem dX0_isOut_160 : decode cX0_isOut 160 = .ok (.goto 4, 3) := dk_167 0 4 (dk_at dksX0_isOut_6 19 rfl rfl)
theorem dX0_isOut_163 : decode cX0_isOut 163 = .ok (.iconst 0, 1) := dk_3 (dk_at dksX0_isOut_6 22 rfl rfl)
theorem dX0_isOut_164 : decode cX0_isOut 164 = .ok (.ireturn, 1) := dk_172 (dk_at dksX0_isOut_6 23 rfl rfl)
abbrev cX0_inARow : ByteArray := method_22_code
def yX0_inARow : MethodName := ⟨RX0, "inARow", "(LKilnBench;LKilnBenchLaw$All;LKilnBenchLaw$Ahead;III)I"⟩
def dkwX0_inARow_4 : List UInt8 := [96, 182, 0, 124, 54, 8, 167, 255, 184, 21, 6, 172]
abbrev dktX0_inARow_4 : List UInt8 := dkwX0_inARow_4 ++ []
def dkwX0_inARow_3 : List UInt8 := [128, 54, 6, 21, 8, 54, 7, 44, 43, 44, 180, 0, 120, 29, 46, 44, 180, 0, 122, 21, 7, 46, 21, 4]
abbrev dktX0_inARow_3 : List UInt8 := dkwX0_inARow_3 ++ dktX0_inARow_4
def dkwX0_inARow_2 : List UInt8 := [21, 8, 8, 182, 0, 63, 100, 184, 0, 128, 21, 5, 182, 0, 131, 153, 0, 42, 21, 6, 4, 21, 8, 120]
abbrev dktX0_inARow_2 : List UInt8 := dkwX0_inARow_2 ++ dktX0_inARow_3
def dkwX0_inARow_1 : List UInt8 := [182, 0, 124, 54, 8, 21, 8, 155, 0, 73, 43, 21, 7, 21, 8, 42, 21, 7, 8, 182, 0, 63, 42]
abbrev dktX0_inARow_1 : List UInt8 := dkwX0_inARow_1 ++ dktX0_inARow_2
def dkwX0_inARow_0 : List UInt8 := [3, 54, 6, 29, 54, 7, 44, 43, 44, 180, 0, 120, 29, 46, 44, 180, 0, 122, 29, 46, 21, 4, 96]
abbrev dktX0_inARow_0 : List UInt8 := dkwX0_inARow_0 ++ dktX0_inARow_1
theorem dksX0_inARow_0 : cX0_inARow.data.toList.drop 0 = dktX0_inARow_0 := by decide +kernel
theorem dksX0_inARow_1 : cX0_inARow.data.toList.drop 23 = dktX0_inARow_1 := dk_seg dksX0_inARow_0 23 rfl rfl
theorem dksX0_inARow_2 : cX0_inARow.data.toList.drop 46 = dktX0_inARow_2 := dk_seg dksX0_inARow_1 23 rfl rfl
theorem dksX0_inARow_3 : cX0_inARow.data.toList.drop 70 = dktX0_inARow_3 := dk_seg dksX0_inARow_2 24 rfl rfl
theorem dksX0_inARow_4 : cX0_inARow.data.toList.drop 94 = dktX0_inARow_4 := dk_seg dksX0_inARow_3 24 rfl rfl
theorem dX0_inARow_0 : decode cX0_inARow 0 = .ok (.iconst 0, 1) := dk_3 (dk_at dksX0_inARow_0 0 rfl rfl)
theorem dX0_inARow_1 : decode cX0_inARow 1 = .ok (.istore 6, 2) := dk_54 6 (dk_at dksX0_inARow_0 1 rfl rfl)
theorem dX0_inARow_3 : decode cX0_inARow 3 = .ok (.iload_n 3, 1) := dk_29 (dk_at dksX0_inARow_0 3 rfl rfl)
theorem dX0_inARow_4 : decode cX0_inARow 4 = .ok (.istore 7, 2) := dk_54 7 (dk_at dksX0_inARow_0 4 rfl rfl)
theorem dX0_inARow_6 : decode cX0_inARow 6 = .ok (.aload_n 2, 1) := dk_44 (dk_at dksX0_inARow_0 6 rfl rfl)
theorem dX0_inARow_7 : decode cX0_inARow 7 = .ok (.aload_n 1, 1) := dk_43 (dk_at dksX0_inARow_0 7 rfl rfl)
theorem dX0_inARow_8 : decode cX0_inARow 8 = .ok (.aload_n 2, 1) := dk_44 (dk_at dksX0_inARow_0 8 rfl rfl)
theorem dX0_inARow_9 : decode cX0_inARow 9 = .ok (.getfield 120, 3) := dk_180 0 120 (dk_at dksX0_inARow_0 9 rfl rfl)
theorem dX0_inARow_12 : decode cX0_inARow 12 = .ok (.iload_n 3, 1) := dk_29 (dk_at dksX0_inARow_0 12 rfl rfl)
theorem dX0_inARow_13 : decode cX0_inARow 13 = .ok (.iaload, 1) := dk_46 (dk_at dksX0_inARow_0 13 rfl rfl)
theorem dX0_inARow_14 : decode cX0_inARow 14 = .ok (.aload_n 2, 1) := dk_44 (dk_at dksX0_inARow_0 14 rfl rfl)
theorem dX0_inARow_15 : decode cX0_inARow 15 = .ok (.getfield 122, 3) := dk_180 0 122 (dk_at dksX0_inARow_0 15 rfl rfl)
theorem dX0_inARow_18 : decode cX0_inARow 18 = .ok (.iload_n 3, 1) := dk_29 (dk_at dksX0_inARow_0 18 rfl rfl)
theorem dX0_inARow_19 : decode cX0_inARow 19 = .ok (.iaload, 1) := dk_46 (dk_at dksX0_inARow_0 19 rfl rfl)
theorem dX0_inARow_20 : decode cX0_inARow 20 = .ok (.iload 4, 2) := dk_21 4 (dk_at dksX0_inARow_0 20 rfl rfl)
theorem dX0_inARow_22 : decode cX0_inARow 22 = .ok (.iadd, 1) := dk_96 (dk_at dksX0_inARow_0 22 rfl rfl)
theorem dX0_inARow_23 : decode cX0_inARow 23 = .ok (.invokevirtual 124, 3) := dk_182 0 124 (dk_at dksX0_inARow_1 0 rfl rfl)
theorem dX0_inARow_26 : decode cX0_inARow 26 = .ok (.istore 8, 2) := dk_54 8 (dk_at dksX0_inARow_1 3 rfl rfl)
theorem dX0_inARow_28 : decode cX0_inARow 28 = .ok (.iload 8, 2) := dk_21 8 (dk_at dksX0_inARow_1 5 rfl rfl)
theorem dX0_inARow_30 : decode cX0_inARow 30 = .ok (.ifCond .lt 73, 3) := dk_155 0 73 (dk_at dksX0_inARow_1 7 rfl rfl)
theorem dX0_inARow_33 : decode cX0_inARow 33 = .ok (.aload_n 1, 1) := dk_43 (dk_at dksX0_inARow_1 10 rfl rfl)
theorem dX0_inARow_34 : decode cX0_inARow 34 = .ok (.iload 7, 2) := dk_21 7 (dk_at dksX0_inARow_1 11 rfl rfl)
theorem dX0_inARow_36 : decode cX0_inARow 36 = .ok (.iload 8, 2) := dk_21 8 (dk_at dksX0_inARow_1 13 rfl rfl)
theorem dX0_inARow_38 : decode cX0_inARow 38 = .ok (.aload_n 0, 1) := dk_42 (dk_at dksX0_inARow_1 15 rfl rfl)
theorem dX0_inARow_39 : decode cX0_inARow 39 = .ok (.iload 7, 2) := dk_21 7 (dk_at dksX0_inARow_1 16 rfl rfl)
theorem dX0_inARow_41 : decode cX0_inARow 41 = .ok (.iconst 5, 1) := dk_8 (dk_at dksX0_inARow_1 18 rfl rfl)
theorem dX0_inARow_42 : decode cX0_inARow 42 = .ok (.invokevirtual 63, 3) := dk_182 0 63 (dk_at dksX0_inARow_1 19 rfl rfl)
theorem dX0_inARow_45 : decode cX0_inARow 45 = .ok (.aload_n 0, 1) := dk_42 (dk_at dksX0_inARow_1 22 rfl rfl)
theorem dX0_inARow_46 : decode cX0_inARow 46 = .ok (.iload 8, 2) := dk_21 8 (dk_at dksX0_inARow_2 0 rfl rfl)
theorem dX0_inARow_48 : decode cX0_inARow 48 = .ok (.iconst 5, 1) := dk_8 (dk_at dksX0_inARow_2 2 rfl rfl)
theorem dX0_inARow_49 : decode cX0_inARow 49 = .ok (.invokevirtual 63, 3) := dk_182 0 63 (dk_at dksX0_inARow_2 3 rfl rfl)
theorem dX0_inARow_52 : decode cX0_inARow 52 = .ok (.isub, 1) := dk_100 (dk_at dksX0_inARow_2 6 rfl rfl)
theorem dX0_inARow_53 : decode cX0_inARow 53 = .ok (.invokestatic 128, 3) := dk_184 0 128 (dk_at dksX0_inARow_2 7 rfl rfl)
theorem dX0_inARow_56 : decode cX0_inARow 56 = .ok (.iload 5, 2) := dk_21 5 (dk_at dksX0_inARow_2 10 rfl rfl)
theorem dX0_inARow_58 : decode cX0_inARow 58 = .ok (.invokevirtual 131, 3) := dk_182 0 131 (dk_at dksX0_inARow_2 12 rfl rfl)
theorem dX0_inARow_61 : decode cX0_inARow 61 = .ok (.ifCond .eq 42, 3) := dk_153 0 42 (dk_at dksX0_inARow_2 15 rfl rfl)
theorem dX0_inARow_64 : decode cX0_inARow 64 = .ok (.iload 6, 2) := dk_21 6 (dk_at dksX0_inARow_2 18 rfl rfl)
theorem dX0_inARow_66 : decode cX0_inARow 66 = .ok (.iconst 1, 1) := dk_4 (dk_at dksX0_inARow_2 20 rfl rfl)
theorem dX0_inARow_67 : decode cX0_inARow 67 = .ok (.iload 8, 2) := dk_21 8 (dk_at dksX0_inARow_2 21 rfl rfl)
theorem dX0_inARow_69 : decode cX0_inARow 69 = .ok (.ishl, 1) := dk_120 (dk_at dksX0_inARow_2 23 rfl rfl)
theorem dX0_inARow_70 : decode cX0_inARow 70 = .ok (.ior, 1) := dk_128 (dk_at dksX0_inARow_3 0 rfl rfl)
theorem dX0_inARow_71 : decode cX0_inARow 71 = .ok (.istore 6, 2) := dk_54 6 (dk_at dksX0_inARow_3 1 rfl rfl)
theorem dX0_inARow_73 : decode cX0_inARow 73 = .ok (.iload 8, 2) := dk_21 8 (dk_at dksX0_inARow_3 3 rfl rfl)
theorem dX0_inARow_75 : decode cX0_inARow 75 = .ok (.istore 7, 2) := dk_54 7 (dk_at dksX0_inARow_3 5 rfl rfl)
theorem dX0_inARow_77 : decode cX0_inARow 77 = .ok (.aload_n 2, 1) := dk_44 (dk_at dksX0_inARow_3 7 rfl rfl)
theorem dX0_inARow_78 : decode cX0_inARow 78 = .ok (.aload_n 1, 1) := dk_43 (dk_at dksX0_inARow_3 8 rfl rfl)
theorem dX0_inARow_79 : decode cX0_inARow 79 = .ok (.aload_n 2, 1) := dk_44 (dk_at dksX0_inARow_3 9 rfl rfl)
theorem dX0_inARow_80 : decode cX0_inARow 80 = .ok (.getfield 120, 3) := dk_180 0 120 (dk_at dksX0_inARow_3 10 rfl rfl)
theorem dX0_inARow_83 : decode cX0_inARow 83 = .ok (.iload_n 3, 1) := dk_29 (dk_at dksX0_inARow_3 13 rfl rfl)
theorem dX0_inARow_84 : decode cX0_inARow 84 = .ok (.iaload, 1) := dk_46 (dk_at dksX0_inARow_3 14 rfl rfl)
theorem dX0_inARow_85 : decode cX0_inARow 85 = .ok (.aload_n 2, 1) := dk_44 (dk_at dksX0_inARow_3 15 rfl rfl)
theorem dX0_inARow_86 : decode cX0_inARow 86 = .ok (.getfield 122, 3) := dk_180 0 122 (dk_at dksX0_inARow_3 16 rfl rfl)
theorem dX0_inARow_89 : decode cX0_inARow 89 = .ok (.iload 7, 2) := dk_21 7 (dk_at dksX0_inARow_3 19 rfl rfl)
theorem dX0_inARow_91 : decode cX0_inARow 91 = .ok (.iaload, 1) := dk_46 (dk_at dksX0_inARow_3 21 rfl rfl)
theorem dX0_inARow_92 : decode cX0_inARow 92 = .ok (.iload 4, 2) := dk_21 4 (dk_at dksX0_inARow_3 22 rfl rfl)
theorem dX0_inARow_94 : decode cX0_inARow 94 = .ok (.iadd, 1) := dk_96 (dk_at dksX0_inARow_4 0 rfl rfl)
theorem dX0_inARow_95 : decode cX0_inARow 95 = .ok (.invokevirtual 124, 3) := dk_182 0 124 (dk_at dksX0_inARow_4 1 rfl rfl)
theorem dX0_inARow_98 : decode cX0_inARow 98 = .ok (.istore 8, 2) := dk_54 8 (dk_at dksX0_inARow_4 4 rfl rfl)
theorem dX0_inARow_100 : decode cX0_inARow 100 = .ok (.goto (-72), 3) := dk_167 255 184 (dk_at dksX0_inARow_4 6 rfl rfl)
theorem dX0_inARow_103 : decode cX0_inARow 103 = .ok (.iload 6, 2) := dk_21 6 (dk_at dksX0_inARow_4 9 rfl rfl)
theorem dX0_inARow_105 : decode cX0_inARow 105 = .ok (.ireturn, 1) := dk_172 (dk_at dksX0_inARow_4 11 rfl rfl)
abbrev cX0_byTheSeed : ByteArray := method_25_code
def yX0_byTheSeed : MethodName := ⟨RX0, "byTheSeed", "(LKilnBench;LKilnBenchLaw$All;LKilnBenchLaw$Ahead;)Z"⟩
def dkwX0_byTheSeed_7 : List UInt8 := [153, 0, 13, 42, 16, 11, 182, 0, 73, 29, 159, 0, 5, 3, 172, 132, 9, 1, 167, 255, 151, 4, 172]
abbrev dktX0_byTheSeed_7 : List UInt8 := dkwX0_byTheSeed_7 ++ []
def dkwX0_byTheSeed_6 : List UInt8 := [2, 182, 0, 191, 153, 0, 32, 42, 16, 11, 182, 0, 73, 21, 8, 160, 0, 21, 42, 29, 182, 1, 4]
abbrev dktX0_byTheSeed_6 : List UInt8 := dkwX0_byTheSeed_6 ++ dktX0_byTheSeed_7
def dkwX0_byTheSeed_5 : List UInt8 := [184, 0, 240, 154, 0, 5, 3, 172, 21, 9, 154, 0, 52, 42, 182, 0, 244, 153, 0, 43, 44, 42, 43, 2]
abbrev dktX0_byTheSeed_5 : List UInt8 := dkwX0_byTheSeed_5 ++ dktX0_byTheSeed_6
def dkwX0_byTheSeed_4 : List UInt8 := [167, 0, 4, 3, 160, 0, 25, 42, 16, 11, 182, 0, 73, 21, 8, 160, 0, 14, 42, 43, 44, 21, 7]
abbrev dktX0_byTheSeed_4 : List UInt8 := dkwX0_byTheSeed_4 ++ dktX0_byTheSeed_5
def dkwX0_byTheSeed_3 : List UInt8 := [21, 4, 54, 8, 3, 54, 9, 21, 9, 5, 162, 0, 105, 42, 4, 182, 1, 1, 21, 6, 153, 0, 7, 4]
abbrev dktX0_byTheSeed_3 : List UInt8 := dkwX0_byTheSeed_3 ++ dktX0_byTheSeed_4
def dkwX0_byTheSeed_2 : List UInt8 := [21, 5, 16, 64, 108, 6, 112, 96, 167, 0, 4, 3, 54, 7, 21, 6, 153, 0, 8, 21, 5, 167, 0, 5]
abbrev dktX0_byTheSeed_2 : List UInt8 := dkwX0_byTheSeed_2 ++ dktX0_byTheSeed_3
def dkwX0_byTheSeed_1 : List UInt8 := [108, 16, 100, 112, 43, 180, 0, 154, 162, 0, 7, 4, 167, 0, 4, 3, 54, 6, 21, 6, 153, 0, 15, 4]
abbrev dktX0_byTheSeed_1 : List UInt8 := dkwX0_byTheSeed_1 ++ dktX0_byTheSeed_2
def dkwX0_byTheSeed_0 : List UInt8 := [42, 16, 11, 182, 0, 73, 62, 29, 184, 0, 254, 54, 4, 21, 4, 184, 0, 254, 54, 5, 21, 4, 16, 64]
abbrev dktX0_byTheSeed_0 : List UInt8 := dkwX0_byTheSeed_0 ++ dktX0_byTheSeed_1
theorem dksX0_byTheSeed_0 : cX0_byTheSeed.data.toList.drop 0 = dktX0_byTheSeed_0 := by decide +kernel
theorem dksX0_byTheSeed_1 : cX0_byTheSeed.data.toList.drop 24 = dktX0_byTheSeed_1 := dk_seg dksX0_byTheSeed_0 24 rfl rfl
theorem dksX0_byTheSeed_2 : cX0_byTheSeed.data.toList.drop 48 = dktX0_byTheSeed_2 := dk_seg dksX0_byTheSeed_1 24 rfl rfl
theorem dksX0_byTheSeed_3 : cX0_byTheSeed.data.toList.drop 72 = dktX0_byTheSeed_3 := dk_seg dksX0_byTheSeed_2 24 rfl rfl
theorem dksX0_byTheSeed_4 : cX0_byTheSeed.data.toList.drop 96 = dktX0_byTheSeed_4 := dk_seg dksX0_byTheSeed_3 24 rfl rfl
theorem dksX0_byTheSeed_5 : cX0_byTheSeed.data.toList.drop 119 = dktX0_byTheSeed_5 := dk_seg dksX0_byTheSeed_4 23 rfl rfl
theorem dksX0_byTheSeed_6 : cX0_byTheSeed.data.toList.drop 143 = dktX0_byTheSeed_6 := dk_seg dksX0_byTheSeed_5 24 rfl rfl
theorem dksX0_byTheSeed_7 : cX0_byTheSeed.data.toList.drop 166 = dktX0_byTheSeed_7 := dk_seg dksX0_byTheSeed_6 23 rfl rfl
theorem dX0_byTheSeed_0 : decode cX0_byTheSeed 0 = .ok (.aload_n 0, 1) := dk_42 (dk_at dksX0_byTheSeed_0 0 rfl rfl)
theorem dX0_byTheSeed_1 : decode cX0_byTheSeed 1 = .ok (.bipush 11, 2) := dk_16 11 (dk_at dksX0_byTheSeed_0 1 rfl rfl)
theorem dX0_byTheSeed_3 : decode cX0_byTheSeed 3 = .ok (.invokevirtual 73, 3) := dk_182 0 73 (dk_at dksX0_byTheSeed_0 3 rfl rfl)
theorem dX0_byTheSeed_6 : decode cX0_byTheSeed 6 = .ok (.istore_n 3, 1) := dk_62 (dk_at dksX0_byTheSeed_0 6 rfl rfl)
theorem dX0_byTheSeed_7 : decode cX0_byTheSeed 7 = .ok (.iload_n 3, 1) := dk_29 (dk_at dksX0_byTheSeed_0 7 rfl rfl)
theorem dX0_byTheSeed_8 : decode cX0_byTheSeed 8 = .ok (.invokestatic 254, 3) := dk_184 0 254 (dk_at dksX0_byTheSeed_0 8 rfl rfl)
theorem dX0_byTheSeed_11 : decode cX0_byTheSeed 11 = .ok (.istore 4, 2) := dk_54 4 (dk_at dksX0_byTheSeed_0 11 rfl rfl)
theorem dX0_byTheSeed_13 : decode cX0_byTheSeed 13 = .ok (.iload 4, 2) := dk_21 4 (dk_at dksX0_byTheSeed_0 13 rfl rfl)
theorem dX0_byTheSeed_15 : decode cX0_byTheSeed 15 = .ok (.invokestatic 254, 3) := dk_184 0 254 (dk_at dksX0_byTheSeed_0 15 rfl rfl)
theorem dX0_byTheSeed_18 : decode cX0_byTheSeed 18 = .ok (.istore 5, 2) := dk_54 5 (dk_at dksX0_byTheSeed_0 18 rfl rfl)
theorem dX0_byTheSeed_20 : decode cX0_byTheSeed 20 = .ok (.iload 4, 2) := dk_21 4 (dk_at dksX0_byTheSeed_0 20 rfl rfl)
theorem dX0_byTheSeed_22 : decode cX0_byTheSeed 22 = .ok (.bipush 64, 2) := dk_16 64 (dk_at dksX0_byTheSeed_0 22 rfl rfl)
theorem dX0_byTheSeed_24 : decode cX0_byTheSeed 24 = .ok (.idiv, 1) := dk_108 (dk_at dksX0_byTheSeed_1 0 rfl rfl)
theorem dX0_byTheSeed_25 : decode cX0_byTheSeed 25 = .ok (.bipush 100, 2) := dk_16 100 (dk_at dksX0_byTheSeed_1 1 rfl rfl)
theorem dX0_byTheSeed_27 : decode cX0_byTheSeed 27 = .ok (.irem, 1) := dk_112 (dk_at dksX0_byTheSeed_1 3 rfl rfl)
theorem dX0_byTheSeed_28 : decode cX0_byTheSeed 28 = .ok (.aload_n 1, 1) := dk_43 (dk_at dksX0_byTheSeed_1 4 rfl rfl)
theorem dX0_byTheSeed_29 : decode cX0_byTheSeed 29 = .ok (.getfield 154, 3) := dk_180 0 154 (dk_at dksX0_byTheSeed_1 5 rfl rfl)
theorem dX0_byTheSeed_32 : decode cX0_byTheSeed 32 = .ok (.if_icmp .ge 7, 3) := dk_162 0 7 (dk_at dksX0_byTheSeed_1 8 rfl rfl)
theorem dX0_byTheSeed_35 : decode cX0_byTheSeed 35 = .ok (.iconst 1, 1) := dk_4 (dk_at dksX0_byTheSeed_1 11 rfl rfl)
theorem dX0_byTheSeed_36 : decode cX0_byTheSeed 36 = .ok (.goto 4, 3) := dk_167 0 4 (dk_at dksX0_byTheSeed_1 12 rfl rfl)
theorem dX0_byTheSeed_39 : decode cX0_byTheSeed 39 = .ok (.iconst 0, 1) := dk_3 (dk_at dksX0_byTheSeed_1 15 rfl rfl)
theorem dX0_byTheSeed_40 : decode cX0_byTheSeed 40 = .ok (.istore 6, 2) := dk_54 6 (dk_at dksX0_byTheSeed_1 16 rfl rfl)
theorem dX0_byTheSeed_42 : decode cX0_byTheSeed 42 = .ok (.iload 6, 2) := dk_21 6 (dk_at dksX0_byTheSeed_1 18 rfl rfl)
theorem dX0_byTheSeed_44 : decode cX0_byTheSeed 44 = .ok (.ifCond .eq 15, 3) := dk_153 0 15 (dk_at dksX0_byTheSeed_1 20 rfl rfl)
theorem dX0_byTheSeed_47 : decode cX0_byTheSeed 47 = .ok (.iconst 1, 1) := dk_4 (dk_at dksX0_byTheSeed_1 23 rfl rfl)
theorem dX0_byTheSeed_48 : decode cX0_byTheSeed 48 = .ok (.iload 5, 2) := dk_21 5 (dk_at dksX0_byTheSeed_2 0 rfl rfl)
theorem dX0_byTheSeed_50 : decode cX0_byTheSeed 50 = .ok (.bipush 64, 2) := dk_16 64 (dk_at dksX0_byTheSeed_2 2 rfl rfl)
theorem dX0_byTheSeed_52 : decode cX0_byTheSeed 52 = .ok (.idiv, 1) := dk_108 (dk_at dksX0_byTheSeed_2 4 rfl rfl)
theorem dX0_byTheSeed_53 : decode cX0_byTheSeed 53 = .ok (.iconst 3, 1) := dk_6 (dk_at dksX0_byTheSeed_2 5 rfl rfl)
theorem dX0_byTheSeed_54 : decode cX0_byTheSeed 54 = .ok (.irem, 1) := dk_112 (dk_at dksX0_byTheSeed_2 6 rfl rfl)
theorem dX0_byTheSeed_55 : decode cX0_byTheSeed 55 = .ok (.iadd, 1) := dk_96 (dk_at dksX0_byTheSeed_2 7 rfl rfl)
theorem dX0_byTheSeed_56 : decode cX0_byTheSeed 56 = .ok (.goto 4, 3) := dk_167 0 4 (dk_at dksX0_byTheSeed_2 8 rfl rfl)
theorem dX0_byTheSeed_59 : decode cX0_byTheSeed 59 = .ok (.iconst 0, 1) := dk_3 (dk_at dksX0_byTheSeed_2 11 rfl rfl)
theorem dX0_byTheSeed_60 : decode cX0_byTheSeed 60 = .ok (.istore 7, 2) := dk_54 7 (dk_at dksX0_byTheSeed_2 12 rfl rfl)
theorem dX0_byTheSeed_62 : decode cX0_byTheSeed 62 = .ok (.iload 6, 2) := dk_21 6 (dk_at dksX0_byTheSeed_2 14 rfl rfl)
theorem dX0_byTheSeed_64 : decode cX0_byTheSeed 64 = .ok (.ifCond .eq 8, 3) := dk_153 0 8 (dk_at dksX0_byTheSeed_2 16 rfl rfl)
theorem dX0_byTheSeed_67 : decode cX0_byTheSeed 67 = .ok (.iload 5, 2) := dk_21 5 (dk_at dksX0_byTheSeed_2 19 rfl rfl)
theorem dX0_byTheSeed_69 : decode cX0_byTheSeed 69 = .ok (.goto 5, 3) := dk_167 0 5 (dk_at dksX0_byTheSeed_2 21 rfl rfl)
theorem dX0_byTheSeed_72 : decode cX0_byTheSeed 72 = .ok (.iload 4, 2) := dk_21 4 (dk_at dksX0_byTheSeed_3 0 rfl rfl)
theorem dX0_byTheSeed_74 : decode cX0_byTheSeed 74 = .ok (.istore 8, 2) := dk_54 8 (dk_at dksX0_byTheSeed_3 2 rfl rfl)
theorem dX0_byTheSeed_76 : decode cX0_byTheSeed 76 = .ok (.iconst 0, 1) := dk_3 (dk_at dksX0_byTheSeed_3 4 rfl rfl)
theorem dX0_byTheSeed_77 : decode cX0_byTheSeed 77 = .ok (.istore 9, 2) := dk_54 9 (dk_at dksX0_byTheSeed_3 5 rfl rfl)
theorem dX0_byTheSeed_79 : decode cX0_byTheSeed 79 = .ok (.iload 9, 2) := dk_21 9 (dk_at dksX0_byTheSeed_3 7 rfl rfl)
theorem dX0_byTheSeed_81 : decode cX0_byTheSeed 81 = .ok (.iconst 2, 1) := dk_5 (dk_at dksX0_byTheSeed_3 9 rfl rfl)
theorem dX0_byTheSeed_82 : decode cX0_byTheSeed 82 = .ok (.if_icmp .ge 105, 3) := dk_162 0 105 (dk_at dksX0_byTheSeed_3 10 rfl rfl)
theorem dX0_byTheSeed_85 : decode cX0_byTheSeed 85 = .ok (.aload_n 0, 1) := dk_42 (dk_at dksX0_byTheSeed_3 13 rfl rfl)
theorem dX0_byTheSeed_86 : decode cX0_byTheSeed 86 = .ok (.iconst 1, 1) := dk_4 (dk_at dksX0_byTheSeed_3 14 rfl rfl)
theorem dX0_byTheSeed_87 : decode cX0_byTheSeed 87 = .ok (.invokevirtual 257, 3) := dk_182 1 1 (dk_at dksX0_byTheSeed_3 15 rfl rfl)
theorem dX0_byTheSeed_90 : decode cX0_byTheSeed 90 = .ok (.iload 6, 2) := dk_21 6 (dk_at dksX0_byTheSeed_3 18 rfl rfl)
theorem dX0_byTheSeed_92 : decode cX0_byTheSeed 92 = .ok (.ifCond .eq 7, 3) := dk_153 0 7 (dk_at dksX0_byTheSeed_3 20 rfl rfl)
theorem dX0_byTheSeed_95 : decode cX0_byTheSeed 95 = .ok (.iconst 1, 1) := dk_4 (dk_at dksX0_byTheSeed_3 23 rfl rfl)
theorem dX0_byTheSeed_96 : decode cX0_byTheSeed 96 = .ok (.goto 4, 3) := dk_167 0 4 (dk_at dksX0_byTheSeed_4 0 rfl rfl)
theorem dX0_byTheSeed_99 : decode cX0_byTheSeed 99 = .ok (.iconst 0, 1) := dk_3 (dk_at dksX0_byTheSeed_4 3 rfl rfl)
theorem dX0_byTheSeed_100 : decode cX0_byTheSeed 100 = .ok (.if_icmp .ne 25, 3) := dk_160 0 25 (dk_at dksX0_byTheSeed_4 4 rfl rfl)
theorem dX0_byTheSeed_103 : decode cX0_byTheSeed 103 = .ok (.aload_n 0, 1) := dk_42 (dk_at dksX0_byTheSeed_4 7 rfl rfl)
theorem dX0_byTheSeed_104 : decode cX0_byTheSeed 104 = .ok (.bipush 11, 2) := dk_16 11 (dk_at dksX0_byTheSeed_4 8 rfl rfl)
theorem dX0_byTheSeed_106 : decode cX0_byTheSeed 106 = .ok (.invokevirtual 73, 3) := dk_182 0 73 (dk_at dksX0_byTheSeed_4 10 rfl rfl)
theorem dX0_byTheSeed_109 : decode cX0_byTheSeed 109 = .ok (.iload 8, 2) := dk_21 8 (dk_at dksX0_byTheSeed_4 13 rfl rfl)
theorem dX0_byTheSeed_111 : decode cX0_byTheSeed 111 = .ok (.if_icmp .ne 14, 3) := dk_160 0 14 (dk_at dksX0_byTheSeed_4 15 rfl rfl)
theorem dX0_byTheSeed_114 : decode cX0_byTheSeed 114 = .ok (.aload_n 0, 1) := dk_42 (dk_at dksX0_byTheSeed_4 18 rfl rfl)
theorem dX0_byTheSeed_115 : decode cX0_byTheSeed 115 = .ok (.aload_n 1, 1) := dk_43 (dk_at dksX0_byTheSeed_4 19 rfl rfl)
theorem dX0_byTheSeed_116 : decode cX0_byTheSeed 116 = .ok (.aload_n 2, 1) := dk_44 (dk_at dksX0_byTheSeed_4 20 rfl rfl)
theorem dX0_byTheSeed_117 : decode cX0_byTheSeed 117 = .ok (.iload 7, 2) := dk_21 7 (dk_at dksX0_byTheSeed_4 21 rfl rfl)
theorem dX0_byTheSeed_119 : decode cX0_byTheSeed 119 = .ok (.invokestatic 240, 3) := dk_184 0 240 (dk_at dksX0_byTheSeed_5 0 rfl rfl)
theorem dX0_byTheSeed_122 : decode cX0_byTheSeed 122 = .ok (.ifCond .ne 5, 3) := dk_154 0 5 (dk_at dksX0_byTheSeed_5 3 rfl rfl)
theorem dX0_byTheSeed_125 : decode cX0_byTheSeed 125 = .ok (.iconst 0, 1) := dk_3 (dk_at dksX0_byTheSeed_5 6 rfl rfl)
theorem dX0_byTheSeed_126 : decode cX0_byTheSeed 126 = .ok (.ireturn, 1) := dk_172 (dk_at dksX0_byTheSeed_5 7 rfl rfl)
theorem dX0_byTheSeed_127 : decode cX0_byTheSeed 127 = .ok (.iload 9, 2) := dk_21 9 (dk_at dksX0_byTheSeed_5 8 rfl rfl)
theorem dX0_byTheSeed_129 : decode cX0_byTheSeed 129 = .ok (.ifCond .ne 52, 3) := dk_154 0 52 (dk_at dksX0_byTheSeed_5 10 rfl rfl)
theorem dX0_byTheSeed_132 : decode cX0_byTheSeed 132 = .ok (.aload_n 0, 1) := dk_42 (dk_at dksX0_byTheSeed_5 13 rfl rfl)
theorem dX0_byTheSeed_133 : decode cX0_byTheSeed 133 = .ok (.invokevirtual 244, 3) := dk_182 0 244 (dk_at dksX0_byTheSeed_5 14 rfl rfl)
theorem dX0_byTheSeed_136 : decode cX0_byTheSeed 136 = .ok (.ifCond .eq 43, 3) := dk_153 0 43 (dk_at dksX0_byTheSeed_5 17 rfl rfl)
theorem dX0_byTheSeed_139 : decode cX0_byTheSeed 139 = .ok (.aload_n 2, 1) := dk_44 (dk_at dksX0_byTheSeed_5 20 rfl rfl)
theorem dX0_byTheSeed_140 : decode cX0_byTheSeed 140 = .ok (.aload_n 0, 1) := dk_42 (dk_at dksX0_byTheSeed_5 21 rfl rfl)
theorem dX0_byTheSeed_141 : decode cX0_byTheSeed 141 = .ok (.aload_n 1, 1) := dk_43 (dk_at dksX0_byTheSeed_5 22 rfl rfl)
theorem dX0_byTheSeed_142 : decode cX0_byTheSeed 142 = .ok (.iconst (-1), 1) := dk_2 (dk_at dksX0_byTheSeed_5 23 rfl rfl)
theorem dX0_byTheSeed_143 : decode cX0_byTheSeed 143 = .ok (.iconst (-1), 1) := dk_2 (dk_at dksX0_byTheSeed_6 0 rfl rfl)
theorem dX0_byTheSeed_144 : decode cX0_byTheSeed 144 = .ok (.invokevirtual 191, 3) := dk_182 0 191 (dk_at dksX0_byTheSeed_6 1 rfl rfl)
theorem dX0_byTheSeed_147 : decode cX0_byTheSeed 147 = .ok (.ifCond .eq 32, 3) := dk_153 0 32 (dk_at dksX0_byTheSeed_6 4 rfl rfl)
theorem dX0_byTheSeed_150 : decode cX0_byTheSeed 150 = .ok (.aload_n 0, 1) := dk_42 (dk_at dksX0_byTheSeed_6 7 rfl rfl)
theorem dX0_byTheSeed_151 : decode cX0_byTheSeed 151 = .ok (.bipush 11, 2) := dk_16 11 (dk_at dksX0_byTheSeed_6 8 rfl rfl)
theorem dX0_byTheSeed_153 : decode cX0_byTheSeed 153 = .ok (.invokevirtual 73, 3) := dk_182 0 73 (dk_at dksX0_byTheSeed_6 10 rfl rfl)
theorem dX0_byTheSeed_156 : decode cX0_byTheSeed 156 = .ok (.iload 8, 2) := dk_21 8 (dk_at dksX0_byTheSeed_6 13 rfl rfl)
theorem dX0_byTheSeed_158 : decode cX0_byTheSeed 158 = .ok (.if_icmp .ne 21, 3) := dk_160 0 21 (dk_at dksX0_byTheSeed_6 15 rfl rfl)
theorem dX0_byTheSeed_161 : decode cX0_byTheSeed 161 = .ok (.aload_n 0, 1) := dk_42 (dk_at dksX0_byTheSeed_6 18 rfl rfl)
theorem dX0_byTheSeed_162 : decode cX0_byTheSeed 162 = .ok (.iload_n 3, 1) := dk_29 (dk_at dksX0_byTheSeed_6 19 rfl rfl)
theorem dX0_byTheSeed_163 : decode cX0_byTheSeed 163 = .ok (.invokevirtual 260, 3) := dk_182 1 4 (dk_at dksX0_byTheSeed_6 20 rfl rfl)
theorem dX0_byTheSeed_166 : decode cX0_byTheSeed 166 = .ok (.ifCond .eq 13, 3) := dk_153 0 13 (dk_at dksX0_byTheSeed_7 0 rfl rfl)
theorem dX0_byTheSeed_169 : decode cX0_byTheSeed 169 = .ok (.aload_n 0, 1) := dk_42 (dk_at dksX0_byTheSeed_7 3 rfl rfl)
theorem dX0_byTheSeed_170 : decode cX0_byTheSeed 170 = .ok (.bipush 11, 2) := dk_16 11 (dk_at dksX0_byTheSeed_7 4 rfl rfl)
theorem dX0_byTheSeed_172 : decode cX0_byTheSeed 172 = .ok (.invokevirtual 73, 3) := dk_182 0 73 (dk_at dksX0_byTheSeed_7 6 rfl rfl)
theorem dX0_byTheSeed_175 : decode cX0_byTheSeed 175 = .ok (.iload_n 3, 1) := dk_29 (dk_at dksX0_byTheSeed_7 9 rfl rfl)
theorem dX0_byTheSeed_176 : decode cX0_byTheSeed 176 = .ok (.if_icmp .eq 5, 3) := dk_159 0 5 (dk_at dksX0_byTheSeed_7 10 rfl rfl)
theorem dX0_byTheSeed_179 : decode cX0_byTheSeed 179 = .ok (.iconst 0, 1) := dk_3 (dk_at dksX0_byTheSeed_7 13 rfl rfl)
theorem dX0_byTheSeed_180 : decode cX0_byTheSeed 180 = .ok (.ireturn, 1) := dk_172 (dk_at dksX0_byTheSeed_7 14 rfl rfl)
theorem dX0_byTheSeed_181 : decode cX0_byTheSeed 181 = .ok (.iinc 9 1, 3) := dk_132 9 1 (dk_at dksX0_byTheSeed_7 15 rfl rfl)
theorem dX0_byTheSeed_184 : decode cX0_byTheSeed 184 = .ok (.goto (-105), 3) := dk_167 255 151 (dk_at dksX0_byTheSeed_7 18 rfl rfl)
theorem dX0_byTheSeed_187 : decode cX0_byTheSeed 187 = .ok (.iconst 1, 1) := dk_4 (dk_at dksX0_byTheSeed_7 21 rfl rfl)
theorem dX0_byTheSeed_188 : decode cX0_byTheSeed 188 = .ok (.ireturn, 1) := dk_172 (dk_at dksX0_byTheSeed_7 22 rfl rfl)
abbrev cX0_drawn : ByteArray := method_24_code
def yX0_drawn : MethodName := ⟨RX0, "drawn", "(I)I"⟩
def dkwX0_drawn_0 : List UInt8 := [20, 0, 248, 26, 133, 105, 20, 0, 250, 97, 20, 0, 252, 113, 136, 172]
abbrev dktX0_drawn_0 : List UInt8 := dkwX0_drawn_0 ++ []
theorem dksX0_drawn_0 : cX0_drawn.data.toList.drop 0 = dktX0_drawn_0 := by decide +kernel
theorem dX0_drawn_0 : decode cX0_drawn 0 = .ok (.ldc2_w 248, 3) := dk_20 0 248 (dk_at dksX0_drawn_0 0 rfl rfl)
theorem dX0_drawn_3 : decode cX0_drawn 3 = .ok (.iload_n 0, 1) := dk_26 (dk_at dksX0_drawn_0 3 rfl rfl)
theorem dX0_drawn_4 : decode cX0_drawn 4 = .ok (.i2l, 1) := dk_133 (dk_at dksX0_drawn_0 4 rfl rfl)
theorem dX0_drawn_5 : decode cX0_drawn 5 = .ok (.lmul, 1) := dk_105 (dk_at dksX0_drawn_0 5 rfl rfl)
theorem dX0_drawn_6 : decode cX0_drawn 6 = .ok (.ldc2_w 250, 3) := dk_20 0 250 (dk_at dksX0_drawn_0 6 rfl rfl)
theorem dX0_drawn_9 : decode cX0_drawn 9 = .ok (.ladd, 1) := dk_97 (dk_at dksX0_drawn_0 9 rfl rfl)
theorem dX0_drawn_10 : decode cX0_drawn 10 = .ok (.ldc2_w 252, 3) := dk_20 0 252 (dk_at dksX0_drawn_0 10 rfl rfl)
theorem dX0_drawn_13 : decode cX0_drawn 13 = .ok (.lrem, 1) := dk_113 (dk_at dksX0_drawn_0 13 rfl rfl)
theorem dX0_drawn_14 : decode cX0_drawn 14 = .ok (.l2i, 1) := dk_136 (dk_at dksX0_drawn_0 14 rfl rfl)
theorem dX0_drawn_15 : decode cX0_drawn 15 = .ok (.ireturn, 1) := dk_172 (dk_at dksX0_drawn_0 15 rfl rfl)
abbrev cX0_someWeeks : ByteArray := method_26_code
def yX0_someWeeks : MethodName := ⟨RX0, "someWeeks", "(LKilnBench;LKilnBenchLaw$All;LKilnBenchLaw$Ahead;I)Z"⟩
def dkwX0_someWeeks_19 : List UInt8 := [132, 7, 1, 167, 254, 167, 4, 172]
abbrev dktX0_someWeeks_19 : List UInt8 := dkwX0_someWeeks_19 ++ []
def dkwX0_someWeeks_18 : List UInt8 := [154, 0, 23, 42, 182, 0, 244, 153, 0, 14, 44, 42, 43, 2, 2, 182, 0, 191, 154, 0, 5, 3, 172]
abbrev dktX0_someWeeks_18 : List UInt8 := dkwX0_someWeeks_18 ++ dktX0_someWeeks_19
def dkwX0_someWeeks_17 : List UInt8 := [21, 9, 8, 182, 0, 63, 25, 4, 21, 9, 46, 159, 0, 5, 3, 172, 132, 9, 1, 167, 255, 227, 21, 7]
abbrev dktX0_someWeeks_17 : List UInt8 := dkwX0_someWeeks_17 ++ dktX0_someWeeks_18
def dkwX0_someWeeks_16 : List UInt8 := [159, 0, 5, 3, 172, 132, 9, 1, 167, 255, 162, 3, 54, 9, 21, 9, 43, 180, 0, 60, 162, 0, 26, 42]
abbrev dktX0_someWeeks_16 : List UInt8 := dkwX0_someWeeks_16 ++ dktX0_someWeeks_17
def dkwX0_someWeeks_15 : List UInt8 := [21, 9, 5, 182, 0, 80, 21, 10, 153, 0, 7, 2, 167, 0, 10, 44, 180, 0, 149, 21, 9, 46]
abbrev dktX0_someWeeks_15 : List UInt8 := dkwX0_someWeeks_15 ++ dktX0_someWeeks_16
def dkwX0_someWeeks_14 : List UInt8 := [4, 182, 0, 80, 21, 10, 153, 0, 7, 3, 167, 0, 10, 44, 180, 0, 115, 21, 9, 46, 160, 0, 29, 42]
abbrev dktX0_someWeeks_14 : List UInt8 := dkwX0_someWeeks_14 ++ dktX0_someWeeks_15
def dkwX0_someWeeks_13 : List UInt8 := [155, 0, 18, 44, 180, 0, 160, 21, 9, 46, 29, 162, 0, 7, 4, 167, 0, 4, 3, 54, 10, 42, 21, 9]
abbrev dktX0_someWeeks_13 : List UInt8 := dkwX0_someWeeks_13 ++ dktX0_someWeeks_14
def dkwX0_someWeeks_12 : List UInt8 := [167, 255, 152, 3, 54, 9, 21, 9, 43, 180, 0, 54, 162, 0, 91, 44, 180, 0, 160, 21, 9, 46]
abbrev dktX0_someWeeks_12 : List UInt8 := dkwX0_someWeeks_12 ++ dktX0_someWeeks_13
def dkwX0_someWeeks_11 : List UInt8 := [182, 0, 204, 44, 180, 0, 149, 21, 10, 46, 159, 0, 5, 3, 172, 21, 11, 54, 8, 132, 9, 1]
abbrev dktX0_someWeeks_11 : List UInt8 := dkwX0_someWeeks_11 ++ dktX0_someWeeks_12
def dkwX0_someWeeks_10 : List UInt8 := [182, 0, 204, 44, 180, 0, 207, 44, 180, 0, 160, 21, 10, 46, 96, 160, 0, 20, 42, 21, 9, 5]
abbrev dktX0_someWeeks_10 : List UInt8 := dkwX0_someWeeks_10 ++ dktX0_someWeeks_11
def dkwX0_someWeeks_9 : List UInt8 := [155, 0, 58, 21, 10, 43, 180, 0, 54, 162, 0, 49, 21, 11, 21, 8, 164, 0, 42, 42, 21, 9, 3]
abbrev dktX0_someWeeks_9 : List UInt8 := dkwX0_someWeeks_9 ++ dktX0_someWeeks_10
def dkwX0_someWeeks_8 : List UInt8 := [21, 9, 4, 182, 0, 204, 54, 10, 6, 42, 21, 9, 3, 182, 0, 204, 104, 21, 10, 96, 54, 11, 21, 10]
abbrev dktX0_someWeeks_8 : List UInt8 := dkwX0_someWeeks_8 ++ dktX0_someWeeks_9
def dkwX0_someWeeks_7 : List UInt8 := [172, 2, 54, 8, 44, 180, 0, 199, 54, 9, 21, 9, 44, 180, 0, 199, 21, 6, 96, 162, 0, 98, 42]
abbrev dktX0_someWeeks_7 : List UInt8 := dkwX0_someWeeks_7 ++ dktX0_someWeeks_8
def dkwX0_someWeeks_6 : List UInt8 := [16, 8, 182, 0, 73, 44, 180, 0, 199, 21, 6, 96, 160, 0, 11, 44, 42, 182, 0, 221, 154, 0, 5, 3]
abbrev dktX0_someWeeks_6 : List UInt8 := dkwX0_someWeeks_6 ++ dktX0_someWeeks_7
def dkwX0_someWeeks_5 : List UInt8 := [182, 0, 73, 21, 5, 160, 0, 41, 42, 5, 182, 0, 73, 44, 180, 0, 207, 29, 96, 160, 0, 27, 42]
abbrev dktX0_someWeeks_5 : List UInt8 := dkwX0_someWeeks_5 ++ dktX0_someWeeks_6
def dkwX0_someWeeks_4 : List UInt8 := [167, 255, 232, 3, 54, 7, 21, 7, 5, 162, 1, 89, 42, 29, 182, 0, 237, 21, 6, 160, 0, 51, 42, 6]
abbrev dktX0_someWeeks_4 : List UInt8 := dkwX0_someWeeks_4 ++ dktX0_someWeeks_5
def dkwX0_someWeeks_3 : List UInt8 := [43, 180, 0, 60, 162, 0, 21, 25, 4, 21, 7, 42, 21, 7, 29, 182, 1, 9, 79, 132, 7, 1]
abbrev dktX0_someWeeks_3 : List UInt8 := dkwX0_someWeeks_3 ++ dktX0_someWeeks_4
def dkwX0_someWeeks_2 : List UInt8 := [46, 29, 162, 0, 7, 4, 167, 0, 4, 3, 96, 54, 6, 132, 7, 1, 167, 255, 213, 3, 54, 7, 21, 7]
abbrev dktX0_someWeeks_2 : List UInt8 := dkwX0_someWeeks_2 ++ dktX0_someWeeks_3
def dkwX0_someWeeks_1 : List UInt8 := [180, 0, 54, 162, 0, 40, 21, 6, 44, 180, 0, 160, 21, 7, 46, 155, 0, 18, 44, 180, 0, 160, 21, 7]
abbrev dktX0_someWeeks_1 : List UInt8 := dkwX0_someWeeks_1 ++ dktX0_someWeeks_2
def dkwX0_someWeeks_0 : List UInt8 := [16, 6, 188, 10, 58, 4, 42, 29, 182, 1, 7, 54, 5, 3, 54, 6, 3, 54, 7, 21, 7, 43]
abbrev dktX0_someWeeks_0 : List UInt8 := dkwX0_someWeeks_0 ++ dktX0_someWeeks_1
theorem dksX0_someWeeks_0 : cX0_someWeeks.data.toList.drop 0 = dktX0_someWeeks_0 := by decide +kernel
theorem dksX0_someWeeks_1 : cX0_someWeeks.data.toList.drop 22 = dktX0_someWeeks_1 := dk_seg dksX0_someWeeks_0 22 rfl rfl
theorem dksX0_someWeeks_2 : cX0_someWeeks.data.toList.drop 46 = dktX0_someWeeks_2 := dk_seg dksX0_someWeeks_1 24 rfl rfl
theorem dksX0_someWeeks_3 : cX0_someWeeks.data.toList.drop 70 = dktX0_someWeeks_3 := dk_seg dksX0_someWeeks_2 24 rfl rfl
theorem dksX0_someWeeks_4 : cX0_someWeeks.data.toList.drop 92 = dktX0_someWeeks_4 := dk_seg dksX0_someWeeks_3 22 rfl rfl
theorem dksX0_someWeeks_5 : cX0_someWeeks.data.toList.drop 116 = dktX0_someWeeks_5 := dk_seg dksX0_someWeeks_4 24 rfl rfl
theorem dksX0_someWeeks_6 : cX0_someWeeks.data.toList.drop 139 = dktX0_someWeeks_6 := dk_seg dksX0_someWeeks_5 23 rfl rfl
theorem dksX0_someWeeks_7 : cX0_someWeeks.data.toList.drop 163 = dktX0_someWeeks_7 := dk_seg dksX0_someWeeks_6 24 rfl rfl
theorem dksX0_someWeeks_8 : cX0_someWeeks.data.toList.drop 186 = dktX0_someWeeks_8 := dk_seg dksX0_someWeeks_7 23 rfl rfl
theorem dksX0_someWeeks_9 : cX0_someWeeks.data.toList.drop 210 = dktX0_someWeeks_9 := dk_seg dksX0_someWeeks_8 24 rfl rfl
theorem dksX0_someWeeks_10 : cX0_someWeeks.data.toList.drop 233 = dktX0_someWeeks_10 := dk_seg dksX0_someWeeks_9 23 rfl rfl
theorem dksX0_someWeeks_11 : cX0_someWeeks.data.toList.drop 255 = dktX0_someWeeks_11 := dk_seg dksX0_someWeeks_10 22 rfl rfl
theorem dksX0_someWeeks_12 : cX0_someWeeks.data.toList.drop 277 = dktX0_someWeeks_12 := dk_seg dksX0_someWeeks_11 22 rfl rfl
theorem dksX0_someWeeks_13 : cX0_someWeeks.data.toList.drop 299 = dktX0_someWeeks_13 := dk_seg dksX0_someWeeks_12 22 rfl rfl
theorem dksX0_someWeeks_14 : cX0_someWeeks.data.toList.drop 323 = dktX0_someWeeks_14 := dk_seg dksX0_someWeeks_13 24 rfl rfl
theorem dksX0_someWeeks_15 : cX0_someWeeks.data.toList.drop 347 = dktX0_someWeeks_15 := dk_seg dksX0_someWeeks_14 24 rfl rfl
theorem dksX0_someWeeks_16 : cX0_someWeeks.data.toList.drop 369 = dktX0_someWeeks_16 := dk_seg dksX0_someWeeks_15 22 rfl rfl
theorem dksX0_someWeeks_17 : cX0_someWeeks.data.toList.drop 393 = dktX0_someWeeks_17 := dk_seg dksX0_someWeeks_16 24 rfl rfl
theorem dksX0_someWeeks_18 : cX0_someWeeks.data.toList.drop 417 = dktX0_someWeeks_18 := dk_seg dksX0_someWeeks_17 24 rfl rfl
theorem dksX0_someWeeks_19 : cX0_someWeeks.data.toList.drop 440 = dktX0_someWeeks_19 := dk_seg dksX0_someWeeks_18 23 rfl rfl
theorem dX0_someWeeks_0 : decode cX0_someWeeks 0 = .ok (.bipush 6, 2) := dk_16 6 (dk_at dksX0_someWeeks_0 0 rfl rfl)
theorem dX0_someWeeks_2 : decode cX0_someWeeks 2 = .ok (.newarray .int, 2) := dk_188_10 (dk_at dksX0_someWeeks_0 2 rfl rfl)
theorem dX0_someWeeks_4 : decode cX0_someWeeks 4 = .ok (.astore 4, 2) := dk_58 4 (dk_at dksX0_someWeeks_0 4 rfl rfl)
theorem dX0_someWeeks_6 : decode cX0_someWeeks 6 = .ok (.aload_n 0, 1) := dk_42 (dk_at dksX0_someWeeks_0 6 rfl rfl)
theorem dX0_someWeeks_7 : decode cX0_someWeeks 7 = .ok (.iload_n 3, 1) := dk_29 (dk_at dksX0_someWeeks_0 7 rfl rfl)
theorem dX0_someWeeks_8 : decode cX0_someWeeks 8 = .ok (.invokevirtual 263, 3) := dk_182 1 7 (dk_at dksX0_someWeeks_0 8 rfl rfl)
theorem dX0_someWeeks_11 : decode cX0_someWeeks 11 = .ok (.istore 5, 2) := dk_54 5 (dk_at dksX0_someWeeks_0 11 rfl rfl)
theorem dX0_someWeeks_13 : decode cX0_someWeeks 13 = .ok (.iconst 0, 1) := dk_3 (dk_at dksX0_someWeeks_0 13 rfl rfl)
theorem dX0_someWeeks_14 : decode cX0_someWeeks 14 = .ok (.istore 6, 2) := dk_54 6 (dk_at dksX0_someWeeks_0 14 rfl rfl)
theorem dX0_someWeeks_16 : decode cX0_someWeeks 16 = .ok (.iconst 0, 1) := dk_3 (dk_at dksX0_someWeeks_0 16 rfl rfl)
theorem dX0_someWeeks_17 : decode cX0_someWeeks 17 = .ok (.istore 7, 2) := dk_54 7 (dk_at dksX0_someWeeks_0 17 rfl rfl)
theorem dX0_someWeeks_19 : decode cX0_someWeeks 19 = .ok (.iload 7, 2) := dk_21 7 (dk_at dksX0_someWeeks_0 19 rfl rfl)
theorem dX0_someWeeks_21 : decode cX0_someWeeks 21 = .ok (.aload_n 1, 1) := dk_43 (dk_at dksX0_someWeeks_0 21 rfl rfl)
theorem dX0_someWeeks_22 : decode cX0_someWeeks 22 = .ok (.getfield 54, 3) := dk_180 0 54 (dk_at dksX0_someWeeks_1 0 rfl rfl)
theorem dX0_someWeeks_25 : decode cX0_someWeeks 25 = .ok (.if_icmp .ge 40, 3) := dk_162 0 40 (dk_at dksX0_someWeeks_1 3 rfl rfl)
theorem dX0_someWeeks_28 : decode cX0_someWeeks 28 = .ok (.iload 6, 2) := dk_21 6 (dk_at dksX0_someWeeks_1 6 rfl rfl)
theorem dX0_someWeeks_30 : decode cX0_someWeeks 30 = .ok (.aload_n 2, 1) := dk_44 (dk_at dksX0_someWeeks_1 8 rfl rfl)
theorem dX0_someWeeks_31 : decode cX0_someWeeks 31 = .ok (.getfield 160, 3) := dk_180 0 160 (dk_at dksX0_someWeeks_1 9 rfl rfl)
theorem dX0_someWeeks_34 : decode cX0_someWeeks 34 = .ok (.iload 7, 2) := dk_21 7 (dk_at dksX0_someWeeks_1 12 rfl rfl)
theorem dX0_someWeeks_36 : decode cX0_someWeeks 36 = .ok (.iaload, 1) := dk_46 (dk_at dksX0_someWeeks_1 14 rfl rfl)
theorem dX0_someWeeks_37 : decode cX0_someWeeks 37 = .ok (.ifCond .lt 18, 3) := dk_155 0 18 (dk_at dksX0_someWeeks_1 15 rfl rfl)
theorem dX0_someWeeks_40 : decode cX0_someWeeks 40 = .ok (.aload_n 2, 1) := dk_44 (dk_at dksX0_someWeeks_1 18 rfl rfl)
theorem dX0_someWeeks_41 : decode cX0_someWeeks 41 = .ok (.getfield 160, 3) := dk_180 0 160 (dk_at dksX0_someWeeks_1 19 rfl rfl)
theorem dX0_someWeeks_44 : decode cX0_someWeeks 44 = .ok (.iload 7, 2) := dk_21 7 (dk_at dksX0_someWeeks_1 22 rfl rfl)
theorem dX0_someWeeks_46 : decode cX0_someWeeks 46 = .ok (.iaload, 1) := dk_46 (dk_at dksX0_someWeeks_2 0 rfl rfl)
theorem dX0_someWeeks_47 : decode cX0_someWeeks 47 = .ok (.iload_n 3, 1) := dk_29 (dk_at dksX0_someWeeks_2 1 rfl rfl)
theorem dX0_someWeeks_48 : decode cX0_someWeeks 48 = .ok (.if_icmp .ge 7, 3) := dk_162 0 7 (dk_at dksX0_someWeeks_2 2 rfl rfl)
theorem dX0_someWeeks_51 : decode cX0_someWeeks 51 = .ok (.iconst 1, 1) := dk_4 (dk_at dksX0_someWeeks_2 5 rfl rfl)
theorem dX0_someWeeks_52 : decode cX0_someWeeks 52 = .ok (.goto 4, 3) := dk_167 0 4 (dk_at dksX0_someWeeks_2 6 rfl rfl)
theorem dX0_someWeeks_55 : decode cX0_someWeeks 55 = .ok (.iconst 0, 1) := dk_3 (dk_at dksX0_someWeeks_2 9 rfl rfl)
theorem dX0_someWeeks_56 : decode cX0_someWeeks 56 = .ok (.iadd, 1) := dk_96 (dk_at dksX0_someWeeks_2 10 rfl rfl)
theorem dX0_someWeeks_57 : decode cX0_someWeeks 57 = .ok (.istore 6, 2) := dk_54 6 (dk_at dksX0_someWeeks_2 11 rfl rfl)
theorem dX0_someWeeks_59 : decode cX0_someWeeks 59 = .ok (.iinc 7 1, 3) := dk_132 7 1 (dk_at dksX0_someWeeks_2 13 rfl rfl)
theorem dX0_someWeeks_62 : decode cX0_someWeeks 62 = .ok (.goto (-43), 3) := dk_167 255 213 (dk_at dksX0_someWeeks_2 16 rfl rfl)
theorem dX0_someWeeks_65 : decode cX0_someWeeks 65 = .ok (.iconst 0, 1) := dk_3 (dk_at dksX0_someWeeks_2 19 rfl rfl)
theorem dX0_someWeeks_66 : decode cX0_someWeeks 66 = .ok (.istore 7, 2) := dk_54 7 (dk_at dksX0_someWeeks_2 20 rfl rfl)
theorem dX0_someWeeks_68 : decode cX0_someWeeks 68 = .ok (.iload 7, 2) := dk_21 7 (dk_at dksX0_someWeeks_2 22 rfl rfl)
theorem dX0_someWeeks_70 : decode cX0_someWeeks 70 = .ok (.aload_n 1, 1) := dk_43 (dk_at dksX0_someWeeks_3 0 rfl rfl)
theorem dX0_someWeeks_71 : decode cX0_someWeeks 71 = .ok (.getfield 60, 3) := dk_180 0 60 (dk_at dksX0_someWeeks_3 1 rfl rfl)
theorem dX0_someWeeks_74 : decode cX0_someWeeks 74 = .ok (.if_icmp .ge 21, 3) := dk_162 0 21 (dk_at dksX0_someWeeks_3 4 rfl rfl)
theorem dX0_someWeeks_77 : decode cX0_someWeeks 77 = .ok (.aload 4, 2) := dk_25 4 (dk_at dksX0_someWeeks_3 7 rfl rfl)
theorem dX0_someWeeks_79 : decode cX0_someWeeks 79 = .ok (.iload 7, 2) := dk_21 7 (dk_at dksX0_someWeeks_3 9 rfl rfl)
theorem dX0_someWeeks_81 : decode cX0_someWeeks 81 = .ok (.aload_n 0, 1) := dk_42 (dk_at dksX0_someWeeks_3 11 rfl rfl)
theorem dX0_someWeeks_82 : decode cX0_someWeeks 82 = .ok (.iload 7, 2) := dk_21 7 (dk_at dksX0_someWeeks_3 12 rfl rfl)
theorem dX0_someWeeks_84 : decode cX0_someWeeks 84 = .ok (.iload_n 3, 1) := dk_29 (dk_at dksX0_someWeeks_3 14 rfl rfl)
theorem dX0_someWeeks_85 : decode cX0_someWeeks 85 = .ok (.invokevirtual 265, 3) := dk_182 1 9 (dk_at dksX0_someWeeks_3 15 rfl rfl)
theorem dX0_someWeeks_88 : decode cX0_someWeeks 88 = .ok (.iastore, 1) := dk_79 (dk_at dksX0_someWeeks_3 18 rfl rfl)
theorem dX0_someWeeks_89 : decode cX0_someWeeks 89 = .ok (.iinc 7 1, 3) := dk_132 7 1 (dk_at dksX0_someWeeks_3 19 rfl rfl)
theorem dX0_someWeeks_92 : decode cX0_someWeeks 92 = .ok (.goto (-24), 3) := dk_167 255 232 (dk_at dksX0_someWeeks_4 0 rfl rfl)
theorem dX0_someWeeks_95 : decode cX0_someWeeks 95 = .ok (.iconst 0, 1) := dk_3 (dk_at dksX0_someWeeks_4 3 rfl rfl)
theorem dX0_someWeeks_96 : decode cX0_someWeeks 96 = .ok (.istore 7, 2) := dk_54 7 (dk_at dksX0_someWeeks_4 4 rfl rfl)
theorem dX0_someWeeks_98 : decode cX0_someWeeks 98 = .ok (.iload 7, 2) := dk_21 7 (dk_at dksX0_someWeeks_4 6 rfl rfl)
theorem dX0_someWeeks_100 : decode cX0_someWeeks 100 = .ok (.iconst 2, 1) := dk_5 (dk_at dksX0_someWeeks_4 8 rfl rfl)
theorem dX0_someWeeks_101 : decode cX0_someWeeks 101 = .ok (.if_icmp .ge 345, 3) := dk_162 1 89 (dk_at dksX0_someWeeks_4 9 rfl rfl)
theorem dX0_someWeeks_104 : decode cX0_someWeeks 104 = .ok (.aload_n 0, 1) := dk_42 (dk_at dksX0_someWeeks_4 12 rfl rfl)
theorem dX0_someWeeks_105 : decode cX0_someWeeks 105 = .ok (.iload_n 3, 1) := dk_29 (dk_at dksX0_someWeeks_4 13 rfl rfl)
theorem dX0_someWeeks_106 : decode cX0_someWeeks 106 = .ok (.invokevirtual 237, 3) := dk_182 0 237 (dk_at dksX0_someWeeks_4 14 rfl rfl)
theorem dX0_someWeeks_109 : decode cX0_someWeeks 109 = .ok (.iload 6, 2) := dk_21 6 (dk_at dksX0_someWeeks_4 17 rfl rfl)
theorem dX0_someWeeks_111 : decode cX0_someWeeks 111 = .ok (.if_icmp .ne 51, 3) := dk_160 0 51 (dk_at dksX0_someWeeks_4 19 rfl rfl)
theorem dX0_someWeeks_114 : decode cX0_someWeeks 114 = .ok (.aload_n 0, 1) := dk_42 (dk_at dksX0_someWeeks_4 22 rfl rfl)
theorem dX0_someWeeks_115 : decode cX0_someWeeks 115 = .ok (.iconst 3, 1) := dk_6 (dk_at dksX0_someWeeks_4 23 rfl rfl)
theorem dX0_someWeeks_116 : decode cX0_someWeeks 116 = .ok (.invokevirtual 73, 3) := dk_182 0 73 (dk_at dksX0_someWeeks_5 0 rfl rfl)
theorem dX0_someWeeks_119 : decode cX0_someWeeks 119 = .ok (.iload 5, 2) := dk_21 5 (dk_at dksX0_someWeeks_5 3 rfl rfl)
theorem dX0_someWeeks_121 : decode cX0_someWeeks 121 = .ok (.if_icmp .ne 41, 3) := dk_160 0 41 (dk_at dksX0_someWeeks_5 5 rfl rfl)
theorem dX0_someWeeks_124 : decode cX0_someWeeks 124 = .ok (.aload_n 0, 1) := dk_42 (dk_at dksX0_someWeeks_5 8 rfl rfl)
theorem dX0_someWeeks_125 : decode cX0_someWeeks 125 = .ok (.iconst 2, 1) := dk_5 (dk_at dksX0_someWeeks_5 9 rfl rfl)
theorem dX0_someWeeks_126 : decode cX0_someWeeks 126 = .ok (.invokevirtual 73, 3) := dk_182 0 73 (dk_at dksX0_someWeeks_5 10 rfl rfl)
theorem dX0_someWeeks_129 : decode cX0_someWeeks 129 = .ok (.aload_n 2, 1) := dk_44 (dk_at dksX0_someWeeks_5 13 rfl rfl)
theorem dX0_someWeeks_130 : decode cX0_someWeeks 130 = .ok (.getfield 207, 3) := dk_180 0 207 (dk_at dksX0_someWeeks_5 14 rfl rfl)
theorem dX0_someWeeks_133 : decode cX0_someWeeks 133 = .ok (.iload_n 3, 1) := dk_29 (dk_at dksX0_someWeeks_5 17 rfl rfl)
theorem dX0_someWeeks_134 : decode cX0_someWeeks 134 = .ok (.iadd, 1) := dk_96 (dk_at dksX0_someWeeks_5 18 rfl rfl)
theorem dX0_someWeeks_135 : decode cX0_someWeeks 135 = .ok (.if_icmp .ne 27, 3) := dk_160 0 27 (dk_at dksX0_someWeeks_5 19 rfl rfl)
theorem dX0_someWeeks_138 : decode cX0_someWeeks 138 = .ok (.aload_n 0, 1) := dk_42 (dk_at dksX0_someWeeks_5 22 rfl rfl)
theorem dX0_someWeeks_139 : decode cX0_someWeeks 139 = .ok (.bipush 8, 2) := dk_16 8 (dk_at dksX0_someWeeks_6 0 rfl rfl)
theorem dX0_someWeeks_141 : decode cX0_someWeeks 141 = .ok (.invokevirtual 73, 3) := dk_182 0 73 (dk_at dksX0_someWeeks_6 2 rfl rfl)
theorem dX0_someWeeks_144 : decode cX0_someWeeks 144 = .ok (.aload_n 2, 1) := dk_44 (dk_at dksX0_someWeeks_6 5 rfl rfl)
theorem dX0_someWeeks_145 : decode cX0_someWeeks 145 = .ok (.getfield 199, 3) := dk_180 0 199 (dk_at dksX0_someWeeks_6 6 rfl rfl)
theorem dX0_someWeeks_148 : decode cX0_someWeeks 148 = .ok (.iload 6, 2) := dk_21 6 (dk_at dksX0_someWeeks_6 9 rfl rfl)
theorem dX0_someWeeks_150 : decode cX0_someWeeks 150 = .ok (.iadd, 1) := dk_96 (dk_at dksX0_someWeeks_6 11 rfl rfl)
theorem dX0_someWeeks_151 : decode cX0_someWeeks 151 = .ok (.if_icmp .ne 11, 3) := dk_160 0 11 (dk_at dksX0_someWeeks_6 12 rfl rfl)
theorem dX0_someWeeks_154 : decode cX0_someWeeks 154 = .ok (.aload_n 2, 1) := dk_44 (dk_at dksX0_someWeeks_6 15 rfl rfl)
theorem dX0_someWeeks_155 : decode cX0_someWeeks 155 = .ok (.aload_n 0, 1) := dk_42 (dk_at dksX0_someWeeks_6 16 rfl rfl)
theorem dX0_someWeeks_156 : decode cX0_someWeeks 156 = .ok (.invokevirtual 221, 3) := dk_182 0 221 (dk_at dksX0_someWeeks_6 17 rfl rfl)
theorem dX0_someWeeks_159 : decode cX0_someWeeks 159 = .ok (.ifCond .ne 5, 3) := dk_154 0 5 (dk_at dksX0_someWeeks_6 20 rfl rfl)
theorem dX0_someWeeks_162 : decode cX0_someWeeks 162 = .ok (.iconst 0, 1) := dk_3 (dk_at dksX0_someWeeks_6 23 rfl rfl)
theorem dX0_someWeeks_163 : decode cX0_someWeeks 163 = .ok (.ireturn, 1) := dk_172 (dk_at dksX0_someWeeks_7 0 rfl rfl)
theorem dX0_someWeeks_164 : decode cX0_someWeeks 164 = .ok (.iconst (-1), 1) := dk_2 (dk_at dksX0_someWeeks_7 1 rfl rfl)
theorem dX0_someWeeks_165 : decode cX0_someWeeks 165 = .ok (.istore 8, 2) := dk_54 8 (dk_at dksX0_someWeeks_7 2 rfl rfl)
theorem dX0_someWeeks_167 : decode cX0_someWeeks 167 = .ok (.aload_n 2, 1) := dk_44 (dk_at dksX0_someWeeks_7 4 rfl rfl)
theorem dX0_someWeeks_168 : decode cX0_someWeeks 168 = .ok (.getfield 199, 3) := dk_180 0 199 (dk_at dksX0_someWeeks_7 5 rfl rfl)
theorem dX0_someWeeks_171 : decode cX0_someWeeks 171 = .ok (.istore 9, 2) := dk_54 9 (dk_at dksX0_someWeeks_7 8 rfl rfl)
theorem dX0_someWeeks_173 : decode cX0_someWeeks 173 = .ok (.iload 9, 2) := dk_21 9 (dk_at dksX0_someWeeks_7 10 rfl rfl)
theorem dX0_someWeeks_175 : decode cX0_someWeeks 175 = .ok (.aload_n 2, 1) := dk_44 (dk_at dksX0_someWeeks_7 12 rfl rfl)
theorem dX0_someWeeks_176 : decode cX0_someWeeks 176 = .ok (.getfield 199, 3) := dk_180 0 199 (dk_at dksX0_someWeeks_7 13 rfl rfl)
theorem dX0_someWeeks_179 : decode cX0_someWeeks 179 = .ok (.iload 6, 2) := dk_21 6 (dk_at dksX0_someWeeks_7 16 rfl rfl)
theorem dX0_someWeeks_181 : decode cX0_someWeeks 181 = .ok (.iadd, 1) := dk_96 (dk_at dksX0_someWeeks_7 18 rfl rfl)
theorem dX0_someWeeks_182 : decode cX0_someWeeks 182 = .ok (.if_icmp .ge 98, 3) := dk_162 0 98 (dk_at dksX0_someWeeks_7 19 rfl rfl)
theorem dX0_someWeeks_185 : decode cX0_someWeeks 185 = .ok (.aload_n 0, 1) := dk_42 (dk_at dksX0_someWeeks_7 22 rfl rfl)
theorem dX0_someWeeks_186 : decode cX0_someWeeks 186 = .ok (.iload 9, 2) := dk_21 9 (dk_at dksX0_someWeeks_8 0 rfl rfl)
theorem dX0_someWeeks_188 : decode cX0_someWeeks 188 = .ok (.iconst 1, 1) := dk_4 (dk_at dksX0_someWeeks_8 2 rfl rfl)
theorem dX0_someWeeks_189 : decode cX0_someWeeks 189 = .ok (.invokevirtual 204, 3) := dk_182 0 204 (dk_at dksX0_someWeeks_8 3 rfl rfl)
theorem dX0_someWeeks_192 : decode cX0_someWeeks 192 = .ok (.istore 10, 2) := dk_54 10 (dk_at dksX0_someWeeks_8 6 rfl rfl)
theorem dX0_someWeeks_194 : decode cX0_someWeeks 194 = .ok (.iconst 3, 1) := dk_6 (dk_at dksX0_someWeeks_8 8 rfl rfl)
theorem dX0_someWeeks_195 : decode cX0_someWeeks 195 = .ok (.aload_n 0, 1) := dk_42 (dk_at dksX0_someWeeks_8 9 rfl rfl)
theorem dX0_someWeeks_196 : decode cX0_someWeeks 196 = .ok (.iload 9, 2) := dk_21 9 (dk_at dksX0_someWeeks_8 10 rfl rfl)
theorem dX0_someWeeks_198 : decode cX0_someWeeks 198 = .ok (.iconst 0, 1) := dk_3 (dk_at dksX0_someWeeks_8 12 rfl rfl)
theorem dX0_someWeeks_199 : decode cX0_someWeeks 199 = .ok (.invokevirtual 204, 3) := dk_182 0 204 (dk_at dksX0_someWeeks_8 13 rfl rfl)
theorem dX0_someWeeks_202 : decode cX0_someWeeks 202 = .ok (.imul, 1) := dk_104 (dk_at dksX0_someWeeks_8 16 rfl rfl)
theorem dX0_someWeeks_203 : decode cX0_someWeeks 203 = .ok (.iload 10, 2) := dk_21 10 (dk_at dksX0_someWeeks_8 17 rfl rfl)
theorem dX0_someWeeks_205 : decode cX0_someWeeks 205 = .ok (.iadd, 1) := dk_96 (dk_at dksX0_someWeeks_8 19 rfl rfl)
theorem dX0_someWeeks_206 : decode cX0_someWeeks 206 = .ok (.istore 11, 2) := dk_54 11 (dk_at dksX0_someWeeks_8 20 rfl rfl)
theorem dX0_someWeeks_208 : decode cX0_someWeeks 208 = .ok (.iload 10, 2) := dk_21 10 (dk_at dksX0_someWeeks_8 22 rfl rfl)
theorem dX0_someWeeks_210 : decode cX0_someWeeks 210 = .ok (.ifCond .lt 58, 3) := dk_155 0 58 (dk_at dksX0_someWeeks_9 0 rfl rfl)
theorem dX0_someWeeks_213 : decode cX0_someWeeks 213 = .ok (.iload 10, 2) := dk_21 10 (dk_at dksX0_someWeeks_9 3 rfl rfl)
theorem dX0_someWeeks_215 : decode cX0_someWeeks 215 = .ok (.aload_n 1, 1) := dk_43 (dk_at dksX0_someWeeks_9 5 rfl rfl)
theorem dX0_someWeeks_216 : decode cX0_someWeeks 216 = .ok (.getfield 54, 3) := dk_180 0 54 (dk_at dksX0_someWeeks_9 6 rfl rfl)
theorem dX0_someWeeks_219 : decode cX0_someWeeks 219 = .ok (.if_icmp .ge 49, 3) := dk_162 0 49 (dk_at dksX0_someWeeks_9 9 rfl rfl)
theorem dX0_someWeeks_222 : decode cX0_someWeeks 222 = .ok (.iload 11, 2) := dk_21 11 (dk_at dksX0_someWeeks_9 12 rfl rfl)
theorem dX0_someWeeks_224 : decode cX0_someWeeks 224 = .ok (.iload 8, 2) := dk_21 8 (dk_at dksX0_someWeeks_9 14 rfl rfl)
theorem dX0_someWeeks_226 : decode cX0_someWeeks 226 = .ok (.if_icmp .le 42, 3) := dk_164 0 42 (dk_at dksX0_someWeeks_9 16 rfl rfl)
theorem dX0_someWeeks_229 : decode cX0_someWeeks 229 = .ok (.aload_n 0, 1) := dk_42 (dk_at dksX0_someWeeks_9 19 rfl rfl)
theorem dX0_someWeeks_230 : decode cX0_someWeeks 230 = .ok (.iload 9, 2) := dk_21 9 (dk_at dksX0_someWeeks_9 20 rfl rfl)
theorem dX0_someWeeks_232 : decode cX0_someWeeks 232 = .ok (.iconst 0, 1) := dk_3 (dk_at dksX0_someWeeks_9 22 rfl rfl)
theorem dX0_someWeeks_233 : decode cX0_someWeeks 233 = .ok (.invokevirtual 204, 3) := dk_182 0 204 (dk_at dksX0_someWeeks_10 0 rfl rfl)
theorem dX0_someWeeks_236 : decode cX0_someWeeks 236 = .ok (.aload_n 2, 1) := dk_44 (dk_at dksX0_someWeeks_10 3 rfl rfl)
theorem dX0_someWeeks_237 : decode cX0_someWeeks 237 = .ok (.getfield 207, 3) := dk_180 0 207 (dk_at dksX0_someWeeks_10 4 rfl rfl)
theorem dX0_someWeeks_240 : decode cX0_someWeeks 240 = .ok (.aload_n 2, 1) := dk_44 (dk_at dksX0_someWeeks_10 7 rfl rfl)
theorem dX0_someWeeks_241 : decode cX0_someWeeks 241 = .ok (.getfield 160, 3) := dk_180 0 160 (dk_at dksX0_someWeeks_10 8 rfl rfl)
theorem dX0_someWeeks_244 : decode cX0_someWeeks 244 = .ok (.iload 10, 2) := dk_21 10 (dk_at dksX0_someWeeks_10 11 rfl rfl)
theorem dX0_someWeeks_246 : decode cX0_someWeeks 246 = .ok (.iaload, 1) := dk_46 (dk_at dksX0_someWeeks_10 13 rfl rfl)
theorem dX0_someWeeks_247 : decode cX0_someWeeks 247 = .ok (.iadd, 1) := dk_96 (dk_at dksX0_someWeeks_10 14 rfl rfl)
theorem dX0_someWeeks_248 : decode cX0_someWeeks 248 = .ok (.if_icmp .ne 20, 3) := dk_160 0 20 (dk_at dksX0_someWeeks_10 15 rfl rfl)
theorem dX0_someWeeks_251 : decode cX0_someWeeks 251 = .ok (.aload_n 0, 1) := dk_42 (dk_at dksX0_someWeeks_10 18 rfl rfl)
theorem dX0_someWeeks_252 : decode cX0_someWeeks 252 = .ok (.iload 9, 2) := dk_21 9 (dk_at dksX0_someWeeks_10 19 rfl rfl)
theorem dX0_someWeeks_254 : decode cX0_someWeeks 254 = .ok (.iconst 2, 1) := dk_5 (dk_at dksX0_someWeeks_10 21 rfl rfl)
theorem dX0_someWeeks_255 : decode cX0_someWeeks 255 = .ok (.invokevirtual 204, 3) := dk_182 0 204 (dk_at dksX0_someWeeks_11 0 rfl rfl)
theorem dX0_someWeeks_258 : decode cX0_someWeeks 258 = .ok (.aload_n 2, 1) := dk_44 (dk_at dksX0_someWeeks_11 3 rfl rfl)
theorem dX0_someWeeks_259 : decode cX0_someWeeks 259 = .ok (.getfield 149, 3) := dk_180 0 149 (dk_at dksX0_someWeeks_11 4 rfl rfl)
theorem dX0_someWeeks_262 : decode cX0_someWeeks 262 = .ok (.iload 10, 2) := dk_21 10 (dk_at dksX0_someWeeks_11 7 rfl rfl)
theorem dX0_someWeeks_264 : decode cX0_someWeeks 264 = .ok (.iaload, 1) := dk_46 (dk_at dksX0_someWeeks_11 9 rfl rfl)
theorem dX0_someWeeks_265 : decode cX0_someWeeks 265 = .ok (.if_icmp .eq 5, 3) := dk_159 0 5 (dk_at dksX0_someWeeks_11 10 rfl rfl)
theorem dX0_someWeeks_268 : decode cX0_someWeeks 268 = .ok (.iconst 0, 1) := dk_3 (dk_at dksX0_someWeeks_11 13 rfl rfl)
theorem dX0_someWeeks_269 : decode cX0_someWeeks 269 = .ok (.ireturn, 1) := dk_172 (dk_at dksX0_someWeeks_11 14 rfl rfl)
theorem dX0_someWeeks_270 : decode cX0_someWeeks 270 = .ok (.iload 11, 2) := dk_21 11 (dk_at dksX0_someWeeks_11 15 rfl rfl)
theorem dX0_someWeeks_272 : decode cX0_someWeeks 272 = .ok (.istore 8, 2) := dk_54 8 (dk_at dksX0_someWeeks_11 17 rfl rfl)
theorem dX0_someWeeks_274 : decode cX0_someWeeks 274 = .ok (.iinc 9 1, 3) := dk_132 9 1 (dk_at dksX0_someWeeks_11 19 rfl rfl)
theorem dX0_someWeeks_277 : decode cX0_someWeeks 277 = .ok (.goto (-104), 3) := dk_167 255 152 (dk_at dksX0_someWeeks_12 0 rfl rfl)
theorem dX0_someWeeks_280 : decode cX0_someWeeks 280 = .ok (.iconst 0, 1) := dk_3 (dk_at dksX0_someWeeks_12 3 rfl rfl)
theorem dX0_someWeeks_281 : decode cX0_someWeeks 281 = .ok (.istore 9, 2) := dk_54 9 (dk_at dksX0_someWeeks_12 4 rfl rfl)
theorem dX0_someWeeks_283 : decode cX0_someWeeks 283 = .ok (.iload 9, 2) := dk_21 9 (dk_at dksX0_someWeeks_12 6 rfl rfl)
theorem dX0_someWeeks_285 : decode cX0_someWeeks 285 = .ok (.aload_n 1, 1) := dk_43 (dk_at dksX0_someWeeks_12 8 rfl rfl)
theorem dX0_someWeeks_286 : decode cX0_someWeeks 286 = .ok (.getfield 54, 3) := dk_180 0 54 (dk_at dksX0_someWeeks_12 9 rfl rfl)
theorem dX0_someWeeks_289 : decode cX0_someWeeks 289 = .ok (.if_icmp .ge 91, 3) := dk_162 0 91 (dk_at dksX0_someWeeks_12 12 rfl rfl)
theorem dX0_someWeeks_292 : decode cX0_someWeeks 292 = .ok (.aload_n 2, 1) := dk_44 (dk_at dksX0_someWeeks_12 15 rfl rfl)
theorem dX0_someWeeks_293 : decode cX0_someWeeks 293 = .ok (.getfield 160, 3) := dk_180 0 160 (dk_at dksX0_someWeeks_12 16 rfl rfl)
theorem dX0_someWeeks_296 : decode cX0_someWeeks 296 = .ok (.iload 9, 2) := dk_21 9 (dk_at dksX0_someWeeks_12 19 rfl rfl)
theorem dX0_someWeeks_298 : decode cX0_someWeeks 298 = .ok (.iaload, 1) := dk_46 (dk_at dksX0_someWeeks_12 21 rfl rfl)
theorem dX0_someWeeks_299 : decode cX0_someWeeks 299 = .ok (.ifCond .lt 18, 3) := dk_155 0 18 (dk_at dksX0_someWeeks_13 0 rfl rfl)
theorem dX0_someWeeks_302 : decode cX0_someWeeks 302 = .ok (.aload_n 2, 1) := dk_44 (dk_at dksX0_someWeeks_13 3 rfl rfl)
theorem dX0_someWeeks_303 : decode cX0_someWeeks 303 = .ok (.getfield 160, 3) := dk_180 0 160 (dk_at dksX0_someWeeks_13 4 rfl rfl)
theorem dX0_someWeeks_306 : decode cX0_someWeeks 306 = .ok (.iload 9, 2) := dk_21 9 (dk_at dksX0_someWeeks_13 7 rfl rfl)
theorem dX0_someWeeks_308 : decode cX0_someWeeks 308 = .ok (.iaload, 1) := dk_46 (dk_at dksX0_someWeeks_13 9 rfl rfl)
theorem dX0_someWeeks_309 : decode cX0_someWeeks 309 = .ok (.iload_n 3, 1) := dk_29 (dk_at dksX0_someWeeks_13 10 rfl rfl)
theorem dX0_someWeeks_310 : decode cX0_someWeeks 310 = .ok (.if_icmp .ge 7, 3) := dk_162 0 7 (dk_at dksX0_someWeeks_13 11 rfl rfl)
theorem dX0_someWeeks_313 : decode cX0_someWeeks 313 = .ok (.iconst 1, 1) := dk_4 (dk_at dksX0_someWeeks_13 14 rfl rfl)
theorem dX0_someWeeks_314 : decode cX0_someWeeks 314 = .ok (.goto 4, 3) := dk_167 0 4 (dk_at dksX0_someWeeks_13 15 rfl rfl)
theorem dX0_someWeeks_317 : decode cX0_someWeeks 317 = .ok (.iconst 0, 1) := dk_3 (dk_at dksX0_someWeeks_13 18 rfl rfl)
theorem dX0_someWeeks_318 : decode cX0_someWeeks 318 = .ok (.istore 10, 2) := dk_54 10 (dk_at dksX0_someWeeks_13 19 rfl rfl)
theorem dX0_someWeeks_320 : decode cX0_someWeeks 320 = .ok (.aload_n 0, 1) := dk_42 (dk_at dksX0_someWeeks_13 21 rfl rfl)
theorem dX0_someWeeks_321 : decode cX0_someWeeks 321 = .ok (.iload 9, 2) := dk_21 9 (dk_at dksX0_someWeeks_13 22 rfl rfl)
theorem dX0_someWeeks_323 : decode cX0_someWeeks 323 = .ok (.iconst 1, 1) := dk_4 (dk_at dksX0_someWeeks_14 0 rfl rfl)
theorem dX0_someWeeks_324 : decode cX0_someWeeks 324 = .ok (.invokevirtual 80, 3) := dk_182 0 80 (dk_at dksX0_someWeeks_14 1 rfl rfl)
theorem dX0_someWeeks_327 : decode cX0_someWeeks 327 = .ok (.iload 10, 2) := dk_21 10 (dk_at dksX0_someWeeks_14 4 rfl rfl)
theorem dX0_someWeeks_329 : decode cX0_someWeeks 329 = .ok (.ifCond .eq 7, 3) := dk_153 0 7 (dk_at dksX0_someWeeks_14 6 rfl rfl)
theorem dX0_someWeeks_332 : decode cX0_someWeeks 332 = .ok (.iconst 0, 1) := dk_3 (dk_at dksX0_someWeeks_14 9 rfl rfl)
theorem dX0_someWeeks_333 : decode cX0_someWeeks 333 = .ok (.goto 10, 3) := dk_167 0 10 (dk_at dksX0_someWeeks_14 10 rfl rfl)
theorem dX0_someWeeks_336 : decode cX0_someWeeks 336 = .ok (.aload_n 2, 1) := dk_44 (dk_at dksX0_someWeeks_14 13 rfl rfl)
theorem dX0_someWeeks_337 : decode cX0_someWeeks 337 = .ok (.getfield 115, 3) := dk_180 0 115 (dk_at dksX0_someWeeks_14 14 rfl rfl)
theorem dX0_someWeeks_340 : decode cX0_someWeeks 340 = .ok (.iload 9, 2) := dk_21 9 (dk_at dksX0_someWeeks_14 17 rfl rfl)
theorem dX0_someWeeks_342 : decode cX0_someWeeks 342 = .ok (.iaload, 1) := dk_46 (dk_at dksX0_someWeeks_14 19 rfl rfl)
theorem dX0_someWeeks_343 : decode cX0_someWeeks 343 = .ok (.if_icmp .ne 29, 3) := dk_160 0 29 (dk_at dksX0_someWeeks_14 20 rfl rfl)
theorem dX0_someWeeks_346 : decode cX0_someWeeks 346 = .ok (.aload_n 0, 1) := dk_42 (dk_at dksX0_someWeeks_14 23 rfl rfl)
theorem dX0_someWeeks_347 : decode cX0_someWeeks 347 = .ok (.iload 9, 2) := dk_21 9 (dk_at dksX0_someWeeks_15 0 rfl rfl)
theorem dX0_someWeeks_349 : decode cX0_someWeeks 349 = .ok (.iconst 2, 1) := dk_5 (dk_at dksX0_someWeeks_15 2 rfl rfl)
theorem dX0_someWeeks_350 : decode cX0_someWeeks 350 = .ok (.invokevirtual 80, 3) := dk_182 0 80 (dk_at dksX0_someWeeks_15 3 rfl rfl)
theorem dX0_someWeeks_353 : decode cX0_someWeeks 353 = .ok (.iload 10, 2) := dk_21 10 (dk_at dksX0_someWeeks_15 6 rfl rfl)
theorem dX0_someWeeks_355 : decode cX0_someWeeks 355 = .ok (.ifCond .eq 7, 3) := dk_153 0 7 (dk_at dksX0_someWeeks_15 8 rfl rfl)
theorem dX0_someWeeks_358 : decode cX0_someWeeks 358 = .ok (.iconst (-1), 1) := dk_2 (dk_at dksX0_someWeeks_15 11 rfl rfl)
theorem dX0_someWeeks_359 : decode cX0_someWeeks 359 = .ok (.goto 10, 3) := dk_167 0 10 (dk_at dksX0_someWeeks_15 12 rfl rfl)
theorem dX0_someWeeks_362 : decode cX0_someWeeks 362 = .ok (.aload_n 2, 1) := dk_44 (dk_at dksX0_someWeeks_15 15 rfl rfl)
theorem dX0_someWeeks_363 : decode cX0_someWeeks 363 = .ok (.getfield 149, 3) := dk_180 0 149 (dk_at dksX0_someWeeks_15 16 rfl rfl)
theorem dX0_someWeeks_366 : decode cX0_someWeeks 366 = .ok (.iload 9, 2) := dk_21 9 (dk_at dksX0_someWeeks_15 19 rfl rfl)
theorem dX0_someWeeks_368 : decode cX0_someWeeks 368 = .ok (.iaload, 1) := dk_46 (dk_at dksX0_someWeeks_15 21 rfl rfl)
theorem dX0_someWeeks_369 : decode cX0_someWeeks 369 = .ok (.if_icmp .eq 5, 3) := dk_159 0 5 (dk_at dksX0_someWeeks_16 0 rfl rfl)
theorem dX0_someWeeks_372 : decode cX0_someWeeks 372 = .ok (.iconst 0, 1) := dk_3 (dk_at dksX0_someWeeks_16 3 rfl rfl)
theorem dX0_someWeeks_373 : decode cX0_someWeeks 373 = .ok (.ireturn, 1) := dk_172 (dk_at dksX0_someWeeks_16 4 rfl rfl)
theorem dX0_someWeeks_374 : decode cX0_someWeeks 374 = .ok (.iinc 9 1, 3) := dk_132 9 1 (dk_at dksX0_someWeeks_16 5 rfl rfl)
theorem dX0_someWeeks_377 : decode cX0_someWeeks 377 = .ok (.goto (-94), 3) := dk_167 255 162 (dk_at dksX0_someWeeks_16 8 rfl rfl)
theorem dX0_someWeeks_380 : decode cX0_someWeeks 380 = .ok (.iconst 0, 1) := dk_3 (dk_at dksX0_someWeeks_16 11 rfl rfl)
theorem dX0_someWeeks_381 : decode cX0_someWeeks 381 = .ok (.istore 9, 2) := dk_54 9 (dk_at dksX0_someWeeks_16 12 rfl rfl)
theorem dX0_someWeeks_383 : decode cX0_someWeeks 383 = .ok (.iload 9, 2) := dk_21 9 (dk_at dksX0_someWeeks_16 14 rfl rfl)
theorem dX0_someWeeks_385 : decode cX0_someWeeks 385 = .ok (.aload_n 1, 1) := dk_43 (dk_at dksX0_someWeeks_16 16 rfl rfl)
theorem dX0_someWeeks_386 : decode cX0_someWeeks 386 = .ok (.getfield 60, 3) := dk_180 0 60 (dk_at dksX0_someWeeks_16 17 rfl rfl)
theorem dX0_someWeeks_389 : decode cX0_someWeeks 389 = .ok (.if_icmp .ge 26, 3) := dk_162 0 26 (dk_at dksX0_someWeeks_16 20 rfl rfl)
theorem dX0_someWeeks_392 : decode cX0_someWeeks 392 = .ok (.aload_n 0, 1) := dk_42 (dk_at dksX0_someWeeks_16 23 rfl rfl)
theorem dX0_someWeeks_393 : decode cX0_someWeeks 393 = .ok (.iload 9, 2) := dk_21 9 (dk_at dksX0_someWeeks_17 0 rfl rfl)
theorem dX0_someWeeks_395 : decode cX0_someWeeks 395 = .ok (.iconst 5, 1) := dk_8 (dk_at dksX0_someWeeks_17 2 rfl rfl)
theorem dX0_someWeeks_396 : decode cX0_someWeeks 396 = .ok (.invokevirtual 63, 3) := dk_182 0 63 (dk_at dksX0_someWeeks_17 3 rfl rfl)
theorem dX0_someWeeks_399 : decode cX0_someWeeks 399 = .ok (.aload 4, 2) := dk_25 4 (dk_at dksX0_someWeeks_17 6 rfl rfl)
theorem dX0_someWeeks_401 : decode cX0_someWeeks 401 = .ok (.iload 9, 2) := dk_21 9 (dk_at dksX0_someWeeks_17 8 rfl rfl)
theorem dX0_someWeeks_403 : decode cX0_someWeeks 403 = .ok (.iaload, 1) := dk_46 (dk_at dksX0_someWeeks_17 10 rfl rfl)
theorem dX0_someWeeks_404 : decode cX0_someWeeks 404 = .ok (.if_icmp .eq 5, 3) := dk_159 0 5 (dk_at dksX0_someWeeks_17 11 rfl rfl)
theorem dX0_someWeeks_407 : decode cX0_someWeeks 407 = .ok (.iconst 0, 1) := dk_3 (dk_at dksX0_someWeeks_17 14 rfl rfl)
theorem dX0_someWeeks_408 : decode cX0_someWeeks 408 = .ok (.ireturn, 1) := dk_172 (dk_at dksX0_someWeeks_17 15 rfl rfl)
theorem dX0_someWeeks_409 : decode cX0_someWeeks 409 = .ok (.iinc 9 1, 3) := dk_132 9 1 (dk_at dksX0_someWeeks_17 16 rfl rfl)
theorem dX0_someWeeks_412 : decode cX0_someWeeks 412 = .ok (.goto (-29), 3) := dk_167 255 227 (dk_at dksX0_someWeeks_17 19 rfl rfl)
theorem dX0_someWeeks_415 : decode cX0_someWeeks 415 = .ok (.iload 7, 2) := dk_21 7 (dk_at dksX0_someWeeks_17 22 rfl rfl)
theorem dX0_someWeeks_417 : decode cX0_someWeeks 417 = .ok (.ifCond .ne 23, 3) := dk_154 0 23 (dk_at dksX0_someWeeks_18 0 rfl rfl)
theorem dX0_someWeeks_420 : decode cX0_someWeeks 420 = .ok (.aload_n 0, 1) := dk_42 (dk_at dksX0_someWeeks_18 3 rfl rfl)
theorem dX0_someWeeks_421 : decode cX0_someWeeks 421 = .ok (.invokevirtual 244, 3) := dk_182 0 244 (dk_at dksX0_someWeeks_18 4 rfl rfl)
theorem dX0_someWeeks_424 : decode cX0_someWeeks 424 = .ok (.ifCond .eq 14, 3) := dk_153 0 14 (dk_at dksX0_someWeeks_18 7 rfl rfl)
theorem dX0_someWeeks_427 : decode cX0_someWeeks 427 = .ok (.aload_n 2, 1) := dk_44 (dk_at dksX0_someWeeks_18 10 rfl rfl)
theorem dX0_someWeeks_428 : decode cX0_someWeeks 428 = .ok (.aload_n 0, 1) := dk_42 (dk_at dksX0_someWeeks_18 11 rfl rfl)
theorem dX0_someWeeks_429 : decode cX0_someWeeks 429 = .ok (.aload_n 1, 1) := dk_43 (dk_at dksX0_someWeeks_18 12 rfl rfl)
theorem dX0_someWeeks_430 : decode cX0_someWeeks 430 = .ok (.iconst (-1), 1) := dk_2 (dk_at dksX0_someWeeks_18 13 rfl rfl)
theorem dX0_someWeeks_431 : decode cX0_someWeeks 431 = .ok (.iconst (-1), 1) := dk_2 (dk_at dksX0_someWeeks_18 14 rfl rfl)
theorem dX0_someWeeks_432 : decode cX0_someWeeks 432 = .ok (.invokevirtual 191, 3) := dk_182 0 191 (dk_at dksX0_someWeeks_18 15 rfl rfl)
theorem dX0_someWeeks_435 : decode cX0_someWeeks 435 = .ok (.ifCond .ne 5, 3) := dk_154 0 5 (dk_at dksX0_someWeeks_18 18 rfl rfl)
theorem dX0_someWeeks_438 : decode cX0_someWeeks 438 = .ok (.iconst 0, 1) := dk_3 (dk_at dksX0_someWeeks_18 21 rfl rfl)
theorem dX0_someWeeks_439 : decode cX0_someWeeks 439 = .ok (.ireturn, 1) := dk_172 (dk_at dksX0_someWeeks_18 22 rfl rfl)
theorem dX0_someWeeks_440 : decode cX0_someWeeks 440 = .ok (.iinc 7 1, 3) := dk_132 7 1 (dk_at dksX0_someWeeks_19 0 rfl rfl)
theorem dX0_someWeeks_443 : decode cX0_someWeeks 443 = .ok (.goto (-345), 3) := dk_167 254 167 (dk_at dksX0_someWeeks_19 3 rfl rfl)
theorem dX0_someWeeks_446 : decode cX0_someWeeks 446 = .ok (.iconst 1, 1) := dk_4 (dk_at dksX0_someWeeks_19 6 rfl rfl)
theorem dX0_someWeeks_447 : decode cX0_someWeeks 447 = .ok (.ireturn, 1) := dk_172 (dk_at dksX0_someWeeks_19 7 rfl rfl)
abbrev cX0_sets : ByteArray := method_16_code
def yX0_sets : MethodName := ⟨RX0, "sets", "(LKilnBench;LKilnBenchLaw$All;LKilnBenchLaw$Ahead;III)Z"⟩
def dkwX0_sets_5 : List UInt8 := [184, 0, 174, 153, 0, 7, 4, 167, 0, 4, 3, 172]
abbrev dktX0_sets_5 : List UInt8 := dkwX0_sets_5 ++ []
def dkwX0_sets_4 : List UInt8 := [160, 0, 32, 42, 21, 4, 21, 5, 182, 0, 66, 29, 160, 0, 20, 42, 43, 44, 21, 6, 29, 2]
abbrev dktX0_sets_4 : List UInt8 := dkwX0_sets_4 ++ dktX0_sets_5
def dkwX0_sets_3 : List UInt8 := [21, 6, 153, 0, 37, 42, 29, 5, 182, 0, 63, 21, 4, 160, 0, 43, 42, 29, 6, 182, 0, 63, 21, 5]
abbrev dktX0_sets_3 : List UInt8 := dkwX0_sets_3 ++ dktX0_sets_4
def dkwX0_sets_2 : List UInt8 := [156, 0, 7, 4, 167, 0, 4, 3, 54, 6, 42, 29, 21, 4, 21, 5, 182, 0, 170, 21, 6, 160, 0, 59]
abbrev dktX0_sets_2 : List UInt8 := dkwX0_sets_2 ++ dktX0_sets_3
def dkwX0_sets_1 : List UInt8 := [153, 0, 31, 21, 5, 44, 180, 0, 167, 21, 4, 46, 162, 0, 19, 44, 43, 21, 4, 21, 5, 182, 0, 124]
abbrev dktX0_sets_1 : List UInt8 := dkwX0_sets_1 ++ dktX0_sets_2
def dkwX0_sets_0 : List UInt8 := [29, 43, 180, 0, 60, 162, 0, 49, 21, 4, 43, 180, 0, 54, 162, 0, 40, 44, 180, 0, 163, 29, 51]
abbrev dktX0_sets_0 : List UInt8 := dkwX0_sets_0 ++ dktX0_sets_1
theorem dksX0_sets_0 : cX0_sets.data.toList.drop 0 = dktX0_sets_0 := by decide +kernel
theorem dksX0_sets_1 : cX0_sets.data.toList.drop 23 = dktX0_sets_1 := dk_seg dksX0_sets_0 23 rfl rfl
theorem dksX0_sets_2 : cX0_sets.data.toList.drop 47 = dktX0_sets_2 := dk_seg dksX0_sets_1 24 rfl rfl
theorem dksX0_sets_3 : cX0_sets.data.toList.drop 71 = dktX0_sets_3 := dk_seg dksX0_sets_2 24 rfl rfl
theorem dksX0_sets_4 : cX0_sets.data.toList.drop 95 = dktX0_sets_4 := dk_seg dksX0_sets_3 24 rfl rfl
theorem dksX0_sets_5 : cX0_sets.data.toList.drop 117 = dktX0_sets_5 := dk_seg dksX0_sets_4 22 rfl rfl
theorem dX0_sets_0 : decode cX0_sets 0 = .ok (.iload_n 3, 1) := dk_29 (dk_at dksX0_sets_0 0 rfl rfl)
theorem dX0_sets_1 : decode cX0_sets 1 = .ok (.aload_n 1, 1) := dk_43 (dk_at dksX0_sets_0 1 rfl rfl)
theorem dX0_sets_2 : decode cX0_sets 2 = .ok (.getfield 60, 3) := dk_180 0 60 (dk_at dksX0_sets_0 2 rfl rfl)
theorem dX0_sets_5 : decode cX0_sets 5 = .ok (.if_icmp .ge 49, 3) := dk_162 0 49 (dk_at dksX0_sets_0 5 rfl rfl)
theorem dX0_sets_8 : decode cX0_sets 8 = .ok (.iload 4, 2) := dk_21 4 (dk_at dksX0_sets_0 8 rfl rfl)
theorem dX0_sets_10 : decode cX0_sets 10 = .ok (.aload_n 1, 1) := dk_43 (dk_at dksX0_sets_0 10 rfl rfl)
theorem dX0_sets_11 : decode cX0_sets 11 = .ok (.getfield 54, 3) := dk_180 0 54 (dk_at dksX0_sets_0 11 rfl rfl)
theorem dX0_sets_14 : decode cX0_sets 14 = .ok (.if_icmp .ge 40, 3) := dk_162 0 40 (dk_at dksX0_sets_0 14 rfl rfl)
theorem dX0_sets_17 : decode cX0_sets 17 = .ok (.aload_n 2, 1) := dk_44 (dk_at dksX0_sets_0 17 rfl rfl)
theorem dX0_sets_18 : decode cX0_sets 18 = .ok (.getfield 163, 3) := dk_180 0 163 (dk_at dksX0_sets_0 18 rfl rfl)
theorem dX0_sets_21 : decode cX0_sets 21 = .ok (.iload_n 3, 1) := dk_29 (dk_at dksX0_sets_0 21 rfl rfl)
theorem dX0_sets_22 : decode cX0_sets 22 = .ok (.baload, 1) := dk_51 (dk_at dksX0_sets_0 22 rfl rfl)
theorem dX0_sets_23 : decode cX0_sets 23 = .ok (.ifCond .eq 31, 3) := dk_153 0 31 (dk_at dksX0_sets_1 0 rfl rfl)
theorem dX0_sets_26 : decode cX0_sets 26 = .ok (.iload 5, 2) := dk_21 5 (dk_at dksX0_sets_1 3 rfl rfl)
theorem dX0_sets_28 : decode cX0_sets 28 = .ok (.aload_n 2, 1) := dk_44 (dk_at dksX0_sets_1 5 rfl rfl)
theorem dX0_sets_29 : decode cX0_sets 29 = .ok (.getfield 167, 3) := dk_180 0 167 (dk_at dksX0_sets_1 6 rfl rfl)
theorem dX0_sets_32 : decode cX0_sets 32 = .ok (.iload 4, 2) := dk_21 4 (dk_at dksX0_sets_1 9 rfl rfl)
theorem dX0_sets_34 : decode cX0_sets 34 = .ok (.iaload, 1) := dk_46 (dk_at dksX0_sets_1 11 rfl rfl)
theorem dX0_sets_35 : decode cX0_sets 35 = .ok (.if_icmp .ge 19, 3) := dk_162 0 19 (dk_at dksX0_sets_1 12 rfl rfl)
theorem dX0_sets_38 : decode cX0_sets 38 = .ok (.aload_n 2, 1) := dk_44 (dk_at dksX0_sets_1 15 rfl rfl)
theorem dX0_sets_39 : decode cX0_sets 39 = .ok (.aload_n 1, 1) := dk_43 (dk_at dksX0_sets_1 16 rfl rfl)
theorem dX0_sets_40 : decode cX0_sets 40 = .ok (.iload 4, 2) := dk_21 4 (dk_at dksX0_sets_1 17 rfl rfl)
theorem dX0_sets_42 : decode cX0_sets 42 = .ok (.iload 5, 2) := dk_21 5 (dk_at dksX0_sets_1 19 rfl rfl)
theorem dX0_sets_44 : decode cX0_sets 44 = .ok (.invokevirtual 124, 3) := dk_182 0 124 (dk_at dksX0_sets_1 21 rfl rfl)
theorem dX0_sets_47 : decode cX0_sets 47 = .ok (.ifCond .ge 7, 3) := dk_156 0 7 (dk_at dksX0_sets_2 0 rfl rfl)
theorem dX0_sets_50 : decode cX0_sets 50 = .ok (.iconst 1, 1) := dk_4 (dk_at dksX0_sets_2 3 rfl rfl)
theorem dX0_sets_51 : decode cX0_sets 51 = .ok (.goto 4, 3) := dk_167 0 4 (dk_at dksX0_sets_2 4 rfl rfl)
theorem dX0_sets_54 : decode cX0_sets 54 = .ok (.iconst 0, 1) := dk_3 (dk_at dksX0_sets_2 7 rfl rfl)
theorem dX0_sets_55 : decode cX0_sets 55 = .ok (.istore 6, 2) := dk_54 6 (dk_at dksX0_sets_2 8 rfl rfl)
theorem dX0_sets_57 : decode cX0_sets 57 = .ok (.aload_n 0, 1) := dk_42 (dk_at dksX0_sets_2 10 rfl rfl)
theorem dX0_sets_58 : decode cX0_sets 58 = .ok (.iload_n 3, 1) := dk_29 (dk_at dksX0_sets_2 11 rfl rfl)
theorem dX0_sets_59 : decode cX0_sets 59 = .ok (.iload 4, 2) := dk_21 4 (dk_at dksX0_sets_2 12 rfl rfl)
theorem dX0_sets_61 : decode cX0_sets 61 = .ok (.iload 5, 2) := dk_21 5 (dk_at dksX0_sets_2 14 rfl rfl)
theorem dX0_sets_63 : decode cX0_sets 63 = .ok (.invokevirtual 170, 3) := dk_182 0 170 (dk_at dksX0_sets_2 16 rfl rfl)
theorem dX0_sets_66 : decode cX0_sets 66 = .ok (.iload 6, 2) := dk_21 6 (dk_at dksX0_sets_2 19 rfl rfl)
theorem dX0_sets_68 : decode cX0_sets 68 = .ok (.if_icmp .ne 59, 3) := dk_160 0 59 (dk_at dksX0_sets_2 21 rfl rfl)
theorem dX0_sets_71 : decode cX0_sets 71 = .ok (.iload 6, 2) := dk_21 6 (dk_at dksX0_sets_3 0 rfl rfl)
theorem dX0_sets_73 : decode cX0_sets 73 = .ok (.ifCond .eq 37, 3) := dk_153 0 37 (dk_at dksX0_sets_3 2 rfl rfl)
theorem dX0_sets_76 : decode cX0_sets 76 = .ok (.aload_n 0, 1) := dk_42 (dk_at dksX0_sets_3 5 rfl rfl)
theorem dX0_sets_77 : decode cX0_sets 77 = .ok (.iload_n 3, 1) := dk_29 (dk_at dksX0_sets_3 6 rfl rfl)
theorem dX0_sets_78 : decode cX0_sets 78 = .ok (.iconst 2, 1) := dk_5 (dk_at dksX0_sets_3 7 rfl rfl)
theorem dX0_sets_79 : decode cX0_sets 79 = .ok (.invokevirtual 63, 3) := dk_182 0 63 (dk_at dksX0_sets_3 8 rfl rfl)
theorem dX0_sets_82 : decode cX0_sets 82 = .ok (.iload 4, 2) := dk_21 4 (dk_at dksX0_sets_3 11 rfl rfl)
theorem dX0_sets_84 : decode cX0_sets 84 = .ok (.if_icmp .ne 43, 3) := dk_160 0 43 (dk_at dksX0_sets_3 13 rfl rfl)
theorem dX0_sets_87 : decode cX0_sets 87 = .ok (.aload_n 0, 1) := dk_42 (dk_at dksX0_sets_3 16 rfl rfl)
theorem dX0_sets_88 : decode cX0_sets 88 = .ok (.iload_n 3, 1) := dk_29 (dk_at dksX0_sets_3 17 rfl rfl)
theorem dX0_sets_89 : decode cX0_sets 89 = .ok (.iconst 3, 1) := dk_6 (dk_at dksX0_sets_3 18 rfl rfl)
theorem dX0_sets_90 : decode cX0_sets 90 = .ok (.invokevirtual 63, 3) := dk_182 0 63 (dk_at dksX0_sets_3 19 rfl rfl)
theorem dX0_sets_93 : decode cX0_sets 93 = .ok (.iload 5, 2) := dk_21 5 (dk_at dksX0_sets_3 22 rfl rfl)
theorem dX0_sets_95 : decode cX0_sets 95 = .ok (.if_icmp .ne 32, 3) := dk_160 0 32 (dk_at dksX0_sets_4 0 rfl rfl)
theorem dX0_sets_98 : decode cX0_sets 98 = .ok (.aload_n 0, 1) := dk_42 (dk_at dksX0_sets_4 3 rfl rfl)
theorem dX0_sets_99 : decode cX0_sets 99 = .ok (.iload 4, 2) := dk_21 4 (dk_at dksX0_sets_4 4 rfl rfl)
theorem dX0_sets_101 : decode cX0_sets 101 = .ok (.iload 5, 2) := dk_21 5 (dk_at dksX0_sets_4 6 rfl rfl)
theorem dX0_sets_103 : decode cX0_sets 103 = .ok (.invokevirtual 66, 3) := dk_182 0 66 (dk_at dksX0_sets_4 8 rfl rfl)
theorem dX0_sets_106 : decode cX0_sets 106 = .ok (.iload_n 3, 1) := dk_29 (dk_at dksX0_sets_4 11 rfl rfl)
theorem dX0_sets_107 : decode cX0_sets 107 = .ok (.if_icmp .ne 20, 3) := dk_160 0 20 (dk_at dksX0_sets_4 12 rfl rfl)
theorem dX0_sets_110 : decode cX0_sets 110 = .ok (.aload_n 0, 1) := dk_42 (dk_at dksX0_sets_4 15 rfl rfl)
theorem dX0_sets_111 : decode cX0_sets 111 = .ok (.aload_n 1, 1) := dk_43 (dk_at dksX0_sets_4 16 rfl rfl)
theorem dX0_sets_112 : decode cX0_sets 112 = .ok (.aload_n 2, 1) := dk_44 (dk_at dksX0_sets_4 17 rfl rfl)
theorem dX0_sets_113 : decode cX0_sets 113 = .ok (.iload 6, 2) := dk_21 6 (dk_at dksX0_sets_4 18 rfl rfl)
theorem dX0_sets_115 : decode cX0_sets 115 = .ok (.iload_n 3, 1) := dk_29 (dk_at dksX0_sets_4 20 rfl rfl)
theorem dX0_sets_116 : decode cX0_sets 116 = .ok (.iconst (-1), 1) := dk_2 (dk_at dksX0_sets_4 21 rfl rfl)
theorem dX0_sets_117 : decode cX0_sets 117 = .ok (.invokestatic 174, 3) := dk_184 0 174 (dk_at dksX0_sets_5 0 rfl rfl)
theorem dX0_sets_120 : decode cX0_sets 120 = .ok (.ifCond .eq 7, 3) := dk_153 0 7 (dk_at dksX0_sets_5 3 rfl rfl)
theorem dX0_sets_123 : decode cX0_sets 123 = .ok (.iconst 1, 1) := dk_4 (dk_at dksX0_sets_5 6 rfl rfl)
theorem dX0_sets_124 : decode cX0_sets 124 = .ok (.goto 4, 3) := dk_167 0 4 (dk_at dksX0_sets_5 7 rfl rfl)
theorem dX0_sets_127 : decode cX0_sets 127 = .ok (.iconst 0, 1) := dk_3 (dk_at dksX0_sets_5 10 rfl rfl)
theorem dX0_sets_128 : decode cX0_sets 128 = .ok (.ireturn, 1) := dk_172 (dk_at dksX0_sets_5 11 rfl rfl)
abbrev cX0_isBehind : ByteArray := method_19_code
def yX0_isBehind : MethodName := ⟨RX0, "isBehind", "(LKilnBench;LKilnBenchLaw$All;LKilnBenchLaw$Ahead;ZII)Z"⟩
def dkwX0_isBehind_2 : List UInt8 := [153, 0, 7, 4, 167, 0, 4, 3, 172]
abbrev dktX0_isBehind_2 : List UInt8 := dkwX0_isBehind_2 ++ []
def dkwX0_isBehind_1 : List UInt8 := [43, 29, 153, 0, 8, 21, 4, 167, 0, 4, 2, 29, 153, 0, 8, 21, 5, 167, 0, 4, 2, 182, 0, 191]
abbrev dktX0_isBehind_1 : List UInt8 := dkwX0_isBehind_1 ++ dktX0_isBehind_2
def dkwX0_isBehind_0 : List UInt8 := [42, 6, 182, 0, 185, 44, 180, 0, 188, 29, 153, 0, 7, 3, 167, 0, 4, 4, 96, 160, 0, 36, 44, 42]
abbrev dktX0_isBehind_0 : List UInt8 := dkwX0_isBehind_0 ++ dktX0_isBehind_1
theorem dksX0_isBehind_0 : cX0_isBehind.data.toList.drop 0 = dktX0_isBehind_0 := by decide +kernel
theorem dksX0_isBehind_1 : cX0_isBehind.data.toList.drop 24 = dktX0_isBehind_1 := dk_seg dksX0_isBehind_0 24 rfl rfl
theorem dksX0_isBehind_2 : cX0_isBehind.data.toList.drop 48 = dktX0_isBehind_2 := dk_seg dksX0_isBehind_1 24 rfl rfl
theorem dX0_isBehind_0 : decode cX0_isBehind 0 = .ok (.aload_n 0, 1) := dk_42 (dk_at dksX0_isBehind_0 0 rfl rfl)
theorem dX0_isBehind_1 : decode cX0_isBehind 1 = .ok (.iconst 3, 1) := dk_6 (dk_at dksX0_isBehind_0 1 rfl rfl)
theorem dX0_isBehind_2 : decode cX0_isBehind 2 = .ok (.invokevirtual 185, 3) := dk_182 0 185 (dk_at dksX0_isBehind_0 2 rfl rfl)
theorem dX0_isBehind_5 : decode cX0_isBehind 5 = .ok (.aload_n 2, 1) := dk_44 (dk_at dksX0_isBehind_0 5 rfl rfl)
theorem dX0_isBehind_6 : decode cX0_isBehind 6 = .ok (.getfield 188, 3) := dk_180 0 188 (dk_at dksX0_isBehind_0 6 rfl rfl)
theorem dX0_isBehind_9 : decode cX0_isBehind 9 = .ok (.iload_n 3, 1) := dk_29 (dk_at dksX0_isBehind_0 9 rfl rfl)
theorem dX0_isBehind_10 : decode cX0_isBehind 10 = .ok (.ifCond .eq 7, 3) := dk_153 0 7 (dk_at dksX0_isBehind_0 10 rfl rfl)
theorem dX0_isBehind_13 : decode cX0_isBehind 13 = .ok (.iconst 0, 1) := dk_3 (dk_at dksX0_isBehind_0 13 rfl rfl)
theorem dX0_isBehind_14 : decode cX0_isBehind 14 = .ok (.goto 4, 3) := dk_167 0 4 (dk_at dksX0_isBehind_0 14 rfl rfl)
theorem dX0_isBehind_17 : decode cX0_isBehind 17 = .ok (.iconst 1, 1) := dk_4 (dk_at dksX0_isBehind_0 17 rfl rfl)
theorem dX0_isBehind_18 : decode cX0_isBehind 18 = .ok (.iadd, 1) := dk_96 (dk_at dksX0_isBehind_0 18 rfl rfl)
theorem dX0_isBehind_19 : decode cX0_isBehind 19 = .ok (.if_icmp .ne 36, 3) := dk_160 0 36 (dk_at dksX0_isBehind_0 19 rfl rfl)
theorem dX0_isBehind_22 : decode cX0_isBehind 22 = .ok (.aload_n 2, 1) := dk_44 (dk_at dksX0_isBehind_0 22 rfl rfl)
theorem dX0_isBehind_23 : decode cX0_isBehind 23 = .ok (.aload_n 0, 1) := dk_42 (dk_at dksX0_isBehind_0 23 rfl rfl)
theorem dX0_isBehind_24 : decode cX0_isBehind 24 = .ok (.aload_n 1, 1) := dk_43 (dk_at dksX0_isBehind_1 0 rfl rfl)
theorem dX0_isBehind_25 : decode cX0_isBehind 25 = .ok (.iload_n 3, 1) := dk_29 (dk_at dksX0_isBehind_1 1 rfl rfl)
theorem dX0_isBehind_26 : decode cX0_isBehind 26 = .ok (.ifCond .eq 8, 3) := dk_153 0 8 (dk_at dksX0_isBehind_1 2 rfl rfl)
theorem dX0_isBehind_29 : decode cX0_isBehind 29 = .ok (.iload 4, 2) := dk_21 4 (dk_at dksX0_isBehind_1 5 rfl rfl)
theorem dX0_isBehind_31 : decode cX0_isBehind 31 = .ok (.goto 4, 3) := dk_167 0 4 (dk_at dksX0_isBehind_1 7 rfl rfl)
theorem dX0_isBehind_34 : decode cX0_isBehind 34 = .ok (.iconst (-1), 1) := dk_2 (dk_at dksX0_isBehind_1 10 rfl rfl)
theorem dX0_isBehind_35 : decode cX0_isBehind 35 = .ok (.iload_n 3, 1) := dk_29 (dk_at dksX0_isBehind_1 11 rfl rfl)
theorem dX0_isBehind_36 : decode cX0_isBehind 36 = .ok (.ifCond .eq 8, 3) := dk_153 0 8 (dk_at dksX0_isBehind_1 12 rfl rfl)
theorem dX0_isBehind_39 : decode cX0_isBehind 39 = .ok (.iload 5, 2) := dk_21 5 (dk_at dksX0_isBehind_1 15 rfl rfl)
theorem dX0_isBehind_41 : decode cX0_isBehind 41 = .ok (.goto 4, 3) := dk_167 0 4 (dk_at dksX0_isBehind_1 17 rfl rfl)
theorem dX0_isBehind_44 : decode cX0_isBehind 44 = .ok (.iconst (-1), 1) := dk_2 (dk_at dksX0_isBehind_1 20 rfl rfl)
theorem dX0_isBehind_45 : decode cX0_isBehind 45 = .ok (.invokevirtual 191, 3) := dk_182 0 191 (dk_at dksX0_isBehind_1 21 rfl rfl)
theorem dX0_isBehind_48 : decode cX0_isBehind 48 = .ok (.ifCond .eq 7, 3) := dk_153 0 7 (dk_at dksX0_isBehind_2 0 rfl rfl)
theorem dX0_isBehind_51 : decode cX0_isBehind 51 = .ok (.iconst 1, 1) := dk_4 (dk_at dksX0_isBehind_2 3 rfl rfl)
theorem dX0_isBehind_52 : decode cX0_isBehind 52 = .ok (.goto 4, 3) := dk_167 0 4 (dk_at dksX0_isBehind_2 4 rfl rfl)
theorem dX0_isBehind_55 : decode cX0_isBehind 55 = .ok (.iconst 0, 1) := dk_3 (dk_at dksX0_isBehind_2 7 rfl rfl)
theorem dX0_isBehind_56 : decode cX0_isBehind 56 = .ok (.ireturn, 1) := dk_172 (dk_at dksX0_isBehind_2 8 rfl rfl)
abbrev cX0_takes : ByteArray := method_17_code
def yX0_takes : MethodName := ⟨RX0, "takes", "(LKilnBench;LKilnBenchLaw$All;LKilnBenchLaw$Ahead;I)Z"⟩
def dkwX0_takes_3 : List UInt8 := [43, 44, 21, 4, 29, 2, 184, 0, 174, 153, 0, 7, 4, 167, 0, 4, 3, 172]
abbrev dktX0_takes_3 : List UInt8 := dkwX0_takes_3 ++ []
def dkwX0_takes_2 : List UInt8 := [160, 0, 40, 42, 44, 180, 0, 120, 29, 46, 44, 180, 0, 122, 29, 46, 182, 0, 66, 2, 160, 0, 20, 42]
abbrev dktX0_takes_2 : List UInt8 := dkwX0_takes_2 ++ dktX0_takes_3
def dkwX0_takes_1 : List UInt8 := [42, 29, 182, 0, 178, 21, 4, 160, 0, 55, 21, 4, 153, 0, 33, 42, 29, 5, 182, 0, 63, 2]
abbrev dktX0_takes_1 : List UInt8 := dkwX0_takes_1 ++ dktX0_takes_2
def dkwX0_takes_0 : List UInt8 := [29, 43, 180, 0, 60, 162, 0, 16, 44, 180, 0, 120, 29, 46, 155, 0, 7, 4, 167, 0, 4, 3, 54, 4]
abbrev dktX0_takes_0 : List UInt8 := dkwX0_takes_0 ++ dktX0_takes_1
theorem dksX0_takes_0 : cX0_takes.data.toList.drop 0 = dktX0_takes_0 := by decide +kernel
theorem dksX0_takes_1 : cX0_takes.data.toList.drop 24 = dktX0_takes_1 := dk_seg dksX0_takes_0 24 rfl rfl
theorem dksX0_takes_2 : cX0_takes.data.toList.drop 46 = dktX0_takes_2 := dk_seg dksX0_takes_1 22 rfl rfl
theorem dksX0_takes_3 : cX0_takes.data.toList.drop 70 = dktX0_takes_3 := dk_seg dksX0_takes_2 24 rfl rfl
theorem dX0_takes_0 : decode cX0_takes 0 = .ok (.iload_n 3, 1) := dk_29 (dk_at dksX0_takes_0 0 rfl rfl)
theorem dX0_takes_1 : decode cX0_takes 1 = .ok (.aload_n 1, 1) := dk_43 (dk_at dksX0_takes_0 1 rfl rfl)
theorem dX0_takes_2 : decode cX0_takes 2 = .ok (.getfield 60, 3) := dk_180 0 60 (dk_at dksX0_takes_0 2 rfl rfl)
theorem dX0_takes_5 : decode cX0_takes 5 = .ok (.if_icmp .ge 16, 3) := dk_162 0 16 (dk_at dksX0_takes_0 5 rfl rfl)
theorem dX0_takes_8 : decode cX0_takes 8 = .ok (.aload_n 2, 1) := dk_44 (dk_at dksX0_takes_0 8 rfl rfl)
theorem dX0_takes_9 : decode cX0_takes 9 = .ok (.getfield 120, 3) := dk_180 0 120 (dk_at dksX0_takes_0 9 rfl rfl)
theorem dX0_takes_12 : decode cX0_takes 12 = .ok (.iload_n 3, 1) := dk_29 (dk_at dksX0_takes_0 12 rfl rfl)
theorem dX0_takes_13 : decode cX0_takes 13 = .ok (.iaload, 1) := dk_46 (dk_at dksX0_takes_0 13 rfl rfl)
theorem dX0_takes_14 : decode cX0_takes 14 = .ok (.ifCond .lt 7, 3) := dk_155 0 7 (dk_at dksX0_takes_0 14 rfl rfl)
theorem dX0_takes_17 : decode cX0_takes 17 = .ok (.iconst 1, 1) := dk_4 (dk_at dksX0_takes_0 17 rfl rfl)
theorem dX0_takes_18 : decode cX0_takes 18 = .ok (.goto 4, 3) := dk_167 0 4 (dk_at dksX0_takes_0 18 rfl rfl)
theorem dX0_takes_21 : decode cX0_takes 21 = .ok (.iconst 0, 1) := dk_3 (dk_at dksX0_takes_0 21 rfl rfl)
theorem dX0_takes_22 : decode cX0_takes 22 = .ok (.istore 4, 2) := dk_54 4 (dk_at dksX0_takes_0 22 rfl rfl)
theorem dX0_takes_24 : decode cX0_takes 24 = .ok (.aload_n 0, 1) := dk_42 (dk_at dksX0_takes_1 0 rfl rfl)
theorem dX0_takes_25 : decode cX0_takes 25 = .ok (.iload_n 3, 1) := dk_29 (dk_at dksX0_takes_1 1 rfl rfl)
theorem dX0_takes_26 : decode cX0_takes 26 = .ok (.invokevirtual 178, 3) := dk_182 0 178 (dk_at dksX0_takes_1 2 rfl rfl)
theorem dX0_takes_29 : decode cX0_takes 29 = .ok (.iload 4, 2) := dk_21 4 (dk_at dksX0_takes_1 5 rfl rfl)
theorem dX0_takes_31 : decode cX0_takes 31 = .ok (.if_icmp .ne 55, 3) := dk_160 0 55 (dk_at dksX0_takes_1 7 rfl rfl)
theorem dX0_takes_34 : decode cX0_takes 34 = .ok (.iload 4, 2) := dk_21 4 (dk_at dksX0_takes_1 10 rfl rfl)
theorem dX0_takes_36 : decode cX0_takes 36 = .ok (.ifCond .eq 33, 3) := dk_153 0 33 (dk_at dksX0_takes_1 12 rfl rfl)
theorem dX0_takes_39 : decode cX0_takes 39 = .ok (.aload_n 0, 1) := dk_42 (dk_at dksX0_takes_1 15 rfl rfl)
theorem dX0_takes_40 : decode cX0_takes 40 = .ok (.iload_n 3, 1) := dk_29 (dk_at dksX0_takes_1 16 rfl rfl)
theorem dX0_takes_41 : decode cX0_takes 41 = .ok (.iconst 2, 1) := dk_5 (dk_at dksX0_takes_1 17 rfl rfl)
theorem dX0_takes_42 : decode cX0_takes 42 = .ok (.invokevirtual 63, 3) := dk_182 0 63 (dk_at dksX0_takes_1 18 rfl rfl)
theorem dX0_takes_45 : decode cX0_takes 45 = .ok (.iconst (-1), 1) := dk_2 (dk_at dksX0_takes_1 21 rfl rfl)
theorem dX0_takes_46 : decode cX0_takes 46 = .ok (.if_icmp .ne 40, 3) := dk_160 0 40 (dk_at dksX0_takes_2 0 rfl rfl)
theorem dX0_takes_49 : decode cX0_takes 49 = .ok (.aload_n 0, 1) := dk_42 (dk_at dksX0_takes_2 3 rfl rfl)
theorem dX0_takes_50 : decode cX0_takes 50 = .ok (.aload_n 2, 1) := dk_44 (dk_at dksX0_takes_2 4 rfl rfl)
theorem dX0_takes_51 : decode cX0_takes 51 = .ok (.getfield 120, 3) := dk_180 0 120 (dk_at dksX0_takes_2 5 rfl rfl)
theorem dX0_takes_54 : decode cX0_takes 54 = .ok (.iload_n 3, 1) := dk_29 (dk_at dksX0_takes_2 8 rfl rfl)
theorem dX0_takes_55 : decode cX0_takes 55 = .ok (.iaload, 1) := dk_46 (dk_at dksX0_takes_2 9 rfl rfl)
theorem dX0_takes_56 : decode cX0_takes 56 = .ok (.aload_n 2, 1) := dk_44 (dk_at dksX0_takes_2 10 rfl rfl)
theorem dX0_takes_57 : decode cX0_takes 57 = .ok (.getfield 122, 3) := dk_180 0 122 (dk_at dksX0_takes_2 11 rfl rfl)
theorem dX0_takes_60 : decode cX0_takes 60 = .ok (.iload_n 3, 1) := dk_29 (dk_at dksX0_takes_2 14 rfl rfl)
theorem dX0_takes_61 : decode cX0_takes 61 = .ok (.iaload, 1) := dk_46 (dk_at dksX0_takes_2 15 rfl rfl)
theorem dX0_takes_62 : decode cX0_takes 62 = .ok (.invokevirtual 66, 3) := dk_182 0 66 (dk_at dksX0_takes_2 16 rfl rfl)
theorem dX0_takes_65 : decode cX0_takes 65 = .ok (.iconst (-1), 1) := dk_2 (dk_at dksX0_takes_2 19 rfl rfl)
theorem dX0_takes_66 : decode cX0_takes 66 = .ok (.if_icmp .ne 20, 3) := dk_160 0 20 (dk_at dksX0_takes_2 20 rfl rfl)
theorem dX0_takes_69 : decode cX0_takes 69 = .ok (.aload_n 0, 1) := dk_42 (dk_at dksX0_takes_2 23 rfl rfl)
theorem dX0_takes_70 : decode cX0_takes 70 = .ok (.aload_n 1, 1) := dk_43 (dk_at dksX0_takes_3 0 rfl rfl)
theorem dX0_takes_71 : decode cX0_takes 71 = .ok (.aload_n 2, 1) := dk_44 (dk_at dksX0_takes_3 1 rfl rfl)
theorem dX0_takes_72 : decode cX0_takes 72 = .ok (.iload 4, 2) := dk_21 4 (dk_at dksX0_takes_3 2 rfl rfl)
theorem dX0_takes_74 : decode cX0_takes 74 = .ok (.iload_n 3, 1) := dk_29 (dk_at dksX0_takes_3 4 rfl rfl)
theorem dX0_takes_75 : decode cX0_takes 75 = .ok (.iconst (-1), 1) := dk_2 (dk_at dksX0_takes_3 5 rfl rfl)
theorem dX0_takes_76 : decode cX0_takes 76 = .ok (.invokestatic 174, 3) := dk_184 0 174 (dk_at dksX0_takes_3 6 rfl rfl)
theorem dX0_takes_79 : decode cX0_takes 79 = .ok (.ifCond .eq 7, 3) := dk_153 0 7 (dk_at dksX0_takes_3 9 rfl rfl)
theorem dX0_takes_82 : decode cX0_takes 82 = .ok (.iconst 1, 1) := dk_4 (dk_at dksX0_takes_3 12 rfl rfl)
theorem dX0_takes_83 : decode cX0_takes 83 = .ok (.goto 4, 3) := dk_167 0 4 (dk_at dksX0_takes_3 13 rfl rfl)
theorem dX0_takes_86 : decode cX0_takes 86 = .ok (.iconst 0, 1) := dk_3 (dk_at dksX0_takes_3 16 rfl rfl)
theorem dX0_takes_87 : decode cX0_takes 87 = .ok (.ireturn, 1) := dk_172 (dk_at dksX0_takes_3 17 rfl rfl)
abbrev cX0_lights : ByteArray := method_18_code
def yX0_lights : MethodName := ⟨RX0, "lights", "(LKilnBench;LKilnBenchLaw$All;LKilnBenchLaw$Ahead;II)Z"⟩
def dkwX0_lights_3 : List UInt8 := [167, 0, 4, 3, 172]
abbrev dktX0_lights_3 : List UInt8 := dkwX0_lights_3 ++ []
def dkwX0_lights_2 : List UInt8 := [182, 0, 80, 21, 4, 160, 0, 20, 42, 43, 44, 21, 5, 2, 29, 184, 0, 174, 153, 0, 7, 4]
abbrev dktX0_lights_2 : List UInt8 := dkwX0_lights_2 ++ dktX0_lights_3
def dkwX0_lights_1 : List UInt8 := [54, 5, 42, 29, 21, 4, 182, 0, 181, 21, 5, 160, 0, 36, 21, 5, 153, 0, 14, 42, 29, 5]
abbrev dktX0_lights_1 : List UInt8 := dkwX0_lights_1 ++ dktX0_lights_2
def dkwX0_lights_0 : List UInt8 := [29, 43, 180, 0, 54, 162, 0, 18, 21, 4, 44, 180, 0, 149, 29, 46, 159, 0, 7, 4, 167, 0, 4, 3]
abbrev dktX0_lights_0 : List UInt8 := dkwX0_lights_0 ++ dktX0_lights_1
theorem dksX0_lights_0 : cX0_lights.data.toList.drop 0 = dktX0_lights_0 := by decide +kernel
theorem dksX0_lights_1 : cX0_lights.data.toList.drop 24 = dktX0_lights_1 := dk_seg dksX0_lights_0 24 rfl rfl
theorem dksX0_lights_2 : cX0_lights.data.toList.drop 46 = dktX0_lights_2 := dk_seg dksX0_lights_1 22 rfl rfl
theorem dksX0_lights_3 : cX0_lights.data.toList.drop 68 = dktX0_lights_3 := dk_seg dksX0_lights_2 22 rfl rfl
theorem dX0_lights_0 : decode cX0_lights 0 = .ok (.iload_n 3, 1) := dk_29 (dk_at dksX0_lights_0 0 rfl rfl)
theorem dX0_lights_1 : decode cX0_lights 1 = .ok (.aload_n 1, 1) := dk_43 (dk_at dksX0_lights_0 1 rfl rfl)
theorem dX0_lights_2 : decode cX0_lights 2 = .ok (.getfield 54, 3) := dk_180 0 54 (dk_at dksX0_lights_0 2 rfl rfl)
theorem dX0_lights_5 : decode cX0_lights 5 = .ok (.if_icmp .ge 18, 3) := dk_162 0 18 (dk_at dksX0_lights_0 5 rfl rfl)
theorem dX0_lights_8 : decode cX0_lights 8 = .ok (.iload 4, 2) := dk_21 4 (dk_at dksX0_lights_0 8 rfl rfl)
theorem dX0_lights_10 : decode cX0_lights 10 = .ok (.aload_n 2, 1) := dk_44 (dk_at dksX0_lights_0 10 rfl rfl)
theorem dX0_lights_11 : decode cX0_lights 11 = .ok (.getfield 149, 3) := dk_180 0 149 (dk_at dksX0_lights_0 11 rfl rfl)
theorem dX0_lights_14 : decode cX0_lights 14 = .ok (.iload_n 3, 1) := dk_29 (dk_at dksX0_lights_0 14 rfl rfl)
theorem dX0_lights_15 : decode cX0_lights 15 = .ok (.iaload, 1) := dk_46 (dk_at dksX0_lights_0 15 rfl rfl)
theorem dX0_lights_16 : decode cX0_lights 16 = .ok (.if_icmp .eq 7, 3) := dk_159 0 7 (dk_at dksX0_lights_0 16 rfl rfl)
theorem dX0_lights_19 : decode cX0_lights 19 = .ok (.iconst 1, 1) := dk_4 (dk_at dksX0_lights_0 19 rfl rfl)
theorem dX0_lights_20 : decode cX0_lights 20 = .ok (.goto 4, 3) := dk_167 0 4 (dk_at dksX0_lights_0 20 rfl rfl)
theorem dX0_lights_23 : decode cX0_lights 23 = .ok (.iconst 0, 1) := dk_3 (dk_at dksX0_lights_0 23 rfl rfl)
theorem dX0_lights_24 : decode cX0_lights 24 = .ok (.istore 5, 2) := dk_54 5 (dk_at dksX0_lights_1 0 rfl rfl)
theorem dX0_lights_26 : decode cX0_lights 26 = .ok (.aload_n 0, 1) := dk_42 (dk_at dksX0_lights_1 2 rfl rfl)
theorem dX0_lights_27 : decode cX0_lights 27 = .ok (.iload_n 3, 1) := dk_29 (dk_at dksX0_lights_1 3 rfl rfl)
theorem dX0_lights_28 : decode cX0_lights 28 = .ok (.iload 4, 2) := dk_21 4 (dk_at dksX0_lights_1 4 rfl rfl)
theorem dX0_lights_30 : decode cX0_lights 30 = .ok (.invokevirtual 181, 3) := dk_182 0 181 (dk_at dksX0_lights_1 6 rfl rfl)
theorem dX0_lights_33 : decode cX0_lights 33 = .ok (.iload 5, 2) := dk_21 5 (dk_at dksX0_lights_1 9 rfl rfl)
theorem dX0_lights_35 : decode cX0_lights 35 = .ok (.if_icmp .ne 36, 3) := dk_160 0 36 (dk_at dksX0_lights_1 11 rfl rfl)
theorem dX0_lights_38 : decode cX0_lights 38 = .ok (.iload 5, 2) := dk_21 5 (dk_at dksX0_lights_1 14 rfl rfl)
theorem dX0_lights_40 : decode cX0_lights 40 = .ok (.ifCond .eq 14, 3) := dk_153 0 14 (dk_at dksX0_lights_1 16 rfl rfl)
theorem dX0_lights_43 : decode cX0_lights 43 = .ok (.aload_n 0, 1) := dk_42 (dk_at dksX0_lights_1 19 rfl rfl)
theorem dX0_lights_44 : decode cX0_lights 44 = .ok (.iload_n 3, 1) := dk_29 (dk_at dksX0_lights_1 20 rfl rfl)
theorem dX0_lights_45 : decode cX0_lights 45 = .ok (.iconst 2, 1) := dk_5 (dk_at dksX0_lights_1 21 rfl rfl)
theorem dX0_lights_46 : decode cX0_lights 46 = .ok (.invokevirtual 80, 3) := dk_182 0 80 (dk_at dksX0_lights_2 0 rfl rfl)
theorem dX0_lights_49 : decode cX0_lights 49 = .ok (.iload 4, 2) := dk_21 4 (dk_at dksX0_lights_2 3 rfl rfl)
theorem dX0_lights_51 : decode cX0_lights 51 = .ok (.if_icmp .ne 20, 3) := dk_160 0 20 (dk_at dksX0_lights_2 5 rfl rfl)
theorem dX0_lights_54 : decode cX0_lights 54 = .ok (.aload_n 0, 1) := dk_42 (dk_at dksX0_lights_2 8 rfl rfl)
theorem dX0_lights_55 : decode cX0_lights 55 = .ok (.aload_n 1, 1) := dk_43 (dk_at dksX0_lights_2 9 rfl rfl)
theorem dX0_lights_56 : decode cX0_lights 56 = .ok (.aload_n 2, 1) := dk_44 (dk_at dksX0_lights_2 10 rfl rfl)
theorem dX0_lights_57 : decode cX0_lights 57 = .ok (.iload 5, 2) := dk_21 5 (dk_at dksX0_lights_2 11 rfl rfl)
theorem dX0_lights_59 : decode cX0_lights 59 = .ok (.iconst (-1), 1) := dk_2 (dk_at dksX0_lights_2 13 rfl rfl)
theorem dX0_lights_60 : decode cX0_lights 60 = .ok (.iload_n 3, 1) := dk_29 (dk_at dksX0_lights_2 14 rfl rfl)
theorem dX0_lights_61 : decode cX0_lights 61 = .ok (.invokestatic 174, 3) := dk_184 0 174 (dk_at dksX0_lights_2 15 rfl rfl)
theorem dX0_lights_64 : decode cX0_lights 64 = .ok (.ifCond .eq 7, 3) := dk_153 0 7 (dk_at dksX0_lights_2 18 rfl rfl)
theorem dX0_lights_67 : decode cX0_lights 67 = .ok (.iconst 1, 1) := dk_4 (dk_at dksX0_lights_2 21 rfl rfl)
theorem dX0_lights_68 : decode cX0_lights 68 = .ok (.goto 4, 3) := dk_167 0 4 (dk_at dksX0_lights_3 0 rfl rfl)
theorem dX0_lights_71 : decode cX0_lights 71 = .ok (.iconst 0, 1) := dk_3 (dk_at dksX0_lights_3 3 rfl rfl)
theorem dX0_lights_72 : decode cX0_lights 72 = .ok (.ireturn, 1) := dk_172 (dk_at dksX0_lights_3 4 rfl rfl)
abbrev cX0_undoes : ByteArray := method_27_code
def yX0_undoes : MethodName := ⟨RX0, "undoes", "(LKilnBench;LKilnBenchLaw$All;LKilnBenchLaw$Ahead;IIII)Z"⟩
def dkwX0_undoes_2 : List UInt8 := [167, 0, 11, 42, 21, 5, 21, 6, 182, 0, 181, 172]
abbrev dktX0_undoes_2 : List UInt8 := dkwX0_undoes_2 ++ []
def dkwX0_undoes_1 : List UInt8 := [42, 21, 4, 21, 5, 21, 6, 182, 0, 170, 167, 0, 25, 29, 4, 160, 0, 12, 42, 21, 4, 182, 0, 178]
abbrev dktX0_undoes_1 : List UInt8 := dkwX0_undoes_1 ++ dktX0_undoes_2
def dkwX0_undoes_0 : List UInt8 := [42, 182, 0, 244, 153, 0, 14, 44, 42, 43, 2, 2, 182, 0, 191, 154, 0, 5, 3, 172, 29, 154, 0, 16]
abbrev dktX0_undoes_0 : List UInt8 := dkwX0_undoes_0 ++ dktX0_undoes_1
theorem dksX0_undoes_0 : cX0_undoes.data.toList.drop 0 = dktX0_undoes_0 := by decide +kernel
theorem dksX0_undoes_1 : cX0_undoes.data.toList.drop 24 = dktX0_undoes_1 := dk_seg dksX0_undoes_0 24 rfl rfl
theorem dksX0_undoes_2 : cX0_undoes.data.toList.drop 48 = dktX0_undoes_2 := dk_seg dksX0_undoes_1 24 rfl rfl
theorem dX0_undoes_0 : decode cX0_undoes 0 = .ok (.aload_n 0, 1) := dk_42 (dk_at dksX0_undoes_0 0 rfl rfl)
theorem dX0_undoes_1 : decode cX0_undoes 1 = .ok (.invokevirtual 244, 3) := dk_182 0 244 (dk_at dksX0_undoes_0 1 rfl rfl)
theorem dX0_undoes_4 : decode cX0_undoes 4 = .ok (.ifCond .eq 14, 3) := dk_153 0 14 (dk_at dksX0_undoes_0 4 rfl rfl)
theorem dX0_undoes_7 : decode cX0_undoes 7 = .ok (.aload_n 2, 1) := dk_44 (dk_at dksX0_undoes_0 7 rfl rfl)
theorem dX0_undoes_8 : decode cX0_undoes 8 = .ok (.aload_n 0, 1) := dk_42 (dk_at dksX0_undoes_0 8 rfl rfl)
theorem dX0_undoes_9 : decode cX0_undoes 9 = .ok (.aload_n 1, 1) := dk_43 (dk_at dksX0_undoes_0 9 rfl rfl)
theorem dX0_undoes_10 : decode cX0_undoes 10 = .ok (.iconst (-1), 1) := dk_2 (dk_at dksX0_undoes_0 10 rfl rfl)
theorem dX0_undoes_11 : decode cX0_undoes 11 = .ok (.iconst (-1), 1) := dk_2 (dk_at dksX0_undoes_0 11 rfl rfl)
theorem dX0_undoes_12 : decode cX0_undoes 12 = .ok (.invokevirtual 191, 3) := dk_182 0 191 (dk_at dksX0_undoes_0 12 rfl rfl)
theorem dX0_undoes_15 : decode cX0_undoes 15 = .ok (.ifCond .ne 5, 3) := dk_154 0 5 (dk_at dksX0_undoes_0 15 rfl rfl)
theorem dX0_undoes_18 : decode cX0_undoes 18 = .ok (.iconst 0, 1) := dk_3 (dk_at dksX0_undoes_0 18 rfl rfl)
theorem dX0_undoes_19 : decode cX0_undoes 19 = .ok (.ireturn, 1) := dk_172 (dk_at dksX0_undoes_0 19 rfl rfl)
theorem dX0_undoes_20 : decode cX0_undoes 20 = .ok (.iload_n 3, 1) := dk_29 (dk_at dksX0_undoes_0 20 rfl rfl)
theorem dX0_undoes_21 : decode cX0_undoes 21 = .ok (.ifCond .ne 16, 3) := dk_154 0 16 (dk_at dksX0_undoes_0 21 rfl rfl)
theorem dX0_undoes_24 : decode cX0_undoes 24 = .ok (.aload_n 0, 1) := dk_42 (dk_at dksX0_undoes_1 0 rfl rfl)
theorem dX0_undoes_25 : decode cX0_undoes 25 = .ok (.iload 4, 2) := dk_21 4 (dk_at dksX0_undoes_1 1 rfl rfl)
theorem dX0_undoes_27 : decode cX0_undoes 27 = .ok (.iload 5, 2) := dk_21 5 (dk_at dksX0_undoes_1 3 rfl rfl)
theorem dX0_undoes_29 : decode cX0_undoes 29 = .ok (.iload 6, 2) := dk_21 6 (dk_at dksX0_undoes_1 5 rfl rfl)
theorem dX0_undoes_31 : decode cX0_undoes 31 = .ok (.invokevirtual 170, 3) := dk_182 0 170 (dk_at dksX0_undoes_1 7 rfl rfl)
theorem dX0_undoes_34 : decode cX0_undoes 34 = .ok (.goto 25, 3) := dk_167 0 25 (dk_at dksX0_undoes_1 10 rfl rfl)
theorem dX0_undoes_37 : decode cX0_undoes 37 = .ok (.iload_n 3, 1) := dk_29 (dk_at dksX0_undoes_1 13 rfl rfl)
theorem dX0_undoes_38 : decode cX0_undoes 38 = .ok (.iconst 1, 1) := dk_4 (dk_at dksX0_undoes_1 14 rfl rfl)
theorem dX0_undoes_39 : decode cX0_undoes 39 = .ok (.if_icmp .ne 12, 3) := dk_160 0 12 (dk_at dksX0_undoes_1 15 rfl rfl)
theorem dX0_undoes_42 : decode cX0_undoes 42 = .ok (.aload_n 0, 1) := dk_42 (dk_at dksX0_undoes_1 18 rfl rfl)
theorem dX0_undoes_43 : decode cX0_undoes 43 = .ok (.iload 4, 2) := dk_21 4 (dk_at dksX0_undoes_1 19 rfl rfl)
theorem dX0_undoes_45 : decode cX0_undoes 45 = .ok (.invokevirtual 178, 3) := dk_182 0 178 (dk_at dksX0_undoes_1 21 rfl rfl)
theorem dX0_undoes_48 : decode cX0_undoes 48 = .ok (.goto 11, 3) := dk_167 0 11 (dk_at dksX0_undoes_2 0 rfl rfl)
theorem dX0_undoes_51 : decode cX0_undoes 51 = .ok (.aload_n 0, 1) := dk_42 (dk_at dksX0_undoes_2 3 rfl rfl)
theorem dX0_undoes_52 : decode cX0_undoes 52 = .ok (.iload 5, 2) := dk_21 5 (dk_at dksX0_undoes_2 4 rfl rfl)
theorem dX0_undoes_54 : decode cX0_undoes 54 = .ok (.iload 6, 2) := dk_21 6 (dk_at dksX0_undoes_2 6 rfl rfl)
theorem dX0_undoes_56 : decode cX0_undoes 56 = .ok (.invokevirtual 181, 3) := dk_182 0 181 (dk_at dksX0_undoes_2 8 rfl rfl)
theorem dX0_undoes_59 : decode cX0_undoes 59 = .ok (.ireturn, 1) := dk_172 (dk_at dksX0_undoes_2 11 rfl rfl)
abbrev cX0_areBrothers : ByteArray := method_29_code
def yX0_areBrothers : MethodName := ⟨RX0, "areBrothers", "(LKilnBench;LKilnBenchLaw$All;[I)Z"⟩
def dkwX0_areBrothers_7 : List UInt8 := [132, 6, 1, 167, 255, 220, 132, 3, 1, 167, 255, 82, 4, 172]
abbrev dktX0_areBrothers_7 : List UInt8 := dkwX0_areBrothers_7 ++ []
def dkwX0_areBrothers_6 : List UInt8 := [21, 5, 21, 6, 122, 4, 126, 4, 160, 0, 16, 42, 21, 6, 182, 0, 230, 21, 5, 159, 0, 5, 3, 172]
abbrev dktX0_areBrothers_6 : List UInt8 := dkwX0_areBrothers_6 ++ dktX0_areBrothers_7
def dkwX0_areBrothers_5 : List UInt8 := [21, 5, 29, 122, 4, 126, 154, 0, 5, 3, 172, 3, 54, 6, 21, 6, 43, 180, 0, 60, 162, 0, 33]
abbrev dktX0_areBrothers_5 : List UInt8 := dkwX0_areBrothers_5 ++ dktX0_areBrothers_6
def dkwX0_areBrothers_4 : List UInt8 := [29, 21, 4, 79, 42, 29, 182, 0, 230, 54, 5, 21, 4, 156, 0, 11, 21, 5, 153, 0, 17, 167, 0, 12]
abbrev dktX0_areBrothers_4 : List UInt8 := dkwX0_areBrothers_4 ++ dktX0_areBrothers_5
def dkwX0_areBrothers_3 : List UInt8 := [167, 0, 4, 3, 42, 29, 6, 182, 0, 63, 156, 0, 7, 4, 167, 0, 4, 3, 159, 0, 5, 3, 172, 44]
abbrev dktX0_areBrothers_3 : List UInt8 := dkwX0_areBrothers_3 ++ dktX0_areBrothers_4
def dkwX0_areBrothers_2 : List UInt8 := [156, 0, 14, 42, 29, 16, 6, 182, 0, 63, 4, 159, 0, 34, 42, 29, 5, 182, 0, 63, 156, 0, 7, 4]
abbrev dktX0_areBrothers_2 : List UInt8 := dkwX0_areBrothers_2 ++ dktX0_areBrothers_3
def dkwX0_areBrothers_1 : List UInt8 := [21, 4, 44, 29, 46, 160, 0, 64, 21, 4, 155, 0, 12, 42, 29, 5, 182, 0, 63, 156, 0, 50, 21, 4]
abbrev dktX0_areBrothers_1 : List UInt8 := dkwX0_areBrothers_1 ++ dktX0_areBrothers_2
def dkwX0_areBrothers_0 : List UInt8 := [3, 62, 29, 43, 180, 0, 60, 162, 0, 172, 42, 29, 8, 182, 0, 63, 54, 4, 44, 29, 46, 155, 0, 11]
abbrev dktX0_areBrothers_0 : List UInt8 := dkwX0_areBrothers_0 ++ dktX0_areBrothers_1
theorem dksX0_areBrothers_0 : cX0_areBrothers.data.toList.drop 0 = dktX0_areBrothers_0 := by decide +kernel
theorem dksX0_areBrothers_1 : cX0_areBrothers.data.toList.drop 24 = dktX0_areBrothers_1 := dk_seg dksX0_areBrothers_0 24 rfl rfl
theorem dksX0_areBrothers_2 : cX0_areBrothers.data.toList.drop 48 = dktX0_areBrothers_2 := dk_seg dksX0_areBrothers_1 24 rfl rfl
theorem dksX0_areBrothers_3 : cX0_areBrothers.data.toList.drop 72 = dktX0_areBrothers_3 := dk_seg dksX0_areBrothers_2 24 rfl rfl
theorem dksX0_areBrothers_4 : cX0_areBrothers.data.toList.drop 96 = dktX0_areBrothers_4 := dk_seg dksX0_areBrothers_3 24 rfl rfl
theorem dksX0_areBrothers_5 : cX0_areBrothers.data.toList.drop 120 = dktX0_areBrothers_5 := dk_seg dksX0_areBrothers_4 24 rfl rfl
theorem dksX0_areBrothers_6 : cX0_areBrothers.data.toList.drop 143 = dktX0_areBrothers_6 := dk_seg dksX0_areBrothers_5 23 rfl rfl
theorem dksX0_areBrothers_7 : cX0_areBrothers.data.toList.drop 167 = dktX0_areBrothers_7 := dk_seg dksX0_areBrothers_6 24 rfl rfl
theorem dX0_areBrothers_0 : decode cX0_areBrothers 0 = .ok (.iconst 0, 1) := dk_3 (dk_at dksX0_areBrothers_0 0 rfl rfl)
theorem dX0_areBrothers_1 : decode cX0_areBrothers 1 = .ok (.istore_n 3, 1) := dk_62 (dk_at dksX0_areBrothers_0 1 rfl rfl)
theorem dX0_areBrothers_2 : decode cX0_areBrothers 2 = .ok (.iload_n 3, 1) := dk_29 (dk_at dksX0_areBrothers_0 2 rfl rfl)
theorem dX0_areBrothers_3 : decode cX0_areBrothers 3 = .ok (.aload_n 1, 1) := dk_43 (dk_at dksX0_areBrothers_0 3 rfl rfl)
theorem dX0_areBrothers_4 : decode cX0_areBrothers 4 = .ok (.getfield 60, 3) := dk_180 0 60 (dk_at dksX0_areBrothers_0 4 rfl rfl)
theorem dX0_areBrothers_7 : decode cX0_areBrothers 7 = .ok (.if_icmp .ge 172, 3) := dk_162 0 172 (dk_at dksX0_areBrothers_0 7 rfl rfl)
theorem dX0_areBrothers_10 : decode cX0_areBrothers 10 = .ok (.aload_n 0, 1) := dk_42 (dk_at dksX0_areBrothers_0 10 rfl rfl)
theorem dX0_areBrothers_11 : decode cX0_areBrothers 11 = .ok (.iload_n 3, 1) := dk_29 (dk_at dksX0_areBrothers_0 11 rfl rfl)
theorem dX0_areBrothers_12 : decode cX0_areBrothers 12 = .ok (.iconst 5, 1) := dk_8 (dk_at dksX0_areBrothers_0 12 rfl rfl)
theorem dX0_areBrothers_13 : decode cX0_areBrothers 13 = .ok (.invokevirtual 63, 3) := dk_182 0 63 (dk_at dksX0_areBrothers_0 13 rfl rfl)
theorem dX0_areBrothers_16 : decode cX0_areBrothers 16 = .ok (.istore 4, 2) := dk_54 4 (dk_at dksX0_areBrothers_0 16 rfl rfl)
theorem dX0_areBrothers_18 : decode cX0_areBrothers 18 = .ok (.aload_n 2, 1) := dk_44 (dk_at dksX0_areBrothers_0 18 rfl rfl)
theorem dX0_areBrothers_19 : decode cX0_areBrothers 19 = .ok (.iload_n 3, 1) := dk_29 (dk_at dksX0_areBrothers_0 19 rfl rfl)
theorem dX0_areBrothers_20 : decode cX0_areBrothers 20 = .ok (.iaload, 1) := dk_46 (dk_at dksX0_areBrothers_0 20 rfl rfl)
theorem dX0_areBrothers_21 : decode cX0_areBrothers 21 = .ok (.ifCond .lt 11, 3) := dk_155 0 11 (dk_at dksX0_areBrothers_0 21 rfl rfl)
theorem dX0_areBrothers_24 : decode cX0_areBrothers 24 = .ok (.iload 4, 2) := dk_21 4 (dk_at dksX0_areBrothers_1 0 rfl rfl)
theorem dX0_areBrothers_26 : decode cX0_areBrothers 26 = .ok (.aload_n 2, 1) := dk_44 (dk_at dksX0_areBrothers_1 2 rfl rfl)
theorem dX0_areBrothers_27 : decode cX0_areBrothers 27 = .ok (.iload_n 3, 1) := dk_29 (dk_at dksX0_areBrothers_1 3 rfl rfl)
theorem dX0_areBrothers_28 : decode cX0_areBrothers 28 = .ok (.iaload, 1) := dk_46 (dk_at dksX0_areBrothers_1 4 rfl rfl)
theorem dX0_areBrothers_29 : decode cX0_areBrothers 29 = .ok (.if_icmp .ne 64, 3) := dk_160 0 64 (dk_at dksX0_areBrothers_1 5 rfl rfl)
theorem dX0_areBrothers_32 : decode cX0_areBrothers 32 = .ok (.iload 4, 2) := dk_21 4 (dk_at dksX0_areBrothers_1 8 rfl rfl)
theorem dX0_areBrothers_34 : decode cX0_areBrothers 34 = .ok (.ifCond .lt 12, 3) := dk_155 0 12 (dk_at dksX0_areBrothers_1 10 rfl rfl)
theorem dX0_areBrothers_37 : decode cX0_areBrothers 37 = .ok (.aload_n 0, 1) := dk_42 (dk_at dksX0_areBrothers_1 13 rfl rfl)
theorem dX0_areBrothers_38 : decode cX0_areBrothers 38 = .ok (.iload_n 3, 1) := dk_29 (dk_at dksX0_areBrothers_1 14 rfl rfl)
theorem dX0_areBrothers_39 : decode cX0_areBrothers 39 = .ok (.iconst 2, 1) := dk_5 (dk_at dksX0_areBrothers_1 15 rfl rfl)
theorem dX0_areBrothers_40 : decode cX0_areBrothers 40 = .ok (.invokevirtual 63, 3) := dk_182 0 63 (dk_at dksX0_areBrothers_1 16 rfl rfl)
theorem dX0_areBrothers_43 : decode cX0_areBrothers 43 = .ok (.ifCond .ge 50, 3) := dk_156 0 50 (dk_at dksX0_areBrothers_1 19 rfl rfl)
theorem dX0_areBrothers_46 : decode cX0_areBrothers 46 = .ok (.iload 4, 2) := dk_21 4 (dk_at dksX0_areBrothers_1 22 rfl rfl)
theorem dX0_areBrothers_48 : decode cX0_areBrothers 48 = .ok (.ifCond .ge 14, 3) := dk_156 0 14 (dk_at dksX0_areBrothers_2 0 rfl rfl)
theorem dX0_areBrothers_51 : decode cX0_areBrothers 51 = .ok (.aload_n 0, 1) := dk_42 (dk_at dksX0_areBrothers_2 3 rfl rfl)
theorem dX0_areBrothers_52 : decode cX0_areBrothers 52 = .ok (.iload_n 3, 1) := dk_29 (dk_at dksX0_areBrothers_2 4 rfl rfl)
theorem dX0_areBrothers_53 : decode cX0_areBrothers 53 = .ok (.bipush 6, 2) := dk_16 6 (dk_at dksX0_areBrothers_2 5 rfl rfl)
theorem dX0_areBrothers_55 : decode cX0_areBrothers 55 = .ok (.invokevirtual 63, 3) := dk_182 0 63 (dk_at dksX0_areBrothers_2 7 rfl rfl)
theorem dX0_areBrothers_58 : decode cX0_areBrothers 58 = .ok (.iconst 1, 1) := dk_4 (dk_at dksX0_areBrothers_2 10 rfl rfl)
theorem dX0_areBrothers_59 : decode cX0_areBrothers 59 = .ok (.if_icmp .eq 34, 3) := dk_159 0 34 (dk_at dksX0_areBrothers_2 11 rfl rfl)
theorem dX0_areBrothers_62 : decode cX0_areBrothers 62 = .ok (.aload_n 0, 1) := dk_42 (dk_at dksX0_areBrothers_2 14 rfl rfl)
theorem dX0_areBrothers_63 : decode cX0_areBrothers 63 = .ok (.iload_n 3, 1) := dk_29 (dk_at dksX0_areBrothers_2 15 rfl rfl)
theorem dX0_areBrothers_64 : decode cX0_areBrothers 64 = .ok (.iconst 2, 1) := dk_5 (dk_at dksX0_areBrothers_2 16 rfl rfl)
theorem dX0_areBrothers_65 : decode cX0_areBrothers 65 = .ok (.invokevirtual 63, 3) := dk_182 0 63 (dk_at dksX0_areBrothers_2 17 rfl rfl)
theorem dX0_areBrothers_68 : decode cX0_areBrothers 68 = .ok (.ifCond .ge 7, 3) := dk_156 0 7 (dk_at dksX0_areBrothers_2 20 rfl rfl)
theorem dX0_areBrothers_71 : decode cX0_areBrothers 71 = .ok (.iconst 1, 1) := dk_4 (dk_at dksX0_areBrothers_2 23 rfl rfl)
theorem dX0_areBrothers_72 : decode cX0_areBrothers 72 = .ok (.goto 4, 3) := dk_167 0 4 (dk_at dksX0_areBrothers_3 0 rfl rfl)
theorem dX0_areBrothers_75 : decode cX0_areBrothers 75 = .ok (.iconst 0, 1) := dk_3 (dk_at dksX0_areBrothers_3 3 rfl rfl)
theorem dX0_areBrothers_76 : decode cX0_areBrothers 76 = .ok (.aload_n 0, 1) := dk_42 (dk_at dksX0_areBrothers_3 4 rfl rfl)
theorem dX0_areBrothers_77 : decode cX0_areBrothers 77 = .ok (.iload_n 3, 1) := dk_29 (dk_at dksX0_areBrothers_3 5 rfl rfl)
theorem dX0_areBrothers_78 : decode cX0_areBrothers 78 = .ok (.iconst 3, 1) := dk_6 (dk_at dksX0_areBrothers_3 6 rfl rfl)
theorem dX0_areBrothers_79 : decode cX0_areBrothers 79 = .ok (.invokevirtual 63, 3) := dk_182 0 63 (dk_at dksX0_areBrothers_3 7 rfl rfl)
theorem dX0_areBrothers_82 : decode cX0_areBrothers 82 = .ok (.ifCond .ge 7, 3) := dk_156 0 7 (dk_at dksX0_areBrothers_3 10 rfl rfl)
theorem dX0_areBrothers_85 : decode cX0_areBrothers 85 = .ok (.iconst 1, 1) := dk_4 (dk_at dksX0_areBrothers_3 13 rfl rfl)
theorem dX0_areBrothers_86 : decode cX0_areBrothers 86 = .ok (.goto 4, 3) := dk_167 0 4 (dk_at dksX0_areBrothers_3 14 rfl rfl)
theorem dX0_areBrothers_89 : decode cX0_areBrothers 89 = .ok (.iconst 0, 1) := dk_3 (dk_at dksX0_areBrothers_3 17 rfl rfl)
theorem dX0_areBrothers_90 : decode cX0_areBrothers 90 = .ok (.if_icmp .eq 5, 3) := dk_159 0 5 (dk_at dksX0_areBrothers_3 18 rfl rfl)
theorem dX0_areBrothers_93 : decode cX0_areBrothers 93 = .ok (.iconst 0, 1) := dk_3 (dk_at dksX0_areBrothers_3 21 rfl rfl)
theorem dX0_areBrothers_94 : decode cX0_areBrothers 94 = .ok (.ireturn, 1) := dk_172 (dk_at dksX0_areBrothers_3 22 rfl rfl)
theorem dX0_areBrothers_95 : decode cX0_areBrothers 95 = .ok (.aload_n 2, 1) := dk_44 (dk_at dksX0_areBrothers_3 23 rfl rfl)
theorem dX0_areBrothers_96 : decode cX0_areBrothers 96 = .ok (.iload_n 3, 1) := dk_29 (dk_at dksX0_areBrothers_4 0 rfl rfl)
theorem dX0_areBrothers_97 : decode cX0_areBrothers 97 = .ok (.iload 4, 2) := dk_21 4 (dk_at dksX0_areBrothers_4 1 rfl rfl)
theorem dX0_areBrothers_99 : decode cX0_areBrothers 99 = .ok (.iastore, 1) := dk_79 (dk_at dksX0_areBrothers_4 3 rfl rfl)
theorem dX0_areBrothers_100 : decode cX0_areBrothers 100 = .ok (.aload_n 0, 1) := dk_42 (dk_at dksX0_areBrothers_4 4 rfl rfl)
theorem dX0_areBrothers_101 : decode cX0_areBrothers 101 = .ok (.iload_n 3, 1) := dk_29 (dk_at dksX0_areBrothers_4 5 rfl rfl)
theorem dX0_areBrothers_102 : decode cX0_areBrothers 102 = .ok (.invokevirtual 230, 3) := dk_182 0 230 (dk_at dksX0_areBrothers_4 6 rfl rfl)
theorem dX0_areBrothers_105 : decode cX0_areBrothers 105 = .ok (.istore 5, 2) := dk_54 5 (dk_at dksX0_areBrothers_4 9 rfl rfl)
theorem dX0_areBrothers_107 : decode cX0_areBrothers 107 = .ok (.iload 4, 2) := dk_21 4 (dk_at dksX0_areBrothers_4 11 rfl rfl)
theorem dX0_areBrothers_109 : decode cX0_areBrothers 109 = .ok (.ifCond .ge 11, 3) := dk_156 0 11 (dk_at dksX0_areBrothers_4 13 rfl rfl)
theorem dX0_areBrothers_112 : decode cX0_areBrothers 112 = .ok (.iload 5, 2) := dk_21 5 (dk_at dksX0_areBrothers_4 16 rfl rfl)
theorem dX0_areBrothers_114 : decode cX0_areBrothers 114 = .ok (.ifCond .eq 17, 3) := dk_153 0 17 (dk_at dksX0_areBrothers_4 18 rfl rfl)
theorem dX0_areBrothers_117 : decode cX0_areBrothers 117 = .ok (.goto 12, 3) := dk_167 0 12 (dk_at dksX0_areBrothers_4 21 rfl rfl)
theorem dX0_areBrothers_120 : decode cX0_areBrothers 120 = .ok (.iload 5, 2) := dk_21 5 (dk_at dksX0_areBrothers_5 0 rfl rfl)
theorem dX0_areBrothers_122 : decode cX0_areBrothers 122 = .ok (.iload_n 3, 1) := dk_29 (dk_at dksX0_areBrothers_5 2 rfl rfl)
theorem dX0_areBrothers_123 : decode cX0_areBrothers 123 = .ok (.ishr, 1) := dk_122 (dk_at dksX0_areBrothers_5 3 rfl rfl)
theorem dX0_areBrothers_124 : decode cX0_areBrothers 124 = .ok (.iconst 1, 1) := dk_4 (dk_at dksX0_areBrothers_5 4 rfl rfl)
theorem dX0_areBrothers_125 : decode cX0_areBrothers 125 = .ok (.iand, 1) := dk_126 (dk_at dksX0_areBrothers_5 5 rfl rfl)
theorem dX0_areBrothers_126 : decode cX0_areBrothers 126 = .ok (.ifCond .ne 5, 3) := dk_154 0 5 (dk_at dksX0_areBrothers_5 6 rfl rfl)
theorem dX0_areBrothers_129 : decode cX0_areBrothers 129 = .ok (.iconst 0, 1) := dk_3 (dk_at dksX0_areBrothers_5 9 rfl rfl)
theorem dX0_areBrothers_130 : decode cX0_areBrothers 130 = .ok (.ireturn, 1) := dk_172 (dk_at dksX0_areBrothers_5 10 rfl rfl)
theorem dX0_areBrothers_131 : decode cX0_areBrothers 131 = .ok (.iconst 0, 1) := dk_3 (dk_at dksX0_areBrothers_5 11 rfl rfl)
theorem dX0_areBrothers_132 : decode cX0_areBrothers 132 = .ok (.istore 6, 2) := dk_54 6 (dk_at dksX0_areBrothers_5 12 rfl rfl)
theorem dX0_areBrothers_134 : decode cX0_areBrothers 134 = .ok (.iload 6, 2) := dk_21 6 (dk_at dksX0_areBrothers_5 14 rfl rfl)
theorem dX0_areBrothers_136 : decode cX0_areBrothers 136 = .ok (.aload_n 1, 1) := dk_43 (dk_at dksX0_areBrothers_5 16 rfl rfl)
theorem dX0_areBrothers_137 : decode cX0_areBrothers 137 = .ok (.getfield 60, 3) := dk_180 0 60 (dk_at dksX0_areBrothers_5 17 rfl rfl)
theorem dX0_areBrothers_140 : decode cX0_areBrothers 140 = .ok (.if_icmp .ge 33, 3) := dk_162 0 33 (dk_at dksX0_areBrothers_5 20 rfl rfl)
theorem dX0_areBrothers_143 : decode cX0_areBrothers 143 = .ok (.iload 5, 2) := dk_21 5 (dk_at dksX0_areBrothers_6 0 rfl rfl)
theorem dX0_areBrothers_145 : decode cX0_areBrothers 145 = .ok (.iload 6, 2) := dk_21 6 (dk_at dksX0_areBrothers_6 2 rfl rfl)
theorem dX0_areBrothers_147 : decode cX0_areBrothers 147 = .ok (.ishr, 1) := dk_122 (dk_at dksX0_areBrothers_6 4 rfl rfl)
theorem dX0_areBrothers_148 : decode cX0_areBrothers 148 = .ok (.iconst 1, 1) := dk_4 (dk_at dksX0_areBrothers_6 5 rfl rfl)
theorem dX0_areBrothers_149 : decode cX0_areBrothers 149 = .ok (.iand, 1) := dk_126 (dk_at dksX0_areBrothers_6 6 rfl rfl)
theorem dX0_areBrothers_150 : decode cX0_areBrothers 150 = .ok (.iconst 1, 1) := dk_4 (dk_at dksX0_areBrothers_6 7 rfl rfl)
theorem dX0_areBrothers_151 : decode cX0_areBrothers 151 = .ok (.if_icmp .ne 16, 3) := dk_160 0 16 (dk_at dksX0_areBrothers_6 8 rfl rfl)
theorem dX0_areBrothers_154 : decode cX0_areBrothers 154 = .ok (.aload_n 0, 1) := dk_42 (dk_at dksX0_areBrothers_6 11 rfl rfl)
theorem dX0_areBrothers_155 : decode cX0_areBrothers 155 = .ok (.iload 6, 2) := dk_21 6 (dk_at dksX0_areBrothers_6 12 rfl rfl)
theorem dX0_areBrothers_157 : decode cX0_areBrothers 157 = .ok (.invokevirtual 230, 3) := dk_182 0 230 (dk_at dksX0_areBrothers_6 14 rfl rfl)
theorem dX0_areBrothers_160 : decode cX0_areBrothers 160 = .ok (.iload 5, 2) := dk_21 5 (dk_at dksX0_areBrothers_6 17 rfl rfl)
theorem dX0_areBrothers_162 : decode cX0_areBrothers 162 = .ok (.if_icmp .eq 5, 3) := dk_159 0 5 (dk_at dksX0_areBrothers_6 19 rfl rfl)
theorem dX0_areBrothers_165 : decode cX0_areBrothers 165 = .ok (.iconst 0, 1) := dk_3 (dk_at dksX0_areBrothers_6 22 rfl rfl)
theorem dX0_areBrothers_166 : decode cX0_areBrothers 166 = .ok (.ireturn, 1) := dk_172 (dk_at dksX0_areBrothers_6 23 rfl rfl)
theorem dX0_areBrothers_167 : decode cX0_areBrothers 167 = .ok (.iinc 6 1, 3) := dk_132 6 1 (dk_at dksX0_areBrothers_7 0 rfl rfl)
theorem dX0_areBrothers_170 : decode cX0_areBrothers 170 = .ok (.goto (-36), 3) := dk_167 255 220 (dk_at dksX0_areBrothers_7 3 rfl rfl)
theorem dX0_areBrothers_173 : decode cX0_areBrothers 173 = .ok (.iinc 3 1, 3) := dk_132 3 1 (dk_at dksX0_areBrothers_7 6 rfl rfl)
theorem dX0_areBrothers_176 : decode cX0_areBrothers 176 = .ok (.goto (-174), 3) := dk_167 255 82 (dk_at dksX0_areBrothers_7 9 rfl rfl)
theorem dX0_areBrothers_179 : decode cX0_areBrothers 179 = .ok (.iconst 1, 1) := dk_4 (dk_at dksX0_areBrothers_7 12 rfl rfl)
theorem dX0_areBrothers_180 : decode cX0_areBrothers 180 = .ok (.ireturn, 1) := dk_172 (dk_at dksX0_areBrothers_7 13 rfl rfl)
abbrev cX0_isSeen : ByteArray := method_30_code
def yX0_isSeen : MethodName := ⟨RX0, "isSeen", "(LKilnBench;LKilnBenchLaw$All;III)Z"⟩
def dkwX0_isSeen_5 : List UInt8 := [160, 0, 7, 4, 167, 0, 4, 3, 172]
abbrev dktX0_isSeen_5 : List UInt8 := dkwX0_isSeen_5 ++ []
def dkwX0_isSeen_4 : List UInt8 := [182, 1, 55, 4, 160, 0, 26, 42, 16, 9, 182, 0, 73, 4, 160, 0, 16, 42, 182, 1, 51, 21, 6]
abbrev dktX0_isSeen_4 : List UInt8 := dkwX0_isSeen_4 ++ dktX0_isSeen_5
def dkwX0_isSeen_3 : List UInt8 := [58, 7, 42, 182, 1, 51, 19, 1, 54, 160, 0, 43, 42, 25, 7, 184, 0, 45, 153, 0, 34, 42]
abbrev dktX0_isSeen_3 : List UInt8 := dkwX0_isSeen_3 ++ dktX0_isSeen_4
def dkwX0_isSeen_2 : List UInt8 := [54, 6, 132, 7, 1, 167, 255, 220, 6, 188, 10, 89, 3, 28, 79, 89, 4, 29, 79, 89, 5, 21, 5, 79]
abbrev dktX0_isSeen_2 : List UInt8 := dkwX0_isSeen_2 ++ dktX0_isSeen_3
def dkwX0_isSeen_1 : List UInt8 := [21, 6, 42, 28, 21, 7, 29, 182, 0, 97, 21, 5, 160, 0, 10, 4, 21, 7, 120, 167, 0, 4, 3, 128]
abbrev dktX0_isSeen_1 : List UInt8 := dkwX0_isSeen_1 ++ dktX0_isSeen_2
def dkwX0_isSeen_0 : List UInt8 := [42, 28, 21, 4, 29, 182, 0, 97, 54, 5, 3, 54, 6, 3, 54, 7, 21, 7, 16, 20, 163, 0, 35]
abbrev dktX0_isSeen_0 : List UInt8 := dkwX0_isSeen_0 ++ dktX0_isSeen_1
theorem dksX0_isSeen_0 : cX0_isSeen.data.toList.drop 0 = dktX0_isSeen_0 := by decide +kernel
theorem dksX0_isSeen_1 : cX0_isSeen.data.toList.drop 23 = dktX0_isSeen_1 := dk_seg dksX0_isSeen_0 23 rfl rfl
theorem dksX0_isSeen_2 : cX0_isSeen.data.toList.drop 47 = dktX0_isSeen_2 := dk_seg dksX0_isSeen_1 24 rfl rfl
theorem dksX0_isSeen_3 : cX0_isSeen.data.toList.drop 71 = dktX0_isSeen_3 := dk_seg dksX0_isSeen_2 24 rfl rfl
theorem dksX0_isSeen_4 : cX0_isSeen.data.toList.drop 93 = dktX0_isSeen_4 := dk_seg dksX0_isSeen_3 22 rfl rfl
theorem dksX0_isSeen_5 : cX0_isSeen.data.toList.drop 116 = dktX0_isSeen_5 := dk_seg dksX0_isSeen_4 23 rfl rfl
theorem dX0_isSeen_0 : decode cX0_isSeen 0 = .ok (.aload_n 0, 1) := dk_42 (dk_at dksX0_isSeen_0 0 rfl rfl)
theorem dX0_isSeen_1 : decode cX0_isSeen 1 = .ok (.iload_n 2, 1) := dk_28 (dk_at dksX0_isSeen_0 1 rfl rfl)
theorem dX0_isSeen_2 : decode cX0_isSeen 2 = .ok (.iload 4, 2) := dk_21 4 (dk_at dksX0_isSeen_0 2 rfl rfl)
theorem dX0_isSeen_4 : decode cX0_isSeen 4 = .ok (.iload_n 3, 1) := dk_29 (dk_at dksX0_isSeen_0 4 rfl rfl)
theorem dX0_isSeen_5 : decode cX0_isSeen 5 = .ok (.invokevirtual 97, 3) := dk_182 0 97 (dk_at dksX0_isSeen_0 5 rfl rfl)
theorem dX0_isSeen_8 : decode cX0_isSeen 8 = .ok (.istore 5, 2) := dk_54 5 (dk_at dksX0_isSeen_0 8 rfl rfl)
theorem dX0_isSeen_10 : decode cX0_isSeen 10 = .ok (.iconst 0, 1) := dk_3 (dk_at dksX0_isSeen_0 10 rfl rfl)
theorem dX0_isSeen_11 : decode cX0_isSeen 11 = .ok (.istore 6, 2) := dk_54 6 (dk_at dksX0_isSeen_0 11 rfl rfl)
theorem dX0_isSeen_13 : decode cX0_isSeen 13 = .ok (.iconst 0, 1) := dk_3 (dk_at dksX0_isSeen_0 13 rfl rfl)
theorem dX0_isSeen_14 : decode cX0_isSeen 14 = .ok (.istore 7, 2) := dk_54 7 (dk_at dksX0_isSeen_0 14 rfl rfl)
theorem dX0_isSeen_16 : decode cX0_isSeen 16 = .ok (.iload 7, 2) := dk_21 7 (dk_at dksX0_isSeen_0 16 rfl rfl)
theorem dX0_isSeen_18 : decode cX0_isSeen 18 = .ok (.bipush 20, 2) := dk_16 20 (dk_at dksX0_isSeen_0 18 rfl rfl)
theorem dX0_isSeen_20 : decode cX0_isSeen 20 = .ok (.if_icmp .gt 35, 3) := dk_163 0 35 (dk_at dksX0_isSeen_0 20 rfl rfl)
theorem dX0_isSeen_23 : decode cX0_isSeen 23 = .ok (.iload 6, 2) := dk_21 6 (dk_at dksX0_isSeen_1 0 rfl rfl)
theorem dX0_isSeen_25 : decode cX0_isSeen 25 = .ok (.aload_n 0, 1) := dk_42 (dk_at dksX0_isSeen_1 2 rfl rfl)
theorem dX0_isSeen_26 : decode cX0_isSeen 26 = .ok (.iload_n 2, 1) := dk_28 (dk_at dksX0_isSeen_1 3 rfl rfl)
theorem dX0_isSeen_27 : decode cX0_isSeen 27 = .ok (.iload 7, 2) := dk_21 7 (dk_at dksX0_isSeen_1 4 rfl rfl)
theorem dX0_isSeen_29 : decode cX0_isSeen 29 = .ok (.iload_n 3, 1) := dk_29 (dk_at dksX0_isSeen_1 6 rfl rfl)
theorem dX0_isSeen_30 : decode cX0_isSeen 30 = .ok (.invokevirtual 97, 3) := dk_182 0 97 (dk_at dksX0_isSeen_1 7 rfl rfl)
theorem dX0_isSeen_33 : decode cX0_isSeen 33 = .ok (.iload 5, 2) := dk_21 5 (dk_at dksX0_isSeen_1 10 rfl rfl)
theorem dX0_isSeen_35 : decode cX0_isSeen 35 = .ok (.if_icmp .ne 10, 3) := dk_160 0 10 (dk_at dksX0_isSeen_1 12 rfl rfl)
theorem dX0_isSeen_38 : decode cX0_isSeen 38 = .ok (.iconst 1, 1) := dk_4 (dk_at dksX0_isSeen_1 15 rfl rfl)
theorem dX0_isSeen_39 : decode cX0_isSeen 39 = .ok (.iload 7, 2) := dk_21 7 (dk_at dksX0_isSeen_1 16 rfl rfl)
theorem dX0_isSeen_41 : decode cX0_isSeen 41 = .ok (.ishl, 1) := dk_120 (dk_at dksX0_isSeen_1 18 rfl rfl)
theorem dX0_isSeen_42 : decode cX0_isSeen 42 = .ok (.goto 4, 3) := dk_167 0 4 (dk_at dksX0_isSeen_1 19 rfl rfl)
theorem dX0_isSeen_45 : decode cX0_isSeen 45 = .ok (.iconst 0, 1) := dk_3 (dk_at dksX0_isSeen_1 22 rfl rfl)
theorem dX0_isSeen_46 : decode cX0_isSeen 46 = .ok (.ior, 1) := dk_128 (dk_at dksX0_isSeen_1 23 rfl rfl)
theorem dX0_isSeen_47 : decode cX0_isSeen 47 = .ok (.istore 6, 2) := dk_54 6 (dk_at dksX0_isSeen_2 0 rfl rfl)
theorem dX0_isSeen_49 : decode cX0_isSeen 49 = .ok (.iinc 7 1, 3) := dk_132 7 1 (dk_at dksX0_isSeen_2 2 rfl rfl)
theorem dX0_isSeen_52 : decode cX0_isSeen 52 = .ok (.goto (-36), 3) := dk_167 255 220 (dk_at dksX0_isSeen_2 5 rfl rfl)
theorem dX0_isSeen_55 : decode cX0_isSeen 55 = .ok (.iconst 3, 1) := dk_6 (dk_at dksX0_isSeen_2 8 rfl rfl)
theorem dX0_isSeen_56 : decode cX0_isSeen 56 = .ok (.newarray .int, 2) := dk_188_10 (dk_at dksX0_isSeen_2 9 rfl rfl)
theorem dX0_isSeen_58 : decode cX0_isSeen 58 = .ok (.dup, 1) := dk_89 (dk_at dksX0_isSeen_2 11 rfl rfl)
theorem dX0_isSeen_59 : decode cX0_isSeen 59 = .ok (.iconst 0, 1) := dk_3 (dk_at dksX0_isSeen_2 12 rfl rfl)
theorem dX0_isSeen_60 : decode cX0_isSeen 60 = .ok (.iload_n 2, 1) := dk_28 (dk_at dksX0_isSeen_2 13 rfl rfl)
theorem dX0_isSeen_61 : decode cX0_isSeen 61 = .ok (.iastore, 1) := dk_79 (dk_at dksX0_isSeen_2 14 rfl rfl)
theorem dX0_isSeen_62 : decode cX0_isSeen 62 = .ok (.dup, 1) := dk_89 (dk_at dksX0_isSeen_2 15 rfl rfl)
theorem dX0_isSeen_63 : decode cX0_isSeen 63 = .ok (.iconst 1, 1) := dk_4 (dk_at dksX0_isSeen_2 16 rfl rfl)
theorem dX0_isSeen_64 : decode cX0_isSeen 64 = .ok (.iload_n 3, 1) := dk_29 (dk_at dksX0_isSeen_2 17 rfl rfl)
theorem dX0_isSeen_65 : decode cX0_isSeen 65 = .ok (.iastore, 1) := dk_79 (dk_at dksX0_isSeen_2 18 rfl rfl)
theorem dX0_isSeen_66 : decode cX0_isSeen 66 = .ok (.dup, 1) := dk_89 (dk_at dksX0_isSeen_2 19 rfl rfl)
theorem dX0_isSeen_67 : decode cX0_isSeen 67 = .ok (.iconst 2, 1) := dk_5 (dk_at dksX0_isSeen_2 20 rfl rfl)
theorem dX0_isSeen_68 : decode cX0_isSeen 68 = .ok (.iload 5, 2) := dk_21 5 (dk_at dksX0_isSeen_2 21 rfl rfl)
theorem dX0_isSeen_70 : decode cX0_isSeen 70 = .ok (.iastore, 1) := dk_79 (dk_at dksX0_isSeen_2 23 rfl rfl)
theorem dX0_isSeen_71 : decode cX0_isSeen 71 = .ok (.astore 7, 2) := dk_58 7 (dk_at dksX0_isSeen_3 0 rfl rfl)
theorem dX0_isSeen_73 : decode cX0_isSeen 73 = .ok (.aload_n 0, 1) := dk_42 (dk_at dksX0_isSeen_3 2 rfl rfl)
theorem dX0_isSeen_74 : decode cX0_isSeen 74 = .ok (.invokevirtual 307, 3) := dk_182 1 51 (dk_at dksX0_isSeen_3 3 rfl rfl)
theorem dX0_isSeen_77 : decode cX0_isSeen 77 = .ok (.ldc_w 310, 3) := dk_19 1 54 (dk_at dksX0_isSeen_3 6 rfl rfl)
theorem dX0_isSeen_80 : decode cX0_isSeen 80 = .ok (.if_icmp .ne 43, 3) := dk_160 0 43 (dk_at dksX0_isSeen_3 9 rfl rfl)
theorem dX0_isSeen_83 : decode cX0_isSeen 83 = .ok (.aload_n 0, 1) := dk_42 (dk_at dksX0_isSeen_3 12 rfl rfl)
theorem dX0_isSeen_84 : decode cX0_isSeen 84 = .ok (.aload 7, 2) := dk_25 7 (dk_at dksX0_isSeen_3 13 rfl rfl)
theorem dX0_isSeen_86 : decode cX0_isSeen 86 = .ok (.invokestatic 45, 3) := dk_184 0 45 (dk_at dksX0_isSeen_3 15 rfl rfl)
theorem dX0_isSeen_89 : decode cX0_isSeen 89 = .ok (.ifCond .eq 34, 3) := dk_153 0 34 (dk_at dksX0_isSeen_3 18 rfl rfl)
theorem dX0_isSeen_92 : decode cX0_isSeen 92 = .ok (.aload_n 0, 1) := dk_42 (dk_at dksX0_isSeen_3 21 rfl rfl)
theorem dX0_isSeen_93 : decode cX0_isSeen 93 = .ok (.invokevirtual 311, 3) := dk_182 1 55 (dk_at dksX0_isSeen_4 0 rfl rfl)
theorem dX0_isSeen_96 : decode cX0_isSeen 96 = .ok (.iconst 1, 1) := dk_4 (dk_at dksX0_isSeen_4 3 rfl rfl)
theorem dX0_isSeen_97 : decode cX0_isSeen 97 = .ok (.if_icmp .ne 26, 3) := dk_160 0 26 (dk_at dksX0_isSeen_4 4 rfl rfl)
theorem dX0_isSeen_100 : decode cX0_isSeen 100 = .ok (.aload_n 0, 1) := dk_42 (dk_at dksX0_isSeen_4 7 rfl rfl)
theorem dX0_isSeen_101 : decode cX0_isSeen 101 = .ok (.bipush 9, 2) := dk_16 9 (dk_at dksX0_isSeen_4 8 rfl rfl)
theorem dX0_isSeen_103 : decode cX0_isSeen 103 = .ok (.invokevirtual 73, 3) := dk_182 0 73 (dk_at dksX0_isSeen_4 10 rfl rfl)
theorem dX0_isSeen_106 : decode cX0_isSeen 106 = .ok (.iconst 1, 1) := dk_4 (dk_at dksX0_isSeen_4 13 rfl rfl)
theorem dX0_isSeen_107 : decode cX0_isSeen 107 = .ok (.if_icmp .ne 16, 3) := dk_160 0 16 (dk_at dksX0_isSeen_4 14 rfl rfl)
theorem dX0_isSeen_110 : decode cX0_isSeen 110 = .ok (.aload_n 0, 1) := dk_42 (dk_at dksX0_isSeen_4 17 rfl rfl)
theorem dX0_isSeen_111 : decode cX0_isSeen 111 = .ok (.invokevirtual 307, 3) := dk_182 1 51 (dk_at dksX0_isSeen_4 18 rfl rfl)
theorem dX0_isSeen_114 : decode cX0_isSeen 114 = .ok (.iload 6, 2) := dk_21 6 (dk_at dksX0_isSeen_4 21 rfl rfl)
theorem dX0_isSeen_116 : decode cX0_isSeen 116 = .ok (.if_icmp .ne 7, 3) := dk_160 0 7 (dk_at dksX0_isSeen_5 0 rfl rfl)
theorem dX0_isSeen_119 : decode cX0_isSeen 119 = .ok (.iconst 1, 1) := dk_4 (dk_at dksX0_isSeen_5 3 rfl rfl)
theorem dX0_isSeen_120 : decode cX0_isSeen 120 = .ok (.goto 4, 3) := dk_167 0 4 (dk_at dksX0_isSeen_5 4 rfl rfl)
theorem dX0_isSeen_123 : decode cX0_isSeen 123 = .ok (.iconst 0, 1) := dk_3 (dk_at dksX0_isSeen_5 7 rfl rfl)
theorem dX0_isSeen_124 : decode cX0_isSeen 124 = .ok (.ireturn, 1) := dk_172 (dk_at dksX0_isSeen_5 8 rfl rfl)
abbrev cX0_isImage : ByteArray := method_31_code
def yX0_isImage : MethodName := ⟨RX0, "isImage", "(LKilnBench;LKilnBenchLaw$All;)Z"⟩
def dkwX0_isImage_28 : List UInt8 := [21, 6, 153, 0, 15, 42, 43, 184, 0, 89, 153, 0, 7, 4, 167, 0, 4, 3, 172]
abbrev dktX0_isImage_28 : List UInt8 := dkwX0_isImage_28 ++ []
def dkwX0_isImage_27 : List UInt8 := [182, 1, 61, 25, 4, 21, 7, 46, 160, 0, 7, 4, 167, 0, 4, 3, 54, 6, 132, 7, 1, 167, 255, 221]
abbrev dktX0_isImage_27 : List UInt8 := dkwX0_isImage_27 ++ dktX0_isImage_28
def dkwX0_isImage_26 : List UInt8 := [167, 0, 4, 3, 54, 6, 3, 54, 7, 21, 7, 29, 162, 0, 35, 21, 6, 153, 0, 21, 42, 21, 7]
abbrev dktX0_isImage_26 : List UInt8 := dkwX0_isImage_26 ++ dktX0_isImage_27
def dkwX0_isImage_25 : List UInt8 := [21, 6, 46, 159, 0, 5, 3, 172, 132, 6, 1, 167, 255, 208, 42, 182, 1, 58, 29, 160, 0, 7, 4]
abbrev dktX0_isImage_25 : List UInt8 := dkwX0_isImage_25 ++ dktX0_isImage_26
def dkwX0_isImage_24 : List UInt8 := [182, 0, 80, 44, 180, 0, 149, 21, 6, 46, 160, 0, 20, 42, 21, 6, 4, 182, 0, 80, 44, 180, 0, 115]
abbrev dktX0_isImage_24 : List UInt8 := dkwX0_isImage_24 ++ dktX0_isImage_25
def dkwX0_isImage_23 : List UInt8 := [3, 172, 132, 6, 1, 167, 255, 232, 3, 54, 6, 21, 6, 43, 180, 0, 54, 162, 0, 45, 42, 21, 6, 5]
abbrev dktX0_isImage_23 : List UInt8 := dkwX0_isImage_23 ++ dktX0_isImage_24
def dkwX0_isImage_22 : List UInt8 := [3, 172, 3, 54, 6, 21, 6, 43, 180, 0, 60, 162, 0, 21, 44, 42, 21, 6, 182, 0, 214, 154, 0, 5]
abbrev dktX0_isImage_22 : List UInt8 := dkwX0_isImage_22 ++ dktX0_isImage_23
def dkwX0_isImage_21 : List UInt8 := [42, 6, 182, 0, 73, 44, 180, 0, 195, 160, 0, 15, 42, 5, 182, 0, 73, 44, 180, 0, 207, 159, 0, 5]
abbrev dktX0_isImage_21 : List UInt8 := dkwX0_isImage_21 ++ dktX0_isImage_22
def dkwX0_isImage_20 : List UInt8 := [16, 8, 182, 0, 73, 154, 0, 43, 42, 16, 10, 182, 0, 73, 154, 0, 34, 42, 182, 0, 244, 154, 0, 27]
abbrev dktX0_isImage_20 : List UInt8 := dkwX0_isImage_20 ++ dktX0_isImage_21
def dkwX0_isImage_19 : List UInt8 := [132, 6, 1, 167, 255, 201, 42, 25, 4, 184, 0, 45, 153, 0, 59, 42, 182, 1, 68, 153, 0, 52, 42]
abbrev dktX0_isImage_19 : List UInt8 := dkwX0_isImage_19 ++ dktX0_isImage_20
def dkwX0_isImage_18 : List UInt8 := [46, 156, 0, 9, 17, 0, 255, 167, 0, 10, 44, 180, 0, 149, 21, 6, 46, 159, 0, 5, 3, 172]
abbrev dktX0_isImage_18 : List UInt8 := dkwX0_isImage_18 ++ dktX0_isImage_19
def dkwX0_isImage_17 : List UInt8 := [162, 0, 52, 25, 4, 7, 16, 6, 43, 180, 0, 60, 104, 96, 21, 6, 96, 46, 44, 180, 0, 149, 21, 6]
abbrev dktX0_isImage_17 : List UInt8 := dkwX0_isImage_17 ++ dktX0_isImage_18
def dkwX0_isImage_16 : List UInt8 := [54, 8, 21, 8, 154, 0, 5, 3, 172, 132, 6, 1, 167, 255, 34, 3, 54, 6, 21, 6, 43, 180, 0, 54]
abbrev dktX0_isImage_16 : List UInt8 := dkwX0_isImage_16 ++ dktX0_isImage_17
def dkwX0_isImage_15 : List UInt8 := [126, 154, 0, 22, 25, 4, 21, 7, 8, 96, 46, 21, 6, 122, 4, 126, 154, 0, 7, 4, 167, 0, 4, 3]
abbrev dktX0_isImage_15 : List UInt8 := dkwX0_isImage_15 ++ dktX0_isImage_16
def dkwX0_isImage_14 : List UInt8 := [16, 6, 182, 0, 63, 160, 0, 42, 25, 4, 21, 7, 8, 96, 46, 44, 180, 1, 66, 21, 6, 46, 2, 130]
abbrev dktX0_isImage_14 : List UInt8 := dkwX0_isImage_14 ++ dktX0_isImage_15
def dkwX0_isImage_13 : List UInt8 := [167, 0, 10, 44, 180, 1, 64, 21, 6, 46, 160, 0, 60, 25, 4, 21, 7, 7, 96, 46, 42, 21, 6]
abbrev dktX0_isImage_13 : List UInt8 := dkwX0_isImage_13 ++ dktX0_isImage_14
def dkwX0_isImage_12 : List UInt8 := [153, 0, 93, 25, 4, 21, 7, 6, 96, 46, 44, 180, 0, 163, 21, 6, 51, 153, 0, 9, 17, 0, 255]
abbrev dktX0_isImage_12 : List UInt8 := dkwX0_isImage_12 ++ dktX0_isImage_13
def dkwX0_isImage_11 : List UInt8 := [167, 0, 10, 44, 180, 0, 122, 21, 6, 46, 160, 0, 7, 4, 167, 0, 4, 3, 54, 8, 21, 8]
abbrev dktX0_isImage_11 : List UInt8 := dkwX0_isImage_11 ++ dktX0_isImage_12
def dkwX0_isImage_10 : List UInt8 := [160, 0, 40, 25, 4, 21, 7, 5, 96, 46, 44, 180, 0, 122, 21, 6, 46, 156, 0, 9, 17, 0, 255]
abbrev dktX0_isImage_10 : List UInt8 := dkwX0_isImage_10 ++ dktX0_isImage_11
def dkwX0_isImage_9 : List UInt8 := [44, 180, 0, 120, 21, 6, 46, 156, 0, 9, 17, 0, 255, 167, 0, 10, 44, 180, 0, 120, 21, 6, 46]
abbrev dktX0_isImage_9 : List UInt8 := dkwX0_isImage_9 ++ dktX0_isImage_10
def dkwX0_isImage_8 : List UInt8 := [180, 0, 163, 21, 6, 51, 153, 0, 7, 3, 167, 0, 4, 4, 160, 0, 73, 25, 4, 21, 7, 4, 96, 46]
abbrev dktX0_isImage_8 : List UInt8 := dkwX0_isImage_8 ++ dktX0_isImage_9
def dkwX0_isImage_7 : List UInt8 := [43, 180, 0, 60, 162, 0, 219, 7, 16, 6, 21, 6, 104, 96, 54, 7, 25, 4, 21, 7, 46, 44]
abbrev dktX0_isImage_7 : List UInt8 := dkwX0_isImage_7 ++ dktX0_isImage_8
def dkwX0_isImage_6 : List UInt8 := [25, 4, 5, 46, 104, 25, 4, 6, 46, 96, 44, 180, 0, 195, 159, 0, 5, 3, 172, 3, 54, 6, 21, 6]
abbrev dktX0_isImage_6 : List UInt8 := dkwX0_isImage_6 ++ dktX0_isImage_7
def dkwX0_isImage_5 : List UInt8 := [17, 1, 0, 25, 4, 3, 46, 104, 25, 4, 4, 46, 96, 44, 180, 0, 207, 160, 0, 23, 17, 1, 0]
abbrev dktX0_isImage_5 : List UInt8 := dkwX0_isImage_5 ++ dktX0_isImage_6
def dkwX0_isImage_4 : List UInt8 := [17, 0, 251, 112, 54, 5, 132, 6, 1, 167, 255, 212, 25, 4, 29, 4, 100, 46, 21, 5, 160, 0, 43]
abbrev dktX0_isImage_4 : List UInt8 := dkwX0_isImage_4 ++ dktX0_isImage_5
def dkwX0_isImage_3 : List UInt8 := [182, 1, 61, 79, 21, 6, 29, 4, 100, 162, 0, 19, 8, 21, 5, 104, 25, 4, 21, 6, 46, 96]
abbrev dktX0_isImage_3 : List UInt8 := dkwX0_isImage_3 ++ dktX0_isImage_4
def dkwX0_isImage_2 : List UInt8 := [58, 4, 17, 0, 241, 54, 5, 3, 54, 6, 21, 6, 29, 162, 0, 44, 25, 4, 21, 6, 42, 21, 6]
abbrev dktX0_isImage_2 : List UInt8 := dkwX0_isImage_2 ++ dktX0_isImage_3
def dkwX0_isImage_1 : List UInt8 := [96, 43, 180, 0, 54, 96, 160, 0, 12, 42, 29, 182, 1, 61, 2, 159, 0, 5, 3, 172, 29, 188, 10]
abbrev dktX0_isImage_1 : List UInt8 := dkwX0_isImage_1 ++ dktX0_isImage_2
def dkwX0_isImage_0 : List UInt8 := [187, 0, 116, 89, 42, 43, 183, 1, 11, 77, 42, 182, 1, 58, 62, 29, 8, 16, 6, 43, 180, 0, 60, 104]
abbrev dktX0_isImage_0 : List UInt8 := dkwX0_isImage_0 ++ dktX0_isImage_1
theorem dksX0_isImage_0 : cX0_isImage.data.toList.drop 0 = dktX0_isImage_0 := by decide +kernel
theorem dksX0_isImage_1 : cX0_isImage.data.toList.drop 24 = dktX0_isImage_1 := dk_seg dksX0_isImage_0 24 rfl rfl
theorem dksX0_isImage_2 : cX0_isImage.data.toList.drop 47 = dktX0_isImage_2 := dk_seg dksX0_isImage_1 23 rfl rfl
theorem dksX0_isImage_3 : cX0_isImage.data.toList.drop 70 = dktX0_isImage_3 := dk_seg dksX0_isImage_2 23 rfl rfl
theorem dksX0_isImage_4 : cX0_isImage.data.toList.drop 92 = dktX0_isImage_4 := dk_seg dksX0_isImage_3 22 rfl rfl
theorem dksX0_isImage_5 : cX0_isImage.data.toList.drop 115 = dktX0_isImage_5 := dk_seg dksX0_isImage_4 23 rfl rfl
theorem dksX0_isImage_6 : cX0_isImage.data.toList.drop 138 = dktX0_isImage_6 := dk_seg dksX0_isImage_5 23 rfl rfl
theorem dksX0_isImage_7 : cX0_isImage.data.toList.drop 162 = dktX0_isImage_7 := dk_seg dksX0_isImage_6 24 rfl rfl
theorem dksX0_isImage_8 : cX0_isImage.data.toList.drop 184 = dktX0_isImage_8 := dk_seg dksX0_isImage_7 22 rfl rfl
theorem dksX0_isImage_9 : cX0_isImage.data.toList.drop 208 = dktX0_isImage_9 := dk_seg dksX0_isImage_8 24 rfl rfl
theorem dksX0_isImage_10 : cX0_isImage.data.toList.drop 231 = dktX0_isImage_10 := dk_seg dksX0_isImage_9 23 rfl rfl
theorem dksX0_isImage_11 : cX0_isImage.data.toList.drop 254 = dktX0_isImage_11 := dk_seg dksX0_isImage_10 23 rfl rfl
theorem dksX0_isImage_12 : cX0_isImage.data.toList.drop 276 = dktX0_isImage_12 := dk_seg dksX0_isImage_11 22 rfl rfl
theorem dksX0_isImage_13 : cX0_isImage.data.toList.drop 299 = dktX0_isImage_13 := dk_seg dksX0_isImage_12 23 rfl rfl
theorem dksX0_isImage_14 : cX0_isImage.data.toList.drop 322 = dktX0_isImage_14 := dk_seg dksX0_isImage_13 23 rfl rfl
theorem dksX0_isImage_15 : cX0_isImage.data.toList.drop 346 = dktX0_isImage_15 := dk_seg dksX0_isImage_14 24 rfl rfl
theorem dksX0_isImage_16 : cX0_isImage.data.toList.drop 370 = dktX0_isImage_16 := dk_seg dksX0_isImage_15 24 rfl rfl
theorem dksX0_isImage_17 : cX0_isImage.data.toList.drop 394 = dktX0_isImage_17 := dk_seg dksX0_isImage_16 24 rfl rfl
theorem dksX0_isImage_18 : cX0_isImage.data.toList.drop 418 = dktX0_isImage_18 := dk_seg dksX0_isImage_17 24 rfl rfl
theorem dksX0_isImage_19 : cX0_isImage.data.toList.drop 440 = dktX0_isImage_19 := dk_seg dksX0_isImage_18 22 rfl rfl
theorem dksX0_isImage_20 : cX0_isImage.data.toList.drop 463 = dktX0_isImage_20 := dk_seg dksX0_isImage_19 23 rfl rfl
theorem dksX0_isImage_21 : cX0_isImage.data.toList.drop 487 = dktX0_isImage_21 := dk_seg dksX0_isImage_20 24 rfl rfl
theorem dksX0_isImage_22 : cX0_isImage.data.toList.drop 511 = dktX0_isImage_22 := dk_seg dksX0_isImage_21 24 rfl rfl
theorem dksX0_isImage_23 : cX0_isImage.data.toList.drop 535 = dktX0_isImage_23 := dk_seg dksX0_isImage_22 24 rfl rfl
theorem dksX0_isImage_24 : cX0_isImage.data.toList.drop 559 = dktX0_isImage_24 := dk_seg dksX0_isImage_23 24 rfl rfl
theorem dksX0_isImage_25 : cX0_isImage.data.toList.drop 583 = dktX0_isImage_25 := dk_seg dksX0_isImage_24 24 rfl rfl
theorem dksX0_isImage_26 : cX0_isImage.data.toList.drop 606 = dktX0_isImage_26 := dk_seg dksX0_isImage_25 23 rfl rfl
theorem dksX0_isImage_27 : cX0_isImage.data.toList.drop 629 = dktX0_isImage_27 := dk_seg dksX0_isImage_26 23 rfl rfl
theorem dksX0_isImage_28 : cX0_isImage.data.toList.drop 653 = dktX0_isImage_28 := dk_seg dksX0_isImage_27 24 rfl rfl
theorem dX0_isImage_0 : decode cX0_isImage 0 = .ok (.new 116, 3) := dk_187 0 116 (dk_at dksX0_isImage_0 0 rfl rfl)
theorem dX0_isImage_3 : decode cX0_isImage 3 = .ok (.dup, 1) := dk_89 (dk_at dksX0_isImage_0 3 rfl rfl)
theorem dX0_isImage_4 : decode cX0_isImage 4 = .ok (.aload_n 0, 1) := dk_42 (dk_at dksX0_isImage_0 4 rfl rfl)
theorem dX0_isImage_5 : decode cX0_isImage 5 = .ok (.aload_n 1, 1) := dk_43 (dk_at dksX0_isImage_0 5 rfl rfl)
theorem dX0_isImage_6 : decode cX0_isImage 6 = .ok (.invokespecial 267, 3) := dk_183 1 11 (dk_at dksX0_isImage_0 6 rfl rfl)
theorem dX0_isImage_9 : decode cX0_isImage 9 = .ok (.astore_n 2, 1) := dk_77 (dk_at dksX0_isImage_0 9 rfl rfl)
theorem dX0_isImage_10 : decode cX0_isImage 10 = .ok (.aload_n 0, 1) := dk_42 (dk_at dksX0_isImage_0 10 rfl rfl)
theorem dX0_isImage_11 : decode cX0_isImage 11 = .ok (.invokevirtual 314, 3) := dk_182 1 58 (dk_at dksX0_isImage_0 11 rfl rfl)
theorem dX0_isImage_14 : decode cX0_isImage 14 = .ok (.istore_n 3, 1) := dk_62 (dk_at dksX0_isImage_0 14 rfl rfl)
theorem dX0_isImage_15 : decode cX0_isImage 15 = .ok (.iload_n 3, 1) := dk_29 (dk_at dksX0_isImage_0 15 rfl rfl)
theorem dX0_isImage_16 : decode cX0_isImage 16 = .ok (.iconst 5, 1) := dk_8 (dk_at dksX0_isImage_0 16 rfl rfl)
theorem dX0_isImage_17 : decode cX0_isImage 17 = .ok (.bipush 6, 2) := dk_16 6 (dk_at dksX0_isImage_0 17 rfl rfl)
theorem dX0_isImage_19 : decode cX0_isImage 19 = .ok (.aload_n 1, 1) := dk_43 (dk_at dksX0_isImage_0 19 rfl rfl)
theorem dX0_isImage_20 : decode cX0_isImage 20 = .ok (.getfield 60, 3) := dk_180 0 60 (dk_at dksX0_isImage_0 20 rfl rfl)
theorem dX0_isImage_23 : decode cX0_isImage 23 = .ok (.imul, 1) := dk_104 (dk_at dksX0_isImage_0 23 rfl rfl)
theorem dX0_isImage_24 : decode cX0_isImage 24 = .ok (.iadd, 1) := dk_96 (dk_at dksX0_isImage_1 0 rfl rfl)
theorem dX0_isImage_25 : decode cX0_isImage 25 = .ok (.aload_n 1, 1) := dk_43 (dk_at dksX0_isImage_1 1 rfl rfl)
theorem dX0_isImage_26 : decode cX0_isImage 26 = .ok (.getfield 54, 3) := dk_180 0 54 (dk_at dksX0_isImage_1 2 rfl rfl)
theorem dX0_isImage_29 : decode cX0_isImage 29 = .ok (.iadd, 1) := dk_96 (dk_at dksX0_isImage_1 5 rfl rfl)
theorem dX0_isImage_30 : decode cX0_isImage 30 = .ok (.if_icmp .ne 12, 3) := dk_160 0 12 (dk_at dksX0_isImage_1 6 rfl rfl)
theorem dX0_isImage_33 : decode cX0_isImage 33 = .ok (.aload_n 0, 1) := dk_42 (dk_at dksX0_isImage_1 9 rfl rfl)
theorem dX0_isImage_34 : decode cX0_isImage 34 = .ok (.iload_n 3, 1) := dk_29 (dk_at dksX0_isImage_1 10 rfl rfl)
theorem dX0_isImage_35 : decode cX0_isImage 35 = .ok (.invokevirtual 317, 3) := dk_182 1 61 (dk_at dksX0_isImage_1 11 rfl rfl)
theorem dX0_isImage_38 : decode cX0_isImage 38 = .ok (.iconst (-1), 1) := dk_2 (dk_at dksX0_isImage_1 14 rfl rfl)
theorem dX0_isImage_39 : decode cX0_isImage 39 = .ok (.if_icmp .eq 5, 3) := dk_159 0 5 (dk_at dksX0_isImage_1 15 rfl rfl)
theorem dX0_isImage_42 : decode cX0_isImage 42 = .ok (.iconst 0, 1) := dk_3 (dk_at dksX0_isImage_1 18 rfl rfl)
theorem dX0_isImage_43 : decode cX0_isImage 43 = .ok (.ireturn, 1) := dk_172 (dk_at dksX0_isImage_1 19 rfl rfl)
theorem dX0_isImage_44 : decode cX0_isImage 44 = .ok (.iload_n 3, 1) := dk_29 (dk_at dksX0_isImage_1 20 rfl rfl)
theorem dX0_isImage_45 : decode cX0_isImage 45 = .ok (.newarray .int, 2) := dk_188_10 (dk_at dksX0_isImage_1 21 rfl rfl)
theorem dX0_isImage_47 : decode cX0_isImage 47 = .ok (.astore 4, 2) := dk_58 4 (dk_at dksX0_isImage_2 0 rfl rfl)
theorem dX0_isImage_49 : decode cX0_isImage 49 = .ok (.sipush 241, 3) := dk_17 0 241 (dk_at dksX0_isImage_2 2 rfl rfl)
theorem dX0_isImage_52 : decode cX0_isImage 52 = .ok (.istore 5, 2) := dk_54 5 (dk_at dksX0_isImage_2 5 rfl rfl)
theorem dX0_isImage_54 : decode cX0_isImage 54 = .ok (.iconst 0, 1) := dk_3 (dk_at dksX0_isImage_2 7 rfl rfl)
theorem dX0_isImage_55 : decode cX0_isImage 55 = .ok (.istore 6, 2) := dk_54 6 (dk_at dksX0_isImage_2 8 rfl rfl)
theorem dX0_isImage_57 : decode cX0_isImage 57 = .ok (.iload 6, 2) := dk_21 6 (dk_at dksX0_isImage_2 10 rfl rfl)
theorem dX0_isImage_59 : decode cX0_isImage 59 = .ok (.iload_n 3, 1) := dk_29 (dk_at dksX0_isImage_2 12 rfl rfl)
theorem dX0_isImage_60 : decode cX0_isImage 60 = .ok (.if_icmp .ge 44, 3) := dk_162 0 44 (dk_at dksX0_isImage_2 13 rfl rfl)
theorem dX0_isImage_63 : decode cX0_isImage 63 = .ok (.aload 4, 2) := dk_25 4 (dk_at dksX0_isImage_2 16 rfl rfl)
theorem dX0_isImage_65 : decode cX0_isImage 65 = .ok (.iload 6, 2) := dk_21 6 (dk_at dksX0_isImage_2 18 rfl rfl)
theorem dX0_isImage_67 : decode cX0_isImage 67 = .ok (.aload_n 0, 1) := dk_42 (dk_at dksX0_isImage_2 20 rfl rfl)
theorem dX0_isImage_68 : decode cX0_isImage 68 = .ok (.iload 6, 2) := dk_21 6 (dk_at dksX0_isImage_2 21 rfl rfl)
theorem dX0_isImage_70 : decode cX0_isImage 70 = .ok (.invokevirtual 317, 3) := dk_182 1 61 (dk_at dksX0_isImage_3 0 rfl rfl)
theorem dX0_isImage_73 : decode cX0_isImage 73 = .ok (.iastore, 1) := dk_79 (dk_at dksX0_isImage_3 3 rfl rfl)
theorem dX0_isImage_74 : decode cX0_isImage 74 = .ok (.iload 6, 2) := dk_21 6 (dk_at dksX0_isImage_3 4 rfl rfl)
theorem dX0_isImage_76 : decode cX0_isImage 76 = .ok (.iload_n 3, 1) := dk_29 (dk_at dksX0_isImage_3 6 rfl rfl)
theorem dX0_isImage_77 : decode cX0_isImage 77 = .ok (.iconst 1, 1) := dk_4 (dk_at dksX0_isImage_3 7 rfl rfl)
theorem dX0_isImage_78 : decode cX0_isImage 78 = .ok (.isub, 1) := dk_100 (dk_at dksX0_isImage_3 8 rfl rfl)
theorem dX0_isImage_79 : decode cX0_isImage 79 = .ok (.if_icmp .ge 19, 3) := dk_162 0 19 (dk_at dksX0_isImage_3 9 rfl rfl)
theorem dX0_isImage_82 : decode cX0_isImage 82 = .ok (.iconst 5, 1) := dk_8 (dk_at dksX0_isImage_3 12 rfl rfl)
theorem dX0_isImage_83 : decode cX0_isImage 83 = .ok (.iload 5, 2) := dk_21 5 (dk_at dksX0_isImage_3 13 rfl rfl)
theorem dX0_isImage_85 : decode cX0_isImage 85 = .ok (.imul, 1) := dk_104 (dk_at dksX0_isImage_3 15 rfl rfl)
theorem dX0_isImage_86 : decode cX0_isImage 86 = .ok (.aload 4, 2) := dk_25 4 (dk_at dksX0_isImage_3 16 rfl rfl)
theorem dX0_isImage_88 : decode cX0_isImage 88 = .ok (.iload 6, 2) := dk_21 6 (dk_at dksX0_isImage_3 18 rfl rfl)
theorem dX0_isImage_90 : decode cX0_isImage 90 = .ok (.iaload, 1) := dk_46 (dk_at dksX0_isImage_3 20 rfl rfl)
theorem dX0_isImage_91 : decode cX0_isImage 91 = .ok (.iadd, 1) := dk_96 (dk_at dksX0_isImage_3 21 rfl rfl)
theorem dX0_isImage_92 : decode cX0_isImage 92 = .ok (.sipush 251, 3) := dk_17 0 251 (dk_at dksX0_isImage_4 0 rfl rfl)
theorem dX0_isImage_95 : decode cX0_isImage 95 = .ok (.irem, 1) := dk_112 (dk_at dksX0_isImage_4 3 rfl rfl)
theorem dX0_isImage_96 : decode cX0_isImage 96 = .ok (.istore 5, 2) := dk_54 5 (dk_at dksX0_isImage_4 4 rfl rfl)
theorem dX0_isImage_98 : decode cX0_isImage 98 = .ok (.iinc 6 1, 3) := dk_132 6 1 (dk_at dksX0_isImage_4 6 rfl rfl)
theorem dX0_isImage_101 : decode cX0_isImage 101 = .ok (.goto (-44), 3) := dk_167 255 212 (dk_at dksX0_isImage_4 9 rfl rfl)
theorem dX0_isImage_104 : decode cX0_isImage 104 = .ok (.aload 4, 2) := dk_25 4 (dk_at dksX0_isImage_4 12 rfl rfl)
theorem dX0_isImage_106 : decode cX0_isImage 106 = .ok (.iload_n 3, 1) := dk_29 (dk_at dksX0_isImage_4 14 rfl rfl)
theorem dX0_isImage_107 : decode cX0_isImage 107 = .ok (.iconst 1, 1) := dk_4 (dk_at dksX0_isImage_4 15 rfl rfl)
theorem dX0_isImage_108 : decode cX0_isImage 108 = .ok (.isub, 1) := dk_100 (dk_at dksX0_isImage_4 16 rfl rfl)
theorem dX0_isImage_109 : decode cX0_isImage 109 = .ok (.iaload, 1) := dk_46 (dk_at dksX0_isImage_4 17 rfl rfl)
theorem dX0_isImage_110 : decode cX0_isImage 110 = .ok (.iload 5, 2) := dk_21 5 (dk_at dksX0_isImage_4 18 rfl rfl)
theorem dX0_isImage_112 : decode cX0_isImage 112 = .ok (.if_icmp .ne 43, 3) := dk_160 0 43 (dk_at dksX0_isImage_4 20 rfl rfl)
theorem dX0_isImage_115 : decode cX0_isImage 115 = .ok (.sipush 256, 3) := dk_17 1 0 (dk_at dksX0_isImage_5 0 rfl rfl)
theorem dX0_isImage_118 : decode cX0_isImage 118 = .ok (.aload 4, 2) := dk_25 4 (dk_at dksX0_isImage_5 3 rfl rfl)
theorem dX0_isImage_120 : decode cX0_isImage 120 = .ok (.iconst 0, 1) := dk_3 (dk_at dksX0_isImage_5 5 rfl rfl)
theorem dX0_isImage_121 : decode cX0_isImage 121 = .ok (.iaload, 1) := dk_46 (dk_at dksX0_isImage_5 6 rfl rfl)
theorem dX0_isImage_122 : decode cX0_isImage 122 = .ok (.imul, 1) := dk_104 (dk_at dksX0_isImage_5 7 rfl rfl)
theorem dX0_isImage_123 : decode cX0_isImage 123 = .ok (.aload 4, 2) := dk_25 4 (dk_at dksX0_isImage_5 8 rfl rfl)
theorem dX0_isImage_125 : decode cX0_isImage 125 = .ok (.iconst 1, 1) := dk_4 (dk_at dksX0_isImage_5 10 rfl rfl)
theorem dX0_isImage_126 : decode cX0_isImage 126 = .ok (.iaload, 1) := dk_46 (dk_at dksX0_isImage_5 11 rfl rfl)
theorem dX0_isImage_127 : decode cX0_isImage 127 = .ok (.iadd, 1) := dk_96 (dk_at dksX0_isImage_5 12 rfl rfl)
theorem dX0_isImage_128 : decode cX0_isImage 128 = .ok (.aload_n 2, 1) := dk_44 (dk_at dksX0_isImage_5 13 rfl rfl)
theorem dX0_isImage_129 : decode cX0_isImage 129 = .ok (.getfield 207, 3) := dk_180 0 207 (dk_at dksX0_isImage_5 14 rfl rfl)
theorem dX0_isImage_132 : decode cX0_isImage 132 = .ok (.if_icmp .ne 23, 3) := dk_160 0 23 (dk_at dksX0_isImage_5 17 rfl rfl)
theorem dX0_isImage_135 : decode cX0_isImage 135 = .ok (.sipush 256, 3) := dk_17 1 0 (dk_at dksX0_isImage_5 20 rfl rfl)
theorem dX0_isImage_138 : decode cX0_isImage 138 = .ok (.aload 4, 2) := dk_25 4 (dk_at dksX0_isImage_6 0 rfl rfl)
theorem dX0_isImage_140 : decode cX0_isImage 140 = .ok (.iconst 2, 1) := dk_5 (dk_at dksX0_isImage_6 2 rfl rfl)
theorem dX0_isImage_141 : decode cX0_isImage 141 = .ok (.iaload, 1) := dk_46 (dk_at dksX0_isImage_6 3 rfl rfl)
theorem dX0_isImage_142 : decode cX0_isImage 142 = .ok (.imul, 1) := dk_104 (dk_at dksX0_isImage_6 4 rfl rfl)
theorem dX0_isImage_143 : decode cX0_isImage 143 = .ok (.aload 4, 2) := dk_25 4 (dk_at dksX0_isImage_6 5 rfl rfl)
theorem dX0_isImage_145 : decode cX0_isImage 145 = .ok (.iconst 3, 1) := dk_6 (dk_at dksX0_isImage_6 7 rfl rfl)
theorem dX0_isImage_146 : decode cX0_isImage 146 = .ok (.iaload, 1) := dk_46 (dk_at dksX0_isImage_6 8 rfl rfl)
theorem dX0_isImage_147 : decode cX0_isImage 147 = .ok (.iadd, 1) := dk_96 (dk_at dksX0_isImage_6 9 rfl rfl)
theorem dX0_isImage_148 : decode cX0_isImage 148 = .ok (.aload_n 2, 1) := dk_44 (dk_at dksX0_isImage_6 10 rfl rfl)
theorem dX0_isImage_149 : decode cX0_isImage 149 = .ok (.getfield 195, 3) := dk_180 0 195 (dk_at dksX0_isImage_6 11 rfl rfl)
theorem dX0_isImage_152 : decode cX0_isImage 152 = .ok (.if_icmp .eq 5, 3) := dk_159 0 5 (dk_at dksX0_isImage_6 14 rfl rfl)
theorem dX0_isImage_155 : decode cX0_isImage 155 = .ok (.iconst 0, 1) := dk_3 (dk_at dksX0_isImage_6 17 rfl rfl)
theorem dX0_isImage_156 : decode cX0_isImage 156 = .ok (.ireturn, 1) := dk_172 (dk_at dksX0_isImage_6 18 rfl rfl)
theorem dX0_isImage_157 : decode cX0_isImage 157 = .ok (.iconst 0, 1) := dk_3 (dk_at dksX0_isImage_6 19 rfl rfl)
theorem dX0_isImage_158 : decode cX0_isImage 158 = .ok (.istore 6, 2) := dk_54 6 (dk_at dksX0_isImage_6 20 rfl rfl)
theorem dX0_isImage_160 : decode cX0_isImage 160 = .ok (.iload 6, 2) := dk_21 6 (dk_at dksX0_isImage_6 22 rfl rfl)
theorem dX0_isImage_162 : decode cX0_isImage 162 = .ok (.aload_n 1, 1) := dk_43 (dk_at dksX0_isImage_7 0 rfl rfl)
theorem dX0_isImage_163 : decode cX0_isImage 163 = .ok (.getfield 60, 3) := dk_180 0 60 (dk_at dksX0_isImage_7 1 rfl rfl)
theorem dX0_isImage_166 : decode cX0_isImage 166 = .ok (.if_icmp .ge 219, 3) := dk_162 0 219 (dk_at dksX0_isImage_7 4 rfl rfl)
theorem dX0_isImage_169 : decode cX0_isImage 169 = .ok (.iconst 4, 1) := dk_7 (dk_at dksX0_isImage_7 7 rfl rfl)
theorem dX0_isImage_170 : decode cX0_isImage 170 = .ok (.bipush 6, 2) := dk_16 6 (dk_at dksX0_isImage_7 8 rfl rfl)
theorem dX0_isImage_172 : decode cX0_isImage 172 = .ok (.iload 6, 2) := dk_21 6 (dk_at dksX0_isImage_7 10 rfl rfl)
theorem dX0_isImage_174 : decode cX0_isImage 174 = .ok (.imul, 1) := dk_104 (dk_at dksX0_isImage_7 12 rfl rfl)
theorem dX0_isImage_175 : decode cX0_isImage 175 = .ok (.iadd, 1) := dk_96 (dk_at dksX0_isImage_7 13 rfl rfl)
theorem dX0_isImage_176 : decode cX0_isImage 176 = .ok (.istore 7, 2) := dk_54 7 (dk_at dksX0_isImage_7 14 rfl rfl)
theorem dX0_isImage_178 : decode cX0_isImage 178 = .ok (.aload 4, 2) := dk_25 4 (dk_at dksX0_isImage_7 16 rfl rfl)
theorem dX0_isImage_180 : decode cX0_isImage 180 = .ok (.iload 7, 2) := dk_21 7 (dk_at dksX0_isImage_7 18 rfl rfl)
theorem dX0_isImage_182 : decode cX0_isImage 182 = .ok (.iaload, 1) := dk_46 (dk_at dksX0_isImage_7 20 rfl rfl)
theorem dX0_isImage_183 : decode cX0_isImage 183 = .ok (.aload_n 2, 1) := dk_44 (dk_at dksX0_isImage_7 21 rfl rfl)
theorem dX0_isImage_184 : decode cX0_isImage 184 = .ok (.getfield 163, 3) := dk_180 0 163 (dk_at dksX0_isImage_8 0 rfl rfl)
theorem dX0_isImage_187 : decode cX0_isImage 187 = .ok (.iload 6, 2) := dk_21 6 (dk_at dksX0_isImage_8 3 rfl rfl)
theorem dX0_isImage_189 : decode cX0_isImage 189 = .ok (.baload, 1) := dk_51 (dk_at dksX0_isImage_8 5 rfl rfl)
theorem dX0_isImage_190 : decode cX0_isImage 190 = .ok (.ifCond .eq 7, 3) := dk_153 0 7 (dk_at dksX0_isImage_8 6 rfl rfl)
theorem dX0_isImage_193 : decode cX0_isImage 193 = .ok (.iconst 0, 1) := dk_3 (dk_at dksX0_isImage_8 9 rfl rfl)
theorem dX0_isImage_194 : decode cX0_isImage 194 = .ok (.goto 4, 3) := dk_167 0 4 (dk_at dksX0_isImage_8 10 rfl rfl)
theorem dX0_isImage_197 : decode cX0_isImage 197 = .ok (.iconst 1, 1) := dk_4 (dk_at dksX0_isImage_8 13 rfl rfl)
theorem dX0_isImage_198 : decode cX0_isImage 198 = .ok (.if_icmp .ne 73, 3) := dk_160 0 73 (dk_at dksX0_isImage_8 14 rfl rfl)
theorem dX0_isImage_201 : decode cX0_isImage 201 = .ok (.aload 4, 2) := dk_25 4 (dk_at dksX0_isImage_8 17 rfl rfl)
theorem dX0_isImage_203 : decode cX0_isImage 203 = .ok (.iload 7, 2) := dk_21 7 (dk_at dksX0_isImage_8 19 rfl rfl)
theorem dX0_isImage_205 : decode cX0_isImage 205 = .ok (.iconst 1, 1) := dk_4 (dk_at dksX0_isImage_8 21 rfl rfl)
theorem dX0_isImage_206 : decode cX0_isImage 206 = .ok (.iadd, 1) := dk_96 (dk_at dksX0_isImage_8 22 rfl rfl)
theorem dX0_isImage_207 : decode cX0_isImage 207 = .ok (.iaload, 1) := dk_46 (dk_at dksX0_isImage_8 23 rfl rfl)
theorem dX0_isImage_208 : decode cX0_isImage 208 = .ok (.aload_n 2, 1) := dk_44 (dk_at dksX0_isImage_9 0 rfl rfl)
theorem dX0_isImage_209 : decode cX0_isImage 209 = .ok (.getfield 120, 3) := dk_180 0 120 (dk_at dksX0_isImage_9 1 rfl rfl)
theorem dX0_isImage_212 : decode cX0_isImage 212 = .ok (.iload 6, 2) := dk_21 6 (dk_at dksX0_isImage_9 4 rfl rfl)
theorem dX0_isImage_214 : decode cX0_isImage 214 = .ok (.iaload, 1) := dk_46 (dk_at dksX0_isImage_9 6 rfl rfl)
theorem dX0_isImage_215 : decode cX0_isImage 215 = .ok (.ifCond .ge 9, 3) := dk_156 0 9 (dk_at dksX0_isImage_9 7 rfl rfl)
theorem dX0_isImage_218 : decode cX0_isImage 218 = .ok (.sipush 255, 3) := dk_17 0 255 (dk_at dksX0_isImage_9 10 rfl rfl)
theorem dX0_isImage_221 : decode cX0_isImage 221 = .ok (.goto 10, 3) := dk_167 0 10 (dk_at dksX0_isImage_9 13 rfl rfl)
theorem dX0_isImage_224 : decode cX0_isImage 224 = .ok (.aload_n 2, 1) := dk_44 (dk_at dksX0_isImage_9 16 rfl rfl)
theorem dX0_isImage_225 : decode cX0_isImage 225 = .ok (.getfield 120, 3) := dk_180 0 120 (dk_at dksX0_isImage_9 17 rfl rfl)
theorem dX0_isImage_228 : decode cX0_isImage 228 = .ok (.iload 6, 2) := dk_21 6 (dk_at dksX0_isImage_9 20 rfl rfl)
theorem dX0_isImage_230 : decode cX0_isImage 230 = .ok (.iaload, 1) := dk_46 (dk_at dksX0_isImage_9 22 rfl rfl)
theorem dX0_isImage_231 : decode cX0_isImage 231 = .ok (.if_icmp .ne 40, 3) := dk_160 0 40 (dk_at dksX0_isImage_10 0 rfl rfl)
theorem dX0_isImage_234 : decode cX0_isImage 234 = .ok (.aload 4, 2) := dk_25 4 (dk_at dksX0_isImage_10 3 rfl rfl)
theorem dX0_isImage_236 : decode cX0_isImage 236 = .ok (.iload 7, 2) := dk_21 7 (dk_at dksX0_isImage_10 5 rfl rfl)
theorem dX0_isImage_238 : decode cX0_isImage 238 = .ok (.iconst 2, 1) := dk_5 (dk_at dksX0_isImage_10 7 rfl rfl)
theorem dX0_isImage_239 : decode cX0_isImage 239 = .ok (.iadd, 1) := dk_96 (dk_at dksX0_isImage_10 8 rfl rfl)
theorem dX0_isImage_240 : decode cX0_isImage 240 = .ok (.iaload, 1) := dk_46 (dk_at dksX0_isImage_10 9 rfl rfl)
theorem dX0_isImage_241 : decode cX0_isImage 241 = .ok (.aload_n 2, 1) := dk_44 (dk_at dksX0_isImage_10 10 rfl rfl)
theorem dX0_isImage_242 : decode cX0_isImage 242 = .ok (.getfield 122, 3) := dk_180 0 122 (dk_at dksX0_isImage_10 11 rfl rfl)
theorem dX0_isImage_245 : decode cX0_isImage 245 = .ok (.iload 6, 2) := dk_21 6 (dk_at dksX0_isImage_10 14 rfl rfl)
theorem dX0_isImage_247 : decode cX0_isImage 247 = .ok (.iaload, 1) := dk_46 (dk_at dksX0_isImage_10 16 rfl rfl)
theorem dX0_isImage_248 : decode cX0_isImage 248 = .ok (.ifCond .ge 9, 3) := dk_156 0 9 (dk_at dksX0_isImage_10 17 rfl rfl)
theorem dX0_isImage_251 : decode cX0_isImage 251 = .ok (.sipush 255, 3) := dk_17 0 255 (dk_at dksX0_isImage_10 20 rfl rfl)
theorem dX0_isImage_254 : decode cX0_isImage 254 = .ok (.goto 10, 3) := dk_167 0 10 (dk_at dksX0_isImage_11 0 rfl rfl)
theorem dX0_isImage_257 : decode cX0_isImage 257 = .ok (.aload_n 2, 1) := dk_44 (dk_at dksX0_isImage_11 3 rfl rfl)
theorem dX0_isImage_258 : decode cX0_isImage 258 = .ok (.getfield 122, 3) := dk_180 0 122 (dk_at dksX0_isImage_11 4 rfl rfl)
theorem dX0_isImage_261 : decode cX0_isImage 261 = .ok (.iload 6, 2) := dk_21 6 (dk_at dksX0_isImage_11 7 rfl rfl)
theorem dX0_isImage_263 : decode cX0_isImage 263 = .ok (.iaload, 1) := dk_46 (dk_at dksX0_isImage_11 9 rfl rfl)
theorem dX0_isImage_264 : decode cX0_isImage 264 = .ok (.if_icmp .ne 7, 3) := dk_160 0 7 (dk_at dksX0_isImage_11 10 rfl rfl)
theorem dX0_isImage_267 : decode cX0_isImage 267 = .ok (.iconst 1, 1) := dk_4 (dk_at dksX0_isImage_11 13 rfl rfl)
theorem dX0_isImage_268 : decode cX0_isImage 268 = .ok (.goto 4, 3) := dk_167 0 4 (dk_at dksX0_isImage_11 14 rfl rfl)
theorem dX0_isImage_271 : decode cX0_isImage 271 = .ok (.iconst 0, 1) := dk_3 (dk_at dksX0_isImage_11 17 rfl rfl)
theorem dX0_isImage_272 : decode cX0_isImage 272 = .ok (.istore 8, 2) := dk_54 8 (dk_at dksX0_isImage_11 18 rfl rfl)
theorem dX0_isImage_274 : decode cX0_isImage 274 = .ok (.iload 8, 2) := dk_21 8 (dk_at dksX0_isImage_11 20 rfl rfl)
theorem dX0_isImage_276 : decode cX0_isImage 276 = .ok (.ifCond .eq 93, 3) := dk_153 0 93 (dk_at dksX0_isImage_12 0 rfl rfl)
theorem dX0_isImage_279 : decode cX0_isImage 279 = .ok (.aload 4, 2) := dk_25 4 (dk_at dksX0_isImage_12 3 rfl rfl)
theorem dX0_isImage_281 : decode cX0_isImage 281 = .ok (.iload 7, 2) := dk_21 7 (dk_at dksX0_isImage_12 5 rfl rfl)
theorem dX0_isImage_283 : decode cX0_isImage 283 = .ok (.iconst 3, 1) := dk_6 (dk_at dksX0_isImage_12 7 rfl rfl)
theorem dX0_isImage_284 : decode cX0_isImage 284 = .ok (.iadd, 1) := dk_96 (dk_at dksX0_isImage_12 8 rfl rfl)
theorem dX0_isImage_285 : decode cX0_isImage 285 = .ok (.iaload, 1) := dk_46 (dk_at dksX0_isImage_12 9 rfl rfl)
theorem dX0_isImage_286 : decode cX0_isImage 286 = .ok (.aload_n 2, 1) := dk_44 (dk_at dksX0_isImage_12 10 rfl rfl)
theorem dX0_isImage_287 : decode cX0_isImage 287 = .ok (.getfield 163, 3) := dk_180 0 163 (dk_at dksX0_isImage_12 11 rfl rfl)
theorem dX0_isImage_290 : decode cX0_isImage 290 = .ok (.iload 6, 2) := dk_21 6 (dk_at dksX0_isImage_12 14 rfl rfl)
theorem dX0_isImage_292 : decode cX0_isImage 292 = .ok (.baload, 1) := dk_51 (dk_at dksX0_isImage_12 16 rfl rfl)
theorem dX0_isImage_293 : decode cX0_isImage 293 = .ok (.ifCond .eq 9, 3) := dk_153 0 9 (dk_at dksX0_isImage_12 17 rfl rfl)
theorem dX0_isImage_296 : decode cX0_isImage 296 = .ok (.sipush 255, 3) := dk_17 0 255 (dk_at dksX0_isImage_12 20 rfl rfl)
theorem dX0_isImage_299 : decode cX0_isImage 299 = .ok (.goto 10, 3) := dk_167 0 10 (dk_at dksX0_isImage_13 0 rfl rfl)
theorem dX0_isImage_302 : decode cX0_isImage 302 = .ok (.aload_n 2, 1) := dk_44 (dk_at dksX0_isImage_13 3 rfl rfl)
theorem dX0_isImage_303 : decode cX0_isImage 303 = .ok (.getfield 320, 3) := dk_180 1 64 (dk_at dksX0_isImage_13 4 rfl rfl)
theorem dX0_isImage_306 : decode cX0_isImage 306 = .ok (.iload 6, 2) := dk_21 6 (dk_at dksX0_isImage_13 7 rfl rfl)
theorem dX0_isImage_308 : decode cX0_isImage 308 = .ok (.iaload, 1) := dk_46 (dk_at dksX0_isImage_13 9 rfl rfl)
theorem dX0_isImage_309 : decode cX0_isImage 309 = .ok (.if_icmp .ne 60, 3) := dk_160 0 60 (dk_at dksX0_isImage_13 10 rfl rfl)
theorem dX0_isImage_312 : decode cX0_isImage 312 = .ok (.aload 4, 2) := dk_25 4 (dk_at dksX0_isImage_13 13 rfl rfl)
theorem dX0_isImage_314 : decode cX0_isImage 314 = .ok (.iload 7, 2) := dk_21 7 (dk_at dksX0_isImage_13 15 rfl rfl)
theorem dX0_isImage_316 : decode cX0_isImage 316 = .ok (.iconst 4, 1) := dk_7 (dk_at dksX0_isImage_13 17 rfl rfl)
theorem dX0_isImage_317 : decode cX0_isImage 317 = .ok (.iadd, 1) := dk_96 (dk_at dksX0_isImage_13 18 rfl rfl)
theorem dX0_isImage_318 : decode cX0_isImage 318 = .ok (.iaload, 1) := dk_46 (dk_at dksX0_isImage_13 19 rfl rfl)
theorem dX0_isImage_319 : decode cX0_isImage 319 = .ok (.aload_n 0, 1) := dk_42 (dk_at dksX0_isImage_13 20 rfl rfl)
theorem dX0_isImage_320 : decode cX0_isImage 320 = .ok (.iload 6, 2) := dk_21 6 (dk_at dksX0_isImage_13 21 rfl rfl)
theorem dX0_isImage_322 : decode cX0_isImage 322 = .ok (.bipush 6, 2) := dk_16 6 (dk_at dksX0_isImage_14 0 rfl rfl)
theorem dX0_isImage_324 : decode cX0_isImage 324 = .ok (.invokevirtual 63, 3) := dk_182 0 63 (dk_at dksX0_isImage_14 2 rfl rfl)
theorem dX0_isImage_327 : decode cX0_isImage 327 = .ok (.if_icmp .ne 42, 3) := dk_160 0 42 (dk_at dksX0_isImage_14 5 rfl rfl)
theorem dX0_isImage_330 : decode cX0_isImage 330 = .ok (.aload 4, 2) := dk_25 4 (dk_at dksX0_isImage_14 8 rfl rfl)
theorem dX0_isImage_332 : decode cX0_isImage 332 = .ok (.iload 7, 2) := dk_21 7 (dk_at dksX0_isImage_14 10 rfl rfl)
theorem dX0_isImage_334 : decode cX0_isImage 334 = .ok (.iconst 5, 1) := dk_8 (dk_at dksX0_isImage_14 12 rfl rfl)
theorem dX0_isImage_335 : decode cX0_isImage 335 = .ok (.iadd, 1) := dk_96 (dk_at dksX0_isImage_14 13 rfl rfl)
theorem dX0_isImage_336 : decode cX0_isImage 336 = .ok (.iaload, 1) := dk_46 (dk_at dksX0_isImage_14 14 rfl rfl)
theorem dX0_isImage_337 : decode cX0_isImage 337 = .ok (.aload_n 2, 1) := dk_44 (dk_at dksX0_isImage_14 15 rfl rfl)
theorem dX0_isImage_338 : decode cX0_isImage 338 = .ok (.getfield 322, 3) := dk_180 1 66 (dk_at dksX0_isImage_14 16 rfl rfl)
theorem dX0_isImage_341 : decode cX0_isImage 341 = .ok (.iload 6, 2) := dk_21 6 (dk_at dksX0_isImage_14 19 rfl rfl)
theorem dX0_isImage_343 : decode cX0_isImage 343 = .ok (.iaload, 1) := dk_46 (dk_at dksX0_isImage_14 21 rfl rfl)
theorem dX0_isImage_344 : decode cX0_isImage 344 = .ok (.iconst (-1), 1) := dk_2 (dk_at dksX0_isImage_14 22 rfl rfl)
theorem dX0_isImage_345 : decode cX0_isImage 345 = .ok (.ixor, 1) := dk_130 (dk_at dksX0_isImage_14 23 rfl rfl)
theorem dX0_isImage_346 : decode cX0_isImage 346 = .ok (.iand, 1) := dk_126 (dk_at dksX0_isImage_15 0 rfl rfl)
theorem dX0_isImage_347 : decode cX0_isImage 347 = .ok (.ifCond .ne 22, 3) := dk_154 0 22 (dk_at dksX0_isImage_15 1 rfl rfl)
theorem dX0_isImage_350 : decode cX0_isImage 350 = .ok (.aload 4, 2) := dk_25 4 (dk_at dksX0_isImage_15 4 rfl rfl)
theorem dX0_isImage_352 : decode cX0_isImage 352 = .ok (.iload 7, 2) := dk_21 7 (dk_at dksX0_isImage_15 6 rfl rfl)
theorem dX0_isImage_354 : decode cX0_isImage 354 = .ok (.iconst 5, 1) := dk_8 (dk_at dksX0_isImage_15 8 rfl rfl)
theorem dX0_isImage_355 : decode cX0_isImage 355 = .ok (.iadd, 1) := dk_96 (dk_at dksX0_isImage_15 9 rfl rfl)
theorem dX0_isImage_356 : decode cX0_isImage 356 = .ok (.iaload, 1) := dk_46 (dk_at dksX0_isImage_15 10 rfl rfl)
theorem dX0_isImage_357 : decode cX0_isImage 357 = .ok (.iload 6, 2) := dk_21 6 (dk_at dksX0_isImage_15 11 rfl rfl)
theorem dX0_isImage_359 : decode cX0_isImage 359 = .ok (.ishr, 1) := dk_122 (dk_at dksX0_isImage_15 13 rfl rfl)
theorem dX0_isImage_360 : decode cX0_isImage 360 = .ok (.iconst 1, 1) := dk_4 (dk_at dksX0_isImage_15 14 rfl rfl)
theorem dX0_isImage_361 : decode cX0_isImage 361 = .ok (.iand, 1) := dk_126 (dk_at dksX0_isImage_15 15 rfl rfl)
theorem dX0_isImage_362 : decode cX0_isImage 362 = .ok (.ifCond .ne 7, 3) := dk_154 0 7 (dk_at dksX0_isImage_15 16 rfl rfl)
theorem dX0_isImage_365 : decode cX0_isImage 365 = .ok (.iconst 1, 1) := dk_4 (dk_at dksX0_isImage_15 19 rfl rfl)
theorem dX0_isImage_366 : decode cX0_isImage 366 = .ok (.goto 4, 3) := dk_167 0 4 (dk_at dksX0_isImage_15 20 rfl rfl)
theorem dX0_isImage_369 : decode cX0_isImage 369 = .ok (.iconst 0, 1) := dk_3 (dk_at dksX0_isImage_15 23 rfl rfl)
theorem dX0_isImage_370 : decode cX0_isImage 370 = .ok (.istore 8, 2) := dk_54 8 (dk_at dksX0_isImage_16 0 rfl rfl)
theorem dX0_isImage_372 : decode cX0_isImage 372 = .ok (.iload 8, 2) := dk_21 8 (dk_at dksX0_isImage_16 2 rfl rfl)
theorem dX0_isImage_374 : decode cX0_isImage 374 = .ok (.ifCond .ne 5, 3) := dk_154 0 5 (dk_at dksX0_isImage_16 4 rfl rfl)
theorem dX0_isImage_377 : decode cX0_isImage 377 = .ok (.iconst 0, 1) := dk_3 (dk_at dksX0_isImage_16 7 rfl rfl)
theorem dX0_isImage_378 : decode cX0_isImage 378 = .ok (.ireturn, 1) := dk_172 (dk_at dksX0_isImage_16 8 rfl rfl)
theorem dX0_isImage_379 : decode cX0_isImage 379 = .ok (.iinc 6 1, 3) := dk_132 6 1 (dk_at dksX0_isImage_16 9 rfl rfl)
theorem dX0_isImage_382 : decode cX0_isImage 382 = .ok (.goto (-222), 3) := dk_167 255 34 (dk_at dksX0_isImage_16 12 rfl rfl)
theorem dX0_isImage_385 : decode cX0_isImage 385 = .ok (.iconst 0, 1) := dk_3 (dk_at dksX0_isImage_16 15 rfl rfl)
theorem dX0_isImage_386 : decode cX0_isImage 386 = .ok (.istore 6, 2) := dk_54 6 (dk_at dksX0_isImage_16 16 rfl rfl)
theorem dX0_isImage_388 : decode cX0_isImage 388 = .ok (.iload 6, 2) := dk_21 6 (dk_at dksX0_isImage_16 18 rfl rfl)
theorem dX0_isImage_390 : decode cX0_isImage 390 = .ok (.aload_n 1, 1) := dk_43 (dk_at dksX0_isImage_16 20 rfl rfl)
theorem dX0_isImage_391 : decode cX0_isImage 391 = .ok (.getfield 54, 3) := dk_180 0 54 (dk_at dksX0_isImage_16 21 rfl rfl)
theorem dX0_isImage_394 : decode cX0_isImage 394 = .ok (.if_icmp .ge 52, 3) := dk_162 0 52 (dk_at dksX0_isImage_17 0 rfl rfl)
theorem dX0_isImage_397 : decode cX0_isImage 397 = .ok (.aload 4, 2) := dk_25 4 (dk_at dksX0_isImage_17 3 rfl rfl)
theorem dX0_isImage_399 : decode cX0_isImage 399 = .ok (.iconst 4, 1) := dk_7 (dk_at dksX0_isImage_17 5 rfl rfl)
theorem dX0_isImage_400 : decode cX0_isImage 400 = .ok (.bipush 6, 2) := dk_16 6 (dk_at dksX0_isImage_17 6 rfl rfl)
theorem dX0_isImage_402 : decode cX0_isImage 402 = .ok (.aload_n 1, 1) := dk_43 (dk_at dksX0_isImage_17 8 rfl rfl)
theorem dX0_isImage_403 : decode cX0_isImage 403 = .ok (.getfield 60, 3) := dk_180 0 60 (dk_at dksX0_isImage_17 9 rfl rfl)
theorem dX0_isImage_406 : decode cX0_isImage 406 = .ok (.imul, 1) := dk_104 (dk_at dksX0_isImage_17 12 rfl rfl)
theorem dX0_isImage_407 : decode cX0_isImage 407 = .ok (.iadd, 1) := dk_96 (dk_at dksX0_isImage_17 13 rfl rfl)
theorem dX0_isImage_408 : decode cX0_isImage 408 = .ok (.iload 6, 2) := dk_21 6 (dk_at dksX0_isImage_17 14 rfl rfl)
theorem dX0_isImage_410 : decode cX0_isImage 410 = .ok (.iadd, 1) := dk_96 (dk_at dksX0_isImage_17 16 rfl rfl)
theorem dX0_isImage_411 : decode cX0_isImage 411 = .ok (.iaload, 1) := dk_46 (dk_at dksX0_isImage_17 17 rfl rfl)
theorem dX0_isImage_412 : decode cX0_isImage 412 = .ok (.aload_n 2, 1) := dk_44 (dk_at dksX0_isImage_17 18 rfl rfl)
theorem dX0_isImage_413 : decode cX0_isImage 413 = .ok (.getfield 149, 3) := dk_180 0 149 (dk_at dksX0_isImage_17 19 rfl rfl)
theorem dX0_isImage_416 : decode cX0_isImage 416 = .ok (.iload 6, 2) := dk_21 6 (dk_at dksX0_isImage_17 22 rfl rfl)
theorem dX0_isImage_418 : decode cX0_isImage 418 = .ok (.iaload, 1) := dk_46 (dk_at dksX0_isImage_18 0 rfl rfl)
theorem dX0_isImage_419 : decode cX0_isImage 419 = .ok (.ifCond .ge 9, 3) := dk_156 0 9 (dk_at dksX0_isImage_18 1 rfl rfl)
theorem dX0_isImage_422 : decode cX0_isImage 422 = .ok (.sipush 255, 3) := dk_17 0 255 (dk_at dksX0_isImage_18 4 rfl rfl)
theorem dX0_isImage_425 : decode cX0_isImage 425 = .ok (.goto 10, 3) := dk_167 0 10 (dk_at dksX0_isImage_18 7 rfl rfl)
theorem dX0_isImage_428 : decode cX0_isImage 428 = .ok (.aload_n 2, 1) := dk_44 (dk_at dksX0_isImage_18 10 rfl rfl)
theorem dX0_isImage_429 : decode cX0_isImage 429 = .ok (.getfield 149, 3) := dk_180 0 149 (dk_at dksX0_isImage_18 11 rfl rfl)
theorem dX0_isImage_432 : decode cX0_isImage 432 = .ok (.iload 6, 2) := dk_21 6 (dk_at dksX0_isImage_18 14 rfl rfl)
theorem dX0_isImage_434 : decode cX0_isImage 434 = .ok (.iaload, 1) := dk_46 (dk_at dksX0_isImage_18 16 rfl rfl)
theorem dX0_isImage_435 : decode cX0_isImage 435 = .ok (.if_icmp .eq 5, 3) := dk_159 0 5 (dk_at dksX0_isImage_18 17 rfl rfl)
theorem dX0_isImage_438 : decode cX0_isImage 438 = .ok (.iconst 0, 1) := dk_3 (dk_at dksX0_isImage_18 20 rfl rfl)
theorem dX0_isImage_439 : decode cX0_isImage 439 = .ok (.ireturn, 1) := dk_172 (dk_at dksX0_isImage_18 21 rfl rfl)
theorem dX0_isImage_440 : decode cX0_isImage 440 = .ok (.iinc 6 1, 3) := dk_132 6 1 (dk_at dksX0_isImage_19 0 rfl rfl)
theorem dX0_isImage_443 : decode cX0_isImage 443 = .ok (.goto (-55), 3) := dk_167 255 201 (dk_at dksX0_isImage_19 3 rfl rfl)
theorem dX0_isImage_446 : decode cX0_isImage 446 = .ok (.aload_n 0, 1) := dk_42 (dk_at dksX0_isImage_19 6 rfl rfl)
theorem dX0_isImage_447 : decode cX0_isImage 447 = .ok (.aload 4, 2) := dk_25 4 (dk_at dksX0_isImage_19 7 rfl rfl)
theorem dX0_isImage_449 : decode cX0_isImage 449 = .ok (.invokestatic 45, 3) := dk_184 0 45 (dk_at dksX0_isImage_19 9 rfl rfl)
theorem dX0_isImage_452 : decode cX0_isImage 452 = .ok (.ifCond .eq 59, 3) := dk_153 0 59 (dk_at dksX0_isImage_19 12 rfl rfl)
theorem dX0_isImage_455 : decode cX0_isImage 455 = .ok (.aload_n 0, 1) := dk_42 (dk_at dksX0_isImage_19 15 rfl rfl)
theorem dX0_isImage_456 : decode cX0_isImage 456 = .ok (.invokevirtual 324, 3) := dk_182 1 68 (dk_at dksX0_isImage_19 16 rfl rfl)
theorem dX0_isImage_459 : decode cX0_isImage 459 = .ok (.ifCond .eq 52, 3) := dk_153 0 52 (dk_at dksX0_isImage_19 19 rfl rfl)
theorem dX0_isImage_462 : decode cX0_isImage 462 = .ok (.aload_n 0, 1) := dk_42 (dk_at dksX0_isImage_19 22 rfl rfl)
theorem dX0_isImage_463 : decode cX0_isImage 463 = .ok (.bipush 8, 2) := dk_16 8 (dk_at dksX0_isImage_20 0 rfl rfl)
theorem dX0_isImage_465 : decode cX0_isImage 465 = .ok (.invokevirtual 73, 3) := dk_182 0 73 (dk_at dksX0_isImage_20 2 rfl rfl)
theorem dX0_isImage_468 : decode cX0_isImage 468 = .ok (.ifCond .ne 43, 3) := dk_154 0 43 (dk_at dksX0_isImage_20 5 rfl rfl)
theorem dX0_isImage_471 : decode cX0_isImage 471 = .ok (.aload_n 0, 1) := dk_42 (dk_at dksX0_isImage_20 8 rfl rfl)
theorem dX0_isImage_472 : decode cX0_isImage 472 = .ok (.bipush 10, 2) := dk_16 10 (dk_at dksX0_isImage_20 9 rfl rfl)
theorem dX0_isImage_474 : decode cX0_isImage 474 = .ok (.invokevirtual 73, 3) := dk_182 0 73 (dk_at dksX0_isImage_20 11 rfl rfl)
theorem dX0_isImage_477 : decode cX0_isImage 477 = .ok (.ifCond .ne 34, 3) := dk_154 0 34 (dk_at dksX0_isImage_20 14 rfl rfl)
theorem dX0_isImage_480 : decode cX0_isImage 480 = .ok (.aload_n 0, 1) := dk_42 (dk_at dksX0_isImage_20 17 rfl rfl)
theorem dX0_isImage_481 : decode cX0_isImage 481 = .ok (.invokevirtual 244, 3) := dk_182 0 244 (dk_at dksX0_isImage_20 18 rfl rfl)
theorem dX0_isImage_484 : decode cX0_isImage 484 = .ok (.ifCond .ne 27, 3) := dk_154 0 27 (dk_at dksX0_isImage_20 21 rfl rfl)
theorem dX0_isImage_487 : decode cX0_isImage 487 = .ok (.aload_n 0, 1) := dk_42 (dk_at dksX0_isImage_21 0 rfl rfl)
theorem dX0_isImage_488 : decode cX0_isImage 488 = .ok (.iconst 3, 1) := dk_6 (dk_at dksX0_isImage_21 1 rfl rfl)
theorem dX0_isImage_489 : decode cX0_isImage 489 = .ok (.invokevirtual 73, 3) := dk_182 0 73 (dk_at dksX0_isImage_21 2 rfl rfl)
theorem dX0_isImage_492 : decode cX0_isImage 492 = .ok (.aload_n 2, 1) := dk_44 (dk_at dksX0_isImage_21 5 rfl rfl)
theorem dX0_isImage_493 : decode cX0_isImage 493 = .ok (.getfield 195, 3) := dk_180 0 195 (dk_at dksX0_isImage_21 6 rfl rfl)
theorem dX0_isImage_496 : decode cX0_isImage 496 = .ok (.if_icmp .ne 15, 3) := dk_160 0 15 (dk_at dksX0_isImage_21 9 rfl rfl)
theorem dX0_isImage_499 : decode cX0_isImage 499 = .ok (.aload_n 0, 1) := dk_42 (dk_at dksX0_isImage_21 12 rfl rfl)
theorem dX0_isImage_500 : decode cX0_isImage 500 = .ok (.iconst 2, 1) := dk_5 (dk_at dksX0_isImage_21 13 rfl rfl)
theorem dX0_isImage_501 : decode cX0_isImage 501 = .ok (.invokevirtual 73, 3) := dk_182 0 73 (dk_at dksX0_isImage_21 14 rfl rfl)
theorem dX0_isImage_504 : decode cX0_isImage 504 = .ok (.aload_n 2, 1) := dk_44 (dk_at dksX0_isImage_21 17 rfl rfl)
theorem dX0_isImage_505 : decode cX0_isImage 505 = .ok (.getfield 207, 3) := dk_180 0 207 (dk_at dksX0_isImage_21 18 rfl rfl)
theorem dX0_isImage_508 : decode cX0_isImage 508 = .ok (.if_icmp .eq 5, 3) := dk_159 0 5 (dk_at dksX0_isImage_21 21 rfl rfl)
theorem dX0_isImage_511 : decode cX0_isImage 511 = .ok (.iconst 0, 1) := dk_3 (dk_at dksX0_isImage_22 0 rfl rfl)
theorem dX0_isImage_512 : decode cX0_isImage 512 = .ok (.ireturn, 1) := dk_172 (dk_at dksX0_isImage_22 1 rfl rfl)
theorem dX0_isImage_513 : decode cX0_isImage 513 = .ok (.iconst 0, 1) := dk_3 (dk_at dksX0_isImage_22 2 rfl rfl)
theorem dX0_isImage_514 : decode cX0_isImage 514 = .ok (.istore 6, 2) := dk_54 6 (dk_at dksX0_isImage_22 3 rfl rfl)
theorem dX0_isImage_516 : decode cX0_isImage 516 = .ok (.iload 6, 2) := dk_21 6 (dk_at dksX0_isImage_22 5 rfl rfl)
theorem dX0_isImage_518 : decode cX0_isImage 518 = .ok (.aload_n 1, 1) := dk_43 (dk_at dksX0_isImage_22 7 rfl rfl)
theorem dX0_isImage_519 : decode cX0_isImage 519 = .ok (.getfield 60, 3) := dk_180 0 60 (dk_at dksX0_isImage_22 8 rfl rfl)
theorem dX0_isImage_522 : decode cX0_isImage 522 = .ok (.if_icmp .ge 21, 3) := dk_162 0 21 (dk_at dksX0_isImage_22 11 rfl rfl)
theorem dX0_isImage_525 : decode cX0_isImage 525 = .ok (.aload_n 2, 1) := dk_44 (dk_at dksX0_isImage_22 14 rfl rfl)
theorem dX0_isImage_526 : decode cX0_isImage 526 = .ok (.aload_n 0, 1) := dk_42 (dk_at dksX0_isImage_22 15 rfl rfl)
theorem dX0_isImage_527 : decode cX0_isImage 527 = .ok (.iload 6, 2) := dk_21 6 (dk_at dksX0_isImage_22 16 rfl rfl)
theorem dX0_isImage_529 : decode cX0_isImage 529 = .ok (.invokevirtual 214, 3) := dk_182 0 214 (dk_at dksX0_isImage_22 18 rfl rfl)
theorem dX0_isImage_532 : decode cX0_isImage 532 = .ok (.ifCond .ne 5, 3) := dk_154 0 5 (dk_at dksX0_isImage_22 21 rfl rfl)
theorem dX0_isImage_535 : decode cX0_isImage 535 = .ok (.iconst 0, 1) := dk_3 (dk_at dksX0_isImage_23 0 rfl rfl)
theorem dX0_isImage_536 : decode cX0_isImage 536 = .ok (.ireturn, 1) := dk_172 (dk_at dksX0_isImage_23 1 rfl rfl)
theorem dX0_isImage_537 : decode cX0_isImage 537 = .ok (.iinc 6 1, 3) := dk_132 6 1 (dk_at dksX0_isImage_23 2 rfl rfl)
theorem dX0_isImage_540 : decode cX0_isImage 540 = .ok (.goto (-24), 3) := dk_167 255 232 (dk_at dksX0_isImage_23 5 rfl rfl)
theorem dX0_isImage_543 : decode cX0_isImage 543 = .ok (.iconst 0, 1) := dk_3 (dk_at dksX0_isImage_23 8 rfl rfl)
theorem dX0_isImage_544 : decode cX0_isImage 544 = .ok (.istore 6, 2) := dk_54 6 (dk_at dksX0_isImage_23 9 rfl rfl)
theorem dX0_isImage_546 : decode cX0_isImage 546 = .ok (.iload 6, 2) := dk_21 6 (dk_at dksX0_isImage_23 11 rfl rfl)
theorem dX0_isImage_548 : decode cX0_isImage 548 = .ok (.aload_n 1, 1) := dk_43 (dk_at dksX0_isImage_23 13 rfl rfl)
theorem dX0_isImage_549 : decode cX0_isImage 549 = .ok (.getfield 54, 3) := dk_180 0 54 (dk_at dksX0_isImage_23 14 rfl rfl)
theorem dX0_isImage_552 : decode cX0_isImage 552 = .ok (.if_icmp .ge 45, 3) := dk_162 0 45 (dk_at dksX0_isImage_23 17 rfl rfl)
theorem dX0_isImage_555 : decode cX0_isImage 555 = .ok (.aload_n 0, 1) := dk_42 (dk_at dksX0_isImage_23 20 rfl rfl)
theorem dX0_isImage_556 : decode cX0_isImage 556 = .ok (.iload 6, 2) := dk_21 6 (dk_at dksX0_isImage_23 21 rfl rfl)
theorem dX0_isImage_558 : decode cX0_isImage 558 = .ok (.iconst 2, 1) := dk_5 (dk_at dksX0_isImage_23 23 rfl rfl)
theorem dX0_isImage_559 : decode cX0_isImage 559 = .ok (.invokevirtual 80, 3) := dk_182 0 80 (dk_at dksX0_isImage_24 0 rfl rfl)
theorem dX0_isImage_562 : decode cX0_isImage 562 = .ok (.aload_n 2, 1) := dk_44 (dk_at dksX0_isImage_24 3 rfl rfl)
theorem dX0_isImage_563 : decode cX0_isImage 563 = .ok (.getfield 149, 3) := dk_180 0 149 (dk_at dksX0_isImage_24 4 rfl rfl)
theorem dX0_isImage_566 : decode cX0_isImage 566 = .ok (.iload 6, 2) := dk_21 6 (dk_at dksX0_isImage_24 7 rfl rfl)
theorem dX0_isImage_568 : decode cX0_isImage 568 = .ok (.iaload, 1) := dk_46 (dk_at dksX0_isImage_24 9 rfl rfl)
theorem dX0_isImage_569 : decode cX0_isImage 569 = .ok (.if_icmp .ne 20, 3) := dk_160 0 20 (dk_at dksX0_isImage_24 10 rfl rfl)
theorem dX0_isImage_572 : decode cX0_isImage 572 = .ok (.aload_n 0, 1) := dk_42 (dk_at dksX0_isImage_24 13 rfl rfl)
theorem dX0_isImage_573 : decode cX0_isImage 573 = .ok (.iload 6, 2) := dk_21 6 (dk_at dksX0_isImage_24 14 rfl rfl)
theorem dX0_isImage_575 : decode cX0_isImage 575 = .ok (.iconst 1, 1) := dk_4 (dk_at dksX0_isImage_24 16 rfl rfl)
theorem dX0_isImage_576 : decode cX0_isImage 576 = .ok (.invokevirtual 80, 3) := dk_182 0 80 (dk_at dksX0_isImage_24 17 rfl rfl)
theorem dX0_isImage_579 : decode cX0_isImage 579 = .ok (.aload_n 2, 1) := dk_44 (dk_at dksX0_isImage_24 20 rfl rfl)
theorem dX0_isImage_580 : decode cX0_isImage 580 = .ok (.getfield 115, 3) := dk_180 0 115 (dk_at dksX0_isImage_24 21 rfl rfl)
theorem dX0_isImage_583 : decode cX0_isImage 583 = .ok (.iload 6, 2) := dk_21 6 (dk_at dksX0_isImage_25 0 rfl rfl)
theorem dX0_isImage_585 : decode cX0_isImage 585 = .ok (.iaload, 1) := dk_46 (dk_at dksX0_isImage_25 2 rfl rfl)
theorem dX0_isImage_586 : decode cX0_isImage 586 = .ok (.if_icmp .eq 5, 3) := dk_159 0 5 (dk_at dksX0_isImage_25 3 rfl rfl)
theorem dX0_isImage_589 : decode cX0_isImage 589 = .ok (.iconst 0, 1) := dk_3 (dk_at dksX0_isImage_25 6 rfl rfl)
theorem dX0_isImage_590 : decode cX0_isImage 590 = .ok (.ireturn, 1) := dk_172 (dk_at dksX0_isImage_25 7 rfl rfl)
theorem dX0_isImage_591 : decode cX0_isImage 591 = .ok (.iinc 6 1, 3) := dk_132 6 1 (dk_at dksX0_isImage_25 8 rfl rfl)
theorem dX0_isImage_594 : decode cX0_isImage 594 = .ok (.goto (-48), 3) := dk_167 255 208 (dk_at dksX0_isImage_25 11 rfl rfl)
theorem dX0_isImage_597 : decode cX0_isImage 597 = .ok (.aload_n 0, 1) := dk_42 (dk_at dksX0_isImage_25 14 rfl rfl)
theorem dX0_isImage_598 : decode cX0_isImage 598 = .ok (.invokevirtual 314, 3) := dk_182 1 58 (dk_at dksX0_isImage_25 15 rfl rfl)
theorem dX0_isImage_601 : decode cX0_isImage 601 = .ok (.iload_n 3, 1) := dk_29 (dk_at dksX0_isImage_25 18 rfl rfl)
theorem dX0_isImage_602 : decode cX0_isImage 602 = .ok (.if_icmp .ne 7, 3) := dk_160 0 7 (dk_at dksX0_isImage_25 19 rfl rfl)
theorem dX0_isImage_605 : decode cX0_isImage 605 = .ok (.iconst 1, 1) := dk_4 (dk_at dksX0_isImage_25 22 rfl rfl)
theorem dX0_isImage_606 : decode cX0_isImage 606 = .ok (.goto 4, 3) := dk_167 0 4 (dk_at dksX0_isImage_26 0 rfl rfl)
theorem dX0_isImage_609 : decode cX0_isImage 609 = .ok (.iconst 0, 1) := dk_3 (dk_at dksX0_isImage_26 3 rfl rfl)
theorem dX0_isImage_610 : decode cX0_isImage 610 = .ok (.istore 6, 2) := dk_54 6 (dk_at dksX0_isImage_26 4 rfl rfl)
theorem dX0_isImage_612 : decode cX0_isImage 612 = .ok (.iconst 0, 1) := dk_3 (dk_at dksX0_isImage_26 6 rfl rfl)
theorem dX0_isImage_613 : decode cX0_isImage 613 = .ok (.istore 7, 2) := dk_54 7 (dk_at dksX0_isImage_26 7 rfl rfl)
theorem dX0_isImage_615 : decode cX0_isImage 615 = .ok (.iload 7, 2) := dk_21 7 (dk_at dksX0_isImage_26 9 rfl rfl)
theorem dX0_isImage_617 : decode cX0_isImage 617 = .ok (.iload_n 3, 1) := dk_29 (dk_at dksX0_isImage_26 11 rfl rfl)
theorem dX0_isImage_618 : decode cX0_isImage 618 = .ok (.if_icmp .ge 35, 3) := dk_162 0 35 (dk_at dksX0_isImage_26 12 rfl rfl)
theorem dX0_isImage_621 : decode cX0_isImage 621 = .ok (.iload 6, 2) := dk_21 6 (dk_at dksX0_isImage_26 15 rfl rfl)
theorem dX0_isImage_623 : decode cX0_isImage 623 = .ok (.ifCond .eq 21, 3) := dk_153 0 21 (dk_at dksX0_isImage_26 17 rfl rfl)
theorem dX0_isImage_626 : decode cX0_isImage 626 = .ok (.aload_n 0, 1) := dk_42 (dk_at dksX0_isImage_26 20 rfl rfl)
theorem dX0_isImage_627 : decode cX0_isImage 627 = .ok (.iload 7, 2) := dk_21 7 (dk_at dksX0_isImage_26 21 rfl rfl)
theorem dX0_isImage_629 : decode cX0_isImage 629 = .ok (.invokevirtual 317, 3) := dk_182 1 61 (dk_at dksX0_isImage_27 0 rfl rfl)
theorem dX0_isImage_632 : decode cX0_isImage 632 = .ok (.aload 4, 2) := dk_25 4 (dk_at dksX0_isImage_27 3 rfl rfl)
theorem dX0_isImage_634 : decode cX0_isImage 634 = .ok (.iload 7, 2) := dk_21 7 (dk_at dksX0_isImage_27 5 rfl rfl)
theorem dX0_isImage_636 : decode cX0_isImage 636 = .ok (.iaload, 1) := dk_46 (dk_at dksX0_isImage_27 7 rfl rfl)
theorem dX0_isImage_637 : decode cX0_isImage 637 = .ok (.if_icmp .ne 7, 3) := dk_160 0 7 (dk_at dksX0_isImage_27 8 rfl rfl)
theorem dX0_isImage_640 : decode cX0_isImage 640 = .ok (.iconst 1, 1) := dk_4 (dk_at dksX0_isImage_27 11 rfl rfl)
theorem dX0_isImage_641 : decode cX0_isImage 641 = .ok (.goto 4, 3) := dk_167 0 4 (dk_at dksX0_isImage_27 12 rfl rfl)
theorem dX0_isImage_644 : decode cX0_isImage 644 = .ok (.iconst 0, 1) := dk_3 (dk_at dksX0_isImage_27 15 rfl rfl)
theorem dX0_isImage_645 : decode cX0_isImage 645 = .ok (.istore 6, 2) := dk_54 6 (dk_at dksX0_isImage_27 16 rfl rfl)
theorem dX0_isImage_647 : decode cX0_isImage 647 = .ok (.iinc 7 1, 3) := dk_132 7 1 (dk_at dksX0_isImage_27 18 rfl rfl)
theorem dX0_isImage_650 : decode cX0_isImage 650 = .ok (.goto (-35), 3) := dk_167 255 221 (dk_at dksX0_isImage_27 21 rfl rfl)
theorem dX0_isImage_653 : decode cX0_isImage 653 = .ok (.iload 6, 2) := dk_21 6 (dk_at dksX0_isImage_28 0 rfl rfl)
theorem dX0_isImage_655 : decode cX0_isImage 655 = .ok (.ifCond .eq 15, 3) := dk_153 0 15 (dk_at dksX0_isImage_28 2 rfl rfl)
theorem dX0_isImage_658 : decode cX0_isImage 658 = .ok (.aload_n 0, 1) := dk_42 (dk_at dksX0_isImage_28 5 rfl rfl)
theorem dX0_isImage_659 : decode cX0_isImage 659 = .ok (.aload_n 1, 1) := dk_43 (dk_at dksX0_isImage_28 6 rfl rfl)
theorem dX0_isImage_660 : decode cX0_isImage 660 = .ok (.invokestatic 89, 3) := dk_184 0 89 (dk_at dksX0_isImage_28 7 rfl rfl)
theorem dX0_isImage_663 : decode cX0_isImage 663 = .ok (.ifCond .eq 7, 3) := dk_153 0 7 (dk_at dksX0_isImage_28 10 rfl rfl)
theorem dX0_isImage_666 : decode cX0_isImage 666 = .ok (.iconst 1, 1) := dk_4 (dk_at dksX0_isImage_28 13 rfl rfl)
theorem dX0_isImage_667 : decode cX0_isImage 667 = .ok (.goto 4, 3) := dk_167 0 4 (dk_at dksX0_isImage_28 14 rfl rfl)
theorem dX0_isImage_670 : decode cX0_isImage 670 = .ok (.iconst 0, 1) := dk_3 (dk_at dksX0_isImage_28 17 rfl rfl)
theorem dX0_isImage_671 : decode cX0_isImage 671 = .ok (.ireturn, 1) := dk_172 (dk_at dksX0_isImage_28 18 rfl rfl)
theorem q76 : (Jvm.Cond.initialized "KilnBenchLaw") ∈ lw_all := lw_g (lw_at lw_m1 0 rfl) rfl
theorem q118 : (Jvm.Cond.classLink "KilnBenchLaw" (26 : Nat) "KilnBench") ∈ lw_all := lw_g (lw_at lw_m1 42 rfl) rfl
theorem q120 : (Jvm.Cond.methodLink "KilnBenchLaw" (334 : Nat) ({ cls := "KilnBench", name := "<init>", desc := "()V" } : Jvm.MethodName)) ∈ lw_all := lw_g (lw_at lw_m1 44 rfl) rfl
theorem q278 : (Jvm.Cond.methodLink "KilnBenchLaw" (342 : Nat) ({ cls := "KilnBench", name := "town", desc := "()I" } : Jvm.MethodName)) ∈ lw_all := lw_g (lw_at lw_m1 202 rfl) rfl
theorem q1102 : (Jvm.Cond.classLink "KilnBenchLaw" (55 : Nat) "KilnBenchLaw$All") ∈ lw_all := lw_g (lw_at lw_m5 66 rfl) rfl
theorem q1104 : (Jvm.Cond.methodLink "KilnBenchLaw" (331 : Nat) ({ cls := "KilnBenchLaw$All", name := "<init>", desc := "([I)V" } : Jvm.MethodName)) ∈ lw_all := lw_g (lw_at lw_m5 68 rfl) rfl
theorem q1109 : (Jvm.Cond.static ({ cls := "KilnBenchLaw", name := "pick", desc := "([III)I" } : Jvm.MethodName)) ∈ lw_all := lw_g (lw_at lw_m5 73 rfl) rfl
theorem q1110 : (Jvm.Cond.code ({ cls := "KilnBenchLaw", name := "pick", desc := "([III)I" } : Jvm.MethodName) method_4_code (3 : Nat) (Option.some Jvm.ClassFile.FieldType.int)) ∈ lw_all := lw_g (lw_at lw_m5 74 rfl) rfl
theorem q1111 : (Jvm.Cond.methodLink "KilnBenchLaw" (13 : Nat) ({ cls := "KilnBenchLaw", name := "pick", desc := "([II)I" } : Jvm.MethodName)) ∈ lw_all := lw_g (lw_at lw_m5 75 rfl) rfl
theorem q1112 : (Jvm.Cond.static ({ cls := "KilnBenchLaw", name := "pick", desc := "([II)I" } : Jvm.MethodName)) ∈ lw_all := lw_g (lw_at lw_m5 76 rfl) rfl
theorem q1113 : (Jvm.Cond.code ({ cls := "KilnBenchLaw", name := "pick", desc := "([II)I" } : Jvm.MethodName) method_3_code (2 : Nat) (Option.some Jvm.ClassFile.FieldType.int)) ∈ lw_all := lw_g (lw_at lw_m5 77 rfl) rfl
theorem q1114 : (Jvm.Cond.methodLink "KilnBenchLaw" (19 : Nat) ({ cls := "java/lang/Math", name := "floorMod", desc := "(II)I" } : Jvm.MethodName)) ∈ lw_all := lw_g (lw_at lw_m5 78 rfl) rfl
theorem q1118 : (Jvm.Cond.laysStatic "KilnBenchLaw" "TEMPER" "[Ljava/lang/String;") ∈ lw_tbl := lw_at lw_m5 82 rfl
theorem q1120 : (Jvm.Cond.laysStatic "KilnBenchLaw" "CRACK" "[Ljava/lang/String;") ∈ lw_tbl := lw_at lw_m5 84 rfl
theorem q1122 : (Jvm.Cond.laysStatic "KilnBenchLaw" "STICK" "[Ljava/lang/String;") ∈ lw_tbl := lw_at lw_m5 86 rfl
theorem q1124 : (Jvm.Cond.laysStatic "KilnBenchLaw" "BURN" "[Ljava/lang/String;") ∈ lw_tbl := lw_at lw_m5 88 rfl
theorem q1127 : (Jvm.Cond.fieldLinkNest "KilnBenchLaw" (60 : Nat) "KilnBenchLaw$All" "children" "I" "KilnBenchLaw") ∈ lw_tbl := lw_at lw_m5 91 rfl
theorem q1130 : (Jvm.Cond.fieldLinkNest "KilnBenchLaw" (54 : Nat) "KilnBenchLaw$All" "kilns" "I" "KilnBenchLaw") ∈ lw_tbl := lw_at lw_m5 94 rfl
theorem q1132 : (Jvm.Cond.fieldLinkNest "KilnBenchLaw" (103 : Nat) "KilnBenchLaw$All" "temper" "I" "KilnBenchLaw") ∈ lw_tbl := lw_at lw_m5 96 rfl
theorem q1137 : (Jvm.Cond.fieldLinkNest "KilnBenchLaw" (77 : Nat) "KilnBenchLaw$All" "fuel" "I" "KilnBenchLaw") ∈ lw_tbl := lw_at lw_m5 101 rfl
theorem q1139 : (Jvm.Cond.fieldLinkNest "KilnBenchLaw" (196 : Nat) "KilnBenchLaw$All" "load" "I" "KilnBenchLaw") ∈ lw_tbl := lw_at lw_m5 103 rfl
theorem q1141 : (Jvm.Cond.fieldLinkNest "KilnBenchLaw" (154 : Nat) "KilnBenchLaw$All" "wind" "I" "KilnBenchLaw") ∈ lw_tbl := lw_at lw_m5 105 rfl
theorem q1143 : (Jvm.Cond.fieldLinkNest "KilnBenchLaw" (83 : Nat) "KilnBenchLaw$All" "clay" "[I" "KilnBenchLaw") ∈ lw_tbl := lw_at lw_m5 107 rfl
theorem q1145 : (Jvm.Cond.fieldLinkNest "KilnBenchLaw" (86 : Nat) "KilnBenchLaw$All" "grit" "[I" "KilnBenchLaw") ∈ lw_tbl := lw_at lw_m5 109 rfl
theorem q1147 : (Jvm.Cond.fieldLinkNest "KilnBenchLaw" (69 : Nat) "KilnBenchLaw$All" "room" "[I" "KilnBenchLaw") ∈ lw_tbl := lw_at lw_m5 111 rfl
theorem q1173 : (Jvm.Cond.methodLink "KilnBenchLaw" (335 : Nat) ({ cls := "KilnBenchLaw$All", name := "text", desc := "()Ljava/lang/String;" } : Jvm.MethodName)) ∈ lw_all := lw_g (lw_at lw_m5 137 rfl) rfl
theorem q1296 : (Jvm.Cond.methodLink "KilnBenchLaw" (327 : Nat) ({ cls := "KilnBenchLaw", name := "stirred", desc := "([I)[I" } : Jvm.MethodName)) ∈ lw_all := lw_g (lw_at lw_m6 20 rfl) rfl
theorem q1297 : (Jvm.Cond.static ({ cls := "KilnBenchLaw", name := "stirred", desc := "([I)[I" } : Jvm.MethodName)) ∈ lw_all := lw_g (lw_at lw_m6 21 rfl) rfl
theorem q1298 : (Jvm.Cond.code ({ cls := "KilnBenchLaw", name := "stirred", desc := "([I)[I" } : Jvm.MethodName) method_2_code (7 : Nat) (Option.some (Jvm.ClassFile.FieldType.array Jvm.ClassFile.FieldType.int))) ∈ lw_all := lw_g (lw_at lw_m6 22 rfl) rfl
theorem q1299 : (Jvm.Cond.constantLong "KilnBenchLaw" (7 : Nat) (20261118 : Int64)) ∈ lw_all := lw_g (lw_at lw_m6 23 rfl) rfl
theorem q1300 : (Jvm.Cond.constantLong "KilnBenchLaw" (9 : Nat) (6364136223846793005 : Int64)) ∈ lw_all := lw_g (lw_at lw_m6 24 rfl) rfl
theorem q1301 : (Jvm.Cond.constantLong "KilnBenchLaw" (11 : Nat) (1442695040888963407 : Int64)) ∈ lw_all := lw_g (lw_at lw_m6 25 rfl) rfl
theorem q1302 : (Jvm.Cond.methodLink "KilnBenchLaw" (277 : Nat) ({ cls := "KilnBenchLaw", name := "pick", desc := "([III)I" } : Jvm.MethodName)) ∈ lw_all := lw_g (lw_at lw_m6 26 rfl) rfl
theorem q1303 : (Jvm.Cond.methodLink "KilnBenchLaw" (339 : Nat) ({ cls := "KilnBenchLaw", name := "feed", desc := "(LKilnBench;Ljava/lang/String;)Z" } : Jvm.MethodName)) ∈ lw_all := lw_g (lw_at lw_m6 27 rfl) rfl
theorem q1304 : (Jvm.Cond.static ({ cls := "KilnBenchLaw", name := "feed", desc := "(LKilnBench;Ljava/lang/String;)Z" } : Jvm.MethodName)) ∈ lw_all := lw_g (lw_at lw_m6 28 rfl) rfl
theorem q1305 : (Jvm.Cond.code ({ cls := "KilnBenchLaw", name := "feed", desc := "(LKilnBench;Ljava/lang/String;)Z" } : Jvm.MethodName) method_6_code (4 : Nat) (Option.some Jvm.ClassFile.FieldType.boolean)) ∈ lw_all := lw_g (lw_at lw_m6 29 rfl) rfl
theorem q1306 : (Jvm.Cond.methodLink "KilnBenchLaw" (35 : Nat) ({ cls := "java/lang/String", name := "length", desc := "()I" } : Jvm.MethodName)) ∈ lw_all := lw_g (lw_at lw_m6 30 rfl) rfl
theorem q1307 : (Jvm.Cond.methodLink "KilnBenchLaw" (41 : Nat) ({ cls := "java/lang/String", name := "charAt", desc := "(I)C" } : Jvm.MethodName)) ∈ lw_all := lw_g (lw_at lw_m6 31 rfl) rfl
theorem q1308 : (Jvm.Cond.methodLink "KilnBenchLaw" (45 : Nat) ({ cls := "KilnBenchLaw", name := "feed", desc := "(LKilnBench;[I)Z" } : Jvm.MethodName)) ∈ lw_all := lw_g (lw_at lw_m6 32 rfl) rfl
theorem q1309 : (Jvm.Cond.static ({ cls := "KilnBenchLaw", name := "feed", desc := "(LKilnBench;[I)Z" } : Jvm.MethodName)) ∈ lw_all := lw_g (lw_at lw_m6 33 rfl) rfl
theorem q1310 : (Jvm.Cond.code ({ cls := "KilnBenchLaw", name := "feed", desc := "(LKilnBench;[I)Z" } : Jvm.MethodName) method_5_code (5 : Nat) (Option.some Jvm.ClassFile.FieldType.boolean)) ∈ lw_all := lw_g (lw_at lw_m6 34 rfl) rfl
theorem q1311 : (Jvm.Cond.methodLink "KilnBenchLaw" (25 : Nat) ({ cls := "KilnBench", name := "feed", desc := "(IIIII)I" } : Jvm.MethodName)) ∈ lw_all := lw_g (lw_at lw_m6 35 rfl) rfl
theorem q1319 : (Jvm.Cond.methodLink "KilnBenchLaw" (31 : Nat) ({ cls := "KilnBench", name := "end", desc := "(I)Z" } : Jvm.MethodName)) ∈ lw_all := lw_g (lw_at lw_m6 43 rfl) rfl
theorem q1327 : (Jvm.Cond.methodLink "KilnBenchLaw" (89 : Nat) ({ cls := "KilnBenchLaw", name := "areThere", desc := "(LKilnBench;LKilnBenchLaw$All;)Z" } : Jvm.MethodName)) ∈ lw_all := lw_g (lw_at lw_m6 51 rfl) rfl
theorem q1328 : (Jvm.Cond.static ({ cls := "KilnBenchLaw", name := "areThere", desc := "(LKilnBench;LKilnBenchLaw$All;)Z" } : Jvm.MethodName)) ∈ lw_all := lw_g (lw_at lw_m6 52 rfl) rfl
theorem q1329 : (Jvm.Cond.code ({ cls := "KilnBenchLaw", name := "areThere", desc := "(LKilnBench;LKilnBenchLaw$All;)Z" } : Jvm.MethodName) method_8_code (6 : Nat) (Option.some Jvm.ClassFile.FieldType.boolean)) ∈ lw_all := lw_g (lw_at lw_m6 53 rfl) rfl
theorem q1330 : (Jvm.Cond.methodLink "KilnBenchLaw" (63 : Nat) ({ cls := "KilnBench", name := "child", desc := "(II)I" } : Jvm.MethodName)) ∈ lw_all := lw_g (lw_at lw_m6 54 rfl) rfl
theorem q1353 : (Jvm.Cond.methodLink "KilnBenchLaw" (66 : Nat) ({ cls := "KilnBench", name := "place", desc := "(II)I" } : Jvm.MethodName)) ∈ lw_all := lw_g (lw_at lw_m6 77 rfl) rfl
theorem q1362 : (Jvm.Cond.methodLink "KilnBenchLaw" (345 : Nat) ({ cls := "KilnBenchLaw", name := "begins", desc := "(LKilnBench;LKilnBenchLaw$All;)Z" } : Jvm.MethodName)) ∈ lw_all := lw_g (lw_at lw_m6 86 rfl) rfl
theorem q1363 : (Jvm.Cond.static ({ cls := "KilnBenchLaw", name := "begins", desc := "(LKilnBench;LKilnBenchLaw$All;)Z" } : Jvm.MethodName)) ∈ lw_all := lw_g (lw_at lw_m6 87 rfl) rfl
theorem q1364 : (Jvm.Cond.code ({ cls := "KilnBenchLaw", name := "begins", desc := "(LKilnBench;LKilnBenchLaw$All;)Z" } : Jvm.MethodName) method_9_code (3 : Nat) (Option.some Jvm.ClassFile.FieldType.boolean)) ∈ lw_all := lw_g (lw_at lw_m6 88 rfl) rfl
theorem q1365 : (Jvm.Cond.methodLink "KilnBenchLaw" (73 : Nat) ({ cls := "KilnBench", name := "has", desc := "(I)I" } : Jvm.MethodName)) ∈ lw_all := lw_g (lw_at lw_m6 89 rfl) rfl
theorem q1396 : (Jvm.Cond.methodLink "KilnBenchLaw" (80 : Nat) ({ cls := "KilnBench", name := "kiln", desc := "(II)I" } : Jvm.MethodName)) ∈ lw_all := lw_g (lw_at lw_m6 120 rfl) rfl
theorem q1520 : (Jvm.Cond.methodLink "KilnBenchLaw" (352 : Nat) ({ cls := "KilnBenchLaw", name := "isCounted", desc := "(LKilnBench;LKilnBenchLaw$All;)Z" } : Jvm.MethodName)) ∈ lw_all := lw_g (lw_at lw_m7 4 rfl) rfl
theorem q1521 : (Jvm.Cond.static ({ cls := "KilnBenchLaw", name := "isCounted", desc := "(LKilnBench;LKilnBenchLaw$All;)Z" } : Jvm.MethodName)) ∈ lw_all := lw_g (lw_at lw_m7 5 rfl) rfl
theorem q1522 : (Jvm.Cond.code ({ cls := "KilnBenchLaw", name := "isCounted", desc := "(LKilnBench;LKilnBenchLaw$All;)Z" } : Jvm.MethodName) method_10_code (10 : Nat) (Option.some Jvm.ClassFile.FieldType.boolean)) ∈ lw_all := lw_g (lw_at lw_m7 6 rfl) rfl
theorem q1523 : (Jvm.Cond.methodLink "KilnBenchLaw" (93 : Nat) ({ cls := "KilnBenchLaw$All", name := "burns", desc := "(IIII)I" } : Jvm.MethodName)) ∈ lw_all := lw_g (lw_at lw_m7 7 rfl) rfl
theorem q1528 : (Jvm.Cond.methodLink "KilnBenchLaw" (359 : Nat) ({ cls := "KilnBenchLaw", name := "isTold", desc := "(LKilnBench;LKilnBenchLaw$All;III)Z" } : Jvm.MethodName)) ∈ lw_all := lw_g (lw_at lw_m7 12 rfl) rfl
theorem q1529 : (Jvm.Cond.static ({ cls := "KilnBenchLaw", name := "isTold", desc := "(LKilnBench;LKilnBenchLaw$All;III)Z" } : Jvm.MethodName)) ∈ lw_all := lw_g (lw_at lw_m7 13 rfl) rfl
theorem q1530 : (Jvm.Cond.code ({ cls := "KilnBenchLaw", name := "isTold", desc := "(LKilnBench;LKilnBenchLaw$All;III)Z" } : Jvm.MethodName) method_11_code (7 : Nat) (Option.some Jvm.ClassFile.FieldType.boolean)) ∈ lw_all := lw_g (lw_at lw_m7 14 rfl) rfl
theorem q1531 : (Jvm.Cond.methodLink "KilnBenchLaw" (97 : Nat) ({ cls := "KilnBench", name := "rings", desc := "(III)I" } : Jvm.MethodName)) ∈ lw_all := lw_g (lw_at lw_m7 15 rfl) rfl
theorem q1553 : (Jvm.Cond.methodLink "KilnBenchLaw" (101 : Nat) ({ cls := "KilnBenchLaw$All", name := "rings", desc := "(IIII)I" } : Jvm.MethodName)) ∈ lw_all := lw_g (lw_at lw_m7 37 rfl) rfl
theorem q1558 : (Jvm.Cond.static ({ cls := "KilnBenchLaw", name := "within", desc := "(I)I" } : Jvm.MethodName)) ∈ lw_all := lw_g (lw_at lw_m7 42 rfl) rfl
theorem q1559 : (Jvm.Cond.code ({ cls := "KilnBenchLaw", name := "within", desc := "(I)I" } : Jvm.MethodName) method_7_code (1 : Nat) (Option.some Jvm.ClassFile.FieldType.int)) ∈ lw_all := lw_g (lw_at lw_m7 43 rfl) rfl
theorem q1560 : (Jvm.Cond.methodLink "KilnBenchLaw" (48 : Nat) ({ cls := "java/lang/Math", name := "min", desc := "(II)I" } : Jvm.MethodName)) ∈ lw_all := lw_g (lw_at lw_m7 44 rfl) rfl
theorem q1561 : (Jvm.Cond.methodLink "KilnBenchLaw" (51 : Nat) ({ cls := "java/lang/Math", name := "max", desc := "(II)I" } : Jvm.MethodName)) ∈ lw_all := lw_g (lw_at lw_m7 45 rfl) rfl
theorem q1562 : (Jvm.Cond.methodLink "KilnBenchLaw" (106 : Nat) ({ cls := "KilnBench", name := "cracks", desc := "(III)I" } : Jvm.MethodName)) ∈ lw_all := lw_g (lw_at lw_m7 46 rfl) rfl
theorem q1572 : (Jvm.Cond.methodLink "KilnBenchLaw" (109 : Nat) ({ cls := "KilnBenchLaw$All", name := "cracks", desc := "(IIII)Z" } : Jvm.MethodName)) ∈ lw_all := lw_g (lw_at lw_m7 56 rfl) rfl
theorem q1576 : (Jvm.Cond.methodLink "KilnBenchLaw" (363 : Nat) ({ cls := "KilnBenchLaw", name := "areHeats", desc := "(LKilnBench;IIII)Z" } : Jvm.MethodName)) ∈ lw_all := lw_g (lw_at lw_m7 60 rfl) rfl
theorem q1577 : (Jvm.Cond.static ({ cls := "KilnBenchLaw", name := "areHeats", desc := "(LKilnBench;IIII)Z" } : Jvm.MethodName)) ∈ lw_all := lw_g (lw_at lw_m7 61 rfl) rfl
theorem q1578 : (Jvm.Cond.code ({ cls := "KilnBenchLaw", name := "areHeats", desc := "(LKilnBench;IIII)Z" } : Jvm.MethodName) method_12_code (8 : Nat) (Option.some Jvm.ClassFile.FieldType.boolean)) ∈ lw_all := lw_g (lw_at lw_m7 62 rfl) rfl
theorem q1579 : (Jvm.Cond.methodLink "KilnBenchLaw" (112 : Nat) ({ cls := "KilnBench", name := "heats", desc := "(IIII)I" } : Jvm.MethodName)) ∈ lw_all := lw_g (lw_at lw_m7 63 rfl) rfl
theorem q1593 : (Jvm.Cond.methodLink "KilnBenchLaw" (348 : Nat) ({ cls := "KilnBenchLaw", name := "acts", desc := "(LKilnBench;LKilnBenchLaw$All;[II)Z" } : Jvm.MethodName)) ∈ lw_all := lw_g (lw_at lw_m7 77 rfl) rfl
theorem q1594 : (Jvm.Cond.static ({ cls := "KilnBenchLaw", name := "acts", desc := "(LKilnBench;LKilnBenchLaw$All;[II)Z" } : Jvm.MethodName)) ∈ lw_all := lw_g (lw_at lw_m7 78 rfl) rfl
theorem q1595 : (Jvm.Cond.code ({ cls := "KilnBenchLaw", name := "acts", desc := "(LKilnBench;LKilnBenchLaw$All;[II)Z" } : Jvm.MethodName) method_28_code (13 : Nat) (Option.some Jvm.ClassFile.FieldType.boolean)) ∈ lw_all := lw_g (lw_at lw_m7 79 rfl) rfl
theorem q1596 : (Jvm.Cond.classLink "KilnBenchLaw" (116 : Nat) "KilnBenchLaw$Ahead") ∈ lw_all := lw_g (lw_at lw_m7 80 rfl) rfl
theorem q1598 : (Jvm.Cond.methodLink "KilnBenchLaw" (267 : Nat) ({ cls := "KilnBenchLaw$Ahead", name := "<init>", desc := "(LKilnBench;LKilnBenchLaw$All;)V" } : Jvm.MethodName)) ∈ lw_all := lw_g (lw_at lw_m7 82 rfl) rfl
theorem q1784 : (Jvm.Cond.fieldLinkNest "KilnBenchLaw" (195 : Nat) "KilnBenchLaw$Ahead" "fuel" "I" "KilnBenchLaw") ∈ lw_tbl := lw_at lw_m8 28 rfl
theorem q1786 : (Jvm.Cond.fieldLinkNest "KilnBenchLaw" (199 : Nat) "KilnBenchLaw$Ahead" "rows" "I" "KilnBenchLaw") ∈ lw_tbl := lw_at lw_m8 30 rfl
theorem q1788 : (Jvm.Cond.fieldLinkNest "KilnBenchLaw" (207 : Nat) "KilnBenchLaw$Ahead" "week" "I" "KilnBenchLaw") ∈ lw_tbl := lw_at lw_m8 32 rfl
theorem q1790 : (Jvm.Cond.fieldLinkNest "KilnBenchLaw" (188 : Nat) "KilnBenchLaw$Ahead" "refused" "I" "KilnBenchLaw") ∈ lw_tbl := lw_at lw_m8 34 rfl
theorem q1792 : (Jvm.Cond.fieldLinkNest "KilnBenchLaw" (225 : Nat) "KilnBenchLaw$Ahead" "comingFuel" "I" "KilnBenchLaw") ∈ lw_tbl := lw_at lw_m8 36 rfl
theorem q1794 : (Jvm.Cond.fieldLinkNest "KilnBenchLaw" (167 : Nat) "KilnBenchLaw$Ahead" "rooms" "[I" "KilnBenchLaw") ∈ lw_tbl := lw_at lw_m8 38 rfl
theorem q1796 : (Jvm.Cond.fieldLinkNest "KilnBenchLaw" (115 : Nat) "KilnBenchLaw$Ahead" "full" "[I" "KilnBenchLaw") ∈ lw_tbl := lw_at lw_m8 40 rfl
theorem q1798 : (Jvm.Cond.fieldLinkNest "KilnBenchLaw" (149 : Nat) "KilnBenchLaw$Ahead" "heats" "[I" "KilnBenchLaw") ∈ lw_tbl := lw_at lw_m8 42 rfl
theorem q1800 : (Jvm.Cond.fieldLinkNest "KilnBenchLaw" (202 : Nat) "KilnBenchLaw$Ahead" "burns" "[I" "KilnBenchLaw") ∈ lw_tbl := lw_at lw_m8 44 rfl
theorem q1802 : (Jvm.Cond.fieldLinkNest "KilnBenchLaw" (160 : Nat) "KilnBenchLaw$Ahead" "coming" "[I" "KilnBenchLaw") ∈ lw_tbl := lw_at lw_m8 46 rfl
theorem q1804 : (Jvm.Cond.fieldLinkNest "KilnBenchLaw" (120 : Nat) "KilnBenchLaw$Ahead" "kiln" "[I" "KilnBenchLaw") ∈ lw_tbl := lw_at lw_m8 48 rfl
theorem q1806 : (Jvm.Cond.fieldLinkNest "KilnBenchLaw" (122 : Nat) "KilnBenchLaw$Ahead" "place" "[I" "KilnBenchLaw") ∈ lw_tbl := lw_at lw_m8 50 rfl
theorem q1808 : (Jvm.Cond.fieldLinkNest "KilnBenchLaw" (320 : Nat) "KilnBenchLaw$Ahead" "temper" "[I" "KilnBenchLaw") ∈ lw_tbl := lw_at lw_m8 52 rfl
theorem q1810 : (Jvm.Cond.fieldLinkNest "KilnBenchLaw" (322 : Nat) "KilnBenchLaw$Ahead" "brothers" "[I" "KilnBenchLaw") ∈ lw_tbl := lw_at lw_m8 54 rfl
theorem q1812 : (Jvm.Cond.fieldLinkNest "KilnBenchLaw" (218 : Nat) "KilnBenchLaw$Ahead" "later" "[I" "KilnBenchLaw") ∈ lw_tbl := lw_at lw_m8 56 rfl
theorem q1814 : (Jvm.Cond.fieldLinkNest "KilnBenchLaw" (163 : Nat) "KilnBenchLaw$Ahead" "isRaw" "[Z" "KilnBenchLaw") ∈ lw_tbl := lw_at lw_m8 58 rfl
theorem q1816 : (Jvm.Cond.fieldLinkNest "KilnBenchLaw" (228 : Nat) "KilnBenchLaw$Ahead" "rings" "[[I" "KilnBenchLaw") ∈ lw_tbl := lw_at lw_m8 60 rfl
theorem q1818 : (Jvm.Cond.fieldLinkNest "KilnBenchLaw" (157 : Nat) "KilnBenchLaw$Ahead" "cracks" "[[I" "KilnBenchLaw") ∈ lw_tbl := lw_at lw_m8 62 rfl
theorem q1859 : (Jvm.Cond.methodLink "KilnBenchLaw" (270 : Nat) ({ cls := "KilnBenchLaw", name := "isSafe", desc := "(LKilnBench;LKilnBenchLaw$All;LKilnBenchLaw$Ahead;IZ)Z" } : Jvm.MethodName)) ∈ lw_all := lw_g (lw_at lw_m8 103 rfl) rfl
theorem q1860 : (Jvm.Cond.static ({ cls := "KilnBenchLaw", name := "isSafe", desc := "(LKilnBench;LKilnBenchLaw$All;LKilnBenchLaw$Ahead;IZ)Z" } : Jvm.MethodName)) ∈ lw_all := lw_g (lw_at lw_m8 104 rfl) rfl
theorem q1861 : (Jvm.Cond.code ({ cls := "KilnBenchLaw", name := "isSafe", desc := "(LKilnBench;LKilnBenchLaw$All;LKilnBenchLaw$Ahead;IZ)Z" } : Jvm.MethodName) method_13_code (11 : Nat) (Option.some Jvm.ClassFile.FieldType.boolean)) ∈ lw_all := lw_g (lw_at lw_m8 105 rfl) rfl
theorem q1862 : (Jvm.Cond.methodLink "KilnBenchLaw" (124 : Nat) ({ cls := "KilnBenchLaw$Ahead", name := "who", desc := "(LKilnBenchLaw$All;II)I" } : Jvm.MethodName)) ∈ lw_all := lw_g (lw_at lw_m8 106 rfl) rfl
theorem q1866 : (Jvm.Cond.methodLink "KilnBenchLaw" (128 : Nat) ({ cls := "java/lang/Math", name := "abs", desc := "(I)I" } : Jvm.MethodName)) ∈ lw_all := lw_g (lw_at lw_m8 110 rfl) rfl
theorem q1867 : (Jvm.Cond.methodLink "KilnBenchLaw" (131 : Nat) ({ cls := "KilnBenchLaw$All", name := "sticks", desc := "(IIII)Z" } : Jvm.MethodName)) ∈ lw_all := lw_g (lw_at lw_m8 111 rfl) rfl
theorem q1871 : (Jvm.Cond.methodLink "KilnBenchLaw" (134 : Nat) ({ cls := "KilnBench", name := "safe", desc := "(I)I" } : Jvm.MethodName)) ∈ lw_all := lw_g (lw_at lw_m8 115 rfl) rfl
theorem q1879 : (Jvm.Cond.methodLink "KilnBenchLaw" (137 : Nat) ({ cls := "KilnBenchLaw", name := "isBest", desc := "(LKilnBench;LKilnBenchLaw$All;LKilnBenchLaw$Ahead;II)Z" } : Jvm.MethodName)) ∈ lw_all := lw_g (lw_at lw_m8 123 rfl) rfl
theorem q1880 : (Jvm.Cond.static ({ cls := "KilnBenchLaw", name := "isBest", desc := "(LKilnBench;LKilnBenchLaw$All;LKilnBenchLaw$Ahead;II)Z" } : Jvm.MethodName)) ∈ lw_all := lw_g (lw_at lw_m8 124 rfl) rfl
theorem q1881 : (Jvm.Cond.code ({ cls := "KilnBenchLaw", name := "isBest", desc := "(LKilnBench;LKilnBenchLaw$All;LKilnBenchLaw$Ahead;II)Z" } : Jvm.MethodName) method_14_code (11 : Nat) (Option.some Jvm.ClassFile.FieldType.boolean)) ∈ lw_all := lw_g (lw_at lw_m8 125 rfl) rfl
theorem q1882 : (Jvm.Cond.methodLink "KilnBenchLaw" (141 : Nat) ({ cls := "KilnBench", name := "best", desc := "(II)I" } : Jvm.MethodName)) ∈ lw_all := lw_g (lw_at lw_m8 126 rfl) rfl
theorem q1928 : (Jvm.Cond.methodLink "KilnBenchLaw" (144 : Nat) ({ cls := "java/lang/Integer", name := "bitCount", desc := "(I)I" } : Jvm.MethodName)) ∈ lw_all := lw_g (lw_at lw_m8 172 rfl) rfl
theorem q1929 : (Jvm.Cond.methodLink "KilnBenchLaw" (274 : Nat) ({ cls := "KilnBenchLaw", name := "areOdds", desc := "(LKilnBench;LKilnBenchLaw$All;LKilnBenchLaw$Ahead;I)Z" } : Jvm.MethodName)) ∈ lw_all := lw_g (lw_at lw_m8 173 rfl) rfl
theorem q1930 : (Jvm.Cond.static ({ cls := "KilnBenchLaw", name := "areOdds", desc := "(LKilnBench;LKilnBenchLaw$All;LKilnBenchLaw$Ahead;I)Z" } : Jvm.MethodName)) ∈ lw_all := lw_g (lw_at lw_m8 174 rfl) rfl
theorem q1931 : (Jvm.Cond.code ({ cls := "KilnBenchLaw", name := "areOdds", desc := "(LKilnBench;LKilnBenchLaw$All;LKilnBenchLaw$Ahead;I)Z" } : Jvm.MethodName) method_15_code (6 : Nat) (Option.some Jvm.ClassFile.FieldType.boolean)) ∈ lw_all := lw_g (lw_at lw_m8 175 rfl) rfl
theorem q1932 : (Jvm.Cond.methodLink "KilnBenchLaw" (151 : Nat) ({ cls := "KilnBench", name := "odds", desc := "(I)I" } : Jvm.MethodName)) ∈ lw_all := lw_g (lw_at lw_m8 176 rfl) rfl
theorem q1936 : (Jvm.Cond.methodLink "KilnBenchLaw" (280 : Nat) ({ cls := "KilnBenchLaw", name := "oneWeek", desc := "(LKilnBench;LKilnBenchLaw$All;LKilnBenchLaw$Ahead;)Z" } : Jvm.MethodName)) ∈ lw_all := lw_g (lw_at lw_m8 180 rfl) rfl
theorem q1937 : (Jvm.Cond.static ({ cls := "KilnBenchLaw", name := "oneWeek", desc := "(LKilnBench;LKilnBenchLaw$All;LKilnBenchLaw$Ahead;)Z" } : Jvm.MethodName)) ∈ lw_all := lw_g (lw_at lw_m8 181 rfl) rfl
theorem q1938 : (Jvm.Cond.code ({ cls := "KilnBenchLaw", name := "oneWeek", desc := "(LKilnBench;LKilnBenchLaw$All;LKilnBenchLaw$Ahead;)Z" } : Jvm.MethodName) method_23_code (4 : Nat) (Option.some Jvm.ClassFile.FieldType.boolean)) ∈ lw_all := lw_g (lw_at lw_m8 182 rfl) rfl
theorem q1939 : (Jvm.Cond.methodLink "KilnBenchLaw" (237 : Nat) ({ cls := "KilnBench", name := "weeks", desc := "(I)I" } : Jvm.MethodName)) ∈ lw_all := lw_g (lw_at lw_m8 183 rfl) rfl
theorem q1971 : (Jvm.Cond.methodLink "KilnBenchLaw" (240 : Nat) ({ cls := "KilnBenchLaw", name := "passes", desc := "(LKilnBench;LKilnBenchLaw$All;LKilnBenchLaw$Ahead;I)Z" } : Jvm.MethodName)) ∈ lw_all := lw_g (lw_at lw_m8 215 rfl) rfl
theorem q1972 : (Jvm.Cond.static ({ cls := "KilnBenchLaw", name := "passes", desc := "(LKilnBench;LKilnBenchLaw$All;LKilnBenchLaw$Ahead;I)Z" } : Jvm.MethodName)) ∈ lw_all := lw_g (lw_at lw_m8 216 rfl) rfl
theorem q1973 : (Jvm.Cond.code ({ cls := "KilnBenchLaw", name := "passes", desc := "(LKilnBench;LKilnBenchLaw$All;LKilnBenchLaw$Ahead;I)Z" } : Jvm.MethodName) method_20_code (9 : Nat) (Option.some Jvm.ClassFile.FieldType.boolean)) ∈ lw_all := lw_g (lw_at lw_m8 217 rfl) rfl
theorem q1974 : (Jvm.Cond.methodLink "KilnBenchLaw" (204 : Nat) ({ cls := "KilnBench", name := "kept", desc := "(II)I" } : Jvm.MethodName)) ∈ lw_all := lw_g (lw_at lw_m8 218 rfl) rfl
theorem q1975 : (Jvm.Cond.methodLink "KilnBenchLaw" (210 : Nat) ({ cls := "KilnBenchLaw", name := "isOut", desc := "(LKilnBench;LKilnBenchLaw$All;LKilnBenchLaw$Ahead;IIII)Z" } : Jvm.MethodName)) ∈ lw_all := lw_g (lw_at lw_m8 219 rfl) rfl
theorem q1976 : (Jvm.Cond.static ({ cls := "KilnBenchLaw", name := "isOut", desc := "(LKilnBench;LKilnBenchLaw$All;LKilnBenchLaw$Ahead;IIII)Z" } : Jvm.MethodName)) ∈ lw_all := lw_g (lw_at lw_m8 220 rfl) rfl
theorem q1977 : (Jvm.Cond.code ({ cls := "KilnBenchLaw", name := "isOut", desc := "(LKilnBench;LKilnBenchLaw$All;LKilnBenchLaw$Ahead;IIII)Z" } : Jvm.MethodName) method_21_code (9 : Nat) (Option.some Jvm.ClassFile.FieldType.boolean)) ∈ lw_all := lw_g (lw_at lw_m8 221 rfl) rfl
theorem q1978 : (Jvm.Cond.methodLink "KilnBenchLaw" (230 : Nat) ({ cls := "KilnBench", name := "brothers", desc := "(I)I" } : Jvm.MethodName)) ∈ lw_all := lw_g (lw_at lw_m8 222 rfl) rfl
theorem q1979 : (Jvm.Cond.methodLink "KilnBenchLaw" (233 : Nat) ({ cls := "KilnBenchLaw", name := "inARow", desc := "(LKilnBench;LKilnBenchLaw$All;LKilnBenchLaw$Ahead;III)I" } : Jvm.MethodName)) ∈ lw_all := lw_g (lw_at lw_m8 223 rfl) rfl
theorem q1980 : (Jvm.Cond.static ({ cls := "KilnBenchLaw", name := "inARow", desc := "(LKilnBench;LKilnBenchLaw$All;LKilnBenchLaw$Ahead;III)I" } : Jvm.MethodName)) ∈ lw_all := lw_g (lw_at lw_m8 224 rfl) rfl
theorem q1981 : (Jvm.Cond.code ({ cls := "KilnBenchLaw", name := "inARow", desc := "(LKilnBench;LKilnBenchLaw$All;LKilnBenchLaw$Ahead;III)I" } : Jvm.MethodName) method_22_code (9 : Nat) (Option.some Jvm.ClassFile.FieldType.int)) ∈ lw_all := lw_g (lw_at lw_m8 225 rfl) rfl
theorem q1982 : (Jvm.Cond.methodLink "KilnBenchLaw" (214 : Nat) ({ cls := "KilnBenchLaw$Ahead", name := "isSameChild", desc := "(LKilnBench;I)Z" } : Jvm.MethodName)) ∈ lw_all := lw_g (lw_at lw_m8 226 rfl) rfl
theorem q1986 : (Jvm.Cond.methodLink "KilnBenchLaw" (221 : Nat) ({ cls := "KilnBenchLaw$Ahead", name := "areElder", desc := "(LKilnBench;)Z" } : Jvm.MethodName)) ∈ lw_all := lw_g (lw_at lw_m8 230 rfl) rfl
theorem q1990 : (Jvm.Cond.methodLink "KilnBenchLaw" (244 : Nat) ({ cls := "KilnBench", name := "undo", desc := "()Z" } : Jvm.MethodName)) ∈ lw_all := lw_g (lw_at lw_m8 234 rfl) rfl
theorem q2007 : (Jvm.Cond.methodLink "KilnBenchLaw" (191 : Nat) ({ cls := "KilnBenchLaw$Ahead", name := "isSame", desc := "(LKilnBench;LKilnBenchLaw$All;II)Z" } : Jvm.MethodName)) ∈ lw_all := lw_g (lw_at lw_m9 11 rfl) rfl
theorem q2013 : (Jvm.Cond.methodLink "KilnBenchLaw" (284 : Nat) ({ cls := "KilnBenchLaw", name := "byTheSeed", desc := "(LKilnBench;LKilnBenchLaw$All;LKilnBenchLaw$Ahead;)Z" } : Jvm.MethodName)) ∈ lw_all := lw_g (lw_at lw_m9 17 rfl) rfl
theorem q2014 : (Jvm.Cond.static ({ cls := "KilnBenchLaw", name := "byTheSeed", desc := "(LKilnBench;LKilnBenchLaw$All;LKilnBenchLaw$Ahead;)Z" } : Jvm.MethodName)) ∈ lw_all := lw_g (lw_at lw_m9 18 rfl) rfl
theorem q2015 : (Jvm.Cond.code ({ cls := "KilnBenchLaw", name := "byTheSeed", desc := "(LKilnBench;LKilnBenchLaw$All;LKilnBenchLaw$Ahead;)Z" } : Jvm.MethodName) method_25_code (10 : Nat) (Option.some Jvm.ClassFile.FieldType.boolean)) ∈ lw_all := lw_g (lw_at lw_m9 19 rfl) rfl
theorem q2016 : (Jvm.Cond.methodLink "KilnBenchLaw" (254 : Nat) ({ cls := "KilnBenchLaw", name := "drawn", desc := "(I)I" } : Jvm.MethodName)) ∈ lw_all := lw_g (lw_at lw_m9 20 rfl) rfl
theorem q2017 : (Jvm.Cond.static ({ cls := "KilnBenchLaw", name := "drawn", desc := "(I)I" } : Jvm.MethodName)) ∈ lw_all := lw_g (lw_at lw_m9 21 rfl) rfl
theorem q2018 : (Jvm.Cond.code ({ cls := "KilnBenchLaw", name := "drawn", desc := "(I)I" } : Jvm.MethodName) method_24_code (1 : Nat) (Option.some Jvm.ClassFile.FieldType.int)) ∈ lw_all := lw_g (lw_at lw_m9 22 rfl) rfl
theorem q2019 : (Jvm.Cond.constantLong "KilnBenchLaw" (248 : Nat) (1103515245 : Int64)) ∈ lw_all := lw_g (lw_at lw_m9 23 rfl) rfl
theorem q2020 : (Jvm.Cond.constantLong "KilnBenchLaw" (250 : Nat) (12345 : Int64)) ∈ lw_all := lw_g (lw_at lw_m9 24 rfl) rfl
theorem q2021 : (Jvm.Cond.constantLong "KilnBenchLaw" (252 : Nat) (2147483648 : Int64)) ∈ lw_all := lw_g (lw_at lw_m9 25 rfl) rfl
theorem q2022 : (Jvm.Cond.methodLink "KilnBenchLaw" (257 : Nat) ({ cls := "KilnBench", name := "chance", desc := "(I)I" } : Jvm.MethodName)) ∈ lw_all := lw_g (lw_at lw_m9 26 rfl) rfl
theorem q2034 : (Jvm.Cond.methodLink "KilnBenchLaw" (260 : Nat) ({ cls := "KilnBench", name := "seed", desc := "(I)Z" } : Jvm.MethodName)) ∈ lw_all := lw_g (lw_at lw_m9 38 rfl) rfl
theorem q2038 : (Jvm.Cond.methodLink "KilnBenchLaw" (287 : Nat) ({ cls := "KilnBenchLaw", name := "someWeeks", desc := "(LKilnBench;LKilnBenchLaw$All;LKilnBenchLaw$Ahead;I)Z" } : Jvm.MethodName)) ∈ lw_all := lw_g (lw_at lw_m9 42 rfl) rfl
theorem q2039 : (Jvm.Cond.static ({ cls := "KilnBenchLaw", name := "someWeeks", desc := "(LKilnBench;LKilnBenchLaw$All;LKilnBenchLaw$Ahead;I)Z" } : Jvm.MethodName)) ∈ lw_all := lw_g (lw_at lw_m9 43 rfl) rfl
theorem q2040 : (Jvm.Cond.code ({ cls := "KilnBenchLaw", name := "someWeeks", desc := "(LKilnBench;LKilnBenchLaw$All;LKilnBenchLaw$Ahead;I)Z" } : Jvm.MethodName) method_26_code (12 : Nat) (Option.some Jvm.ClassFile.FieldType.boolean)) ∈ lw_all := lw_g (lw_at lw_m9 44 rfl) rfl
theorem q2041 : (Jvm.Cond.methodLink "KilnBenchLaw" (263 : Nat) ({ cls := "KilnBench", name := "fuel", desc := "(I)I" } : Jvm.MethodName)) ∈ lw_all := lw_g (lw_at lw_m9 45 rfl) rfl
theorem q2042 : (Jvm.Cond.methodLink "KilnBenchLaw" (265 : Nat) ({ cls := "KilnBench", name := "later", desc := "(II)I" } : Jvm.MethodName)) ∈ lw_all := lw_g (lw_at lw_m9 46 rfl) rfl
theorem q2043 : (Jvm.Cond.methodLink "KilnBenchLaw" (290 : Nat) ({ cls := "KilnBenchLaw$Ahead", name := "firstFree", desc := "(LKilnBenchLaw$All;I)I" } : Jvm.MethodName)) ∈ lw_all := lw_g (lw_at lw_m9 47 rfl) rfl
theorem q2048 : (Jvm.Cond.methodLink "KilnBenchLaw" (294 : Nat) ({ cls := "KilnBenchLaw", name := "sets", desc := "(LKilnBench;LKilnBenchLaw$All;LKilnBenchLaw$Ahead;III)Z" } : Jvm.MethodName)) ∈ lw_all := lw_g (lw_at lw_m9 52 rfl) rfl
theorem q2049 : (Jvm.Cond.static ({ cls := "KilnBenchLaw", name := "sets", desc := "(LKilnBench;LKilnBenchLaw$All;LKilnBenchLaw$Ahead;III)Z" } : Jvm.MethodName)) ∈ lw_all := lw_g (lw_at lw_m9 53 rfl) rfl
theorem q2050 : (Jvm.Cond.code ({ cls := "KilnBenchLaw", name := "sets", desc := "(LKilnBench;LKilnBenchLaw$All;LKilnBenchLaw$Ahead;III)Z" } : Jvm.MethodName) method_16_code (7 : Nat) (Option.some Jvm.ClassFile.FieldType.boolean)) ∈ lw_all := lw_g (lw_at lw_m9 54 rfl) rfl
theorem q2051 : (Jvm.Cond.methodLink "KilnBenchLaw" (170 : Nat) ({ cls := "KilnBench", name := "set", desc := "(III)Z" } : Jvm.MethodName)) ∈ lw_all := lw_g (lw_at lw_m9 55 rfl) rfl
theorem q2057 : (Jvm.Cond.methodLink "KilnBenchLaw" (174 : Nat) ({ cls := "KilnBenchLaw", name := "isBehind", desc := "(LKilnBench;LKilnBenchLaw$All;LKilnBenchLaw$Ahead;ZII)Z" } : Jvm.MethodName)) ∈ lw_all := lw_g (lw_at lw_m9 61 rfl) rfl
theorem q2058 : (Jvm.Cond.static ({ cls := "KilnBenchLaw", name := "isBehind", desc := "(LKilnBench;LKilnBenchLaw$All;LKilnBenchLaw$Ahead;ZII)Z" } : Jvm.MethodName)) ∈ lw_all := lw_g (lw_at lw_m9 62 rfl) rfl
theorem q2059 : (Jvm.Cond.code ({ cls := "KilnBenchLaw", name := "isBehind", desc := "(LKilnBench;LKilnBenchLaw$All;LKilnBenchLaw$Ahead;ZII)Z" } : Jvm.MethodName) method_19_code (6 : Nat) (Option.some Jvm.ClassFile.FieldType.boolean)) ∈ lw_all := lw_g (lw_at lw_m9 63 rfl) rfl
theorem q2060 : (Jvm.Cond.methodLink "KilnBenchLaw" (185 : Nat) ({ cls := "KilnBench", name := "status", desc := "(I)I" } : Jvm.MethodName)) ∈ lw_all := lw_g (lw_at lw_m9 64 rfl) rfl
theorem q2061 : (Jvm.Cond.methodLink "KilnBenchLaw" (298 : Nat) ({ cls := "KilnBenchLaw", name := "takes", desc := "(LKilnBench;LKilnBenchLaw$All;LKilnBenchLaw$Ahead;I)Z" } : Jvm.MethodName)) ∈ lw_all := lw_g (lw_at lw_m9 65 rfl) rfl
theorem q2062 : (Jvm.Cond.static ({ cls := "KilnBenchLaw", name := "takes", desc := "(LKilnBench;LKilnBenchLaw$All;LKilnBenchLaw$Ahead;I)Z" } : Jvm.MethodName)) ∈ lw_all := lw_g (lw_at lw_m9 66 rfl) rfl
theorem q2063 : (Jvm.Cond.code ({ cls := "KilnBenchLaw", name := "takes", desc := "(LKilnBench;LKilnBenchLaw$All;LKilnBenchLaw$Ahead;I)Z" } : Jvm.MethodName) method_17_code (5 : Nat) (Option.some Jvm.ClassFile.FieldType.boolean)) ∈ lw_all := lw_g (lw_at lw_m9 67 rfl) rfl
theorem q2064 : (Jvm.Cond.methodLink "KilnBenchLaw" (178 : Nat) ({ cls := "KilnBench", name := "take", desc := "(I)Z" } : Jvm.MethodName)) ∈ lw_all := lw_g (lw_at lw_m9 68 rfl) rfl
theorem q2068 : (Jvm.Cond.methodLink "KilnBenchLaw" (301 : Nat) ({ cls := "KilnBenchLaw", name := "lights", desc := "(LKilnBench;LKilnBenchLaw$All;LKilnBenchLaw$Ahead;II)Z" } : Jvm.MethodName)) ∈ lw_all := lw_g (lw_at lw_m9 72 rfl) rfl
theorem q2069 : (Jvm.Cond.static ({ cls := "KilnBenchLaw", name := "lights", desc := "(LKilnBench;LKilnBenchLaw$All;LKilnBenchLaw$Ahead;II)Z" } : Jvm.MethodName)) ∈ lw_all := lw_g (lw_at lw_m9 73 rfl) rfl
theorem q2070 : (Jvm.Cond.code ({ cls := "KilnBenchLaw", name := "lights", desc := "(LKilnBench;LKilnBenchLaw$All;LKilnBenchLaw$Ahead;II)Z" } : Jvm.MethodName) method_18_code (6 : Nat) (Option.some Jvm.ClassFile.FieldType.boolean)) ∈ lw_all := lw_g (lw_at lw_m9 74 rfl) rfl
theorem q2071 : (Jvm.Cond.methodLink "KilnBenchLaw" (181 : Nat) ({ cls := "KilnBench", name := "light", desc := "(II)Z" } : Jvm.MethodName)) ∈ lw_all := lw_g (lw_at lw_m9 75 rfl) rfl
theorem q2076 : (Jvm.Cond.methodLink "KilnBenchLaw" (304 : Nat) ({ cls := "KilnBenchLaw", name := "undoes", desc := "(LKilnBench;LKilnBenchLaw$All;LKilnBenchLaw$Ahead;IIII)Z" } : Jvm.MethodName)) ∈ lw_all := lw_g (lw_at lw_m9 80 rfl) rfl
theorem q2077 : (Jvm.Cond.static ({ cls := "KilnBenchLaw", name := "undoes", desc := "(LKilnBench;LKilnBenchLaw$All;LKilnBenchLaw$Ahead;IIII)Z" } : Jvm.MethodName)) ∈ lw_all := lw_g (lw_at lw_m9 81 rfl) rfl
theorem q2078 : (Jvm.Cond.code ({ cls := "KilnBenchLaw", name := "undoes", desc := "(LKilnBench;LKilnBenchLaw$All;LKilnBenchLaw$Ahead;IIII)Z" } : Jvm.MethodName) method_27_code (7 : Nat) (Option.some Jvm.ClassFile.FieldType.boolean)) ∈ lw_all := lw_g (lw_at lw_m9 82 rfl) rfl
theorem q2079 : (Jvm.Cond.methodLink "KilnBenchLaw" (355 : Nat) ({ cls := "KilnBenchLaw", name := "areBrothers", desc := "(LKilnBench;LKilnBenchLaw$All;[I)Z" } : Jvm.MethodName)) ∈ lw_all := lw_g (lw_at lw_m9 83 rfl) rfl
theorem q2080 : (Jvm.Cond.static ({ cls := "KilnBenchLaw", name := "areBrothers", desc := "(LKilnBench;LKilnBenchLaw$All;[I)Z" } : Jvm.MethodName)) ∈ lw_all := lw_g (lw_at lw_m9 84 rfl) rfl
theorem q2081 : (Jvm.Cond.code ({ cls := "KilnBenchLaw", name := "areBrothers", desc := "(LKilnBench;LKilnBenchLaw$All;[I)Z" } : Jvm.MethodName) method_29_code (7 : Nat) (Option.some Jvm.ClassFile.FieldType.boolean)) ∈ lw_all := lw_g (lw_at lw_m9 85 rfl) rfl
theorem q2082 : (Jvm.Cond.methodLink "KilnBenchLaw" (367 : Nat) ({ cls := "KilnBenchLaw", name := "isSeen", desc := "(LKilnBench;LKilnBenchLaw$All;III)Z" } : Jvm.MethodName)) ∈ lw_all := lw_g (lw_at lw_m9 86 rfl) rfl
theorem q2083 : (Jvm.Cond.static ({ cls := "KilnBenchLaw", name := "isSeen", desc := "(LKilnBench;LKilnBenchLaw$All;III)Z" } : Jvm.MethodName)) ∈ lw_all := lw_g (lw_at lw_m9 87 rfl) rfl
theorem q2084 : (Jvm.Cond.code ({ cls := "KilnBenchLaw", name := "isSeen", desc := "(LKilnBench;LKilnBenchLaw$All;III)Z" } : Jvm.MethodName) method_30_code (8 : Nat) (Option.some Jvm.ClassFile.FieldType.boolean)) ∈ lw_all := lw_g (lw_at lw_m9 88 rfl) rfl
theorem q2085 : (Jvm.Cond.methodLink "KilnBenchLaw" (307 : Nat) ({ cls := "KilnBench", name := "seen", desc := "()I" } : Jvm.MethodName)) ∈ lw_all := lw_g (lw_at lw_m9 89 rfl) rfl
theorem q2096 : (Jvm.Cond.constant "KilnBenchLaw" (310 : Nat) (2097151 : Int32)) ∈ lw_all := lw_g (lw_at lw_m9 100 rfl) rfl
theorem q2097 : (Jvm.Cond.methodLink "KilnBenchLaw" (311 : Nat) ({ cls := "KilnBench", name := "see", desc := "()I" } : Jvm.MethodName)) ∈ lw_all := lw_g (lw_at lw_m9 101 rfl) rfl
theorem q2105 : (Jvm.Cond.methodLink "KilnBenchLaw" (370 : Nat) ({ cls := "KilnBenchLaw", name := "isImage", desc := "(LKilnBench;LKilnBenchLaw$All;)Z" } : Jvm.MethodName)) ∈ lw_all := lw_g (lw_at lw_m9 109 rfl) rfl
theorem q2106 : (Jvm.Cond.static ({ cls := "KilnBenchLaw", name := "isImage", desc := "(LKilnBench;LKilnBenchLaw$All;)Z" } : Jvm.MethodName)) ∈ lw_all := lw_g (lw_at lw_m9 110 rfl) rfl
theorem q2107 : (Jvm.Cond.code ({ cls := "KilnBenchLaw", name := "isImage", desc := "(LKilnBench;LKilnBenchLaw$All;)Z" } : Jvm.MethodName) method_31_code (9 : Nat) (Option.some Jvm.ClassFile.FieldType.boolean)) ∈ lw_all := lw_g (lw_at lw_m9 111 rfl) rfl
theorem q2108 : (Jvm.Cond.methodLink "KilnBenchLaw" (314 : Nat) ({ cls := "KilnBench", name := "image", desc := "()I" } : Jvm.MethodName)) ∈ lw_all := lw_g (lw_at lw_m9 112 rfl) rfl
theorem q2127 : (Jvm.Cond.methodLink "KilnBenchLaw" (317 : Nat) ({ cls := "KilnBench", name := "octet", desc := "(I)I" } : Jvm.MethodName)) ∈ lw_all := lw_g (lw_at lw_m9 131 rfl) rfl
theorem q2131 : (Jvm.Cond.methodLink "KilnBenchLaw" (324 : Nat) ({ cls := "KilnBench", name := "on", desc := "()Z" } : Jvm.MethodName)) ∈ lw_all := lw_g (lw_at lw_m9 135 rfl) rfl
theorem q2245 : (Jvm.Cond.stringRef "KilnBenchLaw" (373 : Nat) "clay+heat*2-grit") ∈ lw_tbl := lw_at lw_m10 9 rfl
theorem q2246 : (Jvm.Cond.stringRef "KilnBenchLaw" (375 : Nat) "heat*place+clay/2") ∈ lw_tbl := lw_at lw_m10 10 rfl
theorem q2247 : (Jvm.Cond.stringRef "KilnBenchLaw" (377 : Nat) "if(heat>10,clay-heat,heat*5)+week") ∈ lw_tbl := lw_at lw_m10 11 rfl
theorem q2248 : (Jvm.Cond.stringRef "KilnBenchLaw" (379 : Nat) "(clay*3+heat*7)%100") ∈ lw_tbl := lw_at lw_m10 12 rfl
theorem q2249 : (Jvm.Cond.stringRef "KilnBenchLaw" (385 : Nat) "rings>70") ∈ lw_tbl := lw_at lw_m10 13 rfl
theorem q2250 : (Jvm.Cond.stringRef "KilnBenchLaw" (387 : Nat) "heat>12 and grit<4") ∈ lw_tbl := lw_at lw_m10 14 rfl
theorem q2251 : (Jvm.Cond.stringRef "KilnBenchLaw" (389 : Nat) "rings%7=0") ∈ lw_tbl := lw_at lw_m10 15 rfl
theorem q2252 : (Jvm.Cond.stringRef "KilnBenchLaw" (391 : Nat) "place=0 and heat*2>clay") ∈ lw_tbl := lw_at lw_m10 16 rfl
theorem q2253 : (Jvm.Cond.stringRef "KilnBenchLaw" (396 : Nat) "near<5") ∈ lw_tbl := lw_at lw_m10 17 rfl
theorem q2254 : (Jvm.Cond.stringRef "KilnBenchLaw" (398 : Nat) "near<heat and grits>6") ∈ lw_tbl := lw_at lw_m10 18 rfl
theorem q2255 : (Jvm.Cond.stringRef "KilnBenchLaw" (400 : Nat) "near%3=1") ∈ lw_tbl := lw_at lw_m10 19 rfl
theorem q2256 : (Jvm.Cond.stringRef "KilnBenchLaw" (402 : Nat) "grits<8 or near=0") ∈ lw_tbl := lw_at lw_m10 20 rfl
theorem q2257 : (Jvm.Cond.stringRef "KilnBenchLaw" (407 : Nat) "heat*room") ∈ lw_tbl := lw_at lw_m10 21 rfl
theorem q2258 : (Jvm.Cond.stringRef "KilnBenchLaw" (409 : Nat) "heat+full*3+week%2") ∈ lw_tbl := lw_at lw_m10 22 rfl
theorem q2259 : (Jvm.Cond.stringRef "KilnBenchLaw" (411 : Nat) "room*2-heat") ∈ lw_tbl := lw_at lw_m10 23 rfl
theorem q2260 : (Jvm.Cond.stringRef "KilnBenchLaw" (413 : Nat) "if(heat>9,40,5)") ∈ lw_tbl := lw_at lw_m10 24 rfl

/-! the law's own entry -/
set_option maxRecDepth 100000
abbrev cL_law : ByteArray := code
def dkwL_law_11 : List UInt8 := [184, 1, 21, 184, 1, 111, 153, 0, 15, 45, 44, 184, 1, 114, 153, 0, 7, 4, 167, 0, 4, 3, 172]
abbrev dktL_law_11 : List UInt8 := dkwL_law_11 ++ []
def dkwL_law_10 : List UInt8 := [44, 180, 0, 60, 184, 1, 21, 43, 17, 0, 211, 16, 6, 184, 1, 21, 43, 17, 0, 212, 16, 21]
abbrev dktL_law_10 : List UInt8 := dkwL_law_10 ++ dktL_law_11
def dkwL_law_9 : List UInt8 := [154, 0, 5, 3, 172, 132, 5, 1, 167, 255, 121, 44, 180, 0, 60, 153, 0, 40, 45, 44, 43, 17, 0, 210]
abbrev dktL_law_9 : List UInt8 := dkwL_law_9 ++ dktL_law_10
def dkwL_law_8 : List UInt8 := [16, 7, 21, 5, 104, 16, 50, 112, 16, 7, 21, 5, 104, 16, 50, 112, 16, 40, 96, 184, 1, 107]
abbrev dktL_law_8 : List UInt8 := dkwL_law_8 ++ dktL_law_9
def dkwL_law_7 : List UInt8 := [167, 255, 223, 44, 180, 0, 60, 158, 0, 43, 45, 21, 5, 44, 180, 0, 60, 112, 21, 5, 16, 6, 112]
abbrev dktL_law_7 : List UInt8 := dkwL_law_7 ++ dktL_law_8
def dkwL_law_6 : List UInt8 := [21, 6, 21, 5, 6, 112, 21, 5, 16, 6, 112, 184, 1, 103, 154, 0, 5, 3, 172, 132, 6, 1]
abbrev dktL_law_6 : List UInt8 := dkwL_law_6 ++ dktL_law_7
def dkwL_law_5 : List UInt8 := [25, 4, 184, 1, 99, 154, 0, 5, 3, 172, 3, 54, 6, 21, 6, 44, 180, 0, 60, 162, 0, 30, 45, 44]
abbrev dktL_law_5 : List UInt8 := dkwL_law_5 ++ dktL_law_6
def dkwL_law_4 : List UInt8 := [184, 1, 92, 153, 0, 29, 45, 44, 184, 1, 96, 153, 0, 21, 45, 44, 184, 0, 89, 153, 0, 13, 45, 44]
abbrev dktL_law_4 : List UInt8 := dkwL_law_4 ++ dktL_law_5
def dkwL_law_3 : List UInt8 := [2, 79, 89, 8, 2, 79, 58, 4, 3, 54, 5, 21, 5, 16, 30, 162, 0, 134, 45, 44, 43, 21, 5]
abbrev dktL_law_3 : List UInt8 := dkwL_law_3 ++ dktL_law_4
def dkwL_law_2 : List UInt8 := [3, 172, 16, 6, 188, 10, 89, 3, 2, 79, 89, 4, 2, 79, 89, 5, 2, 79, 89, 6, 2, 79, 89, 7]
abbrev dktL_law_2 : List UInt8 := dkwL_law_2 ++ dktL_law_3
def dkwL_law_1 : List UInt8 := [182, 1, 79, 184, 1, 83, 153, 0, 18, 45, 182, 1, 86, 155, 0, 11, 45, 44, 184, 1, 89, 154, 0, 5]
abbrev dktL_law_1 : List UInt8 := dkwL_law_1 ++ dktL_law_2
def dkwL_law_0 : List UInt8 := [42, 184, 1, 71, 76, 187, 0, 55, 89, 43, 183, 1, 75, 77, 187, 0, 26, 89, 183, 1, 78, 78, 45, 44]
abbrev dktL_law_0 : List UInt8 := dkwL_law_0 ++ dktL_law_1
theorem dksL_law_0 : cL_law.data.toList.drop 0 = dktL_law_0 := by decide +kernel
theorem dksL_law_1 : cL_law.data.toList.drop 24 = dktL_law_1 := dk_seg dksL_law_0 24 rfl rfl
theorem dksL_law_2 : cL_law.data.toList.drop 48 = dktL_law_2 := dk_seg dksL_law_1 24 rfl rfl
theorem dksL_law_3 : cL_law.data.toList.drop 72 = dktL_law_3 := dk_seg dksL_law_2 24 rfl rfl
theorem dksL_law_4 : cL_law.data.toList.drop 95 = dktL_law_4 := dk_seg dksL_law_3 23 rfl rfl
theorem dksL_law_5 : cL_law.data.toList.drop 119 = dktL_law_5 := dk_seg dksL_law_4 24 rfl rfl
theorem dksL_law_6 : cL_law.data.toList.drop 143 = dktL_law_6 := dk_seg dksL_law_5 24 rfl rfl
theorem dksL_law_7 : cL_law.data.toList.drop 165 = dktL_law_7 := dk_seg dksL_law_6 22 rfl rfl
theorem dksL_law_8 : cL_law.data.toList.drop 188 = dktL_law_8 := dk_seg dksL_law_7 23 rfl rfl
theorem dksL_law_9 : cL_law.data.toList.drop 210 = dktL_law_9 := dk_seg dksL_law_8 22 rfl rfl
theorem dksL_law_10 : cL_law.data.toList.drop 234 = dktL_law_10 := dk_seg dksL_law_9 24 rfl rfl
theorem dksL_law_11 : cL_law.data.toList.drop 256 = dktL_law_11 := dk_seg dksL_law_10 22 rfl rfl
theorem dL_law_0 : decode cL_law 0 = .ok (.aload_n 0, 1) := dk_42 (dk_at dksL_law_0 0 rfl rfl)
theorem dL_law_1 : decode cL_law 1 = .ok (.invokestatic 327, 3) := dk_184 1 71 (dk_at dksL_law_0 1 rfl rfl)
theorem dL_law_4 : decode cL_law 4 = .ok (.astore_n 1, 1) := dk_76 (dk_at dksL_law_0 4 rfl rfl)
theorem dL_law_5 : decode cL_law 5 = .ok (.new 55, 3) := dk_187 0 55 (dk_at dksL_law_0 5 rfl rfl)
theorem dL_law_8 : decode cL_law 8 = .ok (.dup, 1) := dk_89 (dk_at dksL_law_0 8 rfl rfl)
theorem dL_law_9 : decode cL_law 9 = .ok (.aload_n 1, 1) := dk_43 (dk_at dksL_law_0 9 rfl rfl)
theorem dL_law_10 : decode cL_law 10 = .ok (.invokespecial 331, 3) := dk_183 1 75 (dk_at dksL_law_0 10 rfl rfl)
theorem dL_law_13 : decode cL_law 13 = .ok (.astore_n 2, 1) := dk_77 (dk_at dksL_law_0 13 rfl rfl)
theorem dL_law_14 : decode cL_law 14 = .ok (.new 26, 3) := dk_187 0 26 (dk_at dksL_law_0 14 rfl rfl)
theorem dL_law_17 : decode cL_law 17 = .ok (.dup, 1) := dk_89 (dk_at dksL_law_0 17 rfl rfl)
theorem dL_law_18 : decode cL_law 18 = .ok (.invokespecial 334, 3) := dk_183 1 78 (dk_at dksL_law_0 18 rfl rfl)
theorem dL_law_21 : decode cL_law 21 = .ok (.astore_n 3, 1) := dk_78 (dk_at dksL_law_0 21 rfl rfl)
theorem dL_law_22 : decode cL_law 22 = .ok (.aload_n 3, 1) := dk_45 (dk_at dksL_law_0 22 rfl rfl)
theorem dL_law_23 : decode cL_law 23 = .ok (.aload_n 2, 1) := dk_44 (dk_at dksL_law_0 23 rfl rfl)
theorem dL_law_24 : decode cL_law 24 = .ok (.invokevirtual 335, 3) := dk_182 1 79 (dk_at dksL_law_1 0 rfl rfl)
theorem dL_law_27 : decode cL_law 27 = .ok (.invokestatic 339, 3) := dk_184 1 83 (dk_at dksL_law_1 3 rfl rfl)
theorem dL_law_30 : decode cL_law 30 = .ok (.ifCond .eq 18, 3) := dk_153 0 18 (dk_at dksL_law_1 6 rfl rfl)
theorem dL_law_33 : decode cL_law 33 = .ok (.aload_n 3, 1) := dk_45 (dk_at dksL_law_1 9 rfl rfl)
theorem dL_law_34 : decode cL_law 34 = .ok (.invokevirtual 342, 3) := dk_182 1 86 (dk_at dksL_law_1 10 rfl rfl)
theorem dL_law_37 : decode cL_law 37 = .ok (.ifCond .lt 11, 3) := dk_155 0 11 (dk_at dksL_law_1 13 rfl rfl)
theorem dL_law_40 : decode cL_law 40 = .ok (.aload_n 3, 1) := dk_45 (dk_at dksL_law_1 16 rfl rfl)
theorem dL_law_41 : decode cL_law 41 = .ok (.aload_n 2, 1) := dk_44 (dk_at dksL_law_1 17 rfl rfl)
theorem dL_law_42 : decode cL_law 42 = .ok (.invokestatic 345, 3) := dk_184 1 89 (dk_at dksL_law_1 18 rfl rfl)
theorem dL_law_45 : decode cL_law 45 = .ok (.ifCond .ne 5, 3) := dk_154 0 5 (dk_at dksL_law_1 21 rfl rfl)
theorem dL_law_48 : decode cL_law 48 = .ok (.iconst 0, 1) := dk_3 (dk_at dksL_law_2 0 rfl rfl)
theorem dL_law_49 : decode cL_law 49 = .ok (.ireturn, 1) := dk_172 (dk_at dksL_law_2 1 rfl rfl)
theorem dL_law_50 : decode cL_law 50 = .ok (.bipush 6, 2) := dk_16 6 (dk_at dksL_law_2 2 rfl rfl)
theorem dL_law_52 : decode cL_law 52 = .ok (.newarray .int, 2) := dk_188_10 (dk_at dksL_law_2 4 rfl rfl)
theorem dL_law_54 : decode cL_law 54 = .ok (.dup, 1) := dk_89 (dk_at dksL_law_2 6 rfl rfl)
theorem dL_law_55 : decode cL_law 55 = .ok (.iconst 0, 1) := dk_3 (dk_at dksL_law_2 7 rfl rfl)
theorem dL_law_56 : decode cL_law 56 = .ok (.iconst (-1), 1) := dk_2 (dk_at dksL_law_2 8 rfl rfl)
theorem dL_law_57 : decode cL_law 57 = .ok (.iastore, 1) := dk_79 (dk_at dksL_law_2 9 rfl rfl)
theorem dL_law_58 : decode cL_law 58 = .ok (.dup, 1) := dk_89 (dk_at dksL_law_2 10 rfl rfl)
theorem dL_law_59 : decode cL_law 59 = .ok (.iconst 1, 1) := dk_4 (dk_at dksL_law_2 11 rfl rfl)
theorem dL_law_60 : decode cL_law 60 = .ok (.iconst (-1), 1) := dk_2 (dk_at dksL_law_2 12 rfl rfl)
theorem dL_law_61 : decode cL_law 61 = .ok (.iastore, 1) := dk_79 (dk_at dksL_law_2 13 rfl rfl)
theorem dL_law_62 : decode cL_law 62 = .ok (.dup, 1) := dk_89 (dk_at dksL_law_2 14 rfl rfl)
theorem dL_law_63 : decode cL_law 63 = .ok (.iconst 2, 1) := dk_5 (dk_at dksL_law_2 15 rfl rfl)
theorem dL_law_64 : decode cL_law 64 = .ok (.iconst (-1), 1) := dk_2 (dk_at dksL_law_2 16 rfl rfl)
theorem dL_law_65 : decode cL_law 65 = .ok (.iastore, 1) := dk_79 (dk_at dksL_law_2 17 rfl rfl)
theorem dL_law_66 : decode cL_law 66 = .ok (.dup, 1) := dk_89 (dk_at dksL_law_2 18 rfl rfl)
theorem dL_law_67 : decode cL_law 67 = .ok (.iconst 3, 1) := dk_6 (dk_at dksL_law_2 19 rfl rfl)
theorem dL_law_68 : decode cL_law 68 = .ok (.iconst (-1), 1) := dk_2 (dk_at dksL_law_2 20 rfl rfl)
theorem dL_law_69 : decode cL_law 69 = .ok (.iastore, 1) := dk_79 (dk_at dksL_law_2 21 rfl rfl)
theorem dL_law_70 : decode cL_law 70 = .ok (.dup, 1) := dk_89 (dk_at dksL_law_2 22 rfl rfl)
theorem dL_law_71 : decode cL_law 71 = .ok (.iconst 4, 1) := dk_7 (dk_at dksL_law_2 23 rfl rfl)
theorem dL_law_72 : decode cL_law 72 = .ok (.iconst (-1), 1) := dk_2 (dk_at dksL_law_3 0 rfl rfl)
theorem dL_law_73 : decode cL_law 73 = .ok (.iastore, 1) := dk_79 (dk_at dksL_law_3 1 rfl rfl)
theorem dL_law_74 : decode cL_law 74 = .ok (.dup, 1) := dk_89 (dk_at dksL_law_3 2 rfl rfl)
theorem dL_law_75 : decode cL_law 75 = .ok (.iconst 5, 1) := dk_8 (dk_at dksL_law_3 3 rfl rfl)
theorem dL_law_76 : decode cL_law 76 = .ok (.iconst (-1), 1) := dk_2 (dk_at dksL_law_3 4 rfl rfl)
theorem dL_law_77 : decode cL_law 77 = .ok (.iastore, 1) := dk_79 (dk_at dksL_law_3 5 rfl rfl)
theorem dL_law_78 : decode cL_law 78 = .ok (.astore 4, 2) := dk_58 4 (dk_at dksL_law_3 6 rfl rfl)
theorem dL_law_80 : decode cL_law 80 = .ok (.iconst 0, 1) := dk_3 (dk_at dksL_law_3 8 rfl rfl)
theorem dL_law_81 : decode cL_law 81 = .ok (.istore 5, 2) := dk_54 5 (dk_at dksL_law_3 9 rfl rfl)
theorem dL_law_83 : decode cL_law 83 = .ok (.iload 5, 2) := dk_21 5 (dk_at dksL_law_3 11 rfl rfl)
theorem dL_law_85 : decode cL_law 85 = .ok (.bipush 30, 2) := dk_16 30 (dk_at dksL_law_3 13 rfl rfl)
theorem dL_law_87 : decode cL_law 87 = .ok (.if_icmp .ge 134, 3) := dk_162 0 134 (dk_at dksL_law_3 15 rfl rfl)
theorem dL_law_90 : decode cL_law 90 = .ok (.aload_n 3, 1) := dk_45 (dk_at dksL_law_3 18 rfl rfl)
theorem dL_law_91 : decode cL_law 91 = .ok (.aload_n 2, 1) := dk_44 (dk_at dksL_law_3 19 rfl rfl)
theorem dL_law_92 : decode cL_law 92 = .ok (.aload_n 1, 1) := dk_43 (dk_at dksL_law_3 20 rfl rfl)
theorem dL_law_93 : decode cL_law 93 = .ok (.iload 5, 2) := dk_21 5 (dk_at dksL_law_3 21 rfl rfl)
theorem dL_law_95 : decode cL_law 95 = .ok (.invokestatic 348, 3) := dk_184 1 92 (dk_at dksL_law_4 0 rfl rfl)
theorem dL_law_98 : decode cL_law 98 = .ok (.ifCond .eq 29, 3) := dk_153 0 29 (dk_at dksL_law_4 3 rfl rfl)
theorem dL_law_101 : decode cL_law 101 = .ok (.aload_n 3, 1) := dk_45 (dk_at dksL_law_4 6 rfl rfl)
theorem dL_law_102 : decode cL_law 102 = .ok (.aload_n 2, 1) := dk_44 (dk_at dksL_law_4 7 rfl rfl)
theorem dL_law_103 : decode cL_law 103 = .ok (.invokestatic 352, 3) := dk_184 1 96 (dk_at dksL_law_4 8 rfl rfl)
theorem dL_law_106 : decode cL_law 106 = .ok (.ifCond .eq 21, 3) := dk_153 0 21 (dk_at dksL_law_4 11 rfl rfl)
theorem dL_law_109 : decode cL_law 109 = .ok (.aload_n 3, 1) := dk_45 (dk_at dksL_law_4 14 rfl rfl)
theorem dL_law_110 : decode cL_law 110 = .ok (.aload_n 2, 1) := dk_44 (dk_at dksL_law_4 15 rfl rfl)
theorem dL_law_111 : decode cL_law 111 = .ok (.invokestatic 89, 3) := dk_184 0 89 (dk_at dksL_law_4 16 rfl rfl)
theorem dL_law_114 : decode cL_law 114 = .ok (.ifCond .eq 13, 3) := dk_153 0 13 (dk_at dksL_law_4 19 rfl rfl)
theorem dL_law_117 : decode cL_law 117 = .ok (.aload_n 3, 1) := dk_45 (dk_at dksL_law_4 22 rfl rfl)
theorem dL_law_118 : decode cL_law 118 = .ok (.aload_n 2, 1) := dk_44 (dk_at dksL_law_4 23 rfl rfl)
theorem dL_law_119 : decode cL_law 119 = .ok (.aload 4, 2) := dk_25 4 (dk_at dksL_law_5 0 rfl rfl)
theorem dL_law_121 : decode cL_law 121 = .ok (.invokestatic 355, 3) := dk_184 1 99 (dk_at dksL_law_5 2 rfl rfl)
theorem dL_law_124 : decode cL_law 124 = .ok (.ifCond .ne 5, 3) := dk_154 0 5 (dk_at dksL_law_5 5 rfl rfl)
theorem dL_law_127 : decode cL_law 127 = .ok (.iconst 0, 1) := dk_3 (dk_at dksL_law_5 8 rfl rfl)
theorem dL_law_128 : decode cL_law 128 = .ok (.ireturn, 1) := dk_172 (dk_at dksL_law_5 9 rfl rfl)
theorem dL_law_129 : decode cL_law 129 = .ok (.iconst 0, 1) := dk_3 (dk_at dksL_law_5 10 rfl rfl)
theorem dL_law_130 : decode cL_law 130 = .ok (.istore 6, 2) := dk_54 6 (dk_at dksL_law_5 11 rfl rfl)
theorem dL_law_132 : decode cL_law 132 = .ok (.iload 6, 2) := dk_21 6 (dk_at dksL_law_5 13 rfl rfl)
theorem dL_law_134 : decode cL_law 134 = .ok (.aload_n 2, 1) := dk_44 (dk_at dksL_law_5 15 rfl rfl)
theorem dL_law_135 : decode cL_law 135 = .ok (.getfield 60, 3) := dk_180 0 60 (dk_at dksL_law_5 16 rfl rfl)
theorem dL_law_138 : decode cL_law 138 = .ok (.if_icmp .ge 30, 3) := dk_162 0 30 (dk_at dksL_law_5 19 rfl rfl)
theorem dL_law_141 : decode cL_law 141 = .ok (.aload_n 3, 1) := dk_45 (dk_at dksL_law_5 22 rfl rfl)
theorem dL_law_142 : decode cL_law 142 = .ok (.aload_n 2, 1) := dk_44 (dk_at dksL_law_5 23 rfl rfl)
theorem dL_law_143 : decode cL_law 143 = .ok (.iload 6, 2) := dk_21 6 (dk_at dksL_law_6 0 rfl rfl)
theorem dL_law_145 : decode cL_law 145 = .ok (.iload 5, 2) := dk_21 5 (dk_at dksL_law_6 2 rfl rfl)
theorem dL_law_147 : decode cL_law 147 = .ok (.iconst 3, 1) := dk_6 (dk_at dksL_law_6 4 rfl rfl)
theorem dL_law_148 : decode cL_law 148 = .ok (.irem, 1) := dk_112 (dk_at dksL_law_6 5 rfl rfl)
theorem dL_law_149 : decode cL_law 149 = .ok (.iload 5, 2) := dk_21 5 (dk_at dksL_law_6 6 rfl rfl)
theorem dL_law_151 : decode cL_law 151 = .ok (.bipush 6, 2) := dk_16 6 (dk_at dksL_law_6 8 rfl rfl)
theorem dL_law_153 : decode cL_law 153 = .ok (.irem, 1) := dk_112 (dk_at dksL_law_6 10 rfl rfl)
theorem dL_law_154 : decode cL_law 154 = .ok (.invokestatic 359, 3) := dk_184 1 103 (dk_at dksL_law_6 11 rfl rfl)
theorem dL_law_157 : decode cL_law 157 = .ok (.ifCond .ne 5, 3) := dk_154 0 5 (dk_at dksL_law_6 14 rfl rfl)
theorem dL_law_160 : decode cL_law 160 = .ok (.iconst 0, 1) := dk_3 (dk_at dksL_law_6 17 rfl rfl)
theorem dL_law_161 : decode cL_law 161 = .ok (.ireturn, 1) := dk_172 (dk_at dksL_law_6 18 rfl rfl)
theorem dL_law_162 : decode cL_law 162 = .ok (.iinc 6 1, 3) := dk_132 6 1 (dk_at dksL_law_6 19 rfl rfl)
theorem dL_law_165 : decode cL_law 165 = .ok (.goto (-33), 3) := dk_167 255 223 (dk_at dksL_law_7 0 rfl rfl)
theorem dL_law_168 : decode cL_law 168 = .ok (.aload_n 2, 1) := dk_44 (dk_at dksL_law_7 3 rfl rfl)
theorem dL_law_169 : decode cL_law 169 = .ok (.getfield 60, 3) := dk_180 0 60 (dk_at dksL_law_7 4 rfl rfl)
theorem dL_law_172 : decode cL_law 172 = .ok (.ifCond .le 43, 3) := dk_158 0 43 (dk_at dksL_law_7 7 rfl rfl)
theorem dL_law_175 : decode cL_law 175 = .ok (.aload_n 3, 1) := dk_45 (dk_at dksL_law_7 10 rfl rfl)
theorem dL_law_176 : decode cL_law 176 = .ok (.iload 5, 2) := dk_21 5 (dk_at dksL_law_7 11 rfl rfl)
theorem dL_law_178 : decode cL_law 178 = .ok (.aload_n 2, 1) := dk_44 (dk_at dksL_law_7 13 rfl rfl)
theorem dL_law_179 : decode cL_law 179 = .ok (.getfield 60, 3) := dk_180 0 60 (dk_at dksL_law_7 14 rfl rfl)
theorem dL_law_182 : decode cL_law 182 = .ok (.irem, 1) := dk_112 (dk_at dksL_law_7 17 rfl rfl)
theorem dL_law_183 : decode cL_law 183 = .ok (.iload 5, 2) := dk_21 5 (dk_at dksL_law_7 18 rfl rfl)
theorem dL_law_185 : decode cL_law 185 = .ok (.bipush 6, 2) := dk_16 6 (dk_at dksL_law_7 20 rfl rfl)
theorem dL_law_187 : decode cL_law 187 = .ok (.irem, 1) := dk_112 (dk_at dksL_law_7 22 rfl rfl)
theorem dL_law_188 : decode cL_law 188 = .ok (.bipush 7, 2) := dk_16 7 (dk_at dksL_law_8 0 rfl rfl)
theorem dL_law_190 : decode cL_law 190 = .ok (.iload 5, 2) := dk_21 5 (dk_at dksL_law_8 2 rfl rfl)
theorem dL_law_192 : decode cL_law 192 = .ok (.imul, 1) := dk_104 (dk_at dksL_law_8 4 rfl rfl)
theorem dL_law_193 : decode cL_law 193 = .ok (.bipush 50, 2) := dk_16 50 (dk_at dksL_law_8 5 rfl rfl)
theorem dL_law_195 : decode cL_law 195 = .ok (.irem, 1) := dk_112 (dk_at dksL_law_8 7 rfl rfl)
theorem dL_law_196 : decode cL_law 196 = .ok (.bipush 7, 2) := dk_16 7 (dk_at dksL_law_8 8 rfl rfl)
theorem dL_law_198 : decode cL_law 198 = .ok (.iload 5, 2) := dk_21 5 (dk_at dksL_law_8 10 rfl rfl)
theorem dL_law_200 : decode cL_law 200 = .ok (.imul, 1) := dk_104 (dk_at dksL_law_8 12 rfl rfl)
theorem dL_law_201 : decode cL_law 201 = .ok (.bipush 50, 2) := dk_16 50 (dk_at dksL_law_8 13 rfl rfl)
theorem dL_law_203 : decode cL_law 203 = .ok (.irem, 1) := dk_112 (dk_at dksL_law_8 15 rfl rfl)
theorem dL_law_204 : decode cL_law 204 = .ok (.bipush 40, 2) := dk_16 40 (dk_at dksL_law_8 16 rfl rfl)
theorem dL_law_206 : decode cL_law 206 = .ok (.iadd, 1) := dk_96 (dk_at dksL_law_8 18 rfl rfl)
theorem dL_law_207 : decode cL_law 207 = .ok (.invokestatic 363, 3) := dk_184 1 107 (dk_at dksL_law_8 19 rfl rfl)
theorem dL_law_210 : decode cL_law 210 = .ok (.ifCond .ne 5, 3) := dk_154 0 5 (dk_at dksL_law_9 0 rfl rfl)
theorem dL_law_213 : decode cL_law 213 = .ok (.iconst 0, 1) := dk_3 (dk_at dksL_law_9 3 rfl rfl)
theorem dL_law_214 : decode cL_law 214 = .ok (.ireturn, 1) := dk_172 (dk_at dksL_law_9 4 rfl rfl)
theorem dL_law_215 : decode cL_law 215 = .ok (.iinc 5 1, 3) := dk_132 5 1 (dk_at dksL_law_9 5 rfl rfl)
theorem dL_law_218 : decode cL_law 218 = .ok (.goto (-135), 3) := dk_167 255 121 (dk_at dksL_law_9 8 rfl rfl)
theorem dL_law_221 : decode cL_law 221 = .ok (.aload_n 2, 1) := dk_44 (dk_at dksL_law_9 11 rfl rfl)
theorem dL_law_222 : decode cL_law 222 = .ok (.getfield 60, 3) := dk_180 0 60 (dk_at dksL_law_9 12 rfl rfl)
theorem dL_law_225 : decode cL_law 225 = .ok (.ifCond .eq 40, 3) := dk_153 0 40 (dk_at dksL_law_9 15 rfl rfl)
theorem dL_law_228 : decode cL_law 228 = .ok (.aload_n 3, 1) := dk_45 (dk_at dksL_law_9 18 rfl rfl)
theorem dL_law_229 : decode cL_law 229 = .ok (.aload_n 2, 1) := dk_44 (dk_at dksL_law_9 19 rfl rfl)
theorem dL_law_230 : decode cL_law 230 = .ok (.aload_n 1, 1) := dk_43 (dk_at dksL_law_9 20 rfl rfl)
theorem dL_law_231 : decode cL_law 231 = .ok (.sipush 210, 3) := dk_17 0 210 (dk_at dksL_law_9 21 rfl rfl)
theorem dL_law_234 : decode cL_law 234 = .ok (.aload_n 2, 1) := dk_44 (dk_at dksL_law_10 0 rfl rfl)
theorem dL_law_235 : decode cL_law 235 = .ok (.getfield 60, 3) := dk_180 0 60 (dk_at dksL_law_10 1 rfl rfl)
theorem dL_law_238 : decode cL_law 238 = .ok (.invokestatic 277, 3) := dk_184 1 21 (dk_at dksL_law_10 4 rfl rfl)
theorem dL_law_241 : decode cL_law 241 = .ok (.aload_n 1, 1) := dk_43 (dk_at dksL_law_10 7 rfl rfl)
theorem dL_law_242 : decode cL_law 242 = .ok (.sipush 211, 3) := dk_17 0 211 (dk_at dksL_law_10 8 rfl rfl)
theorem dL_law_245 : decode cL_law 245 = .ok (.bipush 6, 2) := dk_16 6 (dk_at dksL_law_10 11 rfl rfl)
theorem dL_law_247 : decode cL_law 247 = .ok (.invokestatic 277, 3) := dk_184 1 21 (dk_at dksL_law_10 13 rfl rfl)
theorem dL_law_250 : decode cL_law 250 = .ok (.aload_n 1, 1) := dk_43 (dk_at dksL_law_10 16 rfl rfl)
theorem dL_law_251 : decode cL_law 251 = .ok (.sipush 212, 3) := dk_17 0 212 (dk_at dksL_law_10 17 rfl rfl)
theorem dL_law_254 : decode cL_law 254 = .ok (.bipush 21, 2) := dk_16 21 (dk_at dksL_law_10 20 rfl rfl)
theorem dL_law_256 : decode cL_law 256 = .ok (.invokestatic 277, 3) := dk_184 1 21 (dk_at dksL_law_11 0 rfl rfl)
theorem dL_law_259 : decode cL_law 259 = .ok (.invokestatic 367, 3) := dk_184 1 111 (dk_at dksL_law_11 3 rfl rfl)
theorem dL_law_262 : decode cL_law 262 = .ok (.ifCond .eq 15, 3) := dk_153 0 15 (dk_at dksL_law_11 6 rfl rfl)
theorem dL_law_265 : decode cL_law 265 = .ok (.aload_n 3, 1) := dk_45 (dk_at dksL_law_11 9 rfl rfl)
theorem dL_law_266 : decode cL_law 266 = .ok (.aload_n 2, 1) := dk_44 (dk_at dksL_law_11 10 rfl rfl)
theorem dL_law_267 : decode cL_law 267 = .ok (.invokestatic 370, 3) := dk_184 1 114 (dk_at dksL_law_11 11 rfl rfl)
theorem dL_law_270 : decode cL_law 270 = .ok (.ifCond .eq 7, 3) := dk_153 0 7 (dk_at dksL_law_11 14 rfl rfl)
theorem dL_law_273 : decode cL_law 273 = .ok (.iconst 1, 1) := dk_4 (dk_at dksL_law_11 17 rfl rfl)
theorem dL_law_274 : decode cL_law 274 = .ok (.goto 4, 3) := dk_167 0 4 (dk_at dksL_law_11 18 rfl rfl)
theorem dL_law_277 : decode cL_law 277 = .ok (.iconst 0, 1) := dk_3 (dk_at dksL_law_11 21 rfl rfl)
theorem dL_law_278 : decode cL_law 278 = .ok (.ireturn, 1) := dk_172 (dk_at dksL_law_11 22 rfl rfl)

