set_option maxRecDepth 100000
def dkwX0_need_4 : List UInt8 := [182, 1, 27, 172]
abbrev dktX0_need_4 : List UInt8 := dkwX0_need_4 ++ []
def dkwX0_need_3 : List UInt8 := [182, 1, 95, 87, 42, 45, 28, 182, 1, 158, 154, 0, 6, 21, 4, 172, 132, 4, 1, 167, 255, 217, 42, 2]
abbrev dktX0_need_3 : List UInt8 := dkwX0_need_3 ++ dktX0_need_4
def dkwX0_need_2 : List UInt8 := [78, 3, 54, 4, 21, 4, 17, 3, 232, 163, 0, 37, 45, 42, 27, 182, 0, 172, 182, 1, 164, 45, 21, 4]
abbrev dktX0_need_2 : List UInt8 := dkwX0_need_2 ++ dktX0_need_3
def dkwX0_need_1 : List UInt8 := [167, 0, 4, 4, 181, 0, 73, 42, 180, 0, 73, 158, 0, 5, 2, 172, 42, 27, 182, 0, 172, 182, 1, 137]
abbrev dktX0_need_1 : List UInt8 := dkwX0_need_1 ++ dktX0_need_2
def dkwX0_need_0 : List UInt8 := [42, 42, 27, 182, 0, 168, 153, 0, 19, 28, 133, 10, 20, 1, 162, 184, 0, 164, 153, 0, 7, 3]
abbrev dktX0_need_0 : List UInt8 := dkwX0_need_0 ++ dktX0_need_1
theorem dksX0_need_0 : cX0_need.data.toList.drop 0 = dktX0_need_0 := by decide +kernel
theorem dksX0_need_1 : cX0_need.data.toList.drop 22 = dktX0_need_1 := dk_seg dksX0_need_0 22 rfl rfl
theorem dksX0_need_2 : cX0_need.data.toList.drop 46 = dktX0_need_2 := dk_seg dksX0_need_1 24 rfl rfl
theorem dksX0_need_3 : cX0_need.data.toList.drop 70 = dktX0_need_3 := dk_seg dksX0_need_2 24 rfl rfl
theorem dksX0_need_4 : cX0_need.data.toList.drop 94 = dktX0_need_4 := dk_seg dksX0_need_3 24 rfl rfl
theorem dX0_need_0 : decode cX0_need 0 = .ok (.aload_n 0, 1) := dk_42 (dk_at dksX0_need_0 0 rfl rfl)
theorem dX0_need_1 : decode cX0_need 1 = .ok (.aload_n 0, 1) := dk_42 (dk_at dksX0_need_0 1 rfl rfl)
theorem dX0_need_2 : decode cX0_need 2 = .ok (.iload_n 1, 1) := dk_27 (dk_at dksX0_need_0 2 rfl rfl)
theorem dX0_need_3 : decode cX0_need 3 = .ok (.invokevirtual 168, 3) := dk_182 0 168 (dk_at dksX0_need_0 3 rfl rfl)
theorem dX0_need_6 : decode cX0_need 6 = .ok (.ifCond .eq 19, 3) := dk_153 0 19 (dk_at dksX0_need_0 6 rfl rfl)
theorem dX0_need_9 : decode cX0_need 9 = .ok (.iload_n 2, 1) := dk_28 (dk_at dksX0_need_0 9 rfl rfl)
theorem dX0_need_10 : decode cX0_need 10 = .ok (.i2l, 1) := dk_133 (dk_at dksX0_need_0 10 rfl rfl)
theorem dX0_need_11 : decode cX0_need 11 = .ok (.lconst 1, 1) := dk_10 (dk_at dksX0_need_0 11 rfl rfl)
theorem dX0_need_12 : decode cX0_need 12 = .ok (.ldc2_w 418, 3) := dk_20 1 162 (dk_at dksX0_need_0 12 rfl rfl)
theorem dX0_need_15 : decode cX0_need 15 = .ok (.invokestatic 164, 3) := dk_184 0 164 (dk_at dksX0_need_0 15 rfl rfl)
theorem dX0_need_18 : decode cX0_need 18 = .ok (.ifCond .eq 7, 3) := dk_153 0 7 (dk_at dksX0_need_0 18 rfl rfl)
theorem dX0_need_21 : decode cX0_need 21 = .ok (.iconst 0, 1) := dk_3 (dk_at dksX0_need_0 21 rfl rfl)
theorem dX0_need_22 : decode cX0_need 22 = .ok (.goto 4, 3) := dk_167 0 4 (dk_at dksX0_need_1 0 rfl rfl)
theorem dX0_need_25 : decode cX0_need 25 = .ok (.iconst 1, 1) := dk_4 (dk_at dksX0_need_1 3 rfl rfl)
theorem dX0_need_26 : decode cX0_need 26 = .ok (.putfield 73, 3) := dk_181 0 73 (dk_at dksX0_need_1 4 rfl rfl)
theorem dX0_need_29 : decode cX0_need 29 = .ok (.aload_n 0, 1) := dk_42 (dk_at dksX0_need_1 7 rfl rfl)
theorem dX0_need_30 : decode cX0_need 30 = .ok (.getfield 73, 3) := dk_180 0 73 (dk_at dksX0_need_1 8 rfl rfl)
theorem dX0_need_33 : decode cX0_need 33 = .ok (.ifCond .le 5, 3) := dk_158 0 5 (dk_at dksX0_need_1 11 rfl rfl)
theorem dX0_need_36 : decode cX0_need 36 = .ok (.iconst (-1), 1) := dk_2 (dk_at dksX0_need_1 14 rfl rfl)
theorem dX0_need_37 : decode cX0_need 37 = .ok (.ireturn, 1) := dk_172 (dk_at dksX0_need_1 15 rfl rfl)
theorem dX0_need_38 : decode cX0_need 38 = .ok (.aload_n 0, 1) := dk_42 (dk_at dksX0_need_1 16 rfl rfl)
theorem dX0_need_39 : decode cX0_need 39 = .ok (.iload_n 1, 1) := dk_27 (dk_at dksX0_need_1 17 rfl rfl)
theorem dX0_need_40 : decode cX0_need 40 = .ok (.invokevirtual 172, 3) := dk_182 0 172 (dk_at dksX0_need_1 18 rfl rfl)
theorem dX0_need_43 : decode cX0_need 43 = .ok (.invokevirtual 393, 3) := dk_182 1 137 (dk_at dksX0_need_1 21 rfl rfl)
theorem dX0_need_46 : decode cX0_need 46 = .ok (.astore_n 3, 1) := dk_78 (dk_at dksX0_need_2 0 rfl rfl)
theorem dX0_need_47 : decode cX0_need 47 = .ok (.iconst 0, 1) := dk_3 (dk_at dksX0_need_2 1 rfl rfl)
theorem dX0_need_48 : decode cX0_need 48 = .ok (.istore 4, 2) := dk_54 4 (dk_at dksX0_need_2 2 rfl rfl)
theorem dX0_need_50 : decode cX0_need 50 = .ok (.iload 4, 2) := dk_21 4 (dk_at dksX0_need_2 4 rfl rfl)
theorem dX0_need_52 : decode cX0_need 52 = .ok (.sipush 1000, 3) := dk_17 3 232 (dk_at dksX0_need_2 6 rfl rfl)
theorem dX0_need_55 : decode cX0_need 55 = .ok (.if_icmp .gt 37, 3) := dk_163 0 37 (dk_at dksX0_need_2 9 rfl rfl)
theorem dX0_need_58 : decode cX0_need 58 = .ok (.aload_n 3, 1) := dk_45 (dk_at dksX0_need_2 12 rfl rfl)
theorem dX0_need_59 : decode cX0_need 59 = .ok (.aload_n 0, 1) := dk_42 (dk_at dksX0_need_2 13 rfl rfl)
theorem dX0_need_60 : decode cX0_need 60 = .ok (.iload_n 1, 1) := dk_27 (dk_at dksX0_need_2 14 rfl rfl)
theorem dX0_need_61 : decode cX0_need 61 = .ok (.invokevirtual 172, 3) := dk_182 0 172 (dk_at dksX0_need_2 15 rfl rfl)
theorem dX0_need_64 : decode cX0_need 64 = .ok (.invokevirtual 420, 3) := dk_182 1 164 (dk_at dksX0_need_2 18 rfl rfl)
theorem dX0_need_67 : decode cX0_need 67 = .ok (.aload_n 3, 1) := dk_45 (dk_at dksX0_need_2 21 rfl rfl)
theorem dX0_need_68 : decode cX0_need 68 = .ok (.iload 4, 2) := dk_21 4 (dk_at dksX0_need_2 22 rfl rfl)
theorem dX0_need_70 : decode cX0_need 70 = .ok (.invokevirtual 351, 3) := dk_182 1 95 (dk_at dksX0_need_3 0 rfl rfl)
theorem dX0_need_73 : decode cX0_need 73 = .ok (.pop, 1) := dk_87 (dk_at dksX0_need_3 3 rfl rfl)
theorem dX0_need_74 : decode cX0_need 74 = .ok (.aload_n 0, 1) := dk_42 (dk_at dksX0_need_3 4 rfl rfl)
theorem dX0_need_75 : decode cX0_need 75 = .ok (.aload_n 3, 1) := dk_45 (dk_at dksX0_need_3 5 rfl rfl)
theorem dX0_need_76 : decode cX0_need 76 = .ok (.iload_n 2, 1) := dk_28 (dk_at dksX0_need_3 6 rfl rfl)
theorem dX0_need_77 : decode cX0_need 77 = .ok (.invokevirtual 414, 3) := dk_182 1 158 (dk_at dksX0_need_3 7 rfl rfl)
theorem dX0_need_80 : decode cX0_need 80 = .ok (.ifCond .ne 6, 3) := dk_154 0 6 (dk_at dksX0_need_3 10 rfl rfl)
theorem dX0_need_83 : decode cX0_need 83 = .ok (.iload 4, 2) := dk_21 4 (dk_at dksX0_need_3 13 rfl rfl)
theorem dX0_need_85 : decode cX0_need 85 = .ok (.ireturn, 1) := dk_172 (dk_at dksX0_need_3 15 rfl rfl)
theorem dX0_need_86 : decode cX0_need 86 = .ok (.iinc 4 1, 3) := dk_132 4 1 (dk_at dksX0_need_3 16 rfl rfl)
theorem dX0_need_89 : decode cX0_need 89 = .ok (.goto (-39), 3) := dk_167 255 217 (dk_at dksX0_need_3 19 rfl rfl)
theorem dX0_need_92 : decode cX0_need 92 = .ok (.aload_n 0, 1) := dk_42 (dk_at dksX0_need_3 22 rfl rfl)
theorem dX0_need_93 : decode cX0_need 93 = .ok (.iconst (-1), 1) := dk_2 (dk_at dksX0_need_3 23 rfl rfl)
theorem dX0_need_94 : decode cX0_need 94 = .ok (.invokevirtual 283, 3) := dk_182 1 27 (dk_at dksX0_need_4 0 rfl rfl)
theorem dX0_need_97 : decode cX0_need 97 = .ok (.ireturn, 1) := dk_172 (dk_at dksX0_need_4 3 rfl rfl)
def dkwX0_live_4 : List UInt8 := [44, 180, 1, 182, 153, 0, 7, 4, 167, 0, 4, 3, 79, 42, 4, 181, 1, 186, 44, 180, 1, 189, 172]
abbrev dktX0_live_4 : List UInt8 := dkwX0_live_4 ++ []
def dkwX0_live_3 : List UInt8 := [180, 0, 70, 3, 44, 180, 1, 176, 79, 42, 180, 0, 70, 4, 44, 180, 1, 179, 79, 42, 180, 0, 70, 5]
abbrev dktX0_live_3 : List UInt8 := dkwX0_live_3 ++ dktX0_live_4
def dkwX0_live_2 : List UInt8 := [89, 42, 182, 0, 158, 27, 183, 1, 169, 77, 42, 180, 0, 55, 180, 0, 218, 44, 182, 1, 172, 42]
abbrev dktX0_live_2 : List UInt8 := dkwX0_live_2 ++ dktX0_live_3
def dkwX0_live_1 : List UInt8 := [199, 0, 8, 16, 6, 167, 0, 4, 3, 181, 0, 73, 42, 180, 0, 73, 158, 0, 5, 2, 172, 187, 1, 167]
abbrev dktX0_live_1 : List UInt8 := dkwX0_live_1 ++ dktX0_live_2
def dkwX0_live_0 : List UInt8 := [42, 27, 133, 9, 20, 1, 72, 184, 0, 164, 154, 0, 7, 4, 167, 0, 19, 42, 180, 0, 55, 180, 0, 218]
abbrev dktX0_live_0 : List UInt8 := dkwX0_live_0 ++ dktX0_live_1
theorem dksX0_live_0 : cX0_live.data.toList.drop 0 = dktX0_live_0 := by decide +kernel
theorem dksX0_live_1 : cX0_live.data.toList.drop 24 = dktX0_live_1 := dk_seg dksX0_live_0 24 rfl rfl
theorem dksX0_live_2 : cX0_live.data.toList.drop 48 = dktX0_live_2 := dk_seg dksX0_live_1 24 rfl rfl
theorem dksX0_live_3 : cX0_live.data.toList.drop 70 = dktX0_live_3 := dk_seg dksX0_live_2 22 rfl rfl
theorem dksX0_live_4 : cX0_live.data.toList.drop 94 = dktX0_live_4 := dk_seg dksX0_live_3 24 rfl rfl
theorem dX0_live_0 : decode cX0_live 0 = .ok (.aload_n 0, 1) := dk_42 (dk_at dksX0_live_0 0 rfl rfl)
theorem dX0_live_1 : decode cX0_live 1 = .ok (.iload_n 1, 1) := dk_27 (dk_at dksX0_live_0 1 rfl rfl)
theorem dX0_live_2 : decode cX0_live 2 = .ok (.i2l, 1) := dk_133 (dk_at dksX0_live_0 2 rfl rfl)
theorem dX0_live_3 : decode cX0_live 3 = .ok (.lconst 0, 1) := dk_9 (dk_at dksX0_live_0 3 rfl rfl)
theorem dX0_live_4 : decode cX0_live 4 = .ok (.ldc2_w 328, 3) := dk_20 1 72 (dk_at dksX0_live_0 4 rfl rfl)
theorem dX0_live_7 : decode cX0_live 7 = .ok (.invokestatic 164, 3) := dk_184 0 164 (dk_at dksX0_live_0 7 rfl rfl)
theorem dX0_live_10 : decode cX0_live 10 = .ok (.ifCond .ne 7, 3) := dk_154 0 7 (dk_at dksX0_live_0 10 rfl rfl)
theorem dX0_live_13 : decode cX0_live 13 = .ok (.iconst 1, 1) := dk_4 (dk_at dksX0_live_0 13 rfl rfl)
theorem dX0_live_14 : decode cX0_live 14 = .ok (.goto 19, 3) := dk_167 0 19 (dk_at dksX0_live_0 14 rfl rfl)
theorem dX0_live_17 : decode cX0_live 17 = .ok (.aload_n 0, 1) := dk_42 (dk_at dksX0_live_0 17 rfl rfl)
theorem dX0_live_18 : decode cX0_live 18 = .ok (.getfield 55, 3) := dk_180 0 55 (dk_at dksX0_live_0 18 rfl rfl)
theorem dX0_live_21 : decode cX0_live 21 = .ok (.getfield 218, 3) := dk_180 0 218 (dk_at dksX0_live_0 21 rfl rfl)
theorem dX0_live_24 : decode cX0_live 24 = .ok (.ifnonnull 8, 3) := dk_199 0 8 (dk_at dksX0_live_1 0 rfl rfl)
theorem dX0_live_27 : decode cX0_live 27 = .ok (.bipush 6, 2) := dk_16 6 (dk_at dksX0_live_1 3 rfl rfl)
theorem dX0_live_29 : decode cX0_live 29 = .ok (.goto 4, 3) := dk_167 0 4 (dk_at dksX0_live_1 5 rfl rfl)
theorem dX0_live_32 : decode cX0_live 32 = .ok (.iconst 0, 1) := dk_3 (dk_at dksX0_live_1 8 rfl rfl)
theorem dX0_live_33 : decode cX0_live 33 = .ok (.putfield 73, 3) := dk_181 0 73 (dk_at dksX0_live_1 9 rfl rfl)
theorem dX0_live_36 : decode cX0_live 36 = .ok (.aload_n 0, 1) := dk_42 (dk_at dksX0_live_1 12 rfl rfl)
theorem dX0_live_37 : decode cX0_live 37 = .ok (.getfield 73, 3) := dk_180 0 73 (dk_at dksX0_live_1 13 rfl rfl)
theorem dX0_live_40 : decode cX0_live 40 = .ok (.ifCond .le 5, 3) := dk_158 0 5 (dk_at dksX0_live_1 16 rfl rfl)
theorem dX0_live_43 : decode cX0_live 43 = .ok (.iconst (-1), 1) := dk_2 (dk_at dksX0_live_1 19 rfl rfl)
theorem dX0_live_44 : decode cX0_live 44 = .ok (.ireturn, 1) := dk_172 (dk_at dksX0_live_1 20 rfl rfl)
theorem dX0_live_45 : decode cX0_live 45 = .ok (.new 423, 3) := dk_187 1 167 (dk_at dksX0_live_1 21 rfl rfl)
theorem dX0_live_48 : decode cX0_live 48 = .ok (.dup, 1) := dk_89 (dk_at dksX0_live_2 0 rfl rfl)
theorem dX0_live_49 : decode cX0_live 49 = .ok (.aload_n 0, 1) := dk_42 (dk_at dksX0_live_2 1 rfl rfl)
theorem dX0_live_50 : decode cX0_live 50 = .ok (.invokevirtual 158, 3) := dk_182 0 158 (dk_at dksX0_live_2 2 rfl rfl)
theorem dX0_live_53 : decode cX0_live 53 = .ok (.iload_n 1, 1) := dk_27 (dk_at dksX0_live_2 5 rfl rfl)
theorem dX0_live_54 : decode cX0_live 54 = .ok (.invokespecial 425, 3) := dk_183 1 169 (dk_at dksX0_live_2 6 rfl rfl)
theorem dX0_live_57 : decode cX0_live 57 = .ok (.astore_n 2, 1) := dk_77 (dk_at dksX0_live_2 9 rfl rfl)
theorem dX0_live_58 : decode cX0_live 58 = .ok (.aload_n 0, 1) := dk_42 (dk_at dksX0_live_2 10 rfl rfl)
theorem dX0_live_59 : decode cX0_live 59 = .ok (.getfield 55, 3) := dk_180 0 55 (dk_at dksX0_live_2 11 rfl rfl)
theorem dX0_live_62 : decode cX0_live 62 = .ok (.getfield 218, 3) := dk_180 0 218 (dk_at dksX0_live_2 14 rfl rfl)
theorem dX0_live_65 : decode cX0_live 65 = .ok (.aload_n 2, 1) := dk_44 (dk_at dksX0_live_2 17 rfl rfl)
theorem dX0_live_66 : decode cX0_live 66 = .ok (.invokevirtual 428, 3) := dk_182 1 172 (dk_at dksX0_live_2 18 rfl rfl)
theorem dX0_live_69 : decode cX0_live 69 = .ok (.aload_n 0, 1) := dk_42 (dk_at dksX0_live_2 21 rfl rfl)
theorem dX0_live_70 : decode cX0_live 70 = .ok (.getfield 70, 3) := dk_180 0 70 (dk_at dksX0_live_3 0 rfl rfl)
theorem dX0_live_73 : decode cX0_live 73 = .ok (.iconst 0, 1) := dk_3 (dk_at dksX0_live_3 3 rfl rfl)
theorem dX0_live_74 : decode cX0_live 74 = .ok (.aload_n 2, 1) := dk_44 (dk_at dksX0_live_3 4 rfl rfl)
theorem dX0_live_75 : decode cX0_live 75 = .ok (.getfield 432, 3) := dk_180 1 176 (dk_at dksX0_live_3 5 rfl rfl)
theorem dX0_live_78 : decode cX0_live 78 = .ok (.iastore, 1) := dk_79 (dk_at dksX0_live_3 8 rfl rfl)
theorem dX0_live_79 : decode cX0_live 79 = .ok (.aload_n 0, 1) := dk_42 (dk_at dksX0_live_3 9 rfl rfl)
theorem dX0_live_80 : decode cX0_live 80 = .ok (.getfield 70, 3) := dk_180 0 70 (dk_at dksX0_live_3 10 rfl rfl)
theorem dX0_live_83 : decode cX0_live 83 = .ok (.iconst 1, 1) := dk_4 (dk_at dksX0_live_3 13 rfl rfl)
theorem dX0_live_84 : decode cX0_live 84 = .ok (.aload_n 2, 1) := dk_44 (dk_at dksX0_live_3 14 rfl rfl)
theorem dX0_live_85 : decode cX0_live 85 = .ok (.getfield 435, 3) := dk_180 1 179 (dk_at dksX0_live_3 15 rfl rfl)
theorem dX0_live_88 : decode cX0_live 88 = .ok (.iastore, 1) := dk_79 (dk_at dksX0_live_3 18 rfl rfl)
theorem dX0_live_89 : decode cX0_live 89 = .ok (.aload_n 0, 1) := dk_42 (dk_at dksX0_live_3 19 rfl rfl)
theorem dX0_live_90 : decode cX0_live 90 = .ok (.getfield 70, 3) := dk_180 0 70 (dk_at dksX0_live_3 20 rfl rfl)
theorem dX0_live_93 : decode cX0_live 93 = .ok (.iconst 2, 1) := dk_5 (dk_at dksX0_live_3 23 rfl rfl)
theorem dX0_live_94 : decode cX0_live 94 = .ok (.aload_n 2, 1) := dk_44 (dk_at dksX0_live_4 0 rfl rfl)
theorem dX0_live_95 : decode cX0_live 95 = .ok (.getfield 438, 3) := dk_180 1 182 (dk_at dksX0_live_4 1 rfl rfl)
theorem dX0_live_98 : decode cX0_live 98 = .ok (.ifCond .eq 7, 3) := dk_153 0 7 (dk_at dksX0_live_4 4 rfl rfl)
theorem dX0_live_101 : decode cX0_live 101 = .ok (.iconst 1, 1) := dk_4 (dk_at dksX0_live_4 7 rfl rfl)
theorem dX0_live_102 : decode cX0_live 102 = .ok (.goto 4, 3) := dk_167 0 4 (dk_at dksX0_live_4 8 rfl rfl)
theorem dX0_live_105 : decode cX0_live 105 = .ok (.iconst 0, 1) := dk_3 (dk_at dksX0_live_4 11 rfl rfl)
theorem dX0_live_106 : decode cX0_live 106 = .ok (.iastore, 1) := dk_79 (dk_at dksX0_live_4 12 rfl rfl)
theorem dX0_live_107 : decode cX0_live 107 = .ok (.aload_n 0, 1) := dk_42 (dk_at dksX0_live_4 13 rfl rfl)
theorem dX0_live_108 : decode cX0_live 108 = .ok (.iconst 1, 1) := dk_4 (dk_at dksX0_live_4 14 rfl rfl)
theorem dX0_live_109 : decode cX0_live 109 = .ok (.putfield 442, 3) := dk_181 1 186 (dk_at dksX0_live_4 15 rfl rfl)
theorem dX0_live_112 : decode cX0_live 112 = .ok (.aload_n 2, 1) := dk_44 (dk_at dksX0_live_4 18 rfl rfl)
theorem dX0_live_113 : decode cX0_live 113 = .ok (.getfield 445, 3) := dk_180 1 189 (dk_at dksX0_live_4 19 rfl rfl)
theorem dX0_live_116 : decode cX0_live 116 = .ok (.ireturn, 1) := dk_172 (dk_at dksX0_live_4 22 rfl rfl)
def dkwX0_lived_2 : List UInt8 := [27, 46, 172]
abbrev dktX0_lived_2 : List UInt8 := dkwX0_lived_2 ++ []
def dkwX0_lived_1 : List UInt8 := [3, 167, 0, 5, 16, 6, 181, 0, 73, 42, 180, 0, 73, 158, 0, 7, 2, 167, 0, 9, 42, 180, 0, 70]
abbrev dktX0_lived_1 : List UInt8 := dkwX0_lived_1 ++ dktX0_lived_2
def dkwX0_lived_0 : List UInt8 := [42, 27, 133, 9, 20, 1, 34, 184, 0, 164, 154, 0, 7, 4, 167, 0, 16, 42, 180, 1, 186, 153, 0, 7]
abbrev dktX0_lived_0 : List UInt8 := dkwX0_lived_0 ++ dktX0_lived_1
theorem dksX0_lived_0 : cX0_lived.data.toList.drop 0 = dktX0_lived_0 := by decide +kernel
theorem dksX0_lived_1 : cX0_lived.data.toList.drop 24 = dktX0_lived_1 := dk_seg dksX0_lived_0 24 rfl rfl
theorem dksX0_lived_2 : cX0_lived.data.toList.drop 48 = dktX0_lived_2 := dk_seg dksX0_lived_1 24 rfl rfl
theorem dX0_lived_0 : decode cX0_lived 0 = .ok (.aload_n 0, 1) := dk_42 (dk_at dksX0_lived_0 0 rfl rfl)
theorem dX0_lived_1 : decode cX0_lived 1 = .ok (.iload_n 1, 1) := dk_27 (dk_at dksX0_lived_0 1 rfl rfl)
theorem dX0_lived_2 : decode cX0_lived 2 = .ok (.i2l, 1) := dk_133 (dk_at dksX0_lived_0 2 rfl rfl)
theorem dX0_lived_3 : decode cX0_lived 3 = .ok (.lconst 0, 1) := dk_9 (dk_at dksX0_lived_0 3 rfl rfl)
theorem dX0_lived_4 : decode cX0_lived 4 = .ok (.ldc2_w 290, 3) := dk_20 1 34 (dk_at dksX0_lived_0 4 rfl rfl)
theorem dX0_lived_7 : decode cX0_lived 7 = .ok (.invokestatic 164, 3) := dk_184 0 164 (dk_at dksX0_lived_0 7 rfl rfl)
theorem dX0_lived_10 : decode cX0_lived 10 = .ok (.ifCond .ne 7, 3) := dk_154 0 7 (dk_at dksX0_lived_0 10 rfl rfl)
theorem dX0_lived_13 : decode cX0_lived 13 = .ok (.iconst 1, 1) := dk_4 (dk_at dksX0_lived_0 13 rfl rfl)
theorem dX0_lived_14 : decode cX0_lived 14 = .ok (.goto 16, 3) := dk_167 0 16 (dk_at dksX0_lived_0 14 rfl rfl)
theorem dX0_lived_17 : decode cX0_lived 17 = .ok (.aload_n 0, 1) := dk_42 (dk_at dksX0_lived_0 17 rfl rfl)
theorem dX0_lived_18 : decode cX0_lived 18 = .ok (.getfield 442, 3) := dk_180 1 186 (dk_at dksX0_lived_0 18 rfl rfl)
theorem dX0_lived_21 : decode cX0_lived 21 = .ok (.ifCond .eq 7, 3) := dk_153 0 7 (dk_at dksX0_lived_0 21 rfl rfl)
theorem dX0_lived_24 : decode cX0_lived 24 = .ok (.iconst 0, 1) := dk_3 (dk_at dksX0_lived_1 0 rfl rfl)
theorem dX0_lived_25 : decode cX0_lived 25 = .ok (.goto 5, 3) := dk_167 0 5 (dk_at dksX0_lived_1 1 rfl rfl)
theorem dX0_lived_28 : decode cX0_lived 28 = .ok (.bipush 6, 2) := dk_16 6 (dk_at dksX0_lived_1 4 rfl rfl)
theorem dX0_lived_30 : decode cX0_lived 30 = .ok (.putfield 73, 3) := dk_181 0 73 (dk_at dksX0_lived_1 6 rfl rfl)
theorem dX0_lived_33 : decode cX0_lived 33 = .ok (.aload_n 0, 1) := dk_42 (dk_at dksX0_lived_1 9 rfl rfl)
theorem dX0_lived_34 : decode cX0_lived 34 = .ok (.getfield 73, 3) := dk_180 0 73 (dk_at dksX0_lived_1 10 rfl rfl)
theorem dX0_lived_37 : decode cX0_lived 37 = .ok (.ifCond .le 7, 3) := dk_158 0 7 (dk_at dksX0_lived_1 13 rfl rfl)
theorem dX0_lived_40 : decode cX0_lived 40 = .ok (.iconst (-1), 1) := dk_2 (dk_at dksX0_lived_1 16 rfl rfl)
theorem dX0_lived_41 : decode cX0_lived 41 = .ok (.goto 9, 3) := dk_167 0 9 (dk_at dksX0_lived_1 17 rfl rfl)
theorem dX0_lived_44 : decode cX0_lived 44 = .ok (.aload_n 0, 1) := dk_42 (dk_at dksX0_lived_1 20 rfl rfl)
theorem dX0_lived_45 : decode cX0_lived 45 = .ok (.getfield 70, 3) := dk_180 0 70 (dk_at dksX0_lived_1 21 rfl rfl)
theorem dX0_lived_48 : decode cX0_lived 48 = .ok (.iload_n 1, 1) := dk_27 (dk_at dksX0_lived_2 0 rfl rfl)
theorem dX0_lived_49 : decode cX0_lived 49 = .ok (.iaload, 1) := dk_46 (dk_at dksX0_lived_2 1 rfl rfl)
theorem dX0_lived_50 : decode cX0_lived 50 = .ok (.ireturn, 1) := dk_172 (dk_at dksX0_lived_2 2 rfl rfl)
def dkwX0_odds_7 : List UInt8 := [167, 255, 184, 42, 21, 5, 133, 21, 4, 133, 182, 1, 122, 87, 4, 172]
abbrev dktX0_odds_7 : List UInt8 := dkwX0_odds_7 ++ []
def dkwX0_odds_6 : List UInt8 := [180, 0, 150, 27, 50, 182, 1, 11, 28, 161, 0, 7, 4, 167, 0, 4, 3, 96, 54, 5, 132, 6, 1]
abbrev dktX0_odds_6 : List UInt8 := dkwX0_odds_6 ++ dktX0_odds_7
def dkwX0_odds_5 : List UInt8 := [187, 1, 167, 89, 42, 180, 0, 66, 29, 21, 6, 96, 183, 1, 169, 182, 1, 172, 21, 5, 42, 180, 0, 66]
abbrev dktX0_odds_5 : List UInt8 := dkwX0_odds_5 ++ dktX0_odds_6
def dkwX0_odds_4 : List UInt8 := [21, 4, 162, 0, 71, 42, 180, 0, 66, 42, 182, 0, 158, 182, 0, 215, 42, 180, 0, 55, 180, 0, 218]
abbrev dktX0_odds_4 : List UInt8 := dkwX0_odds_4 ++ dktX0_odds_5
def dkwX0_odds_3 : List UInt8 := [167, 0, 4, 3, 181, 0, 73, 42, 180, 0, 73, 158, 0, 5, 3, 172, 3, 54, 5, 3, 54, 6, 21, 6]
abbrev dktX0_odds_3 : List UInt8 := dkwX0_odds_3 ++ dktX0_odds_4
def dkwX0_odds_2 : List UInt8 := [184, 0, 164, 154, 0, 7, 4, 167, 0, 19, 42, 180, 0, 55, 180, 0, 218, 199, 0, 8, 16, 6]
abbrev dktX0_odds_2 : List UInt8 := dkwX0_odds_2 ++ dktX0_odds_3
def dkwX0_odds_1 : List UInt8 := [10, 20, 1, 192, 184, 0, 164, 153, 0, 21, 29, 133, 9, 17, 39, 15, 21, 4, 100, 4, 96, 133]
abbrev dktX0_odds_1 : List UInt8 := dkwX0_odds_1 ++ dktX0_odds_2
def dkwX0_odds_0 : List UInt8 := [42, 42, 27, 182, 0, 168, 153, 0, 46, 28, 133, 9, 20, 1, 72, 184, 0, 164, 153, 0, 34, 21, 4, 133]
abbrev dktX0_odds_0 : List UInt8 := dkwX0_odds_0 ++ dktX0_odds_1
theorem dksX0_odds_0 : cX0_odds.data.toList.drop 0 = dktX0_odds_0 := by decide +kernel
theorem dksX0_odds_1 : cX0_odds.data.toList.drop 24 = dktX0_odds_1 := dk_seg dksX0_odds_0 24 rfl rfl
theorem dksX0_odds_2 : cX0_odds.data.toList.drop 46 = dktX0_odds_2 := dk_seg dksX0_odds_1 22 rfl rfl
theorem dksX0_odds_3 : cX0_odds.data.toList.drop 68 = dktX0_odds_3 := dk_seg dksX0_odds_2 22 rfl rfl
theorem dksX0_odds_4 : cX0_odds.data.toList.drop 92 = dktX0_odds_4 := dk_seg dksX0_odds_3 24 rfl rfl
theorem dksX0_odds_5 : cX0_odds.data.toList.drop 115 = dktX0_odds_5 := dk_seg dksX0_odds_4 23 rfl rfl
theorem dksX0_odds_6 : cX0_odds.data.toList.drop 139 = dktX0_odds_6 := dk_seg dksX0_odds_5 24 rfl rfl
theorem dksX0_odds_7 : cX0_odds.data.toList.drop 162 = dktX0_odds_7 := dk_seg dksX0_odds_6 23 rfl rfl
theorem dX0_odds_0 : decode cX0_odds 0 = .ok (.aload_n 0, 1) := dk_42 (dk_at dksX0_odds_0 0 rfl rfl)
theorem dX0_odds_1 : decode cX0_odds 1 = .ok (.aload_n 0, 1) := dk_42 (dk_at dksX0_odds_0 1 rfl rfl)
theorem dX0_odds_2 : decode cX0_odds 2 = .ok (.iload_n 1, 1) := dk_27 (dk_at dksX0_odds_0 2 rfl rfl)
theorem dX0_odds_3 : decode cX0_odds 3 = .ok (.invokevirtual 168, 3) := dk_182 0 168 (dk_at dksX0_odds_0 3 rfl rfl)
theorem dX0_odds_6 : decode cX0_odds 6 = .ok (.ifCond .eq 46, 3) := dk_153 0 46 (dk_at dksX0_odds_0 6 rfl rfl)
theorem dX0_odds_9 : decode cX0_odds 9 = .ok (.iload_n 2, 1) := dk_28 (dk_at dksX0_odds_0 9 rfl rfl)
theorem dX0_odds_10 : decode cX0_odds 10 = .ok (.i2l, 1) := dk_133 (dk_at dksX0_odds_0 10 rfl rfl)
theorem dX0_odds_11 : decode cX0_odds 11 = .ok (.lconst 0, 1) := dk_9 (dk_at dksX0_odds_0 11 rfl rfl)
theorem dX0_odds_12 : decode cX0_odds 12 = .ok (.ldc2_w 328, 3) := dk_20 1 72 (dk_at dksX0_odds_0 12 rfl rfl)
theorem dX0_odds_15 : decode cX0_odds 15 = .ok (.invokestatic 164, 3) := dk_184 0 164 (dk_at dksX0_odds_0 15 rfl rfl)
theorem dX0_odds_18 : decode cX0_odds 18 = .ok (.ifCond .eq 34, 3) := dk_153 0 34 (dk_at dksX0_odds_0 18 rfl rfl)
theorem dX0_odds_21 : decode cX0_odds 21 = .ok (.iload 4, 2) := dk_21 4 (dk_at dksX0_odds_0 21 rfl rfl)
theorem dX0_odds_23 : decode cX0_odds 23 = .ok (.i2l, 1) := dk_133 (dk_at dksX0_odds_0 23 rfl rfl)
theorem dX0_odds_24 : decode cX0_odds 24 = .ok (.lconst 1, 1) := dk_10 (dk_at dksX0_odds_1 0 rfl rfl)
theorem dX0_odds_25 : decode cX0_odds 25 = .ok (.ldc2_w 448, 3) := dk_20 1 192 (dk_at dksX0_odds_1 1 rfl rfl)
theorem dX0_odds_28 : decode cX0_odds 28 = .ok (.invokestatic 164, 3) := dk_184 0 164 (dk_at dksX0_odds_1 4 rfl rfl)
theorem dX0_odds_31 : decode cX0_odds 31 = .ok (.ifCond .eq 21, 3) := dk_153 0 21 (dk_at dksX0_odds_1 7 rfl rfl)
theorem dX0_odds_34 : decode cX0_odds 34 = .ok (.iload_n 3, 1) := dk_29 (dk_at dksX0_odds_1 10 rfl rfl)
theorem dX0_odds_35 : decode cX0_odds 35 = .ok (.i2l, 1) := dk_133 (dk_at dksX0_odds_1 11 rfl rfl)
theorem dX0_odds_36 : decode cX0_odds 36 = .ok (.lconst 0, 1) := dk_9 (dk_at dksX0_odds_1 12 rfl rfl)
theorem dX0_odds_37 : decode cX0_odds 37 = .ok (.sipush 9999, 3) := dk_17 39 15 (dk_at dksX0_odds_1 13 rfl rfl)
theorem dX0_odds_40 : decode cX0_odds 40 = .ok (.iload 4, 2) := dk_21 4 (dk_at dksX0_odds_1 16 rfl rfl)
theorem dX0_odds_42 : decode cX0_odds 42 = .ok (.isub, 1) := dk_100 (dk_at dksX0_odds_1 18 rfl rfl)
theorem dX0_odds_43 : decode cX0_odds 43 = .ok (.iconst 1, 1) := dk_4 (dk_at dksX0_odds_1 19 rfl rfl)
theorem dX0_odds_44 : decode cX0_odds 44 = .ok (.iadd, 1) := dk_96 (dk_at dksX0_odds_1 20 rfl rfl)
theorem dX0_odds_45 : decode cX0_odds 45 = .ok (.i2l, 1) := dk_133 (dk_at dksX0_odds_1 21 rfl rfl)
theorem dX0_odds_46 : decode cX0_odds 46 = .ok (.invokestatic 164, 3) := dk_184 0 164 (dk_at dksX0_odds_2 0 rfl rfl)
theorem dX0_odds_49 : decode cX0_odds 49 = .ok (.ifCond .ne 7, 3) := dk_154 0 7 (dk_at dksX0_odds_2 3 rfl rfl)
theorem dX0_odds_52 : decode cX0_odds 52 = .ok (.iconst 1, 1) := dk_4 (dk_at dksX0_odds_2 6 rfl rfl)
theorem dX0_odds_53 : decode cX0_odds 53 = .ok (.goto 19, 3) := dk_167 0 19 (dk_at dksX0_odds_2 7 rfl rfl)
theorem dX0_odds_56 : decode cX0_odds 56 = .ok (.aload_n 0, 1) := dk_42 (dk_at dksX0_odds_2 10 rfl rfl)
theorem dX0_odds_57 : decode cX0_odds 57 = .ok (.getfield 55, 3) := dk_180 0 55 (dk_at dksX0_odds_2 11 rfl rfl)
theorem dX0_odds_60 : decode cX0_odds 60 = .ok (.getfield 218, 3) := dk_180 0 218 (dk_at dksX0_odds_2 14 rfl rfl)
theorem dX0_odds_63 : decode cX0_odds 63 = .ok (.ifnonnull 8, 3) := dk_199 0 8 (dk_at dksX0_odds_2 17 rfl rfl)
theorem dX0_odds_66 : decode cX0_odds 66 = .ok (.bipush 6, 2) := dk_16 6 (dk_at dksX0_odds_2 20 rfl rfl)
theorem dX0_odds_68 : decode cX0_odds 68 = .ok (.goto 4, 3) := dk_167 0 4 (dk_at dksX0_odds_3 0 rfl rfl)
theorem dX0_odds_71 : decode cX0_odds 71 = .ok (.iconst 0, 1) := dk_3 (dk_at dksX0_odds_3 3 rfl rfl)
theorem dX0_odds_72 : decode cX0_odds 72 = .ok (.putfield 73, 3) := dk_181 0 73 (dk_at dksX0_odds_3 4 rfl rfl)
theorem dX0_odds_75 : decode cX0_odds 75 = .ok (.aload_n 0, 1) := dk_42 (dk_at dksX0_odds_3 7 rfl rfl)
theorem dX0_odds_76 : decode cX0_odds 76 = .ok (.getfield 73, 3) := dk_180 0 73 (dk_at dksX0_odds_3 8 rfl rfl)
theorem dX0_odds_79 : decode cX0_odds 79 = .ok (.ifCond .le 5, 3) := dk_158 0 5 (dk_at dksX0_odds_3 11 rfl rfl)
theorem dX0_odds_82 : decode cX0_odds 82 = .ok (.iconst 0, 1) := dk_3 (dk_at dksX0_odds_3 14 rfl rfl)
theorem dX0_odds_83 : decode cX0_odds 83 = .ok (.ireturn, 1) := dk_172 (dk_at dksX0_odds_3 15 rfl rfl)
theorem dX0_odds_84 : decode cX0_odds 84 = .ok (.iconst 0, 1) := dk_3 (dk_at dksX0_odds_3 16 rfl rfl)
theorem dX0_odds_85 : decode cX0_odds 85 = .ok (.istore 5, 2) := dk_54 5 (dk_at dksX0_odds_3 17 rfl rfl)
theorem dX0_odds_87 : decode cX0_odds 87 = .ok (.iconst 0, 1) := dk_3 (dk_at dksX0_odds_3 19 rfl rfl)
theorem dX0_odds_88 : decode cX0_odds 88 = .ok (.istore 6, 2) := dk_54 6 (dk_at dksX0_odds_3 20 rfl rfl)
theorem dX0_odds_90 : decode cX0_odds 90 = .ok (.iload 6, 2) := dk_21 6 (dk_at dksX0_odds_3 22 rfl rfl)
theorem dX0_odds_92 : decode cX0_odds 92 = .ok (.iload 4, 2) := dk_21 4 (dk_at dksX0_odds_4 0 rfl rfl)
theorem dX0_odds_94 : decode cX0_odds 94 = .ok (.if_icmp .ge 71, 3) := dk_162 0 71 (dk_at dksX0_odds_4 2 rfl rfl)
theorem dX0_odds_97 : decode cX0_odds 97 = .ok (.aload_n 0, 1) := dk_42 (dk_at dksX0_odds_4 5 rfl rfl)
theorem dX0_odds_98 : decode cX0_odds 98 = .ok (.getfield 66, 3) := dk_180 0 66 (dk_at dksX0_odds_4 6 rfl rfl)
theorem dX0_odds_101 : decode cX0_odds 101 = .ok (.aload_n 0, 1) := dk_42 (dk_at dksX0_odds_4 9 rfl rfl)
theorem dX0_odds_102 : decode cX0_odds 102 = .ok (.invokevirtual 158, 3) := dk_182 0 158 (dk_at dksX0_odds_4 10 rfl rfl)
theorem dX0_odds_105 : decode cX0_odds 105 = .ok (.invokevirtual 215, 3) := dk_182 0 215 (dk_at dksX0_odds_4 13 rfl rfl)
theorem dX0_odds_108 : decode cX0_odds 108 = .ok (.aload_n 0, 1) := dk_42 (dk_at dksX0_odds_4 16 rfl rfl)
theorem dX0_odds_109 : decode cX0_odds 109 = .ok (.getfield 55, 3) := dk_180 0 55 (dk_at dksX0_odds_4 17 rfl rfl)
theorem dX0_odds_112 : decode cX0_odds 112 = .ok (.getfield 218, 3) := dk_180 0 218 (dk_at dksX0_odds_4 20 rfl rfl)
theorem dX0_odds_115 : decode cX0_odds 115 = .ok (.new 423, 3) := dk_187 1 167 (dk_at dksX0_odds_5 0 rfl rfl)
theorem dX0_odds_118 : decode cX0_odds 118 = .ok (.dup, 1) := dk_89 (dk_at dksX0_odds_5 3 rfl rfl)
theorem dX0_odds_119 : decode cX0_odds 119 = .ok (.aload_n 0, 1) := dk_42 (dk_at dksX0_odds_5 4 rfl rfl)
theorem dX0_odds_120 : decode cX0_odds 120 = .ok (.getfield 66, 3) := dk_180 0 66 (dk_at dksX0_odds_5 5 rfl rfl)
theorem dX0_odds_123 : decode cX0_odds 123 = .ok (.iload_n 3, 1) := dk_29 (dk_at dksX0_odds_5 8 rfl rfl)
theorem dX0_odds_124 : decode cX0_odds 124 = .ok (.iload 6, 2) := dk_21 6 (dk_at dksX0_odds_5 9 rfl rfl)
theorem dX0_odds_126 : decode cX0_odds 126 = .ok (.iadd, 1) := dk_96 (dk_at dksX0_odds_5 11 rfl rfl)
theorem dX0_odds_127 : decode cX0_odds 127 = .ok (.invokespecial 425, 3) := dk_183 1 169 (dk_at dksX0_odds_5 12 rfl rfl)
theorem dX0_odds_130 : decode cX0_odds 130 = .ok (.invokevirtual 428, 3) := dk_182 1 172 (dk_at dksX0_odds_5 15 rfl rfl)
theorem dX0_odds_133 : decode cX0_odds 133 = .ok (.iload 5, 2) := dk_21 5 (dk_at dksX0_odds_5 18 rfl rfl)
theorem dX0_odds_135 : decode cX0_odds 135 = .ok (.aload_n 0, 1) := dk_42 (dk_at dksX0_odds_5 20 rfl rfl)
theorem dX0_odds_136 : decode cX0_odds 136 = .ok (.getfield 66, 3) := dk_180 0 66 (dk_at dksX0_odds_5 21 rfl rfl)
theorem dX0_odds_139 : decode cX0_odds 139 = .ok (.getfield 150, 3) := dk_180 0 150 (dk_at dksX0_odds_6 0 rfl rfl)
theorem dX0_odds_142 : decode cX0_odds 142 = .ok (.iload_n 1, 1) := dk_27 (dk_at dksX0_odds_6 3 rfl rfl)
theorem dX0_odds_143 : decode cX0_odds 143 = .ok (.aaload, 1) := dk_50 (dk_at dksX0_odds_6 4 rfl rfl)
theorem dX0_odds_144 : decode cX0_odds 144 = .ok (.invokevirtual 267, 3) := dk_182 1 11 (dk_at dksX0_odds_6 5 rfl rfl)
theorem dX0_odds_147 : decode cX0_odds 147 = .ok (.iload_n 2, 1) := dk_28 (dk_at dksX0_odds_6 8 rfl rfl)
theorem dX0_odds_148 : decode cX0_odds 148 = .ok (.if_icmp .lt 7, 3) := dk_161 0 7 (dk_at dksX0_odds_6 9 rfl rfl)
theorem dX0_odds_151 : decode cX0_odds 151 = .ok (.iconst 1, 1) := dk_4 (dk_at dksX0_odds_6 12 rfl rfl)
theorem dX0_odds_152 : decode cX0_odds 152 = .ok (.goto 4, 3) := dk_167 0 4 (dk_at dksX0_odds_6 13 rfl rfl)
theorem dX0_odds_155 : decode cX0_odds 155 = .ok (.iconst 0, 1) := dk_3 (dk_at dksX0_odds_6 16 rfl rfl)
theorem dX0_odds_156 : decode cX0_odds 156 = .ok (.iadd, 1) := dk_96 (dk_at dksX0_odds_6 17 rfl rfl)
theorem dX0_odds_157 : decode cX0_odds 157 = .ok (.istore 5, 2) := dk_54 5 (dk_at dksX0_odds_6 18 rfl rfl)
theorem dX0_odds_159 : decode cX0_odds 159 = .ok (.iinc 6 1, 3) := dk_132 6 1 (dk_at dksX0_odds_6 20 rfl rfl)
theorem dX0_odds_162 : decode cX0_odds 162 = .ok (.goto (-72), 3) := dk_167 255 184 (dk_at dksX0_odds_7 0 rfl rfl)
theorem dX0_odds_165 : decode cX0_odds 165 = .ok (.aload_n 0, 1) := dk_42 (dk_at dksX0_odds_7 3 rfl rfl)
theorem dX0_odds_166 : decode cX0_odds 166 = .ok (.iload 5, 2) := dk_21 5 (dk_at dksX0_odds_7 4 rfl rfl)
theorem dX0_odds_168 : decode cX0_odds 168 = .ok (.i2l, 1) := dk_133 (dk_at dksX0_odds_7 6 rfl rfl)
theorem dX0_odds_169 : decode cX0_odds 169 = .ok (.iload 4, 2) := dk_21 4 (dk_at dksX0_odds_7 7 rfl rfl)
theorem dX0_odds_171 : decode cX0_odds 171 = .ok (.i2l, 1) := dk_133 (dk_at dksX0_odds_7 9 rfl rfl)
theorem dX0_odds_172 : decode cX0_odds 172 = .ok (.invokevirtual 378, 3) := dk_182 1 122 (dk_at dksX0_odds_7 10 rfl rfl)
theorem dX0_odds_175 : decode cX0_odds 175 = .ok (.pop, 1) := dk_87 (dk_at dksX0_odds_7 13 rfl rfl)
theorem dX0_odds_176 : decode cX0_odds 176 = .ok (.iconst 1, 1) := dk_4 (dk_at dksX0_odds_7 14 rfl rfl)
theorem dX0_odds_177 : decode cX0_odds 177 = .ok (.ireturn, 1) := dk_172 (dk_at dksX0_odds_7 15 rfl rfl)
def dkwX0_mark_3 : List UInt8 := [42, 89, 180, 1, 194, 4, 96, 181, 1, 194, 42, 180, 1, 194, 172]
abbrev dktX0_mark_3 : List UInt8 := dkwX0_mark_3 ++ []
def dkwX0_mark_2 : List UInt8 := [187, 0, 52, 89, 183, 0, 54, 83, 42, 180, 0, 59, 42, 180, 1, 194, 50, 42, 180, 0, 55, 182, 1, 197]
abbrev dktX0_mark_2 : List UInt8 := dkwX0_mark_2 ++ dktX0_mark_3
def dkwX0_mark_1 : List UInt8 := [2, 172, 42, 180, 0, 59, 42, 180, 1, 194, 50, 199, 0, 19, 42, 180, 0, 59, 42, 180, 1, 194]
abbrev dktX0_mark_1 : List UInt8 := dkwX0_mark_1 ++ dktX0_mark_2
def dkwX0_mark_0 : List UInt8 := [42, 42, 180, 1, 194, 6, 160, 0, 7, 7, 167, 0, 4, 3, 181, 0, 73, 42, 180, 0, 73, 158, 0, 5]
abbrev dktX0_mark_0 : List UInt8 := dkwX0_mark_0 ++ dktX0_mark_1
theorem dksX0_mark_0 : cX0_mark.data.toList.drop 0 = dktX0_mark_0 := by decide +kernel
theorem dksX0_mark_1 : cX0_mark.data.toList.drop 24 = dktX0_mark_1 := dk_seg dksX0_mark_0 24 rfl rfl
theorem dksX0_mark_2 : cX0_mark.data.toList.drop 46 = dktX0_mark_2 := dk_seg dksX0_mark_1 22 rfl rfl
theorem dksX0_mark_3 : cX0_mark.data.toList.drop 70 = dktX0_mark_3 := dk_seg dksX0_mark_2 24 rfl rfl
theorem dX0_mark_0 : decode cX0_mark 0 = .ok (.aload_n 0, 1) := dk_42 (dk_at dksX0_mark_0 0 rfl rfl)
theorem dX0_mark_1 : decode cX0_mark 1 = .ok (.aload_n 0, 1) := dk_42 (dk_at dksX0_mark_0 1 rfl rfl)
theorem dX0_mark_2 : decode cX0_mark 2 = .ok (.getfield 450, 3) := dk_180 1 194 (dk_at dksX0_mark_0 2 rfl rfl)
theorem dX0_mark_5 : decode cX0_mark 5 = .ok (.iconst 3, 1) := dk_6 (dk_at dksX0_mark_0 5 rfl rfl)
theorem dX0_mark_6 : decode cX0_mark 6 = .ok (.if_icmp .ne 7, 3) := dk_160 0 7 (dk_at dksX0_mark_0 6 rfl rfl)
theorem dX0_mark_9 : decode cX0_mark 9 = .ok (.iconst 4, 1) := dk_7 (dk_at dksX0_mark_0 9 rfl rfl)
theorem dX0_mark_10 : decode cX0_mark 10 = .ok (.goto 4, 3) := dk_167 0 4 (dk_at dksX0_mark_0 10 rfl rfl)
theorem dX0_mark_13 : decode cX0_mark 13 = .ok (.iconst 0, 1) := dk_3 (dk_at dksX0_mark_0 13 rfl rfl)
theorem dX0_mark_14 : decode cX0_mark 14 = .ok (.putfield 73, 3) := dk_181 0 73 (dk_at dksX0_mark_0 14 rfl rfl)
theorem dX0_mark_17 : decode cX0_mark 17 = .ok (.aload_n 0, 1) := dk_42 (dk_at dksX0_mark_0 17 rfl rfl)
theorem dX0_mark_18 : decode cX0_mark 18 = .ok (.getfield 73, 3) := dk_180 0 73 (dk_at dksX0_mark_0 18 rfl rfl)
theorem dX0_mark_21 : decode cX0_mark 21 = .ok (.ifCond .le 5, 3) := dk_158 0 5 (dk_at dksX0_mark_0 21 rfl rfl)
theorem dX0_mark_24 : decode cX0_mark 24 = .ok (.iconst (-1), 1) := dk_2 (dk_at dksX0_mark_1 0 rfl rfl)
theorem dX0_mark_25 : decode cX0_mark 25 = .ok (.ireturn, 1) := dk_172 (dk_at dksX0_mark_1 1 rfl rfl)
theorem dX0_mark_26 : decode cX0_mark 26 = .ok (.aload_n 0, 1) := dk_42 (dk_at dksX0_mark_1 2 rfl rfl)
theorem dX0_mark_27 : decode cX0_mark 27 = .ok (.getfield 59, 3) := dk_180 0 59 (dk_at dksX0_mark_1 3 rfl rfl)
theorem dX0_mark_30 : decode cX0_mark 30 = .ok (.aload_n 0, 1) := dk_42 (dk_at dksX0_mark_1 6 rfl rfl)
theorem dX0_mark_31 : decode cX0_mark 31 = .ok (.getfield 450, 3) := dk_180 1 194 (dk_at dksX0_mark_1 7 rfl rfl)
theorem dX0_mark_34 : decode cX0_mark 34 = .ok (.aaload, 1) := dk_50 (dk_at dksX0_mark_1 10 rfl rfl)
theorem dX0_mark_35 : decode cX0_mark 35 = .ok (.ifnonnull 19, 3) := dk_199 0 19 (dk_at dksX0_mark_1 11 rfl rfl)
theorem dX0_mark_38 : decode cX0_mark 38 = .ok (.aload_n 0, 1) := dk_42 (dk_at dksX0_mark_1 14 rfl rfl)
theorem dX0_mark_39 : decode cX0_mark 39 = .ok (.getfield 59, 3) := dk_180 0 59 (dk_at dksX0_mark_1 15 rfl rfl)
theorem dX0_mark_42 : decode cX0_mark 42 = .ok (.aload_n 0, 1) := dk_42 (dk_at dksX0_mark_1 18 rfl rfl)
theorem dX0_mark_43 : decode cX0_mark 43 = .ok (.getfield 450, 3) := dk_180 1 194 (dk_at dksX0_mark_1 19 rfl rfl)
theorem dX0_mark_46 : decode cX0_mark 46 = .ok (.new 52, 3) := dk_187 0 52 (dk_at dksX0_mark_2 0 rfl rfl)
theorem dX0_mark_49 : decode cX0_mark 49 = .ok (.dup, 1) := dk_89 (dk_at dksX0_mark_2 3 rfl rfl)
theorem dX0_mark_50 : decode cX0_mark 50 = .ok (.invokespecial 54, 3) := dk_183 0 54 (dk_at dksX0_mark_2 4 rfl rfl)
theorem dX0_mark_53 : decode cX0_mark 53 = .ok (.aastore, 1) := dk_83 (dk_at dksX0_mark_2 7 rfl rfl)
theorem dX0_mark_54 : decode cX0_mark 54 = .ok (.aload_n 0, 1) := dk_42 (dk_at dksX0_mark_2 8 rfl rfl)
theorem dX0_mark_55 : decode cX0_mark 55 = .ok (.getfield 59, 3) := dk_180 0 59 (dk_at dksX0_mark_2 9 rfl rfl)
theorem dX0_mark_58 : decode cX0_mark 58 = .ok (.aload_n 0, 1) := dk_42 (dk_at dksX0_mark_2 12 rfl rfl)
theorem dX0_mark_59 : decode cX0_mark 59 = .ok (.getfield 450, 3) := dk_180 1 194 (dk_at dksX0_mark_2 13 rfl rfl)
theorem dX0_mark_62 : decode cX0_mark 62 = .ok (.aaload, 1) := dk_50 (dk_at dksX0_mark_2 16 rfl rfl)
theorem dX0_mark_63 : decode cX0_mark 63 = .ok (.aload_n 0, 1) := dk_42 (dk_at dksX0_mark_2 17 rfl rfl)
theorem dX0_mark_64 : decode cX0_mark 64 = .ok (.getfield 55, 3) := dk_180 0 55 (dk_at dksX0_mark_2 18 rfl rfl)
theorem dX0_mark_67 : decode cX0_mark 67 = .ok (.invokevirtual 453, 3) := dk_182 1 197 (dk_at dksX0_mark_2 21 rfl rfl)
theorem dX0_mark_70 : decode cX0_mark 70 = .ok (.aload_n 0, 1) := dk_42 (dk_at dksX0_mark_3 0 rfl rfl)
theorem dX0_mark_71 : decode cX0_mark 71 = .ok (.dup, 1) := dk_89 (dk_at dksX0_mark_3 1 rfl rfl)
theorem dX0_mark_72 : decode cX0_mark 72 = .ok (.getfield 450, 3) := dk_180 1 194 (dk_at dksX0_mark_3 2 rfl rfl)
theorem dX0_mark_75 : decode cX0_mark 75 = .ok (.iconst 1, 1) := dk_4 (dk_at dksX0_mark_3 5 rfl rfl)
theorem dX0_mark_76 : decode cX0_mark 76 = .ok (.iadd, 1) := dk_96 (dk_at dksX0_mark_3 6 rfl rfl)
theorem dX0_mark_77 : decode cX0_mark 77 = .ok (.putfield 450, 3) := dk_181 1 194 (dk_at dksX0_mark_3 7 rfl rfl)
theorem dX0_mark_80 : decode cX0_mark 80 = .ok (.aload_n 0, 1) := dk_42 (dk_at dksX0_mark_3 10 rfl rfl)
theorem dX0_mark_81 : decode cX0_mark 81 = .ok (.getfield 450, 3) := dk_180 1 194 (dk_at dksX0_mark_3 11 rfl rfl)
theorem dX0_mark_84 : decode cX0_mark 84 = .ok (.ireturn, 1) := dk_172 (dk_at dksX0_mark_3 14 rfl rfl)
def dkwX0_back_2 : List UInt8 := [50, 182, 1, 197, 42, 180, 1, 194, 172]
abbrev dktX0_back_2 : List UInt8 := dkwX0_back_2 ++ []
def dkwX0_back_1 : List UInt8 := [2, 172, 42, 89, 180, 1, 194, 4, 100, 181, 1, 194, 42, 180, 0, 55, 42, 180, 0, 59, 42, 180, 1, 194]
abbrev dktX0_back_1 : List UInt8 := dkwX0_back_1 ++ dktX0_back_2
def dkwX0_back_0 : List UInt8 := [42, 42, 180, 1, 194, 154, 0, 8, 16, 6, 167, 0, 4, 3, 181, 0, 73, 42, 180, 0, 73, 158, 0, 5]
abbrev dktX0_back_0 : List UInt8 := dkwX0_back_0 ++ dktX0_back_1
theorem dksX0_back_0 : cX0_back.data.toList.drop 0 = dktX0_back_0 := by decide +kernel
theorem dksX0_back_1 : cX0_back.data.toList.drop 24 = dktX0_back_1 := dk_seg dksX0_back_0 24 rfl rfl
theorem dksX0_back_2 : cX0_back.data.toList.drop 48 = dktX0_back_2 := dk_seg dksX0_back_1 24 rfl rfl
theorem dX0_back_0 : decode cX0_back 0 = .ok (.aload_n 0, 1) := dk_42 (dk_at dksX0_back_0 0 rfl rfl)
theorem dX0_back_1 : decode cX0_back 1 = .ok (.aload_n 0, 1) := dk_42 (dk_at dksX0_back_0 1 rfl rfl)
theorem dX0_back_2 : decode cX0_back 2 = .ok (.getfield 450, 3) := dk_180 1 194 (dk_at dksX0_back_0 2 rfl rfl)
theorem dX0_back_5 : decode cX0_back 5 = .ok (.ifCond .ne 8, 3) := dk_154 0 8 (dk_at dksX0_back_0 5 rfl rfl)
theorem dX0_back_8 : decode cX0_back 8 = .ok (.bipush 6, 2) := dk_16 6 (dk_at dksX0_back_0 8 rfl rfl)
theorem dX0_back_10 : decode cX0_back 10 = .ok (.goto 4, 3) := dk_167 0 4 (dk_at dksX0_back_0 10 rfl rfl)
theorem dX0_back_13 : decode cX0_back 13 = .ok (.iconst 0, 1) := dk_3 (dk_at dksX0_back_0 13 rfl rfl)
theorem dX0_back_14 : decode cX0_back 14 = .ok (.putfield 73, 3) := dk_181 0 73 (dk_at dksX0_back_0 14 rfl rfl)
theorem dX0_back_17 : decode cX0_back 17 = .ok (.aload_n 0, 1) := dk_42 (dk_at dksX0_back_0 17 rfl rfl)
theorem dX0_back_18 : decode cX0_back 18 = .ok (.getfield 73, 3) := dk_180 0 73 (dk_at dksX0_back_0 18 rfl rfl)
theorem dX0_back_21 : decode cX0_back 21 = .ok (.ifCond .le 5, 3) := dk_158 0 5 (dk_at dksX0_back_0 21 rfl rfl)
theorem dX0_back_24 : decode cX0_back 24 = .ok (.iconst (-1), 1) := dk_2 (dk_at dksX0_back_1 0 rfl rfl)
theorem dX0_back_25 : decode cX0_back 25 = .ok (.ireturn, 1) := dk_172 (dk_at dksX0_back_1 1 rfl rfl)
theorem dX0_back_26 : decode cX0_back 26 = .ok (.aload_n 0, 1) := dk_42 (dk_at dksX0_back_1 2 rfl rfl)
theorem dX0_back_27 : decode cX0_back 27 = .ok (.dup, 1) := dk_89 (dk_at dksX0_back_1 3 rfl rfl)
theorem dX0_back_28 : decode cX0_back 28 = .ok (.getfield 450, 3) := dk_180 1 194 (dk_at dksX0_back_1 4 rfl rfl)
theorem dX0_back_31 : decode cX0_back 31 = .ok (.iconst 1, 1) := dk_4 (dk_at dksX0_back_1 7 rfl rfl)
theorem dX0_back_32 : decode cX0_back 32 = .ok (.isub, 1) := dk_100 (dk_at dksX0_back_1 8 rfl rfl)
theorem dX0_back_33 : decode cX0_back 33 = .ok (.putfield 450, 3) := dk_181 1 194 (dk_at dksX0_back_1 9 rfl rfl)
theorem dX0_back_36 : decode cX0_back 36 = .ok (.aload_n 0, 1) := dk_42 (dk_at dksX0_back_1 12 rfl rfl)
theorem dX0_back_37 : decode cX0_back 37 = .ok (.getfield 55, 3) := dk_180 0 55 (dk_at dksX0_back_1 13 rfl rfl)
theorem dX0_back_40 : decode cX0_back 40 = .ok (.aload_n 0, 1) := dk_42 (dk_at dksX0_back_1 16 rfl rfl)
theorem dX0_back_41 : decode cX0_back 41 = .ok (.getfield 59, 3) := dk_180 0 59 (dk_at dksX0_back_1 17 rfl rfl)
theorem dX0_back_44 : decode cX0_back 44 = .ok (.aload_n 0, 1) := dk_42 (dk_at dksX0_back_1 20 rfl rfl)
theorem dX0_back_45 : decode cX0_back 45 = .ok (.getfield 450, 3) := dk_180 1 194 (dk_at dksX0_back_1 21 rfl rfl)
theorem dX0_back_48 : decode cX0_back 48 = .ok (.aaload, 1) := dk_50 (dk_at dksX0_back_2 0 rfl rfl)
theorem dX0_back_49 : decode cX0_back 49 = .ok (.invokevirtual 453, 3) := dk_182 1 197 (dk_at dksX0_back_2 1 rfl rfl)
theorem dX0_back_52 : decode cX0_back 52 = .ok (.aload_n 0, 1) := dk_42 (dk_at dksX0_back_2 4 rfl rfl)
theorem dX0_back_53 : decode cX0_back 53 = .ok (.getfield 450, 3) := dk_180 1 194 (dk_at dksX0_back_2 5 rfl rfl)
theorem dX0_back_56 : decode cX0_back 56 = .ok (.ireturn, 1) := dk_172 (dk_at dksX0_back_2 8 rfl rfl)
theorem dX1_init_0 : decode cX1_init 0 = .ok (.aload_n 0, 1) := by decide +kernel
theorem dX1_init_1 : decode cX1_init 1 = .ok (.invokespecial 1, 3) := by decide +kernel
theorem dX1_init_4 : decode cX1_init 4 = .ok (.return_, 1) := by decide +kernel
def dkwJ0_init_1 : List UInt8 := [182, 0, 27, 87, 177]
abbrev dktJ0_init_1 : List UInt8 := dkwJ0_init_1 ++ []
def dkwJ0_init_0 : List UInt8 := [42, 183, 0, 1, 42, 42, 181, 0, 7, 42, 178, 0, 13, 181, 0, 17, 42, 178, 0, 20, 181, 0, 24, 42]
abbrev dktJ0_init_0 : List UInt8 := dkwJ0_init_0 ++ dktJ0_init_1
theorem dksJ0_init_0 : cJ0_init.data.toList.drop 0 = dktJ0_init_0 := by decide +kernel
theorem dksJ0_init_1 : cJ0_init.data.toList.drop 24 = dktJ0_init_1 := dk_seg dksJ0_init_0 24 rfl rfl
theorem dJ0_init_0 : decode cJ0_init 0 = .ok (.aload_n 0, 1) := dk_42 (dk_at dksJ0_init_0 0 rfl rfl)
theorem dJ0_init_1 : decode cJ0_init 1 = .ok (.invokespecial 1, 3) := dk_183 0 1 (dk_at dksJ0_init_0 1 rfl rfl)
theorem dJ0_init_4 : decode cJ0_init 4 = .ok (.aload_n 0, 1) := dk_42 (dk_at dksJ0_init_0 4 rfl rfl)
theorem dJ0_init_5 : decode cJ0_init 5 = .ok (.aload_n 0, 1) := dk_42 (dk_at dksJ0_init_0 5 rfl rfl)
theorem dJ0_init_6 : decode cJ0_init 6 = .ok (.putfield 7, 3) := dk_181 0 7 (dk_at dksJ0_init_0 6 rfl rfl)
theorem dJ0_init_9 : decode cJ0_init 9 = .ok (.aload_n 0, 1) := dk_42 (dk_at dksJ0_init_0 9 rfl rfl)
theorem dJ0_init_10 : decode cJ0_init 10 = .ok (.getstatic 13, 3) := dk_178 0 13 (dk_at dksJ0_init_0 10 rfl rfl)
theorem dJ0_init_13 : decode cJ0_init 13 = .ok (.putfield 17, 3) := dk_181 0 17 (dk_at dksJ0_init_0 13 rfl rfl)
theorem dJ0_init_16 : decode cJ0_init 16 = .ok (.aload_n 0, 1) := dk_42 (dk_at dksJ0_init_0 16 rfl rfl)
theorem dJ0_init_17 : decode cJ0_init 17 = .ok (.getstatic 20, 3) := dk_178 0 20 (dk_at dksJ0_init_0 17 rfl rfl)
theorem dJ0_init_20 : decode cJ0_init 20 = .ok (.putfield 24, 3) := dk_181 0 24 (dk_at dksJ0_init_0 20 rfl rfl)
theorem dJ0_init_23 : decode cJ0_init 23 = .ok (.aload_n 0, 1) := dk_42 (dk_at dksJ0_init_0 23 rfl rfl)
theorem dJ0_init_24 : decode cJ0_init 24 = .ok (.invokevirtual 27, 3) := dk_182 0 27 (dk_at dksJ0_init_1 0 rfl rfl)
theorem dJ0_init_27 : decode cJ0_init 27 = .ok (.pop, 1) := dk_87 (dk_at dksJ0_init_1 3 rfl rfl)
theorem dJ0_init_28 : decode cJ0_init 28 = .ok (.return_, 1) := dk_177 (dk_at dksJ0_init_1 4 rfl rfl)
def dkwJ0_init_2_2 : List UInt8 := [44, 181, 0, 7, 29, 154, 0, 8, 42, 1, 181, 0, 24, 177]
abbrev dktJ0_init_2_2 : List UInt8 := dkwJ0_init_2_2 ++ []
def dkwJ0_init_2_1 : List UInt8 := [21, 4, 153, 0, 11, 42, 182, 0, 27, 87, 167, 0, 8, 42, 1, 181, 0, 17, 42, 43, 181, 0, 31, 42]
abbrev dktJ0_init_2_1 : List UInt8 := dkwJ0_init_2_1 ++ dktJ0_init_2_2
def dkwJ0_init_2_0 : List UInt8 := [42, 183, 0, 1, 42, 42, 181, 0, 7, 42, 178, 0, 13, 181, 0, 17, 42, 178, 0, 20, 181, 0, 24]
abbrev dktJ0_init_2_0 : List UInt8 := dkwJ0_init_2_0 ++ dktJ0_init_2_1
theorem dksJ0_init_2_0 : cJ0_init_2.data.toList.drop 0 = dktJ0_init_2_0 := by decide +kernel
theorem dksJ0_init_2_1 : cJ0_init_2.data.toList.drop 23 = dktJ0_init_2_1 := dk_seg dksJ0_init_2_0 23 rfl rfl
theorem dksJ0_init_2_2 : cJ0_init_2.data.toList.drop 47 = dktJ0_init_2_2 := dk_seg dksJ0_init_2_1 24 rfl rfl
theorem dJ0_init_2_0 : decode cJ0_init_2 0 = .ok (.aload_n 0, 1) := dk_42 (dk_at dksJ0_init_2_0 0 rfl rfl)
theorem dJ0_init_2_1 : decode cJ0_init_2 1 = .ok (.invokespecial 1, 3) := dk_183 0 1 (dk_at dksJ0_init_2_0 1 rfl rfl)
theorem dJ0_init_2_4 : decode cJ0_init_2 4 = .ok (.aload_n 0, 1) := dk_42 (dk_at dksJ0_init_2_0 4 rfl rfl)
theorem dJ0_init_2_5 : decode cJ0_init_2 5 = .ok (.aload_n 0, 1) := dk_42 (dk_at dksJ0_init_2_0 5 rfl rfl)
theorem dJ0_init_2_6 : decode cJ0_init_2 6 = .ok (.putfield 7, 3) := dk_181 0 7 (dk_at dksJ0_init_2_0 6 rfl rfl)
theorem dJ0_init_2_9 : decode cJ0_init_2 9 = .ok (.aload_n 0, 1) := dk_42 (dk_at dksJ0_init_2_0 9 rfl rfl)
theorem dJ0_init_2_10 : decode cJ0_init_2 10 = .ok (.getstatic 13, 3) := dk_178 0 13 (dk_at dksJ0_init_2_0 10 rfl rfl)
theorem dJ0_init_2_13 : decode cJ0_init_2 13 = .ok (.putfield 17, 3) := dk_181 0 17 (dk_at dksJ0_init_2_0 13 rfl rfl)
theorem dJ0_init_2_16 : decode cJ0_init_2 16 = .ok (.aload_n 0, 1) := dk_42 (dk_at dksJ0_init_2_0 16 rfl rfl)
theorem dJ0_init_2_17 : decode cJ0_init_2 17 = .ok (.getstatic 20, 3) := dk_178 0 20 (dk_at dksJ0_init_2_0 17 rfl rfl)
theorem dJ0_init_2_20 : decode cJ0_init_2 20 = .ok (.putfield 24, 3) := dk_181 0 24 (dk_at dksJ0_init_2_0 20 rfl rfl)
theorem dJ0_init_2_23 : decode cJ0_init_2 23 = .ok (.iload 4, 2) := dk_21 4 (dk_at dksJ0_init_2_1 0 rfl rfl)
theorem dJ0_init_2_25 : decode cJ0_init_2 25 = .ok (.ifCond .eq 11, 3) := dk_153 0 11 (dk_at dksJ0_init_2_1 2 rfl rfl)
theorem dJ0_init_2_28 : decode cJ0_init_2 28 = .ok (.aload_n 0, 1) := dk_42 (dk_at dksJ0_init_2_1 5 rfl rfl)
theorem dJ0_init_2_29 : decode cJ0_init_2 29 = .ok (.invokevirtual 27, 3) := dk_182 0 27 (dk_at dksJ0_init_2_1 6 rfl rfl)
theorem dJ0_init_2_32 : decode cJ0_init_2 32 = .ok (.pop, 1) := dk_87 (dk_at dksJ0_init_2_1 9 rfl rfl)
theorem dJ0_init_2_33 : decode cJ0_init_2 33 = .ok (.goto 8, 3) := dk_167 0 8 (dk_at dksJ0_init_2_1 10 rfl rfl)
theorem dJ0_init_2_36 : decode cJ0_init_2 36 = .ok (.aload_n 0, 1) := dk_42 (dk_at dksJ0_init_2_1 13 rfl rfl)
theorem dJ0_init_2_37 : decode cJ0_init_2 37 = .ok (.aconst_null, 1) := dk_1 (dk_at dksJ0_init_2_1 14 rfl rfl)
theorem dJ0_init_2_38 : decode cJ0_init_2 38 = .ok (.putfield 17, 3) := dk_181 0 17 (dk_at dksJ0_init_2_1 15 rfl rfl)
theorem dJ0_init_2_41 : decode cJ0_init_2 41 = .ok (.aload_n 0, 1) := dk_42 (dk_at dksJ0_init_2_1 18 rfl rfl)
theorem dJ0_init_2_42 : decode cJ0_init_2 42 = .ok (.aload_n 1, 1) := dk_43 (dk_at dksJ0_init_2_1 19 rfl rfl)
theorem dJ0_init_2_43 : decode cJ0_init_2 43 = .ok (.putfield 31, 3) := dk_181 0 31 (dk_at dksJ0_init_2_1 20 rfl rfl)
theorem dJ0_init_2_46 : decode cJ0_init_2 46 = .ok (.aload_n 0, 1) := dk_42 (dk_at dksJ0_init_2_1 23 rfl rfl)
theorem dJ0_init_2_47 : decode cJ0_init_2 47 = .ok (.aload_n 2, 1) := dk_44 (dk_at dksJ0_init_2_2 0 rfl rfl)
theorem dJ0_init_2_48 : decode cJ0_init_2 48 = .ok (.putfield 7, 3) := dk_181 0 7 (dk_at dksJ0_init_2_2 1 rfl rfl)
theorem dJ0_init_2_51 : decode cJ0_init_2 51 = .ok (.iload_n 3, 1) := dk_29 (dk_at dksJ0_init_2_2 4 rfl rfl)
theorem dJ0_init_2_52 : decode cJ0_init_2 52 = .ok (.ifCond .ne 8, 3) := dk_154 0 8 (dk_at dksJ0_init_2_2 5 rfl rfl)
theorem dJ0_init_2_55 : decode cJ0_init_2 55 = .ok (.aload_n 0, 1) := dk_42 (dk_at dksJ0_init_2_2 8 rfl rfl)
theorem dJ0_init_2_56 : decode cJ0_init_2 56 = .ok (.aconst_null, 1) := dk_1 (dk_at dksJ0_init_2_2 9 rfl rfl)
theorem dJ0_init_2_57 : decode cJ0_init_2 57 = .ok (.putfield 24, 3) := dk_181 0 24 (dk_at dksJ0_init_2_2 10 rfl rfl)
theorem dJ0_init_2_60 : decode cJ0_init_2 60 = .ok (.return_, 1) := dk_177 (dk_at dksJ0_init_2_2 13 rfl rfl)
def dkwJ0_init_3_1 : List UInt8 := [182, 0, 27, 87, 42, 43, 181, 0, 31, 177]
abbrev dktJ0_init_3_1 : List UInt8 := dkwJ0_init_3_1 ++ []
def dkwJ0_init_3_0 : List UInt8 := [42, 183, 0, 1, 42, 42, 181, 0, 7, 42, 178, 0, 13, 181, 0, 17, 42, 178, 0, 20, 181, 0, 24, 42]
abbrev dktJ0_init_3_0 : List UInt8 := dkwJ0_init_3_0 ++ dktJ0_init_3_1
theorem dksJ0_init_3_0 : cJ0_init_3.data.toList.drop 0 = dktJ0_init_3_0 := by decide +kernel
theorem dksJ0_init_3_1 : cJ0_init_3.data.toList.drop 24 = dktJ0_init_3_1 := dk_seg dksJ0_init_3_0 24 rfl rfl
theorem dJ0_init_3_0 : decode cJ0_init_3 0 = .ok (.aload_n 0, 1) := dk_42 (dk_at dksJ0_init_3_0 0 rfl rfl)
theorem dJ0_init_3_1 : decode cJ0_init_3 1 = .ok (.invokespecial 1, 3) := dk_183 0 1 (dk_at dksJ0_init_3_0 1 rfl rfl)
theorem dJ0_init_3_4 : decode cJ0_init_3 4 = .ok (.aload_n 0, 1) := dk_42 (dk_at dksJ0_init_3_0 4 rfl rfl)
theorem dJ0_init_3_5 : decode cJ0_init_3 5 = .ok (.aload_n 0, 1) := dk_42 (dk_at dksJ0_init_3_0 5 rfl rfl)
theorem dJ0_init_3_6 : decode cJ0_init_3 6 = .ok (.putfield 7, 3) := dk_181 0 7 (dk_at dksJ0_init_3_0 6 rfl rfl)
theorem dJ0_init_3_9 : decode cJ0_init_3 9 = .ok (.aload_n 0, 1) := dk_42 (dk_at dksJ0_init_3_0 9 rfl rfl)
theorem dJ0_init_3_10 : decode cJ0_init_3 10 = .ok (.getstatic 13, 3) := dk_178 0 13 (dk_at dksJ0_init_3_0 10 rfl rfl)
theorem dJ0_init_3_13 : decode cJ0_init_3 13 = .ok (.putfield 17, 3) := dk_181 0 17 (dk_at dksJ0_init_3_0 13 rfl rfl)
theorem dJ0_init_3_16 : decode cJ0_init_3 16 = .ok (.aload_n 0, 1) := dk_42 (dk_at dksJ0_init_3_0 16 rfl rfl)
theorem dJ0_init_3_17 : decode cJ0_init_3 17 = .ok (.getstatic 20, 3) := dk_178 0 20 (dk_at dksJ0_init_3_0 17 rfl rfl)
theorem dJ0_init_3_20 : decode cJ0_init_3 20 = .ok (.putfield 24, 3) := dk_181 0 24 (dk_at dksJ0_init_3_0 20 rfl rfl)
theorem dJ0_init_3_23 : decode cJ0_init_3 23 = .ok (.aload_n 0, 1) := dk_42 (dk_at dksJ0_init_3_0 23 rfl rfl)
theorem dJ0_init_3_24 : decode cJ0_init_3 24 = .ok (.invokevirtual 27, 3) := dk_182 0 27 (dk_at dksJ0_init_3_1 0 rfl rfl)
theorem dJ0_init_3_27 : decode cJ0_init_3 27 = .ok (.pop, 1) := dk_87 (dk_at dksJ0_init_3_1 3 rfl rfl)
theorem dJ0_init_3_28 : decode cJ0_init_3 28 = .ok (.aload_n 0, 1) := dk_42 (dk_at dksJ0_init_3_1 4 rfl rfl)
theorem dJ0_init_3_29 : decode cJ0_init_3 29 = .ok (.aload_n 1, 1) := dk_43 (dk_at dksJ0_init_3_1 5 rfl rfl)
theorem dJ0_init_3_30 : decode cJ0_init_3 30 = .ok (.putfield 31, 3) := dk_181 0 31 (dk_at dksJ0_init_3_1 6 rfl rfl)
theorem dJ0_init_3_33 : decode cJ0_init_3 33 = .ok (.return_, 1) := dk_177 (dk_at dksJ0_init_3_1 9 rfl rfl)
def dkwJ1_init_0 : List UInt8 := [42, 43, 44, 29, 21, 4, 183, 0, 16, 177]
abbrev dktJ1_init_0 : List UInt8 := dkwJ1_init_0 ++ []
theorem dksJ1_init_0 : cJ1_init.data.toList.drop 0 = dktJ1_init_0 := by decide +kernel
theorem dJ1_init_0 : decode cJ1_init 0 = .ok (.aload_n 0, 1) := dk_42 (dk_at dksJ1_init_0 0 rfl rfl)
theorem dJ1_init_1 : decode cJ1_init 1 = .ok (.aload_n 1, 1) := dk_43 (dk_at dksJ1_init_0 1 rfl rfl)
theorem dJ1_init_2 : decode cJ1_init 2 = .ok (.aload_n 2, 1) := dk_44 (dk_at dksJ1_init_0 2 rfl rfl)
theorem dJ1_init_3 : decode cJ1_init 3 = .ok (.iload_n 3, 1) := dk_29 (dk_at dksJ1_init_0 3 rfl rfl)
theorem dJ1_init_4 : decode cJ1_init 4 = .ok (.iload 4, 2) := dk_21 4 (dk_at dksJ1_init_0 4 rfl rfl)
theorem dJ1_init_6 : decode cJ1_init 6 = .ok (.invokespecial 16, 3) := dk_183 0 16 (dk_at dksJ1_init_0 6 rfl rfl)
theorem dJ1_init_9 : decode cJ1_init 9 = .ok (.return_, 1) := dk_177 (dk_at dksJ1_init_0 9 rfl rfl)
def dkwJ1_init_2_0 : List UInt8 := [42, 43, 183, 0, 7, 177]
abbrev dktJ1_init_2_0 : List UInt8 := dkwJ1_init_2_0 ++ []
theorem dksJ1_init_2_0 : cJ1_init_2.data.toList.drop 0 = dktJ1_init_2_0 := by decide +kernel
theorem dJ1_init_2_0 : decode cJ1_init_2 0 = .ok (.aload_n 0, 1) := dk_42 (dk_at dksJ1_init_2_0 0 rfl rfl)
theorem dJ1_init_2_1 : decode cJ1_init_2 1 = .ok (.aload_n 1, 1) := dk_43 (dk_at dksJ1_init_2_0 1 rfl rfl)
theorem dJ1_init_2_2 : decode cJ1_init_2 2 = .ok (.invokespecial 7, 3) := dk_183 0 7 (dk_at dksJ1_init_2_0 2 rfl rfl)
theorem dJ1_init_2_5 : decode cJ1_init_2 5 = .ok (.return_, 1) := dk_177 (dk_at dksJ1_init_2_0 5 rfl rfl)
def dkwX2_init_0 : List UInt8 := [42, 1, 1, 3, 3, 183, 0, 1, 177]
abbrev dktX2_init_0 : List UInt8 := dkwX2_init_0 ++ []
theorem dksX2_init_0 : cX2_init.data.toList.drop 0 = dktX2_init_0 := by decide +kernel
theorem dX2_init_0 : decode cX2_init 0 = .ok (.aload_n 0, 1) := dk_42 (dk_at dksX2_init_0 0 rfl rfl)
theorem dX2_init_1 : decode cX2_init 1 = .ok (.aconst_null, 1) := dk_1 (dk_at dksX2_init_0 1 rfl rfl)
theorem dX2_init_2 : decode cX2_init 2 = .ok (.aconst_null, 1) := dk_1 (dk_at dksX2_init_0 2 rfl rfl)
theorem dX2_init_3 : decode cX2_init 3 = .ok (.iconst 0, 1) := dk_3 (dk_at dksX2_init_0 3 rfl rfl)
theorem dX2_init_4 : decode cX2_init 4 = .ok (.iconst 0, 1) := dk_3 (dk_at dksX2_init_0 4 rfl rfl)
theorem dX2_init_5 : decode cX2_init 5 = .ok (.invokespecial 1, 3) := dk_183 0 1 (dk_at dksX2_init_0 5 rfl rfl)
theorem dX2_init_8 : decode cX2_init 8 = .ok (.return_, 1) := dk_177 (dk_at dksX2_init_0 8 rfl rfl)
def dkwX2_at_0 : List UInt8 := [42, 27, 181, 0, 7, 42, 28, 181, 0, 13, 42, 176]
abbrev dktX2_at_0 : List UInt8 := dkwX2_at_0 ++ []
theorem dksX2_at_0 : cX2_at.data.toList.drop 0 = dktX2_at_0 := by decide +kernel
theorem dX2_at_0 : decode cX2_at 0 = .ok (.aload_n 0, 1) := dk_42 (dk_at dksX2_at_0 0 rfl rfl)
theorem dX2_at_1 : decode cX2_at 1 = .ok (.iload_n 1, 1) := dk_27 (dk_at dksX2_at_0 1 rfl rfl)
theorem dX2_at_2 : decode cX2_at 2 = .ok (.putfield 7, 3) := dk_181 0 7 (dk_at dksX2_at_0 2 rfl rfl)
theorem dX2_at_5 : decode cX2_at 5 = .ok (.aload_n 0, 1) := dk_42 (dk_at dksX2_at_0 5 rfl rfl)
theorem dX2_at_6 : decode cX2_at 6 = .ok (.iload_n 2, 1) := dk_28 (dk_at dksX2_at_0 6 rfl rfl)
theorem dX2_at_7 : decode cX2_at 7 = .ok (.putfield 13, 3) := dk_181 0 13 (dk_at dksX2_at_0 7 rfl rfl)
theorem dX2_at_10 : decode cX2_at 10 = .ok (.aload_n 0, 1) := dk_42 (dk_at dksX2_at_0 10 rfl rfl)
theorem dX2_at_11 : decode cX2_at 11 = .ok (.areturn, 1) := dk_176 (dk_at dksX2_at_0 11 rfl rfl)
def dkwX3_init_0 : List UInt8 := [42, 1, 1, 3, 3, 183, 0, 1, 177]
abbrev dktX3_init_0 : List UInt8 := dkwX3_init_0 ++ []
theorem dksX3_init_0 : cX3_init.data.toList.drop 0 = dktX3_init_0 := by decide +kernel
theorem dX3_init_0 : decode cX3_init 0 = .ok (.aload_n 0, 1) := dk_42 (dk_at dksX3_init_0 0 rfl rfl)
theorem dX3_init_1 : decode cX3_init 1 = .ok (.aconst_null, 1) := dk_1 (dk_at dksX3_init_0 1 rfl rfl)
theorem dX3_init_2 : decode cX3_init 2 = .ok (.aconst_null, 1) := dk_1 (dk_at dksX3_init_0 2 rfl rfl)
theorem dX3_init_3 : decode cX3_init 3 = .ok (.iconst 0, 1) := dk_3 (dk_at dksX3_init_0 3 rfl rfl)
theorem dX3_init_4 : decode cX3_init 4 = .ok (.iconst 0, 1) := dk_3 (dk_at dksX3_init_0 4 rfl rfl)
theorem dX3_init_5 : decode cX3_init 5 = .ok (.invokespecial 1, 3) := dk_183 0 1 (dk_at dksX3_init_0 5 rfl rfl)
theorem dX3_init_8 : decode cX3_init 8 = .ok (.return_, 1) := dk_177 (dk_at dksX3_init_0 8 rfl rfl)
def dkwX3_by_0 : List UInt8 := [42, 27, 181, 0, 7, 42, 176]
abbrev dktX3_by_0 : List UInt8 := dkwX3_by_0 ++ []
theorem dksX3_by_0 : cX3_by.data.toList.drop 0 = dktX3_by_0 := by decide +kernel
theorem dX3_by_0 : decode cX3_by 0 = .ok (.aload_n 0, 1) := dk_42 (dk_at dksX3_by_0 0 rfl rfl)
theorem dX3_by_1 : decode cX3_by 1 = .ok (.iload_n 1, 1) := dk_27 (dk_at dksX3_by_0 1 rfl rfl)
theorem dX3_by_2 : decode cX3_by 2 = .ok (.putfield 7, 3) := dk_181 0 7 (dk_at dksX3_by_0 2 rfl rfl)
theorem dX3_by_5 : decode cX3_by 5 = .ok (.aload_n 0, 1) := dk_42 (dk_at dksX3_by_0 5 rfl rfl)
theorem dX3_by_6 : decode cX3_by 6 = .ok (.areturn, 1) := dk_176 (dk_at dksX3_by_0 6 rfl rfl)
def dkwX4_init_0 : List UInt8 := [42, 183, 0, 1, 42, 187, 0, 7, 89, 183, 0, 9, 181, 0, 10, 177]
abbrev dktX4_init_0 : List UInt8 := dkwX4_init_0 ++ []
theorem dksX4_init_0 : cX4_init.data.toList.drop 0 = dktX4_init_0 := by decide +kernel
theorem dX4_init_0 : decode cX4_init 0 = .ok (.aload_n 0, 1) := dk_42 (dk_at dksX4_init_0 0 rfl rfl)
theorem dX4_init_1 : decode cX4_init 1 = .ok (.invokespecial 1, 3) := dk_183 0 1 (dk_at dksX4_init_0 1 rfl rfl)
theorem dX4_init_4 : decode cX4_init 4 = .ok (.aload_n 0, 1) := dk_42 (dk_at dksX4_init_0 4 rfl rfl)
theorem dX4_init_5 : decode cX4_init 5 = .ok (.new 7, 3) := dk_187 0 7 (dk_at dksX4_init_0 5 rfl rfl)
theorem dX4_init_8 : decode cX4_init 8 = .ok (.dup, 1) := dk_89 (dk_at dksX4_init_0 8 rfl rfl)
theorem dX4_init_9 : decode cX4_init 9 = .ok (.invokespecial 9, 3) := dk_183 0 9 (dk_at dksX4_init_0 9 rfl rfl)
theorem dX4_init_12 : decode cX4_init 12 = .ok (.putfield 10, 3) := dk_181 0 10 (dk_at dksX4_init_0 12 rfl rfl)
theorem dX4_init_15 : decode cX4_init 15 = .ok (.return_, 1) := dk_177 (dk_at dksX4_init_0 15 rfl rfl)
def dkwX4_be_0 : List UInt8 := [42, 180, 0, 10, 43, 180, 0, 10, 182, 0, 16, 42, 43, 180, 0, 20, 181, 0, 20, 177]
abbrev dktX4_be_0 : List UInt8 := dkwX4_be_0 ++ []
theorem dksX4_be_0 : cX4_be.data.toList.drop 0 = dktX4_be_0 := by decide +kernel
theorem dX4_be_0 : decode cX4_be 0 = .ok (.aload_n 0, 1) := dk_42 (dk_at dksX4_be_0 0 rfl rfl)
theorem dX4_be_1 : decode cX4_be 1 = .ok (.getfield 10, 3) := dk_180 0 10 (dk_at dksX4_be_0 1 rfl rfl)
theorem dX4_be_4 : decode cX4_be 4 = .ok (.aload_n 1, 1) := dk_43 (dk_at dksX4_be_0 4 rfl rfl)
theorem dX4_be_5 : decode cX4_be 5 = .ok (.getfield 10, 3) := dk_180 0 10 (dk_at dksX4_be_0 5 rfl rfl)
theorem dX4_be_8 : decode cX4_be 8 = .ok (.invokevirtual 16, 3) := dk_182 0 16 (dk_at dksX4_be_0 8 rfl rfl)
theorem dX4_be_11 : decode cX4_be 11 = .ok (.aload_n 0, 1) := dk_42 (dk_at dksX4_be_0 11 rfl rfl)
theorem dX4_be_12 : decode cX4_be 12 = .ok (.aload_n 1, 1) := dk_43 (dk_at dksX4_be_0 12 rfl rfl)
theorem dX4_be_13 : decode cX4_be 13 = .ok (.getfield 20, 3) := dk_180 0 20 (dk_at dksX4_be_0 13 rfl rfl)
theorem dX4_be_16 : decode cX4_be 16 = .ok (.putfield 20, 3) := dk_181 0 20 (dk_at dksX4_be_0 16 rfl rfl)
theorem dX4_be_19 : decode cX4_be 19 = .ok (.return_, 1) := dk_177 (dk_at dksX4_be_0 19 rfl rfl)
def dkwX5_init_1 : List UInt8 := [2, 181, 0, 24, 177]
abbrev dktX5_init_1 : List UInt8 := dkwX5_init_1 ++ []
def dkwX5_init_0 : List UInt8 := [42, 183, 0, 3, 42, 187, 0, 9, 89, 183, 0, 11, 181, 0, 12, 42, 7, 189, 0, 18, 181, 0, 20, 42]
abbrev dktX5_init_0 : List UInt8 := dkwX5_init_0 ++ dktX5_init_1
theorem dksX5_init_0 : cX5_init.data.toList.drop 0 = dktX5_init_0 := by decide +kernel
theorem dksX5_init_1 : cX5_init.data.toList.drop 24 = dktX5_init_1 := dk_seg dksX5_init_0 24 rfl rfl
theorem dX5_init_0 : decode cX5_init 0 = .ok (.aload_n 0, 1) := dk_42 (dk_at dksX5_init_0 0 rfl rfl)
theorem dX5_init_1 : decode cX5_init 1 = .ok (.invokespecial 3, 3) := dk_183 0 3 (dk_at dksX5_init_0 1 rfl rfl)
theorem dX5_init_4 : decode cX5_init 4 = .ok (.aload_n 0, 1) := dk_42 (dk_at dksX5_init_0 4 rfl rfl)
theorem dX5_init_5 : decode cX5_init 5 = .ok (.new 9, 3) := dk_187 0 9 (dk_at dksX5_init_0 5 rfl rfl)
theorem dX5_init_8 : decode cX5_init 8 = .ok (.dup, 1) := dk_89 (dk_at dksX5_init_0 8 rfl rfl)
theorem dX5_init_9 : decode cX5_init 9 = .ok (.invokespecial 11, 3) := dk_183 0 11 (dk_at dksX5_init_0 9 rfl rfl)
theorem dX5_init_12 : decode cX5_init 12 = .ok (.putfield 12, 3) := dk_181 0 12 (dk_at dksX5_init_0 12 rfl rfl)
theorem dX5_init_15 : decode cX5_init 15 = .ok (.aload_n 0, 1) := dk_42 (dk_at dksX5_init_0 15 rfl rfl)
theorem dX5_init_16 : decode cX5_init 16 = .ok (.iconst 4, 1) := dk_7 (dk_at dksX5_init_0 16 rfl rfl)
theorem dX5_init_17 : decode cX5_init 17 = .ok (.anewarray 18, 3) := dk_189 0 18 (dk_at dksX5_init_0 17 rfl rfl)
theorem dX5_init_20 : decode cX5_init 20 = .ok (.putfield 20, 3) := dk_181 0 20 (dk_at dksX5_init_0 20 rfl rfl)
theorem dX5_init_23 : decode cX5_init 23 = .ok (.aload_n 0, 1) := dk_42 (dk_at dksX5_init_0 23 rfl rfl)
theorem dX5_init_24 : decode cX5_init 24 = .ok (.iconst (-1), 1) := dk_2 (dk_at dksX5_init_1 0 rfl rfl)
theorem dX5_init_25 : decode cX5_init 25 = .ok (.putfield 24, 3) := dk_181 0 24 (dk_at dksX5_init_1 1 rfl rfl)
theorem dX5_init_28 : decode cX5_init 28 = .ok (.return_, 1) := dk_177 (dk_at dksX5_init_1 4 rfl rfl)
def dkwX5_hiveNamed_1 : List UInt8 := [29, 172, 132, 3, 1, 167, 255, 229, 2, 172]
abbrev dktX5_hiveNamed_1 : List UInt8 := dkwX5_hiveNamed_1 ++ []
def dkwX5_hiveNamed_0 : List UInt8 := [3, 62, 29, 42, 180, 0, 28, 162, 0, 25, 42, 180, 0, 20, 29, 50, 180, 0, 31, 31, 148, 154, 0, 5]
abbrev dktX5_hiveNamed_0 : List UInt8 := dkwX5_hiveNamed_0 ++ dktX5_hiveNamed_1
theorem dksX5_hiveNamed_0 : cX5_hiveNamed.data.toList.drop 0 = dktX5_hiveNamed_0 := by decide +kernel
theorem dksX5_hiveNamed_1 : cX5_hiveNamed.data.toList.drop 24 = dktX5_hiveNamed_1 := dk_seg dksX5_hiveNamed_0 24 rfl rfl
theorem dX5_hiveNamed_0 : decode cX5_hiveNamed 0 = .ok (.iconst 0, 1) := dk_3 (dk_at dksX5_hiveNamed_0 0 rfl rfl)
theorem dX5_hiveNamed_1 : decode cX5_hiveNamed 1 = .ok (.istore_n 3, 1) := dk_62 (dk_at dksX5_hiveNamed_0 1 rfl rfl)
theorem dX5_hiveNamed_2 : decode cX5_hiveNamed 2 = .ok (.iload_n 3, 1) := dk_29 (dk_at dksX5_hiveNamed_0 2 rfl rfl)
theorem dX5_hiveNamed_3 : decode cX5_hiveNamed 3 = .ok (.aload_n 0, 1) := dk_42 (dk_at dksX5_hiveNamed_0 3 rfl rfl)
theorem dX5_hiveNamed_4 : decode cX5_hiveNamed 4 = .ok (.getfield 28, 3) := dk_180 0 28 (dk_at dksX5_hiveNamed_0 4 rfl rfl)
theorem dX5_hiveNamed_7 : decode cX5_hiveNamed 7 = .ok (.if_icmp .ge 25, 3) := dk_162 0 25 (dk_at dksX5_hiveNamed_0 7 rfl rfl)
theorem dX5_hiveNamed_10 : decode cX5_hiveNamed 10 = .ok (.aload_n 0, 1) := dk_42 (dk_at dksX5_hiveNamed_0 10 rfl rfl)
theorem dX5_hiveNamed_11 : decode cX5_hiveNamed 11 = .ok (.getfield 20, 3) := dk_180 0 20 (dk_at dksX5_hiveNamed_0 11 rfl rfl)
theorem dX5_hiveNamed_14 : decode cX5_hiveNamed 14 = .ok (.iload_n 3, 1) := dk_29 (dk_at dksX5_hiveNamed_0 14 rfl rfl)
theorem dX5_hiveNamed_15 : decode cX5_hiveNamed 15 = .ok (.aaload, 1) := dk_50 (dk_at dksX5_hiveNamed_0 15 rfl rfl)
theorem dX5_hiveNamed_16 : decode cX5_hiveNamed 16 = .ok (.getfield 31, 3) := dk_180 0 31 (dk_at dksX5_hiveNamed_0 16 rfl rfl)
theorem dX5_hiveNamed_19 : decode cX5_hiveNamed 19 = .ok (.lload_n 1, 1) := dk_31 (dk_at dksX5_hiveNamed_0 19 rfl rfl)
theorem dX5_hiveNamed_20 : decode cX5_hiveNamed 20 = .ok (.lcmp, 1) := dk_148 (dk_at dksX5_hiveNamed_0 20 rfl rfl)
theorem dX5_hiveNamed_21 : decode cX5_hiveNamed 21 = .ok (.ifCond .ne 5, 3) := dk_154 0 5 (dk_at dksX5_hiveNamed_0 21 rfl rfl)
theorem dX5_hiveNamed_24 : decode cX5_hiveNamed 24 = .ok (.iload_n 3, 1) := dk_29 (dk_at dksX5_hiveNamed_1 0 rfl rfl)
theorem dX5_hiveNamed_25 : decode cX5_hiveNamed 25 = .ok (.ireturn, 1) := dk_172 (dk_at dksX5_hiveNamed_1 1 rfl rfl)
theorem dX5_hiveNamed_26 : decode cX5_hiveNamed 26 = .ok (.iinc 3 1, 3) := dk_132 3 1 (dk_at dksX5_hiveNamed_1 2 rfl rfl)
theorem dX5_hiveNamed_29 : decode cX5_hiveNamed 29 = .ok (.goto (-27), 3) := dk_167 255 229 (dk_at dksX5_hiveNamed_1 5 rfl rfl)
theorem dX5_hiveNamed_32 : decode cX5_hiveNamed 32 = .ok (.iconst (-1), 1) := dk_2 (dk_at dksX5_hiveNamed_1 8 rfl rfl)
theorem dX5_hiveNamed_33 : decode cX5_hiveNamed 33 = .ok (.ireturn, 1) := dk_172 (dk_at dksX5_hiveNamed_1 9 rfl rfl)
def dkwX5_be_8 : List UInt8 := [180, 0, 68, 181, 0, 68, 42, 43, 180, 0, 24, 181, 0, 24, 177]
abbrev dktX5_be_8 : List UInt8 := dkwX5_be_8 ++ []
def dkwX5_be_7 : List UInt8 := [180, 0, 59, 181, 0, 59, 42, 43, 180, 0, 62, 181, 0, 62, 42, 43, 180, 0, 65, 181, 0, 65, 42, 43]
abbrev dktX5_be_7 : List UInt8 := dkwX5_be_7 ++ dktX5_be_8
def dkwX5_be_6 : List UInt8 := [180, 0, 50, 181, 0, 50, 42, 43, 180, 0, 53, 181, 0, 53, 42, 43, 180, 0, 56, 181, 0, 56, 42, 43]
abbrev dktX5_be_6 : List UInt8 := dkwX5_be_6 ++ dktX5_be_7
def dkwX5_be_5 : List UInt8 := [132, 2, 1, 167, 255, 150, 42, 43, 180, 0, 28, 181, 0, 28, 42, 43, 180, 0, 47, 181, 0, 47, 42, 43]
abbrev dktX5_be_5 : List UInt8 := dkwX5_be_5 ++ dktX5_be_6
def dkwX5_be_4 : List UInt8 := [182, 0, 39, 83, 167, 0, 18, 42, 180, 0, 20, 28, 50, 43, 180, 0, 20, 28, 50, 182, 0, 43]
abbrev dktX5_be_4 : List UInt8 := dkwX5_be_4 ++ dktX5_be_5
def dkwX5_be_3 : List UInt8 := [180, 0, 20, 28, 50, 180, 0, 35, 190, 159, 0, 21, 42, 180, 0, 20, 28, 43, 180, 0, 20, 28, 50]
abbrev dktX5_be_3 : List UInt8 := dkwX5_be_3 ++ dktX5_be_4
def dkwX5_be_2 : List UInt8 := [180, 0, 20, 28, 50, 180, 0, 31, 148, 154, 0, 26, 42, 180, 0, 20, 28, 50, 180, 0, 35, 190, 43]
abbrev dktX5_be_2 : List UInt8 := dkwX5_be_2 ++ dktX5_be_3
def dkwX5_be_1 : List UInt8 := [162, 0, 57, 42, 180, 0, 20, 28, 50, 198, 0, 48, 42, 180, 0, 20, 28, 50, 180, 0, 31, 43]
abbrev dktX5_be_1 : List UInt8 := dkwX5_be_1 ++ dktX5_be_2
def dkwX5_be_0 : List UInt8 := [42, 43, 180, 0, 12, 181, 0, 12, 3, 61, 28, 43, 180, 0, 28, 162, 0, 104, 28, 42, 180, 0, 28]
abbrev dktX5_be_0 : List UInt8 := dkwX5_be_0 ++ dktX5_be_1
theorem dksX5_be_0 : cX5_be.data.toList.drop 0 = dktX5_be_0 := by decide +kernel
theorem dksX5_be_1 : cX5_be.data.toList.drop 23 = dktX5_be_1 := dk_seg dksX5_be_0 23 rfl rfl
theorem dksX5_be_2 : cX5_be.data.toList.drop 45 = dktX5_be_2 := dk_seg dksX5_be_1 22 rfl rfl
theorem dksX5_be_3 : cX5_be.data.toList.drop 68 = dktX5_be_3 := dk_seg dksX5_be_2 23 rfl rfl
theorem dksX5_be_4 : cX5_be.data.toList.drop 91 = dktX5_be_4 := dk_seg dksX5_be_3 23 rfl rfl
theorem dksX5_be_5 : cX5_be.data.toList.drop 113 = dktX5_be_5 := dk_seg dksX5_be_4 22 rfl rfl
theorem dksX5_be_6 : cX5_be.data.toList.drop 137 = dktX5_be_6 := dk_seg dksX5_be_5 24 rfl rfl
theorem dksX5_be_7 : cX5_be.data.toList.drop 161 = dktX5_be_7 := dk_seg dksX5_be_6 24 rfl rfl
theorem dksX5_be_8 : cX5_be.data.toList.drop 185 = dktX5_be_8 := dk_seg dksX5_be_7 24 rfl rfl
theorem dX5_be_0 : decode cX5_be 0 = .ok (.aload_n 0, 1) := dk_42 (dk_at dksX5_be_0 0 rfl rfl)
theorem dX5_be_1 : decode cX5_be 1 = .ok (.aload_n 1, 1) := dk_43 (dk_at dksX5_be_0 1 rfl rfl)
theorem dX5_be_2 : decode cX5_be 2 = .ok (.getfield 12, 3) := dk_180 0 12 (dk_at dksX5_be_0 2 rfl rfl)
theorem dX5_be_5 : decode cX5_be 5 = .ok (.putfield 12, 3) := dk_181 0 12 (dk_at dksX5_be_0 5 rfl rfl)
theorem dX5_be_8 : decode cX5_be 8 = .ok (.iconst 0, 1) := dk_3 (dk_at dksX5_be_0 8 rfl rfl)
theorem dX5_be_9 : decode cX5_be 9 = .ok (.istore_n 2, 1) := dk_61 (dk_at dksX5_be_0 9 rfl rfl)
theorem dX5_be_10 : decode cX5_be 10 = .ok (.iload_n 2, 1) := dk_28 (dk_at dksX5_be_0 10 rfl rfl)
theorem dX5_be_11 : decode cX5_be 11 = .ok (.aload_n 1, 1) := dk_43 (dk_at dksX5_be_0 11 rfl rfl)
theorem dX5_be_12 : decode cX5_be 12 = .ok (.getfield 28, 3) := dk_180 0 28 (dk_at dksX5_be_0 12 rfl rfl)
theorem dX5_be_15 : decode cX5_be 15 = .ok (.if_icmp .ge 104, 3) := dk_162 0 104 (dk_at dksX5_be_0 15 rfl rfl)
theorem dX5_be_18 : decode cX5_be 18 = .ok (.iload_n 2, 1) := dk_28 (dk_at dksX5_be_0 18 rfl rfl)
theorem dX5_be_19 : decode cX5_be 19 = .ok (.aload_n 0, 1) := dk_42 (dk_at dksX5_be_0 19 rfl rfl)
theorem dX5_be_20 : decode cX5_be 20 = .ok (.getfield 28, 3) := dk_180 0 28 (dk_at dksX5_be_0 20 rfl rfl)
theorem dX5_be_23 : decode cX5_be 23 = .ok (.if_icmp .ge 57, 3) := dk_162 0 57 (dk_at dksX5_be_1 0 rfl rfl)
theorem dX5_be_26 : decode cX5_be 26 = .ok (.aload_n 0, 1) := dk_42 (dk_at dksX5_be_1 3 rfl rfl)
theorem dX5_be_27 : decode cX5_be 27 = .ok (.getfield 20, 3) := dk_180 0 20 (dk_at dksX5_be_1 4 rfl rfl)
theorem dX5_be_30 : decode cX5_be 30 = .ok (.iload_n 2, 1) := dk_28 (dk_at dksX5_be_1 7 rfl rfl)
theorem dX5_be_31 : decode cX5_be 31 = .ok (.aaload, 1) := dk_50 (dk_at dksX5_be_1 8 rfl rfl)
theorem dX5_be_32 : decode cX5_be 32 = .ok (.ifnull 48, 3) := dk_198 0 48 (dk_at dksX5_be_1 9 rfl rfl)
theorem dX5_be_35 : decode cX5_be 35 = .ok (.aload_n 0, 1) := dk_42 (dk_at dksX5_be_1 12 rfl rfl)
theorem dX5_be_36 : decode cX5_be 36 = .ok (.getfield 20, 3) := dk_180 0 20 (dk_at dksX5_be_1 13 rfl rfl)
theorem dX5_be_39 : decode cX5_be 39 = .ok (.iload_n 2, 1) := dk_28 (dk_at dksX5_be_1 16 rfl rfl)
theorem dX5_be_40 : decode cX5_be 40 = .ok (.aaload, 1) := dk_50 (dk_at dksX5_be_1 17 rfl rfl)
theorem dX5_be_41 : decode cX5_be 41 = .ok (.getfield 31, 3) := dk_180 0 31 (dk_at dksX5_be_1 18 rfl rfl)
theorem dX5_be_44 : decode cX5_be 44 = .ok (.aload_n 1, 1) := dk_43 (dk_at dksX5_be_1 21 rfl rfl)
theorem dX5_be_45 : decode cX5_be 45 = .ok (.getfield 20, 3) := dk_180 0 20 (dk_at dksX5_be_2 0 rfl rfl)
theorem dX5_be_48 : decode cX5_be 48 = .ok (.iload_n 2, 1) := dk_28 (dk_at dksX5_be_2 3 rfl rfl)
theorem dX5_be_49 : decode cX5_be 49 = .ok (.aaload, 1) := dk_50 (dk_at dksX5_be_2 4 rfl rfl)
theorem dX5_be_50 : decode cX5_be 50 = .ok (.getfield 31, 3) := dk_180 0 31 (dk_at dksX5_be_2 5 rfl rfl)
theorem dX5_be_53 : decode cX5_be 53 = .ok (.lcmp, 1) := dk_148 (dk_at dksX5_be_2 8 rfl rfl)
theorem dX5_be_54 : decode cX5_be 54 = .ok (.ifCond .ne 26, 3) := dk_154 0 26 (dk_at dksX5_be_2 9 rfl rfl)
theorem dX5_be_57 : decode cX5_be 57 = .ok (.aload_n 0, 1) := dk_42 (dk_at dksX5_be_2 12 rfl rfl)
theorem dX5_be_58 : decode cX5_be 58 = .ok (.getfield 20, 3) := dk_180 0 20 (dk_at dksX5_be_2 13 rfl rfl)
theorem dX5_be_61 : decode cX5_be 61 = .ok (.iload_n 2, 1) := dk_28 (dk_at dksX5_be_2 16 rfl rfl)
theorem dX5_be_62 : decode cX5_be 62 = .ok (.aaload, 1) := dk_50 (dk_at dksX5_be_2 17 rfl rfl)
theorem dX5_be_63 : decode cX5_be 63 = .ok (.getfield 35, 3) := dk_180 0 35 (dk_at dksX5_be_2 18 rfl rfl)
theorem dX5_be_66 : decode cX5_be 66 = .ok (.arraylength, 1) := dk_190 (dk_at dksX5_be_2 21 rfl rfl)
theorem dX5_be_67 : decode cX5_be 67 = .ok (.aload_n 1, 1) := dk_43 (dk_at dksX5_be_2 22 rfl rfl)
theorem dX5_be_68 : decode cX5_be 68 = .ok (.getfield 20, 3) := dk_180 0 20 (dk_at dksX5_be_3 0 rfl rfl)
theorem dX5_be_71 : decode cX5_be 71 = .ok (.iload_n 2, 1) := dk_28 (dk_at dksX5_be_3 3 rfl rfl)
theorem dX5_be_72 : decode cX5_be 72 = .ok (.aaload, 1) := dk_50 (dk_at dksX5_be_3 4 rfl rfl)
theorem dX5_be_73 : decode cX5_be 73 = .ok (.getfield 35, 3) := dk_180 0 35 (dk_at dksX5_be_3 5 rfl rfl)
theorem dX5_be_76 : decode cX5_be 76 = .ok (.arraylength, 1) := dk_190 (dk_at dksX5_be_3 8 rfl rfl)
theorem dX5_be_77 : decode cX5_be 77 = .ok (.if_icmp .eq 21, 3) := dk_159 0 21 (dk_at dksX5_be_3 9 rfl rfl)
theorem dX5_be_80 : decode cX5_be 80 = .ok (.aload_n 0, 1) := dk_42 (dk_at dksX5_be_3 12 rfl rfl)
theorem dX5_be_81 : decode cX5_be 81 = .ok (.getfield 20, 3) := dk_180 0 20 (dk_at dksX5_be_3 13 rfl rfl)
theorem dX5_be_84 : decode cX5_be 84 = .ok (.iload_n 2, 1) := dk_28 (dk_at dksX5_be_3 16 rfl rfl)
theorem dX5_be_85 : decode cX5_be 85 = .ok (.aload_n 1, 1) := dk_43 (dk_at dksX5_be_3 17 rfl rfl)
theorem dX5_be_86 : decode cX5_be 86 = .ok (.getfield 20, 3) := dk_180 0 20 (dk_at dksX5_be_3 18 rfl rfl)
theorem dX5_be_89 : decode cX5_be 89 = .ok (.iload_n 2, 1) := dk_28 (dk_at dksX5_be_3 21 rfl rfl)
theorem dX5_be_90 : decode cX5_be 90 = .ok (.aaload, 1) := dk_50 (dk_at dksX5_be_3 22 rfl rfl)
theorem dX5_be_91 : decode cX5_be 91 = .ok (.invokevirtual 39, 3) := dk_182 0 39 (dk_at dksX5_be_4 0 rfl rfl)
theorem dX5_be_94 : decode cX5_be 94 = .ok (.aastore, 1) := dk_83 (dk_at dksX5_be_4 3 rfl rfl)
theorem dX5_be_95 : decode cX5_be 95 = .ok (.goto 18, 3) := dk_167 0 18 (dk_at dksX5_be_4 4 rfl rfl)
theorem dX5_be_98 : decode cX5_be 98 = .ok (.aload_n 0, 1) := dk_42 (dk_at dksX5_be_4 7 rfl rfl)
theorem dX5_be_99 : decode cX5_be 99 = .ok (.getfield 20, 3) := dk_180 0 20 (dk_at dksX5_be_4 8 rfl rfl)
theorem dX5_be_102 : decode cX5_be 102 = .ok (.iload_n 2, 1) := dk_28 (dk_at dksX5_be_4 11 rfl rfl)
theorem dX5_be_103 : decode cX5_be 103 = .ok (.aaload, 1) := dk_50 (dk_at dksX5_be_4 12 rfl rfl)
theorem dX5_be_104 : decode cX5_be 104 = .ok (.aload_n 1, 1) := dk_43 (dk_at dksX5_be_4 13 rfl rfl)
theorem dX5_be_105 : decode cX5_be 105 = .ok (.getfield 20, 3) := dk_180 0 20 (dk_at dksX5_be_4 14 rfl rfl)
theorem dX5_be_108 : decode cX5_be 108 = .ok (.iload_n 2, 1) := dk_28 (dk_at dksX5_be_4 17 rfl rfl)
theorem dX5_be_109 : decode cX5_be 109 = .ok (.aaload, 1) := dk_50 (dk_at dksX5_be_4 18 rfl rfl)
theorem dX5_be_110 : decode cX5_be 110 = .ok (.invokevirtual 43, 3) := dk_182 0 43 (dk_at dksX5_be_4 19 rfl rfl)
theorem dX5_be_113 : decode cX5_be 113 = .ok (.iinc 2 1, 3) := dk_132 2 1 (dk_at dksX5_be_5 0 rfl rfl)
theorem dX5_be_116 : decode cX5_be 116 = .ok (.goto (-106), 3) := dk_167 255 150 (dk_at dksX5_be_5 3 rfl rfl)
theorem dX5_be_119 : decode cX5_be 119 = .ok (.aload_n 0, 1) := dk_42 (dk_at dksX5_be_5 6 rfl rfl)
theorem dX5_be_120 : decode cX5_be 120 = .ok (.aload_n 1, 1) := dk_43 (dk_at dksX5_be_5 7 rfl rfl)
theorem dX5_be_121 : decode cX5_be 121 = .ok (.getfield 28, 3) := dk_180 0 28 (dk_at dksX5_be_5 8 rfl rfl)
theorem dX5_be_124 : decode cX5_be 124 = .ok (.putfield 28, 3) := dk_181 0 28 (dk_at dksX5_be_5 11 rfl rfl)
theorem dX5_be_127 : decode cX5_be 127 = .ok (.aload_n 0, 1) := dk_42 (dk_at dksX5_be_5 14 rfl rfl)
theorem dX5_be_128 : decode cX5_be 128 = .ok (.aload_n 1, 1) := dk_43 (dk_at dksX5_be_5 15 rfl rfl)
theorem dX5_be_129 : decode cX5_be 129 = .ok (.getfield 47, 3) := dk_180 0 47 (dk_at dksX5_be_5 16 rfl rfl)
theorem dX5_be_132 : decode cX5_be 132 = .ok (.putfield 47, 3) := dk_181 0 47 (dk_at dksX5_be_5 19 rfl rfl)
theorem dX5_be_135 : decode cX5_be 135 = .ok (.aload_n 0, 1) := dk_42 (dk_at dksX5_be_5 22 rfl rfl)
theorem dX5_be_136 : decode cX5_be 136 = .ok (.aload_n 1, 1) := dk_43 (dk_at dksX5_be_5 23 rfl rfl)
theorem dX5_be_137 : decode cX5_be 137 = .ok (.getfield 50, 3) := dk_180 0 50 (dk_at dksX5_be_6 0 rfl rfl)
theorem dX5_be_140 : decode cX5_be 140 = .ok (.putfield 50, 3) := dk_181 0 50 (dk_at dksX5_be_6 3 rfl rfl)
theorem dX5_be_143 : decode cX5_be 143 = .ok (.aload_n 0, 1) := dk_42 (dk_at dksX5_be_6 6 rfl rfl)
theorem dX5_be_144 : decode cX5_be 144 = .ok (.aload_n 1, 1) := dk_43 (dk_at dksX5_be_6 7 rfl rfl)
theorem dX5_be_145 : decode cX5_be 145 = .ok (.getfield 53, 3) := dk_180 0 53 (dk_at dksX5_be_6 8 rfl rfl)
theorem dX5_be_148 : decode cX5_be 148 = .ok (.putfield 53, 3) := dk_181 0 53 (dk_at dksX5_be_6 11 rfl rfl)
theorem dX5_be_151 : decode cX5_be 151 = .ok (.aload_n 0, 1) := dk_42 (dk_at dksX5_be_6 14 rfl rfl)
theorem dX5_be_152 : decode cX5_be 152 = .ok (.aload_n 1, 1) := dk_43 (dk_at dksX5_be_6 15 rfl rfl)
theorem dX5_be_153 : decode cX5_be 153 = .ok (.getfield 56, 3) := dk_180 0 56 (dk_at dksX5_be_6 16 rfl rfl)
theorem dX5_be_156 : decode cX5_be 156 = .ok (.putfield 56, 3) := dk_181 0 56 (dk_at dksX5_be_6 19 rfl rfl)
theorem dX5_be_159 : decode cX5_be 159 = .ok (.aload_n 0, 1) := dk_42 (dk_at dksX5_be_6 22 rfl rfl)
theorem dX5_be_160 : decode cX5_be 160 = .ok (.aload_n 1, 1) := dk_43 (dk_at dksX5_be_6 23 rfl rfl)
theorem dX5_be_161 : decode cX5_be 161 = .ok (.getfield 59, 3) := dk_180 0 59 (dk_at dksX5_be_7 0 rfl rfl)
theorem dX5_be_164 : decode cX5_be 164 = .ok (.putfield 59, 3) := dk_181 0 59 (dk_at dksX5_be_7 3 rfl rfl)
theorem dX5_be_167 : decode cX5_be 167 = .ok (.aload_n 0, 1) := dk_42 (dk_at dksX5_be_7 6 rfl rfl)
theorem dX5_be_168 : decode cX5_be 168 = .ok (.aload_n 1, 1) := dk_43 (dk_at dksX5_be_7 7 rfl rfl)
theorem dX5_be_169 : decode cX5_be 169 = .ok (.getfield 62, 3) := dk_180 0 62 (dk_at dksX5_be_7 8 rfl rfl)
theorem dX5_be_172 : decode cX5_be 172 = .ok (.putfield 62, 3) := dk_181 0 62 (dk_at dksX5_be_7 11 rfl rfl)
theorem dX5_be_175 : decode cX5_be 175 = .ok (.aload_n 0, 1) := dk_42 (dk_at dksX5_be_7 14 rfl rfl)
theorem dX5_be_176 : decode cX5_be 176 = .ok (.aload_n 1, 1) := dk_43 (dk_at dksX5_be_7 15 rfl rfl)
theorem dX5_be_177 : decode cX5_be 177 = .ok (.getfield 65, 3) := dk_180 0 65 (dk_at dksX5_be_7 16 rfl rfl)
theorem dX5_be_180 : decode cX5_be 180 = .ok (.putfield 65, 3) := dk_181 0 65 (dk_at dksX5_be_7 19 rfl rfl)
theorem dX5_be_183 : decode cX5_be 183 = .ok (.aload_n 0, 1) := dk_42 (dk_at dksX5_be_7 22 rfl rfl)
theorem dX5_be_184 : decode cX5_be 184 = .ok (.aload_n 1, 1) := dk_43 (dk_at dksX5_be_7 23 rfl rfl)
theorem dX5_be_185 : decode cX5_be 185 = .ok (.getfield 68, 3) := dk_180 0 68 (dk_at dksX5_be_8 0 rfl rfl)
theorem dX5_be_188 : decode cX5_be 188 = .ok (.putfield 68, 3) := dk_181 0 68 (dk_at dksX5_be_8 3 rfl rfl)
theorem dX5_be_191 : decode cX5_be 191 = .ok (.aload_n 0, 1) := dk_42 (dk_at dksX5_be_8 6 rfl rfl)
theorem dX5_be_192 : decode cX5_be 192 = .ok (.aload_n 1, 1) := dk_43 (dk_at dksX5_be_8 7 rfl rfl)
theorem dX5_be_193 : decode cX5_be 193 = .ok (.getfield 24, 3) := dk_180 0 24 (dk_at dksX5_be_8 8 rfl rfl)
theorem dX5_be_196 : decode cX5_be 196 = .ok (.putfield 24, 3) := dk_181 0 24 (dk_at dksX5_be_8 11 rfl rfl)
theorem dX5_be_199 : decode cX5_be 199 = .ok (.return_, 1) := dk_177 (dk_at dksX5_be_8 14 rfl rfl)
def dkwX5_homeOf_1 : List UInt8 := [172, 132, 2, 1, 167, 255, 230, 2, 172]
abbrev dktX5_homeOf_1 : List UInt8 := dkwX5_homeOf_1 ++ []
def dkwX5_homeOf_0 : List UInt8 := [3, 61, 28, 42, 180, 0, 28, 162, 0, 24, 42, 180, 0, 20, 28, 50, 180, 0, 71, 27, 160, 0, 5, 28]
abbrev dktX5_homeOf_0 : List UInt8 := dkwX5_homeOf_0 ++ dktX5_homeOf_1
theorem dksX5_homeOf_0 : cX5_homeOf.data.toList.drop 0 = dktX5_homeOf_0 := by decide +kernel
theorem dksX5_homeOf_1 : cX5_homeOf.data.toList.drop 24 = dktX5_homeOf_1 := dk_seg dksX5_homeOf_0 24 rfl rfl
theorem dX5_homeOf_0 : decode cX5_homeOf 0 = .ok (.iconst 0, 1) := dk_3 (dk_at dksX5_homeOf_0 0 rfl rfl)
theorem dX5_homeOf_1 : decode cX5_homeOf 1 = .ok (.istore_n 2, 1) := dk_61 (dk_at dksX5_homeOf_0 1 rfl rfl)
theorem dX5_homeOf_2 : decode cX5_homeOf 2 = .ok (.iload_n 2, 1) := dk_28 (dk_at dksX5_homeOf_0 2 rfl rfl)
theorem dX5_homeOf_3 : decode cX5_homeOf 3 = .ok (.aload_n 0, 1) := dk_42 (dk_at dksX5_homeOf_0 3 rfl rfl)
theorem dX5_homeOf_4 : decode cX5_homeOf 4 = .ok (.getfield 28, 3) := dk_180 0 28 (dk_at dksX5_homeOf_0 4 rfl rfl)
theorem dX5_homeOf_7 : decode cX5_homeOf 7 = .ok (.if_icmp .ge 24, 3) := dk_162 0 24 (dk_at dksX5_homeOf_0 7 rfl rfl)
theorem dX5_homeOf_10 : decode cX5_homeOf 10 = .ok (.aload_n 0, 1) := dk_42 (dk_at dksX5_homeOf_0 10 rfl rfl)
theorem dX5_homeOf_11 : decode cX5_homeOf 11 = .ok (.getfield 20, 3) := dk_180 0 20 (dk_at dksX5_homeOf_0 11 rfl rfl)
theorem dX5_homeOf_14 : decode cX5_homeOf 14 = .ok (.iload_n 2, 1) := dk_28 (dk_at dksX5_homeOf_0 14 rfl rfl)
theorem dX5_homeOf_15 : decode cX5_homeOf 15 = .ok (.aaload, 1) := dk_50 (dk_at dksX5_homeOf_0 15 rfl rfl)
theorem dX5_homeOf_16 : decode cX5_homeOf 16 = .ok (.getfield 71, 3) := dk_180 0 71 (dk_at dksX5_homeOf_0 16 rfl rfl)
theorem dX5_homeOf_19 : decode cX5_homeOf 19 = .ok (.iload_n 1, 1) := dk_27 (dk_at dksX5_homeOf_0 19 rfl rfl)
theorem dX5_homeOf_20 : decode cX5_homeOf 20 = .ok (.if_icmp .ne 5, 3) := dk_160 0 5 (dk_at dksX5_homeOf_0 20 rfl rfl)
theorem dX5_homeOf_23 : decode cX5_homeOf 23 = .ok (.iload_n 2, 1) := dk_28 (dk_at dksX5_homeOf_0 23 rfl rfl)
theorem dX5_homeOf_24 : decode cX5_homeOf 24 = .ok (.ireturn, 1) := dk_172 (dk_at dksX5_homeOf_1 0 rfl rfl)
theorem dX5_homeOf_25 : decode cX5_homeOf 25 = .ok (.iinc 2 1, 3) := dk_132 2 1 (dk_at dksX5_homeOf_1 1 rfl rfl)
theorem dX5_homeOf_28 : decode cX5_homeOf 28 = .ok (.goto (-26), 3) := dk_167 255 230 (dk_at dksX5_homeOf_1 4 rfl rfl)
theorem dX5_homeOf_31 : decode cX5_homeOf 31 = .ok (.iconst (-1), 1) := dk_2 (dk_at dksX5_homeOf_1 7 rfl rfl)
theorem dX5_homeOf_32 : decode cX5_homeOf 32 = .ok (.ireturn, 1) := dk_172 (dk_at dksX5_homeOf_1 8 rfl rfl)
def dkwX5_canPass_0 : List UInt8 := [42, 180, 0, 47, 27, 96, 17, 39, 15, 163, 0, 7, 4, 167, 0, 4, 3, 172]
abbrev dktX5_canPass_0 : List UInt8 := dkwX5_canPass_0 ++ []
theorem dksX5_canPass_0 : cX5_canPass.data.toList.drop 0 = dktX5_canPass_0 := by decide +kernel
theorem dX5_canPass_0 : decode cX5_canPass 0 = .ok (.aload_n 0, 1) := dk_42 (dk_at dksX5_canPass_0 0 rfl rfl)
theorem dX5_canPass_1 : decode cX5_canPass 1 = .ok (.getfield 47, 3) := dk_180 0 47 (dk_at dksX5_canPass_0 1 rfl rfl)
theorem dX5_canPass_4 : decode cX5_canPass 4 = .ok (.iload_n 1, 1) := dk_27 (dk_at dksX5_canPass_0 4 rfl rfl)
theorem dX5_canPass_5 : decode cX5_canPass 5 = .ok (.iadd, 1) := dk_96 (dk_at dksX5_canPass_0 5 rfl rfl)
theorem dX5_canPass_6 : decode cX5_canPass 6 = .ok (.sipush 9999, 3) := dk_17 39 15 (dk_at dksX5_canPass_0 6 rfl rfl)
theorem dX5_canPass_9 : decode cX5_canPass 9 = .ok (.if_icmp .gt 7, 3) := dk_163 0 7 (dk_at dksX5_canPass_0 9 rfl rfl)
theorem dX5_canPass_12 : decode cX5_canPass 12 = .ok (.iconst 1, 1) := dk_4 (dk_at dksX5_canPass_0 12 rfl rfl)
theorem dX5_canPass_13 : decode cX5_canPass 13 = .ok (.goto 4, 3) := dk_167 0 4 (dk_at dksX5_canPass_0 13 rfl rfl)
theorem dX5_canPass_16 : decode cX5_canPass 16 = .ok (.iconst 0, 1) := dk_3 (dk_at dksX5_canPass_0 16 rfl rfl)
theorem dX5_canPass_17 : decode cX5_canPass 17 = .ok (.ireturn, 1) := dk_172 (dk_at dksX5_canPass_0 17 rfl rfl)
def dkwX5_passes_4 : List UInt8 := [167, 255, 172, 132, 2, 1, 167, 255, 159, 42, 89, 180, 0, 47, 27, 96, 181, 0, 47, 177]
abbrev dktX5_passes_4 : List UInt8 := dkwX5_passes_4 ++ []
def dkwX5_passes_3 : List UInt8 := [181, 0, 59, 42, 89, 180, 0, 62, 42, 180, 0, 20, 29, 50, 180, 0, 89, 96, 181, 0, 62, 132, 3, 1]
abbrev dktX5_passes_3 : List UInt8 := dkwX5_passes_3 ++ dktX5_passes_4
def dkwX5_passes_2 : List UInt8 := [180, 0, 85, 96, 181, 0, 53, 42, 89, 180, 0, 59, 42, 180, 0, 20, 29, 50, 180, 0, 88, 96]
abbrev dktX5_passes_2 : List UInt8 := dkwX5_passes_2 ++ dktX5_passes_3
def dkwX5_passes_1 : List UInt8 := [42, 180, 0, 20, 29, 50, 182, 0, 78, 182, 0, 82, 42, 89, 180, 0, 53, 42, 180, 0, 20, 29, 50]
abbrev dktX5_passes_1 : List UInt8 := dkwX5_passes_1 ++ dktX5_passes_2
def dkwX5_passes_0 : List UInt8 := [3, 61, 28, 27, 162, 0, 98, 3, 62, 29, 42, 180, 0, 28, 162, 0, 82, 42, 180, 0, 20, 29, 50, 42]
abbrev dktX5_passes_0 : List UInt8 := dkwX5_passes_0 ++ dktX5_passes_1
theorem dksX5_passes_0 : cX5_passes.data.toList.drop 0 = dktX5_passes_0 := by decide +kernel
theorem dksX5_passes_1 : cX5_passes.data.toList.drop 24 = dktX5_passes_1 := dk_seg dksX5_passes_0 24 rfl rfl
theorem dksX5_passes_2 : cX5_passes.data.toList.drop 47 = dktX5_passes_2 := dk_seg dksX5_passes_1 23 rfl rfl
theorem dksX5_passes_3 : cX5_passes.data.toList.drop 69 = dktX5_passes_3 := dk_seg dksX5_passes_2 22 rfl rfl
theorem dksX5_passes_4 : cX5_passes.data.toList.drop 93 = dktX5_passes_4 := dk_seg dksX5_passes_3 24 rfl rfl
theorem dX5_passes_0 : decode cX5_passes 0 = .ok (.iconst 0, 1) := dk_3 (dk_at dksX5_passes_0 0 rfl rfl)
theorem dX5_passes_1 : decode cX5_passes 1 = .ok (.istore_n 2, 1) := dk_61 (dk_at dksX5_passes_0 1 rfl rfl)
theorem dX5_passes_2 : decode cX5_passes 2 = .ok (.iload_n 2, 1) := dk_28 (dk_at dksX5_passes_0 2 rfl rfl)
theorem dX5_passes_3 : decode cX5_passes 3 = .ok (.iload_n 1, 1) := dk_27 (dk_at dksX5_passes_0 3 rfl rfl)
theorem dX5_passes_4 : decode cX5_passes 4 = .ok (.if_icmp .ge 98, 3) := dk_162 0 98 (dk_at dksX5_passes_0 4 rfl rfl)
theorem dX5_passes_7 : decode cX5_passes 7 = .ok (.iconst 0, 1) := dk_3 (dk_at dksX5_passes_0 7 rfl rfl)
theorem dX5_passes_8 : decode cX5_passes 8 = .ok (.istore_n 3, 1) := dk_62 (dk_at dksX5_passes_0 8 rfl rfl)
theorem dX5_passes_9 : decode cX5_passes 9 = .ok (.iload_n 3, 1) := dk_29 (dk_at dksX5_passes_0 9 rfl rfl)
theorem dX5_passes_10 : decode cX5_passes 10 = .ok (.aload_n 0, 1) := dk_42 (dk_at dksX5_passes_0 10 rfl rfl)
theorem dX5_passes_11 : decode cX5_passes 11 = .ok (.getfield 28, 3) := dk_180 0 28 (dk_at dksX5_passes_0 11 rfl rfl)
theorem dX5_passes_14 : decode cX5_passes 14 = .ok (.if_icmp .ge 82, 3) := dk_162 0 82 (dk_at dksX5_passes_0 14 rfl rfl)
theorem dX5_passes_17 : decode cX5_passes 17 = .ok (.aload_n 0, 1) := dk_42 (dk_at dksX5_passes_0 17 rfl rfl)
theorem dX5_passes_18 : decode cX5_passes 18 = .ok (.getfield 20, 3) := dk_180 0 20 (dk_at dksX5_passes_0 18 rfl rfl)
theorem dX5_passes_21 : decode cX5_passes 21 = .ok (.iload_n 3, 1) := dk_29 (dk_at dksX5_passes_0 21 rfl rfl)
theorem dX5_passes_22 : decode cX5_passes 22 = .ok (.aaload, 1) := dk_50 (dk_at dksX5_passes_0 22 rfl rfl)
theorem dX5_passes_23 : decode cX5_passes 23 = .ok (.aload_n 0, 1) := dk_42 (dk_at dksX5_passes_0 23 rfl rfl)
theorem dX5_passes_24 : decode cX5_passes 24 = .ok (.aload_n 0, 1) := dk_42 (dk_at dksX5_passes_1 0 rfl rfl)
theorem dX5_passes_25 : decode cX5_passes 25 = .ok (.getfield 20, 3) := dk_180 0 20 (dk_at dksX5_passes_1 1 rfl rfl)
theorem dX5_passes_28 : decode cX5_passes 28 = .ok (.iload_n 3, 1) := dk_29 (dk_at dksX5_passes_1 4 rfl rfl)
theorem dX5_passes_29 : decode cX5_passes 29 = .ok (.aaload, 1) := dk_50 (dk_at dksX5_passes_1 5 rfl rfl)
theorem dX5_passes_30 : decode cX5_passes 30 = .ok (.invokevirtual 78, 3) := dk_182 0 78 (dk_at dksX5_passes_1 6 rfl rfl)
theorem dX5_passes_33 : decode cX5_passes 33 = .ok (.invokevirtual 82, 3) := dk_182 0 82 (dk_at dksX5_passes_1 9 rfl rfl)
theorem dX5_passes_36 : decode cX5_passes 36 = .ok (.aload_n 0, 1) := dk_42 (dk_at dksX5_passes_1 12 rfl rfl)
theorem dX5_passes_37 : decode cX5_passes 37 = .ok (.dup, 1) := dk_89 (dk_at dksX5_passes_1 13 rfl rfl)
theorem dX5_passes_38 : decode cX5_passes 38 = .ok (.getfield 53, 3) := dk_180 0 53 (dk_at dksX5_passes_1 14 rfl rfl)
theorem dX5_passes_41 : decode cX5_passes 41 = .ok (.aload_n 0, 1) := dk_42 (dk_at dksX5_passes_1 17 rfl rfl)
theorem dX5_passes_42 : decode cX5_passes 42 = .ok (.getfield 20, 3) := dk_180 0 20 (dk_at dksX5_passes_1 18 rfl rfl)
theorem dX5_passes_45 : decode cX5_passes 45 = .ok (.iload_n 3, 1) := dk_29 (dk_at dksX5_passes_1 21 rfl rfl)
theorem dX5_passes_46 : decode cX5_passes 46 = .ok (.aaload, 1) := dk_50 (dk_at dksX5_passes_1 22 rfl rfl)
theorem dX5_passes_47 : decode cX5_passes 47 = .ok (.getfield 85, 3) := dk_180 0 85 (dk_at dksX5_passes_2 0 rfl rfl)
theorem dX5_passes_50 : decode cX5_passes 50 = .ok (.iadd, 1) := dk_96 (dk_at dksX5_passes_2 3 rfl rfl)
theorem dX5_passes_51 : decode cX5_passes 51 = .ok (.putfield 53, 3) := dk_181 0 53 (dk_at dksX5_passes_2 4 rfl rfl)
theorem dX5_passes_54 : decode cX5_passes 54 = .ok (.aload_n 0, 1) := dk_42 (dk_at dksX5_passes_2 7 rfl rfl)
theorem dX5_passes_55 : decode cX5_passes 55 = .ok (.dup, 1) := dk_89 (dk_at dksX5_passes_2 8 rfl rfl)
theorem dX5_passes_56 : decode cX5_passes 56 = .ok (.getfield 59, 3) := dk_180 0 59 (dk_at dksX5_passes_2 9 rfl rfl)
theorem dX5_passes_59 : decode cX5_passes 59 = .ok (.aload_n 0, 1) := dk_42 (dk_at dksX5_passes_2 12 rfl rfl)
theorem dX5_passes_60 : decode cX5_passes 60 = .ok (.getfield 20, 3) := dk_180 0 20 (dk_at dksX5_passes_2 13 rfl rfl)
theorem dX5_passes_63 : decode cX5_passes 63 = .ok (.iload_n 3, 1) := dk_29 (dk_at dksX5_passes_2 16 rfl rfl)
theorem dX5_passes_64 : decode cX5_passes 64 = .ok (.aaload, 1) := dk_50 (dk_at dksX5_passes_2 17 rfl rfl)
theorem dX5_passes_65 : decode cX5_passes 65 = .ok (.getfield 88, 3) := dk_180 0 88 (dk_at dksX5_passes_2 18 rfl rfl)
theorem dX5_passes_68 : decode cX5_passes 68 = .ok (.iadd, 1) := dk_96 (dk_at dksX5_passes_2 21 rfl rfl)
theorem dX5_passes_69 : decode cX5_passes 69 = .ok (.putfield 59, 3) := dk_181 0 59 (dk_at dksX5_passes_3 0 rfl rfl)
theorem dX5_passes_72 : decode cX5_passes 72 = .ok (.aload_n 0, 1) := dk_42 (dk_at dksX5_passes_3 3 rfl rfl)
theorem dX5_passes_73 : decode cX5_passes 73 = .ok (.dup, 1) := dk_89 (dk_at dksX5_passes_3 4 rfl rfl)
theorem dX5_passes_74 : decode cX5_passes 74 = .ok (.getfield 62, 3) := dk_180 0 62 (dk_at dksX5_passes_3 5 rfl rfl)
theorem dX5_passes_77 : decode cX5_passes 77 = .ok (.aload_n 0, 1) := dk_42 (dk_at dksX5_passes_3 8 rfl rfl)
theorem dX5_passes_78 : decode cX5_passes 78 = .ok (.getfield 20, 3) := dk_180 0 20 (dk_at dksX5_passes_3 9 rfl rfl)
theorem dX5_passes_81 : decode cX5_passes 81 = .ok (.iload_n 3, 1) := dk_29 (dk_at dksX5_passes_3 12 rfl rfl)
theorem dX5_passes_82 : decode cX5_passes 82 = .ok (.aaload, 1) := dk_50 (dk_at dksX5_passes_3 13 rfl rfl)
theorem dX5_passes_83 : decode cX5_passes 83 = .ok (.getfield 89, 3) := dk_180 0 89 (dk_at dksX5_passes_3 14 rfl rfl)
theorem dX5_passes_86 : decode cX5_passes 86 = .ok (.iadd, 1) := dk_96 (dk_at dksX5_passes_3 17 rfl rfl)
theorem dX5_passes_87 : decode cX5_passes 87 = .ok (.putfield 62, 3) := dk_181 0 62 (dk_at dksX5_passes_3 18 rfl rfl)
theorem dX5_passes_90 : decode cX5_passes 90 = .ok (.iinc 3 1, 3) := dk_132 3 1 (dk_at dksX5_passes_3 21 rfl rfl)
theorem dX5_passes_93 : decode cX5_passes 93 = .ok (.goto (-84), 3) := dk_167 255 172 (dk_at dksX5_passes_4 0 rfl rfl)
theorem dX5_passes_96 : decode cX5_passes 96 = .ok (.iinc 2 1, 3) := dk_132 2 1 (dk_at dksX5_passes_4 3 rfl rfl)
theorem dX5_passes_99 : decode cX5_passes 99 = .ok (.goto (-97), 3) := dk_167 255 159 (dk_at dksX5_passes_4 6 rfl rfl)
theorem dX5_passes_102 : decode cX5_passes 102 = .ok (.aload_n 0, 1) := dk_42 (dk_at dksX5_passes_4 9 rfl rfl)
theorem dX5_passes_103 : decode cX5_passes 103 = .ok (.dup, 1) := dk_89 (dk_at dksX5_passes_4 10 rfl rfl)
theorem dX5_passes_104 : decode cX5_passes 104 = .ok (.getfield 47, 3) := dk_180 0 47 (dk_at dksX5_passes_4 11 rfl rfl)
theorem dX5_passes_107 : decode cX5_passes 107 = .ok (.iload_n 1, 1) := dk_27 (dk_at dksX5_passes_4 14 rfl rfl)
theorem dX5_passes_108 : decode cX5_passes 108 = .ok (.iadd, 1) := dk_96 (dk_at dksX5_passes_4 15 rfl rfl)
theorem dX5_passes_109 : decode cX5_passes 109 = .ok (.putfield 47, 3) := dk_181 0 47 (dk_at dksX5_passes_4 16 rfl rfl)
theorem dX5_passes_112 : decode cX5_passes 112 = .ok (.return_, 1) := dk_177 (dk_at dksX5_passes_4 19 rfl rfl)
def dkwX5_laysIn_0 : List UInt8 := [43, 180, 0, 71, 156, 0, 7, 3, 167, 0, 15, 42, 180, 0, 12, 180, 0, 74, 43, 180, 0, 71, 46, 172]
abbrev dktX5_laysIn_0 : List UInt8 := dkwX5_laysIn_0 ++ []
theorem dksX5_laysIn_0 : cX5_laysIn.data.toList.drop 0 = dktX5_laysIn_0 := by decide +kernel
theorem dX5_laysIn_0 : decode cX5_laysIn 0 = .ok (.aload_n 1, 1) := dk_43 (dk_at dksX5_laysIn_0 0 rfl rfl)
theorem dX5_laysIn_1 : decode cX5_laysIn 1 = .ok (.getfield 71, 3) := dk_180 0 71 (dk_at dksX5_laysIn_0 1 rfl rfl)
theorem dX5_laysIn_4 : decode cX5_laysIn 4 = .ok (.ifCond .ge 7, 3) := dk_156 0 7 (dk_at dksX5_laysIn_0 4 rfl rfl)
theorem dX5_laysIn_7 : decode cX5_laysIn 7 = .ok (.iconst 0, 1) := dk_3 (dk_at dksX5_laysIn_0 7 rfl rfl)
theorem dX5_laysIn_8 : decode cX5_laysIn 8 = .ok (.goto 15, 3) := dk_167 0 15 (dk_at dksX5_laysIn_0 8 rfl rfl)
theorem dX5_laysIn_11 : decode cX5_laysIn 11 = .ok (.aload_n 0, 1) := dk_42 (dk_at dksX5_laysIn_0 11 rfl rfl)
theorem dX5_laysIn_12 : decode cX5_laysIn 12 = .ok (.getfield 12, 3) := dk_180 0 12 (dk_at dksX5_laysIn_0 12 rfl rfl)
theorem dX5_laysIn_15 : decode cX5_laysIn 15 = .ok (.getfield 74, 3) := dk_180 0 74 (dk_at dksX5_laysIn_0 15 rfl rfl)
theorem dX5_laysIn_18 : decode cX5_laysIn 18 = .ok (.aload_n 1, 1) := dk_43 (dk_at dksX5_laysIn_0 18 rfl rfl)
theorem dX5_laysIn_19 : decode cX5_laysIn 19 = .ok (.getfield 71, 3) := dk_180 0 71 (dk_at dksX5_laysIn_0 19 rfl rfl)
theorem dX5_laysIn_22 : decode cX5_laysIn 22 = .ok (.iaload, 1) := dk_46 (dk_at dksX5_laysIn_0 22 rfl rfl)
theorem dX5_laysIn_23 : decode cX5_laysIn 23 = .ok (.ireturn, 1) := dk_172 (dk_at dksX5_laysIn_0 23 rfl rfl)
def dkwX5_brings_1 : List UInt8 := [180, 0, 56, 29, 96, 181, 0, 56, 29, 172]
abbrev dktX5_brings_1 : List UInt8 := dkwX5_brings_1 ++ []
def dkwX5_brings_0 : List UInt8 := [42, 180, 0, 20, 27, 50, 28, 182, 0, 90, 62, 42, 89, 180, 0, 65, 28, 96, 181, 0, 65, 42, 89]
abbrev dktX5_brings_0 : List UInt8 := dkwX5_brings_0 ++ dktX5_brings_1
theorem dksX5_brings_0 : cX5_brings.data.toList.drop 0 = dktX5_brings_0 := by decide +kernel
theorem dksX5_brings_1 : cX5_brings.data.toList.drop 23 = dktX5_brings_1 := dk_seg dksX5_brings_0 23 rfl rfl
theorem dX5_brings_0 : decode cX5_brings 0 = .ok (.aload_n 0, 1) := dk_42 (dk_at dksX5_brings_0 0 rfl rfl)
theorem dX5_brings_1 : decode cX5_brings 1 = .ok (.getfield 20, 3) := dk_180 0 20 (dk_at dksX5_brings_0 1 rfl rfl)
theorem dX5_brings_4 : decode cX5_brings 4 = .ok (.iload_n 1, 1) := dk_27 (dk_at dksX5_brings_0 4 rfl rfl)
theorem dX5_brings_5 : decode cX5_brings 5 = .ok (.aaload, 1) := dk_50 (dk_at dksX5_brings_0 5 rfl rfl)
theorem dX5_brings_6 : decode cX5_brings 6 = .ok (.iload_n 2, 1) := dk_28 (dk_at dksX5_brings_0 6 rfl rfl)
theorem dX5_brings_7 : decode cX5_brings 7 = .ok (.invokevirtual 90, 3) := dk_182 0 90 (dk_at dksX5_brings_0 7 rfl rfl)
theorem dX5_brings_10 : decode cX5_brings 10 = .ok (.istore_n 3, 1) := dk_62 (dk_at dksX5_brings_0 10 rfl rfl)
theorem dX5_brings_11 : decode cX5_brings 11 = .ok (.aload_n 0, 1) := dk_42 (dk_at dksX5_brings_0 11 rfl rfl)
theorem dX5_brings_12 : decode cX5_brings 12 = .ok (.dup, 1) := dk_89 (dk_at dksX5_brings_0 12 rfl rfl)
theorem dX5_brings_13 : decode cX5_brings 13 = .ok (.getfield 65, 3) := dk_180 0 65 (dk_at dksX5_brings_0 13 rfl rfl)
theorem dX5_brings_16 : decode cX5_brings 16 = .ok (.iload_n 2, 1) := dk_28 (dk_at dksX5_brings_0 16 rfl rfl)
theorem dX5_brings_17 : decode cX5_brings 17 = .ok (.iadd, 1) := dk_96 (dk_at dksX5_brings_0 17 rfl rfl)
theorem dX5_brings_18 : decode cX5_brings 18 = .ok (.putfield 65, 3) := dk_181 0 65 (dk_at dksX5_brings_0 18 rfl rfl)
theorem dX5_brings_21 : decode cX5_brings 21 = .ok (.aload_n 0, 1) := dk_42 (dk_at dksX5_brings_0 21 rfl rfl)
theorem dX5_brings_22 : decode cX5_brings 22 = .ok (.dup, 1) := dk_89 (dk_at dksX5_brings_0 22 rfl rfl)
theorem dX5_brings_23 : decode cX5_brings 23 = .ok (.getfield 56, 3) := dk_180 0 56 (dk_at dksX5_brings_1 0 rfl rfl)
theorem dX5_brings_26 : decode cX5_brings 26 = .ok (.iload_n 3, 1) := dk_29 (dk_at dksX5_brings_1 3 rfl rfl)
theorem dX5_brings_27 : decode cX5_brings 27 = .ok (.iadd, 1) := dk_96 (dk_at dksX5_brings_1 4 rfl rfl)
theorem dX5_brings_28 : decode cX5_brings 28 = .ok (.putfield 56, 3) := dk_181 0 56 (dk_at dksX5_brings_1 5 rfl rfl)
theorem dX5_brings_31 : decode cX5_brings 31 = .ok (.iload_n 3, 1) := dk_29 (dk_at dksX5_brings_1 8 rfl rfl)
theorem dX5_brings_32 : decode cX5_brings 32 = .ok (.ireturn, 1) := dk_172 (dk_at dksX5_brings_1 9 rfl rfl)
def dkwX5_harvests_0 : List UInt8 := [42, 180, 0, 20, 27, 50, 28, 182, 0, 94, 62, 42, 89, 180, 0, 50, 29, 96, 181, 0, 50, 29, 172]
abbrev dktX5_harvests_0 : List UInt8 := dkwX5_harvests_0 ++ []
theorem dksX5_harvests_0 : cX5_harvests.data.toList.drop 0 = dktX5_harvests_0 := by decide +kernel
theorem dX5_harvests_0 : decode cX5_harvests 0 = .ok (.aload_n 0, 1) := dk_42 (dk_at dksX5_harvests_0 0 rfl rfl)
theorem dX5_harvests_1 : decode cX5_harvests 1 = .ok (.getfield 20, 3) := dk_180 0 20 (dk_at dksX5_harvests_0 1 rfl rfl)
theorem dX5_harvests_4 : decode cX5_harvests 4 = .ok (.iload_n 1, 1) := dk_27 (dk_at dksX5_harvests_0 4 rfl rfl)
theorem dX5_harvests_5 : decode cX5_harvests 5 = .ok (.aaload, 1) := dk_50 (dk_at dksX5_harvests_0 5 rfl rfl)
theorem dX5_harvests_6 : decode cX5_harvests 6 = .ok (.iload_n 2, 1) := dk_28 (dk_at dksX5_harvests_0 6 rfl rfl)
theorem dX5_harvests_7 : decode cX5_harvests 7 = .ok (.invokevirtual 94, 3) := dk_182 0 94 (dk_at dksX5_harvests_0 7 rfl rfl)
theorem dX5_harvests_10 : decode cX5_harvests 10 = .ok (.istore_n 3, 1) := dk_62 (dk_at dksX5_harvests_0 10 rfl rfl)
theorem dX5_harvests_11 : decode cX5_harvests 11 = .ok (.aload_n 0, 1) := dk_42 (dk_at dksX5_harvests_0 11 rfl rfl)
theorem dX5_harvests_12 : decode cX5_harvests 12 = .ok (.dup, 1) := dk_89 (dk_at dksX5_harvests_0 12 rfl rfl)
theorem dX5_harvests_13 : decode cX5_harvests 13 = .ok (.getfield 50, 3) := dk_180 0 50 (dk_at dksX5_harvests_0 13 rfl rfl)
theorem dX5_harvests_16 : decode cX5_harvests 16 = .ok (.iload_n 3, 1) := dk_29 (dk_at dksX5_harvests_0 16 rfl rfl)
theorem dX5_harvests_17 : decode cX5_harvests 17 = .ok (.iadd, 1) := dk_96 (dk_at dksX5_harvests_0 17 rfl rfl)
theorem dX5_harvests_18 : decode cX5_harvests 18 = .ok (.putfield 50, 3) := dk_181 0 50 (dk_at dksX5_harvests_0 18 rfl rfl)
theorem dX5_harvests_21 : decode cX5_harvests 21 = .ok (.iload_n 3, 1) := dk_29 (dk_at dksX5_harvests_0 21 rfl rfl)
theorem dX5_harvests_22 : decode cX5_harvests 22 = .ok (.ireturn, 1) := dk_172 (dk_at dksX5_harvests_0 22 rfl rfl)
def dkwX5_canSeat_1 : List UInt8 := [180, 0, 71, 156, 0, 7, 4, 167, 0, 4, 3, 172]
abbrev dktX5_canSeat_1 : List UInt8 := dkwX5_canSeat_1 ++ []
def dkwX5_canSeat_0 : List UInt8 := [42, 27, 182, 0, 97, 156, 0, 27, 42, 180, 0, 24, 27, 159, 0, 19, 42, 180, 0, 20, 28, 50]
abbrev dktX5_canSeat_0 : List UInt8 := dkwX5_canSeat_0 ++ dktX5_canSeat_1
theorem dksX5_canSeat_0 : cX5_canSeat.data.toList.drop 0 = dktX5_canSeat_0 := by decide +kernel
theorem dksX5_canSeat_1 : cX5_canSeat.data.toList.drop 22 = dktX5_canSeat_1 := dk_seg dksX5_canSeat_0 22 rfl rfl
theorem dX5_canSeat_0 : decode cX5_canSeat 0 = .ok (.aload_n 0, 1) := dk_42 (dk_at dksX5_canSeat_0 0 rfl rfl)
theorem dX5_canSeat_1 : decode cX5_canSeat 1 = .ok (.iload_n 1, 1) := dk_27 (dk_at dksX5_canSeat_0 1 rfl rfl)
theorem dX5_canSeat_2 : decode cX5_canSeat 2 = .ok (.invokevirtual 97, 3) := dk_182 0 97 (dk_at dksX5_canSeat_0 2 rfl rfl)
theorem dX5_canSeat_5 : decode cX5_canSeat 5 = .ok (.ifCond .ge 27, 3) := dk_156 0 27 (dk_at dksX5_canSeat_0 5 rfl rfl)
theorem dX5_canSeat_8 : decode cX5_canSeat 8 = .ok (.aload_n 0, 1) := dk_42 (dk_at dksX5_canSeat_0 8 rfl rfl)
theorem dX5_canSeat_9 : decode cX5_canSeat 9 = .ok (.getfield 24, 3) := dk_180 0 24 (dk_at dksX5_canSeat_0 9 rfl rfl)
theorem dX5_canSeat_12 : decode cX5_canSeat 12 = .ok (.iload_n 1, 1) := dk_27 (dk_at dksX5_canSeat_0 12 rfl rfl)
theorem dX5_canSeat_13 : decode cX5_canSeat 13 = .ok (.if_icmp .eq 19, 3) := dk_159 0 19 (dk_at dksX5_canSeat_0 13 rfl rfl)
theorem dX5_canSeat_16 : decode cX5_canSeat 16 = .ok (.aload_n 0, 1) := dk_42 (dk_at dksX5_canSeat_0 16 rfl rfl)
theorem dX5_canSeat_17 : decode cX5_canSeat 17 = .ok (.getfield 20, 3) := dk_180 0 20 (dk_at dksX5_canSeat_0 17 rfl rfl)
theorem dX5_canSeat_20 : decode cX5_canSeat 20 = .ok (.iload_n 2, 1) := dk_28 (dk_at dksX5_canSeat_0 20 rfl rfl)
theorem dX5_canSeat_21 : decode cX5_canSeat 21 = .ok (.aaload, 1) := dk_50 (dk_at dksX5_canSeat_0 21 rfl rfl)
theorem dX5_canSeat_22 : decode cX5_canSeat 22 = .ok (.getfield 71, 3) := dk_180 0 71 (dk_at dksX5_canSeat_1 0 rfl rfl)
theorem dX5_canSeat_25 : decode cX5_canSeat 25 = .ok (.ifCond .ge 7, 3) := dk_156 0 7 (dk_at dksX5_canSeat_1 3 rfl rfl)
theorem dX5_canSeat_28 : decode cX5_canSeat 28 = .ok (.iconst 1, 1) := dk_4 (dk_at dksX5_canSeat_1 6 rfl rfl)
theorem dX5_canSeat_29 : decode cX5_canSeat 29 = .ok (.goto 4, 3) := dk_167 0 4 (dk_at dksX5_canSeat_1 7 rfl rfl)
theorem dX5_canSeat_32 : decode cX5_canSeat 32 = .ok (.iconst 0, 1) := dk_3 (dk_at dksX5_canSeat_1 10 rfl rfl)
theorem dX5_canSeat_33 : decode cX5_canSeat 33 = .ok (.ireturn, 1) := dk_172 (dk_at dksX5_canSeat_1 11 rfl rfl)
def dkwX6_init_2 : List UInt8 := [188, 10, 181, 0, 28, 177]
abbrev dktX6_init_2 : List UInt8 := dkwX6_init_2 ++ []
def dkwX6_init_1 : List UInt8 := [188, 10, 181, 0, 19, 42, 16, 16, 188, 10, 181, 0, 22, 42, 16, 8, 188, 10, 181, 0, 25, 42, 16, 16]
abbrev dktX6_init_1 : List UInt8 := dkwX6_init_1 ++ dktX6_init_2
def dkwX6_init_0 : List UInt8 := [42, 183, 0, 3, 42, 16, 16, 188, 11, 181, 0, 9, 42, 16, 16, 188, 10, 181, 0, 15, 42, 16, 16]
abbrev dktX6_init_0 : List UInt8 := dkwX6_init_0 ++ dktX6_init_1
theorem dksX6_init_0 : cX6_init.data.toList.drop 0 = dktX6_init_0 := by decide +kernel
theorem dksX6_init_1 : cX6_init.data.toList.drop 23 = dktX6_init_1 := dk_seg dksX6_init_0 23 rfl rfl
theorem dksX6_init_2 : cX6_init.data.toList.drop 47 = dktX6_init_2 := dk_seg dksX6_init_1 24 rfl rfl
theorem dX6_init_0 : decode cX6_init 0 = .ok (.aload_n 0, 1) := dk_42 (dk_at dksX6_init_0 0 rfl rfl)
theorem dX6_init_1 : decode cX6_init 1 = .ok (.invokespecial 3, 3) := dk_183 0 3 (dk_at dksX6_init_0 1 rfl rfl)
theorem dX6_init_4 : decode cX6_init 4 = .ok (.aload_n 0, 1) := dk_42 (dk_at dksX6_init_0 4 rfl rfl)
theorem dX6_init_5 : decode cX6_init 5 = .ok (.bipush 16, 2) := dk_16 16 (dk_at dksX6_init_0 5 rfl rfl)
theorem dX6_init_7 : decode cX6_init 7 = .ok (.newarray .long, 2) := dk_188_11 (dk_at dksX6_init_0 7 rfl rfl)
theorem dX6_init_9 : decode cX6_init 9 = .ok (.putfield 9, 3) := dk_181 0 9 (dk_at dksX6_init_0 9 rfl rfl)
theorem dX6_init_12 : decode cX6_init 12 = .ok (.aload_n 0, 1) := dk_42 (dk_at dksX6_init_0 12 rfl rfl)
theorem dX6_init_13 : decode cX6_init 13 = .ok (.bipush 16, 2) := dk_16 16 (dk_at dksX6_init_0 13 rfl rfl)
theorem dX6_init_15 : decode cX6_init 15 = .ok (.newarray .int, 2) := dk_188_10 (dk_at dksX6_init_0 15 rfl rfl)
theorem dX6_init_17 : decode cX6_init 17 = .ok (.putfield 15, 3) := dk_181 0 15 (dk_at dksX6_init_0 17 rfl rfl)
theorem dX6_init_20 : decode cX6_init 20 = .ok (.aload_n 0, 1) := dk_42 (dk_at dksX6_init_0 20 rfl rfl)
theorem dX6_init_21 : decode cX6_init 21 = .ok (.bipush 16, 2) := dk_16 16 (dk_at dksX6_init_0 21 rfl rfl)
theorem dX6_init_23 : decode cX6_init 23 = .ok (.newarray .int, 2) := dk_188_10 (dk_at dksX6_init_1 0 rfl rfl)
theorem dX6_init_25 : decode cX6_init 25 = .ok (.putfield 19, 3) := dk_181 0 19 (dk_at dksX6_init_1 2 rfl rfl)
theorem dX6_init_28 : decode cX6_init 28 = .ok (.aload_n 0, 1) := dk_42 (dk_at dksX6_init_1 5 rfl rfl)
theorem dX6_init_29 : decode cX6_init 29 = .ok (.bipush 16, 2) := dk_16 16 (dk_at dksX6_init_1 6 rfl rfl)
theorem dX6_init_31 : decode cX6_init 31 = .ok (.newarray .int, 2) := dk_188_10 (dk_at dksX6_init_1 8 rfl rfl)
theorem dX6_init_33 : decode cX6_init 33 = .ok (.putfield 22, 3) := dk_181 0 22 (dk_at dksX6_init_1 10 rfl rfl)
theorem dX6_init_36 : decode cX6_init 36 = .ok (.aload_n 0, 1) := dk_42 (dk_at dksX6_init_1 13 rfl rfl)
theorem dX6_init_37 : decode cX6_init 37 = .ok (.bipush 8, 2) := dk_16 8 (dk_at dksX6_init_1 14 rfl rfl)
theorem dX6_init_39 : decode cX6_init 39 = .ok (.newarray .int, 2) := dk_188_10 (dk_at dksX6_init_1 16 rfl rfl)
theorem dX6_init_41 : decode cX6_init 41 = .ok (.putfield 25, 3) := dk_181 0 25 (dk_at dksX6_init_1 18 rfl rfl)
theorem dX6_init_44 : decode cX6_init 44 = .ok (.aload_n 0, 1) := dk_42 (dk_at dksX6_init_1 21 rfl rfl)
theorem dX6_init_45 : decode cX6_init 45 = .ok (.bipush 16, 2) := dk_16 16 (dk_at dksX6_init_1 22 rfl rfl)
theorem dX6_init_47 : decode cX6_init 47 = .ok (.newarray .int, 2) := dk_188_10 (dk_at dksX6_init_2 0 rfl rfl)
theorem dX6_init_49 : decode cX6_init 49 = .ok (.putfield 28, 3) := dk_181 0 28 (dk_at dksX6_init_2 2 rfl rfl)
theorem dX6_init_52 : decode cX6_init 52 = .ok (.return_, 1) := dk_177 (dk_at dksX6_init_2 5 rfl rfl)
def dkwX6_queenNamed_1 : List UInt8 := [132, 3, 1, 167, 255, 232, 2, 172]
abbrev dktX6_queenNamed_1 : List UInt8 := dkwX6_queenNamed_1 ++ []
def dkwX6_queenNamed_0 : List UInt8 := [3, 62, 29, 42, 180, 0, 31, 162, 0, 22, 42, 180, 0, 9, 29, 47, 31, 148, 154, 0, 5, 29, 172]
abbrev dktX6_queenNamed_0 : List UInt8 := dkwX6_queenNamed_0 ++ dktX6_queenNamed_1
theorem dksX6_queenNamed_0 : cX6_queenNamed.data.toList.drop 0 = dktX6_queenNamed_0 := by decide +kernel
theorem dksX6_queenNamed_1 : cX6_queenNamed.data.toList.drop 23 = dktX6_queenNamed_1 := dk_seg dksX6_queenNamed_0 23 rfl rfl
theorem dX6_queenNamed_0 : decode cX6_queenNamed 0 = .ok (.iconst 0, 1) := dk_3 (dk_at dksX6_queenNamed_0 0 rfl rfl)
theorem dX6_queenNamed_1 : decode cX6_queenNamed 1 = .ok (.istore_n 3, 1) := dk_62 (dk_at dksX6_queenNamed_0 1 rfl rfl)
theorem dX6_queenNamed_2 : decode cX6_queenNamed 2 = .ok (.iload_n 3, 1) := dk_29 (dk_at dksX6_queenNamed_0 2 rfl rfl)
theorem dX6_queenNamed_3 : decode cX6_queenNamed 3 = .ok (.aload_n 0, 1) := dk_42 (dk_at dksX6_queenNamed_0 3 rfl rfl)
theorem dX6_queenNamed_4 : decode cX6_queenNamed 4 = .ok (.getfield 31, 3) := dk_180 0 31 (dk_at dksX6_queenNamed_0 4 rfl rfl)
theorem dX6_queenNamed_7 : decode cX6_queenNamed 7 = .ok (.if_icmp .ge 22, 3) := dk_162 0 22 (dk_at dksX6_queenNamed_0 7 rfl rfl)
theorem dX6_queenNamed_10 : decode cX6_queenNamed 10 = .ok (.aload_n 0, 1) := dk_42 (dk_at dksX6_queenNamed_0 10 rfl rfl)
theorem dX6_queenNamed_11 : decode cX6_queenNamed 11 = .ok (.getfield 9, 3) := dk_180 0 9 (dk_at dksX6_queenNamed_0 11 rfl rfl)
theorem dX6_queenNamed_14 : decode cX6_queenNamed 14 = .ok (.iload_n 3, 1) := dk_29 (dk_at dksX6_queenNamed_0 14 rfl rfl)
theorem dX6_queenNamed_15 : decode cX6_queenNamed 15 = .ok (.laload, 1) := dk_47 (dk_at dksX6_queenNamed_0 15 rfl rfl)
theorem dX6_queenNamed_16 : decode cX6_queenNamed 16 = .ok (.lload_n 1, 1) := dk_31 (dk_at dksX6_queenNamed_0 16 rfl rfl)
theorem dX6_queenNamed_17 : decode cX6_queenNamed 17 = .ok (.lcmp, 1) := dk_148 (dk_at dksX6_queenNamed_0 17 rfl rfl)
theorem dX6_queenNamed_18 : decode cX6_queenNamed 18 = .ok (.ifCond .ne 5, 3) := dk_154 0 5 (dk_at dksX6_queenNamed_0 18 rfl rfl)
theorem dX6_queenNamed_21 : decode cX6_queenNamed 21 = .ok (.iload_n 3, 1) := dk_29 (dk_at dksX6_queenNamed_0 21 rfl rfl)
theorem dX6_queenNamed_22 : decode cX6_queenNamed 22 = .ok (.ireturn, 1) := dk_172 (dk_at dksX6_queenNamed_0 22 rfl rfl)
theorem dX6_queenNamed_23 : decode cX6_queenNamed 23 = .ok (.iinc 3 1, 3) := dk_132 3 1 (dk_at dksX6_queenNamed_1 0 rfl rfl)
theorem dX6_queenNamed_26 : decode cX6_queenNamed 26 = .ok (.goto (-24), 3) := dk_167 255 232 (dk_at dksX6_queenNamed_1 3 rfl rfl)
theorem dX6_queenNamed_29 : decode cX6_queenNamed 29 = .ok (.iconst (-1), 1) := dk_2 (dk_at dksX6_queenNamed_1 6 rfl rfl)
theorem dX6_queenNamed_30 : decode cX6_queenNamed 30 = .ok (.ireturn, 1) := dk_172 (dk_at dksX6_queenNamed_1 7 rfl rfl)
def dkwX6_droneNamed_1 : List UInt8 := [154, 0, 5, 29, 172, 132, 3, 1, 167, 255, 229, 2, 172]
abbrev dktX6_droneNamed_1 : List UInt8 := dkwX6_droneNamed_1 ++ []
def dkwX6_droneNamed_0 : List UInt8 := [16, 8, 62, 29, 16, 8, 42, 180, 0, 35, 96, 162, 0, 22, 42, 180, 0, 9, 29, 47, 31, 148]
abbrev dktX6_droneNamed_0 : List UInt8 := dkwX6_droneNamed_0 ++ dktX6_droneNamed_1
theorem dksX6_droneNamed_0 : cX6_droneNamed.data.toList.drop 0 = dktX6_droneNamed_0 := by decide +kernel
theorem dksX6_droneNamed_1 : cX6_droneNamed.data.toList.drop 22 = dktX6_droneNamed_1 := dk_seg dksX6_droneNamed_0 22 rfl rfl
theorem dX6_droneNamed_0 : decode cX6_droneNamed 0 = .ok (.bipush 8, 2) := dk_16 8 (dk_at dksX6_droneNamed_0 0 rfl rfl)
theorem dX6_droneNamed_2 : decode cX6_droneNamed 2 = .ok (.istore_n 3, 1) := dk_62 (dk_at dksX6_droneNamed_0 2 rfl rfl)
theorem dX6_droneNamed_3 : decode cX6_droneNamed 3 = .ok (.iload_n 3, 1) := dk_29 (dk_at dksX6_droneNamed_0 3 rfl rfl)
theorem dX6_droneNamed_4 : decode cX6_droneNamed 4 = .ok (.bipush 8, 2) := dk_16 8 (dk_at dksX6_droneNamed_0 4 rfl rfl)
theorem dX6_droneNamed_6 : decode cX6_droneNamed 6 = .ok (.aload_n 0, 1) := dk_42 (dk_at dksX6_droneNamed_0 6 rfl rfl)
theorem dX6_droneNamed_7 : decode cX6_droneNamed 7 = .ok (.getfield 35, 3) := dk_180 0 35 (dk_at dksX6_droneNamed_0 7 rfl rfl)
theorem dX6_droneNamed_10 : decode cX6_droneNamed 10 = .ok (.iadd, 1) := dk_96 (dk_at dksX6_droneNamed_0 10 rfl rfl)
theorem dX6_droneNamed_11 : decode cX6_droneNamed 11 = .ok (.if_icmp .ge 22, 3) := dk_162 0 22 (dk_at dksX6_droneNamed_0 11 rfl rfl)
theorem dX6_droneNamed_14 : decode cX6_droneNamed 14 = .ok (.aload_n 0, 1) := dk_42 (dk_at dksX6_droneNamed_0 14 rfl rfl)
theorem dX6_droneNamed_15 : decode cX6_droneNamed 15 = .ok (.getfield 9, 3) := dk_180 0 9 (dk_at dksX6_droneNamed_0 15 rfl rfl)
theorem dX6_droneNamed_18 : decode cX6_droneNamed 18 = .ok (.iload_n 3, 1) := dk_29 (dk_at dksX6_droneNamed_0 18 rfl rfl)
theorem dX6_droneNamed_19 : decode cX6_droneNamed 19 = .ok (.laload, 1) := dk_47 (dk_at dksX6_droneNamed_0 19 rfl rfl)
theorem dX6_droneNamed_20 : decode cX6_droneNamed 20 = .ok (.lload_n 1, 1) := dk_31 (dk_at dksX6_droneNamed_0 20 rfl rfl)
theorem dX6_droneNamed_21 : decode cX6_droneNamed 21 = .ok (.lcmp, 1) := dk_148 (dk_at dksX6_droneNamed_0 21 rfl rfl)
theorem dX6_droneNamed_22 : decode cX6_droneNamed 22 = .ok (.ifCond .ne 5, 3) := dk_154 0 5 (dk_at dksX6_droneNamed_1 0 rfl rfl)
theorem dX6_droneNamed_25 : decode cX6_droneNamed 25 = .ok (.iload_n 3, 1) := dk_29 (dk_at dksX6_droneNamed_1 3 rfl rfl)
theorem dX6_droneNamed_26 : decode cX6_droneNamed 26 = .ok (.ireturn, 1) := dk_172 (dk_at dksX6_droneNamed_1 4 rfl rfl)
theorem dX6_droneNamed_27 : decode cX6_droneNamed 27 = .ok (.iinc 3 1, 3) := dk_132 3 1 (dk_at dksX6_droneNamed_1 5 rfl rfl)
theorem dX6_droneNamed_30 : decode cX6_droneNamed 30 = .ok (.goto (-27), 3) := dk_167 255 229 (dk_at dksX6_droneNamed_1 8 rfl rfl)
theorem dX6_droneNamed_33 : decode cX6_droneNamed 33 = .ok (.iconst (-1), 1) := dk_2 (dk_at dksX6_droneNamed_1 11 rfl rfl)
theorem dX6_droneNamed_34 : decode cX6_droneNamed 34 = .ok (.ireturn, 1) := dk_172 (dk_at dksX6_droneNamed_1 12 rfl rfl)
def dkwX6_adds_3 : List UInt8 := [181, 0, 35, 177]
abbrev dktX6_adds_3 : List UInt8 := dkwX6_adds_3 ++ []
def dkwX6_adds_2 : List UInt8 := [162, 0, 16, 42, 89, 180, 0, 31, 4, 96, 181, 0, 31, 167, 0, 13, 42, 89, 180, 0, 35, 4, 96]
abbrev dktX6_adds_2 : List UInt8 := dkwX6_adds_2 ++ dktX6_adds_3
def dkwX6_adds_1 : List UInt8 := [180, 0, 22, 27, 42, 182, 0, 38, 79, 42, 180, 0, 28, 42, 182, 0, 38, 27, 79, 27, 16, 8]
abbrev dktX6_adds_1 : List UInt8 := dkwX6_adds_1 ++ dktX6_adds_2
def dkwX6_adds_0 : List UInt8 := [42, 180, 0, 9, 27, 32, 80, 42, 180, 0, 15, 27, 21, 4, 79, 42, 180, 0, 19, 27, 21, 5, 79, 42]
abbrev dktX6_adds_0 : List UInt8 := dkwX6_adds_0 ++ dktX6_adds_1
theorem dksX6_adds_0 : cX6_adds.data.toList.drop 0 = dktX6_adds_0 := by decide +kernel
theorem dksX6_adds_1 : cX6_adds.data.toList.drop 24 = dktX6_adds_1 := dk_seg dksX6_adds_0 24 rfl rfl
theorem dksX6_adds_2 : cX6_adds.data.toList.drop 46 = dktX6_adds_2 := dk_seg dksX6_adds_1 22 rfl rfl
theorem dksX6_adds_3 : cX6_adds.data.toList.drop 69 = dktX6_adds_3 := dk_seg dksX6_adds_2 23 rfl rfl
theorem dX6_adds_0 : decode cX6_adds 0 = .ok (.aload_n 0, 1) := dk_42 (dk_at dksX6_adds_0 0 rfl rfl)
theorem dX6_adds_1 : decode cX6_adds 1 = .ok (.getfield 9, 3) := dk_180 0 9 (dk_at dksX6_adds_0 1 rfl rfl)
theorem dX6_adds_4 : decode cX6_adds 4 = .ok (.iload_n 1, 1) := dk_27 (dk_at dksX6_adds_0 4 rfl rfl)
theorem dX6_adds_5 : decode cX6_adds 5 = .ok (.lload_n 2, 1) := dk_32 (dk_at dksX6_adds_0 5 rfl rfl)
theorem dX6_adds_6 : decode cX6_adds 6 = .ok (.lastore, 1) := dk_80 (dk_at dksX6_adds_0 6 rfl rfl)
theorem dX6_adds_7 : decode cX6_adds 7 = .ok (.aload_n 0, 1) := dk_42 (dk_at dksX6_adds_0 7 rfl rfl)
theorem dX6_adds_8 : decode cX6_adds 8 = .ok (.getfield 15, 3) := dk_180 0 15 (dk_at dksX6_adds_0 8 rfl rfl)
theorem dX6_adds_11 : decode cX6_adds 11 = .ok (.iload_n 1, 1) := dk_27 (dk_at dksX6_adds_0 11 rfl rfl)
theorem dX6_adds_12 : decode cX6_adds 12 = .ok (.iload 4, 2) := dk_21 4 (dk_at dksX6_adds_0 12 rfl rfl)
theorem dX6_adds_14 : decode cX6_adds 14 = .ok (.iastore, 1) := dk_79 (dk_at dksX6_adds_0 14 rfl rfl)
theorem dX6_adds_15 : decode cX6_adds 15 = .ok (.aload_n 0, 1) := dk_42 (dk_at dksX6_adds_0 15 rfl rfl)
theorem dX6_adds_16 : decode cX6_adds 16 = .ok (.getfield 19, 3) := dk_180 0 19 (dk_at dksX6_adds_0 16 rfl rfl)
theorem dX6_adds_19 : decode cX6_adds 19 = .ok (.iload_n 1, 1) := dk_27 (dk_at dksX6_adds_0 19 rfl rfl)
theorem dX6_adds_20 : decode cX6_adds 20 = .ok (.iload 5, 2) := dk_21 5 (dk_at dksX6_adds_0 20 rfl rfl)
theorem dX6_adds_22 : decode cX6_adds 22 = .ok (.iastore, 1) := dk_79 (dk_at dksX6_adds_0 22 rfl rfl)
theorem dX6_adds_23 : decode cX6_adds 23 = .ok (.aload_n 0, 1) := dk_42 (dk_at dksX6_adds_0 23 rfl rfl)
theorem dX6_adds_24 : decode cX6_adds 24 = .ok (.getfield 22, 3) := dk_180 0 22 (dk_at dksX6_adds_1 0 rfl rfl)
theorem dX6_adds_27 : decode cX6_adds 27 = .ok (.iload_n 1, 1) := dk_27 (dk_at dksX6_adds_1 3 rfl rfl)
theorem dX6_adds_28 : decode cX6_adds 28 = .ok (.aload_n 0, 1) := dk_42 (dk_at dksX6_adds_1 4 rfl rfl)
theorem dX6_adds_29 : decode cX6_adds 29 = .ok (.invokevirtual 38, 3) := dk_182 0 38 (dk_at dksX6_adds_1 5 rfl rfl)
theorem dX6_adds_32 : decode cX6_adds 32 = .ok (.iastore, 1) := dk_79 (dk_at dksX6_adds_1 8 rfl rfl)
theorem dX6_adds_33 : decode cX6_adds 33 = .ok (.aload_n 0, 1) := dk_42 (dk_at dksX6_adds_1 9 rfl rfl)
theorem dX6_adds_34 : decode cX6_adds 34 = .ok (.getfield 28, 3) := dk_180 0 28 (dk_at dksX6_adds_1 10 rfl rfl)
theorem dX6_adds_37 : decode cX6_adds 37 = .ok (.aload_n 0, 1) := dk_42 (dk_at dksX6_adds_1 13 rfl rfl)
theorem dX6_adds_38 : decode cX6_adds 38 = .ok (.invokevirtual 38, 3) := dk_182 0 38 (dk_at dksX6_adds_1 14 rfl rfl)
theorem dX6_adds_41 : decode cX6_adds 41 = .ok (.iload_n 1, 1) := dk_27 (dk_at dksX6_adds_1 17 rfl rfl)
theorem dX6_adds_42 : decode cX6_adds 42 = .ok (.iastore, 1) := dk_79 (dk_at dksX6_adds_1 18 rfl rfl)
theorem dX6_adds_43 : decode cX6_adds 43 = .ok (.iload_n 1, 1) := dk_27 (dk_at dksX6_adds_1 19 rfl rfl)
theorem dX6_adds_44 : decode cX6_adds 44 = .ok (.bipush 8, 2) := dk_16 8 (dk_at dksX6_adds_1 20 rfl rfl)
theorem dX6_adds_46 : decode cX6_adds 46 = .ok (.if_icmp .ge 16, 3) := dk_162 0 16 (dk_at dksX6_adds_2 0 rfl rfl)
theorem dX6_adds_49 : decode cX6_adds 49 = .ok (.aload_n 0, 1) := dk_42 (dk_at dksX6_adds_2 3 rfl rfl)
theorem dX6_adds_50 : decode cX6_adds 50 = .ok (.dup, 1) := dk_89 (dk_at dksX6_adds_2 4 rfl rfl)
theorem dX6_adds_51 : decode cX6_adds 51 = .ok (.getfield 31, 3) := dk_180 0 31 (dk_at dksX6_adds_2 5 rfl rfl)
theorem dX6_adds_54 : decode cX6_adds 54 = .ok (.iconst 1, 1) := dk_4 (dk_at dksX6_adds_2 8 rfl rfl)
theorem dX6_adds_55 : decode cX6_adds 55 = .ok (.iadd, 1) := dk_96 (dk_at dksX6_adds_2 9 rfl rfl)
theorem dX6_adds_56 : decode cX6_adds 56 = .ok (.putfield 31, 3) := dk_181 0 31 (dk_at dksX6_adds_2 10 rfl rfl)
theorem dX6_adds_59 : decode cX6_adds 59 = .ok (.goto 13, 3) := dk_167 0 13 (dk_at dksX6_adds_2 13 rfl rfl)
theorem dX6_adds_62 : decode cX6_adds 62 = .ok (.aload_n 0, 1) := dk_42 (dk_at dksX6_adds_2 16 rfl rfl)
theorem dX6_adds_63 : decode cX6_adds 63 = .ok (.dup, 1) := dk_89 (dk_at dksX6_adds_2 17 rfl rfl)
theorem dX6_adds_64 : decode cX6_adds 64 = .ok (.getfield 35, 3) := dk_180 0 35 (dk_at dksX6_adds_2 18 rfl rfl)
theorem dX6_adds_67 : decode cX6_adds 67 = .ok (.iconst 1, 1) := dk_4 (dk_at dksX6_adds_2 21 rfl rfl)
theorem dX6_adds_68 : decode cX6_adds 68 = .ok (.iadd, 1) := dk_96 (dk_at dksX6_adds_2 22 rfl rfl)
theorem dX6_adds_69 : decode cX6_adds 69 = .ok (.putfield 35, 3) := dk_181 0 35 (dk_at dksX6_adds_3 0 rfl rfl)
theorem dX6_adds_72 : decode cX6_adds 72 = .ok (.return_, 1) := dk_177 (dk_at dksX6_adds_3 3 rfl rfl)
def dkwX6_many_0 : List UInt8 := [42, 180, 0, 31, 42, 180, 0, 35, 96, 172]
abbrev dktX6_many_0 : List UInt8 := dkwX6_many_0 ++ []
theorem dksX6_many_0 : cX6_many.data.toList.drop 0 = dktX6_many_0 := by decide +kernel
theorem dX6_many_0 : decode cX6_many 0 = .ok (.aload_n 0, 1) := dk_42 (dk_at dksX6_many_0 0 rfl rfl)
theorem dX6_many_1 : decode cX6_many 1 = .ok (.getfield 31, 3) := dk_180 0 31 (dk_at dksX6_many_0 1 rfl rfl)
theorem dX6_many_4 : decode cX6_many 4 = .ok (.aload_n 0, 1) := dk_42 (dk_at dksX6_many_0 4 rfl rfl)
theorem dX6_many_5 : decode cX6_many 5 = .ok (.getfield 35, 3) := dk_180 0 35 (dk_at dksX6_many_0 5 rfl rfl)
theorem dX6_many_8 : decode cX6_many 8 = .ok (.iadd, 1) := dk_96 (dk_at dksX6_many_0 8 rfl rfl)
theorem dX6_many_9 : decode cX6_many 9 = .ok (.ireturn, 1) := dk_172 (dk_at dksX6_many_0 9 rfl rfl)
def dkwX6_isThere_1 : List UInt8 := [180, 0, 35, 96, 162, 0, 7, 4, 167, 0, 4, 3, 172]
abbrev dktX6_isThere_1 : List UInt8 := dkwX6_isThere_1 ++ []
def dkwX6_isThere_0 : List UInt8 := [27, 155, 0, 11, 27, 42, 180, 0, 31, 161, 0, 20, 27, 16, 8, 161, 0, 18, 27, 16, 8, 42]
abbrev dktX6_isThere_0 : List UInt8 := dkwX6_isThere_0 ++ dktX6_isThere_1
theorem dksX6_isThere_0 : cX6_isThere.data.toList.drop 0 = dktX6_isThere_0 := by decide +kernel
theorem dksX6_isThere_1 : cX6_isThere.data.toList.drop 22 = dktX6_isThere_1 := dk_seg dksX6_isThere_0 22 rfl rfl
theorem dX6_isThere_0 : decode cX6_isThere 0 = .ok (.iload_n 1, 1) := dk_27 (dk_at dksX6_isThere_0 0 rfl rfl)
theorem dX6_isThere_1 : decode cX6_isThere 1 = .ok (.ifCond .lt 11, 3) := dk_155 0 11 (dk_at dksX6_isThere_0 1 rfl rfl)
theorem dX6_isThere_4 : decode cX6_isThere 4 = .ok (.iload_n 1, 1) := dk_27 (dk_at dksX6_isThere_0 4 rfl rfl)
theorem dX6_isThere_5 : decode cX6_isThere 5 = .ok (.aload_n 0, 1) := dk_42 (dk_at dksX6_isThere_0 5 rfl rfl)
theorem dX6_isThere_6 : decode cX6_isThere 6 = .ok (.getfield 31, 3) := dk_180 0 31 (dk_at dksX6_isThere_0 6 rfl rfl)
theorem dX6_isThere_9 : decode cX6_isThere 9 = .ok (.if_icmp .lt 20, 3) := dk_161 0 20 (dk_at dksX6_isThere_0 9 rfl rfl)
theorem dX6_isThere_12 : decode cX6_isThere 12 = .ok (.iload_n 1, 1) := dk_27 (dk_at dksX6_isThere_0 12 rfl rfl)
theorem dX6_isThere_13 : decode cX6_isThere 13 = .ok (.bipush 8, 2) := dk_16 8 (dk_at dksX6_isThere_0 13 rfl rfl)
theorem dX6_isThere_15 : decode cX6_isThere 15 = .ok (.if_icmp .lt 18, 3) := dk_161 0 18 (dk_at dksX6_isThere_0 15 rfl rfl)
theorem dX6_isThere_18 : decode cX6_isThere 18 = .ok (.iload_n 1, 1) := dk_27 (dk_at dksX6_isThere_0 18 rfl rfl)
theorem dX6_isThere_19 : decode cX6_isThere 19 = .ok (.bipush 8, 2) := dk_16 8 (dk_at dksX6_isThere_0 19 rfl rfl)
theorem dX6_isThere_21 : decode cX6_isThere 21 = .ok (.aload_n 0, 1) := dk_42 (dk_at dksX6_isThere_0 21 rfl rfl)
theorem dX6_isThere_22 : decode cX6_isThere 22 = .ok (.getfield 35, 3) := dk_180 0 35 (dk_at dksX6_isThere_1 0 rfl rfl)
theorem dX6_isThere_25 : decode cX6_isThere 25 = .ok (.iadd, 1) := dk_96 (dk_at dksX6_isThere_1 3 rfl rfl)
theorem dX6_isThere_26 : decode cX6_isThere 26 = .ok (.if_icmp .ge 7, 3) := dk_162 0 7 (dk_at dksX6_isThere_1 4 rfl rfl)
theorem dX6_isThere_29 : decode cX6_isThere 29 = .ok (.iconst 1, 1) := dk_4 (dk_at dksX6_isThere_1 7 rfl rfl)
theorem dX6_isThere_30 : decode cX6_isThere 30 = .ok (.goto 4, 3) := dk_167 0 4 (dk_at dksX6_isThere_1 8 rfl rfl)
theorem dX6_isThere_33 : decode cX6_isThere 33 = .ok (.iconst 0, 1) := dk_3 (dk_at dksX6_isThere_1 11 rfl rfl)
theorem dX6_isThere_34 : decode cX6_isThere 34 = .ok (.ireturn, 1) := dk_172 (dk_at dksX6_isThere_1 12 rfl rfl)
def dkwX6_kin_4 : List UInt8 := [21, 5, 42, 42, 180, 0, 19, 29, 46, 21, 4, 182, 0, 48, 96, 5, 108, 172]
abbrev dktX6_kin_4 : List UInt8 := dkwX6_kin_4 ++ []
def dkwX6_kin_3 : List UInt8 := [42, 180, 0, 15, 29, 46, 21, 4, 182, 0, 48, 54, 5, 29, 16, 8, 161, 0, 8, 21, 5, 167, 0, 20]
abbrev dktX6_kin_3 : List UInt8 := dkwX6_kin_3 ++ dktX6_kin_4
def dkwX6_kin_2 : List UInt8 := [28, 46, 164, 0, 7, 27, 167, 0, 4, 28, 62, 29, 27, 160, 0, 7, 28, 167, 0, 4, 27, 54, 4, 42]
abbrev dktX6_kin_2 : List UInt8 := dkwX6_kin_2 ++ dktX6_kin_3
def dkwX6_kin_1 : List UInt8 := [46, 42, 180, 0, 19, 27, 46, 182, 0, 48, 5, 108, 96, 172, 42, 180, 0, 22, 27, 46, 42, 180, 0, 22]
abbrev dktX6_kin_1 : List UInt8 := dkwX6_kin_1 ++ dktX6_kin_2
def dkwX6_kin_0 : List UInt8 := [27, 28, 160, 0, 36, 27, 16, 8, 161, 0, 8, 18, 46, 167, 0, 24, 18, 47, 42, 42, 180, 0, 15, 27]
abbrev dktX6_kin_0 : List UInt8 := dkwX6_kin_0 ++ dktX6_kin_1
theorem dksX6_kin_0 : cX6_kin.data.toList.drop 0 = dktX6_kin_0 := by decide +kernel
theorem dksX6_kin_1 : cX6_kin.data.toList.drop 24 = dktX6_kin_1 := dk_seg dksX6_kin_0 24 rfl rfl
theorem dksX6_kin_2 : cX6_kin.data.toList.drop 48 = dktX6_kin_2 := dk_seg dksX6_kin_1 24 rfl rfl
theorem dksX6_kin_3 : cX6_kin.data.toList.drop 72 = dktX6_kin_3 := dk_seg dksX6_kin_2 24 rfl rfl
theorem dksX6_kin_4 : cX6_kin.data.toList.drop 96 = dktX6_kin_4 := dk_seg dksX6_kin_3 24 rfl rfl
theorem dX6_kin_0 : decode cX6_kin 0 = .ok (.iload_n 1, 1) := dk_27 (dk_at dksX6_kin_0 0 rfl rfl)
theorem dX6_kin_1 : decode cX6_kin 1 = .ok (.iload_n 2, 1) := dk_28 (dk_at dksX6_kin_0 1 rfl rfl)
theorem dX6_kin_2 : decode cX6_kin 2 = .ok (.if_icmp .ne 36, 3) := dk_160 0 36 (dk_at dksX6_kin_0 2 rfl rfl)
theorem dX6_kin_5 : decode cX6_kin 5 = .ok (.iload_n 1, 1) := dk_27 (dk_at dksX6_kin_0 5 rfl rfl)
theorem dX6_kin_6 : decode cX6_kin 6 = .ok (.bipush 8, 2) := dk_16 8 (dk_at dksX6_kin_0 6 rfl rfl)
theorem dX6_kin_8 : decode cX6_kin 8 = .ok (.if_icmp .lt 8, 3) := dk_161 0 8 (dk_at dksX6_kin_0 8 rfl rfl)
theorem dX6_kin_11 : decode cX6_kin 11 = .ok (.ldc 46, 2) := dk_18 46 (dk_at dksX6_kin_0 11 rfl rfl)
theorem dX6_kin_13 : decode cX6_kin 13 = .ok (.goto 24, 3) := dk_167 0 24 (dk_at dksX6_kin_0 13 rfl rfl)
theorem dX6_kin_16 : decode cX6_kin 16 = .ok (.ldc 47, 2) := dk_18 47 (dk_at dksX6_kin_0 16 rfl rfl)
theorem dX6_kin_18 : decode cX6_kin 18 = .ok (.aload_n 0, 1) := dk_42 (dk_at dksX6_kin_0 18 rfl rfl)
theorem dX6_kin_19 : decode cX6_kin 19 = .ok (.aload_n 0, 1) := dk_42 (dk_at dksX6_kin_0 19 rfl rfl)
theorem dX6_kin_20 : decode cX6_kin 20 = .ok (.getfield 15, 3) := dk_180 0 15 (dk_at dksX6_kin_0 20 rfl rfl)
theorem dX6_kin_23 : decode cX6_kin 23 = .ok (.iload_n 1, 1) := dk_27 (dk_at dksX6_kin_0 23 rfl rfl)
theorem dX6_kin_24 : decode cX6_kin 24 = .ok (.iaload, 1) := dk_46 (dk_at dksX6_kin_1 0 rfl rfl)
theorem dX6_kin_25 : decode cX6_kin 25 = .ok (.aload_n 0, 1) := dk_42 (dk_at dksX6_kin_1 1 rfl rfl)
theorem dX6_kin_26 : decode cX6_kin 26 = .ok (.getfield 19, 3) := dk_180 0 19 (dk_at dksX6_kin_1 2 rfl rfl)
theorem dX6_kin_29 : decode cX6_kin 29 = .ok (.iload_n 1, 1) := dk_27 (dk_at dksX6_kin_1 5 rfl rfl)
theorem dX6_kin_30 : decode cX6_kin 30 = .ok (.iaload, 1) := dk_46 (dk_at dksX6_kin_1 6 rfl rfl)
theorem dX6_kin_31 : decode cX6_kin 31 = .ok (.invokevirtual 48, 3) := dk_182 0 48 (dk_at dksX6_kin_1 7 rfl rfl)
theorem dX6_kin_34 : decode cX6_kin 34 = .ok (.iconst 2, 1) := dk_5 (dk_at dksX6_kin_1 10 rfl rfl)
theorem dX6_kin_35 : decode cX6_kin 35 = .ok (.idiv, 1) := dk_108 (dk_at dksX6_kin_1 11 rfl rfl)
theorem dX6_kin_36 : decode cX6_kin 36 = .ok (.iadd, 1) := dk_96 (dk_at dksX6_kin_1 12 rfl rfl)
theorem dX6_kin_37 : decode cX6_kin 37 = .ok (.ireturn, 1) := dk_172 (dk_at dksX6_kin_1 13 rfl rfl)
theorem dX6_kin_38 : decode cX6_kin 38 = .ok (.aload_n 0, 1) := dk_42 (dk_at dksX6_kin_1 14 rfl rfl)
theorem dX6_kin_39 : decode cX6_kin 39 = .ok (.getfield 22, 3) := dk_180 0 22 (dk_at dksX6_kin_1 15 rfl rfl)
theorem dX6_kin_42 : decode cX6_kin 42 = .ok (.iload_n 1, 1) := dk_27 (dk_at dksX6_kin_1 18 rfl rfl)
theorem dX6_kin_43 : decode cX6_kin 43 = .ok (.iaload, 1) := dk_46 (dk_at dksX6_kin_1 19 rfl rfl)
theorem dX6_kin_44 : decode cX6_kin 44 = .ok (.aload_n 0, 1) := dk_42 (dk_at dksX6_kin_1 20 rfl rfl)
theorem dX6_kin_45 : decode cX6_kin 45 = .ok (.getfield 22, 3) := dk_180 0 22 (dk_at dksX6_kin_1 21 rfl rfl)
theorem dX6_kin_48 : decode cX6_kin 48 = .ok (.iload_n 2, 1) := dk_28 (dk_at dksX6_kin_2 0 rfl rfl)
theorem dX6_kin_49 : decode cX6_kin 49 = .ok (.iaload, 1) := dk_46 (dk_at dksX6_kin_2 1 rfl rfl)
theorem dX6_kin_50 : decode cX6_kin 50 = .ok (.if_icmp .le 7, 3) := dk_164 0 7 (dk_at dksX6_kin_2 2 rfl rfl)
theorem dX6_kin_53 : decode cX6_kin 53 = .ok (.iload_n 1, 1) := dk_27 (dk_at dksX6_kin_2 5 rfl rfl)
theorem dX6_kin_54 : decode cX6_kin 54 = .ok (.goto 4, 3) := dk_167 0 4 (dk_at dksX6_kin_2 6 rfl rfl)
theorem dX6_kin_57 : decode cX6_kin 57 = .ok (.iload_n 2, 1) := dk_28 (dk_at dksX6_kin_2 9 rfl rfl)
theorem dX6_kin_58 : decode cX6_kin 58 = .ok (.istore_n 3, 1) := dk_62 (dk_at dksX6_kin_2 10 rfl rfl)
theorem dX6_kin_59 : decode cX6_kin 59 = .ok (.iload_n 3, 1) := dk_29 (dk_at dksX6_kin_2 11 rfl rfl)
theorem dX6_kin_60 : decode cX6_kin 60 = .ok (.iload_n 1, 1) := dk_27 (dk_at dksX6_kin_2 12 rfl rfl)
theorem dX6_kin_61 : decode cX6_kin 61 = .ok (.if_icmp .ne 7, 3) := dk_160 0 7 (dk_at dksX6_kin_2 13 rfl rfl)
theorem dX6_kin_64 : decode cX6_kin 64 = .ok (.iload_n 2, 1) := dk_28 (dk_at dksX6_kin_2 16 rfl rfl)
theorem dX6_kin_65 : decode cX6_kin 65 = .ok (.goto 4, 3) := dk_167 0 4 (dk_at dksX6_kin_2 17 rfl rfl)
theorem dX6_kin_68 : decode cX6_kin 68 = .ok (.iload_n 1, 1) := dk_27 (dk_at dksX6_kin_2 20 rfl rfl)
theorem dX6_kin_69 : decode cX6_kin 69 = .ok (.istore 4, 2) := dk_54 4 (dk_at dksX6_kin_2 21 rfl rfl)
theorem dX6_kin_71 : decode cX6_kin 71 = .ok (.aload_n 0, 1) := dk_42 (dk_at dksX6_kin_2 23 rfl rfl)
theorem dX6_kin_72 : decode cX6_kin 72 = .ok (.aload_n 0, 1) := dk_42 (dk_at dksX6_kin_3 0 rfl rfl)
theorem dX6_kin_73 : decode cX6_kin 73 = .ok (.getfield 15, 3) := dk_180 0 15 (dk_at dksX6_kin_3 1 rfl rfl)
theorem dX6_kin_76 : decode cX6_kin 76 = .ok (.iload_n 3, 1) := dk_29 (dk_at dksX6_kin_3 4 rfl rfl)
theorem dX6_kin_77 : decode cX6_kin 77 = .ok (.iaload, 1) := dk_46 (dk_at dksX6_kin_3 5 rfl rfl)
theorem dX6_kin_78 : decode cX6_kin 78 = .ok (.iload 4, 2) := dk_21 4 (dk_at dksX6_kin_3 6 rfl rfl)
theorem dX6_kin_80 : decode cX6_kin 80 = .ok (.invokevirtual 48, 3) := dk_182 0 48 (dk_at dksX6_kin_3 8 rfl rfl)
theorem dX6_kin_83 : decode cX6_kin 83 = .ok (.istore 5, 2) := dk_54 5 (dk_at dksX6_kin_3 11 rfl rfl)
theorem dX6_kin_85 : decode cX6_kin 85 = .ok (.iload_n 3, 1) := dk_29 (dk_at dksX6_kin_3 13 rfl rfl)
theorem dX6_kin_86 : decode cX6_kin 86 = .ok (.bipush 8, 2) := dk_16 8 (dk_at dksX6_kin_3 14 rfl rfl)
theorem dX6_kin_88 : decode cX6_kin 88 = .ok (.if_icmp .lt 8, 3) := dk_161 0 8 (dk_at dksX6_kin_3 16 rfl rfl)
theorem dX6_kin_91 : decode cX6_kin 91 = .ok (.iload 5, 2) := dk_21 5 (dk_at dksX6_kin_3 19 rfl rfl)
theorem dX6_kin_93 : decode cX6_kin 93 = .ok (.goto 20, 3) := dk_167 0 20 (dk_at dksX6_kin_3 21 rfl rfl)
theorem dX6_kin_96 : decode cX6_kin 96 = .ok (.iload 5, 2) := dk_21 5 (dk_at dksX6_kin_4 0 rfl rfl)
theorem dX6_kin_98 : decode cX6_kin 98 = .ok (.aload_n 0, 1) := dk_42 (dk_at dksX6_kin_4 2 rfl rfl)
theorem dX6_kin_99 : decode cX6_kin 99 = .ok (.aload_n 0, 1) := dk_42 (dk_at dksX6_kin_4 3 rfl rfl)
theorem dX6_kin_100 : decode cX6_kin 100 = .ok (.getfield 19, 3) := dk_180 0 19 (dk_at dksX6_kin_4 4 rfl rfl)
theorem dX6_kin_103 : decode cX6_kin 103 = .ok (.iload_n 3, 1) := dk_29 (dk_at dksX6_kin_4 7 rfl rfl)
theorem dX6_kin_104 : decode cX6_kin 104 = .ok (.iaload, 1) := dk_46 (dk_at dksX6_kin_4 8 rfl rfl)
theorem dX6_kin_105 : decode cX6_kin 105 = .ok (.iload 4, 2) := dk_21 4 (dk_at dksX6_kin_4 9 rfl rfl)
theorem dX6_kin_107 : decode cX6_kin 107 = .ok (.invokevirtual 48, 3) := dk_182 0 48 (dk_at dksX6_kin_4 11 rfl rfl)
theorem dX6_kin_110 : decode cX6_kin 110 = .ok (.iadd, 1) := dk_96 (dk_at dksX6_kin_4 14 rfl rfl)
theorem dX6_kin_111 : decode cX6_kin 111 = .ok (.iconst 2, 1) := dk_5 (dk_at dksX6_kin_4 15 rfl rfl)
theorem dX6_kin_112 : decode cX6_kin 112 = .ok (.idiv, 1) := dk_108 (dk_at dksX6_kin_4 16 rfl rfl)
theorem dX6_kin_113 : decode cX6_kin 113 = .ok (.ireturn, 1) := dk_172 (dk_at dksX6_kin_4 17 rfl rfl)
def dkwX6_kinOrNone_0 : List UInt8 := [27, 155, 0, 7, 28, 156, 0, 7, 3, 167, 0, 9, 42, 27, 28, 182, 0, 42, 172]
abbrev dktX6_kinOrNone_0 : List UInt8 := dkwX6_kinOrNone_0 ++ []
theorem dksX6_kinOrNone_0 : cX6_kinOrNone.data.toList.drop 0 = dktX6_kinOrNone_0 := by decide +kernel
theorem dX6_kinOrNone_0 : decode cX6_kinOrNone 0 = .ok (.iload_n 1, 1) := dk_27 (dk_at dksX6_kinOrNone_0 0 rfl rfl)
theorem dX6_kinOrNone_1 : decode cX6_kinOrNone 1 = .ok (.ifCond .lt 7, 3) := dk_155 0 7 (dk_at dksX6_kinOrNone_0 1 rfl rfl)
theorem dX6_kinOrNone_4 : decode cX6_kinOrNone 4 = .ok (.iload_n 2, 1) := dk_28 (dk_at dksX6_kinOrNone_0 4 rfl rfl)
theorem dX6_kinOrNone_5 : decode cX6_kinOrNone 5 = .ok (.ifCond .ge 7, 3) := dk_156 0 7 (dk_at dksX6_kinOrNone_0 5 rfl rfl)
theorem dX6_kinOrNone_8 : decode cX6_kinOrNone 8 = .ok (.iconst 0, 1) := dk_3 (dk_at dksX6_kinOrNone_0 8 rfl rfl)
theorem dX6_kinOrNone_9 : decode cX6_kinOrNone 9 = .ok (.goto 9, 3) := dk_167 0 9 (dk_at dksX6_kinOrNone_0 9 rfl rfl)
theorem dX6_kinOrNone_12 : decode cX6_kinOrNone 12 = .ok (.aload_n 0, 1) := dk_42 (dk_at dksX6_kinOrNone_0 12 rfl rfl)
theorem dX6_kinOrNone_13 : decode cX6_kinOrNone 13 = .ok (.iload_n 1, 1) := dk_27 (dk_at dksX6_kinOrNone_0 13 rfl rfl)
theorem dX6_kinOrNone_14 : decode cX6_kinOrNone 14 = .ok (.iload_n 2, 1) := dk_28 (dk_at dksX6_kinOrNone_0 14 rfl rfl)
theorem dX6_kinOrNone_15 : decode cX6_kinOrNone 15 = .ok (.invokevirtual 42, 3) := dk_182 0 42 (dk_at dksX6_kinOrNone_0 15 rfl rfl)
theorem dX6_kinOrNone_18 : decode cX6_kinOrNone 18 = .ok (.ireturn, 1) := dk_172 (dk_at dksX6_kinOrNone_0 18 rfl rfl)
def dkwX7_init_6 : List UInt8 := [182, 0, 62, 177]
abbrev dktX7_init_6 : List UInt8 := dkwX7_init_6 ++ []
def dkwX7_init_5 : List UInt8 := [16, 80, 188, 10, 181, 0, 53, 42, 6, 188, 10, 181, 0, 56, 42, 6, 188, 10, 181, 0, 59, 42, 3]
abbrev dktX7_init_5 : List UInt8 := dkwX7_init_5 ++ dktX7_init_6
def dkwX7_init_4 : List UInt8 := [188, 10, 181, 0, 44, 42, 16, 12, 188, 10, 181, 0, 47, 42, 17, 1, 0, 188, 11, 181, 0, 50, 42]
abbrev dktX7_init_4 : List UInt8 := dkwX7_init_4 ++ dktX7_init_5
def dkwX7_init_3 : List UInt8 := [181, 0, 30, 42, 17, 3, 132, 188, 8, 181, 0, 34, 42, 2, 181, 0, 37, 42, 2, 181, 0, 41, 42, 6]
abbrev dktX7_init_3 : List UInt8 := dkwX7_init_3 ++ dktX7_init_4
def dkwX7_init_2 : List UInt8 := [2, 79, 89, 6, 2, 79, 181, 0, 24, 42, 17, 0, 240, 188, 11, 181, 0, 27, 42, 17, 3, 132, 188, 8]
abbrev dktX7_init_2 : List UInt8 := dkwX7_init_2 ++ dktX7_init_3
def dkwX7_init_1 : List UInt8 := [181, 0, 17, 42, 7, 188, 10, 181, 0, 21, 42, 7, 188, 10, 89, 3, 2, 79, 89, 4, 2, 79, 89, 5]
abbrev dktX7_init_1 : List UInt8 := dkwX7_init_1 ++ dktX7_init_2
def dkwX7_init_0 : List UInt8 := [42, 183, 0, 1, 42, 17, 29, 154, 188, 10, 181, 0, 7, 42, 16, 110, 188, 11, 181, 0, 13, 42, 10]
abbrev dktX7_init_0 : List UInt8 := dkwX7_init_0 ++ dktX7_init_1
theorem dksX7_init_0 : cX7_init.data.toList.drop 0 = dktX7_init_0 := by decide +kernel
theorem dksX7_init_1 : cX7_init.data.toList.drop 23 = dktX7_init_1 := dk_seg dksX7_init_0 23 rfl rfl
theorem dksX7_init_2 : cX7_init.data.toList.drop 47 = dktX7_init_2 := dk_seg dksX7_init_1 24 rfl rfl
theorem dksX7_init_3 : cX7_init.data.toList.drop 71 = dktX7_init_3 := dk_seg dksX7_init_2 24 rfl rfl
theorem dksX7_init_4 : cX7_init.data.toList.drop 95 = dktX7_init_4 := dk_seg dksX7_init_3 24 rfl rfl
theorem dksX7_init_5 : cX7_init.data.toList.drop 118 = dktX7_init_5 := dk_seg dksX7_init_4 23 rfl rfl
theorem dksX7_init_6 : cX7_init.data.toList.drop 141 = dktX7_init_6 := dk_seg dksX7_init_5 23 rfl rfl
theorem dX7_init_0 : decode cX7_init 0 = .ok (.aload_n 0, 1) := dk_42 (dk_at dksX7_init_0 0 rfl rfl)
theorem dX7_init_1 : decode cX7_init 1 = .ok (.invokespecial 1, 3) := dk_183 0 1 (dk_at dksX7_init_0 1 rfl rfl)
theorem dX7_init_4 : decode cX7_init 4 = .ok (.aload_n 0, 1) := dk_42 (dk_at dksX7_init_0 4 rfl rfl)
theorem dX7_init_5 : decode cX7_init 5 = .ok (.sipush 7578, 3) := dk_17 29 154 (dk_at dksX7_init_0 5 rfl rfl)
theorem dX7_init_8 : decode cX7_init 8 = .ok (.newarray .int, 2) := dk_188_10 (dk_at dksX7_init_0 8 rfl rfl)
theorem dX7_init_10 : decode cX7_init 10 = .ok (.putfield 7, 3) := dk_181 0 7 (dk_at dksX7_init_0 10 rfl rfl)
theorem dX7_init_13 : decode cX7_init 13 = .ok (.aload_n 0, 1) := dk_42 (dk_at dksX7_init_0 13 rfl rfl)
theorem dX7_init_14 : decode cX7_init 14 = .ok (.bipush 110, 2) := dk_16 110 (dk_at dksX7_init_0 14 rfl rfl)
theorem dX7_init_16 : decode cX7_init 16 = .ok (.newarray .long, 2) := dk_188_11 (dk_at dksX7_init_0 16 rfl rfl)
theorem dX7_init_18 : decode cX7_init 18 = .ok (.putfield 13, 3) := dk_181 0 13 (dk_at dksX7_init_0 18 rfl rfl)
theorem dX7_init_21 : decode cX7_init 21 = .ok (.aload_n 0, 1) := dk_42 (dk_at dksX7_init_0 21 rfl rfl)
theorem dX7_init_22 : decode cX7_init 22 = .ok (.lconst 1, 1) := dk_10 (dk_at dksX7_init_0 22 rfl rfl)
theorem dX7_init_23 : decode cX7_init 23 = .ok (.putfield 17, 3) := dk_181 0 17 (dk_at dksX7_init_1 0 rfl rfl)
theorem dX7_init_26 : decode cX7_init 26 = .ok (.aload_n 0, 1) := dk_42 (dk_at dksX7_init_1 3 rfl rfl)
theorem dX7_init_27 : decode cX7_init 27 = .ok (.iconst 4, 1) := dk_7 (dk_at dksX7_init_1 4 rfl rfl)
theorem dX7_init_28 : decode cX7_init 28 = .ok (.newarray .int, 2) := dk_188_10 (dk_at dksX7_init_1 5 rfl rfl)
theorem dX7_init_30 : decode cX7_init 30 = .ok (.putfield 21, 3) := dk_181 0 21 (dk_at dksX7_init_1 7 rfl rfl)
theorem dX7_init_33 : decode cX7_init 33 = .ok (.aload_n 0, 1) := dk_42 (dk_at dksX7_init_1 10 rfl rfl)
theorem dX7_init_34 : decode cX7_init 34 = .ok (.iconst 4, 1) := dk_7 (dk_at dksX7_init_1 11 rfl rfl)
theorem dX7_init_35 : decode cX7_init 35 = .ok (.newarray .int, 2) := dk_188_10 (dk_at dksX7_init_1 12 rfl rfl)
theorem dX7_init_37 : decode cX7_init 37 = .ok (.dup, 1) := dk_89 (dk_at dksX7_init_1 14 rfl rfl)
theorem dX7_init_38 : decode cX7_init 38 = .ok (.iconst 0, 1) := dk_3 (dk_at dksX7_init_1 15 rfl rfl)
theorem dX7_init_39 : decode cX7_init 39 = .ok (.iconst (-1), 1) := dk_2 (dk_at dksX7_init_1 16 rfl rfl)
theorem dX7_init_40 : decode cX7_init 40 = .ok (.iastore, 1) := dk_79 (dk_at dksX7_init_1 17 rfl rfl)
theorem dX7_init_41 : decode cX7_init 41 = .ok (.dup, 1) := dk_89 (dk_at dksX7_init_1 18 rfl rfl)
theorem dX7_init_42 : decode cX7_init 42 = .ok (.iconst 1, 1) := dk_4 (dk_at dksX7_init_1 19 rfl rfl)
theorem dX7_init_43 : decode cX7_init 43 = .ok (.iconst (-1), 1) := dk_2 (dk_at dksX7_init_1 20 rfl rfl)
theorem dX7_init_44 : decode cX7_init 44 = .ok (.iastore, 1) := dk_79 (dk_at dksX7_init_1 21 rfl rfl)
theorem dX7_init_45 : decode cX7_init 45 = .ok (.dup, 1) := dk_89 (dk_at dksX7_init_1 22 rfl rfl)
theorem dX7_init_46 : decode cX7_init 46 = .ok (.iconst 2, 1) := dk_5 (dk_at dksX7_init_1 23 rfl rfl)
theorem dX7_init_47 : decode cX7_init 47 = .ok (.iconst (-1), 1) := dk_2 (dk_at dksX7_init_2 0 rfl rfl)
theorem dX7_init_48 : decode cX7_init 48 = .ok (.iastore, 1) := dk_79 (dk_at dksX7_init_2 1 rfl rfl)
theorem dX7_init_49 : decode cX7_init 49 = .ok (.dup, 1) := dk_89 (dk_at dksX7_init_2 2 rfl rfl)
theorem dX7_init_50 : decode cX7_init 50 = .ok (.iconst 3, 1) := dk_6 (dk_at dksX7_init_2 3 rfl rfl)
theorem dX7_init_51 : decode cX7_init 51 = .ok (.iconst (-1), 1) := dk_2 (dk_at dksX7_init_2 4 rfl rfl)
theorem dX7_init_52 : decode cX7_init 52 = .ok (.iastore, 1) := dk_79 (dk_at dksX7_init_2 5 rfl rfl)
theorem dX7_init_53 : decode cX7_init 53 = .ok (.putfield 24, 3) := dk_181 0 24 (dk_at dksX7_init_2 6 rfl rfl)
theorem dX7_init_56 : decode cX7_init 56 = .ok (.aload_n 0, 1) := dk_42 (dk_at dksX7_init_2 9 rfl rfl)
theorem dX7_init_57 : decode cX7_init 57 = .ok (.sipush 240, 3) := dk_17 0 240 (dk_at dksX7_init_2 10 rfl rfl)
theorem dX7_init_60 : decode cX7_init 60 = .ok (.newarray .long, 2) := dk_188_11 (dk_at dksX7_init_2 13 rfl rfl)
theorem dX7_init_62 : decode cX7_init 62 = .ok (.putfield 27, 3) := dk_181 0 27 (dk_at dksX7_init_2 15 rfl rfl)
theorem dX7_init_65 : decode cX7_init 65 = .ok (.aload_n 0, 1) := dk_42 (dk_at dksX7_init_2 18 rfl rfl)
theorem dX7_init_66 : decode cX7_init 66 = .ok (.sipush 900, 3) := dk_17 3 132 (dk_at dksX7_init_2 19 rfl rfl)
theorem dX7_init_69 : decode cX7_init 69 = .ok (.newarray .byte, 2) := dk_188_8 (dk_at dksX7_init_2 22 rfl rfl)
theorem dX7_init_71 : decode cX7_init 71 = .ok (.putfield 30, 3) := dk_181 0 30 (dk_at dksX7_init_3 0 rfl rfl)
theorem dX7_init_74 : decode cX7_init 74 = .ok (.aload_n 0, 1) := dk_42 (dk_at dksX7_init_3 3 rfl rfl)
theorem dX7_init_75 : decode cX7_init 75 = .ok (.sipush 900, 3) := dk_17 3 132 (dk_at dksX7_init_3 4 rfl rfl)
theorem dX7_init_78 : decode cX7_init 78 = .ok (.newarray .byte, 2) := dk_188_8 (dk_at dksX7_init_3 7 rfl rfl)
theorem dX7_init_80 : decode cX7_init 80 = .ok (.putfield 34, 3) := dk_181 0 34 (dk_at dksX7_init_3 9 rfl rfl)
theorem dX7_init_83 : decode cX7_init 83 = .ok (.aload_n 0, 1) := dk_42 (dk_at dksX7_init_3 12 rfl rfl)
theorem dX7_init_84 : decode cX7_init 84 = .ok (.iconst (-1), 1) := dk_2 (dk_at dksX7_init_3 13 rfl rfl)
theorem dX7_init_85 : decode cX7_init 85 = .ok (.putfield 37, 3) := dk_181 0 37 (dk_at dksX7_init_3 14 rfl rfl)
theorem dX7_init_88 : decode cX7_init 88 = .ok (.aload_n 0, 1) := dk_42 (dk_at dksX7_init_3 17 rfl rfl)
theorem dX7_init_89 : decode cX7_init 89 = .ok (.iconst (-1), 1) := dk_2 (dk_at dksX7_init_3 18 rfl rfl)
theorem dX7_init_90 : decode cX7_init 90 = .ok (.putfield 41, 3) := dk_181 0 41 (dk_at dksX7_init_3 19 rfl rfl)
theorem dX7_init_93 : decode cX7_init 93 = .ok (.aload_n 0, 1) := dk_42 (dk_at dksX7_init_3 22 rfl rfl)
theorem dX7_init_94 : decode cX7_init 94 = .ok (.iconst 3, 1) := dk_6 (dk_at dksX7_init_3 23 rfl rfl)
theorem dX7_init_95 : decode cX7_init 95 = .ok (.newarray .int, 2) := dk_188_10 (dk_at dksX7_init_4 0 rfl rfl)
theorem dX7_init_97 : decode cX7_init 97 = .ok (.putfield 44, 3) := dk_181 0 44 (dk_at dksX7_init_4 2 rfl rfl)
theorem dX7_init_100 : decode cX7_init 100 = .ok (.aload_n 0, 1) := dk_42 (dk_at dksX7_init_4 5 rfl rfl)
theorem dX7_init_101 : decode cX7_init 101 = .ok (.bipush 12, 2) := dk_16 12 (dk_at dksX7_init_4 6 rfl rfl)
theorem dX7_init_103 : decode cX7_init 103 = .ok (.newarray .int, 2) := dk_188_10 (dk_at dksX7_init_4 8 rfl rfl)
theorem dX7_init_105 : decode cX7_init 105 = .ok (.putfield 47, 3) := dk_181 0 47 (dk_at dksX7_init_4 10 rfl rfl)
theorem dX7_init_108 : decode cX7_init 108 = .ok (.aload_n 0, 1) := dk_42 (dk_at dksX7_init_4 13 rfl rfl)
theorem dX7_init_109 : decode cX7_init 109 = .ok (.sipush 256, 3) := dk_17 1 0 (dk_at dksX7_init_4 14 rfl rfl)
theorem dX7_init_112 : decode cX7_init 112 = .ok (.newarray .long, 2) := dk_188_11 (dk_at dksX7_init_4 17 rfl rfl)
theorem dX7_init_114 : decode cX7_init 114 = .ok (.putfield 50, 3) := dk_181 0 50 (dk_at dksX7_init_4 19 rfl rfl)
theorem dX7_init_117 : decode cX7_init 117 = .ok (.aload_n 0, 1) := dk_42 (dk_at dksX7_init_4 22 rfl rfl)
theorem dX7_init_118 : decode cX7_init 118 = .ok (.bipush 80, 2) := dk_16 80 (dk_at dksX7_init_5 0 rfl rfl)
theorem dX7_init_120 : decode cX7_init 120 = .ok (.newarray .int, 2) := dk_188_10 (dk_at dksX7_init_5 2 rfl rfl)
theorem dX7_init_122 : decode cX7_init 122 = .ok (.putfield 53, 3) := dk_181 0 53 (dk_at dksX7_init_5 4 rfl rfl)
theorem dX7_init_125 : decode cX7_init 125 = .ok (.aload_n 0, 1) := dk_42 (dk_at dksX7_init_5 7 rfl rfl)
theorem dX7_init_126 : decode cX7_init 126 = .ok (.iconst 3, 1) := dk_6 (dk_at dksX7_init_5 8 rfl rfl)
theorem dX7_init_127 : decode cX7_init 127 = .ok (.newarray .int, 2) := dk_188_10 (dk_at dksX7_init_5 9 rfl rfl)
theorem dX7_init_129 : decode cX7_init 129 = .ok (.putfield 56, 3) := dk_181 0 56 (dk_at dksX7_init_5 11 rfl rfl)
theorem dX7_init_132 : decode cX7_init 132 = .ok (.aload_n 0, 1) := dk_42 (dk_at dksX7_init_5 14 rfl rfl)
theorem dX7_init_133 : decode cX7_init 133 = .ok (.iconst 3, 1) := dk_6 (dk_at dksX7_init_5 15 rfl rfl)
theorem dX7_init_134 : decode cX7_init 134 = .ok (.newarray .int, 2) := dk_188_10 (dk_at dksX7_init_5 16 rfl rfl)
theorem dX7_init_136 : decode cX7_init 136 = .ok (.putfield 59, 3) := dk_181 0 59 (dk_at dksX7_init_5 18 rfl rfl)
theorem dX7_init_139 : decode cX7_init 139 = .ok (.aload_n 0, 1) := dk_42 (dk_at dksX7_init_5 21 rfl rfl)
theorem dX7_init_140 : decode cX7_init 140 = .ok (.iconst 0, 1) := dk_3 (dk_at dksX7_init_5 22 rfl rfl)
theorem dX7_init_141 : decode cX7_init 141 = .ok (.invokevirtual 62, 3) := dk_182 0 62 (dk_at dksX7_init_6 0 rfl rfl)
theorem dX7_init_144 : decode cX7_init 144 = .ok (.return_, 1) := dk_177 (dk_at dksX7_init_6 3 rfl rfl)
def dkwX7_plain_2 : List UInt8 := [27, 16, 12, 96, 2, 79, 177]
abbrev dktX7_plain_2 : List UInt8 := dkwX7_plain_2 ++ []
def dkwX7_plain_1 : List UInt8 := [42, 180, 0, 7, 27, 16, 10, 96, 2, 79, 42, 180, 0, 7, 27, 16, 11, 96, 2, 79, 42, 180, 0, 7]
abbrev dktX7_plain_1 : List UInt8 := dkwX7_plain_1 ++ dktX7_plain_2
def dkwX7_plain_0 : List UInt8 := [3, 61, 28, 17, 4, 206, 162, 0, 18, 42, 180, 0, 7, 27, 28, 96, 3, 79, 132, 2, 1, 167, 255, 237]
abbrev dktX7_plain_0 : List UInt8 := dkwX7_plain_0 ++ dktX7_plain_1
theorem dksX7_plain_0 : cX7_plain.data.toList.drop 0 = dktX7_plain_0 := by decide +kernel
theorem dksX7_plain_1 : cX7_plain.data.toList.drop 24 = dktX7_plain_1 := dk_seg dksX7_plain_0 24 rfl rfl
theorem dksX7_plain_2 : cX7_plain.data.toList.drop 48 = dktX7_plain_2 := dk_seg dksX7_plain_1 24 rfl rfl
theorem dX7_plain_0 : decode cX7_plain 0 = .ok (.iconst 0, 1) := dk_3 (dk_at dksX7_plain_0 0 rfl rfl)
theorem dX7_plain_1 : decode cX7_plain 1 = .ok (.istore_n 2, 1) := dk_61 (dk_at dksX7_plain_0 1 rfl rfl)
theorem dX7_plain_2 : decode cX7_plain 2 = .ok (.iload_n 2, 1) := dk_28 (dk_at dksX7_plain_0 2 rfl rfl)
theorem dX7_plain_3 : decode cX7_plain 3 = .ok (.sipush 1230, 3) := dk_17 4 206 (dk_at dksX7_plain_0 3 rfl rfl)
theorem dX7_plain_6 : decode cX7_plain 6 = .ok (.if_icmp .ge 18, 3) := dk_162 0 18 (dk_at dksX7_plain_0 6 rfl rfl)
theorem dX7_plain_9 : decode cX7_plain 9 = .ok (.aload_n 0, 1) := dk_42 (dk_at dksX7_plain_0 9 rfl rfl)
theorem dX7_plain_10 : decode cX7_plain 10 = .ok (.getfield 7, 3) := dk_180 0 7 (dk_at dksX7_plain_0 10 rfl rfl)
theorem dX7_plain_13 : decode cX7_plain 13 = .ok (.iload_n 1, 1) := dk_27 (dk_at dksX7_plain_0 13 rfl rfl)
theorem dX7_plain_14 : decode cX7_plain 14 = .ok (.iload_n 2, 1) := dk_28 (dk_at dksX7_plain_0 14 rfl rfl)
theorem dX7_plain_15 : decode cX7_plain 15 = .ok (.iadd, 1) := dk_96 (dk_at dksX7_plain_0 15 rfl rfl)
theorem dX7_plain_16 : decode cX7_plain 16 = .ok (.iconst 0, 1) := dk_3 (dk_at dksX7_plain_0 16 rfl rfl)
theorem dX7_plain_17 : decode cX7_plain 17 = .ok (.iastore, 1) := dk_79 (dk_at dksX7_plain_0 17 rfl rfl)
theorem dX7_plain_18 : decode cX7_plain 18 = .ok (.iinc 2 1, 3) := dk_132 2 1 (dk_at dksX7_plain_0 18 rfl rfl)
theorem dX7_plain_21 : decode cX7_plain 21 = .ok (.goto (-19), 3) := dk_167 255 237 (dk_at dksX7_plain_0 21 rfl rfl)
theorem dX7_plain_24 : decode cX7_plain 24 = .ok (.aload_n 0, 1) := dk_42 (dk_at dksX7_plain_1 0 rfl rfl)
theorem dX7_plain_25 : decode cX7_plain 25 = .ok (.getfield 7, 3) := dk_180 0 7 (dk_at dksX7_plain_1 1 rfl rfl)
theorem dX7_plain_28 : decode cX7_plain 28 = .ok (.iload_n 1, 1) := dk_27 (dk_at dksX7_plain_1 4 rfl rfl)
theorem dX7_plain_29 : decode cX7_plain 29 = .ok (.bipush 10, 2) := dk_16 10 (dk_at dksX7_plain_1 5 rfl rfl)
theorem dX7_plain_31 : decode cX7_plain 31 = .ok (.iadd, 1) := dk_96 (dk_at dksX7_plain_1 7 rfl rfl)
theorem dX7_plain_32 : decode cX7_plain 32 = .ok (.iconst (-1), 1) := dk_2 (dk_at dksX7_plain_1 8 rfl rfl)
theorem dX7_plain_33 : decode cX7_plain 33 = .ok (.iastore, 1) := dk_79 (dk_at dksX7_plain_1 9 rfl rfl)
theorem dX7_plain_34 : decode cX7_plain 34 = .ok (.aload_n 0, 1) := dk_42 (dk_at dksX7_plain_1 10 rfl rfl)
theorem dX7_plain_35 : decode cX7_plain 35 = .ok (.getfield 7, 3) := dk_180 0 7 (dk_at dksX7_plain_1 11 rfl rfl)
theorem dX7_plain_38 : decode cX7_plain 38 = .ok (.iload_n 1, 1) := dk_27 (dk_at dksX7_plain_1 14 rfl rfl)
theorem dX7_plain_39 : decode cX7_plain 39 = .ok (.bipush 11, 2) := dk_16 11 (dk_at dksX7_plain_1 15 rfl rfl)
theorem dX7_plain_41 : decode cX7_plain 41 = .ok (.iadd, 1) := dk_96 (dk_at dksX7_plain_1 17 rfl rfl)
theorem dX7_plain_42 : decode cX7_plain 42 = .ok (.iconst (-1), 1) := dk_2 (dk_at dksX7_plain_1 18 rfl rfl)
theorem dX7_plain_43 : decode cX7_plain 43 = .ok (.iastore, 1) := dk_79 (dk_at dksX7_plain_1 19 rfl rfl)
theorem dX7_plain_44 : decode cX7_plain 44 = .ok (.aload_n 0, 1) := dk_42 (dk_at dksX7_plain_1 20 rfl rfl)
theorem dX7_plain_45 : decode cX7_plain 45 = .ok (.getfield 7, 3) := dk_180 0 7 (dk_at dksX7_plain_1 21 rfl rfl)
theorem dX7_plain_48 : decode cX7_plain 48 = .ok (.iload_n 1, 1) := dk_27 (dk_at dksX7_plain_2 0 rfl rfl)
theorem dX7_plain_49 : decode cX7_plain 49 = .ok (.bipush 12, 2) := dk_16 12 (dk_at dksX7_plain_2 1 rfl rfl)
theorem dX7_plain_51 : decode cX7_plain 51 = .ok (.iadd, 1) := dk_96 (dk_at dksX7_plain_2 3 rfl rfl)
theorem dX7_plain_52 : decode cX7_plain 52 = .ok (.iconst (-1), 1) := dk_2 (dk_at dksX7_plain_2 4 rfl rfl)
theorem dX7_plain_53 : decode cX7_plain 53 = .ok (.iastore, 1) := dk_79 (dk_at dksX7_plain_2 5 rfl rfl)
theorem dX7_plain_54 : decode cX7_plain 54 = .ok (.return_, 1) := dk_177 (dk_at dksX7_plain_2 6 rfl rfl)
theorem dX7_status_0 : decode cX7_status 0 = .ok (.aload_n 0, 1) := by decide +kernel
theorem dX7_status_1 : decode cX7_status 1 = .ok (.getfield 66, 3) := by decide +kernel
theorem dX7_status_4 : decode cX7_status 4 = .ok (.ireturn, 1) := by decide +kernel
theorem dX7_top_0 : decode cX7_top 0 = .ok (.aload_n 0, 1) := by decide +kernel
theorem dX7_top_1 : decode cX7_top 1 = .ok (.getfield 69, 3) := by decide +kernel
theorem dX7_top_4 : decode cX7_top 4 = .ok (.lreturn, 1) := by decide +kernel
theorem dX7_bottom_0 : decode cX7_bottom 0 = .ok (.aload_n 0, 1) := by decide +kernel
theorem dX7_bottom_1 : decode cX7_bottom 1 = .ok (.getfield 17, 3) := by decide +kernel
theorem dX7_bottom_4 : decode cX7_bottom 4 = .ok (.lreturn, 1) := by decide +kernel
def dkwX7_tray_3 : List UInt8 := [167, 255, 234, 42, 3, 182, 0, 79, 172]
abbrev dktX7_tray_3 : List UInt8 := dkwX7_tray_3 ++ []
def dkwX7_tray_2 : List UInt8 := [54, 4, 21, 4, 29, 162, 0, 22, 42, 180, 0, 27, 16, 60, 27, 104, 21, 4, 96, 9, 80, 132, 4, 1]
abbrev dktX7_tray_2 : List UInt8 := dkwX7_tray_2 ++ dktX7_tray_3
def dkwX7_tray_1 : List UInt8 := [164, 0, 9, 42, 4, 182, 0, 79, 172, 42, 180, 0, 21, 27, 28, 79, 42, 180, 0, 24, 27, 29, 79, 3]
abbrev dktX7_tray_1 : List UInt8 := dkwX7_tray_1 ++ dktX7_tray_2
def dkwX7_tray_0 : List UInt8 := [27, 184, 0, 83, 153, 0, 22, 28, 155, 0, 18, 28, 6, 163, 0, 13, 29, 155, 0, 9, 29, 16, 60]
abbrev dktX7_tray_0 : List UInt8 := dkwX7_tray_0 ++ dktX7_tray_1
theorem dksX7_tray_0 : cX7_tray.data.toList.drop 0 = dktX7_tray_0 := by decide +kernel
theorem dksX7_tray_1 : cX7_tray.data.toList.drop 23 = dktX7_tray_1 := dk_seg dksX7_tray_0 23 rfl rfl
theorem dksX7_tray_2 : cX7_tray.data.toList.drop 47 = dktX7_tray_2 := dk_seg dksX7_tray_1 24 rfl rfl
theorem dksX7_tray_3 : cX7_tray.data.toList.drop 71 = dktX7_tray_3 := dk_seg dksX7_tray_2 24 rfl rfl
theorem dX7_tray_0 : decode cX7_tray 0 = .ok (.iload_n 1, 1) := dk_27 (dk_at dksX7_tray_0 0 rfl rfl)
theorem dX7_tray_1 : decode cX7_tray 1 = .ok (.invokestatic 83, 3) := dk_184 0 83 (dk_at dksX7_tray_0 1 rfl rfl)
theorem dX7_tray_4 : decode cX7_tray 4 = .ok (.ifCond .eq 22, 3) := dk_153 0 22 (dk_at dksX7_tray_0 4 rfl rfl)
theorem dX7_tray_7 : decode cX7_tray 7 = .ok (.iload_n 2, 1) := dk_28 (dk_at dksX7_tray_0 7 rfl rfl)
theorem dX7_tray_8 : decode cX7_tray 8 = .ok (.ifCond .lt 18, 3) := dk_155 0 18 (dk_at dksX7_tray_0 8 rfl rfl)
theorem dX7_tray_11 : decode cX7_tray 11 = .ok (.iload_n 2, 1) := dk_28 (dk_at dksX7_tray_0 11 rfl rfl)
theorem dX7_tray_12 : decode cX7_tray 12 = .ok (.iconst 3, 1) := dk_6 (dk_at dksX7_tray_0 12 rfl rfl)
theorem dX7_tray_13 : decode cX7_tray 13 = .ok (.if_icmp .gt 13, 3) := dk_163 0 13 (dk_at dksX7_tray_0 13 rfl rfl)
theorem dX7_tray_16 : decode cX7_tray 16 = .ok (.iload_n 3, 1) := dk_29 (dk_at dksX7_tray_0 16 rfl rfl)
theorem dX7_tray_17 : decode cX7_tray 17 = .ok (.ifCond .lt 9, 3) := dk_155 0 9 (dk_at dksX7_tray_0 17 rfl rfl)
theorem dX7_tray_20 : decode cX7_tray 20 = .ok (.iload_n 3, 1) := dk_29 (dk_at dksX7_tray_0 20 rfl rfl)
theorem dX7_tray_21 : decode cX7_tray 21 = .ok (.bipush 60, 2) := dk_16 60 (dk_at dksX7_tray_0 21 rfl rfl)
theorem dX7_tray_23 : decode cX7_tray 23 = .ok (.if_icmp .le 9, 3) := dk_164 0 9 (dk_at dksX7_tray_1 0 rfl rfl)
theorem dX7_tray_26 : decode cX7_tray 26 = .ok (.aload_n 0, 1) := dk_42 (dk_at dksX7_tray_1 3 rfl rfl)
theorem dX7_tray_27 : decode cX7_tray 27 = .ok (.iconst 1, 1) := dk_4 (dk_at dksX7_tray_1 4 rfl rfl)
theorem dX7_tray_28 : decode cX7_tray 28 = .ok (.invokevirtual 79, 3) := dk_182 0 79 (dk_at dksX7_tray_1 5 rfl rfl)
theorem dX7_tray_31 : decode cX7_tray 31 = .ok (.ireturn, 1) := dk_172 (dk_at dksX7_tray_1 8 rfl rfl)
theorem dX7_tray_32 : decode cX7_tray 32 = .ok (.aload_n 0, 1) := dk_42 (dk_at dksX7_tray_1 9 rfl rfl)
theorem dX7_tray_33 : decode cX7_tray 33 = .ok (.getfield 21, 3) := dk_180 0 21 (dk_at dksX7_tray_1 10 rfl rfl)
theorem dX7_tray_36 : decode cX7_tray 36 = .ok (.iload_n 1, 1) := dk_27 (dk_at dksX7_tray_1 13 rfl rfl)
theorem dX7_tray_37 : decode cX7_tray 37 = .ok (.iload_n 2, 1) := dk_28 (dk_at dksX7_tray_1 14 rfl rfl)
theorem dX7_tray_38 : decode cX7_tray 38 = .ok (.iastore, 1) := dk_79 (dk_at dksX7_tray_1 15 rfl rfl)
theorem dX7_tray_39 : decode cX7_tray 39 = .ok (.aload_n 0, 1) := dk_42 (dk_at dksX7_tray_1 16 rfl rfl)
theorem dX7_tray_40 : decode cX7_tray 40 = .ok (.getfield 24, 3) := dk_180 0 24 (dk_at dksX7_tray_1 17 rfl rfl)
theorem dX7_tray_43 : decode cX7_tray 43 = .ok (.iload_n 1, 1) := dk_27 (dk_at dksX7_tray_1 20 rfl rfl)
theorem dX7_tray_44 : decode cX7_tray 44 = .ok (.iload_n 3, 1) := dk_29 (dk_at dksX7_tray_1 21 rfl rfl)
theorem dX7_tray_45 : decode cX7_tray 45 = .ok (.iastore, 1) := dk_79 (dk_at dksX7_tray_1 22 rfl rfl)
theorem dX7_tray_46 : decode cX7_tray 46 = .ok (.iconst 0, 1) := dk_3 (dk_at dksX7_tray_1 23 rfl rfl)
theorem dX7_tray_47 : decode cX7_tray 47 = .ok (.istore 4, 2) := dk_54 4 (dk_at dksX7_tray_2 0 rfl rfl)
theorem dX7_tray_49 : decode cX7_tray 49 = .ok (.iload 4, 2) := dk_21 4 (dk_at dksX7_tray_2 2 rfl rfl)
theorem dX7_tray_51 : decode cX7_tray 51 = .ok (.iload_n 3, 1) := dk_29 (dk_at dksX7_tray_2 4 rfl rfl)
theorem dX7_tray_52 : decode cX7_tray 52 = .ok (.if_icmp .ge 22, 3) := dk_162 0 22 (dk_at dksX7_tray_2 5 rfl rfl)
theorem dX7_tray_55 : decode cX7_tray 55 = .ok (.aload_n 0, 1) := dk_42 (dk_at dksX7_tray_2 8 rfl rfl)
theorem dX7_tray_56 : decode cX7_tray 56 = .ok (.getfield 27, 3) := dk_180 0 27 (dk_at dksX7_tray_2 9 rfl rfl)
theorem dX7_tray_59 : decode cX7_tray 59 = .ok (.bipush 60, 2) := dk_16 60 (dk_at dksX7_tray_2 12 rfl rfl)
theorem dX7_tray_61 : decode cX7_tray 61 = .ok (.iload_n 1, 1) := dk_27 (dk_at dksX7_tray_2 14 rfl rfl)
theorem dX7_tray_62 : decode cX7_tray 62 = .ok (.imul, 1) := dk_104 (dk_at dksX7_tray_2 15 rfl rfl)
theorem dX7_tray_63 : decode cX7_tray 63 = .ok (.iload 4, 2) := dk_21 4 (dk_at dksX7_tray_2 16 rfl rfl)
theorem dX7_tray_65 : decode cX7_tray 65 = .ok (.iadd, 1) := dk_96 (dk_at dksX7_tray_2 18 rfl rfl)
theorem dX7_tray_66 : decode cX7_tray 66 = .ok (.lconst 0, 1) := dk_9 (dk_at dksX7_tray_2 19 rfl rfl)
theorem dX7_tray_67 : decode cX7_tray 67 = .ok (.lastore, 1) := dk_80 (dk_at dksX7_tray_2 20 rfl rfl)
theorem dX7_tray_68 : decode cX7_tray 68 = .ok (.iinc 4 1, 3) := dk_132 4 1 (dk_at dksX7_tray_2 21 rfl rfl)
theorem dX7_tray_71 : decode cX7_tray 71 = .ok (.goto (-22), 3) := dk_167 255 234 (dk_at dksX7_tray_3 0 rfl rfl)
theorem dX7_tray_74 : decode cX7_tray 74 = .ok (.aload_n 0, 1) := dk_42 (dk_at dksX7_tray_3 3 rfl rfl)
theorem dX7_tray_75 : decode cX7_tray 75 = .ok (.iconst 0, 1) := dk_3 (dk_at dksX7_tray_3 4 rfl rfl)
theorem dX7_tray_76 : decode cX7_tray 76 = .ok (.invokevirtual 79, 3) := dk_182 0 79 (dk_at dksX7_tray_3 5 rfl rfl)
theorem dX7_tray_79 : decode cX7_tray 79 = .ok (.ireturn, 1) := dk_172 (dk_at dksX7_tray_3 8 rfl rfl)
def dkwX7_isTray_0 : List UInt8 := [26, 155, 0, 12, 26, 7, 162, 0, 7, 4, 167, 0, 4, 3, 172]
abbrev dktX7_isTray_0 : List UInt8 := dkwX7_isTray_0 ++ []
theorem dksX7_isTray_0 : cX7_isTray.data.toList.drop 0 = dktX7_isTray_0 := by decide +kernel
theorem dX7_isTray_0 : decode cX7_isTray 0 = .ok (.iload_n 0, 1) := dk_26 (dk_at dksX7_isTray_0 0 rfl rfl)
theorem dX7_isTray_1 : decode cX7_isTray 1 = .ok (.ifCond .lt 12, 3) := dk_155 0 12 (dk_at dksX7_isTray_0 1 rfl rfl)
theorem dX7_isTray_4 : decode cX7_isTray 4 = .ok (.iload_n 0, 1) := dk_26 (dk_at dksX7_isTray_0 4 rfl rfl)
theorem dX7_isTray_5 : decode cX7_isTray 5 = .ok (.iconst 4, 1) := dk_7 (dk_at dksX7_isTray_0 5 rfl rfl)
theorem dX7_isTray_6 : decode cX7_isTray 6 = .ok (.if_icmp .ge 7, 3) := dk_162 0 7 (dk_at dksX7_isTray_0 6 rfl rfl)
theorem dX7_isTray_9 : decode cX7_isTray 9 = .ok (.iconst 1, 1) := dk_4 (dk_at dksX7_isTray_0 9 rfl rfl)
theorem dX7_isTray_10 : decode cX7_isTray 10 = .ok (.goto 4, 3) := dk_167 0 4 (dk_at dksX7_isTray_0 10 rfl rfl)
theorem dX7_isTray_13 : decode cX7_isTray 13 = .ok (.iconst 0, 1) := dk_3 (dk_at dksX7_isTray_0 13 rfl rfl)
theorem dX7_isTray_14 : decode cX7_isTray 14 = .ok (.ireturn, 1) := dk_172 (dk_at dksX7_isTray_0 14 rfl rfl)
def dkwX7_is_0 : List UInt8 := [42, 27, 181, 0, 66, 27, 154, 0, 7, 4, 167, 0, 4, 3, 172]
abbrev dktX7_is_0 : List UInt8 := dkwX7_is_0 ++ []
theorem dksX7_is_0 : cX7_is.data.toList.drop 0 = dktX7_is_0 := by decide +kernel
theorem dX7_is_0 : decode cX7_is 0 = .ok (.aload_n 0, 1) := dk_42 (dk_at dksX7_is_0 0 rfl rfl)
theorem dX7_is_1 : decode cX7_is 1 = .ok (.iload_n 1, 1) := dk_27 (dk_at dksX7_is_0 1 rfl rfl)
theorem dX7_is_2 : decode cX7_is 2 = .ok (.putfield 66, 3) := dk_181 0 66 (dk_at dksX7_is_0 2 rfl rfl)
theorem dX7_is_5 : decode cX7_is 5 = .ok (.iload_n 1, 1) := dk_27 (dk_at dksX7_is_0 5 rfl rfl)
theorem dX7_is_6 : decode cX7_is 6 = .ok (.ifCond .ne 7, 3) := dk_154 0 7 (dk_at dksX7_is_0 6 rfl rfl)
theorem dX7_is_9 : decode cX7_is 9 = .ok (.iconst 1, 1) := dk_4 (dk_at dksX7_is_0 9 rfl rfl)
theorem dX7_is_10 : decode cX7_is 10 = .ok (.goto 4, 3) := dk_167 0 4 (dk_at dksX7_is_0 10 rfl rfl)
theorem dX7_is_13 : decode cX7_is 13 = .ok (.iconst 0, 1) := dk_3 (dk_at dksX7_is_0 13 rfl rfl)
theorem dX7_is_14 : decode cX7_is 14 = .ok (.ireturn, 1) := dk_172 (dk_at dksX7_is_0 14 rfl rfl)
def dkwX7_write_1 : List UInt8 := [42, 180, 0, 21, 27, 46, 184, 0, 90, 80, 42, 21, 5, 182, 0, 79, 172]
abbrev dktX7_write_1 : List UInt8 := dkwX7_write_1 ++ []
def dkwX7_write_0 : List UInt8 := [42, 27, 28, 182, 0, 86, 54, 5, 21, 5, 154, 0, 24, 42, 180, 0, 27, 16, 60, 27, 104, 28, 96, 33]
abbrev dktX7_write_0 : List UInt8 := dkwX7_write_0 ++ dktX7_write_1
theorem dksX7_write_0 : cX7_write.data.toList.drop 0 = dktX7_write_0 := by decide +kernel
theorem dksX7_write_1 : cX7_write.data.toList.drop 24 = dktX7_write_1 := dk_seg dksX7_write_0 24 rfl rfl
theorem dX7_write_0 : decode cX7_write 0 = .ok (.aload_n 0, 1) := dk_42 (dk_at dksX7_write_0 0 rfl rfl)
theorem dX7_write_1 : decode cX7_write 1 = .ok (.iload_n 1, 1) := dk_27 (dk_at dksX7_write_0 1 rfl rfl)
theorem dX7_write_2 : decode cX7_write 2 = .ok (.iload_n 2, 1) := dk_28 (dk_at dksX7_write_0 2 rfl rfl)
theorem dX7_write_3 : decode cX7_write 3 = .ok (.invokevirtual 86, 3) := dk_182 0 86 (dk_at dksX7_write_0 3 rfl rfl)
theorem dX7_write_6 : decode cX7_write 6 = .ok (.istore 5, 2) := dk_54 5 (dk_at dksX7_write_0 6 rfl rfl)
theorem dX7_write_8 : decode cX7_write 8 = .ok (.iload 5, 2) := dk_21 5 (dk_at dksX7_write_0 8 rfl rfl)
theorem dX7_write_10 : decode cX7_write 10 = .ok (.ifCond .ne 24, 3) := dk_154 0 24 (dk_at dksX7_write_0 10 rfl rfl)
theorem dX7_write_13 : decode cX7_write 13 = .ok (.aload_n 0, 1) := dk_42 (dk_at dksX7_write_0 13 rfl rfl)
theorem dX7_write_14 : decode cX7_write 14 = .ok (.getfield 27, 3) := dk_180 0 27 (dk_at dksX7_write_0 14 rfl rfl)
theorem dX7_write_17 : decode cX7_write 17 = .ok (.bipush 60, 2) := dk_16 60 (dk_at dksX7_write_0 17 rfl rfl)
theorem dX7_write_19 : decode cX7_write 19 = .ok (.iload_n 1, 1) := dk_27 (dk_at dksX7_write_0 19 rfl rfl)
theorem dX7_write_20 : decode cX7_write 20 = .ok (.imul, 1) := dk_104 (dk_at dksX7_write_0 20 rfl rfl)
theorem dX7_write_21 : decode cX7_write 21 = .ok (.iload_n 2, 1) := dk_28 (dk_at dksX7_write_0 21 rfl rfl)
theorem dX7_write_22 : decode cX7_write 22 = .ok (.iadd, 1) := dk_96 (dk_at dksX7_write_0 22 rfl rfl)
theorem dX7_write_23 : decode cX7_write 23 = .ok (.lload_n 3, 1) := dk_33 (dk_at dksX7_write_0 23 rfl rfl)
theorem dX7_write_24 : decode cX7_write 24 = .ok (.aload_n 0, 1) := dk_42 (dk_at dksX7_write_1 0 rfl rfl)
theorem dX7_write_25 : decode cX7_write 25 = .ok (.getfield 21, 3) := dk_180 0 21 (dk_at dksX7_write_1 1 rfl rfl)
theorem dX7_write_28 : decode cX7_write 28 = .ok (.iload_n 1, 1) := dk_27 (dk_at dksX7_write_1 4 rfl rfl)
theorem dX7_write_29 : decode cX7_write 29 = .ok (.iaload, 1) := dk_46 (dk_at dksX7_write_1 5 rfl rfl)
theorem dX7_write_30 : decode cX7_write 30 = .ok (.invokestatic 90, 3) := dk_184 0 90 (dk_at dksX7_write_1 6 rfl rfl)
theorem dX7_write_33 : decode cX7_write 33 = .ok (.lastore, 1) := dk_80 (dk_at dksX7_write_1 9 rfl rfl)
theorem dX7_write_34 : decode cX7_write 34 = .ok (.aload_n 0, 1) := dk_42 (dk_at dksX7_write_1 10 rfl rfl)
theorem dX7_write_35 : decode cX7_write 35 = .ok (.iload 5, 2) := dk_21 5 (dk_at dksX7_write_1 11 rfl rfl)
theorem dX7_write_37 : decode cX7_write 37 = .ok (.invokevirtual 79, 3) := dk_182 0 79 (dk_at dksX7_write_1 13 rfl rfl)
theorem dX7_write_40 : decode cX7_write 40 = .ok (.ireturn, 1) := dk_172 (dk_at dksX7_write_1 16 rfl rfl)
def dkwX7_wrongPlace_1 : List UInt8 := [167, 0, 22, 28, 155, 0, 13, 28, 42, 180, 0, 24, 27, 46, 161, 0, 7, 6, 167, 0, 4, 3, 172]
abbrev dktX7_wrongPlace_1 : List UInt8 := dkwX7_wrongPlace_1 ++ []
def dkwX7_wrongPlace_0 : List UInt8 := [27, 184, 0, 83, 154, 0, 7, 4, 167, 0, 36, 42, 180, 0, 24, 27, 46, 2, 160, 0, 7, 5]
abbrev dktX7_wrongPlace_0 : List UInt8 := dkwX7_wrongPlace_0 ++ dktX7_wrongPlace_1
theorem dksX7_wrongPlace_0 : cX7_wrongPlace.data.toList.drop 0 = dktX7_wrongPlace_0 := by decide +kernel
theorem dksX7_wrongPlace_1 : cX7_wrongPlace.data.toList.drop 22 = dktX7_wrongPlace_1 := dk_seg dksX7_wrongPlace_0 22 rfl rfl
theorem dX7_wrongPlace_0 : decode cX7_wrongPlace 0 = .ok (.iload_n 1, 1) := dk_27 (dk_at dksX7_wrongPlace_0 0 rfl rfl)
theorem dX7_wrongPlace_1 : decode cX7_wrongPlace 1 = .ok (.invokestatic 83, 3) := dk_184 0 83 (dk_at dksX7_wrongPlace_0 1 rfl rfl)
theorem dX7_wrongPlace_4 : decode cX7_wrongPlace 4 = .ok (.ifCond .ne 7, 3) := dk_154 0 7 (dk_at dksX7_wrongPlace_0 4 rfl rfl)
theorem dX7_wrongPlace_7 : decode cX7_wrongPlace 7 = .ok (.iconst 1, 1) := dk_4 (dk_at dksX7_wrongPlace_0 7 rfl rfl)
theorem dX7_wrongPlace_8 : decode cX7_wrongPlace 8 = .ok (.goto 36, 3) := dk_167 0 36 (dk_at dksX7_wrongPlace_0 8 rfl rfl)
theorem dX7_wrongPlace_11 : decode cX7_wrongPlace 11 = .ok (.aload_n 0, 1) := dk_42 (dk_at dksX7_wrongPlace_0 11 rfl rfl)
theorem dX7_wrongPlace_12 : decode cX7_wrongPlace 12 = .ok (.getfield 24, 3) := dk_180 0 24 (dk_at dksX7_wrongPlace_0 12 rfl rfl)
theorem dX7_wrongPlace_15 : decode cX7_wrongPlace 15 = .ok (.iload_n 1, 1) := dk_27 (dk_at dksX7_wrongPlace_0 15 rfl rfl)
theorem dX7_wrongPlace_16 : decode cX7_wrongPlace 16 = .ok (.iaload, 1) := dk_46 (dk_at dksX7_wrongPlace_0 16 rfl rfl)
theorem dX7_wrongPlace_17 : decode cX7_wrongPlace 17 = .ok (.iconst (-1), 1) := dk_2 (dk_at dksX7_wrongPlace_0 17 rfl rfl)
theorem dX7_wrongPlace_18 : decode cX7_wrongPlace 18 = .ok (.if_icmp .ne 7, 3) := dk_160 0 7 (dk_at dksX7_wrongPlace_0 18 rfl rfl)
theorem dX7_wrongPlace_21 : decode cX7_wrongPlace 21 = .ok (.iconst 2, 1) := dk_5 (dk_at dksX7_wrongPlace_0 21 rfl rfl)
theorem dX7_wrongPlace_22 : decode cX7_wrongPlace 22 = .ok (.goto 22, 3) := dk_167 0 22 (dk_at dksX7_wrongPlace_1 0 rfl rfl)
theorem dX7_wrongPlace_25 : decode cX7_wrongPlace 25 = .ok (.iload_n 2, 1) := dk_28 (dk_at dksX7_wrongPlace_1 3 rfl rfl)
theorem dX7_wrongPlace_26 : decode cX7_wrongPlace 26 = .ok (.ifCond .lt 13, 3) := dk_155 0 13 (dk_at dksX7_wrongPlace_1 4 rfl rfl)
theorem dX7_wrongPlace_29 : decode cX7_wrongPlace 29 = .ok (.iload_n 2, 1) := dk_28 (dk_at dksX7_wrongPlace_1 7 rfl rfl)
theorem dX7_wrongPlace_30 : decode cX7_wrongPlace 30 = .ok (.aload_n 0, 1) := dk_42 (dk_at dksX7_wrongPlace_1 8 rfl rfl)
theorem dX7_wrongPlace_31 : decode cX7_wrongPlace 31 = .ok (.getfield 24, 3) := dk_180 0 24 (dk_at dksX7_wrongPlace_1 9 rfl rfl)
theorem dX7_wrongPlace_34 : decode cX7_wrongPlace 34 = .ok (.iload_n 1, 1) := dk_27 (dk_at dksX7_wrongPlace_1 12 rfl rfl)
theorem dX7_wrongPlace_35 : decode cX7_wrongPlace 35 = .ok (.iaload, 1) := dk_46 (dk_at dksX7_wrongPlace_1 13 rfl rfl)
theorem dX7_wrongPlace_36 : decode cX7_wrongPlace 36 = .ok (.if_icmp .lt 7, 3) := dk_161 0 7 (dk_at dksX7_wrongPlace_1 14 rfl rfl)
theorem dX7_wrongPlace_39 : decode cX7_wrongPlace 39 = .ok (.iconst 3, 1) := dk_6 (dk_at dksX7_wrongPlace_1 17 rfl rfl)
theorem dX7_wrongPlace_40 : decode cX7_wrongPlace 40 = .ok (.goto 4, 3) := dk_167 0 4 (dk_at dksX7_wrongPlace_1 18 rfl rfl)
theorem dX7_wrongPlace_43 : decode cX7_wrongPlace 43 = .ok (.iconst 0, 1) := dk_3 (dk_at dksX7_wrongPlace_1 21 rfl rfl)
theorem dX7_wrongPlace_44 : decode cX7_wrongPlace 44 = .ok (.ireturn, 1) := dk_172 (dk_at dksX7_wrongPlace_1 22 rfl rfl)
def dkwX7_cut_1 : List UInt8 := [5, 160, 0, 9, 30, 136, 133, 167, 0, 4, 30, 173]
abbrev dktX7_cut_1 : List UInt8 := dkwX7_cut_1 ++ []
def dkwX7_cut_0 : List UInt8 := [28, 154, 0, 10, 30, 136, 145, 133, 167, 0, 27, 28, 4, 160, 0, 10, 30, 136, 147, 133, 167, 0, 15, 28]
abbrev dktX7_cut_0 : List UInt8 := dkwX7_cut_0 ++ dktX7_cut_1
theorem dksX7_cut_0 : cX7_cut.data.toList.drop 0 = dktX7_cut_0 := by decide +kernel
theorem dksX7_cut_1 : cX7_cut.data.toList.drop 24 = dktX7_cut_1 := dk_seg dksX7_cut_0 24 rfl rfl
theorem dX7_cut_0 : decode cX7_cut 0 = .ok (.iload_n 2, 1) := dk_28 (dk_at dksX7_cut_0 0 rfl rfl)
theorem dX7_cut_1 : decode cX7_cut 1 = .ok (.ifCond .ne 10, 3) := dk_154 0 10 (dk_at dksX7_cut_0 1 rfl rfl)
theorem dX7_cut_4 : decode cX7_cut 4 = .ok (.lload_n 0, 1) := dk_30 (dk_at dksX7_cut_0 4 rfl rfl)
theorem dX7_cut_5 : decode cX7_cut 5 = .ok (.l2i, 1) := dk_136 (dk_at dksX7_cut_0 5 rfl rfl)
theorem dX7_cut_6 : decode cX7_cut 6 = .ok (.i2b, 1) := dk_145 (dk_at dksX7_cut_0 6 rfl rfl)
theorem dX7_cut_7 : decode cX7_cut 7 = .ok (.i2l, 1) := dk_133 (dk_at dksX7_cut_0 7 rfl rfl)
theorem dX7_cut_8 : decode cX7_cut 8 = .ok (.goto 27, 3) := dk_167 0 27 (dk_at dksX7_cut_0 8 rfl rfl)
theorem dX7_cut_11 : decode cX7_cut 11 = .ok (.iload_n 2, 1) := dk_28 (dk_at dksX7_cut_0 11 rfl rfl)
theorem dX7_cut_12 : decode cX7_cut 12 = .ok (.iconst 1, 1) := dk_4 (dk_at dksX7_cut_0 12 rfl rfl)
theorem dX7_cut_13 : decode cX7_cut 13 = .ok (.if_icmp .ne 10, 3) := dk_160 0 10 (dk_at dksX7_cut_0 13 rfl rfl)
theorem dX7_cut_16 : decode cX7_cut 16 = .ok (.lload_n 0, 1) := dk_30 (dk_at dksX7_cut_0 16 rfl rfl)
theorem dX7_cut_17 : decode cX7_cut 17 = .ok (.l2i, 1) := dk_136 (dk_at dksX7_cut_0 17 rfl rfl)
theorem dX7_cut_18 : decode cX7_cut 18 = .ok (.i2s, 1) := dk_147 (dk_at dksX7_cut_0 18 rfl rfl)
theorem dX7_cut_19 : decode cX7_cut 19 = .ok (.i2l, 1) := dk_133 (dk_at dksX7_cut_0 19 rfl rfl)
theorem dX7_cut_20 : decode cX7_cut 20 = .ok (.goto 15, 3) := dk_167 0 15 (dk_at dksX7_cut_0 20 rfl rfl)
theorem dX7_cut_23 : decode cX7_cut 23 = .ok (.iload_n 2, 1) := dk_28 (dk_at dksX7_cut_0 23 rfl rfl)
theorem dX7_cut_24 : decode cX7_cut 24 = .ok (.iconst 2, 1) := dk_5 (dk_at dksX7_cut_1 0 rfl rfl)
theorem dX7_cut_25 : decode cX7_cut 25 = .ok (.if_icmp .ne 9, 3) := dk_160 0 9 (dk_at dksX7_cut_1 1 rfl rfl)
theorem dX7_cut_28 : decode cX7_cut 28 = .ok (.lload_n 0, 1) := dk_30 (dk_at dksX7_cut_1 4 rfl rfl)
theorem dX7_cut_29 : decode cX7_cut 29 = .ok (.l2i, 1) := dk_136 (dk_at dksX7_cut_1 5 rfl rfl)
theorem dX7_cut_30 : decode cX7_cut 30 = .ok (.i2l, 1) := dk_133 (dk_at dksX7_cut_1 6 rfl rfl)
theorem dX7_cut_31 : decode cX7_cut 31 = .ok (.goto 4, 3) := dk_167 0 4 (dk_at dksX7_cut_1 7 rfl rfl)
theorem dX7_cut_34 : decode cX7_cut 34 = .ok (.lload_n 0, 1) := dk_30 (dk_at dksX7_cut_1 10 rfl rfl)
theorem dX7_cut_35 : decode cX7_cut 35 = .ok (.lreturn, 1) := dk_173 (dk_at dksX7_cut_1 11 rfl rfl)
def dkwX7_read_1 : List UInt8 := [180, 0, 27, 16, 60, 27, 104, 28, 96, 47, 173]
abbrev dktX7_read_1 : List UInt8 := dkwX7_read_1 ++ []
def dkwX7_read_0 : List UInt8 := [42, 42, 27, 28, 182, 0, 86, 181, 0, 66, 42, 180, 0, 66, 158, 0, 9, 20, 0, 94, 167, 0, 14, 42]
abbrev dktX7_read_0 : List UInt8 := dkwX7_read_0 ++ dktX7_read_1
theorem dksX7_read_0 : cX7_read.data.toList.drop 0 = dktX7_read_0 := by decide +kernel
theorem dksX7_read_1 : cX7_read.data.toList.drop 24 = dktX7_read_1 := dk_seg dksX7_read_0 24 rfl rfl
theorem dX7_read_0 : decode cX7_read 0 = .ok (.aload_n 0, 1) := dk_42 (dk_at dksX7_read_0 0 rfl rfl)
theorem dX7_read_1 : decode cX7_read 1 = .ok (.aload_n 0, 1) := dk_42 (dk_at dksX7_read_0 1 rfl rfl)
theorem dX7_read_2 : decode cX7_read 2 = .ok (.iload_n 1, 1) := dk_27 (dk_at dksX7_read_0 2 rfl rfl)
theorem dX7_read_3 : decode cX7_read 3 = .ok (.iload_n 2, 1) := dk_28 (dk_at dksX7_read_0 3 rfl rfl)
theorem dX7_read_4 : decode cX7_read 4 = .ok (.invokevirtual 86, 3) := dk_182 0 86 (dk_at dksX7_read_0 4 rfl rfl)
theorem dX7_read_7 : decode cX7_read 7 = .ok (.putfield 66, 3) := dk_181 0 66 (dk_at dksX7_read_0 7 rfl rfl)
theorem dX7_read_10 : decode cX7_read 10 = .ok (.aload_n 0, 1) := dk_42 (dk_at dksX7_read_0 10 rfl rfl)
theorem dX7_read_11 : decode cX7_read 11 = .ok (.getfield 66, 3) := dk_180 0 66 (dk_at dksX7_read_0 11 rfl rfl)
theorem dX7_read_14 : decode cX7_read 14 = .ok (.ifCond .le 9, 3) := dk_158 0 9 (dk_at dksX7_read_0 14 rfl rfl)
theorem dX7_read_17 : decode cX7_read 17 = .ok (.ldc2_w 94, 3) := dk_20 0 94 (dk_at dksX7_read_0 17 rfl rfl)
theorem dX7_read_20 : decode cX7_read 20 = .ok (.goto 14, 3) := dk_167 0 14 (dk_at dksX7_read_0 20 rfl rfl)
theorem dX7_read_23 : decode cX7_read 23 = .ok (.aload_n 0, 1) := dk_42 (dk_at dksX7_read_0 23 rfl rfl)
theorem dX7_read_24 : decode cX7_read 24 = .ok (.getfield 27, 3) := dk_180 0 27 (dk_at dksX7_read_1 0 rfl rfl)
theorem dX7_read_27 : decode cX7_read 27 = .ok (.bipush 60, 2) := dk_16 60 (dk_at dksX7_read_1 3 rfl rfl)
theorem dX7_read_29 : decode cX7_read 29 = .ok (.iload_n 1, 1) := dk_27 (dk_at dksX7_read_1 5 rfl rfl)
theorem dX7_read_30 : decode cX7_read 30 = .ok (.imul, 1) := dk_104 (dk_at dksX7_read_1 6 rfl rfl)
theorem dX7_read_31 : decode cX7_read 31 = .ok (.iload_n 2, 1) := dk_28 (dk_at dksX7_read_1 7 rfl rfl)
theorem dX7_read_32 : decode cX7_read 32 = .ok (.iadd, 1) := dk_96 (dk_at dksX7_read_1 8 rfl rfl)
theorem dX7_read_33 : decode cX7_read 33 = .ok (.laload, 1) := dk_47 (dk_at dksX7_read_1 9 rfl rfl)
theorem dX7_read_34 : decode cX7_read 34 = .ok (.lreturn, 1) := dk_173 (dk_at dksX7_read_1 10 rfl rfl)
def dkwX7_pour_8 : List UInt8 := [182, 0, 79, 172]
abbrev dktX7_pour_8 : List UInt8 := dkwX7_pour_8 ++ []
def dkwX7_pour_7 : List UInt8 := [180, 0, 27, 16, 60, 27, 104, 28, 96, 21, 7, 96, 47, 80, 132, 6, 1, 167, 255, 197, 42, 3]
abbrev dktX7_pour_7 : List UInt8 := dkwX7_pour_7 ++ dktX7_pour_8
def dkwX7_pour_6 : List UInt8 := [167, 0, 5, 21, 6, 54, 7, 42, 180, 0, 27, 16, 60, 29, 104, 21, 4, 96, 21, 7, 96, 42]
abbrev dktX7_pour_6 : List UInt8 := dkwX7_pour_6 ++ dktX7_pour_7
def dkwX7_pour_5 : List UInt8 := [3, 54, 6, 21, 6, 21, 5, 162, 0, 58, 28, 21, 4, 162, 0, 13, 21, 5, 4, 100, 21, 6, 100]
abbrev dktX7_pour_5 : List UInt8 := dkwX7_pour_5 ++ dktX7_pour_6
def dkwX7_pour_4 : List UInt8 := [100, 163, 0, 17, 21, 5, 42, 180, 0, 24, 29, 46, 21, 4, 100, 164, 0, 9, 42, 6, 182, 0, 79, 172]
abbrev dktX7_pour_4 : List UInt8 := dkwX7_pour_4 ++ dktX7_pour_5
def dkwX7_pour_3 : List UInt8 := [180, 0, 21, 29, 46, 159, 0, 10, 42, 16, 8, 182, 0, 79, 172, 21, 5, 42, 180, 0, 24, 27, 46, 28]
abbrev dktX7_pour_3 : List UInt8 := dkwX7_pour_3 ++ dktX7_pour_4
def dkwX7_pour_2 : List UInt8 := [180, 0, 24, 29, 46, 2, 160, 0, 9, 42, 5, 182, 0, 79, 172, 42, 180, 0, 21, 27, 46, 42]
abbrev dktX7_pour_2 : List UInt8 := dkwX7_pour_2 ++ dktX7_pour_3
def dkwX7_pour_1 : List UInt8 := [21, 5, 156, 0, 9, 42, 4, 182, 0, 79, 172, 42, 180, 0, 24, 27, 46, 2, 159, 0, 13, 42]
abbrev dktX7_pour_1 : List UInt8 := dkwX7_pour_1 ++ dktX7_pour_2
def dkwX7_pour_0 : List UInt8 := [27, 184, 0, 83, 153, 0, 24, 29, 184, 0, 83, 153, 0, 17, 28, 155, 0, 13, 21, 4, 155, 0, 8]
abbrev dktX7_pour_0 : List UInt8 := dkwX7_pour_0 ++ dktX7_pour_1
theorem dksX7_pour_0 : cX7_pour.data.toList.drop 0 = dktX7_pour_0 := by decide +kernel
theorem dksX7_pour_1 : cX7_pour.data.toList.drop 23 = dktX7_pour_1 := dk_seg dksX7_pour_0 23 rfl rfl
theorem dksX7_pour_2 : cX7_pour.data.toList.drop 45 = dktX7_pour_2 := dk_seg dksX7_pour_1 22 rfl rfl
theorem dksX7_pour_3 : cX7_pour.data.toList.drop 67 = dktX7_pour_3 := dk_seg dksX7_pour_2 22 rfl rfl
theorem dksX7_pour_4 : cX7_pour.data.toList.drop 91 = dktX7_pour_4 := dk_seg dksX7_pour_3 24 rfl rfl
theorem dksX7_pour_5 : cX7_pour.data.toList.drop 115 = dktX7_pour_5 := dk_seg dksX7_pour_4 24 rfl rfl
theorem dksX7_pour_6 : cX7_pour.data.toList.drop 138 = dktX7_pour_6 := dk_seg dksX7_pour_5 23 rfl rfl
theorem dksX7_pour_7 : cX7_pour.data.toList.drop 160 = dktX7_pour_7 := dk_seg dksX7_pour_6 22 rfl rfl
theorem dksX7_pour_8 : cX7_pour.data.toList.drop 182 = dktX7_pour_8 := dk_seg dksX7_pour_7 22 rfl rfl
theorem dX7_pour_0 : decode cX7_pour 0 = .ok (.iload_n 1, 1) := dk_27 (dk_at dksX7_pour_0 0 rfl rfl)
theorem dX7_pour_1 : decode cX7_pour 1 = .ok (.invokestatic 83, 3) := dk_184 0 83 (dk_at dksX7_pour_0 1 rfl rfl)
theorem dX7_pour_4 : decode cX7_pour 4 = .ok (.ifCond .eq 24, 3) := dk_153 0 24 (dk_at dksX7_pour_0 4 rfl rfl)
theorem dX7_pour_7 : decode cX7_pour 7 = .ok (.iload_n 3, 1) := dk_29 (dk_at dksX7_pour_0 7 rfl rfl)
theorem dX7_pour_8 : decode cX7_pour 8 = .ok (.invokestatic 83, 3) := dk_184 0 83 (dk_at dksX7_pour_0 8 rfl rfl)
theorem dX7_pour_11 : decode cX7_pour 11 = .ok (.ifCond .eq 17, 3) := dk_153 0 17 (dk_at dksX7_pour_0 11 rfl rfl)
theorem dX7_pour_14 : decode cX7_pour 14 = .ok (.iload_n 2, 1) := dk_28 (dk_at dksX7_pour_0 14 rfl rfl)
theorem dX7_pour_15 : decode cX7_pour 15 = .ok (.ifCond .lt 13, 3) := dk_155 0 13 (dk_at dksX7_pour_0 15 rfl rfl)
theorem dX7_pour_18 : decode cX7_pour 18 = .ok (.iload 4, 2) := dk_21 4 (dk_at dksX7_pour_0 18 rfl rfl)
theorem dX7_pour_20 : decode cX7_pour 20 = .ok (.ifCond .lt 8, 3) := dk_155 0 8 (dk_at dksX7_pour_0 20 rfl rfl)
theorem dX7_pour_23 : decode cX7_pour 23 = .ok (.iload 5, 2) := dk_21 5 (dk_at dksX7_pour_1 0 rfl rfl)
theorem dX7_pour_25 : decode cX7_pour 25 = .ok (.ifCond .ge 9, 3) := dk_156 0 9 (dk_at dksX7_pour_1 2 rfl rfl)
theorem dX7_pour_28 : decode cX7_pour 28 = .ok (.aload_n 0, 1) := dk_42 (dk_at dksX7_pour_1 5 rfl rfl)
theorem dX7_pour_29 : decode cX7_pour 29 = .ok (.iconst 1, 1) := dk_4 (dk_at dksX7_pour_1 6 rfl rfl)
theorem dX7_pour_30 : decode cX7_pour 30 = .ok (.invokevirtual 79, 3) := dk_182 0 79 (dk_at dksX7_pour_1 7 rfl rfl)
theorem dX7_pour_33 : decode cX7_pour 33 = .ok (.ireturn, 1) := dk_172 (dk_at dksX7_pour_1 10 rfl rfl)
theorem dX7_pour_34 : decode cX7_pour 34 = .ok (.aload_n 0, 1) := dk_42 (dk_at dksX7_pour_1 11 rfl rfl)
theorem dX7_pour_35 : decode cX7_pour 35 = .ok (.getfield 24, 3) := dk_180 0 24 (dk_at dksX7_pour_1 12 rfl rfl)
theorem dX7_pour_38 : decode cX7_pour 38 = .ok (.iload_n 1, 1) := dk_27 (dk_at dksX7_pour_1 15 rfl rfl)
theorem dX7_pour_39 : decode cX7_pour 39 = .ok (.iaload, 1) := dk_46 (dk_at dksX7_pour_1 16 rfl rfl)
theorem dX7_pour_40 : decode cX7_pour 40 = .ok (.iconst (-1), 1) := dk_2 (dk_at dksX7_pour_1 17 rfl rfl)
theorem dX7_pour_41 : decode cX7_pour 41 = .ok (.if_icmp .eq 13, 3) := dk_159 0 13 (dk_at dksX7_pour_1 18 rfl rfl)
theorem dX7_pour_44 : decode cX7_pour 44 = .ok (.aload_n 0, 1) := dk_42 (dk_at dksX7_pour_1 21 rfl rfl)
theorem dX7_pour_45 : decode cX7_pour 45 = .ok (.getfield 24, 3) := dk_180 0 24 (dk_at dksX7_pour_2 0 rfl rfl)
theorem dX7_pour_48 : decode cX7_pour 48 = .ok (.iload_n 3, 1) := dk_29 (dk_at dksX7_pour_2 3 rfl rfl)
theorem dX7_pour_49 : decode cX7_pour 49 = .ok (.iaload, 1) := dk_46 (dk_at dksX7_pour_2 4 rfl rfl)
theorem dX7_pour_50 : decode cX7_pour 50 = .ok (.iconst (-1), 1) := dk_2 (dk_at dksX7_pour_2 5 rfl rfl)
theorem dX7_pour_51 : decode cX7_pour 51 = .ok (.if_icmp .ne 9, 3) := dk_160 0 9 (dk_at dksX7_pour_2 6 rfl rfl)
theorem dX7_pour_54 : decode cX7_pour 54 = .ok (.aload_n 0, 1) := dk_42 (dk_at dksX7_pour_2 9 rfl rfl)
theorem dX7_pour_55 : decode cX7_pour 55 = .ok (.iconst 2, 1) := dk_5 (dk_at dksX7_pour_2 10 rfl rfl)
theorem dX7_pour_56 : decode cX7_pour 56 = .ok (.invokevirtual 79, 3) := dk_182 0 79 (dk_at dksX7_pour_2 11 rfl rfl)
theorem dX7_pour_59 : decode cX7_pour 59 = .ok (.ireturn, 1) := dk_172 (dk_at dksX7_pour_2 14 rfl rfl)
theorem dX7_pour_60 : decode cX7_pour 60 = .ok (.aload_n 0, 1) := dk_42 (dk_at dksX7_pour_2 15 rfl rfl)
theorem dX7_pour_61 : decode cX7_pour 61 = .ok (.getfield 21, 3) := dk_180 0 21 (dk_at dksX7_pour_2 16 rfl rfl)
theorem dX7_pour_64 : decode cX7_pour 64 = .ok (.iload_n 1, 1) := dk_27 (dk_at dksX7_pour_2 19 rfl rfl)
theorem dX7_pour_65 : decode cX7_pour 65 = .ok (.iaload, 1) := dk_46 (dk_at dksX7_pour_2 20 rfl rfl)
theorem dX7_pour_66 : decode cX7_pour 66 = .ok (.aload_n 0, 1) := dk_42 (dk_at dksX7_pour_2 21 rfl rfl)
theorem dX7_pour_67 : decode cX7_pour 67 = .ok (.getfield 21, 3) := dk_180 0 21 (dk_at dksX7_pour_3 0 rfl rfl)
theorem dX7_pour_70 : decode cX7_pour 70 = .ok (.iload_n 3, 1) := dk_29 (dk_at dksX7_pour_3 3 rfl rfl)
theorem dX7_pour_71 : decode cX7_pour 71 = .ok (.iaload, 1) := dk_46 (dk_at dksX7_pour_3 4 rfl rfl)
theorem dX7_pour_72 : decode cX7_pour 72 = .ok (.if_icmp .eq 10, 3) := dk_159 0 10 (dk_at dksX7_pour_3 5 rfl rfl)
theorem dX7_pour_75 : decode cX7_pour 75 = .ok (.aload_n 0, 1) := dk_42 (dk_at dksX7_pour_3 8 rfl rfl)
theorem dX7_pour_76 : decode cX7_pour 76 = .ok (.bipush 8, 2) := dk_16 8 (dk_at dksX7_pour_3 9 rfl rfl)
theorem dX7_pour_78 : decode cX7_pour 78 = .ok (.invokevirtual 79, 3) := dk_182 0 79 (dk_at dksX7_pour_3 11 rfl rfl)
theorem dX7_pour_81 : decode cX7_pour 81 = .ok (.ireturn, 1) := dk_172 (dk_at dksX7_pour_3 14 rfl rfl)
theorem dX7_pour_82 : decode cX7_pour 82 = .ok (.iload 5, 2) := dk_21 5 (dk_at dksX7_pour_3 15 rfl rfl)
theorem dX7_pour_84 : decode cX7_pour 84 = .ok (.aload_n 0, 1) := dk_42 (dk_at dksX7_pour_3 17 rfl rfl)
theorem dX7_pour_85 : decode cX7_pour 85 = .ok (.getfield 24, 3) := dk_180 0 24 (dk_at dksX7_pour_3 18 rfl rfl)
theorem dX7_pour_88 : decode cX7_pour 88 = .ok (.iload_n 1, 1) := dk_27 (dk_at dksX7_pour_3 21 rfl rfl)
theorem dX7_pour_89 : decode cX7_pour 89 = .ok (.iaload, 1) := dk_46 (dk_at dksX7_pour_3 22 rfl rfl)
theorem dX7_pour_90 : decode cX7_pour 90 = .ok (.iload_n 2, 1) := dk_28 (dk_at dksX7_pour_3 23 rfl rfl)
theorem dX7_pour_91 : decode cX7_pour 91 = .ok (.isub, 1) := dk_100 (dk_at dksX7_pour_4 0 rfl rfl)
theorem dX7_pour_92 : decode cX7_pour 92 = .ok (.if_icmp .gt 17, 3) := dk_163 0 17 (dk_at dksX7_pour_4 1 rfl rfl)
theorem dX7_pour_95 : decode cX7_pour 95 = .ok (.iload 5, 2) := dk_21 5 (dk_at dksX7_pour_4 4 rfl rfl)
theorem dX7_pour_97 : decode cX7_pour 97 = .ok (.aload_n 0, 1) := dk_42 (dk_at dksX7_pour_4 6 rfl rfl)
theorem dX7_pour_98 : decode cX7_pour 98 = .ok (.getfield 24, 3) := dk_180 0 24 (dk_at dksX7_pour_4 7 rfl rfl)
theorem dX7_pour_101 : decode cX7_pour 101 = .ok (.iload_n 3, 1) := dk_29 (dk_at dksX7_pour_4 10 rfl rfl)
theorem dX7_pour_102 : decode cX7_pour 102 = .ok (.iaload, 1) := dk_46 (dk_at dksX7_pour_4 11 rfl rfl)
theorem dX7_pour_103 : decode cX7_pour 103 = .ok (.iload 4, 2) := dk_21 4 (dk_at dksX7_pour_4 12 rfl rfl)
theorem dX7_pour_105 : decode cX7_pour 105 = .ok (.isub, 1) := dk_100 (dk_at dksX7_pour_4 14 rfl rfl)
theorem dX7_pour_106 : decode cX7_pour 106 = .ok (.if_icmp .le 9, 3) := dk_164 0 9 (dk_at dksX7_pour_4 15 rfl rfl)
theorem dX7_pour_109 : decode cX7_pour 109 = .ok (.aload_n 0, 1) := dk_42 (dk_at dksX7_pour_4 18 rfl rfl)
theorem dX7_pour_110 : decode cX7_pour 110 = .ok (.iconst 3, 1) := dk_6 (dk_at dksX7_pour_4 19 rfl rfl)
theorem dX7_pour_111 : decode cX7_pour 111 = .ok (.invokevirtual 79, 3) := dk_182 0 79 (dk_at dksX7_pour_4 20 rfl rfl)
theorem dX7_pour_114 : decode cX7_pour 114 = .ok (.ireturn, 1) := dk_172 (dk_at dksX7_pour_4 23 rfl rfl)
theorem dX7_pour_115 : decode cX7_pour 115 = .ok (.iconst 0, 1) := dk_3 (dk_at dksX7_pour_5 0 rfl rfl)
theorem dX7_pour_116 : decode cX7_pour 116 = .ok (.istore 6, 2) := dk_54 6 (dk_at dksX7_pour_5 1 rfl rfl)
theorem dX7_pour_118 : decode cX7_pour 118 = .ok (.iload 6, 2) := dk_21 6 (dk_at dksX7_pour_5 3 rfl rfl)
theorem dX7_pour_120 : decode cX7_pour 120 = .ok (.iload 5, 2) := dk_21 5 (dk_at dksX7_pour_5 5 rfl rfl)
theorem dX7_pour_122 : decode cX7_pour 122 = .ok (.if_icmp .ge 58, 3) := dk_162 0 58 (dk_at dksX7_pour_5 7 rfl rfl)
theorem dX7_pour_125 : decode cX7_pour 125 = .ok (.iload_n 2, 1) := dk_28 (dk_at dksX7_pour_5 10 rfl rfl)
theorem dX7_pour_126 : decode cX7_pour 126 = .ok (.iload 4, 2) := dk_21 4 (dk_at dksX7_pour_5 11 rfl rfl)
theorem dX7_pour_128 : decode cX7_pour 128 = .ok (.if_icmp .ge 13, 3) := dk_162 0 13 (dk_at dksX7_pour_5 13 rfl rfl)
theorem dX7_pour_131 : decode cX7_pour 131 = .ok (.iload 5, 2) := dk_21 5 (dk_at dksX7_pour_5 16 rfl rfl)
theorem dX7_pour_133 : decode cX7_pour 133 = .ok (.iconst 1, 1) := dk_4 (dk_at dksX7_pour_5 18 rfl rfl)
theorem dX7_pour_134 : decode cX7_pour 134 = .ok (.isub, 1) := dk_100 (dk_at dksX7_pour_5 19 rfl rfl)
theorem dX7_pour_135 : decode cX7_pour 135 = .ok (.iload 6, 2) := dk_21 6 (dk_at dksX7_pour_5 20 rfl rfl)
theorem dX7_pour_137 : decode cX7_pour 137 = .ok (.isub, 1) := dk_100 (dk_at dksX7_pour_5 22 rfl rfl)
theorem dX7_pour_138 : decode cX7_pour 138 = .ok (.goto 5, 3) := dk_167 0 5 (dk_at dksX7_pour_6 0 rfl rfl)
theorem dX7_pour_141 : decode cX7_pour 141 = .ok (.iload 6, 2) := dk_21 6 (dk_at dksX7_pour_6 3 rfl rfl)
theorem dX7_pour_143 : decode cX7_pour 143 = .ok (.istore 7, 2) := dk_54 7 (dk_at dksX7_pour_6 5 rfl rfl)
theorem dX7_pour_145 : decode cX7_pour 145 = .ok (.aload_n 0, 1) := dk_42 (dk_at dksX7_pour_6 7 rfl rfl)
theorem dX7_pour_146 : decode cX7_pour 146 = .ok (.getfield 27, 3) := dk_180 0 27 (dk_at dksX7_pour_6 8 rfl rfl)
theorem dX7_pour_149 : decode cX7_pour 149 = .ok (.bipush 60, 2) := dk_16 60 (dk_at dksX7_pour_6 11 rfl rfl)
theorem dX7_pour_151 : decode cX7_pour 151 = .ok (.iload_n 3, 1) := dk_29 (dk_at dksX7_pour_6 13 rfl rfl)
theorem dX7_pour_152 : decode cX7_pour 152 = .ok (.imul, 1) := dk_104 (dk_at dksX7_pour_6 14 rfl rfl)
theorem dX7_pour_153 : decode cX7_pour 153 = .ok (.iload 4, 2) := dk_21 4 (dk_at dksX7_pour_6 15 rfl rfl)
theorem dX7_pour_155 : decode cX7_pour 155 = .ok (.iadd, 1) := dk_96 (dk_at dksX7_pour_6 17 rfl rfl)
theorem dX7_pour_156 : decode cX7_pour 156 = .ok (.iload 7, 2) := dk_21 7 (dk_at dksX7_pour_6 18 rfl rfl)
theorem dX7_pour_158 : decode cX7_pour 158 = .ok (.iadd, 1) := dk_96 (dk_at dksX7_pour_6 20 rfl rfl)
theorem dX7_pour_159 : decode cX7_pour 159 = .ok (.aload_n 0, 1) := dk_42 (dk_at dksX7_pour_6 21 rfl rfl)
theorem dX7_pour_160 : decode cX7_pour 160 = .ok (.getfield 27, 3) := dk_180 0 27 (dk_at dksX7_pour_7 0 rfl rfl)
theorem dX7_pour_163 : decode cX7_pour 163 = .ok (.bipush 60, 2) := dk_16 60 (dk_at dksX7_pour_7 3 rfl rfl)
theorem dX7_pour_165 : decode cX7_pour 165 = .ok (.iload_n 1, 1) := dk_27 (dk_at dksX7_pour_7 5 rfl rfl)
theorem dX7_pour_166 : decode cX7_pour 166 = .ok (.imul, 1) := dk_104 (dk_at dksX7_pour_7 6 rfl rfl)
theorem dX7_pour_167 : decode cX7_pour 167 = .ok (.iload_n 2, 1) := dk_28 (dk_at dksX7_pour_7 7 rfl rfl)
theorem dX7_pour_168 : decode cX7_pour 168 = .ok (.iadd, 1) := dk_96 (dk_at dksX7_pour_7 8 rfl rfl)
theorem dX7_pour_169 : decode cX7_pour 169 = .ok (.iload 7, 2) := dk_21 7 (dk_at dksX7_pour_7 9 rfl rfl)
theorem dX7_pour_171 : decode cX7_pour 171 = .ok (.iadd, 1) := dk_96 (dk_at dksX7_pour_7 11 rfl rfl)
theorem dX7_pour_172 : decode cX7_pour 172 = .ok (.laload, 1) := dk_47 (dk_at dksX7_pour_7 12 rfl rfl)
theorem dX7_pour_173 : decode cX7_pour 173 = .ok (.lastore, 1) := dk_80 (dk_at dksX7_pour_7 13 rfl rfl)
theorem dX7_pour_174 : decode cX7_pour 174 = .ok (.iinc 6 1, 3) := dk_132 6 1 (dk_at dksX7_pour_7 14 rfl rfl)
theorem dX7_pour_177 : decode cX7_pour 177 = .ok (.goto (-59), 3) := dk_167 255 197 (dk_at dksX7_pour_7 17 rfl rfl)
theorem dX7_pour_180 : decode cX7_pour 180 = .ok (.aload_n 0, 1) := dk_42 (dk_at dksX7_pour_7 20 rfl rfl)
theorem dX7_pour_181 : decode cX7_pour 181 = .ok (.iconst 0, 1) := dk_3 (dk_at dksX7_pour_7 21 rfl rfl)
theorem dX7_pour_182 : decode cX7_pour 182 = .ok (.invokevirtual 79, 3) := dk_182 0 79 (dk_at dksX7_pour_8 0 rfl rfl)
theorem dX7_pour_185 : decode cX7_pour 185 = .ok (.ireturn, 1) := dk_172 (dk_at dksX7_pour_8 3 rfl rfl)
def dkwX7_feed_2 : List UInt8 := [172]
abbrev dktX7_feed_2 : List UInt8 := dkwX7_feed_2 ++ []
def dkwX7_feed_1 : List UInt8 := [182, 0, 99, 42, 29, 182, 0, 99, 42, 21, 4, 182, 0, 99, 42, 21, 5, 182, 0, 99, 42, 180, 0, 96]
abbrev dktX7_feed_1 : List UInt8 := dkwX7_feed_1 ++ dktX7_feed_2
def dkwX7_feed_0 : List UInt8 := [42, 180, 0, 96, 16, 20, 96, 17, 3, 132, 164, 0, 5, 2, 172, 42, 27, 182, 0, 99, 42, 28]
abbrev dktX7_feed_0 : List UInt8 := dkwX7_feed_0 ++ dktX7_feed_1
theorem dksX7_feed_0 : cX7_feed.data.toList.drop 0 = dktX7_feed_0 := by decide +kernel
theorem dksX7_feed_1 : cX7_feed.data.toList.drop 22 = dktX7_feed_1 := dk_seg dksX7_feed_0 22 rfl rfl
theorem dksX7_feed_2 : cX7_feed.data.toList.drop 46 = dktX7_feed_2 := dk_seg dksX7_feed_1 24 rfl rfl
theorem dX7_feed_0 : decode cX7_feed 0 = .ok (.aload_n 0, 1) := dk_42 (dk_at dksX7_feed_0 0 rfl rfl)
theorem dX7_feed_1 : decode cX7_feed 1 = .ok (.getfield 96, 3) := dk_180 0 96 (dk_at dksX7_feed_0 1 rfl rfl)
theorem dX7_feed_4 : decode cX7_feed 4 = .ok (.bipush 20, 2) := dk_16 20 (dk_at dksX7_feed_0 4 rfl rfl)
theorem dX7_feed_6 : decode cX7_feed 6 = .ok (.iadd, 1) := dk_96 (dk_at dksX7_feed_0 6 rfl rfl)
theorem dX7_feed_7 : decode cX7_feed 7 = .ok (.sipush 900, 3) := dk_17 3 132 (dk_at dksX7_feed_0 7 rfl rfl)
theorem dX7_feed_10 : decode cX7_feed 10 = .ok (.if_icmp .le 5, 3) := dk_164 0 5 (dk_at dksX7_feed_0 10 rfl rfl)
theorem dX7_feed_13 : decode cX7_feed 13 = .ok (.iconst (-1), 1) := dk_2 (dk_at dksX7_feed_0 13 rfl rfl)
theorem dX7_feed_14 : decode cX7_feed 14 = .ok (.ireturn, 1) := dk_172 (dk_at dksX7_feed_0 14 rfl rfl)
theorem dX7_feed_15 : decode cX7_feed 15 = .ok (.aload_n 0, 1) := dk_42 (dk_at dksX7_feed_0 15 rfl rfl)
theorem dX7_feed_16 : decode cX7_feed 16 = .ok (.iload_n 1, 1) := dk_27 (dk_at dksX7_feed_0 16 rfl rfl)
theorem dX7_feed_17 : decode cX7_feed 17 = .ok (.invokevirtual 99, 3) := dk_182 0 99 (dk_at dksX7_feed_0 17 rfl rfl)
theorem dX7_feed_20 : decode cX7_feed 20 = .ok (.aload_n 0, 1) := dk_42 (dk_at dksX7_feed_0 20 rfl rfl)
theorem dX7_feed_21 : decode cX7_feed 21 = .ok (.iload_n 2, 1) := dk_28 (dk_at dksX7_feed_0 21 rfl rfl)
theorem dX7_feed_22 : decode cX7_feed 22 = .ok (.invokevirtual 99, 3) := dk_182 0 99 (dk_at dksX7_feed_1 0 rfl rfl)
theorem dX7_feed_25 : decode cX7_feed 25 = .ok (.aload_n 0, 1) := dk_42 (dk_at dksX7_feed_1 3 rfl rfl)
theorem dX7_feed_26 : decode cX7_feed 26 = .ok (.iload_n 3, 1) := dk_29 (dk_at dksX7_feed_1 4 rfl rfl)
theorem dX7_feed_27 : decode cX7_feed 27 = .ok (.invokevirtual 99, 3) := dk_182 0 99 (dk_at dksX7_feed_1 5 rfl rfl)
theorem dX7_feed_30 : decode cX7_feed 30 = .ok (.aload_n 0, 1) := dk_42 (dk_at dksX7_feed_1 8 rfl rfl)
theorem dX7_feed_31 : decode cX7_feed 31 = .ok (.iload 4, 2) := dk_21 4 (dk_at dksX7_feed_1 9 rfl rfl)
theorem dX7_feed_33 : decode cX7_feed 33 = .ok (.invokevirtual 99, 3) := dk_182 0 99 (dk_at dksX7_feed_1 11 rfl rfl)
theorem dX7_feed_36 : decode cX7_feed 36 = .ok (.aload_n 0, 1) := dk_42 (dk_at dksX7_feed_1 14 rfl rfl)
theorem dX7_feed_37 : decode cX7_feed 37 = .ok (.iload 5, 2) := dk_21 5 (dk_at dksX7_feed_1 15 rfl rfl)
theorem dX7_feed_39 : decode cX7_feed 39 = .ok (.invokevirtual 99, 3) := dk_182 0 99 (dk_at dksX7_feed_1 17 rfl rfl)
theorem dX7_feed_42 : decode cX7_feed 42 = .ok (.aload_n 0, 1) := dk_42 (dk_at dksX7_feed_1 20 rfl rfl)
theorem dX7_feed_43 : decode cX7_feed 43 = .ok (.getfield 96, 3) := dk_180 0 96 (dk_at dksX7_feed_1 21 rfl rfl)
theorem dX7_feed_46 : decode cX7_feed 46 = .ok (.ireturn, 1) := dk_172 (dk_at dksX7_feed_2 0 rfl rfl)
def dkwX7_four_1 : List UInt8 := [180, 0, 96, 4, 96, 181, 0, 96, 132, 2, 248, 167, 255, 226, 177]
abbrev dktX7_four_1 : List UInt8 := dkwX7_four_1 ++ []
def dkwX7_four_0 : List UInt8 := [16, 24, 61, 28, 155, 0, 32, 42, 180, 0, 30, 42, 180, 0, 96, 27, 28, 122, 145, 84, 42, 89]
abbrev dktX7_four_0 : List UInt8 := dkwX7_four_0 ++ dktX7_four_1
theorem dksX7_four_0 : cX7_four.data.toList.drop 0 = dktX7_four_0 := by decide +kernel
theorem dksX7_four_1 : cX7_four.data.toList.drop 22 = dktX7_four_1 := dk_seg dksX7_four_0 22 rfl rfl
theorem dX7_four_0 : decode cX7_four 0 = .ok (.bipush 24, 2) := dk_16 24 (dk_at dksX7_four_0 0 rfl rfl)
theorem dX7_four_2 : decode cX7_four 2 = .ok (.istore_n 2, 1) := dk_61 (dk_at dksX7_four_0 2 rfl rfl)
theorem dX7_four_3 : decode cX7_four 3 = .ok (.iload_n 2, 1) := dk_28 (dk_at dksX7_four_0 3 rfl rfl)
theorem dX7_four_4 : decode cX7_four 4 = .ok (.ifCond .lt 32, 3) := dk_155 0 32 (dk_at dksX7_four_0 4 rfl rfl)
theorem dX7_four_7 : decode cX7_four 7 = .ok (.aload_n 0, 1) := dk_42 (dk_at dksX7_four_0 7 rfl rfl)
theorem dX7_four_8 : decode cX7_four 8 = .ok (.getfield 30, 3) := dk_180 0 30 (dk_at dksX7_four_0 8 rfl rfl)
theorem dX7_four_11 : decode cX7_four 11 = .ok (.aload_n 0, 1) := dk_42 (dk_at dksX7_four_0 11 rfl rfl)
theorem dX7_four_12 : decode cX7_four 12 = .ok (.getfield 96, 3) := dk_180 0 96 (dk_at dksX7_four_0 12 rfl rfl)
theorem dX7_four_15 : decode cX7_four 15 = .ok (.iload_n 1, 1) := dk_27 (dk_at dksX7_four_0 15 rfl rfl)
theorem dX7_four_16 : decode cX7_four 16 = .ok (.iload_n 2, 1) := dk_28 (dk_at dksX7_four_0 16 rfl rfl)
theorem dX7_four_17 : decode cX7_four 17 = .ok (.ishr, 1) := dk_122 (dk_at dksX7_four_0 17 rfl rfl)
theorem dX7_four_18 : decode cX7_four 18 = .ok (.i2b, 1) := dk_145 (dk_at dksX7_four_0 18 rfl rfl)
theorem dX7_four_19 : decode cX7_four 19 = .ok (.bastore, 1) := dk_84 (dk_at dksX7_four_0 19 rfl rfl)
theorem dX7_four_20 : decode cX7_four 20 = .ok (.aload_n 0, 1) := dk_42 (dk_at dksX7_four_0 20 rfl rfl)
theorem dX7_four_21 : decode cX7_four 21 = .ok (.dup, 1) := dk_89 (dk_at dksX7_four_0 21 rfl rfl)
theorem dX7_four_22 : decode cX7_four 22 = .ok (.getfield 96, 3) := dk_180 0 96 (dk_at dksX7_four_1 0 rfl rfl)
theorem dX7_four_25 : decode cX7_four 25 = .ok (.iconst 1, 1) := dk_4 (dk_at dksX7_four_1 3 rfl rfl)
theorem dX7_four_26 : decode cX7_four 26 = .ok (.iadd, 1) := dk_96 (dk_at dksX7_four_1 4 rfl rfl)
theorem dX7_four_27 : decode cX7_four 27 = .ok (.putfield 96, 3) := dk_181 0 96 (dk_at dksX7_four_1 5 rfl rfl)
theorem dX7_four_30 : decode cX7_four 30 = .ok (.iinc 2 (-8), 3) := dk_132 2 248 (dk_at dksX7_four_1 8 rfl rfl)
theorem dX7_four_33 : decode cX7_four 33 = .ok (.goto (-30), 3) := dk_167 255 226 (dk_at dksX7_four_1 11 rfl rfl)
theorem dX7_four_36 : decode cX7_four 36 = .ok (.return_, 1) := dk_177 (dk_at dksX7_four_1 14 rfl rfl)
def dkwX7_fault_1 : List UInt8 := [172]
abbrev dktX7_fault_1 : List UInt8 := dkwX7_fault_1 ++ []
def dkwX7_fault_0 : List UInt8 := [27, 154, 0, 10, 42, 180, 0, 37, 167, 0, 16, 27, 4, 160, 0, 10, 42, 180, 0, 41, 167, 0, 4, 2]
abbrev dktX7_fault_0 : List UInt8 := dkwX7_fault_0 ++ dktX7_fault_1
theorem dksX7_fault_0 : cX7_fault.data.toList.drop 0 = dktX7_fault_0 := by decide +kernel
theorem dksX7_fault_1 : cX7_fault.data.toList.drop 24 = dktX7_fault_1 := dk_seg dksX7_fault_0 24 rfl rfl
theorem dX7_fault_0 : decode cX7_fault 0 = .ok (.iload_n 1, 1) := dk_27 (dk_at dksX7_fault_0 0 rfl rfl)
theorem dX7_fault_1 : decode cX7_fault 1 = .ok (.ifCond .ne 10, 3) := dk_154 0 10 (dk_at dksX7_fault_0 1 rfl rfl)
theorem dX7_fault_4 : decode cX7_fault 4 = .ok (.aload_n 0, 1) := dk_42 (dk_at dksX7_fault_0 4 rfl rfl)
theorem dX7_fault_5 : decode cX7_fault 5 = .ok (.getfield 37, 3) := dk_180 0 37 (dk_at dksX7_fault_0 5 rfl rfl)
theorem dX7_fault_8 : decode cX7_fault 8 = .ok (.goto 16, 3) := dk_167 0 16 (dk_at dksX7_fault_0 8 rfl rfl)
theorem dX7_fault_11 : decode cX7_fault 11 = .ok (.iload_n 1, 1) := dk_27 (dk_at dksX7_fault_0 11 rfl rfl)
theorem dX7_fault_12 : decode cX7_fault 12 = .ok (.iconst 1, 1) := dk_4 (dk_at dksX7_fault_0 12 rfl rfl)
theorem dX7_fault_13 : decode cX7_fault 13 = .ok (.if_icmp .ne 10, 3) := dk_160 0 10 (dk_at dksX7_fault_0 13 rfl rfl)
theorem dX7_fault_16 : decode cX7_fault 16 = .ok (.aload_n 0, 1) := dk_42 (dk_at dksX7_fault_0 16 rfl rfl)
theorem dX7_fault_17 : decode cX7_fault 17 = .ok (.getfield 41, 3) := dk_180 0 41 (dk_at dksX7_fault_0 17 rfl rfl)
theorem dX7_fault_20 : decode cX7_fault 20 = .ok (.goto 4, 3) := dk_167 0 4 (dk_at dksX7_fault_0 20 rfl rfl)
theorem dX7_fault_23 : decode cX7_fault 23 = .ok (.iconst (-1), 1) := dk_2 (dk_at dksX7_fault_0 23 rfl rfl)
theorem dX7_fault_24 : decode cX7_fault 24 = .ok (.ireturn, 1) := dk_172 (dk_at dksX7_fault_1 0 rfl rfl)
def dkwX7_yard_5 : List UInt8 := [180, 0, 7, 3, 46, 182, 0, 214, 172]
abbrev dktX7_yard_5 : List UInt8 := dkwX7_yard_5 ++ []
def dkwX7_yard_4 : List UInt8 := [180, 0, 13, 29, 42, 180, 0, 13, 16, 80, 29, 96, 47, 80, 132, 3, 1, 167, 255, 232, 42, 42]
abbrev dktX7_yard_4 : List UInt8 := dkwX7_yard_4 ++ dktX7_yard_5
def dkwX7_yard_3 : List UInt8 := [17, 19, 56, 29, 96, 46, 79, 132, 3, 1, 167, 255, 230, 3, 62, 29, 16, 20, 162, 0, 24, 42]
abbrev dktX7_yard_3 : List UInt8 := dkwX7_yard_3 ++ dktX7_yard_4
def dkwX7_yard_2 : List UInt8 := [180, 0, 142, 154, 0, 63, 3, 62, 29, 17, 4, 206, 162, 0, 25, 42, 180, 0, 7, 29, 42, 180, 0, 7]
abbrev dktX7_yard_2 : List UInt8 := dkwX7_yard_2 ++ dktX7_yard_3
def dkwX7_yard_1 : List UInt8 := [4, 61, 28, 153, 0, 18, 42, 180, 0, 117, 153, 0, 11, 42, 182, 0, 211, 61, 167, 255, 240, 42]
abbrev dktX7_yard_1 : List UInt8 := dkwX7_yard_1 ++ dktX7_yard_2
def dkwX7_yard_0 : List UInt8 := [42, 27, 17, 3, 132, 182, 0, 207, 154, 0, 9, 42, 4, 182, 0, 72, 172, 42, 17, 19, 56, 182, 0, 62]
abbrev dktX7_yard_0 : List UInt8 := dkwX7_yard_0 ++ dktX7_yard_1
theorem dksX7_yard_0 : cX7_yard.data.toList.drop 0 = dktX7_yard_0 := by decide +kernel
theorem dksX7_yard_1 : cX7_yard.data.toList.drop 24 = dktX7_yard_1 := dk_seg dksX7_yard_0 24 rfl rfl
theorem dksX7_yard_2 : cX7_yard.data.toList.drop 46 = dktX7_yard_2 := dk_seg dksX7_yard_1 22 rfl rfl
theorem dksX7_yard_3 : cX7_yard.data.toList.drop 70 = dktX7_yard_3 := dk_seg dksX7_yard_2 24 rfl rfl
theorem dksX7_yard_4 : cX7_yard.data.toList.drop 92 = dktX7_yard_4 := dk_seg dksX7_yard_3 22 rfl rfl
theorem dksX7_yard_5 : cX7_yard.data.toList.drop 114 = dktX7_yard_5 := dk_seg dksX7_yard_4 22 rfl rfl
theorem dX7_yard_0 : decode cX7_yard 0 = .ok (.aload_n 0, 1) := dk_42 (dk_at dksX7_yard_0 0 rfl rfl)
theorem dX7_yard_1 : decode cX7_yard 1 = .ok (.iload_n 1, 1) := dk_27 (dk_at dksX7_yard_0 1 rfl rfl)
theorem dX7_yard_2 : decode cX7_yard 2 = .ok (.sipush 900, 3) := dk_17 3 132 (dk_at dksX7_yard_0 2 rfl rfl)
theorem dX7_yard_5 : decode cX7_yard 5 = .ok (.invokevirtual 207, 3) := dk_182 0 207 (dk_at dksX7_yard_0 5 rfl rfl)
theorem dX7_yard_8 : decode cX7_yard 8 = .ok (.ifCond .ne 9, 3) := dk_154 0 9 (dk_at dksX7_yard_0 8 rfl rfl)
theorem dX7_yard_11 : decode cX7_yard 11 = .ok (.aload_n 0, 1) := dk_42 (dk_at dksX7_yard_0 11 rfl rfl)
theorem dX7_yard_12 : decode cX7_yard 12 = .ok (.iconst 1, 1) := dk_4 (dk_at dksX7_yard_0 12 rfl rfl)
theorem dX7_yard_13 : decode cX7_yard 13 = .ok (.invokevirtual 72, 3) := dk_182 0 72 (dk_at dksX7_yard_0 13 rfl rfl)
theorem dX7_yard_16 : decode cX7_yard 16 = .ok (.ireturn, 1) := dk_172 (dk_at dksX7_yard_0 16 rfl rfl)
theorem dX7_yard_17 : decode cX7_yard 17 = .ok (.aload_n 0, 1) := dk_42 (dk_at dksX7_yard_0 17 rfl rfl)
theorem dX7_yard_18 : decode cX7_yard 18 = .ok (.sipush 4920, 3) := dk_17 19 56 (dk_at dksX7_yard_0 18 rfl rfl)
theorem dX7_yard_21 : decode cX7_yard 21 = .ok (.invokevirtual 62, 3) := dk_182 0 62 (dk_at dksX7_yard_0 21 rfl rfl)
theorem dX7_yard_24 : decode cX7_yard 24 = .ok (.iconst 1, 1) := dk_4 (dk_at dksX7_yard_1 0 rfl rfl)
theorem dX7_yard_25 : decode cX7_yard 25 = .ok (.istore_n 2, 1) := dk_61 (dk_at dksX7_yard_1 1 rfl rfl)
theorem dX7_yard_26 : decode cX7_yard 26 = .ok (.iload_n 2, 1) := dk_28 (dk_at dksX7_yard_1 2 rfl rfl)
theorem dX7_yard_27 : decode cX7_yard 27 = .ok (.ifCond .eq 18, 3) := dk_153 0 18 (dk_at dksX7_yard_1 3 rfl rfl)
theorem dX7_yard_30 : decode cX7_yard 30 = .ok (.aload_n 0, 1) := dk_42 (dk_at dksX7_yard_1 6 rfl rfl)
theorem dX7_yard_31 : decode cX7_yard 31 = .ok (.getfield 117, 3) := dk_180 0 117 (dk_at dksX7_yard_1 7 rfl rfl)
theorem dX7_yard_34 : decode cX7_yard 34 = .ok (.ifCond .eq 11, 3) := dk_153 0 11 (dk_at dksX7_yard_1 10 rfl rfl)
theorem dX7_yard_37 : decode cX7_yard 37 = .ok (.aload_n 0, 1) := dk_42 (dk_at dksX7_yard_1 13 rfl rfl)
theorem dX7_yard_38 : decode cX7_yard 38 = .ok (.invokevirtual 211, 3) := dk_182 0 211 (dk_at dksX7_yard_1 14 rfl rfl)
theorem dX7_yard_41 : decode cX7_yard 41 = .ok (.istore_n 2, 1) := dk_61 (dk_at dksX7_yard_1 17 rfl rfl)
theorem dX7_yard_42 : decode cX7_yard 42 = .ok (.goto (-16), 3) := dk_167 255 240 (dk_at dksX7_yard_1 18 rfl rfl)
theorem dX7_yard_45 : decode cX7_yard 45 = .ok (.aload_n 0, 1) := dk_42 (dk_at dksX7_yard_1 21 rfl rfl)
theorem dX7_yard_46 : decode cX7_yard 46 = .ok (.getfield 142, 3) := dk_180 0 142 (dk_at dksX7_yard_2 0 rfl rfl)
theorem dX7_yard_49 : decode cX7_yard 49 = .ok (.ifCond .ne 63, 3) := dk_154 0 63 (dk_at dksX7_yard_2 3 rfl rfl)
theorem dX7_yard_52 : decode cX7_yard 52 = .ok (.iconst 0, 1) := dk_3 (dk_at dksX7_yard_2 6 rfl rfl)
theorem dX7_yard_53 : decode cX7_yard 53 = .ok (.istore_n 3, 1) := dk_62 (dk_at dksX7_yard_2 7 rfl rfl)
theorem dX7_yard_54 : decode cX7_yard 54 = .ok (.iload_n 3, 1) := dk_29 (dk_at dksX7_yard_2 8 rfl rfl)
theorem dX7_yard_55 : decode cX7_yard 55 = .ok (.sipush 1230, 3) := dk_17 4 206 (dk_at dksX7_yard_2 9 rfl rfl)
theorem dX7_yard_58 : decode cX7_yard 58 = .ok (.if_icmp .ge 25, 3) := dk_162 0 25 (dk_at dksX7_yard_2 12 rfl rfl)
theorem dX7_yard_61 : decode cX7_yard 61 = .ok (.aload_n 0, 1) := dk_42 (dk_at dksX7_yard_2 15 rfl rfl)
theorem dX7_yard_62 : decode cX7_yard 62 = .ok (.getfield 7, 3) := dk_180 0 7 (dk_at dksX7_yard_2 16 rfl rfl)
theorem dX7_yard_65 : decode cX7_yard 65 = .ok (.iload_n 3, 1) := dk_29 (dk_at dksX7_yard_2 19 rfl rfl)
theorem dX7_yard_66 : decode cX7_yard 66 = .ok (.aload_n 0, 1) := dk_42 (dk_at dksX7_yard_2 20 rfl rfl)
theorem dX7_yard_67 : decode cX7_yard 67 = .ok (.getfield 7, 3) := dk_180 0 7 (dk_at dksX7_yard_2 21 rfl rfl)
theorem dX7_yard_70 : decode cX7_yard 70 = .ok (.sipush 4920, 3) := dk_17 19 56 (dk_at dksX7_yard_3 0 rfl rfl)
theorem dX7_yard_73 : decode cX7_yard 73 = .ok (.iload_n 3, 1) := dk_29 (dk_at dksX7_yard_3 3 rfl rfl)
theorem dX7_yard_74 : decode cX7_yard 74 = .ok (.iadd, 1) := dk_96 (dk_at dksX7_yard_3 4 rfl rfl)
theorem dX7_yard_75 : decode cX7_yard 75 = .ok (.iaload, 1) := dk_46 (dk_at dksX7_yard_3 5 rfl rfl)
theorem dX7_yard_76 : decode cX7_yard 76 = .ok (.iastore, 1) := dk_79 (dk_at dksX7_yard_3 6 rfl rfl)
theorem dX7_yard_77 : decode cX7_yard 77 = .ok (.iinc 3 1, 3) := dk_132 3 1 (dk_at dksX7_yard_3 7 rfl rfl)
theorem dX7_yard_80 : decode cX7_yard 80 = .ok (.goto (-26), 3) := dk_167 255 230 (dk_at dksX7_yard_3 10 rfl rfl)
theorem dX7_yard_83 : decode cX7_yard 83 = .ok (.iconst 0, 1) := dk_3 (dk_at dksX7_yard_3 13 rfl rfl)
theorem dX7_yard_84 : decode cX7_yard 84 = .ok (.istore_n 3, 1) := dk_62 (dk_at dksX7_yard_3 14 rfl rfl)
theorem dX7_yard_85 : decode cX7_yard 85 = .ok (.iload_n 3, 1) := dk_29 (dk_at dksX7_yard_3 15 rfl rfl)
theorem dX7_yard_86 : decode cX7_yard 86 = .ok (.bipush 20, 2) := dk_16 20 (dk_at dksX7_yard_3 16 rfl rfl)
theorem dX7_yard_88 : decode cX7_yard 88 = .ok (.if_icmp .ge 24, 3) := dk_162 0 24 (dk_at dksX7_yard_3 18 rfl rfl)
theorem dX7_yard_91 : decode cX7_yard 91 = .ok (.aload_n 0, 1) := dk_42 (dk_at dksX7_yard_3 21 rfl rfl)
theorem dX7_yard_92 : decode cX7_yard 92 = .ok (.getfield 13, 3) := dk_180 0 13 (dk_at dksX7_yard_4 0 rfl rfl)
theorem dX7_yard_95 : decode cX7_yard 95 = .ok (.iload_n 3, 1) := dk_29 (dk_at dksX7_yard_4 3 rfl rfl)
theorem dX7_yard_96 : decode cX7_yard 96 = .ok (.aload_n 0, 1) := dk_42 (dk_at dksX7_yard_4 4 rfl rfl)
theorem dX7_yard_97 : decode cX7_yard 97 = .ok (.getfield 13, 3) := dk_180 0 13 (dk_at dksX7_yard_4 5 rfl rfl)
theorem dX7_yard_100 : decode cX7_yard 100 = .ok (.bipush 80, 2) := dk_16 80 (dk_at dksX7_yard_4 8 rfl rfl)
theorem dX7_yard_102 : decode cX7_yard 102 = .ok (.iload_n 3, 1) := dk_29 (dk_at dksX7_yard_4 10 rfl rfl)
theorem dX7_yard_103 : decode cX7_yard 103 = .ok (.iadd, 1) := dk_96 (dk_at dksX7_yard_4 11 rfl rfl)
theorem dX7_yard_104 : decode cX7_yard 104 = .ok (.laload, 1) := dk_47 (dk_at dksX7_yard_4 12 rfl rfl)
theorem dX7_yard_105 : decode cX7_yard 105 = .ok (.lastore, 1) := dk_80 (dk_at dksX7_yard_4 13 rfl rfl)
theorem dX7_yard_106 : decode cX7_yard 106 = .ok (.iinc 3 1, 3) := dk_132 3 1 (dk_at dksX7_yard_4 14 rfl rfl)
theorem dX7_yard_109 : decode cX7_yard 109 = .ok (.goto (-24), 3) := dk_167 255 232 (dk_at dksX7_yard_4 17 rfl rfl)
theorem dX7_yard_112 : decode cX7_yard 112 = .ok (.aload_n 0, 1) := dk_42 (dk_at dksX7_yard_4 20 rfl rfl)
theorem dX7_yard_113 : decode cX7_yard 113 = .ok (.aload_n 0, 1) := dk_42 (dk_at dksX7_yard_4 21 rfl rfl)
theorem dX7_yard_114 : decode cX7_yard 114 = .ok (.getfield 7, 3) := dk_180 0 7 (dk_at dksX7_yard_5 0 rfl rfl)
theorem dX7_yard_117 : decode cX7_yard 117 = .ok (.iconst 0, 1) := dk_3 (dk_at dksX7_yard_5 3 rfl rfl)
theorem dX7_yard_118 : decode cX7_yard 118 = .ok (.iaload, 1) := dk_46 (dk_at dksX7_yard_5 4 rfl rfl)
theorem dX7_yard_119 : decode cX7_yard 119 = .ok (.invokevirtual 214, 3) := dk_182 0 214 (dk_at dksX7_yard_5 5 rfl rfl)
theorem dX7_yard_122 : decode cX7_yard 122 = .ok (.ireturn, 1) := dk_172 (dk_at dksX7_yard_5 8 rfl rfl)
def dkwX7_begins_3 : List UInt8 := [3, 181, 0, 145, 42, 182, 0, 148, 4, 172]
abbrev dktX7_begins_3 : List UInt8 := dkwX7_begins_3 ++ []
def dkwX7_begins_2 : List UInt8 := [167, 255, 236, 42, 3, 181, 0, 96, 42, 3, 181, 0, 142, 42, 2, 181, 0, 41, 42, 3, 181, 0, 105, 42]
abbrev dktX7_begins_2 : List UInt8 := dkwX7_begins_2 ++ dktX7_begins_3
def dkwX7_begins_1 : List UInt8 := [3, 62, 29, 27, 162, 0, 21, 42, 180, 0, 34, 29, 42, 180, 0, 30, 29, 51, 84, 132, 3, 1]
abbrev dktX7_begins_1 : List UInt8 := dkwX7_begins_1 ++ dktX7_begins_2
def dkwX7_begins_0 : List UInt8 := [27, 155, 0, 16, 27, 42, 180, 0, 96, 163, 0, 8, 27, 28, 164, 0, 5, 3, 172, 42, 27, 181, 0, 102]
abbrev dktX7_begins_0 : List UInt8 := dkwX7_begins_0 ++ dktX7_begins_1
theorem dksX7_begins_0 : cX7_begins.data.toList.drop 0 = dktX7_begins_0 := by decide +kernel
theorem dksX7_begins_1 : cX7_begins.data.toList.drop 24 = dktX7_begins_1 := dk_seg dksX7_begins_0 24 rfl rfl
theorem dksX7_begins_2 : cX7_begins.data.toList.drop 46 = dktX7_begins_2 := dk_seg dksX7_begins_1 22 rfl rfl
theorem dksX7_begins_3 : cX7_begins.data.toList.drop 70 = dktX7_begins_3 := dk_seg dksX7_begins_2 24 rfl rfl
theorem dX7_begins_0 : decode cX7_begins 0 = .ok (.iload_n 1, 1) := dk_27 (dk_at dksX7_begins_0 0 rfl rfl)
theorem dX7_begins_1 : decode cX7_begins 1 = .ok (.ifCond .lt 16, 3) := dk_155 0 16 (dk_at dksX7_begins_0 1 rfl rfl)
theorem dX7_begins_4 : decode cX7_begins 4 = .ok (.iload_n 1, 1) := dk_27 (dk_at dksX7_begins_0 4 rfl rfl)
theorem dX7_begins_5 : decode cX7_begins 5 = .ok (.aload_n 0, 1) := dk_42 (dk_at dksX7_begins_0 5 rfl rfl)
theorem dX7_begins_6 : decode cX7_begins 6 = .ok (.getfield 96, 3) := dk_180 0 96 (dk_at dksX7_begins_0 6 rfl rfl)
theorem dX7_begins_9 : decode cX7_begins 9 = .ok (.if_icmp .gt 8, 3) := dk_163 0 8 (dk_at dksX7_begins_0 9 rfl rfl)
theorem dX7_begins_12 : decode cX7_begins 12 = .ok (.iload_n 1, 1) := dk_27 (dk_at dksX7_begins_0 12 rfl rfl)
theorem dX7_begins_13 : decode cX7_begins 13 = .ok (.iload_n 2, 1) := dk_28 (dk_at dksX7_begins_0 13 rfl rfl)
theorem dX7_begins_14 : decode cX7_begins 14 = .ok (.if_icmp .le 5, 3) := dk_164 0 5 (dk_at dksX7_begins_0 14 rfl rfl)
theorem dX7_begins_17 : decode cX7_begins 17 = .ok (.iconst 0, 1) := dk_3 (dk_at dksX7_begins_0 17 rfl rfl)
theorem dX7_begins_18 : decode cX7_begins 18 = .ok (.ireturn, 1) := dk_172 (dk_at dksX7_begins_0 18 rfl rfl)
theorem dX7_begins_19 : decode cX7_begins 19 = .ok (.aload_n 0, 1) := dk_42 (dk_at dksX7_begins_0 19 rfl rfl)
theorem dX7_begins_20 : decode cX7_begins 20 = .ok (.iload_n 1, 1) := dk_27 (dk_at dksX7_begins_0 20 rfl rfl)
theorem dX7_begins_21 : decode cX7_begins 21 = .ok (.putfield 102, 3) := dk_181 0 102 (dk_at dksX7_begins_0 21 rfl rfl)
theorem dX7_begins_24 : decode cX7_begins 24 = .ok (.iconst 0, 1) := dk_3 (dk_at dksX7_begins_1 0 rfl rfl)
theorem dX7_begins_25 : decode cX7_begins 25 = .ok (.istore_n 3, 1) := dk_62 (dk_at dksX7_begins_1 1 rfl rfl)
theorem dX7_begins_26 : decode cX7_begins 26 = .ok (.iload_n 3, 1) := dk_29 (dk_at dksX7_begins_1 2 rfl rfl)
theorem dX7_begins_27 : decode cX7_begins 27 = .ok (.iload_n 1, 1) := dk_27 (dk_at dksX7_begins_1 3 rfl rfl)
theorem dX7_begins_28 : decode cX7_begins 28 = .ok (.if_icmp .ge 21, 3) := dk_162 0 21 (dk_at dksX7_begins_1 4 rfl rfl)
theorem dX7_begins_31 : decode cX7_begins 31 = .ok (.aload_n 0, 1) := dk_42 (dk_at dksX7_begins_1 7 rfl rfl)
theorem dX7_begins_32 : decode cX7_begins 32 = .ok (.getfield 34, 3) := dk_180 0 34 (dk_at dksX7_begins_1 8 rfl rfl)
theorem dX7_begins_35 : decode cX7_begins 35 = .ok (.iload_n 3, 1) := dk_29 (dk_at dksX7_begins_1 11 rfl rfl)
theorem dX7_begins_36 : decode cX7_begins 36 = .ok (.aload_n 0, 1) := dk_42 (dk_at dksX7_begins_1 12 rfl rfl)
theorem dX7_begins_37 : decode cX7_begins 37 = .ok (.getfield 30, 3) := dk_180 0 30 (dk_at dksX7_begins_1 13 rfl rfl)
theorem dX7_begins_40 : decode cX7_begins 40 = .ok (.iload_n 3, 1) := dk_29 (dk_at dksX7_begins_1 16 rfl rfl)
theorem dX7_begins_41 : decode cX7_begins 41 = .ok (.baload, 1) := dk_51 (dk_at dksX7_begins_1 17 rfl rfl)
theorem dX7_begins_42 : decode cX7_begins 42 = .ok (.bastore, 1) := dk_84 (dk_at dksX7_begins_1 18 rfl rfl)
theorem dX7_begins_43 : decode cX7_begins 43 = .ok (.iinc 3 1, 3) := dk_132 3 1 (dk_at dksX7_begins_1 19 rfl rfl)
theorem dX7_begins_46 : decode cX7_begins 46 = .ok (.goto (-20), 3) := dk_167 255 236 (dk_at dksX7_begins_2 0 rfl rfl)
theorem dX7_begins_49 : decode cX7_begins 49 = .ok (.aload_n 0, 1) := dk_42 (dk_at dksX7_begins_2 3 rfl rfl)
theorem dX7_begins_50 : decode cX7_begins 50 = .ok (.iconst 0, 1) := dk_3 (dk_at dksX7_begins_2 4 rfl rfl)
theorem dX7_begins_51 : decode cX7_begins 51 = .ok (.putfield 96, 3) := dk_181 0 96 (dk_at dksX7_begins_2 5 rfl rfl)
theorem dX7_begins_54 : decode cX7_begins 54 = .ok (.aload_n 0, 1) := dk_42 (dk_at dksX7_begins_2 8 rfl rfl)
theorem dX7_begins_55 : decode cX7_begins 55 = .ok (.iconst 0, 1) := dk_3 (dk_at dksX7_begins_2 9 rfl rfl)
theorem dX7_begins_56 : decode cX7_begins 56 = .ok (.putfield 142, 3) := dk_181 0 142 (dk_at dksX7_begins_2 10 rfl rfl)
theorem dX7_begins_59 : decode cX7_begins 59 = .ok (.aload_n 0, 1) := dk_42 (dk_at dksX7_begins_2 13 rfl rfl)
theorem dX7_begins_60 : decode cX7_begins 60 = .ok (.iconst (-1), 1) := dk_2 (dk_at dksX7_begins_2 14 rfl rfl)
theorem dX7_begins_61 : decode cX7_begins 61 = .ok (.putfield 41, 3) := dk_181 0 41 (dk_at dksX7_begins_2 15 rfl rfl)
theorem dX7_begins_64 : decode cX7_begins 64 = .ok (.aload_n 0, 1) := dk_42 (dk_at dksX7_begins_2 18 rfl rfl)
theorem dX7_begins_65 : decode cX7_begins 65 = .ok (.iconst 0, 1) := dk_3 (dk_at dksX7_begins_2 19 rfl rfl)
theorem dX7_begins_66 : decode cX7_begins 66 = .ok (.putfield 105, 3) := dk_181 0 105 (dk_at dksX7_begins_2 20 rfl rfl)
theorem dX7_begins_69 : decode cX7_begins 69 = .ok (.aload_n 0, 1) := dk_42 (dk_at dksX7_begins_2 23 rfl rfl)
theorem dX7_begins_70 : decode cX7_begins 70 = .ok (.iconst 0, 1) := dk_3 (dk_at dksX7_begins_3 0 rfl rfl)
theorem dX7_begins_71 : decode cX7_begins 71 = .ok (.putfield 145, 3) := dk_181 0 145 (dk_at dksX7_begins_3 1 rfl rfl)
theorem dX7_begins_74 : decode cX7_begins 74 = .ok (.aload_n 0, 1) := dk_42 (dk_at dksX7_begins_3 4 rfl rfl)
theorem dX7_begins_75 : decode cX7_begins 75 = .ok (.invokevirtual 148, 3) := dk_182 0 148 (dk_at dksX7_begins_3 5 rfl rfl)
theorem dX7_begins_78 : decode cX7_begins 78 = .ok (.iconst 1, 1) := dk_4 (dk_at dksX7_begins_3 8 rfl rfl)
theorem dX7_begins_79 : decode cX7_begins 79 = .ok (.ireturn, 1) := dk_172 (dk_at dksX7_begins_3 9 rfl rfl)
def dkwX7_ahead_10 : List UInt8 := [16, 62, 159, 0, 9, 27, 16, 61, 160, 0, 7, 7, 167, 0, 4, 4, 181, 0, 117, 177]
abbrev dktX7_ahead_10 : List UInt8 := dkwX7_ahead_10 ++ []
def dkwX7_ahead_9 : List UInt8 := [89, 180, 0, 105, 4, 96, 181, 0, 105, 42, 27, 16, 59, 159, 0, 21, 27, 16, 60, 159, 0, 15, 27]
abbrev dktX7_ahead_9 : List UInt8 := dkwX7_ahead_9 ++ dktX7_ahead_10
def dkwX7_ahead_8 : List UInt8 := [180, 0, 105, 42, 180, 0, 111, 100, 7, 164, 0, 7, 4, 167, 0, 4, 6, 181, 0, 117, 167, 0, 46, 42]
abbrev dktX7_ahead_8 : List UInt8 := dkwX7_ahead_8 ++ dktX7_ahead_9
def dkwX7_ahead_7 : List UInt8 := [100, 184, 0, 127, 181, 0, 114, 42, 89, 180, 0, 105, 4, 96, 181, 0, 105, 167, 255, 204, 42, 42]
abbrev dktX7_ahead_7 : List UInt8 := dkwX7_ahead_7 ++ dktX7_ahead_8
def dkwX7_ahead_6 : List UInt8 := [153, 0, 44, 42, 18, 126, 16, 10, 42, 180, 0, 114, 104, 42, 42, 180, 0, 105, 182, 0, 108, 96, 16, 48]
abbrev dktX7_ahead_6 : List UInt8 := dkwX7_ahead_6 ++ dktX7_ahead_7
def dkwX7_ahead_5 : List UInt8 := [184, 0, 123, 153, 0, 88, 42, 3, 181, 0, 114, 42, 42, 180, 0, 105, 182, 0, 108, 184, 0, 123]
abbrev dktX7_ahead_5 : List UInt8 := dkwX7_ahead_5 ++ dktX7_ahead_6
def dkwX7_ahead_4 : List UInt8 := [42, 89, 180, 0, 105, 4, 96, 181, 0, 105, 167, 255, 232, 42, 5, 181, 0, 117, 167, 0, 138, 27]
abbrev dktX7_ahead_4 : List UInt8 := dkwX7_ahead_4 ++ dktX7_ahead_5
def dkwX7_ahead_3 : List UInt8 := [167, 0, 180, 27, 184, 0, 120, 153, 0, 38, 42, 42, 180, 0, 105, 182, 0, 108, 184, 0, 120, 153, 0, 16]
abbrev dktX7_ahead_3 : List UInt8 := dkwX7_ahead_3 ++ dktX7_ahead_4
def dkwX7_ahead_2 : List UInt8 := [42, 42, 180, 0, 105, 182, 0, 108, 60, 42, 27, 181, 0, 114, 27, 2, 160, 0, 11, 42, 3, 181, 0, 117]
abbrev dktX7_ahead_2 : List UInt8 := dkwX7_ahead_2 ++ dktX7_ahead_3
def dkwX7_ahead_1 : List UInt8 := [160, 0, 16, 42, 89, 180, 0, 105, 4, 96, 181, 0, 105, 167, 255, 220, 42, 42, 180, 0, 105, 181, 0, 111]
abbrev dktX7_ahead_1 : List UInt8 := dkwX7_ahead_1 ++ dktX7_ahead_2
def dkwX7_ahead_0 : List UInt8 := [42, 42, 180, 0, 105, 182, 0, 108, 16, 32, 159, 0, 16, 42, 42, 180, 0, 105, 182, 0, 108, 16, 10]
abbrev dktX7_ahead_0 : List UInt8 := dkwX7_ahead_0 ++ dktX7_ahead_1
theorem dksX7_ahead_0 : cX7_ahead.data.toList.drop 0 = dktX7_ahead_0 := by decide +kernel
theorem dksX7_ahead_1 : cX7_ahead.data.toList.drop 23 = dktX7_ahead_1 := dk_seg dksX7_ahead_0 23 rfl rfl
theorem dksX7_ahead_2 : cX7_ahead.data.toList.drop 47 = dktX7_ahead_2 := dk_seg dksX7_ahead_1 24 rfl rfl
theorem dksX7_ahead_3 : cX7_ahead.data.toList.drop 71 = dktX7_ahead_3 := dk_seg dksX7_ahead_2 24 rfl rfl
theorem dksX7_ahead_4 : cX7_ahead.data.toList.drop 95 = dktX7_ahead_4 := dk_seg dksX7_ahead_3 24 rfl rfl
theorem dksX7_ahead_5 : cX7_ahead.data.toList.drop 117 = dktX7_ahead_5 := dk_seg dksX7_ahead_4 22 rfl rfl
theorem dksX7_ahead_6 : cX7_ahead.data.toList.drop 139 = dktX7_ahead_6 := dk_seg dksX7_ahead_5 22 rfl rfl
theorem dksX7_ahead_7 : cX7_ahead.data.toList.drop 163 = dktX7_ahead_7 := dk_seg dksX7_ahead_6 24 rfl rfl
theorem dksX7_ahead_8 : cX7_ahead.data.toList.drop 185 = dktX7_ahead_8 := dk_seg dksX7_ahead_7 22 rfl rfl
theorem dksX7_ahead_9 : cX7_ahead.data.toList.drop 209 = dktX7_ahead_9 := dk_seg dksX7_ahead_8 24 rfl rfl
theorem dksX7_ahead_10 : cX7_ahead.data.toList.drop 232 = dktX7_ahead_10 := dk_seg dksX7_ahead_9 23 rfl rfl
theorem dX7_ahead_0 : decode cX7_ahead 0 = .ok (.aload_n 0, 1) := dk_42 (dk_at dksX7_ahead_0 0 rfl rfl)
theorem dX7_ahead_1 : decode cX7_ahead 1 = .ok (.aload_n 0, 1) := dk_42 (dk_at dksX7_ahead_0 1 rfl rfl)
theorem dX7_ahead_2 : decode cX7_ahead 2 = .ok (.getfield 105, 3) := dk_180 0 105 (dk_at dksX7_ahead_0 2 rfl rfl)
theorem dX7_ahead_5 : decode cX7_ahead 5 = .ok (.invokevirtual 108, 3) := dk_182 0 108 (dk_at dksX7_ahead_0 5 rfl rfl)
theorem dX7_ahead_8 : decode cX7_ahead 8 = .ok (.bipush 32, 2) := dk_16 32 (dk_at dksX7_ahead_0 8 rfl rfl)
theorem dX7_ahead_10 : decode cX7_ahead 10 = .ok (.if_icmp .eq 16, 3) := dk_159 0 16 (dk_at dksX7_ahead_0 10 rfl rfl)
theorem dX7_ahead_13 : decode cX7_ahead 13 = .ok (.aload_n 0, 1) := dk_42 (dk_at dksX7_ahead_0 13 rfl rfl)
theorem dX7_ahead_14 : decode cX7_ahead 14 = .ok (.aload_n 0, 1) := dk_42 (dk_at dksX7_ahead_0 14 rfl rfl)
theorem dX7_ahead_15 : decode cX7_ahead 15 = .ok (.getfield 105, 3) := dk_180 0 105 (dk_at dksX7_ahead_0 15 rfl rfl)
theorem dX7_ahead_18 : decode cX7_ahead 18 = .ok (.invokevirtual 108, 3) := dk_182 0 108 (dk_at dksX7_ahead_0 18 rfl rfl)
theorem dX7_ahead_21 : decode cX7_ahead 21 = .ok (.bipush 10, 2) := dk_16 10 (dk_at dksX7_ahead_0 21 rfl rfl)
theorem dX7_ahead_23 : decode cX7_ahead 23 = .ok (.if_icmp .ne 16, 3) := dk_160 0 16 (dk_at dksX7_ahead_1 0 rfl rfl)
theorem dX7_ahead_26 : decode cX7_ahead 26 = .ok (.aload_n 0, 1) := dk_42 (dk_at dksX7_ahead_1 3 rfl rfl)
theorem dX7_ahead_27 : decode cX7_ahead 27 = .ok (.dup, 1) := dk_89 (dk_at dksX7_ahead_1 4 rfl rfl)
theorem dX7_ahead_28 : decode cX7_ahead 28 = .ok (.getfield 105, 3) := dk_180 0 105 (dk_at dksX7_ahead_1 5 rfl rfl)
theorem dX7_ahead_31 : decode cX7_ahead 31 = .ok (.iconst 1, 1) := dk_4 (dk_at dksX7_ahead_1 8 rfl rfl)
theorem dX7_ahead_32 : decode cX7_ahead 32 = .ok (.iadd, 1) := dk_96 (dk_at dksX7_ahead_1 9 rfl rfl)
theorem dX7_ahead_33 : decode cX7_ahead 33 = .ok (.putfield 105, 3) := dk_181 0 105 (dk_at dksX7_ahead_1 10 rfl rfl)
theorem dX7_ahead_36 : decode cX7_ahead 36 = .ok (.goto (-36), 3) := dk_167 255 220 (dk_at dksX7_ahead_1 13 rfl rfl)
theorem dX7_ahead_39 : decode cX7_ahead 39 = .ok (.aload_n 0, 1) := dk_42 (dk_at dksX7_ahead_1 16 rfl rfl)
theorem dX7_ahead_40 : decode cX7_ahead 40 = .ok (.aload_n 0, 1) := dk_42 (dk_at dksX7_ahead_1 17 rfl rfl)
theorem dX7_ahead_41 : decode cX7_ahead 41 = .ok (.getfield 105, 3) := dk_180 0 105 (dk_at dksX7_ahead_1 18 rfl rfl)
theorem dX7_ahead_44 : decode cX7_ahead 44 = .ok (.putfield 111, 3) := dk_181 0 111 (dk_at dksX7_ahead_1 21 rfl rfl)
theorem dX7_ahead_47 : decode cX7_ahead 47 = .ok (.aload_n 0, 1) := dk_42 (dk_at dksX7_ahead_2 0 rfl rfl)
theorem dX7_ahead_48 : decode cX7_ahead 48 = .ok (.aload_n 0, 1) := dk_42 (dk_at dksX7_ahead_2 1 rfl rfl)
theorem dX7_ahead_49 : decode cX7_ahead 49 = .ok (.getfield 105, 3) := dk_180 0 105 (dk_at dksX7_ahead_2 2 rfl rfl)
theorem dX7_ahead_52 : decode cX7_ahead 52 = .ok (.invokevirtual 108, 3) := dk_182 0 108 (dk_at dksX7_ahead_2 5 rfl rfl)
theorem dX7_ahead_55 : decode cX7_ahead 55 = .ok (.istore_n 1, 1) := dk_60 (dk_at dksX7_ahead_2 8 rfl rfl)
theorem dX7_ahead_56 : decode cX7_ahead 56 = .ok (.aload_n 0, 1) := dk_42 (dk_at dksX7_ahead_2 9 rfl rfl)
theorem dX7_ahead_57 : decode cX7_ahead 57 = .ok (.iload_n 1, 1) := dk_27 (dk_at dksX7_ahead_2 10 rfl rfl)
theorem dX7_ahead_58 : decode cX7_ahead 58 = .ok (.putfield 114, 3) := dk_181 0 114 (dk_at dksX7_ahead_2 11 rfl rfl)
theorem dX7_ahead_61 : decode cX7_ahead 61 = .ok (.iload_n 1, 1) := dk_27 (dk_at dksX7_ahead_2 14 rfl rfl)
theorem dX7_ahead_62 : decode cX7_ahead 62 = .ok (.iconst (-1), 1) := dk_2 (dk_at dksX7_ahead_2 15 rfl rfl)
theorem dX7_ahead_63 : decode cX7_ahead 63 = .ok (.if_icmp .ne 11, 3) := dk_160 0 11 (dk_at dksX7_ahead_2 16 rfl rfl)
theorem dX7_ahead_66 : decode cX7_ahead 66 = .ok (.aload_n 0, 1) := dk_42 (dk_at dksX7_ahead_2 19 rfl rfl)
theorem dX7_ahead_67 : decode cX7_ahead 67 = .ok (.iconst 0, 1) := dk_3 (dk_at dksX7_ahead_2 20 rfl rfl)
theorem dX7_ahead_68 : decode cX7_ahead 68 = .ok (.putfield 117, 3) := dk_181 0 117 (dk_at dksX7_ahead_2 21 rfl rfl)
theorem dX7_ahead_71 : decode cX7_ahead 71 = .ok (.goto 180, 3) := dk_167 0 180 (dk_at dksX7_ahead_3 0 rfl rfl)
theorem dX7_ahead_74 : decode cX7_ahead 74 = .ok (.iload_n 1, 1) := dk_27 (dk_at dksX7_ahead_3 3 rfl rfl)
theorem dX7_ahead_75 : decode cX7_ahead 75 = .ok (.invokestatic 120, 3) := dk_184 0 120 (dk_at dksX7_ahead_3 4 rfl rfl)
theorem dX7_ahead_78 : decode cX7_ahead 78 = .ok (.ifCond .eq 38, 3) := dk_153 0 38 (dk_at dksX7_ahead_3 7 rfl rfl)
theorem dX7_ahead_81 : decode cX7_ahead 81 = .ok (.aload_n 0, 1) := dk_42 (dk_at dksX7_ahead_3 10 rfl rfl)
theorem dX7_ahead_82 : decode cX7_ahead 82 = .ok (.aload_n 0, 1) := dk_42 (dk_at dksX7_ahead_3 11 rfl rfl)
theorem dX7_ahead_83 : decode cX7_ahead 83 = .ok (.getfield 105, 3) := dk_180 0 105 (dk_at dksX7_ahead_3 12 rfl rfl)
theorem dX7_ahead_86 : decode cX7_ahead 86 = .ok (.invokevirtual 108, 3) := dk_182 0 108 (dk_at dksX7_ahead_3 15 rfl rfl)
theorem dX7_ahead_89 : decode cX7_ahead 89 = .ok (.invokestatic 120, 3) := dk_184 0 120 (dk_at dksX7_ahead_3 18 rfl rfl)
theorem dX7_ahead_92 : decode cX7_ahead 92 = .ok (.ifCond .eq 16, 3) := dk_153 0 16 (dk_at dksX7_ahead_3 21 rfl rfl)
theorem dX7_ahead_95 : decode cX7_ahead 95 = .ok (.aload_n 0, 1) := dk_42 (dk_at dksX7_ahead_4 0 rfl rfl)
theorem dX7_ahead_96 : decode cX7_ahead 96 = .ok (.dup, 1) := dk_89 (dk_at dksX7_ahead_4 1 rfl rfl)
theorem dX7_ahead_97 : decode cX7_ahead 97 = .ok (.getfield 105, 3) := dk_180 0 105 (dk_at dksX7_ahead_4 2 rfl rfl)
theorem dX7_ahead_100 : decode cX7_ahead 100 = .ok (.iconst 1, 1) := dk_4 (dk_at dksX7_ahead_4 5 rfl rfl)
theorem dX7_ahead_101 : decode cX7_ahead 101 = .ok (.iadd, 1) := dk_96 (dk_at dksX7_ahead_4 6 rfl rfl)
theorem dX7_ahead_102 : decode cX7_ahead 102 = .ok (.putfield 105, 3) := dk_181 0 105 (dk_at dksX7_ahead_4 7 rfl rfl)
theorem dX7_ahead_105 : decode cX7_ahead 105 = .ok (.goto (-24), 3) := dk_167 255 232 (dk_at dksX7_ahead_4 10 rfl rfl)
theorem dX7_ahead_108 : decode cX7_ahead 108 = .ok (.aload_n 0, 1) := dk_42 (dk_at dksX7_ahead_4 13 rfl rfl)
theorem dX7_ahead_109 : decode cX7_ahead 109 = .ok (.iconst 2, 1) := dk_5 (dk_at dksX7_ahead_4 14 rfl rfl)
theorem dX7_ahead_110 : decode cX7_ahead 110 = .ok (.putfield 117, 3) := dk_181 0 117 (dk_at dksX7_ahead_4 15 rfl rfl)
theorem dX7_ahead_113 : decode cX7_ahead 113 = .ok (.goto 138, 3) := dk_167 0 138 (dk_at dksX7_ahead_4 18 rfl rfl)
theorem dX7_ahead_116 : decode cX7_ahead 116 = .ok (.iload_n 1, 1) := dk_27 (dk_at dksX7_ahead_4 21 rfl rfl)
theorem dX7_ahead_117 : decode cX7_ahead 117 = .ok (.invokestatic 123, 3) := dk_184 0 123 (dk_at dksX7_ahead_5 0 rfl rfl)
theorem dX7_ahead_120 : decode cX7_ahead 120 = .ok (.ifCond .eq 88, 3) := dk_153 0 88 (dk_at dksX7_ahead_5 3 rfl rfl)
theorem dX7_ahead_123 : decode cX7_ahead 123 = .ok (.aload_n 0, 1) := dk_42 (dk_at dksX7_ahead_5 6 rfl rfl)
theorem dX7_ahead_124 : decode cX7_ahead 124 = .ok (.iconst 0, 1) := dk_3 (dk_at dksX7_ahead_5 7 rfl rfl)
theorem dX7_ahead_125 : decode cX7_ahead 125 = .ok (.putfield 114, 3) := dk_181 0 114 (dk_at dksX7_ahead_5 8 rfl rfl)
theorem dX7_ahead_128 : decode cX7_ahead 128 = .ok (.aload_n 0, 1) := dk_42 (dk_at dksX7_ahead_5 11 rfl rfl)
theorem dX7_ahead_129 : decode cX7_ahead 129 = .ok (.aload_n 0, 1) := dk_42 (dk_at dksX7_ahead_5 12 rfl rfl)
theorem dX7_ahead_130 : decode cX7_ahead 130 = .ok (.getfield 105, 3) := dk_180 0 105 (dk_at dksX7_ahead_5 13 rfl rfl)
theorem dX7_ahead_133 : decode cX7_ahead 133 = .ok (.invokevirtual 108, 3) := dk_182 0 108 (dk_at dksX7_ahead_5 16 rfl rfl)
theorem dX7_ahead_136 : decode cX7_ahead 136 = .ok (.invokestatic 123, 3) := dk_184 0 123 (dk_at dksX7_ahead_5 19 rfl rfl)
theorem dX7_ahead_139 : decode cX7_ahead 139 = .ok (.ifCond .eq 44, 3) := dk_153 0 44 (dk_at dksX7_ahead_6 0 rfl rfl)
theorem dX7_ahead_142 : decode cX7_ahead 142 = .ok (.aload_n 0, 1) := dk_42 (dk_at dksX7_ahead_6 3 rfl rfl)
theorem dX7_ahead_143 : decode cX7_ahead 143 = .ok (.ldc 126, 2) := dk_18 126 (dk_at dksX7_ahead_6 4 rfl rfl)
theorem dX7_ahead_145 : decode cX7_ahead 145 = .ok (.bipush 10, 2) := dk_16 10 (dk_at dksX7_ahead_6 6 rfl rfl)
theorem dX7_ahead_147 : decode cX7_ahead 147 = .ok (.aload_n 0, 1) := dk_42 (dk_at dksX7_ahead_6 8 rfl rfl)
theorem dX7_ahead_148 : decode cX7_ahead 148 = .ok (.getfield 114, 3) := dk_180 0 114 (dk_at dksX7_ahead_6 9 rfl rfl)
theorem dX7_ahead_151 : decode cX7_ahead 151 = .ok (.imul, 1) := dk_104 (dk_at dksX7_ahead_6 12 rfl rfl)
theorem dX7_ahead_152 : decode cX7_ahead 152 = .ok (.aload_n 0, 1) := dk_42 (dk_at dksX7_ahead_6 13 rfl rfl)
theorem dX7_ahead_153 : decode cX7_ahead 153 = .ok (.aload_n 0, 1) := dk_42 (dk_at dksX7_ahead_6 14 rfl rfl)
theorem dX7_ahead_154 : decode cX7_ahead 154 = .ok (.getfield 105, 3) := dk_180 0 105 (dk_at dksX7_ahead_6 15 rfl rfl)
theorem dX7_ahead_157 : decode cX7_ahead 157 = .ok (.invokevirtual 108, 3) := dk_182 0 108 (dk_at dksX7_ahead_6 18 rfl rfl)
theorem dX7_ahead_160 : decode cX7_ahead 160 = .ok (.iadd, 1) := dk_96 (dk_at dksX7_ahead_6 21 rfl rfl)
theorem dX7_ahead_161 : decode cX7_ahead 161 = .ok (.bipush 48, 2) := dk_16 48 (dk_at dksX7_ahead_6 22 rfl rfl)
theorem dX7_ahead_163 : decode cX7_ahead 163 = .ok (.isub, 1) := dk_100 (dk_at dksX7_ahead_7 0 rfl rfl)
theorem dX7_ahead_164 : decode cX7_ahead 164 = .ok (.invokestatic 127, 3) := dk_184 0 127 (dk_at dksX7_ahead_7 1 rfl rfl)
theorem dX7_ahead_167 : decode cX7_ahead 167 = .ok (.putfield 114, 3) := dk_181 0 114 (dk_at dksX7_ahead_7 4 rfl rfl)
theorem dX7_ahead_170 : decode cX7_ahead 170 = .ok (.aload_n 0, 1) := dk_42 (dk_at dksX7_ahead_7 7 rfl rfl)
theorem dX7_ahead_171 : decode cX7_ahead 171 = .ok (.dup, 1) := dk_89 (dk_at dksX7_ahead_7 8 rfl rfl)
theorem dX7_ahead_172 : decode cX7_ahead 172 = .ok (.getfield 105, 3) := dk_180 0 105 (dk_at dksX7_ahead_7 9 rfl rfl)
theorem dX7_ahead_175 : decode cX7_ahead 175 = .ok (.iconst 1, 1) := dk_4 (dk_at dksX7_ahead_7 12 rfl rfl)
theorem dX7_ahead_176 : decode cX7_ahead 176 = .ok (.iadd, 1) := dk_96 (dk_at dksX7_ahead_7 13 rfl rfl)
theorem dX7_ahead_177 : decode cX7_ahead 177 = .ok (.putfield 105, 3) := dk_181 0 105 (dk_at dksX7_ahead_7 14 rfl rfl)
theorem dX7_ahead_180 : decode cX7_ahead 180 = .ok (.goto (-52), 3) := dk_167 255 204 (dk_at dksX7_ahead_7 17 rfl rfl)
theorem dX7_ahead_183 : decode cX7_ahead 183 = .ok (.aload_n 0, 1) := dk_42 (dk_at dksX7_ahead_7 20 rfl rfl)
theorem dX7_ahead_184 : decode cX7_ahead 184 = .ok (.aload_n 0, 1) := dk_42 (dk_at dksX7_ahead_7 21 rfl rfl)
theorem dX7_ahead_185 : decode cX7_ahead 185 = .ok (.getfield 105, 3) := dk_180 0 105 (dk_at dksX7_ahead_8 0 rfl rfl)
theorem dX7_ahead_188 : decode cX7_ahead 188 = .ok (.aload_n 0, 1) := dk_42 (dk_at dksX7_ahead_8 3 rfl rfl)
theorem dX7_ahead_189 : decode cX7_ahead 189 = .ok (.getfield 111, 3) := dk_180 0 111 (dk_at dksX7_ahead_8 4 rfl rfl)
theorem dX7_ahead_192 : decode cX7_ahead 192 = .ok (.isub, 1) := dk_100 (dk_at dksX7_ahead_8 7 rfl rfl)
theorem dX7_ahead_193 : decode cX7_ahead 193 = .ok (.iconst 4, 1) := dk_7 (dk_at dksX7_ahead_8 8 rfl rfl)
theorem dX7_ahead_194 : decode cX7_ahead 194 = .ok (.if_icmp .le 7, 3) := dk_164 0 7 (dk_at dksX7_ahead_8 9 rfl rfl)
theorem dX7_ahead_197 : decode cX7_ahead 197 = .ok (.iconst 1, 1) := dk_4 (dk_at dksX7_ahead_8 12 rfl rfl)
theorem dX7_ahead_198 : decode cX7_ahead 198 = .ok (.goto 4, 3) := dk_167 0 4 (dk_at dksX7_ahead_8 13 rfl rfl)
theorem dX7_ahead_201 : decode cX7_ahead 201 = .ok (.iconst 3, 1) := dk_6 (dk_at dksX7_ahead_8 16 rfl rfl)
theorem dX7_ahead_202 : decode cX7_ahead 202 = .ok (.putfield 117, 3) := dk_181 0 117 (dk_at dksX7_ahead_8 17 rfl rfl)
theorem dX7_ahead_205 : decode cX7_ahead 205 = .ok (.goto 46, 3) := dk_167 0 46 (dk_at dksX7_ahead_8 20 rfl rfl)
theorem dX7_ahead_208 : decode cX7_ahead 208 = .ok (.aload_n 0, 1) := dk_42 (dk_at dksX7_ahead_8 23 rfl rfl)
theorem dX7_ahead_209 : decode cX7_ahead 209 = .ok (.dup, 1) := dk_89 (dk_at dksX7_ahead_9 0 rfl rfl)
theorem dX7_ahead_210 : decode cX7_ahead 210 = .ok (.getfield 105, 3) := dk_180 0 105 (dk_at dksX7_ahead_9 1 rfl rfl)
theorem dX7_ahead_213 : decode cX7_ahead 213 = .ok (.iconst 1, 1) := dk_4 (dk_at dksX7_ahead_9 4 rfl rfl)
theorem dX7_ahead_214 : decode cX7_ahead 214 = .ok (.iadd, 1) := dk_96 (dk_at dksX7_ahead_9 5 rfl rfl)
theorem dX7_ahead_215 : decode cX7_ahead 215 = .ok (.putfield 105, 3) := dk_181 0 105 (dk_at dksX7_ahead_9 6 rfl rfl)
theorem dX7_ahead_218 : decode cX7_ahead 218 = .ok (.aload_n 0, 1) := dk_42 (dk_at dksX7_ahead_9 9 rfl rfl)
theorem dX7_ahead_219 : decode cX7_ahead 219 = .ok (.iload_n 1, 1) := dk_27 (dk_at dksX7_ahead_9 10 rfl rfl)
theorem dX7_ahead_220 : decode cX7_ahead 220 = .ok (.bipush 59, 2) := dk_16 59 (dk_at dksX7_ahead_9 11 rfl rfl)
theorem dX7_ahead_222 : decode cX7_ahead 222 = .ok (.if_icmp .eq 21, 3) := dk_159 0 21 (dk_at dksX7_ahead_9 13 rfl rfl)
theorem dX7_ahead_225 : decode cX7_ahead 225 = .ok (.iload_n 1, 1) := dk_27 (dk_at dksX7_ahead_9 16 rfl rfl)
theorem dX7_ahead_226 : decode cX7_ahead 226 = .ok (.bipush 60, 2) := dk_16 60 (dk_at dksX7_ahead_9 17 rfl rfl)
theorem dX7_ahead_228 : decode cX7_ahead 228 = .ok (.if_icmp .eq 15, 3) := dk_159 0 15 (dk_at dksX7_ahead_9 19 rfl rfl)
theorem dX7_ahead_231 : decode cX7_ahead 231 = .ok (.iload_n 1, 1) := dk_27 (dk_at dksX7_ahead_9 22 rfl rfl)
theorem dX7_ahead_232 : decode cX7_ahead 232 = .ok (.bipush 62, 2) := dk_16 62 (dk_at dksX7_ahead_10 0 rfl rfl)
theorem dX7_ahead_234 : decode cX7_ahead 234 = .ok (.if_icmp .eq 9, 3) := dk_159 0 9 (dk_at dksX7_ahead_10 2 rfl rfl)
theorem dX7_ahead_237 : decode cX7_ahead 237 = .ok (.iload_n 1, 1) := dk_27 (dk_at dksX7_ahead_10 5 rfl rfl)
theorem dX7_ahead_238 : decode cX7_ahead 238 = .ok (.bipush 61, 2) := dk_16 61 (dk_at dksX7_ahead_10 6 rfl rfl)
theorem dX7_ahead_240 : decode cX7_ahead 240 = .ok (.if_icmp .ne 7, 3) := dk_160 0 7 (dk_at dksX7_ahead_10 8 rfl rfl)
theorem dX7_ahead_243 : decode cX7_ahead 243 = .ok (.iconst 4, 1) := dk_7 (dk_at dksX7_ahead_10 11 rfl rfl)
theorem dX7_ahead_244 : decode cX7_ahead 244 = .ok (.goto 4, 3) := dk_167 0 4 (dk_at dksX7_ahead_10 12 rfl rfl)
theorem dX7_ahead_247 : decode cX7_ahead 247 = .ok (.iconst 1, 1) := dk_4 (dk_at dksX7_ahead_10 15 rfl rfl)
theorem dX7_ahead_248 : decode cX7_ahead 248 = .ok (.putfield 117, 3) := dk_181 0 117 (dk_at dksX7_ahead_10 16 rfl rfl)
theorem dX7_ahead_251 : decode cX7_ahead 251 = .ok (.return_, 1) := dk_177 (dk_at dksX7_ahead_10 19 rfl rfl)
def dkwX7_byteAt_0 : List UInt8 := [27, 42, 180, 0, 102, 162, 0, 16, 42, 180, 0, 34, 27, 51, 17, 0, 255, 126, 167, 0, 4, 2, 172]
abbrev dktX7_byteAt_0 : List UInt8 := dkwX7_byteAt_0 ++ []
theorem dksX7_byteAt_0 : cX7_byteAt.data.toList.drop 0 = dktX7_byteAt_0 := by decide +kernel
theorem dX7_byteAt_0 : decode cX7_byteAt 0 = .ok (.iload_n 1, 1) := dk_27 (dk_at dksX7_byteAt_0 0 rfl rfl)
theorem dX7_byteAt_1 : decode cX7_byteAt 1 = .ok (.aload_n 0, 1) := dk_42 (dk_at dksX7_byteAt_0 1 rfl rfl)
theorem dX7_byteAt_2 : decode cX7_byteAt 2 = .ok (.getfield 102, 3) := dk_180 0 102 (dk_at dksX7_byteAt_0 2 rfl rfl)
theorem dX7_byteAt_5 : decode cX7_byteAt 5 = .ok (.if_icmp .ge 16, 3) := dk_162 0 16 (dk_at dksX7_byteAt_0 5 rfl rfl)
theorem dX7_byteAt_8 : decode cX7_byteAt 8 = .ok (.aload_n 0, 1) := dk_42 (dk_at dksX7_byteAt_0 8 rfl rfl)
theorem dX7_byteAt_9 : decode cX7_byteAt 9 = .ok (.getfield 34, 3) := dk_180 0 34 (dk_at dksX7_byteAt_0 9 rfl rfl)
theorem dX7_byteAt_12 : decode cX7_byteAt 12 = .ok (.iload_n 1, 1) := dk_27 (dk_at dksX7_byteAt_0 12 rfl rfl)
theorem dX7_byteAt_13 : decode cX7_byteAt 13 = .ok (.baload, 1) := dk_51 (dk_at dksX7_byteAt_0 13 rfl rfl)
theorem dX7_byteAt_14 : decode cX7_byteAt 14 = .ok (.sipush 255, 3) := dk_17 0 255 (dk_at dksX7_byteAt_0 14 rfl rfl)
theorem dX7_byteAt_17 : decode cX7_byteAt 17 = .ok (.iand, 1) := dk_126 (dk_at dksX7_byteAt_0 17 rfl rfl)
theorem dX7_byteAt_18 : decode cX7_byteAt 18 = .ok (.goto 4, 3) := dk_167 0 4 (dk_at dksX7_byteAt_0 18 rfl rfl)
theorem dX7_byteAt_21 : decode cX7_byteAt 21 = .ok (.iconst (-1), 1) := dk_2 (dk_at dksX7_byteAt_0 21 rfl rfl)
theorem dX7_byteAt_22 : decode cX7_byteAt 22 = .ok (.ireturn, 1) := dk_172 (dk_at dksX7_byteAt_0 22 rfl rfl)
def dkwX7_isSmall_0 : List UInt8 := [26, 16, 97, 161, 0, 13, 26, 16, 122, 163, 0, 7, 4, 167, 0, 4, 3, 172]
abbrev dktX7_isSmall_0 : List UInt8 := dkwX7_isSmall_0 ++ []
theorem dksX7_isSmall_0 : cX7_isSmall.data.toList.drop 0 = dktX7_isSmall_0 := by decide +kernel
theorem dX7_isSmall_0 : decode cX7_isSmall 0 = .ok (.iload_n 0, 1) := dk_26 (dk_at dksX7_isSmall_0 0 rfl rfl)
theorem dX7_isSmall_1 : decode cX7_isSmall 1 = .ok (.bipush 97, 2) := dk_16 97 (dk_at dksX7_isSmall_0 1 rfl rfl)
theorem dX7_isSmall_3 : decode cX7_isSmall 3 = .ok (.if_icmp .lt 13, 3) := dk_161 0 13 (dk_at dksX7_isSmall_0 3 rfl rfl)
theorem dX7_isSmall_6 : decode cX7_isSmall 6 = .ok (.iload_n 0, 1) := dk_26 (dk_at dksX7_isSmall_0 6 rfl rfl)
theorem dX7_isSmall_7 : decode cX7_isSmall 7 = .ok (.bipush 122, 2) := dk_16 122 (dk_at dksX7_isSmall_0 7 rfl rfl)
theorem dX7_isSmall_9 : decode cX7_isSmall 9 = .ok (.if_icmp .gt 7, 3) := dk_163 0 7 (dk_at dksX7_isSmall_0 9 rfl rfl)
theorem dX7_isSmall_12 : decode cX7_isSmall 12 = .ok (.iconst 1, 1) := dk_4 (dk_at dksX7_isSmall_0 12 rfl rfl)
theorem dX7_isSmall_13 : decode cX7_isSmall 13 = .ok (.goto 4, 3) := dk_167 0 4 (dk_at dksX7_isSmall_0 13 rfl rfl)
theorem dX7_isSmall_16 : decode cX7_isSmall 16 = .ok (.iconst 0, 1) := dk_3 (dk_at dksX7_isSmall_0 16 rfl rfl)
theorem dX7_isSmall_17 : decode cX7_isSmall 17 = .ok (.ireturn, 1) := dk_172 (dk_at dksX7_isSmall_0 17 rfl rfl)
def dkwX7_isDigit_0 : List UInt8 := [26, 16, 48, 161, 0, 13, 26, 16, 57, 163, 0, 7, 4, 167, 0, 4, 3, 172]
abbrev dktX7_isDigit_0 : List UInt8 := dkwX7_isDigit_0 ++ []
theorem dksX7_isDigit_0 : cX7_isDigit.data.toList.drop 0 = dktX7_isDigit_0 := by decide +kernel
theorem dX7_isDigit_0 : decode cX7_isDigit 0 = .ok (.iload_n 0, 1) := dk_26 (dk_at dksX7_isDigit_0 0 rfl rfl)
theorem dX7_isDigit_1 : decode cX7_isDigit 1 = .ok (.bipush 48, 2) := dk_16 48 (dk_at dksX7_isDigit_0 1 rfl rfl)
theorem dX7_isDigit_3 : decode cX7_isDigit 3 = .ok (.if_icmp .lt 13, 3) := dk_161 0 13 (dk_at dksX7_isDigit_0 3 rfl rfl)
theorem dX7_isDigit_6 : decode cX7_isDigit 6 = .ok (.iload_n 0, 1) := dk_26 (dk_at dksX7_isDigit_0 6 rfl rfl)
theorem dX7_isDigit_7 : decode cX7_isDigit 7 = .ok (.bipush 57, 2) := dk_16 57 (dk_at dksX7_isDigit_0 7 rfl rfl)
theorem dX7_isDigit_9 : decode cX7_isDigit 9 = .ok (.if_icmp .gt 7, 3) := dk_163 0 7 (dk_at dksX7_isDigit_0 9 rfl rfl)
theorem dX7_isDigit_12 : decode cX7_isDigit 12 = .ok (.iconst 1, 1) := dk_4 (dk_at dksX7_isDigit_0 12 rfl rfl)
theorem dX7_isDigit_13 : decode cX7_isDigit 13 = .ok (.goto 4, 3) := dk_167 0 4 (dk_at dksX7_isDigit_0 13 rfl rfl)
theorem dX7_isDigit_16 : decode cX7_isDigit 16 = .ok (.iconst 0, 1) := dk_3 (dk_at dksX7_isDigit_0 16 rfl rfl)
theorem dX7_isDigit_17 : decode cX7_isDigit 17 = .ok (.ireturn, 1) := dk_172 (dk_at dksX7_isDigit_0 17 rfl rfl)
def dkwX7_refuse_0 : List UInt8 := [42, 27, 181, 0, 66, 2, 172]
abbrev dktX7_refuse_0 : List UInt8 := dkwX7_refuse_0 ++ []
theorem dksX7_refuse_0 : cX7_refuse.data.toList.drop 0 = dktX7_refuse_0 := by decide +kernel
theorem dX7_refuse_0 : decode cX7_refuse 0 = .ok (.aload_n 0, 1) := dk_42 (dk_at dksX7_refuse_0 0 rfl rfl)
theorem dX7_refuse_1 : decode cX7_refuse 1 = .ok (.iload_n 1, 1) := dk_27 (dk_at dksX7_refuse_0 1 rfl rfl)
theorem dX7_refuse_2 : decode cX7_refuse 2 = .ok (.putfield 66, 3) := dk_181 0 66 (dk_at dksX7_refuse_0 2 rfl rfl)
theorem dX7_refuse_5 : decode cX7_refuse 5 = .ok (.iconst (-1), 1) := dk_2 (dk_at dksX7_refuse_0 5 rfl rfl)
theorem dX7_refuse_6 : decode cX7_refuse 6 = .ok (.ireturn, 1) := dk_172 (dk_at dksX7_refuse_0 6 rfl rfl)
def dkwX7_yardPart_4 : List UInt8 := [172]
abbrev dktX7_yardPart_4 : List UInt8 := dkwX7_yardPart_4 ++ []
def dkwX7_yardPart_3 : List UInt8 := [42, 5, 182, 0, 154, 172, 27, 153, 0, 16, 42, 16, 59, 182, 0, 204, 153, 0, 7, 4, 167, 0, 4, 3]
abbrev dktX7_yardPart_3 : List UInt8 := dkwX7_yardPart_3 ++ dktX7_yardPart_4
def dkwX7_yardPart_2 : List UInt8 := [42, 182, 0, 194, 60, 167, 0, 25, 42, 182, 0, 198, 60, 167, 0, 17, 42, 182, 0, 201, 60, 167, 0, 9]
abbrev dktX7_yardPart_2 : List UInt8 := dkwX7_yardPart_2 ++ dktX7_yardPart_3
def dkwX7_yardPart_1 : List UInt8 := [170, 0, 0, 0, 0, 50, 0, 0, 0, 0, 0, 0, 0, 2, 0, 0, 0, 26, 0, 0, 0, 34, 0, 0, 0, 42]
abbrev dktX7_yardPart_1 : List UInt8 := dkwX7_yardPart_1 ++ dktX7_yardPart_2
def dkwX7_yardPart_0 : List UInt8 := [42, 18, 165, 182, 0, 157]
abbrev dktX7_yardPart_0 : List UInt8 := dkwX7_yardPart_0 ++ dktX7_yardPart_1
theorem dksX7_yardPart_0 : cX7_yardPart.data.toList.drop 0 = dktX7_yardPart_0 := by decide +kernel
theorem dksX7_yardPart_1 : cX7_yardPart.data.toList.drop 6 = dktX7_yardPart_1 := dk_seg dksX7_yardPart_0 6 rfl rfl
theorem dksX7_yardPart_2 : cX7_yardPart.data.toList.drop 32 = dktX7_yardPart_2 := dk_seg dksX7_yardPart_1 26 rfl rfl
theorem dksX7_yardPart_3 : cX7_yardPart.data.toList.drop 56 = dktX7_yardPart_3 := dk_seg dksX7_yardPart_2 24 rfl rfl
theorem dksX7_yardPart_4 : cX7_yardPart.data.toList.drop 80 = dktX7_yardPart_4 := dk_seg dksX7_yardPart_3 24 rfl rfl
theorem dX7_yardPart_0 : decode cX7_yardPart 0 = .ok (.aload_n 0, 1) := dk_42 (dk_at dksX7_yardPart_0 0 rfl rfl)
theorem dX7_yardPart_1 : decode cX7_yardPart 1 = .ok (.ldc 165, 2) := dk_18 165 (dk_at dksX7_yardPart_0 1 rfl rfl)
theorem dX7_yardPart_3 : decode cX7_yardPart 3 = .ok (.invokevirtual 157, 3) := dk_182 0 157 (dk_at dksX7_yardPart_0 3 rfl rfl)
theorem dX7_yardPart_6 : decode cX7_yardPart 6 = .ok (.tableswitch 50 0 2 #[26, 34, 42], 26) := by decide +kernel
theorem dX7_yardPart_32 : decode cX7_yardPart 32 = .ok (.aload_n 0, 1) := dk_42 (dk_at dksX7_yardPart_2 0 rfl rfl)
theorem dX7_yardPart_33 : decode cX7_yardPart 33 = .ok (.invokevirtual 194, 3) := dk_182 0 194 (dk_at dksX7_yardPart_2 1 rfl rfl)
theorem dX7_yardPart_36 : decode cX7_yardPart 36 = .ok (.istore_n 1, 1) := dk_60 (dk_at dksX7_yardPart_2 4 rfl rfl)
theorem dX7_yardPart_37 : decode cX7_yardPart 37 = .ok (.goto 25, 3) := dk_167 0 25 (dk_at dksX7_yardPart_2 5 rfl rfl)
theorem dX7_yardPart_40 : decode cX7_yardPart 40 = .ok (.aload_n 0, 1) := dk_42 (dk_at dksX7_yardPart_2 8 rfl rfl)
theorem dX7_yardPart_41 : decode cX7_yardPart 41 = .ok (.invokevirtual 198, 3) := dk_182 0 198 (dk_at dksX7_yardPart_2 9 rfl rfl)
theorem dX7_yardPart_44 : decode cX7_yardPart 44 = .ok (.istore_n 1, 1) := dk_60 (dk_at dksX7_yardPart_2 12 rfl rfl)
theorem dX7_yardPart_45 : decode cX7_yardPart 45 = .ok (.goto 17, 3) := dk_167 0 17 (dk_at dksX7_yardPart_2 13 rfl rfl)
theorem dX7_yardPart_48 : decode cX7_yardPart 48 = .ok (.aload_n 0, 1) := dk_42 (dk_at dksX7_yardPart_2 16 rfl rfl)
theorem dX7_yardPart_49 : decode cX7_yardPart 49 = .ok (.invokevirtual 201, 3) := dk_182 0 201 (dk_at dksX7_yardPart_2 17 rfl rfl)
theorem dX7_yardPart_52 : decode cX7_yardPart 52 = .ok (.istore_n 1, 1) := dk_60 (dk_at dksX7_yardPart_2 20 rfl rfl)
theorem dX7_yardPart_53 : decode cX7_yardPart 53 = .ok (.goto 9, 3) := dk_167 0 9 (dk_at dksX7_yardPart_2 21 rfl rfl)
theorem dX7_yardPart_56 : decode cX7_yardPart 56 = .ok (.aload_n 0, 1) := dk_42 (dk_at dksX7_yardPart_3 0 rfl rfl)
theorem dX7_yardPart_57 : decode cX7_yardPart 57 = .ok (.iconst 2, 1) := dk_5 (dk_at dksX7_yardPart_3 1 rfl rfl)
theorem dX7_yardPart_58 : decode cX7_yardPart 58 = .ok (.invokevirtual 154, 3) := dk_182 0 154 (dk_at dksX7_yardPart_3 2 rfl rfl)
theorem dX7_yardPart_61 : decode cX7_yardPart 61 = .ok (.ireturn, 1) := dk_172 (dk_at dksX7_yardPart_3 5 rfl rfl)
theorem dX7_yardPart_62 : decode cX7_yardPart 62 = .ok (.iload_n 1, 1) := dk_27 (dk_at dksX7_yardPart_3 6 rfl rfl)
theorem dX7_yardPart_63 : decode cX7_yardPart 63 = .ok (.ifCond .eq 16, 3) := dk_153 0 16 (dk_at dksX7_yardPart_3 7 rfl rfl)
theorem dX7_yardPart_66 : decode cX7_yardPart 66 = .ok (.aload_n 0, 1) := dk_42 (dk_at dksX7_yardPart_3 10 rfl rfl)
theorem dX7_yardPart_67 : decode cX7_yardPart 67 = .ok (.bipush 59, 2) := dk_16 59 (dk_at dksX7_yardPart_3 11 rfl rfl)
theorem dX7_yardPart_69 : decode cX7_yardPart 69 = .ok (.invokevirtual 204, 3) := dk_182 0 204 (dk_at dksX7_yardPart_3 13 rfl rfl)
theorem dX7_yardPart_72 : decode cX7_yardPart 72 = .ok (.ifCond .eq 7, 3) := dk_153 0 7 (dk_at dksX7_yardPart_3 16 rfl rfl)
theorem dX7_yardPart_75 : decode cX7_yardPart 75 = .ok (.iconst 1, 1) := dk_4 (dk_at dksX7_yardPart_3 19 rfl rfl)
theorem dX7_yardPart_76 : decode cX7_yardPart 76 = .ok (.goto 4, 3) := dk_167 0 4 (dk_at dksX7_yardPart_3 20 rfl rfl)
theorem dX7_yardPart_79 : decode cX7_yardPart 79 = .ok (.iconst 0, 1) := dk_3 (dk_at dksX7_yardPart_3 23 rfl rfl)
theorem dX7_yardPart_80 : decode cX7_yardPart 80 = .ok (.ireturn, 1) := dk_172 (dk_at dksX7_yardPart_4 0 rfl rfl)
def dkwX7_inWords_5 : List UInt8 := [153, 0, 5, 28, 172, 132, 2, 1, 21, 4, 4, 96, 62, 167, 255, 140, 2, 172]
abbrev dktX7_inWords_5 : List UInt8 := dkwX7_inWords_5 ++ []
def dkwX7_inWords_4 : List UInt8 := [29, 100, 182, 0, 108, 160, 0, 7, 4, 167, 0, 4, 3, 54, 5, 132, 6, 1, 167, 255, 212, 21, 5]
abbrev dktX7_inWords_4 : List UInt8 := dkwX7_inWords_4 ++ dktX7_inWords_5
def dkwX7_inWords_3 : List UInt8 := [21, 4, 162, 0, 43, 21, 5, 153, 0, 38, 43, 21, 6, 182, 0, 138, 42, 42, 180, 0, 111, 21, 6, 96]
abbrev dktX7_inWords_3 : List UInt8 := dkwX7_inWords_3 ++ dktX7_inWords_4
def dkwX7_inWords_2 : List UInt8 := [180, 0, 105, 42, 180, 0, 111, 100, 160, 0, 7, 4, 167, 0, 4, 3, 54, 5, 29, 54, 6, 21, 6]
abbrev dktX7_inWords_2 : List UInt8 := dkwX7_inWords_2 ++ dktX7_inWords_3
def dkwX7_inWords_1 : List UInt8 := [54, 4, 43, 21, 4, 182, 0, 138, 16, 32, 159, 0, 9, 132, 4, 1, 167, 255, 242, 21, 4, 29, 100, 42]
abbrev dktX7_inWords_1 : List UInt8 := dkwX7_inWords_1 ++ dktX7_inWords_2
def dkwX7_inWords_0 : List UInt8 := [42, 180, 0, 117, 5, 159, 0, 5, 2, 172, 3, 61, 4, 62, 29, 43, 182, 0, 132, 162, 0, 114, 29]
abbrev dktX7_inWords_0 : List UInt8 := dkwX7_inWords_0 ++ dktX7_inWords_1
theorem dksX7_inWords_0 : cX7_inWords.data.toList.drop 0 = dktX7_inWords_0 := by decide +kernel
theorem dksX7_inWords_1 : cX7_inWords.data.toList.drop 23 = dktX7_inWords_1 := dk_seg dksX7_inWords_0 23 rfl rfl
theorem dksX7_inWords_2 : cX7_inWords.data.toList.drop 47 = dktX7_inWords_2 := dk_seg dksX7_inWords_1 24 rfl rfl
theorem dksX7_inWords_3 : cX7_inWords.data.toList.drop 70 = dktX7_inWords_3 := dk_seg dksX7_inWords_2 23 rfl rfl
theorem dksX7_inWords_4 : cX7_inWords.data.toList.drop 94 = dktX7_inWords_4 := dk_seg dksX7_inWords_3 24 rfl rfl
theorem dksX7_inWords_5 : cX7_inWords.data.toList.drop 117 = dktX7_inWords_5 := dk_seg dksX7_inWords_4 23 rfl rfl
theorem dX7_inWords_0 : decode cX7_inWords 0 = .ok (.aload_n 0, 1) := dk_42 (dk_at dksX7_inWords_0 0 rfl rfl)
theorem dX7_inWords_1 : decode cX7_inWords 1 = .ok (.getfield 117, 3) := dk_180 0 117 (dk_at dksX7_inWords_0 1 rfl rfl)
theorem dX7_inWords_4 : decode cX7_inWords 4 = .ok (.iconst 2, 1) := dk_5 (dk_at dksX7_inWords_0 4 rfl rfl)
theorem dX7_inWords_5 : decode cX7_inWords 5 = .ok (.if_icmp .eq 5, 3) := dk_159 0 5 (dk_at dksX7_inWords_0 5 rfl rfl)
theorem dX7_inWords_8 : decode cX7_inWords 8 = .ok (.iconst (-1), 1) := dk_2 (dk_at dksX7_inWords_0 8 rfl rfl)
theorem dX7_inWords_9 : decode cX7_inWords 9 = .ok (.ireturn, 1) := dk_172 (dk_at dksX7_inWords_0 9 rfl rfl)
theorem dX7_inWords_10 : decode cX7_inWords 10 = .ok (.iconst 0, 1) := dk_3 (dk_at dksX7_inWords_0 10 rfl rfl)
theorem dX7_inWords_11 : decode cX7_inWords 11 = .ok (.istore_n 2, 1) := dk_61 (dk_at dksX7_inWords_0 11 rfl rfl)
theorem dX7_inWords_12 : decode cX7_inWords 12 = .ok (.iconst 1, 1) := dk_4 (dk_at dksX7_inWords_0 12 rfl rfl)
theorem dX7_inWords_13 : decode cX7_inWords 13 = .ok (.istore_n 3, 1) := dk_62 (dk_at dksX7_inWords_0 13 rfl rfl)
theorem dX7_inWords_14 : decode cX7_inWords 14 = .ok (.iload_n 3, 1) := dk_29 (dk_at dksX7_inWords_0 14 rfl rfl)
theorem dX7_inWords_15 : decode cX7_inWords 15 = .ok (.aload_n 1, 1) := dk_43 (dk_at dksX7_inWords_0 15 rfl rfl)
theorem dX7_inWords_16 : decode cX7_inWords 16 = .ok (.invokevirtual 132, 3) := dk_182 0 132 (dk_at dksX7_inWords_0 16 rfl rfl)
theorem dX7_inWords_19 : decode cX7_inWords 19 = .ok (.if_icmp .ge 114, 3) := dk_162 0 114 (dk_at dksX7_inWords_0 19 rfl rfl)
theorem dX7_inWords_22 : decode cX7_inWords 22 = .ok (.iload_n 3, 1) := dk_29 (dk_at dksX7_inWords_0 22 rfl rfl)
theorem dX7_inWords_23 : decode cX7_inWords 23 = .ok (.istore 4, 2) := dk_54 4 (dk_at dksX7_inWords_1 0 rfl rfl)
theorem dX7_inWords_25 : decode cX7_inWords 25 = .ok (.aload_n 1, 1) := dk_43 (dk_at dksX7_inWords_1 2 rfl rfl)
theorem dX7_inWords_26 : decode cX7_inWords 26 = .ok (.iload 4, 2) := dk_21 4 (dk_at dksX7_inWords_1 3 rfl rfl)
theorem dX7_inWords_28 : decode cX7_inWords 28 = .ok (.invokevirtual 138, 3) := dk_182 0 138 (dk_at dksX7_inWords_1 5 rfl rfl)
theorem dX7_inWords_31 : decode cX7_inWords 31 = .ok (.bipush 32, 2) := dk_16 32 (dk_at dksX7_inWords_1 8 rfl rfl)
theorem dX7_inWords_33 : decode cX7_inWords 33 = .ok (.if_icmp .eq 9, 3) := dk_159 0 9 (dk_at dksX7_inWords_1 10 rfl rfl)
theorem dX7_inWords_36 : decode cX7_inWords 36 = .ok (.iinc 4 1, 3) := dk_132 4 1 (dk_at dksX7_inWords_1 13 rfl rfl)
theorem dX7_inWords_39 : decode cX7_inWords 39 = .ok (.goto (-14), 3) := dk_167 255 242 (dk_at dksX7_inWords_1 16 rfl rfl)
theorem dX7_inWords_42 : decode cX7_inWords 42 = .ok (.iload 4, 2) := dk_21 4 (dk_at dksX7_inWords_1 19 rfl rfl)
theorem dX7_inWords_44 : decode cX7_inWords 44 = .ok (.iload_n 3, 1) := dk_29 (dk_at dksX7_inWords_1 21 rfl rfl)
theorem dX7_inWords_45 : decode cX7_inWords 45 = .ok (.isub, 1) := dk_100 (dk_at dksX7_inWords_1 22 rfl rfl)
theorem dX7_inWords_46 : decode cX7_inWords 46 = .ok (.aload_n 0, 1) := dk_42 (dk_at dksX7_inWords_1 23 rfl rfl)
theorem dX7_inWords_47 : decode cX7_inWords 47 = .ok (.getfield 105, 3) := dk_180 0 105 (dk_at dksX7_inWords_2 0 rfl rfl)
theorem dX7_inWords_50 : decode cX7_inWords 50 = .ok (.aload_n 0, 1) := dk_42 (dk_at dksX7_inWords_2 3 rfl rfl)
theorem dX7_inWords_51 : decode cX7_inWords 51 = .ok (.getfield 111, 3) := dk_180 0 111 (dk_at dksX7_inWords_2 4 rfl rfl)
theorem dX7_inWords_54 : decode cX7_inWords 54 = .ok (.isub, 1) := dk_100 (dk_at dksX7_inWords_2 7 rfl rfl)
theorem dX7_inWords_55 : decode cX7_inWords 55 = .ok (.if_icmp .ne 7, 3) := dk_160 0 7 (dk_at dksX7_inWords_2 8 rfl rfl)
theorem dX7_inWords_58 : decode cX7_inWords 58 = .ok (.iconst 1, 1) := dk_4 (dk_at dksX7_inWords_2 11 rfl rfl)
theorem dX7_inWords_59 : decode cX7_inWords 59 = .ok (.goto 4, 3) := dk_167 0 4 (dk_at dksX7_inWords_2 12 rfl rfl)
theorem dX7_inWords_62 : decode cX7_inWords 62 = .ok (.iconst 0, 1) := dk_3 (dk_at dksX7_inWords_2 15 rfl rfl)
theorem dX7_inWords_63 : decode cX7_inWords 63 = .ok (.istore 5, 2) := dk_54 5 (dk_at dksX7_inWords_2 16 rfl rfl)
theorem dX7_inWords_65 : decode cX7_inWords 65 = .ok (.iload_n 3, 1) := dk_29 (dk_at dksX7_inWords_2 18 rfl rfl)
theorem dX7_inWords_66 : decode cX7_inWords 66 = .ok (.istore 6, 2) := dk_54 6 (dk_at dksX7_inWords_2 19 rfl rfl)
theorem dX7_inWords_68 : decode cX7_inWords 68 = .ok (.iload 6, 2) := dk_21 6 (dk_at dksX7_inWords_2 21 rfl rfl)
theorem dX7_inWords_70 : decode cX7_inWords 70 = .ok (.iload 4, 2) := dk_21 4 (dk_at dksX7_inWords_3 0 rfl rfl)
theorem dX7_inWords_72 : decode cX7_inWords 72 = .ok (.if_icmp .ge 43, 3) := dk_162 0 43 (dk_at dksX7_inWords_3 2 rfl rfl)
theorem dX7_inWords_75 : decode cX7_inWords 75 = .ok (.iload 5, 2) := dk_21 5 (dk_at dksX7_inWords_3 5 rfl rfl)
theorem dX7_inWords_77 : decode cX7_inWords 77 = .ok (.ifCond .eq 38, 3) := dk_153 0 38 (dk_at dksX7_inWords_3 7 rfl rfl)
theorem dX7_inWords_80 : decode cX7_inWords 80 = .ok (.aload_n 1, 1) := dk_43 (dk_at dksX7_inWords_3 10 rfl rfl)
theorem dX7_inWords_81 : decode cX7_inWords 81 = .ok (.iload 6, 2) := dk_21 6 (dk_at dksX7_inWords_3 11 rfl rfl)
theorem dX7_inWords_83 : decode cX7_inWords 83 = .ok (.invokevirtual 138, 3) := dk_182 0 138 (dk_at dksX7_inWords_3 13 rfl rfl)
theorem dX7_inWords_86 : decode cX7_inWords 86 = .ok (.aload_n 0, 1) := dk_42 (dk_at dksX7_inWords_3 16 rfl rfl)
theorem dX7_inWords_87 : decode cX7_inWords 87 = .ok (.aload_n 0, 1) := dk_42 (dk_at dksX7_inWords_3 17 rfl rfl)
theorem dX7_inWords_88 : decode cX7_inWords 88 = .ok (.getfield 111, 3) := dk_180 0 111 (dk_at dksX7_inWords_3 18 rfl rfl)
theorem dX7_inWords_91 : decode cX7_inWords 91 = .ok (.iload 6, 2) := dk_21 6 (dk_at dksX7_inWords_3 21 rfl rfl)
theorem dX7_inWords_93 : decode cX7_inWords 93 = .ok (.iadd, 1) := dk_96 (dk_at dksX7_inWords_3 23 rfl rfl)
theorem dX7_inWords_94 : decode cX7_inWords 94 = .ok (.iload_n 3, 1) := dk_29 (dk_at dksX7_inWords_4 0 rfl rfl)
theorem dX7_inWords_95 : decode cX7_inWords 95 = .ok (.isub, 1) := dk_100 (dk_at dksX7_inWords_4 1 rfl rfl)
theorem dX7_inWords_96 : decode cX7_inWords 96 = .ok (.invokevirtual 108, 3) := dk_182 0 108 (dk_at dksX7_inWords_4 2 rfl rfl)
theorem dX7_inWords_99 : decode cX7_inWords 99 = .ok (.if_icmp .ne 7, 3) := dk_160 0 7 (dk_at dksX7_inWords_4 5 rfl rfl)
theorem dX7_inWords_102 : decode cX7_inWords 102 = .ok (.iconst 1, 1) := dk_4 (dk_at dksX7_inWords_4 8 rfl rfl)
theorem dX7_inWords_103 : decode cX7_inWords 103 = .ok (.goto 4, 3) := dk_167 0 4 (dk_at dksX7_inWords_4 9 rfl rfl)
theorem dX7_inWords_106 : decode cX7_inWords 106 = .ok (.iconst 0, 1) := dk_3 (dk_at dksX7_inWords_4 12 rfl rfl)
theorem dX7_inWords_107 : decode cX7_inWords 107 = .ok (.istore 5, 2) := dk_54 5 (dk_at dksX7_inWords_4 13 rfl rfl)
theorem dX7_inWords_109 : decode cX7_inWords 109 = .ok (.iinc 6 1, 3) := dk_132 6 1 (dk_at dksX7_inWords_4 15 rfl rfl)
theorem dX7_inWords_112 : decode cX7_inWords 112 = .ok (.goto (-44), 3) := dk_167 255 212 (dk_at dksX7_inWords_4 18 rfl rfl)
theorem dX7_inWords_115 : decode cX7_inWords 115 = .ok (.iload 5, 2) := dk_21 5 (dk_at dksX7_inWords_4 21 rfl rfl)
theorem dX7_inWords_117 : decode cX7_inWords 117 = .ok (.ifCond .eq 5, 3) := dk_153 0 5 (dk_at dksX7_inWords_5 0 rfl rfl)
theorem dX7_inWords_120 : decode cX7_inWords 120 = .ok (.iload_n 2, 1) := dk_28 (dk_at dksX7_inWords_5 3 rfl rfl)
theorem dX7_inWords_121 : decode cX7_inWords 121 = .ok (.ireturn, 1) := dk_172 (dk_at dksX7_inWords_5 4 rfl rfl)
theorem dX7_inWords_122 : decode cX7_inWords 122 = .ok (.iinc 2 1, 3) := dk_132 2 1 (dk_at dksX7_inWords_5 5 rfl rfl)
theorem dX7_inWords_125 : decode cX7_inWords 125 = .ok (.iload 4, 2) := dk_21 4 (dk_at dksX7_inWords_5 8 rfl rfl)
theorem dX7_inWords_127 : decode cX7_inWords 127 = .ok (.iconst 1, 1) := dk_4 (dk_at dksX7_inWords_5 10 rfl rfl)
theorem dX7_inWords_128 : decode cX7_inWords 128 = .ok (.iadd, 1) := dk_96 (dk_at dksX7_inWords_5 11 rfl rfl)
theorem dX7_inWords_129 : decode cX7_inWords 129 = .ok (.istore_n 3, 1) := dk_62 (dk_at dksX7_inWords_5 12 rfl rfl)
theorem dX7_inWords_130 : decode cX7_inWords 130 = .ok (.goto (-116), 3) := dk_167 255 140 (dk_at dksX7_inWords_5 13 rfl rfl)
theorem dX7_inWords_133 : decode cX7_inWords 133 = .ok (.iconst (-1), 1) := dk_2 (dk_at dksX7_inWords_5 16 rfl rfl)
theorem dX7_inWords_134 : decode cX7_inWords 134 = .ok (.ireturn, 1) := dk_172 (dk_at dksX7_inWords_5 17 rfl rfl)
def dkwX7_aHive_9 : List UInt8 := [42, 180, 0, 7, 17, 19, 56, 92, 46, 4, 96, 79, 4, 172]
abbrev dktX7_aHive_9 : List UInt8 := dkwX7_aHive_9 ++ []
def dkwX7_aHive_8 : List UInt8 := [17, 24, 1, 46, 104, 96, 79, 42, 27, 16, 100, 42, 180, 0, 7, 17, 24, 1, 46, 104, 182, 0, 188, 87]
abbrev dktX7_aHive_8 : List UInt8 := dkwX7_aHive_8 ++ dktX7_aHive_9
def dkwX7_aHive_7 : List UInt8 := [182, 0, 182, 154, 0, 5, 3, 172, 42, 180, 0, 7, 17, 19, 60, 92, 46, 16, 100, 42, 180, 0, 7]
abbrev dktX7_aHive_7 : List UInt8 := dkwX7_aHive_7 ++ dktX7_aHive_8
def dkwX7_aHive_6 : List UInt8 := [79, 42, 16, 6, 182, 0, 185, 153, 0, 25, 42, 17, 24, 1, 3, 16, 16, 42, 180, 0, 7, 27, 46, 104]
abbrev dktX7_aHive_6 : List UInt8 := dkwX7_aHive_6 ++ dktX7_aHive_7
def dkwX7_aHive_5 : List UInt8 := [42, 27, 4, 96, 3, 17, 39, 15, 182, 0, 182, 154, 0, 5, 3, 172, 42, 180, 0, 7, 17, 24, 1, 3]
abbrev dktX7_aHive_5 : List UInt8 := dkwX7_aHive_5 ++ dktX7_aHive_6
def dkwX7_aHive_4 : List UInt8 := [17, 24, 1, 46, 42, 180, 0, 7, 17, 24, 2, 46, 104, 79, 42, 18, 165, 8, 182, 0, 178, 153, 0, 17]
abbrev dktX7_aHive_4 : List UInt8 := dkwX7_aHive_4 ++ dktX7_aHive_5
def dkwX7_aHive_3 : List UInt8 := [17, 24, 2, 4, 7, 182, 0, 182, 154, 0, 5, 3, 172, 42, 180, 0, 7, 27, 42, 180, 0, 7]
abbrev dktX7_aHive_3 : List UInt8 := dkwX7_aHive_3 ++ dktX7_aHive_4
def dkwX7_aHive_2 : List UInt8 := [42, 17, 24, 1, 4, 6, 182, 0, 182, 153, 0, 25, 42, 18, 165, 7, 182, 0, 178, 153, 0, 15, 42]
abbrev dktX7_aHive_2 : List UInt8 := dkwX7_aHive_2 ++ dktX7_aHive_3
def dkwX7_aHive_1 : List UInt8 := [154, 0, 5, 3, 172, 42, 180, 0, 7, 27, 6, 96, 2, 79, 42, 18, 165, 6, 182, 0, 178, 153, 0, 37]
abbrev dktX7_aHive_1 : List UInt8 := dkwX7_aHive_1 ++ dktX7_aHive_2
def dkwX7_aHive_0 : List UInt8 := [17, 19, 120, 17, 0, 198, 42, 180, 0, 7, 17, 19, 56, 46, 104, 96, 60, 42, 3, 7, 3, 182, 0, 174]
abbrev dktX7_aHive_0 : List UInt8 := dkwX7_aHive_0 ++ dktX7_aHive_1
theorem dksX7_aHive_0 : cX7_aHive.data.toList.drop 0 = dktX7_aHive_0 := by decide +kernel
theorem dksX7_aHive_1 : cX7_aHive.data.toList.drop 24 = dktX7_aHive_1 := dk_seg dksX7_aHive_0 24 rfl rfl
theorem dksX7_aHive_2 : cX7_aHive.data.toList.drop 48 = dktX7_aHive_2 := dk_seg dksX7_aHive_1 24 rfl rfl
theorem dksX7_aHive_3 : cX7_aHive.data.toList.drop 71 = dktX7_aHive_3 := dk_seg dksX7_aHive_2 23 rfl rfl
theorem dksX7_aHive_4 : cX7_aHive.data.toList.drop 93 = dktX7_aHive_4 := dk_seg dksX7_aHive_3 22 rfl rfl
theorem dksX7_aHive_5 : cX7_aHive.data.toList.drop 117 = dktX7_aHive_5 := dk_seg dksX7_aHive_4 24 rfl rfl
theorem dksX7_aHive_6 : cX7_aHive.data.toList.drop 141 = dktX7_aHive_6 := dk_seg dksX7_aHive_5 24 rfl rfl
theorem dksX7_aHive_7 : cX7_aHive.data.toList.drop 165 = dktX7_aHive_7 := dk_seg dksX7_aHive_6 24 rfl rfl
theorem dksX7_aHive_8 : cX7_aHive.data.toList.drop 188 = dktX7_aHive_8 := dk_seg dksX7_aHive_7 23 rfl rfl
theorem dksX7_aHive_9 : cX7_aHive.data.toList.drop 212 = dktX7_aHive_9 := dk_seg dksX7_aHive_8 24 rfl rfl
theorem dX7_aHive_0 : decode cX7_aHive 0 = .ok (.sipush 4984, 3) := dk_17 19 120 (dk_at dksX7_aHive_0 0 rfl rfl)
theorem dX7_aHive_3 : decode cX7_aHive 3 = .ok (.sipush 198, 3) := dk_17 0 198 (dk_at dksX7_aHive_0 3 rfl rfl)
theorem dX7_aHive_6 : decode cX7_aHive 6 = .ok (.aload_n 0, 1) := dk_42 (dk_at dksX7_aHive_0 6 rfl rfl)
theorem dX7_aHive_7 : decode cX7_aHive 7 = .ok (.getfield 7, 3) := dk_180 0 7 (dk_at dksX7_aHive_0 7 rfl rfl)
theorem dX7_aHive_10 : decode cX7_aHive 10 = .ok (.sipush 4920, 3) := dk_17 19 56 (dk_at dksX7_aHive_0 10 rfl rfl)
theorem dX7_aHive_13 : decode cX7_aHive 13 = .ok (.iaload, 1) := dk_46 (dk_at dksX7_aHive_0 13 rfl rfl)
theorem dX7_aHive_14 : decode cX7_aHive 14 = .ok (.imul, 1) := dk_104 (dk_at dksX7_aHive_0 14 rfl rfl)
theorem dX7_aHive_15 : decode cX7_aHive 15 = .ok (.iadd, 1) := dk_96 (dk_at dksX7_aHive_0 15 rfl rfl)
theorem dX7_aHive_16 : decode cX7_aHive 16 = .ok (.istore_n 1, 1) := dk_60 (dk_at dksX7_aHive_0 16 rfl rfl)
theorem dX7_aHive_17 : decode cX7_aHive 17 = .ok (.aload_n 0, 1) := dk_42 (dk_at dksX7_aHive_0 17 rfl rfl)
theorem dX7_aHive_18 : decode cX7_aHive 18 = .ok (.iconst 0, 1) := dk_3 (dk_at dksX7_aHive_0 18 rfl rfl)
theorem dX7_aHive_19 : decode cX7_aHive 19 = .ok (.iconst 4, 1) := dk_7 (dk_at dksX7_aHive_0 19 rfl rfl)
theorem dX7_aHive_20 : decode cX7_aHive 20 = .ok (.iconst 0, 1) := dk_3 (dk_at dksX7_aHive_0 20 rfl rfl)
theorem dX7_aHive_21 : decode cX7_aHive 21 = .ok (.invokevirtual 174, 3) := dk_182 0 174 (dk_at dksX7_aHive_0 21 rfl rfl)
theorem dX7_aHive_24 : decode cX7_aHive 24 = .ok (.ifCond .ne 5, 3) := dk_154 0 5 (dk_at dksX7_aHive_1 0 rfl rfl)
theorem dX7_aHive_27 : decode cX7_aHive 27 = .ok (.iconst 0, 1) := dk_3 (dk_at dksX7_aHive_1 3 rfl rfl)
theorem dX7_aHive_28 : decode cX7_aHive 28 = .ok (.ireturn, 1) := dk_172 (dk_at dksX7_aHive_1 4 rfl rfl)
theorem dX7_aHive_29 : decode cX7_aHive 29 = .ok (.aload_n 0, 1) := dk_42 (dk_at dksX7_aHive_1 5 rfl rfl)
theorem dX7_aHive_30 : decode cX7_aHive 30 = .ok (.getfield 7, 3) := dk_180 0 7 (dk_at dksX7_aHive_1 6 rfl rfl)
theorem dX7_aHive_33 : decode cX7_aHive 33 = .ok (.iload_n 1, 1) := dk_27 (dk_at dksX7_aHive_1 9 rfl rfl)
theorem dX7_aHive_34 : decode cX7_aHive 34 = .ok (.iconst 3, 1) := dk_6 (dk_at dksX7_aHive_1 10 rfl rfl)
theorem dX7_aHive_35 : decode cX7_aHive 35 = .ok (.iadd, 1) := dk_96 (dk_at dksX7_aHive_1 11 rfl rfl)
theorem dX7_aHive_36 : decode cX7_aHive 36 = .ok (.iconst (-1), 1) := dk_2 (dk_at dksX7_aHive_1 12 rfl rfl)
theorem dX7_aHive_37 : decode cX7_aHive 37 = .ok (.iastore, 1) := dk_79 (dk_at dksX7_aHive_1 13 rfl rfl)
theorem dX7_aHive_38 : decode cX7_aHive 38 = .ok (.aload_n 0, 1) := dk_42 (dk_at dksX7_aHive_1 14 rfl rfl)
theorem dX7_aHive_39 : decode cX7_aHive 39 = .ok (.ldc 165, 2) := dk_18 165 (dk_at dksX7_aHive_1 15 rfl rfl)
theorem dX7_aHive_41 : decode cX7_aHive 41 = .ok (.iconst 3, 1) := dk_6 (dk_at dksX7_aHive_1 17 rfl rfl)
theorem dX7_aHive_42 : decode cX7_aHive 42 = .ok (.invokevirtual 178, 3) := dk_182 0 178 (dk_at dksX7_aHive_1 18 rfl rfl)
theorem dX7_aHive_45 : decode cX7_aHive 45 = .ok (.ifCond .eq 37, 3) := dk_153 0 37 (dk_at dksX7_aHive_1 21 rfl rfl)
theorem dX7_aHive_48 : decode cX7_aHive 48 = .ok (.aload_n 0, 1) := dk_42 (dk_at dksX7_aHive_2 0 rfl rfl)
theorem dX7_aHive_49 : decode cX7_aHive 49 = .ok (.sipush 6145, 3) := dk_17 24 1 (dk_at dksX7_aHive_2 1 rfl rfl)
theorem dX7_aHive_52 : decode cX7_aHive 52 = .ok (.iconst 1, 1) := dk_4 (dk_at dksX7_aHive_2 4 rfl rfl)
theorem dX7_aHive_53 : decode cX7_aHive 53 = .ok (.iconst 3, 1) := dk_6 (dk_at dksX7_aHive_2 5 rfl rfl)
theorem dX7_aHive_54 : decode cX7_aHive 54 = .ok (.invokevirtual 182, 3) := dk_182 0 182 (dk_at dksX7_aHive_2 6 rfl rfl)
theorem dX7_aHive_57 : decode cX7_aHive 57 = .ok (.ifCond .eq 25, 3) := dk_153 0 25 (dk_at dksX7_aHive_2 9 rfl rfl)
theorem dX7_aHive_60 : decode cX7_aHive 60 = .ok (.aload_n 0, 1) := dk_42 (dk_at dksX7_aHive_2 12 rfl rfl)
theorem dX7_aHive_61 : decode cX7_aHive 61 = .ok (.ldc 165, 2) := dk_18 165 (dk_at dksX7_aHive_2 13 rfl rfl)
theorem dX7_aHive_63 : decode cX7_aHive 63 = .ok (.iconst 4, 1) := dk_7 (dk_at dksX7_aHive_2 15 rfl rfl)
theorem dX7_aHive_64 : decode cX7_aHive 64 = .ok (.invokevirtual 178, 3) := dk_182 0 178 (dk_at dksX7_aHive_2 16 rfl rfl)
theorem dX7_aHive_67 : decode cX7_aHive 67 = .ok (.ifCond .eq 15, 3) := dk_153 0 15 (dk_at dksX7_aHive_2 19 rfl rfl)
theorem dX7_aHive_70 : decode cX7_aHive 70 = .ok (.aload_n 0, 1) := dk_42 (dk_at dksX7_aHive_2 22 rfl rfl)
theorem dX7_aHive_71 : decode cX7_aHive 71 = .ok (.sipush 6146, 3) := dk_17 24 2 (dk_at dksX7_aHive_3 0 rfl rfl)
theorem dX7_aHive_74 : decode cX7_aHive 74 = .ok (.iconst 1, 1) := dk_4 (dk_at dksX7_aHive_3 3 rfl rfl)
theorem dX7_aHive_75 : decode cX7_aHive 75 = .ok (.iconst 4, 1) := dk_7 (dk_at dksX7_aHive_3 4 rfl rfl)
theorem dX7_aHive_76 : decode cX7_aHive 76 = .ok (.invokevirtual 182, 3) := dk_182 0 182 (dk_at dksX7_aHive_3 5 rfl rfl)
theorem dX7_aHive_79 : decode cX7_aHive 79 = .ok (.ifCond .ne 5, 3) := dk_154 0 5 (dk_at dksX7_aHive_3 8 rfl rfl)
theorem dX7_aHive_82 : decode cX7_aHive 82 = .ok (.iconst 0, 1) := dk_3 (dk_at dksX7_aHive_3 11 rfl rfl)
theorem dX7_aHive_83 : decode cX7_aHive 83 = .ok (.ireturn, 1) := dk_172 (dk_at dksX7_aHive_3 12 rfl rfl)
theorem dX7_aHive_84 : decode cX7_aHive 84 = .ok (.aload_n 0, 1) := dk_42 (dk_at dksX7_aHive_3 13 rfl rfl)
theorem dX7_aHive_85 : decode cX7_aHive 85 = .ok (.getfield 7, 3) := dk_180 0 7 (dk_at dksX7_aHive_3 14 rfl rfl)
theorem dX7_aHive_88 : decode cX7_aHive 88 = .ok (.iload_n 1, 1) := dk_27 (dk_at dksX7_aHive_3 17 rfl rfl)
theorem dX7_aHive_89 : decode cX7_aHive 89 = .ok (.aload_n 0, 1) := dk_42 (dk_at dksX7_aHive_3 18 rfl rfl)
theorem dX7_aHive_90 : decode cX7_aHive 90 = .ok (.getfield 7, 3) := dk_180 0 7 (dk_at dksX7_aHive_3 19 rfl rfl)
theorem dX7_aHive_93 : decode cX7_aHive 93 = .ok (.sipush 6145, 3) := dk_17 24 1 (dk_at dksX7_aHive_4 0 rfl rfl)
theorem dX7_aHive_96 : decode cX7_aHive 96 = .ok (.iaload, 1) := dk_46 (dk_at dksX7_aHive_4 3 rfl rfl)
theorem dX7_aHive_97 : decode cX7_aHive 97 = .ok (.aload_n 0, 1) := dk_42 (dk_at dksX7_aHive_4 4 rfl rfl)
theorem dX7_aHive_98 : decode cX7_aHive 98 = .ok (.getfield 7, 3) := dk_180 0 7 (dk_at dksX7_aHive_4 5 rfl rfl)
theorem dX7_aHive_101 : decode cX7_aHive 101 = .ok (.sipush 6146, 3) := dk_17 24 2 (dk_at dksX7_aHive_4 8 rfl rfl)
theorem dX7_aHive_104 : decode cX7_aHive 104 = .ok (.iaload, 1) := dk_46 (dk_at dksX7_aHive_4 11 rfl rfl)
theorem dX7_aHive_105 : decode cX7_aHive 105 = .ok (.imul, 1) := dk_104 (dk_at dksX7_aHive_4 12 rfl rfl)
theorem dX7_aHive_106 : decode cX7_aHive 106 = .ok (.iastore, 1) := dk_79 (dk_at dksX7_aHive_4 13 rfl rfl)
theorem dX7_aHive_107 : decode cX7_aHive 107 = .ok (.aload_n 0, 1) := dk_42 (dk_at dksX7_aHive_4 14 rfl rfl)
theorem dX7_aHive_108 : decode cX7_aHive 108 = .ok (.ldc 165, 2) := dk_18 165 (dk_at dksX7_aHive_4 15 rfl rfl)
theorem dX7_aHive_110 : decode cX7_aHive 110 = .ok (.iconst 5, 1) := dk_8 (dk_at dksX7_aHive_4 17 rfl rfl)
theorem dX7_aHive_111 : decode cX7_aHive 111 = .ok (.invokevirtual 178, 3) := dk_182 0 178 (dk_at dksX7_aHive_4 18 rfl rfl)
theorem dX7_aHive_114 : decode cX7_aHive 114 = .ok (.ifCond .eq 17, 3) := dk_153 0 17 (dk_at dksX7_aHive_4 21 rfl rfl)
theorem dX7_aHive_117 : decode cX7_aHive 117 = .ok (.aload_n 0, 1) := dk_42 (dk_at dksX7_aHive_5 0 rfl rfl)
theorem dX7_aHive_118 : decode cX7_aHive 118 = .ok (.iload_n 1, 1) := dk_27 (dk_at dksX7_aHive_5 1 rfl rfl)
theorem dX7_aHive_119 : decode cX7_aHive 119 = .ok (.iconst 1, 1) := dk_4 (dk_at dksX7_aHive_5 2 rfl rfl)
theorem dX7_aHive_120 : decode cX7_aHive 120 = .ok (.iadd, 1) := dk_96 (dk_at dksX7_aHive_5 3 rfl rfl)
theorem dX7_aHive_121 : decode cX7_aHive 121 = .ok (.iconst 0, 1) := dk_3 (dk_at dksX7_aHive_5 4 rfl rfl)
theorem dX7_aHive_122 : decode cX7_aHive 122 = .ok (.sipush 9999, 3) := dk_17 39 15 (dk_at dksX7_aHive_5 5 rfl rfl)
theorem dX7_aHive_125 : decode cX7_aHive 125 = .ok (.invokevirtual 182, 3) := dk_182 0 182 (dk_at dksX7_aHive_5 8 rfl rfl)
theorem dX7_aHive_128 : decode cX7_aHive 128 = .ok (.ifCond .ne 5, 3) := dk_154 0 5 (dk_at dksX7_aHive_5 11 rfl rfl)
theorem dX7_aHive_131 : decode cX7_aHive 131 = .ok (.iconst 0, 1) := dk_3 (dk_at dksX7_aHive_5 14 rfl rfl)
theorem dX7_aHive_132 : decode cX7_aHive 132 = .ok (.ireturn, 1) := dk_172 (dk_at dksX7_aHive_5 15 rfl rfl)
theorem dX7_aHive_133 : decode cX7_aHive 133 = .ok (.aload_n 0, 1) := dk_42 (dk_at dksX7_aHive_5 16 rfl rfl)
theorem dX7_aHive_134 : decode cX7_aHive 134 = .ok (.getfield 7, 3) := dk_180 0 7 (dk_at dksX7_aHive_5 17 rfl rfl)
theorem dX7_aHive_137 : decode cX7_aHive 137 = .ok (.sipush 6145, 3) := dk_17 24 1 (dk_at dksX7_aHive_5 20 rfl rfl)
theorem dX7_aHive_140 : decode cX7_aHive 140 = .ok (.iconst 0, 1) := dk_3 (dk_at dksX7_aHive_5 23 rfl rfl)
theorem dX7_aHive_141 : decode cX7_aHive 141 = .ok (.iastore, 1) := dk_79 (dk_at dksX7_aHive_6 0 rfl rfl)
theorem dX7_aHive_142 : decode cX7_aHive 142 = .ok (.aload_n 0, 1) := dk_42 (dk_at dksX7_aHive_6 1 rfl rfl)
theorem dX7_aHive_143 : decode cX7_aHive 143 = .ok (.bipush 6, 2) := dk_16 6 (dk_at dksX7_aHive_6 2 rfl rfl)
theorem dX7_aHive_145 : decode cX7_aHive 145 = .ok (.invokevirtual 185, 3) := dk_182 0 185 (dk_at dksX7_aHive_6 4 rfl rfl)
theorem dX7_aHive_148 : decode cX7_aHive 148 = .ok (.ifCond .eq 25, 3) := dk_153 0 25 (dk_at dksX7_aHive_6 7 rfl rfl)
theorem dX7_aHive_151 : decode cX7_aHive 151 = .ok (.aload_n 0, 1) := dk_42 (dk_at dksX7_aHive_6 10 rfl rfl)
theorem dX7_aHive_152 : decode cX7_aHive 152 = .ok (.sipush 6145, 3) := dk_17 24 1 (dk_at dksX7_aHive_6 11 rfl rfl)
theorem dX7_aHive_155 : decode cX7_aHive 155 = .ok (.iconst 0, 1) := dk_3 (dk_at dksX7_aHive_6 14 rfl rfl)
theorem dX7_aHive_156 : decode cX7_aHive 156 = .ok (.bipush 16, 2) := dk_16 16 (dk_at dksX7_aHive_6 15 rfl rfl)
theorem dX7_aHive_158 : decode cX7_aHive 158 = .ok (.aload_n 0, 1) := dk_42 (dk_at dksX7_aHive_6 17 rfl rfl)
theorem dX7_aHive_159 : decode cX7_aHive 159 = .ok (.getfield 7, 3) := dk_180 0 7 (dk_at dksX7_aHive_6 18 rfl rfl)
theorem dX7_aHive_162 : decode cX7_aHive 162 = .ok (.iload_n 1, 1) := dk_27 (dk_at dksX7_aHive_6 21 rfl rfl)
theorem dX7_aHive_163 : decode cX7_aHive 163 = .ok (.iaload, 1) := dk_46 (dk_at dksX7_aHive_6 22 rfl rfl)
theorem dX7_aHive_164 : decode cX7_aHive 164 = .ok (.imul, 1) := dk_104 (dk_at dksX7_aHive_6 23 rfl rfl)
theorem dX7_aHive_165 : decode cX7_aHive 165 = .ok (.invokevirtual 182, 3) := dk_182 0 182 (dk_at dksX7_aHive_7 0 rfl rfl)
theorem dX7_aHive_168 : decode cX7_aHive 168 = .ok (.ifCond .ne 5, 3) := dk_154 0 5 (dk_at dksX7_aHive_7 3 rfl rfl)
theorem dX7_aHive_171 : decode cX7_aHive 171 = .ok (.iconst 0, 1) := dk_3 (dk_at dksX7_aHive_7 6 rfl rfl)
theorem dX7_aHive_172 : decode cX7_aHive 172 = .ok (.ireturn, 1) := dk_172 (dk_at dksX7_aHive_7 7 rfl rfl)
theorem dX7_aHive_173 : decode cX7_aHive 173 = .ok (.aload_n 0, 1) := dk_42 (dk_at dksX7_aHive_7 8 rfl rfl)
theorem dX7_aHive_174 : decode cX7_aHive 174 = .ok (.getfield 7, 3) := dk_180 0 7 (dk_at dksX7_aHive_7 9 rfl rfl)
theorem dX7_aHive_177 : decode cX7_aHive 177 = .ok (.sipush 4924, 3) := dk_17 19 60 (dk_at dksX7_aHive_7 12 rfl rfl)
theorem dX7_aHive_180 : decode cX7_aHive 180 = .ok (.dup2, 1) := dk_92 (dk_at dksX7_aHive_7 15 rfl rfl)
theorem dX7_aHive_181 : decode cX7_aHive 181 = .ok (.iaload, 1) := dk_46 (dk_at dksX7_aHive_7 16 rfl rfl)
theorem dX7_aHive_182 : decode cX7_aHive 182 = .ok (.bipush 100, 2) := dk_16 100 (dk_at dksX7_aHive_7 17 rfl rfl)
theorem dX7_aHive_184 : decode cX7_aHive 184 = .ok (.aload_n 0, 1) := dk_42 (dk_at dksX7_aHive_7 19 rfl rfl)
theorem dX7_aHive_185 : decode cX7_aHive 185 = .ok (.getfield 7, 3) := dk_180 0 7 (dk_at dksX7_aHive_7 20 rfl rfl)
theorem dX7_aHive_188 : decode cX7_aHive 188 = .ok (.sipush 6145, 3) := dk_17 24 1 (dk_at dksX7_aHive_8 0 rfl rfl)
theorem dX7_aHive_191 : decode cX7_aHive 191 = .ok (.iaload, 1) := dk_46 (dk_at dksX7_aHive_8 3 rfl rfl)
theorem dX7_aHive_192 : decode cX7_aHive 192 = .ok (.imul, 1) := dk_104 (dk_at dksX7_aHive_8 4 rfl rfl)
theorem dX7_aHive_193 : decode cX7_aHive 193 = .ok (.iadd, 1) := dk_96 (dk_at dksX7_aHive_8 5 rfl rfl)
theorem dX7_aHive_194 : decode cX7_aHive 194 = .ok (.iastore, 1) := dk_79 (dk_at dksX7_aHive_8 6 rfl rfl)
theorem dX7_aHive_195 : decode cX7_aHive 195 = .ok (.aload_n 0, 1) := dk_42 (dk_at dksX7_aHive_8 7 rfl rfl)
theorem dX7_aHive_196 : decode cX7_aHive 196 = .ok (.iload_n 1, 1) := dk_27 (dk_at dksX7_aHive_8 8 rfl rfl)
theorem dX7_aHive_197 : decode cX7_aHive 197 = .ok (.bipush 100, 2) := dk_16 100 (dk_at dksX7_aHive_8 9 rfl rfl)
theorem dX7_aHive_199 : decode cX7_aHive 199 = .ok (.aload_n 0, 1) := dk_42 (dk_at dksX7_aHive_8 11 rfl rfl)
theorem dX7_aHive_200 : decode cX7_aHive 200 = .ok (.getfield 7, 3) := dk_180 0 7 (dk_at dksX7_aHive_8 12 rfl rfl)
theorem dX7_aHive_203 : decode cX7_aHive 203 = .ok (.sipush 6145, 3) := dk_17 24 1 (dk_at dksX7_aHive_8 15 rfl rfl)
theorem dX7_aHive_206 : decode cX7_aHive 206 = .ok (.iaload, 1) := dk_46 (dk_at dksX7_aHive_8 18 rfl rfl)
theorem dX7_aHive_207 : decode cX7_aHive 207 = .ok (.imul, 1) := dk_104 (dk_at dksX7_aHive_8 19 rfl rfl)
theorem dX7_aHive_208 : decode cX7_aHive 208 = .ok (.invokevirtual 188, 3) := dk_182 0 188 (dk_at dksX7_aHive_8 20 rfl rfl)
theorem dX7_aHive_211 : decode cX7_aHive 211 = .ok (.pop, 1) := dk_87 (dk_at dksX7_aHive_8 23 rfl rfl)
theorem dX7_aHive_212 : decode cX7_aHive 212 = .ok (.aload_n 0, 1) := dk_42 (dk_at dksX7_aHive_9 0 rfl rfl)
theorem dX7_aHive_213 : decode cX7_aHive 213 = .ok (.getfield 7, 3) := dk_180 0 7 (dk_at dksX7_aHive_9 1 rfl rfl)
theorem dX7_aHive_216 : decode cX7_aHive 216 = .ok (.sipush 4920, 3) := dk_17 19 56 (dk_at dksX7_aHive_9 4 rfl rfl)
theorem dX7_aHive_219 : decode cX7_aHive 219 = .ok (.dup2, 1) := dk_92 (dk_at dksX7_aHive_9 7 rfl rfl)
theorem dX7_aHive_220 : decode cX7_aHive 220 = .ok (.iaload, 1) := dk_46 (dk_at dksX7_aHive_9 8 rfl rfl)
theorem dX7_aHive_221 : decode cX7_aHive 221 = .ok (.iconst 1, 1) := dk_4 (dk_at dksX7_aHive_9 9 rfl rfl)
theorem dX7_aHive_222 : decode cX7_aHive 222 = .ok (.iadd, 1) := dk_96 (dk_at dksX7_aHive_9 10 rfl rfl)
theorem dX7_aHive_223 : decode cX7_aHive 223 = .ok (.iastore, 1) := dk_79 (dk_at dksX7_aHive_9 11 rfl rfl)
theorem dX7_aHive_224 : decode cX7_aHive 224 = .ok (.iconst 1, 1) := dk_4 (dk_at dksX7_aHive_9 12 rfl rfl)
theorem dX7_aHive_225 : decode cX7_aHive 225 = .ok (.ireturn, 1) := dk_172 (dk_at dksX7_aHive_9 13 rfl rfl)
def dkwX7_newOne_5 : List UInt8 := [27, 96, 46, 96, 42, 182, 0, 161, 80, 42, 182, 0, 148, 4, 172]
abbrev dktX7_newOne_5 : List UInt8 := dkwX7_newOne_5 ++ []
def dkwX7_newOne_4 : List UInt8 := [159, 0, 9, 42, 6, 182, 0, 154, 172, 42, 180, 0, 13, 16, 80, 29, 96, 42, 180, 0, 7, 17, 19, 56]
abbrev dktX7_newOne_4 : List UInt8 := dkwX7_newOne_4 ++ dktX7_newOne_5
def dkwX7_newOne_3 : List UInt8 := [46, 182, 0, 171, 2, 160, 0, 21, 42, 16, 92, 42, 180, 0, 7, 17, 19, 57, 46, 182, 0, 171, 2]
abbrev dktX7_newOne_3 : List UInt8 := dkwX7_newOne_3 ++ dktX7_newOne_4
def dkwX7_newOne_2 : List UInt8 := [180, 0, 7, 17, 19, 56, 46, 182, 0, 171, 2, 160, 0, 39, 42, 16, 84, 42, 180, 0, 7, 17, 19, 58]
abbrev dktX7_newOne_2 : List UInt8 := dkwX7_newOne_2 ++ dktX7_newOne_3
def dkwX7_newOne_1 : List UInt8 := [182, 0, 148, 42, 18, 165, 182, 0, 167, 154, 0, 9, 42, 5, 182, 0, 154, 172, 42, 16, 80, 42]
abbrev dktX7_newOne_1 : List UInt8 := dkwX7_newOne_1 ++ dktX7_newOne_2
def dkwX7_newOne_0 : List UInt8 := [42, 180, 0, 7, 17, 19, 56, 27, 96, 46, 28, 160, 0, 10, 42, 16, 6, 182, 0, 154, 172, 42]
abbrev dktX7_newOne_0 : List UInt8 := dkwX7_newOne_0 ++ dktX7_newOne_1
theorem dksX7_newOne_0 : cX7_newOne.data.toList.drop 0 = dktX7_newOne_0 := by decide +kernel
theorem dksX7_newOne_1 : cX7_newOne.data.toList.drop 22 = dktX7_newOne_1 := dk_seg dksX7_newOne_0 22 rfl rfl
theorem dksX7_newOne_2 : cX7_newOne.data.toList.drop 44 = dktX7_newOne_2 := dk_seg dksX7_newOne_1 22 rfl rfl
theorem dksX7_newOne_3 : cX7_newOne.data.toList.drop 68 = dktX7_newOne_3 := dk_seg dksX7_newOne_2 24 rfl rfl
theorem dksX7_newOne_4 : cX7_newOne.data.toList.drop 91 = dktX7_newOne_4 := dk_seg dksX7_newOne_3 23 rfl rfl
theorem dksX7_newOne_5 : cX7_newOne.data.toList.drop 115 = dktX7_newOne_5 := dk_seg dksX7_newOne_4 24 rfl rfl
theorem dX7_newOne_0 : decode cX7_newOne 0 = .ok (.aload_n 0, 1) := dk_42 (dk_at dksX7_newOne_0 0 rfl rfl)
theorem dX7_newOne_1 : decode cX7_newOne 1 = .ok (.getfield 7, 3) := dk_180 0 7 (dk_at dksX7_newOne_0 1 rfl rfl)
theorem dX7_newOne_4 : decode cX7_newOne 4 = .ok (.sipush 4920, 3) := dk_17 19 56 (dk_at dksX7_newOne_0 4 rfl rfl)
theorem dX7_newOne_7 : decode cX7_newOne 7 = .ok (.iload_n 1, 1) := dk_27 (dk_at dksX7_newOne_0 7 rfl rfl)
theorem dX7_newOne_8 : decode cX7_newOne 8 = .ok (.iadd, 1) := dk_96 (dk_at dksX7_newOne_0 8 rfl rfl)
theorem dX7_newOne_9 : decode cX7_newOne 9 = .ok (.iaload, 1) := dk_46 (dk_at dksX7_newOne_0 9 rfl rfl)
theorem dX7_newOne_10 : decode cX7_newOne 10 = .ok (.iload_n 2, 1) := dk_28 (dk_at dksX7_newOne_0 10 rfl rfl)
theorem dX7_newOne_11 : decode cX7_newOne 11 = .ok (.if_icmp .ne 10, 3) := dk_160 0 10 (dk_at dksX7_newOne_0 11 rfl rfl)
theorem dX7_newOne_14 : decode cX7_newOne 14 = .ok (.aload_n 0, 1) := dk_42 (dk_at dksX7_newOne_0 14 rfl rfl)
theorem dX7_newOne_15 : decode cX7_newOne 15 = .ok (.bipush 6, 2) := dk_16 6 (dk_at dksX7_newOne_0 15 rfl rfl)
theorem dX7_newOne_17 : decode cX7_newOne 17 = .ok (.invokevirtual 154, 3) := dk_182 0 154 (dk_at dksX7_newOne_0 17 rfl rfl)
theorem dX7_newOne_20 : decode cX7_newOne 20 = .ok (.ireturn, 1) := dk_172 (dk_at dksX7_newOne_0 20 rfl rfl)
theorem dX7_newOne_21 : decode cX7_newOne 21 = .ok (.aload_n 0, 1) := dk_42 (dk_at dksX7_newOne_0 21 rfl rfl)
theorem dX7_newOne_22 : decode cX7_newOne 22 = .ok (.invokevirtual 148, 3) := dk_182 0 148 (dk_at dksX7_newOne_1 0 rfl rfl)
theorem dX7_newOne_25 : decode cX7_newOne 25 = .ok (.aload_n 0, 1) := dk_42 (dk_at dksX7_newOne_1 3 rfl rfl)
theorem dX7_newOne_26 : decode cX7_newOne 26 = .ok (.ldc 165, 2) := dk_18 165 (dk_at dksX7_newOne_1 4 rfl rfl)
theorem dX7_newOne_28 : decode cX7_newOne 28 = .ok (.invokevirtual 167, 3) := dk_182 0 167 (dk_at dksX7_newOne_1 6 rfl rfl)
theorem dX7_newOne_31 : decode cX7_newOne 31 = .ok (.ifCond .ne 9, 3) := dk_154 0 9 (dk_at dksX7_newOne_1 9 rfl rfl)
theorem dX7_newOne_34 : decode cX7_newOne 34 = .ok (.aload_n 0, 1) := dk_42 (dk_at dksX7_newOne_1 12 rfl rfl)
theorem dX7_newOne_35 : decode cX7_newOne 35 = .ok (.iconst 2, 1) := dk_5 (dk_at dksX7_newOne_1 13 rfl rfl)
theorem dX7_newOne_36 : decode cX7_newOne 36 = .ok (.invokevirtual 154, 3) := dk_182 0 154 (dk_at dksX7_newOne_1 14 rfl rfl)
theorem dX7_newOne_39 : decode cX7_newOne 39 = .ok (.ireturn, 1) := dk_172 (dk_at dksX7_newOne_1 17 rfl rfl)
theorem dX7_newOne_40 : decode cX7_newOne 40 = .ok (.aload_n 0, 1) := dk_42 (dk_at dksX7_newOne_1 18 rfl rfl)
theorem dX7_newOne_41 : decode cX7_newOne 41 = .ok (.bipush 80, 2) := dk_16 80 (dk_at dksX7_newOne_1 19 rfl rfl)
theorem dX7_newOne_43 : decode cX7_newOne 43 = .ok (.aload_n 0, 1) := dk_42 (dk_at dksX7_newOne_1 21 rfl rfl)
theorem dX7_newOne_44 : decode cX7_newOne 44 = .ok (.getfield 7, 3) := dk_180 0 7 (dk_at dksX7_newOne_2 0 rfl rfl)
theorem dX7_newOne_47 : decode cX7_newOne 47 = .ok (.sipush 4920, 3) := dk_17 19 56 (dk_at dksX7_newOne_2 3 rfl rfl)
theorem dX7_newOne_50 : decode cX7_newOne 50 = .ok (.iaload, 1) := dk_46 (dk_at dksX7_newOne_2 6 rfl rfl)
theorem dX7_newOne_51 : decode cX7_newOne 51 = .ok (.invokevirtual 171, 3) := dk_182 0 171 (dk_at dksX7_newOne_2 7 rfl rfl)
theorem dX7_newOne_54 : decode cX7_newOne 54 = .ok (.iconst (-1), 1) := dk_2 (dk_at dksX7_newOne_2 10 rfl rfl)
theorem dX7_newOne_55 : decode cX7_newOne 55 = .ok (.if_icmp .ne 39, 3) := dk_160 0 39 (dk_at dksX7_newOne_2 11 rfl rfl)
theorem dX7_newOne_58 : decode cX7_newOne 58 = .ok (.aload_n 0, 1) := dk_42 (dk_at dksX7_newOne_2 14 rfl rfl)
theorem dX7_newOne_59 : decode cX7_newOne 59 = .ok (.bipush 84, 2) := dk_16 84 (dk_at dksX7_newOne_2 15 rfl rfl)
theorem dX7_newOne_61 : decode cX7_newOne 61 = .ok (.aload_n 0, 1) := dk_42 (dk_at dksX7_newOne_2 17 rfl rfl)
theorem dX7_newOne_62 : decode cX7_newOne 62 = .ok (.getfield 7, 3) := dk_180 0 7 (dk_at dksX7_newOne_2 18 rfl rfl)
theorem dX7_newOne_65 : decode cX7_newOne 65 = .ok (.sipush 4922, 3) := dk_17 19 58 (dk_at dksX7_newOne_2 21 rfl rfl)
theorem dX7_newOne_68 : decode cX7_newOne 68 = .ok (.iaload, 1) := dk_46 (dk_at dksX7_newOne_3 0 rfl rfl)
theorem dX7_newOne_69 : decode cX7_newOne 69 = .ok (.invokevirtual 171, 3) := dk_182 0 171 (dk_at dksX7_newOne_3 1 rfl rfl)
theorem dX7_newOne_72 : decode cX7_newOne 72 = .ok (.iconst (-1), 1) := dk_2 (dk_at dksX7_newOne_3 4 rfl rfl)
theorem dX7_newOne_73 : decode cX7_newOne 73 = .ok (.if_icmp .ne 21, 3) := dk_160 0 21 (dk_at dksX7_newOne_3 5 rfl rfl)
theorem dX7_newOne_76 : decode cX7_newOne 76 = .ok (.aload_n 0, 1) := dk_42 (dk_at dksX7_newOne_3 8 rfl rfl)
theorem dX7_newOne_77 : decode cX7_newOne 77 = .ok (.bipush 92, 2) := dk_16 92 (dk_at dksX7_newOne_3 9 rfl rfl)
theorem dX7_newOne_79 : decode cX7_newOne 79 = .ok (.aload_n 0, 1) := dk_42 (dk_at dksX7_newOne_3 11 rfl rfl)
theorem dX7_newOne_80 : decode cX7_newOne 80 = .ok (.getfield 7, 3) := dk_180 0 7 (dk_at dksX7_newOne_3 12 rfl rfl)
theorem dX7_newOne_83 : decode cX7_newOne 83 = .ok (.sipush 4921, 3) := dk_17 19 57 (dk_at dksX7_newOne_3 15 rfl rfl)
theorem dX7_newOne_86 : decode cX7_newOne 86 = .ok (.iaload, 1) := dk_46 (dk_at dksX7_newOne_3 18 rfl rfl)
theorem dX7_newOne_87 : decode cX7_newOne 87 = .ok (.invokevirtual 171, 3) := dk_182 0 171 (dk_at dksX7_newOne_3 19 rfl rfl)
theorem dX7_newOne_90 : decode cX7_newOne 90 = .ok (.iconst (-1), 1) := dk_2 (dk_at dksX7_newOne_3 22 rfl rfl)
theorem dX7_newOne_91 : decode cX7_newOne 91 = .ok (.if_icmp .eq 9, 3) := dk_159 0 9 (dk_at dksX7_newOne_4 0 rfl rfl)
theorem dX7_newOne_94 : decode cX7_newOne 94 = .ok (.aload_n 0, 1) := dk_42 (dk_at dksX7_newOne_4 3 rfl rfl)
theorem dX7_newOne_95 : decode cX7_newOne 95 = .ok (.iconst 3, 1) := dk_6 (dk_at dksX7_newOne_4 4 rfl rfl)
theorem dX7_newOne_96 : decode cX7_newOne 96 = .ok (.invokevirtual 154, 3) := dk_182 0 154 (dk_at dksX7_newOne_4 5 rfl rfl)
theorem dX7_newOne_99 : decode cX7_newOne 99 = .ok (.ireturn, 1) := dk_172 (dk_at dksX7_newOne_4 8 rfl rfl)
theorem dX7_newOne_100 : decode cX7_newOne 100 = .ok (.aload_n 0, 1) := dk_42 (dk_at dksX7_newOne_4 9 rfl rfl)
theorem dX7_newOne_101 : decode cX7_newOne 101 = .ok (.getfield 13, 3) := dk_180 0 13 (dk_at dksX7_newOne_4 10 rfl rfl)
theorem dX7_newOne_104 : decode cX7_newOne 104 = .ok (.bipush 80, 2) := dk_16 80 (dk_at dksX7_newOne_4 13 rfl rfl)
theorem dX7_newOne_106 : decode cX7_newOne 106 = .ok (.iload_n 3, 1) := dk_29 (dk_at dksX7_newOne_4 15 rfl rfl)
theorem dX7_newOne_107 : decode cX7_newOne 107 = .ok (.iadd, 1) := dk_96 (dk_at dksX7_newOne_4 16 rfl rfl)
theorem dX7_newOne_108 : decode cX7_newOne 108 = .ok (.aload_n 0, 1) := dk_42 (dk_at dksX7_newOne_4 17 rfl rfl)
theorem dX7_newOne_109 : decode cX7_newOne 109 = .ok (.getfield 7, 3) := dk_180 0 7 (dk_at dksX7_newOne_4 18 rfl rfl)
theorem dX7_newOne_112 : decode cX7_newOne 112 = .ok (.sipush 4920, 3) := dk_17 19 56 (dk_at dksX7_newOne_4 21 rfl rfl)
theorem dX7_newOne_115 : decode cX7_newOne 115 = .ok (.iload_n 1, 1) := dk_27 (dk_at dksX7_newOne_5 0 rfl rfl)
theorem dX7_newOne_116 : decode cX7_newOne 116 = .ok (.iadd, 1) := dk_96 (dk_at dksX7_newOne_5 1 rfl rfl)
theorem dX7_newOne_117 : decode cX7_newOne 117 = .ok (.iaload, 1) := dk_46 (dk_at dksX7_newOne_5 2 rfl rfl)
theorem dX7_newOne_118 : decode cX7_newOne 118 = .ok (.iadd, 1) := dk_96 (dk_at dksX7_newOne_5 3 rfl rfl)
theorem dX7_newOne_119 : decode cX7_newOne 119 = .ok (.aload_n 0, 1) := dk_42 (dk_at dksX7_newOne_5 4 rfl rfl)
theorem dX7_newOne_120 : decode cX7_newOne 120 = .ok (.invokevirtual 161, 3) := dk_182 0 161 (dk_at dksX7_newOne_5 5 rfl rfl)
theorem dX7_newOne_123 : decode cX7_newOne 123 = .ok (.lastore, 1) := dk_80 (dk_at dksX7_newOne_5 8 rfl rfl)
theorem dX7_newOne_124 : decode cX7_newOne 124 = .ok (.aload_n 0, 1) := dk_42 (dk_at dksX7_newOne_5 9 rfl rfl)
theorem dX7_newOne_125 : decode cX7_newOne 125 = .ok (.invokevirtual 148, 3) := dk_182 0 148 (dk_at dksX7_newOne_5 10 rfl rfl)
theorem dX7_newOne_128 : decode cX7_newOne 128 = .ok (.iconst 1, 1) := dk_4 (dk_at dksX7_newOne_5 13 rfl rfl)
theorem dX7_newOne_129 : decode cX7_newOne 129 = .ok (.ireturn, 1) := dk_172 (dk_at dksX7_newOne_5 14 rfl rfl)
def dkwX7_fails_1 : List UInt8 := [42, 42, 180, 0, 111, 181, 0, 41, 3, 172]
abbrev dktX7_fails_1 : List UInt8 := dkwX7_fails_1 ++ []
def dkwX7_fails_0 : List UInt8 := [42, 180, 0, 142, 154, 0, 28, 42, 42, 180, 0, 117, 4, 160, 0, 7, 4, 167, 0, 4, 27, 181, 0, 142]
abbrev dktX7_fails_0 : List UInt8 := dkwX7_fails_0 ++ dktX7_fails_1
theorem dksX7_fails_0 : cX7_fails.data.toList.drop 0 = dktX7_fails_0 := by decide +kernel
theorem dksX7_fails_1 : cX7_fails.data.toList.drop 24 = dktX7_fails_1 := dk_seg dksX7_fails_0 24 rfl rfl
theorem dX7_fails_0 : decode cX7_fails 0 = .ok (.aload_n 0, 1) := dk_42 (dk_at dksX7_fails_0 0 rfl rfl)
theorem dX7_fails_1 : decode cX7_fails 1 = .ok (.getfield 142, 3) := dk_180 0 142 (dk_at dksX7_fails_0 1 rfl rfl)
theorem dX7_fails_4 : decode cX7_fails 4 = .ok (.ifCond .ne 28, 3) := dk_154 0 28 (dk_at dksX7_fails_0 4 rfl rfl)
theorem dX7_fails_7 : decode cX7_fails 7 = .ok (.aload_n 0, 1) := dk_42 (dk_at dksX7_fails_0 7 rfl rfl)
theorem dX7_fails_8 : decode cX7_fails 8 = .ok (.aload_n 0, 1) := dk_42 (dk_at dksX7_fails_0 8 rfl rfl)
theorem dX7_fails_9 : decode cX7_fails 9 = .ok (.getfield 117, 3) := dk_180 0 117 (dk_at dksX7_fails_0 9 rfl rfl)
theorem dX7_fails_12 : decode cX7_fails 12 = .ok (.iconst 1, 1) := dk_4 (dk_at dksX7_fails_0 12 rfl rfl)
theorem dX7_fails_13 : decode cX7_fails 13 = .ok (.if_icmp .ne 7, 3) := dk_160 0 7 (dk_at dksX7_fails_0 13 rfl rfl)
theorem dX7_fails_16 : decode cX7_fails 16 = .ok (.iconst 1, 1) := dk_4 (dk_at dksX7_fails_0 16 rfl rfl)
theorem dX7_fails_17 : decode cX7_fails 17 = .ok (.goto 4, 3) := dk_167 0 4 (dk_at dksX7_fails_0 17 rfl rfl)
theorem dX7_fails_20 : decode cX7_fails 20 = .ok (.iload_n 1, 1) := dk_27 (dk_at dksX7_fails_0 20 rfl rfl)
theorem dX7_fails_21 : decode cX7_fails 21 = .ok (.putfield 142, 3) := dk_181 0 142 (dk_at dksX7_fails_0 21 rfl rfl)
theorem dX7_fails_24 : decode cX7_fails 24 = .ok (.aload_n 0, 1) := dk_42 (dk_at dksX7_fails_1 0 rfl rfl)
theorem dX7_fails_25 : decode cX7_fails 25 = .ok (.aload_n 0, 1) := dk_42 (dk_at dksX7_fails_1 1 rfl rfl)
theorem dX7_fails_26 : decode cX7_fails 26 = .ok (.getfield 111, 3) := dk_180 0 111 (dk_at dksX7_fails_1 2 rfl rfl)
theorem dX7_fails_29 : decode cX7_fails 29 = .ok (.putfield 41, 3) := dk_181 0 41 (dk_at dksX7_fails_1 5 rfl rfl)
theorem dX7_fails_32 : decode cX7_fails 32 = .ok (.iconst 0, 1) := dk_3 (dk_at dksX7_fails_1 8 rfl rfl)
theorem dX7_fails_33 : decode cX7_fails 33 = .ok (.ireturn, 1) := dk_172 (dk_at dksX7_fails_1 9 rfl rfl)
def dkwX7_isName_1 : List UInt8 := [182, 0, 157, 2, 160, 0, 7, 4, 167, 0, 4, 3, 172]
abbrev dktX7_isName_1 : List UInt8 := dkwX7_isName_1 ++ []
def dkwX7_isName_0 : List UInt8 := [42, 180, 0, 117, 5, 160, 0, 30, 42, 180, 0, 105, 42, 180, 0, 111, 100, 16, 8, 163, 0, 16, 42, 43]
abbrev dktX7_isName_0 : List UInt8 := dkwX7_isName_0 ++ dktX7_isName_1
theorem dksX7_isName_0 : cX7_isName.data.toList.drop 0 = dktX7_isName_0 := by decide +kernel
theorem dksX7_isName_1 : cX7_isName.data.toList.drop 24 = dktX7_isName_1 := dk_seg dksX7_isName_0 24 rfl rfl
theorem dX7_isName_0 : decode cX7_isName 0 = .ok (.aload_n 0, 1) := dk_42 (dk_at dksX7_isName_0 0 rfl rfl)
theorem dX7_isName_1 : decode cX7_isName 1 = .ok (.getfield 117, 3) := dk_180 0 117 (dk_at dksX7_isName_0 1 rfl rfl)
theorem dX7_isName_4 : decode cX7_isName 4 = .ok (.iconst 2, 1) := dk_5 (dk_at dksX7_isName_0 4 rfl rfl)
theorem dX7_isName_5 : decode cX7_isName 5 = .ok (.if_icmp .ne 30, 3) := dk_160 0 30 (dk_at dksX7_isName_0 5 rfl rfl)
theorem dX7_isName_8 : decode cX7_isName 8 = .ok (.aload_n 0, 1) := dk_42 (dk_at dksX7_isName_0 8 rfl rfl)
theorem dX7_isName_9 : decode cX7_isName 9 = .ok (.getfield 105, 3) := dk_180 0 105 (dk_at dksX7_isName_0 9 rfl rfl)
theorem dX7_isName_12 : decode cX7_isName 12 = .ok (.aload_n 0, 1) := dk_42 (dk_at dksX7_isName_0 12 rfl rfl)
theorem dX7_isName_13 : decode cX7_isName 13 = .ok (.getfield 111, 3) := dk_180 0 111 (dk_at dksX7_isName_0 13 rfl rfl)
theorem dX7_isName_16 : decode cX7_isName 16 = .ok (.isub, 1) := dk_100 (dk_at dksX7_isName_0 16 rfl rfl)
theorem dX7_isName_17 : decode cX7_isName 17 = .ok (.bipush 8, 2) := dk_16 8 (dk_at dksX7_isName_0 17 rfl rfl)
theorem dX7_isName_19 : decode cX7_isName 19 = .ok (.if_icmp .gt 16, 3) := dk_163 0 16 (dk_at dksX7_isName_0 19 rfl rfl)
theorem dX7_isName_22 : decode cX7_isName 22 = .ok (.aload_n 0, 1) := dk_42 (dk_at dksX7_isName_0 22 rfl rfl)
theorem dX7_isName_23 : decode cX7_isName 23 = .ok (.aload_n 1, 1) := dk_43 (dk_at dksX7_isName_0 23 rfl rfl)
theorem dX7_isName_24 : decode cX7_isName 24 = .ok (.invokevirtual 157, 3) := dk_182 0 157 (dk_at dksX7_isName_1 0 rfl rfl)
theorem dX7_isName_27 : decode cX7_isName 27 = .ok (.iconst (-1), 1) := dk_2 (dk_at dksX7_isName_1 3 rfl rfl)
theorem dX7_isName_28 : decode cX7_isName 28 = .ok (.if_icmp .ne 7, 3) := dk_160 0 7 (dk_at dksX7_isName_1 4 rfl rfl)
theorem dX7_isName_31 : decode cX7_isName 31 = .ok (.iconst 1, 1) := dk_4 (dk_at dksX7_isName_1 7 rfl rfl)
theorem dX7_isName_32 : decode cX7_isName 32 = .ok (.goto 4, 3) := dk_167 0 4 (dk_at dksX7_isName_1 8 rfl rfl)
theorem dX7_isName_35 : decode cX7_isName 35 = .ok (.iconst 0, 1) := dk_3 (dk_at dksX7_isName_1 11 rfl rfl)
theorem dX7_isName_36 : decode cX7_isName 36 = .ok (.ireturn, 1) := dk_172 (dk_at dksX7_isName_1 12 rfl rfl)
def dkwX7_findHere_1 : List UInt8 := [172, 132, 3, 1, 167, 255, 230, 2, 172]
abbrev dktX7_findHere_1 : List UInt8 := dkwX7_findHere_1 ++ []
def dkwX7_findHere_0 : List UInt8 := [3, 62, 29, 28, 162, 0, 27, 42, 180, 0, 13, 27, 29, 96, 47, 42, 182, 0, 161, 148, 154, 0, 5, 29]
abbrev dktX7_findHere_0 : List UInt8 := dkwX7_findHere_0 ++ dktX7_findHere_1
theorem dksX7_findHere_0 : cX7_findHere.data.toList.drop 0 = dktX7_findHere_0 := by decide +kernel
theorem dksX7_findHere_1 : cX7_findHere.data.toList.drop 24 = dktX7_findHere_1 := dk_seg dksX7_findHere_0 24 rfl rfl
theorem dX7_findHere_0 : decode cX7_findHere 0 = .ok (.iconst 0, 1) := dk_3 (dk_at dksX7_findHere_0 0 rfl rfl)
theorem dX7_findHere_1 : decode cX7_findHere 1 = .ok (.istore_n 3, 1) := dk_62 (dk_at dksX7_findHere_0 1 rfl rfl)
theorem dX7_findHere_2 : decode cX7_findHere 2 = .ok (.iload_n 3, 1) := dk_29 (dk_at dksX7_findHere_0 2 rfl rfl)
theorem dX7_findHere_3 : decode cX7_findHere 3 = .ok (.iload_n 2, 1) := dk_28 (dk_at dksX7_findHere_0 3 rfl rfl)
theorem dX7_findHere_4 : decode cX7_findHere 4 = .ok (.if_icmp .ge 27, 3) := dk_162 0 27 (dk_at dksX7_findHere_0 4 rfl rfl)
theorem dX7_findHere_7 : decode cX7_findHere 7 = .ok (.aload_n 0, 1) := dk_42 (dk_at dksX7_findHere_0 7 rfl rfl)
theorem dX7_findHere_8 : decode cX7_findHere 8 = .ok (.getfield 13, 3) := dk_180 0 13 (dk_at dksX7_findHere_0 8 rfl rfl)
theorem dX7_findHere_11 : decode cX7_findHere 11 = .ok (.iload_n 1, 1) := dk_27 (dk_at dksX7_findHere_0 11 rfl rfl)
theorem dX7_findHere_12 : decode cX7_findHere 12 = .ok (.iload_n 3, 1) := dk_29 (dk_at dksX7_findHere_0 12 rfl rfl)
theorem dX7_findHere_13 : decode cX7_findHere 13 = .ok (.iadd, 1) := dk_96 (dk_at dksX7_findHere_0 13 rfl rfl)
theorem dX7_findHere_14 : decode cX7_findHere 14 = .ok (.laload, 1) := dk_47 (dk_at dksX7_findHere_0 14 rfl rfl)
theorem dX7_findHere_15 : decode cX7_findHere 15 = .ok (.aload_n 0, 1) := dk_42 (dk_at dksX7_findHere_0 15 rfl rfl)
theorem dX7_findHere_16 : decode cX7_findHere 16 = .ok (.invokevirtual 161, 3) := dk_182 0 161 (dk_at dksX7_findHere_0 16 rfl rfl)
theorem dX7_findHere_19 : decode cX7_findHere 19 = .ok (.lcmp, 1) := dk_148 (dk_at dksX7_findHere_0 19 rfl rfl)
theorem dX7_findHere_20 : decode cX7_findHere 20 = .ok (.ifCond .ne 5, 3) := dk_154 0 5 (dk_at dksX7_findHere_0 20 rfl rfl)
theorem dX7_findHere_23 : decode cX7_findHere 23 = .ok (.iload_n 3, 1) := dk_29 (dk_at dksX7_findHere_0 23 rfl rfl)
theorem dX7_findHere_24 : decode cX7_findHere 24 = .ok (.ireturn, 1) := dk_172 (dk_at dksX7_findHere_1 0 rfl rfl)
theorem dX7_findHere_25 : decode cX7_findHere 25 = .ok (.iinc 3 1, 3) := dk_132 3 1 (dk_at dksX7_findHere_1 1 rfl rfl)
theorem dX7_findHere_28 : decode cX7_findHere 28 = .ok (.goto (-26), 3) := dk_167 255 230 (dk_at dksX7_findHere_1 4 rfl rfl)
theorem dX7_findHere_31 : decode cX7_findHere 31 = .ok (.iconst (-1), 1) := dk_2 (dk_at dksX7_findHere_1 7 rfl rfl)
theorem dX7_findHere_32 : decode cX7_findHere 32 = .ok (.ireturn, 1) := dk_172 (dk_at dksX7_findHere_1 8 rfl rfl)
def dkwX7_nameHere_1 : List UInt8 := [133, 129, 64, 132, 3, 1, 167, 255, 233, 31, 173]
abbrev dktX7_nameHere_1 : List UInt8 := dkwX7_nameHere_1 ++ []
def dkwX7_nameHere_0 : List UInt8 := [9, 64, 42, 180, 0, 111, 62, 29, 42, 180, 0, 105, 162, 0, 21, 31, 16, 8, 121, 42, 29, 182, 0, 108]
abbrev dktX7_nameHere_0 : List UInt8 := dkwX7_nameHere_0 ++ dktX7_nameHere_1
theorem dksX7_nameHere_0 : cX7_nameHere.data.toList.drop 0 = dktX7_nameHere_0 := by decide +kernel
theorem dksX7_nameHere_1 : cX7_nameHere.data.toList.drop 24 = dktX7_nameHere_1 := dk_seg dksX7_nameHere_0 24 rfl rfl
theorem dX7_nameHere_0 : decode cX7_nameHere 0 = .ok (.lconst 0, 1) := dk_9 (dk_at dksX7_nameHere_0 0 rfl rfl)
theorem dX7_nameHere_1 : decode cX7_nameHere 1 = .ok (.lstore_n 1, 1) := dk_64 (dk_at dksX7_nameHere_0 1 rfl rfl)
theorem dX7_nameHere_2 : decode cX7_nameHere 2 = .ok (.aload_n 0, 1) := dk_42 (dk_at dksX7_nameHere_0 2 rfl rfl)
theorem dX7_nameHere_3 : decode cX7_nameHere 3 = .ok (.getfield 111, 3) := dk_180 0 111 (dk_at dksX7_nameHere_0 3 rfl rfl)
theorem dX7_nameHere_6 : decode cX7_nameHere 6 = .ok (.istore_n 3, 1) := dk_62 (dk_at dksX7_nameHere_0 6 rfl rfl)
theorem dX7_nameHere_7 : decode cX7_nameHere 7 = .ok (.iload_n 3, 1) := dk_29 (dk_at dksX7_nameHere_0 7 rfl rfl)
theorem dX7_nameHere_8 : decode cX7_nameHere 8 = .ok (.aload_n 0, 1) := dk_42 (dk_at dksX7_nameHere_0 8 rfl rfl)
theorem dX7_nameHere_9 : decode cX7_nameHere 9 = .ok (.getfield 105, 3) := dk_180 0 105 (dk_at dksX7_nameHere_0 9 rfl rfl)
theorem dX7_nameHere_12 : decode cX7_nameHere 12 = .ok (.if_icmp .ge 21, 3) := dk_162 0 21 (dk_at dksX7_nameHere_0 12 rfl rfl)
theorem dX7_nameHere_15 : decode cX7_nameHere 15 = .ok (.lload_n 1, 1) := dk_31 (dk_at dksX7_nameHere_0 15 rfl rfl)
theorem dX7_nameHere_16 : decode cX7_nameHere 16 = .ok (.bipush 8, 2) := dk_16 8 (dk_at dksX7_nameHere_0 16 rfl rfl)
theorem dX7_nameHere_18 : decode cX7_nameHere 18 = .ok (.lshl, 1) := dk_121 (dk_at dksX7_nameHere_0 18 rfl rfl)
theorem dX7_nameHere_19 : decode cX7_nameHere 19 = .ok (.aload_n 0, 1) := dk_42 (dk_at dksX7_nameHere_0 19 rfl rfl)
theorem dX7_nameHere_20 : decode cX7_nameHere 20 = .ok (.iload_n 3, 1) := dk_29 (dk_at dksX7_nameHere_0 20 rfl rfl)
theorem dX7_nameHere_21 : decode cX7_nameHere 21 = .ok (.invokevirtual 108, 3) := dk_182 0 108 (dk_at dksX7_nameHere_0 21 rfl rfl)
theorem dX7_nameHere_24 : decode cX7_nameHere 24 = .ok (.i2l, 1) := dk_133 (dk_at dksX7_nameHere_1 0 rfl rfl)
theorem dX7_nameHere_25 : decode cX7_nameHere 25 = .ok (.lor, 1) := dk_129 (dk_at dksX7_nameHere_1 1 rfl rfl)
theorem dX7_nameHere_26 : decode cX7_nameHere 26 = .ok (.lstore_n 1, 1) := dk_64 (dk_at dksX7_nameHere_1 2 rfl rfl)
theorem dX7_nameHere_27 : decode cX7_nameHere 27 = .ok (.iinc 3 1, 3) := dk_132 3 1 (dk_at dksX7_nameHere_1 3 rfl rfl)
theorem dX7_nameHere_30 : decode cX7_nameHere 30 = .ok (.goto (-23), 3) := dk_167 255 233 (dk_at dksX7_nameHere_1 6 rfl rfl)
theorem dX7_nameHere_33 : decode cX7_nameHere 33 = .ok (.lload_n 1, 1) := dk_31 (dk_at dksX7_nameHere_1 9 rfl rfl)
theorem dX7_nameHere_34 : decode cX7_nameHere 34 = .ok (.lreturn, 1) := dk_173 (dk_at dksX7_nameHere_1 10 rfl rfl)
def dkwX7_wantWord_0 : List UInt8 := [42, 43, 182, 0, 157, 28, 159, 0, 9, 42, 5, 182, 0, 154, 172, 42, 182, 0, 148, 4, 172]
abbrev dktX7_wantWord_0 : List UInt8 := dkwX7_wantWord_0 ++ []
theorem dksX7_wantWord_0 : cX7_wantWord.data.toList.drop 0 = dktX7_wantWord_0 := by decide +kernel
theorem dX7_wantWord_0 : decode cX7_wantWord 0 = .ok (.aload_n 0, 1) := dk_42 (dk_at dksX7_wantWord_0 0 rfl rfl)
theorem dX7_wantWord_1 : decode cX7_wantWord 1 = .ok (.aload_n 1, 1) := dk_43 (dk_at dksX7_wantWord_0 1 rfl rfl)
theorem dX7_wantWord_2 : decode cX7_wantWord 2 = .ok (.invokevirtual 157, 3) := dk_182 0 157 (dk_at dksX7_wantWord_0 2 rfl rfl)
theorem dX7_wantWord_5 : decode cX7_wantWord 5 = .ok (.iload_n 2, 1) := dk_28 (dk_at dksX7_wantWord_0 5 rfl rfl)
theorem dX7_wantWord_6 : decode cX7_wantWord 6 = .ok (.if_icmp .eq 9, 3) := dk_159 0 9 (dk_at dksX7_wantWord_0 6 rfl rfl)
theorem dX7_wantWord_9 : decode cX7_wantWord 9 = .ok (.aload_n 0, 1) := dk_42 (dk_at dksX7_wantWord_0 9 rfl rfl)
theorem dX7_wantWord_10 : decode cX7_wantWord 10 = .ok (.iconst 2, 1) := dk_5 (dk_at dksX7_wantWord_0 10 rfl rfl)
theorem dX7_wantWord_11 : decode cX7_wantWord 11 = .ok (.invokevirtual 154, 3) := dk_182 0 154 (dk_at dksX7_wantWord_0 11 rfl rfl)
theorem dX7_wantWord_14 : decode cX7_wantWord 14 = .ok (.ireturn, 1) := dk_172 (dk_at dksX7_wantWord_0 14 rfl rfl)
theorem dX7_wantWord_15 : decode cX7_wantWord 15 = .ok (.aload_n 0, 1) := dk_42 (dk_at dksX7_wantWord_0 15 rfl rfl)
theorem dX7_wantWord_16 : decode cX7_wantWord 16 = .ok (.invokevirtual 148, 3) := dk_182 0 148 (dk_at dksX7_wantWord_0 16 rfl rfl)
theorem dX7_wantWord_19 : decode cX7_wantWord 19 = .ok (.iconst 1, 1) := dk_4 (dk_at dksX7_wantWord_0 19 rfl rfl)
theorem dX7_wantWord_20 : decode cX7_wantWord 20 = .ok (.ireturn, 1) := dk_172 (dk_at dksX7_wantWord_0 20 rfl rfl)
def dkwX7_number_2 : List UInt8 := [182, 0, 148, 4, 172]
abbrev dktX7_number_2 : List UInt8 := dkwX7_number_2 ++ []
def dkwX7_number_1 : List UInt8 := [180, 0, 114, 29, 164, 0, 9, 42, 7, 182, 0, 154, 172, 42, 180, 0, 7, 27, 42, 180, 0, 114, 79, 42]
abbrev dktX7_number_1 : List UInt8 := dkwX7_number_1 ++ dktX7_number_2
def dkwX7_number_0 : List UInt8 := [42, 180, 0, 117, 6, 159, 0, 9, 42, 5, 182, 0, 154, 172, 42, 180, 0, 114, 28, 161, 0, 11, 42]
abbrev dktX7_number_0 : List UInt8 := dkwX7_number_0 ++ dktX7_number_1
theorem dksX7_number_0 : cX7_number.data.toList.drop 0 = dktX7_number_0 := by decide +kernel
theorem dksX7_number_1 : cX7_number.data.toList.drop 23 = dktX7_number_1 := dk_seg dksX7_number_0 23 rfl rfl
theorem dksX7_number_2 : cX7_number.data.toList.drop 47 = dktX7_number_2 := dk_seg dksX7_number_1 24 rfl rfl
theorem dX7_number_0 : decode cX7_number 0 = .ok (.aload_n 0, 1) := dk_42 (dk_at dksX7_number_0 0 rfl rfl)
theorem dX7_number_1 : decode cX7_number 1 = .ok (.getfield 117, 3) := dk_180 0 117 (dk_at dksX7_number_0 1 rfl rfl)
theorem dX7_number_4 : decode cX7_number 4 = .ok (.iconst 3, 1) := dk_6 (dk_at dksX7_number_0 4 rfl rfl)
theorem dX7_number_5 : decode cX7_number 5 = .ok (.if_icmp .eq 9, 3) := dk_159 0 9 (dk_at dksX7_number_0 5 rfl rfl)
theorem dX7_number_8 : decode cX7_number 8 = .ok (.aload_n 0, 1) := dk_42 (dk_at dksX7_number_0 8 rfl rfl)
theorem dX7_number_9 : decode cX7_number 9 = .ok (.iconst 2, 1) := dk_5 (dk_at dksX7_number_0 9 rfl rfl)
theorem dX7_number_10 : decode cX7_number 10 = .ok (.invokevirtual 154, 3) := dk_182 0 154 (dk_at dksX7_number_0 10 rfl rfl)
theorem dX7_number_13 : decode cX7_number 13 = .ok (.ireturn, 1) := dk_172 (dk_at dksX7_number_0 13 rfl rfl)
theorem dX7_number_14 : decode cX7_number 14 = .ok (.aload_n 0, 1) := dk_42 (dk_at dksX7_number_0 14 rfl rfl)
theorem dX7_number_15 : decode cX7_number 15 = .ok (.getfield 114, 3) := dk_180 0 114 (dk_at dksX7_number_0 15 rfl rfl)
theorem dX7_number_18 : decode cX7_number 18 = .ok (.iload_n 2, 1) := dk_28 (dk_at dksX7_number_0 18 rfl rfl)
theorem dX7_number_19 : decode cX7_number 19 = .ok (.if_icmp .lt 11, 3) := dk_161 0 11 (dk_at dksX7_number_0 19 rfl rfl)
theorem dX7_number_22 : decode cX7_number 22 = .ok (.aload_n 0, 1) := dk_42 (dk_at dksX7_number_0 22 rfl rfl)
theorem dX7_number_23 : decode cX7_number 23 = .ok (.getfield 114, 3) := dk_180 0 114 (dk_at dksX7_number_1 0 rfl rfl)
theorem dX7_number_26 : decode cX7_number 26 = .ok (.iload_n 3, 1) := dk_29 (dk_at dksX7_number_1 3 rfl rfl)
theorem dX7_number_27 : decode cX7_number 27 = .ok (.if_icmp .le 9, 3) := dk_164 0 9 (dk_at dksX7_number_1 4 rfl rfl)
theorem dX7_number_30 : decode cX7_number 30 = .ok (.aload_n 0, 1) := dk_42 (dk_at dksX7_number_1 7 rfl rfl)
theorem dX7_number_31 : decode cX7_number 31 = .ok (.iconst 4, 1) := dk_7 (dk_at dksX7_number_1 8 rfl rfl)
theorem dX7_number_32 : decode cX7_number 32 = .ok (.invokevirtual 154, 3) := dk_182 0 154 (dk_at dksX7_number_1 9 rfl rfl)
theorem dX7_number_35 : decode cX7_number 35 = .ok (.ireturn, 1) := dk_172 (dk_at dksX7_number_1 12 rfl rfl)
theorem dX7_number_36 : decode cX7_number 36 = .ok (.aload_n 0, 1) := dk_42 (dk_at dksX7_number_1 13 rfl rfl)
theorem dX7_number_37 : decode cX7_number 37 = .ok (.getfield 7, 3) := dk_180 0 7 (dk_at dksX7_number_1 14 rfl rfl)
theorem dX7_number_40 : decode cX7_number 40 = .ok (.iload_n 1, 1) := dk_27 (dk_at dksX7_number_1 17 rfl rfl)
theorem dX7_number_41 : decode cX7_number 41 = .ok (.aload_n 0, 1) := dk_42 (dk_at dksX7_number_1 18 rfl rfl)
theorem dX7_number_42 : decode cX7_number 42 = .ok (.getfield 114, 3) := dk_180 0 114 (dk_at dksX7_number_1 19 rfl rfl)
theorem dX7_number_45 : decode cX7_number 45 = .ok (.iastore, 1) := dk_79 (dk_at dksX7_number_1 22 rfl rfl)
theorem dX7_number_46 : decode cX7_number 46 = .ok (.aload_n 0, 1) := dk_42 (dk_at dksX7_number_1 23 rfl rfl)
theorem dX7_number_47 : decode cX7_number 47 = .ok (.invokevirtual 148, 3) := dk_182 0 148 (dk_at dksX7_number_2 0 rfl rfl)
theorem dX7_number_50 : decode cX7_number 50 = .ok (.iconst 1, 1) := dk_4 (dk_at dksX7_number_2 3 rfl rfl)
theorem dX7_number_51 : decode cX7_number 51 = .ok (.ireturn, 1) := dk_172 (dk_at dksX7_number_2 4 rfl rfl)
def dkwX7_isThere_0 : List UInt8 := [42, 18, 165, 182, 0, 157, 27, 159, 0, 5, 3, 172, 42, 182, 0, 148, 4, 172]
abbrev dktX7_isThere_0 : List UInt8 := dkwX7_isThere_0 ++ []
theorem dksX7_isThere_0 : cX7_isThere.data.toList.drop 0 = dktX7_isThere_0 := by decide +kernel
theorem dX7_isThere_0 : decode cX7_isThere 0 = .ok (.aload_n 0, 1) := dk_42 (dk_at dksX7_isThere_0 0 rfl rfl)
theorem dX7_isThere_1 : decode cX7_isThere 1 = .ok (.ldc 165, 2) := dk_18 165 (dk_at dksX7_isThere_0 1 rfl rfl)
theorem dX7_isThere_3 : decode cX7_isThere 3 = .ok (.invokevirtual 157, 3) := dk_182 0 157 (dk_at dksX7_isThere_0 3 rfl rfl)
theorem dX7_isThere_6 : decode cX7_isThere 6 = .ok (.iload_n 1, 1) := dk_27 (dk_at dksX7_isThere_0 6 rfl rfl)
theorem dX7_isThere_7 : decode cX7_isThere 7 = .ok (.if_icmp .eq 5, 3) := dk_159 0 5 (dk_at dksX7_isThere_0 7 rfl rfl)
theorem dX7_isThere_10 : decode cX7_isThere 10 = .ok (.iconst 0, 1) := dk_3 (dk_at dksX7_isThere_0 10 rfl rfl)
theorem dX7_isThere_11 : decode cX7_isThere 11 = .ok (.ireturn, 1) := dk_172 (dk_at dksX7_isThere_0 11 rfl rfl)
theorem dX7_isThere_12 : decode cX7_isThere 12 = .ok (.aload_n 0, 1) := dk_42 (dk_at dksX7_isThere_0 12 rfl rfl)
theorem dX7_isThere_13 : decode cX7_isThere 13 = .ok (.invokevirtual 148, 3) := dk_182 0 148 (dk_at dksX7_isThere_0 13 rfl rfl)
theorem dX7_isThere_16 : decode cX7_isThere 16 = .ok (.iconst 1, 1) := dk_4 (dk_at dksX7_isThere_0 16 rfl rfl)
theorem dX7_isThere_17 : decode cX7_isThere 17 = .ok (.ireturn, 1) := dk_172 (dk_at dksX7_isThere_0 17 rfl rfl)
def dkwX7_stores_4 : List UInt8 := [132, 4, 255, 167, 255, 187, 29, 172]
abbrev dktX7_stores_4 : List UInt8 := dkwX7_stores_4 ++ []
def dkwX7_stores_3 : List UInt8 := [184, 0, 127, 54, 6, 42, 180, 0, 7, 21, 5, 92, 46, 21, 6, 96, 79, 29, 21, 6, 100, 62]
abbrev dktX7_stores_3 : List UInt8 := dkwX7_stores_3 ++ dktX7_stores_4
def dkwX7_stores_2 : List UInt8 := [21, 5, 46, 16, 100, 161, 0, 6, 167, 0, 36, 29, 16, 100, 42, 180, 0, 7, 21, 5, 46, 100]
abbrev dktX7_stores_2 : List UInt8 := dkwX7_stores_2 ++ dktX7_stores_3
def dkwX7_stores_1 : List UInt8 := [54, 4, 21, 4, 155, 0, 70, 29, 158, 0, 66, 42, 27, 21, 4, 182, 0, 250, 54, 5, 42, 180, 0, 7]
abbrev dktX7_stores_1 : List UInt8 := dkwX7_stores_1 ++ dktX7_stores_2
def dkwX7_stores_0 : List UInt8 := [28, 62, 42, 42, 180, 0, 7, 27, 46, 182, 0, 247, 16, 16, 42, 180, 0, 7, 27, 46, 104, 4, 100]
abbrev dktX7_stores_0 : List UInt8 := dkwX7_stores_0 ++ dktX7_stores_1
theorem dksX7_stores_0 : cX7_stores.data.toList.drop 0 = dktX7_stores_0 := by decide +kernel
theorem dksX7_stores_1 : cX7_stores.data.toList.drop 23 = dktX7_stores_1 := dk_seg dksX7_stores_0 23 rfl rfl
theorem dksX7_stores_2 : cX7_stores.data.toList.drop 47 = dktX7_stores_2 := dk_seg dksX7_stores_1 24 rfl rfl
theorem dksX7_stores_3 : cX7_stores.data.toList.drop 69 = dktX7_stores_3 := dk_seg dksX7_stores_2 22 rfl rfl
theorem dksX7_stores_4 : cX7_stores.data.toList.drop 91 = dktX7_stores_4 := dk_seg dksX7_stores_3 22 rfl rfl
theorem dX7_stores_0 : decode cX7_stores 0 = .ok (.iload_n 2, 1) := dk_28 (dk_at dksX7_stores_0 0 rfl rfl)
theorem dX7_stores_1 : decode cX7_stores 1 = .ok (.istore_n 3, 1) := dk_62 (dk_at dksX7_stores_0 1 rfl rfl)
theorem dX7_stores_2 : decode cX7_stores 2 = .ok (.aload_n 0, 1) := dk_42 (dk_at dksX7_stores_0 2 rfl rfl)
theorem dX7_stores_3 : decode cX7_stores 3 = .ok (.aload_n 0, 1) := dk_42 (dk_at dksX7_stores_0 3 rfl rfl)
theorem dX7_stores_4 : decode cX7_stores 4 = .ok (.getfield 7, 3) := dk_180 0 7 (dk_at dksX7_stores_0 4 rfl rfl)
theorem dX7_stores_7 : decode cX7_stores 7 = .ok (.iload_n 1, 1) := dk_27 (dk_at dksX7_stores_0 7 rfl rfl)
theorem dX7_stores_8 : decode cX7_stores 8 = .ok (.iaload, 1) := dk_46 (dk_at dksX7_stores_0 8 rfl rfl)
theorem dX7_stores_9 : decode cX7_stores 9 = .ok (.invokevirtual 247, 3) := dk_182 0 247 (dk_at dksX7_stores_0 9 rfl rfl)
theorem dX7_stores_12 : decode cX7_stores 12 = .ok (.bipush 16, 2) := dk_16 16 (dk_at dksX7_stores_0 12 rfl rfl)
theorem dX7_stores_14 : decode cX7_stores 14 = .ok (.aload_n 0, 1) := dk_42 (dk_at dksX7_stores_0 14 rfl rfl)
theorem dX7_stores_15 : decode cX7_stores 15 = .ok (.getfield 7, 3) := dk_180 0 7 (dk_at dksX7_stores_0 15 rfl rfl)
theorem dX7_stores_18 : decode cX7_stores 18 = .ok (.iload_n 1, 1) := dk_27 (dk_at dksX7_stores_0 18 rfl rfl)
theorem dX7_stores_19 : decode cX7_stores 19 = .ok (.iaload, 1) := dk_46 (dk_at dksX7_stores_0 19 rfl rfl)
theorem dX7_stores_20 : decode cX7_stores 20 = .ok (.imul, 1) := dk_104 (dk_at dksX7_stores_0 20 rfl rfl)
theorem dX7_stores_21 : decode cX7_stores 21 = .ok (.iconst 1, 1) := dk_4 (dk_at dksX7_stores_0 21 rfl rfl)
theorem dX7_stores_22 : decode cX7_stores 22 = .ok (.isub, 1) := dk_100 (dk_at dksX7_stores_0 22 rfl rfl)
theorem dX7_stores_23 : decode cX7_stores 23 = .ok (.istore 4, 2) := dk_54 4 (dk_at dksX7_stores_1 0 rfl rfl)
theorem dX7_stores_25 : decode cX7_stores 25 = .ok (.iload 4, 2) := dk_21 4 (dk_at dksX7_stores_1 2 rfl rfl)
theorem dX7_stores_27 : decode cX7_stores 27 = .ok (.ifCond .lt 70, 3) := dk_155 0 70 (dk_at dksX7_stores_1 4 rfl rfl)
theorem dX7_stores_30 : decode cX7_stores 30 = .ok (.iload_n 3, 1) := dk_29 (dk_at dksX7_stores_1 7 rfl rfl)
theorem dX7_stores_31 : decode cX7_stores 31 = .ok (.ifCond .le 66, 3) := dk_158 0 66 (dk_at dksX7_stores_1 8 rfl rfl)
theorem dX7_stores_34 : decode cX7_stores 34 = .ok (.aload_n 0, 1) := dk_42 (dk_at dksX7_stores_1 11 rfl rfl)
theorem dX7_stores_35 : decode cX7_stores 35 = .ok (.iload_n 1, 1) := dk_27 (dk_at dksX7_stores_1 12 rfl rfl)
theorem dX7_stores_36 : decode cX7_stores 36 = .ok (.iload 4, 2) := dk_21 4 (dk_at dksX7_stores_1 13 rfl rfl)
theorem dX7_stores_38 : decode cX7_stores 38 = .ok (.invokevirtual 250, 3) := dk_182 0 250 (dk_at dksX7_stores_1 15 rfl rfl)
theorem dX7_stores_41 : decode cX7_stores 41 = .ok (.istore 5, 2) := dk_54 5 (dk_at dksX7_stores_1 18 rfl rfl)
theorem dX7_stores_43 : decode cX7_stores 43 = .ok (.aload_n 0, 1) := dk_42 (dk_at dksX7_stores_1 20 rfl rfl)
theorem dX7_stores_44 : decode cX7_stores 44 = .ok (.getfield 7, 3) := dk_180 0 7 (dk_at dksX7_stores_1 21 rfl rfl)
theorem dX7_stores_47 : decode cX7_stores 47 = .ok (.iload 5, 2) := dk_21 5 (dk_at dksX7_stores_2 0 rfl rfl)
theorem dX7_stores_49 : decode cX7_stores 49 = .ok (.iaload, 1) := dk_46 (dk_at dksX7_stores_2 2 rfl rfl)
theorem dX7_stores_50 : decode cX7_stores 50 = .ok (.bipush 100, 2) := dk_16 100 (dk_at dksX7_stores_2 3 rfl rfl)
theorem dX7_stores_52 : decode cX7_stores 52 = .ok (.if_icmp .lt 6, 3) := dk_161 0 6 (dk_at dksX7_stores_2 5 rfl rfl)
theorem dX7_stores_55 : decode cX7_stores 55 = .ok (.goto 36, 3) := dk_167 0 36 (dk_at dksX7_stores_2 8 rfl rfl)
theorem dX7_stores_58 : decode cX7_stores 58 = .ok (.iload_n 3, 1) := dk_29 (dk_at dksX7_stores_2 11 rfl rfl)
theorem dX7_stores_59 : decode cX7_stores 59 = .ok (.bipush 100, 2) := dk_16 100 (dk_at dksX7_stores_2 12 rfl rfl)
theorem dX7_stores_61 : decode cX7_stores 61 = .ok (.aload_n 0, 1) := dk_42 (dk_at dksX7_stores_2 14 rfl rfl)
theorem dX7_stores_62 : decode cX7_stores 62 = .ok (.getfield 7, 3) := dk_180 0 7 (dk_at dksX7_stores_2 15 rfl rfl)
theorem dX7_stores_65 : decode cX7_stores 65 = .ok (.iload 5, 2) := dk_21 5 (dk_at dksX7_stores_2 18 rfl rfl)
theorem dX7_stores_67 : decode cX7_stores 67 = .ok (.iaload, 1) := dk_46 (dk_at dksX7_stores_2 20 rfl rfl)
theorem dX7_stores_68 : decode cX7_stores 68 = .ok (.isub, 1) := dk_100 (dk_at dksX7_stores_2 21 rfl rfl)
theorem dX7_stores_69 : decode cX7_stores 69 = .ok (.invokestatic 127, 3) := dk_184 0 127 (dk_at dksX7_stores_3 0 rfl rfl)
theorem dX7_stores_72 : decode cX7_stores 72 = .ok (.istore 6, 2) := dk_54 6 (dk_at dksX7_stores_3 3 rfl rfl)
theorem dX7_stores_74 : decode cX7_stores 74 = .ok (.aload_n 0, 1) := dk_42 (dk_at dksX7_stores_3 5 rfl rfl)
theorem dX7_stores_75 : decode cX7_stores 75 = .ok (.getfield 7, 3) := dk_180 0 7 (dk_at dksX7_stores_3 6 rfl rfl)
theorem dX7_stores_78 : decode cX7_stores 78 = .ok (.iload 5, 2) := dk_21 5 (dk_at dksX7_stores_3 9 rfl rfl)
theorem dX7_stores_80 : decode cX7_stores 80 = .ok (.dup2, 1) := dk_92 (dk_at dksX7_stores_3 11 rfl rfl)
theorem dX7_stores_81 : decode cX7_stores 81 = .ok (.iaload, 1) := dk_46 (dk_at dksX7_stores_3 12 rfl rfl)
theorem dX7_stores_82 : decode cX7_stores 82 = .ok (.iload 6, 2) := dk_21 6 (dk_at dksX7_stores_3 13 rfl rfl)
theorem dX7_stores_84 : decode cX7_stores 84 = .ok (.iadd, 1) := dk_96 (dk_at dksX7_stores_3 15 rfl rfl)
theorem dX7_stores_85 : decode cX7_stores 85 = .ok (.iastore, 1) := dk_79 (dk_at dksX7_stores_3 16 rfl rfl)
theorem dX7_stores_86 : decode cX7_stores 86 = .ok (.iload_n 3, 1) := dk_29 (dk_at dksX7_stores_3 17 rfl rfl)
theorem dX7_stores_87 : decode cX7_stores 87 = .ok (.iload 6, 2) := dk_21 6 (dk_at dksX7_stores_3 18 rfl rfl)
theorem dX7_stores_89 : decode cX7_stores 89 = .ok (.isub, 1) := dk_100 (dk_at dksX7_stores_3 20 rfl rfl)
theorem dX7_stores_90 : decode cX7_stores 90 = .ok (.istore_n 3, 1) := dk_62 (dk_at dksX7_stores_3 21 rfl rfl)
theorem dX7_stores_91 : decode cX7_stores 91 = .ok (.iinc 4 (-1), 3) := dk_132 4 255 (dk_at dksX7_stores_4 0 rfl rfl)
theorem dX7_stores_94 : decode cX7_stores 94 = .ok (.goto (-69), 3) := dk_167 255 187 (dk_at dksX7_stores_4 3 rfl rfl)
theorem dX7_stores_97 : decode cX7_stores 97 = .ok (.iload_n 3, 1) := dk_29 (dk_at dksX7_stores_4 6 rfl rfl)
theorem dX7_stores_98 : decode cX7_stores 98 = .ok (.ireturn, 1) := dk_172 (dk_at dksX7_stores_4 7 rfl rfl)
def dkwX7_laysFrames_1 : List UInt8 := [180, 0, 47, 28, 27, 28, 184, 0, 244, 79, 132, 2, 1, 167, 255, 237, 177]
abbrev dktX7_laysFrames_1 : List UInt8 := dkwX7_laysFrames_1 ++ []
def dkwX7_laysFrames_0 : List UInt8 := [42, 180, 0, 241, 27, 160, 0, 4, 177, 42, 27, 181, 0, 241, 3, 61, 28, 27, 162, 0, 20, 42]
abbrev dktX7_laysFrames_0 : List UInt8 := dkwX7_laysFrames_0 ++ dktX7_laysFrames_1
theorem dksX7_laysFrames_0 : cX7_laysFrames.data.toList.drop 0 = dktX7_laysFrames_0 := by decide +kernel
theorem dksX7_laysFrames_1 : cX7_laysFrames.data.toList.drop 22 = dktX7_laysFrames_1 := dk_seg dksX7_laysFrames_0 22 rfl rfl
theorem dX7_laysFrames_0 : decode cX7_laysFrames 0 = .ok (.aload_n 0, 1) := dk_42 (dk_at dksX7_laysFrames_0 0 rfl rfl)
theorem dX7_laysFrames_1 : decode cX7_laysFrames 1 = .ok (.getfield 241, 3) := dk_180 0 241 (dk_at dksX7_laysFrames_0 1 rfl rfl)
theorem dX7_laysFrames_4 : decode cX7_laysFrames 4 = .ok (.iload_n 1, 1) := dk_27 (dk_at dksX7_laysFrames_0 4 rfl rfl)
theorem dX7_laysFrames_5 : decode cX7_laysFrames 5 = .ok (.if_icmp .ne 4, 3) := dk_160 0 4 (dk_at dksX7_laysFrames_0 5 rfl rfl)
theorem dX7_laysFrames_8 : decode cX7_laysFrames 8 = .ok (.return_, 1) := dk_177 (dk_at dksX7_laysFrames_0 8 rfl rfl)
theorem dX7_laysFrames_9 : decode cX7_laysFrames 9 = .ok (.aload_n 0, 1) := dk_42 (dk_at dksX7_laysFrames_0 9 rfl rfl)
theorem dX7_laysFrames_10 : decode cX7_laysFrames 10 = .ok (.iload_n 1, 1) := dk_27 (dk_at dksX7_laysFrames_0 10 rfl rfl)
theorem dX7_laysFrames_11 : decode cX7_laysFrames 11 = .ok (.putfield 241, 3) := dk_181 0 241 (dk_at dksX7_laysFrames_0 11 rfl rfl)
theorem dX7_laysFrames_14 : decode cX7_laysFrames 14 = .ok (.iconst 0, 1) := dk_3 (dk_at dksX7_laysFrames_0 14 rfl rfl)
theorem dX7_laysFrames_15 : decode cX7_laysFrames 15 = .ok (.istore_n 2, 1) := dk_61 (dk_at dksX7_laysFrames_0 15 rfl rfl)
theorem dX7_laysFrames_16 : decode cX7_laysFrames 16 = .ok (.iload_n 2, 1) := dk_28 (dk_at dksX7_laysFrames_0 16 rfl rfl)
theorem dX7_laysFrames_17 : decode cX7_laysFrames 17 = .ok (.iload_n 1, 1) := dk_27 (dk_at dksX7_laysFrames_0 17 rfl rfl)
theorem dX7_laysFrames_18 : decode cX7_laysFrames 18 = .ok (.if_icmp .ge 20, 3) := dk_162 0 20 (dk_at dksX7_laysFrames_0 18 rfl rfl)
theorem dX7_laysFrames_21 : decode cX7_laysFrames 21 = .ok (.aload_n 0, 1) := dk_42 (dk_at dksX7_laysFrames_0 21 rfl rfl)
theorem dX7_laysFrames_22 : decode cX7_laysFrames 22 = .ok (.getfield 47, 3) := dk_180 0 47 (dk_at dksX7_laysFrames_1 0 rfl rfl)
theorem dX7_laysFrames_25 : decode cX7_laysFrames 25 = .ok (.iload_n 2, 1) := dk_28 (dk_at dksX7_laysFrames_1 3 rfl rfl)
theorem dX7_laysFrames_26 : decode cX7_laysFrames 26 = .ok (.iload_n 1, 1) := dk_27 (dk_at dksX7_laysFrames_1 4 rfl rfl)
theorem dX7_laysFrames_27 : decode cX7_laysFrames 27 = .ok (.iload_n 2, 1) := dk_28 (dk_at dksX7_laysFrames_1 5 rfl rfl)
theorem dX7_laysFrames_28 : decode cX7_laysFrames 28 = .ok (.invokestatic 244, 3) := dk_184 0 244 (dk_at dksX7_laysFrames_1 6 rfl rfl)
theorem dX7_laysFrames_31 : decode cX7_laysFrames 31 = .ok (.iastore, 1) := dk_79 (dk_at dksX7_laysFrames_1 9 rfl rfl)
theorem dX7_laysFrames_32 : decode cX7_laysFrames 32 = .ok (.iinc 2 1, 3) := dk_132 2 1 (dk_at dksX7_laysFrames_1 10 rfl rfl)
theorem dX7_laysFrames_35 : decode cX7_laysFrames 35 = .ok (.goto (-19), 3) := dk_167 255 237 (dk_at dksX7_laysFrames_1 13 rfl rfl)
theorem dX7_laysFrames_38 : decode cX7_laysFrames 38 = .ok (.return_, 1) := dk_177 (dk_at dksX7_laysFrames_1 16 rfl rfl)
def dkwX7_frameOf_2 : List UInt8 := [155, 0, 15, 29, 154, 0, 8, 28, 21, 4, 100, 172, 132, 3, 255, 132, 4, 1, 167, 255, 203, 2, 172]
abbrev dktX7_frameOf_2 : List UInt8 := dkwX7_frameOf_2 ++ []
def dkwX7_frameOf_1 : List UInt8 := [162, 0, 15, 29, 154, 0, 8, 28, 21, 4, 96, 172, 132, 3, 255, 21, 4, 158, 0, 22, 28, 21, 4, 100]
abbrev dktX7_frameOf_1 : List UInt8 := dkwX7_frameOf_1 ++ dktX7_frameOf_2
def dkwX7_frameOf_0 : List UInt8 := [26, 4, 100, 5, 108, 61, 27, 62, 3, 54, 4, 21, 4, 26, 163, 0, 53, 28, 21, 4, 96, 26]
abbrev dktX7_frameOf_0 : List UInt8 := dkwX7_frameOf_0 ++ dktX7_frameOf_1
theorem dksX7_frameOf_0 : cX7_frameOf.data.toList.drop 0 = dktX7_frameOf_0 := by decide +kernel
theorem dksX7_frameOf_1 : cX7_frameOf.data.toList.drop 22 = dktX7_frameOf_1 := dk_seg dksX7_frameOf_0 22 rfl rfl
theorem dksX7_frameOf_2 : cX7_frameOf.data.toList.drop 46 = dktX7_frameOf_2 := dk_seg dksX7_frameOf_1 24 rfl rfl
theorem dX7_frameOf_0 : decode cX7_frameOf 0 = .ok (.iload_n 0, 1) := dk_26 (dk_at dksX7_frameOf_0 0 rfl rfl)
theorem dX7_frameOf_1 : decode cX7_frameOf 1 = .ok (.iconst 1, 1) := dk_4 (dk_at dksX7_frameOf_0 1 rfl rfl)
theorem dX7_frameOf_2 : decode cX7_frameOf 2 = .ok (.isub, 1) := dk_100 (dk_at dksX7_frameOf_0 2 rfl rfl)
theorem dX7_frameOf_3 : decode cX7_frameOf 3 = .ok (.iconst 2, 1) := dk_5 (dk_at dksX7_frameOf_0 3 rfl rfl)
theorem dX7_frameOf_4 : decode cX7_frameOf 4 = .ok (.idiv, 1) := dk_108 (dk_at dksX7_frameOf_0 4 rfl rfl)
theorem dX7_frameOf_5 : decode cX7_frameOf 5 = .ok (.istore_n 2, 1) := dk_61 (dk_at dksX7_frameOf_0 5 rfl rfl)
theorem dX7_frameOf_6 : decode cX7_frameOf 6 = .ok (.iload_n 1, 1) := dk_27 (dk_at dksX7_frameOf_0 6 rfl rfl)
theorem dX7_frameOf_7 : decode cX7_frameOf 7 = .ok (.istore_n 3, 1) := dk_62 (dk_at dksX7_frameOf_0 7 rfl rfl)
theorem dX7_frameOf_8 : decode cX7_frameOf 8 = .ok (.iconst 0, 1) := dk_3 (dk_at dksX7_frameOf_0 8 rfl rfl)
theorem dX7_frameOf_9 : decode cX7_frameOf 9 = .ok (.istore 4, 2) := dk_54 4 (dk_at dksX7_frameOf_0 9 rfl rfl)
theorem dX7_frameOf_11 : decode cX7_frameOf 11 = .ok (.iload 4, 2) := dk_21 4 (dk_at dksX7_frameOf_0 11 rfl rfl)
theorem dX7_frameOf_13 : decode cX7_frameOf 13 = .ok (.iload_n 0, 1) := dk_26 (dk_at dksX7_frameOf_0 13 rfl rfl)
theorem dX7_frameOf_14 : decode cX7_frameOf 14 = .ok (.if_icmp .gt 53, 3) := dk_163 0 53 (dk_at dksX7_frameOf_0 14 rfl rfl)
theorem dX7_frameOf_17 : decode cX7_frameOf 17 = .ok (.iload_n 2, 1) := dk_28 (dk_at dksX7_frameOf_0 17 rfl rfl)
theorem dX7_frameOf_18 : decode cX7_frameOf 18 = .ok (.iload 4, 2) := dk_21 4 (dk_at dksX7_frameOf_0 18 rfl rfl)
theorem dX7_frameOf_20 : decode cX7_frameOf 20 = .ok (.iadd, 1) := dk_96 (dk_at dksX7_frameOf_0 20 rfl rfl)
theorem dX7_frameOf_21 : decode cX7_frameOf 21 = .ok (.iload_n 0, 1) := dk_26 (dk_at dksX7_frameOf_0 21 rfl rfl)
theorem dX7_frameOf_22 : decode cX7_frameOf 22 = .ok (.if_icmp .ge 15, 3) := dk_162 0 15 (dk_at dksX7_frameOf_1 0 rfl rfl)
theorem dX7_frameOf_25 : decode cX7_frameOf 25 = .ok (.iload_n 3, 1) := dk_29 (dk_at dksX7_frameOf_1 3 rfl rfl)
theorem dX7_frameOf_26 : decode cX7_frameOf 26 = .ok (.ifCond .ne 8, 3) := dk_154 0 8 (dk_at dksX7_frameOf_1 4 rfl rfl)
theorem dX7_frameOf_29 : decode cX7_frameOf 29 = .ok (.iload_n 2, 1) := dk_28 (dk_at dksX7_frameOf_1 7 rfl rfl)
theorem dX7_frameOf_30 : decode cX7_frameOf 30 = .ok (.iload 4, 2) := dk_21 4 (dk_at dksX7_frameOf_1 8 rfl rfl)
theorem dX7_frameOf_32 : decode cX7_frameOf 32 = .ok (.iadd, 1) := dk_96 (dk_at dksX7_frameOf_1 10 rfl rfl)
theorem dX7_frameOf_33 : decode cX7_frameOf 33 = .ok (.ireturn, 1) := dk_172 (dk_at dksX7_frameOf_1 11 rfl rfl)
theorem dX7_frameOf_34 : decode cX7_frameOf 34 = .ok (.iinc 3 (-1), 3) := dk_132 3 255 (dk_at dksX7_frameOf_1 12 rfl rfl)
theorem dX7_frameOf_37 : decode cX7_frameOf 37 = .ok (.iload 4, 2) := dk_21 4 (dk_at dksX7_frameOf_1 15 rfl rfl)
theorem dX7_frameOf_39 : decode cX7_frameOf 39 = .ok (.ifCond .le 22, 3) := dk_158 0 22 (dk_at dksX7_frameOf_1 17 rfl rfl)
theorem dX7_frameOf_42 : decode cX7_frameOf 42 = .ok (.iload_n 2, 1) := dk_28 (dk_at dksX7_frameOf_1 20 rfl rfl)
theorem dX7_frameOf_43 : decode cX7_frameOf 43 = .ok (.iload 4, 2) := dk_21 4 (dk_at dksX7_frameOf_1 21 rfl rfl)
theorem dX7_frameOf_45 : decode cX7_frameOf 45 = .ok (.isub, 1) := dk_100 (dk_at dksX7_frameOf_1 23 rfl rfl)
theorem dX7_frameOf_46 : decode cX7_frameOf 46 = .ok (.ifCond .lt 15, 3) := dk_155 0 15 (dk_at dksX7_frameOf_2 0 rfl rfl)
theorem dX7_frameOf_49 : decode cX7_frameOf 49 = .ok (.iload_n 3, 1) := dk_29 (dk_at dksX7_frameOf_2 3 rfl rfl)
theorem dX7_frameOf_50 : decode cX7_frameOf 50 = .ok (.ifCond .ne 8, 3) := dk_154 0 8 (dk_at dksX7_frameOf_2 4 rfl rfl)
theorem dX7_frameOf_53 : decode cX7_frameOf 53 = .ok (.iload_n 2, 1) := dk_28 (dk_at dksX7_frameOf_2 7 rfl rfl)
theorem dX7_frameOf_54 : decode cX7_frameOf 54 = .ok (.iload 4, 2) := dk_21 4 (dk_at dksX7_frameOf_2 8 rfl rfl)
theorem dX7_frameOf_56 : decode cX7_frameOf 56 = .ok (.isub, 1) := dk_100 (dk_at dksX7_frameOf_2 10 rfl rfl)
theorem dX7_frameOf_57 : decode cX7_frameOf 57 = .ok (.ireturn, 1) := dk_172 (dk_at dksX7_frameOf_2 11 rfl rfl)
theorem dX7_frameOf_58 : decode cX7_frameOf 58 = .ok (.iinc 3 (-1), 3) := dk_132 3 255 (dk_at dksX7_frameOf_2 12 rfl rfl)
theorem dX7_frameOf_61 : decode cX7_frameOf 61 = .ok (.iinc 4 1, 3) := dk_132 4 1 (dk_at dksX7_frameOf_2 15 rfl rfl)
theorem dX7_frameOf_64 : decode cX7_frameOf 64 = .ok (.goto (-53), 3) := dk_167 255 203 (dk_at dksX7_frameOf_2 18 rfl rfl)
theorem dX7_frameOf_67 : decode cX7_frameOf 67 = .ok (.iconst (-1), 1) := dk_2 (dk_at dksX7_frameOf_2 21 rfl rfl)
theorem dX7_frameOf_68 : decode cX7_frameOf 68 = .ok (.ireturn, 1) := dk_172 (dk_at dksX7_frameOf_2 22 rfl rfl)
def dkwX7_fieldOf_0 : List UInt8 := [27, 16, 6, 96, 16, 16, 42, 180, 0, 47, 28, 16, 16, 108, 46, 104, 96, 28, 16, 16, 112, 96, 172]
abbrev dktX7_fieldOf_0 : List UInt8 := dkwX7_fieldOf_0 ++ []
theorem dksX7_fieldOf_0 : cX7_fieldOf.data.toList.drop 0 = dktX7_fieldOf_0 := by decide +kernel
theorem dX7_fieldOf_0 : decode cX7_fieldOf 0 = .ok (.iload_n 1, 1) := dk_27 (dk_at dksX7_fieldOf_0 0 rfl rfl)
theorem dX7_fieldOf_1 : decode cX7_fieldOf 1 = .ok (.bipush 6, 2) := dk_16 6 (dk_at dksX7_fieldOf_0 1 rfl rfl)
theorem dX7_fieldOf_3 : decode cX7_fieldOf 3 = .ok (.iadd, 1) := dk_96 (dk_at dksX7_fieldOf_0 3 rfl rfl)
theorem dX7_fieldOf_4 : decode cX7_fieldOf 4 = .ok (.bipush 16, 2) := dk_16 16 (dk_at dksX7_fieldOf_0 4 rfl rfl)
theorem dX7_fieldOf_6 : decode cX7_fieldOf 6 = .ok (.aload_n 0, 1) := dk_42 (dk_at dksX7_fieldOf_0 6 rfl rfl)
theorem dX7_fieldOf_7 : decode cX7_fieldOf 7 = .ok (.getfield 47, 3) := dk_180 0 47 (dk_at dksX7_fieldOf_0 7 rfl rfl)
theorem dX7_fieldOf_10 : decode cX7_fieldOf 10 = .ok (.iload_n 2, 1) := dk_28 (dk_at dksX7_fieldOf_0 10 rfl rfl)
theorem dX7_fieldOf_11 : decode cX7_fieldOf 11 = .ok (.bipush 16, 2) := dk_16 16 (dk_at dksX7_fieldOf_0 11 rfl rfl)
theorem dX7_fieldOf_13 : decode cX7_fieldOf 13 = .ok (.idiv, 1) := dk_108 (dk_at dksX7_fieldOf_0 13 rfl rfl)
theorem dX7_fieldOf_14 : decode cX7_fieldOf 14 = .ok (.iaload, 1) := dk_46 (dk_at dksX7_fieldOf_0 14 rfl rfl)
theorem dX7_fieldOf_15 : decode cX7_fieldOf 15 = .ok (.imul, 1) := dk_104 (dk_at dksX7_fieldOf_0 15 rfl rfl)
theorem dX7_fieldOf_16 : decode cX7_fieldOf 16 = .ok (.iadd, 1) := dk_96 (dk_at dksX7_fieldOf_0 16 rfl rfl)
theorem dX7_fieldOf_17 : decode cX7_fieldOf 17 = .ok (.iload_n 2, 1) := dk_28 (dk_at dksX7_fieldOf_0 17 rfl rfl)
theorem dX7_fieldOf_18 : decode cX7_fieldOf 18 = .ok (.bipush 16, 2) := dk_16 16 (dk_at dksX7_fieldOf_0 18 rfl rfl)
theorem dX7_fieldOf_20 : decode cX7_fieldOf 20 = .ok (.irem, 1) := dk_112 (dk_at dksX7_fieldOf_0 20 rfl rfl)
theorem dX7_fieldOf_21 : decode cX7_fieldOf 21 = .ok (.iadd, 1) := dk_96 (dk_at dksX7_fieldOf_0 21 rfl rfl)
theorem dX7_fieldOf_22 : decode cX7_fieldOf 22 = .ok (.ireturn, 1) := dk_172 (dk_at dksX7_fieldOf_0 22 rfl rfl)
def dkwX7_aDrone_4 : List UInt8 := [180, 0, 7, 17, 19, 58, 92, 46, 4, 96, 79, 4, 172]
abbrev dktX7_aDrone_4 : List UInt8 := dkwX7_aDrone_4 ++ []
def dkwX7_aDrone_3 : List UInt8 := [42, 180, 0, 7, 17, 19, 69, 46, 79, 42, 180, 0, 7, 17, 19, 69, 92, 46, 4, 96, 79, 42]
abbrev dktX7_aDrone_3 : List UInt8 := dkwX7_aDrone_3 ++ dktX7_aDrone_4
def dkwX7_aDrone_2 : List UInt8 := [42, 180, 0, 7, 17, 19, 57, 46, 27, 182, 0, 191, 154, 0, 5, 3, 172, 42, 180, 0, 7, 27, 4, 96]
abbrev dktX7_aDrone_2 : List UInt8 := dkwX7_aDrone_2 ++ dktX7_aDrone_3
def dkwX7_aDrone_1 : List UInt8 := [154, 0, 5, 3, 172, 42, 180, 0, 7, 27, 2, 79, 42, 16, 7, 182, 0, 185, 153, 0, 23, 42, 16, 92]
abbrev dktX7_aDrone_1 : List UInt8 := dkwX7_aDrone_1 ++ dktX7_aDrone_2
def dkwX7_aDrone_0 : List UInt8 := [17, 19, 102, 5, 42, 180, 0, 7, 17, 19, 58, 46, 104, 96, 60, 42, 5, 16, 8, 7, 182, 0, 174]
abbrev dktX7_aDrone_0 : List UInt8 := dkwX7_aDrone_0 ++ dktX7_aDrone_1
theorem dksX7_aDrone_0 : cX7_aDrone.data.toList.drop 0 = dktX7_aDrone_0 := by decide +kernel
theorem dksX7_aDrone_1 : cX7_aDrone.data.toList.drop 23 = dktX7_aDrone_1 := dk_seg dksX7_aDrone_0 23 rfl rfl
theorem dksX7_aDrone_2 : cX7_aDrone.data.toList.drop 47 = dktX7_aDrone_2 := dk_seg dksX7_aDrone_1 24 rfl rfl
theorem dksX7_aDrone_3 : cX7_aDrone.data.toList.drop 71 = dktX7_aDrone_3 := dk_seg dksX7_aDrone_2 24 rfl rfl
theorem dksX7_aDrone_4 : cX7_aDrone.data.toList.drop 93 = dktX7_aDrone_4 := dk_seg dksX7_aDrone_3 22 rfl rfl
theorem dX7_aDrone_0 : decode cX7_aDrone 0 = .ok (.sipush 4966, 3) := dk_17 19 102 (dk_at dksX7_aDrone_0 0 rfl rfl)
theorem dX7_aDrone_3 : decode cX7_aDrone 3 = .ok (.iconst 2, 1) := dk_5 (dk_at dksX7_aDrone_0 3 rfl rfl)
theorem dX7_aDrone_4 : decode cX7_aDrone 4 = .ok (.aload_n 0, 1) := dk_42 (dk_at dksX7_aDrone_0 4 rfl rfl)
theorem dX7_aDrone_5 : decode cX7_aDrone 5 = .ok (.getfield 7, 3) := dk_180 0 7 (dk_at dksX7_aDrone_0 5 rfl rfl)
theorem dX7_aDrone_8 : decode cX7_aDrone 8 = .ok (.sipush 4922, 3) := dk_17 19 58 (dk_at dksX7_aDrone_0 8 rfl rfl)
theorem dX7_aDrone_11 : decode cX7_aDrone 11 = .ok (.iaload, 1) := dk_46 (dk_at dksX7_aDrone_0 11 rfl rfl)
theorem dX7_aDrone_12 : decode cX7_aDrone 12 = .ok (.imul, 1) := dk_104 (dk_at dksX7_aDrone_0 12 rfl rfl)
theorem dX7_aDrone_13 : decode cX7_aDrone 13 = .ok (.iadd, 1) := dk_96 (dk_at dksX7_aDrone_0 13 rfl rfl)
theorem dX7_aDrone_14 : decode cX7_aDrone 14 = .ok (.istore_n 1, 1) := dk_60 (dk_at dksX7_aDrone_0 14 rfl rfl)
theorem dX7_aDrone_15 : decode cX7_aDrone 15 = .ok (.aload_n 0, 1) := dk_42 (dk_at dksX7_aDrone_0 15 rfl rfl)
theorem dX7_aDrone_16 : decode cX7_aDrone 16 = .ok (.iconst 2, 1) := dk_5 (dk_at dksX7_aDrone_0 16 rfl rfl)
theorem dX7_aDrone_17 : decode cX7_aDrone 17 = .ok (.bipush 8, 2) := dk_16 8 (dk_at dksX7_aDrone_0 17 rfl rfl)
theorem dX7_aDrone_19 : decode cX7_aDrone 19 = .ok (.iconst 4, 1) := dk_7 (dk_at dksX7_aDrone_0 19 rfl rfl)
theorem dX7_aDrone_20 : decode cX7_aDrone 20 = .ok (.invokevirtual 174, 3) := dk_182 0 174 (dk_at dksX7_aDrone_0 20 rfl rfl)
theorem dX7_aDrone_23 : decode cX7_aDrone 23 = .ok (.ifCond .ne 5, 3) := dk_154 0 5 (dk_at dksX7_aDrone_1 0 rfl rfl)
theorem dX7_aDrone_26 : decode cX7_aDrone 26 = .ok (.iconst 0, 1) := dk_3 (dk_at dksX7_aDrone_1 3 rfl rfl)
theorem dX7_aDrone_27 : decode cX7_aDrone 27 = .ok (.ireturn, 1) := dk_172 (dk_at dksX7_aDrone_1 4 rfl rfl)
theorem dX7_aDrone_28 : decode cX7_aDrone 28 = .ok (.aload_n 0, 1) := dk_42 (dk_at dksX7_aDrone_1 5 rfl rfl)
theorem dX7_aDrone_29 : decode cX7_aDrone 29 = .ok (.getfield 7, 3) := dk_180 0 7 (dk_at dksX7_aDrone_1 6 rfl rfl)
theorem dX7_aDrone_32 : decode cX7_aDrone 32 = .ok (.iload_n 1, 1) := dk_27 (dk_at dksX7_aDrone_1 9 rfl rfl)
theorem dX7_aDrone_33 : decode cX7_aDrone 33 = .ok (.iconst (-1), 1) := dk_2 (dk_at dksX7_aDrone_1 10 rfl rfl)
theorem dX7_aDrone_34 : decode cX7_aDrone 34 = .ok (.iastore, 1) := dk_79 (dk_at dksX7_aDrone_1 11 rfl rfl)
theorem dX7_aDrone_35 : decode cX7_aDrone 35 = .ok (.aload_n 0, 1) := dk_42 (dk_at dksX7_aDrone_1 12 rfl rfl)
theorem dX7_aDrone_36 : decode cX7_aDrone 36 = .ok (.bipush 7, 2) := dk_16 7 (dk_at dksX7_aDrone_1 13 rfl rfl)
theorem dX7_aDrone_38 : decode cX7_aDrone 38 = .ok (.invokevirtual 185, 3) := dk_182 0 185 (dk_at dksX7_aDrone_1 15 rfl rfl)
theorem dX7_aDrone_41 : decode cX7_aDrone 41 = .ok (.ifCond .eq 23, 3) := dk_153 0 23 (dk_at dksX7_aDrone_1 18 rfl rfl)
theorem dX7_aDrone_44 : decode cX7_aDrone 44 = .ok (.aload_n 0, 1) := dk_42 (dk_at dksX7_aDrone_1 21 rfl rfl)
theorem dX7_aDrone_45 : decode cX7_aDrone 45 = .ok (.bipush 92, 2) := dk_16 92 (dk_at dksX7_aDrone_1 22 rfl rfl)
theorem dX7_aDrone_47 : decode cX7_aDrone 47 = .ok (.aload_n 0, 1) := dk_42 (dk_at dksX7_aDrone_2 0 rfl rfl)
theorem dX7_aDrone_48 : decode cX7_aDrone 48 = .ok (.getfield 7, 3) := dk_180 0 7 (dk_at dksX7_aDrone_2 1 rfl rfl)
theorem dX7_aDrone_51 : decode cX7_aDrone 51 = .ok (.sipush 4921, 3) := dk_17 19 57 (dk_at dksX7_aDrone_2 4 rfl rfl)
theorem dX7_aDrone_54 : decode cX7_aDrone 54 = .ok (.iaload, 1) := dk_46 (dk_at dksX7_aDrone_2 7 rfl rfl)
theorem dX7_aDrone_55 : decode cX7_aDrone 55 = .ok (.iload_n 1, 1) := dk_27 (dk_at dksX7_aDrone_2 8 rfl rfl)
theorem dX7_aDrone_56 : decode cX7_aDrone 56 = .ok (.invokevirtual 191, 3) := dk_182 0 191 (dk_at dksX7_aDrone_2 9 rfl rfl)
theorem dX7_aDrone_59 : decode cX7_aDrone 59 = .ok (.ifCond .ne 5, 3) := dk_154 0 5 (dk_at dksX7_aDrone_2 12 rfl rfl)
theorem dX7_aDrone_62 : decode cX7_aDrone 62 = .ok (.iconst 0, 1) := dk_3 (dk_at dksX7_aDrone_2 15 rfl rfl)
theorem dX7_aDrone_63 : decode cX7_aDrone 63 = .ok (.ireturn, 1) := dk_172 (dk_at dksX7_aDrone_2 16 rfl rfl)
theorem dX7_aDrone_64 : decode cX7_aDrone 64 = .ok (.aload_n 0, 1) := dk_42 (dk_at dksX7_aDrone_2 17 rfl rfl)
theorem dX7_aDrone_65 : decode cX7_aDrone 65 = .ok (.getfield 7, 3) := dk_180 0 7 (dk_at dksX7_aDrone_2 18 rfl rfl)
theorem dX7_aDrone_68 : decode cX7_aDrone 68 = .ok (.iload_n 1, 1) := dk_27 (dk_at dksX7_aDrone_2 21 rfl rfl)
theorem dX7_aDrone_69 : decode cX7_aDrone 69 = .ok (.iconst 1, 1) := dk_4 (dk_at dksX7_aDrone_2 22 rfl rfl)
theorem dX7_aDrone_70 : decode cX7_aDrone 70 = .ok (.iadd, 1) := dk_96 (dk_at dksX7_aDrone_2 23 rfl rfl)
theorem dX7_aDrone_71 : decode cX7_aDrone 71 = .ok (.aload_n 0, 1) := dk_42 (dk_at dksX7_aDrone_3 0 rfl rfl)
theorem dX7_aDrone_72 : decode cX7_aDrone 72 = .ok (.getfield 7, 3) := dk_180 0 7 (dk_at dksX7_aDrone_3 1 rfl rfl)
theorem dX7_aDrone_75 : decode cX7_aDrone 75 = .ok (.sipush 4933, 3) := dk_17 19 69 (dk_at dksX7_aDrone_3 4 rfl rfl)
theorem dX7_aDrone_78 : decode cX7_aDrone 78 = .ok (.iaload, 1) := dk_46 (dk_at dksX7_aDrone_3 7 rfl rfl)
theorem dX7_aDrone_79 : decode cX7_aDrone 79 = .ok (.iastore, 1) := dk_79 (dk_at dksX7_aDrone_3 8 rfl rfl)
theorem dX7_aDrone_80 : decode cX7_aDrone 80 = .ok (.aload_n 0, 1) := dk_42 (dk_at dksX7_aDrone_3 9 rfl rfl)
theorem dX7_aDrone_81 : decode cX7_aDrone 81 = .ok (.getfield 7, 3) := dk_180 0 7 (dk_at dksX7_aDrone_3 10 rfl rfl)
theorem dX7_aDrone_84 : decode cX7_aDrone 84 = .ok (.sipush 4933, 3) := dk_17 19 69 (dk_at dksX7_aDrone_3 13 rfl rfl)
theorem dX7_aDrone_87 : decode cX7_aDrone 87 = .ok (.dup2, 1) := dk_92 (dk_at dksX7_aDrone_3 16 rfl rfl)
theorem dX7_aDrone_88 : decode cX7_aDrone 88 = .ok (.iaload, 1) := dk_46 (dk_at dksX7_aDrone_3 17 rfl rfl)
theorem dX7_aDrone_89 : decode cX7_aDrone 89 = .ok (.iconst 1, 1) := dk_4 (dk_at dksX7_aDrone_3 18 rfl rfl)
theorem dX7_aDrone_90 : decode cX7_aDrone 90 = .ok (.iadd, 1) := dk_96 (dk_at dksX7_aDrone_3 19 rfl rfl)
theorem dX7_aDrone_91 : decode cX7_aDrone 91 = .ok (.iastore, 1) := dk_79 (dk_at dksX7_aDrone_3 20 rfl rfl)
theorem dX7_aDrone_92 : decode cX7_aDrone 92 = .ok (.aload_n 0, 1) := dk_42 (dk_at dksX7_aDrone_3 21 rfl rfl)
theorem dX7_aDrone_93 : decode cX7_aDrone 93 = .ok (.getfield 7, 3) := dk_180 0 7 (dk_at dksX7_aDrone_4 0 rfl rfl)
theorem dX7_aDrone_96 : decode cX7_aDrone 96 = .ok (.sipush 4922, 3) := dk_17 19 58 (dk_at dksX7_aDrone_4 3 rfl rfl)
theorem dX7_aDrone_99 : decode cX7_aDrone 99 = .ok (.dup2, 1) := dk_92 (dk_at dksX7_aDrone_4 6 rfl rfl)
theorem dX7_aDrone_100 : decode cX7_aDrone 100 = .ok (.iaload, 1) := dk_46 (dk_at dksX7_aDrone_4 7 rfl rfl)
theorem dX7_aDrone_101 : decode cX7_aDrone 101 = .ok (.iconst 1, 1) := dk_4 (dk_at dksX7_aDrone_4 8 rfl rfl)
theorem dX7_aDrone_102 : decode cX7_aDrone 102 = .ok (.iadd, 1) := dk_96 (dk_at dksX7_aDrone_4 9 rfl rfl)
theorem dX7_aDrone_103 : decode cX7_aDrone 103 = .ok (.iastore, 1) := dk_79 (dk_at dksX7_aDrone_4 10 rfl rfl)
theorem dX7_aDrone_104 : decode cX7_aDrone 104 = .ok (.iconst 1, 1) := dk_4 (dk_at dksX7_aDrone_4 11 rfl rfl)
theorem dX7_aDrone_105 : decode cX7_aDrone 105 = .ok (.ireturn, 1) := dk_172 (dk_at dksX7_aDrone_4 12 rfl rfl)
def dkwX7_oldOne_2 : List UInt8 := [4, 172]
abbrev dktX7_oldOne_2 : List UInt8 := dkwX7_oldOne_2 ++ []
def dkwX7_oldOne_1 : List UInt8 := [182, 0, 171, 79, 42, 180, 0, 7, 29, 46, 2, 160, 0, 9, 42, 6, 182, 0, 154, 172, 42, 182, 0, 148]
abbrev dktX7_oldOne_1 : List UInt8 := dkwX7_oldOne_1 ++ dktX7_oldOne_2
def dkwX7_oldOne_0 : List UInt8 := [42, 18, 165, 182, 0, 167, 154, 0, 9, 42, 5, 182, 0, 154, 172, 42, 180, 0, 7, 29, 42, 27, 28]
abbrev dktX7_oldOne_0 : List UInt8 := dkwX7_oldOne_0 ++ dktX7_oldOne_1
theorem dksX7_oldOne_0 : cX7_oldOne.data.toList.drop 0 = dktX7_oldOne_0 := by decide +kernel
theorem dksX7_oldOne_1 : cX7_oldOne.data.toList.drop 23 = dktX7_oldOne_1 := dk_seg dksX7_oldOne_0 23 rfl rfl
theorem dksX7_oldOne_2 : cX7_oldOne.data.toList.drop 47 = dktX7_oldOne_2 := dk_seg dksX7_oldOne_1 24 rfl rfl
theorem dX7_oldOne_0 : decode cX7_oldOne 0 = .ok (.aload_n 0, 1) := dk_42 (dk_at dksX7_oldOne_0 0 rfl rfl)
theorem dX7_oldOne_1 : decode cX7_oldOne 1 = .ok (.ldc 165, 2) := dk_18 165 (dk_at dksX7_oldOne_0 1 rfl rfl)
theorem dX7_oldOne_3 : decode cX7_oldOne 3 = .ok (.invokevirtual 167, 3) := dk_182 0 167 (dk_at dksX7_oldOne_0 3 rfl rfl)
theorem dX7_oldOne_6 : decode cX7_oldOne 6 = .ok (.ifCond .ne 9, 3) := dk_154 0 9 (dk_at dksX7_oldOne_0 6 rfl rfl)
theorem dX7_oldOne_9 : decode cX7_oldOne 9 = .ok (.aload_n 0, 1) := dk_42 (dk_at dksX7_oldOne_0 9 rfl rfl)
theorem dX7_oldOne_10 : decode cX7_oldOne 10 = .ok (.iconst 2, 1) := dk_5 (dk_at dksX7_oldOne_0 10 rfl rfl)
theorem dX7_oldOne_11 : decode cX7_oldOne 11 = .ok (.invokevirtual 154, 3) := dk_182 0 154 (dk_at dksX7_oldOne_0 11 rfl rfl)
theorem dX7_oldOne_14 : decode cX7_oldOne 14 = .ok (.ireturn, 1) := dk_172 (dk_at dksX7_oldOne_0 14 rfl rfl)
theorem dX7_oldOne_15 : decode cX7_oldOne 15 = .ok (.aload_n 0, 1) := dk_42 (dk_at dksX7_oldOne_0 15 rfl rfl)
theorem dX7_oldOne_16 : decode cX7_oldOne 16 = .ok (.getfield 7, 3) := dk_180 0 7 (dk_at dksX7_oldOne_0 16 rfl rfl)
theorem dX7_oldOne_19 : decode cX7_oldOne 19 = .ok (.iload_n 3, 1) := dk_29 (dk_at dksX7_oldOne_0 19 rfl rfl)
theorem dX7_oldOne_20 : decode cX7_oldOne 20 = .ok (.aload_n 0, 1) := dk_42 (dk_at dksX7_oldOne_0 20 rfl rfl)
theorem dX7_oldOne_21 : decode cX7_oldOne 21 = .ok (.iload_n 1, 1) := dk_27 (dk_at dksX7_oldOne_0 21 rfl rfl)
theorem dX7_oldOne_22 : decode cX7_oldOne 22 = .ok (.iload_n 2, 1) := dk_28 (dk_at dksX7_oldOne_0 22 rfl rfl)
theorem dX7_oldOne_23 : decode cX7_oldOne 23 = .ok (.invokevirtual 171, 3) := dk_182 0 171 (dk_at dksX7_oldOne_1 0 rfl rfl)
theorem dX7_oldOne_26 : decode cX7_oldOne 26 = .ok (.iastore, 1) := dk_79 (dk_at dksX7_oldOne_1 3 rfl rfl)
theorem dX7_oldOne_27 : decode cX7_oldOne 27 = .ok (.aload_n 0, 1) := dk_42 (dk_at dksX7_oldOne_1 4 rfl rfl)
theorem dX7_oldOne_28 : decode cX7_oldOne 28 = .ok (.getfield 7, 3) := dk_180 0 7 (dk_at dksX7_oldOne_1 5 rfl rfl)
theorem dX7_oldOne_31 : decode cX7_oldOne 31 = .ok (.iload_n 3, 1) := dk_29 (dk_at dksX7_oldOne_1 8 rfl rfl)
theorem dX7_oldOne_32 : decode cX7_oldOne 32 = .ok (.iaload, 1) := dk_46 (dk_at dksX7_oldOne_1 9 rfl rfl)
theorem dX7_oldOne_33 : decode cX7_oldOne 33 = .ok (.iconst (-1), 1) := dk_2 (dk_at dksX7_oldOne_1 10 rfl rfl)
theorem dX7_oldOne_34 : decode cX7_oldOne 34 = .ok (.if_icmp .ne 9, 3) := dk_160 0 9 (dk_at dksX7_oldOne_1 11 rfl rfl)
theorem dX7_oldOne_37 : decode cX7_oldOne 37 = .ok (.aload_n 0, 1) := dk_42 (dk_at dksX7_oldOne_1 14 rfl rfl)
theorem dX7_oldOne_38 : decode cX7_oldOne 38 = .ok (.iconst 3, 1) := dk_6 (dk_at dksX7_oldOne_1 15 rfl rfl)
theorem dX7_oldOne_39 : decode cX7_oldOne 39 = .ok (.invokevirtual 154, 3) := dk_182 0 154 (dk_at dksX7_oldOne_1 16 rfl rfl)
theorem dX7_oldOne_42 : decode cX7_oldOne 42 = .ok (.ireturn, 1) := dk_172 (dk_at dksX7_oldOne_1 19 rfl rfl)
theorem dX7_oldOne_43 : decode cX7_oldOne 43 = .ok (.aload_n 0, 1) := dk_42 (dk_at dksX7_oldOne_1 20 rfl rfl)
theorem dX7_oldOne_44 : decode cX7_oldOne 44 = .ok (.invokevirtual 148, 3) := dk_182 0 148 (dk_at dksX7_oldOne_1 21 rfl rfl)
theorem dX7_oldOne_47 : decode cX7_oldOne 47 = .ok (.iconst 1, 1) := dk_4 (dk_at dksX7_oldOne_2 0 rfl rfl)
theorem dX7_oldOne_48 : decode cX7_oldOne 48 = .ok (.ireturn, 1) := dk_172 (dk_at dksX7_oldOne_2 1 rfl rfl)
def dkwX7_aQueen_11 : List UInt8 := [4, 96, 79, 42, 180, 0, 7, 17, 19, 57, 92, 46, 4, 96, 79, 4, 172]
abbrev dktX7_aQueen_11 : List UInt8 := dkwX7_aQueen_11 ++ []
def dkwX7_aQueen_10 : List UInt8 := [180, 0, 7, 28, 6, 96, 42, 180, 0, 7, 17, 19, 69, 46, 79, 42, 180, 0, 7, 17, 19, 69, 92, 46]
abbrev dktX7_aQueen_10 : List UInt8 := dkwX7_aQueen_10 ++ dktX7_aQueen_11
def dkwX7_aQueen_9 : List UInt8 := [154, 0, 5, 3, 172, 42, 180, 0, 7, 17, 19, 120, 17, 0, 198, 29, 104, 96, 6, 96, 27, 79, 42]
abbrev dktX7_aQueen_9 : List UInt8 := dkwX7_aQueen_9 ++ dktX7_aQueen_10
def dkwX7_aQueen_8 : List UInt8 := [8, 182, 0, 154, 172, 42, 16, 80, 42, 180, 0, 7, 17, 19, 56, 46, 17, 24, 1, 182, 0, 191]
abbrev dktX7_aQueen_8 : List UInt8 := dkwX7_aQueen_8 ++ dktX7_aQueen_9
def dkwX7_aQueen_7 : List UInt8 := [159, 0, 29, 42, 180, 0, 7, 17, 19, 120, 17, 0, 198, 29, 104, 96, 6, 96, 46, 2, 159, 0, 9, 42]
abbrev dktX7_aQueen_7 : List UInt8 := dkwX7_aQueen_7 ++ dktX7_aQueen_8
def dkwX7_aQueen_6 : List UInt8 := [153, 0, 20, 42, 16, 80, 42, 180, 0, 7, 17, 19, 56, 46, 182, 0, 171, 167, 0, 4, 2, 62, 29, 2]
abbrev dktX7_aQueen_6 : List UInt8 := dkwX7_aQueen_6 ++ dktX7_aQueen_7
def dkwX7_aQueen_5 : List UInt8 := [96, 182, 0, 191, 154, 0, 5, 3, 172, 42, 16, 10, 182, 0, 185, 153, 0, 101, 42, 18, 165, 182, 0, 167]
abbrev dktX7_aQueen_5 : List UInt8 := dkwX7_aQueen_5 ++ dktX7_aQueen_6
def dkwX7_aQueen_4 : List UInt8 := [3, 172, 42, 16, 9, 182, 0, 185, 153, 0, 25, 42, 16, 84, 42, 180, 0, 7, 17, 19, 58, 46, 28, 5]
abbrev dktX7_aQueen_4 : List UInt8 := dkwX7_aQueen_4 ++ dktX7_aQueen_5
def dkwX7_aQueen_3 : List UInt8 := [3, 172, 42, 16, 7, 182, 0, 185, 153, 0, 49, 42, 16, 92, 27, 28, 4, 96, 182, 0, 191, 154, 0, 5]
abbrev dktX7_aQueen_3 : List UInt8 := dkwX7_aQueen_3 ++ dktX7_aQueen_4
def dkwX7_aQueen_2 : List UInt8 := [2, 79, 42, 18, 165, 16, 8, 182, 0, 178, 153, 0, 14, 42, 28, 3, 16, 16, 182, 0, 182, 154, 0, 5]
abbrev dktX7_aQueen_2 : List UInt8 := dkwX7_aQueen_2 ++ dktX7_aQueen_3
def dkwX7_aQueen_1 : List UInt8 := [182, 0, 174, 154, 0, 5, 3, 172, 42, 180, 0, 7, 28, 4, 96, 2, 79, 42, 180, 0, 7, 28, 5, 96]
abbrev dktX7_aQueen_1 : List UInt8 := dkwX7_aQueen_1 ++ dktX7_aQueen_2
def dkwX7_aQueen_0 : List UInt8 := [42, 180, 0, 7, 17, 19, 57, 46, 60, 17, 19, 70, 7, 27, 104, 96, 61, 42, 4, 16, 8, 16, 12]
abbrev dktX7_aQueen_0 : List UInt8 := dkwX7_aQueen_0 ++ dktX7_aQueen_1
theorem dksX7_aQueen_0 : cX7_aQueen.data.toList.drop 0 = dktX7_aQueen_0 := by decide +kernel
theorem dksX7_aQueen_1 : cX7_aQueen.data.toList.drop 23 = dktX7_aQueen_1 := dk_seg dksX7_aQueen_0 23 rfl rfl
theorem dksX7_aQueen_2 : cX7_aQueen.data.toList.drop 47 = dktX7_aQueen_2 := dk_seg dksX7_aQueen_1 24 rfl rfl
theorem dksX7_aQueen_3 : cX7_aQueen.data.toList.drop 71 = dktX7_aQueen_3 := dk_seg dksX7_aQueen_2 24 rfl rfl
theorem dksX7_aQueen_4 : cX7_aQueen.data.toList.drop 95 = dktX7_aQueen_4 := dk_seg dksX7_aQueen_3 24 rfl rfl
theorem dksX7_aQueen_5 : cX7_aQueen.data.toList.drop 119 = dktX7_aQueen_5 := dk_seg dksX7_aQueen_4 24 rfl rfl
theorem dksX7_aQueen_6 : cX7_aQueen.data.toList.drop 143 = dktX7_aQueen_6 := dk_seg dksX7_aQueen_5 24 rfl rfl
theorem dksX7_aQueen_7 : cX7_aQueen.data.toList.drop 167 = dktX7_aQueen_7 := dk_seg dksX7_aQueen_6 24 rfl rfl
theorem dksX7_aQueen_8 : cX7_aQueen.data.toList.drop 191 = dktX7_aQueen_8 := dk_seg dksX7_aQueen_7 24 rfl rfl
theorem dksX7_aQueen_9 : cX7_aQueen.data.toList.drop 213 = dktX7_aQueen_9 := dk_seg dksX7_aQueen_8 22 rfl rfl
theorem dksX7_aQueen_10 : cX7_aQueen.data.toList.drop 236 = dktX7_aQueen_10 := dk_seg dksX7_aQueen_9 23 rfl rfl
theorem dksX7_aQueen_11 : cX7_aQueen.data.toList.drop 260 = dktX7_aQueen_11 := dk_seg dksX7_aQueen_10 24 rfl rfl
theorem dX7_aQueen_0 : decode cX7_aQueen 0 = .ok (.aload_n 0, 1) := dk_42 (dk_at dksX7_aQueen_0 0 rfl rfl)
theorem dX7_aQueen_1 : decode cX7_aQueen 1 = .ok (.getfield 7, 3) := dk_180 0 7 (dk_at dksX7_aQueen_0 1 rfl rfl)
theorem dX7_aQueen_4 : decode cX7_aQueen 4 = .ok (.sipush 4921, 3) := dk_17 19 57 (dk_at dksX7_aQueen_0 4 rfl rfl)
theorem dX7_aQueen_7 : decode cX7_aQueen 7 = .ok (.iaload, 1) := dk_46 (dk_at dksX7_aQueen_0 7 rfl rfl)
theorem dX7_aQueen_8 : decode cX7_aQueen 8 = .ok (.istore_n 1, 1) := dk_60 (dk_at dksX7_aQueen_0 8 rfl rfl)
theorem dX7_aQueen_9 : decode cX7_aQueen 9 = .ok (.sipush 4934, 3) := dk_17 19 70 (dk_at dksX7_aQueen_0 9 rfl rfl)
theorem dX7_aQueen_12 : decode cX7_aQueen 12 = .ok (.iconst 4, 1) := dk_7 (dk_at dksX7_aQueen_0 12 rfl rfl)
theorem dX7_aQueen_13 : decode cX7_aQueen 13 = .ok (.iload_n 1, 1) := dk_27 (dk_at dksX7_aQueen_0 13 rfl rfl)
theorem dX7_aQueen_14 : decode cX7_aQueen 14 = .ok (.imul, 1) := dk_104 (dk_at dksX7_aQueen_0 14 rfl rfl)
theorem dX7_aQueen_15 : decode cX7_aQueen 15 = .ok (.iadd, 1) := dk_96 (dk_at dksX7_aQueen_0 15 rfl rfl)
theorem dX7_aQueen_16 : decode cX7_aQueen 16 = .ok (.istore_n 2, 1) := dk_61 (dk_at dksX7_aQueen_0 16 rfl rfl)
theorem dX7_aQueen_17 : decode cX7_aQueen 17 = .ok (.aload_n 0, 1) := dk_42 (dk_at dksX7_aQueen_0 17 rfl rfl)
theorem dX7_aQueen_18 : decode cX7_aQueen 18 = .ok (.iconst 1, 1) := dk_4 (dk_at dksX7_aQueen_0 18 rfl rfl)
theorem dX7_aQueen_19 : decode cX7_aQueen 19 = .ok (.bipush 8, 2) := dk_16 8 (dk_at dksX7_aQueen_0 19 rfl rfl)
theorem dX7_aQueen_21 : decode cX7_aQueen 21 = .ok (.bipush 12, 2) := dk_16 12 (dk_at dksX7_aQueen_0 21 rfl rfl)
theorem dX7_aQueen_23 : decode cX7_aQueen 23 = .ok (.invokevirtual 174, 3) := dk_182 0 174 (dk_at dksX7_aQueen_1 0 rfl rfl)
theorem dX7_aQueen_26 : decode cX7_aQueen 26 = .ok (.ifCond .ne 5, 3) := dk_154 0 5 (dk_at dksX7_aQueen_1 3 rfl rfl)
theorem dX7_aQueen_29 : decode cX7_aQueen 29 = .ok (.iconst 0, 1) := dk_3 (dk_at dksX7_aQueen_1 6 rfl rfl)
theorem dX7_aQueen_30 : decode cX7_aQueen 30 = .ok (.ireturn, 1) := dk_172 (dk_at dksX7_aQueen_1 7 rfl rfl)
theorem dX7_aQueen_31 : decode cX7_aQueen 31 = .ok (.aload_n 0, 1) := dk_42 (dk_at dksX7_aQueen_1 8 rfl rfl)
theorem dX7_aQueen_32 : decode cX7_aQueen 32 = .ok (.getfield 7, 3) := dk_180 0 7 (dk_at dksX7_aQueen_1 9 rfl rfl)
theorem dX7_aQueen_35 : decode cX7_aQueen 35 = .ok (.iload_n 2, 1) := dk_28 (dk_at dksX7_aQueen_1 12 rfl rfl)
theorem dX7_aQueen_36 : decode cX7_aQueen 36 = .ok (.iconst 1, 1) := dk_4 (dk_at dksX7_aQueen_1 13 rfl rfl)
theorem dX7_aQueen_37 : decode cX7_aQueen 37 = .ok (.iadd, 1) := dk_96 (dk_at dksX7_aQueen_1 14 rfl rfl)
theorem dX7_aQueen_38 : decode cX7_aQueen 38 = .ok (.iconst (-1), 1) := dk_2 (dk_at dksX7_aQueen_1 15 rfl rfl)
theorem dX7_aQueen_39 : decode cX7_aQueen 39 = .ok (.iastore, 1) := dk_79 (dk_at dksX7_aQueen_1 16 rfl rfl)
theorem dX7_aQueen_40 : decode cX7_aQueen 40 = .ok (.aload_n 0, 1) := dk_42 (dk_at dksX7_aQueen_1 17 rfl rfl)
theorem dX7_aQueen_41 : decode cX7_aQueen 41 = .ok (.getfield 7, 3) := dk_180 0 7 (dk_at dksX7_aQueen_1 18 rfl rfl)
theorem dX7_aQueen_44 : decode cX7_aQueen 44 = .ok (.iload_n 2, 1) := dk_28 (dk_at dksX7_aQueen_1 21 rfl rfl)
theorem dX7_aQueen_45 : decode cX7_aQueen 45 = .ok (.iconst 2, 1) := dk_5 (dk_at dksX7_aQueen_1 22 rfl rfl)
theorem dX7_aQueen_46 : decode cX7_aQueen 46 = .ok (.iadd, 1) := dk_96 (dk_at dksX7_aQueen_1 23 rfl rfl)
theorem dX7_aQueen_47 : decode cX7_aQueen 47 = .ok (.iconst (-1), 1) := dk_2 (dk_at dksX7_aQueen_2 0 rfl rfl)
theorem dX7_aQueen_48 : decode cX7_aQueen 48 = .ok (.iastore, 1) := dk_79 (dk_at dksX7_aQueen_2 1 rfl rfl)
theorem dX7_aQueen_49 : decode cX7_aQueen 49 = .ok (.aload_n 0, 1) := dk_42 (dk_at dksX7_aQueen_2 2 rfl rfl)
theorem dX7_aQueen_50 : decode cX7_aQueen 50 = .ok (.ldc 165, 2) := dk_18 165 (dk_at dksX7_aQueen_2 3 rfl rfl)
theorem dX7_aQueen_52 : decode cX7_aQueen 52 = .ok (.bipush 8, 2) := dk_16 8 (dk_at dksX7_aQueen_2 5 rfl rfl)
theorem dX7_aQueen_54 : decode cX7_aQueen 54 = .ok (.invokevirtual 178, 3) := dk_182 0 178 (dk_at dksX7_aQueen_2 7 rfl rfl)
theorem dX7_aQueen_57 : decode cX7_aQueen 57 = .ok (.ifCond .eq 14, 3) := dk_153 0 14 (dk_at dksX7_aQueen_2 10 rfl rfl)
theorem dX7_aQueen_60 : decode cX7_aQueen 60 = .ok (.aload_n 0, 1) := dk_42 (dk_at dksX7_aQueen_2 13 rfl rfl)
theorem dX7_aQueen_61 : decode cX7_aQueen 61 = .ok (.iload_n 2, 1) := dk_28 (dk_at dksX7_aQueen_2 14 rfl rfl)
theorem dX7_aQueen_62 : decode cX7_aQueen 62 = .ok (.iconst 0, 1) := dk_3 (dk_at dksX7_aQueen_2 15 rfl rfl)
theorem dX7_aQueen_63 : decode cX7_aQueen 63 = .ok (.bipush 16, 2) := dk_16 16 (dk_at dksX7_aQueen_2 16 rfl rfl)
theorem dX7_aQueen_65 : decode cX7_aQueen 65 = .ok (.invokevirtual 182, 3) := dk_182 0 182 (dk_at dksX7_aQueen_2 18 rfl rfl)
theorem dX7_aQueen_68 : decode cX7_aQueen 68 = .ok (.ifCond .ne 5, 3) := dk_154 0 5 (dk_at dksX7_aQueen_2 21 rfl rfl)
theorem dX7_aQueen_71 : decode cX7_aQueen 71 = .ok (.iconst 0, 1) := dk_3 (dk_at dksX7_aQueen_3 0 rfl rfl)
theorem dX7_aQueen_72 : decode cX7_aQueen 72 = .ok (.ireturn, 1) := dk_172 (dk_at dksX7_aQueen_3 1 rfl rfl)
theorem dX7_aQueen_73 : decode cX7_aQueen 73 = .ok (.aload_n 0, 1) := dk_42 (dk_at dksX7_aQueen_3 2 rfl rfl)
theorem dX7_aQueen_74 : decode cX7_aQueen 74 = .ok (.bipush 7, 2) := dk_16 7 (dk_at dksX7_aQueen_3 3 rfl rfl)
theorem dX7_aQueen_76 : decode cX7_aQueen 76 = .ok (.invokevirtual 185, 3) := dk_182 0 185 (dk_at dksX7_aQueen_3 5 rfl rfl)
theorem dX7_aQueen_79 : decode cX7_aQueen 79 = .ok (.ifCond .eq 49, 3) := dk_153 0 49 (dk_at dksX7_aQueen_3 8 rfl rfl)
theorem dX7_aQueen_82 : decode cX7_aQueen 82 = .ok (.aload_n 0, 1) := dk_42 (dk_at dksX7_aQueen_3 11 rfl rfl)
theorem dX7_aQueen_83 : decode cX7_aQueen 83 = .ok (.bipush 92, 2) := dk_16 92 (dk_at dksX7_aQueen_3 12 rfl rfl)
theorem dX7_aQueen_85 : decode cX7_aQueen 85 = .ok (.iload_n 1, 1) := dk_27 (dk_at dksX7_aQueen_3 14 rfl rfl)
theorem dX7_aQueen_86 : decode cX7_aQueen 86 = .ok (.iload_n 2, 1) := dk_28 (dk_at dksX7_aQueen_3 15 rfl rfl)
theorem dX7_aQueen_87 : decode cX7_aQueen 87 = .ok (.iconst 1, 1) := dk_4 (dk_at dksX7_aQueen_3 16 rfl rfl)
theorem dX7_aQueen_88 : decode cX7_aQueen 88 = .ok (.iadd, 1) := dk_96 (dk_at dksX7_aQueen_3 17 rfl rfl)
theorem dX7_aQueen_89 : decode cX7_aQueen 89 = .ok (.invokevirtual 191, 3) := dk_182 0 191 (dk_at dksX7_aQueen_3 18 rfl rfl)
theorem dX7_aQueen_92 : decode cX7_aQueen 92 = .ok (.ifCond .ne 5, 3) := dk_154 0 5 (dk_at dksX7_aQueen_3 21 rfl rfl)
theorem dX7_aQueen_95 : decode cX7_aQueen 95 = .ok (.iconst 0, 1) := dk_3 (dk_at dksX7_aQueen_4 0 rfl rfl)
theorem dX7_aQueen_96 : decode cX7_aQueen 96 = .ok (.ireturn, 1) := dk_172 (dk_at dksX7_aQueen_4 1 rfl rfl)
theorem dX7_aQueen_97 : decode cX7_aQueen 97 = .ok (.aload_n 0, 1) := dk_42 (dk_at dksX7_aQueen_4 2 rfl rfl)
theorem dX7_aQueen_98 : decode cX7_aQueen 98 = .ok (.bipush 9, 2) := dk_16 9 (dk_at dksX7_aQueen_4 3 rfl rfl)
theorem dX7_aQueen_100 : decode cX7_aQueen 100 = .ok (.invokevirtual 185, 3) := dk_182 0 185 (dk_at dksX7_aQueen_4 5 rfl rfl)
theorem dX7_aQueen_103 : decode cX7_aQueen 103 = .ok (.ifCond .eq 25, 3) := dk_153 0 25 (dk_at dksX7_aQueen_4 8 rfl rfl)
theorem dX7_aQueen_106 : decode cX7_aQueen 106 = .ok (.aload_n 0, 1) := dk_42 (dk_at dksX7_aQueen_4 11 rfl rfl)
theorem dX7_aQueen_107 : decode cX7_aQueen 107 = .ok (.bipush 84, 2) := dk_16 84 (dk_at dksX7_aQueen_4 12 rfl rfl)
theorem dX7_aQueen_109 : decode cX7_aQueen 109 = .ok (.aload_n 0, 1) := dk_42 (dk_at dksX7_aQueen_4 14 rfl rfl)
theorem dX7_aQueen_110 : decode cX7_aQueen 110 = .ok (.getfield 7, 3) := dk_180 0 7 (dk_at dksX7_aQueen_4 15 rfl rfl)
theorem dX7_aQueen_113 : decode cX7_aQueen 113 = .ok (.sipush 4922, 3) := dk_17 19 58 (dk_at dksX7_aQueen_4 18 rfl rfl)
theorem dX7_aQueen_116 : decode cX7_aQueen 116 = .ok (.iaload, 1) := dk_46 (dk_at dksX7_aQueen_4 21 rfl rfl)
theorem dX7_aQueen_117 : decode cX7_aQueen 117 = .ok (.iload_n 2, 1) := dk_28 (dk_at dksX7_aQueen_4 22 rfl rfl)
theorem dX7_aQueen_118 : decode cX7_aQueen 118 = .ok (.iconst 2, 1) := dk_5 (dk_at dksX7_aQueen_4 23 rfl rfl)
theorem dX7_aQueen_119 : decode cX7_aQueen 119 = .ok (.iadd, 1) := dk_96 (dk_at dksX7_aQueen_5 0 rfl rfl)
theorem dX7_aQueen_120 : decode cX7_aQueen 120 = .ok (.invokevirtual 191, 3) := dk_182 0 191 (dk_at dksX7_aQueen_5 1 rfl rfl)
theorem dX7_aQueen_123 : decode cX7_aQueen 123 = .ok (.ifCond .ne 5, 3) := dk_154 0 5 (dk_at dksX7_aQueen_5 4 rfl rfl)
theorem dX7_aQueen_126 : decode cX7_aQueen 126 = .ok (.iconst 0, 1) := dk_3 (dk_at dksX7_aQueen_5 7 rfl rfl)
theorem dX7_aQueen_127 : decode cX7_aQueen 127 = .ok (.ireturn, 1) := dk_172 (dk_at dksX7_aQueen_5 8 rfl rfl)
theorem dX7_aQueen_128 : decode cX7_aQueen 128 = .ok (.aload_n 0, 1) := dk_42 (dk_at dksX7_aQueen_5 9 rfl rfl)
theorem dX7_aQueen_129 : decode cX7_aQueen 129 = .ok (.bipush 10, 2) := dk_16 10 (dk_at dksX7_aQueen_5 10 rfl rfl)
theorem dX7_aQueen_131 : decode cX7_aQueen 131 = .ok (.invokevirtual 185, 3) := dk_182 0 185 (dk_at dksX7_aQueen_5 12 rfl rfl)
theorem dX7_aQueen_134 : decode cX7_aQueen 134 = .ok (.ifCond .eq 101, 3) := dk_153 0 101 (dk_at dksX7_aQueen_5 15 rfl rfl)
theorem dX7_aQueen_137 : decode cX7_aQueen 137 = .ok (.aload_n 0, 1) := dk_42 (dk_at dksX7_aQueen_5 18 rfl rfl)
theorem dX7_aQueen_138 : decode cX7_aQueen 138 = .ok (.ldc 165, 2) := dk_18 165 (dk_at dksX7_aQueen_5 19 rfl rfl)
theorem dX7_aQueen_140 : decode cX7_aQueen 140 = .ok (.invokevirtual 167, 3) := dk_182 0 167 (dk_at dksX7_aQueen_5 21 rfl rfl)
theorem dX7_aQueen_143 : decode cX7_aQueen 143 = .ok (.ifCond .eq 20, 3) := dk_153 0 20 (dk_at dksX7_aQueen_6 0 rfl rfl)
theorem dX7_aQueen_146 : decode cX7_aQueen 146 = .ok (.aload_n 0, 1) := dk_42 (dk_at dksX7_aQueen_6 3 rfl rfl)
theorem dX7_aQueen_147 : decode cX7_aQueen 147 = .ok (.bipush 80, 2) := dk_16 80 (dk_at dksX7_aQueen_6 4 rfl rfl)
theorem dX7_aQueen_149 : decode cX7_aQueen 149 = .ok (.aload_n 0, 1) := dk_42 (dk_at dksX7_aQueen_6 6 rfl rfl)
theorem dX7_aQueen_150 : decode cX7_aQueen 150 = .ok (.getfield 7, 3) := dk_180 0 7 (dk_at dksX7_aQueen_6 7 rfl rfl)
theorem dX7_aQueen_153 : decode cX7_aQueen 153 = .ok (.sipush 4920, 3) := dk_17 19 56 (dk_at dksX7_aQueen_6 10 rfl rfl)
theorem dX7_aQueen_156 : decode cX7_aQueen 156 = .ok (.iaload, 1) := dk_46 (dk_at dksX7_aQueen_6 13 rfl rfl)
theorem dX7_aQueen_157 : decode cX7_aQueen 157 = .ok (.invokevirtual 171, 3) := dk_182 0 171 (dk_at dksX7_aQueen_6 14 rfl rfl)
theorem dX7_aQueen_160 : decode cX7_aQueen 160 = .ok (.goto 4, 3) := dk_167 0 4 (dk_at dksX7_aQueen_6 17 rfl rfl)
theorem dX7_aQueen_163 : decode cX7_aQueen 163 = .ok (.iconst (-1), 1) := dk_2 (dk_at dksX7_aQueen_6 20 rfl rfl)
theorem dX7_aQueen_164 : decode cX7_aQueen 164 = .ok (.istore_n 3, 1) := dk_62 (dk_at dksX7_aQueen_6 21 rfl rfl)
theorem dX7_aQueen_165 : decode cX7_aQueen 165 = .ok (.iload_n 3, 1) := dk_29 (dk_at dksX7_aQueen_6 22 rfl rfl)
theorem dX7_aQueen_166 : decode cX7_aQueen 166 = .ok (.iconst (-1), 1) := dk_2 (dk_at dksX7_aQueen_6 23 rfl rfl)
theorem dX7_aQueen_167 : decode cX7_aQueen 167 = .ok (.if_icmp .eq 29, 3) := dk_159 0 29 (dk_at dksX7_aQueen_7 0 rfl rfl)
theorem dX7_aQueen_170 : decode cX7_aQueen 170 = .ok (.aload_n 0, 1) := dk_42 (dk_at dksX7_aQueen_7 3 rfl rfl)
theorem dX7_aQueen_171 : decode cX7_aQueen 171 = .ok (.getfield 7, 3) := dk_180 0 7 (dk_at dksX7_aQueen_7 4 rfl rfl)
theorem dX7_aQueen_174 : decode cX7_aQueen 174 = .ok (.sipush 4984, 3) := dk_17 19 120 (dk_at dksX7_aQueen_7 7 rfl rfl)
theorem dX7_aQueen_177 : decode cX7_aQueen 177 = .ok (.sipush 198, 3) := dk_17 0 198 (dk_at dksX7_aQueen_7 10 rfl rfl)
theorem dX7_aQueen_180 : decode cX7_aQueen 180 = .ok (.iload_n 3, 1) := dk_29 (dk_at dksX7_aQueen_7 13 rfl rfl)
theorem dX7_aQueen_181 : decode cX7_aQueen 181 = .ok (.imul, 1) := dk_104 (dk_at dksX7_aQueen_7 14 rfl rfl)
theorem dX7_aQueen_182 : decode cX7_aQueen 182 = .ok (.iadd, 1) := dk_96 (dk_at dksX7_aQueen_7 15 rfl rfl)
theorem dX7_aQueen_183 : decode cX7_aQueen 183 = .ok (.iconst 3, 1) := dk_6 (dk_at dksX7_aQueen_7 16 rfl rfl)
theorem dX7_aQueen_184 : decode cX7_aQueen 184 = .ok (.iadd, 1) := dk_96 (dk_at dksX7_aQueen_7 17 rfl rfl)
theorem dX7_aQueen_185 : decode cX7_aQueen 185 = .ok (.iaload, 1) := dk_46 (dk_at dksX7_aQueen_7 18 rfl rfl)
theorem dX7_aQueen_186 : decode cX7_aQueen 186 = .ok (.iconst (-1), 1) := dk_2 (dk_at dksX7_aQueen_7 19 rfl rfl)
theorem dX7_aQueen_187 : decode cX7_aQueen 187 = .ok (.if_icmp .eq 9, 3) := dk_159 0 9 (dk_at dksX7_aQueen_7 20 rfl rfl)
theorem dX7_aQueen_190 : decode cX7_aQueen 190 = .ok (.aload_n 0, 1) := dk_42 (dk_at dksX7_aQueen_7 23 rfl rfl)
theorem dX7_aQueen_191 : decode cX7_aQueen 191 = .ok (.iconst 5, 1) := dk_8 (dk_at dksX7_aQueen_8 0 rfl rfl)
theorem dX7_aQueen_192 : decode cX7_aQueen 192 = .ok (.invokevirtual 154, 3) := dk_182 0 154 (dk_at dksX7_aQueen_8 1 rfl rfl)
theorem dX7_aQueen_195 : decode cX7_aQueen 195 = .ok (.ireturn, 1) := dk_172 (dk_at dksX7_aQueen_8 4 rfl rfl)
theorem dX7_aQueen_196 : decode cX7_aQueen 196 = .ok (.aload_n 0, 1) := dk_42 (dk_at dksX7_aQueen_8 5 rfl rfl)
theorem dX7_aQueen_197 : decode cX7_aQueen 197 = .ok (.bipush 80, 2) := dk_16 80 (dk_at dksX7_aQueen_8 6 rfl rfl)
theorem dX7_aQueen_199 : decode cX7_aQueen 199 = .ok (.aload_n 0, 1) := dk_42 (dk_at dksX7_aQueen_8 8 rfl rfl)
theorem dX7_aQueen_200 : decode cX7_aQueen 200 = .ok (.getfield 7, 3) := dk_180 0 7 (dk_at dksX7_aQueen_8 9 rfl rfl)
theorem dX7_aQueen_203 : decode cX7_aQueen 203 = .ok (.sipush 4920, 3) := dk_17 19 56 (dk_at dksX7_aQueen_8 12 rfl rfl)
theorem dX7_aQueen_206 : decode cX7_aQueen 206 = .ok (.iaload, 1) := dk_46 (dk_at dksX7_aQueen_8 15 rfl rfl)
theorem dX7_aQueen_207 : decode cX7_aQueen 207 = .ok (.sipush 6145, 3) := dk_17 24 1 (dk_at dksX7_aQueen_8 16 rfl rfl)
theorem dX7_aQueen_210 : decode cX7_aQueen 210 = .ok (.invokevirtual 191, 3) := dk_182 0 191 (dk_at dksX7_aQueen_8 19 rfl rfl)
theorem dX7_aQueen_213 : decode cX7_aQueen 213 = .ok (.ifCond .ne 5, 3) := dk_154 0 5 (dk_at dksX7_aQueen_9 0 rfl rfl)
theorem dX7_aQueen_216 : decode cX7_aQueen 216 = .ok (.iconst 0, 1) := dk_3 (dk_at dksX7_aQueen_9 3 rfl rfl)
theorem dX7_aQueen_217 : decode cX7_aQueen 217 = .ok (.ireturn, 1) := dk_172 (dk_at dksX7_aQueen_9 4 rfl rfl)
theorem dX7_aQueen_218 : decode cX7_aQueen 218 = .ok (.aload_n 0, 1) := dk_42 (dk_at dksX7_aQueen_9 5 rfl rfl)
theorem dX7_aQueen_219 : decode cX7_aQueen 219 = .ok (.getfield 7, 3) := dk_180 0 7 (dk_at dksX7_aQueen_9 6 rfl rfl)
theorem dX7_aQueen_222 : decode cX7_aQueen 222 = .ok (.sipush 4984, 3) := dk_17 19 120 (dk_at dksX7_aQueen_9 9 rfl rfl)
theorem dX7_aQueen_225 : decode cX7_aQueen 225 = .ok (.sipush 198, 3) := dk_17 0 198 (dk_at dksX7_aQueen_9 12 rfl rfl)
theorem dX7_aQueen_228 : decode cX7_aQueen 228 = .ok (.iload_n 3, 1) := dk_29 (dk_at dksX7_aQueen_9 15 rfl rfl)
theorem dX7_aQueen_229 : decode cX7_aQueen 229 = .ok (.imul, 1) := dk_104 (dk_at dksX7_aQueen_9 16 rfl rfl)
theorem dX7_aQueen_230 : decode cX7_aQueen 230 = .ok (.iadd, 1) := dk_96 (dk_at dksX7_aQueen_9 17 rfl rfl)
theorem dX7_aQueen_231 : decode cX7_aQueen 231 = .ok (.iconst 3, 1) := dk_6 (dk_at dksX7_aQueen_9 18 rfl rfl)
theorem dX7_aQueen_232 : decode cX7_aQueen 232 = .ok (.iadd, 1) := dk_96 (dk_at dksX7_aQueen_9 19 rfl rfl)
theorem dX7_aQueen_233 : decode cX7_aQueen 233 = .ok (.iload_n 1, 1) := dk_27 (dk_at dksX7_aQueen_9 20 rfl rfl)
theorem dX7_aQueen_234 : decode cX7_aQueen 234 = .ok (.iastore, 1) := dk_79 (dk_at dksX7_aQueen_9 21 rfl rfl)
theorem dX7_aQueen_235 : decode cX7_aQueen 235 = .ok (.aload_n 0, 1) := dk_42 (dk_at dksX7_aQueen_9 22 rfl rfl)
theorem dX7_aQueen_236 : decode cX7_aQueen 236 = .ok (.getfield 7, 3) := dk_180 0 7 (dk_at dksX7_aQueen_10 0 rfl rfl)
theorem dX7_aQueen_239 : decode cX7_aQueen 239 = .ok (.iload_n 2, 1) := dk_28 (dk_at dksX7_aQueen_10 3 rfl rfl)
theorem dX7_aQueen_240 : decode cX7_aQueen 240 = .ok (.iconst 3, 1) := dk_6 (dk_at dksX7_aQueen_10 4 rfl rfl)
theorem dX7_aQueen_241 : decode cX7_aQueen 241 = .ok (.iadd, 1) := dk_96 (dk_at dksX7_aQueen_10 5 rfl rfl)
theorem dX7_aQueen_242 : decode cX7_aQueen 242 = .ok (.aload_n 0, 1) := dk_42 (dk_at dksX7_aQueen_10 6 rfl rfl)
theorem dX7_aQueen_243 : decode cX7_aQueen 243 = .ok (.getfield 7, 3) := dk_180 0 7 (dk_at dksX7_aQueen_10 7 rfl rfl)
theorem dX7_aQueen_246 : decode cX7_aQueen 246 = .ok (.sipush 4933, 3) := dk_17 19 69 (dk_at dksX7_aQueen_10 10 rfl rfl)
theorem dX7_aQueen_249 : decode cX7_aQueen 249 = .ok (.iaload, 1) := dk_46 (dk_at dksX7_aQueen_10 13 rfl rfl)
theorem dX7_aQueen_250 : decode cX7_aQueen 250 = .ok (.iastore, 1) := dk_79 (dk_at dksX7_aQueen_10 14 rfl rfl)
theorem dX7_aQueen_251 : decode cX7_aQueen 251 = .ok (.aload_n 0, 1) := dk_42 (dk_at dksX7_aQueen_10 15 rfl rfl)
theorem dX7_aQueen_252 : decode cX7_aQueen 252 = .ok (.getfield 7, 3) := dk_180 0 7 (dk_at dksX7_aQueen_10 16 rfl rfl)
theorem dX7_aQueen_255 : decode cX7_aQueen 255 = .ok (.sipush 4933, 3) := dk_17 19 69 (dk_at dksX7_aQueen_10 19 rfl rfl)
theorem dX7_aQueen_258 : decode cX7_aQueen 258 = .ok (.dup2, 1) := dk_92 (dk_at dksX7_aQueen_10 22 rfl rfl)
theorem dX7_aQueen_259 : decode cX7_aQueen 259 = .ok (.iaload, 1) := dk_46 (dk_at dksX7_aQueen_10 23 rfl rfl)
theorem dX7_aQueen_260 : decode cX7_aQueen 260 = .ok (.iconst 1, 1) := dk_4 (dk_at dksX7_aQueen_11 0 rfl rfl)
theorem dX7_aQueen_261 : decode cX7_aQueen 261 = .ok (.iadd, 1) := dk_96 (dk_at dksX7_aQueen_11 1 rfl rfl)
theorem dX7_aQueen_262 : decode cX7_aQueen 262 = .ok (.iastore, 1) := dk_79 (dk_at dksX7_aQueen_11 2 rfl rfl)
theorem dX7_aQueen_263 : decode cX7_aQueen 263 = .ok (.aload_n 0, 1) := dk_42 (dk_at dksX7_aQueen_11 3 rfl rfl)
theorem dX7_aQueen_264 : decode cX7_aQueen 264 = .ok (.getfield 7, 3) := dk_180 0 7 (dk_at dksX7_aQueen_11 4 rfl rfl)
theorem dX7_aQueen_267 : decode cX7_aQueen 267 = .ok (.sipush 4921, 3) := dk_17 19 57 (dk_at dksX7_aQueen_11 7 rfl rfl)
theorem dX7_aQueen_270 : decode cX7_aQueen 270 = .ok (.dup2, 1) := dk_92 (dk_at dksX7_aQueen_11 10 rfl rfl)
theorem dX7_aQueen_271 : decode cX7_aQueen 271 = .ok (.iaload, 1) := dk_46 (dk_at dksX7_aQueen_11 11 rfl rfl)
theorem dX7_aQueen_272 : decode cX7_aQueen 272 = .ok (.iconst 1, 1) := dk_4 (dk_at dksX7_aQueen_11 12 rfl rfl)
theorem dX7_aQueen_273 : decode cX7_aQueen 273 = .ok (.iadd, 1) := dk_96 (dk_at dksX7_aQueen_11 13 rfl rfl)
theorem dX7_aQueen_274 : decode cX7_aQueen 274 = .ok (.iastore, 1) := dk_79 (dk_at dksX7_aQueen_11 14 rfl rfl)
theorem dX7_aQueen_275 : decode cX7_aQueen 275 = .ok (.iconst 1, 1) := dk_4 (dk_at dksX7_aQueen_11 15 rfl rfl)
theorem dX7_aQueen_276 : decode cX7_aQueen 276 = .ok (.ireturn, 1) := dk_172 (dk_at dksX7_aQueen_11 16 rfl rfl)
def dkwX7_wantSign_0 : List UInt8 := [42, 27, 182, 0, 151, 154, 0, 9, 42, 5, 182, 0, 154, 172, 42, 182, 0, 148, 4, 172]
abbrev dktX7_wantSign_0 : List UInt8 := dkwX7_wantSign_0 ++ []
theorem dksX7_wantSign_0 : cX7_wantSign.data.toList.drop 0 = dktX7_wantSign_0 := by decide +kernel
theorem dX7_wantSign_0 : decode cX7_wantSign 0 = .ok (.aload_n 0, 1) := dk_42 (dk_at dksX7_wantSign_0 0 rfl rfl)
theorem dX7_wantSign_1 : decode cX7_wantSign 1 = .ok (.iload_n 1, 1) := dk_27 (dk_at dksX7_wantSign_0 1 rfl rfl)
theorem dX7_wantSign_2 : decode cX7_wantSign 2 = .ok (.invokevirtual 151, 3) := dk_182 0 151 (dk_at dksX7_wantSign_0 2 rfl rfl)
theorem dX7_wantSign_5 : decode cX7_wantSign 5 = .ok (.ifCond .ne 9, 3) := dk_154 0 9 (dk_at dksX7_wantSign_0 5 rfl rfl)
theorem dX7_wantSign_8 : decode cX7_wantSign 8 = .ok (.aload_n 0, 1) := dk_42 (dk_at dksX7_wantSign_0 8 rfl rfl)
theorem dX7_wantSign_9 : decode cX7_wantSign 9 = .ok (.iconst 2, 1) := dk_5 (dk_at dksX7_wantSign_0 9 rfl rfl)
theorem dX7_wantSign_10 : decode cX7_wantSign 10 = .ok (.invokevirtual 154, 3) := dk_182 0 154 (dk_at dksX7_wantSign_0 10 rfl rfl)
theorem dX7_wantSign_13 : decode cX7_wantSign 13 = .ok (.ireturn, 1) := dk_172 (dk_at dksX7_wantSign_0 13 rfl rfl)
theorem dX7_wantSign_14 : decode cX7_wantSign 14 = .ok (.aload_n 0, 1) := dk_42 (dk_at dksX7_wantSign_0 14 rfl rfl)
theorem dX7_wantSign_15 : decode cX7_wantSign 15 = .ok (.invokevirtual 148, 3) := dk_182 0 148 (dk_at dksX7_wantSign_0 15 rfl rfl)
theorem dX7_wantSign_18 : decode cX7_wantSign 18 = .ok (.iconst 1, 1) := dk_4 (dk_at dksX7_wantSign_0 18 rfl rfl)
theorem dX7_wantSign_19 : decode cX7_wantSign 19 = .ok (.ireturn, 1) := dk_172 (dk_at dksX7_wantSign_0 19 rfl rfl)
def dkwX7_isSign_0 : List UInt8 := [42, 180, 0, 117, 7, 160, 0, 15, 42, 180, 0, 114, 27, 160, 0, 7, 4, 167, 0, 4, 3, 172]
abbrev dktX7_isSign_0 : List UInt8 := dkwX7_isSign_0 ++ []
theorem dksX7_isSign_0 : cX7_isSign.data.toList.drop 0 = dktX7_isSign_0 := by decide +kernel
theorem dX7_isSign_0 : decode cX7_isSign 0 = .ok (.aload_n 0, 1) := dk_42 (dk_at dksX7_isSign_0 0 rfl rfl)
theorem dX7_isSign_1 : decode cX7_isSign 1 = .ok (.getfield 117, 3) := dk_180 0 117 (dk_at dksX7_isSign_0 1 rfl rfl)
theorem dX7_isSign_4 : decode cX7_isSign 4 = .ok (.iconst 4, 1) := dk_7 (dk_at dksX7_isSign_0 4 rfl rfl)
theorem dX7_isSign_5 : decode cX7_isSign 5 = .ok (.if_icmp .ne 15, 3) := dk_160 0 15 (dk_at dksX7_isSign_0 5 rfl rfl)
theorem dX7_isSign_8 : decode cX7_isSign 8 = .ok (.aload_n 0, 1) := dk_42 (dk_at dksX7_isSign_0 8 rfl rfl)
theorem dX7_isSign_9 : decode cX7_isSign 9 = .ok (.getfield 114, 3) := dk_180 0 114 (dk_at dksX7_isSign_0 9 rfl rfl)
theorem dX7_isSign_12 : decode cX7_isSign 12 = .ok (.iload_n 1, 1) := dk_27 (dk_at dksX7_isSign_0 12 rfl rfl)
theorem dX7_isSign_13 : decode cX7_isSign 13 = .ok (.if_icmp .ne 7, 3) := dk_160 0 7 (dk_at dksX7_isSign_0 13 rfl rfl)
theorem dX7_isSign_16 : decode cX7_isSign 16 = .ok (.iconst 1, 1) := dk_4 (dk_at dksX7_isSign_0 16 rfl rfl)
theorem dX7_isSign_17 : decode cX7_isSign 17 = .ok (.goto 4, 3) := dk_167 0 4 (dk_at dksX7_isSign_0 17 rfl rfl)
theorem dX7_isSign_20 : decode cX7_isSign 20 = .ok (.iconst 0, 1) := dk_3 (dk_at dksX7_isSign_0 20 rfl rfl)
theorem dX7_isSign_21 : decode cX7_isSign 21 = .ok (.ireturn, 1) := dk_172 (dk_at dksX7_isSign_0 21 rfl rfl)
def dkwX7_taken_1 : List UInt8 := [42, 27, 182, 0, 76, 172]
abbrev dktX7_taken_1 : List UInt8 := dkwX7_taken_1 ++ []
def dkwX7_taken_0 : List UInt8 := [42, 42, 180, 0, 142, 181, 0, 37, 42, 180, 0, 142, 158, 0, 12, 42, 16, 9, 182, 0, 72, 167, 0, 8]
abbrev dktX7_taken_0 : List UInt8 := dkwX7_taken_0 ++ dktX7_taken_1
theorem dksX7_taken_0 : cX7_taken.data.toList.drop 0 = dktX7_taken_0 := by decide +kernel
theorem dksX7_taken_1 : cX7_taken.data.toList.drop 24 = dktX7_taken_1 := dk_seg dksX7_taken_0 24 rfl rfl
theorem dX7_taken_0 : decode cX7_taken 0 = .ok (.aload_n 0, 1) := dk_42 (dk_at dksX7_taken_0 0 rfl rfl)
theorem dX7_taken_1 : decode cX7_taken 1 = .ok (.aload_n 0, 1) := dk_42 (dk_at dksX7_taken_0 1 rfl rfl)
theorem dX7_taken_2 : decode cX7_taken 2 = .ok (.getfield 142, 3) := dk_180 0 142 (dk_at dksX7_taken_0 2 rfl rfl)
theorem dX7_taken_5 : decode cX7_taken 5 = .ok (.putfield 37, 3) := dk_181 0 37 (dk_at dksX7_taken_0 5 rfl rfl)
theorem dX7_taken_8 : decode cX7_taken 8 = .ok (.aload_n 0, 1) := dk_42 (dk_at dksX7_taken_0 8 rfl rfl)
theorem dX7_taken_9 : decode cX7_taken 9 = .ok (.getfield 142, 3) := dk_180 0 142 (dk_at dksX7_taken_0 9 rfl rfl)
theorem dX7_taken_12 : decode cX7_taken 12 = .ok (.ifCond .le 12, 3) := dk_158 0 12 (dk_at dksX7_taken_0 12 rfl rfl)
theorem dX7_taken_15 : decode cX7_taken 15 = .ok (.aload_n 0, 1) := dk_42 (dk_at dksX7_taken_0 15 rfl rfl)
theorem dX7_taken_16 : decode cX7_taken 16 = .ok (.bipush 9, 2) := dk_16 9 (dk_at dksX7_taken_0 16 rfl rfl)
theorem dX7_taken_18 : decode cX7_taken 18 = .ok (.invokevirtual 72, 3) := dk_182 0 72 (dk_at dksX7_taken_0 18 rfl rfl)
theorem dX7_taken_21 : decode cX7_taken 21 = .ok (.goto 8, 3) := dk_167 0 8 (dk_at dksX7_taken_0 21 rfl rfl)
theorem dX7_taken_24 : decode cX7_taken 24 = .ok (.aload_n 0, 1) := dk_42 (dk_at dksX7_taken_1 0 rfl rfl)
theorem dX7_taken_25 : decode cX7_taken 25 = .ok (.iload_n 1, 1) := dk_27 (dk_at dksX7_taken_1 1 rfl rfl)
theorem dX7_taken_26 : decode cX7_taken 26 = .ok (.invokevirtual 76, 3) := dk_182 0 76 (dk_at dksX7_taken_1 2 rfl rfl)
theorem dX7_taken_29 : decode cX7_taken 29 = .ok (.ireturn, 1) := dk_172 (dk_at dksX7_taken_1 5 rfl rfl)
def dkwX7_gives_0 : List UInt8 := [42, 3, 181, 0, 66, 27, 172]
abbrev dktX7_gives_0 : List UInt8 := dkwX7_gives_0 ++ []
theorem dksX7_gives_0 : cX7_gives.data.toList.drop 0 = dktX7_gives_0 := by decide +kernel
theorem dX7_gives_0 : decode cX7_gives 0 = .ok (.aload_n 0, 1) := dk_42 (dk_at dksX7_gives_0 0 rfl rfl)
theorem dX7_gives_1 : decode cX7_gives 1 = .ok (.iconst 0, 1) := dk_3 (dk_at dksX7_gives_0 1 rfl rfl)
theorem dX7_gives_2 : decode cX7_gives 2 = .ok (.putfield 66, 3) := dk_181 0 66 (dk_at dksX7_gives_0 2 rfl rfl)
theorem dX7_gives_5 : decode cX7_gives 5 = .ok (.iload_n 1, 1) := dk_27 (dk_at dksX7_gives_0 5 rfl rfl)
theorem dX7_gives_6 : decode cX7_gives 6 = .ok (.ireturn, 1) := dk_172 (dk_at dksX7_gives_0 6 rfl rfl)
def dkwX7_season_6 : List UInt8 := [182, 0, 214, 172]
abbrev dktX7_season_6 : List UInt8 := dkwX7_season_6 ++ []
def dkwX7_season_5 : List UInt8 := [42, 180, 0, 7, 17, 19, 56, 29, 96, 46, 79, 132, 3, 1, 167, 255, 230, 42, 42, 180, 0, 232]
abbrev dktX7_season_5 : List UInt8 := dkwX7_season_5 ++ dktX7_season_6
def dkwX7_season_4 : List UInt8 := [180, 0, 7, 17, 19, 66, 46, 79, 17, 3, 92, 62, 29, 17, 4, 201, 162, 0, 25, 42, 180, 0, 7, 29]
abbrev dktX7_season_4 : List UInt8 := dkwX7_season_4 ++ dktX7_season_5
def dkwX7_season_3 : List UInt8 := [158, 0, 9, 42, 5, 182, 0, 154, 87, 42, 180, 0, 142, 154, 0, 51, 42, 180, 0, 7, 16, 10, 42]
abbrev dktX7_season_3 : List UInt8 := dkwX7_season_3 ++ dktX7_season_4
def dkwX7_season_2 : List UInt8 := [153, 0, 11, 42, 182, 0, 238, 61, 167, 255, 240, 42, 180, 0, 142, 154, 0, 16, 42, 180, 0, 229]
abbrev dktX7_season_2 : List UInt8 := dkwX7_season_2 ++ dktX7_season_3
def dkwX7_season_1 : List UInt8 := [3, 79, 42, 3, 181, 0, 229, 42, 3, 181, 0, 232, 4, 61, 28, 153, 0, 18, 42, 180, 0, 117]
abbrev dktX7_season_1 : List UInt8 := dkwX7_season_1 ++ dktX7_season_2
def dkwX7_season_0 : List UInt8 := [42, 27, 17, 1, 44, 182, 0, 207, 154, 0, 9, 42, 4, 182, 0, 72, 172, 42, 180, 0, 7, 17, 19, 66]
abbrev dktX7_season_0 : List UInt8 := dkwX7_season_0 ++ dktX7_season_1
theorem dksX7_season_0 : cX7_season.data.toList.drop 0 = dktX7_season_0 := by decide +kernel
theorem dksX7_season_1 : cX7_season.data.toList.drop 24 = dktX7_season_1 := dk_seg dksX7_season_0 24 rfl rfl
theorem dksX7_season_2 : cX7_season.data.toList.drop 46 = dktX7_season_2 := dk_seg dksX7_season_1 22 rfl rfl
theorem dksX7_season_3 : cX7_season.data.toList.drop 68 = dktX7_season_3 := dk_seg dksX7_season_2 22 rfl rfl
theorem dksX7_season_4 : cX7_season.data.toList.drop 91 = dktX7_season_4 := dk_seg dksX7_season_3 23 rfl rfl
theorem dksX7_season_5 : cX7_season.data.toList.drop 115 = dktX7_season_5 := dk_seg dksX7_season_4 24 rfl rfl
theorem dksX7_season_6 : cX7_season.data.toList.drop 137 = dktX7_season_6 := dk_seg dksX7_season_5 22 rfl rfl
theorem dX7_season_0 : decode cX7_season 0 = .ok (.aload_n 0, 1) := dk_42 (dk_at dksX7_season_0 0 rfl rfl)
theorem dX7_season_1 : decode cX7_season 1 = .ok (.iload_n 1, 1) := dk_27 (dk_at dksX7_season_0 1 rfl rfl)
theorem dX7_season_2 : decode cX7_season 2 = .ok (.sipush 300, 3) := dk_17 1 44 (dk_at dksX7_season_0 2 rfl rfl)
theorem dX7_season_5 : decode cX7_season 5 = .ok (.invokevirtual 207, 3) := dk_182 0 207 (dk_at dksX7_season_0 5 rfl rfl)
theorem dX7_season_8 : decode cX7_season 8 = .ok (.ifCond .ne 9, 3) := dk_154 0 9 (dk_at dksX7_season_0 8 rfl rfl)
theorem dX7_season_11 : decode cX7_season 11 = .ok (.aload_n 0, 1) := dk_42 (dk_at dksX7_season_0 11 rfl rfl)
theorem dX7_season_12 : decode cX7_season 12 = .ok (.iconst 1, 1) := dk_4 (dk_at dksX7_season_0 12 rfl rfl)
theorem dX7_season_13 : decode cX7_season 13 = .ok (.invokevirtual 72, 3) := dk_182 0 72 (dk_at dksX7_season_0 13 rfl rfl)
theorem dX7_season_16 : decode cX7_season 16 = .ok (.ireturn, 1) := dk_172 (dk_at dksX7_season_0 16 rfl rfl)
theorem dX7_season_17 : decode cX7_season 17 = .ok (.aload_n 0, 1) := dk_42 (dk_at dksX7_season_0 17 rfl rfl)
theorem dX7_season_18 : decode cX7_season 18 = .ok (.getfield 7, 3) := dk_180 0 7 (dk_at dksX7_season_0 18 rfl rfl)
theorem dX7_season_21 : decode cX7_season 21 = .ok (.sipush 4930, 3) := dk_17 19 66 (dk_at dksX7_season_0 21 rfl rfl)
theorem dX7_season_24 : decode cX7_season 24 = .ok (.iconst 0, 1) := dk_3 (dk_at dksX7_season_1 0 rfl rfl)
theorem dX7_season_25 : decode cX7_season 25 = .ok (.iastore, 1) := dk_79 (dk_at dksX7_season_1 1 rfl rfl)
theorem dX7_season_26 : decode cX7_season 26 = .ok (.aload_n 0, 1) := dk_42 (dk_at dksX7_season_1 2 rfl rfl)
theorem dX7_season_27 : decode cX7_season 27 = .ok (.iconst 0, 1) := dk_3 (dk_at dksX7_season_1 3 rfl rfl)
theorem dX7_season_28 : decode cX7_season 28 = .ok (.putfield 229, 3) := dk_181 0 229 (dk_at dksX7_season_1 4 rfl rfl)
theorem dX7_season_31 : decode cX7_season 31 = .ok (.aload_n 0, 1) := dk_42 (dk_at dksX7_season_1 7 rfl rfl)
theorem dX7_season_32 : decode cX7_season 32 = .ok (.iconst 0, 1) := dk_3 (dk_at dksX7_season_1 8 rfl rfl)
theorem dX7_season_33 : decode cX7_season 33 = .ok (.putfield 232, 3) := dk_181 0 232 (dk_at dksX7_season_1 9 rfl rfl)
theorem dX7_season_36 : decode cX7_season 36 = .ok (.iconst 1, 1) := dk_4 (dk_at dksX7_season_1 12 rfl rfl)
theorem dX7_season_37 : decode cX7_season 37 = .ok (.istore_n 2, 1) := dk_61 (dk_at dksX7_season_1 13 rfl rfl)
theorem dX7_season_38 : decode cX7_season 38 = .ok (.iload_n 2, 1) := dk_28 (dk_at dksX7_season_1 14 rfl rfl)
theorem dX7_season_39 : decode cX7_season 39 = .ok (.ifCond .eq 18, 3) := dk_153 0 18 (dk_at dksX7_season_1 15 rfl rfl)
theorem dX7_season_42 : decode cX7_season 42 = .ok (.aload_n 0, 1) := dk_42 (dk_at dksX7_season_1 18 rfl rfl)
theorem dX7_season_43 : decode cX7_season 43 = .ok (.getfield 117, 3) := dk_180 0 117 (dk_at dksX7_season_1 19 rfl rfl)
theorem dX7_season_46 : decode cX7_season 46 = .ok (.ifCond .eq 11, 3) := dk_153 0 11 (dk_at dksX7_season_2 0 rfl rfl)
theorem dX7_season_49 : decode cX7_season 49 = .ok (.aload_n 0, 1) := dk_42 (dk_at dksX7_season_2 3 rfl rfl)
theorem dX7_season_50 : decode cX7_season 50 = .ok (.invokevirtual 238, 3) := dk_182 0 238 (dk_at dksX7_season_2 4 rfl rfl)
theorem dX7_season_53 : decode cX7_season 53 = .ok (.istore_n 2, 1) := dk_61 (dk_at dksX7_season_2 7 rfl rfl)
theorem dX7_season_54 : decode cX7_season 54 = .ok (.goto (-16), 3) := dk_167 255 240 (dk_at dksX7_season_2 8 rfl rfl)
theorem dX7_season_57 : decode cX7_season 57 = .ok (.aload_n 0, 1) := dk_42 (dk_at dksX7_season_2 11 rfl rfl)
theorem dX7_season_58 : decode cX7_season 58 = .ok (.getfield 142, 3) := dk_180 0 142 (dk_at dksX7_season_2 12 rfl rfl)
theorem dX7_season_61 : decode cX7_season 61 = .ok (.ifCond .ne 16, 3) := dk_154 0 16 (dk_at dksX7_season_2 15 rfl rfl)
theorem dX7_season_64 : decode cX7_season 64 = .ok (.aload_n 0, 1) := dk_42 (dk_at dksX7_season_2 18 rfl rfl)
theorem dX7_season_65 : decode cX7_season 65 = .ok (.getfield 229, 3) := dk_180 0 229 (dk_at dksX7_season_2 19 rfl rfl)
theorem dX7_season_68 : decode cX7_season 68 = .ok (.ifCond .le 9, 3) := dk_158 0 9 (dk_at dksX7_season_3 0 rfl rfl)
theorem dX7_season_71 : decode cX7_season 71 = .ok (.aload_n 0, 1) := dk_42 (dk_at dksX7_season_3 3 rfl rfl)
theorem dX7_season_72 : decode cX7_season 72 = .ok (.iconst 2, 1) := dk_5 (dk_at dksX7_season_3 4 rfl rfl)
theorem dX7_season_73 : decode cX7_season 73 = .ok (.invokevirtual 154, 3) := dk_182 0 154 (dk_at dksX7_season_3 5 rfl rfl)
theorem dX7_season_76 : decode cX7_season 76 = .ok (.pop, 1) := dk_87 (dk_at dksX7_season_3 8 rfl rfl)
theorem dX7_season_77 : decode cX7_season 77 = .ok (.aload_n 0, 1) := dk_42 (dk_at dksX7_season_3 9 rfl rfl)
theorem dX7_season_78 : decode cX7_season 78 = .ok (.getfield 142, 3) := dk_180 0 142 (dk_at dksX7_season_3 10 rfl rfl)
theorem dX7_season_81 : decode cX7_season 81 = .ok (.ifCond .ne 51, 3) := dk_154 0 51 (dk_at dksX7_season_3 13 rfl rfl)
theorem dX7_season_84 : decode cX7_season 84 = .ok (.aload_n 0, 1) := dk_42 (dk_at dksX7_season_3 16 rfl rfl)
theorem dX7_season_85 : decode cX7_season 85 = .ok (.getfield 7, 3) := dk_180 0 7 (dk_at dksX7_season_3 17 rfl rfl)
theorem dX7_season_88 : decode cX7_season 88 = .ok (.bipush 10, 2) := dk_16 10 (dk_at dksX7_season_3 20 rfl rfl)
theorem dX7_season_90 : decode cX7_season 90 = .ok (.aload_n 0, 1) := dk_42 (dk_at dksX7_season_3 22 rfl rfl)
theorem dX7_season_91 : decode cX7_season 91 = .ok (.getfield 7, 3) := dk_180 0 7 (dk_at dksX7_season_4 0 rfl rfl)
theorem dX7_season_94 : decode cX7_season 94 = .ok (.sipush 4930, 3) := dk_17 19 66 (dk_at dksX7_season_4 3 rfl rfl)
theorem dX7_season_97 : decode cX7_season 97 = .ok (.iaload, 1) := dk_46 (dk_at dksX7_season_4 6 rfl rfl)
theorem dX7_season_98 : decode cX7_season 98 = .ok (.iastore, 1) := dk_79 (dk_at dksX7_season_4 7 rfl rfl)
theorem dX7_season_99 : decode cX7_season 99 = .ok (.sipush 860, 3) := dk_17 3 92 (dk_at dksX7_season_4 8 rfl rfl)
theorem dX7_season_102 : decode cX7_season 102 = .ok (.istore_n 3, 1) := dk_62 (dk_at dksX7_season_4 11 rfl rfl)
theorem dX7_season_103 : decode cX7_season 103 = .ok (.iload_n 3, 1) := dk_29 (dk_at dksX7_season_4 12 rfl rfl)
theorem dX7_season_104 : decode cX7_season 104 = .ok (.sipush 1225, 3) := dk_17 4 201 (dk_at dksX7_season_4 13 rfl rfl)
theorem dX7_season_107 : decode cX7_season 107 = .ok (.if_icmp .ge 25, 3) := dk_162 0 25 (dk_at dksX7_season_4 16 rfl rfl)
theorem dX7_season_110 : decode cX7_season 110 = .ok (.aload_n 0, 1) := dk_42 (dk_at dksX7_season_4 19 rfl rfl)
theorem dX7_season_111 : decode cX7_season 111 = .ok (.getfield 7, 3) := dk_180 0 7 (dk_at dksX7_season_4 20 rfl rfl)
theorem dX7_season_114 : decode cX7_season 114 = .ok (.iload_n 3, 1) := dk_29 (dk_at dksX7_season_4 23 rfl rfl)
theorem dX7_season_115 : decode cX7_season 115 = .ok (.aload_n 0, 1) := dk_42 (dk_at dksX7_season_5 0 rfl rfl)
theorem dX7_season_116 : decode cX7_season 116 = .ok (.getfield 7, 3) := dk_180 0 7 (dk_at dksX7_season_5 1 rfl rfl)
theorem dX7_season_119 : decode cX7_season 119 = .ok (.sipush 4920, 3) := dk_17 19 56 (dk_at dksX7_season_5 4 rfl rfl)
theorem dX7_season_122 : decode cX7_season 122 = .ok (.iload_n 3, 1) := dk_29 (dk_at dksX7_season_5 7 rfl rfl)
theorem dX7_season_123 : decode cX7_season 123 = .ok (.iadd, 1) := dk_96 (dk_at dksX7_season_5 8 rfl rfl)
theorem dX7_season_124 : decode cX7_season 124 = .ok (.iaload, 1) := dk_46 (dk_at dksX7_season_5 9 rfl rfl)
theorem dX7_season_125 : decode cX7_season 125 = .ok (.iastore, 1) := dk_79 (dk_at dksX7_season_5 10 rfl rfl)
theorem dX7_season_126 : decode cX7_season 126 = .ok (.iinc 3 1, 3) := dk_132 3 1 (dk_at dksX7_season_5 11 rfl rfl)
theorem dX7_season_129 : decode cX7_season 129 = .ok (.goto (-26), 3) := dk_167 255 230 (dk_at dksX7_season_5 14 rfl rfl)
theorem dX7_season_132 : decode cX7_season 132 = .ok (.aload_n 0, 1) := dk_42 (dk_at dksX7_season_5 17 rfl rfl)
theorem dX7_season_133 : decode cX7_season 133 = .ok (.aload_n 0, 1) := dk_42 (dk_at dksX7_season_5 18 rfl rfl)
theorem dX7_season_134 : decode cX7_season 134 = .ok (.getfield 232, 3) := dk_180 0 232 (dk_at dksX7_season_5 19 rfl rfl)
theorem dX7_season_137 : decode cX7_season 137 = .ok (.invokevirtual 214, 3) := dk_182 0 214 (dk_at dksX7_season_6 0 rfl rfl)
theorem dX7_season_140 : decode cX7_season 140 = .ok (.ireturn, 1) := dk_172 (dk_at dksX7_season_6 3 rfl rfl)
def dkwX7_step_12 : List UInt8 := [182, 0, 204, 172]
abbrev dktX7_step_12 : List UInt8 := dkwX7_step_12 ++ []
def dkwX7_step_11 : List UInt8 := [17, 22, 148, 16, 6, 42, 180, 0, 44, 42, 180, 0, 229, 46, 104, 96, 7, 96, 28, 79, 42, 16, 59]
abbrev dktX7_step_11 : List UInt8 := dkwX7_step_11 ++ dktX7_step_12
def dkwX7_step_10 : List UInt8 := [181, 0, 229, 42, 180, 0, 7, 29, 7, 96, 42, 180, 0, 44, 42, 180, 0, 229, 46, 79, 42, 180, 0, 7]
abbrev dktX7_step_10 : List UInt8 := dkwX7_step_10 ++ dktX7_step_11
def dkwX7_step_9 : List UInt8 := [42, 89, 180, 0, 229, 4, 96, 181, 0, 229, 27, 16, 19, 160, 0, 54, 42, 89, 180, 0, 229, 4, 100]
abbrev dktX7_step_9 : List UInt8 := dkwX7_step_9 ++ dktX7_step_10
def dkwX7_step_8 : List UInt8 := [29, 182, 0, 235, 154, 0, 5, 3, 172, 21, 4, 153, 0, 23, 42, 180, 0, 44, 42, 180, 0, 229, 28, 79]
abbrev dktX7_step_8 : List UInt8 := dkwX7_step_8 ++ dktX7_step_9
def dkwX7_step_7 : List UInt8 := [132, 5, 1, 167, 255, 236, 42, 180, 0, 7, 17, 19, 66, 92, 46, 4, 96, 79, 42, 182, 0, 148, 42, 27]
abbrev dktX7_step_7 : List UInt8 := dkwX7_step_7 ++ dktX7_step_8
def dkwX7_step_6 : List UInt8 := [29, 27, 79, 4, 54, 5, 21, 5, 16, 6, 162, 0, 19, 42, 180, 0, 7, 29, 21, 5, 96, 3, 79]
abbrev dktX7_step_6 : List UInt8 := dkwX7_step_6 ++ dktX7_step_7
def dkwX7_step_5 : List UInt8 := [42, 89, 180, 0, 232, 27, 16, 19, 160, 0, 7, 3, 167, 0, 4, 4, 96, 181, 0, 232, 42, 180, 0, 7]
abbrev dktX7_step_5 : List UInt8 := dkwX7_step_5 ++ dktX7_step_6
def dkwX7_step_4 : List UInt8 := [182, 0, 154, 172, 21, 4, 153, 0, 18, 42, 180, 0, 229, 6, 160, 0, 10, 42, 16, 7, 182, 0, 154, 172]
abbrev dktX7_step_4 : List UInt8 := dkwX7_step_4 ++ dktX7_step_5
def dkwX7_step_3 : List UInt8 := [182, 0, 154, 172, 27, 16, 19, 159, 0, 19, 42, 180, 0, 232, 16, 30, 160, 0, 10, 42, 16, 6]
abbrev dktX7_step_3 : List UInt8 := dkwX7_step_3 ++ dktX7_step_4
def dkwX7_step_2 : List UInt8 := [161, 0, 22, 27, 16, 20, 163, 0, 16, 27, 16, 19, 160, 0, 16, 42, 180, 0, 229, 154, 0, 9, 42, 5]
abbrev dktX7_step_2 : List UInt8 := dkwX7_step_2 ++ dktX7_step_3
def dkwX7_step_1 : List UInt8 := [62, 27, 16, 17, 159, 0, 9, 27, 16, 18, 160, 0, 7, 4, 167, 0, 4, 3, 54, 4, 27, 16, 11]
abbrev dktX7_step_1 : List UInt8 := dkwX7_step_1 ++ dktX7_step_2
def dkwX7_step_0 : List UInt8 := [42, 18, 165, 182, 0, 157, 60, 42, 180, 0, 7, 17, 19, 66, 46, 61, 17, 22, 148, 16, 6, 28, 104, 96]
abbrev dktX7_step_0 : List UInt8 := dkwX7_step_0 ++ dktX7_step_1
theorem dksX7_step_0 : cX7_step.data.toList.drop 0 = dktX7_step_0 := by decide +kernel
theorem dksX7_step_1 : cX7_step.data.toList.drop 24 = dktX7_step_1 := dk_seg dksX7_step_0 24 rfl rfl
theorem dksX7_step_2 : cX7_step.data.toList.drop 47 = dktX7_step_2 := dk_seg dksX7_step_1 23 rfl rfl
theorem dksX7_step_3 : cX7_step.data.toList.drop 71 = dktX7_step_3 := dk_seg dksX7_step_2 24 rfl rfl
theorem dksX7_step_4 : cX7_step.data.toList.drop 93 = dktX7_step_4 := dk_seg dksX7_step_3 22 rfl rfl
theorem dksX7_step_5 : cX7_step.data.toList.drop 117 = dktX7_step_5 := dk_seg dksX7_step_4 24 rfl rfl
theorem dksX7_step_6 : cX7_step.data.toList.drop 141 = dktX7_step_6 := dk_seg dksX7_step_5 24 rfl rfl
theorem dksX7_step_7 : cX7_step.data.toList.drop 164 = dktX7_step_7 := dk_seg dksX7_step_6 23 rfl rfl
theorem dksX7_step_8 : cX7_step.data.toList.drop 188 = dktX7_step_8 := dk_seg dksX7_step_7 24 rfl rfl
theorem dksX7_step_9 : cX7_step.data.toList.drop 212 = dktX7_step_9 := dk_seg dksX7_step_8 24 rfl rfl
theorem dksX7_step_10 : cX7_step.data.toList.drop 235 = dktX7_step_10 := dk_seg dksX7_step_9 23 rfl rfl
theorem dksX7_step_11 : cX7_step.data.toList.drop 259 = dktX7_step_11 := dk_seg dksX7_step_10 24 rfl rfl
theorem dksX7_step_12 : cX7_step.data.toList.drop 282 = dktX7_step_12 := dk_seg dksX7_step_11 23 rfl rfl
theorem dX7_step_0 : decode cX7_step 0 = .ok (.aload_n 0, 1) := dk_42 (dk_at dksX7_step_0 0 rfl rfl)
theorem dX7_step_1 : decode cX7_step 1 = .ok (.ldc 165, 2) := dk_18 165 (dk_at dksX7_step_0 1 rfl rfl)
theorem dX7_step_3 : decode cX7_step 3 = .ok (.invokevirtual 157, 3) := dk_182 0 157 (dk_at dksX7_step_0 3 rfl rfl)
theorem dX7_step_6 : decode cX7_step 6 = .ok (.istore_n 1, 1) := dk_60 (dk_at dksX7_step_0 6 rfl rfl)
theorem dX7_step_7 : decode cX7_step 7 = .ok (.aload_n 0, 1) := dk_42 (dk_at dksX7_step_0 7 rfl rfl)
theorem dX7_step_8 : decode cX7_step 8 = .ok (.getfield 7, 3) := dk_180 0 7 (dk_at dksX7_step_0 8 rfl rfl)
theorem dX7_step_11 : decode cX7_step 11 = .ok (.sipush 4930, 3) := dk_17 19 66 (dk_at dksX7_step_0 11 rfl rfl)
theorem dX7_step_14 : decode cX7_step 14 = .ok (.iaload, 1) := dk_46 (dk_at dksX7_step_0 14 rfl rfl)
theorem dX7_step_15 : decode cX7_step 15 = .ok (.istore_n 2, 1) := dk_61 (dk_at dksX7_step_0 15 rfl rfl)
theorem dX7_step_16 : decode cX7_step 16 = .ok (.sipush 5780, 3) := dk_17 22 148 (dk_at dksX7_step_0 16 rfl rfl)
theorem dX7_step_19 : decode cX7_step 19 = .ok (.bipush 6, 2) := dk_16 6 (dk_at dksX7_step_0 19 rfl rfl)
theorem dX7_step_21 : decode cX7_step 21 = .ok (.iload_n 2, 1) := dk_28 (dk_at dksX7_step_0 21 rfl rfl)
theorem dX7_step_22 : decode cX7_step 22 = .ok (.imul, 1) := dk_104 (dk_at dksX7_step_0 22 rfl rfl)
theorem dX7_step_23 : decode cX7_step 23 = .ok (.iadd, 1) := dk_96 (dk_at dksX7_step_0 23 rfl rfl)
theorem dX7_step_24 : decode cX7_step 24 = .ok (.istore_n 3, 1) := dk_62 (dk_at dksX7_step_1 0 rfl rfl)
theorem dX7_step_25 : decode cX7_step 25 = .ok (.iload_n 1, 1) := dk_27 (dk_at dksX7_step_1 1 rfl rfl)
theorem dX7_step_26 : decode cX7_step 26 = .ok (.bipush 17, 2) := dk_16 17 (dk_at dksX7_step_1 2 rfl rfl)
theorem dX7_step_28 : decode cX7_step 28 = .ok (.if_icmp .eq 9, 3) := dk_159 0 9 (dk_at dksX7_step_1 4 rfl rfl)
theorem dX7_step_31 : decode cX7_step 31 = .ok (.iload_n 1, 1) := dk_27 (dk_at dksX7_step_1 7 rfl rfl)
theorem dX7_step_32 : decode cX7_step 32 = .ok (.bipush 18, 2) := dk_16 18 (dk_at dksX7_step_1 8 rfl rfl)
theorem dX7_step_34 : decode cX7_step 34 = .ok (.if_icmp .ne 7, 3) := dk_160 0 7 (dk_at dksX7_step_1 10 rfl rfl)
theorem dX7_step_37 : decode cX7_step 37 = .ok (.iconst 1, 1) := dk_4 (dk_at dksX7_step_1 13 rfl rfl)
theorem dX7_step_38 : decode cX7_step 38 = .ok (.goto 4, 3) := dk_167 0 4 (dk_at dksX7_step_1 14 rfl rfl)
theorem dX7_step_41 : decode cX7_step 41 = .ok (.iconst 0, 1) := dk_3 (dk_at dksX7_step_1 17 rfl rfl)
theorem dX7_step_42 : decode cX7_step 42 = .ok (.istore 4, 2) := dk_54 4 (dk_at dksX7_step_1 18 rfl rfl)
theorem dX7_step_44 : decode cX7_step 44 = .ok (.iload_n 1, 1) := dk_27 (dk_at dksX7_step_1 20 rfl rfl)
theorem dX7_step_45 : decode cX7_step 45 = .ok (.bipush 11, 2) := dk_16 11 (dk_at dksX7_step_1 21 rfl rfl)
theorem dX7_step_47 : decode cX7_step 47 = .ok (.if_icmp .lt 22, 3) := dk_161 0 22 (dk_at dksX7_step_2 0 rfl rfl)
theorem dX7_step_50 : decode cX7_step 50 = .ok (.iload_n 1, 1) := dk_27 (dk_at dksX7_step_2 3 rfl rfl)
theorem dX7_step_51 : decode cX7_step 51 = .ok (.bipush 20, 2) := dk_16 20 (dk_at dksX7_step_2 4 rfl rfl)
theorem dX7_step_53 : decode cX7_step 53 = .ok (.if_icmp .gt 16, 3) := dk_163 0 16 (dk_at dksX7_step_2 6 rfl rfl)
theorem dX7_step_56 : decode cX7_step 56 = .ok (.iload_n 1, 1) := dk_27 (dk_at dksX7_step_2 9 rfl rfl)
theorem dX7_step_57 : decode cX7_step 57 = .ok (.bipush 19, 2) := dk_16 19 (dk_at dksX7_step_2 10 rfl rfl)
theorem dX7_step_59 : decode cX7_step 59 = .ok (.if_icmp .ne 16, 3) := dk_160 0 16 (dk_at dksX7_step_2 12 rfl rfl)
theorem dX7_step_62 : decode cX7_step 62 = .ok (.aload_n 0, 1) := dk_42 (dk_at dksX7_step_2 15 rfl rfl)
theorem dX7_step_63 : decode cX7_step 63 = .ok (.getfield 229, 3) := dk_180 0 229 (dk_at dksX7_step_2 16 rfl rfl)
theorem dX7_step_66 : decode cX7_step 66 = .ok (.ifCond .ne 9, 3) := dk_154 0 9 (dk_at dksX7_step_2 19 rfl rfl)
theorem dX7_step_69 : decode cX7_step 69 = .ok (.aload_n 0, 1) := dk_42 (dk_at dksX7_step_2 22 rfl rfl)
theorem dX7_step_70 : decode cX7_step 70 = .ok (.iconst 2, 1) := dk_5 (dk_at dksX7_step_2 23 rfl rfl)
theorem dX7_step_71 : decode cX7_step 71 = .ok (.invokevirtual 154, 3) := dk_182 0 154 (dk_at dksX7_step_3 0 rfl rfl)
theorem dX7_step_74 : decode cX7_step 74 = .ok (.ireturn, 1) := dk_172 (dk_at dksX7_step_3 3 rfl rfl)
theorem dX7_step_75 : decode cX7_step 75 = .ok (.iload_n 1, 1) := dk_27 (dk_at dksX7_step_3 4 rfl rfl)
theorem dX7_step_76 : decode cX7_step 76 = .ok (.bipush 19, 2) := dk_16 19 (dk_at dksX7_step_3 5 rfl rfl)
theorem dX7_step_78 : decode cX7_step 78 = .ok (.if_icmp .eq 19, 3) := dk_159 0 19 (dk_at dksX7_step_3 7 rfl rfl)
theorem dX7_step_81 : decode cX7_step 81 = .ok (.aload_n 0, 1) := dk_42 (dk_at dksX7_step_3 10 rfl rfl)
theorem dX7_step_82 : decode cX7_step 82 = .ok (.getfield 232, 3) := dk_180 0 232 (dk_at dksX7_step_3 11 rfl rfl)
theorem dX7_step_85 : decode cX7_step 85 = .ok (.bipush 30, 2) := dk_16 30 (dk_at dksX7_step_3 14 rfl rfl)
theorem dX7_step_87 : decode cX7_step 87 = .ok (.if_icmp .ne 10, 3) := dk_160 0 10 (dk_at dksX7_step_3 16 rfl rfl)
theorem dX7_step_90 : decode cX7_step 90 = .ok (.aload_n 0, 1) := dk_42 (dk_at dksX7_step_3 19 rfl rfl)
theorem dX7_step_91 : decode cX7_step 91 = .ok (.bipush 6, 2) := dk_16 6 (dk_at dksX7_step_3 20 rfl rfl)
theorem dX7_step_93 : decode cX7_step 93 = .ok (.invokevirtual 154, 3) := dk_182 0 154 (dk_at dksX7_step_4 0 rfl rfl)
theorem dX7_step_96 : decode cX7_step 96 = .ok (.ireturn, 1) := dk_172 (dk_at dksX7_step_4 3 rfl rfl)
theorem dX7_step_97 : decode cX7_step 97 = .ok (.iload 4, 2) := dk_21 4 (dk_at dksX7_step_4 4 rfl rfl)
theorem dX7_step_99 : decode cX7_step 99 = .ok (.ifCond .eq 18, 3) := dk_153 0 18 (dk_at dksX7_step_4 6 rfl rfl)
theorem dX7_step_102 : decode cX7_step 102 = .ok (.aload_n 0, 1) := dk_42 (dk_at dksX7_step_4 9 rfl rfl)
theorem dX7_step_103 : decode cX7_step 103 = .ok (.getfield 229, 3) := dk_180 0 229 (dk_at dksX7_step_4 10 rfl rfl)
theorem dX7_step_106 : decode cX7_step 106 = .ok (.iconst 3, 1) := dk_6 (dk_at dksX7_step_4 13 rfl rfl)
theorem dX7_step_107 : decode cX7_step 107 = .ok (.if_icmp .ne 10, 3) := dk_160 0 10 (dk_at dksX7_step_4 14 rfl rfl)
theorem dX7_step_110 : decode cX7_step 110 = .ok (.aload_n 0, 1) := dk_42 (dk_at dksX7_step_4 17 rfl rfl)
theorem dX7_step_111 : decode cX7_step 111 = .ok (.bipush 7, 2) := dk_16 7 (dk_at dksX7_step_4 18 rfl rfl)
theorem dX7_step_113 : decode cX7_step 113 = .ok (.invokevirtual 154, 3) := dk_182 0 154 (dk_at dksX7_step_4 20 rfl rfl)
theorem dX7_step_116 : decode cX7_step 116 = .ok (.ireturn, 1) := dk_172 (dk_at dksX7_step_4 23 rfl rfl)
theorem dX7_step_117 : decode cX7_step 117 = .ok (.aload_n 0, 1) := dk_42 (dk_at dksX7_step_5 0 rfl rfl)
theorem dX7_step_118 : decode cX7_step 118 = .ok (.dup, 1) := dk_89 (dk_at dksX7_step_5 1 rfl rfl)
theorem dX7_step_119 : decode cX7_step 119 = .ok (.getfield 232, 3) := dk_180 0 232 (dk_at dksX7_step_5 2 rfl rfl)
theorem dX7_step_122 : decode cX7_step 122 = .ok (.iload_n 1, 1) := dk_27 (dk_at dksX7_step_5 5 rfl rfl)
theorem dX7_step_123 : decode cX7_step 123 = .ok (.bipush 19, 2) := dk_16 19 (dk_at dksX7_step_5 6 rfl rfl)
theorem dX7_step_125 : decode cX7_step 125 = .ok (.if_icmp .ne 7, 3) := dk_160 0 7 (dk_at dksX7_step_5 8 rfl rfl)
theorem dX7_step_128 : decode cX7_step 128 = .ok (.iconst 0, 1) := dk_3 (dk_at dksX7_step_5 11 rfl rfl)
theorem dX7_step_129 : decode cX7_step 129 = .ok (.goto 4, 3) := dk_167 0 4 (dk_at dksX7_step_5 12 rfl rfl)
theorem dX7_step_132 : decode cX7_step 132 = .ok (.iconst 1, 1) := dk_4 (dk_at dksX7_step_5 15 rfl rfl)
theorem dX7_step_133 : decode cX7_step 133 = .ok (.iadd, 1) := dk_96 (dk_at dksX7_step_5 16 rfl rfl)
theorem dX7_step_134 : decode cX7_step 134 = .ok (.putfield 232, 3) := dk_181 0 232 (dk_at dksX7_step_5 17 rfl rfl)
theorem dX7_step_137 : decode cX7_step 137 = .ok (.aload_n 0, 1) := dk_42 (dk_at dksX7_step_5 20 rfl rfl)
theorem dX7_step_138 : decode cX7_step 138 = .ok (.getfield 7, 3) := dk_180 0 7 (dk_at dksX7_step_5 21 rfl rfl)
theorem dX7_step_141 : decode cX7_step 141 = .ok (.iload_n 3, 1) := dk_29 (dk_at dksX7_step_6 0 rfl rfl)
theorem dX7_step_142 : decode cX7_step 142 = .ok (.iload_n 1, 1) := dk_27 (dk_at dksX7_step_6 1 rfl rfl)
theorem dX7_step_143 : decode cX7_step 143 = .ok (.iastore, 1) := dk_79 (dk_at dksX7_step_6 2 rfl rfl)
theorem dX7_step_144 : decode cX7_step 144 = .ok (.iconst 1, 1) := dk_4 (dk_at dksX7_step_6 3 rfl rfl)
theorem dX7_step_145 : decode cX7_step 145 = .ok (.istore 5, 2) := dk_54 5 (dk_at dksX7_step_6 4 rfl rfl)
theorem dX7_step_147 : decode cX7_step 147 = .ok (.iload 5, 2) := dk_21 5 (dk_at dksX7_step_6 6 rfl rfl)
theorem dX7_step_149 : decode cX7_step 149 = .ok (.bipush 6, 2) := dk_16 6 (dk_at dksX7_step_6 8 rfl rfl)
theorem dX7_step_151 : decode cX7_step 151 = .ok (.if_icmp .ge 19, 3) := dk_162 0 19 (dk_at dksX7_step_6 10 rfl rfl)
theorem dX7_step_154 : decode cX7_step 154 = .ok (.aload_n 0, 1) := dk_42 (dk_at dksX7_step_6 13 rfl rfl)
theorem dX7_step_155 : decode cX7_step 155 = .ok (.getfield 7, 3) := dk_180 0 7 (dk_at dksX7_step_6 14 rfl rfl)
theorem dX7_step_158 : decode cX7_step 158 = .ok (.iload_n 3, 1) := dk_29 (dk_at dksX7_step_6 17 rfl rfl)
theorem dX7_step_159 : decode cX7_step 159 = .ok (.iload 5, 2) := dk_21 5 (dk_at dksX7_step_6 18 rfl rfl)
theorem dX7_step_161 : decode cX7_step 161 = .ok (.iadd, 1) := dk_96 (dk_at dksX7_step_6 20 rfl rfl)
theorem dX7_step_162 : decode cX7_step 162 = .ok (.iconst 0, 1) := dk_3 (dk_at dksX7_step_6 21 rfl rfl)
theorem dX7_step_163 : decode cX7_step 163 = .ok (.iastore, 1) := dk_79 (dk_at dksX7_step_6 22 rfl rfl)
theorem dX7_step_164 : decode cX7_step 164 = .ok (.iinc 5 1, 3) := dk_132 5 1 (dk_at dksX7_step_7 0 rfl rfl)
theorem dX7_step_167 : decode cX7_step 167 = .ok (.goto (-20), 3) := dk_167 255 236 (dk_at dksX7_step_7 3 rfl rfl)
theorem dX7_step_170 : decode cX7_step 170 = .ok (.aload_n 0, 1) := dk_42 (dk_at dksX7_step_7 6 rfl rfl)
theorem dX7_step_171 : decode cX7_step 171 = .ok (.getfield 7, 3) := dk_180 0 7 (dk_at dksX7_step_7 7 rfl rfl)
theorem dX7_step_174 : decode cX7_step 174 = .ok (.sipush 4930, 3) := dk_17 19 66 (dk_at dksX7_step_7 10 rfl rfl)
theorem dX7_step_177 : decode cX7_step 177 = .ok (.dup2, 1) := dk_92 (dk_at dksX7_step_7 13 rfl rfl)
theorem dX7_step_178 : decode cX7_step 178 = .ok (.iaload, 1) := dk_46 (dk_at dksX7_step_7 14 rfl rfl)
theorem dX7_step_179 : decode cX7_step 179 = .ok (.iconst 1, 1) := dk_4 (dk_at dksX7_step_7 15 rfl rfl)
theorem dX7_step_180 : decode cX7_step 180 = .ok (.iadd, 1) := dk_96 (dk_at dksX7_step_7 16 rfl rfl)
theorem dX7_step_181 : decode cX7_step 181 = .ok (.iastore, 1) := dk_79 (dk_at dksX7_step_7 17 rfl rfl)
theorem dX7_step_182 : decode cX7_step 182 = .ok (.aload_n 0, 1) := dk_42 (dk_at dksX7_step_7 18 rfl rfl)
theorem dX7_step_183 : decode cX7_step 183 = .ok (.invokevirtual 148, 3) := dk_182 0 148 (dk_at dksX7_step_7 19 rfl rfl)
theorem dX7_step_186 : decode cX7_step 186 = .ok (.aload_n 0, 1) := dk_42 (dk_at dksX7_step_7 22 rfl rfl)
theorem dX7_step_187 : decode cX7_step 187 = .ok (.iload_n 1, 1) := dk_27 (dk_at dksX7_step_7 23 rfl rfl)
theorem dX7_step_188 : decode cX7_step 188 = .ok (.iload_n 3, 1) := dk_29 (dk_at dksX7_step_8 0 rfl rfl)
theorem dX7_step_189 : decode cX7_step 189 = .ok (.invokevirtual 235, 3) := dk_182 0 235 (dk_at dksX7_step_8 1 rfl rfl)
theorem dX7_step_192 : decode cX7_step 192 = .ok (.ifCond .ne 5, 3) := dk_154 0 5 (dk_at dksX7_step_8 4 rfl rfl)
theorem dX7_step_195 : decode cX7_step 195 = .ok (.iconst 0, 1) := dk_3 (dk_at dksX7_step_8 7 rfl rfl)
theorem dX7_step_196 : decode cX7_step 196 = .ok (.ireturn, 1) := dk_172 (dk_at dksX7_step_8 8 rfl rfl)
theorem dX7_step_197 : decode cX7_step 197 = .ok (.iload 4, 2) := dk_21 4 (dk_at dksX7_step_8 9 rfl rfl)
theorem dX7_step_199 : decode cX7_step 199 = .ok (.ifCond .eq 23, 3) := dk_153 0 23 (dk_at dksX7_step_8 11 rfl rfl)
theorem dX7_step_202 : decode cX7_step 202 = .ok (.aload_n 0, 1) := dk_42 (dk_at dksX7_step_8 14 rfl rfl)
theorem dX7_step_203 : decode cX7_step 203 = .ok (.getfield 44, 3) := dk_180 0 44 (dk_at dksX7_step_8 15 rfl rfl)
theorem dX7_step_206 : decode cX7_step 206 = .ok (.aload_n 0, 1) := dk_42 (dk_at dksX7_step_8 18 rfl rfl)
theorem dX7_step_207 : decode cX7_step 207 = .ok (.getfield 229, 3) := dk_180 0 229 (dk_at dksX7_step_8 19 rfl rfl)
theorem dX7_step_210 : decode cX7_step 210 = .ok (.iload_n 2, 1) := dk_28 (dk_at dksX7_step_8 22 rfl rfl)
theorem dX7_step_211 : decode cX7_step 211 = .ok (.iastore, 1) := dk_79 (dk_at dksX7_step_8 23 rfl rfl)
theorem dX7_step_212 : decode cX7_step 212 = .ok (.aload_n 0, 1) := dk_42 (dk_at dksX7_step_9 0 rfl rfl)
theorem dX7_step_213 : decode cX7_step 213 = .ok (.dup, 1) := dk_89 (dk_at dksX7_step_9 1 rfl rfl)
theorem dX7_step_214 : decode cX7_step 214 = .ok (.getfield 229, 3) := dk_180 0 229 (dk_at dksX7_step_9 2 rfl rfl)
theorem dX7_step_217 : decode cX7_step 217 = .ok (.iconst 1, 1) := dk_4 (dk_at dksX7_step_9 5 rfl rfl)
theorem dX7_step_218 : decode cX7_step 218 = .ok (.iadd, 1) := dk_96 (dk_at dksX7_step_9 6 rfl rfl)
theorem dX7_step_219 : decode cX7_step 219 = .ok (.putfield 229, 3) := dk_181 0 229 (dk_at dksX7_step_9 7 rfl rfl)
theorem dX7_step_222 : decode cX7_step 222 = .ok (.iload_n 1, 1) := dk_27 (dk_at dksX7_step_9 10 rfl rfl)
theorem dX7_step_223 : decode cX7_step 223 = .ok (.bipush 19, 2) := dk_16 19 (dk_at dksX7_step_9 11 rfl rfl)
theorem dX7_step_225 : decode cX7_step 225 = .ok (.if_icmp .ne 54, 3) := dk_160 0 54 (dk_at dksX7_step_9 13 rfl rfl)
theorem dX7_step_228 : decode cX7_step 228 = .ok (.aload_n 0, 1) := dk_42 (dk_at dksX7_step_9 16 rfl rfl)
theorem dX7_step_229 : decode cX7_step 229 = .ok (.dup, 1) := dk_89 (dk_at dksX7_step_9 17 rfl rfl)
theorem dX7_step_230 : decode cX7_step 230 = .ok (.getfield 229, 3) := dk_180 0 229 (dk_at dksX7_step_9 18 rfl rfl)
theorem dX7_step_233 : decode cX7_step 233 = .ok (.iconst 1, 1) := dk_4 (dk_at dksX7_step_9 21 rfl rfl)
theorem dX7_step_234 : decode cX7_step 234 = .ok (.isub, 1) := dk_100 (dk_at dksX7_step_9 22 rfl rfl)
theorem dX7_step_235 : decode cX7_step 235 = .ok (.putfield 229, 3) := dk_181 0 229 (dk_at dksX7_step_10 0 rfl rfl)
theorem dX7_step_238 : decode cX7_step 238 = .ok (.aload_n 0, 1) := dk_42 (dk_at dksX7_step_10 3 rfl rfl)
theorem dX7_step_239 : decode cX7_step 239 = .ok (.getfield 7, 3) := dk_180 0 7 (dk_at dksX7_step_10 4 rfl rfl)
theorem dX7_step_242 : decode cX7_step 242 = .ok (.iload_n 3, 1) := dk_29 (dk_at dksX7_step_10 7 rfl rfl)
theorem dX7_step_243 : decode cX7_step 243 = .ok (.iconst 4, 1) := dk_7 (dk_at dksX7_step_10 8 rfl rfl)
theorem dX7_step_244 : decode cX7_step 244 = .ok (.iadd, 1) := dk_96 (dk_at dksX7_step_10 9 rfl rfl)
theorem dX7_step_245 : decode cX7_step 245 = .ok (.aload_n 0, 1) := dk_42 (dk_at dksX7_step_10 10 rfl rfl)
theorem dX7_step_246 : decode cX7_step 246 = .ok (.getfield 44, 3) := dk_180 0 44 (dk_at dksX7_step_10 11 rfl rfl)
theorem dX7_step_249 : decode cX7_step 249 = .ok (.aload_n 0, 1) := dk_42 (dk_at dksX7_step_10 14 rfl rfl)
theorem dX7_step_250 : decode cX7_step 250 = .ok (.getfield 229, 3) := dk_180 0 229 (dk_at dksX7_step_10 15 rfl rfl)
theorem dX7_step_253 : decode cX7_step 253 = .ok (.iaload, 1) := dk_46 (dk_at dksX7_step_10 18 rfl rfl)
theorem dX7_step_254 : decode cX7_step 254 = .ok (.iastore, 1) := dk_79 (dk_at dksX7_step_10 19 rfl rfl)
theorem dX7_step_255 : decode cX7_step 255 = .ok (.aload_n 0, 1) := dk_42 (dk_at dksX7_step_10 20 rfl rfl)
theorem dX7_step_256 : decode cX7_step 256 = .ok (.getfield 7, 3) := dk_180 0 7 (dk_at dksX7_step_10 21 rfl rfl)
theorem dX7_step_259 : decode cX7_step 259 = .ok (.sipush 5780, 3) := dk_17 22 148 (dk_at dksX7_step_11 0 rfl rfl)
theorem dX7_step_262 : decode cX7_step 262 = .ok (.bipush 6, 2) := dk_16 6 (dk_at dksX7_step_11 3 rfl rfl)
theorem dX7_step_264 : decode cX7_step 264 = .ok (.aload_n 0, 1) := dk_42 (dk_at dksX7_step_11 5 rfl rfl)
theorem dX7_step_265 : decode cX7_step 265 = .ok (.getfield 44, 3) := dk_180 0 44 (dk_at dksX7_step_11 6 rfl rfl)
theorem dX7_step_268 : decode cX7_step 268 = .ok (.aload_n 0, 1) := dk_42 (dk_at dksX7_step_11 9 rfl rfl)
theorem dX7_step_269 : decode cX7_step 269 = .ok (.getfield 229, 3) := dk_180 0 229 (dk_at dksX7_step_11 10 rfl rfl)
theorem dX7_step_272 : decode cX7_step 272 = .ok (.iaload, 1) := dk_46 (dk_at dksX7_step_11 13 rfl rfl)
theorem dX7_step_273 : decode cX7_step 273 = .ok (.imul, 1) := dk_104 (dk_at dksX7_step_11 14 rfl rfl)
theorem dX7_step_274 : decode cX7_step 274 = .ok (.iadd, 1) := dk_96 (dk_at dksX7_step_11 15 rfl rfl)
theorem dX7_step_275 : decode cX7_step 275 = .ok (.iconst 4, 1) := dk_7 (dk_at dksX7_step_11 16 rfl rfl)
theorem dX7_step_276 : decode cX7_step 276 = .ok (.iadd, 1) := dk_96 (dk_at dksX7_step_11 17 rfl rfl)
theorem dX7_step_277 : decode cX7_step 277 = .ok (.iload_n 2, 1) := dk_28 (dk_at dksX7_step_11 18 rfl rfl)
theorem dX7_step_278 : decode cX7_step 278 = .ok (.iastore, 1) := dk_79 (dk_at dksX7_step_11 19 rfl rfl)
theorem dX7_step_279 : decode cX7_step 279 = .ok (.aload_n 0, 1) := dk_42 (dk_at dksX7_step_11 20 rfl rfl)
theorem dX7_step_280 : decode cX7_step 280 = .ok (.bipush 59, 2) := dk_16 59 (dk_at dksX7_step_11 21 rfl rfl)
theorem dX7_step_282 : decode cX7_step 282 = .ok (.invokevirtual 204, 3) := dk_182 0 204 (dk_at dksX7_step_12 0 rfl rfl)
theorem dX7_step_285 : decode cX7_step 285 = .ok (.ireturn, 1) := dk_172 (dk_at dksX7_step_12 3 rfl rfl)
