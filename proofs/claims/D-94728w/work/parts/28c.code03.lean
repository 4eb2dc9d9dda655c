set_option maxRecDepth 100000
def dkwX7_sample_4 : List UInt8 := [79, 42, 42, 180, 0, 7, 21, 4, 7, 96, 46, 182, 0, 76, 172]
abbrev dktX7_sample_4 : List UInt8 := dkwX7_sample_4 ++ []
def dkwX7_sample_3 : List UInt8 := [180, 0, 7, 21, 4, 7, 96, 92, 46, 28, 96, 79, 42, 180, 0, 7, 21, 4, 8, 96, 92, 46, 29, 96]
abbrev dktX7_sample_3 : List UInt8 := dkwX7_sample_3 ++ dktX7_sample_4
def dkwX7_sample_2 : List UInt8 := [180, 0, 7, 21, 4, 7, 96, 46, 28, 96, 19, 1, 74, 164, 0, 9, 42, 7, 182, 0, 72, 172, 42]
abbrev dktX7_sample_2 : List UInt8 := dkwX7_sample_2 ++ dktX7_sample_3
def dkwX7_sample_1 : List UInt8 := [20, 1, 59, 184, 1, 50, 154, 0, 9, 42, 4, 182, 0, 72, 172, 27, 184, 0, 217, 54, 4, 42]
abbrev dktX7_sample_1 : List UInt8 := dkwX7_sample_1 ++ dktX7_sample_2
def dkwX7_sample_0 : List UInt8 := [42, 27, 182, 1, 18, 153, 0, 27, 28, 133, 10, 20, 1, 113, 184, 1, 50, 153, 0, 15, 29, 133, 9]
abbrev dktX7_sample_0 : List UInt8 := dkwX7_sample_0 ++ dktX7_sample_1
theorem dksX7_sample_0 : cX7_sample.data.toList.drop 0 = dktX7_sample_0 := by decide +kernel
theorem dksX7_sample_1 : cX7_sample.data.toList.drop 23 = dktX7_sample_1 := dk_seg dksX7_sample_0 23 rfl rfl
theorem dksX7_sample_2 : cX7_sample.data.toList.drop 45 = dktX7_sample_2 := dk_seg dksX7_sample_1 22 rfl rfl
theorem dksX7_sample_3 : cX7_sample.data.toList.drop 68 = dktX7_sample_3 := dk_seg dksX7_sample_2 23 rfl rfl
theorem dksX7_sample_4 : cX7_sample.data.toList.drop 92 = dktX7_sample_4 := dk_seg dksX7_sample_3 24 rfl rfl
theorem dX7_sample_0 : decode cX7_sample 0 = .ok (.aload_n 0, 1) := dk_42 (dk_at dksX7_sample_0 0 rfl rfl)
theorem dX7_sample_1 : decode cX7_sample 1 = .ok (.iload_n 1, 1) := dk_27 (dk_at dksX7_sample_0 1 rfl rfl)
theorem dX7_sample_2 : decode cX7_sample 2 = .ok (.invokevirtual 274, 3) := dk_182 1 18 (dk_at dksX7_sample_0 2 rfl rfl)
theorem dX7_sample_5 : decode cX7_sample 5 = .ok (.ifCond .eq 27, 3) := dk_153 0 27 (dk_at dksX7_sample_0 5 rfl rfl)
theorem dX7_sample_8 : decode cX7_sample 8 = .ok (.iload_n 2, 1) := dk_28 (dk_at dksX7_sample_0 8 rfl rfl)
theorem dX7_sample_9 : decode cX7_sample 9 = .ok (.i2l, 1) := dk_133 (dk_at dksX7_sample_0 9 rfl rfl)
theorem dX7_sample_10 : decode cX7_sample 10 = .ok (.lconst 1, 1) := dk_10 (dk_at dksX7_sample_0 10 rfl rfl)
theorem dX7_sample_11 : decode cX7_sample 11 = .ok (.ldc2_w 369, 3) := dk_20 1 113 (dk_at dksX7_sample_0 11 rfl rfl)
theorem dX7_sample_14 : decode cX7_sample 14 = .ok (.invokestatic 306, 3) := dk_184 1 50 (dk_at dksX7_sample_0 14 rfl rfl)
theorem dX7_sample_17 : decode cX7_sample 17 = .ok (.ifCond .eq 15, 3) := dk_153 0 15 (dk_at dksX7_sample_0 17 rfl rfl)
theorem dX7_sample_20 : decode cX7_sample 20 = .ok (.iload_n 3, 1) := dk_29 (dk_at dksX7_sample_0 20 rfl rfl)
theorem dX7_sample_21 : decode cX7_sample 21 = .ok (.i2l, 1) := dk_133 (dk_at dksX7_sample_0 21 rfl rfl)
theorem dX7_sample_22 : decode cX7_sample 22 = .ok (.lconst 0, 1) := dk_9 (dk_at dksX7_sample_0 22 rfl rfl)
theorem dX7_sample_23 : decode cX7_sample 23 = .ok (.ldc2_w 315, 3) := dk_20 1 59 (dk_at dksX7_sample_1 0 rfl rfl)
theorem dX7_sample_26 : decode cX7_sample 26 = .ok (.invokestatic 306, 3) := dk_184 1 50 (dk_at dksX7_sample_1 3 rfl rfl)
theorem dX7_sample_29 : decode cX7_sample 29 = .ok (.ifCond .ne 9, 3) := dk_154 0 9 (dk_at dksX7_sample_1 6 rfl rfl)
theorem dX7_sample_32 : decode cX7_sample 32 = .ok (.aload_n 0, 1) := dk_42 (dk_at dksX7_sample_1 9 rfl rfl)
theorem dX7_sample_33 : decode cX7_sample 33 = .ok (.iconst 1, 1) := dk_4 (dk_at dksX7_sample_1 10 rfl rfl)
theorem dX7_sample_34 : decode cX7_sample 34 = .ok (.invokevirtual 72, 3) := dk_182 0 72 (dk_at dksX7_sample_1 11 rfl rfl)
theorem dX7_sample_37 : decode cX7_sample 37 = .ok (.ireturn, 1) := dk_172 (dk_at dksX7_sample_1 14 rfl rfl)
theorem dX7_sample_38 : decode cX7_sample 38 = .ok (.iload_n 1, 1) := dk_27 (dk_at dksX7_sample_1 15 rfl rfl)
theorem dX7_sample_39 : decode cX7_sample 39 = .ok (.invokestatic 217, 3) := dk_184 0 217 (dk_at dksX7_sample_1 16 rfl rfl)
theorem dX7_sample_42 : decode cX7_sample 42 = .ok (.istore 4, 2) := dk_54 4 (dk_at dksX7_sample_1 19 rfl rfl)
theorem dX7_sample_44 : decode cX7_sample 44 = .ok (.aload_n 0, 1) := dk_42 (dk_at dksX7_sample_1 21 rfl rfl)
theorem dX7_sample_45 : decode cX7_sample 45 = .ok (.getfield 7, 3) := dk_180 0 7 (dk_at dksX7_sample_2 0 rfl rfl)
theorem dX7_sample_48 : decode cX7_sample 48 = .ok (.iload 4, 2) := dk_21 4 (dk_at dksX7_sample_2 3 rfl rfl)
theorem dX7_sample_50 : decode cX7_sample 50 = .ok (.iconst 4, 1) := dk_7 (dk_at dksX7_sample_2 5 rfl rfl)
theorem dX7_sample_51 : decode cX7_sample 51 = .ok (.iadd, 1) := dk_96 (dk_at dksX7_sample_2 6 rfl rfl)
theorem dX7_sample_52 : decode cX7_sample 52 = .ok (.iaload, 1) := dk_46 (dk_at dksX7_sample_2 7 rfl rfl)
theorem dX7_sample_53 : decode cX7_sample 53 = .ok (.iload_n 2, 1) := dk_28 (dk_at dksX7_sample_2 8 rfl rfl)
theorem dX7_sample_54 : decode cX7_sample 54 = .ok (.iadd, 1) := dk_96 (dk_at dksX7_sample_2 9 rfl rfl)
theorem dX7_sample_55 : decode cX7_sample 55 = .ok (.ldc_w 330, 3) := dk_19 1 74 (dk_at dksX7_sample_2 10 rfl rfl)
theorem dX7_sample_58 : decode cX7_sample 58 = .ok (.if_icmp .le 9, 3) := dk_164 0 9 (dk_at dksX7_sample_2 13 rfl rfl)
theorem dX7_sample_61 : decode cX7_sample 61 = .ok (.aload_n 0, 1) := dk_42 (dk_at dksX7_sample_2 16 rfl rfl)
theorem dX7_sample_62 : decode cX7_sample 62 = .ok (.iconst 4, 1) := dk_7 (dk_at dksX7_sample_2 17 rfl rfl)
theorem dX7_sample_63 : decode cX7_sample 63 = .ok (.invokevirtual 72, 3) := dk_182 0 72 (dk_at dksX7_sample_2 18 rfl rfl)
theorem dX7_sample_66 : decode cX7_sample 66 = .ok (.ireturn, 1) := dk_172 (dk_at dksX7_sample_2 21 rfl rfl)
theorem dX7_sample_67 : decode cX7_sample 67 = .ok (.aload_n 0, 1) := dk_42 (dk_at dksX7_sample_2 22 rfl rfl)
theorem dX7_sample_68 : decode cX7_sample 68 = .ok (.getfield 7, 3) := dk_180 0 7 (dk_at dksX7_sample_3 0 rfl rfl)
theorem dX7_sample_71 : decode cX7_sample 71 = .ok (.iload 4, 2) := dk_21 4 (dk_at dksX7_sample_3 3 rfl rfl)
theorem dX7_sample_73 : decode cX7_sample 73 = .ok (.iconst 4, 1) := dk_7 (dk_at dksX7_sample_3 5 rfl rfl)
theorem dX7_sample_74 : decode cX7_sample 74 = .ok (.iadd, 1) := dk_96 (dk_at dksX7_sample_3 6 rfl rfl)
theorem dX7_sample_75 : decode cX7_sample 75 = .ok (.dup2, 1) := dk_92 (dk_at dksX7_sample_3 7 rfl rfl)
theorem dX7_sample_76 : decode cX7_sample 76 = .ok (.iaload, 1) := dk_46 (dk_at dksX7_sample_3 8 rfl rfl)
theorem dX7_sample_77 : decode cX7_sample 77 = .ok (.iload_n 2, 1) := dk_28 (dk_at dksX7_sample_3 9 rfl rfl)
theorem dX7_sample_78 : decode cX7_sample 78 = .ok (.iadd, 1) := dk_96 (dk_at dksX7_sample_3 10 rfl rfl)
theorem dX7_sample_79 : decode cX7_sample 79 = .ok (.iastore, 1) := dk_79 (dk_at dksX7_sample_3 11 rfl rfl)
theorem dX7_sample_80 : decode cX7_sample 80 = .ok (.aload_n 0, 1) := dk_42 (dk_at dksX7_sample_3 12 rfl rfl)
theorem dX7_sample_81 : decode cX7_sample 81 = .ok (.getfield 7, 3) := dk_180 0 7 (dk_at dksX7_sample_3 13 rfl rfl)
theorem dX7_sample_84 : decode cX7_sample 84 = .ok (.iload 4, 2) := dk_21 4 (dk_at dksX7_sample_3 16 rfl rfl)
theorem dX7_sample_86 : decode cX7_sample 86 = .ok (.iconst 5, 1) := dk_8 (dk_at dksX7_sample_3 18 rfl rfl)
theorem dX7_sample_87 : decode cX7_sample 87 = .ok (.iadd, 1) := dk_96 (dk_at dksX7_sample_3 19 rfl rfl)
theorem dX7_sample_88 : decode cX7_sample 88 = .ok (.dup2, 1) := dk_92 (dk_at dksX7_sample_3 20 rfl rfl)
theorem dX7_sample_89 : decode cX7_sample 89 = .ok (.iaload, 1) := dk_46 (dk_at dksX7_sample_3 21 rfl rfl)
theorem dX7_sample_90 : decode cX7_sample 90 = .ok (.iload_n 3, 1) := dk_29 (dk_at dksX7_sample_3 22 rfl rfl)
theorem dX7_sample_91 : decode cX7_sample 91 = .ok (.iadd, 1) := dk_96 (dk_at dksX7_sample_3 23 rfl rfl)
theorem dX7_sample_92 : decode cX7_sample 92 = .ok (.iastore, 1) := dk_79 (dk_at dksX7_sample_4 0 rfl rfl)
theorem dX7_sample_93 : decode cX7_sample 93 = .ok (.aload_n 0, 1) := dk_42 (dk_at dksX7_sample_4 1 rfl rfl)
theorem dX7_sample_94 : decode cX7_sample 94 = .ok (.aload_n 0, 1) := dk_42 (dk_at dksX7_sample_4 2 rfl rfl)
theorem dX7_sample_95 : decode cX7_sample 95 = .ok (.getfield 7, 3) := dk_180 0 7 (dk_at dksX7_sample_4 3 rfl rfl)
theorem dX7_sample_98 : decode cX7_sample 98 = .ok (.iload 4, 2) := dk_21 4 (dk_at dksX7_sample_4 6 rfl rfl)
theorem dX7_sample_100 : decode cX7_sample 100 = .ok (.iconst 4, 1) := dk_7 (dk_at dksX7_sample_4 8 rfl rfl)
theorem dX7_sample_101 : decode cX7_sample 101 = .ok (.iadd, 1) := dk_96 (dk_at dksX7_sample_4 9 rfl rfl)
theorem dX7_sample_102 : decode cX7_sample 102 = .ok (.iaload, 1) := dk_46 (dk_at dksX7_sample_4 10 rfl rfl)
theorem dX7_sample_103 : decode cX7_sample 103 = .ok (.invokevirtual 76, 3) := dk_182 0 76 (dk_at dksX7_sample_4 11 rfl rfl)
theorem dX7_sample_106 : decode cX7_sample 106 = .ok (.ireturn, 1) := dk_172 (dk_at dksX7_sample_4 14 rfl rfl)
def dkwX7_share_4 : List UInt8 := [9, 148, 154, 0, 12, 42, 16, 6, 182, 0, 79, 167, 0, 10, 42, 32, 22, 4, 182, 1, 98, 172]
abbrev dktX7_share_4 : List UInt8 := dkwX7_share_4 ++ []
def dkwX7_share_3 : List UInt8 := [42, 180, 0, 7, 21, 6, 184, 0, 217, 7, 96, 46, 133, 97, 55, 4, 132, 6, 1, 167, 255, 194, 22, 4]
abbrev dktX7_share_3 : List UInt8 := dkwX7_share_3 ++ dktX7_share_4
def dkwX7_share_2 : List UInt8 := [159, 0, 6, 167, 0, 37, 32, 42, 180, 0, 7, 21, 6, 184, 0, 217, 8, 96, 46, 133, 97, 65, 22, 4]
abbrev dktX7_share_2 : List UInt8 := dkwX7_share_2 ++ dktX7_share_3
def dkwX7_share_1 : List UInt8 := [3, 54, 6, 21, 6, 42, 180, 0, 7, 3, 46, 162, 0, 57, 27, 2, 159, 0, 12, 27, 21, 6]
abbrev dktX7_share_1 : List UInt8 := dkwX7_share_1 ++ dktX7_share_2
def dkwX7_share_0 : List UInt8 := [27, 2, 159, 0, 17, 42, 27, 182, 1, 18, 154, 0, 9, 42, 4, 182, 0, 79, 172, 9, 65, 9, 55, 4]
abbrev dktX7_share_0 : List UInt8 := dkwX7_share_0 ++ dktX7_share_1
theorem dksX7_share_0 : cX7_share.data.toList.drop 0 = dktX7_share_0 := by decide +kernel
theorem dksX7_share_1 : cX7_share.data.toList.drop 24 = dktX7_share_1 := dk_seg dksX7_share_0 24 rfl rfl
theorem dksX7_share_2 : cX7_share.data.toList.drop 46 = dktX7_share_2 := dk_seg dksX7_share_1 22 rfl rfl
theorem dksX7_share_3 : cX7_share.data.toList.drop 70 = dktX7_share_3 := dk_seg dksX7_share_2 24 rfl rfl
theorem dksX7_share_4 : cX7_share.data.toList.drop 94 = dktX7_share_4 := dk_seg dksX7_share_3 24 rfl rfl
theorem dX7_share_0 : decode cX7_share 0 = .ok (.iload_n 1, 1) := dk_27 (dk_at dksX7_share_0 0 rfl rfl)
theorem dX7_share_1 : decode cX7_share 1 = .ok (.iconst (-1), 1) := dk_2 (dk_at dksX7_share_0 1 rfl rfl)
theorem dX7_share_2 : decode cX7_share 2 = .ok (.if_icmp .eq 17, 3) := dk_159 0 17 (dk_at dksX7_share_0 2 rfl rfl)
theorem dX7_share_5 : decode cX7_share 5 = .ok (.aload_n 0, 1) := dk_42 (dk_at dksX7_share_0 5 rfl rfl)
theorem dX7_share_6 : decode cX7_share 6 = .ok (.iload_n 1, 1) := dk_27 (dk_at dksX7_share_0 6 rfl rfl)
theorem dX7_share_7 : decode cX7_share 7 = .ok (.invokevirtual 274, 3) := dk_182 1 18 (dk_at dksX7_share_0 7 rfl rfl)
theorem dX7_share_10 : decode cX7_share 10 = .ok (.ifCond .ne 9, 3) := dk_154 0 9 (dk_at dksX7_share_0 10 rfl rfl)
theorem dX7_share_13 : decode cX7_share 13 = .ok (.aload_n 0, 1) := dk_42 (dk_at dksX7_share_0 13 rfl rfl)
theorem dX7_share_14 : decode cX7_share 14 = .ok (.iconst 1, 1) := dk_4 (dk_at dksX7_share_0 14 rfl rfl)
theorem dX7_share_15 : decode cX7_share 15 = .ok (.invokevirtual 79, 3) := dk_182 0 79 (dk_at dksX7_share_0 15 rfl rfl)
theorem dX7_share_18 : decode cX7_share 18 = .ok (.ireturn, 1) := dk_172 (dk_at dksX7_share_0 18 rfl rfl)
theorem dX7_share_19 : decode cX7_share 19 = .ok (.lconst 0, 1) := dk_9 (dk_at dksX7_share_0 19 rfl rfl)
theorem dX7_share_20 : decode cX7_share 20 = .ok (.lstore_n 2, 1) := dk_65 (dk_at dksX7_share_0 20 rfl rfl)
theorem dX7_share_21 : decode cX7_share 21 = .ok (.lconst 0, 1) := dk_9 (dk_at dksX7_share_0 21 rfl rfl)
theorem dX7_share_22 : decode cX7_share 22 = .ok (.lstore 4, 2) := dk_55 4 (dk_at dksX7_share_0 22 rfl rfl)
theorem dX7_share_24 : decode cX7_share 24 = .ok (.iconst 0, 1) := dk_3 (dk_at dksX7_share_1 0 rfl rfl)
theorem dX7_share_25 : decode cX7_share 25 = .ok (.istore 6, 2) := dk_54 6 (dk_at dksX7_share_1 1 rfl rfl)
theorem dX7_share_27 : decode cX7_share 27 = .ok (.iload 6, 2) := dk_21 6 (dk_at dksX7_share_1 3 rfl rfl)
theorem dX7_share_29 : decode cX7_share 29 = .ok (.aload_n 0, 1) := dk_42 (dk_at dksX7_share_1 5 rfl rfl)
theorem dX7_share_30 : decode cX7_share 30 = .ok (.getfield 7, 3) := dk_180 0 7 (dk_at dksX7_share_1 6 rfl rfl)
theorem dX7_share_33 : decode cX7_share 33 = .ok (.iconst 0, 1) := dk_3 (dk_at dksX7_share_1 9 rfl rfl)
theorem dX7_share_34 : decode cX7_share 34 = .ok (.iaload, 1) := dk_46 (dk_at dksX7_share_1 10 rfl rfl)
theorem dX7_share_35 : decode cX7_share 35 = .ok (.if_icmp .ge 57, 3) := dk_162 0 57 (dk_at dksX7_share_1 11 rfl rfl)
theorem dX7_share_38 : decode cX7_share 38 = .ok (.iload_n 1, 1) := dk_27 (dk_at dksX7_share_1 14 rfl rfl)
theorem dX7_share_39 : decode cX7_share 39 = .ok (.iconst (-1), 1) := dk_2 (dk_at dksX7_share_1 15 rfl rfl)
theorem dX7_share_40 : decode cX7_share 40 = .ok (.if_icmp .eq 12, 3) := dk_159 0 12 (dk_at dksX7_share_1 16 rfl rfl)
theorem dX7_share_43 : decode cX7_share 43 = .ok (.iload_n 1, 1) := dk_27 (dk_at dksX7_share_1 19 rfl rfl)
theorem dX7_share_44 : decode cX7_share 44 = .ok (.iload 6, 2) := dk_21 6 (dk_at dksX7_share_1 20 rfl rfl)
theorem dX7_share_46 : decode cX7_share 46 = .ok (.if_icmp .eq 6, 3) := dk_159 0 6 (dk_at dksX7_share_2 0 rfl rfl)
theorem dX7_share_49 : decode cX7_share 49 = .ok (.goto 37, 3) := dk_167 0 37 (dk_at dksX7_share_2 3 rfl rfl)
theorem dX7_share_52 : decode cX7_share 52 = .ok (.lload_n 2, 1) := dk_32 (dk_at dksX7_share_2 6 rfl rfl)
theorem dX7_share_53 : decode cX7_share 53 = .ok (.aload_n 0, 1) := dk_42 (dk_at dksX7_share_2 7 rfl rfl)
theorem dX7_share_54 : decode cX7_share 54 = .ok (.getfield 7, 3) := dk_180 0 7 (dk_at dksX7_share_2 8 rfl rfl)
theorem dX7_share_57 : decode cX7_share 57 = .ok (.iload 6, 2) := dk_21 6 (dk_at dksX7_share_2 11 rfl rfl)
theorem dX7_share_59 : decode cX7_share 59 = .ok (.invokestatic 217, 3) := dk_184 0 217 (dk_at dksX7_share_2 13 rfl rfl)
theorem dX7_share_62 : decode cX7_share 62 = .ok (.iconst 5, 1) := dk_8 (dk_at dksX7_share_2 16 rfl rfl)
theorem dX7_share_63 : decode cX7_share 63 = .ok (.iadd, 1) := dk_96 (dk_at dksX7_share_2 17 rfl rfl)
theorem dX7_share_64 : decode cX7_share 64 = .ok (.iaload, 1) := dk_46 (dk_at dksX7_share_2 18 rfl rfl)
theorem dX7_share_65 : decode cX7_share 65 = .ok (.i2l, 1) := dk_133 (dk_at dksX7_share_2 19 rfl rfl)
theorem dX7_share_66 : decode cX7_share 66 = .ok (.ladd, 1) := dk_97 (dk_at dksX7_share_2 20 rfl rfl)
theorem dX7_share_67 : decode cX7_share 67 = .ok (.lstore_n 2, 1) := dk_65 (dk_at dksX7_share_2 21 rfl rfl)
theorem dX7_share_68 : decode cX7_share 68 = .ok (.lload 4, 2) := dk_22 4 (dk_at dksX7_share_2 22 rfl rfl)
theorem dX7_share_70 : decode cX7_share 70 = .ok (.aload_n 0, 1) := dk_42 (dk_at dksX7_share_3 0 rfl rfl)
theorem dX7_share_71 : decode cX7_share 71 = .ok (.getfield 7, 3) := dk_180 0 7 (dk_at dksX7_share_3 1 rfl rfl)
theorem dX7_share_74 : decode cX7_share 74 = .ok (.iload 6, 2) := dk_21 6 (dk_at dksX7_share_3 4 rfl rfl)
theorem dX7_share_76 : decode cX7_share 76 = .ok (.invokestatic 217, 3) := dk_184 0 217 (dk_at dksX7_share_3 6 rfl rfl)
theorem dX7_share_79 : decode cX7_share 79 = .ok (.iconst 4, 1) := dk_7 (dk_at dksX7_share_3 9 rfl rfl)
theorem dX7_share_80 : decode cX7_share 80 = .ok (.iadd, 1) := dk_96 (dk_at dksX7_share_3 10 rfl rfl)
theorem dX7_share_81 : decode cX7_share 81 = .ok (.iaload, 1) := dk_46 (dk_at dksX7_share_3 11 rfl rfl)
theorem dX7_share_82 : decode cX7_share 82 = .ok (.i2l, 1) := dk_133 (dk_at dksX7_share_3 12 rfl rfl)
theorem dX7_share_83 : decode cX7_share 83 = .ok (.ladd, 1) := dk_97 (dk_at dksX7_share_3 13 rfl rfl)
theorem dX7_share_84 : decode cX7_share 84 = .ok (.lstore 4, 2) := dk_55 4 (dk_at dksX7_share_3 14 rfl rfl)
theorem dX7_share_86 : decode cX7_share 86 = .ok (.iinc 6 1, 3) := dk_132 6 1 (dk_at dksX7_share_3 16 rfl rfl)
theorem dX7_share_89 : decode cX7_share 89 = .ok (.goto (-62), 3) := dk_167 255 194 (dk_at dksX7_share_3 19 rfl rfl)
theorem dX7_share_92 : decode cX7_share 92 = .ok (.lload 4, 2) := dk_22 4 (dk_at dksX7_share_3 22 rfl rfl)
theorem dX7_share_94 : decode cX7_share 94 = .ok (.lconst 0, 1) := dk_9 (dk_at dksX7_share_4 0 rfl rfl)
theorem dX7_share_95 : decode cX7_share 95 = .ok (.lcmp, 1) := dk_148 (dk_at dksX7_share_4 1 rfl rfl)
theorem dX7_share_96 : decode cX7_share 96 = .ok (.ifCond .ne 12, 3) := dk_154 0 12 (dk_at dksX7_share_4 2 rfl rfl)
theorem dX7_share_99 : decode cX7_share 99 = .ok (.aload_n 0, 1) := dk_42 (dk_at dksX7_share_4 5 rfl rfl)
theorem dX7_share_100 : decode cX7_share 100 = .ok (.bipush 6, 2) := dk_16 6 (dk_at dksX7_share_4 6 rfl rfl)
theorem dX7_share_102 : decode cX7_share 102 = .ok (.invokevirtual 79, 3) := dk_182 0 79 (dk_at dksX7_share_4 8 rfl rfl)
theorem dX7_share_105 : decode cX7_share 105 = .ok (.goto 10, 3) := dk_167 0 10 (dk_at dksX7_share_4 11 rfl rfl)
theorem dX7_share_108 : decode cX7_share 108 = .ok (.aload_n 0, 1) := dk_42 (dk_at dksX7_share_4 14 rfl rfl)
theorem dX7_share_109 : decode cX7_share 109 = .ok (.lload_n 2, 1) := dk_32 (dk_at dksX7_share_4 15 rfl rfl)
theorem dX7_share_110 : decode cX7_share 110 = .ok (.lload 4, 2) := dk_22 4 (dk_at dksX7_share_4 16 rfl rfl)
theorem dX7_share_112 : decode cX7_share 112 = .ok (.invokevirtual 354, 3) := dk_182 1 98 (dk_at dksX7_share_4 18 rfl rfl)
theorem dX7_share_115 : decode cX7_share 115 = .ok (.ireturn, 1) := dk_172 (dk_at dksX7_share_4 21 rfl rfl)
def dkwX7_worst_4 : List UInt8 := [158, 0, 5, 28, 60, 132, 2, 1, 167, 255, 158, 42, 27, 182, 1, 24, 172]
abbrev dktX7_worst_4 : List UInt8 := dkwX7_worst_4 ++ []
def dkwX7_worst_3 : List UInt8 := [105, 42, 180, 0, 7, 21, 4, 8, 96, 46, 133, 42, 180, 0, 7, 29, 7, 96, 46, 133, 105, 148]
abbrev dktX7_worst_3 : List UInt8 := dkwX7_worst_3 ++ dktX7_worst_4
def dkwX7_worst_2 : List UInt8 := [27, 2, 159, 0, 47, 42, 180, 0, 7, 29, 8, 96, 46, 133, 42, 180, 0, 7, 21, 4, 7, 96, 46, 133]
abbrev dktX7_worst_2 : List UInt8 := dkwX7_worst_2 ++ dktX7_worst_3
def dkwX7_worst_1 : List UInt8 := [7, 96, 46, 154, 0, 6, 167, 0, 69, 27, 2, 160, 0, 7, 29, 167, 0, 7, 27, 184, 0, 217, 54, 4]
abbrev dktX7_worst_1 : List UInt8 := dkwX7_worst_1 ++ dktX7_worst_2
def dkwX7_worst_0 : List UInt8 := [2, 60, 3, 61, 28, 42, 180, 0, 7, 3, 46, 162, 0, 94, 28, 184, 0, 217, 62, 42, 180, 0, 7, 29]
abbrev dktX7_worst_0 : List UInt8 := dkwX7_worst_0 ++ dktX7_worst_1
theorem dksX7_worst_0 : cX7_worst.data.toList.drop 0 = dktX7_worst_0 := by decide +kernel
theorem dksX7_worst_1 : cX7_worst.data.toList.drop 24 = dktX7_worst_1 := dk_seg dksX7_worst_0 24 rfl rfl
theorem dksX7_worst_2 : cX7_worst.data.toList.drop 48 = dktX7_worst_2 := dk_seg dksX7_worst_1 24 rfl rfl
theorem dksX7_worst_3 : cX7_worst.data.toList.drop 72 = dktX7_worst_3 := dk_seg dksX7_worst_2 24 rfl rfl
theorem dksX7_worst_4 : cX7_worst.data.toList.drop 94 = dktX7_worst_4 := dk_seg dksX7_worst_3 22 rfl rfl
theorem dX7_worst_0 : decode cX7_worst 0 = .ok (.iconst (-1), 1) := dk_2 (dk_at dksX7_worst_0 0 rfl rfl)
theorem dX7_worst_1 : decode cX7_worst 1 = .ok (.istore_n 1, 1) := dk_60 (dk_at dksX7_worst_0 1 rfl rfl)
theorem dX7_worst_2 : decode cX7_worst 2 = .ok (.iconst 0, 1) := dk_3 (dk_at dksX7_worst_0 2 rfl rfl)
theorem dX7_worst_3 : decode cX7_worst 3 = .ok (.istore_n 2, 1) := dk_61 (dk_at dksX7_worst_0 3 rfl rfl)
theorem dX7_worst_4 : decode cX7_worst 4 = .ok (.iload_n 2, 1) := dk_28 (dk_at dksX7_worst_0 4 rfl rfl)
theorem dX7_worst_5 : decode cX7_worst 5 = .ok (.aload_n 0, 1) := dk_42 (dk_at dksX7_worst_0 5 rfl rfl)
theorem dX7_worst_6 : decode cX7_worst 6 = .ok (.getfield 7, 3) := dk_180 0 7 (dk_at dksX7_worst_0 6 rfl rfl)
theorem dX7_worst_9 : decode cX7_worst 9 = .ok (.iconst 0, 1) := dk_3 (dk_at dksX7_worst_0 9 rfl rfl)
theorem dX7_worst_10 : decode cX7_worst 10 = .ok (.iaload, 1) := dk_46 (dk_at dksX7_worst_0 10 rfl rfl)
theorem dX7_worst_11 : decode cX7_worst 11 = .ok (.if_icmp .ge 94, 3) := dk_162 0 94 (dk_at dksX7_worst_0 11 rfl rfl)
theorem dX7_worst_14 : decode cX7_worst 14 = .ok (.iload_n 2, 1) := dk_28 (dk_at dksX7_worst_0 14 rfl rfl)
theorem dX7_worst_15 : decode cX7_worst 15 = .ok (.invokestatic 217, 3) := dk_184 0 217 (dk_at dksX7_worst_0 15 rfl rfl)
theorem dX7_worst_18 : decode cX7_worst 18 = .ok (.istore_n 3, 1) := dk_62 (dk_at dksX7_worst_0 18 rfl rfl)
theorem dX7_worst_19 : decode cX7_worst 19 = .ok (.aload_n 0, 1) := dk_42 (dk_at dksX7_worst_0 19 rfl rfl)
theorem dX7_worst_20 : decode cX7_worst 20 = .ok (.getfield 7, 3) := dk_180 0 7 (dk_at dksX7_worst_0 20 rfl rfl)
theorem dX7_worst_23 : decode cX7_worst 23 = .ok (.iload_n 3, 1) := dk_29 (dk_at dksX7_worst_0 23 rfl rfl)
theorem dX7_worst_24 : decode cX7_worst 24 = .ok (.iconst 4, 1) := dk_7 (dk_at dksX7_worst_1 0 rfl rfl)
theorem dX7_worst_25 : decode cX7_worst 25 = .ok (.iadd, 1) := dk_96 (dk_at dksX7_worst_1 1 rfl rfl)
theorem dX7_worst_26 : decode cX7_worst 26 = .ok (.iaload, 1) := dk_46 (dk_at dksX7_worst_1 2 rfl rfl)
theorem dX7_worst_27 : decode cX7_worst 27 = .ok (.ifCond .ne 6, 3) := dk_154 0 6 (dk_at dksX7_worst_1 3 rfl rfl)
theorem dX7_worst_30 : decode cX7_worst 30 = .ok (.goto 69, 3) := dk_167 0 69 (dk_at dksX7_worst_1 6 rfl rfl)
theorem dX7_worst_33 : decode cX7_worst 33 = .ok (.iload_n 1, 1) := dk_27 (dk_at dksX7_worst_1 9 rfl rfl)
theorem dX7_worst_34 : decode cX7_worst 34 = .ok (.iconst (-1), 1) := dk_2 (dk_at dksX7_worst_1 10 rfl rfl)
theorem dX7_worst_35 : decode cX7_worst 35 = .ok (.if_icmp .ne 7, 3) := dk_160 0 7 (dk_at dksX7_worst_1 11 rfl rfl)
theorem dX7_worst_38 : decode cX7_worst 38 = .ok (.iload_n 3, 1) := dk_29 (dk_at dksX7_worst_1 14 rfl rfl)
theorem dX7_worst_39 : decode cX7_worst 39 = .ok (.goto 7, 3) := dk_167 0 7 (dk_at dksX7_worst_1 15 rfl rfl)
theorem dX7_worst_42 : decode cX7_worst 42 = .ok (.iload_n 1, 1) := dk_27 (dk_at dksX7_worst_1 18 rfl rfl)
theorem dX7_worst_43 : decode cX7_worst 43 = .ok (.invokestatic 217, 3) := dk_184 0 217 (dk_at dksX7_worst_1 19 rfl rfl)
theorem dX7_worst_46 : decode cX7_worst 46 = .ok (.istore 4, 2) := dk_54 4 (dk_at dksX7_worst_1 22 rfl rfl)
theorem dX7_worst_48 : decode cX7_worst 48 = .ok (.iload_n 1, 1) := dk_27 (dk_at dksX7_worst_2 0 rfl rfl)
theorem dX7_worst_49 : decode cX7_worst 49 = .ok (.iconst (-1), 1) := dk_2 (dk_at dksX7_worst_2 1 rfl rfl)
theorem dX7_worst_50 : decode cX7_worst 50 = .ok (.if_icmp .eq 47, 3) := dk_159 0 47 (dk_at dksX7_worst_2 2 rfl rfl)
theorem dX7_worst_53 : decode cX7_worst 53 = .ok (.aload_n 0, 1) := dk_42 (dk_at dksX7_worst_2 5 rfl rfl)
theorem dX7_worst_54 : decode cX7_worst 54 = .ok (.getfield 7, 3) := dk_180 0 7 (dk_at dksX7_worst_2 6 rfl rfl)
theorem dX7_worst_57 : decode cX7_worst 57 = .ok (.iload_n 3, 1) := dk_29 (dk_at dksX7_worst_2 9 rfl rfl)
theorem dX7_worst_58 : decode cX7_worst 58 = .ok (.iconst 5, 1) := dk_8 (dk_at dksX7_worst_2 10 rfl rfl)
theorem dX7_worst_59 : decode cX7_worst 59 = .ok (.iadd, 1) := dk_96 (dk_at dksX7_worst_2 11 rfl rfl)
theorem dX7_worst_60 : decode cX7_worst 60 = .ok (.iaload, 1) := dk_46 (dk_at dksX7_worst_2 12 rfl rfl)
theorem dX7_worst_61 : decode cX7_worst 61 = .ok (.i2l, 1) := dk_133 (dk_at dksX7_worst_2 13 rfl rfl)
theorem dX7_worst_62 : decode cX7_worst 62 = .ok (.aload_n 0, 1) := dk_42 (dk_at dksX7_worst_2 14 rfl rfl)
theorem dX7_worst_63 : decode cX7_worst 63 = .ok (.getfield 7, 3) := dk_180 0 7 (dk_at dksX7_worst_2 15 rfl rfl)
theorem dX7_worst_66 : decode cX7_worst 66 = .ok (.iload 4, 2) := dk_21 4 (dk_at dksX7_worst_2 18 rfl rfl)
theorem dX7_worst_68 : decode cX7_worst 68 = .ok (.iconst 4, 1) := dk_7 (dk_at dksX7_worst_2 20 rfl rfl)
theorem dX7_worst_69 : decode cX7_worst 69 = .ok (.iadd, 1) := dk_96 (dk_at dksX7_worst_2 21 rfl rfl)
theorem dX7_worst_70 : decode cX7_worst 70 = .ok (.iaload, 1) := dk_46 (dk_at dksX7_worst_2 22 rfl rfl)
theorem dX7_worst_71 : decode cX7_worst 71 = .ok (.i2l, 1) := dk_133 (dk_at dksX7_worst_2 23 rfl rfl)
theorem dX7_worst_72 : decode cX7_worst 72 = .ok (.lmul, 1) := dk_105 (dk_at dksX7_worst_3 0 rfl rfl)
theorem dX7_worst_73 : decode cX7_worst 73 = .ok (.aload_n 0, 1) := dk_42 (dk_at dksX7_worst_3 1 rfl rfl)
theorem dX7_worst_74 : decode cX7_worst 74 = .ok (.getfield 7, 3) := dk_180 0 7 (dk_at dksX7_worst_3 2 rfl rfl)
theorem dX7_worst_77 : decode cX7_worst 77 = .ok (.iload 4, 2) := dk_21 4 (dk_at dksX7_worst_3 5 rfl rfl)
theorem dX7_worst_79 : decode cX7_worst 79 = .ok (.iconst 5, 1) := dk_8 (dk_at dksX7_worst_3 7 rfl rfl)
theorem dX7_worst_80 : decode cX7_worst 80 = .ok (.iadd, 1) := dk_96 (dk_at dksX7_worst_3 8 rfl rfl)
theorem dX7_worst_81 : decode cX7_worst 81 = .ok (.iaload, 1) := dk_46 (dk_at dksX7_worst_3 9 rfl rfl)
theorem dX7_worst_82 : decode cX7_worst 82 = .ok (.i2l, 1) := dk_133 (dk_at dksX7_worst_3 10 rfl rfl)
theorem dX7_worst_83 : decode cX7_worst 83 = .ok (.aload_n 0, 1) := dk_42 (dk_at dksX7_worst_3 11 rfl rfl)
theorem dX7_worst_84 : decode cX7_worst 84 = .ok (.getfield 7, 3) := dk_180 0 7 (dk_at dksX7_worst_3 12 rfl rfl)
theorem dX7_worst_87 : decode cX7_worst 87 = .ok (.iload_n 3, 1) := dk_29 (dk_at dksX7_worst_3 15 rfl rfl)
theorem dX7_worst_88 : decode cX7_worst 88 = .ok (.iconst 4, 1) := dk_7 (dk_at dksX7_worst_3 16 rfl rfl)
theorem dX7_worst_89 : decode cX7_worst 89 = .ok (.iadd, 1) := dk_96 (dk_at dksX7_worst_3 17 rfl rfl)
theorem dX7_worst_90 : decode cX7_worst 90 = .ok (.iaload, 1) := dk_46 (dk_at dksX7_worst_3 18 rfl rfl)
theorem dX7_worst_91 : decode cX7_worst 91 = .ok (.i2l, 1) := dk_133 (dk_at dksX7_worst_3 19 rfl rfl)
theorem dX7_worst_92 : decode cX7_worst 92 = .ok (.lmul, 1) := dk_105 (dk_at dksX7_worst_3 20 rfl rfl)
theorem dX7_worst_93 : decode cX7_worst 93 = .ok (.lcmp, 1) := dk_148 (dk_at dksX7_worst_3 21 rfl rfl)
theorem dX7_worst_94 : decode cX7_worst 94 = .ok (.ifCond .le 5, 3) := dk_158 0 5 (dk_at dksX7_worst_4 0 rfl rfl)
theorem dX7_worst_97 : decode cX7_worst 97 = .ok (.iload_n 2, 1) := dk_28 (dk_at dksX7_worst_4 3 rfl rfl)
theorem dX7_worst_98 : decode cX7_worst 98 = .ok (.istore_n 1, 1) := dk_60 (dk_at dksX7_worst_4 4 rfl rfl)
theorem dX7_worst_99 : decode cX7_worst 99 = .ok (.iinc 2 1, 3) := dk_132 2 1 (dk_at dksX7_worst_4 5 rfl rfl)
theorem dX7_worst_102 : decode cX7_worst 102 = .ok (.goto (-98), 3) := dk_167 255 158 (dk_at dksX7_worst_4 8 rfl rfl)
theorem dX7_worst_105 : decode cX7_worst 105 = .ok (.aload_n 0, 1) := dk_42 (dk_at dksX7_worst_4 11 rfl rfl)
theorem dX7_worst_106 : decode cX7_worst 106 = .ok (.iload_n 1, 1) := dk_27 (dk_at dksX7_worst_4 12 rfl rfl)
theorem dX7_worst_107 : decode cX7_worst 107 = .ok (.invokevirtual 280, 3) := dk_182 1 24 (dk_at dksX7_worst_4 13 rfl rfl)
theorem dX7_worst_110 : decode cX7_worst 110 = .ok (.ireturn, 1) := dk_172 (dk_at dksX7_worst_4 16 rfl rfl)
def dkwX7_treat_1 : List UInt8 := [3, 79, 42, 180, 0, 7, 27, 184, 0, 217, 8, 96, 3, 79, 42, 3, 182, 0, 79, 172]
abbrev dktX7_treat_1 : List UInt8 := dkwX7_treat_1 ++ []
def dkwX7_treat_0 : List UInt8 := [42, 27, 182, 1, 18, 154, 0, 9, 42, 4, 182, 0, 79, 172, 42, 180, 0, 7, 27, 184, 0, 217, 7, 96]
abbrev dktX7_treat_0 : List UInt8 := dkwX7_treat_0 ++ dktX7_treat_1
theorem dksX7_treat_0 : cX7_treat.data.toList.drop 0 = dktX7_treat_0 := by decide +kernel
theorem dksX7_treat_1 : cX7_treat.data.toList.drop 24 = dktX7_treat_1 := dk_seg dksX7_treat_0 24 rfl rfl
theorem dX7_treat_0 : decode cX7_treat 0 = .ok (.aload_n 0, 1) := dk_42 (dk_at dksX7_treat_0 0 rfl rfl)
theorem dX7_treat_1 : decode cX7_treat 1 = .ok (.iload_n 1, 1) := dk_27 (dk_at dksX7_treat_0 1 rfl rfl)
theorem dX7_treat_2 : decode cX7_treat 2 = .ok (.invokevirtual 274, 3) := dk_182 1 18 (dk_at dksX7_treat_0 2 rfl rfl)
theorem dX7_treat_5 : decode cX7_treat 5 = .ok (.ifCond .ne 9, 3) := dk_154 0 9 (dk_at dksX7_treat_0 5 rfl rfl)
theorem dX7_treat_8 : decode cX7_treat 8 = .ok (.aload_n 0, 1) := dk_42 (dk_at dksX7_treat_0 8 rfl rfl)
theorem dX7_treat_9 : decode cX7_treat 9 = .ok (.iconst 1, 1) := dk_4 (dk_at dksX7_treat_0 9 rfl rfl)
theorem dX7_treat_10 : decode cX7_treat 10 = .ok (.invokevirtual 79, 3) := dk_182 0 79 (dk_at dksX7_treat_0 10 rfl rfl)
theorem dX7_treat_13 : decode cX7_treat 13 = .ok (.ireturn, 1) := dk_172 (dk_at dksX7_treat_0 13 rfl rfl)
theorem dX7_treat_14 : decode cX7_treat 14 = .ok (.aload_n 0, 1) := dk_42 (dk_at dksX7_treat_0 14 rfl rfl)
theorem dX7_treat_15 : decode cX7_treat 15 = .ok (.getfield 7, 3) := dk_180 0 7 (dk_at dksX7_treat_0 15 rfl rfl)
theorem dX7_treat_18 : decode cX7_treat 18 = .ok (.iload_n 1, 1) := dk_27 (dk_at dksX7_treat_0 18 rfl rfl)
theorem dX7_treat_19 : decode cX7_treat 19 = .ok (.invokestatic 217, 3) := dk_184 0 217 (dk_at dksX7_treat_0 19 rfl rfl)
theorem dX7_treat_22 : decode cX7_treat 22 = .ok (.iconst 4, 1) := dk_7 (dk_at dksX7_treat_0 22 rfl rfl)
theorem dX7_treat_23 : decode cX7_treat 23 = .ok (.iadd, 1) := dk_96 (dk_at dksX7_treat_0 23 rfl rfl)
theorem dX7_treat_24 : decode cX7_treat 24 = .ok (.iconst 0, 1) := dk_3 (dk_at dksX7_treat_1 0 rfl rfl)
theorem dX7_treat_25 : decode cX7_treat 25 = .ok (.iastore, 1) := dk_79 (dk_at dksX7_treat_1 1 rfl rfl)
theorem dX7_treat_26 : decode cX7_treat 26 = .ok (.aload_n 0, 1) := dk_42 (dk_at dksX7_treat_1 2 rfl rfl)
theorem dX7_treat_27 : decode cX7_treat 27 = .ok (.getfield 7, 3) := dk_180 0 7 (dk_at dksX7_treat_1 3 rfl rfl)
theorem dX7_treat_30 : decode cX7_treat 30 = .ok (.iload_n 1, 1) := dk_27 (dk_at dksX7_treat_1 6 rfl rfl)
theorem dX7_treat_31 : decode cX7_treat 31 = .ok (.invokestatic 217, 3) := dk_184 0 217 (dk_at dksX7_treat_1 7 rfl rfl)
theorem dX7_treat_34 : decode cX7_treat 34 = .ok (.iconst 5, 1) := dk_8 (dk_at dksX7_treat_1 10 rfl rfl)
theorem dX7_treat_35 : decode cX7_treat 35 = .ok (.iadd, 1) := dk_96 (dk_at dksX7_treat_1 11 rfl rfl)
theorem dX7_treat_36 : decode cX7_treat 36 = .ok (.iconst 0, 1) := dk_3 (dk_at dksX7_treat_1 12 rfl rfl)
theorem dX7_treat_37 : decode cX7_treat 37 = .ok (.iastore, 1) := dk_79 (dk_at dksX7_treat_1 13 rfl rfl)
theorem dX7_treat_38 : decode cX7_treat 38 = .ok (.aload_n 0, 1) := dk_42 (dk_at dksX7_treat_1 14 rfl rfl)
theorem dX7_treat_39 : decode cX7_treat 39 = .ok (.iconst 0, 1) := dk_3 (dk_at dksX7_treat_1 15 rfl rfl)
theorem dX7_treat_40 : decode cX7_treat 40 = .ok (.invokevirtual 79, 3) := dk_182 0 79 (dk_at dksX7_treat_1 16 rfl rfl)
theorem dX7_treat_43 : decode cX7_treat 43 = .ok (.ireturn, 1) := dk_172 (dk_at dksX7_treat_1 19 rfl rfl)
def dkwX7_forecast_4 : List UInt8 := [29, 4, 160, 0, 14, 42, 17, 28, 212, 3, 182, 1, 27, 167, 0, 5, 21, 4, 182, 0, 76, 172]
abbrev dktX7_forecast_4 : List UInt8 := dkwX7_forecast_4 ++ []
def dkwX7_forecast_3 : List UInt8 := [54, 4, 132, 5, 1, 167, 255, 226, 42, 29, 154, 0, 14, 42, 180, 0, 7, 17, 28, 213, 46, 167, 0, 21]
abbrev dktX7_forecast_3 : List UInt8 := dkwX7_forecast_3 ++ dktX7_forecast_4
def dkwX7_forecast_2 : List UInt8 := [28, 162, 0, 30, 42, 17, 28, 212, 42, 27, 182, 1, 11, 182, 1, 14, 21, 4, 42, 180, 1, 8, 96]
abbrev dktX7_forecast_2 : List UInt8 := dkwX7_forecast_2 ++ dktX7_forecast_3
def dkwX7_forecast_1 : List UInt8 := [29, 5, 164, 0, 9, 42, 4, 182, 0, 72, 172, 42, 27, 182, 1, 105, 3, 54, 4, 3, 54, 5, 21, 5]
abbrev dktX7_forecast_1 : List UInt8 := dkwX7_forecast_1 ++ dktX7_forecast_2
def dkwX7_forecast_0 : List UInt8 := [42, 27, 182, 1, 18, 153, 0, 24, 28, 133, 9, 20, 1, 54, 184, 1, 50, 153, 0, 12, 29, 155, 0, 8]
abbrev dktX7_forecast_0 : List UInt8 := dkwX7_forecast_0 ++ dktX7_forecast_1
theorem dksX7_forecast_0 : cX7_forecast.data.toList.drop 0 = dktX7_forecast_0 := by decide +kernel
theorem dksX7_forecast_1 : cX7_forecast.data.toList.drop 24 = dktX7_forecast_1 := dk_seg dksX7_forecast_0 24 rfl rfl
theorem dksX7_forecast_2 : cX7_forecast.data.toList.drop 48 = dktX7_forecast_2 := dk_seg dksX7_forecast_1 24 rfl rfl
theorem dksX7_forecast_3 : cX7_forecast.data.toList.drop 71 = dktX7_forecast_3 := dk_seg dksX7_forecast_2 23 rfl rfl
theorem dksX7_forecast_4 : cX7_forecast.data.toList.drop 95 = dktX7_forecast_4 := dk_seg dksX7_forecast_3 24 rfl rfl
theorem dX7_forecast_0 : decode cX7_forecast 0 = .ok (.aload_n 0, 1) := dk_42 (dk_at dksX7_forecast_0 0 rfl rfl)
theorem dX7_forecast_1 : decode cX7_forecast 1 = .ok (.iload_n 1, 1) := dk_27 (dk_at dksX7_forecast_0 1 rfl rfl)
theorem dX7_forecast_2 : decode cX7_forecast 2 = .ok (.invokevirtual 274, 3) := dk_182 1 18 (dk_at dksX7_forecast_0 2 rfl rfl)
theorem dX7_forecast_5 : decode cX7_forecast 5 = .ok (.ifCond .eq 24, 3) := dk_153 0 24 (dk_at dksX7_forecast_0 5 rfl rfl)
theorem dX7_forecast_8 : decode cX7_forecast 8 = .ok (.iload_n 2, 1) := dk_28 (dk_at dksX7_forecast_0 8 rfl rfl)
theorem dX7_forecast_9 : decode cX7_forecast 9 = .ok (.i2l, 1) := dk_133 (dk_at dksX7_forecast_0 9 rfl rfl)
theorem dX7_forecast_10 : decode cX7_forecast 10 = .ok (.lconst 0, 1) := dk_9 (dk_at dksX7_forecast_0 10 rfl rfl)
theorem dX7_forecast_11 : decode cX7_forecast 11 = .ok (.ldc2_w 310, 3) := dk_20 1 54 (dk_at dksX7_forecast_0 11 rfl rfl)
theorem dX7_forecast_14 : decode cX7_forecast 14 = .ok (.invokestatic 306, 3) := dk_184 1 50 (dk_at dksX7_forecast_0 14 rfl rfl)
theorem dX7_forecast_17 : decode cX7_forecast 17 = .ok (.ifCond .eq 12, 3) := dk_153 0 12 (dk_at dksX7_forecast_0 17 rfl rfl)
theorem dX7_forecast_20 : decode cX7_forecast 20 = .ok (.iload_n 3, 1) := dk_29 (dk_at dksX7_forecast_0 20 rfl rfl)
theorem dX7_forecast_21 : decode cX7_forecast 21 = .ok (.ifCond .lt 8, 3) := dk_155 0 8 (dk_at dksX7_forecast_0 21 rfl rfl)
theorem dX7_forecast_24 : decode cX7_forecast 24 = .ok (.iload_n 3, 1) := dk_29 (dk_at dksX7_forecast_1 0 rfl rfl)
theorem dX7_forecast_25 : decode cX7_forecast 25 = .ok (.iconst 2, 1) := dk_5 (dk_at dksX7_forecast_1 1 rfl rfl)
theorem dX7_forecast_26 : decode cX7_forecast 26 = .ok (.if_icmp .le 9, 3) := dk_164 0 9 (dk_at dksX7_forecast_1 2 rfl rfl)
theorem dX7_forecast_29 : decode cX7_forecast 29 = .ok (.aload_n 0, 1) := dk_42 (dk_at dksX7_forecast_1 5 rfl rfl)
theorem dX7_forecast_30 : decode cX7_forecast 30 = .ok (.iconst 1, 1) := dk_4 (dk_at dksX7_forecast_1 6 rfl rfl)
theorem dX7_forecast_31 : decode cX7_forecast 31 = .ok (.invokevirtual 72, 3) := dk_182 0 72 (dk_at dksX7_forecast_1 7 rfl rfl)
theorem dX7_forecast_34 : decode cX7_forecast 34 = .ok (.ireturn, 1) := dk_172 (dk_at dksX7_forecast_1 10 rfl rfl)
theorem dX7_forecast_35 : decode cX7_forecast 35 = .ok (.aload_n 0, 1) := dk_42 (dk_at dksX7_forecast_1 11 rfl rfl)
theorem dX7_forecast_36 : decode cX7_forecast 36 = .ok (.iload_n 1, 1) := dk_27 (dk_at dksX7_forecast_1 12 rfl rfl)
theorem dX7_forecast_37 : decode cX7_forecast 37 = .ok (.invokevirtual 361, 3) := dk_182 1 105 (dk_at dksX7_forecast_1 13 rfl rfl)
theorem dX7_forecast_40 : decode cX7_forecast 40 = .ok (.iconst 0, 1) := dk_3 (dk_at dksX7_forecast_1 16 rfl rfl)
theorem dX7_forecast_41 : decode cX7_forecast 41 = .ok (.istore 4, 2) := dk_54 4 (dk_at dksX7_forecast_1 17 rfl rfl)
theorem dX7_forecast_43 : decode cX7_forecast 43 = .ok (.iconst 0, 1) := dk_3 (dk_at dksX7_forecast_1 19 rfl rfl)
theorem dX7_forecast_44 : decode cX7_forecast 44 = .ok (.istore 5, 2) := dk_54 5 (dk_at dksX7_forecast_1 20 rfl rfl)
theorem dX7_forecast_46 : decode cX7_forecast 46 = .ok (.iload 5, 2) := dk_21 5 (dk_at dksX7_forecast_1 22 rfl rfl)
theorem dX7_forecast_48 : decode cX7_forecast 48 = .ok (.iload_n 2, 1) := dk_28 (dk_at dksX7_forecast_2 0 rfl rfl)
theorem dX7_forecast_49 : decode cX7_forecast 49 = .ok (.if_icmp .ge 30, 3) := dk_162 0 30 (dk_at dksX7_forecast_2 1 rfl rfl)
theorem dX7_forecast_52 : decode cX7_forecast 52 = .ok (.aload_n 0, 1) := dk_42 (dk_at dksX7_forecast_2 4 rfl rfl)
theorem dX7_forecast_53 : decode cX7_forecast 53 = .ok (.sipush 7380, 3) := dk_17 28 212 (dk_at dksX7_forecast_2 5 rfl rfl)
theorem dX7_forecast_56 : decode cX7_forecast 56 = .ok (.aload_n 0, 1) := dk_42 (dk_at dksX7_forecast_2 8 rfl rfl)
theorem dX7_forecast_57 : decode cX7_forecast 57 = .ok (.iload_n 1, 1) := dk_27 (dk_at dksX7_forecast_2 9 rfl rfl)
theorem dX7_forecast_58 : decode cX7_forecast 58 = .ok (.invokevirtual 267, 3) := dk_182 1 11 (dk_at dksX7_forecast_2 10 rfl rfl)
theorem dX7_forecast_61 : decode cX7_forecast 61 = .ok (.invokevirtual 270, 3) := dk_182 1 14 (dk_at dksX7_forecast_2 13 rfl rfl)
theorem dX7_forecast_64 : decode cX7_forecast 64 = .ok (.iload 4, 2) := dk_21 4 (dk_at dksX7_forecast_2 16 rfl rfl)
theorem dX7_forecast_66 : decode cX7_forecast 66 = .ok (.aload_n 0, 1) := dk_42 (dk_at dksX7_forecast_2 18 rfl rfl)
theorem dX7_forecast_67 : decode cX7_forecast 67 = .ok (.getfield 264, 3) := dk_180 1 8 (dk_at dksX7_forecast_2 19 rfl rfl)
theorem dX7_forecast_70 : decode cX7_forecast 70 = .ok (.iadd, 1) := dk_96 (dk_at dksX7_forecast_2 22 rfl rfl)
theorem dX7_forecast_71 : decode cX7_forecast 71 = .ok (.istore 4, 2) := dk_54 4 (dk_at dksX7_forecast_3 0 rfl rfl)
theorem dX7_forecast_73 : decode cX7_forecast 73 = .ok (.iinc 5 1, 3) := dk_132 5 1 (dk_at dksX7_forecast_3 2 rfl rfl)
theorem dX7_forecast_76 : decode cX7_forecast 76 = .ok (.goto (-30), 3) := dk_167 255 226 (dk_at dksX7_forecast_3 5 rfl rfl)
theorem dX7_forecast_79 : decode cX7_forecast 79 = .ok (.aload_n 0, 1) := dk_42 (dk_at dksX7_forecast_3 8 rfl rfl)
theorem dX7_forecast_80 : decode cX7_forecast 80 = .ok (.iload_n 3, 1) := dk_29 (dk_at dksX7_forecast_3 9 rfl rfl)
theorem dX7_forecast_81 : decode cX7_forecast 81 = .ok (.ifCond .ne 14, 3) := dk_154 0 14 (dk_at dksX7_forecast_3 10 rfl rfl)
theorem dX7_forecast_84 : decode cX7_forecast 84 = .ok (.aload_n 0, 1) := dk_42 (dk_at dksX7_forecast_3 13 rfl rfl)
theorem dX7_forecast_85 : decode cX7_forecast 85 = .ok (.getfield 7, 3) := dk_180 0 7 (dk_at dksX7_forecast_3 14 rfl rfl)
theorem dX7_forecast_88 : decode cX7_forecast 88 = .ok (.sipush 7381, 3) := dk_17 28 213 (dk_at dksX7_forecast_3 17 rfl rfl)
theorem dX7_forecast_91 : decode cX7_forecast 91 = .ok (.iaload, 1) := dk_46 (dk_at dksX7_forecast_3 20 rfl rfl)
theorem dX7_forecast_92 : decode cX7_forecast 92 = .ok (.goto 21, 3) := dk_167 0 21 (dk_at dksX7_forecast_3 21 rfl rfl)
theorem dX7_forecast_95 : decode cX7_forecast 95 = .ok (.iload_n 3, 1) := dk_29 (dk_at dksX7_forecast_4 0 rfl rfl)
theorem dX7_forecast_96 : decode cX7_forecast 96 = .ok (.iconst 1, 1) := dk_4 (dk_at dksX7_forecast_4 1 rfl rfl)
theorem dX7_forecast_97 : decode cX7_forecast 97 = .ok (.if_icmp .ne 14, 3) := dk_160 0 14 (dk_at dksX7_forecast_4 2 rfl rfl)
theorem dX7_forecast_100 : decode cX7_forecast 100 = .ok (.aload_n 0, 1) := dk_42 (dk_at dksX7_forecast_4 5 rfl rfl)
theorem dX7_forecast_101 : decode cX7_forecast 101 = .ok (.sipush 7380, 3) := dk_17 28 212 (dk_at dksX7_forecast_4 6 rfl rfl)
theorem dX7_forecast_104 : decode cX7_forecast 104 = .ok (.iconst 0, 1) := dk_3 (dk_at dksX7_forecast_4 9 rfl rfl)
theorem dX7_forecast_105 : decode cX7_forecast 105 = .ok (.invokevirtual 283, 3) := dk_182 1 27 (dk_at dksX7_forecast_4 10 rfl rfl)
theorem dX7_forecast_108 : decode cX7_forecast 108 = .ok (.goto 5, 3) := dk_167 0 5 (dk_at dksX7_forecast_4 13 rfl rfl)
theorem dX7_forecast_111 : decode cX7_forecast 111 = .ok (.iload 4, 2) := dk_21 4 (dk_at dksX7_forecast_4 16 rfl rfl)
theorem dX7_forecast_113 : decode cX7_forecast 113 = .ok (.invokevirtual 76, 3) := dk_182 0 76 (dk_at dksX7_forecast_4 18 rfl rfl)
theorem dX7_forecast_116 : decode cX7_forecast 116 = .ok (.ireturn, 1) := dk_172 (dk_at dksX7_forecast_4 21 rfl rfl)
def dkwX7_soonest_3 : List UInt8 := [132, 3, 1, 167, 255, 217, 42, 16, 6, 182, 0, 72, 172]
abbrev dktX7_soonest_3 : List UInt8 := dkwX7_soonest_3 ++ []
def dkwX7_soonest_2 : List UInt8 := [46, 28, 161, 0, 9, 42, 29, 182, 0, 76, 172, 42, 17, 28, 212, 42, 27, 182, 1, 11, 182, 1, 14]
abbrev dktX7_soonest_2 : List UInt8 := dkwX7_soonest_2 ++ dktX7_soonest_3
def dkwX7_soonest_1 : List UInt8 := [182, 0, 72, 172, 42, 27, 182, 1, 105, 3, 62, 29, 16, 60, 163, 0, 39, 42, 180, 0, 7, 17, 28, 213]
abbrev dktX7_soonest_1 : List UInt8 := dkwX7_soonest_1 ++ dktX7_soonest_2
def dkwX7_soonest_0 : List UInt8 := [42, 27, 182, 1, 18, 153, 0, 15, 28, 133, 9, 20, 1, 59, 184, 1, 50, 154, 0, 9, 42, 4]
abbrev dktX7_soonest_0 : List UInt8 := dkwX7_soonest_0 ++ dktX7_soonest_1
theorem dksX7_soonest_0 : cX7_soonest.data.toList.drop 0 = dktX7_soonest_0 := by decide +kernel
theorem dksX7_soonest_1 : cX7_soonest.data.toList.drop 22 = dktX7_soonest_1 := dk_seg dksX7_soonest_0 22 rfl rfl
theorem dksX7_soonest_2 : cX7_soonest.data.toList.drop 46 = dktX7_soonest_2 := dk_seg dksX7_soonest_1 24 rfl rfl
theorem dksX7_soonest_3 : cX7_soonest.data.toList.drop 69 = dktX7_soonest_3 := dk_seg dksX7_soonest_2 23 rfl rfl
theorem dX7_soonest_0 : decode cX7_soonest 0 = .ok (.aload_n 0, 1) := dk_42 (dk_at dksX7_soonest_0 0 rfl rfl)
theorem dX7_soonest_1 : decode cX7_soonest 1 = .ok (.iload_n 1, 1) := dk_27 (dk_at dksX7_soonest_0 1 rfl rfl)
theorem dX7_soonest_2 : decode cX7_soonest 2 = .ok (.invokevirtual 274, 3) := dk_182 1 18 (dk_at dksX7_soonest_0 2 rfl rfl)
theorem dX7_soonest_5 : decode cX7_soonest 5 = .ok (.ifCond .eq 15, 3) := dk_153 0 15 (dk_at dksX7_soonest_0 5 rfl rfl)
theorem dX7_soonest_8 : decode cX7_soonest 8 = .ok (.iload_n 2, 1) := dk_28 (dk_at dksX7_soonest_0 8 rfl rfl)
theorem dX7_soonest_9 : decode cX7_soonest 9 = .ok (.i2l, 1) := dk_133 (dk_at dksX7_soonest_0 9 rfl rfl)
theorem dX7_soonest_10 : decode cX7_soonest 10 = .ok (.lconst 0, 1) := dk_9 (dk_at dksX7_soonest_0 10 rfl rfl)
theorem dX7_soonest_11 : decode cX7_soonest 11 = .ok (.ldc2_w 315, 3) := dk_20 1 59 (dk_at dksX7_soonest_0 11 rfl rfl)
theorem dX7_soonest_14 : decode cX7_soonest 14 = .ok (.invokestatic 306, 3) := dk_184 1 50 (dk_at dksX7_soonest_0 14 rfl rfl)
theorem dX7_soonest_17 : decode cX7_soonest 17 = .ok (.ifCond .ne 9, 3) := dk_154 0 9 (dk_at dksX7_soonest_0 17 rfl rfl)
theorem dX7_soonest_20 : decode cX7_soonest 20 = .ok (.aload_n 0, 1) := dk_42 (dk_at dksX7_soonest_0 20 rfl rfl)
theorem dX7_soonest_21 : decode cX7_soonest 21 = .ok (.iconst 1, 1) := dk_4 (dk_at dksX7_soonest_0 21 rfl rfl)
theorem dX7_soonest_22 : decode cX7_soonest 22 = .ok (.invokevirtual 72, 3) := dk_182 0 72 (dk_at dksX7_soonest_1 0 rfl rfl)
theorem dX7_soonest_25 : decode cX7_soonest 25 = .ok (.ireturn, 1) := dk_172 (dk_at dksX7_soonest_1 3 rfl rfl)
theorem dX7_soonest_26 : decode cX7_soonest 26 = .ok (.aload_n 0, 1) := dk_42 (dk_at dksX7_soonest_1 4 rfl rfl)
theorem dX7_soonest_27 : decode cX7_soonest 27 = .ok (.iload_n 1, 1) := dk_27 (dk_at dksX7_soonest_1 5 rfl rfl)
theorem dX7_soonest_28 : decode cX7_soonest 28 = .ok (.invokevirtual 361, 3) := dk_182 1 105 (dk_at dksX7_soonest_1 6 rfl rfl)
theorem dX7_soonest_31 : decode cX7_soonest 31 = .ok (.iconst 0, 1) := dk_3 (dk_at dksX7_soonest_1 9 rfl rfl)
theorem dX7_soonest_32 : decode cX7_soonest 32 = .ok (.istore_n 3, 1) := dk_62 (dk_at dksX7_soonest_1 10 rfl rfl)
theorem dX7_soonest_33 : decode cX7_soonest 33 = .ok (.iload_n 3, 1) := dk_29 (dk_at dksX7_soonest_1 11 rfl rfl)
theorem dX7_soonest_34 : decode cX7_soonest 34 = .ok (.bipush 60, 2) := dk_16 60 (dk_at dksX7_soonest_1 12 rfl rfl)
theorem dX7_soonest_36 : decode cX7_soonest 36 = .ok (.if_icmp .gt 39, 3) := dk_163 0 39 (dk_at dksX7_soonest_1 14 rfl rfl)
theorem dX7_soonest_39 : decode cX7_soonest 39 = .ok (.aload_n 0, 1) := dk_42 (dk_at dksX7_soonest_1 17 rfl rfl)
theorem dX7_soonest_40 : decode cX7_soonest 40 = .ok (.getfield 7, 3) := dk_180 0 7 (dk_at dksX7_soonest_1 18 rfl rfl)
theorem dX7_soonest_43 : decode cX7_soonest 43 = .ok (.sipush 7381, 3) := dk_17 28 213 (dk_at dksX7_soonest_1 21 rfl rfl)
theorem dX7_soonest_46 : decode cX7_soonest 46 = .ok (.iaload, 1) := dk_46 (dk_at dksX7_soonest_2 0 rfl rfl)
theorem dX7_soonest_47 : decode cX7_soonest 47 = .ok (.iload_n 2, 1) := dk_28 (dk_at dksX7_soonest_2 1 rfl rfl)
theorem dX7_soonest_48 : decode cX7_soonest 48 = .ok (.if_icmp .lt 9, 3) := dk_161 0 9 (dk_at dksX7_soonest_2 2 rfl rfl)
theorem dX7_soonest_51 : decode cX7_soonest 51 = .ok (.aload_n 0, 1) := dk_42 (dk_at dksX7_soonest_2 5 rfl rfl)
theorem dX7_soonest_52 : decode cX7_soonest 52 = .ok (.iload_n 3, 1) := dk_29 (dk_at dksX7_soonest_2 6 rfl rfl)
theorem dX7_soonest_53 : decode cX7_soonest 53 = .ok (.invokevirtual 76, 3) := dk_182 0 76 (dk_at dksX7_soonest_2 7 rfl rfl)
theorem dX7_soonest_56 : decode cX7_soonest 56 = .ok (.ireturn, 1) := dk_172 (dk_at dksX7_soonest_2 10 rfl rfl)
theorem dX7_soonest_57 : decode cX7_soonest 57 = .ok (.aload_n 0, 1) := dk_42 (dk_at dksX7_soonest_2 11 rfl rfl)
theorem dX7_soonest_58 : decode cX7_soonest 58 = .ok (.sipush 7380, 3) := dk_17 28 212 (dk_at dksX7_soonest_2 12 rfl rfl)
theorem dX7_soonest_61 : decode cX7_soonest 61 = .ok (.aload_n 0, 1) := dk_42 (dk_at dksX7_soonest_2 15 rfl rfl)
theorem dX7_soonest_62 : decode cX7_soonest 62 = .ok (.iload_n 1, 1) := dk_27 (dk_at dksX7_soonest_2 16 rfl rfl)
theorem dX7_soonest_63 : decode cX7_soonest 63 = .ok (.invokevirtual 267, 3) := dk_182 1 11 (dk_at dksX7_soonest_2 17 rfl rfl)
theorem dX7_soonest_66 : decode cX7_soonest 66 = .ok (.invokevirtual 270, 3) := dk_182 1 14 (dk_at dksX7_soonest_2 20 rfl rfl)
theorem dX7_soonest_69 : decode cX7_soonest 69 = .ok (.iinc 3 1, 3) := dk_132 3 1 (dk_at dksX7_soonest_3 0 rfl rfl)
theorem dX7_soonest_72 : decode cX7_soonest 72 = .ok (.goto (-39), 3) := dk_167 255 217 (dk_at dksX7_soonest_3 3 rfl rfl)
theorem dX7_soonest_75 : decode cX7_soonest 75 = .ok (.aload_n 0, 1) := dk_42 (dk_at dksX7_soonest_3 6 rfl rfl)
theorem dX7_soonest_76 : decode cX7_soonest 76 = .ok (.bipush 6, 2) := dk_16 6 (dk_at dksX7_soonest_3 7 rfl rfl)
theorem dX7_soonest_78 : decode cX7_soonest 78 = .ok (.invokevirtual 72, 3) := dk_182 0 72 (dk_at dksX7_soonest_3 9 rfl rfl)
theorem dX7_soonest_81 : decode cX7_soonest 81 = .ok (.ireturn, 1) := dk_172 (dk_at dksX7_soonest_3 12 rfl rfl)
def dkwX7_need_5 : List UInt8 := [182, 0, 76, 172, 132, 3, 1, 167, 255, 162, 42, 16, 6, 182, 0, 72, 172]
abbrev dktX7_need_5 : List UInt8 := dkwX7_need_5 ++ []
def dkwX7_need_4 : List UInt8 := [154, 0, 7, 4, 167, 0, 4, 3, 54, 5, 132, 6, 1, 167, 255, 216, 21, 5, 153, 0, 9, 42, 29]
abbrev dktX7_need_4 : List UInt8 := dkwX7_need_4 ++ dktX7_need_5
def dkwX7_need_3 : List UInt8 := [162, 0, 40, 21, 5, 153, 0, 35, 42, 17, 28, 212, 42, 27, 182, 1, 11, 182, 1, 14, 42, 180, 1, 8]
abbrev dktX7_need_3 : List UInt8 := dkwX7_need_3 ++ dktX7_need_4
def dkwX7_need_2 : List UInt8 := [182, 0, 188, 54, 4, 21, 4, 155, 0, 7, 4, 167, 0, 4, 3, 54, 5, 3, 54, 6, 21, 6, 28]
abbrev dktX7_need_2 : List UInt8 := dkwX7_need_2 ++ dktX7_need_3
def dkwX7_need_1 : List UInt8 := [182, 0, 72, 172, 3, 62, 29, 17, 3, 232, 163, 0, 93, 42, 27, 182, 1, 105, 42, 17, 28, 212, 29]
abbrev dktX7_need_1 : List UInt8 := dkwX7_need_1 ++ dktX7_need_2
def dkwX7_need_0 : List UInt8 := [42, 27, 182, 1, 18, 153, 0, 15, 28, 133, 10, 20, 1, 115, 184, 1, 50, 154, 0, 9, 42, 4]
abbrev dktX7_need_0 : List UInt8 := dkwX7_need_0 ++ dktX7_need_1
theorem dksX7_need_0 : cX7_need.data.toList.drop 0 = dktX7_need_0 := by decide +kernel
theorem dksX7_need_1 : cX7_need.data.toList.drop 22 = dktX7_need_1 := dk_seg dksX7_need_0 22 rfl rfl
theorem dksX7_need_2 : cX7_need.data.toList.drop 45 = dktX7_need_2 := dk_seg dksX7_need_1 23 rfl rfl
theorem dksX7_need_3 : cX7_need.data.toList.drop 68 = dktX7_need_3 := dk_seg dksX7_need_2 23 rfl rfl
theorem dksX7_need_4 : cX7_need.data.toList.drop 92 = dktX7_need_4 := dk_seg dksX7_need_3 24 rfl rfl
theorem dksX7_need_5 : cX7_need.data.toList.drop 115 = dktX7_need_5 := dk_seg dksX7_need_4 23 rfl rfl
theorem dX7_need_0 : decode cX7_need 0 = .ok (.aload_n 0, 1) := dk_42 (dk_at dksX7_need_0 0 rfl rfl)
theorem dX7_need_1 : decode cX7_need 1 = .ok (.iload_n 1, 1) := dk_27 (dk_at dksX7_need_0 1 rfl rfl)
theorem dX7_need_2 : decode cX7_need 2 = .ok (.invokevirtual 274, 3) := dk_182 1 18 (dk_at dksX7_need_0 2 rfl rfl)
theorem dX7_need_5 : decode cX7_need 5 = .ok (.ifCond .eq 15, 3) := dk_153 0 15 (dk_at dksX7_need_0 5 rfl rfl)
theorem dX7_need_8 : decode cX7_need 8 = .ok (.iload_n 2, 1) := dk_28 (dk_at dksX7_need_0 8 rfl rfl)
theorem dX7_need_9 : decode cX7_need 9 = .ok (.i2l, 1) := dk_133 (dk_at dksX7_need_0 9 rfl rfl)
theorem dX7_need_10 : decode cX7_need 10 = .ok (.lconst 1, 1) := dk_10 (dk_at dksX7_need_0 10 rfl rfl)
theorem dX7_need_11 : decode cX7_need 11 = .ok (.ldc2_w 371, 3) := dk_20 1 115 (dk_at dksX7_need_0 11 rfl rfl)
theorem dX7_need_14 : decode cX7_need 14 = .ok (.invokestatic 306, 3) := dk_184 1 50 (dk_at dksX7_need_0 14 rfl rfl)
theorem dX7_need_17 : decode cX7_need 17 = .ok (.ifCond .ne 9, 3) := dk_154 0 9 (dk_at dksX7_need_0 17 rfl rfl)
theorem dX7_need_20 : decode cX7_need 20 = .ok (.aload_n 0, 1) := dk_42 (dk_at dksX7_need_0 20 rfl rfl)
theorem dX7_need_21 : decode cX7_need 21 = .ok (.iconst 1, 1) := dk_4 (dk_at dksX7_need_0 21 rfl rfl)
theorem dX7_need_22 : decode cX7_need 22 = .ok (.invokevirtual 72, 3) := dk_182 0 72 (dk_at dksX7_need_1 0 rfl rfl)
theorem dX7_need_25 : decode cX7_need 25 = .ok (.ireturn, 1) := dk_172 (dk_at dksX7_need_1 3 rfl rfl)
theorem dX7_need_26 : decode cX7_need 26 = .ok (.iconst 0, 1) := dk_3 (dk_at dksX7_need_1 4 rfl rfl)
theorem dX7_need_27 : decode cX7_need 27 = .ok (.istore_n 3, 1) := dk_62 (dk_at dksX7_need_1 5 rfl rfl)
theorem dX7_need_28 : decode cX7_need 28 = .ok (.iload_n 3, 1) := dk_29 (dk_at dksX7_need_1 6 rfl rfl)
theorem dX7_need_29 : decode cX7_need 29 = .ok (.sipush 1000, 3) := dk_17 3 232 (dk_at dksX7_need_1 7 rfl rfl)
theorem dX7_need_32 : decode cX7_need 32 = .ok (.if_icmp .gt 93, 3) := dk_163 0 93 (dk_at dksX7_need_1 10 rfl rfl)
theorem dX7_need_35 : decode cX7_need 35 = .ok (.aload_n 0, 1) := dk_42 (dk_at dksX7_need_1 13 rfl rfl)
theorem dX7_need_36 : decode cX7_need 36 = .ok (.iload_n 1, 1) := dk_27 (dk_at dksX7_need_1 14 rfl rfl)
theorem dX7_need_37 : decode cX7_need 37 = .ok (.invokevirtual 361, 3) := dk_182 1 105 (dk_at dksX7_need_1 15 rfl rfl)
theorem dX7_need_40 : decode cX7_need 40 = .ok (.aload_n 0, 1) := dk_42 (dk_at dksX7_need_1 18 rfl rfl)
theorem dX7_need_41 : decode cX7_need 41 = .ok (.sipush 7380, 3) := dk_17 28 212 (dk_at dksX7_need_1 19 rfl rfl)
theorem dX7_need_44 : decode cX7_need 44 = .ok (.iload_n 3, 1) := dk_29 (dk_at dksX7_need_1 22 rfl rfl)
theorem dX7_need_45 : decode cX7_need 45 = .ok (.invokevirtual 188, 3) := dk_182 0 188 (dk_at dksX7_need_2 0 rfl rfl)
theorem dX7_need_48 : decode cX7_need 48 = .ok (.istore 4, 2) := dk_54 4 (dk_at dksX7_need_2 3 rfl rfl)
theorem dX7_need_50 : decode cX7_need 50 = .ok (.iload 4, 2) := dk_21 4 (dk_at dksX7_need_2 5 rfl rfl)
theorem dX7_need_52 : decode cX7_need 52 = .ok (.ifCond .lt 7, 3) := dk_155 0 7 (dk_at dksX7_need_2 7 rfl rfl)
theorem dX7_need_55 : decode cX7_need 55 = .ok (.iconst 1, 1) := dk_4 (dk_at dksX7_need_2 10 rfl rfl)
theorem dX7_need_56 : decode cX7_need 56 = .ok (.goto 4, 3) := dk_167 0 4 (dk_at dksX7_need_2 11 rfl rfl)
theorem dX7_need_59 : decode cX7_need 59 = .ok (.iconst 0, 1) := dk_3 (dk_at dksX7_need_2 14 rfl rfl)
theorem dX7_need_60 : decode cX7_need 60 = .ok (.istore 5, 2) := dk_54 5 (dk_at dksX7_need_2 15 rfl rfl)
theorem dX7_need_62 : decode cX7_need 62 = .ok (.iconst 0, 1) := dk_3 (dk_at dksX7_need_2 17 rfl rfl)
theorem dX7_need_63 : decode cX7_need 63 = .ok (.istore 6, 2) := dk_54 6 (dk_at dksX7_need_2 18 rfl rfl)
theorem dX7_need_65 : decode cX7_need 65 = .ok (.iload 6, 2) := dk_21 6 (dk_at dksX7_need_2 20 rfl rfl)
theorem dX7_need_67 : decode cX7_need 67 = .ok (.iload_n 2, 1) := dk_28 (dk_at dksX7_need_2 22 rfl rfl)
theorem dX7_need_68 : decode cX7_need 68 = .ok (.if_icmp .ge 40, 3) := dk_162 0 40 (dk_at dksX7_need_3 0 rfl rfl)
theorem dX7_need_71 : decode cX7_need 71 = .ok (.iload 5, 2) := dk_21 5 (dk_at dksX7_need_3 3 rfl rfl)
theorem dX7_need_73 : decode cX7_need 73 = .ok (.ifCond .eq 35, 3) := dk_153 0 35 (dk_at dksX7_need_3 5 rfl rfl)
theorem dX7_need_76 : decode cX7_need 76 = .ok (.aload_n 0, 1) := dk_42 (dk_at dksX7_need_3 8 rfl rfl)
theorem dX7_need_77 : decode cX7_need 77 = .ok (.sipush 7380, 3) := dk_17 28 212 (dk_at dksX7_need_3 9 rfl rfl)
theorem dX7_need_80 : decode cX7_need 80 = .ok (.aload_n 0, 1) := dk_42 (dk_at dksX7_need_3 12 rfl rfl)
theorem dX7_need_81 : decode cX7_need 81 = .ok (.iload_n 1, 1) := dk_27 (dk_at dksX7_need_3 13 rfl rfl)
theorem dX7_need_82 : decode cX7_need 82 = .ok (.invokevirtual 267, 3) := dk_182 1 11 (dk_at dksX7_need_3 14 rfl rfl)
theorem dX7_need_85 : decode cX7_need 85 = .ok (.invokevirtual 270, 3) := dk_182 1 14 (dk_at dksX7_need_3 17 rfl rfl)
theorem dX7_need_88 : decode cX7_need 88 = .ok (.aload_n 0, 1) := dk_42 (dk_at dksX7_need_3 20 rfl rfl)
theorem dX7_need_89 : decode cX7_need 89 = .ok (.getfield 264, 3) := dk_180 1 8 (dk_at dksX7_need_3 21 rfl rfl)
theorem dX7_need_92 : decode cX7_need 92 = .ok (.ifCond .ne 7, 3) := dk_154 0 7 (dk_at dksX7_need_4 0 rfl rfl)
theorem dX7_need_95 : decode cX7_need 95 = .ok (.iconst 1, 1) := dk_4 (dk_at dksX7_need_4 3 rfl rfl)
theorem dX7_need_96 : decode cX7_need 96 = .ok (.goto 4, 3) := dk_167 0 4 (dk_at dksX7_need_4 4 rfl rfl)
theorem dX7_need_99 : decode cX7_need 99 = .ok (.iconst 0, 1) := dk_3 (dk_at dksX7_need_4 7 rfl rfl)
theorem dX7_need_100 : decode cX7_need 100 = .ok (.istore 5, 2) := dk_54 5 (dk_at dksX7_need_4 8 rfl rfl)
theorem dX7_need_102 : decode cX7_need 102 = .ok (.iinc 6 1, 3) := dk_132 6 1 (dk_at dksX7_need_4 10 rfl rfl)
theorem dX7_need_105 : decode cX7_need 105 = .ok (.goto (-40), 3) := dk_167 255 216 (dk_at dksX7_need_4 13 rfl rfl)
theorem dX7_need_108 : decode cX7_need 108 = .ok (.iload 5, 2) := dk_21 5 (dk_at dksX7_need_4 16 rfl rfl)
theorem dX7_need_110 : decode cX7_need 110 = .ok (.ifCond .eq 9, 3) := dk_153 0 9 (dk_at dksX7_need_4 18 rfl rfl)
theorem dX7_need_113 : decode cX7_need 113 = .ok (.aload_n 0, 1) := dk_42 (dk_at dksX7_need_4 21 rfl rfl)
theorem dX7_need_114 : decode cX7_need 114 = .ok (.iload_n 3, 1) := dk_29 (dk_at dksX7_need_4 22 rfl rfl)
theorem dX7_need_115 : decode cX7_need 115 = .ok (.invokevirtual 76, 3) := dk_182 0 76 (dk_at dksX7_need_5 0 rfl rfl)
theorem dX7_need_118 : decode cX7_need 118 = .ok (.ireturn, 1) := dk_172 (dk_at dksX7_need_5 3 rfl rfl)
theorem dX7_need_119 : decode cX7_need 119 = .ok (.iinc 3 1, 3) := dk_132 3 1 (dk_at dksX7_need_5 4 rfl rfl)
theorem dX7_need_122 : decode cX7_need 122 = .ok (.goto (-94), 3) := dk_167 255 162 (dk_at dksX7_need_5 7 rfl rfl)
theorem dX7_need_125 : decode cX7_need 125 = .ok (.aload_n 0, 1) := dk_42 (dk_at dksX7_need_5 10 rfl rfl)
theorem dX7_need_126 : decode cX7_need 126 = .ok (.bipush 6, 2) := dk_16 6 (dk_at dksX7_need_5 11 rfl rfl)
theorem dX7_need_128 : decode cX7_need 128 = .ok (.invokevirtual 72, 3) := dk_182 0 72 (dk_at dksX7_need_5 13 rfl rfl)
theorem dX7_need_131 : decode cX7_need 131 = .ok (.ireturn, 1) := dk_172 (dk_at dksX7_need_5 16 rfl rfl)
def dkwX7_live_3 : List UInt8 := [42, 180, 1, 124, 182, 0, 76, 172]
abbrev dktX7_live_3 : List UInt8 := dkwX7_live_3 ++ []
def dkwX7_live_2 : List UInt8 := [42, 180, 0, 59, 28, 42, 180, 0, 56, 28, 46, 79, 132, 2, 1, 167, 255, 236, 42, 4, 181, 1, 139, 42]
abbrev dktX7_live_2 : List UInt8 := dkwX7_live_2 ++ dktX7_live_3
def dkwX7_live_1 : List UInt8 := [46, 2, 160, 0, 10, 42, 16, 6, 182, 0, 72, 172, 42, 27, 182, 1, 136, 3, 61, 28, 6, 162, 0, 21]
abbrev dktX7_live_1 : List UInt8 := dkwX7_live_1 ++ dktX7_live_2
def dkwX7_live_0 : List UInt8 := [27, 133, 9, 20, 1, 59, 184, 1, 50, 154, 0, 9, 42, 4, 182, 0, 72, 172, 42, 180, 0, 7, 16, 10]
abbrev dktX7_live_0 : List UInt8 := dkwX7_live_0 ++ dktX7_live_1
theorem dksX7_live_0 : cX7_live.data.toList.drop 0 = dktX7_live_0 := by decide +kernel
theorem dksX7_live_1 : cX7_live.data.toList.drop 24 = dktX7_live_1 := dk_seg dksX7_live_0 24 rfl rfl
theorem dksX7_live_2 : cX7_live.data.toList.drop 48 = dktX7_live_2 := dk_seg dksX7_live_1 24 rfl rfl
theorem dksX7_live_3 : cX7_live.data.toList.drop 72 = dktX7_live_3 := dk_seg dksX7_live_2 24 rfl rfl
theorem dX7_live_0 : decode cX7_live 0 = .ok (.iload_n 1, 1) := dk_27 (dk_at dksX7_live_0 0 rfl rfl)
theorem dX7_live_1 : decode cX7_live 1 = .ok (.i2l, 1) := dk_133 (dk_at dksX7_live_0 1 rfl rfl)
theorem dX7_live_2 : decode cX7_live 2 = .ok (.lconst 0, 1) := dk_9 (dk_at dksX7_live_0 2 rfl rfl)
theorem dX7_live_3 : decode cX7_live 3 = .ok (.ldc2_w 315, 3) := dk_20 1 59 (dk_at dksX7_live_0 3 rfl rfl)
theorem dX7_live_6 : decode cX7_live 6 = .ok (.invokestatic 306, 3) := dk_184 1 50 (dk_at dksX7_live_0 6 rfl rfl)
theorem dX7_live_9 : decode cX7_live 9 = .ok (.ifCond .ne 9, 3) := dk_154 0 9 (dk_at dksX7_live_0 9 rfl rfl)
theorem dX7_live_12 : decode cX7_live 12 = .ok (.aload_n 0, 1) := dk_42 (dk_at dksX7_live_0 12 rfl rfl)
theorem dX7_live_13 : decode cX7_live 13 = .ok (.iconst 1, 1) := dk_4 (dk_at dksX7_live_0 13 rfl rfl)
theorem dX7_live_14 : decode cX7_live 14 = .ok (.invokevirtual 72, 3) := dk_182 0 72 (dk_at dksX7_live_0 14 rfl rfl)
theorem dX7_live_17 : decode cX7_live 17 = .ok (.ireturn, 1) := dk_172 (dk_at dksX7_live_0 17 rfl rfl)
theorem dX7_live_18 : decode cX7_live 18 = .ok (.aload_n 0, 1) := dk_42 (dk_at dksX7_live_0 18 rfl rfl)
theorem dX7_live_19 : decode cX7_live 19 = .ok (.getfield 7, 3) := dk_180 0 7 (dk_at dksX7_live_0 19 rfl rfl)
theorem dX7_live_22 : decode cX7_live 22 = .ok (.bipush 10, 2) := dk_16 10 (dk_at dksX7_live_0 22 rfl rfl)
theorem dX7_live_24 : decode cX7_live 24 = .ok (.iaload, 1) := dk_46 (dk_at dksX7_live_1 0 rfl rfl)
theorem dX7_live_25 : decode cX7_live 25 = .ok (.iconst (-1), 1) := dk_2 (dk_at dksX7_live_1 1 rfl rfl)
theorem dX7_live_26 : decode cX7_live 26 = .ok (.if_icmp .ne 10, 3) := dk_160 0 10 (dk_at dksX7_live_1 2 rfl rfl)
theorem dX7_live_29 : decode cX7_live 29 = .ok (.aload_n 0, 1) := dk_42 (dk_at dksX7_live_1 5 rfl rfl)
theorem dX7_live_30 : decode cX7_live 30 = .ok (.bipush 6, 2) := dk_16 6 (dk_at dksX7_live_1 6 rfl rfl)
theorem dX7_live_32 : decode cX7_live 32 = .ok (.invokevirtual 72, 3) := dk_182 0 72 (dk_at dksX7_live_1 8 rfl rfl)
theorem dX7_live_35 : decode cX7_live 35 = .ok (.ireturn, 1) := dk_172 (dk_at dksX7_live_1 11 rfl rfl)
theorem dX7_live_36 : decode cX7_live 36 = .ok (.aload_n 0, 1) := dk_42 (dk_at dksX7_live_1 12 rfl rfl)
theorem dX7_live_37 : decode cX7_live 37 = .ok (.iload_n 1, 1) := dk_27 (dk_at dksX7_live_1 13 rfl rfl)
theorem dX7_live_38 : decode cX7_live 38 = .ok (.invokevirtual 392, 3) := dk_182 1 136 (dk_at dksX7_live_1 14 rfl rfl)
theorem dX7_live_41 : decode cX7_live 41 = .ok (.iconst 0, 1) := dk_3 (dk_at dksX7_live_1 17 rfl rfl)
theorem dX7_live_42 : decode cX7_live 42 = .ok (.istore_n 2, 1) := dk_61 (dk_at dksX7_live_1 18 rfl rfl)
theorem dX7_live_43 : decode cX7_live 43 = .ok (.iload_n 2, 1) := dk_28 (dk_at dksX7_live_1 19 rfl rfl)
theorem dX7_live_44 : decode cX7_live 44 = .ok (.iconst 3, 1) := dk_6 (dk_at dksX7_live_1 20 rfl rfl)
theorem dX7_live_45 : decode cX7_live 45 = .ok (.if_icmp .ge 21, 3) := dk_162 0 21 (dk_at dksX7_live_1 21 rfl rfl)
theorem dX7_live_48 : decode cX7_live 48 = .ok (.aload_n 0, 1) := dk_42 (dk_at dksX7_live_2 0 rfl rfl)
theorem dX7_live_49 : decode cX7_live 49 = .ok (.getfield 59, 3) := dk_180 0 59 (dk_at dksX7_live_2 1 rfl rfl)
theorem dX7_live_52 : decode cX7_live 52 = .ok (.iload_n 2, 1) := dk_28 (dk_at dksX7_live_2 4 rfl rfl)
theorem dX7_live_53 : decode cX7_live 53 = .ok (.aload_n 0, 1) := dk_42 (dk_at dksX7_live_2 5 rfl rfl)
theorem dX7_live_54 : decode cX7_live 54 = .ok (.getfield 56, 3) := dk_180 0 56 (dk_at dksX7_live_2 6 rfl rfl)
theorem dX7_live_57 : decode cX7_live 57 = .ok (.iload_n 2, 1) := dk_28 (dk_at dksX7_live_2 9 rfl rfl)
theorem dX7_live_58 : decode cX7_live 58 = .ok (.iaload, 1) := dk_46 (dk_at dksX7_live_2 10 rfl rfl)
theorem dX7_live_59 : decode cX7_live 59 = .ok (.iastore, 1) := dk_79 (dk_at dksX7_live_2 11 rfl rfl)
theorem dX7_live_60 : decode cX7_live 60 = .ok (.iinc 2 1, 3) := dk_132 2 1 (dk_at dksX7_live_2 12 rfl rfl)
theorem dX7_live_63 : decode cX7_live 63 = .ok (.goto (-20), 3) := dk_167 255 236 (dk_at dksX7_live_2 15 rfl rfl)
theorem dX7_live_66 : decode cX7_live 66 = .ok (.aload_n 0, 1) := dk_42 (dk_at dksX7_live_2 18 rfl rfl)
theorem dX7_live_67 : decode cX7_live 67 = .ok (.iconst 1, 1) := dk_4 (dk_at dksX7_live_2 19 rfl rfl)
theorem dX7_live_68 : decode cX7_live 68 = .ok (.putfield 395, 3) := dk_181 1 139 (dk_at dksX7_live_2 20 rfl rfl)
theorem dX7_live_71 : decode cX7_live 71 = .ok (.aload_n 0, 1) := dk_42 (dk_at dksX7_live_2 23 rfl rfl)
theorem dX7_live_72 : decode cX7_live 72 = .ok (.aload_n 0, 1) := dk_42 (dk_at dksX7_live_3 0 rfl rfl)
theorem dX7_live_73 : decode cX7_live 73 = .ok (.getfield 380, 3) := dk_180 1 124 (dk_at dksX7_live_3 1 rfl rfl)
theorem dX7_live_76 : decode cX7_live 76 = .ok (.invokevirtual 76, 3) := dk_182 0 76 (dk_at dksX7_live_3 4 rfl rfl)
theorem dX7_live_79 : decode cX7_live 79 = .ok (.ireturn, 1) := dk_172 (dk_at dksX7_live_3 7 rfl rfl)
def dkwX7_lives_7 : List UInt8 := [7, 96, 46, 4, 96, 167, 0, 6, 28, 4, 96, 182, 1, 133, 61, 167, 255, 107, 177]
abbrev dktX7_lives_7 : List UInt8 := dkwX7_lives_7 ++ []
def dkwX7_lives_6 : List UInt8 := [180, 0, 7, 29, 46, 17, 6, 164, 161, 0, 24, 42, 29, 182, 1, 130, 154, 0, 16, 42, 180, 0, 7, 29]
abbrev dktX7_lives_6 : List UInt8 := dkwX7_lives_6 ++ dktX7_lives_7
def dkwX7_lives_5 : List UInt8 := [16, 18, 160, 0, 19, 42, 180, 0, 53, 28, 42, 180, 0, 7, 29, 4, 96, 46, 4, 100, 79, 42, 42]
abbrev dktX7_lives_5 : List UInt8 := dkwX7_lives_5 ++ dktX7_lives_6
def dkwX7_lives_4 : List UInt8 := [3, 92, 46, 42, 29, 182, 1, 127, 153, 0, 7, 3, 167, 0, 4, 4, 96, 79, 42, 180, 0, 7, 29, 46]
abbrev dktX7_lives_4 : List UInt8 := dkwX7_lives_4 ++ dktX7_lives_5
def dkwX7_lives_3 : List UInt8 := [180, 1, 124, 4, 96, 181, 1, 124, 42, 180, 0, 7, 29, 46, 16, 20, 160, 0, 4, 177, 42, 180, 0, 56]
abbrev dktX7_lives_3 : List UInt8 := dkwX7_lives_3 ++ dktX7_lives_4
def dkwX7_lives_2 : List UInt8 := [16, 100, 160, 0, 11, 42, 180, 0, 56, 5, 4, 79, 177, 17, 3, 92, 16, 6, 28, 104, 96, 62, 42, 89]
abbrev dktX7_lives_2 : List UInt8 := dkwX7_lives_2 ++ dktX7_lives_3
def dkwX7_lives_1 : List UInt8 := [132, 2, 1, 167, 255, 241, 3, 61, 28, 42, 180, 0, 7, 16, 10, 46, 162, 0, 144, 42, 180, 1, 124]
abbrev dktX7_lives_1 : List UInt8 := dkwX7_lives_1 ++ dktX7_lives_2
def dkwX7_lives_0 : List UInt8 := [42, 27, 181, 1, 117, 42, 3, 181, 1, 124, 3, 61, 28, 6, 162, 0, 16, 42, 180, 0, 56, 28, 3, 79]
abbrev dktX7_lives_0 : List UInt8 := dkwX7_lives_0 ++ dktX7_lives_1
theorem dksX7_lives_0 : cX7_lives.data.toList.drop 0 = dktX7_lives_0 := by decide +kernel
theorem dksX7_lives_1 : cX7_lives.data.toList.drop 24 = dktX7_lives_1 := dk_seg dksX7_lives_0 24 rfl rfl
theorem dksX7_lives_2 : cX7_lives.data.toList.drop 47 = dktX7_lives_2 := dk_seg dksX7_lives_1 23 rfl rfl
theorem dksX7_lives_3 : cX7_lives.data.toList.drop 71 = dktX7_lives_3 := dk_seg dksX7_lives_2 24 rfl rfl
theorem dksX7_lives_4 : cX7_lives.data.toList.drop 95 = dktX7_lives_4 := dk_seg dksX7_lives_3 24 rfl rfl
theorem dksX7_lives_5 : cX7_lives.data.toList.drop 119 = dktX7_lives_5 := dk_seg dksX7_lives_4 24 rfl rfl
theorem dksX7_lives_6 : cX7_lives.data.toList.drop 142 = dktX7_lives_6 := dk_seg dksX7_lives_5 23 rfl rfl
theorem dksX7_lives_7 : cX7_lives.data.toList.drop 166 = dktX7_lives_7 := dk_seg dksX7_lives_6 24 rfl rfl
theorem dX7_lives_0 : decode cX7_lives 0 = .ok (.aload_n 0, 1) := dk_42 (dk_at dksX7_lives_0 0 rfl rfl)
theorem dX7_lives_1 : decode cX7_lives 1 = .ok (.iload_n 1, 1) := dk_27 (dk_at dksX7_lives_0 1 rfl rfl)
theorem dX7_lives_2 : decode cX7_lives 2 = .ok (.putfield 373, 3) := dk_181 1 117 (dk_at dksX7_lives_0 2 rfl rfl)
theorem dX7_lives_5 : decode cX7_lives 5 = .ok (.aload_n 0, 1) := dk_42 (dk_at dksX7_lives_0 5 rfl rfl)
theorem dX7_lives_6 : decode cX7_lives 6 = .ok (.iconst 0, 1) := dk_3 (dk_at dksX7_lives_0 6 rfl rfl)
theorem dX7_lives_7 : decode cX7_lives 7 = .ok (.putfield 380, 3) := dk_181 1 124 (dk_at dksX7_lives_0 7 rfl rfl)
theorem dX7_lives_10 : decode cX7_lives 10 = .ok (.iconst 0, 1) := dk_3 (dk_at dksX7_lives_0 10 rfl rfl)
theorem dX7_lives_11 : decode cX7_lives 11 = .ok (.istore_n 2, 1) := dk_61 (dk_at dksX7_lives_0 11 rfl rfl)
theorem dX7_lives_12 : decode cX7_lives 12 = .ok (.iload_n 2, 1) := dk_28 (dk_at dksX7_lives_0 12 rfl rfl)
theorem dX7_lives_13 : decode cX7_lives 13 = .ok (.iconst 3, 1) := dk_6 (dk_at dksX7_lives_0 13 rfl rfl)
theorem dX7_lives_14 : decode cX7_lives 14 = .ok (.if_icmp .ge 16, 3) := dk_162 0 16 (dk_at dksX7_lives_0 14 rfl rfl)
theorem dX7_lives_17 : decode cX7_lives 17 = .ok (.aload_n 0, 1) := dk_42 (dk_at dksX7_lives_0 17 rfl rfl)
theorem dX7_lives_18 : decode cX7_lives 18 = .ok (.getfield 56, 3) := dk_180 0 56 (dk_at dksX7_lives_0 18 rfl rfl)
theorem dX7_lives_21 : decode cX7_lives 21 = .ok (.iload_n 2, 1) := dk_28 (dk_at dksX7_lives_0 21 rfl rfl)
theorem dX7_lives_22 : decode cX7_lives 22 = .ok (.iconst 0, 1) := dk_3 (dk_at dksX7_lives_0 22 rfl rfl)
theorem dX7_lives_23 : decode cX7_lives 23 = .ok (.iastore, 1) := dk_79 (dk_at dksX7_lives_0 23 rfl rfl)
theorem dX7_lives_24 : decode cX7_lives 24 = .ok (.iinc 2 1, 3) := dk_132 2 1 (dk_at dksX7_lives_1 0 rfl rfl)
theorem dX7_lives_27 : decode cX7_lives 27 = .ok (.goto (-15), 3) := dk_167 255 241 (dk_at dksX7_lives_1 3 rfl rfl)
theorem dX7_lives_30 : decode cX7_lives 30 = .ok (.iconst 0, 1) := dk_3 (dk_at dksX7_lives_1 6 rfl rfl)
theorem dX7_lives_31 : decode cX7_lives 31 = .ok (.istore_n 2, 1) := dk_61 (dk_at dksX7_lives_1 7 rfl rfl)
theorem dX7_lives_32 : decode cX7_lives 32 = .ok (.iload_n 2, 1) := dk_28 (dk_at dksX7_lives_1 8 rfl rfl)
theorem dX7_lives_33 : decode cX7_lives 33 = .ok (.aload_n 0, 1) := dk_42 (dk_at dksX7_lives_1 9 rfl rfl)
theorem dX7_lives_34 : decode cX7_lives 34 = .ok (.getfield 7, 3) := dk_180 0 7 (dk_at dksX7_lives_1 10 rfl rfl)
theorem dX7_lives_37 : decode cX7_lives 37 = .ok (.bipush 10, 2) := dk_16 10 (dk_at dksX7_lives_1 13 rfl rfl)
theorem dX7_lives_39 : decode cX7_lives 39 = .ok (.iaload, 1) := dk_46 (dk_at dksX7_lives_1 15 rfl rfl)
theorem dX7_lives_40 : decode cX7_lives 40 = .ok (.if_icmp .ge 144, 3) := dk_162 0 144 (dk_at dksX7_lives_1 16 rfl rfl)
theorem dX7_lives_43 : decode cX7_lives 43 = .ok (.aload_n 0, 1) := dk_42 (dk_at dksX7_lives_1 19 rfl rfl)
theorem dX7_lives_44 : decode cX7_lives 44 = .ok (.getfield 380, 3) := dk_180 1 124 (dk_at dksX7_lives_1 20 rfl rfl)
theorem dX7_lives_47 : decode cX7_lives 47 = .ok (.bipush 100, 2) := dk_16 100 (dk_at dksX7_lives_2 0 rfl rfl)
theorem dX7_lives_49 : decode cX7_lives 49 = .ok (.if_icmp .ne 11, 3) := dk_160 0 11 (dk_at dksX7_lives_2 2 rfl rfl)
theorem dX7_lives_52 : decode cX7_lives 52 = .ok (.aload_n 0, 1) := dk_42 (dk_at dksX7_lives_2 5 rfl rfl)
theorem dX7_lives_53 : decode cX7_lives 53 = .ok (.getfield 56, 3) := dk_180 0 56 (dk_at dksX7_lives_2 6 rfl rfl)
theorem dX7_lives_56 : decode cX7_lives 56 = .ok (.iconst 2, 1) := dk_5 (dk_at dksX7_lives_2 9 rfl rfl)
theorem dX7_lives_57 : decode cX7_lives 57 = .ok (.iconst 1, 1) := dk_4 (dk_at dksX7_lives_2 10 rfl rfl)
theorem dX7_lives_58 : decode cX7_lives 58 = .ok (.iastore, 1) := dk_79 (dk_at dksX7_lives_2 11 rfl rfl)
theorem dX7_lives_59 : decode cX7_lives 59 = .ok (.return_, 1) := dk_177 (dk_at dksX7_lives_2 12 rfl rfl)
theorem dX7_lives_60 : decode cX7_lives 60 = .ok (.sipush 860, 3) := dk_17 3 92 (dk_at dksX7_lives_2 13 rfl rfl)
theorem dX7_lives_63 : decode cX7_lives 63 = .ok (.bipush 6, 2) := dk_16 6 (dk_at dksX7_lives_2 16 rfl rfl)
theorem dX7_lives_65 : decode cX7_lives 65 = .ok (.iload_n 2, 1) := dk_28 (dk_at dksX7_lives_2 18 rfl rfl)
theorem dX7_lives_66 : decode cX7_lives 66 = .ok (.imul, 1) := dk_104 (dk_at dksX7_lives_2 19 rfl rfl)
theorem dX7_lives_67 : decode cX7_lives 67 = .ok (.iadd, 1) := dk_96 (dk_at dksX7_lives_2 20 rfl rfl)
theorem dX7_lives_68 : decode cX7_lives 68 = .ok (.istore_n 3, 1) := dk_62 (dk_at dksX7_lives_2 21 rfl rfl)
theorem dX7_lives_69 : decode cX7_lives 69 = .ok (.aload_n 0, 1) := dk_42 (dk_at dksX7_lives_2 22 rfl rfl)
theorem dX7_lives_70 : decode cX7_lives 70 = .ok (.dup, 1) := dk_89 (dk_at dksX7_lives_2 23 rfl rfl)
theorem dX7_lives_71 : decode cX7_lives 71 = .ok (.getfield 380, 3) := dk_180 1 124 (dk_at dksX7_lives_3 0 rfl rfl)
theorem dX7_lives_74 : decode cX7_lives 74 = .ok (.iconst 1, 1) := dk_4 (dk_at dksX7_lives_3 3 rfl rfl)
theorem dX7_lives_75 : decode cX7_lives 75 = .ok (.iadd, 1) := dk_96 (dk_at dksX7_lives_3 4 rfl rfl)
theorem dX7_lives_76 : decode cX7_lives 76 = .ok (.putfield 380, 3) := dk_181 1 124 (dk_at dksX7_lives_3 5 rfl rfl)
theorem dX7_lives_79 : decode cX7_lives 79 = .ok (.aload_n 0, 1) := dk_42 (dk_at dksX7_lives_3 8 rfl rfl)
theorem dX7_lives_80 : decode cX7_lives 80 = .ok (.getfield 7, 3) := dk_180 0 7 (dk_at dksX7_lives_3 9 rfl rfl)
theorem dX7_lives_83 : decode cX7_lives 83 = .ok (.iload_n 3, 1) := dk_29 (dk_at dksX7_lives_3 12 rfl rfl)
theorem dX7_lives_84 : decode cX7_lives 84 = .ok (.iaload, 1) := dk_46 (dk_at dksX7_lives_3 13 rfl rfl)
theorem dX7_lives_85 : decode cX7_lives 85 = .ok (.bipush 20, 2) := dk_16 20 (dk_at dksX7_lives_3 14 rfl rfl)
theorem dX7_lives_87 : decode cX7_lives 87 = .ok (.if_icmp .ne 4, 3) := dk_160 0 4 (dk_at dksX7_lives_3 16 rfl rfl)
theorem dX7_lives_90 : decode cX7_lives 90 = .ok (.return_, 1) := dk_177 (dk_at dksX7_lives_3 19 rfl rfl)
theorem dX7_lives_91 : decode cX7_lives 91 = .ok (.aload_n 0, 1) := dk_42 (dk_at dksX7_lives_3 20 rfl rfl)
theorem dX7_lives_92 : decode cX7_lives 92 = .ok (.getfield 56, 3) := dk_180 0 56 (dk_at dksX7_lives_3 21 rfl rfl)
theorem dX7_lives_95 : decode cX7_lives 95 = .ok (.iconst 0, 1) := dk_3 (dk_at dksX7_lives_4 0 rfl rfl)
theorem dX7_lives_96 : decode cX7_lives 96 = .ok (.dup2, 1) := dk_92 (dk_at dksX7_lives_4 1 rfl rfl)
theorem dX7_lives_97 : decode cX7_lives 97 = .ok (.iaload, 1) := dk_46 (dk_at dksX7_lives_4 2 rfl rfl)
theorem dX7_lives_98 : decode cX7_lives 98 = .ok (.aload_n 0, 1) := dk_42 (dk_at dksX7_lives_4 3 rfl rfl)
theorem dX7_lives_99 : decode cX7_lives 99 = .ok (.iload_n 3, 1) := dk_29 (dk_at dksX7_lives_4 4 rfl rfl)
theorem dX7_lives_100 : decode cX7_lives 100 = .ok (.invokevirtual 383, 3) := dk_182 1 127 (dk_at dksX7_lives_4 5 rfl rfl)
theorem dX7_lives_103 : decode cX7_lives 103 = .ok (.ifCond .eq 7, 3) := dk_153 0 7 (dk_at dksX7_lives_4 8 rfl rfl)
theorem dX7_lives_106 : decode cX7_lives 106 = .ok (.iconst 0, 1) := dk_3 (dk_at dksX7_lives_4 11 rfl rfl)
theorem dX7_lives_107 : decode cX7_lives 107 = .ok (.goto 4, 3) := dk_167 0 4 (dk_at dksX7_lives_4 12 rfl rfl)
theorem dX7_lives_110 : decode cX7_lives 110 = .ok (.iconst 1, 1) := dk_4 (dk_at dksX7_lives_4 15 rfl rfl)
theorem dX7_lives_111 : decode cX7_lives 111 = .ok (.iadd, 1) := dk_96 (dk_at dksX7_lives_4 16 rfl rfl)
theorem dX7_lives_112 : decode cX7_lives 112 = .ok (.iastore, 1) := dk_79 (dk_at dksX7_lives_4 17 rfl rfl)
theorem dX7_lives_113 : decode cX7_lives 113 = .ok (.aload_n 0, 1) := dk_42 (dk_at dksX7_lives_4 18 rfl rfl)
theorem dX7_lives_114 : decode cX7_lives 114 = .ok (.getfield 7, 3) := dk_180 0 7 (dk_at dksX7_lives_4 19 rfl rfl)
theorem dX7_lives_117 : decode cX7_lives 117 = .ok (.iload_n 3, 1) := dk_29 (dk_at dksX7_lives_4 22 rfl rfl)
theorem dX7_lives_118 : decode cX7_lives 118 = .ok (.iaload, 1) := dk_46 (dk_at dksX7_lives_4 23 rfl rfl)
theorem dX7_lives_119 : decode cX7_lives 119 = .ok (.bipush 18, 2) := dk_16 18 (dk_at dksX7_lives_5 0 rfl rfl)
theorem dX7_lives_121 : decode cX7_lives 121 = .ok (.if_icmp .ne 19, 3) := dk_160 0 19 (dk_at dksX7_lives_5 2 rfl rfl)
theorem dX7_lives_124 : decode cX7_lives 124 = .ok (.aload_n 0, 1) := dk_42 (dk_at dksX7_lives_5 5 rfl rfl)
theorem dX7_lives_125 : decode cX7_lives 125 = .ok (.getfield 53, 3) := dk_180 0 53 (dk_at dksX7_lives_5 6 rfl rfl)
theorem dX7_lives_128 : decode cX7_lives 128 = .ok (.iload_n 2, 1) := dk_28 (dk_at dksX7_lives_5 9 rfl rfl)
theorem dX7_lives_129 : decode cX7_lives 129 = .ok (.aload_n 0, 1) := dk_42 (dk_at dksX7_lives_5 10 rfl rfl)
theorem dX7_lives_130 : decode cX7_lives 130 = .ok (.getfield 7, 3) := dk_180 0 7 (dk_at dksX7_lives_5 11 rfl rfl)
theorem dX7_lives_133 : decode cX7_lives 133 = .ok (.iload_n 3, 1) := dk_29 (dk_at dksX7_lives_5 14 rfl rfl)
theorem dX7_lives_134 : decode cX7_lives 134 = .ok (.iconst 1, 1) := dk_4 (dk_at dksX7_lives_5 15 rfl rfl)
theorem dX7_lives_135 : decode cX7_lives 135 = .ok (.iadd, 1) := dk_96 (dk_at dksX7_lives_5 16 rfl rfl)
theorem dX7_lives_136 : decode cX7_lives 136 = .ok (.iaload, 1) := dk_46 (dk_at dksX7_lives_5 17 rfl rfl)
theorem dX7_lives_137 : decode cX7_lives 137 = .ok (.iconst 1, 1) := dk_4 (dk_at dksX7_lives_5 18 rfl rfl)
theorem dX7_lives_138 : decode cX7_lives 138 = .ok (.isub, 1) := dk_100 (dk_at dksX7_lives_5 19 rfl rfl)
theorem dX7_lives_139 : decode cX7_lives 139 = .ok (.iastore, 1) := dk_79 (dk_at dksX7_lives_5 20 rfl rfl)
theorem dX7_lives_140 : decode cX7_lives 140 = .ok (.aload_n 0, 1) := dk_42 (dk_at dksX7_lives_5 21 rfl rfl)
theorem dX7_lives_141 : decode cX7_lives 141 = .ok (.aload_n 0, 1) := dk_42 (dk_at dksX7_lives_5 22 rfl rfl)
theorem dX7_lives_142 : decode cX7_lives 142 = .ok (.getfield 7, 3) := dk_180 0 7 (dk_at dksX7_lives_6 0 rfl rfl)
theorem dX7_lives_145 : decode cX7_lives 145 = .ok (.iload_n 3, 1) := dk_29 (dk_at dksX7_lives_6 3 rfl rfl)
theorem dX7_lives_146 : decode cX7_lives 146 = .ok (.iaload, 1) := dk_46 (dk_at dksX7_lives_6 4 rfl rfl)
theorem dX7_lives_147 : decode cX7_lives 147 = .ok (.sipush 1700, 3) := dk_17 6 164 (dk_at dksX7_lives_6 5 rfl rfl)
theorem dX7_lives_150 : decode cX7_lives 150 = .ok (.if_icmp .lt 24, 3) := dk_161 0 24 (dk_at dksX7_lives_6 8 rfl rfl)
theorem dX7_lives_153 : decode cX7_lives 153 = .ok (.aload_n 0, 1) := dk_42 (dk_at dksX7_lives_6 11 rfl rfl)
theorem dX7_lives_154 : decode cX7_lives 154 = .ok (.iload_n 3, 1) := dk_29 (dk_at dksX7_lives_6 12 rfl rfl)
theorem dX7_lives_155 : decode cX7_lives 155 = .ok (.invokevirtual 386, 3) := dk_182 1 130 (dk_at dksX7_lives_6 13 rfl rfl)
theorem dX7_lives_158 : decode cX7_lives 158 = .ok (.ifCond .ne 16, 3) := dk_154 0 16 (dk_at dksX7_lives_6 16 rfl rfl)
theorem dX7_lives_161 : decode cX7_lives 161 = .ok (.aload_n 0, 1) := dk_42 (dk_at dksX7_lives_6 19 rfl rfl)
theorem dX7_lives_162 : decode cX7_lives 162 = .ok (.getfield 7, 3) := dk_180 0 7 (dk_at dksX7_lives_6 20 rfl rfl)
theorem dX7_lives_165 : decode cX7_lives 165 = .ok (.iload_n 3, 1) := dk_29 (dk_at dksX7_lives_6 23 rfl rfl)
theorem dX7_lives_166 : decode cX7_lives 166 = .ok (.iconst 4, 1) := dk_7 (dk_at dksX7_lives_7 0 rfl rfl)
theorem dX7_lives_167 : decode cX7_lives 167 = .ok (.iadd, 1) := dk_96 (dk_at dksX7_lives_7 1 rfl rfl)
theorem dX7_lives_168 : decode cX7_lives 168 = .ok (.iaload, 1) := dk_46 (dk_at dksX7_lives_7 2 rfl rfl)
theorem dX7_lives_169 : decode cX7_lives 169 = .ok (.iconst 1, 1) := dk_4 (dk_at dksX7_lives_7 3 rfl rfl)
theorem dX7_lives_170 : decode cX7_lives 170 = .ok (.iadd, 1) := dk_96 (dk_at dksX7_lives_7 4 rfl rfl)
theorem dX7_lives_171 : decode cX7_lives 171 = .ok (.goto 6, 3) := dk_167 0 6 (dk_at dksX7_lives_7 5 rfl rfl)
theorem dX7_lives_174 : decode cX7_lives 174 = .ok (.iload_n 2, 1) := dk_28 (dk_at dksX7_lives_7 8 rfl rfl)
theorem dX7_lives_175 : decode cX7_lives 175 = .ok (.iconst 1, 1) := dk_4 (dk_at dksX7_lives_7 9 rfl rfl)
theorem dX7_lives_176 : decode cX7_lives 176 = .ok (.iadd, 1) := dk_96 (dk_at dksX7_lives_7 10 rfl rfl)
theorem dX7_lives_177 : decode cX7_lives 177 = .ok (.invokevirtual 389, 3) := dk_182 1 133 (dk_at dksX7_lives_7 11 rfl rfl)
theorem dX7_lives_180 : decode cX7_lives 180 = .ok (.istore_n 2, 1) := dk_61 (dk_at dksX7_lives_7 14 rfl rfl)
theorem dX7_lives_181 : decode cX7_lives 181 = .ok (.goto (-149), 3) := dk_167 255 107 (dk_at dksX7_lives_7 15 rfl rfl)
theorem dX7_lives_184 : decode cX7_lives 184 = .ok (.return_, 1) := dk_177 (dk_at dksX7_lives_7 18 rfl rfl)
def dkwX7_does_11 : List UInt8 := [180, 0, 7, 29, 184, 0, 217, 6, 96, 28, 79, 4, 172, 4, 172]
abbrev dktX7_does_11 : List UInt8 := dkwX7_does_11 ++ []
def dkwX7_does_10 : List UInt8 := [21, 5, 96, 79, 132, 4, 1, 167, 255, 199, 4, 172, 42, 28, 29, 182, 1, 75, 154, 0, 5, 3, 172, 42]
abbrev dktX7_does_10 : List UInt8 := dkwX7_does_10 ++ dktX7_does_11
def dkwX7_does_9 : List UInt8 := [46, 16, 20, 108, 104, 54, 5, 42, 21, 4, 21, 5, 182, 1, 61, 87, 42, 180, 0, 56, 4, 92, 46]
abbrev dktX7_does_9 : List UInt8 := dkwX7_does_9 ++ dktX7_does_10
def dkwX7_does_8 : List UInt8 := [180, 0, 7, 3, 46, 162, 0, 52, 42, 28, 182, 1, 121, 42, 180, 0, 7, 21, 4, 184, 0, 217, 4, 96]
abbrev dktX7_does_8 : List UInt8 := dkwX7_does_8 ++ dktX7_does_9
def dkwX7_does_7 : List UInt8 := [46, 42, 180, 0, 7, 27, 8, 96, 46, 182, 1, 45, 182, 1, 71, 4, 172, 3, 54, 4, 21, 4, 42]
abbrev dktX7_does_7 : List UInt8 := dkwX7_does_7 ++ dktX7_does_8
def dkwX7_does_6 : List UInt8 := [46, 182, 1, 67, 154, 0, 5, 3, 172, 42, 42, 28, 29, 182, 1, 45, 42, 42, 180, 0, 7, 27, 6, 96]
abbrev dktX7_does_6 : List UInt8 := dkwX7_does_6 ++ dktX7_does_7
def dkwX7_does_5 : List UInt8 := [4, 167, 0, 4, 3, 172, 42, 28, 29, 42, 180, 0, 7, 27, 6, 96, 46, 42, 180, 0, 7, 27, 8, 96]
abbrev dktX7_does_5 : List UInt8 := dkwX7_does_5 ++ dktX7_does_6
def dkwX7_does_4 : List UInt8 := [4, 167, 0, 4, 3, 172, 42, 28, 29, 182, 1, 42, 153, 0, 16, 42, 28, 29, 182, 1, 64, 155, 0, 7]
abbrev dktX7_does_4 : List UInt8 := dkwX7_does_4 ++ dktX7_does_5
def dkwX7_does_3 : List UInt8 := [162, 0, 13, 42, 182, 1, 56, 132, 4, 1, 167, 255, 243, 4, 172, 42, 28, 29, 182, 1, 61, 155, 0, 7]
abbrev dktX7_does_3 : List UInt8 := dkwX7_does_3 ++ dktX7_does_4
def dkwX7_does_2 : List UInt8 := [42, 180, 0, 7, 6, 46, 28, 96, 17, 39, 15, 164, 0, 5, 3, 172, 3, 54, 4, 21, 4, 28]
abbrev dktX7_does_2 : List UInt8 := dkwX7_does_2 ++ dktX7_does_3
def dkwX7_does_1 : List UInt8 := [170, 0, 0, 0, 0, 0, 1, 9, 0, 0, 0, 11, 0, 0, 0, 16, 0, 0, 0, 40, 0, 0, 0, 77, 0, 0, 0, 92, 0, 0, 0, 116, 0, 0, 0, 175, 0, 0, 0, 240]
abbrev dktX7_does_1 : List UInt8 := dkwX7_does_1 ++ dktX7_does_2
def dkwX7_does_0 : List UInt8 := [42, 180, 0, 7, 27, 4, 96, 46, 61, 42, 180, 0, 7, 27, 5, 96, 46, 62, 42, 180, 0, 7, 27, 46]
abbrev dktX7_does_0 : List UInt8 := dkwX7_does_0 ++ dktX7_does_1
theorem dksX7_does_0 : cX7_does.data.toList.drop 0 = dktX7_does_0 := by decide +kernel
theorem dksX7_does_1 : cX7_does.data.toList.drop 24 = dktX7_does_1 := dk_seg dksX7_does_0 24 rfl rfl
theorem dksX7_does_2 : cX7_does.data.toList.drop 64 = dktX7_does_2 := dk_seg dksX7_does_1 40 rfl rfl
theorem dksX7_does_3 : cX7_does.data.toList.drop 86 = dktX7_does_3 := dk_seg dksX7_does_2 22 rfl rfl
theorem dksX7_does_4 : cX7_does.data.toList.drop 110 = dktX7_does_4 := dk_seg dksX7_does_3 24 rfl rfl
theorem dksX7_does_5 : cX7_does.data.toList.drop 134 = dktX7_does_5 := dk_seg dksX7_does_4 24 rfl rfl
theorem dksX7_does_6 : cX7_does.data.toList.drop 158 = dktX7_does_6 := dk_seg dksX7_does_5 24 rfl rfl
theorem dksX7_does_7 : cX7_does.data.toList.drop 182 = dktX7_does_7 := dk_seg dksX7_does_6 24 rfl rfl
theorem dksX7_does_8 : cX7_does.data.toList.drop 205 = dktX7_does_8 := dk_seg dksX7_does_7 23 rfl rfl
theorem dksX7_does_9 : cX7_does.data.toList.drop 229 = dktX7_does_9 := dk_seg dksX7_does_8 24 rfl rfl
theorem dksX7_does_10 : cX7_does.data.toList.drop 252 = dktX7_does_10 := dk_seg dksX7_does_9 23 rfl rfl
theorem dksX7_does_11 : cX7_does.data.toList.drop 276 = dktX7_does_11 := dk_seg dksX7_does_10 24 rfl rfl
theorem dX7_does_0 : decode cX7_does 0 = .ok (.aload_n 0, 1) := dk_42 (dk_at dksX7_does_0 0 rfl rfl)
theorem dX7_does_1 : decode cX7_does 1 = .ok (.getfield 7, 3) := dk_180 0 7 (dk_at dksX7_does_0 1 rfl rfl)
theorem dX7_does_4 : decode cX7_does 4 = .ok (.iload_n 1, 1) := dk_27 (dk_at dksX7_does_0 4 rfl rfl)
theorem dX7_does_5 : decode cX7_does 5 = .ok (.iconst 1, 1) := dk_4 (dk_at dksX7_does_0 5 rfl rfl)
theorem dX7_does_6 : decode cX7_does 6 = .ok (.iadd, 1) := dk_96 (dk_at dksX7_does_0 6 rfl rfl)
theorem dX7_does_7 : decode cX7_does 7 = .ok (.iaload, 1) := dk_46 (dk_at dksX7_does_0 7 rfl rfl)
theorem dX7_does_8 : decode cX7_does 8 = .ok (.istore_n 2, 1) := dk_61 (dk_at dksX7_does_0 8 rfl rfl)
theorem dX7_does_9 : decode cX7_does 9 = .ok (.aload_n 0, 1) := dk_42 (dk_at dksX7_does_0 9 rfl rfl)
theorem dX7_does_10 : decode cX7_does 10 = .ok (.getfield 7, 3) := dk_180 0 7 (dk_at dksX7_does_0 10 rfl rfl)
theorem dX7_does_13 : decode cX7_does 13 = .ok (.iload_n 1, 1) := dk_27 (dk_at dksX7_does_0 13 rfl rfl)
theorem dX7_does_14 : decode cX7_does 14 = .ok (.iconst 2, 1) := dk_5 (dk_at dksX7_does_0 14 rfl rfl)
theorem dX7_does_15 : decode cX7_does 15 = .ok (.iadd, 1) := dk_96 (dk_at dksX7_does_0 15 rfl rfl)
theorem dX7_does_16 : decode cX7_does 16 = .ok (.iaload, 1) := dk_46 (dk_at dksX7_does_0 16 rfl rfl)
theorem dX7_does_17 : decode cX7_does 17 = .ok (.istore_n 3, 1) := dk_62 (dk_at dksX7_does_0 17 rfl rfl)
theorem dX7_does_18 : decode cX7_does 18 = .ok (.aload_n 0, 1) := dk_42 (dk_at dksX7_does_0 18 rfl rfl)
theorem dX7_does_19 : decode cX7_does 19 = .ok (.getfield 7, 3) := dk_180 0 7 (dk_at dksX7_does_0 19 rfl rfl)
theorem dX7_does_22 : decode cX7_does 22 = .ok (.iload_n 1, 1) := dk_27 (dk_at dksX7_does_0 22 rfl rfl)
theorem dX7_does_23 : decode cX7_does 23 = .ok (.iaload, 1) := dk_46 (dk_at dksX7_does_0 23 rfl rfl)
theorem dX7_does_24 : decode cX7_does 24 = .ok (.tableswitch 265 11 16 #[40, 77, 92, 116, 175, 240], 40) := by decide +kernel
theorem dX7_does_64 : decode cX7_does 64 = .ok (.aload_n 0, 1) := dk_42 (dk_at dksX7_does_2 0 rfl rfl)
theorem dX7_does_65 : decode cX7_does 65 = .ok (.getfield 7, 3) := dk_180 0 7 (dk_at dksX7_does_2 1 rfl rfl)
theorem dX7_does_68 : decode cX7_does 68 = .ok (.iconst 3, 1) := dk_6 (dk_at dksX7_does_2 4 rfl rfl)
theorem dX7_does_69 : decode cX7_does 69 = .ok (.iaload, 1) := dk_46 (dk_at dksX7_does_2 5 rfl rfl)
theorem dX7_does_70 : decode cX7_does 70 = .ok (.iload_n 2, 1) := dk_28 (dk_at dksX7_does_2 6 rfl rfl)
theorem dX7_does_71 : decode cX7_does 71 = .ok (.iadd, 1) := dk_96 (dk_at dksX7_does_2 7 rfl rfl)
theorem dX7_does_72 : decode cX7_does 72 = .ok (.sipush 9999, 3) := dk_17 39 15 (dk_at dksX7_does_2 8 rfl rfl)
theorem dX7_does_75 : decode cX7_does 75 = .ok (.if_icmp .le 5, 3) := dk_164 0 5 (dk_at dksX7_does_2 11 rfl rfl)
theorem dX7_does_78 : decode cX7_does 78 = .ok (.iconst 0, 1) := dk_3 (dk_at dksX7_does_2 14 rfl rfl)
theorem dX7_does_79 : decode cX7_does 79 = .ok (.ireturn, 1) := dk_172 (dk_at dksX7_does_2 15 rfl rfl)
theorem dX7_does_80 : decode cX7_does 80 = .ok (.iconst 0, 1) := dk_3 (dk_at dksX7_does_2 16 rfl rfl)
theorem dX7_does_81 : decode cX7_does 81 = .ok (.istore 4, 2) := dk_54 4 (dk_at dksX7_does_2 17 rfl rfl)
theorem dX7_does_83 : decode cX7_does 83 = .ok (.iload 4, 2) := dk_21 4 (dk_at dksX7_does_2 19 rfl rfl)
theorem dX7_does_85 : decode cX7_does 85 = .ok (.iload_n 2, 1) := dk_28 (dk_at dksX7_does_2 21 rfl rfl)
theorem dX7_does_86 : decode cX7_does 86 = .ok (.if_icmp .ge 13, 3) := dk_162 0 13 (dk_at dksX7_does_3 0 rfl rfl)
theorem dX7_does_89 : decode cX7_does 89 = .ok (.aload_n 0, 1) := dk_42 (dk_at dksX7_does_3 3 rfl rfl)
theorem dX7_does_90 : decode cX7_does 90 = .ok (.invokevirtual 312, 3) := dk_182 1 56 (dk_at dksX7_does_3 4 rfl rfl)
theorem dX7_does_93 : decode cX7_does 93 = .ok (.iinc 4 1, 3) := dk_132 4 1 (dk_at dksX7_does_3 7 rfl rfl)
theorem dX7_does_96 : decode cX7_does 96 = .ok (.goto (-13), 3) := dk_167 255 243 (dk_at dksX7_does_3 10 rfl rfl)
theorem dX7_does_99 : decode cX7_does 99 = .ok (.iconst 1, 1) := dk_4 (dk_at dksX7_does_3 13 rfl rfl)
theorem dX7_does_100 : decode cX7_does 100 = .ok (.ireturn, 1) := dk_172 (dk_at dksX7_does_3 14 rfl rfl)
theorem dX7_does_101 : decode cX7_does 101 = .ok (.aload_n 0, 1) := dk_42 (dk_at dksX7_does_3 15 rfl rfl)
theorem dX7_does_102 : decode cX7_does 102 = .ok (.iload_n 2, 1) := dk_28 (dk_at dksX7_does_3 16 rfl rfl)
theorem dX7_does_103 : decode cX7_does 103 = .ok (.iload_n 3, 1) := dk_29 (dk_at dksX7_does_3 17 rfl rfl)
theorem dX7_does_104 : decode cX7_does 104 = .ok (.invokevirtual 317, 3) := dk_182 1 61 (dk_at dksX7_does_3 18 rfl rfl)
theorem dX7_does_107 : decode cX7_does 107 = .ok (.ifCond .lt 7, 3) := dk_155 0 7 (dk_at dksX7_does_3 21 rfl rfl)
theorem dX7_does_110 : decode cX7_does 110 = .ok (.iconst 1, 1) := dk_4 (dk_at dksX7_does_4 0 rfl rfl)
theorem dX7_does_111 : decode cX7_does 111 = .ok (.goto 4, 3) := dk_167 0 4 (dk_at dksX7_does_4 1 rfl rfl)
theorem dX7_does_114 : decode cX7_does 114 = .ok (.iconst 0, 1) := dk_3 (dk_at dksX7_does_4 4 rfl rfl)
theorem dX7_does_115 : decode cX7_does 115 = .ok (.ireturn, 1) := dk_172 (dk_at dksX7_does_4 5 rfl rfl)
theorem dX7_does_116 : decode cX7_does 116 = .ok (.aload_n 0, 1) := dk_42 (dk_at dksX7_does_4 6 rfl rfl)
theorem dX7_does_117 : decode cX7_does 117 = .ok (.iload_n 2, 1) := dk_28 (dk_at dksX7_does_4 7 rfl rfl)
theorem dX7_does_118 : decode cX7_does 118 = .ok (.iload_n 3, 1) := dk_29 (dk_at dksX7_does_4 8 rfl rfl)
theorem dX7_does_119 : decode cX7_does 119 = .ok (.invokevirtual 298, 3) := dk_182 1 42 (dk_at dksX7_does_4 9 rfl rfl)
theorem dX7_does_122 : decode cX7_does 122 = .ok (.ifCond .eq 16, 3) := dk_153 0 16 (dk_at dksX7_does_4 12 rfl rfl)
theorem dX7_does_125 : decode cX7_does 125 = .ok (.aload_n 0, 1) := dk_42 (dk_at dksX7_does_4 15 rfl rfl)
theorem dX7_does_126 : decode cX7_does 126 = .ok (.iload_n 2, 1) := dk_28 (dk_at dksX7_does_4 16 rfl rfl)
theorem dX7_does_127 : decode cX7_does 127 = .ok (.iload_n 3, 1) := dk_29 (dk_at dksX7_does_4 17 rfl rfl)
theorem dX7_does_128 : decode cX7_does 128 = .ok (.invokevirtual 320, 3) := dk_182 1 64 (dk_at dksX7_does_4 18 rfl rfl)
theorem dX7_does_131 : decode cX7_does 131 = .ok (.ifCond .lt 7, 3) := dk_155 0 7 (dk_at dksX7_does_4 21 rfl rfl)
theorem dX7_does_134 : decode cX7_does 134 = .ok (.iconst 1, 1) := dk_4 (dk_at dksX7_does_5 0 rfl rfl)
theorem dX7_does_135 : decode cX7_does 135 = .ok (.goto 4, 3) := dk_167 0 4 (dk_at dksX7_does_5 1 rfl rfl)
theorem dX7_does_138 : decode cX7_does 138 = .ok (.iconst 0, 1) := dk_3 (dk_at dksX7_does_5 4 rfl rfl)
theorem dX7_does_139 : decode cX7_does 139 = .ok (.ireturn, 1) := dk_172 (dk_at dksX7_does_5 5 rfl rfl)
theorem dX7_does_140 : decode cX7_does 140 = .ok (.aload_n 0, 1) := dk_42 (dk_at dksX7_does_5 6 rfl rfl)
theorem dX7_does_141 : decode cX7_does 141 = .ok (.iload_n 2, 1) := dk_28 (dk_at dksX7_does_5 7 rfl rfl)
theorem dX7_does_142 : decode cX7_does 142 = .ok (.iload_n 3, 1) := dk_29 (dk_at dksX7_does_5 8 rfl rfl)
theorem dX7_does_143 : decode cX7_does 143 = .ok (.aload_n 0, 1) := dk_42 (dk_at dksX7_does_5 9 rfl rfl)
theorem dX7_does_144 : decode cX7_does 144 = .ok (.getfield 7, 3) := dk_180 0 7 (dk_at dksX7_does_5 10 rfl rfl)
theorem dX7_does_147 : decode cX7_does 147 = .ok (.iload_n 1, 1) := dk_27 (dk_at dksX7_does_5 13 rfl rfl)
theorem dX7_does_148 : decode cX7_does 148 = .ok (.iconst 3, 1) := dk_6 (dk_at dksX7_does_5 14 rfl rfl)
theorem dX7_does_149 : decode cX7_does 149 = .ok (.iadd, 1) := dk_96 (dk_at dksX7_does_5 15 rfl rfl)
theorem dX7_does_150 : decode cX7_does 150 = .ok (.iaload, 1) := dk_46 (dk_at dksX7_does_5 16 rfl rfl)
theorem dX7_does_151 : decode cX7_does 151 = .ok (.aload_n 0, 1) := dk_42 (dk_at dksX7_does_5 17 rfl rfl)
theorem dX7_does_152 : decode cX7_does 152 = .ok (.getfield 7, 3) := dk_180 0 7 (dk_at dksX7_does_5 18 rfl rfl)
theorem dX7_does_155 : decode cX7_does 155 = .ok (.iload_n 1, 1) := dk_27 (dk_at dksX7_does_5 21 rfl rfl)
theorem dX7_does_156 : decode cX7_does 156 = .ok (.iconst 5, 1) := dk_8 (dk_at dksX7_does_5 22 rfl rfl)
theorem dX7_does_157 : decode cX7_does 157 = .ok (.iadd, 1) := dk_96 (dk_at dksX7_does_5 23 rfl rfl)
theorem dX7_does_158 : decode cX7_does 158 = .ok (.iaload, 1) := dk_46 (dk_at dksX7_does_6 0 rfl rfl)
theorem dX7_does_159 : decode cX7_does 159 = .ok (.invokevirtual 323, 3) := dk_182 1 67 (dk_at dksX7_does_6 1 rfl rfl)
theorem dX7_does_162 : decode cX7_does 162 = .ok (.ifCond .ne 5, 3) := dk_154 0 5 (dk_at dksX7_does_6 4 rfl rfl)
theorem dX7_does_165 : decode cX7_does 165 = .ok (.iconst 0, 1) := dk_3 (dk_at dksX7_does_6 7 rfl rfl)
theorem dX7_does_166 : decode cX7_does 166 = .ok (.ireturn, 1) := dk_172 (dk_at dksX7_does_6 8 rfl rfl)
theorem dX7_does_167 : decode cX7_does 167 = .ok (.aload_n 0, 1) := dk_42 (dk_at dksX7_does_6 9 rfl rfl)
theorem dX7_does_168 : decode cX7_does 168 = .ok (.aload_n 0, 1) := dk_42 (dk_at dksX7_does_6 10 rfl rfl)
theorem dX7_does_169 : decode cX7_does 169 = .ok (.iload_n 2, 1) := dk_28 (dk_at dksX7_does_6 11 rfl rfl)
theorem dX7_does_170 : decode cX7_does 170 = .ok (.iload_n 3, 1) := dk_29 (dk_at dksX7_does_6 12 rfl rfl)
theorem dX7_does_171 : decode cX7_does 171 = .ok (.invokevirtual 301, 3) := dk_182 1 45 (dk_at dksX7_does_6 13 rfl rfl)
theorem dX7_does_174 : decode cX7_does 174 = .ok (.aload_n 0, 1) := dk_42 (dk_at dksX7_does_6 16 rfl rfl)
theorem dX7_does_175 : decode cX7_does 175 = .ok (.aload_n 0, 1) := dk_42 (dk_at dksX7_does_6 17 rfl rfl)
theorem dX7_does_176 : decode cX7_does 176 = .ok (.getfield 7, 3) := dk_180 0 7 (dk_at dksX7_does_6 18 rfl rfl)
theorem dX7_does_179 : decode cX7_does 179 = .ok (.iload_n 1, 1) := dk_27 (dk_at dksX7_does_6 21 rfl rfl)
theorem dX7_does_180 : decode cX7_does 180 = .ok (.iconst 3, 1) := dk_6 (dk_at dksX7_does_6 22 rfl rfl)
theorem dX7_does_181 : decode cX7_does 181 = .ok (.iadd, 1) := dk_96 (dk_at dksX7_does_6 23 rfl rfl)
theorem dX7_does_182 : decode cX7_does 182 = .ok (.iaload, 1) := dk_46 (dk_at dksX7_does_7 0 rfl rfl)
theorem dX7_does_183 : decode cX7_does 183 = .ok (.aload_n 0, 1) := dk_42 (dk_at dksX7_does_7 1 rfl rfl)
theorem dX7_does_184 : decode cX7_does 184 = .ok (.getfield 7, 3) := dk_180 0 7 (dk_at dksX7_does_7 2 rfl rfl)
theorem dX7_does_187 : decode cX7_does 187 = .ok (.iload_n 1, 1) := dk_27 (dk_at dksX7_does_7 5 rfl rfl)
theorem dX7_does_188 : decode cX7_does 188 = .ok (.iconst 5, 1) := dk_8 (dk_at dksX7_does_7 6 rfl rfl)
theorem dX7_does_189 : decode cX7_does 189 = .ok (.iadd, 1) := dk_96 (dk_at dksX7_does_7 7 rfl rfl)
theorem dX7_does_190 : decode cX7_does 190 = .ok (.iaload, 1) := dk_46 (dk_at dksX7_does_7 8 rfl rfl)
theorem dX7_does_191 : decode cX7_does 191 = .ok (.invokevirtual 301, 3) := dk_182 1 45 (dk_at dksX7_does_7 9 rfl rfl)
theorem dX7_does_194 : decode cX7_does 194 = .ok (.invokevirtual 327, 3) := dk_182 1 71 (dk_at dksX7_does_7 12 rfl rfl)
theorem dX7_does_197 : decode cX7_does 197 = .ok (.iconst 1, 1) := dk_4 (dk_at dksX7_does_7 15 rfl rfl)
theorem dX7_does_198 : decode cX7_does 198 = .ok (.ireturn, 1) := dk_172 (dk_at dksX7_does_7 16 rfl rfl)
theorem dX7_does_199 : decode cX7_does 199 = .ok (.iconst 0, 1) := dk_3 (dk_at dksX7_does_7 17 rfl rfl)
theorem dX7_does_200 : decode cX7_does 200 = .ok (.istore 4, 2) := dk_54 4 (dk_at dksX7_does_7 18 rfl rfl)
theorem dX7_does_202 : decode cX7_does 202 = .ok (.iload 4, 2) := dk_21 4 (dk_at dksX7_does_7 20 rfl rfl)
theorem dX7_does_204 : decode cX7_does 204 = .ok (.aload_n 0, 1) := dk_42 (dk_at dksX7_does_7 22 rfl rfl)
theorem dX7_does_205 : decode cX7_does 205 = .ok (.getfield 7, 3) := dk_180 0 7 (dk_at dksX7_does_8 0 rfl rfl)
theorem dX7_does_208 : decode cX7_does 208 = .ok (.iconst 0, 1) := dk_3 (dk_at dksX7_does_8 3 rfl rfl)
theorem dX7_does_209 : decode cX7_does 209 = .ok (.iaload, 1) := dk_46 (dk_at dksX7_does_8 4 rfl rfl)
theorem dX7_does_210 : decode cX7_does 210 = .ok (.if_icmp .ge 52, 3) := dk_162 0 52 (dk_at dksX7_does_8 5 rfl rfl)
theorem dX7_does_213 : decode cX7_does 213 = .ok (.aload_n 0, 1) := dk_42 (dk_at dksX7_does_8 8 rfl rfl)
theorem dX7_does_214 : decode cX7_does 214 = .ok (.iload_n 2, 1) := dk_28 (dk_at dksX7_does_8 9 rfl rfl)
theorem dX7_does_215 : decode cX7_does 215 = .ok (.invokevirtual 377, 3) := dk_182 1 121 (dk_at dksX7_does_8 10 rfl rfl)
theorem dX7_does_218 : decode cX7_does 218 = .ok (.aload_n 0, 1) := dk_42 (dk_at dksX7_does_8 13 rfl rfl)
theorem dX7_does_219 : decode cX7_does 219 = .ok (.getfield 7, 3) := dk_180 0 7 (dk_at dksX7_does_8 14 rfl rfl)
theorem dX7_does_222 : decode cX7_does 222 = .ok (.iload 4, 2) := dk_21 4 (dk_at dksX7_does_8 17 rfl rfl)
theorem dX7_does_224 : decode cX7_does 224 = .ok (.invokestatic 217, 3) := dk_184 0 217 (dk_at dksX7_does_8 19 rfl rfl)
theorem dX7_does_227 : decode cX7_does 227 = .ok (.iconst 1, 1) := dk_4 (dk_at dksX7_does_8 22 rfl rfl)
theorem dX7_does_228 : decode cX7_does 228 = .ok (.iadd, 1) := dk_96 (dk_at dksX7_does_8 23 rfl rfl)
theorem dX7_does_229 : decode cX7_does 229 = .ok (.iaload, 1) := dk_46 (dk_at dksX7_does_9 0 rfl rfl)
theorem dX7_does_230 : decode cX7_does 230 = .ok (.bipush 20, 2) := dk_16 20 (dk_at dksX7_does_9 1 rfl rfl)
theorem dX7_does_232 : decode cX7_does 232 = .ok (.idiv, 1) := dk_108 (dk_at dksX7_does_9 3 rfl rfl)
theorem dX7_does_233 : decode cX7_does 233 = .ok (.imul, 1) := dk_104 (dk_at dksX7_does_9 4 rfl rfl)
theorem dX7_does_234 : decode cX7_does 234 = .ok (.istore 5, 2) := dk_54 5 (dk_at dksX7_does_9 5 rfl rfl)
theorem dX7_does_236 : decode cX7_does 236 = .ok (.aload_n 0, 1) := dk_42 (dk_at dksX7_does_9 7 rfl rfl)
theorem dX7_does_237 : decode cX7_does 237 = .ok (.iload 4, 2) := dk_21 4 (dk_at dksX7_does_9 8 rfl rfl)
theorem dX7_does_239 : decode cX7_does 239 = .ok (.iload 5, 2) := dk_21 5 (dk_at dksX7_does_9 10 rfl rfl)
theorem dX7_does_241 : decode cX7_does 241 = .ok (.invokevirtual 317, 3) := dk_182 1 61 (dk_at dksX7_does_9 12 rfl rfl)
theorem dX7_does_244 : decode cX7_does 244 = .ok (.pop, 1) := dk_87 (dk_at dksX7_does_9 15 rfl rfl)
theorem dX7_does_245 : decode cX7_does 245 = .ok (.aload_n 0, 1) := dk_42 (dk_at dksX7_does_9 16 rfl rfl)
theorem dX7_does_246 : decode cX7_does 246 = .ok (.getfield 56, 3) := dk_180 0 56 (dk_at dksX7_does_9 17 rfl rfl)
theorem dX7_does_249 : decode cX7_does 249 = .ok (.iconst 1, 1) := dk_4 (dk_at dksX7_does_9 20 rfl rfl)
theorem dX7_does_250 : decode cX7_does 250 = .ok (.dup2, 1) := dk_92 (dk_at dksX7_does_9 21 rfl rfl)
theorem dX7_does_251 : decode cX7_does 251 = .ok (.iaload, 1) := dk_46 (dk_at dksX7_does_9 22 rfl rfl)
theorem dX7_does_252 : decode cX7_does 252 = .ok (.iload 5, 2) := dk_21 5 (dk_at dksX7_does_10 0 rfl rfl)
theorem dX7_does_254 : decode cX7_does 254 = .ok (.iadd, 1) := dk_96 (dk_at dksX7_does_10 2 rfl rfl)
theorem dX7_does_255 : decode cX7_does 255 = .ok (.iastore, 1) := dk_79 (dk_at dksX7_does_10 3 rfl rfl)
theorem dX7_does_256 : decode cX7_does 256 = .ok (.iinc 4 1, 3) := dk_132 4 1 (dk_at dksX7_does_10 4 rfl rfl)
theorem dX7_does_259 : decode cX7_does 259 = .ok (.goto (-57), 3) := dk_167 255 199 (dk_at dksX7_does_10 7 rfl rfl)
theorem dX7_does_262 : decode cX7_does 262 = .ok (.iconst 1, 1) := dk_4 (dk_at dksX7_does_10 10 rfl rfl)
theorem dX7_does_263 : decode cX7_does 263 = .ok (.ireturn, 1) := dk_172 (dk_at dksX7_does_10 11 rfl rfl)
theorem dX7_does_264 : decode cX7_does 264 = .ok (.aload_n 0, 1) := dk_42 (dk_at dksX7_does_10 12 rfl rfl)
theorem dX7_does_265 : decode cX7_does 265 = .ok (.iload_n 2, 1) := dk_28 (dk_at dksX7_does_10 13 rfl rfl)
theorem dX7_does_266 : decode cX7_does 266 = .ok (.iload_n 3, 1) := dk_29 (dk_at dksX7_does_10 14 rfl rfl)
theorem dX7_does_267 : decode cX7_does 267 = .ok (.invokevirtual 331, 3) := dk_182 1 75 (dk_at dksX7_does_10 15 rfl rfl)
theorem dX7_does_270 : decode cX7_does 270 = .ok (.ifCond .ne 5, 3) := dk_154 0 5 (dk_at dksX7_does_10 18 rfl rfl)
theorem dX7_does_273 : decode cX7_does 273 = .ok (.iconst 0, 1) := dk_3 (dk_at dksX7_does_10 21 rfl rfl)
theorem dX7_does_274 : decode cX7_does 274 = .ok (.ireturn, 1) := dk_172 (dk_at dksX7_does_10 22 rfl rfl)
theorem dX7_does_275 : decode cX7_does 275 = .ok (.aload_n 0, 1) := dk_42 (dk_at dksX7_does_10 23 rfl rfl)
theorem dX7_does_276 : decode cX7_does 276 = .ok (.getfield 7, 3) := dk_180 0 7 (dk_at dksX7_does_11 0 rfl rfl)
theorem dX7_does_279 : decode cX7_does 279 = .ok (.iload_n 3, 1) := dk_29 (dk_at dksX7_does_11 3 rfl rfl)
theorem dX7_does_280 : decode cX7_does 280 = .ok (.invokestatic 217, 3) := dk_184 0 217 (dk_at dksX7_does_11 4 rfl rfl)
theorem dX7_does_283 : decode cX7_does 283 = .ok (.iconst 3, 1) := dk_6 (dk_at dksX7_does_11 7 rfl rfl)
theorem dX7_does_284 : decode cX7_does 284 = .ok (.iadd, 1) := dk_96 (dk_at dksX7_does_11 8 rfl rfl)
theorem dX7_does_285 : decode cX7_does 285 = .ok (.iload_n 2, 1) := dk_28 (dk_at dksX7_does_11 9 rfl rfl)
theorem dX7_does_286 : decode cX7_does 286 = .ok (.iastore, 1) := dk_79 (dk_at dksX7_does_11 10 rfl rfl)
theorem dX7_does_287 : decode cX7_does 287 = .ok (.iconst 1, 1) := dk_4 (dk_at dksX7_does_11 11 rfl rfl)
theorem dX7_does_288 : decode cX7_does 288 = .ok (.ireturn, 1) := dk_172 (dk_at dksX7_does_11 12 rfl rfl)
theorem dX7_does_289 : decode cX7_does 289 = .ok (.iconst 1, 1) := dk_4 (dk_at dksX7_does_11 13 rfl rfl)
theorem dX7_does_290 : decode cX7_does 290 = .ok (.ireturn, 1) := dk_172 (dk_at dksX7_does_11 14 rfl rfl)
def dkwX7_draw_1 : List UInt8 := [16, 8, 108, 27, 112, 172]
abbrev dktX7_draw_1 : List UInt8 := dkwX7_draw_1 ++ []
def dkwX7_draw_0 : List UInt8 := [42, 42, 180, 1, 117, 17, 10, 229, 104, 17, 38, 245, 96, 19, 1, 120, 112, 181, 1, 117, 42, 180, 1, 117]
abbrev dktX7_draw_0 : List UInt8 := dkwX7_draw_0 ++ dktX7_draw_1
theorem dksX7_draw_0 : cX7_draw.data.toList.drop 0 = dktX7_draw_0 := by decide +kernel
theorem dksX7_draw_1 : cX7_draw.data.toList.drop 24 = dktX7_draw_1 := dk_seg dksX7_draw_0 24 rfl rfl
theorem dX7_draw_0 : decode cX7_draw 0 = .ok (.aload_n 0, 1) := dk_42 (dk_at dksX7_draw_0 0 rfl rfl)
theorem dX7_draw_1 : decode cX7_draw 1 = .ok (.aload_n 0, 1) := dk_42 (dk_at dksX7_draw_0 1 rfl rfl)
theorem dX7_draw_2 : decode cX7_draw 2 = .ok (.getfield 373, 3) := dk_180 1 117 (dk_at dksX7_draw_0 2 rfl rfl)
theorem dX7_draw_5 : decode cX7_draw 5 = .ok (.sipush 2789, 3) := dk_17 10 229 (dk_at dksX7_draw_0 5 rfl rfl)
theorem dX7_draw_8 : decode cX7_draw 8 = .ok (.imul, 1) := dk_104 (dk_at dksX7_draw_0 8 rfl rfl)
theorem dX7_draw_9 : decode cX7_draw 9 = .ok (.sipush 9973, 3) := dk_17 38 245 (dk_at dksX7_draw_0 9 rfl rfl)
theorem dX7_draw_12 : decode cX7_draw 12 = .ok (.iadd, 1) := dk_96 (dk_at dksX7_draw_0 12 rfl rfl)
theorem dX7_draw_13 : decode cX7_draw 13 = .ok (.ldc_w 376, 3) := dk_19 1 120 (dk_at dksX7_draw_0 13 rfl rfl)
theorem dX7_draw_16 : decode cX7_draw 16 = .ok (.irem, 1) := dk_112 (dk_at dksX7_draw_0 16 rfl rfl)
theorem dX7_draw_17 : decode cX7_draw 17 = .ok (.putfield 373, 3) := dk_181 1 117 (dk_at dksX7_draw_0 17 rfl rfl)
theorem dX7_draw_20 : decode cX7_draw 20 = .ok (.aload_n 0, 1) := dk_42 (dk_at dksX7_draw_0 20 rfl rfl)
theorem dX7_draw_21 : decode cX7_draw 21 = .ok (.getfield 373, 3) := dk_180 1 117 (dk_at dksX7_draw_0 21 rfl rfl)
theorem dX7_draw_24 : decode cX7_draw 24 = .ok (.bipush 8, 2) := dk_16 8 (dk_at dksX7_draw_1 0 rfl rfl)
theorem dX7_draw_26 : decode cX7_draw 26 = .ok (.idiv, 1) := dk_108 (dk_at dksX7_draw_1 2 rfl rfl)
theorem dX7_draw_27 : decode cX7_draw 27 = .ok (.iload_n 1, 1) := dk_27 (dk_at dksX7_draw_1 3 rfl rfl)
theorem dX7_draw_28 : decode cX7_draw 28 = .ok (.irem, 1) := dk_112 (dk_at dksX7_draw_1 4 rfl rfl)
theorem dX7_draw_29 : decode cX7_draw 29 = .ok (.ireturn, 1) := dk_172 (dk_at dksX7_draw_1 5 rfl rfl)
def dkwX7_holds_6 : List UInt8 := [167, 0, 21, 21, 4, 42, 180, 0, 7, 27, 5, 96, 46, 160, 0, 7, 4, 167, 0, 4, 3, 172]
abbrev dktX7_holds_6 : List UInt8 := dkwX7_holds_6 ++ []
def dkwX7_holds_5 : List UInt8 := [16, 62, 160, 0, 24, 21, 4, 42, 180, 0, 7, 27, 5, 96, 46, 164, 0, 7, 4, 167, 0, 25, 3]
abbrev dktX7_holds_5 : List UInt8 := dkwX7_holds_5 ++ dktX7_holds_6
def dkwX7_holds_4 : List UInt8 := [27, 5, 96, 46, 162, 0, 7, 4, 167, 0, 59, 3, 167, 0, 55, 42, 180, 0, 7, 27, 8, 96, 46]
abbrev dktX7_holds_4 : List UInt8 := dkwX7_holds_4 ++ dktX7_holds_5
def dkwX7_holds_3 : List UInt8 := [182, 1, 27, 54, 4, 42, 180, 0, 7, 27, 8, 96, 46, 16, 60, 160, 0, 24, 21, 4, 42, 180, 0, 7]
abbrev dktX7_holds_3 : List UInt8 := dkwX7_holds_3 ++ dktX7_holds_4
def dkwX7_holds_2 : List UInt8 := [180, 0, 7, 29, 4, 96, 46, 167, 0, 19, 42, 29, 28, 16, 6, 160, 0, 7, 3, 167, 0, 4, 4]
abbrev dktX7_holds_2 : List UInt8 := dkwX7_holds_2 ++ dktX7_holds_3
def dkwX7_holds_1 : List UInt8 := [96, 46, 182, 1, 78, 172, 42, 180, 0, 7, 27, 4, 96, 46, 184, 0, 217, 62, 28, 8, 160, 0, 14, 42]
abbrev dktX7_holds_1 : List UInt8 := dkwX7_holds_1 ++ dktX7_holds_2
def dkwX7_holds_0 : List UInt8 := [42, 180, 0, 7, 27, 46, 17, 6, 164, 100, 61, 28, 16, 21, 160, 0, 16, 42, 42, 180, 0, 7, 27, 4]
abbrev dktX7_holds_0 : List UInt8 := dkwX7_holds_0 ++ dktX7_holds_1
theorem dksX7_holds_0 : cX7_holds.data.toList.drop 0 = dktX7_holds_0 := by decide +kernel
theorem dksX7_holds_1 : cX7_holds.data.toList.drop 24 = dktX7_holds_1 := dk_seg dksX7_holds_0 24 rfl rfl
theorem dksX7_holds_2 : cX7_holds.data.toList.drop 48 = dktX7_holds_2 := dk_seg dksX7_holds_1 24 rfl rfl
theorem dksX7_holds_3 : cX7_holds.data.toList.drop 71 = dktX7_holds_3 := dk_seg dksX7_holds_2 23 rfl rfl
theorem dksX7_holds_4 : cX7_holds.data.toList.drop 95 = dktX7_holds_4 := dk_seg dksX7_holds_3 24 rfl rfl
theorem dksX7_holds_5 : cX7_holds.data.toList.drop 118 = dktX7_holds_5 := dk_seg dksX7_holds_4 23 rfl rfl
theorem dksX7_holds_6 : cX7_holds.data.toList.drop 141 = dktX7_holds_6 := dk_seg dksX7_holds_5 23 rfl rfl
theorem dX7_holds_0 : decode cX7_holds 0 = .ok (.aload_n 0, 1) := dk_42 (dk_at dksX7_holds_0 0 rfl rfl)
theorem dX7_holds_1 : decode cX7_holds 1 = .ok (.getfield 7, 3) := dk_180 0 7 (dk_at dksX7_holds_0 1 rfl rfl)
theorem dX7_holds_4 : decode cX7_holds 4 = .ok (.iload_n 1, 1) := dk_27 (dk_at dksX7_holds_0 4 rfl rfl)
theorem dX7_holds_5 : decode cX7_holds 5 = .ok (.iaload, 1) := dk_46 (dk_at dksX7_holds_0 5 rfl rfl)
theorem dX7_holds_6 : decode cX7_holds 6 = .ok (.sipush 1700, 3) := dk_17 6 164 (dk_at dksX7_holds_0 6 rfl rfl)
theorem dX7_holds_9 : decode cX7_holds 9 = .ok (.isub, 1) := dk_100 (dk_at dksX7_holds_0 9 rfl rfl)
theorem dX7_holds_10 : decode cX7_holds 10 = .ok (.istore_n 2, 1) := dk_61 (dk_at dksX7_holds_0 10 rfl rfl)
theorem dX7_holds_11 : decode cX7_holds 11 = .ok (.iload_n 2, 1) := dk_28 (dk_at dksX7_holds_0 11 rfl rfl)
theorem dX7_holds_12 : decode cX7_holds 12 = .ok (.bipush 21, 2) := dk_16 21 (dk_at dksX7_holds_0 12 rfl rfl)
theorem dX7_holds_14 : decode cX7_holds 14 = .ok (.if_icmp .ne 16, 3) := dk_160 0 16 (dk_at dksX7_holds_0 14 rfl rfl)
theorem dX7_holds_17 : decode cX7_holds 17 = .ok (.aload_n 0, 1) := dk_42 (dk_at dksX7_holds_0 17 rfl rfl)
theorem dX7_holds_18 : decode cX7_holds 18 = .ok (.aload_n 0, 1) := dk_42 (dk_at dksX7_holds_0 18 rfl rfl)
theorem dX7_holds_19 : decode cX7_holds 19 = .ok (.getfield 7, 3) := dk_180 0 7 (dk_at dksX7_holds_0 19 rfl rfl)
theorem dX7_holds_22 : decode cX7_holds 22 = .ok (.iload_n 1, 1) := dk_27 (dk_at dksX7_holds_0 22 rfl rfl)
theorem dX7_holds_23 : decode cX7_holds 23 = .ok (.iconst 1, 1) := dk_4 (dk_at dksX7_holds_0 23 rfl rfl)
theorem dX7_holds_24 : decode cX7_holds 24 = .ok (.iadd, 1) := dk_96 (dk_at dksX7_holds_1 0 rfl rfl)
theorem dX7_holds_25 : decode cX7_holds 25 = .ok (.iaload, 1) := dk_46 (dk_at dksX7_holds_1 1 rfl rfl)
theorem dX7_holds_26 : decode cX7_holds 26 = .ok (.invokevirtual 334, 3) := dk_182 1 78 (dk_at dksX7_holds_1 2 rfl rfl)
theorem dX7_holds_29 : decode cX7_holds 29 = .ok (.ireturn, 1) := dk_172 (dk_at dksX7_holds_1 5 rfl rfl)
theorem dX7_holds_30 : decode cX7_holds 30 = .ok (.aload_n 0, 1) := dk_42 (dk_at dksX7_holds_1 6 rfl rfl)
theorem dX7_holds_31 : decode cX7_holds 31 = .ok (.getfield 7, 3) := dk_180 0 7 (dk_at dksX7_holds_1 7 rfl rfl)
theorem dX7_holds_34 : decode cX7_holds 34 = .ok (.iload_n 1, 1) := dk_27 (dk_at dksX7_holds_1 10 rfl rfl)
theorem dX7_holds_35 : decode cX7_holds 35 = .ok (.iconst 1, 1) := dk_4 (dk_at dksX7_holds_1 11 rfl rfl)
theorem dX7_holds_36 : decode cX7_holds 36 = .ok (.iadd, 1) := dk_96 (dk_at dksX7_holds_1 12 rfl rfl)
theorem dX7_holds_37 : decode cX7_holds 37 = .ok (.iaload, 1) := dk_46 (dk_at dksX7_holds_1 13 rfl rfl)
theorem dX7_holds_38 : decode cX7_holds 38 = .ok (.invokestatic 217, 3) := dk_184 0 217 (dk_at dksX7_holds_1 14 rfl rfl)
theorem dX7_holds_41 : decode cX7_holds 41 = .ok (.istore_n 3, 1) := dk_62 (dk_at dksX7_holds_1 17 rfl rfl)
theorem dX7_holds_42 : decode cX7_holds 42 = .ok (.iload_n 2, 1) := dk_28 (dk_at dksX7_holds_1 18 rfl rfl)
theorem dX7_holds_43 : decode cX7_holds 43 = .ok (.iconst 5, 1) := dk_8 (dk_at dksX7_holds_1 19 rfl rfl)
theorem dX7_holds_44 : decode cX7_holds 44 = .ok (.if_icmp .ne 14, 3) := dk_160 0 14 (dk_at dksX7_holds_1 20 rfl rfl)
theorem dX7_holds_47 : decode cX7_holds 47 = .ok (.aload_n 0, 1) := dk_42 (dk_at dksX7_holds_1 23 rfl rfl)
theorem dX7_holds_48 : decode cX7_holds 48 = .ok (.getfield 7, 3) := dk_180 0 7 (dk_at dksX7_holds_2 0 rfl rfl)
theorem dX7_holds_51 : decode cX7_holds 51 = .ok (.iload_n 3, 1) := dk_29 (dk_at dksX7_holds_2 3 rfl rfl)
theorem dX7_holds_52 : decode cX7_holds 52 = .ok (.iconst 1, 1) := dk_4 (dk_at dksX7_holds_2 4 rfl rfl)
theorem dX7_holds_53 : decode cX7_holds 53 = .ok (.iadd, 1) := dk_96 (dk_at dksX7_holds_2 5 rfl rfl)
theorem dX7_holds_54 : decode cX7_holds 54 = .ok (.iaload, 1) := dk_46 (dk_at dksX7_holds_2 6 rfl rfl)
theorem dX7_holds_55 : decode cX7_holds 55 = .ok (.goto 19, 3) := dk_167 0 19 (dk_at dksX7_holds_2 7 rfl rfl)
theorem dX7_holds_58 : decode cX7_holds 58 = .ok (.aload_n 0, 1) := dk_42 (dk_at dksX7_holds_2 10 rfl rfl)
theorem dX7_holds_59 : decode cX7_holds 59 = .ok (.iload_n 3, 1) := dk_29 (dk_at dksX7_holds_2 11 rfl rfl)
theorem dX7_holds_60 : decode cX7_holds 60 = .ok (.iload_n 2, 1) := dk_28 (dk_at dksX7_holds_2 12 rfl rfl)
theorem dX7_holds_61 : decode cX7_holds 61 = .ok (.bipush 6, 2) := dk_16 6 (dk_at dksX7_holds_2 13 rfl rfl)
theorem dX7_holds_63 : decode cX7_holds 63 = .ok (.if_icmp .ne 7, 3) := dk_160 0 7 (dk_at dksX7_holds_2 15 rfl rfl)
theorem dX7_holds_66 : decode cX7_holds 66 = .ok (.iconst 0, 1) := dk_3 (dk_at dksX7_holds_2 18 rfl rfl)
theorem dX7_holds_67 : decode cX7_holds 67 = .ok (.goto 4, 3) := dk_167 0 4 (dk_at dksX7_holds_2 19 rfl rfl)
theorem dX7_holds_70 : decode cX7_holds 70 = .ok (.iconst 1, 1) := dk_4 (dk_at dksX7_holds_2 22 rfl rfl)
theorem dX7_holds_71 : decode cX7_holds 71 = .ok (.invokevirtual 283, 3) := dk_182 1 27 (dk_at dksX7_holds_3 0 rfl rfl)
theorem dX7_holds_74 : decode cX7_holds 74 = .ok (.istore 4, 2) := dk_54 4 (dk_at dksX7_holds_3 3 rfl rfl)
theorem dX7_holds_76 : decode cX7_holds 76 = .ok (.aload_n 0, 1) := dk_42 (dk_at dksX7_holds_3 5 rfl rfl)
theorem dX7_holds_77 : decode cX7_holds 77 = .ok (.getfield 7, 3) := dk_180 0 7 (dk_at dksX7_holds_3 6 rfl rfl)
theorem dX7_holds_80 : decode cX7_holds 80 = .ok (.iload_n 1, 1) := dk_27 (dk_at dksX7_holds_3 9 rfl rfl)
theorem dX7_holds_81 : decode cX7_holds 81 = .ok (.iconst 5, 1) := dk_8 (dk_at dksX7_holds_3 10 rfl rfl)
theorem dX7_holds_82 : decode cX7_holds 82 = .ok (.iadd, 1) := dk_96 (dk_at dksX7_holds_3 11 rfl rfl)
theorem dX7_holds_83 : decode cX7_holds 83 = .ok (.iaload, 1) := dk_46 (dk_at dksX7_holds_3 12 rfl rfl)
theorem dX7_holds_84 : decode cX7_holds 84 = .ok (.bipush 60, 2) := dk_16 60 (dk_at dksX7_holds_3 13 rfl rfl)
theorem dX7_holds_86 : decode cX7_holds 86 = .ok (.if_icmp .ne 24, 3) := dk_160 0 24 (dk_at dksX7_holds_3 15 rfl rfl)
theorem dX7_holds_89 : decode cX7_holds 89 = .ok (.iload 4, 2) := dk_21 4 (dk_at dksX7_holds_3 18 rfl rfl)
theorem dX7_holds_91 : decode cX7_holds 91 = .ok (.aload_n 0, 1) := dk_42 (dk_at dksX7_holds_3 20 rfl rfl)
theorem dX7_holds_92 : decode cX7_holds 92 = .ok (.getfield 7, 3) := dk_180 0 7 (dk_at dksX7_holds_3 21 rfl rfl)
theorem dX7_holds_95 : decode cX7_holds 95 = .ok (.iload_n 1, 1) := dk_27 (dk_at dksX7_holds_4 0 rfl rfl)
theorem dX7_holds_96 : decode cX7_holds 96 = .ok (.iconst 2, 1) := dk_5 (dk_at dksX7_holds_4 1 rfl rfl)
theorem dX7_holds_97 : decode cX7_holds 97 = .ok (.iadd, 1) := dk_96 (dk_at dksX7_holds_4 2 rfl rfl)
theorem dX7_holds_98 : decode cX7_holds 98 = .ok (.iaload, 1) := dk_46 (dk_at dksX7_holds_4 3 rfl rfl)
theorem dX7_holds_99 : decode cX7_holds 99 = .ok (.if_icmp .ge 7, 3) := dk_162 0 7 (dk_at dksX7_holds_4 4 rfl rfl)
theorem dX7_holds_102 : decode cX7_holds 102 = .ok (.iconst 1, 1) := dk_4 (dk_at dksX7_holds_4 7 rfl rfl)
theorem dX7_holds_103 : decode cX7_holds 103 = .ok (.goto 59, 3) := dk_167 0 59 (dk_at dksX7_holds_4 8 rfl rfl)
theorem dX7_holds_106 : decode cX7_holds 106 = .ok (.iconst 0, 1) := dk_3 (dk_at dksX7_holds_4 11 rfl rfl)
theorem dX7_holds_107 : decode cX7_holds 107 = .ok (.goto 55, 3) := dk_167 0 55 (dk_at dksX7_holds_4 12 rfl rfl)
theorem dX7_holds_110 : decode cX7_holds 110 = .ok (.aload_n 0, 1) := dk_42 (dk_at dksX7_holds_4 15 rfl rfl)
theorem dX7_holds_111 : decode cX7_holds 111 = .ok (.getfield 7, 3) := dk_180 0 7 (dk_at dksX7_holds_4 16 rfl rfl)
theorem dX7_holds_114 : decode cX7_holds 114 = .ok (.iload_n 1, 1) := dk_27 (dk_at dksX7_holds_4 19 rfl rfl)
theorem dX7_holds_115 : decode cX7_holds 115 = .ok (.iconst 5, 1) := dk_8 (dk_at dksX7_holds_4 20 rfl rfl)
theorem dX7_holds_116 : decode cX7_holds 116 = .ok (.iadd, 1) := dk_96 (dk_at dksX7_holds_4 21 rfl rfl)
theorem dX7_holds_117 : decode cX7_holds 117 = .ok (.iaload, 1) := dk_46 (dk_at dksX7_holds_4 22 rfl rfl)
theorem dX7_holds_118 : decode cX7_holds 118 = .ok (.bipush 62, 2) := dk_16 62 (dk_at dksX7_holds_5 0 rfl rfl)
theorem dX7_holds_120 : decode cX7_holds 120 = .ok (.if_icmp .ne 24, 3) := dk_160 0 24 (dk_at dksX7_holds_5 2 rfl rfl)
theorem dX7_holds_123 : decode cX7_holds 123 = .ok (.iload 4, 2) := dk_21 4 (dk_at dksX7_holds_5 5 rfl rfl)
theorem dX7_holds_125 : decode cX7_holds 125 = .ok (.aload_n 0, 1) := dk_42 (dk_at dksX7_holds_5 7 rfl rfl)
theorem dX7_holds_126 : decode cX7_holds 126 = .ok (.getfield 7, 3) := dk_180 0 7 (dk_at dksX7_holds_5 8 rfl rfl)
theorem dX7_holds_129 : decode cX7_holds 129 = .ok (.iload_n 1, 1) := dk_27 (dk_at dksX7_holds_5 11 rfl rfl)
theorem dX7_holds_130 : decode cX7_holds 130 = .ok (.iconst 2, 1) := dk_5 (dk_at dksX7_holds_5 12 rfl rfl)
theorem dX7_holds_131 : decode cX7_holds 131 = .ok (.iadd, 1) := dk_96 (dk_at dksX7_holds_5 13 rfl rfl)
theorem dX7_holds_132 : decode cX7_holds 132 = .ok (.iaload, 1) := dk_46 (dk_at dksX7_holds_5 14 rfl rfl)
theorem dX7_holds_133 : decode cX7_holds 133 = .ok (.if_icmp .le 7, 3) := dk_164 0 7 (dk_at dksX7_holds_5 15 rfl rfl)
theorem dX7_holds_136 : decode cX7_holds 136 = .ok (.iconst 1, 1) := dk_4 (dk_at dksX7_holds_5 18 rfl rfl)
theorem dX7_holds_137 : decode cX7_holds 137 = .ok (.goto 25, 3) := dk_167 0 25 (dk_at dksX7_holds_5 19 rfl rfl)
theorem dX7_holds_140 : decode cX7_holds 140 = .ok (.iconst 0, 1) := dk_3 (dk_at dksX7_holds_5 22 rfl rfl)
theorem dX7_holds_141 : decode cX7_holds 141 = .ok (.goto 21, 3) := dk_167 0 21 (dk_at dksX7_holds_6 0 rfl rfl)
theorem dX7_holds_144 : decode cX7_holds 144 = .ok (.iload 4, 2) := dk_21 4 (dk_at dksX7_holds_6 3 rfl rfl)
theorem dX7_holds_146 : decode cX7_holds 146 = .ok (.aload_n 0, 1) := dk_42 (dk_at dksX7_holds_6 5 rfl rfl)
theorem dX7_holds_147 : decode cX7_holds 147 = .ok (.getfield 7, 3) := dk_180 0 7 (dk_at dksX7_holds_6 6 rfl rfl)
theorem dX7_holds_150 : decode cX7_holds 150 = .ok (.iload_n 1, 1) := dk_27 (dk_at dksX7_holds_6 9 rfl rfl)
theorem dX7_holds_151 : decode cX7_holds 151 = .ok (.iconst 2, 1) := dk_5 (dk_at dksX7_holds_6 10 rfl rfl)
theorem dX7_holds_152 : decode cX7_holds 152 = .ok (.iadd, 1) := dk_96 (dk_at dksX7_holds_6 11 rfl rfl)
theorem dX7_holds_153 : decode cX7_holds 153 = .ok (.iaload, 1) := dk_46 (dk_at dksX7_holds_6 12 rfl rfl)
theorem dX7_holds_154 : decode cX7_holds 154 = .ok (.if_icmp .ne 7, 3) := dk_160 0 7 (dk_at dksX7_holds_6 13 rfl rfl)
theorem dX7_holds_157 : decode cX7_holds 157 = .ok (.iconst 1, 1) := dk_4 (dk_at dksX7_holds_6 16 rfl rfl)
theorem dX7_holds_158 : decode cX7_holds 158 = .ok (.goto 4, 3) := dk_167 0 4 (dk_at dksX7_holds_6 17 rfl rfl)
theorem dX7_holds_161 : decode cX7_holds 161 = .ok (.iconst 0, 1) := dk_3 (dk_at dksX7_holds_6 20 rfl rfl)
theorem dX7_holds_162 : decode cX7_holds 162 = .ok (.ireturn, 1) := dk_172 (dk_at dksX7_holds_6 21 rfl rfl)
def dkwX7_behindEnds_5 : List UInt8 := [28, 172]
abbrev dktX7_behindEnds_5 : List UInt8 := dkwX7_behindEnds_5 ++ []
def dkwX7_behindEnds_4 : List UInt8 := [167, 0, 4, 3, 100, 79, 21, 4, 153, 0, 9, 29, 4, 96, 167, 0, 6, 28, 4, 96, 61, 167, 255, 143]
abbrev dktX7_behindEnds_4 : List UInt8 := dkwX7_behindEnds_4 ++ dktX7_behindEnds_5
def dkwX7_behindEnds_3 : List UInt8 := [158, 0, 7, 4, 167, 0, 4, 3, 54, 4, 42, 180, 0, 53, 29, 92, 46, 21, 4, 153, 0, 7, 4]
abbrev dktX7_behindEnds_3 : List UInt8 := dkwX7_behindEnds_3 ++ dktX7_behindEnds_4
def dkwX7_behindEnds_2 : List UInt8 := [180, 0, 7, 17, 3, 92, 16, 6, 29, 104, 96, 46, 16, 18, 160, 0, 16, 42, 180, 0, 53, 29, 46]
abbrev dktX7_behindEnds_2 : List UInt8 := dkwX7_behindEnds_2 ++ dktX7_behindEnds_3
def dkwX7_behindEnds_1 : List UInt8 := [96, 46, 16, 19, 160, 0, 90, 42, 180, 0, 7, 17, 3, 92, 16, 6, 28, 104, 96, 7, 96, 46, 62, 42]
abbrev dktX7_behindEnds_1 : List UInt8 := dkwX7_behindEnds_1 ++ dktX7_behindEnds_2
def dkwX7_behindEnds_0 : List UInt8 := [27, 61, 28, 42, 180, 0, 7, 16, 10, 46, 162, 0, 108, 42, 180, 0, 7, 17, 3, 92, 16, 6, 28, 104]
abbrev dktX7_behindEnds_0 : List UInt8 := dkwX7_behindEnds_0 ++ dktX7_behindEnds_1
theorem dksX7_behindEnds_0 : cX7_behindEnds.data.toList.drop 0 = dktX7_behindEnds_0 := by decide +kernel
theorem dksX7_behindEnds_1 : cX7_behindEnds.data.toList.drop 24 = dktX7_behindEnds_1 := dk_seg dksX7_behindEnds_0 24 rfl rfl
theorem dksX7_behindEnds_2 : cX7_behindEnds.data.toList.drop 48 = dktX7_behindEnds_2 := dk_seg dksX7_behindEnds_1 24 rfl rfl
theorem dksX7_behindEnds_3 : cX7_behindEnds.data.toList.drop 71 = dktX7_behindEnds_3 := dk_seg dksX7_behindEnds_2 23 rfl rfl
theorem dksX7_behindEnds_4 : cX7_behindEnds.data.toList.drop 94 = dktX7_behindEnds_4 := dk_seg dksX7_behindEnds_3 23 rfl rfl
theorem dksX7_behindEnds_5 : cX7_behindEnds.data.toList.drop 118 = dktX7_behindEnds_5 := dk_seg dksX7_behindEnds_4 24 rfl rfl
theorem dX7_behindEnds_0 : decode cX7_behindEnds 0 = .ok (.iload_n 1, 1) := dk_27 (dk_at dksX7_behindEnds_0 0 rfl rfl)
theorem dX7_behindEnds_1 : decode cX7_behindEnds 1 = .ok (.istore_n 2, 1) := dk_61 (dk_at dksX7_behindEnds_0 1 rfl rfl)
theorem dX7_behindEnds_2 : decode cX7_behindEnds 2 = .ok (.iload_n 2, 1) := dk_28 (dk_at dksX7_behindEnds_0 2 rfl rfl)
theorem dX7_behindEnds_3 : decode cX7_behindEnds 3 = .ok (.aload_n 0, 1) := dk_42 (dk_at dksX7_behindEnds_0 3 rfl rfl)
theorem dX7_behindEnds_4 : decode cX7_behindEnds 4 = .ok (.getfield 7, 3) := dk_180 0 7 (dk_at dksX7_behindEnds_0 4 rfl rfl)
theorem dX7_behindEnds_7 : decode cX7_behindEnds 7 = .ok (.bipush 10, 2) := dk_16 10 (dk_at dksX7_behindEnds_0 7 rfl rfl)
theorem dX7_behindEnds_9 : decode cX7_behindEnds 9 = .ok (.iaload, 1) := dk_46 (dk_at dksX7_behindEnds_0 9 rfl rfl)
theorem dX7_behindEnds_10 : decode cX7_behindEnds 10 = .ok (.if_icmp .ge 108, 3) := dk_162 0 108 (dk_at dksX7_behindEnds_0 10 rfl rfl)
theorem dX7_behindEnds_13 : decode cX7_behindEnds 13 = .ok (.aload_n 0, 1) := dk_42 (dk_at dksX7_behindEnds_0 13 rfl rfl)
theorem dX7_behindEnds_14 : decode cX7_behindEnds 14 = .ok (.getfield 7, 3) := dk_180 0 7 (dk_at dksX7_behindEnds_0 14 rfl rfl)
theorem dX7_behindEnds_17 : decode cX7_behindEnds 17 = .ok (.sipush 860, 3) := dk_17 3 92 (dk_at dksX7_behindEnds_0 17 rfl rfl)
theorem dX7_behindEnds_20 : decode cX7_behindEnds 20 = .ok (.bipush 6, 2) := dk_16 6 (dk_at dksX7_behindEnds_0 20 rfl rfl)
theorem dX7_behindEnds_22 : decode cX7_behindEnds 22 = .ok (.iload_n 2, 1) := dk_28 (dk_at dksX7_behindEnds_0 22 rfl rfl)
theorem dX7_behindEnds_23 : decode cX7_behindEnds 23 = .ok (.imul, 1) := dk_104 (dk_at dksX7_behindEnds_0 23 rfl rfl)
theorem dX7_behindEnds_24 : decode cX7_behindEnds 24 = .ok (.iadd, 1) := dk_96 (dk_at dksX7_behindEnds_1 0 rfl rfl)
theorem dX7_behindEnds_25 : decode cX7_behindEnds 25 = .ok (.iaload, 1) := dk_46 (dk_at dksX7_behindEnds_1 1 rfl rfl)
theorem dX7_behindEnds_26 : decode cX7_behindEnds 26 = .ok (.bipush 19, 2) := dk_16 19 (dk_at dksX7_behindEnds_1 2 rfl rfl)
theorem dX7_behindEnds_28 : decode cX7_behindEnds 28 = .ok (.if_icmp .ne 90, 3) := dk_160 0 90 (dk_at dksX7_behindEnds_1 4 rfl rfl)
theorem dX7_behindEnds_31 : decode cX7_behindEnds 31 = .ok (.aload_n 0, 1) := dk_42 (dk_at dksX7_behindEnds_1 7 rfl rfl)
theorem dX7_behindEnds_32 : decode cX7_behindEnds 32 = .ok (.getfield 7, 3) := dk_180 0 7 (dk_at dksX7_behindEnds_1 8 rfl rfl)
theorem dX7_behindEnds_35 : decode cX7_behindEnds 35 = .ok (.sipush 860, 3) := dk_17 3 92 (dk_at dksX7_behindEnds_1 11 rfl rfl)
theorem dX7_behindEnds_38 : decode cX7_behindEnds 38 = .ok (.bipush 6, 2) := dk_16 6 (dk_at dksX7_behindEnds_1 14 rfl rfl)
theorem dX7_behindEnds_40 : decode cX7_behindEnds 40 = .ok (.iload_n 2, 1) := dk_28 (dk_at dksX7_behindEnds_1 16 rfl rfl)
theorem dX7_behindEnds_41 : decode cX7_behindEnds 41 = .ok (.imul, 1) := dk_104 (dk_at dksX7_behindEnds_1 17 rfl rfl)
theorem dX7_behindEnds_42 : decode cX7_behindEnds 42 = .ok (.iadd, 1) := dk_96 (dk_at dksX7_behindEnds_1 18 rfl rfl)
theorem dX7_behindEnds_43 : decode cX7_behindEnds 43 = .ok (.iconst 4, 1) := dk_7 (dk_at dksX7_behindEnds_1 19 rfl rfl)
theorem dX7_behindEnds_44 : decode cX7_behindEnds 44 = .ok (.iadd, 1) := dk_96 (dk_at dksX7_behindEnds_1 20 rfl rfl)
theorem dX7_behindEnds_45 : decode cX7_behindEnds 45 = .ok (.iaload, 1) := dk_46 (dk_at dksX7_behindEnds_1 21 rfl rfl)
theorem dX7_behindEnds_46 : decode cX7_behindEnds 46 = .ok (.istore_n 3, 1) := dk_62 (dk_at dksX7_behindEnds_1 22 rfl rfl)
theorem dX7_behindEnds_47 : decode cX7_behindEnds 47 = .ok (.aload_n 0, 1) := dk_42 (dk_at dksX7_behindEnds_1 23 rfl rfl)
theorem dX7_behindEnds_48 : decode cX7_behindEnds 48 = .ok (.getfield 7, 3) := dk_180 0 7 (dk_at dksX7_behindEnds_2 0 rfl rfl)
theorem dX7_behindEnds_51 : decode cX7_behindEnds 51 = .ok (.sipush 860, 3) := dk_17 3 92 (dk_at dksX7_behindEnds_2 3 rfl rfl)
theorem dX7_behindEnds_54 : decode cX7_behindEnds 54 = .ok (.bipush 6, 2) := dk_16 6 (dk_at dksX7_behindEnds_2 6 rfl rfl)
theorem dX7_behindEnds_56 : decode cX7_behindEnds 56 = .ok (.iload_n 3, 1) := dk_29 (dk_at dksX7_behindEnds_2 8 rfl rfl)
theorem dX7_behindEnds_57 : decode cX7_behindEnds 57 = .ok (.imul, 1) := dk_104 (dk_at dksX7_behindEnds_2 9 rfl rfl)
theorem dX7_behindEnds_58 : decode cX7_behindEnds 58 = .ok (.iadd, 1) := dk_96 (dk_at dksX7_behindEnds_2 10 rfl rfl)
theorem dX7_behindEnds_59 : decode cX7_behindEnds 59 = .ok (.iaload, 1) := dk_46 (dk_at dksX7_behindEnds_2 11 rfl rfl)
theorem dX7_behindEnds_60 : decode cX7_behindEnds 60 = .ok (.bipush 18, 2) := dk_16 18 (dk_at dksX7_behindEnds_2 12 rfl rfl)
theorem dX7_behindEnds_62 : decode cX7_behindEnds 62 = .ok (.if_icmp .ne 16, 3) := dk_160 0 16 (dk_at dksX7_behindEnds_2 14 rfl rfl)
theorem dX7_behindEnds_65 : decode cX7_behindEnds 65 = .ok (.aload_n 0, 1) := dk_42 (dk_at dksX7_behindEnds_2 17 rfl rfl)
theorem dX7_behindEnds_66 : decode cX7_behindEnds 66 = .ok (.getfield 53, 3) := dk_180 0 53 (dk_at dksX7_behindEnds_2 18 rfl rfl)
theorem dX7_behindEnds_69 : decode cX7_behindEnds 69 = .ok (.iload_n 3, 1) := dk_29 (dk_at dksX7_behindEnds_2 21 rfl rfl)
theorem dX7_behindEnds_70 : decode cX7_behindEnds 70 = .ok (.iaload, 1) := dk_46 (dk_at dksX7_behindEnds_2 22 rfl rfl)
theorem dX7_behindEnds_71 : decode cX7_behindEnds 71 = .ok (.ifCond .le 7, 3) := dk_158 0 7 (dk_at dksX7_behindEnds_3 0 rfl rfl)
theorem dX7_behindEnds_74 : decode cX7_behindEnds 74 = .ok (.iconst 1, 1) := dk_4 (dk_at dksX7_behindEnds_3 3 rfl rfl)
theorem dX7_behindEnds_75 : decode cX7_behindEnds 75 = .ok (.goto 4, 3) := dk_167 0 4 (dk_at dksX7_behindEnds_3 4 rfl rfl)
theorem dX7_behindEnds_78 : decode cX7_behindEnds 78 = .ok (.iconst 0, 1) := dk_3 (dk_at dksX7_behindEnds_3 7 rfl rfl)
theorem dX7_behindEnds_79 : decode cX7_behindEnds 79 = .ok (.istore 4, 2) := dk_54 4 (dk_at dksX7_behindEnds_3 8 rfl rfl)
theorem dX7_behindEnds_81 : decode cX7_behindEnds 81 = .ok (.aload_n 0, 1) := dk_42 (dk_at dksX7_behindEnds_3 10 rfl rfl)
theorem dX7_behindEnds_82 : decode cX7_behindEnds 82 = .ok (.getfield 53, 3) := dk_180 0 53 (dk_at dksX7_behindEnds_3 11 rfl rfl)
theorem dX7_behindEnds_85 : decode cX7_behindEnds 85 = .ok (.iload_n 3, 1) := dk_29 (dk_at dksX7_behindEnds_3 14 rfl rfl)
theorem dX7_behindEnds_86 : decode cX7_behindEnds 86 = .ok (.dup2, 1) := dk_92 (dk_at dksX7_behindEnds_3 15 rfl rfl)
theorem dX7_behindEnds_87 : decode cX7_behindEnds 87 = .ok (.iaload, 1) := dk_46 (dk_at dksX7_behindEnds_3 16 rfl rfl)
theorem dX7_behindEnds_88 : decode cX7_behindEnds 88 = .ok (.iload 4, 2) := dk_21 4 (dk_at dksX7_behindEnds_3 17 rfl rfl)
theorem dX7_behindEnds_90 : decode cX7_behindEnds 90 = .ok (.ifCond .eq 7, 3) := dk_153 0 7 (dk_at dksX7_behindEnds_3 19 rfl rfl)
theorem dX7_behindEnds_93 : decode cX7_behindEnds 93 = .ok (.iconst 1, 1) := dk_4 (dk_at dksX7_behindEnds_3 22 rfl rfl)
theorem dX7_behindEnds_94 : decode cX7_behindEnds 94 = .ok (.goto 4, 3) := dk_167 0 4 (dk_at dksX7_behindEnds_4 0 rfl rfl)
theorem dX7_behindEnds_97 : decode cX7_behindEnds 97 = .ok (.iconst 0, 1) := dk_3 (dk_at dksX7_behindEnds_4 3 rfl rfl)
theorem dX7_behindEnds_98 : decode cX7_behindEnds 98 = .ok (.isub, 1) := dk_100 (dk_at dksX7_behindEnds_4 4 rfl rfl)
theorem dX7_behindEnds_99 : decode cX7_behindEnds 99 = .ok (.iastore, 1) := dk_79 (dk_at dksX7_behindEnds_4 5 rfl rfl)
theorem dX7_behindEnds_100 : decode cX7_behindEnds 100 = .ok (.iload 4, 2) := dk_21 4 (dk_at dksX7_behindEnds_4 6 rfl rfl)
theorem dX7_behindEnds_102 : decode cX7_behindEnds 102 = .ok (.ifCond .eq 9, 3) := dk_153 0 9 (dk_at dksX7_behindEnds_4 8 rfl rfl)
theorem dX7_behindEnds_105 : decode cX7_behindEnds 105 = .ok (.iload_n 3, 1) := dk_29 (dk_at dksX7_behindEnds_4 11 rfl rfl)
theorem dX7_behindEnds_106 : decode cX7_behindEnds 106 = .ok (.iconst 1, 1) := dk_4 (dk_at dksX7_behindEnds_4 12 rfl rfl)
theorem dX7_behindEnds_107 : decode cX7_behindEnds 107 = .ok (.iadd, 1) := dk_96 (dk_at dksX7_behindEnds_4 13 rfl rfl)
theorem dX7_behindEnds_108 : decode cX7_behindEnds 108 = .ok (.goto 6, 3) := dk_167 0 6 (dk_at dksX7_behindEnds_4 14 rfl rfl)
theorem dX7_behindEnds_111 : decode cX7_behindEnds 111 = .ok (.iload_n 2, 1) := dk_28 (dk_at dksX7_behindEnds_4 17 rfl rfl)
theorem dX7_behindEnds_112 : decode cX7_behindEnds 112 = .ok (.iconst 1, 1) := dk_4 (dk_at dksX7_behindEnds_4 18 rfl rfl)
theorem dX7_behindEnds_113 : decode cX7_behindEnds 113 = .ok (.iadd, 1) := dk_96 (dk_at dksX7_behindEnds_4 19 rfl rfl)
theorem dX7_behindEnds_114 : decode cX7_behindEnds 114 = .ok (.istore_n 2, 1) := dk_61 (dk_at dksX7_behindEnds_4 20 rfl rfl)
theorem dX7_behindEnds_115 : decode cX7_behindEnds 115 = .ok (.goto (-113), 3) := dk_167 255 143 (dk_at dksX7_behindEnds_4 21 rfl rfl)
theorem dX7_behindEnds_118 : decode cX7_behindEnds 118 = .ok (.iload_n 2, 1) := dk_28 (dk_at dksX7_behindEnds_5 0 rfl rfl)
theorem dX7_behindEnds_119 : decode cX7_behindEnds 119 = .ok (.ireturn, 1) := dk_172 (dk_at dksX7_behindEnds_5 1 rfl rfl)
def dkwX7_lived_1 : List UInt8 := [42, 42, 180, 0, 59, 27, 46, 182, 0, 76, 167, 0, 9, 42, 16, 6, 182, 0, 72, 172]
abbrev dktX7_lived_1 : List UInt8 := dkwX7_lived_1 ++ []
def dkwX7_lived_0 : List UInt8 := [27, 155, 0, 8, 27, 5, 164, 0, 11, 42, 4, 182, 0, 72, 167, 0, 29, 42, 180, 1, 139, 153, 0, 16]
abbrev dktX7_lived_0 : List UInt8 := dkwX7_lived_0 ++ dktX7_lived_1
theorem dksX7_lived_0 : cX7_lived.data.toList.drop 0 = dktX7_lived_0 := by decide +kernel
theorem dksX7_lived_1 : cX7_lived.data.toList.drop 24 = dktX7_lived_1 := dk_seg dksX7_lived_0 24 rfl rfl
theorem dX7_lived_0 : decode cX7_lived 0 = .ok (.iload_n 1, 1) := dk_27 (dk_at dksX7_lived_0 0 rfl rfl)
theorem dX7_lived_1 : decode cX7_lived 1 = .ok (.ifCond .lt 8, 3) := dk_155 0 8 (dk_at dksX7_lived_0 1 rfl rfl)
theorem dX7_lived_4 : decode cX7_lived 4 = .ok (.iload_n 1, 1) := dk_27 (dk_at dksX7_lived_0 4 rfl rfl)
theorem dX7_lived_5 : decode cX7_lived 5 = .ok (.iconst 2, 1) := dk_5 (dk_at dksX7_lived_0 5 rfl rfl)
theorem dX7_lived_6 : decode cX7_lived 6 = .ok (.if_icmp .le 11, 3) := dk_164 0 11 (dk_at dksX7_lived_0 6 rfl rfl)
theorem dX7_lived_9 : decode cX7_lived 9 = .ok (.aload_n 0, 1) := dk_42 (dk_at dksX7_lived_0 9 rfl rfl)
theorem dX7_lived_10 : decode cX7_lived 10 = .ok (.iconst 1, 1) := dk_4 (dk_at dksX7_lived_0 10 rfl rfl)
theorem dX7_lived_11 : decode cX7_lived 11 = .ok (.invokevirtual 72, 3) := dk_182 0 72 (dk_at dksX7_lived_0 11 rfl rfl)
theorem dX7_lived_14 : decode cX7_lived 14 = .ok (.goto 29, 3) := dk_167 0 29 (dk_at dksX7_lived_0 14 rfl rfl)
theorem dX7_lived_17 : decode cX7_lived 17 = .ok (.aload_n 0, 1) := dk_42 (dk_at dksX7_lived_0 17 rfl rfl)
theorem dX7_lived_18 : decode cX7_lived 18 = .ok (.getfield 395, 3) := dk_180 1 139 (dk_at dksX7_lived_0 18 rfl rfl)
theorem dX7_lived_21 : decode cX7_lived 21 = .ok (.ifCond .eq 16, 3) := dk_153 0 16 (dk_at dksX7_lived_0 21 rfl rfl)
theorem dX7_lived_24 : decode cX7_lived 24 = .ok (.aload_n 0, 1) := dk_42 (dk_at dksX7_lived_1 0 rfl rfl)
theorem dX7_lived_25 : decode cX7_lived 25 = .ok (.aload_n 0, 1) := dk_42 (dk_at dksX7_lived_1 1 rfl rfl)
theorem dX7_lived_26 : decode cX7_lived 26 = .ok (.getfield 59, 3) := dk_180 0 59 (dk_at dksX7_lived_1 2 rfl rfl)
theorem dX7_lived_29 : decode cX7_lived 29 = .ok (.iload_n 1, 1) := dk_27 (dk_at dksX7_lived_1 5 rfl rfl)
theorem dX7_lived_30 : decode cX7_lived 30 = .ok (.iaload, 1) := dk_46 (dk_at dksX7_lived_1 6 rfl rfl)
theorem dX7_lived_31 : decode cX7_lived 31 = .ok (.invokevirtual 76, 3) := dk_182 0 76 (dk_at dksX7_lived_1 7 rfl rfl)
theorem dX7_lived_34 : decode cX7_lived 34 = .ok (.goto 9, 3) := dk_167 0 9 (dk_at dksX7_lived_1 10 rfl rfl)
theorem dX7_lived_37 : decode cX7_lived 37 = .ok (.aload_n 0, 1) := dk_42 (dk_at dksX7_lived_1 13 rfl rfl)
theorem dX7_lived_38 : decode cX7_lived 38 = .ok (.bipush 6, 2) := dk_16 6 (dk_at dksX7_lived_1 14 rfl rfl)
theorem dX7_lived_40 : decode cX7_lived 40 = .ok (.invokevirtual 72, 3) := dk_182 0 72 (dk_at dksX7_lived_1 16 rfl rfl)
theorem dX7_lived_43 : decode cX7_lived 43 = .ok (.ireturn, 1) := dk_172 (dk_at dksX7_lived_1 19 rfl rfl)
def dkwX7_odds_8 : List UInt8 := [132, 7, 1, 167, 255, 227, 132, 6, 1, 167, 255, 180, 42, 21, 5, 133, 21, 4, 133, 182, 1, 98, 172]
abbrev dktX7_odds_8 : List UInt8 := dkwX7_odds_8 ++ []
def dkwX7_odds_7 : List UInt8 := [17, 3, 92, 162, 0, 27, 42, 180, 0, 7, 21, 7, 42, 180, 0, 7, 17, 24, 6, 21, 7, 96, 46, 79]
abbrev dktX7_odds_7 : List UInt8 := dkwX7_odds_7 ++ dktX7_odds_8
def dkwX7_odds_6 : List UInt8 := [184, 0, 217, 3, 182, 1, 27, 28, 161, 0, 7, 4, 167, 0, 4, 3, 96, 54, 5, 3, 54, 7, 21, 7]
abbrev dktX7_odds_6 : List UInt8 := dkwX7_odds_6 ++ dktX7_odds_7
def dkwX7_odds_5 : List UInt8 := [54, 5, 3, 54, 6, 21, 6, 21, 4, 162, 0, 75, 42, 29, 21, 6, 96, 182, 1, 136, 21, 5, 42, 27]
abbrev dktX7_odds_5 : List UInt8 := dkwX7_odds_5 ++ dktX7_odds_6
def dkwX7_odds_4 : List UInt8 := [180, 0, 7, 17, 24, 6, 21, 5, 96, 42, 180, 0, 7, 21, 5, 46, 79, 132, 5, 1, 167, 255, 227, 3]
abbrev dktX7_odds_4 : List UInt8 := dkwX7_odds_4 ++ dktX7_odds_5
def dkwX7_odds_3 : List UInt8 := [2, 160, 0, 10, 42, 16, 6, 182, 0, 79, 172, 3, 54, 5, 21, 5, 17, 3, 92, 162, 0, 27, 42]
abbrev dktX7_odds_3 : List UInt8 := dkwX7_odds_3 ++ dktX7_odds_4
def dkwX7_odds_2 : List UInt8 := [21, 4, 96, 4, 100, 17, 39, 15, 164, 0, 9, 42, 4, 182, 0, 79, 172, 42, 180, 0, 7, 16, 10, 46]
abbrev dktX7_odds_2 : List UInt8 := dkwX7_odds_2 ++ dktX7_odds_3
def dkwX7_odds_1 : List UInt8 := [20, 1, 59, 184, 1, 50, 153, 0, 28, 21, 4, 133, 10, 20, 1, 143, 184, 1, 50, 153, 0, 15, 29]
abbrev dktX7_odds_1 : List UInt8 := dkwX7_odds_1 ++ dktX7_odds_2
def dkwX7_odds_0 : List UInt8 := [42, 27, 182, 1, 18, 153, 0, 52, 28, 133, 9, 20, 1, 59, 184, 1, 50, 153, 0, 40, 29, 133, 9]
abbrev dktX7_odds_0 : List UInt8 := dkwX7_odds_0 ++ dktX7_odds_1
theorem dksX7_odds_0 : cX7_odds.data.toList.drop 0 = dktX7_odds_0 := by decide +kernel
theorem dksX7_odds_1 : cX7_odds.data.toList.drop 23 = dktX7_odds_1 := dk_seg dksX7_odds_0 23 rfl rfl
theorem dksX7_odds_2 : cX7_odds.data.toList.drop 46 = dktX7_odds_2 := dk_seg dksX7_odds_1 23 rfl rfl
theorem dksX7_odds_3 : cX7_odds.data.toList.drop 70 = dktX7_odds_3 := dk_seg dksX7_odds_2 24 rfl rfl
theorem dksX7_odds_4 : cX7_odds.data.toList.drop 93 = dktX7_odds_4 := dk_seg dksX7_odds_3 23 rfl rfl
theorem dksX7_odds_5 : cX7_odds.data.toList.drop 117 = dktX7_odds_5 := dk_seg dksX7_odds_4 24 rfl rfl
theorem dksX7_odds_6 : cX7_odds.data.toList.drop 141 = dktX7_odds_6 := dk_seg dksX7_odds_5 24 rfl rfl
theorem dksX7_odds_7 : cX7_odds.data.toList.drop 165 = dktX7_odds_7 := dk_seg dksX7_odds_6 24 rfl rfl
theorem dksX7_odds_8 : cX7_odds.data.toList.drop 189 = dktX7_odds_8 := dk_seg dksX7_odds_7 24 rfl rfl
theorem dX7_odds_0 : decode cX7_odds 0 = .ok (.aload_n 0, 1) := dk_42 (dk_at dksX7_odds_0 0 rfl rfl)
theorem dX7_odds_1 : decode cX7_odds 1 = .ok (.iload_n 1, 1) := dk_27 (dk_at dksX7_odds_0 1 rfl rfl)
theorem dX7_odds_2 : decode cX7_odds 2 = .ok (.invokevirtual 274, 3) := dk_182 1 18 (dk_at dksX7_odds_0 2 rfl rfl)
theorem dX7_odds_5 : decode cX7_odds 5 = .ok (.ifCond .eq 52, 3) := dk_153 0 52 (dk_at dksX7_odds_0 5 rfl rfl)
theorem dX7_odds_8 : decode cX7_odds 8 = .ok (.iload_n 2, 1) := dk_28 (dk_at dksX7_odds_0 8 rfl rfl)
theorem dX7_odds_9 : decode cX7_odds 9 = .ok (.i2l, 1) := dk_133 (dk_at dksX7_odds_0 9 rfl rfl)
theorem dX7_odds_10 : decode cX7_odds 10 = .ok (.lconst 0, 1) := dk_9 (dk_at dksX7_odds_0 10 rfl rfl)
theorem dX7_odds_11 : decode cX7_odds 11 = .ok (.ldc2_w 315, 3) := dk_20 1 59 (dk_at dksX7_odds_0 11 rfl rfl)
theorem dX7_odds_14 : decode cX7_odds 14 = .ok (.invokestatic 306, 3) := dk_184 1 50 (dk_at dksX7_odds_0 14 rfl rfl)
theorem dX7_odds_17 : decode cX7_odds 17 = .ok (.ifCond .eq 40, 3) := dk_153 0 40 (dk_at dksX7_odds_0 17 rfl rfl)
theorem dX7_odds_20 : decode cX7_odds 20 = .ok (.iload_n 3, 1) := dk_29 (dk_at dksX7_odds_0 20 rfl rfl)
theorem dX7_odds_21 : decode cX7_odds 21 = .ok (.i2l, 1) := dk_133 (dk_at dksX7_odds_0 21 rfl rfl)
theorem dX7_odds_22 : decode cX7_odds 22 = .ok (.lconst 0, 1) := dk_9 (dk_at dksX7_odds_0 22 rfl rfl)
theorem dX7_odds_23 : decode cX7_odds 23 = .ok (.ldc2_w 315, 3) := dk_20 1 59 (dk_at dksX7_odds_1 0 rfl rfl)
theorem dX7_odds_26 : decode cX7_odds 26 = .ok (.invokestatic 306, 3) := dk_184 1 50 (dk_at dksX7_odds_1 3 rfl rfl)
theorem dX7_odds_29 : decode cX7_odds 29 = .ok (.ifCond .eq 28, 3) := dk_153 0 28 (dk_at dksX7_odds_1 6 rfl rfl)
theorem dX7_odds_32 : decode cX7_odds 32 = .ok (.iload 4, 2) := dk_21 4 (dk_at dksX7_odds_1 9 rfl rfl)
theorem dX7_odds_34 : decode cX7_odds 34 = .ok (.i2l, 1) := dk_133 (dk_at dksX7_odds_1 11 rfl rfl)
theorem dX7_odds_35 : decode cX7_odds 35 = .ok (.lconst 1, 1) := dk_10 (dk_at dksX7_odds_1 12 rfl rfl)
theorem dX7_odds_36 : decode cX7_odds 36 = .ok (.ldc2_w 399, 3) := dk_20 1 143 (dk_at dksX7_odds_1 13 rfl rfl)
theorem dX7_odds_39 : decode cX7_odds 39 = .ok (.invokestatic 306, 3) := dk_184 1 50 (dk_at dksX7_odds_1 16 rfl rfl)
theorem dX7_odds_42 : decode cX7_odds 42 = .ok (.ifCond .eq 15, 3) := dk_153 0 15 (dk_at dksX7_odds_1 19 rfl rfl)
theorem dX7_odds_45 : decode cX7_odds 45 = .ok (.iload_n 3, 1) := dk_29 (dk_at dksX7_odds_1 22 rfl rfl)
theorem dX7_odds_46 : decode cX7_odds 46 = .ok (.iload 4, 2) := dk_21 4 (dk_at dksX7_odds_2 0 rfl rfl)
theorem dX7_odds_48 : decode cX7_odds 48 = .ok (.iadd, 1) := dk_96 (dk_at dksX7_odds_2 2 rfl rfl)
theorem dX7_odds_49 : decode cX7_odds 49 = .ok (.iconst 1, 1) := dk_4 (dk_at dksX7_odds_2 3 rfl rfl)
theorem dX7_odds_50 : decode cX7_odds 50 = .ok (.isub, 1) := dk_100 (dk_at dksX7_odds_2 4 rfl rfl)
theorem dX7_odds_51 : decode cX7_odds 51 = .ok (.sipush 9999, 3) := dk_17 39 15 (dk_at dksX7_odds_2 5 rfl rfl)
theorem dX7_odds_54 : decode cX7_odds 54 = .ok (.if_icmp .le 9, 3) := dk_164 0 9 (dk_at dksX7_odds_2 8 rfl rfl)
theorem dX7_odds_57 : decode cX7_odds 57 = .ok (.aload_n 0, 1) := dk_42 (dk_at dksX7_odds_2 11 rfl rfl)
theorem dX7_odds_58 : decode cX7_odds 58 = .ok (.iconst 1, 1) := dk_4 (dk_at dksX7_odds_2 12 rfl rfl)
theorem dX7_odds_59 : decode cX7_odds 59 = .ok (.invokevirtual 79, 3) := dk_182 0 79 (dk_at dksX7_odds_2 13 rfl rfl)
theorem dX7_odds_62 : decode cX7_odds 62 = .ok (.ireturn, 1) := dk_172 (dk_at dksX7_odds_2 16 rfl rfl)
theorem dX7_odds_63 : decode cX7_odds 63 = .ok (.aload_n 0, 1) := dk_42 (dk_at dksX7_odds_2 17 rfl rfl)
theorem dX7_odds_64 : decode cX7_odds 64 = .ok (.getfield 7, 3) := dk_180 0 7 (dk_at dksX7_odds_2 18 rfl rfl)
theorem dX7_odds_67 : decode cX7_odds 67 = .ok (.bipush 10, 2) := dk_16 10 (dk_at dksX7_odds_2 21 rfl rfl)
theorem dX7_odds_69 : decode cX7_odds 69 = .ok (.iaload, 1) := dk_46 (dk_at dksX7_odds_2 23 rfl rfl)
theorem dX7_odds_70 : decode cX7_odds 70 = .ok (.iconst (-1), 1) := dk_2 (dk_at dksX7_odds_3 0 rfl rfl)
theorem dX7_odds_71 : decode cX7_odds 71 = .ok (.if_icmp .ne 10, 3) := dk_160 0 10 (dk_at dksX7_odds_3 1 rfl rfl)
theorem dX7_odds_74 : decode cX7_odds 74 = .ok (.aload_n 0, 1) := dk_42 (dk_at dksX7_odds_3 4 rfl rfl)
theorem dX7_odds_75 : decode cX7_odds 75 = .ok (.bipush 6, 2) := dk_16 6 (dk_at dksX7_odds_3 5 rfl rfl)
theorem dX7_odds_77 : decode cX7_odds 77 = .ok (.invokevirtual 79, 3) := dk_182 0 79 (dk_at dksX7_odds_3 7 rfl rfl)
theorem dX7_odds_80 : decode cX7_odds 80 = .ok (.ireturn, 1) := dk_172 (dk_at dksX7_odds_3 10 rfl rfl)
theorem dX7_odds_81 : decode cX7_odds 81 = .ok (.iconst 0, 1) := dk_3 (dk_at dksX7_odds_3 11 rfl rfl)
theorem dX7_odds_82 : decode cX7_odds 82 = .ok (.istore 5, 2) := dk_54 5 (dk_at dksX7_odds_3 12 rfl rfl)
theorem dX7_odds_84 : decode cX7_odds 84 = .ok (.iload 5, 2) := dk_21 5 (dk_at dksX7_odds_3 14 rfl rfl)
theorem dX7_odds_86 : decode cX7_odds 86 = .ok (.sipush 860, 3) := dk_17 3 92 (dk_at dksX7_odds_3 16 rfl rfl)
theorem dX7_odds_89 : decode cX7_odds 89 = .ok (.if_icmp .ge 27, 3) := dk_162 0 27 (dk_at dksX7_odds_3 19 rfl rfl)
theorem dX7_odds_92 : decode cX7_odds 92 = .ok (.aload_n 0, 1) := dk_42 (dk_at dksX7_odds_3 22 rfl rfl)
theorem dX7_odds_93 : decode cX7_odds 93 = .ok (.getfield 7, 3) := dk_180 0 7 (dk_at dksX7_odds_4 0 rfl rfl)
theorem dX7_odds_96 : decode cX7_odds 96 = .ok (.sipush 6150, 3) := dk_17 24 6 (dk_at dksX7_odds_4 3 rfl rfl)
theorem dX7_odds_99 : decode cX7_odds 99 = .ok (.iload 5, 2) := dk_21 5 (dk_at dksX7_odds_4 6 rfl rfl)
theorem dX7_odds_101 : decode cX7_odds 101 = .ok (.iadd, 1) := dk_96 (dk_at dksX7_odds_4 8 rfl rfl)
theorem dX7_odds_102 : decode cX7_odds 102 = .ok (.aload_n 0, 1) := dk_42 (dk_at dksX7_odds_4 9 rfl rfl)
theorem dX7_odds_103 : decode cX7_odds 103 = .ok (.getfield 7, 3) := dk_180 0 7 (dk_at dksX7_odds_4 10 rfl rfl)
theorem dX7_odds_106 : decode cX7_odds 106 = .ok (.iload 5, 2) := dk_21 5 (dk_at dksX7_odds_4 13 rfl rfl)
theorem dX7_odds_108 : decode cX7_odds 108 = .ok (.iaload, 1) := dk_46 (dk_at dksX7_odds_4 15 rfl rfl)
theorem dX7_odds_109 : decode cX7_odds 109 = .ok (.iastore, 1) := dk_79 (dk_at dksX7_odds_4 16 rfl rfl)
theorem dX7_odds_110 : decode cX7_odds 110 = .ok (.iinc 5 1, 3) := dk_132 5 1 (dk_at dksX7_odds_4 17 rfl rfl)
theorem dX7_odds_113 : decode cX7_odds 113 = .ok (.goto (-29), 3) := dk_167 255 227 (dk_at dksX7_odds_4 20 rfl rfl)
theorem dX7_odds_116 : decode cX7_odds 116 = .ok (.iconst 0, 1) := dk_3 (dk_at dksX7_odds_4 23 rfl rfl)
theorem dX7_odds_117 : decode cX7_odds 117 = .ok (.istore 5, 2) := dk_54 5 (dk_at dksX7_odds_5 0 rfl rfl)
theorem dX7_odds_119 : decode cX7_odds 119 = .ok (.iconst 0, 1) := dk_3 (dk_at dksX7_odds_5 2 rfl rfl)
theorem dX7_odds_120 : decode cX7_odds 120 = .ok (.istore 6, 2) := dk_54 6 (dk_at dksX7_odds_5 3 rfl rfl)
theorem dX7_odds_122 : decode cX7_odds 122 = .ok (.iload 6, 2) := dk_21 6 (dk_at dksX7_odds_5 5 rfl rfl)
theorem dX7_odds_124 : decode cX7_odds 124 = .ok (.iload 4, 2) := dk_21 4 (dk_at dksX7_odds_5 7 rfl rfl)
theorem dX7_odds_126 : decode cX7_odds 126 = .ok (.if_icmp .ge 75, 3) := dk_162 0 75 (dk_at dksX7_odds_5 9 rfl rfl)
theorem dX7_odds_129 : decode cX7_odds 129 = .ok (.aload_n 0, 1) := dk_42 (dk_at dksX7_odds_5 12 rfl rfl)
theorem dX7_odds_130 : decode cX7_odds 130 = .ok (.iload_n 3, 1) := dk_29 (dk_at dksX7_odds_5 13 rfl rfl)
theorem dX7_odds_131 : decode cX7_odds 131 = .ok (.iload 6, 2) := dk_21 6 (dk_at dksX7_odds_5 14 rfl rfl)
theorem dX7_odds_133 : decode cX7_odds 133 = .ok (.iadd, 1) := dk_96 (dk_at dksX7_odds_5 16 rfl rfl)
theorem dX7_odds_134 : decode cX7_odds 134 = .ok (.invokevirtual 392, 3) := dk_182 1 136 (dk_at dksX7_odds_5 17 rfl rfl)
theorem dX7_odds_137 : decode cX7_odds 137 = .ok (.iload 5, 2) := dk_21 5 (dk_at dksX7_odds_5 20 rfl rfl)
theorem dX7_odds_139 : decode cX7_odds 139 = .ok (.aload_n 0, 1) := dk_42 (dk_at dksX7_odds_5 22 rfl rfl)
theorem dX7_odds_140 : decode cX7_odds 140 = .ok (.iload_n 1, 1) := dk_27 (dk_at dksX7_odds_5 23 rfl rfl)
theorem dX7_odds_141 : decode cX7_odds 141 = .ok (.invokestatic 217, 3) := dk_184 0 217 (dk_at dksX7_odds_6 0 rfl rfl)
theorem dX7_odds_144 : decode cX7_odds 144 = .ok (.iconst 0, 1) := dk_3 (dk_at dksX7_odds_6 3 rfl rfl)
theorem dX7_odds_145 : decode cX7_odds 145 = .ok (.invokevirtual 283, 3) := dk_182 1 27 (dk_at dksX7_odds_6 4 rfl rfl)
theorem dX7_odds_148 : decode cX7_odds 148 = .ok (.iload_n 2, 1) := dk_28 (dk_at dksX7_odds_6 7 rfl rfl)
theorem dX7_odds_149 : decode cX7_odds 149 = .ok (.if_icmp .lt 7, 3) := dk_161 0 7 (dk_at dksX7_odds_6 8 rfl rfl)
theorem dX7_odds_152 : decode cX7_odds 152 = .ok (.iconst 1, 1) := dk_4 (dk_at dksX7_odds_6 11 rfl rfl)
theorem dX7_odds_153 : decode cX7_odds 153 = .ok (.goto 4, 3) := dk_167 0 4 (dk_at dksX7_odds_6 12 rfl rfl)
theorem dX7_odds_156 : decode cX7_odds 156 = .ok (.iconst 0, 1) := dk_3 (dk_at dksX7_odds_6 15 rfl rfl)
theorem dX7_odds_157 : decode cX7_odds 157 = .ok (.iadd, 1) := dk_96 (dk_at dksX7_odds_6 16 rfl rfl)
theorem dX7_odds_158 : decode cX7_odds 158 = .ok (.istore 5, 2) := dk_54 5 (dk_at dksX7_odds_6 17 rfl rfl)
theorem dX7_odds_160 : decode cX7_odds 160 = .ok (.iconst 0, 1) := dk_3 (dk_at dksX7_odds_6 19 rfl rfl)
theorem dX7_odds_161 : decode cX7_odds 161 = .ok (.istore 7, 2) := dk_54 7 (dk_at dksX7_odds_6 20 rfl rfl)
theorem dX7_odds_163 : decode cX7_odds 163 = .ok (.iload 7, 2) := dk_21 7 (dk_at dksX7_odds_6 22 rfl rfl)
theorem dX7_odds_165 : decode cX7_odds 165 = .ok (.sipush 860, 3) := dk_17 3 92 (dk_at dksX7_odds_7 0 rfl rfl)
theorem dX7_odds_168 : decode cX7_odds 168 = .ok (.if_icmp .ge 27, 3) := dk_162 0 27 (dk_at dksX7_odds_7 3 rfl rfl)
theorem dX7_odds_171 : decode cX7_odds 171 = .ok (.aload_n 0, 1) := dk_42 (dk_at dksX7_odds_7 6 rfl rfl)
theorem dX7_odds_172 : decode cX7_odds 172 = .ok (.getfield 7, 3) := dk_180 0 7 (dk_at dksX7_odds_7 7 rfl rfl)
theorem dX7_odds_175 : decode cX7_odds 175 = .ok (.iload 7, 2) := dk_21 7 (dk_at dksX7_odds_7 10 rfl rfl)
theorem dX7_odds_177 : decode cX7_odds 177 = .ok (.aload_n 0, 1) := dk_42 (dk_at dksX7_odds_7 12 rfl rfl)
theorem dX7_odds_178 : decode cX7_odds 178 = .ok (.getfield 7, 3) := dk_180 0 7 (dk_at dksX7_odds_7 13 rfl rfl)
theorem dX7_odds_181 : decode cX7_odds 181 = .ok (.sipush 6150, 3) := dk_17 24 6 (dk_at dksX7_odds_7 16 rfl rfl)
theorem dX7_odds_184 : decode cX7_odds 184 = .ok (.iload 7, 2) := dk_21 7 (dk_at dksX7_odds_7 19 rfl rfl)
theorem dX7_odds_186 : decode cX7_odds 186 = .ok (.iadd, 1) := dk_96 (dk_at dksX7_odds_7 21 rfl rfl)
theorem dX7_odds_187 : decode cX7_odds 187 = .ok (.iaload, 1) := dk_46 (dk_at dksX7_odds_7 22 rfl rfl)
theorem dX7_odds_188 : decode cX7_odds 188 = .ok (.iastore, 1) := dk_79 (dk_at dksX7_odds_7 23 rfl rfl)
theorem dX7_odds_189 : decode cX7_odds 189 = .ok (.iinc 7 1, 3) := dk_132 7 1 (dk_at dksX7_odds_8 0 rfl rfl)
theorem dX7_odds_192 : decode cX7_odds 192 = .ok (.goto (-29), 3) := dk_167 255 227 (dk_at dksX7_odds_8 3 rfl rfl)
theorem dX7_odds_195 : decode cX7_odds 195 = .ok (.iinc 6 1, 3) := dk_132 6 1 (dk_at dksX7_odds_8 6 rfl rfl)
theorem dX7_odds_198 : decode cX7_odds 198 = .ok (.goto (-76), 3) := dk_167 255 180 (dk_at dksX7_odds_8 9 rfl rfl)
theorem dX7_odds_201 : decode cX7_odds 201 = .ok (.aload_n 0, 1) := dk_42 (dk_at dksX7_odds_8 12 rfl rfl)
theorem dX7_odds_202 : decode cX7_odds 202 = .ok (.iload 5, 2) := dk_21 5 (dk_at dksX7_odds_8 13 rfl rfl)
theorem dX7_odds_204 : decode cX7_odds 204 = .ok (.i2l, 1) := dk_133 (dk_at dksX7_odds_8 15 rfl rfl)
theorem dX7_odds_205 : decode cX7_odds 205 = .ok (.iload 4, 2) := dk_21 4 (dk_at dksX7_odds_8 16 rfl rfl)
theorem dX7_odds_207 : decode cX7_odds 207 = .ok (.i2l, 1) := dk_133 (dk_at dksX7_odds_8 18 rfl rfl)
theorem dX7_odds_208 : decode cX7_odds 208 = .ok (.invokevirtual 354, 3) := dk_182 1 98 (dk_at dksX7_odds_8 19 rfl rfl)
theorem dX7_odds_211 : decode cX7_odds 211 = .ok (.ireturn, 1) := dk_172 (dk_at dksX7_odds_8 22 rfl rfl)
def dkwX7_mark_1 : List UInt8 := [42, 3, 42, 180, 1, 145, 182, 1, 148, 42, 42, 180, 1, 145, 182, 0, 76, 172]
abbrev dktX7_mark_1 : List UInt8 := dkwX7_mark_1 ++ []
def dkwX7_mark_0 : List UInt8 := [42, 180, 1, 145, 6, 160, 0, 9, 42, 7, 182, 0, 72, 172, 42, 89, 180, 1, 145, 4, 96, 181, 1, 145]
abbrev dktX7_mark_0 : List UInt8 := dkwX7_mark_0 ++ dktX7_mark_1
theorem dksX7_mark_0 : cX7_mark.data.toList.drop 0 = dktX7_mark_0 := by decide +kernel
theorem dksX7_mark_1 : cX7_mark.data.toList.drop 24 = dktX7_mark_1 := dk_seg dksX7_mark_0 24 rfl rfl
theorem dX7_mark_0 : decode cX7_mark 0 = .ok (.aload_n 0, 1) := dk_42 (dk_at dksX7_mark_0 0 rfl rfl)
theorem dX7_mark_1 : decode cX7_mark 1 = .ok (.getfield 401, 3) := dk_180 1 145 (dk_at dksX7_mark_0 1 rfl rfl)
theorem dX7_mark_4 : decode cX7_mark 4 = .ok (.iconst 3, 1) := dk_6 (dk_at dksX7_mark_0 4 rfl rfl)
theorem dX7_mark_5 : decode cX7_mark 5 = .ok (.if_icmp .ne 9, 3) := dk_160 0 9 (dk_at dksX7_mark_0 5 rfl rfl)
theorem dX7_mark_8 : decode cX7_mark 8 = .ok (.aload_n 0, 1) := dk_42 (dk_at dksX7_mark_0 8 rfl rfl)
theorem dX7_mark_9 : decode cX7_mark 9 = .ok (.iconst 4, 1) := dk_7 (dk_at dksX7_mark_0 9 rfl rfl)
theorem dX7_mark_10 : decode cX7_mark 10 = .ok (.invokevirtual 72, 3) := dk_182 0 72 (dk_at dksX7_mark_0 10 rfl rfl)
theorem dX7_mark_13 : decode cX7_mark 13 = .ok (.ireturn, 1) := dk_172 (dk_at dksX7_mark_0 13 rfl rfl)
theorem dX7_mark_14 : decode cX7_mark 14 = .ok (.aload_n 0, 1) := dk_42 (dk_at dksX7_mark_0 14 rfl rfl)
theorem dX7_mark_15 : decode cX7_mark 15 = .ok (.dup, 1) := dk_89 (dk_at dksX7_mark_0 15 rfl rfl)
theorem dX7_mark_16 : decode cX7_mark 16 = .ok (.getfield 401, 3) := dk_180 1 145 (dk_at dksX7_mark_0 16 rfl rfl)
theorem dX7_mark_19 : decode cX7_mark 19 = .ok (.iconst 1, 1) := dk_4 (dk_at dksX7_mark_0 19 rfl rfl)
theorem dX7_mark_20 : decode cX7_mark 20 = .ok (.iadd, 1) := dk_96 (dk_at dksX7_mark_0 20 rfl rfl)
theorem dX7_mark_21 : decode cX7_mark 21 = .ok (.putfield 401, 3) := dk_181 1 145 (dk_at dksX7_mark_0 21 rfl rfl)
theorem dX7_mark_24 : decode cX7_mark 24 = .ok (.aload_n 0, 1) := dk_42 (dk_at dksX7_mark_1 0 rfl rfl)
theorem dX7_mark_25 : decode cX7_mark 25 = .ok (.iconst 0, 1) := dk_3 (dk_at dksX7_mark_1 1 rfl rfl)
theorem dX7_mark_26 : decode cX7_mark 26 = .ok (.aload_n 0, 1) := dk_42 (dk_at dksX7_mark_1 2 rfl rfl)
theorem dX7_mark_27 : decode cX7_mark 27 = .ok (.getfield 401, 3) := dk_180 1 145 (dk_at dksX7_mark_1 3 rfl rfl)
theorem dX7_mark_30 : decode cX7_mark 30 = .ok (.invokevirtual 404, 3) := dk_182 1 148 (dk_at dksX7_mark_1 6 rfl rfl)
theorem dX7_mark_33 : decode cX7_mark 33 = .ok (.aload_n 0, 1) := dk_42 (dk_at dksX7_mark_1 9 rfl rfl)
theorem dX7_mark_34 : decode cX7_mark 34 = .ok (.aload_n 0, 1) := dk_42 (dk_at dksX7_mark_1 10 rfl rfl)
theorem dX7_mark_35 : decode cX7_mark 35 = .ok (.getfield 401, 3) := dk_180 1 145 (dk_at dksX7_mark_1 11 rfl rfl)
theorem dX7_mark_38 : decode cX7_mark 38 = .ok (.invokevirtual 76, 3) := dk_182 0 76 (dk_at dksX7_mark_1 14 rfl rfl)
theorem dX7_mark_41 : decode cX7_mark 41 = .ok (.ireturn, 1) := dk_172 (dk_at dksX7_mark_1 17 rfl rfl)
def dkwX7_copies_3 : List UInt8 := [167, 255, 225, 177]
abbrev dktX7_copies_3 : List UInt8 := dkwX7_copies_3 ++ []
def dkwX7_copies_2 : List UInt8 := [180, 0, 13, 16, 20, 28, 104, 29, 96, 42, 180, 0, 13, 16, 20, 27, 104, 29, 96, 47, 80, 132, 3, 1]
abbrev dktX7_copies_2 : List UInt8 := dkwX7_copies_2 ++ dktX7_copies_3
def dkwX7_copies_1 : List UInt8 := [17, 4, 206, 27, 104, 29, 96, 46, 79, 132, 3, 1, 167, 255, 222, 3, 62, 29, 16, 20, 162, 0, 31, 42]
abbrev dktX7_copies_1 : List UInt8 := dkwX7_copies_1 ++ dktX7_copies_2
def dkwX7_copies_0 : List UInt8 := [3, 62, 29, 17, 4, 206, 162, 0, 33, 42, 180, 0, 7, 17, 4, 206, 28, 104, 29, 96, 42, 180, 0, 7]
abbrev dktX7_copies_0 : List UInt8 := dkwX7_copies_0 ++ dktX7_copies_1
theorem dksX7_copies_0 : cX7_copies.data.toList.drop 0 = dktX7_copies_0 := by decide +kernel
theorem dksX7_copies_1 : cX7_copies.data.toList.drop 24 = dktX7_copies_1 := dk_seg dksX7_copies_0 24 rfl rfl
theorem dksX7_copies_2 : cX7_copies.data.toList.drop 48 = dktX7_copies_2 := dk_seg dksX7_copies_1 24 rfl rfl
theorem dksX7_copies_3 : cX7_copies.data.toList.drop 72 = dktX7_copies_3 := dk_seg dksX7_copies_2 24 rfl rfl
theorem dX7_copies_0 : decode cX7_copies 0 = .ok (.iconst 0, 1) := dk_3 (dk_at dksX7_copies_0 0 rfl rfl)
theorem dX7_copies_1 : decode cX7_copies 1 = .ok (.istore_n 3, 1) := dk_62 (dk_at dksX7_copies_0 1 rfl rfl)
theorem dX7_copies_2 : decode cX7_copies 2 = .ok (.iload_n 3, 1) := dk_29 (dk_at dksX7_copies_0 2 rfl rfl)
theorem dX7_copies_3 : decode cX7_copies 3 = .ok (.sipush 1230, 3) := dk_17 4 206 (dk_at dksX7_copies_0 3 rfl rfl)
theorem dX7_copies_6 : decode cX7_copies 6 = .ok (.if_icmp .ge 33, 3) := dk_162 0 33 (dk_at dksX7_copies_0 6 rfl rfl)
theorem dX7_copies_9 : decode cX7_copies 9 = .ok (.aload_n 0, 1) := dk_42 (dk_at dksX7_copies_0 9 rfl rfl)
theorem dX7_copies_10 : decode cX7_copies 10 = .ok (.getfield 7, 3) := dk_180 0 7 (dk_at dksX7_copies_0 10 rfl rfl)
theorem dX7_copies_13 : decode cX7_copies 13 = .ok (.sipush 1230, 3) := dk_17 4 206 (dk_at dksX7_copies_0 13 rfl rfl)
theorem dX7_copies_16 : decode cX7_copies 16 = .ok (.iload_n 2, 1) := dk_28 (dk_at dksX7_copies_0 16 rfl rfl)
theorem dX7_copies_17 : decode cX7_copies 17 = .ok (.imul, 1) := dk_104 (dk_at dksX7_copies_0 17 rfl rfl)
theorem dX7_copies_18 : decode cX7_copies 18 = .ok (.iload_n 3, 1) := dk_29 (dk_at dksX7_copies_0 18 rfl rfl)
theorem dX7_copies_19 : decode cX7_copies 19 = .ok (.iadd, 1) := dk_96 (dk_at dksX7_copies_0 19 rfl rfl)
theorem dX7_copies_20 : decode cX7_copies 20 = .ok (.aload_n 0, 1) := dk_42 (dk_at dksX7_copies_0 20 rfl rfl)
theorem dX7_copies_21 : decode cX7_copies 21 = .ok (.getfield 7, 3) := dk_180 0 7 (dk_at dksX7_copies_0 21 rfl rfl)
theorem dX7_copies_24 : decode cX7_copies 24 = .ok (.sipush 1230, 3) := dk_17 4 206 (dk_at dksX7_copies_1 0 rfl rfl)
theorem dX7_copies_27 : decode cX7_copies 27 = .ok (.iload_n 1, 1) := dk_27 (dk_at dksX7_copies_1 3 rfl rfl)
theorem dX7_copies_28 : decode cX7_copies 28 = .ok (.imul, 1) := dk_104 (dk_at dksX7_copies_1 4 rfl rfl)
theorem dX7_copies_29 : decode cX7_copies 29 = .ok (.iload_n 3, 1) := dk_29 (dk_at dksX7_copies_1 5 rfl rfl)
theorem dX7_copies_30 : decode cX7_copies 30 = .ok (.iadd, 1) := dk_96 (dk_at dksX7_copies_1 6 rfl rfl)
theorem dX7_copies_31 : decode cX7_copies 31 = .ok (.iaload, 1) := dk_46 (dk_at dksX7_copies_1 7 rfl rfl)
theorem dX7_copies_32 : decode cX7_copies 32 = .ok (.iastore, 1) := dk_79 (dk_at dksX7_copies_1 8 rfl rfl)
theorem dX7_copies_33 : decode cX7_copies 33 = .ok (.iinc 3 1, 3) := dk_132 3 1 (dk_at dksX7_copies_1 9 rfl rfl)
theorem dX7_copies_36 : decode cX7_copies 36 = .ok (.goto (-34), 3) := dk_167 255 222 (dk_at dksX7_copies_1 12 rfl rfl)
theorem dX7_copies_39 : decode cX7_copies 39 = .ok (.iconst 0, 1) := dk_3 (dk_at dksX7_copies_1 15 rfl rfl)
theorem dX7_copies_40 : decode cX7_copies 40 = .ok (.istore_n 3, 1) := dk_62 (dk_at dksX7_copies_1 16 rfl rfl)
theorem dX7_copies_41 : decode cX7_copies 41 = .ok (.iload_n 3, 1) := dk_29 (dk_at dksX7_copies_1 17 rfl rfl)
theorem dX7_copies_42 : decode cX7_copies 42 = .ok (.bipush 20, 2) := dk_16 20 (dk_at dksX7_copies_1 18 rfl rfl)
theorem dX7_copies_44 : decode cX7_copies 44 = .ok (.if_icmp .ge 31, 3) := dk_162 0 31 (dk_at dksX7_copies_1 20 rfl rfl)
theorem dX7_copies_47 : decode cX7_copies 47 = .ok (.aload_n 0, 1) := dk_42 (dk_at dksX7_copies_1 23 rfl rfl)
theorem dX7_copies_48 : decode cX7_copies 48 = .ok (.getfield 13, 3) := dk_180 0 13 (dk_at dksX7_copies_2 0 rfl rfl)
theorem dX7_copies_51 : decode cX7_copies 51 = .ok (.bipush 20, 2) := dk_16 20 (dk_at dksX7_copies_2 3 rfl rfl)
theorem dX7_copies_53 : decode cX7_copies 53 = .ok (.iload_n 2, 1) := dk_28 (dk_at dksX7_copies_2 5 rfl rfl)
theorem dX7_copies_54 : decode cX7_copies 54 = .ok (.imul, 1) := dk_104 (dk_at dksX7_copies_2 6 rfl rfl)
theorem dX7_copies_55 : decode cX7_copies 55 = .ok (.iload_n 3, 1) := dk_29 (dk_at dksX7_copies_2 7 rfl rfl)
theorem dX7_copies_56 : decode cX7_copies 56 = .ok (.iadd, 1) := dk_96 (dk_at dksX7_copies_2 8 rfl rfl)
theorem dX7_copies_57 : decode cX7_copies 57 = .ok (.aload_n 0, 1) := dk_42 (dk_at dksX7_copies_2 9 rfl rfl)
theorem dX7_copies_58 : decode cX7_copies 58 = .ok (.getfield 13, 3) := dk_180 0 13 (dk_at dksX7_copies_2 10 rfl rfl)
theorem dX7_copies_61 : decode cX7_copies 61 = .ok (.bipush 20, 2) := dk_16 20 (dk_at dksX7_copies_2 13 rfl rfl)
theorem dX7_copies_63 : decode cX7_copies 63 = .ok (.iload_n 1, 1) := dk_27 (dk_at dksX7_copies_2 15 rfl rfl)
theorem dX7_copies_64 : decode cX7_copies 64 = .ok (.imul, 1) := dk_104 (dk_at dksX7_copies_2 16 rfl rfl)
theorem dX7_copies_65 : decode cX7_copies 65 = .ok (.iload_n 3, 1) := dk_29 (dk_at dksX7_copies_2 17 rfl rfl)
theorem dX7_copies_66 : decode cX7_copies 66 = .ok (.iadd, 1) := dk_96 (dk_at dksX7_copies_2 18 rfl rfl)
theorem dX7_copies_67 : decode cX7_copies 67 = .ok (.laload, 1) := dk_47 (dk_at dksX7_copies_2 19 rfl rfl)
theorem dX7_copies_68 : decode cX7_copies 68 = .ok (.lastore, 1) := dk_80 (dk_at dksX7_copies_2 20 rfl rfl)
theorem dX7_copies_69 : decode cX7_copies 69 = .ok (.iinc 3 1, 3) := dk_132 3 1 (dk_at dksX7_copies_2 21 rfl rfl)
theorem dX7_copies_72 : decode cX7_copies 72 = .ok (.goto (-31), 3) := dk_167 255 225 (dk_at dksX7_copies_3 0 rfl rfl)
theorem dX7_copies_75 : decode cX7_copies 75 = .ok (.return_, 1) := dk_177 (dk_at dksX7_copies_3 3 rfl rfl)
def dkwX7_back_1 : List UInt8 := [89, 180, 1, 145, 4, 100, 181, 1, 145, 42, 42, 180, 1, 145, 182, 0, 76, 172]
abbrev dktX7_back_1 : List UInt8 := dkwX7_back_1 ++ []
def dkwX7_back_0 : List UInt8 := [42, 180, 1, 145, 154, 0, 10, 42, 16, 6, 182, 0, 72, 172, 42, 42, 180, 1, 145, 3, 182, 1, 148, 42]
abbrev dktX7_back_0 : List UInt8 := dkwX7_back_0 ++ dktX7_back_1
theorem dksX7_back_0 : cX7_back.data.toList.drop 0 = dktX7_back_0 := by decide +kernel
theorem dksX7_back_1 : cX7_back.data.toList.drop 24 = dktX7_back_1 := dk_seg dksX7_back_0 24 rfl rfl
theorem dX7_back_0 : decode cX7_back 0 = .ok (.aload_n 0, 1) := dk_42 (dk_at dksX7_back_0 0 rfl rfl)
theorem dX7_back_1 : decode cX7_back 1 = .ok (.getfield 401, 3) := dk_180 1 145 (dk_at dksX7_back_0 1 rfl rfl)
theorem dX7_back_4 : decode cX7_back 4 = .ok (.ifCond .ne 10, 3) := dk_154 0 10 (dk_at dksX7_back_0 4 rfl rfl)
theorem dX7_back_7 : decode cX7_back 7 = .ok (.aload_n 0, 1) := dk_42 (dk_at dksX7_back_0 7 rfl rfl)
theorem dX7_back_8 : decode cX7_back 8 = .ok (.bipush 6, 2) := dk_16 6 (dk_at dksX7_back_0 8 rfl rfl)
theorem dX7_back_10 : decode cX7_back 10 = .ok (.invokevirtual 72, 3) := dk_182 0 72 (dk_at dksX7_back_0 10 rfl rfl)
theorem dX7_back_13 : decode cX7_back 13 = .ok (.ireturn, 1) := dk_172 (dk_at dksX7_back_0 13 rfl rfl)
theorem dX7_back_14 : decode cX7_back 14 = .ok (.aload_n 0, 1) := dk_42 (dk_at dksX7_back_0 14 rfl rfl)
theorem dX7_back_15 : decode cX7_back 15 = .ok (.aload_n 0, 1) := dk_42 (dk_at dksX7_back_0 15 rfl rfl)
theorem dX7_back_16 : decode cX7_back 16 = .ok (.getfield 401, 3) := dk_180 1 145 (dk_at dksX7_back_0 16 rfl rfl)
theorem dX7_back_19 : decode cX7_back 19 = .ok (.iconst 0, 1) := dk_3 (dk_at dksX7_back_0 19 rfl rfl)
theorem dX7_back_20 : decode cX7_back 20 = .ok (.invokevirtual 404, 3) := dk_182 1 148 (dk_at dksX7_back_0 20 rfl rfl)
theorem dX7_back_23 : decode cX7_back 23 = .ok (.aload_n 0, 1) := dk_42 (dk_at dksX7_back_0 23 rfl rfl)
theorem dX7_back_24 : decode cX7_back 24 = .ok (.dup, 1) := dk_89 (dk_at dksX7_back_1 0 rfl rfl)
theorem dX7_back_25 : decode cX7_back 25 = .ok (.getfield 401, 3) := dk_180 1 145 (dk_at dksX7_back_1 1 rfl rfl)
theorem dX7_back_28 : decode cX7_back 28 = .ok (.iconst 1, 1) := dk_4 (dk_at dksX7_back_1 4 rfl rfl)
theorem dX7_back_29 : decode cX7_back 29 = .ok (.isub, 1) := dk_100 (dk_at dksX7_back_1 5 rfl rfl)
theorem dX7_back_30 : decode cX7_back 30 = .ok (.putfield 401, 3) := dk_181 1 145 (dk_at dksX7_back_1 6 rfl rfl)
theorem dX7_back_33 : decode cX7_back 33 = .ok (.aload_n 0, 1) := dk_42 (dk_at dksX7_back_1 9 rfl rfl)
theorem dX7_back_34 : decode cX7_back 34 = .ok (.aload_n 0, 1) := dk_42 (dk_at dksX7_back_1 10 rfl rfl)
theorem dX7_back_35 : decode cX7_back 35 = .ok (.getfield 401, 3) := dk_180 1 145 (dk_at dksX7_back_1 11 rfl rfl)
theorem dX7_back_38 : decode cX7_back 38 = .ok (.invokevirtual 76, 3) := dk_182 0 76 (dk_at dksX7_back_1 14 rfl rfl)
theorem dX7_back_41 : decode cX7_back 41 = .ok (.ireturn, 1) := dk_172 (dk_at dksX7_back_1 17 rfl rfl)
def dkwJ2_init_0 : List UInt8 := [42, 43, 183, 0, 7, 177]
abbrev dktJ2_init_0 : List UInt8 := dkwJ2_init_0 ++ []
theorem dksJ2_init_0 : cJ2_init.data.toList.drop 0 = dktJ2_init_0 := by decide +kernel
theorem dJ2_init_0 : decode cJ2_init 0 = .ok (.aload_n 0, 1) := dk_42 (dk_at dksJ2_init_0 0 rfl rfl)
theorem dJ2_init_1 : decode cJ2_init 1 = .ok (.aload_n 1, 1) := dk_43 (dk_at dksJ2_init_0 1 rfl rfl)
theorem dJ2_init_2 : decode cJ2_init 2 = .ok (.invokespecial 7, 3) := dk_183 0 7 (dk_at dksJ2_init_0 2 rfl rfl)
theorem dJ2_init_5 : decode cJ2_init 5 = .ok (.return_, 1) := dk_177 (dk_at dksJ2_init_0 5 rfl rfl)
def dkwJ3_init_0 : List UInt8 := [42, 43, 183, 0, 7, 177]
abbrev dktJ3_init_0 : List UInt8 := dkwJ3_init_0 ++ []
theorem dksJ3_init_0 : cJ3_init.data.toList.drop 0 = dktJ3_init_0 := by decide +kernel
theorem dJ3_init_0 : decode cJ3_init 0 = .ok (.aload_n 0, 1) := dk_42 (dk_at dksJ3_init_0 0 rfl rfl)
theorem dJ3_init_1 : decode cJ3_init 1 = .ok (.aload_n 1, 1) := dk_43 (dk_at dksJ3_init_0 1 rfl rfl)
theorem dJ3_init_2 : decode cJ3_init 2 = .ok (.invokespecial 7, 3) := dk_183 0 7 (dk_at dksJ3_init_0 2 rfl rfl)
theorem dJ3_init_5 : decode cJ3_init 5 = .ok (.return_, 1) := dk_177 (dk_at dksJ3_init_0 5 rfl rfl)
def dkwJ4_length_0 : List UInt8 := [42, 180, 0, 9, 190, 42, 182, 1, 79, 122, 172]
abbrev dktJ4_length_0 : List UInt8 := dkwJ4_length_0 ++ []
theorem dksJ4_length_0 : cJ4_length.data.toList.drop 0 = dktJ4_length_0 := by decide +kernel
theorem dJ4_length_0 : decode cJ4_length 0 = .ok (.aload_n 0, 1) := dk_42 (dk_at dksJ4_length_0 0 rfl rfl)
theorem dJ4_length_1 : decode cJ4_length 1 = .ok (.getfield 9, 3) := dk_180 0 9 (dk_at dksJ4_length_0 1 rfl rfl)
theorem dJ4_length_4 : decode cJ4_length 4 = .ok (.arraylength, 1) := dk_190 (dk_at dksJ4_length_0 4 rfl rfl)
theorem dJ4_length_5 : decode cJ4_length 5 = .ok (.aload_n 0, 1) := dk_42 (dk_at dksJ4_length_0 5 rfl rfl)
theorem dJ4_length_6 : decode cJ4_length 6 = .ok (.invokevirtual 335, 3) := dk_182 1 79 (dk_at dksJ4_length_0 6 rfl rfl)
theorem dJ4_length_9 : decode cJ4_length 9 = .ok (.ishr, 1) := dk_122 (dk_at dksJ4_length_0 9 rfl rfl)
theorem dJ4_length_10 : decode cJ4_length 10 = .ok (.ireturn, 1) := dk_172 (dk_at dksJ4_length_0 10 rfl rfl)
def dkwJ4_coder_0 : List UInt8 := [178, 0, 38, 153, 0, 10, 42, 180, 0, 15, 167, 0, 4, 4, 172]
abbrev dktJ4_coder_0 : List UInt8 := dkwJ4_coder_0 ++ []
theorem dksJ4_coder_0 : cJ4_coder.data.toList.drop 0 = dktJ4_coder_0 := by decide +kernel
theorem dJ4_coder_0 : decode cJ4_coder 0 = .ok (.getstatic 38, 3) := dk_178 0 38 (dk_at dksJ4_coder_0 0 rfl rfl)
theorem dJ4_coder_3 : decode cJ4_coder 3 = .ok (.ifCond .eq 10, 3) := dk_153 0 10 (dk_at dksJ4_coder_0 3 rfl rfl)
theorem dJ4_coder_6 : decode cJ4_coder 6 = .ok (.aload_n 0, 1) := dk_42 (dk_at dksJ4_coder_0 6 rfl rfl)
theorem dJ4_coder_7 : decode cJ4_coder 7 = .ok (.getfield 15, 3) := dk_180 0 15 (dk_at dksJ4_coder_0 7 rfl rfl)
theorem dJ4_coder_10 : decode cJ4_coder 10 = .ok (.goto 4, 3) := dk_167 0 4 (dk_at dksJ4_coder_0 10 rfl rfl)
theorem dJ4_coder_13 : decode cJ4_coder 13 = .ok (.iconst 1, 1) := dk_4 (dk_at dksJ4_coder_0 13 rfl rfl)
theorem dJ4_coder_14 : decode cJ4_coder 14 = .ok (.ireturn, 1) := dk_172 (dk_at dksJ4_coder_0 14 rfl rfl)
def dkwJ4_charAt_1 : List UInt8 := [172]
abbrev dktJ4_charAt_1 : List UInt8 := dkwJ4_charAt_1 ++ []
def dkwJ4_charAt_0 : List UInt8 := [42, 182, 1, 236, 153, 0, 12, 42, 180, 0, 9, 27, 184, 1, 239, 172, 42, 180, 0, 9, 27, 184, 1, 242]
abbrev dktJ4_charAt_0 : List UInt8 := dkwJ4_charAt_0 ++ dktJ4_charAt_1
theorem dksJ4_charAt_0 : cJ4_charAt.data.toList.drop 0 = dktJ4_charAt_0 := by decide +kernel
theorem dksJ4_charAt_1 : cJ4_charAt.data.toList.drop 24 = dktJ4_charAt_1 := dk_seg dksJ4_charAt_0 24 rfl rfl
theorem dJ4_charAt_0 : decode cJ4_charAt 0 = .ok (.aload_n 0, 1) := dk_42 (dk_at dksJ4_charAt_0 0 rfl rfl)
theorem dJ4_charAt_1 : decode cJ4_charAt 1 = .ok (.invokevirtual 492, 3) := dk_182 1 236 (dk_at dksJ4_charAt_0 1 rfl rfl)
theorem dJ4_charAt_4 : decode cJ4_charAt 4 = .ok (.ifCond .eq 12, 3) := dk_153 0 12 (dk_at dksJ4_charAt_0 4 rfl rfl)
theorem dJ4_charAt_7 : decode cJ4_charAt 7 = .ok (.aload_n 0, 1) := dk_42 (dk_at dksJ4_charAt_0 7 rfl rfl)
theorem dJ4_charAt_8 : decode cJ4_charAt 8 = .ok (.getfield 9, 3) := dk_180 0 9 (dk_at dksJ4_charAt_0 8 rfl rfl)
theorem dJ4_charAt_11 : decode cJ4_charAt 11 = .ok (.iload_n 1, 1) := dk_27 (dk_at dksJ4_charAt_0 11 rfl rfl)
theorem dJ4_charAt_12 : decode cJ4_charAt 12 = .ok (.invokestatic 495, 3) := dk_184 1 239 (dk_at dksJ4_charAt_0 12 rfl rfl)
theorem dJ4_charAt_15 : decode cJ4_charAt 15 = .ok (.ireturn, 1) := dk_172 (dk_at dksJ4_charAt_0 15 rfl rfl)
theorem dJ4_charAt_16 : decode cJ4_charAt 16 = .ok (.aload_n 0, 1) := dk_42 (dk_at dksJ4_charAt_0 16 rfl rfl)
theorem dJ4_charAt_17 : decode cJ4_charAt 17 = .ok (.getfield 9, 3) := dk_180 0 9 (dk_at dksJ4_charAt_0 17 rfl rfl)
theorem dJ4_charAt_20 : decode cJ4_charAt 20 = .ok (.iload_n 1, 1) := dk_27 (dk_at dksJ4_charAt_0 20 rfl rfl)
theorem dJ4_charAt_21 : decode cJ4_charAt 21 = .ok (.invokestatic 498, 3) := dk_184 1 242 (dk_at dksJ4_charAt_0 21 rfl rfl)
theorem dJ4_charAt_24 : decode cJ4_charAt 24 = .ok (.ireturn, 1) := dk_172 (dk_at dksJ4_charAt_1 0 rfl rfl)
def dkwJ4_isLatin1_0 : List UInt8 := [178, 0, 38, 153, 0, 14, 42, 180, 0, 15, 154, 0, 7, 4, 167, 0, 4, 3, 172]
abbrev dktJ4_isLatin1_0 : List UInt8 := dkwJ4_isLatin1_0 ++ []
theorem dksJ4_isLatin1_0 : cJ4_isLatin1.data.toList.drop 0 = dktJ4_isLatin1_0 := by decide +kernel
theorem dJ4_isLatin1_0 : decode cJ4_isLatin1 0 = .ok (.getstatic 38, 3) := dk_178 0 38 (dk_at dksJ4_isLatin1_0 0 rfl rfl)
theorem dJ4_isLatin1_3 : decode cJ4_isLatin1 3 = .ok (.ifCond .eq 14, 3) := dk_153 0 14 (dk_at dksJ4_isLatin1_0 3 rfl rfl)
theorem dJ4_isLatin1_6 : decode cJ4_isLatin1 6 = .ok (.aload_n 0, 1) := dk_42 (dk_at dksJ4_isLatin1_0 6 rfl rfl)
theorem dJ4_isLatin1_7 : decode cJ4_isLatin1 7 = .ok (.getfield 15, 3) := dk_180 0 15 (dk_at dksJ4_isLatin1_0 7 rfl rfl)
theorem dJ4_isLatin1_10 : decode cJ4_isLatin1 10 = .ok (.ifCond .ne 7, 3) := dk_154 0 7 (dk_at dksJ4_isLatin1_0 10 rfl rfl)
theorem dJ4_isLatin1_13 : decode cJ4_isLatin1 13 = .ok (.iconst 1, 1) := dk_4 (dk_at dksJ4_isLatin1_0 13 rfl rfl)
theorem dJ4_isLatin1_14 : decode cJ4_isLatin1 14 = .ok (.goto 4, 3) := dk_167 0 4 (dk_at dksJ4_isLatin1_0 14 rfl rfl)
theorem dJ4_isLatin1_17 : decode cJ4_isLatin1 17 = .ok (.iconst 0, 1) := dk_3 (dk_at dksJ4_isLatin1_0 17 rfl rfl)
theorem dJ4_isLatin1_18 : decode cJ4_isLatin1 18 = .ok (.ireturn, 1) := dk_172 (dk_at dksJ4_isLatin1_0 18 rfl rfl)
def dkwJ4_checkIndex_0 : List UInt8 := [26, 27, 178, 4, 29, 184, 4, 35, 87, 177]
abbrev dktJ4_checkIndex_0 : List UInt8 := dkwJ4_checkIndex_0 ++ []
theorem dksJ4_checkIndex_0 : cJ4_checkIndex.data.toList.drop 0 = dktJ4_checkIndex_0 := by decide +kernel
theorem dJ4_checkIndex_0 : decode cJ4_checkIndex 0 = .ok (.iload_n 0, 1) := dk_26 (dk_at dksJ4_checkIndex_0 0 rfl rfl)
theorem dJ4_checkIndex_1 : decode cJ4_checkIndex 1 = .ok (.iload_n 1, 1) := dk_27 (dk_at dksJ4_checkIndex_0 1 rfl rfl)
theorem dJ4_checkIndex_2 : decode cJ4_checkIndex 2 = .ok (.getstatic 1053, 3) := dk_178 4 29 (dk_at dksJ4_checkIndex_0 2 rfl rfl)
theorem dJ4_checkIndex_5 : decode cJ4_checkIndex 5 = .ok (.invokestatic 1059, 3) := dk_184 4 35 (dk_at dksJ4_checkIndex_0 5 rfl rfl)
theorem dJ4_checkIndex_8 : decode cJ4_checkIndex 8 = .ok (.pop, 1) := dk_87 (dk_at dksJ4_checkIndex_0 8 rfl rfl)
theorem dJ4_checkIndex_9 : decode cJ4_checkIndex 9 = .ok (.return_, 1) := dk_177 (dk_at dksJ4_checkIndex_0 9 rfl rfl)
def dkwJ5_init_0 : List UInt8 := [42, 43, 183, 0, 7, 177]
abbrev dktJ5_init_0 : List UInt8 := dkwJ5_init_0 ++ []
theorem dksJ5_init_0 : cJ5_init.data.toList.drop 0 = dktJ5_init_0 := by decide +kernel
theorem dJ5_init_0 : decode cJ5_init 0 = .ok (.aload_n 0, 1) := dk_42 (dk_at dksJ5_init_0 0 rfl rfl)
theorem dJ5_init_1 : decode cJ5_init 1 = .ok (.aload_n 1, 1) := dk_43 (dk_at dksJ5_init_0 1 rfl rfl)
theorem dJ5_init_2 : decode cJ5_init 2 = .ok (.invokespecial 7, 3) := dk_183 0 7 (dk_at dksJ5_init_0 2 rfl rfl)
theorem dJ5_init_5 : decode cJ5_init 5 = .ok (.return_, 1) := dk_177 (dk_at dksJ5_init_0 5 rfl rfl)
def dkwJ6_init_0 : List UInt8 := [42, 43, 183, 0, 7, 177]
abbrev dktJ6_init_0 : List UInt8 := dkwJ6_init_0 ++ []
theorem dksJ6_init_0 : cJ6_init.data.toList.drop 0 = dktJ6_init_0 := by decide +kernel
theorem dJ6_init_0 : decode cJ6_init 0 = .ok (.aload_n 0, 1) := dk_42 (dk_at dksJ6_init_0 0 rfl rfl)
theorem dJ6_init_1 : decode cJ6_init 1 = .ok (.aload_n 1, 1) := dk_43 (dk_at dksJ6_init_0 1 rfl rfl)
theorem dJ6_init_2 : decode cJ6_init 2 = .ok (.invokespecial 7, 3) := dk_183 0 7 (dk_at dksJ6_init_0 2 rfl rfl)
theorem dJ6_init_5 : decode cJ6_init 5 = .ok (.return_, 1) := dk_177 (dk_at dksJ6_init_0 5 rfl rfl)
def dkwX8_init_0 : List UInt8 := [42, 43, 181, 0, 3, 42, 183, 0, 9, 42, 28, 181, 0, 15, 42, 182, 0, 19, 177]
abbrev dktX8_init_0 : List UInt8 := dkwX8_init_0 ++ []
theorem dksX8_init_0 : cX8_init.data.toList.drop 0 = dktX8_init_0 := by decide +kernel
theorem dX8_init_0 : decode cX8_init 0 = .ok (.aload_n 0, 1) := dk_42 (dk_at dksX8_init_0 0 rfl rfl)
theorem dX8_init_1 : decode cX8_init 1 = .ok (.aload_n 1, 1) := dk_43 (dk_at dksX8_init_0 1 rfl rfl)
theorem dX8_init_2 : decode cX8_init 2 = .ok (.putfield 3, 3) := dk_181 0 3 (dk_at dksX8_init_0 2 rfl rfl)
theorem dX8_init_5 : decode cX8_init 5 = .ok (.aload_n 0, 1) := dk_42 (dk_at dksX8_init_0 5 rfl rfl)
theorem dX8_init_6 : decode cX8_init 6 = .ok (.invokespecial 9, 3) := dk_183 0 9 (dk_at dksX8_init_0 6 rfl rfl)
theorem dX8_init_9 : decode cX8_init 9 = .ok (.aload_n 0, 1) := dk_42 (dk_at dksX8_init_0 9 rfl rfl)
theorem dX8_init_10 : decode cX8_init 10 = .ok (.iload_n 2, 1) := dk_28 (dk_at dksX8_init_0 10 rfl rfl)
theorem dX8_init_11 : decode cX8_init 11 = .ok (.putfield 15, 3) := dk_181 0 15 (dk_at dksX8_init_0 11 rfl rfl)
theorem dX8_init_14 : decode cX8_init 14 = .ok (.aload_n 0, 1) := dk_42 (dk_at dksX8_init_0 14 rfl rfl)
theorem dX8_init_15 : decode cX8_init 15 = .ok (.invokevirtual 19, 3) := dk_182 0 19 (dk_at dksX8_init_0 15 rfl rfl)
theorem dX8_init_18 : decode cX8_init 18 = .ok (.return_, 1) := dk_177 (dk_at dksX8_init_0 18 rfl rfl)
def dkwX8_next_13 : List UInt8 := [180, 0, 22, 42, 180, 0, 29, 51, 16, 61, 160, 0, 7, 6, 167, 0, 4, 7, 181, 0, 32, 177]
abbrev dktX8_next_13 : List UInt8 := dkwX8_next_13 ++ []
def dkwX8_next_12 : List UInt8 := [159, 0, 37, 42, 180, 0, 3, 180, 0, 22, 42, 180, 0, 29, 51, 16, 62, 159, 0, 20, 42, 180, 0, 3]
abbrev dktX8_next_12 : List UInt8 := dkwX8_next_12 ++ dktX8_next_13
def dkwX8_next_11 : List UInt8 := [180, 0, 29, 51, 16, 59, 159, 0, 54, 42, 180, 0, 3, 180, 0, 22, 42, 180, 0, 29, 51, 16, 60]
abbrev dktX8_next_11 : List UInt8 := dkwX8_next_11 ++ dktX8_next_12
def dkwX8_next_10 : List UInt8 := [167, 0, 90, 42, 42, 180, 0, 29, 4, 96, 181, 0, 26, 42, 42, 180, 0, 3, 180, 0, 22, 42]
abbrev dktX8_next_10 : List UInt8 := dkwX8_next_10 ++ dktX8_next_11
def dkwX8_next_9 : List UInt8 := [42, 42, 180, 0, 26, 42, 180, 0, 29, 100, 7, 164, 0, 7, 7, 167, 0, 4, 5, 181, 0, 32]
abbrev dktX8_next_9 : List UInt8 := dkwX8_next_9 ++ dktX8_next_10
def dkwX8_next_8 : List UInt8 := [180, 0, 26, 51, 96, 16, 48, 100, 181, 0, 42, 42, 89, 180, 0, 26, 4, 96, 181, 0, 26, 167, 255, 195]
abbrev dktX8_next_8 : List UInt8 := dkwX8_next_8 ++ dktX8_next_9
def dkwX8_next_7 : List UInt8 := [180, 0, 29, 100, 7, 162, 0, 30, 42, 16, 10, 42, 180, 0, 42, 104, 42, 180, 0, 3, 180, 0, 22, 42]
abbrev dktX8_next_7 : List UInt8 := dkwX8_next_7 ++ dktX8_next_8
def dkwX8_next_6 : List UInt8 := [153, 0, 97, 42, 3, 181, 0, 42, 42, 42, 180, 0, 26, 182, 0, 39, 153, 0, 56, 42, 180, 0, 26, 42]
abbrev dktX8_next_6 : List UInt8 := dkwX8_next_6 ++ dktX8_next_7
def dkwX8_next_5 : List UInt8 := [153, 0, 208, 42, 89, 180, 0, 26, 4, 96, 181, 0, 26, 167, 255, 235, 42, 42, 180, 0, 29, 182, 0, 39]
abbrev dktX8_next_5 : List UInt8 := dkwX8_next_5 ++ dktX8_next_6
def dkwX8_next_4 : List UInt8 := [180, 0, 29, 182, 0, 35, 153, 0, 32, 42, 4, 181, 0, 32, 42, 42, 180, 0, 26, 182, 0, 35]
abbrev dktX8_next_4 : List UInt8 := dkwX8_next_4 ++ dktX8_next_5
def dkwX8_next_3 : List UInt8 := [181, 0, 26, 42, 3, 181, 0, 32, 42, 180, 0, 29, 42, 180, 0, 15, 161, 0, 4, 177, 42, 42]
abbrev dktX8_next_3 : List UInt8 := dkwX8_next_3 ++ dktX8_next_4
def dkwX8_next_2 : List UInt8 := [51, 16, 32, 160, 0, 16, 42, 89, 180, 0, 29, 4, 96, 181, 0, 29, 167, 255, 201, 42, 42, 180, 0, 29]
abbrev dktX8_next_2 : List UInt8 := dkwX8_next_2 ++ dktX8_next_3
def dkwX8_next_1 : List UInt8 := [180, 0, 22, 42, 180, 0, 29, 51, 16, 10, 159, 0, 20, 42, 180, 0, 3, 180, 0, 22, 42, 180, 0, 29]
abbrev dktX8_next_1 : List UInt8 := dkwX8_next_1 ++ dktX8_next_2
def dkwX8_next_0 : List UInt8 := [42, 42, 180, 0, 26, 181, 0, 29, 42, 180, 0, 29, 42, 180, 0, 15, 162, 0, 50, 42, 180, 0, 3]
abbrev dktX8_next_0 : List UInt8 := dkwX8_next_0 ++ dktX8_next_1
theorem dksX8_next_0 : cX8_next.data.toList.drop 0 = dktX8_next_0 := by decide +kernel
theorem dksX8_next_1 : cX8_next.data.toList.drop 23 = dktX8_next_1 := dk_seg dksX8_next_0 23 rfl rfl
theorem dksX8_next_2 : cX8_next.data.toList.drop 47 = dktX8_next_2 := dk_seg dksX8_next_1 24 rfl rfl
theorem dksX8_next_3 : cX8_next.data.toList.drop 71 = dktX8_next_3 := dk_seg dksX8_next_2 24 rfl rfl
theorem dksX8_next_4 : cX8_next.data.toList.drop 93 = dktX8_next_4 := dk_seg dksX8_next_3 22 rfl rfl
theorem dksX8_next_5 : cX8_next.data.toList.drop 115 = dktX8_next_5 := dk_seg dksX8_next_4 22 rfl rfl
theorem dksX8_next_6 : cX8_next.data.toList.drop 139 = dktX8_next_6 := dk_seg dksX8_next_5 24 rfl rfl
theorem dksX8_next_7 : cX8_next.data.toList.drop 163 = dktX8_next_7 := dk_seg dksX8_next_6 24 rfl rfl
theorem dksX8_next_8 : cX8_next.data.toList.drop 187 = dktX8_next_8 := dk_seg dksX8_next_7 24 rfl rfl
theorem dksX8_next_9 : cX8_next.data.toList.drop 211 = dktX8_next_9 := dk_seg dksX8_next_8 24 rfl rfl
theorem dksX8_next_10 : cX8_next.data.toList.drop 233 = dktX8_next_10 := dk_seg dksX8_next_9 22 rfl rfl
theorem dksX8_next_11 : cX8_next.data.toList.drop 255 = dktX8_next_11 := dk_seg dksX8_next_10 22 rfl rfl
theorem dksX8_next_12 : cX8_next.data.toList.drop 278 = dktX8_next_12 := dk_seg dksX8_next_11 23 rfl rfl
theorem dksX8_next_13 : cX8_next.data.toList.drop 302 = dktX8_next_13 := dk_seg dksX8_next_12 24 rfl rfl
theorem dX8_next_0 : decode cX8_next 0 = .ok (.aload_n 0, 1) := dk_42 (dk_at dksX8_next_0 0 rfl rfl)
theorem dX8_next_1 : decode cX8_next 1 = .ok (.aload_n 0, 1) := dk_42 (dk_at dksX8_next_0 1 rfl rfl)
theorem dX8_next_2 : decode cX8_next 2 = .ok (.getfield 26, 3) := dk_180 0 26 (dk_at dksX8_next_0 2 rfl rfl)
theorem dX8_next_5 : decode cX8_next 5 = .ok (.putfield 29, 3) := dk_181 0 29 (dk_at dksX8_next_0 5 rfl rfl)
theorem dX8_next_8 : decode cX8_next 8 = .ok (.aload_n 0, 1) := dk_42 (dk_at dksX8_next_0 8 rfl rfl)
theorem dX8_next_9 : decode cX8_next 9 = .ok (.getfield 29, 3) := dk_180 0 29 (dk_at dksX8_next_0 9 rfl rfl)
theorem dX8_next_12 : decode cX8_next 12 = .ok (.aload_n 0, 1) := dk_42 (dk_at dksX8_next_0 12 rfl rfl)
theorem dX8_next_13 : decode cX8_next 13 = .ok (.getfield 15, 3) := dk_180 0 15 (dk_at dksX8_next_0 13 rfl rfl)
theorem dX8_next_16 : decode cX8_next 16 = .ok (.if_icmp .ge 50, 3) := dk_162 0 50 (dk_at dksX8_next_0 16 rfl rfl)
theorem dX8_next_19 : decode cX8_next 19 = .ok (.aload_n 0, 1) := dk_42 (dk_at dksX8_next_0 19 rfl rfl)
theorem dX8_next_20 : decode cX8_next 20 = .ok (.getfield 3, 3) := dk_180 0 3 (dk_at dksX8_next_0 20 rfl rfl)
theorem dX8_next_23 : decode cX8_next 23 = .ok (.getfield 22, 3) := dk_180 0 22 (dk_at dksX8_next_1 0 rfl rfl)
theorem dX8_next_26 : decode cX8_next 26 = .ok (.aload_n 0, 1) := dk_42 (dk_at dksX8_next_1 3 rfl rfl)
theorem dX8_next_27 : decode cX8_next 27 = .ok (.getfield 29, 3) := dk_180 0 29 (dk_at dksX8_next_1 4 rfl rfl)
theorem dX8_next_30 : decode cX8_next 30 = .ok (.baload, 1) := dk_51 (dk_at dksX8_next_1 7 rfl rfl)
theorem dX8_next_31 : decode cX8_next 31 = .ok (.bipush 10, 2) := dk_16 10 (dk_at dksX8_next_1 8 rfl rfl)
theorem dX8_next_33 : decode cX8_next 33 = .ok (.if_icmp .eq 20, 3) := dk_159 0 20 (dk_at dksX8_next_1 10 rfl rfl)
theorem dX8_next_36 : decode cX8_next 36 = .ok (.aload_n 0, 1) := dk_42 (dk_at dksX8_next_1 13 rfl rfl)
theorem dX8_next_37 : decode cX8_next 37 = .ok (.getfield 3, 3) := dk_180 0 3 (dk_at dksX8_next_1 14 rfl rfl)
theorem dX8_next_40 : decode cX8_next 40 = .ok (.getfield 22, 3) := dk_180 0 22 (dk_at dksX8_next_1 17 rfl rfl)
theorem dX8_next_43 : decode cX8_next 43 = .ok (.aload_n 0, 1) := dk_42 (dk_at dksX8_next_1 20 rfl rfl)
theorem dX8_next_44 : decode cX8_next 44 = .ok (.getfield 29, 3) := dk_180 0 29 (dk_at dksX8_next_1 21 rfl rfl)
theorem dX8_next_47 : decode cX8_next 47 = .ok (.baload, 1) := dk_51 (dk_at dksX8_next_2 0 rfl rfl)
theorem dX8_next_48 : decode cX8_next 48 = .ok (.bipush 32, 2) := dk_16 32 (dk_at dksX8_next_2 1 rfl rfl)
theorem dX8_next_50 : decode cX8_next 50 = .ok (.if_icmp .ne 16, 3) := dk_160 0 16 (dk_at dksX8_next_2 3 rfl rfl)
theorem dX8_next_53 : decode cX8_next 53 = .ok (.aload_n 0, 1) := dk_42 (dk_at dksX8_next_2 6 rfl rfl)
theorem dX8_next_54 : decode cX8_next 54 = .ok (.dup, 1) := dk_89 (dk_at dksX8_next_2 7 rfl rfl)
theorem dX8_next_55 : decode cX8_next 55 = .ok (.getfield 29, 3) := dk_180 0 29 (dk_at dksX8_next_2 8 rfl rfl)
theorem dX8_next_58 : decode cX8_next 58 = .ok (.iconst 1, 1) := dk_4 (dk_at dksX8_next_2 11 rfl rfl)
theorem dX8_next_59 : decode cX8_next 59 = .ok (.iadd, 1) := dk_96 (dk_at dksX8_next_2 12 rfl rfl)
theorem dX8_next_60 : decode cX8_next 60 = .ok (.putfield 29, 3) := dk_181 0 29 (dk_at dksX8_next_2 13 rfl rfl)
theorem dX8_next_63 : decode cX8_next 63 = .ok (.goto (-55), 3) := dk_167 255 201 (dk_at dksX8_next_2 16 rfl rfl)
theorem dX8_next_66 : decode cX8_next 66 = .ok (.aload_n 0, 1) := dk_42 (dk_at dksX8_next_2 19 rfl rfl)
theorem dX8_next_67 : decode cX8_next 67 = .ok (.aload_n 0, 1) := dk_42 (dk_at dksX8_next_2 20 rfl rfl)
theorem dX8_next_68 : decode cX8_next 68 = .ok (.getfield 29, 3) := dk_180 0 29 (dk_at dksX8_next_2 21 rfl rfl)
theorem dX8_next_71 : decode cX8_next 71 = .ok (.putfield 26, 3) := dk_181 0 26 (dk_at dksX8_next_3 0 rfl rfl)
theorem dX8_next_74 : decode cX8_next 74 = .ok (.aload_n 0, 1) := dk_42 (dk_at dksX8_next_3 3 rfl rfl)
theorem dX8_next_75 : decode cX8_next 75 = .ok (.iconst 0, 1) := dk_3 (dk_at dksX8_next_3 4 rfl rfl)
theorem dX8_next_76 : decode cX8_next 76 = .ok (.putfield 32, 3) := dk_181 0 32 (dk_at dksX8_next_3 5 rfl rfl)
theorem dX8_next_79 : decode cX8_next 79 = .ok (.aload_n 0, 1) := dk_42 (dk_at dksX8_next_3 8 rfl rfl)
theorem dX8_next_80 : decode cX8_next 80 = .ok (.getfield 29, 3) := dk_180 0 29 (dk_at dksX8_next_3 9 rfl rfl)
theorem dX8_next_83 : decode cX8_next 83 = .ok (.aload_n 0, 1) := dk_42 (dk_at dksX8_next_3 12 rfl rfl)
theorem dX8_next_84 : decode cX8_next 84 = .ok (.getfield 15, 3) := dk_180 0 15 (dk_at dksX8_next_3 13 rfl rfl)
theorem dX8_next_87 : decode cX8_next 87 = .ok (.if_icmp .lt 4, 3) := dk_161 0 4 (dk_at dksX8_next_3 16 rfl rfl)
theorem dX8_next_90 : decode cX8_next 90 = .ok (.return_, 1) := dk_177 (dk_at dksX8_next_3 19 rfl rfl)
theorem dX8_next_91 : decode cX8_next 91 = .ok (.aload_n 0, 1) := dk_42 (dk_at dksX8_next_3 20 rfl rfl)
theorem dX8_next_92 : decode cX8_next 92 = .ok (.aload_n 0, 1) := dk_42 (dk_at dksX8_next_3 21 rfl rfl)
theorem dX8_next_93 : decode cX8_next 93 = .ok (.getfield 29, 3) := dk_180 0 29 (dk_at dksX8_next_4 0 rfl rfl)
theorem dX8_next_96 : decode cX8_next 96 = .ok (.invokevirtual 35, 3) := dk_182 0 35 (dk_at dksX8_next_4 3 rfl rfl)
theorem dX8_next_99 : decode cX8_next 99 = .ok (.ifCond .eq 32, 3) := dk_153 0 32 (dk_at dksX8_next_4 6 rfl rfl)
theorem dX8_next_102 : decode cX8_next 102 = .ok (.aload_n 0, 1) := dk_42 (dk_at dksX8_next_4 9 rfl rfl)
theorem dX8_next_103 : decode cX8_next 103 = .ok (.iconst 1, 1) := dk_4 (dk_at dksX8_next_4 10 rfl rfl)
theorem dX8_next_104 : decode cX8_next 104 = .ok (.putfield 32, 3) := dk_181 0 32 (dk_at dksX8_next_4 11 rfl rfl)
theorem dX8_next_107 : decode cX8_next 107 = .ok (.aload_n 0, 1) := dk_42 (dk_at dksX8_next_4 14 rfl rfl)
theorem dX8_next_108 : decode cX8_next 108 = .ok (.aload_n 0, 1) := dk_42 (dk_at dksX8_next_4 15 rfl rfl)
theorem dX8_next_109 : decode cX8_next 109 = .ok (.getfield 26, 3) := dk_180 0 26 (dk_at dksX8_next_4 16 rfl rfl)
theorem dX8_next_112 : decode cX8_next 112 = .ok (.invokevirtual 35, 3) := dk_182 0 35 (dk_at dksX8_next_4 19 rfl rfl)
theorem dX8_next_115 : decode cX8_next 115 = .ok (.ifCond .eq 208, 3) := dk_153 0 208 (dk_at dksX8_next_5 0 rfl rfl)
theorem dX8_next_118 : decode cX8_next 118 = .ok (.aload_n 0, 1) := dk_42 (dk_at dksX8_next_5 3 rfl rfl)
theorem dX8_next_119 : decode cX8_next 119 = .ok (.dup, 1) := dk_89 (dk_at dksX8_next_5 4 rfl rfl)
theorem dX8_next_120 : decode cX8_next 120 = .ok (.getfield 26, 3) := dk_180 0 26 (dk_at dksX8_next_5 5 rfl rfl)
theorem dX8_next_123 : decode cX8_next 123 = .ok (.iconst 1, 1) := dk_4 (dk_at dksX8_next_5 8 rfl rfl)
theorem dX8_next_124 : decode cX8_next 124 = .ok (.iadd, 1) := dk_96 (dk_at dksX8_next_5 9 rfl rfl)
theorem dX8_next_125 : decode cX8_next 125 = .ok (.putfield 26, 3) := dk_181 0 26 (dk_at dksX8_next_5 10 rfl rfl)
theorem dX8_next_128 : decode cX8_next 128 = .ok (.goto (-21), 3) := dk_167 255 235 (dk_at dksX8_next_5 13 rfl rfl)
theorem dX8_next_131 : decode cX8_next 131 = .ok (.aload_n 0, 1) := dk_42 (dk_at dksX8_next_5 16 rfl rfl)
theorem dX8_next_132 : decode cX8_next 132 = .ok (.aload_n 0, 1) := dk_42 (dk_at dksX8_next_5 17 rfl rfl)
theorem dX8_next_133 : decode cX8_next 133 = .ok (.getfield 29, 3) := dk_180 0 29 (dk_at dksX8_next_5 18 rfl rfl)
theorem dX8_next_136 : decode cX8_next 136 = .ok (.invokevirtual 39, 3) := dk_182 0 39 (dk_at dksX8_next_5 21 rfl rfl)
theorem dX8_next_139 : decode cX8_next 139 = .ok (.ifCond .eq 97, 3) := dk_153 0 97 (dk_at dksX8_next_6 0 rfl rfl)
theorem dX8_next_142 : decode cX8_next 142 = .ok (.aload_n 0, 1) := dk_42 (dk_at dksX8_next_6 3 rfl rfl)
theorem dX8_next_143 : decode cX8_next 143 = .ok (.iconst 0, 1) := dk_3 (dk_at dksX8_next_6 4 rfl rfl)
theorem dX8_next_144 : decode cX8_next 144 = .ok (.putfield 42, 3) := dk_181 0 42 (dk_at dksX8_next_6 5 rfl rfl)
theorem dX8_next_147 : decode cX8_next 147 = .ok (.aload_n 0, 1) := dk_42 (dk_at dksX8_next_6 8 rfl rfl)
theorem dX8_next_148 : decode cX8_next 148 = .ok (.aload_n 0, 1) := dk_42 (dk_at dksX8_next_6 9 rfl rfl)
theorem dX8_next_149 : decode cX8_next 149 = .ok (.getfield 26, 3) := dk_180 0 26 (dk_at dksX8_next_6 10 rfl rfl)
theorem dX8_next_152 : decode cX8_next 152 = .ok (.invokevirtual 39, 3) := dk_182 0 39 (dk_at dksX8_next_6 13 rfl rfl)
theorem dX8_next_155 : decode cX8_next 155 = .ok (.ifCond .eq 56, 3) := dk_153 0 56 (dk_at dksX8_next_6 16 rfl rfl)
theorem dX8_next_158 : decode cX8_next 158 = .ok (.aload_n 0, 1) := dk_42 (dk_at dksX8_next_6 19 rfl rfl)
theorem dX8_next_159 : decode cX8_next 159 = .ok (.getfield 26, 3) := dk_180 0 26 (dk_at dksX8_next_6 20 rfl rfl)
theorem dX8_next_162 : decode cX8_next 162 = .ok (.aload_n 0, 1) := dk_42 (dk_at dksX8_next_6 23 rfl rfl)
theorem dX8_next_163 : decode cX8_next 163 = .ok (.getfield 29, 3) := dk_180 0 29 (dk_at dksX8_next_7 0 rfl rfl)
theorem dX8_next_166 : decode cX8_next 166 = .ok (.isub, 1) := dk_100 (dk_at dksX8_next_7 3 rfl rfl)
theorem dX8_next_167 : decode cX8_next 167 = .ok (.iconst 4, 1) := dk_7 (dk_at dksX8_next_7 4 rfl rfl)
theorem dX8_next_168 : decode cX8_next 168 = .ok (.if_icmp .ge 30, 3) := dk_162 0 30 (dk_at dksX8_next_7 5 rfl rfl)
theorem dX8_next_171 : decode cX8_next 171 = .ok (.aload_n 0, 1) := dk_42 (dk_at dksX8_next_7 8 rfl rfl)
theorem dX8_next_172 : decode cX8_next 172 = .ok (.bipush 10, 2) := dk_16 10 (dk_at dksX8_next_7 9 rfl rfl)
theorem dX8_next_174 : decode cX8_next 174 = .ok (.aload_n 0, 1) := dk_42 (dk_at dksX8_next_7 11 rfl rfl)
theorem dX8_next_175 : decode cX8_next 175 = .ok (.getfield 42, 3) := dk_180 0 42 (dk_at dksX8_next_7 12 rfl rfl)
theorem dX8_next_178 : decode cX8_next 178 = .ok (.imul, 1) := dk_104 (dk_at dksX8_next_7 15 rfl rfl)
theorem dX8_next_179 : decode cX8_next 179 = .ok (.aload_n 0, 1) := dk_42 (dk_at dksX8_next_7 16 rfl rfl)
theorem dX8_next_180 : decode cX8_next 180 = .ok (.getfield 3, 3) := dk_180 0 3 (dk_at dksX8_next_7 17 rfl rfl)
theorem dX8_next_183 : decode cX8_next 183 = .ok (.getfield 22, 3) := dk_180 0 22 (dk_at dksX8_next_7 20 rfl rfl)
theorem dX8_next_186 : decode cX8_next 186 = .ok (.aload_n 0, 1) := dk_42 (dk_at dksX8_next_7 23 rfl rfl)
theorem dX8_next_187 : decode cX8_next 187 = .ok (.getfield 26, 3) := dk_180 0 26 (dk_at dksX8_next_8 0 rfl rfl)
theorem dX8_next_190 : decode cX8_next 190 = .ok (.baload, 1) := dk_51 (dk_at dksX8_next_8 3 rfl rfl)
theorem dX8_next_191 : decode cX8_next 191 = .ok (.iadd, 1) := dk_96 (dk_at dksX8_next_8 4 rfl rfl)
theorem dX8_next_192 : decode cX8_next 192 = .ok (.bipush 48, 2) := dk_16 48 (dk_at dksX8_next_8 5 rfl rfl)
theorem dX8_next_194 : decode cX8_next 194 = .ok (.isub, 1) := dk_100 (dk_at dksX8_next_8 7 rfl rfl)
theorem dX8_next_195 : decode cX8_next 195 = .ok (.putfield 42, 3) := dk_181 0 42 (dk_at dksX8_next_8 8 rfl rfl)
theorem dX8_next_198 : decode cX8_next 198 = .ok (.aload_n 0, 1) := dk_42 (dk_at dksX8_next_8 11 rfl rfl)
theorem dX8_next_199 : decode cX8_next 199 = .ok (.dup, 1) := dk_89 (dk_at dksX8_next_8 12 rfl rfl)
theorem dX8_next_200 : decode cX8_next 200 = .ok (.getfield 26, 3) := dk_180 0 26 (dk_at dksX8_next_8 13 rfl rfl)
theorem dX8_next_203 : decode cX8_next 203 = .ok (.iconst 1, 1) := dk_4 (dk_at dksX8_next_8 16 rfl rfl)
theorem dX8_next_204 : decode cX8_next 204 = .ok (.iadd, 1) := dk_96 (dk_at dksX8_next_8 17 rfl rfl)
theorem dX8_next_205 : decode cX8_next 205 = .ok (.putfield 26, 3) := dk_181 0 26 (dk_at dksX8_next_8 18 rfl rfl)
theorem dX8_next_208 : decode cX8_next 208 = .ok (.goto (-61), 3) := dk_167 255 195 (dk_at dksX8_next_8 21 rfl rfl)
theorem dX8_next_211 : decode cX8_next 211 = .ok (.aload_n 0, 1) := dk_42 (dk_at dksX8_next_9 0 rfl rfl)
theorem dX8_next_212 : decode cX8_next 212 = .ok (.aload_n 0, 1) := dk_42 (dk_at dksX8_next_9 1 rfl rfl)
theorem dX8_next_213 : decode cX8_next 213 = .ok (.getfield 26, 3) := dk_180 0 26 (dk_at dksX8_next_9 2 rfl rfl)
theorem dX8_next_216 : decode cX8_next 216 = .ok (.aload_n 0, 1) := dk_42 (dk_at dksX8_next_9 5 rfl rfl)
theorem dX8_next_217 : decode cX8_next 217 = .ok (.getfield 29, 3) := dk_180 0 29 (dk_at dksX8_next_9 6 rfl rfl)
theorem dX8_next_220 : decode cX8_next 220 = .ok (.isub, 1) := dk_100 (dk_at dksX8_next_9 9 rfl rfl)
theorem dX8_next_221 : decode cX8_next 221 = .ok (.iconst 4, 1) := dk_7 (dk_at dksX8_next_9 10 rfl rfl)
theorem dX8_next_222 : decode cX8_next 222 = .ok (.if_icmp .le 7, 3) := dk_164 0 7 (dk_at dksX8_next_9 11 rfl rfl)
theorem dX8_next_225 : decode cX8_next 225 = .ok (.iconst 4, 1) := dk_7 (dk_at dksX8_next_9 14 rfl rfl)
theorem dX8_next_226 : decode cX8_next 226 = .ok (.goto 4, 3) := dk_167 0 4 (dk_at dksX8_next_9 15 rfl rfl)
theorem dX8_next_229 : decode cX8_next 229 = .ok (.iconst 2, 1) := dk_5 (dk_at dksX8_next_9 18 rfl rfl)
theorem dX8_next_230 : decode cX8_next 230 = .ok (.putfield 32, 3) := dk_181 0 32 (dk_at dksX8_next_9 19 rfl rfl)
theorem dX8_next_233 : decode cX8_next 233 = .ok (.goto 90, 3) := dk_167 0 90 (dk_at dksX8_next_10 0 rfl rfl)
theorem dX8_next_236 : decode cX8_next 236 = .ok (.aload_n 0, 1) := dk_42 (dk_at dksX8_next_10 3 rfl rfl)
theorem dX8_next_237 : decode cX8_next 237 = .ok (.aload_n 0, 1) := dk_42 (dk_at dksX8_next_10 4 rfl rfl)
theorem dX8_next_238 : decode cX8_next 238 = .ok (.getfield 29, 3) := dk_180 0 29 (dk_at dksX8_next_10 5 rfl rfl)
theorem dX8_next_241 : decode cX8_next 241 = .ok (.iconst 1, 1) := dk_4 (dk_at dksX8_next_10 8 rfl rfl)
theorem dX8_next_242 : decode cX8_next 242 = .ok (.iadd, 1) := dk_96 (dk_at dksX8_next_10 9 rfl rfl)
theorem dX8_next_243 : decode cX8_next 243 = .ok (.putfield 26, 3) := dk_181 0 26 (dk_at dksX8_next_10 10 rfl rfl)
theorem dX8_next_246 : decode cX8_next 246 = .ok (.aload_n 0, 1) := dk_42 (dk_at dksX8_next_10 13 rfl rfl)
theorem dX8_next_247 : decode cX8_next 247 = .ok (.aload_n 0, 1) := dk_42 (dk_at dksX8_next_10 14 rfl rfl)
theorem dX8_next_248 : decode cX8_next 248 = .ok (.getfield 3, 3) := dk_180 0 3 (dk_at dksX8_next_10 15 rfl rfl)
theorem dX8_next_251 : decode cX8_next 251 = .ok (.getfield 22, 3) := dk_180 0 22 (dk_at dksX8_next_10 18 rfl rfl)
theorem dX8_next_254 : decode cX8_next 254 = .ok (.aload_n 0, 1) := dk_42 (dk_at dksX8_next_10 21 rfl rfl)
theorem dX8_next_255 : decode cX8_next 255 = .ok (.getfield 29, 3) := dk_180 0 29 (dk_at dksX8_next_11 0 rfl rfl)
theorem dX8_next_258 : decode cX8_next 258 = .ok (.baload, 1) := dk_51 (dk_at dksX8_next_11 3 rfl rfl)
theorem dX8_next_259 : decode cX8_next 259 = .ok (.bipush 59, 2) := dk_16 59 (dk_at dksX8_next_11 4 rfl rfl)
theorem dX8_next_261 : decode cX8_next 261 = .ok (.if_icmp .eq 54, 3) := dk_159 0 54 (dk_at dksX8_next_11 6 rfl rfl)
theorem dX8_next_264 : decode cX8_next 264 = .ok (.aload_n 0, 1) := dk_42 (dk_at dksX8_next_11 9 rfl rfl)
theorem dX8_next_265 : decode cX8_next 265 = .ok (.getfield 3, 3) := dk_180 0 3 (dk_at dksX8_next_11 10 rfl rfl)
theorem dX8_next_268 : decode cX8_next 268 = .ok (.getfield 22, 3) := dk_180 0 22 (dk_at dksX8_next_11 13 rfl rfl)
theorem dX8_next_271 : decode cX8_next 271 = .ok (.aload_n 0, 1) := dk_42 (dk_at dksX8_next_11 16 rfl rfl)
theorem dX8_next_272 : decode cX8_next 272 = .ok (.getfield 29, 3) := dk_180 0 29 (dk_at dksX8_next_11 17 rfl rfl)
theorem dX8_next_275 : decode cX8_next 275 = .ok (.baload, 1) := dk_51 (dk_at dksX8_next_11 20 rfl rfl)
theorem dX8_next_276 : decode cX8_next 276 = .ok (.bipush 60, 2) := dk_16 60 (dk_at dksX8_next_11 21 rfl rfl)
theorem dX8_next_278 : decode cX8_next 278 = .ok (.if_icmp .eq 37, 3) := dk_159 0 37 (dk_at dksX8_next_12 0 rfl rfl)
theorem dX8_next_281 : decode cX8_next 281 = .ok (.aload_n 0, 1) := dk_42 (dk_at dksX8_next_12 3 rfl rfl)
theorem dX8_next_282 : decode cX8_next 282 = .ok (.getfield 3, 3) := dk_180 0 3 (dk_at dksX8_next_12 4 rfl rfl)
theorem dX8_next_285 : decode cX8_next 285 = .ok (.getfield 22, 3) := dk_180 0 22 (dk_at dksX8_next_12 7 rfl rfl)
theorem dX8_next_288 : decode cX8_next 288 = .ok (.aload_n 0, 1) := dk_42 (dk_at dksX8_next_12 10 rfl rfl)
theorem dX8_next_289 : decode cX8_next 289 = .ok (.getfield 29, 3) := dk_180 0 29 (dk_at dksX8_next_12 11 rfl rfl)
theorem dX8_next_292 : decode cX8_next 292 = .ok (.baload, 1) := dk_51 (dk_at dksX8_next_12 14 rfl rfl)
theorem dX8_next_293 : decode cX8_next 293 = .ok (.bipush 62, 2) := dk_16 62 (dk_at dksX8_next_12 15 rfl rfl)
theorem dX8_next_295 : decode cX8_next 295 = .ok (.if_icmp .eq 20, 3) := dk_159 0 20 (dk_at dksX8_next_12 17 rfl rfl)
theorem dX8_next_298 : decode cX8_next 298 = .ok (.aload_n 0, 1) := dk_42 (dk_at dksX8_next_12 20 rfl rfl)
theorem dX8_next_299 : decode cX8_next 299 = .ok (.getfield 3, 3) := dk_180 0 3 (dk_at dksX8_next_12 21 rfl rfl)
theorem dX8_next_302 : decode cX8_next 302 = .ok (.getfield 22, 3) := dk_180 0 22 (dk_at dksX8_next_13 0 rfl rfl)
theorem dX8_next_305 : decode cX8_next 305 = .ok (.aload_n 0, 1) := dk_42 (dk_at dksX8_next_13 3 rfl rfl)
theorem dX8_next_306 : decode cX8_next 306 = .ok (.getfield 29, 3) := dk_180 0 29 (dk_at dksX8_next_13 4 rfl rfl)
theorem dX8_next_309 : decode cX8_next 309 = .ok (.baload, 1) := dk_51 (dk_at dksX8_next_13 7 rfl rfl)
theorem dX8_next_310 : decode cX8_next 310 = .ok (.bipush 61, 2) := dk_16 61 (dk_at dksX8_next_13 8 rfl rfl)
theorem dX8_next_312 : decode cX8_next 312 = .ok (.if_icmp .ne 7, 3) := dk_160 0 7 (dk_at dksX8_next_13 10 rfl rfl)
theorem dX8_next_315 : decode cX8_next 315 = .ok (.iconst 3, 1) := dk_6 (dk_at dksX8_next_13 13 rfl rfl)
theorem dX8_next_316 : decode cX8_next 316 = .ok (.goto 4, 3) := dk_167 0 4 (dk_at dksX8_next_13 14 rfl rfl)
theorem dX8_next_319 : decode cX8_next 319 = .ok (.iconst 4, 1) := dk_7 (dk_at dksX8_next_13 17 rfl rfl)
theorem dX8_next_320 : decode cX8_next 320 = .ok (.putfield 32, 3) := dk_181 0 32 (dk_at dksX8_next_13 18 rfl rfl)
theorem dX8_next_323 : decode cX8_next 323 = .ok (.return_, 1) := dk_177 (dk_at dksX8_next_13 21 rfl rfl)
def dkwX8_isLetter_1 : List UInt8 := [180, 0, 3, 180, 0, 22, 27, 51, 16, 122, 163, 0, 7, 4, 167, 0, 4, 3, 172]
abbrev dktX8_isLetter_1 : List UInt8 := dkwX8_isLetter_1 ++ []
def dkwX8_isLetter_0 : List UInt8 := [27, 42, 180, 0, 15, 162, 0, 35, 42, 180, 0, 3, 180, 0, 22, 27, 51, 16, 97, 161, 0, 21, 42]
abbrev dktX8_isLetter_0 : List UInt8 := dkwX8_isLetter_0 ++ dktX8_isLetter_1
theorem dksX8_isLetter_0 : cX8_isLetter.data.toList.drop 0 = dktX8_isLetter_0 := by decide +kernel
theorem dksX8_isLetter_1 : cX8_isLetter.data.toList.drop 23 = dktX8_isLetter_1 := dk_seg dksX8_isLetter_0 23 rfl rfl
theorem dX8_isLetter_0 : decode cX8_isLetter 0 = .ok (.iload_n 1, 1) := dk_27 (dk_at dksX8_isLetter_0 0 rfl rfl)
theorem dX8_isLetter_1 : decode cX8_isLetter 1 = .ok (.aload_n 0, 1) := dk_42 (dk_at dksX8_isLetter_0 1 rfl rfl)
theorem dX8_isLetter_2 : decode cX8_isLetter 2 = .ok (.getfield 15, 3) := dk_180 0 15 (dk_at dksX8_isLetter_0 2 rfl rfl)
theorem dX8_isLetter_5 : decode cX8_isLetter 5 = .ok (.if_icmp .ge 35, 3) := dk_162 0 35 (dk_at dksX8_isLetter_0 5 rfl rfl)
theorem dX8_isLetter_8 : decode cX8_isLetter 8 = .ok (.aload_n 0, 1) := dk_42 (dk_at dksX8_isLetter_0 8 rfl rfl)
theorem dX8_isLetter_9 : decode cX8_isLetter 9 = .ok (.getfield 3, 3) := dk_180 0 3 (dk_at dksX8_isLetter_0 9 rfl rfl)
theorem dX8_isLetter_12 : decode cX8_isLetter 12 = .ok (.getfield 22, 3) := dk_180 0 22 (dk_at dksX8_isLetter_0 12 rfl rfl)
theorem dX8_isLetter_15 : decode cX8_isLetter 15 = .ok (.iload_n 1, 1) := dk_27 (dk_at dksX8_isLetter_0 15 rfl rfl)
theorem dX8_isLetter_16 : decode cX8_isLetter 16 = .ok (.baload, 1) := dk_51 (dk_at dksX8_isLetter_0 16 rfl rfl)
theorem dX8_isLetter_17 : decode cX8_isLetter 17 = .ok (.bipush 97, 2) := dk_16 97 (dk_at dksX8_isLetter_0 17 rfl rfl)
theorem dX8_isLetter_19 : decode cX8_isLetter 19 = .ok (.if_icmp .lt 21, 3) := dk_161 0 21 (dk_at dksX8_isLetter_0 19 rfl rfl)
theorem dX8_isLetter_22 : decode cX8_isLetter 22 = .ok (.aload_n 0, 1) := dk_42 (dk_at dksX8_isLetter_0 22 rfl rfl)
theorem dX8_isLetter_23 : decode cX8_isLetter 23 = .ok (.getfield 3, 3) := dk_180 0 3 (dk_at dksX8_isLetter_1 0 rfl rfl)
theorem dX8_isLetter_26 : decode cX8_isLetter 26 = .ok (.getfield 22, 3) := dk_180 0 22 (dk_at dksX8_isLetter_1 3 rfl rfl)
theorem dX8_isLetter_29 : decode cX8_isLetter 29 = .ok (.iload_n 1, 1) := dk_27 (dk_at dksX8_isLetter_1 6 rfl rfl)
theorem dX8_isLetter_30 : decode cX8_isLetter 30 = .ok (.baload, 1) := dk_51 (dk_at dksX8_isLetter_1 7 rfl rfl)
theorem dX8_isLetter_31 : decode cX8_isLetter 31 = .ok (.bipush 122, 2) := dk_16 122 (dk_at dksX8_isLetter_1 8 rfl rfl)
theorem dX8_isLetter_33 : decode cX8_isLetter 33 = .ok (.if_icmp .gt 7, 3) := dk_163 0 7 (dk_at dksX8_isLetter_1 10 rfl rfl)
theorem dX8_isLetter_36 : decode cX8_isLetter 36 = .ok (.iconst 1, 1) := dk_4 (dk_at dksX8_isLetter_1 13 rfl rfl)
theorem dX8_isLetter_37 : decode cX8_isLetter 37 = .ok (.goto 4, 3) := dk_167 0 4 (dk_at dksX8_isLetter_1 14 rfl rfl)
theorem dX8_isLetter_40 : decode cX8_isLetter 40 = .ok (.iconst 0, 1) := dk_3 (dk_at dksX8_isLetter_1 17 rfl rfl)
theorem dX8_isLetter_41 : decode cX8_isLetter 41 = .ok (.ireturn, 1) := dk_172 (dk_at dksX8_isLetter_1 18 rfl rfl)
def dkwX8_isDigit_1 : List UInt8 := [180, 0, 3, 180, 0, 22, 27, 51, 16, 57, 163, 0, 7, 4, 167, 0, 4, 3, 172]
abbrev dktX8_isDigit_1 : List UInt8 := dkwX8_isDigit_1 ++ []
def dkwX8_isDigit_0 : List UInt8 := [27, 42, 180, 0, 15, 162, 0, 35, 42, 180, 0, 3, 180, 0, 22, 27, 51, 16, 48, 161, 0, 21, 42]
abbrev dktX8_isDigit_0 : List UInt8 := dkwX8_isDigit_0 ++ dktX8_isDigit_1
theorem dksX8_isDigit_0 : cX8_isDigit.data.toList.drop 0 = dktX8_isDigit_0 := by decide +kernel
theorem dksX8_isDigit_1 : cX8_isDigit.data.toList.drop 23 = dktX8_isDigit_1 := dk_seg dksX8_isDigit_0 23 rfl rfl
theorem dX8_isDigit_0 : decode cX8_isDigit 0 = .ok (.iload_n 1, 1) := dk_27 (dk_at dksX8_isDigit_0 0 rfl rfl)
theorem dX8_isDigit_1 : decode cX8_isDigit 1 = .ok (.aload_n 0, 1) := dk_42 (dk_at dksX8_isDigit_0 1 rfl rfl)
theorem dX8_isDigit_2 : decode cX8_isDigit 2 = .ok (.getfield 15, 3) := dk_180 0 15 (dk_at dksX8_isDigit_0 2 rfl rfl)
theorem dX8_isDigit_5 : decode cX8_isDigit 5 = .ok (.if_icmp .ge 35, 3) := dk_162 0 35 (dk_at dksX8_isDigit_0 5 rfl rfl)
theorem dX8_isDigit_8 : decode cX8_isDigit 8 = .ok (.aload_n 0, 1) := dk_42 (dk_at dksX8_isDigit_0 8 rfl rfl)
theorem dX8_isDigit_9 : decode cX8_isDigit 9 = .ok (.getfield 3, 3) := dk_180 0 3 (dk_at dksX8_isDigit_0 9 rfl rfl)
theorem dX8_isDigit_12 : decode cX8_isDigit 12 = .ok (.getfield 22, 3) := dk_180 0 22 (dk_at dksX8_isDigit_0 12 rfl rfl)
theorem dX8_isDigit_15 : decode cX8_isDigit 15 = .ok (.iload_n 1, 1) := dk_27 (dk_at dksX8_isDigit_0 15 rfl rfl)
theorem dX8_isDigit_16 : decode cX8_isDigit 16 = .ok (.baload, 1) := dk_51 (dk_at dksX8_isDigit_0 16 rfl rfl)
theorem dX8_isDigit_17 : decode cX8_isDigit 17 = .ok (.bipush 48, 2) := dk_16 48 (dk_at dksX8_isDigit_0 17 rfl rfl)
theorem dX8_isDigit_19 : decode cX8_isDigit 19 = .ok (.if_icmp .lt 21, 3) := dk_161 0 21 (dk_at dksX8_isDigit_0 19 rfl rfl)
theorem dX8_isDigit_22 : decode cX8_isDigit 22 = .ok (.aload_n 0, 1) := dk_42 (dk_at dksX8_isDigit_0 22 rfl rfl)
theorem dX8_isDigit_23 : decode cX8_isDigit 23 = .ok (.getfield 3, 3) := dk_180 0 3 (dk_at dksX8_isDigit_1 0 rfl rfl)
theorem dX8_isDigit_26 : decode cX8_isDigit 26 = .ok (.getfield 22, 3) := dk_180 0 22 (dk_at dksX8_isDigit_1 3 rfl rfl)
theorem dX8_isDigit_29 : decode cX8_isDigit 29 = .ok (.iload_n 1, 1) := dk_27 (dk_at dksX8_isDigit_1 6 rfl rfl)
theorem dX8_isDigit_30 : decode cX8_isDigit 30 = .ok (.baload, 1) := dk_51 (dk_at dksX8_isDigit_1 7 rfl rfl)
theorem dX8_isDigit_31 : decode cX8_isDigit 31 = .ok (.bipush 57, 2) := dk_16 57 (dk_at dksX8_isDigit_1 8 rfl rfl)
theorem dX8_isDigit_33 : decode cX8_isDigit 33 = .ok (.if_icmp .gt 7, 3) := dk_163 0 7 (dk_at dksX8_isDigit_1 10 rfl rfl)
theorem dX8_isDigit_36 : decode cX8_isDigit 36 = .ok (.iconst 1, 1) := dk_4 (dk_at dksX8_isDigit_1 13 rfl rfl)
theorem dX8_isDigit_37 : decode cX8_isDigit 37 = .ok (.goto 4, 3) := dk_167 0 4 (dk_at dksX8_isDigit_1 14 rfl rfl)
theorem dX8_isDigit_40 : decode cX8_isDigit 40 = .ok (.iconst 0, 1) := dk_3 (dk_at dksX8_isDigit_1 17 rfl rfl)
theorem dX8_isDigit_41 : decode cX8_isDigit 41 = .ok (.ireturn, 1) := dk_172 (dk_at dksX8_isDigit_1 18 rfl rfl)
def dkwX8_yard_4 : List UInt8 := [181, 0, 181, 132, 2, 1, 167, 255, 227, 177]
abbrev dktX8_yard_4 : List UInt8 := dkwX8_yard_4 ++ []
def dkwX8_yard_3 : List UInt8 := [61, 28, 43, 180, 0, 178, 162, 0, 27, 43, 89, 180, 0, 181, 43, 180, 0, 184, 28, 50, 182, 0, 188, 96]
abbrev dktX8_yard_3 : List UInt8 := dkwX8_yard_3 ++ dktX8_yard_4
def dkwX8_yard_2 : List UInt8 := [153, 0, 11, 42, 43, 182, 0, 172, 167, 0, 8, 42, 182, 0, 68, 191, 42, 182, 0, 175, 167, 255, 189, 3]
abbrev dktX8_yard_2 : List UInt8 := dkwX8_yard_2 ++ dktX8_yard_3
def dkwX8_yard_1 : List UInt8 := [42, 18, 107, 182, 0, 72, 153, 0, 11, 42, 43, 182, 0, 169, 167, 0, 25, 42, 18, 111, 182, 0, 72]
abbrev dktX8_yard_1 : List UInt8 := dkwX8_yard_1 ++ dktX8_yard_2
def dkwX8_yard_0 : List UInt8 := [42, 180, 0, 32, 153, 0, 66, 42, 18, 101, 182, 0, 72, 153, 0, 11, 42, 43, 182, 0, 165, 167, 0, 42]
abbrev dktX8_yard_0 : List UInt8 := dkwX8_yard_0 ++ dktX8_yard_1
theorem dksX8_yard_0 : cX8_yard.data.toList.drop 0 = dktX8_yard_0 := by decide +kernel
theorem dksX8_yard_1 : cX8_yard.data.toList.drop 24 = dktX8_yard_1 := dk_seg dksX8_yard_0 24 rfl rfl
theorem dksX8_yard_2 : cX8_yard.data.toList.drop 47 = dktX8_yard_2 := dk_seg dksX8_yard_1 23 rfl rfl
theorem dksX8_yard_3 : cX8_yard.data.toList.drop 71 = dktX8_yard_3 := dk_seg dksX8_yard_2 24 rfl rfl
theorem dksX8_yard_4 : cX8_yard.data.toList.drop 95 = dktX8_yard_4 := dk_seg dksX8_yard_3 24 rfl rfl
theorem dX8_yard_0 : decode cX8_yard 0 = .ok (.aload_n 0, 1) := dk_42 (dk_at dksX8_yard_0 0 rfl rfl)
theorem dX8_yard_1 : decode cX8_yard 1 = .ok (.getfield 32, 3) := dk_180 0 32 (dk_at dksX8_yard_0 1 rfl rfl)
theorem dX8_yard_4 : decode cX8_yard 4 = .ok (.ifCond .eq 66, 3) := dk_153 0 66 (dk_at dksX8_yard_0 4 rfl rfl)
theorem dX8_yard_7 : decode cX8_yard 7 = .ok (.aload_n 0, 1) := dk_42 (dk_at dksX8_yard_0 7 rfl rfl)
theorem dX8_yard_8 : decode cX8_yard 8 = .ok (.ldc 101, 2) := dk_18 101 (dk_at dksX8_yard_0 8 rfl rfl)
theorem dX8_yard_10 : decode cX8_yard 10 = .ok (.invokevirtual 72, 3) := dk_182 0 72 (dk_at dksX8_yard_0 10 rfl rfl)
theorem dX8_yard_13 : decode cX8_yard 13 = .ok (.ifCond .eq 11, 3) := dk_153 0 11 (dk_at dksX8_yard_0 13 rfl rfl)
theorem dX8_yard_16 : decode cX8_yard 16 = .ok (.aload_n 0, 1) := dk_42 (dk_at dksX8_yard_0 16 rfl rfl)
theorem dX8_yard_17 : decode cX8_yard 17 = .ok (.aload_n 1, 1) := dk_43 (dk_at dksX8_yard_0 17 rfl rfl)
theorem dX8_yard_18 : decode cX8_yard 18 = .ok (.invokevirtual 165, 3) := dk_182 0 165 (dk_at dksX8_yard_0 18 rfl rfl)
theorem dX8_yard_21 : decode cX8_yard 21 = .ok (.goto 42, 3) := dk_167 0 42 (dk_at dksX8_yard_0 21 rfl rfl)
theorem dX8_yard_24 : decode cX8_yard 24 = .ok (.aload_n 0, 1) := dk_42 (dk_at dksX8_yard_1 0 rfl rfl)
theorem dX8_yard_25 : decode cX8_yard 25 = .ok (.ldc 107, 2) := dk_18 107 (dk_at dksX8_yard_1 1 rfl rfl)
theorem dX8_yard_27 : decode cX8_yard 27 = .ok (.invokevirtual 72, 3) := dk_182 0 72 (dk_at dksX8_yard_1 3 rfl rfl)
theorem dX8_yard_30 : decode cX8_yard 30 = .ok (.ifCond .eq 11, 3) := dk_153 0 11 (dk_at dksX8_yard_1 6 rfl rfl)
theorem dX8_yard_33 : decode cX8_yard 33 = .ok (.aload_n 0, 1) := dk_42 (dk_at dksX8_yard_1 9 rfl rfl)
theorem dX8_yard_34 : decode cX8_yard 34 = .ok (.aload_n 1, 1) := dk_43 (dk_at dksX8_yard_1 10 rfl rfl)
theorem dX8_yard_35 : decode cX8_yard 35 = .ok (.invokevirtual 169, 3) := dk_182 0 169 (dk_at dksX8_yard_1 11 rfl rfl)
theorem dX8_yard_38 : decode cX8_yard 38 = .ok (.goto 25, 3) := dk_167 0 25 (dk_at dksX8_yard_1 14 rfl rfl)
theorem dX8_yard_41 : decode cX8_yard 41 = .ok (.aload_n 0, 1) := dk_42 (dk_at dksX8_yard_1 17 rfl rfl)
theorem dX8_yard_42 : decode cX8_yard 42 = .ok (.ldc 111, 2) := dk_18 111 (dk_at dksX8_yard_1 18 rfl rfl)
theorem dX8_yard_44 : decode cX8_yard 44 = .ok (.invokevirtual 72, 3) := dk_182 0 72 (dk_at dksX8_yard_1 20 rfl rfl)
theorem dX8_yard_47 : decode cX8_yard 47 = .ok (.ifCond .eq 11, 3) := dk_153 0 11 (dk_at dksX8_yard_2 0 rfl rfl)
theorem dX8_yard_50 : decode cX8_yard 50 = .ok (.aload_n 0, 1) := dk_42 (dk_at dksX8_yard_2 3 rfl rfl)
theorem dX8_yard_51 : decode cX8_yard 51 = .ok (.aload_n 1, 1) := dk_43 (dk_at dksX8_yard_2 4 rfl rfl)
theorem dX8_yard_52 : decode cX8_yard 52 = .ok (.invokevirtual 172, 3) := dk_182 0 172 (dk_at dksX8_yard_2 5 rfl rfl)
theorem dX8_yard_55 : decode cX8_yard 55 = .ok (.goto 8, 3) := dk_167 0 8 (dk_at dksX8_yard_2 8 rfl rfl)
theorem dX8_yard_58 : decode cX8_yard 58 = .ok (.aload_n 0, 1) := dk_42 (dk_at dksX8_yard_2 11 rfl rfl)
theorem dX8_yard_59 : decode cX8_yard 59 = .ok (.invokevirtual 68, 3) := dk_182 0 68 (dk_at dksX8_yard_2 12 rfl rfl)
theorem dX8_yard_62 : decode cX8_yard 62 = .ok (.athrow, 1) := dk_191 (dk_at dksX8_yard_2 15 rfl rfl)
theorem dX8_yard_63 : decode cX8_yard 63 = .ok (.aload_n 0, 1) := dk_42 (dk_at dksX8_yard_2 16 rfl rfl)
theorem dX8_yard_64 : decode cX8_yard 64 = .ok (.invokevirtual 175, 3) := dk_182 0 175 (dk_at dksX8_yard_2 17 rfl rfl)
theorem dX8_yard_67 : decode cX8_yard 67 = .ok (.goto (-67), 3) := dk_167 255 189 (dk_at dksX8_yard_2 20 rfl rfl)
theorem dX8_yard_70 : decode cX8_yard 70 = .ok (.iconst 0, 1) := dk_3 (dk_at dksX8_yard_2 23 rfl rfl)
theorem dX8_yard_71 : decode cX8_yard 71 = .ok (.istore_n 2, 1) := dk_61 (dk_at dksX8_yard_3 0 rfl rfl)
theorem dX8_yard_72 : decode cX8_yard 72 = .ok (.iload_n 2, 1) := dk_28 (dk_at dksX8_yard_3 1 rfl rfl)
theorem dX8_yard_73 : decode cX8_yard 73 = .ok (.aload_n 1, 1) := dk_43 (dk_at dksX8_yard_3 2 rfl rfl)
theorem dX8_yard_74 : decode cX8_yard 74 = .ok (.getfield 178, 3) := dk_180 0 178 (dk_at dksX8_yard_3 3 rfl rfl)
theorem dX8_yard_77 : decode cX8_yard 77 = .ok (.if_icmp .ge 27, 3) := dk_162 0 27 (dk_at dksX8_yard_3 6 rfl rfl)
theorem dX8_yard_80 : decode cX8_yard 80 = .ok (.aload_n 1, 1) := dk_43 (dk_at dksX8_yard_3 9 rfl rfl)
theorem dX8_yard_81 : decode cX8_yard 81 = .ok (.dup, 1) := dk_89 (dk_at dksX8_yard_3 10 rfl rfl)
theorem dX8_yard_82 : decode cX8_yard 82 = .ok (.getfield 181, 3) := dk_180 0 181 (dk_at dksX8_yard_3 11 rfl rfl)
theorem dX8_yard_85 : decode cX8_yard 85 = .ok (.aload_n 1, 1) := dk_43 (dk_at dksX8_yard_3 14 rfl rfl)
theorem dX8_yard_86 : decode cX8_yard 86 = .ok (.getfield 184, 3) := dk_180 0 184 (dk_at dksX8_yard_3 15 rfl rfl)
theorem dX8_yard_89 : decode cX8_yard 89 = .ok (.iload_n 2, 1) := dk_28 (dk_at dksX8_yard_3 18 rfl rfl)
theorem dX8_yard_90 : decode cX8_yard 90 = .ok (.aaload, 1) := dk_50 (dk_at dksX8_yard_3 19 rfl rfl)
theorem dX8_yard_91 : decode cX8_yard 91 = .ok (.invokevirtual 188, 3) := dk_182 0 188 (dk_at dksX8_yard_3 20 rfl rfl)
theorem dX8_yard_94 : decode cX8_yard 94 = .ok (.iadd, 1) := dk_96 (dk_at dksX8_yard_3 23 rfl rfl)
theorem dX8_yard_95 : decode cX8_yard 95 = .ok (.putfield 181, 3) := dk_181 0 181 (dk_at dksX8_yard_4 0 rfl rfl)
theorem dX8_yard_98 : decode cX8_yard 98 = .ok (.iinc 2 1, 3) := dk_132 2 1 (dk_at dksX8_yard_4 3 rfl rfl)
theorem dX8_yard_101 : decode cX8_yard 101 = .ok (.goto (-29), 3) := dk_167 255 227 (dk_at dksX8_yard_4 6 rfl rfl)
theorem dX8_yard_104 : decode cX8_yard 104 = .ok (.return_, 1) := dk_177 (dk_at dksX8_yard_4 9 rfl rfl)
def dkwX8_isWord_2 : List UInt8 := [96, 51, 43, 28, 182, 0, 51, 159, 0, 5, 3, 172, 132, 2, 1, 167, 255, 221, 4, 172]
abbrev dktX8_isWord_2 : List UInt8 := dkwX8_isWord_2 ++ []
def dkwX8_isWord_1 : List UInt8 := [3, 172, 3, 61, 28, 43, 182, 0, 45, 162, 0, 33, 42, 180, 0, 3, 180, 0, 22, 42, 180, 0, 29, 28]
abbrev dktX8_isWord_1 : List UInt8 := dkwX8_isWord_1 ++ dktX8_isWord_2
def dkwX8_isWord_0 : List UInt8 := [42, 180, 0, 32, 4, 160, 0, 19, 42, 180, 0, 26, 42, 180, 0, 29, 100, 43, 182, 0, 45, 159, 0, 5]
abbrev dktX8_isWord_0 : List UInt8 := dkwX8_isWord_0 ++ dktX8_isWord_1
theorem dksX8_isWord_0 : cX8_isWord.data.toList.drop 0 = dktX8_isWord_0 := by decide +kernel
theorem dksX8_isWord_1 : cX8_isWord.data.toList.drop 24 = dktX8_isWord_1 := dk_seg dksX8_isWord_0 24 rfl rfl
theorem dksX8_isWord_2 : cX8_isWord.data.toList.drop 48 = dktX8_isWord_2 := dk_seg dksX8_isWord_1 24 rfl rfl
theorem dX8_isWord_0 : decode cX8_isWord 0 = .ok (.aload_n 0, 1) := dk_42 (dk_at dksX8_isWord_0 0 rfl rfl)
theorem dX8_isWord_1 : decode cX8_isWord 1 = .ok (.getfield 32, 3) := dk_180 0 32 (dk_at dksX8_isWord_0 1 rfl rfl)
theorem dX8_isWord_4 : decode cX8_isWord 4 = .ok (.iconst 1, 1) := dk_4 (dk_at dksX8_isWord_0 4 rfl rfl)
theorem dX8_isWord_5 : decode cX8_isWord 5 = .ok (.if_icmp .ne 19, 3) := dk_160 0 19 (dk_at dksX8_isWord_0 5 rfl rfl)
theorem dX8_isWord_8 : decode cX8_isWord 8 = .ok (.aload_n 0, 1) := dk_42 (dk_at dksX8_isWord_0 8 rfl rfl)
theorem dX8_isWord_9 : decode cX8_isWord 9 = .ok (.getfield 26, 3) := dk_180 0 26 (dk_at dksX8_isWord_0 9 rfl rfl)
theorem dX8_isWord_12 : decode cX8_isWord 12 = .ok (.aload_n 0, 1) := dk_42 (dk_at dksX8_isWord_0 12 rfl rfl)
theorem dX8_isWord_13 : decode cX8_isWord 13 = .ok (.getfield 29, 3) := dk_180 0 29 (dk_at dksX8_isWord_0 13 rfl rfl)
theorem dX8_isWord_16 : decode cX8_isWord 16 = .ok (.isub, 1) := dk_100 (dk_at dksX8_isWord_0 16 rfl rfl)
theorem dX8_isWord_17 : decode cX8_isWord 17 = .ok (.aload_n 1, 1) := dk_43 (dk_at dksX8_isWord_0 17 rfl rfl)
theorem dX8_isWord_18 : decode cX8_isWord 18 = .ok (.invokevirtual 45, 3) := dk_182 0 45 (dk_at dksX8_isWord_0 18 rfl rfl)
theorem dX8_isWord_21 : decode cX8_isWord 21 = .ok (.if_icmp .eq 5, 3) := dk_159 0 5 (dk_at dksX8_isWord_0 21 rfl rfl)
theorem dX8_isWord_24 : decode cX8_isWord 24 = .ok (.iconst 0, 1) := dk_3 (dk_at dksX8_isWord_1 0 rfl rfl)
theorem dX8_isWord_25 : decode cX8_isWord 25 = .ok (.ireturn, 1) := dk_172 (dk_at dksX8_isWord_1 1 rfl rfl)
theorem dX8_isWord_26 : decode cX8_isWord 26 = .ok (.iconst 0, 1) := dk_3 (dk_at dksX8_isWord_1 2 rfl rfl)
theorem dX8_isWord_27 : decode cX8_isWord 27 = .ok (.istore_n 2, 1) := dk_61 (dk_at dksX8_isWord_1 3 rfl rfl)
theorem dX8_isWord_28 : decode cX8_isWord 28 = .ok (.iload_n 2, 1) := dk_28 (dk_at dksX8_isWord_1 4 rfl rfl)
theorem dX8_isWord_29 : decode cX8_isWord 29 = .ok (.aload_n 1, 1) := dk_43 (dk_at dksX8_isWord_1 5 rfl rfl)
theorem dX8_isWord_30 : decode cX8_isWord 30 = .ok (.invokevirtual 45, 3) := dk_182 0 45 (dk_at dksX8_isWord_1 6 rfl rfl)
theorem dX8_isWord_33 : decode cX8_isWord 33 = .ok (.if_icmp .ge 33, 3) := dk_162 0 33 (dk_at dksX8_isWord_1 9 rfl rfl)
theorem dX8_isWord_36 : decode cX8_isWord 36 = .ok (.aload_n 0, 1) := dk_42 (dk_at dksX8_isWord_1 12 rfl rfl)
theorem dX8_isWord_37 : decode cX8_isWord 37 = .ok (.getfield 3, 3) := dk_180 0 3 (dk_at dksX8_isWord_1 13 rfl rfl)
theorem dX8_isWord_40 : decode cX8_isWord 40 = .ok (.getfield 22, 3) := dk_180 0 22 (dk_at dksX8_isWord_1 16 rfl rfl)
theorem dX8_isWord_43 : decode cX8_isWord 43 = .ok (.aload_n 0, 1) := dk_42 (dk_at dksX8_isWord_1 19 rfl rfl)
theorem dX8_isWord_44 : decode cX8_isWord 44 = .ok (.getfield 29, 3) := dk_180 0 29 (dk_at dksX8_isWord_1 20 rfl rfl)
theorem dX8_isWord_47 : decode cX8_isWord 47 = .ok (.iload_n 2, 1) := dk_28 (dk_at dksX8_isWord_1 23 rfl rfl)
theorem dX8_isWord_48 : decode cX8_isWord 48 = .ok (.iadd, 1) := dk_96 (dk_at dksX8_isWord_2 0 rfl rfl)
theorem dX8_isWord_49 : decode cX8_isWord 49 = .ok (.baload, 1) := dk_51 (dk_at dksX8_isWord_2 1 rfl rfl)
theorem dX8_isWord_50 : decode cX8_isWord 50 = .ok (.aload_n 1, 1) := dk_43 (dk_at dksX8_isWord_2 2 rfl rfl)
theorem dX8_isWord_51 : decode cX8_isWord 51 = .ok (.iload_n 2, 1) := dk_28 (dk_at dksX8_isWord_2 3 rfl rfl)
theorem dX8_isWord_52 : decode cX8_isWord 52 = .ok (.invokevirtual 51, 3) := dk_182 0 51 (dk_at dksX8_isWord_2 4 rfl rfl)
theorem dX8_isWord_55 : decode cX8_isWord 55 = .ok (.if_icmp .eq 5, 3) := dk_159 0 5 (dk_at dksX8_isWord_2 7 rfl rfl)
theorem dX8_isWord_58 : decode cX8_isWord 58 = .ok (.iconst 0, 1) := dk_3 (dk_at dksX8_isWord_2 10 rfl rfl)
theorem dX8_isWord_59 : decode cX8_isWord 59 = .ok (.ireturn, 1) := dk_172 (dk_at dksX8_isWord_2 11 rfl rfl)
theorem dX8_isWord_60 : decode cX8_isWord 60 = .ok (.iinc 2 1, 3) := dk_132 2 1 (dk_at dksX8_isWord_2 12 rfl rfl)
theorem dX8_isWord_63 : decode cX8_isWord 63 = .ok (.goto (-35), 3) := dk_167 255 221 (dk_at dksX8_isWord_2 15 rfl rfl)
theorem dX8_isWord_66 : decode cX8_isWord 66 = .ok (.iconst 1, 1) := dk_4 (dk_at dksX8_isWord_2 18 rfl rfl)
theorem dX8_isWord_67 : decode cX8_isWord 67 = .ok (.ireturn, 1) := dk_172 (dk_at dksX8_isWord_2 19 rfl rfl)
def dkwX8_newHive_5 : List UInt8 := [25, 5, 83, 43, 89, 180, 0, 178, 4, 96, 181, 0, 178, 177]
abbrev dktX8_newHive_5 : List UInt8 := dkwX8_newHive_5 ++ []
def dkwX8_newHive_4 : List UInt8 := [18, 97, 3, 25, 5, 182, 0, 204, 182, 0, 196, 104, 182, 0, 207, 87, 43, 180, 0, 184, 43, 180, 0, 178]
abbrev dktX8_newHive_4 : List UInt8 := dkwX8_newHive_4 ++ dktX8_newHive_5
def dkwX8_newHive_3 : List UInt8 := [17, 39, 15, 182, 0, 196, 181, 0, 202, 42, 18, 97, 182, 0, 72, 153, 0, 24, 25, 5, 16, 100, 42]
abbrev dktX8_newHive_3 : List UInt8 := dkwX8_newHive_3 ++ dktX8_newHive_4
def dkwX8_newHive_2 : List UInt8 := [89, 32, 21, 4, 42, 18, 105, 4, 7, 182, 0, 196, 104, 183, 0, 199, 58, 5, 25, 5, 42, 18, 95, 3]
abbrev dktX8_newHive_2 : List UInt8 := dkwX8_newHive_2 ++ dktX8_newHive_3
def dkwX8_newHive_1 : List UInt8 := [191, 42, 182, 0, 19, 42, 43, 182, 0, 192, 65, 42, 18, 103, 4, 6, 182, 0, 196, 54, 4, 187, 0, 189]
abbrev dktX8_newHive_1 : List UInt8 := dkwX8_newHive_1 ++ dktX8_newHive_2
def dkwX8_newHive_0 : List UInt8 := [43, 180, 0, 178, 7, 160, 0, 20, 42, 180, 0, 3, 180, 0, 55, 16, 6, 42, 180, 0, 29, 182, 0, 59]
abbrev dktX8_newHive_0 : List UInt8 := dkwX8_newHive_0 ++ dktX8_newHive_1
theorem dksX8_newHive_0 : cX8_newHive.data.toList.drop 0 = dktX8_newHive_0 := by decide +kernel
theorem dksX8_newHive_1 : cX8_newHive.data.toList.drop 24 = dktX8_newHive_1 := dk_seg dksX8_newHive_0 24 rfl rfl
theorem dksX8_newHive_2 : cX8_newHive.data.toList.drop 48 = dktX8_newHive_2 := dk_seg dksX8_newHive_1 24 rfl rfl
theorem dksX8_newHive_3 : cX8_newHive.data.toList.drop 72 = dktX8_newHive_3 := dk_seg dksX8_newHive_2 24 rfl rfl
theorem dksX8_newHive_4 : cX8_newHive.data.toList.drop 95 = dktX8_newHive_4 := dk_seg dksX8_newHive_3 23 rfl rfl
theorem dksX8_newHive_5 : cX8_newHive.data.toList.drop 119 = dktX8_newHive_5 := dk_seg dksX8_newHive_4 24 rfl rfl
theorem dX8_newHive_0 : decode cX8_newHive 0 = .ok (.aload_n 1, 1) := dk_43 (dk_at dksX8_newHive_0 0 rfl rfl)
theorem dX8_newHive_1 : decode cX8_newHive 1 = .ok (.getfield 178, 3) := dk_180 0 178 (dk_at dksX8_newHive_0 1 rfl rfl)
theorem dX8_newHive_4 : decode cX8_newHive 4 = .ok (.iconst 4, 1) := dk_7 (dk_at dksX8_newHive_0 4 rfl rfl)
theorem dX8_newHive_5 : decode cX8_newHive 5 = .ok (.if_icmp .ne 20, 3) := dk_160 0 20 (dk_at dksX8_newHive_0 5 rfl rfl)
theorem dX8_newHive_8 : decode cX8_newHive 8 = .ok (.aload_n 0, 1) := dk_42 (dk_at dksX8_newHive_0 8 rfl rfl)
theorem dX8_newHive_9 : decode cX8_newHive 9 = .ok (.getfield 3, 3) := dk_180 0 3 (dk_at dksX8_newHive_0 9 rfl rfl)
theorem dX8_newHive_12 : decode cX8_newHive 12 = .ok (.getfield 55, 3) := dk_180 0 55 (dk_at dksX8_newHive_0 12 rfl rfl)
theorem dX8_newHive_15 : decode cX8_newHive 15 = .ok (.bipush 6, 2) := dk_16 6 (dk_at dksX8_newHive_0 15 rfl rfl)
theorem dX8_newHive_17 : decode cX8_newHive 17 = .ok (.aload_n 0, 1) := dk_42 (dk_at dksX8_newHive_0 17 rfl rfl)
theorem dX8_newHive_18 : decode cX8_newHive 18 = .ok (.getfield 29, 3) := dk_180 0 29 (dk_at dksX8_newHive_0 18 rfl rfl)
theorem dX8_newHive_21 : decode cX8_newHive 21 = .ok (.invokevirtual 59, 3) := dk_182 0 59 (dk_at dksX8_newHive_0 21 rfl rfl)
theorem dX8_newHive_24 : decode cX8_newHive 24 = .ok (.athrow, 1) := dk_191 (dk_at dksX8_newHive_1 0 rfl rfl)
theorem dX8_newHive_25 : decode cX8_newHive 25 = .ok (.aload_n 0, 1) := dk_42 (dk_at dksX8_newHive_1 1 rfl rfl)
theorem dX8_newHive_26 : decode cX8_newHive 26 = .ok (.invokevirtual 19, 3) := dk_182 0 19 (dk_at dksX8_newHive_1 2 rfl rfl)
theorem dX8_newHive_29 : decode cX8_newHive 29 = .ok (.aload_n 0, 1) := dk_42 (dk_at dksX8_newHive_1 5 rfl rfl)
theorem dX8_newHive_30 : decode cX8_newHive 30 = .ok (.aload_n 1, 1) := dk_43 (dk_at dksX8_newHive_1 6 rfl rfl)
theorem dX8_newHive_31 : decode cX8_newHive 31 = .ok (.invokevirtual 192, 3) := dk_182 0 192 (dk_at dksX8_newHive_1 7 rfl rfl)
theorem dX8_newHive_34 : decode cX8_newHive 34 = .ok (.lstore_n 2, 1) := dk_65 (dk_at dksX8_newHive_1 10 rfl rfl)
theorem dX8_newHive_35 : decode cX8_newHive 35 = .ok (.aload_n 0, 1) := dk_42 (dk_at dksX8_newHive_1 11 rfl rfl)
theorem dX8_newHive_36 : decode cX8_newHive 36 = .ok (.ldc 103, 2) := dk_18 103 (dk_at dksX8_newHive_1 12 rfl rfl)
theorem dX8_newHive_38 : decode cX8_newHive 38 = .ok (.iconst 1, 1) := dk_4 (dk_at dksX8_newHive_1 14 rfl rfl)
theorem dX8_newHive_39 : decode cX8_newHive 39 = .ok (.iconst 3, 1) := dk_6 (dk_at dksX8_newHive_1 15 rfl rfl)
theorem dX8_newHive_40 : decode cX8_newHive 40 = .ok (.invokevirtual 196, 3) := dk_182 0 196 (dk_at dksX8_newHive_1 16 rfl rfl)
theorem dX8_newHive_43 : decode cX8_newHive 43 = .ok (.istore 4, 2) := dk_54 4 (dk_at dksX8_newHive_1 19 rfl rfl)
theorem dX8_newHive_45 : decode cX8_newHive 45 = .ok (.new 189, 3) := dk_187 0 189 (dk_at dksX8_newHive_1 21 rfl rfl)
theorem dX8_newHive_48 : decode cX8_newHive 48 = .ok (.dup, 1) := dk_89 (dk_at dksX8_newHive_2 0 rfl rfl)
theorem dX8_newHive_49 : decode cX8_newHive 49 = .ok (.lload_n 2, 1) := dk_32 (dk_at dksX8_newHive_2 1 rfl rfl)
theorem dX8_newHive_50 : decode cX8_newHive 50 = .ok (.iload 4, 2) := dk_21 4 (dk_at dksX8_newHive_2 2 rfl rfl)
theorem dX8_newHive_52 : decode cX8_newHive 52 = .ok (.aload_n 0, 1) := dk_42 (dk_at dksX8_newHive_2 4 rfl rfl)
theorem dX8_newHive_53 : decode cX8_newHive 53 = .ok (.ldc 105, 2) := dk_18 105 (dk_at dksX8_newHive_2 5 rfl rfl)
theorem dX8_newHive_55 : decode cX8_newHive 55 = .ok (.iconst 1, 1) := dk_4 (dk_at dksX8_newHive_2 7 rfl rfl)
theorem dX8_newHive_56 : decode cX8_newHive 56 = .ok (.iconst 4, 1) := dk_7 (dk_at dksX8_newHive_2 8 rfl rfl)
theorem dX8_newHive_57 : decode cX8_newHive 57 = .ok (.invokevirtual 196, 3) := dk_182 0 196 (dk_at dksX8_newHive_2 9 rfl rfl)
theorem dX8_newHive_60 : decode cX8_newHive 60 = .ok (.imul, 1) := dk_104 (dk_at dksX8_newHive_2 12 rfl rfl)
theorem dX8_newHive_61 : decode cX8_newHive 61 = .ok (.invokespecial 199, 3) := dk_183 0 199 (dk_at dksX8_newHive_2 13 rfl rfl)
theorem dX8_newHive_64 : decode cX8_newHive 64 = .ok (.astore 5, 2) := dk_58 5 (dk_at dksX8_newHive_2 16 rfl rfl)
theorem dX8_newHive_66 : decode cX8_newHive 66 = .ok (.aload 5, 2) := dk_25 5 (dk_at dksX8_newHive_2 18 rfl rfl)
theorem dX8_newHive_68 : decode cX8_newHive 68 = .ok (.aload_n 0, 1) := dk_42 (dk_at dksX8_newHive_2 20 rfl rfl)
theorem dX8_newHive_69 : decode cX8_newHive 69 = .ok (.ldc 95, 2) := dk_18 95 (dk_at dksX8_newHive_2 21 rfl rfl)
theorem dX8_newHive_71 : decode cX8_newHive 71 = .ok (.iconst 0, 1) := dk_3 (dk_at dksX8_newHive_2 23 rfl rfl)
theorem dX8_newHive_72 : decode cX8_newHive 72 = .ok (.sipush 9999, 3) := dk_17 39 15 (dk_at dksX8_newHive_3 0 rfl rfl)
theorem dX8_newHive_75 : decode cX8_newHive 75 = .ok (.invokevirtual 196, 3) := dk_182 0 196 (dk_at dksX8_newHive_3 3 rfl rfl)
theorem dX8_newHive_78 : decode cX8_newHive 78 = .ok (.putfield 202, 3) := dk_181 0 202 (dk_at dksX8_newHive_3 6 rfl rfl)
theorem dX8_newHive_81 : decode cX8_newHive 81 = .ok (.aload_n 0, 1) := dk_42 (dk_at dksX8_newHive_3 9 rfl rfl)
theorem dX8_newHive_82 : decode cX8_newHive 82 = .ok (.ldc 97, 2) := dk_18 97 (dk_at dksX8_newHive_3 10 rfl rfl)
theorem dX8_newHive_84 : decode cX8_newHive 84 = .ok (.invokevirtual 72, 3) := dk_182 0 72 (dk_at dksX8_newHive_3 12 rfl rfl)
theorem dX8_newHive_87 : decode cX8_newHive 87 = .ok (.ifCond .eq 24, 3) := dk_153 0 24 (dk_at dksX8_newHive_3 15 rfl rfl)
theorem dX8_newHive_90 : decode cX8_newHive 90 = .ok (.aload 5, 2) := dk_25 5 (dk_at dksX8_newHive_3 18 rfl rfl)
theorem dX8_newHive_92 : decode cX8_newHive 92 = .ok (.bipush 100, 2) := dk_16 100 (dk_at dksX8_newHive_3 20 rfl rfl)
theorem dX8_newHive_94 : decode cX8_newHive 94 = .ok (.aload_n 0, 1) := dk_42 (dk_at dksX8_newHive_3 22 rfl rfl)
theorem dX8_newHive_95 : decode cX8_newHive 95 = .ok (.ldc 97, 2) := dk_18 97 (dk_at dksX8_newHive_4 0 rfl rfl)
theorem dX8_newHive_97 : decode cX8_newHive 97 = .ok (.iconst 0, 1) := dk_3 (dk_at dksX8_newHive_4 2 rfl rfl)
theorem dX8_newHive_98 : decode cX8_newHive 98 = .ok (.aload 5, 2) := dk_25 5 (dk_at dksX8_newHive_4 3 rfl rfl)
theorem dX8_newHive_100 : decode cX8_newHive 100 = .ok (.invokevirtual 204, 3) := dk_182 0 204 (dk_at dksX8_newHive_4 5 rfl rfl)
theorem dX8_newHive_103 : decode cX8_newHive 103 = .ok (.invokevirtual 196, 3) := dk_182 0 196 (dk_at dksX8_newHive_4 8 rfl rfl)
theorem dX8_newHive_106 : decode cX8_newHive 106 = .ok (.imul, 1) := dk_104 (dk_at dksX8_newHive_4 11 rfl rfl)
theorem dX8_newHive_107 : decode cX8_newHive 107 = .ok (.invokevirtual 207, 3) := dk_182 0 207 (dk_at dksX8_newHive_4 12 rfl rfl)
theorem dX8_newHive_110 : decode cX8_newHive 110 = .ok (.pop, 1) := dk_87 (dk_at dksX8_newHive_4 15 rfl rfl)
theorem dX8_newHive_111 : decode cX8_newHive 111 = .ok (.aload_n 1, 1) := dk_43 (dk_at dksX8_newHive_4 16 rfl rfl)
theorem dX8_newHive_112 : decode cX8_newHive 112 = .ok (.getfield 184, 3) := dk_180 0 184 (dk_at dksX8_newHive_4 17 rfl rfl)
theorem dX8_newHive_115 : decode cX8_newHive 115 = .ok (.aload_n 1, 1) := dk_43 (dk_at dksX8_newHive_4 20 rfl rfl)
theorem dX8_newHive_116 : decode cX8_newHive 116 = .ok (.getfield 178, 3) := dk_180 0 178 (dk_at dksX8_newHive_4 21 rfl rfl)
theorem dX8_newHive_119 : decode cX8_newHive 119 = .ok (.aload 5, 2) := dk_25 5 (dk_at dksX8_newHive_5 0 rfl rfl)
theorem dX8_newHive_121 : decode cX8_newHive 121 = .ok (.aastore, 1) := dk_83 (dk_at dksX8_newHive_5 2 rfl rfl)
theorem dX8_newHive_122 : decode cX8_newHive 122 = .ok (.aload_n 1, 1) := dk_43 (dk_at dksX8_newHive_5 3 rfl rfl)
theorem dX8_newHive_123 : decode cX8_newHive 123 = .ok (.dup, 1) := dk_89 (dk_at dksX8_newHive_5 4 rfl rfl)
theorem dX8_newHive_124 : decode cX8_newHive 124 = .ok (.getfield 178, 3) := dk_180 0 178 (dk_at dksX8_newHive_5 5 rfl rfl)
theorem dX8_newHive_127 : decode cX8_newHive 127 = .ok (.iconst 1, 1) := dk_4 (dk_at dksX8_newHive_5 8 rfl rfl)
theorem dX8_newHive_128 : decode cX8_newHive 128 = .ok (.iadd, 1) := dk_96 (dk_at dksX8_newHive_5 9 rfl rfl)
theorem dX8_newHive_129 : decode cX8_newHive 129 = .ok (.putfield 178, 3) := dk_181 0 178 (dk_at dksX8_newHive_5 10 rfl rfl)
theorem dX8_newHive_132 : decode cX8_newHive 132 = .ok (.return_, 1) := dk_177 (dk_at dksX8_newHive_5 13 rfl rfl)
def dkwX8_fresh_2 : List UInt8 := [182, 0, 59, 191, 42, 182, 0, 19, 32, 173]
abbrev dktX8_fresh_2 : List UInt8 := dkwX8_fresh_2 ++ []
def dkwX8_fresh_1 : List UInt8 := [43, 180, 0, 149, 32, 182, 0, 158, 155, 0, 19, 42, 180, 0, 3, 180, 0, 55, 6, 42, 180, 0, 29]
abbrev dktX8_fresh_1 : List UInt8 := dkwX8_fresh_1 ++ dktX8_fresh_2
def dkwX8_fresh_0 : List UInt8 := [42, 182, 0, 139, 65, 43, 32, 182, 0, 143, 156, 0, 25, 43, 180, 0, 149, 32, 182, 0, 153, 156, 0, 14]
abbrev dktX8_fresh_0 : List UInt8 := dkwX8_fresh_0 ++ dktX8_fresh_1
theorem dksX8_fresh_0 : cX8_fresh.data.toList.drop 0 = dktX8_fresh_0 := by decide +kernel
theorem dksX8_fresh_1 : cX8_fresh.data.toList.drop 24 = dktX8_fresh_1 := dk_seg dksX8_fresh_0 24 rfl rfl
theorem dksX8_fresh_2 : cX8_fresh.data.toList.drop 47 = dktX8_fresh_2 := dk_seg dksX8_fresh_1 23 rfl rfl
theorem dX8_fresh_0 : decode cX8_fresh 0 = .ok (.aload_n 0, 1) := dk_42 (dk_at dksX8_fresh_0 0 rfl rfl)
theorem dX8_fresh_1 : decode cX8_fresh 1 = .ok (.invokevirtual 139, 3) := dk_182 0 139 (dk_at dksX8_fresh_0 1 rfl rfl)
theorem dX8_fresh_4 : decode cX8_fresh 4 = .ok (.lstore_n 2, 1) := dk_65 (dk_at dksX8_fresh_0 4 rfl rfl)
theorem dX8_fresh_5 : decode cX8_fresh 5 = .ok (.aload_n 1, 1) := dk_43 (dk_at dksX8_fresh_0 5 rfl rfl)
theorem dX8_fresh_6 : decode cX8_fresh 6 = .ok (.lload_n 2, 1) := dk_32 (dk_at dksX8_fresh_0 6 rfl rfl)
theorem dX8_fresh_7 : decode cX8_fresh 7 = .ok (.invokevirtual 143, 3) := dk_182 0 143 (dk_at dksX8_fresh_0 7 rfl rfl)
theorem dX8_fresh_10 : decode cX8_fresh 10 = .ok (.ifCond .ge 25, 3) := dk_156 0 25 (dk_at dksX8_fresh_0 10 rfl rfl)
theorem dX8_fresh_13 : decode cX8_fresh 13 = .ok (.aload_n 1, 1) := dk_43 (dk_at dksX8_fresh_0 13 rfl rfl)
theorem dX8_fresh_14 : decode cX8_fresh 14 = .ok (.getfield 149, 3) := dk_180 0 149 (dk_at dksX8_fresh_0 14 rfl rfl)
theorem dX8_fresh_17 : decode cX8_fresh 17 = .ok (.lload_n 2, 1) := dk_32 (dk_at dksX8_fresh_0 17 rfl rfl)
theorem dX8_fresh_18 : decode cX8_fresh 18 = .ok (.invokevirtual 153, 3) := dk_182 0 153 (dk_at dksX8_fresh_0 18 rfl rfl)
theorem dX8_fresh_21 : decode cX8_fresh 21 = .ok (.ifCond .ge 14, 3) := dk_156 0 14 (dk_at dksX8_fresh_0 21 rfl rfl)
theorem dX8_fresh_24 : decode cX8_fresh 24 = .ok (.aload_n 1, 1) := dk_43 (dk_at dksX8_fresh_1 0 rfl rfl)
theorem dX8_fresh_25 : decode cX8_fresh 25 = .ok (.getfield 149, 3) := dk_180 0 149 (dk_at dksX8_fresh_1 1 rfl rfl)
theorem dX8_fresh_28 : decode cX8_fresh 28 = .ok (.lload_n 2, 1) := dk_32 (dk_at dksX8_fresh_1 4 rfl rfl)
theorem dX8_fresh_29 : decode cX8_fresh 29 = .ok (.invokevirtual 158, 3) := dk_182 0 158 (dk_at dksX8_fresh_1 5 rfl rfl)
theorem dX8_fresh_32 : decode cX8_fresh 32 = .ok (.ifCond .lt 19, 3) := dk_155 0 19 (dk_at dksX8_fresh_1 8 rfl rfl)
theorem dX8_fresh_35 : decode cX8_fresh 35 = .ok (.aload_n 0, 1) := dk_42 (dk_at dksX8_fresh_1 11 rfl rfl)
theorem dX8_fresh_36 : decode cX8_fresh 36 = .ok (.getfield 3, 3) := dk_180 0 3 (dk_at dksX8_fresh_1 12 rfl rfl)
theorem dX8_fresh_39 : decode cX8_fresh 39 = .ok (.getfield 55, 3) := dk_180 0 55 (dk_at dksX8_fresh_1 15 rfl rfl)
theorem dX8_fresh_42 : decode cX8_fresh 42 = .ok (.iconst 3, 1) := dk_6 (dk_at dksX8_fresh_1 18 rfl rfl)
theorem dX8_fresh_43 : decode cX8_fresh 43 = .ok (.aload_n 0, 1) := dk_42 (dk_at dksX8_fresh_1 19 rfl rfl)
theorem dX8_fresh_44 : decode cX8_fresh 44 = .ok (.getfield 29, 3) := dk_180 0 29 (dk_at dksX8_fresh_1 20 rfl rfl)
theorem dX8_fresh_47 : decode cX8_fresh 47 = .ok (.invokevirtual 59, 3) := dk_182 0 59 (dk_at dksX8_fresh_2 0 rfl rfl)
theorem dX8_fresh_50 : decode cX8_fresh 50 = .ok (.athrow, 1) := dk_191 (dk_at dksX8_fresh_2 3 rfl rfl)
theorem dX8_fresh_51 : decode cX8_fresh 51 = .ok (.aload_n 0, 1) := dk_42 (dk_at dksX8_fresh_2 4 rfl rfl)
theorem dX8_fresh_52 : decode cX8_fresh 52 = .ok (.invokevirtual 19, 3) := dk_182 0 19 (dk_at dksX8_fresh_2 5 rfl rfl)
theorem dX8_fresh_55 : decode cX8_fresh 55 = .ok (.lload_n 2, 1) := dk_32 (dk_at dksX8_fresh_2 8 rfl rfl)
theorem dX8_fresh_56 : decode cX8_fresh 56 = .ok (.lreturn, 1) := dk_173 (dk_at dksX8_fresh_2 9 rfl rfl)
def dkwX8_name_3 : List UInt8 := [132, 3, 1, 167, 255, 224, 31, 173]
abbrev dktX8_name_3 : List UInt8 := dkwX8_name_3 ++ []
def dkwX8_name_2 : List UInt8 := [162, 0, 30, 31, 20, 0, 135, 105, 42, 180, 0, 3, 180, 0, 22, 29, 51, 133, 97, 20, 0, 137, 101, 64]
abbrev dktX8_name_2 : List UInt8 := dkwX8_name_2 ++ dktX8_name_3
def dkwX8_name_1 : List UInt8 := [182, 0, 131, 153, 0, 8, 42, 182, 0, 68, 191, 9, 64, 42, 180, 0, 29, 62, 29, 42, 180, 0, 26]
abbrev dktX8_name_1 : List UInt8 := dkwX8_name_1 ++ dktX8_name_2
def dkwX8_name_0 : List UInt8 := [42, 180, 0, 32, 4, 160, 0, 24, 42, 180, 0, 26, 42, 180, 0, 29, 100, 16, 8, 163, 0, 10, 42]
abbrev dktX8_name_0 : List UInt8 := dkwX8_name_0 ++ dktX8_name_1
theorem dksX8_name_0 : cX8_name.data.toList.drop 0 = dktX8_name_0 := by decide +kernel
theorem dksX8_name_1 : cX8_name.data.toList.drop 23 = dktX8_name_1 := dk_seg dksX8_name_0 23 rfl rfl
theorem dksX8_name_2 : cX8_name.data.toList.drop 46 = dktX8_name_2 := dk_seg dksX8_name_1 23 rfl rfl
theorem dksX8_name_3 : cX8_name.data.toList.drop 70 = dktX8_name_3 := dk_seg dksX8_name_2 24 rfl rfl
theorem dX8_name_0 : decode cX8_name 0 = .ok (.aload_n 0, 1) := dk_42 (dk_at dksX8_name_0 0 rfl rfl)
theorem dX8_name_1 : decode cX8_name 1 = .ok (.getfield 32, 3) := dk_180 0 32 (dk_at dksX8_name_0 1 rfl rfl)
theorem dX8_name_4 : decode cX8_name 4 = .ok (.iconst 1, 1) := dk_4 (dk_at dksX8_name_0 4 rfl rfl)
theorem dX8_name_5 : decode cX8_name 5 = .ok (.if_icmp .ne 24, 3) := dk_160 0 24 (dk_at dksX8_name_0 5 rfl rfl)
theorem dX8_name_8 : decode cX8_name 8 = .ok (.aload_n 0, 1) := dk_42 (dk_at dksX8_name_0 8 rfl rfl)
theorem dX8_name_9 : decode cX8_name 9 = .ok (.getfield 26, 3) := dk_180 0 26 (dk_at dksX8_name_0 9 rfl rfl)
theorem dX8_name_12 : decode cX8_name 12 = .ok (.aload_n 0, 1) := dk_42 (dk_at dksX8_name_0 12 rfl rfl)
theorem dX8_name_13 : decode cX8_name 13 = .ok (.getfield 29, 3) := dk_180 0 29 (dk_at dksX8_name_0 13 rfl rfl)
theorem dX8_name_16 : decode cX8_name 16 = .ok (.isub, 1) := dk_100 (dk_at dksX8_name_0 16 rfl rfl)
theorem dX8_name_17 : decode cX8_name 17 = .ok (.bipush 8, 2) := dk_16 8 (dk_at dksX8_name_0 17 rfl rfl)
theorem dX8_name_19 : decode cX8_name 19 = .ok (.if_icmp .gt 10, 3) := dk_163 0 10 (dk_at dksX8_name_0 19 rfl rfl)
theorem dX8_name_22 : decode cX8_name 22 = .ok (.aload_n 0, 1) := dk_42 (dk_at dksX8_name_0 22 rfl rfl)
theorem dX8_name_23 : decode cX8_name 23 = .ok (.invokevirtual 131, 3) := dk_182 0 131 (dk_at dksX8_name_1 0 rfl rfl)
theorem dX8_name_26 : decode cX8_name 26 = .ok (.ifCond .eq 8, 3) := dk_153 0 8 (dk_at dksX8_name_1 3 rfl rfl)
theorem dX8_name_29 : decode cX8_name 29 = .ok (.aload_n 0, 1) := dk_42 (dk_at dksX8_name_1 6 rfl rfl)
theorem dX8_name_30 : decode cX8_name 30 = .ok (.invokevirtual 68, 3) := dk_182 0 68 (dk_at dksX8_name_1 7 rfl rfl)
theorem dX8_name_33 : decode cX8_name 33 = .ok (.athrow, 1) := dk_191 (dk_at dksX8_name_1 10 rfl rfl)
theorem dX8_name_34 : decode cX8_name 34 = .ok (.lconst 0, 1) := dk_9 (dk_at dksX8_name_1 11 rfl rfl)
theorem dX8_name_35 : decode cX8_name 35 = .ok (.lstore_n 1, 1) := dk_64 (dk_at dksX8_name_1 12 rfl rfl)
theorem dX8_name_36 : decode cX8_name 36 = .ok (.aload_n 0, 1) := dk_42 (dk_at dksX8_name_1 13 rfl rfl)
theorem dX8_name_37 : decode cX8_name 37 = .ok (.getfield 29, 3) := dk_180 0 29 (dk_at dksX8_name_1 14 rfl rfl)
theorem dX8_name_40 : decode cX8_name 40 = .ok (.istore_n 3, 1) := dk_62 (dk_at dksX8_name_1 17 rfl rfl)
theorem dX8_name_41 : decode cX8_name 41 = .ok (.iload_n 3, 1) := dk_29 (dk_at dksX8_name_1 18 rfl rfl)
theorem dX8_name_42 : decode cX8_name 42 = .ok (.aload_n 0, 1) := dk_42 (dk_at dksX8_name_1 19 rfl rfl)
theorem dX8_name_43 : decode cX8_name 43 = .ok (.getfield 26, 3) := dk_180 0 26 (dk_at dksX8_name_1 20 rfl rfl)
theorem dX8_name_46 : decode cX8_name 46 = .ok (.if_icmp .ge 30, 3) := dk_162 0 30 (dk_at dksX8_name_2 0 rfl rfl)
theorem dX8_name_49 : decode cX8_name 49 = .ok (.lload_n 1, 1) := dk_31 (dk_at dksX8_name_2 3 rfl rfl)
theorem dX8_name_50 : decode cX8_name 50 = .ok (.ldc2_w 135, 3) := dk_20 0 135 (dk_at dksX8_name_2 4 rfl rfl)
theorem dX8_name_53 : decode cX8_name 53 = .ok (.lmul, 1) := dk_105 (dk_at dksX8_name_2 7 rfl rfl)
theorem dX8_name_54 : decode cX8_name 54 = .ok (.aload_n 0, 1) := dk_42 (dk_at dksX8_name_2 8 rfl rfl)
theorem dX8_name_55 : decode cX8_name 55 = .ok (.getfield 3, 3) := dk_180 0 3 (dk_at dksX8_name_2 9 rfl rfl)
theorem dX8_name_58 : decode cX8_name 58 = .ok (.getfield 22, 3) := dk_180 0 22 (dk_at dksX8_name_2 12 rfl rfl)
theorem dX8_name_61 : decode cX8_name 61 = .ok (.iload_n 3, 1) := dk_29 (dk_at dksX8_name_2 15 rfl rfl)
theorem dX8_name_62 : decode cX8_name 62 = .ok (.baload, 1) := dk_51 (dk_at dksX8_name_2 16 rfl rfl)
theorem dX8_name_63 : decode cX8_name 63 = .ok (.i2l, 1) := dk_133 (dk_at dksX8_name_2 17 rfl rfl)
theorem dX8_name_64 : decode cX8_name 64 = .ok (.ladd, 1) := dk_97 (dk_at dksX8_name_2 18 rfl rfl)
theorem dX8_name_65 : decode cX8_name 65 = .ok (.ldc2_w 137, 3) := dk_20 0 137 (dk_at dksX8_name_2 19 rfl rfl)
theorem dX8_name_68 : decode cX8_name 68 = .ok (.lsub, 1) := dk_101 (dk_at dksX8_name_2 22 rfl rfl)
theorem dX8_name_69 : decode cX8_name 69 = .ok (.lstore_n 1, 1) := dk_64 (dk_at dksX8_name_2 23 rfl rfl)
theorem dX8_name_70 : decode cX8_name 70 = .ok (.iinc 3 1, 3) := dk_132 3 1 (dk_at dksX8_name_3 0 rfl rfl)
theorem dX8_name_73 : decode cX8_name 73 = .ok (.goto (-32), 3) := dk_167 255 224 (dk_at dksX8_name_3 3 rfl rfl)
theorem dX8_name_76 : decode cX8_name 76 = .ok (.lload_n 1, 1) := dk_31 (dk_at dksX8_name_3 6 rfl rfl)
theorem dX8_name_77 : decode cX8_name 77 = .ok (.lreturn, 1) := dk_173 (dk_at dksX8_name_3 7 rfl rfl)
def dkwX8_isKept_5 : List UInt8 := [182, 0, 72, 154, 0, 12, 42, 18, 129, 182, 0, 72, 153, 0, 7, 4, 167, 0, 4, 3, 172]
abbrev dktX8_isKept_5 : List UInt8 := dkwX8_isKept_5 ++ []
def dkwX8_isKept_4 : List UInt8 := [156, 0, 37, 42, 182, 0, 122, 156, 0, 30, 42, 18, 125, 182, 0, 72, 154, 0, 21, 42, 18, 127]
abbrev dktX8_isKept_4 : List UInt8 := dkwX8_isKept_4 ++ dktX8_isKept_5
def dkwX8_isKept_3 : List UInt8 := [42, 18, 117, 182, 0, 72, 153, 0, 7, 4, 167, 0, 4, 3, 60, 27, 154, 0, 44, 42, 182, 0, 119]
abbrev dktX8_isKept_3 : List UInt8 := dkwX8_isKept_3 ++ dktX8_isKept_4
def dkwX8_isKept_2 : List UInt8 := [182, 0, 72, 154, 0, 30, 42, 18, 113, 182, 0, 72, 154, 0, 21, 42, 18, 115, 182, 0, 72, 154, 0, 12]
abbrev dktX8_isKept_2 : List UInt8 := dkwX8_isKept_2 ++ dktX8_isKept_3
def dkwX8_isKept_1 : List UInt8 := [154, 0, 57, 42, 18, 107, 182, 0, 72, 154, 0, 48, 42, 18, 109, 182, 0, 72, 154, 0, 39, 42, 18, 111]
abbrev dktX8_isKept_1 : List UInt8 := dkwX8_isKept_1 ++ dktX8_isKept_2
def dkwX8_isKept_0 : List UInt8 := [42, 18, 101, 182, 0, 72, 154, 0, 75, 42, 18, 103, 182, 0, 72, 154, 0, 66, 42, 18, 105, 182, 0, 72]
abbrev dktX8_isKept_0 : List UInt8 := dkwX8_isKept_0 ++ dktX8_isKept_1
theorem dksX8_isKept_0 : cX8_isKept.data.toList.drop 0 = dktX8_isKept_0 := by decide +kernel
theorem dksX8_isKept_1 : cX8_isKept.data.toList.drop 24 = dktX8_isKept_1 := dk_seg dksX8_isKept_0 24 rfl rfl
theorem dksX8_isKept_2 : cX8_isKept.data.toList.drop 48 = dktX8_isKept_2 := dk_seg dksX8_isKept_1 24 rfl rfl
theorem dksX8_isKept_3 : cX8_isKept.data.toList.drop 72 = dktX8_isKept_3 := dk_seg dksX8_isKept_2 24 rfl rfl
theorem dksX8_isKept_4 : cX8_isKept.data.toList.drop 95 = dktX8_isKept_4 := dk_seg dksX8_isKept_3 23 rfl rfl
theorem dksX8_isKept_5 : cX8_isKept.data.toList.drop 117 = dktX8_isKept_5 := dk_seg dksX8_isKept_4 22 rfl rfl
theorem dX8_isKept_0 : decode cX8_isKept 0 = .ok (.aload_n 0, 1) := dk_42 (dk_at dksX8_isKept_0 0 rfl rfl)
theorem dX8_isKept_1 : decode cX8_isKept 1 = .ok (.ldc 101, 2) := dk_18 101 (dk_at dksX8_isKept_0 1 rfl rfl)
theorem dX8_isKept_3 : decode cX8_isKept 3 = .ok (.invokevirtual 72, 3) := dk_182 0 72 (dk_at dksX8_isKept_0 3 rfl rfl)
theorem dX8_isKept_6 : decode cX8_isKept 6 = .ok (.ifCond .ne 75, 3) := dk_154 0 75 (dk_at dksX8_isKept_0 6 rfl rfl)
theorem dX8_isKept_9 : decode cX8_isKept 9 = .ok (.aload_n 0, 1) := dk_42 (dk_at dksX8_isKept_0 9 rfl rfl)
theorem dX8_isKept_10 : decode cX8_isKept 10 = .ok (.ldc 103, 2) := dk_18 103 (dk_at dksX8_isKept_0 10 rfl rfl)
theorem dX8_isKept_12 : decode cX8_isKept 12 = .ok (.invokevirtual 72, 3) := dk_182 0 72 (dk_at dksX8_isKept_0 12 rfl rfl)
theorem dX8_isKept_15 : decode cX8_isKept 15 = .ok (.ifCond .ne 66, 3) := dk_154 0 66 (dk_at dksX8_isKept_0 15 rfl rfl)
theorem dX8_isKept_18 : decode cX8_isKept 18 = .ok (.aload_n 0, 1) := dk_42 (dk_at dksX8_isKept_0 18 rfl rfl)
theorem dX8_isKept_19 : decode cX8_isKept 19 = .ok (.ldc 105, 2) := dk_18 105 (dk_at dksX8_isKept_0 19 rfl rfl)
theorem dX8_isKept_21 : decode cX8_isKept 21 = .ok (.invokevirtual 72, 3) := dk_182 0 72 (dk_at dksX8_isKept_0 21 rfl rfl)
theorem dX8_isKept_24 : decode cX8_isKept 24 = .ok (.ifCond .ne 57, 3) := dk_154 0 57 (dk_at dksX8_isKept_1 0 rfl rfl)
theorem dX8_isKept_27 : decode cX8_isKept 27 = .ok (.aload_n 0, 1) := dk_42 (dk_at dksX8_isKept_1 3 rfl rfl)
theorem dX8_isKept_28 : decode cX8_isKept 28 = .ok (.ldc 107, 2) := dk_18 107 (dk_at dksX8_isKept_1 4 rfl rfl)
theorem dX8_isKept_30 : decode cX8_isKept 30 = .ok (.invokevirtual 72, 3) := dk_182 0 72 (dk_at dksX8_isKept_1 6 rfl rfl)
theorem dX8_isKept_33 : decode cX8_isKept 33 = .ok (.ifCond .ne 48, 3) := dk_154 0 48 (dk_at dksX8_isKept_1 9 rfl rfl)
theorem dX8_isKept_36 : decode cX8_isKept 36 = .ok (.aload_n 0, 1) := dk_42 (dk_at dksX8_isKept_1 12 rfl rfl)
theorem dX8_isKept_37 : decode cX8_isKept 37 = .ok (.ldc 109, 2) := dk_18 109 (dk_at dksX8_isKept_1 13 rfl rfl)
theorem dX8_isKept_39 : decode cX8_isKept 39 = .ok (.invokevirtual 72, 3) := dk_182 0 72 (dk_at dksX8_isKept_1 15 rfl rfl)
theorem dX8_isKept_42 : decode cX8_isKept 42 = .ok (.ifCond .ne 39, 3) := dk_154 0 39 (dk_at dksX8_isKept_1 18 rfl rfl)
theorem dX8_isKept_45 : decode cX8_isKept 45 = .ok (.aload_n 0, 1) := dk_42 (dk_at dksX8_isKept_1 21 rfl rfl)
theorem dX8_isKept_46 : decode cX8_isKept 46 = .ok (.ldc 111, 2) := dk_18 111 (dk_at dksX8_isKept_1 22 rfl rfl)
theorem dX8_isKept_48 : decode cX8_isKept 48 = .ok (.invokevirtual 72, 3) := dk_182 0 72 (dk_at dksX8_isKept_2 0 rfl rfl)
theorem dX8_isKept_51 : decode cX8_isKept 51 = .ok (.ifCond .ne 30, 3) := dk_154 0 30 (dk_at dksX8_isKept_2 3 rfl rfl)
theorem dX8_isKept_54 : decode cX8_isKept 54 = .ok (.aload_n 0, 1) := dk_42 (dk_at dksX8_isKept_2 6 rfl rfl)
theorem dX8_isKept_55 : decode cX8_isKept 55 = .ok (.ldc 113, 2) := dk_18 113 (dk_at dksX8_isKept_2 7 rfl rfl)
theorem dX8_isKept_57 : decode cX8_isKept 57 = .ok (.invokevirtual 72, 3) := dk_182 0 72 (dk_at dksX8_isKept_2 9 rfl rfl)
theorem dX8_isKept_60 : decode cX8_isKept 60 = .ok (.ifCond .ne 21, 3) := dk_154 0 21 (dk_at dksX8_isKept_2 12 rfl rfl)
theorem dX8_isKept_63 : decode cX8_isKept 63 = .ok (.aload_n 0, 1) := dk_42 (dk_at dksX8_isKept_2 15 rfl rfl)
theorem dX8_isKept_64 : decode cX8_isKept 64 = .ok (.ldc 115, 2) := dk_18 115 (dk_at dksX8_isKept_2 16 rfl rfl)
theorem dX8_isKept_66 : decode cX8_isKept 66 = .ok (.invokevirtual 72, 3) := dk_182 0 72 (dk_at dksX8_isKept_2 18 rfl rfl)
theorem dX8_isKept_69 : decode cX8_isKept 69 = .ok (.ifCond .ne 12, 3) := dk_154 0 12 (dk_at dksX8_isKept_2 21 rfl rfl)
theorem dX8_isKept_72 : decode cX8_isKept 72 = .ok (.aload_n 0, 1) := dk_42 (dk_at dksX8_isKept_3 0 rfl rfl)
theorem dX8_isKept_73 : decode cX8_isKept 73 = .ok (.ldc 117, 2) := dk_18 117 (dk_at dksX8_isKept_3 1 rfl rfl)
theorem dX8_isKept_75 : decode cX8_isKept 75 = .ok (.invokevirtual 72, 3) := dk_182 0 72 (dk_at dksX8_isKept_3 3 rfl rfl)
theorem dX8_isKept_78 : decode cX8_isKept 78 = .ok (.ifCond .eq 7, 3) := dk_153 0 7 (dk_at dksX8_isKept_3 6 rfl rfl)
theorem dX8_isKept_81 : decode cX8_isKept 81 = .ok (.iconst 1, 1) := dk_4 (dk_at dksX8_isKept_3 9 rfl rfl)
theorem dX8_isKept_82 : decode cX8_isKept 82 = .ok (.goto 4, 3) := dk_167 0 4 (dk_at dksX8_isKept_3 10 rfl rfl)
theorem dX8_isKept_85 : decode cX8_isKept 85 = .ok (.iconst 0, 1) := dk_3 (dk_at dksX8_isKept_3 13 rfl rfl)
theorem dX8_isKept_86 : decode cX8_isKept 86 = .ok (.istore_n 1, 1) := dk_60 (dk_at dksX8_isKept_3 14 rfl rfl)
theorem dX8_isKept_87 : decode cX8_isKept 87 = .ok (.iload_n 1, 1) := dk_27 (dk_at dksX8_isKept_3 15 rfl rfl)
theorem dX8_isKept_88 : decode cX8_isKept 88 = .ok (.ifCond .ne 44, 3) := dk_154 0 44 (dk_at dksX8_isKept_3 16 rfl rfl)
theorem dX8_isKept_91 : decode cX8_isKept 91 = .ok (.aload_n 0, 1) := dk_42 (dk_at dksX8_isKept_3 19 rfl rfl)
theorem dX8_isKept_92 : decode cX8_isKept 92 = .ok (.invokevirtual 119, 3) := dk_182 0 119 (dk_at dksX8_isKept_3 20 rfl rfl)
theorem dX8_isKept_95 : decode cX8_isKept 95 = .ok (.ifCond .ge 37, 3) := dk_156 0 37 (dk_at dksX8_isKept_4 0 rfl rfl)
theorem dX8_isKept_98 : decode cX8_isKept 98 = .ok (.aload_n 0, 1) := dk_42 (dk_at dksX8_isKept_4 3 rfl rfl)
theorem dX8_isKept_99 : decode cX8_isKept 99 = .ok (.invokevirtual 122, 3) := dk_182 0 122 (dk_at dksX8_isKept_4 4 rfl rfl)
theorem dX8_isKept_102 : decode cX8_isKept 102 = .ok (.ifCond .ge 30, 3) := dk_156 0 30 (dk_at dksX8_isKept_4 7 rfl rfl)
theorem dX8_isKept_105 : decode cX8_isKept 105 = .ok (.aload_n 0, 1) := dk_42 (dk_at dksX8_isKept_4 10 rfl rfl)
theorem dX8_isKept_106 : decode cX8_isKept 106 = .ok (.ldc 125, 2) := dk_18 125 (dk_at dksX8_isKept_4 11 rfl rfl)
theorem dX8_isKept_108 : decode cX8_isKept 108 = .ok (.invokevirtual 72, 3) := dk_182 0 72 (dk_at dksX8_isKept_4 13 rfl rfl)
theorem dX8_isKept_111 : decode cX8_isKept 111 = .ok (.ifCond .ne 21, 3) := dk_154 0 21 (dk_at dksX8_isKept_4 16 rfl rfl)
theorem dX8_isKept_114 : decode cX8_isKept 114 = .ok (.aload_n 0, 1) := dk_42 (dk_at dksX8_isKept_4 19 rfl rfl)
theorem dX8_isKept_115 : decode cX8_isKept 115 = .ok (.ldc 127, 2) := dk_18 127 (dk_at dksX8_isKept_4 20 rfl rfl)
theorem dX8_isKept_117 : decode cX8_isKept 117 = .ok (.invokevirtual 72, 3) := dk_182 0 72 (dk_at dksX8_isKept_5 0 rfl rfl)
theorem dX8_isKept_120 : decode cX8_isKept 120 = .ok (.ifCond .ne 12, 3) := dk_154 0 12 (dk_at dksX8_isKept_5 3 rfl rfl)
theorem dX8_isKept_123 : decode cX8_isKept 123 = .ok (.aload_n 0, 1) := dk_42 (dk_at dksX8_isKept_5 6 rfl rfl)
theorem dX8_isKept_124 : decode cX8_isKept 124 = .ok (.ldc 129, 2) := dk_18 129 (dk_at dksX8_isKept_5 7 rfl rfl)
theorem dX8_isKept_126 : decode cX8_isKept 126 = .ok (.invokevirtual 72, 3) := dk_182 0 72 (dk_at dksX8_isKept_5 9 rfl rfl)
theorem dX8_isKept_129 : decode cX8_isKept 129 = .ok (.ifCond .eq 7, 3) := dk_153 0 7 (dk_at dksX8_isKept_5 12 rfl rfl)
theorem dX8_isKept_132 : decode cX8_isKept 132 = .ok (.iconst 1, 1) := dk_4 (dk_at dksX8_isKept_5 15 rfl rfl)
theorem dX8_isKept_133 : decode cX8_isKept 133 = .ok (.goto 4, 3) := dk_167 0 4 (dk_at dksX8_isKept_5 16 rfl rfl)
theorem dX8_isKept_136 : decode cX8_isKept 136 = .ok (.iconst 0, 1) := dk_3 (dk_at dksX8_isKept_5 19 rfl rfl)
theorem dX8_isKept_137 : decode cX8_isKept 137 = .ok (.ireturn, 1) := dk_172 (dk_at dksX8_isKept_5 20 rfl rfl)
def dkwX8_acts_3 : List UInt8 := [182, 0, 72, 153, 0, 8, 16, 6, 167, 0, 4, 2, 172]
abbrev dktX8_acts_3 : List UInt8 := dkwX8_acts_3 ++ []
def dkwX8_acts_2 : List UInt8 := [182, 0, 72, 153, 0, 5, 7, 172, 42, 18, 89, 182, 0, 72, 153, 0, 5, 8, 172, 42, 18, 91]
abbrev dktX8_acts_2 : List UInt8 := dkwX8_acts_2 ++ dktX8_acts_3
def dkwX8_acts_1 : List UInt8 := [18, 83, 182, 0, 72, 153, 0, 5, 5, 172, 42, 18, 85, 182, 0, 72, 153, 0, 5, 6, 172, 42, 18, 87]
abbrev dktX8_acts_1 : List UInt8 := dkwX8_acts_1 ++ dktX8_acts_2
def dkwX8_acts_0 : List UInt8 := [42, 18, 79, 182, 0, 72, 153, 0, 5, 3, 172, 42, 18, 81, 182, 0, 72, 153, 0, 5, 4, 172, 42]
abbrev dktX8_acts_0 : List UInt8 := dkwX8_acts_0 ++ dktX8_acts_1
theorem dksX8_acts_0 : cX8_acts.data.toList.drop 0 = dktX8_acts_0 := by decide +kernel
theorem dksX8_acts_1 : cX8_acts.data.toList.drop 23 = dktX8_acts_1 := dk_seg dksX8_acts_0 23 rfl rfl
theorem dksX8_acts_2 : cX8_acts.data.toList.drop 47 = dktX8_acts_2 := dk_seg dksX8_acts_1 24 rfl rfl
theorem dksX8_acts_3 : cX8_acts.data.toList.drop 69 = dktX8_acts_3 := dk_seg dksX8_acts_2 22 rfl rfl
theorem dX8_acts_0 : decode cX8_acts 0 = .ok (.aload_n 0, 1) := dk_42 (dk_at dksX8_acts_0 0 rfl rfl)
theorem dX8_acts_1 : decode cX8_acts 1 = .ok (.ldc 79, 2) := dk_18 79 (dk_at dksX8_acts_0 1 rfl rfl)
theorem dX8_acts_3 : decode cX8_acts 3 = .ok (.invokevirtual 72, 3) := dk_182 0 72 (dk_at dksX8_acts_0 3 rfl rfl)
theorem dX8_acts_6 : decode cX8_acts 6 = .ok (.ifCond .eq 5, 3) := dk_153 0 5 (dk_at dksX8_acts_0 6 rfl rfl)
theorem dX8_acts_9 : decode cX8_acts 9 = .ok (.iconst 0, 1) := dk_3 (dk_at dksX8_acts_0 9 rfl rfl)
theorem dX8_acts_10 : decode cX8_acts 10 = .ok (.ireturn, 1) := dk_172 (dk_at dksX8_acts_0 10 rfl rfl)
theorem dX8_acts_11 : decode cX8_acts 11 = .ok (.aload_n 0, 1) := dk_42 (dk_at dksX8_acts_0 11 rfl rfl)
theorem dX8_acts_12 : decode cX8_acts 12 = .ok (.ldc 81, 2) := dk_18 81 (dk_at dksX8_acts_0 12 rfl rfl)
theorem dX8_acts_14 : decode cX8_acts 14 = .ok (.invokevirtual 72, 3) := dk_182 0 72 (dk_at dksX8_acts_0 14 rfl rfl)
theorem dX8_acts_17 : decode cX8_acts 17 = .ok (.ifCond .eq 5, 3) := dk_153 0 5 (dk_at dksX8_acts_0 17 rfl rfl)
theorem dX8_acts_20 : decode cX8_acts 20 = .ok (.iconst 1, 1) := dk_4 (dk_at dksX8_acts_0 20 rfl rfl)
theorem dX8_acts_21 : decode cX8_acts 21 = .ok (.ireturn, 1) := dk_172 (dk_at dksX8_acts_0 21 rfl rfl)
theorem dX8_acts_22 : decode cX8_acts 22 = .ok (.aload_n 0, 1) := dk_42 (dk_at dksX8_acts_0 22 rfl rfl)
theorem dX8_acts_23 : decode cX8_acts 23 = .ok (.ldc 83, 2) := dk_18 83 (dk_at dksX8_acts_1 0 rfl rfl)
theorem dX8_acts_25 : decode cX8_acts 25 = .ok (.invokevirtual 72, 3) := dk_182 0 72 (dk_at dksX8_acts_1 2 rfl rfl)
theorem dX8_acts_28 : decode cX8_acts 28 = .ok (.ifCond .eq 5, 3) := dk_153 0 5 (dk_at dksX8_acts_1 5 rfl rfl)
theorem dX8_acts_31 : decode cX8_acts 31 = .ok (.iconst 2, 1) := dk_5 (dk_at dksX8_acts_1 8 rfl rfl)
theorem dX8_acts_32 : decode cX8_acts 32 = .ok (.ireturn, 1) := dk_172 (dk_at dksX8_acts_1 9 rfl rfl)
theorem dX8_acts_33 : decode cX8_acts 33 = .ok (.aload_n 0, 1) := dk_42 (dk_at dksX8_acts_1 10 rfl rfl)
theorem dX8_acts_34 : decode cX8_acts 34 = .ok (.ldc 85, 2) := dk_18 85 (dk_at dksX8_acts_1 11 rfl rfl)
theorem dX8_acts_36 : decode cX8_acts 36 = .ok (.invokevirtual 72, 3) := dk_182 0 72 (dk_at dksX8_acts_1 13 rfl rfl)
theorem dX8_acts_39 : decode cX8_acts 39 = .ok (.ifCond .eq 5, 3) := dk_153 0 5 (dk_at dksX8_acts_1 16 rfl rfl)
theorem dX8_acts_42 : decode cX8_acts 42 = .ok (.iconst 3, 1) := dk_6 (dk_at dksX8_acts_1 19 rfl rfl)
theorem dX8_acts_43 : decode cX8_acts 43 = .ok (.ireturn, 1) := dk_172 (dk_at dksX8_acts_1 20 rfl rfl)
theorem dX8_acts_44 : decode cX8_acts 44 = .ok (.aload_n 0, 1) := dk_42 (dk_at dksX8_acts_1 21 rfl rfl)
theorem dX8_acts_45 : decode cX8_acts 45 = .ok (.ldc 87, 2) := dk_18 87 (dk_at dksX8_acts_1 22 rfl rfl)
theorem dX8_acts_47 : decode cX8_acts 47 = .ok (.invokevirtual 72, 3) := dk_182 0 72 (dk_at dksX8_acts_2 0 rfl rfl)
theorem dX8_acts_50 : decode cX8_acts 50 = .ok (.ifCond .eq 5, 3) := dk_153 0 5 (dk_at dksX8_acts_2 3 rfl rfl)
theorem dX8_acts_53 : decode cX8_acts 53 = .ok (.iconst 4, 1) := dk_7 (dk_at dksX8_acts_2 6 rfl rfl)
theorem dX8_acts_54 : decode cX8_acts 54 = .ok (.ireturn, 1) := dk_172 (dk_at dksX8_acts_2 7 rfl rfl)
theorem dX8_acts_55 : decode cX8_acts 55 = .ok (.aload_n 0, 1) := dk_42 (dk_at dksX8_acts_2 8 rfl rfl)
theorem dX8_acts_56 : decode cX8_acts 56 = .ok (.ldc 89, 2) := dk_18 89 (dk_at dksX8_acts_2 9 rfl rfl)
theorem dX8_acts_58 : decode cX8_acts 58 = .ok (.invokevirtual 72, 3) := dk_182 0 72 (dk_at dksX8_acts_2 11 rfl rfl)
theorem dX8_acts_61 : decode cX8_acts 61 = .ok (.ifCond .eq 5, 3) := dk_153 0 5 (dk_at dksX8_acts_2 14 rfl rfl)
theorem dX8_acts_64 : decode cX8_acts 64 = .ok (.iconst 5, 1) := dk_8 (dk_at dksX8_acts_2 17 rfl rfl)
theorem dX8_acts_65 : decode cX8_acts 65 = .ok (.ireturn, 1) := dk_172 (dk_at dksX8_acts_2 18 rfl rfl)
theorem dX8_acts_66 : decode cX8_acts 66 = .ok (.aload_n 0, 1) := dk_42 (dk_at dksX8_acts_2 19 rfl rfl)
theorem dX8_acts_67 : decode cX8_acts 67 = .ok (.ldc 91, 2) := dk_18 91 (dk_at dksX8_acts_2 20 rfl rfl)
theorem dX8_acts_69 : decode cX8_acts 69 = .ok (.invokevirtual 72, 3) := dk_182 0 72 (dk_at dksX8_acts_3 0 rfl rfl)
theorem dX8_acts_72 : decode cX8_acts 72 = .ok (.ifCond .eq 8, 3) := dk_153 0 8 (dk_at dksX8_acts_3 3 rfl rfl)
theorem dX8_acts_75 : decode cX8_acts 75 = .ok (.bipush 6, 2) := dk_16 6 (dk_at dksX8_acts_3 6 rfl rfl)
theorem dX8_acts_77 : decode cX8_acts 77 = .ok (.goto 4, 3) := dk_167 0 4 (dk_at dksX8_acts_3 8 rfl rfl)
theorem dX8_acts_80 : decode cX8_acts 80 = .ok (.iconst (-1), 1) := dk_2 (dk_at dksX8_acts_3 11 rfl rfl)
theorem dX8_acts_81 : decode cX8_acts 81 = .ok (.ireturn, 1) := dk_172 (dk_at dksX8_acts_3 12 rfl rfl)
def dkwX8_tests_2 : List UInt8 := [153, 0, 7, 6, 167, 0, 4, 2, 172]
abbrev dktX8_tests_2 : List UInt8 := dkwX8_tests_2 ++ []
def dkwX8_tests_1 : List UInt8 := [167, 0, 30, 42, 18, 97, 182, 0, 72, 153, 0, 7, 5, 167, 0, 17, 42, 18, 99, 182, 0, 72]
abbrev dktX8_tests_1 : List UInt8 := dkwX8_tests_1 ++ dktX8_tests_2
def dkwX8_tests_0 : List UInt8 := [42, 18, 93, 182, 0, 72, 153, 0, 7, 3, 167, 0, 43, 42, 18, 95, 182, 0, 72, 153, 0, 7, 4]
abbrev dktX8_tests_0 : List UInt8 := dkwX8_tests_0 ++ dktX8_tests_1
theorem dksX8_tests_0 : cX8_tests.data.toList.drop 0 = dktX8_tests_0 := by decide +kernel
theorem dksX8_tests_1 : cX8_tests.data.toList.drop 23 = dktX8_tests_1 := dk_seg dksX8_tests_0 23 rfl rfl
theorem dksX8_tests_2 : cX8_tests.data.toList.drop 45 = dktX8_tests_2 := dk_seg dksX8_tests_1 22 rfl rfl
theorem dX8_tests_0 : decode cX8_tests 0 = .ok (.aload_n 0, 1) := dk_42 (dk_at dksX8_tests_0 0 rfl rfl)
theorem dX8_tests_1 : decode cX8_tests 1 = .ok (.ldc 93, 2) := dk_18 93 (dk_at dksX8_tests_0 1 rfl rfl)
theorem dX8_tests_3 : decode cX8_tests 3 = .ok (.invokevirtual 72, 3) := dk_182 0 72 (dk_at dksX8_tests_0 3 rfl rfl)
theorem dX8_tests_6 : decode cX8_tests 6 = .ok (.ifCond .eq 7, 3) := dk_153 0 7 (dk_at dksX8_tests_0 6 rfl rfl)
theorem dX8_tests_9 : decode cX8_tests 9 = .ok (.iconst 0, 1) := dk_3 (dk_at dksX8_tests_0 9 rfl rfl)
theorem dX8_tests_10 : decode cX8_tests 10 = .ok (.goto 43, 3) := dk_167 0 43 (dk_at dksX8_tests_0 10 rfl rfl)
theorem dX8_tests_13 : decode cX8_tests 13 = .ok (.aload_n 0, 1) := dk_42 (dk_at dksX8_tests_0 13 rfl rfl)
theorem dX8_tests_14 : decode cX8_tests 14 = .ok (.ldc 95, 2) := dk_18 95 (dk_at dksX8_tests_0 14 rfl rfl)
theorem dX8_tests_16 : decode cX8_tests 16 = .ok (.invokevirtual 72, 3) := dk_182 0 72 (dk_at dksX8_tests_0 16 rfl rfl)
theorem dX8_tests_19 : decode cX8_tests 19 = .ok (.ifCond .eq 7, 3) := dk_153 0 7 (dk_at dksX8_tests_0 19 rfl rfl)
theorem dX8_tests_22 : decode cX8_tests 22 = .ok (.iconst 1, 1) := dk_4 (dk_at dksX8_tests_0 22 rfl rfl)
theorem dX8_tests_23 : decode cX8_tests 23 = .ok (.goto 30, 3) := dk_167 0 30 (dk_at dksX8_tests_1 0 rfl rfl)
theorem dX8_tests_26 : decode cX8_tests 26 = .ok (.aload_n 0, 1) := dk_42 (dk_at dksX8_tests_1 3 rfl rfl)
theorem dX8_tests_27 : decode cX8_tests 27 = .ok (.ldc 97, 2) := dk_18 97 (dk_at dksX8_tests_1 4 rfl rfl)
theorem dX8_tests_29 : decode cX8_tests 29 = .ok (.invokevirtual 72, 3) := dk_182 0 72 (dk_at dksX8_tests_1 6 rfl rfl)
theorem dX8_tests_32 : decode cX8_tests 32 = .ok (.ifCond .eq 7, 3) := dk_153 0 7 (dk_at dksX8_tests_1 9 rfl rfl)
theorem dX8_tests_35 : decode cX8_tests 35 = .ok (.iconst 2, 1) := dk_5 (dk_at dksX8_tests_1 12 rfl rfl)
theorem dX8_tests_36 : decode cX8_tests 36 = .ok (.goto 17, 3) := dk_167 0 17 (dk_at dksX8_tests_1 13 rfl rfl)
theorem dX8_tests_39 : decode cX8_tests 39 = .ok (.aload_n 0, 1) := dk_42 (dk_at dksX8_tests_1 16 rfl rfl)
theorem dX8_tests_40 : decode cX8_tests 40 = .ok (.ldc 99, 2) := dk_18 99 (dk_at dksX8_tests_1 17 rfl rfl)
theorem dX8_tests_42 : decode cX8_tests 42 = .ok (.invokevirtual 72, 3) := dk_182 0 72 (dk_at dksX8_tests_1 19 rfl rfl)
theorem dX8_tests_45 : decode cX8_tests 45 = .ok (.ifCond .eq 7, 3) := dk_153 0 7 (dk_at dksX8_tests_2 0 rfl rfl)
theorem dX8_tests_48 : decode cX8_tests 48 = .ok (.iconst 3, 1) := dk_6 (dk_at dksX8_tests_2 3 rfl rfl)
theorem dX8_tests_49 : decode cX8_tests 49 = .ok (.goto 4, 3) := dk_167 0 4 (dk_at dksX8_tests_2 4 rfl rfl)
theorem dX8_tests_52 : decode cX8_tests 52 = .ok (.iconst (-1), 1) := dk_2 (dk_at dksX8_tests_2 7 rfl rfl)
theorem dX8_tests_53 : decode cX8_tests 53 = .ok (.ireturn, 1) := dk_172 (dk_at dksX8_tests_2 8 rfl rfl)
def dkwX8_wrong_1 : List UInt8 := [182, 0, 59, 176]
abbrev dktX8_wrong_1 : List UInt8 := dkwX8_wrong_1 ++ []
def dkwX8_wrong_0 : List UInt8 := [42, 180, 0, 3, 180, 0, 55, 42, 180, 0, 32, 7, 160, 0, 7, 4, 167, 0, 4, 5, 42, 180, 0, 29]
abbrev dktX8_wrong_0 : List UInt8 := dkwX8_wrong_0 ++ dktX8_wrong_1
theorem dksX8_wrong_0 : cX8_wrong.data.toList.drop 0 = dktX8_wrong_0 := by decide +kernel
theorem dksX8_wrong_1 : cX8_wrong.data.toList.drop 24 = dktX8_wrong_1 := dk_seg dksX8_wrong_0 24 rfl rfl
theorem dX8_wrong_0 : decode cX8_wrong 0 = .ok (.aload_n 0, 1) := dk_42 (dk_at dksX8_wrong_0 0 rfl rfl)
theorem dX8_wrong_1 : decode cX8_wrong 1 = .ok (.getfield 3, 3) := dk_180 0 3 (dk_at dksX8_wrong_0 1 rfl rfl)
theorem dX8_wrong_4 : decode cX8_wrong 4 = .ok (.getfield 55, 3) := dk_180 0 55 (dk_at dksX8_wrong_0 4 rfl rfl)
theorem dX8_wrong_7 : decode cX8_wrong 7 = .ok (.aload_n 0, 1) := dk_42 (dk_at dksX8_wrong_0 7 rfl rfl)
theorem dX8_wrong_8 : decode cX8_wrong 8 = .ok (.getfield 32, 3) := dk_180 0 32 (dk_at dksX8_wrong_0 8 rfl rfl)
theorem dX8_wrong_11 : decode cX8_wrong 11 = .ok (.iconst 4, 1) := dk_7 (dk_at dksX8_wrong_0 11 rfl rfl)
theorem dX8_wrong_12 : decode cX8_wrong 12 = .ok (.if_icmp .ne 7, 3) := dk_160 0 7 (dk_at dksX8_wrong_0 12 rfl rfl)
theorem dX8_wrong_15 : decode cX8_wrong 15 = .ok (.iconst 1, 1) := dk_4 (dk_at dksX8_wrong_0 15 rfl rfl)
theorem dX8_wrong_16 : decode cX8_wrong 16 = .ok (.goto 4, 3) := dk_167 0 4 (dk_at dksX8_wrong_0 16 rfl rfl)
theorem dX8_wrong_19 : decode cX8_wrong 19 = .ok (.iconst 2, 1) := dk_5 (dk_at dksX8_wrong_0 19 rfl rfl)
theorem dX8_wrong_20 : decode cX8_wrong 20 = .ok (.aload_n 0, 1) := dk_42 (dk_at dksX8_wrong_0 20 rfl rfl)
theorem dX8_wrong_21 : decode cX8_wrong 21 = .ok (.getfield 29, 3) := dk_180 0 29 (dk_at dksX8_wrong_0 21 rfl rfl)
theorem dX8_wrong_24 : decode cX8_wrong 24 = .ok (.invokevirtual 59, 3) := dk_182 0 59 (dk_at dksX8_wrong_1 0 rfl rfl)
theorem dX8_wrong_27 : decode cX8_wrong 27 = .ok (.areturn, 1) := dk_176 (dk_at dksX8_wrong_1 3 rfl rfl)
def dkwX8_behind_0 : List UInt8 := [42, 43, 182, 0, 72, 154, 0, 8, 42, 182, 0, 68, 191, 42, 182, 0, 19, 42, 28, 29, 182, 0, 76, 172]
abbrev dktX8_behind_0 : List UInt8 := dkwX8_behind_0 ++ []
theorem dksX8_behind_0 : cX8_behind.data.toList.drop 0 = dktX8_behind_0 := by decide +kernel
theorem dX8_behind_0 : decode cX8_behind 0 = .ok (.aload_n 0, 1) := dk_42 (dk_at dksX8_behind_0 0 rfl rfl)
theorem dX8_behind_1 : decode cX8_behind 1 = .ok (.aload_n 1, 1) := dk_43 (dk_at dksX8_behind_0 1 rfl rfl)
theorem dX8_behind_2 : decode cX8_behind 2 = .ok (.invokevirtual 72, 3) := dk_182 0 72 (dk_at dksX8_behind_0 2 rfl rfl)
theorem dX8_behind_5 : decode cX8_behind 5 = .ok (.ifCond .ne 8, 3) := dk_154 0 8 (dk_at dksX8_behind_0 5 rfl rfl)
theorem dX8_behind_8 : decode cX8_behind 8 = .ok (.aload_n 0, 1) := dk_42 (dk_at dksX8_behind_0 8 rfl rfl)
theorem dX8_behind_9 : decode cX8_behind 9 = .ok (.invokevirtual 68, 3) := dk_182 0 68 (dk_at dksX8_behind_0 9 rfl rfl)
theorem dX8_behind_12 : decode cX8_behind 12 = .ok (.athrow, 1) := dk_191 (dk_at dksX8_behind_0 12 rfl rfl)
theorem dX8_behind_13 : decode cX8_behind 13 = .ok (.aload_n 0, 1) := dk_42 (dk_at dksX8_behind_0 13 rfl rfl)
theorem dX8_behind_14 : decode cX8_behind 14 = .ok (.invokevirtual 19, 3) := dk_182 0 19 (dk_at dksX8_behind_0 14 rfl rfl)
theorem dX8_behind_17 : decode cX8_behind 17 = .ok (.aload_n 0, 1) := dk_42 (dk_at dksX8_behind_0 17 rfl rfl)
theorem dX8_behind_18 : decode cX8_behind 18 = .ok (.iload_n 2, 1) := dk_28 (dk_at dksX8_behind_0 18 rfl rfl)
theorem dX8_behind_19 : decode cX8_behind 19 = .ok (.iload_n 3, 1) := dk_29 (dk_at dksX8_behind_0 19 rfl rfl)
theorem dX8_behind_20 : decode cX8_behind 20 = .ok (.invokevirtual 76, 3) := dk_182 0 76 (dk_at dksX8_behind_0 20 rfl rfl)
theorem dX8_behind_23 : decode cX8_behind 23 = .ok (.ireturn, 1) := dk_172 (dk_at dksX8_behind_0 23 rfl rfl)
def dkwX8_number_2 : List UInt8 := [180, 0, 42, 62, 42, 182, 0, 19, 29, 172]
abbrev dktX8_number_2 : List UInt8 := dkwX8_number_2 ++ []
def dkwX8_number_1 : List UInt8 := [180, 0, 42, 28, 164, 0, 19, 42, 180, 0, 3, 180, 0, 55, 7, 42, 180, 0, 29, 182, 0, 59, 191, 42]
abbrev dktX8_number_1 : List UInt8 := dkwX8_number_1 ++ dktX8_number_2
def dkwX8_number_0 : List UInt8 := [42, 180, 0, 32, 5, 159, 0, 8, 42, 182, 0, 68, 191, 42, 180, 0, 42, 27, 161, 0, 11, 42]
abbrev dktX8_number_0 : List UInt8 := dkwX8_number_0 ++ dktX8_number_1
theorem dksX8_number_0 : cX8_number.data.toList.drop 0 = dktX8_number_0 := by decide +kernel
theorem dksX8_number_1 : cX8_number.data.toList.drop 22 = dktX8_number_1 := dk_seg dksX8_number_0 22 rfl rfl
theorem dksX8_number_2 : cX8_number.data.toList.drop 46 = dktX8_number_2 := dk_seg dksX8_number_1 24 rfl rfl
theorem dX8_number_0 : decode cX8_number 0 = .ok (.aload_n 0, 1) := dk_42 (dk_at dksX8_number_0 0 rfl rfl)
theorem dX8_number_1 : decode cX8_number 1 = .ok (.getfield 32, 3) := dk_180 0 32 (dk_at dksX8_number_0 1 rfl rfl)
theorem dX8_number_4 : decode cX8_number 4 = .ok (.iconst 2, 1) := dk_5 (dk_at dksX8_number_0 4 rfl rfl)
theorem dX8_number_5 : decode cX8_number 5 = .ok (.if_icmp .eq 8, 3) := dk_159 0 8 (dk_at dksX8_number_0 5 rfl rfl)
theorem dX8_number_8 : decode cX8_number 8 = .ok (.aload_n 0, 1) := dk_42 (dk_at dksX8_number_0 8 rfl rfl)
theorem dX8_number_9 : decode cX8_number 9 = .ok (.invokevirtual 68, 3) := dk_182 0 68 (dk_at dksX8_number_0 9 rfl rfl)
theorem dX8_number_12 : decode cX8_number 12 = .ok (.athrow, 1) := dk_191 (dk_at dksX8_number_0 12 rfl rfl)
theorem dX8_number_13 : decode cX8_number 13 = .ok (.aload_n 0, 1) := dk_42 (dk_at dksX8_number_0 13 rfl rfl)
theorem dX8_number_14 : decode cX8_number 14 = .ok (.getfield 42, 3) := dk_180 0 42 (dk_at dksX8_number_0 14 rfl rfl)
theorem dX8_number_17 : decode cX8_number 17 = .ok (.iload_n 1, 1) := dk_27 (dk_at dksX8_number_0 17 rfl rfl)
theorem dX8_number_18 : decode cX8_number 18 = .ok (.if_icmp .lt 11, 3) := dk_161 0 11 (dk_at dksX8_number_0 18 rfl rfl)
theorem dX8_number_21 : decode cX8_number 21 = .ok (.aload_n 0, 1) := dk_42 (dk_at dksX8_number_0 21 rfl rfl)
theorem dX8_number_22 : decode cX8_number 22 = .ok (.getfield 42, 3) := dk_180 0 42 (dk_at dksX8_number_1 0 rfl rfl)
theorem dX8_number_25 : decode cX8_number 25 = .ok (.iload_n 2, 1) := dk_28 (dk_at dksX8_number_1 3 rfl rfl)
theorem dX8_number_26 : decode cX8_number 26 = .ok (.if_icmp .le 19, 3) := dk_164 0 19 (dk_at dksX8_number_1 4 rfl rfl)
theorem dX8_number_29 : decode cX8_number 29 = .ok (.aload_n 0, 1) := dk_42 (dk_at dksX8_number_1 7 rfl rfl)
theorem dX8_number_30 : decode cX8_number 30 = .ok (.getfield 3, 3) := dk_180 0 3 (dk_at dksX8_number_1 8 rfl rfl)
theorem dX8_number_33 : decode cX8_number 33 = .ok (.getfield 55, 3) := dk_180 0 55 (dk_at dksX8_number_1 11 rfl rfl)
theorem dX8_number_36 : decode cX8_number 36 = .ok (.iconst 4, 1) := dk_7 (dk_at dksX8_number_1 14 rfl rfl)
theorem dX8_number_37 : decode cX8_number 37 = .ok (.aload_n 0, 1) := dk_42 (dk_at dksX8_number_1 15 rfl rfl)
theorem dX8_number_38 : decode cX8_number 38 = .ok (.getfield 29, 3) := dk_180 0 29 (dk_at dksX8_number_1 16 rfl rfl)
theorem dX8_number_41 : decode cX8_number 41 = .ok (.invokevirtual 59, 3) := dk_182 0 59 (dk_at dksX8_number_1 19 rfl rfl)
theorem dX8_number_44 : decode cX8_number 44 = .ok (.athrow, 1) := dk_191 (dk_at dksX8_number_1 22 rfl rfl)
theorem dX8_number_45 : decode cX8_number 45 = .ok (.aload_n 0, 1) := dk_42 (dk_at dksX8_number_1 23 rfl rfl)
theorem dX8_number_46 : decode cX8_number 46 = .ok (.getfield 42, 3) := dk_180 0 42 (dk_at dksX8_number_2 0 rfl rfl)
theorem dX8_number_49 : decode cX8_number 49 = .ok (.istore_n 3, 1) := dk_62 (dk_at dksX8_number_2 3 rfl rfl)
theorem dX8_number_50 : decode cX8_number 50 = .ok (.aload_n 0, 1) := dk_42 (dk_at dksX8_number_2 4 rfl rfl)
theorem dX8_number_51 : decode cX8_number 51 = .ok (.invokevirtual 19, 3) := dk_182 0 19 (dk_at dksX8_number_2 5 rfl rfl)
theorem dX8_number_54 : decode cX8_number 54 = .ok (.iload_n 3, 1) := dk_29 (dk_at dksX8_number_2 8 rfl rfl)
theorem dX8_number_55 : decode cX8_number 55 = .ok (.ireturn, 1) := dk_172 (dk_at dksX8_number_2 9 rfl rfl)
def dkwX8_newDrone_2 : List UInt8 := [180, 0, 149, 180, 0, 210, 96, 32, 42, 43, 182, 0, 213, 2, 182, 0, 217, 177]
abbrev dktX8_newDrone_2 : List UInt8 := dkwX8_newDrone_2 ++ []
def dkwX8_newDrone_1 : List UInt8 := [180, 0, 29, 182, 0, 59, 191, 42, 182, 0, 19, 42, 43, 182, 0, 192, 65, 43, 180, 0, 149, 16, 8, 43]
abbrev dktX8_newDrone_1 : List UInt8 := dkwX8_newDrone_1 ++ dktX8_newDrone_2
def dkwX8_newDrone_0 : List UInt8 := [43, 180, 0, 149, 180, 0, 210, 16, 8, 160, 0, 20, 42, 180, 0, 3, 180, 0, 55, 16, 6, 42]
abbrev dktX8_newDrone_0 : List UInt8 := dkwX8_newDrone_0 ++ dktX8_newDrone_1
theorem dksX8_newDrone_0 : cX8_newDrone.data.toList.drop 0 = dktX8_newDrone_0 := by decide +kernel
theorem dksX8_newDrone_1 : cX8_newDrone.data.toList.drop 22 = dktX8_newDrone_1 := dk_seg dksX8_newDrone_0 22 rfl rfl
theorem dksX8_newDrone_2 : cX8_newDrone.data.toList.drop 46 = dktX8_newDrone_2 := dk_seg dksX8_newDrone_1 24 rfl rfl
theorem dX8_newDrone_0 : decode cX8_newDrone 0 = .ok (.aload_n 1, 1) := dk_43 (dk_at dksX8_newDrone_0 0 rfl rfl)
theorem dX8_newDrone_1 : decode cX8_newDrone 1 = .ok (.getfield 149, 3) := dk_180 0 149 (dk_at dksX8_newDrone_0 1 rfl rfl)
theorem dX8_newDrone_4 : decode cX8_newDrone 4 = .ok (.getfield 210, 3) := dk_180 0 210 (dk_at dksX8_newDrone_0 4 rfl rfl)
theorem dX8_newDrone_7 : decode cX8_newDrone 7 = .ok (.bipush 8, 2) := dk_16 8 (dk_at dksX8_newDrone_0 7 rfl rfl)
theorem dX8_newDrone_9 : decode cX8_newDrone 9 = .ok (.if_icmp .ne 20, 3) := dk_160 0 20 (dk_at dksX8_newDrone_0 9 rfl rfl)
theorem dX8_newDrone_12 : decode cX8_newDrone 12 = .ok (.aload_n 0, 1) := dk_42 (dk_at dksX8_newDrone_0 12 rfl rfl)
theorem dX8_newDrone_13 : decode cX8_newDrone 13 = .ok (.getfield 3, 3) := dk_180 0 3 (dk_at dksX8_newDrone_0 13 rfl rfl)
theorem dX8_newDrone_16 : decode cX8_newDrone 16 = .ok (.getfield 55, 3) := dk_180 0 55 (dk_at dksX8_newDrone_0 16 rfl rfl)
theorem dX8_newDrone_19 : decode cX8_newDrone 19 = .ok (.bipush 6, 2) := dk_16 6 (dk_at dksX8_newDrone_0 19 rfl rfl)
theorem dX8_newDrone_21 : decode cX8_newDrone 21 = .ok (.aload_n 0, 1) := dk_42 (dk_at dksX8_newDrone_0 21 rfl rfl)
theorem dX8_newDrone_22 : decode cX8_newDrone 22 = .ok (.getfield 29, 3) := dk_180 0 29 (dk_at dksX8_newDrone_1 0 rfl rfl)
theorem dX8_newDrone_25 : decode cX8_newDrone 25 = .ok (.invokevirtual 59, 3) := dk_182 0 59 (dk_at dksX8_newDrone_1 3 rfl rfl)
theorem dX8_newDrone_28 : decode cX8_newDrone 28 = .ok (.athrow, 1) := dk_191 (dk_at dksX8_newDrone_1 6 rfl rfl)
theorem dX8_newDrone_29 : decode cX8_newDrone 29 = .ok (.aload_n 0, 1) := dk_42 (dk_at dksX8_newDrone_1 7 rfl rfl)
theorem dX8_newDrone_30 : decode cX8_newDrone 30 = .ok (.invokevirtual 19, 3) := dk_182 0 19 (dk_at dksX8_newDrone_1 8 rfl rfl)
theorem dX8_newDrone_33 : decode cX8_newDrone 33 = .ok (.aload_n 0, 1) := dk_42 (dk_at dksX8_newDrone_1 11 rfl rfl)
theorem dX8_newDrone_34 : decode cX8_newDrone 34 = .ok (.aload_n 1, 1) := dk_43 (dk_at dksX8_newDrone_1 12 rfl rfl)
theorem dX8_newDrone_35 : decode cX8_newDrone 35 = .ok (.invokevirtual 192, 3) := dk_182 0 192 (dk_at dksX8_newDrone_1 13 rfl rfl)
theorem dX8_newDrone_38 : decode cX8_newDrone 38 = .ok (.lstore_n 2, 1) := dk_65 (dk_at dksX8_newDrone_1 16 rfl rfl)
theorem dX8_newDrone_39 : decode cX8_newDrone 39 = .ok (.aload_n 1, 1) := dk_43 (dk_at dksX8_newDrone_1 17 rfl rfl)
theorem dX8_newDrone_40 : decode cX8_newDrone 40 = .ok (.getfield 149, 3) := dk_180 0 149 (dk_at dksX8_newDrone_1 18 rfl rfl)
theorem dX8_newDrone_43 : decode cX8_newDrone 43 = .ok (.bipush 8, 2) := dk_16 8 (dk_at dksX8_newDrone_1 21 rfl rfl)
theorem dX8_newDrone_45 : decode cX8_newDrone 45 = .ok (.aload_n 1, 1) := dk_43 (dk_at dksX8_newDrone_1 23 rfl rfl)
theorem dX8_newDrone_46 : decode cX8_newDrone 46 = .ok (.getfield 149, 3) := dk_180 0 149 (dk_at dksX8_newDrone_2 0 rfl rfl)
theorem dX8_newDrone_49 : decode cX8_newDrone 49 = .ok (.getfield 210, 3) := dk_180 0 210 (dk_at dksX8_newDrone_2 3 rfl rfl)
theorem dX8_newDrone_52 : decode cX8_newDrone 52 = .ok (.iadd, 1) := dk_96 (dk_at dksX8_newDrone_2 6 rfl rfl)
theorem dX8_newDrone_53 : decode cX8_newDrone 53 = .ok (.lload_n 2, 1) := dk_32 (dk_at dksX8_newDrone_2 7 rfl rfl)
theorem dX8_newDrone_54 : decode cX8_newDrone 54 = .ok (.aload_n 0, 1) := dk_42 (dk_at dksX8_newDrone_2 8 rfl rfl)
theorem dX8_newDrone_55 : decode cX8_newDrone 55 = .ok (.aload_n 1, 1) := dk_43 (dk_at dksX8_newDrone_2 9 rfl rfl)
theorem dX8_newDrone_56 : decode cX8_newDrone 56 = .ok (.invokevirtual 213, 3) := dk_182 0 213 (dk_at dksX8_newDrone_2 10 rfl rfl)
theorem dX8_newDrone_59 : decode cX8_newDrone 59 = .ok (.iconst (-1), 1) := dk_2 (dk_at dksX8_newDrone_2 13 rfl rfl)
theorem dX8_newDrone_60 : decode cX8_newDrone 60 = .ok (.invokevirtual 217, 3) := dk_182 0 217 (dk_at dksX8_newDrone_2 14 rfl rfl)
theorem dX8_newDrone_63 : decode cX8_newDrone 63 = .ok (.return_, 1) := dk_177 (dk_at dksX8_newDrone_2 17 rfl rfl)
def dkwX8_mother_1 : List UInt8 := [182, 0, 153, 182, 0, 161, 61, 42, 182, 0, 19, 28, 172]
abbrev dktX8_mother_1 : List UInt8 := dkwX8_mother_1 ++ []
def dkwX8_mother_0 : List UInt8 := [42, 18, 109, 182, 0, 72, 154, 0, 5, 2, 172, 42, 182, 0, 19, 42, 43, 180, 0, 149, 42, 182, 0, 139]
abbrev dktX8_mother_0 : List UInt8 := dkwX8_mother_0 ++ dktX8_mother_1
theorem dksX8_mother_0 : cX8_mother.data.toList.drop 0 = dktX8_mother_0 := by decide +kernel
theorem dksX8_mother_1 : cX8_mother.data.toList.drop 24 = dktX8_mother_1 := dk_seg dksX8_mother_0 24 rfl rfl
theorem dX8_mother_0 : decode cX8_mother 0 = .ok (.aload_n 0, 1) := dk_42 (dk_at dksX8_mother_0 0 rfl rfl)
theorem dX8_mother_1 : decode cX8_mother 1 = .ok (.ldc 109, 2) := dk_18 109 (dk_at dksX8_mother_0 1 rfl rfl)
theorem dX8_mother_3 : decode cX8_mother 3 = .ok (.invokevirtual 72, 3) := dk_182 0 72 (dk_at dksX8_mother_0 3 rfl rfl)
theorem dX8_mother_6 : decode cX8_mother 6 = .ok (.ifCond .ne 5, 3) := dk_154 0 5 (dk_at dksX8_mother_0 6 rfl rfl)
theorem dX8_mother_9 : decode cX8_mother 9 = .ok (.iconst (-1), 1) := dk_2 (dk_at dksX8_mother_0 9 rfl rfl)
theorem dX8_mother_10 : decode cX8_mother 10 = .ok (.ireturn, 1) := dk_172 (dk_at dksX8_mother_0 10 rfl rfl)
theorem dX8_mother_11 : decode cX8_mother 11 = .ok (.aload_n 0, 1) := dk_42 (dk_at dksX8_mother_0 11 rfl rfl)
theorem dX8_mother_12 : decode cX8_mother 12 = .ok (.invokevirtual 19, 3) := dk_182 0 19 (dk_at dksX8_mother_0 12 rfl rfl)
theorem dX8_mother_15 : decode cX8_mother 15 = .ok (.aload_n 0, 1) := dk_42 (dk_at dksX8_mother_0 15 rfl rfl)
theorem dX8_mother_16 : decode cX8_mother 16 = .ok (.aload_n 1, 1) := dk_43 (dk_at dksX8_mother_0 16 rfl rfl)
theorem dX8_mother_17 : decode cX8_mother 17 = .ok (.getfield 149, 3) := dk_180 0 149 (dk_at dksX8_mother_0 17 rfl rfl)
theorem dX8_mother_20 : decode cX8_mother 20 = .ok (.aload_n 0, 1) := dk_42 (dk_at dksX8_mother_0 20 rfl rfl)
theorem dX8_mother_21 : decode cX8_mother 21 = .ok (.invokevirtual 139, 3) := dk_182 0 139 (dk_at dksX8_mother_0 21 rfl rfl)
theorem dX8_mother_24 : decode cX8_mother 24 = .ok (.invokevirtual 153, 3) := dk_182 0 153 (dk_at dksX8_mother_1 0 rfl rfl)
theorem dX8_mother_27 : decode cX8_mother 27 = .ok (.invokevirtual 161, 3) := dk_182 0 161 (dk_at dksX8_mother_1 3 rfl rfl)
theorem dX8_mother_30 : decode cX8_mother 30 = .ok (.istore_n 2, 1) := dk_61 (dk_at dksX8_mother_1 6 rfl rfl)
theorem dX8_mother_31 : decode cX8_mother 31 = .ok (.aload_n 0, 1) := dk_42 (dk_at dksX8_mother_1 7 rfl rfl)
theorem dX8_mother_32 : decode cX8_mother 32 = .ok (.invokevirtual 19, 3) := dk_182 0 19 (dk_at dksX8_mother_1 8 rfl rfl)
theorem dX8_mother_35 : decode cX8_mother 35 = .ok (.iload_n 2, 1) := dk_28 (dk_at dksX8_mother_1 11 rfl rfl)
theorem dX8_mother_36 : decode cX8_mother 36 = .ok (.ireturn, 1) := dk_172 (dk_at dksX8_mother_1 12 rfl rfl)
def dkwX8_known_0 : List UInt8 := [27, 156, 0, 19, 42, 180, 0, 3, 180, 0, 55, 6, 42, 180, 0, 29, 182, 0, 59, 191, 27, 172]
abbrev dktX8_known_0 : List UInt8 := dkwX8_known_0 ++ []
theorem dksX8_known_0 : cX8_known.data.toList.drop 0 = dktX8_known_0 := by decide +kernel
theorem dX8_known_0 : decode cX8_known 0 = .ok (.iload_n 1, 1) := dk_27 (dk_at dksX8_known_0 0 rfl rfl)
theorem dX8_known_1 : decode cX8_known 1 = .ok (.ifCond .ge 19, 3) := dk_156 0 19 (dk_at dksX8_known_0 1 rfl rfl)
theorem dX8_known_4 : decode cX8_known 4 = .ok (.aload_n 0, 1) := dk_42 (dk_at dksX8_known_0 4 rfl rfl)
theorem dX8_known_5 : decode cX8_known 5 = .ok (.getfield 3, 3) := dk_180 0 3 (dk_at dksX8_known_0 5 rfl rfl)
theorem dX8_known_8 : decode cX8_known 8 = .ok (.getfield 55, 3) := dk_180 0 55 (dk_at dksX8_known_0 8 rfl rfl)
theorem dX8_known_11 : decode cX8_known 11 = .ok (.iconst 3, 1) := dk_6 (dk_at dksX8_known_0 11 rfl rfl)
theorem dX8_known_12 : decode cX8_known 12 = .ok (.aload_n 0, 1) := dk_42 (dk_at dksX8_known_0 12 rfl rfl)
theorem dX8_known_13 : decode cX8_known 13 = .ok (.getfield 29, 3) := dk_180 0 29 (dk_at dksX8_known_0 13 rfl rfl)
theorem dX8_known_16 : decode cX8_known 16 = .ok (.invokevirtual 59, 3) := dk_182 0 59 (dk_at dksX8_known_0 16 rfl rfl)
theorem dX8_known_19 : decode cX8_known 19 = .ok (.athrow, 1) := dk_191 (dk_at dksX8_known_0 19 rfl rfl)
theorem dX8_known_20 : decode cX8_known 20 = .ok (.iload_n 1, 1) := dk_27 (dk_at dksX8_known_0 20 rfl rfl)
theorem dX8_known_21 : decode cX8_known 21 = .ok (.ireturn, 1) := dk_172 (dk_at dksX8_known_0 21 rfl rfl)
def dkwX8_newQueen_8 : List UInt8 := [180, 0, 221, 21, 5, 79, 44, 44, 180, 0, 221, 33, 21, 6, 21, 7, 182, 0, 217, 177]
abbrev dktX8_newQueen_8 : List UInt8 := dkwX8_newQueen_8 ++ []
def dkwX8_newQueen_7 : List UInt8 := [155, 0, 17, 43, 180, 0, 184, 21, 8, 50, 44, 180, 0, 221, 181, 0, 224, 44, 180, 0, 226, 44]
abbrev dktX8_newQueen_7 : List UInt8 := dkwX8_newQueen_7 ++ dktX8_newQueen_8
def dkwX8_newQueen_6 : List UInt8 := [42, 180, 0, 3, 180, 0, 55, 8, 42, 180, 0, 29, 182, 0, 59, 191, 42, 182, 0, 19, 21, 8]
abbrev dktX8_newQueen_6 : List UInt8 := dkwX8_newQueen_6 ++ dktX8_newQueen_7
def dkwX8_newQueen_5 : List UInt8 := [182, 0, 139, 182, 0, 143, 182, 0, 161, 54, 8, 43, 180, 0, 184, 21, 8, 50, 180, 0, 224, 155, 0, 19]
abbrev dktX8_newQueen_5 : List UInt8 := dkwX8_newQueen_5 ++ dktX8_newQueen_6
def dkwX8_newQueen_4 : List UInt8 := [42, 182, 0, 19, 2, 54, 8, 42, 18, 117, 182, 0, 72, 153, 0, 54, 42, 182, 0, 19, 42, 43, 42]
abbrev dktX8_newQueen_4 : List UInt8 := dkwX8_newQueen_4 ++ dktX8_newQueen_5
def dkwX8_newQueen_3 : List UInt8 := [182, 0, 72, 153, 0, 25, 42, 182, 0, 19, 42, 44, 42, 182, 0, 139, 182, 0, 158, 182, 0, 161, 54, 7]
abbrev dktX8_newQueen_3 : List UInt8 := dkwX8_newQueen_3 ++ dktX8_newQueen_4
def dkwX8_newQueen_2 : List UInt8 := [182, 0, 196, 54, 5, 42, 43, 182, 0, 213, 54, 6, 2, 54, 7, 21, 6, 155, 0, 34, 42, 18, 115]
abbrev dktX8_newQueen_2 : List UInt8 := dkwX8_newQueen_2 ++ dktX8_newQueen_3
def dkwX8_newQueen_1 : List UInt8 := [180, 0, 29, 182, 0, 59, 191, 42, 182, 0, 19, 42, 43, 182, 0, 192, 66, 42, 18, 113, 3, 16, 16]
abbrev dktX8_newQueen_1 : List UInt8 := dkwX8_newQueen_1 ++ dktX8_newQueen_2
def dkwX8_newQueen_0 : List UInt8 := [43, 180, 0, 149, 77, 44, 180, 0, 221, 16, 8, 160, 0, 20, 42, 180, 0, 3, 180, 0, 55, 16, 6, 42]
abbrev dktX8_newQueen_0 : List UInt8 := dkwX8_newQueen_0 ++ dktX8_newQueen_1
theorem dksX8_newQueen_0 : cX8_newQueen.data.toList.drop 0 = dktX8_newQueen_0 := by decide +kernel
theorem dksX8_newQueen_1 : cX8_newQueen.data.toList.drop 24 = dktX8_newQueen_1 := dk_seg dksX8_newQueen_0 24 rfl rfl
theorem dksX8_newQueen_2 : cX8_newQueen.data.toList.drop 47 = dktX8_newQueen_2 := dk_seg dksX8_newQueen_1 23 rfl rfl
theorem dksX8_newQueen_3 : cX8_newQueen.data.toList.drop 70 = dktX8_newQueen_3 := dk_seg dksX8_newQueen_2 23 rfl rfl
theorem dksX8_newQueen_4 : cX8_newQueen.data.toList.drop 94 = dktX8_newQueen_4 := dk_seg dksX8_newQueen_3 24 rfl rfl
theorem dksX8_newQueen_5 : cX8_newQueen.data.toList.drop 117 = dktX8_newQueen_5 := dk_seg dksX8_newQueen_4 23 rfl rfl
theorem dksX8_newQueen_6 : cX8_newQueen.data.toList.drop 141 = dktX8_newQueen_6 := dk_seg dksX8_newQueen_5 24 rfl rfl
theorem dksX8_newQueen_7 : cX8_newQueen.data.toList.drop 163 = dktX8_newQueen_7 := dk_seg dksX8_newQueen_6 22 rfl rfl
theorem dksX8_newQueen_8 : cX8_newQueen.data.toList.drop 185 = dktX8_newQueen_8 := dk_seg dksX8_newQueen_7 22 rfl rfl
theorem dX8_newQueen_0 : decode cX8_newQueen 0 = .ok (.aload_n 1, 1) := dk_43 (dk_at dksX8_newQueen_0 0 rfl rfl)
theorem dX8_newQueen_1 : decode cX8_newQueen 1 = .ok (.getfield 149, 3) := dk_180 0 149 (dk_at dksX8_newQueen_0 1 rfl rfl)
theorem dX8_newQueen_4 : decode cX8_newQueen 4 = .ok (.astore_n 2, 1) := dk_77 (dk_at dksX8_newQueen_0 4 rfl rfl)
theorem dX8_newQueen_5 : decode cX8_newQueen 5 = .ok (.aload_n 2, 1) := dk_44 (dk_at dksX8_newQueen_0 5 rfl rfl)
theorem dX8_newQueen_6 : decode cX8_newQueen 6 = .ok (.getfield 221, 3) := dk_180 0 221 (dk_at dksX8_newQueen_0 6 rfl rfl)
theorem dX8_newQueen_9 : decode cX8_newQueen 9 = .ok (.bipush 8, 2) := dk_16 8 (dk_at dksX8_newQueen_0 9 rfl rfl)
theorem dX8_newQueen_11 : decode cX8_newQueen 11 = .ok (.if_icmp .ne 20, 3) := dk_160 0 20 (dk_at dksX8_newQueen_0 11 rfl rfl)
theorem dX8_newQueen_14 : decode cX8_newQueen 14 = .ok (.aload_n 0, 1) := dk_42 (dk_at dksX8_newQueen_0 14 rfl rfl)
theorem dX8_newQueen_15 : decode cX8_newQueen 15 = .ok (.getfield 3, 3) := dk_180 0 3 (dk_at dksX8_newQueen_0 15 rfl rfl)
theorem dX8_newQueen_18 : decode cX8_newQueen 18 = .ok (.getfield 55, 3) := dk_180 0 55 (dk_at dksX8_newQueen_0 18 rfl rfl)
theorem dX8_newQueen_21 : decode cX8_newQueen 21 = .ok (.bipush 6, 2) := dk_16 6 (dk_at dksX8_newQueen_0 21 rfl rfl)
theorem dX8_newQueen_23 : decode cX8_newQueen 23 = .ok (.aload_n 0, 1) := dk_42 (dk_at dksX8_newQueen_0 23 rfl rfl)
theorem dX8_newQueen_24 : decode cX8_newQueen 24 = .ok (.getfield 29, 3) := dk_180 0 29 (dk_at dksX8_newQueen_1 0 rfl rfl)
theorem dX8_newQueen_27 : decode cX8_newQueen 27 = .ok (.invokevirtual 59, 3) := dk_182 0 59 (dk_at dksX8_newQueen_1 3 rfl rfl)
theorem dX8_newQueen_30 : decode cX8_newQueen 30 = .ok (.athrow, 1) := dk_191 (dk_at dksX8_newQueen_1 6 rfl rfl)
theorem dX8_newQueen_31 : decode cX8_newQueen 31 = .ok (.aload_n 0, 1) := dk_42 (dk_at dksX8_newQueen_1 7 rfl rfl)
theorem dX8_newQueen_32 : decode cX8_newQueen 32 = .ok (.invokevirtual 19, 3) := dk_182 0 19 (dk_at dksX8_newQueen_1 8 rfl rfl)
theorem dX8_newQueen_35 : decode cX8_newQueen 35 = .ok (.aload_n 0, 1) := dk_42 (dk_at dksX8_newQueen_1 11 rfl rfl)
theorem dX8_newQueen_36 : decode cX8_newQueen 36 = .ok (.aload_n 1, 1) := dk_43 (dk_at dksX8_newQueen_1 12 rfl rfl)
theorem dX8_newQueen_37 : decode cX8_newQueen 37 = .ok (.invokevirtual 192, 3) := dk_182 0 192 (dk_at dksX8_newQueen_1 13 rfl rfl)
theorem dX8_newQueen_40 : decode cX8_newQueen 40 = .ok (.lstore_n 3, 1) := dk_66 (dk_at dksX8_newQueen_1 16 rfl rfl)
theorem dX8_newQueen_41 : decode cX8_newQueen 41 = .ok (.aload_n 0, 1) := dk_42 (dk_at dksX8_newQueen_1 17 rfl rfl)
theorem dX8_newQueen_42 : decode cX8_newQueen 42 = .ok (.ldc 113, 2) := dk_18 113 (dk_at dksX8_newQueen_1 18 rfl rfl)
theorem dX8_newQueen_44 : decode cX8_newQueen 44 = .ok (.iconst 0, 1) := dk_3 (dk_at dksX8_newQueen_1 20 rfl rfl)
theorem dX8_newQueen_45 : decode cX8_newQueen 45 = .ok (.bipush 16, 2) := dk_16 16 (dk_at dksX8_newQueen_1 21 rfl rfl)
theorem dX8_newQueen_47 : decode cX8_newQueen 47 = .ok (.invokevirtual 196, 3) := dk_182 0 196 (dk_at dksX8_newQueen_2 0 rfl rfl)
theorem dX8_newQueen_50 : decode cX8_newQueen 50 = .ok (.istore 5, 2) := dk_54 5 (dk_at dksX8_newQueen_2 3 rfl rfl)
theorem dX8_newQueen_52 : decode cX8_newQueen 52 = .ok (.aload_n 0, 1) := dk_42 (dk_at dksX8_newQueen_2 5 rfl rfl)
theorem dX8_newQueen_53 : decode cX8_newQueen 53 = .ok (.aload_n 1, 1) := dk_43 (dk_at dksX8_newQueen_2 6 rfl rfl)
theorem dX8_newQueen_54 : decode cX8_newQueen 54 = .ok (.invokevirtual 213, 3) := dk_182 0 213 (dk_at dksX8_newQueen_2 7 rfl rfl)
theorem dX8_newQueen_57 : decode cX8_newQueen 57 = .ok (.istore 6, 2) := dk_54 6 (dk_at dksX8_newQueen_2 10 rfl rfl)
theorem dX8_newQueen_59 : decode cX8_newQueen 59 = .ok (.iconst (-1), 1) := dk_2 (dk_at dksX8_newQueen_2 12 rfl rfl)
theorem dX8_newQueen_60 : decode cX8_newQueen 60 = .ok (.istore 7, 2) := dk_54 7 (dk_at dksX8_newQueen_2 13 rfl rfl)
theorem dX8_newQueen_62 : decode cX8_newQueen 62 = .ok (.iload 6, 2) := dk_21 6 (dk_at dksX8_newQueen_2 15 rfl rfl)
theorem dX8_newQueen_64 : decode cX8_newQueen 64 = .ok (.ifCond .lt 34, 3) := dk_155 0 34 (dk_at dksX8_newQueen_2 17 rfl rfl)
theorem dX8_newQueen_67 : decode cX8_newQueen 67 = .ok (.aload_n 0, 1) := dk_42 (dk_at dksX8_newQueen_2 20 rfl rfl)
theorem dX8_newQueen_68 : decode cX8_newQueen 68 = .ok (.ldc 115, 2) := dk_18 115 (dk_at dksX8_newQueen_2 21 rfl rfl)
theorem dX8_newQueen_70 : decode cX8_newQueen 70 = .ok (.invokevirtual 72, 3) := dk_182 0 72 (dk_at dksX8_newQueen_3 0 rfl rfl)
theorem dX8_newQueen_73 : decode cX8_newQueen 73 = .ok (.ifCond .eq 25, 3) := dk_153 0 25 (dk_at dksX8_newQueen_3 3 rfl rfl)
theorem dX8_newQueen_76 : decode cX8_newQueen 76 = .ok (.aload_n 0, 1) := dk_42 (dk_at dksX8_newQueen_3 6 rfl rfl)
theorem dX8_newQueen_77 : decode cX8_newQueen 77 = .ok (.invokevirtual 19, 3) := dk_182 0 19 (dk_at dksX8_newQueen_3 7 rfl rfl)
theorem dX8_newQueen_80 : decode cX8_newQueen 80 = .ok (.aload_n 0, 1) := dk_42 (dk_at dksX8_newQueen_3 10 rfl rfl)
theorem dX8_newQueen_81 : decode cX8_newQueen 81 = .ok (.aload_n 2, 1) := dk_44 (dk_at dksX8_newQueen_3 11 rfl rfl)
theorem dX8_newQueen_82 : decode cX8_newQueen 82 = .ok (.aload_n 0, 1) := dk_42 (dk_at dksX8_newQueen_3 12 rfl rfl)
theorem dX8_newQueen_83 : decode cX8_newQueen 83 = .ok (.invokevirtual 139, 3) := dk_182 0 139 (dk_at dksX8_newQueen_3 13 rfl rfl)
theorem dX8_newQueen_86 : decode cX8_newQueen 86 = .ok (.invokevirtual 158, 3) := dk_182 0 158 (dk_at dksX8_newQueen_3 16 rfl rfl)
theorem dX8_newQueen_89 : decode cX8_newQueen 89 = .ok (.invokevirtual 161, 3) := dk_182 0 161 (dk_at dksX8_newQueen_3 19 rfl rfl)
theorem dX8_newQueen_92 : decode cX8_newQueen 92 = .ok (.istore 7, 2) := dk_54 7 (dk_at dksX8_newQueen_3 22 rfl rfl)
theorem dX8_newQueen_94 : decode cX8_newQueen 94 = .ok (.aload_n 0, 1) := dk_42 (dk_at dksX8_newQueen_4 0 rfl rfl)
theorem dX8_newQueen_95 : decode cX8_newQueen 95 = .ok (.invokevirtual 19, 3) := dk_182 0 19 (dk_at dksX8_newQueen_4 1 rfl rfl)
theorem dX8_newQueen_98 : decode cX8_newQueen 98 = .ok (.iconst (-1), 1) := dk_2 (dk_at dksX8_newQueen_4 4 rfl rfl)
theorem dX8_newQueen_99 : decode cX8_newQueen 99 = .ok (.istore 8, 2) := dk_54 8 (dk_at dksX8_newQueen_4 5 rfl rfl)
theorem dX8_newQueen_101 : decode cX8_newQueen 101 = .ok (.aload_n 0, 1) := dk_42 (dk_at dksX8_newQueen_4 7 rfl rfl)
theorem dX8_newQueen_102 : decode cX8_newQueen 102 = .ok (.ldc 117, 2) := dk_18 117 (dk_at dksX8_newQueen_4 8 rfl rfl)
theorem dX8_newQueen_104 : decode cX8_newQueen 104 = .ok (.invokevirtual 72, 3) := dk_182 0 72 (dk_at dksX8_newQueen_4 10 rfl rfl)
theorem dX8_newQueen_107 : decode cX8_newQueen 107 = .ok (.ifCond .eq 54, 3) := dk_153 0 54 (dk_at dksX8_newQueen_4 13 rfl rfl)
theorem dX8_newQueen_110 : decode cX8_newQueen 110 = .ok (.aload_n 0, 1) := dk_42 (dk_at dksX8_newQueen_4 16 rfl rfl)
theorem dX8_newQueen_111 : decode cX8_newQueen 111 = .ok (.invokevirtual 19, 3) := dk_182 0 19 (dk_at dksX8_newQueen_4 17 rfl rfl)
theorem dX8_newQueen_114 : decode cX8_newQueen 114 = .ok (.aload_n 0, 1) := dk_42 (dk_at dksX8_newQueen_4 20 rfl rfl)
theorem dX8_newQueen_115 : decode cX8_newQueen 115 = .ok (.aload_n 1, 1) := dk_43 (dk_at dksX8_newQueen_4 21 rfl rfl)
theorem dX8_newQueen_116 : decode cX8_newQueen 116 = .ok (.aload_n 0, 1) := dk_42 (dk_at dksX8_newQueen_4 22 rfl rfl)
theorem dX8_newQueen_117 : decode cX8_newQueen 117 = .ok (.invokevirtual 139, 3) := dk_182 0 139 (dk_at dksX8_newQueen_5 0 rfl rfl)
theorem dX8_newQueen_120 : decode cX8_newQueen 120 = .ok (.invokevirtual 143, 3) := dk_182 0 143 (dk_at dksX8_newQueen_5 3 rfl rfl)
theorem dX8_newQueen_123 : decode cX8_newQueen 123 = .ok (.invokevirtual 161, 3) := dk_182 0 161 (dk_at dksX8_newQueen_5 6 rfl rfl)
theorem dX8_newQueen_126 : decode cX8_newQueen 126 = .ok (.istore 8, 2) := dk_54 8 (dk_at dksX8_newQueen_5 9 rfl rfl)
theorem dX8_newQueen_128 : decode cX8_newQueen 128 = .ok (.aload_n 1, 1) := dk_43 (dk_at dksX8_newQueen_5 11 rfl rfl)
theorem dX8_newQueen_129 : decode cX8_newQueen 129 = .ok (.getfield 184, 3) := dk_180 0 184 (dk_at dksX8_newQueen_5 12 rfl rfl)
theorem dX8_newQueen_132 : decode cX8_newQueen 132 = .ok (.iload 8, 2) := dk_21 8 (dk_at dksX8_newQueen_5 15 rfl rfl)
theorem dX8_newQueen_134 : decode cX8_newQueen 134 = .ok (.aaload, 1) := dk_50 (dk_at dksX8_newQueen_5 17 rfl rfl)
theorem dX8_newQueen_135 : decode cX8_newQueen 135 = .ok (.getfield 224, 3) := dk_180 0 224 (dk_at dksX8_newQueen_5 18 rfl rfl)
theorem dX8_newQueen_138 : decode cX8_newQueen 138 = .ok (.ifCond .lt 19, 3) := dk_155 0 19 (dk_at dksX8_newQueen_5 21 rfl rfl)
theorem dX8_newQueen_141 : decode cX8_newQueen 141 = .ok (.aload_n 0, 1) := dk_42 (dk_at dksX8_newQueen_6 0 rfl rfl)
theorem dX8_newQueen_142 : decode cX8_newQueen 142 = .ok (.getfield 3, 3) := dk_180 0 3 (dk_at dksX8_newQueen_6 1 rfl rfl)
theorem dX8_newQueen_145 : decode cX8_newQueen 145 = .ok (.getfield 55, 3) := dk_180 0 55 (dk_at dksX8_newQueen_6 4 rfl rfl)
theorem dX8_newQueen_148 : decode cX8_newQueen 148 = .ok (.iconst 5, 1) := dk_8 (dk_at dksX8_newQueen_6 7 rfl rfl)
theorem dX8_newQueen_149 : decode cX8_newQueen 149 = .ok (.aload_n 0, 1) := dk_42 (dk_at dksX8_newQueen_6 8 rfl rfl)
theorem dX8_newQueen_150 : decode cX8_newQueen 150 = .ok (.getfield 29, 3) := dk_180 0 29 (dk_at dksX8_newQueen_6 9 rfl rfl)
theorem dX8_newQueen_153 : decode cX8_newQueen 153 = .ok (.invokevirtual 59, 3) := dk_182 0 59 (dk_at dksX8_newQueen_6 12 rfl rfl)
theorem dX8_newQueen_156 : decode cX8_newQueen 156 = .ok (.athrow, 1) := dk_191 (dk_at dksX8_newQueen_6 15 rfl rfl)
theorem dX8_newQueen_157 : decode cX8_newQueen 157 = .ok (.aload_n 0, 1) := dk_42 (dk_at dksX8_newQueen_6 16 rfl rfl)
theorem dX8_newQueen_158 : decode cX8_newQueen 158 = .ok (.invokevirtual 19, 3) := dk_182 0 19 (dk_at dksX8_newQueen_6 17 rfl rfl)
theorem dX8_newQueen_161 : decode cX8_newQueen 161 = .ok (.iload 8, 2) := dk_21 8 (dk_at dksX8_newQueen_6 20 rfl rfl)
theorem dX8_newQueen_163 : decode cX8_newQueen 163 = .ok (.ifCond .lt 17, 3) := dk_155 0 17 (dk_at dksX8_newQueen_7 0 rfl rfl)
theorem dX8_newQueen_166 : decode cX8_newQueen 166 = .ok (.aload_n 1, 1) := dk_43 (dk_at dksX8_newQueen_7 3 rfl rfl)
theorem dX8_newQueen_167 : decode cX8_newQueen 167 = .ok (.getfield 184, 3) := dk_180 0 184 (dk_at dksX8_newQueen_7 4 rfl rfl)
theorem dX8_newQueen_170 : decode cX8_newQueen 170 = .ok (.iload 8, 2) := dk_21 8 (dk_at dksX8_newQueen_7 7 rfl rfl)
theorem dX8_newQueen_172 : decode cX8_newQueen 172 = .ok (.aaload, 1) := dk_50 (dk_at dksX8_newQueen_7 9 rfl rfl)
theorem dX8_newQueen_173 : decode cX8_newQueen 173 = .ok (.aload_n 2, 1) := dk_44 (dk_at dksX8_newQueen_7 10 rfl rfl)
theorem dX8_newQueen_174 : decode cX8_newQueen 174 = .ok (.getfield 221, 3) := dk_180 0 221 (dk_at dksX8_newQueen_7 11 rfl rfl)
theorem dX8_newQueen_177 : decode cX8_newQueen 177 = .ok (.putfield 224, 3) := dk_181 0 224 (dk_at dksX8_newQueen_7 14 rfl rfl)
theorem dX8_newQueen_180 : decode cX8_newQueen 180 = .ok (.aload_n 2, 1) := dk_44 (dk_at dksX8_newQueen_7 17 rfl rfl)
theorem dX8_newQueen_181 : decode cX8_newQueen 181 = .ok (.getfield 226, 3) := dk_180 0 226 (dk_at dksX8_newQueen_7 18 rfl rfl)
theorem dX8_newQueen_184 : decode cX8_newQueen 184 = .ok (.aload_n 2, 1) := dk_44 (dk_at dksX8_newQueen_7 21 rfl rfl)
theorem dX8_newQueen_185 : decode cX8_newQueen 185 = .ok (.getfield 221, 3) := dk_180 0 221 (dk_at dksX8_newQueen_8 0 rfl rfl)
theorem dX8_newQueen_188 : decode cX8_newQueen 188 = .ok (.iload 5, 2) := dk_21 5 (dk_at dksX8_newQueen_8 3 rfl rfl)
theorem dX8_newQueen_190 : decode cX8_newQueen 190 = .ok (.iastore, 1) := dk_79 (dk_at dksX8_newQueen_8 5 rfl rfl)
theorem dX8_newQueen_191 : decode cX8_newQueen 191 = .ok (.aload_n 2, 1) := dk_44 (dk_at dksX8_newQueen_8 6 rfl rfl)
theorem dX8_newQueen_192 : decode cX8_newQueen 192 = .ok (.aload_n 2, 1) := dk_44 (dk_at dksX8_newQueen_8 7 rfl rfl)
theorem dX8_newQueen_193 : decode cX8_newQueen 193 = .ok (.getfield 221, 3) := dk_180 0 221 (dk_at dksX8_newQueen_8 8 rfl rfl)
theorem dX8_newQueen_196 : decode cX8_newQueen 196 = .ok (.lload_n 3, 1) := dk_33 (dk_at dksX8_newQueen_8 11 rfl rfl)
theorem dX8_newQueen_197 : decode cX8_newQueen 197 = .ok (.iload 6, 2) := dk_21 6 (dk_at dksX8_newQueen_8 12 rfl rfl)
theorem dX8_newQueen_199 : decode cX8_newQueen 199 = .ok (.iload 7, 2) := dk_21 7 (dk_at dksX8_newQueen_8 14 rfl rfl)
theorem dX8_newQueen_201 : decode cX8_newQueen 201 = .ok (.invokevirtual 217, 3) := dk_182 0 217 (dk_at dksX8_newQueen_8 16 rfl rfl)
theorem dX8_newQueen_204 : decode cX8_newQueen 204 = .ok (.return_, 1) := dk_177 (dk_at dksX8_newQueen_8 19 rfl rfl)
def dkwX8_close_0 : List UInt8 := [42, 16, 59, 182, 0, 64, 154, 0, 8, 42, 182, 0, 68, 191, 42, 182, 0, 19, 177]
abbrev dktX8_close_0 : List UInt8 := dkwX8_close_0 ++ []
theorem dksX8_close_0 : cX8_close.data.toList.drop 0 = dktX8_close_0 := by decide +kernel
theorem dX8_close_0 : decode cX8_close 0 = .ok (.aload_n 0, 1) := dk_42 (dk_at dksX8_close_0 0 rfl rfl)
theorem dX8_close_1 : decode cX8_close 1 = .ok (.bipush 59, 2) := dk_16 59 (dk_at dksX8_close_0 1 rfl rfl)
theorem dX8_close_3 : decode cX8_close 3 = .ok (.invokevirtual 64, 3) := dk_182 0 64 (dk_at dksX8_close_0 3 rfl rfl)
theorem dX8_close_6 : decode cX8_close 6 = .ok (.ifCond .ne 8, 3) := dk_154 0 8 (dk_at dksX8_close_0 6 rfl rfl)
theorem dX8_close_9 : decode cX8_close 9 = .ok (.aload_n 0, 1) := dk_42 (dk_at dksX8_close_0 9 rfl rfl)
theorem dX8_close_10 : decode cX8_close 10 = .ok (.invokevirtual 68, 3) := dk_182 0 68 (dk_at dksX8_close_0 10 rfl rfl)
theorem dX8_close_13 : decode cX8_close 13 = .ok (.athrow, 1) := dk_191 (dk_at dksX8_close_0 13 rfl rfl)
theorem dX8_close_14 : decode cX8_close 14 = .ok (.aload_n 0, 1) := dk_42 (dk_at dksX8_close_0 14 rfl rfl)
theorem dX8_close_15 : decode cX8_close 15 = .ok (.invokevirtual 19, 3) := dk_182 0 19 (dk_at dksX8_close_0 15 rfl rfl)
theorem dX8_close_18 : decode cX8_close 18 = .ok (.return_, 1) := dk_177 (dk_at dksX8_close_0 18 rfl rfl)
def dkwX8_isSign_1 : List UInt8 := [4, 167, 0, 4, 3, 172]
abbrev dktX8_isSign_1 : List UInt8 := dkwX8_isSign_1 ++ []
def dkwX8_isSign_0 : List UInt8 := [42, 180, 0, 32, 6, 160, 0, 23, 42, 180, 0, 3, 180, 0, 22, 42, 180, 0, 29, 51, 27, 160, 0, 7]
abbrev dktX8_isSign_0 : List UInt8 := dkwX8_isSign_0 ++ dktX8_isSign_1
theorem dksX8_isSign_0 : cX8_isSign.data.toList.drop 0 = dktX8_isSign_0 := by decide +kernel
theorem dksX8_isSign_1 : cX8_isSign.data.toList.drop 24 = dktX8_isSign_1 := dk_seg dksX8_isSign_0 24 rfl rfl
theorem dX8_isSign_0 : decode cX8_isSign 0 = .ok (.aload_n 0, 1) := dk_42 (dk_at dksX8_isSign_0 0 rfl rfl)
theorem dX8_isSign_1 : decode cX8_isSign 1 = .ok (.getfield 32, 3) := dk_180 0 32 (dk_at dksX8_isSign_0 1 rfl rfl)
theorem dX8_isSign_4 : decode cX8_isSign 4 = .ok (.iconst 3, 1) := dk_6 (dk_at dksX8_isSign_0 4 rfl rfl)
theorem dX8_isSign_5 : decode cX8_isSign 5 = .ok (.if_icmp .ne 23, 3) := dk_160 0 23 (dk_at dksX8_isSign_0 5 rfl rfl)
theorem dX8_isSign_8 : decode cX8_isSign 8 = .ok (.aload_n 0, 1) := dk_42 (dk_at dksX8_isSign_0 8 rfl rfl)
theorem dX8_isSign_9 : decode cX8_isSign 9 = .ok (.getfield 3, 3) := dk_180 0 3 (dk_at dksX8_isSign_0 9 rfl rfl)
theorem dX8_isSign_12 : decode cX8_isSign 12 = .ok (.getfield 22, 3) := dk_180 0 22 (dk_at dksX8_isSign_0 12 rfl rfl)
theorem dX8_isSign_15 : decode cX8_isSign 15 = .ok (.aload_n 0, 1) := dk_42 (dk_at dksX8_isSign_0 15 rfl rfl)
theorem dX8_isSign_16 : decode cX8_isSign 16 = .ok (.getfield 29, 3) := dk_180 0 29 (dk_at dksX8_isSign_0 16 rfl rfl)
theorem dX8_isSign_19 : decode cX8_isSign 19 = .ok (.baload, 1) := dk_51 (dk_at dksX8_isSign_0 19 rfl rfl)
theorem dX8_isSign_20 : decode cX8_isSign 20 = .ok (.iload_n 1, 1) := dk_27 (dk_at dksX8_isSign_0 20 rfl rfl)
theorem dX8_isSign_21 : decode cX8_isSign 21 = .ok (.if_icmp .ne 7, 3) := dk_160 0 7 (dk_at dksX8_isSign_0 21 rfl rfl)
theorem dX8_isSign_24 : decode cX8_isSign 24 = .ok (.iconst 1, 1) := dk_4 (dk_at dksX8_isSign_1 0 rfl rfl)
theorem dX8_isSign_25 : decode cX8_isSign 25 = .ok (.goto 4, 3) := dk_167 0 4 (dk_at dksX8_isSign_1 1 rfl rfl)
theorem dX8_isSign_28 : decode cX8_isSign 28 = .ok (.iconst 0, 1) := dk_3 (dk_at dksX8_isSign_1 4 rfl rfl)
theorem dX8_isSign_29 : decode cX8_isSign 29 = .ok (.ireturn, 1) := dk_172 (dk_at dksX8_isSign_1 5 rfl rfl)
def dkwX8_season_0 : List UInt8 := [42, 180, 0, 32, 153, 0, 13, 42, 43, 44, 3, 182, 0, 229, 167, 255, 242, 177]
abbrev dktX8_season_0 : List UInt8 := dkwX8_season_0 ++ []
theorem dksX8_season_0 : cX8_season.data.toList.drop 0 = dktX8_season_0 := by decide +kernel
theorem dX8_season_0 : decode cX8_season 0 = .ok (.aload_n 0, 1) := dk_42 (dk_at dksX8_season_0 0 rfl rfl)
theorem dX8_season_1 : decode cX8_season 1 = .ok (.getfield 32, 3) := dk_180 0 32 (dk_at dksX8_season_0 1 rfl rfl)
theorem dX8_season_4 : decode cX8_season 4 = .ok (.ifCond .eq 13, 3) := dk_153 0 13 (dk_at dksX8_season_0 4 rfl rfl)
theorem dX8_season_7 : decode cX8_season 7 = .ok (.aload_n 0, 1) := dk_42 (dk_at dksX8_season_0 7 rfl rfl)
theorem dX8_season_8 : decode cX8_season 8 = .ok (.aload_n 1, 1) := dk_43 (dk_at dksX8_season_0 8 rfl rfl)
theorem dX8_season_9 : decode cX8_season 9 = .ok (.aload_n 2, 1) := dk_44 (dk_at dksX8_season_0 9 rfl rfl)
theorem dX8_season_10 : decode cX8_season 10 = .ok (.iconst 0, 1) := dk_3 (dk_at dksX8_season_0 10 rfl rfl)
theorem dX8_season_11 : decode cX8_season 11 = .ok (.invokevirtual 229, 3) := dk_182 0 229 (dk_at dksX8_season_0 11 rfl rfl)
theorem dX8_season_14 : decode cX8_season 14 = .ok (.goto (-14), 3) := dk_167 255 242 (dk_at dksX8_season_0 14 rfl rfl)
theorem dX8_season_17 : decode cX8_season 17 = .ok (.return_, 1) := dk_177 (dk_at dksX8_season_0 17 rfl rfl)
def dkwX8_step_5 : List UInt8 := [182, 0, 236, 167, 0, 8, 42, 43, 182, 0, 240, 58, 6, 42, 182, 0, 175, 44, 25, 6, 182, 0, 244, 177]
abbrev dktX8_step_5 : List UInt8 := dkwX8_step_5 ++ []
def dkwX8_step_4 : List UInt8 := [182, 0, 59, 191, 42, 89, 180, 0, 233, 4, 96, 181, 0, 233, 21, 5, 153, 0, 14, 42, 43, 21, 4, 29]
abbrev dktX8_step_4 : List UInt8 := dkwX8_step_4 ++ dktX8_step_5
def dkwX8_step_3 : List UInt8 := [191, 21, 5, 153, 0, 25, 29, 6, 160, 0, 20, 42, 180, 0, 3, 180, 0, 55, 16, 7, 42, 180, 0, 29]
abbrev dktX8_step_3 : List UInt8 := dkwX8_step_3 ++ dktX8_step_4
def dkwX8_step_2 : List UInt8 := [180, 0, 233, 16, 30, 160, 0, 20, 42, 180, 0, 3, 180, 0, 55, 16, 6, 42, 180, 0, 29, 182, 0, 59]
abbrev dktX8_step_2 : List UInt8 := dkwX8_step_2 ++ dktX8_step_3
def dkwX8_step_1 : List UInt8 := [167, 0, 4, 3, 54, 5, 42, 182, 0, 119, 156, 0, 13, 21, 5, 154, 0, 8, 42, 182, 0, 68, 191, 42]
abbrev dktX8_step_1 : List UInt8 := dkwX8_step_1 ++ dktX8_step_2
def dkwX8_step_0 : List UInt8 := [42, 18, 125, 182, 0, 72, 54, 4, 21, 4, 154, 0, 12, 42, 18, 127, 182, 0, 72, 153, 0, 7, 4]
abbrev dktX8_step_0 : List UInt8 := dkwX8_step_0 ++ dktX8_step_1
theorem dksX8_step_0 : cX8_step.data.toList.drop 0 = dktX8_step_0 := by decide +kernel
theorem dksX8_step_1 : cX8_step.data.toList.drop 23 = dktX8_step_1 := dk_seg dksX8_step_0 23 rfl rfl
theorem dksX8_step_2 : cX8_step.data.toList.drop 47 = dktX8_step_2 := dk_seg dksX8_step_1 24 rfl rfl
theorem dksX8_step_3 : cX8_step.data.toList.drop 71 = dktX8_step_3 := dk_seg dksX8_step_2 24 rfl rfl
theorem dksX8_step_4 : cX8_step.data.toList.drop 95 = dktX8_step_4 := dk_seg dksX8_step_3 24 rfl rfl
theorem dksX8_step_5 : cX8_step.data.toList.drop 119 = dktX8_step_5 := dk_seg dksX8_step_4 24 rfl rfl
theorem dX8_step_0 : decode cX8_step 0 = .ok (.aload_n 0, 1) := dk_42 (dk_at dksX8_step_0 0 rfl rfl)
theorem dX8_step_1 : decode cX8_step 1 = .ok (.ldc 125, 2) := dk_18 125 (dk_at dksX8_step_0 1 rfl rfl)
theorem dX8_step_3 : decode cX8_step 3 = .ok (.invokevirtual 72, 3) := dk_182 0 72 (dk_at dksX8_step_0 3 rfl rfl)
theorem dX8_step_6 : decode cX8_step 6 = .ok (.istore 4, 2) := dk_54 4 (dk_at dksX8_step_0 6 rfl rfl)
theorem dX8_step_8 : decode cX8_step 8 = .ok (.iload 4, 2) := dk_21 4 (dk_at dksX8_step_0 8 rfl rfl)
theorem dX8_step_10 : decode cX8_step 10 = .ok (.ifCond .ne 12, 3) := dk_154 0 12 (dk_at dksX8_step_0 10 rfl rfl)
theorem dX8_step_13 : decode cX8_step 13 = .ok (.aload_n 0, 1) := dk_42 (dk_at dksX8_step_0 13 rfl rfl)
theorem dX8_step_14 : decode cX8_step 14 = .ok (.ldc 127, 2) := dk_18 127 (dk_at dksX8_step_0 14 rfl rfl)
theorem dX8_step_16 : decode cX8_step 16 = .ok (.invokevirtual 72, 3) := dk_182 0 72 (dk_at dksX8_step_0 16 rfl rfl)
theorem dX8_step_19 : decode cX8_step 19 = .ok (.ifCond .eq 7, 3) := dk_153 0 7 (dk_at dksX8_step_0 19 rfl rfl)
theorem dX8_step_22 : decode cX8_step 22 = .ok (.iconst 1, 1) := dk_4 (dk_at dksX8_step_0 22 rfl rfl)
theorem dX8_step_23 : decode cX8_step 23 = .ok (.goto 4, 3) := dk_167 0 4 (dk_at dksX8_step_1 0 rfl rfl)
theorem dX8_step_26 : decode cX8_step 26 = .ok (.iconst 0, 1) := dk_3 (dk_at dksX8_step_1 3 rfl rfl)
theorem dX8_step_27 : decode cX8_step 27 = .ok (.istore 5, 2) := dk_54 5 (dk_at dksX8_step_1 4 rfl rfl)
theorem dX8_step_29 : decode cX8_step 29 = .ok (.aload_n 0, 1) := dk_42 (dk_at dksX8_step_1 6 rfl rfl)
theorem dX8_step_30 : decode cX8_step 30 = .ok (.invokevirtual 119, 3) := dk_182 0 119 (dk_at dksX8_step_1 7 rfl rfl)
theorem dX8_step_33 : decode cX8_step 33 = .ok (.ifCond .ge 13, 3) := dk_156 0 13 (dk_at dksX8_step_1 10 rfl rfl)
theorem dX8_step_36 : decode cX8_step 36 = .ok (.iload 5, 2) := dk_21 5 (dk_at dksX8_step_1 13 rfl rfl)
theorem dX8_step_38 : decode cX8_step 38 = .ok (.ifCond .ne 8, 3) := dk_154 0 8 (dk_at dksX8_step_1 15 rfl rfl)
theorem dX8_step_41 : decode cX8_step 41 = .ok (.aload_n 0, 1) := dk_42 (dk_at dksX8_step_1 18 rfl rfl)
theorem dX8_step_42 : decode cX8_step 42 = .ok (.invokevirtual 68, 3) := dk_182 0 68 (dk_at dksX8_step_1 19 rfl rfl)
theorem dX8_step_45 : decode cX8_step 45 = .ok (.athrow, 1) := dk_191 (dk_at dksX8_step_1 22 rfl rfl)
theorem dX8_step_46 : decode cX8_step 46 = .ok (.aload_n 0, 1) := dk_42 (dk_at dksX8_step_1 23 rfl rfl)
theorem dX8_step_47 : decode cX8_step 47 = .ok (.getfield 233, 3) := dk_180 0 233 (dk_at dksX8_step_2 0 rfl rfl)
theorem dX8_step_50 : decode cX8_step 50 = .ok (.bipush 30, 2) := dk_16 30 (dk_at dksX8_step_2 3 rfl rfl)
theorem dX8_step_52 : decode cX8_step 52 = .ok (.if_icmp .ne 20, 3) := dk_160 0 20 (dk_at dksX8_step_2 5 rfl rfl)
theorem dX8_step_55 : decode cX8_step 55 = .ok (.aload_n 0, 1) := dk_42 (dk_at dksX8_step_2 8 rfl rfl)
theorem dX8_step_56 : decode cX8_step 56 = .ok (.getfield 3, 3) := dk_180 0 3 (dk_at dksX8_step_2 9 rfl rfl)
theorem dX8_step_59 : decode cX8_step 59 = .ok (.getfield 55, 3) := dk_180 0 55 (dk_at dksX8_step_2 12 rfl rfl)
theorem dX8_step_62 : decode cX8_step 62 = .ok (.bipush 6, 2) := dk_16 6 (dk_at dksX8_step_2 15 rfl rfl)
theorem dX8_step_64 : decode cX8_step 64 = .ok (.aload_n 0, 1) := dk_42 (dk_at dksX8_step_2 17 rfl rfl)
theorem dX8_step_65 : decode cX8_step 65 = .ok (.getfield 29, 3) := dk_180 0 29 (dk_at dksX8_step_2 18 rfl rfl)
theorem dX8_step_68 : decode cX8_step 68 = .ok (.invokevirtual 59, 3) := dk_182 0 59 (dk_at dksX8_step_2 21 rfl rfl)
theorem dX8_step_71 : decode cX8_step 71 = .ok (.athrow, 1) := dk_191 (dk_at dksX8_step_3 0 rfl rfl)
theorem dX8_step_72 : decode cX8_step 72 = .ok (.iload 5, 2) := dk_21 5 (dk_at dksX8_step_3 1 rfl rfl)
theorem dX8_step_74 : decode cX8_step 74 = .ok (.ifCond .eq 25, 3) := dk_153 0 25 (dk_at dksX8_step_3 3 rfl rfl)
theorem dX8_step_77 : decode cX8_step 77 = .ok (.iload_n 3, 1) := dk_29 (dk_at dksX8_step_3 6 rfl rfl)
theorem dX8_step_78 : decode cX8_step 78 = .ok (.iconst 3, 1) := dk_6 (dk_at dksX8_step_3 7 rfl rfl)
theorem dX8_step_79 : decode cX8_step 79 = .ok (.if_icmp .ne 20, 3) := dk_160 0 20 (dk_at dksX8_step_3 8 rfl rfl)
theorem dX8_step_82 : decode cX8_step 82 = .ok (.aload_n 0, 1) := dk_42 (dk_at dksX8_step_3 11 rfl rfl)
theorem dX8_step_83 : decode cX8_step 83 = .ok (.getfield 3, 3) := dk_180 0 3 (dk_at dksX8_step_3 12 rfl rfl)
theorem dX8_step_86 : decode cX8_step 86 = .ok (.getfield 55, 3) := dk_180 0 55 (dk_at dksX8_step_3 15 rfl rfl)
theorem dX8_step_89 : decode cX8_step 89 = .ok (.bipush 7, 2) := dk_16 7 (dk_at dksX8_step_3 18 rfl rfl)
theorem dX8_step_91 : decode cX8_step 91 = .ok (.aload_n 0, 1) := dk_42 (dk_at dksX8_step_3 20 rfl rfl)
theorem dX8_step_92 : decode cX8_step 92 = .ok (.getfield 29, 3) := dk_180 0 29 (dk_at dksX8_step_3 21 rfl rfl)
theorem dX8_step_95 : decode cX8_step 95 = .ok (.invokevirtual 59, 3) := dk_182 0 59 (dk_at dksX8_step_4 0 rfl rfl)
theorem dX8_step_98 : decode cX8_step 98 = .ok (.athrow, 1) := dk_191 (dk_at dksX8_step_4 3 rfl rfl)
theorem dX8_step_99 : decode cX8_step 99 = .ok (.aload_n 0, 1) := dk_42 (dk_at dksX8_step_4 4 rfl rfl)
theorem dX8_step_100 : decode cX8_step 100 = .ok (.dup, 1) := dk_89 (dk_at dksX8_step_4 5 rfl rfl)
theorem dX8_step_101 : decode cX8_step 101 = .ok (.getfield 233, 3) := dk_180 0 233 (dk_at dksX8_step_4 6 rfl rfl)
theorem dX8_step_104 : decode cX8_step 104 = .ok (.iconst 1, 1) := dk_4 (dk_at dksX8_step_4 9 rfl rfl)
theorem dX8_step_105 : decode cX8_step 105 = .ok (.iadd, 1) := dk_96 (dk_at dksX8_step_4 10 rfl rfl)
theorem dX8_step_106 : decode cX8_step 106 = .ok (.putfield 233, 3) := dk_181 0 233 (dk_at dksX8_step_4 11 rfl rfl)
theorem dX8_step_109 : decode cX8_step 109 = .ok (.iload 5, 2) := dk_21 5 (dk_at dksX8_step_4 14 rfl rfl)
theorem dX8_step_111 : decode cX8_step 111 = .ok (.ifCond .eq 14, 3) := dk_153 0 14 (dk_at dksX8_step_4 16 rfl rfl)
theorem dX8_step_114 : decode cX8_step 114 = .ok (.aload_n 0, 1) := dk_42 (dk_at dksX8_step_4 19 rfl rfl)
theorem dX8_step_115 : decode cX8_step 115 = .ok (.aload_n 1, 1) := dk_43 (dk_at dksX8_step_4 20 rfl rfl)
theorem dX8_step_116 : decode cX8_step 116 = .ok (.iload 4, 2) := dk_21 4 (dk_at dksX8_step_4 21 rfl rfl)
theorem dX8_step_118 : decode cX8_step 118 = .ok (.iload_n 3, 1) := dk_29 (dk_at dksX8_step_4 23 rfl rfl)
theorem dX8_step_119 : decode cX8_step 119 = .ok (.invokevirtual 236, 3) := dk_182 0 236 (dk_at dksX8_step_5 0 rfl rfl)
theorem dX8_step_122 : decode cX8_step 122 = .ok (.goto 8, 3) := dk_167 0 8 (dk_at dksX8_step_5 3 rfl rfl)
theorem dX8_step_125 : decode cX8_step 125 = .ok (.aload_n 0, 1) := dk_42 (dk_at dksX8_step_5 6 rfl rfl)
theorem dX8_step_126 : decode cX8_step 126 = .ok (.aload_n 1, 1) := dk_43 (dk_at dksX8_step_5 7 rfl rfl)
theorem dX8_step_127 : decode cX8_step 127 = .ok (.invokevirtual 240, 3) := dk_182 0 240 (dk_at dksX8_step_5 8 rfl rfl)
theorem dX8_step_130 : decode cX8_step 130 = .ok (.astore 6, 2) := dk_58 6 (dk_at dksX8_step_5 11 rfl rfl)
theorem dX8_step_132 : decode cX8_step 132 = .ok (.aload_n 0, 1) := dk_42 (dk_at dksX8_step_5 13 rfl rfl)
theorem dX8_step_133 : decode cX8_step 133 = .ok (.invokevirtual 175, 3) := dk_182 0 175 (dk_at dksX8_step_5 14 rfl rfl)
theorem dX8_step_136 : decode cX8_step 136 = .ok (.aload_n 2, 1) := dk_44 (dk_at dksX8_step_5 17 rfl rfl)
theorem dX8_step_137 : decode cX8_step 137 = .ok (.aload 6, 2) := dk_25 6 (dk_at dksX8_step_5 18 rfl rfl)
theorem dX8_step_139 : decode cX8_step 139 = .ok (.invokevirtual 244, 3) := dk_182 0 244 (dk_at dksX8_step_5 20 rfl rfl)
theorem dX8_step_142 : decode cX8_step 142 = .ok (.return_, 1) := dk_177 (dk_at dksX8_step_5 23 rfl rfl)
def dkwX8_block_2 : List UInt8 := [25, 4, 29, 4, 96, 182, 0, 229, 167, 255, 237, 42, 182, 0, 19, 25, 4, 176]
abbrev dktX8_block_2 : List UInt8 := dkwX8_block_2 ++ []
def dkwX8_block_1 : List UInt8 := [182, 0, 76, 183, 1, 9, 58, 4, 42, 182, 0, 175, 42, 18, 129, 182, 0, 72, 154, 0, 16, 42, 43]
abbrev dktX8_block_1 : List UInt8 := dkwX8_block_1 ++ dktX8_block_2
def dkwX8_block_0 : List UInt8 := [42, 182, 0, 19, 28, 153, 0, 11, 42, 43, 182, 1, 4, 167, 0, 17, 187, 1, 7, 89, 42, 4, 16, 99]
abbrev dktX8_block_0 : List UInt8 := dkwX8_block_0 ++ dktX8_block_1
theorem dksX8_block_0 : cX8_block.data.toList.drop 0 = dktX8_block_0 := by decide +kernel
theorem dksX8_block_1 : cX8_block.data.toList.drop 24 = dktX8_block_1 := dk_seg dksX8_block_0 24 rfl rfl
theorem dksX8_block_2 : cX8_block.data.toList.drop 47 = dktX8_block_2 := dk_seg dksX8_block_1 23 rfl rfl
theorem dX8_block_0 : decode cX8_block 0 = .ok (.aload_n 0, 1) := dk_42 (dk_at dksX8_block_0 0 rfl rfl)
theorem dX8_block_1 : decode cX8_block 1 = .ok (.invokevirtual 19, 3) := dk_182 0 19 (dk_at dksX8_block_0 1 rfl rfl)
theorem dX8_block_4 : decode cX8_block 4 = .ok (.iload_n 2, 1) := dk_28 (dk_at dksX8_block_0 4 rfl rfl)
theorem dX8_block_5 : decode cX8_block 5 = .ok (.ifCond .eq 11, 3) := dk_153 0 11 (dk_at dksX8_block_0 5 rfl rfl)
theorem dX8_block_8 : decode cX8_block 8 = .ok (.aload_n 0, 1) := dk_42 (dk_at dksX8_block_0 8 rfl rfl)
theorem dX8_block_9 : decode cX8_block 9 = .ok (.aload_n 1, 1) := dk_43 (dk_at dksX8_block_0 9 rfl rfl)
theorem dX8_block_10 : decode cX8_block 10 = .ok (.invokevirtual 260, 3) := dk_182 1 4 (dk_at dksX8_block_0 10 rfl rfl)
theorem dX8_block_13 : decode cX8_block 13 = .ok (.goto 17, 3) := dk_167 0 17 (dk_at dksX8_block_0 13 rfl rfl)
theorem dX8_block_16 : decode cX8_block 16 = .ok (.new 263, 3) := dk_187 1 7 (dk_at dksX8_block_0 16 rfl rfl)
theorem dX8_block_19 : decode cX8_block 19 = .ok (.dup, 1) := dk_89 (dk_at dksX8_block_0 19 rfl rfl)
theorem dX8_block_20 : decode cX8_block 20 = .ok (.aload_n 0, 1) := dk_42 (dk_at dksX8_block_0 20 rfl rfl)
theorem dX8_block_21 : decode cX8_block 21 = .ok (.iconst 1, 1) := dk_4 (dk_at dksX8_block_0 21 rfl rfl)
theorem dX8_block_22 : decode cX8_block 22 = .ok (.bipush 99, 2) := dk_16 99 (dk_at dksX8_block_0 22 rfl rfl)
theorem dX8_block_24 : decode cX8_block 24 = .ok (.invokevirtual 76, 3) := dk_182 0 76 (dk_at dksX8_block_1 0 rfl rfl)
theorem dX8_block_27 : decode cX8_block 27 = .ok (.invokespecial 265, 3) := dk_183 1 9 (dk_at dksX8_block_1 3 rfl rfl)
theorem dX8_block_30 : decode cX8_block 30 = .ok (.astore 4, 2) := dk_58 4 (dk_at dksX8_block_1 6 rfl rfl)
theorem dX8_block_32 : decode cX8_block 32 = .ok (.aload_n 0, 1) := dk_42 (dk_at dksX8_block_1 8 rfl rfl)
theorem dX8_block_33 : decode cX8_block 33 = .ok (.invokevirtual 175, 3) := dk_182 0 175 (dk_at dksX8_block_1 9 rfl rfl)
theorem dX8_block_36 : decode cX8_block 36 = .ok (.aload_n 0, 1) := dk_42 (dk_at dksX8_block_1 12 rfl rfl)
theorem dX8_block_37 : decode cX8_block 37 = .ok (.ldc 129, 2) := dk_18 129 (dk_at dksX8_block_1 13 rfl rfl)
theorem dX8_block_39 : decode cX8_block 39 = .ok (.invokevirtual 72, 3) := dk_182 0 72 (dk_at dksX8_block_1 15 rfl rfl)
theorem dX8_block_42 : decode cX8_block 42 = .ok (.ifCond .ne 16, 3) := dk_154 0 16 (dk_at dksX8_block_1 18 rfl rfl)
theorem dX8_block_45 : decode cX8_block 45 = .ok (.aload_n 0, 1) := dk_42 (dk_at dksX8_block_1 21 rfl rfl)
theorem dX8_block_46 : decode cX8_block 46 = .ok (.aload_n 1, 1) := dk_43 (dk_at dksX8_block_1 22 rfl rfl)
theorem dX8_block_47 : decode cX8_block 47 = .ok (.aload 4, 2) := dk_25 4 (dk_at dksX8_block_2 0 rfl rfl)
theorem dX8_block_49 : decode cX8_block 49 = .ok (.iload_n 3, 1) := dk_29 (dk_at dksX8_block_2 2 rfl rfl)
theorem dX8_block_50 : decode cX8_block 50 = .ok (.iconst 1, 1) := dk_4 (dk_at dksX8_block_2 3 rfl rfl)
theorem dX8_block_51 : decode cX8_block 51 = .ok (.iadd, 1) := dk_96 (dk_at dksX8_block_2 4 rfl rfl)
theorem dX8_block_52 : decode cX8_block 52 = .ok (.invokevirtual 229, 3) := dk_182 0 229 (dk_at dksX8_block_2 5 rfl rfl)
theorem dX8_block_55 : decode cX8_block 55 = .ok (.goto (-19), 3) := dk_167 255 237 (dk_at dksX8_block_2 8 rfl rfl)
theorem dX8_block_58 : decode cX8_block 58 = .ok (.aload_n 0, 1) := dk_42 (dk_at dksX8_block_2 11 rfl rfl)
theorem dX8_block_59 : decode cX8_block 59 = .ok (.invokevirtual 19, 3) := dk_182 0 19 (dk_at dksX8_block_2 12 rfl rfl)
theorem dX8_block_62 : decode cX8_block 62 = .ok (.aload 4, 2) := dk_25 4 (dk_at dksX8_block_2 15 rfl rfl)
theorem dX8_block_64 : decode cX8_block 64 = .ok (.areturn, 1) := dk_176 (dk_at dksX8_block_2 17 rfl rfl)
def dkwX8_when_4 : List UInt8 := [89, 28, 29, 21, 4, 42, 3, 17, 39, 15, 182, 0, 76, 183, 1, 14, 176]
abbrev dktX8_when_4 : List UInt8 := dkwX8_when_4 ++ []
def dkwX8_when_3 : List UInt8 := [54, 4, 42, 21, 4, 146, 182, 0, 64, 154, 0, 8, 42, 182, 0, 68, 191, 42, 182, 0, 19, 187, 1, 12]
abbrev dktX8_when_3 : List UInt8 := dkwX8_when_3 ++ dktX8_when_4
def dkwX8_when_2 : List UInt8 := [153, 0, 8, 16, 60, 167, 0, 19, 42, 16, 62, 182, 0, 64, 153, 0, 8, 16, 62, 167, 0, 5, 16, 61]
abbrev dktX8_when_2 : List UInt8 := dkwX8_when_2 ++ dktX8_when_3
def dkwX8_when_1 : List UInt8 := [28, 154, 0, 15, 187, 1, 12, 89, 28, 29, 3, 3, 183, 1, 14, 176, 42, 16, 60, 182, 0, 64]
abbrev dktX8_when_1 : List UInt8 := dkwX8_when_1 ++ dktX8_when_2
def dkwX8_when_0 : List UInt8 := [42, 182, 0, 122, 61, 28, 156, 0, 8, 42, 182, 0, 68, 191, 42, 182, 0, 19, 42, 43, 182, 0, 255, 62]
abbrev dktX8_when_0 : List UInt8 := dkwX8_when_0 ++ dktX8_when_1
theorem dksX8_when_0 : cX8_when.data.toList.drop 0 = dktX8_when_0 := by decide +kernel
theorem dksX8_when_1 : cX8_when.data.toList.drop 24 = dktX8_when_1 := dk_seg dksX8_when_0 24 rfl rfl
theorem dksX8_when_2 : cX8_when.data.toList.drop 46 = dktX8_when_2 := dk_seg dksX8_when_1 22 rfl rfl
theorem dksX8_when_3 : cX8_when.data.toList.drop 70 = dktX8_when_3 := dk_seg dksX8_when_2 24 rfl rfl
theorem dksX8_when_4 : cX8_when.data.toList.drop 94 = dktX8_when_4 := dk_seg dksX8_when_3 24 rfl rfl
theorem dX8_when_0 : decode cX8_when 0 = .ok (.aload_n 0, 1) := dk_42 (dk_at dksX8_when_0 0 rfl rfl)
theorem dX8_when_1 : decode cX8_when 1 = .ok (.invokevirtual 122, 3) := dk_182 0 122 (dk_at dksX8_when_0 1 rfl rfl)
theorem dX8_when_4 : decode cX8_when 4 = .ok (.istore_n 2, 1) := dk_61 (dk_at dksX8_when_0 4 rfl rfl)
theorem dX8_when_5 : decode cX8_when 5 = .ok (.iload_n 2, 1) := dk_28 (dk_at dksX8_when_0 5 rfl rfl)
theorem dX8_when_6 : decode cX8_when 6 = .ok (.ifCond .ge 8, 3) := dk_156 0 8 (dk_at dksX8_when_0 6 rfl rfl)
theorem dX8_when_9 : decode cX8_when 9 = .ok (.aload_n 0, 1) := dk_42 (dk_at dksX8_when_0 9 rfl rfl)
theorem dX8_when_10 : decode cX8_when 10 = .ok (.invokevirtual 68, 3) := dk_182 0 68 (dk_at dksX8_when_0 10 rfl rfl)
theorem dX8_when_13 : decode cX8_when 13 = .ok (.athrow, 1) := dk_191 (dk_at dksX8_when_0 13 rfl rfl)
theorem dX8_when_14 : decode cX8_when 14 = .ok (.aload_n 0, 1) := dk_42 (dk_at dksX8_when_0 14 rfl rfl)
theorem dX8_when_15 : decode cX8_when 15 = .ok (.invokevirtual 19, 3) := dk_182 0 19 (dk_at dksX8_when_0 15 rfl rfl)
theorem dX8_when_18 : decode cX8_when 18 = .ok (.aload_n 0, 1) := dk_42 (dk_at dksX8_when_0 18 rfl rfl)
theorem dX8_when_19 : decode cX8_when 19 = .ok (.aload_n 1, 1) := dk_43 (dk_at dksX8_when_0 19 rfl rfl)
theorem dX8_when_20 : decode cX8_when 20 = .ok (.invokevirtual 255, 3) := dk_182 0 255 (dk_at dksX8_when_0 20 rfl rfl)
theorem dX8_when_23 : decode cX8_when 23 = .ok (.istore_n 3, 1) := dk_62 (dk_at dksX8_when_0 23 rfl rfl)
theorem dX8_when_24 : decode cX8_when 24 = .ok (.iload_n 2, 1) := dk_28 (dk_at dksX8_when_1 0 rfl rfl)
theorem dX8_when_25 : decode cX8_when 25 = .ok (.ifCond .ne 15, 3) := dk_154 0 15 (dk_at dksX8_when_1 1 rfl rfl)
theorem dX8_when_28 : decode cX8_when 28 = .ok (.new 268, 3) := dk_187 1 12 (dk_at dksX8_when_1 4 rfl rfl)
theorem dX8_when_31 : decode cX8_when 31 = .ok (.dup, 1) := dk_89 (dk_at dksX8_when_1 7 rfl rfl)
theorem dX8_when_32 : decode cX8_when 32 = .ok (.iload_n 2, 1) := dk_28 (dk_at dksX8_when_1 8 rfl rfl)
theorem dX8_when_33 : decode cX8_when 33 = .ok (.iload_n 3, 1) := dk_29 (dk_at dksX8_when_1 9 rfl rfl)
theorem dX8_when_34 : decode cX8_when 34 = .ok (.iconst 0, 1) := dk_3 (dk_at dksX8_when_1 10 rfl rfl)
theorem dX8_when_35 : decode cX8_when 35 = .ok (.iconst 0, 1) := dk_3 (dk_at dksX8_when_1 11 rfl rfl)
theorem dX8_when_36 : decode cX8_when 36 = .ok (.invokespecial 270, 3) := dk_183 1 14 (dk_at dksX8_when_1 12 rfl rfl)
theorem dX8_when_39 : decode cX8_when 39 = .ok (.areturn, 1) := dk_176 (dk_at dksX8_when_1 15 rfl rfl)
theorem dX8_when_40 : decode cX8_when 40 = .ok (.aload_n 0, 1) := dk_42 (dk_at dksX8_when_1 16 rfl rfl)
theorem dX8_when_41 : decode cX8_when 41 = .ok (.bipush 60, 2) := dk_16 60 (dk_at dksX8_when_1 17 rfl rfl)
theorem dX8_when_43 : decode cX8_when 43 = .ok (.invokevirtual 64, 3) := dk_182 0 64 (dk_at dksX8_when_1 19 rfl rfl)
theorem dX8_when_46 : decode cX8_when 46 = .ok (.ifCond .eq 8, 3) := dk_153 0 8 (dk_at dksX8_when_2 0 rfl rfl)
theorem dX8_when_49 : decode cX8_when 49 = .ok (.bipush 60, 2) := dk_16 60 (dk_at dksX8_when_2 3 rfl rfl)
theorem dX8_when_51 : decode cX8_when 51 = .ok (.goto 19, 3) := dk_167 0 19 (dk_at dksX8_when_2 5 rfl rfl)
theorem dX8_when_54 : decode cX8_when 54 = .ok (.aload_n 0, 1) := dk_42 (dk_at dksX8_when_2 8 rfl rfl)
theorem dX8_when_55 : decode cX8_when 55 = .ok (.bipush 62, 2) := dk_16 62 (dk_at dksX8_when_2 9 rfl rfl)
theorem dX8_when_57 : decode cX8_when 57 = .ok (.invokevirtual 64, 3) := dk_182 0 64 (dk_at dksX8_when_2 11 rfl rfl)
theorem dX8_when_60 : decode cX8_when 60 = .ok (.ifCond .eq 8, 3) := dk_153 0 8 (dk_at dksX8_when_2 14 rfl rfl)
theorem dX8_when_63 : decode cX8_when 63 = .ok (.bipush 62, 2) := dk_16 62 (dk_at dksX8_when_2 17 rfl rfl)
theorem dX8_when_65 : decode cX8_when 65 = .ok (.goto 5, 3) := dk_167 0 5 (dk_at dksX8_when_2 19 rfl rfl)
theorem dX8_when_68 : decode cX8_when 68 = .ok (.bipush 61, 2) := dk_16 61 (dk_at dksX8_when_2 22 rfl rfl)
theorem dX8_when_70 : decode cX8_when 70 = .ok (.istore 4, 2) := dk_54 4 (dk_at dksX8_when_3 0 rfl rfl)
theorem dX8_when_72 : decode cX8_when 72 = .ok (.aload_n 0, 1) := dk_42 (dk_at dksX8_when_3 2 rfl rfl)
theorem dX8_when_73 : decode cX8_when 73 = .ok (.iload 4, 2) := dk_21 4 (dk_at dksX8_when_3 3 rfl rfl)
theorem dX8_when_75 : decode cX8_when 75 = .ok (.i2c, 1) := dk_146 (dk_at dksX8_when_3 5 rfl rfl)
theorem dX8_when_76 : decode cX8_when 76 = .ok (.invokevirtual 64, 3) := dk_182 0 64 (dk_at dksX8_when_3 6 rfl rfl)
theorem dX8_when_79 : decode cX8_when 79 = .ok (.ifCond .ne 8, 3) := dk_154 0 8 (dk_at dksX8_when_3 9 rfl rfl)
theorem dX8_when_82 : decode cX8_when 82 = .ok (.aload_n 0, 1) := dk_42 (dk_at dksX8_when_3 12 rfl rfl)
theorem dX8_when_83 : decode cX8_when 83 = .ok (.invokevirtual 68, 3) := dk_182 0 68 (dk_at dksX8_when_3 13 rfl rfl)
theorem dX8_when_86 : decode cX8_when 86 = .ok (.athrow, 1) := dk_191 (dk_at dksX8_when_3 16 rfl rfl)
theorem dX8_when_87 : decode cX8_when 87 = .ok (.aload_n 0, 1) := dk_42 (dk_at dksX8_when_3 17 rfl rfl)
theorem dX8_when_88 : decode cX8_when 88 = .ok (.invokevirtual 19, 3) := dk_182 0 19 (dk_at dksX8_when_3 18 rfl rfl)
theorem dX8_when_91 : decode cX8_when 91 = .ok (.new 268, 3) := dk_187 1 12 (dk_at dksX8_when_3 21 rfl rfl)
theorem dX8_when_94 : decode cX8_when 94 = .ok (.dup, 1) := dk_89 (dk_at dksX8_when_4 0 rfl rfl)
theorem dX8_when_95 : decode cX8_when 95 = .ok (.iload_n 2, 1) := dk_28 (dk_at dksX8_when_4 1 rfl rfl)
theorem dX8_when_96 : decode cX8_when 96 = .ok (.iload_n 3, 1) := dk_29 (dk_at dksX8_when_4 2 rfl rfl)
theorem dX8_when_97 : decode cX8_when 97 = .ok (.iload 4, 2) := dk_21 4 (dk_at dksX8_when_4 3 rfl rfl)
theorem dX8_when_99 : decode cX8_when 99 = .ok (.aload_n 0, 1) := dk_42 (dk_at dksX8_when_4 5 rfl rfl)
theorem dX8_when_100 : decode cX8_when 100 = .ok (.iconst 0, 1) := dk_3 (dk_at dksX8_when_4 6 rfl rfl)
theorem dX8_when_101 : decode cX8_when 101 = .ok (.sipush 9999, 3) := dk_17 39 15 (dk_at dksX8_when_4 7 rfl rfl)
theorem dX8_when_104 : decode cX8_when 104 = .ok (.invokevirtual 76, 3) := dk_182 0 76 (dk_at dksX8_when_4 10 rfl rfl)
theorem dX8_when_107 : decode cX8_when 107 = .ok (.invokespecial 270, 3) := dk_183 1 14 (dk_at dksX8_when_4 13 rfl rfl)
theorem dX8_when_110 : decode cX8_when 110 = .ok (.areturn, 1) := dk_176 (dk_at dksX8_when_4 16 rfl rfl)
def dkwX8_hive_0 : List UInt8 := [42, 43, 42, 182, 0, 139, 182, 0, 143, 182, 0, 161, 61, 42, 182, 0, 19, 28, 172]
abbrev dktX8_hive_0 : List UInt8 := dkwX8_hive_0 ++ []
theorem dksX8_hive_0 : cX8_hive.data.toList.drop 0 = dktX8_hive_0 := by decide +kernel
theorem dX8_hive_0 : decode cX8_hive 0 = .ok (.aload_n 0, 1) := dk_42 (dk_at dksX8_hive_0 0 rfl rfl)
theorem dX8_hive_1 : decode cX8_hive 1 = .ok (.aload_n 1, 1) := dk_43 (dk_at dksX8_hive_0 1 rfl rfl)
theorem dX8_hive_2 : decode cX8_hive 2 = .ok (.aload_n 0, 1) := dk_42 (dk_at dksX8_hive_0 2 rfl rfl)
theorem dX8_hive_3 : decode cX8_hive 3 = .ok (.invokevirtual 139, 3) := dk_182 0 139 (dk_at dksX8_hive_0 3 rfl rfl)
theorem dX8_hive_6 : decode cX8_hive 6 = .ok (.invokevirtual 143, 3) := dk_182 0 143 (dk_at dksX8_hive_0 6 rfl rfl)
theorem dX8_hive_9 : decode cX8_hive 9 = .ok (.invokevirtual 161, 3) := dk_182 0 161 (dk_at dksX8_hive_0 9 rfl rfl)
theorem dX8_hive_12 : decode cX8_hive 12 = .ok (.istore_n 2, 1) := dk_61 (dk_at dksX8_hive_0 12 rfl rfl)
theorem dX8_hive_13 : decode cX8_hive 13 = .ok (.aload_n 0, 1) := dk_42 (dk_at dksX8_hive_0 13 rfl rfl)
theorem dX8_hive_14 : decode cX8_hive 14 = .ok (.invokevirtual 19, 3) := dk_182 0 19 (dk_at dksX8_hive_0 14 rfl rfl)
theorem dX8_hive_17 : decode cX8_hive 17 = .ok (.iload_n 2, 1) := dk_28 (dk_at dksX8_hive_0 17 rfl rfl)
theorem dX8_hive_18 : decode cX8_hive 18 = .ok (.ireturn, 1) := dk_172 (dk_at dksX8_hive_0 18 rfl rfl)
def dkwX8_plain_8 : List UInt8 := [21, 5, 42, 3, 43, 180, 0, 184, 21, 5, 50, 180, 1, 1, 190, 4, 100, 182, 0, 76, 183, 0, 252, 176]
abbrev dktX8_plain_8 : List UInt8 := dkwX8_plain_8 ++ []
def dkwX8_plain_7 : List UInt8 := [21, 4, 3, 3, 183, 0, 252, 176, 42, 43, 182, 0, 255, 54, 5, 187, 0, 250, 89, 28, 29, 21, 4]
abbrev dktX8_plain_7 : List UInt8 := dkwX8_plain_7 ++ dktX8_plain_8
def dkwX8_plain_6 : List UInt8 := [29, 50, 180, 1, 1, 190, 4, 100, 182, 0, 76, 54, 4, 28, 6, 159, 0, 17, 187, 0, 250, 89, 28, 29]
abbrev dktX8_plain_6 : List UInt8 := dkwX8_plain_6 ++ dktX8_plain_7
def dkwX8_plain_5 : List UInt8 := [176, 42, 43, 182, 0, 255, 62, 42, 3, 28, 4, 160, 0, 9, 17, 3, 231, 167, 0, 15, 43, 180, 0, 184]
abbrev dktX8_plain_5 : List UInt8 := dkwX8_plain_5 ++ dktX8_plain_6
def dkwX8_plain_4 : List UInt8 := [182, 0, 161, 62, 42, 182, 0, 19, 187, 0, 250, 89, 28, 29, 42, 43, 182, 0, 255, 3, 3, 183, 0, 252]
abbrev dktX8_plain_4 : List UInt8 := dkwX8_plain_4 ++ dktX8_plain_5
def dkwX8_plain_3 : List UInt8 := [3, 183, 0, 252, 176, 28, 8, 160, 0, 40, 42, 43, 180, 0, 149, 42, 182, 0, 139, 182, 0, 153]
abbrev dktX8_plain_3 : List UInt8 := dkwX8_plain_3 ++ dktX8_plain_4
def dkwX8_plain_2 : List UInt8 := [182, 0, 76, 3, 3, 3, 183, 0, 252, 176, 28, 16, 6, 160, 0, 16, 187, 0, 250, 89, 28, 3, 3, 3]
abbrev dktX8_plain_2 : List UInt8 := dkwX8_plain_2 ++ dktX8_plain_3
def dkwX8_plain_1 : List UInt8 := [182, 0, 76, 3, 3, 3, 183, 0, 252, 176, 28, 7, 160, 0, 22, 187, 0, 250, 89, 28, 42, 4, 16, 16]
abbrev dktX8_plain_1 : List UInt8 := dkwX8_plain_1 ++ dktX8_plain_2
def dkwX8_plain_0 : List UInt8 := [42, 182, 0, 119, 61, 42, 182, 0, 19, 28, 154, 0, 22, 187, 0, 250, 89, 28, 42, 4, 16, 30]
abbrev dktX8_plain_0 : List UInt8 := dkwX8_plain_0 ++ dktX8_plain_1
theorem dksX8_plain_0 : cX8_plain.data.toList.drop 0 = dktX8_plain_0 := by decide +kernel
theorem dksX8_plain_1 : cX8_plain.data.toList.drop 22 = dktX8_plain_1 := dk_seg dksX8_plain_0 22 rfl rfl
theorem dksX8_plain_2 : cX8_plain.data.toList.drop 46 = dktX8_plain_2 := dk_seg dksX8_plain_1 24 rfl rfl
theorem dksX8_plain_3 : cX8_plain.data.toList.drop 70 = dktX8_plain_3 := dk_seg dksX8_plain_2 24 rfl rfl
theorem dksX8_plain_4 : cX8_plain.data.toList.drop 92 = dktX8_plain_4 := dk_seg dksX8_plain_3 22 rfl rfl
theorem dksX8_plain_5 : cX8_plain.data.toList.drop 116 = dktX8_plain_5 := dk_seg dksX8_plain_4 24 rfl rfl
theorem dksX8_plain_6 : cX8_plain.data.toList.drop 140 = dktX8_plain_6 := dk_seg dksX8_plain_5 24 rfl rfl
theorem dksX8_plain_7 : cX8_plain.data.toList.drop 164 = dktX8_plain_7 := dk_seg dksX8_plain_6 24 rfl rfl
theorem dksX8_plain_8 : cX8_plain.data.toList.drop 187 = dktX8_plain_8 := dk_seg dksX8_plain_7 23 rfl rfl
theorem dX8_plain_0 : decode cX8_plain 0 = .ok (.aload_n 0, 1) := dk_42 (dk_at dksX8_plain_0 0 rfl rfl)
theorem dX8_plain_1 : decode cX8_plain 1 = .ok (.invokevirtual 119, 3) := dk_182 0 119 (dk_at dksX8_plain_0 1 rfl rfl)
theorem dX8_plain_4 : decode cX8_plain 4 = .ok (.istore_n 2, 1) := dk_61 (dk_at dksX8_plain_0 4 rfl rfl)
theorem dX8_plain_5 : decode cX8_plain 5 = .ok (.aload_n 0, 1) := dk_42 (dk_at dksX8_plain_0 5 rfl rfl)
theorem dX8_plain_6 : decode cX8_plain 6 = .ok (.invokevirtual 19, 3) := dk_182 0 19 (dk_at dksX8_plain_0 6 rfl rfl)
theorem dX8_plain_9 : decode cX8_plain 9 = .ok (.iload_n 2, 1) := dk_28 (dk_at dksX8_plain_0 9 rfl rfl)
theorem dX8_plain_10 : decode cX8_plain 10 = .ok (.ifCond .ne 22, 3) := dk_154 0 22 (dk_at dksX8_plain_0 10 rfl rfl)
theorem dX8_plain_13 : decode cX8_plain 13 = .ok (.new 250, 3) := dk_187 0 250 (dk_at dksX8_plain_0 13 rfl rfl)
theorem dX8_plain_16 : decode cX8_plain 16 = .ok (.dup, 1) := dk_89 (dk_at dksX8_plain_0 16 rfl rfl)
theorem dX8_plain_17 : decode cX8_plain 17 = .ok (.iload_n 2, 1) := dk_28 (dk_at dksX8_plain_0 17 rfl rfl)
theorem dX8_plain_18 : decode cX8_plain 18 = .ok (.aload_n 0, 1) := dk_42 (dk_at dksX8_plain_0 18 rfl rfl)
theorem dX8_plain_19 : decode cX8_plain 19 = .ok (.iconst 1, 1) := dk_4 (dk_at dksX8_plain_0 19 rfl rfl)
theorem dX8_plain_20 : decode cX8_plain 20 = .ok (.bipush 30, 2) := dk_16 30 (dk_at dksX8_plain_0 20 rfl rfl)
theorem dX8_plain_22 : decode cX8_plain 22 = .ok (.invokevirtual 76, 3) := dk_182 0 76 (dk_at dksX8_plain_1 0 rfl rfl)
theorem dX8_plain_25 : decode cX8_plain 25 = .ok (.iconst 0, 1) := dk_3 (dk_at dksX8_plain_1 3 rfl rfl)
theorem dX8_plain_26 : decode cX8_plain 26 = .ok (.iconst 0, 1) := dk_3 (dk_at dksX8_plain_1 4 rfl rfl)
theorem dX8_plain_27 : decode cX8_plain 27 = .ok (.iconst 0, 1) := dk_3 (dk_at dksX8_plain_1 5 rfl rfl)
theorem dX8_plain_28 : decode cX8_plain 28 = .ok (.invokespecial 252, 3) := dk_183 0 252 (dk_at dksX8_plain_1 6 rfl rfl)
theorem dX8_plain_31 : decode cX8_plain 31 = .ok (.areturn, 1) := dk_176 (dk_at dksX8_plain_1 9 rfl rfl)
theorem dX8_plain_32 : decode cX8_plain 32 = .ok (.iload_n 2, 1) := dk_28 (dk_at dksX8_plain_1 10 rfl rfl)
theorem dX8_plain_33 : decode cX8_plain 33 = .ok (.iconst 4, 1) := dk_7 (dk_at dksX8_plain_1 11 rfl rfl)
theorem dX8_plain_34 : decode cX8_plain 34 = .ok (.if_icmp .ne 22, 3) := dk_160 0 22 (dk_at dksX8_plain_1 12 rfl rfl)
theorem dX8_plain_37 : decode cX8_plain 37 = .ok (.new 250, 3) := dk_187 0 250 (dk_at dksX8_plain_1 15 rfl rfl)
theorem dX8_plain_40 : decode cX8_plain 40 = .ok (.dup, 1) := dk_89 (dk_at dksX8_plain_1 18 rfl rfl)
theorem dX8_plain_41 : decode cX8_plain 41 = .ok (.iload_n 2, 1) := dk_28 (dk_at dksX8_plain_1 19 rfl rfl)
theorem dX8_plain_42 : decode cX8_plain 42 = .ok (.aload_n 0, 1) := dk_42 (dk_at dksX8_plain_1 20 rfl rfl)
theorem dX8_plain_43 : decode cX8_plain 43 = .ok (.iconst 1, 1) := dk_4 (dk_at dksX8_plain_1 21 rfl rfl)
theorem dX8_plain_44 : decode cX8_plain 44 = .ok (.bipush 16, 2) := dk_16 16 (dk_at dksX8_plain_1 22 rfl rfl)
theorem dX8_plain_46 : decode cX8_plain 46 = .ok (.invokevirtual 76, 3) := dk_182 0 76 (dk_at dksX8_plain_2 0 rfl rfl)
theorem dX8_plain_49 : decode cX8_plain 49 = .ok (.iconst 0, 1) := dk_3 (dk_at dksX8_plain_2 3 rfl rfl)
theorem dX8_plain_50 : decode cX8_plain 50 = .ok (.iconst 0, 1) := dk_3 (dk_at dksX8_plain_2 4 rfl rfl)
theorem dX8_plain_51 : decode cX8_plain 51 = .ok (.iconst 0, 1) := dk_3 (dk_at dksX8_plain_2 5 rfl rfl)
theorem dX8_plain_52 : decode cX8_plain 52 = .ok (.invokespecial 252, 3) := dk_183 0 252 (dk_at dksX8_plain_2 6 rfl rfl)
theorem dX8_plain_55 : decode cX8_plain 55 = .ok (.areturn, 1) := dk_176 (dk_at dksX8_plain_2 9 rfl rfl)
theorem dX8_plain_56 : decode cX8_plain 56 = .ok (.iload_n 2, 1) := dk_28 (dk_at dksX8_plain_2 10 rfl rfl)
theorem dX8_plain_57 : decode cX8_plain 57 = .ok (.bipush 6, 2) := dk_16 6 (dk_at dksX8_plain_2 11 rfl rfl)
theorem dX8_plain_59 : decode cX8_plain 59 = .ok (.if_icmp .ne 16, 3) := dk_160 0 16 (dk_at dksX8_plain_2 13 rfl rfl)
theorem dX8_plain_62 : decode cX8_plain 62 = .ok (.new 250, 3) := dk_187 0 250 (dk_at dksX8_plain_2 16 rfl rfl)
theorem dX8_plain_65 : decode cX8_plain 65 = .ok (.dup, 1) := dk_89 (dk_at dksX8_plain_2 19 rfl rfl)
theorem dX8_plain_66 : decode cX8_plain 66 = .ok (.iload_n 2, 1) := dk_28 (dk_at dksX8_plain_2 20 rfl rfl)
theorem dX8_plain_67 : decode cX8_plain 67 = .ok (.iconst 0, 1) := dk_3 (dk_at dksX8_plain_2 21 rfl rfl)
theorem dX8_plain_68 : decode cX8_plain 68 = .ok (.iconst 0, 1) := dk_3 (dk_at dksX8_plain_2 22 rfl rfl)
theorem dX8_plain_69 : decode cX8_plain 69 = .ok (.iconst 0, 1) := dk_3 (dk_at dksX8_plain_2 23 rfl rfl)
theorem dX8_plain_70 : decode cX8_plain 70 = .ok (.iconst 0, 1) := dk_3 (dk_at dksX8_plain_3 0 rfl rfl)
theorem dX8_plain_71 : decode cX8_plain 71 = .ok (.invokespecial 252, 3) := dk_183 0 252 (dk_at dksX8_plain_3 1 rfl rfl)
theorem dX8_plain_74 : decode cX8_plain 74 = .ok (.areturn, 1) := dk_176 (dk_at dksX8_plain_3 4 rfl rfl)
theorem dX8_plain_75 : decode cX8_plain 75 = .ok (.iload_n 2, 1) := dk_28 (dk_at dksX8_plain_3 5 rfl rfl)
theorem dX8_plain_76 : decode cX8_plain 76 = .ok (.iconst 5, 1) := dk_8 (dk_at dksX8_plain_3 6 rfl rfl)
theorem dX8_plain_77 : decode cX8_plain 77 = .ok (.if_icmp .ne 40, 3) := dk_160 0 40 (dk_at dksX8_plain_3 7 rfl rfl)
theorem dX8_plain_80 : decode cX8_plain 80 = .ok (.aload_n 0, 1) := dk_42 (dk_at dksX8_plain_3 10 rfl rfl)
theorem dX8_plain_81 : decode cX8_plain 81 = .ok (.aload_n 1, 1) := dk_43 (dk_at dksX8_plain_3 11 rfl rfl)
theorem dX8_plain_82 : decode cX8_plain 82 = .ok (.getfield 149, 3) := dk_180 0 149 (dk_at dksX8_plain_3 12 rfl rfl)
theorem dX8_plain_85 : decode cX8_plain 85 = .ok (.aload_n 0, 1) := dk_42 (dk_at dksX8_plain_3 15 rfl rfl)
theorem dX8_plain_86 : decode cX8_plain 86 = .ok (.invokevirtual 139, 3) := dk_182 0 139 (dk_at dksX8_plain_3 16 rfl rfl)
theorem dX8_plain_89 : decode cX8_plain 89 = .ok (.invokevirtual 153, 3) := dk_182 0 153 (dk_at dksX8_plain_3 19 rfl rfl)
theorem dX8_plain_92 : decode cX8_plain 92 = .ok (.invokevirtual 161, 3) := dk_182 0 161 (dk_at dksX8_plain_4 0 rfl rfl)
theorem dX8_plain_95 : decode cX8_plain 95 = .ok (.istore_n 3, 1) := dk_62 (dk_at dksX8_plain_4 3 rfl rfl)
theorem dX8_plain_96 : decode cX8_plain 96 = .ok (.aload_n 0, 1) := dk_42 (dk_at dksX8_plain_4 4 rfl rfl)
theorem dX8_plain_97 : decode cX8_plain 97 = .ok (.invokevirtual 19, 3) := dk_182 0 19 (dk_at dksX8_plain_4 5 rfl rfl)
theorem dX8_plain_100 : decode cX8_plain 100 = .ok (.new 250, 3) := dk_187 0 250 (dk_at dksX8_plain_4 8 rfl rfl)
theorem dX8_plain_103 : decode cX8_plain 103 = .ok (.dup, 1) := dk_89 (dk_at dksX8_plain_4 11 rfl rfl)
theorem dX8_plain_104 : decode cX8_plain 104 = .ok (.iload_n 2, 1) := dk_28 (dk_at dksX8_plain_4 12 rfl rfl)
theorem dX8_plain_105 : decode cX8_plain 105 = .ok (.iload_n 3, 1) := dk_29 (dk_at dksX8_plain_4 13 rfl rfl)
theorem dX8_plain_106 : decode cX8_plain 106 = .ok (.aload_n 0, 1) := dk_42 (dk_at dksX8_plain_4 14 rfl rfl)
theorem dX8_plain_107 : decode cX8_plain 107 = .ok (.aload_n 1, 1) := dk_43 (dk_at dksX8_plain_4 15 rfl rfl)
theorem dX8_plain_108 : decode cX8_plain 108 = .ok (.invokevirtual 255, 3) := dk_182 0 255 (dk_at dksX8_plain_4 16 rfl rfl)
theorem dX8_plain_111 : decode cX8_plain 111 = .ok (.iconst 0, 1) := dk_3 (dk_at dksX8_plain_4 19 rfl rfl)
theorem dX8_plain_112 : decode cX8_plain 112 = .ok (.iconst 0, 1) := dk_3 (dk_at dksX8_plain_4 20 rfl rfl)
theorem dX8_plain_113 : decode cX8_plain 113 = .ok (.invokespecial 252, 3) := dk_183 0 252 (dk_at dksX8_plain_4 21 rfl rfl)
theorem dX8_plain_116 : decode cX8_plain 116 = .ok (.areturn, 1) := dk_176 (dk_at dksX8_plain_5 0 rfl rfl)
theorem dX8_plain_117 : decode cX8_plain 117 = .ok (.aload_n 0, 1) := dk_42 (dk_at dksX8_plain_5 1 rfl rfl)
theorem dX8_plain_118 : decode cX8_plain 118 = .ok (.aload_n 1, 1) := dk_43 (dk_at dksX8_plain_5 2 rfl rfl)
theorem dX8_plain_119 : decode cX8_plain 119 = .ok (.invokevirtual 255, 3) := dk_182 0 255 (dk_at dksX8_plain_5 3 rfl rfl)
theorem dX8_plain_122 : decode cX8_plain 122 = .ok (.istore_n 3, 1) := dk_62 (dk_at dksX8_plain_5 6 rfl rfl)
theorem dX8_plain_123 : decode cX8_plain 123 = .ok (.aload_n 0, 1) := dk_42 (dk_at dksX8_plain_5 7 rfl rfl)
theorem dX8_plain_124 : decode cX8_plain 124 = .ok (.iconst 0, 1) := dk_3 (dk_at dksX8_plain_5 8 rfl rfl)
theorem dX8_plain_125 : decode cX8_plain 125 = .ok (.iload_n 2, 1) := dk_28 (dk_at dksX8_plain_5 9 rfl rfl)
theorem dX8_plain_126 : decode cX8_plain 126 = .ok (.iconst 1, 1) := dk_4 (dk_at dksX8_plain_5 10 rfl rfl)
theorem dX8_plain_127 : decode cX8_plain 127 = .ok (.if_icmp .ne 9, 3) := dk_160 0 9 (dk_at dksX8_plain_5 11 rfl rfl)
theorem dX8_plain_130 : decode cX8_plain 130 = .ok (.sipush 999, 3) := dk_17 3 231 (dk_at dksX8_plain_5 14 rfl rfl)
theorem dX8_plain_133 : decode cX8_plain 133 = .ok (.goto 15, 3) := dk_167 0 15 (dk_at dksX8_plain_5 17 rfl rfl)
theorem dX8_plain_136 : decode cX8_plain 136 = .ok (.aload_n 1, 1) := dk_43 (dk_at dksX8_plain_5 20 rfl rfl)
theorem dX8_plain_137 : decode cX8_plain 137 = .ok (.getfield 184, 3) := dk_180 0 184 (dk_at dksX8_plain_5 21 rfl rfl)
theorem dX8_plain_140 : decode cX8_plain 140 = .ok (.iload_n 3, 1) := dk_29 (dk_at dksX8_plain_6 0 rfl rfl)
theorem dX8_plain_141 : decode cX8_plain 141 = .ok (.aaload, 1) := dk_50 (dk_at dksX8_plain_6 1 rfl rfl)
theorem dX8_plain_142 : decode cX8_plain 142 = .ok (.getfield 257, 3) := dk_180 1 1 (dk_at dksX8_plain_6 2 rfl rfl)
theorem dX8_plain_145 : decode cX8_plain 145 = .ok (.arraylength, 1) := dk_190 (dk_at dksX8_plain_6 5 rfl rfl)
theorem dX8_plain_146 : decode cX8_plain 146 = .ok (.iconst 1, 1) := dk_4 (dk_at dksX8_plain_6 6 rfl rfl)
theorem dX8_plain_147 : decode cX8_plain 147 = .ok (.isub, 1) := dk_100 (dk_at dksX8_plain_6 7 rfl rfl)
theorem dX8_plain_148 : decode cX8_plain 148 = .ok (.invokevirtual 76, 3) := dk_182 0 76 (dk_at dksX8_plain_6 8 rfl rfl)
theorem dX8_plain_151 : decode cX8_plain 151 = .ok (.istore 4, 2) := dk_54 4 (dk_at dksX8_plain_6 11 rfl rfl)
theorem dX8_plain_153 : decode cX8_plain 153 = .ok (.iload_n 2, 1) := dk_28 (dk_at dksX8_plain_6 13 rfl rfl)
theorem dX8_plain_154 : decode cX8_plain 154 = .ok (.iconst 3, 1) := dk_6 (dk_at dksX8_plain_6 14 rfl rfl)
theorem dX8_plain_155 : decode cX8_plain 155 = .ok (.if_icmp .eq 17, 3) := dk_159 0 17 (dk_at dksX8_plain_6 15 rfl rfl)
theorem dX8_plain_158 : decode cX8_plain 158 = .ok (.new 250, 3) := dk_187 0 250 (dk_at dksX8_plain_6 18 rfl rfl)
theorem dX8_plain_161 : decode cX8_plain 161 = .ok (.dup, 1) := dk_89 (dk_at dksX8_plain_6 21 rfl rfl)
theorem dX8_plain_162 : decode cX8_plain 162 = .ok (.iload_n 2, 1) := dk_28 (dk_at dksX8_plain_6 22 rfl rfl)
theorem dX8_plain_163 : decode cX8_plain 163 = .ok (.iload_n 3, 1) := dk_29 (dk_at dksX8_plain_6 23 rfl rfl)
theorem dX8_plain_164 : decode cX8_plain 164 = .ok (.iload 4, 2) := dk_21 4 (dk_at dksX8_plain_7 0 rfl rfl)
theorem dX8_plain_166 : decode cX8_plain 166 = .ok (.iconst 0, 1) := dk_3 (dk_at dksX8_plain_7 2 rfl rfl)
theorem dX8_plain_167 : decode cX8_plain 167 = .ok (.iconst 0, 1) := dk_3 (dk_at dksX8_plain_7 3 rfl rfl)
theorem dX8_plain_168 : decode cX8_plain 168 = .ok (.invokespecial 252, 3) := dk_183 0 252 (dk_at dksX8_plain_7 4 rfl rfl)
theorem dX8_plain_171 : decode cX8_plain 171 = .ok (.areturn, 1) := dk_176 (dk_at dksX8_plain_7 7 rfl rfl)
theorem dX8_plain_172 : decode cX8_plain 172 = .ok (.aload_n 0, 1) := dk_42 (dk_at dksX8_plain_7 8 rfl rfl)
theorem dX8_plain_173 : decode cX8_plain 173 = .ok (.aload_n 1, 1) := dk_43 (dk_at dksX8_plain_7 9 rfl rfl)
theorem dX8_plain_174 : decode cX8_plain 174 = .ok (.invokevirtual 255, 3) := dk_182 0 255 (dk_at dksX8_plain_7 10 rfl rfl)
theorem dX8_plain_177 : decode cX8_plain 177 = .ok (.istore 5, 2) := dk_54 5 (dk_at dksX8_plain_7 13 rfl rfl)
theorem dX8_plain_179 : decode cX8_plain 179 = .ok (.new 250, 3) := dk_187 0 250 (dk_at dksX8_plain_7 15 rfl rfl)
theorem dX8_plain_182 : decode cX8_plain 182 = .ok (.dup, 1) := dk_89 (dk_at dksX8_plain_7 18 rfl rfl)
theorem dX8_plain_183 : decode cX8_plain 183 = .ok (.iload_n 2, 1) := dk_28 (dk_at dksX8_plain_7 19 rfl rfl)
theorem dX8_plain_184 : decode cX8_plain 184 = .ok (.iload_n 3, 1) := dk_29 (dk_at dksX8_plain_7 20 rfl rfl)
theorem dX8_plain_185 : decode cX8_plain 185 = .ok (.iload 4, 2) := dk_21 4 (dk_at dksX8_plain_7 21 rfl rfl)
theorem dX8_plain_187 : decode cX8_plain 187 = .ok (.iload 5, 2) := dk_21 5 (dk_at dksX8_plain_8 0 rfl rfl)
theorem dX8_plain_189 : decode cX8_plain 189 = .ok (.aload_n 0, 1) := dk_42 (dk_at dksX8_plain_8 2 rfl rfl)
theorem dX8_plain_190 : decode cX8_plain 190 = .ok (.iconst 0, 1) := dk_3 (dk_at dksX8_plain_8 3 rfl rfl)
theorem dX8_plain_191 : decode cX8_plain 191 = .ok (.aload_n 1, 1) := dk_43 (dk_at dksX8_plain_8 4 rfl rfl)
theorem dX8_plain_192 : decode cX8_plain 192 = .ok (.getfield 184, 3) := dk_180 0 184 (dk_at dksX8_plain_8 5 rfl rfl)
theorem dX8_plain_195 : decode cX8_plain 195 = .ok (.iload 5, 2) := dk_21 5 (dk_at dksX8_plain_8 8 rfl rfl)
theorem dX8_plain_197 : decode cX8_plain 197 = .ok (.aaload, 1) := dk_50 (dk_at dksX8_plain_8 10 rfl rfl)
theorem dX8_plain_198 : decode cX8_plain 198 = .ok (.getfield 257, 3) := dk_180 1 1 (dk_at dksX8_plain_8 11 rfl rfl)
theorem dX8_plain_201 : decode cX8_plain 201 = .ok (.arraylength, 1) := dk_190 (dk_at dksX8_plain_8 14 rfl rfl)
theorem dX8_plain_202 : decode cX8_plain 202 = .ok (.iconst 1, 1) := dk_4 (dk_at dksX8_plain_8 15 rfl rfl)
theorem dX8_plain_203 : decode cX8_plain 203 = .ok (.isub, 1) := dk_100 (dk_at dksX8_plain_8 16 rfl rfl)
theorem dX8_plain_204 : decode cX8_plain 204 = .ok (.invokevirtual 76, 3) := dk_182 0 76 (dk_at dksX8_plain_8 17 rfl rfl)
theorem dX8_plain_207 : decode cX8_plain 207 = .ok (.invokespecial 252, 3) := dk_183 0 252 (dk_at dksX8_plain_8 20 rfl rfl)
theorem dX8_plain_210 : decode cX8_plain 210 = .ok (.areturn, 1) := dk_176 (dk_at dksX8_plain_8 23 rfl rfl)
def dkwJ7_charAt_0 : List UInt8 := [27, 42, 190, 184, 0, 9, 42, 27, 51, 17, 0, 255, 126, 146, 172]
abbrev dktJ7_charAt_0 : List UInt8 := dkwJ7_charAt_0 ++ []
theorem dksJ7_charAt_0 : cJ7_charAt.data.toList.drop 0 = dktJ7_charAt_0 := by decide +kernel
theorem dJ7_charAt_0 : decode cJ7_charAt 0 = .ok (.iload_n 1, 1) := dk_27 (dk_at dksJ7_charAt_0 0 rfl rfl)
theorem dJ7_charAt_1 : decode cJ7_charAt 1 = .ok (.aload_n 0, 1) := dk_42 (dk_at dksJ7_charAt_0 1 rfl rfl)
theorem dJ7_charAt_2 : decode cJ7_charAt 2 = .ok (.arraylength, 1) := dk_190 (dk_at dksJ7_charAt_0 2 rfl rfl)
theorem dJ7_charAt_3 : decode cJ7_charAt 3 = .ok (.invokestatic 9, 3) := dk_184 0 9 (dk_at dksJ7_charAt_0 3 rfl rfl)
theorem dJ7_charAt_6 : decode cJ7_charAt 6 = .ok (.aload_n 0, 1) := dk_42 (dk_at dksJ7_charAt_0 6 rfl rfl)
theorem dJ7_charAt_7 : decode cJ7_charAt 7 = .ok (.iload_n 1, 1) := dk_27 (dk_at dksJ7_charAt_0 7 rfl rfl)
theorem dJ7_charAt_8 : decode cJ7_charAt 8 = .ok (.baload, 1) := dk_51 (dk_at dksJ7_charAt_0 8 rfl rfl)
theorem dJ7_charAt_9 : decode cJ7_charAt 9 = .ok (.sipush 255, 3) := dk_17 0 255 (dk_at dksJ7_charAt_0 9 rfl rfl)
theorem dJ7_charAt_12 : decode cJ7_charAt 12 = .ok (.iand, 1) := dk_126 (dk_at dksJ7_charAt_0 12 rfl rfl)
theorem dJ7_charAt_13 : decode cJ7_charAt 13 = .ok (.i2c, 1) := dk_146 (dk_at dksJ7_charAt_0 13 rfl rfl)
theorem dJ7_charAt_14 : decode cJ7_charAt 14 = .ok (.ireturn, 1) := dk_172 (dk_at dksJ7_charAt_0 14 rfl rfl)
def dkwJ8_checkIndex_0 : List UInt8 := [26, 155, 0, 8, 26, 27, 161, 0, 10, 44, 26, 27, 184, 0, 95, 191, 26, 172]
abbrev dktJ8_checkIndex_0 : List UInt8 := dkwJ8_checkIndex_0 ++ []
theorem dksJ8_checkIndex_0 : cJ8_checkIndex.data.toList.drop 0 = dktJ8_checkIndex_0 := by decide +kernel
theorem dJ8_checkIndex_0 : decode cJ8_checkIndex 0 = .ok (.iload_n 0, 1) := dk_26 (dk_at dksJ8_checkIndex_0 0 rfl rfl)
theorem dJ8_checkIndex_1 : decode cJ8_checkIndex 1 = .ok (.ifCond .lt 8, 3) := dk_155 0 8 (dk_at dksJ8_checkIndex_0 1 rfl rfl)
theorem dJ8_checkIndex_4 : decode cJ8_checkIndex 4 = .ok (.iload_n 0, 1) := dk_26 (dk_at dksJ8_checkIndex_0 4 rfl rfl)
theorem dJ8_checkIndex_5 : decode cJ8_checkIndex 5 = .ok (.iload_n 1, 1) := dk_27 (dk_at dksJ8_checkIndex_0 5 rfl rfl)
theorem dJ8_checkIndex_6 : decode cJ8_checkIndex 6 = .ok (.if_icmp .lt 10, 3) := dk_161 0 10 (dk_at dksJ8_checkIndex_0 6 rfl rfl)
theorem dJ8_checkIndex_9 : decode cJ8_checkIndex 9 = .ok (.aload_n 2, 1) := dk_44 (dk_at dksJ8_checkIndex_0 9 rfl rfl)
theorem dJ8_checkIndex_10 : decode cJ8_checkIndex 10 = .ok (.iload_n 0, 1) := dk_26 (dk_at dksJ8_checkIndex_0 10 rfl rfl)
theorem dJ8_checkIndex_11 : decode cJ8_checkIndex 11 = .ok (.iload_n 1, 1) := dk_27 (dk_at dksJ8_checkIndex_0 11 rfl rfl)
theorem dJ8_checkIndex_12 : decode cJ8_checkIndex 12 = .ok (.invokestatic 95, 3) := dk_184 0 95 (dk_at dksJ8_checkIndex_0 12 rfl rfl)
theorem dJ8_checkIndex_15 : decode cJ8_checkIndex 15 = .ok (.athrow, 1) := dk_191 (dk_at dksJ8_checkIndex_0 15 rfl rfl)
theorem dJ8_checkIndex_16 : decode cJ8_checkIndex 16 = .ok (.iload_n 0, 1) := dk_26 (dk_at dksJ8_checkIndex_0 16 rfl rfl)
theorem dJ8_checkIndex_17 : decode cJ8_checkIndex 17 = .ok (.ireturn, 1) := dk_172 (dk_at dksJ8_checkIndex_0 17 rfl rfl)
def dkwJ9_charAt_0 : List UInt8 := [27, 42, 184, 0, 67, 42, 27, 184, 0, 71, 172]
abbrev dktJ9_charAt_0 : List UInt8 := dkwJ9_charAt_0 ++ []
theorem dksJ9_charAt_0 : cJ9_charAt.data.toList.drop 0 = dktJ9_charAt_0 := by decide +kernel
theorem dJ9_charAt_0 : decode cJ9_charAt 0 = .ok (.iload_n 1, 1) := dk_27 (dk_at dksJ9_charAt_0 0 rfl rfl)
theorem dJ9_charAt_1 : decode cJ9_charAt 1 = .ok (.aload_n 0, 1) := dk_42 (dk_at dksJ9_charAt_0 1 rfl rfl)
theorem dJ9_charAt_2 : decode cJ9_charAt 2 = .ok (.invokestatic 67, 3) := dk_184 0 67 (dk_at dksJ9_charAt_0 2 rfl rfl)
theorem dJ9_charAt_5 : decode cJ9_charAt 5 = .ok (.aload_n 0, 1) := dk_42 (dk_at dksJ9_charAt_0 5 rfl rfl)
theorem dJ9_charAt_6 : decode cJ9_charAt 6 = .ok (.iload_n 1, 1) := dk_27 (dk_at dksJ9_charAt_0 6 rfl rfl)
theorem dJ9_charAt_7 : decode cJ9_charAt 7 = .ok (.invokestatic 71, 3) := dk_184 0 71 (dk_at dksJ9_charAt_0 7 rfl rfl)
theorem dJ9_charAt_10 : decode cJ9_charAt 10 = .ok (.ireturn, 1) := dk_172 (dk_at dksJ9_charAt_0 10 rfl rfl)
def dkwJ9_checkIndex_0 : List UInt8 := [26, 43, 184, 0, 48, 184, 1, 158, 177]
abbrev dktJ9_checkIndex_0 : List UInt8 := dkwJ9_checkIndex_0 ++ []
theorem dksJ9_checkIndex_0 : cJ9_checkIndex.data.toList.drop 0 = dktJ9_checkIndex_0 := by decide +kernel
theorem dJ9_checkIndex_0 : decode cJ9_checkIndex 0 = .ok (.iload_n 0, 1) := dk_26 (dk_at dksJ9_checkIndex_0 0 rfl rfl)
theorem dJ9_checkIndex_1 : decode cJ9_checkIndex 1 = .ok (.aload_n 1, 1) := dk_43 (dk_at dksJ9_checkIndex_0 1 rfl rfl)
theorem dJ9_checkIndex_2 : decode cJ9_checkIndex 2 = .ok (.invokestatic 48, 3) := dk_184 0 48 (dk_at dksJ9_checkIndex_0 2 rfl rfl)
theorem dJ9_checkIndex_5 : decode cJ9_checkIndex 5 = .ok (.invokestatic 414, 3) := dk_184 1 158 (dk_at dksJ9_checkIndex_0 5 rfl rfl)
theorem dJ9_checkIndex_8 : decode cJ9_checkIndex 8 = .ok (.return_, 1) := dk_177 (dk_at dksJ9_checkIndex_0 8 rfl rfl)
def dkwJ9_length_0 : List UInt8 := [42, 190, 4, 122, 172]
abbrev dktJ9_length_0 : List UInt8 := dkwJ9_length_0 ++ []
theorem dksJ9_length_0 : cJ9_length.data.toList.drop 0 = dktJ9_length_0 := by decide +kernel
theorem dJ9_length_0 : decode cJ9_length 0 = .ok (.aload_n 0, 1) := dk_42 (dk_at dksJ9_length_0 0 rfl rfl)
theorem dJ9_length_1 : decode cJ9_length 1 = .ok (.arraylength, 1) := dk_190 (dk_at dksJ9_length_0 1 rfl rfl)
theorem dJ9_length_2 : decode cJ9_length 2 = .ok (.iconst 1, 1) := dk_4 (dk_at dksJ9_length_0 2 rfl rfl)
theorem dJ9_length_3 : decode cJ9_length 3 = .ok (.ishr, 1) := dk_122 (dk_at dksJ9_length_0 3 rfl rfl)
theorem dJ9_length_4 : decode cJ9_length 4 = .ok (.ireturn, 1) := dk_172 (dk_at dksJ9_length_0 4 rfl rfl)
def dkwJ9_getChar_2 : List UInt8 := [51, 17, 0, 255, 126, 178, 0, 63, 120, 128, 146, 172]
abbrev dktJ9_getChar_2 : List UInt8 := dkwJ9_getChar_2 ++ []
def dkwJ9_getChar_1 : List UInt8 := [183, 0, 56, 191, 27, 4, 120, 60, 42, 27, 132, 1, 1, 51, 17, 0, 255, 126, 178, 0, 59, 120, 42, 27]
abbrev dktJ9_getChar_1 : List UInt8 := dkwJ9_getChar_1 ++ dktJ9_getChar_2
def dkwJ9_getChar_0 : List UInt8 := [178, 0, 44, 154, 0, 25, 27, 155, 0, 11, 27, 42, 184, 0, 48, 161, 0, 13, 187, 0, 52, 89, 18, 54]
abbrev dktJ9_getChar_0 : List UInt8 := dkwJ9_getChar_0 ++ dktJ9_getChar_1
theorem dksJ9_getChar_0 : cJ9_getChar.data.toList.drop 0 = dktJ9_getChar_0 := by decide +kernel
theorem dksJ9_getChar_1 : cJ9_getChar.data.toList.drop 24 = dktJ9_getChar_1 := dk_seg dksJ9_getChar_0 24 rfl rfl
theorem dksJ9_getChar_2 : cJ9_getChar.data.toList.drop 48 = dktJ9_getChar_2 := dk_seg dksJ9_getChar_1 24 rfl rfl
theorem dJ9_getChar_0 : decode cJ9_getChar 0 = .ok (.getstatic 44, 3) := dk_178 0 44 (dk_at dksJ9_getChar_0 0 rfl rfl)
theorem dJ9_getChar_3 : decode cJ9_getChar 3 = .ok (.ifCond .ne 25, 3) := dk_154 0 25 (dk_at dksJ9_getChar_0 3 rfl rfl)
theorem dJ9_getChar_6 : decode cJ9_getChar 6 = .ok (.iload_n 1, 1) := dk_27 (dk_at dksJ9_getChar_0 6 rfl rfl)
theorem dJ9_getChar_7 : decode cJ9_getChar 7 = .ok (.ifCond .lt 11, 3) := dk_155 0 11 (dk_at dksJ9_getChar_0 7 rfl rfl)
theorem dJ9_getChar_10 : decode cJ9_getChar 10 = .ok (.iload_n 1, 1) := dk_27 (dk_at dksJ9_getChar_0 10 rfl rfl)
theorem dJ9_getChar_11 : decode cJ9_getChar 11 = .ok (.aload_n 0, 1) := dk_42 (dk_at dksJ9_getChar_0 11 rfl rfl)
theorem dJ9_getChar_12 : decode cJ9_getChar 12 = .ok (.invokestatic 48, 3) := dk_184 0 48 (dk_at dksJ9_getChar_0 12 rfl rfl)
theorem dJ9_getChar_15 : decode cJ9_getChar 15 = .ok (.if_icmp .lt 13, 3) := dk_161 0 13 (dk_at dksJ9_getChar_0 15 rfl rfl)
theorem dJ9_getChar_18 : decode cJ9_getChar 18 = .ok (.new 52, 3) := dk_187 0 52 (dk_at dksJ9_getChar_0 18 rfl rfl)
theorem dJ9_getChar_21 : decode cJ9_getChar 21 = .ok (.dup, 1) := dk_89 (dk_at dksJ9_getChar_0 21 rfl rfl)
theorem dJ9_getChar_22 : decode cJ9_getChar 22 = .ok (.ldc 54, 2) := dk_18 54 (dk_at dksJ9_getChar_0 22 rfl rfl)
theorem dJ9_getChar_24 : decode cJ9_getChar 24 = .ok (.invokespecial 56, 3) := dk_183 0 56 (dk_at dksJ9_getChar_1 0 rfl rfl)
theorem dJ9_getChar_27 : decode cJ9_getChar 27 = .ok (.athrow, 1) := dk_191 (dk_at dksJ9_getChar_1 3 rfl rfl)
theorem dJ9_getChar_28 : decode cJ9_getChar 28 = .ok (.iload_n 1, 1) := dk_27 (dk_at dksJ9_getChar_1 4 rfl rfl)
theorem dJ9_getChar_29 : decode cJ9_getChar 29 = .ok (.iconst 1, 1) := dk_4 (dk_at dksJ9_getChar_1 5 rfl rfl)
theorem dJ9_getChar_30 : decode cJ9_getChar 30 = .ok (.ishl, 1) := dk_120 (dk_at dksJ9_getChar_1 6 rfl rfl)
theorem dJ9_getChar_31 : decode cJ9_getChar 31 = .ok (.istore_n 1, 1) := dk_60 (dk_at dksJ9_getChar_1 7 rfl rfl)
theorem dJ9_getChar_32 : decode cJ9_getChar 32 = .ok (.aload_n 0, 1) := dk_42 (dk_at dksJ9_getChar_1 8 rfl rfl)
theorem dJ9_getChar_33 : decode cJ9_getChar 33 = .ok (.iload_n 1, 1) := dk_27 (dk_at dksJ9_getChar_1 9 rfl rfl)
theorem dJ9_getChar_34 : decode cJ9_getChar 34 = .ok (.iinc 1 1, 3) := dk_132 1 1 (dk_at dksJ9_getChar_1 10 rfl rfl)
theorem dJ9_getChar_37 : decode cJ9_getChar 37 = .ok (.baload, 1) := dk_51 (dk_at dksJ9_getChar_1 13 rfl rfl)
theorem dJ9_getChar_38 : decode cJ9_getChar 38 = .ok (.sipush 255, 3) := dk_17 0 255 (dk_at dksJ9_getChar_1 14 rfl rfl)
theorem dJ9_getChar_41 : decode cJ9_getChar 41 = .ok (.iand, 1) := dk_126 (dk_at dksJ9_getChar_1 17 rfl rfl)
theorem dJ9_getChar_42 : decode cJ9_getChar 42 = .ok (.getstatic 59, 3) := dk_178 0 59 (dk_at dksJ9_getChar_1 18 rfl rfl)
theorem dJ9_getChar_45 : decode cJ9_getChar 45 = .ok (.ishl, 1) := dk_120 (dk_at dksJ9_getChar_1 21 rfl rfl)
theorem dJ9_getChar_46 : decode cJ9_getChar 46 = .ok (.aload_n 0, 1) := dk_42 (dk_at dksJ9_getChar_1 22 rfl rfl)
theorem dJ9_getChar_47 : decode cJ9_getChar 47 = .ok (.iload_n 1, 1) := dk_27 (dk_at dksJ9_getChar_1 23 rfl rfl)
theorem dJ9_getChar_48 : decode cJ9_getChar 48 = .ok (.baload, 1) := dk_51 (dk_at dksJ9_getChar_2 0 rfl rfl)
theorem dJ9_getChar_49 : decode cJ9_getChar 49 = .ok (.sipush 255, 3) := dk_17 0 255 (dk_at dksJ9_getChar_2 1 rfl rfl)
theorem dJ9_getChar_52 : decode cJ9_getChar 52 = .ok (.iand, 1) := dk_126 (dk_at dksJ9_getChar_2 4 rfl rfl)
theorem dJ9_getChar_53 : decode cJ9_getChar 53 = .ok (.getstatic 63, 3) := dk_178 0 63 (dk_at dksJ9_getChar_2 5 rfl rfl)
theorem dJ9_getChar_56 : decode cJ9_getChar 56 = .ok (.ishl, 1) := dk_120 (dk_at dksJ9_getChar_2 8 rfl rfl)
theorem dJ9_getChar_57 : decode cJ9_getChar 57 = .ok (.ior, 1) := dk_128 (dk_at dksJ9_getChar_2 9 rfl rfl)
theorem dJ9_getChar_58 : decode cJ9_getChar 58 = .ok (.i2c, 1) := dk_146 (dk_at dksJ9_getChar_2 10 rfl rfl)
theorem dJ9_getChar_59 : decode cJ9_getChar 59 = .ok (.ireturn, 1) := dk_172 (dk_at dksJ9_getChar_2 11 rfl rfl)
def dkwX9_init_4 : List UInt8 := [21, 5, 21, 4, 21, 6, 100, 79, 132, 5, 1, 132, 6, 1, 167, 255, 195, 177]
abbrev dktX9_init_4 : List UInt8 := dkwX9_init_4 ++ []
def dkwX9_init_3 : List UInt8 := [21, 5, 21, 4, 21, 6, 96, 79, 132, 5, 1, 21, 4, 21, 6, 100, 155, 0, 18, 42, 180, 0, 24]
abbrev dktX9_init_3 : List UInt8 := dkwX9_init_3 ++ dktX9_init_4
def dkwX9_init_2 : List UInt8 := [21, 5, 29, 162, 0, 61, 21, 6, 158, 0, 27, 21, 4, 21, 6, 96, 29, 162, 0, 18, 42, 180, 0, 24]
abbrev dktX9_init_2 : List UInt8 := dkwX9_init_2 ++ dktX9_init_3
def dkwX9_init_1 : List UInt8 := [181, 0, 21, 42, 29, 188, 10, 181, 0, 24, 29, 4, 100, 5, 108, 54, 4, 3, 54, 5, 3, 54, 6]
abbrev dktX9_init_1 : List UInt8 := dkwX9_init_1 ++ dktX9_init_2
def dkwX9_init_0 : List UInt8 := [42, 183, 0, 3, 42, 2, 181, 0, 9, 42, 31, 181, 0, 15, 42, 29, 16, 16, 197, 0, 19, 2]
abbrev dktX9_init_0 : List UInt8 := dkwX9_init_0 ++ dktX9_init_1
theorem dksX9_init_0 : cX9_init.data.toList.drop 0 = dktX9_init_0 := by decide +kernel
theorem dksX9_init_1 : cX9_init.data.toList.drop 22 = dktX9_init_1 := dk_seg dksX9_init_0 22 rfl rfl
theorem dksX9_init_2 : cX9_init.data.toList.drop 45 = dktX9_init_2 := dk_seg dksX9_init_1 23 rfl rfl
theorem dksX9_init_3 : cX9_init.data.toList.drop 69 = dktX9_init_3 := dk_seg dksX9_init_2 24 rfl rfl
theorem dksX9_init_4 : cX9_init.data.toList.drop 92 = dktX9_init_4 := dk_seg dksX9_init_3 23 rfl rfl
theorem dX9_init_0 : decode cX9_init 0 = .ok (.aload_n 0, 1) := dk_42 (dk_at dksX9_init_0 0 rfl rfl)
theorem dX9_init_1 : decode cX9_init 1 = .ok (.invokespecial 3, 3) := dk_183 0 3 (dk_at dksX9_init_0 1 rfl rfl)
theorem dX9_init_4 : decode cX9_init 4 = .ok (.aload_n 0, 1) := dk_42 (dk_at dksX9_init_0 4 rfl rfl)
theorem dX9_init_5 : decode cX9_init 5 = .ok (.iconst (-1), 1) := dk_2 (dk_at dksX9_init_0 5 rfl rfl)
theorem dX9_init_6 : decode cX9_init 6 = .ok (.putfield 9, 3) := dk_181 0 9 (dk_at dksX9_init_0 6 rfl rfl)
theorem dX9_init_9 : decode cX9_init 9 = .ok (.aload_n 0, 1) := dk_42 (dk_at dksX9_init_0 9 rfl rfl)
theorem dX9_init_10 : decode cX9_init 10 = .ok (.lload_n 1, 1) := dk_31 (dk_at dksX9_init_0 10 rfl rfl)
theorem dX9_init_11 : decode cX9_init 11 = .ok (.putfield 15, 3) := dk_181 0 15 (dk_at dksX9_init_0 11 rfl rfl)
theorem dX9_init_14 : decode cX9_init 14 = .ok (.aload_n 0, 1) := dk_42 (dk_at dksX9_init_0 14 rfl rfl)
theorem dX9_init_15 : decode cX9_init 15 = .ok (.iload_n 3, 1) := dk_29 (dk_at dksX9_init_0 15 rfl rfl)
theorem dX9_init_16 : decode cX9_init 16 = .ok (.bipush 16, 2) := dk_16 16 (dk_at dksX9_init_0 16 rfl rfl)
theorem dX9_init_18 : decode cX9_init 18 = .ok (.multianewarray 19 2, 4) := by decide +kernel
theorem dX9_init_22 : decode cX9_init 22 = .ok (.putfield 21, 3) := dk_181 0 21 (dk_at dksX9_init_1 0 rfl rfl)
theorem dX9_init_25 : decode cX9_init 25 = .ok (.aload_n 0, 1) := dk_42 (dk_at dksX9_init_1 3 rfl rfl)
theorem dX9_init_26 : decode cX9_init 26 = .ok (.iload_n 3, 1) := dk_29 (dk_at dksX9_init_1 4 rfl rfl)
theorem dX9_init_27 : decode cX9_init 27 = .ok (.newarray .int, 2) := dk_188_10 (dk_at dksX9_init_1 5 rfl rfl)
theorem dX9_init_29 : decode cX9_init 29 = .ok (.putfield 24, 3) := dk_181 0 24 (dk_at dksX9_init_1 7 rfl rfl)
theorem dX9_init_32 : decode cX9_init 32 = .ok (.iload_n 3, 1) := dk_29 (dk_at dksX9_init_1 10 rfl rfl)
theorem dX9_init_33 : decode cX9_init 33 = .ok (.iconst 1, 1) := dk_4 (dk_at dksX9_init_1 11 rfl rfl)
theorem dX9_init_34 : decode cX9_init 34 = .ok (.isub, 1) := dk_100 (dk_at dksX9_init_1 12 rfl rfl)
theorem dX9_init_35 : decode cX9_init 35 = .ok (.iconst 2, 1) := dk_5 (dk_at dksX9_init_1 13 rfl rfl)
theorem dX9_init_36 : decode cX9_init 36 = .ok (.idiv, 1) := dk_108 (dk_at dksX9_init_1 14 rfl rfl)
theorem dX9_init_37 : decode cX9_init 37 = .ok (.istore 4, 2) := dk_54 4 (dk_at dksX9_init_1 15 rfl rfl)
theorem dX9_init_39 : decode cX9_init 39 = .ok (.iconst 0, 1) := dk_3 (dk_at dksX9_init_1 17 rfl rfl)
theorem dX9_init_40 : decode cX9_init 40 = .ok (.istore 5, 2) := dk_54 5 (dk_at dksX9_init_1 18 rfl rfl)
theorem dX9_init_42 : decode cX9_init 42 = .ok (.iconst 0, 1) := dk_3 (dk_at dksX9_init_1 20 rfl rfl)
theorem dX9_init_43 : decode cX9_init 43 = .ok (.istore 6, 2) := dk_54 6 (dk_at dksX9_init_1 21 rfl rfl)
theorem dX9_init_45 : decode cX9_init 45 = .ok (.iload 5, 2) := dk_21 5 (dk_at dksX9_init_2 0 rfl rfl)
theorem dX9_init_47 : decode cX9_init 47 = .ok (.iload_n 3, 1) := dk_29 (dk_at dksX9_init_2 2 rfl rfl)
theorem dX9_init_48 : decode cX9_init 48 = .ok (.if_icmp .ge 61, 3) := dk_162 0 61 (dk_at dksX9_init_2 3 rfl rfl)
theorem dX9_init_51 : decode cX9_init 51 = .ok (.iload 6, 2) := dk_21 6 (dk_at dksX9_init_2 6 rfl rfl)
theorem dX9_init_53 : decode cX9_init 53 = .ok (.ifCond .le 27, 3) := dk_158 0 27 (dk_at dksX9_init_2 8 rfl rfl)
theorem dX9_init_56 : decode cX9_init 56 = .ok (.iload 4, 2) := dk_21 4 (dk_at dksX9_init_2 11 rfl rfl)
theorem dX9_init_58 : decode cX9_init 58 = .ok (.iload 6, 2) := dk_21 6 (dk_at dksX9_init_2 13 rfl rfl)
theorem dX9_init_60 : decode cX9_init 60 = .ok (.iadd, 1) := dk_96 (dk_at dksX9_init_2 15 rfl rfl)
theorem dX9_init_61 : decode cX9_init 61 = .ok (.iload_n 3, 1) := dk_29 (dk_at dksX9_init_2 16 rfl rfl)
theorem dX9_init_62 : decode cX9_init 62 = .ok (.if_icmp .ge 18, 3) := dk_162 0 18 (dk_at dksX9_init_2 17 rfl rfl)
theorem dX9_init_65 : decode cX9_init 65 = .ok (.aload_n 0, 1) := dk_42 (dk_at dksX9_init_2 20 rfl rfl)
theorem dX9_init_66 : decode cX9_init 66 = .ok (.getfield 24, 3) := dk_180 0 24 (dk_at dksX9_init_2 21 rfl rfl)
theorem dX9_init_69 : decode cX9_init 69 = .ok (.iload 5, 2) := dk_21 5 (dk_at dksX9_init_3 0 rfl rfl)
theorem dX9_init_71 : decode cX9_init 71 = .ok (.iload 4, 2) := dk_21 4 (dk_at dksX9_init_3 2 rfl rfl)
theorem dX9_init_73 : decode cX9_init 73 = .ok (.iload 6, 2) := dk_21 6 (dk_at dksX9_init_3 4 rfl rfl)
theorem dX9_init_75 : decode cX9_init 75 = .ok (.iadd, 1) := dk_96 (dk_at dksX9_init_3 6 rfl rfl)
theorem dX9_init_76 : decode cX9_init 76 = .ok (.iastore, 1) := dk_79 (dk_at dksX9_init_3 7 rfl rfl)
theorem dX9_init_77 : decode cX9_init 77 = .ok (.iinc 5 1, 3) := dk_132 5 1 (dk_at dksX9_init_3 8 rfl rfl)
theorem dX9_init_80 : decode cX9_init 80 = .ok (.iload 4, 2) := dk_21 4 (dk_at dksX9_init_3 11 rfl rfl)
theorem dX9_init_82 : decode cX9_init 82 = .ok (.iload 6, 2) := dk_21 6 (dk_at dksX9_init_3 13 rfl rfl)
theorem dX9_init_84 : decode cX9_init 84 = .ok (.isub, 1) := dk_100 (dk_at dksX9_init_3 15 rfl rfl)
theorem dX9_init_85 : decode cX9_init 85 = .ok (.ifCond .lt 18, 3) := dk_155 0 18 (dk_at dksX9_init_3 16 rfl rfl)
theorem dX9_init_88 : decode cX9_init 88 = .ok (.aload_n 0, 1) := dk_42 (dk_at dksX9_init_3 19 rfl rfl)
theorem dX9_init_89 : decode cX9_init 89 = .ok (.getfield 24, 3) := dk_180 0 24 (dk_at dksX9_init_3 20 rfl rfl)
theorem dX9_init_92 : decode cX9_init 92 = .ok (.iload 5, 2) := dk_21 5 (dk_at dksX9_init_4 0 rfl rfl)
theorem dX9_init_94 : decode cX9_init 94 = .ok (.iload 4, 2) := dk_21 4 (dk_at dksX9_init_4 2 rfl rfl)
theorem dX9_init_96 : decode cX9_init 96 = .ok (.iload 6, 2) := dk_21 6 (dk_at dksX9_init_4 4 rfl rfl)
theorem dX9_init_98 : decode cX9_init 98 = .ok (.isub, 1) := dk_100 (dk_at dksX9_init_4 6 rfl rfl)
theorem dX9_init_99 : decode cX9_init 99 = .ok (.iastore, 1) := dk_79 (dk_at dksX9_init_4 7 rfl rfl)
theorem dX9_init_100 : decode cX9_init 100 = .ok (.iinc 5 1, 3) := dk_132 5 1 (dk_at dksX9_init_4 8 rfl rfl)
theorem dX9_init_103 : decode cX9_init 103 = .ok (.iinc 6 1, 3) := dk_132 6 1 (dk_at dksX9_init_4 11 rfl rfl)
theorem dX9_init_106 : decode cX9_init 106 = .ok (.goto (-61), 3) := dk_167 255 195 (dk_at dksX9_init_4 14 rfl rfl)
theorem dX9_init_109 : decode cX9_init 109 = .ok (.return_, 1) := dk_177 (dk_at dksX9_init_4 17 rfl rfl)
def dkwX9_fields_0 : List UInt8 := [16, 16, 42, 180, 0, 21, 190, 104, 172]
abbrev dktX9_fields_0 : List UInt8 := dkwX9_fields_0 ++ []
theorem dksX9_fields_0 : cX9_fields.data.toList.drop 0 = dktX9_fields_0 := by decide +kernel
theorem dX9_fields_0 : decode cX9_fields 0 = .ok (.bipush 16, 2) := dk_16 16 (dk_at dksX9_fields_0 0 rfl rfl)
theorem dX9_fields_2 : decode cX9_fields 2 = .ok (.aload_n 0, 1) := dk_42 (dk_at dksX9_fields_0 2 rfl rfl)
theorem dX9_fields_3 : decode cX9_fields 3 = .ok (.getfield 21, 3) := dk_180 0 21 (dk_at dksX9_fields_0 3 rfl rfl)
theorem dX9_fields_6 : decode cX9_fields 6 = .ok (.arraylength, 1) := dk_190 (dk_at dksX9_fields_0 6 rfl rfl)
theorem dX9_fields_7 : decode cX9_fields 7 = .ok (.imul, 1) := dk_104 (dk_at dksX9_fields_0 7 rfl rfl)
theorem dX9_fields_8 : decode cX9_fields 8 = .ok (.ireturn, 1) := dk_172 (dk_at dksX9_fields_0 8 rfl rfl)
def dkwX9_stores_2 : List UInt8 := [182, 0, 61, 21, 4, 96, 182, 0, 75, 28, 21, 4, 100, 61, 132, 3, 255, 167, 255, 200, 28, 172]
abbrev dktX9_stores_2 : List UInt8 := dkwX9_stores_2 ++ []
def dkwX9_stores_1 : List UInt8 := [164, 0, 6, 167, 0, 35, 28, 16, 100, 42, 29, 182, 0, 61, 100, 184, 0, 69, 54, 4, 42, 29, 42, 29]
abbrev dktX9_stores_1 : List UInt8 := dkwX9_stores_1 ++ dktX9_stores_2
def dkwX9_stores_0 : List UInt8 := [27, 61, 42, 182, 0, 57, 4, 100, 62, 29, 155, 0, 58, 28, 158, 0, 54, 42, 29, 182, 0, 61, 16, 100]
abbrev dktX9_stores_0 : List UInt8 := dkwX9_stores_0 ++ dktX9_stores_1
theorem dksX9_stores_0 : cX9_stores.data.toList.drop 0 = dktX9_stores_0 := by decide +kernel
theorem dksX9_stores_1 : cX9_stores.data.toList.drop 24 = dktX9_stores_1 := dk_seg dksX9_stores_0 24 rfl rfl
theorem dksX9_stores_2 : cX9_stores.data.toList.drop 48 = dktX9_stores_2 := dk_seg dksX9_stores_1 24 rfl rfl
theorem dX9_stores_0 : decode cX9_stores 0 = .ok (.iload_n 1, 1) := dk_27 (dk_at dksX9_stores_0 0 rfl rfl)
theorem dX9_stores_1 : decode cX9_stores 1 = .ok (.istore_n 2, 1) := dk_61 (dk_at dksX9_stores_0 1 rfl rfl)
theorem dX9_stores_2 : decode cX9_stores 2 = .ok (.aload_n 0, 1) := dk_42 (dk_at dksX9_stores_0 2 rfl rfl)
theorem dX9_stores_3 : decode cX9_stores 3 = .ok (.invokevirtual 57, 3) := dk_182 0 57 (dk_at dksX9_stores_0 3 rfl rfl)
theorem dX9_stores_6 : decode cX9_stores 6 = .ok (.iconst 1, 1) := dk_4 (dk_at dksX9_stores_0 6 rfl rfl)
theorem dX9_stores_7 : decode cX9_stores 7 = .ok (.isub, 1) := dk_100 (dk_at dksX9_stores_0 7 rfl rfl)
theorem dX9_stores_8 : decode cX9_stores 8 = .ok (.istore_n 3, 1) := dk_62 (dk_at dksX9_stores_0 8 rfl rfl)
theorem dX9_stores_9 : decode cX9_stores 9 = .ok (.iload_n 3, 1) := dk_29 (dk_at dksX9_stores_0 9 rfl rfl)
theorem dX9_stores_10 : decode cX9_stores 10 = .ok (.ifCond .lt 58, 3) := dk_155 0 58 (dk_at dksX9_stores_0 10 rfl rfl)
theorem dX9_stores_13 : decode cX9_stores 13 = .ok (.iload_n 2, 1) := dk_28 (dk_at dksX9_stores_0 13 rfl rfl)
theorem dX9_stores_14 : decode cX9_stores 14 = .ok (.ifCond .le 54, 3) := dk_158 0 54 (dk_at dksX9_stores_0 14 rfl rfl)
theorem dX9_stores_17 : decode cX9_stores 17 = .ok (.aload_n 0, 1) := dk_42 (dk_at dksX9_stores_0 17 rfl rfl)
theorem dX9_stores_18 : decode cX9_stores 18 = .ok (.iload_n 3, 1) := dk_29 (dk_at dksX9_stores_0 18 rfl rfl)
theorem dX9_stores_19 : decode cX9_stores 19 = .ok (.invokevirtual 61, 3) := dk_182 0 61 (dk_at dksX9_stores_0 19 rfl rfl)
theorem dX9_stores_22 : decode cX9_stores 22 = .ok (.bipush 100, 2) := dk_16 100 (dk_at dksX9_stores_0 22 rfl rfl)
theorem dX9_stores_24 : decode cX9_stores 24 = .ok (.if_icmp .le 6, 3) := dk_164 0 6 (dk_at dksX9_stores_1 0 rfl rfl)
theorem dX9_stores_27 : decode cX9_stores 27 = .ok (.goto 35, 3) := dk_167 0 35 (dk_at dksX9_stores_1 3 rfl rfl)
theorem dX9_stores_30 : decode cX9_stores 30 = .ok (.iload_n 2, 1) := dk_28 (dk_at dksX9_stores_1 6 rfl rfl)
theorem dX9_stores_31 : decode cX9_stores 31 = .ok (.bipush 100, 2) := dk_16 100 (dk_at dksX9_stores_1 7 rfl rfl)
theorem dX9_stores_33 : decode cX9_stores 33 = .ok (.aload_n 0, 1) := dk_42 (dk_at dksX9_stores_1 9 rfl rfl)
theorem dX9_stores_34 : decode cX9_stores 34 = .ok (.iload_n 3, 1) := dk_29 (dk_at dksX9_stores_1 10 rfl rfl)
theorem dX9_stores_35 : decode cX9_stores 35 = .ok (.invokevirtual 61, 3) := dk_182 0 61 (dk_at dksX9_stores_1 11 rfl rfl)
theorem dX9_stores_38 : decode cX9_stores 38 = .ok (.isub, 1) := dk_100 (dk_at dksX9_stores_1 14 rfl rfl)
theorem dX9_stores_39 : decode cX9_stores 39 = .ok (.invokestatic 69, 3) := dk_184 0 69 (dk_at dksX9_stores_1 15 rfl rfl)
theorem dX9_stores_42 : decode cX9_stores 42 = .ok (.istore 4, 2) := dk_54 4 (dk_at dksX9_stores_1 18 rfl rfl)
theorem dX9_stores_44 : decode cX9_stores 44 = .ok (.aload_n 0, 1) := dk_42 (dk_at dksX9_stores_1 20 rfl rfl)
theorem dX9_stores_45 : decode cX9_stores 45 = .ok (.iload_n 3, 1) := dk_29 (dk_at dksX9_stores_1 21 rfl rfl)
theorem dX9_stores_46 : decode cX9_stores 46 = .ok (.aload_n 0, 1) := dk_42 (dk_at dksX9_stores_1 22 rfl rfl)
theorem dX9_stores_47 : decode cX9_stores 47 = .ok (.iload_n 3, 1) := dk_29 (dk_at dksX9_stores_1 23 rfl rfl)
theorem dX9_stores_48 : decode cX9_stores 48 = .ok (.invokevirtual 61, 3) := dk_182 0 61 (dk_at dksX9_stores_2 0 rfl rfl)
theorem dX9_stores_51 : decode cX9_stores 51 = .ok (.iload 4, 2) := dk_21 4 (dk_at dksX9_stores_2 3 rfl rfl)
theorem dX9_stores_53 : decode cX9_stores 53 = .ok (.iadd, 1) := dk_96 (dk_at dksX9_stores_2 5 rfl rfl)
theorem dX9_stores_54 : decode cX9_stores 54 = .ok (.invokevirtual 75, 3) := dk_182 0 75 (dk_at dksX9_stores_2 6 rfl rfl)
theorem dX9_stores_57 : decode cX9_stores 57 = .ok (.iload_n 2, 1) := dk_28 (dk_at dksX9_stores_2 9 rfl rfl)
theorem dX9_stores_58 : decode cX9_stores 58 = .ok (.iload 4, 2) := dk_21 4 (dk_at dksX9_stores_2 10 rfl rfl)
theorem dX9_stores_60 : decode cX9_stores 60 = .ok (.isub, 1) := dk_100 (dk_at dksX9_stores_2 12 rfl rfl)
theorem dX9_stores_61 : decode cX9_stores 61 = .ok (.istore_n 2, 1) := dk_61 (dk_at dksX9_stores_2 13 rfl rfl)
theorem dX9_stores_62 : decode cX9_stores 62 = .ok (.iinc 3 (-1), 3) := dk_132 3 255 (dk_at dksX9_stores_2 14 rfl rfl)
theorem dX9_stores_65 : decode cX9_stores 65 = .ok (.goto (-56), 3) := dk_167 255 200 (dk_at dksX9_stores_2 17 rfl rfl)
theorem dX9_stores_68 : decode cX9_stores 68 = .ok (.iload_n 2, 1) := dk_28 (dk_at dksX9_stores_2 20 rfl rfl)
theorem dX9_stores_69 : decode cX9_stores 69 = .ok (.ireturn, 1) := dk_172 (dk_at dksX9_stores_2 21 rfl rfl)
def dkwX9_at_0 : List UInt8 := [42, 27, 182, 0, 53, 27, 16, 16, 112, 53, 172]
abbrev dktX9_at_0 : List UInt8 := dkwX9_at_0 ++ []
theorem dksX9_at_0 : cX9_at.data.toList.drop 0 = dktX9_at_0 := by decide +kernel
theorem dX9_at_0 : decode cX9_at 0 = .ok (.aload_n 0, 1) := dk_42 (dk_at dksX9_at_0 0 rfl rfl)
theorem dX9_at_1 : decode cX9_at 1 = .ok (.iload_n 1, 1) := dk_27 (dk_at dksX9_at_0 1 rfl rfl)
theorem dX9_at_2 : decode cX9_at 2 = .ok (.invokevirtual 53, 3) := dk_182 0 53 (dk_at dksX9_at_0 2 rfl rfl)
theorem dX9_at_5 : decode cX9_at 5 = .ok (.iload_n 1, 1) := dk_27 (dk_at dksX9_at_0 5 rfl rfl)
theorem dX9_at_6 : decode cX9_at 6 = .ok (.bipush 16, 2) := dk_16 16 (dk_at dksX9_at_0 6 rfl rfl)
theorem dX9_at_8 : decode cX9_at 8 = .ok (.irem, 1) := dk_112 (dk_at dksX9_at_0 8 rfl rfl)
theorem dX9_at_9 : decode cX9_at 9 = .ok (.saload, 1) := dk_53 (dk_at dksX9_at_0 9 rfl rfl)
theorem dX9_at_10 : decode cX9_at 10 = .ok (.ireturn, 1) := dk_172 (dk_at dksX9_at_0 10 rfl rfl)
def dkwX9_frameOf_0 : List UInt8 := [42, 180, 0, 21, 42, 180, 0, 24, 27, 16, 16, 108, 46, 50, 176]
abbrev dktX9_frameOf_0 : List UInt8 := dkwX9_frameOf_0 ++ []
theorem dksX9_frameOf_0 : cX9_frameOf.data.toList.drop 0 = dktX9_frameOf_0 := by decide +kernel
theorem dX9_frameOf_0 : decode cX9_frameOf 0 = .ok (.aload_n 0, 1) := dk_42 (dk_at dksX9_frameOf_0 0 rfl rfl)
theorem dX9_frameOf_1 : decode cX9_frameOf 1 = .ok (.getfield 21, 3) := dk_180 0 21 (dk_at dksX9_frameOf_0 1 rfl rfl)
theorem dX9_frameOf_4 : decode cX9_frameOf 4 = .ok (.aload_n 0, 1) := dk_42 (dk_at dksX9_frameOf_0 4 rfl rfl)
theorem dX9_frameOf_5 : decode cX9_frameOf 5 = .ok (.getfield 24, 3) := dk_180 0 24 (dk_at dksX9_frameOf_0 5 rfl rfl)
theorem dX9_frameOf_8 : decode cX9_frameOf 8 = .ok (.iload_n 1, 1) := dk_27 (dk_at dksX9_frameOf_0 8 rfl rfl)
theorem dX9_frameOf_9 : decode cX9_frameOf 9 = .ok (.bipush 16, 2) := dk_16 16 (dk_at dksX9_frameOf_0 9 rfl rfl)
theorem dX9_frameOf_11 : decode cX9_frameOf 11 = .ok (.idiv, 1) := dk_108 (dk_at dksX9_frameOf_0 11 rfl rfl)
theorem dX9_frameOf_12 : decode cX9_frameOf 12 = .ok (.iaload, 1) := dk_46 (dk_at dksX9_frameOf_0 12 rfl rfl)
theorem dX9_frameOf_13 : decode cX9_frameOf 13 = .ok (.aaload, 1) := dk_50 (dk_at dksX9_frameOf_0 13 rfl rfl)
theorem dX9_frameOf_14 : decode cX9_frameOf 14 = .ok (.areturn, 1) := dk_176 (dk_at dksX9_frameOf_0 14 rfl rfl)
def dkwX9_put_0 : List UInt8 := [42, 27, 182, 0, 53, 27, 16, 16, 112, 28, 147, 86, 177]
abbrev dktX9_put_0 : List UInt8 := dkwX9_put_0 ++ []
theorem dksX9_put_0 : cX9_put.data.toList.drop 0 = dktX9_put_0 := by decide +kernel
theorem dX9_put_0 : decode cX9_put 0 = .ok (.aload_n 0, 1) := dk_42 (dk_at dksX9_put_0 0 rfl rfl)
theorem dX9_put_1 : decode cX9_put 1 = .ok (.iload_n 1, 1) := dk_27 (dk_at dksX9_put_0 1 rfl rfl)
theorem dX9_put_2 : decode cX9_put 2 = .ok (.invokevirtual 53, 3) := dk_182 0 53 (dk_at dksX9_put_0 2 rfl rfl)
theorem dX9_put_5 : decode cX9_put 5 = .ok (.iload_n 1, 1) := dk_27 (dk_at dksX9_put_0 5 rfl rfl)
theorem dX9_put_6 : decode cX9_put 6 = .ok (.bipush 16, 2) := dk_16 16 (dk_at dksX9_put_0 6 rfl rfl)
theorem dX9_put_8 : decode cX9_put 8 = .ok (.irem, 1) := dk_112 (dk_at dksX9_put_0 8 rfl rfl)
theorem dX9_put_9 : decode cX9_put 9 = .ok (.iload_n 2, 1) := dk_28 (dk_at dksX9_put_0 9 rfl rfl)
theorem dX9_put_10 : decode cX9_put 10 = .ok (.i2s, 1) := dk_147 (dk_at dksX9_put_0 10 rfl rfl)
theorem dX9_put_11 : decode cX9_put 11 = .ok (.sastore, 1) := dk_86 (dk_at dksX9_put_0 11 rfl rfl)
theorem dX9_put_12 : decode cX9_put 12 = .ok (.return_, 1) := dk_177 (dk_at dksX9_put_0 12 rfl rfl)
def dkwX9_honey_1 : List UInt8 := [42, 28, 182, 0, 61, 167, 0, 4, 3, 96, 60, 132, 2, 1, 167, 255, 222, 27, 172]
abbrev dktX9_honey_1 : List UInt8 := dkwX9_honey_1 ++ []
def dkwX9_honey_0 : List UInt8 := [3, 60, 3, 61, 28, 42, 182, 0, 57, 162, 0, 32, 27, 42, 28, 182, 0, 61, 184, 0, 65, 153, 0, 11]
abbrev dktX9_honey_0 : List UInt8 := dkwX9_honey_0 ++ dktX9_honey_1
theorem dksX9_honey_0 : cX9_honey.data.toList.drop 0 = dktX9_honey_0 := by decide +kernel
theorem dksX9_honey_1 : cX9_honey.data.toList.drop 24 = dktX9_honey_1 := dk_seg dksX9_honey_0 24 rfl rfl
theorem dX9_honey_0 : decode cX9_honey 0 = .ok (.iconst 0, 1) := dk_3 (dk_at dksX9_honey_0 0 rfl rfl)
theorem dX9_honey_1 : decode cX9_honey 1 = .ok (.istore_n 1, 1) := dk_60 (dk_at dksX9_honey_0 1 rfl rfl)
theorem dX9_honey_2 : decode cX9_honey 2 = .ok (.iconst 0, 1) := dk_3 (dk_at dksX9_honey_0 2 rfl rfl)
theorem dX9_honey_3 : decode cX9_honey 3 = .ok (.istore_n 2, 1) := dk_61 (dk_at dksX9_honey_0 3 rfl rfl)
theorem dX9_honey_4 : decode cX9_honey 4 = .ok (.iload_n 2, 1) := dk_28 (dk_at dksX9_honey_0 4 rfl rfl)
theorem dX9_honey_5 : decode cX9_honey 5 = .ok (.aload_n 0, 1) := dk_42 (dk_at dksX9_honey_0 5 rfl rfl)
theorem dX9_honey_6 : decode cX9_honey 6 = .ok (.invokevirtual 57, 3) := dk_182 0 57 (dk_at dksX9_honey_0 6 rfl rfl)
theorem dX9_honey_9 : decode cX9_honey 9 = .ok (.if_icmp .ge 32, 3) := dk_162 0 32 (dk_at dksX9_honey_0 9 rfl rfl)
theorem dX9_honey_12 : decode cX9_honey 12 = .ok (.iload_n 1, 1) := dk_27 (dk_at dksX9_honey_0 12 rfl rfl)
theorem dX9_honey_13 : decode cX9_honey 13 = .ok (.aload_n 0, 1) := dk_42 (dk_at dksX9_honey_0 13 rfl rfl)
theorem dX9_honey_14 : decode cX9_honey 14 = .ok (.iload_n 2, 1) := dk_28 (dk_at dksX9_honey_0 14 rfl rfl)
theorem dX9_honey_15 : decode cX9_honey 15 = .ok (.invokevirtual 61, 3) := dk_182 0 61 (dk_at dksX9_honey_0 15 rfl rfl)
theorem dX9_honey_18 : decode cX9_honey 18 = .ok (.invokestatic 65, 3) := dk_184 0 65 (dk_at dksX9_honey_0 18 rfl rfl)
theorem dX9_honey_21 : decode cX9_honey 21 = .ok (.ifCond .eq 11, 3) := dk_153 0 11 (dk_at dksX9_honey_0 21 rfl rfl)
theorem dX9_honey_24 : decode cX9_honey 24 = .ok (.aload_n 0, 1) := dk_42 (dk_at dksX9_honey_1 0 rfl rfl)
theorem dX9_honey_25 : decode cX9_honey 25 = .ok (.iload_n 2, 1) := dk_28 (dk_at dksX9_honey_1 1 rfl rfl)
theorem dX9_honey_26 : decode cX9_honey 26 = .ok (.invokevirtual 61, 3) := dk_182 0 61 (dk_at dksX9_honey_1 2 rfl rfl)
theorem dX9_honey_29 : decode cX9_honey 29 = .ok (.goto 4, 3) := dk_167 0 4 (dk_at dksX9_honey_1 5 rfl rfl)
theorem dX9_honey_32 : decode cX9_honey 32 = .ok (.iconst 0, 1) := dk_3 (dk_at dksX9_honey_1 8 rfl rfl)
theorem dX9_honey_33 : decode cX9_honey 33 = .ok (.iadd, 1) := dk_96 (dk_at dksX9_honey_1 9 rfl rfl)
theorem dX9_honey_34 : decode cX9_honey 34 = .ok (.istore_n 1, 1) := dk_60 (dk_at dksX9_honey_1 10 rfl rfl)
theorem dX9_honey_35 : decode cX9_honey 35 = .ok (.iinc 2 1, 3) := dk_132 2 1 (dk_at dksX9_honey_1 11 rfl rfl)
theorem dX9_honey_38 : decode cX9_honey 38 = .ok (.goto (-34), 3) := dk_167 255 222 (dk_at dksX9_honey_1 14 rfl rfl)
theorem dX9_honey_41 : decode cX9_honey 41 = .ok (.iload_n 1, 1) := dk_27 (dk_at dksX9_honey_1 17 rfl rfl)
theorem dX9_honey_42 : decode cX9_honey 42 = .ok (.ireturn, 1) := dk_172 (dk_at dksX9_honey_1 18 rfl rfl)
def dkwX9_isHoney_0 : List UInt8 := [26, 158, 0, 13, 26, 16, 100, 163, 0, 7, 4, 167, 0, 4, 3, 172]
abbrev dktX9_isHoney_0 : List UInt8 := dkwX9_isHoney_0 ++ []
theorem dksX9_isHoney_0 : cX9_isHoney.data.toList.drop 0 = dktX9_isHoney_0 := by decide +kernel
theorem dX9_isHoney_0 : decode cX9_isHoney 0 = .ok (.iload_n 0, 1) := dk_26 (dk_at dksX9_isHoney_0 0 rfl rfl)
theorem dX9_isHoney_1 : decode cX9_isHoney 1 = .ok (.ifCond .le 13, 3) := dk_158 0 13 (dk_at dksX9_isHoney_0 1 rfl rfl)
theorem dX9_isHoney_4 : decode cX9_isHoney 4 = .ok (.iload_n 0, 1) := dk_26 (dk_at dksX9_isHoney_0 4 rfl rfl)
theorem dX9_isHoney_5 : decode cX9_isHoney 5 = .ok (.bipush 100, 2) := dk_16 100 (dk_at dksX9_isHoney_0 5 rfl rfl)
theorem dX9_isHoney_7 : decode cX9_isHoney 7 = .ok (.if_icmp .gt 7, 3) := dk_163 0 7 (dk_at dksX9_isHoney_0 7 rfl rfl)
theorem dX9_isHoney_10 : decode cX9_isHoney 10 = .ok (.iconst 1, 1) := dk_4 (dk_at dksX9_isHoney_0 10 rfl rfl)
theorem dX9_isHoney_11 : decode cX9_isHoney 11 = .ok (.goto 4, 3) := dk_167 0 4 (dk_at dksX9_isHoney_0 11 rfl rfl)
theorem dX9_isHoney_14 : decode cX9_isHoney 14 = .ok (.iconst 0, 1) := dk_3 (dk_at dksX9_isHoney_0 14 rfl rfl)
theorem dX9_isHoney_15 : decode cX9_isHoney 15 = .ok (.ireturn, 1) := dk_172 (dk_at dksX9_isHoney_0 15 rfl rfl)
def dkwX9_copy_0 : List UInt8 := [187, 0, 10, 89, 42, 180, 0, 15, 42, 180, 0, 21, 190, 183, 0, 46, 76, 43, 42, 182, 0, 49, 43, 176]
abbrev dktX9_copy_0 : List UInt8 := dkwX9_copy_0 ++ []
theorem dksX9_copy_0 : cX9_copy.data.toList.drop 0 = dktX9_copy_0 := by decide +kernel
theorem dX9_copy_0 : decode cX9_copy 0 = .ok (.new 10, 3) := dk_187 0 10 (dk_at dksX9_copy_0 0 rfl rfl)
theorem dX9_copy_3 : decode cX9_copy 3 = .ok (.dup, 1) := dk_89 (dk_at dksX9_copy_0 3 rfl rfl)
theorem dX9_copy_4 : decode cX9_copy 4 = .ok (.aload_n 0, 1) := dk_42 (dk_at dksX9_copy_0 4 rfl rfl)
theorem dX9_copy_5 : decode cX9_copy 5 = .ok (.getfield 15, 3) := dk_180 0 15 (dk_at dksX9_copy_0 5 rfl rfl)
theorem dX9_copy_8 : decode cX9_copy 8 = .ok (.aload_n 0, 1) := dk_42 (dk_at dksX9_copy_0 8 rfl rfl)
theorem dX9_copy_9 : decode cX9_copy 9 = .ok (.getfield 21, 3) := dk_180 0 21 (dk_at dksX9_copy_0 9 rfl rfl)
theorem dX9_copy_12 : decode cX9_copy 12 = .ok (.arraylength, 1) := dk_190 (dk_at dksX9_copy_0 12 rfl rfl)
theorem dX9_copy_13 : decode cX9_copy 13 = .ok (.invokespecial 46, 3) := dk_183 0 46 (dk_at dksX9_copy_0 13 rfl rfl)
theorem dX9_copy_16 : decode cX9_copy 16 = .ok (.astore_n 1, 1) := dk_76 (dk_at dksX9_copy_0 16 rfl rfl)
theorem dX9_copy_17 : decode cX9_copy 17 = .ok (.aload_n 1, 1) := dk_43 (dk_at dksX9_copy_0 17 rfl rfl)
theorem dX9_copy_18 : decode cX9_copy 18 = .ok (.aload_n 0, 1) := dk_42 (dk_at dksX9_copy_0 18 rfl rfl)
theorem dX9_copy_19 : decode cX9_copy 19 = .ok (.invokevirtual 49, 3) := dk_182 0 49 (dk_at dksX9_copy_0 19 rfl rfl)
theorem dX9_copy_22 : decode cX9_copy 22 = .ok (.aload_n 1, 1) := dk_43 (dk_at dksX9_copy_0 22 rfl rfl)
theorem dX9_copy_23 : decode cX9_copy 23 = .ok (.areturn, 1) := dk_176 (dk_at dksX9_copy_0 23 rfl rfl)
def dkwX9_be_3 : List UInt8 := [180, 0, 43, 181, 0, 43, 177]
abbrev dktX9_be_3 : List UInt8 := dkwX9_be_3 ++ []
def dkwX9_be_2 : List UInt8 := [180, 0, 37, 181, 0, 37, 42, 43, 180, 0, 9, 181, 0, 9, 42, 43, 180, 0, 40, 181, 0, 40, 42, 43]
abbrev dktX9_be_2 : List UInt8 := dkwX9_be_2 ++ dktX9_be_3
def dkwX9_be_1 : List UInt8 := [3, 16, 16, 184, 0, 28, 132, 2, 1, 167, 255, 225, 42, 43, 180, 0, 34, 181, 0, 34, 42, 43]
abbrev dktX9_be_1 : List UInt8 := dkwX9_be_1 ++ dktX9_be_2
def dkwX9_be_0 : List UInt8 := [3, 61, 28, 42, 180, 0, 21, 190, 162, 0, 28, 43, 180, 0, 21, 28, 50, 3, 42, 180, 0, 21, 28, 50]
abbrev dktX9_be_0 : List UInt8 := dkwX9_be_0 ++ dktX9_be_1
theorem dksX9_be_0 : cX9_be.data.toList.drop 0 = dktX9_be_0 := by decide +kernel
theorem dksX9_be_1 : cX9_be.data.toList.drop 24 = dktX9_be_1 := dk_seg dksX9_be_0 24 rfl rfl
theorem dksX9_be_2 : cX9_be.data.toList.drop 46 = dktX9_be_2 := dk_seg dksX9_be_1 22 rfl rfl
theorem dksX9_be_3 : cX9_be.data.toList.drop 70 = dktX9_be_3 := dk_seg dksX9_be_2 24 rfl rfl
theorem dX9_be_0 : decode cX9_be 0 = .ok (.iconst 0, 1) := dk_3 (dk_at dksX9_be_0 0 rfl rfl)
theorem dX9_be_1 : decode cX9_be 1 = .ok (.istore_n 2, 1) := dk_61 (dk_at dksX9_be_0 1 rfl rfl)
theorem dX9_be_2 : decode cX9_be 2 = .ok (.iload_n 2, 1) := dk_28 (dk_at dksX9_be_0 2 rfl rfl)
theorem dX9_be_3 : decode cX9_be 3 = .ok (.aload_n 0, 1) := dk_42 (dk_at dksX9_be_0 3 rfl rfl)
theorem dX9_be_4 : decode cX9_be 4 = .ok (.getfield 21, 3) := dk_180 0 21 (dk_at dksX9_be_0 4 rfl rfl)
theorem dX9_be_7 : decode cX9_be 7 = .ok (.arraylength, 1) := dk_190 (dk_at dksX9_be_0 7 rfl rfl)
theorem dX9_be_8 : decode cX9_be 8 = .ok (.if_icmp .ge 28, 3) := dk_162 0 28 (dk_at dksX9_be_0 8 rfl rfl)
theorem dX9_be_11 : decode cX9_be 11 = .ok (.aload_n 1, 1) := dk_43 (dk_at dksX9_be_0 11 rfl rfl)
theorem dX9_be_12 : decode cX9_be 12 = .ok (.getfield 21, 3) := dk_180 0 21 (dk_at dksX9_be_0 12 rfl rfl)
theorem dX9_be_15 : decode cX9_be 15 = .ok (.iload_n 2, 1) := dk_28 (dk_at dksX9_be_0 15 rfl rfl)
theorem dX9_be_16 : decode cX9_be 16 = .ok (.aaload, 1) := dk_50 (dk_at dksX9_be_0 16 rfl rfl)
theorem dX9_be_17 : decode cX9_be 17 = .ok (.iconst 0, 1) := dk_3 (dk_at dksX9_be_0 17 rfl rfl)
theorem dX9_be_18 : decode cX9_be 18 = .ok (.aload_n 0, 1) := dk_42 (dk_at dksX9_be_0 18 rfl rfl)
theorem dX9_be_19 : decode cX9_be 19 = .ok (.getfield 21, 3) := dk_180 0 21 (dk_at dksX9_be_0 19 rfl rfl)
theorem dX9_be_22 : decode cX9_be 22 = .ok (.iload_n 2, 1) := dk_28 (dk_at dksX9_be_0 22 rfl rfl)
theorem dX9_be_23 : decode cX9_be 23 = .ok (.aaload, 1) := dk_50 (dk_at dksX9_be_0 23 rfl rfl)
theorem dX9_be_24 : decode cX9_be 24 = .ok (.iconst 0, 1) := dk_3 (dk_at dksX9_be_1 0 rfl rfl)
theorem dX9_be_25 : decode cX9_be 25 = .ok (.bipush 16, 2) := dk_16 16 (dk_at dksX9_be_1 1 rfl rfl)
theorem dX9_be_27 : decode cX9_be 27 = .ok (.invokestatic 28, 3) := dk_184 0 28 (dk_at dksX9_be_1 3 rfl rfl)
theorem dX9_be_30 : decode cX9_be 30 = .ok (.iinc 2 1, 3) := dk_132 2 1 (dk_at dksX9_be_1 6 rfl rfl)
theorem dX9_be_33 : decode cX9_be 33 = .ok (.goto (-31), 3) := dk_167 255 225 (dk_at dksX9_be_1 9 rfl rfl)
theorem dX9_be_36 : decode cX9_be 36 = .ok (.aload_n 0, 1) := dk_42 (dk_at dksX9_be_1 12 rfl rfl)
theorem dX9_be_37 : decode cX9_be 37 = .ok (.aload_n 1, 1) := dk_43 (dk_at dksX9_be_1 13 rfl rfl)
theorem dX9_be_38 : decode cX9_be 38 = .ok (.getfield 34, 3) := dk_180 0 34 (dk_at dksX9_be_1 14 rfl rfl)
theorem dX9_be_41 : decode cX9_be 41 = .ok (.putfield 34, 3) := dk_181 0 34 (dk_at dksX9_be_1 17 rfl rfl)
theorem dX9_be_44 : decode cX9_be 44 = .ok (.aload_n 0, 1) := dk_42 (dk_at dksX9_be_1 20 rfl rfl)
theorem dX9_be_45 : decode cX9_be 45 = .ok (.aload_n 1, 1) := dk_43 (dk_at dksX9_be_1 21 rfl rfl)
theorem dX9_be_46 : decode cX9_be 46 = .ok (.getfield 37, 3) := dk_180 0 37 (dk_at dksX9_be_2 0 rfl rfl)
theorem dX9_be_49 : decode cX9_be 49 = .ok (.putfield 37, 3) := dk_181 0 37 (dk_at dksX9_be_2 3 rfl rfl)
theorem dX9_be_52 : decode cX9_be 52 = .ok (.aload_n 0, 1) := dk_42 (dk_at dksX9_be_2 6 rfl rfl)
theorem dX9_be_53 : decode cX9_be 53 = .ok (.aload_n 1, 1) := dk_43 (dk_at dksX9_be_2 7 rfl rfl)
theorem dX9_be_54 : decode cX9_be 54 = .ok (.getfield 9, 3) := dk_180 0 9 (dk_at dksX9_be_2 8 rfl rfl)
theorem dX9_be_57 : decode cX9_be 57 = .ok (.putfield 9, 3) := dk_181 0 9 (dk_at dksX9_be_2 11 rfl rfl)
theorem dX9_be_60 : decode cX9_be 60 = .ok (.aload_n 0, 1) := dk_42 (dk_at dksX9_be_2 14 rfl rfl)
theorem dX9_be_61 : decode cX9_be 61 = .ok (.aload_n 1, 1) := dk_43 (dk_at dksX9_be_2 15 rfl rfl)
theorem dX9_be_62 : decode cX9_be 62 = .ok (.getfield 40, 3) := dk_180 0 40 (dk_at dksX9_be_2 16 rfl rfl)
theorem dX9_be_65 : decode cX9_be 65 = .ok (.putfield 40, 3) := dk_181 0 40 (dk_at dksX9_be_2 19 rfl rfl)
theorem dX9_be_68 : decode cX9_be 68 = .ok (.aload_n 0, 1) := dk_42 (dk_at dksX9_be_2 22 rfl rfl)
theorem dX9_be_69 : decode cX9_be 69 = .ok (.aload_n 1, 1) := dk_43 (dk_at dksX9_be_2 23 rfl rfl)
theorem dX9_be_70 : decode cX9_be 70 = .ok (.getfield 43, 3) := dk_180 0 43 (dk_at dksX9_be_3 0 rfl rfl)
theorem dX9_be_73 : decode cX9_be 73 = .ok (.putfield 43, 3) := dk_181 0 43 (dk_at dksX9_be_3 3 rfl rfl)
theorem dX9_be_76 : decode cX9_be 76 = .ok (.return_, 1) := dk_177 (dk_at dksX9_be_3 6 rfl rfl)
def dkwX9_brood_1 : List UInt8 := [167, 0, 4, 3, 96, 60, 132, 2, 1, 167, 255, 227, 27, 172]
abbrev dktX9_brood_1 : List UInt8 := dkwX9_brood_1 ++ []
def dkwX9_brood_0 : List UInt8 := [3, 60, 3, 61, 28, 42, 182, 0, 57, 162, 0, 27, 27, 42, 28, 182, 0, 61, 16, 101, 161, 0, 7, 4]
abbrev dktX9_brood_0 : List UInt8 := dkwX9_brood_0 ++ dktX9_brood_1
theorem dksX9_brood_0 : cX9_brood.data.toList.drop 0 = dktX9_brood_0 := by decide +kernel
theorem dksX9_brood_1 : cX9_brood.data.toList.drop 24 = dktX9_brood_1 := dk_seg dksX9_brood_0 24 rfl rfl
theorem dX9_brood_0 : decode cX9_brood 0 = .ok (.iconst 0, 1) := dk_3 (dk_at dksX9_brood_0 0 rfl rfl)
theorem dX9_brood_1 : decode cX9_brood 1 = .ok (.istore_n 1, 1) := dk_60 (dk_at dksX9_brood_0 1 rfl rfl)
theorem dX9_brood_2 : decode cX9_brood 2 = .ok (.iconst 0, 1) := dk_3 (dk_at dksX9_brood_0 2 rfl rfl)
theorem dX9_brood_3 : decode cX9_brood 3 = .ok (.istore_n 2, 1) := dk_61 (dk_at dksX9_brood_0 3 rfl rfl)
theorem dX9_brood_4 : decode cX9_brood 4 = .ok (.iload_n 2, 1) := dk_28 (dk_at dksX9_brood_0 4 rfl rfl)
theorem dX9_brood_5 : decode cX9_brood 5 = .ok (.aload_n 0, 1) := dk_42 (dk_at dksX9_brood_0 5 rfl rfl)
theorem dX9_brood_6 : decode cX9_brood 6 = .ok (.invokevirtual 57, 3) := dk_182 0 57 (dk_at dksX9_brood_0 6 rfl rfl)
theorem dX9_brood_9 : decode cX9_brood 9 = .ok (.if_icmp .ge 27, 3) := dk_162 0 27 (dk_at dksX9_brood_0 9 rfl rfl)
theorem dX9_brood_12 : decode cX9_brood 12 = .ok (.iload_n 1, 1) := dk_27 (dk_at dksX9_brood_0 12 rfl rfl)
theorem dX9_brood_13 : decode cX9_brood 13 = .ok (.aload_n 0, 1) := dk_42 (dk_at dksX9_brood_0 13 rfl rfl)
theorem dX9_brood_14 : decode cX9_brood 14 = .ok (.iload_n 2, 1) := dk_28 (dk_at dksX9_brood_0 14 rfl rfl)
theorem dX9_brood_15 : decode cX9_brood 15 = .ok (.invokevirtual 61, 3) := dk_182 0 61 (dk_at dksX9_brood_0 15 rfl rfl)
theorem dX9_brood_18 : decode cX9_brood 18 = .ok (.bipush 101, 2) := dk_16 101 (dk_at dksX9_brood_0 18 rfl rfl)
theorem dX9_brood_20 : decode cX9_brood 20 = .ok (.if_icmp .lt 7, 3) := dk_161 0 7 (dk_at dksX9_brood_0 20 rfl rfl)
theorem dX9_brood_23 : decode cX9_brood 23 = .ok (.iconst 1, 1) := dk_4 (dk_at dksX9_brood_0 23 rfl rfl)
theorem dX9_brood_24 : decode cX9_brood 24 = .ok (.goto 4, 3) := dk_167 0 4 (dk_at dksX9_brood_1 0 rfl rfl)
theorem dX9_brood_27 : decode cX9_brood 27 = .ok (.iconst 0, 1) := dk_3 (dk_at dksX9_brood_1 3 rfl rfl)
theorem dX9_brood_28 : decode cX9_brood 28 = .ok (.iadd, 1) := dk_96 (dk_at dksX9_brood_1 4 rfl rfl)
theorem dX9_brood_29 : decode cX9_brood 29 = .ok (.istore_n 1, 1) := dk_60 (dk_at dksX9_brood_1 5 rfl rfl)
theorem dX9_brood_30 : decode cX9_brood 30 = .ok (.iinc 2 1, 3) := dk_132 2 1 (dk_at dksX9_brood_1 6 rfl rfl)
theorem dX9_brood_33 : decode cX9_brood 33 = .ok (.goto (-29), 3) := dk_167 255 227 (dk_at dksX9_brood_1 9 rfl rfl)
theorem dX9_brood_36 : decode cX9_brood 36 = .ok (.iload_n 1, 1) := dk_27 (dk_at dksX9_brood_1 12 rfl rfl)
theorem dX9_brood_37 : decode cX9_brood 37 = .ok (.ireturn, 1) := dk_172 (dk_at dksX9_brood_1 13 rfl rfl)
def dkwX9_empty_1 : List UInt8 := [167, 0, 4, 3, 96, 60, 132, 2, 1, 167, 255, 229, 27, 172]
abbrev dktX9_empty_1 : List UInt8 := dkwX9_empty_1 ++ []
def dkwX9_empty_0 : List UInt8 := [3, 60, 3, 61, 28, 42, 182, 0, 57, 162, 0, 25, 27, 42, 28, 182, 0, 61, 154, 0, 7, 4]
abbrev dktX9_empty_0 : List UInt8 := dkwX9_empty_0 ++ dktX9_empty_1
theorem dksX9_empty_0 : cX9_empty.data.toList.drop 0 = dktX9_empty_0 := by decide +kernel
theorem dksX9_empty_1 : cX9_empty.data.toList.drop 22 = dktX9_empty_1 := dk_seg dksX9_empty_0 22 rfl rfl
theorem dX9_empty_0 : decode cX9_empty 0 = .ok (.iconst 0, 1) := dk_3 (dk_at dksX9_empty_0 0 rfl rfl)
theorem dX9_empty_1 : decode cX9_empty 1 = .ok (.istore_n 1, 1) := dk_60 (dk_at dksX9_empty_0 1 rfl rfl)
theorem dX9_empty_2 : decode cX9_empty 2 = .ok (.iconst 0, 1) := dk_3 (dk_at dksX9_empty_0 2 rfl rfl)
theorem dX9_empty_3 : decode cX9_empty 3 = .ok (.istore_n 2, 1) := dk_61 (dk_at dksX9_empty_0 3 rfl rfl)
theorem dX9_empty_4 : decode cX9_empty 4 = .ok (.iload_n 2, 1) := dk_28 (dk_at dksX9_empty_0 4 rfl rfl)
theorem dX9_empty_5 : decode cX9_empty 5 = .ok (.aload_n 0, 1) := dk_42 (dk_at dksX9_empty_0 5 rfl rfl)
theorem dX9_empty_6 : decode cX9_empty 6 = .ok (.invokevirtual 57, 3) := dk_182 0 57 (dk_at dksX9_empty_0 6 rfl rfl)
theorem dX9_empty_9 : decode cX9_empty 9 = .ok (.if_icmp .ge 25, 3) := dk_162 0 25 (dk_at dksX9_empty_0 9 rfl rfl)
theorem dX9_empty_12 : decode cX9_empty 12 = .ok (.iload_n 1, 1) := dk_27 (dk_at dksX9_empty_0 12 rfl rfl)
theorem dX9_empty_13 : decode cX9_empty 13 = .ok (.aload_n 0, 1) := dk_42 (dk_at dksX9_empty_0 13 rfl rfl)
theorem dX9_empty_14 : decode cX9_empty 14 = .ok (.iload_n 2, 1) := dk_28 (dk_at dksX9_empty_0 14 rfl rfl)
theorem dX9_empty_15 : decode cX9_empty 15 = .ok (.invokevirtual 61, 3) := dk_182 0 61 (dk_at dksX9_empty_0 15 rfl rfl)
theorem dX9_empty_18 : decode cX9_empty 18 = .ok (.ifCond .ne 7, 3) := dk_154 0 7 (dk_at dksX9_empty_0 18 rfl rfl)
theorem dX9_empty_21 : decode cX9_empty 21 = .ok (.iconst 1, 1) := dk_4 (dk_at dksX9_empty_0 21 rfl rfl)
theorem dX9_empty_22 : decode cX9_empty 22 = .ok (.goto 4, 3) := dk_167 0 4 (dk_at dksX9_empty_1 0 rfl rfl)
theorem dX9_empty_25 : decode cX9_empty 25 = .ok (.iconst 0, 1) := dk_3 (dk_at dksX9_empty_1 3 rfl rfl)
theorem dX9_empty_26 : decode cX9_empty 26 = .ok (.iadd, 1) := dk_96 (dk_at dksX9_empty_1 4 rfl rfl)
theorem dX9_empty_27 : decode cX9_empty 27 = .ok (.istore_n 1, 1) := dk_60 (dk_at dksX9_empty_1 5 rfl rfl)
theorem dX9_empty_28 : decode cX9_empty 28 = .ok (.iinc 2 1, 3) := dk_132 2 1 (dk_at dksX9_empty_1 6 rfl rfl)
theorem dX9_empty_31 : decode cX9_empty 31 = .ok (.goto (-27), 3) := dk_167 255 229 (dk_at dksX9_empty_1 9 rfl rfl)
theorem dX9_empty_34 : decode cX9_empty 34 = .ok (.iload_n 1, 1) := dk_27 (dk_at dksX9_empty_1 12 rfl rfl)
theorem dX9_empty_35 : decode cX9_empty 35 = .ok (.ireturn, 1) := dk_172 (dk_at dksX9_empty_1 13 rfl rfl)
def dkwX9_day_8 : List UInt8 := [181, 0, 88, 42, 89, 180, 0, 34, 42, 180, 0, 88, 100, 181, 0, 34, 177]
abbrev dktX9_day_8 : List UInt8 := dkwX9_day_8 ++ []
def dkwX9_day_7 : List UInt8 := [29, 182, 0, 82, 181, 0, 85, 42, 42, 180, 0, 34, 16, 10, 29, 42, 180, 0, 85, 100, 104, 184, 0, 69]
abbrev dktX9_day_7 : List UInt8 := dkwX9_day_7 ++ dktX9_day_8
def dkwX9_day_6 : List UInt8 := [181, 0, 37, 42, 180, 0, 37, 16, 10, 108, 62, 42, 89, 180, 0, 37, 16, 10, 112, 181, 0, 37, 42, 42]
abbrev dktX9_day_6 : List UInt8 := dkwX9_day_6 ++ dktX9_day_7
def dkwX9_day_5 : List UInt8 := [16, 101, 182, 0, 75, 132, 2, 255, 132, 3, 1, 167, 255, 220, 42, 89, 180, 0, 37, 42, 180, 0, 34, 96]
abbrev dktX9_day_5 : List UInt8 := dkwX9_day_5 ++ dktX9_day_6
def dkwX9_day_4 : List UInt8 := [42, 182, 0, 57, 162, 0, 34, 28, 158, 0, 30, 42, 29, 182, 0, 61, 153, 0, 6, 167, 0, 13, 42, 29]
abbrev dktX9_day_4 : List UInt8 := dkwX9_day_4 ++ dktX9_day_5
def dkwX9_day_3 : List UInt8 := [132, 2, 1, 167, 255, 191, 42, 89, 180, 0, 34, 42, 180, 0, 79, 96, 181, 0, 34, 27, 61, 3, 62, 29]
abbrev dktX9_day_3 : List UInt8 := dkwX9_day_3 ++ dktX9_day_4
def dkwX9_day_2 : List UInt8 := [16, 122, 162, 0, 6, 167, 0, 19, 42, 28, 3, 182, 0, 75, 42, 89, 180, 0, 79, 4, 96, 181, 0, 79]
abbrev dktX9_day_2 : List UInt8 := dkwX9_day_2 ++ dktX9_day_3
def dkwX9_day_1 : List UInt8 := [162, 0, 6, 167, 0, 44, 42, 28, 42, 28, 182, 0, 61, 4, 96, 182, 0, 75, 42, 28, 182, 0, 61]
abbrev dktX9_day_1 : List UInt8 := dkwX9_day_1 ++ dktX9_day_2
def dkwX9_day_0 : List UInt8 := [42, 3, 181, 0, 79, 3, 61, 28, 42, 182, 0, 57, 162, 0, 63, 42, 28, 182, 0, 61, 16, 101]
abbrev dktX9_day_0 : List UInt8 := dkwX9_day_0 ++ dktX9_day_1
theorem dksX9_day_0 : cX9_day.data.toList.drop 0 = dktX9_day_0 := by decide +kernel
theorem dksX9_day_1 : cX9_day.data.toList.drop 22 = dktX9_day_1 := dk_seg dksX9_day_0 22 rfl rfl
theorem dksX9_day_2 : cX9_day.data.toList.drop 45 = dktX9_day_2 := dk_seg dksX9_day_1 23 rfl rfl
theorem dksX9_day_3 : cX9_day.data.toList.drop 69 = dktX9_day_3 := dk_seg dksX9_day_2 24 rfl rfl
theorem dksX9_day_4 : cX9_day.data.toList.drop 93 = dktX9_day_4 := dk_seg dksX9_day_3 24 rfl rfl
theorem dksX9_day_5 : cX9_day.data.toList.drop 117 = dktX9_day_5 := dk_seg dksX9_day_4 24 rfl rfl
theorem dksX9_day_6 : cX9_day.data.toList.drop 141 = dktX9_day_6 := dk_seg dksX9_day_5 24 rfl rfl
theorem dksX9_day_7 : cX9_day.data.toList.drop 165 = dktX9_day_7 := dk_seg dksX9_day_6 24 rfl rfl
theorem dksX9_day_8 : cX9_day.data.toList.drop 189 = dktX9_day_8 := dk_seg dksX9_day_7 24 rfl rfl
theorem dX9_day_0 : decode cX9_day 0 = .ok (.aload_n 0, 1) := dk_42 (dk_at dksX9_day_0 0 rfl rfl)
theorem dX9_day_1 : decode cX9_day 1 = .ok (.iconst 0, 1) := dk_3 (dk_at dksX9_day_0 1 rfl rfl)
theorem dX9_day_2 : decode cX9_day 2 = .ok (.putfield 79, 3) := dk_181 0 79 (dk_at dksX9_day_0 2 rfl rfl)
theorem dX9_day_5 : decode cX9_day 5 = .ok (.iconst 0, 1) := dk_3 (dk_at dksX9_day_0 5 rfl rfl)
theorem dX9_day_6 : decode cX9_day 6 = .ok (.istore_n 2, 1) := dk_61 (dk_at dksX9_day_0 6 rfl rfl)
theorem dX9_day_7 : decode cX9_day 7 = .ok (.iload_n 2, 1) := dk_28 (dk_at dksX9_day_0 7 rfl rfl)
theorem dX9_day_8 : decode cX9_day 8 = .ok (.aload_n 0, 1) := dk_42 (dk_at dksX9_day_0 8 rfl rfl)
theorem dX9_day_9 : decode cX9_day 9 = .ok (.invokevirtual 57, 3) := dk_182 0 57 (dk_at dksX9_day_0 9 rfl rfl)
theorem dX9_day_12 : decode cX9_day 12 = .ok (.if_icmp .ge 63, 3) := dk_162 0 63 (dk_at dksX9_day_0 12 rfl rfl)
theorem dX9_day_15 : decode cX9_day 15 = .ok (.aload_n 0, 1) := dk_42 (dk_at dksX9_day_0 15 rfl rfl)
theorem dX9_day_16 : decode cX9_day 16 = .ok (.iload_n 2, 1) := dk_28 (dk_at dksX9_day_0 16 rfl rfl)
theorem dX9_day_17 : decode cX9_day 17 = .ok (.invokevirtual 61, 3) := dk_182 0 61 (dk_at dksX9_day_0 17 rfl rfl)
theorem dX9_day_20 : decode cX9_day 20 = .ok (.bipush 101, 2) := dk_16 101 (dk_at dksX9_day_0 20 rfl rfl)
theorem dX9_day_22 : decode cX9_day 22 = .ok (.if_icmp .ge 6, 3) := dk_162 0 6 (dk_at dksX9_day_1 0 rfl rfl)
theorem dX9_day_25 : decode cX9_day 25 = .ok (.goto 44, 3) := dk_167 0 44 (dk_at dksX9_day_1 3 rfl rfl)
theorem dX9_day_28 : decode cX9_day 28 = .ok (.aload_n 0, 1) := dk_42 (dk_at dksX9_day_1 6 rfl rfl)
theorem dX9_day_29 : decode cX9_day 29 = .ok (.iload_n 2, 1) := dk_28 (dk_at dksX9_day_1 7 rfl rfl)
theorem dX9_day_30 : decode cX9_day 30 = .ok (.aload_n 0, 1) := dk_42 (dk_at dksX9_day_1 8 rfl rfl)
theorem dX9_day_31 : decode cX9_day 31 = .ok (.iload_n 2, 1) := dk_28 (dk_at dksX9_day_1 9 rfl rfl)
theorem dX9_day_32 : decode cX9_day 32 = .ok (.invokevirtual 61, 3) := dk_182 0 61 (dk_at dksX9_day_1 10 rfl rfl)
theorem dX9_day_35 : decode cX9_day 35 = .ok (.iconst 1, 1) := dk_4 (dk_at dksX9_day_1 13 rfl rfl)
theorem dX9_day_36 : decode cX9_day 36 = .ok (.iadd, 1) := dk_96 (dk_at dksX9_day_1 14 rfl rfl)
theorem dX9_day_37 : decode cX9_day 37 = .ok (.invokevirtual 75, 3) := dk_182 0 75 (dk_at dksX9_day_1 15 rfl rfl)
theorem dX9_day_40 : decode cX9_day 40 = .ok (.aload_n 0, 1) := dk_42 (dk_at dksX9_day_1 18 rfl rfl)
theorem dX9_day_41 : decode cX9_day 41 = .ok (.iload_n 2, 1) := dk_28 (dk_at dksX9_day_1 19 rfl rfl)
theorem dX9_day_42 : decode cX9_day 42 = .ok (.invokevirtual 61, 3) := dk_182 0 61 (dk_at dksX9_day_1 20 rfl rfl)
theorem dX9_day_45 : decode cX9_day 45 = .ok (.bipush 122, 2) := dk_16 122 (dk_at dksX9_day_2 0 rfl rfl)
theorem dX9_day_47 : decode cX9_day 47 = .ok (.if_icmp .ge 6, 3) := dk_162 0 6 (dk_at dksX9_day_2 2 rfl rfl)
theorem dX9_day_50 : decode cX9_day 50 = .ok (.goto 19, 3) := dk_167 0 19 (dk_at dksX9_day_2 5 rfl rfl)
theorem dX9_day_53 : decode cX9_day 53 = .ok (.aload_n 0, 1) := dk_42 (dk_at dksX9_day_2 8 rfl rfl)
theorem dX9_day_54 : decode cX9_day 54 = .ok (.iload_n 2, 1) := dk_28 (dk_at dksX9_day_2 9 rfl rfl)
theorem dX9_day_55 : decode cX9_day 55 = .ok (.iconst 0, 1) := dk_3 (dk_at dksX9_day_2 10 rfl rfl)
theorem dX9_day_56 : decode cX9_day 56 = .ok (.invokevirtual 75, 3) := dk_182 0 75 (dk_at dksX9_day_2 11 rfl rfl)
theorem dX9_day_59 : decode cX9_day 59 = .ok (.aload_n 0, 1) := dk_42 (dk_at dksX9_day_2 14 rfl rfl)
theorem dX9_day_60 : decode cX9_day 60 = .ok (.dup, 1) := dk_89 (dk_at dksX9_day_2 15 rfl rfl)
theorem dX9_day_61 : decode cX9_day 61 = .ok (.getfield 79, 3) := dk_180 0 79 (dk_at dksX9_day_2 16 rfl rfl)
theorem dX9_day_64 : decode cX9_day 64 = .ok (.iconst 1, 1) := dk_4 (dk_at dksX9_day_2 19 rfl rfl)
theorem dX9_day_65 : decode cX9_day 65 = .ok (.iadd, 1) := dk_96 (dk_at dksX9_day_2 20 rfl rfl)
theorem dX9_day_66 : decode cX9_day 66 = .ok (.putfield 79, 3) := dk_181 0 79 (dk_at dksX9_day_2 21 rfl rfl)
theorem dX9_day_69 : decode cX9_day 69 = .ok (.iinc 2 1, 3) := dk_132 2 1 (dk_at dksX9_day_3 0 rfl rfl)
theorem dX9_day_72 : decode cX9_day 72 = .ok (.goto (-65), 3) := dk_167 255 191 (dk_at dksX9_day_3 3 rfl rfl)
theorem dX9_day_75 : decode cX9_day 75 = .ok (.aload_n 0, 1) := dk_42 (dk_at dksX9_day_3 6 rfl rfl)
theorem dX9_day_76 : decode cX9_day 76 = .ok (.dup, 1) := dk_89 (dk_at dksX9_day_3 7 rfl rfl)
theorem dX9_day_77 : decode cX9_day 77 = .ok (.getfield 34, 3) := dk_180 0 34 (dk_at dksX9_day_3 8 rfl rfl)
theorem dX9_day_80 : decode cX9_day 80 = .ok (.aload_n 0, 1) := dk_42 (dk_at dksX9_day_3 11 rfl rfl)
theorem dX9_day_81 : decode cX9_day 81 = .ok (.getfield 79, 3) := dk_180 0 79 (dk_at dksX9_day_3 12 rfl rfl)
theorem dX9_day_84 : decode cX9_day 84 = .ok (.iadd, 1) := dk_96 (dk_at dksX9_day_3 15 rfl rfl)
theorem dX9_day_85 : decode cX9_day 85 = .ok (.putfield 34, 3) := dk_181 0 34 (dk_at dksX9_day_3 16 rfl rfl)
theorem dX9_day_88 : decode cX9_day 88 = .ok (.iload_n 1, 1) := dk_27 (dk_at dksX9_day_3 19 rfl rfl)
theorem dX9_day_89 : decode cX9_day 89 = .ok (.istore_n 2, 1) := dk_61 (dk_at dksX9_day_3 20 rfl rfl)
theorem dX9_day_90 : decode cX9_day 90 = .ok (.iconst 0, 1) := dk_3 (dk_at dksX9_day_3 21 rfl rfl)
theorem dX9_day_91 : decode cX9_day 91 = .ok (.istore_n 3, 1) := dk_62 (dk_at dksX9_day_3 22 rfl rfl)
theorem dX9_day_92 : decode cX9_day 92 = .ok (.iload_n 3, 1) := dk_29 (dk_at dksX9_day_3 23 rfl rfl)
theorem dX9_day_93 : decode cX9_day 93 = .ok (.aload_n 0, 1) := dk_42 (dk_at dksX9_day_4 0 rfl rfl)
theorem dX9_day_94 : decode cX9_day 94 = .ok (.invokevirtual 57, 3) := dk_182 0 57 (dk_at dksX9_day_4 1 rfl rfl)
theorem dX9_day_97 : decode cX9_day 97 = .ok (.if_icmp .ge 34, 3) := dk_162 0 34 (dk_at dksX9_day_4 4 rfl rfl)
theorem dX9_day_100 : decode cX9_day 100 = .ok (.iload_n 2, 1) := dk_28 (dk_at dksX9_day_4 7 rfl rfl)
theorem dX9_day_101 : decode cX9_day 101 = .ok (.ifCond .le 30, 3) := dk_158 0 30 (dk_at dksX9_day_4 8 rfl rfl)
theorem dX9_day_104 : decode cX9_day 104 = .ok (.aload_n 0, 1) := dk_42 (dk_at dksX9_day_4 11 rfl rfl)
theorem dX9_day_105 : decode cX9_day 105 = .ok (.iload_n 3, 1) := dk_29 (dk_at dksX9_day_4 12 rfl rfl)
theorem dX9_day_106 : decode cX9_day 106 = .ok (.invokevirtual 61, 3) := dk_182 0 61 (dk_at dksX9_day_4 13 rfl rfl)
theorem dX9_day_109 : decode cX9_day 109 = .ok (.ifCond .eq 6, 3) := dk_153 0 6 (dk_at dksX9_day_4 16 rfl rfl)
theorem dX9_day_112 : decode cX9_day 112 = .ok (.goto 13, 3) := dk_167 0 13 (dk_at dksX9_day_4 19 rfl rfl)
theorem dX9_day_115 : decode cX9_day 115 = .ok (.aload_n 0, 1) := dk_42 (dk_at dksX9_day_4 22 rfl rfl)
theorem dX9_day_116 : decode cX9_day 116 = .ok (.iload_n 3, 1) := dk_29 (dk_at dksX9_day_4 23 rfl rfl)
theorem dX9_day_117 : decode cX9_day 117 = .ok (.bipush 101, 2) := dk_16 101 (dk_at dksX9_day_5 0 rfl rfl)
theorem dX9_day_119 : decode cX9_day 119 = .ok (.invokevirtual 75, 3) := dk_182 0 75 (dk_at dksX9_day_5 2 rfl rfl)
theorem dX9_day_122 : decode cX9_day 122 = .ok (.iinc 2 (-1), 3) := dk_132 2 255 (dk_at dksX9_day_5 5 rfl rfl)
theorem dX9_day_125 : decode cX9_day 125 = .ok (.iinc 3 1, 3) := dk_132 3 1 (dk_at dksX9_day_5 8 rfl rfl)
theorem dX9_day_128 : decode cX9_day 128 = .ok (.goto (-36), 3) := dk_167 255 220 (dk_at dksX9_day_5 11 rfl rfl)
theorem dX9_day_131 : decode cX9_day 131 = .ok (.aload_n 0, 1) := dk_42 (dk_at dksX9_day_5 14 rfl rfl)
theorem dX9_day_132 : decode cX9_day 132 = .ok (.dup, 1) := dk_89 (dk_at dksX9_day_5 15 rfl rfl)
theorem dX9_day_133 : decode cX9_day 133 = .ok (.getfield 37, 3) := dk_180 0 37 (dk_at dksX9_day_5 16 rfl rfl)
theorem dX9_day_136 : decode cX9_day 136 = .ok (.aload_n 0, 1) := dk_42 (dk_at dksX9_day_5 19 rfl rfl)
theorem dX9_day_137 : decode cX9_day 137 = .ok (.getfield 34, 3) := dk_180 0 34 (dk_at dksX9_day_5 20 rfl rfl)
theorem dX9_day_140 : decode cX9_day 140 = .ok (.iadd, 1) := dk_96 (dk_at dksX9_day_5 23 rfl rfl)
theorem dX9_day_141 : decode cX9_day 141 = .ok (.putfield 37, 3) := dk_181 0 37 (dk_at dksX9_day_6 0 rfl rfl)
theorem dX9_day_144 : decode cX9_day 144 = .ok (.aload_n 0, 1) := dk_42 (dk_at dksX9_day_6 3 rfl rfl)
theorem dX9_day_145 : decode cX9_day 145 = .ok (.getfield 37, 3) := dk_180 0 37 (dk_at dksX9_day_6 4 rfl rfl)
theorem dX9_day_148 : decode cX9_day 148 = .ok (.bipush 10, 2) := dk_16 10 (dk_at dksX9_day_6 7 rfl rfl)
theorem dX9_day_150 : decode cX9_day 150 = .ok (.idiv, 1) := dk_108 (dk_at dksX9_day_6 9 rfl rfl)
theorem dX9_day_151 : decode cX9_day 151 = .ok (.istore_n 3, 1) := dk_62 (dk_at dksX9_day_6 10 rfl rfl)
theorem dX9_day_152 : decode cX9_day 152 = .ok (.aload_n 0, 1) := dk_42 (dk_at dksX9_day_6 11 rfl rfl)
theorem dX9_day_153 : decode cX9_day 153 = .ok (.dup, 1) := dk_89 (dk_at dksX9_day_6 12 rfl rfl)
theorem dX9_day_154 : decode cX9_day 154 = .ok (.getfield 37, 3) := dk_180 0 37 (dk_at dksX9_day_6 13 rfl rfl)
theorem dX9_day_157 : decode cX9_day 157 = .ok (.bipush 10, 2) := dk_16 10 (dk_at dksX9_day_6 16 rfl rfl)
theorem dX9_day_159 : decode cX9_day 159 = .ok (.irem, 1) := dk_112 (dk_at dksX9_day_6 18 rfl rfl)
theorem dX9_day_160 : decode cX9_day 160 = .ok (.putfield 37, 3) := dk_181 0 37 (dk_at dksX9_day_6 19 rfl rfl)
theorem dX9_day_163 : decode cX9_day 163 = .ok (.aload_n 0, 1) := dk_42 (dk_at dksX9_day_6 22 rfl rfl)
theorem dX9_day_164 : decode cX9_day 164 = .ok (.aload_n 0, 1) := dk_42 (dk_at dksX9_day_6 23 rfl rfl)
theorem dX9_day_165 : decode cX9_day 165 = .ok (.iload_n 3, 1) := dk_29 (dk_at dksX9_day_7 0 rfl rfl)
theorem dX9_day_166 : decode cX9_day 166 = .ok (.invokevirtual 82, 3) := dk_182 0 82 (dk_at dksX9_day_7 1 rfl rfl)
theorem dX9_day_169 : decode cX9_day 169 = .ok (.putfield 85, 3) := dk_181 0 85 (dk_at dksX9_day_7 4 rfl rfl)
theorem dX9_day_172 : decode cX9_day 172 = .ok (.aload_n 0, 1) := dk_42 (dk_at dksX9_day_7 7 rfl rfl)
theorem dX9_day_173 : decode cX9_day 173 = .ok (.aload_n 0, 1) := dk_42 (dk_at dksX9_day_7 8 rfl rfl)
theorem dX9_day_174 : decode cX9_day 174 = .ok (.getfield 34, 3) := dk_180 0 34 (dk_at dksX9_day_7 9 rfl rfl)
theorem dX9_day_177 : decode cX9_day 177 = .ok (.bipush 10, 2) := dk_16 10 (dk_at dksX9_day_7 12 rfl rfl)
theorem dX9_day_179 : decode cX9_day 179 = .ok (.iload_n 3, 1) := dk_29 (dk_at dksX9_day_7 14 rfl rfl)
theorem dX9_day_180 : decode cX9_day 180 = .ok (.aload_n 0, 1) := dk_42 (dk_at dksX9_day_7 15 rfl rfl)
theorem dX9_day_181 : decode cX9_day 181 = .ok (.getfield 85, 3) := dk_180 0 85 (dk_at dksX9_day_7 16 rfl rfl)
theorem dX9_day_184 : decode cX9_day 184 = .ok (.isub, 1) := dk_100 (dk_at dksX9_day_7 19 rfl rfl)
theorem dX9_day_185 : decode cX9_day 185 = .ok (.imul, 1) := dk_104 (dk_at dksX9_day_7 20 rfl rfl)
theorem dX9_day_186 : decode cX9_day 186 = .ok (.invokestatic 69, 3) := dk_184 0 69 (dk_at dksX9_day_7 21 rfl rfl)
theorem dX9_day_189 : decode cX9_day 189 = .ok (.putfield 88, 3) := dk_181 0 88 (dk_at dksX9_day_8 0 rfl rfl)
theorem dX9_day_192 : decode cX9_day 192 = .ok (.aload_n 0, 1) := dk_42 (dk_at dksX9_day_8 3 rfl rfl)
theorem dX9_day_193 : decode cX9_day 193 = .ok (.dup, 1) := dk_89 (dk_at dksX9_day_8 4 rfl rfl)
theorem dX9_day_194 : decode cX9_day 194 = .ok (.getfield 34, 3) := dk_180 0 34 (dk_at dksX9_day_8 5 rfl rfl)
theorem dX9_day_197 : decode cX9_day 197 = .ok (.aload_n 0, 1) := dk_42 (dk_at dksX9_day_8 8 rfl rfl)
theorem dX9_day_198 : decode cX9_day 198 = .ok (.getfield 88, 3) := dk_180 0 88 (dk_at dksX9_day_8 9 rfl rfl)
theorem dX9_day_201 : decode cX9_day 201 = .ok (.isub, 1) := dk_100 (dk_at dksX9_day_8 12 rfl rfl)
theorem dX9_day_202 : decode cX9_day 202 = .ok (.putfield 34, 3) := dk_181 0 34 (dk_at dksX9_day_8 13 rfl rfl)
theorem dX9_day_205 : decode cX9_day 205 = .ok (.return_, 1) := dk_177 (dk_at dksX9_day_8 16 rfl rfl)
def dkwX9_eats_2 : List UInt8 := [21, 4, 100, 182, 0, 75, 28, 21, 4, 100, 61, 132, 3, 1, 167, 255, 198, 27, 28, 100, 172]
abbrev dktX9_eats_2 : List UInt8 := dkwX9_eats_2 ++ []
def dkwX9_eats_1 : List UInt8 := [154, 0, 6, 167, 0, 32, 28, 42, 29, 182, 0, 61, 184, 0, 69, 54, 4, 42, 29, 42, 29, 182, 0, 61]
abbrev dktX9_eats_1 : List UInt8 := dkwX9_eats_1 ++ dktX9_eats_2
def dkwX9_eats_0 : List UInt8 := [27, 61, 3, 62, 29, 42, 182, 0, 57, 162, 0, 56, 28, 158, 0, 52, 42, 29, 182, 0, 61, 184, 0, 65]
abbrev dktX9_eats_0 : List UInt8 := dkwX9_eats_0 ++ dktX9_eats_1
theorem dksX9_eats_0 : cX9_eats.data.toList.drop 0 = dktX9_eats_0 := by decide +kernel
theorem dksX9_eats_1 : cX9_eats.data.toList.drop 24 = dktX9_eats_1 := dk_seg dksX9_eats_0 24 rfl rfl
theorem dksX9_eats_2 : cX9_eats.data.toList.drop 48 = dktX9_eats_2 := dk_seg dksX9_eats_1 24 rfl rfl
theorem dX9_eats_0 : decode cX9_eats 0 = .ok (.iload_n 1, 1) := dk_27 (dk_at dksX9_eats_0 0 rfl rfl)
theorem dX9_eats_1 : decode cX9_eats 1 = .ok (.istore_n 2, 1) := dk_61 (dk_at dksX9_eats_0 1 rfl rfl)
theorem dX9_eats_2 : decode cX9_eats 2 = .ok (.iconst 0, 1) := dk_3 (dk_at dksX9_eats_0 2 rfl rfl)
theorem dX9_eats_3 : decode cX9_eats 3 = .ok (.istore_n 3, 1) := dk_62 (dk_at dksX9_eats_0 3 rfl rfl)
theorem dX9_eats_4 : decode cX9_eats 4 = .ok (.iload_n 3, 1) := dk_29 (dk_at dksX9_eats_0 4 rfl rfl)
theorem dX9_eats_5 : decode cX9_eats 5 = .ok (.aload_n 0, 1) := dk_42 (dk_at dksX9_eats_0 5 rfl rfl)
theorem dX9_eats_6 : decode cX9_eats 6 = .ok (.invokevirtual 57, 3) := dk_182 0 57 (dk_at dksX9_eats_0 6 rfl rfl)
theorem dX9_eats_9 : decode cX9_eats 9 = .ok (.if_icmp .ge 56, 3) := dk_162 0 56 (dk_at dksX9_eats_0 9 rfl rfl)
theorem dX9_eats_12 : decode cX9_eats 12 = .ok (.iload_n 2, 1) := dk_28 (dk_at dksX9_eats_0 12 rfl rfl)
theorem dX9_eats_13 : decode cX9_eats 13 = .ok (.ifCond .le 52, 3) := dk_158 0 52 (dk_at dksX9_eats_0 13 rfl rfl)
theorem dX9_eats_16 : decode cX9_eats 16 = .ok (.aload_n 0, 1) := dk_42 (dk_at dksX9_eats_0 16 rfl rfl)
theorem dX9_eats_17 : decode cX9_eats 17 = .ok (.iload_n 3, 1) := dk_29 (dk_at dksX9_eats_0 17 rfl rfl)
theorem dX9_eats_18 : decode cX9_eats 18 = .ok (.invokevirtual 61, 3) := dk_182 0 61 (dk_at dksX9_eats_0 18 rfl rfl)
theorem dX9_eats_21 : decode cX9_eats 21 = .ok (.invokestatic 65, 3) := dk_184 0 65 (dk_at dksX9_eats_0 21 rfl rfl)
theorem dX9_eats_24 : decode cX9_eats 24 = .ok (.ifCond .ne 6, 3) := dk_154 0 6 (dk_at dksX9_eats_1 0 rfl rfl)
theorem dX9_eats_27 : decode cX9_eats 27 = .ok (.goto 32, 3) := dk_167 0 32 (dk_at dksX9_eats_1 3 rfl rfl)
theorem dX9_eats_30 : decode cX9_eats 30 = .ok (.iload_n 2, 1) := dk_28 (dk_at dksX9_eats_1 6 rfl rfl)
theorem dX9_eats_31 : decode cX9_eats 31 = .ok (.aload_n 0, 1) := dk_42 (dk_at dksX9_eats_1 7 rfl rfl)
theorem dX9_eats_32 : decode cX9_eats 32 = .ok (.iload_n 3, 1) := dk_29 (dk_at dksX9_eats_1 8 rfl rfl)
theorem dX9_eats_33 : decode cX9_eats 33 = .ok (.invokevirtual 61, 3) := dk_182 0 61 (dk_at dksX9_eats_1 9 rfl rfl)
theorem dX9_eats_36 : decode cX9_eats 36 = .ok (.invokestatic 69, 3) := dk_184 0 69 (dk_at dksX9_eats_1 12 rfl rfl)
theorem dX9_eats_39 : decode cX9_eats 39 = .ok (.istore 4, 2) := dk_54 4 (dk_at dksX9_eats_1 15 rfl rfl)
theorem dX9_eats_41 : decode cX9_eats 41 = .ok (.aload_n 0, 1) := dk_42 (dk_at dksX9_eats_1 17 rfl rfl)
theorem dX9_eats_42 : decode cX9_eats 42 = .ok (.iload_n 3, 1) := dk_29 (dk_at dksX9_eats_1 18 rfl rfl)
theorem dX9_eats_43 : decode cX9_eats 43 = .ok (.aload_n 0, 1) := dk_42 (dk_at dksX9_eats_1 19 rfl rfl)
theorem dX9_eats_44 : decode cX9_eats 44 = .ok (.iload_n 3, 1) := dk_29 (dk_at dksX9_eats_1 20 rfl rfl)
theorem dX9_eats_45 : decode cX9_eats 45 = .ok (.invokevirtual 61, 3) := dk_182 0 61 (dk_at dksX9_eats_1 21 rfl rfl)
theorem dX9_eats_48 : decode cX9_eats 48 = .ok (.iload 4, 2) := dk_21 4 (dk_at dksX9_eats_2 0 rfl rfl)
theorem dX9_eats_50 : decode cX9_eats 50 = .ok (.isub, 1) := dk_100 (dk_at dksX9_eats_2 2 rfl rfl)
theorem dX9_eats_51 : decode cX9_eats 51 = .ok (.invokevirtual 75, 3) := dk_182 0 75 (dk_at dksX9_eats_2 3 rfl rfl)
theorem dX9_eats_54 : decode cX9_eats 54 = .ok (.iload_n 2, 1) := dk_28 (dk_at dksX9_eats_2 6 rfl rfl)
theorem dX9_eats_55 : decode cX9_eats 55 = .ok (.iload 4, 2) := dk_21 4 (dk_at dksX9_eats_2 7 rfl rfl)
theorem dX9_eats_57 : decode cX9_eats 57 = .ok (.isub, 1) := dk_100 (dk_at dksX9_eats_2 9 rfl rfl)
theorem dX9_eats_58 : decode cX9_eats 58 = .ok (.istore_n 2, 1) := dk_61 (dk_at dksX9_eats_2 10 rfl rfl)
theorem dX9_eats_59 : decode cX9_eats 59 = .ok (.iinc 3 1, 3) := dk_132 3 1 (dk_at dksX9_eats_2 11 rfl rfl)
theorem dX9_eats_62 : decode cX9_eats 62 = .ok (.goto (-58), 3) := dk_167 255 198 (dk_at dksX9_eats_2 14 rfl rfl)
theorem dX9_eats_65 : decode cX9_eats 65 = .ok (.iload_n 1, 1) := dk_27 (dk_at dksX9_eats_2 17 rfl rfl)
theorem dX9_eats_66 : decode cX9_eats 66 = .ok (.iload_n 2, 1) := dk_28 (dk_at dksX9_eats_2 18 rfl rfl)
theorem dX9_eats_67 : decode cX9_eats 67 = .ok (.isub, 1) := dk_100 (dk_at dksX9_eats_2 19 rfl rfl)
theorem dX9_eats_68 : decode cX9_eats 68 = .ok (.ireturn, 1) := dk_172 (dk_at dksX9_eats_2 20 rfl rfl)
