set_option maxRecDepth 100000
def dkwX0_init_5 : List UInt8 := [187, 0, 63, 89, 183, 0, 65, 181, 0, 66, 42, 6, 188, 10, 181, 0, 70, 177]
abbrev dktX0_init_5 : List UInt8 := dkwX0_init_5 ++ []
def dkwX0_init_4 : List UInt8 := [181, 0, 48, 42, 187, 0, 52, 89, 183, 0, 54, 181, 0, 55, 42, 6, 189, 0, 52, 181, 0, 59, 42]
abbrev dktX0_init_4 : List UInt8 := dkwX0_init_4 ++ dktX0_init_5
def dkwX0_init_3 : List UInt8 := [187, 0, 34, 89, 183, 0, 36, 181, 0, 37, 42, 187, 0, 41, 89, 183, 0, 43, 181, 0, 44, 42, 10]
abbrev dktX0_init_3 : List UInt8 := dkwX0_init_3 ++ dktX0_init_4
def dkwX0_init_2 : List UInt8 := [83, 181, 0, 18, 42, 17, 3, 132, 188, 8, 181, 0, 24, 42, 2, 181, 0, 27, 42, 2, 181, 0, 31, 42]
abbrev dktX0_init_2 : List UInt8 := dkwX0_init_2 ++ dktX0_init_3
def dkwX0_init_1 : List UInt8 := [89, 183, 0, 17, 83, 89, 5, 187, 0, 15, 89, 183, 0, 17, 83, 89, 6, 187, 0, 15, 89, 183, 0, 17]
abbrev dktX0_init_1 : List UInt8 := dkwX0_init_1 ++ dktX0_init_2
def dkwX0_init_0 : List UInt8 := [42, 183, 0, 9, 42, 7, 189, 0, 15, 89, 3, 187, 0, 15, 89, 183, 0, 17, 83, 89, 4, 187, 0, 15]
abbrev dktX0_init_0 : List UInt8 := dkwX0_init_0 ++ dktX0_init_1
theorem dksX0_init_0 : cX0_init.data.toList.drop 0 = dktX0_init_0 := by decide +kernel
theorem dksX0_init_1 : cX0_init.data.toList.drop 24 = dktX0_init_1 := dk_seg dksX0_init_0 24 rfl rfl
theorem dksX0_init_2 : cX0_init.data.toList.drop 48 = dktX0_init_2 := dk_seg dksX0_init_1 24 rfl rfl
theorem dksX0_init_3 : cX0_init.data.toList.drop 72 = dktX0_init_3 := dk_seg dksX0_init_2 24 rfl rfl
theorem dksX0_init_4 : cX0_init.data.toList.drop 95 = dktX0_init_4 := dk_seg dksX0_init_3 23 rfl rfl
theorem dksX0_init_5 : cX0_init.data.toList.drop 118 = dktX0_init_5 := dk_seg dksX0_init_4 23 rfl rfl
theorem dX0_init_0 : decode cX0_init 0 = .ok (.aload_n 0, 1) := dk_42 (dk_at dksX0_init_0 0 rfl rfl)
theorem dX0_init_1 : decode cX0_init 1 = .ok (.invokespecial 9, 3) := dk_183 0 9 (dk_at dksX0_init_0 1 rfl rfl)
theorem dX0_init_4 : decode cX0_init 4 = .ok (.aload_n 0, 1) := dk_42 (dk_at dksX0_init_0 4 rfl rfl)
theorem dX0_init_5 : decode cX0_init 5 = .ok (.iconst 4, 1) := dk_7 (dk_at dksX0_init_0 5 rfl rfl)
theorem dX0_init_6 : decode cX0_init 6 = .ok (.anewarray 15, 3) := dk_189 0 15 (dk_at dksX0_init_0 6 rfl rfl)
theorem dX0_init_9 : decode cX0_init 9 = .ok (.dup, 1) := dk_89 (dk_at dksX0_init_0 9 rfl rfl)
theorem dX0_init_10 : decode cX0_init 10 = .ok (.iconst 0, 1) := dk_3 (dk_at dksX0_init_0 10 rfl rfl)
theorem dX0_init_11 : decode cX0_init 11 = .ok (.new 15, 3) := dk_187 0 15 (dk_at dksX0_init_0 11 rfl rfl)
theorem dX0_init_14 : decode cX0_init 14 = .ok (.dup, 1) := dk_89 (dk_at dksX0_init_0 14 rfl rfl)
theorem dX0_init_15 : decode cX0_init 15 = .ok (.invokespecial 17, 3) := dk_183 0 17 (dk_at dksX0_init_0 15 rfl rfl)
theorem dX0_init_18 : decode cX0_init 18 = .ok (.aastore, 1) := dk_83 (dk_at dksX0_init_0 18 rfl rfl)
theorem dX0_init_19 : decode cX0_init 19 = .ok (.dup, 1) := dk_89 (dk_at dksX0_init_0 19 rfl rfl)
theorem dX0_init_20 : decode cX0_init 20 = .ok (.iconst 1, 1) := dk_4 (dk_at dksX0_init_0 20 rfl rfl)
theorem dX0_init_21 : decode cX0_init 21 = .ok (.new 15, 3) := dk_187 0 15 (dk_at dksX0_init_0 21 rfl rfl)
theorem dX0_init_24 : decode cX0_init 24 = .ok (.dup, 1) := dk_89 (dk_at dksX0_init_1 0 rfl rfl)
theorem dX0_init_25 : decode cX0_init 25 = .ok (.invokespecial 17, 3) := dk_183 0 17 (dk_at dksX0_init_1 1 rfl rfl)
theorem dX0_init_28 : decode cX0_init 28 = .ok (.aastore, 1) := dk_83 (dk_at dksX0_init_1 4 rfl rfl)
theorem dX0_init_29 : decode cX0_init 29 = .ok (.dup, 1) := dk_89 (dk_at dksX0_init_1 5 rfl rfl)
theorem dX0_init_30 : decode cX0_init 30 = .ok (.iconst 2, 1) := dk_5 (dk_at dksX0_init_1 6 rfl rfl)
theorem dX0_init_31 : decode cX0_init 31 = .ok (.new 15, 3) := dk_187 0 15 (dk_at dksX0_init_1 7 rfl rfl)
theorem dX0_init_34 : decode cX0_init 34 = .ok (.dup, 1) := dk_89 (dk_at dksX0_init_1 10 rfl rfl)
theorem dX0_init_35 : decode cX0_init 35 = .ok (.invokespecial 17, 3) := dk_183 0 17 (dk_at dksX0_init_1 11 rfl rfl)
theorem dX0_init_38 : decode cX0_init 38 = .ok (.aastore, 1) := dk_83 (dk_at dksX0_init_1 14 rfl rfl)
theorem dX0_init_39 : decode cX0_init 39 = .ok (.dup, 1) := dk_89 (dk_at dksX0_init_1 15 rfl rfl)
theorem dX0_init_40 : decode cX0_init 40 = .ok (.iconst 3, 1) := dk_6 (dk_at dksX0_init_1 16 rfl rfl)
theorem dX0_init_41 : decode cX0_init 41 = .ok (.new 15, 3) := dk_187 0 15 (dk_at dksX0_init_1 17 rfl rfl)
theorem dX0_init_44 : decode cX0_init 44 = .ok (.dup, 1) := dk_89 (dk_at dksX0_init_1 20 rfl rfl)
theorem dX0_init_45 : decode cX0_init 45 = .ok (.invokespecial 17, 3) := dk_183 0 17 (dk_at dksX0_init_1 21 rfl rfl)
theorem dX0_init_48 : decode cX0_init 48 = .ok (.aastore, 1) := dk_83 (dk_at dksX0_init_2 0 rfl rfl)
theorem dX0_init_49 : decode cX0_init 49 = .ok (.putfield 18, 3) := dk_181 0 18 (dk_at dksX0_init_2 1 rfl rfl)
theorem dX0_init_52 : decode cX0_init 52 = .ok (.aload_n 0, 1) := dk_42 (dk_at dksX0_init_2 4 rfl rfl)
theorem dX0_init_53 : decode cX0_init 53 = .ok (.sipush 900, 3) := dk_17 3 132 (dk_at dksX0_init_2 5 rfl rfl)
theorem dX0_init_56 : decode cX0_init 56 = .ok (.newarray .byte, 2) := dk_188_8 (dk_at dksX0_init_2 8 rfl rfl)
theorem dX0_init_58 : decode cX0_init 58 = .ok (.putfield 24, 3) := dk_181 0 24 (dk_at dksX0_init_2 10 rfl rfl)
theorem dX0_init_61 : decode cX0_init 61 = .ok (.aload_n 0, 1) := dk_42 (dk_at dksX0_init_2 13 rfl rfl)
theorem dX0_init_62 : decode cX0_init 62 = .ok (.iconst (-1), 1) := dk_2 (dk_at dksX0_init_2 14 rfl rfl)
theorem dX0_init_63 : decode cX0_init 63 = .ok (.putfield 27, 3) := dk_181 0 27 (dk_at dksX0_init_2 15 rfl rfl)
theorem dX0_init_66 : decode cX0_init 66 = .ok (.aload_n 0, 1) := dk_42 (dk_at dksX0_init_2 18 rfl rfl)
theorem dX0_init_67 : decode cX0_init 67 = .ok (.iconst (-1), 1) := dk_2 (dk_at dksX0_init_2 19 rfl rfl)
theorem dX0_init_68 : decode cX0_init 68 = .ok (.putfield 31, 3) := dk_181 0 31 (dk_at dksX0_init_2 20 rfl rfl)
theorem dX0_init_71 : decode cX0_init 71 = .ok (.aload_n 0, 1) := dk_42 (dk_at dksX0_init_2 23 rfl rfl)
theorem dX0_init_72 : decode cX0_init 72 = .ok (.new 34, 3) := dk_187 0 34 (dk_at dksX0_init_3 0 rfl rfl)
theorem dX0_init_75 : decode cX0_init 75 = .ok (.dup, 1) := dk_89 (dk_at dksX0_init_3 3 rfl rfl)
theorem dX0_init_76 : decode cX0_init 76 = .ok (.invokespecial 36, 3) := dk_183 0 36 (dk_at dksX0_init_3 4 rfl rfl)
theorem dX0_init_79 : decode cX0_init 79 = .ok (.putfield 37, 3) := dk_181 0 37 (dk_at dksX0_init_3 7 rfl rfl)
theorem dX0_init_82 : decode cX0_init 82 = .ok (.aload_n 0, 1) := dk_42 (dk_at dksX0_init_3 10 rfl rfl)
theorem dX0_init_83 : decode cX0_init 83 = .ok (.new 41, 3) := dk_187 0 41 (dk_at dksX0_init_3 11 rfl rfl)
theorem dX0_init_86 : decode cX0_init 86 = .ok (.dup, 1) := dk_89 (dk_at dksX0_init_3 14 rfl rfl)
theorem dX0_init_87 : decode cX0_init 87 = .ok (.invokespecial 43, 3) := dk_183 0 43 (dk_at dksX0_init_3 15 rfl rfl)
theorem dX0_init_90 : decode cX0_init 90 = .ok (.putfield 44, 3) := dk_181 0 44 (dk_at dksX0_init_3 18 rfl rfl)
theorem dX0_init_93 : decode cX0_init 93 = .ok (.aload_n 0, 1) := dk_42 (dk_at dksX0_init_3 21 rfl rfl)
theorem dX0_init_94 : decode cX0_init 94 = .ok (.lconst 1, 1) := dk_10 (dk_at dksX0_init_3 22 rfl rfl)
theorem dX0_init_95 : decode cX0_init 95 = .ok (.putfield 48, 3) := dk_181 0 48 (dk_at dksX0_init_4 0 rfl rfl)
theorem dX0_init_98 : decode cX0_init 98 = .ok (.aload_n 0, 1) := dk_42 (dk_at dksX0_init_4 3 rfl rfl)
theorem dX0_init_99 : decode cX0_init 99 = .ok (.new 52, 3) := dk_187 0 52 (dk_at dksX0_init_4 4 rfl rfl)
theorem dX0_init_102 : decode cX0_init 102 = .ok (.dup, 1) := dk_89 (dk_at dksX0_init_4 7 rfl rfl)
theorem dX0_init_103 : decode cX0_init 103 = .ok (.invokespecial 54, 3) := dk_183 0 54 (dk_at dksX0_init_4 8 rfl rfl)
theorem dX0_init_106 : decode cX0_init 106 = .ok (.putfield 55, 3) := dk_181 0 55 (dk_at dksX0_init_4 11 rfl rfl)
theorem dX0_init_109 : decode cX0_init 109 = .ok (.aload_n 0, 1) := dk_42 (dk_at dksX0_init_4 14 rfl rfl)
theorem dX0_init_110 : decode cX0_init 110 = .ok (.iconst 3, 1) := dk_6 (dk_at dksX0_init_4 15 rfl rfl)
theorem dX0_init_111 : decode cX0_init 111 = .ok (.anewarray 52, 3) := dk_189 0 52 (dk_at dksX0_init_4 16 rfl rfl)
theorem dX0_init_114 : decode cX0_init 114 = .ok (.putfield 59, 3) := dk_181 0 59 (dk_at dksX0_init_4 19 rfl rfl)
theorem dX0_init_117 : decode cX0_init 117 = .ok (.aload_n 0, 1) := dk_42 (dk_at dksX0_init_4 22 rfl rfl)
theorem dX0_init_118 : decode cX0_init 118 = .ok (.new 63, 3) := dk_187 0 63 (dk_at dksX0_init_5 0 rfl rfl)
theorem dX0_init_121 : decode cX0_init 121 = .ok (.dup, 1) := dk_89 (dk_at dksX0_init_5 3 rfl rfl)
theorem dX0_init_122 : decode cX0_init 122 = .ok (.invokespecial 65, 3) := dk_183 0 65 (dk_at dksX0_init_5 4 rfl rfl)
theorem dX0_init_125 : decode cX0_init 125 = .ok (.putfield 66, 3) := dk_181 0 66 (dk_at dksX0_init_5 7 rfl rfl)
theorem dX0_init_128 : decode cX0_init 128 = .ok (.aload_n 0, 1) := dk_42 (dk_at dksX0_init_5 10 rfl rfl)
theorem dX0_init_129 : decode cX0_init 129 = .ok (.iconst 3, 1) := dk_6 (dk_at dksX0_init_5 11 rfl rfl)
theorem dX0_init_130 : decode cX0_init 130 = .ok (.newarray .int, 2) := dk_188_10 (dk_at dksX0_init_5 12 rfl rfl)
theorem dX0_init_132 : decode cX0_init 132 = .ok (.putfield 70, 3) := dk_181 0 70 (dk_at dksX0_init_5 14 rfl rfl)
theorem dX0_init_135 : decode cX0_init 135 = .ok (.return_, 1) := dk_177 (dk_at dksX0_init_5 17 rfl rfl)
theorem dX0_status_0 : decode cX0_status 0 = .ok (.aload_n 0, 1) := by decide +kernel
theorem dX0_status_1 : decode cX0_status 1 = .ok (.getfield 73, 3) := by decide +kernel
theorem dX0_status_4 : decode cX0_status 4 = .ok (.ireturn, 1) := by decide +kernel
theorem dX0_top_0 : decode cX0_top 0 = .ok (.aload_n 0, 1) := by decide +kernel
theorem dX0_top_1 : decode cX0_top 1 = .ok (.getfield 76, 3) := by decide +kernel
theorem dX0_top_4 : decode cX0_top 4 = .ok (.lreturn, 1) := by decide +kernel
theorem dX0_bottom_0 : decode cX0_bottom 0 = .ok (.aload_n 0, 1) := by decide +kernel
theorem dX0_bottom_1 : decode cX0_bottom 1 = .ok (.getfield 48, 3) := by decide +kernel
theorem dX0_bottom_4 : decode cX0_bottom 4 = .ok (.lreturn, 1) := by decide +kernel
def dkwX0_tray_3 : List UInt8 := [182, 0, 111, 172]
abbrev dktX0_tray_3 : List UInt8 := dkwX0_tray_3 ++ []
def dkwX0_tray_2 : List UInt8 := [184, 0, 106, 181, 0, 102, 4, 172, 58, 4, 42, 4, 181, 0, 73, 3, 172, 58, 4, 42, 25, 4]
abbrev dktX0_tray_2 : List UInt8 := dkwX0_tray_2 ++ dktX0_tray_3
def dkwX0_tray_1 : List UInt8 := [29, 16, 60, 163, 0, 7, 4, 167, 0, 4, 3, 4, 182, 0, 98, 42, 180, 0, 18, 27, 50, 28, 29]
abbrev dktX0_tray_1 : List UInt8 := dkwX0_tray_1 ++ dktX0_tray_2
def dkwX0_tray_0 : List UInt8 := [42, 3, 181, 0, 73, 42, 27, 155, 0, 27, 27, 7, 162, 0, 22, 28, 155, 0, 18, 28, 6, 163, 0, 13]
abbrev dktX0_tray_0 : List UInt8 := dkwX0_tray_0 ++ dktX0_tray_1
theorem dksX0_tray_0 : cX0_tray.data.toList.drop 0 = dktX0_tray_0 := by decide +kernel
theorem dksX0_tray_1 : cX0_tray.data.toList.drop 24 = dktX0_tray_1 := dk_seg dksX0_tray_0 24 rfl rfl
theorem dksX0_tray_2 : cX0_tray.data.toList.drop 47 = dktX0_tray_2 := dk_seg dksX0_tray_1 23 rfl rfl
theorem dksX0_tray_3 : cX0_tray.data.toList.drop 69 = dktX0_tray_3 := dk_seg dksX0_tray_2 22 rfl rfl
theorem dX0_tray_0 : decode cX0_tray 0 = .ok (.aload_n 0, 1) := dk_42 (dk_at dksX0_tray_0 0 rfl rfl)
theorem dX0_tray_1 : decode cX0_tray 1 = .ok (.iconst 0, 1) := dk_3 (dk_at dksX0_tray_0 1 rfl rfl)
theorem dX0_tray_2 : decode cX0_tray 2 = .ok (.putfield 73, 3) := dk_181 0 73 (dk_at dksX0_tray_0 2 rfl rfl)
theorem dX0_tray_5 : decode cX0_tray 5 = .ok (.aload_n 0, 1) := dk_42 (dk_at dksX0_tray_0 5 rfl rfl)
theorem dX0_tray_6 : decode cX0_tray 6 = .ok (.iload_n 1, 1) := dk_27 (dk_at dksX0_tray_0 6 rfl rfl)
theorem dX0_tray_7 : decode cX0_tray 7 = .ok (.ifCond .lt 27, 3) := dk_155 0 27 (dk_at dksX0_tray_0 7 rfl rfl)
theorem dX0_tray_10 : decode cX0_tray 10 = .ok (.iload_n 1, 1) := dk_27 (dk_at dksX0_tray_0 10 rfl rfl)
theorem dX0_tray_11 : decode cX0_tray 11 = .ok (.iconst 4, 1) := dk_7 (dk_at dksX0_tray_0 11 rfl rfl)
theorem dX0_tray_12 : decode cX0_tray 12 = .ok (.if_icmp .ge 22, 3) := dk_162 0 22 (dk_at dksX0_tray_0 12 rfl rfl)
theorem dX0_tray_15 : decode cX0_tray 15 = .ok (.iload_n 2, 1) := dk_28 (dk_at dksX0_tray_0 15 rfl rfl)
theorem dX0_tray_16 : decode cX0_tray 16 = .ok (.ifCond .lt 18, 3) := dk_155 0 18 (dk_at dksX0_tray_0 16 rfl rfl)
theorem dX0_tray_19 : decode cX0_tray 19 = .ok (.iload_n 2, 1) := dk_28 (dk_at dksX0_tray_0 19 rfl rfl)
theorem dX0_tray_20 : decode cX0_tray 20 = .ok (.iconst 3, 1) := dk_6 (dk_at dksX0_tray_0 20 rfl rfl)
theorem dX0_tray_21 : decode cX0_tray 21 = .ok (.if_icmp .gt 13, 3) := dk_163 0 13 (dk_at dksX0_tray_0 21 rfl rfl)
theorem dX0_tray_24 : decode cX0_tray 24 = .ok (.iload_n 3, 1) := dk_29 (dk_at dksX0_tray_1 0 rfl rfl)
theorem dX0_tray_25 : decode cX0_tray 25 = .ok (.bipush 60, 2) := dk_16 60 (dk_at dksX0_tray_1 1 rfl rfl)
theorem dX0_tray_27 : decode cX0_tray 27 = .ok (.if_icmp .gt 7, 3) := dk_163 0 7 (dk_at dksX0_tray_1 3 rfl rfl)
theorem dX0_tray_30 : decode cX0_tray 30 = .ok (.iconst 1, 1) := dk_4 (dk_at dksX0_tray_1 6 rfl rfl)
theorem dX0_tray_31 : decode cX0_tray 31 = .ok (.goto 4, 3) := dk_167 0 4 (dk_at dksX0_tray_1 7 rfl rfl)
theorem dX0_tray_34 : decode cX0_tray 34 = .ok (.iconst 0, 1) := dk_3 (dk_at dksX0_tray_1 10 rfl rfl)
theorem dX0_tray_35 : decode cX0_tray 35 = .ok (.iconst 1, 1) := dk_4 (dk_at dksX0_tray_1 11 rfl rfl)
theorem dX0_tray_36 : decode cX0_tray 36 = .ok (.invokevirtual 98, 3) := dk_182 0 98 (dk_at dksX0_tray_1 12 rfl rfl)
theorem dX0_tray_39 : decode cX0_tray 39 = .ok (.aload_n 0, 1) := dk_42 (dk_at dksX0_tray_1 15 rfl rfl)
theorem dX0_tray_40 : decode cX0_tray 40 = .ok (.getfield 18, 3) := dk_180 0 18 (dk_at dksX0_tray_1 16 rfl rfl)
theorem dX0_tray_43 : decode cX0_tray 43 = .ok (.iload_n 1, 1) := dk_27 (dk_at dksX0_tray_1 19 rfl rfl)
theorem dX0_tray_44 : decode cX0_tray 44 = .ok (.aaload, 1) := dk_50 (dk_at dksX0_tray_1 20 rfl rfl)
theorem dX0_tray_45 : decode cX0_tray 45 = .ok (.iload_n 2, 1) := dk_28 (dk_at dksX0_tray_1 21 rfl rfl)
theorem dX0_tray_46 : decode cX0_tray 46 = .ok (.iload_n 3, 1) := dk_29 (dk_at dksX0_tray_1 22 rfl rfl)
theorem dX0_tray_47 : decode cX0_tray 47 = .ok (.invokestatic 106, 3) := dk_184 0 106 (dk_at dksX0_tray_2 0 rfl rfl)
theorem dX0_tray_50 : decode cX0_tray 50 = .ok (.putfield 102, 3) := dk_181 0 102 (dk_at dksX0_tray_2 3 rfl rfl)
theorem dX0_tray_53 : decode cX0_tray 53 = .ok (.iconst 1, 1) := dk_4 (dk_at dksX0_tray_2 6 rfl rfl)
theorem dX0_tray_54 : decode cX0_tray 54 = .ok (.ireturn, 1) := dk_172 (dk_at dksX0_tray_2 7 rfl rfl)
theorem dX0_tray_55 : decode cX0_tray 55 = .ok (.astore 4, 2) := dk_58 4 (dk_at dksX0_tray_2 8 rfl rfl)
theorem dX0_tray_57 : decode cX0_tray 57 = .ok (.aload_n 0, 1) := dk_42 (dk_at dksX0_tray_2 10 rfl rfl)
theorem dX0_tray_58 : decode cX0_tray 58 = .ok (.iconst 1, 1) := dk_4 (dk_at dksX0_tray_2 11 rfl rfl)
theorem dX0_tray_59 : decode cX0_tray 59 = .ok (.putfield 73, 3) := dk_181 0 73 (dk_at dksX0_tray_2 12 rfl rfl)
theorem dX0_tray_62 : decode cX0_tray 62 = .ok (.iconst 0, 1) := dk_3 (dk_at dksX0_tray_2 15 rfl rfl)
theorem dX0_tray_63 : decode cX0_tray 63 = .ok (.ireturn, 1) := dk_172 (dk_at dksX0_tray_2 16 rfl rfl)
theorem dX0_tray_64 : decode cX0_tray 64 = .ok (.astore 4, 2) := dk_58 4 (dk_at dksX0_tray_2 17 rfl rfl)
theorem dX0_tray_66 : decode cX0_tray 66 = .ok (.aload_n 0, 1) := dk_42 (dk_at dksX0_tray_2 19 rfl rfl)
theorem dX0_tray_67 : decode cX0_tray 67 = .ok (.aload 4, 2) := dk_25 4 (dk_at dksX0_tray_2 20 rfl rfl)
theorem dX0_tray_69 : decode cX0_tray 69 = .ok (.invokevirtual 111, 3) := dk_182 0 111 (dk_at dksX0_tray_3 0 rfl rfl)
theorem dX0_tray_72 : decode cX0_tray 72 = .ok (.ireturn, 1) := dk_172 (dk_at dksX0_tray_3 3 rfl rfl)
def dkwX0_want_0 : List UInt8 := [27, 154, 0, 12, 42, 180, 0, 44, 28, 182, 0, 79, 191, 177]
abbrev dktX0_want_0 : List UInt8 := dkwX0_want_0 ++ []
theorem dksX0_want_0 : cX0_want.data.toList.drop 0 = dktX0_want_0 := by decide +kernel
theorem dX0_want_0 : decode cX0_want 0 = .ok (.iload_n 1, 1) := dk_27 (dk_at dksX0_want_0 0 rfl rfl)
theorem dX0_want_1 : decode cX0_want 1 = .ok (.ifCond .ne 12, 3) := dk_154 0 12 (dk_at dksX0_want_0 1 rfl rfl)
theorem dX0_want_4 : decode cX0_want 4 = .ok (.aload_n 0, 1) := dk_42 (dk_at dksX0_want_0 4 rfl rfl)
theorem dX0_want_5 : decode cX0_want 5 = .ok (.getfield 44, 3) := dk_180 0 44 (dk_at dksX0_want_0 5 rfl rfl)
theorem dX0_want_8 : decode cX0_want 8 = .ok (.iload_n 2, 1) := dk_28 (dk_at dksX0_want_0 8 rfl rfl)
theorem dX0_want_9 : decode cX0_want 9 = .ok (.invokevirtual 79, 3) := dk_182 0 79 (dk_at dksX0_want_0 9 rfl rfl)
theorem dX0_want_12 : decode cX0_want 12 = .ok (.athrow, 1) := dk_191 (dk_at dksX0_want_0 12 rfl rfl)
theorem dX0_want_13 : decode cX0_want 13 = .ok (.return_, 1) := dk_177 (dk_at dksX0_want_0 13 rfl rfl)
def dkwX0_row_1 : List UInt8 := [160, 0, 9, 27, 188, 10, 167, 0, 6, 27, 188, 11, 176]
abbrev dktX0_row_1 : List UInt8 := dkwX0_row_1 ++ []
def dkwX0_row_0 : List UInt8 := [26, 154, 0, 9, 27, 188, 8, 167, 0, 28, 26, 4, 160, 0, 9, 27, 188, 9, 167, 0, 17, 26, 5]
abbrev dktX0_row_0 : List UInt8 := dkwX0_row_0 ++ dktX0_row_1
theorem dksX0_row_0 : cX0_row.data.toList.drop 0 = dktX0_row_0 := by decide +kernel
theorem dksX0_row_1 : cX0_row.data.toList.drop 23 = dktX0_row_1 := dk_seg dksX0_row_0 23 rfl rfl
theorem dX0_row_0 : decode cX0_row 0 = .ok (.iload_n 0, 1) := dk_26 (dk_at dksX0_row_0 0 rfl rfl)
theorem dX0_row_1 : decode cX0_row 1 = .ok (.ifCond .ne 9, 3) := dk_154 0 9 (dk_at dksX0_row_0 1 rfl rfl)
theorem dX0_row_4 : decode cX0_row 4 = .ok (.iload_n 1, 1) := dk_27 (dk_at dksX0_row_0 4 rfl rfl)
theorem dX0_row_5 : decode cX0_row 5 = .ok (.newarray .byte, 2) := dk_188_8 (dk_at dksX0_row_0 5 rfl rfl)
theorem dX0_row_7 : decode cX0_row 7 = .ok (.goto 28, 3) := dk_167 0 28 (dk_at dksX0_row_0 7 rfl rfl)
theorem dX0_row_10 : decode cX0_row 10 = .ok (.iload_n 0, 1) := dk_26 (dk_at dksX0_row_0 10 rfl rfl)
theorem dX0_row_11 : decode cX0_row 11 = .ok (.iconst 1, 1) := dk_4 (dk_at dksX0_row_0 11 rfl rfl)
theorem dX0_row_12 : decode cX0_row 12 = .ok (.if_icmp .ne 9, 3) := dk_160 0 9 (dk_at dksX0_row_0 12 rfl rfl)
theorem dX0_row_15 : decode cX0_row 15 = .ok (.iload_n 1, 1) := dk_27 (dk_at dksX0_row_0 15 rfl rfl)
theorem dX0_row_16 : decode cX0_row 16 = .ok (.newarray .short, 2) := dk_188_9 (dk_at dksX0_row_0 16 rfl rfl)
theorem dX0_row_18 : decode cX0_row 18 = .ok (.goto 17, 3) := dk_167 0 17 (dk_at dksX0_row_0 18 rfl rfl)
theorem dX0_row_21 : decode cX0_row 21 = .ok (.iload_n 0, 1) := dk_26 (dk_at dksX0_row_0 21 rfl rfl)
theorem dX0_row_22 : decode cX0_row 22 = .ok (.iconst 2, 1) := dk_5 (dk_at dksX0_row_0 22 rfl rfl)
theorem dX0_row_23 : decode cX0_row 23 = .ok (.if_icmp .ne 9, 3) := dk_160 0 9 (dk_at dksX0_row_1 0 rfl rfl)
theorem dX0_row_26 : decode cX0_row 26 = .ok (.iload_n 1, 1) := dk_27 (dk_at dksX0_row_1 3 rfl rfl)
theorem dX0_row_27 : decode cX0_row 27 = .ok (.newarray .int, 2) := dk_188_10 (dk_at dksX0_row_1 4 rfl rfl)
theorem dX0_row_29 : decode cX0_row 29 = .ok (.goto 6, 3) := dk_167 0 6 (dk_at dksX0_row_1 6 rfl rfl)
theorem dX0_row_32 : decode cX0_row 32 = .ok (.iload_n 1, 1) := dk_27 (dk_at dksX0_row_1 9 rfl rfl)
theorem dX0_row_33 : decode cX0_row 33 = .ok (.newarray .long, 2) := dk_188_11 (dk_at dksX0_row_1 10 rfl rfl)
theorem dX0_row_35 : decode cX0_row 35 = .ok (.areturn, 1) := dk_176 (dk_at dksX0_row_1 12 rfl rfl)
def dkwX0_no_0 : List UInt8 := [42, 43, 180, 0, 83, 181, 0, 73, 3, 172]
abbrev dktX0_no_0 : List UInt8 := dkwX0_no_0 ++ []
theorem dksX0_no_0 : cX0_no.data.toList.drop 0 = dktX0_no_0 := by decide +kernel
theorem dX0_no_0 : decode cX0_no 0 = .ok (.aload_n 0, 1) := dk_42 (dk_at dksX0_no_0 0 rfl rfl)
theorem dX0_no_1 : decode cX0_no 1 = .ok (.aload_n 1, 1) := dk_43 (dk_at dksX0_no_0 1 rfl rfl)
theorem dX0_no_2 : decode cX0_no 2 = .ok (.getfield 83, 3) := dk_180 0 83 (dk_at dksX0_no_0 2 rfl rfl)
theorem dX0_no_5 : decode cX0_no 5 = .ok (.putfield 73, 3) := dk_181 0 73 (dk_at dksX0_no_0 5 rfl rfl)
theorem dX0_no_8 : decode cX0_no 8 = .ok (.iconst 0, 1) := dk_3 (dk_at dksX0_no_0 8 rfl rfl)
theorem dX0_no_9 : decode cX0_no 9 = .ok (.ireturn, 1) := dk_172 (dk_at dksX0_no_0 9 rfl rfl)
def dkwX0_write_1 : List UInt8 := [3, 172, 58, 5, 42, 25, 5, 182, 0, 111, 172]
abbrev dktX0_write_1 : List UInt8 := dkwX0_write_1 ++ []
def dkwX0_write_0 : List UInt8 := [42, 3, 181, 0, 73, 42, 27, 182, 0, 115, 28, 33, 184, 0, 119, 4, 172, 58, 5, 42, 6, 181, 0, 73]
abbrev dktX0_write_0 : List UInt8 := dkwX0_write_0 ++ dktX0_write_1
theorem dksX0_write_0 : cX0_write.data.toList.drop 0 = dktX0_write_0 := by decide +kernel
theorem dksX0_write_1 : cX0_write.data.toList.drop 24 = dktX0_write_1 := dk_seg dksX0_write_0 24 rfl rfl
theorem dX0_write_0 : decode cX0_write 0 = .ok (.aload_n 0, 1) := dk_42 (dk_at dksX0_write_0 0 rfl rfl)
theorem dX0_write_1 : decode cX0_write 1 = .ok (.iconst 0, 1) := dk_3 (dk_at dksX0_write_0 1 rfl rfl)
theorem dX0_write_2 : decode cX0_write 2 = .ok (.putfield 73, 3) := dk_181 0 73 (dk_at dksX0_write_0 2 rfl rfl)
theorem dX0_write_5 : decode cX0_write 5 = .ok (.aload_n 0, 1) := dk_42 (dk_at dksX0_write_0 5 rfl rfl)
theorem dX0_write_6 : decode cX0_write 6 = .ok (.iload_n 1, 1) := dk_27 (dk_at dksX0_write_0 6 rfl rfl)
theorem dX0_write_7 : decode cX0_write 7 = .ok (.invokevirtual 115, 3) := dk_182 0 115 (dk_at dksX0_write_0 7 rfl rfl)
theorem dX0_write_10 : decode cX0_write 10 = .ok (.iload_n 2, 1) := dk_28 (dk_at dksX0_write_0 10 rfl rfl)
theorem dX0_write_11 : decode cX0_write 11 = .ok (.lload_n 3, 1) := dk_33 (dk_at dksX0_write_0 11 rfl rfl)
theorem dX0_write_12 : decode cX0_write 12 = .ok (.invokestatic 119, 3) := dk_184 0 119 (dk_at dksX0_write_0 12 rfl rfl)
theorem dX0_write_15 : decode cX0_write 15 = .ok (.iconst 1, 1) := dk_4 (dk_at dksX0_write_0 15 rfl rfl)
theorem dX0_write_16 : decode cX0_write 16 = .ok (.ireturn, 1) := dk_172 (dk_at dksX0_write_0 16 rfl rfl)
theorem dX0_write_17 : decode cX0_write 17 = .ok (.astore 5, 2) := dk_58 5 (dk_at dksX0_write_0 17 rfl rfl)
theorem dX0_write_19 : decode cX0_write 19 = .ok (.aload_n 0, 1) := dk_42 (dk_at dksX0_write_0 19 rfl rfl)
theorem dX0_write_20 : decode cX0_write 20 = .ok (.iconst 3, 1) := dk_6 (dk_at dksX0_write_0 20 rfl rfl)
theorem dX0_write_21 : decode cX0_write 21 = .ok (.putfield 73, 3) := dk_181 0 73 (dk_at dksX0_write_0 21 rfl rfl)
theorem dX0_write_24 : decode cX0_write 24 = .ok (.iconst 0, 1) := dk_3 (dk_at dksX0_write_1 0 rfl rfl)
theorem dX0_write_25 : decode cX0_write 25 = .ok (.ireturn, 1) := dk_172 (dk_at dksX0_write_1 1 rfl rfl)
theorem dX0_write_26 : decode cX0_write 26 = .ok (.astore 5, 2) := dk_58 5 (dk_at dksX0_write_1 2 rfl rfl)
theorem dX0_write_28 : decode cX0_write 28 = .ok (.aload_n 0, 1) := dk_42 (dk_at dksX0_write_1 4 rfl rfl)
theorem dX0_write_29 : decode cX0_write 29 = .ok (.aload 5, 2) := dk_25 5 (dk_at dksX0_write_1 5 rfl rfl)
theorem dX0_write_31 : decode cX0_write 31 = .ok (.invokevirtual 111, 3) := dk_182 0 111 (dk_at dksX0_write_1 7 rfl rfl)
theorem dX0_write_34 : decode cX0_write 34 = .ok (.ireturn, 1) := dk_172 (dk_at dksX0_write_1 10 rfl rfl)
def dkwX0_on_2 : List UInt8 := [180, 0, 102, 176]
abbrev dktX0_on_2 : List UInt8 := dkwX0_on_2 ++ []
def dkwX0_on_1 : List UInt8 := [27, 50, 180, 0, 102, 198, 0, 7, 4, 167, 0, 4, 3, 5, 182, 0, 98, 42, 180, 0, 18, 27, 50]
abbrev dktX0_on_1 : List UInt8 := dkwX0_on_1 ++ dktX0_on_2
def dkwX0_on_0 : List UInt8 := [42, 27, 155, 0, 12, 27, 7, 162, 0, 7, 4, 167, 0, 4, 3, 4, 182, 0, 98, 42, 42, 180, 0, 18]
abbrev dktX0_on_0 : List UInt8 := dkwX0_on_0 ++ dktX0_on_1
theorem dksX0_on_0 : cX0_on.data.toList.drop 0 = dktX0_on_0 := by decide +kernel
theorem dksX0_on_1 : cX0_on.data.toList.drop 24 = dktX0_on_1 := dk_seg dksX0_on_0 24 rfl rfl
theorem dksX0_on_2 : cX0_on.data.toList.drop 47 = dktX0_on_2 := dk_seg dksX0_on_1 23 rfl rfl
theorem dX0_on_0 : decode cX0_on 0 = .ok (.aload_n 0, 1) := dk_42 (dk_at dksX0_on_0 0 rfl rfl)
theorem dX0_on_1 : decode cX0_on 1 = .ok (.iload_n 1, 1) := dk_27 (dk_at dksX0_on_0 1 rfl rfl)
theorem dX0_on_2 : decode cX0_on 2 = .ok (.ifCond .lt 12, 3) := dk_155 0 12 (dk_at dksX0_on_0 2 rfl rfl)
theorem dX0_on_5 : decode cX0_on 5 = .ok (.iload_n 1, 1) := dk_27 (dk_at dksX0_on_0 5 rfl rfl)
theorem dX0_on_6 : decode cX0_on 6 = .ok (.iconst 4, 1) := dk_7 (dk_at dksX0_on_0 6 rfl rfl)
theorem dX0_on_7 : decode cX0_on 7 = .ok (.if_icmp .ge 7, 3) := dk_162 0 7 (dk_at dksX0_on_0 7 rfl rfl)
theorem dX0_on_10 : decode cX0_on 10 = .ok (.iconst 1, 1) := dk_4 (dk_at dksX0_on_0 10 rfl rfl)
theorem dX0_on_11 : decode cX0_on 11 = .ok (.goto 4, 3) := dk_167 0 4 (dk_at dksX0_on_0 11 rfl rfl)
theorem dX0_on_14 : decode cX0_on 14 = .ok (.iconst 0, 1) := dk_3 (dk_at dksX0_on_0 14 rfl rfl)
theorem dX0_on_15 : decode cX0_on 15 = .ok (.iconst 1, 1) := dk_4 (dk_at dksX0_on_0 15 rfl rfl)
theorem dX0_on_16 : decode cX0_on 16 = .ok (.invokevirtual 98, 3) := dk_182 0 98 (dk_at dksX0_on_0 16 rfl rfl)
theorem dX0_on_19 : decode cX0_on 19 = .ok (.aload_n 0, 1) := dk_42 (dk_at dksX0_on_0 19 rfl rfl)
theorem dX0_on_20 : decode cX0_on 20 = .ok (.aload_n 0, 1) := dk_42 (dk_at dksX0_on_0 20 rfl rfl)
theorem dX0_on_21 : decode cX0_on 21 = .ok (.getfield 18, 3) := dk_180 0 18 (dk_at dksX0_on_0 21 rfl rfl)
theorem dX0_on_24 : decode cX0_on 24 = .ok (.iload_n 1, 1) := dk_27 (dk_at dksX0_on_1 0 rfl rfl)
theorem dX0_on_25 : decode cX0_on 25 = .ok (.aaload, 1) := dk_50 (dk_at dksX0_on_1 1 rfl rfl)
theorem dX0_on_26 : decode cX0_on 26 = .ok (.getfield 102, 3) := dk_180 0 102 (dk_at dksX0_on_1 2 rfl rfl)
theorem dX0_on_29 : decode cX0_on 29 = .ok (.ifnull 7, 3) := dk_198 0 7 (dk_at dksX0_on_1 5 rfl rfl)
theorem dX0_on_32 : decode cX0_on 32 = .ok (.iconst 1, 1) := dk_4 (dk_at dksX0_on_1 8 rfl rfl)
theorem dX0_on_33 : decode cX0_on 33 = .ok (.goto 4, 3) := dk_167 0 4 (dk_at dksX0_on_1 9 rfl rfl)
theorem dX0_on_36 : decode cX0_on 36 = .ok (.iconst 0, 1) := dk_3 (dk_at dksX0_on_1 12 rfl rfl)
theorem dX0_on_37 : decode cX0_on 37 = .ok (.iconst 2, 1) := dk_5 (dk_at dksX0_on_1 13 rfl rfl)
theorem dX0_on_38 : decode cX0_on 38 = .ok (.invokevirtual 98, 3) := dk_182 0 98 (dk_at dksX0_on_1 14 rfl rfl)
theorem dX0_on_41 : decode cX0_on 41 = .ok (.aload_n 0, 1) := dk_42 (dk_at dksX0_on_1 17 rfl rfl)
theorem dX0_on_42 : decode cX0_on 42 = .ok (.getfield 18, 3) := dk_180 0 18 (dk_at dksX0_on_1 18 rfl rfl)
theorem dX0_on_45 : decode cX0_on 45 = .ok (.iload_n 1, 1) := dk_27 (dk_at dksX0_on_1 21 rfl rfl)
theorem dX0_on_46 : decode cX0_on 46 = .ok (.aaload, 1) := dk_50 (dk_at dksX0_on_1 22 rfl rfl)
theorem dX0_on_47 : decode cX0_on 47 = .ok (.getfield 102, 3) := dk_180 0 102 (dk_at dksX0_on_2 0 rfl rfl)
theorem dX0_on_50 : decode cX0_on 50 = .ok (.areturn, 1) := dk_176 (dk_at dksX0_on_2 3 rfl rfl)
def dkwX0_put_3 : List UInt8 := [192, 0, 7, 27, 32, 80, 177]
abbrev dktX0_put_3 : List UInt8 := dkwX0_put_3 ++ []
def dkwX0_put_2 : List UInt8 := [193, 0, 5, 153, 0, 18, 42, 192, 0, 5, 58, 6, 25, 6, 27, 32, 136, 79, 167, 0, 10, 42]
abbrev dktX0_put_2 : List UInt8 := dkwX0_put_2 ++ dktX0_put_3
def dkwX0_put_1 : List UInt8 := [193, 0, 3, 153, 0, 19, 42, 192, 0, 3, 58, 5, 25, 5, 27, 32, 136, 147, 86, 167, 0, 32, 42]
abbrev dktX0_put_1 : List UInt8 := dkwX0_put_1 ++ dktX0_put_2
def dkwX0_put_0 : List UInt8 := [42, 193, 0, 1, 153, 0, 19, 42, 192, 0, 1, 58, 4, 25, 4, 27, 32, 136, 145, 84, 167, 0, 55, 42]
abbrev dktX0_put_0 : List UInt8 := dkwX0_put_0 ++ dktX0_put_1
theorem dksX0_put_0 : cX0_put.data.toList.drop 0 = dktX0_put_0 := by decide +kernel
theorem dksX0_put_1 : cX0_put.data.toList.drop 24 = dktX0_put_1 := dk_seg dksX0_put_0 24 rfl rfl
theorem dksX0_put_2 : cX0_put.data.toList.drop 47 = dktX0_put_2 := dk_seg dksX0_put_1 23 rfl rfl
theorem dksX0_put_3 : cX0_put.data.toList.drop 69 = dktX0_put_3 := dk_seg dksX0_put_2 22 rfl rfl
theorem dX0_put_0 : decode cX0_put 0 = .ok (.aload_n 0, 1) := dk_42 (dk_at dksX0_put_0 0 rfl rfl)
theorem dX0_put_1 : decode cX0_put 1 = .ok (.instanceof 1, 3) := dk_193 0 1 (dk_at dksX0_put_0 1 rfl rfl)
theorem dX0_put_4 : decode cX0_put 4 = .ok (.ifCond .eq 19, 3) := dk_153 0 19 (dk_at dksX0_put_0 4 rfl rfl)
theorem dX0_put_7 : decode cX0_put 7 = .ok (.aload_n 0, 1) := dk_42 (dk_at dksX0_put_0 7 rfl rfl)
theorem dX0_put_8 : decode cX0_put 8 = .ok (.checkcast 1, 3) := dk_192 0 1 (dk_at dksX0_put_0 8 rfl rfl)
theorem dX0_put_11 : decode cX0_put 11 = .ok (.astore 4, 2) := dk_58 4 (dk_at dksX0_put_0 11 rfl rfl)
theorem dX0_put_13 : decode cX0_put 13 = .ok (.aload 4, 2) := dk_25 4 (dk_at dksX0_put_0 13 rfl rfl)
theorem dX0_put_15 : decode cX0_put 15 = .ok (.iload_n 1, 1) := dk_27 (dk_at dksX0_put_0 15 rfl rfl)
theorem dX0_put_16 : decode cX0_put 16 = .ok (.lload_n 2, 1) := dk_32 (dk_at dksX0_put_0 16 rfl rfl)
theorem dX0_put_17 : decode cX0_put 17 = .ok (.l2i, 1) := dk_136 (dk_at dksX0_put_0 17 rfl rfl)
theorem dX0_put_18 : decode cX0_put 18 = .ok (.i2b, 1) := dk_145 (dk_at dksX0_put_0 18 rfl rfl)
theorem dX0_put_19 : decode cX0_put 19 = .ok (.bastore, 1) := dk_84 (dk_at dksX0_put_0 19 rfl rfl)
theorem dX0_put_20 : decode cX0_put 20 = .ok (.goto 55, 3) := dk_167 0 55 (dk_at dksX0_put_0 20 rfl rfl)
theorem dX0_put_23 : decode cX0_put 23 = .ok (.aload_n 0, 1) := dk_42 (dk_at dksX0_put_0 23 rfl rfl)
theorem dX0_put_24 : decode cX0_put 24 = .ok (.instanceof 3, 3) := dk_193 0 3 (dk_at dksX0_put_1 0 rfl rfl)
theorem dX0_put_27 : decode cX0_put 27 = .ok (.ifCond .eq 19, 3) := dk_153 0 19 (dk_at dksX0_put_1 3 rfl rfl)
theorem dX0_put_30 : decode cX0_put 30 = .ok (.aload_n 0, 1) := dk_42 (dk_at dksX0_put_1 6 rfl rfl)
theorem dX0_put_31 : decode cX0_put 31 = .ok (.checkcast 3, 3) := dk_192 0 3 (dk_at dksX0_put_1 7 rfl rfl)
theorem dX0_put_34 : decode cX0_put 34 = .ok (.astore 5, 2) := dk_58 5 (dk_at dksX0_put_1 10 rfl rfl)
theorem dX0_put_36 : decode cX0_put 36 = .ok (.aload 5, 2) := dk_25 5 (dk_at dksX0_put_1 12 rfl rfl)
theorem dX0_put_38 : decode cX0_put 38 = .ok (.iload_n 1, 1) := dk_27 (dk_at dksX0_put_1 14 rfl rfl)
theorem dX0_put_39 : decode cX0_put 39 = .ok (.lload_n 2, 1) := dk_32 (dk_at dksX0_put_1 15 rfl rfl)
theorem dX0_put_40 : decode cX0_put 40 = .ok (.l2i, 1) := dk_136 (dk_at dksX0_put_1 16 rfl rfl)
theorem dX0_put_41 : decode cX0_put 41 = .ok (.i2s, 1) := dk_147 (dk_at dksX0_put_1 17 rfl rfl)
theorem dX0_put_42 : decode cX0_put 42 = .ok (.sastore, 1) := dk_86 (dk_at dksX0_put_1 18 rfl rfl)
theorem dX0_put_43 : decode cX0_put 43 = .ok (.goto 32, 3) := dk_167 0 32 (dk_at dksX0_put_1 19 rfl rfl)
theorem dX0_put_46 : decode cX0_put 46 = .ok (.aload_n 0, 1) := dk_42 (dk_at dksX0_put_1 22 rfl rfl)
theorem dX0_put_47 : decode cX0_put 47 = .ok (.instanceof 5, 3) := dk_193 0 5 (dk_at dksX0_put_2 0 rfl rfl)
theorem dX0_put_50 : decode cX0_put 50 = .ok (.ifCond .eq 18, 3) := dk_153 0 18 (dk_at dksX0_put_2 3 rfl rfl)
theorem dX0_put_53 : decode cX0_put 53 = .ok (.aload_n 0, 1) := dk_42 (dk_at dksX0_put_2 6 rfl rfl)
theorem dX0_put_54 : decode cX0_put 54 = .ok (.checkcast 5, 3) := dk_192 0 5 (dk_at dksX0_put_2 7 rfl rfl)
theorem dX0_put_57 : decode cX0_put 57 = .ok (.astore 6, 2) := dk_58 6 (dk_at dksX0_put_2 10 rfl rfl)
theorem dX0_put_59 : decode cX0_put 59 = .ok (.aload 6, 2) := dk_25 6 (dk_at dksX0_put_2 12 rfl rfl)
theorem dX0_put_61 : decode cX0_put 61 = .ok (.iload_n 1, 1) := dk_27 (dk_at dksX0_put_2 14 rfl rfl)
theorem dX0_put_62 : decode cX0_put 62 = .ok (.lload_n 2, 1) := dk_32 (dk_at dksX0_put_2 15 rfl rfl)
theorem dX0_put_63 : decode cX0_put 63 = .ok (.l2i, 1) := dk_136 (dk_at dksX0_put_2 16 rfl rfl)
theorem dX0_put_64 : decode cX0_put 64 = .ok (.iastore, 1) := dk_79 (dk_at dksX0_put_2 17 rfl rfl)
theorem dX0_put_65 : decode cX0_put 65 = .ok (.goto 10, 3) := dk_167 0 10 (dk_at dksX0_put_2 18 rfl rfl)
theorem dX0_put_68 : decode cX0_put 68 = .ok (.aload_n 0, 1) := dk_42 (dk_at dksX0_put_2 21 rfl rfl)
theorem dX0_put_69 : decode cX0_put 69 = .ok (.checkcast 7, 3) := dk_192 0 7 (dk_at dksX0_put_3 0 rfl rfl)
theorem dX0_put_72 : decode cX0_put 72 = .ok (.iload_n 1, 1) := dk_27 (dk_at dksX0_put_3 3 rfl rfl)
theorem dX0_put_73 : decode cX0_put 73 = .ok (.lload_n 2, 1) := dk_32 (dk_at dksX0_put_3 4 rfl rfl)
theorem dX0_put_74 : decode cX0_put 74 = .ok (.lastore, 1) := dk_80 (dk_at dksX0_put_3 5 rfl rfl)
theorem dX0_put_75 : decode cX0_put 75 = .ok (.return_, 1) := dk_177 (dk_at dksX0_put_3 6 rfl rfl)
def dkwX0_read_1 : List UInt8 := [173, 78, 42, 45, 182, 0, 131, 133, 173]
abbrev dktX0_read_1 : List UInt8 := dkwX0_read_1 ++ []
def dkwX0_read_0 : List UInt8 := [42, 3, 181, 0, 73, 42, 27, 182, 0, 115, 28, 184, 0, 125, 173, 78, 42, 6, 181, 0, 73, 20, 0, 129]
abbrev dktX0_read_0 : List UInt8 := dkwX0_read_0 ++ dktX0_read_1
theorem dksX0_read_0 : cX0_read.data.toList.drop 0 = dktX0_read_0 := by decide +kernel
theorem dksX0_read_1 : cX0_read.data.toList.drop 24 = dktX0_read_1 := dk_seg dksX0_read_0 24 rfl rfl
theorem dX0_read_0 : decode cX0_read 0 = .ok (.aload_n 0, 1) := dk_42 (dk_at dksX0_read_0 0 rfl rfl)
theorem dX0_read_1 : decode cX0_read 1 = .ok (.iconst 0, 1) := dk_3 (dk_at dksX0_read_0 1 rfl rfl)
theorem dX0_read_2 : decode cX0_read 2 = .ok (.putfield 73, 3) := dk_181 0 73 (dk_at dksX0_read_0 2 rfl rfl)
theorem dX0_read_5 : decode cX0_read 5 = .ok (.aload_n 0, 1) := dk_42 (dk_at dksX0_read_0 5 rfl rfl)
theorem dX0_read_6 : decode cX0_read 6 = .ok (.iload_n 1, 1) := dk_27 (dk_at dksX0_read_0 6 rfl rfl)
theorem dX0_read_7 : decode cX0_read 7 = .ok (.invokevirtual 115, 3) := dk_182 0 115 (dk_at dksX0_read_0 7 rfl rfl)
theorem dX0_read_10 : decode cX0_read 10 = .ok (.iload_n 2, 1) := dk_28 (dk_at dksX0_read_0 10 rfl rfl)
theorem dX0_read_11 : decode cX0_read 11 = .ok (.invokestatic 125, 3) := dk_184 0 125 (dk_at dksX0_read_0 11 rfl rfl)
theorem dX0_read_14 : decode cX0_read 14 = .ok (.lreturn, 1) := dk_173 (dk_at dksX0_read_0 14 rfl rfl)
theorem dX0_read_15 : decode cX0_read 15 = .ok (.astore_n 3, 1) := dk_78 (dk_at dksX0_read_0 15 rfl rfl)
theorem dX0_read_16 : decode cX0_read 16 = .ok (.aload_n 0, 1) := dk_42 (dk_at dksX0_read_0 16 rfl rfl)
theorem dX0_read_17 : decode cX0_read 17 = .ok (.iconst 3, 1) := dk_6 (dk_at dksX0_read_0 17 rfl rfl)
theorem dX0_read_18 : decode cX0_read 18 = .ok (.putfield 73, 3) := dk_181 0 73 (dk_at dksX0_read_0 18 rfl rfl)
theorem dX0_read_21 : decode cX0_read 21 = .ok (.ldc2_w 129, 3) := dk_20 0 129 (dk_at dksX0_read_0 21 rfl rfl)
theorem dX0_read_24 : decode cX0_read 24 = .ok (.lreturn, 1) := dk_173 (dk_at dksX0_read_1 0 rfl rfl)
theorem dX0_read_25 : decode cX0_read 25 = .ok (.astore_n 3, 1) := dk_78 (dk_at dksX0_read_1 1 rfl rfl)
theorem dX0_read_26 : decode cX0_read 26 = .ok (.aload_n 0, 1) := dk_42 (dk_at dksX0_read_1 2 rfl rfl)
theorem dX0_read_27 : decode cX0_read 27 = .ok (.aload_n 3, 1) := dk_45 (dk_at dksX0_read_1 3 rfl rfl)
theorem dX0_read_28 : decode cX0_read 28 = .ok (.invokevirtual 131, 3) := dk_182 0 131 (dk_at dksX0_read_1 4 rfl rfl)
theorem dX0_read_31 : decode cX0_read 31 = .ok (.i2l, 1) := dk_133 (dk_at dksX0_read_1 7 rfl rfl)
theorem dX0_read_32 : decode cX0_read 32 = .ok (.lreturn, 1) := dk_173 (dk_at dksX0_read_1 8 rfl rfl)
def dkwX0_number_2 : List UInt8 := [46, 133, 167, 0, 9, 42, 192, 0, 7, 27, 47, 173]
abbrev dktX0_number_2 : List UInt8 := dkwX0_number_2 ++ []
def dkwX0_number_1 : List UInt8 := [42, 192, 0, 3, 77, 44, 27, 53, 133, 173, 42, 193, 0, 5, 153, 0, 15, 42, 192, 0, 5, 77, 44, 27]
abbrev dktX0_number_1 : List UInt8 := dkwX0_number_1 ++ dktX0_number_2
def dkwX0_number_0 : List UInt8 := [42, 193, 0, 1, 153, 0, 13, 42, 192, 0, 1, 77, 44, 27, 51, 133, 173, 42, 193, 0, 3, 153, 0, 13]
abbrev dktX0_number_0 : List UInt8 := dkwX0_number_0 ++ dktX0_number_1
theorem dksX0_number_0 : cX0_number.data.toList.drop 0 = dktX0_number_0 := by decide +kernel
theorem dksX0_number_1 : cX0_number.data.toList.drop 24 = dktX0_number_1 := dk_seg dksX0_number_0 24 rfl rfl
theorem dksX0_number_2 : cX0_number.data.toList.drop 48 = dktX0_number_2 := dk_seg dksX0_number_1 24 rfl rfl
theorem dX0_number_0 : decode cX0_number 0 = .ok (.aload_n 0, 1) := dk_42 (dk_at dksX0_number_0 0 rfl rfl)
theorem dX0_number_1 : decode cX0_number 1 = .ok (.instanceof 1, 3) := dk_193 0 1 (dk_at dksX0_number_0 1 rfl rfl)
theorem dX0_number_4 : decode cX0_number 4 = .ok (.ifCond .eq 13, 3) := dk_153 0 13 (dk_at dksX0_number_0 4 rfl rfl)
theorem dX0_number_7 : decode cX0_number 7 = .ok (.aload_n 0, 1) := dk_42 (dk_at dksX0_number_0 7 rfl rfl)
theorem dX0_number_8 : decode cX0_number 8 = .ok (.checkcast 1, 3) := dk_192 0 1 (dk_at dksX0_number_0 8 rfl rfl)
theorem dX0_number_11 : decode cX0_number 11 = .ok (.astore_n 2, 1) := dk_77 (dk_at dksX0_number_0 11 rfl rfl)
theorem dX0_number_12 : decode cX0_number 12 = .ok (.aload_n 2, 1) := dk_44 (dk_at dksX0_number_0 12 rfl rfl)
theorem dX0_number_13 : decode cX0_number 13 = .ok (.iload_n 1, 1) := dk_27 (dk_at dksX0_number_0 13 rfl rfl)
theorem dX0_number_14 : decode cX0_number 14 = .ok (.baload, 1) := dk_51 (dk_at dksX0_number_0 14 rfl rfl)
theorem dX0_number_15 : decode cX0_number 15 = .ok (.i2l, 1) := dk_133 (dk_at dksX0_number_0 15 rfl rfl)
theorem dX0_number_16 : decode cX0_number 16 = .ok (.lreturn, 1) := dk_173 (dk_at dksX0_number_0 16 rfl rfl)
theorem dX0_number_17 : decode cX0_number 17 = .ok (.aload_n 0, 1) := dk_42 (dk_at dksX0_number_0 17 rfl rfl)
theorem dX0_number_18 : decode cX0_number 18 = .ok (.instanceof 3, 3) := dk_193 0 3 (dk_at dksX0_number_0 18 rfl rfl)
theorem dX0_number_21 : decode cX0_number 21 = .ok (.ifCond .eq 13, 3) := dk_153 0 13 (dk_at dksX0_number_0 21 rfl rfl)
theorem dX0_number_24 : decode cX0_number 24 = .ok (.aload_n 0, 1) := dk_42 (dk_at dksX0_number_1 0 rfl rfl)
theorem dX0_number_25 : decode cX0_number 25 = .ok (.checkcast 3, 3) := dk_192 0 3 (dk_at dksX0_number_1 1 rfl rfl)
theorem dX0_number_28 : decode cX0_number 28 = .ok (.astore_n 2, 1) := dk_77 (dk_at dksX0_number_1 4 rfl rfl)
theorem dX0_number_29 : decode cX0_number 29 = .ok (.aload_n 2, 1) := dk_44 (dk_at dksX0_number_1 5 rfl rfl)
theorem dX0_number_30 : decode cX0_number 30 = .ok (.iload_n 1, 1) := dk_27 (dk_at dksX0_number_1 6 rfl rfl)
theorem dX0_number_31 : decode cX0_number 31 = .ok (.saload, 1) := dk_53 (dk_at dksX0_number_1 7 rfl rfl)
theorem dX0_number_32 : decode cX0_number 32 = .ok (.i2l, 1) := dk_133 (dk_at dksX0_number_1 8 rfl rfl)
theorem dX0_number_33 : decode cX0_number 33 = .ok (.lreturn, 1) := dk_173 (dk_at dksX0_number_1 9 rfl rfl)
theorem dX0_number_34 : decode cX0_number 34 = .ok (.aload_n 0, 1) := dk_42 (dk_at dksX0_number_1 10 rfl rfl)
theorem dX0_number_35 : decode cX0_number 35 = .ok (.instanceof 5, 3) := dk_193 0 5 (dk_at dksX0_number_1 11 rfl rfl)
theorem dX0_number_38 : decode cX0_number 38 = .ok (.ifCond .eq 15, 3) := dk_153 0 15 (dk_at dksX0_number_1 14 rfl rfl)
theorem dX0_number_41 : decode cX0_number 41 = .ok (.aload_n 0, 1) := dk_42 (dk_at dksX0_number_1 17 rfl rfl)
theorem dX0_number_42 : decode cX0_number 42 = .ok (.checkcast 5, 3) := dk_192 0 5 (dk_at dksX0_number_1 18 rfl rfl)
theorem dX0_number_45 : decode cX0_number 45 = .ok (.astore_n 2, 1) := dk_77 (dk_at dksX0_number_1 21 rfl rfl)
theorem dX0_number_46 : decode cX0_number 46 = .ok (.aload_n 2, 1) := dk_44 (dk_at dksX0_number_1 22 rfl rfl)
theorem dX0_number_47 : decode cX0_number 47 = .ok (.iload_n 1, 1) := dk_27 (dk_at dksX0_number_1 23 rfl rfl)
theorem dX0_number_48 : decode cX0_number 48 = .ok (.iaload, 1) := dk_46 (dk_at dksX0_number_2 0 rfl rfl)
theorem dX0_number_49 : decode cX0_number 49 = .ok (.i2l, 1) := dk_133 (dk_at dksX0_number_2 1 rfl rfl)
theorem dX0_number_50 : decode cX0_number 50 = .ok (.goto 9, 3) := dk_167 0 9 (dk_at dksX0_number_2 2 rfl rfl)
theorem dX0_number_53 : decode cX0_number 53 = .ok (.aload_n 0, 1) := dk_42 (dk_at dksX0_number_2 5 rfl rfl)
theorem dX0_number_54 : decode cX0_number 54 = .ok (.checkcast 7, 3) := dk_192 0 7 (dk_at dksX0_number_2 6 rfl rfl)
theorem dX0_number_57 : decode cX0_number 57 = .ok (.iload_n 1, 1) := dk_27 (dk_at dksX0_number_2 9 rfl rfl)
theorem dX0_number_58 : decode cX0_number 58 = .ok (.laload, 1) := dk_47 (dk_at dksX0_number_2 10 rfl rfl)
theorem dX0_number_59 : decode cX0_number 59 = .ok (.lreturn, 1) := dk_173 (dk_at dksX0_number_2 11 rfl rfl)
def dkwX0_none_0 : List UInt8 := [42, 43, 180, 0, 83, 181, 0, 73, 2, 172]
abbrev dktX0_none_0 : List UInt8 := dkwX0_none_0 ++ []
theorem dksX0_none_0 : cX0_none.data.toList.drop 0 = dktX0_none_0 := by decide +kernel
theorem dX0_none_0 : decode cX0_none 0 = .ok (.aload_n 0, 1) := dk_42 (dk_at dksX0_none_0 0 rfl rfl)
theorem dX0_none_1 : decode cX0_none 1 = .ok (.aload_n 1, 1) := dk_43 (dk_at dksX0_none_0 1 rfl rfl)
theorem dX0_none_2 : decode cX0_none 2 = .ok (.getfield 83, 3) := dk_180 0 83 (dk_at dksX0_none_0 2 rfl rfl)
theorem dX0_none_5 : decode cX0_none 5 = .ok (.putfield 73, 3) := dk_181 0 73 (dk_at dksX0_none_0 5 rfl rfl)
theorem dX0_none_8 : decode cX0_none 8 = .ok (.iconst (-1), 1) := dk_2 (dk_at dksX0_none_0 8 rfl rfl)
theorem dX0_none_9 : decode cX0_none 9 = .ok (.ireturn, 1) := dk_172 (dk_at dksX0_none_0 9 rfl rfl)
def dkwX0_pour_5 : List UInt8 := [182, 0, 111, 172]
abbrev dktX0_pour_5 : List UInt8 := dkwX0_pour_5 ++ []
def dkwX0_pour_4 : List UInt8 := [184, 0, 139, 167, 0, 14, 58, 8, 42, 180, 0, 44, 6, 182, 0, 79, 191, 4, 172, 58, 6, 42, 25, 6]
abbrev dktX0_pour_4 : List UInt8 := dkwX0_pour_4 ++ dktX0_pour_5
def dkwX0_pour_3 : List UInt8 := [160, 0, 7, 4, 167, 0, 4, 3, 16, 8, 182, 0, 98, 25, 6, 28, 25, 7, 21, 4, 21, 5]
abbrev dktX0_pour_3 : List UInt8 := dkwX0_pour_3 ++ dktX0_pour_4
def dkwX0_pour_2 : List UInt8 := [27, 182, 0, 115, 58, 6, 42, 29, 182, 0, 115, 58, 7, 42, 25, 6, 184, 0, 135, 25, 7, 184, 0, 135]
abbrev dktX0_pour_2 : List UInt8 := dkwX0_pour_2 ++ dktX0_pour_3
def dkwX0_pour_1 : List UInt8 := [28, 155, 0, 17, 21, 4, 155, 0, 12, 21, 5, 155, 0, 7, 4, 167, 0, 4, 3, 4, 182, 0, 98, 42]
abbrev dktX0_pour_1 : List UInt8 := dkwX0_pour_1 ++ dktX0_pour_2
def dkwX0_pour_0 : List UInt8 := [42, 3, 181, 0, 73, 42, 27, 155, 0, 35, 27, 7, 162, 0, 30, 29, 155, 0, 26, 29, 7, 162, 0, 21]
abbrev dktX0_pour_0 : List UInt8 := dkwX0_pour_0 ++ dktX0_pour_1
theorem dksX0_pour_0 : cX0_pour.data.toList.drop 0 = dktX0_pour_0 := by decide +kernel
theorem dksX0_pour_1 : cX0_pour.data.toList.drop 24 = dktX0_pour_1 := dk_seg dksX0_pour_0 24 rfl rfl
theorem dksX0_pour_2 : cX0_pour.data.toList.drop 48 = dktX0_pour_2 := dk_seg dksX0_pour_1 24 rfl rfl
theorem dksX0_pour_3 : cX0_pour.data.toList.drop 72 = dktX0_pour_3 := dk_seg dksX0_pour_2 24 rfl rfl
theorem dksX0_pour_4 : cX0_pour.data.toList.drop 94 = dktX0_pour_4 := dk_seg dksX0_pour_3 22 rfl rfl
theorem dksX0_pour_5 : cX0_pour.data.toList.drop 118 = dktX0_pour_5 := dk_seg dksX0_pour_4 24 rfl rfl
theorem dX0_pour_0 : decode cX0_pour 0 = .ok (.aload_n 0, 1) := dk_42 (dk_at dksX0_pour_0 0 rfl rfl)
theorem dX0_pour_1 : decode cX0_pour 1 = .ok (.iconst 0, 1) := dk_3 (dk_at dksX0_pour_0 1 rfl rfl)
theorem dX0_pour_2 : decode cX0_pour 2 = .ok (.putfield 73, 3) := dk_181 0 73 (dk_at dksX0_pour_0 2 rfl rfl)
theorem dX0_pour_5 : decode cX0_pour 5 = .ok (.aload_n 0, 1) := dk_42 (dk_at dksX0_pour_0 5 rfl rfl)
theorem dX0_pour_6 : decode cX0_pour 6 = .ok (.iload_n 1, 1) := dk_27 (dk_at dksX0_pour_0 6 rfl rfl)
theorem dX0_pour_7 : decode cX0_pour 7 = .ok (.ifCond .lt 35, 3) := dk_155 0 35 (dk_at dksX0_pour_0 7 rfl rfl)
theorem dX0_pour_10 : decode cX0_pour 10 = .ok (.iload_n 1, 1) := dk_27 (dk_at dksX0_pour_0 10 rfl rfl)
theorem dX0_pour_11 : decode cX0_pour 11 = .ok (.iconst 4, 1) := dk_7 (dk_at dksX0_pour_0 11 rfl rfl)
theorem dX0_pour_12 : decode cX0_pour 12 = .ok (.if_icmp .ge 30, 3) := dk_162 0 30 (dk_at dksX0_pour_0 12 rfl rfl)
theorem dX0_pour_15 : decode cX0_pour 15 = .ok (.iload_n 3, 1) := dk_29 (dk_at dksX0_pour_0 15 rfl rfl)
theorem dX0_pour_16 : decode cX0_pour 16 = .ok (.ifCond .lt 26, 3) := dk_155 0 26 (dk_at dksX0_pour_0 16 rfl rfl)
theorem dX0_pour_19 : decode cX0_pour 19 = .ok (.iload_n 3, 1) := dk_29 (dk_at dksX0_pour_0 19 rfl rfl)
theorem dX0_pour_20 : decode cX0_pour 20 = .ok (.iconst 4, 1) := dk_7 (dk_at dksX0_pour_0 20 rfl rfl)
theorem dX0_pour_21 : decode cX0_pour 21 = .ok (.if_icmp .ge 21, 3) := dk_162 0 21 (dk_at dksX0_pour_0 21 rfl rfl)
theorem dX0_pour_24 : decode cX0_pour 24 = .ok (.iload_n 2, 1) := dk_28 (dk_at dksX0_pour_1 0 rfl rfl)
theorem dX0_pour_25 : decode cX0_pour 25 = .ok (.ifCond .lt 17, 3) := dk_155 0 17 (dk_at dksX0_pour_1 1 rfl rfl)
theorem dX0_pour_28 : decode cX0_pour 28 = .ok (.iload 4, 2) := dk_21 4 (dk_at dksX0_pour_1 4 rfl rfl)
theorem dX0_pour_30 : decode cX0_pour 30 = .ok (.ifCond .lt 12, 3) := dk_155 0 12 (dk_at dksX0_pour_1 6 rfl rfl)
theorem dX0_pour_33 : decode cX0_pour 33 = .ok (.iload 5, 2) := dk_21 5 (dk_at dksX0_pour_1 9 rfl rfl)
theorem dX0_pour_35 : decode cX0_pour 35 = .ok (.ifCond .lt 7, 3) := dk_155 0 7 (dk_at dksX0_pour_1 11 rfl rfl)
theorem dX0_pour_38 : decode cX0_pour 38 = .ok (.iconst 1, 1) := dk_4 (dk_at dksX0_pour_1 14 rfl rfl)
theorem dX0_pour_39 : decode cX0_pour 39 = .ok (.goto 4, 3) := dk_167 0 4 (dk_at dksX0_pour_1 15 rfl rfl)
theorem dX0_pour_42 : decode cX0_pour 42 = .ok (.iconst 0, 1) := dk_3 (dk_at dksX0_pour_1 18 rfl rfl)
theorem dX0_pour_43 : decode cX0_pour 43 = .ok (.iconst 1, 1) := dk_4 (dk_at dksX0_pour_1 19 rfl rfl)
theorem dX0_pour_44 : decode cX0_pour 44 = .ok (.invokevirtual 98, 3) := dk_182 0 98 (dk_at dksX0_pour_1 20 rfl rfl)
theorem dX0_pour_47 : decode cX0_pour 47 = .ok (.aload_n 0, 1) := dk_42 (dk_at dksX0_pour_1 23 rfl rfl)
theorem dX0_pour_48 : decode cX0_pour 48 = .ok (.iload_n 1, 1) := dk_27 (dk_at dksX0_pour_2 0 rfl rfl)
theorem dX0_pour_49 : decode cX0_pour 49 = .ok (.invokevirtual 115, 3) := dk_182 0 115 (dk_at dksX0_pour_2 1 rfl rfl)
theorem dX0_pour_52 : decode cX0_pour 52 = .ok (.astore 6, 2) := dk_58 6 (dk_at dksX0_pour_2 4 rfl rfl)
theorem dX0_pour_54 : decode cX0_pour 54 = .ok (.aload_n 0, 1) := dk_42 (dk_at dksX0_pour_2 6 rfl rfl)
theorem dX0_pour_55 : decode cX0_pour 55 = .ok (.iload_n 3, 1) := dk_29 (dk_at dksX0_pour_2 7 rfl rfl)
theorem dX0_pour_56 : decode cX0_pour 56 = .ok (.invokevirtual 115, 3) := dk_182 0 115 (dk_at dksX0_pour_2 8 rfl rfl)
theorem dX0_pour_59 : decode cX0_pour 59 = .ok (.astore 7, 2) := dk_58 7 (dk_at dksX0_pour_2 11 rfl rfl)
theorem dX0_pour_61 : decode cX0_pour 61 = .ok (.aload_n 0, 1) := dk_42 (dk_at dksX0_pour_2 13 rfl rfl)
theorem dX0_pour_62 : decode cX0_pour 62 = .ok (.aload 6, 2) := dk_25 6 (dk_at dksX0_pour_2 14 rfl rfl)
theorem dX0_pour_64 : decode cX0_pour 64 = .ok (.invokestatic 135, 3) := dk_184 0 135 (dk_at dksX0_pour_2 16 rfl rfl)
theorem dX0_pour_67 : decode cX0_pour 67 = .ok (.aload 7, 2) := dk_25 7 (dk_at dksX0_pour_2 19 rfl rfl)
theorem dX0_pour_69 : decode cX0_pour 69 = .ok (.invokestatic 135, 3) := dk_184 0 135 (dk_at dksX0_pour_2 21 rfl rfl)
theorem dX0_pour_72 : decode cX0_pour 72 = .ok (.if_icmp .ne 7, 3) := dk_160 0 7 (dk_at dksX0_pour_3 0 rfl rfl)
theorem dX0_pour_75 : decode cX0_pour 75 = .ok (.iconst 1, 1) := dk_4 (dk_at dksX0_pour_3 3 rfl rfl)
theorem dX0_pour_76 : decode cX0_pour 76 = .ok (.goto 4, 3) := dk_167 0 4 (dk_at dksX0_pour_3 4 rfl rfl)
theorem dX0_pour_79 : decode cX0_pour 79 = .ok (.iconst 0, 1) := dk_3 (dk_at dksX0_pour_3 7 rfl rfl)
theorem dX0_pour_80 : decode cX0_pour 80 = .ok (.bipush 8, 2) := dk_16 8 (dk_at dksX0_pour_3 8 rfl rfl)
theorem dX0_pour_82 : decode cX0_pour 82 = .ok (.invokevirtual 98, 3) := dk_182 0 98 (dk_at dksX0_pour_3 10 rfl rfl)
theorem dX0_pour_85 : decode cX0_pour 85 = .ok (.aload 6, 2) := dk_25 6 (dk_at dksX0_pour_3 13 rfl rfl)
theorem dX0_pour_87 : decode cX0_pour 87 = .ok (.iload_n 2, 1) := dk_28 (dk_at dksX0_pour_3 15 rfl rfl)
theorem dX0_pour_88 : decode cX0_pour 88 = .ok (.aload 7, 2) := dk_25 7 (dk_at dksX0_pour_3 16 rfl rfl)
theorem dX0_pour_90 : decode cX0_pour 90 = .ok (.iload 4, 2) := dk_21 4 (dk_at dksX0_pour_3 18 rfl rfl)
theorem dX0_pour_92 : decode cX0_pour 92 = .ok (.iload 5, 2) := dk_21 5 (dk_at dksX0_pour_3 20 rfl rfl)
theorem dX0_pour_94 : decode cX0_pour 94 = .ok (.invokestatic 139, 3) := dk_184 0 139 (dk_at dksX0_pour_4 0 rfl rfl)
theorem dX0_pour_97 : decode cX0_pour 97 = .ok (.goto 14, 3) := dk_167 0 14 (dk_at dksX0_pour_4 3 rfl rfl)
theorem dX0_pour_100 : decode cX0_pour 100 = .ok (.astore 8, 2) := dk_58 8 (dk_at dksX0_pour_4 6 rfl rfl)
theorem dX0_pour_102 : decode cX0_pour 102 = .ok (.aload_n 0, 1) := dk_42 (dk_at dksX0_pour_4 8 rfl rfl)
theorem dX0_pour_103 : decode cX0_pour 103 = .ok (.getfield 44, 3) := dk_180 0 44 (dk_at dksX0_pour_4 9 rfl rfl)
theorem dX0_pour_106 : decode cX0_pour 106 = .ok (.iconst 3, 1) := dk_6 (dk_at dksX0_pour_4 12 rfl rfl)
theorem dX0_pour_107 : decode cX0_pour 107 = .ok (.invokevirtual 79, 3) := dk_182 0 79 (dk_at dksX0_pour_4 13 rfl rfl)
theorem dX0_pour_110 : decode cX0_pour 110 = .ok (.athrow, 1) := dk_191 (dk_at dksX0_pour_4 16 rfl rfl)
theorem dX0_pour_111 : decode cX0_pour 111 = .ok (.iconst 1, 1) := dk_4 (dk_at dksX0_pour_4 17 rfl rfl)
theorem dX0_pour_112 : decode cX0_pour 112 = .ok (.ireturn, 1) := dk_172 (dk_at dksX0_pour_4 18 rfl rfl)
theorem dX0_pour_113 : decode cX0_pour 113 = .ok (.astore 6, 2) := dk_58 6 (dk_at dksX0_pour_4 19 rfl rfl)
theorem dX0_pour_115 : decode cX0_pour 115 = .ok (.aload_n 0, 1) := dk_42 (dk_at dksX0_pour_4 21 rfl rfl)
theorem dX0_pour_116 : decode cX0_pour 116 = .ok (.aload 6, 2) := dk_25 6 (dk_at dksX0_pour_4 22 rfl rfl)
theorem dX0_pour_118 : decode cX0_pour 118 = .ok (.invokevirtual 111, 3) := dk_182 0 111 (dk_at dksX0_pour_5 0 rfl rfl)
theorem dX0_pour_121 : decode cX0_pour 121 = .ok (.ireturn, 1) := dk_172 (dk_at dksX0_pour_5 3 rfl rfl)
def dkwX0_sortOf_1 : List UInt8 := [193, 0, 5, 153, 0, 7, 5, 167, 0, 4, 6, 172]
abbrev dktX0_sortOf_1 : List UInt8 := dkwX0_sortOf_1 ++ []
def dkwX0_sortOf_0 : List UInt8 := [42, 193, 0, 1, 153, 0, 7, 3, 167, 0, 26, 42, 193, 0, 3, 153, 0, 7, 4, 167, 0, 15, 42]
abbrev dktX0_sortOf_0 : List UInt8 := dkwX0_sortOf_0 ++ dktX0_sortOf_1
theorem dksX0_sortOf_0 : cX0_sortOf.data.toList.drop 0 = dktX0_sortOf_0 := by decide +kernel
theorem dksX0_sortOf_1 : cX0_sortOf.data.toList.drop 23 = dktX0_sortOf_1 := dk_seg dksX0_sortOf_0 23 rfl rfl
theorem dX0_sortOf_0 : decode cX0_sortOf 0 = .ok (.aload_n 0, 1) := dk_42 (dk_at dksX0_sortOf_0 0 rfl rfl)
theorem dX0_sortOf_1 : decode cX0_sortOf 1 = .ok (.instanceof 1, 3) := dk_193 0 1 (dk_at dksX0_sortOf_0 1 rfl rfl)
theorem dX0_sortOf_4 : decode cX0_sortOf 4 = .ok (.ifCond .eq 7, 3) := dk_153 0 7 (dk_at dksX0_sortOf_0 4 rfl rfl)
theorem dX0_sortOf_7 : decode cX0_sortOf 7 = .ok (.iconst 0, 1) := dk_3 (dk_at dksX0_sortOf_0 7 rfl rfl)
theorem dX0_sortOf_8 : decode cX0_sortOf 8 = .ok (.goto 26, 3) := dk_167 0 26 (dk_at dksX0_sortOf_0 8 rfl rfl)
theorem dX0_sortOf_11 : decode cX0_sortOf 11 = .ok (.aload_n 0, 1) := dk_42 (dk_at dksX0_sortOf_0 11 rfl rfl)
theorem dX0_sortOf_12 : decode cX0_sortOf 12 = .ok (.instanceof 3, 3) := dk_193 0 3 (dk_at dksX0_sortOf_0 12 rfl rfl)
theorem dX0_sortOf_15 : decode cX0_sortOf 15 = .ok (.ifCond .eq 7, 3) := dk_153 0 7 (dk_at dksX0_sortOf_0 15 rfl rfl)
theorem dX0_sortOf_18 : decode cX0_sortOf 18 = .ok (.iconst 1, 1) := dk_4 (dk_at dksX0_sortOf_0 18 rfl rfl)
theorem dX0_sortOf_19 : decode cX0_sortOf 19 = .ok (.goto 15, 3) := dk_167 0 15 (dk_at dksX0_sortOf_0 19 rfl rfl)
theorem dX0_sortOf_22 : decode cX0_sortOf 22 = .ok (.aload_n 0, 1) := dk_42 (dk_at dksX0_sortOf_0 22 rfl rfl)
theorem dX0_sortOf_23 : decode cX0_sortOf 23 = .ok (.instanceof 5, 3) := dk_193 0 5 (dk_at dksX0_sortOf_1 0 rfl rfl)
theorem dX0_sortOf_26 : decode cX0_sortOf 26 = .ok (.ifCond .eq 7, 3) := dk_153 0 7 (dk_at dksX0_sortOf_1 3 rfl rfl)
theorem dX0_sortOf_29 : decode cX0_sortOf 29 = .ok (.iconst 2, 1) := dk_5 (dk_at dksX0_sortOf_1 6 rfl rfl)
theorem dX0_sortOf_30 : decode cX0_sortOf 30 = .ok (.goto 4, 3) := dk_167 0 4 (dk_at dksX0_sortOf_1 7 rfl rfl)
theorem dX0_sortOf_33 : decode cX0_sortOf 33 = .ok (.iconst 3, 1) := dk_6 (dk_at dksX0_sortOf_1 10 rfl rfl)
theorem dX0_sortOf_34 : decode cX0_sortOf 34 = .ok (.ireturn, 1) := dk_172 (dk_at dksX0_sortOf_1 11 rfl rfl)
def dkwX0_feed_2 : List UInt8 := [172]
abbrev dktX0_feed_2 : List UInt8 := dkwX0_feed_2 ++ []
def dkwX0_feed_1 : List UInt8 := [182, 0, 193, 42, 29, 182, 0, 193, 42, 21, 4, 182, 0, 193, 42, 21, 5, 182, 0, 193, 42, 180, 0, 190]
abbrev dktX0_feed_1 : List UInt8 := dkwX0_feed_1 ++ dktX0_feed_2
def dkwX0_feed_0 : List UInt8 := [42, 180, 0, 190, 16, 20, 96, 17, 3, 132, 164, 0, 5, 2, 172, 42, 27, 182, 0, 193, 42, 28]
abbrev dktX0_feed_0 : List UInt8 := dkwX0_feed_0 ++ dktX0_feed_1
theorem dksX0_feed_0 : cX0_feed.data.toList.drop 0 = dktX0_feed_0 := by decide +kernel
theorem dksX0_feed_1 : cX0_feed.data.toList.drop 22 = dktX0_feed_1 := dk_seg dksX0_feed_0 22 rfl rfl
theorem dksX0_feed_2 : cX0_feed.data.toList.drop 46 = dktX0_feed_2 := dk_seg dksX0_feed_1 24 rfl rfl
theorem dX0_feed_0 : decode cX0_feed 0 = .ok (.aload_n 0, 1) := dk_42 (dk_at dksX0_feed_0 0 rfl rfl)
theorem dX0_feed_1 : decode cX0_feed 1 = .ok (.getfield 190, 3) := dk_180 0 190 (dk_at dksX0_feed_0 1 rfl rfl)
theorem dX0_feed_4 : decode cX0_feed 4 = .ok (.bipush 20, 2) := dk_16 20 (dk_at dksX0_feed_0 4 rfl rfl)
theorem dX0_feed_6 : decode cX0_feed 6 = .ok (.iadd, 1) := dk_96 (dk_at dksX0_feed_0 6 rfl rfl)
theorem dX0_feed_7 : decode cX0_feed 7 = .ok (.sipush 900, 3) := dk_17 3 132 (dk_at dksX0_feed_0 7 rfl rfl)
theorem dX0_feed_10 : decode cX0_feed 10 = .ok (.if_icmp .le 5, 3) := dk_164 0 5 (dk_at dksX0_feed_0 10 rfl rfl)
theorem dX0_feed_13 : decode cX0_feed 13 = .ok (.iconst (-1), 1) := dk_2 (dk_at dksX0_feed_0 13 rfl rfl)
theorem dX0_feed_14 : decode cX0_feed 14 = .ok (.ireturn, 1) := dk_172 (dk_at dksX0_feed_0 14 rfl rfl)
theorem dX0_feed_15 : decode cX0_feed 15 = .ok (.aload_n 0, 1) := dk_42 (dk_at dksX0_feed_0 15 rfl rfl)
theorem dX0_feed_16 : decode cX0_feed 16 = .ok (.iload_n 1, 1) := dk_27 (dk_at dksX0_feed_0 16 rfl rfl)
theorem dX0_feed_17 : decode cX0_feed 17 = .ok (.invokevirtual 193, 3) := dk_182 0 193 (dk_at dksX0_feed_0 17 rfl rfl)
theorem dX0_feed_20 : decode cX0_feed 20 = .ok (.aload_n 0, 1) := dk_42 (dk_at dksX0_feed_0 20 rfl rfl)
theorem dX0_feed_21 : decode cX0_feed 21 = .ok (.iload_n 2, 1) := dk_28 (dk_at dksX0_feed_0 21 rfl rfl)
theorem dX0_feed_22 : decode cX0_feed 22 = .ok (.invokevirtual 193, 3) := dk_182 0 193 (dk_at dksX0_feed_1 0 rfl rfl)
theorem dX0_feed_25 : decode cX0_feed 25 = .ok (.aload_n 0, 1) := dk_42 (dk_at dksX0_feed_1 3 rfl rfl)
theorem dX0_feed_26 : decode cX0_feed 26 = .ok (.iload_n 3, 1) := dk_29 (dk_at dksX0_feed_1 4 rfl rfl)
theorem dX0_feed_27 : decode cX0_feed 27 = .ok (.invokevirtual 193, 3) := dk_182 0 193 (dk_at dksX0_feed_1 5 rfl rfl)
theorem dX0_feed_30 : decode cX0_feed 30 = .ok (.aload_n 0, 1) := dk_42 (dk_at dksX0_feed_1 8 rfl rfl)
theorem dX0_feed_31 : decode cX0_feed 31 = .ok (.iload 4, 2) := dk_21 4 (dk_at dksX0_feed_1 9 rfl rfl)
theorem dX0_feed_33 : decode cX0_feed 33 = .ok (.invokevirtual 193, 3) := dk_182 0 193 (dk_at dksX0_feed_1 11 rfl rfl)
theorem dX0_feed_36 : decode cX0_feed 36 = .ok (.aload_n 0, 1) := dk_42 (dk_at dksX0_feed_1 14 rfl rfl)
theorem dX0_feed_37 : decode cX0_feed 37 = .ok (.iload 5, 2) := dk_21 5 (dk_at dksX0_feed_1 15 rfl rfl)
theorem dX0_feed_39 : decode cX0_feed 39 = .ok (.invokevirtual 193, 3) := dk_182 0 193 (dk_at dksX0_feed_1 17 rfl rfl)
theorem dX0_feed_42 : decode cX0_feed 42 = .ok (.aload_n 0, 1) := dk_42 (dk_at dksX0_feed_1 20 rfl rfl)
theorem dX0_feed_43 : decode cX0_feed 43 = .ok (.getfield 190, 3) := dk_180 0 190 (dk_at dksX0_feed_1 21 rfl rfl)
theorem dX0_feed_46 : decode cX0_feed 46 = .ok (.ireturn, 1) := dk_172 (dk_at dksX0_feed_2 0 rfl rfl)
def dkwX0_lay_1 : List UInt8 := [180, 0, 190, 4, 96, 181, 0, 190, 132, 2, 248, 167, 255, 226, 177]
abbrev dktX0_lay_1 : List UInt8 := dkwX0_lay_1 ++ []
def dkwX0_lay_0 : List UInt8 := [16, 24, 61, 28, 155, 0, 32, 42, 180, 0, 24, 42, 180, 0, 190, 27, 28, 122, 145, 84, 42, 89]
abbrev dktX0_lay_0 : List UInt8 := dkwX0_lay_0 ++ dktX0_lay_1
theorem dksX0_lay_0 : cX0_lay.data.toList.drop 0 = dktX0_lay_0 := by decide +kernel
theorem dksX0_lay_1 : cX0_lay.data.toList.drop 22 = dktX0_lay_1 := dk_seg dksX0_lay_0 22 rfl rfl
theorem dX0_lay_0 : decode cX0_lay 0 = .ok (.bipush 24, 2) := dk_16 24 (dk_at dksX0_lay_0 0 rfl rfl)
theorem dX0_lay_2 : decode cX0_lay 2 = .ok (.istore_n 2, 1) := dk_61 (dk_at dksX0_lay_0 2 rfl rfl)
theorem dX0_lay_3 : decode cX0_lay 3 = .ok (.iload_n 2, 1) := dk_28 (dk_at dksX0_lay_0 3 rfl rfl)
theorem dX0_lay_4 : decode cX0_lay 4 = .ok (.ifCond .lt 32, 3) := dk_155 0 32 (dk_at dksX0_lay_0 4 rfl rfl)
theorem dX0_lay_7 : decode cX0_lay 7 = .ok (.aload_n 0, 1) := dk_42 (dk_at dksX0_lay_0 7 rfl rfl)
theorem dX0_lay_8 : decode cX0_lay 8 = .ok (.getfield 24, 3) := dk_180 0 24 (dk_at dksX0_lay_0 8 rfl rfl)
theorem dX0_lay_11 : decode cX0_lay 11 = .ok (.aload_n 0, 1) := dk_42 (dk_at dksX0_lay_0 11 rfl rfl)
theorem dX0_lay_12 : decode cX0_lay 12 = .ok (.getfield 190, 3) := dk_180 0 190 (dk_at dksX0_lay_0 12 rfl rfl)
theorem dX0_lay_15 : decode cX0_lay 15 = .ok (.iload_n 1, 1) := dk_27 (dk_at dksX0_lay_0 15 rfl rfl)
theorem dX0_lay_16 : decode cX0_lay 16 = .ok (.iload_n 2, 1) := dk_28 (dk_at dksX0_lay_0 16 rfl rfl)
theorem dX0_lay_17 : decode cX0_lay 17 = .ok (.ishr, 1) := dk_122 (dk_at dksX0_lay_0 17 rfl rfl)
theorem dX0_lay_18 : decode cX0_lay 18 = .ok (.i2b, 1) := dk_145 (dk_at dksX0_lay_0 18 rfl rfl)
theorem dX0_lay_19 : decode cX0_lay 19 = .ok (.bastore, 1) := dk_84 (dk_at dksX0_lay_0 19 rfl rfl)
theorem dX0_lay_20 : decode cX0_lay 20 = .ok (.aload_n 0, 1) := dk_42 (dk_at dksX0_lay_0 20 rfl rfl)
theorem dX0_lay_21 : decode cX0_lay 21 = .ok (.dup, 1) := dk_89 (dk_at dksX0_lay_0 21 rfl rfl)
theorem dX0_lay_22 : decode cX0_lay 22 = .ok (.getfield 190, 3) := dk_180 0 190 (dk_at dksX0_lay_1 0 rfl rfl)
theorem dX0_lay_25 : decode cX0_lay 25 = .ok (.iconst 1, 1) := dk_4 (dk_at dksX0_lay_1 3 rfl rfl)
theorem dX0_lay_26 : decode cX0_lay 26 = .ok (.iadd, 1) := dk_96 (dk_at dksX0_lay_1 4 rfl rfl)
theorem dX0_lay_27 : decode cX0_lay 27 = .ok (.putfield 190, 3) := dk_181 0 190 (dk_at dksX0_lay_1 5 rfl rfl)
theorem dX0_lay_30 : decode cX0_lay 30 = .ok (.iinc 2 (-8), 3) := dk_132 2 248 (dk_at dksX0_lay_1 8 rfl rfl)
theorem dX0_lay_33 : decode cX0_lay 33 = .ok (.goto (-30), 3) := dk_167 255 226 (dk_at dksX0_lay_1 11 rfl rfl)
theorem dX0_lay_36 : decode cX0_lay 36 = .ok (.return_, 1) := dk_177 (dk_at dksX0_lay_1 14 rfl rfl)
def dkwX0_yard_2 : List UInt8 := [180, 0, 55, 1, 181, 0, 218, 44, 180, 0, 161, 172, 77, 42, 44, 182, 0, 222, 172]
abbrev dktX0_yard_2 : List UInt8 := dkwX0_yard_2 ++ []
def dkwX0_yard_1 : List UInt8 := [89, 42, 27, 183, 0, 209, 44, 182, 0, 212, 42, 180, 0, 55, 180, 0, 147, 44, 182, 0, 215, 42]
abbrev dktX0_yard_1 : List UInt8 := dkwX0_yard_1 ++ dktX0_yard_2
def dkwX0_yard_0 : List UInt8 := [42, 27, 17, 3, 132, 182, 0, 203, 154, 0, 5, 2, 172, 187, 0, 63, 89, 183, 0, 65, 77, 187, 0, 207]
abbrev dktX0_yard_0 : List UInt8 := dkwX0_yard_0 ++ dktX0_yard_1
theorem dksX0_yard_0 : cX0_yard.data.toList.drop 0 = dktX0_yard_0 := by decide +kernel
theorem dksX0_yard_1 : cX0_yard.data.toList.drop 24 = dktX0_yard_1 := dk_seg dksX0_yard_0 24 rfl rfl
theorem dksX0_yard_2 : cX0_yard.data.toList.drop 46 = dktX0_yard_2 := dk_seg dksX0_yard_1 22 rfl rfl
theorem dX0_yard_0 : decode cX0_yard 0 = .ok (.aload_n 0, 1) := dk_42 (dk_at dksX0_yard_0 0 rfl rfl)
theorem dX0_yard_1 : decode cX0_yard 1 = .ok (.iload_n 1, 1) := dk_27 (dk_at dksX0_yard_0 1 rfl rfl)
theorem dX0_yard_2 : decode cX0_yard 2 = .ok (.sipush 900, 3) := dk_17 3 132 (dk_at dksX0_yard_0 2 rfl rfl)
theorem dX0_yard_5 : decode cX0_yard 5 = .ok (.invokevirtual 203, 3) := dk_182 0 203 (dk_at dksX0_yard_0 5 rfl rfl)
theorem dX0_yard_8 : decode cX0_yard 8 = .ok (.ifCond .ne 5, 3) := dk_154 0 5 (dk_at dksX0_yard_0 8 rfl rfl)
theorem dX0_yard_11 : decode cX0_yard 11 = .ok (.iconst (-1), 1) := dk_2 (dk_at dksX0_yard_0 11 rfl rfl)
theorem dX0_yard_12 : decode cX0_yard 12 = .ok (.ireturn, 1) := dk_172 (dk_at dksX0_yard_0 12 rfl rfl)
theorem dX0_yard_13 : decode cX0_yard 13 = .ok (.new 63, 3) := dk_187 0 63 (dk_at dksX0_yard_0 13 rfl rfl)
theorem dX0_yard_16 : decode cX0_yard 16 = .ok (.dup, 1) := dk_89 (dk_at dksX0_yard_0 16 rfl rfl)
theorem dX0_yard_17 : decode cX0_yard 17 = .ok (.invokespecial 65, 3) := dk_183 0 65 (dk_at dksX0_yard_0 17 rfl rfl)
theorem dX0_yard_20 : decode cX0_yard 20 = .ok (.astore_n 2, 1) := dk_77 (dk_at dksX0_yard_0 20 rfl rfl)
theorem dX0_yard_21 : decode cX0_yard 21 = .ok (.new 207, 3) := dk_187 0 207 (dk_at dksX0_yard_0 21 rfl rfl)
theorem dX0_yard_24 : decode cX0_yard 24 = .ok (.dup, 1) := dk_89 (dk_at dksX0_yard_1 0 rfl rfl)
theorem dX0_yard_25 : decode cX0_yard 25 = .ok (.aload_n 0, 1) := dk_42 (dk_at dksX0_yard_1 1 rfl rfl)
theorem dX0_yard_26 : decode cX0_yard 26 = .ok (.iload_n 1, 1) := dk_27 (dk_at dksX0_yard_1 2 rfl rfl)
theorem dX0_yard_27 : decode cX0_yard 27 = .ok (.invokespecial 209, 3) := dk_183 0 209 (dk_at dksX0_yard_1 3 rfl rfl)
theorem dX0_yard_30 : decode cX0_yard 30 = .ok (.aload_n 2, 1) := dk_44 (dk_at dksX0_yard_1 6 rfl rfl)
theorem dX0_yard_31 : decode cX0_yard 31 = .ok (.invokevirtual 212, 3) := dk_182 0 212 (dk_at dksX0_yard_1 7 rfl rfl)
theorem dX0_yard_34 : decode cX0_yard 34 = .ok (.aload_n 0, 1) := dk_42 (dk_at dksX0_yard_1 10 rfl rfl)
theorem dX0_yard_35 : decode cX0_yard 35 = .ok (.getfield 55, 3) := dk_180 0 55 (dk_at dksX0_yard_1 11 rfl rfl)
theorem dX0_yard_38 : decode cX0_yard 38 = .ok (.getfield 147, 3) := dk_180 0 147 (dk_at dksX0_yard_1 14 rfl rfl)
theorem dX0_yard_41 : decode cX0_yard 41 = .ok (.aload_n 2, 1) := dk_44 (dk_at dksX0_yard_1 17 rfl rfl)
theorem dX0_yard_42 : decode cX0_yard 42 = .ok (.invokevirtual 215, 3) := dk_182 0 215 (dk_at dksX0_yard_1 18 rfl rfl)
theorem dX0_yard_45 : decode cX0_yard 45 = .ok (.aload_n 0, 1) := dk_42 (dk_at dksX0_yard_1 21 rfl rfl)
theorem dX0_yard_46 : decode cX0_yard 46 = .ok (.getfield 55, 3) := dk_180 0 55 (dk_at dksX0_yard_2 0 rfl rfl)
theorem dX0_yard_49 : decode cX0_yard 49 = .ok (.aconst_null, 1) := dk_1 (dk_at dksX0_yard_2 3 rfl rfl)
theorem dX0_yard_50 : decode cX0_yard 50 = .ok (.putfield 218, 3) := dk_181 0 218 (dk_at dksX0_yard_2 4 rfl rfl)
theorem dX0_yard_53 : decode cX0_yard 53 = .ok (.aload_n 2, 1) := dk_44 (dk_at dksX0_yard_2 7 rfl rfl)
theorem dX0_yard_54 : decode cX0_yard 54 = .ok (.getfield 161, 3) := dk_180 0 161 (dk_at dksX0_yard_2 8 rfl rfl)
theorem dX0_yard_57 : decode cX0_yard 57 = .ok (.ireturn, 1) := dk_172 (dk_at dksX0_yard_2 11 rfl rfl)
theorem dX0_yard_58 : decode cX0_yard 58 = .ok (.astore_n 2, 1) := dk_77 (dk_at dksX0_yard_2 12 rfl rfl)
theorem dX0_yard_59 : decode cX0_yard 59 = .ok (.aload_n 0, 1) := dk_42 (dk_at dksX0_yard_2 13 rfl rfl)
theorem dX0_yard_60 : decode cX0_yard 60 = .ok (.aload_n 2, 1) := dk_44 (dk_at dksX0_yard_2 14 rfl rfl)
theorem dX0_yard_61 : decode cX0_yard 61 = .ok (.invokevirtual 222, 3) := dk_182 0 222 (dk_at dksX0_yard_2 15 rfl rfl)
theorem dX0_yard_64 : decode cX0_yard 64 = .ok (.ireturn, 1) := dk_172 (dk_at dksX0_yard_2 18 rfl rfl)
def dkwX0_opens_2 : List UInt8 := [181, 0, 31, 4, 172]
abbrev dktX0_opens_2 : List UInt8 := dkwX0_opens_2 ++ []
def dkwX0_opens_1 : List UInt8 := [181, 0, 73, 42, 180, 0, 73, 158, 0, 5, 3, 172, 42, 3, 181, 0, 190, 42, 3, 181, 0, 27, 42, 2]
abbrev dktX0_opens_1 : List UInt8 := dkwX0_opens_1 ++ dktX0_opens_2
def dkwX0_opens_0 : List UInt8 := [42, 27, 155, 0, 16, 27, 42, 180, 0, 190, 163, 0, 8, 27, 28, 164, 0, 7, 4, 167, 0, 4, 3]
abbrev dktX0_opens_0 : List UInt8 := dkwX0_opens_0 ++ dktX0_opens_1
theorem dksX0_opens_0 : cX0_opens.data.toList.drop 0 = dktX0_opens_0 := by decide +kernel
theorem dksX0_opens_1 : cX0_opens.data.toList.drop 23 = dktX0_opens_1 := dk_seg dksX0_opens_0 23 rfl rfl
theorem dksX0_opens_2 : cX0_opens.data.toList.drop 47 = dktX0_opens_2 := dk_seg dksX0_opens_1 24 rfl rfl
theorem dX0_opens_0 : decode cX0_opens 0 = .ok (.aload_n 0, 1) := dk_42 (dk_at dksX0_opens_0 0 rfl rfl)
theorem dX0_opens_1 : decode cX0_opens 1 = .ok (.iload_n 1, 1) := dk_27 (dk_at dksX0_opens_0 1 rfl rfl)
theorem dX0_opens_2 : decode cX0_opens 2 = .ok (.ifCond .lt 16, 3) := dk_155 0 16 (dk_at dksX0_opens_0 2 rfl rfl)
theorem dX0_opens_5 : decode cX0_opens 5 = .ok (.iload_n 1, 1) := dk_27 (dk_at dksX0_opens_0 5 rfl rfl)
theorem dX0_opens_6 : decode cX0_opens 6 = .ok (.aload_n 0, 1) := dk_42 (dk_at dksX0_opens_0 6 rfl rfl)
theorem dX0_opens_7 : decode cX0_opens 7 = .ok (.getfield 190, 3) := dk_180 0 190 (dk_at dksX0_opens_0 7 rfl rfl)
theorem dX0_opens_10 : decode cX0_opens 10 = .ok (.if_icmp .gt 8, 3) := dk_163 0 8 (dk_at dksX0_opens_0 10 rfl rfl)
theorem dX0_opens_13 : decode cX0_opens 13 = .ok (.iload_n 1, 1) := dk_27 (dk_at dksX0_opens_0 13 rfl rfl)
theorem dX0_opens_14 : decode cX0_opens 14 = .ok (.iload_n 2, 1) := dk_28 (dk_at dksX0_opens_0 14 rfl rfl)
theorem dX0_opens_15 : decode cX0_opens 15 = .ok (.if_icmp .le 7, 3) := dk_164 0 7 (dk_at dksX0_opens_0 15 rfl rfl)
theorem dX0_opens_18 : decode cX0_opens 18 = .ok (.iconst 1, 1) := dk_4 (dk_at dksX0_opens_0 18 rfl rfl)
theorem dX0_opens_19 : decode cX0_opens 19 = .ok (.goto 4, 3) := dk_167 0 4 (dk_at dksX0_opens_0 19 rfl rfl)
theorem dX0_opens_22 : decode cX0_opens 22 = .ok (.iconst 0, 1) := dk_3 (dk_at dksX0_opens_0 22 rfl rfl)
theorem dX0_opens_23 : decode cX0_opens 23 = .ok (.putfield 73, 3) := dk_181 0 73 (dk_at dksX0_opens_1 0 rfl rfl)
theorem dX0_opens_26 : decode cX0_opens 26 = .ok (.aload_n 0, 1) := dk_42 (dk_at dksX0_opens_1 3 rfl rfl)
theorem dX0_opens_27 : decode cX0_opens 27 = .ok (.getfield 73, 3) := dk_180 0 73 (dk_at dksX0_opens_1 4 rfl rfl)
theorem dX0_opens_30 : decode cX0_opens 30 = .ok (.ifCond .le 5, 3) := dk_158 0 5 (dk_at dksX0_opens_1 7 rfl rfl)
theorem dX0_opens_33 : decode cX0_opens 33 = .ok (.iconst 0, 1) := dk_3 (dk_at dksX0_opens_1 10 rfl rfl)
theorem dX0_opens_34 : decode cX0_opens 34 = .ok (.ireturn, 1) := dk_172 (dk_at dksX0_opens_1 11 rfl rfl)
theorem dX0_opens_35 : decode cX0_opens 35 = .ok (.aload_n 0, 1) := dk_42 (dk_at dksX0_opens_1 12 rfl rfl)
theorem dX0_opens_36 : decode cX0_opens 36 = .ok (.iconst 0, 1) := dk_3 (dk_at dksX0_opens_1 13 rfl rfl)
theorem dX0_opens_37 : decode cX0_opens 37 = .ok (.putfield 190, 3) := dk_181 0 190 (dk_at dksX0_opens_1 14 rfl rfl)
theorem dX0_opens_40 : decode cX0_opens 40 = .ok (.aload_n 0, 1) := dk_42 (dk_at dksX0_opens_1 17 rfl rfl)
theorem dX0_opens_41 : decode cX0_opens 41 = .ok (.iconst 0, 1) := dk_3 (dk_at dksX0_opens_1 18 rfl rfl)
theorem dX0_opens_42 : decode cX0_opens 42 = .ok (.putfield 27, 3) := dk_181 0 27 (dk_at dksX0_opens_1 19 rfl rfl)
theorem dX0_opens_45 : decode cX0_opens 45 = .ok (.aload_n 0, 1) := dk_42 (dk_at dksX0_opens_1 22 rfl rfl)
theorem dX0_opens_46 : decode cX0_opens 46 = .ok (.iconst (-1), 1) := dk_2 (dk_at dksX0_opens_1 23 rfl rfl)
theorem dX0_opens_47 : decode cX0_opens 47 = .ok (.putfield 31, 3) := dk_181 0 31 (dk_at dksX0_opens_2 0 rfl rfl)
theorem dX0_opens_50 : decode cX0_opens 50 = .ok (.iconst 1, 1) := dk_4 (dk_at dksX0_opens_2 3 rfl rfl)
theorem dX0_opens_51 : decode cX0_opens 51 = .ok (.ireturn, 1) := dk_172 (dk_at dksX0_opens_2 4 rfl rfl)
def dkwX0_faulty_0 : List UInt8 := [42, 43, 180, 0, 197, 181, 0, 27, 42, 43, 180, 0, 200, 181, 0, 31, 42, 16, 9, 181, 0, 73, 2, 172]
abbrev dktX0_faulty_0 : List UInt8 := dkwX0_faulty_0 ++ []
theorem dksX0_faulty_0 : cX0_faulty.data.toList.drop 0 = dktX0_faulty_0 := by decide +kernel
theorem dX0_faulty_0 : decode cX0_faulty 0 = .ok (.aload_n 0, 1) := dk_42 (dk_at dksX0_faulty_0 0 rfl rfl)
theorem dX0_faulty_1 : decode cX0_faulty 1 = .ok (.aload_n 1, 1) := dk_43 (dk_at dksX0_faulty_0 1 rfl rfl)
theorem dX0_faulty_2 : decode cX0_faulty 2 = .ok (.getfield 197, 3) := dk_180 0 197 (dk_at dksX0_faulty_0 2 rfl rfl)
theorem dX0_faulty_5 : decode cX0_faulty 5 = .ok (.putfield 27, 3) := dk_181 0 27 (dk_at dksX0_faulty_0 5 rfl rfl)
theorem dX0_faulty_8 : decode cX0_faulty 8 = .ok (.aload_n 0, 1) := dk_42 (dk_at dksX0_faulty_0 8 rfl rfl)
theorem dX0_faulty_9 : decode cX0_faulty 9 = .ok (.aload_n 1, 1) := dk_43 (dk_at dksX0_faulty_0 9 rfl rfl)
theorem dX0_faulty_10 : decode cX0_faulty 10 = .ok (.getfield 200, 3) := dk_180 0 200 (dk_at dksX0_faulty_0 10 rfl rfl)
theorem dX0_faulty_13 : decode cX0_faulty 13 = .ok (.putfield 31, 3) := dk_181 0 31 (dk_at dksX0_faulty_0 13 rfl rfl)
theorem dX0_faulty_16 : decode cX0_faulty 16 = .ok (.aload_n 0, 1) := dk_42 (dk_at dksX0_faulty_0 16 rfl rfl)
theorem dX0_faulty_17 : decode cX0_faulty 17 = .ok (.bipush 9, 2) := dk_16 9 (dk_at dksX0_faulty_0 17 rfl rfl)
theorem dX0_faulty_19 : decode cX0_faulty 19 = .ok (.putfield 73, 3) := dk_181 0 73 (dk_at dksX0_faulty_0 19 rfl rfl)
theorem dX0_faulty_22 : decode cX0_faulty 22 = .ok (.iconst (-1), 1) := dk_2 (dk_at dksX0_faulty_0 22 rfl rfl)
theorem dX0_faulty_23 : decode cX0_faulty 23 = .ok (.ireturn, 1) := dk_172 (dk_at dksX0_faulty_0 23 rfl rfl)
def dkwX0_season_2 : List UInt8 := [181, 0, 218, 45, 180, 0, 233, 172, 77, 42, 44, 182, 0, 222, 172]
abbrev dktX0_season_2 : List UInt8 := dkwX0_season_2 ++ []
def dkwX0_season_1 : List UInt8 := [187, 0, 207, 89, 42, 27, 183, 0, 209, 78, 45, 42, 182, 0, 158, 44, 182, 0, 230, 42, 180, 0, 55, 44]
abbrev dktX0_season_1 : List UInt8 := dkwX0_season_1 ++ dktX0_season_2
def dkwX0_season_0 : List UInt8 := [42, 27, 17, 1, 44, 182, 0, 203, 154, 0, 5, 2, 172, 187, 0, 226, 89, 4, 183, 0, 228, 77]
abbrev dktX0_season_0 : List UInt8 := dkwX0_season_0 ++ dktX0_season_1
theorem dksX0_season_0 : cX0_season.data.toList.drop 0 = dktX0_season_0 := by decide +kernel
theorem dksX0_season_1 : cX0_season.data.toList.drop 22 = dktX0_season_1 := dk_seg dksX0_season_0 22 rfl rfl
theorem dksX0_season_2 : cX0_season.data.toList.drop 46 = dktX0_season_2 := dk_seg dksX0_season_1 24 rfl rfl
theorem dX0_season_0 : decode cX0_season 0 = .ok (.aload_n 0, 1) := dk_42 (dk_at dksX0_season_0 0 rfl rfl)
theorem dX0_season_1 : decode cX0_season 1 = .ok (.iload_n 1, 1) := dk_27 (dk_at dksX0_season_0 1 rfl rfl)
theorem dX0_season_2 : decode cX0_season 2 = .ok (.sipush 300, 3) := dk_17 1 44 (dk_at dksX0_season_0 2 rfl rfl)
theorem dX0_season_5 : decode cX0_season 5 = .ok (.invokevirtual 203, 3) := dk_182 0 203 (dk_at dksX0_season_0 5 rfl rfl)
theorem dX0_season_8 : decode cX0_season 8 = .ok (.ifCond .ne 5, 3) := dk_154 0 5 (dk_at dksX0_season_0 8 rfl rfl)
theorem dX0_season_11 : decode cX0_season 11 = .ok (.iconst (-1), 1) := dk_2 (dk_at dksX0_season_0 11 rfl rfl)
theorem dX0_season_12 : decode cX0_season 12 = .ok (.ireturn, 1) := dk_172 (dk_at dksX0_season_0 12 rfl rfl)
theorem dX0_season_13 : decode cX0_season 13 = .ok (.new 226, 3) := dk_187 0 226 (dk_at dksX0_season_0 13 rfl rfl)
theorem dX0_season_16 : decode cX0_season 16 = .ok (.dup, 1) := dk_89 (dk_at dksX0_season_0 16 rfl rfl)
theorem dX0_season_17 : decode cX0_season 17 = .ok (.iconst 1, 1) := dk_4 (dk_at dksX0_season_0 17 rfl rfl)
theorem dX0_season_18 : decode cX0_season 18 = .ok (.invokespecial 228, 3) := dk_183 0 228 (dk_at dksX0_season_0 18 rfl rfl)
theorem dX0_season_21 : decode cX0_season 21 = .ok (.astore_n 2, 1) := dk_77 (dk_at dksX0_season_0 21 rfl rfl)
theorem dX0_season_22 : decode cX0_season 22 = .ok (.new 207, 3) := dk_187 0 207 (dk_at dksX0_season_1 0 rfl rfl)
theorem dX0_season_25 : decode cX0_season 25 = .ok (.dup, 1) := dk_89 (dk_at dksX0_season_1 3 rfl rfl)
theorem dX0_season_26 : decode cX0_season 26 = .ok (.aload_n 0, 1) := dk_42 (dk_at dksX0_season_1 4 rfl rfl)
theorem dX0_season_27 : decode cX0_season 27 = .ok (.iload_n 1, 1) := dk_27 (dk_at dksX0_season_1 5 rfl rfl)
theorem dX0_season_28 : decode cX0_season 28 = .ok (.invokespecial 209, 3) := dk_183 0 209 (dk_at dksX0_season_1 6 rfl rfl)
theorem dX0_season_31 : decode cX0_season 31 = .ok (.astore_n 3, 1) := dk_78 (dk_at dksX0_season_1 9 rfl rfl)
theorem dX0_season_32 : decode cX0_season 32 = .ok (.aload_n 3, 1) := dk_45 (dk_at dksX0_season_1 10 rfl rfl)
theorem dX0_season_33 : decode cX0_season 33 = .ok (.aload_n 0, 1) := dk_42 (dk_at dksX0_season_1 11 rfl rfl)
theorem dX0_season_34 : decode cX0_season 34 = .ok (.invokevirtual 158, 3) := dk_182 0 158 (dk_at dksX0_season_1 12 rfl rfl)
theorem dX0_season_37 : decode cX0_season 37 = .ok (.aload_n 2, 1) := dk_44 (dk_at dksX0_season_1 15 rfl rfl)
theorem dX0_season_38 : decode cX0_season 38 = .ok (.invokevirtual 230, 3) := dk_182 0 230 (dk_at dksX0_season_1 16 rfl rfl)
theorem dX0_season_41 : decode cX0_season 41 = .ok (.aload_n 0, 1) := dk_42 (dk_at dksX0_season_1 19 rfl rfl)
theorem dX0_season_42 : decode cX0_season 42 = .ok (.getfield 55, 3) := dk_180 0 55 (dk_at dksX0_season_1 20 rfl rfl)
theorem dX0_season_45 : decode cX0_season 45 = .ok (.aload_n 2, 1) := dk_44 (dk_at dksX0_season_1 23 rfl rfl)
theorem dX0_season_46 : decode cX0_season 46 = .ok (.putfield 218, 3) := dk_181 0 218 (dk_at dksX0_season_2 0 rfl rfl)
theorem dX0_season_49 : decode cX0_season 49 = .ok (.aload_n 3, 1) := dk_45 (dk_at dksX0_season_2 3 rfl rfl)
theorem dX0_season_50 : decode cX0_season 50 = .ok (.getfield 233, 3) := dk_180 0 233 (dk_at dksX0_season_2 4 rfl rfl)
theorem dX0_season_53 : decode cX0_season 53 = .ok (.ireturn, 1) := dk_172 (dk_at dksX0_season_2 7 rfl rfl)
theorem dX0_season_54 : decode cX0_season 54 = .ok (.astore_n 2, 1) := dk_77 (dk_at dksX0_season_2 8 rfl rfl)
theorem dX0_season_55 : decode cX0_season 55 = .ok (.aload_n 0, 1) := dk_42 (dk_at dksX0_season_2 9 rfl rfl)
theorem dX0_season_56 : decode cX0_season 56 = .ok (.aload_n 2, 1) := dk_44 (dk_at dksX0_season_2 10 rfl rfl)
theorem dX0_season_57 : decode cX0_season 57 = .ok (.invokevirtual 222, 3) := dk_182 0 222 (dk_at dksX0_season_2 11 rfl rfl)
theorem dX0_season_60 : decode cX0_season 60 = .ok (.ireturn, 1) := dk_172 (dk_at dksX0_season_2 14 rfl rfl)
def dkwX0_yard_2_0 : List UInt8 := [42, 180, 0, 55, 180, 0, 147, 176]
abbrev dktX0_yard_2_0 : List UInt8 := dkwX0_yard_2_0 ++ []
theorem dksX0_yard_2_0 : cX0_yard_2.data.toList.drop 0 = dktX0_yard_2_0 := by decide +kernel
theorem dX0_yard_2_0 : decode cX0_yard_2 0 = .ok (.aload_n 0, 1) := dk_42 (dk_at dksX0_yard_2_0 0 rfl rfl)
theorem dX0_yard_2_1 : decode cX0_yard_2 1 = .ok (.getfield 55, 3) := dk_180 0 55 (dk_at dksX0_yard_2_0 1 rfl rfl)
theorem dX0_yard_2_4 : decode cX0_yard_2 4 = .ok (.getfield 147, 3) := dk_180 0 147 (dk_at dksX0_yard_2_0 4 rfl rfl)
theorem dX0_yard_2_7 : decode cX0_yard_2 7 = .ok (.areturn, 1) := dk_176 (dk_at dksX0_yard_2_0 7 rfl rfl)
def dkwX0_fault_1 : List UInt8 := [172]
abbrev dktX0_fault_1 : List UInt8 := dkwX0_fault_1 ++ []
def dkwX0_fault_0 : List UInt8 := [27, 154, 0, 10, 42, 180, 0, 27, 167, 0, 16, 27, 4, 160, 0, 10, 42, 180, 0, 31, 167, 0, 4, 2]
abbrev dktX0_fault_0 : List UInt8 := dkwX0_fault_0 ++ dktX0_fault_1
theorem dksX0_fault_0 : cX0_fault.data.toList.drop 0 = dktX0_fault_0 := by decide +kernel
theorem dksX0_fault_1 : cX0_fault.data.toList.drop 24 = dktX0_fault_1 := dk_seg dksX0_fault_0 24 rfl rfl
theorem dX0_fault_0 : decode cX0_fault 0 = .ok (.iload_n 1, 1) := dk_27 (dk_at dksX0_fault_0 0 rfl rfl)
theorem dX0_fault_1 : decode cX0_fault 1 = .ok (.ifCond .ne 10, 3) := dk_154 0 10 (dk_at dksX0_fault_0 1 rfl rfl)
theorem dX0_fault_4 : decode cX0_fault 4 = .ok (.aload_n 0, 1) := dk_42 (dk_at dksX0_fault_0 4 rfl rfl)
theorem dX0_fault_5 : decode cX0_fault 5 = .ok (.getfield 27, 3) := dk_180 0 27 (dk_at dksX0_fault_0 5 rfl rfl)
theorem dX0_fault_8 : decode cX0_fault 8 = .ok (.goto 16, 3) := dk_167 0 16 (dk_at dksX0_fault_0 8 rfl rfl)
theorem dX0_fault_11 : decode cX0_fault 11 = .ok (.iload_n 1, 1) := dk_27 (dk_at dksX0_fault_0 11 rfl rfl)
theorem dX0_fault_12 : decode cX0_fault 12 = .ok (.iconst 1, 1) := dk_4 (dk_at dksX0_fault_0 12 rfl rfl)
theorem dX0_fault_13 : decode cX0_fault 13 = .ok (.if_icmp .ne 10, 3) := dk_160 0 10 (dk_at dksX0_fault_0 13 rfl rfl)
theorem dX0_fault_16 : decode cX0_fault 16 = .ok (.aload_n 0, 1) := dk_42 (dk_at dksX0_fault_0 16 rfl rfl)
theorem dX0_fault_17 : decode cX0_fault 17 = .ok (.getfield 31, 3) := dk_180 0 31 (dk_at dksX0_fault_0 17 rfl rfl)
theorem dX0_fault_20 : decode cX0_fault 20 = .ok (.goto 4, 3) := dk_167 0 4 (dk_at dksX0_fault_0 20 rfl rfl)
theorem dX0_fault_23 : decode cX0_fault 23 = .ok (.iconst (-1), 1) := dk_2 (dk_at dksX0_fault_0 23 rfl rfl)
theorem dX0_fault_24 : decode cX0_fault 24 = .ok (.ireturn, 1) := dk_172 (dk_at dksX0_fault_1 0 rfl rfl)
def dkwX0_told_5 : List UInt8 := [42, 182, 0, 158, 180, 1, 3, 172, 2, 172]
abbrev dktX0_told_5 : List UInt8 := dkwX0_told_5 ++ []
def dkwX0_told_4 : List UInt8 := [42, 182, 0, 158, 180, 0, 250, 172, 42, 182, 0, 158, 180, 0, 253, 172, 42, 182, 0, 158, 180, 1, 0, 172]
abbrev dktX0_told_4 : List UInt8 := dkwX0_told_4 ++ dktX0_told_5
def dkwX0_told_3 : List UInt8 := [42, 182, 0, 158, 180, 0, 241, 172, 42, 182, 0, 158, 180, 0, 244, 172, 42, 182, 0, 158, 180, 0, 247, 172]
abbrev dktX0_told_3 : List UInt8 := dkwX0_told_3 ++ dktX0_told_4
def dkwX0_told_2 : List UInt8 := [42, 182, 0, 158, 180, 0, 161, 172, 42, 182, 0, 182, 180, 0, 185, 172, 42, 182, 0, 182, 180, 0, 238, 172]
abbrev dktX0_told_2 : List UInt8 := dkwX0_told_2 ++ dktX0_told_3
def dkwX0_told_1 : List UInt8 := [170, 0, 0, 0, 0, 134, 0, 0, 0, 0, 0, 0, 0, 9, 0, 0, 0, 54, 0, 0, 0, 62, 0, 0, 0, 70, 0, 0, 0, 78, 0, 0, 0, 86, 0, 0, 0, 94, 0, 0, 0, 102, 0, 0, 0, 110, 0, 0, 0, 118, 0, 0, 0, 126]
abbrev dktX0_told_1 : List UInt8 := dkwX0_told_1 ++ dktX0_told_2
def dkwX0_told_0 : List UInt8 := [42, 27, 133, 9, 20, 0, 236, 184, 0, 164, 153, 0, 7, 3, 167, 0, 4, 4, 181, 0, 73, 27]
abbrev dktX0_told_0 : List UInt8 := dkwX0_told_0 ++ dktX0_told_1
theorem dksX0_told_0 : cX0_told.data.toList.drop 0 = dktX0_told_0 := by decide +kernel
theorem dksX0_told_1 : cX0_told.data.toList.drop 22 = dktX0_told_1 := dk_seg dksX0_told_0 22 rfl rfl
theorem dksX0_told_2 : cX0_told.data.toList.drop 76 = dktX0_told_2 := dk_seg dksX0_told_1 54 rfl rfl
theorem dksX0_told_3 : cX0_told.data.toList.drop 100 = dktX0_told_3 := dk_seg dksX0_told_2 24 rfl rfl
theorem dksX0_told_4 : cX0_told.data.toList.drop 124 = dktX0_told_4 := dk_seg dksX0_told_3 24 rfl rfl
theorem dksX0_told_5 : cX0_told.data.toList.drop 148 = dktX0_told_5 := dk_seg dksX0_told_4 24 rfl rfl
theorem dX0_told_0 : decode cX0_told 0 = .ok (.aload_n 0, 1) := dk_42 (dk_at dksX0_told_0 0 rfl rfl)
theorem dX0_told_1 : decode cX0_told 1 = .ok (.iload_n 1, 1) := dk_27 (dk_at dksX0_told_0 1 rfl rfl)
theorem dX0_told_2 : decode cX0_told 2 = .ok (.i2l, 1) := dk_133 (dk_at dksX0_told_0 2 rfl rfl)
theorem dX0_told_3 : decode cX0_told 3 = .ok (.lconst 0, 1) := dk_9 (dk_at dksX0_told_0 3 rfl rfl)
theorem dX0_told_4 : decode cX0_told 4 = .ok (.ldc2_w 236, 3) := dk_20 0 236 (dk_at dksX0_told_0 4 rfl rfl)
theorem dX0_told_7 : decode cX0_told 7 = .ok (.invokestatic 164, 3) := dk_184 0 164 (dk_at dksX0_told_0 7 rfl rfl)
theorem dX0_told_10 : decode cX0_told 10 = .ok (.ifCond .eq 7, 3) := dk_153 0 7 (dk_at dksX0_told_0 10 rfl rfl)
theorem dX0_told_13 : decode cX0_told 13 = .ok (.iconst 0, 1) := dk_3 (dk_at dksX0_told_0 13 rfl rfl)
theorem dX0_told_14 : decode cX0_told 14 = .ok (.goto 4, 3) := dk_167 0 4 (dk_at dksX0_told_0 14 rfl rfl)
theorem dX0_told_17 : decode cX0_told 17 = .ok (.iconst 1, 1) := dk_4 (dk_at dksX0_told_0 17 rfl rfl)
theorem dX0_told_18 : decode cX0_told 18 = .ok (.putfield 73, 3) := dk_181 0 73 (dk_at dksX0_told_0 18 rfl rfl)
theorem dX0_told_21 : decode cX0_told 21 = .ok (.iload_n 1, 1) := dk_27 (dk_at dksX0_told_0 21 rfl rfl)
theorem dX0_told_22 : decode cX0_told 22 = .ok (.tableswitch 134 0 9 #[54, 62, 70, 78, 86, 94, 102, 110, 118, 126], 54) := by decide +kernel
theorem dX0_told_76 : decode cX0_told 76 = .ok (.aload_n 0, 1) := dk_42 (dk_at dksX0_told_2 0 rfl rfl)
theorem dX0_told_77 : decode cX0_told 77 = .ok (.invokevirtual 158, 3) := dk_182 0 158 (dk_at dksX0_told_2 1 rfl rfl)
theorem dX0_told_80 : decode cX0_told 80 = .ok (.getfield 161, 3) := dk_180 0 161 (dk_at dksX0_told_2 4 rfl rfl)
theorem dX0_told_83 : decode cX0_told 83 = .ok (.ireturn, 1) := dk_172 (dk_at dksX0_told_2 7 rfl rfl)
theorem dX0_told_84 : decode cX0_told 84 = .ok (.aload_n 0, 1) := dk_42 (dk_at dksX0_told_2 8 rfl rfl)
theorem dX0_told_85 : decode cX0_told 85 = .ok (.invokevirtual 182, 3) := dk_182 0 182 (dk_at dksX0_told_2 9 rfl rfl)
theorem dX0_told_88 : decode cX0_told 88 = .ok (.getfield 185, 3) := dk_180 0 185 (dk_at dksX0_told_2 12 rfl rfl)
theorem dX0_told_91 : decode cX0_told 91 = .ok (.ireturn, 1) := dk_172 (dk_at dksX0_told_2 15 rfl rfl)
theorem dX0_told_92 : decode cX0_told 92 = .ok (.aload_n 0, 1) := dk_42 (dk_at dksX0_told_2 16 rfl rfl)
theorem dX0_told_93 : decode cX0_told 93 = .ok (.invokevirtual 182, 3) := dk_182 0 182 (dk_at dksX0_told_2 17 rfl rfl)
theorem dX0_told_96 : decode cX0_told 96 = .ok (.getfield 238, 3) := dk_180 0 238 (dk_at dksX0_told_2 20 rfl rfl)
theorem dX0_told_99 : decode cX0_told 99 = .ok (.ireturn, 1) := dk_172 (dk_at dksX0_told_2 23 rfl rfl)
theorem dX0_told_100 : decode cX0_told 100 = .ok (.aload_n 0, 1) := dk_42 (dk_at dksX0_told_3 0 rfl rfl)
theorem dX0_told_101 : decode cX0_told 101 = .ok (.invokevirtual 158, 3) := dk_182 0 158 (dk_at dksX0_told_3 1 rfl rfl)
theorem dX0_told_104 : decode cX0_told 104 = .ok (.getfield 241, 3) := dk_180 0 241 (dk_at dksX0_told_3 4 rfl rfl)
theorem dX0_told_107 : decode cX0_told 107 = .ok (.ireturn, 1) := dk_172 (dk_at dksX0_told_3 7 rfl rfl)
theorem dX0_told_108 : decode cX0_told 108 = .ok (.aload_n 0, 1) := dk_42 (dk_at dksX0_told_3 8 rfl rfl)
theorem dX0_told_109 : decode cX0_told 109 = .ok (.invokevirtual 158, 3) := dk_182 0 158 (dk_at dksX0_told_3 9 rfl rfl)
theorem dX0_told_112 : decode cX0_told 112 = .ok (.getfield 244, 3) := dk_180 0 244 (dk_at dksX0_told_3 12 rfl rfl)
theorem dX0_told_115 : decode cX0_told 115 = .ok (.ireturn, 1) := dk_172 (dk_at dksX0_told_3 15 rfl rfl)
theorem dX0_told_116 : decode cX0_told 116 = .ok (.aload_n 0, 1) := dk_42 (dk_at dksX0_told_3 16 rfl rfl)
theorem dX0_told_117 : decode cX0_told 117 = .ok (.invokevirtual 158, 3) := dk_182 0 158 (dk_at dksX0_told_3 17 rfl rfl)
theorem dX0_told_120 : decode cX0_told 120 = .ok (.getfield 247, 3) := dk_180 0 247 (dk_at dksX0_told_3 20 rfl rfl)
theorem dX0_told_123 : decode cX0_told 123 = .ok (.ireturn, 1) := dk_172 (dk_at dksX0_told_3 23 rfl rfl)
theorem dX0_told_124 : decode cX0_told 124 = .ok (.aload_n 0, 1) := dk_42 (dk_at dksX0_told_4 0 rfl rfl)
theorem dX0_told_125 : decode cX0_told 125 = .ok (.invokevirtual 158, 3) := dk_182 0 158 (dk_at dksX0_told_4 1 rfl rfl)
theorem dX0_told_128 : decode cX0_told 128 = .ok (.getfield 250, 3) := dk_180 0 250 (dk_at dksX0_told_4 4 rfl rfl)
theorem dX0_told_131 : decode cX0_told 131 = .ok (.ireturn, 1) := dk_172 (dk_at dksX0_told_4 7 rfl rfl)
theorem dX0_told_132 : decode cX0_told 132 = .ok (.aload_n 0, 1) := dk_42 (dk_at dksX0_told_4 8 rfl rfl)
theorem dX0_told_133 : decode cX0_told 133 = .ok (.invokevirtual 158, 3) := dk_182 0 158 (dk_at dksX0_told_4 9 rfl rfl)
theorem dX0_told_136 : decode cX0_told 136 = .ok (.getfield 253, 3) := dk_180 0 253 (dk_at dksX0_told_4 12 rfl rfl)
theorem dX0_told_139 : decode cX0_told 139 = .ok (.ireturn, 1) := dk_172 (dk_at dksX0_told_4 15 rfl rfl)
theorem dX0_told_140 : decode cX0_told 140 = .ok (.aload_n 0, 1) := dk_42 (dk_at dksX0_told_4 16 rfl rfl)
theorem dX0_told_141 : decode cX0_told 141 = .ok (.invokevirtual 158, 3) := dk_182 0 158 (dk_at dksX0_told_4 17 rfl rfl)
theorem dX0_told_144 : decode cX0_told 144 = .ok (.getfield 256, 3) := dk_180 1 0 (dk_at dksX0_told_4 20 rfl rfl)
theorem dX0_told_147 : decode cX0_told 147 = .ok (.ireturn, 1) := dk_172 (dk_at dksX0_told_4 23 rfl rfl)
theorem dX0_told_148 : decode cX0_told 148 = .ok (.aload_n 0, 1) := dk_42 (dk_at dksX0_told_5 0 rfl rfl)
theorem dX0_told_149 : decode cX0_told 149 = .ok (.invokevirtual 158, 3) := dk_182 0 158 (dk_at dksX0_told_5 1 rfl rfl)
theorem dX0_told_152 : decode cX0_told 152 = .ok (.getfield 259, 3) := dk_180 1 3 (dk_at dksX0_told_5 4 rfl rfl)
theorem dX0_told_155 : decode cX0_told 155 = .ok (.ireturn, 1) := dk_172 (dk_at dksX0_told_5 7 rfl rfl)
theorem dX0_told_156 : decode cX0_told 156 = .ok (.iconst (-1), 1) := dk_2 (dk_at dksX0_told_5 8 rfl rfl)
theorem dX0_told_157 : decode cX0_told 157 = .ok (.ireturn, 1) := dk_172 (dk_at dksX0_told_5 9 rfl rfl)
def dkwX0_isIn_0 : List UInt8 := [30, 32, 148, 155, 0, 14, 30, 22, 4, 148, 157, 0, 7, 4, 167, 0, 4, 3, 172]
abbrev dktX0_isIn_0 : List UInt8 := dkwX0_isIn_0 ++ []
theorem dksX0_isIn_0 : cX0_isIn.data.toList.drop 0 = dktX0_isIn_0 := by decide +kernel
theorem dX0_isIn_0 : decode cX0_isIn 0 = .ok (.lload_n 0, 1) := dk_30 (dk_at dksX0_isIn_0 0 rfl rfl)
theorem dX0_isIn_1 : decode cX0_isIn 1 = .ok (.lload_n 2, 1) := dk_32 (dk_at dksX0_isIn_0 1 rfl rfl)
theorem dX0_isIn_2 : decode cX0_isIn 2 = .ok (.lcmp, 1) := dk_148 (dk_at dksX0_isIn_0 2 rfl rfl)
theorem dX0_isIn_3 : decode cX0_isIn 3 = .ok (.ifCond .lt 14, 3) := dk_155 0 14 (dk_at dksX0_isIn_0 3 rfl rfl)
theorem dX0_isIn_6 : decode cX0_isIn 6 = .ok (.lload_n 0, 1) := dk_30 (dk_at dksX0_isIn_0 6 rfl rfl)
theorem dX0_isIn_7 : decode cX0_isIn 7 = .ok (.lload 4, 2) := dk_22 4 (dk_at dksX0_isIn_0 7 rfl rfl)
theorem dX0_isIn_9 : decode cX0_isIn 9 = .ok (.lcmp, 1) := dk_148 (dk_at dksX0_isIn_0 9 rfl rfl)
theorem dX0_isIn_10 : decode cX0_isIn 10 = .ok (.ifCond .gt 7, 3) := dk_157 0 7 (dk_at dksX0_isIn_0 10 rfl rfl)
theorem dX0_isIn_13 : decode cX0_isIn 13 = .ok (.iconst 1, 1) := dk_4 (dk_at dksX0_isIn_0 13 rfl rfl)
theorem dX0_isIn_14 : decode cX0_isIn 14 = .ok (.goto 4, 3) := dk_167 0 4 (dk_at dksX0_isIn_0 14 rfl rfl)
theorem dX0_isIn_17 : decode cX0_isIn 17 = .ok (.iconst 0, 1) := dk_3 (dk_at dksX0_isIn_0 17 rfl rfl)
theorem dX0_isIn_18 : decode cX0_isIn 18 = .ok (.ireturn, 1) := dk_172 (dk_at dksX0_isIn_0 18 rfl rfl)
def dkwX0_lines_0 : List UInt8 := [42, 180, 0, 55, 180, 0, 147, 180, 0, 154, 176]
abbrev dktX0_lines_0 : List UInt8 := dkwX0_lines_0 ++ []
theorem dksX0_lines_0 : cX0_lines.data.toList.drop 0 = dktX0_lines_0 := by decide +kernel
theorem dX0_lines_0 : decode cX0_lines 0 = .ok (.aload_n 0, 1) := dk_42 (dk_at dksX0_lines_0 0 rfl rfl)
theorem dX0_lines_1 : decode cX0_lines 1 = .ok (.getfield 55, 3) := dk_180 0 55 (dk_at dksX0_lines_0 1 rfl rfl)
theorem dX0_lines_4 : decode cX0_lines 4 = .ok (.getfield 147, 3) := dk_180 0 147 (dk_at dksX0_lines_0 4 rfl rfl)
theorem dX0_lines_7 : decode cX0_lines 7 = .ok (.getfield 154, 3) := dk_180 0 154 (dk_at dksX0_lines_0 7 rfl rfl)
theorem dX0_lines_10 : decode cX0_lines 10 = .ok (.areturn, 1) := dk_176 (dk_at dksX0_lines_0 10 rfl rfl)
def dkwX0_hive_4 : List UInt8 := [182, 1, 18, 172, 45, 180, 1, 21, 172, 42, 45, 180, 1, 24, 182, 1, 27, 172]
abbrev dktX0_hive_4 : List UInt8 := dkwX0_hive_4 ++ []
def dkwX0_hive_3 : List UInt8 := [45, 180, 0, 176, 190, 172, 45, 180, 1, 8, 172, 45, 182, 1, 11, 172, 45, 182, 1, 15, 172, 45]
abbrev dktX0_hive_3 : List UInt8 := dkwX0_hive_3 ++ dktX0_hive_4
def dkwX0_hive_2 : List UInt8 := [170, 0, 0, 0, 0, 0, 70, 0, 0, 0, 0, 0, 0, 0, 5, 0, 0, 0, 39, 0, 0, 0, 45, 0, 0, 0, 50, 0, 0, 0, 55, 0, 0, 0, 60, 0, 0, 0, 65]
abbrev dktX0_hive_2 : List UInt8 := dkwX0_hive_2 ++ dktX0_hive_3
def dkwX0_hive_1 : List UInt8 := [167, 0, 4, 4, 181, 0, 73, 42, 180, 0, 73, 158, 0, 5, 2, 172, 42, 27, 182, 0, 172, 78, 28]
abbrev dktX0_hive_1 : List UInt8 := dkwX0_hive_1 ++ dktX0_hive_2
def dkwX0_hive_0 : List UInt8 := [42, 42, 27, 182, 0, 168, 153, 0, 19, 28, 133, 9, 20, 1, 6, 184, 0, 164, 153, 0, 7, 3]
abbrev dktX0_hive_0 : List UInt8 := dkwX0_hive_0 ++ dktX0_hive_1
theorem dksX0_hive_0 : cX0_hive.data.toList.drop 0 = dktX0_hive_0 := by decide +kernel
theorem dksX0_hive_1 : cX0_hive.data.toList.drop 22 = dktX0_hive_1 := dk_seg dksX0_hive_0 22 rfl rfl
theorem dksX0_hive_2 : cX0_hive.data.toList.drop 45 = dktX0_hive_2 := dk_seg dksX0_hive_1 23 rfl rfl
theorem dksX0_hive_3 : cX0_hive.data.toList.drop 84 = dktX0_hive_3 := dk_seg dksX0_hive_2 39 rfl rfl
theorem dksX0_hive_4 : cX0_hive.data.toList.drop 106 = dktX0_hive_4 := dk_seg dksX0_hive_3 22 rfl rfl
theorem dX0_hive_0 : decode cX0_hive 0 = .ok (.aload_n 0, 1) := dk_42 (dk_at dksX0_hive_0 0 rfl rfl)
theorem dX0_hive_1 : decode cX0_hive 1 = .ok (.aload_n 0, 1) := dk_42 (dk_at dksX0_hive_0 1 rfl rfl)
theorem dX0_hive_2 : decode cX0_hive 2 = .ok (.iload_n 1, 1) := dk_27 (dk_at dksX0_hive_0 2 rfl rfl)
theorem dX0_hive_3 : decode cX0_hive 3 = .ok (.invokevirtual 168, 3) := dk_182 0 168 (dk_at dksX0_hive_0 3 rfl rfl)
theorem dX0_hive_6 : decode cX0_hive 6 = .ok (.ifCond .eq 19, 3) := dk_153 0 19 (dk_at dksX0_hive_0 6 rfl rfl)
theorem dX0_hive_9 : decode cX0_hive 9 = .ok (.iload_n 2, 1) := dk_28 (dk_at dksX0_hive_0 9 rfl rfl)
theorem dX0_hive_10 : decode cX0_hive 10 = .ok (.i2l, 1) := dk_133 (dk_at dksX0_hive_0 10 rfl rfl)
theorem dX0_hive_11 : decode cX0_hive 11 = .ok (.lconst 0, 1) := dk_9 (dk_at dksX0_hive_0 11 rfl rfl)
theorem dX0_hive_12 : decode cX0_hive 12 = .ok (.ldc2_w 262, 3) := dk_20 1 6 (dk_at dksX0_hive_0 12 rfl rfl)
theorem dX0_hive_15 : decode cX0_hive 15 = .ok (.invokestatic 164, 3) := dk_184 0 164 (dk_at dksX0_hive_0 15 rfl rfl)
theorem dX0_hive_18 : decode cX0_hive 18 = .ok (.ifCond .eq 7, 3) := dk_153 0 7 (dk_at dksX0_hive_0 18 rfl rfl)
theorem dX0_hive_21 : decode cX0_hive 21 = .ok (.iconst 0, 1) := dk_3 (dk_at dksX0_hive_0 21 rfl rfl)
theorem dX0_hive_22 : decode cX0_hive 22 = .ok (.goto 4, 3) := dk_167 0 4 (dk_at dksX0_hive_1 0 rfl rfl)
theorem dX0_hive_25 : decode cX0_hive 25 = .ok (.iconst 1, 1) := dk_4 (dk_at dksX0_hive_1 3 rfl rfl)
theorem dX0_hive_26 : decode cX0_hive 26 = .ok (.putfield 73, 3) := dk_181 0 73 (dk_at dksX0_hive_1 4 rfl rfl)
theorem dX0_hive_29 : decode cX0_hive 29 = .ok (.aload_n 0, 1) := dk_42 (dk_at dksX0_hive_1 7 rfl rfl)
theorem dX0_hive_30 : decode cX0_hive 30 = .ok (.getfield 73, 3) := dk_180 0 73 (dk_at dksX0_hive_1 8 rfl rfl)
theorem dX0_hive_33 : decode cX0_hive 33 = .ok (.ifCond .le 5, 3) := dk_158 0 5 (dk_at dksX0_hive_1 11 rfl rfl)
theorem dX0_hive_36 : decode cX0_hive 36 = .ok (.iconst (-1), 1) := dk_2 (dk_at dksX0_hive_1 14 rfl rfl)
theorem dX0_hive_37 : decode cX0_hive 37 = .ok (.ireturn, 1) := dk_172 (dk_at dksX0_hive_1 15 rfl rfl)
theorem dX0_hive_38 : decode cX0_hive 38 = .ok (.aload_n 0, 1) := dk_42 (dk_at dksX0_hive_1 16 rfl rfl)
theorem dX0_hive_39 : decode cX0_hive 39 = .ok (.iload_n 1, 1) := dk_27 (dk_at dksX0_hive_1 17 rfl rfl)
theorem dX0_hive_40 : decode cX0_hive 40 = .ok (.invokevirtual 172, 3) := dk_182 0 172 (dk_at dksX0_hive_1 18 rfl rfl)
theorem dX0_hive_43 : decode cX0_hive 43 = .ok (.astore_n 3, 1) := dk_78 (dk_at dksX0_hive_1 21 rfl rfl)
theorem dX0_hive_44 : decode cX0_hive 44 = .ok (.iload_n 2, 1) := dk_28 (dk_at dksX0_hive_1 22 rfl rfl)
theorem dX0_hive_45 : decode cX0_hive 45 = .ok (.tableswitch 70 0 5 #[39, 45, 50, 55, 60, 65], 39) := by decide +kernel
theorem dX0_hive_84 : decode cX0_hive 84 = .ok (.aload_n 3, 1) := dk_45 (dk_at dksX0_hive_3 0 rfl rfl)
theorem dX0_hive_85 : decode cX0_hive 85 = .ok (.getfield 176, 3) := dk_180 0 176 (dk_at dksX0_hive_3 1 rfl rfl)
theorem dX0_hive_88 : decode cX0_hive 88 = .ok (.arraylength, 1) := dk_190 (dk_at dksX0_hive_3 4 rfl rfl)
theorem dX0_hive_89 : decode cX0_hive 89 = .ok (.ireturn, 1) := dk_172 (dk_at dksX0_hive_3 5 rfl rfl)
theorem dX0_hive_90 : decode cX0_hive 90 = .ok (.aload_n 3, 1) := dk_45 (dk_at dksX0_hive_3 6 rfl rfl)
theorem dX0_hive_91 : decode cX0_hive 91 = .ok (.getfield 264, 3) := dk_180 1 8 (dk_at dksX0_hive_3 7 rfl rfl)
theorem dX0_hive_94 : decode cX0_hive 94 = .ok (.ireturn, 1) := dk_172 (dk_at dksX0_hive_3 10 rfl rfl)
theorem dX0_hive_95 : decode cX0_hive 95 = .ok (.aload_n 3, 1) := dk_45 (dk_at dksX0_hive_3 11 rfl rfl)
theorem dX0_hive_96 : decode cX0_hive 96 = .ok (.invokevirtual 267, 3) := dk_182 1 11 (dk_at dksX0_hive_3 12 rfl rfl)
theorem dX0_hive_99 : decode cX0_hive 99 = .ok (.ireturn, 1) := dk_172 (dk_at dksX0_hive_3 15 rfl rfl)
theorem dX0_hive_100 : decode cX0_hive 100 = .ok (.aload_n 3, 1) := dk_45 (dk_at dksX0_hive_3 16 rfl rfl)
theorem dX0_hive_101 : decode cX0_hive 101 = .ok (.invokevirtual 271, 3) := dk_182 1 15 (dk_at dksX0_hive_3 17 rfl rfl)
theorem dX0_hive_104 : decode cX0_hive 104 = .ok (.ireturn, 1) := dk_172 (dk_at dksX0_hive_3 20 rfl rfl)
theorem dX0_hive_105 : decode cX0_hive 105 = .ok (.aload_n 3, 1) := dk_45 (dk_at dksX0_hive_3 21 rfl rfl)
theorem dX0_hive_106 : decode cX0_hive 106 = .ok (.invokevirtual 274, 3) := dk_182 1 18 (dk_at dksX0_hive_4 0 rfl rfl)
theorem dX0_hive_109 : decode cX0_hive 109 = .ok (.ireturn, 1) := dk_172 (dk_at dksX0_hive_4 3 rfl rfl)
theorem dX0_hive_110 : decode cX0_hive 110 = .ok (.aload_n 3, 1) := dk_45 (dk_at dksX0_hive_4 4 rfl rfl)
theorem dX0_hive_111 : decode cX0_hive 111 = .ok (.getfield 277, 3) := dk_180 1 21 (dk_at dksX0_hive_4 5 rfl rfl)
theorem dX0_hive_114 : decode cX0_hive 114 = .ok (.ireturn, 1) := dk_172 (dk_at dksX0_hive_4 8 rfl rfl)
theorem dX0_hive_115 : decode cX0_hive 115 = .ok (.aload_n 0, 1) := dk_42 (dk_at dksX0_hive_4 9 rfl rfl)
theorem dX0_hive_116 : decode cX0_hive 116 = .ok (.aload_n 3, 1) := dk_45 (dk_at dksX0_hive_4 10 rfl rfl)
theorem dX0_hive_117 : decode cX0_hive 117 = .ok (.getfield 280, 3) := dk_180 1 24 (dk_at dksX0_hive_4 11 rfl rfl)
theorem dX0_hive_120 : decode cX0_hive 120 = .ok (.invokevirtual 283, 3) := dk_182 1 27 (dk_at dksX0_hive_4 14 rfl rfl)
theorem dX0_hive_123 : decode cX0_hive 123 = .ok (.ireturn, 1) := dk_172 (dk_at dksX0_hive_4 17 rfl rfl)
def dkwX0_isHive_0 : List UInt8 := [27, 133, 9, 42, 182, 0, 158, 180, 0, 161, 4, 100, 133, 184, 0, 164, 172]
abbrev dktX0_isHive_0 : List UInt8 := dkwX0_isHive_0 ++ []
theorem dksX0_isHive_0 : cX0_isHive.data.toList.drop 0 = dktX0_isHive_0 := by decide +kernel
theorem dX0_isHive_0 : decode cX0_isHive 0 = .ok (.iload_n 1, 1) := dk_27 (dk_at dksX0_isHive_0 0 rfl rfl)
theorem dX0_isHive_1 : decode cX0_isHive 1 = .ok (.i2l, 1) := dk_133 (dk_at dksX0_isHive_0 1 rfl rfl)
theorem dX0_isHive_2 : decode cX0_isHive 2 = .ok (.lconst 0, 1) := dk_9 (dk_at dksX0_isHive_0 2 rfl rfl)
theorem dX0_isHive_3 : decode cX0_isHive 3 = .ok (.aload_n 0, 1) := dk_42 (dk_at dksX0_isHive_0 3 rfl rfl)
theorem dX0_isHive_4 : decode cX0_isHive 4 = .ok (.invokevirtual 158, 3) := dk_182 0 158 (dk_at dksX0_isHive_0 4 rfl rfl)
theorem dX0_isHive_7 : decode cX0_isHive 7 = .ok (.getfield 161, 3) := dk_180 0 161 (dk_at dksX0_isHive_0 7 rfl rfl)
theorem dX0_isHive_10 : decode cX0_isHive 10 = .ok (.iconst 1, 1) := dk_4 (dk_at dksX0_isHive_0 10 rfl rfl)
theorem dX0_isHive_11 : decode cX0_isHive 11 = .ok (.isub, 1) := dk_100 (dk_at dksX0_isHive_0 11 rfl rfl)
theorem dX0_isHive_12 : decode cX0_isHive 12 = .ok (.i2l, 1) := dk_133 (dk_at dksX0_isHive_0 12 rfl rfl)
theorem dX0_isHive_13 : decode cX0_isHive 13 = .ok (.invokestatic 164, 3) := dk_184 0 164 (dk_at dksX0_isHive_0 13 rfl rfl)
theorem dX0_isHive_16 : decode cX0_isHive 16 = .ok (.ireturn, 1) := dk_172 (dk_at dksX0_isHive_0 16 rfl rfl)
def dkwX0_at_0 : List UInt8 := [42, 180, 0, 55, 180, 0, 147, 180, 0, 150, 27, 50, 176]
abbrev dktX0_at_0 : List UInt8 := dkwX0_at_0 ++ []
theorem dksX0_at_0 : cX0_at.data.toList.drop 0 = dktX0_at_0 := by decide +kernel
theorem dX0_at_0 : decode cX0_at 0 = .ok (.aload_n 0, 1) := dk_42 (dk_at dksX0_at_0 0 rfl rfl)
theorem dX0_at_1 : decode cX0_at 1 = .ok (.getfield 55, 3) := dk_180 0 55 (dk_at dksX0_at_0 1 rfl rfl)
theorem dX0_at_4 : decode cX0_at 4 = .ok (.getfield 147, 3) := dk_180 0 147 (dk_at dksX0_at_0 4 rfl rfl)
theorem dX0_at_7 : decode cX0_at 7 = .ok (.getfield 150, 3) := dk_180 0 150 (dk_at dksX0_at_0 7 rfl rfl)
theorem dX0_at_10 : decode cX0_at 10 = .ok (.iload_n 1, 1) := dk_27 (dk_at dksX0_at_0 10 rfl rfl)
theorem dX0_at_11 : decode cX0_at 11 = .ok (.aaload, 1) := dk_50 (dk_at dksX0_at_0 11 rfl rfl)
theorem dX0_at_12 : decode cX0_at 12 = .ok (.areturn, 1) := dk_176 (dk_at dksX0_at_0 12 rfl rfl)
def dkwX0_answer_0 : List UInt8 := [42, 27, 156, 0, 8, 16, 6, 167, 0, 4, 3, 181, 0, 73, 27, 172]
abbrev dktX0_answer_0 : List UInt8 := dkwX0_answer_0 ++ []
theorem dksX0_answer_0 : cX0_answer.data.toList.drop 0 = dktX0_answer_0 := by decide +kernel
theorem dX0_answer_0 : decode cX0_answer 0 = .ok (.aload_n 0, 1) := dk_42 (dk_at dksX0_answer_0 0 rfl rfl)
theorem dX0_answer_1 : decode cX0_answer 1 = .ok (.iload_n 1, 1) := dk_27 (dk_at dksX0_answer_0 1 rfl rfl)
theorem dX0_answer_2 : decode cX0_answer 2 = .ok (.ifCond .ge 8, 3) := dk_156 0 8 (dk_at dksX0_answer_0 2 rfl rfl)
theorem dX0_answer_5 : decode cX0_answer 5 = .ok (.bipush 6, 2) := dk_16 6 (dk_at dksX0_answer_0 5 rfl rfl)
theorem dX0_answer_7 : decode cX0_answer 7 = .ok (.goto 4, 3) := dk_167 0 4 (dk_at dksX0_answer_0 7 rfl rfl)
theorem dX0_answer_10 : decode cX0_answer 10 = .ok (.iconst 0, 1) := dk_3 (dk_at dksX0_answer_0 10 rfl rfl)
theorem dX0_answer_11 : decode cX0_answer 11 = .ok (.putfield 73, 3) := dk_181 0 73 (dk_at dksX0_answer_0 11 rfl rfl)
theorem dX0_answer_14 : decode cX0_answer 14 = .ok (.iload_n 1, 1) := dk_27 (dk_at dksX0_answer_0 14 rfl rfl)
theorem dX0_answer_15 : decode cX0_answer 15 = .ok (.ireturn, 1) := dk_172 (dk_at dksX0_answer_0 15 rfl rfl)
def dkwX0_line_4 : List UInt8 := [182, 1, 27, 172]
abbrev dktX0_line_4 : List UInt8 := dkwX0_line_4 ++ []
def dkwX0_line_3 : List UInt8 := [154, 0, 15, 42, 182, 0, 182, 180, 1, 39, 27, 46, 167, 0, 12, 42, 182, 0, 182, 180, 1, 42, 27, 46]
abbrev dktX0_line_3 : List UInt8 := dkwX0_line_3 ++ dktX0_line_4
def dkwX0_line_2 : List UInt8 := [16, 8, 162, 0, 14, 42, 182, 0, 158, 27, 182, 1, 36, 167, 0, 4, 2, 182, 1, 27, 172, 42, 28]
abbrev dktX0_line_2 : List UInt8 := dkwX0_line_2 ++ dktX0_line_3
def dkwX0_line_1 : List UInt8 := [3, 167, 0, 4, 4, 181, 0, 73, 42, 180, 0, 73, 158, 0, 5, 2, 172, 28, 5, 160, 0, 26, 42, 27]
abbrev dktX0_line_1 : List UInt8 := dkwX0_line_1 ++ dktX0_line_2
def dkwX0_line_0 : List UInt8 := [42, 42, 182, 0, 182, 27, 182, 1, 31, 153, 0, 19, 28, 133, 9, 20, 1, 34, 184, 0, 164, 153, 0, 7]
abbrev dktX0_line_0 : List UInt8 := dkwX0_line_0 ++ dktX0_line_1
theorem dksX0_line_0 : cX0_line.data.toList.drop 0 = dktX0_line_0 := by decide +kernel
theorem dksX0_line_1 : cX0_line.data.toList.drop 24 = dktX0_line_1 := dk_seg dksX0_line_0 24 rfl rfl
theorem dksX0_line_2 : cX0_line.data.toList.drop 48 = dktX0_line_2 := dk_seg dksX0_line_1 24 rfl rfl
theorem dksX0_line_3 : cX0_line.data.toList.drop 71 = dktX0_line_3 := dk_seg dksX0_line_2 23 rfl rfl
theorem dksX0_line_4 : cX0_line.data.toList.drop 95 = dktX0_line_4 := dk_seg dksX0_line_3 24 rfl rfl
theorem dX0_line_0 : decode cX0_line 0 = .ok (.aload_n 0, 1) := dk_42 (dk_at dksX0_line_0 0 rfl rfl)
theorem dX0_line_1 : decode cX0_line 1 = .ok (.aload_n 0, 1) := dk_42 (dk_at dksX0_line_0 1 rfl rfl)
theorem dX0_line_2 : decode cX0_line 2 = .ok (.invokevirtual 182, 3) := dk_182 0 182 (dk_at dksX0_line_0 2 rfl rfl)
theorem dX0_line_5 : decode cX0_line 5 = .ok (.iload_n 1, 1) := dk_27 (dk_at dksX0_line_0 5 rfl rfl)
theorem dX0_line_6 : decode cX0_line 6 = .ok (.invokevirtual 287, 3) := dk_182 1 31 (dk_at dksX0_line_0 6 rfl rfl)
theorem dX0_line_9 : decode cX0_line 9 = .ok (.ifCond .eq 19, 3) := dk_153 0 19 (dk_at dksX0_line_0 9 rfl rfl)
theorem dX0_line_12 : decode cX0_line 12 = .ok (.iload_n 2, 1) := dk_28 (dk_at dksX0_line_0 12 rfl rfl)
theorem dX0_line_13 : decode cX0_line 13 = .ok (.i2l, 1) := dk_133 (dk_at dksX0_line_0 13 rfl rfl)
theorem dX0_line_14 : decode cX0_line 14 = .ok (.lconst 0, 1) := dk_9 (dk_at dksX0_line_0 14 rfl rfl)
theorem dX0_line_15 : decode cX0_line 15 = .ok (.ldc2_w 290, 3) := dk_20 1 34 (dk_at dksX0_line_0 15 rfl rfl)
theorem dX0_line_18 : decode cX0_line 18 = .ok (.invokestatic 164, 3) := dk_184 0 164 (dk_at dksX0_line_0 18 rfl rfl)
theorem dX0_line_21 : decode cX0_line 21 = .ok (.ifCond .eq 7, 3) := dk_153 0 7 (dk_at dksX0_line_0 21 rfl rfl)
theorem dX0_line_24 : decode cX0_line 24 = .ok (.iconst 0, 1) := dk_3 (dk_at dksX0_line_1 0 rfl rfl)
theorem dX0_line_25 : decode cX0_line 25 = .ok (.goto 4, 3) := dk_167 0 4 (dk_at dksX0_line_1 1 rfl rfl)
theorem dX0_line_28 : decode cX0_line 28 = .ok (.iconst 1, 1) := dk_4 (dk_at dksX0_line_1 4 rfl rfl)
theorem dX0_line_29 : decode cX0_line 29 = .ok (.putfield 73, 3) := dk_181 0 73 (dk_at dksX0_line_1 5 rfl rfl)
theorem dX0_line_32 : decode cX0_line 32 = .ok (.aload_n 0, 1) := dk_42 (dk_at dksX0_line_1 8 rfl rfl)
theorem dX0_line_33 : decode cX0_line 33 = .ok (.getfield 73, 3) := dk_180 0 73 (dk_at dksX0_line_1 9 rfl rfl)
theorem dX0_line_36 : decode cX0_line 36 = .ok (.ifCond .le 5, 3) := dk_158 0 5 (dk_at dksX0_line_1 12 rfl rfl)
theorem dX0_line_39 : decode cX0_line 39 = .ok (.iconst (-1), 1) := dk_2 (dk_at dksX0_line_1 15 rfl rfl)
theorem dX0_line_40 : decode cX0_line 40 = .ok (.ireturn, 1) := dk_172 (dk_at dksX0_line_1 16 rfl rfl)
theorem dX0_line_41 : decode cX0_line 41 = .ok (.iload_n 2, 1) := dk_28 (dk_at dksX0_line_1 17 rfl rfl)
theorem dX0_line_42 : decode cX0_line 42 = .ok (.iconst 2, 1) := dk_5 (dk_at dksX0_line_1 18 rfl rfl)
theorem dX0_line_43 : decode cX0_line 43 = .ok (.if_icmp .ne 26, 3) := dk_160 0 26 (dk_at dksX0_line_1 19 rfl rfl)
theorem dX0_line_46 : decode cX0_line 46 = .ok (.aload_n 0, 1) := dk_42 (dk_at dksX0_line_1 22 rfl rfl)
theorem dX0_line_47 : decode cX0_line 47 = .ok (.iload_n 1, 1) := dk_27 (dk_at dksX0_line_1 23 rfl rfl)
theorem dX0_line_48 : decode cX0_line 48 = .ok (.bipush 8, 2) := dk_16 8 (dk_at dksX0_line_2 0 rfl rfl)
theorem dX0_line_50 : decode cX0_line 50 = .ok (.if_icmp .ge 14, 3) := dk_162 0 14 (dk_at dksX0_line_2 2 rfl rfl)
theorem dX0_line_53 : decode cX0_line 53 = .ok (.aload_n 0, 1) := dk_42 (dk_at dksX0_line_2 5 rfl rfl)
theorem dX0_line_54 : decode cX0_line 54 = .ok (.invokevirtual 158, 3) := dk_182 0 158 (dk_at dksX0_line_2 6 rfl rfl)
theorem dX0_line_57 : decode cX0_line 57 = .ok (.iload_n 1, 1) := dk_27 (dk_at dksX0_line_2 9 rfl rfl)
theorem dX0_line_58 : decode cX0_line 58 = .ok (.invokevirtual 292, 3) := dk_182 1 36 (dk_at dksX0_line_2 10 rfl rfl)
theorem dX0_line_61 : decode cX0_line 61 = .ok (.goto 4, 3) := dk_167 0 4 (dk_at dksX0_line_2 13 rfl rfl)
theorem dX0_line_64 : decode cX0_line 64 = .ok (.iconst (-1), 1) := dk_2 (dk_at dksX0_line_2 16 rfl rfl)
theorem dX0_line_65 : decode cX0_line 65 = .ok (.invokevirtual 283, 3) := dk_182 1 27 (dk_at dksX0_line_2 17 rfl rfl)
theorem dX0_line_68 : decode cX0_line 68 = .ok (.ireturn, 1) := dk_172 (dk_at dksX0_line_2 20 rfl rfl)
theorem dX0_line_69 : decode cX0_line 69 = .ok (.aload_n 0, 1) := dk_42 (dk_at dksX0_line_2 21 rfl rfl)
theorem dX0_line_70 : decode cX0_line 70 = .ok (.iload_n 2, 1) := dk_28 (dk_at dksX0_line_2 22 rfl rfl)
theorem dX0_line_71 : decode cX0_line 71 = .ok (.ifCond .ne 15, 3) := dk_154 0 15 (dk_at dksX0_line_3 0 rfl rfl)
theorem dX0_line_74 : decode cX0_line 74 = .ok (.aload_n 0, 1) := dk_42 (dk_at dksX0_line_3 3 rfl rfl)
theorem dX0_line_75 : decode cX0_line 75 = .ok (.invokevirtual 182, 3) := dk_182 0 182 (dk_at dksX0_line_3 4 rfl rfl)
theorem dX0_line_78 : decode cX0_line 78 = .ok (.getfield 295, 3) := dk_180 1 39 (dk_at dksX0_line_3 7 rfl rfl)
theorem dX0_line_81 : decode cX0_line 81 = .ok (.iload_n 1, 1) := dk_27 (dk_at dksX0_line_3 10 rfl rfl)
theorem dX0_line_82 : decode cX0_line 82 = .ok (.iaload, 1) := dk_46 (dk_at dksX0_line_3 11 rfl rfl)
theorem dX0_line_83 : decode cX0_line 83 = .ok (.goto 12, 3) := dk_167 0 12 (dk_at dksX0_line_3 12 rfl rfl)
theorem dX0_line_86 : decode cX0_line 86 = .ok (.aload_n 0, 1) := dk_42 (dk_at dksX0_line_3 15 rfl rfl)
theorem dX0_line_87 : decode cX0_line 87 = .ok (.invokevirtual 182, 3) := dk_182 0 182 (dk_at dksX0_line_3 16 rfl rfl)
theorem dX0_line_90 : decode cX0_line 90 = .ok (.getfield 298, 3) := dk_180 1 42 (dk_at dksX0_line_3 19 rfl rfl)
theorem dX0_line_93 : decode cX0_line 93 = .ok (.iload_n 1, 1) := dk_27 (dk_at dksX0_line_3 22 rfl rfl)
theorem dX0_line_94 : decode cX0_line 94 = .ok (.iaload, 1) := dk_46 (dk_at dksX0_line_3 23 rfl rfl)
theorem dX0_line_95 : decode cX0_line 95 = .ok (.invokevirtual 283, 3) := dk_182 1 27 (dk_at dksX0_line_4 0 rfl rfl)
theorem dX0_line_98 : decode cX0_line 98 = .ok (.ireturn, 1) := dk_172 (dk_at dksX0_line_4 3 rfl rfl)
def dkwX0_fieldAt_2 : List UInt8 := [180, 0, 176, 28, 50, 29, 53, 172]
abbrev dktX0_fieldAt_2 : List UInt8 := dkwX0_fieldAt_2 ++ []
def dkwX0_fieldAt_1 : List UInt8 := [167, 0, 4, 4, 181, 0, 73, 42, 180, 0, 73, 158, 0, 7, 2, 167, 0, 15, 42, 27, 182, 0, 172]
abbrev dktX0_fieldAt_1 : List UInt8 := dkwX0_fieldAt_1 ++ dktX0_fieldAt_2
def dkwX0_fieldAt_0 : List UInt8 := [42, 42, 27, 28, 182, 1, 45, 153, 0, 19, 29, 133, 9, 20, 1, 48, 184, 0, 164, 153, 0, 7, 3]
abbrev dktX0_fieldAt_0 : List UInt8 := dkwX0_fieldAt_0 ++ dktX0_fieldAt_1
theorem dksX0_fieldAt_0 : cX0_fieldAt.data.toList.drop 0 = dktX0_fieldAt_0 := by decide +kernel
theorem dksX0_fieldAt_1 : cX0_fieldAt.data.toList.drop 23 = dktX0_fieldAt_1 := dk_seg dksX0_fieldAt_0 23 rfl rfl
theorem dksX0_fieldAt_2 : cX0_fieldAt.data.toList.drop 46 = dktX0_fieldAt_2 := dk_seg dksX0_fieldAt_1 23 rfl rfl
theorem dX0_fieldAt_0 : decode cX0_fieldAt 0 = .ok (.aload_n 0, 1) := dk_42 (dk_at dksX0_fieldAt_0 0 rfl rfl)
theorem dX0_fieldAt_1 : decode cX0_fieldAt 1 = .ok (.aload_n 0, 1) := dk_42 (dk_at dksX0_fieldAt_0 1 rfl rfl)
theorem dX0_fieldAt_2 : decode cX0_fieldAt 2 = .ok (.iload_n 1, 1) := dk_27 (dk_at dksX0_fieldAt_0 2 rfl rfl)
theorem dX0_fieldAt_3 : decode cX0_fieldAt 3 = .ok (.iload_n 2, 1) := dk_28 (dk_at dksX0_fieldAt_0 3 rfl rfl)
theorem dX0_fieldAt_4 : decode cX0_fieldAt 4 = .ok (.invokevirtual 301, 3) := dk_182 1 45 (dk_at dksX0_fieldAt_0 4 rfl rfl)
theorem dX0_fieldAt_7 : decode cX0_fieldAt 7 = .ok (.ifCond .eq 19, 3) := dk_153 0 19 (dk_at dksX0_fieldAt_0 7 rfl rfl)
theorem dX0_fieldAt_10 : decode cX0_fieldAt 10 = .ok (.iload_n 3, 1) := dk_29 (dk_at dksX0_fieldAt_0 10 rfl rfl)
theorem dX0_fieldAt_11 : decode cX0_fieldAt 11 = .ok (.i2l, 1) := dk_133 (dk_at dksX0_fieldAt_0 11 rfl rfl)
theorem dX0_fieldAt_12 : decode cX0_fieldAt 12 = .ok (.lconst 0, 1) := dk_9 (dk_at dksX0_fieldAt_0 12 rfl rfl)
theorem dX0_fieldAt_13 : decode cX0_fieldAt 13 = .ok (.ldc2_w 304, 3) := dk_20 1 48 (dk_at dksX0_fieldAt_0 13 rfl rfl)
theorem dX0_fieldAt_16 : decode cX0_fieldAt 16 = .ok (.invokestatic 164, 3) := dk_184 0 164 (dk_at dksX0_fieldAt_0 16 rfl rfl)
theorem dX0_fieldAt_19 : decode cX0_fieldAt 19 = .ok (.ifCond .eq 7, 3) := dk_153 0 7 (dk_at dksX0_fieldAt_0 19 rfl rfl)
theorem dX0_fieldAt_22 : decode cX0_fieldAt 22 = .ok (.iconst 0, 1) := dk_3 (dk_at dksX0_fieldAt_0 22 rfl rfl)
theorem dX0_fieldAt_23 : decode cX0_fieldAt 23 = .ok (.goto 4, 3) := dk_167 0 4 (dk_at dksX0_fieldAt_1 0 rfl rfl)
theorem dX0_fieldAt_26 : decode cX0_fieldAt 26 = .ok (.iconst 1, 1) := dk_4 (dk_at dksX0_fieldAt_1 3 rfl rfl)
theorem dX0_fieldAt_27 : decode cX0_fieldAt 27 = .ok (.putfield 73, 3) := dk_181 0 73 (dk_at dksX0_fieldAt_1 4 rfl rfl)
theorem dX0_fieldAt_30 : decode cX0_fieldAt 30 = .ok (.aload_n 0, 1) := dk_42 (dk_at dksX0_fieldAt_1 7 rfl rfl)
theorem dX0_fieldAt_31 : decode cX0_fieldAt 31 = .ok (.getfield 73, 3) := dk_180 0 73 (dk_at dksX0_fieldAt_1 8 rfl rfl)
theorem dX0_fieldAt_34 : decode cX0_fieldAt 34 = .ok (.ifCond .le 7, 3) := dk_158 0 7 (dk_at dksX0_fieldAt_1 11 rfl rfl)
theorem dX0_fieldAt_37 : decode cX0_fieldAt 37 = .ok (.iconst (-1), 1) := dk_2 (dk_at dksX0_fieldAt_1 14 rfl rfl)
theorem dX0_fieldAt_38 : decode cX0_fieldAt 38 = .ok (.goto 15, 3) := dk_167 0 15 (dk_at dksX0_fieldAt_1 15 rfl rfl)
theorem dX0_fieldAt_41 : decode cX0_fieldAt 41 = .ok (.aload_n 0, 1) := dk_42 (dk_at dksX0_fieldAt_1 18 rfl rfl)
theorem dX0_fieldAt_42 : decode cX0_fieldAt 42 = .ok (.iload_n 1, 1) := dk_27 (dk_at dksX0_fieldAt_1 19 rfl rfl)
theorem dX0_fieldAt_43 : decode cX0_fieldAt 43 = .ok (.invokevirtual 172, 3) := dk_182 0 172 (dk_at dksX0_fieldAt_1 20 rfl rfl)
theorem dX0_fieldAt_46 : decode cX0_fieldAt 46 = .ok (.getfield 176, 3) := dk_180 0 176 (dk_at dksX0_fieldAt_2 0 rfl rfl)
theorem dX0_fieldAt_49 : decode cX0_fieldAt 49 = .ok (.iload_n 2, 1) := dk_28 (dk_at dksX0_fieldAt_2 3 rfl rfl)
theorem dX0_fieldAt_50 : decode cX0_fieldAt 50 = .ok (.aaload, 1) := dk_50 (dk_at dksX0_fieldAt_2 4 rfl rfl)
theorem dX0_fieldAt_51 : decode cX0_fieldAt 51 = .ok (.iload_n 3, 1) := dk_29 (dk_at dksX0_fieldAt_2 5 rfl rfl)
theorem dX0_fieldAt_52 : decode cX0_fieldAt 52 = .ok (.saload, 1) := dk_53 (dk_at dksX0_fieldAt_2 6 rfl rfl)
theorem dX0_fieldAt_53 : decode cX0_fieldAt 53 = .ok (.ireturn, 1) := dk_172 (dk_at dksX0_fieldAt_2 7 rfl rfl)
def dkwX0_isFrame_1 : List UInt8 := [184, 0, 164, 153, 0, 7, 4, 167, 0, 4, 3, 172]
abbrev dktX0_isFrame_1 : List UInt8 := dkwX0_isFrame_1 ++ []
def dkwX0_isFrame_0 : List UInt8 := [42, 27, 182, 0, 168, 153, 0, 28, 28, 133, 9, 42, 27, 182, 0, 172, 180, 0, 176, 190, 4, 100, 133]
abbrev dktX0_isFrame_0 : List UInt8 := dkwX0_isFrame_0 ++ dktX0_isFrame_1
theorem dksX0_isFrame_0 : cX0_isFrame.data.toList.drop 0 = dktX0_isFrame_0 := by decide +kernel
theorem dksX0_isFrame_1 : cX0_isFrame.data.toList.drop 23 = dktX0_isFrame_1 := dk_seg dksX0_isFrame_0 23 rfl rfl
theorem dX0_isFrame_0 : decode cX0_isFrame 0 = .ok (.aload_n 0, 1) := dk_42 (dk_at dksX0_isFrame_0 0 rfl rfl)
theorem dX0_isFrame_1 : decode cX0_isFrame 1 = .ok (.iload_n 1, 1) := dk_27 (dk_at dksX0_isFrame_0 1 rfl rfl)
theorem dX0_isFrame_2 : decode cX0_isFrame 2 = .ok (.invokevirtual 168, 3) := dk_182 0 168 (dk_at dksX0_isFrame_0 2 rfl rfl)
theorem dX0_isFrame_5 : decode cX0_isFrame 5 = .ok (.ifCond .eq 28, 3) := dk_153 0 28 (dk_at dksX0_isFrame_0 5 rfl rfl)
theorem dX0_isFrame_8 : decode cX0_isFrame 8 = .ok (.iload_n 2, 1) := dk_28 (dk_at dksX0_isFrame_0 8 rfl rfl)
theorem dX0_isFrame_9 : decode cX0_isFrame 9 = .ok (.i2l, 1) := dk_133 (dk_at dksX0_isFrame_0 9 rfl rfl)
theorem dX0_isFrame_10 : decode cX0_isFrame 10 = .ok (.lconst 0, 1) := dk_9 (dk_at dksX0_isFrame_0 10 rfl rfl)
theorem dX0_isFrame_11 : decode cX0_isFrame 11 = .ok (.aload_n 0, 1) := dk_42 (dk_at dksX0_isFrame_0 11 rfl rfl)
theorem dX0_isFrame_12 : decode cX0_isFrame 12 = .ok (.iload_n 1, 1) := dk_27 (dk_at dksX0_isFrame_0 12 rfl rfl)
theorem dX0_isFrame_13 : decode cX0_isFrame 13 = .ok (.invokevirtual 172, 3) := dk_182 0 172 (dk_at dksX0_isFrame_0 13 rfl rfl)
theorem dX0_isFrame_16 : decode cX0_isFrame 16 = .ok (.getfield 176, 3) := dk_180 0 176 (dk_at dksX0_isFrame_0 16 rfl rfl)
theorem dX0_isFrame_19 : decode cX0_isFrame 19 = .ok (.arraylength, 1) := dk_190 (dk_at dksX0_isFrame_0 19 rfl rfl)
theorem dX0_isFrame_20 : decode cX0_isFrame 20 = .ok (.iconst 1, 1) := dk_4 (dk_at dksX0_isFrame_0 20 rfl rfl)
theorem dX0_isFrame_21 : decode cX0_isFrame 21 = .ok (.isub, 1) := dk_100 (dk_at dksX0_isFrame_0 21 rfl rfl)
theorem dX0_isFrame_22 : decode cX0_isFrame 22 = .ok (.i2l, 1) := dk_133 (dk_at dksX0_isFrame_0 22 rfl rfl)
theorem dX0_isFrame_23 : decode cX0_isFrame 23 = .ok (.invokestatic 164, 3) := dk_184 0 164 (dk_at dksX0_isFrame_1 0 rfl rfl)
theorem dX0_isFrame_26 : decode cX0_isFrame 26 = .ok (.ifCond .eq 7, 3) := dk_153 0 7 (dk_at dksX0_isFrame_1 3 rfl rfl)
theorem dX0_isFrame_29 : decode cX0_isFrame 29 = .ok (.iconst 1, 1) := dk_4 (dk_at dksX0_isFrame_1 6 rfl rfl)
theorem dX0_isFrame_30 : decode cX0_isFrame 30 = .ok (.goto 4, 3) := dk_167 0 4 (dk_at dksX0_isFrame_1 7 rfl rfl)
theorem dX0_isFrame_33 : decode cX0_isFrame 33 = .ok (.iconst 0, 1) := dk_3 (dk_at dksX0_isFrame_1 10 rfl rfl)
theorem dX0_isFrame_34 : decode cX0_isFrame 34 = .ok (.ireturn, 1) := dk_172 (dk_at dksX0_isFrame_1 11 rfl rfl)
def dkwX0_order_2 : List UInt8 := [158, 0, 7, 2, 167, 0, 13, 42, 27, 182, 0, 172, 180, 1, 50, 28, 46, 172]
abbrev dktX0_order_2 : List UInt8 := dkwX0_order_2 ++ []
def dkwX0_order_1 : List UInt8 := [190, 4, 100, 133, 184, 0, 164, 153, 0, 7, 3, 167, 0, 5, 16, 6, 181, 0, 73, 42, 180, 0, 73]
abbrev dktX0_order_1 : List UInt8 := dkwX0_order_1 ++ dktX0_order_2
def dkwX0_order_0 : List UInt8 := [42, 42, 27, 182, 0, 168, 154, 0, 7, 4, 167, 0, 30, 28, 133, 9, 42, 27, 182, 0, 172, 180, 0, 176]
abbrev dktX0_order_0 : List UInt8 := dkwX0_order_0 ++ dktX0_order_1
theorem dksX0_order_0 : cX0_order.data.toList.drop 0 = dktX0_order_0 := by decide +kernel
theorem dksX0_order_1 : cX0_order.data.toList.drop 24 = dktX0_order_1 := dk_seg dksX0_order_0 24 rfl rfl
theorem dksX0_order_2 : cX0_order.data.toList.drop 47 = dktX0_order_2 := dk_seg dksX0_order_1 23 rfl rfl
theorem dX0_order_0 : decode cX0_order 0 = .ok (.aload_n 0, 1) := dk_42 (dk_at dksX0_order_0 0 rfl rfl)
theorem dX0_order_1 : decode cX0_order 1 = .ok (.aload_n 0, 1) := dk_42 (dk_at dksX0_order_0 1 rfl rfl)
theorem dX0_order_2 : decode cX0_order 2 = .ok (.iload_n 1, 1) := dk_27 (dk_at dksX0_order_0 2 rfl rfl)
theorem dX0_order_3 : decode cX0_order 3 = .ok (.invokevirtual 168, 3) := dk_182 0 168 (dk_at dksX0_order_0 3 rfl rfl)
theorem dX0_order_6 : decode cX0_order 6 = .ok (.ifCond .ne 7, 3) := dk_154 0 7 (dk_at dksX0_order_0 6 rfl rfl)
theorem dX0_order_9 : decode cX0_order 9 = .ok (.iconst 1, 1) := dk_4 (dk_at dksX0_order_0 9 rfl rfl)
theorem dX0_order_10 : decode cX0_order 10 = .ok (.goto 30, 3) := dk_167 0 30 (dk_at dksX0_order_0 10 rfl rfl)
theorem dX0_order_13 : decode cX0_order 13 = .ok (.iload_n 2, 1) := dk_28 (dk_at dksX0_order_0 13 rfl rfl)
theorem dX0_order_14 : decode cX0_order 14 = .ok (.i2l, 1) := dk_133 (dk_at dksX0_order_0 14 rfl rfl)
theorem dX0_order_15 : decode cX0_order 15 = .ok (.lconst 0, 1) := dk_9 (dk_at dksX0_order_0 15 rfl rfl)
theorem dX0_order_16 : decode cX0_order 16 = .ok (.aload_n 0, 1) := dk_42 (dk_at dksX0_order_0 16 rfl rfl)
theorem dX0_order_17 : decode cX0_order 17 = .ok (.iload_n 1, 1) := dk_27 (dk_at dksX0_order_0 17 rfl rfl)
theorem dX0_order_18 : decode cX0_order 18 = .ok (.invokevirtual 172, 3) := dk_182 0 172 (dk_at dksX0_order_0 18 rfl rfl)
theorem dX0_order_21 : decode cX0_order 21 = .ok (.getfield 176, 3) := dk_180 0 176 (dk_at dksX0_order_0 21 rfl rfl)
theorem dX0_order_24 : decode cX0_order 24 = .ok (.arraylength, 1) := dk_190 (dk_at dksX0_order_1 0 rfl rfl)
theorem dX0_order_25 : decode cX0_order 25 = .ok (.iconst 1, 1) := dk_4 (dk_at dksX0_order_1 1 rfl rfl)
theorem dX0_order_26 : decode cX0_order 26 = .ok (.isub, 1) := dk_100 (dk_at dksX0_order_1 2 rfl rfl)
theorem dX0_order_27 : decode cX0_order 27 = .ok (.i2l, 1) := dk_133 (dk_at dksX0_order_1 3 rfl rfl)
theorem dX0_order_28 : decode cX0_order 28 = .ok (.invokestatic 164, 3) := dk_184 0 164 (dk_at dksX0_order_1 4 rfl rfl)
theorem dX0_order_31 : decode cX0_order 31 = .ok (.ifCond .eq 7, 3) := dk_153 0 7 (dk_at dksX0_order_1 7 rfl rfl)
theorem dX0_order_34 : decode cX0_order 34 = .ok (.iconst 0, 1) := dk_3 (dk_at dksX0_order_1 10 rfl rfl)
theorem dX0_order_35 : decode cX0_order 35 = .ok (.goto 5, 3) := dk_167 0 5 (dk_at dksX0_order_1 11 rfl rfl)
theorem dX0_order_38 : decode cX0_order 38 = .ok (.bipush 6, 2) := dk_16 6 (dk_at dksX0_order_1 14 rfl rfl)
theorem dX0_order_40 : decode cX0_order 40 = .ok (.putfield 73, 3) := dk_181 0 73 (dk_at dksX0_order_1 16 rfl rfl)
theorem dX0_order_43 : decode cX0_order 43 = .ok (.aload_n 0, 1) := dk_42 (dk_at dksX0_order_1 19 rfl rfl)
theorem dX0_order_44 : decode cX0_order 44 = .ok (.getfield 73, 3) := dk_180 0 73 (dk_at dksX0_order_1 20 rfl rfl)
theorem dX0_order_47 : decode cX0_order 47 = .ok (.ifCond .le 7, 3) := dk_158 0 7 (dk_at dksX0_order_2 0 rfl rfl)
theorem dX0_order_50 : decode cX0_order 50 = .ok (.iconst (-1), 1) := dk_2 (dk_at dksX0_order_2 3 rfl rfl)
theorem dX0_order_51 : decode cX0_order 51 = .ok (.goto 13, 3) := dk_167 0 13 (dk_at dksX0_order_2 4 rfl rfl)
theorem dX0_order_54 : decode cX0_order 54 = .ok (.aload_n 0, 1) := dk_42 (dk_at dksX0_order_2 7 rfl rfl)
theorem dX0_order_55 : decode cX0_order 55 = .ok (.iload_n 1, 1) := dk_27 (dk_at dksX0_order_2 8 rfl rfl)
theorem dX0_order_56 : decode cX0_order 56 = .ok (.invokevirtual 172, 3) := dk_182 0 172 (dk_at dksX0_order_2 9 rfl rfl)
theorem dX0_order_59 : decode cX0_order 59 = .ok (.getfield 306, 3) := dk_180 1 50 (dk_at dksX0_order_2 12 rfl rfl)
theorem dX0_order_62 : decode cX0_order 62 = .ok (.iload_n 2, 1) := dk_28 (dk_at dksX0_order_2 15 rfl rfl)
theorem dX0_order_63 : decode cX0_order 63 = .ok (.iaload, 1) := dk_46 (dk_at dksX0_order_2 16 rfl rfl)
theorem dX0_order_64 : decode cX0_order 64 = .ok (.ireturn, 1) := dk_172 (dk_at dksX0_order_2 17 rfl rfl)
def dkwX0_copyOut_4 : List UInt8 := [87, 132, 4, 1, 167, 255, 224, 16, 16, 172, 58, 4, 42, 25, 4, 182, 0, 131, 172]
abbrev dktX0_copyOut_4 : List UInt8 := dkwX0_copyOut_4 ++ []
def dkwX0_copyOut_3 : List UInt8 := [162, 0, 31, 42, 29, 21, 4, 42, 27, 182, 0, 172, 180, 0, 176, 28, 50, 21, 4, 53, 133, 182, 1, 58]
abbrev dktX0_copyOut_3 : List UInt8 := dkwX0_copyOut_3 ++ dktX0_copyOut_4
def dkwX0_copyOut_2 : List UInt8 := [184, 1, 55, 16, 16, 161, 0, 7, 4, 167, 0, 4, 3, 6, 182, 0, 98, 3, 54, 4, 21, 4, 16, 16]
abbrev dktX0_copyOut_2 : List UInt8 := dkwX0_copyOut_2 ++ dktX0_copyOut_3
def dkwX0_copyOut_1 : List UInt8 := [167, 0, 4, 4, 181, 0, 73, 42, 180, 0, 73, 158, 0, 5, 2, 172, 42, 42, 29, 182, 0, 115]
abbrev dktX0_copyOut_1 : List UInt8 := dkwX0_copyOut_1 ++ dktX0_copyOut_2
def dkwX0_copyOut_0 : List UInt8 := [42, 42, 27, 28, 182, 1, 45, 153, 0, 19, 29, 133, 9, 20, 1, 53, 184, 0, 164, 153, 0, 7, 3]
abbrev dktX0_copyOut_0 : List UInt8 := dkwX0_copyOut_0 ++ dktX0_copyOut_1
theorem dksX0_copyOut_0 : cX0_copyOut.data.toList.drop 0 = dktX0_copyOut_0 := by decide +kernel
theorem dksX0_copyOut_1 : cX0_copyOut.data.toList.drop 23 = dktX0_copyOut_1 := dk_seg dksX0_copyOut_0 23 rfl rfl
theorem dksX0_copyOut_2 : cX0_copyOut.data.toList.drop 45 = dktX0_copyOut_2 := dk_seg dksX0_copyOut_1 22 rfl rfl
theorem dksX0_copyOut_3 : cX0_copyOut.data.toList.drop 69 = dktX0_copyOut_3 := dk_seg dksX0_copyOut_2 24 rfl rfl
theorem dksX0_copyOut_4 : cX0_copyOut.data.toList.drop 93 = dktX0_copyOut_4 := dk_seg dksX0_copyOut_3 24 rfl rfl
theorem dX0_copyOut_0 : decode cX0_copyOut 0 = .ok (.aload_n 0, 1) := dk_42 (dk_at dksX0_copyOut_0 0 rfl rfl)
theorem dX0_copyOut_1 : decode cX0_copyOut 1 = .ok (.aload_n 0, 1) := dk_42 (dk_at dksX0_copyOut_0 1 rfl rfl)
theorem dX0_copyOut_2 : decode cX0_copyOut 2 = .ok (.iload_n 1, 1) := dk_27 (dk_at dksX0_copyOut_0 2 rfl rfl)
theorem dX0_copyOut_3 : decode cX0_copyOut 3 = .ok (.iload_n 2, 1) := dk_28 (dk_at dksX0_copyOut_0 3 rfl rfl)
theorem dX0_copyOut_4 : decode cX0_copyOut 4 = .ok (.invokevirtual 301, 3) := dk_182 1 45 (dk_at dksX0_copyOut_0 4 rfl rfl)
theorem dX0_copyOut_7 : decode cX0_copyOut 7 = .ok (.ifCond .eq 19, 3) := dk_153 0 19 (dk_at dksX0_copyOut_0 7 rfl rfl)
theorem dX0_copyOut_10 : decode cX0_copyOut 10 = .ok (.iload_n 3, 1) := dk_29 (dk_at dksX0_copyOut_0 10 rfl rfl)
theorem dX0_copyOut_11 : decode cX0_copyOut 11 = .ok (.i2l, 1) := dk_133 (dk_at dksX0_copyOut_0 11 rfl rfl)
theorem dX0_copyOut_12 : decode cX0_copyOut 12 = .ok (.lconst 0, 1) := dk_9 (dk_at dksX0_copyOut_0 12 rfl rfl)
theorem dX0_copyOut_13 : decode cX0_copyOut 13 = .ok (.ldc2_w 309, 3) := dk_20 1 53 (dk_at dksX0_copyOut_0 13 rfl rfl)
theorem dX0_copyOut_16 : decode cX0_copyOut 16 = .ok (.invokestatic 164, 3) := dk_184 0 164 (dk_at dksX0_copyOut_0 16 rfl rfl)
theorem dX0_copyOut_19 : decode cX0_copyOut 19 = .ok (.ifCond .eq 7, 3) := dk_153 0 7 (dk_at dksX0_copyOut_0 19 rfl rfl)
theorem dX0_copyOut_22 : decode cX0_copyOut 22 = .ok (.iconst 0, 1) := dk_3 (dk_at dksX0_copyOut_0 22 rfl rfl)
theorem dX0_copyOut_23 : decode cX0_copyOut 23 = .ok (.goto 4, 3) := dk_167 0 4 (dk_at dksX0_copyOut_1 0 rfl rfl)
theorem dX0_copyOut_26 : decode cX0_copyOut 26 = .ok (.iconst 1, 1) := dk_4 (dk_at dksX0_copyOut_1 3 rfl rfl)
theorem dX0_copyOut_27 : decode cX0_copyOut 27 = .ok (.putfield 73, 3) := dk_181 0 73 (dk_at dksX0_copyOut_1 4 rfl rfl)
theorem dX0_copyOut_30 : decode cX0_copyOut 30 = .ok (.aload_n 0, 1) := dk_42 (dk_at dksX0_copyOut_1 7 rfl rfl)
theorem dX0_copyOut_31 : decode cX0_copyOut 31 = .ok (.getfield 73, 3) := dk_180 0 73 (dk_at dksX0_copyOut_1 8 rfl rfl)
theorem dX0_copyOut_34 : decode cX0_copyOut 34 = .ok (.ifCond .le 5, 3) := dk_158 0 5 (dk_at dksX0_copyOut_1 11 rfl rfl)
theorem dX0_copyOut_37 : decode cX0_copyOut 37 = .ok (.iconst (-1), 1) := dk_2 (dk_at dksX0_copyOut_1 14 rfl rfl)
theorem dX0_copyOut_38 : decode cX0_copyOut 38 = .ok (.ireturn, 1) := dk_172 (dk_at dksX0_copyOut_1 15 rfl rfl)
theorem dX0_copyOut_39 : decode cX0_copyOut 39 = .ok (.aload_n 0, 1) := dk_42 (dk_at dksX0_copyOut_1 16 rfl rfl)
theorem dX0_copyOut_40 : decode cX0_copyOut 40 = .ok (.aload_n 0, 1) := dk_42 (dk_at dksX0_copyOut_1 17 rfl rfl)
theorem dX0_copyOut_41 : decode cX0_copyOut 41 = .ok (.iload_n 3, 1) := dk_29 (dk_at dksX0_copyOut_1 18 rfl rfl)
theorem dX0_copyOut_42 : decode cX0_copyOut 42 = .ok (.invokevirtual 115, 3) := dk_182 0 115 (dk_at dksX0_copyOut_1 19 rfl rfl)
theorem dX0_copyOut_45 : decode cX0_copyOut 45 = .ok (.invokestatic 311, 3) := dk_184 1 55 (dk_at dksX0_copyOut_2 0 rfl rfl)
theorem dX0_copyOut_48 : decode cX0_copyOut 48 = .ok (.bipush 16, 2) := dk_16 16 (dk_at dksX0_copyOut_2 3 rfl rfl)
theorem dX0_copyOut_50 : decode cX0_copyOut 50 = .ok (.if_icmp .lt 7, 3) := dk_161 0 7 (dk_at dksX0_copyOut_2 5 rfl rfl)
theorem dX0_copyOut_53 : decode cX0_copyOut 53 = .ok (.iconst 1, 1) := dk_4 (dk_at dksX0_copyOut_2 8 rfl rfl)
theorem dX0_copyOut_54 : decode cX0_copyOut 54 = .ok (.goto 4, 3) := dk_167 0 4 (dk_at dksX0_copyOut_2 9 rfl rfl)
theorem dX0_copyOut_57 : decode cX0_copyOut 57 = .ok (.iconst 0, 1) := dk_3 (dk_at dksX0_copyOut_2 12 rfl rfl)
theorem dX0_copyOut_58 : decode cX0_copyOut 58 = .ok (.iconst 3, 1) := dk_6 (dk_at dksX0_copyOut_2 13 rfl rfl)
theorem dX0_copyOut_59 : decode cX0_copyOut 59 = .ok (.invokevirtual 98, 3) := dk_182 0 98 (dk_at dksX0_copyOut_2 14 rfl rfl)
theorem dX0_copyOut_62 : decode cX0_copyOut 62 = .ok (.iconst 0, 1) := dk_3 (dk_at dksX0_copyOut_2 17 rfl rfl)
theorem dX0_copyOut_63 : decode cX0_copyOut 63 = .ok (.istore 4, 2) := dk_54 4 (dk_at dksX0_copyOut_2 18 rfl rfl)
theorem dX0_copyOut_65 : decode cX0_copyOut 65 = .ok (.iload 4, 2) := dk_21 4 (dk_at dksX0_copyOut_2 20 rfl rfl)
theorem dX0_copyOut_67 : decode cX0_copyOut 67 = .ok (.bipush 16, 2) := dk_16 16 (dk_at dksX0_copyOut_2 22 rfl rfl)
theorem dX0_copyOut_69 : decode cX0_copyOut 69 = .ok (.if_icmp .ge 31, 3) := dk_162 0 31 (dk_at dksX0_copyOut_3 0 rfl rfl)
theorem dX0_copyOut_72 : decode cX0_copyOut 72 = .ok (.aload_n 0, 1) := dk_42 (dk_at dksX0_copyOut_3 3 rfl rfl)
theorem dX0_copyOut_73 : decode cX0_copyOut 73 = .ok (.iload_n 3, 1) := dk_29 (dk_at dksX0_copyOut_3 4 rfl rfl)
theorem dX0_copyOut_74 : decode cX0_copyOut 74 = .ok (.iload 4, 2) := dk_21 4 (dk_at dksX0_copyOut_3 5 rfl rfl)
theorem dX0_copyOut_76 : decode cX0_copyOut 76 = .ok (.aload_n 0, 1) := dk_42 (dk_at dksX0_copyOut_3 7 rfl rfl)
theorem dX0_copyOut_77 : decode cX0_copyOut 77 = .ok (.iload_n 1, 1) := dk_27 (dk_at dksX0_copyOut_3 8 rfl rfl)
theorem dX0_copyOut_78 : decode cX0_copyOut 78 = .ok (.invokevirtual 172, 3) := dk_182 0 172 (dk_at dksX0_copyOut_3 9 rfl rfl)
theorem dX0_copyOut_81 : decode cX0_copyOut 81 = .ok (.getfield 176, 3) := dk_180 0 176 (dk_at dksX0_copyOut_3 12 rfl rfl)
theorem dX0_copyOut_84 : decode cX0_copyOut 84 = .ok (.iload_n 2, 1) := dk_28 (dk_at dksX0_copyOut_3 15 rfl rfl)
theorem dX0_copyOut_85 : decode cX0_copyOut 85 = .ok (.aaload, 1) := dk_50 (dk_at dksX0_copyOut_3 16 rfl rfl)
theorem dX0_copyOut_86 : decode cX0_copyOut 86 = .ok (.iload 4, 2) := dk_21 4 (dk_at dksX0_copyOut_3 17 rfl rfl)
theorem dX0_copyOut_88 : decode cX0_copyOut 88 = .ok (.saload, 1) := dk_53 (dk_at dksX0_copyOut_3 19 rfl rfl)
theorem dX0_copyOut_89 : decode cX0_copyOut 89 = .ok (.i2l, 1) := dk_133 (dk_at dksX0_copyOut_3 20 rfl rfl)
theorem dX0_copyOut_90 : decode cX0_copyOut 90 = .ok (.invokevirtual 314, 3) := dk_182 1 58 (dk_at dksX0_copyOut_3 21 rfl rfl)
theorem dX0_copyOut_93 : decode cX0_copyOut 93 = .ok (.pop, 1) := dk_87 (dk_at dksX0_copyOut_4 0 rfl rfl)
theorem dX0_copyOut_94 : decode cX0_copyOut 94 = .ok (.iinc 4 1, 3) := dk_132 4 1 (dk_at dksX0_copyOut_4 1 rfl rfl)
theorem dX0_copyOut_97 : decode cX0_copyOut 97 = .ok (.goto (-32), 3) := dk_167 255 224 (dk_at dksX0_copyOut_4 4 rfl rfl)
theorem dX0_copyOut_100 : decode cX0_copyOut 100 = .ok (.bipush 16, 2) := dk_16 16 (dk_at dksX0_copyOut_4 7 rfl rfl)
theorem dX0_copyOut_102 : decode cX0_copyOut 102 = .ok (.ireturn, 1) := dk_172 (dk_at dksX0_copyOut_4 9 rfl rfl)
theorem dX0_copyOut_103 : decode cX0_copyOut 103 = .ok (.astore 4, 2) := dk_58 4 (dk_at dksX0_copyOut_4 10 rfl rfl)
theorem dX0_copyOut_105 : decode cX0_copyOut 105 = .ok (.aload_n 0, 1) := dk_42 (dk_at dksX0_copyOut_4 12 rfl rfl)
theorem dX0_copyOut_106 : decode cX0_copyOut 106 = .ok (.aload 4, 2) := dk_25 4 (dk_at dksX0_copyOut_4 13 rfl rfl)
theorem dX0_copyOut_108 : decode cX0_copyOut 108 = .ok (.invokevirtual 131, 3) := dk_182 0 131 (dk_at dksX0_copyOut_4 15 rfl rfl)
theorem dX0_copyOut_111 : decode cX0_copyOut 111 = .ok (.ireturn, 1) := dk_172 (dk_at dksX0_copyOut_4 18 rfl rfl)
def dkwX0_sizeOf_2 : List UInt8 := [42, 192, 0, 7, 190, 172]
abbrev dktX0_sizeOf_2 : List UInt8 := dkwX0_sizeOf_2 ++ []
def dkwX0_sizeOf_1 : List UInt8 := [192, 0, 3, 76, 43, 190, 172, 42, 193, 0, 5, 153, 0, 13, 42, 192, 0, 5, 76, 43, 190, 167, 0, 8]
abbrev dktX0_sizeOf_1 : List UInt8 := dkwX0_sizeOf_1 ++ dktX0_sizeOf_2
def dkwX0_sizeOf_0 : List UInt8 := [42, 193, 0, 1, 153, 0, 11, 42, 192, 0, 1, 76, 43, 190, 172, 42, 193, 0, 3, 153, 0, 11, 42]
abbrev dktX0_sizeOf_0 : List UInt8 := dkwX0_sizeOf_0 ++ dktX0_sizeOf_1
theorem dksX0_sizeOf_0 : cX0_sizeOf.data.toList.drop 0 = dktX0_sizeOf_0 := by decide +kernel
theorem dksX0_sizeOf_1 : cX0_sizeOf.data.toList.drop 23 = dktX0_sizeOf_1 := dk_seg dksX0_sizeOf_0 23 rfl rfl
theorem dksX0_sizeOf_2 : cX0_sizeOf.data.toList.drop 47 = dktX0_sizeOf_2 := dk_seg dksX0_sizeOf_1 24 rfl rfl
theorem dX0_sizeOf_0 : decode cX0_sizeOf 0 = .ok (.aload_n 0, 1) := dk_42 (dk_at dksX0_sizeOf_0 0 rfl rfl)
theorem dX0_sizeOf_1 : decode cX0_sizeOf 1 = .ok (.instanceof 1, 3) := dk_193 0 1 (dk_at dksX0_sizeOf_0 1 rfl rfl)
theorem dX0_sizeOf_4 : decode cX0_sizeOf 4 = .ok (.ifCond .eq 11, 3) := dk_153 0 11 (dk_at dksX0_sizeOf_0 4 rfl rfl)
theorem dX0_sizeOf_7 : decode cX0_sizeOf 7 = .ok (.aload_n 0, 1) := dk_42 (dk_at dksX0_sizeOf_0 7 rfl rfl)
theorem dX0_sizeOf_8 : decode cX0_sizeOf 8 = .ok (.checkcast 1, 3) := dk_192 0 1 (dk_at dksX0_sizeOf_0 8 rfl rfl)
theorem dX0_sizeOf_11 : decode cX0_sizeOf 11 = .ok (.astore_n 1, 1) := dk_76 (dk_at dksX0_sizeOf_0 11 rfl rfl)
theorem dX0_sizeOf_12 : decode cX0_sizeOf 12 = .ok (.aload_n 1, 1) := dk_43 (dk_at dksX0_sizeOf_0 12 rfl rfl)
theorem dX0_sizeOf_13 : decode cX0_sizeOf 13 = .ok (.arraylength, 1) := dk_190 (dk_at dksX0_sizeOf_0 13 rfl rfl)
theorem dX0_sizeOf_14 : decode cX0_sizeOf 14 = .ok (.ireturn, 1) := dk_172 (dk_at dksX0_sizeOf_0 14 rfl rfl)
theorem dX0_sizeOf_15 : decode cX0_sizeOf 15 = .ok (.aload_n 0, 1) := dk_42 (dk_at dksX0_sizeOf_0 15 rfl rfl)
theorem dX0_sizeOf_16 : decode cX0_sizeOf 16 = .ok (.instanceof 3, 3) := dk_193 0 3 (dk_at dksX0_sizeOf_0 16 rfl rfl)
theorem dX0_sizeOf_19 : decode cX0_sizeOf 19 = .ok (.ifCond .eq 11, 3) := dk_153 0 11 (dk_at dksX0_sizeOf_0 19 rfl rfl)
theorem dX0_sizeOf_22 : decode cX0_sizeOf 22 = .ok (.aload_n 0, 1) := dk_42 (dk_at dksX0_sizeOf_0 22 rfl rfl)
theorem dX0_sizeOf_23 : decode cX0_sizeOf 23 = .ok (.checkcast 3, 3) := dk_192 0 3 (dk_at dksX0_sizeOf_1 0 rfl rfl)
theorem dX0_sizeOf_26 : decode cX0_sizeOf 26 = .ok (.astore_n 1, 1) := dk_76 (dk_at dksX0_sizeOf_1 3 rfl rfl)
theorem dX0_sizeOf_27 : decode cX0_sizeOf 27 = .ok (.aload_n 1, 1) := dk_43 (dk_at dksX0_sizeOf_1 4 rfl rfl)
theorem dX0_sizeOf_28 : decode cX0_sizeOf 28 = .ok (.arraylength, 1) := dk_190 (dk_at dksX0_sizeOf_1 5 rfl rfl)
theorem dX0_sizeOf_29 : decode cX0_sizeOf 29 = .ok (.ireturn, 1) := dk_172 (dk_at dksX0_sizeOf_1 6 rfl rfl)
theorem dX0_sizeOf_30 : decode cX0_sizeOf 30 = .ok (.aload_n 0, 1) := dk_42 (dk_at dksX0_sizeOf_1 7 rfl rfl)
theorem dX0_sizeOf_31 : decode cX0_sizeOf 31 = .ok (.instanceof 5, 3) := dk_193 0 5 (dk_at dksX0_sizeOf_1 8 rfl rfl)
theorem dX0_sizeOf_34 : decode cX0_sizeOf 34 = .ok (.ifCond .eq 13, 3) := dk_153 0 13 (dk_at dksX0_sizeOf_1 11 rfl rfl)
theorem dX0_sizeOf_37 : decode cX0_sizeOf 37 = .ok (.aload_n 0, 1) := dk_42 (dk_at dksX0_sizeOf_1 14 rfl rfl)
theorem dX0_sizeOf_38 : decode cX0_sizeOf 38 = .ok (.checkcast 5, 3) := dk_192 0 5 (dk_at dksX0_sizeOf_1 15 rfl rfl)
theorem dX0_sizeOf_41 : decode cX0_sizeOf 41 = .ok (.astore_n 1, 1) := dk_76 (dk_at dksX0_sizeOf_1 18 rfl rfl)
theorem dX0_sizeOf_42 : decode cX0_sizeOf 42 = .ok (.aload_n 1, 1) := dk_43 (dk_at dksX0_sizeOf_1 19 rfl rfl)
theorem dX0_sizeOf_43 : decode cX0_sizeOf 43 = .ok (.arraylength, 1) := dk_190 (dk_at dksX0_sizeOf_1 20 rfl rfl)
theorem dX0_sizeOf_44 : decode cX0_sizeOf 44 = .ok (.goto 8, 3) := dk_167 0 8 (dk_at dksX0_sizeOf_1 21 rfl rfl)
theorem dX0_sizeOf_47 : decode cX0_sizeOf 47 = .ok (.aload_n 0, 1) := dk_42 (dk_at dksX0_sizeOf_2 0 rfl rfl)
theorem dX0_sizeOf_48 : decode cX0_sizeOf 48 = .ok (.checkcast 7, 3) := dk_192 0 7 (dk_at dksX0_sizeOf_2 1 rfl rfl)
theorem dX0_sizeOf_51 : decode cX0_sizeOf 51 = .ok (.arraylength, 1) := dk_190 (dk_at dksX0_sizeOf_2 4 rfl rfl)
theorem dX0_sizeOf_52 : decode cX0_sizeOf 52 = .ok (.ireturn, 1) := dk_172 (dk_at dksX0_sizeOf_2 5 rfl rfl)
def dkwX0_copyIn_7 : List UInt8 := [89, 180, 0, 244, 21, 6, 96, 181, 0, 244, 21, 6, 172, 58, 4, 42, 25, 4, 182, 0, 131, 172]
abbrev dktX0_copyIn_7 : List UInt8 := dkwX0_copyIn_7 ++ []
def dkwX0_copyIn_6 : List UInt8 := [86, 132, 6, 1, 167, 255, 224, 42, 28, 182, 0, 172, 182, 1, 11, 21, 5, 100, 54, 6, 42, 182, 0, 158]
abbrev dktX0_copyIn_6 : List UInt8 := dkwX0_copyIn_6 ++ dktX0_copyIn_7
def dkwX0_copyIn_5 : List UInt8 := [162, 0, 31, 42, 28, 182, 0, 172, 180, 0, 176, 29, 50, 21, 6, 25, 4, 21, 6, 184, 0, 125, 136, 147]
abbrev dktX0_copyIn_5 : List UInt8 := dkwX0_copyIn_5 ++ dktX0_copyIn_6
def dkwX0_copyIn_4 : List UInt8 := [132, 5, 1, 167, 255, 227, 42, 28, 182, 0, 172, 182, 1, 11, 54, 5, 3, 54, 6, 21, 6, 16, 16]
abbrev dktX0_copyIn_4 : List UInt8 := dkwX0_copyIn_4 ++ dktX0_copyIn_5
def dkwX0_copyIn_3 : List UInt8 := [16, 16, 162, 0, 28, 42, 25, 4, 21, 5, 184, 0, 125, 9, 20, 1, 62, 184, 0, 164, 8, 182, 0, 98]
abbrev dktX0_copyIn_3 : List UInt8 := dkwX0_copyIn_3 ++ dktX0_copyIn_4
def dkwX0_copyIn_2 : List UInt8 := [25, 4, 184, 1, 55, 16, 16, 161, 0, 7, 4, 167, 0, 4, 3, 6, 182, 0, 98, 3, 54, 5, 21, 5]
abbrev dktX0_copyIn_2 : List UInt8 := dkwX0_copyIn_2 ++ dktX0_copyIn_3
def dkwX0_copyIn_1 : List UInt8 := [167, 0, 4, 4, 181, 0, 73, 42, 180, 0, 73, 158, 0, 5, 2, 172, 42, 27, 182, 0, 115, 58, 4, 42]
abbrev dktX0_copyIn_1 : List UInt8 := dkwX0_copyIn_1 ++ dktX0_copyIn_2
def dkwX0_copyIn_0 : List UInt8 := [42, 42, 28, 29, 182, 1, 45, 153, 0, 19, 27, 133, 9, 20, 1, 53, 184, 0, 164, 153, 0, 7, 3]
abbrev dktX0_copyIn_0 : List UInt8 := dkwX0_copyIn_0 ++ dktX0_copyIn_1
theorem dksX0_copyIn_0 : cX0_copyIn.data.toList.drop 0 = dktX0_copyIn_0 := by decide +kernel
theorem dksX0_copyIn_1 : cX0_copyIn.data.toList.drop 23 = dktX0_copyIn_1 := dk_seg dksX0_copyIn_0 23 rfl rfl
theorem dksX0_copyIn_2 : cX0_copyIn.data.toList.drop 47 = dktX0_copyIn_2 := dk_seg dksX0_copyIn_1 24 rfl rfl
theorem dksX0_copyIn_3 : cX0_copyIn.data.toList.drop 71 = dktX0_copyIn_3 := dk_seg dksX0_copyIn_2 24 rfl rfl
theorem dksX0_copyIn_4 : cX0_copyIn.data.toList.drop 95 = dktX0_copyIn_4 := dk_seg dksX0_copyIn_3 24 rfl rfl
theorem dksX0_copyIn_5 : cX0_copyIn.data.toList.drop 118 = dktX0_copyIn_5 := dk_seg dksX0_copyIn_4 23 rfl rfl
theorem dksX0_copyIn_6 : cX0_copyIn.data.toList.drop 142 = dktX0_copyIn_6 := dk_seg dksX0_copyIn_5 24 rfl rfl
theorem dksX0_copyIn_7 : cX0_copyIn.data.toList.drop 166 = dktX0_copyIn_7 := dk_seg dksX0_copyIn_6 24 rfl rfl
theorem dX0_copyIn_0 : decode cX0_copyIn 0 = .ok (.aload_n 0, 1) := dk_42 (dk_at dksX0_copyIn_0 0 rfl rfl)
theorem dX0_copyIn_1 : decode cX0_copyIn 1 = .ok (.aload_n 0, 1) := dk_42 (dk_at dksX0_copyIn_0 1 rfl rfl)
theorem dX0_copyIn_2 : decode cX0_copyIn 2 = .ok (.iload_n 2, 1) := dk_28 (dk_at dksX0_copyIn_0 2 rfl rfl)
theorem dX0_copyIn_3 : decode cX0_copyIn 3 = .ok (.iload_n 3, 1) := dk_29 (dk_at dksX0_copyIn_0 3 rfl rfl)
theorem dX0_copyIn_4 : decode cX0_copyIn 4 = .ok (.invokevirtual 301, 3) := dk_182 1 45 (dk_at dksX0_copyIn_0 4 rfl rfl)
theorem dX0_copyIn_7 : decode cX0_copyIn 7 = .ok (.ifCond .eq 19, 3) := dk_153 0 19 (dk_at dksX0_copyIn_0 7 rfl rfl)
theorem dX0_copyIn_10 : decode cX0_copyIn 10 = .ok (.iload_n 1, 1) := dk_27 (dk_at dksX0_copyIn_0 10 rfl rfl)
theorem dX0_copyIn_11 : decode cX0_copyIn 11 = .ok (.i2l, 1) := dk_133 (dk_at dksX0_copyIn_0 11 rfl rfl)
theorem dX0_copyIn_12 : decode cX0_copyIn 12 = .ok (.lconst 0, 1) := dk_9 (dk_at dksX0_copyIn_0 12 rfl rfl)
theorem dX0_copyIn_13 : decode cX0_copyIn 13 = .ok (.ldc2_w 309, 3) := dk_20 1 53 (dk_at dksX0_copyIn_0 13 rfl rfl)
theorem dX0_copyIn_16 : decode cX0_copyIn 16 = .ok (.invokestatic 164, 3) := dk_184 0 164 (dk_at dksX0_copyIn_0 16 rfl rfl)
theorem dX0_copyIn_19 : decode cX0_copyIn 19 = .ok (.ifCond .eq 7, 3) := dk_153 0 7 (dk_at dksX0_copyIn_0 19 rfl rfl)
theorem dX0_copyIn_22 : decode cX0_copyIn 22 = .ok (.iconst 0, 1) := dk_3 (dk_at dksX0_copyIn_0 22 rfl rfl)
theorem dX0_copyIn_23 : decode cX0_copyIn 23 = .ok (.goto 4, 3) := dk_167 0 4 (dk_at dksX0_copyIn_1 0 rfl rfl)
theorem dX0_copyIn_26 : decode cX0_copyIn 26 = .ok (.iconst 1, 1) := dk_4 (dk_at dksX0_copyIn_1 3 rfl rfl)
theorem dX0_copyIn_27 : decode cX0_copyIn 27 = .ok (.putfield 73, 3) := dk_181 0 73 (dk_at dksX0_copyIn_1 4 rfl rfl)
theorem dX0_copyIn_30 : decode cX0_copyIn 30 = .ok (.aload_n 0, 1) := dk_42 (dk_at dksX0_copyIn_1 7 rfl rfl)
theorem dX0_copyIn_31 : decode cX0_copyIn 31 = .ok (.getfield 73, 3) := dk_180 0 73 (dk_at dksX0_copyIn_1 8 rfl rfl)
theorem dX0_copyIn_34 : decode cX0_copyIn 34 = .ok (.ifCond .le 5, 3) := dk_158 0 5 (dk_at dksX0_copyIn_1 11 rfl rfl)
theorem dX0_copyIn_37 : decode cX0_copyIn 37 = .ok (.iconst (-1), 1) := dk_2 (dk_at dksX0_copyIn_1 14 rfl rfl)
theorem dX0_copyIn_38 : decode cX0_copyIn 38 = .ok (.ireturn, 1) := dk_172 (dk_at dksX0_copyIn_1 15 rfl rfl)
theorem dX0_copyIn_39 : decode cX0_copyIn 39 = .ok (.aload_n 0, 1) := dk_42 (dk_at dksX0_copyIn_1 16 rfl rfl)
theorem dX0_copyIn_40 : decode cX0_copyIn 40 = .ok (.iload_n 1, 1) := dk_27 (dk_at dksX0_copyIn_1 17 rfl rfl)
theorem dX0_copyIn_41 : decode cX0_copyIn 41 = .ok (.invokevirtual 115, 3) := dk_182 0 115 (dk_at dksX0_copyIn_1 18 rfl rfl)
theorem dX0_copyIn_44 : decode cX0_copyIn 44 = .ok (.astore 4, 2) := dk_58 4 (dk_at dksX0_copyIn_1 21 rfl rfl)
theorem dX0_copyIn_46 : decode cX0_copyIn 46 = .ok (.aload_n 0, 1) := dk_42 (dk_at dksX0_copyIn_1 23 rfl rfl)
theorem dX0_copyIn_47 : decode cX0_copyIn 47 = .ok (.aload 4, 2) := dk_25 4 (dk_at dksX0_copyIn_2 0 rfl rfl)
theorem dX0_copyIn_49 : decode cX0_copyIn 49 = .ok (.invokestatic 311, 3) := dk_184 1 55 (dk_at dksX0_copyIn_2 2 rfl rfl)
theorem dX0_copyIn_52 : decode cX0_copyIn 52 = .ok (.bipush 16, 2) := dk_16 16 (dk_at dksX0_copyIn_2 5 rfl rfl)
theorem dX0_copyIn_54 : decode cX0_copyIn 54 = .ok (.if_icmp .lt 7, 3) := dk_161 0 7 (dk_at dksX0_copyIn_2 7 rfl rfl)
theorem dX0_copyIn_57 : decode cX0_copyIn 57 = .ok (.iconst 1, 1) := dk_4 (dk_at dksX0_copyIn_2 10 rfl rfl)
theorem dX0_copyIn_58 : decode cX0_copyIn 58 = .ok (.goto 4, 3) := dk_167 0 4 (dk_at dksX0_copyIn_2 11 rfl rfl)
theorem dX0_copyIn_61 : decode cX0_copyIn 61 = .ok (.iconst 0, 1) := dk_3 (dk_at dksX0_copyIn_2 14 rfl rfl)
theorem dX0_copyIn_62 : decode cX0_copyIn 62 = .ok (.iconst 3, 1) := dk_6 (dk_at dksX0_copyIn_2 15 rfl rfl)
theorem dX0_copyIn_63 : decode cX0_copyIn 63 = .ok (.invokevirtual 98, 3) := dk_182 0 98 (dk_at dksX0_copyIn_2 16 rfl rfl)
theorem dX0_copyIn_66 : decode cX0_copyIn 66 = .ok (.iconst 0, 1) := dk_3 (dk_at dksX0_copyIn_2 19 rfl rfl)
theorem dX0_copyIn_67 : decode cX0_copyIn 67 = .ok (.istore 5, 2) := dk_54 5 (dk_at dksX0_copyIn_2 20 rfl rfl)
theorem dX0_copyIn_69 : decode cX0_copyIn 69 = .ok (.iload 5, 2) := dk_21 5 (dk_at dksX0_copyIn_2 22 rfl rfl)
theorem dX0_copyIn_71 : decode cX0_copyIn 71 = .ok (.bipush 16, 2) := dk_16 16 (dk_at dksX0_copyIn_3 0 rfl rfl)
theorem dX0_copyIn_73 : decode cX0_copyIn 73 = .ok (.if_icmp .ge 28, 3) := dk_162 0 28 (dk_at dksX0_copyIn_3 2 rfl rfl)
theorem dX0_copyIn_76 : decode cX0_copyIn 76 = .ok (.aload_n 0, 1) := dk_42 (dk_at dksX0_copyIn_3 5 rfl rfl)
theorem dX0_copyIn_77 : decode cX0_copyIn 77 = .ok (.aload 4, 2) := dk_25 4 (dk_at dksX0_copyIn_3 6 rfl rfl)
theorem dX0_copyIn_79 : decode cX0_copyIn 79 = .ok (.iload 5, 2) := dk_21 5 (dk_at dksX0_copyIn_3 8 rfl rfl)
theorem dX0_copyIn_81 : decode cX0_copyIn 81 = .ok (.invokestatic 125, 3) := dk_184 0 125 (dk_at dksX0_copyIn_3 10 rfl rfl)
theorem dX0_copyIn_84 : decode cX0_copyIn 84 = .ok (.lconst 0, 1) := dk_9 (dk_at dksX0_copyIn_3 13 rfl rfl)
theorem dX0_copyIn_85 : decode cX0_copyIn 85 = .ok (.ldc2_w 318, 3) := dk_20 1 62 (dk_at dksX0_copyIn_3 14 rfl rfl)
theorem dX0_copyIn_88 : decode cX0_copyIn 88 = .ok (.invokestatic 164, 3) := dk_184 0 164 (dk_at dksX0_copyIn_3 17 rfl rfl)
theorem dX0_copyIn_91 : decode cX0_copyIn 91 = .ok (.iconst 5, 1) := dk_8 (dk_at dksX0_copyIn_3 20 rfl rfl)
theorem dX0_copyIn_92 : decode cX0_copyIn 92 = .ok (.invokevirtual 98, 3) := dk_182 0 98 (dk_at dksX0_copyIn_3 21 rfl rfl)
theorem dX0_copyIn_95 : decode cX0_copyIn 95 = .ok (.iinc 5 1, 3) := dk_132 5 1 (dk_at dksX0_copyIn_4 0 rfl rfl)
theorem dX0_copyIn_98 : decode cX0_copyIn 98 = .ok (.goto (-29), 3) := dk_167 255 227 (dk_at dksX0_copyIn_4 3 rfl rfl)
theorem dX0_copyIn_101 : decode cX0_copyIn 101 = .ok (.aload_n 0, 1) := dk_42 (dk_at dksX0_copyIn_4 6 rfl rfl)
theorem dX0_copyIn_102 : decode cX0_copyIn 102 = .ok (.iload_n 2, 1) := dk_28 (dk_at dksX0_copyIn_4 7 rfl rfl)
theorem dX0_copyIn_103 : decode cX0_copyIn 103 = .ok (.invokevirtual 172, 3) := dk_182 0 172 (dk_at dksX0_copyIn_4 8 rfl rfl)
theorem dX0_copyIn_106 : decode cX0_copyIn 106 = .ok (.invokevirtual 267, 3) := dk_182 1 11 (dk_at dksX0_copyIn_4 11 rfl rfl)
theorem dX0_copyIn_109 : decode cX0_copyIn 109 = .ok (.istore 5, 2) := dk_54 5 (dk_at dksX0_copyIn_4 14 rfl rfl)
theorem dX0_copyIn_111 : decode cX0_copyIn 111 = .ok (.iconst 0, 1) := dk_3 (dk_at dksX0_copyIn_4 16 rfl rfl)
theorem dX0_copyIn_112 : decode cX0_copyIn 112 = .ok (.istore 6, 2) := dk_54 6 (dk_at dksX0_copyIn_4 17 rfl rfl)
theorem dX0_copyIn_114 : decode cX0_copyIn 114 = .ok (.iload 6, 2) := dk_21 6 (dk_at dksX0_copyIn_4 19 rfl rfl)
theorem dX0_copyIn_116 : decode cX0_copyIn 116 = .ok (.bipush 16, 2) := dk_16 16 (dk_at dksX0_copyIn_4 21 rfl rfl)
theorem dX0_copyIn_118 : decode cX0_copyIn 118 = .ok (.if_icmp .ge 31, 3) := dk_162 0 31 (dk_at dksX0_copyIn_5 0 rfl rfl)
theorem dX0_copyIn_121 : decode cX0_copyIn 121 = .ok (.aload_n 0, 1) := dk_42 (dk_at dksX0_copyIn_5 3 rfl rfl)
theorem dX0_copyIn_122 : decode cX0_copyIn 122 = .ok (.iload_n 2, 1) := dk_28 (dk_at dksX0_copyIn_5 4 rfl rfl)
theorem dX0_copyIn_123 : decode cX0_copyIn 123 = .ok (.invokevirtual 172, 3) := dk_182 0 172 (dk_at dksX0_copyIn_5 5 rfl rfl)
theorem dX0_copyIn_126 : decode cX0_copyIn 126 = .ok (.getfield 176, 3) := dk_180 0 176 (dk_at dksX0_copyIn_5 8 rfl rfl)
theorem dX0_copyIn_129 : decode cX0_copyIn 129 = .ok (.iload_n 3, 1) := dk_29 (dk_at dksX0_copyIn_5 11 rfl rfl)
theorem dX0_copyIn_130 : decode cX0_copyIn 130 = .ok (.aaload, 1) := dk_50 (dk_at dksX0_copyIn_5 12 rfl rfl)
theorem dX0_copyIn_131 : decode cX0_copyIn 131 = .ok (.iload 6, 2) := dk_21 6 (dk_at dksX0_copyIn_5 13 rfl rfl)
theorem dX0_copyIn_133 : decode cX0_copyIn 133 = .ok (.aload 4, 2) := dk_25 4 (dk_at dksX0_copyIn_5 15 rfl rfl)
theorem dX0_copyIn_135 : decode cX0_copyIn 135 = .ok (.iload 6, 2) := dk_21 6 (dk_at dksX0_copyIn_5 17 rfl rfl)
theorem dX0_copyIn_137 : decode cX0_copyIn 137 = .ok (.invokestatic 125, 3) := dk_184 0 125 (dk_at dksX0_copyIn_5 19 rfl rfl)
theorem dX0_copyIn_140 : decode cX0_copyIn 140 = .ok (.l2i, 1) := dk_136 (dk_at dksX0_copyIn_5 22 rfl rfl)
theorem dX0_copyIn_141 : decode cX0_copyIn 141 = .ok (.i2s, 1) := dk_147 (dk_at dksX0_copyIn_5 23 rfl rfl)
theorem dX0_copyIn_142 : decode cX0_copyIn 142 = .ok (.sastore, 1) := dk_86 (dk_at dksX0_copyIn_6 0 rfl rfl)
theorem dX0_copyIn_143 : decode cX0_copyIn 143 = .ok (.iinc 6 1, 3) := dk_132 6 1 (dk_at dksX0_copyIn_6 1 rfl rfl)
theorem dX0_copyIn_146 : decode cX0_copyIn 146 = .ok (.goto (-32), 3) := dk_167 255 224 (dk_at dksX0_copyIn_6 4 rfl rfl)
theorem dX0_copyIn_149 : decode cX0_copyIn 149 = .ok (.aload_n 0, 1) := dk_42 (dk_at dksX0_copyIn_6 7 rfl rfl)
theorem dX0_copyIn_150 : decode cX0_copyIn 150 = .ok (.iload_n 2, 1) := dk_28 (dk_at dksX0_copyIn_6 8 rfl rfl)
theorem dX0_copyIn_151 : decode cX0_copyIn 151 = .ok (.invokevirtual 172, 3) := dk_182 0 172 (dk_at dksX0_copyIn_6 9 rfl rfl)
theorem dX0_copyIn_154 : decode cX0_copyIn 154 = .ok (.invokevirtual 267, 3) := dk_182 1 11 (dk_at dksX0_copyIn_6 12 rfl rfl)
theorem dX0_copyIn_157 : decode cX0_copyIn 157 = .ok (.iload 5, 2) := dk_21 5 (dk_at dksX0_copyIn_6 15 rfl rfl)
theorem dX0_copyIn_159 : decode cX0_copyIn 159 = .ok (.isub, 1) := dk_100 (dk_at dksX0_copyIn_6 17 rfl rfl)
theorem dX0_copyIn_160 : decode cX0_copyIn 160 = .ok (.istore 6, 2) := dk_54 6 (dk_at dksX0_copyIn_6 18 rfl rfl)
theorem dX0_copyIn_162 : decode cX0_copyIn 162 = .ok (.aload_n 0, 1) := dk_42 (dk_at dksX0_copyIn_6 20 rfl rfl)
theorem dX0_copyIn_163 : decode cX0_copyIn 163 = .ok (.invokevirtual 158, 3) := dk_182 0 158 (dk_at dksX0_copyIn_6 21 rfl rfl)
theorem dX0_copyIn_166 : decode cX0_copyIn 166 = .ok (.dup, 1) := dk_89 (dk_at dksX0_copyIn_7 0 rfl rfl)
theorem dX0_copyIn_167 : decode cX0_copyIn 167 = .ok (.getfield 244, 3) := dk_180 0 244 (dk_at dksX0_copyIn_7 1 rfl rfl)
theorem dX0_copyIn_170 : decode cX0_copyIn 170 = .ok (.iload 6, 2) := dk_21 6 (dk_at dksX0_copyIn_7 4 rfl rfl)
theorem dX0_copyIn_172 : decode cX0_copyIn 172 = .ok (.iadd, 1) := dk_96 (dk_at dksX0_copyIn_7 6 rfl rfl)
theorem dX0_copyIn_173 : decode cX0_copyIn 173 = .ok (.putfield 244, 3) := dk_181 0 244 (dk_at dksX0_copyIn_7 7 rfl rfl)
theorem dX0_copyIn_176 : decode cX0_copyIn 176 = .ok (.iload 6, 2) := dk_21 6 (dk_at dksX0_copyIn_7 10 rfl rfl)
theorem dX0_copyIn_178 : decode cX0_copyIn 178 = .ok (.ireturn, 1) := dk_172 (dk_at dksX0_copyIn_7 12 rfl rfl)
theorem dX0_copyIn_179 : decode cX0_copyIn 179 = .ok (.astore 4, 2) := dk_58 4 (dk_at dksX0_copyIn_7 13 rfl rfl)
theorem dX0_copyIn_181 : decode cX0_copyIn 181 = .ok (.aload_n 0, 1) := dk_42 (dk_at dksX0_copyIn_7 15 rfl rfl)
theorem dX0_copyIn_182 : decode cX0_copyIn 182 = .ok (.aload 4, 2) := dk_25 4 (dk_at dksX0_copyIn_7 16 rfl rfl)
theorem dX0_copyIn_184 : decode cX0_copyIn 184 = .ok (.invokevirtual 131, 3) := dk_182 0 131 (dk_at dksX0_copyIn_7 18 rfl rfl)
theorem dX0_copyIn_187 : decode cX0_copyIn 187 = .ok (.ireturn, 1) := dk_172 (dk_at dksX0_copyIn_7 21 rfl rfl)
def dkwX0_days_2 : List UInt8 := [182, 0, 158, 27, 182, 1, 69, 42, 182, 0, 158, 180, 0, 241, 172]
abbrev dktX0_days_2 : List UInt8 := dkwX0_days_2 ++ []
def dkwX0_days_1 : List UInt8 := [182, 1, 66, 153, 0, 7, 3, 167, 0, 4, 7, 181, 0, 73, 42, 180, 0, 73, 158, 0, 5, 2, 172, 42]
abbrev dktX0_days_1 : List UInt8 := dkwX0_days_1 ++ dktX0_days_2
def dkwX0_days_0 : List UInt8 := [42, 27, 133, 10, 20, 1, 64, 184, 0, 164, 154, 0, 7, 4, 167, 0, 19, 42, 182, 0, 158, 27]
abbrev dktX0_days_0 : List UInt8 := dkwX0_days_0 ++ dktX0_days_1
theorem dksX0_days_0 : cX0_days.data.toList.drop 0 = dktX0_days_0 := by decide +kernel
theorem dksX0_days_1 : cX0_days.data.toList.drop 22 = dktX0_days_1 := dk_seg dksX0_days_0 22 rfl rfl
theorem dksX0_days_2 : cX0_days.data.toList.drop 46 = dktX0_days_2 := dk_seg dksX0_days_1 24 rfl rfl
theorem dX0_days_0 : decode cX0_days 0 = .ok (.aload_n 0, 1) := dk_42 (dk_at dksX0_days_0 0 rfl rfl)
theorem dX0_days_1 : decode cX0_days 1 = .ok (.iload_n 1, 1) := dk_27 (dk_at dksX0_days_0 1 rfl rfl)
theorem dX0_days_2 : decode cX0_days 2 = .ok (.i2l, 1) := dk_133 (dk_at dksX0_days_0 2 rfl rfl)
theorem dX0_days_3 : decode cX0_days 3 = .ok (.lconst 1, 1) := dk_10 (dk_at dksX0_days_0 3 rfl rfl)
theorem dX0_days_4 : decode cX0_days 4 = .ok (.ldc2_w 320, 3) := dk_20 1 64 (dk_at dksX0_days_0 4 rfl rfl)
theorem dX0_days_7 : decode cX0_days 7 = .ok (.invokestatic 164, 3) := dk_184 0 164 (dk_at dksX0_days_0 7 rfl rfl)
theorem dX0_days_10 : decode cX0_days 10 = .ok (.ifCond .ne 7, 3) := dk_154 0 7 (dk_at dksX0_days_0 10 rfl rfl)
theorem dX0_days_13 : decode cX0_days 13 = .ok (.iconst 1, 1) := dk_4 (dk_at dksX0_days_0 13 rfl rfl)
theorem dX0_days_14 : decode cX0_days 14 = .ok (.goto 19, 3) := dk_167 0 19 (dk_at dksX0_days_0 14 rfl rfl)
theorem dX0_days_17 : decode cX0_days 17 = .ok (.aload_n 0, 1) := dk_42 (dk_at dksX0_days_0 17 rfl rfl)
theorem dX0_days_18 : decode cX0_days 18 = .ok (.invokevirtual 158, 3) := dk_182 0 158 (dk_at dksX0_days_0 18 rfl rfl)
theorem dX0_days_21 : decode cX0_days 21 = .ok (.iload_n 1, 1) := dk_27 (dk_at dksX0_days_0 21 rfl rfl)
theorem dX0_days_22 : decode cX0_days 22 = .ok (.invokevirtual 322, 3) := dk_182 1 66 (dk_at dksX0_days_1 0 rfl rfl)
theorem dX0_days_25 : decode cX0_days 25 = .ok (.ifCond .eq 7, 3) := dk_153 0 7 (dk_at dksX0_days_1 3 rfl rfl)
theorem dX0_days_28 : decode cX0_days 28 = .ok (.iconst 0, 1) := dk_3 (dk_at dksX0_days_1 6 rfl rfl)
theorem dX0_days_29 : decode cX0_days 29 = .ok (.goto 4, 3) := dk_167 0 4 (dk_at dksX0_days_1 7 rfl rfl)
theorem dX0_days_32 : decode cX0_days 32 = .ok (.iconst 4, 1) := dk_7 (dk_at dksX0_days_1 10 rfl rfl)
theorem dX0_days_33 : decode cX0_days 33 = .ok (.putfield 73, 3) := dk_181 0 73 (dk_at dksX0_days_1 11 rfl rfl)
theorem dX0_days_36 : decode cX0_days 36 = .ok (.aload_n 0, 1) := dk_42 (dk_at dksX0_days_1 14 rfl rfl)
theorem dX0_days_37 : decode cX0_days 37 = .ok (.getfield 73, 3) := dk_180 0 73 (dk_at dksX0_days_1 15 rfl rfl)
theorem dX0_days_40 : decode cX0_days 40 = .ok (.ifCond .le 5, 3) := dk_158 0 5 (dk_at dksX0_days_1 18 rfl rfl)
theorem dX0_days_43 : decode cX0_days 43 = .ok (.iconst (-1), 1) := dk_2 (dk_at dksX0_days_1 21 rfl rfl)
theorem dX0_days_44 : decode cX0_days 44 = .ok (.ireturn, 1) := dk_172 (dk_at dksX0_days_1 22 rfl rfl)
theorem dX0_days_45 : decode cX0_days 45 = .ok (.aload_n 0, 1) := dk_42 (dk_at dksX0_days_1 23 rfl rfl)
theorem dX0_days_46 : decode cX0_days 46 = .ok (.invokevirtual 158, 3) := dk_182 0 158 (dk_at dksX0_days_2 0 rfl rfl)
theorem dX0_days_49 : decode cX0_days 49 = .ok (.iload_n 1, 1) := dk_27 (dk_at dksX0_days_2 3 rfl rfl)
theorem dX0_days_50 : decode cX0_days 50 = .ok (.invokevirtual 325, 3) := dk_182 1 69 (dk_at dksX0_days_2 4 rfl rfl)
theorem dX0_days_53 : decode cX0_days 53 = .ok (.aload_n 0, 1) := dk_42 (dk_at dksX0_days_2 7 rfl rfl)
theorem dX0_days_54 : decode cX0_days 54 = .ok (.invokevirtual 158, 3) := dk_182 0 158 (dk_at dksX0_days_2 8 rfl rfl)
theorem dX0_days_57 : decode cX0_days 57 = .ok (.getfield 241, 3) := dk_180 0 241 (dk_at dksX0_days_2 11 rfl rfl)
theorem dX0_days_60 : decode cX0_days 60 = .ok (.ireturn, 1) := dk_172 (dk_at dksX0_days_2 14 rfl rfl)
def dkwX0_bring_2 : List UInt8 := [182, 1, 74, 172]
abbrev dktX0_bring_2 : List UInt8 := dkwX0_bring_2 ++ []
def dkwX0_bring_1 : List UInt8 := [167, 0, 4, 4, 181, 0, 73, 42, 180, 0, 73, 158, 0, 7, 2, 167, 0, 12, 42, 182, 0, 158, 27, 28]
abbrev dktX0_bring_1 : List UInt8 := dkwX0_bring_1 ++ dktX0_bring_2
def dkwX0_bring_0 : List UInt8 := [42, 42, 27, 182, 0, 168, 153, 0, 19, 28, 133, 9, 20, 1, 72, 184, 0, 164, 153, 0, 7, 3]
abbrev dktX0_bring_0 : List UInt8 := dkwX0_bring_0 ++ dktX0_bring_1
theorem dksX0_bring_0 : cX0_bring.data.toList.drop 0 = dktX0_bring_0 := by decide +kernel
theorem dksX0_bring_1 : cX0_bring.data.toList.drop 22 = dktX0_bring_1 := dk_seg dksX0_bring_0 22 rfl rfl
theorem dksX0_bring_2 : cX0_bring.data.toList.drop 46 = dktX0_bring_2 := dk_seg dksX0_bring_1 24 rfl rfl
theorem dX0_bring_0 : decode cX0_bring 0 = .ok (.aload_n 0, 1) := dk_42 (dk_at dksX0_bring_0 0 rfl rfl)
theorem dX0_bring_1 : decode cX0_bring 1 = .ok (.aload_n 0, 1) := dk_42 (dk_at dksX0_bring_0 1 rfl rfl)
theorem dX0_bring_2 : decode cX0_bring 2 = .ok (.iload_n 1, 1) := dk_27 (dk_at dksX0_bring_0 2 rfl rfl)
theorem dX0_bring_3 : decode cX0_bring 3 = .ok (.invokevirtual 168, 3) := dk_182 0 168 (dk_at dksX0_bring_0 3 rfl rfl)
theorem dX0_bring_6 : decode cX0_bring 6 = .ok (.ifCond .eq 19, 3) := dk_153 0 19 (dk_at dksX0_bring_0 6 rfl rfl)
theorem dX0_bring_9 : decode cX0_bring 9 = .ok (.iload_n 2, 1) := dk_28 (dk_at dksX0_bring_0 9 rfl rfl)
theorem dX0_bring_10 : decode cX0_bring 10 = .ok (.i2l, 1) := dk_133 (dk_at dksX0_bring_0 10 rfl rfl)
theorem dX0_bring_11 : decode cX0_bring 11 = .ok (.lconst 0, 1) := dk_9 (dk_at dksX0_bring_0 11 rfl rfl)
theorem dX0_bring_12 : decode cX0_bring 12 = .ok (.ldc2_w 328, 3) := dk_20 1 72 (dk_at dksX0_bring_0 12 rfl rfl)
theorem dX0_bring_15 : decode cX0_bring 15 = .ok (.invokestatic 164, 3) := dk_184 0 164 (dk_at dksX0_bring_0 15 rfl rfl)
theorem dX0_bring_18 : decode cX0_bring 18 = .ok (.ifCond .eq 7, 3) := dk_153 0 7 (dk_at dksX0_bring_0 18 rfl rfl)
theorem dX0_bring_21 : decode cX0_bring 21 = .ok (.iconst 0, 1) := dk_3 (dk_at dksX0_bring_0 21 rfl rfl)
theorem dX0_bring_22 : decode cX0_bring 22 = .ok (.goto 4, 3) := dk_167 0 4 (dk_at dksX0_bring_1 0 rfl rfl)
theorem dX0_bring_25 : decode cX0_bring 25 = .ok (.iconst 1, 1) := dk_4 (dk_at dksX0_bring_1 3 rfl rfl)
theorem dX0_bring_26 : decode cX0_bring 26 = .ok (.putfield 73, 3) := dk_181 0 73 (dk_at dksX0_bring_1 4 rfl rfl)
theorem dX0_bring_29 : decode cX0_bring 29 = .ok (.aload_n 0, 1) := dk_42 (dk_at dksX0_bring_1 7 rfl rfl)
theorem dX0_bring_30 : decode cX0_bring 30 = .ok (.getfield 73, 3) := dk_180 0 73 (dk_at dksX0_bring_1 8 rfl rfl)
theorem dX0_bring_33 : decode cX0_bring 33 = .ok (.ifCond .le 7, 3) := dk_158 0 7 (dk_at dksX0_bring_1 11 rfl rfl)
theorem dX0_bring_36 : decode cX0_bring 36 = .ok (.iconst (-1), 1) := dk_2 (dk_at dksX0_bring_1 14 rfl rfl)
theorem dX0_bring_37 : decode cX0_bring 37 = .ok (.goto 12, 3) := dk_167 0 12 (dk_at dksX0_bring_1 15 rfl rfl)
theorem dX0_bring_40 : decode cX0_bring 40 = .ok (.aload_n 0, 1) := dk_42 (dk_at dksX0_bring_1 18 rfl rfl)
theorem dX0_bring_41 : decode cX0_bring 41 = .ok (.invokevirtual 158, 3) := dk_182 0 158 (dk_at dksX0_bring_1 19 rfl rfl)
theorem dX0_bring_44 : decode cX0_bring 44 = .ok (.iload_n 1, 1) := dk_27 (dk_at dksX0_bring_1 22 rfl rfl)
theorem dX0_bring_45 : decode cX0_bring 45 = .ok (.iload_n 2, 1) := dk_28 (dk_at dksX0_bring_1 23 rfl rfl)
theorem dX0_bring_46 : decode cX0_bring 46 = .ok (.invokevirtual 330, 3) := dk_182 1 74 (dk_at dksX0_bring_2 0 rfl rfl)
theorem dX0_bring_49 : decode cX0_bring 49 = .ok (.ireturn, 1) := dk_172 (dk_at dksX0_bring_2 3 rfl rfl)
def dkwX0_harvest_1 : List UInt8 := [158, 0, 7, 2, 167, 0, 12, 42, 182, 0, 158, 27, 28, 182, 1, 78, 172]
abbrev dktX0_harvest_1 : List UInt8 := dkwX0_harvest_1 ++ []
def dkwX0_harvest_0 : List UInt8 := [42, 42, 27, 28, 182, 1, 45, 153, 0, 7, 3, 167, 0, 4, 4, 181, 0, 73, 42, 180, 0, 73]
abbrev dktX0_harvest_0 : List UInt8 := dkwX0_harvest_0 ++ dktX0_harvest_1
theorem dksX0_harvest_0 : cX0_harvest.data.toList.drop 0 = dktX0_harvest_0 := by decide +kernel
theorem dksX0_harvest_1 : cX0_harvest.data.toList.drop 22 = dktX0_harvest_1 := dk_seg dksX0_harvest_0 22 rfl rfl
theorem dX0_harvest_0 : decode cX0_harvest 0 = .ok (.aload_n 0, 1) := dk_42 (dk_at dksX0_harvest_0 0 rfl rfl)
theorem dX0_harvest_1 : decode cX0_harvest 1 = .ok (.aload_n 0, 1) := dk_42 (dk_at dksX0_harvest_0 1 rfl rfl)
theorem dX0_harvest_2 : decode cX0_harvest 2 = .ok (.iload_n 1, 1) := dk_27 (dk_at dksX0_harvest_0 2 rfl rfl)
theorem dX0_harvest_3 : decode cX0_harvest 3 = .ok (.iload_n 2, 1) := dk_28 (dk_at dksX0_harvest_0 3 rfl rfl)
theorem dX0_harvest_4 : decode cX0_harvest 4 = .ok (.invokevirtual 301, 3) := dk_182 1 45 (dk_at dksX0_harvest_0 4 rfl rfl)
theorem dX0_harvest_7 : decode cX0_harvest 7 = .ok (.ifCond .eq 7, 3) := dk_153 0 7 (dk_at dksX0_harvest_0 7 rfl rfl)
theorem dX0_harvest_10 : decode cX0_harvest 10 = .ok (.iconst 0, 1) := dk_3 (dk_at dksX0_harvest_0 10 rfl rfl)
theorem dX0_harvest_11 : decode cX0_harvest 11 = .ok (.goto 4, 3) := dk_167 0 4 (dk_at dksX0_harvest_0 11 rfl rfl)
theorem dX0_harvest_14 : decode cX0_harvest 14 = .ok (.iconst 1, 1) := dk_4 (dk_at dksX0_harvest_0 14 rfl rfl)
theorem dX0_harvest_15 : decode cX0_harvest 15 = .ok (.putfield 73, 3) := dk_181 0 73 (dk_at dksX0_harvest_0 15 rfl rfl)
theorem dX0_harvest_18 : decode cX0_harvest 18 = .ok (.aload_n 0, 1) := dk_42 (dk_at dksX0_harvest_0 18 rfl rfl)
theorem dX0_harvest_19 : decode cX0_harvest 19 = .ok (.getfield 73, 3) := dk_180 0 73 (dk_at dksX0_harvest_0 19 rfl rfl)
theorem dX0_harvest_22 : decode cX0_harvest 22 = .ok (.ifCond .le 7, 3) := dk_158 0 7 (dk_at dksX0_harvest_1 0 rfl rfl)
theorem dX0_harvest_25 : decode cX0_harvest 25 = .ok (.iconst (-1), 1) := dk_2 (dk_at dksX0_harvest_1 3 rfl rfl)
theorem dX0_harvest_26 : decode cX0_harvest 26 = .ok (.goto 12, 3) := dk_167 0 12 (dk_at dksX0_harvest_1 4 rfl rfl)
theorem dX0_harvest_29 : decode cX0_harvest 29 = .ok (.aload_n 0, 1) := dk_42 (dk_at dksX0_harvest_1 7 rfl rfl)
theorem dX0_harvest_30 : decode cX0_harvest 30 = .ok (.invokevirtual 158, 3) := dk_182 0 158 (dk_at dksX0_harvest_1 8 rfl rfl)
theorem dX0_harvest_33 : decode cX0_harvest 33 = .ok (.iload_n 1, 1) := dk_27 (dk_at dksX0_harvest_1 11 rfl rfl)
theorem dX0_harvest_34 : decode cX0_harvest 34 = .ok (.iload_n 2, 1) := dk_28 (dk_at dksX0_harvest_1 12 rfl rfl)
theorem dX0_harvest_35 : decode cX0_harvest 35 = .ok (.invokevirtual 334, 3) := dk_182 1 78 (dk_at dksX0_harvest_1 13 rfl rfl)
theorem dX0_harvest_38 : decode cX0_harvest 38 = .ok (.ireturn, 1) := dk_172 (dk_at dksX0_harvest_1 16 rfl rfl)
def dkwX0_move_3 : List UInt8 := [167, 0, 4, 3, 172]
abbrev dktX0_move_3 : List UInt8 := dkwX0_move_3 ++ []
def dkwX0_move_2 : List UInt8 := [42, 27, 182, 0, 172, 28, 42, 29, 182, 0, 172, 21, 4, 184, 1, 81, 42, 180, 0, 73, 154, 0, 7, 4]
abbrev dktX0_move_2 : List UInt8 := dkwX0_move_2 ++ dktX0_move_3
def dkwX0_move_1 : List UInt8 := [160, 0, 9, 28, 21, 4, 159, 0, 7, 3, 167, 0, 4, 4, 181, 0, 73, 42, 180, 0, 73, 154, 0, 19]
abbrev dktX0_move_1 : List UInt8 := dkwX0_move_1 ++ dktX0_move_2
def dkwX0_move_0 : List UInt8 := [42, 42, 27, 28, 182, 1, 45, 153, 0, 28, 42, 29, 21, 4, 182, 1, 45, 153, 0, 18, 27, 29]
abbrev dktX0_move_0 : List UInt8 := dkwX0_move_0 ++ dktX0_move_1
theorem dksX0_move_0 : cX0_move.data.toList.drop 0 = dktX0_move_0 := by decide +kernel
theorem dksX0_move_1 : cX0_move.data.toList.drop 22 = dktX0_move_1 := dk_seg dksX0_move_0 22 rfl rfl
theorem dksX0_move_2 : cX0_move.data.toList.drop 46 = dktX0_move_2 := dk_seg dksX0_move_1 24 rfl rfl
theorem dksX0_move_3 : cX0_move.data.toList.drop 70 = dktX0_move_3 := dk_seg dksX0_move_2 24 rfl rfl
theorem dX0_move_0 : decode cX0_move 0 = .ok (.aload_n 0, 1) := dk_42 (dk_at dksX0_move_0 0 rfl rfl)
theorem dX0_move_1 : decode cX0_move 1 = .ok (.aload_n 0, 1) := dk_42 (dk_at dksX0_move_0 1 rfl rfl)
theorem dX0_move_2 : decode cX0_move 2 = .ok (.iload_n 1, 1) := dk_27 (dk_at dksX0_move_0 2 rfl rfl)
theorem dX0_move_3 : decode cX0_move 3 = .ok (.iload_n 2, 1) := dk_28 (dk_at dksX0_move_0 3 rfl rfl)
theorem dX0_move_4 : decode cX0_move 4 = .ok (.invokevirtual 301, 3) := dk_182 1 45 (dk_at dksX0_move_0 4 rfl rfl)
theorem dX0_move_7 : decode cX0_move 7 = .ok (.ifCond .eq 28, 3) := dk_153 0 28 (dk_at dksX0_move_0 7 rfl rfl)
theorem dX0_move_10 : decode cX0_move 10 = .ok (.aload_n 0, 1) := dk_42 (dk_at dksX0_move_0 10 rfl rfl)
theorem dX0_move_11 : decode cX0_move 11 = .ok (.iload_n 3, 1) := dk_29 (dk_at dksX0_move_0 11 rfl rfl)
theorem dX0_move_12 : decode cX0_move 12 = .ok (.iload 4, 2) := dk_21 4 (dk_at dksX0_move_0 12 rfl rfl)
theorem dX0_move_14 : decode cX0_move 14 = .ok (.invokevirtual 301, 3) := dk_182 1 45 (dk_at dksX0_move_0 14 rfl rfl)
theorem dX0_move_17 : decode cX0_move 17 = .ok (.ifCond .eq 18, 3) := dk_153 0 18 (dk_at dksX0_move_0 17 rfl rfl)
theorem dX0_move_20 : decode cX0_move 20 = .ok (.iload_n 1, 1) := dk_27 (dk_at dksX0_move_0 20 rfl rfl)
theorem dX0_move_21 : decode cX0_move 21 = .ok (.iload_n 3, 1) := dk_29 (dk_at dksX0_move_0 21 rfl rfl)
theorem dX0_move_22 : decode cX0_move 22 = .ok (.if_icmp .ne 9, 3) := dk_160 0 9 (dk_at dksX0_move_1 0 rfl rfl)
theorem dX0_move_25 : decode cX0_move 25 = .ok (.iload_n 2, 1) := dk_28 (dk_at dksX0_move_1 3 rfl rfl)
theorem dX0_move_26 : decode cX0_move 26 = .ok (.iload 4, 2) := dk_21 4 (dk_at dksX0_move_1 4 rfl rfl)
theorem dX0_move_28 : decode cX0_move 28 = .ok (.if_icmp .eq 7, 3) := dk_159 0 7 (dk_at dksX0_move_1 6 rfl rfl)
theorem dX0_move_31 : decode cX0_move 31 = .ok (.iconst 0, 1) := dk_3 (dk_at dksX0_move_1 9 rfl rfl)
theorem dX0_move_32 : decode cX0_move 32 = .ok (.goto 4, 3) := dk_167 0 4 (dk_at dksX0_move_1 10 rfl rfl)
theorem dX0_move_35 : decode cX0_move 35 = .ok (.iconst 1, 1) := dk_4 (dk_at dksX0_move_1 13 rfl rfl)
theorem dX0_move_36 : decode cX0_move 36 = .ok (.putfield 73, 3) := dk_181 0 73 (dk_at dksX0_move_1 14 rfl rfl)
theorem dX0_move_39 : decode cX0_move 39 = .ok (.aload_n 0, 1) := dk_42 (dk_at dksX0_move_1 17 rfl rfl)
theorem dX0_move_40 : decode cX0_move 40 = .ok (.getfield 73, 3) := dk_180 0 73 (dk_at dksX0_move_1 18 rfl rfl)
theorem dX0_move_43 : decode cX0_move 43 = .ok (.ifCond .ne 19, 3) := dk_154 0 19 (dk_at dksX0_move_1 21 rfl rfl)
theorem dX0_move_46 : decode cX0_move 46 = .ok (.aload_n 0, 1) := dk_42 (dk_at dksX0_move_2 0 rfl rfl)
theorem dX0_move_47 : decode cX0_move 47 = .ok (.iload_n 1, 1) := dk_27 (dk_at dksX0_move_2 1 rfl rfl)
theorem dX0_move_48 : decode cX0_move 48 = .ok (.invokevirtual 172, 3) := dk_182 0 172 (dk_at dksX0_move_2 2 rfl rfl)
theorem dX0_move_51 : decode cX0_move 51 = .ok (.iload_n 2, 1) := dk_28 (dk_at dksX0_move_2 5 rfl rfl)
theorem dX0_move_52 : decode cX0_move 52 = .ok (.aload_n 0, 1) := dk_42 (dk_at dksX0_move_2 6 rfl rfl)
theorem dX0_move_53 : decode cX0_move 53 = .ok (.iload_n 3, 1) := dk_29 (dk_at dksX0_move_2 7 rfl rfl)
theorem dX0_move_54 : decode cX0_move 54 = .ok (.invokevirtual 172, 3) := dk_182 0 172 (dk_at dksX0_move_2 8 rfl rfl)
theorem dX0_move_57 : decode cX0_move 57 = .ok (.iload 4, 2) := dk_21 4 (dk_at dksX0_move_2 11 rfl rfl)
theorem dX0_move_59 : decode cX0_move 59 = .ok (.invokestatic 337, 3) := dk_184 1 81 (dk_at dksX0_move_2 13 rfl rfl)
theorem dX0_move_62 : decode cX0_move 62 = .ok (.aload_n 0, 1) := dk_42 (dk_at dksX0_move_2 16 rfl rfl)
theorem dX0_move_63 : decode cX0_move 63 = .ok (.getfield 73, 3) := dk_180 0 73 (dk_at dksX0_move_2 17 rfl rfl)
theorem dX0_move_66 : decode cX0_move 66 = .ok (.ifCond .ne 7, 3) := dk_154 0 7 (dk_at dksX0_move_2 20 rfl rfl)
theorem dX0_move_69 : decode cX0_move 69 = .ok (.iconst 1, 1) := dk_4 (dk_at dksX0_move_2 23 rfl rfl)
theorem dX0_move_70 : decode cX0_move 70 = .ok (.goto 4, 3) := dk_167 0 4 (dk_at dksX0_move_3 0 rfl rfl)
theorem dX0_move_73 : decode cX0_move 73 = .ok (.iconst 0, 1) := dk_3 (dk_at dksX0_move_3 3 rfl rfl)
theorem dX0_move_74 : decode cX0_move 74 = .ok (.ireturn, 1) := dk_172 (dk_at dksX0_move_3 4 rfl rfl)
def dkwX0_split_7 : List UInt8 := [181, 1, 8, 29, 172]
abbrev dktX0_split_7 : List UInt8 := dkwX0_split_7 ++ []
def dkwX0_split_6 : List UInt8 := [182, 0, 172, 89, 180, 1, 8, 29, 100, 181, 1, 8, 42, 28, 182, 0, 172, 89, 180, 1, 8, 29, 96]
abbrev dktX0_split_6 : List UInt8 := dkwX0_split_6 ++ dktX0_split_7
def dkwX0_split_5 : List UInt8 := [184, 1, 81, 132, 3, 2, 167, 255, 213, 42, 27, 182, 0, 172, 180, 1, 8, 5, 108, 62, 42, 27]
abbrev dktX0_split_5 : List UInt8 := dkwX0_split_5 ++ dktX0_split_6
def dkwX0_split_4 : List UInt8 := [180, 0, 176, 190, 184, 1, 91, 162, 0, 24, 42, 27, 182, 0, 172, 29, 42, 28, 182, 0, 172, 29]
abbrev dktX0_split_4 : List UInt8 := dkwX0_split_4 ++ dktX0_split_5
def dkwX0_split_3 : List UInt8 := [158, 0, 5, 2, 172, 4, 62, 29, 42, 27, 182, 0, 172, 180, 0, 176, 190, 42, 28, 182, 0, 172]
abbrev dktX0_split_3 : List UInt8 := dkwX0_split_3 ++ dktX0_split_4
def dkwX0_split_2 : List UInt8 := [182, 0, 172, 182, 1, 88, 162, 0, 8, 16, 7, 167, 0, 4, 3, 181, 0, 73, 42, 180, 0, 73]
abbrev dktX0_split_2 : List UInt8 := dkwX0_split_2 ++ dktX0_split_3
def dkwX0_split_1 : List UInt8 := [157, 0, 33, 42, 28, 182, 0, 172, 180, 1, 24, 156, 0, 22, 42, 28, 182, 0, 172, 182, 1, 18, 42, 28]
abbrev dktX0_split_1 : List UInt8 := dkwX0_split_1 ++ dktX0_split_2
def dkwX0_split_0 : List UInt8 := [42, 42, 27, 28, 182, 1, 85, 154, 0, 7, 4, 167, 0, 50, 42, 28, 182, 0, 172, 180, 1, 8]
abbrev dktX0_split_0 : List UInt8 := dkwX0_split_0 ++ dktX0_split_1
theorem dksX0_split_0 : cX0_split.data.toList.drop 0 = dktX0_split_0 := by decide +kernel
theorem dksX0_split_1 : cX0_split.data.toList.drop 22 = dktX0_split_1 := dk_seg dksX0_split_0 22 rfl rfl
theorem dksX0_split_2 : cX0_split.data.toList.drop 46 = dktX0_split_2 := dk_seg dksX0_split_1 24 rfl rfl
theorem dksX0_split_3 : cX0_split.data.toList.drop 68 = dktX0_split_3 := dk_seg dksX0_split_2 22 rfl rfl
theorem dksX0_split_4 : cX0_split.data.toList.drop 90 = dktX0_split_4 := dk_seg dksX0_split_3 22 rfl rfl
theorem dksX0_split_5 : cX0_split.data.toList.drop 112 = dktX0_split_5 := dk_seg dksX0_split_4 22 rfl rfl
theorem dksX0_split_6 : cX0_split.data.toList.drop 134 = dktX0_split_6 := dk_seg dksX0_split_5 22 rfl rfl
theorem dksX0_split_7 : cX0_split.data.toList.drop 157 = dktX0_split_7 := dk_seg dksX0_split_6 23 rfl rfl
theorem dX0_split_0 : decode cX0_split 0 = .ok (.aload_n 0, 1) := dk_42 (dk_at dksX0_split_0 0 rfl rfl)
theorem dX0_split_1 : decode cX0_split 1 = .ok (.aload_n 0, 1) := dk_42 (dk_at dksX0_split_0 1 rfl rfl)
theorem dX0_split_2 : decode cX0_split 2 = .ok (.iload_n 1, 1) := dk_27 (dk_at dksX0_split_0 2 rfl rfl)
theorem dX0_split_3 : decode cX0_split 3 = .ok (.iload_n 2, 1) := dk_28 (dk_at dksX0_split_0 3 rfl rfl)
theorem dX0_split_4 : decode cX0_split 4 = .ok (.invokevirtual 341, 3) := dk_182 1 85 (dk_at dksX0_split_0 4 rfl rfl)
theorem dX0_split_7 : decode cX0_split 7 = .ok (.ifCond .ne 7, 3) := dk_154 0 7 (dk_at dksX0_split_0 7 rfl rfl)
theorem dX0_split_10 : decode cX0_split 10 = .ok (.iconst 1, 1) := dk_4 (dk_at dksX0_split_0 10 rfl rfl)
theorem dX0_split_11 : decode cX0_split 11 = .ok (.goto 50, 3) := dk_167 0 50 (dk_at dksX0_split_0 11 rfl rfl)
theorem dX0_split_14 : decode cX0_split 14 = .ok (.aload_n 0, 1) := dk_42 (dk_at dksX0_split_0 14 rfl rfl)
theorem dX0_split_15 : decode cX0_split 15 = .ok (.iload_n 2, 1) := dk_28 (dk_at dksX0_split_0 15 rfl rfl)
theorem dX0_split_16 : decode cX0_split 16 = .ok (.invokevirtual 172, 3) := dk_182 0 172 (dk_at dksX0_split_0 16 rfl rfl)
theorem dX0_split_19 : decode cX0_split 19 = .ok (.getfield 264, 3) := dk_180 1 8 (dk_at dksX0_split_0 19 rfl rfl)
theorem dX0_split_22 : decode cX0_split 22 = .ok (.ifCond .gt 33, 3) := dk_157 0 33 (dk_at dksX0_split_1 0 rfl rfl)
theorem dX0_split_25 : decode cX0_split 25 = .ok (.aload_n 0, 1) := dk_42 (dk_at dksX0_split_1 3 rfl rfl)
theorem dX0_split_26 : decode cX0_split 26 = .ok (.iload_n 2, 1) := dk_28 (dk_at dksX0_split_1 4 rfl rfl)
theorem dX0_split_27 : decode cX0_split 27 = .ok (.invokevirtual 172, 3) := dk_182 0 172 (dk_at dksX0_split_1 5 rfl rfl)
theorem dX0_split_30 : decode cX0_split 30 = .ok (.getfield 280, 3) := dk_180 1 24 (dk_at dksX0_split_1 8 rfl rfl)
theorem dX0_split_33 : decode cX0_split 33 = .ok (.ifCond .ge 22, 3) := dk_156 0 22 (dk_at dksX0_split_1 11 rfl rfl)
theorem dX0_split_36 : decode cX0_split 36 = .ok (.aload_n 0, 1) := dk_42 (dk_at dksX0_split_1 14 rfl rfl)
theorem dX0_split_37 : decode cX0_split 37 = .ok (.iload_n 2, 1) := dk_28 (dk_at dksX0_split_1 15 rfl rfl)
theorem dX0_split_38 : decode cX0_split 38 = .ok (.invokevirtual 172, 3) := dk_182 0 172 (dk_at dksX0_split_1 16 rfl rfl)
theorem dX0_split_41 : decode cX0_split 41 = .ok (.invokevirtual 274, 3) := dk_182 1 18 (dk_at dksX0_split_1 19 rfl rfl)
theorem dX0_split_44 : decode cX0_split 44 = .ok (.aload_n 0, 1) := dk_42 (dk_at dksX0_split_1 22 rfl rfl)
theorem dX0_split_45 : decode cX0_split 45 = .ok (.iload_n 2, 1) := dk_28 (dk_at dksX0_split_1 23 rfl rfl)
theorem dX0_split_46 : decode cX0_split 46 = .ok (.invokevirtual 172, 3) := dk_182 0 172 (dk_at dksX0_split_2 0 rfl rfl)
theorem dX0_split_49 : decode cX0_split 49 = .ok (.invokevirtual 344, 3) := dk_182 1 88 (dk_at dksX0_split_2 3 rfl rfl)
theorem dX0_split_52 : decode cX0_split 52 = .ok (.if_icmp .ge 8, 3) := dk_162 0 8 (dk_at dksX0_split_2 6 rfl rfl)
theorem dX0_split_55 : decode cX0_split 55 = .ok (.bipush 7, 2) := dk_16 7 (dk_at dksX0_split_2 9 rfl rfl)
theorem dX0_split_57 : decode cX0_split 57 = .ok (.goto 4, 3) := dk_167 0 4 (dk_at dksX0_split_2 11 rfl rfl)
theorem dX0_split_60 : decode cX0_split 60 = .ok (.iconst 0, 1) := dk_3 (dk_at dksX0_split_2 14 rfl rfl)
theorem dX0_split_61 : decode cX0_split 61 = .ok (.putfield 73, 3) := dk_181 0 73 (dk_at dksX0_split_2 15 rfl rfl)
theorem dX0_split_64 : decode cX0_split 64 = .ok (.aload_n 0, 1) := dk_42 (dk_at dksX0_split_2 18 rfl rfl)
theorem dX0_split_65 : decode cX0_split 65 = .ok (.getfield 73, 3) := dk_180 0 73 (dk_at dksX0_split_2 19 rfl rfl)
theorem dX0_split_68 : decode cX0_split 68 = .ok (.ifCond .le 5, 3) := dk_158 0 5 (dk_at dksX0_split_3 0 rfl rfl)
theorem dX0_split_71 : decode cX0_split 71 = .ok (.iconst (-1), 1) := dk_2 (dk_at dksX0_split_3 3 rfl rfl)
theorem dX0_split_72 : decode cX0_split 72 = .ok (.ireturn, 1) := dk_172 (dk_at dksX0_split_3 4 rfl rfl)
theorem dX0_split_73 : decode cX0_split 73 = .ok (.iconst 1, 1) := dk_4 (dk_at dksX0_split_3 5 rfl rfl)
theorem dX0_split_74 : decode cX0_split 74 = .ok (.istore_n 3, 1) := dk_62 (dk_at dksX0_split_3 6 rfl rfl)
theorem dX0_split_75 : decode cX0_split 75 = .ok (.iload_n 3, 1) := dk_29 (dk_at dksX0_split_3 7 rfl rfl)
theorem dX0_split_76 : decode cX0_split 76 = .ok (.aload_n 0, 1) := dk_42 (dk_at dksX0_split_3 8 rfl rfl)
theorem dX0_split_77 : decode cX0_split 77 = .ok (.iload_n 1, 1) := dk_27 (dk_at dksX0_split_3 9 rfl rfl)
theorem dX0_split_78 : decode cX0_split 78 = .ok (.invokevirtual 172, 3) := dk_182 0 172 (dk_at dksX0_split_3 10 rfl rfl)
theorem dX0_split_81 : decode cX0_split 81 = .ok (.getfield 176, 3) := dk_180 0 176 (dk_at dksX0_split_3 13 rfl rfl)
theorem dX0_split_84 : decode cX0_split 84 = .ok (.arraylength, 1) := dk_190 (dk_at dksX0_split_3 16 rfl rfl)
theorem dX0_split_85 : decode cX0_split 85 = .ok (.aload_n 0, 1) := dk_42 (dk_at dksX0_split_3 17 rfl rfl)
theorem dX0_split_86 : decode cX0_split 86 = .ok (.iload_n 2, 1) := dk_28 (dk_at dksX0_split_3 18 rfl rfl)
theorem dX0_split_87 : decode cX0_split 87 = .ok (.invokevirtual 172, 3) := dk_182 0 172 (dk_at dksX0_split_3 19 rfl rfl)
theorem dX0_split_90 : decode cX0_split 90 = .ok (.getfield 176, 3) := dk_180 0 176 (dk_at dksX0_split_4 0 rfl rfl)
theorem dX0_split_93 : decode cX0_split 93 = .ok (.arraylength, 1) := dk_190 (dk_at dksX0_split_4 3 rfl rfl)
theorem dX0_split_94 : decode cX0_split 94 = .ok (.invokestatic 347, 3) := dk_184 1 91 (dk_at dksX0_split_4 4 rfl rfl)
theorem dX0_split_97 : decode cX0_split 97 = .ok (.if_icmp .ge 24, 3) := dk_162 0 24 (dk_at dksX0_split_4 7 rfl rfl)
theorem dX0_split_100 : decode cX0_split 100 = .ok (.aload_n 0, 1) := dk_42 (dk_at dksX0_split_4 10 rfl rfl)
theorem dX0_split_101 : decode cX0_split 101 = .ok (.iload_n 1, 1) := dk_27 (dk_at dksX0_split_4 11 rfl rfl)
theorem dX0_split_102 : decode cX0_split 102 = .ok (.invokevirtual 172, 3) := dk_182 0 172 (dk_at dksX0_split_4 12 rfl rfl)
theorem dX0_split_105 : decode cX0_split 105 = .ok (.iload_n 3, 1) := dk_29 (dk_at dksX0_split_4 15 rfl rfl)
theorem dX0_split_106 : decode cX0_split 106 = .ok (.aload_n 0, 1) := dk_42 (dk_at dksX0_split_4 16 rfl rfl)
theorem dX0_split_107 : decode cX0_split 107 = .ok (.iload_n 2, 1) := dk_28 (dk_at dksX0_split_4 17 rfl rfl)
theorem dX0_split_108 : decode cX0_split 108 = .ok (.invokevirtual 172, 3) := dk_182 0 172 (dk_at dksX0_split_4 18 rfl rfl)
theorem dX0_split_111 : decode cX0_split 111 = .ok (.iload_n 3, 1) := dk_29 (dk_at dksX0_split_4 21 rfl rfl)
theorem dX0_split_112 : decode cX0_split 112 = .ok (.invokestatic 337, 3) := dk_184 1 81 (dk_at dksX0_split_5 0 rfl rfl)
theorem dX0_split_115 : decode cX0_split 115 = .ok (.iinc 3 2, 3) := dk_132 3 2 (dk_at dksX0_split_5 3 rfl rfl)
theorem dX0_split_118 : decode cX0_split 118 = .ok (.goto (-43), 3) := dk_167 255 213 (dk_at dksX0_split_5 6 rfl rfl)
theorem dX0_split_121 : decode cX0_split 121 = .ok (.aload_n 0, 1) := dk_42 (dk_at dksX0_split_5 9 rfl rfl)
theorem dX0_split_122 : decode cX0_split 122 = .ok (.iload_n 1, 1) := dk_27 (dk_at dksX0_split_5 10 rfl rfl)
theorem dX0_split_123 : decode cX0_split 123 = .ok (.invokevirtual 172, 3) := dk_182 0 172 (dk_at dksX0_split_5 11 rfl rfl)
theorem dX0_split_126 : decode cX0_split 126 = .ok (.getfield 264, 3) := dk_180 1 8 (dk_at dksX0_split_5 14 rfl rfl)
theorem dX0_split_129 : decode cX0_split 129 = .ok (.iconst 2, 1) := dk_5 (dk_at dksX0_split_5 17 rfl rfl)
theorem dX0_split_130 : decode cX0_split 130 = .ok (.idiv, 1) := dk_108 (dk_at dksX0_split_5 18 rfl rfl)
theorem dX0_split_131 : decode cX0_split 131 = .ok (.istore_n 3, 1) := dk_62 (dk_at dksX0_split_5 19 rfl rfl)
theorem dX0_split_132 : decode cX0_split 132 = .ok (.aload_n 0, 1) := dk_42 (dk_at dksX0_split_5 20 rfl rfl)
theorem dX0_split_133 : decode cX0_split 133 = .ok (.iload_n 1, 1) := dk_27 (dk_at dksX0_split_5 21 rfl rfl)
theorem dX0_split_134 : decode cX0_split 134 = .ok (.invokevirtual 172, 3) := dk_182 0 172 (dk_at dksX0_split_6 0 rfl rfl)
theorem dX0_split_137 : decode cX0_split 137 = .ok (.dup, 1) := dk_89 (dk_at dksX0_split_6 3 rfl rfl)
theorem dX0_split_138 : decode cX0_split 138 = .ok (.getfield 264, 3) := dk_180 1 8 (dk_at dksX0_split_6 4 rfl rfl)
theorem dX0_split_141 : decode cX0_split 141 = .ok (.iload_n 3, 1) := dk_29 (dk_at dksX0_split_6 7 rfl rfl)
theorem dX0_split_142 : decode cX0_split 142 = .ok (.isub, 1) := dk_100 (dk_at dksX0_split_6 8 rfl rfl)
theorem dX0_split_143 : decode cX0_split 143 = .ok (.putfield 264, 3) := dk_181 1 8 (dk_at dksX0_split_6 9 rfl rfl)
theorem dX0_split_146 : decode cX0_split 146 = .ok (.aload_n 0, 1) := dk_42 (dk_at dksX0_split_6 12 rfl rfl)
theorem dX0_split_147 : decode cX0_split 147 = .ok (.iload_n 2, 1) := dk_28 (dk_at dksX0_split_6 13 rfl rfl)
theorem dX0_split_148 : decode cX0_split 148 = .ok (.invokevirtual 172, 3) := dk_182 0 172 (dk_at dksX0_split_6 14 rfl rfl)
theorem dX0_split_151 : decode cX0_split 151 = .ok (.dup, 1) := dk_89 (dk_at dksX0_split_6 17 rfl rfl)
theorem dX0_split_152 : decode cX0_split 152 = .ok (.getfield 264, 3) := dk_180 1 8 (dk_at dksX0_split_6 18 rfl rfl)
theorem dX0_split_155 : decode cX0_split 155 = .ok (.iload_n 3, 1) := dk_29 (dk_at dksX0_split_6 21 rfl rfl)
theorem dX0_split_156 : decode cX0_split 156 = .ok (.iadd, 1) := dk_96 (dk_at dksX0_split_6 22 rfl rfl)
theorem dX0_split_157 : decode cX0_split 157 = .ok (.putfield 264, 3) := dk_181 1 8 (dk_at dksX0_split_7 0 rfl rfl)
theorem dX0_split_160 : decode cX0_split 160 = .ok (.iload_n 3, 1) := dk_29 (dk_at dksX0_split_7 3 rfl rfl)
theorem dX0_split_161 : decode cX0_split 161 = .ok (.ireturn, 1) := dk_172 (dk_at dksX0_split_7 4 rfl rfl)
def dkwX0_areTwo_1 : List UInt8 := [167, 0, 4, 3, 172]
abbrev dktX0_areTwo_1 : List UInt8 := dkwX0_areTwo_1 ++ []
def dkwX0_areTwo_0 : List UInt8 := [42, 27, 182, 0, 168, 153, 0, 20, 42, 28, 182, 0, 168, 153, 0, 12, 27, 28, 159, 0, 7, 4]
abbrev dktX0_areTwo_0 : List UInt8 := dkwX0_areTwo_0 ++ dktX0_areTwo_1
theorem dksX0_areTwo_0 : cX0_areTwo.data.toList.drop 0 = dktX0_areTwo_0 := by decide +kernel
theorem dksX0_areTwo_1 : cX0_areTwo.data.toList.drop 22 = dktX0_areTwo_1 := dk_seg dksX0_areTwo_0 22 rfl rfl
theorem dX0_areTwo_0 : decode cX0_areTwo 0 = .ok (.aload_n 0, 1) := dk_42 (dk_at dksX0_areTwo_0 0 rfl rfl)
theorem dX0_areTwo_1 : decode cX0_areTwo 1 = .ok (.iload_n 1, 1) := dk_27 (dk_at dksX0_areTwo_0 1 rfl rfl)
theorem dX0_areTwo_2 : decode cX0_areTwo 2 = .ok (.invokevirtual 168, 3) := dk_182 0 168 (dk_at dksX0_areTwo_0 2 rfl rfl)
theorem dX0_areTwo_5 : decode cX0_areTwo 5 = .ok (.ifCond .eq 20, 3) := dk_153 0 20 (dk_at dksX0_areTwo_0 5 rfl rfl)
theorem dX0_areTwo_8 : decode cX0_areTwo 8 = .ok (.aload_n 0, 1) := dk_42 (dk_at dksX0_areTwo_0 8 rfl rfl)
theorem dX0_areTwo_9 : decode cX0_areTwo 9 = .ok (.iload_n 2, 1) := dk_28 (dk_at dksX0_areTwo_0 9 rfl rfl)
theorem dX0_areTwo_10 : decode cX0_areTwo 10 = .ok (.invokevirtual 168, 3) := dk_182 0 168 (dk_at dksX0_areTwo_0 10 rfl rfl)
theorem dX0_areTwo_13 : decode cX0_areTwo 13 = .ok (.ifCond .eq 12, 3) := dk_153 0 12 (dk_at dksX0_areTwo_0 13 rfl rfl)
theorem dX0_areTwo_16 : decode cX0_areTwo 16 = .ok (.iload_n 1, 1) := dk_27 (dk_at dksX0_areTwo_0 16 rfl rfl)
theorem dX0_areTwo_17 : decode cX0_areTwo 17 = .ok (.iload_n 2, 1) := dk_28 (dk_at dksX0_areTwo_0 17 rfl rfl)
theorem dX0_areTwo_18 : decode cX0_areTwo 18 = .ok (.if_icmp .eq 7, 3) := dk_159 0 7 (dk_at dksX0_areTwo_0 18 rfl rfl)
theorem dX0_areTwo_21 : decode cX0_areTwo 21 = .ok (.iconst 1, 1) := dk_4 (dk_at dksX0_areTwo_0 21 rfl rfl)
theorem dX0_areTwo_22 : decode cX0_areTwo 22 = .ok (.goto 4, 3) := dk_167 0 4 (dk_at dksX0_areTwo_1 0 rfl rfl)
theorem dX0_areTwo_25 : decode cX0_areTwo 25 = .ok (.iconst 0, 1) := dk_3 (dk_at dksX0_areTwo_1 3 rfl rfl)
theorem dX0_areTwo_26 : decode cX0_areTwo 26 = .ok (.ireturn, 1) := dk_172 (dk_at dksX0_areTwo_1 4 rfl rfl)
def dkwX0_join_7 : List UInt8 := [180, 1, 8, 172]
abbrev dktX0_join_7 : List UInt8 := dkwX0_join_7 ++ []
def dkwX0_join_6 : List UInt8 := [2, 181, 1, 24, 45, 3, 181, 1, 8, 45, 3, 181, 1, 21, 45, 182, 1, 98, 42, 28, 182, 0, 172]
abbrev dktX0_join_6 : List UInt8 := dkwX0_join_6 ++ dktX0_join_7
def dkwX0_join_5 : List UInt8 := [42, 28, 182, 0, 172, 180, 1, 24, 156, 0, 15, 42, 28, 182, 0, 172, 45, 180, 1, 24, 181, 1, 24, 45]
abbrev dktX0_join_5 : List UInt8 := dkwX0_join_5 ++ dktX0_join_6
def dkwX0_join_4 : List UInt8 := [42, 182, 0, 158, 89, 180, 0, 253, 42, 28, 182, 0, 172, 45, 182, 1, 11, 182, 1, 95, 96, 181, 0, 253]
abbrev dktX0_join_4 : List UInt8 := dkwX0_join_4 ++ dktX0_join_5
def dkwX0_join_3 : List UInt8 := [180, 1, 8, 96, 181, 1, 8, 42, 28, 182, 0, 172, 89, 180, 1, 21, 45, 180, 1, 21, 96, 181, 1, 21]
abbrev dktX0_join_3 : List UInt8 := dkwX0_join_3 ++ dktX0_join_4
def dkwX0_join_2 : List UInt8 := [180, 0, 73, 158, 0, 5, 2, 172, 42, 27, 182, 0, 172, 78, 42, 28, 182, 0, 172, 89, 180, 1, 8, 45]
abbrev dktX0_join_2 : List UInt8 := dkwX0_join_2 ++ dktX0_join_3
def dkwX0_join_1 : List UInt8 := [182, 0, 172, 180, 1, 8, 96, 19, 1, 94, 164, 0, 7, 7, 167, 0, 4, 3, 181, 0, 73, 42]
abbrev dktX0_join_1 : List UInt8 := dkwX0_join_1 ++ dktX0_join_2
def dkwX0_join_0 : List UInt8 := [42, 42, 27, 28, 182, 1, 85, 154, 0, 7, 4, 167, 0, 31, 42, 27, 182, 0, 172, 180, 1, 8, 42, 28]
abbrev dktX0_join_0 : List UInt8 := dkwX0_join_0 ++ dktX0_join_1
theorem dksX0_join_0 : cX0_join.data.toList.drop 0 = dktX0_join_0 := by decide +kernel
theorem dksX0_join_1 : cX0_join.data.toList.drop 24 = dktX0_join_1 := dk_seg dksX0_join_0 24 rfl rfl
theorem dksX0_join_2 : cX0_join.data.toList.drop 46 = dktX0_join_2 := dk_seg dksX0_join_1 22 rfl rfl
theorem dksX0_join_3 : cX0_join.data.toList.drop 70 = dktX0_join_3 := dk_seg dksX0_join_2 24 rfl rfl
theorem dksX0_join_4 : cX0_join.data.toList.drop 94 = dktX0_join_4 := dk_seg dksX0_join_3 24 rfl rfl
theorem dksX0_join_5 : cX0_join.data.toList.drop 118 = dktX0_join_5 := dk_seg dksX0_join_4 24 rfl rfl
theorem dksX0_join_6 : cX0_join.data.toList.drop 142 = dktX0_join_6 := dk_seg dksX0_join_5 24 rfl rfl
theorem dksX0_join_7 : cX0_join.data.toList.drop 165 = dktX0_join_7 := dk_seg dksX0_join_6 23 rfl rfl
theorem dX0_join_0 : decode cX0_join 0 = .ok (.aload_n 0, 1) := dk_42 (dk_at dksX0_join_0 0 rfl rfl)
theorem dX0_join_1 : decode cX0_join 1 = .ok (.aload_n 0, 1) := dk_42 (dk_at dksX0_join_0 1 rfl rfl)
theorem dX0_join_2 : decode cX0_join 2 = .ok (.iload_n 1, 1) := dk_27 (dk_at dksX0_join_0 2 rfl rfl)
theorem dX0_join_3 : decode cX0_join 3 = .ok (.iload_n 2, 1) := dk_28 (dk_at dksX0_join_0 3 rfl rfl)
theorem dX0_join_4 : decode cX0_join 4 = .ok (.invokevirtual 341, 3) := dk_182 1 85 (dk_at dksX0_join_0 4 rfl rfl)
theorem dX0_join_7 : decode cX0_join 7 = .ok (.ifCond .ne 7, 3) := dk_154 0 7 (dk_at dksX0_join_0 7 rfl rfl)
theorem dX0_join_10 : decode cX0_join 10 = .ok (.iconst 1, 1) := dk_4 (dk_at dksX0_join_0 10 rfl rfl)
theorem dX0_join_11 : decode cX0_join 11 = .ok (.goto 31, 3) := dk_167 0 31 (dk_at dksX0_join_0 11 rfl rfl)
theorem dX0_join_14 : decode cX0_join 14 = .ok (.aload_n 0, 1) := dk_42 (dk_at dksX0_join_0 14 rfl rfl)
theorem dX0_join_15 : decode cX0_join 15 = .ok (.iload_n 1, 1) := dk_27 (dk_at dksX0_join_0 15 rfl rfl)
theorem dX0_join_16 : decode cX0_join 16 = .ok (.invokevirtual 172, 3) := dk_182 0 172 (dk_at dksX0_join_0 16 rfl rfl)
theorem dX0_join_19 : decode cX0_join 19 = .ok (.getfield 264, 3) := dk_180 1 8 (dk_at dksX0_join_0 19 rfl rfl)
theorem dX0_join_22 : decode cX0_join 22 = .ok (.aload_n 0, 1) := dk_42 (dk_at dksX0_join_0 22 rfl rfl)
theorem dX0_join_23 : decode cX0_join 23 = .ok (.iload_n 2, 1) := dk_28 (dk_at dksX0_join_0 23 rfl rfl)
theorem dX0_join_24 : decode cX0_join 24 = .ok (.invokevirtual 172, 3) := dk_182 0 172 (dk_at dksX0_join_1 0 rfl rfl)
theorem dX0_join_27 : decode cX0_join 27 = .ok (.getfield 264, 3) := dk_180 1 8 (dk_at dksX0_join_1 3 rfl rfl)
theorem dX0_join_30 : decode cX0_join 30 = .ok (.iadd, 1) := dk_96 (dk_at dksX0_join_1 6 rfl rfl)
theorem dX0_join_31 : decode cX0_join 31 = .ok (.ldc_w 350, 3) := dk_19 1 94 (dk_at dksX0_join_1 7 rfl rfl)
theorem dX0_join_34 : decode cX0_join 34 = .ok (.if_icmp .le 7, 3) := dk_164 0 7 (dk_at dksX0_join_1 10 rfl rfl)
theorem dX0_join_37 : decode cX0_join 37 = .ok (.iconst 4, 1) := dk_7 (dk_at dksX0_join_1 13 rfl rfl)
theorem dX0_join_38 : decode cX0_join 38 = .ok (.goto 4, 3) := dk_167 0 4 (dk_at dksX0_join_1 14 rfl rfl)
theorem dX0_join_41 : decode cX0_join 41 = .ok (.iconst 0, 1) := dk_3 (dk_at dksX0_join_1 17 rfl rfl)
theorem dX0_join_42 : decode cX0_join 42 = .ok (.putfield 73, 3) := dk_181 0 73 (dk_at dksX0_join_1 18 rfl rfl)
theorem dX0_join_45 : decode cX0_join 45 = .ok (.aload_n 0, 1) := dk_42 (dk_at dksX0_join_1 21 rfl rfl)
theorem dX0_join_46 : decode cX0_join 46 = .ok (.getfield 73, 3) := dk_180 0 73 (dk_at dksX0_join_2 0 rfl rfl)
theorem dX0_join_49 : decode cX0_join 49 = .ok (.ifCond .le 5, 3) := dk_158 0 5 (dk_at dksX0_join_2 3 rfl rfl)
theorem dX0_join_52 : decode cX0_join 52 = .ok (.iconst (-1), 1) := dk_2 (dk_at dksX0_join_2 6 rfl rfl)
theorem dX0_join_53 : decode cX0_join 53 = .ok (.ireturn, 1) := dk_172 (dk_at dksX0_join_2 7 rfl rfl)
theorem dX0_join_54 : decode cX0_join 54 = .ok (.aload_n 0, 1) := dk_42 (dk_at dksX0_join_2 8 rfl rfl)
theorem dX0_join_55 : decode cX0_join 55 = .ok (.iload_n 1, 1) := dk_27 (dk_at dksX0_join_2 9 rfl rfl)
theorem dX0_join_56 : decode cX0_join 56 = .ok (.invokevirtual 172, 3) := dk_182 0 172 (dk_at dksX0_join_2 10 rfl rfl)
theorem dX0_join_59 : decode cX0_join 59 = .ok (.astore_n 3, 1) := dk_78 (dk_at dksX0_join_2 13 rfl rfl)
theorem dX0_join_60 : decode cX0_join 60 = .ok (.aload_n 0, 1) := dk_42 (dk_at dksX0_join_2 14 rfl rfl)
theorem dX0_join_61 : decode cX0_join 61 = .ok (.iload_n 2, 1) := dk_28 (dk_at dksX0_join_2 15 rfl rfl)
theorem dX0_join_62 : decode cX0_join 62 = .ok (.invokevirtual 172, 3) := dk_182 0 172 (dk_at dksX0_join_2 16 rfl rfl)
theorem dX0_join_65 : decode cX0_join 65 = .ok (.dup, 1) := dk_89 (dk_at dksX0_join_2 19 rfl rfl)
theorem dX0_join_66 : decode cX0_join 66 = .ok (.getfield 264, 3) := dk_180 1 8 (dk_at dksX0_join_2 20 rfl rfl)
theorem dX0_join_69 : decode cX0_join 69 = .ok (.aload_n 3, 1) := dk_45 (dk_at dksX0_join_2 23 rfl rfl)
theorem dX0_join_70 : decode cX0_join 70 = .ok (.getfield 264, 3) := dk_180 1 8 (dk_at dksX0_join_3 0 rfl rfl)
theorem dX0_join_73 : decode cX0_join 73 = .ok (.iadd, 1) := dk_96 (dk_at dksX0_join_3 3 rfl rfl)
theorem dX0_join_74 : decode cX0_join 74 = .ok (.putfield 264, 3) := dk_181 1 8 (dk_at dksX0_join_3 4 rfl rfl)
theorem dX0_join_77 : decode cX0_join 77 = .ok (.aload_n 0, 1) := dk_42 (dk_at dksX0_join_3 7 rfl rfl)
theorem dX0_join_78 : decode cX0_join 78 = .ok (.iload_n 2, 1) := dk_28 (dk_at dksX0_join_3 8 rfl rfl)
theorem dX0_join_79 : decode cX0_join 79 = .ok (.invokevirtual 172, 3) := dk_182 0 172 (dk_at dksX0_join_3 9 rfl rfl)
theorem dX0_join_82 : decode cX0_join 82 = .ok (.dup, 1) := dk_89 (dk_at dksX0_join_3 12 rfl rfl)
theorem dX0_join_83 : decode cX0_join 83 = .ok (.getfield 277, 3) := dk_180 1 21 (dk_at dksX0_join_3 13 rfl rfl)
theorem dX0_join_86 : decode cX0_join 86 = .ok (.aload_n 3, 1) := dk_45 (dk_at dksX0_join_3 16 rfl rfl)
theorem dX0_join_87 : decode cX0_join 87 = .ok (.getfield 277, 3) := dk_180 1 21 (dk_at dksX0_join_3 17 rfl rfl)
theorem dX0_join_90 : decode cX0_join 90 = .ok (.iadd, 1) := dk_96 (dk_at dksX0_join_3 20 rfl rfl)
theorem dX0_join_91 : decode cX0_join 91 = .ok (.putfield 277, 3) := dk_181 1 21 (dk_at dksX0_join_3 21 rfl rfl)
theorem dX0_join_94 : decode cX0_join 94 = .ok (.aload_n 0, 1) := dk_42 (dk_at dksX0_join_4 0 rfl rfl)
theorem dX0_join_95 : decode cX0_join 95 = .ok (.invokevirtual 158, 3) := dk_182 0 158 (dk_at dksX0_join_4 1 rfl rfl)
theorem dX0_join_98 : decode cX0_join 98 = .ok (.dup, 1) := dk_89 (dk_at dksX0_join_4 4 rfl rfl)
theorem dX0_join_99 : decode cX0_join 99 = .ok (.getfield 253, 3) := dk_180 0 253 (dk_at dksX0_join_4 5 rfl rfl)
theorem dX0_join_102 : decode cX0_join 102 = .ok (.aload_n 0, 1) := dk_42 (dk_at dksX0_join_4 8 rfl rfl)
theorem dX0_join_103 : decode cX0_join 103 = .ok (.iload_n 2, 1) := dk_28 (dk_at dksX0_join_4 9 rfl rfl)
theorem dX0_join_104 : decode cX0_join 104 = .ok (.invokevirtual 172, 3) := dk_182 0 172 (dk_at dksX0_join_4 10 rfl rfl)
theorem dX0_join_107 : decode cX0_join 107 = .ok (.aload_n 3, 1) := dk_45 (dk_at dksX0_join_4 13 rfl rfl)
theorem dX0_join_108 : decode cX0_join 108 = .ok (.invokevirtual 267, 3) := dk_182 1 11 (dk_at dksX0_join_4 14 rfl rfl)
theorem dX0_join_111 : decode cX0_join 111 = .ok (.invokevirtual 351, 3) := dk_182 1 95 (dk_at dksX0_join_4 17 rfl rfl)
theorem dX0_join_114 : decode cX0_join 114 = .ok (.iadd, 1) := dk_96 (dk_at dksX0_join_4 20 rfl rfl)
theorem dX0_join_115 : decode cX0_join 115 = .ok (.putfield 253, 3) := dk_181 0 253 (dk_at dksX0_join_4 21 rfl rfl)
theorem dX0_join_118 : decode cX0_join 118 = .ok (.aload_n 0, 1) := dk_42 (dk_at dksX0_join_5 0 rfl rfl)
theorem dX0_join_119 : decode cX0_join 119 = .ok (.iload_n 2, 1) := dk_28 (dk_at dksX0_join_5 1 rfl rfl)
theorem dX0_join_120 : decode cX0_join 120 = .ok (.invokevirtual 172, 3) := dk_182 0 172 (dk_at dksX0_join_5 2 rfl rfl)
theorem dX0_join_123 : decode cX0_join 123 = .ok (.getfield 280, 3) := dk_180 1 24 (dk_at dksX0_join_5 5 rfl rfl)
theorem dX0_join_126 : decode cX0_join 126 = .ok (.ifCond .ge 15, 3) := dk_156 0 15 (dk_at dksX0_join_5 8 rfl rfl)
theorem dX0_join_129 : decode cX0_join 129 = .ok (.aload_n 0, 1) := dk_42 (dk_at dksX0_join_5 11 rfl rfl)
theorem dX0_join_130 : decode cX0_join 130 = .ok (.iload_n 2, 1) := dk_28 (dk_at dksX0_join_5 12 rfl rfl)
theorem dX0_join_131 : decode cX0_join 131 = .ok (.invokevirtual 172, 3) := dk_182 0 172 (dk_at dksX0_join_5 13 rfl rfl)
theorem dX0_join_134 : decode cX0_join 134 = .ok (.aload_n 3, 1) := dk_45 (dk_at dksX0_join_5 16 rfl rfl)
theorem dX0_join_135 : decode cX0_join 135 = .ok (.getfield 280, 3) := dk_180 1 24 (dk_at dksX0_join_5 17 rfl rfl)
theorem dX0_join_138 : decode cX0_join 138 = .ok (.putfield 280, 3) := dk_181 1 24 (dk_at dksX0_join_5 20 rfl rfl)
theorem dX0_join_141 : decode cX0_join 141 = .ok (.aload_n 3, 1) := dk_45 (dk_at dksX0_join_5 23 rfl rfl)
theorem dX0_join_142 : decode cX0_join 142 = .ok (.iconst (-1), 1) := dk_2 (dk_at dksX0_join_6 0 rfl rfl)
theorem dX0_join_143 : decode cX0_join 143 = .ok (.putfield 280, 3) := dk_181 1 24 (dk_at dksX0_join_6 1 rfl rfl)
theorem dX0_join_146 : decode cX0_join 146 = .ok (.aload_n 3, 1) := dk_45 (dk_at dksX0_join_6 4 rfl rfl)
theorem dX0_join_147 : decode cX0_join 147 = .ok (.iconst 0, 1) := dk_3 (dk_at dksX0_join_6 5 rfl rfl)
theorem dX0_join_148 : decode cX0_join 148 = .ok (.putfield 264, 3) := dk_181 1 8 (dk_at dksX0_join_6 6 rfl rfl)
theorem dX0_join_151 : decode cX0_join 151 = .ok (.aload_n 3, 1) := dk_45 (dk_at dksX0_join_6 9 rfl rfl)
theorem dX0_join_152 : decode cX0_join 152 = .ok (.iconst 0, 1) := dk_3 (dk_at dksX0_join_6 10 rfl rfl)
theorem dX0_join_153 : decode cX0_join 153 = .ok (.putfield 277, 3) := dk_181 1 21 (dk_at dksX0_join_6 11 rfl rfl)
theorem dX0_join_156 : decode cX0_join 156 = .ok (.aload_n 3, 1) := dk_45 (dk_at dksX0_join_6 14 rfl rfl)
theorem dX0_join_157 : decode cX0_join 157 = .ok (.invokevirtual 354, 3) := dk_182 1 98 (dk_at dksX0_join_6 15 rfl rfl)
theorem dX0_join_160 : decode cX0_join 160 = .ok (.aload_n 0, 1) := dk_42 (dk_at dksX0_join_6 18 rfl rfl)
theorem dX0_join_161 : decode cX0_join 161 = .ok (.iload_n 2, 1) := dk_28 (dk_at dksX0_join_6 19 rfl rfl)
theorem dX0_join_162 : decode cX0_join 162 = .ok (.invokevirtual 172, 3) := dk_182 0 172 (dk_at dksX0_join_6 20 rfl rfl)
theorem dX0_join_165 : decode cX0_join 165 = .ok (.getfield 264, 3) := dk_180 1 8 (dk_at dksX0_join_7 0 rfl rfl)
theorem dX0_join_168 : decode cX0_join 168 = .ok (.ireturn, 1) := dk_172 (dk_at dksX0_join_7 3 rfl rfl)
def dkwX0_seat_3 : List UInt8 := [172]
abbrev dktX0_seat_3 : List UInt8 := dkwX0_seat_3 ++ []
def dkwX0_seat_2 : List UInt8 := [154, 0, 12, 42, 28, 182, 0, 172, 27, 181, 1, 24, 42, 180, 0, 73, 154, 0, 7, 4, 167, 0, 4, 3]
abbrev dktX0_seat_2 : List UInt8 := dkwX0_seat_2 ++ dktX0_seat_3
def dkwX0_seat_1 : List UInt8 := [182, 0, 158, 27, 28, 182, 1, 104, 153, 0, 7, 3, 167, 0, 5, 16, 7, 181, 0, 73, 42, 180, 0, 73]
abbrev dktX0_seat_1 : List UInt8 := dkwX0_seat_1 ++ dktX0_seat_2
def dkwX0_seat_0 : List UInt8 := [42, 42, 27, 182, 1, 101, 153, 0, 11, 42, 28, 182, 0, 168, 154, 0, 7, 4, 167, 0, 21, 42]
abbrev dktX0_seat_0 : List UInt8 := dkwX0_seat_0 ++ dktX0_seat_1
theorem dksX0_seat_0 : cX0_seat.data.toList.drop 0 = dktX0_seat_0 := by decide +kernel
theorem dksX0_seat_1 : cX0_seat.data.toList.drop 22 = dktX0_seat_1 := dk_seg dksX0_seat_0 22 rfl rfl
theorem dksX0_seat_2 : cX0_seat.data.toList.drop 46 = dktX0_seat_2 := dk_seg dksX0_seat_1 24 rfl rfl
theorem dksX0_seat_3 : cX0_seat.data.toList.drop 70 = dktX0_seat_3 := dk_seg dksX0_seat_2 24 rfl rfl
theorem dX0_seat_0 : decode cX0_seat 0 = .ok (.aload_n 0, 1) := dk_42 (dk_at dksX0_seat_0 0 rfl rfl)
theorem dX0_seat_1 : decode cX0_seat 1 = .ok (.aload_n 0, 1) := dk_42 (dk_at dksX0_seat_0 1 rfl rfl)
theorem dX0_seat_2 : decode cX0_seat 2 = .ok (.iload_n 1, 1) := dk_27 (dk_at dksX0_seat_0 2 rfl rfl)
theorem dX0_seat_3 : decode cX0_seat 3 = .ok (.invokevirtual 357, 3) := dk_182 1 101 (dk_at dksX0_seat_0 3 rfl rfl)
theorem dX0_seat_6 : decode cX0_seat 6 = .ok (.ifCond .eq 11, 3) := dk_153 0 11 (dk_at dksX0_seat_0 6 rfl rfl)
theorem dX0_seat_9 : decode cX0_seat 9 = .ok (.aload_n 0, 1) := dk_42 (dk_at dksX0_seat_0 9 rfl rfl)
theorem dX0_seat_10 : decode cX0_seat 10 = .ok (.iload_n 2, 1) := dk_28 (dk_at dksX0_seat_0 10 rfl rfl)
theorem dX0_seat_11 : decode cX0_seat 11 = .ok (.invokevirtual 168, 3) := dk_182 0 168 (dk_at dksX0_seat_0 11 rfl rfl)
theorem dX0_seat_14 : decode cX0_seat 14 = .ok (.ifCond .ne 7, 3) := dk_154 0 7 (dk_at dksX0_seat_0 14 rfl rfl)
theorem dX0_seat_17 : decode cX0_seat 17 = .ok (.iconst 1, 1) := dk_4 (dk_at dksX0_seat_0 17 rfl rfl)
theorem dX0_seat_18 : decode cX0_seat 18 = .ok (.goto 21, 3) := dk_167 0 21 (dk_at dksX0_seat_0 18 rfl rfl)
theorem dX0_seat_21 : decode cX0_seat 21 = .ok (.aload_n 0, 1) := dk_42 (dk_at dksX0_seat_0 21 rfl rfl)
theorem dX0_seat_22 : decode cX0_seat 22 = .ok (.invokevirtual 158, 3) := dk_182 0 158 (dk_at dksX0_seat_1 0 rfl rfl)
theorem dX0_seat_25 : decode cX0_seat 25 = .ok (.iload_n 1, 1) := dk_27 (dk_at dksX0_seat_1 3 rfl rfl)
theorem dX0_seat_26 : decode cX0_seat 26 = .ok (.iload_n 2, 1) := dk_28 (dk_at dksX0_seat_1 4 rfl rfl)
theorem dX0_seat_27 : decode cX0_seat 27 = .ok (.invokevirtual 360, 3) := dk_182 1 104 (dk_at dksX0_seat_1 5 rfl rfl)
theorem dX0_seat_30 : decode cX0_seat 30 = .ok (.ifCond .eq 7, 3) := dk_153 0 7 (dk_at dksX0_seat_1 8 rfl rfl)
theorem dX0_seat_33 : decode cX0_seat 33 = .ok (.iconst 0, 1) := dk_3 (dk_at dksX0_seat_1 11 rfl rfl)
theorem dX0_seat_34 : decode cX0_seat 34 = .ok (.goto 5, 3) := dk_167 0 5 (dk_at dksX0_seat_1 12 rfl rfl)
theorem dX0_seat_37 : decode cX0_seat 37 = .ok (.bipush 7, 2) := dk_16 7 (dk_at dksX0_seat_1 15 rfl rfl)
theorem dX0_seat_39 : decode cX0_seat 39 = .ok (.putfield 73, 3) := dk_181 0 73 (dk_at dksX0_seat_1 17 rfl rfl)
theorem dX0_seat_42 : decode cX0_seat 42 = .ok (.aload_n 0, 1) := dk_42 (dk_at dksX0_seat_1 20 rfl rfl)
theorem dX0_seat_43 : decode cX0_seat 43 = .ok (.getfield 73, 3) := dk_180 0 73 (dk_at dksX0_seat_1 21 rfl rfl)
theorem dX0_seat_46 : decode cX0_seat 46 = .ok (.ifCond .ne 12, 3) := dk_154 0 12 (dk_at dksX0_seat_2 0 rfl rfl)
theorem dX0_seat_49 : decode cX0_seat 49 = .ok (.aload_n 0, 1) := dk_42 (dk_at dksX0_seat_2 3 rfl rfl)
theorem dX0_seat_50 : decode cX0_seat 50 = .ok (.iload_n 2, 1) := dk_28 (dk_at dksX0_seat_2 4 rfl rfl)
theorem dX0_seat_51 : decode cX0_seat 51 = .ok (.invokevirtual 172, 3) := dk_182 0 172 (dk_at dksX0_seat_2 5 rfl rfl)
theorem dX0_seat_54 : decode cX0_seat 54 = .ok (.iload_n 1, 1) := dk_27 (dk_at dksX0_seat_2 8 rfl rfl)
theorem dX0_seat_55 : decode cX0_seat 55 = .ok (.putfield 280, 3) := dk_181 1 24 (dk_at dksX0_seat_2 9 rfl rfl)
theorem dX0_seat_58 : decode cX0_seat 58 = .ok (.aload_n 0, 1) := dk_42 (dk_at dksX0_seat_2 12 rfl rfl)
theorem dX0_seat_59 : decode cX0_seat 59 = .ok (.getfield 73, 3) := dk_180 0 73 (dk_at dksX0_seat_2 13 rfl rfl)
theorem dX0_seat_62 : decode cX0_seat 62 = .ok (.ifCond .ne 7, 3) := dk_154 0 7 (dk_at dksX0_seat_2 16 rfl rfl)
theorem dX0_seat_65 : decode cX0_seat 65 = .ok (.iconst 1, 1) := dk_4 (dk_at dksX0_seat_2 19 rfl rfl)
theorem dX0_seat_66 : decode cX0_seat 66 = .ok (.goto 4, 3) := dk_167 0 4 (dk_at dksX0_seat_2 20 rfl rfl)
theorem dX0_seat_69 : decode cX0_seat 69 = .ok (.iconst 0, 1) := dk_3 (dk_at dksX0_seat_2 23 rfl rfl)
theorem dX0_seat_70 : decode cX0_seat 70 = .ok (.ireturn, 1) := dk_172 (dk_at dksX0_seat_3 0 rfl rfl)
def dkwX0_isQueen_0 : List UInt8 := [27, 133, 9, 42, 182, 0, 182, 180, 0, 185, 4, 100, 133, 184, 0, 164, 172]
abbrev dktX0_isQueen_0 : List UInt8 := dkwX0_isQueen_0 ++ []
theorem dksX0_isQueen_0 : cX0_isQueen.data.toList.drop 0 = dktX0_isQueen_0 := by decide +kernel
theorem dX0_isQueen_0 : decode cX0_isQueen 0 = .ok (.iload_n 1, 1) := dk_27 (dk_at dksX0_isQueen_0 0 rfl rfl)
theorem dX0_isQueen_1 : decode cX0_isQueen 1 = .ok (.i2l, 1) := dk_133 (dk_at dksX0_isQueen_0 1 rfl rfl)
theorem dX0_isQueen_2 : decode cX0_isQueen 2 = .ok (.lconst 0, 1) := dk_9 (dk_at dksX0_isQueen_0 2 rfl rfl)
theorem dX0_isQueen_3 : decode cX0_isQueen 3 = .ok (.aload_n 0, 1) := dk_42 (dk_at dksX0_isQueen_0 3 rfl rfl)
theorem dX0_isQueen_4 : decode cX0_isQueen 4 = .ok (.invokevirtual 182, 3) := dk_182 0 182 (dk_at dksX0_isQueen_0 4 rfl rfl)
theorem dX0_isQueen_7 : decode cX0_isQueen 7 = .ok (.getfield 185, 3) := dk_180 0 185 (dk_at dksX0_isQueen_0 7 rfl rfl)
theorem dX0_isQueen_10 : decode cX0_isQueen 10 = .ok (.iconst 1, 1) := dk_4 (dk_at dksX0_isQueen_0 10 rfl rfl)
theorem dX0_isQueen_11 : decode cX0_isQueen 11 = .ok (.isub, 1) := dk_100 (dk_at dksX0_isQueen_0 11 rfl rfl)
theorem dX0_isQueen_12 : decode cX0_isQueen 12 = .ok (.i2l, 1) := dk_133 (dk_at dksX0_isQueen_0 12 rfl rfl)
theorem dX0_isQueen_13 : decode cX0_isQueen 13 = .ok (.invokestatic 164, 3) := dk_184 0 164 (dk_at dksX0_isQueen_0 13 rfl rfl)
theorem dX0_isQueen_16 : decode cX0_isQueen 16 = .ok (.ireturn, 1) := dk_172 (dk_at dksX0_isQueen_0 16 rfl rfl)
def dkwX0_crowded_1 : List UInt8 := [2, 167, 0, 19, 42, 27, 182, 0, 172, 182, 1, 107, 153, 0, 7, 4, 167, 0, 4, 3, 172]
abbrev dktX0_crowded_1 : List UInt8 := dkwX0_crowded_1 ++ []
def dkwX0_crowded_0 : List UInt8 := [42, 42, 27, 182, 0, 168, 153, 0, 7, 3, 167, 0, 4, 4, 181, 0, 73, 42, 180, 0, 73, 158, 0, 7]
abbrev dktX0_crowded_0 : List UInt8 := dkwX0_crowded_0 ++ dktX0_crowded_1
theorem dksX0_crowded_0 : cX0_crowded.data.toList.drop 0 = dktX0_crowded_0 := by decide +kernel
theorem dksX0_crowded_1 : cX0_crowded.data.toList.drop 24 = dktX0_crowded_1 := dk_seg dksX0_crowded_0 24 rfl rfl
theorem dX0_crowded_0 : decode cX0_crowded 0 = .ok (.aload_n 0, 1) := dk_42 (dk_at dksX0_crowded_0 0 rfl rfl)
theorem dX0_crowded_1 : decode cX0_crowded 1 = .ok (.aload_n 0, 1) := dk_42 (dk_at dksX0_crowded_0 1 rfl rfl)
theorem dX0_crowded_2 : decode cX0_crowded 2 = .ok (.iload_n 1, 1) := dk_27 (dk_at dksX0_crowded_0 2 rfl rfl)
theorem dX0_crowded_3 : decode cX0_crowded 3 = .ok (.invokevirtual 168, 3) := dk_182 0 168 (dk_at dksX0_crowded_0 3 rfl rfl)
theorem dX0_crowded_6 : decode cX0_crowded 6 = .ok (.ifCond .eq 7, 3) := dk_153 0 7 (dk_at dksX0_crowded_0 6 rfl rfl)
theorem dX0_crowded_9 : decode cX0_crowded 9 = .ok (.iconst 0, 1) := dk_3 (dk_at dksX0_crowded_0 9 rfl rfl)
theorem dX0_crowded_10 : decode cX0_crowded 10 = .ok (.goto 4, 3) := dk_167 0 4 (dk_at dksX0_crowded_0 10 rfl rfl)
theorem dX0_crowded_13 : decode cX0_crowded 13 = .ok (.iconst 1, 1) := dk_4 (dk_at dksX0_crowded_0 13 rfl rfl)
theorem dX0_crowded_14 : decode cX0_crowded 14 = .ok (.putfield 73, 3) := dk_181 0 73 (dk_at dksX0_crowded_0 14 rfl rfl)
theorem dX0_crowded_17 : decode cX0_crowded 17 = .ok (.aload_n 0, 1) := dk_42 (dk_at dksX0_crowded_0 17 rfl rfl)
theorem dX0_crowded_18 : decode cX0_crowded 18 = .ok (.getfield 73, 3) := dk_180 0 73 (dk_at dksX0_crowded_0 18 rfl rfl)
theorem dX0_crowded_21 : decode cX0_crowded 21 = .ok (.ifCond .le 7, 3) := dk_158 0 7 (dk_at dksX0_crowded_0 21 rfl rfl)
theorem dX0_crowded_24 : decode cX0_crowded 24 = .ok (.iconst (-1), 1) := dk_2 (dk_at dksX0_crowded_1 0 rfl rfl)
theorem dX0_crowded_25 : decode cX0_crowded 25 = .ok (.goto 19, 3) := dk_167 0 19 (dk_at dksX0_crowded_1 1 rfl rfl)
theorem dX0_crowded_28 : decode cX0_crowded 28 = .ok (.aload_n 0, 1) := dk_42 (dk_at dksX0_crowded_1 4 rfl rfl)
theorem dX0_crowded_29 : decode cX0_crowded 29 = .ok (.iload_n 1, 1) := dk_27 (dk_at dksX0_crowded_1 5 rfl rfl)
theorem dX0_crowded_30 : decode cX0_crowded 30 = .ok (.invokevirtual 172, 3) := dk_182 0 172 (dk_at dksX0_crowded_1 6 rfl rfl)
theorem dX0_crowded_33 : decode cX0_crowded 33 = .ok (.invokevirtual 363, 3) := dk_182 1 107 (dk_at dksX0_crowded_1 9 rfl rfl)
theorem dX0_crowded_36 : decode cX0_crowded 36 = .ok (.ifCond .eq 7, 3) := dk_153 0 7 (dk_at dksX0_crowded_1 12 rfl rfl)
theorem dX0_crowded_39 : decode cX0_crowded 39 = .ok (.iconst 1, 1) := dk_4 (dk_at dksX0_crowded_1 15 rfl rfl)
theorem dX0_crowded_40 : decode cX0_crowded 40 = .ok (.goto 4, 3) := dk_167 0 4 (dk_at dksX0_crowded_1 16 rfl rfl)
theorem dX0_crowded_43 : decode cX0_crowded 43 = .ok (.iconst 0, 1) := dk_3 (dk_at dksX0_crowded_1 19 rfl rfl)
theorem dX0_crowded_44 : decode cX0_crowded 44 = .ok (.ireturn, 1) := dk_172 (dk_at dksX0_crowded_1 20 rfl rfl)
def dkwX0_swarm_5 : List UInt8 := [182, 0, 158, 180, 1, 114, 172]
abbrev dktX0_swarm_5 : List UInt8 := dkwX0_swarm_5 ++ []
def dkwX0_swarm_4 : List UInt8 := [180, 1, 8, 42, 182, 0, 158, 180, 1, 114, 100, 181, 1, 8, 42, 27, 182, 0, 172, 2, 181, 1, 24, 42]
abbrev dktX0_swarm_4 : List UInt8 := dkwX0_swarm_4 ++ dktX0_swarm_5
def dkwX0_swarm_3 : List UInt8 := [182, 0, 158, 42, 27, 182, 0, 172, 180, 1, 8, 5, 108, 181, 1, 114, 42, 27, 182, 0, 172, 89]
abbrev dktX0_swarm_3 : List UInt8 := dkwX0_swarm_3 ++ dktX0_swarm_4
def dkwX0_swarm_2 : List UInt8 := [180, 0, 73, 158, 0, 5, 2, 172, 42, 182, 0, 158, 42, 27, 182, 0, 172, 180, 1, 24, 181, 1, 111, 42]
abbrev dktX0_swarm_2 : List UInt8 := dkwX0_swarm_2 ++ dktX0_swarm_3
def dkwX0_swarm_1 : List UInt8 := [167, 0, 20, 42, 27, 182, 0, 172, 182, 1, 107, 153, 0, 7, 3, 167, 0, 5, 16, 7, 181, 0, 73, 42]
abbrev dktX0_swarm_1 : List UInt8 := dkwX0_swarm_1 ++ dktX0_swarm_2
def dkwX0_swarm_0 : List UInt8 := [42, 42, 27, 182, 0, 168, 154, 0, 7, 4, 167, 0, 34, 42, 182, 0, 158, 180, 1, 111, 155, 0, 7, 7]
abbrev dktX0_swarm_0 : List UInt8 := dkwX0_swarm_0 ++ dktX0_swarm_1
theorem dksX0_swarm_0 : cX0_swarm.data.toList.drop 0 = dktX0_swarm_0 := by decide +kernel
theorem dksX0_swarm_1 : cX0_swarm.data.toList.drop 24 = dktX0_swarm_1 := dk_seg dksX0_swarm_0 24 rfl rfl
theorem dksX0_swarm_2 : cX0_swarm.data.toList.drop 48 = dktX0_swarm_2 := dk_seg dksX0_swarm_1 24 rfl rfl
theorem dksX0_swarm_3 : cX0_swarm.data.toList.drop 72 = dktX0_swarm_3 := dk_seg dksX0_swarm_2 24 rfl rfl
theorem dksX0_swarm_4 : cX0_swarm.data.toList.drop 94 = dktX0_swarm_4 := dk_seg dksX0_swarm_3 22 rfl rfl
theorem dksX0_swarm_5 : cX0_swarm.data.toList.drop 118 = dktX0_swarm_5 := dk_seg dksX0_swarm_4 24 rfl rfl
theorem dX0_swarm_0 : decode cX0_swarm 0 = .ok (.aload_n 0, 1) := dk_42 (dk_at dksX0_swarm_0 0 rfl rfl)
theorem dX0_swarm_1 : decode cX0_swarm 1 = .ok (.aload_n 0, 1) := dk_42 (dk_at dksX0_swarm_0 1 rfl rfl)
theorem dX0_swarm_2 : decode cX0_swarm 2 = .ok (.iload_n 1, 1) := dk_27 (dk_at dksX0_swarm_0 2 rfl rfl)
theorem dX0_swarm_3 : decode cX0_swarm 3 = .ok (.invokevirtual 168, 3) := dk_182 0 168 (dk_at dksX0_swarm_0 3 rfl rfl)
theorem dX0_swarm_6 : decode cX0_swarm 6 = .ok (.ifCond .ne 7, 3) := dk_154 0 7 (dk_at dksX0_swarm_0 6 rfl rfl)
theorem dX0_swarm_9 : decode cX0_swarm 9 = .ok (.iconst 1, 1) := dk_4 (dk_at dksX0_swarm_0 9 rfl rfl)
theorem dX0_swarm_10 : decode cX0_swarm 10 = .ok (.goto 34, 3) := dk_167 0 34 (dk_at dksX0_swarm_0 10 rfl rfl)
theorem dX0_swarm_13 : decode cX0_swarm 13 = .ok (.aload_n 0, 1) := dk_42 (dk_at dksX0_swarm_0 13 rfl rfl)
theorem dX0_swarm_14 : decode cX0_swarm 14 = .ok (.invokevirtual 158, 3) := dk_182 0 158 (dk_at dksX0_swarm_0 14 rfl rfl)
theorem dX0_swarm_17 : decode cX0_swarm 17 = .ok (.getfield 367, 3) := dk_180 1 111 (dk_at dksX0_swarm_0 17 rfl rfl)
theorem dX0_swarm_20 : decode cX0_swarm 20 = .ok (.ifCond .lt 7, 3) := dk_155 0 7 (dk_at dksX0_swarm_0 20 rfl rfl)
theorem dX0_swarm_23 : decode cX0_swarm 23 = .ok (.iconst 4, 1) := dk_7 (dk_at dksX0_swarm_0 23 rfl rfl)
theorem dX0_swarm_24 : decode cX0_swarm 24 = .ok (.goto 20, 3) := dk_167 0 20 (dk_at dksX0_swarm_1 0 rfl rfl)
theorem dX0_swarm_27 : decode cX0_swarm 27 = .ok (.aload_n 0, 1) := dk_42 (dk_at dksX0_swarm_1 3 rfl rfl)
theorem dX0_swarm_28 : decode cX0_swarm 28 = .ok (.iload_n 1, 1) := dk_27 (dk_at dksX0_swarm_1 4 rfl rfl)
theorem dX0_swarm_29 : decode cX0_swarm 29 = .ok (.invokevirtual 172, 3) := dk_182 0 172 (dk_at dksX0_swarm_1 5 rfl rfl)
theorem dX0_swarm_32 : decode cX0_swarm 32 = .ok (.invokevirtual 363, 3) := dk_182 1 107 (dk_at dksX0_swarm_1 8 rfl rfl)
theorem dX0_swarm_35 : decode cX0_swarm 35 = .ok (.ifCond .eq 7, 3) := dk_153 0 7 (dk_at dksX0_swarm_1 11 rfl rfl)
theorem dX0_swarm_38 : decode cX0_swarm 38 = .ok (.iconst 0, 1) := dk_3 (dk_at dksX0_swarm_1 14 rfl rfl)
theorem dX0_swarm_39 : decode cX0_swarm 39 = .ok (.goto 5, 3) := dk_167 0 5 (dk_at dksX0_swarm_1 15 rfl rfl)
theorem dX0_swarm_42 : decode cX0_swarm 42 = .ok (.bipush 7, 2) := dk_16 7 (dk_at dksX0_swarm_1 18 rfl rfl)
theorem dX0_swarm_44 : decode cX0_swarm 44 = .ok (.putfield 73, 3) := dk_181 0 73 (dk_at dksX0_swarm_1 20 rfl rfl)
theorem dX0_swarm_47 : decode cX0_swarm 47 = .ok (.aload_n 0, 1) := dk_42 (dk_at dksX0_swarm_1 23 rfl rfl)
theorem dX0_swarm_48 : decode cX0_swarm 48 = .ok (.getfield 73, 3) := dk_180 0 73 (dk_at dksX0_swarm_2 0 rfl rfl)
theorem dX0_swarm_51 : decode cX0_swarm 51 = .ok (.ifCond .le 5, 3) := dk_158 0 5 (dk_at dksX0_swarm_2 3 rfl rfl)
theorem dX0_swarm_54 : decode cX0_swarm 54 = .ok (.iconst (-1), 1) := dk_2 (dk_at dksX0_swarm_2 6 rfl rfl)
theorem dX0_swarm_55 : decode cX0_swarm 55 = .ok (.ireturn, 1) := dk_172 (dk_at dksX0_swarm_2 7 rfl rfl)
theorem dX0_swarm_56 : decode cX0_swarm 56 = .ok (.aload_n 0, 1) := dk_42 (dk_at dksX0_swarm_2 8 rfl rfl)
theorem dX0_swarm_57 : decode cX0_swarm 57 = .ok (.invokevirtual 158, 3) := dk_182 0 158 (dk_at dksX0_swarm_2 9 rfl rfl)
theorem dX0_swarm_60 : decode cX0_swarm 60 = .ok (.aload_n 0, 1) := dk_42 (dk_at dksX0_swarm_2 12 rfl rfl)
theorem dX0_swarm_61 : decode cX0_swarm 61 = .ok (.iload_n 1, 1) := dk_27 (dk_at dksX0_swarm_2 13 rfl rfl)
theorem dX0_swarm_62 : decode cX0_swarm 62 = .ok (.invokevirtual 172, 3) := dk_182 0 172 (dk_at dksX0_swarm_2 14 rfl rfl)
theorem dX0_swarm_65 : decode cX0_swarm 65 = .ok (.getfield 280, 3) := dk_180 1 24 (dk_at dksX0_swarm_2 17 rfl rfl)
theorem dX0_swarm_68 : decode cX0_swarm 68 = .ok (.putfield 367, 3) := dk_181 1 111 (dk_at dksX0_swarm_2 20 rfl rfl)
theorem dX0_swarm_71 : decode cX0_swarm 71 = .ok (.aload_n 0, 1) := dk_42 (dk_at dksX0_swarm_2 23 rfl rfl)
theorem dX0_swarm_72 : decode cX0_swarm 72 = .ok (.invokevirtual 158, 3) := dk_182 0 158 (dk_at dksX0_swarm_3 0 rfl rfl)
theorem dX0_swarm_75 : decode cX0_swarm 75 = .ok (.aload_n 0, 1) := dk_42 (dk_at dksX0_swarm_3 3 rfl rfl)
theorem dX0_swarm_76 : decode cX0_swarm 76 = .ok (.iload_n 1, 1) := dk_27 (dk_at dksX0_swarm_3 4 rfl rfl)
theorem dX0_swarm_77 : decode cX0_swarm 77 = .ok (.invokevirtual 172, 3) := dk_182 0 172 (dk_at dksX0_swarm_3 5 rfl rfl)
theorem dX0_swarm_80 : decode cX0_swarm 80 = .ok (.getfield 264, 3) := dk_180 1 8 (dk_at dksX0_swarm_3 8 rfl rfl)
theorem dX0_swarm_83 : decode cX0_swarm 83 = .ok (.iconst 2, 1) := dk_5 (dk_at dksX0_swarm_3 11 rfl rfl)
theorem dX0_swarm_84 : decode cX0_swarm 84 = .ok (.idiv, 1) := dk_108 (dk_at dksX0_swarm_3 12 rfl rfl)
theorem dX0_swarm_85 : decode cX0_swarm 85 = .ok (.putfield 370, 3) := dk_181 1 114 (dk_at dksX0_swarm_3 13 rfl rfl)
theorem dX0_swarm_88 : decode cX0_swarm 88 = .ok (.aload_n 0, 1) := dk_42 (dk_at dksX0_swarm_3 16 rfl rfl)
theorem dX0_swarm_89 : decode cX0_swarm 89 = .ok (.iload_n 1, 1) := dk_27 (dk_at dksX0_swarm_3 17 rfl rfl)
theorem dX0_swarm_90 : decode cX0_swarm 90 = .ok (.invokevirtual 172, 3) := dk_182 0 172 (dk_at dksX0_swarm_3 18 rfl rfl)
theorem dX0_swarm_93 : decode cX0_swarm 93 = .ok (.dup, 1) := dk_89 (dk_at dksX0_swarm_3 21 rfl rfl)
theorem dX0_swarm_94 : decode cX0_swarm 94 = .ok (.getfield 264, 3) := dk_180 1 8 (dk_at dksX0_swarm_4 0 rfl rfl)
theorem dX0_swarm_97 : decode cX0_swarm 97 = .ok (.aload_n 0, 1) := dk_42 (dk_at dksX0_swarm_4 3 rfl rfl)
theorem dX0_swarm_98 : decode cX0_swarm 98 = .ok (.invokevirtual 158, 3) := dk_182 0 158 (dk_at dksX0_swarm_4 4 rfl rfl)
theorem dX0_swarm_101 : decode cX0_swarm 101 = .ok (.getfield 370, 3) := dk_180 1 114 (dk_at dksX0_swarm_4 7 rfl rfl)
theorem dX0_swarm_104 : decode cX0_swarm 104 = .ok (.isub, 1) := dk_100 (dk_at dksX0_swarm_4 10 rfl rfl)
theorem dX0_swarm_105 : decode cX0_swarm 105 = .ok (.putfield 264, 3) := dk_181 1 8 (dk_at dksX0_swarm_4 11 rfl rfl)
theorem dX0_swarm_108 : decode cX0_swarm 108 = .ok (.aload_n 0, 1) := dk_42 (dk_at dksX0_swarm_4 14 rfl rfl)
theorem dX0_swarm_109 : decode cX0_swarm 109 = .ok (.iload_n 1, 1) := dk_27 (dk_at dksX0_swarm_4 15 rfl rfl)
theorem dX0_swarm_110 : decode cX0_swarm 110 = .ok (.invokevirtual 172, 3) := dk_182 0 172 (dk_at dksX0_swarm_4 16 rfl rfl)
theorem dX0_swarm_113 : decode cX0_swarm 113 = .ok (.iconst (-1), 1) := dk_2 (dk_at dksX0_swarm_4 19 rfl rfl)
theorem dX0_swarm_114 : decode cX0_swarm 114 = .ok (.putfield 280, 3) := dk_181 1 24 (dk_at dksX0_swarm_4 20 rfl rfl)
theorem dX0_swarm_117 : decode cX0_swarm 117 = .ok (.aload_n 0, 1) := dk_42 (dk_at dksX0_swarm_4 23 rfl rfl)
theorem dX0_swarm_118 : decode cX0_swarm 118 = .ok (.invokevirtual 158, 3) := dk_182 0 158 (dk_at dksX0_swarm_5 0 rfl rfl)
theorem dX0_swarm_121 : decode cX0_swarm 121 = .ok (.getfield 370, 3) := dk_180 1 114 (dk_at dksX0_swarm_5 3 rfl rfl)
theorem dX0_swarm_124 : decode cX0_swarm 124 = .ok (.ireturn, 1) := dk_172 (dk_at dksX0_swarm_5 6 rfl rfl)
def dkwX0_swarmOut_2 : List UInt8 := [154, 0, 13, 42, 182, 0, 158, 180, 1, 114, 167, 0, 10, 42, 182, 0, 158, 180, 1, 111, 172]
abbrev dktX0_swarmOut_2 : List UInt8 := dkwX0_swarmOut_2 ++ []
def dkwX0_swarmOut_1 : List UInt8 := [156, 0, 8, 16, 6, 167, 0, 4, 3, 181, 0, 73, 42, 180, 0, 73, 158, 0, 7, 2, 167, 0, 24, 27]
abbrev dktX0_swarmOut_1 : List UInt8 := dkwX0_swarmOut_1 ++ dktX0_swarmOut_2
def dkwX0_swarmOut_0 : List UInt8 := [42, 27, 133, 9, 10, 184, 0, 164, 154, 0, 7, 4, 167, 0, 19, 42, 182, 0, 158, 180, 1, 111]
abbrev dktX0_swarmOut_0 : List UInt8 := dkwX0_swarmOut_0 ++ dktX0_swarmOut_1
theorem dksX0_swarmOut_0 : cX0_swarmOut.data.toList.drop 0 = dktX0_swarmOut_0 := by decide +kernel
theorem dksX0_swarmOut_1 : cX0_swarmOut.data.toList.drop 22 = dktX0_swarmOut_1 := dk_seg dksX0_swarmOut_0 22 rfl rfl
theorem dksX0_swarmOut_2 : cX0_swarmOut.data.toList.drop 46 = dktX0_swarmOut_2 := dk_seg dksX0_swarmOut_1 24 rfl rfl
theorem dX0_swarmOut_0 : decode cX0_swarmOut 0 = .ok (.aload_n 0, 1) := dk_42 (dk_at dksX0_swarmOut_0 0 rfl rfl)
theorem dX0_swarmOut_1 : decode cX0_swarmOut 1 = .ok (.iload_n 1, 1) := dk_27 (dk_at dksX0_swarmOut_0 1 rfl rfl)
theorem dX0_swarmOut_2 : decode cX0_swarmOut 2 = .ok (.i2l, 1) := dk_133 (dk_at dksX0_swarmOut_0 2 rfl rfl)
theorem dX0_swarmOut_3 : decode cX0_swarmOut 3 = .ok (.lconst 0, 1) := dk_9 (dk_at dksX0_swarmOut_0 3 rfl rfl)
theorem dX0_swarmOut_4 : decode cX0_swarmOut 4 = .ok (.lconst 1, 1) := dk_10 (dk_at dksX0_swarmOut_0 4 rfl rfl)
theorem dX0_swarmOut_5 : decode cX0_swarmOut 5 = .ok (.invokestatic 164, 3) := dk_184 0 164 (dk_at dksX0_swarmOut_0 5 rfl rfl)
theorem dX0_swarmOut_8 : decode cX0_swarmOut 8 = .ok (.ifCond .ne 7, 3) := dk_154 0 7 (dk_at dksX0_swarmOut_0 8 rfl rfl)
theorem dX0_swarmOut_11 : decode cX0_swarmOut 11 = .ok (.iconst 1, 1) := dk_4 (dk_at dksX0_swarmOut_0 11 rfl rfl)
theorem dX0_swarmOut_12 : decode cX0_swarmOut 12 = .ok (.goto 19, 3) := dk_167 0 19 (dk_at dksX0_swarmOut_0 12 rfl rfl)
theorem dX0_swarmOut_15 : decode cX0_swarmOut 15 = .ok (.aload_n 0, 1) := dk_42 (dk_at dksX0_swarmOut_0 15 rfl rfl)
theorem dX0_swarmOut_16 : decode cX0_swarmOut 16 = .ok (.invokevirtual 158, 3) := dk_182 0 158 (dk_at dksX0_swarmOut_0 16 rfl rfl)
theorem dX0_swarmOut_19 : decode cX0_swarmOut 19 = .ok (.getfield 367, 3) := dk_180 1 111 (dk_at dksX0_swarmOut_0 19 rfl rfl)
theorem dX0_swarmOut_22 : decode cX0_swarmOut 22 = .ok (.ifCond .ge 8, 3) := dk_156 0 8 (dk_at dksX0_swarmOut_1 0 rfl rfl)
theorem dX0_swarmOut_25 : decode cX0_swarmOut 25 = .ok (.bipush 6, 2) := dk_16 6 (dk_at dksX0_swarmOut_1 3 rfl rfl)
theorem dX0_swarmOut_27 : decode cX0_swarmOut 27 = .ok (.goto 4, 3) := dk_167 0 4 (dk_at dksX0_swarmOut_1 5 rfl rfl)
theorem dX0_swarmOut_30 : decode cX0_swarmOut 30 = .ok (.iconst 0, 1) := dk_3 (dk_at dksX0_swarmOut_1 8 rfl rfl)
theorem dX0_swarmOut_31 : decode cX0_swarmOut 31 = .ok (.putfield 73, 3) := dk_181 0 73 (dk_at dksX0_swarmOut_1 9 rfl rfl)
theorem dX0_swarmOut_34 : decode cX0_swarmOut 34 = .ok (.aload_n 0, 1) := dk_42 (dk_at dksX0_swarmOut_1 12 rfl rfl)
theorem dX0_swarmOut_35 : decode cX0_swarmOut 35 = .ok (.getfield 73, 3) := dk_180 0 73 (dk_at dksX0_swarmOut_1 13 rfl rfl)
theorem dX0_swarmOut_38 : decode cX0_swarmOut 38 = .ok (.ifCond .le 7, 3) := dk_158 0 7 (dk_at dksX0_swarmOut_1 16 rfl rfl)
theorem dX0_swarmOut_41 : decode cX0_swarmOut 41 = .ok (.iconst (-1), 1) := dk_2 (dk_at dksX0_swarmOut_1 19 rfl rfl)
theorem dX0_swarmOut_42 : decode cX0_swarmOut 42 = .ok (.goto 24, 3) := dk_167 0 24 (dk_at dksX0_swarmOut_1 20 rfl rfl)
theorem dX0_swarmOut_45 : decode cX0_swarmOut 45 = .ok (.iload_n 1, 1) := dk_27 (dk_at dksX0_swarmOut_1 23 rfl rfl)
theorem dX0_swarmOut_46 : decode cX0_swarmOut 46 = .ok (.ifCond .ne 13, 3) := dk_154 0 13 (dk_at dksX0_swarmOut_2 0 rfl rfl)
theorem dX0_swarmOut_49 : decode cX0_swarmOut 49 = .ok (.aload_n 0, 1) := dk_42 (dk_at dksX0_swarmOut_2 3 rfl rfl)
theorem dX0_swarmOut_50 : decode cX0_swarmOut 50 = .ok (.invokevirtual 158, 3) := dk_182 0 158 (dk_at dksX0_swarmOut_2 4 rfl rfl)
theorem dX0_swarmOut_53 : decode cX0_swarmOut 53 = .ok (.getfield 370, 3) := dk_180 1 114 (dk_at dksX0_swarmOut_2 7 rfl rfl)
theorem dX0_swarmOut_56 : decode cX0_swarmOut 56 = .ok (.goto 10, 3) := dk_167 0 10 (dk_at dksX0_swarmOut_2 10 rfl rfl)
theorem dX0_swarmOut_59 : decode cX0_swarmOut 59 = .ok (.aload_n 0, 1) := dk_42 (dk_at dksX0_swarmOut_2 13 rfl rfl)
theorem dX0_swarmOut_60 : decode cX0_swarmOut 60 = .ok (.invokevirtual 158, 3) := dk_182 0 158 (dk_at dksX0_swarmOut_2 14 rfl rfl)
theorem dX0_swarmOut_63 : decode cX0_swarmOut 63 = .ok (.getfield 367, 3) := dk_180 1 111 (dk_at dksX0_swarmOut_2 17 rfl rfl)
theorem dX0_swarmOut_66 : decode cX0_swarmOut 66 = .ok (.ireturn, 1) := dk_172 (dk_at dksX0_swarmOut_2 20 rfl rfl)
def dkwX0_take_5 : List UInt8 := [180, 1, 8, 172]
abbrev dktX0_take_5 : List UInt8 := dkwX0_take_5 ++ []
def dkwX0_take_4 : List UInt8 := [181, 1, 24, 42, 182, 0, 158, 2, 181, 1, 111, 42, 182, 0, 158, 3, 181, 1, 114, 42, 27, 182, 0, 172]
abbrev dktX0_take_4 : List UInt8 := dkwX0_take_4 ++ dktX0_take_5
def dkwX0_take_3 : List UInt8 := [182, 0, 158, 180, 1, 114, 96, 181, 1, 8, 42, 27, 182, 0, 172, 42, 182, 0, 158, 180, 1, 111]
abbrev dktX0_take_3 : List UInt8 := dkwX0_take_3 ++ dktX0_take_4
def dkwX0_take_2 : List UInt8 := [181, 0, 73, 42, 180, 0, 73, 158, 0, 5, 2, 172, 42, 27, 182, 0, 172, 89, 180, 1, 8, 42]
abbrev dktX0_take_2 : List UInt8 := dkwX0_take_2 ++ dktX0_take_3
def dkwX0_take_1 : List UInt8 := [16, 6, 167, 0, 20, 42, 27, 182, 0, 172, 180, 1, 24, 155, 0, 8, 16, 7, 167, 0, 4, 3]
abbrev dktX0_take_1 : List UInt8 := dkwX0_take_1 ++ dktX0_take_2
def dkwX0_take_0 : List UInt8 := [42, 42, 27, 182, 0, 168, 154, 0, 7, 4, 167, 0, 35, 42, 182, 0, 158, 180, 1, 111, 156, 0, 8]
abbrev dktX0_take_0 : List UInt8 := dkwX0_take_0 ++ dktX0_take_1
theorem dksX0_take_0 : cX0_take.data.toList.drop 0 = dktX0_take_0 := by decide +kernel
theorem dksX0_take_1 : cX0_take.data.toList.drop 23 = dktX0_take_1 := dk_seg dksX0_take_0 23 rfl rfl
theorem dksX0_take_2 : cX0_take.data.toList.drop 45 = dktX0_take_2 := dk_seg dksX0_take_1 22 rfl rfl
theorem dksX0_take_3 : cX0_take.data.toList.drop 67 = dktX0_take_3 := dk_seg dksX0_take_2 22 rfl rfl
theorem dksX0_take_4 : cX0_take.data.toList.drop 89 = dktX0_take_4 := dk_seg dksX0_take_3 22 rfl rfl
theorem dksX0_take_5 : cX0_take.data.toList.drop 113 = dktX0_take_5 := dk_seg dksX0_take_4 24 rfl rfl
theorem dX0_take_0 : decode cX0_take 0 = .ok (.aload_n 0, 1) := dk_42 (dk_at dksX0_take_0 0 rfl rfl)
theorem dX0_take_1 : decode cX0_take 1 = .ok (.aload_n 0, 1) := dk_42 (dk_at dksX0_take_0 1 rfl rfl)
theorem dX0_take_2 : decode cX0_take 2 = .ok (.iload_n 1, 1) := dk_27 (dk_at dksX0_take_0 2 rfl rfl)
theorem dX0_take_3 : decode cX0_take 3 = .ok (.invokevirtual 168, 3) := dk_182 0 168 (dk_at dksX0_take_0 3 rfl rfl)
theorem dX0_take_6 : decode cX0_take 6 = .ok (.ifCond .ne 7, 3) := dk_154 0 7 (dk_at dksX0_take_0 6 rfl rfl)
theorem dX0_take_9 : decode cX0_take 9 = .ok (.iconst 1, 1) := dk_4 (dk_at dksX0_take_0 9 rfl rfl)
theorem dX0_take_10 : decode cX0_take 10 = .ok (.goto 35, 3) := dk_167 0 35 (dk_at dksX0_take_0 10 rfl rfl)
theorem dX0_take_13 : decode cX0_take 13 = .ok (.aload_n 0, 1) := dk_42 (dk_at dksX0_take_0 13 rfl rfl)
theorem dX0_take_14 : decode cX0_take 14 = .ok (.invokevirtual 158, 3) := dk_182 0 158 (dk_at dksX0_take_0 14 rfl rfl)
theorem dX0_take_17 : decode cX0_take 17 = .ok (.getfield 367, 3) := dk_180 1 111 (dk_at dksX0_take_0 17 rfl rfl)
theorem dX0_take_20 : decode cX0_take 20 = .ok (.ifCond .ge 8, 3) := dk_156 0 8 (dk_at dksX0_take_0 20 rfl rfl)
theorem dX0_take_23 : decode cX0_take 23 = .ok (.bipush 6, 2) := dk_16 6 (dk_at dksX0_take_1 0 rfl rfl)
theorem dX0_take_25 : decode cX0_take 25 = .ok (.goto 20, 3) := dk_167 0 20 (dk_at dksX0_take_1 2 rfl rfl)
theorem dX0_take_28 : decode cX0_take 28 = .ok (.aload_n 0, 1) := dk_42 (dk_at dksX0_take_1 5 rfl rfl)
theorem dX0_take_29 : decode cX0_take 29 = .ok (.iload_n 1, 1) := dk_27 (dk_at dksX0_take_1 6 rfl rfl)
theorem dX0_take_30 : decode cX0_take 30 = .ok (.invokevirtual 172, 3) := dk_182 0 172 (dk_at dksX0_take_1 7 rfl rfl)
theorem dX0_take_33 : decode cX0_take 33 = .ok (.getfield 280, 3) := dk_180 1 24 (dk_at dksX0_take_1 10 rfl rfl)
theorem dX0_take_36 : decode cX0_take 36 = .ok (.ifCond .lt 8, 3) := dk_155 0 8 (dk_at dksX0_take_1 13 rfl rfl)
theorem dX0_take_39 : decode cX0_take 39 = .ok (.bipush 7, 2) := dk_16 7 (dk_at dksX0_take_1 16 rfl rfl)
theorem dX0_take_41 : decode cX0_take 41 = .ok (.goto 4, 3) := dk_167 0 4 (dk_at dksX0_take_1 18 rfl rfl)
theorem dX0_take_44 : decode cX0_take 44 = .ok (.iconst 0, 1) := dk_3 (dk_at dksX0_take_1 21 rfl rfl)
theorem dX0_take_45 : decode cX0_take 45 = .ok (.putfield 73, 3) := dk_181 0 73 (dk_at dksX0_take_2 0 rfl rfl)
theorem dX0_take_48 : decode cX0_take 48 = .ok (.aload_n 0, 1) := dk_42 (dk_at dksX0_take_2 3 rfl rfl)
theorem dX0_take_49 : decode cX0_take 49 = .ok (.getfield 73, 3) := dk_180 0 73 (dk_at dksX0_take_2 4 rfl rfl)
theorem dX0_take_52 : decode cX0_take 52 = .ok (.ifCond .le 5, 3) := dk_158 0 5 (dk_at dksX0_take_2 7 rfl rfl)
theorem dX0_take_55 : decode cX0_take 55 = .ok (.iconst (-1), 1) := dk_2 (dk_at dksX0_take_2 10 rfl rfl)
theorem dX0_take_56 : decode cX0_take 56 = .ok (.ireturn, 1) := dk_172 (dk_at dksX0_take_2 11 rfl rfl)
theorem dX0_take_57 : decode cX0_take 57 = .ok (.aload_n 0, 1) := dk_42 (dk_at dksX0_take_2 12 rfl rfl)
theorem dX0_take_58 : decode cX0_take 58 = .ok (.iload_n 1, 1) := dk_27 (dk_at dksX0_take_2 13 rfl rfl)
theorem dX0_take_59 : decode cX0_take 59 = .ok (.invokevirtual 172, 3) := dk_182 0 172 (dk_at dksX0_take_2 14 rfl rfl)
theorem dX0_take_62 : decode cX0_take 62 = .ok (.dup, 1) := dk_89 (dk_at dksX0_take_2 17 rfl rfl)
theorem dX0_take_63 : decode cX0_take 63 = .ok (.getfield 264, 3) := dk_180 1 8 (dk_at dksX0_take_2 18 rfl rfl)
theorem dX0_take_66 : decode cX0_take 66 = .ok (.aload_n 0, 1) := dk_42 (dk_at dksX0_take_2 21 rfl rfl)
theorem dX0_take_67 : decode cX0_take 67 = .ok (.invokevirtual 158, 3) := dk_182 0 158 (dk_at dksX0_take_3 0 rfl rfl)
theorem dX0_take_70 : decode cX0_take 70 = .ok (.getfield 370, 3) := dk_180 1 114 (dk_at dksX0_take_3 3 rfl rfl)
theorem dX0_take_73 : decode cX0_take 73 = .ok (.iadd, 1) := dk_96 (dk_at dksX0_take_3 6 rfl rfl)
theorem dX0_take_74 : decode cX0_take 74 = .ok (.putfield 264, 3) := dk_181 1 8 (dk_at dksX0_take_3 7 rfl rfl)
theorem dX0_take_77 : decode cX0_take 77 = .ok (.aload_n 0, 1) := dk_42 (dk_at dksX0_take_3 10 rfl rfl)
theorem dX0_take_78 : decode cX0_take 78 = .ok (.iload_n 1, 1) := dk_27 (dk_at dksX0_take_3 11 rfl rfl)
theorem dX0_take_79 : decode cX0_take 79 = .ok (.invokevirtual 172, 3) := dk_182 0 172 (dk_at dksX0_take_3 12 rfl rfl)
theorem dX0_take_82 : decode cX0_take 82 = .ok (.aload_n 0, 1) := dk_42 (dk_at dksX0_take_3 15 rfl rfl)
theorem dX0_take_83 : decode cX0_take 83 = .ok (.invokevirtual 158, 3) := dk_182 0 158 (dk_at dksX0_take_3 16 rfl rfl)
theorem dX0_take_86 : decode cX0_take 86 = .ok (.getfield 367, 3) := dk_180 1 111 (dk_at dksX0_take_3 19 rfl rfl)
theorem dX0_take_89 : decode cX0_take 89 = .ok (.putfield 280, 3) := dk_181 1 24 (dk_at dksX0_take_4 0 rfl rfl)
theorem dX0_take_92 : decode cX0_take 92 = .ok (.aload_n 0, 1) := dk_42 (dk_at dksX0_take_4 3 rfl rfl)
theorem dX0_take_93 : decode cX0_take 93 = .ok (.invokevirtual 158, 3) := dk_182 0 158 (dk_at dksX0_take_4 4 rfl rfl)
theorem dX0_take_96 : decode cX0_take 96 = .ok (.iconst (-1), 1) := dk_2 (dk_at dksX0_take_4 7 rfl rfl)
theorem dX0_take_97 : decode cX0_take 97 = .ok (.putfield 367, 3) := dk_181 1 111 (dk_at dksX0_take_4 8 rfl rfl)
theorem dX0_take_100 : decode cX0_take 100 = .ok (.aload_n 0, 1) := dk_42 (dk_at dksX0_take_4 11 rfl rfl)
theorem dX0_take_101 : decode cX0_take 101 = .ok (.invokevirtual 158, 3) := dk_182 0 158 (dk_at dksX0_take_4 12 rfl rfl)
theorem dX0_take_104 : decode cX0_take 104 = .ok (.iconst 0, 1) := dk_3 (dk_at dksX0_take_4 15 rfl rfl)
theorem dX0_take_105 : decode cX0_take 105 = .ok (.putfield 370, 3) := dk_181 1 114 (dk_at dksX0_take_4 16 rfl rfl)
theorem dX0_take_108 : decode cX0_take 108 = .ok (.aload_n 0, 1) := dk_42 (dk_at dksX0_take_4 19 rfl rfl)
theorem dX0_take_109 : decode cX0_take 109 = .ok (.iload_n 1, 1) := dk_27 (dk_at dksX0_take_4 20 rfl rfl)
theorem dX0_take_110 : decode cX0_take 110 = .ok (.invokevirtual 172, 3) := dk_182 0 172 (dk_at dksX0_take_4 21 rfl rfl)
theorem dX0_take_113 : decode cX0_take 113 = .ok (.getfield 264, 3) := dk_180 1 8 (dk_at dksX0_take_5 0 rfl rfl)
theorem dX0_take_116 : decode cX0_take 116 = .ok (.ireturn, 1) := dk_172 (dk_at dksX0_take_5 3 rfl rfl)
def dkwX0_kin_2 : List UInt8 := [133, 20, 1, 120, 182, 1, 122, 87, 42, 180, 0, 73, 154, 0, 7, 4, 167, 0, 4, 3, 172]
abbrev dktX0_kin_2 : List UInt8 := dkwX0_kin_2 ++ []
def dkwX0_kin_1 : List UInt8 := [167, 0, 4, 4, 181, 0, 73, 42, 180, 0, 73, 154, 0, 21, 42, 42, 182, 0, 182, 27, 28, 182, 1, 117]
abbrev dktX0_kin_1 : List UInt8 := dkwX0_kin_1 ++ dktX0_kin_2
def dkwX0_kin_0 : List UInt8 := [42, 42, 182, 0, 182, 27, 182, 1, 31, 153, 0, 18, 42, 182, 0, 182, 28, 182, 1, 31, 153, 0, 7, 3]
abbrev dktX0_kin_0 : List UInt8 := dkwX0_kin_0 ++ dktX0_kin_1
theorem dksX0_kin_0 : cX0_kin.data.toList.drop 0 = dktX0_kin_0 := by decide +kernel
theorem dksX0_kin_1 : cX0_kin.data.toList.drop 24 = dktX0_kin_1 := dk_seg dksX0_kin_0 24 rfl rfl
theorem dksX0_kin_2 : cX0_kin.data.toList.drop 48 = dktX0_kin_2 := dk_seg dksX0_kin_1 24 rfl rfl
theorem dX0_kin_0 : decode cX0_kin 0 = .ok (.aload_n 0, 1) := dk_42 (dk_at dksX0_kin_0 0 rfl rfl)
theorem dX0_kin_1 : decode cX0_kin 1 = .ok (.aload_n 0, 1) := dk_42 (dk_at dksX0_kin_0 1 rfl rfl)
theorem dX0_kin_2 : decode cX0_kin 2 = .ok (.invokevirtual 182, 3) := dk_182 0 182 (dk_at dksX0_kin_0 2 rfl rfl)
theorem dX0_kin_5 : decode cX0_kin 5 = .ok (.iload_n 1, 1) := dk_27 (dk_at dksX0_kin_0 5 rfl rfl)
theorem dX0_kin_6 : decode cX0_kin 6 = .ok (.invokevirtual 287, 3) := dk_182 1 31 (dk_at dksX0_kin_0 6 rfl rfl)
theorem dX0_kin_9 : decode cX0_kin 9 = .ok (.ifCond .eq 18, 3) := dk_153 0 18 (dk_at dksX0_kin_0 9 rfl rfl)
theorem dX0_kin_12 : decode cX0_kin 12 = .ok (.aload_n 0, 1) := dk_42 (dk_at dksX0_kin_0 12 rfl rfl)
theorem dX0_kin_13 : decode cX0_kin 13 = .ok (.invokevirtual 182, 3) := dk_182 0 182 (dk_at dksX0_kin_0 13 rfl rfl)
theorem dX0_kin_16 : decode cX0_kin 16 = .ok (.iload_n 2, 1) := dk_28 (dk_at dksX0_kin_0 16 rfl rfl)
theorem dX0_kin_17 : decode cX0_kin 17 = .ok (.invokevirtual 287, 3) := dk_182 1 31 (dk_at dksX0_kin_0 17 rfl rfl)
theorem dX0_kin_20 : decode cX0_kin 20 = .ok (.ifCond .eq 7, 3) := dk_153 0 7 (dk_at dksX0_kin_0 20 rfl rfl)
theorem dX0_kin_23 : decode cX0_kin 23 = .ok (.iconst 0, 1) := dk_3 (dk_at dksX0_kin_0 23 rfl rfl)
theorem dX0_kin_24 : decode cX0_kin 24 = .ok (.goto 4, 3) := dk_167 0 4 (dk_at dksX0_kin_1 0 rfl rfl)
theorem dX0_kin_27 : decode cX0_kin 27 = .ok (.iconst 1, 1) := dk_4 (dk_at dksX0_kin_1 3 rfl rfl)
theorem dX0_kin_28 : decode cX0_kin 28 = .ok (.putfield 73, 3) := dk_181 0 73 (dk_at dksX0_kin_1 4 rfl rfl)
theorem dX0_kin_31 : decode cX0_kin 31 = .ok (.aload_n 0, 1) := dk_42 (dk_at dksX0_kin_1 7 rfl rfl)
theorem dX0_kin_32 : decode cX0_kin 32 = .ok (.getfield 73, 3) := dk_180 0 73 (dk_at dksX0_kin_1 8 rfl rfl)
theorem dX0_kin_35 : decode cX0_kin 35 = .ok (.ifCond .ne 21, 3) := dk_154 0 21 (dk_at dksX0_kin_1 11 rfl rfl)
theorem dX0_kin_38 : decode cX0_kin 38 = .ok (.aload_n 0, 1) := dk_42 (dk_at dksX0_kin_1 14 rfl rfl)
theorem dX0_kin_39 : decode cX0_kin 39 = .ok (.aload_n 0, 1) := dk_42 (dk_at dksX0_kin_1 15 rfl rfl)
theorem dX0_kin_40 : decode cX0_kin 40 = .ok (.invokevirtual 182, 3) := dk_182 0 182 (dk_at dksX0_kin_1 16 rfl rfl)
theorem dX0_kin_43 : decode cX0_kin 43 = .ok (.iload_n 1, 1) := dk_27 (dk_at dksX0_kin_1 19 rfl rfl)
theorem dX0_kin_44 : decode cX0_kin 44 = .ok (.iload_n 2, 1) := dk_28 (dk_at dksX0_kin_1 20 rfl rfl)
theorem dX0_kin_45 : decode cX0_kin 45 = .ok (.invokevirtual 373, 3) := dk_182 1 117 (dk_at dksX0_kin_1 21 rfl rfl)
theorem dX0_kin_48 : decode cX0_kin 48 = .ok (.i2l, 1) := dk_133 (dk_at dksX0_kin_2 0 rfl rfl)
theorem dX0_kin_49 : decode cX0_kin 49 = .ok (.ldc2_w 376, 3) := dk_20 1 120 (dk_at dksX0_kin_2 1 rfl rfl)
theorem dX0_kin_52 : decode cX0_kin 52 = .ok (.invokevirtual 378, 3) := dk_182 1 122 (dk_at dksX0_kin_2 4 rfl rfl)
theorem dX0_kin_55 : decode cX0_kin 55 = .ok (.pop, 1) := dk_87 (dk_at dksX0_kin_2 7 rfl rfl)
theorem dX0_kin_56 : decode cX0_kin 56 = .ok (.aload_n 0, 1) := dk_42 (dk_at dksX0_kin_2 8 rfl rfl)
theorem dX0_kin_57 : decode cX0_kin 57 = .ok (.getfield 73, 3) := dk_180 0 73 (dk_at dksX0_kin_2 9 rfl rfl)
theorem dX0_kin_60 : decode cX0_kin 60 = .ok (.ifCond .ne 7, 3) := dk_154 0 7 (dk_at dksX0_kin_2 12 rfl rfl)
theorem dX0_kin_63 : decode cX0_kin 63 = .ok (.iconst 1, 1) := dk_4 (dk_at dksX0_kin_2 15 rfl rfl)
theorem dX0_kin_64 : decode cX0_kin 64 = .ok (.goto 4, 3) := dk_167 0 4 (dk_at dksX0_kin_2 16 rfl rfl)
theorem dX0_kin_67 : decode cX0_kin 67 = .ok (.iconst 0, 1) := dk_3 (dk_at dksX0_kin_2 19 rfl rfl)
theorem dX0_kin_68 : decode cX0_kin 68 = .ok (.ireturn, 1) := dk_172 (dk_at dksX0_kin_2 20 rfl rfl)
def dkwX0_fraction_2 : List UInt8 := [181, 0, 48, 31, 184, 0, 92, 172]
abbrev dktX0_fraction_2 : List UInt8 := dkwX0_fraction_2 ++ []
def dkwX0_fraction_1 : List UInt8 := [22, 7, 55, 5, 22, 9, 55, 7, 167, 255, 234, 42, 31, 22, 5, 109, 181, 0, 76, 42, 33, 22, 5, 109]
abbrev dktX0_fraction_1 : List UInt8 := dkwX0_fraction_1 ++ dktX0_fraction_2
def dkwX0_fraction_0 : List UInt8 := [31, 184, 0, 86, 55, 5, 33, 55, 7, 22, 7, 9, 148, 153, 0, 21, 22, 5, 22, 7, 113, 55, 9]
abbrev dktX0_fraction_0 : List UInt8 := dkwX0_fraction_0 ++ dktX0_fraction_1
theorem dksX0_fraction_0 : cX0_fraction.data.toList.drop 0 = dktX0_fraction_0 := by decide +kernel
theorem dksX0_fraction_1 : cX0_fraction.data.toList.drop 23 = dktX0_fraction_1 := dk_seg dksX0_fraction_0 23 rfl rfl
theorem dksX0_fraction_2 : cX0_fraction.data.toList.drop 47 = dktX0_fraction_2 := dk_seg dksX0_fraction_1 24 rfl rfl
theorem dX0_fraction_0 : decode cX0_fraction 0 = .ok (.lload_n 1, 1) := dk_31 (dk_at dksX0_fraction_0 0 rfl rfl)
theorem dX0_fraction_1 : decode cX0_fraction 1 = .ok (.invokestatic 86, 3) := dk_184 0 86 (dk_at dksX0_fraction_0 1 rfl rfl)
theorem dX0_fraction_4 : decode cX0_fraction 4 = .ok (.lstore 5, 2) := dk_55 5 (dk_at dksX0_fraction_0 4 rfl rfl)
theorem dX0_fraction_6 : decode cX0_fraction 6 = .ok (.lload_n 3, 1) := dk_33 (dk_at dksX0_fraction_0 6 rfl rfl)
theorem dX0_fraction_7 : decode cX0_fraction 7 = .ok (.lstore 7, 2) := dk_55 7 (dk_at dksX0_fraction_0 7 rfl rfl)
theorem dX0_fraction_9 : decode cX0_fraction 9 = .ok (.lload 7, 2) := dk_22 7 (dk_at dksX0_fraction_0 9 rfl rfl)
theorem dX0_fraction_11 : decode cX0_fraction 11 = .ok (.lconst 0, 1) := dk_9 (dk_at dksX0_fraction_0 11 rfl rfl)
theorem dX0_fraction_12 : decode cX0_fraction 12 = .ok (.lcmp, 1) := dk_148 (dk_at dksX0_fraction_0 12 rfl rfl)
theorem dX0_fraction_13 : decode cX0_fraction 13 = .ok (.ifCond .eq 21, 3) := dk_153 0 21 (dk_at dksX0_fraction_0 13 rfl rfl)
theorem dX0_fraction_16 : decode cX0_fraction 16 = .ok (.lload 5, 2) := dk_22 5 (dk_at dksX0_fraction_0 16 rfl rfl)
theorem dX0_fraction_18 : decode cX0_fraction 18 = .ok (.lload 7, 2) := dk_22 7 (dk_at dksX0_fraction_0 18 rfl rfl)
theorem dX0_fraction_20 : decode cX0_fraction 20 = .ok (.lrem, 1) := dk_113 (dk_at dksX0_fraction_0 20 rfl rfl)
theorem dX0_fraction_21 : decode cX0_fraction 21 = .ok (.lstore 9, 2) := dk_55 9 (dk_at dksX0_fraction_0 21 rfl rfl)
theorem dX0_fraction_23 : decode cX0_fraction 23 = .ok (.lload 7, 2) := dk_22 7 (dk_at dksX0_fraction_1 0 rfl rfl)
theorem dX0_fraction_25 : decode cX0_fraction 25 = .ok (.lstore 5, 2) := dk_55 5 (dk_at dksX0_fraction_1 2 rfl rfl)
theorem dX0_fraction_27 : decode cX0_fraction 27 = .ok (.lload 9, 2) := dk_22 9 (dk_at dksX0_fraction_1 4 rfl rfl)
theorem dX0_fraction_29 : decode cX0_fraction 29 = .ok (.lstore 7, 2) := dk_55 7 (dk_at dksX0_fraction_1 6 rfl rfl)
theorem dX0_fraction_31 : decode cX0_fraction 31 = .ok (.goto (-22), 3) := dk_167 255 234 (dk_at dksX0_fraction_1 8 rfl rfl)
theorem dX0_fraction_34 : decode cX0_fraction 34 = .ok (.aload_n 0, 1) := dk_42 (dk_at dksX0_fraction_1 11 rfl rfl)
theorem dX0_fraction_35 : decode cX0_fraction 35 = .ok (.lload_n 1, 1) := dk_31 (dk_at dksX0_fraction_1 12 rfl rfl)
theorem dX0_fraction_36 : decode cX0_fraction 36 = .ok (.lload 5, 2) := dk_22 5 (dk_at dksX0_fraction_1 13 rfl rfl)
theorem dX0_fraction_38 : decode cX0_fraction 38 = .ok (.ldiv, 1) := dk_109 (dk_at dksX0_fraction_1 15 rfl rfl)
theorem dX0_fraction_39 : decode cX0_fraction 39 = .ok (.putfield 76, 3) := dk_181 0 76 (dk_at dksX0_fraction_1 16 rfl rfl)
theorem dX0_fraction_42 : decode cX0_fraction 42 = .ok (.aload_n 0, 1) := dk_42 (dk_at dksX0_fraction_1 19 rfl rfl)
theorem dX0_fraction_43 : decode cX0_fraction 43 = .ok (.lload_n 3, 1) := dk_33 (dk_at dksX0_fraction_1 20 rfl rfl)
theorem dX0_fraction_44 : decode cX0_fraction 44 = .ok (.lload 5, 2) := dk_22 5 (dk_at dksX0_fraction_1 21 rfl rfl)
theorem dX0_fraction_46 : decode cX0_fraction 46 = .ok (.ldiv, 1) := dk_109 (dk_at dksX0_fraction_1 23 rfl rfl)
theorem dX0_fraction_47 : decode cX0_fraction 47 = .ok (.putfield 48, 3) := dk_181 0 48 (dk_at dksX0_fraction_2 0 rfl rfl)
theorem dX0_fraction_50 : decode cX0_fraction 50 = .ok (.lload_n 1, 1) := dk_31 (dk_at dksX0_fraction_2 3 rfl rfl)
theorem dX0_fraction_51 : decode cX0_fraction 51 = .ok (.invokestatic 92, 3) := dk_184 0 92 (dk_at dksX0_fraction_2 4 rfl rfl)
theorem dX0_fraction_54 : decode cX0_fraction 54 = .ok (.ireturn, 1) := dk_172 (dk_at dksX0_fraction_2 7 rfl rfl)
def dkwX0_inbred_4 : List UInt8 := [154, 0, 7, 4, 167, 0, 4, 3, 172]
abbrev dktX0_inbred_4 : List UInt8 := dkwX0_inbred_4 ++ []
def dkwX0_inbred_3 : List UInt8 := [182, 0, 182, 180, 1, 42, 27, 46, 182, 1, 117, 133, 20, 1, 120, 182, 1, 122, 87, 42, 180, 0, 73]
abbrev dktX0_inbred_3 : List UInt8 := dkwX0_inbred_3 ++ dktX0_inbred_4
def dkwX0_inbred_2 : List UInt8 := [42, 180, 0, 73, 154, 0, 37, 42, 42, 182, 0, 182, 42, 182, 0, 182, 180, 1, 39, 27, 46, 42]
abbrev dktX0_inbred_2 : List UInt8 := dkwX0_inbred_2 ++ dktX0_inbred_3
def dkwX0_inbred_1 : List UInt8 := [155, 0, 15, 42, 182, 0, 182, 180, 1, 42, 27, 46, 156, 0, 8, 16, 6, 167, 0, 4, 3, 181, 0, 73]
abbrev dktX0_inbred_1 : List UInt8 := dkwX0_inbred_1 ++ dktX0_inbred_2
def dkwX0_inbred_0 : List UInt8 := [42, 42, 27, 182, 1, 101, 154, 0, 7, 4, 167, 0, 33, 42, 182, 0, 182, 180, 1, 39, 27, 46]
abbrev dktX0_inbred_0 : List UInt8 := dkwX0_inbred_0 ++ dktX0_inbred_1
theorem dksX0_inbred_0 : cX0_inbred.data.toList.drop 0 = dktX0_inbred_0 := by decide +kernel
theorem dksX0_inbred_1 : cX0_inbred.data.toList.drop 22 = dktX0_inbred_1 := dk_seg dksX0_inbred_0 22 rfl rfl
theorem dksX0_inbred_2 : cX0_inbred.data.toList.drop 46 = dktX0_inbred_2 := dk_seg dksX0_inbred_1 24 rfl rfl
theorem dksX0_inbred_3 : cX0_inbred.data.toList.drop 68 = dktX0_inbred_3 := dk_seg dksX0_inbred_2 22 rfl rfl
theorem dksX0_inbred_4 : cX0_inbred.data.toList.drop 91 = dktX0_inbred_4 := dk_seg dksX0_inbred_3 23 rfl rfl
theorem dX0_inbred_0 : decode cX0_inbred 0 = .ok (.aload_n 0, 1) := dk_42 (dk_at dksX0_inbred_0 0 rfl rfl)
theorem dX0_inbred_1 : decode cX0_inbred 1 = .ok (.aload_n 0, 1) := dk_42 (dk_at dksX0_inbred_0 1 rfl rfl)
theorem dX0_inbred_2 : decode cX0_inbred 2 = .ok (.iload_n 1, 1) := dk_27 (dk_at dksX0_inbred_0 2 rfl rfl)
theorem dX0_inbred_3 : decode cX0_inbred 3 = .ok (.invokevirtual 357, 3) := dk_182 1 101 (dk_at dksX0_inbred_0 3 rfl rfl)
theorem dX0_inbred_6 : decode cX0_inbred 6 = .ok (.ifCond .ne 7, 3) := dk_154 0 7 (dk_at dksX0_inbred_0 6 rfl rfl)
theorem dX0_inbred_9 : decode cX0_inbred 9 = .ok (.iconst 1, 1) := dk_4 (dk_at dksX0_inbred_0 9 rfl rfl)
theorem dX0_inbred_10 : decode cX0_inbred 10 = .ok (.goto 33, 3) := dk_167 0 33 (dk_at dksX0_inbred_0 10 rfl rfl)
theorem dX0_inbred_13 : decode cX0_inbred 13 = .ok (.aload_n 0, 1) := dk_42 (dk_at dksX0_inbred_0 13 rfl rfl)
theorem dX0_inbred_14 : decode cX0_inbred 14 = .ok (.invokevirtual 182, 3) := dk_182 0 182 (dk_at dksX0_inbred_0 14 rfl rfl)
theorem dX0_inbred_17 : decode cX0_inbred 17 = .ok (.getfield 295, 3) := dk_180 1 39 (dk_at dksX0_inbred_0 17 rfl rfl)
theorem dX0_inbred_20 : decode cX0_inbred 20 = .ok (.iload_n 1, 1) := dk_27 (dk_at dksX0_inbred_0 20 rfl rfl)
theorem dX0_inbred_21 : decode cX0_inbred 21 = .ok (.iaload, 1) := dk_46 (dk_at dksX0_inbred_0 21 rfl rfl)
theorem dX0_inbred_22 : decode cX0_inbred 22 = .ok (.ifCond .lt 15, 3) := dk_155 0 15 (dk_at dksX0_inbred_1 0 rfl rfl)
theorem dX0_inbred_25 : decode cX0_inbred 25 = .ok (.aload_n 0, 1) := dk_42 (dk_at dksX0_inbred_1 3 rfl rfl)
theorem dX0_inbred_26 : decode cX0_inbred 26 = .ok (.invokevirtual 182, 3) := dk_182 0 182 (dk_at dksX0_inbred_1 4 rfl rfl)
theorem dX0_inbred_29 : decode cX0_inbred 29 = .ok (.getfield 298, 3) := dk_180 1 42 (dk_at dksX0_inbred_1 7 rfl rfl)
theorem dX0_inbred_32 : decode cX0_inbred 32 = .ok (.iload_n 1, 1) := dk_27 (dk_at dksX0_inbred_1 10 rfl rfl)
theorem dX0_inbred_33 : decode cX0_inbred 33 = .ok (.iaload, 1) := dk_46 (dk_at dksX0_inbred_1 11 rfl rfl)
theorem dX0_inbred_34 : decode cX0_inbred 34 = .ok (.ifCond .ge 8, 3) := dk_156 0 8 (dk_at dksX0_inbred_1 12 rfl rfl)
theorem dX0_inbred_37 : decode cX0_inbred 37 = .ok (.bipush 6, 2) := dk_16 6 (dk_at dksX0_inbred_1 15 rfl rfl)
theorem dX0_inbred_39 : decode cX0_inbred 39 = .ok (.goto 4, 3) := dk_167 0 4 (dk_at dksX0_inbred_1 17 rfl rfl)
theorem dX0_inbred_42 : decode cX0_inbred 42 = .ok (.iconst 0, 1) := dk_3 (dk_at dksX0_inbred_1 20 rfl rfl)
theorem dX0_inbred_43 : decode cX0_inbred 43 = .ok (.putfield 73, 3) := dk_181 0 73 (dk_at dksX0_inbred_1 21 rfl rfl)
theorem dX0_inbred_46 : decode cX0_inbred 46 = .ok (.aload_n 0, 1) := dk_42 (dk_at dksX0_inbred_2 0 rfl rfl)
theorem dX0_inbred_47 : decode cX0_inbred 47 = .ok (.getfield 73, 3) := dk_180 0 73 (dk_at dksX0_inbred_2 1 rfl rfl)
theorem dX0_inbred_50 : decode cX0_inbred 50 = .ok (.ifCond .ne 37, 3) := dk_154 0 37 (dk_at dksX0_inbred_2 4 rfl rfl)
theorem dX0_inbred_53 : decode cX0_inbred 53 = .ok (.aload_n 0, 1) := dk_42 (dk_at dksX0_inbred_2 7 rfl rfl)
theorem dX0_inbred_54 : decode cX0_inbred 54 = .ok (.aload_n 0, 1) := dk_42 (dk_at dksX0_inbred_2 8 rfl rfl)
theorem dX0_inbred_55 : decode cX0_inbred 55 = .ok (.invokevirtual 182, 3) := dk_182 0 182 (dk_at dksX0_inbred_2 9 rfl rfl)
theorem dX0_inbred_58 : decode cX0_inbred 58 = .ok (.aload_n 0, 1) := dk_42 (dk_at dksX0_inbred_2 12 rfl rfl)
theorem dX0_inbred_59 : decode cX0_inbred 59 = .ok (.invokevirtual 182, 3) := dk_182 0 182 (dk_at dksX0_inbred_2 13 rfl rfl)
theorem dX0_inbred_62 : decode cX0_inbred 62 = .ok (.getfield 295, 3) := dk_180 1 39 (dk_at dksX0_inbred_2 16 rfl rfl)
theorem dX0_inbred_65 : decode cX0_inbred 65 = .ok (.iload_n 1, 1) := dk_27 (dk_at dksX0_inbred_2 19 rfl rfl)
theorem dX0_inbred_66 : decode cX0_inbred 66 = .ok (.iaload, 1) := dk_46 (dk_at dksX0_inbred_2 20 rfl rfl)
theorem dX0_inbred_67 : decode cX0_inbred 67 = .ok (.aload_n 0, 1) := dk_42 (dk_at dksX0_inbred_2 21 rfl rfl)
theorem dX0_inbred_68 : decode cX0_inbred 68 = .ok (.invokevirtual 182, 3) := dk_182 0 182 (dk_at dksX0_inbred_3 0 rfl rfl)
theorem dX0_inbred_71 : decode cX0_inbred 71 = .ok (.getfield 298, 3) := dk_180 1 42 (dk_at dksX0_inbred_3 3 rfl rfl)
theorem dX0_inbred_74 : decode cX0_inbred 74 = .ok (.iload_n 1, 1) := dk_27 (dk_at dksX0_inbred_3 6 rfl rfl)
theorem dX0_inbred_75 : decode cX0_inbred 75 = .ok (.iaload, 1) := dk_46 (dk_at dksX0_inbred_3 7 rfl rfl)
theorem dX0_inbred_76 : decode cX0_inbred 76 = .ok (.invokevirtual 373, 3) := dk_182 1 117 (dk_at dksX0_inbred_3 8 rfl rfl)
theorem dX0_inbred_79 : decode cX0_inbred 79 = .ok (.i2l, 1) := dk_133 (dk_at dksX0_inbred_3 11 rfl rfl)
theorem dX0_inbred_80 : decode cX0_inbred 80 = .ok (.ldc2_w 376, 3) := dk_20 1 120 (dk_at dksX0_inbred_3 12 rfl rfl)
theorem dX0_inbred_83 : decode cX0_inbred 83 = .ok (.invokevirtual 378, 3) := dk_182 1 122 (dk_at dksX0_inbred_3 15 rfl rfl)
theorem dX0_inbred_86 : decode cX0_inbred 86 = .ok (.pop, 1) := dk_87 (dk_at dksX0_inbred_3 18 rfl rfl)
theorem dX0_inbred_87 : decode cX0_inbred 87 = .ok (.aload_n 0, 1) := dk_42 (dk_at dksX0_inbred_3 19 rfl rfl)
theorem dX0_inbred_88 : decode cX0_inbred 88 = .ok (.getfield 73, 3) := dk_180 0 73 (dk_at dksX0_inbred_3 20 rfl rfl)
theorem dX0_inbred_91 : decode cX0_inbred 91 = .ok (.ifCond .ne 7, 3) := dk_154 0 7 (dk_at dksX0_inbred_4 0 rfl rfl)
theorem dX0_inbred_94 : decode cX0_inbred 94 = .ok (.iconst 1, 1) := dk_4 (dk_at dksX0_inbred_4 3 rfl rfl)
theorem dX0_inbred_95 : decode cX0_inbred 95 = .ok (.goto 4, 3) := dk_167 0 4 (dk_at dksX0_inbred_4 4 rfl rfl)
theorem dX0_inbred_98 : decode cX0_inbred 98 = .ok (.iconst 0, 1) := dk_3 (dk_at dksX0_inbred_4 7 rfl rfl)
theorem dX0_inbred_99 : decode cX0_inbred 99 = .ok (.ireturn, 1) := dk_172 (dk_at dksX0_inbred_4 8 rfl rfl)
def dkwX0_suitor_4 : List UInt8 := [27, 28, 182, 1, 117, 133, 20, 1, 120, 182, 1, 122, 87, 28, 172]
abbrev dktX0_suitor_4 : List UInt8 := dkwX0_suitor_4 ++ []
def dkwX0_suitor_3 : List UInt8 := [182, 0, 182, 27, 28, 182, 1, 117, 162, 0, 5, 29, 61, 132, 3, 1, 167, 255, 216, 42, 42, 182, 0, 182]
abbrev dktX0_suitor_3 : List UInt8 := dkwX0_suitor_3 ++ dktX0_suitor_4
def dkwX0_suitor_2 : List UInt8 := [29, 16, 8, 42, 182, 0, 182, 180, 0, 238, 96, 162, 0, 32, 42, 182, 0, 182, 27, 29, 182, 1, 117, 42]
abbrev dktX0_suitor_2 : List UInt8 := dkwX0_suitor_2 ++ dktX0_suitor_3
def dkwX0_suitor_1 : List UInt8 := [16, 6, 167, 0, 4, 3, 181, 0, 73, 42, 180, 0, 73, 158, 0, 5, 2, 172, 16, 8, 61, 16, 9, 62]
abbrev dktX0_suitor_1 : List UInt8 := dkwX0_suitor_1 ++ dktX0_suitor_2
def dkwX0_suitor_0 : List UInt8 := [42, 42, 27, 182, 1, 101, 154, 0, 7, 4, 167, 0, 19, 42, 182, 0, 182, 180, 0, 238, 154, 0, 8]
abbrev dktX0_suitor_0 : List UInt8 := dkwX0_suitor_0 ++ dktX0_suitor_1
theorem dksX0_suitor_0 : cX0_suitor.data.toList.drop 0 = dktX0_suitor_0 := by decide +kernel
theorem dksX0_suitor_1 : cX0_suitor.data.toList.drop 23 = dktX0_suitor_1 := dk_seg dksX0_suitor_0 23 rfl rfl
theorem dksX0_suitor_2 : cX0_suitor.data.toList.drop 47 = dktX0_suitor_2 := dk_seg dksX0_suitor_1 24 rfl rfl
theorem dksX0_suitor_3 : cX0_suitor.data.toList.drop 71 = dktX0_suitor_3 := dk_seg dksX0_suitor_2 24 rfl rfl
theorem dksX0_suitor_4 : cX0_suitor.data.toList.drop 95 = dktX0_suitor_4 := dk_seg dksX0_suitor_3 24 rfl rfl
theorem dX0_suitor_0 : decode cX0_suitor 0 = .ok (.aload_n 0, 1) := dk_42 (dk_at dksX0_suitor_0 0 rfl rfl)
theorem dX0_suitor_1 : decode cX0_suitor 1 = .ok (.aload_n 0, 1) := dk_42 (dk_at dksX0_suitor_0 1 rfl rfl)
theorem dX0_suitor_2 : decode cX0_suitor 2 = .ok (.iload_n 1, 1) := dk_27 (dk_at dksX0_suitor_0 2 rfl rfl)
theorem dX0_suitor_3 : decode cX0_suitor 3 = .ok (.invokevirtual 357, 3) := dk_182 1 101 (dk_at dksX0_suitor_0 3 rfl rfl)
theorem dX0_suitor_6 : decode cX0_suitor 6 = .ok (.ifCond .ne 7, 3) := dk_154 0 7 (dk_at dksX0_suitor_0 6 rfl rfl)
theorem dX0_suitor_9 : decode cX0_suitor 9 = .ok (.iconst 1, 1) := dk_4 (dk_at dksX0_suitor_0 9 rfl rfl)
theorem dX0_suitor_10 : decode cX0_suitor 10 = .ok (.goto 19, 3) := dk_167 0 19 (dk_at dksX0_suitor_0 10 rfl rfl)
theorem dX0_suitor_13 : decode cX0_suitor 13 = .ok (.aload_n 0, 1) := dk_42 (dk_at dksX0_suitor_0 13 rfl rfl)
theorem dX0_suitor_14 : decode cX0_suitor 14 = .ok (.invokevirtual 182, 3) := dk_182 0 182 (dk_at dksX0_suitor_0 14 rfl rfl)
theorem dX0_suitor_17 : decode cX0_suitor 17 = .ok (.getfield 238, 3) := dk_180 0 238 (dk_at dksX0_suitor_0 17 rfl rfl)
theorem dX0_suitor_20 : decode cX0_suitor 20 = .ok (.ifCond .ne 8, 3) := dk_154 0 8 (dk_at dksX0_suitor_0 20 rfl rfl)
theorem dX0_suitor_23 : decode cX0_suitor 23 = .ok (.bipush 6, 2) := dk_16 6 (dk_at dksX0_suitor_1 0 rfl rfl)
theorem dX0_suitor_25 : decode cX0_suitor 25 = .ok (.goto 4, 3) := dk_167 0 4 (dk_at dksX0_suitor_1 2 rfl rfl)
theorem dX0_suitor_28 : decode cX0_suitor 28 = .ok (.iconst 0, 1) := dk_3 (dk_at dksX0_suitor_1 5 rfl rfl)
theorem dX0_suitor_29 : decode cX0_suitor 29 = .ok (.putfield 73, 3) := dk_181 0 73 (dk_at dksX0_suitor_1 6 rfl rfl)
theorem dX0_suitor_32 : decode cX0_suitor 32 = .ok (.aload_n 0, 1) := dk_42 (dk_at dksX0_suitor_1 9 rfl rfl)
theorem dX0_suitor_33 : decode cX0_suitor 33 = .ok (.getfield 73, 3) := dk_180 0 73 (dk_at dksX0_suitor_1 10 rfl rfl)
theorem dX0_suitor_36 : decode cX0_suitor 36 = .ok (.ifCond .le 5, 3) := dk_158 0 5 (dk_at dksX0_suitor_1 13 rfl rfl)
theorem dX0_suitor_39 : decode cX0_suitor 39 = .ok (.iconst (-1), 1) := dk_2 (dk_at dksX0_suitor_1 16 rfl rfl)
theorem dX0_suitor_40 : decode cX0_suitor 40 = .ok (.ireturn, 1) := dk_172 (dk_at dksX0_suitor_1 17 rfl rfl)
theorem dX0_suitor_41 : decode cX0_suitor 41 = .ok (.bipush 8, 2) := dk_16 8 (dk_at dksX0_suitor_1 18 rfl rfl)
theorem dX0_suitor_43 : decode cX0_suitor 43 = .ok (.istore_n 2, 1) := dk_61 (dk_at dksX0_suitor_1 20 rfl rfl)
theorem dX0_suitor_44 : decode cX0_suitor 44 = .ok (.bipush 9, 2) := dk_16 9 (dk_at dksX0_suitor_1 21 rfl rfl)
theorem dX0_suitor_46 : decode cX0_suitor 46 = .ok (.istore_n 3, 1) := dk_62 (dk_at dksX0_suitor_1 23 rfl rfl)
theorem dX0_suitor_47 : decode cX0_suitor 47 = .ok (.iload_n 3, 1) := dk_29 (dk_at dksX0_suitor_2 0 rfl rfl)
theorem dX0_suitor_48 : decode cX0_suitor 48 = .ok (.bipush 8, 2) := dk_16 8 (dk_at dksX0_suitor_2 1 rfl rfl)
theorem dX0_suitor_50 : decode cX0_suitor 50 = .ok (.aload_n 0, 1) := dk_42 (dk_at dksX0_suitor_2 3 rfl rfl)
theorem dX0_suitor_51 : decode cX0_suitor 51 = .ok (.invokevirtual 182, 3) := dk_182 0 182 (dk_at dksX0_suitor_2 4 rfl rfl)
theorem dX0_suitor_54 : decode cX0_suitor 54 = .ok (.getfield 238, 3) := dk_180 0 238 (dk_at dksX0_suitor_2 7 rfl rfl)
theorem dX0_suitor_57 : decode cX0_suitor 57 = .ok (.iadd, 1) := dk_96 (dk_at dksX0_suitor_2 10 rfl rfl)
theorem dX0_suitor_58 : decode cX0_suitor 58 = .ok (.if_icmp .ge 32, 3) := dk_162 0 32 (dk_at dksX0_suitor_2 11 rfl rfl)
theorem dX0_suitor_61 : decode cX0_suitor 61 = .ok (.aload_n 0, 1) := dk_42 (dk_at dksX0_suitor_2 14 rfl rfl)
theorem dX0_suitor_62 : decode cX0_suitor 62 = .ok (.invokevirtual 182, 3) := dk_182 0 182 (dk_at dksX0_suitor_2 15 rfl rfl)
theorem dX0_suitor_65 : decode cX0_suitor 65 = .ok (.iload_n 1, 1) := dk_27 (dk_at dksX0_suitor_2 18 rfl rfl)
theorem dX0_suitor_66 : decode cX0_suitor 66 = .ok (.iload_n 3, 1) := dk_29 (dk_at dksX0_suitor_2 19 rfl rfl)
theorem dX0_suitor_67 : decode cX0_suitor 67 = .ok (.invokevirtual 373, 3) := dk_182 1 117 (dk_at dksX0_suitor_2 20 rfl rfl)
theorem dX0_suitor_70 : decode cX0_suitor 70 = .ok (.aload_n 0, 1) := dk_42 (dk_at dksX0_suitor_2 23 rfl rfl)
theorem dX0_suitor_71 : decode cX0_suitor 71 = .ok (.invokevirtual 182, 3) := dk_182 0 182 (dk_at dksX0_suitor_3 0 rfl rfl)
theorem dX0_suitor_74 : decode cX0_suitor 74 = .ok (.iload_n 1, 1) := dk_27 (dk_at dksX0_suitor_3 3 rfl rfl)
theorem dX0_suitor_75 : decode cX0_suitor 75 = .ok (.iload_n 2, 1) := dk_28 (dk_at dksX0_suitor_3 4 rfl rfl)
theorem dX0_suitor_76 : decode cX0_suitor 76 = .ok (.invokevirtual 373, 3) := dk_182 1 117 (dk_at dksX0_suitor_3 5 rfl rfl)
theorem dX0_suitor_79 : decode cX0_suitor 79 = .ok (.if_icmp .ge 5, 3) := dk_162 0 5 (dk_at dksX0_suitor_3 8 rfl rfl)
theorem dX0_suitor_82 : decode cX0_suitor 82 = .ok (.iload_n 3, 1) := dk_29 (dk_at dksX0_suitor_3 11 rfl rfl)
theorem dX0_suitor_83 : decode cX0_suitor 83 = .ok (.istore_n 2, 1) := dk_61 (dk_at dksX0_suitor_3 12 rfl rfl)
theorem dX0_suitor_84 : decode cX0_suitor 84 = .ok (.iinc 3 1, 3) := dk_132 3 1 (dk_at dksX0_suitor_3 13 rfl rfl)
theorem dX0_suitor_87 : decode cX0_suitor 87 = .ok (.goto (-40), 3) := dk_167 255 216 (dk_at dksX0_suitor_3 16 rfl rfl)
theorem dX0_suitor_90 : decode cX0_suitor 90 = .ok (.aload_n 0, 1) := dk_42 (dk_at dksX0_suitor_3 19 rfl rfl)
theorem dX0_suitor_91 : decode cX0_suitor 91 = .ok (.aload_n 0, 1) := dk_42 (dk_at dksX0_suitor_3 20 rfl rfl)
theorem dX0_suitor_92 : decode cX0_suitor 92 = .ok (.invokevirtual 182, 3) := dk_182 0 182 (dk_at dksX0_suitor_3 21 rfl rfl)
theorem dX0_suitor_95 : decode cX0_suitor 95 = .ok (.iload_n 1, 1) := dk_27 (dk_at dksX0_suitor_4 0 rfl rfl)
theorem dX0_suitor_96 : decode cX0_suitor 96 = .ok (.iload_n 2, 1) := dk_28 (dk_at dksX0_suitor_4 1 rfl rfl)
theorem dX0_suitor_97 : decode cX0_suitor 97 = .ok (.invokevirtual 373, 3) := dk_182 1 117 (dk_at dksX0_suitor_4 2 rfl rfl)
theorem dX0_suitor_100 : decode cX0_suitor 100 = .ok (.i2l, 1) := dk_133 (dk_at dksX0_suitor_4 5 rfl rfl)
theorem dX0_suitor_101 : decode cX0_suitor 101 = .ok (.ldc2_w 376, 3) := dk_20 1 120 (dk_at dksX0_suitor_4 6 rfl rfl)
theorem dX0_suitor_104 : decode cX0_suitor 104 = .ok (.invokevirtual 378, 3) := dk_182 1 122 (dk_at dksX0_suitor_4 9 rfl rfl)
theorem dX0_suitor_107 : decode cX0_suitor 107 = .ok (.pop, 1) := dk_87 (dk_at dksX0_suitor_4 12 rfl rfl)
theorem dX0_suitor_108 : decode cX0_suitor 108 = .ok (.iload_n 2, 1) := dk_28 (dk_at dksX0_suitor_4 13 rfl rfl)
theorem dX0_suitor_109 : decode cX0_suitor 109 = .ok (.ireturn, 1) := dk_172 (dk_at dksX0_suitor_4 14 rfl rfl)
def dkwX0_mothers_2 : List UInt8 := [42, 182, 0, 182, 180, 1, 39, 29, 46, 62, 167, 255, 239, 28, 172]
abbrev dktX0_mothers_2 : List UInt8 := dkwX0_mothers_2 ++ []
def dkwX0_mothers_1 : List UInt8 := [158, 0, 5, 2, 172, 3, 61, 42, 182, 0, 182, 180, 1, 39, 27, 46, 62, 29, 155, 0, 19, 132, 2, 1]
abbrev dktX0_mothers_1 : List UInt8 := dkwX0_mothers_1 ++ dktX0_mothers_2
def dkwX0_mothers_0 : List UInt8 := [42, 42, 182, 0, 182, 27, 182, 1, 31, 153, 0, 7, 3, 167, 0, 4, 4, 181, 0, 73, 42, 180, 0, 73]
abbrev dktX0_mothers_0 : List UInt8 := dkwX0_mothers_0 ++ dktX0_mothers_1
theorem dksX0_mothers_0 : cX0_mothers.data.toList.drop 0 = dktX0_mothers_0 := by decide +kernel
theorem dksX0_mothers_1 : cX0_mothers.data.toList.drop 24 = dktX0_mothers_1 := dk_seg dksX0_mothers_0 24 rfl rfl
theorem dksX0_mothers_2 : cX0_mothers.data.toList.drop 48 = dktX0_mothers_2 := dk_seg dksX0_mothers_1 24 rfl rfl
theorem dX0_mothers_0 : decode cX0_mothers 0 = .ok (.aload_n 0, 1) := dk_42 (dk_at dksX0_mothers_0 0 rfl rfl)
theorem dX0_mothers_1 : decode cX0_mothers 1 = .ok (.aload_n 0, 1) := dk_42 (dk_at dksX0_mothers_0 1 rfl rfl)
theorem dX0_mothers_2 : decode cX0_mothers 2 = .ok (.invokevirtual 182, 3) := dk_182 0 182 (dk_at dksX0_mothers_0 2 rfl rfl)
theorem dX0_mothers_5 : decode cX0_mothers 5 = .ok (.iload_n 1, 1) := dk_27 (dk_at dksX0_mothers_0 5 rfl rfl)
theorem dX0_mothers_6 : decode cX0_mothers 6 = .ok (.invokevirtual 287, 3) := dk_182 1 31 (dk_at dksX0_mothers_0 6 rfl rfl)
theorem dX0_mothers_9 : decode cX0_mothers 9 = .ok (.ifCond .eq 7, 3) := dk_153 0 7 (dk_at dksX0_mothers_0 9 rfl rfl)
theorem dX0_mothers_12 : decode cX0_mothers 12 = .ok (.iconst 0, 1) := dk_3 (dk_at dksX0_mothers_0 12 rfl rfl)
theorem dX0_mothers_13 : decode cX0_mothers 13 = .ok (.goto 4, 3) := dk_167 0 4 (dk_at dksX0_mothers_0 13 rfl rfl)
theorem dX0_mothers_16 : decode cX0_mothers 16 = .ok (.iconst 1, 1) := dk_4 (dk_at dksX0_mothers_0 16 rfl rfl)
theorem dX0_mothers_17 : decode cX0_mothers 17 = .ok (.putfield 73, 3) := dk_181 0 73 (dk_at dksX0_mothers_0 17 rfl rfl)
theorem dX0_mothers_20 : decode cX0_mothers 20 = .ok (.aload_n 0, 1) := dk_42 (dk_at dksX0_mothers_0 20 rfl rfl)
theorem dX0_mothers_21 : decode cX0_mothers 21 = .ok (.getfield 73, 3) := dk_180 0 73 (dk_at dksX0_mothers_0 21 rfl rfl)
theorem dX0_mothers_24 : decode cX0_mothers 24 = .ok (.ifCond .le 5, 3) := dk_158 0 5 (dk_at dksX0_mothers_1 0 rfl rfl)
theorem dX0_mothers_27 : decode cX0_mothers 27 = .ok (.iconst (-1), 1) := dk_2 (dk_at dksX0_mothers_1 3 rfl rfl)
theorem dX0_mothers_28 : decode cX0_mothers 28 = .ok (.ireturn, 1) := dk_172 (dk_at dksX0_mothers_1 4 rfl rfl)
theorem dX0_mothers_29 : decode cX0_mothers 29 = .ok (.iconst 0, 1) := dk_3 (dk_at dksX0_mothers_1 5 rfl rfl)
theorem dX0_mothers_30 : decode cX0_mothers 30 = .ok (.istore_n 2, 1) := dk_61 (dk_at dksX0_mothers_1 6 rfl rfl)
theorem dX0_mothers_31 : decode cX0_mothers 31 = .ok (.aload_n 0, 1) := dk_42 (dk_at dksX0_mothers_1 7 rfl rfl)
theorem dX0_mothers_32 : decode cX0_mothers 32 = .ok (.invokevirtual 182, 3) := dk_182 0 182 (dk_at dksX0_mothers_1 8 rfl rfl)
theorem dX0_mothers_35 : decode cX0_mothers 35 = .ok (.getfield 295, 3) := dk_180 1 39 (dk_at dksX0_mothers_1 11 rfl rfl)
theorem dX0_mothers_38 : decode cX0_mothers 38 = .ok (.iload_n 1, 1) := dk_27 (dk_at dksX0_mothers_1 14 rfl rfl)
theorem dX0_mothers_39 : decode cX0_mothers 39 = .ok (.iaload, 1) := dk_46 (dk_at dksX0_mothers_1 15 rfl rfl)
theorem dX0_mothers_40 : decode cX0_mothers 40 = .ok (.istore_n 3, 1) := dk_62 (dk_at dksX0_mothers_1 16 rfl rfl)
theorem dX0_mothers_41 : decode cX0_mothers 41 = .ok (.iload_n 3, 1) := dk_29 (dk_at dksX0_mothers_1 17 rfl rfl)
theorem dX0_mothers_42 : decode cX0_mothers 42 = .ok (.ifCond .lt 19, 3) := dk_155 0 19 (dk_at dksX0_mothers_1 18 rfl rfl)
theorem dX0_mothers_45 : decode cX0_mothers 45 = .ok (.iinc 2 1, 3) := dk_132 2 1 (dk_at dksX0_mothers_1 21 rfl rfl)
theorem dX0_mothers_48 : decode cX0_mothers 48 = .ok (.aload_n 0, 1) := dk_42 (dk_at dksX0_mothers_2 0 rfl rfl)
theorem dX0_mothers_49 : decode cX0_mothers 49 = .ok (.invokevirtual 182, 3) := dk_182 0 182 (dk_at dksX0_mothers_2 1 rfl rfl)
theorem dX0_mothers_52 : decode cX0_mothers 52 = .ok (.getfield 295, 3) := dk_180 1 39 (dk_at dksX0_mothers_2 4 rfl rfl)
theorem dX0_mothers_55 : decode cX0_mothers 55 = .ok (.iload_n 3, 1) := dk_29 (dk_at dksX0_mothers_2 7 rfl rfl)
theorem dX0_mothers_56 : decode cX0_mothers 56 = .ok (.iaload, 1) := dk_46 (dk_at dksX0_mothers_2 8 rfl rfl)
theorem dX0_mothers_57 : decode cX0_mothers 57 = .ok (.istore_n 3, 1) := dk_62 (dk_at dksX0_mothers_2 9 rfl rfl)
theorem dX0_mothers_58 : decode cX0_mothers 58 = .ok (.goto (-17), 3) := dk_167 255 239 (dk_at dksX0_mothers_2 10 rfl rfl)
theorem dX0_mothers_61 : decode cX0_mothers 61 = .ok (.iload_n 2, 1) := dk_28 (dk_at dksX0_mothers_2 13 rfl rfl)
theorem dX0_mothers_62 : decode cX0_mothers 62 = .ok (.ireturn, 1) := dk_172 (dk_at dksX0_mothers_2 14 rfl rfl)
def dkwX0_nearest_3 : List UInt8 := [182, 1, 27, 172]
abbrev dktX0_nearest_3 : List UInt8 := dkwX0_nearest_3 ++ []
def dkwX0_nearest_2 : List UInt8 := [28, 182, 1, 126, 154, 0, 16, 42, 182, 0, 182, 180, 1, 39, 29, 46, 62, 167, 255, 233, 42, 29]
abbrev dktX0_nearest_2 : List UInt8 := dkwX0_nearest_2 ++ dktX0_nearest_3
def dkwX0_nearest_1 : List UInt8 := [167, 0, 4, 4, 181, 0, 73, 42, 180, 0, 73, 158, 0, 5, 2, 172, 27, 62, 29, 155, 0, 25, 42, 29]
abbrev dktX0_nearest_1 : List UInt8 := dkwX0_nearest_1 ++ dktX0_nearest_2
def dkwX0_nearest_0 : List UInt8 := [42, 42, 182, 0, 182, 27, 182, 1, 31, 153, 0, 18, 42, 182, 0, 182, 28, 182, 1, 31, 153, 0, 7, 3]
abbrev dktX0_nearest_0 : List UInt8 := dkwX0_nearest_0 ++ dktX0_nearest_1
theorem dksX0_nearest_0 : cX0_nearest.data.toList.drop 0 = dktX0_nearest_0 := by decide +kernel
theorem dksX0_nearest_1 : cX0_nearest.data.toList.drop 24 = dktX0_nearest_1 := dk_seg dksX0_nearest_0 24 rfl rfl
theorem dksX0_nearest_2 : cX0_nearest.data.toList.drop 48 = dktX0_nearest_2 := dk_seg dksX0_nearest_1 24 rfl rfl
theorem dksX0_nearest_3 : cX0_nearest.data.toList.drop 70 = dktX0_nearest_3 := dk_seg dksX0_nearest_2 22 rfl rfl
theorem dX0_nearest_0 : decode cX0_nearest 0 = .ok (.aload_n 0, 1) := dk_42 (dk_at dksX0_nearest_0 0 rfl rfl)
theorem dX0_nearest_1 : decode cX0_nearest 1 = .ok (.aload_n 0, 1) := dk_42 (dk_at dksX0_nearest_0 1 rfl rfl)
theorem dX0_nearest_2 : decode cX0_nearest 2 = .ok (.invokevirtual 182, 3) := dk_182 0 182 (dk_at dksX0_nearest_0 2 rfl rfl)
theorem dX0_nearest_5 : decode cX0_nearest 5 = .ok (.iload_n 1, 1) := dk_27 (dk_at dksX0_nearest_0 5 rfl rfl)
theorem dX0_nearest_6 : decode cX0_nearest 6 = .ok (.invokevirtual 287, 3) := dk_182 1 31 (dk_at dksX0_nearest_0 6 rfl rfl)
theorem dX0_nearest_9 : decode cX0_nearest 9 = .ok (.ifCond .eq 18, 3) := dk_153 0 18 (dk_at dksX0_nearest_0 9 rfl rfl)
theorem dX0_nearest_12 : decode cX0_nearest 12 = .ok (.aload_n 0, 1) := dk_42 (dk_at dksX0_nearest_0 12 rfl rfl)
theorem dX0_nearest_13 : decode cX0_nearest 13 = .ok (.invokevirtual 182, 3) := dk_182 0 182 (dk_at dksX0_nearest_0 13 rfl rfl)
theorem dX0_nearest_16 : decode cX0_nearest 16 = .ok (.iload_n 2, 1) := dk_28 (dk_at dksX0_nearest_0 16 rfl rfl)
theorem dX0_nearest_17 : decode cX0_nearest 17 = .ok (.invokevirtual 287, 3) := dk_182 1 31 (dk_at dksX0_nearest_0 17 rfl rfl)
theorem dX0_nearest_20 : decode cX0_nearest 20 = .ok (.ifCond .eq 7, 3) := dk_153 0 7 (dk_at dksX0_nearest_0 20 rfl rfl)
theorem dX0_nearest_23 : decode cX0_nearest 23 = .ok (.iconst 0, 1) := dk_3 (dk_at dksX0_nearest_0 23 rfl rfl)
theorem dX0_nearest_24 : decode cX0_nearest 24 = .ok (.goto 4, 3) := dk_167 0 4 (dk_at dksX0_nearest_1 0 rfl rfl)
theorem dX0_nearest_27 : decode cX0_nearest 27 = .ok (.iconst 1, 1) := dk_4 (dk_at dksX0_nearest_1 3 rfl rfl)
theorem dX0_nearest_28 : decode cX0_nearest 28 = .ok (.putfield 73, 3) := dk_181 0 73 (dk_at dksX0_nearest_1 4 rfl rfl)
theorem dX0_nearest_31 : decode cX0_nearest 31 = .ok (.aload_n 0, 1) := dk_42 (dk_at dksX0_nearest_1 7 rfl rfl)
theorem dX0_nearest_32 : decode cX0_nearest 32 = .ok (.getfield 73, 3) := dk_180 0 73 (dk_at dksX0_nearest_1 8 rfl rfl)
theorem dX0_nearest_35 : decode cX0_nearest 35 = .ok (.ifCond .le 5, 3) := dk_158 0 5 (dk_at dksX0_nearest_1 11 rfl rfl)
theorem dX0_nearest_38 : decode cX0_nearest 38 = .ok (.iconst (-1), 1) := dk_2 (dk_at dksX0_nearest_1 14 rfl rfl)
theorem dX0_nearest_39 : decode cX0_nearest 39 = .ok (.ireturn, 1) := dk_172 (dk_at dksX0_nearest_1 15 rfl rfl)
theorem dX0_nearest_40 : decode cX0_nearest 40 = .ok (.iload_n 1, 1) := dk_27 (dk_at dksX0_nearest_1 16 rfl rfl)
theorem dX0_nearest_41 : decode cX0_nearest 41 = .ok (.istore_n 3, 1) := dk_62 (dk_at dksX0_nearest_1 17 rfl rfl)
theorem dX0_nearest_42 : decode cX0_nearest 42 = .ok (.iload_n 3, 1) := dk_29 (dk_at dksX0_nearest_1 18 rfl rfl)
theorem dX0_nearest_43 : decode cX0_nearest 43 = .ok (.ifCond .lt 25, 3) := dk_155 0 25 (dk_at dksX0_nearest_1 19 rfl rfl)
theorem dX0_nearest_46 : decode cX0_nearest 46 = .ok (.aload_n 0, 1) := dk_42 (dk_at dksX0_nearest_1 22 rfl rfl)
theorem dX0_nearest_47 : decode cX0_nearest 47 = .ok (.iload_n 3, 1) := dk_29 (dk_at dksX0_nearest_1 23 rfl rfl)
theorem dX0_nearest_48 : decode cX0_nearest 48 = .ok (.iload_n 2, 1) := dk_28 (dk_at dksX0_nearest_2 0 rfl rfl)
theorem dX0_nearest_49 : decode cX0_nearest 49 = .ok (.invokevirtual 382, 3) := dk_182 1 126 (dk_at dksX0_nearest_2 1 rfl rfl)
theorem dX0_nearest_52 : decode cX0_nearest 52 = .ok (.ifCond .ne 16, 3) := dk_154 0 16 (dk_at dksX0_nearest_2 4 rfl rfl)
theorem dX0_nearest_55 : decode cX0_nearest 55 = .ok (.aload_n 0, 1) := dk_42 (dk_at dksX0_nearest_2 7 rfl rfl)
theorem dX0_nearest_56 : decode cX0_nearest 56 = .ok (.invokevirtual 182, 3) := dk_182 0 182 (dk_at dksX0_nearest_2 8 rfl rfl)
theorem dX0_nearest_59 : decode cX0_nearest 59 = .ok (.getfield 295, 3) := dk_180 1 39 (dk_at dksX0_nearest_2 11 rfl rfl)
theorem dX0_nearest_62 : decode cX0_nearest 62 = .ok (.iload_n 3, 1) := dk_29 (dk_at dksX0_nearest_2 14 rfl rfl)
theorem dX0_nearest_63 : decode cX0_nearest 63 = .ok (.iaload, 1) := dk_46 (dk_at dksX0_nearest_2 15 rfl rfl)
theorem dX0_nearest_64 : decode cX0_nearest 64 = .ok (.istore_n 3, 1) := dk_62 (dk_at dksX0_nearest_2 16 rfl rfl)
theorem dX0_nearest_65 : decode cX0_nearest 65 = .ok (.goto (-23), 3) := dk_167 255 233 (dk_at dksX0_nearest_2 17 rfl rfl)
theorem dX0_nearest_68 : decode cX0_nearest 68 = .ok (.aload_n 0, 1) := dk_42 (dk_at dksX0_nearest_2 20 rfl rfl)
theorem dX0_nearest_69 : decode cX0_nearest 69 = .ok (.iload_n 3, 1) := dk_29 (dk_at dksX0_nearest_2 21 rfl rfl)
theorem dX0_nearest_70 : decode cX0_nearest 70 = .ok (.invokevirtual 283, 3) := dk_182 1 27 (dk_at dksX0_nearest_3 0 rfl rfl)
theorem dX0_nearest_73 : decode cX0_nearest 73 = .ok (.ireturn, 1) := dk_172 (dk_at dksX0_nearest_3 3 rfl rfl)
def dkwX0_isInLine_1 : List UInt8 := [29, 155, 0, 7, 4, 167, 0, 4, 3, 172]
abbrev dktX0_isInLine_1 : List UInt8 := dkwX0_isInLine_1 ++ []
def dkwX0_isInLine_0 : List UInt8 := [28, 62, 29, 155, 0, 21, 29, 27, 159, 0, 16, 42, 182, 0, 182, 180, 1, 39, 29, 46, 62, 167, 255, 237]
abbrev dktX0_isInLine_0 : List UInt8 := dkwX0_isInLine_0 ++ dktX0_isInLine_1
theorem dksX0_isInLine_0 : cX0_isInLine.data.toList.drop 0 = dktX0_isInLine_0 := by decide +kernel
theorem dksX0_isInLine_1 : cX0_isInLine.data.toList.drop 24 = dktX0_isInLine_1 := dk_seg dksX0_isInLine_0 24 rfl rfl
theorem dX0_isInLine_0 : decode cX0_isInLine 0 = .ok (.iload_n 2, 1) := dk_28 (dk_at dksX0_isInLine_0 0 rfl rfl)
theorem dX0_isInLine_1 : decode cX0_isInLine 1 = .ok (.istore_n 3, 1) := dk_62 (dk_at dksX0_isInLine_0 1 rfl rfl)
theorem dX0_isInLine_2 : decode cX0_isInLine 2 = .ok (.iload_n 3, 1) := dk_29 (dk_at dksX0_isInLine_0 2 rfl rfl)
theorem dX0_isInLine_3 : decode cX0_isInLine 3 = .ok (.ifCond .lt 21, 3) := dk_155 0 21 (dk_at dksX0_isInLine_0 3 rfl rfl)
theorem dX0_isInLine_6 : decode cX0_isInLine 6 = .ok (.iload_n 3, 1) := dk_29 (dk_at dksX0_isInLine_0 6 rfl rfl)
theorem dX0_isInLine_7 : decode cX0_isInLine 7 = .ok (.iload_n 1, 1) := dk_27 (dk_at dksX0_isInLine_0 7 rfl rfl)
theorem dX0_isInLine_8 : decode cX0_isInLine 8 = .ok (.if_icmp .eq 16, 3) := dk_159 0 16 (dk_at dksX0_isInLine_0 8 rfl rfl)
theorem dX0_isInLine_11 : decode cX0_isInLine 11 = .ok (.aload_n 0, 1) := dk_42 (dk_at dksX0_isInLine_0 11 rfl rfl)
theorem dX0_isInLine_12 : decode cX0_isInLine 12 = .ok (.invokevirtual 182, 3) := dk_182 0 182 (dk_at dksX0_isInLine_0 12 rfl rfl)
theorem dX0_isInLine_15 : decode cX0_isInLine 15 = .ok (.getfield 295, 3) := dk_180 1 39 (dk_at dksX0_isInLine_0 15 rfl rfl)
theorem dX0_isInLine_18 : decode cX0_isInLine 18 = .ok (.iload_n 3, 1) := dk_29 (dk_at dksX0_isInLine_0 18 rfl rfl)
theorem dX0_isInLine_19 : decode cX0_isInLine 19 = .ok (.iaload, 1) := dk_46 (dk_at dksX0_isInLine_0 19 rfl rfl)
theorem dX0_isInLine_20 : decode cX0_isInLine 20 = .ok (.istore_n 3, 1) := dk_62 (dk_at dksX0_isInLine_0 20 rfl rfl)
theorem dX0_isInLine_21 : decode cX0_isInLine 21 = .ok (.goto (-19), 3) := dk_167 255 237 (dk_at dksX0_isInLine_0 21 rfl rfl)
theorem dX0_isInLine_24 : decode cX0_isInLine 24 = .ok (.iload_n 3, 1) := dk_29 (dk_at dksX0_isInLine_1 0 rfl rfl)
theorem dX0_isInLine_25 : decode cX0_isInLine 25 = .ok (.ifCond .lt 7, 3) := dk_155 0 7 (dk_at dksX0_isInLine_1 1 rfl rfl)
theorem dX0_isInLine_28 : decode cX0_isInLine 28 = .ok (.iconst 1, 1) := dk_4 (dk_at dksX0_isInLine_1 4 rfl rfl)
theorem dX0_isInLine_29 : decode cX0_isInLine 29 = .ok (.goto 4, 3) := dk_167 0 4 (dk_at dksX0_isInLine_1 5 rfl rfl)
theorem dX0_isInLine_32 : decode cX0_isInLine 32 = .ok (.iconst 0, 1) := dk_3 (dk_at dksX0_isInLine_1 8 rfl rfl)
theorem dX0_isInLine_33 : decode cX0_isInLine 33 = .ok (.ireturn, 1) := dk_172 (dk_at dksX0_isInLine_1 9 rfl rfl)
def dkwX0_sisters_4 : List UInt8 := [3, 96, 61, 132, 3, 1, 167, 255, 190, 28, 172]
abbrev dktX0_sisters_4 : List UInt8 := dkwX0_sisters_4 ++ []
def dkwX0_sisters_3 : List UInt8 := [182, 0, 182, 180, 1, 39, 29, 46, 42, 182, 0, 182, 180, 1, 39, 27, 46, 160, 0, 7, 4, 167, 0, 4]
abbrev dktX0_sisters_3 : List UInt8 := dkwX0_sisters_3 ++ dktX0_sisters_4
def dkwX0_sisters_2 : List UInt8 := [182, 0, 182, 29, 182, 1, 31, 153, 0, 40, 42, 182, 0, 182, 180, 1, 39, 27, 46, 155, 0, 28, 42]
abbrev dktX0_sisters_2 : List UInt8 := dkwX0_sisters_2 ++ dktX0_sisters_3
def dkwX0_sisters_1 : List UInt8 := [158, 0, 5, 2, 172, 3, 61, 3, 62, 29, 16, 16, 162, 0, 66, 28, 29, 27, 159, 0, 51, 42]
abbrev dktX0_sisters_1 : List UInt8 := dkwX0_sisters_1 ++ dktX0_sisters_2
def dkwX0_sisters_0 : List UInt8 := [42, 42, 182, 0, 182, 27, 182, 1, 31, 153, 0, 7, 3, 167, 0, 4, 4, 181, 0, 73, 42, 180, 0, 73]
abbrev dktX0_sisters_0 : List UInt8 := dkwX0_sisters_0 ++ dktX0_sisters_1
theorem dksX0_sisters_0 : cX0_sisters.data.toList.drop 0 = dktX0_sisters_0 := by decide +kernel
theorem dksX0_sisters_1 : cX0_sisters.data.toList.drop 24 = dktX0_sisters_1 := dk_seg dksX0_sisters_0 24 rfl rfl
theorem dksX0_sisters_2 : cX0_sisters.data.toList.drop 46 = dktX0_sisters_2 := dk_seg dksX0_sisters_1 22 rfl rfl
theorem dksX0_sisters_3 : cX0_sisters.data.toList.drop 69 = dktX0_sisters_3 := dk_seg dksX0_sisters_2 23 rfl rfl
theorem dksX0_sisters_4 : cX0_sisters.data.toList.drop 93 = dktX0_sisters_4 := dk_seg dksX0_sisters_3 24 rfl rfl
theorem dX0_sisters_0 : decode cX0_sisters 0 = .ok (.aload_n 0, 1) := dk_42 (dk_at dksX0_sisters_0 0 rfl rfl)
theorem dX0_sisters_1 : decode cX0_sisters 1 = .ok (.aload_n 0, 1) := dk_42 (dk_at dksX0_sisters_0 1 rfl rfl)
theorem dX0_sisters_2 : decode cX0_sisters 2 = .ok (.invokevirtual 182, 3) := dk_182 0 182 (dk_at dksX0_sisters_0 2 rfl rfl)
theorem dX0_sisters_5 : decode cX0_sisters 5 = .ok (.iload_n 1, 1) := dk_27 (dk_at dksX0_sisters_0 5 rfl rfl)
theorem dX0_sisters_6 : decode cX0_sisters 6 = .ok (.invokevirtual 287, 3) := dk_182 1 31 (dk_at dksX0_sisters_0 6 rfl rfl)
theorem dX0_sisters_9 : decode cX0_sisters 9 = .ok (.ifCond .eq 7, 3) := dk_153 0 7 (dk_at dksX0_sisters_0 9 rfl rfl)
theorem dX0_sisters_12 : decode cX0_sisters 12 = .ok (.iconst 0, 1) := dk_3 (dk_at dksX0_sisters_0 12 rfl rfl)
theorem dX0_sisters_13 : decode cX0_sisters 13 = .ok (.goto 4, 3) := dk_167 0 4 (dk_at dksX0_sisters_0 13 rfl rfl)
theorem dX0_sisters_16 : decode cX0_sisters 16 = .ok (.iconst 1, 1) := dk_4 (dk_at dksX0_sisters_0 16 rfl rfl)
theorem dX0_sisters_17 : decode cX0_sisters 17 = .ok (.putfield 73, 3) := dk_181 0 73 (dk_at dksX0_sisters_0 17 rfl rfl)
theorem dX0_sisters_20 : decode cX0_sisters 20 = .ok (.aload_n 0, 1) := dk_42 (dk_at dksX0_sisters_0 20 rfl rfl)
theorem dX0_sisters_21 : decode cX0_sisters 21 = .ok (.getfield 73, 3) := dk_180 0 73 (dk_at dksX0_sisters_0 21 rfl rfl)
theorem dX0_sisters_24 : decode cX0_sisters 24 = .ok (.ifCond .le 5, 3) := dk_158 0 5 (dk_at dksX0_sisters_1 0 rfl rfl)
theorem dX0_sisters_27 : decode cX0_sisters 27 = .ok (.iconst (-1), 1) := dk_2 (dk_at dksX0_sisters_1 3 rfl rfl)
theorem dX0_sisters_28 : decode cX0_sisters 28 = .ok (.ireturn, 1) := dk_172 (dk_at dksX0_sisters_1 4 rfl rfl)
theorem dX0_sisters_29 : decode cX0_sisters 29 = .ok (.iconst 0, 1) := dk_3 (dk_at dksX0_sisters_1 5 rfl rfl)
theorem dX0_sisters_30 : decode cX0_sisters 30 = .ok (.istore_n 2, 1) := dk_61 (dk_at dksX0_sisters_1 6 rfl rfl)
theorem dX0_sisters_31 : decode cX0_sisters 31 = .ok (.iconst 0, 1) := dk_3 (dk_at dksX0_sisters_1 7 rfl rfl)
theorem dX0_sisters_32 : decode cX0_sisters 32 = .ok (.istore_n 3, 1) := dk_62 (dk_at dksX0_sisters_1 8 rfl rfl)
theorem dX0_sisters_33 : decode cX0_sisters 33 = .ok (.iload_n 3, 1) := dk_29 (dk_at dksX0_sisters_1 9 rfl rfl)
theorem dX0_sisters_34 : decode cX0_sisters 34 = .ok (.bipush 16, 2) := dk_16 16 (dk_at dksX0_sisters_1 10 rfl rfl)
theorem dX0_sisters_36 : decode cX0_sisters 36 = .ok (.if_icmp .ge 66, 3) := dk_162 0 66 (dk_at dksX0_sisters_1 12 rfl rfl)
theorem dX0_sisters_39 : decode cX0_sisters 39 = .ok (.iload_n 2, 1) := dk_28 (dk_at dksX0_sisters_1 15 rfl rfl)
theorem dX0_sisters_40 : decode cX0_sisters 40 = .ok (.iload_n 3, 1) := dk_29 (dk_at dksX0_sisters_1 16 rfl rfl)
theorem dX0_sisters_41 : decode cX0_sisters 41 = .ok (.iload_n 1, 1) := dk_27 (dk_at dksX0_sisters_1 17 rfl rfl)
theorem dX0_sisters_42 : decode cX0_sisters 42 = .ok (.if_icmp .eq 51, 3) := dk_159 0 51 (dk_at dksX0_sisters_1 18 rfl rfl)
theorem dX0_sisters_45 : decode cX0_sisters 45 = .ok (.aload_n 0, 1) := dk_42 (dk_at dksX0_sisters_1 21 rfl rfl)
theorem dX0_sisters_46 : decode cX0_sisters 46 = .ok (.invokevirtual 182, 3) := dk_182 0 182 (dk_at dksX0_sisters_2 0 rfl rfl)
theorem dX0_sisters_49 : decode cX0_sisters 49 = .ok (.iload_n 3, 1) := dk_29 (dk_at dksX0_sisters_2 3 rfl rfl)
theorem dX0_sisters_50 : decode cX0_sisters 50 = .ok (.invokevirtual 287, 3) := dk_182 1 31 (dk_at dksX0_sisters_2 4 rfl rfl)
theorem dX0_sisters_53 : decode cX0_sisters 53 = .ok (.ifCond .eq 40, 3) := dk_153 0 40 (dk_at dksX0_sisters_2 7 rfl rfl)
theorem dX0_sisters_56 : decode cX0_sisters 56 = .ok (.aload_n 0, 1) := dk_42 (dk_at dksX0_sisters_2 10 rfl rfl)
theorem dX0_sisters_57 : decode cX0_sisters 57 = .ok (.invokevirtual 182, 3) := dk_182 0 182 (dk_at dksX0_sisters_2 11 rfl rfl)
theorem dX0_sisters_60 : decode cX0_sisters 60 = .ok (.getfield 295, 3) := dk_180 1 39 (dk_at dksX0_sisters_2 14 rfl rfl)
theorem dX0_sisters_63 : decode cX0_sisters 63 = .ok (.iload_n 1, 1) := dk_27 (dk_at dksX0_sisters_2 17 rfl rfl)
theorem dX0_sisters_64 : decode cX0_sisters 64 = .ok (.iaload, 1) := dk_46 (dk_at dksX0_sisters_2 18 rfl rfl)
theorem dX0_sisters_65 : decode cX0_sisters 65 = .ok (.ifCond .lt 28, 3) := dk_155 0 28 (dk_at dksX0_sisters_2 19 rfl rfl)
theorem dX0_sisters_68 : decode cX0_sisters 68 = .ok (.aload_n 0, 1) := dk_42 (dk_at dksX0_sisters_2 22 rfl rfl)
theorem dX0_sisters_69 : decode cX0_sisters 69 = .ok (.invokevirtual 182, 3) := dk_182 0 182 (dk_at dksX0_sisters_3 0 rfl rfl)
theorem dX0_sisters_72 : decode cX0_sisters 72 = .ok (.getfield 295, 3) := dk_180 1 39 (dk_at dksX0_sisters_3 3 rfl rfl)
theorem dX0_sisters_75 : decode cX0_sisters 75 = .ok (.iload_n 3, 1) := dk_29 (dk_at dksX0_sisters_3 6 rfl rfl)
theorem dX0_sisters_76 : decode cX0_sisters 76 = .ok (.iaload, 1) := dk_46 (dk_at dksX0_sisters_3 7 rfl rfl)
theorem dX0_sisters_77 : decode cX0_sisters 77 = .ok (.aload_n 0, 1) := dk_42 (dk_at dksX0_sisters_3 8 rfl rfl)
theorem dX0_sisters_78 : decode cX0_sisters 78 = .ok (.invokevirtual 182, 3) := dk_182 0 182 (dk_at dksX0_sisters_3 9 rfl rfl)
theorem dX0_sisters_81 : decode cX0_sisters 81 = .ok (.getfield 295, 3) := dk_180 1 39 (dk_at dksX0_sisters_3 12 rfl rfl)
theorem dX0_sisters_84 : decode cX0_sisters 84 = .ok (.iload_n 1, 1) := dk_27 (dk_at dksX0_sisters_3 15 rfl rfl)
theorem dX0_sisters_85 : decode cX0_sisters 85 = .ok (.iaload, 1) := dk_46 (dk_at dksX0_sisters_3 16 rfl rfl)
theorem dX0_sisters_86 : decode cX0_sisters 86 = .ok (.if_icmp .ne 7, 3) := dk_160 0 7 (dk_at dksX0_sisters_3 17 rfl rfl)
theorem dX0_sisters_89 : decode cX0_sisters 89 = .ok (.iconst 1, 1) := dk_4 (dk_at dksX0_sisters_3 20 rfl rfl)
theorem dX0_sisters_90 : decode cX0_sisters 90 = .ok (.goto 4, 3) := dk_167 0 4 (dk_at dksX0_sisters_3 21 rfl rfl)
theorem dX0_sisters_93 : decode cX0_sisters 93 = .ok (.iconst 0, 1) := dk_3 (dk_at dksX0_sisters_4 0 rfl rfl)
theorem dX0_sisters_94 : decode cX0_sisters 94 = .ok (.iadd, 1) := dk_96 (dk_at dksX0_sisters_4 1 rfl rfl)
theorem dX0_sisters_95 : decode cX0_sisters 95 = .ok (.istore_n 2, 1) := dk_61 (dk_at dksX0_sisters_4 2 rfl rfl)
theorem dX0_sisters_96 : decode cX0_sisters 96 = .ok (.iinc 3 1, 3) := dk_132 3 1 (dk_at dksX0_sisters_4 3 rfl rfl)
theorem dX0_sisters_99 : decode cX0_sisters 99 = .ok (.goto (-66), 3) := dk_167 255 190 (dk_at dksX0_sisters_4 6 rfl rfl)
theorem dX0_sisters_102 : decode cX0_sisters 102 = .ok (.iload_n 2, 1) := dk_28 (dk_at dksX0_sisters_4 9 rfl rfl)
theorem dX0_sisters_103 : decode cX0_sisters 103 = .ok (.ireturn, 1) := dk_172 (dk_at dksX0_sisters_4 10 rfl rfl)
def dkwX0_room_2 : List UInt8 := [182, 0, 172, 29, 182, 1, 129, 100, 184, 1, 131, 96, 61, 132, 3, 1, 167, 255, 222, 28, 172]
abbrev dktX0_room_2 : List UInt8 := dkwX0_room_2 ++ []
def dkwX0_room_1 : List UInt8 := [2, 172, 3, 61, 3, 62, 29, 42, 27, 182, 0, 172, 182, 1, 88, 162, 0, 28, 28, 3, 16, 100, 42, 27]
abbrev dktX0_room_1 : List UInt8 := dkwX0_room_1 ++ dktX0_room_2
def dkwX0_room_0 : List UInt8 := [42, 42, 27, 182, 0, 168, 153, 0, 7, 3, 167, 0, 4, 4, 181, 0, 73, 42, 180, 0, 73, 158, 0, 5]
abbrev dktX0_room_0 : List UInt8 := dkwX0_room_0 ++ dktX0_room_1
theorem dksX0_room_0 : cX0_room.data.toList.drop 0 = dktX0_room_0 := by decide +kernel
theorem dksX0_room_1 : cX0_room.data.toList.drop 24 = dktX0_room_1 := dk_seg dksX0_room_0 24 rfl rfl
theorem dksX0_room_2 : cX0_room.data.toList.drop 48 = dktX0_room_2 := dk_seg dksX0_room_1 24 rfl rfl
theorem dX0_room_0 : decode cX0_room 0 = .ok (.aload_n 0, 1) := dk_42 (dk_at dksX0_room_0 0 rfl rfl)
theorem dX0_room_1 : decode cX0_room 1 = .ok (.aload_n 0, 1) := dk_42 (dk_at dksX0_room_0 1 rfl rfl)
theorem dX0_room_2 : decode cX0_room 2 = .ok (.iload_n 1, 1) := dk_27 (dk_at dksX0_room_0 2 rfl rfl)
theorem dX0_room_3 : decode cX0_room 3 = .ok (.invokevirtual 168, 3) := dk_182 0 168 (dk_at dksX0_room_0 3 rfl rfl)
theorem dX0_room_6 : decode cX0_room 6 = .ok (.ifCond .eq 7, 3) := dk_153 0 7 (dk_at dksX0_room_0 6 rfl rfl)
theorem dX0_room_9 : decode cX0_room 9 = .ok (.iconst 0, 1) := dk_3 (dk_at dksX0_room_0 9 rfl rfl)
theorem dX0_room_10 : decode cX0_room 10 = .ok (.goto 4, 3) := dk_167 0 4 (dk_at dksX0_room_0 10 rfl rfl)
theorem dX0_room_13 : decode cX0_room 13 = .ok (.iconst 1, 1) := dk_4 (dk_at dksX0_room_0 13 rfl rfl)
theorem dX0_room_14 : decode cX0_room 14 = .ok (.putfield 73, 3) := dk_181 0 73 (dk_at dksX0_room_0 14 rfl rfl)
theorem dX0_room_17 : decode cX0_room 17 = .ok (.aload_n 0, 1) := dk_42 (dk_at dksX0_room_0 17 rfl rfl)
theorem dX0_room_18 : decode cX0_room 18 = .ok (.getfield 73, 3) := dk_180 0 73 (dk_at dksX0_room_0 18 rfl rfl)
theorem dX0_room_21 : decode cX0_room 21 = .ok (.ifCond .le 5, 3) := dk_158 0 5 (dk_at dksX0_room_0 21 rfl rfl)
theorem dX0_room_24 : decode cX0_room 24 = .ok (.iconst (-1), 1) := dk_2 (dk_at dksX0_room_1 0 rfl rfl)
theorem dX0_room_25 : decode cX0_room 25 = .ok (.ireturn, 1) := dk_172 (dk_at dksX0_room_1 1 rfl rfl)
theorem dX0_room_26 : decode cX0_room 26 = .ok (.iconst 0, 1) := dk_3 (dk_at dksX0_room_1 2 rfl rfl)
theorem dX0_room_27 : decode cX0_room 27 = .ok (.istore_n 2, 1) := dk_61 (dk_at dksX0_room_1 3 rfl rfl)
theorem dX0_room_28 : decode cX0_room 28 = .ok (.iconst 0, 1) := dk_3 (dk_at dksX0_room_1 4 rfl rfl)
theorem dX0_room_29 : decode cX0_room 29 = .ok (.istore_n 3, 1) := dk_62 (dk_at dksX0_room_1 5 rfl rfl)
theorem dX0_room_30 : decode cX0_room 30 = .ok (.iload_n 3, 1) := dk_29 (dk_at dksX0_room_1 6 rfl rfl)
theorem dX0_room_31 : decode cX0_room 31 = .ok (.aload_n 0, 1) := dk_42 (dk_at dksX0_room_1 7 rfl rfl)
theorem dX0_room_32 : decode cX0_room 32 = .ok (.iload_n 1, 1) := dk_27 (dk_at dksX0_room_1 8 rfl rfl)
theorem dX0_room_33 : decode cX0_room 33 = .ok (.invokevirtual 172, 3) := dk_182 0 172 (dk_at dksX0_room_1 9 rfl rfl)
theorem dX0_room_36 : decode cX0_room 36 = .ok (.invokevirtual 344, 3) := dk_182 1 88 (dk_at dksX0_room_1 12 rfl rfl)
theorem dX0_room_39 : decode cX0_room 39 = .ok (.if_icmp .ge 28, 3) := dk_162 0 28 (dk_at dksX0_room_1 15 rfl rfl)
theorem dX0_room_42 : decode cX0_room 42 = .ok (.iload_n 2, 1) := dk_28 (dk_at dksX0_room_1 18 rfl rfl)
theorem dX0_room_43 : decode cX0_room 43 = .ok (.iconst 0, 1) := dk_3 (dk_at dksX0_room_1 19 rfl rfl)
theorem dX0_room_44 : decode cX0_room 44 = .ok (.bipush 100, 2) := dk_16 100 (dk_at dksX0_room_1 20 rfl rfl)
theorem dX0_room_46 : decode cX0_room 46 = .ok (.aload_n 0, 1) := dk_42 (dk_at dksX0_room_1 22 rfl rfl)
theorem dX0_room_47 : decode cX0_room 47 = .ok (.iload_n 1, 1) := dk_27 (dk_at dksX0_room_1 23 rfl rfl)
theorem dX0_room_48 : decode cX0_room 48 = .ok (.invokevirtual 172, 3) := dk_182 0 172 (dk_at dksX0_room_2 0 rfl rfl)
theorem dX0_room_51 : decode cX0_room 51 = .ok (.iload_n 3, 1) := dk_29 (dk_at dksX0_room_2 3 rfl rfl)
theorem dX0_room_52 : decode cX0_room 52 = .ok (.invokevirtual 385, 3) := dk_182 1 129 (dk_at dksX0_room_2 4 rfl rfl)
theorem dX0_room_55 : decode cX0_room 55 = .ok (.isub, 1) := dk_100 (dk_at dksX0_room_2 7 rfl rfl)
theorem dX0_room_56 : decode cX0_room 56 = .ok (.invokestatic 387, 3) := dk_184 1 131 (dk_at dksX0_room_2 8 rfl rfl)
theorem dX0_room_59 : decode cX0_room 59 = .ok (.iadd, 1) := dk_96 (dk_at dksX0_room_2 11 rfl rfl)
theorem dX0_room_60 : decode cX0_room 60 = .ok (.istore_n 2, 1) := dk_61 (dk_at dksX0_room_2 12 rfl rfl)
theorem dX0_room_61 : decode cX0_room 61 = .ok (.iinc 3 1, 3) := dk_132 3 1 (dk_at dksX0_room_2 13 rfl rfl)
theorem dX0_room_64 : decode cX0_room 64 = .ok (.goto (-34), 3) := dk_167 255 222 (dk_at dksX0_room_2 16 rfl rfl)
theorem dX0_room_67 : decode cX0_room 67 = .ok (.iload_n 2, 1) := dk_28 (dk_at dksX0_room_2 19 rfl rfl)
theorem dX0_room_68 : decode cX0_room 68 = .ok (.ireturn, 1) := dk_172 (dk_at dksX0_room_2 20 rfl rfl)
def dkwX0_richest_5 : List UInt8 := [62, 21, 4, 61, 132, 4, 1, 167, 255, 162, 28, 172]
abbrev dktX0_richest_5 : List UInt8 := dkwX0_richest_5 ++ []
def dkwX0_richest_4 : List UInt8 := [167, 0, 4, 3, 96, 54, 5, 132, 6, 1, 167, 255, 203, 21, 5, 29, 163, 0, 6, 167, 0, 9, 21, 5]
abbrev dktX0_richest_4 : List UInt8 := dkwX0_richest_4 ++ dktX0_richest_5
def dkwX0_richest_3 : List UInt8 := [50, 21, 6, 53, 184, 1, 134, 153, 0, 20, 42, 27, 182, 0, 172, 180, 0, 176, 21, 4, 50, 21, 6, 53]
abbrev dktX0_richest_3 : List UInt8 := dkwX0_richest_3 ++ dktX0_richest_4
def dkwX0_richest_2 : List UInt8 := [54, 5, 3, 54, 6, 21, 6, 16, 16, 162, 0, 52, 21, 5, 42, 27, 182, 0, 172, 180, 0, 176, 21, 4]
abbrev dktX0_richest_2 : List UInt8 := dkwX0_richest_2 ++ dktX0_richest_3
def dkwX0_richest_1 : List UInt8 := [2, 172, 3, 61, 2, 62, 3, 54, 4, 21, 4, 42, 27, 182, 0, 172, 180, 0, 176, 190, 162, 0, 86, 3]
abbrev dktX0_richest_1 : List UInt8 := dkwX0_richest_1 ++ dktX0_richest_2
def dkwX0_richest_0 : List UInt8 := [42, 42, 27, 182, 0, 168, 153, 0, 7, 3, 167, 0, 4, 4, 181, 0, 73, 42, 180, 0, 73, 158, 0, 5]
abbrev dktX0_richest_0 : List UInt8 := dkwX0_richest_0 ++ dktX0_richest_1
theorem dksX0_richest_0 : cX0_richest.data.toList.drop 0 = dktX0_richest_0 := by decide +kernel
theorem dksX0_richest_1 : cX0_richest.data.toList.drop 24 = dktX0_richest_1 := dk_seg dksX0_richest_0 24 rfl rfl
theorem dksX0_richest_2 : cX0_richest.data.toList.drop 48 = dktX0_richest_2 := dk_seg dksX0_richest_1 24 rfl rfl
theorem dksX0_richest_3 : cX0_richest.data.toList.drop 72 = dktX0_richest_3 := dk_seg dksX0_richest_2 24 rfl rfl
theorem dksX0_richest_4 : cX0_richest.data.toList.drop 96 = dktX0_richest_4 := dk_seg dksX0_richest_3 24 rfl rfl
theorem dksX0_richest_5 : cX0_richest.data.toList.drop 120 = dktX0_richest_5 := dk_seg dksX0_richest_4 24 rfl rfl
theorem dX0_richest_0 : decode cX0_richest 0 = .ok (.aload_n 0, 1) := dk_42 (dk_at dksX0_richest_0 0 rfl rfl)
theorem dX0_richest_1 : decode cX0_richest 1 = .ok (.aload_n 0, 1) := dk_42 (dk_at dksX0_richest_0 1 rfl rfl)
theorem dX0_richest_2 : decode cX0_richest 2 = .ok (.iload_n 1, 1) := dk_27 (dk_at dksX0_richest_0 2 rfl rfl)
theorem dX0_richest_3 : decode cX0_richest 3 = .ok (.invokevirtual 168, 3) := dk_182 0 168 (dk_at dksX0_richest_0 3 rfl rfl)
theorem dX0_richest_6 : decode cX0_richest 6 = .ok (.ifCond .eq 7, 3) := dk_153 0 7 (dk_at dksX0_richest_0 6 rfl rfl)
theorem dX0_richest_9 : decode cX0_richest 9 = .ok (.iconst 0, 1) := dk_3 (dk_at dksX0_richest_0 9 rfl rfl)
theorem dX0_richest_10 : decode cX0_richest 10 = .ok (.goto 4, 3) := dk_167 0 4 (dk_at dksX0_richest_0 10 rfl rfl)
theorem dX0_richest_13 : decode cX0_richest 13 = .ok (.iconst 1, 1) := dk_4 (dk_at dksX0_richest_0 13 rfl rfl)
theorem dX0_richest_14 : decode cX0_richest 14 = .ok (.putfield 73, 3) := dk_181 0 73 (dk_at dksX0_richest_0 14 rfl rfl)
theorem dX0_richest_17 : decode cX0_richest 17 = .ok (.aload_n 0, 1) := dk_42 (dk_at dksX0_richest_0 17 rfl rfl)
theorem dX0_richest_18 : decode cX0_richest 18 = .ok (.getfield 73, 3) := dk_180 0 73 (dk_at dksX0_richest_0 18 rfl rfl)
theorem dX0_richest_21 : decode cX0_richest 21 = .ok (.ifCond .le 5, 3) := dk_158 0 5 (dk_at dksX0_richest_0 21 rfl rfl)
theorem dX0_richest_24 : decode cX0_richest 24 = .ok (.iconst (-1), 1) := dk_2 (dk_at dksX0_richest_1 0 rfl rfl)
theorem dX0_richest_25 : decode cX0_richest 25 = .ok (.ireturn, 1) := dk_172 (dk_at dksX0_richest_1 1 rfl rfl)
theorem dX0_richest_26 : decode cX0_richest 26 = .ok (.iconst 0, 1) := dk_3 (dk_at dksX0_richest_1 2 rfl rfl)
theorem dX0_richest_27 : decode cX0_richest 27 = .ok (.istore_n 2, 1) := dk_61 (dk_at dksX0_richest_1 3 rfl rfl)
theorem dX0_richest_28 : decode cX0_richest 28 = .ok (.iconst (-1), 1) := dk_2 (dk_at dksX0_richest_1 4 rfl rfl)
theorem dX0_richest_29 : decode cX0_richest 29 = .ok (.istore_n 3, 1) := dk_62 (dk_at dksX0_richest_1 5 rfl rfl)
theorem dX0_richest_30 : decode cX0_richest 30 = .ok (.iconst 0, 1) := dk_3 (dk_at dksX0_richest_1 6 rfl rfl)
theorem dX0_richest_31 : decode cX0_richest 31 = .ok (.istore 4, 2) := dk_54 4 (dk_at dksX0_richest_1 7 rfl rfl)
theorem dX0_richest_33 : decode cX0_richest 33 = .ok (.iload 4, 2) := dk_21 4 (dk_at dksX0_richest_1 9 rfl rfl)
theorem dX0_richest_35 : decode cX0_richest 35 = .ok (.aload_n 0, 1) := dk_42 (dk_at dksX0_richest_1 11 rfl rfl)
theorem dX0_richest_36 : decode cX0_richest 36 = .ok (.iload_n 1, 1) := dk_27 (dk_at dksX0_richest_1 12 rfl rfl)
theorem dX0_richest_37 : decode cX0_richest 37 = .ok (.invokevirtual 172, 3) := dk_182 0 172 (dk_at dksX0_richest_1 13 rfl rfl)
theorem dX0_richest_40 : decode cX0_richest 40 = .ok (.getfield 176, 3) := dk_180 0 176 (dk_at dksX0_richest_1 16 rfl rfl)
theorem dX0_richest_43 : decode cX0_richest 43 = .ok (.arraylength, 1) := dk_190 (dk_at dksX0_richest_1 19 rfl rfl)
theorem dX0_richest_44 : decode cX0_richest 44 = .ok (.if_icmp .ge 86, 3) := dk_162 0 86 (dk_at dksX0_richest_1 20 rfl rfl)
theorem dX0_richest_47 : decode cX0_richest 47 = .ok (.iconst 0, 1) := dk_3 (dk_at dksX0_richest_1 23 rfl rfl)
theorem dX0_richest_48 : decode cX0_richest 48 = .ok (.istore 5, 2) := dk_54 5 (dk_at dksX0_richest_2 0 rfl rfl)
theorem dX0_richest_50 : decode cX0_richest 50 = .ok (.iconst 0, 1) := dk_3 (dk_at dksX0_richest_2 2 rfl rfl)
theorem dX0_richest_51 : decode cX0_richest 51 = .ok (.istore 6, 2) := dk_54 6 (dk_at dksX0_richest_2 3 rfl rfl)
theorem dX0_richest_53 : decode cX0_richest 53 = .ok (.iload 6, 2) := dk_21 6 (dk_at dksX0_richest_2 5 rfl rfl)
theorem dX0_richest_55 : decode cX0_richest 55 = .ok (.bipush 16, 2) := dk_16 16 (dk_at dksX0_richest_2 7 rfl rfl)
theorem dX0_richest_57 : decode cX0_richest 57 = .ok (.if_icmp .ge 52, 3) := dk_162 0 52 (dk_at dksX0_richest_2 9 rfl rfl)
theorem dX0_richest_60 : decode cX0_richest 60 = .ok (.iload 5, 2) := dk_21 5 (dk_at dksX0_richest_2 12 rfl rfl)
theorem dX0_richest_62 : decode cX0_richest 62 = .ok (.aload_n 0, 1) := dk_42 (dk_at dksX0_richest_2 14 rfl rfl)
theorem dX0_richest_63 : decode cX0_richest 63 = .ok (.iload_n 1, 1) := dk_27 (dk_at dksX0_richest_2 15 rfl rfl)
theorem dX0_richest_64 : decode cX0_richest 64 = .ok (.invokevirtual 172, 3) := dk_182 0 172 (dk_at dksX0_richest_2 16 rfl rfl)
theorem dX0_richest_67 : decode cX0_richest 67 = .ok (.getfield 176, 3) := dk_180 0 176 (dk_at dksX0_richest_2 19 rfl rfl)
theorem dX0_richest_70 : decode cX0_richest 70 = .ok (.iload 4, 2) := dk_21 4 (dk_at dksX0_richest_2 22 rfl rfl)
theorem dX0_richest_72 : decode cX0_richest 72 = .ok (.aaload, 1) := dk_50 (dk_at dksX0_richest_3 0 rfl rfl)
theorem dX0_richest_73 : decode cX0_richest 73 = .ok (.iload 6, 2) := dk_21 6 (dk_at dksX0_richest_3 1 rfl rfl)
theorem dX0_richest_75 : decode cX0_richest 75 = .ok (.saload, 1) := dk_53 (dk_at dksX0_richest_3 3 rfl rfl)
theorem dX0_richest_76 : decode cX0_richest 76 = .ok (.invokestatic 390, 3) := dk_184 1 134 (dk_at dksX0_richest_3 4 rfl rfl)
theorem dX0_richest_79 : decode cX0_richest 79 = .ok (.ifCond .eq 20, 3) := dk_153 0 20 (dk_at dksX0_richest_3 7 rfl rfl)
theorem dX0_richest_82 : decode cX0_richest 82 = .ok (.aload_n 0, 1) := dk_42 (dk_at dksX0_richest_3 10 rfl rfl)
theorem dX0_richest_83 : decode cX0_richest 83 = .ok (.iload_n 1, 1) := dk_27 (dk_at dksX0_richest_3 11 rfl rfl)
theorem dX0_richest_84 : decode cX0_richest 84 = .ok (.invokevirtual 172, 3) := dk_182 0 172 (dk_at dksX0_richest_3 12 rfl rfl)
theorem dX0_richest_87 : decode cX0_richest 87 = .ok (.getfield 176, 3) := dk_180 0 176 (dk_at dksX0_richest_3 15 rfl rfl)
theorem dX0_richest_90 : decode cX0_richest 90 = .ok (.iload 4, 2) := dk_21 4 (dk_at dksX0_richest_3 18 rfl rfl)
theorem dX0_richest_92 : decode cX0_richest 92 = .ok (.aaload, 1) := dk_50 (dk_at dksX0_richest_3 20 rfl rfl)
theorem dX0_richest_93 : decode cX0_richest 93 = .ok (.iload 6, 2) := dk_21 6 (dk_at dksX0_richest_3 21 rfl rfl)
theorem dX0_richest_95 : decode cX0_richest 95 = .ok (.saload, 1) := dk_53 (dk_at dksX0_richest_3 23 rfl rfl)
theorem dX0_richest_96 : decode cX0_richest 96 = .ok (.goto 4, 3) := dk_167 0 4 (dk_at dksX0_richest_4 0 rfl rfl)
theorem dX0_richest_99 : decode cX0_richest 99 = .ok (.iconst 0, 1) := dk_3 (dk_at dksX0_richest_4 3 rfl rfl)
theorem dX0_richest_100 : decode cX0_richest 100 = .ok (.iadd, 1) := dk_96 (dk_at dksX0_richest_4 4 rfl rfl)
theorem dX0_richest_101 : decode cX0_richest 101 = .ok (.istore 5, 2) := dk_54 5 (dk_at dksX0_richest_4 5 rfl rfl)
theorem dX0_richest_103 : decode cX0_richest 103 = .ok (.iinc 6 1, 3) := dk_132 6 1 (dk_at dksX0_richest_4 7 rfl rfl)
theorem dX0_richest_106 : decode cX0_richest 106 = .ok (.goto (-53), 3) := dk_167 255 203 (dk_at dksX0_richest_4 10 rfl rfl)
theorem dX0_richest_109 : decode cX0_richest 109 = .ok (.iload 5, 2) := dk_21 5 (dk_at dksX0_richest_4 13 rfl rfl)
theorem dX0_richest_111 : decode cX0_richest 111 = .ok (.iload_n 3, 1) := dk_29 (dk_at dksX0_richest_4 15 rfl rfl)
theorem dX0_richest_112 : decode cX0_richest 112 = .ok (.if_icmp .gt 6, 3) := dk_163 0 6 (dk_at dksX0_richest_4 16 rfl rfl)
theorem dX0_richest_115 : decode cX0_richest 115 = .ok (.goto 9, 3) := dk_167 0 9 (dk_at dksX0_richest_4 19 rfl rfl)
theorem dX0_richest_118 : decode cX0_richest 118 = .ok (.iload 5, 2) := dk_21 5 (dk_at dksX0_richest_4 22 rfl rfl)
theorem dX0_richest_120 : decode cX0_richest 120 = .ok (.istore_n 3, 1) := dk_62 (dk_at dksX0_richest_5 0 rfl rfl)
theorem dX0_richest_121 : decode cX0_richest 121 = .ok (.iload 4, 2) := dk_21 4 (dk_at dksX0_richest_5 1 rfl rfl)
theorem dX0_richest_123 : decode cX0_richest 123 = .ok (.istore_n 2, 1) := dk_61 (dk_at dksX0_richest_5 3 rfl rfl)
theorem dX0_richest_124 : decode cX0_richest 124 = .ok (.iinc 4 1, 3) := dk_132 4 1 (dk_at dksX0_richest_5 4 rfl rfl)
theorem dX0_richest_127 : decode cX0_richest 127 = .ok (.goto (-94), 3) := dk_167 255 162 (dk_at dksX0_richest_5 7 rfl rfl)
theorem dX0_richest_130 : decode cX0_richest 130 = .ok (.iload_n 2, 1) := dk_28 (dk_at dksX0_richest_5 10 rfl rfl)
theorem dX0_richest_131 : decode cX0_richest 131 = .ok (.ireturn, 1) := dk_172 (dk_at dksX0_richest_5 11 rfl rfl)
def dkwX0_age_4 : List UInt8 := [164, 0, 6, 21, 5, 62, 132, 4, 1, 167, 255, 194, 42, 29, 182, 1, 27, 172]
abbrev dktX0_age_4 : List UInt8 := dkwX0_age_4 ++ []
def dkwX0_age_3 : List UInt8 := [155, 0, 29, 29, 155, 0, 22, 28, 154, 0, 12, 21, 5, 29, 162, 0, 15, 167, 0, 9, 21, 5, 29]
abbrev dktX0_age_3 : List UInt8 := dkwX0_age_3 ++ dktX0_age_4
def dkwX0_age_2 : List UInt8 := [182, 1, 88, 162, 0, 55, 42, 27, 182, 0, 172, 21, 4, 182, 1, 129, 16, 101, 100, 54, 5, 21, 5]
abbrev dktX0_age_2 : List UInt8 := dkwX0_age_2 ++ dktX0_age_3
def dkwX0_age_1 : List UInt8 := [181, 0, 73, 42, 180, 0, 73, 158, 0, 5, 2, 172, 2, 62, 3, 54, 4, 21, 4, 42, 27, 182, 0, 172]
abbrev dktX0_age_1 : List UInt8 := dkwX0_age_1 ++ dktX0_age_2
def dkwX0_age_0 : List UInt8 := [42, 42, 27, 182, 0, 168, 153, 0, 17, 28, 133, 9, 10, 184, 0, 164, 153, 0, 7, 3, 167, 0, 4, 4]
abbrev dktX0_age_0 : List UInt8 := dkwX0_age_0 ++ dktX0_age_1
theorem dksX0_age_0 : cX0_age.data.toList.drop 0 = dktX0_age_0 := by decide +kernel
theorem dksX0_age_1 : cX0_age.data.toList.drop 24 = dktX0_age_1 := dk_seg dksX0_age_0 24 rfl rfl
theorem dksX0_age_2 : cX0_age.data.toList.drop 48 = dktX0_age_2 := dk_seg dksX0_age_1 24 rfl rfl
theorem dksX0_age_3 : cX0_age.data.toList.drop 71 = dktX0_age_3 := dk_seg dksX0_age_2 23 rfl rfl
theorem dksX0_age_4 : cX0_age.data.toList.drop 94 = dktX0_age_4 := dk_seg dksX0_age_3 23 rfl rfl
theorem dX0_age_0 : decode cX0_age 0 = .ok (.aload_n 0, 1) := dk_42 (dk_at dksX0_age_0 0 rfl rfl)
theorem dX0_age_1 : decode cX0_age 1 = .ok (.aload_n 0, 1) := dk_42 (dk_at dksX0_age_0 1 rfl rfl)
theorem dX0_age_2 : decode cX0_age 2 = .ok (.iload_n 1, 1) := dk_27 (dk_at dksX0_age_0 2 rfl rfl)
theorem dX0_age_3 : decode cX0_age 3 = .ok (.invokevirtual 168, 3) := dk_182 0 168 (dk_at dksX0_age_0 3 rfl rfl)
theorem dX0_age_6 : decode cX0_age 6 = .ok (.ifCond .eq 17, 3) := dk_153 0 17 (dk_at dksX0_age_0 6 rfl rfl)
theorem dX0_age_9 : decode cX0_age 9 = .ok (.iload_n 2, 1) := dk_28 (dk_at dksX0_age_0 9 rfl rfl)
theorem dX0_age_10 : decode cX0_age 10 = .ok (.i2l, 1) := dk_133 (dk_at dksX0_age_0 10 rfl rfl)
theorem dX0_age_11 : decode cX0_age 11 = .ok (.lconst 0, 1) := dk_9 (dk_at dksX0_age_0 11 rfl rfl)
theorem dX0_age_12 : decode cX0_age 12 = .ok (.lconst 1, 1) := dk_10 (dk_at dksX0_age_0 12 rfl rfl)
theorem dX0_age_13 : decode cX0_age 13 = .ok (.invokestatic 164, 3) := dk_184 0 164 (dk_at dksX0_age_0 13 rfl rfl)
theorem dX0_age_16 : decode cX0_age 16 = .ok (.ifCond .eq 7, 3) := dk_153 0 7 (dk_at dksX0_age_0 16 rfl rfl)
theorem dX0_age_19 : decode cX0_age 19 = .ok (.iconst 0, 1) := dk_3 (dk_at dksX0_age_0 19 rfl rfl)
theorem dX0_age_20 : decode cX0_age 20 = .ok (.goto 4, 3) := dk_167 0 4 (dk_at dksX0_age_0 20 rfl rfl)
theorem dX0_age_23 : decode cX0_age 23 = .ok (.iconst 1, 1) := dk_4 (dk_at dksX0_age_0 23 rfl rfl)
theorem dX0_age_24 : decode cX0_age 24 = .ok (.putfield 73, 3) := dk_181 0 73 (dk_at dksX0_age_1 0 rfl rfl)
theorem dX0_age_27 : decode cX0_age 27 = .ok (.aload_n 0, 1) := dk_42 (dk_at dksX0_age_1 3 rfl rfl)
theorem dX0_age_28 : decode cX0_age 28 = .ok (.getfield 73, 3) := dk_180 0 73 (dk_at dksX0_age_1 4 rfl rfl)
theorem dX0_age_31 : decode cX0_age 31 = .ok (.ifCond .le 5, 3) := dk_158 0 5 (dk_at dksX0_age_1 7 rfl rfl)
theorem dX0_age_34 : decode cX0_age 34 = .ok (.iconst (-1), 1) := dk_2 (dk_at dksX0_age_1 10 rfl rfl)
theorem dX0_age_35 : decode cX0_age 35 = .ok (.ireturn, 1) := dk_172 (dk_at dksX0_age_1 11 rfl rfl)
theorem dX0_age_36 : decode cX0_age 36 = .ok (.iconst (-1), 1) := dk_2 (dk_at dksX0_age_1 12 rfl rfl)
theorem dX0_age_37 : decode cX0_age 37 = .ok (.istore_n 3, 1) := dk_62 (dk_at dksX0_age_1 13 rfl rfl)
theorem dX0_age_38 : decode cX0_age 38 = .ok (.iconst 0, 1) := dk_3 (dk_at dksX0_age_1 14 rfl rfl)
theorem dX0_age_39 : decode cX0_age 39 = .ok (.istore 4, 2) := dk_54 4 (dk_at dksX0_age_1 15 rfl rfl)
theorem dX0_age_41 : decode cX0_age 41 = .ok (.iload 4, 2) := dk_21 4 (dk_at dksX0_age_1 17 rfl rfl)
theorem dX0_age_43 : decode cX0_age 43 = .ok (.aload_n 0, 1) := dk_42 (dk_at dksX0_age_1 19 rfl rfl)
theorem dX0_age_44 : decode cX0_age 44 = .ok (.iload_n 1, 1) := dk_27 (dk_at dksX0_age_1 20 rfl rfl)
theorem dX0_age_45 : decode cX0_age 45 = .ok (.invokevirtual 172, 3) := dk_182 0 172 (dk_at dksX0_age_1 21 rfl rfl)
theorem dX0_age_48 : decode cX0_age 48 = .ok (.invokevirtual 344, 3) := dk_182 1 88 (dk_at dksX0_age_2 0 rfl rfl)
theorem dX0_age_51 : decode cX0_age 51 = .ok (.if_icmp .ge 55, 3) := dk_162 0 55 (dk_at dksX0_age_2 3 rfl rfl)
theorem dX0_age_54 : decode cX0_age 54 = .ok (.aload_n 0, 1) := dk_42 (dk_at dksX0_age_2 6 rfl rfl)
theorem dX0_age_55 : decode cX0_age 55 = .ok (.iload_n 1, 1) := dk_27 (dk_at dksX0_age_2 7 rfl rfl)
theorem dX0_age_56 : decode cX0_age 56 = .ok (.invokevirtual 172, 3) := dk_182 0 172 (dk_at dksX0_age_2 8 rfl rfl)
theorem dX0_age_59 : decode cX0_age 59 = .ok (.iload 4, 2) := dk_21 4 (dk_at dksX0_age_2 11 rfl rfl)
theorem dX0_age_61 : decode cX0_age 61 = .ok (.invokevirtual 385, 3) := dk_182 1 129 (dk_at dksX0_age_2 13 rfl rfl)
theorem dX0_age_64 : decode cX0_age 64 = .ok (.bipush 101, 2) := dk_16 101 (dk_at dksX0_age_2 16 rfl rfl)
theorem dX0_age_66 : decode cX0_age 66 = .ok (.isub, 1) := dk_100 (dk_at dksX0_age_2 18 rfl rfl)
theorem dX0_age_67 : decode cX0_age 67 = .ok (.istore 5, 2) := dk_54 5 (dk_at dksX0_age_2 19 rfl rfl)
theorem dX0_age_69 : decode cX0_age 69 = .ok (.iload 5, 2) := dk_21 5 (dk_at dksX0_age_2 21 rfl rfl)
theorem dX0_age_71 : decode cX0_age 71 = .ok (.ifCond .lt 29, 3) := dk_155 0 29 (dk_at dksX0_age_3 0 rfl rfl)
theorem dX0_age_74 : decode cX0_age 74 = .ok (.iload_n 3, 1) := dk_29 (dk_at dksX0_age_3 3 rfl rfl)
theorem dX0_age_75 : decode cX0_age 75 = .ok (.ifCond .lt 22, 3) := dk_155 0 22 (dk_at dksX0_age_3 4 rfl rfl)
theorem dX0_age_78 : decode cX0_age 78 = .ok (.iload_n 2, 1) := dk_28 (dk_at dksX0_age_3 7 rfl rfl)
theorem dX0_age_79 : decode cX0_age 79 = .ok (.ifCond .ne 12, 3) := dk_154 0 12 (dk_at dksX0_age_3 8 rfl rfl)
theorem dX0_age_82 : decode cX0_age 82 = .ok (.iload 5, 2) := dk_21 5 (dk_at dksX0_age_3 11 rfl rfl)
theorem dX0_age_84 : decode cX0_age 84 = .ok (.iload_n 3, 1) := dk_29 (dk_at dksX0_age_3 13 rfl rfl)
theorem dX0_age_85 : decode cX0_age 85 = .ok (.if_icmp .ge 15, 3) := dk_162 0 15 (dk_at dksX0_age_3 14 rfl rfl)
theorem dX0_age_88 : decode cX0_age 88 = .ok (.goto 9, 3) := dk_167 0 9 (dk_at dksX0_age_3 17 rfl rfl)
theorem dX0_age_91 : decode cX0_age 91 = .ok (.iload 5, 2) := dk_21 5 (dk_at dksX0_age_3 20 rfl rfl)
theorem dX0_age_93 : decode cX0_age 93 = .ok (.iload_n 3, 1) := dk_29 (dk_at dksX0_age_3 22 rfl rfl)
theorem dX0_age_94 : decode cX0_age 94 = .ok (.if_icmp .le 6, 3) := dk_164 0 6 (dk_at dksX0_age_4 0 rfl rfl)
theorem dX0_age_97 : decode cX0_age 97 = .ok (.iload 5, 2) := dk_21 5 (dk_at dksX0_age_4 3 rfl rfl)
theorem dX0_age_99 : decode cX0_age 99 = .ok (.istore_n 3, 1) := dk_62 (dk_at dksX0_age_4 5 rfl rfl)
theorem dX0_age_100 : decode cX0_age 100 = .ok (.iinc 4 1, 3) := dk_132 4 1 (dk_at dksX0_age_4 6 rfl rfl)
theorem dX0_age_103 : decode cX0_age 103 = .ok (.goto (-62), 3) := dk_167 255 194 (dk_at dksX0_age_4 9 rfl rfl)
theorem dX0_age_106 : decode cX0_age 106 = .ok (.aload_n 0, 1) := dk_42 (dk_at dksX0_age_4 12 rfl rfl)
theorem dX0_age_107 : decode cX0_age 107 = .ok (.iload_n 3, 1) := dk_29 (dk_at dksX0_age_4 13 rfl rfl)
theorem dX0_age_108 : decode cX0_age 108 = .ok (.invokevirtual 283, 3) := dk_182 1 27 (dk_at dksX0_age_4 14 rfl rfl)
theorem dX0_age_111 : decode cX0_age 111 = .ok (.ireturn, 1) := dk_172 (dk_at dksX0_age_4 17 rfl rfl)
def dkwX0_coming_4 : List UInt8 := [167, 0, 4, 3, 96, 62, 132, 4, 1, 167, 255, 197, 29, 172]
abbrev dktX0_coming_4 : List UInt8 := dkwX0_coming_4 ++ []
def dkwX0_coming_3 : List UInt8 := [161, 0, 27, 42, 27, 182, 0, 172, 21, 4, 182, 1, 129, 16, 101, 100, 28, 96, 16, 21, 161, 0, 7, 4]
abbrev dktX0_coming_3 : List UInt8 := dkwX0_coming_3 ++ dktX0_coming_4
def dkwX0_coming_2 : List UInt8 := [27, 182, 0, 172, 182, 1, 88, 162, 0, 52, 29, 42, 27, 182, 0, 172, 21, 4, 182, 1, 129, 16, 101]
abbrev dktX0_coming_2 : List UInt8 := dkwX0_coming_2 ++ dktX0_coming_3
def dkwX0_coming_1 : List UInt8 := [167, 0, 4, 4, 181, 0, 73, 42, 180, 0, 73, 158, 0, 5, 2, 172, 3, 62, 3, 54, 4, 21, 4, 42]
abbrev dktX0_coming_1 : List UInt8 := dkwX0_coming_1 ++ dktX0_coming_2
def dkwX0_coming_0 : List UInt8 := [42, 42, 27, 182, 0, 168, 153, 0, 19, 28, 133, 9, 20, 1, 64, 184, 0, 164, 153, 0, 7, 3]
abbrev dktX0_coming_0 : List UInt8 := dkwX0_coming_0 ++ dktX0_coming_1
theorem dksX0_coming_0 : cX0_coming.data.toList.drop 0 = dktX0_coming_0 := by decide +kernel
theorem dksX0_coming_1 : cX0_coming.data.toList.drop 22 = dktX0_coming_1 := dk_seg dksX0_coming_0 22 rfl rfl
theorem dksX0_coming_2 : cX0_coming.data.toList.drop 46 = dktX0_coming_2 := dk_seg dksX0_coming_1 24 rfl rfl
theorem dksX0_coming_3 : cX0_coming.data.toList.drop 69 = dktX0_coming_3 := dk_seg dksX0_coming_2 23 rfl rfl
theorem dksX0_coming_4 : cX0_coming.data.toList.drop 93 = dktX0_coming_4 := dk_seg dksX0_coming_3 24 rfl rfl
theorem dX0_coming_0 : decode cX0_coming 0 = .ok (.aload_n 0, 1) := dk_42 (dk_at dksX0_coming_0 0 rfl rfl)
theorem dX0_coming_1 : decode cX0_coming 1 = .ok (.aload_n 0, 1) := dk_42 (dk_at dksX0_coming_0 1 rfl rfl)
theorem dX0_coming_2 : decode cX0_coming 2 = .ok (.iload_n 1, 1) := dk_27 (dk_at dksX0_coming_0 2 rfl rfl)
theorem dX0_coming_3 : decode cX0_coming 3 = .ok (.invokevirtual 168, 3) := dk_182 0 168 (dk_at dksX0_coming_0 3 rfl rfl)
theorem dX0_coming_6 : decode cX0_coming 6 = .ok (.ifCond .eq 19, 3) := dk_153 0 19 (dk_at dksX0_coming_0 6 rfl rfl)
theorem dX0_coming_9 : decode cX0_coming 9 = .ok (.iload_n 2, 1) := dk_28 (dk_at dksX0_coming_0 9 rfl rfl)
theorem dX0_coming_10 : decode cX0_coming 10 = .ok (.i2l, 1) := dk_133 (dk_at dksX0_coming_0 10 rfl rfl)
theorem dX0_coming_11 : decode cX0_coming 11 = .ok (.lconst 0, 1) := dk_9 (dk_at dksX0_coming_0 11 rfl rfl)
theorem dX0_coming_12 : decode cX0_coming 12 = .ok (.ldc2_w 320, 3) := dk_20 1 64 (dk_at dksX0_coming_0 12 rfl rfl)
theorem dX0_coming_15 : decode cX0_coming 15 = .ok (.invokestatic 164, 3) := dk_184 0 164 (dk_at dksX0_coming_0 15 rfl rfl)
theorem dX0_coming_18 : decode cX0_coming 18 = .ok (.ifCond .eq 7, 3) := dk_153 0 7 (dk_at dksX0_coming_0 18 rfl rfl)
theorem dX0_coming_21 : decode cX0_coming 21 = .ok (.iconst 0, 1) := dk_3 (dk_at dksX0_coming_0 21 rfl rfl)
theorem dX0_coming_22 : decode cX0_coming 22 = .ok (.goto 4, 3) := dk_167 0 4 (dk_at dksX0_coming_1 0 rfl rfl)
theorem dX0_coming_25 : decode cX0_coming 25 = .ok (.iconst 1, 1) := dk_4 (dk_at dksX0_coming_1 3 rfl rfl)
theorem dX0_coming_26 : decode cX0_coming 26 = .ok (.putfield 73, 3) := dk_181 0 73 (dk_at dksX0_coming_1 4 rfl rfl)
theorem dX0_coming_29 : decode cX0_coming 29 = .ok (.aload_n 0, 1) := dk_42 (dk_at dksX0_coming_1 7 rfl rfl)
theorem dX0_coming_30 : decode cX0_coming 30 = .ok (.getfield 73, 3) := dk_180 0 73 (dk_at dksX0_coming_1 8 rfl rfl)
theorem dX0_coming_33 : decode cX0_coming 33 = .ok (.ifCond .le 5, 3) := dk_158 0 5 (dk_at dksX0_coming_1 11 rfl rfl)
theorem dX0_coming_36 : decode cX0_coming 36 = .ok (.iconst (-1), 1) := dk_2 (dk_at dksX0_coming_1 14 rfl rfl)
theorem dX0_coming_37 : decode cX0_coming 37 = .ok (.ireturn, 1) := dk_172 (dk_at dksX0_coming_1 15 rfl rfl)
theorem dX0_coming_38 : decode cX0_coming 38 = .ok (.iconst 0, 1) := dk_3 (dk_at dksX0_coming_1 16 rfl rfl)
theorem dX0_coming_39 : decode cX0_coming 39 = .ok (.istore_n 3, 1) := dk_62 (dk_at dksX0_coming_1 17 rfl rfl)
theorem dX0_coming_40 : decode cX0_coming 40 = .ok (.iconst 0, 1) := dk_3 (dk_at dksX0_coming_1 18 rfl rfl)
theorem dX0_coming_41 : decode cX0_coming 41 = .ok (.istore 4, 2) := dk_54 4 (dk_at dksX0_coming_1 19 rfl rfl)
theorem dX0_coming_43 : decode cX0_coming 43 = .ok (.iload 4, 2) := dk_21 4 (dk_at dksX0_coming_1 21 rfl rfl)
theorem dX0_coming_45 : decode cX0_coming 45 = .ok (.aload_n 0, 1) := dk_42 (dk_at dksX0_coming_1 23 rfl rfl)
theorem dX0_coming_46 : decode cX0_coming 46 = .ok (.iload_n 1, 1) := dk_27 (dk_at dksX0_coming_2 0 rfl rfl)
theorem dX0_coming_47 : decode cX0_coming 47 = .ok (.invokevirtual 172, 3) := dk_182 0 172 (dk_at dksX0_coming_2 1 rfl rfl)
theorem dX0_coming_50 : decode cX0_coming 50 = .ok (.invokevirtual 344, 3) := dk_182 1 88 (dk_at dksX0_coming_2 4 rfl rfl)
theorem dX0_coming_53 : decode cX0_coming 53 = .ok (.if_icmp .ge 52, 3) := dk_162 0 52 (dk_at dksX0_coming_2 7 rfl rfl)
theorem dX0_coming_56 : decode cX0_coming 56 = .ok (.iload_n 3, 1) := dk_29 (dk_at dksX0_coming_2 10 rfl rfl)
theorem dX0_coming_57 : decode cX0_coming 57 = .ok (.aload_n 0, 1) := dk_42 (dk_at dksX0_coming_2 11 rfl rfl)
theorem dX0_coming_58 : decode cX0_coming 58 = .ok (.iload_n 1, 1) := dk_27 (dk_at dksX0_coming_2 12 rfl rfl)
theorem dX0_coming_59 : decode cX0_coming 59 = .ok (.invokevirtual 172, 3) := dk_182 0 172 (dk_at dksX0_coming_2 13 rfl rfl)
theorem dX0_coming_62 : decode cX0_coming 62 = .ok (.iload 4, 2) := dk_21 4 (dk_at dksX0_coming_2 16 rfl rfl)
theorem dX0_coming_64 : decode cX0_coming 64 = .ok (.invokevirtual 385, 3) := dk_182 1 129 (dk_at dksX0_coming_2 18 rfl rfl)
theorem dX0_coming_67 : decode cX0_coming 67 = .ok (.bipush 101, 2) := dk_16 101 (dk_at dksX0_coming_2 21 rfl rfl)
theorem dX0_coming_69 : decode cX0_coming 69 = .ok (.if_icmp .lt 27, 3) := dk_161 0 27 (dk_at dksX0_coming_3 0 rfl rfl)
theorem dX0_coming_72 : decode cX0_coming 72 = .ok (.aload_n 0, 1) := dk_42 (dk_at dksX0_coming_3 3 rfl rfl)
theorem dX0_coming_73 : decode cX0_coming 73 = .ok (.iload_n 1, 1) := dk_27 (dk_at dksX0_coming_3 4 rfl rfl)
theorem dX0_coming_74 : decode cX0_coming 74 = .ok (.invokevirtual 172, 3) := dk_182 0 172 (dk_at dksX0_coming_3 5 rfl rfl)
theorem dX0_coming_77 : decode cX0_coming 77 = .ok (.iload 4, 2) := dk_21 4 (dk_at dksX0_coming_3 8 rfl rfl)
theorem dX0_coming_79 : decode cX0_coming 79 = .ok (.invokevirtual 385, 3) := dk_182 1 129 (dk_at dksX0_coming_3 10 rfl rfl)
theorem dX0_coming_82 : decode cX0_coming 82 = .ok (.bipush 101, 2) := dk_16 101 (dk_at dksX0_coming_3 13 rfl rfl)
theorem dX0_coming_84 : decode cX0_coming 84 = .ok (.isub, 1) := dk_100 (dk_at dksX0_coming_3 15 rfl rfl)
theorem dX0_coming_85 : decode cX0_coming 85 = .ok (.iload_n 2, 1) := dk_28 (dk_at dksX0_coming_3 16 rfl rfl)
theorem dX0_coming_86 : decode cX0_coming 86 = .ok (.iadd, 1) := dk_96 (dk_at dksX0_coming_3 17 rfl rfl)
theorem dX0_coming_87 : decode cX0_coming 87 = .ok (.bipush 21, 2) := dk_16 21 (dk_at dksX0_coming_3 18 rfl rfl)
theorem dX0_coming_89 : decode cX0_coming 89 = .ok (.if_icmp .lt 7, 3) := dk_161 0 7 (dk_at dksX0_coming_3 20 rfl rfl)
theorem dX0_coming_92 : decode cX0_coming 92 = .ok (.iconst 1, 1) := dk_4 (dk_at dksX0_coming_3 23 rfl rfl)
theorem dX0_coming_93 : decode cX0_coming 93 = .ok (.goto 4, 3) := dk_167 0 4 (dk_at dksX0_coming_4 0 rfl rfl)
theorem dX0_coming_96 : decode cX0_coming 96 = .ok (.iconst 0, 1) := dk_3 (dk_at dksX0_coming_4 3 rfl rfl)
theorem dX0_coming_97 : decode cX0_coming 97 = .ok (.iadd, 1) := dk_96 (dk_at dksX0_coming_4 4 rfl rfl)
theorem dX0_coming_98 : decode cX0_coming 98 = .ok (.istore_n 3, 1) := dk_62 (dk_at dksX0_coming_4 5 rfl rfl)
theorem dX0_coming_99 : decode cX0_coming 99 = .ok (.iinc 4 1, 3) := dk_132 4 1 (dk_at dksX0_coming_4 6 rfl rfl)
theorem dX0_coming_102 : decode cX0_coming 102 = .ok (.goto (-59), 3) := dk_167 255 197 (dk_at dksX0_coming_4 9 rfl rfl)
theorem dX0_coming_105 : decode cX0_coming 105 = .ok (.iload_n 3, 1) := dk_29 (dk_at dksX0_coming_4 12 rfl rfl)
theorem dX0_coming_106 : decode cX0_coming 106 = .ok (.ireturn, 1) := dk_172 (dk_at dksX0_coming_4 13 rfl rfl)
def dkwX0_hungry_3 : List UInt8 := [182, 1, 27, 172]
abbrev dktX0_hungry_3 : List UInt8 := dkwX0_hungry_3 ++ []
def dkwX0_hungry_2 : List UInt8 := [44, 182, 1, 141, 182, 1, 145, 44, 180, 1, 147, 158, 0, 5, 29, 172, 132, 3, 1, 167, 255, 226, 42, 2]
abbrev dktX0_hungry_2 : List UInt8 := dkwX0_hungry_2 ++ dktX0_hungry_3
def dkwX0_hungry_1 : List UInt8 := [2, 172, 42, 27, 182, 0, 172, 182, 1, 137, 77, 4, 62, 29, 16, 60, 163, 0, 30, 44, 42, 182, 0, 158]
abbrev dktX0_hungry_1 : List UInt8 := dkwX0_hungry_1 ++ dktX0_hungry_2
def dkwX0_hungry_0 : List UInt8 := [42, 42, 27, 182, 0, 168, 153, 0, 7, 3, 167, 0, 4, 4, 181, 0, 73, 42, 180, 0, 73, 158, 0, 5]
abbrev dktX0_hungry_0 : List UInt8 := dkwX0_hungry_0 ++ dktX0_hungry_1
theorem dksX0_hungry_0 : cX0_hungry.data.toList.drop 0 = dktX0_hungry_0 := by decide +kernel
theorem dksX0_hungry_1 : cX0_hungry.data.toList.drop 24 = dktX0_hungry_1 := dk_seg dksX0_hungry_0 24 rfl rfl
theorem dksX0_hungry_2 : cX0_hungry.data.toList.drop 48 = dktX0_hungry_2 := dk_seg dksX0_hungry_1 24 rfl rfl
theorem dksX0_hungry_3 : cX0_hungry.data.toList.drop 72 = dktX0_hungry_3 := dk_seg dksX0_hungry_2 24 rfl rfl
theorem dX0_hungry_0 : decode cX0_hungry 0 = .ok (.aload_n 0, 1) := dk_42 (dk_at dksX0_hungry_0 0 rfl rfl)
theorem dX0_hungry_1 : decode cX0_hungry 1 = .ok (.aload_n 0, 1) := dk_42 (dk_at dksX0_hungry_0 1 rfl rfl)
theorem dX0_hungry_2 : decode cX0_hungry 2 = .ok (.iload_n 1, 1) := dk_27 (dk_at dksX0_hungry_0 2 rfl rfl)
theorem dX0_hungry_3 : decode cX0_hungry 3 = .ok (.invokevirtual 168, 3) := dk_182 0 168 (dk_at dksX0_hungry_0 3 rfl rfl)
theorem dX0_hungry_6 : decode cX0_hungry 6 = .ok (.ifCond .eq 7, 3) := dk_153 0 7 (dk_at dksX0_hungry_0 6 rfl rfl)
theorem dX0_hungry_9 : decode cX0_hungry 9 = .ok (.iconst 0, 1) := dk_3 (dk_at dksX0_hungry_0 9 rfl rfl)
theorem dX0_hungry_10 : decode cX0_hungry 10 = .ok (.goto 4, 3) := dk_167 0 4 (dk_at dksX0_hungry_0 10 rfl rfl)
theorem dX0_hungry_13 : decode cX0_hungry 13 = .ok (.iconst 1, 1) := dk_4 (dk_at dksX0_hungry_0 13 rfl rfl)
theorem dX0_hungry_14 : decode cX0_hungry 14 = .ok (.putfield 73, 3) := dk_181 0 73 (dk_at dksX0_hungry_0 14 rfl rfl)
theorem dX0_hungry_17 : decode cX0_hungry 17 = .ok (.aload_n 0, 1) := dk_42 (dk_at dksX0_hungry_0 17 rfl rfl)
theorem dX0_hungry_18 : decode cX0_hungry 18 = .ok (.getfield 73, 3) := dk_180 0 73 (dk_at dksX0_hungry_0 18 rfl rfl)
theorem dX0_hungry_21 : decode cX0_hungry 21 = .ok (.ifCond .le 5, 3) := dk_158 0 5 (dk_at dksX0_hungry_0 21 rfl rfl)
theorem dX0_hungry_24 : decode cX0_hungry 24 = .ok (.iconst (-1), 1) := dk_2 (dk_at dksX0_hungry_1 0 rfl rfl)
theorem dX0_hungry_25 : decode cX0_hungry 25 = .ok (.ireturn, 1) := dk_172 (dk_at dksX0_hungry_1 1 rfl rfl)
theorem dX0_hungry_26 : decode cX0_hungry 26 = .ok (.aload_n 0, 1) := dk_42 (dk_at dksX0_hungry_1 2 rfl rfl)
theorem dX0_hungry_27 : decode cX0_hungry 27 = .ok (.iload_n 1, 1) := dk_27 (dk_at dksX0_hungry_1 3 rfl rfl)
theorem dX0_hungry_28 : decode cX0_hungry 28 = .ok (.invokevirtual 172, 3) := dk_182 0 172 (dk_at dksX0_hungry_1 4 rfl rfl)
theorem dX0_hungry_31 : decode cX0_hungry 31 = .ok (.invokevirtual 393, 3) := dk_182 1 137 (dk_at dksX0_hungry_1 7 rfl rfl)
theorem dX0_hungry_34 : decode cX0_hungry 34 = .ok (.astore_n 2, 1) := dk_77 (dk_at dksX0_hungry_1 10 rfl rfl)
theorem dX0_hungry_35 : decode cX0_hungry 35 = .ok (.iconst 1, 1) := dk_4 (dk_at dksX0_hungry_1 11 rfl rfl)
theorem dX0_hungry_36 : decode cX0_hungry 36 = .ok (.istore_n 3, 1) := dk_62 (dk_at dksX0_hungry_1 12 rfl rfl)
theorem dX0_hungry_37 : decode cX0_hungry 37 = .ok (.iload_n 3, 1) := dk_29 (dk_at dksX0_hungry_1 13 rfl rfl)
theorem dX0_hungry_38 : decode cX0_hungry 38 = .ok (.bipush 60, 2) := dk_16 60 (dk_at dksX0_hungry_1 14 rfl rfl)
theorem dX0_hungry_40 : decode cX0_hungry 40 = .ok (.if_icmp .gt 30, 3) := dk_163 0 30 (dk_at dksX0_hungry_1 16 rfl rfl)
theorem dX0_hungry_43 : decode cX0_hungry 43 = .ok (.aload_n 2, 1) := dk_44 (dk_at dksX0_hungry_1 19 rfl rfl)
theorem dX0_hungry_44 : decode cX0_hungry 44 = .ok (.aload_n 0, 1) := dk_42 (dk_at dksX0_hungry_1 20 rfl rfl)
theorem dX0_hungry_45 : decode cX0_hungry 45 = .ok (.invokevirtual 158, 3) := dk_182 0 158 (dk_at dksX0_hungry_1 21 rfl rfl)
theorem dX0_hungry_48 : decode cX0_hungry 48 = .ok (.aload_n 2, 1) := dk_44 (dk_at dksX0_hungry_2 0 rfl rfl)
theorem dX0_hungry_49 : decode cX0_hungry 49 = .ok (.invokevirtual 397, 3) := dk_182 1 141 (dk_at dksX0_hungry_2 1 rfl rfl)
theorem dX0_hungry_52 : decode cX0_hungry 52 = .ok (.invokevirtual 401, 3) := dk_182 1 145 (dk_at dksX0_hungry_2 4 rfl rfl)
theorem dX0_hungry_55 : decode cX0_hungry 55 = .ok (.aload_n 2, 1) := dk_44 (dk_at dksX0_hungry_2 7 rfl rfl)
theorem dX0_hungry_56 : decode cX0_hungry 56 = .ok (.getfield 403, 3) := dk_180 1 147 (dk_at dksX0_hungry_2 8 rfl rfl)
theorem dX0_hungry_59 : decode cX0_hungry 59 = .ok (.ifCond .le 5, 3) := dk_158 0 5 (dk_at dksX0_hungry_2 11 rfl rfl)
theorem dX0_hungry_62 : decode cX0_hungry 62 = .ok (.iload_n 3, 1) := dk_29 (dk_at dksX0_hungry_2 14 rfl rfl)
theorem dX0_hungry_63 : decode cX0_hungry 63 = .ok (.ireturn, 1) := dk_172 (dk_at dksX0_hungry_2 15 rfl rfl)
theorem dX0_hungry_64 : decode cX0_hungry 64 = .ok (.iinc 3 1, 3) := dk_132 3 1 (dk_at dksX0_hungry_2 16 rfl rfl)
theorem dX0_hungry_67 : decode cX0_hungry 67 = .ok (.goto (-30), 3) := dk_167 255 226 (dk_at dksX0_hungry_2 19 rfl rfl)
theorem dX0_hungry_70 : decode cX0_hungry 70 = .ok (.aload_n 0, 1) := dk_42 (dk_at dksX0_hungry_2 22 rfl rfl)
theorem dX0_hungry_71 : decode cX0_hungry 71 = .ok (.iconst (-1), 1) := dk_2 (dk_at dksX0_hungry_2 23 rfl rfl)
theorem dX0_hungry_72 : decode cX0_hungry 72 = .ok (.invokevirtual 283, 3) := dk_182 1 27 (dk_at dksX0_hungry_3 0 rfl rfl)
theorem dX0_hungry_75 : decode cX0_hungry 75 = .ok (.ireturn, 1) := dk_172 (dk_at dksX0_hungry_3 3 rfl rfl)
def dkwX0_lasts_3 : List UInt8 := [182, 0, 172, 180, 1, 8, 108, 184, 1, 131, 172]
abbrev dktX0_lasts_3 : List UInt8 := dkwX0_lasts_3 ++ []
def dkwX0_lasts_2 : List UInt8 := [27, 182, 0, 172, 182, 1, 11, 104, 16, 9, 96, 42, 27, 182, 0, 172, 180, 1, 21, 100, 42, 27]
abbrev dktX0_lasts_2 : List UInt8 := dkwX0_lasts_2 ++ dktX0_lasts_3
def dkwX0_lasts_1 : List UInt8 := [16, 6, 167, 0, 4, 3, 181, 0, 73, 42, 180, 0, 73, 158, 0, 7, 2, 167, 0, 39, 3, 16, 10, 42]
abbrev dktX0_lasts_1 : List UInt8 := dkwX0_lasts_1 ++ dktX0_lasts_2
def dkwX0_lasts_0 : List UInt8 := [42, 42, 27, 182, 0, 168, 154, 0, 7, 4, 167, 0, 20, 42, 27, 182, 0, 172, 180, 1, 8, 154, 0, 8]
abbrev dktX0_lasts_0 : List UInt8 := dkwX0_lasts_0 ++ dktX0_lasts_1
theorem dksX0_lasts_0 : cX0_lasts.data.toList.drop 0 = dktX0_lasts_0 := by decide +kernel
theorem dksX0_lasts_1 : cX0_lasts.data.toList.drop 24 = dktX0_lasts_1 := dk_seg dksX0_lasts_0 24 rfl rfl
theorem dksX0_lasts_2 : cX0_lasts.data.toList.drop 48 = dktX0_lasts_2 := dk_seg dksX0_lasts_1 24 rfl rfl
theorem dksX0_lasts_3 : cX0_lasts.data.toList.drop 70 = dktX0_lasts_3 := dk_seg dksX0_lasts_2 22 rfl rfl
theorem dX0_lasts_0 : decode cX0_lasts 0 = .ok (.aload_n 0, 1) := dk_42 (dk_at dksX0_lasts_0 0 rfl rfl)
theorem dX0_lasts_1 : decode cX0_lasts 1 = .ok (.aload_n 0, 1) := dk_42 (dk_at dksX0_lasts_0 1 rfl rfl)
theorem dX0_lasts_2 : decode cX0_lasts 2 = .ok (.iload_n 1, 1) := dk_27 (dk_at dksX0_lasts_0 2 rfl rfl)
theorem dX0_lasts_3 : decode cX0_lasts 3 = .ok (.invokevirtual 168, 3) := dk_182 0 168 (dk_at dksX0_lasts_0 3 rfl rfl)
theorem dX0_lasts_6 : decode cX0_lasts 6 = .ok (.ifCond .ne 7, 3) := dk_154 0 7 (dk_at dksX0_lasts_0 6 rfl rfl)
theorem dX0_lasts_9 : decode cX0_lasts 9 = .ok (.iconst 1, 1) := dk_4 (dk_at dksX0_lasts_0 9 rfl rfl)
theorem dX0_lasts_10 : decode cX0_lasts 10 = .ok (.goto 20, 3) := dk_167 0 20 (dk_at dksX0_lasts_0 10 rfl rfl)
theorem dX0_lasts_13 : decode cX0_lasts 13 = .ok (.aload_n 0, 1) := dk_42 (dk_at dksX0_lasts_0 13 rfl rfl)
theorem dX0_lasts_14 : decode cX0_lasts 14 = .ok (.iload_n 1, 1) := dk_27 (dk_at dksX0_lasts_0 14 rfl rfl)
theorem dX0_lasts_15 : decode cX0_lasts 15 = .ok (.invokevirtual 172, 3) := dk_182 0 172 (dk_at dksX0_lasts_0 15 rfl rfl)
theorem dX0_lasts_18 : decode cX0_lasts 18 = .ok (.getfield 264, 3) := dk_180 1 8 (dk_at dksX0_lasts_0 18 rfl rfl)
theorem dX0_lasts_21 : decode cX0_lasts 21 = .ok (.ifCond .ne 8, 3) := dk_154 0 8 (dk_at dksX0_lasts_0 21 rfl rfl)
theorem dX0_lasts_24 : decode cX0_lasts 24 = .ok (.bipush 6, 2) := dk_16 6 (dk_at dksX0_lasts_1 0 rfl rfl)
theorem dX0_lasts_26 : decode cX0_lasts 26 = .ok (.goto 4, 3) := dk_167 0 4 (dk_at dksX0_lasts_1 2 rfl rfl)
theorem dX0_lasts_29 : decode cX0_lasts 29 = .ok (.iconst 0, 1) := dk_3 (dk_at dksX0_lasts_1 5 rfl rfl)
theorem dX0_lasts_30 : decode cX0_lasts 30 = .ok (.putfield 73, 3) := dk_181 0 73 (dk_at dksX0_lasts_1 6 rfl rfl)
theorem dX0_lasts_33 : decode cX0_lasts 33 = .ok (.aload_n 0, 1) := dk_42 (dk_at dksX0_lasts_1 9 rfl rfl)
theorem dX0_lasts_34 : decode cX0_lasts 34 = .ok (.getfield 73, 3) := dk_180 0 73 (dk_at dksX0_lasts_1 10 rfl rfl)
theorem dX0_lasts_37 : decode cX0_lasts 37 = .ok (.ifCond .le 7, 3) := dk_158 0 7 (dk_at dksX0_lasts_1 13 rfl rfl)
theorem dX0_lasts_40 : decode cX0_lasts 40 = .ok (.iconst (-1), 1) := dk_2 (dk_at dksX0_lasts_1 16 rfl rfl)
theorem dX0_lasts_41 : decode cX0_lasts 41 = .ok (.goto 39, 3) := dk_167 0 39 (dk_at dksX0_lasts_1 17 rfl rfl)
theorem dX0_lasts_44 : decode cX0_lasts 44 = .ok (.iconst 0, 1) := dk_3 (dk_at dksX0_lasts_1 20 rfl rfl)
theorem dX0_lasts_45 : decode cX0_lasts 45 = .ok (.bipush 10, 2) := dk_16 10 (dk_at dksX0_lasts_1 21 rfl rfl)
theorem dX0_lasts_47 : decode cX0_lasts 47 = .ok (.aload_n 0, 1) := dk_42 (dk_at dksX0_lasts_1 23 rfl rfl)
theorem dX0_lasts_48 : decode cX0_lasts 48 = .ok (.iload_n 1, 1) := dk_27 (dk_at dksX0_lasts_2 0 rfl rfl)
theorem dX0_lasts_49 : decode cX0_lasts 49 = .ok (.invokevirtual 172, 3) := dk_182 0 172 (dk_at dksX0_lasts_2 1 rfl rfl)
theorem dX0_lasts_52 : decode cX0_lasts 52 = .ok (.invokevirtual 267, 3) := dk_182 1 11 (dk_at dksX0_lasts_2 4 rfl rfl)
theorem dX0_lasts_55 : decode cX0_lasts 55 = .ok (.imul, 1) := dk_104 (dk_at dksX0_lasts_2 7 rfl rfl)
theorem dX0_lasts_56 : decode cX0_lasts 56 = .ok (.bipush 9, 2) := dk_16 9 (dk_at dksX0_lasts_2 8 rfl rfl)
theorem dX0_lasts_58 : decode cX0_lasts 58 = .ok (.iadd, 1) := dk_96 (dk_at dksX0_lasts_2 10 rfl rfl)
theorem dX0_lasts_59 : decode cX0_lasts 59 = .ok (.aload_n 0, 1) := dk_42 (dk_at dksX0_lasts_2 11 rfl rfl)
theorem dX0_lasts_60 : decode cX0_lasts 60 = .ok (.iload_n 1, 1) := dk_27 (dk_at dksX0_lasts_2 12 rfl rfl)
theorem dX0_lasts_61 : decode cX0_lasts 61 = .ok (.invokevirtual 172, 3) := dk_182 0 172 (dk_at dksX0_lasts_2 13 rfl rfl)
theorem dX0_lasts_64 : decode cX0_lasts 64 = .ok (.getfield 277, 3) := dk_180 1 21 (dk_at dksX0_lasts_2 16 rfl rfl)
theorem dX0_lasts_67 : decode cX0_lasts 67 = .ok (.isub, 1) := dk_100 (dk_at dksX0_lasts_2 19 rfl rfl)
theorem dX0_lasts_68 : decode cX0_lasts 68 = .ok (.aload_n 0, 1) := dk_42 (dk_at dksX0_lasts_2 20 rfl rfl)
theorem dX0_lasts_69 : decode cX0_lasts 69 = .ok (.iload_n 1, 1) := dk_27 (dk_at dksX0_lasts_2 21 rfl rfl)
theorem dX0_lasts_70 : decode cX0_lasts 70 = .ok (.invokevirtual 172, 3) := dk_182 0 172 (dk_at dksX0_lasts_3 0 rfl rfl)
theorem dX0_lasts_73 : decode cX0_lasts 73 = .ok (.getfield 264, 3) := dk_180 1 8 (dk_at dksX0_lasts_3 3 rfl rfl)
theorem dX0_lasts_76 : decode cX0_lasts 76 = .ok (.idiv, 1) := dk_108 (dk_at dksX0_lasts_3 6 rfl rfl)
theorem dX0_lasts_77 : decode cX0_lasts 77 = .ok (.invokestatic 387, 3) := dk_184 1 131 (dk_at dksX0_lasts_3 7 rfl rfl)
theorem dX0_lasts_80 : decode cX0_lasts 80 = .ok (.ireturn, 1) := dk_172 (dk_at dksX0_lasts_3 10 rfl rfl)
def dkwX0_between_4 : List UInt8 := [184, 0, 164, 153, 0, 7, 4, 167, 0, 4, 3, 96, 54, 4, 132, 5, 1, 167, 255, 203, 21, 4, 172]
abbrev dktX0_between_4 : List UInt8 := dkwX0_between_4 ++ []
def dkwX0_between_3 : List UInt8 := [21, 4, 42, 27, 182, 0, 172, 21, 5, 182, 1, 129, 133, 16, 101, 28, 96, 133, 16, 101, 29, 96, 133]
abbrev dktX0_between_3 : List UInt8 := dkwX0_between_3 ++ dktX0_between_4
def dkwX0_between_2 : List UInt8 := [158, 0, 5, 2, 172, 3, 54, 4, 3, 54, 5, 21, 5, 42, 27, 182, 0, 172, 182, 1, 88, 162, 0, 46]
abbrev dktX0_between_2 : List UInt8 := dkwX0_between_2 ++ dktX0_between_3
def dkwX0_between_1 : List UInt8 := [133, 20, 1, 148, 184, 0, 164, 153, 0, 7, 3, 167, 0, 4, 4, 181, 0, 73, 42, 180, 0, 73]
abbrev dktX0_between_1 : List UInt8 := dkwX0_between_1 ++ dktX0_between_2
def dkwX0_between_0 : List UInt8 := [42, 42, 27, 182, 0, 168, 153, 0, 32, 28, 133, 9, 20, 1, 148, 184, 0, 164, 153, 0, 20, 29, 133, 28]
abbrev dktX0_between_0 : List UInt8 := dkwX0_between_0 ++ dktX0_between_1
theorem dksX0_between_0 : cX0_between.data.toList.drop 0 = dktX0_between_0 := by decide +kernel
theorem dksX0_between_1 : cX0_between.data.toList.drop 24 = dktX0_between_1 := dk_seg dksX0_between_0 24 rfl rfl
theorem dksX0_between_2 : cX0_between.data.toList.drop 46 = dktX0_between_2 := dk_seg dksX0_between_1 22 rfl rfl
theorem dksX0_between_3 : cX0_between.data.toList.drop 70 = dktX0_between_3 := dk_seg dksX0_between_2 24 rfl rfl
theorem dksX0_between_4 : cX0_between.data.toList.drop 93 = dktX0_between_4 := dk_seg dksX0_between_3 23 rfl rfl
theorem dX0_between_0 : decode cX0_between 0 = .ok (.aload_n 0, 1) := dk_42 (dk_at dksX0_between_0 0 rfl rfl)
theorem dX0_between_1 : decode cX0_between 1 = .ok (.aload_n 0, 1) := dk_42 (dk_at dksX0_between_0 1 rfl rfl)
theorem dX0_between_2 : decode cX0_between 2 = .ok (.iload_n 1, 1) := dk_27 (dk_at dksX0_between_0 2 rfl rfl)
theorem dX0_between_3 : decode cX0_between 3 = .ok (.invokevirtual 168, 3) := dk_182 0 168 (dk_at dksX0_between_0 3 rfl rfl)
theorem dX0_between_6 : decode cX0_between 6 = .ok (.ifCond .eq 32, 3) := dk_153 0 32 (dk_at dksX0_between_0 6 rfl rfl)
theorem dX0_between_9 : decode cX0_between 9 = .ok (.iload_n 2, 1) := dk_28 (dk_at dksX0_between_0 9 rfl rfl)
theorem dX0_between_10 : decode cX0_between 10 = .ok (.i2l, 1) := dk_133 (dk_at dksX0_between_0 10 rfl rfl)
theorem dX0_between_11 : decode cX0_between 11 = .ok (.lconst 0, 1) := dk_9 (dk_at dksX0_between_0 11 rfl rfl)
theorem dX0_between_12 : decode cX0_between 12 = .ok (.ldc2_w 404, 3) := dk_20 1 148 (dk_at dksX0_between_0 12 rfl rfl)
theorem dX0_between_15 : decode cX0_between 15 = .ok (.invokestatic 164, 3) := dk_184 0 164 (dk_at dksX0_between_0 15 rfl rfl)
theorem dX0_between_18 : decode cX0_between 18 = .ok (.ifCond .eq 20, 3) := dk_153 0 20 (dk_at dksX0_between_0 18 rfl rfl)
theorem dX0_between_21 : decode cX0_between 21 = .ok (.iload_n 3, 1) := dk_29 (dk_at dksX0_between_0 21 rfl rfl)
theorem dX0_between_22 : decode cX0_between 22 = .ok (.i2l, 1) := dk_133 (dk_at dksX0_between_0 22 rfl rfl)
theorem dX0_between_23 : decode cX0_between 23 = .ok (.iload_n 2, 1) := dk_28 (dk_at dksX0_between_0 23 rfl rfl)
theorem dX0_between_24 : decode cX0_between 24 = .ok (.i2l, 1) := dk_133 (dk_at dksX0_between_1 0 rfl rfl)
theorem dX0_between_25 : decode cX0_between 25 = .ok (.ldc2_w 404, 3) := dk_20 1 148 (dk_at dksX0_between_1 1 rfl rfl)
theorem dX0_between_28 : decode cX0_between 28 = .ok (.invokestatic 164, 3) := dk_184 0 164 (dk_at dksX0_between_1 4 rfl rfl)
theorem dX0_between_31 : decode cX0_between 31 = .ok (.ifCond .eq 7, 3) := dk_153 0 7 (dk_at dksX0_between_1 7 rfl rfl)
theorem dX0_between_34 : decode cX0_between 34 = .ok (.iconst 0, 1) := dk_3 (dk_at dksX0_between_1 10 rfl rfl)
theorem dX0_between_35 : decode cX0_between 35 = .ok (.goto 4, 3) := dk_167 0 4 (dk_at dksX0_between_1 11 rfl rfl)
theorem dX0_between_38 : decode cX0_between 38 = .ok (.iconst 1, 1) := dk_4 (dk_at dksX0_between_1 14 rfl rfl)
theorem dX0_between_39 : decode cX0_between 39 = .ok (.putfield 73, 3) := dk_181 0 73 (dk_at dksX0_between_1 15 rfl rfl)
theorem dX0_between_42 : decode cX0_between 42 = .ok (.aload_n 0, 1) := dk_42 (dk_at dksX0_between_1 18 rfl rfl)
theorem dX0_between_43 : decode cX0_between 43 = .ok (.getfield 73, 3) := dk_180 0 73 (dk_at dksX0_between_1 19 rfl rfl)
theorem dX0_between_46 : decode cX0_between 46 = .ok (.ifCond .le 5, 3) := dk_158 0 5 (dk_at dksX0_between_2 0 rfl rfl)
theorem dX0_between_49 : decode cX0_between 49 = .ok (.iconst (-1), 1) := dk_2 (dk_at dksX0_between_2 3 rfl rfl)
theorem dX0_between_50 : decode cX0_between 50 = .ok (.ireturn, 1) := dk_172 (dk_at dksX0_between_2 4 rfl rfl)
theorem dX0_between_51 : decode cX0_between 51 = .ok (.iconst 0, 1) := dk_3 (dk_at dksX0_between_2 5 rfl rfl)
theorem dX0_between_52 : decode cX0_between 52 = .ok (.istore 4, 2) := dk_54 4 (dk_at dksX0_between_2 6 rfl rfl)
theorem dX0_between_54 : decode cX0_between 54 = .ok (.iconst 0, 1) := dk_3 (dk_at dksX0_between_2 8 rfl rfl)
theorem dX0_between_55 : decode cX0_between 55 = .ok (.istore 5, 2) := dk_54 5 (dk_at dksX0_between_2 9 rfl rfl)
theorem dX0_between_57 : decode cX0_between 57 = .ok (.iload 5, 2) := dk_21 5 (dk_at dksX0_between_2 11 rfl rfl)
theorem dX0_between_59 : decode cX0_between 59 = .ok (.aload_n 0, 1) := dk_42 (dk_at dksX0_between_2 13 rfl rfl)
theorem dX0_between_60 : decode cX0_between 60 = .ok (.iload_n 1, 1) := dk_27 (dk_at dksX0_between_2 14 rfl rfl)
theorem dX0_between_61 : decode cX0_between 61 = .ok (.invokevirtual 172, 3) := dk_182 0 172 (dk_at dksX0_between_2 15 rfl rfl)
theorem dX0_between_64 : decode cX0_between 64 = .ok (.invokevirtual 344, 3) := dk_182 1 88 (dk_at dksX0_between_2 18 rfl rfl)
theorem dX0_between_67 : decode cX0_between 67 = .ok (.if_icmp .ge 46, 3) := dk_162 0 46 (dk_at dksX0_between_2 21 rfl rfl)
theorem dX0_between_70 : decode cX0_between 70 = .ok (.iload 4, 2) := dk_21 4 (dk_at dksX0_between_3 0 rfl rfl)
theorem dX0_between_72 : decode cX0_between 72 = .ok (.aload_n 0, 1) := dk_42 (dk_at dksX0_between_3 2 rfl rfl)
theorem dX0_between_73 : decode cX0_between 73 = .ok (.iload_n 1, 1) := dk_27 (dk_at dksX0_between_3 3 rfl rfl)
theorem dX0_between_74 : decode cX0_between 74 = .ok (.invokevirtual 172, 3) := dk_182 0 172 (dk_at dksX0_between_3 4 rfl rfl)
theorem dX0_between_77 : decode cX0_between 77 = .ok (.iload 5, 2) := dk_21 5 (dk_at dksX0_between_3 7 rfl rfl)
theorem dX0_between_79 : decode cX0_between 79 = .ok (.invokevirtual 385, 3) := dk_182 1 129 (dk_at dksX0_between_3 9 rfl rfl)
theorem dX0_between_82 : decode cX0_between 82 = .ok (.i2l, 1) := dk_133 (dk_at dksX0_between_3 12 rfl rfl)
theorem dX0_between_83 : decode cX0_between 83 = .ok (.bipush 101, 2) := dk_16 101 (dk_at dksX0_between_3 13 rfl rfl)
theorem dX0_between_85 : decode cX0_between 85 = .ok (.iload_n 2, 1) := dk_28 (dk_at dksX0_between_3 15 rfl rfl)
theorem dX0_between_86 : decode cX0_between 86 = .ok (.iadd, 1) := dk_96 (dk_at dksX0_between_3 16 rfl rfl)
theorem dX0_between_87 : decode cX0_between 87 = .ok (.i2l, 1) := dk_133 (dk_at dksX0_between_3 17 rfl rfl)
theorem dX0_between_88 : decode cX0_between 88 = .ok (.bipush 101, 2) := dk_16 101 (dk_at dksX0_between_3 18 rfl rfl)
theorem dX0_between_90 : decode cX0_between 90 = .ok (.iload_n 3, 1) := dk_29 (dk_at dksX0_between_3 20 rfl rfl)
theorem dX0_between_91 : decode cX0_between 91 = .ok (.iadd, 1) := dk_96 (dk_at dksX0_between_3 21 rfl rfl)
theorem dX0_between_92 : decode cX0_between 92 = .ok (.i2l, 1) := dk_133 (dk_at dksX0_between_3 22 rfl rfl)
theorem dX0_between_93 : decode cX0_between 93 = .ok (.invokestatic 164, 3) := dk_184 0 164 (dk_at dksX0_between_4 0 rfl rfl)
theorem dX0_between_96 : decode cX0_between 96 = .ok (.ifCond .eq 7, 3) := dk_153 0 7 (dk_at dksX0_between_4 3 rfl rfl)
theorem dX0_between_99 : decode cX0_between 99 = .ok (.iconst 1, 1) := dk_4 (dk_at dksX0_between_4 6 rfl rfl)
theorem dX0_between_100 : decode cX0_between 100 = .ok (.goto 4, 3) := dk_167 0 4 (dk_at dksX0_between_4 7 rfl rfl)
theorem dX0_between_103 : decode cX0_between 103 = .ok (.iconst 0, 1) := dk_3 (dk_at dksX0_between_4 10 rfl rfl)
theorem dX0_between_104 : decode cX0_between 104 = .ok (.iadd, 1) := dk_96 (dk_at dksX0_between_4 11 rfl rfl)
theorem dX0_between_105 : decode cX0_between 105 = .ok (.istore 4, 2) := dk_54 4 (dk_at dksX0_between_4 12 rfl rfl)
theorem dX0_between_107 : decode cX0_between 107 = .ok (.iinc 5 1, 3) := dk_132 5 1 (dk_at dksX0_between_4 14 rfl rfl)
theorem dX0_between_110 : decode cX0_between 110 = .ok (.goto (-53), 3) := dk_167 255 203 (dk_at dksX0_between_4 17 rfl rfl)
theorem dX0_between_113 : decode cX0_between 113 = .ok (.iload 4, 2) := dk_21 4 (dk_at dksX0_between_4 20 rfl rfl)
theorem dX0_between_115 : decode cX0_between 115 = .ok (.ireturn, 1) := dk_172 (dk_at dksX0_between_4 22 rfl rfl)
def dkwX0_strongest_2 : List UInt8 := [164, 0, 5, 28, 60, 132, 2, 1, 167, 255, 206, 42, 27, 182, 1, 27, 172]
abbrev dktX0_strongest_2 : List UInt8 := dkwX0_strongest_2 ++ []
def dkwX0_strongest_1 : List UInt8 := [155, 0, 28, 27, 155, 0, 22, 42, 28, 182, 0, 172, 180, 1, 8, 42, 27, 182, 0, 172, 180, 1, 8]
abbrev dktX0_strongest_1 : List UInt8 := dkwX0_strongest_1 ++ dktX0_strongest_2
def dkwX0_strongest_0 : List UInt8 := [2, 60, 3, 61, 28, 42, 182, 0, 158, 180, 0, 161, 162, 0, 45, 42, 28, 182, 0, 172, 180, 1, 24]
abbrev dktX0_strongest_0 : List UInt8 := dkwX0_strongest_0 ++ dktX0_strongest_1
theorem dksX0_strongest_0 : cX0_strongest.data.toList.drop 0 = dktX0_strongest_0 := by decide +kernel
theorem dksX0_strongest_1 : cX0_strongest.data.toList.drop 23 = dktX0_strongest_1 := dk_seg dksX0_strongest_0 23 rfl rfl
theorem dksX0_strongest_2 : cX0_strongest.data.toList.drop 46 = dktX0_strongest_2 := dk_seg dksX0_strongest_1 23 rfl rfl
theorem dX0_strongest_0 : decode cX0_strongest 0 = .ok (.iconst (-1), 1) := dk_2 (dk_at dksX0_strongest_0 0 rfl rfl)
theorem dX0_strongest_1 : decode cX0_strongest 1 = .ok (.istore_n 1, 1) := dk_60 (dk_at dksX0_strongest_0 1 rfl rfl)
theorem dX0_strongest_2 : decode cX0_strongest 2 = .ok (.iconst 0, 1) := dk_3 (dk_at dksX0_strongest_0 2 rfl rfl)
theorem dX0_strongest_3 : decode cX0_strongest 3 = .ok (.istore_n 2, 1) := dk_61 (dk_at dksX0_strongest_0 3 rfl rfl)
theorem dX0_strongest_4 : decode cX0_strongest 4 = .ok (.iload_n 2, 1) := dk_28 (dk_at dksX0_strongest_0 4 rfl rfl)
theorem dX0_strongest_5 : decode cX0_strongest 5 = .ok (.aload_n 0, 1) := dk_42 (dk_at dksX0_strongest_0 5 rfl rfl)
theorem dX0_strongest_6 : decode cX0_strongest 6 = .ok (.invokevirtual 158, 3) := dk_182 0 158 (dk_at dksX0_strongest_0 6 rfl rfl)
theorem dX0_strongest_9 : decode cX0_strongest 9 = .ok (.getfield 161, 3) := dk_180 0 161 (dk_at dksX0_strongest_0 9 rfl rfl)
theorem dX0_strongest_12 : decode cX0_strongest 12 = .ok (.if_icmp .ge 45, 3) := dk_162 0 45 (dk_at dksX0_strongest_0 12 rfl rfl)
theorem dX0_strongest_15 : decode cX0_strongest 15 = .ok (.aload_n 0, 1) := dk_42 (dk_at dksX0_strongest_0 15 rfl rfl)
theorem dX0_strongest_16 : decode cX0_strongest 16 = .ok (.iload_n 2, 1) := dk_28 (dk_at dksX0_strongest_0 16 rfl rfl)
theorem dX0_strongest_17 : decode cX0_strongest 17 = .ok (.invokevirtual 172, 3) := dk_182 0 172 (dk_at dksX0_strongest_0 17 rfl rfl)
theorem dX0_strongest_20 : decode cX0_strongest 20 = .ok (.getfield 280, 3) := dk_180 1 24 (dk_at dksX0_strongest_0 20 rfl rfl)
theorem dX0_strongest_23 : decode cX0_strongest 23 = .ok (.ifCond .lt 28, 3) := dk_155 0 28 (dk_at dksX0_strongest_1 0 rfl rfl)
theorem dX0_strongest_26 : decode cX0_strongest 26 = .ok (.iload_n 1, 1) := dk_27 (dk_at dksX0_strongest_1 3 rfl rfl)
theorem dX0_strongest_27 : decode cX0_strongest 27 = .ok (.ifCond .lt 22, 3) := dk_155 0 22 (dk_at dksX0_strongest_1 4 rfl rfl)
theorem dX0_strongest_30 : decode cX0_strongest 30 = .ok (.aload_n 0, 1) := dk_42 (dk_at dksX0_strongest_1 7 rfl rfl)
theorem dX0_strongest_31 : decode cX0_strongest 31 = .ok (.iload_n 2, 1) := dk_28 (dk_at dksX0_strongest_1 8 rfl rfl)
theorem dX0_strongest_32 : decode cX0_strongest 32 = .ok (.invokevirtual 172, 3) := dk_182 0 172 (dk_at dksX0_strongest_1 9 rfl rfl)
theorem dX0_strongest_35 : decode cX0_strongest 35 = .ok (.getfield 264, 3) := dk_180 1 8 (dk_at dksX0_strongest_1 12 rfl rfl)
theorem dX0_strongest_38 : decode cX0_strongest 38 = .ok (.aload_n 0, 1) := dk_42 (dk_at dksX0_strongest_1 15 rfl rfl)
theorem dX0_strongest_39 : decode cX0_strongest 39 = .ok (.iload_n 1, 1) := dk_27 (dk_at dksX0_strongest_1 16 rfl rfl)
theorem dX0_strongest_40 : decode cX0_strongest 40 = .ok (.invokevirtual 172, 3) := dk_182 0 172 (dk_at dksX0_strongest_1 17 rfl rfl)
theorem dX0_strongest_43 : decode cX0_strongest 43 = .ok (.getfield 264, 3) := dk_180 1 8 (dk_at dksX0_strongest_1 20 rfl rfl)
theorem dX0_strongest_46 : decode cX0_strongest 46 = .ok (.if_icmp .le 5, 3) := dk_164 0 5 (dk_at dksX0_strongest_2 0 rfl rfl)
theorem dX0_strongest_49 : decode cX0_strongest 49 = .ok (.iload_n 2, 1) := dk_28 (dk_at dksX0_strongest_2 3 rfl rfl)
theorem dX0_strongest_50 : decode cX0_strongest 50 = .ok (.istore_n 1, 1) := dk_60 (dk_at dksX0_strongest_2 4 rfl rfl)
theorem dX0_strongest_51 : decode cX0_strongest 51 = .ok (.iinc 2 1, 3) := dk_132 2 1 (dk_at dksX0_strongest_2 5 rfl rfl)
theorem dX0_strongest_54 : decode cX0_strongest 54 = .ok (.goto (-50), 3) := dk_167 255 206 (dk_at dksX0_strongest_2 8 rfl rfl)
theorem dX0_strongest_57 : decode cX0_strongest 57 = .ok (.aload_n 0, 1) := dk_42 (dk_at dksX0_strongest_2 11 rfl rfl)
theorem dX0_strongest_58 : decode cX0_strongest 58 = .ok (.iload_n 1, 1) := dk_27 (dk_at dksX0_strongest_2 12 rfl rfl)
theorem dX0_strongest_59 : decode cX0_strongest 59 = .ok (.invokevirtual 283, 3) := dk_182 1 27 (dk_at dksX0_strongest_2 13 rfl rfl)
theorem dX0_strongest_62 : decode cX0_strongest 62 = .ok (.ireturn, 1) := dk_172 (dk_at dksX0_strongest_2 16 rfl rfl)
def dkwX0_frame_4 : List UInt8 := [160, 0, 7, 4, 167, 0, 4, 3, 96, 54, 4, 132, 5, 1, 167, 255, 195, 21, 4, 172]
abbrev dktX0_frame_4 : List UInt8 := dkwX0_frame_4 ++ []
def dkwX0_frame_3 : List UInt8 := [21, 6, 154, 0, 7, 3, 167, 0, 16, 21, 6, 184, 1, 134, 153, 0, 7, 4, 167, 0, 4, 5]
abbrev dktX0_frame_3 : List UInt8 := dkwX0_frame_3 ++ dktX0_frame_4
def dkwX0_frame_2 : List UInt8 := [16, 16, 162, 0, 60, 42, 27, 182, 0, 172, 180, 0, 176, 28, 50, 21, 5, 53, 54, 6, 21, 4, 29]
abbrev dktX0_frame_2 : List UInt8 := dkwX0_frame_2 ++ dktX0_frame_3
def dkwX0_frame_1 : List UInt8 := [167, 0, 4, 4, 181, 0, 73, 42, 180, 0, 73, 158, 0, 5, 2, 172, 3, 54, 4, 3, 54, 5, 21, 5]
abbrev dktX0_frame_1 : List UInt8 := dkwX0_frame_1 ++ dktX0_frame_2
def dkwX0_frame_0 : List UInt8 := [42, 42, 27, 28, 182, 1, 45, 153, 0, 19, 29, 133, 9, 20, 1, 34, 184, 0, 164, 153, 0, 7, 3]
abbrev dktX0_frame_0 : List UInt8 := dkwX0_frame_0 ++ dktX0_frame_1
theorem dksX0_frame_0 : cX0_frame.data.toList.drop 0 = dktX0_frame_0 := by decide +kernel
theorem dksX0_frame_1 : cX0_frame.data.toList.drop 23 = dktX0_frame_1 := dk_seg dksX0_frame_0 23 rfl rfl
theorem dksX0_frame_2 : cX0_frame.data.toList.drop 47 = dktX0_frame_2 := dk_seg dksX0_frame_1 24 rfl rfl
theorem dksX0_frame_3 : cX0_frame.data.toList.drop 70 = dktX0_frame_3 := dk_seg dksX0_frame_2 23 rfl rfl
theorem dksX0_frame_4 : cX0_frame.data.toList.drop 92 = dktX0_frame_4 := dk_seg dksX0_frame_3 22 rfl rfl
theorem dX0_frame_0 : decode cX0_frame 0 = .ok (.aload_n 0, 1) := dk_42 (dk_at dksX0_frame_0 0 rfl rfl)
theorem dX0_frame_1 : decode cX0_frame 1 = .ok (.aload_n 0, 1) := dk_42 (dk_at dksX0_frame_0 1 rfl rfl)
theorem dX0_frame_2 : decode cX0_frame 2 = .ok (.iload_n 1, 1) := dk_27 (dk_at dksX0_frame_0 2 rfl rfl)
theorem dX0_frame_3 : decode cX0_frame 3 = .ok (.iload_n 2, 1) := dk_28 (dk_at dksX0_frame_0 3 rfl rfl)
theorem dX0_frame_4 : decode cX0_frame 4 = .ok (.invokevirtual 301, 3) := dk_182 1 45 (dk_at dksX0_frame_0 4 rfl rfl)
theorem dX0_frame_7 : decode cX0_frame 7 = .ok (.ifCond .eq 19, 3) := dk_153 0 19 (dk_at dksX0_frame_0 7 rfl rfl)
theorem dX0_frame_10 : decode cX0_frame 10 = .ok (.iload_n 3, 1) := dk_29 (dk_at dksX0_frame_0 10 rfl rfl)
theorem dX0_frame_11 : decode cX0_frame 11 = .ok (.i2l, 1) := dk_133 (dk_at dksX0_frame_0 11 rfl rfl)
theorem dX0_frame_12 : decode cX0_frame 12 = .ok (.lconst 0, 1) := dk_9 (dk_at dksX0_frame_0 12 rfl rfl)
theorem dX0_frame_13 : decode cX0_frame 13 = .ok (.ldc2_w 290, 3) := dk_20 1 34 (dk_at dksX0_frame_0 13 rfl rfl)
theorem dX0_frame_16 : decode cX0_frame 16 = .ok (.invokestatic 164, 3) := dk_184 0 164 (dk_at dksX0_frame_0 16 rfl rfl)
theorem dX0_frame_19 : decode cX0_frame 19 = .ok (.ifCond .eq 7, 3) := dk_153 0 7 (dk_at dksX0_frame_0 19 rfl rfl)
theorem dX0_frame_22 : decode cX0_frame 22 = .ok (.iconst 0, 1) := dk_3 (dk_at dksX0_frame_0 22 rfl rfl)
theorem dX0_frame_23 : decode cX0_frame 23 = .ok (.goto 4, 3) := dk_167 0 4 (dk_at dksX0_frame_1 0 rfl rfl)
theorem dX0_frame_26 : decode cX0_frame 26 = .ok (.iconst 1, 1) := dk_4 (dk_at dksX0_frame_1 3 rfl rfl)
theorem dX0_frame_27 : decode cX0_frame 27 = .ok (.putfield 73, 3) := dk_181 0 73 (dk_at dksX0_frame_1 4 rfl rfl)
theorem dX0_frame_30 : decode cX0_frame 30 = .ok (.aload_n 0, 1) := dk_42 (dk_at dksX0_frame_1 7 rfl rfl)
theorem dX0_frame_31 : decode cX0_frame 31 = .ok (.getfield 73, 3) := dk_180 0 73 (dk_at dksX0_frame_1 8 rfl rfl)
theorem dX0_frame_34 : decode cX0_frame 34 = .ok (.ifCond .le 5, 3) := dk_158 0 5 (dk_at dksX0_frame_1 11 rfl rfl)
theorem dX0_frame_37 : decode cX0_frame 37 = .ok (.iconst (-1), 1) := dk_2 (dk_at dksX0_frame_1 14 rfl rfl)
theorem dX0_frame_38 : decode cX0_frame 38 = .ok (.ireturn, 1) := dk_172 (dk_at dksX0_frame_1 15 rfl rfl)
theorem dX0_frame_39 : decode cX0_frame 39 = .ok (.iconst 0, 1) := dk_3 (dk_at dksX0_frame_1 16 rfl rfl)
theorem dX0_frame_40 : decode cX0_frame 40 = .ok (.istore 4, 2) := dk_54 4 (dk_at dksX0_frame_1 17 rfl rfl)
theorem dX0_frame_42 : decode cX0_frame 42 = .ok (.iconst 0, 1) := dk_3 (dk_at dksX0_frame_1 19 rfl rfl)
theorem dX0_frame_43 : decode cX0_frame 43 = .ok (.istore 5, 2) := dk_54 5 (dk_at dksX0_frame_1 20 rfl rfl)
theorem dX0_frame_45 : decode cX0_frame 45 = .ok (.iload 5, 2) := dk_21 5 (dk_at dksX0_frame_1 22 rfl rfl)
theorem dX0_frame_47 : decode cX0_frame 47 = .ok (.bipush 16, 2) := dk_16 16 (dk_at dksX0_frame_2 0 rfl rfl)
theorem dX0_frame_49 : decode cX0_frame 49 = .ok (.if_icmp .ge 60, 3) := dk_162 0 60 (dk_at dksX0_frame_2 2 rfl rfl)
theorem dX0_frame_52 : decode cX0_frame 52 = .ok (.aload_n 0, 1) := dk_42 (dk_at dksX0_frame_2 5 rfl rfl)
theorem dX0_frame_53 : decode cX0_frame 53 = .ok (.iload_n 1, 1) := dk_27 (dk_at dksX0_frame_2 6 rfl rfl)
theorem dX0_frame_54 : decode cX0_frame 54 = .ok (.invokevirtual 172, 3) := dk_182 0 172 (dk_at dksX0_frame_2 7 rfl rfl)
theorem dX0_frame_57 : decode cX0_frame 57 = .ok (.getfield 176, 3) := dk_180 0 176 (dk_at dksX0_frame_2 10 rfl rfl)
theorem dX0_frame_60 : decode cX0_frame 60 = .ok (.iload_n 2, 1) := dk_28 (dk_at dksX0_frame_2 13 rfl rfl)
theorem dX0_frame_61 : decode cX0_frame 61 = .ok (.aaload, 1) := dk_50 (dk_at dksX0_frame_2 14 rfl rfl)
theorem dX0_frame_62 : decode cX0_frame 62 = .ok (.iload 5, 2) := dk_21 5 (dk_at dksX0_frame_2 15 rfl rfl)
theorem dX0_frame_64 : decode cX0_frame 64 = .ok (.saload, 1) := dk_53 (dk_at dksX0_frame_2 17 rfl rfl)
theorem dX0_frame_65 : decode cX0_frame 65 = .ok (.istore 6, 2) := dk_54 6 (dk_at dksX0_frame_2 18 rfl rfl)
theorem dX0_frame_67 : decode cX0_frame 67 = .ok (.iload 4, 2) := dk_21 4 (dk_at dksX0_frame_2 20 rfl rfl)
theorem dX0_frame_69 : decode cX0_frame 69 = .ok (.iload_n 3, 1) := dk_29 (dk_at dksX0_frame_2 22 rfl rfl)
theorem dX0_frame_70 : decode cX0_frame 70 = .ok (.iload 6, 2) := dk_21 6 (dk_at dksX0_frame_3 0 rfl rfl)
theorem dX0_frame_72 : decode cX0_frame 72 = .ok (.ifCond .ne 7, 3) := dk_154 0 7 (dk_at dksX0_frame_3 2 rfl rfl)
theorem dX0_frame_75 : decode cX0_frame 75 = .ok (.iconst 0, 1) := dk_3 (dk_at dksX0_frame_3 5 rfl rfl)
theorem dX0_frame_76 : decode cX0_frame 76 = .ok (.goto 16, 3) := dk_167 0 16 (dk_at dksX0_frame_3 6 rfl rfl)
theorem dX0_frame_79 : decode cX0_frame 79 = .ok (.iload 6, 2) := dk_21 6 (dk_at dksX0_frame_3 9 rfl rfl)
theorem dX0_frame_81 : decode cX0_frame 81 = .ok (.invokestatic 390, 3) := dk_184 1 134 (dk_at dksX0_frame_3 11 rfl rfl)
theorem dX0_frame_84 : decode cX0_frame 84 = .ok (.ifCond .eq 7, 3) := dk_153 0 7 (dk_at dksX0_frame_3 14 rfl rfl)
theorem dX0_frame_87 : decode cX0_frame 87 = .ok (.iconst 1, 1) := dk_4 (dk_at dksX0_frame_3 17 rfl rfl)
theorem dX0_frame_88 : decode cX0_frame 88 = .ok (.goto 4, 3) := dk_167 0 4 (dk_at dksX0_frame_3 18 rfl rfl)
theorem dX0_frame_91 : decode cX0_frame 91 = .ok (.iconst 2, 1) := dk_5 (dk_at dksX0_frame_3 21 rfl rfl)
theorem dX0_frame_92 : decode cX0_frame 92 = .ok (.if_icmp .ne 7, 3) := dk_160 0 7 (dk_at dksX0_frame_4 0 rfl rfl)
theorem dX0_frame_95 : decode cX0_frame 95 = .ok (.iconst 1, 1) := dk_4 (dk_at dksX0_frame_4 3 rfl rfl)
theorem dX0_frame_96 : decode cX0_frame 96 = .ok (.goto 4, 3) := dk_167 0 4 (dk_at dksX0_frame_4 4 rfl rfl)
theorem dX0_frame_99 : decode cX0_frame 99 = .ok (.iconst 0, 1) := dk_3 (dk_at dksX0_frame_4 7 rfl rfl)
theorem dX0_frame_100 : decode cX0_frame 100 = .ok (.iadd, 1) := dk_96 (dk_at dksX0_frame_4 8 rfl rfl)
theorem dX0_frame_101 : decode cX0_frame 101 = .ok (.istore 4, 2) := dk_54 4 (dk_at dksX0_frame_4 9 rfl rfl)
theorem dX0_frame_103 : decode cX0_frame 103 = .ok (.iinc 5 1, 3) := dk_132 5 1 (dk_at dksX0_frame_4 11 rfl rfl)
theorem dX0_frame_106 : decode cX0_frame 106 = .ok (.goto (-61), 3) := dk_167 255 195 (dk_at dksX0_frame_4 14 rfl rfl)
theorem dX0_frame_109 : decode cX0_frame 109 = .ok (.iload 4, 2) := dk_21 4 (dk_at dksX0_frame_4 17 rfl rfl)
theorem dX0_frame_111 : decode cX0_frame 111 = .ok (.ireturn, 1) := dk_172 (dk_at dksX0_frame_4 19 rfl rfl)
def dkwX0_even_6 : List UInt8 := [184, 1, 91, 100, 172]
abbrev dktX0_even_6 : List UInt8 := dkwX0_even_6 ++ []
def dkwX0_even_5 : List UInt8 := [3, 96, 54, 4, 132, 5, 1, 167, 255, 200, 29, 21, 4, 27, 42, 182, 0, 158, 180, 0, 161, 112]
abbrev dktX0_even_5 : List UInt8 := dkwX0_even_5 ++ dktX0_even_6
def dkwX0_even_4 : List UInt8 := [184, 1, 131, 96, 62, 21, 4, 42, 21, 5, 182, 0, 172, 182, 1, 11, 28, 164, 0, 7, 4, 167, 0, 4]
abbrev dktX0_even_4 : List UInt8 := dkwX0_even_4 ++ dktX0_even_5
def dkwX0_even_3 : List UInt8 := [182, 0, 158, 180, 0, 161, 162, 0, 50, 29, 3, 42, 21, 5, 182, 0, 172, 182, 1, 11, 28, 100]
abbrev dktX0_even_3 : List UInt8 := dkwX0_even_3 ++ dktX0_even_4
def dkwX0_even_2 : List UInt8 := [3, 172, 27, 42, 182, 0, 158, 180, 0, 161, 108, 61, 3, 62, 3, 54, 4, 3, 54, 5, 21, 5, 42]
abbrev dktX0_even_2 : List UInt8 := dkwX0_even_2 ++ dktX0_even_3
def dkwX0_even_1 : List UInt8 := [182, 0, 172, 182, 1, 11, 96, 60, 132, 2, 1, 167, 255, 231, 42, 182, 0, 158, 180, 0, 161, 154, 0, 5]
abbrev dktX0_even_1 : List UInt8 := dkwX0_even_1 ++ dktX0_even_2
def dkwX0_even_0 : List UInt8 := [42, 3, 181, 0, 73, 3, 60, 3, 61, 28, 42, 182, 0, 158, 180, 0, 161, 162, 0, 20, 27, 42, 28]
abbrev dktX0_even_0 : List UInt8 := dkwX0_even_0 ++ dktX0_even_1
theorem dksX0_even_0 : cX0_even.data.toList.drop 0 = dktX0_even_0 := by decide +kernel
theorem dksX0_even_1 : cX0_even.data.toList.drop 23 = dktX0_even_1 := dk_seg dksX0_even_0 23 rfl rfl
theorem dksX0_even_2 : cX0_even.data.toList.drop 47 = dktX0_even_2 := dk_seg dksX0_even_1 24 rfl rfl
theorem dksX0_even_3 : cX0_even.data.toList.drop 70 = dktX0_even_3 := dk_seg dksX0_even_2 23 rfl rfl
theorem dksX0_even_4 : cX0_even.data.toList.drop 92 = dktX0_even_4 := dk_seg dksX0_even_3 22 rfl rfl
theorem dksX0_even_5 : cX0_even.data.toList.drop 116 = dktX0_even_5 := dk_seg dksX0_even_4 24 rfl rfl
theorem dksX0_even_6 : cX0_even.data.toList.drop 138 = dktX0_even_6 := dk_seg dksX0_even_5 22 rfl rfl
theorem dX0_even_0 : decode cX0_even 0 = .ok (.aload_n 0, 1) := dk_42 (dk_at dksX0_even_0 0 rfl rfl)
theorem dX0_even_1 : decode cX0_even 1 = .ok (.iconst 0, 1) := dk_3 (dk_at dksX0_even_0 1 rfl rfl)
theorem dX0_even_2 : decode cX0_even 2 = .ok (.putfield 73, 3) := dk_181 0 73 (dk_at dksX0_even_0 2 rfl rfl)
theorem dX0_even_5 : decode cX0_even 5 = .ok (.iconst 0, 1) := dk_3 (dk_at dksX0_even_0 5 rfl rfl)
theorem dX0_even_6 : decode cX0_even 6 = .ok (.istore_n 1, 1) := dk_60 (dk_at dksX0_even_0 6 rfl rfl)
theorem dX0_even_7 : decode cX0_even 7 = .ok (.iconst 0, 1) := dk_3 (dk_at dksX0_even_0 7 rfl rfl)
theorem dX0_even_8 : decode cX0_even 8 = .ok (.istore_n 2, 1) := dk_61 (dk_at dksX0_even_0 8 rfl rfl)
theorem dX0_even_9 : decode cX0_even 9 = .ok (.iload_n 2, 1) := dk_28 (dk_at dksX0_even_0 9 rfl rfl)
theorem dX0_even_10 : decode cX0_even 10 = .ok (.aload_n 0, 1) := dk_42 (dk_at dksX0_even_0 10 rfl rfl)
theorem dX0_even_11 : decode cX0_even 11 = .ok (.invokevirtual 158, 3) := dk_182 0 158 (dk_at dksX0_even_0 11 rfl rfl)
theorem dX0_even_14 : decode cX0_even 14 = .ok (.getfield 161, 3) := dk_180 0 161 (dk_at dksX0_even_0 14 rfl rfl)
theorem dX0_even_17 : decode cX0_even 17 = .ok (.if_icmp .ge 20, 3) := dk_162 0 20 (dk_at dksX0_even_0 17 rfl rfl)
theorem dX0_even_20 : decode cX0_even 20 = .ok (.iload_n 1, 1) := dk_27 (dk_at dksX0_even_0 20 rfl rfl)
theorem dX0_even_21 : decode cX0_even 21 = .ok (.aload_n 0, 1) := dk_42 (dk_at dksX0_even_0 21 rfl rfl)
theorem dX0_even_22 : decode cX0_even 22 = .ok (.iload_n 2, 1) := dk_28 (dk_at dksX0_even_0 22 rfl rfl)
theorem dX0_even_23 : decode cX0_even 23 = .ok (.invokevirtual 172, 3) := dk_182 0 172 (dk_at dksX0_even_1 0 rfl rfl)
theorem dX0_even_26 : decode cX0_even 26 = .ok (.invokevirtual 267, 3) := dk_182 1 11 (dk_at dksX0_even_1 3 rfl rfl)
theorem dX0_even_29 : decode cX0_even 29 = .ok (.iadd, 1) := dk_96 (dk_at dksX0_even_1 6 rfl rfl)
theorem dX0_even_30 : decode cX0_even 30 = .ok (.istore_n 1, 1) := dk_60 (dk_at dksX0_even_1 7 rfl rfl)
theorem dX0_even_31 : decode cX0_even 31 = .ok (.iinc 2 1, 3) := dk_132 2 1 (dk_at dksX0_even_1 8 rfl rfl)
theorem dX0_even_34 : decode cX0_even 34 = .ok (.goto (-25), 3) := dk_167 255 231 (dk_at dksX0_even_1 11 rfl rfl)
theorem dX0_even_37 : decode cX0_even 37 = .ok (.aload_n 0, 1) := dk_42 (dk_at dksX0_even_1 14 rfl rfl)
theorem dX0_even_38 : decode cX0_even 38 = .ok (.invokevirtual 158, 3) := dk_182 0 158 (dk_at dksX0_even_1 15 rfl rfl)
theorem dX0_even_41 : decode cX0_even 41 = .ok (.getfield 161, 3) := dk_180 0 161 (dk_at dksX0_even_1 18 rfl rfl)
theorem dX0_even_44 : decode cX0_even 44 = .ok (.ifCond .ne 5, 3) := dk_154 0 5 (dk_at dksX0_even_1 21 rfl rfl)
theorem dX0_even_47 : decode cX0_even 47 = .ok (.iconst 0, 1) := dk_3 (dk_at dksX0_even_2 0 rfl rfl)
theorem dX0_even_48 : decode cX0_even 48 = .ok (.ireturn, 1) := dk_172 (dk_at dksX0_even_2 1 rfl rfl)
theorem dX0_even_49 : decode cX0_even 49 = .ok (.iload_n 1, 1) := dk_27 (dk_at dksX0_even_2 2 rfl rfl)
theorem dX0_even_50 : decode cX0_even 50 = .ok (.aload_n 0, 1) := dk_42 (dk_at dksX0_even_2 3 rfl rfl)
theorem dX0_even_51 : decode cX0_even 51 = .ok (.invokevirtual 158, 3) := dk_182 0 158 (dk_at dksX0_even_2 4 rfl rfl)
theorem dX0_even_54 : decode cX0_even 54 = .ok (.getfield 161, 3) := dk_180 0 161 (dk_at dksX0_even_2 7 rfl rfl)
theorem dX0_even_57 : decode cX0_even 57 = .ok (.idiv, 1) := dk_108 (dk_at dksX0_even_2 10 rfl rfl)
theorem dX0_even_58 : decode cX0_even 58 = .ok (.istore_n 2, 1) := dk_61 (dk_at dksX0_even_2 11 rfl rfl)
theorem dX0_even_59 : decode cX0_even 59 = .ok (.iconst 0, 1) := dk_3 (dk_at dksX0_even_2 12 rfl rfl)
theorem dX0_even_60 : decode cX0_even 60 = .ok (.istore_n 3, 1) := dk_62 (dk_at dksX0_even_2 13 rfl rfl)
theorem dX0_even_61 : decode cX0_even 61 = .ok (.iconst 0, 1) := dk_3 (dk_at dksX0_even_2 14 rfl rfl)
theorem dX0_even_62 : decode cX0_even 62 = .ok (.istore 4, 2) := dk_54 4 (dk_at dksX0_even_2 15 rfl rfl)
theorem dX0_even_64 : decode cX0_even 64 = .ok (.iconst 0, 1) := dk_3 (dk_at dksX0_even_2 17 rfl rfl)
theorem dX0_even_65 : decode cX0_even 65 = .ok (.istore 5, 2) := dk_54 5 (dk_at dksX0_even_2 18 rfl rfl)
theorem dX0_even_67 : decode cX0_even 67 = .ok (.iload 5, 2) := dk_21 5 (dk_at dksX0_even_2 20 rfl rfl)
theorem dX0_even_69 : decode cX0_even 69 = .ok (.aload_n 0, 1) := dk_42 (dk_at dksX0_even_2 22 rfl rfl)
theorem dX0_even_70 : decode cX0_even 70 = .ok (.invokevirtual 158, 3) := dk_182 0 158 (dk_at dksX0_even_3 0 rfl rfl)
theorem dX0_even_73 : decode cX0_even 73 = .ok (.getfield 161, 3) := dk_180 0 161 (dk_at dksX0_even_3 3 rfl rfl)
theorem dX0_even_76 : decode cX0_even 76 = .ok (.if_icmp .ge 50, 3) := dk_162 0 50 (dk_at dksX0_even_3 6 rfl rfl)
theorem dX0_even_79 : decode cX0_even 79 = .ok (.iload_n 3, 1) := dk_29 (dk_at dksX0_even_3 9 rfl rfl)
theorem dX0_even_80 : decode cX0_even 80 = .ok (.iconst 0, 1) := dk_3 (dk_at dksX0_even_3 10 rfl rfl)
theorem dX0_even_81 : decode cX0_even 81 = .ok (.aload_n 0, 1) := dk_42 (dk_at dksX0_even_3 11 rfl rfl)
theorem dX0_even_82 : decode cX0_even 82 = .ok (.iload 5, 2) := dk_21 5 (dk_at dksX0_even_3 12 rfl rfl)
theorem dX0_even_84 : decode cX0_even 84 = .ok (.invokevirtual 172, 3) := dk_182 0 172 (dk_at dksX0_even_3 14 rfl rfl)
theorem dX0_even_87 : decode cX0_even 87 = .ok (.invokevirtual 267, 3) := dk_182 1 11 (dk_at dksX0_even_3 17 rfl rfl)
theorem dX0_even_90 : decode cX0_even 90 = .ok (.iload_n 2, 1) := dk_28 (dk_at dksX0_even_3 20 rfl rfl)
theorem dX0_even_91 : decode cX0_even 91 = .ok (.isub, 1) := dk_100 (dk_at dksX0_even_3 21 rfl rfl)
theorem dX0_even_92 : decode cX0_even 92 = .ok (.invokestatic 387, 3) := dk_184 1 131 (dk_at dksX0_even_4 0 rfl rfl)
theorem dX0_even_95 : decode cX0_even 95 = .ok (.iadd, 1) := dk_96 (dk_at dksX0_even_4 3 rfl rfl)
theorem dX0_even_96 : decode cX0_even 96 = .ok (.istore_n 3, 1) := dk_62 (dk_at dksX0_even_4 4 rfl rfl)
theorem dX0_even_97 : decode cX0_even 97 = .ok (.iload 4, 2) := dk_21 4 (dk_at dksX0_even_4 5 rfl rfl)
theorem dX0_even_99 : decode cX0_even 99 = .ok (.aload_n 0, 1) := dk_42 (dk_at dksX0_even_4 7 rfl rfl)
theorem dX0_even_100 : decode cX0_even 100 = .ok (.iload 5, 2) := dk_21 5 (dk_at dksX0_even_4 8 rfl rfl)
theorem dX0_even_102 : decode cX0_even 102 = .ok (.invokevirtual 172, 3) := dk_182 0 172 (dk_at dksX0_even_4 10 rfl rfl)
theorem dX0_even_105 : decode cX0_even 105 = .ok (.invokevirtual 267, 3) := dk_182 1 11 (dk_at dksX0_even_4 13 rfl rfl)
theorem dX0_even_108 : decode cX0_even 108 = .ok (.iload_n 2, 1) := dk_28 (dk_at dksX0_even_4 16 rfl rfl)
theorem dX0_even_109 : decode cX0_even 109 = .ok (.if_icmp .le 7, 3) := dk_164 0 7 (dk_at dksX0_even_4 17 rfl rfl)
theorem dX0_even_112 : decode cX0_even 112 = .ok (.iconst 1, 1) := dk_4 (dk_at dksX0_even_4 20 rfl rfl)
theorem dX0_even_113 : decode cX0_even 113 = .ok (.goto 4, 3) := dk_167 0 4 (dk_at dksX0_even_4 21 rfl rfl)
theorem dX0_even_116 : decode cX0_even 116 = .ok (.iconst 0, 1) := dk_3 (dk_at dksX0_even_5 0 rfl rfl)
theorem dX0_even_117 : decode cX0_even 117 = .ok (.iadd, 1) := dk_96 (dk_at dksX0_even_5 1 rfl rfl)
theorem dX0_even_118 : decode cX0_even 118 = .ok (.istore 4, 2) := dk_54 4 (dk_at dksX0_even_5 2 rfl rfl)
theorem dX0_even_120 : decode cX0_even 120 = .ok (.iinc 5 1, 3) := dk_132 5 1 (dk_at dksX0_even_5 4 rfl rfl)
theorem dX0_even_123 : decode cX0_even 123 = .ok (.goto (-56), 3) := dk_167 255 200 (dk_at dksX0_even_5 7 rfl rfl)
theorem dX0_even_126 : decode cX0_even 126 = .ok (.iload_n 3, 1) := dk_29 (dk_at dksX0_even_5 10 rfl rfl)
theorem dX0_even_127 : decode cX0_even 127 = .ok (.iload 4, 2) := dk_21 4 (dk_at dksX0_even_5 11 rfl rfl)
theorem dX0_even_129 : decode cX0_even 129 = .ok (.iload_n 1, 1) := dk_27 (dk_at dksX0_even_5 13 rfl rfl)
theorem dX0_even_130 : decode cX0_even 130 = .ok (.aload_n 0, 1) := dk_42 (dk_at dksX0_even_5 14 rfl rfl)
theorem dX0_even_131 : decode cX0_even 131 = .ok (.invokevirtual 158, 3) := dk_182 0 158 (dk_at dksX0_even_5 15 rfl rfl)
theorem dX0_even_134 : decode cX0_even 134 = .ok (.getfield 161, 3) := dk_180 0 161 (dk_at dksX0_even_5 18 rfl rfl)
theorem dX0_even_137 : decode cX0_even 137 = .ok (.irem, 1) := dk_112 (dk_at dksX0_even_5 21 rfl rfl)
theorem dX0_even_138 : decode cX0_even 138 = .ok (.invokestatic 347, 3) := dk_184 1 91 (dk_at dksX0_even_6 0 rfl rfl)
theorem dX0_even_141 : decode cX0_even 141 = .ok (.isub, 1) := dk_100 (dk_at dksX0_even_6 3 rfl rfl)
theorem dX0_even_142 : decode cX0_even 142 = .ok (.ireturn, 1) := dk_172 (dk_at dksX0_even_6 4 rfl rfl)
def dkwX0_sample_4 : List UInt8 := [181, 1, 155, 42, 27, 182, 0, 172, 180, 1, 152, 172]
abbrev dktX0_sample_4 : List UInt8 := dkwX0_sample_4 ++ []
def dkwX0_sample_3 : List UInt8 := [27, 182, 0, 172, 89, 180, 1, 152, 28, 96, 181, 1, 152, 42, 27, 182, 0, 172, 89, 180, 1, 155, 29, 96]
abbrev dktX0_sample_3 : List UInt8 := dkwX0_sample_3 ++ dktX0_sample_4
def dkwX0_sample_2 : List UInt8 := [19, 1, 94, 164, 0, 7, 7, 167, 0, 4, 3, 181, 0, 73, 42, 180, 0, 73, 158, 0, 5, 2, 172, 42]
abbrev dktX0_sample_2 : List UInt8 := dkwX0_sample_2 ++ dktX0_sample_3
def dkwX0_sample_1 : List UInt8 := [20, 1, 72, 184, 0, 164, 154, 0, 7, 4, 167, 0, 24, 42, 27, 182, 0, 172, 180, 1, 152, 28, 96]
abbrev dktX0_sample_1 : List UInt8 := dkwX0_sample_1 ++ dktX0_sample_2
def dkwX0_sample_0 : List UInt8 := [42, 42, 27, 182, 0, 168, 153, 0, 27, 28, 133, 10, 20, 1, 150, 184, 0, 164, 153, 0, 15, 29, 133, 9]
abbrev dktX0_sample_0 : List UInt8 := dkwX0_sample_0 ++ dktX0_sample_1
theorem dksX0_sample_0 : cX0_sample.data.toList.drop 0 = dktX0_sample_0 := by decide +kernel
theorem dksX0_sample_1 : cX0_sample.data.toList.drop 24 = dktX0_sample_1 := dk_seg dksX0_sample_0 24 rfl rfl
theorem dksX0_sample_2 : cX0_sample.data.toList.drop 47 = dktX0_sample_2 := dk_seg dksX0_sample_1 23 rfl rfl
theorem dksX0_sample_3 : cX0_sample.data.toList.drop 71 = dktX0_sample_3 := dk_seg dksX0_sample_2 24 rfl rfl
theorem dksX0_sample_4 : cX0_sample.data.toList.drop 95 = dktX0_sample_4 := dk_seg dksX0_sample_3 24 rfl rfl
theorem dX0_sample_0 : decode cX0_sample 0 = .ok (.aload_n 0, 1) := dk_42 (dk_at dksX0_sample_0 0 rfl rfl)
theorem dX0_sample_1 : decode cX0_sample 1 = .ok (.aload_n 0, 1) := dk_42 (dk_at dksX0_sample_0 1 rfl rfl)
theorem dX0_sample_2 : decode cX0_sample 2 = .ok (.iload_n 1, 1) := dk_27 (dk_at dksX0_sample_0 2 rfl rfl)
theorem dX0_sample_3 : decode cX0_sample 3 = .ok (.invokevirtual 168, 3) := dk_182 0 168 (dk_at dksX0_sample_0 3 rfl rfl)
theorem dX0_sample_6 : decode cX0_sample 6 = .ok (.ifCond .eq 27, 3) := dk_153 0 27 (dk_at dksX0_sample_0 6 rfl rfl)
theorem dX0_sample_9 : decode cX0_sample 9 = .ok (.iload_n 2, 1) := dk_28 (dk_at dksX0_sample_0 9 rfl rfl)
theorem dX0_sample_10 : decode cX0_sample 10 = .ok (.i2l, 1) := dk_133 (dk_at dksX0_sample_0 10 rfl rfl)
theorem dX0_sample_11 : decode cX0_sample 11 = .ok (.lconst 1, 1) := dk_10 (dk_at dksX0_sample_0 11 rfl rfl)
theorem dX0_sample_12 : decode cX0_sample 12 = .ok (.ldc2_w 406, 3) := dk_20 1 150 (dk_at dksX0_sample_0 12 rfl rfl)
theorem dX0_sample_15 : decode cX0_sample 15 = .ok (.invokestatic 164, 3) := dk_184 0 164 (dk_at dksX0_sample_0 15 rfl rfl)
theorem dX0_sample_18 : decode cX0_sample 18 = .ok (.ifCond .eq 15, 3) := dk_153 0 15 (dk_at dksX0_sample_0 18 rfl rfl)
theorem dX0_sample_21 : decode cX0_sample 21 = .ok (.iload_n 3, 1) := dk_29 (dk_at dksX0_sample_0 21 rfl rfl)
theorem dX0_sample_22 : decode cX0_sample 22 = .ok (.i2l, 1) := dk_133 (dk_at dksX0_sample_0 22 rfl rfl)
theorem dX0_sample_23 : decode cX0_sample 23 = .ok (.lconst 0, 1) := dk_9 (dk_at dksX0_sample_0 23 rfl rfl)
theorem dX0_sample_24 : decode cX0_sample 24 = .ok (.ldc2_w 328, 3) := dk_20 1 72 (dk_at dksX0_sample_1 0 rfl rfl)
theorem dX0_sample_27 : decode cX0_sample 27 = .ok (.invokestatic 164, 3) := dk_184 0 164 (dk_at dksX0_sample_1 3 rfl rfl)
theorem dX0_sample_30 : decode cX0_sample 30 = .ok (.ifCond .ne 7, 3) := dk_154 0 7 (dk_at dksX0_sample_1 6 rfl rfl)
theorem dX0_sample_33 : decode cX0_sample 33 = .ok (.iconst 1, 1) := dk_4 (dk_at dksX0_sample_1 9 rfl rfl)
theorem dX0_sample_34 : decode cX0_sample 34 = .ok (.goto 24, 3) := dk_167 0 24 (dk_at dksX0_sample_1 10 rfl rfl)
theorem dX0_sample_37 : decode cX0_sample 37 = .ok (.aload_n 0, 1) := dk_42 (dk_at dksX0_sample_1 13 rfl rfl)
theorem dX0_sample_38 : decode cX0_sample 38 = .ok (.iload_n 1, 1) := dk_27 (dk_at dksX0_sample_1 14 rfl rfl)
theorem dX0_sample_39 : decode cX0_sample 39 = .ok (.invokevirtual 172, 3) := dk_182 0 172 (dk_at dksX0_sample_1 15 rfl rfl)
theorem dX0_sample_42 : decode cX0_sample 42 = .ok (.getfield 408, 3) := dk_180 1 152 (dk_at dksX0_sample_1 18 rfl rfl)
theorem dX0_sample_45 : decode cX0_sample 45 = .ok (.iload_n 2, 1) := dk_28 (dk_at dksX0_sample_1 21 rfl rfl)
theorem dX0_sample_46 : decode cX0_sample 46 = .ok (.iadd, 1) := dk_96 (dk_at dksX0_sample_1 22 rfl rfl)
theorem dX0_sample_47 : decode cX0_sample 47 = .ok (.ldc_w 350, 3) := dk_19 1 94 (dk_at dksX0_sample_2 0 rfl rfl)
theorem dX0_sample_50 : decode cX0_sample 50 = .ok (.if_icmp .le 7, 3) := dk_164 0 7 (dk_at dksX0_sample_2 3 rfl rfl)
theorem dX0_sample_53 : decode cX0_sample 53 = .ok (.iconst 4, 1) := dk_7 (dk_at dksX0_sample_2 6 rfl rfl)
theorem dX0_sample_54 : decode cX0_sample 54 = .ok (.goto 4, 3) := dk_167 0 4 (dk_at dksX0_sample_2 7 rfl rfl)
theorem dX0_sample_57 : decode cX0_sample 57 = .ok (.iconst 0, 1) := dk_3 (dk_at dksX0_sample_2 10 rfl rfl)
theorem dX0_sample_58 : decode cX0_sample 58 = .ok (.putfield 73, 3) := dk_181 0 73 (dk_at dksX0_sample_2 11 rfl rfl)
theorem dX0_sample_61 : decode cX0_sample 61 = .ok (.aload_n 0, 1) := dk_42 (dk_at dksX0_sample_2 14 rfl rfl)
theorem dX0_sample_62 : decode cX0_sample 62 = .ok (.getfield 73, 3) := dk_180 0 73 (dk_at dksX0_sample_2 15 rfl rfl)
theorem dX0_sample_65 : decode cX0_sample 65 = .ok (.ifCond .le 5, 3) := dk_158 0 5 (dk_at dksX0_sample_2 18 rfl rfl)
theorem dX0_sample_68 : decode cX0_sample 68 = .ok (.iconst (-1), 1) := dk_2 (dk_at dksX0_sample_2 21 rfl rfl)
theorem dX0_sample_69 : decode cX0_sample 69 = .ok (.ireturn, 1) := dk_172 (dk_at dksX0_sample_2 22 rfl rfl)
theorem dX0_sample_70 : decode cX0_sample 70 = .ok (.aload_n 0, 1) := dk_42 (dk_at dksX0_sample_2 23 rfl rfl)
theorem dX0_sample_71 : decode cX0_sample 71 = .ok (.iload_n 1, 1) := dk_27 (dk_at dksX0_sample_3 0 rfl rfl)
theorem dX0_sample_72 : decode cX0_sample 72 = .ok (.invokevirtual 172, 3) := dk_182 0 172 (dk_at dksX0_sample_3 1 rfl rfl)
theorem dX0_sample_75 : decode cX0_sample 75 = .ok (.dup, 1) := dk_89 (dk_at dksX0_sample_3 4 rfl rfl)
theorem dX0_sample_76 : decode cX0_sample 76 = .ok (.getfield 408, 3) := dk_180 1 152 (dk_at dksX0_sample_3 5 rfl rfl)
theorem dX0_sample_79 : decode cX0_sample 79 = .ok (.iload_n 2, 1) := dk_28 (dk_at dksX0_sample_3 8 rfl rfl)
theorem dX0_sample_80 : decode cX0_sample 80 = .ok (.iadd, 1) := dk_96 (dk_at dksX0_sample_3 9 rfl rfl)
theorem dX0_sample_81 : decode cX0_sample 81 = .ok (.putfield 408, 3) := dk_181 1 152 (dk_at dksX0_sample_3 10 rfl rfl)
theorem dX0_sample_84 : decode cX0_sample 84 = .ok (.aload_n 0, 1) := dk_42 (dk_at dksX0_sample_3 13 rfl rfl)
theorem dX0_sample_85 : decode cX0_sample 85 = .ok (.iload_n 1, 1) := dk_27 (dk_at dksX0_sample_3 14 rfl rfl)
theorem dX0_sample_86 : decode cX0_sample 86 = .ok (.invokevirtual 172, 3) := dk_182 0 172 (dk_at dksX0_sample_3 15 rfl rfl)
theorem dX0_sample_89 : decode cX0_sample 89 = .ok (.dup, 1) := dk_89 (dk_at dksX0_sample_3 18 rfl rfl)
theorem dX0_sample_90 : decode cX0_sample 90 = .ok (.getfield 411, 3) := dk_180 1 155 (dk_at dksX0_sample_3 19 rfl rfl)
theorem dX0_sample_93 : decode cX0_sample 93 = .ok (.iload_n 3, 1) := dk_29 (dk_at dksX0_sample_3 22 rfl rfl)
theorem dX0_sample_94 : decode cX0_sample 94 = .ok (.iadd, 1) := dk_96 (dk_at dksX0_sample_3 23 rfl rfl)
theorem dX0_sample_95 : decode cX0_sample 95 = .ok (.putfield 411, 3) := dk_181 1 155 (dk_at dksX0_sample_4 0 rfl rfl)
theorem dX0_sample_98 : decode cX0_sample 98 = .ok (.aload_n 0, 1) := dk_42 (dk_at dksX0_sample_4 3 rfl rfl)
theorem dX0_sample_99 : decode cX0_sample 99 = .ok (.iload_n 1, 1) := dk_27 (dk_at dksX0_sample_4 4 rfl rfl)
theorem dX0_sample_100 : decode cX0_sample 100 = .ok (.invokevirtual 172, 3) := dk_182 0 172 (dk_at dksX0_sample_4 5 rfl rfl)
theorem dX0_sample_103 : decode cX0_sample 103 = .ok (.getfield 408, 3) := dk_180 1 152 (dk_at dksX0_sample_4 8 rfl rfl)
theorem dX0_sample_106 : decode cX0_sample 106 = .ok (.ireturn, 1) := dk_172 (dk_at dksX0_sample_4 11 rfl rfl)
def dkwX0_share_6 : List UInt8 := [167, 0, 4, 3, 172]
abbrev dktX0_share_6 : List UInt8 := dkwX0_share_6 ++ []
def dkwX0_share_5 : List UInt8 := [180, 0, 73, 154, 0, 11, 42, 22, 4, 32, 182, 1, 122, 87, 42, 180, 0, 73, 154, 0, 7, 4]
abbrev dktX0_share_5 : List UInt8 := dkwX0_share_5 ++ dktX0_share_6
def dkwX0_share_4 : List UInt8 := [132, 6, 1, 167, 255, 200, 42, 32, 9, 148, 154, 0, 8, 16, 6, 167, 0, 4, 3, 181, 0, 73, 42]
abbrev dktX0_share_4 : List UInt8 := dkwX0_share_4 ++ dktX0_share_5
def dkwX0_share_3 : List UInt8 := [182, 0, 172, 180, 1, 152, 133, 97, 65, 22, 4, 42, 21, 6, 182, 0, 172, 180, 1, 155, 133, 97, 55, 4]
abbrev dktX0_share_3 : List UInt8 := dkwX0_share_3 ++ dktX0_share_4
def dkwX0_share_2 : List UInt8 := [180, 0, 161, 162, 0, 50, 27, 155, 0, 12, 21, 6, 27, 159, 0, 6, 167, 0, 31, 32, 42, 21, 6]
abbrev dktX0_share_2 : List UInt8 := dkwX0_share_2 ++ dktX0_share_3
def dkwX0_share_1 : List UInt8 := [180, 0, 73, 158, 0, 5, 3, 172, 9, 65, 9, 55, 4, 3, 54, 6, 21, 6, 42, 182, 0, 158]
abbrev dktX0_share_1 : List UInt8 := dkwX0_share_1 ++ dktX0_share_2
def dkwX0_share_0 : List UInt8 := [42, 27, 2, 159, 0, 11, 42, 27, 182, 0, 168, 153, 0, 7, 3, 167, 0, 4, 4, 181, 0, 73, 42]
abbrev dktX0_share_0 : List UInt8 := dkwX0_share_0 ++ dktX0_share_1
theorem dksX0_share_0 : cX0_share.data.toList.drop 0 = dktX0_share_0 := by decide +kernel
theorem dksX0_share_1 : cX0_share.data.toList.drop 23 = dktX0_share_1 := dk_seg dksX0_share_0 23 rfl rfl
theorem dksX0_share_2 : cX0_share.data.toList.drop 45 = dktX0_share_2 := dk_seg dksX0_share_1 22 rfl rfl
theorem dksX0_share_3 : cX0_share.data.toList.drop 68 = dktX0_share_3 := dk_seg dksX0_share_2 23 rfl rfl
theorem dksX0_share_4 : cX0_share.data.toList.drop 92 = dktX0_share_4 := dk_seg dksX0_share_3 24 rfl rfl
theorem dksX0_share_5 : cX0_share.data.toList.drop 115 = dktX0_share_5 := dk_seg dksX0_share_4 23 rfl rfl
theorem dksX0_share_6 : cX0_share.data.toList.drop 137 = dktX0_share_6 := dk_seg dksX0_share_5 22 rfl rfl
theorem dX0_share_0 : decode cX0_share 0 = .ok (.aload_n 0, 1) := dk_42 (dk_at dksX0_share_0 0 rfl rfl)
theorem dX0_share_1 : decode cX0_share 1 = .ok (.iload_n 1, 1) := dk_27 (dk_at dksX0_share_0 1 rfl rfl)
theorem dX0_share_2 : decode cX0_share 2 = .ok (.iconst (-1), 1) := dk_2 (dk_at dksX0_share_0 2 rfl rfl)
theorem dX0_share_3 : decode cX0_share 3 = .ok (.if_icmp .eq 11, 3) := dk_159 0 11 (dk_at dksX0_share_0 3 rfl rfl)
theorem dX0_share_6 : decode cX0_share 6 = .ok (.aload_n 0, 1) := dk_42 (dk_at dksX0_share_0 6 rfl rfl)
theorem dX0_share_7 : decode cX0_share 7 = .ok (.iload_n 1, 1) := dk_27 (dk_at dksX0_share_0 7 rfl rfl)
theorem dX0_share_8 : decode cX0_share 8 = .ok (.invokevirtual 168, 3) := dk_182 0 168 (dk_at dksX0_share_0 8 rfl rfl)
theorem dX0_share_11 : decode cX0_share 11 = .ok (.ifCond .eq 7, 3) := dk_153 0 7 (dk_at dksX0_share_0 11 rfl rfl)
theorem dX0_share_14 : decode cX0_share 14 = .ok (.iconst 0, 1) := dk_3 (dk_at dksX0_share_0 14 rfl rfl)
theorem dX0_share_15 : decode cX0_share 15 = .ok (.goto 4, 3) := dk_167 0 4 (dk_at dksX0_share_0 15 rfl rfl)
theorem dX0_share_18 : decode cX0_share 18 = .ok (.iconst 1, 1) := dk_4 (dk_at dksX0_share_0 18 rfl rfl)
theorem dX0_share_19 : decode cX0_share 19 = .ok (.putfield 73, 3) := dk_181 0 73 (dk_at dksX0_share_0 19 rfl rfl)
theorem dX0_share_22 : decode cX0_share 22 = .ok (.aload_n 0, 1) := dk_42 (dk_at dksX0_share_0 22 rfl rfl)
theorem dX0_share_23 : decode cX0_share 23 = .ok (.getfield 73, 3) := dk_180 0 73 (dk_at dksX0_share_1 0 rfl rfl)
theorem dX0_share_26 : decode cX0_share 26 = .ok (.ifCond .le 5, 3) := dk_158 0 5 (dk_at dksX0_share_1 3 rfl rfl)
theorem dX0_share_29 : decode cX0_share 29 = .ok (.iconst 0, 1) := dk_3 (dk_at dksX0_share_1 6 rfl rfl)
theorem dX0_share_30 : decode cX0_share 30 = .ok (.ireturn, 1) := dk_172 (dk_at dksX0_share_1 7 rfl rfl)
theorem dX0_share_31 : decode cX0_share 31 = .ok (.lconst 0, 1) := dk_9 (dk_at dksX0_share_1 8 rfl rfl)
theorem dX0_share_32 : decode cX0_share 32 = .ok (.lstore_n 2, 1) := dk_65 (dk_at dksX0_share_1 9 rfl rfl)
theorem dX0_share_33 : decode cX0_share 33 = .ok (.lconst 0, 1) := dk_9 (dk_at dksX0_share_1 10 rfl rfl)
theorem dX0_share_34 : decode cX0_share 34 = .ok (.lstore 4, 2) := dk_55 4 (dk_at dksX0_share_1 11 rfl rfl)
theorem dX0_share_36 : decode cX0_share 36 = .ok (.iconst 0, 1) := dk_3 (dk_at dksX0_share_1 13 rfl rfl)
theorem dX0_share_37 : decode cX0_share 37 = .ok (.istore 6, 2) := dk_54 6 (dk_at dksX0_share_1 14 rfl rfl)
theorem dX0_share_39 : decode cX0_share 39 = .ok (.iload 6, 2) := dk_21 6 (dk_at dksX0_share_1 16 rfl rfl)
theorem dX0_share_41 : decode cX0_share 41 = .ok (.aload_n 0, 1) := dk_42 (dk_at dksX0_share_1 18 rfl rfl)
theorem dX0_share_42 : decode cX0_share 42 = .ok (.invokevirtual 158, 3) := dk_182 0 158 (dk_at dksX0_share_1 19 rfl rfl)
theorem dX0_share_45 : decode cX0_share 45 = .ok (.getfield 161, 3) := dk_180 0 161 (dk_at dksX0_share_2 0 rfl rfl)
theorem dX0_share_48 : decode cX0_share 48 = .ok (.if_icmp .ge 50, 3) := dk_162 0 50 (dk_at dksX0_share_2 3 rfl rfl)
theorem dX0_share_51 : decode cX0_share 51 = .ok (.iload_n 1, 1) := dk_27 (dk_at dksX0_share_2 6 rfl rfl)
theorem dX0_share_52 : decode cX0_share 52 = .ok (.ifCond .lt 12, 3) := dk_155 0 12 (dk_at dksX0_share_2 7 rfl rfl)
theorem dX0_share_55 : decode cX0_share 55 = .ok (.iload 6, 2) := dk_21 6 (dk_at dksX0_share_2 10 rfl rfl)
theorem dX0_share_57 : decode cX0_share 57 = .ok (.iload_n 1, 1) := dk_27 (dk_at dksX0_share_2 12 rfl rfl)
theorem dX0_share_58 : decode cX0_share 58 = .ok (.if_icmp .eq 6, 3) := dk_159 0 6 (dk_at dksX0_share_2 13 rfl rfl)
theorem dX0_share_61 : decode cX0_share 61 = .ok (.goto 31, 3) := dk_167 0 31 (dk_at dksX0_share_2 16 rfl rfl)
theorem dX0_share_64 : decode cX0_share 64 = .ok (.lload_n 2, 1) := dk_32 (dk_at dksX0_share_2 19 rfl rfl)
theorem dX0_share_65 : decode cX0_share 65 = .ok (.aload_n 0, 1) := dk_42 (dk_at dksX0_share_2 20 rfl rfl)
theorem dX0_share_66 : decode cX0_share 66 = .ok (.iload 6, 2) := dk_21 6 (dk_at dksX0_share_2 21 rfl rfl)
theorem dX0_share_68 : decode cX0_share 68 = .ok (.invokevirtual 172, 3) := dk_182 0 172 (dk_at dksX0_share_3 0 rfl rfl)
theorem dX0_share_71 : decode cX0_share 71 = .ok (.getfield 408, 3) := dk_180 1 152 (dk_at dksX0_share_3 3 rfl rfl)
theorem dX0_share_74 : decode cX0_share 74 = .ok (.i2l, 1) := dk_133 (dk_at dksX0_share_3 6 rfl rfl)
theorem dX0_share_75 : decode cX0_share 75 = .ok (.ladd, 1) := dk_97 (dk_at dksX0_share_3 7 rfl rfl)
theorem dX0_share_76 : decode cX0_share 76 = .ok (.lstore_n 2, 1) := dk_65 (dk_at dksX0_share_3 8 rfl rfl)
theorem dX0_share_77 : decode cX0_share 77 = .ok (.lload 4, 2) := dk_22 4 (dk_at dksX0_share_3 9 rfl rfl)
theorem dX0_share_79 : decode cX0_share 79 = .ok (.aload_n 0, 1) := dk_42 (dk_at dksX0_share_3 11 rfl rfl)
theorem dX0_share_80 : decode cX0_share 80 = .ok (.iload 6, 2) := dk_21 6 (dk_at dksX0_share_3 12 rfl rfl)
theorem dX0_share_82 : decode cX0_share 82 = .ok (.invokevirtual 172, 3) := dk_182 0 172 (dk_at dksX0_share_3 14 rfl rfl)
theorem dX0_share_85 : decode cX0_share 85 = .ok (.getfield 411, 3) := dk_180 1 155 (dk_at dksX0_share_3 17 rfl rfl)
theorem dX0_share_88 : decode cX0_share 88 = .ok (.i2l, 1) := dk_133 (dk_at dksX0_share_3 20 rfl rfl)
theorem dX0_share_89 : decode cX0_share 89 = .ok (.ladd, 1) := dk_97 (dk_at dksX0_share_3 21 rfl rfl)
theorem dX0_share_90 : decode cX0_share 90 = .ok (.lstore 4, 2) := dk_55 4 (dk_at dksX0_share_3 22 rfl rfl)
theorem dX0_share_92 : decode cX0_share 92 = .ok (.iinc 6 1, 3) := dk_132 6 1 (dk_at dksX0_share_4 0 rfl rfl)
theorem dX0_share_95 : decode cX0_share 95 = .ok (.goto (-56), 3) := dk_167 255 200 (dk_at dksX0_share_4 3 rfl rfl)
theorem dX0_share_98 : decode cX0_share 98 = .ok (.aload_n 0, 1) := dk_42 (dk_at dksX0_share_4 6 rfl rfl)
theorem dX0_share_99 : decode cX0_share 99 = .ok (.lload_n 2, 1) := dk_32 (dk_at dksX0_share_4 7 rfl rfl)
theorem dX0_share_100 : decode cX0_share 100 = .ok (.lconst 0, 1) := dk_9 (dk_at dksX0_share_4 8 rfl rfl)
theorem dX0_share_101 : decode cX0_share 101 = .ok (.lcmp, 1) := dk_148 (dk_at dksX0_share_4 9 rfl rfl)
theorem dX0_share_102 : decode cX0_share 102 = .ok (.ifCond .ne 8, 3) := dk_154 0 8 (dk_at dksX0_share_4 10 rfl rfl)
theorem dX0_share_105 : decode cX0_share 105 = .ok (.bipush 6, 2) := dk_16 6 (dk_at dksX0_share_4 13 rfl rfl)
theorem dX0_share_107 : decode cX0_share 107 = .ok (.goto 4, 3) := dk_167 0 4 (dk_at dksX0_share_4 15 rfl rfl)
theorem dX0_share_110 : decode cX0_share 110 = .ok (.iconst 0, 1) := dk_3 (dk_at dksX0_share_4 18 rfl rfl)
theorem dX0_share_111 : decode cX0_share 111 = .ok (.putfield 73, 3) := dk_181 0 73 (dk_at dksX0_share_4 19 rfl rfl)
theorem dX0_share_114 : decode cX0_share 114 = .ok (.aload_n 0, 1) := dk_42 (dk_at dksX0_share_4 22 rfl rfl)
theorem dX0_share_115 : decode cX0_share 115 = .ok (.getfield 73, 3) := dk_180 0 73 (dk_at dksX0_share_5 0 rfl rfl)
theorem dX0_share_118 : decode cX0_share 118 = .ok (.ifCond .ne 11, 3) := dk_154 0 11 (dk_at dksX0_share_5 3 rfl rfl)
theorem dX0_share_121 : decode cX0_share 121 = .ok (.aload_n 0, 1) := dk_42 (dk_at dksX0_share_5 6 rfl rfl)
theorem dX0_share_122 : decode cX0_share 122 = .ok (.lload 4, 2) := dk_22 4 (dk_at dksX0_share_5 7 rfl rfl)
theorem dX0_share_124 : decode cX0_share 124 = .ok (.lload_n 2, 1) := dk_32 (dk_at dksX0_share_5 9 rfl rfl)
theorem dX0_share_125 : decode cX0_share 125 = .ok (.invokevirtual 378, 3) := dk_182 1 122 (dk_at dksX0_share_5 10 rfl rfl)
theorem dX0_share_128 : decode cX0_share 128 = .ok (.pop, 1) := dk_87 (dk_at dksX0_share_5 13 rfl rfl)
theorem dX0_share_129 : decode cX0_share 129 = .ok (.aload_n 0, 1) := dk_42 (dk_at dksX0_share_5 14 rfl rfl)
theorem dX0_share_130 : decode cX0_share 130 = .ok (.getfield 73, 3) := dk_180 0 73 (dk_at dksX0_share_5 15 rfl rfl)
theorem dX0_share_133 : decode cX0_share 133 = .ok (.ifCond .ne 7, 3) := dk_154 0 7 (dk_at dksX0_share_5 18 rfl rfl)
theorem dX0_share_136 : decode cX0_share 136 = .ok (.iconst 1, 1) := dk_4 (dk_at dksX0_share_5 21 rfl rfl)
theorem dX0_share_137 : decode cX0_share 137 = .ok (.goto 4, 3) := dk_167 0 4 (dk_at dksX0_share_6 0 rfl rfl)
theorem dX0_share_140 : decode cX0_share 140 = .ok (.iconst 0, 1) := dk_3 (dk_at dksX0_share_6 3 rfl rfl)
theorem dX0_share_141 : decode cX0_share 141 = .ok (.ireturn, 1) := dk_172 (dk_at dksX0_share_6 4 rfl rfl)
def dkwX0_worst_3 : List UInt8 := [148, 158, 0, 5, 28, 60, 132, 2, 1, 167, 255, 180, 42, 27, 182, 1, 27, 172]
abbrev dktX0_worst_3 : List UInt8 := dkwX0_worst_3 ++ []
def dkwX0_worst_2 : List UInt8 := [180, 1, 152, 133, 105, 42, 27, 182, 0, 172, 180, 1, 155, 133, 42, 28, 182, 0, 172, 180, 1, 152, 133, 105]
abbrev dktX0_worst_2 : List UInt8 := dkwX0_worst_2 ++ dktX0_worst_3
def dkwX0_worst_1 : List UInt8 := [154, 0, 6, 167, 0, 51, 27, 155, 0, 45, 42, 28, 182, 0, 172, 180, 1, 155, 133, 42, 27, 182, 0, 172]
abbrev dktX0_worst_1 : List UInt8 := dkwX0_worst_1 ++ dktX0_worst_2
def dkwX0_worst_0 : List UInt8 := [2, 60, 3, 61, 28, 42, 182, 0, 158, 180, 0, 161, 162, 0, 71, 42, 28, 182, 0, 172, 180, 1, 152]
abbrev dktX0_worst_0 : List UInt8 := dkwX0_worst_0 ++ dktX0_worst_1
theorem dksX0_worst_0 : cX0_worst.data.toList.drop 0 = dktX0_worst_0 := by decide +kernel
theorem dksX0_worst_1 : cX0_worst.data.toList.drop 23 = dktX0_worst_1 := dk_seg dksX0_worst_0 23 rfl rfl
theorem dksX0_worst_2 : cX0_worst.data.toList.drop 47 = dktX0_worst_2 := dk_seg dksX0_worst_1 24 rfl rfl
theorem dksX0_worst_3 : cX0_worst.data.toList.drop 71 = dktX0_worst_3 := dk_seg dksX0_worst_2 24 rfl rfl
theorem dX0_worst_0 : decode cX0_worst 0 = .ok (.iconst (-1), 1) := dk_2 (dk_at dksX0_worst_0 0 rfl rfl)
theorem dX0_worst_1 : decode cX0_worst 1 = .ok (.istore_n 1, 1) := dk_60 (dk_at dksX0_worst_0 1 rfl rfl)
theorem dX0_worst_2 : decode cX0_worst 2 = .ok (.iconst 0, 1) := dk_3 (dk_at dksX0_worst_0 2 rfl rfl)
theorem dX0_worst_3 : decode cX0_worst 3 = .ok (.istore_n 2, 1) := dk_61 (dk_at dksX0_worst_0 3 rfl rfl)
theorem dX0_worst_4 : decode cX0_worst 4 = .ok (.iload_n 2, 1) := dk_28 (dk_at dksX0_worst_0 4 rfl rfl)
theorem dX0_worst_5 : decode cX0_worst 5 = .ok (.aload_n 0, 1) := dk_42 (dk_at dksX0_worst_0 5 rfl rfl)
theorem dX0_worst_6 : decode cX0_worst 6 = .ok (.invokevirtual 158, 3) := dk_182 0 158 (dk_at dksX0_worst_0 6 rfl rfl)
theorem dX0_worst_9 : decode cX0_worst 9 = .ok (.getfield 161, 3) := dk_180 0 161 (dk_at dksX0_worst_0 9 rfl rfl)
theorem dX0_worst_12 : decode cX0_worst 12 = .ok (.if_icmp .ge 71, 3) := dk_162 0 71 (dk_at dksX0_worst_0 12 rfl rfl)
theorem dX0_worst_15 : decode cX0_worst 15 = .ok (.aload_n 0, 1) := dk_42 (dk_at dksX0_worst_0 15 rfl rfl)
theorem dX0_worst_16 : decode cX0_worst 16 = .ok (.iload_n 2, 1) := dk_28 (dk_at dksX0_worst_0 16 rfl rfl)
theorem dX0_worst_17 : decode cX0_worst 17 = .ok (.invokevirtual 172, 3) := dk_182 0 172 (dk_at dksX0_worst_0 17 rfl rfl)
theorem dX0_worst_20 : decode cX0_worst 20 = .ok (.getfield 408, 3) := dk_180 1 152 (dk_at dksX0_worst_0 20 rfl rfl)
theorem dX0_worst_23 : decode cX0_worst 23 = .ok (.ifCond .ne 6, 3) := dk_154 0 6 (dk_at dksX0_worst_1 0 rfl rfl)
theorem dX0_worst_26 : decode cX0_worst 26 = .ok (.goto 51, 3) := dk_167 0 51 (dk_at dksX0_worst_1 3 rfl rfl)
theorem dX0_worst_29 : decode cX0_worst 29 = .ok (.iload_n 1, 1) := dk_27 (dk_at dksX0_worst_1 6 rfl rfl)
theorem dX0_worst_30 : decode cX0_worst 30 = .ok (.ifCond .lt 45, 3) := dk_155 0 45 (dk_at dksX0_worst_1 7 rfl rfl)
theorem dX0_worst_33 : decode cX0_worst 33 = .ok (.aload_n 0, 1) := dk_42 (dk_at dksX0_worst_1 10 rfl rfl)
theorem dX0_worst_34 : decode cX0_worst 34 = .ok (.iload_n 2, 1) := dk_28 (dk_at dksX0_worst_1 11 rfl rfl)
theorem dX0_worst_35 : decode cX0_worst 35 = .ok (.invokevirtual 172, 3) := dk_182 0 172 (dk_at dksX0_worst_1 12 rfl rfl)
theorem dX0_worst_38 : decode cX0_worst 38 = .ok (.getfield 411, 3) := dk_180 1 155 (dk_at dksX0_worst_1 15 rfl rfl)
theorem dX0_worst_41 : decode cX0_worst 41 = .ok (.i2l, 1) := dk_133 (dk_at dksX0_worst_1 18 rfl rfl)
theorem dX0_worst_42 : decode cX0_worst 42 = .ok (.aload_n 0, 1) := dk_42 (dk_at dksX0_worst_1 19 rfl rfl)
theorem dX0_worst_43 : decode cX0_worst 43 = .ok (.iload_n 1, 1) := dk_27 (dk_at dksX0_worst_1 20 rfl rfl)
theorem dX0_worst_44 : decode cX0_worst 44 = .ok (.invokevirtual 172, 3) := dk_182 0 172 (dk_at dksX0_worst_1 21 rfl rfl)
theorem dX0_worst_47 : decode cX0_worst 47 = .ok (.getfield 408, 3) := dk_180 1 152 (dk_at dksX0_worst_2 0 rfl rfl)
theorem dX0_worst_50 : decode cX0_worst 50 = .ok (.i2l, 1) := dk_133 (dk_at dksX0_worst_2 3 rfl rfl)
theorem dX0_worst_51 : decode cX0_worst 51 = .ok (.lmul, 1) := dk_105 (dk_at dksX0_worst_2 4 rfl rfl)
theorem dX0_worst_52 : decode cX0_worst 52 = .ok (.aload_n 0, 1) := dk_42 (dk_at dksX0_worst_2 5 rfl rfl)
theorem dX0_worst_53 : decode cX0_worst 53 = .ok (.iload_n 1, 1) := dk_27 (dk_at dksX0_worst_2 6 rfl rfl)
theorem dX0_worst_54 : decode cX0_worst 54 = .ok (.invokevirtual 172, 3) := dk_182 0 172 (dk_at dksX0_worst_2 7 rfl rfl)
theorem dX0_worst_57 : decode cX0_worst 57 = .ok (.getfield 411, 3) := dk_180 1 155 (dk_at dksX0_worst_2 10 rfl rfl)
theorem dX0_worst_60 : decode cX0_worst 60 = .ok (.i2l, 1) := dk_133 (dk_at dksX0_worst_2 13 rfl rfl)
theorem dX0_worst_61 : decode cX0_worst 61 = .ok (.aload_n 0, 1) := dk_42 (dk_at dksX0_worst_2 14 rfl rfl)
theorem dX0_worst_62 : decode cX0_worst 62 = .ok (.iload_n 2, 1) := dk_28 (dk_at dksX0_worst_2 15 rfl rfl)
theorem dX0_worst_63 : decode cX0_worst 63 = .ok (.invokevirtual 172, 3) := dk_182 0 172 (dk_at dksX0_worst_2 16 rfl rfl)
theorem dX0_worst_66 : decode cX0_worst 66 = .ok (.getfield 408, 3) := dk_180 1 152 (dk_at dksX0_worst_2 19 rfl rfl)
theorem dX0_worst_69 : decode cX0_worst 69 = .ok (.i2l, 1) := dk_133 (dk_at dksX0_worst_2 22 rfl rfl)
theorem dX0_worst_70 : decode cX0_worst 70 = .ok (.lmul, 1) := dk_105 (dk_at dksX0_worst_2 23 rfl rfl)
theorem dX0_worst_71 : decode cX0_worst 71 = .ok (.lcmp, 1) := dk_148 (dk_at dksX0_worst_3 0 rfl rfl)
theorem dX0_worst_72 : decode cX0_worst 72 = .ok (.ifCond .le 5, 3) := dk_158 0 5 (dk_at dksX0_worst_3 1 rfl rfl)
theorem dX0_worst_75 : decode cX0_worst 75 = .ok (.iload_n 2, 1) := dk_28 (dk_at dksX0_worst_3 4 rfl rfl)
theorem dX0_worst_76 : decode cX0_worst 76 = .ok (.istore_n 1, 1) := dk_60 (dk_at dksX0_worst_3 5 rfl rfl)
theorem dX0_worst_77 : decode cX0_worst 77 = .ok (.iinc 2 1, 3) := dk_132 2 1 (dk_at dksX0_worst_3 6 rfl rfl)
theorem dX0_worst_80 : decode cX0_worst 80 = .ok (.goto (-76), 3) := dk_167 255 180 (dk_at dksX0_worst_3 9 rfl rfl)
theorem dX0_worst_83 : decode cX0_worst 83 = .ok (.aload_n 0, 1) := dk_42 (dk_at dksX0_worst_3 12 rfl rfl)
theorem dX0_worst_84 : decode cX0_worst 84 = .ok (.iload_n 1, 1) := dk_27 (dk_at dksX0_worst_3 13 rfl rfl)
theorem dX0_worst_85 : decode cX0_worst 85 = .ok (.invokevirtual 283, 3) := dk_182 1 27 (dk_at dksX0_worst_3 14 rfl rfl)
theorem dX0_worst_88 : decode cX0_worst 88 = .ok (.ireturn, 1) := dk_172 (dk_at dksX0_worst_3 17 rfl rfl)
def dkwX0_treat_2 : List UInt8 := [154, 0, 7, 4, 167, 0, 4, 3, 172]
abbrev dktX0_treat_2 : List UInt8 := dkwX0_treat_2 ++ []
def dkwX0_treat_1 : List UInt8 := [42, 27, 182, 0, 172, 3, 181, 1, 152, 42, 27, 182, 0, 172, 3, 181, 1, 155, 42, 180, 0, 73]
abbrev dktX0_treat_1 : List UInt8 := dkwX0_treat_1 ++ dktX0_treat_2
def dkwX0_treat_0 : List UInt8 := [42, 42, 27, 182, 0, 168, 153, 0, 7, 3, 167, 0, 4, 4, 181, 0, 73, 42, 180, 0, 73, 154, 0, 21]
abbrev dktX0_treat_0 : List UInt8 := dkwX0_treat_0 ++ dktX0_treat_1
theorem dksX0_treat_0 : cX0_treat.data.toList.drop 0 = dktX0_treat_0 := by decide +kernel
theorem dksX0_treat_1 : cX0_treat.data.toList.drop 24 = dktX0_treat_1 := dk_seg dksX0_treat_0 24 rfl rfl
theorem dksX0_treat_2 : cX0_treat.data.toList.drop 46 = dktX0_treat_2 := dk_seg dksX0_treat_1 22 rfl rfl
theorem dX0_treat_0 : decode cX0_treat 0 = .ok (.aload_n 0, 1) := dk_42 (dk_at dksX0_treat_0 0 rfl rfl)
theorem dX0_treat_1 : decode cX0_treat 1 = .ok (.aload_n 0, 1) := dk_42 (dk_at dksX0_treat_0 1 rfl rfl)
theorem dX0_treat_2 : decode cX0_treat 2 = .ok (.iload_n 1, 1) := dk_27 (dk_at dksX0_treat_0 2 rfl rfl)
theorem dX0_treat_3 : decode cX0_treat 3 = .ok (.invokevirtual 168, 3) := dk_182 0 168 (dk_at dksX0_treat_0 3 rfl rfl)
theorem dX0_treat_6 : decode cX0_treat 6 = .ok (.ifCond .eq 7, 3) := dk_153 0 7 (dk_at dksX0_treat_0 6 rfl rfl)
theorem dX0_treat_9 : decode cX0_treat 9 = .ok (.iconst 0, 1) := dk_3 (dk_at dksX0_treat_0 9 rfl rfl)
theorem dX0_treat_10 : decode cX0_treat 10 = .ok (.goto 4, 3) := dk_167 0 4 (dk_at dksX0_treat_0 10 rfl rfl)
theorem dX0_treat_13 : decode cX0_treat 13 = .ok (.iconst 1, 1) := dk_4 (dk_at dksX0_treat_0 13 rfl rfl)
theorem dX0_treat_14 : decode cX0_treat 14 = .ok (.putfield 73, 3) := dk_181 0 73 (dk_at dksX0_treat_0 14 rfl rfl)
theorem dX0_treat_17 : decode cX0_treat 17 = .ok (.aload_n 0, 1) := dk_42 (dk_at dksX0_treat_0 17 rfl rfl)
theorem dX0_treat_18 : decode cX0_treat 18 = .ok (.getfield 73, 3) := dk_180 0 73 (dk_at dksX0_treat_0 18 rfl rfl)
theorem dX0_treat_21 : decode cX0_treat 21 = .ok (.ifCond .ne 21, 3) := dk_154 0 21 (dk_at dksX0_treat_0 21 rfl rfl)
theorem dX0_treat_24 : decode cX0_treat 24 = .ok (.aload_n 0, 1) := dk_42 (dk_at dksX0_treat_1 0 rfl rfl)
theorem dX0_treat_25 : decode cX0_treat 25 = .ok (.iload_n 1, 1) := dk_27 (dk_at dksX0_treat_1 1 rfl rfl)
theorem dX0_treat_26 : decode cX0_treat 26 = .ok (.invokevirtual 172, 3) := dk_182 0 172 (dk_at dksX0_treat_1 2 rfl rfl)
theorem dX0_treat_29 : decode cX0_treat 29 = .ok (.iconst 0, 1) := dk_3 (dk_at dksX0_treat_1 5 rfl rfl)
theorem dX0_treat_30 : decode cX0_treat 30 = .ok (.putfield 408, 3) := dk_181 1 152 (dk_at dksX0_treat_1 6 rfl rfl)
theorem dX0_treat_33 : decode cX0_treat 33 = .ok (.aload_n 0, 1) := dk_42 (dk_at dksX0_treat_1 9 rfl rfl)
theorem dX0_treat_34 : decode cX0_treat 34 = .ok (.iload_n 1, 1) := dk_27 (dk_at dksX0_treat_1 10 rfl rfl)
theorem dX0_treat_35 : decode cX0_treat 35 = .ok (.invokevirtual 172, 3) := dk_182 0 172 (dk_at dksX0_treat_1 11 rfl rfl)
theorem dX0_treat_38 : decode cX0_treat 38 = .ok (.iconst 0, 1) := dk_3 (dk_at dksX0_treat_1 14 rfl rfl)
theorem dX0_treat_39 : decode cX0_treat 39 = .ok (.putfield 411, 3) := dk_181 1 155 (dk_at dksX0_treat_1 15 rfl rfl)
theorem dX0_treat_42 : decode cX0_treat 42 = .ok (.aload_n 0, 1) := dk_42 (dk_at dksX0_treat_1 18 rfl rfl)
theorem dX0_treat_43 : decode cX0_treat 43 = .ok (.getfield 73, 3) := dk_180 0 73 (dk_at dksX0_treat_1 19 rfl rfl)
theorem dX0_treat_46 : decode cX0_treat 46 = .ok (.ifCond .ne 7, 3) := dk_154 0 7 (dk_at dksX0_treat_2 0 rfl rfl)
theorem dX0_treat_49 : decode cX0_treat 49 = .ok (.iconst 1, 1) := dk_4 (dk_at dksX0_treat_2 3 rfl rfl)
theorem dX0_treat_50 : decode cX0_treat 50 = .ok (.goto 4, 3) := dk_167 0 4 (dk_at dksX0_treat_2 4 rfl rfl)
theorem dX0_treat_53 : decode cX0_treat 53 = .ok (.iconst 0, 1) := dk_3 (dk_at dksX0_treat_2 7 rfl rfl)
theorem dX0_treat_54 : decode cX0_treat 54 = .ok (.ireturn, 1) := dk_172 (dk_at dksX0_treat_2 8 rfl rfl)
def dkwX0_forecast_4 : List UInt8 := [21, 5, 172]
abbrev dktX0_forecast_4 : List UInt8 := dkwX0_forecast_4 ++ []
def dkwX0_forecast_3 : List UInt8 := [154, 0, 11, 25, 4, 180, 1, 8, 167, 0, 18, 29, 4, 160, 0, 11, 25, 4, 182, 1, 11, 167, 0, 5]
abbrev dktX0_forecast_3 : List UInt8 := dkwX0_forecast_3 ++ dktX0_forecast_4
def dkwX0_forecast_2 : List UInt8 := [2, 172, 42, 27, 182, 0, 172, 182, 1, 137, 58, 4, 42, 25, 4, 28, 182, 1, 158, 54, 5, 29]
abbrev dktX0_forecast_2 : List UInt8 := dkwX0_forecast_2 ++ dktX0_forecast_3
def dkwX0_forecast_1 : List UInt8 := [20, 1, 34, 184, 0, 164, 153, 0, 7, 3, 167, 0, 4, 4, 181, 0, 73, 42, 180, 0, 73, 158, 0, 5]
abbrev dktX0_forecast_1 : List UInt8 := dkwX0_forecast_1 ++ dktX0_forecast_2
def dkwX0_forecast_0 : List UInt8 := [42, 42, 27, 182, 0, 168, 153, 0, 31, 28, 133, 9, 20, 1, 64, 184, 0, 164, 153, 0, 19, 29, 133, 9]
abbrev dktX0_forecast_0 : List UInt8 := dkwX0_forecast_0 ++ dktX0_forecast_1
theorem dksX0_forecast_0 : cX0_forecast.data.toList.drop 0 = dktX0_forecast_0 := by decide +kernel
theorem dksX0_forecast_1 : cX0_forecast.data.toList.drop 24 = dktX0_forecast_1 := dk_seg dksX0_forecast_0 24 rfl rfl
theorem dksX0_forecast_2 : cX0_forecast.data.toList.drop 48 = dktX0_forecast_2 := dk_seg dksX0_forecast_1 24 rfl rfl
theorem dksX0_forecast_3 : cX0_forecast.data.toList.drop 70 = dktX0_forecast_3 := dk_seg dksX0_forecast_2 22 rfl rfl
theorem dksX0_forecast_4 : cX0_forecast.data.toList.drop 94 = dktX0_forecast_4 := dk_seg dksX0_forecast_3 24 rfl rfl
theorem dX0_forecast_0 : decode cX0_forecast 0 = .ok (.aload_n 0, 1) := dk_42 (dk_at dksX0_forecast_0 0 rfl rfl)
theorem dX0_forecast_1 : decode cX0_forecast 1 = .ok (.aload_n 0, 1) := dk_42 (dk_at dksX0_forecast_0 1 rfl rfl)
theorem dX0_forecast_2 : decode cX0_forecast 2 = .ok (.iload_n 1, 1) := dk_27 (dk_at dksX0_forecast_0 2 rfl rfl)
theorem dX0_forecast_3 : decode cX0_forecast 3 = .ok (.invokevirtual 168, 3) := dk_182 0 168 (dk_at dksX0_forecast_0 3 rfl rfl)
theorem dX0_forecast_6 : decode cX0_forecast 6 = .ok (.ifCond .eq 31, 3) := dk_153 0 31 (dk_at dksX0_forecast_0 6 rfl rfl)
theorem dX0_forecast_9 : decode cX0_forecast 9 = .ok (.iload_n 2, 1) := dk_28 (dk_at dksX0_forecast_0 9 rfl rfl)
theorem dX0_forecast_10 : decode cX0_forecast 10 = .ok (.i2l, 1) := dk_133 (dk_at dksX0_forecast_0 10 rfl rfl)
theorem dX0_forecast_11 : decode cX0_forecast 11 = .ok (.lconst 0, 1) := dk_9 (dk_at dksX0_forecast_0 11 rfl rfl)
theorem dX0_forecast_12 : decode cX0_forecast 12 = .ok (.ldc2_w 320, 3) := dk_20 1 64 (dk_at dksX0_forecast_0 12 rfl rfl)
theorem dX0_forecast_15 : decode cX0_forecast 15 = .ok (.invokestatic 164, 3) := dk_184 0 164 (dk_at dksX0_forecast_0 15 rfl rfl)
theorem dX0_forecast_18 : decode cX0_forecast 18 = .ok (.ifCond .eq 19, 3) := dk_153 0 19 (dk_at dksX0_forecast_0 18 rfl rfl)
theorem dX0_forecast_21 : decode cX0_forecast 21 = .ok (.iload_n 3, 1) := dk_29 (dk_at dksX0_forecast_0 21 rfl rfl)
theorem dX0_forecast_22 : decode cX0_forecast 22 = .ok (.i2l, 1) := dk_133 (dk_at dksX0_forecast_0 22 rfl rfl)
theorem dX0_forecast_23 : decode cX0_forecast 23 = .ok (.lconst 0, 1) := dk_9 (dk_at dksX0_forecast_0 23 rfl rfl)
theorem dX0_forecast_24 : decode cX0_forecast 24 = .ok (.ldc2_w 290, 3) := dk_20 1 34 (dk_at dksX0_forecast_1 0 rfl rfl)
theorem dX0_forecast_27 : decode cX0_forecast 27 = .ok (.invokestatic 164, 3) := dk_184 0 164 (dk_at dksX0_forecast_1 3 rfl rfl)
theorem dX0_forecast_30 : decode cX0_forecast 30 = .ok (.ifCond .eq 7, 3) := dk_153 0 7 (dk_at dksX0_forecast_1 6 rfl rfl)
theorem dX0_forecast_33 : decode cX0_forecast 33 = .ok (.iconst 0, 1) := dk_3 (dk_at dksX0_forecast_1 9 rfl rfl)
theorem dX0_forecast_34 : decode cX0_forecast 34 = .ok (.goto 4, 3) := dk_167 0 4 (dk_at dksX0_forecast_1 10 rfl rfl)
theorem dX0_forecast_37 : decode cX0_forecast 37 = .ok (.iconst 1, 1) := dk_4 (dk_at dksX0_forecast_1 13 rfl rfl)
theorem dX0_forecast_38 : decode cX0_forecast 38 = .ok (.putfield 73, 3) := dk_181 0 73 (dk_at dksX0_forecast_1 14 rfl rfl)
theorem dX0_forecast_41 : decode cX0_forecast 41 = .ok (.aload_n 0, 1) := dk_42 (dk_at dksX0_forecast_1 17 rfl rfl)
theorem dX0_forecast_42 : decode cX0_forecast 42 = .ok (.getfield 73, 3) := dk_180 0 73 (dk_at dksX0_forecast_1 18 rfl rfl)
theorem dX0_forecast_45 : decode cX0_forecast 45 = .ok (.ifCond .le 5, 3) := dk_158 0 5 (dk_at dksX0_forecast_1 21 rfl rfl)
theorem dX0_forecast_48 : decode cX0_forecast 48 = .ok (.iconst (-1), 1) := dk_2 (dk_at dksX0_forecast_2 0 rfl rfl)
theorem dX0_forecast_49 : decode cX0_forecast 49 = .ok (.ireturn, 1) := dk_172 (dk_at dksX0_forecast_2 1 rfl rfl)
theorem dX0_forecast_50 : decode cX0_forecast 50 = .ok (.aload_n 0, 1) := dk_42 (dk_at dksX0_forecast_2 2 rfl rfl)
theorem dX0_forecast_51 : decode cX0_forecast 51 = .ok (.iload_n 1, 1) := dk_27 (dk_at dksX0_forecast_2 3 rfl rfl)
theorem dX0_forecast_52 : decode cX0_forecast 52 = .ok (.invokevirtual 172, 3) := dk_182 0 172 (dk_at dksX0_forecast_2 4 rfl rfl)
theorem dX0_forecast_55 : decode cX0_forecast 55 = .ok (.invokevirtual 393, 3) := dk_182 1 137 (dk_at dksX0_forecast_2 7 rfl rfl)
theorem dX0_forecast_58 : decode cX0_forecast 58 = .ok (.astore 4, 2) := dk_58 4 (dk_at dksX0_forecast_2 10 rfl rfl)
theorem dX0_forecast_60 : decode cX0_forecast 60 = .ok (.aload_n 0, 1) := dk_42 (dk_at dksX0_forecast_2 12 rfl rfl)
theorem dX0_forecast_61 : decode cX0_forecast 61 = .ok (.aload 4, 2) := dk_25 4 (dk_at dksX0_forecast_2 13 rfl rfl)
theorem dX0_forecast_63 : decode cX0_forecast 63 = .ok (.iload_n 2, 1) := dk_28 (dk_at dksX0_forecast_2 15 rfl rfl)
theorem dX0_forecast_64 : decode cX0_forecast 64 = .ok (.invokevirtual 414, 3) := dk_182 1 158 (dk_at dksX0_forecast_2 16 rfl rfl)
theorem dX0_forecast_67 : decode cX0_forecast 67 = .ok (.istore 5, 2) := dk_54 5 (dk_at dksX0_forecast_2 19 rfl rfl)
theorem dX0_forecast_69 : decode cX0_forecast 69 = .ok (.iload_n 3, 1) := dk_29 (dk_at dksX0_forecast_2 21 rfl rfl)
theorem dX0_forecast_70 : decode cX0_forecast 70 = .ok (.ifCond .ne 11, 3) := dk_154 0 11 (dk_at dksX0_forecast_3 0 rfl rfl)
theorem dX0_forecast_73 : decode cX0_forecast 73 = .ok (.aload 4, 2) := dk_25 4 (dk_at dksX0_forecast_3 3 rfl rfl)
theorem dX0_forecast_75 : decode cX0_forecast 75 = .ok (.getfield 264, 3) := dk_180 1 8 (dk_at dksX0_forecast_3 5 rfl rfl)
theorem dX0_forecast_78 : decode cX0_forecast 78 = .ok (.goto 18, 3) := dk_167 0 18 (dk_at dksX0_forecast_3 8 rfl rfl)
theorem dX0_forecast_81 : decode cX0_forecast 81 = .ok (.iload_n 3, 1) := dk_29 (dk_at dksX0_forecast_3 11 rfl rfl)
theorem dX0_forecast_82 : decode cX0_forecast 82 = .ok (.iconst 1, 1) := dk_4 (dk_at dksX0_forecast_3 12 rfl rfl)
theorem dX0_forecast_83 : decode cX0_forecast 83 = .ok (.if_icmp .ne 11, 3) := dk_160 0 11 (dk_at dksX0_forecast_3 13 rfl rfl)
theorem dX0_forecast_86 : decode cX0_forecast 86 = .ok (.aload 4, 2) := dk_25 4 (dk_at dksX0_forecast_3 16 rfl rfl)
theorem dX0_forecast_88 : decode cX0_forecast 88 = .ok (.invokevirtual 267, 3) := dk_182 1 11 (dk_at dksX0_forecast_3 18 rfl rfl)
theorem dX0_forecast_91 : decode cX0_forecast 91 = .ok (.goto 5, 3) := dk_167 0 5 (dk_at dksX0_forecast_3 21 rfl rfl)
theorem dX0_forecast_94 : decode cX0_forecast 94 = .ok (.iload 5, 2) := dk_21 5 (dk_at dksX0_forecast_4 0 rfl rfl)
theorem dX0_forecast_96 : decode cX0_forecast 96 = .ok (.ireturn, 1) := dk_172 (dk_at dksX0_forecast_4 2 rfl rfl)
def dkwX0_starve_1 : List UInt8 := [43, 180, 1, 147, 96, 62, 132, 4, 1, 167, 255, 228, 29, 172]
abbrev dktX0_starve_1 : List UInt8 := dkwX0_starve_1 ++ []
def dkwX0_starve_0 : List UInt8 := [3, 62, 3, 54, 4, 21, 4, 28, 162, 0, 28, 43, 42, 182, 0, 158, 43, 182, 1, 141, 182, 1, 145, 29]
abbrev dktX0_starve_0 : List UInt8 := dkwX0_starve_0 ++ dktX0_starve_1
theorem dksX0_starve_0 : cX0_starve.data.toList.drop 0 = dktX0_starve_0 := by decide +kernel
theorem dksX0_starve_1 : cX0_starve.data.toList.drop 24 = dktX0_starve_1 := dk_seg dksX0_starve_0 24 rfl rfl
theorem dX0_starve_0 : decode cX0_starve 0 = .ok (.iconst 0, 1) := dk_3 (dk_at dksX0_starve_0 0 rfl rfl)
theorem dX0_starve_1 : decode cX0_starve 1 = .ok (.istore_n 3, 1) := dk_62 (dk_at dksX0_starve_0 1 rfl rfl)
theorem dX0_starve_2 : decode cX0_starve 2 = .ok (.iconst 0, 1) := dk_3 (dk_at dksX0_starve_0 2 rfl rfl)
theorem dX0_starve_3 : decode cX0_starve 3 = .ok (.istore 4, 2) := dk_54 4 (dk_at dksX0_starve_0 3 rfl rfl)
theorem dX0_starve_5 : decode cX0_starve 5 = .ok (.iload 4, 2) := dk_21 4 (dk_at dksX0_starve_0 5 rfl rfl)
theorem dX0_starve_7 : decode cX0_starve 7 = .ok (.iload_n 2, 1) := dk_28 (dk_at dksX0_starve_0 7 rfl rfl)
theorem dX0_starve_8 : decode cX0_starve 8 = .ok (.if_icmp .ge 28, 3) := dk_162 0 28 (dk_at dksX0_starve_0 8 rfl rfl)
theorem dX0_starve_11 : decode cX0_starve 11 = .ok (.aload_n 1, 1) := dk_43 (dk_at dksX0_starve_0 11 rfl rfl)
theorem dX0_starve_12 : decode cX0_starve 12 = .ok (.aload_n 0, 1) := dk_42 (dk_at dksX0_starve_0 12 rfl rfl)
theorem dX0_starve_13 : decode cX0_starve 13 = .ok (.invokevirtual 158, 3) := dk_182 0 158 (dk_at dksX0_starve_0 13 rfl rfl)
theorem dX0_starve_16 : decode cX0_starve 16 = .ok (.aload_n 1, 1) := dk_43 (dk_at dksX0_starve_0 16 rfl rfl)
theorem dX0_starve_17 : decode cX0_starve 17 = .ok (.invokevirtual 397, 3) := dk_182 1 141 (dk_at dksX0_starve_0 17 rfl rfl)
theorem dX0_starve_20 : decode cX0_starve 20 = .ok (.invokevirtual 401, 3) := dk_182 1 145 (dk_at dksX0_starve_0 20 rfl rfl)
theorem dX0_starve_23 : decode cX0_starve 23 = .ok (.iload_n 3, 1) := dk_29 (dk_at dksX0_starve_0 23 rfl rfl)
theorem dX0_starve_24 : decode cX0_starve 24 = .ok (.aload_n 1, 1) := dk_43 (dk_at dksX0_starve_1 0 rfl rfl)
theorem dX0_starve_25 : decode cX0_starve 25 = .ok (.getfield 403, 3) := dk_180 1 147 (dk_at dksX0_starve_1 1 rfl rfl)
theorem dX0_starve_28 : decode cX0_starve 28 = .ok (.iadd, 1) := dk_96 (dk_at dksX0_starve_1 4 rfl rfl)
theorem dX0_starve_29 : decode cX0_starve 29 = .ok (.istore_n 3, 1) := dk_62 (dk_at dksX0_starve_1 5 rfl rfl)
theorem dX0_starve_30 : decode cX0_starve 30 = .ok (.iinc 4 1, 3) := dk_132 4 1 (dk_at dksX0_starve_1 6 rfl rfl)
theorem dX0_starve_33 : decode cX0_starve 33 = .ok (.goto (-28), 3) := dk_167 255 228 (dk_at dksX0_starve_1 9 rfl rfl)
theorem dX0_starve_36 : decode cX0_starve 36 = .ok (.iload_n 3, 1) := dk_29 (dk_at dksX0_starve_1 12 rfl rfl)
theorem dX0_starve_37 : decode cX0_starve 37 = .ok (.ireturn, 1) := dk_172 (dk_at dksX0_starve_1 13 rfl rfl)
def dkwX0_soonest_3 : List UInt8 := [182, 0, 158, 45, 182, 1, 141, 182, 1, 145, 132, 4, 1, 167, 255, 223, 42, 2, 182, 1, 27, 172]
abbrev dktX0_soonest_3 : List UInt8 := dkwX0_soonest_3 ++ []
def dkwX0_soonest_2 : List UInt8 := [78, 3, 54, 4, 21, 4, 16, 60, 163, 0, 32, 45, 180, 1, 8, 28, 161, 0, 6, 21, 4, 172, 45, 42]
abbrev dktX0_soonest_2 : List UInt8 := dkwX0_soonest_2 ++ dktX0_soonest_3
def dkwX0_soonest_1 : List UInt8 := [167, 0, 4, 4, 181, 0, 73, 42, 180, 0, 73, 158, 0, 5, 2, 172, 42, 27, 182, 0, 172, 182, 1, 137]
abbrev dktX0_soonest_1 : List UInt8 := dkwX0_soonest_1 ++ dktX0_soonest_2
def dkwX0_soonest_0 : List UInt8 := [42, 42, 27, 182, 0, 168, 153, 0, 19, 28, 133, 9, 20, 1, 72, 184, 0, 164, 153, 0, 7, 3]
abbrev dktX0_soonest_0 : List UInt8 := dkwX0_soonest_0 ++ dktX0_soonest_1
theorem dksX0_soonest_0 : cX0_soonest.data.toList.drop 0 = dktX0_soonest_0 := by decide +kernel
theorem dksX0_soonest_1 : cX0_soonest.data.toList.drop 22 = dktX0_soonest_1 := dk_seg dksX0_soonest_0 22 rfl rfl
theorem dksX0_soonest_2 : cX0_soonest.data.toList.drop 46 = dktX0_soonest_2 := dk_seg dksX0_soonest_1 24 rfl rfl
theorem dksX0_soonest_3 : cX0_soonest.data.toList.drop 70 = dktX0_soonest_3 := dk_seg dksX0_soonest_2 24 rfl rfl
theorem dX0_soonest_0 : decode cX0_soonest 0 = .ok (.aload_n 0, 1) := dk_42 (dk_at dksX0_soonest_0 0 rfl rfl)
theorem dX0_soonest_1 : decode cX0_soonest 1 = .ok (.aload_n 0, 1) := dk_42 (dk_at dksX0_soonest_0 1 rfl rfl)
theorem dX0_soonest_2 : decode cX0_soonest 2 = .ok (.iload_n 1, 1) := dk_27 (dk_at dksX0_soonest_0 2 rfl rfl)
theorem dX0_soonest_3 : decode cX0_soonest 3 = .ok (.invokevirtual 168, 3) := dk_182 0 168 (dk_at dksX0_soonest_0 3 rfl rfl)
theorem dX0_soonest_6 : decode cX0_soonest 6 = .ok (.ifCond .eq 19, 3) := dk_153 0 19 (dk_at dksX0_soonest_0 6 rfl rfl)
theorem dX0_soonest_9 : decode cX0_soonest 9 = .ok (.iload_n 2, 1) := dk_28 (dk_at dksX0_soonest_0 9 rfl rfl)
theorem dX0_soonest_10 : decode cX0_soonest 10 = .ok (.i2l, 1) := dk_133 (dk_at dksX0_soonest_0 10 rfl rfl)
theorem dX0_soonest_11 : decode cX0_soonest 11 = .ok (.lconst 0, 1) := dk_9 (dk_at dksX0_soonest_0 11 rfl rfl)
theorem dX0_soonest_12 : decode cX0_soonest 12 = .ok (.ldc2_w 328, 3) := dk_20 1 72 (dk_at dksX0_soonest_0 12 rfl rfl)
theorem dX0_soonest_15 : decode cX0_soonest 15 = .ok (.invokestatic 164, 3) := dk_184 0 164 (dk_at dksX0_soonest_0 15 rfl rfl)
theorem dX0_soonest_18 : decode cX0_soonest 18 = .ok (.ifCond .eq 7, 3) := dk_153 0 7 (dk_at dksX0_soonest_0 18 rfl rfl)
theorem dX0_soonest_21 : decode cX0_soonest 21 = .ok (.iconst 0, 1) := dk_3 (dk_at dksX0_soonest_0 21 rfl rfl)
theorem dX0_soonest_22 : decode cX0_soonest 22 = .ok (.goto 4, 3) := dk_167 0 4 (dk_at dksX0_soonest_1 0 rfl rfl)
theorem dX0_soonest_25 : decode cX0_soonest 25 = .ok (.iconst 1, 1) := dk_4 (dk_at dksX0_soonest_1 3 rfl rfl)
theorem dX0_soonest_26 : decode cX0_soonest 26 = .ok (.putfield 73, 3) := dk_181 0 73 (dk_at dksX0_soonest_1 4 rfl rfl)
theorem dX0_soonest_29 : decode cX0_soonest 29 = .ok (.aload_n 0, 1) := dk_42 (dk_at dksX0_soonest_1 7 rfl rfl)
theorem dX0_soonest_30 : decode cX0_soonest 30 = .ok (.getfield 73, 3) := dk_180 0 73 (dk_at dksX0_soonest_1 8 rfl rfl)
theorem dX0_soonest_33 : decode cX0_soonest 33 = .ok (.ifCond .le 5, 3) := dk_158 0 5 (dk_at dksX0_soonest_1 11 rfl rfl)
theorem dX0_soonest_36 : decode cX0_soonest 36 = .ok (.iconst (-1), 1) := dk_2 (dk_at dksX0_soonest_1 14 rfl rfl)
theorem dX0_soonest_37 : decode cX0_soonest 37 = .ok (.ireturn, 1) := dk_172 (dk_at dksX0_soonest_1 15 rfl rfl)
theorem dX0_soonest_38 : decode cX0_soonest 38 = .ok (.aload_n 0, 1) := dk_42 (dk_at dksX0_soonest_1 16 rfl rfl)
theorem dX0_soonest_39 : decode cX0_soonest 39 = .ok (.iload_n 1, 1) := dk_27 (dk_at dksX0_soonest_1 17 rfl rfl)
theorem dX0_soonest_40 : decode cX0_soonest 40 = .ok (.invokevirtual 172, 3) := dk_182 0 172 (dk_at dksX0_soonest_1 18 rfl rfl)
theorem dX0_soonest_43 : decode cX0_soonest 43 = .ok (.invokevirtual 393, 3) := dk_182 1 137 (dk_at dksX0_soonest_1 21 rfl rfl)
theorem dX0_soonest_46 : decode cX0_soonest 46 = .ok (.astore_n 3, 1) := dk_78 (dk_at dksX0_soonest_2 0 rfl rfl)
theorem dX0_soonest_47 : decode cX0_soonest 47 = .ok (.iconst 0, 1) := dk_3 (dk_at dksX0_soonest_2 1 rfl rfl)
theorem dX0_soonest_48 : decode cX0_soonest 48 = .ok (.istore 4, 2) := dk_54 4 (dk_at dksX0_soonest_2 2 rfl rfl)
theorem dX0_soonest_50 : decode cX0_soonest 50 = .ok (.iload 4, 2) := dk_21 4 (dk_at dksX0_soonest_2 4 rfl rfl)
theorem dX0_soonest_52 : decode cX0_soonest 52 = .ok (.bipush 60, 2) := dk_16 60 (dk_at dksX0_soonest_2 6 rfl rfl)
theorem dX0_soonest_54 : decode cX0_soonest 54 = .ok (.if_icmp .gt 32, 3) := dk_163 0 32 (dk_at dksX0_soonest_2 8 rfl rfl)
theorem dX0_soonest_57 : decode cX0_soonest 57 = .ok (.aload_n 3, 1) := dk_45 (dk_at dksX0_soonest_2 11 rfl rfl)
theorem dX0_soonest_58 : decode cX0_soonest 58 = .ok (.getfield 264, 3) := dk_180 1 8 (dk_at dksX0_soonest_2 12 rfl rfl)
theorem dX0_soonest_61 : decode cX0_soonest 61 = .ok (.iload_n 2, 1) := dk_28 (dk_at dksX0_soonest_2 15 rfl rfl)
theorem dX0_soonest_62 : decode cX0_soonest 62 = .ok (.if_icmp .lt 6, 3) := dk_161 0 6 (dk_at dksX0_soonest_2 16 rfl rfl)
theorem dX0_soonest_65 : decode cX0_soonest 65 = .ok (.iload 4, 2) := dk_21 4 (dk_at dksX0_soonest_2 19 rfl rfl)
theorem dX0_soonest_67 : decode cX0_soonest 67 = .ok (.ireturn, 1) := dk_172 (dk_at dksX0_soonest_2 21 rfl rfl)
theorem dX0_soonest_68 : decode cX0_soonest 68 = .ok (.aload_n 3, 1) := dk_45 (dk_at dksX0_soonest_2 22 rfl rfl)
theorem dX0_soonest_69 : decode cX0_soonest 69 = .ok (.aload_n 0, 1) := dk_42 (dk_at dksX0_soonest_2 23 rfl rfl)
theorem dX0_soonest_70 : decode cX0_soonest 70 = .ok (.invokevirtual 158, 3) := dk_182 0 158 (dk_at dksX0_soonest_3 0 rfl rfl)
theorem dX0_soonest_73 : decode cX0_soonest 73 = .ok (.aload_n 3, 1) := dk_45 (dk_at dksX0_soonest_3 3 rfl rfl)
theorem dX0_soonest_74 : decode cX0_soonest 74 = .ok (.invokevirtual 397, 3) := dk_182 1 141 (dk_at dksX0_soonest_3 4 rfl rfl)
theorem dX0_soonest_77 : decode cX0_soonest 77 = .ok (.invokevirtual 401, 3) := dk_182 1 145 (dk_at dksX0_soonest_3 7 rfl rfl)
theorem dX0_soonest_80 : decode cX0_soonest 80 = .ok (.iinc 4 1, 3) := dk_132 4 1 (dk_at dksX0_soonest_3 10 rfl rfl)
theorem dX0_soonest_83 : decode cX0_soonest 83 = .ok (.goto (-33), 3) := dk_167 255 223 (dk_at dksX0_soonest_3 13 rfl rfl)
theorem dX0_soonest_86 : decode cX0_soonest 86 = .ok (.aload_n 0, 1) := dk_42 (dk_at dksX0_soonest_3 16 rfl rfl)
theorem dX0_soonest_87 : decode cX0_soonest 87 = .ok (.iconst (-1), 1) := dk_2 (dk_at dksX0_soonest_3 17 rfl rfl)
theorem dX0_soonest_88 : decode cX0_soonest 88 = .ok (.invokevirtual 283, 3) := dk_182 1 27 (dk_at dksX0_soonest_3 18 rfl rfl)
theorem dX0_soonest_91 : decode cX0_soonest 91 = .ok (.ireturn, 1) := dk_172 (dk_at dksX0_soonest_3 21 rfl rfl)
