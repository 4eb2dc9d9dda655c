set_option maxRecDepth 100000
def dkwX7_seasonOrder_9 : List UInt8 := [28, 182, 0, 226, 172, 42, 28, 4, 96, 4, 16, 99, 182, 0, 182, 172, 4, 172]
abbrev dktX7_seasonOrder_9 : List UInt8 := dkwX7_seasonOrder_9 ++ []
def dkwX7_seasonOrder_8 : List UInt8 := [96, 182, 0, 191, 153, 0, 17, 42, 28, 5, 96, 182, 0, 220, 153, 0, 7, 4, 167, 0, 4, 3, 172, 42]
abbrev dktX7_seasonOrder_8 : List UInt8 := dkwX7_seasonOrder_8 ++ dktX7_seasonOrder_9
def dkwX7_seasonOrder_7 : List UInt8 := [3, 172, 42, 28, 4, 96, 4, 16, 16, 182, 0, 182, 172, 42, 16, 12, 42, 180, 0, 7, 4, 46, 28, 4]
abbrev dktX7_seasonOrder_7 : List UInt8 := dkwX7_seasonOrder_7 ++ dktX7_seasonOrder_8
def dkwX7_seasonOrder_6 : List UInt8 := [96, 182, 0, 220, 153, 0, 20, 42, 28, 6, 96, 28, 8, 96, 182, 0, 223, 153, 0, 7, 4, 167, 0, 4]
abbrev dktX7_seasonOrder_6 : List UInt8 := dkwX7_seasonOrder_6 ++ dktX7_seasonOrder_7
def dkwX7_seasonOrder_5 : List UInt8 := [4, 96, 182, 0, 220, 153, 0, 43, 42, 28, 4, 96, 28, 5, 96, 182, 0, 223, 153, 0, 30, 42, 28, 6]
abbrev dktX7_seasonOrder_5 : List UInt8 := dkwX7_seasonOrder_5 ++ dktX7_seasonOrder_6
def dkwX7_seasonOrder_4 : List UInt8 := [153, 0, 20, 42, 28, 4, 96, 28, 5, 96, 182, 0, 223, 153, 0, 7, 4, 167, 0, 4, 3, 172, 42, 28]
abbrev dktX7_seasonOrder_4 : List UInt8 := dkwX7_seasonOrder_4 ++ dktX7_seasonOrder_5
def dkwX7_seasonOrder_3 : List UInt8 := [96, 3, 17, 3, 231, 182, 0, 182, 153, 0, 7, 4, 167, 0, 4, 3, 172, 42, 28, 4, 96, 182, 0, 220]
abbrev dktX7_seasonOrder_3 : List UInt8 := dkwX7_seasonOrder_3 ++ dktX7_seasonOrder_4
def dkwX7_seasonOrder_2 : List UInt8 := [42, 28, 4, 96, 4, 16, 30, 182, 0, 182, 172, 42, 28, 4, 96, 182, 0, 220, 153, 0, 21, 42, 28, 5]
abbrev dktX7_seasonOrder_2 : List UInt8 := dkwX7_seasonOrder_2 ++ dktX7_seasonOrder_3
def dkwX7_seasonOrder_1 : List UInt8 := [170, 0, 0, 0, 0, 0, 231, 0, 0, 0, 11, 0, 0, 0, 18, 0, 0, 0, 47, 0, 0, 0, 58, 0, 0, 0, 88, 0, 0, 0, 117, 0, 0, 0, 169, 0, 0, 0, 180, 0, 0, 0, 214, 0, 0, 0, 220]
abbrev dktX7_seasonOrder_1 : List UInt8 := dkwX7_seasonOrder_1 ++ dktX7_seasonOrder_2
def dkwX7_seasonOrder_0 : List UInt8 := [27]
abbrev dktX7_seasonOrder_0 : List UInt8 := dkwX7_seasonOrder_0 ++ dktX7_seasonOrder_1
theorem dksX7_seasonOrder_0 : cX7_seasonOrder.data.toList.drop 0 = dktX7_seasonOrder_0 := by decide +kernel
theorem dksX7_seasonOrder_1 : cX7_seasonOrder.data.toList.drop 1 = dktX7_seasonOrder_1 := dk_seg dksX7_seasonOrder_0 1 rfl rfl
theorem dksX7_seasonOrder_2 : cX7_seasonOrder.data.toList.drop 48 = dktX7_seasonOrder_2 := dk_seg dksX7_seasonOrder_1 47 rfl rfl
theorem dksX7_seasonOrder_3 : cX7_seasonOrder.data.toList.drop 72 = dktX7_seasonOrder_3 := dk_seg dksX7_seasonOrder_2 24 rfl rfl
theorem dksX7_seasonOrder_4 : cX7_seasonOrder.data.toList.drop 96 = dktX7_seasonOrder_4 := dk_seg dksX7_seasonOrder_3 24 rfl rfl
theorem dksX7_seasonOrder_5 : cX7_seasonOrder.data.toList.drop 120 = dktX7_seasonOrder_5 := dk_seg dksX7_seasonOrder_4 24 rfl rfl
theorem dksX7_seasonOrder_6 : cX7_seasonOrder.data.toList.drop 144 = dktX7_seasonOrder_6 := dk_seg dksX7_seasonOrder_5 24 rfl rfl
theorem dksX7_seasonOrder_7 : cX7_seasonOrder.data.toList.drop 168 = dktX7_seasonOrder_7 := dk_seg dksX7_seasonOrder_6 24 rfl rfl
theorem dksX7_seasonOrder_8 : cX7_seasonOrder.data.toList.drop 192 = dktX7_seasonOrder_8 := dk_seg dksX7_seasonOrder_7 24 rfl rfl
theorem dksX7_seasonOrder_9 : cX7_seasonOrder.data.toList.drop 216 = dktX7_seasonOrder_9 := dk_seg dksX7_seasonOrder_8 24 rfl rfl
theorem dX7_seasonOrder_0 : decode cX7_seasonOrder 0 = .ok (.iload_n 1, 1) := dk_27 (dk_at dksX7_seasonOrder_0 0 rfl rfl)
theorem dX7_seasonOrder_1 : decode cX7_seasonOrder 1 = .ok (.tableswitch 231 11 18 #[47, 58, 88, 117, 169, 180, 214, 220], 47) := by decide +kernel
theorem dX7_seasonOrder_48 : decode cX7_seasonOrder 48 = .ok (.aload_n 0, 1) := dk_42 (dk_at dksX7_seasonOrder_2 0 rfl rfl)
theorem dX7_seasonOrder_49 : decode cX7_seasonOrder 49 = .ok (.iload_n 2, 1) := dk_28 (dk_at dksX7_seasonOrder_2 1 rfl rfl)
theorem dX7_seasonOrder_50 : decode cX7_seasonOrder 50 = .ok (.iconst 1, 1) := dk_4 (dk_at dksX7_seasonOrder_2 2 rfl rfl)
theorem dX7_seasonOrder_51 : decode cX7_seasonOrder 51 = .ok (.iadd, 1) := dk_96 (dk_at dksX7_seasonOrder_2 3 rfl rfl)
theorem dX7_seasonOrder_52 : decode cX7_seasonOrder 52 = .ok (.iconst 1, 1) := dk_4 (dk_at dksX7_seasonOrder_2 4 rfl rfl)
theorem dX7_seasonOrder_53 : decode cX7_seasonOrder 53 = .ok (.bipush 30, 2) := dk_16 30 (dk_at dksX7_seasonOrder_2 5 rfl rfl)
theorem dX7_seasonOrder_55 : decode cX7_seasonOrder 55 = .ok (.invokevirtual 182, 3) := dk_182 0 182 (dk_at dksX7_seasonOrder_2 7 rfl rfl)
theorem dX7_seasonOrder_58 : decode cX7_seasonOrder 58 = .ok (.ireturn, 1) := dk_172 (dk_at dksX7_seasonOrder_2 10 rfl rfl)
theorem dX7_seasonOrder_59 : decode cX7_seasonOrder 59 = .ok (.aload_n 0, 1) := dk_42 (dk_at dksX7_seasonOrder_2 11 rfl rfl)
theorem dX7_seasonOrder_60 : decode cX7_seasonOrder 60 = .ok (.iload_n 2, 1) := dk_28 (dk_at dksX7_seasonOrder_2 12 rfl rfl)
theorem dX7_seasonOrder_61 : decode cX7_seasonOrder 61 = .ok (.iconst 1, 1) := dk_4 (dk_at dksX7_seasonOrder_2 13 rfl rfl)
theorem dX7_seasonOrder_62 : decode cX7_seasonOrder 62 = .ok (.iadd, 1) := dk_96 (dk_at dksX7_seasonOrder_2 14 rfl rfl)
theorem dX7_seasonOrder_63 : decode cX7_seasonOrder 63 = .ok (.invokevirtual 220, 3) := dk_182 0 220 (dk_at dksX7_seasonOrder_2 15 rfl rfl)
theorem dX7_seasonOrder_66 : decode cX7_seasonOrder 66 = .ok (.ifCond .eq 21, 3) := dk_153 0 21 (dk_at dksX7_seasonOrder_2 18 rfl rfl)
theorem dX7_seasonOrder_69 : decode cX7_seasonOrder 69 = .ok (.aload_n 0, 1) := dk_42 (dk_at dksX7_seasonOrder_2 21 rfl rfl)
theorem dX7_seasonOrder_70 : decode cX7_seasonOrder 70 = .ok (.iload_n 2, 1) := dk_28 (dk_at dksX7_seasonOrder_2 22 rfl rfl)
theorem dX7_seasonOrder_71 : decode cX7_seasonOrder 71 = .ok (.iconst 2, 1) := dk_5 (dk_at dksX7_seasonOrder_2 23 rfl rfl)
theorem dX7_seasonOrder_72 : decode cX7_seasonOrder 72 = .ok (.iadd, 1) := dk_96 (dk_at dksX7_seasonOrder_3 0 rfl rfl)
theorem dX7_seasonOrder_73 : decode cX7_seasonOrder 73 = .ok (.iconst 0, 1) := dk_3 (dk_at dksX7_seasonOrder_3 1 rfl rfl)
theorem dX7_seasonOrder_74 : decode cX7_seasonOrder 74 = .ok (.sipush 999, 3) := dk_17 3 231 (dk_at dksX7_seasonOrder_3 2 rfl rfl)
theorem dX7_seasonOrder_77 : decode cX7_seasonOrder 77 = .ok (.invokevirtual 182, 3) := dk_182 0 182 (dk_at dksX7_seasonOrder_3 5 rfl rfl)
theorem dX7_seasonOrder_80 : decode cX7_seasonOrder 80 = .ok (.ifCond .eq 7, 3) := dk_153 0 7 (dk_at dksX7_seasonOrder_3 8 rfl rfl)
theorem dX7_seasonOrder_83 : decode cX7_seasonOrder 83 = .ok (.iconst 1, 1) := dk_4 (dk_at dksX7_seasonOrder_3 11 rfl rfl)
theorem dX7_seasonOrder_84 : decode cX7_seasonOrder 84 = .ok (.goto 4, 3) := dk_167 0 4 (dk_at dksX7_seasonOrder_3 12 rfl rfl)
theorem dX7_seasonOrder_87 : decode cX7_seasonOrder 87 = .ok (.iconst 0, 1) := dk_3 (dk_at dksX7_seasonOrder_3 15 rfl rfl)
theorem dX7_seasonOrder_88 : decode cX7_seasonOrder 88 = .ok (.ireturn, 1) := dk_172 (dk_at dksX7_seasonOrder_3 16 rfl rfl)
theorem dX7_seasonOrder_89 : decode cX7_seasonOrder 89 = .ok (.aload_n 0, 1) := dk_42 (dk_at dksX7_seasonOrder_3 17 rfl rfl)
theorem dX7_seasonOrder_90 : decode cX7_seasonOrder 90 = .ok (.iload_n 2, 1) := dk_28 (dk_at dksX7_seasonOrder_3 18 rfl rfl)
theorem dX7_seasonOrder_91 : decode cX7_seasonOrder 91 = .ok (.iconst 1, 1) := dk_4 (dk_at dksX7_seasonOrder_3 19 rfl rfl)
theorem dX7_seasonOrder_92 : decode cX7_seasonOrder 92 = .ok (.iadd, 1) := dk_96 (dk_at dksX7_seasonOrder_3 20 rfl rfl)
theorem dX7_seasonOrder_93 : decode cX7_seasonOrder 93 = .ok (.invokevirtual 220, 3) := dk_182 0 220 (dk_at dksX7_seasonOrder_3 21 rfl rfl)
theorem dX7_seasonOrder_96 : decode cX7_seasonOrder 96 = .ok (.ifCond .eq 20, 3) := dk_153 0 20 (dk_at dksX7_seasonOrder_4 0 rfl rfl)
theorem dX7_seasonOrder_99 : decode cX7_seasonOrder 99 = .ok (.aload_n 0, 1) := dk_42 (dk_at dksX7_seasonOrder_4 3 rfl rfl)
theorem dX7_seasonOrder_100 : decode cX7_seasonOrder 100 = .ok (.iload_n 2, 1) := dk_28 (dk_at dksX7_seasonOrder_4 4 rfl rfl)
theorem dX7_seasonOrder_101 : decode cX7_seasonOrder 101 = .ok (.iconst 1, 1) := dk_4 (dk_at dksX7_seasonOrder_4 5 rfl rfl)
theorem dX7_seasonOrder_102 : decode cX7_seasonOrder 102 = .ok (.iadd, 1) := dk_96 (dk_at dksX7_seasonOrder_4 6 rfl rfl)
theorem dX7_seasonOrder_103 : decode cX7_seasonOrder 103 = .ok (.iload_n 2, 1) := dk_28 (dk_at dksX7_seasonOrder_4 7 rfl rfl)
theorem dX7_seasonOrder_104 : decode cX7_seasonOrder 104 = .ok (.iconst 2, 1) := dk_5 (dk_at dksX7_seasonOrder_4 8 rfl rfl)
theorem dX7_seasonOrder_105 : decode cX7_seasonOrder 105 = .ok (.iadd, 1) := dk_96 (dk_at dksX7_seasonOrder_4 9 rfl rfl)
theorem dX7_seasonOrder_106 : decode cX7_seasonOrder 106 = .ok (.invokevirtual 223, 3) := dk_182 0 223 (dk_at dksX7_seasonOrder_4 10 rfl rfl)
theorem dX7_seasonOrder_109 : decode cX7_seasonOrder 109 = .ok (.ifCond .eq 7, 3) := dk_153 0 7 (dk_at dksX7_seasonOrder_4 13 rfl rfl)
theorem dX7_seasonOrder_112 : decode cX7_seasonOrder 112 = .ok (.iconst 1, 1) := dk_4 (dk_at dksX7_seasonOrder_4 16 rfl rfl)
theorem dX7_seasonOrder_113 : decode cX7_seasonOrder 113 = .ok (.goto 4, 3) := dk_167 0 4 (dk_at dksX7_seasonOrder_4 17 rfl rfl)
theorem dX7_seasonOrder_116 : decode cX7_seasonOrder 116 = .ok (.iconst 0, 1) := dk_3 (dk_at dksX7_seasonOrder_4 20 rfl rfl)
theorem dX7_seasonOrder_117 : decode cX7_seasonOrder 117 = .ok (.ireturn, 1) := dk_172 (dk_at dksX7_seasonOrder_4 21 rfl rfl)
theorem dX7_seasonOrder_118 : decode cX7_seasonOrder 118 = .ok (.aload_n 0, 1) := dk_42 (dk_at dksX7_seasonOrder_4 22 rfl rfl)
theorem dX7_seasonOrder_119 : decode cX7_seasonOrder 119 = .ok (.iload_n 2, 1) := dk_28 (dk_at dksX7_seasonOrder_4 23 rfl rfl)
theorem dX7_seasonOrder_120 : decode cX7_seasonOrder 120 = .ok (.iconst 1, 1) := dk_4 (dk_at dksX7_seasonOrder_5 0 rfl rfl)
theorem dX7_seasonOrder_121 : decode cX7_seasonOrder 121 = .ok (.iadd, 1) := dk_96 (dk_at dksX7_seasonOrder_5 1 rfl rfl)
theorem dX7_seasonOrder_122 : decode cX7_seasonOrder 122 = .ok (.invokevirtual 220, 3) := dk_182 0 220 (dk_at dksX7_seasonOrder_5 2 rfl rfl)
theorem dX7_seasonOrder_125 : decode cX7_seasonOrder 125 = .ok (.ifCond .eq 43, 3) := dk_153 0 43 (dk_at dksX7_seasonOrder_5 5 rfl rfl)
theorem dX7_seasonOrder_128 : decode cX7_seasonOrder 128 = .ok (.aload_n 0, 1) := dk_42 (dk_at dksX7_seasonOrder_5 8 rfl rfl)
theorem dX7_seasonOrder_129 : decode cX7_seasonOrder 129 = .ok (.iload_n 2, 1) := dk_28 (dk_at dksX7_seasonOrder_5 9 rfl rfl)
theorem dX7_seasonOrder_130 : decode cX7_seasonOrder 130 = .ok (.iconst 1, 1) := dk_4 (dk_at dksX7_seasonOrder_5 10 rfl rfl)
theorem dX7_seasonOrder_131 : decode cX7_seasonOrder 131 = .ok (.iadd, 1) := dk_96 (dk_at dksX7_seasonOrder_5 11 rfl rfl)
theorem dX7_seasonOrder_132 : decode cX7_seasonOrder 132 = .ok (.iload_n 2, 1) := dk_28 (dk_at dksX7_seasonOrder_5 12 rfl rfl)
theorem dX7_seasonOrder_133 : decode cX7_seasonOrder 133 = .ok (.iconst 2, 1) := dk_5 (dk_at dksX7_seasonOrder_5 13 rfl rfl)
theorem dX7_seasonOrder_134 : decode cX7_seasonOrder 134 = .ok (.iadd, 1) := dk_96 (dk_at dksX7_seasonOrder_5 14 rfl rfl)
theorem dX7_seasonOrder_135 : decode cX7_seasonOrder 135 = .ok (.invokevirtual 223, 3) := dk_182 0 223 (dk_at dksX7_seasonOrder_5 15 rfl rfl)
theorem dX7_seasonOrder_138 : decode cX7_seasonOrder 138 = .ok (.ifCond .eq 30, 3) := dk_153 0 30 (dk_at dksX7_seasonOrder_5 18 rfl rfl)
theorem dX7_seasonOrder_141 : decode cX7_seasonOrder 141 = .ok (.aload_n 0, 1) := dk_42 (dk_at dksX7_seasonOrder_5 21 rfl rfl)
theorem dX7_seasonOrder_142 : decode cX7_seasonOrder 142 = .ok (.iload_n 2, 1) := dk_28 (dk_at dksX7_seasonOrder_5 22 rfl rfl)
theorem dX7_seasonOrder_143 : decode cX7_seasonOrder 143 = .ok (.iconst 3, 1) := dk_6 (dk_at dksX7_seasonOrder_5 23 rfl rfl)
theorem dX7_seasonOrder_144 : decode cX7_seasonOrder 144 = .ok (.iadd, 1) := dk_96 (dk_at dksX7_seasonOrder_6 0 rfl rfl)
theorem dX7_seasonOrder_145 : decode cX7_seasonOrder 145 = .ok (.invokevirtual 220, 3) := dk_182 0 220 (dk_at dksX7_seasonOrder_6 1 rfl rfl)
theorem dX7_seasonOrder_148 : decode cX7_seasonOrder 148 = .ok (.ifCond .eq 20, 3) := dk_153 0 20 (dk_at dksX7_seasonOrder_6 4 rfl rfl)
theorem dX7_seasonOrder_151 : decode cX7_seasonOrder 151 = .ok (.aload_n 0, 1) := dk_42 (dk_at dksX7_seasonOrder_6 7 rfl rfl)
theorem dX7_seasonOrder_152 : decode cX7_seasonOrder 152 = .ok (.iload_n 2, 1) := dk_28 (dk_at dksX7_seasonOrder_6 8 rfl rfl)
theorem dX7_seasonOrder_153 : decode cX7_seasonOrder 153 = .ok (.iconst 3, 1) := dk_6 (dk_at dksX7_seasonOrder_6 9 rfl rfl)
theorem dX7_seasonOrder_154 : decode cX7_seasonOrder 154 = .ok (.iadd, 1) := dk_96 (dk_at dksX7_seasonOrder_6 10 rfl rfl)
theorem dX7_seasonOrder_155 : decode cX7_seasonOrder 155 = .ok (.iload_n 2, 1) := dk_28 (dk_at dksX7_seasonOrder_6 11 rfl rfl)
theorem dX7_seasonOrder_156 : decode cX7_seasonOrder 156 = .ok (.iconst 5, 1) := dk_8 (dk_at dksX7_seasonOrder_6 12 rfl rfl)
theorem dX7_seasonOrder_157 : decode cX7_seasonOrder 157 = .ok (.iadd, 1) := dk_96 (dk_at dksX7_seasonOrder_6 13 rfl rfl)
theorem dX7_seasonOrder_158 : decode cX7_seasonOrder 158 = .ok (.invokevirtual 223, 3) := dk_182 0 223 (dk_at dksX7_seasonOrder_6 14 rfl rfl)
theorem dX7_seasonOrder_161 : decode cX7_seasonOrder 161 = .ok (.ifCond .eq 7, 3) := dk_153 0 7 (dk_at dksX7_seasonOrder_6 17 rfl rfl)
theorem dX7_seasonOrder_164 : decode cX7_seasonOrder 164 = .ok (.iconst 1, 1) := dk_4 (dk_at dksX7_seasonOrder_6 20 rfl rfl)
theorem dX7_seasonOrder_165 : decode cX7_seasonOrder 165 = .ok (.goto 4, 3) := dk_167 0 4 (dk_at dksX7_seasonOrder_6 21 rfl rfl)
theorem dX7_seasonOrder_168 : decode cX7_seasonOrder 168 = .ok (.iconst 0, 1) := dk_3 (dk_at dksX7_seasonOrder_7 0 rfl rfl)
theorem dX7_seasonOrder_169 : decode cX7_seasonOrder 169 = .ok (.ireturn, 1) := dk_172 (dk_at dksX7_seasonOrder_7 1 rfl rfl)
theorem dX7_seasonOrder_170 : decode cX7_seasonOrder 170 = .ok (.aload_n 0, 1) := dk_42 (dk_at dksX7_seasonOrder_7 2 rfl rfl)
theorem dX7_seasonOrder_171 : decode cX7_seasonOrder 171 = .ok (.iload_n 2, 1) := dk_28 (dk_at dksX7_seasonOrder_7 3 rfl rfl)
theorem dX7_seasonOrder_172 : decode cX7_seasonOrder 172 = .ok (.iconst 1, 1) := dk_4 (dk_at dksX7_seasonOrder_7 4 rfl rfl)
theorem dX7_seasonOrder_173 : decode cX7_seasonOrder 173 = .ok (.iadd, 1) := dk_96 (dk_at dksX7_seasonOrder_7 5 rfl rfl)
theorem dX7_seasonOrder_174 : decode cX7_seasonOrder 174 = .ok (.iconst 1, 1) := dk_4 (dk_at dksX7_seasonOrder_7 6 rfl rfl)
theorem dX7_seasonOrder_175 : decode cX7_seasonOrder 175 = .ok (.bipush 16, 2) := dk_16 16 (dk_at dksX7_seasonOrder_7 7 rfl rfl)
theorem dX7_seasonOrder_177 : decode cX7_seasonOrder 177 = .ok (.invokevirtual 182, 3) := dk_182 0 182 (dk_at dksX7_seasonOrder_7 9 rfl rfl)
theorem dX7_seasonOrder_180 : decode cX7_seasonOrder 180 = .ok (.ireturn, 1) := dk_172 (dk_at dksX7_seasonOrder_7 12 rfl rfl)
theorem dX7_seasonOrder_181 : decode cX7_seasonOrder 181 = .ok (.aload_n 0, 1) := dk_42 (dk_at dksX7_seasonOrder_7 13 rfl rfl)
theorem dX7_seasonOrder_182 : decode cX7_seasonOrder 182 = .ok (.bipush 12, 2) := dk_16 12 (dk_at dksX7_seasonOrder_7 14 rfl rfl)
theorem dX7_seasonOrder_184 : decode cX7_seasonOrder 184 = .ok (.aload_n 0, 1) := dk_42 (dk_at dksX7_seasonOrder_7 16 rfl rfl)
theorem dX7_seasonOrder_185 : decode cX7_seasonOrder 185 = .ok (.getfield 7, 3) := dk_180 0 7 (dk_at dksX7_seasonOrder_7 17 rfl rfl)
theorem dX7_seasonOrder_188 : decode cX7_seasonOrder 188 = .ok (.iconst 1, 1) := dk_4 (dk_at dksX7_seasonOrder_7 20 rfl rfl)
theorem dX7_seasonOrder_189 : decode cX7_seasonOrder 189 = .ok (.iaload, 1) := dk_46 (dk_at dksX7_seasonOrder_7 21 rfl rfl)
theorem dX7_seasonOrder_190 : decode cX7_seasonOrder 190 = .ok (.iload_n 2, 1) := dk_28 (dk_at dksX7_seasonOrder_7 22 rfl rfl)
theorem dX7_seasonOrder_191 : decode cX7_seasonOrder 191 = .ok (.iconst 1, 1) := dk_4 (dk_at dksX7_seasonOrder_7 23 rfl rfl)
theorem dX7_seasonOrder_192 : decode cX7_seasonOrder 192 = .ok (.iadd, 1) := dk_96 (dk_at dksX7_seasonOrder_8 0 rfl rfl)
theorem dX7_seasonOrder_193 : decode cX7_seasonOrder 193 = .ok (.invokevirtual 191, 3) := dk_182 0 191 (dk_at dksX7_seasonOrder_8 1 rfl rfl)
theorem dX7_seasonOrder_196 : decode cX7_seasonOrder 196 = .ok (.ifCond .eq 17, 3) := dk_153 0 17 (dk_at dksX7_seasonOrder_8 4 rfl rfl)
theorem dX7_seasonOrder_199 : decode cX7_seasonOrder 199 = .ok (.aload_n 0, 1) := dk_42 (dk_at dksX7_seasonOrder_8 7 rfl rfl)
theorem dX7_seasonOrder_200 : decode cX7_seasonOrder 200 = .ok (.iload_n 2, 1) := dk_28 (dk_at dksX7_seasonOrder_8 8 rfl rfl)
theorem dX7_seasonOrder_201 : decode cX7_seasonOrder 201 = .ok (.iconst 2, 1) := dk_5 (dk_at dksX7_seasonOrder_8 9 rfl rfl)
theorem dX7_seasonOrder_202 : decode cX7_seasonOrder 202 = .ok (.iadd, 1) := dk_96 (dk_at dksX7_seasonOrder_8 10 rfl rfl)
theorem dX7_seasonOrder_203 : decode cX7_seasonOrder 203 = .ok (.invokevirtual 220, 3) := dk_182 0 220 (dk_at dksX7_seasonOrder_8 11 rfl rfl)
theorem dX7_seasonOrder_206 : decode cX7_seasonOrder 206 = .ok (.ifCond .eq 7, 3) := dk_153 0 7 (dk_at dksX7_seasonOrder_8 14 rfl rfl)
theorem dX7_seasonOrder_209 : decode cX7_seasonOrder 209 = .ok (.iconst 1, 1) := dk_4 (dk_at dksX7_seasonOrder_8 17 rfl rfl)
theorem dX7_seasonOrder_210 : decode cX7_seasonOrder 210 = .ok (.goto 4, 3) := dk_167 0 4 (dk_at dksX7_seasonOrder_8 18 rfl rfl)
theorem dX7_seasonOrder_213 : decode cX7_seasonOrder 213 = .ok (.iconst 0, 1) := dk_3 (dk_at dksX7_seasonOrder_8 21 rfl rfl)
theorem dX7_seasonOrder_214 : decode cX7_seasonOrder 214 = .ok (.ireturn, 1) := dk_172 (dk_at dksX7_seasonOrder_8 22 rfl rfl)
theorem dX7_seasonOrder_215 : decode cX7_seasonOrder 215 = .ok (.aload_n 0, 1) := dk_42 (dk_at dksX7_seasonOrder_8 23 rfl rfl)
theorem dX7_seasonOrder_216 : decode cX7_seasonOrder 216 = .ok (.iload_n 2, 1) := dk_28 (dk_at dksX7_seasonOrder_9 0 rfl rfl)
theorem dX7_seasonOrder_217 : decode cX7_seasonOrder 217 = .ok (.invokevirtual 226, 3) := dk_182 0 226 (dk_at dksX7_seasonOrder_9 1 rfl rfl)
theorem dX7_seasonOrder_220 : decode cX7_seasonOrder 220 = .ok (.ireturn, 1) := dk_172 (dk_at dksX7_seasonOrder_9 4 rfl rfl)
theorem dX7_seasonOrder_221 : decode cX7_seasonOrder 221 = .ok (.aload_n 0, 1) := dk_42 (dk_at dksX7_seasonOrder_9 5 rfl rfl)
theorem dX7_seasonOrder_222 : decode cX7_seasonOrder 222 = .ok (.iload_n 2, 1) := dk_28 (dk_at dksX7_seasonOrder_9 6 rfl rfl)
theorem dX7_seasonOrder_223 : decode cX7_seasonOrder 223 = .ok (.iconst 1, 1) := dk_4 (dk_at dksX7_seasonOrder_9 7 rfl rfl)
theorem dX7_seasonOrder_224 : decode cX7_seasonOrder 224 = .ok (.iadd, 1) := dk_96 (dk_at dksX7_seasonOrder_9 8 rfl rfl)
theorem dX7_seasonOrder_225 : decode cX7_seasonOrder 225 = .ok (.iconst 1, 1) := dk_4 (dk_at dksX7_seasonOrder_9 9 rfl rfl)
theorem dX7_seasonOrder_226 : decode cX7_seasonOrder 226 = .ok (.bipush 99, 2) := dk_16 99 (dk_at dksX7_seasonOrder_9 10 rfl rfl)
theorem dX7_seasonOrder_228 : decode cX7_seasonOrder 228 = .ok (.invokevirtual 182, 3) := dk_182 0 182 (dk_at dksX7_seasonOrder_9 12 rfl rfl)
theorem dX7_seasonOrder_231 : decode cX7_seasonOrder 231 = .ok (.ireturn, 1) := dk_172 (dk_at dksX7_seasonOrder_9 15 rfl rfl)
theorem dX7_seasonOrder_232 : decode cX7_seasonOrder 232 = .ok (.iconst 1, 1) := dk_4 (dk_at dksX7_seasonOrder_9 16 rfl rfl)
theorem dX7_seasonOrder_233 : decode cX7_seasonOrder 233 = .ok (.ireturn, 1) := dk_172 (dk_at dksX7_seasonOrder_9 17 rfl rfl)
def dkwX7_hiveTo_0 : List UInt8 := [42, 3, 42, 180, 0, 7, 3, 46, 27, 182, 0, 191, 172]
abbrev dktX7_hiveTo_0 : List UInt8 := dkwX7_hiveTo_0 ++ []
theorem dksX7_hiveTo_0 : cX7_hiveTo.data.toList.drop 0 = dktX7_hiveTo_0 := by decide +kernel
theorem dX7_hiveTo_0 : decode cX7_hiveTo 0 = .ok (.aload_n 0, 1) := dk_42 (dk_at dksX7_hiveTo_0 0 rfl rfl)
theorem dX7_hiveTo_1 : decode cX7_hiveTo 1 = .ok (.iconst 0, 1) := dk_3 (dk_at dksX7_hiveTo_0 1 rfl rfl)
theorem dX7_hiveTo_2 : decode cX7_hiveTo 2 = .ok (.aload_n 0, 1) := dk_42 (dk_at dksX7_hiveTo_0 2 rfl rfl)
theorem dX7_hiveTo_3 : decode cX7_hiveTo 3 = .ok (.getfield 7, 3) := dk_180 0 7 (dk_at dksX7_hiveTo_0 3 rfl rfl)
theorem dX7_hiveTo_6 : decode cX7_hiveTo 6 = .ok (.iconst 0, 1) := dk_3 (dk_at dksX7_hiveTo_0 6 rfl rfl)
theorem dX7_hiveTo_7 : decode cX7_hiveTo 7 = .ok (.iaload, 1) := dk_46 (dk_at dksX7_hiveTo_0 7 rfl rfl)
theorem dX7_hiveTo_8 : decode cX7_hiveTo 8 = .ok (.iload_n 1, 1) := dk_27 (dk_at dksX7_hiveTo_0 8 rfl rfl)
theorem dX7_hiveTo_9 : decode cX7_hiveTo 9 = .ok (.invokevirtual 191, 3) := dk_182 0 191 (dk_at dksX7_hiveTo_0 9 rfl rfl)
theorem dX7_hiveTo_12 : decode cX7_hiveTo 12 = .ok (.ireturn, 1) := dk_172 (dk_at dksX7_hiveTo_0 12 rfl rfl)
def dkwX7_frameTo_0 : List UInt8 := [42, 28, 3, 42, 180, 0, 7, 42, 180, 0, 7, 27, 46, 184, 0, 217, 46, 4, 100, 182, 0, 182, 172]
abbrev dktX7_frameTo_0 : List UInt8 := dkwX7_frameTo_0 ++ []
theorem dksX7_frameTo_0 : cX7_frameTo.data.toList.drop 0 = dktX7_frameTo_0 := by decide +kernel
theorem dX7_frameTo_0 : decode cX7_frameTo 0 = .ok (.aload_n 0, 1) := dk_42 (dk_at dksX7_frameTo_0 0 rfl rfl)
theorem dX7_frameTo_1 : decode cX7_frameTo 1 = .ok (.iload_n 2, 1) := dk_28 (dk_at dksX7_frameTo_0 1 rfl rfl)
theorem dX7_frameTo_2 : decode cX7_frameTo 2 = .ok (.iconst 0, 1) := dk_3 (dk_at dksX7_frameTo_0 2 rfl rfl)
theorem dX7_frameTo_3 : decode cX7_frameTo 3 = .ok (.aload_n 0, 1) := dk_42 (dk_at dksX7_frameTo_0 3 rfl rfl)
theorem dX7_frameTo_4 : decode cX7_frameTo 4 = .ok (.getfield 7, 3) := dk_180 0 7 (dk_at dksX7_frameTo_0 4 rfl rfl)
theorem dX7_frameTo_7 : decode cX7_frameTo 7 = .ok (.aload_n 0, 1) := dk_42 (dk_at dksX7_frameTo_0 7 rfl rfl)
theorem dX7_frameTo_8 : decode cX7_frameTo 8 = .ok (.getfield 7, 3) := dk_180 0 7 (dk_at dksX7_frameTo_0 8 rfl rfl)
theorem dX7_frameTo_11 : decode cX7_frameTo 11 = .ok (.iload_n 1, 1) := dk_27 (dk_at dksX7_frameTo_0 11 rfl rfl)
theorem dX7_frameTo_12 : decode cX7_frameTo 12 = .ok (.iaload, 1) := dk_46 (dk_at dksX7_frameTo_0 12 rfl rfl)
theorem dX7_frameTo_13 : decode cX7_frameTo 13 = .ok (.invokestatic 217, 3) := dk_184 0 217 (dk_at dksX7_frameTo_0 13 rfl rfl)
theorem dX7_frameTo_16 : decode cX7_frameTo 16 = .ok (.iaload, 1) := dk_46 (dk_at dksX7_frameTo_0 16 rfl rfl)
theorem dX7_frameTo_17 : decode cX7_frameTo 17 = .ok (.iconst 1, 1) := dk_4 (dk_at dksX7_frameTo_0 17 rfl rfl)
theorem dX7_frameTo_18 : decode cX7_frameTo 18 = .ok (.isub, 1) := dk_100 (dk_at dksX7_frameTo_0 18 rfl rfl)
theorem dX7_frameTo_19 : decode cX7_frameTo 19 = .ok (.invokevirtual 182, 3) := dk_182 0 182 (dk_at dksX7_frameTo_0 19 rfl rfl)
theorem dX7_frameTo_22 : decode cX7_frameTo 22 = .ok (.ireturn, 1) := dk_172 (dk_at dksX7_frameTo_0 22 rfl rfl)
def dkwX7_hiveRow_0 : List UInt8 := [16, 64, 17, 0, 198, 26, 104, 96, 172]
abbrev dktX7_hiveRow_0 : List UInt8 := dkwX7_hiveRow_0 ++ []
theorem dksX7_hiveRow_0 : cX7_hiveRow.data.toList.drop 0 = dktX7_hiveRow_0 := by decide +kernel
theorem dX7_hiveRow_0 : decode cX7_hiveRow 0 = .ok (.bipush 64, 2) := dk_16 64 (dk_at dksX7_hiveRow_0 0 rfl rfl)
theorem dX7_hiveRow_2 : decode cX7_hiveRow 2 = .ok (.sipush 198, 3) := dk_17 0 198 (dk_at dksX7_hiveRow_0 2 rfl rfl)
theorem dX7_hiveRow_5 : decode cX7_hiveRow 5 = .ok (.iload_n 0, 1) := dk_26 (dk_at dksX7_hiveRow_0 5 rfl rfl)
theorem dX7_hiveRow_6 : decode cX7_hiveRow 6 = .ok (.imul, 1) := dk_104 (dk_at dksX7_hiveRow_0 6 rfl rfl)
theorem dX7_hiveRow_7 : decode cX7_hiveRow 7 = .ok (.iadd, 1) := dk_96 (dk_at dksX7_hiveRow_0 7 rfl rfl)
theorem dX7_hiveRow_8 : decode cX7_hiveRow 8 = .ok (.ireturn, 1) := dk_172 (dk_at dksX7_hiveRow_0 8 rfl rfl)
def dkwX7_test_5 : List UInt8 := [182, 0, 148, 42, 27, 5, 96, 3, 17, 39, 15, 182, 0, 182, 172]
abbrev dktX7_test_5 : List UInt8 := dkwX7_test_5 ++ []
def dkwX7_test_4 : List UInt8 := [154, 0, 9, 42, 5, 182, 0, 154, 172, 42, 180, 0, 7, 27, 8, 96, 42, 180, 0, 114, 79, 42]
abbrev dktX7_test_4 : List UInt8 := dkwX7_test_4 ++ dktX7_test_5
def dkwX7_test_3 : List UInt8 := [16, 60, 182, 0, 151, 154, 0, 27, 42, 16, 62, 182, 0, 151, 154, 0, 18, 42, 16, 61, 182, 0, 151]
abbrev dktX7_test_3 : List UInt8 := dkwX7_test_3 ++ dktX7_test_4
def dkwX7_test_2 : List UInt8 := [182, 0, 148, 42, 27, 4, 96, 182, 0, 220, 154, 0, 5, 3, 172, 28, 16, 21, 160, 0, 5, 4, 172, 42]
abbrev dktX7_test_2 : List UInt8 := dkwX7_test_2 ++ dktX7_test_3
def dkwX7_test_1 : List UInt8 := [28, 16, 22, 159, 0, 9, 42, 5, 182, 0, 154, 172, 42, 180, 0, 7, 27, 17, 6, 164, 28, 96, 79, 42]
abbrev dktX7_test_1 : List UInt8 := dkwX7_test_1 ++ dktX7_test_2
def dkwX7_test_0 : List UInt8 := [42, 18, 165, 182, 0, 157, 61, 28, 16, 21, 159, 0, 26, 28, 8, 159, 0, 21, 28, 16, 6, 159, 0, 15]
abbrev dktX7_test_0 : List UInt8 := dkwX7_test_0 ++ dktX7_test_1
theorem dksX7_test_0 : cX7_test.data.toList.drop 0 = dktX7_test_0 := by decide +kernel
theorem dksX7_test_1 : cX7_test.data.toList.drop 24 = dktX7_test_1 := dk_seg dksX7_test_0 24 rfl rfl
theorem dksX7_test_2 : cX7_test.data.toList.drop 48 = dktX7_test_2 := dk_seg dksX7_test_1 24 rfl rfl
theorem dksX7_test_3 : cX7_test.data.toList.drop 72 = dktX7_test_3 := dk_seg dksX7_test_2 24 rfl rfl
theorem dksX7_test_4 : cX7_test.data.toList.drop 95 = dktX7_test_4 := dk_seg dksX7_test_3 23 rfl rfl
theorem dksX7_test_5 : cX7_test.data.toList.drop 117 = dktX7_test_5 := dk_seg dksX7_test_4 22 rfl rfl
theorem dX7_test_0 : decode cX7_test 0 = .ok (.aload_n 0, 1) := dk_42 (dk_at dksX7_test_0 0 rfl rfl)
theorem dX7_test_1 : decode cX7_test 1 = .ok (.ldc 165, 2) := dk_18 165 (dk_at dksX7_test_0 1 rfl rfl)
theorem dX7_test_3 : decode cX7_test 3 = .ok (.invokevirtual 157, 3) := dk_182 0 157 (dk_at dksX7_test_0 3 rfl rfl)
theorem dX7_test_6 : decode cX7_test 6 = .ok (.istore_n 2, 1) := dk_61 (dk_at dksX7_test_0 6 rfl rfl)
theorem dX7_test_7 : decode cX7_test 7 = .ok (.iload_n 2, 1) := dk_28 (dk_at dksX7_test_0 7 rfl rfl)
theorem dX7_test_8 : decode cX7_test 8 = .ok (.bipush 21, 2) := dk_16 21 (dk_at dksX7_test_0 8 rfl rfl)
theorem dX7_test_10 : decode cX7_test 10 = .ok (.if_icmp .eq 26, 3) := dk_159 0 26 (dk_at dksX7_test_0 10 rfl rfl)
theorem dX7_test_13 : decode cX7_test 13 = .ok (.iload_n 2, 1) := dk_28 (dk_at dksX7_test_0 13 rfl rfl)
theorem dX7_test_14 : decode cX7_test 14 = .ok (.iconst 5, 1) := dk_8 (dk_at dksX7_test_0 14 rfl rfl)
theorem dX7_test_15 : decode cX7_test 15 = .ok (.if_icmp .eq 21, 3) := dk_159 0 21 (dk_at dksX7_test_0 15 rfl rfl)
theorem dX7_test_18 : decode cX7_test 18 = .ok (.iload_n 2, 1) := dk_28 (dk_at dksX7_test_0 18 rfl rfl)
theorem dX7_test_19 : decode cX7_test 19 = .ok (.bipush 6, 2) := dk_16 6 (dk_at dksX7_test_0 19 rfl rfl)
theorem dX7_test_21 : decode cX7_test 21 = .ok (.if_icmp .eq 15, 3) := dk_159 0 15 (dk_at dksX7_test_0 21 rfl rfl)
theorem dX7_test_24 : decode cX7_test 24 = .ok (.iload_n 2, 1) := dk_28 (dk_at dksX7_test_1 0 rfl rfl)
theorem dX7_test_25 : decode cX7_test 25 = .ok (.bipush 22, 2) := dk_16 22 (dk_at dksX7_test_1 1 rfl rfl)
theorem dX7_test_27 : decode cX7_test 27 = .ok (.if_icmp .eq 9, 3) := dk_159 0 9 (dk_at dksX7_test_1 3 rfl rfl)
theorem dX7_test_30 : decode cX7_test 30 = .ok (.aload_n 0, 1) := dk_42 (dk_at dksX7_test_1 6 rfl rfl)
theorem dX7_test_31 : decode cX7_test 31 = .ok (.iconst 2, 1) := dk_5 (dk_at dksX7_test_1 7 rfl rfl)
theorem dX7_test_32 : decode cX7_test 32 = .ok (.invokevirtual 154, 3) := dk_182 0 154 (dk_at dksX7_test_1 8 rfl rfl)
theorem dX7_test_35 : decode cX7_test 35 = .ok (.ireturn, 1) := dk_172 (dk_at dksX7_test_1 11 rfl rfl)
theorem dX7_test_36 : decode cX7_test 36 = .ok (.aload_n 0, 1) := dk_42 (dk_at dksX7_test_1 12 rfl rfl)
theorem dX7_test_37 : decode cX7_test 37 = .ok (.getfield 7, 3) := dk_180 0 7 (dk_at dksX7_test_1 13 rfl rfl)
theorem dX7_test_40 : decode cX7_test 40 = .ok (.iload_n 1, 1) := dk_27 (dk_at dksX7_test_1 16 rfl rfl)
theorem dX7_test_41 : decode cX7_test 41 = .ok (.sipush 1700, 3) := dk_17 6 164 (dk_at dksX7_test_1 17 rfl rfl)
theorem dX7_test_44 : decode cX7_test 44 = .ok (.iload_n 2, 1) := dk_28 (dk_at dksX7_test_1 20 rfl rfl)
theorem dX7_test_45 : decode cX7_test 45 = .ok (.iadd, 1) := dk_96 (dk_at dksX7_test_1 21 rfl rfl)
theorem dX7_test_46 : decode cX7_test 46 = .ok (.iastore, 1) := dk_79 (dk_at dksX7_test_1 22 rfl rfl)
theorem dX7_test_47 : decode cX7_test 47 = .ok (.aload_n 0, 1) := dk_42 (dk_at dksX7_test_1 23 rfl rfl)
theorem dX7_test_48 : decode cX7_test 48 = .ok (.invokevirtual 148, 3) := dk_182 0 148 (dk_at dksX7_test_2 0 rfl rfl)
theorem dX7_test_51 : decode cX7_test 51 = .ok (.aload_n 0, 1) := dk_42 (dk_at dksX7_test_2 3 rfl rfl)
theorem dX7_test_52 : decode cX7_test 52 = .ok (.iload_n 1, 1) := dk_27 (dk_at dksX7_test_2 4 rfl rfl)
theorem dX7_test_53 : decode cX7_test 53 = .ok (.iconst 1, 1) := dk_4 (dk_at dksX7_test_2 5 rfl rfl)
theorem dX7_test_54 : decode cX7_test 54 = .ok (.iadd, 1) := dk_96 (dk_at dksX7_test_2 6 rfl rfl)
theorem dX7_test_55 : decode cX7_test 55 = .ok (.invokevirtual 220, 3) := dk_182 0 220 (dk_at dksX7_test_2 7 rfl rfl)
theorem dX7_test_58 : decode cX7_test 58 = .ok (.ifCond .ne 5, 3) := dk_154 0 5 (dk_at dksX7_test_2 10 rfl rfl)
theorem dX7_test_61 : decode cX7_test 61 = .ok (.iconst 0, 1) := dk_3 (dk_at dksX7_test_2 13 rfl rfl)
theorem dX7_test_62 : decode cX7_test 62 = .ok (.ireturn, 1) := dk_172 (dk_at dksX7_test_2 14 rfl rfl)
theorem dX7_test_63 : decode cX7_test 63 = .ok (.iload_n 2, 1) := dk_28 (dk_at dksX7_test_2 15 rfl rfl)
theorem dX7_test_64 : decode cX7_test 64 = .ok (.bipush 21, 2) := dk_16 21 (dk_at dksX7_test_2 16 rfl rfl)
theorem dX7_test_66 : decode cX7_test 66 = .ok (.if_icmp .ne 5, 3) := dk_160 0 5 (dk_at dksX7_test_2 18 rfl rfl)
theorem dX7_test_69 : decode cX7_test 69 = .ok (.iconst 1, 1) := dk_4 (dk_at dksX7_test_2 21 rfl rfl)
theorem dX7_test_70 : decode cX7_test 70 = .ok (.ireturn, 1) := dk_172 (dk_at dksX7_test_2 22 rfl rfl)
theorem dX7_test_71 : decode cX7_test 71 = .ok (.aload_n 0, 1) := dk_42 (dk_at dksX7_test_2 23 rfl rfl)
theorem dX7_test_72 : decode cX7_test 72 = .ok (.bipush 60, 2) := dk_16 60 (dk_at dksX7_test_3 0 rfl rfl)
theorem dX7_test_74 : decode cX7_test 74 = .ok (.invokevirtual 151, 3) := dk_182 0 151 (dk_at dksX7_test_3 2 rfl rfl)
theorem dX7_test_77 : decode cX7_test 77 = .ok (.ifCond .ne 27, 3) := dk_154 0 27 (dk_at dksX7_test_3 5 rfl rfl)
theorem dX7_test_80 : decode cX7_test 80 = .ok (.aload_n 0, 1) := dk_42 (dk_at dksX7_test_3 8 rfl rfl)
theorem dX7_test_81 : decode cX7_test 81 = .ok (.bipush 62, 2) := dk_16 62 (dk_at dksX7_test_3 9 rfl rfl)
theorem dX7_test_83 : decode cX7_test 83 = .ok (.invokevirtual 151, 3) := dk_182 0 151 (dk_at dksX7_test_3 11 rfl rfl)
theorem dX7_test_86 : decode cX7_test 86 = .ok (.ifCond .ne 18, 3) := dk_154 0 18 (dk_at dksX7_test_3 14 rfl rfl)
theorem dX7_test_89 : decode cX7_test 89 = .ok (.aload_n 0, 1) := dk_42 (dk_at dksX7_test_3 17 rfl rfl)
theorem dX7_test_90 : decode cX7_test 90 = .ok (.bipush 61, 2) := dk_16 61 (dk_at dksX7_test_3 18 rfl rfl)
theorem dX7_test_92 : decode cX7_test 92 = .ok (.invokevirtual 151, 3) := dk_182 0 151 (dk_at dksX7_test_3 20 rfl rfl)
theorem dX7_test_95 : decode cX7_test 95 = .ok (.ifCond .ne 9, 3) := dk_154 0 9 (dk_at dksX7_test_4 0 rfl rfl)
theorem dX7_test_98 : decode cX7_test 98 = .ok (.aload_n 0, 1) := dk_42 (dk_at dksX7_test_4 3 rfl rfl)
theorem dX7_test_99 : decode cX7_test 99 = .ok (.iconst 2, 1) := dk_5 (dk_at dksX7_test_4 4 rfl rfl)
theorem dX7_test_100 : decode cX7_test 100 = .ok (.invokevirtual 154, 3) := dk_182 0 154 (dk_at dksX7_test_4 5 rfl rfl)
theorem dX7_test_103 : decode cX7_test 103 = .ok (.ireturn, 1) := dk_172 (dk_at dksX7_test_4 8 rfl rfl)
theorem dX7_test_104 : decode cX7_test 104 = .ok (.aload_n 0, 1) := dk_42 (dk_at dksX7_test_4 9 rfl rfl)
theorem dX7_test_105 : decode cX7_test 105 = .ok (.getfield 7, 3) := dk_180 0 7 (dk_at dksX7_test_4 10 rfl rfl)
theorem dX7_test_108 : decode cX7_test 108 = .ok (.iload_n 1, 1) := dk_27 (dk_at dksX7_test_4 13 rfl rfl)
theorem dX7_test_109 : decode cX7_test 109 = .ok (.iconst 5, 1) := dk_8 (dk_at dksX7_test_4 14 rfl rfl)
theorem dX7_test_110 : decode cX7_test 110 = .ok (.iadd, 1) := dk_96 (dk_at dksX7_test_4 15 rfl rfl)
theorem dX7_test_111 : decode cX7_test 111 = .ok (.aload_n 0, 1) := dk_42 (dk_at dksX7_test_4 16 rfl rfl)
theorem dX7_test_112 : decode cX7_test 112 = .ok (.getfield 114, 3) := dk_180 0 114 (dk_at dksX7_test_4 17 rfl rfl)
theorem dX7_test_115 : decode cX7_test 115 = .ok (.iastore, 1) := dk_79 (dk_at dksX7_test_4 20 rfl rfl)
theorem dX7_test_116 : decode cX7_test 116 = .ok (.aload_n 0, 1) := dk_42 (dk_at dksX7_test_4 21 rfl rfl)
theorem dX7_test_117 : decode cX7_test 117 = .ok (.invokevirtual 148, 3) := dk_182 0 148 (dk_at dksX7_test_5 0 rfl rfl)
theorem dX7_test_120 : decode cX7_test 120 = .ok (.aload_n 0, 1) := dk_42 (dk_at dksX7_test_5 3 rfl rfl)
theorem dX7_test_121 : decode cX7_test 121 = .ok (.iload_n 1, 1) := dk_27 (dk_at dksX7_test_5 4 rfl rfl)
theorem dX7_test_122 : decode cX7_test 122 = .ok (.iconst 2, 1) := dk_5 (dk_at dksX7_test_5 5 rfl rfl)
theorem dX7_test_123 : decode cX7_test 123 = .ok (.iadd, 1) := dk_96 (dk_at dksX7_test_5 6 rfl rfl)
theorem dX7_test_124 : decode cX7_test 124 = .ok (.iconst 0, 1) := dk_3 (dk_at dksX7_test_5 7 rfl rfl)
theorem dX7_test_125 : decode cX7_test 125 = .ok (.sipush 9999, 3) := dk_17 39 15 (dk_at dksX7_test_5 8 rfl rfl)
theorem dX7_test_128 : decode cX7_test 128 = .ok (.invokevirtual 182, 3) := dk_182 0 182 (dk_at dksX7_test_5 11 rfl rfl)
theorem dX7_test_131 : decode cX7_test 131 = .ok (.ireturn, 1) := dk_172 (dk_at dksX7_test_5 14 rfl rfl)
def dkwX7_told_1 : List UInt8 := [46, 182, 0, 76, 172]
abbrev dktX7_told_1 : List UInt8 := dkwX7_told_1 ++ []
def dkwX7_told_0 : List UInt8 := [27, 155, 0, 9, 27, 16, 9, 164, 0, 11, 42, 4, 182, 0, 72, 167, 0, 13, 42, 42, 180, 0, 7, 27]
abbrev dktX7_told_0 : List UInt8 := dkwX7_told_0 ++ dktX7_told_1
theorem dksX7_told_0 : cX7_told.data.toList.drop 0 = dktX7_told_0 := by decide +kernel
theorem dksX7_told_1 : cX7_told.data.toList.drop 24 = dktX7_told_1 := dk_seg dksX7_told_0 24 rfl rfl
theorem dX7_told_0 : decode cX7_told 0 = .ok (.iload_n 1, 1) := dk_27 (dk_at dksX7_told_0 0 rfl rfl)
theorem dX7_told_1 : decode cX7_told 1 = .ok (.ifCond .lt 9, 3) := dk_155 0 9 (dk_at dksX7_told_0 1 rfl rfl)
theorem dX7_told_4 : decode cX7_told 4 = .ok (.iload_n 1, 1) := dk_27 (dk_at dksX7_told_0 4 rfl rfl)
theorem dX7_told_5 : decode cX7_told 5 = .ok (.bipush 9, 2) := dk_16 9 (dk_at dksX7_told_0 5 rfl rfl)
theorem dX7_told_7 : decode cX7_told 7 = .ok (.if_icmp .le 11, 3) := dk_164 0 11 (dk_at dksX7_told_0 7 rfl rfl)
theorem dX7_told_10 : decode cX7_told 10 = .ok (.aload_n 0, 1) := dk_42 (dk_at dksX7_told_0 10 rfl rfl)
theorem dX7_told_11 : decode cX7_told 11 = .ok (.iconst 1, 1) := dk_4 (dk_at dksX7_told_0 11 rfl rfl)
theorem dX7_told_12 : decode cX7_told 12 = .ok (.invokevirtual 72, 3) := dk_182 0 72 (dk_at dksX7_told_0 12 rfl rfl)
theorem dX7_told_15 : decode cX7_told 15 = .ok (.goto 13, 3) := dk_167 0 13 (dk_at dksX7_told_0 15 rfl rfl)
theorem dX7_told_18 : decode cX7_told 18 = .ok (.aload_n 0, 1) := dk_42 (dk_at dksX7_told_0 18 rfl rfl)
theorem dX7_told_19 : decode cX7_told 19 = .ok (.aload_n 0, 1) := dk_42 (dk_at dksX7_told_0 19 rfl rfl)
theorem dX7_told_20 : decode cX7_told 20 = .ok (.getfield 7, 3) := dk_180 0 7 (dk_at dksX7_told_0 20 rfl rfl)
theorem dX7_told_23 : decode cX7_told 23 = .ok (.iload_n 1, 1) := dk_27 (dk_at dksX7_told_0 23 rfl rfl)
theorem dX7_told_24 : decode cX7_told 24 = .ok (.iaload, 1) := dk_46 (dk_at dksX7_told_1 0 rfl rfl)
theorem dX7_told_25 : decode cX7_told 25 = .ok (.invokevirtual 76, 3) := dk_182 0 76 (dk_at dksX7_told_1 1 rfl rfl)
theorem dX7_told_28 : decode cX7_told 28 = .ok (.ireturn, 1) := dk_172 (dk_at dksX7_told_1 4 rfl rfl)
def dkwX7_hive_5 : List UInt8 := [182, 1, 24, 172, 42, 42, 29, 28, 5, 100, 182, 1, 27, 182, 0, 76, 172]
abbrev dktX7_hive_5 : List UInt8 := dkwX7_hive_5 ++ []
def dkwX7_hive_4 : List UInt8 := [42, 42, 180, 0, 7, 29, 5, 96, 46, 182, 0, 76, 172, 42, 42, 180, 0, 7, 29, 6, 96, 46]
abbrev dktX7_hive_4 : List UInt8 := dkwX7_hive_4 ++ dktX7_hive_5
def dkwX7_hive_3 : List UInt8 := [42, 42, 180, 0, 7, 29, 46, 182, 0, 76, 172, 42, 42, 180, 0, 7, 29, 4, 96, 46, 182, 0, 76, 172]
abbrev dktX7_hive_3 : List UInt8 := dkwX7_hive_3 ++ dktX7_hive_4
def dkwX7_hive_2 : List UInt8 := [170, 0, 0, 0, 0, 92, 0, 0, 0, 0, 0, 0, 0, 6, 0, 0, 0, 42, 0, 0, 0, 53, 0, 0, 0, 92, 0, 0, 0, 92, 0, 0, 0, 92, 0, 0, 0, 66, 0, 0, 0, 79]
abbrev dktX7_hive_2 : List UInt8 := dkwX7_hive_2 ++ dktX7_hive_3
def dkwX7_hive_1 : List UInt8 := [27, 184, 0, 217, 62, 28]
abbrev dktX7_hive_1 : List UInt8 := dkwX7_hive_1 ++ dktX7_hive_2
def dkwX7_hive_0 : List UInt8 := [42, 27, 182, 1, 18, 153, 0, 13, 28, 155, 0, 9, 28, 16, 6, 164, 0, 9, 42, 4, 182, 0, 72, 172]
abbrev dktX7_hive_0 : List UInt8 := dkwX7_hive_0 ++ dktX7_hive_1
theorem dksX7_hive_0 : cX7_hive.data.toList.drop 0 = dktX7_hive_0 := by decide +kernel
theorem dksX7_hive_1 : cX7_hive.data.toList.drop 24 = dktX7_hive_1 := dk_seg dksX7_hive_0 24 rfl rfl
theorem dksX7_hive_2 : cX7_hive.data.toList.drop 30 = dktX7_hive_2 := dk_seg dksX7_hive_1 6 rfl rfl
theorem dksX7_hive_3 : cX7_hive.data.toList.drop 72 = dktX7_hive_3 := dk_seg dksX7_hive_2 42 rfl rfl
theorem dksX7_hive_4 : cX7_hive.data.toList.drop 96 = dktX7_hive_4 := dk_seg dksX7_hive_3 24 rfl rfl
theorem dksX7_hive_5 : cX7_hive.data.toList.drop 118 = dktX7_hive_5 := dk_seg dksX7_hive_4 22 rfl rfl
theorem dX7_hive_0 : decode cX7_hive 0 = .ok (.aload_n 0, 1) := dk_42 (dk_at dksX7_hive_0 0 rfl rfl)
theorem dX7_hive_1 : decode cX7_hive 1 = .ok (.iload_n 1, 1) := dk_27 (dk_at dksX7_hive_0 1 rfl rfl)
theorem dX7_hive_2 : decode cX7_hive 2 = .ok (.invokevirtual 274, 3) := dk_182 1 18 (dk_at dksX7_hive_0 2 rfl rfl)
theorem dX7_hive_5 : decode cX7_hive 5 = .ok (.ifCond .eq 13, 3) := dk_153 0 13 (dk_at dksX7_hive_0 5 rfl rfl)
theorem dX7_hive_8 : decode cX7_hive 8 = .ok (.iload_n 2, 1) := dk_28 (dk_at dksX7_hive_0 8 rfl rfl)
theorem dX7_hive_9 : decode cX7_hive 9 = .ok (.ifCond .lt 9, 3) := dk_155 0 9 (dk_at dksX7_hive_0 9 rfl rfl)
theorem dX7_hive_12 : decode cX7_hive 12 = .ok (.iload_n 2, 1) := dk_28 (dk_at dksX7_hive_0 12 rfl rfl)
theorem dX7_hive_13 : decode cX7_hive 13 = .ok (.bipush 6, 2) := dk_16 6 (dk_at dksX7_hive_0 13 rfl rfl)
theorem dX7_hive_15 : decode cX7_hive 15 = .ok (.if_icmp .le 9, 3) := dk_164 0 9 (dk_at dksX7_hive_0 15 rfl rfl)
theorem dX7_hive_18 : decode cX7_hive 18 = .ok (.aload_n 0, 1) := dk_42 (dk_at dksX7_hive_0 18 rfl rfl)
theorem dX7_hive_19 : decode cX7_hive 19 = .ok (.iconst 1, 1) := dk_4 (dk_at dksX7_hive_0 19 rfl rfl)
theorem dX7_hive_20 : decode cX7_hive 20 = .ok (.invokevirtual 72, 3) := dk_182 0 72 (dk_at dksX7_hive_0 20 rfl rfl)
theorem dX7_hive_23 : decode cX7_hive 23 = .ok (.ireturn, 1) := dk_172 (dk_at dksX7_hive_0 23 rfl rfl)
theorem dX7_hive_24 : decode cX7_hive 24 = .ok (.iload_n 1, 1) := dk_27 (dk_at dksX7_hive_1 0 rfl rfl)
theorem dX7_hive_25 : decode cX7_hive 25 = .ok (.invokestatic 217, 3) := dk_184 0 217 (dk_at dksX7_hive_1 1 rfl rfl)
theorem dX7_hive_28 : decode cX7_hive 28 = .ok (.istore_n 3, 1) := dk_62 (dk_at dksX7_hive_1 4 rfl rfl)
theorem dX7_hive_29 : decode cX7_hive 29 = .ok (.iload_n 2, 1) := dk_28 (dk_at dksX7_hive_1 5 rfl rfl)
theorem dX7_hive_30 : decode cX7_hive 30 = .ok (.tableswitch 92 0 6 #[42, 53, 92, 92, 92, 66, 79], 42) := by decide +kernel
theorem dX7_hive_72 : decode cX7_hive 72 = .ok (.aload_n 0, 1) := dk_42 (dk_at dksX7_hive_3 0 rfl rfl)
theorem dX7_hive_73 : decode cX7_hive 73 = .ok (.aload_n 0, 1) := dk_42 (dk_at dksX7_hive_3 1 rfl rfl)
theorem dX7_hive_74 : decode cX7_hive 74 = .ok (.getfield 7, 3) := dk_180 0 7 (dk_at dksX7_hive_3 2 rfl rfl)
theorem dX7_hive_77 : decode cX7_hive 77 = .ok (.iload_n 3, 1) := dk_29 (dk_at dksX7_hive_3 5 rfl rfl)
theorem dX7_hive_78 : decode cX7_hive 78 = .ok (.iaload, 1) := dk_46 (dk_at dksX7_hive_3 6 rfl rfl)
theorem dX7_hive_79 : decode cX7_hive 79 = .ok (.invokevirtual 76, 3) := dk_182 0 76 (dk_at dksX7_hive_3 7 rfl rfl)
theorem dX7_hive_82 : decode cX7_hive 82 = .ok (.ireturn, 1) := dk_172 (dk_at dksX7_hive_3 10 rfl rfl)
theorem dX7_hive_83 : decode cX7_hive 83 = .ok (.aload_n 0, 1) := dk_42 (dk_at dksX7_hive_3 11 rfl rfl)
theorem dX7_hive_84 : decode cX7_hive 84 = .ok (.aload_n 0, 1) := dk_42 (dk_at dksX7_hive_3 12 rfl rfl)
theorem dX7_hive_85 : decode cX7_hive 85 = .ok (.getfield 7, 3) := dk_180 0 7 (dk_at dksX7_hive_3 13 rfl rfl)
theorem dX7_hive_88 : decode cX7_hive 88 = .ok (.iload_n 3, 1) := dk_29 (dk_at dksX7_hive_3 16 rfl rfl)
theorem dX7_hive_89 : decode cX7_hive 89 = .ok (.iconst 1, 1) := dk_4 (dk_at dksX7_hive_3 17 rfl rfl)
theorem dX7_hive_90 : decode cX7_hive 90 = .ok (.iadd, 1) := dk_96 (dk_at dksX7_hive_3 18 rfl rfl)
theorem dX7_hive_91 : decode cX7_hive 91 = .ok (.iaload, 1) := dk_46 (dk_at dksX7_hive_3 19 rfl rfl)
theorem dX7_hive_92 : decode cX7_hive 92 = .ok (.invokevirtual 76, 3) := dk_182 0 76 (dk_at dksX7_hive_3 20 rfl rfl)
theorem dX7_hive_95 : decode cX7_hive 95 = .ok (.ireturn, 1) := dk_172 (dk_at dksX7_hive_3 23 rfl rfl)
theorem dX7_hive_96 : decode cX7_hive 96 = .ok (.aload_n 0, 1) := dk_42 (dk_at dksX7_hive_4 0 rfl rfl)
theorem dX7_hive_97 : decode cX7_hive 97 = .ok (.aload_n 0, 1) := dk_42 (dk_at dksX7_hive_4 1 rfl rfl)
theorem dX7_hive_98 : decode cX7_hive 98 = .ok (.getfield 7, 3) := dk_180 0 7 (dk_at dksX7_hive_4 2 rfl rfl)
theorem dX7_hive_101 : decode cX7_hive 101 = .ok (.iload_n 3, 1) := dk_29 (dk_at dksX7_hive_4 5 rfl rfl)
theorem dX7_hive_102 : decode cX7_hive 102 = .ok (.iconst 2, 1) := dk_5 (dk_at dksX7_hive_4 6 rfl rfl)
theorem dX7_hive_103 : decode cX7_hive 103 = .ok (.iadd, 1) := dk_96 (dk_at dksX7_hive_4 7 rfl rfl)
theorem dX7_hive_104 : decode cX7_hive 104 = .ok (.iaload, 1) := dk_46 (dk_at dksX7_hive_4 8 rfl rfl)
theorem dX7_hive_105 : decode cX7_hive 105 = .ok (.invokevirtual 76, 3) := dk_182 0 76 (dk_at dksX7_hive_4 9 rfl rfl)
theorem dX7_hive_108 : decode cX7_hive 108 = .ok (.ireturn, 1) := dk_172 (dk_at dksX7_hive_4 12 rfl rfl)
theorem dX7_hive_109 : decode cX7_hive 109 = .ok (.aload_n 0, 1) := dk_42 (dk_at dksX7_hive_4 13 rfl rfl)
theorem dX7_hive_110 : decode cX7_hive 110 = .ok (.aload_n 0, 1) := dk_42 (dk_at dksX7_hive_4 14 rfl rfl)
theorem dX7_hive_111 : decode cX7_hive 111 = .ok (.getfield 7, 3) := dk_180 0 7 (dk_at dksX7_hive_4 15 rfl rfl)
theorem dX7_hive_114 : decode cX7_hive 114 = .ok (.iload_n 3, 1) := dk_29 (dk_at dksX7_hive_4 18 rfl rfl)
theorem dX7_hive_115 : decode cX7_hive 115 = .ok (.iconst 3, 1) := dk_6 (dk_at dksX7_hive_4 19 rfl rfl)
theorem dX7_hive_116 : decode cX7_hive 116 = .ok (.iadd, 1) := dk_96 (dk_at dksX7_hive_4 20 rfl rfl)
theorem dX7_hive_117 : decode cX7_hive 117 = .ok (.iaload, 1) := dk_46 (dk_at dksX7_hive_4 21 rfl rfl)
theorem dX7_hive_118 : decode cX7_hive 118 = .ok (.invokevirtual 280, 3) := dk_182 1 24 (dk_at dksX7_hive_5 0 rfl rfl)
theorem dX7_hive_121 : decode cX7_hive 121 = .ok (.ireturn, 1) := dk_172 (dk_at dksX7_hive_5 3 rfl rfl)
theorem dX7_hive_122 : decode cX7_hive 122 = .ok (.aload_n 0, 1) := dk_42 (dk_at dksX7_hive_5 4 rfl rfl)
theorem dX7_hive_123 : decode cX7_hive 123 = .ok (.aload_n 0, 1) := dk_42 (dk_at dksX7_hive_5 5 rfl rfl)
theorem dX7_hive_124 : decode cX7_hive 124 = .ok (.iload_n 3, 1) := dk_29 (dk_at dksX7_hive_5 6 rfl rfl)
theorem dX7_hive_125 : decode cX7_hive 125 = .ok (.iload_n 2, 1) := dk_28 (dk_at dksX7_hive_5 7 rfl rfl)
theorem dX7_hive_126 : decode cX7_hive 126 = .ok (.iconst 2, 1) := dk_5 (dk_at dksX7_hive_5 8 rfl rfl)
theorem dX7_hive_127 : decode cX7_hive 127 = .ok (.isub, 1) := dk_100 (dk_at dksX7_hive_5 9 rfl rfl)
theorem dX7_hive_128 : decode cX7_hive 128 = .ok (.invokevirtual 283, 3) := dk_182 1 27 (dk_at dksX7_hive_5 10 rfl rfl)
theorem dX7_hive_131 : decode cX7_hive 131 = .ok (.invokevirtual 76, 3) := dk_182 0 76 (dk_at dksX7_hive_5 13 rfl rfl)
theorem dX7_hive_134 : decode cX7_hive 134 = .ok (.ireturn, 1) := dk_172 (dk_at dksX7_hive_5 16 rfl rfl)
def dkwX7_isHive_0 : List UInt8 := [27, 155, 0, 17, 27, 42, 180, 0, 7, 3, 46, 162, 0, 7, 4, 167, 0, 4, 3, 172]
abbrev dktX7_isHive_0 : List UInt8 := dkwX7_isHive_0 ++ []
theorem dksX7_isHive_0 : cX7_isHive.data.toList.drop 0 = dktX7_isHive_0 := by decide +kernel
theorem dX7_isHive_0 : decode cX7_isHive 0 = .ok (.iload_n 1, 1) := dk_27 (dk_at dksX7_isHive_0 0 rfl rfl)
theorem dX7_isHive_1 : decode cX7_isHive 1 = .ok (.ifCond .lt 17, 3) := dk_155 0 17 (dk_at dksX7_isHive_0 1 rfl rfl)
theorem dX7_isHive_4 : decode cX7_isHive 4 = .ok (.iload_n 1, 1) := dk_27 (dk_at dksX7_isHive_0 4 rfl rfl)
theorem dX7_isHive_5 : decode cX7_isHive 5 = .ok (.aload_n 0, 1) := dk_42 (dk_at dksX7_isHive_0 5 rfl rfl)
theorem dX7_isHive_6 : decode cX7_isHive 6 = .ok (.getfield 7, 3) := dk_180 0 7 (dk_at dksX7_isHive_0 6 rfl rfl)
theorem dX7_isHive_9 : decode cX7_isHive 9 = .ok (.iconst 0, 1) := dk_3 (dk_at dksX7_isHive_0 9 rfl rfl)
theorem dX7_isHive_10 : decode cX7_isHive 10 = .ok (.iaload, 1) := dk_46 (dk_at dksX7_isHive_0 10 rfl rfl)
theorem dX7_isHive_11 : decode cX7_isHive 11 = .ok (.if_icmp .ge 7, 3) := dk_162 0 7 (dk_at dksX7_isHive_0 11 rfl rfl)
theorem dX7_isHive_14 : decode cX7_isHive 14 = .ok (.iconst 1, 1) := dk_4 (dk_at dksX7_isHive_0 14 rfl rfl)
theorem dX7_isHive_15 : decode cX7_isHive 15 = .ok (.goto 4, 3) := dk_167 0 4 (dk_at dksX7_isHive_0 15 rfl rfl)
theorem dX7_isHive_18 : decode cX7_isHive 18 = .ok (.iconst 0, 1) := dk_3 (dk_at dksX7_isHive_0 18 rfl rfl)
theorem dX7_isHive_19 : decode cX7_isHive 19 = .ok (.ireturn, 1) := dk_172 (dk_at dksX7_isHive_0 19 rfl rfl)
def dkwX7_orNone_0 : List UInt8 := [27, 2, 160, 0, 12, 42, 16, 6, 182, 0, 72, 167, 0, 8, 42, 27, 182, 0, 76, 172]
abbrev dktX7_orNone_0 : List UInt8 := dkwX7_orNone_0 ++ []
theorem dksX7_orNone_0 : cX7_orNone.data.toList.drop 0 = dktX7_orNone_0 := by decide +kernel
theorem dX7_orNone_0 : decode cX7_orNone 0 = .ok (.iload_n 1, 1) := dk_27 (dk_at dksX7_orNone_0 0 rfl rfl)
theorem dX7_orNone_1 : decode cX7_orNone 1 = .ok (.iconst (-1), 1) := dk_2 (dk_at dksX7_orNone_0 1 rfl rfl)
theorem dX7_orNone_2 : decode cX7_orNone 2 = .ok (.if_icmp .ne 12, 3) := dk_160 0 12 (dk_at dksX7_orNone_0 2 rfl rfl)
theorem dX7_orNone_5 : decode cX7_orNone 5 = .ok (.aload_n 0, 1) := dk_42 (dk_at dksX7_orNone_0 5 rfl rfl)
theorem dX7_orNone_6 : decode cX7_orNone 6 = .ok (.bipush 6, 2) := dk_16 6 (dk_at dksX7_orNone_0 6 rfl rfl)
theorem dX7_orNone_8 : decode cX7_orNone 8 = .ok (.invokevirtual 72, 3) := dk_182 0 72 (dk_at dksX7_orNone_0 8 rfl rfl)
theorem dX7_orNone_11 : decode cX7_orNone 11 = .ok (.goto 8, 3) := dk_167 0 8 (dk_at dksX7_orNone_0 11 rfl rfl)
theorem dX7_orNone_14 : decode cX7_orNone 14 = .ok (.aload_n 0, 1) := dk_42 (dk_at dksX7_orNone_0 14 rfl rfl)
theorem dX7_orNone_15 : decode cX7_orNone 15 = .ok (.iload_n 1, 1) := dk_27 (dk_at dksX7_orNone_0 15 rfl rfl)
theorem dX7_orNone_16 : decode cX7_orNone 16 = .ok (.invokevirtual 76, 3) := dk_182 0 76 (dk_at dksX7_orNone_0 16 rfl rfl)
theorem dX7_orNone_19 : decode cX7_orNone 19 = .ok (.ireturn, 1) := dk_172 (dk_at dksX7_orNone_0 19 rfl rfl)
def dkwX7_sumOf_4 : List UInt8 := [167, 0, 4, 3, 96, 62, 132, 4, 1, 167, 255, 161, 29, 172]
abbrev dktX7_sumOf_4 : List UInt8 := dkwX7_sumOf_4 ++ []
def dkwX7_sumOf_3 : List UInt8 := [161, 0, 7, 4, 167, 0, 22, 3, 167, 0, 18, 42, 180, 0, 7, 21, 4, 46, 154, 0, 7, 4]
abbrev dktX7_sumOf_3 : List UInt8 := dkwX7_sumOf_3 ++ dktX7_sumOf_4
def dkwX7_sumOf_2 : List UInt8 := [21, 4, 46, 167, 0, 47, 3, 167, 0, 43, 28, 4, 160, 0, 23, 42, 180, 0, 7, 21, 4, 46, 16, 101]
abbrev dktX7_sumOf_2 : List UInt8 := dkwX7_sumOf_2 ++ dktX7_sumOf_3
def dkwX7_sumOf_1 : List UInt8 := [162, 0, 82, 29, 28, 154, 0, 29, 42, 180, 0, 7, 21, 4, 46, 16, 100, 163, 0, 13, 42, 180, 0, 7]
abbrev dktX7_sumOf_1 : List UInt8 := dkwX7_sumOf_1 ++ dktX7_sumOf_2
def dkwX7_sumOf_0 : List UInt8 := [3, 62, 27, 16, 6, 96, 54, 4, 21, 4, 27, 16, 6, 96, 16, 16, 42, 180, 0, 7, 27, 46, 104, 96]
abbrev dktX7_sumOf_0 : List UInt8 := dkwX7_sumOf_0 ++ dktX7_sumOf_1
theorem dksX7_sumOf_0 : cX7_sumOf.data.toList.drop 0 = dktX7_sumOf_0 := by decide +kernel
theorem dksX7_sumOf_1 : cX7_sumOf.data.toList.drop 24 = dktX7_sumOf_1 := dk_seg dksX7_sumOf_0 24 rfl rfl
theorem dksX7_sumOf_2 : cX7_sumOf.data.toList.drop 48 = dktX7_sumOf_2 := dk_seg dksX7_sumOf_1 24 rfl rfl
theorem dksX7_sumOf_3 : cX7_sumOf.data.toList.drop 72 = dktX7_sumOf_3 := dk_seg dksX7_sumOf_2 24 rfl rfl
theorem dksX7_sumOf_4 : cX7_sumOf.data.toList.drop 94 = dktX7_sumOf_4 := dk_seg dksX7_sumOf_3 22 rfl rfl
theorem dX7_sumOf_0 : decode cX7_sumOf 0 = .ok (.iconst 0, 1) := dk_3 (dk_at dksX7_sumOf_0 0 rfl rfl)
theorem dX7_sumOf_1 : decode cX7_sumOf 1 = .ok (.istore_n 3, 1) := dk_62 (dk_at dksX7_sumOf_0 1 rfl rfl)
theorem dX7_sumOf_2 : decode cX7_sumOf 2 = .ok (.iload_n 1, 1) := dk_27 (dk_at dksX7_sumOf_0 2 rfl rfl)
theorem dX7_sumOf_3 : decode cX7_sumOf 3 = .ok (.bipush 6, 2) := dk_16 6 (dk_at dksX7_sumOf_0 3 rfl rfl)
theorem dX7_sumOf_5 : decode cX7_sumOf 5 = .ok (.iadd, 1) := dk_96 (dk_at dksX7_sumOf_0 5 rfl rfl)
theorem dX7_sumOf_6 : decode cX7_sumOf 6 = .ok (.istore 4, 2) := dk_54 4 (dk_at dksX7_sumOf_0 6 rfl rfl)
theorem dX7_sumOf_8 : decode cX7_sumOf 8 = .ok (.iload 4, 2) := dk_21 4 (dk_at dksX7_sumOf_0 8 rfl rfl)
theorem dX7_sumOf_10 : decode cX7_sumOf 10 = .ok (.iload_n 1, 1) := dk_27 (dk_at dksX7_sumOf_0 10 rfl rfl)
theorem dX7_sumOf_11 : decode cX7_sumOf 11 = .ok (.bipush 6, 2) := dk_16 6 (dk_at dksX7_sumOf_0 11 rfl rfl)
theorem dX7_sumOf_13 : decode cX7_sumOf 13 = .ok (.iadd, 1) := dk_96 (dk_at dksX7_sumOf_0 13 rfl rfl)
theorem dX7_sumOf_14 : decode cX7_sumOf 14 = .ok (.bipush 16, 2) := dk_16 16 (dk_at dksX7_sumOf_0 14 rfl rfl)
theorem dX7_sumOf_16 : decode cX7_sumOf 16 = .ok (.aload_n 0, 1) := dk_42 (dk_at dksX7_sumOf_0 16 rfl rfl)
theorem dX7_sumOf_17 : decode cX7_sumOf 17 = .ok (.getfield 7, 3) := dk_180 0 7 (dk_at dksX7_sumOf_0 17 rfl rfl)
theorem dX7_sumOf_20 : decode cX7_sumOf 20 = .ok (.iload_n 1, 1) := dk_27 (dk_at dksX7_sumOf_0 20 rfl rfl)
theorem dX7_sumOf_21 : decode cX7_sumOf 21 = .ok (.iaload, 1) := dk_46 (dk_at dksX7_sumOf_0 21 rfl rfl)
theorem dX7_sumOf_22 : decode cX7_sumOf 22 = .ok (.imul, 1) := dk_104 (dk_at dksX7_sumOf_0 22 rfl rfl)
theorem dX7_sumOf_23 : decode cX7_sumOf 23 = .ok (.iadd, 1) := dk_96 (dk_at dksX7_sumOf_0 23 rfl rfl)
theorem dX7_sumOf_24 : decode cX7_sumOf 24 = .ok (.if_icmp .ge 82, 3) := dk_162 0 82 (dk_at dksX7_sumOf_1 0 rfl rfl)
theorem dX7_sumOf_27 : decode cX7_sumOf 27 = .ok (.iload_n 3, 1) := dk_29 (dk_at dksX7_sumOf_1 3 rfl rfl)
theorem dX7_sumOf_28 : decode cX7_sumOf 28 = .ok (.iload_n 2, 1) := dk_28 (dk_at dksX7_sumOf_1 4 rfl rfl)
theorem dX7_sumOf_29 : decode cX7_sumOf 29 = .ok (.ifCond .ne 29, 3) := dk_154 0 29 (dk_at dksX7_sumOf_1 5 rfl rfl)
theorem dX7_sumOf_32 : decode cX7_sumOf 32 = .ok (.aload_n 0, 1) := dk_42 (dk_at dksX7_sumOf_1 8 rfl rfl)
theorem dX7_sumOf_33 : decode cX7_sumOf 33 = .ok (.getfield 7, 3) := dk_180 0 7 (dk_at dksX7_sumOf_1 9 rfl rfl)
theorem dX7_sumOf_36 : decode cX7_sumOf 36 = .ok (.iload 4, 2) := dk_21 4 (dk_at dksX7_sumOf_1 12 rfl rfl)
theorem dX7_sumOf_38 : decode cX7_sumOf 38 = .ok (.iaload, 1) := dk_46 (dk_at dksX7_sumOf_1 14 rfl rfl)
theorem dX7_sumOf_39 : decode cX7_sumOf 39 = .ok (.bipush 100, 2) := dk_16 100 (dk_at dksX7_sumOf_1 15 rfl rfl)
theorem dX7_sumOf_41 : decode cX7_sumOf 41 = .ok (.if_icmp .gt 13, 3) := dk_163 0 13 (dk_at dksX7_sumOf_1 17 rfl rfl)
theorem dX7_sumOf_44 : decode cX7_sumOf 44 = .ok (.aload_n 0, 1) := dk_42 (dk_at dksX7_sumOf_1 20 rfl rfl)
theorem dX7_sumOf_45 : decode cX7_sumOf 45 = .ok (.getfield 7, 3) := dk_180 0 7 (dk_at dksX7_sumOf_1 21 rfl rfl)
theorem dX7_sumOf_48 : decode cX7_sumOf 48 = .ok (.iload 4, 2) := dk_21 4 (dk_at dksX7_sumOf_2 0 rfl rfl)
theorem dX7_sumOf_50 : decode cX7_sumOf 50 = .ok (.iaload, 1) := dk_46 (dk_at dksX7_sumOf_2 2 rfl rfl)
theorem dX7_sumOf_51 : decode cX7_sumOf 51 = .ok (.goto 47, 3) := dk_167 0 47 (dk_at dksX7_sumOf_2 3 rfl rfl)
theorem dX7_sumOf_54 : decode cX7_sumOf 54 = .ok (.iconst 0, 1) := dk_3 (dk_at dksX7_sumOf_2 6 rfl rfl)
theorem dX7_sumOf_55 : decode cX7_sumOf 55 = .ok (.goto 43, 3) := dk_167 0 43 (dk_at dksX7_sumOf_2 7 rfl rfl)
theorem dX7_sumOf_58 : decode cX7_sumOf 58 = .ok (.iload_n 2, 1) := dk_28 (dk_at dksX7_sumOf_2 10 rfl rfl)
theorem dX7_sumOf_59 : decode cX7_sumOf 59 = .ok (.iconst 1, 1) := dk_4 (dk_at dksX7_sumOf_2 11 rfl rfl)
theorem dX7_sumOf_60 : decode cX7_sumOf 60 = .ok (.if_icmp .ne 23, 3) := dk_160 0 23 (dk_at dksX7_sumOf_2 12 rfl rfl)
theorem dX7_sumOf_63 : decode cX7_sumOf 63 = .ok (.aload_n 0, 1) := dk_42 (dk_at dksX7_sumOf_2 15 rfl rfl)
theorem dX7_sumOf_64 : decode cX7_sumOf 64 = .ok (.getfield 7, 3) := dk_180 0 7 (dk_at dksX7_sumOf_2 16 rfl rfl)
theorem dX7_sumOf_67 : decode cX7_sumOf 67 = .ok (.iload 4, 2) := dk_21 4 (dk_at dksX7_sumOf_2 19 rfl rfl)
theorem dX7_sumOf_69 : decode cX7_sumOf 69 = .ok (.iaload, 1) := dk_46 (dk_at dksX7_sumOf_2 21 rfl rfl)
theorem dX7_sumOf_70 : decode cX7_sumOf 70 = .ok (.bipush 101, 2) := dk_16 101 (dk_at dksX7_sumOf_2 22 rfl rfl)
theorem dX7_sumOf_72 : decode cX7_sumOf 72 = .ok (.if_icmp .lt 7, 3) := dk_161 0 7 (dk_at dksX7_sumOf_3 0 rfl rfl)
theorem dX7_sumOf_75 : decode cX7_sumOf 75 = .ok (.iconst 1, 1) := dk_4 (dk_at dksX7_sumOf_3 3 rfl rfl)
theorem dX7_sumOf_76 : decode cX7_sumOf 76 = .ok (.goto 22, 3) := dk_167 0 22 (dk_at dksX7_sumOf_3 4 rfl rfl)
theorem dX7_sumOf_79 : decode cX7_sumOf 79 = .ok (.iconst 0, 1) := dk_3 (dk_at dksX7_sumOf_3 7 rfl rfl)
theorem dX7_sumOf_80 : decode cX7_sumOf 80 = .ok (.goto 18, 3) := dk_167 0 18 (dk_at dksX7_sumOf_3 8 rfl rfl)
theorem dX7_sumOf_83 : decode cX7_sumOf 83 = .ok (.aload_n 0, 1) := dk_42 (dk_at dksX7_sumOf_3 11 rfl rfl)
theorem dX7_sumOf_84 : decode cX7_sumOf 84 = .ok (.getfield 7, 3) := dk_180 0 7 (dk_at dksX7_sumOf_3 12 rfl rfl)
theorem dX7_sumOf_87 : decode cX7_sumOf 87 = .ok (.iload 4, 2) := dk_21 4 (dk_at dksX7_sumOf_3 15 rfl rfl)
theorem dX7_sumOf_89 : decode cX7_sumOf 89 = .ok (.iaload, 1) := dk_46 (dk_at dksX7_sumOf_3 17 rfl rfl)
theorem dX7_sumOf_90 : decode cX7_sumOf 90 = .ok (.ifCond .ne 7, 3) := dk_154 0 7 (dk_at dksX7_sumOf_3 18 rfl rfl)
theorem dX7_sumOf_93 : decode cX7_sumOf 93 = .ok (.iconst 1, 1) := dk_4 (dk_at dksX7_sumOf_3 21 rfl rfl)
theorem dX7_sumOf_94 : decode cX7_sumOf 94 = .ok (.goto 4, 3) := dk_167 0 4 (dk_at dksX7_sumOf_4 0 rfl rfl)
theorem dX7_sumOf_97 : decode cX7_sumOf 97 = .ok (.iconst 0, 1) := dk_3 (dk_at dksX7_sumOf_4 3 rfl rfl)
theorem dX7_sumOf_98 : decode cX7_sumOf 98 = .ok (.iadd, 1) := dk_96 (dk_at dksX7_sumOf_4 4 rfl rfl)
theorem dX7_sumOf_99 : decode cX7_sumOf 99 = .ok (.istore_n 3, 1) := dk_62 (dk_at dksX7_sumOf_4 5 rfl rfl)
theorem dX7_sumOf_100 : decode cX7_sumOf 100 = .ok (.iinc 4 1, 3) := dk_132 4 1 (dk_at dksX7_sumOf_4 6 rfl rfl)
theorem dX7_sumOf_103 : decode cX7_sumOf 103 = .ok (.goto (-95), 3) := dk_167 255 161 (dk_at dksX7_sumOf_4 9 rfl rfl)
theorem dX7_sumOf_106 : decode cX7_sumOf 106 = .ok (.iload_n 3, 1) := dk_29 (dk_at dksX7_sumOf_4 12 rfl rfl)
theorem dX7_sumOf_107 : decode cX7_sumOf 107 = .ok (.ireturn, 1) := dk_172 (dk_at dksX7_sumOf_4 13 rfl rfl)
def dkwX7_line_2 : List UInt8 := [167, 0, 18, 27, 16, 8, 161, 0, 7, 2, 167, 0, 8, 42, 27, 182, 1, 39, 182, 1, 24, 172]
abbrev dktX7_line_2 : List UInt8 := dkwX7_line_2 ++ []
def dkwX7_line_1 : List UInt8 := [28, 154, 0, 11, 42, 27, 182, 1, 33, 167, 0, 31, 28, 4, 160, 0, 11, 42, 27, 182, 1, 36]
abbrev dktX7_line_1 : List UInt8 := dkwX7_line_1 ++ dktX7_line_2
def dkwX7_line_0 : List UInt8 := [42, 27, 182, 1, 30, 153, 0, 12, 28, 155, 0, 8, 28, 5, 164, 0, 9, 42, 4, 182, 0, 72, 172, 42]
abbrev dktX7_line_0 : List UInt8 := dkwX7_line_0 ++ dktX7_line_1
theorem dksX7_line_0 : cX7_line.data.toList.drop 0 = dktX7_line_0 := by decide +kernel
theorem dksX7_line_1 : cX7_line.data.toList.drop 24 = dktX7_line_1 := dk_seg dksX7_line_0 24 rfl rfl
theorem dksX7_line_2 : cX7_line.data.toList.drop 46 = dktX7_line_2 := dk_seg dksX7_line_1 22 rfl rfl
theorem dX7_line_0 : decode cX7_line 0 = .ok (.aload_n 0, 1) := dk_42 (dk_at dksX7_line_0 0 rfl rfl)
theorem dX7_line_1 : decode cX7_line 1 = .ok (.iload_n 1, 1) := dk_27 (dk_at dksX7_line_0 1 rfl rfl)
theorem dX7_line_2 : decode cX7_line 2 = .ok (.invokevirtual 286, 3) := dk_182 1 30 (dk_at dksX7_line_0 2 rfl rfl)
theorem dX7_line_5 : decode cX7_line 5 = .ok (.ifCond .eq 12, 3) := dk_153 0 12 (dk_at dksX7_line_0 5 rfl rfl)
theorem dX7_line_8 : decode cX7_line 8 = .ok (.iload_n 2, 1) := dk_28 (dk_at dksX7_line_0 8 rfl rfl)
theorem dX7_line_9 : decode cX7_line 9 = .ok (.ifCond .lt 8, 3) := dk_155 0 8 (dk_at dksX7_line_0 9 rfl rfl)
theorem dX7_line_12 : decode cX7_line 12 = .ok (.iload_n 2, 1) := dk_28 (dk_at dksX7_line_0 12 rfl rfl)
theorem dX7_line_13 : decode cX7_line 13 = .ok (.iconst 2, 1) := dk_5 (dk_at dksX7_line_0 13 rfl rfl)
theorem dX7_line_14 : decode cX7_line 14 = .ok (.if_icmp .le 9, 3) := dk_164 0 9 (dk_at dksX7_line_0 14 rfl rfl)
theorem dX7_line_17 : decode cX7_line 17 = .ok (.aload_n 0, 1) := dk_42 (dk_at dksX7_line_0 17 rfl rfl)
theorem dX7_line_18 : decode cX7_line 18 = .ok (.iconst 1, 1) := dk_4 (dk_at dksX7_line_0 18 rfl rfl)
theorem dX7_line_19 : decode cX7_line 19 = .ok (.invokevirtual 72, 3) := dk_182 0 72 (dk_at dksX7_line_0 19 rfl rfl)
theorem dX7_line_22 : decode cX7_line 22 = .ok (.ireturn, 1) := dk_172 (dk_at dksX7_line_0 22 rfl rfl)
theorem dX7_line_23 : decode cX7_line 23 = .ok (.aload_n 0, 1) := dk_42 (dk_at dksX7_line_0 23 rfl rfl)
theorem dX7_line_24 : decode cX7_line 24 = .ok (.iload_n 2, 1) := dk_28 (dk_at dksX7_line_1 0 rfl rfl)
theorem dX7_line_25 : decode cX7_line 25 = .ok (.ifCond .ne 11, 3) := dk_154 0 11 (dk_at dksX7_line_1 1 rfl rfl)
theorem dX7_line_28 : decode cX7_line 28 = .ok (.aload_n 0, 1) := dk_42 (dk_at dksX7_line_1 4 rfl rfl)
theorem dX7_line_29 : decode cX7_line 29 = .ok (.iload_n 1, 1) := dk_27 (dk_at dksX7_line_1 5 rfl rfl)
theorem dX7_line_30 : decode cX7_line 30 = .ok (.invokevirtual 289, 3) := dk_182 1 33 (dk_at dksX7_line_1 6 rfl rfl)
theorem dX7_line_33 : decode cX7_line 33 = .ok (.goto 31, 3) := dk_167 0 31 (dk_at dksX7_line_1 9 rfl rfl)
theorem dX7_line_36 : decode cX7_line 36 = .ok (.iload_n 2, 1) := dk_28 (dk_at dksX7_line_1 12 rfl rfl)
theorem dX7_line_37 : decode cX7_line 37 = .ok (.iconst 1, 1) := dk_4 (dk_at dksX7_line_1 13 rfl rfl)
theorem dX7_line_38 : decode cX7_line 38 = .ok (.if_icmp .ne 11, 3) := dk_160 0 11 (dk_at dksX7_line_1 14 rfl rfl)
theorem dX7_line_41 : decode cX7_line 41 = .ok (.aload_n 0, 1) := dk_42 (dk_at dksX7_line_1 17 rfl rfl)
theorem dX7_line_42 : decode cX7_line 42 = .ok (.iload_n 1, 1) := dk_27 (dk_at dksX7_line_1 18 rfl rfl)
theorem dX7_line_43 : decode cX7_line 43 = .ok (.invokevirtual 292, 3) := dk_182 1 36 (dk_at dksX7_line_1 19 rfl rfl)
theorem dX7_line_46 : decode cX7_line 46 = .ok (.goto 18, 3) := dk_167 0 18 (dk_at dksX7_line_2 0 rfl rfl)
theorem dX7_line_49 : decode cX7_line 49 = .ok (.iload_n 1, 1) := dk_27 (dk_at dksX7_line_2 3 rfl rfl)
theorem dX7_line_50 : decode cX7_line 50 = .ok (.bipush 8, 2) := dk_16 8 (dk_at dksX7_line_2 4 rfl rfl)
theorem dX7_line_52 : decode cX7_line 52 = .ok (.if_icmp .lt 7, 3) := dk_161 0 7 (dk_at dksX7_line_2 6 rfl rfl)
theorem dX7_line_55 : decode cX7_line 55 = .ok (.iconst (-1), 1) := dk_2 (dk_at dksX7_line_2 9 rfl rfl)
theorem dX7_line_56 : decode cX7_line 56 = .ok (.goto 8, 3) := dk_167 0 8 (dk_at dksX7_line_2 10 rfl rfl)
theorem dX7_line_59 : decode cX7_line 59 = .ok (.aload_n 0, 1) := dk_42 (dk_at dksX7_line_2 13 rfl rfl)
theorem dX7_line_60 : decode cX7_line 60 = .ok (.iload_n 1, 1) := dk_27 (dk_at dksX7_line_2 14 rfl rfl)
theorem dX7_line_61 : decode cX7_line 61 = .ok (.invokevirtual 295, 3) := dk_182 1 39 (dk_at dksX7_line_2 15 rfl rfl)
theorem dX7_line_64 : decode cX7_line 64 = .ok (.invokevirtual 280, 3) := dk_182 1 24 (dk_at dksX7_line_2 18 rfl rfl)
theorem dX7_line_67 : decode cX7_line 67 = .ok (.ireturn, 1) := dk_172 (dk_at dksX7_line_2 21 rfl rfl)
def dkwX7_isOne_1 : List UInt8 := [162, 0, 7, 4, 167, 0, 4, 3, 172]
abbrev dktX7_isOne_1 : List UInt8 := dkwX7_isOne_1 ++ []
def dkwX7_isOne_0 : List UInt8 := [42, 27, 182, 1, 21, 154, 0, 22, 27, 16, 8, 161, 0, 20, 27, 16, 8, 42, 180, 0, 7, 5, 46, 96]
abbrev dktX7_isOne_0 : List UInt8 := dkwX7_isOne_0 ++ dktX7_isOne_1
theorem dksX7_isOne_0 : cX7_isOne.data.toList.drop 0 = dktX7_isOne_0 := by decide +kernel
theorem dksX7_isOne_1 : cX7_isOne.data.toList.drop 24 = dktX7_isOne_1 := dk_seg dksX7_isOne_0 24 rfl rfl
theorem dX7_isOne_0 : decode cX7_isOne 0 = .ok (.aload_n 0, 1) := dk_42 (dk_at dksX7_isOne_0 0 rfl rfl)
theorem dX7_isOne_1 : decode cX7_isOne 1 = .ok (.iload_n 1, 1) := dk_27 (dk_at dksX7_isOne_0 1 rfl rfl)
theorem dX7_isOne_2 : decode cX7_isOne 2 = .ok (.invokevirtual 277, 3) := dk_182 1 21 (dk_at dksX7_isOne_0 2 rfl rfl)
theorem dX7_isOne_5 : decode cX7_isOne 5 = .ok (.ifCond .ne 22, 3) := dk_154 0 22 (dk_at dksX7_isOne_0 5 rfl rfl)
theorem dX7_isOne_8 : decode cX7_isOne 8 = .ok (.iload_n 1, 1) := dk_27 (dk_at dksX7_isOne_0 8 rfl rfl)
theorem dX7_isOne_9 : decode cX7_isOne 9 = .ok (.bipush 8, 2) := dk_16 8 (dk_at dksX7_isOne_0 9 rfl rfl)
theorem dX7_isOne_11 : decode cX7_isOne 11 = .ok (.if_icmp .lt 20, 3) := dk_161 0 20 (dk_at dksX7_isOne_0 11 rfl rfl)
theorem dX7_isOne_14 : decode cX7_isOne 14 = .ok (.iload_n 1, 1) := dk_27 (dk_at dksX7_isOne_0 14 rfl rfl)
theorem dX7_isOne_15 : decode cX7_isOne 15 = .ok (.bipush 8, 2) := dk_16 8 (dk_at dksX7_isOne_0 15 rfl rfl)
theorem dX7_isOne_17 : decode cX7_isOne 17 = .ok (.aload_n 0, 1) := dk_42 (dk_at dksX7_isOne_0 17 rfl rfl)
theorem dX7_isOne_18 : decode cX7_isOne 18 = .ok (.getfield 7, 3) := dk_180 0 7 (dk_at dksX7_isOne_0 18 rfl rfl)
theorem dX7_isOne_21 : decode cX7_isOne 21 = .ok (.iconst 2, 1) := dk_5 (dk_at dksX7_isOne_0 21 rfl rfl)
theorem dX7_isOne_22 : decode cX7_isOne 22 = .ok (.iaload, 1) := dk_46 (dk_at dksX7_isOne_0 22 rfl rfl)
theorem dX7_isOne_23 : decode cX7_isOne 23 = .ok (.iadd, 1) := dk_96 (dk_at dksX7_isOne_0 23 rfl rfl)
theorem dX7_isOne_24 : decode cX7_isOne 24 = .ok (.if_icmp .ge 7, 3) := dk_162 0 7 (dk_at dksX7_isOne_1 0 rfl rfl)
theorem dX7_isOne_27 : decode cX7_isOne 27 = .ok (.iconst 1, 1) := dk_4 (dk_at dksX7_isOne_1 3 rfl rfl)
theorem dX7_isOne_28 : decode cX7_isOne 28 = .ok (.goto 4, 3) := dk_167 0 4 (dk_at dksX7_isOne_1 4 rfl rfl)
theorem dX7_isOne_31 : decode cX7_isOne 31 = .ok (.iconst 0, 1) := dk_3 (dk_at dksX7_isOne_1 7 rfl rfl)
theorem dX7_isOne_32 : decode cX7_isOne 32 = .ok (.ireturn, 1) := dk_172 (dk_at dksX7_isOne_1 8 rfl rfl)
def dkwX7_isQueen_0 : List UInt8 := [27, 155, 0, 17, 27, 42, 180, 0, 7, 4, 46, 162, 0, 7, 4, 167, 0, 4, 3, 172]
abbrev dktX7_isQueen_0 : List UInt8 := dkwX7_isQueen_0 ++ []
theorem dksX7_isQueen_0 : cX7_isQueen.data.toList.drop 0 = dktX7_isQueen_0 := by decide +kernel
theorem dX7_isQueen_0 : decode cX7_isQueen 0 = .ok (.iload_n 1, 1) := dk_27 (dk_at dksX7_isQueen_0 0 rfl rfl)
theorem dX7_isQueen_1 : decode cX7_isQueen 1 = .ok (.ifCond .lt 17, 3) := dk_155 0 17 (dk_at dksX7_isQueen_0 1 rfl rfl)
theorem dX7_isQueen_4 : decode cX7_isQueen 4 = .ok (.iload_n 1, 1) := dk_27 (dk_at dksX7_isQueen_0 4 rfl rfl)
theorem dX7_isQueen_5 : decode cX7_isQueen 5 = .ok (.aload_n 0, 1) := dk_42 (dk_at dksX7_isQueen_0 5 rfl rfl)
theorem dX7_isQueen_6 : decode cX7_isQueen 6 = .ok (.getfield 7, 3) := dk_180 0 7 (dk_at dksX7_isQueen_0 6 rfl rfl)
theorem dX7_isQueen_9 : decode cX7_isQueen 9 = .ok (.iconst 1, 1) := dk_4 (dk_at dksX7_isQueen_0 9 rfl rfl)
theorem dX7_isQueen_10 : decode cX7_isQueen 10 = .ok (.iaload, 1) := dk_46 (dk_at dksX7_isQueen_0 10 rfl rfl)
theorem dX7_isQueen_11 : decode cX7_isQueen 11 = .ok (.if_icmp .ge 7, 3) := dk_162 0 7 (dk_at dksX7_isQueen_0 11 rfl rfl)
theorem dX7_isQueen_14 : decode cX7_isQueen 14 = .ok (.iconst 1, 1) := dk_4 (dk_at dksX7_isQueen_0 14 rfl rfl)
theorem dX7_isQueen_15 : decode cX7_isQueen 15 = .ok (.goto 4, 3) := dk_167 0 4 (dk_at dksX7_isQueen_0 15 rfl rfl)
theorem dX7_isQueen_18 : decode cX7_isQueen 18 = .ok (.iconst 0, 1) := dk_3 (dk_at dksX7_isQueen_0 18 rfl rfl)
theorem dX7_isQueen_19 : decode cX7_isQueen 19 = .ok (.ireturn, 1) := dk_172 (dk_at dksX7_isQueen_0 19 rfl rfl)
def dkwX7_motherOf_1 : List UInt8 := [180, 0, 7, 16, 14, 7, 27, 104, 96, 4, 96, 46, 172]
abbrev dktX7_motherOf_1 : List UInt8 := dkwX7_motherOf_1 ++ []
def dkwX7_motherOf_0 : List UInt8 := [27, 16, 8, 161, 0, 20, 42, 180, 0, 7, 16, 46, 5, 27, 16, 8, 100, 104, 96, 46, 167, 0, 16, 42]
abbrev dktX7_motherOf_0 : List UInt8 := dkwX7_motherOf_0 ++ dktX7_motherOf_1
theorem dksX7_motherOf_0 : cX7_motherOf.data.toList.drop 0 = dktX7_motherOf_0 := by decide +kernel
theorem dksX7_motherOf_1 : cX7_motherOf.data.toList.drop 24 = dktX7_motherOf_1 := dk_seg dksX7_motherOf_0 24 rfl rfl
theorem dX7_motherOf_0 : decode cX7_motherOf 0 = .ok (.iload_n 1, 1) := dk_27 (dk_at dksX7_motherOf_0 0 rfl rfl)
theorem dX7_motherOf_1 : decode cX7_motherOf 1 = .ok (.bipush 8, 2) := dk_16 8 (dk_at dksX7_motherOf_0 1 rfl rfl)
theorem dX7_motherOf_3 : decode cX7_motherOf 3 = .ok (.if_icmp .lt 20, 3) := dk_161 0 20 (dk_at dksX7_motherOf_0 3 rfl rfl)
theorem dX7_motherOf_6 : decode cX7_motherOf 6 = .ok (.aload_n 0, 1) := dk_42 (dk_at dksX7_motherOf_0 6 rfl rfl)
theorem dX7_motherOf_7 : decode cX7_motherOf 7 = .ok (.getfield 7, 3) := dk_180 0 7 (dk_at dksX7_motherOf_0 7 rfl rfl)
theorem dX7_motherOf_10 : decode cX7_motherOf 10 = .ok (.bipush 46, 2) := dk_16 46 (dk_at dksX7_motherOf_0 10 rfl rfl)
theorem dX7_motherOf_12 : decode cX7_motherOf 12 = .ok (.iconst 2, 1) := dk_5 (dk_at dksX7_motherOf_0 12 rfl rfl)
theorem dX7_motherOf_13 : decode cX7_motherOf 13 = .ok (.iload_n 1, 1) := dk_27 (dk_at dksX7_motherOf_0 13 rfl rfl)
theorem dX7_motherOf_14 : decode cX7_motherOf 14 = .ok (.bipush 8, 2) := dk_16 8 (dk_at dksX7_motherOf_0 14 rfl rfl)
theorem dX7_motherOf_16 : decode cX7_motherOf 16 = .ok (.isub, 1) := dk_100 (dk_at dksX7_motherOf_0 16 rfl rfl)
theorem dX7_motherOf_17 : decode cX7_motherOf 17 = .ok (.imul, 1) := dk_104 (dk_at dksX7_motherOf_0 17 rfl rfl)
theorem dX7_motherOf_18 : decode cX7_motherOf 18 = .ok (.iadd, 1) := dk_96 (dk_at dksX7_motherOf_0 18 rfl rfl)
theorem dX7_motherOf_19 : decode cX7_motherOf 19 = .ok (.iaload, 1) := dk_46 (dk_at dksX7_motherOf_0 19 rfl rfl)
theorem dX7_motherOf_20 : decode cX7_motherOf 20 = .ok (.goto 16, 3) := dk_167 0 16 (dk_at dksX7_motherOf_0 20 rfl rfl)
theorem dX7_motherOf_23 : decode cX7_motherOf 23 = .ok (.aload_n 0, 1) := dk_42 (dk_at dksX7_motherOf_0 23 rfl rfl)
theorem dX7_motherOf_24 : decode cX7_motherOf 24 = .ok (.getfield 7, 3) := dk_180 0 7 (dk_at dksX7_motherOf_1 0 rfl rfl)
theorem dX7_motherOf_27 : decode cX7_motherOf 27 = .ok (.bipush 14, 2) := dk_16 14 (dk_at dksX7_motherOf_1 3 rfl rfl)
theorem dX7_motherOf_29 : decode cX7_motherOf 29 = .ok (.iconst 4, 1) := dk_7 (dk_at dksX7_motherOf_1 5 rfl rfl)
theorem dX7_motherOf_30 : decode cX7_motherOf 30 = .ok (.iload_n 1, 1) := dk_27 (dk_at dksX7_motherOf_1 6 rfl rfl)
theorem dX7_motherOf_31 : decode cX7_motherOf 31 = .ok (.imul, 1) := dk_104 (dk_at dksX7_motherOf_1 7 rfl rfl)
theorem dX7_motherOf_32 : decode cX7_motherOf 32 = .ok (.iadd, 1) := dk_96 (dk_at dksX7_motherOf_1 8 rfl rfl)
theorem dX7_motherOf_33 : decode cX7_motherOf 33 = .ok (.iconst 1, 1) := dk_4 (dk_at dksX7_motherOf_1 9 rfl rfl)
theorem dX7_motherOf_34 : decode cX7_motherOf 34 = .ok (.iadd, 1) := dk_96 (dk_at dksX7_motherOf_1 10 rfl rfl)
theorem dX7_motherOf_35 : decode cX7_motherOf 35 = .ok (.iaload, 1) := dk_46 (dk_at dksX7_motherOf_1 11 rfl rfl)
theorem dX7_motherOf_36 : decode cX7_motherOf 36 = .ok (.ireturn, 1) := dk_172 (dk_at dksX7_motherOf_1 12 rfl rfl)
def dkwX7_fatherOf_1 : List UInt8 := [167, 0, 19, 16, 8, 42, 180, 0, 7, 16, 14, 7, 27, 104, 96, 5, 96, 46, 96, 172]
abbrev dktX7_fatherOf_1 : List UInt8 := dkwX7_fatherOf_1 ++ []
def dkwX7_fatherOf_0 : List UInt8 := [27, 16, 8, 162, 0, 20, 42, 180, 0, 7, 16, 14, 7, 27, 104, 96, 5, 96, 46, 2, 160, 0, 7, 2]
abbrev dktX7_fatherOf_0 : List UInt8 := dkwX7_fatherOf_0 ++ dktX7_fatherOf_1
theorem dksX7_fatherOf_0 : cX7_fatherOf.data.toList.drop 0 = dktX7_fatherOf_0 := by decide +kernel
theorem dksX7_fatherOf_1 : cX7_fatherOf.data.toList.drop 24 = dktX7_fatherOf_1 := dk_seg dksX7_fatherOf_0 24 rfl rfl
theorem dX7_fatherOf_0 : decode cX7_fatherOf 0 = .ok (.iload_n 1, 1) := dk_27 (dk_at dksX7_fatherOf_0 0 rfl rfl)
theorem dX7_fatherOf_1 : decode cX7_fatherOf 1 = .ok (.bipush 8, 2) := dk_16 8 (dk_at dksX7_fatherOf_0 1 rfl rfl)
theorem dX7_fatherOf_3 : decode cX7_fatherOf 3 = .ok (.if_icmp .ge 20, 3) := dk_162 0 20 (dk_at dksX7_fatherOf_0 3 rfl rfl)
theorem dX7_fatherOf_6 : decode cX7_fatherOf 6 = .ok (.aload_n 0, 1) := dk_42 (dk_at dksX7_fatherOf_0 6 rfl rfl)
theorem dX7_fatherOf_7 : decode cX7_fatherOf 7 = .ok (.getfield 7, 3) := dk_180 0 7 (dk_at dksX7_fatherOf_0 7 rfl rfl)
theorem dX7_fatherOf_10 : decode cX7_fatherOf 10 = .ok (.bipush 14, 2) := dk_16 14 (dk_at dksX7_fatherOf_0 10 rfl rfl)
theorem dX7_fatherOf_12 : decode cX7_fatherOf 12 = .ok (.iconst 4, 1) := dk_7 (dk_at dksX7_fatherOf_0 12 rfl rfl)
theorem dX7_fatherOf_13 : decode cX7_fatherOf 13 = .ok (.iload_n 1, 1) := dk_27 (dk_at dksX7_fatherOf_0 13 rfl rfl)
theorem dX7_fatherOf_14 : decode cX7_fatherOf 14 = .ok (.imul, 1) := dk_104 (dk_at dksX7_fatherOf_0 14 rfl rfl)
theorem dX7_fatherOf_15 : decode cX7_fatherOf 15 = .ok (.iadd, 1) := dk_96 (dk_at dksX7_fatherOf_0 15 rfl rfl)
theorem dX7_fatherOf_16 : decode cX7_fatherOf 16 = .ok (.iconst 2, 1) := dk_5 (dk_at dksX7_fatherOf_0 16 rfl rfl)
theorem dX7_fatherOf_17 : decode cX7_fatherOf 17 = .ok (.iadd, 1) := dk_96 (dk_at dksX7_fatherOf_0 17 rfl rfl)
theorem dX7_fatherOf_18 : decode cX7_fatherOf 18 = .ok (.iaload, 1) := dk_46 (dk_at dksX7_fatherOf_0 18 rfl rfl)
theorem dX7_fatherOf_19 : decode cX7_fatherOf 19 = .ok (.iconst (-1), 1) := dk_2 (dk_at dksX7_fatherOf_0 19 rfl rfl)
theorem dX7_fatherOf_20 : decode cX7_fatherOf 20 = .ok (.if_icmp .ne 7, 3) := dk_160 0 7 (dk_at dksX7_fatherOf_0 20 rfl rfl)
theorem dX7_fatherOf_23 : decode cX7_fatherOf 23 = .ok (.iconst (-1), 1) := dk_2 (dk_at dksX7_fatherOf_0 23 rfl rfl)
theorem dX7_fatherOf_24 : decode cX7_fatherOf 24 = .ok (.goto 19, 3) := dk_167 0 19 (dk_at dksX7_fatherOf_1 0 rfl rfl)
theorem dX7_fatherOf_27 : decode cX7_fatherOf 27 = .ok (.bipush 8, 2) := dk_16 8 (dk_at dksX7_fatherOf_1 3 rfl rfl)
theorem dX7_fatherOf_29 : decode cX7_fatherOf 29 = .ok (.aload_n 0, 1) := dk_42 (dk_at dksX7_fatherOf_1 5 rfl rfl)
theorem dX7_fatherOf_30 : decode cX7_fatherOf 30 = .ok (.getfield 7, 3) := dk_180 0 7 (dk_at dksX7_fatherOf_1 6 rfl rfl)
theorem dX7_fatherOf_33 : decode cX7_fatherOf 33 = .ok (.bipush 14, 2) := dk_16 14 (dk_at dksX7_fatherOf_1 9 rfl rfl)
theorem dX7_fatherOf_35 : decode cX7_fatherOf 35 = .ok (.iconst 4, 1) := dk_7 (dk_at dksX7_fatherOf_1 11 rfl rfl)
theorem dX7_fatherOf_36 : decode cX7_fatherOf 36 = .ok (.iload_n 1, 1) := dk_27 (dk_at dksX7_fatherOf_1 12 rfl rfl)
theorem dX7_fatherOf_37 : decode cX7_fatherOf 37 = .ok (.imul, 1) := dk_104 (dk_at dksX7_fatherOf_1 13 rfl rfl)
theorem dX7_fatherOf_38 : decode cX7_fatherOf 38 = .ok (.iadd, 1) := dk_96 (dk_at dksX7_fatherOf_1 14 rfl rfl)
theorem dX7_fatherOf_39 : decode cX7_fatherOf 39 = .ok (.iconst 2, 1) := dk_5 (dk_at dksX7_fatherOf_1 15 rfl rfl)
theorem dX7_fatherOf_40 : decode cX7_fatherOf 40 = .ok (.iadd, 1) := dk_96 (dk_at dksX7_fatherOf_1 16 rfl rfl)
theorem dX7_fatherOf_41 : decode cX7_fatherOf 41 = .ok (.iaload, 1) := dk_46 (dk_at dksX7_fatherOf_1 17 rfl rfl)
theorem dX7_fatherOf_42 : decode cX7_fatherOf 42 = .ok (.iadd, 1) := dk_96 (dk_at dksX7_fatherOf_1 18 rfl rfl)
theorem dX7_fatherOf_43 : decode cX7_fatherOf 43 = .ok (.ireturn, 1) := dk_172 (dk_at dksX7_fatherOf_1 19 rfl rfl)
def dkwX7_hiveOf_1 : List UInt8 := [160, 0, 5, 28, 172, 132, 2, 1, 167, 255, 226, 2, 172]
abbrev dktX7_hiveOf_1 : List UInt8 := dkwX7_hiveOf_1 ++ []
def dkwX7_hiveOf_0 : List UInt8 := [3, 61, 28, 42, 180, 0, 7, 3, 46, 162, 0, 26, 42, 180, 0, 7, 28, 184, 0, 217, 6, 96, 46, 27]
abbrev dktX7_hiveOf_0 : List UInt8 := dkwX7_hiveOf_0 ++ dktX7_hiveOf_1
theorem dksX7_hiveOf_0 : cX7_hiveOf.data.toList.drop 0 = dktX7_hiveOf_0 := by decide +kernel
theorem dksX7_hiveOf_1 : cX7_hiveOf.data.toList.drop 24 = dktX7_hiveOf_1 := dk_seg dksX7_hiveOf_0 24 rfl rfl
theorem dX7_hiveOf_0 : decode cX7_hiveOf 0 = .ok (.iconst 0, 1) := dk_3 (dk_at dksX7_hiveOf_0 0 rfl rfl)
theorem dX7_hiveOf_1 : decode cX7_hiveOf 1 = .ok (.istore_n 2, 1) := dk_61 (dk_at dksX7_hiveOf_0 1 rfl rfl)
theorem dX7_hiveOf_2 : decode cX7_hiveOf 2 = .ok (.iload_n 2, 1) := dk_28 (dk_at dksX7_hiveOf_0 2 rfl rfl)
theorem dX7_hiveOf_3 : decode cX7_hiveOf 3 = .ok (.aload_n 0, 1) := dk_42 (dk_at dksX7_hiveOf_0 3 rfl rfl)
theorem dX7_hiveOf_4 : decode cX7_hiveOf 4 = .ok (.getfield 7, 3) := dk_180 0 7 (dk_at dksX7_hiveOf_0 4 rfl rfl)
theorem dX7_hiveOf_7 : decode cX7_hiveOf 7 = .ok (.iconst 0, 1) := dk_3 (dk_at dksX7_hiveOf_0 7 rfl rfl)
theorem dX7_hiveOf_8 : decode cX7_hiveOf 8 = .ok (.iaload, 1) := dk_46 (dk_at dksX7_hiveOf_0 8 rfl rfl)
theorem dX7_hiveOf_9 : decode cX7_hiveOf 9 = .ok (.if_icmp .ge 26, 3) := dk_162 0 26 (dk_at dksX7_hiveOf_0 9 rfl rfl)
theorem dX7_hiveOf_12 : decode cX7_hiveOf 12 = .ok (.aload_n 0, 1) := dk_42 (dk_at dksX7_hiveOf_0 12 rfl rfl)
theorem dX7_hiveOf_13 : decode cX7_hiveOf 13 = .ok (.getfield 7, 3) := dk_180 0 7 (dk_at dksX7_hiveOf_0 13 rfl rfl)
theorem dX7_hiveOf_16 : decode cX7_hiveOf 16 = .ok (.iload_n 2, 1) := dk_28 (dk_at dksX7_hiveOf_0 16 rfl rfl)
theorem dX7_hiveOf_17 : decode cX7_hiveOf 17 = .ok (.invokestatic 217, 3) := dk_184 0 217 (dk_at dksX7_hiveOf_0 17 rfl rfl)
theorem dX7_hiveOf_20 : decode cX7_hiveOf 20 = .ok (.iconst 3, 1) := dk_6 (dk_at dksX7_hiveOf_0 20 rfl rfl)
theorem dX7_hiveOf_21 : decode cX7_hiveOf 21 = .ok (.iadd, 1) := dk_96 (dk_at dksX7_hiveOf_0 21 rfl rfl)
theorem dX7_hiveOf_22 : decode cX7_hiveOf 22 = .ok (.iaload, 1) := dk_46 (dk_at dksX7_hiveOf_0 22 rfl rfl)
theorem dX7_hiveOf_23 : decode cX7_hiveOf 23 = .ok (.iload_n 1, 1) := dk_27 (dk_at dksX7_hiveOf_0 23 rfl rfl)
theorem dX7_hiveOf_24 : decode cX7_hiveOf 24 = .ok (.if_icmp .ne 5, 3) := dk_160 0 5 (dk_at dksX7_hiveOf_1 0 rfl rfl)
theorem dX7_hiveOf_27 : decode cX7_hiveOf 27 = .ok (.iload_n 2, 1) := dk_28 (dk_at dksX7_hiveOf_1 3 rfl rfl)
theorem dX7_hiveOf_28 : decode cX7_hiveOf 28 = .ok (.ireturn, 1) := dk_172 (dk_at dksX7_hiveOf_1 4 rfl rfl)
theorem dX7_hiveOf_29 : decode cX7_hiveOf 29 = .ok (.iinc 2 1, 3) := dk_132 2 1 (dk_at dksX7_hiveOf_1 5 rfl rfl)
theorem dX7_hiveOf_32 : decode cX7_hiveOf 32 = .ok (.goto (-30), 3) := dk_167 255 226 (dk_at dksX7_hiveOf_1 8 rfl rfl)
theorem dX7_hiveOf_35 : decode cX7_hiveOf 35 = .ok (.iconst (-1), 1) := dk_2 (dk_at dksX7_hiveOf_1 11 rfl rfl)
theorem dX7_hiveOf_36 : decode cX7_hiveOf 36 = .ok (.ireturn, 1) := dk_172 (dk_at dksX7_hiveOf_1 12 rfl rfl)
def dkwX7_fieldAt_2 : List UInt8 := [182, 0, 72, 172]
abbrev dktX7_fieldAt_2 : List UInt8 := dkwX7_fieldAt_2 ++ []
def dkwX7_fieldAt_1 : List UInt8 := [27, 184, 0, 217, 16, 6, 96, 16, 16, 28, 104, 96, 29, 96, 46, 182, 0, 76, 167, 0, 8, 42, 4]
abbrev dktX7_fieldAt_1 : List UInt8 := dkwX7_fieldAt_1 ++ dktX7_fieldAt_2
def dkwX7_fieldAt_0 : List UInt8 := [42, 27, 28, 182, 1, 42, 153, 0, 39, 29, 155, 0, 35, 29, 16, 16, 162, 0, 29, 42, 42, 180, 0, 7]
abbrev dktX7_fieldAt_0 : List UInt8 := dkwX7_fieldAt_0 ++ dktX7_fieldAt_1
theorem dksX7_fieldAt_0 : cX7_fieldAt.data.toList.drop 0 = dktX7_fieldAt_0 := by decide +kernel
theorem dksX7_fieldAt_1 : cX7_fieldAt.data.toList.drop 24 = dktX7_fieldAt_1 := dk_seg dksX7_fieldAt_0 24 rfl rfl
theorem dksX7_fieldAt_2 : cX7_fieldAt.data.toList.drop 47 = dktX7_fieldAt_2 := dk_seg dksX7_fieldAt_1 23 rfl rfl
theorem dX7_fieldAt_0 : decode cX7_fieldAt 0 = .ok (.aload_n 0, 1) := dk_42 (dk_at dksX7_fieldAt_0 0 rfl rfl)
theorem dX7_fieldAt_1 : decode cX7_fieldAt 1 = .ok (.iload_n 1, 1) := dk_27 (dk_at dksX7_fieldAt_0 1 rfl rfl)
theorem dX7_fieldAt_2 : decode cX7_fieldAt 2 = .ok (.iload_n 2, 1) := dk_28 (dk_at dksX7_fieldAt_0 2 rfl rfl)
theorem dX7_fieldAt_3 : decode cX7_fieldAt 3 = .ok (.invokevirtual 298, 3) := dk_182 1 42 (dk_at dksX7_fieldAt_0 3 rfl rfl)
theorem dX7_fieldAt_6 : decode cX7_fieldAt 6 = .ok (.ifCond .eq 39, 3) := dk_153 0 39 (dk_at dksX7_fieldAt_0 6 rfl rfl)
theorem dX7_fieldAt_9 : decode cX7_fieldAt 9 = .ok (.iload_n 3, 1) := dk_29 (dk_at dksX7_fieldAt_0 9 rfl rfl)
theorem dX7_fieldAt_10 : decode cX7_fieldAt 10 = .ok (.ifCond .lt 35, 3) := dk_155 0 35 (dk_at dksX7_fieldAt_0 10 rfl rfl)
theorem dX7_fieldAt_13 : decode cX7_fieldAt 13 = .ok (.iload_n 3, 1) := dk_29 (dk_at dksX7_fieldAt_0 13 rfl rfl)
theorem dX7_fieldAt_14 : decode cX7_fieldAt 14 = .ok (.bipush 16, 2) := dk_16 16 (dk_at dksX7_fieldAt_0 14 rfl rfl)
theorem dX7_fieldAt_16 : decode cX7_fieldAt 16 = .ok (.if_icmp .ge 29, 3) := dk_162 0 29 (dk_at dksX7_fieldAt_0 16 rfl rfl)
theorem dX7_fieldAt_19 : decode cX7_fieldAt 19 = .ok (.aload_n 0, 1) := dk_42 (dk_at dksX7_fieldAt_0 19 rfl rfl)
theorem dX7_fieldAt_20 : decode cX7_fieldAt 20 = .ok (.aload_n 0, 1) := dk_42 (dk_at dksX7_fieldAt_0 20 rfl rfl)
theorem dX7_fieldAt_21 : decode cX7_fieldAt 21 = .ok (.getfield 7, 3) := dk_180 0 7 (dk_at dksX7_fieldAt_0 21 rfl rfl)
theorem dX7_fieldAt_24 : decode cX7_fieldAt 24 = .ok (.iload_n 1, 1) := dk_27 (dk_at dksX7_fieldAt_1 0 rfl rfl)
theorem dX7_fieldAt_25 : decode cX7_fieldAt 25 = .ok (.invokestatic 217, 3) := dk_184 0 217 (dk_at dksX7_fieldAt_1 1 rfl rfl)
theorem dX7_fieldAt_28 : decode cX7_fieldAt 28 = .ok (.bipush 6, 2) := dk_16 6 (dk_at dksX7_fieldAt_1 4 rfl rfl)
theorem dX7_fieldAt_30 : decode cX7_fieldAt 30 = .ok (.iadd, 1) := dk_96 (dk_at dksX7_fieldAt_1 6 rfl rfl)
theorem dX7_fieldAt_31 : decode cX7_fieldAt 31 = .ok (.bipush 16, 2) := dk_16 16 (dk_at dksX7_fieldAt_1 7 rfl rfl)
theorem dX7_fieldAt_33 : decode cX7_fieldAt 33 = .ok (.iload_n 2, 1) := dk_28 (dk_at dksX7_fieldAt_1 9 rfl rfl)
theorem dX7_fieldAt_34 : decode cX7_fieldAt 34 = .ok (.imul, 1) := dk_104 (dk_at dksX7_fieldAt_1 10 rfl rfl)
theorem dX7_fieldAt_35 : decode cX7_fieldAt 35 = .ok (.iadd, 1) := dk_96 (dk_at dksX7_fieldAt_1 11 rfl rfl)
theorem dX7_fieldAt_36 : decode cX7_fieldAt 36 = .ok (.iload_n 3, 1) := dk_29 (dk_at dksX7_fieldAt_1 12 rfl rfl)
theorem dX7_fieldAt_37 : decode cX7_fieldAt 37 = .ok (.iadd, 1) := dk_96 (dk_at dksX7_fieldAt_1 13 rfl rfl)
theorem dX7_fieldAt_38 : decode cX7_fieldAt 38 = .ok (.iaload, 1) := dk_46 (dk_at dksX7_fieldAt_1 14 rfl rfl)
theorem dX7_fieldAt_39 : decode cX7_fieldAt 39 = .ok (.invokevirtual 76, 3) := dk_182 0 76 (dk_at dksX7_fieldAt_1 15 rfl rfl)
theorem dX7_fieldAt_42 : decode cX7_fieldAt 42 = .ok (.goto 8, 3) := dk_167 0 8 (dk_at dksX7_fieldAt_1 18 rfl rfl)
theorem dX7_fieldAt_45 : decode cX7_fieldAt 45 = .ok (.aload_n 0, 1) := dk_42 (dk_at dksX7_fieldAt_1 21 rfl rfl)
theorem dX7_fieldAt_46 : decode cX7_fieldAt 46 = .ok (.iconst 1, 1) := dk_4 (dk_at dksX7_fieldAt_1 22 rfl rfl)
theorem dX7_fieldAt_47 : decode cX7_fieldAt 47 = .ok (.invokevirtual 72, 3) := dk_182 0 72 (dk_at dksX7_fieldAt_2 0 rfl rfl)
theorem dX7_fieldAt_50 : decode cX7_fieldAt 50 = .ok (.ireturn, 1) := dk_172 (dk_at dksX7_fieldAt_2 3 rfl rfl)
def dkwX7_isFrame_1 : List UInt8 := [162, 0, 7, 4, 167, 0, 4, 3, 172]
abbrev dktX7_isFrame_1 : List UInt8 := dkwX7_isFrame_1 ++ []
def dkwX7_isFrame_0 : List UInt8 := [42, 27, 182, 1, 18, 153, 0, 24, 28, 155, 0, 20, 28, 42, 180, 0, 7, 27, 184, 0, 217, 46]
abbrev dktX7_isFrame_0 : List UInt8 := dkwX7_isFrame_0 ++ dktX7_isFrame_1
theorem dksX7_isFrame_0 : cX7_isFrame.data.toList.drop 0 = dktX7_isFrame_0 := by decide +kernel
theorem dksX7_isFrame_1 : cX7_isFrame.data.toList.drop 22 = dktX7_isFrame_1 := dk_seg dksX7_isFrame_0 22 rfl rfl
theorem dX7_isFrame_0 : decode cX7_isFrame 0 = .ok (.aload_n 0, 1) := dk_42 (dk_at dksX7_isFrame_0 0 rfl rfl)
theorem dX7_isFrame_1 : decode cX7_isFrame 1 = .ok (.iload_n 1, 1) := dk_27 (dk_at dksX7_isFrame_0 1 rfl rfl)
theorem dX7_isFrame_2 : decode cX7_isFrame 2 = .ok (.invokevirtual 274, 3) := dk_182 1 18 (dk_at dksX7_isFrame_0 2 rfl rfl)
theorem dX7_isFrame_5 : decode cX7_isFrame 5 = .ok (.ifCond .eq 24, 3) := dk_153 0 24 (dk_at dksX7_isFrame_0 5 rfl rfl)
theorem dX7_isFrame_8 : decode cX7_isFrame 8 = .ok (.iload_n 2, 1) := dk_28 (dk_at dksX7_isFrame_0 8 rfl rfl)
theorem dX7_isFrame_9 : decode cX7_isFrame 9 = .ok (.ifCond .lt 20, 3) := dk_155 0 20 (dk_at dksX7_isFrame_0 9 rfl rfl)
theorem dX7_isFrame_12 : decode cX7_isFrame 12 = .ok (.iload_n 2, 1) := dk_28 (dk_at dksX7_isFrame_0 12 rfl rfl)
theorem dX7_isFrame_13 : decode cX7_isFrame 13 = .ok (.aload_n 0, 1) := dk_42 (dk_at dksX7_isFrame_0 13 rfl rfl)
theorem dX7_isFrame_14 : decode cX7_isFrame 14 = .ok (.getfield 7, 3) := dk_180 0 7 (dk_at dksX7_isFrame_0 14 rfl rfl)
theorem dX7_isFrame_17 : decode cX7_isFrame 17 = .ok (.iload_n 1, 1) := dk_27 (dk_at dksX7_isFrame_0 17 rfl rfl)
theorem dX7_isFrame_18 : decode cX7_isFrame 18 = .ok (.invokestatic 217, 3) := dk_184 0 217 (dk_at dksX7_isFrame_0 18 rfl rfl)
theorem dX7_isFrame_21 : decode cX7_isFrame 21 = .ok (.iaload, 1) := dk_46 (dk_at dksX7_isFrame_0 21 rfl rfl)
theorem dX7_isFrame_22 : decode cX7_isFrame 22 = .ok (.if_icmp .ge 7, 3) := dk_162 0 7 (dk_at dksX7_isFrame_1 0 rfl rfl)
theorem dX7_isFrame_25 : decode cX7_isFrame 25 = .ok (.iconst 1, 1) := dk_4 (dk_at dksX7_isFrame_1 3 rfl rfl)
theorem dX7_isFrame_26 : decode cX7_isFrame 26 = .ok (.goto 4, 3) := dk_167 0 4 (dk_at dksX7_isFrame_1 4 rfl rfl)
theorem dX7_isFrame_29 : decode cX7_isFrame 29 = .ok (.iconst 0, 1) := dk_3 (dk_at dksX7_isFrame_1 7 rfl rfl)
theorem dX7_isFrame_30 : decode cX7_isFrame 30 = .ok (.ireturn, 1) := dk_172 (dk_at dksX7_isFrame_1 8 rfl rfl)
def dkwX7_order_2 : List UInt8 := [184, 0, 217, 46, 28, 184, 0, 244, 182, 0, 76, 172]
abbrev dktX7_order_2 : List UInt8 := dkwX7_order_2 ++ []
def dkwX7_order_1 : List UInt8 := [184, 0, 217, 46, 161, 0, 12, 42, 16, 6, 182, 0, 72, 167, 0, 20, 42, 42, 180, 0, 7, 27]
abbrev dktX7_order_1 : List UInt8 := dkwX7_order_1 ++ dktX7_order_2
def dkwX7_order_0 : List UInt8 := [42, 27, 182, 1, 18, 154, 0, 9, 42, 4, 182, 0, 72, 172, 28, 155, 0, 16, 28, 42, 180, 0, 7, 27]
abbrev dktX7_order_0 : List UInt8 := dkwX7_order_0 ++ dktX7_order_1
theorem dksX7_order_0 : cX7_order.data.toList.drop 0 = dktX7_order_0 := by decide +kernel
theorem dksX7_order_1 : cX7_order.data.toList.drop 24 = dktX7_order_1 := dk_seg dksX7_order_0 24 rfl rfl
theorem dksX7_order_2 : cX7_order.data.toList.drop 46 = dktX7_order_2 := dk_seg dksX7_order_1 22 rfl rfl
theorem dX7_order_0 : decode cX7_order 0 = .ok (.aload_n 0, 1) := dk_42 (dk_at dksX7_order_0 0 rfl rfl)
theorem dX7_order_1 : decode cX7_order 1 = .ok (.iload_n 1, 1) := dk_27 (dk_at dksX7_order_0 1 rfl rfl)
theorem dX7_order_2 : decode cX7_order 2 = .ok (.invokevirtual 274, 3) := dk_182 1 18 (dk_at dksX7_order_0 2 rfl rfl)
theorem dX7_order_5 : decode cX7_order 5 = .ok (.ifCond .ne 9, 3) := dk_154 0 9 (dk_at dksX7_order_0 5 rfl rfl)
theorem dX7_order_8 : decode cX7_order 8 = .ok (.aload_n 0, 1) := dk_42 (dk_at dksX7_order_0 8 rfl rfl)
theorem dX7_order_9 : decode cX7_order 9 = .ok (.iconst 1, 1) := dk_4 (dk_at dksX7_order_0 9 rfl rfl)
theorem dX7_order_10 : decode cX7_order 10 = .ok (.invokevirtual 72, 3) := dk_182 0 72 (dk_at dksX7_order_0 10 rfl rfl)
theorem dX7_order_13 : decode cX7_order 13 = .ok (.ireturn, 1) := dk_172 (dk_at dksX7_order_0 13 rfl rfl)
theorem dX7_order_14 : decode cX7_order 14 = .ok (.iload_n 2, 1) := dk_28 (dk_at dksX7_order_0 14 rfl rfl)
theorem dX7_order_15 : decode cX7_order 15 = .ok (.ifCond .lt 16, 3) := dk_155 0 16 (dk_at dksX7_order_0 15 rfl rfl)
theorem dX7_order_18 : decode cX7_order 18 = .ok (.iload_n 2, 1) := dk_28 (dk_at dksX7_order_0 18 rfl rfl)
theorem dX7_order_19 : decode cX7_order 19 = .ok (.aload_n 0, 1) := dk_42 (dk_at dksX7_order_0 19 rfl rfl)
theorem dX7_order_20 : decode cX7_order 20 = .ok (.getfield 7, 3) := dk_180 0 7 (dk_at dksX7_order_0 20 rfl rfl)
theorem dX7_order_23 : decode cX7_order 23 = .ok (.iload_n 1, 1) := dk_27 (dk_at dksX7_order_0 23 rfl rfl)
theorem dX7_order_24 : decode cX7_order 24 = .ok (.invokestatic 217, 3) := dk_184 0 217 (dk_at dksX7_order_1 0 rfl rfl)
theorem dX7_order_27 : decode cX7_order 27 = .ok (.iaload, 1) := dk_46 (dk_at dksX7_order_1 3 rfl rfl)
theorem dX7_order_28 : decode cX7_order 28 = .ok (.if_icmp .lt 12, 3) := dk_161 0 12 (dk_at dksX7_order_1 4 rfl rfl)
theorem dX7_order_31 : decode cX7_order 31 = .ok (.aload_n 0, 1) := dk_42 (dk_at dksX7_order_1 7 rfl rfl)
theorem dX7_order_32 : decode cX7_order 32 = .ok (.bipush 6, 2) := dk_16 6 (dk_at dksX7_order_1 8 rfl rfl)
theorem dX7_order_34 : decode cX7_order 34 = .ok (.invokevirtual 72, 3) := dk_182 0 72 (dk_at dksX7_order_1 10 rfl rfl)
theorem dX7_order_37 : decode cX7_order 37 = .ok (.goto 20, 3) := dk_167 0 20 (dk_at dksX7_order_1 13 rfl rfl)
theorem dX7_order_40 : decode cX7_order 40 = .ok (.aload_n 0, 1) := dk_42 (dk_at dksX7_order_1 16 rfl rfl)
theorem dX7_order_41 : decode cX7_order 41 = .ok (.aload_n 0, 1) := dk_42 (dk_at dksX7_order_1 17 rfl rfl)
theorem dX7_order_42 : decode cX7_order 42 = .ok (.getfield 7, 3) := dk_180 0 7 (dk_at dksX7_order_1 18 rfl rfl)
theorem dX7_order_45 : decode cX7_order 45 = .ok (.iload_n 1, 1) := dk_27 (dk_at dksX7_order_1 21 rfl rfl)
theorem dX7_order_46 : decode cX7_order 46 = .ok (.invokestatic 217, 3) := dk_184 0 217 (dk_at dksX7_order_2 0 rfl rfl)
theorem dX7_order_49 : decode cX7_order 49 = .ok (.iaload, 1) := dk_46 (dk_at dksX7_order_2 3 rfl rfl)
theorem dX7_order_50 : decode cX7_order 50 = .ok (.iload_n 2, 1) := dk_28 (dk_at dksX7_order_2 4 rfl rfl)
theorem dX7_order_51 : decode cX7_order 51 = .ok (.invokestatic 244, 3) := dk_184 0 244 (dk_at dksX7_order_2 5 rfl rfl)
theorem dX7_order_54 : decode cX7_order 54 = .ok (.invokevirtual 76, 3) := dk_182 0 76 (dk_at dksX7_order_2 8 rfl rfl)
theorem dX7_order_57 : decode cX7_order 57 = .ok (.ireturn, 1) := dk_172 (dk_at dksX7_order_2 11 rfl rfl)
def dkwX7_copyOut_4 : List UInt8 := [132, 4, 1, 167, 255, 219, 42, 16, 16, 182, 0, 76, 172]
abbrev dktX7_copyOut_4 : List UInt8 := dkwX7_copyOut_4 ++ []
def dkwX7_copyOut_3 : List UInt8 := [16, 60, 29, 104, 21, 4, 96, 42, 180, 0, 7, 42, 27, 28, 182, 1, 45, 21, 4, 96, 46, 133, 80]
abbrev dktX7_copyOut_3 : List UInt8 := dkwX7_copyOut_3 ++ dktX7_copyOut_4
def dkwX7_copyOut_2 : List UInt8 := [162, 0, 9, 42, 6, 182, 0, 72, 172, 3, 54, 4, 21, 4, 16, 16, 162, 0, 36, 42, 180, 0, 27]
abbrev dktX7_copyOut_2 : List UInt8 := dkwX7_copyOut_2 ++ dktX7_copyOut_3
def dkwX7_copyOut_1 : List UInt8 := [180, 0, 24, 29, 46, 2, 160, 0, 9, 42, 5, 182, 0, 72, 172, 42, 180, 0, 24, 29, 46, 16, 16]
abbrev dktX7_copyOut_1 : List UInt8 := dkwX7_copyOut_1 ++ dktX7_copyOut_2
def dkwX7_copyOut_0 : List UInt8 := [42, 27, 28, 182, 1, 42, 153, 0, 10, 29, 184, 0, 83, 154, 0, 9, 42, 4, 182, 0, 72, 172, 42]
abbrev dktX7_copyOut_0 : List UInt8 := dkwX7_copyOut_0 ++ dktX7_copyOut_1
theorem dksX7_copyOut_0 : cX7_copyOut.data.toList.drop 0 = dktX7_copyOut_0 := by decide +kernel
theorem dksX7_copyOut_1 : cX7_copyOut.data.toList.drop 23 = dktX7_copyOut_1 := dk_seg dksX7_copyOut_0 23 rfl rfl
theorem dksX7_copyOut_2 : cX7_copyOut.data.toList.drop 46 = dktX7_copyOut_2 := dk_seg dksX7_copyOut_1 23 rfl rfl
theorem dksX7_copyOut_3 : cX7_copyOut.data.toList.drop 69 = dktX7_copyOut_3 := dk_seg dksX7_copyOut_2 23 rfl rfl
theorem dksX7_copyOut_4 : cX7_copyOut.data.toList.drop 92 = dktX7_copyOut_4 := dk_seg dksX7_copyOut_3 23 rfl rfl
theorem dX7_copyOut_0 : decode cX7_copyOut 0 = .ok (.aload_n 0, 1) := dk_42 (dk_at dksX7_copyOut_0 0 rfl rfl)
theorem dX7_copyOut_1 : decode cX7_copyOut 1 = .ok (.iload_n 1, 1) := dk_27 (dk_at dksX7_copyOut_0 1 rfl rfl)
theorem dX7_copyOut_2 : decode cX7_copyOut 2 = .ok (.iload_n 2, 1) := dk_28 (dk_at dksX7_copyOut_0 2 rfl rfl)
theorem dX7_copyOut_3 : decode cX7_copyOut 3 = .ok (.invokevirtual 298, 3) := dk_182 1 42 (dk_at dksX7_copyOut_0 3 rfl rfl)
theorem dX7_copyOut_6 : decode cX7_copyOut 6 = .ok (.ifCond .eq 10, 3) := dk_153 0 10 (dk_at dksX7_copyOut_0 6 rfl rfl)
theorem dX7_copyOut_9 : decode cX7_copyOut 9 = .ok (.iload_n 3, 1) := dk_29 (dk_at dksX7_copyOut_0 9 rfl rfl)
theorem dX7_copyOut_10 : decode cX7_copyOut 10 = .ok (.invokestatic 83, 3) := dk_184 0 83 (dk_at dksX7_copyOut_0 10 rfl rfl)
theorem dX7_copyOut_13 : decode cX7_copyOut 13 = .ok (.ifCond .ne 9, 3) := dk_154 0 9 (dk_at dksX7_copyOut_0 13 rfl rfl)
theorem dX7_copyOut_16 : decode cX7_copyOut 16 = .ok (.aload_n 0, 1) := dk_42 (dk_at dksX7_copyOut_0 16 rfl rfl)
theorem dX7_copyOut_17 : decode cX7_copyOut 17 = .ok (.iconst 1, 1) := dk_4 (dk_at dksX7_copyOut_0 17 rfl rfl)
theorem dX7_copyOut_18 : decode cX7_copyOut 18 = .ok (.invokevirtual 72, 3) := dk_182 0 72 (dk_at dksX7_copyOut_0 18 rfl rfl)
theorem dX7_copyOut_21 : decode cX7_copyOut 21 = .ok (.ireturn, 1) := dk_172 (dk_at dksX7_copyOut_0 21 rfl rfl)
theorem dX7_copyOut_22 : decode cX7_copyOut 22 = .ok (.aload_n 0, 1) := dk_42 (dk_at dksX7_copyOut_0 22 rfl rfl)
theorem dX7_copyOut_23 : decode cX7_copyOut 23 = .ok (.getfield 24, 3) := dk_180 0 24 (dk_at dksX7_copyOut_1 0 rfl rfl)
theorem dX7_copyOut_26 : decode cX7_copyOut 26 = .ok (.iload_n 3, 1) := dk_29 (dk_at dksX7_copyOut_1 3 rfl rfl)
theorem dX7_copyOut_27 : decode cX7_copyOut 27 = .ok (.iaload, 1) := dk_46 (dk_at dksX7_copyOut_1 4 rfl rfl)
theorem dX7_copyOut_28 : decode cX7_copyOut 28 = .ok (.iconst (-1), 1) := dk_2 (dk_at dksX7_copyOut_1 5 rfl rfl)
theorem dX7_copyOut_29 : decode cX7_copyOut 29 = .ok (.if_icmp .ne 9, 3) := dk_160 0 9 (dk_at dksX7_copyOut_1 6 rfl rfl)
theorem dX7_copyOut_32 : decode cX7_copyOut 32 = .ok (.aload_n 0, 1) := dk_42 (dk_at dksX7_copyOut_1 9 rfl rfl)
theorem dX7_copyOut_33 : decode cX7_copyOut 33 = .ok (.iconst 2, 1) := dk_5 (dk_at dksX7_copyOut_1 10 rfl rfl)
theorem dX7_copyOut_34 : decode cX7_copyOut 34 = .ok (.invokevirtual 72, 3) := dk_182 0 72 (dk_at dksX7_copyOut_1 11 rfl rfl)
theorem dX7_copyOut_37 : decode cX7_copyOut 37 = .ok (.ireturn, 1) := dk_172 (dk_at dksX7_copyOut_1 14 rfl rfl)
theorem dX7_copyOut_38 : decode cX7_copyOut 38 = .ok (.aload_n 0, 1) := dk_42 (dk_at dksX7_copyOut_1 15 rfl rfl)
theorem dX7_copyOut_39 : decode cX7_copyOut 39 = .ok (.getfield 24, 3) := dk_180 0 24 (dk_at dksX7_copyOut_1 16 rfl rfl)
theorem dX7_copyOut_42 : decode cX7_copyOut 42 = .ok (.iload_n 3, 1) := dk_29 (dk_at dksX7_copyOut_1 19 rfl rfl)
theorem dX7_copyOut_43 : decode cX7_copyOut 43 = .ok (.iaload, 1) := dk_46 (dk_at dksX7_copyOut_1 20 rfl rfl)
theorem dX7_copyOut_44 : decode cX7_copyOut 44 = .ok (.bipush 16, 2) := dk_16 16 (dk_at dksX7_copyOut_1 21 rfl rfl)
theorem dX7_copyOut_46 : decode cX7_copyOut 46 = .ok (.if_icmp .ge 9, 3) := dk_162 0 9 (dk_at dksX7_copyOut_2 0 rfl rfl)
theorem dX7_copyOut_49 : decode cX7_copyOut 49 = .ok (.aload_n 0, 1) := dk_42 (dk_at dksX7_copyOut_2 3 rfl rfl)
theorem dX7_copyOut_50 : decode cX7_copyOut 50 = .ok (.iconst 3, 1) := dk_6 (dk_at dksX7_copyOut_2 4 rfl rfl)
theorem dX7_copyOut_51 : decode cX7_copyOut 51 = .ok (.invokevirtual 72, 3) := dk_182 0 72 (dk_at dksX7_copyOut_2 5 rfl rfl)
theorem dX7_copyOut_54 : decode cX7_copyOut 54 = .ok (.ireturn, 1) := dk_172 (dk_at dksX7_copyOut_2 8 rfl rfl)
theorem dX7_copyOut_55 : decode cX7_copyOut 55 = .ok (.iconst 0, 1) := dk_3 (dk_at dksX7_copyOut_2 9 rfl rfl)
theorem dX7_copyOut_56 : decode cX7_copyOut 56 = .ok (.istore 4, 2) := dk_54 4 (dk_at dksX7_copyOut_2 10 rfl rfl)
theorem dX7_copyOut_58 : decode cX7_copyOut 58 = .ok (.iload 4, 2) := dk_21 4 (dk_at dksX7_copyOut_2 12 rfl rfl)
theorem dX7_copyOut_60 : decode cX7_copyOut 60 = .ok (.bipush 16, 2) := dk_16 16 (dk_at dksX7_copyOut_2 14 rfl rfl)
theorem dX7_copyOut_62 : decode cX7_copyOut 62 = .ok (.if_icmp .ge 36, 3) := dk_162 0 36 (dk_at dksX7_copyOut_2 16 rfl rfl)
theorem dX7_copyOut_65 : decode cX7_copyOut 65 = .ok (.aload_n 0, 1) := dk_42 (dk_at dksX7_copyOut_2 19 rfl rfl)
theorem dX7_copyOut_66 : decode cX7_copyOut 66 = .ok (.getfield 27, 3) := dk_180 0 27 (dk_at dksX7_copyOut_2 20 rfl rfl)
theorem dX7_copyOut_69 : decode cX7_copyOut 69 = .ok (.bipush 60, 2) := dk_16 60 (dk_at dksX7_copyOut_3 0 rfl rfl)
theorem dX7_copyOut_71 : decode cX7_copyOut 71 = .ok (.iload_n 3, 1) := dk_29 (dk_at dksX7_copyOut_3 2 rfl rfl)
theorem dX7_copyOut_72 : decode cX7_copyOut 72 = .ok (.imul, 1) := dk_104 (dk_at dksX7_copyOut_3 3 rfl rfl)
theorem dX7_copyOut_73 : decode cX7_copyOut 73 = .ok (.iload 4, 2) := dk_21 4 (dk_at dksX7_copyOut_3 4 rfl rfl)
theorem dX7_copyOut_75 : decode cX7_copyOut 75 = .ok (.iadd, 1) := dk_96 (dk_at dksX7_copyOut_3 6 rfl rfl)
theorem dX7_copyOut_76 : decode cX7_copyOut 76 = .ok (.aload_n 0, 1) := dk_42 (dk_at dksX7_copyOut_3 7 rfl rfl)
theorem dX7_copyOut_77 : decode cX7_copyOut 77 = .ok (.getfield 7, 3) := dk_180 0 7 (dk_at dksX7_copyOut_3 8 rfl rfl)
theorem dX7_copyOut_80 : decode cX7_copyOut 80 = .ok (.aload_n 0, 1) := dk_42 (dk_at dksX7_copyOut_3 11 rfl rfl)
theorem dX7_copyOut_81 : decode cX7_copyOut 81 = .ok (.iload_n 1, 1) := dk_27 (dk_at dksX7_copyOut_3 12 rfl rfl)
theorem dX7_copyOut_82 : decode cX7_copyOut 82 = .ok (.iload_n 2, 1) := dk_28 (dk_at dksX7_copyOut_3 13 rfl rfl)
theorem dX7_copyOut_83 : decode cX7_copyOut 83 = .ok (.invokevirtual 301, 3) := dk_182 1 45 (dk_at dksX7_copyOut_3 14 rfl rfl)
theorem dX7_copyOut_86 : decode cX7_copyOut 86 = .ok (.iload 4, 2) := dk_21 4 (dk_at dksX7_copyOut_3 17 rfl rfl)
theorem dX7_copyOut_88 : decode cX7_copyOut 88 = .ok (.iadd, 1) := dk_96 (dk_at dksX7_copyOut_3 19 rfl rfl)
theorem dX7_copyOut_89 : decode cX7_copyOut 89 = .ok (.iaload, 1) := dk_46 (dk_at dksX7_copyOut_3 20 rfl rfl)
theorem dX7_copyOut_90 : decode cX7_copyOut 90 = .ok (.i2l, 1) := dk_133 (dk_at dksX7_copyOut_3 21 rfl rfl)
theorem dX7_copyOut_91 : decode cX7_copyOut 91 = .ok (.lastore, 1) := dk_80 (dk_at dksX7_copyOut_3 22 rfl rfl)
theorem dX7_copyOut_92 : decode cX7_copyOut 92 = .ok (.iinc 4 1, 3) := dk_132 4 1 (dk_at dksX7_copyOut_4 0 rfl rfl)
theorem dX7_copyOut_95 : decode cX7_copyOut 95 = .ok (.goto (-37), 3) := dk_167 255 219 (dk_at dksX7_copyOut_4 3 rfl rfl)
theorem dX7_copyOut_98 : decode cX7_copyOut 98 = .ok (.aload_n 0, 1) := dk_42 (dk_at dksX7_copyOut_4 6 rfl rfl)
theorem dX7_copyOut_99 : decode cX7_copyOut 99 = .ok (.bipush 16, 2) := dk_16 16 (dk_at dksX7_copyOut_4 7 rfl rfl)
theorem dX7_copyOut_101 : decode cX7_copyOut 101 = .ok (.invokevirtual 76, 3) := dk_182 0 76 (dk_at dksX7_copyOut_4 9 rfl rfl)
theorem dX7_copyOut_104 : decode cX7_copyOut 104 = .ok (.ireturn, 1) := dk_172 (dk_at dksX7_copyOut_4 12 rfl rfl)
def dkwX7_frameRow_0 : List UInt8 := [27, 184, 0, 217, 16, 6, 96, 16, 16, 28, 104, 96, 172]
abbrev dktX7_frameRow_0 : List UInt8 := dkwX7_frameRow_0 ++ []
theorem dksX7_frameRow_0 : cX7_frameRow.data.toList.drop 0 = dktX7_frameRow_0 := by decide +kernel
theorem dX7_frameRow_0 : decode cX7_frameRow 0 = .ok (.iload_n 1, 1) := dk_27 (dk_at dksX7_frameRow_0 0 rfl rfl)
theorem dX7_frameRow_1 : decode cX7_frameRow 1 = .ok (.invokestatic 217, 3) := dk_184 0 217 (dk_at dksX7_frameRow_0 1 rfl rfl)
theorem dX7_frameRow_4 : decode cX7_frameRow 4 = .ok (.bipush 6, 2) := dk_16 6 (dk_at dksX7_frameRow_0 4 rfl rfl)
theorem dX7_frameRow_6 : decode cX7_frameRow 6 = .ok (.iadd, 1) := dk_96 (dk_at dksX7_frameRow_0 6 rfl rfl)
theorem dX7_frameRow_7 : decode cX7_frameRow 7 = .ok (.bipush 16, 2) := dk_16 16 (dk_at dksX7_frameRow_0 7 rfl rfl)
theorem dX7_frameRow_9 : decode cX7_frameRow 9 = .ok (.iload_n 2, 1) := dk_28 (dk_at dksX7_frameRow_0 9 rfl rfl)
theorem dX7_frameRow_10 : decode cX7_frameRow 10 = .ok (.imul, 1) := dk_104 (dk_at dksX7_frameRow_0 10 rfl rfl)
theorem dX7_frameRow_11 : decode cX7_frameRow 11 = .ok (.iadd, 1) := dk_96 (dk_at dksX7_frameRow_0 11 rfl rfl)
theorem dX7_frameRow_12 : decode cX7_frameRow 12 = .ok (.ireturn, 1) := dk_172 (dk_at dksX7_frameRow_0 12 rfl rfl)
def dkwX7_copyIn_7 : List UInt8 := [54, 5, 42, 180, 0, 7, 7, 92, 46, 21, 5, 96, 79, 42, 21, 5, 182, 0, 76, 172]
abbrev dktX7_copyIn_7 : List UInt8 := dkwX7_copyIn_7 ++ []
def dkwX7_copyIn_6 : List UInt8 := [21, 5, 96, 47, 136, 79, 132, 5, 1, 167, 255, 219, 42, 28, 184, 0, 217, 3, 182, 1, 27, 21, 4, 100]
abbrev dktX7_copyIn_6 : List UInt8 := dkwX7_copyIn_6 ++ dktX7_copyIn_7
def dkwX7_copyIn_5 : List UInt8 := [162, 0, 36, 42, 180, 0, 7, 42, 28, 29, 182, 1, 45, 21, 5, 96, 42, 180, 0, 27, 16, 60, 27, 104]
abbrev dktX7_copyIn_5 : List UInt8 := dkwX7_copyIn_5 ++ dktX7_copyIn_6
def dkwX7_copyIn_4 : List UInt8 := [132, 4, 1, 167, 255, 218, 42, 28, 184, 0, 217, 3, 182, 1, 27, 54, 4, 3, 54, 5, 21, 5, 16, 16]
abbrev dktX7_copyIn_4 : List UInt8 := dkwX7_copyIn_4 ++ dktX7_copyIn_5
def dkwX7_copyIn_3 : List UInt8 := [16, 60, 27, 104, 21, 4, 96, 47, 9, 20, 1, 48, 184, 1, 50, 154, 0, 9, 42, 8, 182, 0, 72, 172]
abbrev dktX7_copyIn_3 : List UInt8 := dkwX7_copyIn_3 ++ dktX7_copyIn_4
def dkwX7_copyIn_2 : List UInt8 := [162, 0, 9, 42, 6, 182, 0, 72, 172, 3, 54, 4, 21, 4, 16, 16, 162, 0, 37, 42, 180, 0, 27]
abbrev dktX7_copyIn_2 : List UInt8 := dkwX7_copyIn_2 ++ dktX7_copyIn_3
def dkwX7_copyIn_1 : List UInt8 := [180, 0, 24, 27, 46, 2, 160, 0, 9, 42, 5, 182, 0, 72, 172, 42, 180, 0, 24, 27, 46, 16, 16]
abbrev dktX7_copyIn_1 : List UInt8 := dkwX7_copyIn_1 ++ dktX7_copyIn_2
def dkwX7_copyIn_0 : List UInt8 := [42, 28, 29, 182, 1, 42, 153, 0, 10, 27, 184, 0, 83, 154, 0, 9, 42, 4, 182, 0, 72, 172, 42]
abbrev dktX7_copyIn_0 : List UInt8 := dkwX7_copyIn_0 ++ dktX7_copyIn_1
theorem dksX7_copyIn_0 : cX7_copyIn.data.toList.drop 0 = dktX7_copyIn_0 := by decide +kernel
theorem dksX7_copyIn_1 : cX7_copyIn.data.toList.drop 23 = dktX7_copyIn_1 := dk_seg dksX7_copyIn_0 23 rfl rfl
theorem dksX7_copyIn_2 : cX7_copyIn.data.toList.drop 46 = dktX7_copyIn_2 := dk_seg dksX7_copyIn_1 23 rfl rfl
theorem dksX7_copyIn_3 : cX7_copyIn.data.toList.drop 69 = dktX7_copyIn_3 := dk_seg dksX7_copyIn_2 23 rfl rfl
theorem dksX7_copyIn_4 : cX7_copyIn.data.toList.drop 93 = dktX7_copyIn_4 := dk_seg dksX7_copyIn_3 24 rfl rfl
theorem dksX7_copyIn_5 : cX7_copyIn.data.toList.drop 117 = dktX7_copyIn_5 := dk_seg dksX7_copyIn_4 24 rfl rfl
theorem dksX7_copyIn_6 : cX7_copyIn.data.toList.drop 141 = dktX7_copyIn_6 := dk_seg dksX7_copyIn_5 24 rfl rfl
theorem dksX7_copyIn_7 : cX7_copyIn.data.toList.drop 165 = dktX7_copyIn_7 := dk_seg dksX7_copyIn_6 24 rfl rfl
theorem dX7_copyIn_0 : decode cX7_copyIn 0 = .ok (.aload_n 0, 1) := dk_42 (dk_at dksX7_copyIn_0 0 rfl rfl)
theorem dX7_copyIn_1 : decode cX7_copyIn 1 = .ok (.iload_n 2, 1) := dk_28 (dk_at dksX7_copyIn_0 1 rfl rfl)
theorem dX7_copyIn_2 : decode cX7_copyIn 2 = .ok (.iload_n 3, 1) := dk_29 (dk_at dksX7_copyIn_0 2 rfl rfl)
theorem dX7_copyIn_3 : decode cX7_copyIn 3 = .ok (.invokevirtual 298, 3) := dk_182 1 42 (dk_at dksX7_copyIn_0 3 rfl rfl)
theorem dX7_copyIn_6 : decode cX7_copyIn 6 = .ok (.ifCond .eq 10, 3) := dk_153 0 10 (dk_at dksX7_copyIn_0 6 rfl rfl)
theorem dX7_copyIn_9 : decode cX7_copyIn 9 = .ok (.iload_n 1, 1) := dk_27 (dk_at dksX7_copyIn_0 9 rfl rfl)
theorem dX7_copyIn_10 : decode cX7_copyIn 10 = .ok (.invokestatic 83, 3) := dk_184 0 83 (dk_at dksX7_copyIn_0 10 rfl rfl)
theorem dX7_copyIn_13 : decode cX7_copyIn 13 = .ok (.ifCond .ne 9, 3) := dk_154 0 9 (dk_at dksX7_copyIn_0 13 rfl rfl)
theorem dX7_copyIn_16 : decode cX7_copyIn 16 = .ok (.aload_n 0, 1) := dk_42 (dk_at dksX7_copyIn_0 16 rfl rfl)
theorem dX7_copyIn_17 : decode cX7_copyIn 17 = .ok (.iconst 1, 1) := dk_4 (dk_at dksX7_copyIn_0 17 rfl rfl)
theorem dX7_copyIn_18 : decode cX7_copyIn 18 = .ok (.invokevirtual 72, 3) := dk_182 0 72 (dk_at dksX7_copyIn_0 18 rfl rfl)
theorem dX7_copyIn_21 : decode cX7_copyIn 21 = .ok (.ireturn, 1) := dk_172 (dk_at dksX7_copyIn_0 21 rfl rfl)
theorem dX7_copyIn_22 : decode cX7_copyIn 22 = .ok (.aload_n 0, 1) := dk_42 (dk_at dksX7_copyIn_0 22 rfl rfl)
theorem dX7_copyIn_23 : decode cX7_copyIn 23 = .ok (.getfield 24, 3) := dk_180 0 24 (dk_at dksX7_copyIn_1 0 rfl rfl)
theorem dX7_copyIn_26 : decode cX7_copyIn 26 = .ok (.iload_n 1, 1) := dk_27 (dk_at dksX7_copyIn_1 3 rfl rfl)
theorem dX7_copyIn_27 : decode cX7_copyIn 27 = .ok (.iaload, 1) := dk_46 (dk_at dksX7_copyIn_1 4 rfl rfl)
theorem dX7_copyIn_28 : decode cX7_copyIn 28 = .ok (.iconst (-1), 1) := dk_2 (dk_at dksX7_copyIn_1 5 rfl rfl)
theorem dX7_copyIn_29 : decode cX7_copyIn 29 = .ok (.if_icmp .ne 9, 3) := dk_160 0 9 (dk_at dksX7_copyIn_1 6 rfl rfl)
theorem dX7_copyIn_32 : decode cX7_copyIn 32 = .ok (.aload_n 0, 1) := dk_42 (dk_at dksX7_copyIn_1 9 rfl rfl)
theorem dX7_copyIn_33 : decode cX7_copyIn 33 = .ok (.iconst 2, 1) := dk_5 (dk_at dksX7_copyIn_1 10 rfl rfl)
theorem dX7_copyIn_34 : decode cX7_copyIn 34 = .ok (.invokevirtual 72, 3) := dk_182 0 72 (dk_at dksX7_copyIn_1 11 rfl rfl)
theorem dX7_copyIn_37 : decode cX7_copyIn 37 = .ok (.ireturn, 1) := dk_172 (dk_at dksX7_copyIn_1 14 rfl rfl)
theorem dX7_copyIn_38 : decode cX7_copyIn 38 = .ok (.aload_n 0, 1) := dk_42 (dk_at dksX7_copyIn_1 15 rfl rfl)
theorem dX7_copyIn_39 : decode cX7_copyIn 39 = .ok (.getfield 24, 3) := dk_180 0 24 (dk_at dksX7_copyIn_1 16 rfl rfl)
theorem dX7_copyIn_42 : decode cX7_copyIn 42 = .ok (.iload_n 1, 1) := dk_27 (dk_at dksX7_copyIn_1 19 rfl rfl)
theorem dX7_copyIn_43 : decode cX7_copyIn 43 = .ok (.iaload, 1) := dk_46 (dk_at dksX7_copyIn_1 20 rfl rfl)
theorem dX7_copyIn_44 : decode cX7_copyIn 44 = .ok (.bipush 16, 2) := dk_16 16 (dk_at dksX7_copyIn_1 21 rfl rfl)
theorem dX7_copyIn_46 : decode cX7_copyIn 46 = .ok (.if_icmp .ge 9, 3) := dk_162 0 9 (dk_at dksX7_copyIn_2 0 rfl rfl)
theorem dX7_copyIn_49 : decode cX7_copyIn 49 = .ok (.aload_n 0, 1) := dk_42 (dk_at dksX7_copyIn_2 3 rfl rfl)
theorem dX7_copyIn_50 : decode cX7_copyIn 50 = .ok (.iconst 3, 1) := dk_6 (dk_at dksX7_copyIn_2 4 rfl rfl)
theorem dX7_copyIn_51 : decode cX7_copyIn 51 = .ok (.invokevirtual 72, 3) := dk_182 0 72 (dk_at dksX7_copyIn_2 5 rfl rfl)
theorem dX7_copyIn_54 : decode cX7_copyIn 54 = .ok (.ireturn, 1) := dk_172 (dk_at dksX7_copyIn_2 8 rfl rfl)
theorem dX7_copyIn_55 : decode cX7_copyIn 55 = .ok (.iconst 0, 1) := dk_3 (dk_at dksX7_copyIn_2 9 rfl rfl)
theorem dX7_copyIn_56 : decode cX7_copyIn 56 = .ok (.istore 4, 2) := dk_54 4 (dk_at dksX7_copyIn_2 10 rfl rfl)
theorem dX7_copyIn_58 : decode cX7_copyIn 58 = .ok (.iload 4, 2) := dk_21 4 (dk_at dksX7_copyIn_2 12 rfl rfl)
theorem dX7_copyIn_60 : decode cX7_copyIn 60 = .ok (.bipush 16, 2) := dk_16 16 (dk_at dksX7_copyIn_2 14 rfl rfl)
theorem dX7_copyIn_62 : decode cX7_copyIn 62 = .ok (.if_icmp .ge 37, 3) := dk_162 0 37 (dk_at dksX7_copyIn_2 16 rfl rfl)
theorem dX7_copyIn_65 : decode cX7_copyIn 65 = .ok (.aload_n 0, 1) := dk_42 (dk_at dksX7_copyIn_2 19 rfl rfl)
theorem dX7_copyIn_66 : decode cX7_copyIn 66 = .ok (.getfield 27, 3) := dk_180 0 27 (dk_at dksX7_copyIn_2 20 rfl rfl)
theorem dX7_copyIn_69 : decode cX7_copyIn 69 = .ok (.bipush 60, 2) := dk_16 60 (dk_at dksX7_copyIn_3 0 rfl rfl)
theorem dX7_copyIn_71 : decode cX7_copyIn 71 = .ok (.iload_n 1, 1) := dk_27 (dk_at dksX7_copyIn_3 2 rfl rfl)
theorem dX7_copyIn_72 : decode cX7_copyIn 72 = .ok (.imul, 1) := dk_104 (dk_at dksX7_copyIn_3 3 rfl rfl)
theorem dX7_copyIn_73 : decode cX7_copyIn 73 = .ok (.iload 4, 2) := dk_21 4 (dk_at dksX7_copyIn_3 4 rfl rfl)
theorem dX7_copyIn_75 : decode cX7_copyIn 75 = .ok (.iadd, 1) := dk_96 (dk_at dksX7_copyIn_3 6 rfl rfl)
theorem dX7_copyIn_76 : decode cX7_copyIn 76 = .ok (.laload, 1) := dk_47 (dk_at dksX7_copyIn_3 7 rfl rfl)
theorem dX7_copyIn_77 : decode cX7_copyIn 77 = .ok (.lconst 0, 1) := dk_9 (dk_at dksX7_copyIn_3 8 rfl rfl)
theorem dX7_copyIn_78 : decode cX7_copyIn 78 = .ok (.ldc2_w 304, 3) := dk_20 1 48 (dk_at dksX7_copyIn_3 9 rfl rfl)
theorem dX7_copyIn_81 : decode cX7_copyIn 81 = .ok (.invokestatic 306, 3) := dk_184 1 50 (dk_at dksX7_copyIn_3 12 rfl rfl)
theorem dX7_copyIn_84 : decode cX7_copyIn 84 = .ok (.ifCond .ne 9, 3) := dk_154 0 9 (dk_at dksX7_copyIn_3 15 rfl rfl)
theorem dX7_copyIn_87 : decode cX7_copyIn 87 = .ok (.aload_n 0, 1) := dk_42 (dk_at dksX7_copyIn_3 18 rfl rfl)
theorem dX7_copyIn_88 : decode cX7_copyIn 88 = .ok (.iconst 5, 1) := dk_8 (dk_at dksX7_copyIn_3 19 rfl rfl)
theorem dX7_copyIn_89 : decode cX7_copyIn 89 = .ok (.invokevirtual 72, 3) := dk_182 0 72 (dk_at dksX7_copyIn_3 20 rfl rfl)
theorem dX7_copyIn_92 : decode cX7_copyIn 92 = .ok (.ireturn, 1) := dk_172 (dk_at dksX7_copyIn_3 23 rfl rfl)
theorem dX7_copyIn_93 : decode cX7_copyIn 93 = .ok (.iinc 4 1, 3) := dk_132 4 1 (dk_at dksX7_copyIn_4 0 rfl rfl)
theorem dX7_copyIn_96 : decode cX7_copyIn 96 = .ok (.goto (-38), 3) := dk_167 255 218 (dk_at dksX7_copyIn_4 3 rfl rfl)
theorem dX7_copyIn_99 : decode cX7_copyIn 99 = .ok (.aload_n 0, 1) := dk_42 (dk_at dksX7_copyIn_4 6 rfl rfl)
theorem dX7_copyIn_100 : decode cX7_copyIn 100 = .ok (.iload_n 2, 1) := dk_28 (dk_at dksX7_copyIn_4 7 rfl rfl)
theorem dX7_copyIn_101 : decode cX7_copyIn 101 = .ok (.invokestatic 217, 3) := dk_184 0 217 (dk_at dksX7_copyIn_4 8 rfl rfl)
theorem dX7_copyIn_104 : decode cX7_copyIn 104 = .ok (.iconst 0, 1) := dk_3 (dk_at dksX7_copyIn_4 11 rfl rfl)
theorem dX7_copyIn_105 : decode cX7_copyIn 105 = .ok (.invokevirtual 283, 3) := dk_182 1 27 (dk_at dksX7_copyIn_4 12 rfl rfl)
theorem dX7_copyIn_108 : decode cX7_copyIn 108 = .ok (.istore 4, 2) := dk_54 4 (dk_at dksX7_copyIn_4 15 rfl rfl)
theorem dX7_copyIn_110 : decode cX7_copyIn 110 = .ok (.iconst 0, 1) := dk_3 (dk_at dksX7_copyIn_4 17 rfl rfl)
theorem dX7_copyIn_111 : decode cX7_copyIn 111 = .ok (.istore 5, 2) := dk_54 5 (dk_at dksX7_copyIn_4 18 rfl rfl)
theorem dX7_copyIn_113 : decode cX7_copyIn 113 = .ok (.iload 5, 2) := dk_21 5 (dk_at dksX7_copyIn_4 20 rfl rfl)
theorem dX7_copyIn_115 : decode cX7_copyIn 115 = .ok (.bipush 16, 2) := dk_16 16 (dk_at dksX7_copyIn_4 22 rfl rfl)
theorem dX7_copyIn_117 : decode cX7_copyIn 117 = .ok (.if_icmp .ge 36, 3) := dk_162 0 36 (dk_at dksX7_copyIn_5 0 rfl rfl)
theorem dX7_copyIn_120 : decode cX7_copyIn 120 = .ok (.aload_n 0, 1) := dk_42 (dk_at dksX7_copyIn_5 3 rfl rfl)
theorem dX7_copyIn_121 : decode cX7_copyIn 121 = .ok (.getfield 7, 3) := dk_180 0 7 (dk_at dksX7_copyIn_5 4 rfl rfl)
theorem dX7_copyIn_124 : decode cX7_copyIn 124 = .ok (.aload_n 0, 1) := dk_42 (dk_at dksX7_copyIn_5 7 rfl rfl)
theorem dX7_copyIn_125 : decode cX7_copyIn 125 = .ok (.iload_n 2, 1) := dk_28 (dk_at dksX7_copyIn_5 8 rfl rfl)
theorem dX7_copyIn_126 : decode cX7_copyIn 126 = .ok (.iload_n 3, 1) := dk_29 (dk_at dksX7_copyIn_5 9 rfl rfl)
theorem dX7_copyIn_127 : decode cX7_copyIn 127 = .ok (.invokevirtual 301, 3) := dk_182 1 45 (dk_at dksX7_copyIn_5 10 rfl rfl)
theorem dX7_copyIn_130 : decode cX7_copyIn 130 = .ok (.iload 5, 2) := dk_21 5 (dk_at dksX7_copyIn_5 13 rfl rfl)
theorem dX7_copyIn_132 : decode cX7_copyIn 132 = .ok (.iadd, 1) := dk_96 (dk_at dksX7_copyIn_5 15 rfl rfl)
theorem dX7_copyIn_133 : decode cX7_copyIn 133 = .ok (.aload_n 0, 1) := dk_42 (dk_at dksX7_copyIn_5 16 rfl rfl)
theorem dX7_copyIn_134 : decode cX7_copyIn 134 = .ok (.getfield 27, 3) := dk_180 0 27 (dk_at dksX7_copyIn_5 17 rfl rfl)
theorem dX7_copyIn_137 : decode cX7_copyIn 137 = .ok (.bipush 60, 2) := dk_16 60 (dk_at dksX7_copyIn_5 20 rfl rfl)
theorem dX7_copyIn_139 : decode cX7_copyIn 139 = .ok (.iload_n 1, 1) := dk_27 (dk_at dksX7_copyIn_5 22 rfl rfl)
theorem dX7_copyIn_140 : decode cX7_copyIn 140 = .ok (.imul, 1) := dk_104 (dk_at dksX7_copyIn_5 23 rfl rfl)
theorem dX7_copyIn_141 : decode cX7_copyIn 141 = .ok (.iload 5, 2) := dk_21 5 (dk_at dksX7_copyIn_6 0 rfl rfl)
theorem dX7_copyIn_143 : decode cX7_copyIn 143 = .ok (.iadd, 1) := dk_96 (dk_at dksX7_copyIn_6 2 rfl rfl)
theorem dX7_copyIn_144 : decode cX7_copyIn 144 = .ok (.laload, 1) := dk_47 (dk_at dksX7_copyIn_6 3 rfl rfl)
theorem dX7_copyIn_145 : decode cX7_copyIn 145 = .ok (.l2i, 1) := dk_136 (dk_at dksX7_copyIn_6 4 rfl rfl)
theorem dX7_copyIn_146 : decode cX7_copyIn 146 = .ok (.iastore, 1) := dk_79 (dk_at dksX7_copyIn_6 5 rfl rfl)
theorem dX7_copyIn_147 : decode cX7_copyIn 147 = .ok (.iinc 5 1, 3) := dk_132 5 1 (dk_at dksX7_copyIn_6 6 rfl rfl)
theorem dX7_copyIn_150 : decode cX7_copyIn 150 = .ok (.goto (-37), 3) := dk_167 255 219 (dk_at dksX7_copyIn_6 9 rfl rfl)
theorem dX7_copyIn_153 : decode cX7_copyIn 153 = .ok (.aload_n 0, 1) := dk_42 (dk_at dksX7_copyIn_6 12 rfl rfl)
theorem dX7_copyIn_154 : decode cX7_copyIn 154 = .ok (.iload_n 2, 1) := dk_28 (dk_at dksX7_copyIn_6 13 rfl rfl)
theorem dX7_copyIn_155 : decode cX7_copyIn 155 = .ok (.invokestatic 217, 3) := dk_184 0 217 (dk_at dksX7_copyIn_6 14 rfl rfl)
theorem dX7_copyIn_158 : decode cX7_copyIn 158 = .ok (.iconst 0, 1) := dk_3 (dk_at dksX7_copyIn_6 17 rfl rfl)
theorem dX7_copyIn_159 : decode cX7_copyIn 159 = .ok (.invokevirtual 283, 3) := dk_182 1 27 (dk_at dksX7_copyIn_6 18 rfl rfl)
theorem dX7_copyIn_162 : decode cX7_copyIn 162 = .ok (.iload 4, 2) := dk_21 4 (dk_at dksX7_copyIn_6 21 rfl rfl)
theorem dX7_copyIn_164 : decode cX7_copyIn 164 = .ok (.isub, 1) := dk_100 (dk_at dksX7_copyIn_6 23 rfl rfl)
theorem dX7_copyIn_165 : decode cX7_copyIn 165 = .ok (.istore 5, 2) := dk_54 5 (dk_at dksX7_copyIn_7 0 rfl rfl)
theorem dX7_copyIn_167 : decode cX7_copyIn 167 = .ok (.aload_n 0, 1) := dk_42 (dk_at dksX7_copyIn_7 2 rfl rfl)
theorem dX7_copyIn_168 : decode cX7_copyIn 168 = .ok (.getfield 7, 3) := dk_180 0 7 (dk_at dksX7_copyIn_7 3 rfl rfl)
theorem dX7_copyIn_171 : decode cX7_copyIn 171 = .ok (.iconst 4, 1) := dk_7 (dk_at dksX7_copyIn_7 6 rfl rfl)
theorem dX7_copyIn_172 : decode cX7_copyIn 172 = .ok (.dup2, 1) := dk_92 (dk_at dksX7_copyIn_7 7 rfl rfl)
theorem dX7_copyIn_173 : decode cX7_copyIn 173 = .ok (.iaload, 1) := dk_46 (dk_at dksX7_copyIn_7 8 rfl rfl)
theorem dX7_copyIn_174 : decode cX7_copyIn 174 = .ok (.iload 5, 2) := dk_21 5 (dk_at dksX7_copyIn_7 9 rfl rfl)
theorem dX7_copyIn_176 : decode cX7_copyIn 176 = .ok (.iadd, 1) := dk_96 (dk_at dksX7_copyIn_7 11 rfl rfl)
theorem dX7_copyIn_177 : decode cX7_copyIn 177 = .ok (.iastore, 1) := dk_79 (dk_at dksX7_copyIn_7 12 rfl rfl)
theorem dX7_copyIn_178 : decode cX7_copyIn 178 = .ok (.aload_n 0, 1) := dk_42 (dk_at dksX7_copyIn_7 13 rfl rfl)
theorem dX7_copyIn_179 : decode cX7_copyIn 179 = .ok (.iload 5, 2) := dk_21 5 (dk_at dksX7_copyIn_7 14 rfl rfl)
theorem dX7_copyIn_181 : decode cX7_copyIn 181 = .ok (.invokevirtual 76, 3) := dk_182 0 76 (dk_at dksX7_copyIn_7 16 rfl rfl)
theorem dX7_copyIn_184 : decode cX7_copyIn 184 = .ok (.ireturn, 1) := dk_172 (dk_at dksX7_copyIn_7 19 rfl rfl)
def dkwX7_isFrom_0 : List UInt8 := [30, 32, 148, 155, 0, 14, 30, 22, 4, 148, 157, 0, 7, 4, 167, 0, 4, 3, 172]
abbrev dktX7_isFrom_0 : List UInt8 := dkwX7_isFrom_0 ++ []
theorem dksX7_isFrom_0 : cX7_isFrom.data.toList.drop 0 = dktX7_isFrom_0 := by decide +kernel
theorem dX7_isFrom_0 : decode cX7_isFrom 0 = .ok (.lload_n 0, 1) := dk_30 (dk_at dksX7_isFrom_0 0 rfl rfl)
theorem dX7_isFrom_1 : decode cX7_isFrom 1 = .ok (.lload_n 2, 1) := dk_32 (dk_at dksX7_isFrom_0 1 rfl rfl)
theorem dX7_isFrom_2 : decode cX7_isFrom 2 = .ok (.lcmp, 1) := dk_148 (dk_at dksX7_isFrom_0 2 rfl rfl)
theorem dX7_isFrom_3 : decode cX7_isFrom 3 = .ok (.ifCond .lt 14, 3) := dk_155 0 14 (dk_at dksX7_isFrom_0 3 rfl rfl)
theorem dX7_isFrom_6 : decode cX7_isFrom 6 = .ok (.lload_n 0, 1) := dk_30 (dk_at dksX7_isFrom_0 6 rfl rfl)
theorem dX7_isFrom_7 : decode cX7_isFrom 7 = .ok (.lload 4, 2) := dk_22 4 (dk_at dksX7_isFrom_0 7 rfl rfl)
theorem dX7_isFrom_9 : decode cX7_isFrom 9 = .ok (.lcmp, 1) := dk_148 (dk_at dksX7_isFrom_0 9 rfl rfl)
theorem dX7_isFrom_10 : decode cX7_isFrom 10 = .ok (.ifCond .gt 7, 3) := dk_157 0 7 (dk_at dksX7_isFrom_0 10 rfl rfl)
theorem dX7_isFrom_13 : decode cX7_isFrom 13 = .ok (.iconst 1, 1) := dk_4 (dk_at dksX7_isFrom_0 13 rfl rfl)
theorem dX7_isFrom_14 : decode cX7_isFrom 14 = .ok (.goto 4, 3) := dk_167 0 4 (dk_at dksX7_isFrom_0 14 rfl rfl)
theorem dX7_isFrom_17 : decode cX7_isFrom 17 = .ok (.iconst 0, 1) := dk_3 (dk_at dksX7_isFrom_0 17 rfl rfl)
theorem dX7_isFrom_18 : decode cX7_isFrom 18 = .ok (.ireturn, 1) := dk_172 (dk_at dksX7_isFrom_0 18 rfl rfl)
def dkwX7_days_2 : List UInt8 := [182, 1, 56, 132, 2, 1, 167, 255, 244, 42, 42, 180, 0, 7, 6, 46, 182, 0, 76, 172]
abbrev dktX7_days_2 : List UInt8 := dkwX7_days_2 ++ []
def dkwX7_days_1 : List UInt8 := [27, 96, 17, 39, 15, 164, 0, 9, 42, 7, 182, 0, 72, 172, 3, 61, 28, 27, 162, 0, 13, 42]
abbrev dktX7_days_1 : List UInt8 := dkwX7_days_1 ++ dktX7_days_2
def dkwX7_days_0 : List UInt8 := [27, 133, 10, 20, 1, 54, 184, 1, 50, 154, 0, 9, 42, 4, 182, 0, 72, 172, 42, 180, 0, 7, 6, 46]
abbrev dktX7_days_0 : List UInt8 := dkwX7_days_0 ++ dktX7_days_1
theorem dksX7_days_0 : cX7_days.data.toList.drop 0 = dktX7_days_0 := by decide +kernel
theorem dksX7_days_1 : cX7_days.data.toList.drop 24 = dktX7_days_1 := dk_seg dksX7_days_0 24 rfl rfl
theorem dksX7_days_2 : cX7_days.data.toList.drop 46 = dktX7_days_2 := dk_seg dksX7_days_1 22 rfl rfl
theorem dX7_days_0 : decode cX7_days 0 = .ok (.iload_n 1, 1) := dk_27 (dk_at dksX7_days_0 0 rfl rfl)
theorem dX7_days_1 : decode cX7_days 1 = .ok (.i2l, 1) := dk_133 (dk_at dksX7_days_0 1 rfl rfl)
theorem dX7_days_2 : decode cX7_days 2 = .ok (.lconst 1, 1) := dk_10 (dk_at dksX7_days_0 2 rfl rfl)
theorem dX7_days_3 : decode cX7_days 3 = .ok (.ldc2_w 310, 3) := dk_20 1 54 (dk_at dksX7_days_0 3 rfl rfl)
theorem dX7_days_6 : decode cX7_days 6 = .ok (.invokestatic 306, 3) := dk_184 1 50 (dk_at dksX7_days_0 6 rfl rfl)
theorem dX7_days_9 : decode cX7_days 9 = .ok (.ifCond .ne 9, 3) := dk_154 0 9 (dk_at dksX7_days_0 9 rfl rfl)
theorem dX7_days_12 : decode cX7_days 12 = .ok (.aload_n 0, 1) := dk_42 (dk_at dksX7_days_0 12 rfl rfl)
theorem dX7_days_13 : decode cX7_days 13 = .ok (.iconst 1, 1) := dk_4 (dk_at dksX7_days_0 13 rfl rfl)
theorem dX7_days_14 : decode cX7_days 14 = .ok (.invokevirtual 72, 3) := dk_182 0 72 (dk_at dksX7_days_0 14 rfl rfl)
theorem dX7_days_17 : decode cX7_days 17 = .ok (.ireturn, 1) := dk_172 (dk_at dksX7_days_0 17 rfl rfl)
theorem dX7_days_18 : decode cX7_days 18 = .ok (.aload_n 0, 1) := dk_42 (dk_at dksX7_days_0 18 rfl rfl)
theorem dX7_days_19 : decode cX7_days 19 = .ok (.getfield 7, 3) := dk_180 0 7 (dk_at dksX7_days_0 19 rfl rfl)
theorem dX7_days_22 : decode cX7_days 22 = .ok (.iconst 3, 1) := dk_6 (dk_at dksX7_days_0 22 rfl rfl)
theorem dX7_days_23 : decode cX7_days 23 = .ok (.iaload, 1) := dk_46 (dk_at dksX7_days_0 23 rfl rfl)
theorem dX7_days_24 : decode cX7_days 24 = .ok (.iload_n 1, 1) := dk_27 (dk_at dksX7_days_1 0 rfl rfl)
theorem dX7_days_25 : decode cX7_days 25 = .ok (.iadd, 1) := dk_96 (dk_at dksX7_days_1 1 rfl rfl)
theorem dX7_days_26 : decode cX7_days 26 = .ok (.sipush 9999, 3) := dk_17 39 15 (dk_at dksX7_days_1 2 rfl rfl)
theorem dX7_days_29 : decode cX7_days 29 = .ok (.if_icmp .le 9, 3) := dk_164 0 9 (dk_at dksX7_days_1 5 rfl rfl)
theorem dX7_days_32 : decode cX7_days 32 = .ok (.aload_n 0, 1) := dk_42 (dk_at dksX7_days_1 8 rfl rfl)
theorem dX7_days_33 : decode cX7_days 33 = .ok (.iconst 4, 1) := dk_7 (dk_at dksX7_days_1 9 rfl rfl)
theorem dX7_days_34 : decode cX7_days 34 = .ok (.invokevirtual 72, 3) := dk_182 0 72 (dk_at dksX7_days_1 10 rfl rfl)
theorem dX7_days_37 : decode cX7_days 37 = .ok (.ireturn, 1) := dk_172 (dk_at dksX7_days_1 13 rfl rfl)
theorem dX7_days_38 : decode cX7_days 38 = .ok (.iconst 0, 1) := dk_3 (dk_at dksX7_days_1 14 rfl rfl)
theorem dX7_days_39 : decode cX7_days 39 = .ok (.istore_n 2, 1) := dk_61 (dk_at dksX7_days_1 15 rfl rfl)
theorem dX7_days_40 : decode cX7_days 40 = .ok (.iload_n 2, 1) := dk_28 (dk_at dksX7_days_1 16 rfl rfl)
theorem dX7_days_41 : decode cX7_days 41 = .ok (.iload_n 1, 1) := dk_27 (dk_at dksX7_days_1 17 rfl rfl)
theorem dX7_days_42 : decode cX7_days 42 = .ok (.if_icmp .ge 13, 3) := dk_162 0 13 (dk_at dksX7_days_1 18 rfl rfl)
theorem dX7_days_45 : decode cX7_days 45 = .ok (.aload_n 0, 1) := dk_42 (dk_at dksX7_days_1 21 rfl rfl)
theorem dX7_days_46 : decode cX7_days 46 = .ok (.invokevirtual 312, 3) := dk_182 1 56 (dk_at dksX7_days_2 0 rfl rfl)
theorem dX7_days_49 : decode cX7_days 49 = .ok (.iinc 2 1, 3) := dk_132 2 1 (dk_at dksX7_days_2 3 rfl rfl)
theorem dX7_days_52 : decode cX7_days 52 = .ok (.goto (-12), 3) := dk_167 255 244 (dk_at dksX7_days_2 6 rfl rfl)
theorem dX7_days_55 : decode cX7_days 55 = .ok (.aload_n 0, 1) := dk_42 (dk_at dksX7_days_2 9 rfl rfl)
theorem dX7_days_56 : decode cX7_days 56 = .ok (.aload_n 0, 1) := dk_42 (dk_at dksX7_days_2 10 rfl rfl)
theorem dX7_days_57 : decode cX7_days 57 = .ok (.getfield 7, 3) := dk_180 0 7 (dk_at dksX7_days_2 11 rfl rfl)
theorem dX7_days_60 : decode cX7_days 60 = .ok (.iconst 3, 1) := dk_6 (dk_at dksX7_days_2 14 rfl rfl)
theorem dX7_days_61 : decode cX7_days 61 = .ok (.iaload, 1) := dk_46 (dk_at dksX7_days_2 15 rfl rfl)
theorem dX7_days_62 : decode cX7_days 62 = .ok (.invokevirtual 76, 3) := dk_182 0 76 (dk_at dksX7_days_2 16 rfl rfl)
theorem dX7_days_65 : decode cX7_days 65 = .ok (.ireturn, 1) := dk_172 (dk_at dksX7_days_2 19 rfl rfl)
def dkwX7_passes_3 : List UInt8 := [167, 255, 188, 42, 180, 0, 7, 6, 92, 46, 4, 96, 79, 177]
abbrev dktX7_passes_3 : List UInt8 := dkwX7_passes_3 ++ []
def dkwX7_passes_2 : List UInt8 := [46, 42, 180, 0, 253, 96, 79, 42, 180, 0, 7, 16, 8, 92, 46, 42, 180, 1, 8, 96, 79, 132, 1, 1]
abbrev dktX7_passes_2 : List UInt8 := dkwX7_passes_2 ++ dktX7_passes_3
def dkwX7_passes_1 : List UInt8 := [182, 1, 14, 42, 180, 0, 7, 16, 6, 92, 46, 42, 180, 1, 0, 96, 79, 42, 180, 0, 7, 16, 9, 92]
abbrev dktX7_passes_1 : List UInt8 := dkwX7_passes_1 ++ dktX7_passes_2
def dkwX7_passes_0 : List UInt8 := [3, 60, 27, 42, 180, 0, 7, 3, 46, 162, 0, 64, 42, 27, 184, 0, 217, 42, 27, 182, 1, 11]
abbrev dktX7_passes_0 : List UInt8 := dkwX7_passes_0 ++ dktX7_passes_1
theorem dksX7_passes_0 : cX7_passes.data.toList.drop 0 = dktX7_passes_0 := by decide +kernel
theorem dksX7_passes_1 : cX7_passes.data.toList.drop 22 = dktX7_passes_1 := dk_seg dksX7_passes_0 22 rfl rfl
theorem dksX7_passes_2 : cX7_passes.data.toList.drop 46 = dktX7_passes_2 := dk_seg dksX7_passes_1 24 rfl rfl
theorem dksX7_passes_3 : cX7_passes.data.toList.drop 70 = dktX7_passes_3 := dk_seg dksX7_passes_2 24 rfl rfl
theorem dX7_passes_0 : decode cX7_passes 0 = .ok (.iconst 0, 1) := dk_3 (dk_at dksX7_passes_0 0 rfl rfl)
theorem dX7_passes_1 : decode cX7_passes 1 = .ok (.istore_n 1, 1) := dk_60 (dk_at dksX7_passes_0 1 rfl rfl)
theorem dX7_passes_2 : decode cX7_passes 2 = .ok (.iload_n 1, 1) := dk_27 (dk_at dksX7_passes_0 2 rfl rfl)
theorem dX7_passes_3 : decode cX7_passes 3 = .ok (.aload_n 0, 1) := dk_42 (dk_at dksX7_passes_0 3 rfl rfl)
theorem dX7_passes_4 : decode cX7_passes 4 = .ok (.getfield 7, 3) := dk_180 0 7 (dk_at dksX7_passes_0 4 rfl rfl)
theorem dX7_passes_7 : decode cX7_passes 7 = .ok (.iconst 0, 1) := dk_3 (dk_at dksX7_passes_0 7 rfl rfl)
theorem dX7_passes_8 : decode cX7_passes 8 = .ok (.iaload, 1) := dk_46 (dk_at dksX7_passes_0 8 rfl rfl)
theorem dX7_passes_9 : decode cX7_passes 9 = .ok (.if_icmp .ge 64, 3) := dk_162 0 64 (dk_at dksX7_passes_0 9 rfl rfl)
theorem dX7_passes_12 : decode cX7_passes 12 = .ok (.aload_n 0, 1) := dk_42 (dk_at dksX7_passes_0 12 rfl rfl)
theorem dX7_passes_13 : decode cX7_passes 13 = .ok (.iload_n 1, 1) := dk_27 (dk_at dksX7_passes_0 13 rfl rfl)
theorem dX7_passes_14 : decode cX7_passes 14 = .ok (.invokestatic 217, 3) := dk_184 0 217 (dk_at dksX7_passes_0 14 rfl rfl)
theorem dX7_passes_17 : decode cX7_passes 17 = .ok (.aload_n 0, 1) := dk_42 (dk_at dksX7_passes_0 17 rfl rfl)
theorem dX7_passes_18 : decode cX7_passes 18 = .ok (.iload_n 1, 1) := dk_27 (dk_at dksX7_passes_0 18 rfl rfl)
theorem dX7_passes_19 : decode cX7_passes 19 = .ok (.invokevirtual 267, 3) := dk_182 1 11 (dk_at dksX7_passes_0 19 rfl rfl)
theorem dX7_passes_22 : decode cX7_passes 22 = .ok (.invokevirtual 270, 3) := dk_182 1 14 (dk_at dksX7_passes_1 0 rfl rfl)
theorem dX7_passes_25 : decode cX7_passes 25 = .ok (.aload_n 0, 1) := dk_42 (dk_at dksX7_passes_1 3 rfl rfl)
theorem dX7_passes_26 : decode cX7_passes 26 = .ok (.getfield 7, 3) := dk_180 0 7 (dk_at dksX7_passes_1 4 rfl rfl)
theorem dX7_passes_29 : decode cX7_passes 29 = .ok (.bipush 6, 2) := dk_16 6 (dk_at dksX7_passes_1 7 rfl rfl)
theorem dX7_passes_31 : decode cX7_passes 31 = .ok (.dup2, 1) := dk_92 (dk_at dksX7_passes_1 9 rfl rfl)
theorem dX7_passes_32 : decode cX7_passes 32 = .ok (.iaload, 1) := dk_46 (dk_at dksX7_passes_1 10 rfl rfl)
theorem dX7_passes_33 : decode cX7_passes 33 = .ok (.aload_n 0, 1) := dk_42 (dk_at dksX7_passes_1 11 rfl rfl)
theorem dX7_passes_34 : decode cX7_passes 34 = .ok (.getfield 256, 3) := dk_180 1 0 (dk_at dksX7_passes_1 12 rfl rfl)
theorem dX7_passes_37 : decode cX7_passes 37 = .ok (.iadd, 1) := dk_96 (dk_at dksX7_passes_1 15 rfl rfl)
theorem dX7_passes_38 : decode cX7_passes 38 = .ok (.iastore, 1) := dk_79 (dk_at dksX7_passes_1 16 rfl rfl)
theorem dX7_passes_39 : decode cX7_passes 39 = .ok (.aload_n 0, 1) := dk_42 (dk_at dksX7_passes_1 17 rfl rfl)
theorem dX7_passes_40 : decode cX7_passes 40 = .ok (.getfield 7, 3) := dk_180 0 7 (dk_at dksX7_passes_1 18 rfl rfl)
theorem dX7_passes_43 : decode cX7_passes 43 = .ok (.bipush 9, 2) := dk_16 9 (dk_at dksX7_passes_1 21 rfl rfl)
theorem dX7_passes_45 : decode cX7_passes 45 = .ok (.dup2, 1) := dk_92 (dk_at dksX7_passes_1 23 rfl rfl)
theorem dX7_passes_46 : decode cX7_passes 46 = .ok (.iaload, 1) := dk_46 (dk_at dksX7_passes_2 0 rfl rfl)
theorem dX7_passes_47 : decode cX7_passes 47 = .ok (.aload_n 0, 1) := dk_42 (dk_at dksX7_passes_2 1 rfl rfl)
theorem dX7_passes_48 : decode cX7_passes 48 = .ok (.getfield 253, 3) := dk_180 0 253 (dk_at dksX7_passes_2 2 rfl rfl)
theorem dX7_passes_51 : decode cX7_passes 51 = .ok (.iadd, 1) := dk_96 (dk_at dksX7_passes_2 5 rfl rfl)
theorem dX7_passes_52 : decode cX7_passes 52 = .ok (.iastore, 1) := dk_79 (dk_at dksX7_passes_2 6 rfl rfl)
theorem dX7_passes_53 : decode cX7_passes 53 = .ok (.aload_n 0, 1) := dk_42 (dk_at dksX7_passes_2 7 rfl rfl)
theorem dX7_passes_54 : decode cX7_passes 54 = .ok (.getfield 7, 3) := dk_180 0 7 (dk_at dksX7_passes_2 8 rfl rfl)
theorem dX7_passes_57 : decode cX7_passes 57 = .ok (.bipush 8, 2) := dk_16 8 (dk_at dksX7_passes_2 11 rfl rfl)
theorem dX7_passes_59 : decode cX7_passes 59 = .ok (.dup2, 1) := dk_92 (dk_at dksX7_passes_2 13 rfl rfl)
theorem dX7_passes_60 : decode cX7_passes 60 = .ok (.iaload, 1) := dk_46 (dk_at dksX7_passes_2 14 rfl rfl)
theorem dX7_passes_61 : decode cX7_passes 61 = .ok (.aload_n 0, 1) := dk_42 (dk_at dksX7_passes_2 15 rfl rfl)
theorem dX7_passes_62 : decode cX7_passes 62 = .ok (.getfield 264, 3) := dk_180 1 8 (dk_at dksX7_passes_2 16 rfl rfl)
theorem dX7_passes_65 : decode cX7_passes 65 = .ok (.iadd, 1) := dk_96 (dk_at dksX7_passes_2 19 rfl rfl)
theorem dX7_passes_66 : decode cX7_passes 66 = .ok (.iastore, 1) := dk_79 (dk_at dksX7_passes_2 20 rfl rfl)
theorem dX7_passes_67 : decode cX7_passes 67 = .ok (.iinc 1 1, 3) := dk_132 1 1 (dk_at dksX7_passes_2 21 rfl rfl)
theorem dX7_passes_70 : decode cX7_passes 70 = .ok (.goto (-68), 3) := dk_167 255 188 (dk_at dksX7_passes_3 0 rfl rfl)
theorem dX7_passes_73 : decode cX7_passes 73 = .ok (.aload_n 0, 1) := dk_42 (dk_at dksX7_passes_3 3 rfl rfl)
theorem dX7_passes_74 : decode cX7_passes 74 = .ok (.getfield 7, 3) := dk_180 0 7 (dk_at dksX7_passes_3 4 rfl rfl)
theorem dX7_passes_77 : decode cX7_passes 77 = .ok (.iconst 3, 1) := dk_6 (dk_at dksX7_passes_3 7 rfl rfl)
theorem dX7_passes_78 : decode cX7_passes 78 = .ok (.dup2, 1) := dk_92 (dk_at dksX7_passes_3 8 rfl rfl)
theorem dX7_passes_79 : decode cX7_passes 79 = .ok (.iaload, 1) := dk_46 (dk_at dksX7_passes_3 9 rfl rfl)
theorem dX7_passes_80 : decode cX7_passes 80 = .ok (.iconst 1, 1) := dk_4 (dk_at dksX7_passes_3 10 rfl rfl)
theorem dX7_passes_81 : decode cX7_passes 81 = .ok (.iadd, 1) := dk_96 (dk_at dksX7_passes_3 11 rfl rfl)
theorem dX7_passes_82 : decode cX7_passes 82 = .ok (.iastore, 1) := dk_79 (dk_at dksX7_passes_3 12 rfl rfl)
theorem dX7_passes_83 : decode cX7_passes 83 = .ok (.return_, 1) := dk_177 (dk_at dksX7_passes_3 13 rfl rfl)
def dkwX7_laysIn_1 : List UInt8 := [180, 0, 7, 16, 14, 7, 28, 104, 96, 46, 172]
abbrev dktX7_laysIn_1 : List UInt8 := dkwX7_laysIn_1 ++ []
def dkwX7_laysIn_0 : List UInt8 := [42, 180, 0, 7, 27, 184, 0, 217, 6, 96, 46, 61, 28, 2, 160, 0, 7, 3, 167, 0, 14, 42]
abbrev dktX7_laysIn_0 : List UInt8 := dkwX7_laysIn_0 ++ dktX7_laysIn_1
theorem dksX7_laysIn_0 : cX7_laysIn.data.toList.drop 0 = dktX7_laysIn_0 := by decide +kernel
theorem dksX7_laysIn_1 : cX7_laysIn.data.toList.drop 22 = dktX7_laysIn_1 := dk_seg dksX7_laysIn_0 22 rfl rfl
theorem dX7_laysIn_0 : decode cX7_laysIn 0 = .ok (.aload_n 0, 1) := dk_42 (dk_at dksX7_laysIn_0 0 rfl rfl)
theorem dX7_laysIn_1 : decode cX7_laysIn 1 = .ok (.getfield 7, 3) := dk_180 0 7 (dk_at dksX7_laysIn_0 1 rfl rfl)
theorem dX7_laysIn_4 : decode cX7_laysIn 4 = .ok (.iload_n 1, 1) := dk_27 (dk_at dksX7_laysIn_0 4 rfl rfl)
theorem dX7_laysIn_5 : decode cX7_laysIn 5 = .ok (.invokestatic 217, 3) := dk_184 0 217 (dk_at dksX7_laysIn_0 5 rfl rfl)
theorem dX7_laysIn_8 : decode cX7_laysIn 8 = .ok (.iconst 3, 1) := dk_6 (dk_at dksX7_laysIn_0 8 rfl rfl)
theorem dX7_laysIn_9 : decode cX7_laysIn 9 = .ok (.iadd, 1) := dk_96 (dk_at dksX7_laysIn_0 9 rfl rfl)
theorem dX7_laysIn_10 : decode cX7_laysIn 10 = .ok (.iaload, 1) := dk_46 (dk_at dksX7_laysIn_0 10 rfl rfl)
theorem dX7_laysIn_11 : decode cX7_laysIn 11 = .ok (.istore_n 2, 1) := dk_61 (dk_at dksX7_laysIn_0 11 rfl rfl)
theorem dX7_laysIn_12 : decode cX7_laysIn 12 = .ok (.iload_n 2, 1) := dk_28 (dk_at dksX7_laysIn_0 12 rfl rfl)
theorem dX7_laysIn_13 : decode cX7_laysIn 13 = .ok (.iconst (-1), 1) := dk_2 (dk_at dksX7_laysIn_0 13 rfl rfl)
theorem dX7_laysIn_14 : decode cX7_laysIn 14 = .ok (.if_icmp .ne 7, 3) := dk_160 0 7 (dk_at dksX7_laysIn_0 14 rfl rfl)
theorem dX7_laysIn_17 : decode cX7_laysIn 17 = .ok (.iconst 0, 1) := dk_3 (dk_at dksX7_laysIn_0 17 rfl rfl)
theorem dX7_laysIn_18 : decode cX7_laysIn 18 = .ok (.goto 14, 3) := dk_167 0 14 (dk_at dksX7_laysIn_0 18 rfl rfl)
theorem dX7_laysIn_21 : decode cX7_laysIn 21 = .ok (.aload_n 0, 1) := dk_42 (dk_at dksX7_laysIn_0 21 rfl rfl)
theorem dX7_laysIn_22 : decode cX7_laysIn 22 = .ok (.getfield 7, 3) := dk_180 0 7 (dk_at dksX7_laysIn_1 0 rfl rfl)
theorem dX7_laysIn_25 : decode cX7_laysIn 25 = .ok (.bipush 14, 2) := dk_16 14 (dk_at dksX7_laysIn_1 3 rfl rfl)
theorem dX7_laysIn_27 : decode cX7_laysIn 27 = .ok (.iconst 4, 1) := dk_7 (dk_at dksX7_laysIn_1 5 rfl rfl)
theorem dX7_laysIn_28 : decode cX7_laysIn 28 = .ok (.iload_n 2, 1) := dk_28 (dk_at dksX7_laysIn_1 6 rfl rfl)
theorem dX7_laysIn_29 : decode cX7_laysIn 29 = .ok (.imul, 1) := dk_104 (dk_at dksX7_laysIn_1 7 rfl rfl)
theorem dX7_laysIn_30 : decode cX7_laysIn 30 = .ok (.iadd, 1) := dk_96 (dk_at dksX7_laysIn_1 8 rfl rfl)
theorem dX7_laysIn_31 : decode cX7_laysIn 31 = .ok (.iaload, 1) := dk_46 (dk_at dksX7_laysIn_1 9 rfl rfl)
theorem dX7_laysIn_32 : decode cX7_laysIn 32 = .ok (.ireturn, 1) := dk_172 (dk_at dksX7_laysIn_1 10 rfl rfl)
def dkwX7_dayOf_15 : List UInt8 := [133, 184, 1, 5, 136, 181, 1, 8, 42, 180, 0, 7, 27, 4, 96, 92, 46, 42, 180, 1, 8, 100, 79, 177]
abbrev dktX7_dayOf_15 : List UInt8 := dkwX7_dayOf_15 ++ []
def dkwX7_dayOf_14 : List UInt8 := [167, 255, 162, 42, 21, 5, 42, 180, 1, 0, 100, 133, 20, 1, 3, 105, 42, 180, 0, 7, 27, 4, 96, 46]
abbrev dktX7_dayOf_14 : List UInt8 := dkwX7_dayOf_14 ++ dktX7_dayOf_15
def dkwX7_dayOf_13 : List UInt8 := [21, 7, 92, 46, 21, 8, 100, 79, 42, 89, 180, 1, 0, 21, 8, 96, 181, 1, 0, 132, 6, 1]
abbrev dktX7_dayOf_13 : List UInt8 := dkwX7_dayOf_13 ++ dktX7_dayOf_14
def dkwX7_dayOf_12 : List UInt8 := [21, 5, 42, 180, 1, 0, 100, 42, 180, 0, 7, 21, 7, 46, 184, 0, 127, 54, 8, 42, 180, 0, 7]
abbrev dktX7_dayOf_12 : List UInt8 := dkwX7_dayOf_12 ++ dktX7_dayOf_13
def dkwX7_dayOf_11 : List UInt8 := [180, 0, 7, 21, 7, 46, 153, 0, 60, 42, 180, 0, 7, 21, 7, 46, 16, 100, 164, 0, 6, 167, 0, 45]
abbrev dktX7_dayOf_11 : List UInt8 := dkwX7_dayOf_11 ++ dktX7_dayOf_12
def dkwX7_dayOf_10 : List UInt8 := [162, 0, 94, 42, 180, 1, 0, 21, 5, 162, 0, 85, 42, 27, 21, 6, 182, 0, 250, 54, 7, 42]
abbrev dktX7_dayOf_10 : List UInt8 := dkwX7_dayOf_10 ++ dktX7_dayOf_11
def dkwX7_dayOf_9 : List UInt8 := [180, 0, 7, 27, 5, 96, 92, 46, 16, 10, 112, 79, 42, 3, 181, 1, 0, 3, 54, 6, 21, 6, 29]
abbrev dktX7_dayOf_9 : List UInt8 := dkwX7_dayOf_9 ++ dktX7_dayOf_10
def dkwX7_dayOf_8 : List UInt8 := [180, 0, 7, 27, 4, 96, 46, 96, 79, 42, 180, 0, 7, 27, 5, 96, 46, 16, 10, 108, 54, 5, 42]
abbrev dktX7_dayOf_8 : List UInt8 := dkwX7_dayOf_8 ++ dktX7_dayOf_9
def dkwX7_dayOf_7 : List UInt8 := [21, 6, 16, 101, 79, 132, 4, 255, 132, 5, 1, 167, 255, 208, 42, 180, 0, 7, 27, 5, 96, 92, 46, 42]
abbrev dktX7_dayOf_7 : List UInt8 := dkwX7_dayOf_7 ++ dktX7_dayOf_8
def dkwX7_dayOf_6 : List UInt8 := [21, 5, 182, 0, 250, 54, 6, 42, 180, 0, 7, 21, 6, 46, 153, 0, 6, 167, 0, 15, 42, 180, 0, 7]
abbrev dktX7_dayOf_6 : List UInt8 := dkwX7_dayOf_6 ++ dktX7_dayOf_7
def dkwX7_dayOf_5 : List UInt8 := [46, 182, 0, 247, 28, 54, 4, 3, 54, 5, 21, 5, 29, 162, 0, 48, 21, 4, 158, 0, 43, 42, 27]
abbrev dktX7_dayOf_5 : List UInt8 := dkwX7_dayOf_5 ++ dktX7_dayOf_6
def dkwX7_dayOf_4 : List UInt8 := [167, 255, 183, 42, 180, 0, 7, 27, 4, 96, 92, 46, 42, 180, 0, 253, 96, 79, 42, 42, 180, 0, 7, 27]
abbrev dktX7_dayOf_4 : List UInt8 := dkwX7_dayOf_4 ++ dktX7_dayOf_5
def dkwX7_dayOf_3 : List UInt8 := [167, 0, 21, 42, 180, 0, 7, 21, 4, 3, 79, 42, 89, 180, 0, 253, 4, 96, 181, 0, 253, 132, 4, 1]
abbrev dktX7_dayOf_3 : List UInt8 := dkwX7_dayOf_3 ++ dktX7_dayOf_4
def dkwX7_dayOf_2 : List UInt8 := [180, 0, 7, 21, 4, 92, 46, 4, 96, 79, 42, 180, 0, 7, 21, 4, 46, 16, 121, 163, 0, 6]
abbrev dktX7_dayOf_2 : List UInt8 := dkwX7_dayOf_2 ++ dktX7_dayOf_3
def dkwX7_dayOf_1 : List UInt8 := [16, 6, 96, 29, 96, 162, 0, 68, 42, 180, 0, 7, 21, 4, 46, 16, 101, 162, 0, 6, 167, 0, 47, 42]
abbrev dktX7_dayOf_1 : List UInt8 := dkwX7_dayOf_1 ++ dktX7_dayOf_2
def dkwX7_dayOf_0 : List UInt8 := [16, 16, 42, 180, 0, 7, 27, 46, 104, 62, 42, 3, 181, 0, 253, 27, 16, 6, 96, 54, 4, 21, 4, 27]
abbrev dktX7_dayOf_0 : List UInt8 := dkwX7_dayOf_0 ++ dktX7_dayOf_1
theorem dksX7_dayOf_0 : cX7_dayOf.data.toList.drop 0 = dktX7_dayOf_0 := by decide +kernel
theorem dksX7_dayOf_1 : cX7_dayOf.data.toList.drop 24 = dktX7_dayOf_1 := dk_seg dksX7_dayOf_0 24 rfl rfl
theorem dksX7_dayOf_2 : cX7_dayOf.data.toList.drop 48 = dktX7_dayOf_2 := dk_seg dksX7_dayOf_1 24 rfl rfl
theorem dksX7_dayOf_3 : cX7_dayOf.data.toList.drop 70 = dktX7_dayOf_3 := dk_seg dksX7_dayOf_2 22 rfl rfl
theorem dksX7_dayOf_4 : cX7_dayOf.data.toList.drop 94 = dktX7_dayOf_4 := dk_seg dksX7_dayOf_3 24 rfl rfl
theorem dksX7_dayOf_5 : cX7_dayOf.data.toList.drop 118 = dktX7_dayOf_5 := dk_seg dksX7_dayOf_4 24 rfl rfl
theorem dksX7_dayOf_6 : cX7_dayOf.data.toList.drop 141 = dktX7_dayOf_6 := dk_seg dksX7_dayOf_5 23 rfl rfl
theorem dksX7_dayOf_7 : cX7_dayOf.data.toList.drop 165 = dktX7_dayOf_7 := dk_seg dksX7_dayOf_6 24 rfl rfl
theorem dksX7_dayOf_8 : cX7_dayOf.data.toList.drop 189 = dktX7_dayOf_8 := dk_seg dksX7_dayOf_7 24 rfl rfl
theorem dksX7_dayOf_9 : cX7_dayOf.data.toList.drop 212 = dktX7_dayOf_9 := dk_seg dksX7_dayOf_8 23 rfl rfl
theorem dksX7_dayOf_10 : cX7_dayOf.data.toList.drop 235 = dktX7_dayOf_10 := dk_seg dksX7_dayOf_9 23 rfl rfl
theorem dksX7_dayOf_11 : cX7_dayOf.data.toList.drop 257 = dktX7_dayOf_11 := dk_seg dksX7_dayOf_10 22 rfl rfl
theorem dksX7_dayOf_12 : cX7_dayOf.data.toList.drop 281 = dktX7_dayOf_12 := dk_seg dksX7_dayOf_11 24 rfl rfl
theorem dksX7_dayOf_13 : cX7_dayOf.data.toList.drop 304 = dktX7_dayOf_13 := dk_seg dksX7_dayOf_12 23 rfl rfl
theorem dksX7_dayOf_14 : cX7_dayOf.data.toList.drop 326 = dktX7_dayOf_14 := dk_seg dksX7_dayOf_13 22 rfl rfl
theorem dksX7_dayOf_15 : cX7_dayOf.data.toList.drop 350 = dktX7_dayOf_15 := dk_seg dksX7_dayOf_14 24 rfl rfl
theorem dX7_dayOf_0 : decode cX7_dayOf 0 = .ok (.bipush 16, 2) := dk_16 16 (dk_at dksX7_dayOf_0 0 rfl rfl)
theorem dX7_dayOf_2 : decode cX7_dayOf 2 = .ok (.aload_n 0, 1) := dk_42 (dk_at dksX7_dayOf_0 2 rfl rfl)
theorem dX7_dayOf_3 : decode cX7_dayOf 3 = .ok (.getfield 7, 3) := dk_180 0 7 (dk_at dksX7_dayOf_0 3 rfl rfl)
theorem dX7_dayOf_6 : decode cX7_dayOf 6 = .ok (.iload_n 1, 1) := dk_27 (dk_at dksX7_dayOf_0 6 rfl rfl)
theorem dX7_dayOf_7 : decode cX7_dayOf 7 = .ok (.iaload, 1) := dk_46 (dk_at dksX7_dayOf_0 7 rfl rfl)
theorem dX7_dayOf_8 : decode cX7_dayOf 8 = .ok (.imul, 1) := dk_104 (dk_at dksX7_dayOf_0 8 rfl rfl)
theorem dX7_dayOf_9 : decode cX7_dayOf 9 = .ok (.istore_n 3, 1) := dk_62 (dk_at dksX7_dayOf_0 9 rfl rfl)
theorem dX7_dayOf_10 : decode cX7_dayOf 10 = .ok (.aload_n 0, 1) := dk_42 (dk_at dksX7_dayOf_0 10 rfl rfl)
theorem dX7_dayOf_11 : decode cX7_dayOf 11 = .ok (.iconst 0, 1) := dk_3 (dk_at dksX7_dayOf_0 11 rfl rfl)
theorem dX7_dayOf_12 : decode cX7_dayOf 12 = .ok (.putfield 253, 3) := dk_181 0 253 (dk_at dksX7_dayOf_0 12 rfl rfl)
theorem dX7_dayOf_15 : decode cX7_dayOf 15 = .ok (.iload_n 1, 1) := dk_27 (dk_at dksX7_dayOf_0 15 rfl rfl)
theorem dX7_dayOf_16 : decode cX7_dayOf 16 = .ok (.bipush 6, 2) := dk_16 6 (dk_at dksX7_dayOf_0 16 rfl rfl)
theorem dX7_dayOf_18 : decode cX7_dayOf 18 = .ok (.iadd, 1) := dk_96 (dk_at dksX7_dayOf_0 18 rfl rfl)
theorem dX7_dayOf_19 : decode cX7_dayOf 19 = .ok (.istore 4, 2) := dk_54 4 (dk_at dksX7_dayOf_0 19 rfl rfl)
theorem dX7_dayOf_21 : decode cX7_dayOf 21 = .ok (.iload 4, 2) := dk_21 4 (dk_at dksX7_dayOf_0 21 rfl rfl)
theorem dX7_dayOf_23 : decode cX7_dayOf 23 = .ok (.iload_n 1, 1) := dk_27 (dk_at dksX7_dayOf_0 23 rfl rfl)
theorem dX7_dayOf_24 : decode cX7_dayOf 24 = .ok (.bipush 6, 2) := dk_16 6 (dk_at dksX7_dayOf_1 0 rfl rfl)
theorem dX7_dayOf_26 : decode cX7_dayOf 26 = .ok (.iadd, 1) := dk_96 (dk_at dksX7_dayOf_1 2 rfl rfl)
theorem dX7_dayOf_27 : decode cX7_dayOf 27 = .ok (.iload_n 3, 1) := dk_29 (dk_at dksX7_dayOf_1 3 rfl rfl)
theorem dX7_dayOf_28 : decode cX7_dayOf 28 = .ok (.iadd, 1) := dk_96 (dk_at dksX7_dayOf_1 4 rfl rfl)
theorem dX7_dayOf_29 : decode cX7_dayOf 29 = .ok (.if_icmp .ge 68, 3) := dk_162 0 68 (dk_at dksX7_dayOf_1 5 rfl rfl)
theorem dX7_dayOf_32 : decode cX7_dayOf 32 = .ok (.aload_n 0, 1) := dk_42 (dk_at dksX7_dayOf_1 8 rfl rfl)
theorem dX7_dayOf_33 : decode cX7_dayOf 33 = .ok (.getfield 7, 3) := dk_180 0 7 (dk_at dksX7_dayOf_1 9 rfl rfl)
theorem dX7_dayOf_36 : decode cX7_dayOf 36 = .ok (.iload 4, 2) := dk_21 4 (dk_at dksX7_dayOf_1 12 rfl rfl)
theorem dX7_dayOf_38 : decode cX7_dayOf 38 = .ok (.iaload, 1) := dk_46 (dk_at dksX7_dayOf_1 14 rfl rfl)
theorem dX7_dayOf_39 : decode cX7_dayOf 39 = .ok (.bipush 101, 2) := dk_16 101 (dk_at dksX7_dayOf_1 15 rfl rfl)
theorem dX7_dayOf_41 : decode cX7_dayOf 41 = .ok (.if_icmp .ge 6, 3) := dk_162 0 6 (dk_at dksX7_dayOf_1 17 rfl rfl)
theorem dX7_dayOf_44 : decode cX7_dayOf 44 = .ok (.goto 47, 3) := dk_167 0 47 (dk_at dksX7_dayOf_1 20 rfl rfl)
theorem dX7_dayOf_47 : decode cX7_dayOf 47 = .ok (.aload_n 0, 1) := dk_42 (dk_at dksX7_dayOf_1 23 rfl rfl)
theorem dX7_dayOf_48 : decode cX7_dayOf 48 = .ok (.getfield 7, 3) := dk_180 0 7 (dk_at dksX7_dayOf_2 0 rfl rfl)
theorem dX7_dayOf_51 : decode cX7_dayOf 51 = .ok (.iload 4, 2) := dk_21 4 (dk_at dksX7_dayOf_2 3 rfl rfl)
theorem dX7_dayOf_53 : decode cX7_dayOf 53 = .ok (.dup2, 1) := dk_92 (dk_at dksX7_dayOf_2 5 rfl rfl)
theorem dX7_dayOf_54 : decode cX7_dayOf 54 = .ok (.iaload, 1) := dk_46 (dk_at dksX7_dayOf_2 6 rfl rfl)
theorem dX7_dayOf_55 : decode cX7_dayOf 55 = .ok (.iconst 1, 1) := dk_4 (dk_at dksX7_dayOf_2 7 rfl rfl)
theorem dX7_dayOf_56 : decode cX7_dayOf 56 = .ok (.iadd, 1) := dk_96 (dk_at dksX7_dayOf_2 8 rfl rfl)
theorem dX7_dayOf_57 : decode cX7_dayOf 57 = .ok (.iastore, 1) := dk_79 (dk_at dksX7_dayOf_2 9 rfl rfl)
theorem dX7_dayOf_58 : decode cX7_dayOf 58 = .ok (.aload_n 0, 1) := dk_42 (dk_at dksX7_dayOf_2 10 rfl rfl)
theorem dX7_dayOf_59 : decode cX7_dayOf 59 = .ok (.getfield 7, 3) := dk_180 0 7 (dk_at dksX7_dayOf_2 11 rfl rfl)
theorem dX7_dayOf_62 : decode cX7_dayOf 62 = .ok (.iload 4, 2) := dk_21 4 (dk_at dksX7_dayOf_2 14 rfl rfl)
theorem dX7_dayOf_64 : decode cX7_dayOf 64 = .ok (.iaload, 1) := dk_46 (dk_at dksX7_dayOf_2 16 rfl rfl)
theorem dX7_dayOf_65 : decode cX7_dayOf 65 = .ok (.bipush 121, 2) := dk_16 121 (dk_at dksX7_dayOf_2 17 rfl rfl)
theorem dX7_dayOf_67 : decode cX7_dayOf 67 = .ok (.if_icmp .gt 6, 3) := dk_163 0 6 (dk_at dksX7_dayOf_2 19 rfl rfl)
theorem dX7_dayOf_70 : decode cX7_dayOf 70 = .ok (.goto 21, 3) := dk_167 0 21 (dk_at dksX7_dayOf_3 0 rfl rfl)
theorem dX7_dayOf_73 : decode cX7_dayOf 73 = .ok (.aload_n 0, 1) := dk_42 (dk_at dksX7_dayOf_3 3 rfl rfl)
theorem dX7_dayOf_74 : decode cX7_dayOf 74 = .ok (.getfield 7, 3) := dk_180 0 7 (dk_at dksX7_dayOf_3 4 rfl rfl)
theorem dX7_dayOf_77 : decode cX7_dayOf 77 = .ok (.iload 4, 2) := dk_21 4 (dk_at dksX7_dayOf_3 7 rfl rfl)
theorem dX7_dayOf_79 : decode cX7_dayOf 79 = .ok (.iconst 0, 1) := dk_3 (dk_at dksX7_dayOf_3 9 rfl rfl)
theorem dX7_dayOf_80 : decode cX7_dayOf 80 = .ok (.iastore, 1) := dk_79 (dk_at dksX7_dayOf_3 10 rfl rfl)
theorem dX7_dayOf_81 : decode cX7_dayOf 81 = .ok (.aload_n 0, 1) := dk_42 (dk_at dksX7_dayOf_3 11 rfl rfl)
theorem dX7_dayOf_82 : decode cX7_dayOf 82 = .ok (.dup, 1) := dk_89 (dk_at dksX7_dayOf_3 12 rfl rfl)
theorem dX7_dayOf_83 : decode cX7_dayOf 83 = .ok (.getfield 253, 3) := dk_180 0 253 (dk_at dksX7_dayOf_3 13 rfl rfl)
theorem dX7_dayOf_86 : decode cX7_dayOf 86 = .ok (.iconst 1, 1) := dk_4 (dk_at dksX7_dayOf_3 16 rfl rfl)
theorem dX7_dayOf_87 : decode cX7_dayOf 87 = .ok (.iadd, 1) := dk_96 (dk_at dksX7_dayOf_3 17 rfl rfl)
theorem dX7_dayOf_88 : decode cX7_dayOf 88 = .ok (.putfield 253, 3) := dk_181 0 253 (dk_at dksX7_dayOf_3 18 rfl rfl)
theorem dX7_dayOf_91 : decode cX7_dayOf 91 = .ok (.iinc 4 1, 3) := dk_132 4 1 (dk_at dksX7_dayOf_3 21 rfl rfl)
theorem dX7_dayOf_94 : decode cX7_dayOf 94 = .ok (.goto (-73), 3) := dk_167 255 183 (dk_at dksX7_dayOf_4 0 rfl rfl)
theorem dX7_dayOf_97 : decode cX7_dayOf 97 = .ok (.aload_n 0, 1) := dk_42 (dk_at dksX7_dayOf_4 3 rfl rfl)
theorem dX7_dayOf_98 : decode cX7_dayOf 98 = .ok (.getfield 7, 3) := dk_180 0 7 (dk_at dksX7_dayOf_4 4 rfl rfl)
theorem dX7_dayOf_101 : decode cX7_dayOf 101 = .ok (.iload_n 1, 1) := dk_27 (dk_at dksX7_dayOf_4 7 rfl rfl)
theorem dX7_dayOf_102 : decode cX7_dayOf 102 = .ok (.iconst 1, 1) := dk_4 (dk_at dksX7_dayOf_4 8 rfl rfl)
theorem dX7_dayOf_103 : decode cX7_dayOf 103 = .ok (.iadd, 1) := dk_96 (dk_at dksX7_dayOf_4 9 rfl rfl)
theorem dX7_dayOf_104 : decode cX7_dayOf 104 = .ok (.dup2, 1) := dk_92 (dk_at dksX7_dayOf_4 10 rfl rfl)
theorem dX7_dayOf_105 : decode cX7_dayOf 105 = .ok (.iaload, 1) := dk_46 (dk_at dksX7_dayOf_4 11 rfl rfl)
theorem dX7_dayOf_106 : decode cX7_dayOf 106 = .ok (.aload_n 0, 1) := dk_42 (dk_at dksX7_dayOf_4 12 rfl rfl)
theorem dX7_dayOf_107 : decode cX7_dayOf 107 = .ok (.getfield 253, 3) := dk_180 0 253 (dk_at dksX7_dayOf_4 13 rfl rfl)
theorem dX7_dayOf_110 : decode cX7_dayOf 110 = .ok (.iadd, 1) := dk_96 (dk_at dksX7_dayOf_4 16 rfl rfl)
theorem dX7_dayOf_111 : decode cX7_dayOf 111 = .ok (.iastore, 1) := dk_79 (dk_at dksX7_dayOf_4 17 rfl rfl)
theorem dX7_dayOf_112 : decode cX7_dayOf 112 = .ok (.aload_n 0, 1) := dk_42 (dk_at dksX7_dayOf_4 18 rfl rfl)
theorem dX7_dayOf_113 : decode cX7_dayOf 113 = .ok (.aload_n 0, 1) := dk_42 (dk_at dksX7_dayOf_4 19 rfl rfl)
theorem dX7_dayOf_114 : decode cX7_dayOf 114 = .ok (.getfield 7, 3) := dk_180 0 7 (dk_at dksX7_dayOf_4 20 rfl rfl)
theorem dX7_dayOf_117 : decode cX7_dayOf 117 = .ok (.iload_n 1, 1) := dk_27 (dk_at dksX7_dayOf_4 23 rfl rfl)
theorem dX7_dayOf_118 : decode cX7_dayOf 118 = .ok (.iaload, 1) := dk_46 (dk_at dksX7_dayOf_5 0 rfl rfl)
theorem dX7_dayOf_119 : decode cX7_dayOf 119 = .ok (.invokevirtual 247, 3) := dk_182 0 247 (dk_at dksX7_dayOf_5 1 rfl rfl)
theorem dX7_dayOf_122 : decode cX7_dayOf 122 = .ok (.iload_n 2, 1) := dk_28 (dk_at dksX7_dayOf_5 4 rfl rfl)
theorem dX7_dayOf_123 : decode cX7_dayOf 123 = .ok (.istore 4, 2) := dk_54 4 (dk_at dksX7_dayOf_5 5 rfl rfl)
theorem dX7_dayOf_125 : decode cX7_dayOf 125 = .ok (.iconst 0, 1) := dk_3 (dk_at dksX7_dayOf_5 7 rfl rfl)
theorem dX7_dayOf_126 : decode cX7_dayOf 126 = .ok (.istore 5, 2) := dk_54 5 (dk_at dksX7_dayOf_5 8 rfl rfl)
theorem dX7_dayOf_128 : decode cX7_dayOf 128 = .ok (.iload 5, 2) := dk_21 5 (dk_at dksX7_dayOf_5 10 rfl rfl)
theorem dX7_dayOf_130 : decode cX7_dayOf 130 = .ok (.iload_n 3, 1) := dk_29 (dk_at dksX7_dayOf_5 12 rfl rfl)
theorem dX7_dayOf_131 : decode cX7_dayOf 131 = .ok (.if_icmp .ge 48, 3) := dk_162 0 48 (dk_at dksX7_dayOf_5 13 rfl rfl)
theorem dX7_dayOf_134 : decode cX7_dayOf 134 = .ok (.iload 4, 2) := dk_21 4 (dk_at dksX7_dayOf_5 16 rfl rfl)
theorem dX7_dayOf_136 : decode cX7_dayOf 136 = .ok (.ifCond .le 43, 3) := dk_158 0 43 (dk_at dksX7_dayOf_5 18 rfl rfl)
theorem dX7_dayOf_139 : decode cX7_dayOf 139 = .ok (.aload_n 0, 1) := dk_42 (dk_at dksX7_dayOf_5 21 rfl rfl)
theorem dX7_dayOf_140 : decode cX7_dayOf 140 = .ok (.iload_n 1, 1) := dk_27 (dk_at dksX7_dayOf_5 22 rfl rfl)
theorem dX7_dayOf_141 : decode cX7_dayOf 141 = .ok (.iload 5, 2) := dk_21 5 (dk_at dksX7_dayOf_6 0 rfl rfl)
theorem dX7_dayOf_143 : decode cX7_dayOf 143 = .ok (.invokevirtual 250, 3) := dk_182 0 250 (dk_at dksX7_dayOf_6 2 rfl rfl)
theorem dX7_dayOf_146 : decode cX7_dayOf 146 = .ok (.istore 6, 2) := dk_54 6 (dk_at dksX7_dayOf_6 5 rfl rfl)
theorem dX7_dayOf_148 : decode cX7_dayOf 148 = .ok (.aload_n 0, 1) := dk_42 (dk_at dksX7_dayOf_6 7 rfl rfl)
theorem dX7_dayOf_149 : decode cX7_dayOf 149 = .ok (.getfield 7, 3) := dk_180 0 7 (dk_at dksX7_dayOf_6 8 rfl rfl)
theorem dX7_dayOf_152 : decode cX7_dayOf 152 = .ok (.iload 6, 2) := dk_21 6 (dk_at dksX7_dayOf_6 11 rfl rfl)
theorem dX7_dayOf_154 : decode cX7_dayOf 154 = .ok (.iaload, 1) := dk_46 (dk_at dksX7_dayOf_6 13 rfl rfl)
theorem dX7_dayOf_155 : decode cX7_dayOf 155 = .ok (.ifCond .eq 6, 3) := dk_153 0 6 (dk_at dksX7_dayOf_6 14 rfl rfl)
theorem dX7_dayOf_158 : decode cX7_dayOf 158 = .ok (.goto 15, 3) := dk_167 0 15 (dk_at dksX7_dayOf_6 17 rfl rfl)
theorem dX7_dayOf_161 : decode cX7_dayOf 161 = .ok (.aload_n 0, 1) := dk_42 (dk_at dksX7_dayOf_6 20 rfl rfl)
theorem dX7_dayOf_162 : decode cX7_dayOf 162 = .ok (.getfield 7, 3) := dk_180 0 7 (dk_at dksX7_dayOf_6 21 rfl rfl)
theorem dX7_dayOf_165 : decode cX7_dayOf 165 = .ok (.iload 6, 2) := dk_21 6 (dk_at dksX7_dayOf_7 0 rfl rfl)
theorem dX7_dayOf_167 : decode cX7_dayOf 167 = .ok (.bipush 101, 2) := dk_16 101 (dk_at dksX7_dayOf_7 2 rfl rfl)
theorem dX7_dayOf_169 : decode cX7_dayOf 169 = .ok (.iastore, 1) := dk_79 (dk_at dksX7_dayOf_7 4 rfl rfl)
theorem dX7_dayOf_170 : decode cX7_dayOf 170 = .ok (.iinc 4 (-1), 3) := dk_132 4 255 (dk_at dksX7_dayOf_7 5 rfl rfl)
theorem dX7_dayOf_173 : decode cX7_dayOf 173 = .ok (.iinc 5 1, 3) := dk_132 5 1 (dk_at dksX7_dayOf_7 8 rfl rfl)
theorem dX7_dayOf_176 : decode cX7_dayOf 176 = .ok (.goto (-48), 3) := dk_167 255 208 (dk_at dksX7_dayOf_7 11 rfl rfl)
theorem dX7_dayOf_179 : decode cX7_dayOf 179 = .ok (.aload_n 0, 1) := dk_42 (dk_at dksX7_dayOf_7 14 rfl rfl)
theorem dX7_dayOf_180 : decode cX7_dayOf 180 = .ok (.getfield 7, 3) := dk_180 0 7 (dk_at dksX7_dayOf_7 15 rfl rfl)
theorem dX7_dayOf_183 : decode cX7_dayOf 183 = .ok (.iload_n 1, 1) := dk_27 (dk_at dksX7_dayOf_7 18 rfl rfl)
theorem dX7_dayOf_184 : decode cX7_dayOf 184 = .ok (.iconst 2, 1) := dk_5 (dk_at dksX7_dayOf_7 19 rfl rfl)
theorem dX7_dayOf_185 : decode cX7_dayOf 185 = .ok (.iadd, 1) := dk_96 (dk_at dksX7_dayOf_7 20 rfl rfl)
theorem dX7_dayOf_186 : decode cX7_dayOf 186 = .ok (.dup2, 1) := dk_92 (dk_at dksX7_dayOf_7 21 rfl rfl)
theorem dX7_dayOf_187 : decode cX7_dayOf 187 = .ok (.iaload, 1) := dk_46 (dk_at dksX7_dayOf_7 22 rfl rfl)
theorem dX7_dayOf_188 : decode cX7_dayOf 188 = .ok (.aload_n 0, 1) := dk_42 (dk_at dksX7_dayOf_7 23 rfl rfl)
theorem dX7_dayOf_189 : decode cX7_dayOf 189 = .ok (.getfield 7, 3) := dk_180 0 7 (dk_at dksX7_dayOf_8 0 rfl rfl)
theorem dX7_dayOf_192 : decode cX7_dayOf 192 = .ok (.iload_n 1, 1) := dk_27 (dk_at dksX7_dayOf_8 3 rfl rfl)
theorem dX7_dayOf_193 : decode cX7_dayOf 193 = .ok (.iconst 1, 1) := dk_4 (dk_at dksX7_dayOf_8 4 rfl rfl)
theorem dX7_dayOf_194 : decode cX7_dayOf 194 = .ok (.iadd, 1) := dk_96 (dk_at dksX7_dayOf_8 5 rfl rfl)
theorem dX7_dayOf_195 : decode cX7_dayOf 195 = .ok (.iaload, 1) := dk_46 (dk_at dksX7_dayOf_8 6 rfl rfl)
theorem dX7_dayOf_196 : decode cX7_dayOf 196 = .ok (.iadd, 1) := dk_96 (dk_at dksX7_dayOf_8 7 rfl rfl)
theorem dX7_dayOf_197 : decode cX7_dayOf 197 = .ok (.iastore, 1) := dk_79 (dk_at dksX7_dayOf_8 8 rfl rfl)
theorem dX7_dayOf_198 : decode cX7_dayOf 198 = .ok (.aload_n 0, 1) := dk_42 (dk_at dksX7_dayOf_8 9 rfl rfl)
theorem dX7_dayOf_199 : decode cX7_dayOf 199 = .ok (.getfield 7, 3) := dk_180 0 7 (dk_at dksX7_dayOf_8 10 rfl rfl)
theorem dX7_dayOf_202 : decode cX7_dayOf 202 = .ok (.iload_n 1, 1) := dk_27 (dk_at dksX7_dayOf_8 13 rfl rfl)
theorem dX7_dayOf_203 : decode cX7_dayOf 203 = .ok (.iconst 2, 1) := dk_5 (dk_at dksX7_dayOf_8 14 rfl rfl)
theorem dX7_dayOf_204 : decode cX7_dayOf 204 = .ok (.iadd, 1) := dk_96 (dk_at dksX7_dayOf_8 15 rfl rfl)
theorem dX7_dayOf_205 : decode cX7_dayOf 205 = .ok (.iaload, 1) := dk_46 (dk_at dksX7_dayOf_8 16 rfl rfl)
theorem dX7_dayOf_206 : decode cX7_dayOf 206 = .ok (.bipush 10, 2) := dk_16 10 (dk_at dksX7_dayOf_8 17 rfl rfl)
theorem dX7_dayOf_208 : decode cX7_dayOf 208 = .ok (.idiv, 1) := dk_108 (dk_at dksX7_dayOf_8 19 rfl rfl)
theorem dX7_dayOf_209 : decode cX7_dayOf 209 = .ok (.istore 5, 2) := dk_54 5 (dk_at dksX7_dayOf_8 20 rfl rfl)
theorem dX7_dayOf_211 : decode cX7_dayOf 211 = .ok (.aload_n 0, 1) := dk_42 (dk_at dksX7_dayOf_8 22 rfl rfl)
theorem dX7_dayOf_212 : decode cX7_dayOf 212 = .ok (.getfield 7, 3) := dk_180 0 7 (dk_at dksX7_dayOf_9 0 rfl rfl)
theorem dX7_dayOf_215 : decode cX7_dayOf 215 = .ok (.iload_n 1, 1) := dk_27 (dk_at dksX7_dayOf_9 3 rfl rfl)
theorem dX7_dayOf_216 : decode cX7_dayOf 216 = .ok (.iconst 2, 1) := dk_5 (dk_at dksX7_dayOf_9 4 rfl rfl)
theorem dX7_dayOf_217 : decode cX7_dayOf 217 = .ok (.iadd, 1) := dk_96 (dk_at dksX7_dayOf_9 5 rfl rfl)
theorem dX7_dayOf_218 : decode cX7_dayOf 218 = .ok (.dup2, 1) := dk_92 (dk_at dksX7_dayOf_9 6 rfl rfl)
theorem dX7_dayOf_219 : decode cX7_dayOf 219 = .ok (.iaload, 1) := dk_46 (dk_at dksX7_dayOf_9 7 rfl rfl)
theorem dX7_dayOf_220 : decode cX7_dayOf 220 = .ok (.bipush 10, 2) := dk_16 10 (dk_at dksX7_dayOf_9 8 rfl rfl)
theorem dX7_dayOf_222 : decode cX7_dayOf 222 = .ok (.irem, 1) := dk_112 (dk_at dksX7_dayOf_9 10 rfl rfl)
theorem dX7_dayOf_223 : decode cX7_dayOf 223 = .ok (.iastore, 1) := dk_79 (dk_at dksX7_dayOf_9 11 rfl rfl)
theorem dX7_dayOf_224 : decode cX7_dayOf 224 = .ok (.aload_n 0, 1) := dk_42 (dk_at dksX7_dayOf_9 12 rfl rfl)
theorem dX7_dayOf_225 : decode cX7_dayOf 225 = .ok (.iconst 0, 1) := dk_3 (dk_at dksX7_dayOf_9 13 rfl rfl)
theorem dX7_dayOf_226 : decode cX7_dayOf 226 = .ok (.putfield 256, 3) := dk_181 1 0 (dk_at dksX7_dayOf_9 14 rfl rfl)
theorem dX7_dayOf_229 : decode cX7_dayOf 229 = .ok (.iconst 0, 1) := dk_3 (dk_at dksX7_dayOf_9 17 rfl rfl)
theorem dX7_dayOf_230 : decode cX7_dayOf 230 = .ok (.istore 6, 2) := dk_54 6 (dk_at dksX7_dayOf_9 18 rfl rfl)
theorem dX7_dayOf_232 : decode cX7_dayOf 232 = .ok (.iload 6, 2) := dk_21 6 (dk_at dksX7_dayOf_9 20 rfl rfl)
theorem dX7_dayOf_234 : decode cX7_dayOf 234 = .ok (.iload_n 3, 1) := dk_29 (dk_at dksX7_dayOf_9 22 rfl rfl)
theorem dX7_dayOf_235 : decode cX7_dayOf 235 = .ok (.if_icmp .ge 94, 3) := dk_162 0 94 (dk_at dksX7_dayOf_10 0 rfl rfl)
theorem dX7_dayOf_238 : decode cX7_dayOf 238 = .ok (.aload_n 0, 1) := dk_42 (dk_at dksX7_dayOf_10 3 rfl rfl)
theorem dX7_dayOf_239 : decode cX7_dayOf 239 = .ok (.getfield 256, 3) := dk_180 1 0 (dk_at dksX7_dayOf_10 4 rfl rfl)
theorem dX7_dayOf_242 : decode cX7_dayOf 242 = .ok (.iload 5, 2) := dk_21 5 (dk_at dksX7_dayOf_10 7 rfl rfl)
theorem dX7_dayOf_244 : decode cX7_dayOf 244 = .ok (.if_icmp .ge 85, 3) := dk_162 0 85 (dk_at dksX7_dayOf_10 9 rfl rfl)
theorem dX7_dayOf_247 : decode cX7_dayOf 247 = .ok (.aload_n 0, 1) := dk_42 (dk_at dksX7_dayOf_10 12 rfl rfl)
theorem dX7_dayOf_248 : decode cX7_dayOf 248 = .ok (.iload_n 1, 1) := dk_27 (dk_at dksX7_dayOf_10 13 rfl rfl)
theorem dX7_dayOf_249 : decode cX7_dayOf 249 = .ok (.iload 6, 2) := dk_21 6 (dk_at dksX7_dayOf_10 14 rfl rfl)
theorem dX7_dayOf_251 : decode cX7_dayOf 251 = .ok (.invokevirtual 250, 3) := dk_182 0 250 (dk_at dksX7_dayOf_10 16 rfl rfl)
theorem dX7_dayOf_254 : decode cX7_dayOf 254 = .ok (.istore 7, 2) := dk_54 7 (dk_at dksX7_dayOf_10 19 rfl rfl)
theorem dX7_dayOf_256 : decode cX7_dayOf 256 = .ok (.aload_n 0, 1) := dk_42 (dk_at dksX7_dayOf_10 21 rfl rfl)
theorem dX7_dayOf_257 : decode cX7_dayOf 257 = .ok (.getfield 7, 3) := dk_180 0 7 (dk_at dksX7_dayOf_11 0 rfl rfl)
theorem dX7_dayOf_260 : decode cX7_dayOf 260 = .ok (.iload 7, 2) := dk_21 7 (dk_at dksX7_dayOf_11 3 rfl rfl)
theorem dX7_dayOf_262 : decode cX7_dayOf 262 = .ok (.iaload, 1) := dk_46 (dk_at dksX7_dayOf_11 5 rfl rfl)
theorem dX7_dayOf_263 : decode cX7_dayOf 263 = .ok (.ifCond .eq 60, 3) := dk_153 0 60 (dk_at dksX7_dayOf_11 6 rfl rfl)
theorem dX7_dayOf_266 : decode cX7_dayOf 266 = .ok (.aload_n 0, 1) := dk_42 (dk_at dksX7_dayOf_11 9 rfl rfl)
theorem dX7_dayOf_267 : decode cX7_dayOf 267 = .ok (.getfield 7, 3) := dk_180 0 7 (dk_at dksX7_dayOf_11 10 rfl rfl)
theorem dX7_dayOf_270 : decode cX7_dayOf 270 = .ok (.iload 7, 2) := dk_21 7 (dk_at dksX7_dayOf_11 13 rfl rfl)
theorem dX7_dayOf_272 : decode cX7_dayOf 272 = .ok (.iaload, 1) := dk_46 (dk_at dksX7_dayOf_11 15 rfl rfl)
theorem dX7_dayOf_273 : decode cX7_dayOf 273 = .ok (.bipush 100, 2) := dk_16 100 (dk_at dksX7_dayOf_11 16 rfl rfl)
theorem dX7_dayOf_275 : decode cX7_dayOf 275 = .ok (.if_icmp .le 6, 3) := dk_164 0 6 (dk_at dksX7_dayOf_11 18 rfl rfl)
theorem dX7_dayOf_278 : decode cX7_dayOf 278 = .ok (.goto 45, 3) := dk_167 0 45 (dk_at dksX7_dayOf_11 21 rfl rfl)
theorem dX7_dayOf_281 : decode cX7_dayOf 281 = .ok (.iload 5, 2) := dk_21 5 (dk_at dksX7_dayOf_12 0 rfl rfl)
theorem dX7_dayOf_283 : decode cX7_dayOf 283 = .ok (.aload_n 0, 1) := dk_42 (dk_at dksX7_dayOf_12 2 rfl rfl)
theorem dX7_dayOf_284 : decode cX7_dayOf 284 = .ok (.getfield 256, 3) := dk_180 1 0 (dk_at dksX7_dayOf_12 3 rfl rfl)
theorem dX7_dayOf_287 : decode cX7_dayOf 287 = .ok (.isub, 1) := dk_100 (dk_at dksX7_dayOf_12 6 rfl rfl)
theorem dX7_dayOf_288 : decode cX7_dayOf 288 = .ok (.aload_n 0, 1) := dk_42 (dk_at dksX7_dayOf_12 7 rfl rfl)
theorem dX7_dayOf_289 : decode cX7_dayOf 289 = .ok (.getfield 7, 3) := dk_180 0 7 (dk_at dksX7_dayOf_12 8 rfl rfl)
theorem dX7_dayOf_292 : decode cX7_dayOf 292 = .ok (.iload 7, 2) := dk_21 7 (dk_at dksX7_dayOf_12 11 rfl rfl)
theorem dX7_dayOf_294 : decode cX7_dayOf 294 = .ok (.iaload, 1) := dk_46 (dk_at dksX7_dayOf_12 13 rfl rfl)
theorem dX7_dayOf_295 : decode cX7_dayOf 295 = .ok (.invokestatic 127, 3) := dk_184 0 127 (dk_at dksX7_dayOf_12 14 rfl rfl)
theorem dX7_dayOf_298 : decode cX7_dayOf 298 = .ok (.istore 8, 2) := dk_54 8 (dk_at dksX7_dayOf_12 17 rfl rfl)
theorem dX7_dayOf_300 : decode cX7_dayOf 300 = .ok (.aload_n 0, 1) := dk_42 (dk_at dksX7_dayOf_12 19 rfl rfl)
theorem dX7_dayOf_301 : decode cX7_dayOf 301 = .ok (.getfield 7, 3) := dk_180 0 7 (dk_at dksX7_dayOf_12 20 rfl rfl)
theorem dX7_dayOf_304 : decode cX7_dayOf 304 = .ok (.iload 7, 2) := dk_21 7 (dk_at dksX7_dayOf_13 0 rfl rfl)
theorem dX7_dayOf_306 : decode cX7_dayOf 306 = .ok (.dup2, 1) := dk_92 (dk_at dksX7_dayOf_13 2 rfl rfl)
theorem dX7_dayOf_307 : decode cX7_dayOf 307 = .ok (.iaload, 1) := dk_46 (dk_at dksX7_dayOf_13 3 rfl rfl)
theorem dX7_dayOf_308 : decode cX7_dayOf 308 = .ok (.iload 8, 2) := dk_21 8 (dk_at dksX7_dayOf_13 4 rfl rfl)
theorem dX7_dayOf_310 : decode cX7_dayOf 310 = .ok (.isub, 1) := dk_100 (dk_at dksX7_dayOf_13 6 rfl rfl)
theorem dX7_dayOf_311 : decode cX7_dayOf 311 = .ok (.iastore, 1) := dk_79 (dk_at dksX7_dayOf_13 7 rfl rfl)
theorem dX7_dayOf_312 : decode cX7_dayOf 312 = .ok (.aload_n 0, 1) := dk_42 (dk_at dksX7_dayOf_13 8 rfl rfl)
theorem dX7_dayOf_313 : decode cX7_dayOf 313 = .ok (.dup, 1) := dk_89 (dk_at dksX7_dayOf_13 9 rfl rfl)
theorem dX7_dayOf_314 : decode cX7_dayOf 314 = .ok (.getfield 256, 3) := dk_180 1 0 (dk_at dksX7_dayOf_13 10 rfl rfl)
theorem dX7_dayOf_317 : decode cX7_dayOf 317 = .ok (.iload 8, 2) := dk_21 8 (dk_at dksX7_dayOf_13 13 rfl rfl)
theorem dX7_dayOf_319 : decode cX7_dayOf 319 = .ok (.iadd, 1) := dk_96 (dk_at dksX7_dayOf_13 15 rfl rfl)
theorem dX7_dayOf_320 : decode cX7_dayOf 320 = .ok (.putfield 256, 3) := dk_181 1 0 (dk_at dksX7_dayOf_13 16 rfl rfl)
theorem dX7_dayOf_323 : decode cX7_dayOf 323 = .ok (.iinc 6 1, 3) := dk_132 6 1 (dk_at dksX7_dayOf_13 19 rfl rfl)
theorem dX7_dayOf_326 : decode cX7_dayOf 326 = .ok (.goto (-94), 3) := dk_167 255 162 (dk_at dksX7_dayOf_14 0 rfl rfl)
theorem dX7_dayOf_329 : decode cX7_dayOf 329 = .ok (.aload_n 0, 1) := dk_42 (dk_at dksX7_dayOf_14 3 rfl rfl)
theorem dX7_dayOf_330 : decode cX7_dayOf 330 = .ok (.iload 5, 2) := dk_21 5 (dk_at dksX7_dayOf_14 4 rfl rfl)
theorem dX7_dayOf_332 : decode cX7_dayOf 332 = .ok (.aload_n 0, 1) := dk_42 (dk_at dksX7_dayOf_14 6 rfl rfl)
theorem dX7_dayOf_333 : decode cX7_dayOf 333 = .ok (.getfield 256, 3) := dk_180 1 0 (dk_at dksX7_dayOf_14 7 rfl rfl)
theorem dX7_dayOf_336 : decode cX7_dayOf 336 = .ok (.isub, 1) := dk_100 (dk_at dksX7_dayOf_14 10 rfl rfl)
theorem dX7_dayOf_337 : decode cX7_dayOf 337 = .ok (.i2l, 1) := dk_133 (dk_at dksX7_dayOf_14 11 rfl rfl)
theorem dX7_dayOf_338 : decode cX7_dayOf 338 = .ok (.ldc2_w 259, 3) := dk_20 1 3 (dk_at dksX7_dayOf_14 12 rfl rfl)
theorem dX7_dayOf_341 : decode cX7_dayOf 341 = .ok (.lmul, 1) := dk_105 (dk_at dksX7_dayOf_14 15 rfl rfl)
theorem dX7_dayOf_342 : decode cX7_dayOf 342 = .ok (.aload_n 0, 1) := dk_42 (dk_at dksX7_dayOf_14 16 rfl rfl)
theorem dX7_dayOf_343 : decode cX7_dayOf 343 = .ok (.getfield 7, 3) := dk_180 0 7 (dk_at dksX7_dayOf_14 17 rfl rfl)
theorem dX7_dayOf_346 : decode cX7_dayOf 346 = .ok (.iload_n 1, 1) := dk_27 (dk_at dksX7_dayOf_14 20 rfl rfl)
theorem dX7_dayOf_347 : decode cX7_dayOf 347 = .ok (.iconst 1, 1) := dk_4 (dk_at dksX7_dayOf_14 21 rfl rfl)
theorem dX7_dayOf_348 : decode cX7_dayOf 348 = .ok (.iadd, 1) := dk_96 (dk_at dksX7_dayOf_14 22 rfl rfl)
theorem dX7_dayOf_349 : decode cX7_dayOf 349 = .ok (.iaload, 1) := dk_46 (dk_at dksX7_dayOf_14 23 rfl rfl)
theorem dX7_dayOf_350 : decode cX7_dayOf 350 = .ok (.i2l, 1) := dk_133 (dk_at dksX7_dayOf_15 0 rfl rfl)
theorem dX7_dayOf_351 : decode cX7_dayOf 351 = .ok (.invokestatic 261, 3) := dk_184 1 5 (dk_at dksX7_dayOf_15 1 rfl rfl)
theorem dX7_dayOf_354 : decode cX7_dayOf 354 = .ok (.l2i, 1) := dk_136 (dk_at dksX7_dayOf_15 4 rfl rfl)
theorem dX7_dayOf_355 : decode cX7_dayOf 355 = .ok (.putfield 264, 3) := dk_181 1 8 (dk_at dksX7_dayOf_15 5 rfl rfl)
theorem dX7_dayOf_358 : decode cX7_dayOf 358 = .ok (.aload_n 0, 1) := dk_42 (dk_at dksX7_dayOf_15 8 rfl rfl)
theorem dX7_dayOf_359 : decode cX7_dayOf 359 = .ok (.getfield 7, 3) := dk_180 0 7 (dk_at dksX7_dayOf_15 9 rfl rfl)
theorem dX7_dayOf_362 : decode cX7_dayOf 362 = .ok (.iload_n 1, 1) := dk_27 (dk_at dksX7_dayOf_15 12 rfl rfl)
theorem dX7_dayOf_363 : decode cX7_dayOf 363 = .ok (.iconst 1, 1) := dk_4 (dk_at dksX7_dayOf_15 13 rfl rfl)
theorem dX7_dayOf_364 : decode cX7_dayOf 364 = .ok (.iadd, 1) := dk_96 (dk_at dksX7_dayOf_15 14 rfl rfl)
theorem dX7_dayOf_365 : decode cX7_dayOf 365 = .ok (.dup2, 1) := dk_92 (dk_at dksX7_dayOf_15 15 rfl rfl)
theorem dX7_dayOf_366 : decode cX7_dayOf 366 = .ok (.iaload, 1) := dk_46 (dk_at dksX7_dayOf_15 16 rfl rfl)
theorem dX7_dayOf_367 : decode cX7_dayOf 367 = .ok (.aload_n 0, 1) := dk_42 (dk_at dksX7_dayOf_15 17 rfl rfl)
theorem dX7_dayOf_368 : decode cX7_dayOf 368 = .ok (.getfield 264, 3) := dk_180 1 8 (dk_at dksX7_dayOf_15 18 rfl rfl)
theorem dX7_dayOf_371 : decode cX7_dayOf 371 = .ok (.isub, 1) := dk_100 (dk_at dksX7_dayOf_15 21 rfl rfl)
theorem dX7_dayOf_372 : decode cX7_dayOf 372 = .ok (.iastore, 1) := dk_79 (dk_at dksX7_dayOf_15 22 rfl rfl)
theorem dX7_dayOf_373 : decode cX7_dayOf 373 = .ok (.return_, 1) := dk_177 (dk_at dksX7_dayOf_15 23 rfl rfl)
def dkwX7_bring_1 : List UInt8 := [182, 1, 61, 182, 0, 76, 167, 0, 8, 42, 4, 182, 0, 72, 172]
abbrev dktX7_bring_1 : List UInt8 := dkwX7_bring_1 ++ []
def dkwX7_bring_0 : List UInt8 := [42, 27, 182, 1, 18, 153, 0, 28, 28, 133, 9, 20, 1, 59, 184, 1, 50, 153, 0, 16, 42, 42, 27, 28]
abbrev dktX7_bring_0 : List UInt8 := dkwX7_bring_0 ++ dktX7_bring_1
theorem dksX7_bring_0 : cX7_bring.data.toList.drop 0 = dktX7_bring_0 := by decide +kernel
theorem dksX7_bring_1 : cX7_bring.data.toList.drop 24 = dktX7_bring_1 := dk_seg dksX7_bring_0 24 rfl rfl
theorem dX7_bring_0 : decode cX7_bring 0 = .ok (.aload_n 0, 1) := dk_42 (dk_at dksX7_bring_0 0 rfl rfl)
theorem dX7_bring_1 : decode cX7_bring 1 = .ok (.iload_n 1, 1) := dk_27 (dk_at dksX7_bring_0 1 rfl rfl)
theorem dX7_bring_2 : decode cX7_bring 2 = .ok (.invokevirtual 274, 3) := dk_182 1 18 (dk_at dksX7_bring_0 2 rfl rfl)
theorem dX7_bring_5 : decode cX7_bring 5 = .ok (.ifCond .eq 28, 3) := dk_153 0 28 (dk_at dksX7_bring_0 5 rfl rfl)
theorem dX7_bring_8 : decode cX7_bring 8 = .ok (.iload_n 2, 1) := dk_28 (dk_at dksX7_bring_0 8 rfl rfl)
theorem dX7_bring_9 : decode cX7_bring 9 = .ok (.i2l, 1) := dk_133 (dk_at dksX7_bring_0 9 rfl rfl)
theorem dX7_bring_10 : decode cX7_bring 10 = .ok (.lconst 0, 1) := dk_9 (dk_at dksX7_bring_0 10 rfl rfl)
theorem dX7_bring_11 : decode cX7_bring 11 = .ok (.ldc2_w 315, 3) := dk_20 1 59 (dk_at dksX7_bring_0 11 rfl rfl)
theorem dX7_bring_14 : decode cX7_bring 14 = .ok (.invokestatic 306, 3) := dk_184 1 50 (dk_at dksX7_bring_0 14 rfl rfl)
theorem dX7_bring_17 : decode cX7_bring 17 = .ok (.ifCond .eq 16, 3) := dk_153 0 16 (dk_at dksX7_bring_0 17 rfl rfl)
theorem dX7_bring_20 : decode cX7_bring 20 = .ok (.aload_n 0, 1) := dk_42 (dk_at dksX7_bring_0 20 rfl rfl)
theorem dX7_bring_21 : decode cX7_bring 21 = .ok (.aload_n 0, 1) := dk_42 (dk_at dksX7_bring_0 21 rfl rfl)
theorem dX7_bring_22 : decode cX7_bring 22 = .ok (.iload_n 1, 1) := dk_27 (dk_at dksX7_bring_0 22 rfl rfl)
theorem dX7_bring_23 : decode cX7_bring 23 = .ok (.iload_n 2, 1) := dk_28 (dk_at dksX7_bring_0 23 rfl rfl)
theorem dX7_bring_24 : decode cX7_bring 24 = .ok (.invokevirtual 317, 3) := dk_182 1 61 (dk_at dksX7_bring_1 0 rfl rfl)
theorem dX7_bring_27 : decode cX7_bring 27 = .ok (.invokevirtual 76, 3) := dk_182 0 76 (dk_at dksX7_bring_1 3 rfl rfl)
theorem dX7_bring_30 : decode cX7_bring 30 = .ok (.goto 8, 3) := dk_167 0 8 (dk_at dksX7_bring_1 6 rfl rfl)
theorem dX7_bring_33 : decode cX7_bring 33 = .ok (.aload_n 0, 1) := dk_42 (dk_at dksX7_bring_1 9 rfl rfl)
theorem dX7_bring_34 : decode cX7_bring 34 = .ok (.iconst 1, 1) := dk_4 (dk_at dksX7_bring_1 10 rfl rfl)
theorem dX7_bring_35 : decode cX7_bring 35 = .ok (.invokevirtual 72, 3) := dk_182 0 72 (dk_at dksX7_bring_1 11 rfl rfl)
theorem dX7_bring_38 : decode cX7_bring 38 = .ok (.ireturn, 1) := dk_172 (dk_at dksX7_bring_1 14 rfl rfl)
def dkwX7_brings_1 : List UInt8 := [16, 7, 92, 46, 29, 96, 79, 29, 172]
abbrev dktX7_brings_1 : List UInt8 := dkwX7_brings_1 ++ []
def dkwX7_brings_0 : List UInt8 := [42, 27, 184, 0, 217, 28, 182, 0, 188, 62, 42, 180, 0, 7, 7, 92, 46, 28, 96, 79, 42, 180, 0, 7]
abbrev dktX7_brings_0 : List UInt8 := dkwX7_brings_0 ++ dktX7_brings_1
theorem dksX7_brings_0 : cX7_brings.data.toList.drop 0 = dktX7_brings_0 := by decide +kernel
theorem dksX7_brings_1 : cX7_brings.data.toList.drop 24 = dktX7_brings_1 := dk_seg dksX7_brings_0 24 rfl rfl
theorem dX7_brings_0 : decode cX7_brings 0 = .ok (.aload_n 0, 1) := dk_42 (dk_at dksX7_brings_0 0 rfl rfl)
theorem dX7_brings_1 : decode cX7_brings 1 = .ok (.iload_n 1, 1) := dk_27 (dk_at dksX7_brings_0 1 rfl rfl)
theorem dX7_brings_2 : decode cX7_brings 2 = .ok (.invokestatic 217, 3) := dk_184 0 217 (dk_at dksX7_brings_0 2 rfl rfl)
theorem dX7_brings_5 : decode cX7_brings 5 = .ok (.iload_n 2, 1) := dk_28 (dk_at dksX7_brings_0 5 rfl rfl)
theorem dX7_brings_6 : decode cX7_brings 6 = .ok (.invokevirtual 188, 3) := dk_182 0 188 (dk_at dksX7_brings_0 6 rfl rfl)
theorem dX7_brings_9 : decode cX7_brings 9 = .ok (.istore_n 3, 1) := dk_62 (dk_at dksX7_brings_0 9 rfl rfl)
theorem dX7_brings_10 : decode cX7_brings 10 = .ok (.aload_n 0, 1) := dk_42 (dk_at dksX7_brings_0 10 rfl rfl)
theorem dX7_brings_11 : decode cX7_brings 11 = .ok (.getfield 7, 3) := dk_180 0 7 (dk_at dksX7_brings_0 11 rfl rfl)
theorem dX7_brings_14 : decode cX7_brings 14 = .ok (.iconst 4, 1) := dk_7 (dk_at dksX7_brings_0 14 rfl rfl)
theorem dX7_brings_15 : decode cX7_brings 15 = .ok (.dup2, 1) := dk_92 (dk_at dksX7_brings_0 15 rfl rfl)
theorem dX7_brings_16 : decode cX7_brings 16 = .ok (.iaload, 1) := dk_46 (dk_at dksX7_brings_0 16 rfl rfl)
theorem dX7_brings_17 : decode cX7_brings 17 = .ok (.iload_n 2, 1) := dk_28 (dk_at dksX7_brings_0 17 rfl rfl)
theorem dX7_brings_18 : decode cX7_brings 18 = .ok (.iadd, 1) := dk_96 (dk_at dksX7_brings_0 18 rfl rfl)
theorem dX7_brings_19 : decode cX7_brings 19 = .ok (.iastore, 1) := dk_79 (dk_at dksX7_brings_0 19 rfl rfl)
theorem dX7_brings_20 : decode cX7_brings 20 = .ok (.aload_n 0, 1) := dk_42 (dk_at dksX7_brings_0 20 rfl rfl)
theorem dX7_brings_21 : decode cX7_brings 21 = .ok (.getfield 7, 3) := dk_180 0 7 (dk_at dksX7_brings_0 21 rfl rfl)
theorem dX7_brings_24 : decode cX7_brings 24 = .ok (.bipush 7, 2) := dk_16 7 (dk_at dksX7_brings_1 0 rfl rfl)
theorem dX7_brings_26 : decode cX7_brings 26 = .ok (.dup2, 1) := dk_92 (dk_at dksX7_brings_1 2 rfl rfl)
theorem dX7_brings_27 : decode cX7_brings 27 = .ok (.iaload, 1) := dk_46 (dk_at dksX7_brings_1 3 rfl rfl)
theorem dX7_brings_28 : decode cX7_brings 28 = .ok (.iload_n 3, 1) := dk_29 (dk_at dksX7_brings_1 4 rfl rfl)
theorem dX7_brings_29 : decode cX7_brings 29 = .ok (.iadd, 1) := dk_96 (dk_at dksX7_brings_1 5 rfl rfl)
theorem dX7_brings_30 : decode cX7_brings 30 = .ok (.iastore, 1) := dk_79 (dk_at dksX7_brings_1 6 rfl rfl)
theorem dX7_brings_31 : decode cX7_brings 31 = .ok (.iload_n 3, 1) := dk_29 (dk_at dksX7_brings_1 7 rfl rfl)
theorem dX7_brings_32 : decode cX7_brings 32 = .ok (.ireturn, 1) := dk_172 (dk_at dksX7_brings_1 8 rfl rfl)
def dkwX7_harvest_1 : List UInt8 := [182, 0, 72, 172]
abbrev dktX7_harvest_1 : List UInt8 := dkwX7_harvest_1 ++ []
def dkwX7_harvest_0 : List UInt8 := [42, 27, 28, 182, 1, 42, 153, 0, 16, 42, 42, 27, 28, 182, 1, 64, 182, 0, 76, 167, 0, 8, 42, 4]
abbrev dktX7_harvest_0 : List UInt8 := dkwX7_harvest_0 ++ dktX7_harvest_1
theorem dksX7_harvest_0 : cX7_harvest.data.toList.drop 0 = dktX7_harvest_0 := by decide +kernel
theorem dksX7_harvest_1 : cX7_harvest.data.toList.drop 24 = dktX7_harvest_1 := dk_seg dksX7_harvest_0 24 rfl rfl
theorem dX7_harvest_0 : decode cX7_harvest 0 = .ok (.aload_n 0, 1) := dk_42 (dk_at dksX7_harvest_0 0 rfl rfl)
theorem dX7_harvest_1 : decode cX7_harvest 1 = .ok (.iload_n 1, 1) := dk_27 (dk_at dksX7_harvest_0 1 rfl rfl)
theorem dX7_harvest_2 : decode cX7_harvest 2 = .ok (.iload_n 2, 1) := dk_28 (dk_at dksX7_harvest_0 2 rfl rfl)
theorem dX7_harvest_3 : decode cX7_harvest 3 = .ok (.invokevirtual 298, 3) := dk_182 1 42 (dk_at dksX7_harvest_0 3 rfl rfl)
theorem dX7_harvest_6 : decode cX7_harvest 6 = .ok (.ifCond .eq 16, 3) := dk_153 0 16 (dk_at dksX7_harvest_0 6 rfl rfl)
theorem dX7_harvest_9 : decode cX7_harvest 9 = .ok (.aload_n 0, 1) := dk_42 (dk_at dksX7_harvest_0 9 rfl rfl)
theorem dX7_harvest_10 : decode cX7_harvest 10 = .ok (.aload_n 0, 1) := dk_42 (dk_at dksX7_harvest_0 10 rfl rfl)
theorem dX7_harvest_11 : decode cX7_harvest 11 = .ok (.iload_n 1, 1) := dk_27 (dk_at dksX7_harvest_0 11 rfl rfl)
theorem dX7_harvest_12 : decode cX7_harvest 12 = .ok (.iload_n 2, 1) := dk_28 (dk_at dksX7_harvest_0 12 rfl rfl)
theorem dX7_harvest_13 : decode cX7_harvest 13 = .ok (.invokevirtual 320, 3) := dk_182 1 64 (dk_at dksX7_harvest_0 13 rfl rfl)
theorem dX7_harvest_16 : decode cX7_harvest 16 = .ok (.invokevirtual 76, 3) := dk_182 0 76 (dk_at dksX7_harvest_0 16 rfl rfl)
theorem dX7_harvest_19 : decode cX7_harvest 19 = .ok (.goto 8, 3) := dk_167 0 8 (dk_at dksX7_harvest_0 19 rfl rfl)
theorem dX7_harvest_22 : decode cX7_harvest 22 = .ok (.aload_n 0, 1) := dk_42 (dk_at dksX7_harvest_0 22 rfl rfl)
theorem dX7_harvest_23 : decode cX7_harvest 23 = .ok (.iconst 1, 1) := dk_4 (dk_at dksX7_harvest_0 23 rfl rfl)
theorem dX7_harvest_24 : decode cX7_harvest 24 = .ok (.invokevirtual 72, 3) := dk_182 0 72 (dk_at dksX7_harvest_1 0 rfl rfl)
theorem dX7_harvest_27 : decode cX7_harvest 27 = .ok (.ireturn, 1) := dk_172 (dk_at dksX7_harvest_1 3 rfl rfl)
def dkwX7_harvests_3 : List UInt8 := [29, 172]
abbrev dktX7_harvests_3 : List UInt8 := dkwX7_harvests_3 ++ []
def dkwX7_harvests_2 : List UInt8 := [42, 180, 0, 7, 21, 5, 3, 79, 132, 4, 1, 167, 255, 202, 42, 180, 0, 7, 8, 92, 46, 29, 96, 79]
abbrev dktX7_harvests_2 : List UInt8 := dkwX7_harvests_2 ++ dktX7_harvests_3
def dkwX7_harvests_1 : List UInt8 := [180, 0, 7, 21, 5, 46, 16, 100, 164, 0, 6, 167, 0, 21, 29, 42, 180, 0, 7, 21, 5, 46, 96, 62]
abbrev dktX7_harvests_1 : List UInt8 := dkwX7_harvests_1 ++ dktX7_harvests_2
def dkwX7_harvests_0 : List UInt8 := [3, 62, 3, 54, 4, 21, 4, 16, 16, 162, 0, 53, 42, 27, 28, 182, 1, 45, 21, 4, 96, 54, 5, 42]
abbrev dktX7_harvests_0 : List UInt8 := dkwX7_harvests_0 ++ dktX7_harvests_1
theorem dksX7_harvests_0 : cX7_harvests.data.toList.drop 0 = dktX7_harvests_0 := by decide +kernel
theorem dksX7_harvests_1 : cX7_harvests.data.toList.drop 24 = dktX7_harvests_1 := dk_seg dksX7_harvests_0 24 rfl rfl
theorem dksX7_harvests_2 : cX7_harvests.data.toList.drop 48 = dktX7_harvests_2 := dk_seg dksX7_harvests_1 24 rfl rfl
theorem dksX7_harvests_3 : cX7_harvests.data.toList.drop 72 = dktX7_harvests_3 := dk_seg dksX7_harvests_2 24 rfl rfl
theorem dX7_harvests_0 : decode cX7_harvests 0 = .ok (.iconst 0, 1) := dk_3 (dk_at dksX7_harvests_0 0 rfl rfl)
theorem dX7_harvests_1 : decode cX7_harvests 1 = .ok (.istore_n 3, 1) := dk_62 (dk_at dksX7_harvests_0 1 rfl rfl)
theorem dX7_harvests_2 : decode cX7_harvests 2 = .ok (.iconst 0, 1) := dk_3 (dk_at dksX7_harvests_0 2 rfl rfl)
theorem dX7_harvests_3 : decode cX7_harvests 3 = .ok (.istore 4, 2) := dk_54 4 (dk_at dksX7_harvests_0 3 rfl rfl)
theorem dX7_harvests_5 : decode cX7_harvests 5 = .ok (.iload 4, 2) := dk_21 4 (dk_at dksX7_harvests_0 5 rfl rfl)
theorem dX7_harvests_7 : decode cX7_harvests 7 = .ok (.bipush 16, 2) := dk_16 16 (dk_at dksX7_harvests_0 7 rfl rfl)
theorem dX7_harvests_9 : decode cX7_harvests 9 = .ok (.if_icmp .ge 53, 3) := dk_162 0 53 (dk_at dksX7_harvests_0 9 rfl rfl)
theorem dX7_harvests_12 : decode cX7_harvests 12 = .ok (.aload_n 0, 1) := dk_42 (dk_at dksX7_harvests_0 12 rfl rfl)
theorem dX7_harvests_13 : decode cX7_harvests 13 = .ok (.iload_n 1, 1) := dk_27 (dk_at dksX7_harvests_0 13 rfl rfl)
theorem dX7_harvests_14 : decode cX7_harvests 14 = .ok (.iload_n 2, 1) := dk_28 (dk_at dksX7_harvests_0 14 rfl rfl)
theorem dX7_harvests_15 : decode cX7_harvests 15 = .ok (.invokevirtual 301, 3) := dk_182 1 45 (dk_at dksX7_harvests_0 15 rfl rfl)
theorem dX7_harvests_18 : decode cX7_harvests 18 = .ok (.iload 4, 2) := dk_21 4 (dk_at dksX7_harvests_0 18 rfl rfl)
theorem dX7_harvests_20 : decode cX7_harvests 20 = .ok (.iadd, 1) := dk_96 (dk_at dksX7_harvests_0 20 rfl rfl)
theorem dX7_harvests_21 : decode cX7_harvests 21 = .ok (.istore 5, 2) := dk_54 5 (dk_at dksX7_harvests_0 21 rfl rfl)
theorem dX7_harvests_23 : decode cX7_harvests 23 = .ok (.aload_n 0, 1) := dk_42 (dk_at dksX7_harvests_0 23 rfl rfl)
theorem dX7_harvests_24 : decode cX7_harvests 24 = .ok (.getfield 7, 3) := dk_180 0 7 (dk_at dksX7_harvests_1 0 rfl rfl)
theorem dX7_harvests_27 : decode cX7_harvests 27 = .ok (.iload 5, 2) := dk_21 5 (dk_at dksX7_harvests_1 3 rfl rfl)
theorem dX7_harvests_29 : decode cX7_harvests 29 = .ok (.iaload, 1) := dk_46 (dk_at dksX7_harvests_1 5 rfl rfl)
theorem dX7_harvests_30 : decode cX7_harvests 30 = .ok (.bipush 100, 2) := dk_16 100 (dk_at dksX7_harvests_1 6 rfl rfl)
theorem dX7_harvests_32 : decode cX7_harvests 32 = .ok (.if_icmp .le 6, 3) := dk_164 0 6 (dk_at dksX7_harvests_1 8 rfl rfl)
theorem dX7_harvests_35 : decode cX7_harvests 35 = .ok (.goto 21, 3) := dk_167 0 21 (dk_at dksX7_harvests_1 11 rfl rfl)
theorem dX7_harvests_38 : decode cX7_harvests 38 = .ok (.iload_n 3, 1) := dk_29 (dk_at dksX7_harvests_1 14 rfl rfl)
theorem dX7_harvests_39 : decode cX7_harvests 39 = .ok (.aload_n 0, 1) := dk_42 (dk_at dksX7_harvests_1 15 rfl rfl)
theorem dX7_harvests_40 : decode cX7_harvests 40 = .ok (.getfield 7, 3) := dk_180 0 7 (dk_at dksX7_harvests_1 16 rfl rfl)
theorem dX7_harvests_43 : decode cX7_harvests 43 = .ok (.iload 5, 2) := dk_21 5 (dk_at dksX7_harvests_1 19 rfl rfl)
theorem dX7_harvests_45 : decode cX7_harvests 45 = .ok (.iaload, 1) := dk_46 (dk_at dksX7_harvests_1 21 rfl rfl)
theorem dX7_harvests_46 : decode cX7_harvests 46 = .ok (.iadd, 1) := dk_96 (dk_at dksX7_harvests_1 22 rfl rfl)
theorem dX7_harvests_47 : decode cX7_harvests 47 = .ok (.istore_n 3, 1) := dk_62 (dk_at dksX7_harvests_1 23 rfl rfl)
theorem dX7_harvests_48 : decode cX7_harvests 48 = .ok (.aload_n 0, 1) := dk_42 (dk_at dksX7_harvests_2 0 rfl rfl)
theorem dX7_harvests_49 : decode cX7_harvests 49 = .ok (.getfield 7, 3) := dk_180 0 7 (dk_at dksX7_harvests_2 1 rfl rfl)
theorem dX7_harvests_52 : decode cX7_harvests 52 = .ok (.iload 5, 2) := dk_21 5 (dk_at dksX7_harvests_2 4 rfl rfl)
theorem dX7_harvests_54 : decode cX7_harvests 54 = .ok (.iconst 0, 1) := dk_3 (dk_at dksX7_harvests_2 6 rfl rfl)
theorem dX7_harvests_55 : decode cX7_harvests 55 = .ok (.iastore, 1) := dk_79 (dk_at dksX7_harvests_2 7 rfl rfl)
theorem dX7_harvests_56 : decode cX7_harvests 56 = .ok (.iinc 4 1, 3) := dk_132 4 1 (dk_at dksX7_harvests_2 8 rfl rfl)
theorem dX7_harvests_59 : decode cX7_harvests 59 = .ok (.goto (-54), 3) := dk_167 255 202 (dk_at dksX7_harvests_2 11 rfl rfl)
theorem dX7_harvests_62 : decode cX7_harvests 62 = .ok (.aload_n 0, 1) := dk_42 (dk_at dksX7_harvests_2 14 rfl rfl)
theorem dX7_harvests_63 : decode cX7_harvests 63 = .ok (.getfield 7, 3) := dk_180 0 7 (dk_at dksX7_harvests_2 15 rfl rfl)
theorem dX7_harvests_66 : decode cX7_harvests 66 = .ok (.iconst 5, 1) := dk_8 (dk_at dksX7_harvests_2 18 rfl rfl)
theorem dX7_harvests_67 : decode cX7_harvests 67 = .ok (.dup2, 1) := dk_92 (dk_at dksX7_harvests_2 19 rfl rfl)
theorem dX7_harvests_68 : decode cX7_harvests 68 = .ok (.iaload, 1) := dk_46 (dk_at dksX7_harvests_2 20 rfl rfl)
theorem dX7_harvests_69 : decode cX7_harvests 69 = .ok (.iload_n 3, 1) := dk_29 (dk_at dksX7_harvests_2 21 rfl rfl)
theorem dX7_harvests_70 : decode cX7_harvests 70 = .ok (.iadd, 1) := dk_96 (dk_at dksX7_harvests_2 22 rfl rfl)
theorem dX7_harvests_71 : decode cX7_harvests 71 = .ok (.iastore, 1) := dk_79 (dk_at dksX7_harvests_2 23 rfl rfl)
theorem dX7_harvests_72 : decode cX7_harvests 72 = .ok (.iload_n 3, 1) := dk_29 (dk_at dksX7_harvests_3 0 rfl rfl)
theorem dX7_harvests_73 : decode cX7_harvests 73 = .ok (.ireturn, 1) := dk_172 (dk_at dksX7_harvests_3 1 rfl rfl)
def dkwX7_move_1 : List UInt8 := [182, 1, 45, 42, 29, 21, 4, 182, 1, 45, 182, 1, 71, 42, 3, 182, 0, 79, 172]
abbrev dktX7_move_1 : List UInt8 := dkwX7_move_1 ++ []
def dkwX7_move_0 : List UInt8 := [42, 27, 28, 29, 21, 4, 182, 1, 67, 154, 0, 9, 42, 4, 182, 0, 79, 172, 42, 42, 27, 28]
abbrev dktX7_move_0 : List UInt8 := dkwX7_move_0 ++ dktX7_move_1
theorem dksX7_move_0 : cX7_move.data.toList.drop 0 = dktX7_move_0 := by decide +kernel
theorem dksX7_move_1 : cX7_move.data.toList.drop 22 = dktX7_move_1 := dk_seg dksX7_move_0 22 rfl rfl
theorem dX7_move_0 : decode cX7_move 0 = .ok (.aload_n 0, 1) := dk_42 (dk_at dksX7_move_0 0 rfl rfl)
theorem dX7_move_1 : decode cX7_move 1 = .ok (.iload_n 1, 1) := dk_27 (dk_at dksX7_move_0 1 rfl rfl)
theorem dX7_move_2 : decode cX7_move 2 = .ok (.iload_n 2, 1) := dk_28 (dk_at dksX7_move_0 2 rfl rfl)
theorem dX7_move_3 : decode cX7_move 3 = .ok (.iload_n 3, 1) := dk_29 (dk_at dksX7_move_0 3 rfl rfl)
theorem dX7_move_4 : decode cX7_move 4 = .ok (.iload 4, 2) := dk_21 4 (dk_at dksX7_move_0 4 rfl rfl)
theorem dX7_move_6 : decode cX7_move 6 = .ok (.invokevirtual 323, 3) := dk_182 1 67 (dk_at dksX7_move_0 6 rfl rfl)
theorem dX7_move_9 : decode cX7_move 9 = .ok (.ifCond .ne 9, 3) := dk_154 0 9 (dk_at dksX7_move_0 9 rfl rfl)
theorem dX7_move_12 : decode cX7_move 12 = .ok (.aload_n 0, 1) := dk_42 (dk_at dksX7_move_0 12 rfl rfl)
theorem dX7_move_13 : decode cX7_move 13 = .ok (.iconst 1, 1) := dk_4 (dk_at dksX7_move_0 13 rfl rfl)
theorem dX7_move_14 : decode cX7_move 14 = .ok (.invokevirtual 79, 3) := dk_182 0 79 (dk_at dksX7_move_0 14 rfl rfl)
theorem dX7_move_17 : decode cX7_move 17 = .ok (.ireturn, 1) := dk_172 (dk_at dksX7_move_0 17 rfl rfl)
theorem dX7_move_18 : decode cX7_move 18 = .ok (.aload_n 0, 1) := dk_42 (dk_at dksX7_move_0 18 rfl rfl)
theorem dX7_move_19 : decode cX7_move 19 = .ok (.aload_n 0, 1) := dk_42 (dk_at dksX7_move_0 19 rfl rfl)
theorem dX7_move_20 : decode cX7_move 20 = .ok (.iload_n 1, 1) := dk_27 (dk_at dksX7_move_0 20 rfl rfl)
theorem dX7_move_21 : decode cX7_move 21 = .ok (.iload_n 2, 1) := dk_28 (dk_at dksX7_move_0 21 rfl rfl)
theorem dX7_move_22 : decode cX7_move 22 = .ok (.invokevirtual 301, 3) := dk_182 1 45 (dk_at dksX7_move_1 0 rfl rfl)
theorem dX7_move_25 : decode cX7_move 25 = .ok (.aload_n 0, 1) := dk_42 (dk_at dksX7_move_1 3 rfl rfl)
theorem dX7_move_26 : decode cX7_move 26 = .ok (.iload_n 3, 1) := dk_29 (dk_at dksX7_move_1 4 rfl rfl)
theorem dX7_move_27 : decode cX7_move 27 = .ok (.iload 4, 2) := dk_21 4 (dk_at dksX7_move_1 5 rfl rfl)
theorem dX7_move_29 : decode cX7_move 29 = .ok (.invokevirtual 301, 3) := dk_182 1 45 (dk_at dksX7_move_1 7 rfl rfl)
theorem dX7_move_32 : decode cX7_move 32 = .ok (.invokevirtual 327, 3) := dk_182 1 71 (dk_at dksX7_move_1 10 rfl rfl)
theorem dX7_move_35 : decode cX7_move 35 = .ok (.aload_n 0, 1) := dk_42 (dk_at dksX7_move_1 13 rfl rfl)
theorem dX7_move_36 : decode cX7_move 36 = .ok (.iconst 0, 1) := dk_3 (dk_at dksX7_move_1 14 rfl rfl)
theorem dX7_move_37 : decode cX7_move 37 = .ok (.invokevirtual 79, 3) := dk_182 0 79 (dk_at dksX7_move_1 15 rfl rfl)
theorem dX7_move_40 : decode cX7_move 40 = .ok (.ireturn, 1) := dk_172 (dk_at dksX7_move_1 18 rfl rfl)
def dkwX7_mayMove_1 : List UInt8 := [28, 21, 4, 159, 0, 7, 4, 167, 0, 4, 3, 172]
abbrev dktX7_mayMove_1 : List UInt8 := dkwX7_mayMove_1 ++ []
def dkwX7_mayMove_0 : List UInt8 := [42, 27, 28, 182, 1, 42, 153, 0, 28, 42, 29, 21, 4, 182, 1, 42, 153, 0, 18, 27, 29, 160, 0, 9]
abbrev dktX7_mayMove_0 : List UInt8 := dkwX7_mayMove_0 ++ dktX7_mayMove_1
theorem dksX7_mayMove_0 : cX7_mayMove.data.toList.drop 0 = dktX7_mayMove_0 := by decide +kernel
theorem dksX7_mayMove_1 : cX7_mayMove.data.toList.drop 24 = dktX7_mayMove_1 := dk_seg dksX7_mayMove_0 24 rfl rfl
theorem dX7_mayMove_0 : decode cX7_mayMove 0 = .ok (.aload_n 0, 1) := dk_42 (dk_at dksX7_mayMove_0 0 rfl rfl)
theorem dX7_mayMove_1 : decode cX7_mayMove 1 = .ok (.iload_n 1, 1) := dk_27 (dk_at dksX7_mayMove_0 1 rfl rfl)
theorem dX7_mayMove_2 : decode cX7_mayMove 2 = .ok (.iload_n 2, 1) := dk_28 (dk_at dksX7_mayMove_0 2 rfl rfl)
theorem dX7_mayMove_3 : decode cX7_mayMove 3 = .ok (.invokevirtual 298, 3) := dk_182 1 42 (dk_at dksX7_mayMove_0 3 rfl rfl)
theorem dX7_mayMove_6 : decode cX7_mayMove 6 = .ok (.ifCond .eq 28, 3) := dk_153 0 28 (dk_at dksX7_mayMove_0 6 rfl rfl)
theorem dX7_mayMove_9 : decode cX7_mayMove 9 = .ok (.aload_n 0, 1) := dk_42 (dk_at dksX7_mayMove_0 9 rfl rfl)
theorem dX7_mayMove_10 : decode cX7_mayMove 10 = .ok (.iload_n 3, 1) := dk_29 (dk_at dksX7_mayMove_0 10 rfl rfl)
theorem dX7_mayMove_11 : decode cX7_mayMove 11 = .ok (.iload 4, 2) := dk_21 4 (dk_at dksX7_mayMove_0 11 rfl rfl)
theorem dX7_mayMove_13 : decode cX7_mayMove 13 = .ok (.invokevirtual 298, 3) := dk_182 1 42 (dk_at dksX7_mayMove_0 13 rfl rfl)
theorem dX7_mayMove_16 : decode cX7_mayMove 16 = .ok (.ifCond .eq 18, 3) := dk_153 0 18 (dk_at dksX7_mayMove_0 16 rfl rfl)
theorem dX7_mayMove_19 : decode cX7_mayMove 19 = .ok (.iload_n 1, 1) := dk_27 (dk_at dksX7_mayMove_0 19 rfl rfl)
theorem dX7_mayMove_20 : decode cX7_mayMove 20 = .ok (.iload_n 3, 1) := dk_29 (dk_at dksX7_mayMove_0 20 rfl rfl)
theorem dX7_mayMove_21 : decode cX7_mayMove 21 = .ok (.if_icmp .ne 9, 3) := dk_160 0 9 (dk_at dksX7_mayMove_0 21 rfl rfl)
theorem dX7_mayMove_24 : decode cX7_mayMove 24 = .ok (.iload_n 2, 1) := dk_28 (dk_at dksX7_mayMove_1 0 rfl rfl)
theorem dX7_mayMove_25 : decode cX7_mayMove 25 = .ok (.iload 4, 2) := dk_21 4 (dk_at dksX7_mayMove_1 1 rfl rfl)
theorem dX7_mayMove_27 : decode cX7_mayMove 27 = .ok (.if_icmp .eq 7, 3) := dk_159 0 7 (dk_at dksX7_mayMove_1 3 rfl rfl)
theorem dX7_mayMove_30 : decode cX7_mayMove 30 = .ok (.iconst 1, 1) := dk_4 (dk_at dksX7_mayMove_1 6 rfl rfl)
theorem dX7_mayMove_31 : decode cX7_mayMove 31 = .ok (.goto 4, 3) := dk_167 0 4 (dk_at dksX7_mayMove_1 7 rfl rfl)
theorem dX7_mayMove_34 : decode cX7_mayMove 34 = .ok (.iconst 0, 1) := dk_3 (dk_at dksX7_mayMove_1 10 rfl rfl)
theorem dX7_mayMove_35 : decode cX7_mayMove 35 = .ok (.ireturn, 1) := dk_172 (dk_at dksX7_mayMove_1 11 rfl rfl)
def dkwX7_moves_2 : List UInt8 := [167, 255, 211, 177]
abbrev dktX7_moves_2 : List UInt8 := dkwX7_moves_2 ++ []
def dkwX7_moves_1 : List UInt8 := [96, 42, 180, 0, 7, 28, 29, 96, 46, 79, 42, 180, 0, 7, 28, 29, 96, 21, 4, 79, 132, 3, 1]
abbrev dktX7_moves_1 : List UInt8 := dkwX7_moves_1 ++ dktX7_moves_2
def dkwX7_moves_0 : List UInt8 := [3, 62, 29, 16, 16, 162, 0, 45, 42, 180, 0, 7, 27, 29, 96, 46, 54, 4, 42, 180, 0, 7, 27, 29]
abbrev dktX7_moves_0 : List UInt8 := dkwX7_moves_0 ++ dktX7_moves_1
theorem dksX7_moves_0 : cX7_moves.data.toList.drop 0 = dktX7_moves_0 := by decide +kernel
theorem dksX7_moves_1 : cX7_moves.data.toList.drop 24 = dktX7_moves_1 := dk_seg dksX7_moves_0 24 rfl rfl
theorem dksX7_moves_2 : cX7_moves.data.toList.drop 47 = dktX7_moves_2 := dk_seg dksX7_moves_1 23 rfl rfl
theorem dX7_moves_0 : decode cX7_moves 0 = .ok (.iconst 0, 1) := dk_3 (dk_at dksX7_moves_0 0 rfl rfl)
theorem dX7_moves_1 : decode cX7_moves 1 = .ok (.istore_n 3, 1) := dk_62 (dk_at dksX7_moves_0 1 rfl rfl)
theorem dX7_moves_2 : decode cX7_moves 2 = .ok (.iload_n 3, 1) := dk_29 (dk_at dksX7_moves_0 2 rfl rfl)
theorem dX7_moves_3 : decode cX7_moves 3 = .ok (.bipush 16, 2) := dk_16 16 (dk_at dksX7_moves_0 3 rfl rfl)
theorem dX7_moves_5 : decode cX7_moves 5 = .ok (.if_icmp .ge 45, 3) := dk_162 0 45 (dk_at dksX7_moves_0 5 rfl rfl)
theorem dX7_moves_8 : decode cX7_moves 8 = .ok (.aload_n 0, 1) := dk_42 (dk_at dksX7_moves_0 8 rfl rfl)
theorem dX7_moves_9 : decode cX7_moves 9 = .ok (.getfield 7, 3) := dk_180 0 7 (dk_at dksX7_moves_0 9 rfl rfl)
theorem dX7_moves_12 : decode cX7_moves 12 = .ok (.iload_n 1, 1) := dk_27 (dk_at dksX7_moves_0 12 rfl rfl)
theorem dX7_moves_13 : decode cX7_moves 13 = .ok (.iload_n 3, 1) := dk_29 (dk_at dksX7_moves_0 13 rfl rfl)
theorem dX7_moves_14 : decode cX7_moves 14 = .ok (.iadd, 1) := dk_96 (dk_at dksX7_moves_0 14 rfl rfl)
theorem dX7_moves_15 : decode cX7_moves 15 = .ok (.iaload, 1) := dk_46 (dk_at dksX7_moves_0 15 rfl rfl)
theorem dX7_moves_16 : decode cX7_moves 16 = .ok (.istore 4, 2) := dk_54 4 (dk_at dksX7_moves_0 16 rfl rfl)
theorem dX7_moves_18 : decode cX7_moves 18 = .ok (.aload_n 0, 1) := dk_42 (dk_at dksX7_moves_0 18 rfl rfl)
theorem dX7_moves_19 : decode cX7_moves 19 = .ok (.getfield 7, 3) := dk_180 0 7 (dk_at dksX7_moves_0 19 rfl rfl)
theorem dX7_moves_22 : decode cX7_moves 22 = .ok (.iload_n 1, 1) := dk_27 (dk_at dksX7_moves_0 22 rfl rfl)
theorem dX7_moves_23 : decode cX7_moves 23 = .ok (.iload_n 3, 1) := dk_29 (dk_at dksX7_moves_0 23 rfl rfl)
theorem dX7_moves_24 : decode cX7_moves 24 = .ok (.iadd, 1) := dk_96 (dk_at dksX7_moves_1 0 rfl rfl)
theorem dX7_moves_25 : decode cX7_moves 25 = .ok (.aload_n 0, 1) := dk_42 (dk_at dksX7_moves_1 1 rfl rfl)
theorem dX7_moves_26 : decode cX7_moves 26 = .ok (.getfield 7, 3) := dk_180 0 7 (dk_at dksX7_moves_1 2 rfl rfl)
theorem dX7_moves_29 : decode cX7_moves 29 = .ok (.iload_n 2, 1) := dk_28 (dk_at dksX7_moves_1 5 rfl rfl)
theorem dX7_moves_30 : decode cX7_moves 30 = .ok (.iload_n 3, 1) := dk_29 (dk_at dksX7_moves_1 6 rfl rfl)
theorem dX7_moves_31 : decode cX7_moves 31 = .ok (.iadd, 1) := dk_96 (dk_at dksX7_moves_1 7 rfl rfl)
theorem dX7_moves_32 : decode cX7_moves 32 = .ok (.iaload, 1) := dk_46 (dk_at dksX7_moves_1 8 rfl rfl)
theorem dX7_moves_33 : decode cX7_moves 33 = .ok (.iastore, 1) := dk_79 (dk_at dksX7_moves_1 9 rfl rfl)
theorem dX7_moves_34 : decode cX7_moves 34 = .ok (.aload_n 0, 1) := dk_42 (dk_at dksX7_moves_1 10 rfl rfl)
theorem dX7_moves_35 : decode cX7_moves 35 = .ok (.getfield 7, 3) := dk_180 0 7 (dk_at dksX7_moves_1 11 rfl rfl)
theorem dX7_moves_38 : decode cX7_moves 38 = .ok (.iload_n 2, 1) := dk_28 (dk_at dksX7_moves_1 14 rfl rfl)
theorem dX7_moves_39 : decode cX7_moves 39 = .ok (.iload_n 3, 1) := dk_29 (dk_at dksX7_moves_1 15 rfl rfl)
theorem dX7_moves_40 : decode cX7_moves 40 = .ok (.iadd, 1) := dk_96 (dk_at dksX7_moves_1 16 rfl rfl)
theorem dX7_moves_41 : decode cX7_moves 41 = .ok (.iload 4, 2) := dk_21 4 (dk_at dksX7_moves_1 17 rfl rfl)
theorem dX7_moves_43 : decode cX7_moves 43 = .ok (.iastore, 1) := dk_79 (dk_at dksX7_moves_1 19 rfl rfl)
theorem dX7_moves_44 : decode cX7_moves 44 = .ok (.iinc 3 1, 3) := dk_132 3 1 (dk_at dksX7_moves_1 20 rfl rfl)
theorem dX7_moves_47 : decode cX7_moves 47 = .ok (.goto (-45), 3) := dk_167 255 211 (dk_at dksX7_moves_2 0 rfl rfl)
theorem dX7_moves_50 : decode cX7_moves 50 = .ok (.return_, 1) := dk_177 (dk_at dksX7_moves_2 3 rfl rfl)
def dkwX7_split_7 : List UInt8 := [42, 180, 0, 7, 21, 4, 4, 96, 21, 5, 79, 42, 21, 5, 182, 0, 76, 172]
abbrev dktX7_split_7 : List UInt8 := dkwX7_split_7 ++ []
def dkwX7_split_6 : List UInt8 := [180, 0, 7, 29, 4, 96, 46, 5, 108, 54, 5, 42, 180, 0, 7, 29, 4, 96, 92, 46, 21, 5, 100, 79]
abbrev dktX7_split_6 : List UInt8 := dkwX7_split_6 ++ dktX7_split_7
def dkwX7_split_5 : List UInt8 := [42, 27, 21, 5, 182, 1, 45, 42, 28, 21, 5, 182, 1, 45, 182, 1, 71, 132, 5, 2, 167, 255, 212, 42]
abbrev dktX7_split_5 : List UInt8 := dkwX7_split_5 ++ dktX7_split_6
def dkwX7_split_4 : List UInt8 := [21, 5, 42, 180, 0, 7, 29, 46, 162, 0, 39, 21, 5, 42, 180, 0, 7, 21, 4, 46, 162, 0, 27, 42]
abbrev dktX7_split_4 : List UInt8 := dkwX7_split_4 ++ dktX7_split_5
def dkwX7_split_3 : List UInt8 := [16, 16, 42, 180, 0, 7, 21, 4, 46, 104, 162, 0, 10, 42, 16, 7, 182, 0, 72, 172, 4, 54, 5]
abbrev dktX7_split_3 : List UInt8 := dkwX7_split_3 ++ dktX7_split_4
def dkwX7_split_2 : List UInt8 := [157, 0, 36, 42, 180, 0, 7, 21, 4, 6, 96, 46, 2, 160, 0, 23, 42, 21, 4, 5, 182, 1, 27]
abbrev dktX7_split_2 : List UInt8 := dkwX7_split_2 ++ dktX7_split_3
def dkwX7_split_1 : List UInt8 := [182, 0, 72, 172, 27, 184, 0, 217, 62, 28, 184, 0, 217, 54, 4, 42, 180, 0, 7, 21, 4, 4, 96, 46]
abbrev dktX7_split_1 : List UInt8 := dkwX7_split_1 ++ dktX7_split_2
def dkwX7_split_0 : List UInt8 := [42, 27, 182, 1, 18, 153, 0, 16, 42, 28, 182, 1, 18, 153, 0, 8, 27, 28, 160, 0, 9, 42, 4]
abbrev dktX7_split_0 : List UInt8 := dkwX7_split_0 ++ dktX7_split_1
theorem dksX7_split_0 : cX7_split.data.toList.drop 0 = dktX7_split_0 := by decide +kernel
theorem dksX7_split_1 : cX7_split.data.toList.drop 23 = dktX7_split_1 := dk_seg dksX7_split_0 23 rfl rfl
theorem dksX7_split_2 : cX7_split.data.toList.drop 47 = dktX7_split_2 := dk_seg dksX7_split_1 24 rfl rfl
theorem dksX7_split_3 : cX7_split.data.toList.drop 70 = dktX7_split_3 := dk_seg dksX7_split_2 23 rfl rfl
theorem dksX7_split_4 : cX7_split.data.toList.drop 93 = dktX7_split_4 := dk_seg dksX7_split_3 23 rfl rfl
theorem dksX7_split_5 : cX7_split.data.toList.drop 117 = dktX7_split_5 := dk_seg dksX7_split_4 24 rfl rfl
theorem dksX7_split_6 : cX7_split.data.toList.drop 141 = dktX7_split_6 := dk_seg dksX7_split_5 24 rfl rfl
theorem dksX7_split_7 : cX7_split.data.toList.drop 165 = dktX7_split_7 := dk_seg dksX7_split_6 24 rfl rfl
theorem dX7_split_0 : decode cX7_split 0 = .ok (.aload_n 0, 1) := dk_42 (dk_at dksX7_split_0 0 rfl rfl)
theorem dX7_split_1 : decode cX7_split 1 = .ok (.iload_n 1, 1) := dk_27 (dk_at dksX7_split_0 1 rfl rfl)
theorem dX7_split_2 : decode cX7_split 2 = .ok (.invokevirtual 274, 3) := dk_182 1 18 (dk_at dksX7_split_0 2 rfl rfl)
theorem dX7_split_5 : decode cX7_split 5 = .ok (.ifCond .eq 16, 3) := dk_153 0 16 (dk_at dksX7_split_0 5 rfl rfl)
theorem dX7_split_8 : decode cX7_split 8 = .ok (.aload_n 0, 1) := dk_42 (dk_at dksX7_split_0 8 rfl rfl)
theorem dX7_split_9 : decode cX7_split 9 = .ok (.iload_n 2, 1) := dk_28 (dk_at dksX7_split_0 9 rfl rfl)
theorem dX7_split_10 : decode cX7_split 10 = .ok (.invokevirtual 274, 3) := dk_182 1 18 (dk_at dksX7_split_0 10 rfl rfl)
theorem dX7_split_13 : decode cX7_split 13 = .ok (.ifCond .eq 8, 3) := dk_153 0 8 (dk_at dksX7_split_0 13 rfl rfl)
theorem dX7_split_16 : decode cX7_split 16 = .ok (.iload_n 1, 1) := dk_27 (dk_at dksX7_split_0 16 rfl rfl)
theorem dX7_split_17 : decode cX7_split 17 = .ok (.iload_n 2, 1) := dk_28 (dk_at dksX7_split_0 17 rfl rfl)
theorem dX7_split_18 : decode cX7_split 18 = .ok (.if_icmp .ne 9, 3) := dk_160 0 9 (dk_at dksX7_split_0 18 rfl rfl)
theorem dX7_split_21 : decode cX7_split 21 = .ok (.aload_n 0, 1) := dk_42 (dk_at dksX7_split_0 21 rfl rfl)
theorem dX7_split_22 : decode cX7_split 22 = .ok (.iconst 1, 1) := dk_4 (dk_at dksX7_split_0 22 rfl rfl)
theorem dX7_split_23 : decode cX7_split 23 = .ok (.invokevirtual 72, 3) := dk_182 0 72 (dk_at dksX7_split_1 0 rfl rfl)
theorem dX7_split_26 : decode cX7_split 26 = .ok (.ireturn, 1) := dk_172 (dk_at dksX7_split_1 3 rfl rfl)
theorem dX7_split_27 : decode cX7_split 27 = .ok (.iload_n 1, 1) := dk_27 (dk_at dksX7_split_1 4 rfl rfl)
theorem dX7_split_28 : decode cX7_split 28 = .ok (.invokestatic 217, 3) := dk_184 0 217 (dk_at dksX7_split_1 5 rfl rfl)
theorem dX7_split_31 : decode cX7_split 31 = .ok (.istore_n 3, 1) := dk_62 (dk_at dksX7_split_1 8 rfl rfl)
theorem dX7_split_32 : decode cX7_split 32 = .ok (.iload_n 2, 1) := dk_28 (dk_at dksX7_split_1 9 rfl rfl)
theorem dX7_split_33 : decode cX7_split 33 = .ok (.invokestatic 217, 3) := dk_184 0 217 (dk_at dksX7_split_1 10 rfl rfl)
theorem dX7_split_36 : decode cX7_split 36 = .ok (.istore 4, 2) := dk_54 4 (dk_at dksX7_split_1 13 rfl rfl)
theorem dX7_split_38 : decode cX7_split 38 = .ok (.aload_n 0, 1) := dk_42 (dk_at dksX7_split_1 15 rfl rfl)
theorem dX7_split_39 : decode cX7_split 39 = .ok (.getfield 7, 3) := dk_180 0 7 (dk_at dksX7_split_1 16 rfl rfl)
theorem dX7_split_42 : decode cX7_split 42 = .ok (.iload 4, 2) := dk_21 4 (dk_at dksX7_split_1 19 rfl rfl)
theorem dX7_split_44 : decode cX7_split 44 = .ok (.iconst 1, 1) := dk_4 (dk_at dksX7_split_1 21 rfl rfl)
theorem dX7_split_45 : decode cX7_split 45 = .ok (.iadd, 1) := dk_96 (dk_at dksX7_split_1 22 rfl rfl)
theorem dX7_split_46 : decode cX7_split 46 = .ok (.iaload, 1) := dk_46 (dk_at dksX7_split_1 23 rfl rfl)
theorem dX7_split_47 : decode cX7_split 47 = .ok (.ifCond .gt 36, 3) := dk_157 0 36 (dk_at dksX7_split_2 0 rfl rfl)
theorem dX7_split_50 : decode cX7_split 50 = .ok (.aload_n 0, 1) := dk_42 (dk_at dksX7_split_2 3 rfl rfl)
theorem dX7_split_51 : decode cX7_split 51 = .ok (.getfield 7, 3) := dk_180 0 7 (dk_at dksX7_split_2 4 rfl rfl)
theorem dX7_split_54 : decode cX7_split 54 = .ok (.iload 4, 2) := dk_21 4 (dk_at dksX7_split_2 7 rfl rfl)
theorem dX7_split_56 : decode cX7_split 56 = .ok (.iconst 3, 1) := dk_6 (dk_at dksX7_split_2 9 rfl rfl)
theorem dX7_split_57 : decode cX7_split 57 = .ok (.iadd, 1) := dk_96 (dk_at dksX7_split_2 10 rfl rfl)
theorem dX7_split_58 : decode cX7_split 58 = .ok (.iaload, 1) := dk_46 (dk_at dksX7_split_2 11 rfl rfl)
theorem dX7_split_59 : decode cX7_split 59 = .ok (.iconst (-1), 1) := dk_2 (dk_at dksX7_split_2 12 rfl rfl)
theorem dX7_split_60 : decode cX7_split 60 = .ok (.if_icmp .ne 23, 3) := dk_160 0 23 (dk_at dksX7_split_2 13 rfl rfl)
theorem dX7_split_63 : decode cX7_split 63 = .ok (.aload_n 0, 1) := dk_42 (dk_at dksX7_split_2 16 rfl rfl)
theorem dX7_split_64 : decode cX7_split 64 = .ok (.iload 4, 2) := dk_21 4 (dk_at dksX7_split_2 17 rfl rfl)
theorem dX7_split_66 : decode cX7_split 66 = .ok (.iconst 2, 1) := dk_5 (dk_at dksX7_split_2 19 rfl rfl)
theorem dX7_split_67 : decode cX7_split 67 = .ok (.invokevirtual 283, 3) := dk_182 1 27 (dk_at dksX7_split_2 20 rfl rfl)
theorem dX7_split_70 : decode cX7_split 70 = .ok (.bipush 16, 2) := dk_16 16 (dk_at dksX7_split_3 0 rfl rfl)
theorem dX7_split_72 : decode cX7_split 72 = .ok (.aload_n 0, 1) := dk_42 (dk_at dksX7_split_3 2 rfl rfl)
theorem dX7_split_73 : decode cX7_split 73 = .ok (.getfield 7, 3) := dk_180 0 7 (dk_at dksX7_split_3 3 rfl rfl)
theorem dX7_split_76 : decode cX7_split 76 = .ok (.iload 4, 2) := dk_21 4 (dk_at dksX7_split_3 6 rfl rfl)
theorem dX7_split_78 : decode cX7_split 78 = .ok (.iaload, 1) := dk_46 (dk_at dksX7_split_3 8 rfl rfl)
theorem dX7_split_79 : decode cX7_split 79 = .ok (.imul, 1) := dk_104 (dk_at dksX7_split_3 9 rfl rfl)
theorem dX7_split_80 : decode cX7_split 80 = .ok (.if_icmp .ge 10, 3) := dk_162 0 10 (dk_at dksX7_split_3 10 rfl rfl)
theorem dX7_split_83 : decode cX7_split 83 = .ok (.aload_n 0, 1) := dk_42 (dk_at dksX7_split_3 13 rfl rfl)
theorem dX7_split_84 : decode cX7_split 84 = .ok (.bipush 7, 2) := dk_16 7 (dk_at dksX7_split_3 14 rfl rfl)
theorem dX7_split_86 : decode cX7_split 86 = .ok (.invokevirtual 72, 3) := dk_182 0 72 (dk_at dksX7_split_3 16 rfl rfl)
theorem dX7_split_89 : decode cX7_split 89 = .ok (.ireturn, 1) := dk_172 (dk_at dksX7_split_3 19 rfl rfl)
theorem dX7_split_90 : decode cX7_split 90 = .ok (.iconst 1, 1) := dk_4 (dk_at dksX7_split_3 20 rfl rfl)
theorem dX7_split_91 : decode cX7_split 91 = .ok (.istore 5, 2) := dk_54 5 (dk_at dksX7_split_3 21 rfl rfl)
theorem dX7_split_93 : decode cX7_split 93 = .ok (.iload 5, 2) := dk_21 5 (dk_at dksX7_split_4 0 rfl rfl)
theorem dX7_split_95 : decode cX7_split 95 = .ok (.aload_n 0, 1) := dk_42 (dk_at dksX7_split_4 2 rfl rfl)
theorem dX7_split_96 : decode cX7_split 96 = .ok (.getfield 7, 3) := dk_180 0 7 (dk_at dksX7_split_4 3 rfl rfl)
theorem dX7_split_99 : decode cX7_split 99 = .ok (.iload_n 3, 1) := dk_29 (dk_at dksX7_split_4 6 rfl rfl)
theorem dX7_split_100 : decode cX7_split 100 = .ok (.iaload, 1) := dk_46 (dk_at dksX7_split_4 7 rfl rfl)
theorem dX7_split_101 : decode cX7_split 101 = .ok (.if_icmp .ge 39, 3) := dk_162 0 39 (dk_at dksX7_split_4 8 rfl rfl)
theorem dX7_split_104 : decode cX7_split 104 = .ok (.iload 5, 2) := dk_21 5 (dk_at dksX7_split_4 11 rfl rfl)
theorem dX7_split_106 : decode cX7_split 106 = .ok (.aload_n 0, 1) := dk_42 (dk_at dksX7_split_4 13 rfl rfl)
theorem dX7_split_107 : decode cX7_split 107 = .ok (.getfield 7, 3) := dk_180 0 7 (dk_at dksX7_split_4 14 rfl rfl)
theorem dX7_split_110 : decode cX7_split 110 = .ok (.iload 4, 2) := dk_21 4 (dk_at dksX7_split_4 17 rfl rfl)
theorem dX7_split_112 : decode cX7_split 112 = .ok (.iaload, 1) := dk_46 (dk_at dksX7_split_4 19 rfl rfl)
theorem dX7_split_113 : decode cX7_split 113 = .ok (.if_icmp .ge 27, 3) := dk_162 0 27 (dk_at dksX7_split_4 20 rfl rfl)
theorem dX7_split_116 : decode cX7_split 116 = .ok (.aload_n 0, 1) := dk_42 (dk_at dksX7_split_4 23 rfl rfl)
theorem dX7_split_117 : decode cX7_split 117 = .ok (.aload_n 0, 1) := dk_42 (dk_at dksX7_split_5 0 rfl rfl)
theorem dX7_split_118 : decode cX7_split 118 = .ok (.iload_n 1, 1) := dk_27 (dk_at dksX7_split_5 1 rfl rfl)
theorem dX7_split_119 : decode cX7_split 119 = .ok (.iload 5, 2) := dk_21 5 (dk_at dksX7_split_5 2 rfl rfl)
theorem dX7_split_121 : decode cX7_split 121 = .ok (.invokevirtual 301, 3) := dk_182 1 45 (dk_at dksX7_split_5 4 rfl rfl)
theorem dX7_split_124 : decode cX7_split 124 = .ok (.aload_n 0, 1) := dk_42 (dk_at dksX7_split_5 7 rfl rfl)
theorem dX7_split_125 : decode cX7_split 125 = .ok (.iload_n 2, 1) := dk_28 (dk_at dksX7_split_5 8 rfl rfl)
theorem dX7_split_126 : decode cX7_split 126 = .ok (.iload 5, 2) := dk_21 5 (dk_at dksX7_split_5 9 rfl rfl)
theorem dX7_split_128 : decode cX7_split 128 = .ok (.invokevirtual 301, 3) := dk_182 1 45 (dk_at dksX7_split_5 11 rfl rfl)
theorem dX7_split_131 : decode cX7_split 131 = .ok (.invokevirtual 327, 3) := dk_182 1 71 (dk_at dksX7_split_5 14 rfl rfl)
theorem dX7_split_134 : decode cX7_split 134 = .ok (.iinc 5 2, 3) := dk_132 5 2 (dk_at dksX7_split_5 17 rfl rfl)
theorem dX7_split_137 : decode cX7_split 137 = .ok (.goto (-44), 3) := dk_167 255 212 (dk_at dksX7_split_5 20 rfl rfl)
theorem dX7_split_140 : decode cX7_split 140 = .ok (.aload_n 0, 1) := dk_42 (dk_at dksX7_split_5 23 rfl rfl)
theorem dX7_split_141 : decode cX7_split 141 = .ok (.getfield 7, 3) := dk_180 0 7 (dk_at dksX7_split_6 0 rfl rfl)
theorem dX7_split_144 : decode cX7_split 144 = .ok (.iload_n 3, 1) := dk_29 (dk_at dksX7_split_6 3 rfl rfl)
theorem dX7_split_145 : decode cX7_split 145 = .ok (.iconst 1, 1) := dk_4 (dk_at dksX7_split_6 4 rfl rfl)
theorem dX7_split_146 : decode cX7_split 146 = .ok (.iadd, 1) := dk_96 (dk_at dksX7_split_6 5 rfl rfl)
theorem dX7_split_147 : decode cX7_split 147 = .ok (.iaload, 1) := dk_46 (dk_at dksX7_split_6 6 rfl rfl)
theorem dX7_split_148 : decode cX7_split 148 = .ok (.iconst 2, 1) := dk_5 (dk_at dksX7_split_6 7 rfl rfl)
theorem dX7_split_149 : decode cX7_split 149 = .ok (.idiv, 1) := dk_108 (dk_at dksX7_split_6 8 rfl rfl)
theorem dX7_split_150 : decode cX7_split 150 = .ok (.istore 5, 2) := dk_54 5 (dk_at dksX7_split_6 9 rfl rfl)
theorem dX7_split_152 : decode cX7_split 152 = .ok (.aload_n 0, 1) := dk_42 (dk_at dksX7_split_6 11 rfl rfl)
theorem dX7_split_153 : decode cX7_split 153 = .ok (.getfield 7, 3) := dk_180 0 7 (dk_at dksX7_split_6 12 rfl rfl)
theorem dX7_split_156 : decode cX7_split 156 = .ok (.iload_n 3, 1) := dk_29 (dk_at dksX7_split_6 15 rfl rfl)
theorem dX7_split_157 : decode cX7_split 157 = .ok (.iconst 1, 1) := dk_4 (dk_at dksX7_split_6 16 rfl rfl)
theorem dX7_split_158 : decode cX7_split 158 = .ok (.iadd, 1) := dk_96 (dk_at dksX7_split_6 17 rfl rfl)
theorem dX7_split_159 : decode cX7_split 159 = .ok (.dup2, 1) := dk_92 (dk_at dksX7_split_6 18 rfl rfl)
theorem dX7_split_160 : decode cX7_split 160 = .ok (.iaload, 1) := dk_46 (dk_at dksX7_split_6 19 rfl rfl)
theorem dX7_split_161 : decode cX7_split 161 = .ok (.iload 5, 2) := dk_21 5 (dk_at dksX7_split_6 20 rfl rfl)
theorem dX7_split_163 : decode cX7_split 163 = .ok (.isub, 1) := dk_100 (dk_at dksX7_split_6 22 rfl rfl)
theorem dX7_split_164 : decode cX7_split 164 = .ok (.iastore, 1) := dk_79 (dk_at dksX7_split_6 23 rfl rfl)
theorem dX7_split_165 : decode cX7_split 165 = .ok (.aload_n 0, 1) := dk_42 (dk_at dksX7_split_7 0 rfl rfl)
theorem dX7_split_166 : decode cX7_split 166 = .ok (.getfield 7, 3) := dk_180 0 7 (dk_at dksX7_split_7 1 rfl rfl)
theorem dX7_split_169 : decode cX7_split 169 = .ok (.iload 4, 2) := dk_21 4 (dk_at dksX7_split_7 4 rfl rfl)
theorem dX7_split_171 : decode cX7_split 171 = .ok (.iconst 1, 1) := dk_4 (dk_at dksX7_split_7 6 rfl rfl)
theorem dX7_split_172 : decode cX7_split 172 = .ok (.iadd, 1) := dk_96 (dk_at dksX7_split_7 7 rfl rfl)
theorem dX7_split_173 : decode cX7_split 173 = .ok (.iload 5, 2) := dk_21 5 (dk_at dksX7_split_7 8 rfl rfl)
theorem dX7_split_175 : decode cX7_split 175 = .ok (.iastore, 1) := dk_79 (dk_at dksX7_split_7 10 rfl rfl)
theorem dX7_split_176 : decode cX7_split 176 = .ok (.aload_n 0, 1) := dk_42 (dk_at dksX7_split_7 11 rfl rfl)
theorem dX7_split_177 : decode cX7_split 177 = .ok (.iload 5, 2) := dk_21 5 (dk_at dksX7_split_7 12 rfl rfl)
theorem dX7_split_179 : decode cX7_split 179 = .ok (.invokevirtual 76, 3) := dk_182 0 76 (dk_at dksX7_split_7 14 rfl rfl)
theorem dX7_split_182 : decode cX7_split 182 = .ok (.ireturn, 1) := dk_172 (dk_at dksX7_split_7 17 rfl rfl)
def dkwX7_join_10 : List UInt8 := [4, 96, 46, 182, 0, 76, 172]
abbrev dktX7_join_10 : List UInt8 := dkwX7_join_10 ++ []
def dkwX7_join_9 : List UInt8 := [180, 0, 7, 29, 4, 96, 3, 79, 42, 180, 0, 7, 29, 5, 96, 3, 79, 42, 42, 180, 0, 7, 21, 4]
abbrev dktX7_join_9 : List UInt8 := dkwX7_join_9 ++ dktX7_join_10
def dkwX7_join_8 : List UInt8 := [21, 4, 6, 96, 42, 180, 0, 7, 29, 6, 96, 46, 79, 42, 180, 0, 7, 29, 6, 96, 2, 79, 42]
abbrev dktX7_join_8 : List UInt8 := dkwX7_join_8 ++ dktX7_join_9
def dkwX7_join_7 : List UInt8 := [132, 5, 1, 167, 255, 226, 42, 180, 0, 7, 21, 4, 6, 96, 46, 2, 160, 0, 20, 42, 180, 0, 7]
abbrev dktX7_join_7 : List UInt8 := dkwX7_join_7 ++ dktX7_join_8
def dkwX7_join_6 : List UInt8 := [180, 0, 7, 29, 46, 104, 162, 0, 22, 42, 180, 0, 7, 29, 16, 6, 96, 21, 5, 96, 3, 79]
abbrev dktX7_join_6 : List UInt8 := dkwX7_join_6 ++ dktX7_join_7
def dkwX7_join_5 : List UInt8 := [42, 21, 4, 42, 29, 3, 182, 1, 27, 182, 0, 188, 96, 79, 3, 54, 5, 21, 5, 16, 16, 42]
abbrev dktX7_join_5 : List UInt8 := dkwX7_join_5 ++ dktX7_join_6
def dkwX7_join_4 : List UInt8 := [21, 4, 5, 96, 92, 46, 42, 180, 0, 7, 29, 5, 96, 46, 96, 79, 42, 180, 0, 7, 16, 7, 92, 46]
abbrev dktX7_join_4 : List UInt8 := dkwX7_join_4 ++ dktX7_join_5
def dkwX7_join_3 : List UInt8 := [180, 0, 7, 21, 4, 4, 96, 92, 46, 42, 180, 0, 7, 29, 4, 96, 46, 96, 79, 42, 180, 0, 7]
abbrev dktX7_join_3 : List UInt8 := dkwX7_join_3 ++ dktX7_join_4
def dkwX7_join_2 : List UInt8 := [180, 0, 7, 21, 4, 4, 96, 46, 96, 19, 1, 74, 164, 0, 9, 42, 7, 182, 0, 72, 172, 42]
abbrev dktX7_join_2 : List UInt8 := dkwX7_join_2 ++ dktX7_join_3
def dkwX7_join_1 : List UInt8 := [182, 0, 72, 172, 27, 184, 0, 217, 62, 28, 184, 0, 217, 54, 4, 42, 180, 0, 7, 29, 4, 96, 46, 42]
abbrev dktX7_join_1 : List UInt8 := dkwX7_join_1 ++ dktX7_join_2
def dkwX7_join_0 : List UInt8 := [42, 27, 182, 1, 18, 153, 0, 16, 42, 28, 182, 1, 18, 153, 0, 8, 27, 28, 160, 0, 9, 42, 4]
abbrev dktX7_join_0 : List UInt8 := dkwX7_join_0 ++ dktX7_join_1
theorem dksX7_join_0 : cX7_join.data.toList.drop 0 = dktX7_join_0 := by decide +kernel
theorem dksX7_join_1 : cX7_join.data.toList.drop 23 = dktX7_join_1 := dk_seg dksX7_join_0 23 rfl rfl
theorem dksX7_join_2 : cX7_join.data.toList.drop 47 = dktX7_join_2 := dk_seg dksX7_join_1 24 rfl rfl
theorem dksX7_join_3 : cX7_join.data.toList.drop 69 = dktX7_join_3 := dk_seg dksX7_join_2 22 rfl rfl
theorem dksX7_join_4 : cX7_join.data.toList.drop 92 = dktX7_join_4 := dk_seg dksX7_join_3 23 rfl rfl
theorem dksX7_join_5 : cX7_join.data.toList.drop 116 = dktX7_join_5 := dk_seg dksX7_join_4 24 rfl rfl
theorem dksX7_join_6 : cX7_join.data.toList.drop 138 = dktX7_join_6 := dk_seg dksX7_join_5 22 rfl rfl
theorem dksX7_join_7 : cX7_join.data.toList.drop 160 = dktX7_join_7 := dk_seg dksX7_join_6 22 rfl rfl
theorem dksX7_join_8 : cX7_join.data.toList.drop 183 = dktX7_join_8 := dk_seg dksX7_join_7 23 rfl rfl
theorem dksX7_join_9 : cX7_join.data.toList.drop 206 = dktX7_join_9 := dk_seg dksX7_join_8 23 rfl rfl
theorem dksX7_join_10 : cX7_join.data.toList.drop 230 = dktX7_join_10 := dk_seg dksX7_join_9 24 rfl rfl
theorem dX7_join_0 : decode cX7_join 0 = .ok (.aload_n 0, 1) := dk_42 (dk_at dksX7_join_0 0 rfl rfl)
theorem dX7_join_1 : decode cX7_join 1 = .ok (.iload_n 1, 1) := dk_27 (dk_at dksX7_join_0 1 rfl rfl)
theorem dX7_join_2 : decode cX7_join 2 = .ok (.invokevirtual 274, 3) := dk_182 1 18 (dk_at dksX7_join_0 2 rfl rfl)
theorem dX7_join_5 : decode cX7_join 5 = .ok (.ifCond .eq 16, 3) := dk_153 0 16 (dk_at dksX7_join_0 5 rfl rfl)
theorem dX7_join_8 : decode cX7_join 8 = .ok (.aload_n 0, 1) := dk_42 (dk_at dksX7_join_0 8 rfl rfl)
theorem dX7_join_9 : decode cX7_join 9 = .ok (.iload_n 2, 1) := dk_28 (dk_at dksX7_join_0 9 rfl rfl)
theorem dX7_join_10 : decode cX7_join 10 = .ok (.invokevirtual 274, 3) := dk_182 1 18 (dk_at dksX7_join_0 10 rfl rfl)
theorem dX7_join_13 : decode cX7_join 13 = .ok (.ifCond .eq 8, 3) := dk_153 0 8 (dk_at dksX7_join_0 13 rfl rfl)
theorem dX7_join_16 : decode cX7_join 16 = .ok (.iload_n 1, 1) := dk_27 (dk_at dksX7_join_0 16 rfl rfl)
theorem dX7_join_17 : decode cX7_join 17 = .ok (.iload_n 2, 1) := dk_28 (dk_at dksX7_join_0 17 rfl rfl)
theorem dX7_join_18 : decode cX7_join 18 = .ok (.if_icmp .ne 9, 3) := dk_160 0 9 (dk_at dksX7_join_0 18 rfl rfl)
theorem dX7_join_21 : decode cX7_join 21 = .ok (.aload_n 0, 1) := dk_42 (dk_at dksX7_join_0 21 rfl rfl)
theorem dX7_join_22 : decode cX7_join 22 = .ok (.iconst 1, 1) := dk_4 (dk_at dksX7_join_0 22 rfl rfl)
theorem dX7_join_23 : decode cX7_join 23 = .ok (.invokevirtual 72, 3) := dk_182 0 72 (dk_at dksX7_join_1 0 rfl rfl)
theorem dX7_join_26 : decode cX7_join 26 = .ok (.ireturn, 1) := dk_172 (dk_at dksX7_join_1 3 rfl rfl)
theorem dX7_join_27 : decode cX7_join 27 = .ok (.iload_n 1, 1) := dk_27 (dk_at dksX7_join_1 4 rfl rfl)
theorem dX7_join_28 : decode cX7_join 28 = .ok (.invokestatic 217, 3) := dk_184 0 217 (dk_at dksX7_join_1 5 rfl rfl)
theorem dX7_join_31 : decode cX7_join 31 = .ok (.istore_n 3, 1) := dk_62 (dk_at dksX7_join_1 8 rfl rfl)
theorem dX7_join_32 : decode cX7_join 32 = .ok (.iload_n 2, 1) := dk_28 (dk_at dksX7_join_1 9 rfl rfl)
theorem dX7_join_33 : decode cX7_join 33 = .ok (.invokestatic 217, 3) := dk_184 0 217 (dk_at dksX7_join_1 10 rfl rfl)
theorem dX7_join_36 : decode cX7_join 36 = .ok (.istore 4, 2) := dk_54 4 (dk_at dksX7_join_1 13 rfl rfl)
theorem dX7_join_38 : decode cX7_join 38 = .ok (.aload_n 0, 1) := dk_42 (dk_at dksX7_join_1 15 rfl rfl)
theorem dX7_join_39 : decode cX7_join 39 = .ok (.getfield 7, 3) := dk_180 0 7 (dk_at dksX7_join_1 16 rfl rfl)
theorem dX7_join_42 : decode cX7_join 42 = .ok (.iload_n 3, 1) := dk_29 (dk_at dksX7_join_1 19 rfl rfl)
theorem dX7_join_43 : decode cX7_join 43 = .ok (.iconst 1, 1) := dk_4 (dk_at dksX7_join_1 20 rfl rfl)
theorem dX7_join_44 : decode cX7_join 44 = .ok (.iadd, 1) := dk_96 (dk_at dksX7_join_1 21 rfl rfl)
theorem dX7_join_45 : decode cX7_join 45 = .ok (.iaload, 1) := dk_46 (dk_at dksX7_join_1 22 rfl rfl)
theorem dX7_join_46 : decode cX7_join 46 = .ok (.aload_n 0, 1) := dk_42 (dk_at dksX7_join_1 23 rfl rfl)
theorem dX7_join_47 : decode cX7_join 47 = .ok (.getfield 7, 3) := dk_180 0 7 (dk_at dksX7_join_2 0 rfl rfl)
theorem dX7_join_50 : decode cX7_join 50 = .ok (.iload 4, 2) := dk_21 4 (dk_at dksX7_join_2 3 rfl rfl)
theorem dX7_join_52 : decode cX7_join 52 = .ok (.iconst 1, 1) := dk_4 (dk_at dksX7_join_2 5 rfl rfl)
theorem dX7_join_53 : decode cX7_join 53 = .ok (.iadd, 1) := dk_96 (dk_at dksX7_join_2 6 rfl rfl)
theorem dX7_join_54 : decode cX7_join 54 = .ok (.iaload, 1) := dk_46 (dk_at dksX7_join_2 7 rfl rfl)
theorem dX7_join_55 : decode cX7_join 55 = .ok (.iadd, 1) := dk_96 (dk_at dksX7_join_2 8 rfl rfl)
theorem dX7_join_56 : decode cX7_join 56 = .ok (.ldc_w 330, 3) := dk_19 1 74 (dk_at dksX7_join_2 9 rfl rfl)
theorem dX7_join_59 : decode cX7_join 59 = .ok (.if_icmp .le 9, 3) := dk_164 0 9 (dk_at dksX7_join_2 12 rfl rfl)
theorem dX7_join_62 : decode cX7_join 62 = .ok (.aload_n 0, 1) := dk_42 (dk_at dksX7_join_2 15 rfl rfl)
theorem dX7_join_63 : decode cX7_join 63 = .ok (.iconst 4, 1) := dk_7 (dk_at dksX7_join_2 16 rfl rfl)
theorem dX7_join_64 : decode cX7_join 64 = .ok (.invokevirtual 72, 3) := dk_182 0 72 (dk_at dksX7_join_2 17 rfl rfl)
theorem dX7_join_67 : decode cX7_join 67 = .ok (.ireturn, 1) := dk_172 (dk_at dksX7_join_2 20 rfl rfl)
theorem dX7_join_68 : decode cX7_join 68 = .ok (.aload_n 0, 1) := dk_42 (dk_at dksX7_join_2 21 rfl rfl)
theorem dX7_join_69 : decode cX7_join 69 = .ok (.getfield 7, 3) := dk_180 0 7 (dk_at dksX7_join_3 0 rfl rfl)
theorem dX7_join_72 : decode cX7_join 72 = .ok (.iload 4, 2) := dk_21 4 (dk_at dksX7_join_3 3 rfl rfl)
theorem dX7_join_74 : decode cX7_join 74 = .ok (.iconst 1, 1) := dk_4 (dk_at dksX7_join_3 5 rfl rfl)
theorem dX7_join_75 : decode cX7_join 75 = .ok (.iadd, 1) := dk_96 (dk_at dksX7_join_3 6 rfl rfl)
theorem dX7_join_76 : decode cX7_join 76 = .ok (.dup2, 1) := dk_92 (dk_at dksX7_join_3 7 rfl rfl)
theorem dX7_join_77 : decode cX7_join 77 = .ok (.iaload, 1) := dk_46 (dk_at dksX7_join_3 8 rfl rfl)
theorem dX7_join_78 : decode cX7_join 78 = .ok (.aload_n 0, 1) := dk_42 (dk_at dksX7_join_3 9 rfl rfl)
theorem dX7_join_79 : decode cX7_join 79 = .ok (.getfield 7, 3) := dk_180 0 7 (dk_at dksX7_join_3 10 rfl rfl)
theorem dX7_join_82 : decode cX7_join 82 = .ok (.iload_n 3, 1) := dk_29 (dk_at dksX7_join_3 13 rfl rfl)
theorem dX7_join_83 : decode cX7_join 83 = .ok (.iconst 1, 1) := dk_4 (dk_at dksX7_join_3 14 rfl rfl)
theorem dX7_join_84 : decode cX7_join 84 = .ok (.iadd, 1) := dk_96 (dk_at dksX7_join_3 15 rfl rfl)
theorem dX7_join_85 : decode cX7_join 85 = .ok (.iaload, 1) := dk_46 (dk_at dksX7_join_3 16 rfl rfl)
theorem dX7_join_86 : decode cX7_join 86 = .ok (.iadd, 1) := dk_96 (dk_at dksX7_join_3 17 rfl rfl)
theorem dX7_join_87 : decode cX7_join 87 = .ok (.iastore, 1) := dk_79 (dk_at dksX7_join_3 18 rfl rfl)
theorem dX7_join_88 : decode cX7_join 88 = .ok (.aload_n 0, 1) := dk_42 (dk_at dksX7_join_3 19 rfl rfl)
theorem dX7_join_89 : decode cX7_join 89 = .ok (.getfield 7, 3) := dk_180 0 7 (dk_at dksX7_join_3 20 rfl rfl)
theorem dX7_join_92 : decode cX7_join 92 = .ok (.iload 4, 2) := dk_21 4 (dk_at dksX7_join_4 0 rfl rfl)
theorem dX7_join_94 : decode cX7_join 94 = .ok (.iconst 2, 1) := dk_5 (dk_at dksX7_join_4 2 rfl rfl)
theorem dX7_join_95 : decode cX7_join 95 = .ok (.iadd, 1) := dk_96 (dk_at dksX7_join_4 3 rfl rfl)
theorem dX7_join_96 : decode cX7_join 96 = .ok (.dup2, 1) := dk_92 (dk_at dksX7_join_4 4 rfl rfl)
theorem dX7_join_97 : decode cX7_join 97 = .ok (.iaload, 1) := dk_46 (dk_at dksX7_join_4 5 rfl rfl)
theorem dX7_join_98 : decode cX7_join 98 = .ok (.aload_n 0, 1) := dk_42 (dk_at dksX7_join_4 6 rfl rfl)
theorem dX7_join_99 : decode cX7_join 99 = .ok (.getfield 7, 3) := dk_180 0 7 (dk_at dksX7_join_4 7 rfl rfl)
theorem dX7_join_102 : decode cX7_join 102 = .ok (.iload_n 3, 1) := dk_29 (dk_at dksX7_join_4 10 rfl rfl)
theorem dX7_join_103 : decode cX7_join 103 = .ok (.iconst 2, 1) := dk_5 (dk_at dksX7_join_4 11 rfl rfl)
theorem dX7_join_104 : decode cX7_join 104 = .ok (.iadd, 1) := dk_96 (dk_at dksX7_join_4 12 rfl rfl)
theorem dX7_join_105 : decode cX7_join 105 = .ok (.iaload, 1) := dk_46 (dk_at dksX7_join_4 13 rfl rfl)
theorem dX7_join_106 : decode cX7_join 106 = .ok (.iadd, 1) := dk_96 (dk_at dksX7_join_4 14 rfl rfl)
theorem dX7_join_107 : decode cX7_join 107 = .ok (.iastore, 1) := dk_79 (dk_at dksX7_join_4 15 rfl rfl)
theorem dX7_join_108 : decode cX7_join 108 = .ok (.aload_n 0, 1) := dk_42 (dk_at dksX7_join_4 16 rfl rfl)
theorem dX7_join_109 : decode cX7_join 109 = .ok (.getfield 7, 3) := dk_180 0 7 (dk_at dksX7_join_4 17 rfl rfl)
theorem dX7_join_112 : decode cX7_join 112 = .ok (.bipush 7, 2) := dk_16 7 (dk_at dksX7_join_4 20 rfl rfl)
theorem dX7_join_114 : decode cX7_join 114 = .ok (.dup2, 1) := dk_92 (dk_at dksX7_join_4 22 rfl rfl)
theorem dX7_join_115 : decode cX7_join 115 = .ok (.iaload, 1) := dk_46 (dk_at dksX7_join_4 23 rfl rfl)
theorem dX7_join_116 : decode cX7_join 116 = .ok (.aload_n 0, 1) := dk_42 (dk_at dksX7_join_5 0 rfl rfl)
theorem dX7_join_117 : decode cX7_join 117 = .ok (.iload 4, 2) := dk_21 4 (dk_at dksX7_join_5 1 rfl rfl)
theorem dX7_join_119 : decode cX7_join 119 = .ok (.aload_n 0, 1) := dk_42 (dk_at dksX7_join_5 3 rfl rfl)
theorem dX7_join_120 : decode cX7_join 120 = .ok (.iload_n 3, 1) := dk_29 (dk_at dksX7_join_5 4 rfl rfl)
theorem dX7_join_121 : decode cX7_join 121 = .ok (.iconst 0, 1) := dk_3 (dk_at dksX7_join_5 5 rfl rfl)
theorem dX7_join_122 : decode cX7_join 122 = .ok (.invokevirtual 283, 3) := dk_182 1 27 (dk_at dksX7_join_5 6 rfl rfl)
theorem dX7_join_125 : decode cX7_join 125 = .ok (.invokevirtual 188, 3) := dk_182 0 188 (dk_at dksX7_join_5 9 rfl rfl)
theorem dX7_join_128 : decode cX7_join 128 = .ok (.iadd, 1) := dk_96 (dk_at dksX7_join_5 12 rfl rfl)
theorem dX7_join_129 : decode cX7_join 129 = .ok (.iastore, 1) := dk_79 (dk_at dksX7_join_5 13 rfl rfl)
theorem dX7_join_130 : decode cX7_join 130 = .ok (.iconst 0, 1) := dk_3 (dk_at dksX7_join_5 14 rfl rfl)
theorem dX7_join_131 : decode cX7_join 131 = .ok (.istore 5, 2) := dk_54 5 (dk_at dksX7_join_5 15 rfl rfl)
theorem dX7_join_133 : decode cX7_join 133 = .ok (.iload 5, 2) := dk_21 5 (dk_at dksX7_join_5 17 rfl rfl)
theorem dX7_join_135 : decode cX7_join 135 = .ok (.bipush 16, 2) := dk_16 16 (dk_at dksX7_join_5 19 rfl rfl)
theorem dX7_join_137 : decode cX7_join 137 = .ok (.aload_n 0, 1) := dk_42 (dk_at dksX7_join_5 21 rfl rfl)
theorem dX7_join_138 : decode cX7_join 138 = .ok (.getfield 7, 3) := dk_180 0 7 (dk_at dksX7_join_6 0 rfl rfl)
theorem dX7_join_141 : decode cX7_join 141 = .ok (.iload_n 3, 1) := dk_29 (dk_at dksX7_join_6 3 rfl rfl)
theorem dX7_join_142 : decode cX7_join 142 = .ok (.iaload, 1) := dk_46 (dk_at dksX7_join_6 4 rfl rfl)
theorem dX7_join_143 : decode cX7_join 143 = .ok (.imul, 1) := dk_104 (dk_at dksX7_join_6 5 rfl rfl)
theorem dX7_join_144 : decode cX7_join 144 = .ok (.if_icmp .ge 22, 3) := dk_162 0 22 (dk_at dksX7_join_6 6 rfl rfl)
theorem dX7_join_147 : decode cX7_join 147 = .ok (.aload_n 0, 1) := dk_42 (dk_at dksX7_join_6 9 rfl rfl)
theorem dX7_join_148 : decode cX7_join 148 = .ok (.getfield 7, 3) := dk_180 0 7 (dk_at dksX7_join_6 10 rfl rfl)
theorem dX7_join_151 : decode cX7_join 151 = .ok (.iload_n 3, 1) := dk_29 (dk_at dksX7_join_6 13 rfl rfl)
theorem dX7_join_152 : decode cX7_join 152 = .ok (.bipush 6, 2) := dk_16 6 (dk_at dksX7_join_6 14 rfl rfl)
theorem dX7_join_154 : decode cX7_join 154 = .ok (.iadd, 1) := dk_96 (dk_at dksX7_join_6 16 rfl rfl)
theorem dX7_join_155 : decode cX7_join 155 = .ok (.iload 5, 2) := dk_21 5 (dk_at dksX7_join_6 17 rfl rfl)
theorem dX7_join_157 : decode cX7_join 157 = .ok (.iadd, 1) := dk_96 (dk_at dksX7_join_6 19 rfl rfl)
theorem dX7_join_158 : decode cX7_join 158 = .ok (.iconst 0, 1) := dk_3 (dk_at dksX7_join_6 20 rfl rfl)
theorem dX7_join_159 : decode cX7_join 159 = .ok (.iastore, 1) := dk_79 (dk_at dksX7_join_6 21 rfl rfl)
theorem dX7_join_160 : decode cX7_join 160 = .ok (.iinc 5 1, 3) := dk_132 5 1 (dk_at dksX7_join_7 0 rfl rfl)
theorem dX7_join_163 : decode cX7_join 163 = .ok (.goto (-30), 3) := dk_167 255 226 (dk_at dksX7_join_7 3 rfl rfl)
theorem dX7_join_166 : decode cX7_join 166 = .ok (.aload_n 0, 1) := dk_42 (dk_at dksX7_join_7 6 rfl rfl)
theorem dX7_join_167 : decode cX7_join 167 = .ok (.getfield 7, 3) := dk_180 0 7 (dk_at dksX7_join_7 7 rfl rfl)
theorem dX7_join_170 : decode cX7_join 170 = .ok (.iload 4, 2) := dk_21 4 (dk_at dksX7_join_7 10 rfl rfl)
theorem dX7_join_172 : decode cX7_join 172 = .ok (.iconst 3, 1) := dk_6 (dk_at dksX7_join_7 12 rfl rfl)
theorem dX7_join_173 : decode cX7_join 173 = .ok (.iadd, 1) := dk_96 (dk_at dksX7_join_7 13 rfl rfl)
theorem dX7_join_174 : decode cX7_join 174 = .ok (.iaload, 1) := dk_46 (dk_at dksX7_join_7 14 rfl rfl)
theorem dX7_join_175 : decode cX7_join 175 = .ok (.iconst (-1), 1) := dk_2 (dk_at dksX7_join_7 15 rfl rfl)
theorem dX7_join_176 : decode cX7_join 176 = .ok (.if_icmp .ne 20, 3) := dk_160 0 20 (dk_at dksX7_join_7 16 rfl rfl)
theorem dX7_join_179 : decode cX7_join 179 = .ok (.aload_n 0, 1) := dk_42 (dk_at dksX7_join_7 19 rfl rfl)
theorem dX7_join_180 : decode cX7_join 180 = .ok (.getfield 7, 3) := dk_180 0 7 (dk_at dksX7_join_7 20 rfl rfl)
theorem dX7_join_183 : decode cX7_join 183 = .ok (.iload 4, 2) := dk_21 4 (dk_at dksX7_join_8 0 rfl rfl)
theorem dX7_join_185 : decode cX7_join 185 = .ok (.iconst 3, 1) := dk_6 (dk_at dksX7_join_8 2 rfl rfl)
theorem dX7_join_186 : decode cX7_join 186 = .ok (.iadd, 1) := dk_96 (dk_at dksX7_join_8 3 rfl rfl)
theorem dX7_join_187 : decode cX7_join 187 = .ok (.aload_n 0, 1) := dk_42 (dk_at dksX7_join_8 4 rfl rfl)
theorem dX7_join_188 : decode cX7_join 188 = .ok (.getfield 7, 3) := dk_180 0 7 (dk_at dksX7_join_8 5 rfl rfl)
theorem dX7_join_191 : decode cX7_join 191 = .ok (.iload_n 3, 1) := dk_29 (dk_at dksX7_join_8 8 rfl rfl)
theorem dX7_join_192 : decode cX7_join 192 = .ok (.iconst 3, 1) := dk_6 (dk_at dksX7_join_8 9 rfl rfl)
theorem dX7_join_193 : decode cX7_join 193 = .ok (.iadd, 1) := dk_96 (dk_at dksX7_join_8 10 rfl rfl)
theorem dX7_join_194 : decode cX7_join 194 = .ok (.iaload, 1) := dk_46 (dk_at dksX7_join_8 11 rfl rfl)
theorem dX7_join_195 : decode cX7_join 195 = .ok (.iastore, 1) := dk_79 (dk_at dksX7_join_8 12 rfl rfl)
theorem dX7_join_196 : decode cX7_join 196 = .ok (.aload_n 0, 1) := dk_42 (dk_at dksX7_join_8 13 rfl rfl)
theorem dX7_join_197 : decode cX7_join 197 = .ok (.getfield 7, 3) := dk_180 0 7 (dk_at dksX7_join_8 14 rfl rfl)
theorem dX7_join_200 : decode cX7_join 200 = .ok (.iload_n 3, 1) := dk_29 (dk_at dksX7_join_8 17 rfl rfl)
theorem dX7_join_201 : decode cX7_join 201 = .ok (.iconst 3, 1) := dk_6 (dk_at dksX7_join_8 18 rfl rfl)
theorem dX7_join_202 : decode cX7_join 202 = .ok (.iadd, 1) := dk_96 (dk_at dksX7_join_8 19 rfl rfl)
theorem dX7_join_203 : decode cX7_join 203 = .ok (.iconst (-1), 1) := dk_2 (dk_at dksX7_join_8 20 rfl rfl)
theorem dX7_join_204 : decode cX7_join 204 = .ok (.iastore, 1) := dk_79 (dk_at dksX7_join_8 21 rfl rfl)
theorem dX7_join_205 : decode cX7_join 205 = .ok (.aload_n 0, 1) := dk_42 (dk_at dksX7_join_8 22 rfl rfl)
theorem dX7_join_206 : decode cX7_join 206 = .ok (.getfield 7, 3) := dk_180 0 7 (dk_at dksX7_join_9 0 rfl rfl)
theorem dX7_join_209 : decode cX7_join 209 = .ok (.iload_n 3, 1) := dk_29 (dk_at dksX7_join_9 3 rfl rfl)
theorem dX7_join_210 : decode cX7_join 210 = .ok (.iconst 1, 1) := dk_4 (dk_at dksX7_join_9 4 rfl rfl)
theorem dX7_join_211 : decode cX7_join 211 = .ok (.iadd, 1) := dk_96 (dk_at dksX7_join_9 5 rfl rfl)
theorem dX7_join_212 : decode cX7_join 212 = .ok (.iconst 0, 1) := dk_3 (dk_at dksX7_join_9 6 rfl rfl)
theorem dX7_join_213 : decode cX7_join 213 = .ok (.iastore, 1) := dk_79 (dk_at dksX7_join_9 7 rfl rfl)
theorem dX7_join_214 : decode cX7_join 214 = .ok (.aload_n 0, 1) := dk_42 (dk_at dksX7_join_9 8 rfl rfl)
theorem dX7_join_215 : decode cX7_join 215 = .ok (.getfield 7, 3) := dk_180 0 7 (dk_at dksX7_join_9 9 rfl rfl)
theorem dX7_join_218 : decode cX7_join 218 = .ok (.iload_n 3, 1) := dk_29 (dk_at dksX7_join_9 12 rfl rfl)
theorem dX7_join_219 : decode cX7_join 219 = .ok (.iconst 2, 1) := dk_5 (dk_at dksX7_join_9 13 rfl rfl)
theorem dX7_join_220 : decode cX7_join 220 = .ok (.iadd, 1) := dk_96 (dk_at dksX7_join_9 14 rfl rfl)
theorem dX7_join_221 : decode cX7_join 221 = .ok (.iconst 0, 1) := dk_3 (dk_at dksX7_join_9 15 rfl rfl)
theorem dX7_join_222 : decode cX7_join 222 = .ok (.iastore, 1) := dk_79 (dk_at dksX7_join_9 16 rfl rfl)
theorem dX7_join_223 : decode cX7_join 223 = .ok (.aload_n 0, 1) := dk_42 (dk_at dksX7_join_9 17 rfl rfl)
theorem dX7_join_224 : decode cX7_join 224 = .ok (.aload_n 0, 1) := dk_42 (dk_at dksX7_join_9 18 rfl rfl)
theorem dX7_join_225 : decode cX7_join 225 = .ok (.getfield 7, 3) := dk_180 0 7 (dk_at dksX7_join_9 19 rfl rfl)
theorem dX7_join_228 : decode cX7_join 228 = .ok (.iload 4, 2) := dk_21 4 (dk_at dksX7_join_9 22 rfl rfl)
theorem dX7_join_230 : decode cX7_join 230 = .ok (.iconst 1, 1) := dk_4 (dk_at dksX7_join_10 0 rfl rfl)
theorem dX7_join_231 : decode cX7_join 231 = .ok (.iadd, 1) := dk_96 (dk_at dksX7_join_10 1 rfl rfl)
theorem dX7_join_232 : decode cX7_join 232 = .ok (.iaload, 1) := dk_46 (dk_at dksX7_join_10 2 rfl rfl)
theorem dX7_join_233 : decode cX7_join 233 = .ok (.invokevirtual 76, 3) := dk_182 0 76 (dk_at dksX7_join_10 3 rfl rfl)
theorem dX7_join_236 : decode cX7_join 236 = .ok (.ireturn, 1) := dk_172 (dk_at dksX7_join_10 6 rfl rfl)
def dkwX7_seat_2 : List UInt8 := [27, 79, 42, 3, 182, 0, 79, 172]
abbrev dktX7_seat_2 : List UInt8 := dkwX7_seat_2 ++ []
def dkwX7_seat_1 : List UInt8 := [28, 182, 1, 75, 154, 0, 10, 42, 16, 7, 182, 0, 79, 172, 42, 180, 0, 7, 28, 184, 0, 217, 6, 96]
abbrev dktX7_seat_1 : List UInt8 := dkwX7_seat_1 ++ dktX7_seat_2
def dkwX7_seat_0 : List UInt8 := [42, 27, 182, 1, 21, 153, 0, 11, 42, 28, 182, 1, 18, 154, 0, 9, 42, 4, 182, 0, 79, 172, 42, 27]
abbrev dktX7_seat_0 : List UInt8 := dkwX7_seat_0 ++ dktX7_seat_1
theorem dksX7_seat_0 : cX7_seat.data.toList.drop 0 = dktX7_seat_0 := by decide +kernel
theorem dksX7_seat_1 : cX7_seat.data.toList.drop 24 = dktX7_seat_1 := dk_seg dksX7_seat_0 24 rfl rfl
theorem dksX7_seat_2 : cX7_seat.data.toList.drop 48 = dktX7_seat_2 := dk_seg dksX7_seat_1 24 rfl rfl
theorem dX7_seat_0 : decode cX7_seat 0 = .ok (.aload_n 0, 1) := dk_42 (dk_at dksX7_seat_0 0 rfl rfl)
theorem dX7_seat_1 : decode cX7_seat 1 = .ok (.iload_n 1, 1) := dk_27 (dk_at dksX7_seat_0 1 rfl rfl)
theorem dX7_seat_2 : decode cX7_seat 2 = .ok (.invokevirtual 277, 3) := dk_182 1 21 (dk_at dksX7_seat_0 2 rfl rfl)
theorem dX7_seat_5 : decode cX7_seat 5 = .ok (.ifCond .eq 11, 3) := dk_153 0 11 (dk_at dksX7_seat_0 5 rfl rfl)
theorem dX7_seat_8 : decode cX7_seat 8 = .ok (.aload_n 0, 1) := dk_42 (dk_at dksX7_seat_0 8 rfl rfl)
theorem dX7_seat_9 : decode cX7_seat 9 = .ok (.iload_n 2, 1) := dk_28 (dk_at dksX7_seat_0 9 rfl rfl)
theorem dX7_seat_10 : decode cX7_seat 10 = .ok (.invokevirtual 274, 3) := dk_182 1 18 (dk_at dksX7_seat_0 10 rfl rfl)
theorem dX7_seat_13 : decode cX7_seat 13 = .ok (.ifCond .ne 9, 3) := dk_154 0 9 (dk_at dksX7_seat_0 13 rfl rfl)
theorem dX7_seat_16 : decode cX7_seat 16 = .ok (.aload_n 0, 1) := dk_42 (dk_at dksX7_seat_0 16 rfl rfl)
theorem dX7_seat_17 : decode cX7_seat 17 = .ok (.iconst 1, 1) := dk_4 (dk_at dksX7_seat_0 17 rfl rfl)
theorem dX7_seat_18 : decode cX7_seat 18 = .ok (.invokevirtual 79, 3) := dk_182 0 79 (dk_at dksX7_seat_0 18 rfl rfl)
theorem dX7_seat_21 : decode cX7_seat 21 = .ok (.ireturn, 1) := dk_172 (dk_at dksX7_seat_0 21 rfl rfl)
theorem dX7_seat_22 : decode cX7_seat 22 = .ok (.aload_n 0, 1) := dk_42 (dk_at dksX7_seat_0 22 rfl rfl)
theorem dX7_seat_23 : decode cX7_seat 23 = .ok (.iload_n 1, 1) := dk_27 (dk_at dksX7_seat_0 23 rfl rfl)
theorem dX7_seat_24 : decode cX7_seat 24 = .ok (.iload_n 2, 1) := dk_28 (dk_at dksX7_seat_1 0 rfl rfl)
theorem dX7_seat_25 : decode cX7_seat 25 = .ok (.invokevirtual 331, 3) := dk_182 1 75 (dk_at dksX7_seat_1 1 rfl rfl)
theorem dX7_seat_28 : decode cX7_seat 28 = .ok (.ifCond .ne 10, 3) := dk_154 0 10 (dk_at dksX7_seat_1 4 rfl rfl)
theorem dX7_seat_31 : decode cX7_seat 31 = .ok (.aload_n 0, 1) := dk_42 (dk_at dksX7_seat_1 7 rfl rfl)
theorem dX7_seat_32 : decode cX7_seat 32 = .ok (.bipush 7, 2) := dk_16 7 (dk_at dksX7_seat_1 8 rfl rfl)
theorem dX7_seat_34 : decode cX7_seat 34 = .ok (.invokevirtual 79, 3) := dk_182 0 79 (dk_at dksX7_seat_1 10 rfl rfl)
theorem dX7_seat_37 : decode cX7_seat 37 = .ok (.ireturn, 1) := dk_172 (dk_at dksX7_seat_1 13 rfl rfl)
theorem dX7_seat_38 : decode cX7_seat 38 = .ok (.aload_n 0, 1) := dk_42 (dk_at dksX7_seat_1 14 rfl rfl)
theorem dX7_seat_39 : decode cX7_seat 39 = .ok (.getfield 7, 3) := dk_180 0 7 (dk_at dksX7_seat_1 15 rfl rfl)
theorem dX7_seat_42 : decode cX7_seat 42 = .ok (.iload_n 2, 1) := dk_28 (dk_at dksX7_seat_1 18 rfl rfl)
theorem dX7_seat_43 : decode cX7_seat 43 = .ok (.invokestatic 217, 3) := dk_184 0 217 (dk_at dksX7_seat_1 19 rfl rfl)
theorem dX7_seat_46 : decode cX7_seat 46 = .ok (.iconst 3, 1) := dk_6 (dk_at dksX7_seat_1 22 rfl rfl)
theorem dX7_seat_47 : decode cX7_seat 47 = .ok (.iadd, 1) := dk_96 (dk_at dksX7_seat_1 23 rfl rfl)
theorem dX7_seat_48 : decode cX7_seat 48 = .ok (.iload_n 1, 1) := dk_27 (dk_at dksX7_seat_2 0 rfl rfl)
theorem dX7_seat_49 : decode cX7_seat 49 = .ok (.iastore, 1) := dk_79 (dk_at dksX7_seat_2 1 rfl rfl)
theorem dX7_seat_50 : decode cX7_seat 50 = .ok (.aload_n 0, 1) := dk_42 (dk_at dksX7_seat_2 2 rfl rfl)
theorem dX7_seat_51 : decode cX7_seat 51 = .ok (.iconst 0, 1) := dk_3 (dk_at dksX7_seat_2 3 rfl rfl)
theorem dX7_seat_52 : decode cX7_seat 52 = .ok (.invokevirtual 79, 3) := dk_182 0 79 (dk_at dksX7_seat_2 4 rfl rfl)
theorem dX7_seat_55 : decode cX7_seat 55 = .ok (.ireturn, 1) := dk_172 (dk_at dksX7_seat_2 7 rfl rfl)
def dkwX7_maySeat_1 : List UInt8 := [28, 184, 0, 217, 6, 96, 46, 2, 160, 0, 7, 4, 167, 0, 4, 3, 172]
abbrev dktX7_maySeat_1 : List UInt8 := dkwX7_maySeat_1 ++ []
def dkwX7_maySeat_0 : List UInt8 := [42, 27, 182, 1, 39, 2, 160, 0, 33, 42, 180, 0, 7, 16, 12, 46, 27, 159, 0, 22, 42, 180, 0, 7]
abbrev dktX7_maySeat_0 : List UInt8 := dkwX7_maySeat_0 ++ dktX7_maySeat_1
theorem dksX7_maySeat_0 : cX7_maySeat.data.toList.drop 0 = dktX7_maySeat_0 := by decide +kernel
theorem dksX7_maySeat_1 : cX7_maySeat.data.toList.drop 24 = dktX7_maySeat_1 := dk_seg dksX7_maySeat_0 24 rfl rfl
theorem dX7_maySeat_0 : decode cX7_maySeat 0 = .ok (.aload_n 0, 1) := dk_42 (dk_at dksX7_maySeat_0 0 rfl rfl)
theorem dX7_maySeat_1 : decode cX7_maySeat 1 = .ok (.iload_n 1, 1) := dk_27 (dk_at dksX7_maySeat_0 1 rfl rfl)
theorem dX7_maySeat_2 : decode cX7_maySeat 2 = .ok (.invokevirtual 295, 3) := dk_182 1 39 (dk_at dksX7_maySeat_0 2 rfl rfl)
theorem dX7_maySeat_5 : decode cX7_maySeat 5 = .ok (.iconst (-1), 1) := dk_2 (dk_at dksX7_maySeat_0 5 rfl rfl)
theorem dX7_maySeat_6 : decode cX7_maySeat 6 = .ok (.if_icmp .ne 33, 3) := dk_160 0 33 (dk_at dksX7_maySeat_0 6 rfl rfl)
theorem dX7_maySeat_9 : decode cX7_maySeat 9 = .ok (.aload_n 0, 1) := dk_42 (dk_at dksX7_maySeat_0 9 rfl rfl)
theorem dX7_maySeat_10 : decode cX7_maySeat 10 = .ok (.getfield 7, 3) := dk_180 0 7 (dk_at dksX7_maySeat_0 10 rfl rfl)
theorem dX7_maySeat_13 : decode cX7_maySeat 13 = .ok (.bipush 12, 2) := dk_16 12 (dk_at dksX7_maySeat_0 13 rfl rfl)
theorem dX7_maySeat_15 : decode cX7_maySeat 15 = .ok (.iaload, 1) := dk_46 (dk_at dksX7_maySeat_0 15 rfl rfl)
theorem dX7_maySeat_16 : decode cX7_maySeat 16 = .ok (.iload_n 1, 1) := dk_27 (dk_at dksX7_maySeat_0 16 rfl rfl)
theorem dX7_maySeat_17 : decode cX7_maySeat 17 = .ok (.if_icmp .eq 22, 3) := dk_159 0 22 (dk_at dksX7_maySeat_0 17 rfl rfl)
theorem dX7_maySeat_20 : decode cX7_maySeat 20 = .ok (.aload_n 0, 1) := dk_42 (dk_at dksX7_maySeat_0 20 rfl rfl)
theorem dX7_maySeat_21 : decode cX7_maySeat 21 = .ok (.getfield 7, 3) := dk_180 0 7 (dk_at dksX7_maySeat_0 21 rfl rfl)
theorem dX7_maySeat_24 : decode cX7_maySeat 24 = .ok (.iload_n 2, 1) := dk_28 (dk_at dksX7_maySeat_1 0 rfl rfl)
theorem dX7_maySeat_25 : decode cX7_maySeat 25 = .ok (.invokestatic 217, 3) := dk_184 0 217 (dk_at dksX7_maySeat_1 1 rfl rfl)
theorem dX7_maySeat_28 : decode cX7_maySeat 28 = .ok (.iconst 3, 1) := dk_6 (dk_at dksX7_maySeat_1 4 rfl rfl)
theorem dX7_maySeat_29 : decode cX7_maySeat 29 = .ok (.iadd, 1) := dk_96 (dk_at dksX7_maySeat_1 5 rfl rfl)
theorem dX7_maySeat_30 : decode cX7_maySeat 30 = .ok (.iaload, 1) := dk_46 (dk_at dksX7_maySeat_1 6 rfl rfl)
theorem dX7_maySeat_31 : decode cX7_maySeat 31 = .ok (.iconst (-1), 1) := dk_2 (dk_at dksX7_maySeat_1 7 rfl rfl)
theorem dX7_maySeat_32 : decode cX7_maySeat 32 = .ok (.if_icmp .ne 7, 3) := dk_160 0 7 (dk_at dksX7_maySeat_1 8 rfl rfl)
theorem dX7_maySeat_35 : decode cX7_maySeat 35 = .ok (.iconst 1, 1) := dk_4 (dk_at dksX7_maySeat_1 11 rfl rfl)
theorem dX7_maySeat_36 : decode cX7_maySeat 36 = .ok (.goto 4, 3) := dk_167 0 4 (dk_at dksX7_maySeat_1 12 rfl rfl)
theorem dX7_maySeat_39 : decode cX7_maySeat 39 = .ok (.iconst 0, 1) := dk_3 (dk_at dksX7_maySeat_1 15 rfl rfl)
theorem dX7_maySeat_40 : decode cX7_maySeat 40 = .ok (.ireturn, 1) := dk_172 (dk_at dksX7_maySeat_1 16 rfl rfl)
def dkwX7_crowded_1 : List UInt8 := [182, 0, 76, 167, 0, 8, 42, 4, 182, 0, 72, 172]
abbrev dktX7_crowded_1 : List UInt8 := dkwX7_crowded_1 ++ []
def dkwX7_crowded_0 : List UInt8 := [42, 27, 182, 1, 18, 153, 0, 23, 42, 42, 27, 182, 1, 78, 153, 0, 7, 4, 167, 0, 4, 3]
abbrev dktX7_crowded_0 : List UInt8 := dkwX7_crowded_0 ++ dktX7_crowded_1
theorem dksX7_crowded_0 : cX7_crowded.data.toList.drop 0 = dktX7_crowded_0 := by decide +kernel
theorem dksX7_crowded_1 : cX7_crowded.data.toList.drop 22 = dktX7_crowded_1 := dk_seg dksX7_crowded_0 22 rfl rfl
theorem dX7_crowded_0 : decode cX7_crowded 0 = .ok (.aload_n 0, 1) := dk_42 (dk_at dksX7_crowded_0 0 rfl rfl)
theorem dX7_crowded_1 : decode cX7_crowded 1 = .ok (.iload_n 1, 1) := dk_27 (dk_at dksX7_crowded_0 1 rfl rfl)
theorem dX7_crowded_2 : decode cX7_crowded 2 = .ok (.invokevirtual 274, 3) := dk_182 1 18 (dk_at dksX7_crowded_0 2 rfl rfl)
theorem dX7_crowded_5 : decode cX7_crowded 5 = .ok (.ifCond .eq 23, 3) := dk_153 0 23 (dk_at dksX7_crowded_0 5 rfl rfl)
theorem dX7_crowded_8 : decode cX7_crowded 8 = .ok (.aload_n 0, 1) := dk_42 (dk_at dksX7_crowded_0 8 rfl rfl)
theorem dX7_crowded_9 : decode cX7_crowded 9 = .ok (.aload_n 0, 1) := dk_42 (dk_at dksX7_crowded_0 9 rfl rfl)
theorem dX7_crowded_10 : decode cX7_crowded 10 = .ok (.iload_n 1, 1) := dk_27 (dk_at dksX7_crowded_0 10 rfl rfl)
theorem dX7_crowded_11 : decode cX7_crowded 11 = .ok (.invokevirtual 334, 3) := dk_182 1 78 (dk_at dksX7_crowded_0 11 rfl rfl)
theorem dX7_crowded_14 : decode cX7_crowded 14 = .ok (.ifCond .eq 7, 3) := dk_153 0 7 (dk_at dksX7_crowded_0 14 rfl rfl)
theorem dX7_crowded_17 : decode cX7_crowded 17 = .ok (.iconst 1, 1) := dk_4 (dk_at dksX7_crowded_0 17 rfl rfl)
theorem dX7_crowded_18 : decode cX7_crowded 18 = .ok (.goto 4, 3) := dk_167 0 4 (dk_at dksX7_crowded_0 18 rfl rfl)
theorem dX7_crowded_21 : decode cX7_crowded 21 = .ok (.iconst 0, 1) := dk_3 (dk_at dksX7_crowded_0 21 rfl rfl)
theorem dX7_crowded_22 : decode cX7_crowded 22 = .ok (.invokevirtual 76, 3) := dk_182 0 76 (dk_at dksX7_crowded_1 0 rfl rfl)
theorem dX7_crowded_25 : decode cX7_crowded 25 = .ok (.goto 8, 3) := dk_167 0 8 (dk_at dksX7_crowded_1 3 rfl rfl)
theorem dX7_crowded_28 : decode cX7_crowded 28 = .ok (.aload_n 0, 1) := dk_42 (dk_at dksX7_crowded_1 6 rfl rfl)
theorem dX7_crowded_29 : decode cX7_crowded 29 = .ok (.iconst 1, 1) := dk_4 (dk_at dksX7_crowded_1 7 rfl rfl)
theorem dX7_crowded_30 : decode cX7_crowded 30 = .ok (.invokevirtual 72, 3) := dk_182 0 72 (dk_at dksX7_crowded_1 8 rfl rfl)
theorem dX7_crowded_33 : decode cX7_crowded 33 = .ok (.ireturn, 1) := dk_172 (dk_at dksX7_crowded_1 11 rfl rfl)
def dkwX7_isCrowded_1 : List UInt8 := [46, 16, 20, 161, 0, 16, 42, 28, 5, 182, 1, 27, 154, 0, 7, 4, 167, 0, 4, 3, 172]
abbrev dktX7_isCrowded_1 : List UInt8 := dkwX7_isCrowded_1 ++ []
def dkwX7_isCrowded_0 : List UInt8 := [27, 184, 0, 217, 61, 42, 180, 0, 7, 28, 6, 96, 46, 2, 159, 0, 29, 42, 180, 0, 7, 28, 4, 96]
abbrev dktX7_isCrowded_0 : List UInt8 := dkwX7_isCrowded_0 ++ dktX7_isCrowded_1
theorem dksX7_isCrowded_0 : cX7_isCrowded.data.toList.drop 0 = dktX7_isCrowded_0 := by decide +kernel
theorem dksX7_isCrowded_1 : cX7_isCrowded.data.toList.drop 24 = dktX7_isCrowded_1 := dk_seg dksX7_isCrowded_0 24 rfl rfl
theorem dX7_isCrowded_0 : decode cX7_isCrowded 0 = .ok (.iload_n 1, 1) := dk_27 (dk_at dksX7_isCrowded_0 0 rfl rfl)
theorem dX7_isCrowded_1 : decode cX7_isCrowded 1 = .ok (.invokestatic 217, 3) := dk_184 0 217 (dk_at dksX7_isCrowded_0 1 rfl rfl)
theorem dX7_isCrowded_4 : decode cX7_isCrowded 4 = .ok (.istore_n 2, 1) := dk_61 (dk_at dksX7_isCrowded_0 4 rfl rfl)
theorem dX7_isCrowded_5 : decode cX7_isCrowded 5 = .ok (.aload_n 0, 1) := dk_42 (dk_at dksX7_isCrowded_0 5 rfl rfl)
theorem dX7_isCrowded_6 : decode cX7_isCrowded 6 = .ok (.getfield 7, 3) := dk_180 0 7 (dk_at dksX7_isCrowded_0 6 rfl rfl)
theorem dX7_isCrowded_9 : decode cX7_isCrowded 9 = .ok (.iload_n 2, 1) := dk_28 (dk_at dksX7_isCrowded_0 9 rfl rfl)
theorem dX7_isCrowded_10 : decode cX7_isCrowded 10 = .ok (.iconst 3, 1) := dk_6 (dk_at dksX7_isCrowded_0 10 rfl rfl)
theorem dX7_isCrowded_11 : decode cX7_isCrowded 11 = .ok (.iadd, 1) := dk_96 (dk_at dksX7_isCrowded_0 11 rfl rfl)
theorem dX7_isCrowded_12 : decode cX7_isCrowded 12 = .ok (.iaload, 1) := dk_46 (dk_at dksX7_isCrowded_0 12 rfl rfl)
theorem dX7_isCrowded_13 : decode cX7_isCrowded 13 = .ok (.iconst (-1), 1) := dk_2 (dk_at dksX7_isCrowded_0 13 rfl rfl)
theorem dX7_isCrowded_14 : decode cX7_isCrowded 14 = .ok (.if_icmp .eq 29, 3) := dk_159 0 29 (dk_at dksX7_isCrowded_0 14 rfl rfl)
theorem dX7_isCrowded_17 : decode cX7_isCrowded 17 = .ok (.aload_n 0, 1) := dk_42 (dk_at dksX7_isCrowded_0 17 rfl rfl)
theorem dX7_isCrowded_18 : decode cX7_isCrowded 18 = .ok (.getfield 7, 3) := dk_180 0 7 (dk_at dksX7_isCrowded_0 18 rfl rfl)
theorem dX7_isCrowded_21 : decode cX7_isCrowded 21 = .ok (.iload_n 2, 1) := dk_28 (dk_at dksX7_isCrowded_0 21 rfl rfl)
theorem dX7_isCrowded_22 : decode cX7_isCrowded 22 = .ok (.iconst 1, 1) := dk_4 (dk_at dksX7_isCrowded_0 22 rfl rfl)
theorem dX7_isCrowded_23 : decode cX7_isCrowded 23 = .ok (.iadd, 1) := dk_96 (dk_at dksX7_isCrowded_0 23 rfl rfl)
theorem dX7_isCrowded_24 : decode cX7_isCrowded 24 = .ok (.iaload, 1) := dk_46 (dk_at dksX7_isCrowded_1 0 rfl rfl)
theorem dX7_isCrowded_25 : decode cX7_isCrowded 25 = .ok (.bipush 20, 2) := dk_16 20 (dk_at dksX7_isCrowded_1 1 rfl rfl)
theorem dX7_isCrowded_27 : decode cX7_isCrowded 27 = .ok (.if_icmp .lt 16, 3) := dk_161 0 16 (dk_at dksX7_isCrowded_1 3 rfl rfl)
theorem dX7_isCrowded_30 : decode cX7_isCrowded 30 = .ok (.aload_n 0, 1) := dk_42 (dk_at dksX7_isCrowded_1 6 rfl rfl)
theorem dX7_isCrowded_31 : decode cX7_isCrowded 31 = .ok (.iload_n 2, 1) := dk_28 (dk_at dksX7_isCrowded_1 7 rfl rfl)
theorem dX7_isCrowded_32 : decode cX7_isCrowded 32 = .ok (.iconst 2, 1) := dk_5 (dk_at dksX7_isCrowded_1 8 rfl rfl)
theorem dX7_isCrowded_33 : decode cX7_isCrowded 33 = .ok (.invokevirtual 283, 3) := dk_182 1 27 (dk_at dksX7_isCrowded_1 9 rfl rfl)
theorem dX7_isCrowded_36 : decode cX7_isCrowded 36 = .ok (.ifCond .ne 7, 3) := dk_154 0 7 (dk_at dksX7_isCrowded_1 12 rfl rfl)
theorem dX7_isCrowded_39 : decode cX7_isCrowded 39 = .ok (.iconst 1, 1) := dk_4 (dk_at dksX7_isCrowded_1 15 rfl rfl)
theorem dX7_isCrowded_40 : decode cX7_isCrowded 40 = .ok (.goto 4, 3) := dk_167 0 4 (dk_at dksX7_isCrowded_1 16 rfl rfl)
theorem dX7_isCrowded_43 : decode cX7_isCrowded 43 = .ok (.iconst 0, 1) := dk_3 (dk_at dksX7_isCrowded_1 19 rfl rfl)
theorem dX7_isCrowded_44 : decode cX7_isCrowded 44 = .ok (.ireturn, 1) := dk_172 (dk_at dksX7_isCrowded_1 20 rfl rfl)
def dkwX7_swarm_5 : List UInt8 := [46, 182, 0, 76, 172]
abbrev dktX7_swarm_5 : List UInt8 := dkwX7_swarm_5 ++ []
def dkwX7_swarm_4 : List UInt8 := [180, 0, 7, 16, 11, 46, 100, 79, 42, 180, 0, 7, 28, 6, 96, 2, 79, 42, 42, 180, 0, 7, 16, 11]
abbrev dktX7_swarm_4 : List UInt8 := dkwX7_swarm_4 ++ dktX7_swarm_5
def dkwX7_swarm_3 : List UInt8 := [180, 0, 7, 16, 12, 42, 180, 0, 7, 28, 6, 96, 46, 79, 42, 180, 0, 7, 28, 4, 96, 92, 46, 42]
abbrev dktX7_swarm_3 : List UInt8 := dkwX7_swarm_3 ++ dktX7_swarm_4
def dkwX7_swarm_2 : List UInt8 := [27, 184, 0, 217, 61, 42, 180, 0, 7, 16, 11, 42, 180, 0, 7, 28, 4, 96, 46, 5, 108, 79, 42]
abbrev dktX7_swarm_2 : List UInt8 := dkwX7_swarm_2 ++ dktX7_swarm_3
def dkwX7_swarm_1 : List UInt8 := [159, 0, 9, 42, 7, 182, 0, 72, 172, 42, 27, 182, 1, 78, 154, 0, 10, 42, 16, 7, 182, 0, 72, 172]
abbrev dktX7_swarm_1 : List UInt8 := dkwX7_swarm_1 ++ dktX7_swarm_2
def dkwX7_swarm_0 : List UInt8 := [42, 27, 182, 1, 18, 154, 0, 9, 42, 4, 182, 0, 72, 172, 42, 180, 0, 7, 16, 11, 46, 2]
abbrev dktX7_swarm_0 : List UInt8 := dkwX7_swarm_0 ++ dktX7_swarm_1
theorem dksX7_swarm_0 : cX7_swarm.data.toList.drop 0 = dktX7_swarm_0 := by decide +kernel
theorem dksX7_swarm_1 : cX7_swarm.data.toList.drop 22 = dktX7_swarm_1 := dk_seg dksX7_swarm_0 22 rfl rfl
theorem dksX7_swarm_2 : cX7_swarm.data.toList.drop 46 = dktX7_swarm_2 := dk_seg dksX7_swarm_1 24 rfl rfl
theorem dksX7_swarm_3 : cX7_swarm.data.toList.drop 69 = dktX7_swarm_3 := dk_seg dksX7_swarm_2 23 rfl rfl
theorem dksX7_swarm_4 : cX7_swarm.data.toList.drop 93 = dktX7_swarm_4 := dk_seg dksX7_swarm_3 24 rfl rfl
theorem dksX7_swarm_5 : cX7_swarm.data.toList.drop 117 = dktX7_swarm_5 := dk_seg dksX7_swarm_4 24 rfl rfl
theorem dX7_swarm_0 : decode cX7_swarm 0 = .ok (.aload_n 0, 1) := dk_42 (dk_at dksX7_swarm_0 0 rfl rfl)
theorem dX7_swarm_1 : decode cX7_swarm 1 = .ok (.iload_n 1, 1) := dk_27 (dk_at dksX7_swarm_0 1 rfl rfl)
theorem dX7_swarm_2 : decode cX7_swarm 2 = .ok (.invokevirtual 274, 3) := dk_182 1 18 (dk_at dksX7_swarm_0 2 rfl rfl)
theorem dX7_swarm_5 : decode cX7_swarm 5 = .ok (.ifCond .ne 9, 3) := dk_154 0 9 (dk_at dksX7_swarm_0 5 rfl rfl)
theorem dX7_swarm_8 : decode cX7_swarm 8 = .ok (.aload_n 0, 1) := dk_42 (dk_at dksX7_swarm_0 8 rfl rfl)
theorem dX7_swarm_9 : decode cX7_swarm 9 = .ok (.iconst 1, 1) := dk_4 (dk_at dksX7_swarm_0 9 rfl rfl)
theorem dX7_swarm_10 : decode cX7_swarm 10 = .ok (.invokevirtual 72, 3) := dk_182 0 72 (dk_at dksX7_swarm_0 10 rfl rfl)
theorem dX7_swarm_13 : decode cX7_swarm 13 = .ok (.ireturn, 1) := dk_172 (dk_at dksX7_swarm_0 13 rfl rfl)
theorem dX7_swarm_14 : decode cX7_swarm 14 = .ok (.aload_n 0, 1) := dk_42 (dk_at dksX7_swarm_0 14 rfl rfl)
theorem dX7_swarm_15 : decode cX7_swarm 15 = .ok (.getfield 7, 3) := dk_180 0 7 (dk_at dksX7_swarm_0 15 rfl rfl)
theorem dX7_swarm_18 : decode cX7_swarm 18 = .ok (.bipush 11, 2) := dk_16 11 (dk_at dksX7_swarm_0 18 rfl rfl)
theorem dX7_swarm_20 : decode cX7_swarm 20 = .ok (.iaload, 1) := dk_46 (dk_at dksX7_swarm_0 20 rfl rfl)
theorem dX7_swarm_21 : decode cX7_swarm 21 = .ok (.iconst (-1), 1) := dk_2 (dk_at dksX7_swarm_0 21 rfl rfl)
theorem dX7_swarm_22 : decode cX7_swarm 22 = .ok (.if_icmp .eq 9, 3) := dk_159 0 9 (dk_at dksX7_swarm_1 0 rfl rfl)
theorem dX7_swarm_25 : decode cX7_swarm 25 = .ok (.aload_n 0, 1) := dk_42 (dk_at dksX7_swarm_1 3 rfl rfl)
theorem dX7_swarm_26 : decode cX7_swarm 26 = .ok (.iconst 4, 1) := dk_7 (dk_at dksX7_swarm_1 4 rfl rfl)
theorem dX7_swarm_27 : decode cX7_swarm 27 = .ok (.invokevirtual 72, 3) := dk_182 0 72 (dk_at dksX7_swarm_1 5 rfl rfl)
theorem dX7_swarm_30 : decode cX7_swarm 30 = .ok (.ireturn, 1) := dk_172 (dk_at dksX7_swarm_1 8 rfl rfl)
theorem dX7_swarm_31 : decode cX7_swarm 31 = .ok (.aload_n 0, 1) := dk_42 (dk_at dksX7_swarm_1 9 rfl rfl)
theorem dX7_swarm_32 : decode cX7_swarm 32 = .ok (.iload_n 1, 1) := dk_27 (dk_at dksX7_swarm_1 10 rfl rfl)
theorem dX7_swarm_33 : decode cX7_swarm 33 = .ok (.invokevirtual 334, 3) := dk_182 1 78 (dk_at dksX7_swarm_1 11 rfl rfl)
theorem dX7_swarm_36 : decode cX7_swarm 36 = .ok (.ifCond .ne 10, 3) := dk_154 0 10 (dk_at dksX7_swarm_1 14 rfl rfl)
theorem dX7_swarm_39 : decode cX7_swarm 39 = .ok (.aload_n 0, 1) := dk_42 (dk_at dksX7_swarm_1 17 rfl rfl)
theorem dX7_swarm_40 : decode cX7_swarm 40 = .ok (.bipush 7, 2) := dk_16 7 (dk_at dksX7_swarm_1 18 rfl rfl)
theorem dX7_swarm_42 : decode cX7_swarm 42 = .ok (.invokevirtual 72, 3) := dk_182 0 72 (dk_at dksX7_swarm_1 20 rfl rfl)
theorem dX7_swarm_45 : decode cX7_swarm 45 = .ok (.ireturn, 1) := dk_172 (dk_at dksX7_swarm_1 23 rfl rfl)
theorem dX7_swarm_46 : decode cX7_swarm 46 = .ok (.iload_n 1, 1) := dk_27 (dk_at dksX7_swarm_2 0 rfl rfl)
theorem dX7_swarm_47 : decode cX7_swarm 47 = .ok (.invokestatic 217, 3) := dk_184 0 217 (dk_at dksX7_swarm_2 1 rfl rfl)
theorem dX7_swarm_50 : decode cX7_swarm 50 = .ok (.istore_n 2, 1) := dk_61 (dk_at dksX7_swarm_2 4 rfl rfl)
theorem dX7_swarm_51 : decode cX7_swarm 51 = .ok (.aload_n 0, 1) := dk_42 (dk_at dksX7_swarm_2 5 rfl rfl)
theorem dX7_swarm_52 : decode cX7_swarm 52 = .ok (.getfield 7, 3) := dk_180 0 7 (dk_at dksX7_swarm_2 6 rfl rfl)
theorem dX7_swarm_55 : decode cX7_swarm 55 = .ok (.bipush 11, 2) := dk_16 11 (dk_at dksX7_swarm_2 9 rfl rfl)
theorem dX7_swarm_57 : decode cX7_swarm 57 = .ok (.aload_n 0, 1) := dk_42 (dk_at dksX7_swarm_2 11 rfl rfl)
theorem dX7_swarm_58 : decode cX7_swarm 58 = .ok (.getfield 7, 3) := dk_180 0 7 (dk_at dksX7_swarm_2 12 rfl rfl)
theorem dX7_swarm_61 : decode cX7_swarm 61 = .ok (.iload_n 2, 1) := dk_28 (dk_at dksX7_swarm_2 15 rfl rfl)
theorem dX7_swarm_62 : decode cX7_swarm 62 = .ok (.iconst 1, 1) := dk_4 (dk_at dksX7_swarm_2 16 rfl rfl)
theorem dX7_swarm_63 : decode cX7_swarm 63 = .ok (.iadd, 1) := dk_96 (dk_at dksX7_swarm_2 17 rfl rfl)
theorem dX7_swarm_64 : decode cX7_swarm 64 = .ok (.iaload, 1) := dk_46 (dk_at dksX7_swarm_2 18 rfl rfl)
theorem dX7_swarm_65 : decode cX7_swarm 65 = .ok (.iconst 2, 1) := dk_5 (dk_at dksX7_swarm_2 19 rfl rfl)
theorem dX7_swarm_66 : decode cX7_swarm 66 = .ok (.idiv, 1) := dk_108 (dk_at dksX7_swarm_2 20 rfl rfl)
theorem dX7_swarm_67 : decode cX7_swarm 67 = .ok (.iastore, 1) := dk_79 (dk_at dksX7_swarm_2 21 rfl rfl)
theorem dX7_swarm_68 : decode cX7_swarm 68 = .ok (.aload_n 0, 1) := dk_42 (dk_at dksX7_swarm_2 22 rfl rfl)
theorem dX7_swarm_69 : decode cX7_swarm 69 = .ok (.getfield 7, 3) := dk_180 0 7 (dk_at dksX7_swarm_3 0 rfl rfl)
theorem dX7_swarm_72 : decode cX7_swarm 72 = .ok (.bipush 12, 2) := dk_16 12 (dk_at dksX7_swarm_3 3 rfl rfl)
theorem dX7_swarm_74 : decode cX7_swarm 74 = .ok (.aload_n 0, 1) := dk_42 (dk_at dksX7_swarm_3 5 rfl rfl)
theorem dX7_swarm_75 : decode cX7_swarm 75 = .ok (.getfield 7, 3) := dk_180 0 7 (dk_at dksX7_swarm_3 6 rfl rfl)
theorem dX7_swarm_78 : decode cX7_swarm 78 = .ok (.iload_n 2, 1) := dk_28 (dk_at dksX7_swarm_3 9 rfl rfl)
theorem dX7_swarm_79 : decode cX7_swarm 79 = .ok (.iconst 3, 1) := dk_6 (dk_at dksX7_swarm_3 10 rfl rfl)
theorem dX7_swarm_80 : decode cX7_swarm 80 = .ok (.iadd, 1) := dk_96 (dk_at dksX7_swarm_3 11 rfl rfl)
theorem dX7_swarm_81 : decode cX7_swarm 81 = .ok (.iaload, 1) := dk_46 (dk_at dksX7_swarm_3 12 rfl rfl)
theorem dX7_swarm_82 : decode cX7_swarm 82 = .ok (.iastore, 1) := dk_79 (dk_at dksX7_swarm_3 13 rfl rfl)
theorem dX7_swarm_83 : decode cX7_swarm 83 = .ok (.aload_n 0, 1) := dk_42 (dk_at dksX7_swarm_3 14 rfl rfl)
theorem dX7_swarm_84 : decode cX7_swarm 84 = .ok (.getfield 7, 3) := dk_180 0 7 (dk_at dksX7_swarm_3 15 rfl rfl)
theorem dX7_swarm_87 : decode cX7_swarm 87 = .ok (.iload_n 2, 1) := dk_28 (dk_at dksX7_swarm_3 18 rfl rfl)
theorem dX7_swarm_88 : decode cX7_swarm 88 = .ok (.iconst 1, 1) := dk_4 (dk_at dksX7_swarm_3 19 rfl rfl)
theorem dX7_swarm_89 : decode cX7_swarm 89 = .ok (.iadd, 1) := dk_96 (dk_at dksX7_swarm_3 20 rfl rfl)
theorem dX7_swarm_90 : decode cX7_swarm 90 = .ok (.dup2, 1) := dk_92 (dk_at dksX7_swarm_3 21 rfl rfl)
theorem dX7_swarm_91 : decode cX7_swarm 91 = .ok (.iaload, 1) := dk_46 (dk_at dksX7_swarm_3 22 rfl rfl)
theorem dX7_swarm_92 : decode cX7_swarm 92 = .ok (.aload_n 0, 1) := dk_42 (dk_at dksX7_swarm_3 23 rfl rfl)
theorem dX7_swarm_93 : decode cX7_swarm 93 = .ok (.getfield 7, 3) := dk_180 0 7 (dk_at dksX7_swarm_4 0 rfl rfl)
theorem dX7_swarm_96 : decode cX7_swarm 96 = .ok (.bipush 11, 2) := dk_16 11 (dk_at dksX7_swarm_4 3 rfl rfl)
theorem dX7_swarm_98 : decode cX7_swarm 98 = .ok (.iaload, 1) := dk_46 (dk_at dksX7_swarm_4 5 rfl rfl)
theorem dX7_swarm_99 : decode cX7_swarm 99 = .ok (.isub, 1) := dk_100 (dk_at dksX7_swarm_4 6 rfl rfl)
theorem dX7_swarm_100 : decode cX7_swarm 100 = .ok (.iastore, 1) := dk_79 (dk_at dksX7_swarm_4 7 rfl rfl)
theorem dX7_swarm_101 : decode cX7_swarm 101 = .ok (.aload_n 0, 1) := dk_42 (dk_at dksX7_swarm_4 8 rfl rfl)
theorem dX7_swarm_102 : decode cX7_swarm 102 = .ok (.getfield 7, 3) := dk_180 0 7 (dk_at dksX7_swarm_4 9 rfl rfl)
theorem dX7_swarm_105 : decode cX7_swarm 105 = .ok (.iload_n 2, 1) := dk_28 (dk_at dksX7_swarm_4 12 rfl rfl)
theorem dX7_swarm_106 : decode cX7_swarm 106 = .ok (.iconst 3, 1) := dk_6 (dk_at dksX7_swarm_4 13 rfl rfl)
theorem dX7_swarm_107 : decode cX7_swarm 107 = .ok (.iadd, 1) := dk_96 (dk_at dksX7_swarm_4 14 rfl rfl)
theorem dX7_swarm_108 : decode cX7_swarm 108 = .ok (.iconst (-1), 1) := dk_2 (dk_at dksX7_swarm_4 15 rfl rfl)
theorem dX7_swarm_109 : decode cX7_swarm 109 = .ok (.iastore, 1) := dk_79 (dk_at dksX7_swarm_4 16 rfl rfl)
theorem dX7_swarm_110 : decode cX7_swarm 110 = .ok (.aload_n 0, 1) := dk_42 (dk_at dksX7_swarm_4 17 rfl rfl)
theorem dX7_swarm_111 : decode cX7_swarm 111 = .ok (.aload_n 0, 1) := dk_42 (dk_at dksX7_swarm_4 18 rfl rfl)
theorem dX7_swarm_112 : decode cX7_swarm 112 = .ok (.getfield 7, 3) := dk_180 0 7 (dk_at dksX7_swarm_4 19 rfl rfl)
theorem dX7_swarm_115 : decode cX7_swarm 115 = .ok (.bipush 11, 2) := dk_16 11 (dk_at dksX7_swarm_4 22 rfl rfl)
theorem dX7_swarm_117 : decode cX7_swarm 117 = .ok (.iaload, 1) := dk_46 (dk_at dksX7_swarm_5 0 rfl rfl)
theorem dX7_swarm_118 : decode cX7_swarm 118 = .ok (.invokevirtual 76, 3) := dk_182 0 76 (dk_at dksX7_swarm_5 1 rfl rfl)
theorem dX7_swarm_121 : decode cX7_swarm 121 = .ok (.ireturn, 1) := dk_172 (dk_at dksX7_swarm_5 4 rfl rfl)
def dkwX7_swarmOut_1 : List UInt8 := [27, 96, 46, 182, 1, 24, 172]
abbrev dktX7_swarmOut_1 : List UInt8 := dkwX7_swarmOut_1 ++ []
def dkwX7_swarmOut_0 : List UInt8 := [27, 155, 0, 8, 27, 4, 164, 0, 11, 42, 4, 182, 0, 72, 167, 0, 16, 42, 42, 180, 0, 7, 16, 11]
abbrev dktX7_swarmOut_0 : List UInt8 := dkwX7_swarmOut_0 ++ dktX7_swarmOut_1
theorem dksX7_swarmOut_0 : cX7_swarmOut.data.toList.drop 0 = dktX7_swarmOut_0 := by decide +kernel
theorem dksX7_swarmOut_1 : cX7_swarmOut.data.toList.drop 24 = dktX7_swarmOut_1 := dk_seg dksX7_swarmOut_0 24 rfl rfl
theorem dX7_swarmOut_0 : decode cX7_swarmOut 0 = .ok (.iload_n 1, 1) := dk_27 (dk_at dksX7_swarmOut_0 0 rfl rfl)
theorem dX7_swarmOut_1 : decode cX7_swarmOut 1 = .ok (.ifCond .lt 8, 3) := dk_155 0 8 (dk_at dksX7_swarmOut_0 1 rfl rfl)
theorem dX7_swarmOut_4 : decode cX7_swarmOut 4 = .ok (.iload_n 1, 1) := dk_27 (dk_at dksX7_swarmOut_0 4 rfl rfl)
theorem dX7_swarmOut_5 : decode cX7_swarmOut 5 = .ok (.iconst 1, 1) := dk_4 (dk_at dksX7_swarmOut_0 5 rfl rfl)
theorem dX7_swarmOut_6 : decode cX7_swarmOut 6 = .ok (.if_icmp .le 11, 3) := dk_164 0 11 (dk_at dksX7_swarmOut_0 6 rfl rfl)
theorem dX7_swarmOut_9 : decode cX7_swarmOut 9 = .ok (.aload_n 0, 1) := dk_42 (dk_at dksX7_swarmOut_0 9 rfl rfl)
theorem dX7_swarmOut_10 : decode cX7_swarmOut 10 = .ok (.iconst 1, 1) := dk_4 (dk_at dksX7_swarmOut_0 10 rfl rfl)
theorem dX7_swarmOut_11 : decode cX7_swarmOut 11 = .ok (.invokevirtual 72, 3) := dk_182 0 72 (dk_at dksX7_swarmOut_0 11 rfl rfl)
theorem dX7_swarmOut_14 : decode cX7_swarmOut 14 = .ok (.goto 16, 3) := dk_167 0 16 (dk_at dksX7_swarmOut_0 14 rfl rfl)
theorem dX7_swarmOut_17 : decode cX7_swarmOut 17 = .ok (.aload_n 0, 1) := dk_42 (dk_at dksX7_swarmOut_0 17 rfl rfl)
theorem dX7_swarmOut_18 : decode cX7_swarmOut 18 = .ok (.aload_n 0, 1) := dk_42 (dk_at dksX7_swarmOut_0 18 rfl rfl)
theorem dX7_swarmOut_19 : decode cX7_swarmOut 19 = .ok (.getfield 7, 3) := dk_180 0 7 (dk_at dksX7_swarmOut_0 19 rfl rfl)
theorem dX7_swarmOut_22 : decode cX7_swarmOut 22 = .ok (.bipush 11, 2) := dk_16 11 (dk_at dksX7_swarmOut_0 22 rfl rfl)
theorem dX7_swarmOut_24 : decode cX7_swarmOut 24 = .ok (.iload_n 1, 1) := dk_27 (dk_at dksX7_swarmOut_1 0 rfl rfl)
theorem dX7_swarmOut_25 : decode cX7_swarmOut 25 = .ok (.iadd, 1) := dk_96 (dk_at dksX7_swarmOut_1 1 rfl rfl)
theorem dX7_swarmOut_26 : decode cX7_swarmOut 26 = .ok (.iaload, 1) := dk_46 (dk_at dksX7_swarmOut_1 2 rfl rfl)
theorem dX7_swarmOut_27 : decode cX7_swarmOut 27 = .ok (.invokevirtual 280, 3) := dk_182 1 24 (dk_at dksX7_swarmOut_1 3 rfl rfl)
theorem dX7_swarmOut_30 : decode cX7_swarmOut 30 = .ok (.ireturn, 1) := dk_172 (dk_at dksX7_swarmOut_1 6 rfl rfl)
def dkwX7_take_5 : List UInt8 := [172]
abbrev dktX7_take_5 : List UInt8 := dkwX7_take_5 ++ []
def dkwX7_take_4 : List UInt8 := [16, 11, 2, 79, 42, 180, 0, 7, 16, 12, 2, 79, 42, 42, 180, 0, 7, 28, 4, 96, 46, 182, 0, 76]
abbrev dktX7_take_4 : List UInt8 := dkwX7_take_4 ++ dktX7_take_5
def dkwX7_take_3 : List UInt8 := [16, 11, 46, 96, 79, 42, 180, 0, 7, 28, 6, 96, 42, 180, 0, 7, 16, 12, 46, 79, 42, 180, 0, 7]
abbrev dktX7_take_3 : List UInt8 := dkwX7_take_3 ++ dktX7_take_4
def dkwX7_take_2 : List UInt8 := [159, 0, 10, 42, 16, 7, 182, 0, 72, 172, 42, 180, 0, 7, 28, 4, 96, 92, 46, 42, 180, 0, 7]
abbrev dktX7_take_2 : List UInt8 := dkwX7_take_2 ++ dktX7_take_3
def dkwX7_take_1 : List UInt8 := [160, 0, 10, 42, 16, 6, 182, 0, 72, 172, 27, 184, 0, 217, 61, 42, 180, 0, 7, 28, 6, 96, 46, 2]
abbrev dktX7_take_1 : List UInt8 := dkwX7_take_1 ++ dktX7_take_2
def dkwX7_take_0 : List UInt8 := [42, 27, 182, 1, 18, 154, 0, 9, 42, 4, 182, 0, 72, 172, 42, 180, 0, 7, 16, 11, 46, 2]
abbrev dktX7_take_0 : List UInt8 := dkwX7_take_0 ++ dktX7_take_1
theorem dksX7_take_0 : cX7_take.data.toList.drop 0 = dktX7_take_0 := by decide +kernel
theorem dksX7_take_1 : cX7_take.data.toList.drop 22 = dktX7_take_1 := dk_seg dksX7_take_0 22 rfl rfl
theorem dksX7_take_2 : cX7_take.data.toList.drop 46 = dktX7_take_2 := dk_seg dksX7_take_1 24 rfl rfl
theorem dksX7_take_3 : cX7_take.data.toList.drop 69 = dktX7_take_3 := dk_seg dksX7_take_2 23 rfl rfl
theorem dksX7_take_4 : cX7_take.data.toList.drop 93 = dktX7_take_4 := dk_seg dksX7_take_3 24 rfl rfl
theorem dksX7_take_5 : cX7_take.data.toList.drop 117 = dktX7_take_5 := dk_seg dksX7_take_4 24 rfl rfl
theorem dX7_take_0 : decode cX7_take 0 = .ok (.aload_n 0, 1) := dk_42 (dk_at dksX7_take_0 0 rfl rfl)
theorem dX7_take_1 : decode cX7_take 1 = .ok (.iload_n 1, 1) := dk_27 (dk_at dksX7_take_0 1 rfl rfl)
theorem dX7_take_2 : decode cX7_take 2 = .ok (.invokevirtual 274, 3) := dk_182 1 18 (dk_at dksX7_take_0 2 rfl rfl)
theorem dX7_take_5 : decode cX7_take 5 = .ok (.ifCond .ne 9, 3) := dk_154 0 9 (dk_at dksX7_take_0 5 rfl rfl)
theorem dX7_take_8 : decode cX7_take 8 = .ok (.aload_n 0, 1) := dk_42 (dk_at dksX7_take_0 8 rfl rfl)
theorem dX7_take_9 : decode cX7_take 9 = .ok (.iconst 1, 1) := dk_4 (dk_at dksX7_take_0 9 rfl rfl)
theorem dX7_take_10 : decode cX7_take 10 = .ok (.invokevirtual 72, 3) := dk_182 0 72 (dk_at dksX7_take_0 10 rfl rfl)
theorem dX7_take_13 : decode cX7_take 13 = .ok (.ireturn, 1) := dk_172 (dk_at dksX7_take_0 13 rfl rfl)
theorem dX7_take_14 : decode cX7_take 14 = .ok (.aload_n 0, 1) := dk_42 (dk_at dksX7_take_0 14 rfl rfl)
theorem dX7_take_15 : decode cX7_take 15 = .ok (.getfield 7, 3) := dk_180 0 7 (dk_at dksX7_take_0 15 rfl rfl)
theorem dX7_take_18 : decode cX7_take 18 = .ok (.bipush 11, 2) := dk_16 11 (dk_at dksX7_take_0 18 rfl rfl)
theorem dX7_take_20 : decode cX7_take 20 = .ok (.iaload, 1) := dk_46 (dk_at dksX7_take_0 20 rfl rfl)
theorem dX7_take_21 : decode cX7_take 21 = .ok (.iconst (-1), 1) := dk_2 (dk_at dksX7_take_0 21 rfl rfl)
theorem dX7_take_22 : decode cX7_take 22 = .ok (.if_icmp .ne 10, 3) := dk_160 0 10 (dk_at dksX7_take_1 0 rfl rfl)
theorem dX7_take_25 : decode cX7_take 25 = .ok (.aload_n 0, 1) := dk_42 (dk_at dksX7_take_1 3 rfl rfl)
theorem dX7_take_26 : decode cX7_take 26 = .ok (.bipush 6, 2) := dk_16 6 (dk_at dksX7_take_1 4 rfl rfl)
theorem dX7_take_28 : decode cX7_take 28 = .ok (.invokevirtual 72, 3) := dk_182 0 72 (dk_at dksX7_take_1 6 rfl rfl)
theorem dX7_take_31 : decode cX7_take 31 = .ok (.ireturn, 1) := dk_172 (dk_at dksX7_take_1 9 rfl rfl)
theorem dX7_take_32 : decode cX7_take 32 = .ok (.iload_n 1, 1) := dk_27 (dk_at dksX7_take_1 10 rfl rfl)
theorem dX7_take_33 : decode cX7_take 33 = .ok (.invokestatic 217, 3) := dk_184 0 217 (dk_at dksX7_take_1 11 rfl rfl)
theorem dX7_take_36 : decode cX7_take 36 = .ok (.istore_n 2, 1) := dk_61 (dk_at dksX7_take_1 14 rfl rfl)
theorem dX7_take_37 : decode cX7_take 37 = .ok (.aload_n 0, 1) := dk_42 (dk_at dksX7_take_1 15 rfl rfl)
theorem dX7_take_38 : decode cX7_take 38 = .ok (.getfield 7, 3) := dk_180 0 7 (dk_at dksX7_take_1 16 rfl rfl)
theorem dX7_take_41 : decode cX7_take 41 = .ok (.iload_n 2, 1) := dk_28 (dk_at dksX7_take_1 19 rfl rfl)
theorem dX7_take_42 : decode cX7_take 42 = .ok (.iconst 3, 1) := dk_6 (dk_at dksX7_take_1 20 rfl rfl)
theorem dX7_take_43 : decode cX7_take 43 = .ok (.iadd, 1) := dk_96 (dk_at dksX7_take_1 21 rfl rfl)
theorem dX7_take_44 : decode cX7_take 44 = .ok (.iaload, 1) := dk_46 (dk_at dksX7_take_1 22 rfl rfl)
theorem dX7_take_45 : decode cX7_take 45 = .ok (.iconst (-1), 1) := dk_2 (dk_at dksX7_take_1 23 rfl rfl)
theorem dX7_take_46 : decode cX7_take 46 = .ok (.if_icmp .eq 10, 3) := dk_159 0 10 (dk_at dksX7_take_2 0 rfl rfl)
theorem dX7_take_49 : decode cX7_take 49 = .ok (.aload_n 0, 1) := dk_42 (dk_at dksX7_take_2 3 rfl rfl)
theorem dX7_take_50 : decode cX7_take 50 = .ok (.bipush 7, 2) := dk_16 7 (dk_at dksX7_take_2 4 rfl rfl)
theorem dX7_take_52 : decode cX7_take 52 = .ok (.invokevirtual 72, 3) := dk_182 0 72 (dk_at dksX7_take_2 6 rfl rfl)
theorem dX7_take_55 : decode cX7_take 55 = .ok (.ireturn, 1) := dk_172 (dk_at dksX7_take_2 9 rfl rfl)
theorem dX7_take_56 : decode cX7_take 56 = .ok (.aload_n 0, 1) := dk_42 (dk_at dksX7_take_2 10 rfl rfl)
theorem dX7_take_57 : decode cX7_take 57 = .ok (.getfield 7, 3) := dk_180 0 7 (dk_at dksX7_take_2 11 rfl rfl)
theorem dX7_take_60 : decode cX7_take 60 = .ok (.iload_n 2, 1) := dk_28 (dk_at dksX7_take_2 14 rfl rfl)
theorem dX7_take_61 : decode cX7_take 61 = .ok (.iconst 1, 1) := dk_4 (dk_at dksX7_take_2 15 rfl rfl)
theorem dX7_take_62 : decode cX7_take 62 = .ok (.iadd, 1) := dk_96 (dk_at dksX7_take_2 16 rfl rfl)
theorem dX7_take_63 : decode cX7_take 63 = .ok (.dup2, 1) := dk_92 (dk_at dksX7_take_2 17 rfl rfl)
theorem dX7_take_64 : decode cX7_take 64 = .ok (.iaload, 1) := dk_46 (dk_at dksX7_take_2 18 rfl rfl)
theorem dX7_take_65 : decode cX7_take 65 = .ok (.aload_n 0, 1) := dk_42 (dk_at dksX7_take_2 19 rfl rfl)
theorem dX7_take_66 : decode cX7_take 66 = .ok (.getfield 7, 3) := dk_180 0 7 (dk_at dksX7_take_2 20 rfl rfl)
theorem dX7_take_69 : decode cX7_take 69 = .ok (.bipush 11, 2) := dk_16 11 (dk_at dksX7_take_3 0 rfl rfl)
theorem dX7_take_71 : decode cX7_take 71 = .ok (.iaload, 1) := dk_46 (dk_at dksX7_take_3 2 rfl rfl)
theorem dX7_take_72 : decode cX7_take 72 = .ok (.iadd, 1) := dk_96 (dk_at dksX7_take_3 3 rfl rfl)
theorem dX7_take_73 : decode cX7_take 73 = .ok (.iastore, 1) := dk_79 (dk_at dksX7_take_3 4 rfl rfl)
theorem dX7_take_74 : decode cX7_take 74 = .ok (.aload_n 0, 1) := dk_42 (dk_at dksX7_take_3 5 rfl rfl)
theorem dX7_take_75 : decode cX7_take 75 = .ok (.getfield 7, 3) := dk_180 0 7 (dk_at dksX7_take_3 6 rfl rfl)
theorem dX7_take_78 : decode cX7_take 78 = .ok (.iload_n 2, 1) := dk_28 (dk_at dksX7_take_3 9 rfl rfl)
theorem dX7_take_79 : decode cX7_take 79 = .ok (.iconst 3, 1) := dk_6 (dk_at dksX7_take_3 10 rfl rfl)
theorem dX7_take_80 : decode cX7_take 80 = .ok (.iadd, 1) := dk_96 (dk_at dksX7_take_3 11 rfl rfl)
theorem dX7_take_81 : decode cX7_take 81 = .ok (.aload_n 0, 1) := dk_42 (dk_at dksX7_take_3 12 rfl rfl)
theorem dX7_take_82 : decode cX7_take 82 = .ok (.getfield 7, 3) := dk_180 0 7 (dk_at dksX7_take_3 13 rfl rfl)
theorem dX7_take_85 : decode cX7_take 85 = .ok (.bipush 12, 2) := dk_16 12 (dk_at dksX7_take_3 16 rfl rfl)
theorem dX7_take_87 : decode cX7_take 87 = .ok (.iaload, 1) := dk_46 (dk_at dksX7_take_3 18 rfl rfl)
theorem dX7_take_88 : decode cX7_take 88 = .ok (.iastore, 1) := dk_79 (dk_at dksX7_take_3 19 rfl rfl)
theorem dX7_take_89 : decode cX7_take 89 = .ok (.aload_n 0, 1) := dk_42 (dk_at dksX7_take_3 20 rfl rfl)
theorem dX7_take_90 : decode cX7_take 90 = .ok (.getfield 7, 3) := dk_180 0 7 (dk_at dksX7_take_3 21 rfl rfl)
theorem dX7_take_93 : decode cX7_take 93 = .ok (.bipush 11, 2) := dk_16 11 (dk_at dksX7_take_4 0 rfl rfl)
theorem dX7_take_95 : decode cX7_take 95 = .ok (.iconst (-1), 1) := dk_2 (dk_at dksX7_take_4 2 rfl rfl)
theorem dX7_take_96 : decode cX7_take 96 = .ok (.iastore, 1) := dk_79 (dk_at dksX7_take_4 3 rfl rfl)
theorem dX7_take_97 : decode cX7_take 97 = .ok (.aload_n 0, 1) := dk_42 (dk_at dksX7_take_4 4 rfl rfl)
theorem dX7_take_98 : decode cX7_take 98 = .ok (.getfield 7, 3) := dk_180 0 7 (dk_at dksX7_take_4 5 rfl rfl)
theorem dX7_take_101 : decode cX7_take 101 = .ok (.bipush 12, 2) := dk_16 12 (dk_at dksX7_take_4 8 rfl rfl)
theorem dX7_take_103 : decode cX7_take 103 = .ok (.iconst (-1), 1) := dk_2 (dk_at dksX7_take_4 10 rfl rfl)
theorem dX7_take_104 : decode cX7_take 104 = .ok (.iastore, 1) := dk_79 (dk_at dksX7_take_4 11 rfl rfl)
theorem dX7_take_105 : decode cX7_take 105 = .ok (.aload_n 0, 1) := dk_42 (dk_at dksX7_take_4 12 rfl rfl)
theorem dX7_take_106 : decode cX7_take 106 = .ok (.aload_n 0, 1) := dk_42 (dk_at dksX7_take_4 13 rfl rfl)
theorem dX7_take_107 : decode cX7_take 107 = .ok (.getfield 7, 3) := dk_180 0 7 (dk_at dksX7_take_4 14 rfl rfl)
theorem dX7_take_110 : decode cX7_take 110 = .ok (.iload_n 2, 1) := dk_28 (dk_at dksX7_take_4 17 rfl rfl)
theorem dX7_take_111 : decode cX7_take 111 = .ok (.iconst 1, 1) := dk_4 (dk_at dksX7_take_4 18 rfl rfl)
theorem dX7_take_112 : decode cX7_take 112 = .ok (.iadd, 1) := dk_96 (dk_at dksX7_take_4 19 rfl rfl)
theorem dX7_take_113 : decode cX7_take 113 = .ok (.iaload, 1) := dk_46 (dk_at dksX7_take_4 20 rfl rfl)
theorem dX7_take_114 : decode cX7_take 114 = .ok (.invokevirtual 76, 3) := dk_182 0 76 (dk_at dksX7_take_4 21 rfl rfl)
theorem dX7_take_117 : decode cX7_take 117 = .ok (.ireturn, 1) := dk_172 (dk_at dksX7_take_5 0 rfl rfl)
def dkwX7_kin_1 : List UInt8 := [182, 1, 95, 42, 42, 180, 0, 50, 16, 16, 27, 104, 28, 96, 47, 20, 1, 93, 182, 1, 98, 172]
abbrev dktX7_kin_1 : List UInt8 := dkwX7_kin_1 ++ []
def dkwX7_kin_0 : List UInt8 := [42, 27, 182, 1, 30, 153, 0, 11, 42, 28, 182, 1, 30, 154, 0, 9, 42, 4, 182, 0, 79, 172, 42]
abbrev dktX7_kin_0 : List UInt8 := dkwX7_kin_0 ++ dktX7_kin_1
theorem dksX7_kin_0 : cX7_kin.data.toList.drop 0 = dktX7_kin_0 := by decide +kernel
theorem dksX7_kin_1 : cX7_kin.data.toList.drop 23 = dktX7_kin_1 := dk_seg dksX7_kin_0 23 rfl rfl
theorem dX7_kin_0 : decode cX7_kin 0 = .ok (.aload_n 0, 1) := dk_42 (dk_at dksX7_kin_0 0 rfl rfl)
theorem dX7_kin_1 : decode cX7_kin 1 = .ok (.iload_n 1, 1) := dk_27 (dk_at dksX7_kin_0 1 rfl rfl)
theorem dX7_kin_2 : decode cX7_kin 2 = .ok (.invokevirtual 286, 3) := dk_182 1 30 (dk_at dksX7_kin_0 2 rfl rfl)
theorem dX7_kin_5 : decode cX7_kin 5 = .ok (.ifCond .eq 11, 3) := dk_153 0 11 (dk_at dksX7_kin_0 5 rfl rfl)
theorem dX7_kin_8 : decode cX7_kin 8 = .ok (.aload_n 0, 1) := dk_42 (dk_at dksX7_kin_0 8 rfl rfl)
theorem dX7_kin_9 : decode cX7_kin 9 = .ok (.iload_n 2, 1) := dk_28 (dk_at dksX7_kin_0 9 rfl rfl)
theorem dX7_kin_10 : decode cX7_kin 10 = .ok (.invokevirtual 286, 3) := dk_182 1 30 (dk_at dksX7_kin_0 10 rfl rfl)
theorem dX7_kin_13 : decode cX7_kin 13 = .ok (.ifCond .ne 9, 3) := dk_154 0 9 (dk_at dksX7_kin_0 13 rfl rfl)
theorem dX7_kin_16 : decode cX7_kin 16 = .ok (.aload_n 0, 1) := dk_42 (dk_at dksX7_kin_0 16 rfl rfl)
theorem dX7_kin_17 : decode cX7_kin 17 = .ok (.iconst 1, 1) := dk_4 (dk_at dksX7_kin_0 17 rfl rfl)
theorem dX7_kin_18 : decode cX7_kin 18 = .ok (.invokevirtual 79, 3) := dk_182 0 79 (dk_at dksX7_kin_0 18 rfl rfl)
theorem dX7_kin_21 : decode cX7_kin 21 = .ok (.ireturn, 1) := dk_172 (dk_at dksX7_kin_0 21 rfl rfl)
theorem dX7_kin_22 : decode cX7_kin 22 = .ok (.aload_n 0, 1) := dk_42 (dk_at dksX7_kin_0 22 rfl rfl)
theorem dX7_kin_23 : decode cX7_kin 23 = .ok (.invokevirtual 351, 3) := dk_182 1 95 (dk_at dksX7_kin_1 0 rfl rfl)
theorem dX7_kin_26 : decode cX7_kin 26 = .ok (.aload_n 0, 1) := dk_42 (dk_at dksX7_kin_1 3 rfl rfl)
theorem dX7_kin_27 : decode cX7_kin 27 = .ok (.aload_n 0, 1) := dk_42 (dk_at dksX7_kin_1 4 rfl rfl)
theorem dX7_kin_28 : decode cX7_kin 28 = .ok (.getfield 50, 3) := dk_180 0 50 (dk_at dksX7_kin_1 5 rfl rfl)
theorem dX7_kin_31 : decode cX7_kin 31 = .ok (.bipush 16, 2) := dk_16 16 (dk_at dksX7_kin_1 8 rfl rfl)
theorem dX7_kin_33 : decode cX7_kin 33 = .ok (.iload_n 1, 1) := dk_27 (dk_at dksX7_kin_1 10 rfl rfl)
theorem dX7_kin_34 : decode cX7_kin 34 = .ok (.imul, 1) := dk_104 (dk_at dksX7_kin_1 11 rfl rfl)
theorem dX7_kin_35 : decode cX7_kin 35 = .ok (.iload_n 2, 1) := dk_28 (dk_at dksX7_kin_1 12 rfl rfl)
theorem dX7_kin_36 : decode cX7_kin 36 = .ok (.iadd, 1) := dk_96 (dk_at dksX7_kin_1 13 rfl rfl)
theorem dX7_kin_37 : decode cX7_kin 37 = .ok (.laload, 1) := dk_47 (dk_at dksX7_kin_1 14 rfl rfl)
theorem dX7_kin_38 : decode cX7_kin 38 = .ok (.ldc2_w 349, 3) := dk_20 1 93 (dk_at dksX7_kin_1 15 rfl rfl)
theorem dX7_kin_41 : decode cX7_kin 41 = .ok (.invokevirtual 354, 3) := dk_182 1 98 (dk_at dksX7_kin_1 18 rfl rfl)
theorem dX7_kin_44 : decode cX7_kin 44 = .ok (.ireturn, 1) := dk_172 (dk_at dksX7_kin_1 21 rfl rfl)
def dkwX7_laysKin_7 : List UInt8 := [167, 255, 98, 177]
abbrev dktX7_laysKin_7 : List UInt8 := dkwX7_laysKin_7 ++ []
def dkwX7_laysKin_6 : List UInt8 := [167, 0, 18, 20, 1, 93, 42, 29, 21, 4, 182, 1, 87, 97, 20, 1, 91, 109, 80, 132, 1, 1]
abbrev dktX7_laysKin_6 : List UInt8 := dkwX7_laysKin_6 ++ dktX7_laysKin_7
def dkwX7_laysKin_5 : List UInt8 := [132, 5, 1, 167, 255, 173, 42, 180, 0, 50, 16, 17, 28, 104, 28, 16, 8, 161, 0, 9, 20, 1, 93]
abbrev dktX7_laysKin_5 : List UInt8 := dkwX7_laysKin_5 ++ dktX7_laysKin_6
def dkwX7_laysKin_4 : List UInt8 := [28, 104, 21, 6, 96, 22, 7, 80, 42, 180, 0, 50, 16, 16, 21, 6, 104, 28, 96, 22, 7, 80]
abbrev dktX7_laysKin_4 : List UInt8 := dkwX7_laysKin_4 ++ dktX7_laysKin_5
def dkwX7_laysKin_3 : List UInt8 := [182, 1, 87, 42, 21, 4, 21, 6, 182, 1, 87, 97, 20, 1, 91, 109, 55, 7, 42, 180, 0, 50, 16, 16]
abbrev dktX7_laysKin_3 : List UInt8 := dkwX7_laysKin_3 ++ dktX7_laysKin_4
def dkwX7_laysKin_2 : List UInt8 := [54, 6, 28, 16, 8, 161, 0, 13, 42, 29, 21, 6, 182, 1, 87, 167, 0, 23, 42, 29, 21, 6]
abbrev dktX7_laysKin_2 : List UInt8 := dkwX7_laysKin_2 ++ dktX7_laysKin_3
def dkwX7_laysKin_1 : List UInt8 := [62, 42, 28, 182, 1, 36, 54, 4, 3, 54, 5, 21, 5, 27, 162, 0, 83, 42, 21, 5, 182, 1, 84]
abbrev dktX7_laysKin_1 : List UInt8 := dkwX7_laysKin_1 ++ dktX7_laysKin_2
def dkwX7_laysKin_0 : List UInt8 := [3, 60, 27, 42, 180, 0, 7, 16, 13, 46, 162, 0, 153, 42, 27, 182, 1, 84, 61, 42, 28, 182, 1, 33]
abbrev dktX7_laysKin_0 : List UInt8 := dkwX7_laysKin_0 ++ dktX7_laysKin_1
theorem dksX7_laysKin_0 : cX7_laysKin.data.toList.drop 0 = dktX7_laysKin_0 := by decide +kernel
theorem dksX7_laysKin_1 : cX7_laysKin.data.toList.drop 24 = dktX7_laysKin_1 := dk_seg dksX7_laysKin_0 24 rfl rfl
theorem dksX7_laysKin_2 : cX7_laysKin.data.toList.drop 47 = dktX7_laysKin_2 := dk_seg dksX7_laysKin_1 23 rfl rfl
theorem dksX7_laysKin_3 : cX7_laysKin.data.toList.drop 69 = dktX7_laysKin_3 := dk_seg dksX7_laysKin_2 22 rfl rfl
theorem dksX7_laysKin_4 : cX7_laysKin.data.toList.drop 93 = dktX7_laysKin_4 := dk_seg dksX7_laysKin_3 24 rfl rfl
theorem dksX7_laysKin_5 : cX7_laysKin.data.toList.drop 115 = dktX7_laysKin_5 := dk_seg dksX7_laysKin_4 22 rfl rfl
theorem dksX7_laysKin_6 : cX7_laysKin.data.toList.drop 138 = dktX7_laysKin_6 := dk_seg dksX7_laysKin_5 23 rfl rfl
theorem dksX7_laysKin_7 : cX7_laysKin.data.toList.drop 160 = dktX7_laysKin_7 := dk_seg dksX7_laysKin_6 22 rfl rfl
theorem dX7_laysKin_0 : decode cX7_laysKin 0 = .ok (.iconst 0, 1) := dk_3 (dk_at dksX7_laysKin_0 0 rfl rfl)
theorem dX7_laysKin_1 : decode cX7_laysKin 1 = .ok (.istore_n 1, 1) := dk_60 (dk_at dksX7_laysKin_0 1 rfl rfl)
theorem dX7_laysKin_2 : decode cX7_laysKin 2 = .ok (.iload_n 1, 1) := dk_27 (dk_at dksX7_laysKin_0 2 rfl rfl)
theorem dX7_laysKin_3 : decode cX7_laysKin 3 = .ok (.aload_n 0, 1) := dk_42 (dk_at dksX7_laysKin_0 3 rfl rfl)
theorem dX7_laysKin_4 : decode cX7_laysKin 4 = .ok (.getfield 7, 3) := dk_180 0 7 (dk_at dksX7_laysKin_0 4 rfl rfl)
theorem dX7_laysKin_7 : decode cX7_laysKin 7 = .ok (.bipush 13, 2) := dk_16 13 (dk_at dksX7_laysKin_0 7 rfl rfl)
theorem dX7_laysKin_9 : decode cX7_laysKin 9 = .ok (.iaload, 1) := dk_46 (dk_at dksX7_laysKin_0 9 rfl rfl)
theorem dX7_laysKin_10 : decode cX7_laysKin 10 = .ok (.if_icmp .ge 153, 3) := dk_162 0 153 (dk_at dksX7_laysKin_0 10 rfl rfl)
theorem dX7_laysKin_13 : decode cX7_laysKin 13 = .ok (.aload_n 0, 1) := dk_42 (dk_at dksX7_laysKin_0 13 rfl rfl)
theorem dX7_laysKin_14 : decode cX7_laysKin 14 = .ok (.iload_n 1, 1) := dk_27 (dk_at dksX7_laysKin_0 14 rfl rfl)
theorem dX7_laysKin_15 : decode cX7_laysKin 15 = .ok (.invokevirtual 340, 3) := dk_182 1 84 (dk_at dksX7_laysKin_0 15 rfl rfl)
theorem dX7_laysKin_18 : decode cX7_laysKin 18 = .ok (.istore_n 2, 1) := dk_61 (dk_at dksX7_laysKin_0 18 rfl rfl)
theorem dX7_laysKin_19 : decode cX7_laysKin 19 = .ok (.aload_n 0, 1) := dk_42 (dk_at dksX7_laysKin_0 19 rfl rfl)
theorem dX7_laysKin_20 : decode cX7_laysKin 20 = .ok (.iload_n 2, 1) := dk_28 (dk_at dksX7_laysKin_0 20 rfl rfl)
theorem dX7_laysKin_21 : decode cX7_laysKin 21 = .ok (.invokevirtual 289, 3) := dk_182 1 33 (dk_at dksX7_laysKin_0 21 rfl rfl)
theorem dX7_laysKin_24 : decode cX7_laysKin 24 = .ok (.istore_n 3, 1) := dk_62 (dk_at dksX7_laysKin_1 0 rfl rfl)
theorem dX7_laysKin_25 : decode cX7_laysKin 25 = .ok (.aload_n 0, 1) := dk_42 (dk_at dksX7_laysKin_1 1 rfl rfl)
theorem dX7_laysKin_26 : decode cX7_laysKin 26 = .ok (.iload_n 2, 1) := dk_28 (dk_at dksX7_laysKin_1 2 rfl rfl)
theorem dX7_laysKin_27 : decode cX7_laysKin 27 = .ok (.invokevirtual 292, 3) := dk_182 1 36 (dk_at dksX7_laysKin_1 3 rfl rfl)
theorem dX7_laysKin_30 : decode cX7_laysKin 30 = .ok (.istore 4, 2) := dk_54 4 (dk_at dksX7_laysKin_1 6 rfl rfl)
theorem dX7_laysKin_32 : decode cX7_laysKin 32 = .ok (.iconst 0, 1) := dk_3 (dk_at dksX7_laysKin_1 8 rfl rfl)
theorem dX7_laysKin_33 : decode cX7_laysKin 33 = .ok (.istore 5, 2) := dk_54 5 (dk_at dksX7_laysKin_1 9 rfl rfl)
theorem dX7_laysKin_35 : decode cX7_laysKin 35 = .ok (.iload 5, 2) := dk_21 5 (dk_at dksX7_laysKin_1 11 rfl rfl)
theorem dX7_laysKin_37 : decode cX7_laysKin 37 = .ok (.iload_n 1, 1) := dk_27 (dk_at dksX7_laysKin_1 13 rfl rfl)
theorem dX7_laysKin_38 : decode cX7_laysKin 38 = .ok (.if_icmp .ge 83, 3) := dk_162 0 83 (dk_at dksX7_laysKin_1 14 rfl rfl)
theorem dX7_laysKin_41 : decode cX7_laysKin 41 = .ok (.aload_n 0, 1) := dk_42 (dk_at dksX7_laysKin_1 17 rfl rfl)
theorem dX7_laysKin_42 : decode cX7_laysKin 42 = .ok (.iload 5, 2) := dk_21 5 (dk_at dksX7_laysKin_1 18 rfl rfl)
theorem dX7_laysKin_44 : decode cX7_laysKin 44 = .ok (.invokevirtual 340, 3) := dk_182 1 84 (dk_at dksX7_laysKin_1 20 rfl rfl)
theorem dX7_laysKin_47 : decode cX7_laysKin 47 = .ok (.istore 6, 2) := dk_54 6 (dk_at dksX7_laysKin_2 0 rfl rfl)
theorem dX7_laysKin_49 : decode cX7_laysKin 49 = .ok (.iload_n 2, 1) := dk_28 (dk_at dksX7_laysKin_2 2 rfl rfl)
theorem dX7_laysKin_50 : decode cX7_laysKin 50 = .ok (.bipush 8, 2) := dk_16 8 (dk_at dksX7_laysKin_2 3 rfl rfl)
theorem dX7_laysKin_52 : decode cX7_laysKin 52 = .ok (.if_icmp .lt 13, 3) := dk_161 0 13 (dk_at dksX7_laysKin_2 5 rfl rfl)
theorem dX7_laysKin_55 : decode cX7_laysKin 55 = .ok (.aload_n 0, 1) := dk_42 (dk_at dksX7_laysKin_2 8 rfl rfl)
theorem dX7_laysKin_56 : decode cX7_laysKin 56 = .ok (.iload_n 3, 1) := dk_29 (dk_at dksX7_laysKin_2 9 rfl rfl)
theorem dX7_laysKin_57 : decode cX7_laysKin 57 = .ok (.iload 6, 2) := dk_21 6 (dk_at dksX7_laysKin_2 10 rfl rfl)
theorem dX7_laysKin_59 : decode cX7_laysKin 59 = .ok (.invokevirtual 343, 3) := dk_182 1 87 (dk_at dksX7_laysKin_2 12 rfl rfl)
theorem dX7_laysKin_62 : decode cX7_laysKin 62 = .ok (.goto 23, 3) := dk_167 0 23 (dk_at dksX7_laysKin_2 15 rfl rfl)
theorem dX7_laysKin_65 : decode cX7_laysKin 65 = .ok (.aload_n 0, 1) := dk_42 (dk_at dksX7_laysKin_2 18 rfl rfl)
theorem dX7_laysKin_66 : decode cX7_laysKin 66 = .ok (.iload_n 3, 1) := dk_29 (dk_at dksX7_laysKin_2 19 rfl rfl)
theorem dX7_laysKin_67 : decode cX7_laysKin 67 = .ok (.iload 6, 2) := dk_21 6 (dk_at dksX7_laysKin_2 20 rfl rfl)
theorem dX7_laysKin_69 : decode cX7_laysKin 69 = .ok (.invokevirtual 343, 3) := dk_182 1 87 (dk_at dksX7_laysKin_3 0 rfl rfl)
theorem dX7_laysKin_72 : decode cX7_laysKin 72 = .ok (.aload_n 0, 1) := dk_42 (dk_at dksX7_laysKin_3 3 rfl rfl)
theorem dX7_laysKin_73 : decode cX7_laysKin 73 = .ok (.iload 4, 2) := dk_21 4 (dk_at dksX7_laysKin_3 4 rfl rfl)
theorem dX7_laysKin_75 : decode cX7_laysKin 75 = .ok (.iload 6, 2) := dk_21 6 (dk_at dksX7_laysKin_3 6 rfl rfl)
theorem dX7_laysKin_77 : decode cX7_laysKin 77 = .ok (.invokevirtual 343, 3) := dk_182 1 87 (dk_at dksX7_laysKin_3 8 rfl rfl)
theorem dX7_laysKin_80 : decode cX7_laysKin 80 = .ok (.ladd, 1) := dk_97 (dk_at dksX7_laysKin_3 11 rfl rfl)
theorem dX7_laysKin_81 : decode cX7_laysKin 81 = .ok (.ldc2_w 347, 3) := dk_20 1 91 (dk_at dksX7_laysKin_3 12 rfl rfl)
theorem dX7_laysKin_84 : decode cX7_laysKin 84 = .ok (.ldiv, 1) := dk_109 (dk_at dksX7_laysKin_3 15 rfl rfl)
theorem dX7_laysKin_85 : decode cX7_laysKin 85 = .ok (.lstore 7, 2) := dk_55 7 (dk_at dksX7_laysKin_3 16 rfl rfl)
theorem dX7_laysKin_87 : decode cX7_laysKin 87 = .ok (.aload_n 0, 1) := dk_42 (dk_at dksX7_laysKin_3 18 rfl rfl)
theorem dX7_laysKin_88 : decode cX7_laysKin 88 = .ok (.getfield 50, 3) := dk_180 0 50 (dk_at dksX7_laysKin_3 19 rfl rfl)
theorem dX7_laysKin_91 : decode cX7_laysKin 91 = .ok (.bipush 16, 2) := dk_16 16 (dk_at dksX7_laysKin_3 22 rfl rfl)
theorem dX7_laysKin_93 : decode cX7_laysKin 93 = .ok (.iload_n 2, 1) := dk_28 (dk_at dksX7_laysKin_4 0 rfl rfl)
theorem dX7_laysKin_94 : decode cX7_laysKin 94 = .ok (.imul, 1) := dk_104 (dk_at dksX7_laysKin_4 1 rfl rfl)
theorem dX7_laysKin_95 : decode cX7_laysKin 95 = .ok (.iload 6, 2) := dk_21 6 (dk_at dksX7_laysKin_4 2 rfl rfl)
theorem dX7_laysKin_97 : decode cX7_laysKin 97 = .ok (.iadd, 1) := dk_96 (dk_at dksX7_laysKin_4 4 rfl rfl)
theorem dX7_laysKin_98 : decode cX7_laysKin 98 = .ok (.lload 7, 2) := dk_22 7 (dk_at dksX7_laysKin_4 5 rfl rfl)
theorem dX7_laysKin_100 : decode cX7_laysKin 100 = .ok (.lastore, 1) := dk_80 (dk_at dksX7_laysKin_4 7 rfl rfl)
theorem dX7_laysKin_101 : decode cX7_laysKin 101 = .ok (.aload_n 0, 1) := dk_42 (dk_at dksX7_laysKin_4 8 rfl rfl)
theorem dX7_laysKin_102 : decode cX7_laysKin 102 = .ok (.getfield 50, 3) := dk_180 0 50 (dk_at dksX7_laysKin_4 9 rfl rfl)
theorem dX7_laysKin_105 : decode cX7_laysKin 105 = .ok (.bipush 16, 2) := dk_16 16 (dk_at dksX7_laysKin_4 12 rfl rfl)
theorem dX7_laysKin_107 : decode cX7_laysKin 107 = .ok (.iload 6, 2) := dk_21 6 (dk_at dksX7_laysKin_4 14 rfl rfl)
theorem dX7_laysKin_109 : decode cX7_laysKin 109 = .ok (.imul, 1) := dk_104 (dk_at dksX7_laysKin_4 16 rfl rfl)
theorem dX7_laysKin_110 : decode cX7_laysKin 110 = .ok (.iload_n 2, 1) := dk_28 (dk_at dksX7_laysKin_4 17 rfl rfl)
theorem dX7_laysKin_111 : decode cX7_laysKin 111 = .ok (.iadd, 1) := dk_96 (dk_at dksX7_laysKin_4 18 rfl rfl)
theorem dX7_laysKin_112 : decode cX7_laysKin 112 = .ok (.lload 7, 2) := dk_22 7 (dk_at dksX7_laysKin_4 19 rfl rfl)
theorem dX7_laysKin_114 : decode cX7_laysKin 114 = .ok (.lastore, 1) := dk_80 (dk_at dksX7_laysKin_4 21 rfl rfl)
theorem dX7_laysKin_115 : decode cX7_laysKin 115 = .ok (.iinc 5 1, 3) := dk_132 5 1 (dk_at dksX7_laysKin_5 0 rfl rfl)
theorem dX7_laysKin_118 : decode cX7_laysKin 118 = .ok (.goto (-83), 3) := dk_167 255 173 (dk_at dksX7_laysKin_5 3 rfl rfl)
theorem dX7_laysKin_121 : decode cX7_laysKin 121 = .ok (.aload_n 0, 1) := dk_42 (dk_at dksX7_laysKin_5 6 rfl rfl)
theorem dX7_laysKin_122 : decode cX7_laysKin 122 = .ok (.getfield 50, 3) := dk_180 0 50 (dk_at dksX7_laysKin_5 7 rfl rfl)
theorem dX7_laysKin_125 : decode cX7_laysKin 125 = .ok (.bipush 17, 2) := dk_16 17 (dk_at dksX7_laysKin_5 10 rfl rfl)
theorem dX7_laysKin_127 : decode cX7_laysKin 127 = .ok (.iload_n 2, 1) := dk_28 (dk_at dksX7_laysKin_5 12 rfl rfl)
theorem dX7_laysKin_128 : decode cX7_laysKin 128 = .ok (.imul, 1) := dk_104 (dk_at dksX7_laysKin_5 13 rfl rfl)
theorem dX7_laysKin_129 : decode cX7_laysKin 129 = .ok (.iload_n 2, 1) := dk_28 (dk_at dksX7_laysKin_5 14 rfl rfl)
theorem dX7_laysKin_130 : decode cX7_laysKin 130 = .ok (.bipush 8, 2) := dk_16 8 (dk_at dksX7_laysKin_5 15 rfl rfl)
theorem dX7_laysKin_132 : decode cX7_laysKin 132 = .ok (.if_icmp .lt 9, 3) := dk_161 0 9 (dk_at dksX7_laysKin_5 17 rfl rfl)
theorem dX7_laysKin_135 : decode cX7_laysKin 135 = .ok (.ldc2_w 349, 3) := dk_20 1 93 (dk_at dksX7_laysKin_5 20 rfl rfl)
theorem dX7_laysKin_138 : decode cX7_laysKin 138 = .ok (.goto 18, 3) := dk_167 0 18 (dk_at dksX7_laysKin_6 0 rfl rfl)
theorem dX7_laysKin_141 : decode cX7_laysKin 141 = .ok (.ldc2_w 349, 3) := dk_20 1 93 (dk_at dksX7_laysKin_6 3 rfl rfl)
theorem dX7_laysKin_144 : decode cX7_laysKin 144 = .ok (.aload_n 0, 1) := dk_42 (dk_at dksX7_laysKin_6 6 rfl rfl)
theorem dX7_laysKin_145 : decode cX7_laysKin 145 = .ok (.iload_n 3, 1) := dk_29 (dk_at dksX7_laysKin_6 7 rfl rfl)
theorem dX7_laysKin_146 : decode cX7_laysKin 146 = .ok (.iload 4, 2) := dk_21 4 (dk_at dksX7_laysKin_6 8 rfl rfl)
theorem dX7_laysKin_148 : decode cX7_laysKin 148 = .ok (.invokevirtual 343, 3) := dk_182 1 87 (dk_at dksX7_laysKin_6 10 rfl rfl)
theorem dX7_laysKin_151 : decode cX7_laysKin 151 = .ok (.ladd, 1) := dk_97 (dk_at dksX7_laysKin_6 13 rfl rfl)
theorem dX7_laysKin_152 : decode cX7_laysKin 152 = .ok (.ldc2_w 347, 3) := dk_20 1 91 (dk_at dksX7_laysKin_6 14 rfl rfl)
theorem dX7_laysKin_155 : decode cX7_laysKin 155 = .ok (.ldiv, 1) := dk_109 (dk_at dksX7_laysKin_6 17 rfl rfl)
theorem dX7_laysKin_156 : decode cX7_laysKin 156 = .ok (.lastore, 1) := dk_80 (dk_at dksX7_laysKin_6 18 rfl rfl)
theorem dX7_laysKin_157 : decode cX7_laysKin 157 = .ok (.iinc 1 1, 3) := dk_132 1 1 (dk_at dksX7_laysKin_6 19 rfl rfl)
theorem dX7_laysKin_160 : decode cX7_laysKin 160 = .ok (.goto (-158), 3) := dk_167 255 98 (dk_at dksX7_laysKin_7 0 rfl rfl)
theorem dX7_laysKin_163 : decode cX7_laysKin 163 = .ok (.return_, 1) := dk_177 (dk_at dksX7_laysKin_7 3 rfl rfl)
def dkwX7_atTold_2 : List UInt8 := [28, 172]
abbrev dktX7_atTold_2 : List UInt8 := dkwX7_atTold_2 ++ []
def dkwX7_atTold_1 : List UInt8 := [132, 2, 1, 167, 255, 232, 16, 8, 61, 42, 28, 182, 1, 81, 27, 159, 0, 9, 132, 2, 1, 167, 255, 244]
abbrev dktX7_atTold_1 : List UInt8 := dkwX7_atTold_1 ++ dktX7_atTold_2
def dkwX7_atTold_0 : List UInt8 := [3, 61, 28, 42, 180, 0, 7, 4, 46, 162, 0, 20, 42, 28, 182, 1, 81, 27, 160, 0, 5, 28, 172]
abbrev dktX7_atTold_0 : List UInt8 := dkwX7_atTold_0 ++ dktX7_atTold_1
theorem dksX7_atTold_0 : cX7_atTold.data.toList.drop 0 = dktX7_atTold_0 := by decide +kernel
theorem dksX7_atTold_1 : cX7_atTold.data.toList.drop 23 = dktX7_atTold_1 := dk_seg dksX7_atTold_0 23 rfl rfl
theorem dksX7_atTold_2 : cX7_atTold.data.toList.drop 47 = dktX7_atTold_2 := dk_seg dksX7_atTold_1 24 rfl rfl
theorem dX7_atTold_0 : decode cX7_atTold 0 = .ok (.iconst 0, 1) := dk_3 (dk_at dksX7_atTold_0 0 rfl rfl)
theorem dX7_atTold_1 : decode cX7_atTold 1 = .ok (.istore_n 2, 1) := dk_61 (dk_at dksX7_atTold_0 1 rfl rfl)
theorem dX7_atTold_2 : decode cX7_atTold 2 = .ok (.iload_n 2, 1) := dk_28 (dk_at dksX7_atTold_0 2 rfl rfl)
theorem dX7_atTold_3 : decode cX7_atTold 3 = .ok (.aload_n 0, 1) := dk_42 (dk_at dksX7_atTold_0 3 rfl rfl)
theorem dX7_atTold_4 : decode cX7_atTold 4 = .ok (.getfield 7, 3) := dk_180 0 7 (dk_at dksX7_atTold_0 4 rfl rfl)
theorem dX7_atTold_7 : decode cX7_atTold 7 = .ok (.iconst 1, 1) := dk_4 (dk_at dksX7_atTold_0 7 rfl rfl)
theorem dX7_atTold_8 : decode cX7_atTold 8 = .ok (.iaload, 1) := dk_46 (dk_at dksX7_atTold_0 8 rfl rfl)
theorem dX7_atTold_9 : decode cX7_atTold 9 = .ok (.if_icmp .ge 20, 3) := dk_162 0 20 (dk_at dksX7_atTold_0 9 rfl rfl)
theorem dX7_atTold_12 : decode cX7_atTold 12 = .ok (.aload_n 0, 1) := dk_42 (dk_at dksX7_atTold_0 12 rfl rfl)
theorem dX7_atTold_13 : decode cX7_atTold 13 = .ok (.iload_n 2, 1) := dk_28 (dk_at dksX7_atTold_0 13 rfl rfl)
theorem dX7_atTold_14 : decode cX7_atTold 14 = .ok (.invokevirtual 337, 3) := dk_182 1 81 (dk_at dksX7_atTold_0 14 rfl rfl)
theorem dX7_atTold_17 : decode cX7_atTold 17 = .ok (.iload_n 1, 1) := dk_27 (dk_at dksX7_atTold_0 17 rfl rfl)
theorem dX7_atTold_18 : decode cX7_atTold 18 = .ok (.if_icmp .ne 5, 3) := dk_160 0 5 (dk_at dksX7_atTold_0 18 rfl rfl)
theorem dX7_atTold_21 : decode cX7_atTold 21 = .ok (.iload_n 2, 1) := dk_28 (dk_at dksX7_atTold_0 21 rfl rfl)
theorem dX7_atTold_22 : decode cX7_atTold 22 = .ok (.ireturn, 1) := dk_172 (dk_at dksX7_atTold_0 22 rfl rfl)
theorem dX7_atTold_23 : decode cX7_atTold 23 = .ok (.iinc 2 1, 3) := dk_132 2 1 (dk_at dksX7_atTold_1 0 rfl rfl)
theorem dX7_atTold_26 : decode cX7_atTold 26 = .ok (.goto (-24), 3) := dk_167 255 232 (dk_at dksX7_atTold_1 3 rfl rfl)
theorem dX7_atTold_29 : decode cX7_atTold 29 = .ok (.bipush 8, 2) := dk_16 8 (dk_at dksX7_atTold_1 6 rfl rfl)
theorem dX7_atTold_31 : decode cX7_atTold 31 = .ok (.istore_n 2, 1) := dk_61 (dk_at dksX7_atTold_1 8 rfl rfl)
theorem dX7_atTold_32 : decode cX7_atTold 32 = .ok (.aload_n 0, 1) := dk_42 (dk_at dksX7_atTold_1 9 rfl rfl)
theorem dX7_atTold_33 : decode cX7_atTold 33 = .ok (.iload_n 2, 1) := dk_28 (dk_at dksX7_atTold_1 10 rfl rfl)
theorem dX7_atTold_34 : decode cX7_atTold 34 = .ok (.invokevirtual 337, 3) := dk_182 1 81 (dk_at dksX7_atTold_1 11 rfl rfl)
theorem dX7_atTold_37 : decode cX7_atTold 37 = .ok (.iload_n 1, 1) := dk_27 (dk_at dksX7_atTold_1 14 rfl rfl)
theorem dX7_atTold_38 : decode cX7_atTold 38 = .ok (.if_icmp .eq 9, 3) := dk_159 0 9 (dk_at dksX7_atTold_1 15 rfl rfl)
theorem dX7_atTold_41 : decode cX7_atTold 41 = .ok (.iinc 2 1, 3) := dk_132 2 1 (dk_at dksX7_atTold_1 18 rfl rfl)
theorem dX7_atTold_44 : decode cX7_atTold 44 = .ok (.goto (-12), 3) := dk_167 255 244 (dk_at dksX7_atTold_1 21 rfl rfl)
theorem dX7_atTold_47 : decode cX7_atTold 47 = .ok (.iload_n 2, 1) := dk_28 (dk_at dksX7_atTold_2 0 rfl rfl)
theorem dX7_atTold_48 : decode cX7_atTold 48 = .ok (.ireturn, 1) := dk_172 (dk_at dksX7_atTold_2 1 rfl rfl)
def dkwX7_toldAs_1 : List UInt8 := [167, 0, 16, 42, 180, 0, 7, 16, 14, 7, 27, 104, 96, 6, 96, 46, 172]
abbrev dktX7_toldAs_1 : List UInt8 := dkwX7_toldAs_1 ++ []
def dkwX7_toldAs_0 : List UInt8 := [27, 16, 8, 161, 0, 22, 42, 180, 0, 7, 16, 46, 5, 27, 16, 8, 100, 104, 96, 4, 96, 46]
abbrev dktX7_toldAs_0 : List UInt8 := dkwX7_toldAs_0 ++ dktX7_toldAs_1
theorem dksX7_toldAs_0 : cX7_toldAs.data.toList.drop 0 = dktX7_toldAs_0 := by decide +kernel
theorem dksX7_toldAs_1 : cX7_toldAs.data.toList.drop 22 = dktX7_toldAs_1 := dk_seg dksX7_toldAs_0 22 rfl rfl
theorem dX7_toldAs_0 : decode cX7_toldAs 0 = .ok (.iload_n 1, 1) := dk_27 (dk_at dksX7_toldAs_0 0 rfl rfl)
theorem dX7_toldAs_1 : decode cX7_toldAs 1 = .ok (.bipush 8, 2) := dk_16 8 (dk_at dksX7_toldAs_0 1 rfl rfl)
theorem dX7_toldAs_3 : decode cX7_toldAs 3 = .ok (.if_icmp .lt 22, 3) := dk_161 0 22 (dk_at dksX7_toldAs_0 3 rfl rfl)
theorem dX7_toldAs_6 : decode cX7_toldAs 6 = .ok (.aload_n 0, 1) := dk_42 (dk_at dksX7_toldAs_0 6 rfl rfl)
theorem dX7_toldAs_7 : decode cX7_toldAs 7 = .ok (.getfield 7, 3) := dk_180 0 7 (dk_at dksX7_toldAs_0 7 rfl rfl)
theorem dX7_toldAs_10 : decode cX7_toldAs 10 = .ok (.bipush 46, 2) := dk_16 46 (dk_at dksX7_toldAs_0 10 rfl rfl)
theorem dX7_toldAs_12 : decode cX7_toldAs 12 = .ok (.iconst 2, 1) := dk_5 (dk_at dksX7_toldAs_0 12 rfl rfl)
theorem dX7_toldAs_13 : decode cX7_toldAs 13 = .ok (.iload_n 1, 1) := dk_27 (dk_at dksX7_toldAs_0 13 rfl rfl)
theorem dX7_toldAs_14 : decode cX7_toldAs 14 = .ok (.bipush 8, 2) := dk_16 8 (dk_at dksX7_toldAs_0 14 rfl rfl)
theorem dX7_toldAs_16 : decode cX7_toldAs 16 = .ok (.isub, 1) := dk_100 (dk_at dksX7_toldAs_0 16 rfl rfl)
theorem dX7_toldAs_17 : decode cX7_toldAs 17 = .ok (.imul, 1) := dk_104 (dk_at dksX7_toldAs_0 17 rfl rfl)
theorem dX7_toldAs_18 : decode cX7_toldAs 18 = .ok (.iadd, 1) := dk_96 (dk_at dksX7_toldAs_0 18 rfl rfl)
theorem dX7_toldAs_19 : decode cX7_toldAs 19 = .ok (.iconst 1, 1) := dk_4 (dk_at dksX7_toldAs_0 19 rfl rfl)
theorem dX7_toldAs_20 : decode cX7_toldAs 20 = .ok (.iadd, 1) := dk_96 (dk_at dksX7_toldAs_0 20 rfl rfl)
theorem dX7_toldAs_21 : decode cX7_toldAs 21 = .ok (.iaload, 1) := dk_46 (dk_at dksX7_toldAs_0 21 rfl rfl)
theorem dX7_toldAs_22 : decode cX7_toldAs 22 = .ok (.goto 16, 3) := dk_167 0 16 (dk_at dksX7_toldAs_1 0 rfl rfl)
theorem dX7_toldAs_25 : decode cX7_toldAs 25 = .ok (.aload_n 0, 1) := dk_42 (dk_at dksX7_toldAs_1 3 rfl rfl)
theorem dX7_toldAs_26 : decode cX7_toldAs 26 = .ok (.getfield 7, 3) := dk_180 0 7 (dk_at dksX7_toldAs_1 4 rfl rfl)
theorem dX7_toldAs_29 : decode cX7_toldAs 29 = .ok (.bipush 14, 2) := dk_16 14 (dk_at dksX7_toldAs_1 7 rfl rfl)
theorem dX7_toldAs_31 : decode cX7_toldAs 31 = .ok (.iconst 4, 1) := dk_7 (dk_at dksX7_toldAs_1 9 rfl rfl)
theorem dX7_toldAs_32 : decode cX7_toldAs 32 = .ok (.iload_n 1, 1) := dk_27 (dk_at dksX7_toldAs_1 10 rfl rfl)
theorem dX7_toldAs_33 : decode cX7_toldAs 33 = .ok (.imul, 1) := dk_104 (dk_at dksX7_toldAs_1 11 rfl rfl)
theorem dX7_toldAs_34 : decode cX7_toldAs 34 = .ok (.iadd, 1) := dk_96 (dk_at dksX7_toldAs_1 12 rfl rfl)
theorem dX7_toldAs_35 : decode cX7_toldAs 35 = .ok (.iconst 3, 1) := dk_6 (dk_at dksX7_toldAs_1 13 rfl rfl)
theorem dX7_toldAs_36 : decode cX7_toldAs 36 = .ok (.iadd, 1) := dk_96 (dk_at dksX7_toldAs_1 14 rfl rfl)
theorem dX7_toldAs_37 : decode cX7_toldAs 37 = .ok (.iaload, 1) := dk_46 (dk_at dksX7_toldAs_1 15 rfl rfl)
theorem dX7_toldAs_38 : decode cX7_toldAs 38 = .ok (.ireturn, 1) := dk_172 (dk_at dksX7_toldAs_1 16 rfl rfl)
def dkwX7_kinOf_1 : List UInt8 := [47, 173]
abbrev dktX7_kinOf_1 : List UInt8 := dkwX7_kinOf_1 ++ []
def dkwX7_kinOf_0 : List UInt8 := [27, 2, 159, 0, 8, 28, 2, 160, 0, 7, 9, 167, 0, 14, 42, 180, 0, 50, 16, 16, 27, 104, 28, 96]
abbrev dktX7_kinOf_0 : List UInt8 := dkwX7_kinOf_0 ++ dktX7_kinOf_1
theorem dksX7_kinOf_0 : cX7_kinOf.data.toList.drop 0 = dktX7_kinOf_0 := by decide +kernel
theorem dksX7_kinOf_1 : cX7_kinOf.data.toList.drop 24 = dktX7_kinOf_1 := dk_seg dksX7_kinOf_0 24 rfl rfl
theorem dX7_kinOf_0 : decode cX7_kinOf 0 = .ok (.iload_n 1, 1) := dk_27 (dk_at dksX7_kinOf_0 0 rfl rfl)
theorem dX7_kinOf_1 : decode cX7_kinOf 1 = .ok (.iconst (-1), 1) := dk_2 (dk_at dksX7_kinOf_0 1 rfl rfl)
theorem dX7_kinOf_2 : decode cX7_kinOf 2 = .ok (.if_icmp .eq 8, 3) := dk_159 0 8 (dk_at dksX7_kinOf_0 2 rfl rfl)
theorem dX7_kinOf_5 : decode cX7_kinOf 5 = .ok (.iload_n 2, 1) := dk_28 (dk_at dksX7_kinOf_0 5 rfl rfl)
theorem dX7_kinOf_6 : decode cX7_kinOf 6 = .ok (.iconst (-1), 1) := dk_2 (dk_at dksX7_kinOf_0 6 rfl rfl)
theorem dX7_kinOf_7 : decode cX7_kinOf 7 = .ok (.if_icmp .ne 7, 3) := dk_160 0 7 (dk_at dksX7_kinOf_0 7 rfl rfl)
theorem dX7_kinOf_10 : decode cX7_kinOf 10 = .ok (.lconst 0, 1) := dk_9 (dk_at dksX7_kinOf_0 10 rfl rfl)
theorem dX7_kinOf_11 : decode cX7_kinOf 11 = .ok (.goto 14, 3) := dk_167 0 14 (dk_at dksX7_kinOf_0 11 rfl rfl)
theorem dX7_kinOf_14 : decode cX7_kinOf 14 = .ok (.aload_n 0, 1) := dk_42 (dk_at dksX7_kinOf_0 14 rfl rfl)
theorem dX7_kinOf_15 : decode cX7_kinOf 15 = .ok (.getfield 50, 3) := dk_180 0 50 (dk_at dksX7_kinOf_0 15 rfl rfl)
theorem dX7_kinOf_18 : decode cX7_kinOf 18 = .ok (.bipush 16, 2) := dk_16 16 (dk_at dksX7_kinOf_0 18 rfl rfl)
theorem dX7_kinOf_20 : decode cX7_kinOf 20 = .ok (.iload_n 1, 1) := dk_27 (dk_at dksX7_kinOf_0 20 rfl rfl)
theorem dX7_kinOf_21 : decode cX7_kinOf 21 = .ok (.imul, 1) := dk_104 (dk_at dksX7_kinOf_0 21 rfl rfl)
theorem dX7_kinOf_22 : decode cX7_kinOf 22 = .ok (.iload_n 2, 1) := dk_28 (dk_at dksX7_kinOf_0 22 rfl rfl)
theorem dX7_kinOf_23 : decode cX7_kinOf 23 = .ok (.iadd, 1) := dk_96 (dk_at dksX7_kinOf_0 23 rfl rfl)
theorem dX7_kinOf_24 : decode cX7_kinOf 24 = .ok (.laload, 1) := dk_47 (dk_at dksX7_kinOf_1 0 rfl rfl)
theorem dX7_kinOf_25 : decode cX7_kinOf 25 = .ok (.lreturn, 1) := dk_173 (dk_at dksX7_kinOf_1 1 rfl rfl)
def dkwX7_tellsBy_2 : List UInt8 := [3, 182, 0, 79, 172]
abbrev dktX7_tellsBy_2 : List UInt8 := dkwX7_tellsBy_2 ++ []
def dkwX7_tellsBy_1 : List UInt8 := [22, 9, 55, 7, 167, 255, 234, 42, 31, 22, 5, 109, 181, 0, 69, 42, 33, 22, 5, 109, 181, 0, 17, 42]
abbrev dktX7_tellsBy_1 : List UInt8 := dkwX7_tellsBy_1 ++ dktX7_tellsBy_2
def dkwX7_tellsBy_0 : List UInt8 := [31, 55, 5, 33, 55, 7, 22, 7, 9, 148, 153, 0, 21, 22, 5, 22, 7, 113, 55, 9, 22, 7, 55, 5]
abbrev dktX7_tellsBy_0 : List UInt8 := dkwX7_tellsBy_0 ++ dktX7_tellsBy_1
theorem dksX7_tellsBy_0 : cX7_tellsBy.data.toList.drop 0 = dktX7_tellsBy_0 := by decide +kernel
theorem dksX7_tellsBy_1 : cX7_tellsBy.data.toList.drop 24 = dktX7_tellsBy_1 := dk_seg dksX7_tellsBy_0 24 rfl rfl
theorem dksX7_tellsBy_2 : cX7_tellsBy.data.toList.drop 48 = dktX7_tellsBy_2 := dk_seg dksX7_tellsBy_1 24 rfl rfl
theorem dX7_tellsBy_0 : decode cX7_tellsBy 0 = .ok (.lload_n 1, 1) := dk_31 (dk_at dksX7_tellsBy_0 0 rfl rfl)
theorem dX7_tellsBy_1 : decode cX7_tellsBy 1 = .ok (.lstore 5, 2) := dk_55 5 (dk_at dksX7_tellsBy_0 1 rfl rfl)
theorem dX7_tellsBy_3 : decode cX7_tellsBy 3 = .ok (.lload_n 3, 1) := dk_33 (dk_at dksX7_tellsBy_0 3 rfl rfl)
theorem dX7_tellsBy_4 : decode cX7_tellsBy 4 = .ok (.lstore 7, 2) := dk_55 7 (dk_at dksX7_tellsBy_0 4 rfl rfl)
theorem dX7_tellsBy_6 : decode cX7_tellsBy 6 = .ok (.lload 7, 2) := dk_22 7 (dk_at dksX7_tellsBy_0 6 rfl rfl)
theorem dX7_tellsBy_8 : decode cX7_tellsBy 8 = .ok (.lconst 0, 1) := dk_9 (dk_at dksX7_tellsBy_0 8 rfl rfl)
theorem dX7_tellsBy_9 : decode cX7_tellsBy 9 = .ok (.lcmp, 1) := dk_148 (dk_at dksX7_tellsBy_0 9 rfl rfl)
theorem dX7_tellsBy_10 : decode cX7_tellsBy 10 = .ok (.ifCond .eq 21, 3) := dk_153 0 21 (dk_at dksX7_tellsBy_0 10 rfl rfl)
theorem dX7_tellsBy_13 : decode cX7_tellsBy 13 = .ok (.lload 5, 2) := dk_22 5 (dk_at dksX7_tellsBy_0 13 rfl rfl)
theorem dX7_tellsBy_15 : decode cX7_tellsBy 15 = .ok (.lload 7, 2) := dk_22 7 (dk_at dksX7_tellsBy_0 15 rfl rfl)
theorem dX7_tellsBy_17 : decode cX7_tellsBy 17 = .ok (.lrem, 1) := dk_113 (dk_at dksX7_tellsBy_0 17 rfl rfl)
theorem dX7_tellsBy_18 : decode cX7_tellsBy 18 = .ok (.lstore 9, 2) := dk_55 9 (dk_at dksX7_tellsBy_0 18 rfl rfl)
theorem dX7_tellsBy_20 : decode cX7_tellsBy 20 = .ok (.lload 7, 2) := dk_22 7 (dk_at dksX7_tellsBy_0 20 rfl rfl)
theorem dX7_tellsBy_22 : decode cX7_tellsBy 22 = .ok (.lstore 5, 2) := dk_55 5 (dk_at dksX7_tellsBy_0 22 rfl rfl)
theorem dX7_tellsBy_24 : decode cX7_tellsBy 24 = .ok (.lload 9, 2) := dk_22 9 (dk_at dksX7_tellsBy_1 0 rfl rfl)
theorem dX7_tellsBy_26 : decode cX7_tellsBy 26 = .ok (.lstore 7, 2) := dk_55 7 (dk_at dksX7_tellsBy_1 2 rfl rfl)
theorem dX7_tellsBy_28 : decode cX7_tellsBy 28 = .ok (.goto (-22), 3) := dk_167 255 234 (dk_at dksX7_tellsBy_1 4 rfl rfl)
theorem dX7_tellsBy_31 : decode cX7_tellsBy 31 = .ok (.aload_n 0, 1) := dk_42 (dk_at dksX7_tellsBy_1 7 rfl rfl)
theorem dX7_tellsBy_32 : decode cX7_tellsBy 32 = .ok (.lload_n 1, 1) := dk_31 (dk_at dksX7_tellsBy_1 8 rfl rfl)
theorem dX7_tellsBy_33 : decode cX7_tellsBy 33 = .ok (.lload 5, 2) := dk_22 5 (dk_at dksX7_tellsBy_1 9 rfl rfl)
theorem dX7_tellsBy_35 : decode cX7_tellsBy 35 = .ok (.ldiv, 1) := dk_109 (dk_at dksX7_tellsBy_1 11 rfl rfl)
theorem dX7_tellsBy_36 : decode cX7_tellsBy 36 = .ok (.putfield 69, 3) := dk_181 0 69 (dk_at dksX7_tellsBy_1 12 rfl rfl)
theorem dX7_tellsBy_39 : decode cX7_tellsBy 39 = .ok (.aload_n 0, 1) := dk_42 (dk_at dksX7_tellsBy_1 15 rfl rfl)
theorem dX7_tellsBy_40 : decode cX7_tellsBy 40 = .ok (.lload_n 3, 1) := dk_33 (dk_at dksX7_tellsBy_1 16 rfl rfl)
theorem dX7_tellsBy_41 : decode cX7_tellsBy 41 = .ok (.lload 5, 2) := dk_22 5 (dk_at dksX7_tellsBy_1 17 rfl rfl)
theorem dX7_tellsBy_43 : decode cX7_tellsBy 43 = .ok (.ldiv, 1) := dk_109 (dk_at dksX7_tellsBy_1 19 rfl rfl)
theorem dX7_tellsBy_44 : decode cX7_tellsBy 44 = .ok (.putfield 17, 3) := dk_181 0 17 (dk_at dksX7_tellsBy_1 20 rfl rfl)
theorem dX7_tellsBy_47 : decode cX7_tellsBy 47 = .ok (.aload_n 0, 1) := dk_42 (dk_at dksX7_tellsBy_1 23 rfl rfl)
theorem dX7_tellsBy_48 : decode cX7_tellsBy 48 = .ok (.iconst 0, 1) := dk_3 (dk_at dksX7_tellsBy_2 0 rfl rfl)
theorem dX7_tellsBy_49 : decode cX7_tellsBy 49 = .ok (.invokevirtual 79, 3) := dk_182 0 79 (dk_at dksX7_tellsBy_2 1 rfl rfl)
theorem dX7_tellsBy_52 : decode cX7_tellsBy 52 = .ok (.ireturn, 1) := dk_172 (dk_at dksX7_tellsBy_2 4 rfl rfl)
def dkwX7_inbred_2 : List UInt8 := [182, 1, 33, 42, 27, 182, 1, 36, 182, 1, 87, 20, 1, 93, 182, 1, 98, 172]
abbrev dktX7_inbred_2 : List UInt8 := dkwX7_inbred_2 ++ []
def dkwX7_inbred_1 : List UInt8 := [27, 182, 1, 36, 2, 160, 0, 10, 42, 16, 6, 182, 0, 79, 172, 42, 182, 1, 95, 42, 42, 42, 27]
abbrev dktX7_inbred_1 : List UInt8 := dkwX7_inbred_1 ++ dktX7_inbred_2
def dkwX7_inbred_0 : List UInt8 := [42, 27, 182, 1, 21, 154, 0, 9, 42, 4, 182, 0, 79, 172, 42, 27, 182, 1, 33, 2, 159, 0, 12, 42]
abbrev dktX7_inbred_0 : List UInt8 := dkwX7_inbred_0 ++ dktX7_inbred_1
theorem dksX7_inbred_0 : cX7_inbred.data.toList.drop 0 = dktX7_inbred_0 := by decide +kernel
theorem dksX7_inbred_1 : cX7_inbred.data.toList.drop 24 = dktX7_inbred_1 := dk_seg dksX7_inbred_0 24 rfl rfl
theorem dksX7_inbred_2 : cX7_inbred.data.toList.drop 47 = dktX7_inbred_2 := dk_seg dksX7_inbred_1 23 rfl rfl
theorem dX7_inbred_0 : decode cX7_inbred 0 = .ok (.aload_n 0, 1) := dk_42 (dk_at dksX7_inbred_0 0 rfl rfl)
theorem dX7_inbred_1 : decode cX7_inbred 1 = .ok (.iload_n 1, 1) := dk_27 (dk_at dksX7_inbred_0 1 rfl rfl)
theorem dX7_inbred_2 : decode cX7_inbred 2 = .ok (.invokevirtual 277, 3) := dk_182 1 21 (dk_at dksX7_inbred_0 2 rfl rfl)
theorem dX7_inbred_5 : decode cX7_inbred 5 = .ok (.ifCond .ne 9, 3) := dk_154 0 9 (dk_at dksX7_inbred_0 5 rfl rfl)
theorem dX7_inbred_8 : decode cX7_inbred 8 = .ok (.aload_n 0, 1) := dk_42 (dk_at dksX7_inbred_0 8 rfl rfl)
theorem dX7_inbred_9 : decode cX7_inbred 9 = .ok (.iconst 1, 1) := dk_4 (dk_at dksX7_inbred_0 9 rfl rfl)
theorem dX7_inbred_10 : decode cX7_inbred 10 = .ok (.invokevirtual 79, 3) := dk_182 0 79 (dk_at dksX7_inbred_0 10 rfl rfl)
theorem dX7_inbred_13 : decode cX7_inbred 13 = .ok (.ireturn, 1) := dk_172 (dk_at dksX7_inbred_0 13 rfl rfl)
theorem dX7_inbred_14 : decode cX7_inbred 14 = .ok (.aload_n 0, 1) := dk_42 (dk_at dksX7_inbred_0 14 rfl rfl)
theorem dX7_inbred_15 : decode cX7_inbred 15 = .ok (.iload_n 1, 1) := dk_27 (dk_at dksX7_inbred_0 15 rfl rfl)
theorem dX7_inbred_16 : decode cX7_inbred 16 = .ok (.invokevirtual 289, 3) := dk_182 1 33 (dk_at dksX7_inbred_0 16 rfl rfl)
theorem dX7_inbred_19 : decode cX7_inbred 19 = .ok (.iconst (-1), 1) := dk_2 (dk_at dksX7_inbred_0 19 rfl rfl)
theorem dX7_inbred_20 : decode cX7_inbred 20 = .ok (.if_icmp .eq 12, 3) := dk_159 0 12 (dk_at dksX7_inbred_0 20 rfl rfl)
theorem dX7_inbred_23 : decode cX7_inbred 23 = .ok (.aload_n 0, 1) := dk_42 (dk_at dksX7_inbred_0 23 rfl rfl)
theorem dX7_inbred_24 : decode cX7_inbred 24 = .ok (.iload_n 1, 1) := dk_27 (dk_at dksX7_inbred_1 0 rfl rfl)
theorem dX7_inbred_25 : decode cX7_inbred 25 = .ok (.invokevirtual 292, 3) := dk_182 1 36 (dk_at dksX7_inbred_1 1 rfl rfl)
theorem dX7_inbred_28 : decode cX7_inbred 28 = .ok (.iconst (-1), 1) := dk_2 (dk_at dksX7_inbred_1 4 rfl rfl)
theorem dX7_inbred_29 : decode cX7_inbred 29 = .ok (.if_icmp .ne 10, 3) := dk_160 0 10 (dk_at dksX7_inbred_1 5 rfl rfl)
theorem dX7_inbred_32 : decode cX7_inbred 32 = .ok (.aload_n 0, 1) := dk_42 (dk_at dksX7_inbred_1 8 rfl rfl)
theorem dX7_inbred_33 : decode cX7_inbred 33 = .ok (.bipush 6, 2) := dk_16 6 (dk_at dksX7_inbred_1 9 rfl rfl)
theorem dX7_inbred_35 : decode cX7_inbred 35 = .ok (.invokevirtual 79, 3) := dk_182 0 79 (dk_at dksX7_inbred_1 11 rfl rfl)
theorem dX7_inbred_38 : decode cX7_inbred 38 = .ok (.ireturn, 1) := dk_172 (dk_at dksX7_inbred_1 14 rfl rfl)
theorem dX7_inbred_39 : decode cX7_inbred 39 = .ok (.aload_n 0, 1) := dk_42 (dk_at dksX7_inbred_1 15 rfl rfl)
theorem dX7_inbred_40 : decode cX7_inbred 40 = .ok (.invokevirtual 351, 3) := dk_182 1 95 (dk_at dksX7_inbred_1 16 rfl rfl)
theorem dX7_inbred_43 : decode cX7_inbred 43 = .ok (.aload_n 0, 1) := dk_42 (dk_at dksX7_inbred_1 19 rfl rfl)
theorem dX7_inbred_44 : decode cX7_inbred 44 = .ok (.aload_n 0, 1) := dk_42 (dk_at dksX7_inbred_1 20 rfl rfl)
theorem dX7_inbred_45 : decode cX7_inbred 45 = .ok (.aload_n 0, 1) := dk_42 (dk_at dksX7_inbred_1 21 rfl rfl)
theorem dX7_inbred_46 : decode cX7_inbred 46 = .ok (.iload_n 1, 1) := dk_27 (dk_at dksX7_inbred_1 22 rfl rfl)
theorem dX7_inbred_47 : decode cX7_inbred 47 = .ok (.invokevirtual 289, 3) := dk_182 1 33 (dk_at dksX7_inbred_2 0 rfl rfl)
theorem dX7_inbred_50 : decode cX7_inbred 50 = .ok (.aload_n 0, 1) := dk_42 (dk_at dksX7_inbred_2 3 rfl rfl)
theorem dX7_inbred_51 : decode cX7_inbred 51 = .ok (.iload_n 1, 1) := dk_27 (dk_at dksX7_inbred_2 4 rfl rfl)
theorem dX7_inbred_52 : decode cX7_inbred 52 = .ok (.invokevirtual 292, 3) := dk_182 1 36 (dk_at dksX7_inbred_2 5 rfl rfl)
theorem dX7_inbred_55 : decode cX7_inbred 55 = .ok (.invokevirtual 343, 3) := dk_182 1 87 (dk_at dksX7_inbred_2 8 rfl rfl)
theorem dX7_inbred_58 : decode cX7_inbred 58 = .ok (.ldc2_w 349, 3) := dk_20 1 93 (dk_at dksX7_inbred_2 11 rfl rfl)
theorem dX7_inbred_61 : decode cX7_inbred 61 = .ok (.invokevirtual 354, 3) := dk_182 1 98 (dk_at dksX7_inbred_2 14 rfl rfl)
theorem dX7_inbred_64 : decode cX7_inbred 64 = .ok (.ireturn, 1) := dk_172 (dk_at dksX7_inbred_2 17 rfl rfl)
def dkwX7_suitor_4 : List UInt8 := [182, 0, 76, 167, 0, 4, 2, 172]
abbrev dktX7_suitor_4 : List UInt8 := dkwX7_suitor_4 ++ []
def dkwX7_suitor_3 : List UInt8 := [132, 3, 1, 167, 255, 222, 42, 42, 27, 28, 182, 1, 87, 20, 1, 93, 182, 1, 98, 153, 0, 11, 42, 28]
abbrev dktX7_suitor_3 : List UInt8 := dkwX7_suitor_3 ++ dktX7_suitor_4
def dkwX7_suitor_2 : List UInt8 := [46, 96, 162, 0, 27, 42, 27, 29, 182, 1, 87, 42, 27, 28, 182, 1, 87, 148, 156, 0, 5, 29, 61]
abbrev dktX7_suitor_2 : List UInt8 := dkwX7_suitor_2 ++ dktX7_suitor_3
def dkwX7_suitor_1 : List UInt8 := [16, 6, 182, 0, 72, 172, 42, 182, 1, 95, 16, 8, 61, 16, 9, 62, 29, 16, 8, 42, 180, 0, 7, 5]
abbrev dktX7_suitor_1 : List UInt8 := dkwX7_suitor_1 ++ dktX7_suitor_2
def dkwX7_suitor_0 : List UInt8 := [42, 27, 182, 1, 21, 154, 0, 9, 42, 4, 182, 0, 72, 172, 42, 180, 0, 7, 5, 46, 154, 0, 10, 42]
abbrev dktX7_suitor_0 : List UInt8 := dkwX7_suitor_0 ++ dktX7_suitor_1
theorem dksX7_suitor_0 : cX7_suitor.data.toList.drop 0 = dktX7_suitor_0 := by decide +kernel
theorem dksX7_suitor_1 : cX7_suitor.data.toList.drop 24 = dktX7_suitor_1 := dk_seg dksX7_suitor_0 24 rfl rfl
theorem dksX7_suitor_2 : cX7_suitor.data.toList.drop 48 = dktX7_suitor_2 := dk_seg dksX7_suitor_1 24 rfl rfl
theorem dksX7_suitor_3 : cX7_suitor.data.toList.drop 71 = dktX7_suitor_3 := dk_seg dksX7_suitor_2 23 rfl rfl
theorem dksX7_suitor_4 : cX7_suitor.data.toList.drop 95 = dktX7_suitor_4 := dk_seg dksX7_suitor_3 24 rfl rfl
theorem dX7_suitor_0 : decode cX7_suitor 0 = .ok (.aload_n 0, 1) := dk_42 (dk_at dksX7_suitor_0 0 rfl rfl)
theorem dX7_suitor_1 : decode cX7_suitor 1 = .ok (.iload_n 1, 1) := dk_27 (dk_at dksX7_suitor_0 1 rfl rfl)
theorem dX7_suitor_2 : decode cX7_suitor 2 = .ok (.invokevirtual 277, 3) := dk_182 1 21 (dk_at dksX7_suitor_0 2 rfl rfl)
theorem dX7_suitor_5 : decode cX7_suitor 5 = .ok (.ifCond .ne 9, 3) := dk_154 0 9 (dk_at dksX7_suitor_0 5 rfl rfl)
theorem dX7_suitor_8 : decode cX7_suitor 8 = .ok (.aload_n 0, 1) := dk_42 (dk_at dksX7_suitor_0 8 rfl rfl)
theorem dX7_suitor_9 : decode cX7_suitor 9 = .ok (.iconst 1, 1) := dk_4 (dk_at dksX7_suitor_0 9 rfl rfl)
theorem dX7_suitor_10 : decode cX7_suitor 10 = .ok (.invokevirtual 72, 3) := dk_182 0 72 (dk_at dksX7_suitor_0 10 rfl rfl)
theorem dX7_suitor_13 : decode cX7_suitor 13 = .ok (.ireturn, 1) := dk_172 (dk_at dksX7_suitor_0 13 rfl rfl)
theorem dX7_suitor_14 : decode cX7_suitor 14 = .ok (.aload_n 0, 1) := dk_42 (dk_at dksX7_suitor_0 14 rfl rfl)
theorem dX7_suitor_15 : decode cX7_suitor 15 = .ok (.getfield 7, 3) := dk_180 0 7 (dk_at dksX7_suitor_0 15 rfl rfl)
theorem dX7_suitor_18 : decode cX7_suitor 18 = .ok (.iconst 2, 1) := dk_5 (dk_at dksX7_suitor_0 18 rfl rfl)
theorem dX7_suitor_19 : decode cX7_suitor 19 = .ok (.iaload, 1) := dk_46 (dk_at dksX7_suitor_0 19 rfl rfl)
theorem dX7_suitor_20 : decode cX7_suitor 20 = .ok (.ifCond .ne 10, 3) := dk_154 0 10 (dk_at dksX7_suitor_0 20 rfl rfl)
theorem dX7_suitor_23 : decode cX7_suitor 23 = .ok (.aload_n 0, 1) := dk_42 (dk_at dksX7_suitor_0 23 rfl rfl)
theorem dX7_suitor_24 : decode cX7_suitor 24 = .ok (.bipush 6, 2) := dk_16 6 (dk_at dksX7_suitor_1 0 rfl rfl)
theorem dX7_suitor_26 : decode cX7_suitor 26 = .ok (.invokevirtual 72, 3) := dk_182 0 72 (dk_at dksX7_suitor_1 2 rfl rfl)
theorem dX7_suitor_29 : decode cX7_suitor 29 = .ok (.ireturn, 1) := dk_172 (dk_at dksX7_suitor_1 5 rfl rfl)
theorem dX7_suitor_30 : decode cX7_suitor 30 = .ok (.aload_n 0, 1) := dk_42 (dk_at dksX7_suitor_1 6 rfl rfl)
theorem dX7_suitor_31 : decode cX7_suitor 31 = .ok (.invokevirtual 351, 3) := dk_182 1 95 (dk_at dksX7_suitor_1 7 rfl rfl)
theorem dX7_suitor_34 : decode cX7_suitor 34 = .ok (.bipush 8, 2) := dk_16 8 (dk_at dksX7_suitor_1 10 rfl rfl)
theorem dX7_suitor_36 : decode cX7_suitor 36 = .ok (.istore_n 2, 1) := dk_61 (dk_at dksX7_suitor_1 12 rfl rfl)
theorem dX7_suitor_37 : decode cX7_suitor 37 = .ok (.bipush 9, 2) := dk_16 9 (dk_at dksX7_suitor_1 13 rfl rfl)
theorem dX7_suitor_39 : decode cX7_suitor 39 = .ok (.istore_n 3, 1) := dk_62 (dk_at dksX7_suitor_1 15 rfl rfl)
theorem dX7_suitor_40 : decode cX7_suitor 40 = .ok (.iload_n 3, 1) := dk_29 (dk_at dksX7_suitor_1 16 rfl rfl)
theorem dX7_suitor_41 : decode cX7_suitor 41 = .ok (.bipush 8, 2) := dk_16 8 (dk_at dksX7_suitor_1 17 rfl rfl)
theorem dX7_suitor_43 : decode cX7_suitor 43 = .ok (.aload_n 0, 1) := dk_42 (dk_at dksX7_suitor_1 19 rfl rfl)
theorem dX7_suitor_44 : decode cX7_suitor 44 = .ok (.getfield 7, 3) := dk_180 0 7 (dk_at dksX7_suitor_1 20 rfl rfl)
theorem dX7_suitor_47 : decode cX7_suitor 47 = .ok (.iconst 2, 1) := dk_5 (dk_at dksX7_suitor_1 23 rfl rfl)
theorem dX7_suitor_48 : decode cX7_suitor 48 = .ok (.iaload, 1) := dk_46 (dk_at dksX7_suitor_2 0 rfl rfl)
theorem dX7_suitor_49 : decode cX7_suitor 49 = .ok (.iadd, 1) := dk_96 (dk_at dksX7_suitor_2 1 rfl rfl)
theorem dX7_suitor_50 : decode cX7_suitor 50 = .ok (.if_icmp .ge 27, 3) := dk_162 0 27 (dk_at dksX7_suitor_2 2 rfl rfl)
theorem dX7_suitor_53 : decode cX7_suitor 53 = .ok (.aload_n 0, 1) := dk_42 (dk_at dksX7_suitor_2 5 rfl rfl)
theorem dX7_suitor_54 : decode cX7_suitor 54 = .ok (.iload_n 1, 1) := dk_27 (dk_at dksX7_suitor_2 6 rfl rfl)
theorem dX7_suitor_55 : decode cX7_suitor 55 = .ok (.iload_n 3, 1) := dk_29 (dk_at dksX7_suitor_2 7 rfl rfl)
theorem dX7_suitor_56 : decode cX7_suitor 56 = .ok (.invokevirtual 343, 3) := dk_182 1 87 (dk_at dksX7_suitor_2 8 rfl rfl)
theorem dX7_suitor_59 : decode cX7_suitor 59 = .ok (.aload_n 0, 1) := dk_42 (dk_at dksX7_suitor_2 11 rfl rfl)
theorem dX7_suitor_60 : decode cX7_suitor 60 = .ok (.iload_n 1, 1) := dk_27 (dk_at dksX7_suitor_2 12 rfl rfl)
theorem dX7_suitor_61 : decode cX7_suitor 61 = .ok (.iload_n 2, 1) := dk_28 (dk_at dksX7_suitor_2 13 rfl rfl)
theorem dX7_suitor_62 : decode cX7_suitor 62 = .ok (.invokevirtual 343, 3) := dk_182 1 87 (dk_at dksX7_suitor_2 14 rfl rfl)
theorem dX7_suitor_65 : decode cX7_suitor 65 = .ok (.lcmp, 1) := dk_148 (dk_at dksX7_suitor_2 17 rfl rfl)
theorem dX7_suitor_66 : decode cX7_suitor 66 = .ok (.ifCond .ge 5, 3) := dk_156 0 5 (dk_at dksX7_suitor_2 18 rfl rfl)
theorem dX7_suitor_69 : decode cX7_suitor 69 = .ok (.iload_n 3, 1) := dk_29 (dk_at dksX7_suitor_2 21 rfl rfl)
theorem dX7_suitor_70 : decode cX7_suitor 70 = .ok (.istore_n 2, 1) := dk_61 (dk_at dksX7_suitor_2 22 rfl rfl)
theorem dX7_suitor_71 : decode cX7_suitor 71 = .ok (.iinc 3 1, 3) := dk_132 3 1 (dk_at dksX7_suitor_3 0 rfl rfl)
theorem dX7_suitor_74 : decode cX7_suitor 74 = .ok (.goto (-34), 3) := dk_167 255 222 (dk_at dksX7_suitor_3 3 rfl rfl)
theorem dX7_suitor_77 : decode cX7_suitor 77 = .ok (.aload_n 0, 1) := dk_42 (dk_at dksX7_suitor_3 6 rfl rfl)
theorem dX7_suitor_78 : decode cX7_suitor 78 = .ok (.aload_n 0, 1) := dk_42 (dk_at dksX7_suitor_3 7 rfl rfl)
theorem dX7_suitor_79 : decode cX7_suitor 79 = .ok (.iload_n 1, 1) := dk_27 (dk_at dksX7_suitor_3 8 rfl rfl)
theorem dX7_suitor_80 : decode cX7_suitor 80 = .ok (.iload_n 2, 1) := dk_28 (dk_at dksX7_suitor_3 9 rfl rfl)
theorem dX7_suitor_81 : decode cX7_suitor 81 = .ok (.invokevirtual 343, 3) := dk_182 1 87 (dk_at dksX7_suitor_3 10 rfl rfl)
theorem dX7_suitor_84 : decode cX7_suitor 84 = .ok (.ldc2_w 349, 3) := dk_20 1 93 (dk_at dksX7_suitor_3 13 rfl rfl)
theorem dX7_suitor_87 : decode cX7_suitor 87 = .ok (.invokevirtual 354, 3) := dk_182 1 98 (dk_at dksX7_suitor_3 16 rfl rfl)
theorem dX7_suitor_90 : decode cX7_suitor 90 = .ok (.ifCond .eq 11, 3) := dk_153 0 11 (dk_at dksX7_suitor_3 19 rfl rfl)
theorem dX7_suitor_93 : decode cX7_suitor 93 = .ok (.aload_n 0, 1) := dk_42 (dk_at dksX7_suitor_3 22 rfl rfl)
theorem dX7_suitor_94 : decode cX7_suitor 94 = .ok (.iload_n 2, 1) := dk_28 (dk_at dksX7_suitor_3 23 rfl rfl)
theorem dX7_suitor_95 : decode cX7_suitor 95 = .ok (.invokevirtual 76, 3) := dk_182 0 76 (dk_at dksX7_suitor_4 0 rfl rfl)
theorem dX7_suitor_98 : decode cX7_suitor 98 = .ok (.goto 4, 3) := dk_167 0 4 (dk_at dksX7_suitor_4 3 rfl rfl)
theorem dX7_suitor_101 : decode cX7_suitor 101 = .ok (.iconst (-1), 1) := dk_2 (dk_at dksX7_suitor_4 6 rfl rfl)
theorem dX7_suitor_102 : decode cX7_suitor 102 = .ok (.ireturn, 1) := dk_172 (dk_at dksX7_suitor_4 7 rfl rfl)
def dkwX7_mothers_1 : List UInt8 := [159, 0, 15, 132, 2, 1, 42, 29, 182, 1, 33, 62, 167, 255, 242, 42, 28, 182, 0, 76, 172]
abbrev dktX7_mothers_1 : List UInt8 := dkwX7_mothers_1 ++ []
def dkwX7_mothers_0 : List UInt8 := [42, 27, 182, 1, 30, 154, 0, 9, 42, 4, 182, 0, 72, 172, 3, 61, 42, 27, 182, 1, 33, 62, 29, 2]
abbrev dktX7_mothers_0 : List UInt8 := dkwX7_mothers_0 ++ dktX7_mothers_1
theorem dksX7_mothers_0 : cX7_mothers.data.toList.drop 0 = dktX7_mothers_0 := by decide +kernel
theorem dksX7_mothers_1 : cX7_mothers.data.toList.drop 24 = dktX7_mothers_1 := dk_seg dksX7_mothers_0 24 rfl rfl
theorem dX7_mothers_0 : decode cX7_mothers 0 = .ok (.aload_n 0, 1) := dk_42 (dk_at dksX7_mothers_0 0 rfl rfl)
theorem dX7_mothers_1 : decode cX7_mothers 1 = .ok (.iload_n 1, 1) := dk_27 (dk_at dksX7_mothers_0 1 rfl rfl)
theorem dX7_mothers_2 : decode cX7_mothers 2 = .ok (.invokevirtual 286, 3) := dk_182 1 30 (dk_at dksX7_mothers_0 2 rfl rfl)
theorem dX7_mothers_5 : decode cX7_mothers 5 = .ok (.ifCond .ne 9, 3) := dk_154 0 9 (dk_at dksX7_mothers_0 5 rfl rfl)
theorem dX7_mothers_8 : decode cX7_mothers 8 = .ok (.aload_n 0, 1) := dk_42 (dk_at dksX7_mothers_0 8 rfl rfl)
theorem dX7_mothers_9 : decode cX7_mothers 9 = .ok (.iconst 1, 1) := dk_4 (dk_at dksX7_mothers_0 9 rfl rfl)
theorem dX7_mothers_10 : decode cX7_mothers 10 = .ok (.invokevirtual 72, 3) := dk_182 0 72 (dk_at dksX7_mothers_0 10 rfl rfl)
theorem dX7_mothers_13 : decode cX7_mothers 13 = .ok (.ireturn, 1) := dk_172 (dk_at dksX7_mothers_0 13 rfl rfl)
theorem dX7_mothers_14 : decode cX7_mothers 14 = .ok (.iconst 0, 1) := dk_3 (dk_at dksX7_mothers_0 14 rfl rfl)
theorem dX7_mothers_15 : decode cX7_mothers 15 = .ok (.istore_n 2, 1) := dk_61 (dk_at dksX7_mothers_0 15 rfl rfl)
theorem dX7_mothers_16 : decode cX7_mothers 16 = .ok (.aload_n 0, 1) := dk_42 (dk_at dksX7_mothers_0 16 rfl rfl)
theorem dX7_mothers_17 : decode cX7_mothers 17 = .ok (.iload_n 1, 1) := dk_27 (dk_at dksX7_mothers_0 17 rfl rfl)
theorem dX7_mothers_18 : decode cX7_mothers 18 = .ok (.invokevirtual 289, 3) := dk_182 1 33 (dk_at dksX7_mothers_0 18 rfl rfl)
theorem dX7_mothers_21 : decode cX7_mothers 21 = .ok (.istore_n 3, 1) := dk_62 (dk_at dksX7_mothers_0 21 rfl rfl)
theorem dX7_mothers_22 : decode cX7_mothers 22 = .ok (.iload_n 3, 1) := dk_29 (dk_at dksX7_mothers_0 22 rfl rfl)
theorem dX7_mothers_23 : decode cX7_mothers 23 = .ok (.iconst (-1), 1) := dk_2 (dk_at dksX7_mothers_0 23 rfl rfl)
theorem dX7_mothers_24 : decode cX7_mothers 24 = .ok (.if_icmp .eq 15, 3) := dk_159 0 15 (dk_at dksX7_mothers_1 0 rfl rfl)
theorem dX7_mothers_27 : decode cX7_mothers 27 = .ok (.iinc 2 1, 3) := dk_132 2 1 (dk_at dksX7_mothers_1 3 rfl rfl)
theorem dX7_mothers_30 : decode cX7_mothers 30 = .ok (.aload_n 0, 1) := dk_42 (dk_at dksX7_mothers_1 6 rfl rfl)
theorem dX7_mothers_31 : decode cX7_mothers 31 = .ok (.iload_n 3, 1) := dk_29 (dk_at dksX7_mothers_1 7 rfl rfl)
theorem dX7_mothers_32 : decode cX7_mothers 32 = .ok (.invokevirtual 289, 3) := dk_182 1 33 (dk_at dksX7_mothers_1 8 rfl rfl)
theorem dX7_mothers_35 : decode cX7_mothers 35 = .ok (.istore_n 3, 1) := dk_62 (dk_at dksX7_mothers_1 11 rfl rfl)
theorem dX7_mothers_36 : decode cX7_mothers 36 = .ok (.goto (-14), 3) := dk_167 255 242 (dk_at dksX7_mothers_1 12 rfl rfl)
theorem dX7_mothers_39 : decode cX7_mothers 39 = .ok (.aload_n 0, 1) := dk_42 (dk_at dksX7_mothers_1 15 rfl rfl)
theorem dX7_mothers_40 : decode cX7_mothers 40 = .ok (.iload_n 2, 1) := dk_28 (dk_at dksX7_mothers_1 16 rfl rfl)
theorem dX7_mothers_41 : decode cX7_mothers 41 = .ok (.invokevirtual 76, 3) := dk_182 0 76 (dk_at dksX7_mothers_1 17 rfl rfl)
theorem dX7_mothers_44 : decode cX7_mothers 44 = .ok (.ireturn, 1) := dk_172 (dk_at dksX7_mothers_1 20 rfl rfl)
def dkwX7_nearest_3 : List UInt8 := [42, 16, 6, 182, 0, 72, 172]
abbrev dktX7_nearest_3 : List UInt8 := dkwX7_nearest_3 ++ []
def dkwX7_nearest_2 : List UInt8 := [182, 0, 76, 172, 42, 21, 4, 182, 1, 33, 54, 4, 167, 255, 230, 42, 29, 182, 1, 33, 62, 167, 255, 213]
abbrev dktX7_nearest_2 : List UInt8 := dkwX7_nearest_2 ++ dktX7_nearest_3
def dkwX7_nearest_1 : List UInt8 := [29, 2, 159, 0, 44, 28, 54, 4, 21, 4, 2, 159, 0, 26, 29, 21, 4, 160, 0, 9, 42, 29]
abbrev dktX7_nearest_1 : List UInt8 := dkwX7_nearest_1 ++ dktX7_nearest_2
def dkwX7_nearest_0 : List UInt8 := [42, 27, 182, 1, 30, 153, 0, 11, 42, 28, 182, 1, 30, 154, 0, 9, 42, 4, 182, 0, 72, 172, 27, 62]
abbrev dktX7_nearest_0 : List UInt8 := dkwX7_nearest_0 ++ dktX7_nearest_1
theorem dksX7_nearest_0 : cX7_nearest.data.toList.drop 0 = dktX7_nearest_0 := by decide +kernel
theorem dksX7_nearest_1 : cX7_nearest.data.toList.drop 24 = dktX7_nearest_1 := dk_seg dksX7_nearest_0 24 rfl rfl
theorem dksX7_nearest_2 : cX7_nearest.data.toList.drop 46 = dktX7_nearest_2 := dk_seg dksX7_nearest_1 22 rfl rfl
theorem dksX7_nearest_3 : cX7_nearest.data.toList.drop 70 = dktX7_nearest_3 := dk_seg dksX7_nearest_2 24 rfl rfl
theorem dX7_nearest_0 : decode cX7_nearest 0 = .ok (.aload_n 0, 1) := dk_42 (dk_at dksX7_nearest_0 0 rfl rfl)
theorem dX7_nearest_1 : decode cX7_nearest 1 = .ok (.iload_n 1, 1) := dk_27 (dk_at dksX7_nearest_0 1 rfl rfl)
theorem dX7_nearest_2 : decode cX7_nearest 2 = .ok (.invokevirtual 286, 3) := dk_182 1 30 (dk_at dksX7_nearest_0 2 rfl rfl)
theorem dX7_nearest_5 : decode cX7_nearest 5 = .ok (.ifCond .eq 11, 3) := dk_153 0 11 (dk_at dksX7_nearest_0 5 rfl rfl)
theorem dX7_nearest_8 : decode cX7_nearest 8 = .ok (.aload_n 0, 1) := dk_42 (dk_at dksX7_nearest_0 8 rfl rfl)
theorem dX7_nearest_9 : decode cX7_nearest 9 = .ok (.iload_n 2, 1) := dk_28 (dk_at dksX7_nearest_0 9 rfl rfl)
theorem dX7_nearest_10 : decode cX7_nearest 10 = .ok (.invokevirtual 286, 3) := dk_182 1 30 (dk_at dksX7_nearest_0 10 rfl rfl)
theorem dX7_nearest_13 : decode cX7_nearest 13 = .ok (.ifCond .ne 9, 3) := dk_154 0 9 (dk_at dksX7_nearest_0 13 rfl rfl)
theorem dX7_nearest_16 : decode cX7_nearest 16 = .ok (.aload_n 0, 1) := dk_42 (dk_at dksX7_nearest_0 16 rfl rfl)
theorem dX7_nearest_17 : decode cX7_nearest 17 = .ok (.iconst 1, 1) := dk_4 (dk_at dksX7_nearest_0 17 rfl rfl)
theorem dX7_nearest_18 : decode cX7_nearest 18 = .ok (.invokevirtual 72, 3) := dk_182 0 72 (dk_at dksX7_nearest_0 18 rfl rfl)
theorem dX7_nearest_21 : decode cX7_nearest 21 = .ok (.ireturn, 1) := dk_172 (dk_at dksX7_nearest_0 21 rfl rfl)
theorem dX7_nearest_22 : decode cX7_nearest 22 = .ok (.iload_n 1, 1) := dk_27 (dk_at dksX7_nearest_0 22 rfl rfl)
theorem dX7_nearest_23 : decode cX7_nearest 23 = .ok (.istore_n 3, 1) := dk_62 (dk_at dksX7_nearest_0 23 rfl rfl)
theorem dX7_nearest_24 : decode cX7_nearest 24 = .ok (.iload_n 3, 1) := dk_29 (dk_at dksX7_nearest_1 0 rfl rfl)
theorem dX7_nearest_25 : decode cX7_nearest 25 = .ok (.iconst (-1), 1) := dk_2 (dk_at dksX7_nearest_1 1 rfl rfl)
theorem dX7_nearest_26 : decode cX7_nearest 26 = .ok (.if_icmp .eq 44, 3) := dk_159 0 44 (dk_at dksX7_nearest_1 2 rfl rfl)
theorem dX7_nearest_29 : decode cX7_nearest 29 = .ok (.iload_n 2, 1) := dk_28 (dk_at dksX7_nearest_1 5 rfl rfl)
theorem dX7_nearest_30 : decode cX7_nearest 30 = .ok (.istore 4, 2) := dk_54 4 (dk_at dksX7_nearest_1 6 rfl rfl)
theorem dX7_nearest_32 : decode cX7_nearest 32 = .ok (.iload 4, 2) := dk_21 4 (dk_at dksX7_nearest_1 8 rfl rfl)
theorem dX7_nearest_34 : decode cX7_nearest 34 = .ok (.iconst (-1), 1) := dk_2 (dk_at dksX7_nearest_1 10 rfl rfl)
theorem dX7_nearest_35 : decode cX7_nearest 35 = .ok (.if_icmp .eq 26, 3) := dk_159 0 26 (dk_at dksX7_nearest_1 11 rfl rfl)
theorem dX7_nearest_38 : decode cX7_nearest 38 = .ok (.iload_n 3, 1) := dk_29 (dk_at dksX7_nearest_1 14 rfl rfl)
theorem dX7_nearest_39 : decode cX7_nearest 39 = .ok (.iload 4, 2) := dk_21 4 (dk_at dksX7_nearest_1 15 rfl rfl)
theorem dX7_nearest_41 : decode cX7_nearest 41 = .ok (.if_icmp .ne 9, 3) := dk_160 0 9 (dk_at dksX7_nearest_1 17 rfl rfl)
theorem dX7_nearest_44 : decode cX7_nearest 44 = .ok (.aload_n 0, 1) := dk_42 (dk_at dksX7_nearest_1 20 rfl rfl)
theorem dX7_nearest_45 : decode cX7_nearest 45 = .ok (.iload_n 3, 1) := dk_29 (dk_at dksX7_nearest_1 21 rfl rfl)
theorem dX7_nearest_46 : decode cX7_nearest 46 = .ok (.invokevirtual 76, 3) := dk_182 0 76 (dk_at dksX7_nearest_2 0 rfl rfl)
theorem dX7_nearest_49 : decode cX7_nearest 49 = .ok (.ireturn, 1) := dk_172 (dk_at dksX7_nearest_2 3 rfl rfl)
theorem dX7_nearest_50 : decode cX7_nearest 50 = .ok (.aload_n 0, 1) := dk_42 (dk_at dksX7_nearest_2 4 rfl rfl)
theorem dX7_nearest_51 : decode cX7_nearest 51 = .ok (.iload 4, 2) := dk_21 4 (dk_at dksX7_nearest_2 5 rfl rfl)
theorem dX7_nearest_53 : decode cX7_nearest 53 = .ok (.invokevirtual 289, 3) := dk_182 1 33 (dk_at dksX7_nearest_2 7 rfl rfl)
theorem dX7_nearest_56 : decode cX7_nearest 56 = .ok (.istore 4, 2) := dk_54 4 (dk_at dksX7_nearest_2 10 rfl rfl)
theorem dX7_nearest_58 : decode cX7_nearest 58 = .ok (.goto (-26), 3) := dk_167 255 230 (dk_at dksX7_nearest_2 12 rfl rfl)
theorem dX7_nearest_61 : decode cX7_nearest 61 = .ok (.aload_n 0, 1) := dk_42 (dk_at dksX7_nearest_2 15 rfl rfl)
theorem dX7_nearest_62 : decode cX7_nearest 62 = .ok (.iload_n 3, 1) := dk_29 (dk_at dksX7_nearest_2 16 rfl rfl)
theorem dX7_nearest_63 : decode cX7_nearest 63 = .ok (.invokevirtual 289, 3) := dk_182 1 33 (dk_at dksX7_nearest_2 17 rfl rfl)
theorem dX7_nearest_66 : decode cX7_nearest 66 = .ok (.istore_n 3, 1) := dk_62 (dk_at dksX7_nearest_2 20 rfl rfl)
theorem dX7_nearest_67 : decode cX7_nearest 67 = .ok (.goto (-43), 3) := dk_167 255 213 (dk_at dksX7_nearest_2 21 rfl rfl)
theorem dX7_nearest_70 : decode cX7_nearest 70 = .ok (.aload_n 0, 1) := dk_42 (dk_at dksX7_nearest_3 0 rfl rfl)
theorem dX7_nearest_71 : decode cX7_nearest 71 = .ok (.bipush 6, 2) := dk_16 6 (dk_at dksX7_nearest_3 1 rfl rfl)
theorem dX7_nearest_73 : decode cX7_nearest 73 = .ok (.invokevirtual 72, 3) := dk_182 0 72 (dk_at dksX7_nearest_3 3 rfl rfl)
theorem dX7_nearest_76 : decode cX7_nearest 76 = .ok (.ireturn, 1) := dk_172 (dk_at dksX7_nearest_3 6 rfl rfl)
def dkwX7_sisters_3 : List UInt8 := [167, 255, 204, 42, 28, 182, 0, 76, 172]
abbrev dktX7_sisters_3 : List UInt8 := dkwX7_sisters_3 ++ []
def dkwX7_sisters_2 : List UInt8 := [29, 182, 1, 33, 42, 27, 182, 1, 33, 160, 0, 7, 4, 167, 0, 4, 3, 96, 61, 132, 3, 1]
abbrev dktX7_sisters_2 : List UInt8 := dkwX7_sisters_2 ++ dktX7_sisters_3
def dkwX7_sisters_1 : List UInt8 := [28, 42, 29, 182, 1, 30, 153, 0, 34, 29, 27, 159, 0, 29, 42, 27, 182, 1, 33, 2, 159, 0, 20, 42]
abbrev dktX7_sisters_1 : List UInt8 := dkwX7_sisters_1 ++ dktX7_sisters_2
def dkwX7_sisters_0 : List UInt8 := [42, 27, 182, 1, 30, 154, 0, 9, 42, 4, 182, 0, 72, 172, 3, 61, 3, 62, 29, 16, 16, 162, 0, 52]
abbrev dktX7_sisters_0 : List UInt8 := dkwX7_sisters_0 ++ dktX7_sisters_1
theorem dksX7_sisters_0 : cX7_sisters.data.toList.drop 0 = dktX7_sisters_0 := by decide +kernel
theorem dksX7_sisters_1 : cX7_sisters.data.toList.drop 24 = dktX7_sisters_1 := dk_seg dksX7_sisters_0 24 rfl rfl
theorem dksX7_sisters_2 : cX7_sisters.data.toList.drop 48 = dktX7_sisters_2 := dk_seg dksX7_sisters_1 24 rfl rfl
theorem dksX7_sisters_3 : cX7_sisters.data.toList.drop 70 = dktX7_sisters_3 := dk_seg dksX7_sisters_2 22 rfl rfl
theorem dX7_sisters_0 : decode cX7_sisters 0 = .ok (.aload_n 0, 1) := dk_42 (dk_at dksX7_sisters_0 0 rfl rfl)
theorem dX7_sisters_1 : decode cX7_sisters 1 = .ok (.iload_n 1, 1) := dk_27 (dk_at dksX7_sisters_0 1 rfl rfl)
theorem dX7_sisters_2 : decode cX7_sisters 2 = .ok (.invokevirtual 286, 3) := dk_182 1 30 (dk_at dksX7_sisters_0 2 rfl rfl)
theorem dX7_sisters_5 : decode cX7_sisters 5 = .ok (.ifCond .ne 9, 3) := dk_154 0 9 (dk_at dksX7_sisters_0 5 rfl rfl)
theorem dX7_sisters_8 : decode cX7_sisters 8 = .ok (.aload_n 0, 1) := dk_42 (dk_at dksX7_sisters_0 8 rfl rfl)
theorem dX7_sisters_9 : decode cX7_sisters 9 = .ok (.iconst 1, 1) := dk_4 (dk_at dksX7_sisters_0 9 rfl rfl)
theorem dX7_sisters_10 : decode cX7_sisters 10 = .ok (.invokevirtual 72, 3) := dk_182 0 72 (dk_at dksX7_sisters_0 10 rfl rfl)
theorem dX7_sisters_13 : decode cX7_sisters 13 = .ok (.ireturn, 1) := dk_172 (dk_at dksX7_sisters_0 13 rfl rfl)
theorem dX7_sisters_14 : decode cX7_sisters 14 = .ok (.iconst 0, 1) := dk_3 (dk_at dksX7_sisters_0 14 rfl rfl)
theorem dX7_sisters_15 : decode cX7_sisters 15 = .ok (.istore_n 2, 1) := dk_61 (dk_at dksX7_sisters_0 15 rfl rfl)
theorem dX7_sisters_16 : decode cX7_sisters 16 = .ok (.iconst 0, 1) := dk_3 (dk_at dksX7_sisters_0 16 rfl rfl)
theorem dX7_sisters_17 : decode cX7_sisters 17 = .ok (.istore_n 3, 1) := dk_62 (dk_at dksX7_sisters_0 17 rfl rfl)
theorem dX7_sisters_18 : decode cX7_sisters 18 = .ok (.iload_n 3, 1) := dk_29 (dk_at dksX7_sisters_0 18 rfl rfl)
theorem dX7_sisters_19 : decode cX7_sisters 19 = .ok (.bipush 16, 2) := dk_16 16 (dk_at dksX7_sisters_0 19 rfl rfl)
theorem dX7_sisters_21 : decode cX7_sisters 21 = .ok (.if_icmp .ge 52, 3) := dk_162 0 52 (dk_at dksX7_sisters_0 21 rfl rfl)
theorem dX7_sisters_24 : decode cX7_sisters 24 = .ok (.iload_n 2, 1) := dk_28 (dk_at dksX7_sisters_1 0 rfl rfl)
theorem dX7_sisters_25 : decode cX7_sisters 25 = .ok (.aload_n 0, 1) := dk_42 (dk_at dksX7_sisters_1 1 rfl rfl)
theorem dX7_sisters_26 : decode cX7_sisters 26 = .ok (.iload_n 3, 1) := dk_29 (dk_at dksX7_sisters_1 2 rfl rfl)
theorem dX7_sisters_27 : decode cX7_sisters 27 = .ok (.invokevirtual 286, 3) := dk_182 1 30 (dk_at dksX7_sisters_1 3 rfl rfl)
theorem dX7_sisters_30 : decode cX7_sisters 30 = .ok (.ifCond .eq 34, 3) := dk_153 0 34 (dk_at dksX7_sisters_1 6 rfl rfl)
theorem dX7_sisters_33 : decode cX7_sisters 33 = .ok (.iload_n 3, 1) := dk_29 (dk_at dksX7_sisters_1 9 rfl rfl)
theorem dX7_sisters_34 : decode cX7_sisters 34 = .ok (.iload_n 1, 1) := dk_27 (dk_at dksX7_sisters_1 10 rfl rfl)
theorem dX7_sisters_35 : decode cX7_sisters 35 = .ok (.if_icmp .eq 29, 3) := dk_159 0 29 (dk_at dksX7_sisters_1 11 rfl rfl)
theorem dX7_sisters_38 : decode cX7_sisters 38 = .ok (.aload_n 0, 1) := dk_42 (dk_at dksX7_sisters_1 14 rfl rfl)
theorem dX7_sisters_39 : decode cX7_sisters 39 = .ok (.iload_n 1, 1) := dk_27 (dk_at dksX7_sisters_1 15 rfl rfl)
theorem dX7_sisters_40 : decode cX7_sisters 40 = .ok (.invokevirtual 289, 3) := dk_182 1 33 (dk_at dksX7_sisters_1 16 rfl rfl)
theorem dX7_sisters_43 : decode cX7_sisters 43 = .ok (.iconst (-1), 1) := dk_2 (dk_at dksX7_sisters_1 19 rfl rfl)
theorem dX7_sisters_44 : decode cX7_sisters 44 = .ok (.if_icmp .eq 20, 3) := dk_159 0 20 (dk_at dksX7_sisters_1 20 rfl rfl)
theorem dX7_sisters_47 : decode cX7_sisters 47 = .ok (.aload_n 0, 1) := dk_42 (dk_at dksX7_sisters_1 23 rfl rfl)
theorem dX7_sisters_48 : decode cX7_sisters 48 = .ok (.iload_n 3, 1) := dk_29 (dk_at dksX7_sisters_2 0 rfl rfl)
theorem dX7_sisters_49 : decode cX7_sisters 49 = .ok (.invokevirtual 289, 3) := dk_182 1 33 (dk_at dksX7_sisters_2 1 rfl rfl)
theorem dX7_sisters_52 : decode cX7_sisters 52 = .ok (.aload_n 0, 1) := dk_42 (dk_at dksX7_sisters_2 4 rfl rfl)
theorem dX7_sisters_53 : decode cX7_sisters 53 = .ok (.iload_n 1, 1) := dk_27 (dk_at dksX7_sisters_2 5 rfl rfl)
theorem dX7_sisters_54 : decode cX7_sisters 54 = .ok (.invokevirtual 289, 3) := dk_182 1 33 (dk_at dksX7_sisters_2 6 rfl rfl)
theorem dX7_sisters_57 : decode cX7_sisters 57 = .ok (.if_icmp .ne 7, 3) := dk_160 0 7 (dk_at dksX7_sisters_2 9 rfl rfl)
theorem dX7_sisters_60 : decode cX7_sisters 60 = .ok (.iconst 1, 1) := dk_4 (dk_at dksX7_sisters_2 12 rfl rfl)
theorem dX7_sisters_61 : decode cX7_sisters 61 = .ok (.goto 4, 3) := dk_167 0 4 (dk_at dksX7_sisters_2 13 rfl rfl)
theorem dX7_sisters_64 : decode cX7_sisters 64 = .ok (.iconst 0, 1) := dk_3 (dk_at dksX7_sisters_2 16 rfl rfl)
theorem dX7_sisters_65 : decode cX7_sisters 65 = .ok (.iadd, 1) := dk_96 (dk_at dksX7_sisters_2 17 rfl rfl)
theorem dX7_sisters_66 : decode cX7_sisters 66 = .ok (.istore_n 2, 1) := dk_61 (dk_at dksX7_sisters_2 18 rfl rfl)
theorem dX7_sisters_67 : decode cX7_sisters 67 = .ok (.iinc 3 1, 3) := dk_132 3 1 (dk_at dksX7_sisters_2 19 rfl rfl)
theorem dX7_sisters_70 : decode cX7_sisters 70 = .ok (.goto (-52), 3) := dk_167 255 204 (dk_at dksX7_sisters_3 0 rfl rfl)
theorem dX7_sisters_73 : decode cX7_sisters 73 = .ok (.aload_n 0, 1) := dk_42 (dk_at dksX7_sisters_3 3 rfl rfl)
theorem dX7_sisters_74 : decode cX7_sisters 74 = .ok (.iload_n 2, 1) := dk_28 (dk_at dksX7_sisters_3 4 rfl rfl)
theorem dX7_sisters_75 : decode cX7_sisters 75 = .ok (.invokevirtual 76, 3) := dk_182 0 76 (dk_at dksX7_sisters_3 5 rfl rfl)
theorem dX7_sisters_78 : decode cX7_sisters 78 = .ok (.ireturn, 1) := dk_172 (dk_at dksX7_sisters_3 8 rfl rfl)
def dkwX7_room_2 : List UInt8 := [182, 0, 76, 172]
abbrev dktX7_room_2 : List UInt8 := dkwX7_room_2 ++ []
def dkwX7_room_1 : List UInt8 := [42, 180, 0, 7, 28, 46, 104, 42, 28, 4, 182, 1, 27, 100, 104, 42, 28, 3, 182, 1, 27, 100]
abbrev dktX7_room_1 : List UInt8 := dkwX7_room_1 ++ dktX7_room_2
def dkwX7_room_0 : List UInt8 := [42, 27, 182, 1, 18, 154, 0, 9, 42, 4, 182, 0, 72, 172, 27, 184, 0, 217, 61, 42, 16, 100, 16, 16]
abbrev dktX7_room_0 : List UInt8 := dkwX7_room_0 ++ dktX7_room_1
theorem dksX7_room_0 : cX7_room.data.toList.drop 0 = dktX7_room_0 := by decide +kernel
theorem dksX7_room_1 : cX7_room.data.toList.drop 24 = dktX7_room_1 := dk_seg dksX7_room_0 24 rfl rfl
theorem dksX7_room_2 : cX7_room.data.toList.drop 46 = dktX7_room_2 := dk_seg dksX7_room_1 22 rfl rfl
theorem dX7_room_0 : decode cX7_room 0 = .ok (.aload_n 0, 1) := dk_42 (dk_at dksX7_room_0 0 rfl rfl)
theorem dX7_room_1 : decode cX7_room 1 = .ok (.iload_n 1, 1) := dk_27 (dk_at dksX7_room_0 1 rfl rfl)
theorem dX7_room_2 : decode cX7_room 2 = .ok (.invokevirtual 274, 3) := dk_182 1 18 (dk_at dksX7_room_0 2 rfl rfl)
theorem dX7_room_5 : decode cX7_room 5 = .ok (.ifCond .ne 9, 3) := dk_154 0 9 (dk_at dksX7_room_0 5 rfl rfl)
theorem dX7_room_8 : decode cX7_room 8 = .ok (.aload_n 0, 1) := dk_42 (dk_at dksX7_room_0 8 rfl rfl)
theorem dX7_room_9 : decode cX7_room 9 = .ok (.iconst 1, 1) := dk_4 (dk_at dksX7_room_0 9 rfl rfl)
theorem dX7_room_10 : decode cX7_room 10 = .ok (.invokevirtual 72, 3) := dk_182 0 72 (dk_at dksX7_room_0 10 rfl rfl)
theorem dX7_room_13 : decode cX7_room 13 = .ok (.ireturn, 1) := dk_172 (dk_at dksX7_room_0 13 rfl rfl)
theorem dX7_room_14 : decode cX7_room 14 = .ok (.iload_n 1, 1) := dk_27 (dk_at dksX7_room_0 14 rfl rfl)
theorem dX7_room_15 : decode cX7_room 15 = .ok (.invokestatic 217, 3) := dk_184 0 217 (dk_at dksX7_room_0 15 rfl rfl)
theorem dX7_room_18 : decode cX7_room 18 = .ok (.istore_n 2, 1) := dk_61 (dk_at dksX7_room_0 18 rfl rfl)
theorem dX7_room_19 : decode cX7_room 19 = .ok (.aload_n 0, 1) := dk_42 (dk_at dksX7_room_0 19 rfl rfl)
theorem dX7_room_20 : decode cX7_room 20 = .ok (.bipush 100, 2) := dk_16 100 (dk_at dksX7_room_0 20 rfl rfl)
theorem dX7_room_22 : decode cX7_room 22 = .ok (.bipush 16, 2) := dk_16 16 (dk_at dksX7_room_0 22 rfl rfl)
theorem dX7_room_24 : decode cX7_room 24 = .ok (.aload_n 0, 1) := dk_42 (dk_at dksX7_room_1 0 rfl rfl)
theorem dX7_room_25 : decode cX7_room 25 = .ok (.getfield 7, 3) := dk_180 0 7 (dk_at dksX7_room_1 1 rfl rfl)
theorem dX7_room_28 : decode cX7_room 28 = .ok (.iload_n 2, 1) := dk_28 (dk_at dksX7_room_1 4 rfl rfl)
theorem dX7_room_29 : decode cX7_room 29 = .ok (.iaload, 1) := dk_46 (dk_at dksX7_room_1 5 rfl rfl)
theorem dX7_room_30 : decode cX7_room 30 = .ok (.imul, 1) := dk_104 (dk_at dksX7_room_1 6 rfl rfl)
theorem dX7_room_31 : decode cX7_room 31 = .ok (.aload_n 0, 1) := dk_42 (dk_at dksX7_room_1 7 rfl rfl)
theorem dX7_room_32 : decode cX7_room 32 = .ok (.iload_n 2, 1) := dk_28 (dk_at dksX7_room_1 8 rfl rfl)
theorem dX7_room_33 : decode cX7_room 33 = .ok (.iconst 1, 1) := dk_4 (dk_at dksX7_room_1 9 rfl rfl)
theorem dX7_room_34 : decode cX7_room 34 = .ok (.invokevirtual 283, 3) := dk_182 1 27 (dk_at dksX7_room_1 10 rfl rfl)
theorem dX7_room_37 : decode cX7_room 37 = .ok (.isub, 1) := dk_100 (dk_at dksX7_room_1 13 rfl rfl)
theorem dX7_room_38 : decode cX7_room 38 = .ok (.imul, 1) := dk_104 (dk_at dksX7_room_1 14 rfl rfl)
theorem dX7_room_39 : decode cX7_room 39 = .ok (.aload_n 0, 1) := dk_42 (dk_at dksX7_room_1 15 rfl rfl)
theorem dX7_room_40 : decode cX7_room 40 = .ok (.iload_n 2, 1) := dk_28 (dk_at dksX7_room_1 16 rfl rfl)
theorem dX7_room_41 : decode cX7_room 41 = .ok (.iconst 0, 1) := dk_3 (dk_at dksX7_room_1 17 rfl rfl)
theorem dX7_room_42 : decode cX7_room 42 = .ok (.invokevirtual 283, 3) := dk_182 1 27 (dk_at dksX7_room_1 18 rfl rfl)
theorem dX7_room_45 : decode cX7_room 45 = .ok (.isub, 1) := dk_100 (dk_at dksX7_room_1 21 rfl rfl)
theorem dX7_room_46 : decode cX7_room 46 = .ok (.invokevirtual 76, 3) := dk_182 0 76 (dk_at dksX7_room_2 0 rfl rfl)
theorem dX7_room_49 : decode cX7_room 49 = .ok (.ireturn, 1) := dk_172 (dk_at dksX7_room_2 3 rfl rfl)
def dkwX7_richest_2 : List UInt8 := [182, 1, 102, 164, 0, 5, 29, 61, 132, 3, 1, 167, 255, 215, 42, 28, 182, 0, 76, 172]
abbrev dktX7_richest_2 : List UInt8 := dkwX7_richest_2 ++ []
def dkwX7_richest_1 : List UInt8 := [184, 0, 217, 46, 162, 0, 34, 42, 42, 27, 29, 182, 1, 45, 182, 1, 102, 42, 42, 27, 28, 182, 1, 45]
abbrev dktX7_richest_1 : List UInt8 := dkwX7_richest_1 ++ dktX7_richest_2
def dkwX7_richest_0 : List UInt8 := [42, 27, 182, 1, 18, 154, 0, 9, 42, 4, 182, 0, 72, 172, 3, 61, 4, 62, 29, 42, 180, 0, 7, 27]
abbrev dktX7_richest_0 : List UInt8 := dkwX7_richest_0 ++ dktX7_richest_1
theorem dksX7_richest_0 : cX7_richest.data.toList.drop 0 = dktX7_richest_0 := by decide +kernel
theorem dksX7_richest_1 : cX7_richest.data.toList.drop 24 = dktX7_richest_1 := dk_seg dksX7_richest_0 24 rfl rfl
theorem dksX7_richest_2 : cX7_richest.data.toList.drop 48 = dktX7_richest_2 := dk_seg dksX7_richest_1 24 rfl rfl
theorem dX7_richest_0 : decode cX7_richest 0 = .ok (.aload_n 0, 1) := dk_42 (dk_at dksX7_richest_0 0 rfl rfl)
theorem dX7_richest_1 : decode cX7_richest 1 = .ok (.iload_n 1, 1) := dk_27 (dk_at dksX7_richest_0 1 rfl rfl)
theorem dX7_richest_2 : decode cX7_richest 2 = .ok (.invokevirtual 274, 3) := dk_182 1 18 (dk_at dksX7_richest_0 2 rfl rfl)
theorem dX7_richest_5 : decode cX7_richest 5 = .ok (.ifCond .ne 9, 3) := dk_154 0 9 (dk_at dksX7_richest_0 5 rfl rfl)
theorem dX7_richest_8 : decode cX7_richest 8 = .ok (.aload_n 0, 1) := dk_42 (dk_at dksX7_richest_0 8 rfl rfl)
theorem dX7_richest_9 : decode cX7_richest 9 = .ok (.iconst 1, 1) := dk_4 (dk_at dksX7_richest_0 9 rfl rfl)
theorem dX7_richest_10 : decode cX7_richest 10 = .ok (.invokevirtual 72, 3) := dk_182 0 72 (dk_at dksX7_richest_0 10 rfl rfl)
theorem dX7_richest_13 : decode cX7_richest 13 = .ok (.ireturn, 1) := dk_172 (dk_at dksX7_richest_0 13 rfl rfl)
theorem dX7_richest_14 : decode cX7_richest 14 = .ok (.iconst 0, 1) := dk_3 (dk_at dksX7_richest_0 14 rfl rfl)
theorem dX7_richest_15 : decode cX7_richest 15 = .ok (.istore_n 2, 1) := dk_61 (dk_at dksX7_richest_0 15 rfl rfl)
theorem dX7_richest_16 : decode cX7_richest 16 = .ok (.iconst 1, 1) := dk_4 (dk_at dksX7_richest_0 16 rfl rfl)
theorem dX7_richest_17 : decode cX7_richest 17 = .ok (.istore_n 3, 1) := dk_62 (dk_at dksX7_richest_0 17 rfl rfl)
theorem dX7_richest_18 : decode cX7_richest 18 = .ok (.iload_n 3, 1) := dk_29 (dk_at dksX7_richest_0 18 rfl rfl)
theorem dX7_richest_19 : decode cX7_richest 19 = .ok (.aload_n 0, 1) := dk_42 (dk_at dksX7_richest_0 19 rfl rfl)
theorem dX7_richest_20 : decode cX7_richest 20 = .ok (.getfield 7, 3) := dk_180 0 7 (dk_at dksX7_richest_0 20 rfl rfl)
theorem dX7_richest_23 : decode cX7_richest 23 = .ok (.iload_n 1, 1) := dk_27 (dk_at dksX7_richest_0 23 rfl rfl)
theorem dX7_richest_24 : decode cX7_richest 24 = .ok (.invokestatic 217, 3) := dk_184 0 217 (dk_at dksX7_richest_1 0 rfl rfl)
theorem dX7_richest_27 : decode cX7_richest 27 = .ok (.iaload, 1) := dk_46 (dk_at dksX7_richest_1 3 rfl rfl)
theorem dX7_richest_28 : decode cX7_richest 28 = .ok (.if_icmp .ge 34, 3) := dk_162 0 34 (dk_at dksX7_richest_1 4 rfl rfl)
theorem dX7_richest_31 : decode cX7_richest 31 = .ok (.aload_n 0, 1) := dk_42 (dk_at dksX7_richest_1 7 rfl rfl)
theorem dX7_richest_32 : decode cX7_richest 32 = .ok (.aload_n 0, 1) := dk_42 (dk_at dksX7_richest_1 8 rfl rfl)
theorem dX7_richest_33 : decode cX7_richest 33 = .ok (.iload_n 1, 1) := dk_27 (dk_at dksX7_richest_1 9 rfl rfl)
theorem dX7_richest_34 : decode cX7_richest 34 = .ok (.iload_n 3, 1) := dk_29 (dk_at dksX7_richest_1 10 rfl rfl)
theorem dX7_richest_35 : decode cX7_richest 35 = .ok (.invokevirtual 301, 3) := dk_182 1 45 (dk_at dksX7_richest_1 11 rfl rfl)
theorem dX7_richest_38 : decode cX7_richest 38 = .ok (.invokevirtual 358, 3) := dk_182 1 102 (dk_at dksX7_richest_1 14 rfl rfl)
theorem dX7_richest_41 : decode cX7_richest 41 = .ok (.aload_n 0, 1) := dk_42 (dk_at dksX7_richest_1 17 rfl rfl)
theorem dX7_richest_42 : decode cX7_richest 42 = .ok (.aload_n 0, 1) := dk_42 (dk_at dksX7_richest_1 18 rfl rfl)
theorem dX7_richest_43 : decode cX7_richest 43 = .ok (.iload_n 1, 1) := dk_27 (dk_at dksX7_richest_1 19 rfl rfl)
theorem dX7_richest_44 : decode cX7_richest 44 = .ok (.iload_n 2, 1) := dk_28 (dk_at dksX7_richest_1 20 rfl rfl)
theorem dX7_richest_45 : decode cX7_richest 45 = .ok (.invokevirtual 301, 3) := dk_182 1 45 (dk_at dksX7_richest_1 21 rfl rfl)
theorem dX7_richest_48 : decode cX7_richest 48 = .ok (.invokevirtual 358, 3) := dk_182 1 102 (dk_at dksX7_richest_2 0 rfl rfl)
theorem dX7_richest_51 : decode cX7_richest 51 = .ok (.if_icmp .le 5, 3) := dk_164 0 5 (dk_at dksX7_richest_2 3 rfl rfl)
theorem dX7_richest_54 : decode cX7_richest 54 = .ok (.iload_n 3, 1) := dk_29 (dk_at dksX7_richest_2 6 rfl rfl)
theorem dX7_richest_55 : decode cX7_richest 55 = .ok (.istore_n 2, 1) := dk_61 (dk_at dksX7_richest_2 7 rfl rfl)
theorem dX7_richest_56 : decode cX7_richest 56 = .ok (.iinc 3 1, 3) := dk_132 3 1 (dk_at dksX7_richest_2 8 rfl rfl)
theorem dX7_richest_59 : decode cX7_richest 59 = .ok (.goto (-41), 3) := dk_167 255 215 (dk_at dksX7_richest_2 11 rfl rfl)
theorem dX7_richest_62 : decode cX7_richest 62 = .ok (.aload_n 0, 1) := dk_42 (dk_at dksX7_richest_2 14 rfl rfl)
theorem dX7_richest_63 : decode cX7_richest 63 = .ok (.iload_n 2, 1) := dk_28 (dk_at dksX7_richest_2 15 rfl rfl)
theorem dX7_richest_64 : decode cX7_richest 64 = .ok (.invokevirtual 76, 3) := dk_182 0 76 (dk_at dksX7_richest_2 16 rfl rfl)
theorem dX7_richest_67 : decode cX7_richest 67 = .ok (.ireturn, 1) := dk_172 (dk_at dksX7_richest_2 19 rfl rfl)
def dkwX7_honeyIn_1 : List UInt8 := [42, 180, 0, 7, 29, 46, 167, 0, 4, 3, 96, 61, 132, 3, 1, 167, 255, 221, 28, 172]
abbrev dktX7_honeyIn_1 : List UInt8 := dkwX7_honeyIn_1 ++ []
def dkwX7_honeyIn_0 : List UInt8 := [3, 61, 27, 62, 29, 27, 16, 16, 96, 162, 0, 33, 28, 42, 180, 0, 7, 29, 46, 16, 100, 163, 0, 12]
abbrev dktX7_honeyIn_0 : List UInt8 := dkwX7_honeyIn_0 ++ dktX7_honeyIn_1
theorem dksX7_honeyIn_0 : cX7_honeyIn.data.toList.drop 0 = dktX7_honeyIn_0 := by decide +kernel
theorem dksX7_honeyIn_1 : cX7_honeyIn.data.toList.drop 24 = dktX7_honeyIn_1 := dk_seg dksX7_honeyIn_0 24 rfl rfl
theorem dX7_honeyIn_0 : decode cX7_honeyIn 0 = .ok (.iconst 0, 1) := dk_3 (dk_at dksX7_honeyIn_0 0 rfl rfl)
theorem dX7_honeyIn_1 : decode cX7_honeyIn 1 = .ok (.istore_n 2, 1) := dk_61 (dk_at dksX7_honeyIn_0 1 rfl rfl)
theorem dX7_honeyIn_2 : decode cX7_honeyIn 2 = .ok (.iload_n 1, 1) := dk_27 (dk_at dksX7_honeyIn_0 2 rfl rfl)
theorem dX7_honeyIn_3 : decode cX7_honeyIn 3 = .ok (.istore_n 3, 1) := dk_62 (dk_at dksX7_honeyIn_0 3 rfl rfl)
theorem dX7_honeyIn_4 : decode cX7_honeyIn 4 = .ok (.iload_n 3, 1) := dk_29 (dk_at dksX7_honeyIn_0 4 rfl rfl)
theorem dX7_honeyIn_5 : decode cX7_honeyIn 5 = .ok (.iload_n 1, 1) := dk_27 (dk_at dksX7_honeyIn_0 5 rfl rfl)
theorem dX7_honeyIn_6 : decode cX7_honeyIn 6 = .ok (.bipush 16, 2) := dk_16 16 (dk_at dksX7_honeyIn_0 6 rfl rfl)
theorem dX7_honeyIn_8 : decode cX7_honeyIn 8 = .ok (.iadd, 1) := dk_96 (dk_at dksX7_honeyIn_0 8 rfl rfl)
theorem dX7_honeyIn_9 : decode cX7_honeyIn 9 = .ok (.if_icmp .ge 33, 3) := dk_162 0 33 (dk_at dksX7_honeyIn_0 9 rfl rfl)
theorem dX7_honeyIn_12 : decode cX7_honeyIn 12 = .ok (.iload_n 2, 1) := dk_28 (dk_at dksX7_honeyIn_0 12 rfl rfl)
theorem dX7_honeyIn_13 : decode cX7_honeyIn 13 = .ok (.aload_n 0, 1) := dk_42 (dk_at dksX7_honeyIn_0 13 rfl rfl)
theorem dX7_honeyIn_14 : decode cX7_honeyIn 14 = .ok (.getfield 7, 3) := dk_180 0 7 (dk_at dksX7_honeyIn_0 14 rfl rfl)
theorem dX7_honeyIn_17 : decode cX7_honeyIn 17 = .ok (.iload_n 3, 1) := dk_29 (dk_at dksX7_honeyIn_0 17 rfl rfl)
theorem dX7_honeyIn_18 : decode cX7_honeyIn 18 = .ok (.iaload, 1) := dk_46 (dk_at dksX7_honeyIn_0 18 rfl rfl)
theorem dX7_honeyIn_19 : decode cX7_honeyIn 19 = .ok (.bipush 100, 2) := dk_16 100 (dk_at dksX7_honeyIn_0 19 rfl rfl)
theorem dX7_honeyIn_21 : decode cX7_honeyIn 21 = .ok (.if_icmp .gt 12, 3) := dk_163 0 12 (dk_at dksX7_honeyIn_0 21 rfl rfl)
theorem dX7_honeyIn_24 : decode cX7_honeyIn 24 = .ok (.aload_n 0, 1) := dk_42 (dk_at dksX7_honeyIn_1 0 rfl rfl)
theorem dX7_honeyIn_25 : decode cX7_honeyIn 25 = .ok (.getfield 7, 3) := dk_180 0 7 (dk_at dksX7_honeyIn_1 1 rfl rfl)
theorem dX7_honeyIn_28 : decode cX7_honeyIn 28 = .ok (.iload_n 3, 1) := dk_29 (dk_at dksX7_honeyIn_1 4 rfl rfl)
theorem dX7_honeyIn_29 : decode cX7_honeyIn 29 = .ok (.iaload, 1) := dk_46 (dk_at dksX7_honeyIn_1 5 rfl rfl)
theorem dX7_honeyIn_30 : decode cX7_honeyIn 30 = .ok (.goto 4, 3) := dk_167 0 4 (dk_at dksX7_honeyIn_1 6 rfl rfl)
theorem dX7_honeyIn_33 : decode cX7_honeyIn 33 = .ok (.iconst 0, 1) := dk_3 (dk_at dksX7_honeyIn_1 9 rfl rfl)
theorem dX7_honeyIn_34 : decode cX7_honeyIn 34 = .ok (.iadd, 1) := dk_96 (dk_at dksX7_honeyIn_1 10 rfl rfl)
theorem dX7_honeyIn_35 : decode cX7_honeyIn 35 = .ok (.istore_n 2, 1) := dk_61 (dk_at dksX7_honeyIn_1 11 rfl rfl)
theorem dX7_honeyIn_36 : decode cX7_honeyIn 36 = .ok (.iinc 3 1, 3) := dk_132 3 1 (dk_at dksX7_honeyIn_1 12 rfl rfl)
theorem dX7_honeyIn_39 : decode cX7_honeyIn 39 = .ok (.goto (-35), 3) := dk_167 255 221 (dk_at dksX7_honeyIn_1 15 rfl rfl)
theorem dX7_honeyIn_42 : decode cX7_honeyIn 42 = .ok (.iload_n 2, 1) := dk_28 (dk_at dksX7_honeyIn_1 18 rfl rfl)
theorem dX7_honeyIn_43 : decode cX7_honeyIn 43 = .ok (.ireturn, 1) := dk_172 (dk_at dksX7_honeyIn_1 19 rfl rfl)
def dkwX7_age_5 : List UInt8 := [182, 1, 24, 172]
abbrev dktX7_age_5 : List UInt8 := dkwX7_age_5 ++ []
def dkwX7_age_4 : List UInt8 := [21, 6, 21, 4, 163, 0, 6, 167, 0, 7, 21, 6, 54, 4, 132, 5, 1, 167, 255, 183, 42, 21, 4]
abbrev dktX7_age_4 : List UInt8 := dkwX7_age_4 ++ dktX7_age_5
def dkwX7_age_3 : List UInt8 := [155, 0, 37, 21, 4, 2, 159, 0, 27, 28, 154, 0, 13, 21, 6, 21, 4, 161, 0, 16, 167, 0, 17]
abbrev dktX7_age_3 : List UInt8 := dkwX7_age_3 ++ dktX7_age_4
def dkwX7_age_2 : List UInt8 := [180, 0, 7, 29, 46, 104, 96, 162, 0, 60, 42, 180, 0, 7, 21, 5, 46, 16, 101, 100, 54, 6, 21, 6]
abbrev dktX7_age_2 : List UInt8 := dkwX7_age_2 ++ dktX7_age_3
def dkwX7_age_1 : List UInt8 := [184, 0, 217, 62, 2, 54, 4, 29, 16, 6, 96, 54, 5, 21, 5, 29, 16, 6, 96, 16, 16, 42]
abbrev dktX7_age_1 : List UInt8 := dkwX7_age_1 ++ dktX7_age_2
def dkwX7_age_0 : List UInt8 := [42, 27, 182, 1, 18, 153, 0, 12, 28, 155, 0, 8, 28, 4, 164, 0, 9, 42, 4, 182, 0, 72, 172, 27]
abbrev dktX7_age_0 : List UInt8 := dkwX7_age_0 ++ dktX7_age_1
theorem dksX7_age_0 : cX7_age.data.toList.drop 0 = dktX7_age_0 := by decide +kernel
theorem dksX7_age_1 : cX7_age.data.toList.drop 24 = dktX7_age_1 := dk_seg dksX7_age_0 24 rfl rfl
theorem dksX7_age_2 : cX7_age.data.toList.drop 46 = dktX7_age_2 := dk_seg dksX7_age_1 22 rfl rfl
theorem dksX7_age_3 : cX7_age.data.toList.drop 70 = dktX7_age_3 := dk_seg dksX7_age_2 24 rfl rfl
theorem dksX7_age_4 : cX7_age.data.toList.drop 93 = dktX7_age_4 := dk_seg dksX7_age_3 23 rfl rfl
theorem dksX7_age_5 : cX7_age.data.toList.drop 116 = dktX7_age_5 := dk_seg dksX7_age_4 23 rfl rfl
theorem dX7_age_0 : decode cX7_age 0 = .ok (.aload_n 0, 1) := dk_42 (dk_at dksX7_age_0 0 rfl rfl)
theorem dX7_age_1 : decode cX7_age 1 = .ok (.iload_n 1, 1) := dk_27 (dk_at dksX7_age_0 1 rfl rfl)
theorem dX7_age_2 : decode cX7_age 2 = .ok (.invokevirtual 274, 3) := dk_182 1 18 (dk_at dksX7_age_0 2 rfl rfl)
theorem dX7_age_5 : decode cX7_age 5 = .ok (.ifCond .eq 12, 3) := dk_153 0 12 (dk_at dksX7_age_0 5 rfl rfl)
theorem dX7_age_8 : decode cX7_age 8 = .ok (.iload_n 2, 1) := dk_28 (dk_at dksX7_age_0 8 rfl rfl)
theorem dX7_age_9 : decode cX7_age 9 = .ok (.ifCond .lt 8, 3) := dk_155 0 8 (dk_at dksX7_age_0 9 rfl rfl)
theorem dX7_age_12 : decode cX7_age 12 = .ok (.iload_n 2, 1) := dk_28 (dk_at dksX7_age_0 12 rfl rfl)
theorem dX7_age_13 : decode cX7_age 13 = .ok (.iconst 1, 1) := dk_4 (dk_at dksX7_age_0 13 rfl rfl)
theorem dX7_age_14 : decode cX7_age 14 = .ok (.if_icmp .le 9, 3) := dk_164 0 9 (dk_at dksX7_age_0 14 rfl rfl)
theorem dX7_age_17 : decode cX7_age 17 = .ok (.aload_n 0, 1) := dk_42 (dk_at dksX7_age_0 17 rfl rfl)
theorem dX7_age_18 : decode cX7_age 18 = .ok (.iconst 1, 1) := dk_4 (dk_at dksX7_age_0 18 rfl rfl)
theorem dX7_age_19 : decode cX7_age 19 = .ok (.invokevirtual 72, 3) := dk_182 0 72 (dk_at dksX7_age_0 19 rfl rfl)
theorem dX7_age_22 : decode cX7_age 22 = .ok (.ireturn, 1) := dk_172 (dk_at dksX7_age_0 22 rfl rfl)
theorem dX7_age_23 : decode cX7_age 23 = .ok (.iload_n 1, 1) := dk_27 (dk_at dksX7_age_0 23 rfl rfl)
theorem dX7_age_24 : decode cX7_age 24 = .ok (.invokestatic 217, 3) := dk_184 0 217 (dk_at dksX7_age_1 0 rfl rfl)
theorem dX7_age_27 : decode cX7_age 27 = .ok (.istore_n 3, 1) := dk_62 (dk_at dksX7_age_1 3 rfl rfl)
theorem dX7_age_28 : decode cX7_age 28 = .ok (.iconst (-1), 1) := dk_2 (dk_at dksX7_age_1 4 rfl rfl)
theorem dX7_age_29 : decode cX7_age 29 = .ok (.istore 4, 2) := dk_54 4 (dk_at dksX7_age_1 5 rfl rfl)
theorem dX7_age_31 : decode cX7_age 31 = .ok (.iload_n 3, 1) := dk_29 (dk_at dksX7_age_1 7 rfl rfl)
theorem dX7_age_32 : decode cX7_age 32 = .ok (.bipush 6, 2) := dk_16 6 (dk_at dksX7_age_1 8 rfl rfl)
theorem dX7_age_34 : decode cX7_age 34 = .ok (.iadd, 1) := dk_96 (dk_at dksX7_age_1 10 rfl rfl)
theorem dX7_age_35 : decode cX7_age 35 = .ok (.istore 5, 2) := dk_54 5 (dk_at dksX7_age_1 11 rfl rfl)
theorem dX7_age_37 : decode cX7_age 37 = .ok (.iload 5, 2) := dk_21 5 (dk_at dksX7_age_1 13 rfl rfl)
theorem dX7_age_39 : decode cX7_age 39 = .ok (.iload_n 3, 1) := dk_29 (dk_at dksX7_age_1 15 rfl rfl)
theorem dX7_age_40 : decode cX7_age 40 = .ok (.bipush 6, 2) := dk_16 6 (dk_at dksX7_age_1 16 rfl rfl)
theorem dX7_age_42 : decode cX7_age 42 = .ok (.iadd, 1) := dk_96 (dk_at dksX7_age_1 18 rfl rfl)
theorem dX7_age_43 : decode cX7_age 43 = .ok (.bipush 16, 2) := dk_16 16 (dk_at dksX7_age_1 19 rfl rfl)
theorem dX7_age_45 : decode cX7_age 45 = .ok (.aload_n 0, 1) := dk_42 (dk_at dksX7_age_1 21 rfl rfl)
theorem dX7_age_46 : decode cX7_age 46 = .ok (.getfield 7, 3) := dk_180 0 7 (dk_at dksX7_age_2 0 rfl rfl)
theorem dX7_age_49 : decode cX7_age 49 = .ok (.iload_n 3, 1) := dk_29 (dk_at dksX7_age_2 3 rfl rfl)
theorem dX7_age_50 : decode cX7_age 50 = .ok (.iaload, 1) := dk_46 (dk_at dksX7_age_2 4 rfl rfl)
theorem dX7_age_51 : decode cX7_age 51 = .ok (.imul, 1) := dk_104 (dk_at dksX7_age_2 5 rfl rfl)
theorem dX7_age_52 : decode cX7_age 52 = .ok (.iadd, 1) := dk_96 (dk_at dksX7_age_2 6 rfl rfl)
theorem dX7_age_53 : decode cX7_age 53 = .ok (.if_icmp .ge 60, 3) := dk_162 0 60 (dk_at dksX7_age_2 7 rfl rfl)
theorem dX7_age_56 : decode cX7_age 56 = .ok (.aload_n 0, 1) := dk_42 (dk_at dksX7_age_2 10 rfl rfl)
theorem dX7_age_57 : decode cX7_age 57 = .ok (.getfield 7, 3) := dk_180 0 7 (dk_at dksX7_age_2 11 rfl rfl)
theorem dX7_age_60 : decode cX7_age 60 = .ok (.iload 5, 2) := dk_21 5 (dk_at dksX7_age_2 14 rfl rfl)
theorem dX7_age_62 : decode cX7_age 62 = .ok (.iaload, 1) := dk_46 (dk_at dksX7_age_2 16 rfl rfl)
theorem dX7_age_63 : decode cX7_age 63 = .ok (.bipush 101, 2) := dk_16 101 (dk_at dksX7_age_2 17 rfl rfl)
theorem dX7_age_65 : decode cX7_age 65 = .ok (.isub, 1) := dk_100 (dk_at dksX7_age_2 19 rfl rfl)
theorem dX7_age_66 : decode cX7_age 66 = .ok (.istore 6, 2) := dk_54 6 (dk_at dksX7_age_2 20 rfl rfl)
theorem dX7_age_68 : decode cX7_age 68 = .ok (.iload 6, 2) := dk_21 6 (dk_at dksX7_age_2 22 rfl rfl)
theorem dX7_age_70 : decode cX7_age 70 = .ok (.ifCond .lt 37, 3) := dk_155 0 37 (dk_at dksX7_age_3 0 rfl rfl)
theorem dX7_age_73 : decode cX7_age 73 = .ok (.iload 4, 2) := dk_21 4 (dk_at dksX7_age_3 3 rfl rfl)
theorem dX7_age_75 : decode cX7_age 75 = .ok (.iconst (-1), 1) := dk_2 (dk_at dksX7_age_3 5 rfl rfl)
theorem dX7_age_76 : decode cX7_age 76 = .ok (.if_icmp .eq 27, 3) := dk_159 0 27 (dk_at dksX7_age_3 6 rfl rfl)
theorem dX7_age_79 : decode cX7_age 79 = .ok (.iload_n 2, 1) := dk_28 (dk_at dksX7_age_3 9 rfl rfl)
theorem dX7_age_80 : decode cX7_age 80 = .ok (.ifCond .ne 13, 3) := dk_154 0 13 (dk_at dksX7_age_3 10 rfl rfl)
theorem dX7_age_83 : decode cX7_age 83 = .ok (.iload 6, 2) := dk_21 6 (dk_at dksX7_age_3 13 rfl rfl)
theorem dX7_age_85 : decode cX7_age 85 = .ok (.iload 4, 2) := dk_21 4 (dk_at dksX7_age_3 15 rfl rfl)
theorem dX7_age_87 : decode cX7_age 87 = .ok (.if_icmp .lt 16, 3) := dk_161 0 16 (dk_at dksX7_age_3 17 rfl rfl)
theorem dX7_age_90 : decode cX7_age 90 = .ok (.goto 17, 3) := dk_167 0 17 (dk_at dksX7_age_3 20 rfl rfl)
theorem dX7_age_93 : decode cX7_age 93 = .ok (.iload 6, 2) := dk_21 6 (dk_at dksX7_age_4 0 rfl rfl)
theorem dX7_age_95 : decode cX7_age 95 = .ok (.iload 4, 2) := dk_21 4 (dk_at dksX7_age_4 2 rfl rfl)
theorem dX7_age_97 : decode cX7_age 97 = .ok (.if_icmp .gt 6, 3) := dk_163 0 6 (dk_at dksX7_age_4 4 rfl rfl)
theorem dX7_age_100 : decode cX7_age 100 = .ok (.goto 7, 3) := dk_167 0 7 (dk_at dksX7_age_4 7 rfl rfl)
theorem dX7_age_103 : decode cX7_age 103 = .ok (.iload 6, 2) := dk_21 6 (dk_at dksX7_age_4 10 rfl rfl)
theorem dX7_age_105 : decode cX7_age 105 = .ok (.istore 4, 2) := dk_54 4 (dk_at dksX7_age_4 12 rfl rfl)
theorem dX7_age_107 : decode cX7_age 107 = .ok (.iinc 5 1, 3) := dk_132 5 1 (dk_at dksX7_age_4 14 rfl rfl)
theorem dX7_age_110 : decode cX7_age 110 = .ok (.goto (-73), 3) := dk_167 255 183 (dk_at dksX7_age_4 17 rfl rfl)
theorem dX7_age_113 : decode cX7_age 113 = .ok (.aload_n 0, 1) := dk_42 (dk_at dksX7_age_4 20 rfl rfl)
theorem dX7_age_114 : decode cX7_age 114 = .ok (.iload 4, 2) := dk_21 4 (dk_at dksX7_age_4 21 rfl rfl)
theorem dX7_age_116 : decode cX7_age 116 = .ok (.invokevirtual 280, 3) := dk_182 1 24 (dk_at dksX7_age_5 0 rfl rfl)
theorem dX7_age_119 : decode cX7_age 119 = .ok (.ireturn, 1) := dk_172 (dk_at dksX7_age_5 3 rfl rfl)
def dkwX7_coming_4 : List UInt8 := [54, 4, 132, 5, 1, 167, 255, 198, 42, 21, 4, 182, 0, 76, 172]
abbrev dktX7_coming_4 : List UInt8 := dkwX7_coming_4 ++ []
def dkwX7_coming_3 : List UInt8 := [161, 0, 21, 42, 180, 0, 7, 21, 5, 46, 28, 96, 16, 121, 164, 0, 7, 4, 167, 0, 4, 3, 96]
abbrev dktX7_coming_3 : List UInt8 := dkwX7_coming_3 ++ dktX7_coming_4
def dkwX7_coming_2 : List UInt8 := [16, 16, 42, 180, 0, 7, 29, 46, 104, 96, 162, 0, 45, 21, 4, 42, 180, 0, 7, 21, 5, 46, 16, 101]
abbrev dktX7_coming_2 : List UInt8 := dkwX7_coming_2 ++ dktX7_coming_3
def dkwX7_coming_1 : List UInt8 := [182, 0, 72, 172, 27, 184, 0, 217, 62, 3, 54, 4, 29, 16, 6, 96, 54, 5, 21, 5, 29, 16, 6, 96]
abbrev dktX7_coming_1 : List UInt8 := dkwX7_coming_1 ++ dktX7_coming_2
def dkwX7_coming_0 : List UInt8 := [42, 27, 182, 1, 18, 153, 0, 15, 28, 133, 9, 20, 1, 54, 184, 1, 50, 154, 0, 9, 42, 4]
abbrev dktX7_coming_0 : List UInt8 := dkwX7_coming_0 ++ dktX7_coming_1
theorem dksX7_coming_0 : cX7_coming.data.toList.drop 0 = dktX7_coming_0 := by decide +kernel
theorem dksX7_coming_1 : cX7_coming.data.toList.drop 22 = dktX7_coming_1 := dk_seg dksX7_coming_0 22 rfl rfl
theorem dksX7_coming_2 : cX7_coming.data.toList.drop 46 = dktX7_coming_2 := dk_seg dksX7_coming_1 24 rfl rfl
theorem dksX7_coming_3 : cX7_coming.data.toList.drop 70 = dktX7_coming_3 := dk_seg dksX7_coming_2 24 rfl rfl
theorem dksX7_coming_4 : cX7_coming.data.toList.drop 93 = dktX7_coming_4 := dk_seg dksX7_coming_3 23 rfl rfl
theorem dX7_coming_0 : decode cX7_coming 0 = .ok (.aload_n 0, 1) := dk_42 (dk_at dksX7_coming_0 0 rfl rfl)
theorem dX7_coming_1 : decode cX7_coming 1 = .ok (.iload_n 1, 1) := dk_27 (dk_at dksX7_coming_0 1 rfl rfl)
theorem dX7_coming_2 : decode cX7_coming 2 = .ok (.invokevirtual 274, 3) := dk_182 1 18 (dk_at dksX7_coming_0 2 rfl rfl)
theorem dX7_coming_5 : decode cX7_coming 5 = .ok (.ifCond .eq 15, 3) := dk_153 0 15 (dk_at dksX7_coming_0 5 rfl rfl)
theorem dX7_coming_8 : decode cX7_coming 8 = .ok (.iload_n 2, 1) := dk_28 (dk_at dksX7_coming_0 8 rfl rfl)
theorem dX7_coming_9 : decode cX7_coming 9 = .ok (.i2l, 1) := dk_133 (dk_at dksX7_coming_0 9 rfl rfl)
theorem dX7_coming_10 : decode cX7_coming 10 = .ok (.lconst 0, 1) := dk_9 (dk_at dksX7_coming_0 10 rfl rfl)
theorem dX7_coming_11 : decode cX7_coming 11 = .ok (.ldc2_w 310, 3) := dk_20 1 54 (dk_at dksX7_coming_0 11 rfl rfl)
theorem dX7_coming_14 : decode cX7_coming 14 = .ok (.invokestatic 306, 3) := dk_184 1 50 (dk_at dksX7_coming_0 14 rfl rfl)
theorem dX7_coming_17 : decode cX7_coming 17 = .ok (.ifCond .ne 9, 3) := dk_154 0 9 (dk_at dksX7_coming_0 17 rfl rfl)
theorem dX7_coming_20 : decode cX7_coming 20 = .ok (.aload_n 0, 1) := dk_42 (dk_at dksX7_coming_0 20 rfl rfl)
theorem dX7_coming_21 : decode cX7_coming 21 = .ok (.iconst 1, 1) := dk_4 (dk_at dksX7_coming_0 21 rfl rfl)
theorem dX7_coming_22 : decode cX7_coming 22 = .ok (.invokevirtual 72, 3) := dk_182 0 72 (dk_at dksX7_coming_1 0 rfl rfl)
theorem dX7_coming_25 : decode cX7_coming 25 = .ok (.ireturn, 1) := dk_172 (dk_at dksX7_coming_1 3 rfl rfl)
theorem dX7_coming_26 : decode cX7_coming 26 = .ok (.iload_n 1, 1) := dk_27 (dk_at dksX7_coming_1 4 rfl rfl)
theorem dX7_coming_27 : decode cX7_coming 27 = .ok (.invokestatic 217, 3) := dk_184 0 217 (dk_at dksX7_coming_1 5 rfl rfl)
theorem dX7_coming_30 : decode cX7_coming 30 = .ok (.istore_n 3, 1) := dk_62 (dk_at dksX7_coming_1 8 rfl rfl)
theorem dX7_coming_31 : decode cX7_coming 31 = .ok (.iconst 0, 1) := dk_3 (dk_at dksX7_coming_1 9 rfl rfl)
theorem dX7_coming_32 : decode cX7_coming 32 = .ok (.istore 4, 2) := dk_54 4 (dk_at dksX7_coming_1 10 rfl rfl)
theorem dX7_coming_34 : decode cX7_coming 34 = .ok (.iload_n 3, 1) := dk_29 (dk_at dksX7_coming_1 12 rfl rfl)
theorem dX7_coming_35 : decode cX7_coming 35 = .ok (.bipush 6, 2) := dk_16 6 (dk_at dksX7_coming_1 13 rfl rfl)
theorem dX7_coming_37 : decode cX7_coming 37 = .ok (.iadd, 1) := dk_96 (dk_at dksX7_coming_1 15 rfl rfl)
theorem dX7_coming_38 : decode cX7_coming 38 = .ok (.istore 5, 2) := dk_54 5 (dk_at dksX7_coming_1 16 rfl rfl)
theorem dX7_coming_40 : decode cX7_coming 40 = .ok (.iload 5, 2) := dk_21 5 (dk_at dksX7_coming_1 18 rfl rfl)
theorem dX7_coming_42 : decode cX7_coming 42 = .ok (.iload_n 3, 1) := dk_29 (dk_at dksX7_coming_1 20 rfl rfl)
theorem dX7_coming_43 : decode cX7_coming 43 = .ok (.bipush 6, 2) := dk_16 6 (dk_at dksX7_coming_1 21 rfl rfl)
theorem dX7_coming_45 : decode cX7_coming 45 = .ok (.iadd, 1) := dk_96 (dk_at dksX7_coming_1 23 rfl rfl)
theorem dX7_coming_46 : decode cX7_coming 46 = .ok (.bipush 16, 2) := dk_16 16 (dk_at dksX7_coming_2 0 rfl rfl)
theorem dX7_coming_48 : decode cX7_coming 48 = .ok (.aload_n 0, 1) := dk_42 (dk_at dksX7_coming_2 2 rfl rfl)
theorem dX7_coming_49 : decode cX7_coming 49 = .ok (.getfield 7, 3) := dk_180 0 7 (dk_at dksX7_coming_2 3 rfl rfl)
theorem dX7_coming_52 : decode cX7_coming 52 = .ok (.iload_n 3, 1) := dk_29 (dk_at dksX7_coming_2 6 rfl rfl)
theorem dX7_coming_53 : decode cX7_coming 53 = .ok (.iaload, 1) := dk_46 (dk_at dksX7_coming_2 7 rfl rfl)
theorem dX7_coming_54 : decode cX7_coming 54 = .ok (.imul, 1) := dk_104 (dk_at dksX7_coming_2 8 rfl rfl)
theorem dX7_coming_55 : decode cX7_coming 55 = .ok (.iadd, 1) := dk_96 (dk_at dksX7_coming_2 9 rfl rfl)
theorem dX7_coming_56 : decode cX7_coming 56 = .ok (.if_icmp .ge 45, 3) := dk_162 0 45 (dk_at dksX7_coming_2 10 rfl rfl)
theorem dX7_coming_59 : decode cX7_coming 59 = .ok (.iload 4, 2) := dk_21 4 (dk_at dksX7_coming_2 13 rfl rfl)
theorem dX7_coming_61 : decode cX7_coming 61 = .ok (.aload_n 0, 1) := dk_42 (dk_at dksX7_coming_2 15 rfl rfl)
theorem dX7_coming_62 : decode cX7_coming 62 = .ok (.getfield 7, 3) := dk_180 0 7 (dk_at dksX7_coming_2 16 rfl rfl)
theorem dX7_coming_65 : decode cX7_coming 65 = .ok (.iload 5, 2) := dk_21 5 (dk_at dksX7_coming_2 19 rfl rfl)
theorem dX7_coming_67 : decode cX7_coming 67 = .ok (.iaload, 1) := dk_46 (dk_at dksX7_coming_2 21 rfl rfl)
theorem dX7_coming_68 : decode cX7_coming 68 = .ok (.bipush 101, 2) := dk_16 101 (dk_at dksX7_coming_2 22 rfl rfl)
theorem dX7_coming_70 : decode cX7_coming 70 = .ok (.if_icmp .lt 21, 3) := dk_161 0 21 (dk_at dksX7_coming_3 0 rfl rfl)
theorem dX7_coming_73 : decode cX7_coming 73 = .ok (.aload_n 0, 1) := dk_42 (dk_at dksX7_coming_3 3 rfl rfl)
theorem dX7_coming_74 : decode cX7_coming 74 = .ok (.getfield 7, 3) := dk_180 0 7 (dk_at dksX7_coming_3 4 rfl rfl)
theorem dX7_coming_77 : decode cX7_coming 77 = .ok (.iload 5, 2) := dk_21 5 (dk_at dksX7_coming_3 7 rfl rfl)
theorem dX7_coming_79 : decode cX7_coming 79 = .ok (.iaload, 1) := dk_46 (dk_at dksX7_coming_3 9 rfl rfl)
theorem dX7_coming_80 : decode cX7_coming 80 = .ok (.iload_n 2, 1) := dk_28 (dk_at dksX7_coming_3 10 rfl rfl)
theorem dX7_coming_81 : decode cX7_coming 81 = .ok (.iadd, 1) := dk_96 (dk_at dksX7_coming_3 11 rfl rfl)
theorem dX7_coming_82 : decode cX7_coming 82 = .ok (.bipush 121, 2) := dk_16 121 (dk_at dksX7_coming_3 12 rfl rfl)
theorem dX7_coming_84 : decode cX7_coming 84 = .ok (.if_icmp .le 7, 3) := dk_164 0 7 (dk_at dksX7_coming_3 14 rfl rfl)
theorem dX7_coming_87 : decode cX7_coming 87 = .ok (.iconst 1, 1) := dk_4 (dk_at dksX7_coming_3 17 rfl rfl)
theorem dX7_coming_88 : decode cX7_coming 88 = .ok (.goto 4, 3) := dk_167 0 4 (dk_at dksX7_coming_3 18 rfl rfl)
theorem dX7_coming_91 : decode cX7_coming 91 = .ok (.iconst 0, 1) := dk_3 (dk_at dksX7_coming_3 21 rfl rfl)
theorem dX7_coming_92 : decode cX7_coming 92 = .ok (.iadd, 1) := dk_96 (dk_at dksX7_coming_3 22 rfl rfl)
theorem dX7_coming_93 : decode cX7_coming 93 = .ok (.istore 4, 2) := dk_54 4 (dk_at dksX7_coming_4 0 rfl rfl)
theorem dX7_coming_95 : decode cX7_coming 95 = .ok (.iinc 5 1, 3) := dk_132 5 1 (dk_at dksX7_coming_4 2 rfl rfl)
theorem dX7_coming_98 : decode cX7_coming 98 = .ok (.goto (-58), 3) := dk_167 255 198 (dk_at dksX7_coming_4 5 rfl rfl)
theorem dX7_coming_101 : decode cX7_coming 101 = .ok (.aload_n 0, 1) := dk_42 (dk_at dksX7_coming_4 8 rfl rfl)
theorem dX7_coming_102 : decode cX7_coming 102 = .ok (.iload 4, 2) := dk_21 4 (dk_at dksX7_coming_4 9 rfl rfl)
theorem dX7_coming_104 : decode cX7_coming 104 = .ok (.invokevirtual 76, 3) := dk_182 0 76 (dk_at dksX7_coming_4 11 rfl rfl)
theorem dX7_coming_107 : decode cX7_coming 107 = .ok (.ireturn, 1) := dk_172 (dk_at dksX7_coming_4 14 rfl rfl)
def dkwX7_hungry_2 : List UInt8 := [182, 0, 76, 172, 132, 2, 1, 167, 255, 222, 42, 16, 6, 182, 0, 72, 172]
abbrev dktX7_hungry_2 : List UInt8 := dkwX7_hungry_2 ++ []
def dkwX7_hungry_1 : List UInt8 := [163, 0, 34, 42, 17, 28, 212, 42, 27, 182, 1, 11, 182, 1, 14, 42, 180, 1, 8, 158, 0, 9, 42, 28]
abbrev dktX7_hungry_1 : List UInt8 := dkwX7_hungry_1 ++ dktX7_hungry_2
def dkwX7_hungry_0 : List UInt8 := [42, 27, 182, 1, 18, 154, 0, 9, 42, 4, 182, 0, 72, 172, 42, 27, 182, 1, 105, 4, 61, 28, 16, 60]
abbrev dktX7_hungry_0 : List UInt8 := dkwX7_hungry_0 ++ dktX7_hungry_1
theorem dksX7_hungry_0 : cX7_hungry.data.toList.drop 0 = dktX7_hungry_0 := by decide +kernel
theorem dksX7_hungry_1 : cX7_hungry.data.toList.drop 24 = dktX7_hungry_1 := dk_seg dksX7_hungry_0 24 rfl rfl
theorem dksX7_hungry_2 : cX7_hungry.data.toList.drop 48 = dktX7_hungry_2 := dk_seg dksX7_hungry_1 24 rfl rfl
theorem dX7_hungry_0 : decode cX7_hungry 0 = .ok (.aload_n 0, 1) := dk_42 (dk_at dksX7_hungry_0 0 rfl rfl)
theorem dX7_hungry_1 : decode cX7_hungry 1 = .ok (.iload_n 1, 1) := dk_27 (dk_at dksX7_hungry_0 1 rfl rfl)
theorem dX7_hungry_2 : decode cX7_hungry 2 = .ok (.invokevirtual 274, 3) := dk_182 1 18 (dk_at dksX7_hungry_0 2 rfl rfl)
theorem dX7_hungry_5 : decode cX7_hungry 5 = .ok (.ifCond .ne 9, 3) := dk_154 0 9 (dk_at dksX7_hungry_0 5 rfl rfl)
theorem dX7_hungry_8 : decode cX7_hungry 8 = .ok (.aload_n 0, 1) := dk_42 (dk_at dksX7_hungry_0 8 rfl rfl)
theorem dX7_hungry_9 : decode cX7_hungry 9 = .ok (.iconst 1, 1) := dk_4 (dk_at dksX7_hungry_0 9 rfl rfl)
theorem dX7_hungry_10 : decode cX7_hungry 10 = .ok (.invokevirtual 72, 3) := dk_182 0 72 (dk_at dksX7_hungry_0 10 rfl rfl)
theorem dX7_hungry_13 : decode cX7_hungry 13 = .ok (.ireturn, 1) := dk_172 (dk_at dksX7_hungry_0 13 rfl rfl)
theorem dX7_hungry_14 : decode cX7_hungry 14 = .ok (.aload_n 0, 1) := dk_42 (dk_at dksX7_hungry_0 14 rfl rfl)
theorem dX7_hungry_15 : decode cX7_hungry 15 = .ok (.iload_n 1, 1) := dk_27 (dk_at dksX7_hungry_0 15 rfl rfl)
theorem dX7_hungry_16 : decode cX7_hungry 16 = .ok (.invokevirtual 361, 3) := dk_182 1 105 (dk_at dksX7_hungry_0 16 rfl rfl)
theorem dX7_hungry_19 : decode cX7_hungry 19 = .ok (.iconst 1, 1) := dk_4 (dk_at dksX7_hungry_0 19 rfl rfl)
theorem dX7_hungry_20 : decode cX7_hungry 20 = .ok (.istore_n 2, 1) := dk_61 (dk_at dksX7_hungry_0 20 rfl rfl)
theorem dX7_hungry_21 : decode cX7_hungry 21 = .ok (.iload_n 2, 1) := dk_28 (dk_at dksX7_hungry_0 21 rfl rfl)
theorem dX7_hungry_22 : decode cX7_hungry 22 = .ok (.bipush 60, 2) := dk_16 60 (dk_at dksX7_hungry_0 22 rfl rfl)
theorem dX7_hungry_24 : decode cX7_hungry 24 = .ok (.if_icmp .gt 34, 3) := dk_163 0 34 (dk_at dksX7_hungry_1 0 rfl rfl)
theorem dX7_hungry_27 : decode cX7_hungry 27 = .ok (.aload_n 0, 1) := dk_42 (dk_at dksX7_hungry_1 3 rfl rfl)
theorem dX7_hungry_28 : decode cX7_hungry 28 = .ok (.sipush 7380, 3) := dk_17 28 212 (dk_at dksX7_hungry_1 4 rfl rfl)
theorem dX7_hungry_31 : decode cX7_hungry 31 = .ok (.aload_n 0, 1) := dk_42 (dk_at dksX7_hungry_1 7 rfl rfl)
theorem dX7_hungry_32 : decode cX7_hungry 32 = .ok (.iload_n 1, 1) := dk_27 (dk_at dksX7_hungry_1 8 rfl rfl)
theorem dX7_hungry_33 : decode cX7_hungry 33 = .ok (.invokevirtual 267, 3) := dk_182 1 11 (dk_at dksX7_hungry_1 9 rfl rfl)
theorem dX7_hungry_36 : decode cX7_hungry 36 = .ok (.invokevirtual 270, 3) := dk_182 1 14 (dk_at dksX7_hungry_1 12 rfl rfl)
theorem dX7_hungry_39 : decode cX7_hungry 39 = .ok (.aload_n 0, 1) := dk_42 (dk_at dksX7_hungry_1 15 rfl rfl)
theorem dX7_hungry_40 : decode cX7_hungry 40 = .ok (.getfield 264, 3) := dk_180 1 8 (dk_at dksX7_hungry_1 16 rfl rfl)
theorem dX7_hungry_43 : decode cX7_hungry 43 = .ok (.ifCond .le 9, 3) := dk_158 0 9 (dk_at dksX7_hungry_1 19 rfl rfl)
theorem dX7_hungry_46 : decode cX7_hungry 46 = .ok (.aload_n 0, 1) := dk_42 (dk_at dksX7_hungry_1 22 rfl rfl)
theorem dX7_hungry_47 : decode cX7_hungry 47 = .ok (.iload_n 2, 1) := dk_28 (dk_at dksX7_hungry_1 23 rfl rfl)
theorem dX7_hungry_48 : decode cX7_hungry 48 = .ok (.invokevirtual 76, 3) := dk_182 0 76 (dk_at dksX7_hungry_2 0 rfl rfl)
theorem dX7_hungry_51 : decode cX7_hungry 51 = .ok (.ireturn, 1) := dk_172 (dk_at dksX7_hungry_2 3 rfl rfl)
theorem dX7_hungry_52 : decode cX7_hungry 52 = .ok (.iinc 2 1, 3) := dk_132 2 1 (dk_at dksX7_hungry_2 4 rfl rfl)
theorem dX7_hungry_55 : decode cX7_hungry 55 = .ok (.goto (-34), 3) := dk_167 255 222 (dk_at dksX7_hungry_2 7 rfl rfl)
theorem dX7_hungry_58 : decode cX7_hungry 58 = .ok (.aload_n 0, 1) := dk_42 (dk_at dksX7_hungry_2 10 rfl rfl)
theorem dX7_hungry_59 : decode cX7_hungry 59 = .ok (.bipush 6, 2) := dk_16 6 (dk_at dksX7_hungry_2 11 rfl rfl)
theorem dX7_hungry_61 : decode cX7_hungry 61 = .ok (.invokevirtual 72, 3) := dk_182 0 72 (dk_at dksX7_hungry_2 13 rfl rfl)
theorem dX7_hungry_64 : decode cX7_hungry 64 = .ok (.ireturn, 1) := dk_172 (dk_at dksX7_hungry_2 16 rfl rfl)
def dkwX7_tries_1 : List UInt8 := [184, 0, 217, 28, 96, 46, 79, 132, 2, 1, 167, 255, 225, 177]
abbrev dktX7_tries_1 : List UInt8 := dkwX7_tries_1 ++ []
def dkwX7_tries_0 : List UInt8 := [3, 61, 28, 17, 0, 198, 162, 0, 30, 42, 180, 0, 7, 17, 28, 212, 28, 96, 42, 180, 0, 7, 27]
abbrev dktX7_tries_0 : List UInt8 := dkwX7_tries_0 ++ dktX7_tries_1
theorem dksX7_tries_0 : cX7_tries.data.toList.drop 0 = dktX7_tries_0 := by decide +kernel
theorem dksX7_tries_1 : cX7_tries.data.toList.drop 23 = dktX7_tries_1 := dk_seg dksX7_tries_0 23 rfl rfl
theorem dX7_tries_0 : decode cX7_tries 0 = .ok (.iconst 0, 1) := dk_3 (dk_at dksX7_tries_0 0 rfl rfl)
theorem dX7_tries_1 : decode cX7_tries 1 = .ok (.istore_n 2, 1) := dk_61 (dk_at dksX7_tries_0 1 rfl rfl)
theorem dX7_tries_2 : decode cX7_tries 2 = .ok (.iload_n 2, 1) := dk_28 (dk_at dksX7_tries_0 2 rfl rfl)
theorem dX7_tries_3 : decode cX7_tries 3 = .ok (.sipush 198, 3) := dk_17 0 198 (dk_at dksX7_tries_0 3 rfl rfl)
theorem dX7_tries_6 : decode cX7_tries 6 = .ok (.if_icmp .ge 30, 3) := dk_162 0 30 (dk_at dksX7_tries_0 6 rfl rfl)
theorem dX7_tries_9 : decode cX7_tries 9 = .ok (.aload_n 0, 1) := dk_42 (dk_at dksX7_tries_0 9 rfl rfl)
theorem dX7_tries_10 : decode cX7_tries 10 = .ok (.getfield 7, 3) := dk_180 0 7 (dk_at dksX7_tries_0 10 rfl rfl)
theorem dX7_tries_13 : decode cX7_tries 13 = .ok (.sipush 7380, 3) := dk_17 28 212 (dk_at dksX7_tries_0 13 rfl rfl)
theorem dX7_tries_16 : decode cX7_tries 16 = .ok (.iload_n 2, 1) := dk_28 (dk_at dksX7_tries_0 16 rfl rfl)
theorem dX7_tries_17 : decode cX7_tries 17 = .ok (.iadd, 1) := dk_96 (dk_at dksX7_tries_0 17 rfl rfl)
theorem dX7_tries_18 : decode cX7_tries 18 = .ok (.aload_n 0, 1) := dk_42 (dk_at dksX7_tries_0 18 rfl rfl)
theorem dX7_tries_19 : decode cX7_tries 19 = .ok (.getfield 7, 3) := dk_180 0 7 (dk_at dksX7_tries_0 19 rfl rfl)
theorem dX7_tries_22 : decode cX7_tries 22 = .ok (.iload_n 1, 1) := dk_27 (dk_at dksX7_tries_0 22 rfl rfl)
theorem dX7_tries_23 : decode cX7_tries 23 = .ok (.invokestatic 217, 3) := dk_184 0 217 (dk_at dksX7_tries_1 0 rfl rfl)
theorem dX7_tries_26 : decode cX7_tries 26 = .ok (.iload_n 2, 1) := dk_28 (dk_at dksX7_tries_1 3 rfl rfl)
theorem dX7_tries_27 : decode cX7_tries 27 = .ok (.iadd, 1) := dk_96 (dk_at dksX7_tries_1 4 rfl rfl)
theorem dX7_tries_28 : decode cX7_tries 28 = .ok (.iaload, 1) := dk_46 (dk_at dksX7_tries_1 5 rfl rfl)
theorem dX7_tries_29 : decode cX7_tries 29 = .ok (.iastore, 1) := dk_79 (dk_at dksX7_tries_1 6 rfl rfl)
theorem dX7_tries_30 : decode cX7_tries 30 = .ok (.iinc 2 1, 3) := dk_132 2 1 (dk_at dksX7_tries_1 7 rfl rfl)
theorem dX7_tries_33 : decode cX7_tries 33 = .ok (.goto (-31), 3) := dk_167 255 225 (dk_at dksX7_tries_1 10 rfl rfl)
theorem dX7_tries_36 : decode cX7_tries 36 = .ok (.return_, 1) := dk_177 (dk_at dksX7_tries_1 13 rfl rfl)
def dkwX7_lasts_3 : List UInt8 := [108, 184, 1, 108, 182, 0, 76, 172]
abbrev dktX7_lasts_3 : List UInt8 := dkwX7_lasts_3 ++ []
def dkwX7_lasts_2 : List UInt8 := [182, 1, 27, 104, 16, 9, 96, 42, 180, 0, 7, 28, 5, 96, 46, 100, 42, 180, 0, 7, 28, 4, 96, 46]
abbrev dktX7_lasts_2 : List UInt8 := dkwX7_lasts_2 ++ dktX7_lasts_3
def dkwX7_lasts_1 : List UInt8 := [4, 96, 46, 154, 0, 12, 42, 16, 6, 182, 0, 72, 167, 0, 41, 42, 3, 16, 10, 42, 28, 3]
abbrev dktX7_lasts_1 : List UInt8 := dkwX7_lasts_1 ++ dktX7_lasts_2
def dkwX7_lasts_0 : List UInt8 := [42, 27, 182, 1, 18, 154, 0, 9, 42, 4, 182, 0, 72, 172, 27, 184, 0, 217, 61, 42, 180, 0, 7, 28]
abbrev dktX7_lasts_0 : List UInt8 := dkwX7_lasts_0 ++ dktX7_lasts_1
theorem dksX7_lasts_0 : cX7_lasts.data.toList.drop 0 = dktX7_lasts_0 := by decide +kernel
theorem dksX7_lasts_1 : cX7_lasts.data.toList.drop 24 = dktX7_lasts_1 := dk_seg dksX7_lasts_0 24 rfl rfl
theorem dksX7_lasts_2 : cX7_lasts.data.toList.drop 46 = dktX7_lasts_2 := dk_seg dksX7_lasts_1 22 rfl rfl
theorem dksX7_lasts_3 : cX7_lasts.data.toList.drop 70 = dktX7_lasts_3 := dk_seg dksX7_lasts_2 24 rfl rfl
theorem dX7_lasts_0 : decode cX7_lasts 0 = .ok (.aload_n 0, 1) := dk_42 (dk_at dksX7_lasts_0 0 rfl rfl)
theorem dX7_lasts_1 : decode cX7_lasts 1 = .ok (.iload_n 1, 1) := dk_27 (dk_at dksX7_lasts_0 1 rfl rfl)
theorem dX7_lasts_2 : decode cX7_lasts 2 = .ok (.invokevirtual 274, 3) := dk_182 1 18 (dk_at dksX7_lasts_0 2 rfl rfl)
theorem dX7_lasts_5 : decode cX7_lasts 5 = .ok (.ifCond .ne 9, 3) := dk_154 0 9 (dk_at dksX7_lasts_0 5 rfl rfl)
theorem dX7_lasts_8 : decode cX7_lasts 8 = .ok (.aload_n 0, 1) := dk_42 (dk_at dksX7_lasts_0 8 rfl rfl)
theorem dX7_lasts_9 : decode cX7_lasts 9 = .ok (.iconst 1, 1) := dk_4 (dk_at dksX7_lasts_0 9 rfl rfl)
theorem dX7_lasts_10 : decode cX7_lasts 10 = .ok (.invokevirtual 72, 3) := dk_182 0 72 (dk_at dksX7_lasts_0 10 rfl rfl)
theorem dX7_lasts_13 : decode cX7_lasts 13 = .ok (.ireturn, 1) := dk_172 (dk_at dksX7_lasts_0 13 rfl rfl)
theorem dX7_lasts_14 : decode cX7_lasts 14 = .ok (.iload_n 1, 1) := dk_27 (dk_at dksX7_lasts_0 14 rfl rfl)
theorem dX7_lasts_15 : decode cX7_lasts 15 = .ok (.invokestatic 217, 3) := dk_184 0 217 (dk_at dksX7_lasts_0 15 rfl rfl)
theorem dX7_lasts_18 : decode cX7_lasts 18 = .ok (.istore_n 2, 1) := dk_61 (dk_at dksX7_lasts_0 18 rfl rfl)
theorem dX7_lasts_19 : decode cX7_lasts 19 = .ok (.aload_n 0, 1) := dk_42 (dk_at dksX7_lasts_0 19 rfl rfl)
theorem dX7_lasts_20 : decode cX7_lasts 20 = .ok (.getfield 7, 3) := dk_180 0 7 (dk_at dksX7_lasts_0 20 rfl rfl)
theorem dX7_lasts_23 : decode cX7_lasts 23 = .ok (.iload_n 2, 1) := dk_28 (dk_at dksX7_lasts_0 23 rfl rfl)
theorem dX7_lasts_24 : decode cX7_lasts 24 = .ok (.iconst 1, 1) := dk_4 (dk_at dksX7_lasts_1 0 rfl rfl)
theorem dX7_lasts_25 : decode cX7_lasts 25 = .ok (.iadd, 1) := dk_96 (dk_at dksX7_lasts_1 1 rfl rfl)
theorem dX7_lasts_26 : decode cX7_lasts 26 = .ok (.iaload, 1) := dk_46 (dk_at dksX7_lasts_1 2 rfl rfl)
theorem dX7_lasts_27 : decode cX7_lasts 27 = .ok (.ifCond .ne 12, 3) := dk_154 0 12 (dk_at dksX7_lasts_1 3 rfl rfl)
theorem dX7_lasts_30 : decode cX7_lasts 30 = .ok (.aload_n 0, 1) := dk_42 (dk_at dksX7_lasts_1 6 rfl rfl)
theorem dX7_lasts_31 : decode cX7_lasts 31 = .ok (.bipush 6, 2) := dk_16 6 (dk_at dksX7_lasts_1 7 rfl rfl)
theorem dX7_lasts_33 : decode cX7_lasts 33 = .ok (.invokevirtual 72, 3) := dk_182 0 72 (dk_at dksX7_lasts_1 9 rfl rfl)
theorem dX7_lasts_36 : decode cX7_lasts 36 = .ok (.goto 41, 3) := dk_167 0 41 (dk_at dksX7_lasts_1 12 rfl rfl)
theorem dX7_lasts_39 : decode cX7_lasts 39 = .ok (.aload_n 0, 1) := dk_42 (dk_at dksX7_lasts_1 15 rfl rfl)
theorem dX7_lasts_40 : decode cX7_lasts 40 = .ok (.iconst 0, 1) := dk_3 (dk_at dksX7_lasts_1 16 rfl rfl)
theorem dX7_lasts_41 : decode cX7_lasts 41 = .ok (.bipush 10, 2) := dk_16 10 (dk_at dksX7_lasts_1 17 rfl rfl)
theorem dX7_lasts_43 : decode cX7_lasts 43 = .ok (.aload_n 0, 1) := dk_42 (dk_at dksX7_lasts_1 19 rfl rfl)
theorem dX7_lasts_44 : decode cX7_lasts 44 = .ok (.iload_n 2, 1) := dk_28 (dk_at dksX7_lasts_1 20 rfl rfl)
theorem dX7_lasts_45 : decode cX7_lasts 45 = .ok (.iconst 0, 1) := dk_3 (dk_at dksX7_lasts_1 21 rfl rfl)
theorem dX7_lasts_46 : decode cX7_lasts 46 = .ok (.invokevirtual 283, 3) := dk_182 1 27 (dk_at dksX7_lasts_2 0 rfl rfl)
theorem dX7_lasts_49 : decode cX7_lasts 49 = .ok (.imul, 1) := dk_104 (dk_at dksX7_lasts_2 3 rfl rfl)
theorem dX7_lasts_50 : decode cX7_lasts 50 = .ok (.bipush 9, 2) := dk_16 9 (dk_at dksX7_lasts_2 4 rfl rfl)
theorem dX7_lasts_52 : decode cX7_lasts 52 = .ok (.iadd, 1) := dk_96 (dk_at dksX7_lasts_2 6 rfl rfl)
theorem dX7_lasts_53 : decode cX7_lasts 53 = .ok (.aload_n 0, 1) := dk_42 (dk_at dksX7_lasts_2 7 rfl rfl)
theorem dX7_lasts_54 : decode cX7_lasts 54 = .ok (.getfield 7, 3) := dk_180 0 7 (dk_at dksX7_lasts_2 8 rfl rfl)
theorem dX7_lasts_57 : decode cX7_lasts 57 = .ok (.iload_n 2, 1) := dk_28 (dk_at dksX7_lasts_2 11 rfl rfl)
theorem dX7_lasts_58 : decode cX7_lasts 58 = .ok (.iconst 2, 1) := dk_5 (dk_at dksX7_lasts_2 12 rfl rfl)
theorem dX7_lasts_59 : decode cX7_lasts 59 = .ok (.iadd, 1) := dk_96 (dk_at dksX7_lasts_2 13 rfl rfl)
theorem dX7_lasts_60 : decode cX7_lasts 60 = .ok (.iaload, 1) := dk_46 (dk_at dksX7_lasts_2 14 rfl rfl)
theorem dX7_lasts_61 : decode cX7_lasts 61 = .ok (.isub, 1) := dk_100 (dk_at dksX7_lasts_2 15 rfl rfl)
theorem dX7_lasts_62 : decode cX7_lasts 62 = .ok (.aload_n 0, 1) := dk_42 (dk_at dksX7_lasts_2 16 rfl rfl)
theorem dX7_lasts_63 : decode cX7_lasts 63 = .ok (.getfield 7, 3) := dk_180 0 7 (dk_at dksX7_lasts_2 17 rfl rfl)
theorem dX7_lasts_66 : decode cX7_lasts 66 = .ok (.iload_n 2, 1) := dk_28 (dk_at dksX7_lasts_2 20 rfl rfl)
theorem dX7_lasts_67 : decode cX7_lasts 67 = .ok (.iconst 1, 1) := dk_4 (dk_at dksX7_lasts_2 21 rfl rfl)
theorem dX7_lasts_68 : decode cX7_lasts 68 = .ok (.iadd, 1) := dk_96 (dk_at dksX7_lasts_2 22 rfl rfl)
theorem dX7_lasts_69 : decode cX7_lasts 69 = .ok (.iaload, 1) := dk_46 (dk_at dksX7_lasts_2 23 rfl rfl)
theorem dX7_lasts_70 : decode cX7_lasts 70 = .ok (.idiv, 1) := dk_108 (dk_at dksX7_lasts_3 0 rfl rfl)
theorem dX7_lasts_71 : decode cX7_lasts 71 = .ok (.invokestatic 364, 3) := dk_184 1 108 (dk_at dksX7_lasts_3 1 rfl rfl)
theorem dX7_lasts_74 : decode cX7_lasts 74 = .ok (.invokevirtual 76, 3) := dk_182 0 76 (dk_at dksX7_lasts_3 4 rfl rfl)
theorem dX7_lasts_77 : decode cX7_lasts 77 = .ok (.ireturn, 1) := dk_172 (dk_at dksX7_lasts_3 7 rfl rfl)
def dkwX7_between_5 : List UInt8 := [182, 0, 76, 172]
abbrev dktX7_between_5 : List UInt8 := dkwX7_between_5 ++ []
def dkwX7_between_4 : List UInt8 := [184, 1, 50, 153, 0, 7, 4, 167, 0, 4, 3, 96, 54, 5, 132, 6, 1, 167, 255, 198, 42, 21, 5]
abbrev dktX7_between_4 : List UInt8 := dkwX7_between_4 ++ dktX7_between_5
def dkwX7_between_3 : List UInt8 := [96, 162, 0, 43, 21, 5, 42, 180, 0, 7, 21, 6, 46, 133, 16, 101, 28, 96, 133, 16, 101, 29, 96, 133]
abbrev dktX7_between_3 : List UInt8 := dkwX7_between_3 ++ dktX7_between_4
def dkwX7_between_2 : List UInt8 := [21, 4, 16, 6, 96, 54, 6, 21, 6, 21, 4, 16, 6, 96, 16, 16, 42, 180, 0, 7, 21, 4, 46, 104]
abbrev dktX7_between_2 : List UInt8 := dkwX7_between_2 ++ dktX7_between_3
def dkwX7_between_1 : List UInt8 := [20, 1, 111, 184, 1, 50, 154, 0, 9, 42, 4, 182, 0, 72, 172, 27, 184, 0, 217, 54, 4, 3, 54, 5]
abbrev dktX7_between_1 : List UInt8 := dkwX7_between_1 ++ dktX7_between_2
def dkwX7_between_0 : List UInt8 := [42, 27, 182, 1, 18, 153, 0, 28, 28, 133, 9, 20, 1, 111, 184, 1, 50, 153, 0, 16, 29, 133, 28, 133]
abbrev dktX7_between_0 : List UInt8 := dkwX7_between_0 ++ dktX7_between_1
theorem dksX7_between_0 : cX7_between.data.toList.drop 0 = dktX7_between_0 := by decide +kernel
theorem dksX7_between_1 : cX7_between.data.toList.drop 24 = dktX7_between_1 := dk_seg dksX7_between_0 24 rfl rfl
theorem dksX7_between_2 : cX7_between.data.toList.drop 48 = dktX7_between_2 := dk_seg dksX7_between_1 24 rfl rfl
theorem dksX7_between_3 : cX7_between.data.toList.drop 72 = dktX7_between_3 := dk_seg dksX7_between_2 24 rfl rfl
theorem dksX7_between_4 : cX7_between.data.toList.drop 96 = dktX7_between_4 := dk_seg dksX7_between_3 24 rfl rfl
theorem dksX7_between_5 : cX7_between.data.toList.drop 119 = dktX7_between_5 := dk_seg dksX7_between_4 23 rfl rfl
theorem dX7_between_0 : decode cX7_between 0 = .ok (.aload_n 0, 1) := dk_42 (dk_at dksX7_between_0 0 rfl rfl)
theorem dX7_between_1 : decode cX7_between 1 = .ok (.iload_n 1, 1) := dk_27 (dk_at dksX7_between_0 1 rfl rfl)
theorem dX7_between_2 : decode cX7_between 2 = .ok (.invokevirtual 274, 3) := dk_182 1 18 (dk_at dksX7_between_0 2 rfl rfl)
theorem dX7_between_5 : decode cX7_between 5 = .ok (.ifCond .eq 28, 3) := dk_153 0 28 (dk_at dksX7_between_0 5 rfl rfl)
theorem dX7_between_8 : decode cX7_between 8 = .ok (.iload_n 2, 1) := dk_28 (dk_at dksX7_between_0 8 rfl rfl)
theorem dX7_between_9 : decode cX7_between 9 = .ok (.i2l, 1) := dk_133 (dk_at dksX7_between_0 9 rfl rfl)
theorem dX7_between_10 : decode cX7_between 10 = .ok (.lconst 0, 1) := dk_9 (dk_at dksX7_between_0 10 rfl rfl)
theorem dX7_between_11 : decode cX7_between 11 = .ok (.ldc2_w 367, 3) := dk_20 1 111 (dk_at dksX7_between_0 11 rfl rfl)
theorem dX7_between_14 : decode cX7_between 14 = .ok (.invokestatic 306, 3) := dk_184 1 50 (dk_at dksX7_between_0 14 rfl rfl)
theorem dX7_between_17 : decode cX7_between 17 = .ok (.ifCond .eq 16, 3) := dk_153 0 16 (dk_at dksX7_between_0 17 rfl rfl)
theorem dX7_between_20 : decode cX7_between 20 = .ok (.iload_n 3, 1) := dk_29 (dk_at dksX7_between_0 20 rfl rfl)
theorem dX7_between_21 : decode cX7_between 21 = .ok (.i2l, 1) := dk_133 (dk_at dksX7_between_0 21 rfl rfl)
theorem dX7_between_22 : decode cX7_between 22 = .ok (.iload_n 2, 1) := dk_28 (dk_at dksX7_between_0 22 rfl rfl)
theorem dX7_between_23 : decode cX7_between 23 = .ok (.i2l, 1) := dk_133 (dk_at dksX7_between_0 23 rfl rfl)
theorem dX7_between_24 : decode cX7_between 24 = .ok (.ldc2_w 367, 3) := dk_20 1 111 (dk_at dksX7_between_1 0 rfl rfl)
theorem dX7_between_27 : decode cX7_between 27 = .ok (.invokestatic 306, 3) := dk_184 1 50 (dk_at dksX7_between_1 3 rfl rfl)
theorem dX7_between_30 : decode cX7_between 30 = .ok (.ifCond .ne 9, 3) := dk_154 0 9 (dk_at dksX7_between_1 6 rfl rfl)
theorem dX7_between_33 : decode cX7_between 33 = .ok (.aload_n 0, 1) := dk_42 (dk_at dksX7_between_1 9 rfl rfl)
theorem dX7_between_34 : decode cX7_between 34 = .ok (.iconst 1, 1) := dk_4 (dk_at dksX7_between_1 10 rfl rfl)
theorem dX7_between_35 : decode cX7_between 35 = .ok (.invokevirtual 72, 3) := dk_182 0 72 (dk_at dksX7_between_1 11 rfl rfl)
theorem dX7_between_38 : decode cX7_between 38 = .ok (.ireturn, 1) := dk_172 (dk_at dksX7_between_1 14 rfl rfl)
theorem dX7_between_39 : decode cX7_between 39 = .ok (.iload_n 1, 1) := dk_27 (dk_at dksX7_between_1 15 rfl rfl)
theorem dX7_between_40 : decode cX7_between 40 = .ok (.invokestatic 217, 3) := dk_184 0 217 (dk_at dksX7_between_1 16 rfl rfl)
theorem dX7_between_43 : decode cX7_between 43 = .ok (.istore 4, 2) := dk_54 4 (dk_at dksX7_between_1 19 rfl rfl)
theorem dX7_between_45 : decode cX7_between 45 = .ok (.iconst 0, 1) := dk_3 (dk_at dksX7_between_1 21 rfl rfl)
theorem dX7_between_46 : decode cX7_between 46 = .ok (.istore 5, 2) := dk_54 5 (dk_at dksX7_between_1 22 rfl rfl)
theorem dX7_between_48 : decode cX7_between 48 = .ok (.iload 4, 2) := dk_21 4 (dk_at dksX7_between_2 0 rfl rfl)
theorem dX7_between_50 : decode cX7_between 50 = .ok (.bipush 6, 2) := dk_16 6 (dk_at dksX7_between_2 2 rfl rfl)
theorem dX7_between_52 : decode cX7_between 52 = .ok (.iadd, 1) := dk_96 (dk_at dksX7_between_2 4 rfl rfl)
theorem dX7_between_53 : decode cX7_between 53 = .ok (.istore 6, 2) := dk_54 6 (dk_at dksX7_between_2 5 rfl rfl)
theorem dX7_between_55 : decode cX7_between 55 = .ok (.iload 6, 2) := dk_21 6 (dk_at dksX7_between_2 7 rfl rfl)
theorem dX7_between_57 : decode cX7_between 57 = .ok (.iload 4, 2) := dk_21 4 (dk_at dksX7_between_2 9 rfl rfl)
theorem dX7_between_59 : decode cX7_between 59 = .ok (.bipush 6, 2) := dk_16 6 (dk_at dksX7_between_2 11 rfl rfl)
theorem dX7_between_61 : decode cX7_between 61 = .ok (.iadd, 1) := dk_96 (dk_at dksX7_between_2 13 rfl rfl)
theorem dX7_between_62 : decode cX7_between 62 = .ok (.bipush 16, 2) := dk_16 16 (dk_at dksX7_between_2 14 rfl rfl)
theorem dX7_between_64 : decode cX7_between 64 = .ok (.aload_n 0, 1) := dk_42 (dk_at dksX7_between_2 16 rfl rfl)
theorem dX7_between_65 : decode cX7_between 65 = .ok (.getfield 7, 3) := dk_180 0 7 (dk_at dksX7_between_2 17 rfl rfl)
theorem dX7_between_68 : decode cX7_between 68 = .ok (.iload 4, 2) := dk_21 4 (dk_at dksX7_between_2 20 rfl rfl)
theorem dX7_between_70 : decode cX7_between 70 = .ok (.iaload, 1) := dk_46 (dk_at dksX7_between_2 22 rfl rfl)
theorem dX7_between_71 : decode cX7_between 71 = .ok (.imul, 1) := dk_104 (dk_at dksX7_between_2 23 rfl rfl)
theorem dX7_between_72 : decode cX7_between 72 = .ok (.iadd, 1) := dk_96 (dk_at dksX7_between_3 0 rfl rfl)
theorem dX7_between_73 : decode cX7_between 73 = .ok (.if_icmp .ge 43, 3) := dk_162 0 43 (dk_at dksX7_between_3 1 rfl rfl)
theorem dX7_between_76 : decode cX7_between 76 = .ok (.iload 5, 2) := dk_21 5 (dk_at dksX7_between_3 4 rfl rfl)
theorem dX7_between_78 : decode cX7_between 78 = .ok (.aload_n 0, 1) := dk_42 (dk_at dksX7_between_3 6 rfl rfl)
theorem dX7_between_79 : decode cX7_between 79 = .ok (.getfield 7, 3) := dk_180 0 7 (dk_at dksX7_between_3 7 rfl rfl)
theorem dX7_between_82 : decode cX7_between 82 = .ok (.iload 6, 2) := dk_21 6 (dk_at dksX7_between_3 10 rfl rfl)
theorem dX7_between_84 : decode cX7_between 84 = .ok (.iaload, 1) := dk_46 (dk_at dksX7_between_3 12 rfl rfl)
theorem dX7_between_85 : decode cX7_between 85 = .ok (.i2l, 1) := dk_133 (dk_at dksX7_between_3 13 rfl rfl)
theorem dX7_between_86 : decode cX7_between 86 = .ok (.bipush 101, 2) := dk_16 101 (dk_at dksX7_between_3 14 rfl rfl)
theorem dX7_between_88 : decode cX7_between 88 = .ok (.iload_n 2, 1) := dk_28 (dk_at dksX7_between_3 16 rfl rfl)
theorem dX7_between_89 : decode cX7_between 89 = .ok (.iadd, 1) := dk_96 (dk_at dksX7_between_3 17 rfl rfl)
theorem dX7_between_90 : decode cX7_between 90 = .ok (.i2l, 1) := dk_133 (dk_at dksX7_between_3 18 rfl rfl)
theorem dX7_between_91 : decode cX7_between 91 = .ok (.bipush 101, 2) := dk_16 101 (dk_at dksX7_between_3 19 rfl rfl)
theorem dX7_between_93 : decode cX7_between 93 = .ok (.iload_n 3, 1) := dk_29 (dk_at dksX7_between_3 21 rfl rfl)
theorem dX7_between_94 : decode cX7_between 94 = .ok (.iadd, 1) := dk_96 (dk_at dksX7_between_3 22 rfl rfl)
theorem dX7_between_95 : decode cX7_between 95 = .ok (.i2l, 1) := dk_133 (dk_at dksX7_between_3 23 rfl rfl)
theorem dX7_between_96 : decode cX7_between 96 = .ok (.invokestatic 306, 3) := dk_184 1 50 (dk_at dksX7_between_4 0 rfl rfl)
theorem dX7_between_99 : decode cX7_between 99 = .ok (.ifCond .eq 7, 3) := dk_153 0 7 (dk_at dksX7_between_4 3 rfl rfl)
theorem dX7_between_102 : decode cX7_between 102 = .ok (.iconst 1, 1) := dk_4 (dk_at dksX7_between_4 6 rfl rfl)
theorem dX7_between_103 : decode cX7_between 103 = .ok (.goto 4, 3) := dk_167 0 4 (dk_at dksX7_between_4 7 rfl rfl)
theorem dX7_between_106 : decode cX7_between 106 = .ok (.iconst 0, 1) := dk_3 (dk_at dksX7_between_4 10 rfl rfl)
theorem dX7_between_107 : decode cX7_between 107 = .ok (.iadd, 1) := dk_96 (dk_at dksX7_between_4 11 rfl rfl)
theorem dX7_between_108 : decode cX7_between 108 = .ok (.istore 5, 2) := dk_54 5 (dk_at dksX7_between_4 12 rfl rfl)
theorem dX7_between_110 : decode cX7_between 110 = .ok (.iinc 6 1, 3) := dk_132 6 1 (dk_at dksX7_between_4 14 rfl rfl)
theorem dX7_between_113 : decode cX7_between 113 = .ok (.goto (-58), 3) := dk_167 255 198 (dk_at dksX7_between_4 17 rfl rfl)
theorem dX7_between_116 : decode cX7_between 116 = .ok (.aload_n 0, 1) := dk_42 (dk_at dksX7_between_4 20 rfl rfl)
theorem dX7_between_117 : decode cX7_between 117 = .ok (.iload 5, 2) := dk_21 5 (dk_at dksX7_between_4 21 rfl rfl)
theorem dX7_between_119 : decode cX7_between 119 = .ok (.invokevirtual 76, 3) := dk_182 0 76 (dk_at dksX7_between_5 0 rfl rfl)
theorem dX7_between_122 : decode cX7_between 122 = .ok (.ireturn, 1) := dk_172 (dk_at dksX7_between_5 3 rfl rfl)
def dkwX7_strongest_3 : List UInt8 := [182, 1, 24, 172]
abbrev dktX7_strongest_3 : List UInt8 := dkwX7_strongest_3 ++ []
def dkwX7_strongest_2 : List UInt8 := [180, 0, 7, 27, 184, 0, 217, 4, 96, 46, 164, 0, 5, 28, 60, 132, 2, 1, 167, 255, 196, 42, 27]
abbrev dktX7_strongest_2 : List UInt8 := dkwX7_strongest_2 ++ dktX7_strongest_3
def dkwX7_strongest_1 : List UInt8 := [46, 2, 159, 0, 35, 27, 2, 159, 0, 28, 42, 180, 0, 7, 28, 184, 0, 217, 4, 96, 46, 42]
abbrev dktX7_strongest_1 : List UInt8 := dkwX7_strongest_1 ++ dktX7_strongest_2
def dkwX7_strongest_0 : List UInt8 := [2, 60, 3, 61, 28, 42, 180, 0, 7, 3, 46, 162, 0, 56, 42, 180, 0, 7, 28, 184, 0, 217, 6, 96]
abbrev dktX7_strongest_0 : List UInt8 := dkwX7_strongest_0 ++ dktX7_strongest_1
theorem dksX7_strongest_0 : cX7_strongest.data.toList.drop 0 = dktX7_strongest_0 := by decide +kernel
theorem dksX7_strongest_1 : cX7_strongest.data.toList.drop 24 = dktX7_strongest_1 := dk_seg dksX7_strongest_0 24 rfl rfl
theorem dksX7_strongest_2 : cX7_strongest.data.toList.drop 46 = dktX7_strongest_2 := dk_seg dksX7_strongest_1 22 rfl rfl
theorem dksX7_strongest_3 : cX7_strongest.data.toList.drop 69 = dktX7_strongest_3 := dk_seg dksX7_strongest_2 23 rfl rfl
theorem dX7_strongest_0 : decode cX7_strongest 0 = .ok (.iconst (-1), 1) := dk_2 (dk_at dksX7_strongest_0 0 rfl rfl)
theorem dX7_strongest_1 : decode cX7_strongest 1 = .ok (.istore_n 1, 1) := dk_60 (dk_at dksX7_strongest_0 1 rfl rfl)
theorem dX7_strongest_2 : decode cX7_strongest 2 = .ok (.iconst 0, 1) := dk_3 (dk_at dksX7_strongest_0 2 rfl rfl)
theorem dX7_strongest_3 : decode cX7_strongest 3 = .ok (.istore_n 2, 1) := dk_61 (dk_at dksX7_strongest_0 3 rfl rfl)
theorem dX7_strongest_4 : decode cX7_strongest 4 = .ok (.iload_n 2, 1) := dk_28 (dk_at dksX7_strongest_0 4 rfl rfl)
theorem dX7_strongest_5 : decode cX7_strongest 5 = .ok (.aload_n 0, 1) := dk_42 (dk_at dksX7_strongest_0 5 rfl rfl)
theorem dX7_strongest_6 : decode cX7_strongest 6 = .ok (.getfield 7, 3) := dk_180 0 7 (dk_at dksX7_strongest_0 6 rfl rfl)
theorem dX7_strongest_9 : decode cX7_strongest 9 = .ok (.iconst 0, 1) := dk_3 (dk_at dksX7_strongest_0 9 rfl rfl)
theorem dX7_strongest_10 : decode cX7_strongest 10 = .ok (.iaload, 1) := dk_46 (dk_at dksX7_strongest_0 10 rfl rfl)
theorem dX7_strongest_11 : decode cX7_strongest 11 = .ok (.if_icmp .ge 56, 3) := dk_162 0 56 (dk_at dksX7_strongest_0 11 rfl rfl)
theorem dX7_strongest_14 : decode cX7_strongest 14 = .ok (.aload_n 0, 1) := dk_42 (dk_at dksX7_strongest_0 14 rfl rfl)
theorem dX7_strongest_15 : decode cX7_strongest 15 = .ok (.getfield 7, 3) := dk_180 0 7 (dk_at dksX7_strongest_0 15 rfl rfl)
theorem dX7_strongest_18 : decode cX7_strongest 18 = .ok (.iload_n 2, 1) := dk_28 (dk_at dksX7_strongest_0 18 rfl rfl)
theorem dX7_strongest_19 : decode cX7_strongest 19 = .ok (.invokestatic 217, 3) := dk_184 0 217 (dk_at dksX7_strongest_0 19 rfl rfl)
theorem dX7_strongest_22 : decode cX7_strongest 22 = .ok (.iconst 3, 1) := dk_6 (dk_at dksX7_strongest_0 22 rfl rfl)
theorem dX7_strongest_23 : decode cX7_strongest 23 = .ok (.iadd, 1) := dk_96 (dk_at dksX7_strongest_0 23 rfl rfl)
theorem dX7_strongest_24 : decode cX7_strongest 24 = .ok (.iaload, 1) := dk_46 (dk_at dksX7_strongest_1 0 rfl rfl)
theorem dX7_strongest_25 : decode cX7_strongest 25 = .ok (.iconst (-1), 1) := dk_2 (dk_at dksX7_strongest_1 1 rfl rfl)
theorem dX7_strongest_26 : decode cX7_strongest 26 = .ok (.if_icmp .eq 35, 3) := dk_159 0 35 (dk_at dksX7_strongest_1 2 rfl rfl)
theorem dX7_strongest_29 : decode cX7_strongest 29 = .ok (.iload_n 1, 1) := dk_27 (dk_at dksX7_strongest_1 5 rfl rfl)
theorem dX7_strongest_30 : decode cX7_strongest 30 = .ok (.iconst (-1), 1) := dk_2 (dk_at dksX7_strongest_1 6 rfl rfl)
theorem dX7_strongest_31 : decode cX7_strongest 31 = .ok (.if_icmp .eq 28, 3) := dk_159 0 28 (dk_at dksX7_strongest_1 7 rfl rfl)
theorem dX7_strongest_34 : decode cX7_strongest 34 = .ok (.aload_n 0, 1) := dk_42 (dk_at dksX7_strongest_1 10 rfl rfl)
theorem dX7_strongest_35 : decode cX7_strongest 35 = .ok (.getfield 7, 3) := dk_180 0 7 (dk_at dksX7_strongest_1 11 rfl rfl)
theorem dX7_strongest_38 : decode cX7_strongest 38 = .ok (.iload_n 2, 1) := dk_28 (dk_at dksX7_strongest_1 14 rfl rfl)
theorem dX7_strongest_39 : decode cX7_strongest 39 = .ok (.invokestatic 217, 3) := dk_184 0 217 (dk_at dksX7_strongest_1 15 rfl rfl)
theorem dX7_strongest_42 : decode cX7_strongest 42 = .ok (.iconst 1, 1) := dk_4 (dk_at dksX7_strongest_1 18 rfl rfl)
theorem dX7_strongest_43 : decode cX7_strongest 43 = .ok (.iadd, 1) := dk_96 (dk_at dksX7_strongest_1 19 rfl rfl)
theorem dX7_strongest_44 : decode cX7_strongest 44 = .ok (.iaload, 1) := dk_46 (dk_at dksX7_strongest_1 20 rfl rfl)
theorem dX7_strongest_45 : decode cX7_strongest 45 = .ok (.aload_n 0, 1) := dk_42 (dk_at dksX7_strongest_1 21 rfl rfl)
theorem dX7_strongest_46 : decode cX7_strongest 46 = .ok (.getfield 7, 3) := dk_180 0 7 (dk_at dksX7_strongest_2 0 rfl rfl)
theorem dX7_strongest_49 : decode cX7_strongest 49 = .ok (.iload_n 1, 1) := dk_27 (dk_at dksX7_strongest_2 3 rfl rfl)
theorem dX7_strongest_50 : decode cX7_strongest 50 = .ok (.invokestatic 217, 3) := dk_184 0 217 (dk_at dksX7_strongest_2 4 rfl rfl)
theorem dX7_strongest_53 : decode cX7_strongest 53 = .ok (.iconst 1, 1) := dk_4 (dk_at dksX7_strongest_2 7 rfl rfl)
theorem dX7_strongest_54 : decode cX7_strongest 54 = .ok (.iadd, 1) := dk_96 (dk_at dksX7_strongest_2 8 rfl rfl)
theorem dX7_strongest_55 : decode cX7_strongest 55 = .ok (.iaload, 1) := dk_46 (dk_at dksX7_strongest_2 9 rfl rfl)
theorem dX7_strongest_56 : decode cX7_strongest 56 = .ok (.if_icmp .le 5, 3) := dk_164 0 5 (dk_at dksX7_strongest_2 10 rfl rfl)
theorem dX7_strongest_59 : decode cX7_strongest 59 = .ok (.iload_n 2, 1) := dk_28 (dk_at dksX7_strongest_2 13 rfl rfl)
theorem dX7_strongest_60 : decode cX7_strongest 60 = .ok (.istore_n 1, 1) := dk_60 (dk_at dksX7_strongest_2 14 rfl rfl)
theorem dX7_strongest_61 : decode cX7_strongest 61 = .ok (.iinc 2 1, 3) := dk_132 2 1 (dk_at dksX7_strongest_2 15 rfl rfl)
theorem dX7_strongest_64 : decode cX7_strongest 64 = .ok (.goto (-60), 3) := dk_167 255 196 (dk_at dksX7_strongest_2 18 rfl rfl)
theorem dX7_strongest_67 : decode cX7_strongest 67 = .ok (.aload_n 0, 1) := dk_42 (dk_at dksX7_strongest_2 21 rfl rfl)
theorem dX7_strongest_68 : decode cX7_strongest 68 = .ok (.iload_n 1, 1) := dk_27 (dk_at dksX7_strongest_2 22 rfl rfl)
theorem dX7_strongest_69 : decode cX7_strongest 69 = .ok (.invokevirtual 280, 3) := dk_182 1 24 (dk_at dksX7_strongest_3 0 rfl rfl)
theorem dX7_strongest_72 : decode cX7_strongest 72 = .ok (.ireturn, 1) := dk_172 (dk_at dksX7_strongest_3 3 rfl rfl)
def dkwX7_frame_4 : List UInt8 := [21, 4, 182, 0, 76, 172]
abbrev dktX7_frame_4 : List UInt8 := dkwX7_frame_4 ++ []
def dkwX7_frame_3 : List UInt8 := [4, 167, 0, 4, 5, 29, 160, 0, 7, 4, 167, 0, 4, 3, 96, 54, 4, 132, 5, 1, 167, 255, 195, 42]
abbrev dktX7_frame_3 : List UInt8 := dkwX7_frame_3 ++ dktX7_frame_4
def dkwX7_frame_2 : List UInt8 := [21, 5, 96, 46, 54, 6, 21, 4, 21, 6, 154, 0, 7, 3, 167, 0, 15, 21, 6, 16, 100, 163, 0, 7]
abbrev dktX7_frame_2 : List UInt8 := dkwX7_frame_2 ++ dktX7_frame_3
def dkwX7_frame_1 : List UInt8 := [3, 54, 4, 3, 54, 5, 21, 5, 16, 16, 162, 0, 60, 42, 180, 0, 7, 42, 27, 28, 182, 1, 45]
abbrev dktX7_frame_1 : List UInt8 := dkwX7_frame_1 ++ dktX7_frame_2
def dkwX7_frame_0 : List UInt8 := [42, 27, 28, 182, 1, 42, 153, 0, 12, 29, 155, 0, 8, 29, 5, 164, 0, 9, 42, 4, 182, 0, 72, 172]
abbrev dktX7_frame_0 : List UInt8 := dkwX7_frame_0 ++ dktX7_frame_1
theorem dksX7_frame_0 : cX7_frame.data.toList.drop 0 = dktX7_frame_0 := by decide +kernel
theorem dksX7_frame_1 : cX7_frame.data.toList.drop 24 = dktX7_frame_1 := dk_seg dksX7_frame_0 24 rfl rfl
theorem dksX7_frame_2 : cX7_frame.data.toList.drop 47 = dktX7_frame_2 := dk_seg dksX7_frame_1 23 rfl rfl
theorem dksX7_frame_3 : cX7_frame.data.toList.drop 71 = dktX7_frame_3 := dk_seg dksX7_frame_2 24 rfl rfl
theorem dksX7_frame_4 : cX7_frame.data.toList.drop 95 = dktX7_frame_4 := dk_seg dksX7_frame_3 24 rfl rfl
theorem dX7_frame_0 : decode cX7_frame 0 = .ok (.aload_n 0, 1) := dk_42 (dk_at dksX7_frame_0 0 rfl rfl)
theorem dX7_frame_1 : decode cX7_frame 1 = .ok (.iload_n 1, 1) := dk_27 (dk_at dksX7_frame_0 1 rfl rfl)
theorem dX7_frame_2 : decode cX7_frame 2 = .ok (.iload_n 2, 1) := dk_28 (dk_at dksX7_frame_0 2 rfl rfl)
theorem dX7_frame_3 : decode cX7_frame 3 = .ok (.invokevirtual 298, 3) := dk_182 1 42 (dk_at dksX7_frame_0 3 rfl rfl)
theorem dX7_frame_6 : decode cX7_frame 6 = .ok (.ifCond .eq 12, 3) := dk_153 0 12 (dk_at dksX7_frame_0 6 rfl rfl)
theorem dX7_frame_9 : decode cX7_frame 9 = .ok (.iload_n 3, 1) := dk_29 (dk_at dksX7_frame_0 9 rfl rfl)
theorem dX7_frame_10 : decode cX7_frame 10 = .ok (.ifCond .lt 8, 3) := dk_155 0 8 (dk_at dksX7_frame_0 10 rfl rfl)
theorem dX7_frame_13 : decode cX7_frame 13 = .ok (.iload_n 3, 1) := dk_29 (dk_at dksX7_frame_0 13 rfl rfl)
theorem dX7_frame_14 : decode cX7_frame 14 = .ok (.iconst 2, 1) := dk_5 (dk_at dksX7_frame_0 14 rfl rfl)
theorem dX7_frame_15 : decode cX7_frame 15 = .ok (.if_icmp .le 9, 3) := dk_164 0 9 (dk_at dksX7_frame_0 15 rfl rfl)
theorem dX7_frame_18 : decode cX7_frame 18 = .ok (.aload_n 0, 1) := dk_42 (dk_at dksX7_frame_0 18 rfl rfl)
theorem dX7_frame_19 : decode cX7_frame 19 = .ok (.iconst 1, 1) := dk_4 (dk_at dksX7_frame_0 19 rfl rfl)
theorem dX7_frame_20 : decode cX7_frame 20 = .ok (.invokevirtual 72, 3) := dk_182 0 72 (dk_at dksX7_frame_0 20 rfl rfl)
theorem dX7_frame_23 : decode cX7_frame 23 = .ok (.ireturn, 1) := dk_172 (dk_at dksX7_frame_0 23 rfl rfl)
theorem dX7_frame_24 : decode cX7_frame 24 = .ok (.iconst 0, 1) := dk_3 (dk_at dksX7_frame_1 0 rfl rfl)
theorem dX7_frame_25 : decode cX7_frame 25 = .ok (.istore 4, 2) := dk_54 4 (dk_at dksX7_frame_1 1 rfl rfl)
theorem dX7_frame_27 : decode cX7_frame 27 = .ok (.iconst 0, 1) := dk_3 (dk_at dksX7_frame_1 3 rfl rfl)
theorem dX7_frame_28 : decode cX7_frame 28 = .ok (.istore 5, 2) := dk_54 5 (dk_at dksX7_frame_1 4 rfl rfl)
theorem dX7_frame_30 : decode cX7_frame 30 = .ok (.iload 5, 2) := dk_21 5 (dk_at dksX7_frame_1 6 rfl rfl)
theorem dX7_frame_32 : decode cX7_frame 32 = .ok (.bipush 16, 2) := dk_16 16 (dk_at dksX7_frame_1 8 rfl rfl)
theorem dX7_frame_34 : decode cX7_frame 34 = .ok (.if_icmp .ge 60, 3) := dk_162 0 60 (dk_at dksX7_frame_1 10 rfl rfl)
theorem dX7_frame_37 : decode cX7_frame 37 = .ok (.aload_n 0, 1) := dk_42 (dk_at dksX7_frame_1 13 rfl rfl)
theorem dX7_frame_38 : decode cX7_frame 38 = .ok (.getfield 7, 3) := dk_180 0 7 (dk_at dksX7_frame_1 14 rfl rfl)
theorem dX7_frame_41 : decode cX7_frame 41 = .ok (.aload_n 0, 1) := dk_42 (dk_at dksX7_frame_1 17 rfl rfl)
theorem dX7_frame_42 : decode cX7_frame 42 = .ok (.iload_n 1, 1) := dk_27 (dk_at dksX7_frame_1 18 rfl rfl)
theorem dX7_frame_43 : decode cX7_frame 43 = .ok (.iload_n 2, 1) := dk_28 (dk_at dksX7_frame_1 19 rfl rfl)
theorem dX7_frame_44 : decode cX7_frame 44 = .ok (.invokevirtual 301, 3) := dk_182 1 45 (dk_at dksX7_frame_1 20 rfl rfl)
theorem dX7_frame_47 : decode cX7_frame 47 = .ok (.iload 5, 2) := dk_21 5 (dk_at dksX7_frame_2 0 rfl rfl)
theorem dX7_frame_49 : decode cX7_frame 49 = .ok (.iadd, 1) := dk_96 (dk_at dksX7_frame_2 2 rfl rfl)
theorem dX7_frame_50 : decode cX7_frame 50 = .ok (.iaload, 1) := dk_46 (dk_at dksX7_frame_2 3 rfl rfl)
theorem dX7_frame_51 : decode cX7_frame 51 = .ok (.istore 6, 2) := dk_54 6 (dk_at dksX7_frame_2 4 rfl rfl)
theorem dX7_frame_53 : decode cX7_frame 53 = .ok (.iload 4, 2) := dk_21 4 (dk_at dksX7_frame_2 6 rfl rfl)
theorem dX7_frame_55 : decode cX7_frame 55 = .ok (.iload 6, 2) := dk_21 6 (dk_at dksX7_frame_2 8 rfl rfl)
theorem dX7_frame_57 : decode cX7_frame 57 = .ok (.ifCond .ne 7, 3) := dk_154 0 7 (dk_at dksX7_frame_2 10 rfl rfl)
theorem dX7_frame_60 : decode cX7_frame 60 = .ok (.iconst 0, 1) := dk_3 (dk_at dksX7_frame_2 13 rfl rfl)
theorem dX7_frame_61 : decode cX7_frame 61 = .ok (.goto 15, 3) := dk_167 0 15 (dk_at dksX7_frame_2 14 rfl rfl)
theorem dX7_frame_64 : decode cX7_frame 64 = .ok (.iload 6, 2) := dk_21 6 (dk_at dksX7_frame_2 17 rfl rfl)
theorem dX7_frame_66 : decode cX7_frame 66 = .ok (.bipush 100, 2) := dk_16 100 (dk_at dksX7_frame_2 19 rfl rfl)
theorem dX7_frame_68 : decode cX7_frame 68 = .ok (.if_icmp .gt 7, 3) := dk_163 0 7 (dk_at dksX7_frame_2 21 rfl rfl)
theorem dX7_frame_71 : decode cX7_frame 71 = .ok (.iconst 1, 1) := dk_4 (dk_at dksX7_frame_3 0 rfl rfl)
theorem dX7_frame_72 : decode cX7_frame 72 = .ok (.goto 4, 3) := dk_167 0 4 (dk_at dksX7_frame_3 1 rfl rfl)
theorem dX7_frame_75 : decode cX7_frame 75 = .ok (.iconst 2, 1) := dk_5 (dk_at dksX7_frame_3 4 rfl rfl)
theorem dX7_frame_76 : decode cX7_frame 76 = .ok (.iload_n 3, 1) := dk_29 (dk_at dksX7_frame_3 5 rfl rfl)
theorem dX7_frame_77 : decode cX7_frame 77 = .ok (.if_icmp .ne 7, 3) := dk_160 0 7 (dk_at dksX7_frame_3 6 rfl rfl)
theorem dX7_frame_80 : decode cX7_frame 80 = .ok (.iconst 1, 1) := dk_4 (dk_at dksX7_frame_3 9 rfl rfl)
theorem dX7_frame_81 : decode cX7_frame 81 = .ok (.goto 4, 3) := dk_167 0 4 (dk_at dksX7_frame_3 10 rfl rfl)
theorem dX7_frame_84 : decode cX7_frame 84 = .ok (.iconst 0, 1) := dk_3 (dk_at dksX7_frame_3 13 rfl rfl)
theorem dX7_frame_85 : decode cX7_frame 85 = .ok (.iadd, 1) := dk_96 (dk_at dksX7_frame_3 14 rfl rfl)
theorem dX7_frame_86 : decode cX7_frame 86 = .ok (.istore 4, 2) := dk_54 4 (dk_at dksX7_frame_3 15 rfl rfl)
theorem dX7_frame_88 : decode cX7_frame 88 = .ok (.iinc 5 1, 3) := dk_132 5 1 (dk_at dksX7_frame_3 17 rfl rfl)
theorem dX7_frame_91 : decode cX7_frame 91 = .ok (.goto (-61), 3) := dk_167 255 195 (dk_at dksX7_frame_3 20 rfl rfl)
theorem dX7_frame_94 : decode cX7_frame 94 = .ok (.aload_n 0, 1) := dk_42 (dk_at dksX7_frame_3 23 rfl rfl)
theorem dX7_frame_95 : decode cX7_frame 95 = .ok (.iload 4, 2) := dk_21 4 (dk_at dksX7_frame_4 0 rfl rfl)
theorem dX7_frame_97 : decode cX7_frame 97 = .ok (.invokevirtual 76, 3) := dk_182 0 76 (dk_at dksX7_frame_4 2 rfl rfl)
theorem dX7_frame_100 : decode cX7_frame 100 = .ok (.ireturn, 1) := dk_172 (dk_at dksX7_frame_4 5 rfl rfl)
def dkwX7_even_5 : List UInt8 := [27, 112, 100, 184, 1, 108, 96, 182, 0, 76, 172]
abbrev dktX7_even_5 : List UInt8 := dkwX7_even_5 ++ []
def dkwX7_even_4 : List UInt8 := [3, 21, 7, 4, 100, 184, 1, 108, 96, 54, 5, 132, 6, 1, 167, 255, 205, 42, 21, 5, 3, 21, 4, 28]
abbrev dktX7_even_4 : List UInt8 := dkwX7_even_4 ++ dktX7_even_5
def dkwX7_even_3 : List UInt8 := [182, 1, 27, 29, 100, 54, 7, 21, 4, 21, 7, 158, 0, 7, 4, 167, 0, 4, 3, 96, 54, 4, 21, 5]
abbrev dktX7_even_3 : List UInt8 := dkwX7_even_3 ++ dktX7_even_4
def dkwX7_even_2 : List UInt8 := [62, 3, 54, 4, 3, 54, 5, 3, 54, 6, 21, 6, 27, 162, 0, 51, 42, 21, 6, 184, 0, 217, 3]
abbrev dktX7_even_2 : List UInt8 := dkwX7_even_2 ++ dktX7_even_3
def dkwX7_even_1 : List UInt8 := [162, 0, 21, 28, 42, 29, 184, 0, 217, 3, 182, 1, 27, 96, 61, 132, 3, 1, 167, 255, 236, 28, 27, 108]
abbrev dktX7_even_1 : List UInt8 := dkwX7_even_1 ++ dktX7_even_2
def dkwX7_even_0 : List UInt8 := [42, 180, 0, 7, 3, 46, 60, 27, 154, 0, 9, 42, 3, 182, 0, 76, 172, 3, 61, 3, 62, 29, 27]
abbrev dktX7_even_0 : List UInt8 := dkwX7_even_0 ++ dktX7_even_1
theorem dksX7_even_0 : cX7_even.data.toList.drop 0 = dktX7_even_0 := by decide +kernel
theorem dksX7_even_1 : cX7_even.data.toList.drop 23 = dktX7_even_1 := dk_seg dksX7_even_0 23 rfl rfl
theorem dksX7_even_2 : cX7_even.data.toList.drop 47 = dktX7_even_2 := dk_seg dksX7_even_1 24 rfl rfl
theorem dksX7_even_3 : cX7_even.data.toList.drop 70 = dktX7_even_3 := dk_seg dksX7_even_2 23 rfl rfl
theorem dksX7_even_4 : cX7_even.data.toList.drop 94 = dktX7_even_4 := dk_seg dksX7_even_3 24 rfl rfl
theorem dksX7_even_5 : cX7_even.data.toList.drop 118 = dktX7_even_5 := dk_seg dksX7_even_4 24 rfl rfl
theorem dX7_even_0 : decode cX7_even 0 = .ok (.aload_n 0, 1) := dk_42 (dk_at dksX7_even_0 0 rfl rfl)
theorem dX7_even_1 : decode cX7_even 1 = .ok (.getfield 7, 3) := dk_180 0 7 (dk_at dksX7_even_0 1 rfl rfl)
theorem dX7_even_4 : decode cX7_even 4 = .ok (.iconst 0, 1) := dk_3 (dk_at dksX7_even_0 4 rfl rfl)
theorem dX7_even_5 : decode cX7_even 5 = .ok (.iaload, 1) := dk_46 (dk_at dksX7_even_0 5 rfl rfl)
theorem dX7_even_6 : decode cX7_even 6 = .ok (.istore_n 1, 1) := dk_60 (dk_at dksX7_even_0 6 rfl rfl)
theorem dX7_even_7 : decode cX7_even 7 = .ok (.iload_n 1, 1) := dk_27 (dk_at dksX7_even_0 7 rfl rfl)
theorem dX7_even_8 : decode cX7_even 8 = .ok (.ifCond .ne 9, 3) := dk_154 0 9 (dk_at dksX7_even_0 8 rfl rfl)
theorem dX7_even_11 : decode cX7_even 11 = .ok (.aload_n 0, 1) := dk_42 (dk_at dksX7_even_0 11 rfl rfl)
theorem dX7_even_12 : decode cX7_even 12 = .ok (.iconst 0, 1) := dk_3 (dk_at dksX7_even_0 12 rfl rfl)
theorem dX7_even_13 : decode cX7_even 13 = .ok (.invokevirtual 76, 3) := dk_182 0 76 (dk_at dksX7_even_0 13 rfl rfl)
theorem dX7_even_16 : decode cX7_even 16 = .ok (.ireturn, 1) := dk_172 (dk_at dksX7_even_0 16 rfl rfl)
theorem dX7_even_17 : decode cX7_even 17 = .ok (.iconst 0, 1) := dk_3 (dk_at dksX7_even_0 17 rfl rfl)
theorem dX7_even_18 : decode cX7_even 18 = .ok (.istore_n 2, 1) := dk_61 (dk_at dksX7_even_0 18 rfl rfl)
theorem dX7_even_19 : decode cX7_even 19 = .ok (.iconst 0, 1) := dk_3 (dk_at dksX7_even_0 19 rfl rfl)
theorem dX7_even_20 : decode cX7_even 20 = .ok (.istore_n 3, 1) := dk_62 (dk_at dksX7_even_0 20 rfl rfl)
theorem dX7_even_21 : decode cX7_even 21 = .ok (.iload_n 3, 1) := dk_29 (dk_at dksX7_even_0 21 rfl rfl)
theorem dX7_even_22 : decode cX7_even 22 = .ok (.iload_n 1, 1) := dk_27 (dk_at dksX7_even_0 22 rfl rfl)
theorem dX7_even_23 : decode cX7_even 23 = .ok (.if_icmp .ge 21, 3) := dk_162 0 21 (dk_at dksX7_even_1 0 rfl rfl)
theorem dX7_even_26 : decode cX7_even 26 = .ok (.iload_n 2, 1) := dk_28 (dk_at dksX7_even_1 3 rfl rfl)
theorem dX7_even_27 : decode cX7_even 27 = .ok (.aload_n 0, 1) := dk_42 (dk_at dksX7_even_1 4 rfl rfl)
theorem dX7_even_28 : decode cX7_even 28 = .ok (.iload_n 3, 1) := dk_29 (dk_at dksX7_even_1 5 rfl rfl)
theorem dX7_even_29 : decode cX7_even 29 = .ok (.invokestatic 217, 3) := dk_184 0 217 (dk_at dksX7_even_1 6 rfl rfl)
theorem dX7_even_32 : decode cX7_even 32 = .ok (.iconst 0, 1) := dk_3 (dk_at dksX7_even_1 9 rfl rfl)
theorem dX7_even_33 : decode cX7_even 33 = .ok (.invokevirtual 283, 3) := dk_182 1 27 (dk_at dksX7_even_1 10 rfl rfl)
theorem dX7_even_36 : decode cX7_even 36 = .ok (.iadd, 1) := dk_96 (dk_at dksX7_even_1 13 rfl rfl)
theorem dX7_even_37 : decode cX7_even 37 = .ok (.istore_n 2, 1) := dk_61 (dk_at dksX7_even_1 14 rfl rfl)
theorem dX7_even_38 : decode cX7_even 38 = .ok (.iinc 3 1, 3) := dk_132 3 1 (dk_at dksX7_even_1 15 rfl rfl)
theorem dX7_even_41 : decode cX7_even 41 = .ok (.goto (-20), 3) := dk_167 255 236 (dk_at dksX7_even_1 18 rfl rfl)
theorem dX7_even_44 : decode cX7_even 44 = .ok (.iload_n 2, 1) := dk_28 (dk_at dksX7_even_1 21 rfl rfl)
theorem dX7_even_45 : decode cX7_even 45 = .ok (.iload_n 1, 1) := dk_27 (dk_at dksX7_even_1 22 rfl rfl)
theorem dX7_even_46 : decode cX7_even 46 = .ok (.idiv, 1) := dk_108 (dk_at dksX7_even_1 23 rfl rfl)
theorem dX7_even_47 : decode cX7_even 47 = .ok (.istore_n 3, 1) := dk_62 (dk_at dksX7_even_2 0 rfl rfl)
theorem dX7_even_48 : decode cX7_even 48 = .ok (.iconst 0, 1) := dk_3 (dk_at dksX7_even_2 1 rfl rfl)
theorem dX7_even_49 : decode cX7_even 49 = .ok (.istore 4, 2) := dk_54 4 (dk_at dksX7_even_2 2 rfl rfl)
theorem dX7_even_51 : decode cX7_even 51 = .ok (.iconst 0, 1) := dk_3 (dk_at dksX7_even_2 4 rfl rfl)
theorem dX7_even_52 : decode cX7_even 52 = .ok (.istore 5, 2) := dk_54 5 (dk_at dksX7_even_2 5 rfl rfl)
theorem dX7_even_54 : decode cX7_even 54 = .ok (.iconst 0, 1) := dk_3 (dk_at dksX7_even_2 7 rfl rfl)
theorem dX7_even_55 : decode cX7_even 55 = .ok (.istore 6, 2) := dk_54 6 (dk_at dksX7_even_2 8 rfl rfl)
theorem dX7_even_57 : decode cX7_even 57 = .ok (.iload 6, 2) := dk_21 6 (dk_at dksX7_even_2 10 rfl rfl)
theorem dX7_even_59 : decode cX7_even 59 = .ok (.iload_n 1, 1) := dk_27 (dk_at dksX7_even_2 12 rfl rfl)
theorem dX7_even_60 : decode cX7_even 60 = .ok (.if_icmp .ge 51, 3) := dk_162 0 51 (dk_at dksX7_even_2 13 rfl rfl)
theorem dX7_even_63 : decode cX7_even 63 = .ok (.aload_n 0, 1) := dk_42 (dk_at dksX7_even_2 16 rfl rfl)
theorem dX7_even_64 : decode cX7_even 64 = .ok (.iload 6, 2) := dk_21 6 (dk_at dksX7_even_2 17 rfl rfl)
theorem dX7_even_66 : decode cX7_even 66 = .ok (.invokestatic 217, 3) := dk_184 0 217 (dk_at dksX7_even_2 19 rfl rfl)
theorem dX7_even_69 : decode cX7_even 69 = .ok (.iconst 0, 1) := dk_3 (dk_at dksX7_even_2 22 rfl rfl)
theorem dX7_even_70 : decode cX7_even 70 = .ok (.invokevirtual 283, 3) := dk_182 1 27 (dk_at dksX7_even_3 0 rfl rfl)
theorem dX7_even_73 : decode cX7_even 73 = .ok (.iload_n 3, 1) := dk_29 (dk_at dksX7_even_3 3 rfl rfl)
theorem dX7_even_74 : decode cX7_even 74 = .ok (.isub, 1) := dk_100 (dk_at dksX7_even_3 4 rfl rfl)
theorem dX7_even_75 : decode cX7_even 75 = .ok (.istore 7, 2) := dk_54 7 (dk_at dksX7_even_3 5 rfl rfl)
theorem dX7_even_77 : decode cX7_even 77 = .ok (.iload 4, 2) := dk_21 4 (dk_at dksX7_even_3 7 rfl rfl)
theorem dX7_even_79 : decode cX7_even 79 = .ok (.iload 7, 2) := dk_21 7 (dk_at dksX7_even_3 9 rfl rfl)
theorem dX7_even_81 : decode cX7_even 81 = .ok (.ifCond .le 7, 3) := dk_158 0 7 (dk_at dksX7_even_3 11 rfl rfl)
theorem dX7_even_84 : decode cX7_even 84 = .ok (.iconst 1, 1) := dk_4 (dk_at dksX7_even_3 14 rfl rfl)
theorem dX7_even_85 : decode cX7_even 85 = .ok (.goto 4, 3) := dk_167 0 4 (dk_at dksX7_even_3 15 rfl rfl)
theorem dX7_even_88 : decode cX7_even 88 = .ok (.iconst 0, 1) := dk_3 (dk_at dksX7_even_3 18 rfl rfl)
theorem dX7_even_89 : decode cX7_even 89 = .ok (.iadd, 1) := dk_96 (dk_at dksX7_even_3 19 rfl rfl)
theorem dX7_even_90 : decode cX7_even 90 = .ok (.istore 4, 2) := dk_54 4 (dk_at dksX7_even_3 20 rfl rfl)
theorem dX7_even_92 : decode cX7_even 92 = .ok (.iload 5, 2) := dk_21 5 (dk_at dksX7_even_3 22 rfl rfl)
theorem dX7_even_94 : decode cX7_even 94 = .ok (.iconst 0, 1) := dk_3 (dk_at dksX7_even_4 0 rfl rfl)
theorem dX7_even_95 : decode cX7_even 95 = .ok (.iload 7, 2) := dk_21 7 (dk_at dksX7_even_4 1 rfl rfl)
theorem dX7_even_97 : decode cX7_even 97 = .ok (.iconst 1, 1) := dk_4 (dk_at dksX7_even_4 3 rfl rfl)
theorem dX7_even_98 : decode cX7_even 98 = .ok (.isub, 1) := dk_100 (dk_at dksX7_even_4 4 rfl rfl)
theorem dX7_even_99 : decode cX7_even 99 = .ok (.invokestatic 364, 3) := dk_184 1 108 (dk_at dksX7_even_4 5 rfl rfl)
theorem dX7_even_102 : decode cX7_even 102 = .ok (.iadd, 1) := dk_96 (dk_at dksX7_even_4 8 rfl rfl)
theorem dX7_even_103 : decode cX7_even 103 = .ok (.istore 5, 2) := dk_54 5 (dk_at dksX7_even_4 9 rfl rfl)
theorem dX7_even_105 : decode cX7_even 105 = .ok (.iinc 6 1, 3) := dk_132 6 1 (dk_at dksX7_even_4 11 rfl rfl)
theorem dX7_even_108 : decode cX7_even 108 = .ok (.goto (-51), 3) := dk_167 255 205 (dk_at dksX7_even_4 14 rfl rfl)
theorem dX7_even_111 : decode cX7_even 111 = .ok (.aload_n 0, 1) := dk_42 (dk_at dksX7_even_4 17 rfl rfl)
theorem dX7_even_112 : decode cX7_even 112 = .ok (.iload 5, 2) := dk_21 5 (dk_at dksX7_even_4 18 rfl rfl)
theorem dX7_even_114 : decode cX7_even 114 = .ok (.iconst 0, 1) := dk_3 (dk_at dksX7_even_4 20 rfl rfl)
theorem dX7_even_115 : decode cX7_even 115 = .ok (.iload 4, 2) := dk_21 4 (dk_at dksX7_even_4 21 rfl rfl)
theorem dX7_even_117 : decode cX7_even 117 = .ok (.iload_n 2, 1) := dk_28 (dk_at dksX7_even_4 23 rfl rfl)
theorem dX7_even_118 : decode cX7_even 118 = .ok (.iload_n 1, 1) := dk_27 (dk_at dksX7_even_5 0 rfl rfl)
theorem dX7_even_119 : decode cX7_even 119 = .ok (.irem, 1) := dk_112 (dk_at dksX7_even_5 1 rfl rfl)
theorem dX7_even_120 : decode cX7_even 120 = .ok (.isub, 1) := dk_100 (dk_at dksX7_even_5 2 rfl rfl)
theorem dX7_even_121 : decode cX7_even 121 = .ok (.invokestatic 364, 3) := dk_184 1 108 (dk_at dksX7_even_5 3 rfl rfl)
theorem dX7_even_124 : decode cX7_even 124 = .ok (.iadd, 1) := dk_96 (dk_at dksX7_even_5 6 rfl rfl)
theorem dX7_even_125 : decode cX7_even 125 = .ok (.invokevirtual 76, 3) := dk_182 0 76 (dk_at dksX7_even_5 7 rfl rfl)
theorem dX7_even_128 : decode cX7_even 128 = .ok (.ireturn, 1) := dk_172 (dk_at dksX7_even_5 10 rfl rfl)
