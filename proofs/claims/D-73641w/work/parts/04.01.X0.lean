set_option maxRecDepth 100000
def dkwX0_init_8 : List UInt8 := [188, 10, 181, 0, 93, 42, 7, 188, 10, 181, 0, 96, 42, 3, 182, 0, 99, 177]
abbrev dktX0_init_8 : List UInt8 := dkwX0_init_8 ++ []
def dkwX0_init_7 : List UInt8 := [189, 0, 81, 181, 0, 83, 42, 16, 20, 188, 10, 181, 0, 87, 42, 16, 20, 188, 10, 181, 0, 90, 42, 7]
abbrev dktX0_init_7 : List UInt8 := dkwX0_init_7 ++ dktX0_init_8
def dkwX0_init_6 : List UInt8 := [181, 0, 72, 42, 16, 20, 188, 10, 181, 0, 75, 42, 16, 20, 188, 10, 181, 0, 78, 42, 16, 20]
abbrev dktX0_init_6 : List UInt8 := dkwX0_init_6 ++ dktX0_init_7
def dkwX0_init_5 : List UInt8 := [181, 0, 60, 42, 3, 189, 0, 63, 181, 0, 65, 42, 16, 20, 188, 10, 181, 0, 69, 42, 16, 20, 188, 10]
abbrev dktX0_init_5 : List UInt8 := dkwX0_init_5 ++ dktX0_init_6
def dkwX0_init_4 : List UInt8 := [181, 0, 50, 42, 187, 0, 53, 89, 183, 0, 55, 181, 0, 56, 42, 187, 0, 53, 89, 183, 0, 55]
abbrev dktX0_init_4 : List UInt8 := dkwX0_init_4 ++ dktX0_init_5
def dkwX0_init_3 : List UInt8 := [16, 20, 188, 10, 181, 0, 42, 42, 16, 6, 7, 197, 0, 45, 2, 181, 0, 47, 42, 8, 188, 10]
abbrev dktX0_init_3 : List UInt8 := dkwX0_init_3 ++ dktX0_init_4
def dkwX0_init_2 : List UInt8 := [189, 0, 30, 181, 0, 32, 42, 16, 20, 188, 10, 181, 0, 36, 42, 16, 20, 188, 10, 181, 0, 39, 42]
abbrev dktX0_init_2 : List UInt8 := dkwX0_init_2 ++ dktX0_init_3
def dkwX0_init_1 : List UInt8 := [42, 7, 189, 0, 20, 181, 0, 22, 42, 16, 20, 16, 20, 197, 0, 26, 2, 181, 0, 27, 42, 16, 20]
abbrev dktX0_init_1 : List UInt8 := dkwX0_init_1 ++ dktX0_init_2
def dkwX0_init_0 : List UInt8 := [42, 183, 0, 1, 42, 17, 1, 44, 188, 8, 181, 0, 9, 42, 187, 0, 13, 89, 183, 0, 15, 181, 0, 16]
abbrev dktX0_init_0 : List UInt8 := dkwX0_init_0 ++ dktX0_init_1
theorem dksX0_init_0 : cX0_init.data.toList.drop 0 = dktX0_init_0 := by decide +kernel
theorem dksX0_init_1 : cX0_init.data.toList.drop 24 = dktX0_init_1 := dk_seg dksX0_init_0 24 rfl rfl
theorem dksX0_init_2 : cX0_init.data.toList.drop 47 = dktX0_init_2 := dk_seg dksX0_init_1 23 rfl rfl
theorem dksX0_init_3 : cX0_init.data.toList.drop 70 = dktX0_init_3 := dk_seg dksX0_init_2 23 rfl rfl
theorem dksX0_init_4 : cX0_init.data.toList.drop 92 = dktX0_init_4 := dk_seg dksX0_init_3 22 rfl rfl
theorem dksX0_init_5 : cX0_init.data.toList.drop 114 = dktX0_init_5 := dk_seg dksX0_init_4 22 rfl rfl
theorem dksX0_init_6 : cX0_init.data.toList.drop 138 = dktX0_init_6 := dk_seg dksX0_init_5 24 rfl rfl
theorem dksX0_init_7 : cX0_init.data.toList.drop 160 = dktX0_init_7 := dk_seg dksX0_init_6 22 rfl rfl
theorem dksX0_init_8 : cX0_init.data.toList.drop 184 = dktX0_init_8 := dk_seg dksX0_init_7 24 rfl rfl
theorem dX0_init_0 : decode cX0_init 0 = .ok (.aload_n 0, 1) := dk_42 (dk_at dksX0_init_0 0 rfl rfl)
theorem dX0_init_1 : decode cX0_init 1 = .ok (.invokespecial 1, 3) := dk_183 0 1 (dk_at dksX0_init_0 1 rfl rfl)
theorem dX0_init_4 : decode cX0_init 4 = .ok (.aload_n 0, 1) := dk_42 (dk_at dksX0_init_0 4 rfl rfl)
theorem dX0_init_5 : decode cX0_init 5 = .ok (.sipush 300, 3) := dk_17 1 44 (dk_at dksX0_init_0 5 rfl rfl)
theorem dX0_init_8 : decode cX0_init 8 = .ok (.newarray .byte, 2) := dk_188_8 (dk_at dksX0_init_0 8 rfl rfl)
theorem dX0_init_10 : decode cX0_init 10 = .ok (.putfield 9, 3) := dk_181 0 9 (dk_at dksX0_init_0 10 rfl rfl)
theorem dX0_init_13 : decode cX0_init 13 = .ok (.aload_n 0, 1) := dk_42 (dk_at dksX0_init_0 13 rfl rfl)
theorem dX0_init_14 : decode cX0_init 14 = .ok (.new 13, 3) := dk_187 0 13 (dk_at dksX0_init_0 14 rfl rfl)
theorem dX0_init_17 : decode cX0_init 17 = .ok (.dup, 1) := dk_89 (dk_at dksX0_init_0 17 rfl rfl)
theorem dX0_init_18 : decode cX0_init 18 = .ok (.invokespecial 15, 3) := dk_183 0 15 (dk_at dksX0_init_0 18 rfl rfl)
theorem dX0_init_21 : decode cX0_init 21 = .ok (.putfield 16, 3) := dk_181 0 16 (dk_at dksX0_init_0 21 rfl rfl)
theorem dX0_init_24 : decode cX0_init 24 = .ok (.aload_n 0, 1) := dk_42 (dk_at dksX0_init_1 0 rfl rfl)
theorem dX0_init_25 : decode cX0_init 25 = .ok (.iconst 4, 1) := dk_7 (dk_at dksX0_init_1 1 rfl rfl)
theorem dX0_init_26 : decode cX0_init 26 = .ok (.anewarray 20, 3) := dk_189 0 20 (dk_at dksX0_init_1 2 rfl rfl)
theorem dX0_init_29 : decode cX0_init 29 = .ok (.putfield 22, 3) := dk_181 0 22 (dk_at dksX0_init_1 5 rfl rfl)
theorem dX0_init_32 : decode cX0_init 32 = .ok (.aload_n 0, 1) := dk_42 (dk_at dksX0_init_1 8 rfl rfl)
theorem dX0_init_33 : decode cX0_init 33 = .ok (.bipush 20, 2) := dk_16 20 (dk_at dksX0_init_1 9 rfl rfl)
theorem dX0_init_35 : decode cX0_init 35 = .ok (.bipush 20, 2) := dk_16 20 (dk_at dksX0_init_1 11 rfl rfl)
theorem dX0_init_37 : decode cX0_init 37 = .ok (.multianewarray 26 2, 4) := by decide +kernel
theorem dX0_init_41 : decode cX0_init 41 = .ok (.putfield 27, 3) := dk_181 0 27 (dk_at dksX0_init_1 17 rfl rfl)
theorem dX0_init_44 : decode cX0_init 44 = .ok (.aload_n 0, 1) := dk_42 (dk_at dksX0_init_1 20 rfl rfl)
theorem dX0_init_45 : decode cX0_init 45 = .ok (.bipush 20, 2) := dk_16 20 (dk_at dksX0_init_1 21 rfl rfl)
theorem dX0_init_47 : decode cX0_init 47 = .ok (.anewarray 30, 3) := dk_189 0 30 (dk_at dksX0_init_2 0 rfl rfl)
theorem dX0_init_50 : decode cX0_init 50 = .ok (.putfield 32, 3) := dk_181 0 32 (dk_at dksX0_init_2 3 rfl rfl)
theorem dX0_init_53 : decode cX0_init 53 = .ok (.aload_n 0, 1) := dk_42 (dk_at dksX0_init_2 6 rfl rfl)
theorem dX0_init_54 : decode cX0_init 54 = .ok (.bipush 20, 2) := dk_16 20 (dk_at dksX0_init_2 7 rfl rfl)
theorem dX0_init_56 : decode cX0_init 56 = .ok (.newarray .int, 2) := dk_188_10 (dk_at dksX0_init_2 9 rfl rfl)
theorem dX0_init_58 : decode cX0_init 58 = .ok (.putfield 36, 3) := dk_181 0 36 (dk_at dksX0_init_2 11 rfl rfl)
theorem dX0_init_61 : decode cX0_init 61 = .ok (.aload_n 0, 1) := dk_42 (dk_at dksX0_init_2 14 rfl rfl)
theorem dX0_init_62 : decode cX0_init 62 = .ok (.bipush 20, 2) := dk_16 20 (dk_at dksX0_init_2 15 rfl rfl)
theorem dX0_init_64 : decode cX0_init 64 = .ok (.newarray .int, 2) := dk_188_10 (dk_at dksX0_init_2 17 rfl rfl)
theorem dX0_init_66 : decode cX0_init 66 = .ok (.putfield 39, 3) := dk_181 0 39 (dk_at dksX0_init_2 19 rfl rfl)
theorem dX0_init_69 : decode cX0_init 69 = .ok (.aload_n 0, 1) := dk_42 (dk_at dksX0_init_2 22 rfl rfl)
theorem dX0_init_70 : decode cX0_init 70 = .ok (.bipush 20, 2) := dk_16 20 (dk_at dksX0_init_3 0 rfl rfl)
theorem dX0_init_72 : decode cX0_init 72 = .ok (.newarray .int, 2) := dk_188_10 (dk_at dksX0_init_3 2 rfl rfl)
theorem dX0_init_74 : decode cX0_init 74 = .ok (.putfield 42, 3) := dk_181 0 42 (dk_at dksX0_init_3 4 rfl rfl)
theorem dX0_init_77 : decode cX0_init 77 = .ok (.aload_n 0, 1) := dk_42 (dk_at dksX0_init_3 7 rfl rfl)
theorem dX0_init_78 : decode cX0_init 78 = .ok (.bipush 6, 2) := dk_16 6 (dk_at dksX0_init_3 8 rfl rfl)
theorem dX0_init_80 : decode cX0_init 80 = .ok (.iconst 4, 1) := dk_7 (dk_at dksX0_init_3 10 rfl rfl)
theorem dX0_init_81 : decode cX0_init 81 = .ok (.multianewarray 45 2, 4) := by decide +kernel
theorem dX0_init_85 : decode cX0_init 85 = .ok (.putfield 47, 3) := dk_181 0 47 (dk_at dksX0_init_3 15 rfl rfl)
theorem dX0_init_88 : decode cX0_init 88 = .ok (.aload_n 0, 1) := dk_42 (dk_at dksX0_init_3 18 rfl rfl)
theorem dX0_init_89 : decode cX0_init 89 = .ok (.iconst 5, 1) := dk_8 (dk_at dksX0_init_3 19 rfl rfl)
theorem dX0_init_90 : decode cX0_init 90 = .ok (.newarray .int, 2) := dk_188_10 (dk_at dksX0_init_3 20 rfl rfl)
theorem dX0_init_92 : decode cX0_init 92 = .ok (.putfield 50, 3) := dk_181 0 50 (dk_at dksX0_init_4 0 rfl rfl)
theorem dX0_init_95 : decode cX0_init 95 = .ok (.aload_n 0, 1) := dk_42 (dk_at dksX0_init_4 3 rfl rfl)
theorem dX0_init_96 : decode cX0_init 96 = .ok (.new 53, 3) := dk_187 0 53 (dk_at dksX0_init_4 4 rfl rfl)
theorem dX0_init_99 : decode cX0_init 99 = .ok (.dup, 1) := dk_89 (dk_at dksX0_init_4 7 rfl rfl)
theorem dX0_init_100 : decode cX0_init 100 = .ok (.invokespecial 55, 3) := dk_183 0 55 (dk_at dksX0_init_4 8 rfl rfl)
theorem dX0_init_103 : decode cX0_init 103 = .ok (.putfield 56, 3) := dk_181 0 56 (dk_at dksX0_init_4 11 rfl rfl)
theorem dX0_init_106 : decode cX0_init 106 = .ok (.aload_n 0, 1) := dk_42 (dk_at dksX0_init_4 14 rfl rfl)
theorem dX0_init_107 : decode cX0_init 107 = .ok (.new 53, 3) := dk_187 0 53 (dk_at dksX0_init_4 15 rfl rfl)
theorem dX0_init_110 : decode cX0_init 110 = .ok (.dup, 1) := dk_89 (dk_at dksX0_init_4 18 rfl rfl)
theorem dX0_init_111 : decode cX0_init 111 = .ok (.invokespecial 55, 3) := dk_183 0 55 (dk_at dksX0_init_4 19 rfl rfl)
theorem dX0_init_114 : decode cX0_init 114 = .ok (.putfield 60, 3) := dk_181 0 60 (dk_at dksX0_init_5 0 rfl rfl)
theorem dX0_init_117 : decode cX0_init 117 = .ok (.aload_n 0, 1) := dk_42 (dk_at dksX0_init_5 3 rfl rfl)
theorem dX0_init_118 : decode cX0_init 118 = .ok (.iconst 0, 1) := dk_3 (dk_at dksX0_init_5 4 rfl rfl)
theorem dX0_init_119 : decode cX0_init 119 = .ok (.anewarray 63, 3) := dk_189 0 63 (dk_at dksX0_init_5 5 rfl rfl)
theorem dX0_init_122 : decode cX0_init 122 = .ok (.putfield 65, 3) := dk_181 0 65 (dk_at dksX0_init_5 8 rfl rfl)
theorem dX0_init_125 : decode cX0_init 125 = .ok (.aload_n 0, 1) := dk_42 (dk_at dksX0_init_5 11 rfl rfl)
theorem dX0_init_126 : decode cX0_init 126 = .ok (.bipush 20, 2) := dk_16 20 (dk_at dksX0_init_5 12 rfl rfl)
theorem dX0_init_128 : decode cX0_init 128 = .ok (.newarray .int, 2) := dk_188_10 (dk_at dksX0_init_5 14 rfl rfl)
theorem dX0_init_130 : decode cX0_init 130 = .ok (.putfield 69, 3) := dk_181 0 69 (dk_at dksX0_init_5 16 rfl rfl)
theorem dX0_init_133 : decode cX0_init 133 = .ok (.aload_n 0, 1) := dk_42 (dk_at dksX0_init_5 19 rfl rfl)
theorem dX0_init_134 : decode cX0_init 134 = .ok (.bipush 20, 2) := dk_16 20 (dk_at dksX0_init_5 20 rfl rfl)
theorem dX0_init_136 : decode cX0_init 136 = .ok (.newarray .int, 2) := dk_188_10 (dk_at dksX0_init_5 22 rfl rfl)
theorem dX0_init_138 : decode cX0_init 138 = .ok (.putfield 72, 3) := dk_181 0 72 (dk_at dksX0_init_6 0 rfl rfl)
theorem dX0_init_141 : decode cX0_init 141 = .ok (.aload_n 0, 1) := dk_42 (dk_at dksX0_init_6 3 rfl rfl)
theorem dX0_init_142 : decode cX0_init 142 = .ok (.bipush 20, 2) := dk_16 20 (dk_at dksX0_init_6 4 rfl rfl)
theorem dX0_init_144 : decode cX0_init 144 = .ok (.newarray .int, 2) := dk_188_10 (dk_at dksX0_init_6 6 rfl rfl)
theorem dX0_init_146 : decode cX0_init 146 = .ok (.putfield 75, 3) := dk_181 0 75 (dk_at dksX0_init_6 8 rfl rfl)
theorem dX0_init_149 : decode cX0_init 149 = .ok (.aload_n 0, 1) := dk_42 (dk_at dksX0_init_6 11 rfl rfl)
theorem dX0_init_150 : decode cX0_init 150 = .ok (.bipush 20, 2) := dk_16 20 (dk_at dksX0_init_6 12 rfl rfl)
theorem dX0_init_152 : decode cX0_init 152 = .ok (.newarray .int, 2) := dk_188_10 (dk_at dksX0_init_6 14 rfl rfl)
theorem dX0_init_154 : decode cX0_init 154 = .ok (.putfield 78, 3) := dk_181 0 78 (dk_at dksX0_init_6 16 rfl rfl)
theorem dX0_init_157 : decode cX0_init 157 = .ok (.aload_n 0, 1) := dk_42 (dk_at dksX0_init_6 19 rfl rfl)
theorem dX0_init_158 : decode cX0_init 158 = .ok (.bipush 20, 2) := dk_16 20 (dk_at dksX0_init_6 20 rfl rfl)
theorem dX0_init_160 : decode cX0_init 160 = .ok (.anewarray 81, 3) := dk_189 0 81 (dk_at dksX0_init_7 0 rfl rfl)
theorem dX0_init_163 : decode cX0_init 163 = .ok (.putfield 83, 3) := dk_181 0 83 (dk_at dksX0_init_7 3 rfl rfl)
theorem dX0_init_166 : decode cX0_init 166 = .ok (.aload_n 0, 1) := dk_42 (dk_at dksX0_init_7 6 rfl rfl)
theorem dX0_init_167 : decode cX0_init 167 = .ok (.bipush 20, 2) := dk_16 20 (dk_at dksX0_init_7 7 rfl rfl)
theorem dX0_init_169 : decode cX0_init 169 = .ok (.newarray .int, 2) := dk_188_10 (dk_at dksX0_init_7 9 rfl rfl)
theorem dX0_init_171 : decode cX0_init 171 = .ok (.putfield 87, 3) := dk_181 0 87 (dk_at dksX0_init_7 11 rfl rfl)
theorem dX0_init_174 : decode cX0_init 174 = .ok (.aload_n 0, 1) := dk_42 (dk_at dksX0_init_7 14 rfl rfl)
theorem dX0_init_175 : decode cX0_init 175 = .ok (.bipush 20, 2) := dk_16 20 (dk_at dksX0_init_7 15 rfl rfl)
theorem dX0_init_177 : decode cX0_init 177 = .ok (.newarray .int, 2) := dk_188_10 (dk_at dksX0_init_7 17 rfl rfl)
theorem dX0_init_179 : decode cX0_init 179 = .ok (.putfield 90, 3) := dk_181 0 90 (dk_at dksX0_init_7 19 rfl rfl)
theorem dX0_init_182 : decode cX0_init 182 = .ok (.aload_n 0, 1) := dk_42 (dk_at dksX0_init_7 22 rfl rfl)
theorem dX0_init_183 : decode cX0_init 183 = .ok (.iconst 4, 1) := dk_7 (dk_at dksX0_init_7 23 rfl rfl)
theorem dX0_init_184 : decode cX0_init 184 = .ok (.newarray .int, 2) := dk_188_10 (dk_at dksX0_init_8 0 rfl rfl)
theorem dX0_init_186 : decode cX0_init 186 = .ok (.putfield 93, 3) := dk_181 0 93 (dk_at dksX0_init_8 2 rfl rfl)
theorem dX0_init_189 : decode cX0_init 189 = .ok (.aload_n 0, 1) := dk_42 (dk_at dksX0_init_8 5 rfl rfl)
theorem dX0_init_190 : decode cX0_init 190 = .ok (.iconst 4, 1) := dk_7 (dk_at dksX0_init_8 6 rfl rfl)
theorem dX0_init_191 : decode cX0_init 191 = .ok (.newarray .int, 2) := dk_188_10 (dk_at dksX0_init_8 7 rfl rfl)
theorem dX0_init_193 : decode cX0_init 193 = .ok (.putfield 96, 3) := dk_181 0 96 (dk_at dksX0_init_8 9 rfl rfl)
theorem dX0_init_196 : decode cX0_init 196 = .ok (.aload_n 0, 1) := dk_42 (dk_at dksX0_init_8 12 rfl rfl)
theorem dX0_init_197 : decode cX0_init 197 = .ok (.iconst 0, 1) := dk_3 (dk_at dksX0_init_8 13 rfl rfl)
theorem dX0_init_198 : decode cX0_init 198 = .ok (.invokevirtual 99, 3) := dk_182 0 99 (dk_at dksX0_init_8 14 rfl rfl)
theorem dX0_init_201 : decode cX0_init 201 = .ok (.return_, 1) := dk_177 (dk_at dksX0_init_8 17 rfl rfl)
def dkwX0_follows_1 : List UInt8 := [182, 1, 179, 27, 5, 163, 0, 7, 42, 182, 1, 182, 42, 182, 1, 185, 177]
abbrev dktX0_follows_1 : List UInt8 := dkwX0_follows_1 ++ []
def dkwX0_follows_0 : List UInt8 := [27, 154, 0, 15, 42, 182, 1, 170, 42, 182, 1, 173, 42, 182, 1, 176, 27, 4, 163, 0, 7, 42]
abbrev dktX0_follows_0 : List UInt8 := dkwX0_follows_0 ++ dktX0_follows_1
theorem dksX0_follows_0 : cX0_follows.data.toList.drop 0 = dktX0_follows_0 := by decide +kernel
theorem dksX0_follows_1 : cX0_follows.data.toList.drop 22 = dktX0_follows_1 := dk_seg dksX0_follows_0 22 rfl rfl
theorem dX0_follows_0 : decode cX0_follows 0 = .ok (.iload_n 1, 1) := dk_27 (dk_at dksX0_follows_0 0 rfl rfl)
theorem dX0_follows_1 : decode cX0_follows 1 = .ok (.ifCond .ne 15, 3) := dk_154 0 15 (dk_at dksX0_follows_0 1 rfl rfl)
theorem dX0_follows_4 : decode cX0_follows 4 = .ok (.aload_n 0, 1) := dk_42 (dk_at dksX0_follows_0 4 rfl rfl)
theorem dX0_follows_5 : decode cX0_follows 5 = .ok (.invokevirtual 426, 3) := dk_182 1 170 (dk_at dksX0_follows_0 5 rfl rfl)
theorem dX0_follows_8 : decode cX0_follows 8 = .ok (.aload_n 0, 1) := dk_42 (dk_at dksX0_follows_0 8 rfl rfl)
theorem dX0_follows_9 : decode cX0_follows 9 = .ok (.invokevirtual 429, 3) := dk_182 1 173 (dk_at dksX0_follows_0 9 rfl rfl)
theorem dX0_follows_12 : decode cX0_follows 12 = .ok (.aload_n 0, 1) := dk_42 (dk_at dksX0_follows_0 12 rfl rfl)
theorem dX0_follows_13 : decode cX0_follows 13 = .ok (.invokevirtual 432, 3) := dk_182 1 176 (dk_at dksX0_follows_0 13 rfl rfl)
theorem dX0_follows_16 : decode cX0_follows 16 = .ok (.iload_n 1, 1) := dk_27 (dk_at dksX0_follows_0 16 rfl rfl)
theorem dX0_follows_17 : decode cX0_follows 17 = .ok (.iconst 1, 1) := dk_4 (dk_at dksX0_follows_0 17 rfl rfl)
theorem dX0_follows_18 : decode cX0_follows 18 = .ok (.if_icmp .gt 7, 3) := dk_163 0 7 (dk_at dksX0_follows_0 18 rfl rfl)
theorem dX0_follows_21 : decode cX0_follows 21 = .ok (.aload_n 0, 1) := dk_42 (dk_at dksX0_follows_0 21 rfl rfl)
theorem dX0_follows_22 : decode cX0_follows 22 = .ok (.invokevirtual 435, 3) := dk_182 1 179 (dk_at dksX0_follows_1 0 rfl rfl)
theorem dX0_follows_25 : decode cX0_follows 25 = .ok (.iload_n 1, 1) := dk_27 (dk_at dksX0_follows_1 3 rfl rfl)
theorem dX0_follows_26 : decode cX0_follows 26 = .ok (.iconst 2, 1) := dk_5 (dk_at dksX0_follows_1 4 rfl rfl)
theorem dX0_follows_27 : decode cX0_follows 27 = .ok (.if_icmp .gt 7, 3) := dk_163 0 7 (dk_at dksX0_follows_1 5 rfl rfl)
theorem dX0_follows_30 : decode cX0_follows 30 = .ok (.aload_n 0, 1) := dk_42 (dk_at dksX0_follows_1 8 rfl rfl)
theorem dX0_follows_31 : decode cX0_follows 31 = .ok (.invokevirtual 438, 3) := dk_182 1 182 (dk_at dksX0_follows_1 9 rfl rfl)
theorem dX0_follows_34 : decode cX0_follows 34 = .ok (.aload_n 0, 1) := dk_42 (dk_at dksX0_follows_1 12 rfl rfl)
theorem dX0_follows_35 : decode cX0_follows 35 = .ok (.invokevirtual 441, 3) := dk_182 1 185 (dk_at dksX0_follows_1 13 rfl rfl)
theorem dX0_follows_38 : decode cX0_follows 38 = .ok (.return_, 1) := dk_177 (dk_at dksX0_follows_1 16 rfl rfl)
def dkwX0_laysSigns_5 : List UInt8 := [180, 0, 36, 27, 42, 180, 0, 36, 27, 184, 0, 180, 79, 132, 1, 1, 167, 255, 233, 177]
abbrev dktX0_laysSigns_5 : List UInt8 := dkwX0_laysSigns_5 ++ []
def dkwX0_laysSigns_4 : List UInt8 := [87, 132, 2, 1, 167, 255, 182, 132, 1, 1, 167, 255, 161, 3, 60, 27, 16, 20, 162, 0, 23, 42]
abbrev dktX0_laysSigns_4 : List UInt8 := dkwX0_laysSigns_4 ++ dktX0_laysSigns_5
def dkwX0_laysSigns_3 : List UInt8 := [180, 0, 16, 180, 0, 233, 27, 46, 28, 184, 0, 152, 154, 0, 13, 42, 180, 0, 36, 27, 28, 184, 0, 220]
abbrev dktX0_laysSigns_3 : List UInt8 := dkwX0_laysSigns_3 ++ dktX0_laysSigns_4
def dkwX0_laysSigns_2 : List UInt8 := [154, 0, 37, 42, 180, 0, 27, 27, 50, 28, 46, 42, 180, 0, 16, 180, 0, 230, 163, 0, 29, 42]
abbrev dktX0_laysSigns_2 : List UInt8 := dkwX0_laysSigns_2 ++ dktX0_laysSigns_3
def dkwX0_laysSigns_1 : List UInt8 := [28, 42, 180, 0, 16, 180, 0, 134, 162, 0, 69, 42, 180, 0, 16, 180, 0, 227, 27, 46, 28, 184, 0, 152]
abbrev dktX0_laysSigns_1 : List UInt8 := dkwX0_laysSigns_1 ++ dktX0_laysSigns_2
def dkwX0_laysSigns_0 : List UInt8 := [42, 180, 0, 36, 184, 0, 203, 3, 60, 27, 42, 180, 0, 16, 180, 0, 134, 162, 0, 90, 27, 4, 96, 61]
abbrev dktX0_laysSigns_0 : List UInt8 := dkwX0_laysSigns_0 ++ dktX0_laysSigns_1
theorem dksX0_laysSigns_0 : cX0_laysSigns.data.toList.drop 0 = dktX0_laysSigns_0 := by decide +kernel
theorem dksX0_laysSigns_1 : cX0_laysSigns.data.toList.drop 24 = dktX0_laysSigns_1 := dk_seg dksX0_laysSigns_0 24 rfl rfl
theorem dksX0_laysSigns_2 : cX0_laysSigns.data.toList.drop 48 = dktX0_laysSigns_2 := dk_seg dksX0_laysSigns_1 24 rfl rfl
theorem dksX0_laysSigns_3 : cX0_laysSigns.data.toList.drop 70 = dktX0_laysSigns_3 := dk_seg dksX0_laysSigns_2 22 rfl rfl
theorem dksX0_laysSigns_4 : cX0_laysSigns.data.toList.drop 94 = dktX0_laysSigns_4 := dk_seg dksX0_laysSigns_3 24 rfl rfl
theorem dksX0_laysSigns_5 : cX0_laysSigns.data.toList.drop 116 = dktX0_laysSigns_5 := dk_seg dksX0_laysSigns_4 22 rfl rfl
theorem dX0_laysSigns_0 : decode cX0_laysSigns 0 = .ok (.aload_n 0, 1) := dk_42 (dk_at dksX0_laysSigns_0 0 rfl rfl)
theorem dX0_laysSigns_1 : decode cX0_laysSigns 1 = .ok (.getfield 36, 3) := dk_180 0 36 (dk_at dksX0_laysSigns_0 1 rfl rfl)
theorem dX0_laysSigns_4 : decode cX0_laysSigns 4 = .ok (.invokestatic 203, 3) := dk_184 0 203 (dk_at dksX0_laysSigns_0 4 rfl rfl)
theorem dX0_laysSigns_7 : decode cX0_laysSigns 7 = .ok (.iconst 0, 1) := dk_3 (dk_at dksX0_laysSigns_0 7 rfl rfl)
theorem dX0_laysSigns_8 : decode cX0_laysSigns 8 = .ok (.istore_n 1, 1) := dk_60 (dk_at dksX0_laysSigns_0 8 rfl rfl)
theorem dX0_laysSigns_9 : decode cX0_laysSigns 9 = .ok (.iload_n 1, 1) := dk_27 (dk_at dksX0_laysSigns_0 9 rfl rfl)
theorem dX0_laysSigns_10 : decode cX0_laysSigns 10 = .ok (.aload_n 0, 1) := dk_42 (dk_at dksX0_laysSigns_0 10 rfl rfl)
theorem dX0_laysSigns_11 : decode cX0_laysSigns 11 = .ok (.getfield 16, 3) := dk_180 0 16 (dk_at dksX0_laysSigns_0 11 rfl rfl)
theorem dX0_laysSigns_14 : decode cX0_laysSigns 14 = .ok (.getfield 134, 3) := dk_180 0 134 (dk_at dksX0_laysSigns_0 14 rfl rfl)
theorem dX0_laysSigns_17 : decode cX0_laysSigns 17 = .ok (.if_icmp .ge 90, 3) := dk_162 0 90 (dk_at dksX0_laysSigns_0 17 rfl rfl)
theorem dX0_laysSigns_20 : decode cX0_laysSigns 20 = .ok (.iload_n 1, 1) := dk_27 (dk_at dksX0_laysSigns_0 20 rfl rfl)
theorem dX0_laysSigns_21 : decode cX0_laysSigns 21 = .ok (.iconst 1, 1) := dk_4 (dk_at dksX0_laysSigns_0 21 rfl rfl)
theorem dX0_laysSigns_22 : decode cX0_laysSigns 22 = .ok (.iadd, 1) := dk_96 (dk_at dksX0_laysSigns_0 22 rfl rfl)
theorem dX0_laysSigns_23 : decode cX0_laysSigns 23 = .ok (.istore_n 2, 1) := dk_61 (dk_at dksX0_laysSigns_0 23 rfl rfl)
theorem dX0_laysSigns_24 : decode cX0_laysSigns 24 = .ok (.iload_n 2, 1) := dk_28 (dk_at dksX0_laysSigns_1 0 rfl rfl)
theorem dX0_laysSigns_25 : decode cX0_laysSigns 25 = .ok (.aload_n 0, 1) := dk_42 (dk_at dksX0_laysSigns_1 1 rfl rfl)
theorem dX0_laysSigns_26 : decode cX0_laysSigns 26 = .ok (.getfield 16, 3) := dk_180 0 16 (dk_at dksX0_laysSigns_1 2 rfl rfl)
theorem dX0_laysSigns_29 : decode cX0_laysSigns 29 = .ok (.getfield 134, 3) := dk_180 0 134 (dk_at dksX0_laysSigns_1 5 rfl rfl)
theorem dX0_laysSigns_32 : decode cX0_laysSigns 32 = .ok (.if_icmp .ge 69, 3) := dk_162 0 69 (dk_at dksX0_laysSigns_1 8 rfl rfl)
theorem dX0_laysSigns_35 : decode cX0_laysSigns 35 = .ok (.aload_n 0, 1) := dk_42 (dk_at dksX0_laysSigns_1 11 rfl rfl)
theorem dX0_laysSigns_36 : decode cX0_laysSigns 36 = .ok (.getfield 16, 3) := dk_180 0 16 (dk_at dksX0_laysSigns_1 12 rfl rfl)
theorem dX0_laysSigns_39 : decode cX0_laysSigns 39 = .ok (.getfield 227, 3) := dk_180 0 227 (dk_at dksX0_laysSigns_1 15 rfl rfl)
theorem dX0_laysSigns_42 : decode cX0_laysSigns 42 = .ok (.iload_n 1, 1) := dk_27 (dk_at dksX0_laysSigns_1 18 rfl rfl)
theorem dX0_laysSigns_43 : decode cX0_laysSigns 43 = .ok (.iaload, 1) := dk_46 (dk_at dksX0_laysSigns_1 19 rfl rfl)
theorem dX0_laysSigns_44 : decode cX0_laysSigns 44 = .ok (.iload_n 2, 1) := dk_28 (dk_at dksX0_laysSigns_1 20 rfl rfl)
theorem dX0_laysSigns_45 : decode cX0_laysSigns 45 = .ok (.invokestatic 152, 3) := dk_184 0 152 (dk_at dksX0_laysSigns_1 21 rfl rfl)
theorem dX0_laysSigns_48 : decode cX0_laysSigns 48 = .ok (.ifCond .ne 37, 3) := dk_154 0 37 (dk_at dksX0_laysSigns_2 0 rfl rfl)
theorem dX0_laysSigns_51 : decode cX0_laysSigns 51 = .ok (.aload_n 0, 1) := dk_42 (dk_at dksX0_laysSigns_2 3 rfl rfl)
theorem dX0_laysSigns_52 : decode cX0_laysSigns 52 = .ok (.getfield 27, 3) := dk_180 0 27 (dk_at dksX0_laysSigns_2 4 rfl rfl)
theorem dX0_laysSigns_55 : decode cX0_laysSigns 55 = .ok (.iload_n 1, 1) := dk_27 (dk_at dksX0_laysSigns_2 7 rfl rfl)
theorem dX0_laysSigns_56 : decode cX0_laysSigns 56 = .ok (.aaload, 1) := dk_50 (dk_at dksX0_laysSigns_2 8 rfl rfl)
theorem dX0_laysSigns_57 : decode cX0_laysSigns 57 = .ok (.iload_n 2, 1) := dk_28 (dk_at dksX0_laysSigns_2 9 rfl rfl)
theorem dX0_laysSigns_58 : decode cX0_laysSigns 58 = .ok (.iaload, 1) := dk_46 (dk_at dksX0_laysSigns_2 10 rfl rfl)
theorem dX0_laysSigns_59 : decode cX0_laysSigns 59 = .ok (.aload_n 0, 1) := dk_42 (dk_at dksX0_laysSigns_2 11 rfl rfl)
theorem dX0_laysSigns_60 : decode cX0_laysSigns 60 = .ok (.getfield 16, 3) := dk_180 0 16 (dk_at dksX0_laysSigns_2 12 rfl rfl)
theorem dX0_laysSigns_63 : decode cX0_laysSigns 63 = .ok (.getfield 230, 3) := dk_180 0 230 (dk_at dksX0_laysSigns_2 15 rfl rfl)
theorem dX0_laysSigns_66 : decode cX0_laysSigns 66 = .ok (.if_icmp .gt 29, 3) := dk_163 0 29 (dk_at dksX0_laysSigns_2 18 rfl rfl)
theorem dX0_laysSigns_69 : decode cX0_laysSigns 69 = .ok (.aload_n 0, 1) := dk_42 (dk_at dksX0_laysSigns_2 21 rfl rfl)
theorem dX0_laysSigns_70 : decode cX0_laysSigns 70 = .ok (.getfield 16, 3) := dk_180 0 16 (dk_at dksX0_laysSigns_3 0 rfl rfl)
theorem dX0_laysSigns_73 : decode cX0_laysSigns 73 = .ok (.getfield 233, 3) := dk_180 0 233 (dk_at dksX0_laysSigns_3 3 rfl rfl)
theorem dX0_laysSigns_76 : decode cX0_laysSigns 76 = .ok (.iload_n 1, 1) := dk_27 (dk_at dksX0_laysSigns_3 6 rfl rfl)
theorem dX0_laysSigns_77 : decode cX0_laysSigns 77 = .ok (.iaload, 1) := dk_46 (dk_at dksX0_laysSigns_3 7 rfl rfl)
theorem dX0_laysSigns_78 : decode cX0_laysSigns 78 = .ok (.iload_n 2, 1) := dk_28 (dk_at dksX0_laysSigns_3 8 rfl rfl)
theorem dX0_laysSigns_79 : decode cX0_laysSigns 79 = .ok (.invokestatic 152, 3) := dk_184 0 152 (dk_at dksX0_laysSigns_3 9 rfl rfl)
theorem dX0_laysSigns_82 : decode cX0_laysSigns 82 = .ok (.ifCond .ne 13, 3) := dk_154 0 13 (dk_at dksX0_laysSigns_3 12 rfl rfl)
theorem dX0_laysSigns_85 : decode cX0_laysSigns 85 = .ok (.aload_n 0, 1) := dk_42 (dk_at dksX0_laysSigns_3 15 rfl rfl)
theorem dX0_laysSigns_86 : decode cX0_laysSigns 86 = .ok (.getfield 36, 3) := dk_180 0 36 (dk_at dksX0_laysSigns_3 16 rfl rfl)
theorem dX0_laysSigns_89 : decode cX0_laysSigns 89 = .ok (.iload_n 1, 1) := dk_27 (dk_at dksX0_laysSigns_3 19 rfl rfl)
theorem dX0_laysSigns_90 : decode cX0_laysSigns 90 = .ok (.iload_n 2, 1) := dk_28 (dk_at dksX0_laysSigns_3 20 rfl rfl)
theorem dX0_laysSigns_91 : decode cX0_laysSigns 91 = .ok (.invokestatic 220, 3) := dk_184 0 220 (dk_at dksX0_laysSigns_3 21 rfl rfl)
theorem dX0_laysSigns_94 : decode cX0_laysSigns 94 = .ok (.pop, 1) := dk_87 (dk_at dksX0_laysSigns_4 0 rfl rfl)
theorem dX0_laysSigns_95 : decode cX0_laysSigns 95 = .ok (.iinc 2 1, 3) := dk_132 2 1 (dk_at dksX0_laysSigns_4 1 rfl rfl)
theorem dX0_laysSigns_98 : decode cX0_laysSigns 98 = .ok (.goto (-74), 3) := dk_167 255 182 (dk_at dksX0_laysSigns_4 4 rfl rfl)
theorem dX0_laysSigns_101 : decode cX0_laysSigns 101 = .ok (.iinc 1 1, 3) := dk_132 1 1 (dk_at dksX0_laysSigns_4 7 rfl rfl)
theorem dX0_laysSigns_104 : decode cX0_laysSigns 104 = .ok (.goto (-95), 3) := dk_167 255 161 (dk_at dksX0_laysSigns_4 10 rfl rfl)
theorem dX0_laysSigns_107 : decode cX0_laysSigns 107 = .ok (.iconst 0, 1) := dk_3 (dk_at dksX0_laysSigns_4 13 rfl rfl)
theorem dX0_laysSigns_108 : decode cX0_laysSigns 108 = .ok (.istore_n 1, 1) := dk_60 (dk_at dksX0_laysSigns_4 14 rfl rfl)
theorem dX0_laysSigns_109 : decode cX0_laysSigns 109 = .ok (.iload_n 1, 1) := dk_27 (dk_at dksX0_laysSigns_4 15 rfl rfl)
theorem dX0_laysSigns_110 : decode cX0_laysSigns 110 = .ok (.bipush 20, 2) := dk_16 20 (dk_at dksX0_laysSigns_4 16 rfl rfl)
theorem dX0_laysSigns_112 : decode cX0_laysSigns 112 = .ok (.if_icmp .ge 23, 3) := dk_162 0 23 (dk_at dksX0_laysSigns_4 18 rfl rfl)
theorem dX0_laysSigns_115 : decode cX0_laysSigns 115 = .ok (.aload_n 0, 1) := dk_42 (dk_at dksX0_laysSigns_4 21 rfl rfl)
theorem dX0_laysSigns_116 : decode cX0_laysSigns 116 = .ok (.getfield 36, 3) := dk_180 0 36 (dk_at dksX0_laysSigns_5 0 rfl rfl)
theorem dX0_laysSigns_119 : decode cX0_laysSigns 119 = .ok (.iload_n 1, 1) := dk_27 (dk_at dksX0_laysSigns_5 3 rfl rfl)
theorem dX0_laysSigns_120 : decode cX0_laysSigns 120 = .ok (.aload_n 0, 1) := dk_42 (dk_at dksX0_laysSigns_5 4 rfl rfl)
theorem dX0_laysSigns_121 : decode cX0_laysSigns 121 = .ok (.getfield 36, 3) := dk_180 0 36 (dk_at dksX0_laysSigns_5 5 rfl rfl)
theorem dX0_laysSigns_124 : decode cX0_laysSigns 124 = .ok (.iload_n 1, 1) := dk_27 (dk_at dksX0_laysSigns_5 8 rfl rfl)
theorem dX0_laysSigns_125 : decode cX0_laysSigns 125 = .ok (.invokestatic 180, 3) := dk_184 0 180 (dk_at dksX0_laysSigns_5 9 rfl rfl)
theorem dX0_laysSigns_128 : decode cX0_laysSigns 128 = .ok (.iastore, 1) := dk_79 (dk_at dksX0_laysSigns_5 12 rfl rfl)
theorem dX0_laysSigns_129 : decode cX0_laysSigns 129 = .ok (.iinc 1 1, 3) := dk_132 1 1 (dk_at dksX0_laysSigns_5 13 rfl rfl)
theorem dX0_laysSigns_132 : decode cX0_laysSigns 132 = .ok (.goto (-23), 3) := dk_167 255 233 (dk_at dksX0_laysSigns_5 16 rfl rfl)
theorem dX0_laysSigns_135 : decode cX0_laysSigns 135 = .ok (.return_, 1) := dk_177 (dk_at dksX0_laysSigns_5 19 rfl rfl)
def dkwX0_parts_0 : List UInt8 := [3, 60, 27, 42, 190, 162, 0, 13, 42, 27, 27, 79, 132, 1, 1, 167, 255, 243, 177]
abbrev dktX0_parts_0 : List UInt8 := dkwX0_parts_0 ++ []
theorem dksX0_parts_0 : cX0_parts.data.toList.drop 0 = dktX0_parts_0 := by decide +kernel
theorem dX0_parts_0 : decode cX0_parts 0 = .ok (.iconst 0, 1) := dk_3 (dk_at dksX0_parts_0 0 rfl rfl)
theorem dX0_parts_1 : decode cX0_parts 1 = .ok (.istore_n 1, 1) := dk_60 (dk_at dksX0_parts_0 1 rfl rfl)
theorem dX0_parts_2 : decode cX0_parts 2 = .ok (.iload_n 1, 1) := dk_27 (dk_at dksX0_parts_0 2 rfl rfl)
theorem dX0_parts_3 : decode cX0_parts 3 = .ok (.aload_n 0, 1) := dk_42 (dk_at dksX0_parts_0 3 rfl rfl)
theorem dX0_parts_4 : decode cX0_parts 4 = .ok (.arraylength, 1) := dk_190 (dk_at dksX0_parts_0 4 rfl rfl)
theorem dX0_parts_5 : decode cX0_parts 5 = .ok (.if_icmp .ge 13, 3) := dk_162 0 13 (dk_at dksX0_parts_0 5 rfl rfl)
theorem dX0_parts_8 : decode cX0_parts 8 = .ok (.aload_n 0, 1) := dk_42 (dk_at dksX0_parts_0 8 rfl rfl)
theorem dX0_parts_9 : decode cX0_parts 9 = .ok (.iload_n 1, 1) := dk_27 (dk_at dksX0_parts_0 9 rfl rfl)
theorem dX0_parts_10 : decode cX0_parts 10 = .ok (.iload_n 1, 1) := dk_27 (dk_at dksX0_parts_0 10 rfl rfl)
theorem dX0_parts_11 : decode cX0_parts 11 = .ok (.iastore, 1) := dk_79 (dk_at dksX0_parts_0 11 rfl rfl)
theorem dX0_parts_12 : decode cX0_parts 12 = .ok (.iinc 1 1, 3) := dk_132 1 1 (dk_at dksX0_parts_0 12 rfl rfl)
theorem dX0_parts_15 : decode cX0_parts 15 = .ok (.goto (-13), 3) := dk_167 255 243 (dk_at dksX0_parts_0 15 rfl rfl)
theorem dX0_parts_18 : decode cX0_parts 18 = .ok (.return_, 1) := dk_177 (dk_at dksX0_parts_0 18 rfl rfl)
def dkwX0_has_0 : List UInt8 := [26, 27, 122, 4, 126, 4, 160, 0, 7, 4, 167, 0, 4, 3, 172]
abbrev dktX0_has_0 : List UInt8 := dkwX0_has_0 ++ []
theorem dksX0_has_0 : cX0_has.data.toList.drop 0 = dktX0_has_0 := by decide +kernel
theorem dX0_has_0 : decode cX0_has 0 = .ok (.iload_n 0, 1) := dk_26 (dk_at dksX0_has_0 0 rfl rfl)
theorem dX0_has_1 : decode cX0_has 1 = .ok (.iload_n 1, 1) := dk_27 (dk_at dksX0_has_0 1 rfl rfl)
theorem dX0_has_2 : decode cX0_has 2 = .ok (.ishr, 1) := dk_122 (dk_at dksX0_has_0 2 rfl rfl)
theorem dX0_has_3 : decode cX0_has 3 = .ok (.iconst 1, 1) := dk_4 (dk_at dksX0_has_0 3 rfl rfl)
theorem dX0_has_4 : decode cX0_has 4 = .ok (.iand, 1) := dk_126 (dk_at dksX0_has_0 4 rfl rfl)
theorem dX0_has_5 : decode cX0_has 5 = .ok (.iconst 1, 1) := dk_4 (dk_at dksX0_has_0 5 rfl rfl)
theorem dX0_has_6 : decode cX0_has 6 = .ok (.if_icmp .ne 7, 3) := dk_160 0 7 (dk_at dksX0_has_0 6 rfl rfl)
theorem dX0_has_9 : decode cX0_has 9 = .ok (.iconst 1, 1) := dk_4 (dk_at dksX0_has_0 9 rfl rfl)
theorem dX0_has_10 : decode cX0_has 10 = .ok (.goto 4, 3) := dk_167 0 4 (dk_at dksX0_has_0 10 rfl rfl)
theorem dX0_has_13 : decode cX0_has 13 = .ok (.iconst 0, 1) := dk_3 (dk_at dksX0_has_0 13 rfl rfl)
theorem dX0_has_14 : decode cX0_has 14 = .ok (.ireturn, 1) := dk_172 (dk_at dksX0_has_0 14 rfl rfl)
def dkwX0_joins_1 : List UInt8 := [184, 0, 167, 79, 29, 21, 4, 159, 0, 7, 4, 167, 0, 4, 3, 172]
abbrev dktX0_joins_1 : List UInt8 := dkwX0_joins_1 ++ []
def dkwX0_joins_0 : List UInt8 := [42, 27, 184, 0, 180, 62, 42, 28, 184, 0, 180, 54, 4, 42, 29, 21, 4, 184, 0, 184, 29, 21, 4]
abbrev dktX0_joins_0 : List UInt8 := dkwX0_joins_0 ++ dktX0_joins_1
theorem dksX0_joins_0 : cX0_joins.data.toList.drop 0 = dktX0_joins_0 := by decide +kernel
theorem dksX0_joins_1 : cX0_joins.data.toList.drop 23 = dktX0_joins_1 := dk_seg dksX0_joins_0 23 rfl rfl
theorem dX0_joins_0 : decode cX0_joins 0 = .ok (.aload_n 0, 1) := dk_42 (dk_at dksX0_joins_0 0 rfl rfl)
theorem dX0_joins_1 : decode cX0_joins 1 = .ok (.iload_n 1, 1) := dk_27 (dk_at dksX0_joins_0 1 rfl rfl)
theorem dX0_joins_2 : decode cX0_joins 2 = .ok (.invokestatic 180, 3) := dk_184 0 180 (dk_at dksX0_joins_0 2 rfl rfl)
theorem dX0_joins_5 : decode cX0_joins 5 = .ok (.istore_n 3, 1) := dk_62 (dk_at dksX0_joins_0 5 rfl rfl)
theorem dX0_joins_6 : decode cX0_joins 6 = .ok (.aload_n 0, 1) := dk_42 (dk_at dksX0_joins_0 6 rfl rfl)
theorem dX0_joins_7 : decode cX0_joins 7 = .ok (.iload_n 2, 1) := dk_28 (dk_at dksX0_joins_0 7 rfl rfl)
theorem dX0_joins_8 : decode cX0_joins 8 = .ok (.invokestatic 180, 3) := dk_184 0 180 (dk_at dksX0_joins_0 8 rfl rfl)
theorem dX0_joins_11 : decode cX0_joins 11 = .ok (.istore 4, 2) := dk_54 4 (dk_at dksX0_joins_0 11 rfl rfl)
theorem dX0_joins_13 : decode cX0_joins 13 = .ok (.aload_n 0, 1) := dk_42 (dk_at dksX0_joins_0 13 rfl rfl)
theorem dX0_joins_14 : decode cX0_joins 14 = .ok (.iload_n 3, 1) := dk_29 (dk_at dksX0_joins_0 14 rfl rfl)
theorem dX0_joins_15 : decode cX0_joins 15 = .ok (.iload 4, 2) := dk_21 4 (dk_at dksX0_joins_0 15 rfl rfl)
theorem dX0_joins_17 : decode cX0_joins 17 = .ok (.invokestatic 184, 3) := dk_184 0 184 (dk_at dksX0_joins_0 17 rfl rfl)
theorem dX0_joins_20 : decode cX0_joins 20 = .ok (.iload_n 3, 1) := dk_29 (dk_at dksX0_joins_0 20 rfl rfl)
theorem dX0_joins_21 : decode cX0_joins 21 = .ok (.iload 4, 2) := dk_21 4 (dk_at dksX0_joins_0 21 rfl rfl)
theorem dX0_joins_23 : decode cX0_joins 23 = .ok (.invokestatic 167, 3) := dk_184 0 167 (dk_at dksX0_joins_1 0 rfl rfl)
theorem dX0_joins_26 : decode cX0_joins 26 = .ok (.iastore, 1) := dk_79 (dk_at dksX0_joins_1 3 rfl rfl)
theorem dX0_joins_27 : decode cX0_joins 27 = .ok (.iload_n 3, 1) := dk_29 (dk_at dksX0_joins_1 4 rfl rfl)
theorem dX0_joins_28 : decode cX0_joins 28 = .ok (.iload 4, 2) := dk_21 4 (dk_at dksX0_joins_1 5 rfl rfl)
theorem dX0_joins_30 : decode cX0_joins 30 = .ok (.if_icmp .eq 7, 3) := dk_159 0 7 (dk_at dksX0_joins_1 7 rfl rfl)
theorem dX0_joins_33 : decode cX0_joins 33 = .ok (.iconst 1, 1) := dk_4 (dk_at dksX0_joins_1 10 rfl rfl)
theorem dX0_joins_34 : decode cX0_joins 34 = .ok (.goto 4, 3) := dk_167 0 4 (dk_at dksX0_joins_1 11 rfl rfl)
theorem dX0_joins_37 : decode cX0_joins 37 = .ok (.iconst 0, 1) := dk_3 (dk_at dksX0_joins_1 14 rfl rfl)
theorem dX0_joins_38 : decode cX0_joins 38 = .ok (.ireturn, 1) := dk_172 (dk_at dksX0_joins_1 15 rfl rfl)
def dkwX0_root_0 : List UInt8 := [42, 27, 46, 27, 160, 0, 7, 27, 167, 0, 10, 42, 42, 27, 46, 184, 0, 180, 172]
abbrev dktX0_root_0 : List UInt8 := dkwX0_root_0 ++ []
theorem dksX0_root_0 : cX0_root.data.toList.drop 0 = dktX0_root_0 := by decide +kernel
theorem dX0_root_0 : decode cX0_root 0 = .ok (.aload_n 0, 1) := dk_42 (dk_at dksX0_root_0 0 rfl rfl)
theorem dX0_root_1 : decode cX0_root 1 = .ok (.iload_n 1, 1) := dk_27 (dk_at dksX0_root_0 1 rfl rfl)
theorem dX0_root_2 : decode cX0_root 2 = .ok (.iaload, 1) := dk_46 (dk_at dksX0_root_0 2 rfl rfl)
theorem dX0_root_3 : decode cX0_root 3 = .ok (.iload_n 1, 1) := dk_27 (dk_at dksX0_root_0 3 rfl rfl)
theorem dX0_root_4 : decode cX0_root 4 = .ok (.if_icmp .ne 7, 3) := dk_160 0 7 (dk_at dksX0_root_0 4 rfl rfl)
theorem dX0_root_7 : decode cX0_root 7 = .ok (.iload_n 1, 1) := dk_27 (dk_at dksX0_root_0 7 rfl rfl)
theorem dX0_root_8 : decode cX0_root 8 = .ok (.goto 10, 3) := dk_167 0 10 (dk_at dksX0_root_0 8 rfl rfl)
theorem dX0_root_11 : decode cX0_root 11 = .ok (.aload_n 0, 1) := dk_42 (dk_at dksX0_root_0 11 rfl rfl)
theorem dX0_root_12 : decode cX0_root 12 = .ok (.aload_n 0, 1) := dk_42 (dk_at dksX0_root_0 12 rfl rfl)
theorem dX0_root_13 : decode cX0_root 13 = .ok (.iload_n 1, 1) := dk_27 (dk_at dksX0_root_0 13 rfl rfl)
theorem dX0_root_14 : decode cX0_root 14 = .ok (.iaload, 1) := dk_46 (dk_at dksX0_root_0 14 rfl rfl)
theorem dX0_root_15 : decode cX0_root 15 = .ok (.invokestatic 180, 3) := dk_184 0 180 (dk_at dksX0_root_0 15 rfl rfl)
theorem dX0_root_18 : decode cX0_root 18 = .ok (.ireturn, 1) := dk_172 (dk_at dksX0_root_0 18 rfl rfl)
def dkwX0_judges_11 : List UInt8 := [79, 177]
abbrev dktX0_judges_11 : List UInt8 := dkwX0_judges_11 ++ []
def dkwX0_judges_10 : List UInt8 := [180, 0, 50, 3, 42, 180, 0, 50, 6, 46, 42, 180, 0, 50, 7, 46, 163, 0, 7, 3, 167, 0, 4, 4]
abbrev dktX0_judges_10 : List UInt8 := dkwX0_judges_10 ++ dktX0_judges_11
def dkwX0_judges_9 : List UInt8 := [159, 0, 23, 42, 180, 0, 50, 3, 29, 21, 4, 164, 0, 7, 3, 167, 0, 4, 4, 79, 167, 0, 29, 42]
abbrev dktX0_judges_9 : List UInt8 := dkwX0_judges_9 ++ dktX0_judges_10
def dkwX0_judges_8 : List UInt8 := [180, 0, 50, 6, 27, 184, 0, 162, 79, 42, 180, 0, 50, 7, 28, 184, 0, 162, 79, 29, 21, 4]
abbrev dktX0_judges_8 : List UInt8 := dkwX0_judges_8 ++ dktX0_judges_9
def dkwX0_judges_7 : List UInt8 := [54, 4, 132, 5, 1, 167, 255, 99, 42, 180, 0, 50, 4, 29, 79, 42, 180, 0, 50, 5, 21, 4, 79, 42]
abbrev dktX0_judges_7 : List UInt8 := dkwX0_judges_7 ++ dktX0_judges_8
def dkwX0_judges_6 : List UInt8 := [62, 21, 4, 25, 6, 180, 0, 236, 4, 164, 0, 12, 21, 7, 156, 0, 7, 4, 167, 0, 4, 3, 96]
abbrev dktX0_judges_6 : List UInt8 := dkwX0_judges_6 ++ dktX0_judges_7
def dkwX0_judges_5 : List UInt8 := [100, 54, 7, 29, 25, 6, 180, 0, 236, 4, 164, 0, 12, 21, 7, 158, 0, 7, 4, 167, 0, 4, 3, 96]
abbrev dktX0_judges_5 : List UInt8 := dkwX0_judges_5 ++ dktX0_judges_6
def dkwX0_judges_4 : List UInt8 := [25, 6, 180, 0, 236, 4, 100, 4, 182, 0, 245, 25, 6, 25, 6, 180, 0, 236, 4, 100, 3, 182, 0, 245]
abbrev dktX0_judges_4 : List UInt8 := dkwX0_judges_4 ++ dktX0_judges_5
def dkwX0_judges_3 : List UInt8 := [180, 0, 36, 25, 6, 21, 7, 3, 182, 0, 241, 46, 120, 128, 61, 132, 7, 1, 167, 255, 207, 25, 6]
abbrev dktX0_judges_3 : List UInt8 := dkwX0_judges_3 ++ dktX0_judges_4
def dkwX0_judges_2 : List UInt8 := [162, 0, 45, 27, 4, 42, 180, 0, 36, 25, 6, 21, 7, 4, 182, 0, 241, 46, 120, 128, 60, 28, 4, 42]
abbrev dktX0_judges_2 : List UInt8 := dkwX0_judges_2 ++ dktX0_judges_3
def dkwX0_judges_1 : List UInt8 := [42, 180, 0, 16, 180, 0, 139, 21, 5, 50, 58, 6, 3, 54, 7, 21, 7, 25, 6, 180, 0, 236]
abbrev dktX0_judges_1 : List UInt8 := dkwX0_judges_1 ++ dktX0_judges_2
def dkwX0_judges_0 : List UInt8 := [3, 60, 3, 61, 3, 62, 3, 54, 4, 3, 54, 5, 21, 5, 42, 180, 0, 16, 180, 0, 136, 162, 0, 151]
abbrev dktX0_judges_0 : List UInt8 := dkwX0_judges_0 ++ dktX0_judges_1
theorem dksX0_judges_0 : cX0_judges.data.toList.drop 0 = dktX0_judges_0 := by decide +kernel
theorem dksX0_judges_1 : cX0_judges.data.toList.drop 24 = dktX0_judges_1 := dk_seg dksX0_judges_0 24 rfl rfl
theorem dksX0_judges_2 : cX0_judges.data.toList.drop 46 = dktX0_judges_2 := dk_seg dksX0_judges_1 22 rfl rfl
theorem dksX0_judges_3 : cX0_judges.data.toList.drop 70 = dktX0_judges_3 := dk_seg dksX0_judges_2 24 rfl rfl
theorem dksX0_judges_4 : cX0_judges.data.toList.drop 93 = dktX0_judges_4 := dk_seg dksX0_judges_3 23 rfl rfl
theorem dksX0_judges_5 : cX0_judges.data.toList.drop 117 = dktX0_judges_5 := dk_seg dksX0_judges_4 24 rfl rfl
theorem dksX0_judges_6 : cX0_judges.data.toList.drop 141 = dktX0_judges_6 := dk_seg dksX0_judges_5 24 rfl rfl
theorem dksX0_judges_7 : cX0_judges.data.toList.drop 164 = dktX0_judges_7 := dk_seg dksX0_judges_6 23 rfl rfl
theorem dksX0_judges_8 : cX0_judges.data.toList.drop 188 = dktX0_judges_8 := dk_seg dksX0_judges_7 24 rfl rfl
theorem dksX0_judges_9 : cX0_judges.data.toList.drop 210 = dktX0_judges_9 := dk_seg dksX0_judges_8 22 rfl rfl
theorem dksX0_judges_10 : cX0_judges.data.toList.drop 234 = dktX0_judges_10 := dk_seg dksX0_judges_9 24 rfl rfl
theorem dksX0_judges_11 : cX0_judges.data.toList.drop 258 = dktX0_judges_11 := dk_seg dksX0_judges_10 24 rfl rfl
theorem dX0_judges_0 : decode cX0_judges 0 = .ok (.iconst 0, 1) := dk_3 (dk_at dksX0_judges_0 0 rfl rfl)
theorem dX0_judges_1 : decode cX0_judges 1 = .ok (.istore_n 1, 1) := dk_60 (dk_at dksX0_judges_0 1 rfl rfl)
theorem dX0_judges_2 : decode cX0_judges 2 = .ok (.iconst 0, 1) := dk_3 (dk_at dksX0_judges_0 2 rfl rfl)
theorem dX0_judges_3 : decode cX0_judges 3 = .ok (.istore_n 2, 1) := dk_61 (dk_at dksX0_judges_0 3 rfl rfl)
theorem dX0_judges_4 : decode cX0_judges 4 = .ok (.iconst 0, 1) := dk_3 (dk_at dksX0_judges_0 4 rfl rfl)
theorem dX0_judges_5 : decode cX0_judges 5 = .ok (.istore_n 3, 1) := dk_62 (dk_at dksX0_judges_0 5 rfl rfl)
theorem dX0_judges_6 : decode cX0_judges 6 = .ok (.iconst 0, 1) := dk_3 (dk_at dksX0_judges_0 6 rfl rfl)
theorem dX0_judges_7 : decode cX0_judges 7 = .ok (.istore 4, 2) := dk_54 4 (dk_at dksX0_judges_0 7 rfl rfl)
theorem dX0_judges_9 : decode cX0_judges 9 = .ok (.iconst 0, 1) := dk_3 (dk_at dksX0_judges_0 9 rfl rfl)
theorem dX0_judges_10 : decode cX0_judges 10 = .ok (.istore 5, 2) := dk_54 5 (dk_at dksX0_judges_0 10 rfl rfl)
theorem dX0_judges_12 : decode cX0_judges 12 = .ok (.iload 5, 2) := dk_21 5 (dk_at dksX0_judges_0 12 rfl rfl)
theorem dX0_judges_14 : decode cX0_judges 14 = .ok (.aload_n 0, 1) := dk_42 (dk_at dksX0_judges_0 14 rfl rfl)
theorem dX0_judges_15 : decode cX0_judges 15 = .ok (.getfield 16, 3) := dk_180 0 16 (dk_at dksX0_judges_0 15 rfl rfl)
theorem dX0_judges_18 : decode cX0_judges 18 = .ok (.getfield 136, 3) := dk_180 0 136 (dk_at dksX0_judges_0 18 rfl rfl)
theorem dX0_judges_21 : decode cX0_judges 21 = .ok (.if_icmp .ge 151, 3) := dk_162 0 151 (dk_at dksX0_judges_0 21 rfl rfl)
theorem dX0_judges_24 : decode cX0_judges 24 = .ok (.aload_n 0, 1) := dk_42 (dk_at dksX0_judges_1 0 rfl rfl)
theorem dX0_judges_25 : decode cX0_judges 25 = .ok (.getfield 16, 3) := dk_180 0 16 (dk_at dksX0_judges_1 1 rfl rfl)
theorem dX0_judges_28 : decode cX0_judges 28 = .ok (.getfield 139, 3) := dk_180 0 139 (dk_at dksX0_judges_1 4 rfl rfl)
theorem dX0_judges_31 : decode cX0_judges 31 = .ok (.iload 5, 2) := dk_21 5 (dk_at dksX0_judges_1 7 rfl rfl)
theorem dX0_judges_33 : decode cX0_judges 33 = .ok (.aaload, 1) := dk_50 (dk_at dksX0_judges_1 9 rfl rfl)
theorem dX0_judges_34 : decode cX0_judges 34 = .ok (.astore 6, 2) := dk_58 6 (dk_at dksX0_judges_1 10 rfl rfl)
theorem dX0_judges_36 : decode cX0_judges 36 = .ok (.iconst 0, 1) := dk_3 (dk_at dksX0_judges_1 12 rfl rfl)
theorem dX0_judges_37 : decode cX0_judges 37 = .ok (.istore 7, 2) := dk_54 7 (dk_at dksX0_judges_1 13 rfl rfl)
theorem dX0_judges_39 : decode cX0_judges 39 = .ok (.iload 7, 2) := dk_21 7 (dk_at dksX0_judges_1 15 rfl rfl)
theorem dX0_judges_41 : decode cX0_judges 41 = .ok (.aload 6, 2) := dk_25 6 (dk_at dksX0_judges_1 17 rfl rfl)
theorem dX0_judges_43 : decode cX0_judges 43 = .ok (.getfield 236, 3) := dk_180 0 236 (dk_at dksX0_judges_1 19 rfl rfl)
theorem dX0_judges_46 : decode cX0_judges 46 = .ok (.if_icmp .ge 45, 3) := dk_162 0 45 (dk_at dksX0_judges_2 0 rfl rfl)
theorem dX0_judges_49 : decode cX0_judges 49 = .ok (.iload_n 1, 1) := dk_27 (dk_at dksX0_judges_2 3 rfl rfl)
theorem dX0_judges_50 : decode cX0_judges 50 = .ok (.iconst 1, 1) := dk_4 (dk_at dksX0_judges_2 4 rfl rfl)
theorem dX0_judges_51 : decode cX0_judges 51 = .ok (.aload_n 0, 1) := dk_42 (dk_at dksX0_judges_2 5 rfl rfl)
theorem dX0_judges_52 : decode cX0_judges 52 = .ok (.getfield 36, 3) := dk_180 0 36 (dk_at dksX0_judges_2 6 rfl rfl)
theorem dX0_judges_55 : decode cX0_judges 55 = .ok (.aload 6, 2) := dk_25 6 (dk_at dksX0_judges_2 9 rfl rfl)
theorem dX0_judges_57 : decode cX0_judges 57 = .ok (.iload 7, 2) := dk_21 7 (dk_at dksX0_judges_2 11 rfl rfl)
theorem dX0_judges_59 : decode cX0_judges 59 = .ok (.iconst 1, 1) := dk_4 (dk_at dksX0_judges_2 13 rfl rfl)
theorem dX0_judges_60 : decode cX0_judges 60 = .ok (.invokevirtual 241, 3) := dk_182 0 241 (dk_at dksX0_judges_2 14 rfl rfl)
theorem dX0_judges_63 : decode cX0_judges 63 = .ok (.iaload, 1) := dk_46 (dk_at dksX0_judges_2 17 rfl rfl)
theorem dX0_judges_64 : decode cX0_judges 64 = .ok (.ishl, 1) := dk_120 (dk_at dksX0_judges_2 18 rfl rfl)
theorem dX0_judges_65 : decode cX0_judges 65 = .ok (.ior, 1) := dk_128 (dk_at dksX0_judges_2 19 rfl rfl)
theorem dX0_judges_66 : decode cX0_judges 66 = .ok (.istore_n 1, 1) := dk_60 (dk_at dksX0_judges_2 20 rfl rfl)
theorem dX0_judges_67 : decode cX0_judges 67 = .ok (.iload_n 2, 1) := dk_28 (dk_at dksX0_judges_2 21 rfl rfl)
theorem dX0_judges_68 : decode cX0_judges 68 = .ok (.iconst 1, 1) := dk_4 (dk_at dksX0_judges_2 22 rfl rfl)
theorem dX0_judges_69 : decode cX0_judges 69 = .ok (.aload_n 0, 1) := dk_42 (dk_at dksX0_judges_2 23 rfl rfl)
theorem dX0_judges_70 : decode cX0_judges 70 = .ok (.getfield 36, 3) := dk_180 0 36 (dk_at dksX0_judges_3 0 rfl rfl)
theorem dX0_judges_73 : decode cX0_judges 73 = .ok (.aload 6, 2) := dk_25 6 (dk_at dksX0_judges_3 3 rfl rfl)
theorem dX0_judges_75 : decode cX0_judges 75 = .ok (.iload 7, 2) := dk_21 7 (dk_at dksX0_judges_3 5 rfl rfl)
theorem dX0_judges_77 : decode cX0_judges 77 = .ok (.iconst 0, 1) := dk_3 (dk_at dksX0_judges_3 7 rfl rfl)
theorem dX0_judges_78 : decode cX0_judges 78 = .ok (.invokevirtual 241, 3) := dk_182 0 241 (dk_at dksX0_judges_3 8 rfl rfl)
theorem dX0_judges_81 : decode cX0_judges 81 = .ok (.iaload, 1) := dk_46 (dk_at dksX0_judges_3 11 rfl rfl)
theorem dX0_judges_82 : decode cX0_judges 82 = .ok (.ishl, 1) := dk_120 (dk_at dksX0_judges_3 12 rfl rfl)
theorem dX0_judges_83 : decode cX0_judges 83 = .ok (.ior, 1) := dk_128 (dk_at dksX0_judges_3 13 rfl rfl)
theorem dX0_judges_84 : decode cX0_judges 84 = .ok (.istore_n 2, 1) := dk_61 (dk_at dksX0_judges_3 14 rfl rfl)
theorem dX0_judges_85 : decode cX0_judges 85 = .ok (.iinc 7 1, 3) := dk_132 7 1 (dk_at dksX0_judges_3 15 rfl rfl)
theorem dX0_judges_88 : decode cX0_judges 88 = .ok (.goto (-49), 3) := dk_167 255 207 (dk_at dksX0_judges_3 18 rfl rfl)
theorem dX0_judges_91 : decode cX0_judges 91 = .ok (.aload 6, 2) := dk_25 6 (dk_at dksX0_judges_3 21 rfl rfl)
theorem dX0_judges_93 : decode cX0_judges 93 = .ok (.aload 6, 2) := dk_25 6 (dk_at dksX0_judges_4 0 rfl rfl)
theorem dX0_judges_95 : decode cX0_judges 95 = .ok (.getfield 236, 3) := dk_180 0 236 (dk_at dksX0_judges_4 2 rfl rfl)
theorem dX0_judges_98 : decode cX0_judges 98 = .ok (.iconst 1, 1) := dk_4 (dk_at dksX0_judges_4 5 rfl rfl)
theorem dX0_judges_99 : decode cX0_judges 99 = .ok (.isub, 1) := dk_100 (dk_at dksX0_judges_4 6 rfl rfl)
theorem dX0_judges_100 : decode cX0_judges 100 = .ok (.iconst 1, 1) := dk_4 (dk_at dksX0_judges_4 7 rfl rfl)
theorem dX0_judges_101 : decode cX0_judges 101 = .ok (.invokevirtual 245, 3) := dk_182 0 245 (dk_at dksX0_judges_4 8 rfl rfl)
theorem dX0_judges_104 : decode cX0_judges 104 = .ok (.aload 6, 2) := dk_25 6 (dk_at dksX0_judges_4 11 rfl rfl)
theorem dX0_judges_106 : decode cX0_judges 106 = .ok (.aload 6, 2) := dk_25 6 (dk_at dksX0_judges_4 13 rfl rfl)
theorem dX0_judges_108 : decode cX0_judges 108 = .ok (.getfield 236, 3) := dk_180 0 236 (dk_at dksX0_judges_4 15 rfl rfl)
theorem dX0_judges_111 : decode cX0_judges 111 = .ok (.iconst 1, 1) := dk_4 (dk_at dksX0_judges_4 18 rfl rfl)
theorem dX0_judges_112 : decode cX0_judges 112 = .ok (.isub, 1) := dk_100 (dk_at dksX0_judges_4 19 rfl rfl)
theorem dX0_judges_113 : decode cX0_judges 113 = .ok (.iconst 0, 1) := dk_3 (dk_at dksX0_judges_4 20 rfl rfl)
theorem dX0_judges_114 : decode cX0_judges 114 = .ok (.invokevirtual 245, 3) := dk_182 0 245 (dk_at dksX0_judges_4 21 rfl rfl)
theorem dX0_judges_117 : decode cX0_judges 117 = .ok (.isub, 1) := dk_100 (dk_at dksX0_judges_5 0 rfl rfl)
theorem dX0_judges_118 : decode cX0_judges 118 = .ok (.istore 7, 2) := dk_54 7 (dk_at dksX0_judges_5 1 rfl rfl)
theorem dX0_judges_120 : decode cX0_judges 120 = .ok (.iload_n 3, 1) := dk_29 (dk_at dksX0_judges_5 3 rfl rfl)
theorem dX0_judges_121 : decode cX0_judges 121 = .ok (.aload 6, 2) := dk_25 6 (dk_at dksX0_judges_5 4 rfl rfl)
theorem dX0_judges_123 : decode cX0_judges 123 = .ok (.getfield 236, 3) := dk_180 0 236 (dk_at dksX0_judges_5 6 rfl rfl)
theorem dX0_judges_126 : decode cX0_judges 126 = .ok (.iconst 1, 1) := dk_4 (dk_at dksX0_judges_5 9 rfl rfl)
theorem dX0_judges_127 : decode cX0_judges 127 = .ok (.if_icmp .le 12, 3) := dk_164 0 12 (dk_at dksX0_judges_5 10 rfl rfl)
theorem dX0_judges_130 : decode cX0_judges 130 = .ok (.iload 7, 2) := dk_21 7 (dk_at dksX0_judges_5 13 rfl rfl)
theorem dX0_judges_132 : decode cX0_judges 132 = .ok (.ifCond .le 7, 3) := dk_158 0 7 (dk_at dksX0_judges_5 15 rfl rfl)
theorem dX0_judges_135 : decode cX0_judges 135 = .ok (.iconst 1, 1) := dk_4 (dk_at dksX0_judges_5 18 rfl rfl)
theorem dX0_judges_136 : decode cX0_judges 136 = .ok (.goto 4, 3) := dk_167 0 4 (dk_at dksX0_judges_5 19 rfl rfl)
theorem dX0_judges_139 : decode cX0_judges 139 = .ok (.iconst 0, 1) := dk_3 (dk_at dksX0_judges_5 22 rfl rfl)
theorem dX0_judges_140 : decode cX0_judges 140 = .ok (.iadd, 1) := dk_96 (dk_at dksX0_judges_5 23 rfl rfl)
theorem dX0_judges_141 : decode cX0_judges 141 = .ok (.istore_n 3, 1) := dk_62 (dk_at dksX0_judges_6 0 rfl rfl)
theorem dX0_judges_142 : decode cX0_judges 142 = .ok (.iload 4, 2) := dk_21 4 (dk_at dksX0_judges_6 1 rfl rfl)
theorem dX0_judges_144 : decode cX0_judges 144 = .ok (.aload 6, 2) := dk_25 6 (dk_at dksX0_judges_6 3 rfl rfl)
theorem dX0_judges_146 : decode cX0_judges 146 = .ok (.getfield 236, 3) := dk_180 0 236 (dk_at dksX0_judges_6 5 rfl rfl)
theorem dX0_judges_149 : decode cX0_judges 149 = .ok (.iconst 1, 1) := dk_4 (dk_at dksX0_judges_6 8 rfl rfl)
theorem dX0_judges_150 : decode cX0_judges 150 = .ok (.if_icmp .le 12, 3) := dk_164 0 12 (dk_at dksX0_judges_6 9 rfl rfl)
theorem dX0_judges_153 : decode cX0_judges 153 = .ok (.iload 7, 2) := dk_21 7 (dk_at dksX0_judges_6 12 rfl rfl)
theorem dX0_judges_155 : decode cX0_judges 155 = .ok (.ifCond .ge 7, 3) := dk_156 0 7 (dk_at dksX0_judges_6 14 rfl rfl)
theorem dX0_judges_158 : decode cX0_judges 158 = .ok (.iconst 1, 1) := dk_4 (dk_at dksX0_judges_6 17 rfl rfl)
theorem dX0_judges_159 : decode cX0_judges 159 = .ok (.goto 4, 3) := dk_167 0 4 (dk_at dksX0_judges_6 18 rfl rfl)
theorem dX0_judges_162 : decode cX0_judges 162 = .ok (.iconst 0, 1) := dk_3 (dk_at dksX0_judges_6 21 rfl rfl)
theorem dX0_judges_163 : decode cX0_judges 163 = .ok (.iadd, 1) := dk_96 (dk_at dksX0_judges_6 22 rfl rfl)
theorem dX0_judges_164 : decode cX0_judges 164 = .ok (.istore 4, 2) := dk_54 4 (dk_at dksX0_judges_7 0 rfl rfl)
theorem dX0_judges_166 : decode cX0_judges 166 = .ok (.iinc 5 1, 3) := dk_132 5 1 (dk_at dksX0_judges_7 2 rfl rfl)
theorem dX0_judges_169 : decode cX0_judges 169 = .ok (.goto (-157), 3) := dk_167 255 99 (dk_at dksX0_judges_7 5 rfl rfl)
theorem dX0_judges_172 : decode cX0_judges 172 = .ok (.aload_n 0, 1) := dk_42 (dk_at dksX0_judges_7 8 rfl rfl)
theorem dX0_judges_173 : decode cX0_judges 173 = .ok (.getfield 50, 3) := dk_180 0 50 (dk_at dksX0_judges_7 9 rfl rfl)
theorem dX0_judges_176 : decode cX0_judges 176 = .ok (.iconst 1, 1) := dk_4 (dk_at dksX0_judges_7 12 rfl rfl)
theorem dX0_judges_177 : decode cX0_judges 177 = .ok (.iload_n 3, 1) := dk_29 (dk_at dksX0_judges_7 13 rfl rfl)
theorem dX0_judges_178 : decode cX0_judges 178 = .ok (.iastore, 1) := dk_79 (dk_at dksX0_judges_7 14 rfl rfl)
theorem dX0_judges_179 : decode cX0_judges 179 = .ok (.aload_n 0, 1) := dk_42 (dk_at dksX0_judges_7 15 rfl rfl)
theorem dX0_judges_180 : decode cX0_judges 180 = .ok (.getfield 50, 3) := dk_180 0 50 (dk_at dksX0_judges_7 16 rfl rfl)
theorem dX0_judges_183 : decode cX0_judges 183 = .ok (.iconst 2, 1) := dk_5 (dk_at dksX0_judges_7 19 rfl rfl)
theorem dX0_judges_184 : decode cX0_judges 184 = .ok (.iload 4, 2) := dk_21 4 (dk_at dksX0_judges_7 20 rfl rfl)
theorem dX0_judges_186 : decode cX0_judges 186 = .ok (.iastore, 1) := dk_79 (dk_at dksX0_judges_7 22 rfl rfl)
theorem dX0_judges_187 : decode cX0_judges 187 = .ok (.aload_n 0, 1) := dk_42 (dk_at dksX0_judges_7 23 rfl rfl)
theorem dX0_judges_188 : decode cX0_judges 188 = .ok (.getfield 50, 3) := dk_180 0 50 (dk_at dksX0_judges_8 0 rfl rfl)
theorem dX0_judges_191 : decode cX0_judges 191 = .ok (.iconst 3, 1) := dk_6 (dk_at dksX0_judges_8 3 rfl rfl)
theorem dX0_judges_192 : decode cX0_judges 192 = .ok (.iload_n 1, 1) := dk_27 (dk_at dksX0_judges_8 4 rfl rfl)
theorem dX0_judges_193 : decode cX0_judges 193 = .ok (.invokestatic 162, 3) := dk_184 0 162 (dk_at dksX0_judges_8 5 rfl rfl)
theorem dX0_judges_196 : decode cX0_judges 196 = .ok (.iastore, 1) := dk_79 (dk_at dksX0_judges_8 8 rfl rfl)
theorem dX0_judges_197 : decode cX0_judges 197 = .ok (.aload_n 0, 1) := dk_42 (dk_at dksX0_judges_8 9 rfl rfl)
theorem dX0_judges_198 : decode cX0_judges 198 = .ok (.getfield 50, 3) := dk_180 0 50 (dk_at dksX0_judges_8 10 rfl rfl)
theorem dX0_judges_201 : decode cX0_judges 201 = .ok (.iconst 4, 1) := dk_7 (dk_at dksX0_judges_8 13 rfl rfl)
theorem dX0_judges_202 : decode cX0_judges 202 = .ok (.iload_n 2, 1) := dk_28 (dk_at dksX0_judges_8 14 rfl rfl)
theorem dX0_judges_203 : decode cX0_judges 203 = .ok (.invokestatic 162, 3) := dk_184 0 162 (dk_at dksX0_judges_8 15 rfl rfl)
theorem dX0_judges_206 : decode cX0_judges 206 = .ok (.iastore, 1) := dk_79 (dk_at dksX0_judges_8 18 rfl rfl)
theorem dX0_judges_207 : decode cX0_judges 207 = .ok (.iload_n 3, 1) := dk_29 (dk_at dksX0_judges_8 19 rfl rfl)
theorem dX0_judges_208 : decode cX0_judges 208 = .ok (.iload 4, 2) := dk_21 4 (dk_at dksX0_judges_8 20 rfl rfl)
theorem dX0_judges_210 : decode cX0_judges 210 = .ok (.if_icmp .eq 23, 3) := dk_159 0 23 (dk_at dksX0_judges_9 0 rfl rfl)
theorem dX0_judges_213 : decode cX0_judges 213 = .ok (.aload_n 0, 1) := dk_42 (dk_at dksX0_judges_9 3 rfl rfl)
theorem dX0_judges_214 : decode cX0_judges 214 = .ok (.getfield 50, 3) := dk_180 0 50 (dk_at dksX0_judges_9 4 rfl rfl)
theorem dX0_judges_217 : decode cX0_judges 217 = .ok (.iconst 0, 1) := dk_3 (dk_at dksX0_judges_9 7 rfl rfl)
theorem dX0_judges_218 : decode cX0_judges 218 = .ok (.iload_n 3, 1) := dk_29 (dk_at dksX0_judges_9 8 rfl rfl)
theorem dX0_judges_219 : decode cX0_judges 219 = .ok (.iload 4, 2) := dk_21 4 (dk_at dksX0_judges_9 9 rfl rfl)
theorem dX0_judges_221 : decode cX0_judges 221 = .ok (.if_icmp .le 7, 3) := dk_164 0 7 (dk_at dksX0_judges_9 11 rfl rfl)
theorem dX0_judges_224 : decode cX0_judges 224 = .ok (.iconst 0, 1) := dk_3 (dk_at dksX0_judges_9 14 rfl rfl)
theorem dX0_judges_225 : decode cX0_judges 225 = .ok (.goto 4, 3) := dk_167 0 4 (dk_at dksX0_judges_9 15 rfl rfl)
theorem dX0_judges_228 : decode cX0_judges 228 = .ok (.iconst 1, 1) := dk_4 (dk_at dksX0_judges_9 18 rfl rfl)
theorem dX0_judges_229 : decode cX0_judges 229 = .ok (.iastore, 1) := dk_79 (dk_at dksX0_judges_9 19 rfl rfl)
theorem dX0_judges_230 : decode cX0_judges 230 = .ok (.goto 29, 3) := dk_167 0 29 (dk_at dksX0_judges_9 20 rfl rfl)
theorem dX0_judges_233 : decode cX0_judges 233 = .ok (.aload_n 0, 1) := dk_42 (dk_at dksX0_judges_9 23 rfl rfl)
theorem dX0_judges_234 : decode cX0_judges 234 = .ok (.getfield 50, 3) := dk_180 0 50 (dk_at dksX0_judges_10 0 rfl rfl)
theorem dX0_judges_237 : decode cX0_judges 237 = .ok (.iconst 0, 1) := dk_3 (dk_at dksX0_judges_10 3 rfl rfl)
theorem dX0_judges_238 : decode cX0_judges 238 = .ok (.aload_n 0, 1) := dk_42 (dk_at dksX0_judges_10 4 rfl rfl)
theorem dX0_judges_239 : decode cX0_judges 239 = .ok (.getfield 50, 3) := dk_180 0 50 (dk_at dksX0_judges_10 5 rfl rfl)
theorem dX0_judges_242 : decode cX0_judges 242 = .ok (.iconst 3, 1) := dk_6 (dk_at dksX0_judges_10 8 rfl rfl)
theorem dX0_judges_243 : decode cX0_judges 243 = .ok (.iaload, 1) := dk_46 (dk_at dksX0_judges_10 9 rfl rfl)
theorem dX0_judges_244 : decode cX0_judges 244 = .ok (.aload_n 0, 1) := dk_42 (dk_at dksX0_judges_10 10 rfl rfl)
theorem dX0_judges_245 : decode cX0_judges 245 = .ok (.getfield 50, 3) := dk_180 0 50 (dk_at dksX0_judges_10 11 rfl rfl)
theorem dX0_judges_248 : decode cX0_judges 248 = .ok (.iconst 4, 1) := dk_7 (dk_at dksX0_judges_10 14 rfl rfl)
theorem dX0_judges_249 : decode cX0_judges 249 = .ok (.iaload, 1) := dk_46 (dk_at dksX0_judges_10 15 rfl rfl)
theorem dX0_judges_250 : decode cX0_judges 250 = .ok (.if_icmp .gt 7, 3) := dk_163 0 7 (dk_at dksX0_judges_10 16 rfl rfl)
theorem dX0_judges_253 : decode cX0_judges 253 = .ok (.iconst 0, 1) := dk_3 (dk_at dksX0_judges_10 19 rfl rfl)
theorem dX0_judges_254 : decode cX0_judges 254 = .ok (.goto 4, 3) := dk_167 0 4 (dk_at dksX0_judges_10 20 rfl rfl)
theorem dX0_judges_257 : decode cX0_judges 257 = .ok (.iconst 1, 1) := dk_4 (dk_at dksX0_judges_10 23 rfl rfl)
theorem dX0_judges_258 : decode cX0_judges 258 = .ok (.iastore, 1) := dk_79 (dk_at dksX0_judges_11 0 rfl rfl)
theorem dX0_judges_259 : decode cX0_judges 259 = .ok (.return_, 1) := dk_177 (dk_at dksX0_judges_11 1 rfl rfl)
def dkwX0_laysPieces_4 : List UInt8 := [167, 255, 175, 177]
abbrev dktX0_laysPieces_4 : List UInt8 := dkwX0_laysPieces_4 ++ []
def dkwX0_laysPieces_3 : List UInt8 := [83, 42, 42, 180, 0, 47, 27, 50, 28, 50, 182, 1, 85, 132, 2, 1, 167, 255, 194, 132, 1, 1]
abbrev dktX0_laysPieces_3 : List UInt8 := dkwX0_laysPieces_3 ++ dktX0_laysPieces_4
def dkwX0_laysPieces_2 : List UInt8 := [28, 42, 42, 180, 0, 16, 180, 0, 139, 27, 50, 180, 1, 75, 28, 50, 42, 28, 182, 1, 78, 182, 1, 81]
abbrev dktX0_laysPieces_2 : List UInt8 := dkwX0_laysPieces_2 ++ dktX0_laysPieces_3
def dkwX0_laysPieces_1 : List UInt8 := [3, 61, 28, 42, 180, 0, 16, 180, 0, 139, 27, 50, 180, 0, 236, 162, 0, 52, 42, 180, 0, 47, 27, 50]
abbrev dktX0_laysPieces_1 : List UInt8 := dkwX0_laysPieces_1 ++ dktX0_laysPieces_2
def dkwX0_laysPieces_0 : List UInt8 := [42, 187, 0, 53, 89, 183, 0, 55, 181, 0, 56, 3, 60, 27, 42, 180, 0, 16, 180, 0, 136, 162, 0, 76]
abbrev dktX0_laysPieces_0 : List UInt8 := dkwX0_laysPieces_0 ++ dktX0_laysPieces_1
theorem dksX0_laysPieces_0 : cX0_laysPieces.data.toList.drop 0 = dktX0_laysPieces_0 := by decide +kernel
theorem dksX0_laysPieces_1 : cX0_laysPieces.data.toList.drop 24 = dktX0_laysPieces_1 := dk_seg dksX0_laysPieces_0 24 rfl rfl
theorem dksX0_laysPieces_2 : cX0_laysPieces.data.toList.drop 48 = dktX0_laysPieces_2 := dk_seg dksX0_laysPieces_1 24 rfl rfl
theorem dksX0_laysPieces_3 : cX0_laysPieces.data.toList.drop 72 = dktX0_laysPieces_3 := dk_seg dksX0_laysPieces_2 24 rfl rfl
theorem dksX0_laysPieces_4 : cX0_laysPieces.data.toList.drop 94 = dktX0_laysPieces_4 := dk_seg dksX0_laysPieces_3 22 rfl rfl
theorem dX0_laysPieces_0 : decode cX0_laysPieces 0 = .ok (.aload_n 0, 1) := dk_42 (dk_at dksX0_laysPieces_0 0 rfl rfl)
theorem dX0_laysPieces_1 : decode cX0_laysPieces 1 = .ok (.new 53, 3) := dk_187 0 53 (dk_at dksX0_laysPieces_0 1 rfl rfl)
theorem dX0_laysPieces_4 : decode cX0_laysPieces 4 = .ok (.dup, 1) := dk_89 (dk_at dksX0_laysPieces_0 4 rfl rfl)
theorem dX0_laysPieces_5 : decode cX0_laysPieces 5 = .ok (.invokespecial 55, 3) := dk_183 0 55 (dk_at dksX0_laysPieces_0 5 rfl rfl)
theorem dX0_laysPieces_8 : decode cX0_laysPieces 8 = .ok (.putfield 56, 3) := dk_181 0 56 (dk_at dksX0_laysPieces_0 8 rfl rfl)
theorem dX0_laysPieces_11 : decode cX0_laysPieces 11 = .ok (.iconst 0, 1) := dk_3 (dk_at dksX0_laysPieces_0 11 rfl rfl)
theorem dX0_laysPieces_12 : decode cX0_laysPieces 12 = .ok (.istore_n 1, 1) := dk_60 (dk_at dksX0_laysPieces_0 12 rfl rfl)
theorem dX0_laysPieces_13 : decode cX0_laysPieces 13 = .ok (.iload_n 1, 1) := dk_27 (dk_at dksX0_laysPieces_0 13 rfl rfl)
theorem dX0_laysPieces_14 : decode cX0_laysPieces 14 = .ok (.aload_n 0, 1) := dk_42 (dk_at dksX0_laysPieces_0 14 rfl rfl)
theorem dX0_laysPieces_15 : decode cX0_laysPieces 15 = .ok (.getfield 16, 3) := dk_180 0 16 (dk_at dksX0_laysPieces_0 15 rfl rfl)
theorem dX0_laysPieces_18 : decode cX0_laysPieces 18 = .ok (.getfield 136, 3) := dk_180 0 136 (dk_at dksX0_laysPieces_0 18 rfl rfl)
theorem dX0_laysPieces_21 : decode cX0_laysPieces 21 = .ok (.if_icmp .ge 76, 3) := dk_162 0 76 (dk_at dksX0_laysPieces_0 21 rfl rfl)
theorem dX0_laysPieces_24 : decode cX0_laysPieces 24 = .ok (.iconst 0, 1) := dk_3 (dk_at dksX0_laysPieces_1 0 rfl rfl)
theorem dX0_laysPieces_25 : decode cX0_laysPieces 25 = .ok (.istore_n 2, 1) := dk_61 (dk_at dksX0_laysPieces_1 1 rfl rfl)
theorem dX0_laysPieces_26 : decode cX0_laysPieces 26 = .ok (.iload_n 2, 1) := dk_28 (dk_at dksX0_laysPieces_1 2 rfl rfl)
theorem dX0_laysPieces_27 : decode cX0_laysPieces 27 = .ok (.aload_n 0, 1) := dk_42 (dk_at dksX0_laysPieces_1 3 rfl rfl)
theorem dX0_laysPieces_28 : decode cX0_laysPieces 28 = .ok (.getfield 16, 3) := dk_180 0 16 (dk_at dksX0_laysPieces_1 4 rfl rfl)
theorem dX0_laysPieces_31 : decode cX0_laysPieces 31 = .ok (.getfield 139, 3) := dk_180 0 139 (dk_at dksX0_laysPieces_1 7 rfl rfl)
theorem dX0_laysPieces_34 : decode cX0_laysPieces 34 = .ok (.iload_n 1, 1) := dk_27 (dk_at dksX0_laysPieces_1 10 rfl rfl)
theorem dX0_laysPieces_35 : decode cX0_laysPieces 35 = .ok (.aaload, 1) := dk_50 (dk_at dksX0_laysPieces_1 11 rfl rfl)
theorem dX0_laysPieces_36 : decode cX0_laysPieces 36 = .ok (.getfield 236, 3) := dk_180 0 236 (dk_at dksX0_laysPieces_1 12 rfl rfl)
theorem dX0_laysPieces_39 : decode cX0_laysPieces 39 = .ok (.if_icmp .ge 52, 3) := dk_162 0 52 (dk_at dksX0_laysPieces_1 15 rfl rfl)
theorem dX0_laysPieces_42 : decode cX0_laysPieces 42 = .ok (.aload_n 0, 1) := dk_42 (dk_at dksX0_laysPieces_1 18 rfl rfl)
theorem dX0_laysPieces_43 : decode cX0_laysPieces 43 = .ok (.getfield 47, 3) := dk_180 0 47 (dk_at dksX0_laysPieces_1 19 rfl rfl)
theorem dX0_laysPieces_46 : decode cX0_laysPieces 46 = .ok (.iload_n 1, 1) := dk_27 (dk_at dksX0_laysPieces_1 22 rfl rfl)
theorem dX0_laysPieces_47 : decode cX0_laysPieces 47 = .ok (.aaload, 1) := dk_50 (dk_at dksX0_laysPieces_1 23 rfl rfl)
theorem dX0_laysPieces_48 : decode cX0_laysPieces 48 = .ok (.iload_n 2, 1) := dk_28 (dk_at dksX0_laysPieces_2 0 rfl rfl)
theorem dX0_laysPieces_49 : decode cX0_laysPieces 49 = .ok (.aload_n 0, 1) := dk_42 (dk_at dksX0_laysPieces_2 1 rfl rfl)
theorem dX0_laysPieces_50 : decode cX0_laysPieces 50 = .ok (.aload_n 0, 1) := dk_42 (dk_at dksX0_laysPieces_2 2 rfl rfl)
theorem dX0_laysPieces_51 : decode cX0_laysPieces 51 = .ok (.getfield 16, 3) := dk_180 0 16 (dk_at dksX0_laysPieces_2 3 rfl rfl)
theorem dX0_laysPieces_54 : decode cX0_laysPieces 54 = .ok (.getfield 139, 3) := dk_180 0 139 (dk_at dksX0_laysPieces_2 6 rfl rfl)
theorem dX0_laysPieces_57 : decode cX0_laysPieces 57 = .ok (.iload_n 1, 1) := dk_27 (dk_at dksX0_laysPieces_2 9 rfl rfl)
theorem dX0_laysPieces_58 : decode cX0_laysPieces 58 = .ok (.aaload, 1) := dk_50 (dk_at dksX0_laysPieces_2 10 rfl rfl)
theorem dX0_laysPieces_59 : decode cX0_laysPieces 59 = .ok (.getfield 331, 3) := dk_180 1 75 (dk_at dksX0_laysPieces_2 11 rfl rfl)
theorem dX0_laysPieces_62 : decode cX0_laysPieces 62 = .ok (.iload_n 2, 1) := dk_28 (dk_at dksX0_laysPieces_2 14 rfl rfl)
theorem dX0_laysPieces_63 : decode cX0_laysPieces 63 = .ok (.aaload, 1) := dk_50 (dk_at dksX0_laysPieces_2 15 rfl rfl)
theorem dX0_laysPieces_64 : decode cX0_laysPieces 64 = .ok (.aload_n 0, 1) := dk_42 (dk_at dksX0_laysPieces_2 16 rfl rfl)
theorem dX0_laysPieces_65 : decode cX0_laysPieces 65 = .ok (.iload_n 2, 1) := dk_28 (dk_at dksX0_laysPieces_2 17 rfl rfl)
theorem dX0_laysPieces_66 : decode cX0_laysPieces 66 = .ok (.invokevirtual 334, 3) := dk_182 1 78 (dk_at dksX0_laysPieces_2 18 rfl rfl)
theorem dX0_laysPieces_69 : decode cX0_laysPieces 69 = .ok (.invokevirtual 337, 3) := dk_182 1 81 (dk_at dksX0_laysPieces_2 21 rfl rfl)
theorem dX0_laysPieces_72 : decode cX0_laysPieces 72 = .ok (.aastore, 1) := dk_83 (dk_at dksX0_laysPieces_3 0 rfl rfl)
theorem dX0_laysPieces_73 : decode cX0_laysPieces 73 = .ok (.aload_n 0, 1) := dk_42 (dk_at dksX0_laysPieces_3 1 rfl rfl)
theorem dX0_laysPieces_74 : decode cX0_laysPieces 74 = .ok (.aload_n 0, 1) := dk_42 (dk_at dksX0_laysPieces_3 2 rfl rfl)
theorem dX0_laysPieces_75 : decode cX0_laysPieces 75 = .ok (.getfield 47, 3) := dk_180 0 47 (dk_at dksX0_laysPieces_3 3 rfl rfl)
theorem dX0_laysPieces_78 : decode cX0_laysPieces 78 = .ok (.iload_n 1, 1) := dk_27 (dk_at dksX0_laysPieces_3 6 rfl rfl)
theorem dX0_laysPieces_79 : decode cX0_laysPieces 79 = .ok (.aaload, 1) := dk_50 (dk_at dksX0_laysPieces_3 7 rfl rfl)
theorem dX0_laysPieces_80 : decode cX0_laysPieces 80 = .ok (.iload_n 2, 1) := dk_28 (dk_at dksX0_laysPieces_3 8 rfl rfl)
theorem dX0_laysPieces_81 : decode cX0_laysPieces 81 = .ok (.aaload, 1) := dk_50 (dk_at dksX0_laysPieces_3 9 rfl rfl)
theorem dX0_laysPieces_82 : decode cX0_laysPieces 82 = .ok (.invokevirtual 341, 3) := dk_182 1 85 (dk_at dksX0_laysPieces_3 10 rfl rfl)
theorem dX0_laysPieces_85 : decode cX0_laysPieces 85 = .ok (.iinc 2 1, 3) := dk_132 2 1 (dk_at dksX0_laysPieces_3 13 rfl rfl)
theorem dX0_laysPieces_88 : decode cX0_laysPieces 88 = .ok (.goto (-62), 3) := dk_167 255 194 (dk_at dksX0_laysPieces_3 16 rfl rfl)
theorem dX0_laysPieces_91 : decode cX0_laysPieces 91 = .ok (.iinc 1 1, 3) := dk_132 1 1 (dk_at dksX0_laysPieces_3 19 rfl rfl)
theorem dX0_laysPieces_94 : decode cX0_laysPieces 94 = .ok (.goto (-81), 3) := dk_167 255 175 (dk_at dksX0_laysPieces_4 0 rfl rfl)
theorem dX0_laysPieces_97 : decode cX0_laysPieces 97 = .ok (.return_, 1) := dk_177 (dk_at dksX0_laysPieces_4 3 rfl rfl)
def dkwX0_isToLeft_3 : List UInt8 := [167, 0, 4, 3, 172]
abbrev dktX0_isToLeft_3 : List UInt8 := dkwX0_isToLeft_3 ++ []
def dkwX0_isToLeft_2 : List UInt8 := [160, 0, 7, 4, 167, 0, 23, 3, 167, 0, 19, 42, 180, 0, 16, 180, 0, 248, 4, 160, 0, 7, 4]
abbrev dktX0_isToLeft_2 : List UInt8 := dkwX0_isToLeft_2 ++ dktX0_isToLeft_3
def dkwX0_isToLeft_1 : List UInt8 := [167, 0, 49, 3, 167, 0, 45, 42, 180, 0, 16, 180, 0, 248, 5, 160, 0, 18, 27, 5, 112, 4]
abbrev dktX0_isToLeft_1 : List UInt8 := dkwX0_isToLeft_1 ++ dktX0_isToLeft_2
def dkwX0_isToLeft_0 : List UInt8 := [42, 180, 0, 16, 180, 0, 248, 6, 160, 0, 21, 42, 180, 0, 50, 3, 46, 4, 160, 0, 7, 4]
abbrev dktX0_isToLeft_0 : List UInt8 := dkwX0_isToLeft_0 ++ dktX0_isToLeft_1
theorem dksX0_isToLeft_0 : cX0_isToLeft.data.toList.drop 0 = dktX0_isToLeft_0 := by decide +kernel
theorem dksX0_isToLeft_1 : cX0_isToLeft.data.toList.drop 22 = dktX0_isToLeft_1 := dk_seg dksX0_isToLeft_0 22 rfl rfl
theorem dksX0_isToLeft_2 : cX0_isToLeft.data.toList.drop 44 = dktX0_isToLeft_2 := dk_seg dksX0_isToLeft_1 22 rfl rfl
theorem dksX0_isToLeft_3 : cX0_isToLeft.data.toList.drop 67 = dktX0_isToLeft_3 := dk_seg dksX0_isToLeft_2 23 rfl rfl
theorem dX0_isToLeft_0 : decode cX0_isToLeft 0 = .ok (.aload_n 0, 1) := dk_42 (dk_at dksX0_isToLeft_0 0 rfl rfl)
theorem dX0_isToLeft_1 : decode cX0_isToLeft 1 = .ok (.getfield 16, 3) := dk_180 0 16 (dk_at dksX0_isToLeft_0 1 rfl rfl)
theorem dX0_isToLeft_4 : decode cX0_isToLeft 4 = .ok (.getfield 248, 3) := dk_180 0 248 (dk_at dksX0_isToLeft_0 4 rfl rfl)
theorem dX0_isToLeft_7 : decode cX0_isToLeft 7 = .ok (.iconst 3, 1) := dk_6 (dk_at dksX0_isToLeft_0 7 rfl rfl)
theorem dX0_isToLeft_8 : decode cX0_isToLeft 8 = .ok (.if_icmp .ne 21, 3) := dk_160 0 21 (dk_at dksX0_isToLeft_0 8 rfl rfl)
theorem dX0_isToLeft_11 : decode cX0_isToLeft 11 = .ok (.aload_n 0, 1) := dk_42 (dk_at dksX0_isToLeft_0 11 rfl rfl)
theorem dX0_isToLeft_12 : decode cX0_isToLeft 12 = .ok (.getfield 50, 3) := dk_180 0 50 (dk_at dksX0_isToLeft_0 12 rfl rfl)
theorem dX0_isToLeft_15 : decode cX0_isToLeft 15 = .ok (.iconst 0, 1) := dk_3 (dk_at dksX0_isToLeft_0 15 rfl rfl)
theorem dX0_isToLeft_16 : decode cX0_isToLeft 16 = .ok (.iaload, 1) := dk_46 (dk_at dksX0_isToLeft_0 16 rfl rfl)
theorem dX0_isToLeft_17 : decode cX0_isToLeft 17 = .ok (.iconst 1, 1) := dk_4 (dk_at dksX0_isToLeft_0 17 rfl rfl)
theorem dX0_isToLeft_18 : decode cX0_isToLeft 18 = .ok (.if_icmp .ne 7, 3) := dk_160 0 7 (dk_at dksX0_isToLeft_0 18 rfl rfl)
theorem dX0_isToLeft_21 : decode cX0_isToLeft 21 = .ok (.iconst 1, 1) := dk_4 (dk_at dksX0_isToLeft_0 21 rfl rfl)
theorem dX0_isToLeft_22 : decode cX0_isToLeft 22 = .ok (.goto 49, 3) := dk_167 0 49 (dk_at dksX0_isToLeft_1 0 rfl rfl)
theorem dX0_isToLeft_25 : decode cX0_isToLeft 25 = .ok (.iconst 0, 1) := dk_3 (dk_at dksX0_isToLeft_1 3 rfl rfl)
theorem dX0_isToLeft_26 : decode cX0_isToLeft 26 = .ok (.goto 45, 3) := dk_167 0 45 (dk_at dksX0_isToLeft_1 4 rfl rfl)
theorem dX0_isToLeft_29 : decode cX0_isToLeft 29 = .ok (.aload_n 0, 1) := dk_42 (dk_at dksX0_isToLeft_1 7 rfl rfl)
theorem dX0_isToLeft_30 : decode cX0_isToLeft 30 = .ok (.getfield 16, 3) := dk_180 0 16 (dk_at dksX0_isToLeft_1 8 rfl rfl)
theorem dX0_isToLeft_33 : decode cX0_isToLeft 33 = .ok (.getfield 248, 3) := dk_180 0 248 (dk_at dksX0_isToLeft_1 11 rfl rfl)
theorem dX0_isToLeft_36 : decode cX0_isToLeft 36 = .ok (.iconst 2, 1) := dk_5 (dk_at dksX0_isToLeft_1 14 rfl rfl)
theorem dX0_isToLeft_37 : decode cX0_isToLeft 37 = .ok (.if_icmp .ne 18, 3) := dk_160 0 18 (dk_at dksX0_isToLeft_1 15 rfl rfl)
theorem dX0_isToLeft_40 : decode cX0_isToLeft 40 = .ok (.iload_n 1, 1) := dk_27 (dk_at dksX0_isToLeft_1 18 rfl rfl)
theorem dX0_isToLeft_41 : decode cX0_isToLeft 41 = .ok (.iconst 2, 1) := dk_5 (dk_at dksX0_isToLeft_1 19 rfl rfl)
theorem dX0_isToLeft_42 : decode cX0_isToLeft 42 = .ok (.irem, 1) := dk_112 (dk_at dksX0_isToLeft_1 20 rfl rfl)
theorem dX0_isToLeft_43 : decode cX0_isToLeft 43 = .ok (.iconst 1, 1) := dk_4 (dk_at dksX0_isToLeft_1 21 rfl rfl)
theorem dX0_isToLeft_44 : decode cX0_isToLeft 44 = .ok (.if_icmp .ne 7, 3) := dk_160 0 7 (dk_at dksX0_isToLeft_2 0 rfl rfl)
theorem dX0_isToLeft_47 : decode cX0_isToLeft 47 = .ok (.iconst 1, 1) := dk_4 (dk_at dksX0_isToLeft_2 3 rfl rfl)
theorem dX0_isToLeft_48 : decode cX0_isToLeft 48 = .ok (.goto 23, 3) := dk_167 0 23 (dk_at dksX0_isToLeft_2 4 rfl rfl)
theorem dX0_isToLeft_51 : decode cX0_isToLeft 51 = .ok (.iconst 0, 1) := dk_3 (dk_at dksX0_isToLeft_2 7 rfl rfl)
theorem dX0_isToLeft_52 : decode cX0_isToLeft 52 = .ok (.goto 19, 3) := dk_167 0 19 (dk_at dksX0_isToLeft_2 8 rfl rfl)
theorem dX0_isToLeft_55 : decode cX0_isToLeft 55 = .ok (.aload_n 0, 1) := dk_42 (dk_at dksX0_isToLeft_2 11 rfl rfl)
theorem dX0_isToLeft_56 : decode cX0_isToLeft 56 = .ok (.getfield 16, 3) := dk_180 0 16 (dk_at dksX0_isToLeft_2 12 rfl rfl)
theorem dX0_isToLeft_59 : decode cX0_isToLeft 59 = .ok (.getfield 248, 3) := dk_180 0 248 (dk_at dksX0_isToLeft_2 15 rfl rfl)
theorem dX0_isToLeft_62 : decode cX0_isToLeft 62 = .ok (.iconst 1, 1) := dk_4 (dk_at dksX0_isToLeft_2 18 rfl rfl)
theorem dX0_isToLeft_63 : decode cX0_isToLeft 63 = .ok (.if_icmp .ne 7, 3) := dk_160 0 7 (dk_at dksX0_isToLeft_2 19 rfl rfl)
theorem dX0_isToLeft_66 : decode cX0_isToLeft 66 = .ok (.iconst 1, 1) := dk_4 (dk_at dksX0_isToLeft_2 22 rfl rfl)
theorem dX0_isToLeft_67 : decode cX0_isToLeft 67 = .ok (.goto 4, 3) := dk_167 0 4 (dk_at dksX0_isToLeft_3 0 rfl rfl)
theorem dX0_isToLeft_70 : decode cX0_isToLeft 70 = .ok (.iconst 0, 1) := dk_3 (dk_at dksX0_isToLeft_3 3 rfl rfl)
theorem dX0_isToLeft_71 : decode cX0_isToLeft 71 = .ok (.ireturn, 1) := dk_172 (dk_at dksX0_isToLeft_3 4 rfl rfl)
def dkwX0_reads_2 : List UInt8 := [180, 0, 36, 21, 5, 46, 96, 146, 182, 0, 254, 87, 132, 4, 1, 167, 255, 204, 45, 182, 1, 2, 176]
abbrev dktX0_reads_2 : List UInt8 := dkwX0_reads_2 ++ []
def dkwX0_reads_1 : List UInt8 := [190, 4, 100, 21, 4, 100, 167, 0, 5, 21, 4, 46, 54, 5, 21, 5, 2, 159, 0, 19, 45, 16, 97, 42]
abbrev dktX0_reads_1 : List UInt8 := dkwX0_reads_1 ++ dktX0_reads_2
def dkwX0_reads_0 : List UInt8 := [187, 0, 251, 89, 183, 0, 253, 78, 3, 54, 4, 21, 4, 43, 190, 162, 0, 51, 43, 28, 153, 0, 13, 43]
abbrev dktX0_reads_0 : List UInt8 := dkwX0_reads_0 ++ dktX0_reads_1
theorem dksX0_reads_0 : cX0_reads.data.toList.drop 0 = dktX0_reads_0 := by decide +kernel
theorem dksX0_reads_1 : cX0_reads.data.toList.drop 24 = dktX0_reads_1 := dk_seg dksX0_reads_0 24 rfl rfl
theorem dksX0_reads_2 : cX0_reads.data.toList.drop 48 = dktX0_reads_2 := dk_seg dksX0_reads_1 24 rfl rfl
theorem dX0_reads_0 : decode cX0_reads 0 = .ok (.new 251, 3) := dk_187 0 251 (dk_at dksX0_reads_0 0 rfl rfl)
theorem dX0_reads_3 : decode cX0_reads 3 = .ok (.dup, 1) := dk_89 (dk_at dksX0_reads_0 3 rfl rfl)
theorem dX0_reads_4 : decode cX0_reads 4 = .ok (.invokespecial 253, 3) := dk_183 0 253 (dk_at dksX0_reads_0 4 rfl rfl)
theorem dX0_reads_7 : decode cX0_reads 7 = .ok (.astore_n 3, 1) := dk_78 (dk_at dksX0_reads_0 7 rfl rfl)
theorem dX0_reads_8 : decode cX0_reads 8 = .ok (.iconst 0, 1) := dk_3 (dk_at dksX0_reads_0 8 rfl rfl)
theorem dX0_reads_9 : decode cX0_reads 9 = .ok (.istore 4, 2) := dk_54 4 (dk_at dksX0_reads_0 9 rfl rfl)
theorem dX0_reads_11 : decode cX0_reads 11 = .ok (.iload 4, 2) := dk_21 4 (dk_at dksX0_reads_0 11 rfl rfl)
theorem dX0_reads_13 : decode cX0_reads 13 = .ok (.aload_n 1, 1) := dk_43 (dk_at dksX0_reads_0 13 rfl rfl)
theorem dX0_reads_14 : decode cX0_reads 14 = .ok (.arraylength, 1) := dk_190 (dk_at dksX0_reads_0 14 rfl rfl)
theorem dX0_reads_15 : decode cX0_reads 15 = .ok (.if_icmp .ge 51, 3) := dk_162 0 51 (dk_at dksX0_reads_0 15 rfl rfl)
theorem dX0_reads_18 : decode cX0_reads 18 = .ok (.aload_n 1, 1) := dk_43 (dk_at dksX0_reads_0 18 rfl rfl)
theorem dX0_reads_19 : decode cX0_reads 19 = .ok (.iload_n 2, 1) := dk_28 (dk_at dksX0_reads_0 19 rfl rfl)
theorem dX0_reads_20 : decode cX0_reads 20 = .ok (.ifCond .eq 13, 3) := dk_153 0 13 (dk_at dksX0_reads_0 20 rfl rfl)
theorem dX0_reads_23 : decode cX0_reads 23 = .ok (.aload_n 1, 1) := dk_43 (dk_at dksX0_reads_0 23 rfl rfl)
theorem dX0_reads_24 : decode cX0_reads 24 = .ok (.arraylength, 1) := dk_190 (dk_at dksX0_reads_1 0 rfl rfl)
theorem dX0_reads_25 : decode cX0_reads 25 = .ok (.iconst 1, 1) := dk_4 (dk_at dksX0_reads_1 1 rfl rfl)
theorem dX0_reads_26 : decode cX0_reads 26 = .ok (.isub, 1) := dk_100 (dk_at dksX0_reads_1 2 rfl rfl)
theorem dX0_reads_27 : decode cX0_reads 27 = .ok (.iload 4, 2) := dk_21 4 (dk_at dksX0_reads_1 3 rfl rfl)
theorem dX0_reads_29 : decode cX0_reads 29 = .ok (.isub, 1) := dk_100 (dk_at dksX0_reads_1 5 rfl rfl)
theorem dX0_reads_30 : decode cX0_reads 30 = .ok (.goto 5, 3) := dk_167 0 5 (dk_at dksX0_reads_1 6 rfl rfl)
theorem dX0_reads_33 : decode cX0_reads 33 = .ok (.iload 4, 2) := dk_21 4 (dk_at dksX0_reads_1 9 rfl rfl)
theorem dX0_reads_35 : decode cX0_reads 35 = .ok (.iaload, 1) := dk_46 (dk_at dksX0_reads_1 11 rfl rfl)
theorem dX0_reads_36 : decode cX0_reads 36 = .ok (.istore 5, 2) := dk_54 5 (dk_at dksX0_reads_1 12 rfl rfl)
theorem dX0_reads_38 : decode cX0_reads 38 = .ok (.iload 5, 2) := dk_21 5 (dk_at dksX0_reads_1 14 rfl rfl)
theorem dX0_reads_40 : decode cX0_reads 40 = .ok (.iconst (-1), 1) := dk_2 (dk_at dksX0_reads_1 16 rfl rfl)
theorem dX0_reads_41 : decode cX0_reads 41 = .ok (.if_icmp .eq 19, 3) := dk_159 0 19 (dk_at dksX0_reads_1 17 rfl rfl)
theorem dX0_reads_44 : decode cX0_reads 44 = .ok (.aload_n 3, 1) := dk_45 (dk_at dksX0_reads_1 20 rfl rfl)
theorem dX0_reads_45 : decode cX0_reads 45 = .ok (.bipush 97, 2) := dk_16 97 (dk_at dksX0_reads_1 21 rfl rfl)
theorem dX0_reads_47 : decode cX0_reads 47 = .ok (.aload_n 0, 1) := dk_42 (dk_at dksX0_reads_1 23 rfl rfl)
theorem dX0_reads_48 : decode cX0_reads 48 = .ok (.getfield 36, 3) := dk_180 0 36 (dk_at dksX0_reads_2 0 rfl rfl)
theorem dX0_reads_51 : decode cX0_reads 51 = .ok (.iload 5, 2) := dk_21 5 (dk_at dksX0_reads_2 3 rfl rfl)
theorem dX0_reads_53 : decode cX0_reads 53 = .ok (.iaload, 1) := dk_46 (dk_at dksX0_reads_2 5 rfl rfl)
theorem dX0_reads_54 : decode cX0_reads 54 = .ok (.iadd, 1) := dk_96 (dk_at dksX0_reads_2 6 rfl rfl)
theorem dX0_reads_55 : decode cX0_reads 55 = .ok (.i2c, 1) := dk_146 (dk_at dksX0_reads_2 7 rfl rfl)
theorem dX0_reads_56 : decode cX0_reads 56 = .ok (.invokevirtual 254, 3) := dk_182 0 254 (dk_at dksX0_reads_2 8 rfl rfl)
theorem dX0_reads_59 : decode cX0_reads 59 = .ok (.pop, 1) := dk_87 (dk_at dksX0_reads_2 11 rfl rfl)
theorem dX0_reads_60 : decode cX0_reads 60 = .ok (.iinc 4 1, 3) := dk_132 4 1 (dk_at dksX0_reads_2 12 rfl rfl)
theorem dX0_reads_63 : decode cX0_reads 63 = .ok (.goto (-52), 3) := dk_167 255 204 (dk_at dksX0_reads_2 15 rfl rfl)
theorem dX0_reads_66 : decode cX0_reads 66 = .ok (.aload_n 3, 1) := dk_45 (dk_at dksX0_reads_2 18 rfl rfl)
theorem dX0_reads_67 : decode cX0_reads 67 = .ok (.invokevirtual 258, 3) := dk_182 1 2 (dk_at dksX0_reads_2 19 rfl rfl)
theorem dX0_reads_70 : decode cX0_reads 70 = .ok (.areturn, 1) := dk_176 (dk_at dksX0_reads_2 22 rfl rfl)
def dkwX0_takesPieces_6 : List UInt8 := [167, 255, 120, 177]
abbrev dktX0_takesPieces_6 : List UInt8 := dkwX0_takesPieces_6 ++ []
def dkwX0_takesPieces_5 : List UInt8 := [182, 1, 41, 16, 97, 100, 184, 1, 45, 182, 1, 49, 87, 132, 3, 1, 167, 255, 138, 132, 2, 1]
abbrev dktX0_takesPieces_5 : List UInt8 := dkwX0_takesPieces_5 ++ dktX0_takesPieces_6
def dkwX0_takesPieces_4 : List UInt8 := [182, 1, 6, 160, 0, 12, 25, 5, 4, 181, 1, 33, 167, 0, 23, 25, 5, 180, 1, 37, 43, 29]
abbrev dktX0_takesPieces_4 : List UInt8 := dkwX0_takesPieces_4 ++ dktX0_takesPieces_5
def dkwX0_takesPieces_3 : List UInt8 := [25, 4, 182, 1, 26, 192, 1, 19, 58, 5, 25, 5, 89, 180, 1, 30, 4, 96, 181, 1, 30, 29, 43]
abbrev dktX0_takesPieces_3 : List UInt8 := dkwX0_takesPieces_3 ++ dktX0_takesPieces_4
def dkwX0_takesPieces_2 : List UInt8 := [154, 0, 20, 42, 180, 0, 56, 25, 4, 187, 1, 19, 89, 183, 1, 21, 182, 1, 22, 87, 42, 180, 0, 56]
abbrev dktX0_takesPieces_2 : List UInt8 := dkwX0_takesPieces_2 ++ dktX0_takesPieces_3
def dkwX0_takesPieces_1 : List UInt8 := [100, 16, 7, 163, 0, 108, 43, 28, 29, 182, 1, 12, 58, 4, 42, 180, 0, 56, 25, 4, 182, 1, 16]
abbrev dktX0_takesPieces_1 : List UInt8 := dkwX0_takesPieces_1 ++ dktX0_takesPieces_2
def dkwX0_takesPieces_0 : List UInt8 := [3, 61, 28, 43, 182, 1, 6, 162, 0, 134, 28, 4, 96, 62, 29, 43, 182, 1, 6, 163, 0, 116, 29, 28]
abbrev dktX0_takesPieces_0 : List UInt8 := dkwX0_takesPieces_0 ++ dktX0_takesPieces_1
theorem dksX0_takesPieces_0 : cX0_takesPieces.data.toList.drop 0 = dktX0_takesPieces_0 := by decide +kernel
theorem dksX0_takesPieces_1 : cX0_takesPieces.data.toList.drop 24 = dktX0_takesPieces_1 := dk_seg dksX0_takesPieces_0 24 rfl rfl
theorem dksX0_takesPieces_2 : cX0_takesPieces.data.toList.drop 47 = dktX0_takesPieces_2 := dk_seg dksX0_takesPieces_1 23 rfl rfl
theorem dksX0_takesPieces_3 : cX0_takesPieces.data.toList.drop 71 = dktX0_takesPieces_3 := dk_seg dksX0_takesPieces_2 24 rfl rfl
theorem dksX0_takesPieces_4 : cX0_takesPieces.data.toList.drop 94 = dktX0_takesPieces_4 := dk_seg dksX0_takesPieces_3 23 rfl rfl
theorem dksX0_takesPieces_5 : cX0_takesPieces.data.toList.drop 116 = dktX0_takesPieces_5 := dk_seg dksX0_takesPieces_4 22 rfl rfl
theorem dksX0_takesPieces_6 : cX0_takesPieces.data.toList.drop 138 = dktX0_takesPieces_6 := dk_seg dksX0_takesPieces_5 22 rfl rfl
theorem dX0_takesPieces_0 : decode cX0_takesPieces 0 = .ok (.iconst 0, 1) := dk_3 (dk_at dksX0_takesPieces_0 0 rfl rfl)
theorem dX0_takesPieces_1 : decode cX0_takesPieces 1 = .ok (.istore_n 2, 1) := dk_61 (dk_at dksX0_takesPieces_0 1 rfl rfl)
theorem dX0_takesPieces_2 : decode cX0_takesPieces 2 = .ok (.iload_n 2, 1) := dk_28 (dk_at dksX0_takesPieces_0 2 rfl rfl)
theorem dX0_takesPieces_3 : decode cX0_takesPieces 3 = .ok (.aload_n 1, 1) := dk_43 (dk_at dksX0_takesPieces_0 3 rfl rfl)
theorem dX0_takesPieces_4 : decode cX0_takesPieces 4 = .ok (.invokevirtual 262, 3) := dk_182 1 6 (dk_at dksX0_takesPieces_0 4 rfl rfl)
theorem dX0_takesPieces_7 : decode cX0_takesPieces 7 = .ok (.if_icmp .ge 134, 3) := dk_162 0 134 (dk_at dksX0_takesPieces_0 7 rfl rfl)
theorem dX0_takesPieces_10 : decode cX0_takesPieces 10 = .ok (.iload_n 2, 1) := dk_28 (dk_at dksX0_takesPieces_0 10 rfl rfl)
theorem dX0_takesPieces_11 : decode cX0_takesPieces 11 = .ok (.iconst 1, 1) := dk_4 (dk_at dksX0_takesPieces_0 11 rfl rfl)
theorem dX0_takesPieces_12 : decode cX0_takesPieces 12 = .ok (.iadd, 1) := dk_96 (dk_at dksX0_takesPieces_0 12 rfl rfl)
theorem dX0_takesPieces_13 : decode cX0_takesPieces 13 = .ok (.istore_n 3, 1) := dk_62 (dk_at dksX0_takesPieces_0 13 rfl rfl)
theorem dX0_takesPieces_14 : decode cX0_takesPieces 14 = .ok (.iload_n 3, 1) := dk_29 (dk_at dksX0_takesPieces_0 14 rfl rfl)
theorem dX0_takesPieces_15 : decode cX0_takesPieces 15 = .ok (.aload_n 1, 1) := dk_43 (dk_at dksX0_takesPieces_0 15 rfl rfl)
theorem dX0_takesPieces_16 : decode cX0_takesPieces 16 = .ok (.invokevirtual 262, 3) := dk_182 1 6 (dk_at dksX0_takesPieces_0 16 rfl rfl)
theorem dX0_takesPieces_19 : decode cX0_takesPieces 19 = .ok (.if_icmp .gt 116, 3) := dk_163 0 116 (dk_at dksX0_takesPieces_0 19 rfl rfl)
theorem dX0_takesPieces_22 : decode cX0_takesPieces 22 = .ok (.iload_n 3, 1) := dk_29 (dk_at dksX0_takesPieces_0 22 rfl rfl)
theorem dX0_takesPieces_23 : decode cX0_takesPieces 23 = .ok (.iload_n 2, 1) := dk_28 (dk_at dksX0_takesPieces_0 23 rfl rfl)
theorem dX0_takesPieces_24 : decode cX0_takesPieces 24 = .ok (.isub, 1) := dk_100 (dk_at dksX0_takesPieces_1 0 rfl rfl)
theorem dX0_takesPieces_25 : decode cX0_takesPieces 25 = .ok (.bipush 7, 2) := dk_16 7 (dk_at dksX0_takesPieces_1 1 rfl rfl)
theorem dX0_takesPieces_27 : decode cX0_takesPieces 27 = .ok (.if_icmp .gt 108, 3) := dk_163 0 108 (dk_at dksX0_takesPieces_1 3 rfl rfl)
theorem dX0_takesPieces_30 : decode cX0_takesPieces 30 = .ok (.aload_n 1, 1) := dk_43 (dk_at dksX0_takesPieces_1 6 rfl rfl)
theorem dX0_takesPieces_31 : decode cX0_takesPieces 31 = .ok (.iload_n 2, 1) := dk_28 (dk_at dksX0_takesPieces_1 7 rfl rfl)
theorem dX0_takesPieces_32 : decode cX0_takesPieces 32 = .ok (.iload_n 3, 1) := dk_29 (dk_at dksX0_takesPieces_1 8 rfl rfl)
theorem dX0_takesPieces_33 : decode cX0_takesPieces 33 = .ok (.invokevirtual 268, 3) := dk_182 1 12 (dk_at dksX0_takesPieces_1 9 rfl rfl)
theorem dX0_takesPieces_36 : decode cX0_takesPieces 36 = .ok (.astore 4, 2) := dk_58 4 (dk_at dksX0_takesPieces_1 12 rfl rfl)
theorem dX0_takesPieces_38 : decode cX0_takesPieces 38 = .ok (.aload_n 0, 1) := dk_42 (dk_at dksX0_takesPieces_1 14 rfl rfl)
theorem dX0_takesPieces_39 : decode cX0_takesPieces 39 = .ok (.getfield 56, 3) := dk_180 0 56 (dk_at dksX0_takesPieces_1 15 rfl rfl)
theorem dX0_takesPieces_42 : decode cX0_takesPieces 42 = .ok (.aload 4, 2) := dk_25 4 (dk_at dksX0_takesPieces_1 18 rfl rfl)
theorem dX0_takesPieces_44 : decode cX0_takesPieces 44 = .ok (.invokevirtual 272, 3) := dk_182 1 16 (dk_at dksX0_takesPieces_1 20 rfl rfl)
theorem dX0_takesPieces_47 : decode cX0_takesPieces 47 = .ok (.ifCond .ne 20, 3) := dk_154 0 20 (dk_at dksX0_takesPieces_2 0 rfl rfl)
theorem dX0_takesPieces_50 : decode cX0_takesPieces 50 = .ok (.aload_n 0, 1) := dk_42 (dk_at dksX0_takesPieces_2 3 rfl rfl)
theorem dX0_takesPieces_51 : decode cX0_takesPieces 51 = .ok (.getfield 56, 3) := dk_180 0 56 (dk_at dksX0_takesPieces_2 4 rfl rfl)
theorem dX0_takesPieces_54 : decode cX0_takesPieces 54 = .ok (.aload 4, 2) := dk_25 4 (dk_at dksX0_takesPieces_2 7 rfl rfl)
theorem dX0_takesPieces_56 : decode cX0_takesPieces 56 = .ok (.new 275, 3) := dk_187 1 19 (dk_at dksX0_takesPieces_2 9 rfl rfl)
theorem dX0_takesPieces_59 : decode cX0_takesPieces 59 = .ok (.dup, 1) := dk_89 (dk_at dksX0_takesPieces_2 12 rfl rfl)
theorem dX0_takesPieces_60 : decode cX0_takesPieces 60 = .ok (.invokespecial 277, 3) := dk_183 1 21 (dk_at dksX0_takesPieces_2 13 rfl rfl)
theorem dX0_takesPieces_63 : decode cX0_takesPieces 63 = .ok (.invokevirtual 278, 3) := dk_182 1 22 (dk_at dksX0_takesPieces_2 16 rfl rfl)
theorem dX0_takesPieces_66 : decode cX0_takesPieces 66 = .ok (.pop, 1) := dk_87 (dk_at dksX0_takesPieces_2 19 rfl rfl)
theorem dX0_takesPieces_67 : decode cX0_takesPieces 67 = .ok (.aload_n 0, 1) := dk_42 (dk_at dksX0_takesPieces_2 20 rfl rfl)
theorem dX0_takesPieces_68 : decode cX0_takesPieces 68 = .ok (.getfield 56, 3) := dk_180 0 56 (dk_at dksX0_takesPieces_2 21 rfl rfl)
theorem dX0_takesPieces_71 : decode cX0_takesPieces 71 = .ok (.aload 4, 2) := dk_25 4 (dk_at dksX0_takesPieces_3 0 rfl rfl)
theorem dX0_takesPieces_73 : decode cX0_takesPieces 73 = .ok (.invokevirtual 282, 3) := dk_182 1 26 (dk_at dksX0_takesPieces_3 2 rfl rfl)
theorem dX0_takesPieces_76 : decode cX0_takesPieces 76 = .ok (.checkcast 275, 3) := dk_192 1 19 (dk_at dksX0_takesPieces_3 5 rfl rfl)
theorem dX0_takesPieces_79 : decode cX0_takesPieces 79 = .ok (.astore 5, 2) := dk_58 5 (dk_at dksX0_takesPieces_3 8 rfl rfl)
theorem dX0_takesPieces_81 : decode cX0_takesPieces 81 = .ok (.aload 5, 2) := dk_25 5 (dk_at dksX0_takesPieces_3 10 rfl rfl)
theorem dX0_takesPieces_83 : decode cX0_takesPieces 83 = .ok (.dup, 1) := dk_89 (dk_at dksX0_takesPieces_3 12 rfl rfl)
theorem dX0_takesPieces_84 : decode cX0_takesPieces 84 = .ok (.getfield 286, 3) := dk_180 1 30 (dk_at dksX0_takesPieces_3 13 rfl rfl)
theorem dX0_takesPieces_87 : decode cX0_takesPieces 87 = .ok (.iconst 1, 1) := dk_4 (dk_at dksX0_takesPieces_3 16 rfl rfl)
theorem dX0_takesPieces_88 : decode cX0_takesPieces 88 = .ok (.iadd, 1) := dk_96 (dk_at dksX0_takesPieces_3 17 rfl rfl)
theorem dX0_takesPieces_89 : decode cX0_takesPieces 89 = .ok (.putfield 286, 3) := dk_181 1 30 (dk_at dksX0_takesPieces_3 18 rfl rfl)
theorem dX0_takesPieces_92 : decode cX0_takesPieces 92 = .ok (.iload_n 3, 1) := dk_29 (dk_at dksX0_takesPieces_3 21 rfl rfl)
theorem dX0_takesPieces_93 : decode cX0_takesPieces 93 = .ok (.aload_n 1, 1) := dk_43 (dk_at dksX0_takesPieces_3 22 rfl rfl)
theorem dX0_takesPieces_94 : decode cX0_takesPieces 94 = .ok (.invokevirtual 262, 3) := dk_182 1 6 (dk_at dksX0_takesPieces_4 0 rfl rfl)
theorem dX0_takesPieces_97 : decode cX0_takesPieces 97 = .ok (.if_icmp .ne 12, 3) := dk_160 0 12 (dk_at dksX0_takesPieces_4 3 rfl rfl)
theorem dX0_takesPieces_100 : decode cX0_takesPieces 100 = .ok (.aload 5, 2) := dk_25 5 (dk_at dksX0_takesPieces_4 6 rfl rfl)
theorem dX0_takesPieces_102 : decode cX0_takesPieces 102 = .ok (.iconst 1, 1) := dk_4 (dk_at dksX0_takesPieces_4 8 rfl rfl)
theorem dX0_takesPieces_103 : decode cX0_takesPieces 103 = .ok (.putfield 289, 3) := dk_181 1 33 (dk_at dksX0_takesPieces_4 9 rfl rfl)
theorem dX0_takesPieces_106 : decode cX0_takesPieces 106 = .ok (.goto 23, 3) := dk_167 0 23 (dk_at dksX0_takesPieces_4 12 rfl rfl)
theorem dX0_takesPieces_109 : decode cX0_takesPieces 109 = .ok (.aload 5, 2) := dk_25 5 (dk_at dksX0_takesPieces_4 15 rfl rfl)
theorem dX0_takesPieces_111 : decode cX0_takesPieces 111 = .ok (.getfield 293, 3) := dk_180 1 37 (dk_at dksX0_takesPieces_4 17 rfl rfl)
theorem dX0_takesPieces_114 : decode cX0_takesPieces 114 = .ok (.aload_n 1, 1) := dk_43 (dk_at dksX0_takesPieces_4 20 rfl rfl)
theorem dX0_takesPieces_115 : decode cX0_takesPieces 115 = .ok (.iload_n 3, 1) := dk_29 (dk_at dksX0_takesPieces_4 21 rfl rfl)
theorem dX0_takesPieces_116 : decode cX0_takesPieces 116 = .ok (.invokevirtual 297, 3) := dk_182 1 41 (dk_at dksX0_takesPieces_5 0 rfl rfl)
theorem dX0_takesPieces_119 : decode cX0_takesPieces 119 = .ok (.bipush 97, 2) := dk_16 97 (dk_at dksX0_takesPieces_5 3 rfl rfl)
theorem dX0_takesPieces_121 : decode cX0_takesPieces 121 = .ok (.isub, 1) := dk_100 (dk_at dksX0_takesPieces_5 5 rfl rfl)
theorem dX0_takesPieces_122 : decode cX0_takesPieces 122 = .ok (.invokestatic 301, 3) := dk_184 1 45 (dk_at dksX0_takesPieces_5 6 rfl rfl)
theorem dX0_takesPieces_125 : decode cX0_takesPieces 125 = .ok (.invokevirtual 305, 3) := dk_182 1 49 (dk_at dksX0_takesPieces_5 9 rfl rfl)
theorem dX0_takesPieces_128 : decode cX0_takesPieces 128 = .ok (.pop, 1) := dk_87 (dk_at dksX0_takesPieces_5 12 rfl rfl)
theorem dX0_takesPieces_129 : decode cX0_takesPieces 129 = .ok (.iinc 3 1, 3) := dk_132 3 1 (dk_at dksX0_takesPieces_5 13 rfl rfl)
theorem dX0_takesPieces_132 : decode cX0_takesPieces 132 = .ok (.goto (-118), 3) := dk_167 255 138 (dk_at dksX0_takesPieces_5 16 rfl rfl)
theorem dX0_takesPieces_135 : decode cX0_takesPieces 135 = .ok (.iinc 2 1, 3) := dk_132 2 1 (dk_at dksX0_takesPieces_5 19 rfl rfl)
theorem dX0_takesPieces_138 : decode cX0_takesPieces 138 = .ok (.goto (-136), 3) := dk_167 255 120 (dk_at dksX0_takesPieces_6 0 rfl rfl)
theorem dX0_takesPieces_141 : decode cX0_takesPieces 141 = .ok (.return_, 1) := dk_177 (dk_at dksX0_takesPieces_6 3 rfl rfl)
def dkwX0_laysWords_5 : List UInt8 := [78, 45, 27, 181, 1, 112, 42, 180, 0, 65, 27, 45, 83, 132, 1, 1, 167, 255, 222, 177]
abbrev dktX0_laysWords_5 : List UInt8 := dkwX0_laysWords_5 ++ []
def dkwX0_laysWords_4 : List UInt8 := [185, 1, 98, 1, 0, 77, 44, 185, 1, 104, 1, 0, 153, 0, 31, 44, 185, 1, 110, 1, 0, 192, 0, 63]
abbrev dktX0_laysWords_4 : List UInt8 := dkwX0_laysWords_4 ++ dktX0_laysWords_5
def dkwX0_laysWords_3 : List UInt8 := [42, 42, 180, 0, 60, 182, 1, 91, 189, 0, 63, 181, 0, 65, 3, 60, 42, 180, 0, 60, 182, 1, 94]
abbrev dktX0_laysWords_3 : List UInt8 := dkwX0_laysWords_3 ++ dktX0_laysWords_4
def dkwX0_laysWords_2 : List UInt8 := [42, 42, 180, 0, 47, 27, 50, 28, 50, 182, 1, 88, 132, 2, 1, 167, 255, 225, 132, 1, 1, 167, 255, 206]
abbrev dktX0_laysWords_2 : List UInt8 := dkwX0_laysWords_2 ++ dktX0_laysWords_3
def dkwX0_laysWords_1 : List UInt8 := [180, 0, 136, 162, 0, 45, 3, 61, 28, 42, 180, 0, 16, 180, 0, 139, 27, 50, 180, 0, 236, 162, 0, 21]
abbrev dktX0_laysWords_1 : List UInt8 := dkwX0_laysWords_1 ++ dktX0_laysWords_2
def dkwX0_laysWords_0 : List UInt8 := [42, 187, 0, 53, 89, 183, 0, 55, 181, 0, 60, 42, 3, 181, 1, 72, 3, 60, 27, 42, 180, 0, 16]
abbrev dktX0_laysWords_0 : List UInt8 := dkwX0_laysWords_0 ++ dktX0_laysWords_1
theorem dksX0_laysWords_0 : cX0_laysWords.data.toList.drop 0 = dktX0_laysWords_0 := by decide +kernel
theorem dksX0_laysWords_1 : cX0_laysWords.data.toList.drop 23 = dktX0_laysWords_1 := dk_seg dksX0_laysWords_0 23 rfl rfl
theorem dksX0_laysWords_2 : cX0_laysWords.data.toList.drop 47 = dktX0_laysWords_2 := dk_seg dksX0_laysWords_1 24 rfl rfl
theorem dksX0_laysWords_3 : cX0_laysWords.data.toList.drop 71 = dktX0_laysWords_3 := dk_seg dksX0_laysWords_2 24 rfl rfl
theorem dksX0_laysWords_4 : cX0_laysWords.data.toList.drop 94 = dktX0_laysWords_4 := dk_seg dksX0_laysWords_3 23 rfl rfl
theorem dksX0_laysWords_5 : cX0_laysWords.data.toList.drop 118 = dktX0_laysWords_5 := dk_seg dksX0_laysWords_4 24 rfl rfl
theorem dX0_laysWords_0 : decode cX0_laysWords 0 = .ok (.aload_n 0, 1) := dk_42 (dk_at dksX0_laysWords_0 0 rfl rfl)
theorem dX0_laysWords_1 : decode cX0_laysWords 1 = .ok (.new 53, 3) := dk_187 0 53 (dk_at dksX0_laysWords_0 1 rfl rfl)
theorem dX0_laysWords_4 : decode cX0_laysWords 4 = .ok (.dup, 1) := dk_89 (dk_at dksX0_laysWords_0 4 rfl rfl)
theorem dX0_laysWords_5 : decode cX0_laysWords 5 = .ok (.invokespecial 55, 3) := dk_183 0 55 (dk_at dksX0_laysWords_0 5 rfl rfl)
theorem dX0_laysWords_8 : decode cX0_laysWords 8 = .ok (.putfield 60, 3) := dk_181 0 60 (dk_at dksX0_laysWords_0 8 rfl rfl)
theorem dX0_laysWords_11 : decode cX0_laysWords 11 = .ok (.aload_n 0, 1) := dk_42 (dk_at dksX0_laysWords_0 11 rfl rfl)
theorem dX0_laysWords_12 : decode cX0_laysWords 12 = .ok (.iconst 0, 1) := dk_3 (dk_at dksX0_laysWords_0 12 rfl rfl)
theorem dX0_laysWords_13 : decode cX0_laysWords 13 = .ok (.putfield 328, 3) := dk_181 1 72 (dk_at dksX0_laysWords_0 13 rfl rfl)
theorem dX0_laysWords_16 : decode cX0_laysWords 16 = .ok (.iconst 0, 1) := dk_3 (dk_at dksX0_laysWords_0 16 rfl rfl)
theorem dX0_laysWords_17 : decode cX0_laysWords 17 = .ok (.istore_n 1, 1) := dk_60 (dk_at dksX0_laysWords_0 17 rfl rfl)
theorem dX0_laysWords_18 : decode cX0_laysWords 18 = .ok (.iload_n 1, 1) := dk_27 (dk_at dksX0_laysWords_0 18 rfl rfl)
theorem dX0_laysWords_19 : decode cX0_laysWords 19 = .ok (.aload_n 0, 1) := dk_42 (dk_at dksX0_laysWords_0 19 rfl rfl)
theorem dX0_laysWords_20 : decode cX0_laysWords 20 = .ok (.getfield 16, 3) := dk_180 0 16 (dk_at dksX0_laysWords_0 20 rfl rfl)
theorem dX0_laysWords_23 : decode cX0_laysWords 23 = .ok (.getfield 136, 3) := dk_180 0 136 (dk_at dksX0_laysWords_1 0 rfl rfl)
theorem dX0_laysWords_26 : decode cX0_laysWords 26 = .ok (.if_icmp .ge 45, 3) := dk_162 0 45 (dk_at dksX0_laysWords_1 3 rfl rfl)
theorem dX0_laysWords_29 : decode cX0_laysWords 29 = .ok (.iconst 0, 1) := dk_3 (dk_at dksX0_laysWords_1 6 rfl rfl)
theorem dX0_laysWords_30 : decode cX0_laysWords 30 = .ok (.istore_n 2, 1) := dk_61 (dk_at dksX0_laysWords_1 7 rfl rfl)
theorem dX0_laysWords_31 : decode cX0_laysWords 31 = .ok (.iload_n 2, 1) := dk_28 (dk_at dksX0_laysWords_1 8 rfl rfl)
theorem dX0_laysWords_32 : decode cX0_laysWords 32 = .ok (.aload_n 0, 1) := dk_42 (dk_at dksX0_laysWords_1 9 rfl rfl)
theorem dX0_laysWords_33 : decode cX0_laysWords 33 = .ok (.getfield 16, 3) := dk_180 0 16 (dk_at dksX0_laysWords_1 10 rfl rfl)
theorem dX0_laysWords_36 : decode cX0_laysWords 36 = .ok (.getfield 139, 3) := dk_180 0 139 (dk_at dksX0_laysWords_1 13 rfl rfl)
theorem dX0_laysWords_39 : decode cX0_laysWords 39 = .ok (.iload_n 1, 1) := dk_27 (dk_at dksX0_laysWords_1 16 rfl rfl)
theorem dX0_laysWords_40 : decode cX0_laysWords 40 = .ok (.aaload, 1) := dk_50 (dk_at dksX0_laysWords_1 17 rfl rfl)
theorem dX0_laysWords_41 : decode cX0_laysWords 41 = .ok (.getfield 236, 3) := dk_180 0 236 (dk_at dksX0_laysWords_1 18 rfl rfl)
theorem dX0_laysWords_44 : decode cX0_laysWords 44 = .ok (.if_icmp .ge 21, 3) := dk_162 0 21 (dk_at dksX0_laysWords_1 21 rfl rfl)
theorem dX0_laysWords_47 : decode cX0_laysWords 47 = .ok (.aload_n 0, 1) := dk_42 (dk_at dksX0_laysWords_2 0 rfl rfl)
theorem dX0_laysWords_48 : decode cX0_laysWords 48 = .ok (.aload_n 0, 1) := dk_42 (dk_at dksX0_laysWords_2 1 rfl rfl)
theorem dX0_laysWords_49 : decode cX0_laysWords 49 = .ok (.getfield 47, 3) := dk_180 0 47 (dk_at dksX0_laysWords_2 2 rfl rfl)
theorem dX0_laysWords_52 : decode cX0_laysWords 52 = .ok (.iload_n 1, 1) := dk_27 (dk_at dksX0_laysWords_2 5 rfl rfl)
theorem dX0_laysWords_53 : decode cX0_laysWords 53 = .ok (.aaload, 1) := dk_50 (dk_at dksX0_laysWords_2 6 rfl rfl)
theorem dX0_laysWords_54 : decode cX0_laysWords 54 = .ok (.iload_n 2, 1) := dk_28 (dk_at dksX0_laysWords_2 7 rfl rfl)
theorem dX0_laysWords_55 : decode cX0_laysWords 55 = .ok (.aaload, 1) := dk_50 (dk_at dksX0_laysWords_2 8 rfl rfl)
theorem dX0_laysWords_56 : decode cX0_laysWords 56 = .ok (.invokevirtual 344, 3) := dk_182 1 88 (dk_at dksX0_laysWords_2 9 rfl rfl)
theorem dX0_laysWords_59 : decode cX0_laysWords 59 = .ok (.iinc 2 1, 3) := dk_132 2 1 (dk_at dksX0_laysWords_2 12 rfl rfl)
theorem dX0_laysWords_62 : decode cX0_laysWords 62 = .ok (.goto (-31), 3) := dk_167 255 225 (dk_at dksX0_laysWords_2 15 rfl rfl)
theorem dX0_laysWords_65 : decode cX0_laysWords 65 = .ok (.iinc 1 1, 3) := dk_132 1 1 (dk_at dksX0_laysWords_2 18 rfl rfl)
theorem dX0_laysWords_68 : decode cX0_laysWords 68 = .ok (.goto (-50), 3) := dk_167 255 206 (dk_at dksX0_laysWords_2 21 rfl rfl)
theorem dX0_laysWords_71 : decode cX0_laysWords 71 = .ok (.aload_n 0, 1) := dk_42 (dk_at dksX0_laysWords_3 0 rfl rfl)
theorem dX0_laysWords_72 : decode cX0_laysWords 72 = .ok (.aload_n 0, 1) := dk_42 (dk_at dksX0_laysWords_3 1 rfl rfl)
theorem dX0_laysWords_73 : decode cX0_laysWords 73 = .ok (.getfield 60, 3) := dk_180 0 60 (dk_at dksX0_laysWords_3 2 rfl rfl)
theorem dX0_laysWords_76 : decode cX0_laysWords 76 = .ok (.invokevirtual 347, 3) := dk_182 1 91 (dk_at dksX0_laysWords_3 5 rfl rfl)
theorem dX0_laysWords_79 : decode cX0_laysWords 79 = .ok (.anewarray 63, 3) := dk_189 0 63 (dk_at dksX0_laysWords_3 8 rfl rfl)
theorem dX0_laysWords_82 : decode cX0_laysWords 82 = .ok (.putfield 65, 3) := dk_181 0 65 (dk_at dksX0_laysWords_3 11 rfl rfl)
theorem dX0_laysWords_85 : decode cX0_laysWords 85 = .ok (.iconst 0, 1) := dk_3 (dk_at dksX0_laysWords_3 14 rfl rfl)
theorem dX0_laysWords_86 : decode cX0_laysWords 86 = .ok (.istore_n 1, 1) := dk_60 (dk_at dksX0_laysWords_3 15 rfl rfl)
theorem dX0_laysWords_87 : decode cX0_laysWords 87 = .ok (.aload_n 0, 1) := dk_42 (dk_at dksX0_laysWords_3 16 rfl rfl)
theorem dX0_laysWords_88 : decode cX0_laysWords 88 = .ok (.getfield 60, 3) := dk_180 0 60 (dk_at dksX0_laysWords_3 17 rfl rfl)
theorem dX0_laysWords_91 : decode cX0_laysWords 91 = .ok (.invokevirtual 350, 3) := dk_182 1 94 (dk_at dksX0_laysWords_3 20 rfl rfl)
theorem dX0_laysWords_94 : decode cX0_laysWords 94 = .ok (.invokeinterface 354 1, 5) := by decide +kernel
theorem dX0_laysWords_99 : decode cX0_laysWords 99 = .ok (.astore_n 2, 1) := dk_77 (dk_at dksX0_laysWords_4 5 rfl rfl)
theorem dX0_laysWords_100 : decode cX0_laysWords 100 = .ok (.aload_n 2, 1) := dk_44 (dk_at dksX0_laysWords_4 6 rfl rfl)
theorem dX0_laysWords_101 : decode cX0_laysWords 101 = .ok (.invokeinterface 360 1, 5) := by decide +kernel
theorem dX0_laysWords_106 : decode cX0_laysWords 106 = .ok (.ifCond .eq 31, 3) := dk_153 0 31 (dk_at dksX0_laysWords_4 12 rfl rfl)
theorem dX0_laysWords_109 : decode cX0_laysWords 109 = .ok (.aload_n 2, 1) := dk_44 (dk_at dksX0_laysWords_4 15 rfl rfl)
theorem dX0_laysWords_110 : decode cX0_laysWords 110 = .ok (.invokeinterface 366 1, 5) := by decide +kernel
theorem dX0_laysWords_115 : decode cX0_laysWords 115 = .ok (.checkcast 63, 3) := dk_192 0 63 (dk_at dksX0_laysWords_4 21 rfl rfl)
theorem dX0_laysWords_118 : decode cX0_laysWords 118 = .ok (.astore_n 3, 1) := dk_78 (dk_at dksX0_laysWords_5 0 rfl rfl)
theorem dX0_laysWords_119 : decode cX0_laysWords 119 = .ok (.aload_n 3, 1) := dk_45 (dk_at dksX0_laysWords_5 1 rfl rfl)
theorem dX0_laysWords_120 : decode cX0_laysWords 120 = .ok (.iload_n 1, 1) := dk_27 (dk_at dksX0_laysWords_5 2 rfl rfl)
theorem dX0_laysWords_121 : decode cX0_laysWords 121 = .ok (.putfield 368, 3) := dk_181 1 112 (dk_at dksX0_laysWords_5 3 rfl rfl)
theorem dX0_laysWords_124 : decode cX0_laysWords 124 = .ok (.aload_n 0, 1) := dk_42 (dk_at dksX0_laysWords_5 6 rfl rfl)
theorem dX0_laysWords_125 : decode cX0_laysWords 125 = .ok (.getfield 65, 3) := dk_180 0 65 (dk_at dksX0_laysWords_5 7 rfl rfl)
theorem dX0_laysWords_128 : decode cX0_laysWords 128 = .ok (.iload_n 1, 1) := dk_27 (dk_at dksX0_laysWords_5 10 rfl rfl)
theorem dX0_laysWords_129 : decode cX0_laysWords 129 = .ok (.aload_n 3, 1) := dk_45 (dk_at dksX0_laysWords_5 11 rfl rfl)
theorem dX0_laysWords_130 : decode cX0_laysWords 130 = .ok (.aastore, 1) := dk_83 (dk_at dksX0_laysWords_5 12 rfl rfl)
theorem dX0_laysWords_131 : decode cX0_laysWords 131 = .ok (.iinc 1 1, 3) := dk_132 1 1 (dk_at dksX0_laysWords_5 13 rfl rfl)
theorem dX0_laysWords_134 : decode cX0_laysWords 134 = .ok (.goto (-34), 3) := dk_167 255 222 (dk_at dksX0_laysWords_5 16 rfl rfl)
theorem dX0_laysWords_137 : decode cX0_laysWords 137 = .ok (.return_, 1) := dk_177 (dk_at dksX0_laysWords_5 19 rfl rfl)
def dkwX0_cuts_5 : List UInt8 := [132, 3, 1, 167, 255, 143, 177]
abbrev dktX0_cuts_5 : List UInt8 := dkwX0_cuts_5 ++ []
def dkwX0_cuts_4 : List UInt8 := [192, 0, 63, 89, 180, 1, 69, 4, 96, 181, 1, 69, 42, 89, 180, 1, 72, 4, 96, 181, 1, 72, 29, 61]
abbrev dktX0_cuts_4 : List UInt8 := dkwX0_cuts_4 ++ dktX0_cuts_5
def dkwX0_cuts_3 : List UInt8 := [187, 0, 63, 89, 25, 4, 183, 1, 66, 182, 1, 22, 87, 42, 180, 0, 60, 25, 4, 182, 1, 26]
abbrev dktX0_cuts_3 : List UInt8 := dkwX0_cuts_3 ++ dktX0_cuts_4
def dkwX0_cuts_2 : List UInt8 := [154, 0, 6, 167, 0, 67, 42, 180, 0, 60, 25, 4, 182, 1, 16, 154, 0, 22, 42, 180, 0, 60, 25, 4]
abbrev dktX0_cuts_2 : List UInt8 := dkwX0_cuts_2 ++ dktX0_cuts_3
def dkwX0_cuts_1 : List UInt8 := [182, 1, 6, 162, 0, 25, 25, 4, 182, 1, 6, 16, 7, 162, 0, 15, 42, 25, 4, 182, 1, 62]
abbrev dktX0_cuts_1 : List UInt8 := dkwX0_cuts_1 ++ dktX0_cuts_2
def dkwX0_cuts_0 : List UInt8 := [3, 61, 4, 62, 29, 43, 182, 1, 6, 163, 0, 111, 43, 28, 29, 182, 1, 12, 58, 4, 29, 43]
abbrev dktX0_cuts_0 : List UInt8 := dkwX0_cuts_0 ++ dktX0_cuts_1
theorem dksX0_cuts_0 : cX0_cuts.data.toList.drop 0 = dktX0_cuts_0 := by decide +kernel
theorem dksX0_cuts_1 : cX0_cuts.data.toList.drop 22 = dktX0_cuts_1 := dk_seg dksX0_cuts_0 22 rfl rfl
theorem dksX0_cuts_2 : cX0_cuts.data.toList.drop 44 = dktX0_cuts_2 := dk_seg dksX0_cuts_1 22 rfl rfl
theorem dksX0_cuts_3 : cX0_cuts.data.toList.drop 68 = dktX0_cuts_3 := dk_seg dksX0_cuts_2 24 rfl rfl
theorem dksX0_cuts_4 : cX0_cuts.data.toList.drop 90 = dktX0_cuts_4 := dk_seg dksX0_cuts_3 22 rfl rfl
theorem dksX0_cuts_5 : cX0_cuts.data.toList.drop 114 = dktX0_cuts_5 := dk_seg dksX0_cuts_4 24 rfl rfl
theorem dX0_cuts_0 : decode cX0_cuts 0 = .ok (.iconst 0, 1) := dk_3 (dk_at dksX0_cuts_0 0 rfl rfl)
theorem dX0_cuts_1 : decode cX0_cuts 1 = .ok (.istore_n 2, 1) := dk_61 (dk_at dksX0_cuts_0 1 rfl rfl)
theorem dX0_cuts_2 : decode cX0_cuts 2 = .ok (.iconst 1, 1) := dk_4 (dk_at dksX0_cuts_0 2 rfl rfl)
theorem dX0_cuts_3 : decode cX0_cuts 3 = .ok (.istore_n 3, 1) := dk_62 (dk_at dksX0_cuts_0 3 rfl rfl)
theorem dX0_cuts_4 : decode cX0_cuts 4 = .ok (.iload_n 3, 1) := dk_29 (dk_at dksX0_cuts_0 4 rfl rfl)
theorem dX0_cuts_5 : decode cX0_cuts 5 = .ok (.aload_n 1, 1) := dk_43 (dk_at dksX0_cuts_0 5 rfl rfl)
theorem dX0_cuts_6 : decode cX0_cuts 6 = .ok (.invokevirtual 262, 3) := dk_182 1 6 (dk_at dksX0_cuts_0 6 rfl rfl)
theorem dX0_cuts_9 : decode cX0_cuts 9 = .ok (.if_icmp .gt 111, 3) := dk_163 0 111 (dk_at dksX0_cuts_0 9 rfl rfl)
theorem dX0_cuts_12 : decode cX0_cuts 12 = .ok (.aload_n 1, 1) := dk_43 (dk_at dksX0_cuts_0 12 rfl rfl)
theorem dX0_cuts_13 : decode cX0_cuts 13 = .ok (.iload_n 2, 1) := dk_28 (dk_at dksX0_cuts_0 13 rfl rfl)
theorem dX0_cuts_14 : decode cX0_cuts 14 = .ok (.iload_n 3, 1) := dk_29 (dk_at dksX0_cuts_0 14 rfl rfl)
theorem dX0_cuts_15 : decode cX0_cuts 15 = .ok (.invokevirtual 268, 3) := dk_182 1 12 (dk_at dksX0_cuts_0 15 rfl rfl)
theorem dX0_cuts_18 : decode cX0_cuts 18 = .ok (.astore 4, 2) := dk_58 4 (dk_at dksX0_cuts_0 18 rfl rfl)
theorem dX0_cuts_20 : decode cX0_cuts 20 = .ok (.iload_n 3, 1) := dk_29 (dk_at dksX0_cuts_0 20 rfl rfl)
theorem dX0_cuts_21 : decode cX0_cuts 21 = .ok (.aload_n 1, 1) := dk_43 (dk_at dksX0_cuts_0 21 rfl rfl)
theorem dX0_cuts_22 : decode cX0_cuts 22 = .ok (.invokevirtual 262, 3) := dk_182 1 6 (dk_at dksX0_cuts_1 0 rfl rfl)
theorem dX0_cuts_25 : decode cX0_cuts 25 = .ok (.if_icmp .ge 25, 3) := dk_162 0 25 (dk_at dksX0_cuts_1 3 rfl rfl)
theorem dX0_cuts_28 : decode cX0_cuts 28 = .ok (.aload 4, 2) := dk_25 4 (dk_at dksX0_cuts_1 6 rfl rfl)
theorem dX0_cuts_30 : decode cX0_cuts 30 = .ok (.invokevirtual 262, 3) := dk_182 1 6 (dk_at dksX0_cuts_1 8 rfl rfl)
theorem dX0_cuts_33 : decode cX0_cuts 33 = .ok (.bipush 7, 2) := dk_16 7 (dk_at dksX0_cuts_1 11 rfl rfl)
theorem dX0_cuts_35 : decode cX0_cuts 35 = .ok (.if_icmp .ge 15, 3) := dk_162 0 15 (dk_at dksX0_cuts_1 13 rfl rfl)
theorem dX0_cuts_38 : decode cX0_cuts 38 = .ok (.aload_n 0, 1) := dk_42 (dk_at dksX0_cuts_1 16 rfl rfl)
theorem dX0_cuts_39 : decode cX0_cuts 39 = .ok (.aload 4, 2) := dk_25 4 (dk_at dksX0_cuts_1 17 rfl rfl)
theorem dX0_cuts_41 : decode cX0_cuts 41 = .ok (.invokevirtual 318, 3) := dk_182 1 62 (dk_at dksX0_cuts_1 19 rfl rfl)
theorem dX0_cuts_44 : decode cX0_cuts 44 = .ok (.ifCond .ne 6, 3) := dk_154 0 6 (dk_at dksX0_cuts_2 0 rfl rfl)
theorem dX0_cuts_47 : decode cX0_cuts 47 = .ok (.goto 67, 3) := dk_167 0 67 (dk_at dksX0_cuts_2 3 rfl rfl)
theorem dX0_cuts_50 : decode cX0_cuts 50 = .ok (.aload_n 0, 1) := dk_42 (dk_at dksX0_cuts_2 6 rfl rfl)
theorem dX0_cuts_51 : decode cX0_cuts 51 = .ok (.getfield 60, 3) := dk_180 0 60 (dk_at dksX0_cuts_2 7 rfl rfl)
theorem dX0_cuts_54 : decode cX0_cuts 54 = .ok (.aload 4, 2) := dk_25 4 (dk_at dksX0_cuts_2 10 rfl rfl)
theorem dX0_cuts_56 : decode cX0_cuts 56 = .ok (.invokevirtual 272, 3) := dk_182 1 16 (dk_at dksX0_cuts_2 12 rfl rfl)
theorem dX0_cuts_59 : decode cX0_cuts 59 = .ok (.ifCond .ne 22, 3) := dk_154 0 22 (dk_at dksX0_cuts_2 15 rfl rfl)
theorem dX0_cuts_62 : decode cX0_cuts 62 = .ok (.aload_n 0, 1) := dk_42 (dk_at dksX0_cuts_2 18 rfl rfl)
theorem dX0_cuts_63 : decode cX0_cuts 63 = .ok (.getfield 60, 3) := dk_180 0 60 (dk_at dksX0_cuts_2 19 rfl rfl)
theorem dX0_cuts_66 : decode cX0_cuts 66 = .ok (.aload 4, 2) := dk_25 4 (dk_at dksX0_cuts_2 22 rfl rfl)
theorem dX0_cuts_68 : decode cX0_cuts 68 = .ok (.new 63, 3) := dk_187 0 63 (dk_at dksX0_cuts_3 0 rfl rfl)
theorem dX0_cuts_71 : decode cX0_cuts 71 = .ok (.dup, 1) := dk_89 (dk_at dksX0_cuts_3 3 rfl rfl)
theorem dX0_cuts_72 : decode cX0_cuts 72 = .ok (.aload 4, 2) := dk_25 4 (dk_at dksX0_cuts_3 4 rfl rfl)
theorem dX0_cuts_74 : decode cX0_cuts 74 = .ok (.invokespecial 322, 3) := dk_183 1 66 (dk_at dksX0_cuts_3 6 rfl rfl)
theorem dX0_cuts_77 : decode cX0_cuts 77 = .ok (.invokevirtual 278, 3) := dk_182 1 22 (dk_at dksX0_cuts_3 9 rfl rfl)
theorem dX0_cuts_80 : decode cX0_cuts 80 = .ok (.pop, 1) := dk_87 (dk_at dksX0_cuts_3 12 rfl rfl)
theorem dX0_cuts_81 : decode cX0_cuts 81 = .ok (.aload_n 0, 1) := dk_42 (dk_at dksX0_cuts_3 13 rfl rfl)
theorem dX0_cuts_82 : decode cX0_cuts 82 = .ok (.getfield 60, 3) := dk_180 0 60 (dk_at dksX0_cuts_3 14 rfl rfl)
theorem dX0_cuts_85 : decode cX0_cuts 85 = .ok (.aload 4, 2) := dk_25 4 (dk_at dksX0_cuts_3 17 rfl rfl)
theorem dX0_cuts_87 : decode cX0_cuts 87 = .ok (.invokevirtual 282, 3) := dk_182 1 26 (dk_at dksX0_cuts_3 19 rfl rfl)
theorem dX0_cuts_90 : decode cX0_cuts 90 = .ok (.checkcast 63, 3) := dk_192 0 63 (dk_at dksX0_cuts_4 0 rfl rfl)
theorem dX0_cuts_93 : decode cX0_cuts 93 = .ok (.dup, 1) := dk_89 (dk_at dksX0_cuts_4 3 rfl rfl)
theorem dX0_cuts_94 : decode cX0_cuts 94 = .ok (.getfield 325, 3) := dk_180 1 69 (dk_at dksX0_cuts_4 4 rfl rfl)
theorem dX0_cuts_97 : decode cX0_cuts 97 = .ok (.iconst 1, 1) := dk_4 (dk_at dksX0_cuts_4 7 rfl rfl)
theorem dX0_cuts_98 : decode cX0_cuts 98 = .ok (.iadd, 1) := dk_96 (dk_at dksX0_cuts_4 8 rfl rfl)
theorem dX0_cuts_99 : decode cX0_cuts 99 = .ok (.putfield 325, 3) := dk_181 1 69 (dk_at dksX0_cuts_4 9 rfl rfl)
theorem dX0_cuts_102 : decode cX0_cuts 102 = .ok (.aload_n 0, 1) := dk_42 (dk_at dksX0_cuts_4 12 rfl rfl)
theorem dX0_cuts_103 : decode cX0_cuts 103 = .ok (.dup, 1) := dk_89 (dk_at dksX0_cuts_4 13 rfl rfl)
theorem dX0_cuts_104 : decode cX0_cuts 104 = .ok (.getfield 328, 3) := dk_180 1 72 (dk_at dksX0_cuts_4 14 rfl rfl)
theorem dX0_cuts_107 : decode cX0_cuts 107 = .ok (.iconst 1, 1) := dk_4 (dk_at dksX0_cuts_4 17 rfl rfl)
theorem dX0_cuts_108 : decode cX0_cuts 108 = .ok (.iadd, 1) := dk_96 (dk_at dksX0_cuts_4 18 rfl rfl)
theorem dX0_cuts_109 : decode cX0_cuts 109 = .ok (.putfield 328, 3) := dk_181 1 72 (dk_at dksX0_cuts_4 19 rfl rfl)
theorem dX0_cuts_112 : decode cX0_cuts 112 = .ok (.iload_n 3, 1) := dk_29 (dk_at dksX0_cuts_4 22 rfl rfl)
theorem dX0_cuts_113 : decode cX0_cuts 113 = .ok (.istore_n 2, 1) := dk_61 (dk_at dksX0_cuts_4 23 rfl rfl)
theorem dX0_cuts_114 : decode cX0_cuts 114 = .ok (.iinc 3 1, 3) := dk_132 3 1 (dk_at dksX0_cuts_5 0 rfl rfl)
theorem dX0_cuts_117 : decode cX0_cuts 117 = .ok (.goto (-113), 3) := dk_167 255 143 (dk_at dksX0_cuts_5 3 rfl rfl)
theorem dX0_cuts_120 : decode cX0_cuts 120 = .ok (.return_, 1) := dk_177 (dk_at dksX0_cuts_5 6 rfl rfl)
def dkwX0_isSeam_2 : List UInt8 := [167, 0, 4, 3, 172]
abbrev dktX0_isSeam_2 : List UInt8 := dkwX0_isSeam_2 ++ []
def dkwX0_isSeam_1 : List UInt8 := [161, 0, 26, 28, 42, 43, 3, 43, 182, 1, 6, 4, 100, 182, 1, 12, 182, 1, 55, 164, 0, 7, 4]
abbrev dktX0_isSeam_1 : List UInt8 := dkwX0_isSeam_1 ++ dktX0_isSeam_2
def dkwX0_isSeam_0 : List UInt8 := [43, 182, 1, 6, 5, 162, 0, 5, 3, 172, 42, 43, 182, 1, 55, 61, 28, 42, 180, 0, 16, 180, 1, 59]
abbrev dktX0_isSeam_0 : List UInt8 := dkwX0_isSeam_0 ++ dktX0_isSeam_1
theorem dksX0_isSeam_0 : cX0_isSeam.data.toList.drop 0 = dktX0_isSeam_0 := by decide +kernel
theorem dksX0_isSeam_1 : cX0_isSeam.data.toList.drop 24 = dktX0_isSeam_1 := dk_seg dksX0_isSeam_0 24 rfl rfl
theorem dksX0_isSeam_2 : cX0_isSeam.data.toList.drop 47 = dktX0_isSeam_2 := dk_seg dksX0_isSeam_1 23 rfl rfl
theorem dX0_isSeam_0 : decode cX0_isSeam 0 = .ok (.aload_n 1, 1) := dk_43 (dk_at dksX0_isSeam_0 0 rfl rfl)
theorem dX0_isSeam_1 : decode cX0_isSeam 1 = .ok (.invokevirtual 262, 3) := dk_182 1 6 (dk_at dksX0_isSeam_0 1 rfl rfl)
theorem dX0_isSeam_4 : decode cX0_isSeam 4 = .ok (.iconst 2, 1) := dk_5 (dk_at dksX0_isSeam_0 4 rfl rfl)
theorem dX0_isSeam_5 : decode cX0_isSeam 5 = .ok (.if_icmp .ge 5, 3) := dk_162 0 5 (dk_at dksX0_isSeam_0 5 rfl rfl)
theorem dX0_isSeam_8 : decode cX0_isSeam 8 = .ok (.iconst 0, 1) := dk_3 (dk_at dksX0_isSeam_0 8 rfl rfl)
theorem dX0_isSeam_9 : decode cX0_isSeam 9 = .ok (.ireturn, 1) := dk_172 (dk_at dksX0_isSeam_0 9 rfl rfl)
theorem dX0_isSeam_10 : decode cX0_isSeam 10 = .ok (.aload_n 0, 1) := dk_42 (dk_at dksX0_isSeam_0 10 rfl rfl)
theorem dX0_isSeam_11 : decode cX0_isSeam 11 = .ok (.aload_n 1, 1) := dk_43 (dk_at dksX0_isSeam_0 11 rfl rfl)
theorem dX0_isSeam_12 : decode cX0_isSeam 12 = .ok (.invokevirtual 311, 3) := dk_182 1 55 (dk_at dksX0_isSeam_0 12 rfl rfl)
theorem dX0_isSeam_15 : decode cX0_isSeam 15 = .ok (.istore_n 2, 1) := dk_61 (dk_at dksX0_isSeam_0 15 rfl rfl)
theorem dX0_isSeam_16 : decode cX0_isSeam 16 = .ok (.iload_n 2, 1) := dk_28 (dk_at dksX0_isSeam_0 16 rfl rfl)
theorem dX0_isSeam_17 : decode cX0_isSeam 17 = .ok (.aload_n 0, 1) := dk_42 (dk_at dksX0_isSeam_0 17 rfl rfl)
theorem dX0_isSeam_18 : decode cX0_isSeam 18 = .ok (.getfield 16, 3) := dk_180 0 16 (dk_at dksX0_isSeam_0 18 rfl rfl)
theorem dX0_isSeam_21 : decode cX0_isSeam 21 = .ok (.getfield 315, 3) := dk_180 1 59 (dk_at dksX0_isSeam_0 21 rfl rfl)
theorem dX0_isSeam_24 : decode cX0_isSeam 24 = .ok (.if_icmp .lt 26, 3) := dk_161 0 26 (dk_at dksX0_isSeam_1 0 rfl rfl)
theorem dX0_isSeam_27 : decode cX0_isSeam 27 = .ok (.iload_n 2, 1) := dk_28 (dk_at dksX0_isSeam_1 3 rfl rfl)
theorem dX0_isSeam_28 : decode cX0_isSeam 28 = .ok (.aload_n 0, 1) := dk_42 (dk_at dksX0_isSeam_1 4 rfl rfl)
theorem dX0_isSeam_29 : decode cX0_isSeam 29 = .ok (.aload_n 1, 1) := dk_43 (dk_at dksX0_isSeam_1 5 rfl rfl)
theorem dX0_isSeam_30 : decode cX0_isSeam 30 = .ok (.iconst 0, 1) := dk_3 (dk_at dksX0_isSeam_1 6 rfl rfl)
theorem dX0_isSeam_31 : decode cX0_isSeam 31 = .ok (.aload_n 1, 1) := dk_43 (dk_at dksX0_isSeam_1 7 rfl rfl)
theorem dX0_isSeam_32 : decode cX0_isSeam 32 = .ok (.invokevirtual 262, 3) := dk_182 1 6 (dk_at dksX0_isSeam_1 8 rfl rfl)
theorem dX0_isSeam_35 : decode cX0_isSeam 35 = .ok (.iconst 1, 1) := dk_4 (dk_at dksX0_isSeam_1 11 rfl rfl)
theorem dX0_isSeam_36 : decode cX0_isSeam 36 = .ok (.isub, 1) := dk_100 (dk_at dksX0_isSeam_1 12 rfl rfl)
theorem dX0_isSeam_37 : decode cX0_isSeam 37 = .ok (.invokevirtual 268, 3) := dk_182 1 12 (dk_at dksX0_isSeam_1 13 rfl rfl)
theorem dX0_isSeam_40 : decode cX0_isSeam 40 = .ok (.invokevirtual 311, 3) := dk_182 1 55 (dk_at dksX0_isSeam_1 16 rfl rfl)
theorem dX0_isSeam_43 : decode cX0_isSeam 43 = .ok (.if_icmp .le 7, 3) := dk_164 0 7 (dk_at dksX0_isSeam_1 19 rfl rfl)
theorem dX0_isSeam_46 : decode cX0_isSeam 46 = .ok (.iconst 1, 1) := dk_4 (dk_at dksX0_isSeam_1 22 rfl rfl)
theorem dX0_isSeam_47 : decode cX0_isSeam 47 = .ok (.goto 4, 3) := dk_167 0 4 (dk_at dksX0_isSeam_2 0 rfl rfl)
theorem dX0_isSeam_50 : decode cX0_isSeam 50 = .ok (.iconst 0, 1) := dk_3 (dk_at dksX0_isSeam_2 3 rfl rfl)
theorem dX0_isSeam_51 : decode cX0_isSeam 51 = .ok (.ireturn, 1) := dk_172 (dk_at dksX0_isSeam_2 4 rfl rfl)
def dkwX0_nextOf_1 : List UInt8 := [172]
abbrev dktX0_nextOf_1 : List UInt8 := dkwX0_nextOf_1 ++ []
def dkwX0_nextOf_0 : List UInt8 := [42, 180, 0, 56, 43, 182, 1, 26, 192, 1, 19, 77, 44, 199, 0, 7, 3, 167, 0, 7, 44, 182, 1, 52]
abbrev dktX0_nextOf_0 : List UInt8 := dkwX0_nextOf_0 ++ dktX0_nextOf_1
theorem dksX0_nextOf_0 : cX0_nextOf.data.toList.drop 0 = dktX0_nextOf_0 := by decide +kernel
theorem dksX0_nextOf_1 : cX0_nextOf.data.toList.drop 24 = dktX0_nextOf_1 := dk_seg dksX0_nextOf_0 24 rfl rfl
theorem dX0_nextOf_0 : decode cX0_nextOf 0 = .ok (.aload_n 0, 1) := dk_42 (dk_at dksX0_nextOf_0 0 rfl rfl)
theorem dX0_nextOf_1 : decode cX0_nextOf 1 = .ok (.getfield 56, 3) := dk_180 0 56 (dk_at dksX0_nextOf_0 1 rfl rfl)
theorem dX0_nextOf_4 : decode cX0_nextOf 4 = .ok (.aload_n 1, 1) := dk_43 (dk_at dksX0_nextOf_0 4 rfl rfl)
theorem dX0_nextOf_5 : decode cX0_nextOf 5 = .ok (.invokevirtual 282, 3) := dk_182 1 26 (dk_at dksX0_nextOf_0 5 rfl rfl)
theorem dX0_nextOf_8 : decode cX0_nextOf 8 = .ok (.checkcast 275, 3) := dk_192 1 19 (dk_at dksX0_nextOf_0 8 rfl rfl)
theorem dX0_nextOf_11 : decode cX0_nextOf 11 = .ok (.astore_n 2, 1) := dk_77 (dk_at dksX0_nextOf_0 11 rfl rfl)
theorem dX0_nextOf_12 : decode cX0_nextOf 12 = .ok (.aload_n 2, 1) := dk_44 (dk_at dksX0_nextOf_0 12 rfl rfl)
theorem dX0_nextOf_13 : decode cX0_nextOf 13 = .ok (.ifnonnull 7, 3) := dk_199 0 7 (dk_at dksX0_nextOf_0 13 rfl rfl)
theorem dX0_nextOf_16 : decode cX0_nextOf 16 = .ok (.iconst 0, 1) := dk_3 (dk_at dksX0_nextOf_0 16 rfl rfl)
theorem dX0_nextOf_17 : decode cX0_nextOf 17 = .ok (.goto 7, 3) := dk_167 0 7 (dk_at dksX0_nextOf_0 17 rfl rfl)
theorem dX0_nextOf_20 : decode cX0_nextOf 20 = .ok (.aload_n 2, 1) := dk_44 (dk_at dksX0_nextOf_0 20 rfl rfl)
theorem dX0_nextOf_21 : decode cX0_nextOf 21 = .ok (.invokevirtual 308, 3) := dk_182 1 52 (dk_at dksX0_nextOf_0 21 rfl rfl)
theorem dX0_nextOf_24 : decode cX0_nextOf 24 = .ok (.ireturn, 1) := dk_172 (dk_at dksX0_nextOf_1 0 rfl rfl)
def dkwX0_laysGrid_8 : List UInt8 := [182, 1, 147, 177]
abbrev dktX0_laysGrid_8 : List UInt8 := dkwX0_laysGrid_8 ++ []
def dkwX0_laysGrid_7 : List UInt8 := [167, 255, 179, 42, 42, 180, 0, 69, 42, 180, 0, 39, 182, 1, 147, 42, 42, 180, 0, 72, 42, 180, 0, 42]
abbrev dktX0_laysGrid_7 : List UInt8 := dkwX0_laysGrid_7 ++ dktX0_laysGrid_8
def dkwX0_laysGrid_6 : List UInt8 := [42, 180, 0, 36, 42, 180, 0, 16, 180, 1, 136, 27, 50, 180, 1, 146, 46, 184, 1, 125, 132, 1, 1]
abbrev dktX0_laysGrid_6 : List UInt8 := dkwX0_laysGrid_6 ++ dktX0_laysGrid_7
def dkwX0_laysGrid_5 : List UInt8 := [167, 0, 7, 42, 180, 0, 69, 42, 180, 0, 36, 42, 180, 0, 16, 180, 1, 136, 27, 50, 180, 1, 145, 46]
abbrev dktX0_laysGrid_5 : List UInt8 := dkwX0_laysGrid_5 ++ dktX0_laysGrid_6
def dkwX0_laysGrid_4 : List UInt8 := [162, 0, 72, 42, 180, 0, 16, 180, 1, 136, 27, 50, 180, 1, 140, 153, 0, 10, 42, 180, 0, 72]
abbrev dktX0_laysGrid_4 : List UInt8 := dkwX0_laysGrid_4 ++ dktX0_laysGrid_5
def dkwX0_laysGrid_3 : List UInt8 := [132, 2, 1, 167, 255, 228, 132, 1, 1, 167, 255, 209, 3, 60, 27, 42, 180, 0, 16, 180, 1, 133]
abbrev dktX0_laysGrid_3 : List UInt8 := dkwX0_laysGrid_3 ++ dktX0_laysGrid_4
def dkwX0_laysGrid_2 : List UInt8 := [180, 0, 65, 190, 162, 0, 25, 42, 42, 180, 0, 65, 27, 50, 42, 180, 0, 65, 28, 50, 182, 1, 129]
abbrev dktX0_laysGrid_2 : List UInt8 := dkwX0_laysGrid_2 ++ dktX0_laysGrid_3
def dkwX0_laysGrid_1 : List UInt8 := [132, 1, 1, 167, 255, 233, 3, 60, 27, 42, 180, 0, 65, 190, 162, 0, 44, 27, 4, 96, 61, 28, 42]
abbrev dktX0_laysGrid_1 : List UInt8 := dkwX0_laysGrid_1 ++ dktX0_laysGrid_2
def dkwX0_laysGrid_0 : List UInt8 := [3, 60, 27, 16, 20, 162, 0, 23, 42, 180, 0, 69, 27, 3, 79, 42, 180, 0, 72, 27, 3, 79]
abbrev dktX0_laysGrid_0 : List UInt8 := dkwX0_laysGrid_0 ++ dktX0_laysGrid_1
theorem dksX0_laysGrid_0 : cX0_laysGrid.data.toList.drop 0 = dktX0_laysGrid_0 := by decide +kernel
theorem dksX0_laysGrid_1 : cX0_laysGrid.data.toList.drop 22 = dktX0_laysGrid_1 := dk_seg dksX0_laysGrid_0 22 rfl rfl
theorem dksX0_laysGrid_2 : cX0_laysGrid.data.toList.drop 45 = dktX0_laysGrid_2 := dk_seg dksX0_laysGrid_1 23 rfl rfl
theorem dksX0_laysGrid_3 : cX0_laysGrid.data.toList.drop 68 = dktX0_laysGrid_3 := dk_seg dksX0_laysGrid_2 23 rfl rfl
theorem dksX0_laysGrid_4 : cX0_laysGrid.data.toList.drop 90 = dktX0_laysGrid_4 := dk_seg dksX0_laysGrid_3 22 rfl rfl
theorem dksX0_laysGrid_5 : cX0_laysGrid.data.toList.drop 112 = dktX0_laysGrid_5 := dk_seg dksX0_laysGrid_4 22 rfl rfl
theorem dksX0_laysGrid_6 : cX0_laysGrid.data.toList.drop 136 = dktX0_laysGrid_6 := dk_seg dksX0_laysGrid_5 24 rfl rfl
theorem dksX0_laysGrid_7 : cX0_laysGrid.data.toList.drop 159 = dktX0_laysGrid_7 := dk_seg dksX0_laysGrid_6 23 rfl rfl
theorem dksX0_laysGrid_8 : cX0_laysGrid.data.toList.drop 183 = dktX0_laysGrid_8 := dk_seg dksX0_laysGrid_7 24 rfl rfl
theorem dX0_laysGrid_0 : decode cX0_laysGrid 0 = .ok (.iconst 0, 1) := dk_3 (dk_at dksX0_laysGrid_0 0 rfl rfl)
theorem dX0_laysGrid_1 : decode cX0_laysGrid 1 = .ok (.istore_n 1, 1) := dk_60 (dk_at dksX0_laysGrid_0 1 rfl rfl)
theorem dX0_laysGrid_2 : decode cX0_laysGrid 2 = .ok (.iload_n 1, 1) := dk_27 (dk_at dksX0_laysGrid_0 2 rfl rfl)
theorem dX0_laysGrid_3 : decode cX0_laysGrid 3 = .ok (.bipush 20, 2) := dk_16 20 (dk_at dksX0_laysGrid_0 3 rfl rfl)
theorem dX0_laysGrid_5 : decode cX0_laysGrid 5 = .ok (.if_icmp .ge 23, 3) := dk_162 0 23 (dk_at dksX0_laysGrid_0 5 rfl rfl)
theorem dX0_laysGrid_8 : decode cX0_laysGrid 8 = .ok (.aload_n 0, 1) := dk_42 (dk_at dksX0_laysGrid_0 8 rfl rfl)
theorem dX0_laysGrid_9 : decode cX0_laysGrid 9 = .ok (.getfield 69, 3) := dk_180 0 69 (dk_at dksX0_laysGrid_0 9 rfl rfl)
theorem dX0_laysGrid_12 : decode cX0_laysGrid 12 = .ok (.iload_n 1, 1) := dk_27 (dk_at dksX0_laysGrid_0 12 rfl rfl)
theorem dX0_laysGrid_13 : decode cX0_laysGrid 13 = .ok (.iconst 0, 1) := dk_3 (dk_at dksX0_laysGrid_0 13 rfl rfl)
theorem dX0_laysGrid_14 : decode cX0_laysGrid 14 = .ok (.iastore, 1) := dk_79 (dk_at dksX0_laysGrid_0 14 rfl rfl)
theorem dX0_laysGrid_15 : decode cX0_laysGrid 15 = .ok (.aload_n 0, 1) := dk_42 (dk_at dksX0_laysGrid_0 15 rfl rfl)
theorem dX0_laysGrid_16 : decode cX0_laysGrid 16 = .ok (.getfield 72, 3) := dk_180 0 72 (dk_at dksX0_laysGrid_0 16 rfl rfl)
theorem dX0_laysGrid_19 : decode cX0_laysGrid 19 = .ok (.iload_n 1, 1) := dk_27 (dk_at dksX0_laysGrid_0 19 rfl rfl)
theorem dX0_laysGrid_20 : decode cX0_laysGrid 20 = .ok (.iconst 0, 1) := dk_3 (dk_at dksX0_laysGrid_0 20 rfl rfl)
theorem dX0_laysGrid_21 : decode cX0_laysGrid 21 = .ok (.iastore, 1) := dk_79 (dk_at dksX0_laysGrid_0 21 rfl rfl)
theorem dX0_laysGrid_22 : decode cX0_laysGrid 22 = .ok (.iinc 1 1, 3) := dk_132 1 1 (dk_at dksX0_laysGrid_1 0 rfl rfl)
theorem dX0_laysGrid_25 : decode cX0_laysGrid 25 = .ok (.goto (-23), 3) := dk_167 255 233 (dk_at dksX0_laysGrid_1 3 rfl rfl)
theorem dX0_laysGrid_28 : decode cX0_laysGrid 28 = .ok (.iconst 0, 1) := dk_3 (dk_at dksX0_laysGrid_1 6 rfl rfl)
theorem dX0_laysGrid_29 : decode cX0_laysGrid 29 = .ok (.istore_n 1, 1) := dk_60 (dk_at dksX0_laysGrid_1 7 rfl rfl)
theorem dX0_laysGrid_30 : decode cX0_laysGrid 30 = .ok (.iload_n 1, 1) := dk_27 (dk_at dksX0_laysGrid_1 8 rfl rfl)
theorem dX0_laysGrid_31 : decode cX0_laysGrid 31 = .ok (.aload_n 0, 1) := dk_42 (dk_at dksX0_laysGrid_1 9 rfl rfl)
theorem dX0_laysGrid_32 : decode cX0_laysGrid 32 = .ok (.getfield 65, 3) := dk_180 0 65 (dk_at dksX0_laysGrid_1 10 rfl rfl)
theorem dX0_laysGrid_35 : decode cX0_laysGrid 35 = .ok (.arraylength, 1) := dk_190 (dk_at dksX0_laysGrid_1 13 rfl rfl)
theorem dX0_laysGrid_36 : decode cX0_laysGrid 36 = .ok (.if_icmp .ge 44, 3) := dk_162 0 44 (dk_at dksX0_laysGrid_1 14 rfl rfl)
theorem dX0_laysGrid_39 : decode cX0_laysGrid 39 = .ok (.iload_n 1, 1) := dk_27 (dk_at dksX0_laysGrid_1 17 rfl rfl)
theorem dX0_laysGrid_40 : decode cX0_laysGrid 40 = .ok (.iconst 1, 1) := dk_4 (dk_at dksX0_laysGrid_1 18 rfl rfl)
theorem dX0_laysGrid_41 : decode cX0_laysGrid 41 = .ok (.iadd, 1) := dk_96 (dk_at dksX0_laysGrid_1 19 rfl rfl)
theorem dX0_laysGrid_42 : decode cX0_laysGrid 42 = .ok (.istore_n 2, 1) := dk_61 (dk_at dksX0_laysGrid_1 20 rfl rfl)
theorem dX0_laysGrid_43 : decode cX0_laysGrid 43 = .ok (.iload_n 2, 1) := dk_28 (dk_at dksX0_laysGrid_1 21 rfl rfl)
theorem dX0_laysGrid_44 : decode cX0_laysGrid 44 = .ok (.aload_n 0, 1) := dk_42 (dk_at dksX0_laysGrid_1 22 rfl rfl)
theorem dX0_laysGrid_45 : decode cX0_laysGrid 45 = .ok (.getfield 65, 3) := dk_180 0 65 (dk_at dksX0_laysGrid_2 0 rfl rfl)
theorem dX0_laysGrid_48 : decode cX0_laysGrid 48 = .ok (.arraylength, 1) := dk_190 (dk_at dksX0_laysGrid_2 3 rfl rfl)
theorem dX0_laysGrid_49 : decode cX0_laysGrid 49 = .ok (.if_icmp .ge 25, 3) := dk_162 0 25 (dk_at dksX0_laysGrid_2 4 rfl rfl)
theorem dX0_laysGrid_52 : decode cX0_laysGrid 52 = .ok (.aload_n 0, 1) := dk_42 (dk_at dksX0_laysGrid_2 7 rfl rfl)
theorem dX0_laysGrid_53 : decode cX0_laysGrid 53 = .ok (.aload_n 0, 1) := dk_42 (dk_at dksX0_laysGrid_2 8 rfl rfl)
theorem dX0_laysGrid_54 : decode cX0_laysGrid 54 = .ok (.getfield 65, 3) := dk_180 0 65 (dk_at dksX0_laysGrid_2 9 rfl rfl)
theorem dX0_laysGrid_57 : decode cX0_laysGrid 57 = .ok (.iload_n 1, 1) := dk_27 (dk_at dksX0_laysGrid_2 12 rfl rfl)
theorem dX0_laysGrid_58 : decode cX0_laysGrid 58 = .ok (.aaload, 1) := dk_50 (dk_at dksX0_laysGrid_2 13 rfl rfl)
theorem dX0_laysGrid_59 : decode cX0_laysGrid 59 = .ok (.aload_n 0, 1) := dk_42 (dk_at dksX0_laysGrid_2 14 rfl rfl)
theorem dX0_laysGrid_60 : decode cX0_laysGrid 60 = .ok (.getfield 65, 3) := dk_180 0 65 (dk_at dksX0_laysGrid_2 15 rfl rfl)
theorem dX0_laysGrid_63 : decode cX0_laysGrid 63 = .ok (.iload_n 2, 1) := dk_28 (dk_at dksX0_laysGrid_2 18 rfl rfl)
theorem dX0_laysGrid_64 : decode cX0_laysGrid 64 = .ok (.aaload, 1) := dk_50 (dk_at dksX0_laysGrid_2 19 rfl rfl)
theorem dX0_laysGrid_65 : decode cX0_laysGrid 65 = .ok (.invokevirtual 385, 3) := dk_182 1 129 (dk_at dksX0_laysGrid_2 20 rfl rfl)
theorem dX0_laysGrid_68 : decode cX0_laysGrid 68 = .ok (.iinc 2 1, 3) := dk_132 2 1 (dk_at dksX0_laysGrid_3 0 rfl rfl)
theorem dX0_laysGrid_71 : decode cX0_laysGrid 71 = .ok (.goto (-28), 3) := dk_167 255 228 (dk_at dksX0_laysGrid_3 3 rfl rfl)
theorem dX0_laysGrid_74 : decode cX0_laysGrid 74 = .ok (.iinc 1 1, 3) := dk_132 1 1 (dk_at dksX0_laysGrid_3 6 rfl rfl)
theorem dX0_laysGrid_77 : decode cX0_laysGrid 77 = .ok (.goto (-47), 3) := dk_167 255 209 (dk_at dksX0_laysGrid_3 9 rfl rfl)
theorem dX0_laysGrid_80 : decode cX0_laysGrid 80 = .ok (.iconst 0, 1) := dk_3 (dk_at dksX0_laysGrid_3 12 rfl rfl)
theorem dX0_laysGrid_81 : decode cX0_laysGrid 81 = .ok (.istore_n 1, 1) := dk_60 (dk_at dksX0_laysGrid_3 13 rfl rfl)
theorem dX0_laysGrid_82 : decode cX0_laysGrid 82 = .ok (.iload_n 1, 1) := dk_27 (dk_at dksX0_laysGrid_3 14 rfl rfl)
theorem dX0_laysGrid_83 : decode cX0_laysGrid 83 = .ok (.aload_n 0, 1) := dk_42 (dk_at dksX0_laysGrid_3 15 rfl rfl)
theorem dX0_laysGrid_84 : decode cX0_laysGrid 84 = .ok (.getfield 16, 3) := dk_180 0 16 (dk_at dksX0_laysGrid_3 16 rfl rfl)
theorem dX0_laysGrid_87 : decode cX0_laysGrid 87 = .ok (.getfield 389, 3) := dk_180 1 133 (dk_at dksX0_laysGrid_3 19 rfl rfl)
theorem dX0_laysGrid_90 : decode cX0_laysGrid 90 = .ok (.if_icmp .ge 72, 3) := dk_162 0 72 (dk_at dksX0_laysGrid_4 0 rfl rfl)
theorem dX0_laysGrid_93 : decode cX0_laysGrid 93 = .ok (.aload_n 0, 1) := dk_42 (dk_at dksX0_laysGrid_4 3 rfl rfl)
theorem dX0_laysGrid_94 : decode cX0_laysGrid 94 = .ok (.getfield 16, 3) := dk_180 0 16 (dk_at dksX0_laysGrid_4 4 rfl rfl)
theorem dX0_laysGrid_97 : decode cX0_laysGrid 97 = .ok (.getfield 392, 3) := dk_180 1 136 (dk_at dksX0_laysGrid_4 7 rfl rfl)
theorem dX0_laysGrid_100 : decode cX0_laysGrid 100 = .ok (.iload_n 1, 1) := dk_27 (dk_at dksX0_laysGrid_4 10 rfl rfl)
theorem dX0_laysGrid_101 : decode cX0_laysGrid 101 = .ok (.aaload, 1) := dk_50 (dk_at dksX0_laysGrid_4 11 rfl rfl)
theorem dX0_laysGrid_102 : decode cX0_laysGrid 102 = .ok (.getfield 396, 3) := dk_180 1 140 (dk_at dksX0_laysGrid_4 12 rfl rfl)
theorem dX0_laysGrid_105 : decode cX0_laysGrid 105 = .ok (.ifCond .eq 10, 3) := dk_153 0 10 (dk_at dksX0_laysGrid_4 15 rfl rfl)
theorem dX0_laysGrid_108 : decode cX0_laysGrid 108 = .ok (.aload_n 0, 1) := dk_42 (dk_at dksX0_laysGrid_4 18 rfl rfl)
theorem dX0_laysGrid_109 : decode cX0_laysGrid 109 = .ok (.getfield 72, 3) := dk_180 0 72 (dk_at dksX0_laysGrid_4 19 rfl rfl)
theorem dX0_laysGrid_112 : decode cX0_laysGrid 112 = .ok (.goto 7, 3) := dk_167 0 7 (dk_at dksX0_laysGrid_5 0 rfl rfl)
theorem dX0_laysGrid_115 : decode cX0_laysGrid 115 = .ok (.aload_n 0, 1) := dk_42 (dk_at dksX0_laysGrid_5 3 rfl rfl)
theorem dX0_laysGrid_116 : decode cX0_laysGrid 116 = .ok (.getfield 69, 3) := dk_180 0 69 (dk_at dksX0_laysGrid_5 4 rfl rfl)
theorem dX0_laysGrid_119 : decode cX0_laysGrid 119 = .ok (.aload_n 0, 1) := dk_42 (dk_at dksX0_laysGrid_5 7 rfl rfl)
theorem dX0_laysGrid_120 : decode cX0_laysGrid 120 = .ok (.getfield 36, 3) := dk_180 0 36 (dk_at dksX0_laysGrid_5 8 rfl rfl)
theorem dX0_laysGrid_123 : decode cX0_laysGrid 123 = .ok (.aload_n 0, 1) := dk_42 (dk_at dksX0_laysGrid_5 11 rfl rfl)
theorem dX0_laysGrid_124 : decode cX0_laysGrid 124 = .ok (.getfield 16, 3) := dk_180 0 16 (dk_at dksX0_laysGrid_5 12 rfl rfl)
theorem dX0_laysGrid_127 : decode cX0_laysGrid 127 = .ok (.getfield 392, 3) := dk_180 1 136 (dk_at dksX0_laysGrid_5 15 rfl rfl)
theorem dX0_laysGrid_130 : decode cX0_laysGrid 130 = .ok (.iload_n 1, 1) := dk_27 (dk_at dksX0_laysGrid_5 18 rfl rfl)
theorem dX0_laysGrid_131 : decode cX0_laysGrid 131 = .ok (.aaload, 1) := dk_50 (dk_at dksX0_laysGrid_5 19 rfl rfl)
theorem dX0_laysGrid_132 : decode cX0_laysGrid 132 = .ok (.getfield 401, 3) := dk_180 1 145 (dk_at dksX0_laysGrid_5 20 rfl rfl)
theorem dX0_laysGrid_135 : decode cX0_laysGrid 135 = .ok (.iaload, 1) := dk_46 (dk_at dksX0_laysGrid_5 23 rfl rfl)
theorem dX0_laysGrid_136 : decode cX0_laysGrid 136 = .ok (.aload_n 0, 1) := dk_42 (dk_at dksX0_laysGrid_6 0 rfl rfl)
theorem dX0_laysGrid_137 : decode cX0_laysGrid 137 = .ok (.getfield 36, 3) := dk_180 0 36 (dk_at dksX0_laysGrid_6 1 rfl rfl)
theorem dX0_laysGrid_140 : decode cX0_laysGrid 140 = .ok (.aload_n 0, 1) := dk_42 (dk_at dksX0_laysGrid_6 4 rfl rfl)
theorem dX0_laysGrid_141 : decode cX0_laysGrid 141 = .ok (.getfield 16, 3) := dk_180 0 16 (dk_at dksX0_laysGrid_6 5 rfl rfl)
theorem dX0_laysGrid_144 : decode cX0_laysGrid 144 = .ok (.getfield 392, 3) := dk_180 1 136 (dk_at dksX0_laysGrid_6 8 rfl rfl)
theorem dX0_laysGrid_147 : decode cX0_laysGrid 147 = .ok (.iload_n 1, 1) := dk_27 (dk_at dksX0_laysGrid_6 11 rfl rfl)
theorem dX0_laysGrid_148 : decode cX0_laysGrid 148 = .ok (.aaload, 1) := dk_50 (dk_at dksX0_laysGrid_6 12 rfl rfl)
theorem dX0_laysGrid_149 : decode cX0_laysGrid 149 = .ok (.getfield 402, 3) := dk_180 1 146 (dk_at dksX0_laysGrid_6 13 rfl rfl)
theorem dX0_laysGrid_152 : decode cX0_laysGrid 152 = .ok (.iaload, 1) := dk_46 (dk_at dksX0_laysGrid_6 16 rfl rfl)
theorem dX0_laysGrid_153 : decode cX0_laysGrid 153 = .ok (.invokestatic 381, 3) := dk_184 1 125 (dk_at dksX0_laysGrid_6 17 rfl rfl)
theorem dX0_laysGrid_156 : decode cX0_laysGrid 156 = .ok (.iinc 1 1, 3) := dk_132 1 1 (dk_at dksX0_laysGrid_6 20 rfl rfl)
theorem dX0_laysGrid_159 : decode cX0_laysGrid 159 = .ok (.goto (-77), 3) := dk_167 255 179 (dk_at dksX0_laysGrid_7 0 rfl rfl)
theorem dX0_laysGrid_162 : decode cX0_laysGrid 162 = .ok (.aload_n 0, 1) := dk_42 (dk_at dksX0_laysGrid_7 3 rfl rfl)
theorem dX0_laysGrid_163 : decode cX0_laysGrid 163 = .ok (.aload_n 0, 1) := dk_42 (dk_at dksX0_laysGrid_7 4 rfl rfl)
theorem dX0_laysGrid_164 : decode cX0_laysGrid 164 = .ok (.getfield 69, 3) := dk_180 0 69 (dk_at dksX0_laysGrid_7 5 rfl rfl)
theorem dX0_laysGrid_167 : decode cX0_laysGrid 167 = .ok (.aload_n 0, 1) := dk_42 (dk_at dksX0_laysGrid_7 8 rfl rfl)
theorem dX0_laysGrid_168 : decode cX0_laysGrid 168 = .ok (.getfield 39, 3) := dk_180 0 39 (dk_at dksX0_laysGrid_7 9 rfl rfl)
theorem dX0_laysGrid_171 : decode cX0_laysGrid 171 = .ok (.invokevirtual 403, 3) := dk_182 1 147 (dk_at dksX0_laysGrid_7 12 rfl rfl)
theorem dX0_laysGrid_174 : decode cX0_laysGrid 174 = .ok (.aload_n 0, 1) := dk_42 (dk_at dksX0_laysGrid_7 15 rfl rfl)
theorem dX0_laysGrid_175 : decode cX0_laysGrid 175 = .ok (.aload_n 0, 1) := dk_42 (dk_at dksX0_laysGrid_7 16 rfl rfl)
theorem dX0_laysGrid_176 : decode cX0_laysGrid 176 = .ok (.getfield 72, 3) := dk_180 0 72 (dk_at dksX0_laysGrid_7 17 rfl rfl)
theorem dX0_laysGrid_179 : decode cX0_laysGrid 179 = .ok (.aload_n 0, 1) := dk_42 (dk_at dksX0_laysGrid_7 20 rfl rfl)
theorem dX0_laysGrid_180 : decode cX0_laysGrid 180 = .ok (.getfield 42, 3) := dk_180 0 42 (dk_at dksX0_laysGrid_7 21 rfl rfl)
theorem dX0_laysGrid_183 : decode cX0_laysGrid 183 = .ok (.invokevirtual 403, 3) := dk_182 1 147 (dk_at dksX0_laysGrid_8 0 rfl rfl)
theorem dX0_laysGrid_186 : decode cX0_laysGrid 186 = .ok (.return_, 1) := dk_177 (dk_at dksX0_laysGrid_8 3 rfl rfl)
def dkwX0_cluesOf_3 : List UInt8 := [43, 21, 4, 182, 1, 118, 44, 21, 4, 182, 1, 118, 184, 1, 125, 177]
abbrev dktX0_cluesOf_3 : List UInt8 := dkwX0_cluesOf_3 ++ []
def dkwX0_cluesOf_2 : List UInt8 := [182, 1, 118, 44, 21, 4, 182, 1, 118, 184, 1, 125, 167, 0, 27, 21, 4, 154, 0, 22, 42, 180, 0, 72]
abbrev dktX0_cluesOf_2 : List UInt8 := dkwX0_cluesOf_2 ++ dktX0_cluesOf_3
def dkwX0_cluesOf_1 : List UInt8 := [177, 43, 44, 184, 1, 121, 54, 4, 21, 4, 29, 4, 100, 160, 0, 25, 42, 180, 0, 69, 43, 21, 4]
abbrev dktX0_cluesOf_1 : List UInt8 := dkwX0_cluesOf_1 ++ dktX0_cluesOf_2
def dkwX0_cluesOf_0 : List UInt8 := [43, 180, 1, 115, 182, 1, 6, 62, 29, 5, 161, 0, 14, 44, 180, 1, 115, 182, 1, 6, 29, 159, 0, 4]
abbrev dktX0_cluesOf_0 : List UInt8 := dkwX0_cluesOf_0 ++ dktX0_cluesOf_1
theorem dksX0_cluesOf_0 : cX0_cluesOf.data.toList.drop 0 = dktX0_cluesOf_0 := by decide +kernel
theorem dksX0_cluesOf_1 : cX0_cluesOf.data.toList.drop 24 = dktX0_cluesOf_1 := dk_seg dksX0_cluesOf_0 24 rfl rfl
theorem dksX0_cluesOf_2 : cX0_cluesOf.data.toList.drop 47 = dktX0_cluesOf_2 := dk_seg dksX0_cluesOf_1 23 rfl rfl
theorem dksX0_cluesOf_3 : cX0_cluesOf.data.toList.drop 71 = dktX0_cluesOf_3 := dk_seg dksX0_cluesOf_2 24 rfl rfl
theorem dX0_cluesOf_0 : decode cX0_cluesOf 0 = .ok (.aload_n 1, 1) := dk_43 (dk_at dksX0_cluesOf_0 0 rfl rfl)
theorem dX0_cluesOf_1 : decode cX0_cluesOf 1 = .ok (.getfield 371, 3) := dk_180 1 115 (dk_at dksX0_cluesOf_0 1 rfl rfl)
theorem dX0_cluesOf_4 : decode cX0_cluesOf 4 = .ok (.invokevirtual 262, 3) := dk_182 1 6 (dk_at dksX0_cluesOf_0 4 rfl rfl)
theorem dX0_cluesOf_7 : decode cX0_cluesOf 7 = .ok (.istore_n 3, 1) := dk_62 (dk_at dksX0_cluesOf_0 7 rfl rfl)
theorem dX0_cluesOf_8 : decode cX0_cluesOf 8 = .ok (.iload_n 3, 1) := dk_29 (dk_at dksX0_cluesOf_0 8 rfl rfl)
theorem dX0_cluesOf_9 : decode cX0_cluesOf 9 = .ok (.iconst 2, 1) := dk_5 (dk_at dksX0_cluesOf_0 9 rfl rfl)
theorem dX0_cluesOf_10 : decode cX0_cluesOf 10 = .ok (.if_icmp .lt 14, 3) := dk_161 0 14 (dk_at dksX0_cluesOf_0 10 rfl rfl)
theorem dX0_cluesOf_13 : decode cX0_cluesOf 13 = .ok (.aload_n 2, 1) := dk_44 (dk_at dksX0_cluesOf_0 13 rfl rfl)
theorem dX0_cluesOf_14 : decode cX0_cluesOf 14 = .ok (.getfield 371, 3) := dk_180 1 115 (dk_at dksX0_cluesOf_0 14 rfl rfl)
theorem dX0_cluesOf_17 : decode cX0_cluesOf 17 = .ok (.invokevirtual 262, 3) := dk_182 1 6 (dk_at dksX0_cluesOf_0 17 rfl rfl)
theorem dX0_cluesOf_20 : decode cX0_cluesOf 20 = .ok (.iload_n 3, 1) := dk_29 (dk_at dksX0_cluesOf_0 20 rfl rfl)
theorem dX0_cluesOf_21 : decode cX0_cluesOf 21 = .ok (.if_icmp .eq 4, 3) := dk_159 0 4 (dk_at dksX0_cluesOf_0 21 rfl rfl)
theorem dX0_cluesOf_24 : decode cX0_cluesOf 24 = .ok (.return_, 1) := dk_177 (dk_at dksX0_cluesOf_1 0 rfl rfl)
theorem dX0_cluesOf_25 : decode cX0_cluesOf 25 = .ok (.aload_n 1, 1) := dk_43 (dk_at dksX0_cluesOf_1 1 rfl rfl)
theorem dX0_cluesOf_26 : decode cX0_cluesOf 26 = .ok (.aload_n 2, 1) := dk_44 (dk_at dksX0_cluesOf_1 2 rfl rfl)
theorem dX0_cluesOf_27 : decode cX0_cluesOf 27 = .ok (.invokestatic 377, 3) := dk_184 1 121 (dk_at dksX0_cluesOf_1 3 rfl rfl)
theorem dX0_cluesOf_30 : decode cX0_cluesOf 30 = .ok (.istore 4, 2) := dk_54 4 (dk_at dksX0_cluesOf_1 6 rfl rfl)
theorem dX0_cluesOf_32 : decode cX0_cluesOf 32 = .ok (.iload 4, 2) := dk_21 4 (dk_at dksX0_cluesOf_1 8 rfl rfl)
theorem dX0_cluesOf_34 : decode cX0_cluesOf 34 = .ok (.iload_n 3, 1) := dk_29 (dk_at dksX0_cluesOf_1 10 rfl rfl)
theorem dX0_cluesOf_35 : decode cX0_cluesOf 35 = .ok (.iconst 1, 1) := dk_4 (dk_at dksX0_cluesOf_1 11 rfl rfl)
theorem dX0_cluesOf_36 : decode cX0_cluesOf 36 = .ok (.isub, 1) := dk_100 (dk_at dksX0_cluesOf_1 12 rfl rfl)
theorem dX0_cluesOf_37 : decode cX0_cluesOf 37 = .ok (.if_icmp .ne 25, 3) := dk_160 0 25 (dk_at dksX0_cluesOf_1 13 rfl rfl)
theorem dX0_cluesOf_40 : decode cX0_cluesOf 40 = .ok (.aload_n 0, 1) := dk_42 (dk_at dksX0_cluesOf_1 16 rfl rfl)
theorem dX0_cluesOf_41 : decode cX0_cluesOf 41 = .ok (.getfield 69, 3) := dk_180 0 69 (dk_at dksX0_cluesOf_1 17 rfl rfl)
theorem dX0_cluesOf_44 : decode cX0_cluesOf 44 = .ok (.aload_n 1, 1) := dk_43 (dk_at dksX0_cluesOf_1 20 rfl rfl)
theorem dX0_cluesOf_45 : decode cX0_cluesOf 45 = .ok (.iload 4, 2) := dk_21 4 (dk_at dksX0_cluesOf_1 21 rfl rfl)
theorem dX0_cluesOf_47 : decode cX0_cluesOf 47 = .ok (.invokevirtual 374, 3) := dk_182 1 118 (dk_at dksX0_cluesOf_2 0 rfl rfl)
theorem dX0_cluesOf_50 : decode cX0_cluesOf 50 = .ok (.aload_n 2, 1) := dk_44 (dk_at dksX0_cluesOf_2 3 rfl rfl)
theorem dX0_cluesOf_51 : decode cX0_cluesOf 51 = .ok (.iload 4, 2) := dk_21 4 (dk_at dksX0_cluesOf_2 4 rfl rfl)
theorem dX0_cluesOf_53 : decode cX0_cluesOf 53 = .ok (.invokevirtual 374, 3) := dk_182 1 118 (dk_at dksX0_cluesOf_2 6 rfl rfl)
theorem dX0_cluesOf_56 : decode cX0_cluesOf 56 = .ok (.invokestatic 381, 3) := dk_184 1 125 (dk_at dksX0_cluesOf_2 9 rfl rfl)
theorem dX0_cluesOf_59 : decode cX0_cluesOf 59 = .ok (.goto 27, 3) := dk_167 0 27 (dk_at dksX0_cluesOf_2 12 rfl rfl)
theorem dX0_cluesOf_62 : decode cX0_cluesOf 62 = .ok (.iload 4, 2) := dk_21 4 (dk_at dksX0_cluesOf_2 15 rfl rfl)
theorem dX0_cluesOf_64 : decode cX0_cluesOf 64 = .ok (.ifCond .ne 22, 3) := dk_154 0 22 (dk_at dksX0_cluesOf_2 17 rfl rfl)
theorem dX0_cluesOf_67 : decode cX0_cluesOf 67 = .ok (.aload_n 0, 1) := dk_42 (dk_at dksX0_cluesOf_2 20 rfl rfl)
theorem dX0_cluesOf_68 : decode cX0_cluesOf 68 = .ok (.getfield 72, 3) := dk_180 0 72 (dk_at dksX0_cluesOf_2 21 rfl rfl)
theorem dX0_cluesOf_71 : decode cX0_cluesOf 71 = .ok (.aload_n 1, 1) := dk_43 (dk_at dksX0_cluesOf_3 0 rfl rfl)
theorem dX0_cluesOf_72 : decode cX0_cluesOf 72 = .ok (.iload 4, 2) := dk_21 4 (dk_at dksX0_cluesOf_3 1 rfl rfl)
theorem dX0_cluesOf_74 : decode cX0_cluesOf 74 = .ok (.invokevirtual 374, 3) := dk_182 1 118 (dk_at dksX0_cluesOf_3 3 rfl rfl)
theorem dX0_cluesOf_77 : decode cX0_cluesOf 77 = .ok (.aload_n 2, 1) := dk_44 (dk_at dksX0_cluesOf_3 6 rfl rfl)
theorem dX0_cluesOf_78 : decode cX0_cluesOf 78 = .ok (.iload 4, 2) := dk_21 4 (dk_at dksX0_cluesOf_3 7 rfl rfl)
theorem dX0_cluesOf_80 : decode cX0_cluesOf 80 = .ok (.invokevirtual 374, 3) := dk_182 1 118 (dk_at dksX0_cluesOf_3 9 rfl rfl)
theorem dX0_cluesOf_83 : decode cX0_cluesOf 83 = .ok (.invokestatic 381, 3) := dk_184 1 125 (dk_at dksX0_cluesOf_3 12 rfl rfl)
theorem dX0_cluesOf_86 : decode cX0_cluesOf 86 = .ok (.return_, 1) := dk_177 (dk_at dksX0_cluesOf_3 15 rfl rfl)
def dkwX0_onlyAt_2 : List UInt8 := [28, 172]
abbrev dktX0_onlyAt_2 : List UInt8 := dkwX0_onlyAt_2 ++ []
def dkwX0_onlyAt_1 : List UInt8 := [182, 1, 118, 160, 0, 6, 167, 0, 12, 28, 2, 159, 0, 5, 2, 172, 29, 61, 132, 3, 1, 167, 255, 217]
abbrev dktX0_onlyAt_1 : List UInt8 := dkwX0_onlyAt_1 ++ dktX0_onlyAt_2
def dkwX0_onlyAt_0 : List UInt8 := [2, 61, 3, 62, 29, 42, 180, 1, 115, 182, 1, 6, 162, 0, 34, 42, 29, 182, 1, 118, 43, 29]
abbrev dktX0_onlyAt_0 : List UInt8 := dkwX0_onlyAt_0 ++ dktX0_onlyAt_1
theorem dksX0_onlyAt_0 : cX0_onlyAt.data.toList.drop 0 = dktX0_onlyAt_0 := by decide +kernel
theorem dksX0_onlyAt_1 : cX0_onlyAt.data.toList.drop 22 = dktX0_onlyAt_1 := dk_seg dksX0_onlyAt_0 22 rfl rfl
theorem dksX0_onlyAt_2 : cX0_onlyAt.data.toList.drop 46 = dktX0_onlyAt_2 := dk_seg dksX0_onlyAt_1 24 rfl rfl
theorem dX0_onlyAt_0 : decode cX0_onlyAt 0 = .ok (.iconst (-1), 1) := dk_2 (dk_at dksX0_onlyAt_0 0 rfl rfl)
theorem dX0_onlyAt_1 : decode cX0_onlyAt 1 = .ok (.istore_n 2, 1) := dk_61 (dk_at dksX0_onlyAt_0 1 rfl rfl)
theorem dX0_onlyAt_2 : decode cX0_onlyAt 2 = .ok (.iconst 0, 1) := dk_3 (dk_at dksX0_onlyAt_0 2 rfl rfl)
theorem dX0_onlyAt_3 : decode cX0_onlyAt 3 = .ok (.istore_n 3, 1) := dk_62 (dk_at dksX0_onlyAt_0 3 rfl rfl)
theorem dX0_onlyAt_4 : decode cX0_onlyAt 4 = .ok (.iload_n 3, 1) := dk_29 (dk_at dksX0_onlyAt_0 4 rfl rfl)
theorem dX0_onlyAt_5 : decode cX0_onlyAt 5 = .ok (.aload_n 0, 1) := dk_42 (dk_at dksX0_onlyAt_0 5 rfl rfl)
theorem dX0_onlyAt_6 : decode cX0_onlyAt 6 = .ok (.getfield 371, 3) := dk_180 1 115 (dk_at dksX0_onlyAt_0 6 rfl rfl)
theorem dX0_onlyAt_9 : decode cX0_onlyAt 9 = .ok (.invokevirtual 262, 3) := dk_182 1 6 (dk_at dksX0_onlyAt_0 9 rfl rfl)
theorem dX0_onlyAt_12 : decode cX0_onlyAt 12 = .ok (.if_icmp .ge 34, 3) := dk_162 0 34 (dk_at dksX0_onlyAt_0 12 rfl rfl)
theorem dX0_onlyAt_15 : decode cX0_onlyAt 15 = .ok (.aload_n 0, 1) := dk_42 (dk_at dksX0_onlyAt_0 15 rfl rfl)
theorem dX0_onlyAt_16 : decode cX0_onlyAt 16 = .ok (.iload_n 3, 1) := dk_29 (dk_at dksX0_onlyAt_0 16 rfl rfl)
theorem dX0_onlyAt_17 : decode cX0_onlyAt 17 = .ok (.invokevirtual 374, 3) := dk_182 1 118 (dk_at dksX0_onlyAt_0 17 rfl rfl)
theorem dX0_onlyAt_20 : decode cX0_onlyAt 20 = .ok (.aload_n 1, 1) := dk_43 (dk_at dksX0_onlyAt_0 20 rfl rfl)
theorem dX0_onlyAt_21 : decode cX0_onlyAt 21 = .ok (.iload_n 3, 1) := dk_29 (dk_at dksX0_onlyAt_0 21 rfl rfl)
theorem dX0_onlyAt_22 : decode cX0_onlyAt 22 = .ok (.invokevirtual 374, 3) := dk_182 1 118 (dk_at dksX0_onlyAt_1 0 rfl rfl)
theorem dX0_onlyAt_25 : decode cX0_onlyAt 25 = .ok (.if_icmp .ne 6, 3) := dk_160 0 6 (dk_at dksX0_onlyAt_1 3 rfl rfl)
theorem dX0_onlyAt_28 : decode cX0_onlyAt 28 = .ok (.goto 12, 3) := dk_167 0 12 (dk_at dksX0_onlyAt_1 6 rfl rfl)
theorem dX0_onlyAt_31 : decode cX0_onlyAt 31 = .ok (.iload_n 2, 1) := dk_28 (dk_at dksX0_onlyAt_1 9 rfl rfl)
theorem dX0_onlyAt_32 : decode cX0_onlyAt 32 = .ok (.iconst (-1), 1) := dk_2 (dk_at dksX0_onlyAt_1 10 rfl rfl)
theorem dX0_onlyAt_33 : decode cX0_onlyAt 33 = .ok (.if_icmp .eq 5, 3) := dk_159 0 5 (dk_at dksX0_onlyAt_1 11 rfl rfl)
theorem dX0_onlyAt_36 : decode cX0_onlyAt 36 = .ok (.iconst (-1), 1) := dk_2 (dk_at dksX0_onlyAt_1 14 rfl rfl)
theorem dX0_onlyAt_37 : decode cX0_onlyAt 37 = .ok (.ireturn, 1) := dk_172 (dk_at dksX0_onlyAt_1 15 rfl rfl)
theorem dX0_onlyAt_38 : decode cX0_onlyAt 38 = .ok (.iload_n 3, 1) := dk_29 (dk_at dksX0_onlyAt_1 16 rfl rfl)
theorem dX0_onlyAt_39 : decode cX0_onlyAt 39 = .ok (.istore_n 2, 1) := dk_61 (dk_at dksX0_onlyAt_1 17 rfl rfl)
theorem dX0_onlyAt_40 : decode cX0_onlyAt 40 = .ok (.iinc 3 1, 3) := dk_132 3 1 (dk_at dksX0_onlyAt_1 18 rfl rfl)
theorem dX0_onlyAt_43 : decode cX0_onlyAt 43 = .ok (.goto (-39), 3) := dk_167 255 217 (dk_at dksX0_onlyAt_1 21 rfl rfl)
theorem dX0_onlyAt_46 : decode cX0_onlyAt 46 = .ok (.iload_n 2, 1) := dk_28 (dk_at dksX0_onlyAt_2 0 rfl rfl)
theorem dX0_onlyAt_47 : decode cX0_onlyAt 47 = .ok (.ireturn, 1) := dk_172 (dk_at dksX0_onlyAt_2 1 rfl rfl)
def dkwX0_links_1 : List UInt8 := [177]
abbrev dktX0_links_1 : List UInt8 := dkwX0_links_1 ++ []
def dkwX0_links_0 : List UInt8 := [27, 28, 160, 0, 4, 177, 42, 27, 92, 46, 4, 28, 120, 128, 79, 42, 28, 92, 46, 4, 27, 120, 128, 79]
abbrev dktX0_links_0 : List UInt8 := dkwX0_links_0 ++ dktX0_links_1
theorem dksX0_links_0 : cX0_links.data.toList.drop 0 = dktX0_links_0 := by decide +kernel
theorem dksX0_links_1 : cX0_links.data.toList.drop 24 = dktX0_links_1 := dk_seg dksX0_links_0 24 rfl rfl
theorem dX0_links_0 : decode cX0_links 0 = .ok (.iload_n 1, 1) := dk_27 (dk_at dksX0_links_0 0 rfl rfl)
theorem dX0_links_1 : decode cX0_links 1 = .ok (.iload_n 2, 1) := dk_28 (dk_at dksX0_links_0 1 rfl rfl)
theorem dX0_links_2 : decode cX0_links 2 = .ok (.if_icmp .ne 4, 3) := dk_160 0 4 (dk_at dksX0_links_0 2 rfl rfl)
theorem dX0_links_5 : decode cX0_links 5 = .ok (.return_, 1) := dk_177 (dk_at dksX0_links_0 5 rfl rfl)
theorem dX0_links_6 : decode cX0_links 6 = .ok (.aload_n 0, 1) := dk_42 (dk_at dksX0_links_0 6 rfl rfl)
theorem dX0_links_7 : decode cX0_links 7 = .ok (.iload_n 1, 1) := dk_27 (dk_at dksX0_links_0 7 rfl rfl)
theorem dX0_links_8 : decode cX0_links 8 = .ok (.dup2, 1) := dk_92 (dk_at dksX0_links_0 8 rfl rfl)
theorem dX0_links_9 : decode cX0_links 9 = .ok (.iaload, 1) := dk_46 (dk_at dksX0_links_0 9 rfl rfl)
theorem dX0_links_10 : decode cX0_links 10 = .ok (.iconst 1, 1) := dk_4 (dk_at dksX0_links_0 10 rfl rfl)
theorem dX0_links_11 : decode cX0_links 11 = .ok (.iload_n 2, 1) := dk_28 (dk_at dksX0_links_0 11 rfl rfl)
theorem dX0_links_12 : decode cX0_links 12 = .ok (.ishl, 1) := dk_120 (dk_at dksX0_links_0 12 rfl rfl)
theorem dX0_links_13 : decode cX0_links 13 = .ok (.ior, 1) := dk_128 (dk_at dksX0_links_0 13 rfl rfl)
theorem dX0_links_14 : decode cX0_links 14 = .ok (.iastore, 1) := dk_79 (dk_at dksX0_links_0 14 rfl rfl)
theorem dX0_links_15 : decode cX0_links 15 = .ok (.aload_n 0, 1) := dk_42 (dk_at dksX0_links_0 15 rfl rfl)
theorem dX0_links_16 : decode cX0_links 16 = .ok (.iload_n 2, 1) := dk_28 (dk_at dksX0_links_0 16 rfl rfl)
theorem dX0_links_17 : decode cX0_links 17 = .ok (.dup2, 1) := dk_92 (dk_at dksX0_links_0 17 rfl rfl)
theorem dX0_links_18 : decode cX0_links 18 = .ok (.iaload, 1) := dk_46 (dk_at dksX0_links_0 18 rfl rfl)
theorem dX0_links_19 : decode cX0_links 19 = .ok (.iconst 1, 1) := dk_4 (dk_at dksX0_links_0 19 rfl rfl)
theorem dX0_links_20 : decode cX0_links 20 = .ok (.iload_n 1, 1) := dk_27 (dk_at dksX0_links_0 20 rfl rfl)
theorem dX0_links_21 : decode cX0_links 21 = .ok (.ishl, 1) := dk_120 (dk_at dksX0_links_0 21 rfl rfl)
theorem dX0_links_22 : decode cX0_links 22 = .ok (.ior, 1) := dk_128 (dk_at dksX0_links_0 22 rfl rfl)
theorem dX0_links_23 : decode cX0_links 23 = .ok (.iastore, 1) := dk_79 (dk_at dksX0_links_0 23 rfl rfl)
theorem dX0_links_24 : decode cX0_links 24 = .ok (.return_, 1) := dk_177 (dk_at dksX0_links_1 0 rfl rfl)
def dkwX0_classes_3 : List UInt8 := [184, 0, 180, 79, 132, 3, 1, 167, 255, 239, 177]
abbrev dktX0_classes_3 : List UInt8 := dkwX0_classes_3 ++ []
def dkwX0_classes_2 : List UInt8 := [132, 4, 1, 167, 255, 228, 132, 3, 1, 167, 255, 208, 3, 62, 29, 16, 20, 162, 0, 17, 44, 29, 44, 29]
abbrev dktX0_classes_2 : List UInt8 := dkwX0_classes_2 ++ dktX0_classes_3
def dkwX0_classes_1 : List UInt8 := [162, 0, 28, 43, 29, 46, 21, 4, 184, 0, 152, 153, 0, 11, 44, 29, 21, 4, 184, 0, 220, 87]
abbrev dktX0_classes_1 : List UInt8 := dkwX0_classes_1 ++ dktX0_classes_2
def dkwX0_classes_0 : List UInt8 := [44, 184, 0, 203, 3, 62, 29, 42, 180, 0, 16, 180, 0, 134, 162, 0, 43, 3, 54, 4, 21, 4, 29]
abbrev dktX0_classes_0 : List UInt8 := dkwX0_classes_0 ++ dktX0_classes_1
theorem dksX0_classes_0 : cX0_classes.data.toList.drop 0 = dktX0_classes_0 := by decide +kernel
theorem dksX0_classes_1 : cX0_classes.data.toList.drop 23 = dktX0_classes_1 := dk_seg dksX0_classes_0 23 rfl rfl
theorem dksX0_classes_2 : cX0_classes.data.toList.drop 45 = dktX0_classes_2 := dk_seg dksX0_classes_1 22 rfl rfl
theorem dksX0_classes_3 : cX0_classes.data.toList.drop 69 = dktX0_classes_3 := dk_seg dksX0_classes_2 24 rfl rfl
theorem dX0_classes_0 : decode cX0_classes 0 = .ok (.aload_n 2, 1) := dk_44 (dk_at dksX0_classes_0 0 rfl rfl)
theorem dX0_classes_1 : decode cX0_classes 1 = .ok (.invokestatic 203, 3) := dk_184 0 203 (dk_at dksX0_classes_0 1 rfl rfl)
theorem dX0_classes_4 : decode cX0_classes 4 = .ok (.iconst 0, 1) := dk_3 (dk_at dksX0_classes_0 4 rfl rfl)
theorem dX0_classes_5 : decode cX0_classes 5 = .ok (.istore_n 3, 1) := dk_62 (dk_at dksX0_classes_0 5 rfl rfl)
theorem dX0_classes_6 : decode cX0_classes 6 = .ok (.iload_n 3, 1) := dk_29 (dk_at dksX0_classes_0 6 rfl rfl)
theorem dX0_classes_7 : decode cX0_classes 7 = .ok (.aload_n 0, 1) := dk_42 (dk_at dksX0_classes_0 7 rfl rfl)
theorem dX0_classes_8 : decode cX0_classes 8 = .ok (.getfield 16, 3) := dk_180 0 16 (dk_at dksX0_classes_0 8 rfl rfl)
theorem dX0_classes_11 : decode cX0_classes 11 = .ok (.getfield 134, 3) := dk_180 0 134 (dk_at dksX0_classes_0 11 rfl rfl)
theorem dX0_classes_14 : decode cX0_classes 14 = .ok (.if_icmp .ge 43, 3) := dk_162 0 43 (dk_at dksX0_classes_0 14 rfl rfl)
theorem dX0_classes_17 : decode cX0_classes 17 = .ok (.iconst 0, 1) := dk_3 (dk_at dksX0_classes_0 17 rfl rfl)
theorem dX0_classes_18 : decode cX0_classes 18 = .ok (.istore 4, 2) := dk_54 4 (dk_at dksX0_classes_0 18 rfl rfl)
theorem dX0_classes_20 : decode cX0_classes 20 = .ok (.iload 4, 2) := dk_21 4 (dk_at dksX0_classes_0 20 rfl rfl)
theorem dX0_classes_22 : decode cX0_classes 22 = .ok (.iload_n 3, 1) := dk_29 (dk_at dksX0_classes_0 22 rfl rfl)
theorem dX0_classes_23 : decode cX0_classes 23 = .ok (.if_icmp .ge 28, 3) := dk_162 0 28 (dk_at dksX0_classes_1 0 rfl rfl)
theorem dX0_classes_26 : decode cX0_classes 26 = .ok (.aload_n 1, 1) := dk_43 (dk_at dksX0_classes_1 3 rfl rfl)
theorem dX0_classes_27 : decode cX0_classes 27 = .ok (.iload_n 3, 1) := dk_29 (dk_at dksX0_classes_1 4 rfl rfl)
theorem dX0_classes_28 : decode cX0_classes 28 = .ok (.iaload, 1) := dk_46 (dk_at dksX0_classes_1 5 rfl rfl)
theorem dX0_classes_29 : decode cX0_classes 29 = .ok (.iload 4, 2) := dk_21 4 (dk_at dksX0_classes_1 6 rfl rfl)
theorem dX0_classes_31 : decode cX0_classes 31 = .ok (.invokestatic 152, 3) := dk_184 0 152 (dk_at dksX0_classes_1 8 rfl rfl)
theorem dX0_classes_34 : decode cX0_classes 34 = .ok (.ifCond .eq 11, 3) := dk_153 0 11 (dk_at dksX0_classes_1 11 rfl rfl)
theorem dX0_classes_37 : decode cX0_classes 37 = .ok (.aload_n 2, 1) := dk_44 (dk_at dksX0_classes_1 14 rfl rfl)
theorem dX0_classes_38 : decode cX0_classes 38 = .ok (.iload_n 3, 1) := dk_29 (dk_at dksX0_classes_1 15 rfl rfl)
theorem dX0_classes_39 : decode cX0_classes 39 = .ok (.iload 4, 2) := dk_21 4 (dk_at dksX0_classes_1 16 rfl rfl)
theorem dX0_classes_41 : decode cX0_classes 41 = .ok (.invokestatic 220, 3) := dk_184 0 220 (dk_at dksX0_classes_1 18 rfl rfl)
theorem dX0_classes_44 : decode cX0_classes 44 = .ok (.pop, 1) := dk_87 (dk_at dksX0_classes_1 21 rfl rfl)
theorem dX0_classes_45 : decode cX0_classes 45 = .ok (.iinc 4 1, 3) := dk_132 4 1 (dk_at dksX0_classes_2 0 rfl rfl)
theorem dX0_classes_48 : decode cX0_classes 48 = .ok (.goto (-28), 3) := dk_167 255 228 (dk_at dksX0_classes_2 3 rfl rfl)
theorem dX0_classes_51 : decode cX0_classes 51 = .ok (.iinc 3 1, 3) := dk_132 3 1 (dk_at dksX0_classes_2 6 rfl rfl)
theorem dX0_classes_54 : decode cX0_classes 54 = .ok (.goto (-48), 3) := dk_167 255 208 (dk_at dksX0_classes_2 9 rfl rfl)
theorem dX0_classes_57 : decode cX0_classes 57 = .ok (.iconst 0, 1) := dk_3 (dk_at dksX0_classes_2 12 rfl rfl)
theorem dX0_classes_58 : decode cX0_classes 58 = .ok (.istore_n 3, 1) := dk_62 (dk_at dksX0_classes_2 13 rfl rfl)
theorem dX0_classes_59 : decode cX0_classes 59 = .ok (.iload_n 3, 1) := dk_29 (dk_at dksX0_classes_2 14 rfl rfl)
theorem dX0_classes_60 : decode cX0_classes 60 = .ok (.bipush 20, 2) := dk_16 20 (dk_at dksX0_classes_2 15 rfl rfl)
theorem dX0_classes_62 : decode cX0_classes 62 = .ok (.if_icmp .ge 17, 3) := dk_162 0 17 (dk_at dksX0_classes_2 17 rfl rfl)
theorem dX0_classes_65 : decode cX0_classes 65 = .ok (.aload_n 2, 1) := dk_44 (dk_at dksX0_classes_2 20 rfl rfl)
theorem dX0_classes_66 : decode cX0_classes 66 = .ok (.iload_n 3, 1) := dk_29 (dk_at dksX0_classes_2 21 rfl rfl)
theorem dX0_classes_67 : decode cX0_classes 67 = .ok (.aload_n 2, 1) := dk_44 (dk_at dksX0_classes_2 22 rfl rfl)
theorem dX0_classes_68 : decode cX0_classes 68 = .ok (.iload_n 3, 1) := dk_29 (dk_at dksX0_classes_2 23 rfl rfl)
theorem dX0_classes_69 : decode cX0_classes 69 = .ok (.invokestatic 180, 3) := dk_184 0 180 (dk_at dksX0_classes_3 0 rfl rfl)
theorem dX0_classes_72 : decode cX0_classes 72 = .ok (.iastore, 1) := dk_79 (dk_at dksX0_classes_3 3 rfl rfl)
theorem dX0_classes_73 : decode cX0_classes 73 = .ok (.iinc 3 1, 3) := dk_132 3 1 (dk_at dksX0_classes_3 4 rfl rfl)
theorem dX0_classes_76 : decode cX0_classes 76 = .ok (.goto (-17), 3) := dk_167 255 239 (dk_at dksX0_classes_3 7 rfl rfl)
theorem dX0_classes_79 : decode cX0_classes 79 = .ok (.return_, 1) := dk_177 (dk_at dksX0_classes_3 10 rfl rfl)
def dkwX0_laysKnown_11 : List UInt8 := [167, 255, 159, 177]
abbrev dktX0_laysKnown_11 : List UInt8 := dkwX0_laysKnown_11 ++ []
def dkwX0_laysKnown_10 : List UInt8 := [180, 1, 157, 4, 27, 120, 4, 28, 120, 128, 128, 181, 1, 157, 132, 2, 1, 167, 255, 178, 132, 1, 1]
abbrev dktX0_laysKnown_10 : List UInt8 := dkwX0_laysKnown_10 ++ dktX0_laysKnown_11
def dkwX0_laysKnown_9 : List UInt8 := [28, 46, 160, 0, 34, 42, 180, 0, 78, 27, 46, 42, 180, 0, 78, 28, 46, 160, 0, 19, 42, 89]
abbrev dktX0_laysKnown_9 : List UInt8 := dkwX0_laysKnown_9 ++ dktX0_laysKnown_10
def dkwX0_laysKnown_8 : List UInt8 := [182, 1, 151, 153, 0, 57, 42, 27, 182, 1, 167, 153, 0, 49, 42, 180, 0, 75, 27, 46, 42, 180, 0, 75]
abbrev dktX0_laysKnown_8 : List UInt8 := dkwX0_laysKnown_8 ++ dktX0_laysKnown_9
def dkwX0_laysKnown_7 : List UInt8 := [180, 0, 134, 162, 0, 92, 3, 61, 28, 27, 162, 0, 79, 42, 27, 182, 1, 151, 153, 0, 65, 42, 28]
abbrev dktX0_laysKnown_7 : List UInt8 := dkwX0_laysKnown_7 ++ dktX0_laysKnown_8
def dkwX0_laysKnown_6 : List UInt8 := [180, 0, 42, 27, 182, 1, 164, 128, 181, 1, 157, 132, 1, 1, 167, 255, 136, 3, 60, 27, 42, 180, 0, 16]
abbrev dktX0_laysKnown_6 : List UInt8 := dkwX0_laysKnown_6 ++ dktX0_laysKnown_7
def dkwX0_laysKnown_5 : List UInt8 := [180, 0, 42, 27, 4, 42, 180, 0, 78, 182, 1, 160, 153, 0, 21, 42, 89, 180, 1, 157, 42, 42]
abbrev dktX0_laysKnown_5 : List UInt8 := dkwX0_laysKnown_5 ++ dktX0_laysKnown_6
def dkwX0_laysKnown_4 : List UInt8 := [181, 1, 157, 42, 27, 182, 1, 151, 153, 0, 48, 42, 180, 0, 42, 27, 46, 27, 160, 0, 38, 42, 42]
abbrev dktX0_laysKnown_4 : List UInt8 := dkwX0_laysKnown_4 ++ dktX0_laysKnown_5
def dkwX0_laysKnown_3 : List UInt8 := [180, 0, 75, 182, 1, 160, 153, 0, 21, 42, 89, 180, 1, 157, 42, 42, 180, 0, 39, 27, 182, 1, 164, 128]
abbrev dktX0_laysKnown_3 : List UInt8 := dkwX0_laysKnown_3 ++ dktX0_laysKnown_4
def dkwX0_laysKnown_2 : List UInt8 := [182, 1, 151, 153, 0, 48, 42, 180, 0, 39, 27, 46, 27, 160, 0, 38, 42, 42, 180, 0, 39, 27, 3, 42]
abbrev dktX0_laysKnown_2 : List UInt8 := dkwX0_laysKnown_2 ++ dktX0_laysKnown_3
def dkwX0_laysKnown_1 : List UInt8 := [27, 2, 79, 132, 1, 1, 167, 255, 233, 3, 60, 27, 42, 180, 0, 16, 180, 0, 134, 162, 0, 115, 42, 27]
abbrev dktX0_laysKnown_1 : List UInt8 := dkwX0_laysKnown_1 ++ dktX0_laysKnown_2
def dkwX0_laysKnown_0 : List UInt8 := [42, 3, 181, 1, 157, 3, 60, 27, 16, 20, 162, 0, 23, 42, 180, 0, 75, 27, 2, 79, 42, 180, 0, 78]
abbrev dktX0_laysKnown_0 : List UInt8 := dkwX0_laysKnown_0 ++ dktX0_laysKnown_1
theorem dksX0_laysKnown_0 : cX0_laysKnown.data.toList.drop 0 = dktX0_laysKnown_0 := by decide +kernel
theorem dksX0_laysKnown_1 : cX0_laysKnown.data.toList.drop 24 = dktX0_laysKnown_1 := dk_seg dksX0_laysKnown_0 24 rfl rfl
theorem dksX0_laysKnown_2 : cX0_laysKnown.data.toList.drop 48 = dktX0_laysKnown_2 := dk_seg dksX0_laysKnown_1 24 rfl rfl
theorem dksX0_laysKnown_3 : cX0_laysKnown.data.toList.drop 72 = dktX0_laysKnown_3 := dk_seg dksX0_laysKnown_2 24 rfl rfl
theorem dksX0_laysKnown_4 : cX0_laysKnown.data.toList.drop 96 = dktX0_laysKnown_4 := dk_seg dksX0_laysKnown_3 24 rfl rfl
theorem dksX0_laysKnown_5 : cX0_laysKnown.data.toList.drop 119 = dktX0_laysKnown_5 := dk_seg dksX0_laysKnown_4 23 rfl rfl
theorem dksX0_laysKnown_6 : cX0_laysKnown.data.toList.drop 141 = dktX0_laysKnown_6 := dk_seg dksX0_laysKnown_5 22 rfl rfl
theorem dksX0_laysKnown_7 : cX0_laysKnown.data.toList.drop 165 = dktX0_laysKnown_7 := dk_seg dksX0_laysKnown_6 24 rfl rfl
theorem dksX0_laysKnown_8 : cX0_laysKnown.data.toList.drop 188 = dktX0_laysKnown_8 := dk_seg dksX0_laysKnown_7 23 rfl rfl
theorem dksX0_laysKnown_9 : cX0_laysKnown.data.toList.drop 212 = dktX0_laysKnown_9 := dk_seg dksX0_laysKnown_8 24 rfl rfl
theorem dksX0_laysKnown_10 : cX0_laysKnown.data.toList.drop 234 = dktX0_laysKnown_10 := dk_seg dksX0_laysKnown_9 22 rfl rfl
theorem dksX0_laysKnown_11 : cX0_laysKnown.data.toList.drop 257 = dktX0_laysKnown_11 := dk_seg dksX0_laysKnown_10 23 rfl rfl
theorem dX0_laysKnown_0 : decode cX0_laysKnown 0 = .ok (.aload_n 0, 1) := dk_42 (dk_at dksX0_laysKnown_0 0 rfl rfl)
theorem dX0_laysKnown_1 : decode cX0_laysKnown 1 = .ok (.iconst 0, 1) := dk_3 (dk_at dksX0_laysKnown_0 1 rfl rfl)
theorem dX0_laysKnown_2 : decode cX0_laysKnown 2 = .ok (.putfield 413, 3) := dk_181 1 157 (dk_at dksX0_laysKnown_0 2 rfl rfl)
theorem dX0_laysKnown_5 : decode cX0_laysKnown 5 = .ok (.iconst 0, 1) := dk_3 (dk_at dksX0_laysKnown_0 5 rfl rfl)
theorem dX0_laysKnown_6 : decode cX0_laysKnown 6 = .ok (.istore_n 1, 1) := dk_60 (dk_at dksX0_laysKnown_0 6 rfl rfl)
theorem dX0_laysKnown_7 : decode cX0_laysKnown 7 = .ok (.iload_n 1, 1) := dk_27 (dk_at dksX0_laysKnown_0 7 rfl rfl)
theorem dX0_laysKnown_8 : decode cX0_laysKnown 8 = .ok (.bipush 20, 2) := dk_16 20 (dk_at dksX0_laysKnown_0 8 rfl rfl)
theorem dX0_laysKnown_10 : decode cX0_laysKnown 10 = .ok (.if_icmp .ge 23, 3) := dk_162 0 23 (dk_at dksX0_laysKnown_0 10 rfl rfl)
theorem dX0_laysKnown_13 : decode cX0_laysKnown 13 = .ok (.aload_n 0, 1) := dk_42 (dk_at dksX0_laysKnown_0 13 rfl rfl)
theorem dX0_laysKnown_14 : decode cX0_laysKnown 14 = .ok (.getfield 75, 3) := dk_180 0 75 (dk_at dksX0_laysKnown_0 14 rfl rfl)
theorem dX0_laysKnown_17 : decode cX0_laysKnown 17 = .ok (.iload_n 1, 1) := dk_27 (dk_at dksX0_laysKnown_0 17 rfl rfl)
theorem dX0_laysKnown_18 : decode cX0_laysKnown 18 = .ok (.iconst (-1), 1) := dk_2 (dk_at dksX0_laysKnown_0 18 rfl rfl)
theorem dX0_laysKnown_19 : decode cX0_laysKnown 19 = .ok (.iastore, 1) := dk_79 (dk_at dksX0_laysKnown_0 19 rfl rfl)
theorem dX0_laysKnown_20 : decode cX0_laysKnown 20 = .ok (.aload_n 0, 1) := dk_42 (dk_at dksX0_laysKnown_0 20 rfl rfl)
theorem dX0_laysKnown_21 : decode cX0_laysKnown 21 = .ok (.getfield 78, 3) := dk_180 0 78 (dk_at dksX0_laysKnown_0 21 rfl rfl)
theorem dX0_laysKnown_24 : decode cX0_laysKnown 24 = .ok (.iload_n 1, 1) := dk_27 (dk_at dksX0_laysKnown_1 0 rfl rfl)
theorem dX0_laysKnown_25 : decode cX0_laysKnown 25 = .ok (.iconst (-1), 1) := dk_2 (dk_at dksX0_laysKnown_1 1 rfl rfl)
theorem dX0_laysKnown_26 : decode cX0_laysKnown 26 = .ok (.iastore, 1) := dk_79 (dk_at dksX0_laysKnown_1 2 rfl rfl)
theorem dX0_laysKnown_27 : decode cX0_laysKnown 27 = .ok (.iinc 1 1, 3) := dk_132 1 1 (dk_at dksX0_laysKnown_1 3 rfl rfl)
theorem dX0_laysKnown_30 : decode cX0_laysKnown 30 = .ok (.goto (-23), 3) := dk_167 255 233 (dk_at dksX0_laysKnown_1 6 rfl rfl)
theorem dX0_laysKnown_33 : decode cX0_laysKnown 33 = .ok (.iconst 0, 1) := dk_3 (dk_at dksX0_laysKnown_1 9 rfl rfl)
theorem dX0_laysKnown_34 : decode cX0_laysKnown 34 = .ok (.istore_n 1, 1) := dk_60 (dk_at dksX0_laysKnown_1 10 rfl rfl)
theorem dX0_laysKnown_35 : decode cX0_laysKnown 35 = .ok (.iload_n 1, 1) := dk_27 (dk_at dksX0_laysKnown_1 11 rfl rfl)
theorem dX0_laysKnown_36 : decode cX0_laysKnown 36 = .ok (.aload_n 0, 1) := dk_42 (dk_at dksX0_laysKnown_1 12 rfl rfl)
theorem dX0_laysKnown_37 : decode cX0_laysKnown 37 = .ok (.getfield 16, 3) := dk_180 0 16 (dk_at dksX0_laysKnown_1 13 rfl rfl)
theorem dX0_laysKnown_40 : decode cX0_laysKnown 40 = .ok (.getfield 134, 3) := dk_180 0 134 (dk_at dksX0_laysKnown_1 16 rfl rfl)
theorem dX0_laysKnown_43 : decode cX0_laysKnown 43 = .ok (.if_icmp .ge 115, 3) := dk_162 0 115 (dk_at dksX0_laysKnown_1 19 rfl rfl)
theorem dX0_laysKnown_46 : decode cX0_laysKnown 46 = .ok (.aload_n 0, 1) := dk_42 (dk_at dksX0_laysKnown_1 22 rfl rfl)
theorem dX0_laysKnown_47 : decode cX0_laysKnown 47 = .ok (.iload_n 1, 1) := dk_27 (dk_at dksX0_laysKnown_1 23 rfl rfl)
theorem dX0_laysKnown_48 : decode cX0_laysKnown 48 = .ok (.invokevirtual 407, 3) := dk_182 1 151 (dk_at dksX0_laysKnown_2 0 rfl rfl)
theorem dX0_laysKnown_51 : decode cX0_laysKnown 51 = .ok (.ifCond .eq 48, 3) := dk_153 0 48 (dk_at dksX0_laysKnown_2 3 rfl rfl)
theorem dX0_laysKnown_54 : decode cX0_laysKnown 54 = .ok (.aload_n 0, 1) := dk_42 (dk_at dksX0_laysKnown_2 6 rfl rfl)
theorem dX0_laysKnown_55 : decode cX0_laysKnown 55 = .ok (.getfield 39, 3) := dk_180 0 39 (dk_at dksX0_laysKnown_2 7 rfl rfl)
theorem dX0_laysKnown_58 : decode cX0_laysKnown 58 = .ok (.iload_n 1, 1) := dk_27 (dk_at dksX0_laysKnown_2 10 rfl rfl)
theorem dX0_laysKnown_59 : decode cX0_laysKnown 59 = .ok (.iaload, 1) := dk_46 (dk_at dksX0_laysKnown_2 11 rfl rfl)
theorem dX0_laysKnown_60 : decode cX0_laysKnown 60 = .ok (.iload_n 1, 1) := dk_27 (dk_at dksX0_laysKnown_2 12 rfl rfl)
theorem dX0_laysKnown_61 : decode cX0_laysKnown 61 = .ok (.if_icmp .ne 38, 3) := dk_160 0 38 (dk_at dksX0_laysKnown_2 13 rfl rfl)
theorem dX0_laysKnown_64 : decode cX0_laysKnown 64 = .ok (.aload_n 0, 1) := dk_42 (dk_at dksX0_laysKnown_2 16 rfl rfl)
theorem dX0_laysKnown_65 : decode cX0_laysKnown 65 = .ok (.aload_n 0, 1) := dk_42 (dk_at dksX0_laysKnown_2 17 rfl rfl)
theorem dX0_laysKnown_66 : decode cX0_laysKnown 66 = .ok (.getfield 39, 3) := dk_180 0 39 (dk_at dksX0_laysKnown_2 18 rfl rfl)
theorem dX0_laysKnown_69 : decode cX0_laysKnown 69 = .ok (.iload_n 1, 1) := dk_27 (dk_at dksX0_laysKnown_2 21 rfl rfl)
theorem dX0_laysKnown_70 : decode cX0_laysKnown 70 = .ok (.iconst 0, 1) := dk_3 (dk_at dksX0_laysKnown_2 22 rfl rfl)
theorem dX0_laysKnown_71 : decode cX0_laysKnown 71 = .ok (.aload_n 0, 1) := dk_42 (dk_at dksX0_laysKnown_2 23 rfl rfl)
theorem dX0_laysKnown_72 : decode cX0_laysKnown 72 = .ok (.getfield 75, 3) := dk_180 0 75 (dk_at dksX0_laysKnown_3 0 rfl rfl)
theorem dX0_laysKnown_75 : decode cX0_laysKnown 75 = .ok (.invokevirtual 416, 3) := dk_182 1 160 (dk_at dksX0_laysKnown_3 3 rfl rfl)
theorem dX0_laysKnown_78 : decode cX0_laysKnown 78 = .ok (.ifCond .eq 21, 3) := dk_153 0 21 (dk_at dksX0_laysKnown_3 6 rfl rfl)
theorem dX0_laysKnown_81 : decode cX0_laysKnown 81 = .ok (.aload_n 0, 1) := dk_42 (dk_at dksX0_laysKnown_3 9 rfl rfl)
theorem dX0_laysKnown_82 : decode cX0_laysKnown 82 = .ok (.dup, 1) := dk_89 (dk_at dksX0_laysKnown_3 10 rfl rfl)
theorem dX0_laysKnown_83 : decode cX0_laysKnown 83 = .ok (.getfield 413, 3) := dk_180 1 157 (dk_at dksX0_laysKnown_3 11 rfl rfl)
theorem dX0_laysKnown_86 : decode cX0_laysKnown 86 = .ok (.aload_n 0, 1) := dk_42 (dk_at dksX0_laysKnown_3 14 rfl rfl)
theorem dX0_laysKnown_87 : decode cX0_laysKnown 87 = .ok (.aload_n 0, 1) := dk_42 (dk_at dksX0_laysKnown_3 15 rfl rfl)
theorem dX0_laysKnown_88 : decode cX0_laysKnown 88 = .ok (.getfield 39, 3) := dk_180 0 39 (dk_at dksX0_laysKnown_3 16 rfl rfl)
theorem dX0_laysKnown_91 : decode cX0_laysKnown 91 = .ok (.iload_n 1, 1) := dk_27 (dk_at dksX0_laysKnown_3 19 rfl rfl)
theorem dX0_laysKnown_92 : decode cX0_laysKnown 92 = .ok (.invokevirtual 420, 3) := dk_182 1 164 (dk_at dksX0_laysKnown_3 20 rfl rfl)
theorem dX0_laysKnown_95 : decode cX0_laysKnown 95 = .ok (.ior, 1) := dk_128 (dk_at dksX0_laysKnown_3 23 rfl rfl)
theorem dX0_laysKnown_96 : decode cX0_laysKnown 96 = .ok (.putfield 413, 3) := dk_181 1 157 (dk_at dksX0_laysKnown_4 0 rfl rfl)
theorem dX0_laysKnown_99 : decode cX0_laysKnown 99 = .ok (.aload_n 0, 1) := dk_42 (dk_at dksX0_laysKnown_4 3 rfl rfl)
theorem dX0_laysKnown_100 : decode cX0_laysKnown 100 = .ok (.iload_n 1, 1) := dk_27 (dk_at dksX0_laysKnown_4 4 rfl rfl)
theorem dX0_laysKnown_101 : decode cX0_laysKnown 101 = .ok (.invokevirtual 407, 3) := dk_182 1 151 (dk_at dksX0_laysKnown_4 5 rfl rfl)
theorem dX0_laysKnown_104 : decode cX0_laysKnown 104 = .ok (.ifCond .eq 48, 3) := dk_153 0 48 (dk_at dksX0_laysKnown_4 8 rfl rfl)
theorem dX0_laysKnown_107 : decode cX0_laysKnown 107 = .ok (.aload_n 0, 1) := dk_42 (dk_at dksX0_laysKnown_4 11 rfl rfl)
theorem dX0_laysKnown_108 : decode cX0_laysKnown 108 = .ok (.getfield 42, 3) := dk_180 0 42 (dk_at dksX0_laysKnown_4 12 rfl rfl)
theorem dX0_laysKnown_111 : decode cX0_laysKnown 111 = .ok (.iload_n 1, 1) := dk_27 (dk_at dksX0_laysKnown_4 15 rfl rfl)
theorem dX0_laysKnown_112 : decode cX0_laysKnown 112 = .ok (.iaload, 1) := dk_46 (dk_at dksX0_laysKnown_4 16 rfl rfl)
theorem dX0_laysKnown_113 : decode cX0_laysKnown 113 = .ok (.iload_n 1, 1) := dk_27 (dk_at dksX0_laysKnown_4 17 rfl rfl)
theorem dX0_laysKnown_114 : decode cX0_laysKnown 114 = .ok (.if_icmp .ne 38, 3) := dk_160 0 38 (dk_at dksX0_laysKnown_4 18 rfl rfl)
theorem dX0_laysKnown_117 : decode cX0_laysKnown 117 = .ok (.aload_n 0, 1) := dk_42 (dk_at dksX0_laysKnown_4 21 rfl rfl)
theorem dX0_laysKnown_118 : decode cX0_laysKnown 118 = .ok (.aload_n 0, 1) := dk_42 (dk_at dksX0_laysKnown_4 22 rfl rfl)
theorem dX0_laysKnown_119 : decode cX0_laysKnown 119 = .ok (.getfield 42, 3) := dk_180 0 42 (dk_at dksX0_laysKnown_5 0 rfl rfl)
theorem dX0_laysKnown_122 : decode cX0_laysKnown 122 = .ok (.iload_n 1, 1) := dk_27 (dk_at dksX0_laysKnown_5 3 rfl rfl)
theorem dX0_laysKnown_123 : decode cX0_laysKnown 123 = .ok (.iconst 1, 1) := dk_4 (dk_at dksX0_laysKnown_5 4 rfl rfl)
theorem dX0_laysKnown_124 : decode cX0_laysKnown 124 = .ok (.aload_n 0, 1) := dk_42 (dk_at dksX0_laysKnown_5 5 rfl rfl)
theorem dX0_laysKnown_125 : decode cX0_laysKnown 125 = .ok (.getfield 78, 3) := dk_180 0 78 (dk_at dksX0_laysKnown_5 6 rfl rfl)
theorem dX0_laysKnown_128 : decode cX0_laysKnown 128 = .ok (.invokevirtual 416, 3) := dk_182 1 160 (dk_at dksX0_laysKnown_5 9 rfl rfl)
theorem dX0_laysKnown_131 : decode cX0_laysKnown 131 = .ok (.ifCond .eq 21, 3) := dk_153 0 21 (dk_at dksX0_laysKnown_5 12 rfl rfl)
theorem dX0_laysKnown_134 : decode cX0_laysKnown 134 = .ok (.aload_n 0, 1) := dk_42 (dk_at dksX0_laysKnown_5 15 rfl rfl)
theorem dX0_laysKnown_135 : decode cX0_laysKnown 135 = .ok (.dup, 1) := dk_89 (dk_at dksX0_laysKnown_5 16 rfl rfl)
theorem dX0_laysKnown_136 : decode cX0_laysKnown 136 = .ok (.getfield 413, 3) := dk_180 1 157 (dk_at dksX0_laysKnown_5 17 rfl rfl)
theorem dX0_laysKnown_139 : decode cX0_laysKnown 139 = .ok (.aload_n 0, 1) := dk_42 (dk_at dksX0_laysKnown_5 20 rfl rfl)
theorem dX0_laysKnown_140 : decode cX0_laysKnown 140 = .ok (.aload_n 0, 1) := dk_42 (dk_at dksX0_laysKnown_5 21 rfl rfl)
theorem dX0_laysKnown_141 : decode cX0_laysKnown 141 = .ok (.getfield 42, 3) := dk_180 0 42 (dk_at dksX0_laysKnown_6 0 rfl rfl)
theorem dX0_laysKnown_144 : decode cX0_laysKnown 144 = .ok (.iload_n 1, 1) := dk_27 (dk_at dksX0_laysKnown_6 3 rfl rfl)
theorem dX0_laysKnown_145 : decode cX0_laysKnown 145 = .ok (.invokevirtual 420, 3) := dk_182 1 164 (dk_at dksX0_laysKnown_6 4 rfl rfl)
theorem dX0_laysKnown_148 : decode cX0_laysKnown 148 = .ok (.ior, 1) := dk_128 (dk_at dksX0_laysKnown_6 7 rfl rfl)
theorem dX0_laysKnown_149 : decode cX0_laysKnown 149 = .ok (.putfield 413, 3) := dk_181 1 157 (dk_at dksX0_laysKnown_6 8 rfl rfl)
theorem dX0_laysKnown_152 : decode cX0_laysKnown 152 = .ok (.iinc 1 1, 3) := dk_132 1 1 (dk_at dksX0_laysKnown_6 11 rfl rfl)
theorem dX0_laysKnown_155 : decode cX0_laysKnown 155 = .ok (.goto (-120), 3) := dk_167 255 136 (dk_at dksX0_laysKnown_6 14 rfl rfl)
theorem dX0_laysKnown_158 : decode cX0_laysKnown 158 = .ok (.iconst 0, 1) := dk_3 (dk_at dksX0_laysKnown_6 17 rfl rfl)
theorem dX0_laysKnown_159 : decode cX0_laysKnown 159 = .ok (.istore_n 1, 1) := dk_60 (dk_at dksX0_laysKnown_6 18 rfl rfl)
theorem dX0_laysKnown_160 : decode cX0_laysKnown 160 = .ok (.iload_n 1, 1) := dk_27 (dk_at dksX0_laysKnown_6 19 rfl rfl)
theorem dX0_laysKnown_161 : decode cX0_laysKnown 161 = .ok (.aload_n 0, 1) := dk_42 (dk_at dksX0_laysKnown_6 20 rfl rfl)
theorem dX0_laysKnown_162 : decode cX0_laysKnown 162 = .ok (.getfield 16, 3) := dk_180 0 16 (dk_at dksX0_laysKnown_6 21 rfl rfl)
theorem dX0_laysKnown_165 : decode cX0_laysKnown 165 = .ok (.getfield 134, 3) := dk_180 0 134 (dk_at dksX0_laysKnown_7 0 rfl rfl)
theorem dX0_laysKnown_168 : decode cX0_laysKnown 168 = .ok (.if_icmp .ge 92, 3) := dk_162 0 92 (dk_at dksX0_laysKnown_7 3 rfl rfl)
theorem dX0_laysKnown_171 : decode cX0_laysKnown 171 = .ok (.iconst 0, 1) := dk_3 (dk_at dksX0_laysKnown_7 6 rfl rfl)
theorem dX0_laysKnown_172 : decode cX0_laysKnown 172 = .ok (.istore_n 2, 1) := dk_61 (dk_at dksX0_laysKnown_7 7 rfl rfl)
theorem dX0_laysKnown_173 : decode cX0_laysKnown 173 = .ok (.iload_n 2, 1) := dk_28 (dk_at dksX0_laysKnown_7 8 rfl rfl)
theorem dX0_laysKnown_174 : decode cX0_laysKnown 174 = .ok (.iload_n 1, 1) := dk_27 (dk_at dksX0_laysKnown_7 9 rfl rfl)
theorem dX0_laysKnown_175 : decode cX0_laysKnown 175 = .ok (.if_icmp .ge 79, 3) := dk_162 0 79 (dk_at dksX0_laysKnown_7 10 rfl rfl)
theorem dX0_laysKnown_178 : decode cX0_laysKnown 178 = .ok (.aload_n 0, 1) := dk_42 (dk_at dksX0_laysKnown_7 13 rfl rfl)
theorem dX0_laysKnown_179 : decode cX0_laysKnown 179 = .ok (.iload_n 1, 1) := dk_27 (dk_at dksX0_laysKnown_7 14 rfl rfl)
theorem dX0_laysKnown_180 : decode cX0_laysKnown 180 = .ok (.invokevirtual 407, 3) := dk_182 1 151 (dk_at dksX0_laysKnown_7 15 rfl rfl)
theorem dX0_laysKnown_183 : decode cX0_laysKnown 183 = .ok (.ifCond .eq 65, 3) := dk_153 0 65 (dk_at dksX0_laysKnown_7 18 rfl rfl)
theorem dX0_laysKnown_186 : decode cX0_laysKnown 186 = .ok (.aload_n 0, 1) := dk_42 (dk_at dksX0_laysKnown_7 21 rfl rfl)
theorem dX0_laysKnown_187 : decode cX0_laysKnown 187 = .ok (.iload_n 2, 1) := dk_28 (dk_at dksX0_laysKnown_7 22 rfl rfl)
theorem dX0_laysKnown_188 : decode cX0_laysKnown 188 = .ok (.invokevirtual 407, 3) := dk_182 1 151 (dk_at dksX0_laysKnown_8 0 rfl rfl)
theorem dX0_laysKnown_191 : decode cX0_laysKnown 191 = .ok (.ifCond .eq 57, 3) := dk_153 0 57 (dk_at dksX0_laysKnown_8 3 rfl rfl)
theorem dX0_laysKnown_194 : decode cX0_laysKnown 194 = .ok (.aload_n 0, 1) := dk_42 (dk_at dksX0_laysKnown_8 6 rfl rfl)
theorem dX0_laysKnown_195 : decode cX0_laysKnown 195 = .ok (.iload_n 1, 1) := dk_27 (dk_at dksX0_laysKnown_8 7 rfl rfl)
theorem dX0_laysKnown_196 : decode cX0_laysKnown 196 = .ok (.invokevirtual 423, 3) := dk_182 1 167 (dk_at dksX0_laysKnown_8 8 rfl rfl)
theorem dX0_laysKnown_199 : decode cX0_laysKnown 199 = .ok (.ifCond .eq 49, 3) := dk_153 0 49 (dk_at dksX0_laysKnown_8 11 rfl rfl)
theorem dX0_laysKnown_202 : decode cX0_laysKnown 202 = .ok (.aload_n 0, 1) := dk_42 (dk_at dksX0_laysKnown_8 14 rfl rfl)
theorem dX0_laysKnown_203 : decode cX0_laysKnown 203 = .ok (.getfield 75, 3) := dk_180 0 75 (dk_at dksX0_laysKnown_8 15 rfl rfl)
theorem dX0_laysKnown_206 : decode cX0_laysKnown 206 = .ok (.iload_n 1, 1) := dk_27 (dk_at dksX0_laysKnown_8 18 rfl rfl)
theorem dX0_laysKnown_207 : decode cX0_laysKnown 207 = .ok (.iaload, 1) := dk_46 (dk_at dksX0_laysKnown_8 19 rfl rfl)
theorem dX0_laysKnown_208 : decode cX0_laysKnown 208 = .ok (.aload_n 0, 1) := dk_42 (dk_at dksX0_laysKnown_8 20 rfl rfl)
theorem dX0_laysKnown_209 : decode cX0_laysKnown 209 = .ok (.getfield 75, 3) := dk_180 0 75 (dk_at dksX0_laysKnown_8 21 rfl rfl)
theorem dX0_laysKnown_212 : decode cX0_laysKnown 212 = .ok (.iload_n 2, 1) := dk_28 (dk_at dksX0_laysKnown_9 0 rfl rfl)
theorem dX0_laysKnown_213 : decode cX0_laysKnown 213 = .ok (.iaload, 1) := dk_46 (dk_at dksX0_laysKnown_9 1 rfl rfl)
theorem dX0_laysKnown_214 : decode cX0_laysKnown 214 = .ok (.if_icmp .ne 34, 3) := dk_160 0 34 (dk_at dksX0_laysKnown_9 2 rfl rfl)
theorem dX0_laysKnown_217 : decode cX0_laysKnown 217 = .ok (.aload_n 0, 1) := dk_42 (dk_at dksX0_laysKnown_9 5 rfl rfl)
theorem dX0_laysKnown_218 : decode cX0_laysKnown 218 = .ok (.getfield 78, 3) := dk_180 0 78 (dk_at dksX0_laysKnown_9 6 rfl rfl)
theorem dX0_laysKnown_221 : decode cX0_laysKnown 221 = .ok (.iload_n 1, 1) := dk_27 (dk_at dksX0_laysKnown_9 9 rfl rfl)
theorem dX0_laysKnown_222 : decode cX0_laysKnown 222 = .ok (.iaload, 1) := dk_46 (dk_at dksX0_laysKnown_9 10 rfl rfl)
theorem dX0_laysKnown_223 : decode cX0_laysKnown 223 = .ok (.aload_n 0, 1) := dk_42 (dk_at dksX0_laysKnown_9 11 rfl rfl)
theorem dX0_laysKnown_224 : decode cX0_laysKnown 224 = .ok (.getfield 78, 3) := dk_180 0 78 (dk_at dksX0_laysKnown_9 12 rfl rfl)
theorem dX0_laysKnown_227 : decode cX0_laysKnown 227 = .ok (.iload_n 2, 1) := dk_28 (dk_at dksX0_laysKnown_9 15 rfl rfl)
theorem dX0_laysKnown_228 : decode cX0_laysKnown 228 = .ok (.iaload, 1) := dk_46 (dk_at dksX0_laysKnown_9 16 rfl rfl)
theorem dX0_laysKnown_229 : decode cX0_laysKnown 229 = .ok (.if_icmp .ne 19, 3) := dk_160 0 19 (dk_at dksX0_laysKnown_9 17 rfl rfl)
theorem dX0_laysKnown_232 : decode cX0_laysKnown 232 = .ok (.aload_n 0, 1) := dk_42 (dk_at dksX0_laysKnown_9 20 rfl rfl)
theorem dX0_laysKnown_233 : decode cX0_laysKnown 233 = .ok (.dup, 1) := dk_89 (dk_at dksX0_laysKnown_9 21 rfl rfl)
theorem dX0_laysKnown_234 : decode cX0_laysKnown 234 = .ok (.getfield 413, 3) := dk_180 1 157 (dk_at dksX0_laysKnown_10 0 rfl rfl)
theorem dX0_laysKnown_237 : decode cX0_laysKnown 237 = .ok (.iconst 1, 1) := dk_4 (dk_at dksX0_laysKnown_10 3 rfl rfl)
theorem dX0_laysKnown_238 : decode cX0_laysKnown 238 = .ok (.iload_n 1, 1) := dk_27 (dk_at dksX0_laysKnown_10 4 rfl rfl)
theorem dX0_laysKnown_239 : decode cX0_laysKnown 239 = .ok (.ishl, 1) := dk_120 (dk_at dksX0_laysKnown_10 5 rfl rfl)
theorem dX0_laysKnown_240 : decode cX0_laysKnown 240 = .ok (.iconst 1, 1) := dk_4 (dk_at dksX0_laysKnown_10 6 rfl rfl)
theorem dX0_laysKnown_241 : decode cX0_laysKnown 241 = .ok (.iload_n 2, 1) := dk_28 (dk_at dksX0_laysKnown_10 7 rfl rfl)
theorem dX0_laysKnown_242 : decode cX0_laysKnown 242 = .ok (.ishl, 1) := dk_120 (dk_at dksX0_laysKnown_10 8 rfl rfl)
theorem dX0_laysKnown_243 : decode cX0_laysKnown 243 = .ok (.ior, 1) := dk_128 (dk_at dksX0_laysKnown_10 9 rfl rfl)
theorem dX0_laysKnown_244 : decode cX0_laysKnown 244 = .ok (.ior, 1) := dk_128 (dk_at dksX0_laysKnown_10 10 rfl rfl)
theorem dX0_laysKnown_245 : decode cX0_laysKnown 245 = .ok (.putfield 413, 3) := dk_181 1 157 (dk_at dksX0_laysKnown_10 11 rfl rfl)
theorem dX0_laysKnown_248 : decode cX0_laysKnown 248 = .ok (.iinc 2 1, 3) := dk_132 2 1 (dk_at dksX0_laysKnown_10 14 rfl rfl)
theorem dX0_laysKnown_251 : decode cX0_laysKnown 251 = .ok (.goto (-78), 3) := dk_167 255 178 (dk_at dksX0_laysKnown_10 17 rfl rfl)
theorem dX0_laysKnown_254 : decode cX0_laysKnown 254 = .ok (.iinc 1 1, 3) := dk_132 1 1 (dk_at dksX0_laysKnown_10 20 rfl rfl)
theorem dX0_laysKnown_257 : decode cX0_laysKnown 257 = .ok (.goto (-97), 3) := dk_167 255 159 (dk_at dksX0_laysKnown_11 0 rfl rfl)
theorem dX0_laysKnown_260 : decode cX0_laysKnown 260 = .ok (.return_, 1) := dk_177 (dk_at dksX0_laysKnown_11 3 rfl rfl)
def dkwX0_isSign_0 : List UInt8 := [42, 27, 182, 0, 223, 153, 0, 17, 42, 180, 0, 36, 27, 46, 27, 160, 0, 7, 4, 167, 0, 4, 3, 172]
abbrev dktX0_isSign_0 : List UInt8 := dkwX0_isSign_0 ++ []
theorem dksX0_isSign_0 : cX0_isSign.data.toList.drop 0 = dktX0_isSign_0 := by decide +kernel
theorem dX0_isSign_0 : decode cX0_isSign 0 = .ok (.aload_n 0, 1) := dk_42 (dk_at dksX0_isSign_0 0 rfl rfl)
theorem dX0_isSign_1 : decode cX0_isSign 1 = .ok (.iload_n 1, 1) := dk_27 (dk_at dksX0_isSign_0 1 rfl rfl)
theorem dX0_isSign_2 : decode cX0_isSign 2 = .ok (.invokevirtual 223, 3) := dk_182 0 223 (dk_at dksX0_isSign_0 2 rfl rfl)
theorem dX0_isSign_5 : decode cX0_isSign 5 = .ok (.ifCond .eq 17, 3) := dk_153 0 17 (dk_at dksX0_isSign_0 5 rfl rfl)
theorem dX0_isSign_8 : decode cX0_isSign 8 = .ok (.aload_n 0, 1) := dk_42 (dk_at dksX0_isSign_0 8 rfl rfl)
theorem dX0_isSign_9 : decode cX0_isSign 9 = .ok (.getfield 36, 3) := dk_180 0 36 (dk_at dksX0_isSign_0 9 rfl rfl)
theorem dX0_isSign_12 : decode cX0_isSign 12 = .ok (.iload_n 1, 1) := dk_27 (dk_at dksX0_isSign_0 12 rfl rfl)
theorem dX0_isSign_13 : decode cX0_isSign 13 = .ok (.iaload, 1) := dk_46 (dk_at dksX0_isSign_0 13 rfl rfl)
theorem dX0_isSign_14 : decode cX0_isSign 14 = .ok (.iload_n 1, 1) := dk_27 (dk_at dksX0_isSign_0 14 rfl rfl)
theorem dX0_isSign_15 : decode cX0_isSign 15 = .ok (.if_icmp .ne 7, 3) := dk_160 0 7 (dk_at dksX0_isSign_0 15 rfl rfl)
theorem dX0_isSign_18 : decode cX0_isSign 18 = .ok (.iconst 1, 1) := dk_4 (dk_at dksX0_isSign_0 18 rfl rfl)
theorem dX0_isSign_19 : decode cX0_isSign 19 = .ok (.goto 4, 3) := dk_167 0 4 (dk_at dksX0_isSign_0 19 rfl rfl)
theorem dX0_isSign_22 : decode cX0_isSign 22 = .ok (.iconst 0, 1) := dk_3 (dk_at dksX0_isSign_0 22 rfl rfl)
theorem dX0_isSign_23 : decode cX0_isSign 23 = .ok (.ireturn, 1) := dk_172 (dk_at dksX0_isSign_0 23 rfl rfl)
def dkwX0_isForm_0 : List UInt8 := [27, 133, 9, 42, 180, 0, 16, 180, 0, 134, 4, 100, 133, 184, 0, 110, 172]
abbrev dktX0_isForm_0 : List UInt8 := dkwX0_isForm_0 ++ []
theorem dksX0_isForm_0 : cX0_isForm.data.toList.drop 0 = dktX0_isForm_0 := by decide +kernel
theorem dX0_isForm_0 : decode cX0_isForm 0 = .ok (.iload_n 1, 1) := dk_27 (dk_at dksX0_isForm_0 0 rfl rfl)
theorem dX0_isForm_1 : decode cX0_isForm 1 = .ok (.i2l, 1) := dk_133 (dk_at dksX0_isForm_0 1 rfl rfl)
theorem dX0_isForm_2 : decode cX0_isForm 2 = .ok (.lconst 0, 1) := dk_9 (dk_at dksX0_isForm_0 2 rfl rfl)
theorem dX0_isForm_3 : decode cX0_isForm 3 = .ok (.aload_n 0, 1) := dk_42 (dk_at dksX0_isForm_0 3 rfl rfl)
theorem dX0_isForm_4 : decode cX0_isForm 4 = .ok (.getfield 16, 3) := dk_180 0 16 (dk_at dksX0_isForm_0 4 rfl rfl)
theorem dX0_isForm_7 : decode cX0_isForm 7 = .ok (.getfield 134, 3) := dk_180 0 134 (dk_at dksX0_isForm_0 7 rfl rfl)
theorem dX0_isForm_10 : decode cX0_isForm 10 = .ok (.iconst 1, 1) := dk_4 (dk_at dksX0_isForm_0 10 rfl rfl)
theorem dX0_isForm_11 : decode cX0_isForm 11 = .ok (.isub, 1) := dk_100 (dk_at dksX0_isForm_0 11 rfl rfl)
theorem dX0_isForm_12 : decode cX0_isForm 12 = .ok (.i2l, 1) := dk_133 (dk_at dksX0_isForm_0 12 rfl rfl)
theorem dX0_isForm_13 : decode cX0_isForm 13 = .ok (.invokestatic 110, 3) := dk_184 0 110 (dk_at dksX0_isForm_0 13 rfl rfl)
theorem dX0_isForm_16 : decode cX0_isForm 16 = .ok (.ireturn, 1) := dk_172 (dk_at dksX0_isForm_0 16 rfl rfl)
def dkwX0_in_0 : List UInt8 := [32, 30, 148, 157, 0, 14, 30, 22, 4, 148, 157, 0, 7, 4, 167, 0, 4, 3, 172]
abbrev dktX0_in_0 : List UInt8 := dkwX0_in_0 ++ []
theorem dksX0_in_0 : cX0_in.data.toList.drop 0 = dktX0_in_0 := by decide +kernel
theorem dX0_in_0 : decode cX0_in 0 = .ok (.lload_n 2, 1) := dk_32 (dk_at dksX0_in_0 0 rfl rfl)
theorem dX0_in_1 : decode cX0_in 1 = .ok (.lload_n 0, 1) := dk_30 (dk_at dksX0_in_0 1 rfl rfl)
theorem dX0_in_2 : decode cX0_in 2 = .ok (.lcmp, 1) := dk_148 (dk_at dksX0_in_0 2 rfl rfl)
theorem dX0_in_3 : decode cX0_in 3 = .ok (.ifCond .gt 14, 3) := dk_157 0 14 (dk_at dksX0_in_0 3 rfl rfl)
theorem dX0_in_6 : decode cX0_in 6 = .ok (.lload_n 0, 1) := dk_30 (dk_at dksX0_in_0 6 rfl rfl)
theorem dX0_in_7 : decode cX0_in 7 = .ok (.lload 4, 2) := dk_22 4 (dk_at dksX0_in_0 7 rfl rfl)
theorem dX0_in_9 : decode cX0_in 9 = .ok (.lcmp, 1) := dk_148 (dk_at dksX0_in_0 9 rfl rfl)
theorem dX0_in_10 : decode cX0_in 10 = .ok (.ifCond .gt 7, 3) := dk_157 0 7 (dk_at dksX0_in_0 10 rfl rfl)
theorem dX0_in_13 : decode cX0_in 13 = .ok (.iconst 1, 1) := dk_4 (dk_at dksX0_in_0 13 rfl rfl)
theorem dX0_in_14 : decode cX0_in 14 = .ok (.goto 4, 3) := dk_167 0 4 (dk_at dksX0_in_0 14 rfl rfl)
theorem dX0_in_17 : decode cX0_in 17 = .ok (.iconst 0, 1) := dk_3 (dk_at dksX0_in_0 17 rfl rfl)
theorem dX0_in_18 : decode cX0_in 18 = .ok (.ireturn, 1) := dk_172 (dk_at dksX0_in_0 18 rfl rfl)
def dkwX0_knows_7 : List UInt8 := [25, 4, 21, 7, 21, 5, 79, 132, 7, 1, 167, 255, 217, 21, 6, 172]
abbrev dktX0_knows_7 : List UInt8 := dkwX0_knows_7 ++ []
def dkwX0_knows_6 : List UInt8 := [180, 0, 134, 162, 0, 33, 42, 21, 7, 182, 1, 151, 153, 0, 18, 43, 21, 7, 46, 28, 160, 0, 10]
abbrev dktX0_knows_6 : List UInt8 := dkwX0_knows_6 ++ dktX0_knows_7
def dkwX0_knows_5 : List UInt8 := [21, 8, 167, 0, 5, 21, 5, 54, 5, 132, 7, 1, 167, 255, 138, 3, 54, 7, 21, 7, 42, 180, 0, 16]
abbrev dktX0_knows_5 : List UInt8 := dkwX0_knows_5 ++ dktX0_knows_6
def dkwX0_knows_4 : List UInt8 := [2, 159, 0, 14, 21, 5, 21, 8, 159, 0, 7, 4, 167, 0, 4, 3, 54, 6, 21, 5, 2, 160, 0, 8]
abbrev dktX0_knows_4 : List UInt8 := dkwX0_knows_4 ++ dktX0_knows_5
def dkwX0_knows_3 : List UInt8 := [167, 0, 15, 42, 180, 0, 16, 180, 1, 154, 21, 7, 46, 8, 112, 54, 8, 21, 6, 154, 0, 16, 21, 5]
abbrev dktX0_knows_3 : List UInt8 := dkwX0_knows_3 ++ dktX0_knows_4
def dkwX0_knows_2 : List UInt8 := [159, 0, 6, 167, 0, 76, 29, 154, 0, 18, 42, 180, 0, 16, 180, 1, 154, 21, 7, 46, 8, 108]
abbrev dktX0_knows_2 : List UInt8 := dkwX0_knows_2 ++ dktX0_knows_3
def dkwX0_knows_1 : List UInt8 := [180, 0, 16, 180, 1, 154, 21, 7, 46, 2, 159, 0, 92, 43, 42, 180, 0, 36, 21, 7, 46, 46, 28]
abbrev dktX0_knows_1 : List UInt8 := dkwX0_knows_1 ++ dktX0_knows_2
def dkwX0_knows_0 : List UInt8 := [2, 54, 5, 3, 54, 6, 3, 54, 7, 21, 7, 42, 180, 0, 16, 180, 0, 134, 162, 0, 112, 42]
abbrev dktX0_knows_0 : List UInt8 := dkwX0_knows_0 ++ dktX0_knows_1
theorem dksX0_knows_0 : cX0_knows.data.toList.drop 0 = dktX0_knows_0 := by decide +kernel
theorem dksX0_knows_1 : cX0_knows.data.toList.drop 22 = dktX0_knows_1 := dk_seg dksX0_knows_0 22 rfl rfl
theorem dksX0_knows_2 : cX0_knows.data.toList.drop 45 = dktX0_knows_2 := dk_seg dksX0_knows_1 23 rfl rfl
theorem dksX0_knows_3 : cX0_knows.data.toList.drop 67 = dktX0_knows_3 := dk_seg dksX0_knows_2 22 rfl rfl
theorem dksX0_knows_4 : cX0_knows.data.toList.drop 91 = dktX0_knows_4 := dk_seg dksX0_knows_3 24 rfl rfl
theorem dksX0_knows_5 : cX0_knows.data.toList.drop 115 = dktX0_knows_5 := dk_seg dksX0_knows_4 24 rfl rfl
theorem dksX0_knows_6 : cX0_knows.data.toList.drop 139 = dktX0_knows_6 := dk_seg dksX0_knows_5 24 rfl rfl
theorem dksX0_knows_7 : cX0_knows.data.toList.drop 162 = dktX0_knows_7 := dk_seg dksX0_knows_6 23 rfl rfl
theorem dX0_knows_0 : decode cX0_knows 0 = .ok (.iconst (-1), 1) := dk_2 (dk_at dksX0_knows_0 0 rfl rfl)
theorem dX0_knows_1 : decode cX0_knows 1 = .ok (.istore 5, 2) := dk_54 5 (dk_at dksX0_knows_0 1 rfl rfl)
theorem dX0_knows_3 : decode cX0_knows 3 = .ok (.iconst 0, 1) := dk_3 (dk_at dksX0_knows_0 3 rfl rfl)
theorem dX0_knows_4 : decode cX0_knows 4 = .ok (.istore 6, 2) := dk_54 6 (dk_at dksX0_knows_0 4 rfl rfl)
theorem dX0_knows_6 : decode cX0_knows 6 = .ok (.iconst 0, 1) := dk_3 (dk_at dksX0_knows_0 6 rfl rfl)
theorem dX0_knows_7 : decode cX0_knows 7 = .ok (.istore 7, 2) := dk_54 7 (dk_at dksX0_knows_0 7 rfl rfl)
theorem dX0_knows_9 : decode cX0_knows 9 = .ok (.iload 7, 2) := dk_21 7 (dk_at dksX0_knows_0 9 rfl rfl)
theorem dX0_knows_11 : decode cX0_knows 11 = .ok (.aload_n 0, 1) := dk_42 (dk_at dksX0_knows_0 11 rfl rfl)
theorem dX0_knows_12 : decode cX0_knows 12 = .ok (.getfield 16, 3) := dk_180 0 16 (dk_at dksX0_knows_0 12 rfl rfl)
theorem dX0_knows_15 : decode cX0_knows 15 = .ok (.getfield 134, 3) := dk_180 0 134 (dk_at dksX0_knows_0 15 rfl rfl)
theorem dX0_knows_18 : decode cX0_knows 18 = .ok (.if_icmp .ge 112, 3) := dk_162 0 112 (dk_at dksX0_knows_0 18 rfl rfl)
theorem dX0_knows_21 : decode cX0_knows 21 = .ok (.aload_n 0, 1) := dk_42 (dk_at dksX0_knows_0 21 rfl rfl)
theorem dX0_knows_22 : decode cX0_knows 22 = .ok (.getfield 16, 3) := dk_180 0 16 (dk_at dksX0_knows_1 0 rfl rfl)
theorem dX0_knows_25 : decode cX0_knows 25 = .ok (.getfield 410, 3) := dk_180 1 154 (dk_at dksX0_knows_1 3 rfl rfl)
theorem dX0_knows_28 : decode cX0_knows 28 = .ok (.iload 7, 2) := dk_21 7 (dk_at dksX0_knows_1 6 rfl rfl)
theorem dX0_knows_30 : decode cX0_knows 30 = .ok (.iaload, 1) := dk_46 (dk_at dksX0_knows_1 8 rfl rfl)
theorem dX0_knows_31 : decode cX0_knows 31 = .ok (.iconst (-1), 1) := dk_2 (dk_at dksX0_knows_1 9 rfl rfl)
theorem dX0_knows_32 : decode cX0_knows 32 = .ok (.if_icmp .eq 92, 3) := dk_159 0 92 (dk_at dksX0_knows_1 10 rfl rfl)
theorem dX0_knows_35 : decode cX0_knows 35 = .ok (.aload_n 1, 1) := dk_43 (dk_at dksX0_knows_1 13 rfl rfl)
theorem dX0_knows_36 : decode cX0_knows 36 = .ok (.aload_n 0, 1) := dk_42 (dk_at dksX0_knows_1 14 rfl rfl)
theorem dX0_knows_37 : decode cX0_knows 37 = .ok (.getfield 36, 3) := dk_180 0 36 (dk_at dksX0_knows_1 15 rfl rfl)
theorem dX0_knows_40 : decode cX0_knows 40 = .ok (.iload 7, 2) := dk_21 7 (dk_at dksX0_knows_1 18 rfl rfl)
theorem dX0_knows_42 : decode cX0_knows 42 = .ok (.iaload, 1) := dk_46 (dk_at dksX0_knows_1 20 rfl rfl)
theorem dX0_knows_43 : decode cX0_knows 43 = .ok (.iaload, 1) := dk_46 (dk_at dksX0_knows_1 21 rfl rfl)
theorem dX0_knows_44 : decode cX0_knows 44 = .ok (.iload_n 2, 1) := dk_28 (dk_at dksX0_knows_1 22 rfl rfl)
theorem dX0_knows_45 : decode cX0_knows 45 = .ok (.if_icmp .eq 6, 3) := dk_159 0 6 (dk_at dksX0_knows_2 0 rfl rfl)
theorem dX0_knows_48 : decode cX0_knows 48 = .ok (.goto 76, 3) := dk_167 0 76 (dk_at dksX0_knows_2 3 rfl rfl)
theorem dX0_knows_51 : decode cX0_knows 51 = .ok (.iload_n 3, 1) := dk_29 (dk_at dksX0_knows_2 6 rfl rfl)
theorem dX0_knows_52 : decode cX0_knows 52 = .ok (.ifCond .ne 18, 3) := dk_154 0 18 (dk_at dksX0_knows_2 7 rfl rfl)
theorem dX0_knows_55 : decode cX0_knows 55 = .ok (.aload_n 0, 1) := dk_42 (dk_at dksX0_knows_2 10 rfl rfl)
theorem dX0_knows_56 : decode cX0_knows 56 = .ok (.getfield 16, 3) := dk_180 0 16 (dk_at dksX0_knows_2 11 rfl rfl)
theorem dX0_knows_59 : decode cX0_knows 59 = .ok (.getfield 410, 3) := dk_180 1 154 (dk_at dksX0_knows_2 14 rfl rfl)
theorem dX0_knows_62 : decode cX0_knows 62 = .ok (.iload 7, 2) := dk_21 7 (dk_at dksX0_knows_2 17 rfl rfl)
theorem dX0_knows_64 : decode cX0_knows 64 = .ok (.iaload, 1) := dk_46 (dk_at dksX0_knows_2 19 rfl rfl)
theorem dX0_knows_65 : decode cX0_knows 65 = .ok (.iconst 5, 1) := dk_8 (dk_at dksX0_knows_2 20 rfl rfl)
theorem dX0_knows_66 : decode cX0_knows 66 = .ok (.idiv, 1) := dk_108 (dk_at dksX0_knows_2 21 rfl rfl)
theorem dX0_knows_67 : decode cX0_knows 67 = .ok (.goto 15, 3) := dk_167 0 15 (dk_at dksX0_knows_3 0 rfl rfl)
theorem dX0_knows_70 : decode cX0_knows 70 = .ok (.aload_n 0, 1) := dk_42 (dk_at dksX0_knows_3 3 rfl rfl)
theorem dX0_knows_71 : decode cX0_knows 71 = .ok (.getfield 16, 3) := dk_180 0 16 (dk_at dksX0_knows_3 4 rfl rfl)
theorem dX0_knows_74 : decode cX0_knows 74 = .ok (.getfield 410, 3) := dk_180 1 154 (dk_at dksX0_knows_3 7 rfl rfl)
theorem dX0_knows_77 : decode cX0_knows 77 = .ok (.iload 7, 2) := dk_21 7 (dk_at dksX0_knows_3 10 rfl rfl)
theorem dX0_knows_79 : decode cX0_knows 79 = .ok (.iaload, 1) := dk_46 (dk_at dksX0_knows_3 12 rfl rfl)
theorem dX0_knows_80 : decode cX0_knows 80 = .ok (.iconst 5, 1) := dk_8 (dk_at dksX0_knows_3 13 rfl rfl)
theorem dX0_knows_81 : decode cX0_knows 81 = .ok (.irem, 1) := dk_112 (dk_at dksX0_knows_3 14 rfl rfl)
theorem dX0_knows_82 : decode cX0_knows 82 = .ok (.istore 8, 2) := dk_54 8 (dk_at dksX0_knows_3 15 rfl rfl)
theorem dX0_knows_84 : decode cX0_knows 84 = .ok (.iload 6, 2) := dk_21 6 (dk_at dksX0_knows_3 17 rfl rfl)
theorem dX0_knows_86 : decode cX0_knows 86 = .ok (.ifCond .ne 16, 3) := dk_154 0 16 (dk_at dksX0_knows_3 19 rfl rfl)
theorem dX0_knows_89 : decode cX0_knows 89 = .ok (.iload 5, 2) := dk_21 5 (dk_at dksX0_knows_3 22 rfl rfl)
theorem dX0_knows_91 : decode cX0_knows 91 = .ok (.iconst (-1), 1) := dk_2 (dk_at dksX0_knows_4 0 rfl rfl)
theorem dX0_knows_92 : decode cX0_knows 92 = .ok (.if_icmp .eq 14, 3) := dk_159 0 14 (dk_at dksX0_knows_4 1 rfl rfl)
theorem dX0_knows_95 : decode cX0_knows 95 = .ok (.iload 5, 2) := dk_21 5 (dk_at dksX0_knows_4 4 rfl rfl)
theorem dX0_knows_97 : decode cX0_knows 97 = .ok (.iload 8, 2) := dk_21 8 (dk_at dksX0_knows_4 6 rfl rfl)
theorem dX0_knows_99 : decode cX0_knows 99 = .ok (.if_icmp .eq 7, 3) := dk_159 0 7 (dk_at dksX0_knows_4 8 rfl rfl)
theorem dX0_knows_102 : decode cX0_knows 102 = .ok (.iconst 1, 1) := dk_4 (dk_at dksX0_knows_4 11 rfl rfl)
theorem dX0_knows_103 : decode cX0_knows 103 = .ok (.goto 4, 3) := dk_167 0 4 (dk_at dksX0_knows_4 12 rfl rfl)
theorem dX0_knows_106 : decode cX0_knows 106 = .ok (.iconst 0, 1) := dk_3 (dk_at dksX0_knows_4 15 rfl rfl)
theorem dX0_knows_107 : decode cX0_knows 107 = .ok (.istore 6, 2) := dk_54 6 (dk_at dksX0_knows_4 16 rfl rfl)
theorem dX0_knows_109 : decode cX0_knows 109 = .ok (.iload 5, 2) := dk_21 5 (dk_at dksX0_knows_4 18 rfl rfl)
theorem dX0_knows_111 : decode cX0_knows 111 = .ok (.iconst (-1), 1) := dk_2 (dk_at dksX0_knows_4 20 rfl rfl)
theorem dX0_knows_112 : decode cX0_knows 112 = .ok (.if_icmp .ne 8, 3) := dk_160 0 8 (dk_at dksX0_knows_4 21 rfl rfl)
theorem dX0_knows_115 : decode cX0_knows 115 = .ok (.iload 8, 2) := dk_21 8 (dk_at dksX0_knows_5 0 rfl rfl)
theorem dX0_knows_117 : decode cX0_knows 117 = .ok (.goto 5, 3) := dk_167 0 5 (dk_at dksX0_knows_5 2 rfl rfl)
theorem dX0_knows_120 : decode cX0_knows 120 = .ok (.iload 5, 2) := dk_21 5 (dk_at dksX0_knows_5 5 rfl rfl)
theorem dX0_knows_122 : decode cX0_knows 122 = .ok (.istore 5, 2) := dk_54 5 (dk_at dksX0_knows_5 7 rfl rfl)
theorem dX0_knows_124 : decode cX0_knows 124 = .ok (.iinc 7 1, 3) := dk_132 7 1 (dk_at dksX0_knows_5 9 rfl rfl)
theorem dX0_knows_127 : decode cX0_knows 127 = .ok (.goto (-118), 3) := dk_167 255 138 (dk_at dksX0_knows_5 12 rfl rfl)
theorem dX0_knows_130 : decode cX0_knows 130 = .ok (.iconst 0, 1) := dk_3 (dk_at dksX0_knows_5 15 rfl rfl)
theorem dX0_knows_131 : decode cX0_knows 131 = .ok (.istore 7, 2) := dk_54 7 (dk_at dksX0_knows_5 16 rfl rfl)
theorem dX0_knows_133 : decode cX0_knows 133 = .ok (.iload 7, 2) := dk_21 7 (dk_at dksX0_knows_5 18 rfl rfl)
theorem dX0_knows_135 : decode cX0_knows 135 = .ok (.aload_n 0, 1) := dk_42 (dk_at dksX0_knows_5 20 rfl rfl)
theorem dX0_knows_136 : decode cX0_knows 136 = .ok (.getfield 16, 3) := dk_180 0 16 (dk_at dksX0_knows_5 21 rfl rfl)
theorem dX0_knows_139 : decode cX0_knows 139 = .ok (.getfield 134, 3) := dk_180 0 134 (dk_at dksX0_knows_6 0 rfl rfl)
theorem dX0_knows_142 : decode cX0_knows 142 = .ok (.if_icmp .ge 33, 3) := dk_162 0 33 (dk_at dksX0_knows_6 3 rfl rfl)
theorem dX0_knows_145 : decode cX0_knows 145 = .ok (.aload_n 0, 1) := dk_42 (dk_at dksX0_knows_6 6 rfl rfl)
theorem dX0_knows_146 : decode cX0_knows 146 = .ok (.iload 7, 2) := dk_21 7 (dk_at dksX0_knows_6 7 rfl rfl)
theorem dX0_knows_148 : decode cX0_knows 148 = .ok (.invokevirtual 407, 3) := dk_182 1 151 (dk_at dksX0_knows_6 9 rfl rfl)
theorem dX0_knows_151 : decode cX0_knows 151 = .ok (.ifCond .eq 18, 3) := dk_153 0 18 (dk_at dksX0_knows_6 12 rfl rfl)
theorem dX0_knows_154 : decode cX0_knows 154 = .ok (.aload_n 1, 1) := dk_43 (dk_at dksX0_knows_6 15 rfl rfl)
theorem dX0_knows_155 : decode cX0_knows 155 = .ok (.iload 7, 2) := dk_21 7 (dk_at dksX0_knows_6 16 rfl rfl)
theorem dX0_knows_157 : decode cX0_knows 157 = .ok (.iaload, 1) := dk_46 (dk_at dksX0_knows_6 18 rfl rfl)
theorem dX0_knows_158 : decode cX0_knows 158 = .ok (.iload_n 2, 1) := dk_28 (dk_at dksX0_knows_6 19 rfl rfl)
theorem dX0_knows_159 : decode cX0_knows 159 = .ok (.if_icmp .ne 10, 3) := dk_160 0 10 (dk_at dksX0_knows_6 20 rfl rfl)
theorem dX0_knows_162 : decode cX0_knows 162 = .ok (.aload 4, 2) := dk_25 4 (dk_at dksX0_knows_7 0 rfl rfl)
theorem dX0_knows_164 : decode cX0_knows 164 = .ok (.iload 7, 2) := dk_21 7 (dk_at dksX0_knows_7 2 rfl rfl)
theorem dX0_knows_166 : decode cX0_knows 166 = .ok (.iload 5, 2) := dk_21 5 (dk_at dksX0_knows_7 4 rfl rfl)
theorem dX0_knows_168 : decode cX0_knows 168 = .ok (.iastore, 1) := dk_79 (dk_at dksX0_knows_7 6 rfl rfl)
theorem dX0_knows_169 : decode cX0_knows 169 = .ok (.iinc 7 1, 3) := dk_132 7 1 (dk_at dksX0_knows_7 7 rfl rfl)
theorem dX0_knows_172 : decode cX0_knows 172 = .ok (.goto (-39), 3) := dk_167 255 217 (dk_at dksX0_knows_7 10 rfl rfl)
theorem dX0_knows_175 : decode cX0_knows 175 = .ok (.iload 6, 2) := dk_21 6 (dk_at dksX0_knows_7 13 rfl rfl)
theorem dX0_knows_177 : decode cX0_knows 177 = .ok (.ireturn, 1) := dk_172 (dk_at dksX0_knows_7 15 rfl rfl)
def dkwX0_signsBy_2 : List UInt8 := [167, 255, 213, 29, 172]
abbrev dktX0_signsBy_2 : List UInt8 := dkwX0_signsBy_2 ++ []
def dkwX0_signsBy_1 : List UInt8 := [153, 0, 18, 43, 21, 4, 46, 28, 160, 0, 10, 4, 21, 4, 120, 167, 0, 4, 3, 128, 62, 132, 4, 1]
abbrev dktX0_signsBy_1 : List UInt8 := dkwX0_signsBy_1 ++ dktX0_signsBy_2
def dkwX0_signsBy_0 : List UInt8 := [3, 62, 3, 54, 4, 21, 4, 42, 180, 0, 16, 180, 0, 134, 162, 0, 37, 29, 42, 21, 4, 182, 1, 151]
abbrev dktX0_signsBy_0 : List UInt8 := dkwX0_signsBy_0 ++ dktX0_signsBy_1
theorem dksX0_signsBy_0 : cX0_signsBy.data.toList.drop 0 = dktX0_signsBy_0 := by decide +kernel
theorem dksX0_signsBy_1 : cX0_signsBy.data.toList.drop 24 = dktX0_signsBy_1 := dk_seg dksX0_signsBy_0 24 rfl rfl
theorem dksX0_signsBy_2 : cX0_signsBy.data.toList.drop 48 = dktX0_signsBy_2 := dk_seg dksX0_signsBy_1 24 rfl rfl
theorem dX0_signsBy_0 : decode cX0_signsBy 0 = .ok (.iconst 0, 1) := dk_3 (dk_at dksX0_signsBy_0 0 rfl rfl)
theorem dX0_signsBy_1 : decode cX0_signsBy 1 = .ok (.istore_n 3, 1) := dk_62 (dk_at dksX0_signsBy_0 1 rfl rfl)
theorem dX0_signsBy_2 : decode cX0_signsBy 2 = .ok (.iconst 0, 1) := dk_3 (dk_at dksX0_signsBy_0 2 rfl rfl)
theorem dX0_signsBy_3 : decode cX0_signsBy 3 = .ok (.istore 4, 2) := dk_54 4 (dk_at dksX0_signsBy_0 3 rfl rfl)
theorem dX0_signsBy_5 : decode cX0_signsBy 5 = .ok (.iload 4, 2) := dk_21 4 (dk_at dksX0_signsBy_0 5 rfl rfl)
theorem dX0_signsBy_7 : decode cX0_signsBy 7 = .ok (.aload_n 0, 1) := dk_42 (dk_at dksX0_signsBy_0 7 rfl rfl)
theorem dX0_signsBy_8 : decode cX0_signsBy 8 = .ok (.getfield 16, 3) := dk_180 0 16 (dk_at dksX0_signsBy_0 8 rfl rfl)
theorem dX0_signsBy_11 : decode cX0_signsBy 11 = .ok (.getfield 134, 3) := dk_180 0 134 (dk_at dksX0_signsBy_0 11 rfl rfl)
theorem dX0_signsBy_14 : decode cX0_signsBy 14 = .ok (.if_icmp .ge 37, 3) := dk_162 0 37 (dk_at dksX0_signsBy_0 14 rfl rfl)
theorem dX0_signsBy_17 : decode cX0_signsBy 17 = .ok (.iload_n 3, 1) := dk_29 (dk_at dksX0_signsBy_0 17 rfl rfl)
theorem dX0_signsBy_18 : decode cX0_signsBy 18 = .ok (.aload_n 0, 1) := dk_42 (dk_at dksX0_signsBy_0 18 rfl rfl)
theorem dX0_signsBy_19 : decode cX0_signsBy 19 = .ok (.iload 4, 2) := dk_21 4 (dk_at dksX0_signsBy_0 19 rfl rfl)
theorem dX0_signsBy_21 : decode cX0_signsBy 21 = .ok (.invokevirtual 407, 3) := dk_182 1 151 (dk_at dksX0_signsBy_0 21 rfl rfl)
theorem dX0_signsBy_24 : decode cX0_signsBy 24 = .ok (.ifCond .eq 18, 3) := dk_153 0 18 (dk_at dksX0_signsBy_1 0 rfl rfl)
theorem dX0_signsBy_27 : decode cX0_signsBy 27 = .ok (.aload_n 1, 1) := dk_43 (dk_at dksX0_signsBy_1 3 rfl rfl)
theorem dX0_signsBy_28 : decode cX0_signsBy 28 = .ok (.iload 4, 2) := dk_21 4 (dk_at dksX0_signsBy_1 4 rfl rfl)
theorem dX0_signsBy_30 : decode cX0_signsBy 30 = .ok (.iaload, 1) := dk_46 (dk_at dksX0_signsBy_1 6 rfl rfl)
theorem dX0_signsBy_31 : decode cX0_signsBy 31 = .ok (.iload_n 2, 1) := dk_28 (dk_at dksX0_signsBy_1 7 rfl rfl)
theorem dX0_signsBy_32 : decode cX0_signsBy 32 = .ok (.if_icmp .ne 10, 3) := dk_160 0 10 (dk_at dksX0_signsBy_1 8 rfl rfl)
theorem dX0_signsBy_35 : decode cX0_signsBy 35 = .ok (.iconst 1, 1) := dk_4 (dk_at dksX0_signsBy_1 11 rfl rfl)
theorem dX0_signsBy_36 : decode cX0_signsBy 36 = .ok (.iload 4, 2) := dk_21 4 (dk_at dksX0_signsBy_1 12 rfl rfl)
theorem dX0_signsBy_38 : decode cX0_signsBy 38 = .ok (.ishl, 1) := dk_120 (dk_at dksX0_signsBy_1 14 rfl rfl)
theorem dX0_signsBy_39 : decode cX0_signsBy 39 = .ok (.goto 4, 3) := dk_167 0 4 (dk_at dksX0_signsBy_1 15 rfl rfl)
theorem dX0_signsBy_42 : decode cX0_signsBy 42 = .ok (.iconst 0, 1) := dk_3 (dk_at dksX0_signsBy_1 18 rfl rfl)
theorem dX0_signsBy_43 : decode cX0_signsBy 43 = .ok (.ior, 1) := dk_128 (dk_at dksX0_signsBy_1 19 rfl rfl)
theorem dX0_signsBy_44 : decode cX0_signsBy 44 = .ok (.istore_n 3, 1) := dk_62 (dk_at dksX0_signsBy_1 20 rfl rfl)
theorem dX0_signsBy_45 : decode cX0_signsBy 45 = .ok (.iinc 4 1, 3) := dk_132 4 1 (dk_at dksX0_signsBy_1 21 rfl rfl)
theorem dX0_signsBy_48 : decode cX0_signsBy 48 = .ok (.goto (-43), 3) := dk_167 255 213 (dk_at dksX0_signsBy_2 0 rfl rfl)
theorem dX0_signsBy_51 : decode cX0_signsBy 51 = .ok (.iload_n 3, 1) := dk_29 (dk_at dksX0_signsBy_2 3 rfl rfl)
theorem dX0_signsBy_52 : decode cX0_signsBy 52 = .ok (.ireturn, 1) := dk_172 (dk_at dksX0_signsBy_2 4 rfl rfl)
def dkwX0_isKnown_1 : List UInt8 := [3, 172]
abbrev dktX0_isKnown_1 : List UInt8 := dkwX0_isKnown_1 ++ []
def dkwX0_isKnown_0 : List UInt8 := [42, 180, 0, 75, 27, 46, 2, 159, 0, 17, 42, 180, 0, 78, 27, 46, 2, 159, 0, 7, 4, 167, 0, 4]
abbrev dktX0_isKnown_0 : List UInt8 := dkwX0_isKnown_0 ++ dktX0_isKnown_1
theorem dksX0_isKnown_0 : cX0_isKnown.data.toList.drop 0 = dktX0_isKnown_0 := by decide +kernel
theorem dksX0_isKnown_1 : cX0_isKnown.data.toList.drop 24 = dktX0_isKnown_1 := dk_seg dksX0_isKnown_0 24 rfl rfl
theorem dX0_isKnown_0 : decode cX0_isKnown 0 = .ok (.aload_n 0, 1) := dk_42 (dk_at dksX0_isKnown_0 0 rfl rfl)
theorem dX0_isKnown_1 : decode cX0_isKnown 1 = .ok (.getfield 75, 3) := dk_180 0 75 (dk_at dksX0_isKnown_0 1 rfl rfl)
theorem dX0_isKnown_4 : decode cX0_isKnown 4 = .ok (.iload_n 1, 1) := dk_27 (dk_at dksX0_isKnown_0 4 rfl rfl)
theorem dX0_isKnown_5 : decode cX0_isKnown 5 = .ok (.iaload, 1) := dk_46 (dk_at dksX0_isKnown_0 5 rfl rfl)
theorem dX0_isKnown_6 : decode cX0_isKnown 6 = .ok (.iconst (-1), 1) := dk_2 (dk_at dksX0_isKnown_0 6 rfl rfl)
theorem dX0_isKnown_7 : decode cX0_isKnown 7 = .ok (.if_icmp .eq 17, 3) := dk_159 0 17 (dk_at dksX0_isKnown_0 7 rfl rfl)
theorem dX0_isKnown_10 : decode cX0_isKnown 10 = .ok (.aload_n 0, 1) := dk_42 (dk_at dksX0_isKnown_0 10 rfl rfl)
theorem dX0_isKnown_11 : decode cX0_isKnown 11 = .ok (.getfield 78, 3) := dk_180 0 78 (dk_at dksX0_isKnown_0 11 rfl rfl)
theorem dX0_isKnown_14 : decode cX0_isKnown 14 = .ok (.iload_n 1, 1) := dk_27 (dk_at dksX0_isKnown_0 14 rfl rfl)
theorem dX0_isKnown_15 : decode cX0_isKnown 15 = .ok (.iaload, 1) := dk_46 (dk_at dksX0_isKnown_0 15 rfl rfl)
theorem dX0_isKnown_16 : decode cX0_isKnown 16 = .ok (.iconst (-1), 1) := dk_2 (dk_at dksX0_isKnown_0 16 rfl rfl)
theorem dX0_isKnown_17 : decode cX0_isKnown 17 = .ok (.if_icmp .eq 7, 3) := dk_159 0 7 (dk_at dksX0_isKnown_0 17 rfl rfl)
theorem dX0_isKnown_20 : decode cX0_isKnown 20 = .ok (.iconst 1, 1) := dk_4 (dk_at dksX0_isKnown_0 20 rfl rfl)
theorem dX0_isKnown_21 : decode cX0_isKnown 21 = .ok (.goto 4, 3) := dk_167 0 4 (dk_at dksX0_isKnown_0 21 rfl rfl)
theorem dX0_isKnown_24 : decode cX0_isKnown 24 = .ok (.iconst 0, 1) := dk_3 (dk_at dksX0_isKnown_1 0 rfl rfl)
theorem dX0_isKnown_25 : decode cX0_isKnown 25 = .ok (.ireturn, 1) := dk_172 (dk_at dksX0_isKnown_1 1 rfl rfl)
