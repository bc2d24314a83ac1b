set_option maxRecDepth 100000
def dkwX4_init_10 : List UInt8 := [181, 0, 93, 42, 16, 20, 188, 10, 181, 0, 96, 42, 16, 20, 188, 10, 181, 0, 99, 42, 182, 0, 102, 177]
abbrev dktX4_init_10 : List UInt8 := dkwX4_init_10 ++ []
def dkwX4_init_9 : List UInt8 := [188, 10, 181, 0, 84, 42, 7, 188, 10, 181, 0, 87, 42, 7, 188, 10, 181, 0, 90, 42, 16, 20, 188, 10]
abbrev dktX4_init_9 : List UInt8 := dkwX4_init_9 ++ dktX4_init_10
def dkwX4_init_8 : List UInt8 := [188, 4, 181, 0, 74, 42, 16, 40, 188, 10, 181, 0, 78, 42, 16, 20, 188, 10, 181, 0, 81, 42, 16, 40]
abbrev dktX4_init_8 : List UInt8 := dkwX4_init_8 ++ dktX4_init_9
def dkwX4_init_7 : List UInt8 := [181, 0, 65, 42, 16, 20, 188, 10, 181, 0, 68, 42, 17, 0, 240, 188, 10, 181, 0, 71, 42, 17, 3, 32]
abbrev dktX4_init_7 : List UInt8 := dkwX4_init_7 ++ dktX4_init_8
def dkwX4_init_6 : List UInt8 := [17, 6, 151, 188, 10, 181, 0, 59, 42, 17, 0, 241, 188, 10, 181, 0, 62, 42, 16, 20, 188, 10]
abbrev dktX4_init_6 : List UInt8 := dkwX4_init_6 ++ dktX4_init_7
def dkwX4_init_5 : List UInt8 := [188, 10, 181, 0, 50, 42, 16, 7, 188, 10, 181, 0, 53, 42, 17, 0, 241, 188, 10, 181, 0, 56, 42]
abbrev dktX4_init_5 : List UInt8 := dkwX4_init_5 ++ dktX4_init_6
def dkwX4_init_4 : List UInt8 := [181, 0, 41, 42, 16, 20, 188, 10, 181, 0, 44, 42, 16, 25, 188, 10, 181, 0, 47, 42, 17, 0, 240]
abbrev dktX4_init_4 : List UInt8 := dkwX4_init_4 ++ dktX4_init_5
def dkwX4_init_3 : List UInt8 := [17, 1, 204, 188, 10, 181, 0, 35, 42, 17, 35, 240, 188, 10, 181, 0, 38, 42, 16, 20, 188, 10]
abbrev dktX4_init_3 : List UInt8 := dkwX4_init_3 ++ dktX4_init_4
def dkwX4_init_2 : List UInt8 := [17, 1, 24, 188, 10, 181, 0, 26, 42, 8, 188, 10, 181, 0, 29, 42, 16, 35, 188, 10, 181, 0, 32, 42]
abbrev dktX4_init_2 : List UInt8 := dkwX4_init_2 ++ dktX4_init_3
def dkwX4_init_1 : List UInt8 := [188, 10, 181, 0, 17, 42, 16, 7, 188, 10, 181, 0, 20, 42, 16, 28, 188, 10, 181, 0, 23, 42]
abbrev dktX4_init_1 : List UInt8 := dkwX4_init_1 ++ dktX4_init_2
def dkwX4_init_0 : List UInt8 := [42, 183, 0, 3, 42, 17, 1, 44, 188, 8, 181, 0, 9, 42, 16, 100, 188, 10, 181, 0, 13, 42, 16, 105]
abbrev dktX4_init_0 : List UInt8 := dkwX4_init_0 ++ dktX4_init_1
theorem dksX4_init_0 : cX4_init.data.toList.drop 0 = dktX4_init_0 := by decide +kernel
theorem dksX4_init_1 : cX4_init.data.toList.drop 24 = dktX4_init_1 := dk_seg dksX4_init_0 24 rfl rfl
theorem dksX4_init_2 : cX4_init.data.toList.drop 46 = dktX4_init_2 := dk_seg dksX4_init_1 22 rfl rfl
theorem dksX4_init_3 : cX4_init.data.toList.drop 70 = dktX4_init_3 := dk_seg dksX4_init_2 24 rfl rfl
theorem dksX4_init_4 : cX4_init.data.toList.drop 92 = dktX4_init_4 := dk_seg dksX4_init_3 22 rfl rfl
theorem dksX4_init_5 : cX4_init.data.toList.drop 115 = dktX4_init_5 := dk_seg dksX4_init_4 23 rfl rfl
theorem dksX4_init_6 : cX4_init.data.toList.drop 138 = dktX4_init_6 := dk_seg dksX4_init_5 23 rfl rfl
theorem dksX4_init_7 : cX4_init.data.toList.drop 160 = dktX4_init_7 := dk_seg dksX4_init_6 22 rfl rfl
theorem dksX4_init_8 : cX4_init.data.toList.drop 184 = dktX4_init_8 := dk_seg dksX4_init_7 24 rfl rfl
theorem dksX4_init_9 : cX4_init.data.toList.drop 208 = dktX4_init_9 := dk_seg dksX4_init_8 24 rfl rfl
theorem dksX4_init_10 : cX4_init.data.toList.drop 232 = dktX4_init_10 := dk_seg dksX4_init_9 24 rfl rfl
theorem dX4_init_0 : decode cX4_init 0 = .ok (.aload_n 0, 1) := dk_42 (dk_at dksX4_init_0 0 rfl rfl)
theorem dX4_init_1 : decode cX4_init 1 = .ok (.invokespecial 3, 3) := dk_183 0 3 (dk_at dksX4_init_0 1 rfl rfl)
theorem dX4_init_4 : decode cX4_init 4 = .ok (.aload_n 0, 1) := dk_42 (dk_at dksX4_init_0 4 rfl rfl)
theorem dX4_init_5 : decode cX4_init 5 = .ok (.sipush 300, 3) := dk_17 1 44 (dk_at dksX4_init_0 5 rfl rfl)
theorem dX4_init_8 : decode cX4_init 8 = .ok (.newarray .byte, 2) := dk_188_8 (dk_at dksX4_init_0 8 rfl rfl)
theorem dX4_init_10 : decode cX4_init 10 = .ok (.putfield 9, 3) := dk_181 0 9 (dk_at dksX4_init_0 10 rfl rfl)
theorem dX4_init_13 : decode cX4_init 13 = .ok (.aload_n 0, 1) := dk_42 (dk_at dksX4_init_0 13 rfl rfl)
theorem dX4_init_14 : decode cX4_init 14 = .ok (.bipush 100, 2) := dk_16 100 (dk_at dksX4_init_0 14 rfl rfl)
theorem dX4_init_16 : decode cX4_init 16 = .ok (.newarray .int, 2) := dk_188_10 (dk_at dksX4_init_0 16 rfl rfl)
theorem dX4_init_18 : decode cX4_init 18 = .ok (.putfield 13, 3) := dk_181 0 13 (dk_at dksX4_init_0 18 rfl rfl)
theorem dX4_init_21 : decode cX4_init 21 = .ok (.aload_n 0, 1) := dk_42 (dk_at dksX4_init_0 21 rfl rfl)
theorem dX4_init_22 : decode cX4_init 22 = .ok (.bipush 105, 2) := dk_16 105 (dk_at dksX4_init_0 22 rfl rfl)
theorem dX4_init_24 : decode cX4_init 24 = .ok (.newarray .int, 2) := dk_188_10 (dk_at dksX4_init_1 0 rfl rfl)
theorem dX4_init_26 : decode cX4_init 26 = .ok (.putfield 17, 3) := dk_181 0 17 (dk_at dksX4_init_1 2 rfl rfl)
theorem dX4_init_29 : decode cX4_init 29 = .ok (.aload_n 0, 1) := dk_42 (dk_at dksX4_init_1 5 rfl rfl)
theorem dX4_init_30 : decode cX4_init 30 = .ok (.bipush 7, 2) := dk_16 7 (dk_at dksX4_init_1 6 rfl rfl)
theorem dX4_init_32 : decode cX4_init 32 = .ok (.newarray .int, 2) := dk_188_10 (dk_at dksX4_init_1 8 rfl rfl)
theorem dX4_init_34 : decode cX4_init 34 = .ok (.putfield 20, 3) := dk_181 0 20 (dk_at dksX4_init_1 10 rfl rfl)
theorem dX4_init_37 : decode cX4_init 37 = .ok (.aload_n 0, 1) := dk_42 (dk_at dksX4_init_1 13 rfl rfl)
theorem dX4_init_38 : decode cX4_init 38 = .ok (.bipush 28, 2) := dk_16 28 (dk_at dksX4_init_1 14 rfl rfl)
theorem dX4_init_40 : decode cX4_init 40 = .ok (.newarray .int, 2) := dk_188_10 (dk_at dksX4_init_1 16 rfl rfl)
theorem dX4_init_42 : decode cX4_init 42 = .ok (.putfield 23, 3) := dk_181 0 23 (dk_at dksX4_init_1 18 rfl rfl)
theorem dX4_init_45 : decode cX4_init 45 = .ok (.aload_n 0, 1) := dk_42 (dk_at dksX4_init_1 21 rfl rfl)
theorem dX4_init_46 : decode cX4_init 46 = .ok (.sipush 280, 3) := dk_17 1 24 (dk_at dksX4_init_2 0 rfl rfl)
theorem dX4_init_49 : decode cX4_init 49 = .ok (.newarray .int, 2) := dk_188_10 (dk_at dksX4_init_2 3 rfl rfl)
theorem dX4_init_51 : decode cX4_init 51 = .ok (.putfield 26, 3) := dk_181 0 26 (dk_at dksX4_init_2 5 rfl rfl)
theorem dX4_init_54 : decode cX4_init 54 = .ok (.aload_n 0, 1) := dk_42 (dk_at dksX4_init_2 8 rfl rfl)
theorem dX4_init_55 : decode cX4_init 55 = .ok (.iconst 5, 1) := dk_8 (dk_at dksX4_init_2 9 rfl rfl)
theorem dX4_init_56 : decode cX4_init 56 = .ok (.newarray .int, 2) := dk_188_10 (dk_at dksX4_init_2 10 rfl rfl)
theorem dX4_init_58 : decode cX4_init 58 = .ok (.putfield 29, 3) := dk_181 0 29 (dk_at dksX4_init_2 12 rfl rfl)
theorem dX4_init_61 : decode cX4_init 61 = .ok (.aload_n 0, 1) := dk_42 (dk_at dksX4_init_2 15 rfl rfl)
theorem dX4_init_62 : decode cX4_init 62 = .ok (.bipush 35, 2) := dk_16 35 (dk_at dksX4_init_2 16 rfl rfl)
theorem dX4_init_64 : decode cX4_init 64 = .ok (.newarray .int, 2) := dk_188_10 (dk_at dksX4_init_2 18 rfl rfl)
theorem dX4_init_66 : decode cX4_init 66 = .ok (.putfield 32, 3) := dk_181 0 32 (dk_at dksX4_init_2 20 rfl rfl)
theorem dX4_init_69 : decode cX4_init 69 = .ok (.aload_n 0, 1) := dk_42 (dk_at dksX4_init_2 23 rfl rfl)
theorem dX4_init_70 : decode cX4_init 70 = .ok (.sipush 460, 3) := dk_17 1 204 (dk_at dksX4_init_3 0 rfl rfl)
theorem dX4_init_73 : decode cX4_init 73 = .ok (.newarray .int, 2) := dk_188_10 (dk_at dksX4_init_3 3 rfl rfl)
theorem dX4_init_75 : decode cX4_init 75 = .ok (.putfield 35, 3) := dk_181 0 35 (dk_at dksX4_init_3 5 rfl rfl)
theorem dX4_init_78 : decode cX4_init 78 = .ok (.aload_n 0, 1) := dk_42 (dk_at dksX4_init_3 8 rfl rfl)
theorem dX4_init_79 : decode cX4_init 79 = .ok (.sipush 9200, 3) := dk_17 35 240 (dk_at dksX4_init_3 9 rfl rfl)
theorem dX4_init_82 : decode cX4_init 82 = .ok (.newarray .int, 2) := dk_188_10 (dk_at dksX4_init_3 12 rfl rfl)
theorem dX4_init_84 : decode cX4_init 84 = .ok (.putfield 38, 3) := dk_181 0 38 (dk_at dksX4_init_3 14 rfl rfl)
theorem dX4_init_87 : decode cX4_init 87 = .ok (.aload_n 0, 1) := dk_42 (dk_at dksX4_init_3 17 rfl rfl)
theorem dX4_init_88 : decode cX4_init 88 = .ok (.bipush 20, 2) := dk_16 20 (dk_at dksX4_init_3 18 rfl rfl)
theorem dX4_init_90 : decode cX4_init 90 = .ok (.newarray .int, 2) := dk_188_10 (dk_at dksX4_init_3 20 rfl rfl)
theorem dX4_init_92 : decode cX4_init 92 = .ok (.putfield 41, 3) := dk_181 0 41 (dk_at dksX4_init_4 0 rfl rfl)
theorem dX4_init_95 : decode cX4_init 95 = .ok (.aload_n 0, 1) := dk_42 (dk_at dksX4_init_4 3 rfl rfl)
theorem dX4_init_96 : decode cX4_init 96 = .ok (.bipush 20, 2) := dk_16 20 (dk_at dksX4_init_4 4 rfl rfl)
theorem dX4_init_98 : decode cX4_init 98 = .ok (.newarray .int, 2) := dk_188_10 (dk_at dksX4_init_4 6 rfl rfl)
theorem dX4_init_100 : decode cX4_init 100 = .ok (.putfield 44, 3) := dk_181 0 44 (dk_at dksX4_init_4 8 rfl rfl)
theorem dX4_init_103 : decode cX4_init 103 = .ok (.aload_n 0, 1) := dk_42 (dk_at dksX4_init_4 11 rfl rfl)
theorem dX4_init_104 : decode cX4_init 104 = .ok (.bipush 25, 2) := dk_16 25 (dk_at dksX4_init_4 12 rfl rfl)
theorem dX4_init_106 : decode cX4_init 106 = .ok (.newarray .int, 2) := dk_188_10 (dk_at dksX4_init_4 14 rfl rfl)
theorem dX4_init_108 : decode cX4_init 108 = .ok (.putfield 47, 3) := dk_181 0 47 (dk_at dksX4_init_4 16 rfl rfl)
theorem dX4_init_111 : decode cX4_init 111 = .ok (.aload_n 0, 1) := dk_42 (dk_at dksX4_init_4 19 rfl rfl)
theorem dX4_init_112 : decode cX4_init 112 = .ok (.sipush 240, 3) := dk_17 0 240 (dk_at dksX4_init_4 20 rfl rfl)
theorem dX4_init_115 : decode cX4_init 115 = .ok (.newarray .int, 2) := dk_188_10 (dk_at dksX4_init_5 0 rfl rfl)
theorem dX4_init_117 : decode cX4_init 117 = .ok (.putfield 50, 3) := dk_181 0 50 (dk_at dksX4_init_5 2 rfl rfl)
theorem dX4_init_120 : decode cX4_init 120 = .ok (.aload_n 0, 1) := dk_42 (dk_at dksX4_init_5 5 rfl rfl)
theorem dX4_init_121 : decode cX4_init 121 = .ok (.bipush 7, 2) := dk_16 7 (dk_at dksX4_init_5 6 rfl rfl)
theorem dX4_init_123 : decode cX4_init 123 = .ok (.newarray .int, 2) := dk_188_10 (dk_at dksX4_init_5 8 rfl rfl)
theorem dX4_init_125 : decode cX4_init 125 = .ok (.putfield 53, 3) := dk_181 0 53 (dk_at dksX4_init_5 10 rfl rfl)
theorem dX4_init_128 : decode cX4_init 128 = .ok (.aload_n 0, 1) := dk_42 (dk_at dksX4_init_5 13 rfl rfl)
theorem dX4_init_129 : decode cX4_init 129 = .ok (.sipush 241, 3) := dk_17 0 241 (dk_at dksX4_init_5 14 rfl rfl)
theorem dX4_init_132 : decode cX4_init 132 = .ok (.newarray .int, 2) := dk_188_10 (dk_at dksX4_init_5 17 rfl rfl)
theorem dX4_init_134 : decode cX4_init 134 = .ok (.putfield 56, 3) := dk_181 0 56 (dk_at dksX4_init_5 19 rfl rfl)
theorem dX4_init_137 : decode cX4_init 137 = .ok (.aload_n 0, 1) := dk_42 (dk_at dksX4_init_5 22 rfl rfl)
theorem dX4_init_138 : decode cX4_init 138 = .ok (.sipush 1687, 3) := dk_17 6 151 (dk_at dksX4_init_6 0 rfl rfl)
theorem dX4_init_141 : decode cX4_init 141 = .ok (.newarray .int, 2) := dk_188_10 (dk_at dksX4_init_6 3 rfl rfl)
theorem dX4_init_143 : decode cX4_init 143 = .ok (.putfield 59, 3) := dk_181 0 59 (dk_at dksX4_init_6 5 rfl rfl)
theorem dX4_init_146 : decode cX4_init 146 = .ok (.aload_n 0, 1) := dk_42 (dk_at dksX4_init_6 8 rfl rfl)
theorem dX4_init_147 : decode cX4_init 147 = .ok (.sipush 241, 3) := dk_17 0 241 (dk_at dksX4_init_6 9 rfl rfl)
theorem dX4_init_150 : decode cX4_init 150 = .ok (.newarray .int, 2) := dk_188_10 (dk_at dksX4_init_6 12 rfl rfl)
theorem dX4_init_152 : decode cX4_init 152 = .ok (.putfield 62, 3) := dk_181 0 62 (dk_at dksX4_init_6 14 rfl rfl)
theorem dX4_init_155 : decode cX4_init 155 = .ok (.aload_n 0, 1) := dk_42 (dk_at dksX4_init_6 17 rfl rfl)
theorem dX4_init_156 : decode cX4_init 156 = .ok (.bipush 20, 2) := dk_16 20 (dk_at dksX4_init_6 18 rfl rfl)
theorem dX4_init_158 : decode cX4_init 158 = .ok (.newarray .int, 2) := dk_188_10 (dk_at dksX4_init_6 20 rfl rfl)
theorem dX4_init_160 : decode cX4_init 160 = .ok (.putfield 65, 3) := dk_181 0 65 (dk_at dksX4_init_7 0 rfl rfl)
theorem dX4_init_163 : decode cX4_init 163 = .ok (.aload_n 0, 1) := dk_42 (dk_at dksX4_init_7 3 rfl rfl)
theorem dX4_init_164 : decode cX4_init 164 = .ok (.bipush 20, 2) := dk_16 20 (dk_at dksX4_init_7 4 rfl rfl)
theorem dX4_init_166 : decode cX4_init 166 = .ok (.newarray .int, 2) := dk_188_10 (dk_at dksX4_init_7 6 rfl rfl)
theorem dX4_init_168 : decode cX4_init 168 = .ok (.putfield 68, 3) := dk_181 0 68 (dk_at dksX4_init_7 8 rfl rfl)
theorem dX4_init_171 : decode cX4_init 171 = .ok (.aload_n 0, 1) := dk_42 (dk_at dksX4_init_7 11 rfl rfl)
theorem dX4_init_172 : decode cX4_init 172 = .ok (.sipush 240, 3) := dk_17 0 240 (dk_at dksX4_init_7 12 rfl rfl)
theorem dX4_init_175 : decode cX4_init 175 = .ok (.newarray .int, 2) := dk_188_10 (dk_at dksX4_init_7 15 rfl rfl)
theorem dX4_init_177 : decode cX4_init 177 = .ok (.putfield 71, 3) := dk_181 0 71 (dk_at dksX4_init_7 17 rfl rfl)
theorem dX4_init_180 : decode cX4_init 180 = .ok (.aload_n 0, 1) := dk_42 (dk_at dksX4_init_7 20 rfl rfl)
theorem dX4_init_181 : decode cX4_init 181 = .ok (.sipush 800, 3) := dk_17 3 32 (dk_at dksX4_init_7 21 rfl rfl)
theorem dX4_init_184 : decode cX4_init 184 = .ok (.newarray .boolean, 2) := dk_188_4 (dk_at dksX4_init_8 0 rfl rfl)
theorem dX4_init_186 : decode cX4_init 186 = .ok (.putfield 74, 3) := dk_181 0 74 (dk_at dksX4_init_8 2 rfl rfl)
theorem dX4_init_189 : decode cX4_init 189 = .ok (.aload_n 0, 1) := dk_42 (dk_at dksX4_init_8 5 rfl rfl)
theorem dX4_init_190 : decode cX4_init 190 = .ok (.bipush 40, 2) := dk_16 40 (dk_at dksX4_init_8 6 rfl rfl)
theorem dX4_init_192 : decode cX4_init 192 = .ok (.newarray .int, 2) := dk_188_10 (dk_at dksX4_init_8 8 rfl rfl)
theorem dX4_init_194 : decode cX4_init 194 = .ok (.putfield 78, 3) := dk_181 0 78 (dk_at dksX4_init_8 10 rfl rfl)
theorem dX4_init_197 : decode cX4_init 197 = .ok (.aload_n 0, 1) := dk_42 (dk_at dksX4_init_8 13 rfl rfl)
theorem dX4_init_198 : decode cX4_init 198 = .ok (.bipush 20, 2) := dk_16 20 (dk_at dksX4_init_8 14 rfl rfl)
theorem dX4_init_200 : decode cX4_init 200 = .ok (.newarray .int, 2) := dk_188_10 (dk_at dksX4_init_8 16 rfl rfl)
theorem dX4_init_202 : decode cX4_init 202 = .ok (.putfield 81, 3) := dk_181 0 81 (dk_at dksX4_init_8 18 rfl rfl)
theorem dX4_init_205 : decode cX4_init 205 = .ok (.aload_n 0, 1) := dk_42 (dk_at dksX4_init_8 21 rfl rfl)
theorem dX4_init_206 : decode cX4_init 206 = .ok (.bipush 40, 2) := dk_16 40 (dk_at dksX4_init_8 22 rfl rfl)
theorem dX4_init_208 : decode cX4_init 208 = .ok (.newarray .int, 2) := dk_188_10 (dk_at dksX4_init_9 0 rfl rfl)
theorem dX4_init_210 : decode cX4_init 210 = .ok (.putfield 84, 3) := dk_181 0 84 (dk_at dksX4_init_9 2 rfl rfl)
theorem dX4_init_213 : decode cX4_init 213 = .ok (.aload_n 0, 1) := dk_42 (dk_at dksX4_init_9 5 rfl rfl)
theorem dX4_init_214 : decode cX4_init 214 = .ok (.iconst 4, 1) := dk_7 (dk_at dksX4_init_9 6 rfl rfl)
theorem dX4_init_215 : decode cX4_init 215 = .ok (.newarray .int, 2) := dk_188_10 (dk_at dksX4_init_9 7 rfl rfl)
theorem dX4_init_217 : decode cX4_init 217 = .ok (.putfield 87, 3) := dk_181 0 87 (dk_at dksX4_init_9 9 rfl rfl)
theorem dX4_init_220 : decode cX4_init 220 = .ok (.aload_n 0, 1) := dk_42 (dk_at dksX4_init_9 12 rfl rfl)
theorem dX4_init_221 : decode cX4_init 221 = .ok (.iconst 4, 1) := dk_7 (dk_at dksX4_init_9 13 rfl rfl)
theorem dX4_init_222 : decode cX4_init 222 = .ok (.newarray .int, 2) := dk_188_10 (dk_at dksX4_init_9 14 rfl rfl)
theorem dX4_init_224 : decode cX4_init 224 = .ok (.putfield 90, 3) := dk_181 0 90 (dk_at dksX4_init_9 16 rfl rfl)
theorem dX4_init_227 : decode cX4_init 227 = .ok (.aload_n 0, 1) := dk_42 (dk_at dksX4_init_9 19 rfl rfl)
theorem dX4_init_228 : decode cX4_init 228 = .ok (.bipush 20, 2) := dk_16 20 (dk_at dksX4_init_9 20 rfl rfl)
theorem dX4_init_230 : decode cX4_init 230 = .ok (.newarray .int, 2) := dk_188_10 (dk_at dksX4_init_9 22 rfl rfl)
theorem dX4_init_232 : decode cX4_init 232 = .ok (.putfield 93, 3) := dk_181 0 93 (dk_at dksX4_init_10 0 rfl rfl)
theorem dX4_init_235 : decode cX4_init 235 = .ok (.aload_n 0, 1) := dk_42 (dk_at dksX4_init_10 3 rfl rfl)
theorem dX4_init_236 : decode cX4_init 236 = .ok (.bipush 20, 2) := dk_16 20 (dk_at dksX4_init_10 4 rfl rfl)
theorem dX4_init_238 : decode cX4_init 238 = .ok (.newarray .int, 2) := dk_188_10 (dk_at dksX4_init_10 6 rfl rfl)
theorem dX4_init_240 : decode cX4_init 240 = .ok (.putfield 96, 3) := dk_181 0 96 (dk_at dksX4_init_10 8 rfl rfl)
theorem dX4_init_243 : decode cX4_init 243 = .ok (.aload_n 0, 1) := dk_42 (dk_at dksX4_init_10 11 rfl rfl)
theorem dX4_init_244 : decode cX4_init 244 = .ok (.bipush 20, 2) := dk_16 20 (dk_at dksX4_init_10 12 rfl rfl)
theorem dX4_init_246 : decode cX4_init 246 = .ok (.newarray .int, 2) := dk_188_10 (dk_at dksX4_init_10 14 rfl rfl)
theorem dX4_init_248 : decode cX4_init 248 = .ok (.putfield 99, 3) := dk_181 0 99 (dk_at dksX4_init_10 16 rfl rfl)
theorem dX4_init_251 : decode cX4_init 251 = .ok (.aload_n 0, 1) := dk_42 (dk_at dksX4_init_10 19 rfl rfl)
theorem dX4_init_252 : decode cX4_init 252 = .ok (.invokevirtual 102, 3) := dk_182 0 102 (dk_at dksX4_init_10 20 rfl rfl)
theorem dX4_init_255 : decode cX4_init 255 = .ok (.return_, 1) := dk_177 (dk_at dksX4_init_10 23 rfl rfl)
def dkwX4_clearsTold_3 : List UInt8 := [181, 0, 181, 42, 3, 181, 0, 184, 177]
abbrev dktX4_clearsTold_3 : List UInt8 := dkwX4_clearsTold_3 ++ []
def dkwX4_clearsTold_2 : List UInt8 := [16, 20, 162, 0, 18, 42, 180, 0, 35, 7, 27, 96, 2, 79, 132, 1, 1, 167, 255, 238, 42, 3]
abbrev dktX4_clearsTold_2 : List UInt8 := dkwX4_clearsTold_2 ++ dktX4_clearsTold_3
def dkwX4_clearsTold_1 : List UInt8 := [180, 0, 35, 3, 5, 79, 42, 180, 0, 35, 4, 6, 79, 42, 180, 0, 35, 5, 5, 79, 3, 60, 27]
abbrev dktX4_clearsTold_1 : List UInt8 := dkwX4_clearsTold_1 ++ dktX4_clearsTold_2
def dkwX4_clearsTold_0 : List UInt8 := [3, 60, 27, 17, 1, 204, 162, 0, 16, 42, 180, 0, 35, 27, 3, 79, 132, 1, 1, 167, 255, 239, 42]
abbrev dktX4_clearsTold_0 : List UInt8 := dkwX4_clearsTold_0 ++ dktX4_clearsTold_1
theorem dksX4_clearsTold_0 : cX4_clearsTold.data.toList.drop 0 = dktX4_clearsTold_0 := by decide +kernel
theorem dksX4_clearsTold_1 : cX4_clearsTold.data.toList.drop 23 = dktX4_clearsTold_1 := dk_seg dksX4_clearsTold_0 23 rfl rfl
theorem dksX4_clearsTold_2 : cX4_clearsTold.data.toList.drop 46 = dktX4_clearsTold_2 := dk_seg dksX4_clearsTold_1 23 rfl rfl
theorem dksX4_clearsTold_3 : cX4_clearsTold.data.toList.drop 68 = dktX4_clearsTold_3 := dk_seg dksX4_clearsTold_2 22 rfl rfl
theorem dX4_clearsTold_0 : decode cX4_clearsTold 0 = .ok (.iconst 0, 1) := dk_3 (dk_at dksX4_clearsTold_0 0 rfl rfl)
theorem dX4_clearsTold_1 : decode cX4_clearsTold 1 = .ok (.istore_n 1, 1) := dk_60 (dk_at dksX4_clearsTold_0 1 rfl rfl)
theorem dX4_clearsTold_2 : decode cX4_clearsTold 2 = .ok (.iload_n 1, 1) := dk_27 (dk_at dksX4_clearsTold_0 2 rfl rfl)
theorem dX4_clearsTold_3 : decode cX4_clearsTold 3 = .ok (.sipush 460, 3) := dk_17 1 204 (dk_at dksX4_clearsTold_0 3 rfl rfl)
theorem dX4_clearsTold_6 : decode cX4_clearsTold 6 = .ok (.if_icmp .ge 16, 3) := dk_162 0 16 (dk_at dksX4_clearsTold_0 6 rfl rfl)
theorem dX4_clearsTold_9 : decode cX4_clearsTold 9 = .ok (.aload_n 0, 1) := dk_42 (dk_at dksX4_clearsTold_0 9 rfl rfl)
theorem dX4_clearsTold_10 : decode cX4_clearsTold 10 = .ok (.getfield 35, 3) := dk_180 0 35 (dk_at dksX4_clearsTold_0 10 rfl rfl)
theorem dX4_clearsTold_13 : decode cX4_clearsTold 13 = .ok (.iload_n 1, 1) := dk_27 (dk_at dksX4_clearsTold_0 13 rfl rfl)
theorem dX4_clearsTold_14 : decode cX4_clearsTold 14 = .ok (.iconst 0, 1) := dk_3 (dk_at dksX4_clearsTold_0 14 rfl rfl)
theorem dX4_clearsTold_15 : decode cX4_clearsTold 15 = .ok (.iastore, 1) := dk_79 (dk_at dksX4_clearsTold_0 15 rfl rfl)
theorem dX4_clearsTold_16 : decode cX4_clearsTold 16 = .ok (.iinc 1 1, 3) := dk_132 1 1 (dk_at dksX4_clearsTold_0 16 rfl rfl)
theorem dX4_clearsTold_19 : decode cX4_clearsTold 19 = .ok (.goto (-17), 3) := dk_167 255 239 (dk_at dksX4_clearsTold_0 19 rfl rfl)
theorem dX4_clearsTold_22 : decode cX4_clearsTold 22 = .ok (.aload_n 0, 1) := dk_42 (dk_at dksX4_clearsTold_0 22 rfl rfl)
theorem dX4_clearsTold_23 : decode cX4_clearsTold 23 = .ok (.getfield 35, 3) := dk_180 0 35 (dk_at dksX4_clearsTold_1 0 rfl rfl)
theorem dX4_clearsTold_26 : decode cX4_clearsTold 26 = .ok (.iconst 0, 1) := dk_3 (dk_at dksX4_clearsTold_1 3 rfl rfl)
theorem dX4_clearsTold_27 : decode cX4_clearsTold 27 = .ok (.iconst 2, 1) := dk_5 (dk_at dksX4_clearsTold_1 4 rfl rfl)
theorem dX4_clearsTold_28 : decode cX4_clearsTold 28 = .ok (.iastore, 1) := dk_79 (dk_at dksX4_clearsTold_1 5 rfl rfl)
theorem dX4_clearsTold_29 : decode cX4_clearsTold 29 = .ok (.aload_n 0, 1) := dk_42 (dk_at dksX4_clearsTold_1 6 rfl rfl)
theorem dX4_clearsTold_30 : decode cX4_clearsTold 30 = .ok (.getfield 35, 3) := dk_180 0 35 (dk_at dksX4_clearsTold_1 7 rfl rfl)
theorem dX4_clearsTold_33 : decode cX4_clearsTold 33 = .ok (.iconst 1, 1) := dk_4 (dk_at dksX4_clearsTold_1 10 rfl rfl)
theorem dX4_clearsTold_34 : decode cX4_clearsTold 34 = .ok (.iconst 3, 1) := dk_6 (dk_at dksX4_clearsTold_1 11 rfl rfl)
theorem dX4_clearsTold_35 : decode cX4_clearsTold 35 = .ok (.iastore, 1) := dk_79 (dk_at dksX4_clearsTold_1 12 rfl rfl)
theorem dX4_clearsTold_36 : decode cX4_clearsTold 36 = .ok (.aload_n 0, 1) := dk_42 (dk_at dksX4_clearsTold_1 13 rfl rfl)
theorem dX4_clearsTold_37 : decode cX4_clearsTold 37 = .ok (.getfield 35, 3) := dk_180 0 35 (dk_at dksX4_clearsTold_1 14 rfl rfl)
theorem dX4_clearsTold_40 : decode cX4_clearsTold 40 = .ok (.iconst 2, 1) := dk_5 (dk_at dksX4_clearsTold_1 17 rfl rfl)
theorem dX4_clearsTold_41 : decode cX4_clearsTold 41 = .ok (.iconst 2, 1) := dk_5 (dk_at dksX4_clearsTold_1 18 rfl rfl)
theorem dX4_clearsTold_42 : decode cX4_clearsTold 42 = .ok (.iastore, 1) := dk_79 (dk_at dksX4_clearsTold_1 19 rfl rfl)
theorem dX4_clearsTold_43 : decode cX4_clearsTold 43 = .ok (.iconst 0, 1) := dk_3 (dk_at dksX4_clearsTold_1 20 rfl rfl)
theorem dX4_clearsTold_44 : decode cX4_clearsTold 44 = .ok (.istore_n 1, 1) := dk_60 (dk_at dksX4_clearsTold_1 21 rfl rfl)
theorem dX4_clearsTold_45 : decode cX4_clearsTold 45 = .ok (.iload_n 1, 1) := dk_27 (dk_at dksX4_clearsTold_1 22 rfl rfl)
theorem dX4_clearsTold_46 : decode cX4_clearsTold 46 = .ok (.bipush 20, 2) := dk_16 20 (dk_at dksX4_clearsTold_2 0 rfl rfl)
theorem dX4_clearsTold_48 : decode cX4_clearsTold 48 = .ok (.if_icmp .ge 18, 3) := dk_162 0 18 (dk_at dksX4_clearsTold_2 2 rfl rfl)
theorem dX4_clearsTold_51 : decode cX4_clearsTold 51 = .ok (.aload_n 0, 1) := dk_42 (dk_at dksX4_clearsTold_2 5 rfl rfl)
theorem dX4_clearsTold_52 : decode cX4_clearsTold 52 = .ok (.getfield 35, 3) := dk_180 0 35 (dk_at dksX4_clearsTold_2 6 rfl rfl)
theorem dX4_clearsTold_55 : decode cX4_clearsTold 55 = .ok (.iconst 4, 1) := dk_7 (dk_at dksX4_clearsTold_2 9 rfl rfl)
theorem dX4_clearsTold_56 : decode cX4_clearsTold 56 = .ok (.iload_n 1, 1) := dk_27 (dk_at dksX4_clearsTold_2 10 rfl rfl)
theorem dX4_clearsTold_57 : decode cX4_clearsTold 57 = .ok (.iadd, 1) := dk_96 (dk_at dksX4_clearsTold_2 11 rfl rfl)
theorem dX4_clearsTold_58 : decode cX4_clearsTold 58 = .ok (.iconst (-1), 1) := dk_2 (dk_at dksX4_clearsTold_2 12 rfl rfl)
theorem dX4_clearsTold_59 : decode cX4_clearsTold 59 = .ok (.iastore, 1) := dk_79 (dk_at dksX4_clearsTold_2 13 rfl rfl)
theorem dX4_clearsTold_60 : decode cX4_clearsTold 60 = .ok (.iinc 1 1, 3) := dk_132 1 1 (dk_at dksX4_clearsTold_2 14 rfl rfl)
theorem dX4_clearsTold_63 : decode cX4_clearsTold 63 = .ok (.goto (-18), 3) := dk_167 255 238 (dk_at dksX4_clearsTold_2 17 rfl rfl)
theorem dX4_clearsTold_66 : decode cX4_clearsTold 66 = .ok (.aload_n 0, 1) := dk_42 (dk_at dksX4_clearsTold_2 20 rfl rfl)
theorem dX4_clearsTold_67 : decode cX4_clearsTold 67 = .ok (.iconst 0, 1) := dk_3 (dk_at dksX4_clearsTold_2 21 rfl rfl)
theorem dX4_clearsTold_68 : decode cX4_clearsTold 68 = .ok (.putfield 181, 3) := dk_181 0 181 (dk_at dksX4_clearsTold_3 0 rfl rfl)
theorem dX4_clearsTold_71 : decode cX4_clearsTold 71 = .ok (.aload_n 0, 1) := dk_42 (dk_at dksX4_clearsTold_3 3 rfl rfl)
theorem dX4_clearsTold_72 : decode cX4_clearsTold 72 = .ok (.iconst 0, 1) := dk_3 (dk_at dksX4_clearsTold_3 4 rfl rfl)
theorem dX4_clearsTold_73 : decode cX4_clearsTold 73 = .ok (.putfield 184, 3) := dk_181 0 184 (dk_at dksX4_clearsTold_3 5 rfl rfl)
theorem dX4_clearsTold_76 : decode cX4_clearsTold 76 = .ok (.return_, 1) := dk_177 (dk_at dksX4_clearsTold_3 8 rfl rfl)
def dkwX4_feed_2 : List UInt8 := [172]
abbrev dktX4_feed_2 : List UInt8 := dkwX4_feed_2 ++ []
def dkwX4_feed_1 : List UInt8 := [182, 0, 109, 42, 29, 182, 0, 109, 42, 21, 4, 182, 0, 109, 42, 21, 5, 182, 0, 109, 42, 180, 0, 105]
abbrev dktX4_feed_1 : List UInt8 := dkwX4_feed_1 ++ dktX4_feed_2
def dkwX4_feed_0 : List UInt8 := [42, 180, 0, 105, 16, 20, 96, 17, 1, 44, 164, 0, 5, 2, 172, 42, 27, 182, 0, 109, 42, 28]
abbrev dktX4_feed_0 : List UInt8 := dkwX4_feed_0 ++ dktX4_feed_1
theorem dksX4_feed_0 : cX4_feed.data.toList.drop 0 = dktX4_feed_0 := by decide +kernel
theorem dksX4_feed_1 : cX4_feed.data.toList.drop 22 = dktX4_feed_1 := dk_seg dksX4_feed_0 22 rfl rfl
theorem dksX4_feed_2 : cX4_feed.data.toList.drop 46 = dktX4_feed_2 := dk_seg dksX4_feed_1 24 rfl rfl
theorem dX4_feed_0 : decode cX4_feed 0 = .ok (.aload_n 0, 1) := dk_42 (dk_at dksX4_feed_0 0 rfl rfl)
theorem dX4_feed_1 : decode cX4_feed 1 = .ok (.getfield 105, 3) := dk_180 0 105 (dk_at dksX4_feed_0 1 rfl rfl)
theorem dX4_feed_4 : decode cX4_feed 4 = .ok (.bipush 20, 2) := dk_16 20 (dk_at dksX4_feed_0 4 rfl rfl)
theorem dX4_feed_6 : decode cX4_feed 6 = .ok (.iadd, 1) := dk_96 (dk_at dksX4_feed_0 6 rfl rfl)
theorem dX4_feed_7 : decode cX4_feed 7 = .ok (.sipush 300, 3) := dk_17 1 44 (dk_at dksX4_feed_0 7 rfl rfl)
theorem dX4_feed_10 : decode cX4_feed 10 = .ok (.if_icmp .le 5, 3) := dk_164 0 5 (dk_at dksX4_feed_0 10 rfl rfl)
theorem dX4_feed_13 : decode cX4_feed 13 = .ok (.iconst (-1), 1) := dk_2 (dk_at dksX4_feed_0 13 rfl rfl)
theorem dX4_feed_14 : decode cX4_feed 14 = .ok (.ireturn, 1) := dk_172 (dk_at dksX4_feed_0 14 rfl rfl)
theorem dX4_feed_15 : decode cX4_feed 15 = .ok (.aload_n 0, 1) := dk_42 (dk_at dksX4_feed_0 15 rfl rfl)
theorem dX4_feed_16 : decode cX4_feed 16 = .ok (.iload_n 1, 1) := dk_27 (dk_at dksX4_feed_0 16 rfl rfl)
theorem dX4_feed_17 : decode cX4_feed 17 = .ok (.invokevirtual 109, 3) := dk_182 0 109 (dk_at dksX4_feed_0 17 rfl rfl)
theorem dX4_feed_20 : decode cX4_feed 20 = .ok (.aload_n 0, 1) := dk_42 (dk_at dksX4_feed_0 20 rfl rfl)
theorem dX4_feed_21 : decode cX4_feed 21 = .ok (.iload_n 2, 1) := dk_28 (dk_at dksX4_feed_0 21 rfl rfl)
theorem dX4_feed_22 : decode cX4_feed 22 = .ok (.invokevirtual 109, 3) := dk_182 0 109 (dk_at dksX4_feed_1 0 rfl rfl)
theorem dX4_feed_25 : decode cX4_feed 25 = .ok (.aload_n 0, 1) := dk_42 (dk_at dksX4_feed_1 3 rfl rfl)
theorem dX4_feed_26 : decode cX4_feed 26 = .ok (.iload_n 3, 1) := dk_29 (dk_at dksX4_feed_1 4 rfl rfl)
theorem dX4_feed_27 : decode cX4_feed 27 = .ok (.invokevirtual 109, 3) := dk_182 0 109 (dk_at dksX4_feed_1 5 rfl rfl)
theorem dX4_feed_30 : decode cX4_feed 30 = .ok (.aload_n 0, 1) := dk_42 (dk_at dksX4_feed_1 8 rfl rfl)
theorem dX4_feed_31 : decode cX4_feed 31 = .ok (.iload 4, 2) := dk_21 4 (dk_at dksX4_feed_1 9 rfl rfl)
theorem dX4_feed_33 : decode cX4_feed 33 = .ok (.invokevirtual 109, 3) := dk_182 0 109 (dk_at dksX4_feed_1 11 rfl rfl)
theorem dX4_feed_36 : decode cX4_feed 36 = .ok (.aload_n 0, 1) := dk_42 (dk_at dksX4_feed_1 14 rfl rfl)
theorem dX4_feed_37 : decode cX4_feed 37 = .ok (.iload 5, 2) := dk_21 5 (dk_at dksX4_feed_1 15 rfl rfl)
theorem dX4_feed_39 : decode cX4_feed 39 = .ok (.invokevirtual 109, 3) := dk_182 0 109 (dk_at dksX4_feed_1 17 rfl rfl)
theorem dX4_feed_42 : decode cX4_feed 42 = .ok (.aload_n 0, 1) := dk_42 (dk_at dksX4_feed_1 20 rfl rfl)
theorem dX4_feed_43 : decode cX4_feed 43 = .ok (.getfield 105, 3) := dk_180 0 105 (dk_at dksX4_feed_1 21 rfl rfl)
theorem dX4_feed_46 : decode cX4_feed 46 = .ok (.ireturn, 1) := dk_172 (dk_at dksX4_feed_2 0 rfl rfl)
def dkwX4_puts_1 : List UInt8 := [180, 0, 105, 4, 96, 181, 0, 105, 132, 2, 248, 167, 255, 226, 177]
abbrev dktX4_puts_1 : List UInt8 := dkwX4_puts_1 ++ []
def dkwX4_puts_0 : List UInt8 := [16, 24, 61, 28, 155, 0, 32, 42, 180, 0, 9, 42, 180, 0, 105, 27, 28, 122, 145, 84, 42, 89]
abbrev dktX4_puts_0 : List UInt8 := dkwX4_puts_0 ++ dktX4_puts_1
theorem dksX4_puts_0 : cX4_puts.data.toList.drop 0 = dktX4_puts_0 := by decide +kernel
theorem dksX4_puts_1 : cX4_puts.data.toList.drop 22 = dktX4_puts_1 := dk_seg dksX4_puts_0 22 rfl rfl
theorem dX4_puts_0 : decode cX4_puts 0 = .ok (.bipush 24, 2) := dk_16 24 (dk_at dksX4_puts_0 0 rfl rfl)
theorem dX4_puts_2 : decode cX4_puts 2 = .ok (.istore_n 2, 1) := dk_61 (dk_at dksX4_puts_0 2 rfl rfl)
theorem dX4_puts_3 : decode cX4_puts 3 = .ok (.iload_n 2, 1) := dk_28 (dk_at dksX4_puts_0 3 rfl rfl)
theorem dX4_puts_4 : decode cX4_puts 4 = .ok (.ifCond .lt 32, 3) := dk_155 0 32 (dk_at dksX4_puts_0 4 rfl rfl)
theorem dX4_puts_7 : decode cX4_puts 7 = .ok (.aload_n 0, 1) := dk_42 (dk_at dksX4_puts_0 7 rfl rfl)
theorem dX4_puts_8 : decode cX4_puts 8 = .ok (.getfield 9, 3) := dk_180 0 9 (dk_at dksX4_puts_0 8 rfl rfl)
theorem dX4_puts_11 : decode cX4_puts 11 = .ok (.aload_n 0, 1) := dk_42 (dk_at dksX4_puts_0 11 rfl rfl)
theorem dX4_puts_12 : decode cX4_puts 12 = .ok (.getfield 105, 3) := dk_180 0 105 (dk_at dksX4_puts_0 12 rfl rfl)
theorem dX4_puts_15 : decode cX4_puts 15 = .ok (.iload_n 1, 1) := dk_27 (dk_at dksX4_puts_0 15 rfl rfl)
theorem dX4_puts_16 : decode cX4_puts 16 = .ok (.iload_n 2, 1) := dk_28 (dk_at dksX4_puts_0 16 rfl rfl)
theorem dX4_puts_17 : decode cX4_puts 17 = .ok (.ishr, 1) := dk_122 (dk_at dksX4_puts_0 17 rfl rfl)
theorem dX4_puts_18 : decode cX4_puts 18 = .ok (.i2b, 1) := dk_145 (dk_at dksX4_puts_0 18 rfl rfl)
theorem dX4_puts_19 : decode cX4_puts 19 = .ok (.bastore, 1) := dk_84 (dk_at dksX4_puts_0 19 rfl rfl)
theorem dX4_puts_20 : decode cX4_puts 20 = .ok (.aload_n 0, 1) := dk_42 (dk_at dksX4_puts_0 20 rfl rfl)
theorem dX4_puts_21 : decode cX4_puts 21 = .ok (.dup, 1) := dk_89 (dk_at dksX4_puts_0 21 rfl rfl)
theorem dX4_puts_22 : decode cX4_puts 22 = .ok (.getfield 105, 3) := dk_180 0 105 (dk_at dksX4_puts_1 0 rfl rfl)
theorem dX4_puts_25 : decode cX4_puts 25 = .ok (.iconst 1, 1) := dk_4 (dk_at dksX4_puts_1 3 rfl rfl)
theorem dX4_puts_26 : decode cX4_puts 26 = .ok (.iadd, 1) := dk_96 (dk_at dksX4_puts_1 4 rfl rfl)
theorem dX4_puts_27 : decode cX4_puts 27 = .ok (.putfield 105, 3) := dk_181 0 105 (dk_at dksX4_puts_1 5 rfl rfl)
theorem dX4_puts_30 : decode cX4_puts 30 = .ok (.iinc 2 (-8), 3) := dk_132 2 248 (dk_at dksX4_puts_1 8 rfl rfl)
theorem dX4_puts_33 : decode cX4_puts 33 = .ok (.goto (-30), 3) := dk_167 255 226 (dk_at dksX4_puts_1 11 rfl rfl)
theorem dX4_puts_36 : decode cX4_puts 36 = .ok (.return_, 1) := dk_177 (dk_at dksX4_puts_1 14 rfl rfl)
def dkwX4_end_0 : List UInt8 := [27, 155, 0, 11, 27, 42, 180, 0, 105, 164, 0, 5, 2, 172, 42, 27, 181, 0, 105, 27, 172]
abbrev dktX4_end_0 : List UInt8 := dkwX4_end_0 ++ []
theorem dksX4_end_0 : cX4_end.data.toList.drop 0 = dktX4_end_0 := by decide +kernel
theorem dX4_end_0 : decode cX4_end 0 = .ok (.iload_n 1, 1) := dk_27 (dk_at dksX4_end_0 0 rfl rfl)
theorem dX4_end_1 : decode cX4_end 1 = .ok (.ifCond .lt 11, 3) := dk_155 0 11 (dk_at dksX4_end_0 1 rfl rfl)
theorem dX4_end_4 : decode cX4_end 4 = .ok (.iload_n 1, 1) := dk_27 (dk_at dksX4_end_0 4 rfl rfl)
theorem dX4_end_5 : decode cX4_end 5 = .ok (.aload_n 0, 1) := dk_42 (dk_at dksX4_end_0 5 rfl rfl)
theorem dX4_end_6 : decode cX4_end 6 = .ok (.getfield 105, 3) := dk_180 0 105 (dk_at dksX4_end_0 6 rfl rfl)
theorem dX4_end_9 : decode cX4_end 9 = .ok (.if_icmp .le 5, 3) := dk_164 0 5 (dk_at dksX4_end_0 9 rfl rfl)
theorem dX4_end_12 : decode cX4_end 12 = .ok (.iconst (-1), 1) := dk_2 (dk_at dksX4_end_0 12 rfl rfl)
theorem dX4_end_13 : decode cX4_end 13 = .ok (.ireturn, 1) := dk_172 (dk_at dksX4_end_0 13 rfl rfl)
theorem dX4_end_14 : decode cX4_end 14 = .ok (.aload_n 0, 1) := dk_42 (dk_at dksX4_end_0 14 rfl rfl)
theorem dX4_end_15 : decode cX4_end 15 = .ok (.iload_n 1, 1) := dk_27 (dk_at dksX4_end_0 15 rfl rfl)
theorem dX4_end_16 : decode cX4_end 16 = .ok (.putfield 105, 3) := dk_181 0 105 (dk_at dksX4_end_0 16 rfl rfl)
theorem dX4_end_19 : decode cX4_end 19 = .ok (.iload_n 1, 1) := dk_27 (dk_at dksX4_end_0 19 rfl rfl)
theorem dX4_end_20 : decode cX4_end 20 = .ok (.ireturn, 1) := dk_172 (dk_at dksX4_end_0 20 rfl rfl)
def dkwX4_forms_4 : List UInt8 := [167, 255, 231, 42, 3, 181, 0, 165, 42, 182, 0, 102, 42, 180, 0, 162, 172]
abbrev dktX4_forms_4 : List UInt8 := dkwX4_forms_4 ++ []
def dkwX4_forms_3 : List UInt8 := [180, 0, 162, 8, 104, 162, 0, 21, 42, 180, 0, 13, 27, 42, 180, 0, 17, 27, 46, 79, 132, 1, 1]
abbrev dktX4_forms_3 : List UInt8 := dkwX4_forms_3 ++ dktX4_forms_4
def dkwX4_forms_2 : List UInt8 := [154, 0, 11, 16, 254, 42, 180, 0, 116, 100, 172, 42, 42, 180, 0, 144, 181, 0, 162, 3, 60, 27, 42]
abbrev dktX4_forms_2 : List UInt8 := dkwX4_forms_2 ++ dktX4_forms_3
def dkwX4_forms_1 : List UInt8 := [2, 159, 0, 14, 42, 182, 0, 159, 42, 182, 0, 127, 167, 255, 233, 42, 3, 181, 0, 105, 42, 182, 0, 147]
abbrev dktX4_forms_1 : List UInt8 := dkwX4_forms_1 ++ dktX4_forms_2
def dkwX4_forms_0 : List UInt8 := [42, 182, 0, 156, 42, 3, 181, 0, 144, 42, 182, 0, 127, 42, 182, 0, 147, 153, 0, 22, 42, 182, 0, 119]
abbrev dktX4_forms_0 : List UInt8 := dkwX4_forms_0 ++ dktX4_forms_1
theorem dksX4_forms_0 : cX4_forms.data.toList.drop 0 = dktX4_forms_0 := by decide +kernel
theorem dksX4_forms_1 : cX4_forms.data.toList.drop 24 = dktX4_forms_1 := dk_seg dksX4_forms_0 24 rfl rfl
theorem dksX4_forms_2 : cX4_forms.data.toList.drop 48 = dktX4_forms_2 := dk_seg dksX4_forms_1 24 rfl rfl
theorem dksX4_forms_3 : cX4_forms.data.toList.drop 71 = dktX4_forms_3 := dk_seg dksX4_forms_2 23 rfl rfl
theorem dksX4_forms_4 : cX4_forms.data.toList.drop 94 = dktX4_forms_4 := dk_seg dksX4_forms_3 23 rfl rfl
theorem dX4_forms_0 : decode cX4_forms 0 = .ok (.aload_n 0, 1) := dk_42 (dk_at dksX4_forms_0 0 rfl rfl)
theorem dX4_forms_1 : decode cX4_forms 1 = .ok (.invokevirtual 156, 3) := dk_182 0 156 (dk_at dksX4_forms_0 1 rfl rfl)
theorem dX4_forms_4 : decode cX4_forms 4 = .ok (.aload_n 0, 1) := dk_42 (dk_at dksX4_forms_0 4 rfl rfl)
theorem dX4_forms_5 : decode cX4_forms 5 = .ok (.iconst 0, 1) := dk_3 (dk_at dksX4_forms_0 5 rfl rfl)
theorem dX4_forms_6 : decode cX4_forms 6 = .ok (.putfield 144, 3) := dk_181 0 144 (dk_at dksX4_forms_0 6 rfl rfl)
theorem dX4_forms_9 : decode cX4_forms 9 = .ok (.aload_n 0, 1) := dk_42 (dk_at dksX4_forms_0 9 rfl rfl)
theorem dX4_forms_10 : decode cX4_forms 10 = .ok (.invokevirtual 127, 3) := dk_182 0 127 (dk_at dksX4_forms_0 10 rfl rfl)
theorem dX4_forms_13 : decode cX4_forms 13 = .ok (.aload_n 0, 1) := dk_42 (dk_at dksX4_forms_0 13 rfl rfl)
theorem dX4_forms_14 : decode cX4_forms 14 = .ok (.invokevirtual 147, 3) := dk_182 0 147 (dk_at dksX4_forms_0 14 rfl rfl)
theorem dX4_forms_17 : decode cX4_forms 17 = .ok (.ifCond .eq 22, 3) := dk_153 0 22 (dk_at dksX4_forms_0 17 rfl rfl)
theorem dX4_forms_20 : decode cX4_forms 20 = .ok (.aload_n 0, 1) := dk_42 (dk_at dksX4_forms_0 20 rfl rfl)
theorem dX4_forms_21 : decode cX4_forms 21 = .ok (.invokevirtual 119, 3) := dk_182 0 119 (dk_at dksX4_forms_0 21 rfl rfl)
theorem dX4_forms_24 : decode cX4_forms 24 = .ok (.iconst (-1), 1) := dk_2 (dk_at dksX4_forms_1 0 rfl rfl)
theorem dX4_forms_25 : decode cX4_forms 25 = .ok (.if_icmp .eq 14, 3) := dk_159 0 14 (dk_at dksX4_forms_1 1 rfl rfl)
theorem dX4_forms_28 : decode cX4_forms 28 = .ok (.aload_n 0, 1) := dk_42 (dk_at dksX4_forms_1 4 rfl rfl)
theorem dX4_forms_29 : decode cX4_forms 29 = .ok (.invokevirtual 159, 3) := dk_182 0 159 (dk_at dksX4_forms_1 5 rfl rfl)
theorem dX4_forms_32 : decode cX4_forms 32 = .ok (.aload_n 0, 1) := dk_42 (dk_at dksX4_forms_1 8 rfl rfl)
theorem dX4_forms_33 : decode cX4_forms 33 = .ok (.invokevirtual 127, 3) := dk_182 0 127 (dk_at dksX4_forms_1 9 rfl rfl)
theorem dX4_forms_36 : decode cX4_forms 36 = .ok (.goto (-23), 3) := dk_167 255 233 (dk_at dksX4_forms_1 12 rfl rfl)
theorem dX4_forms_39 : decode cX4_forms 39 = .ok (.aload_n 0, 1) := dk_42 (dk_at dksX4_forms_1 15 rfl rfl)
theorem dX4_forms_40 : decode cX4_forms 40 = .ok (.iconst 0, 1) := dk_3 (dk_at dksX4_forms_1 16 rfl rfl)
theorem dX4_forms_41 : decode cX4_forms 41 = .ok (.putfield 105, 3) := dk_181 0 105 (dk_at dksX4_forms_1 17 rfl rfl)
theorem dX4_forms_44 : decode cX4_forms 44 = .ok (.aload_n 0, 1) := dk_42 (dk_at dksX4_forms_1 20 rfl rfl)
theorem dX4_forms_45 : decode cX4_forms 45 = .ok (.invokevirtual 147, 3) := dk_182 0 147 (dk_at dksX4_forms_1 21 rfl rfl)
theorem dX4_forms_48 : decode cX4_forms 48 = .ok (.ifCond .ne 11, 3) := dk_154 0 11 (dk_at dksX4_forms_2 0 rfl rfl)
theorem dX4_forms_51 : decode cX4_forms 51 = .ok (.bipush (-2), 2) := dk_16 254 (dk_at dksX4_forms_2 3 rfl rfl)
theorem dX4_forms_53 : decode cX4_forms 53 = .ok (.aload_n 0, 1) := dk_42 (dk_at dksX4_forms_2 5 rfl rfl)
theorem dX4_forms_54 : decode cX4_forms 54 = .ok (.getfield 116, 3) := dk_180 0 116 (dk_at dksX4_forms_2 6 rfl rfl)
theorem dX4_forms_57 : decode cX4_forms 57 = .ok (.isub, 1) := dk_100 (dk_at dksX4_forms_2 9 rfl rfl)
theorem dX4_forms_58 : decode cX4_forms 58 = .ok (.ireturn, 1) := dk_172 (dk_at dksX4_forms_2 10 rfl rfl)
theorem dX4_forms_59 : decode cX4_forms 59 = .ok (.aload_n 0, 1) := dk_42 (dk_at dksX4_forms_2 11 rfl rfl)
theorem dX4_forms_60 : decode cX4_forms 60 = .ok (.aload_n 0, 1) := dk_42 (dk_at dksX4_forms_2 12 rfl rfl)
theorem dX4_forms_61 : decode cX4_forms 61 = .ok (.getfield 144, 3) := dk_180 0 144 (dk_at dksX4_forms_2 13 rfl rfl)
theorem dX4_forms_64 : decode cX4_forms 64 = .ok (.putfield 162, 3) := dk_181 0 162 (dk_at dksX4_forms_2 16 rfl rfl)
theorem dX4_forms_67 : decode cX4_forms 67 = .ok (.iconst 0, 1) := dk_3 (dk_at dksX4_forms_2 19 rfl rfl)
theorem dX4_forms_68 : decode cX4_forms 68 = .ok (.istore_n 1, 1) := dk_60 (dk_at dksX4_forms_2 20 rfl rfl)
theorem dX4_forms_69 : decode cX4_forms 69 = .ok (.iload_n 1, 1) := dk_27 (dk_at dksX4_forms_2 21 rfl rfl)
theorem dX4_forms_70 : decode cX4_forms 70 = .ok (.aload_n 0, 1) := dk_42 (dk_at dksX4_forms_2 22 rfl rfl)
theorem dX4_forms_71 : decode cX4_forms 71 = .ok (.getfield 162, 3) := dk_180 0 162 (dk_at dksX4_forms_3 0 rfl rfl)
theorem dX4_forms_74 : decode cX4_forms 74 = .ok (.iconst 5, 1) := dk_8 (dk_at dksX4_forms_3 3 rfl rfl)
theorem dX4_forms_75 : decode cX4_forms 75 = .ok (.imul, 1) := dk_104 (dk_at dksX4_forms_3 4 rfl rfl)
theorem dX4_forms_76 : decode cX4_forms 76 = .ok (.if_icmp .ge 21, 3) := dk_162 0 21 (dk_at dksX4_forms_3 5 rfl rfl)
theorem dX4_forms_79 : decode cX4_forms 79 = .ok (.aload_n 0, 1) := dk_42 (dk_at dksX4_forms_3 8 rfl rfl)
theorem dX4_forms_80 : decode cX4_forms 80 = .ok (.getfield 13, 3) := dk_180 0 13 (dk_at dksX4_forms_3 9 rfl rfl)
theorem dX4_forms_83 : decode cX4_forms 83 = .ok (.iload_n 1, 1) := dk_27 (dk_at dksX4_forms_3 12 rfl rfl)
theorem dX4_forms_84 : decode cX4_forms 84 = .ok (.aload_n 0, 1) := dk_42 (dk_at dksX4_forms_3 13 rfl rfl)
theorem dX4_forms_85 : decode cX4_forms 85 = .ok (.getfield 17, 3) := dk_180 0 17 (dk_at dksX4_forms_3 14 rfl rfl)
theorem dX4_forms_88 : decode cX4_forms 88 = .ok (.iload_n 1, 1) := dk_27 (dk_at dksX4_forms_3 17 rfl rfl)
theorem dX4_forms_89 : decode cX4_forms 89 = .ok (.iaload, 1) := dk_46 (dk_at dksX4_forms_3 18 rfl rfl)
theorem dX4_forms_90 : decode cX4_forms 90 = .ok (.iastore, 1) := dk_79 (dk_at dksX4_forms_3 19 rfl rfl)
theorem dX4_forms_91 : decode cX4_forms 91 = .ok (.iinc 1 1, 3) := dk_132 1 1 (dk_at dksX4_forms_3 20 rfl rfl)
theorem dX4_forms_94 : decode cX4_forms 94 = .ok (.goto (-25), 3) := dk_167 255 231 (dk_at dksX4_forms_4 0 rfl rfl)
theorem dX4_forms_97 : decode cX4_forms 97 = .ok (.aload_n 0, 1) := dk_42 (dk_at dksX4_forms_4 3 rfl rfl)
theorem dX4_forms_98 : decode cX4_forms 98 = .ok (.iconst 0, 1) := dk_3 (dk_at dksX4_forms_4 4 rfl rfl)
theorem dX4_forms_99 : decode cX4_forms 99 = .ok (.putfield 165, 3) := dk_181 0 165 (dk_at dksX4_forms_4 5 rfl rfl)
theorem dX4_forms_102 : decode cX4_forms 102 = .ok (.aload_n 0, 1) := dk_42 (dk_at dksX4_forms_4 8 rfl rfl)
theorem dX4_forms_103 : decode cX4_forms 103 = .ok (.invokevirtual 102, 3) := dk_182 0 102 (dk_at dksX4_forms_4 9 rfl rfl)
theorem dX4_forms_106 : decode cX4_forms 106 = .ok (.aload_n 0, 1) := dk_42 (dk_at dksX4_forms_4 12 rfl rfl)
theorem dX4_forms_107 : decode cX4_forms 107 = .ok (.getfield 162, 3) := dk_180 0 162 (dk_at dksX4_forms_4 13 rfl rfl)
theorem dX4_forms_110 : decode cX4_forms 110 = .ok (.ireturn, 1) := dk_172 (dk_at dksX4_forms_4 16 rfl rfl)
def dkwX4_starts_0 : List UInt8 := [42, 3, 181, 0, 113, 42, 2, 181, 0, 116, 177]
abbrev dktX4_starts_0 : List UInt8 := dkwX4_starts_0 ++ []
theorem dksX4_starts_0 : cX4_starts.data.toList.drop 0 = dktX4_starts_0 := by decide +kernel
theorem dX4_starts_0 : decode cX4_starts 0 = .ok (.aload_n 0, 1) := dk_42 (dk_at dksX4_starts_0 0 rfl rfl)
theorem dX4_starts_1 : decode cX4_starts 1 = .ok (.iconst 0, 1) := dk_3 (dk_at dksX4_starts_0 1 rfl rfl)
theorem dX4_starts_2 : decode cX4_starts 2 = .ok (.putfield 113, 3) := dk_181 0 113 (dk_at dksX4_starts_0 2 rfl rfl)
theorem dX4_starts_5 : decode cX4_starts 5 = .ok (.aload_n 0, 1) := dk_42 (dk_at dksX4_starts_0 5 rfl rfl)
theorem dX4_starts_6 : decode cX4_starts 6 = .ok (.iconst (-1), 1) := dk_2 (dk_at dksX4_starts_0 6 rfl rfl)
theorem dX4_starts_7 : decode cX4_starts 7 = .ok (.putfield 116, 3) := dk_181 0 116 (dk_at dksX4_starts_0 7 rfl rfl)
theorem dX4_starts_10 : decode cX4_starts 10 = .ok (.return_, 1) := dk_177 (dk_at dksX4_starts_0 10 rfl rfl)
def dkwX4_blanks_0 : List UInt8 := [42, 182, 0, 119, 16, 32, 160, 0, 16, 42, 89, 180, 0, 113, 4, 96, 181, 0, 113, 167, 255, 237, 177]
abbrev dktX4_blanks_0 : List UInt8 := dkwX4_blanks_0 ++ []
theorem dksX4_blanks_0 : cX4_blanks.data.toList.drop 0 = dktX4_blanks_0 := by decide +kernel
theorem dX4_blanks_0 : decode cX4_blanks 0 = .ok (.aload_n 0, 1) := dk_42 (dk_at dksX4_blanks_0 0 rfl rfl)
theorem dX4_blanks_1 : decode cX4_blanks 1 = .ok (.invokevirtual 119, 3) := dk_182 0 119 (dk_at dksX4_blanks_0 1 rfl rfl)
theorem dX4_blanks_4 : decode cX4_blanks 4 = .ok (.bipush 32, 2) := dk_16 32 (dk_at dksX4_blanks_0 4 rfl rfl)
theorem dX4_blanks_6 : decode cX4_blanks 6 = .ok (.if_icmp .ne 16, 3) := dk_160 0 16 (dk_at dksX4_blanks_0 6 rfl rfl)
theorem dX4_blanks_9 : decode cX4_blanks 9 = .ok (.aload_n 0, 1) := dk_42 (dk_at dksX4_blanks_0 9 rfl rfl)
theorem dX4_blanks_10 : decode cX4_blanks 10 = .ok (.dup, 1) := dk_89 (dk_at dksX4_blanks_0 10 rfl rfl)
theorem dX4_blanks_11 : decode cX4_blanks 11 = .ok (.getfield 113, 3) := dk_180 0 113 (dk_at dksX4_blanks_0 11 rfl rfl)
theorem dX4_blanks_14 : decode cX4_blanks 14 = .ok (.iconst 1, 1) := dk_4 (dk_at dksX4_blanks_0 14 rfl rfl)
theorem dX4_blanks_15 : decode cX4_blanks 15 = .ok (.iadd, 1) := dk_96 (dk_at dksX4_blanks_0 15 rfl rfl)
theorem dX4_blanks_16 : decode cX4_blanks 16 = .ok (.putfield 113, 3) := dk_181 0 113 (dk_at dksX4_blanks_0 16 rfl rfl)
theorem dX4_blanks_19 : decode cX4_blanks 19 = .ok (.goto (-19), 3) := dk_167 255 237 (dk_at dksX4_blanks_0 19 rfl rfl)
theorem dX4_blanks_22 : decode cX4_blanks 22 = .ok (.return_, 1) := dk_177 (dk_at dksX4_blanks_0 22 rfl rfl)
def dkwX4_sign_1 : List UInt8 := [167, 0, 4, 2, 172]
abbrev dktX4_sign_1 : List UInt8 := dkwX4_sign_1 ++ []
def dkwX4_sign_0 : List UInt8 := [42, 180, 0, 113, 42, 180, 0, 105, 162, 0, 19, 42, 180, 0, 9, 42, 180, 0, 113, 51, 17, 0, 255, 126]
abbrev dktX4_sign_0 : List UInt8 := dkwX4_sign_0 ++ dktX4_sign_1
theorem dksX4_sign_0 : cX4_sign.data.toList.drop 0 = dktX4_sign_0 := by decide +kernel
theorem dksX4_sign_1 : cX4_sign.data.toList.drop 24 = dktX4_sign_1 := dk_seg dksX4_sign_0 24 rfl rfl
theorem dX4_sign_0 : decode cX4_sign 0 = .ok (.aload_n 0, 1) := dk_42 (dk_at dksX4_sign_0 0 rfl rfl)
theorem dX4_sign_1 : decode cX4_sign 1 = .ok (.getfield 113, 3) := dk_180 0 113 (dk_at dksX4_sign_0 1 rfl rfl)
theorem dX4_sign_4 : decode cX4_sign 4 = .ok (.aload_n 0, 1) := dk_42 (dk_at dksX4_sign_0 4 rfl rfl)
theorem dX4_sign_5 : decode cX4_sign 5 = .ok (.getfield 105, 3) := dk_180 0 105 (dk_at dksX4_sign_0 5 rfl rfl)
theorem dX4_sign_8 : decode cX4_sign 8 = .ok (.if_icmp .ge 19, 3) := dk_162 0 19 (dk_at dksX4_sign_0 8 rfl rfl)
theorem dX4_sign_11 : decode cX4_sign 11 = .ok (.aload_n 0, 1) := dk_42 (dk_at dksX4_sign_0 11 rfl rfl)
theorem dX4_sign_12 : decode cX4_sign 12 = .ok (.getfield 9, 3) := dk_180 0 9 (dk_at dksX4_sign_0 12 rfl rfl)
theorem dX4_sign_15 : decode cX4_sign 15 = .ok (.aload_n 0, 1) := dk_42 (dk_at dksX4_sign_0 15 rfl rfl)
theorem dX4_sign_16 : decode cX4_sign 16 = .ok (.getfield 113, 3) := dk_180 0 113 (dk_at dksX4_sign_0 16 rfl rfl)
theorem dX4_sign_19 : decode cX4_sign 19 = .ok (.baload, 1) := dk_51 (dk_at dksX4_sign_0 19 rfl rfl)
theorem dX4_sign_20 : decode cX4_sign 20 = .ok (.sipush 255, 3) := dk_17 0 255 (dk_at dksX4_sign_0 20 rfl rfl)
theorem dX4_sign_23 : decode cX4_sign 23 = .ok (.iand, 1) := dk_126 (dk_at dksX4_sign_0 23 rfl rfl)
theorem dX4_sign_24 : decode cX4_sign 24 = .ok (.goto 4, 3) := dk_167 0 4 (dk_at dksX4_sign_1 0 rfl rfl)
theorem dX4_sign_27 : decode cX4_sign 27 = .ok (.iconst (-1), 1) := dk_2 (dk_at dksX4_sign_1 3 rfl rfl)
theorem dX4_sign_28 : decode cX4_sign 28 = .ok (.ireturn, 1) := dk_172 (dk_at dksX4_sign_1 4 rfl rfl)
def dkwX4_isRight_0 : List UInt8 := [42, 180, 0, 116, 2, 160, 0, 7, 4, 167, 0, 4, 3, 172]
abbrev dktX4_isRight_0 : List UInt8 := dkwX4_isRight_0 ++ []
theorem dksX4_isRight_0 : cX4_isRight.data.toList.drop 0 = dktX4_isRight_0 := by decide +kernel
theorem dX4_isRight_0 : decode cX4_isRight 0 = .ok (.aload_n 0, 1) := dk_42 (dk_at dksX4_isRight_0 0 rfl rfl)
theorem dX4_isRight_1 : decode cX4_isRight 1 = .ok (.getfield 116, 3) := dk_180 0 116 (dk_at dksX4_isRight_0 1 rfl rfl)
theorem dX4_isRight_4 : decode cX4_isRight 4 = .ok (.iconst (-1), 1) := dk_2 (dk_at dksX4_isRight_0 4 rfl rfl)
theorem dX4_isRight_5 : decode cX4_isRight 5 = .ok (.if_icmp .ne 7, 3) := dk_160 0 7 (dk_at dksX4_isRight_0 5 rfl rfl)
theorem dX4_isRight_8 : decode cX4_isRight 8 = .ok (.iconst 1, 1) := dk_4 (dk_at dksX4_isRight_0 8 rfl rfl)
theorem dX4_isRight_9 : decode cX4_isRight 9 = .ok (.goto 4, 3) := dk_167 0 4 (dk_at dksX4_isRight_0 9 rfl rfl)
theorem dX4_isRight_12 : decode cX4_isRight 12 = .ok (.iconst 0, 1) := dk_3 (dk_at dksX4_isRight_0 12 rfl rfl)
theorem dX4_isRight_13 : decode cX4_isRight 13 = .ok (.ireturn, 1) := dk_172 (dk_at dksX4_isRight_0 13 rfl rfl)
def dkwX4_readsForm_5 : List UInt8 := [180, 0, 144, 4, 96, 181, 0, 144, 177]
abbrev dktX4_readsForm_5 : List UInt8 := dkwX4_readsForm_5 ++ []
def dkwX4_readsForm_4 : List UInt8 := [42, 182, 0, 147, 153, 0, 16, 42, 182, 0, 153, 153, 0, 9, 42, 7, 27, 182, 0, 134, 42, 89]
abbrev dktX4_readsForm_4 : List UInt8 := dkwX4_readsForm_4 ++ dktX4_readsForm_5
def dkwX4_readsForm_3 : List UInt8 := [16, 59, 159, 0, 12, 42, 4, 42, 180, 0, 113, 182, 0, 134, 42, 89, 180, 0, 113, 4, 96, 181, 0, 113]
abbrev dktX4_readsForm_3 : List UInt8 := dkwX4_readsForm_3 ++ dktX4_readsForm_4
def dkwX4_readsForm_2 : List UInt8 := [182, 0, 134, 132, 2, 1, 167, 255, 209, 42, 182, 0, 147, 153, 0, 35, 42, 182, 0, 127, 42, 182, 0, 119]
abbrev dktX4_readsForm_2 : List UInt8 := dkwX4_readsForm_2 ++ dktX4_readsForm_3
def dkwX4_readsForm_1 : List UInt8 := [42, 180, 0, 144, 104, 28, 96, 42, 182, 0, 150, 79, 42, 180, 0, 144, 16, 20, 160, 0, 9, 42, 6, 27]
abbrev dktX4_readsForm_1 : List UInt8 := dkwX4_readsForm_1 ++ dktX4_readsForm_2
def dkwX4_readsForm_0 : List UInt8 := [42, 180, 0, 113, 60, 3, 61, 28, 8, 162, 0, 48, 42, 182, 0, 147, 153, 0, 41, 42, 180, 0, 17, 8]
abbrev dktX4_readsForm_0 : List UInt8 := dkwX4_readsForm_0 ++ dktX4_readsForm_1
theorem dksX4_readsForm_0 : cX4_readsForm.data.toList.drop 0 = dktX4_readsForm_0 := by decide +kernel
theorem dksX4_readsForm_1 : cX4_readsForm.data.toList.drop 24 = dktX4_readsForm_1 := dk_seg dksX4_readsForm_0 24 rfl rfl
theorem dksX4_readsForm_2 : cX4_readsForm.data.toList.drop 48 = dktX4_readsForm_2 := dk_seg dksX4_readsForm_1 24 rfl rfl
theorem dksX4_readsForm_3 : cX4_readsForm.data.toList.drop 72 = dktX4_readsForm_3 := dk_seg dksX4_readsForm_2 24 rfl rfl
theorem dksX4_readsForm_4 : cX4_readsForm.data.toList.drop 96 = dktX4_readsForm_4 := dk_seg dksX4_readsForm_3 24 rfl rfl
theorem dksX4_readsForm_5 : cX4_readsForm.data.toList.drop 118 = dktX4_readsForm_5 := dk_seg dksX4_readsForm_4 22 rfl rfl
theorem dX4_readsForm_0 : decode cX4_readsForm 0 = .ok (.aload_n 0, 1) := dk_42 (dk_at dksX4_readsForm_0 0 rfl rfl)
theorem dX4_readsForm_1 : decode cX4_readsForm 1 = .ok (.getfield 113, 3) := dk_180 0 113 (dk_at dksX4_readsForm_0 1 rfl rfl)
theorem dX4_readsForm_4 : decode cX4_readsForm 4 = .ok (.istore_n 1, 1) := dk_60 (dk_at dksX4_readsForm_0 4 rfl rfl)
theorem dX4_readsForm_5 : decode cX4_readsForm 5 = .ok (.iconst 0, 1) := dk_3 (dk_at dksX4_readsForm_0 5 rfl rfl)
theorem dX4_readsForm_6 : decode cX4_readsForm 6 = .ok (.istore_n 2, 1) := dk_61 (dk_at dksX4_readsForm_0 6 rfl rfl)
theorem dX4_readsForm_7 : decode cX4_readsForm 7 = .ok (.iload_n 2, 1) := dk_28 (dk_at dksX4_readsForm_0 7 rfl rfl)
theorem dX4_readsForm_8 : decode cX4_readsForm 8 = .ok (.iconst 5, 1) := dk_8 (dk_at dksX4_readsForm_0 8 rfl rfl)
theorem dX4_readsForm_9 : decode cX4_readsForm 9 = .ok (.if_icmp .ge 48, 3) := dk_162 0 48 (dk_at dksX4_readsForm_0 9 rfl rfl)
theorem dX4_readsForm_12 : decode cX4_readsForm 12 = .ok (.aload_n 0, 1) := dk_42 (dk_at dksX4_readsForm_0 12 rfl rfl)
theorem dX4_readsForm_13 : decode cX4_readsForm 13 = .ok (.invokevirtual 147, 3) := dk_182 0 147 (dk_at dksX4_readsForm_0 13 rfl rfl)
theorem dX4_readsForm_16 : decode cX4_readsForm 16 = .ok (.ifCond .eq 41, 3) := dk_153 0 41 (dk_at dksX4_readsForm_0 16 rfl rfl)
theorem dX4_readsForm_19 : decode cX4_readsForm 19 = .ok (.aload_n 0, 1) := dk_42 (dk_at dksX4_readsForm_0 19 rfl rfl)
theorem dX4_readsForm_20 : decode cX4_readsForm 20 = .ok (.getfield 17, 3) := dk_180 0 17 (dk_at dksX4_readsForm_0 20 rfl rfl)
theorem dX4_readsForm_23 : decode cX4_readsForm 23 = .ok (.iconst 5, 1) := dk_8 (dk_at dksX4_readsForm_0 23 rfl rfl)
theorem dX4_readsForm_24 : decode cX4_readsForm 24 = .ok (.aload_n 0, 1) := dk_42 (dk_at dksX4_readsForm_1 0 rfl rfl)
theorem dX4_readsForm_25 : decode cX4_readsForm 25 = .ok (.getfield 144, 3) := dk_180 0 144 (dk_at dksX4_readsForm_1 1 rfl rfl)
theorem dX4_readsForm_28 : decode cX4_readsForm 28 = .ok (.imul, 1) := dk_104 (dk_at dksX4_readsForm_1 4 rfl rfl)
theorem dX4_readsForm_29 : decode cX4_readsForm 29 = .ok (.iload_n 2, 1) := dk_28 (dk_at dksX4_readsForm_1 5 rfl rfl)
theorem dX4_readsForm_30 : decode cX4_readsForm 30 = .ok (.iadd, 1) := dk_96 (dk_at dksX4_readsForm_1 6 rfl rfl)
theorem dX4_readsForm_31 : decode cX4_readsForm 31 = .ok (.aload_n 0, 1) := dk_42 (dk_at dksX4_readsForm_1 7 rfl rfl)
theorem dX4_readsForm_32 : decode cX4_readsForm 32 = .ok (.invokevirtual 150, 3) := dk_182 0 150 (dk_at dksX4_readsForm_1 8 rfl rfl)
theorem dX4_readsForm_35 : decode cX4_readsForm 35 = .ok (.iastore, 1) := dk_79 (dk_at dksX4_readsForm_1 11 rfl rfl)
theorem dX4_readsForm_36 : decode cX4_readsForm 36 = .ok (.aload_n 0, 1) := dk_42 (dk_at dksX4_readsForm_1 12 rfl rfl)
theorem dX4_readsForm_37 : decode cX4_readsForm 37 = .ok (.getfield 144, 3) := dk_180 0 144 (dk_at dksX4_readsForm_1 13 rfl rfl)
theorem dX4_readsForm_40 : decode cX4_readsForm 40 = .ok (.bipush 20, 2) := dk_16 20 (dk_at dksX4_readsForm_1 16 rfl rfl)
theorem dX4_readsForm_42 : decode cX4_readsForm 42 = .ok (.if_icmp .ne 9, 3) := dk_160 0 9 (dk_at dksX4_readsForm_1 18 rfl rfl)
theorem dX4_readsForm_45 : decode cX4_readsForm 45 = .ok (.aload_n 0, 1) := dk_42 (dk_at dksX4_readsForm_1 21 rfl rfl)
theorem dX4_readsForm_46 : decode cX4_readsForm 46 = .ok (.iconst 3, 1) := dk_6 (dk_at dksX4_readsForm_1 22 rfl rfl)
theorem dX4_readsForm_47 : decode cX4_readsForm 47 = .ok (.iload_n 1, 1) := dk_27 (dk_at dksX4_readsForm_1 23 rfl rfl)
theorem dX4_readsForm_48 : decode cX4_readsForm 48 = .ok (.invokevirtual 134, 3) := dk_182 0 134 (dk_at dksX4_readsForm_2 0 rfl rfl)
theorem dX4_readsForm_51 : decode cX4_readsForm 51 = .ok (.iinc 2 1, 3) := dk_132 2 1 (dk_at dksX4_readsForm_2 3 rfl rfl)
theorem dX4_readsForm_54 : decode cX4_readsForm 54 = .ok (.goto (-47), 3) := dk_167 255 209 (dk_at dksX4_readsForm_2 6 rfl rfl)
theorem dX4_readsForm_57 : decode cX4_readsForm 57 = .ok (.aload_n 0, 1) := dk_42 (dk_at dksX4_readsForm_2 9 rfl rfl)
theorem dX4_readsForm_58 : decode cX4_readsForm 58 = .ok (.invokevirtual 147, 3) := dk_182 0 147 (dk_at dksX4_readsForm_2 10 rfl rfl)
theorem dX4_readsForm_61 : decode cX4_readsForm 61 = .ok (.ifCond .eq 35, 3) := dk_153 0 35 (dk_at dksX4_readsForm_2 13 rfl rfl)
theorem dX4_readsForm_64 : decode cX4_readsForm 64 = .ok (.aload_n 0, 1) := dk_42 (dk_at dksX4_readsForm_2 16 rfl rfl)
theorem dX4_readsForm_65 : decode cX4_readsForm 65 = .ok (.invokevirtual 127, 3) := dk_182 0 127 (dk_at dksX4_readsForm_2 17 rfl rfl)
theorem dX4_readsForm_68 : decode cX4_readsForm 68 = .ok (.aload_n 0, 1) := dk_42 (dk_at dksX4_readsForm_2 20 rfl rfl)
theorem dX4_readsForm_69 : decode cX4_readsForm 69 = .ok (.invokevirtual 119, 3) := dk_182 0 119 (dk_at dksX4_readsForm_2 21 rfl rfl)
theorem dX4_readsForm_72 : decode cX4_readsForm 72 = .ok (.bipush 59, 2) := dk_16 59 (dk_at dksX4_readsForm_3 0 rfl rfl)
theorem dX4_readsForm_74 : decode cX4_readsForm 74 = .ok (.if_icmp .eq 12, 3) := dk_159 0 12 (dk_at dksX4_readsForm_3 2 rfl rfl)
theorem dX4_readsForm_77 : decode cX4_readsForm 77 = .ok (.aload_n 0, 1) := dk_42 (dk_at dksX4_readsForm_3 5 rfl rfl)
theorem dX4_readsForm_78 : decode cX4_readsForm 78 = .ok (.iconst 1, 1) := dk_4 (dk_at dksX4_readsForm_3 6 rfl rfl)
theorem dX4_readsForm_79 : decode cX4_readsForm 79 = .ok (.aload_n 0, 1) := dk_42 (dk_at dksX4_readsForm_3 7 rfl rfl)
theorem dX4_readsForm_80 : decode cX4_readsForm 80 = .ok (.getfield 113, 3) := dk_180 0 113 (dk_at dksX4_readsForm_3 8 rfl rfl)
theorem dX4_readsForm_83 : decode cX4_readsForm 83 = .ok (.invokevirtual 134, 3) := dk_182 0 134 (dk_at dksX4_readsForm_3 11 rfl rfl)
theorem dX4_readsForm_86 : decode cX4_readsForm 86 = .ok (.aload_n 0, 1) := dk_42 (dk_at dksX4_readsForm_3 14 rfl rfl)
theorem dX4_readsForm_87 : decode cX4_readsForm 87 = .ok (.dup, 1) := dk_89 (dk_at dksX4_readsForm_3 15 rfl rfl)
theorem dX4_readsForm_88 : decode cX4_readsForm 88 = .ok (.getfield 113, 3) := dk_180 0 113 (dk_at dksX4_readsForm_3 16 rfl rfl)
theorem dX4_readsForm_91 : decode cX4_readsForm 91 = .ok (.iconst 1, 1) := dk_4 (dk_at dksX4_readsForm_3 19 rfl rfl)
theorem dX4_readsForm_92 : decode cX4_readsForm 92 = .ok (.iadd, 1) := dk_96 (dk_at dksX4_readsForm_3 20 rfl rfl)
theorem dX4_readsForm_93 : decode cX4_readsForm 93 = .ok (.putfield 113, 3) := dk_181 0 113 (dk_at dksX4_readsForm_3 21 rfl rfl)
theorem dX4_readsForm_96 : decode cX4_readsForm 96 = .ok (.aload_n 0, 1) := dk_42 (dk_at dksX4_readsForm_4 0 rfl rfl)
theorem dX4_readsForm_97 : decode cX4_readsForm 97 = .ok (.invokevirtual 147, 3) := dk_182 0 147 (dk_at dksX4_readsForm_4 1 rfl rfl)
theorem dX4_readsForm_100 : decode cX4_readsForm 100 = .ok (.ifCond .eq 16, 3) := dk_153 0 16 (dk_at dksX4_readsForm_4 4 rfl rfl)
theorem dX4_readsForm_103 : decode cX4_readsForm 103 = .ok (.aload_n 0, 1) := dk_42 (dk_at dksX4_readsForm_4 7 rfl rfl)
theorem dX4_readsForm_104 : decode cX4_readsForm 104 = .ok (.invokevirtual 153, 3) := dk_182 0 153 (dk_at dksX4_readsForm_4 8 rfl rfl)
theorem dX4_readsForm_107 : decode cX4_readsForm 107 = .ok (.ifCond .eq 9, 3) := dk_153 0 9 (dk_at dksX4_readsForm_4 11 rfl rfl)
theorem dX4_readsForm_110 : decode cX4_readsForm 110 = .ok (.aload_n 0, 1) := dk_42 (dk_at dksX4_readsForm_4 14 rfl rfl)
theorem dX4_readsForm_111 : decode cX4_readsForm 111 = .ok (.iconst 4, 1) := dk_7 (dk_at dksX4_readsForm_4 15 rfl rfl)
theorem dX4_readsForm_112 : decode cX4_readsForm 112 = .ok (.iload_n 1, 1) := dk_27 (dk_at dksX4_readsForm_4 16 rfl rfl)
theorem dX4_readsForm_113 : decode cX4_readsForm 113 = .ok (.invokevirtual 134, 3) := dk_182 0 134 (dk_at dksX4_readsForm_4 17 rfl rfl)
theorem dX4_readsForm_116 : decode cX4_readsForm 116 = .ok (.aload_n 0, 1) := dk_42 (dk_at dksX4_readsForm_4 20 rfl rfl)
theorem dX4_readsForm_117 : decode cX4_readsForm 117 = .ok (.dup, 1) := dk_89 (dk_at dksX4_readsForm_4 21 rfl rfl)
theorem dX4_readsForm_118 : decode cX4_readsForm 118 = .ok (.getfield 144, 3) := dk_180 0 144 (dk_at dksX4_readsForm_5 0 rfl rfl)
theorem dX4_readsForm_121 : decode cX4_readsForm 121 = .ok (.iconst 1, 1) := dk_4 (dk_at dksX4_readsForm_5 3 rfl rfl)
theorem dX4_readsForm_122 : decode cX4_readsForm 122 = .ok (.iadd, 1) := dk_96 (dk_at dksX4_readsForm_5 4 rfl rfl)
theorem dX4_readsForm_123 : decode cX4_readsForm 123 = .ok (.putfield 144, 3) := dk_181 0 144 (dk_at dksX4_readsForm_5 5 rfl rfl)
theorem dX4_readsForm_126 : decode cX4_readsForm 126 = .ok (.return_, 1) := dk_177 (dk_at dksX4_readsForm_5 8 rfl rfl)
def dkwX4_numberTaken_3 : List UInt8 := [28, 16, 31, 164, 0, 9, 42, 5, 27, 182, 0, 134, 28, 172]
abbrev dktX4_numberTaken_3 : List UInt8 := dkwX4_numberTaken_3 ++ []
def dkwX4_numberTaken_2 : List UInt8 := [182, 0, 119, 96, 16, 48, 100, 184, 0, 138, 61, 42, 89, 180, 0, 113, 4, 96, 181, 0, 113, 167, 255, 220]
abbrev dktX4_numberTaken_2 : List UInt8 := dkwX4_numberTaken_2 ++ dktX4_numberTaken_3
def dkwX4_numberTaken_1 : List UInt8 := [182, 0, 134, 3, 172, 3, 61, 42, 182, 0, 130, 153, 0, 35, 17, 3, 232, 16, 10, 28, 104, 42]
abbrev dktX4_numberTaken_1 : List UInt8 := dkwX4_numberTaken_1 ++ dktX4_numberTaken_2
def dkwX4_numberTaken_0 : List UInt8 := [42, 182, 0, 127, 42, 180, 0, 113, 60, 42, 182, 0, 130, 154, 0, 14, 42, 4, 42, 180, 0, 113]
abbrev dktX4_numberTaken_0 : List UInt8 := dkwX4_numberTaken_0 ++ dktX4_numberTaken_1
theorem dksX4_numberTaken_0 : cX4_numberTaken.data.toList.drop 0 = dktX4_numberTaken_0 := by decide +kernel
theorem dksX4_numberTaken_1 : cX4_numberTaken.data.toList.drop 22 = dktX4_numberTaken_1 := dk_seg dksX4_numberTaken_0 22 rfl rfl
theorem dksX4_numberTaken_2 : cX4_numberTaken.data.toList.drop 44 = dktX4_numberTaken_2 := dk_seg dksX4_numberTaken_1 22 rfl rfl
theorem dksX4_numberTaken_3 : cX4_numberTaken.data.toList.drop 68 = dktX4_numberTaken_3 := dk_seg dksX4_numberTaken_2 24 rfl rfl
theorem dX4_numberTaken_0 : decode cX4_numberTaken 0 = .ok (.aload_n 0, 1) := dk_42 (dk_at dksX4_numberTaken_0 0 rfl rfl)
theorem dX4_numberTaken_1 : decode cX4_numberTaken 1 = .ok (.invokevirtual 127, 3) := dk_182 0 127 (dk_at dksX4_numberTaken_0 1 rfl rfl)
theorem dX4_numberTaken_4 : decode cX4_numberTaken 4 = .ok (.aload_n 0, 1) := dk_42 (dk_at dksX4_numberTaken_0 4 rfl rfl)
theorem dX4_numberTaken_5 : decode cX4_numberTaken 5 = .ok (.getfield 113, 3) := dk_180 0 113 (dk_at dksX4_numberTaken_0 5 rfl rfl)
theorem dX4_numberTaken_8 : decode cX4_numberTaken 8 = .ok (.istore_n 1, 1) := dk_60 (dk_at dksX4_numberTaken_0 8 rfl rfl)
theorem dX4_numberTaken_9 : decode cX4_numberTaken 9 = .ok (.aload_n 0, 1) := dk_42 (dk_at dksX4_numberTaken_0 9 rfl rfl)
theorem dX4_numberTaken_10 : decode cX4_numberTaken 10 = .ok (.invokevirtual 130, 3) := dk_182 0 130 (dk_at dksX4_numberTaken_0 10 rfl rfl)
theorem dX4_numberTaken_13 : decode cX4_numberTaken 13 = .ok (.ifCond .ne 14, 3) := dk_154 0 14 (dk_at dksX4_numberTaken_0 13 rfl rfl)
theorem dX4_numberTaken_16 : decode cX4_numberTaken 16 = .ok (.aload_n 0, 1) := dk_42 (dk_at dksX4_numberTaken_0 16 rfl rfl)
theorem dX4_numberTaken_17 : decode cX4_numberTaken 17 = .ok (.iconst 1, 1) := dk_4 (dk_at dksX4_numberTaken_0 17 rfl rfl)
theorem dX4_numberTaken_18 : decode cX4_numberTaken 18 = .ok (.aload_n 0, 1) := dk_42 (dk_at dksX4_numberTaken_0 18 rfl rfl)
theorem dX4_numberTaken_19 : decode cX4_numberTaken 19 = .ok (.getfield 113, 3) := dk_180 0 113 (dk_at dksX4_numberTaken_0 19 rfl rfl)
theorem dX4_numberTaken_22 : decode cX4_numberTaken 22 = .ok (.invokevirtual 134, 3) := dk_182 0 134 (dk_at dksX4_numberTaken_1 0 rfl rfl)
theorem dX4_numberTaken_25 : decode cX4_numberTaken 25 = .ok (.iconst 0, 1) := dk_3 (dk_at dksX4_numberTaken_1 3 rfl rfl)
theorem dX4_numberTaken_26 : decode cX4_numberTaken 26 = .ok (.ireturn, 1) := dk_172 (dk_at dksX4_numberTaken_1 4 rfl rfl)
theorem dX4_numberTaken_27 : decode cX4_numberTaken 27 = .ok (.iconst 0, 1) := dk_3 (dk_at dksX4_numberTaken_1 5 rfl rfl)
theorem dX4_numberTaken_28 : decode cX4_numberTaken 28 = .ok (.istore_n 2, 1) := dk_61 (dk_at dksX4_numberTaken_1 6 rfl rfl)
theorem dX4_numberTaken_29 : decode cX4_numberTaken 29 = .ok (.aload_n 0, 1) := dk_42 (dk_at dksX4_numberTaken_1 7 rfl rfl)
theorem dX4_numberTaken_30 : decode cX4_numberTaken 30 = .ok (.invokevirtual 130, 3) := dk_182 0 130 (dk_at dksX4_numberTaken_1 8 rfl rfl)
theorem dX4_numberTaken_33 : decode cX4_numberTaken 33 = .ok (.ifCond .eq 35, 3) := dk_153 0 35 (dk_at dksX4_numberTaken_1 11 rfl rfl)
theorem dX4_numberTaken_36 : decode cX4_numberTaken 36 = .ok (.sipush 1000, 3) := dk_17 3 232 (dk_at dksX4_numberTaken_1 14 rfl rfl)
theorem dX4_numberTaken_39 : decode cX4_numberTaken 39 = .ok (.bipush 10, 2) := dk_16 10 (dk_at dksX4_numberTaken_1 17 rfl rfl)
theorem dX4_numberTaken_41 : decode cX4_numberTaken 41 = .ok (.iload_n 2, 1) := dk_28 (dk_at dksX4_numberTaken_1 19 rfl rfl)
theorem dX4_numberTaken_42 : decode cX4_numberTaken 42 = .ok (.imul, 1) := dk_104 (dk_at dksX4_numberTaken_1 20 rfl rfl)
theorem dX4_numberTaken_43 : decode cX4_numberTaken 43 = .ok (.aload_n 0, 1) := dk_42 (dk_at dksX4_numberTaken_1 21 rfl rfl)
theorem dX4_numberTaken_44 : decode cX4_numberTaken 44 = .ok (.invokevirtual 119, 3) := dk_182 0 119 (dk_at dksX4_numberTaken_2 0 rfl rfl)
theorem dX4_numberTaken_47 : decode cX4_numberTaken 47 = .ok (.iadd, 1) := dk_96 (dk_at dksX4_numberTaken_2 3 rfl rfl)
theorem dX4_numberTaken_48 : decode cX4_numberTaken 48 = .ok (.bipush 48, 2) := dk_16 48 (dk_at dksX4_numberTaken_2 4 rfl rfl)
theorem dX4_numberTaken_50 : decode cX4_numberTaken 50 = .ok (.isub, 1) := dk_100 (dk_at dksX4_numberTaken_2 6 rfl rfl)
theorem dX4_numberTaken_51 : decode cX4_numberTaken 51 = .ok (.invokestatic 138, 3) := dk_184 0 138 (dk_at dksX4_numberTaken_2 7 rfl rfl)
theorem dX4_numberTaken_54 : decode cX4_numberTaken 54 = .ok (.istore_n 2, 1) := dk_61 (dk_at dksX4_numberTaken_2 10 rfl rfl)
theorem dX4_numberTaken_55 : decode cX4_numberTaken 55 = .ok (.aload_n 0, 1) := dk_42 (dk_at dksX4_numberTaken_2 11 rfl rfl)
theorem dX4_numberTaken_56 : decode cX4_numberTaken 56 = .ok (.dup, 1) := dk_89 (dk_at dksX4_numberTaken_2 12 rfl rfl)
theorem dX4_numberTaken_57 : decode cX4_numberTaken 57 = .ok (.getfield 113, 3) := dk_180 0 113 (dk_at dksX4_numberTaken_2 13 rfl rfl)
theorem dX4_numberTaken_60 : decode cX4_numberTaken 60 = .ok (.iconst 1, 1) := dk_4 (dk_at dksX4_numberTaken_2 16 rfl rfl)
theorem dX4_numberTaken_61 : decode cX4_numberTaken 61 = .ok (.iadd, 1) := dk_96 (dk_at dksX4_numberTaken_2 17 rfl rfl)
theorem dX4_numberTaken_62 : decode cX4_numberTaken 62 = .ok (.putfield 113, 3) := dk_181 0 113 (dk_at dksX4_numberTaken_2 18 rfl rfl)
theorem dX4_numberTaken_65 : decode cX4_numberTaken 65 = .ok (.goto (-36), 3) := dk_167 255 220 (dk_at dksX4_numberTaken_2 21 rfl rfl)
theorem dX4_numberTaken_68 : decode cX4_numberTaken 68 = .ok (.iload_n 2, 1) := dk_28 (dk_at dksX4_numberTaken_3 0 rfl rfl)
theorem dX4_numberTaken_69 : decode cX4_numberTaken 69 = .ok (.bipush 31, 2) := dk_16 31 (dk_at dksX4_numberTaken_3 1 rfl rfl)
theorem dX4_numberTaken_71 : decode cX4_numberTaken 71 = .ok (.if_icmp .le 9, 3) := dk_164 0 9 (dk_at dksX4_numberTaken_3 3 rfl rfl)
theorem dX4_numberTaken_74 : decode cX4_numberTaken 74 = .ok (.aload_n 0, 1) := dk_42 (dk_at dksX4_numberTaken_3 6 rfl rfl)
theorem dX4_numberTaken_75 : decode cX4_numberTaken 75 = .ok (.iconst 2, 1) := dk_5 (dk_at dksX4_numberTaken_3 7 rfl rfl)
theorem dX4_numberTaken_76 : decode cX4_numberTaken 76 = .ok (.iload_n 1, 1) := dk_27 (dk_at dksX4_numberTaken_3 8 rfl rfl)
theorem dX4_numberTaken_77 : decode cX4_numberTaken 77 = .ok (.invokevirtual 134, 3) := dk_182 0 134 (dk_at dksX4_numberTaken_3 9 rfl rfl)
theorem dX4_numberTaken_80 : decode cX4_numberTaken 80 = .ok (.iload_n 2, 1) := dk_28 (dk_at dksX4_numberTaken_3 12 rfl rfl)
theorem dX4_numberTaken_81 : decode cX4_numberTaken 81 = .ok (.ireturn, 1) := dk_172 (dk_at dksX4_numberTaken_3 13 rfl rfl)
def dkwX4_isDigit_0 : List UInt8 := [42, 182, 0, 119, 16, 48, 16, 57, 184, 0, 123, 172]
abbrev dktX4_isDigit_0 : List UInt8 := dkwX4_isDigit_0 ++ []
theorem dksX4_isDigit_0 : cX4_isDigit.data.toList.drop 0 = dktX4_isDigit_0 := by decide +kernel
theorem dX4_isDigit_0 : decode cX4_isDigit 0 = .ok (.aload_n 0, 1) := dk_42 (dk_at dksX4_isDigit_0 0 rfl rfl)
theorem dX4_isDigit_1 : decode cX4_isDigit 1 = .ok (.invokevirtual 119, 3) := dk_182 0 119 (dk_at dksX4_isDigit_0 1 rfl rfl)
theorem dX4_isDigit_4 : decode cX4_isDigit 4 = .ok (.bipush 48, 2) := dk_16 48 (dk_at dksX4_isDigit_0 4 rfl rfl)
theorem dX4_isDigit_6 : decode cX4_isDigit 6 = .ok (.bipush 57, 2) := dk_16 57 (dk_at dksX4_isDigit_0 6 rfl rfl)
theorem dX4_isDigit_8 : decode cX4_isDigit 8 = .ok (.invokestatic 123, 3) := dk_184 0 123 (dk_at dksX4_isDigit_0 8 rfl rfl)
theorem dX4_isDigit_11 : decode cX4_isDigit 11 = .ok (.ireturn, 1) := dk_172 (dk_at dksX4_isDigit_0 11 rfl rfl)
def dkwX4_in_0 : List UInt8 := [26, 27, 161, 0, 12, 26, 28, 163, 0, 7, 4, 167, 0, 4, 3, 172]
abbrev dktX4_in_0 : List UInt8 := dkwX4_in_0 ++ []
theorem dksX4_in_0 : cX4_in.data.toList.drop 0 = dktX4_in_0 := by decide +kernel
theorem dX4_in_0 : decode cX4_in 0 = .ok (.iload_n 0, 1) := dk_26 (dk_at dksX4_in_0 0 rfl rfl)
theorem dX4_in_1 : decode cX4_in 1 = .ok (.iload_n 1, 1) := dk_27 (dk_at dksX4_in_0 1 rfl rfl)
theorem dX4_in_2 : decode cX4_in 2 = .ok (.if_icmp .lt 12, 3) := dk_161 0 12 (dk_at dksX4_in_0 2 rfl rfl)
theorem dX4_in_5 : decode cX4_in 5 = .ok (.iload_n 0, 1) := dk_26 (dk_at dksX4_in_0 5 rfl rfl)
theorem dX4_in_6 : decode cX4_in 6 = .ok (.iload_n 2, 1) := dk_28 (dk_at dksX4_in_0 6 rfl rfl)
theorem dX4_in_7 : decode cX4_in 7 = .ok (.if_icmp .gt 7, 3) := dk_163 0 7 (dk_at dksX4_in_0 7 rfl rfl)
theorem dX4_in_10 : decode cX4_in 10 = .ok (.iconst 1, 1) := dk_4 (dk_at dksX4_in_0 10 rfl rfl)
theorem dX4_in_11 : decode cX4_in 11 = .ok (.goto 4, 3) := dk_167 0 4 (dk_at dksX4_in_0 11 rfl rfl)
theorem dX4_in_14 : decode cX4_in 14 = .ok (.iconst 0, 1) := dk_3 (dk_at dksX4_in_0 14 rfl rfl)
theorem dX4_in_15 : decode cX4_in 15 = .ok (.ireturn, 1) := dk_172 (dk_at dksX4_in_0 15 rfl rfl)
def dkwX4_fails_0 : List UInt8 := [42, 180, 0, 116, 2, 160, 0, 13, 42, 16, 8, 28, 104, 27, 96, 181, 0, 116, 177]
abbrev dktX4_fails_0 : List UInt8 := dkwX4_fails_0 ++ []
theorem dksX4_fails_0 : cX4_fails.data.toList.drop 0 = dktX4_fails_0 := by decide +kernel
theorem dX4_fails_0 : decode cX4_fails 0 = .ok (.aload_n 0, 1) := dk_42 (dk_at dksX4_fails_0 0 rfl rfl)
theorem dX4_fails_1 : decode cX4_fails 1 = .ok (.getfield 116, 3) := dk_180 0 116 (dk_at dksX4_fails_0 1 rfl rfl)
theorem dX4_fails_4 : decode cX4_fails 4 = .ok (.iconst (-1), 1) := dk_2 (dk_at dksX4_fails_0 4 rfl rfl)
theorem dX4_fails_5 : decode cX4_fails 5 = .ok (.if_icmp .ne 13, 3) := dk_160 0 13 (dk_at dksX4_fails_0 5 rfl rfl)
theorem dX4_fails_8 : decode cX4_fails 8 = .ok (.aload_n 0, 1) := dk_42 (dk_at dksX4_fails_0 8 rfl rfl)
theorem dX4_fails_9 : decode cX4_fails 9 = .ok (.bipush 8, 2) := dk_16 8 (dk_at dksX4_fails_0 9 rfl rfl)
theorem dX4_fails_11 : decode cX4_fails 11 = .ok (.iload_n 2, 1) := dk_28 (dk_at dksX4_fails_0 11 rfl rfl)
theorem dX4_fails_12 : decode cX4_fails 12 = .ok (.imul, 1) := dk_104 (dk_at dksX4_fails_0 12 rfl rfl)
theorem dX4_fails_13 : decode cX4_fails 13 = .ok (.iload_n 1, 1) := dk_27 (dk_at dksX4_fails_0 13 rfl rfl)
theorem dX4_fails_14 : decode cX4_fails 14 = .ok (.iadd, 1) := dk_96 (dk_at dksX4_fails_0 14 rfl rfl)
theorem dX4_fails_15 : decode cX4_fails 15 = .ok (.putfield 116, 3) := dk_181 0 116 (dk_at dksX4_fails_0 15 rfl rfl)
theorem dX4_fails_18 : decode cX4_fails 18 = .ok (.return_, 1) := dk_177 (dk_at dksX4_fails_0 18 rfl rfl)
def dkwX4_isTold_3 : List UInt8 := [167, 255, 188, 3, 172]
abbrev dktX4_isTold_3 : List UInt8 := dkwX4_isTold_3 ++ []
def dkwX4_isTold_2 : List UInt8 := [160, 0, 7, 4, 167, 0, 4, 3, 61, 132, 3, 1, 167, 255, 212, 28, 153, 0, 5, 4, 172, 132, 1, 1]
abbrev dktX4_isTold_2 : List UInt8 := dkwX4_isTold_2 ++ dktX4_isTold_3
def dkwX4_isTold_1 : List UInt8 := [180, 0, 17, 8, 27, 104, 29, 96, 46, 42, 180, 0, 17, 8, 42, 180, 0, 144, 104, 29, 96, 46]
abbrev dktX4_isTold_1 : List UInt8 := dkwX4_isTold_1 ++ dktX4_isTold_2
def dkwX4_isTold_0 : List UInt8 := [3, 60, 27, 42, 180, 0, 144, 162, 0, 66, 4, 61, 3, 62, 29, 8, 162, 0, 45, 28, 153, 0, 33, 42]
abbrev dktX4_isTold_0 : List UInt8 := dkwX4_isTold_0 ++ dktX4_isTold_1
theorem dksX4_isTold_0 : cX4_isTold.data.toList.drop 0 = dktX4_isTold_0 := by decide +kernel
theorem dksX4_isTold_1 : cX4_isTold.data.toList.drop 24 = dktX4_isTold_1 := dk_seg dksX4_isTold_0 24 rfl rfl
theorem dksX4_isTold_2 : cX4_isTold.data.toList.drop 46 = dktX4_isTold_2 := dk_seg dksX4_isTold_1 22 rfl rfl
theorem dksX4_isTold_3 : cX4_isTold.data.toList.drop 70 = dktX4_isTold_3 := dk_seg dksX4_isTold_2 24 rfl rfl
theorem dX4_isTold_0 : decode cX4_isTold 0 = .ok (.iconst 0, 1) := dk_3 (dk_at dksX4_isTold_0 0 rfl rfl)
theorem dX4_isTold_1 : decode cX4_isTold 1 = .ok (.istore_n 1, 1) := dk_60 (dk_at dksX4_isTold_0 1 rfl rfl)
theorem dX4_isTold_2 : decode cX4_isTold 2 = .ok (.iload_n 1, 1) := dk_27 (dk_at dksX4_isTold_0 2 rfl rfl)
theorem dX4_isTold_3 : decode cX4_isTold 3 = .ok (.aload_n 0, 1) := dk_42 (dk_at dksX4_isTold_0 3 rfl rfl)
theorem dX4_isTold_4 : decode cX4_isTold 4 = .ok (.getfield 144, 3) := dk_180 0 144 (dk_at dksX4_isTold_0 4 rfl rfl)
theorem dX4_isTold_7 : decode cX4_isTold 7 = .ok (.if_icmp .ge 66, 3) := dk_162 0 66 (dk_at dksX4_isTold_0 7 rfl rfl)
theorem dX4_isTold_10 : decode cX4_isTold 10 = .ok (.iconst 1, 1) := dk_4 (dk_at dksX4_isTold_0 10 rfl rfl)
theorem dX4_isTold_11 : decode cX4_isTold 11 = .ok (.istore_n 2, 1) := dk_61 (dk_at dksX4_isTold_0 11 rfl rfl)
theorem dX4_isTold_12 : decode cX4_isTold 12 = .ok (.iconst 0, 1) := dk_3 (dk_at dksX4_isTold_0 12 rfl rfl)
theorem dX4_isTold_13 : decode cX4_isTold 13 = .ok (.istore_n 3, 1) := dk_62 (dk_at dksX4_isTold_0 13 rfl rfl)
theorem dX4_isTold_14 : decode cX4_isTold 14 = .ok (.iload_n 3, 1) := dk_29 (dk_at dksX4_isTold_0 14 rfl rfl)
theorem dX4_isTold_15 : decode cX4_isTold 15 = .ok (.iconst 5, 1) := dk_8 (dk_at dksX4_isTold_0 15 rfl rfl)
theorem dX4_isTold_16 : decode cX4_isTold 16 = .ok (.if_icmp .ge 45, 3) := dk_162 0 45 (dk_at dksX4_isTold_0 16 rfl rfl)
theorem dX4_isTold_19 : decode cX4_isTold 19 = .ok (.iload_n 2, 1) := dk_28 (dk_at dksX4_isTold_0 19 rfl rfl)
theorem dX4_isTold_20 : decode cX4_isTold 20 = .ok (.ifCond .eq 33, 3) := dk_153 0 33 (dk_at dksX4_isTold_0 20 rfl rfl)
theorem dX4_isTold_23 : decode cX4_isTold 23 = .ok (.aload_n 0, 1) := dk_42 (dk_at dksX4_isTold_0 23 rfl rfl)
theorem dX4_isTold_24 : decode cX4_isTold 24 = .ok (.getfield 17, 3) := dk_180 0 17 (dk_at dksX4_isTold_1 0 rfl rfl)
theorem dX4_isTold_27 : decode cX4_isTold 27 = .ok (.iconst 5, 1) := dk_8 (dk_at dksX4_isTold_1 3 rfl rfl)
theorem dX4_isTold_28 : decode cX4_isTold 28 = .ok (.iload_n 1, 1) := dk_27 (dk_at dksX4_isTold_1 4 rfl rfl)
theorem dX4_isTold_29 : decode cX4_isTold 29 = .ok (.imul, 1) := dk_104 (dk_at dksX4_isTold_1 5 rfl rfl)
theorem dX4_isTold_30 : decode cX4_isTold 30 = .ok (.iload_n 3, 1) := dk_29 (dk_at dksX4_isTold_1 6 rfl rfl)
theorem dX4_isTold_31 : decode cX4_isTold 31 = .ok (.iadd, 1) := dk_96 (dk_at dksX4_isTold_1 7 rfl rfl)
theorem dX4_isTold_32 : decode cX4_isTold 32 = .ok (.iaload, 1) := dk_46 (dk_at dksX4_isTold_1 8 rfl rfl)
theorem dX4_isTold_33 : decode cX4_isTold 33 = .ok (.aload_n 0, 1) := dk_42 (dk_at dksX4_isTold_1 9 rfl rfl)
theorem dX4_isTold_34 : decode cX4_isTold 34 = .ok (.getfield 17, 3) := dk_180 0 17 (dk_at dksX4_isTold_1 10 rfl rfl)
theorem dX4_isTold_37 : decode cX4_isTold 37 = .ok (.iconst 5, 1) := dk_8 (dk_at dksX4_isTold_1 13 rfl rfl)
theorem dX4_isTold_38 : decode cX4_isTold 38 = .ok (.aload_n 0, 1) := dk_42 (dk_at dksX4_isTold_1 14 rfl rfl)
theorem dX4_isTold_39 : decode cX4_isTold 39 = .ok (.getfield 144, 3) := dk_180 0 144 (dk_at dksX4_isTold_1 15 rfl rfl)
theorem dX4_isTold_42 : decode cX4_isTold 42 = .ok (.imul, 1) := dk_104 (dk_at dksX4_isTold_1 18 rfl rfl)
theorem dX4_isTold_43 : decode cX4_isTold 43 = .ok (.iload_n 3, 1) := dk_29 (dk_at dksX4_isTold_1 19 rfl rfl)
theorem dX4_isTold_44 : decode cX4_isTold 44 = .ok (.iadd, 1) := dk_96 (dk_at dksX4_isTold_1 20 rfl rfl)
theorem dX4_isTold_45 : decode cX4_isTold 45 = .ok (.iaload, 1) := dk_46 (dk_at dksX4_isTold_1 21 rfl rfl)
theorem dX4_isTold_46 : decode cX4_isTold 46 = .ok (.if_icmp .ne 7, 3) := dk_160 0 7 (dk_at dksX4_isTold_2 0 rfl rfl)
theorem dX4_isTold_49 : decode cX4_isTold 49 = .ok (.iconst 1, 1) := dk_4 (dk_at dksX4_isTold_2 3 rfl rfl)
theorem dX4_isTold_50 : decode cX4_isTold 50 = .ok (.goto 4, 3) := dk_167 0 4 (dk_at dksX4_isTold_2 4 rfl rfl)
theorem dX4_isTold_53 : decode cX4_isTold 53 = .ok (.iconst 0, 1) := dk_3 (dk_at dksX4_isTold_2 7 rfl rfl)
theorem dX4_isTold_54 : decode cX4_isTold 54 = .ok (.istore_n 2, 1) := dk_61 (dk_at dksX4_isTold_2 8 rfl rfl)
theorem dX4_isTold_55 : decode cX4_isTold 55 = .ok (.iinc 3 1, 3) := dk_132 3 1 (dk_at dksX4_isTold_2 9 rfl rfl)
theorem dX4_isTold_58 : decode cX4_isTold 58 = .ok (.goto (-44), 3) := dk_167 255 212 (dk_at dksX4_isTold_2 12 rfl rfl)
theorem dX4_isTold_61 : decode cX4_isTold 61 = .ok (.iload_n 2, 1) := dk_28 (dk_at dksX4_isTold_2 15 rfl rfl)
theorem dX4_isTold_62 : decode cX4_isTold 62 = .ok (.ifCond .eq 5, 3) := dk_153 0 5 (dk_at dksX4_isTold_2 16 rfl rfl)
theorem dX4_isTold_65 : decode cX4_isTold 65 = .ok (.iconst 1, 1) := dk_4 (dk_at dksX4_isTold_2 19 rfl rfl)
theorem dX4_isTold_66 : decode cX4_isTold 66 = .ok (.ireturn, 1) := dk_172 (dk_at dksX4_isTold_2 20 rfl rfl)
theorem dX4_isTold_67 : decode cX4_isTold 67 = .ok (.iinc 1 1, 3) := dk_132 1 1 (dk_at dksX4_isTold_2 21 rfl rfl)
theorem dX4_isTold_70 : decode cX4_isTold 70 = .ok (.goto (-68), 3) := dk_167 255 188 (dk_at dksX4_isTold_3 0 rfl rfl)
theorem dX4_isTold_73 : decode cX4_isTold 73 = .ok (.iconst 0, 1) := dk_3 (dk_at dksX4_isTold_3 3 rfl rfl)
theorem dX4_isTold_74 : decode cX4_isTold 74 = .ok (.ireturn, 1) := dk_172 (dk_at dksX4_isTold_3 4 rfl rfl)
def dkwX4_stone_6 : List UInt8 := [100, 172]
abbrev dktX4_stone_6 : List UInt8 := dkwX4_stone_6 ++ []
def dkwX4_stone_5 : List UInt8 := [89, 180, 0, 165, 4, 96, 181, 0, 165, 42, 3, 181, 0, 181, 42, 3, 181, 0, 184, 42, 180, 0, 165, 4]
abbrev dktX4_stone_5 : List UInt8 := dkwX4_stone_5 ++ dktX4_stone_6
def dkwX4_stone_4 : List UInt8 := [182, 0, 134, 42, 3, 181, 0, 105, 42, 182, 0, 147, 154, 0, 11, 16, 254, 42, 180, 0, 116, 100, 172, 42]
abbrev dktX4_stone_4 : List UInt8 := dkwX4_stone_4 ++ dktX4_stone_5
def dkwX4_stone_3 : List UInt8 := [167, 255, 213, 42, 182, 0, 147, 153, 0, 20, 42, 182, 0, 119, 2, 159, 0, 12, 42, 4, 42, 180, 0, 113]
abbrev dktX4_stone_3 : List UInt8 := dkwX4_stone_3 ++ dktX4_stone_4
def dkwX4_stone_2 : List UInt8 := [160, 0, 7, 4, 167, 0, 4, 3, 60, 42, 89, 180, 0, 113, 27, 184, 0, 177, 96, 181, 0, 113]
abbrev dktX4_stone_2 : List UInt8 := dkwX4_stone_2 ++ dktX4_stone_3
def dkwX4_stone_1 : List UInt8 := [79, 4, 60, 27, 153, 0, 45, 42, 182, 0, 174, 42, 182, 0, 147, 153, 0, 16, 42, 182, 0, 119, 16, 47]
abbrev dktX4_stone_1 : List UInt8 := dkwX4_stone_1 ++ dktX4_stone_2
def dkwX4_stone_0 : List UInt8 := [42, 180, 0, 165, 16, 6, 160, 0, 5, 2, 172, 42, 182, 0, 156, 42, 180, 0, 20, 42, 180, 0, 165, 3]
abbrev dktX4_stone_0 : List UInt8 := dkwX4_stone_0 ++ dktX4_stone_1
theorem dksX4_stone_0 : cX4_stone.data.toList.drop 0 = dktX4_stone_0 := by decide +kernel
theorem dksX4_stone_1 : cX4_stone.data.toList.drop 24 = dktX4_stone_1 := dk_seg dksX4_stone_0 24 rfl rfl
theorem dksX4_stone_2 : cX4_stone.data.toList.drop 48 = dktX4_stone_2 := dk_seg dksX4_stone_1 24 rfl rfl
theorem dksX4_stone_3 : cX4_stone.data.toList.drop 70 = dktX4_stone_3 := dk_seg dksX4_stone_2 22 rfl rfl
theorem dksX4_stone_4 : cX4_stone.data.toList.drop 94 = dktX4_stone_4 := dk_seg dksX4_stone_3 24 rfl rfl
theorem dksX4_stone_5 : cX4_stone.data.toList.drop 118 = dktX4_stone_5 := dk_seg dksX4_stone_4 24 rfl rfl
theorem dksX4_stone_6 : cX4_stone.data.toList.drop 142 = dktX4_stone_6 := dk_seg dksX4_stone_5 24 rfl rfl
theorem dX4_stone_0 : decode cX4_stone 0 = .ok (.aload_n 0, 1) := dk_42 (dk_at dksX4_stone_0 0 rfl rfl)
theorem dX4_stone_1 : decode cX4_stone 1 = .ok (.getfield 165, 3) := dk_180 0 165 (dk_at dksX4_stone_0 1 rfl rfl)
theorem dX4_stone_4 : decode cX4_stone 4 = .ok (.bipush 6, 2) := dk_16 6 (dk_at dksX4_stone_0 4 rfl rfl)
theorem dX4_stone_6 : decode cX4_stone 6 = .ok (.if_icmp .ne 5, 3) := dk_160 0 5 (dk_at dksX4_stone_0 6 rfl rfl)
theorem dX4_stone_9 : decode cX4_stone 9 = .ok (.iconst (-1), 1) := dk_2 (dk_at dksX4_stone_0 9 rfl rfl)
theorem dX4_stone_10 : decode cX4_stone 10 = .ok (.ireturn, 1) := dk_172 (dk_at dksX4_stone_0 10 rfl rfl)
theorem dX4_stone_11 : decode cX4_stone 11 = .ok (.aload_n 0, 1) := dk_42 (dk_at dksX4_stone_0 11 rfl rfl)
theorem dX4_stone_12 : decode cX4_stone 12 = .ok (.invokevirtual 156, 3) := dk_182 0 156 (dk_at dksX4_stone_0 12 rfl rfl)
theorem dX4_stone_15 : decode cX4_stone 15 = .ok (.aload_n 0, 1) := dk_42 (dk_at dksX4_stone_0 15 rfl rfl)
theorem dX4_stone_16 : decode cX4_stone 16 = .ok (.getfield 20, 3) := dk_180 0 20 (dk_at dksX4_stone_0 16 rfl rfl)
theorem dX4_stone_19 : decode cX4_stone 19 = .ok (.aload_n 0, 1) := dk_42 (dk_at dksX4_stone_0 19 rfl rfl)
theorem dX4_stone_20 : decode cX4_stone 20 = .ok (.getfield 165, 3) := dk_180 0 165 (dk_at dksX4_stone_0 20 rfl rfl)
theorem dX4_stone_23 : decode cX4_stone 23 = .ok (.iconst 0, 1) := dk_3 (dk_at dksX4_stone_0 23 rfl rfl)
theorem dX4_stone_24 : decode cX4_stone 24 = .ok (.iastore, 1) := dk_79 (dk_at dksX4_stone_1 0 rfl rfl)
theorem dX4_stone_25 : decode cX4_stone 25 = .ok (.iconst 1, 1) := dk_4 (dk_at dksX4_stone_1 1 rfl rfl)
theorem dX4_stone_26 : decode cX4_stone 26 = .ok (.istore_n 1, 1) := dk_60 (dk_at dksX4_stone_1 2 rfl rfl)
theorem dX4_stone_27 : decode cX4_stone 27 = .ok (.iload_n 1, 1) := dk_27 (dk_at dksX4_stone_1 3 rfl rfl)
theorem dX4_stone_28 : decode cX4_stone 28 = .ok (.ifCond .eq 45, 3) := dk_153 0 45 (dk_at dksX4_stone_1 4 rfl rfl)
theorem dX4_stone_31 : decode cX4_stone 31 = .ok (.aload_n 0, 1) := dk_42 (dk_at dksX4_stone_1 7 rfl rfl)
theorem dX4_stone_32 : decode cX4_stone 32 = .ok (.invokevirtual 174, 3) := dk_182 0 174 (dk_at dksX4_stone_1 8 rfl rfl)
theorem dX4_stone_35 : decode cX4_stone 35 = .ok (.aload_n 0, 1) := dk_42 (dk_at dksX4_stone_1 11 rfl rfl)
theorem dX4_stone_36 : decode cX4_stone 36 = .ok (.invokevirtual 147, 3) := dk_182 0 147 (dk_at dksX4_stone_1 12 rfl rfl)
theorem dX4_stone_39 : decode cX4_stone 39 = .ok (.ifCond .eq 16, 3) := dk_153 0 16 (dk_at dksX4_stone_1 15 rfl rfl)
theorem dX4_stone_42 : decode cX4_stone 42 = .ok (.aload_n 0, 1) := dk_42 (dk_at dksX4_stone_1 18 rfl rfl)
theorem dX4_stone_43 : decode cX4_stone 43 = .ok (.invokevirtual 119, 3) := dk_182 0 119 (dk_at dksX4_stone_1 19 rfl rfl)
theorem dX4_stone_46 : decode cX4_stone 46 = .ok (.bipush 47, 2) := dk_16 47 (dk_at dksX4_stone_1 22 rfl rfl)
theorem dX4_stone_48 : decode cX4_stone 48 = .ok (.if_icmp .ne 7, 3) := dk_160 0 7 (dk_at dksX4_stone_2 0 rfl rfl)
theorem dX4_stone_51 : decode cX4_stone 51 = .ok (.iconst 1, 1) := dk_4 (dk_at dksX4_stone_2 3 rfl rfl)
theorem dX4_stone_52 : decode cX4_stone 52 = .ok (.goto 4, 3) := dk_167 0 4 (dk_at dksX4_stone_2 4 rfl rfl)
theorem dX4_stone_55 : decode cX4_stone 55 = .ok (.iconst 0, 1) := dk_3 (dk_at dksX4_stone_2 7 rfl rfl)
theorem dX4_stone_56 : decode cX4_stone 56 = .ok (.istore_n 1, 1) := dk_60 (dk_at dksX4_stone_2 8 rfl rfl)
theorem dX4_stone_57 : decode cX4_stone 57 = .ok (.aload_n 0, 1) := dk_42 (dk_at dksX4_stone_2 9 rfl rfl)
theorem dX4_stone_58 : decode cX4_stone 58 = .ok (.dup, 1) := dk_89 (dk_at dksX4_stone_2 10 rfl rfl)
theorem dX4_stone_59 : decode cX4_stone 59 = .ok (.getfield 113, 3) := dk_180 0 113 (dk_at dksX4_stone_2 11 rfl rfl)
theorem dX4_stone_62 : decode cX4_stone 62 = .ok (.iload_n 1, 1) := dk_27 (dk_at dksX4_stone_2 14 rfl rfl)
theorem dX4_stone_63 : decode cX4_stone 63 = .ok (.invokestatic 177, 3) := dk_184 0 177 (dk_at dksX4_stone_2 15 rfl rfl)
theorem dX4_stone_66 : decode cX4_stone 66 = .ok (.iadd, 1) := dk_96 (dk_at dksX4_stone_2 18 rfl rfl)
theorem dX4_stone_67 : decode cX4_stone 67 = .ok (.putfield 113, 3) := dk_181 0 113 (dk_at dksX4_stone_2 19 rfl rfl)
theorem dX4_stone_70 : decode cX4_stone 70 = .ok (.goto (-43), 3) := dk_167 255 213 (dk_at dksX4_stone_3 0 rfl rfl)
theorem dX4_stone_73 : decode cX4_stone 73 = .ok (.aload_n 0, 1) := dk_42 (dk_at dksX4_stone_3 3 rfl rfl)
theorem dX4_stone_74 : decode cX4_stone 74 = .ok (.invokevirtual 147, 3) := dk_182 0 147 (dk_at dksX4_stone_3 4 rfl rfl)
theorem dX4_stone_77 : decode cX4_stone 77 = .ok (.ifCond .eq 20, 3) := dk_153 0 20 (dk_at dksX4_stone_3 7 rfl rfl)
theorem dX4_stone_80 : decode cX4_stone 80 = .ok (.aload_n 0, 1) := dk_42 (dk_at dksX4_stone_3 10 rfl rfl)
theorem dX4_stone_81 : decode cX4_stone 81 = .ok (.invokevirtual 119, 3) := dk_182 0 119 (dk_at dksX4_stone_3 11 rfl rfl)
theorem dX4_stone_84 : decode cX4_stone 84 = .ok (.iconst (-1), 1) := dk_2 (dk_at dksX4_stone_3 14 rfl rfl)
theorem dX4_stone_85 : decode cX4_stone 85 = .ok (.if_icmp .eq 12, 3) := dk_159 0 12 (dk_at dksX4_stone_3 15 rfl rfl)
theorem dX4_stone_88 : decode cX4_stone 88 = .ok (.aload_n 0, 1) := dk_42 (dk_at dksX4_stone_3 18 rfl rfl)
theorem dX4_stone_89 : decode cX4_stone 89 = .ok (.iconst 1, 1) := dk_4 (dk_at dksX4_stone_3 19 rfl rfl)
theorem dX4_stone_90 : decode cX4_stone 90 = .ok (.aload_n 0, 1) := dk_42 (dk_at dksX4_stone_3 20 rfl rfl)
theorem dX4_stone_91 : decode cX4_stone 91 = .ok (.getfield 113, 3) := dk_180 0 113 (dk_at dksX4_stone_3 21 rfl rfl)
theorem dX4_stone_94 : decode cX4_stone 94 = .ok (.invokevirtual 134, 3) := dk_182 0 134 (dk_at dksX4_stone_4 0 rfl rfl)
theorem dX4_stone_97 : decode cX4_stone 97 = .ok (.aload_n 0, 1) := dk_42 (dk_at dksX4_stone_4 3 rfl rfl)
theorem dX4_stone_98 : decode cX4_stone 98 = .ok (.iconst 0, 1) := dk_3 (dk_at dksX4_stone_4 4 rfl rfl)
theorem dX4_stone_99 : decode cX4_stone 99 = .ok (.putfield 105, 3) := dk_181 0 105 (dk_at dksX4_stone_4 5 rfl rfl)
theorem dX4_stone_102 : decode cX4_stone 102 = .ok (.aload_n 0, 1) := dk_42 (dk_at dksX4_stone_4 8 rfl rfl)
theorem dX4_stone_103 : decode cX4_stone 103 = .ok (.invokevirtual 147, 3) := dk_182 0 147 (dk_at dksX4_stone_4 9 rfl rfl)
theorem dX4_stone_106 : decode cX4_stone 106 = .ok (.ifCond .ne 11, 3) := dk_154 0 11 (dk_at dksX4_stone_4 12 rfl rfl)
theorem dX4_stone_109 : decode cX4_stone 109 = .ok (.bipush (-2), 2) := dk_16 254 (dk_at dksX4_stone_4 15 rfl rfl)
theorem dX4_stone_111 : decode cX4_stone 111 = .ok (.aload_n 0, 1) := dk_42 (dk_at dksX4_stone_4 17 rfl rfl)
theorem dX4_stone_112 : decode cX4_stone 112 = .ok (.getfield 116, 3) := dk_180 0 116 (dk_at dksX4_stone_4 18 rfl rfl)
theorem dX4_stone_115 : decode cX4_stone 115 = .ok (.isub, 1) := dk_100 (dk_at dksX4_stone_4 21 rfl rfl)
theorem dX4_stone_116 : decode cX4_stone 116 = .ok (.ireturn, 1) := dk_172 (dk_at dksX4_stone_4 22 rfl rfl)
theorem dX4_stone_117 : decode cX4_stone 117 = .ok (.aload_n 0, 1) := dk_42 (dk_at dksX4_stone_4 23 rfl rfl)
theorem dX4_stone_118 : decode cX4_stone 118 = .ok (.dup, 1) := dk_89 (dk_at dksX4_stone_5 0 rfl rfl)
theorem dX4_stone_119 : decode cX4_stone 119 = .ok (.getfield 165, 3) := dk_180 0 165 (dk_at dksX4_stone_5 1 rfl rfl)
theorem dX4_stone_122 : decode cX4_stone 122 = .ok (.iconst 1, 1) := dk_4 (dk_at dksX4_stone_5 4 rfl rfl)
theorem dX4_stone_123 : decode cX4_stone 123 = .ok (.iadd, 1) := dk_96 (dk_at dksX4_stone_5 5 rfl rfl)
theorem dX4_stone_124 : decode cX4_stone 124 = .ok (.putfield 165, 3) := dk_181 0 165 (dk_at dksX4_stone_5 6 rfl rfl)
theorem dX4_stone_127 : decode cX4_stone 127 = .ok (.aload_n 0, 1) := dk_42 (dk_at dksX4_stone_5 9 rfl rfl)
theorem dX4_stone_128 : decode cX4_stone 128 = .ok (.iconst 0, 1) := dk_3 (dk_at dksX4_stone_5 10 rfl rfl)
theorem dX4_stone_129 : decode cX4_stone 129 = .ok (.putfield 181, 3) := dk_181 0 181 (dk_at dksX4_stone_5 11 rfl rfl)
theorem dX4_stone_132 : decode cX4_stone 132 = .ok (.aload_n 0, 1) := dk_42 (dk_at dksX4_stone_5 14 rfl rfl)
theorem dX4_stone_133 : decode cX4_stone 133 = .ok (.iconst 0, 1) := dk_3 (dk_at dksX4_stone_5 15 rfl rfl)
theorem dX4_stone_134 : decode cX4_stone 134 = .ok (.putfield 184, 3) := dk_181 0 184 (dk_at dksX4_stone_5 16 rfl rfl)
theorem dX4_stone_137 : decode cX4_stone 137 = .ok (.aload_n 0, 1) := dk_42 (dk_at dksX4_stone_5 19 rfl rfl)
theorem dX4_stone_138 : decode cX4_stone 138 = .ok (.getfield 165, 3) := dk_180 0 165 (dk_at dksX4_stone_5 20 rfl rfl)
theorem dX4_stone_141 : decode cX4_stone 141 = .ok (.iconst 1, 1) := dk_4 (dk_at dksX4_stone_5 23 rfl rfl)
theorem dX4_stone_142 : decode cX4_stone 142 = .ok (.isub, 1) := dk_100 (dk_at dksX4_stone_6 0 rfl rfl)
theorem dX4_stone_143 : decode cX4_stone 143 = .ok (.ireturn, 1) := dk_172 (dk_at dksX4_stone_6 1 rfl rfl)
def dkwX4_readsRow_8 : List UInt8 := [182, 0, 171, 167, 255, 235, 42, 180, 0, 20, 42, 180, 0, 165, 92, 46, 4, 96, 79, 177]
abbrev dktX4_readsRow_8 : List UInt8 := dkwX4_readsRow_8 ++ []
def dkwX4_readsRow_7 : List UInt8 := [182, 0, 171, 167, 255, 237, 42, 182, 0, 147, 153, 0, 20, 42, 182, 0, 119, 16, 46, 160, 0, 11, 42, 28]
abbrev dktX4_readsRow_7 : List UInt8 := dkwX4_readsRow_7 ++ dktX4_readsRow_8
def dkwX4_readsRow_6 : List UInt8 := [42, 180, 0, 113, 182, 0, 134, 42, 182, 0, 147, 153, 0, 18, 42, 182, 0, 168, 153, 0, 11, 42, 28]
abbrev dktX4_readsRow_6 : List UInt8 := dkwX4_readsRow_6 ++ dktX4_readsRow_7
def dkwX4_readsRow_5 : List UInt8 := [42, 28, 182, 0, 171, 167, 255, 235, 42, 182, 0, 147, 153, 0, 19, 42, 182, 0, 168, 154, 0, 12, 42, 4]
abbrev dktX4_readsRow_5 : List UInt8 := dkwX4_readsRow_5 ++ dktX4_readsRow_6
def dkwX4_readsRow_4 : List UInt8 := [61, 42, 180, 0, 23, 28, 3, 79, 42, 182, 0, 147, 153, 0, 20, 42, 182, 0, 119, 16, 46, 160, 0, 11]
abbrev dktX4_readsRow_4 : List UInt8 := dkwX4_readsRow_4 ++ dktX4_readsRow_5
def dkwX4_readsRow_3 : List UInt8 := [6, 42, 180, 0, 113, 182, 0, 134, 42, 182, 0, 147, 154, 0, 4, 177, 7, 42, 180, 0, 165, 104, 27, 96]
abbrev dktX4_readsRow_3 : List UInt8 := dkwX4_readsRow_3 ++ dktX4_readsRow_4
def dkwX4_readsRow_2 : List UInt8 := [42, 182, 0, 119, 16, 97, 100, 42, 180, 0, 162, 161, 0, 12, 42, 5, 42, 180, 0, 113, 182, 0, 134, 42]
abbrev dktX4_readsRow_2 : List UInt8 := dkwX4_readsRow_2 ++ dktX4_readsRow_3
def dkwX4_readsRow_1 : List UInt8 := [159, 0, 12, 42, 4, 42, 180, 0, 113, 182, 0, 134, 27, 7, 160, 0, 42, 42, 182, 0, 168, 153, 0, 26]
abbrev dktX4_readsRow_1 : List UInt8 := dkwX4_readsRow_1 ++ dktX4_readsRow_2
def dkwX4_readsRow_0 : List UInt8 := [42, 180, 0, 20, 42, 180, 0, 165, 46, 60, 42, 182, 0, 168, 154, 0, 21, 42, 182, 0, 119, 16, 46]
abbrev dktX4_readsRow_0 : List UInt8 := dkwX4_readsRow_0 ++ dktX4_readsRow_1
theorem dksX4_readsRow_0 : cX4_readsRow.data.toList.drop 0 = dktX4_readsRow_0 := by decide +kernel
theorem dksX4_readsRow_1 : cX4_readsRow.data.toList.drop 23 = dktX4_readsRow_1 := dk_seg dksX4_readsRow_0 23 rfl rfl
theorem dksX4_readsRow_2 : cX4_readsRow.data.toList.drop 47 = dktX4_readsRow_2 := dk_seg dksX4_readsRow_1 24 rfl rfl
theorem dksX4_readsRow_3 : cX4_readsRow.data.toList.drop 71 = dktX4_readsRow_3 := dk_seg dksX4_readsRow_2 24 rfl rfl
theorem dksX4_readsRow_4 : cX4_readsRow.data.toList.drop 95 = dktX4_readsRow_4 := dk_seg dksX4_readsRow_3 24 rfl rfl
theorem dksX4_readsRow_5 : cX4_readsRow.data.toList.drop 119 = dktX4_readsRow_5 := dk_seg dksX4_readsRow_4 24 rfl rfl
theorem dksX4_readsRow_6 : cX4_readsRow.data.toList.drop 143 = dktX4_readsRow_6 := dk_seg dksX4_readsRow_5 24 rfl rfl
theorem dksX4_readsRow_7 : cX4_readsRow.data.toList.drop 166 = dktX4_readsRow_7 := dk_seg dksX4_readsRow_6 23 rfl rfl
theorem dksX4_readsRow_8 : cX4_readsRow.data.toList.drop 190 = dktX4_readsRow_8 := dk_seg dksX4_readsRow_7 24 rfl rfl
theorem dX4_readsRow_0 : decode cX4_readsRow 0 = .ok (.aload_n 0, 1) := dk_42 (dk_at dksX4_readsRow_0 0 rfl rfl)
theorem dX4_readsRow_1 : decode cX4_readsRow 1 = .ok (.getfield 20, 3) := dk_180 0 20 (dk_at dksX4_readsRow_0 1 rfl rfl)
theorem dX4_readsRow_4 : decode cX4_readsRow 4 = .ok (.aload_n 0, 1) := dk_42 (dk_at dksX4_readsRow_0 4 rfl rfl)
theorem dX4_readsRow_5 : decode cX4_readsRow 5 = .ok (.getfield 165, 3) := dk_180 0 165 (dk_at dksX4_readsRow_0 5 rfl rfl)
theorem dX4_readsRow_8 : decode cX4_readsRow 8 = .ok (.iaload, 1) := dk_46 (dk_at dksX4_readsRow_0 8 rfl rfl)
theorem dX4_readsRow_9 : decode cX4_readsRow 9 = .ok (.istore_n 1, 1) := dk_60 (dk_at dksX4_readsRow_0 9 rfl rfl)
theorem dX4_readsRow_10 : decode cX4_readsRow 10 = .ok (.aload_n 0, 1) := dk_42 (dk_at dksX4_readsRow_0 10 rfl rfl)
theorem dX4_readsRow_11 : decode cX4_readsRow 11 = .ok (.invokevirtual 168, 3) := dk_182 0 168 (dk_at dksX4_readsRow_0 11 rfl rfl)
theorem dX4_readsRow_14 : decode cX4_readsRow 14 = .ok (.ifCond .ne 21, 3) := dk_154 0 21 (dk_at dksX4_readsRow_0 14 rfl rfl)
theorem dX4_readsRow_17 : decode cX4_readsRow 17 = .ok (.aload_n 0, 1) := dk_42 (dk_at dksX4_readsRow_0 17 rfl rfl)
theorem dX4_readsRow_18 : decode cX4_readsRow 18 = .ok (.invokevirtual 119, 3) := dk_182 0 119 (dk_at dksX4_readsRow_0 18 rfl rfl)
theorem dX4_readsRow_21 : decode cX4_readsRow 21 = .ok (.bipush 46, 2) := dk_16 46 (dk_at dksX4_readsRow_0 21 rfl rfl)
theorem dX4_readsRow_23 : decode cX4_readsRow 23 = .ok (.if_icmp .eq 12, 3) := dk_159 0 12 (dk_at dksX4_readsRow_1 0 rfl rfl)
theorem dX4_readsRow_26 : decode cX4_readsRow 26 = .ok (.aload_n 0, 1) := dk_42 (dk_at dksX4_readsRow_1 3 rfl rfl)
theorem dX4_readsRow_27 : decode cX4_readsRow 27 = .ok (.iconst 1, 1) := dk_4 (dk_at dksX4_readsRow_1 4 rfl rfl)
theorem dX4_readsRow_28 : decode cX4_readsRow 28 = .ok (.aload_n 0, 1) := dk_42 (dk_at dksX4_readsRow_1 5 rfl rfl)
theorem dX4_readsRow_29 : decode cX4_readsRow 29 = .ok (.getfield 113, 3) := dk_180 0 113 (dk_at dksX4_readsRow_1 6 rfl rfl)
theorem dX4_readsRow_32 : decode cX4_readsRow 32 = .ok (.invokevirtual 134, 3) := dk_182 0 134 (dk_at dksX4_readsRow_1 9 rfl rfl)
theorem dX4_readsRow_35 : decode cX4_readsRow 35 = .ok (.iload_n 1, 1) := dk_27 (dk_at dksX4_readsRow_1 12 rfl rfl)
theorem dX4_readsRow_36 : decode cX4_readsRow 36 = .ok (.iconst 4, 1) := dk_7 (dk_at dksX4_readsRow_1 13 rfl rfl)
theorem dX4_readsRow_37 : decode cX4_readsRow 37 = .ok (.if_icmp .ne 42, 3) := dk_160 0 42 (dk_at dksX4_readsRow_1 14 rfl rfl)
theorem dX4_readsRow_40 : decode cX4_readsRow 40 = .ok (.aload_n 0, 1) := dk_42 (dk_at dksX4_readsRow_1 17 rfl rfl)
theorem dX4_readsRow_41 : decode cX4_readsRow 41 = .ok (.invokevirtual 168, 3) := dk_182 0 168 (dk_at dksX4_readsRow_1 18 rfl rfl)
theorem dX4_readsRow_44 : decode cX4_readsRow 44 = .ok (.ifCond .eq 26, 3) := dk_153 0 26 (dk_at dksX4_readsRow_1 21 rfl rfl)
theorem dX4_readsRow_47 : decode cX4_readsRow 47 = .ok (.aload_n 0, 1) := dk_42 (dk_at dksX4_readsRow_2 0 rfl rfl)
theorem dX4_readsRow_48 : decode cX4_readsRow 48 = .ok (.invokevirtual 119, 3) := dk_182 0 119 (dk_at dksX4_readsRow_2 1 rfl rfl)
theorem dX4_readsRow_51 : decode cX4_readsRow 51 = .ok (.bipush 97, 2) := dk_16 97 (dk_at dksX4_readsRow_2 4 rfl rfl)
theorem dX4_readsRow_53 : decode cX4_readsRow 53 = .ok (.isub, 1) := dk_100 (dk_at dksX4_readsRow_2 6 rfl rfl)
theorem dX4_readsRow_54 : decode cX4_readsRow 54 = .ok (.aload_n 0, 1) := dk_42 (dk_at dksX4_readsRow_2 7 rfl rfl)
theorem dX4_readsRow_55 : decode cX4_readsRow 55 = .ok (.getfield 162, 3) := dk_180 0 162 (dk_at dksX4_readsRow_2 8 rfl rfl)
theorem dX4_readsRow_58 : decode cX4_readsRow 58 = .ok (.if_icmp .lt 12, 3) := dk_161 0 12 (dk_at dksX4_readsRow_2 11 rfl rfl)
theorem dX4_readsRow_61 : decode cX4_readsRow 61 = .ok (.aload_n 0, 1) := dk_42 (dk_at dksX4_readsRow_2 14 rfl rfl)
theorem dX4_readsRow_62 : decode cX4_readsRow 62 = .ok (.iconst 2, 1) := dk_5 (dk_at dksX4_readsRow_2 15 rfl rfl)
theorem dX4_readsRow_63 : decode cX4_readsRow 63 = .ok (.aload_n 0, 1) := dk_42 (dk_at dksX4_readsRow_2 16 rfl rfl)
theorem dX4_readsRow_64 : decode cX4_readsRow 64 = .ok (.getfield 113, 3) := dk_180 0 113 (dk_at dksX4_readsRow_2 17 rfl rfl)
theorem dX4_readsRow_67 : decode cX4_readsRow 67 = .ok (.invokevirtual 134, 3) := dk_182 0 134 (dk_at dksX4_readsRow_2 20 rfl rfl)
theorem dX4_readsRow_70 : decode cX4_readsRow 70 = .ok (.aload_n 0, 1) := dk_42 (dk_at dksX4_readsRow_2 23 rfl rfl)
theorem dX4_readsRow_71 : decode cX4_readsRow 71 = .ok (.iconst 3, 1) := dk_6 (dk_at dksX4_readsRow_3 0 rfl rfl)
theorem dX4_readsRow_72 : decode cX4_readsRow 72 = .ok (.aload_n 0, 1) := dk_42 (dk_at dksX4_readsRow_3 1 rfl rfl)
theorem dX4_readsRow_73 : decode cX4_readsRow 73 = .ok (.getfield 113, 3) := dk_180 0 113 (dk_at dksX4_readsRow_3 2 rfl rfl)
theorem dX4_readsRow_76 : decode cX4_readsRow 76 = .ok (.invokevirtual 134, 3) := dk_182 0 134 (dk_at dksX4_readsRow_3 5 rfl rfl)
theorem dX4_readsRow_79 : decode cX4_readsRow 79 = .ok (.aload_n 0, 1) := dk_42 (dk_at dksX4_readsRow_3 8 rfl rfl)
theorem dX4_readsRow_80 : decode cX4_readsRow 80 = .ok (.invokevirtual 147, 3) := dk_182 0 147 (dk_at dksX4_readsRow_3 9 rfl rfl)
theorem dX4_readsRow_83 : decode cX4_readsRow 83 = .ok (.ifCond .ne 4, 3) := dk_154 0 4 (dk_at dksX4_readsRow_3 12 rfl rfl)
theorem dX4_readsRow_86 : decode cX4_readsRow 86 = .ok (.return_, 1) := dk_177 (dk_at dksX4_readsRow_3 15 rfl rfl)
theorem dX4_readsRow_87 : decode cX4_readsRow 87 = .ok (.iconst 4, 1) := dk_7 (dk_at dksX4_readsRow_3 16 rfl rfl)
theorem dX4_readsRow_88 : decode cX4_readsRow 88 = .ok (.aload_n 0, 1) := dk_42 (dk_at dksX4_readsRow_3 17 rfl rfl)
theorem dX4_readsRow_89 : decode cX4_readsRow 89 = .ok (.getfield 165, 3) := dk_180 0 165 (dk_at dksX4_readsRow_3 18 rfl rfl)
theorem dX4_readsRow_92 : decode cX4_readsRow 92 = .ok (.imul, 1) := dk_104 (dk_at dksX4_readsRow_3 21 rfl rfl)
theorem dX4_readsRow_93 : decode cX4_readsRow 93 = .ok (.iload_n 1, 1) := dk_27 (dk_at dksX4_readsRow_3 22 rfl rfl)
theorem dX4_readsRow_94 : decode cX4_readsRow 94 = .ok (.iadd, 1) := dk_96 (dk_at dksX4_readsRow_3 23 rfl rfl)
theorem dX4_readsRow_95 : decode cX4_readsRow 95 = .ok (.istore_n 2, 1) := dk_61 (dk_at dksX4_readsRow_4 0 rfl rfl)
theorem dX4_readsRow_96 : decode cX4_readsRow 96 = .ok (.aload_n 0, 1) := dk_42 (dk_at dksX4_readsRow_4 1 rfl rfl)
theorem dX4_readsRow_97 : decode cX4_readsRow 97 = .ok (.getfield 23, 3) := dk_180 0 23 (dk_at dksX4_readsRow_4 2 rfl rfl)
theorem dX4_readsRow_100 : decode cX4_readsRow 100 = .ok (.iload_n 2, 1) := dk_28 (dk_at dksX4_readsRow_4 5 rfl rfl)
theorem dX4_readsRow_101 : decode cX4_readsRow 101 = .ok (.iconst 0, 1) := dk_3 (dk_at dksX4_readsRow_4 6 rfl rfl)
theorem dX4_readsRow_102 : decode cX4_readsRow 102 = .ok (.iastore, 1) := dk_79 (dk_at dksX4_readsRow_4 7 rfl rfl)
theorem dX4_readsRow_103 : decode cX4_readsRow 103 = .ok (.aload_n 0, 1) := dk_42 (dk_at dksX4_readsRow_4 8 rfl rfl)
theorem dX4_readsRow_104 : decode cX4_readsRow 104 = .ok (.invokevirtual 147, 3) := dk_182 0 147 (dk_at dksX4_readsRow_4 9 rfl rfl)
theorem dX4_readsRow_107 : decode cX4_readsRow 107 = .ok (.ifCond .eq 20, 3) := dk_153 0 20 (dk_at dksX4_readsRow_4 12 rfl rfl)
theorem dX4_readsRow_110 : decode cX4_readsRow 110 = .ok (.aload_n 0, 1) := dk_42 (dk_at dksX4_readsRow_4 15 rfl rfl)
theorem dX4_readsRow_111 : decode cX4_readsRow 111 = .ok (.invokevirtual 119, 3) := dk_182 0 119 (dk_at dksX4_readsRow_4 16 rfl rfl)
theorem dX4_readsRow_114 : decode cX4_readsRow 114 = .ok (.bipush 46, 2) := dk_16 46 (dk_at dksX4_readsRow_4 19 rfl rfl)
theorem dX4_readsRow_116 : decode cX4_readsRow 116 = .ok (.if_icmp .ne 11, 3) := dk_160 0 11 (dk_at dksX4_readsRow_4 21 rfl rfl)
theorem dX4_readsRow_119 : decode cX4_readsRow 119 = .ok (.aload_n 0, 1) := dk_42 (dk_at dksX4_readsRow_5 0 rfl rfl)
theorem dX4_readsRow_120 : decode cX4_readsRow 120 = .ok (.iload_n 2, 1) := dk_28 (dk_at dksX4_readsRow_5 1 rfl rfl)
theorem dX4_readsRow_121 : decode cX4_readsRow 121 = .ok (.invokevirtual 171, 3) := dk_182 0 171 (dk_at dksX4_readsRow_5 2 rfl rfl)
theorem dX4_readsRow_124 : decode cX4_readsRow 124 = .ok (.goto (-21), 3) := dk_167 255 235 (dk_at dksX4_readsRow_5 5 rfl rfl)
theorem dX4_readsRow_127 : decode cX4_readsRow 127 = .ok (.aload_n 0, 1) := dk_42 (dk_at dksX4_readsRow_5 8 rfl rfl)
theorem dX4_readsRow_128 : decode cX4_readsRow 128 = .ok (.invokevirtual 147, 3) := dk_182 0 147 (dk_at dksX4_readsRow_5 9 rfl rfl)
theorem dX4_readsRow_131 : decode cX4_readsRow 131 = .ok (.ifCond .eq 19, 3) := dk_153 0 19 (dk_at dksX4_readsRow_5 12 rfl rfl)
theorem dX4_readsRow_134 : decode cX4_readsRow 134 = .ok (.aload_n 0, 1) := dk_42 (dk_at dksX4_readsRow_5 15 rfl rfl)
theorem dX4_readsRow_135 : decode cX4_readsRow 135 = .ok (.invokevirtual 168, 3) := dk_182 0 168 (dk_at dksX4_readsRow_5 16 rfl rfl)
theorem dX4_readsRow_138 : decode cX4_readsRow 138 = .ok (.ifCond .ne 12, 3) := dk_154 0 12 (dk_at dksX4_readsRow_5 19 rfl rfl)
theorem dX4_readsRow_141 : decode cX4_readsRow 141 = .ok (.aload_n 0, 1) := dk_42 (dk_at dksX4_readsRow_5 22 rfl rfl)
theorem dX4_readsRow_142 : decode cX4_readsRow 142 = .ok (.iconst 1, 1) := dk_4 (dk_at dksX4_readsRow_5 23 rfl rfl)
theorem dX4_readsRow_143 : decode cX4_readsRow 143 = .ok (.aload_n 0, 1) := dk_42 (dk_at dksX4_readsRow_6 0 rfl rfl)
theorem dX4_readsRow_144 : decode cX4_readsRow 144 = .ok (.getfield 113, 3) := dk_180 0 113 (dk_at dksX4_readsRow_6 1 rfl rfl)
theorem dX4_readsRow_147 : decode cX4_readsRow 147 = .ok (.invokevirtual 134, 3) := dk_182 0 134 (dk_at dksX4_readsRow_6 4 rfl rfl)
theorem dX4_readsRow_150 : decode cX4_readsRow 150 = .ok (.aload_n 0, 1) := dk_42 (dk_at dksX4_readsRow_6 7 rfl rfl)
theorem dX4_readsRow_151 : decode cX4_readsRow 151 = .ok (.invokevirtual 147, 3) := dk_182 0 147 (dk_at dksX4_readsRow_6 8 rfl rfl)
theorem dX4_readsRow_154 : decode cX4_readsRow 154 = .ok (.ifCond .eq 18, 3) := dk_153 0 18 (dk_at dksX4_readsRow_6 11 rfl rfl)
theorem dX4_readsRow_157 : decode cX4_readsRow 157 = .ok (.aload_n 0, 1) := dk_42 (dk_at dksX4_readsRow_6 14 rfl rfl)
theorem dX4_readsRow_158 : decode cX4_readsRow 158 = .ok (.invokevirtual 168, 3) := dk_182 0 168 (dk_at dksX4_readsRow_6 15 rfl rfl)
theorem dX4_readsRow_161 : decode cX4_readsRow 161 = .ok (.ifCond .eq 11, 3) := dk_153 0 11 (dk_at dksX4_readsRow_6 18 rfl rfl)
theorem dX4_readsRow_164 : decode cX4_readsRow 164 = .ok (.aload_n 0, 1) := dk_42 (dk_at dksX4_readsRow_6 21 rfl rfl)
theorem dX4_readsRow_165 : decode cX4_readsRow 165 = .ok (.iload_n 2, 1) := dk_28 (dk_at dksX4_readsRow_6 22 rfl rfl)
theorem dX4_readsRow_166 : decode cX4_readsRow 166 = .ok (.invokevirtual 171, 3) := dk_182 0 171 (dk_at dksX4_readsRow_7 0 rfl rfl)
theorem dX4_readsRow_169 : decode cX4_readsRow 169 = .ok (.goto (-19), 3) := dk_167 255 237 (dk_at dksX4_readsRow_7 3 rfl rfl)
theorem dX4_readsRow_172 : decode cX4_readsRow 172 = .ok (.aload_n 0, 1) := dk_42 (dk_at dksX4_readsRow_7 6 rfl rfl)
theorem dX4_readsRow_173 : decode cX4_readsRow 173 = .ok (.invokevirtual 147, 3) := dk_182 0 147 (dk_at dksX4_readsRow_7 7 rfl rfl)
theorem dX4_readsRow_176 : decode cX4_readsRow 176 = .ok (.ifCond .eq 20, 3) := dk_153 0 20 (dk_at dksX4_readsRow_7 10 rfl rfl)
theorem dX4_readsRow_179 : decode cX4_readsRow 179 = .ok (.aload_n 0, 1) := dk_42 (dk_at dksX4_readsRow_7 13 rfl rfl)
theorem dX4_readsRow_180 : decode cX4_readsRow 180 = .ok (.invokevirtual 119, 3) := dk_182 0 119 (dk_at dksX4_readsRow_7 14 rfl rfl)
theorem dX4_readsRow_183 : decode cX4_readsRow 183 = .ok (.bipush 46, 2) := dk_16 46 (dk_at dksX4_readsRow_7 17 rfl rfl)
theorem dX4_readsRow_185 : decode cX4_readsRow 185 = .ok (.if_icmp .ne 11, 3) := dk_160 0 11 (dk_at dksX4_readsRow_7 19 rfl rfl)
theorem dX4_readsRow_188 : decode cX4_readsRow 188 = .ok (.aload_n 0, 1) := dk_42 (dk_at dksX4_readsRow_7 22 rfl rfl)
theorem dX4_readsRow_189 : decode cX4_readsRow 189 = .ok (.iload_n 2, 1) := dk_28 (dk_at dksX4_readsRow_7 23 rfl rfl)
theorem dX4_readsRow_190 : decode cX4_readsRow 190 = .ok (.invokevirtual 171, 3) := dk_182 0 171 (dk_at dksX4_readsRow_8 0 rfl rfl)
theorem dX4_readsRow_193 : decode cX4_readsRow 193 = .ok (.goto (-21), 3) := dk_167 255 235 (dk_at dksX4_readsRow_8 3 rfl rfl)
theorem dX4_readsRow_196 : decode cX4_readsRow 196 = .ok (.aload_n 0, 1) := dk_42 (dk_at dksX4_readsRow_8 6 rfl rfl)
theorem dX4_readsRow_197 : decode cX4_readsRow 197 = .ok (.getfield 20, 3) := dk_180 0 20 (dk_at dksX4_readsRow_8 7 rfl rfl)
theorem dX4_readsRow_200 : decode cX4_readsRow 200 = .ok (.aload_n 0, 1) := dk_42 (dk_at dksX4_readsRow_8 10 rfl rfl)
theorem dX4_readsRow_201 : decode cX4_readsRow 201 = .ok (.getfield 165, 3) := dk_180 0 165 (dk_at dksX4_readsRow_8 11 rfl rfl)
theorem dX4_readsRow_204 : decode cX4_readsRow 204 = .ok (.dup2, 1) := dk_92 (dk_at dksX4_readsRow_8 14 rfl rfl)
theorem dX4_readsRow_205 : decode cX4_readsRow 205 = .ok (.iaload, 1) := dk_46 (dk_at dksX4_readsRow_8 15 rfl rfl)
theorem dX4_readsRow_206 : decode cX4_readsRow 206 = .ok (.iconst 1, 1) := dk_4 (dk_at dksX4_readsRow_8 16 rfl rfl)
theorem dX4_readsRow_207 : decode cX4_readsRow 207 = .ok (.iadd, 1) := dk_96 (dk_at dksX4_readsRow_8 17 rfl rfl)
theorem dX4_readsRow_208 : decode cX4_readsRow 208 = .ok (.iastore, 1) := dk_79 (dk_at dksX4_readsRow_8 18 rfl rfl)
theorem dX4_readsRow_209 : decode cX4_readsRow 209 = .ok (.return_, 1) := dk_177 (dk_at dksX4_readsRow_8 19 rfl rfl)
def dkwX4_isLetter_0 : List UInt8 := [42, 182, 0, 119, 16, 97, 16, 122, 184, 0, 123, 172]
abbrev dktX4_isLetter_0 : List UInt8 := dkwX4_isLetter_0 ++ []
theorem dksX4_isLetter_0 : cX4_isLetter.data.toList.drop 0 = dktX4_isLetter_0 := by decide +kernel
theorem dX4_isLetter_0 : decode cX4_isLetter 0 = .ok (.aload_n 0, 1) := dk_42 (dk_at dksX4_isLetter_0 0 rfl rfl)
theorem dX4_isLetter_1 : decode cX4_isLetter 1 = .ok (.invokevirtual 119, 3) := dk_182 0 119 (dk_at dksX4_isLetter_0 1 rfl rfl)
theorem dX4_isLetter_4 : decode cX4_isLetter 4 = .ok (.bipush 97, 2) := dk_16 97 (dk_at dksX4_isLetter_0 4 rfl rfl)
theorem dX4_isLetter_6 : decode cX4_isLetter 6 = .ok (.bipush 122, 2) := dk_16 122 (dk_at dksX4_isLetter_0 6 rfl rfl)
theorem dX4_isLetter_8 : decode cX4_isLetter 8 = .ok (.invokestatic 123, 3) := dk_184 0 123 (dk_at dksX4_isLetter_0 8 rfl rfl)
theorem dX4_isLetter_11 : decode cX4_isLetter 11 = .ok (.ireturn, 1) := dk_172 (dk_at dksX4_isLetter_0 11 rfl rfl)
def dkwX4_placeTaken_4 : List UInt8 := [46, 4, 96, 79, 42, 89, 180, 0, 113, 4, 96, 181, 0, 113, 177]
abbrev dktX4_placeTaken_4 : List UInt8 := dkwX4_placeTaken_4 ++ []
def dkwX4_placeTaken_3 : List UInt8 := [182, 0, 168, 153, 0, 13, 42, 182, 0, 119, 16, 97, 100, 167, 0, 4, 2, 79, 42, 180, 0, 23, 27, 92]
abbrev dktX4_placeTaken_3 : List UInt8 := dkwX4_placeTaken_3 ++ dktX4_placeTaken_4
def dkwX4_placeTaken_2 : List UInt8 := [180, 0, 113, 182, 0, 134, 42, 182, 0, 147, 153, 0, 52, 42, 180, 0, 26, 16, 10, 27, 104, 28, 96, 42]
abbrev dktX4_placeTaken_2 : List UInt8 := dkwX4_placeTaken_2 ++ dktX4_placeTaken_3
def dkwX4_placeTaken_1 : List UInt8 := [180, 0, 162, 161, 0, 12, 42, 5, 42, 180, 0, 113, 182, 0, 134, 28, 16, 10, 160, 0, 12, 42, 6, 42]
abbrev dktX4_placeTaken_1 : List UInt8 := dkwX4_placeTaken_1 ++ dktX4_placeTaken_2
def dkwX4_placeTaken_0 : List UInt8 := [42, 180, 0, 23, 27, 46, 61, 42, 182, 0, 168, 153, 0, 26, 42, 182, 0, 119, 16, 97, 100, 42]
abbrev dktX4_placeTaken_0 : List UInt8 := dkwX4_placeTaken_0 ++ dktX4_placeTaken_1
theorem dksX4_placeTaken_0 : cX4_placeTaken.data.toList.drop 0 = dktX4_placeTaken_0 := by decide +kernel
theorem dksX4_placeTaken_1 : cX4_placeTaken.data.toList.drop 22 = dktX4_placeTaken_1 := dk_seg dksX4_placeTaken_0 22 rfl rfl
theorem dksX4_placeTaken_2 : cX4_placeTaken.data.toList.drop 46 = dktX4_placeTaken_2 := dk_seg dksX4_placeTaken_1 24 rfl rfl
theorem dksX4_placeTaken_3 : cX4_placeTaken.data.toList.drop 70 = dktX4_placeTaken_3 := dk_seg dksX4_placeTaken_2 24 rfl rfl
theorem dksX4_placeTaken_4 : cX4_placeTaken.data.toList.drop 94 = dktX4_placeTaken_4 := dk_seg dksX4_placeTaken_3 24 rfl rfl
theorem dX4_placeTaken_0 : decode cX4_placeTaken 0 = .ok (.aload_n 0, 1) := dk_42 (dk_at dksX4_placeTaken_0 0 rfl rfl)
theorem dX4_placeTaken_1 : decode cX4_placeTaken 1 = .ok (.getfield 23, 3) := dk_180 0 23 (dk_at dksX4_placeTaken_0 1 rfl rfl)
theorem dX4_placeTaken_4 : decode cX4_placeTaken 4 = .ok (.iload_n 1, 1) := dk_27 (dk_at dksX4_placeTaken_0 4 rfl rfl)
theorem dX4_placeTaken_5 : decode cX4_placeTaken 5 = .ok (.iaload, 1) := dk_46 (dk_at dksX4_placeTaken_0 5 rfl rfl)
theorem dX4_placeTaken_6 : decode cX4_placeTaken 6 = .ok (.istore_n 2, 1) := dk_61 (dk_at dksX4_placeTaken_0 6 rfl rfl)
theorem dX4_placeTaken_7 : decode cX4_placeTaken 7 = .ok (.aload_n 0, 1) := dk_42 (dk_at dksX4_placeTaken_0 7 rfl rfl)
theorem dX4_placeTaken_8 : decode cX4_placeTaken 8 = .ok (.invokevirtual 168, 3) := dk_182 0 168 (dk_at dksX4_placeTaken_0 8 rfl rfl)
theorem dX4_placeTaken_11 : decode cX4_placeTaken 11 = .ok (.ifCond .eq 26, 3) := dk_153 0 26 (dk_at dksX4_placeTaken_0 11 rfl rfl)
theorem dX4_placeTaken_14 : decode cX4_placeTaken 14 = .ok (.aload_n 0, 1) := dk_42 (dk_at dksX4_placeTaken_0 14 rfl rfl)
theorem dX4_placeTaken_15 : decode cX4_placeTaken 15 = .ok (.invokevirtual 119, 3) := dk_182 0 119 (dk_at dksX4_placeTaken_0 15 rfl rfl)
theorem dX4_placeTaken_18 : decode cX4_placeTaken 18 = .ok (.bipush 97, 2) := dk_16 97 (dk_at dksX4_placeTaken_0 18 rfl rfl)
theorem dX4_placeTaken_20 : decode cX4_placeTaken 20 = .ok (.isub, 1) := dk_100 (dk_at dksX4_placeTaken_0 20 rfl rfl)
theorem dX4_placeTaken_21 : decode cX4_placeTaken 21 = .ok (.aload_n 0, 1) := dk_42 (dk_at dksX4_placeTaken_0 21 rfl rfl)
theorem dX4_placeTaken_22 : decode cX4_placeTaken 22 = .ok (.getfield 162, 3) := dk_180 0 162 (dk_at dksX4_placeTaken_1 0 rfl rfl)
theorem dX4_placeTaken_25 : decode cX4_placeTaken 25 = .ok (.if_icmp .lt 12, 3) := dk_161 0 12 (dk_at dksX4_placeTaken_1 3 rfl rfl)
theorem dX4_placeTaken_28 : decode cX4_placeTaken 28 = .ok (.aload_n 0, 1) := dk_42 (dk_at dksX4_placeTaken_1 6 rfl rfl)
theorem dX4_placeTaken_29 : decode cX4_placeTaken 29 = .ok (.iconst 2, 1) := dk_5 (dk_at dksX4_placeTaken_1 7 rfl rfl)
theorem dX4_placeTaken_30 : decode cX4_placeTaken 30 = .ok (.aload_n 0, 1) := dk_42 (dk_at dksX4_placeTaken_1 8 rfl rfl)
theorem dX4_placeTaken_31 : decode cX4_placeTaken 31 = .ok (.getfield 113, 3) := dk_180 0 113 (dk_at dksX4_placeTaken_1 9 rfl rfl)
theorem dX4_placeTaken_34 : decode cX4_placeTaken 34 = .ok (.invokevirtual 134, 3) := dk_182 0 134 (dk_at dksX4_placeTaken_1 12 rfl rfl)
theorem dX4_placeTaken_37 : decode cX4_placeTaken 37 = .ok (.iload_n 2, 1) := dk_28 (dk_at dksX4_placeTaken_1 15 rfl rfl)
theorem dX4_placeTaken_38 : decode cX4_placeTaken 38 = .ok (.bipush 10, 2) := dk_16 10 (dk_at dksX4_placeTaken_1 16 rfl rfl)
theorem dX4_placeTaken_40 : decode cX4_placeTaken 40 = .ok (.if_icmp .ne 12, 3) := dk_160 0 12 (dk_at dksX4_placeTaken_1 18 rfl rfl)
theorem dX4_placeTaken_43 : decode cX4_placeTaken 43 = .ok (.aload_n 0, 1) := dk_42 (dk_at dksX4_placeTaken_1 21 rfl rfl)
theorem dX4_placeTaken_44 : decode cX4_placeTaken 44 = .ok (.iconst 3, 1) := dk_6 (dk_at dksX4_placeTaken_1 22 rfl rfl)
theorem dX4_placeTaken_45 : decode cX4_placeTaken 45 = .ok (.aload_n 0, 1) := dk_42 (dk_at dksX4_placeTaken_1 23 rfl rfl)
theorem dX4_placeTaken_46 : decode cX4_placeTaken 46 = .ok (.getfield 113, 3) := dk_180 0 113 (dk_at dksX4_placeTaken_2 0 rfl rfl)
theorem dX4_placeTaken_49 : decode cX4_placeTaken 49 = .ok (.invokevirtual 134, 3) := dk_182 0 134 (dk_at dksX4_placeTaken_2 3 rfl rfl)
theorem dX4_placeTaken_52 : decode cX4_placeTaken 52 = .ok (.aload_n 0, 1) := dk_42 (dk_at dksX4_placeTaken_2 6 rfl rfl)
theorem dX4_placeTaken_53 : decode cX4_placeTaken 53 = .ok (.invokevirtual 147, 3) := dk_182 0 147 (dk_at dksX4_placeTaken_2 7 rfl rfl)
theorem dX4_placeTaken_56 : decode cX4_placeTaken 56 = .ok (.ifCond .eq 52, 3) := dk_153 0 52 (dk_at dksX4_placeTaken_2 10 rfl rfl)
theorem dX4_placeTaken_59 : decode cX4_placeTaken 59 = .ok (.aload_n 0, 1) := dk_42 (dk_at dksX4_placeTaken_2 13 rfl rfl)
theorem dX4_placeTaken_60 : decode cX4_placeTaken 60 = .ok (.getfield 26, 3) := dk_180 0 26 (dk_at dksX4_placeTaken_2 14 rfl rfl)
theorem dX4_placeTaken_63 : decode cX4_placeTaken 63 = .ok (.bipush 10, 2) := dk_16 10 (dk_at dksX4_placeTaken_2 17 rfl rfl)
theorem dX4_placeTaken_65 : decode cX4_placeTaken 65 = .ok (.iload_n 1, 1) := dk_27 (dk_at dksX4_placeTaken_2 19 rfl rfl)
theorem dX4_placeTaken_66 : decode cX4_placeTaken 66 = .ok (.imul, 1) := dk_104 (dk_at dksX4_placeTaken_2 20 rfl rfl)
theorem dX4_placeTaken_67 : decode cX4_placeTaken 67 = .ok (.iload_n 2, 1) := dk_28 (dk_at dksX4_placeTaken_2 21 rfl rfl)
theorem dX4_placeTaken_68 : decode cX4_placeTaken 68 = .ok (.iadd, 1) := dk_96 (dk_at dksX4_placeTaken_2 22 rfl rfl)
theorem dX4_placeTaken_69 : decode cX4_placeTaken 69 = .ok (.aload_n 0, 1) := dk_42 (dk_at dksX4_placeTaken_2 23 rfl rfl)
theorem dX4_placeTaken_70 : decode cX4_placeTaken 70 = .ok (.invokevirtual 168, 3) := dk_182 0 168 (dk_at dksX4_placeTaken_3 0 rfl rfl)
theorem dX4_placeTaken_73 : decode cX4_placeTaken 73 = .ok (.ifCond .eq 13, 3) := dk_153 0 13 (dk_at dksX4_placeTaken_3 3 rfl rfl)
theorem dX4_placeTaken_76 : decode cX4_placeTaken 76 = .ok (.aload_n 0, 1) := dk_42 (dk_at dksX4_placeTaken_3 6 rfl rfl)
theorem dX4_placeTaken_77 : decode cX4_placeTaken 77 = .ok (.invokevirtual 119, 3) := dk_182 0 119 (dk_at dksX4_placeTaken_3 7 rfl rfl)
theorem dX4_placeTaken_80 : decode cX4_placeTaken 80 = .ok (.bipush 97, 2) := dk_16 97 (dk_at dksX4_placeTaken_3 10 rfl rfl)
theorem dX4_placeTaken_82 : decode cX4_placeTaken 82 = .ok (.isub, 1) := dk_100 (dk_at dksX4_placeTaken_3 12 rfl rfl)
theorem dX4_placeTaken_83 : decode cX4_placeTaken 83 = .ok (.goto 4, 3) := dk_167 0 4 (dk_at dksX4_placeTaken_3 13 rfl rfl)
theorem dX4_placeTaken_86 : decode cX4_placeTaken 86 = .ok (.iconst (-1), 1) := dk_2 (dk_at dksX4_placeTaken_3 16 rfl rfl)
theorem dX4_placeTaken_87 : decode cX4_placeTaken 87 = .ok (.iastore, 1) := dk_79 (dk_at dksX4_placeTaken_3 17 rfl rfl)
theorem dX4_placeTaken_88 : decode cX4_placeTaken 88 = .ok (.aload_n 0, 1) := dk_42 (dk_at dksX4_placeTaken_3 18 rfl rfl)
theorem dX4_placeTaken_89 : decode cX4_placeTaken 89 = .ok (.getfield 23, 3) := dk_180 0 23 (dk_at dksX4_placeTaken_3 19 rfl rfl)
theorem dX4_placeTaken_92 : decode cX4_placeTaken 92 = .ok (.iload_n 1, 1) := dk_27 (dk_at dksX4_placeTaken_3 22 rfl rfl)
theorem dX4_placeTaken_93 : decode cX4_placeTaken 93 = .ok (.dup2, 1) := dk_92 (dk_at dksX4_placeTaken_3 23 rfl rfl)
theorem dX4_placeTaken_94 : decode cX4_placeTaken 94 = .ok (.iaload, 1) := dk_46 (dk_at dksX4_placeTaken_4 0 rfl rfl)
theorem dX4_placeTaken_95 : decode cX4_placeTaken 95 = .ok (.iconst 1, 1) := dk_4 (dk_at dksX4_placeTaken_4 1 rfl rfl)
theorem dX4_placeTaken_96 : decode cX4_placeTaken 96 = .ok (.iadd, 1) := dk_96 (dk_at dksX4_placeTaken_4 2 rfl rfl)
theorem dX4_placeTaken_97 : decode cX4_placeTaken 97 = .ok (.iastore, 1) := dk_79 (dk_at dksX4_placeTaken_4 3 rfl rfl)
theorem dX4_placeTaken_98 : decode cX4_placeTaken 98 = .ok (.aload_n 0, 1) := dk_42 (dk_at dksX4_placeTaken_4 4 rfl rfl)
theorem dX4_placeTaken_99 : decode cX4_placeTaken 99 = .ok (.dup, 1) := dk_89 (dk_at dksX4_placeTaken_4 5 rfl rfl)
theorem dX4_placeTaken_100 : decode cX4_placeTaken 100 = .ok (.getfield 113, 3) := dk_180 0 113 (dk_at dksX4_placeTaken_4 6 rfl rfl)
theorem dX4_placeTaken_103 : decode cX4_placeTaken 103 = .ok (.iconst 1, 1) := dk_4 (dk_at dksX4_placeTaken_4 9 rfl rfl)
theorem dX4_placeTaken_104 : decode cX4_placeTaken 104 = .ok (.iadd, 1) := dk_96 (dk_at dksX4_placeTaken_4 10 rfl rfl)
theorem dX4_placeTaken_105 : decode cX4_placeTaken 105 = .ok (.putfield 113, 3) := dk_181 0 113 (dk_at dksX4_placeTaken_4 11 rfl rfl)
theorem dX4_placeTaken_108 : decode cX4_placeTaken 108 = .ok (.return_, 1) := dk_177 (dk_at dksX4_placeTaken_4 14 rfl rfl)
def dkwX4_truth_0 : List UInt8 := [26, 153, 0, 7, 4, 167, 0, 4, 3, 172]
abbrev dktX4_truth_0 : List UInt8 := dkwX4_truth_0 ++ []
theorem dksX4_truth_0 : cX4_truth.data.toList.drop 0 = dktX4_truth_0 := by decide +kernel
theorem dX4_truth_0 : decode cX4_truth 0 = .ok (.iload_n 0, 1) := dk_26 (dk_at dksX4_truth_0 0 rfl rfl)
theorem dX4_truth_1 : decode cX4_truth 1 = .ok (.ifCond .eq 7, 3) := dk_153 0 7 (dk_at dksX4_truth_0 1 rfl rfl)
theorem dX4_truth_4 : decode cX4_truth 4 = .ok (.iconst 1, 1) := dk_4 (dk_at dksX4_truth_0 4 rfl rfl)
theorem dX4_truth_5 : decode cX4_truth 5 = .ok (.goto 4, 3) := dk_167 0 4 (dk_at dksX4_truth_0 5 rfl rfl)
theorem dX4_truth_8 : decode cX4_truth 8 = .ok (.iconst 0, 1) := dk_3 (dk_at dksX4_truth_0 8 rfl rfl)
theorem dX4_truth_9 : decode cX4_truth 9 = .ok (.ireturn, 1) := dk_172 (dk_at dksX4_truth_0 9 rfl rfl)
def dkwX4_name_4 : List UInt8 := [180, 0, 116, 100, 172, 42, 89, 180, 0, 203, 4, 96, 181, 0, 203, 42, 180, 0, 203, 4, 100, 172]
abbrev dktX4_name_4 : List UInt8 := dkwX4_name_4 ++ []
def dkwX4_name_3 : List UInt8 := [153, 0, 9, 42, 6, 3, 182, 0, 134, 42, 3, 181, 0, 105, 42, 182, 0, 147, 154, 0, 11, 16, 254, 42]
abbrev dktX4_name_3 : List UInt8 := dkwX4_name_3 ++ dktX4_name_4
def dkwX4_name_2 : List UInt8 := [2, 159, 0, 10, 42, 182, 0, 208, 167, 255, 224, 42, 182, 0, 147, 153, 0, 16, 42, 182, 0, 211]
abbrev dktX4_name_2 : List UInt8 := dkwX4_name_2 ++ dktX4_name_3
def dkwX4_name_1 : List UInt8 := [42, 182, 0, 147, 153, 0, 31, 42, 180, 0, 29, 42, 180, 0, 203, 46, 5, 161, 0, 11, 42, 182, 0, 119]
abbrev dktX4_name_1 : List UInt8 := dkwX4_name_1 ++ dktX4_name_2
def dkwX4_name_0 : List UInt8 := [42, 180, 0, 203, 7, 160, 0, 5, 2, 172, 42, 182, 0, 156, 42, 180, 0, 29, 42, 180, 0, 203, 3, 79]
abbrev dktX4_name_0 : List UInt8 := dkwX4_name_0 ++ dktX4_name_1
theorem dksX4_name_0 : cX4_name.data.toList.drop 0 = dktX4_name_0 := by decide +kernel
theorem dksX4_name_1 : cX4_name.data.toList.drop 24 = dktX4_name_1 := dk_seg dksX4_name_0 24 rfl rfl
theorem dksX4_name_2 : cX4_name.data.toList.drop 48 = dktX4_name_2 := dk_seg dksX4_name_1 24 rfl rfl
theorem dksX4_name_3 : cX4_name.data.toList.drop 70 = dktX4_name_3 := dk_seg dksX4_name_2 22 rfl rfl
theorem dksX4_name_4 : cX4_name.data.toList.drop 94 = dktX4_name_4 := dk_seg dksX4_name_3 24 rfl rfl
theorem dX4_name_0 : decode cX4_name 0 = .ok (.aload_n 0, 1) := dk_42 (dk_at dksX4_name_0 0 rfl rfl)
theorem dX4_name_1 : decode cX4_name 1 = .ok (.getfield 203, 3) := dk_180 0 203 (dk_at dksX4_name_0 1 rfl rfl)
theorem dX4_name_4 : decode cX4_name 4 = .ok (.iconst 4, 1) := dk_7 (dk_at dksX4_name_0 4 rfl rfl)
theorem dX4_name_5 : decode cX4_name 5 = .ok (.if_icmp .ne 5, 3) := dk_160 0 5 (dk_at dksX4_name_0 5 rfl rfl)
theorem dX4_name_8 : decode cX4_name 8 = .ok (.iconst (-1), 1) := dk_2 (dk_at dksX4_name_0 8 rfl rfl)
theorem dX4_name_9 : decode cX4_name 9 = .ok (.ireturn, 1) := dk_172 (dk_at dksX4_name_0 9 rfl rfl)
theorem dX4_name_10 : decode cX4_name 10 = .ok (.aload_n 0, 1) := dk_42 (dk_at dksX4_name_0 10 rfl rfl)
theorem dX4_name_11 : decode cX4_name 11 = .ok (.invokevirtual 156, 3) := dk_182 0 156 (dk_at dksX4_name_0 11 rfl rfl)
theorem dX4_name_14 : decode cX4_name 14 = .ok (.aload_n 0, 1) := dk_42 (dk_at dksX4_name_0 14 rfl rfl)
theorem dX4_name_15 : decode cX4_name 15 = .ok (.getfield 29, 3) := dk_180 0 29 (dk_at dksX4_name_0 15 rfl rfl)
theorem dX4_name_18 : decode cX4_name 18 = .ok (.aload_n 0, 1) := dk_42 (dk_at dksX4_name_0 18 rfl rfl)
theorem dX4_name_19 : decode cX4_name 19 = .ok (.getfield 203, 3) := dk_180 0 203 (dk_at dksX4_name_0 19 rfl rfl)
theorem dX4_name_22 : decode cX4_name 22 = .ok (.iconst 0, 1) := dk_3 (dk_at dksX4_name_0 22 rfl rfl)
theorem dX4_name_23 : decode cX4_name 23 = .ok (.iastore, 1) := dk_79 (dk_at dksX4_name_0 23 rfl rfl)
theorem dX4_name_24 : decode cX4_name 24 = .ok (.aload_n 0, 1) := dk_42 (dk_at dksX4_name_1 0 rfl rfl)
theorem dX4_name_25 : decode cX4_name 25 = .ok (.invokevirtual 147, 3) := dk_182 0 147 (dk_at dksX4_name_1 1 rfl rfl)
theorem dX4_name_28 : decode cX4_name 28 = .ok (.ifCond .eq 31, 3) := dk_153 0 31 (dk_at dksX4_name_1 4 rfl rfl)
theorem dX4_name_31 : decode cX4_name 31 = .ok (.aload_n 0, 1) := dk_42 (dk_at dksX4_name_1 7 rfl rfl)
theorem dX4_name_32 : decode cX4_name 32 = .ok (.getfield 29, 3) := dk_180 0 29 (dk_at dksX4_name_1 8 rfl rfl)
theorem dX4_name_35 : decode cX4_name 35 = .ok (.aload_n 0, 1) := dk_42 (dk_at dksX4_name_1 11 rfl rfl)
theorem dX4_name_36 : decode cX4_name 36 = .ok (.getfield 203, 3) := dk_180 0 203 (dk_at dksX4_name_1 12 rfl rfl)
theorem dX4_name_39 : decode cX4_name 39 = .ok (.iaload, 1) := dk_46 (dk_at dksX4_name_1 15 rfl rfl)
theorem dX4_name_40 : decode cX4_name 40 = .ok (.iconst 2, 1) := dk_5 (dk_at dksX4_name_1 16 rfl rfl)
theorem dX4_name_41 : decode cX4_name 41 = .ok (.if_icmp .lt 11, 3) := dk_161 0 11 (dk_at dksX4_name_1 17 rfl rfl)
theorem dX4_name_44 : decode cX4_name 44 = .ok (.aload_n 0, 1) := dk_42 (dk_at dksX4_name_1 20 rfl rfl)
theorem dX4_name_45 : decode cX4_name 45 = .ok (.invokevirtual 119, 3) := dk_182 0 119 (dk_at dksX4_name_1 21 rfl rfl)
theorem dX4_name_48 : decode cX4_name 48 = .ok (.iconst (-1), 1) := dk_2 (dk_at dksX4_name_2 0 rfl rfl)
theorem dX4_name_49 : decode cX4_name 49 = .ok (.if_icmp .eq 10, 3) := dk_159 0 10 (dk_at dksX4_name_2 1 rfl rfl)
theorem dX4_name_52 : decode cX4_name 52 = .ok (.aload_n 0, 1) := dk_42 (dk_at dksX4_name_2 4 rfl rfl)
theorem dX4_name_53 : decode cX4_name 53 = .ok (.invokevirtual 208, 3) := dk_182 0 208 (dk_at dksX4_name_2 5 rfl rfl)
theorem dX4_name_56 : decode cX4_name 56 = .ok (.goto (-32), 3) := dk_167 255 224 (dk_at dksX4_name_2 8 rfl rfl)
theorem dX4_name_59 : decode cX4_name 59 = .ok (.aload_n 0, 1) := dk_42 (dk_at dksX4_name_2 11 rfl rfl)
theorem dX4_name_60 : decode cX4_name 60 = .ok (.invokevirtual 147, 3) := dk_182 0 147 (dk_at dksX4_name_2 12 rfl rfl)
theorem dX4_name_63 : decode cX4_name 63 = .ok (.ifCond .eq 16, 3) := dk_153 0 16 (dk_at dksX4_name_2 15 rfl rfl)
theorem dX4_name_66 : decode cX4_name 66 = .ok (.aload_n 0, 1) := dk_42 (dk_at dksX4_name_2 18 rfl rfl)
theorem dX4_name_67 : decode cX4_name 67 = .ok (.invokevirtual 211, 3) := dk_182 0 211 (dk_at dksX4_name_2 19 rfl rfl)
theorem dX4_name_70 : decode cX4_name 70 = .ok (.ifCond .eq 9, 3) := dk_153 0 9 (dk_at dksX4_name_3 0 rfl rfl)
theorem dX4_name_73 : decode cX4_name 73 = .ok (.aload_n 0, 1) := dk_42 (dk_at dksX4_name_3 3 rfl rfl)
theorem dX4_name_74 : decode cX4_name 74 = .ok (.iconst 3, 1) := dk_6 (dk_at dksX4_name_3 4 rfl rfl)
theorem dX4_name_75 : decode cX4_name 75 = .ok (.iconst 0, 1) := dk_3 (dk_at dksX4_name_3 5 rfl rfl)
theorem dX4_name_76 : decode cX4_name 76 = .ok (.invokevirtual 134, 3) := dk_182 0 134 (dk_at dksX4_name_3 6 rfl rfl)
theorem dX4_name_79 : decode cX4_name 79 = .ok (.aload_n 0, 1) := dk_42 (dk_at dksX4_name_3 9 rfl rfl)
theorem dX4_name_80 : decode cX4_name 80 = .ok (.iconst 0, 1) := dk_3 (dk_at dksX4_name_3 10 rfl rfl)
theorem dX4_name_81 : decode cX4_name 81 = .ok (.putfield 105, 3) := dk_181 0 105 (dk_at dksX4_name_3 11 rfl rfl)
theorem dX4_name_84 : decode cX4_name 84 = .ok (.aload_n 0, 1) := dk_42 (dk_at dksX4_name_3 14 rfl rfl)
theorem dX4_name_85 : decode cX4_name 85 = .ok (.invokevirtual 147, 3) := dk_182 0 147 (dk_at dksX4_name_3 15 rfl rfl)
theorem dX4_name_88 : decode cX4_name 88 = .ok (.ifCond .ne 11, 3) := dk_154 0 11 (dk_at dksX4_name_3 18 rfl rfl)
theorem dX4_name_91 : decode cX4_name 91 = .ok (.bipush (-2), 2) := dk_16 254 (dk_at dksX4_name_3 21 rfl rfl)
theorem dX4_name_93 : decode cX4_name 93 = .ok (.aload_n 0, 1) := dk_42 (dk_at dksX4_name_3 23 rfl rfl)
theorem dX4_name_94 : decode cX4_name 94 = .ok (.getfield 116, 3) := dk_180 0 116 (dk_at dksX4_name_4 0 rfl rfl)
theorem dX4_name_97 : decode cX4_name 97 = .ok (.isub, 1) := dk_100 (dk_at dksX4_name_4 3 rfl rfl)
theorem dX4_name_98 : decode cX4_name 98 = .ok (.ireturn, 1) := dk_172 (dk_at dksX4_name_4 4 rfl rfl)
theorem dX4_name_99 : decode cX4_name 99 = .ok (.aload_n 0, 1) := dk_42 (dk_at dksX4_name_4 5 rfl rfl)
theorem dX4_name_100 : decode cX4_name 100 = .ok (.dup, 1) := dk_89 (dk_at dksX4_name_4 6 rfl rfl)
theorem dX4_name_101 : decode cX4_name 101 = .ok (.getfield 203, 3) := dk_180 0 203 (dk_at dksX4_name_4 7 rfl rfl)
theorem dX4_name_104 : decode cX4_name 104 = .ok (.iconst 1, 1) := dk_4 (dk_at dksX4_name_4 10 rfl rfl)
theorem dX4_name_105 : decode cX4_name 105 = .ok (.iadd, 1) := dk_96 (dk_at dksX4_name_4 11 rfl rfl)
theorem dX4_name_106 : decode cX4_name 106 = .ok (.putfield 203, 3) := dk_181 0 203 (dk_at dksX4_name_4 12 rfl rfl)
theorem dX4_name_109 : decode cX4_name 109 = .ok (.aload_n 0, 1) := dk_42 (dk_at dksX4_name_4 15 rfl rfl)
theorem dX4_name_110 : decode cX4_name 110 = .ok (.getfield 203, 3) := dk_180 0 203 (dk_at dksX4_name_4 16 rfl rfl)
theorem dX4_name_113 : decode cX4_name 113 = .ok (.iconst 1, 1) := dk_4 (dk_at dksX4_name_4 19 rfl rfl)
theorem dX4_name_114 : decode cX4_name 114 = .ok (.isub, 1) := dk_100 (dk_at dksX4_name_4 20 rfl rfl)
theorem dX4_name_115 : decode cX4_name 115 = .ok (.ireturn, 1) := dk_172 (dk_at dksX4_name_4 21 rfl rfl)
def dkwX4_readsSyllable_5 : List UInt8 := [46, 4, 96, 79, 177]
abbrev dktX4_readsSyllable_5 : List UInt8 := dkwX4_readsSyllable_5 ++ []
def dkwX4_readsSyllable_4 : List UInt8 := [180, 0, 29, 42, 180, 0, 203, 46, 96, 8, 27, 104, 28, 96, 79, 42, 180, 0, 29, 42, 180, 0, 203, 92]
abbrev dktX4_readsSyllable_4 : List UInt8 := dkwX4_readsSyllable_4 ++ dktX4_readsSyllable_5
def dkwX4_readsSyllable_3 : List UInt8 := [96, 181, 0, 113, 42, 182, 0, 147, 153, 0, 43, 42, 180, 0, 32, 16, 7, 42, 180, 0, 203, 104, 42]
abbrev dktX4_readsSyllable_3 : List UInt8 := dkwX4_readsSyllable_3 ++ dktX4_readsSyllable_4
def dkwX4_readsSyllable_2 : List UInt8 := [42, 182, 0, 147, 153, 0, 12, 42, 18, 206, 182, 0, 199, 167, 0, 4, 3, 61, 42, 89, 180, 0, 113, 4]
abbrev dktX4_readsSyllable_2 : List UInt8 := dkwX4_readsSyllable_2 ++ dktX4_readsSyllable_3
def dkwX4_readsSyllable_1 : List UInt8 := [16, 7, 160, 0, 12, 42, 5, 42, 180, 0, 113, 182, 0, 134, 42, 89, 180, 0, 113, 4, 96, 181, 0, 113]
abbrev dktX4_readsSyllable_1 : List UInt8 := dkwX4_readsSyllable_1 ++ dktX4_readsSyllable_2
def dkwX4_readsSyllable_0 : List UInt8 := [42, 18, 197, 182, 0, 199, 60, 42, 182, 0, 147, 153, 0, 26, 42, 180, 0, 29, 42, 180, 0, 203, 46]
abbrev dktX4_readsSyllable_0 : List UInt8 := dkwX4_readsSyllable_0 ++ dktX4_readsSyllable_1
theorem dksX4_readsSyllable_0 : cX4_readsSyllable.data.toList.drop 0 = dktX4_readsSyllable_0 := by decide +kernel
theorem dksX4_readsSyllable_1 : cX4_readsSyllable.data.toList.drop 23 = dktX4_readsSyllable_1 := dk_seg dksX4_readsSyllable_0 23 rfl rfl
theorem dksX4_readsSyllable_2 : cX4_readsSyllable.data.toList.drop 47 = dktX4_readsSyllable_2 := dk_seg dksX4_readsSyllable_1 24 rfl rfl
theorem dksX4_readsSyllable_3 : cX4_readsSyllable.data.toList.drop 71 = dktX4_readsSyllable_3 := dk_seg dksX4_readsSyllable_2 24 rfl rfl
theorem dksX4_readsSyllable_4 : cX4_readsSyllable.data.toList.drop 94 = dktX4_readsSyllable_4 := dk_seg dksX4_readsSyllable_3 23 rfl rfl
theorem dksX4_readsSyllable_5 : cX4_readsSyllable.data.toList.drop 118 = dktX4_readsSyllable_5 := dk_seg dksX4_readsSyllable_4 24 rfl rfl
theorem dX4_readsSyllable_0 : decode cX4_readsSyllable 0 = .ok (.aload_n 0, 1) := dk_42 (dk_at dksX4_readsSyllable_0 0 rfl rfl)
theorem dX4_readsSyllable_1 : decode cX4_readsSyllable 1 = .ok (.ldc 197, 2) := dk_18 197 (dk_at dksX4_readsSyllable_0 1 rfl rfl)
theorem dX4_readsSyllable_3 : decode cX4_readsSyllable 3 = .ok (.invokevirtual 199, 3) := dk_182 0 199 (dk_at dksX4_readsSyllable_0 3 rfl rfl)
theorem dX4_readsSyllable_6 : decode cX4_readsSyllable 6 = .ok (.istore_n 1, 1) := dk_60 (dk_at dksX4_readsSyllable_0 6 rfl rfl)
theorem dX4_readsSyllable_7 : decode cX4_readsSyllable 7 = .ok (.aload_n 0, 1) := dk_42 (dk_at dksX4_readsSyllable_0 7 rfl rfl)
theorem dX4_readsSyllable_8 : decode cX4_readsSyllable 8 = .ok (.invokevirtual 147, 3) := dk_182 0 147 (dk_at dksX4_readsSyllable_0 8 rfl rfl)
theorem dX4_readsSyllable_11 : decode cX4_readsSyllable 11 = .ok (.ifCond .eq 26, 3) := dk_153 0 26 (dk_at dksX4_readsSyllable_0 11 rfl rfl)
theorem dX4_readsSyllable_14 : decode cX4_readsSyllable 14 = .ok (.aload_n 0, 1) := dk_42 (dk_at dksX4_readsSyllable_0 14 rfl rfl)
theorem dX4_readsSyllable_15 : decode cX4_readsSyllable 15 = .ok (.getfield 29, 3) := dk_180 0 29 (dk_at dksX4_readsSyllable_0 15 rfl rfl)
theorem dX4_readsSyllable_18 : decode cX4_readsSyllable 18 = .ok (.aload_n 0, 1) := dk_42 (dk_at dksX4_readsSyllable_0 18 rfl rfl)
theorem dX4_readsSyllable_19 : decode cX4_readsSyllable 19 = .ok (.getfield 203, 3) := dk_180 0 203 (dk_at dksX4_readsSyllable_0 19 rfl rfl)
theorem dX4_readsSyllable_22 : decode cX4_readsSyllable 22 = .ok (.iaload, 1) := dk_46 (dk_at dksX4_readsSyllable_0 22 rfl rfl)
theorem dX4_readsSyllable_23 : decode cX4_readsSyllable 23 = .ok (.bipush 7, 2) := dk_16 7 (dk_at dksX4_readsSyllable_1 0 rfl rfl)
theorem dX4_readsSyllable_25 : decode cX4_readsSyllable 25 = .ok (.if_icmp .ne 12, 3) := dk_160 0 12 (dk_at dksX4_readsSyllable_1 2 rfl rfl)
theorem dX4_readsSyllable_28 : decode cX4_readsSyllable 28 = .ok (.aload_n 0, 1) := dk_42 (dk_at dksX4_readsSyllable_1 5 rfl rfl)
theorem dX4_readsSyllable_29 : decode cX4_readsSyllable 29 = .ok (.iconst 2, 1) := dk_5 (dk_at dksX4_readsSyllable_1 6 rfl rfl)
theorem dX4_readsSyllable_30 : decode cX4_readsSyllable 30 = .ok (.aload_n 0, 1) := dk_42 (dk_at dksX4_readsSyllable_1 7 rfl rfl)
theorem dX4_readsSyllable_31 : decode cX4_readsSyllable 31 = .ok (.getfield 113, 3) := dk_180 0 113 (dk_at dksX4_readsSyllable_1 8 rfl rfl)
theorem dX4_readsSyllable_34 : decode cX4_readsSyllable 34 = .ok (.invokevirtual 134, 3) := dk_182 0 134 (dk_at dksX4_readsSyllable_1 11 rfl rfl)
theorem dX4_readsSyllable_37 : decode cX4_readsSyllable 37 = .ok (.aload_n 0, 1) := dk_42 (dk_at dksX4_readsSyllable_1 14 rfl rfl)
theorem dX4_readsSyllable_38 : decode cX4_readsSyllable 38 = .ok (.dup, 1) := dk_89 (dk_at dksX4_readsSyllable_1 15 rfl rfl)
theorem dX4_readsSyllable_39 : decode cX4_readsSyllable 39 = .ok (.getfield 113, 3) := dk_180 0 113 (dk_at dksX4_readsSyllable_1 16 rfl rfl)
theorem dX4_readsSyllable_42 : decode cX4_readsSyllable 42 = .ok (.iconst 1, 1) := dk_4 (dk_at dksX4_readsSyllable_1 19 rfl rfl)
theorem dX4_readsSyllable_43 : decode cX4_readsSyllable 43 = .ok (.iadd, 1) := dk_96 (dk_at dksX4_readsSyllable_1 20 rfl rfl)
theorem dX4_readsSyllable_44 : decode cX4_readsSyllable 44 = .ok (.putfield 113, 3) := dk_181 0 113 (dk_at dksX4_readsSyllable_1 21 rfl rfl)
theorem dX4_readsSyllable_47 : decode cX4_readsSyllable 47 = .ok (.aload_n 0, 1) := dk_42 (dk_at dksX4_readsSyllable_2 0 rfl rfl)
theorem dX4_readsSyllable_48 : decode cX4_readsSyllable 48 = .ok (.invokevirtual 147, 3) := dk_182 0 147 (dk_at dksX4_readsSyllable_2 1 rfl rfl)
theorem dX4_readsSyllable_51 : decode cX4_readsSyllable 51 = .ok (.ifCond .eq 12, 3) := dk_153 0 12 (dk_at dksX4_readsSyllable_2 4 rfl rfl)
theorem dX4_readsSyllable_54 : decode cX4_readsSyllable 54 = .ok (.aload_n 0, 1) := dk_42 (dk_at dksX4_readsSyllable_2 7 rfl rfl)
theorem dX4_readsSyllable_55 : decode cX4_readsSyllable 55 = .ok (.ldc 206, 2) := dk_18 206 (dk_at dksX4_readsSyllable_2 8 rfl rfl)
theorem dX4_readsSyllable_57 : decode cX4_readsSyllable 57 = .ok (.invokevirtual 199, 3) := dk_182 0 199 (dk_at dksX4_readsSyllable_2 10 rfl rfl)
theorem dX4_readsSyllable_60 : decode cX4_readsSyllable 60 = .ok (.goto 4, 3) := dk_167 0 4 (dk_at dksX4_readsSyllable_2 13 rfl rfl)
theorem dX4_readsSyllable_63 : decode cX4_readsSyllable 63 = .ok (.iconst 0, 1) := dk_3 (dk_at dksX4_readsSyllable_2 16 rfl rfl)
theorem dX4_readsSyllable_64 : decode cX4_readsSyllable 64 = .ok (.istore_n 2, 1) := dk_61 (dk_at dksX4_readsSyllable_2 17 rfl rfl)
theorem dX4_readsSyllable_65 : decode cX4_readsSyllable 65 = .ok (.aload_n 0, 1) := dk_42 (dk_at dksX4_readsSyllable_2 18 rfl rfl)
theorem dX4_readsSyllable_66 : decode cX4_readsSyllable 66 = .ok (.dup, 1) := dk_89 (dk_at dksX4_readsSyllable_2 19 rfl rfl)
theorem dX4_readsSyllable_67 : decode cX4_readsSyllable 67 = .ok (.getfield 113, 3) := dk_180 0 113 (dk_at dksX4_readsSyllable_2 20 rfl rfl)
theorem dX4_readsSyllable_70 : decode cX4_readsSyllable 70 = .ok (.iconst 1, 1) := dk_4 (dk_at dksX4_readsSyllable_2 23 rfl rfl)
theorem dX4_readsSyllable_71 : decode cX4_readsSyllable 71 = .ok (.iadd, 1) := dk_96 (dk_at dksX4_readsSyllable_3 0 rfl rfl)
theorem dX4_readsSyllable_72 : decode cX4_readsSyllable 72 = .ok (.putfield 113, 3) := dk_181 0 113 (dk_at dksX4_readsSyllable_3 1 rfl rfl)
theorem dX4_readsSyllable_75 : decode cX4_readsSyllable 75 = .ok (.aload_n 0, 1) := dk_42 (dk_at dksX4_readsSyllable_3 4 rfl rfl)
theorem dX4_readsSyllable_76 : decode cX4_readsSyllable 76 = .ok (.invokevirtual 147, 3) := dk_182 0 147 (dk_at dksX4_readsSyllable_3 5 rfl rfl)
theorem dX4_readsSyllable_79 : decode cX4_readsSyllable 79 = .ok (.ifCond .eq 43, 3) := dk_153 0 43 (dk_at dksX4_readsSyllable_3 8 rfl rfl)
theorem dX4_readsSyllable_82 : decode cX4_readsSyllable 82 = .ok (.aload_n 0, 1) := dk_42 (dk_at dksX4_readsSyllable_3 11 rfl rfl)
theorem dX4_readsSyllable_83 : decode cX4_readsSyllable 83 = .ok (.getfield 32, 3) := dk_180 0 32 (dk_at dksX4_readsSyllable_3 12 rfl rfl)
theorem dX4_readsSyllable_86 : decode cX4_readsSyllable 86 = .ok (.bipush 7, 2) := dk_16 7 (dk_at dksX4_readsSyllable_3 15 rfl rfl)
theorem dX4_readsSyllable_88 : decode cX4_readsSyllable 88 = .ok (.aload_n 0, 1) := dk_42 (dk_at dksX4_readsSyllable_3 17 rfl rfl)
theorem dX4_readsSyllable_89 : decode cX4_readsSyllable 89 = .ok (.getfield 203, 3) := dk_180 0 203 (dk_at dksX4_readsSyllable_3 18 rfl rfl)
theorem dX4_readsSyllable_92 : decode cX4_readsSyllable 92 = .ok (.imul, 1) := dk_104 (dk_at dksX4_readsSyllable_3 21 rfl rfl)
theorem dX4_readsSyllable_93 : decode cX4_readsSyllable 93 = .ok (.aload_n 0, 1) := dk_42 (dk_at dksX4_readsSyllable_3 22 rfl rfl)
theorem dX4_readsSyllable_94 : decode cX4_readsSyllable 94 = .ok (.getfield 29, 3) := dk_180 0 29 (dk_at dksX4_readsSyllable_4 0 rfl rfl)
theorem dX4_readsSyllable_97 : decode cX4_readsSyllable 97 = .ok (.aload_n 0, 1) := dk_42 (dk_at dksX4_readsSyllable_4 3 rfl rfl)
theorem dX4_readsSyllable_98 : decode cX4_readsSyllable 98 = .ok (.getfield 203, 3) := dk_180 0 203 (dk_at dksX4_readsSyllable_4 4 rfl rfl)
theorem dX4_readsSyllable_101 : decode cX4_readsSyllable 101 = .ok (.iaload, 1) := dk_46 (dk_at dksX4_readsSyllable_4 7 rfl rfl)
theorem dX4_readsSyllable_102 : decode cX4_readsSyllable 102 = .ok (.iadd, 1) := dk_96 (dk_at dksX4_readsSyllable_4 8 rfl rfl)
theorem dX4_readsSyllable_103 : decode cX4_readsSyllable 103 = .ok (.iconst 5, 1) := dk_8 (dk_at dksX4_readsSyllable_4 9 rfl rfl)
theorem dX4_readsSyllable_104 : decode cX4_readsSyllable 104 = .ok (.iload_n 1, 1) := dk_27 (dk_at dksX4_readsSyllable_4 10 rfl rfl)
theorem dX4_readsSyllable_105 : decode cX4_readsSyllable 105 = .ok (.imul, 1) := dk_104 (dk_at dksX4_readsSyllable_4 11 rfl rfl)
theorem dX4_readsSyllable_106 : decode cX4_readsSyllable 106 = .ok (.iload_n 2, 1) := dk_28 (dk_at dksX4_readsSyllable_4 12 rfl rfl)
theorem dX4_readsSyllable_107 : decode cX4_readsSyllable 107 = .ok (.iadd, 1) := dk_96 (dk_at dksX4_readsSyllable_4 13 rfl rfl)
theorem dX4_readsSyllable_108 : decode cX4_readsSyllable 108 = .ok (.iastore, 1) := dk_79 (dk_at dksX4_readsSyllable_4 14 rfl rfl)
theorem dX4_readsSyllable_109 : decode cX4_readsSyllable 109 = .ok (.aload_n 0, 1) := dk_42 (dk_at dksX4_readsSyllable_4 15 rfl rfl)
theorem dX4_readsSyllable_110 : decode cX4_readsSyllable 110 = .ok (.getfield 29, 3) := dk_180 0 29 (dk_at dksX4_readsSyllable_4 16 rfl rfl)
theorem dX4_readsSyllable_113 : decode cX4_readsSyllable 113 = .ok (.aload_n 0, 1) := dk_42 (dk_at dksX4_readsSyllable_4 19 rfl rfl)
theorem dX4_readsSyllable_114 : decode cX4_readsSyllable 114 = .ok (.getfield 203, 3) := dk_180 0 203 (dk_at dksX4_readsSyllable_4 20 rfl rfl)
theorem dX4_readsSyllable_117 : decode cX4_readsSyllable 117 = .ok (.dup2, 1) := dk_92 (dk_at dksX4_readsSyllable_4 23 rfl rfl)
theorem dX4_readsSyllable_118 : decode cX4_readsSyllable 118 = .ok (.iaload, 1) := dk_46 (dk_at dksX4_readsSyllable_5 0 rfl rfl)
theorem dX4_readsSyllable_119 : decode cX4_readsSyllable 119 = .ok (.iconst 1, 1) := dk_4 (dk_at dksX4_readsSyllable_5 1 rfl rfl)
theorem dX4_readsSyllable_120 : decode cX4_readsSyllable 120 = .ok (.iadd, 1) := dk_96 (dk_at dksX4_readsSyllable_5 2 rfl rfl)
theorem dX4_readsSyllable_121 : decode cX4_readsSyllable 121 = .ok (.iastore, 1) := dk_79 (dk_at dksX4_readsSyllable_5 3 rfl rfl)
theorem dX4_readsSyllable_122 : decode cX4_readsSyllable 122 = .ok (.return_, 1) := dk_177 (dk_at dksX4_readsSyllable_5 4 rfl rfl)
def dkwX4_oneOf_1 : List UInt8 := [132, 2, 1, 167, 255, 231, 42, 4, 42, 180, 0, 113, 182, 0, 134, 3, 172]
abbrev dktX4_oneOf_1 : List UInt8 := dkwX4_oneOf_1 ++ []
def dkwX4_oneOf_0 : List UInt8 := [3, 61, 28, 43, 182, 0, 188, 162, 0, 23, 42, 182, 0, 119, 43, 28, 182, 0, 193, 160, 0, 5, 28, 172]
abbrev dktX4_oneOf_0 : List UInt8 := dkwX4_oneOf_0 ++ dktX4_oneOf_1
theorem dksX4_oneOf_0 : cX4_oneOf.data.toList.drop 0 = dktX4_oneOf_0 := by decide +kernel
theorem dksX4_oneOf_1 : cX4_oneOf.data.toList.drop 24 = dktX4_oneOf_1 := dk_seg dksX4_oneOf_0 24 rfl rfl
theorem dX4_oneOf_0 : decode cX4_oneOf 0 = .ok (.iconst 0, 1) := dk_3 (dk_at dksX4_oneOf_0 0 rfl rfl)
theorem dX4_oneOf_1 : decode cX4_oneOf 1 = .ok (.istore_n 2, 1) := dk_61 (dk_at dksX4_oneOf_0 1 rfl rfl)
theorem dX4_oneOf_2 : decode cX4_oneOf 2 = .ok (.iload_n 2, 1) := dk_28 (dk_at dksX4_oneOf_0 2 rfl rfl)
theorem dX4_oneOf_3 : decode cX4_oneOf 3 = .ok (.aload_n 1, 1) := dk_43 (dk_at dksX4_oneOf_0 3 rfl rfl)
theorem dX4_oneOf_4 : decode cX4_oneOf 4 = .ok (.invokevirtual 188, 3) := dk_182 0 188 (dk_at dksX4_oneOf_0 4 rfl rfl)
theorem dX4_oneOf_7 : decode cX4_oneOf 7 = .ok (.if_icmp .ge 23, 3) := dk_162 0 23 (dk_at dksX4_oneOf_0 7 rfl rfl)
theorem dX4_oneOf_10 : decode cX4_oneOf 10 = .ok (.aload_n 0, 1) := dk_42 (dk_at dksX4_oneOf_0 10 rfl rfl)
theorem dX4_oneOf_11 : decode cX4_oneOf 11 = .ok (.invokevirtual 119, 3) := dk_182 0 119 (dk_at dksX4_oneOf_0 11 rfl rfl)
theorem dX4_oneOf_14 : decode cX4_oneOf 14 = .ok (.aload_n 1, 1) := dk_43 (dk_at dksX4_oneOf_0 14 rfl rfl)
theorem dX4_oneOf_15 : decode cX4_oneOf 15 = .ok (.iload_n 2, 1) := dk_28 (dk_at dksX4_oneOf_0 15 rfl rfl)
theorem dX4_oneOf_16 : decode cX4_oneOf 16 = .ok (.invokevirtual 193, 3) := dk_182 0 193 (dk_at dksX4_oneOf_0 16 rfl rfl)
theorem dX4_oneOf_19 : decode cX4_oneOf 19 = .ok (.if_icmp .ne 5, 3) := dk_160 0 5 (dk_at dksX4_oneOf_0 19 rfl rfl)
theorem dX4_oneOf_22 : decode cX4_oneOf 22 = .ok (.iload_n 2, 1) := dk_28 (dk_at dksX4_oneOf_0 22 rfl rfl)
theorem dX4_oneOf_23 : decode cX4_oneOf 23 = .ok (.ireturn, 1) := dk_172 (dk_at dksX4_oneOf_0 23 rfl rfl)
theorem dX4_oneOf_24 : decode cX4_oneOf 24 = .ok (.iinc 2 1, 3) := dk_132 2 1 (dk_at dksX4_oneOf_1 0 rfl rfl)
theorem dX4_oneOf_27 : decode cX4_oneOf 27 = .ok (.goto (-25), 3) := dk_167 255 231 (dk_at dksX4_oneOf_1 3 rfl rfl)
theorem dX4_oneOf_30 : decode cX4_oneOf 30 = .ok (.aload_n 0, 1) := dk_42 (dk_at dksX4_oneOf_1 6 rfl rfl)
theorem dX4_oneOf_31 : decode cX4_oneOf 31 = .ok (.iconst 1, 1) := dk_4 (dk_at dksX4_oneOf_1 7 rfl rfl)
theorem dX4_oneOf_32 : decode cX4_oneOf 32 = .ok (.aload_n 0, 1) := dk_42 (dk_at dksX4_oneOf_1 8 rfl rfl)
theorem dX4_oneOf_33 : decode cX4_oneOf 33 = .ok (.getfield 113, 3) := dk_180 0 113 (dk_at dksX4_oneOf_1 9 rfl rfl)
theorem dX4_oneOf_36 : decode cX4_oneOf 36 = .ok (.invokevirtual 134, 3) := dk_182 0 134 (dk_at dksX4_oneOf_1 12 rfl rfl)
theorem dX4_oneOf_39 : decode cX4_oneOf 39 = .ok (.iconst 0, 1) := dk_3 (dk_at dksX4_oneOf_1 15 rfl rfl)
theorem dX4_oneOf_40 : decode cX4_oneOf 40 = .ok (.ireturn, 1) := dk_172 (dk_at dksX4_oneOf_1 16 rfl rfl)
def dkwX4_isNameTold_4 : List UInt8 := [172, 132, 1, 1, 167, 255, 159, 3, 172]
abbrev dktX4_isNameTold_4 : List UInt8 := dkwX4_isNameTold_4 ++ []
def dkwX4_isNameTold_3 : List UInt8 := [104, 29, 96, 46, 160, 0, 7, 4, 167, 0, 4, 3, 61, 132, 3, 1, 167, 255, 205, 28, 153, 0, 5, 4]
abbrev dktX4_isNameTold_3 : List UInt8 := dkwX4_isNameTold_3 ++ dktX4_isNameTold_4
def dkwX4_isNameTold_2 : List UInt8 := [153, 0, 43, 42, 180, 0, 32, 16, 7, 27, 104, 29, 96, 46, 42, 180, 0, 32, 16, 7, 42, 180, 0, 203]
abbrev dktX4_isNameTold_2 : List UInt8 := dkwX4_isNameTold_2 ++ dktX4_isNameTold_3
def dkwX4_isNameTold_1 : List UInt8 := [46, 160, 0, 7, 4, 167, 0, 4, 3, 61, 3, 62, 29, 42, 180, 0, 29, 27, 46, 162, 0, 47, 28]
abbrev dktX4_isNameTold_1 : List UInt8 := dkwX4_isNameTold_1 ++ dktX4_isNameTold_2
def dkwX4_isNameTold_0 : List UInt8 := [3, 60, 27, 42, 180, 0, 203, 162, 0, 95, 42, 180, 0, 29, 27, 46, 42, 180, 0, 29, 42, 180, 0, 203]
abbrev dktX4_isNameTold_0 : List UInt8 := dkwX4_isNameTold_0 ++ dktX4_isNameTold_1
theorem dksX4_isNameTold_0 : cX4_isNameTold.data.toList.drop 0 = dktX4_isNameTold_0 := by decide +kernel
theorem dksX4_isNameTold_1 : cX4_isNameTold.data.toList.drop 24 = dktX4_isNameTold_1 := dk_seg dksX4_isNameTold_0 24 rfl rfl
theorem dksX4_isNameTold_2 : cX4_isNameTold.data.toList.drop 47 = dktX4_isNameTold_2 := dk_seg dksX4_isNameTold_1 23 rfl rfl
theorem dksX4_isNameTold_3 : cX4_isNameTold.data.toList.drop 71 = dktX4_isNameTold_3 := dk_seg dksX4_isNameTold_2 24 rfl rfl
theorem dksX4_isNameTold_4 : cX4_isNameTold.data.toList.drop 95 = dktX4_isNameTold_4 := dk_seg dksX4_isNameTold_3 24 rfl rfl
theorem dX4_isNameTold_0 : decode cX4_isNameTold 0 = .ok (.iconst 0, 1) := dk_3 (dk_at dksX4_isNameTold_0 0 rfl rfl)
theorem dX4_isNameTold_1 : decode cX4_isNameTold 1 = .ok (.istore_n 1, 1) := dk_60 (dk_at dksX4_isNameTold_0 1 rfl rfl)
theorem dX4_isNameTold_2 : decode cX4_isNameTold 2 = .ok (.iload_n 1, 1) := dk_27 (dk_at dksX4_isNameTold_0 2 rfl rfl)
theorem dX4_isNameTold_3 : decode cX4_isNameTold 3 = .ok (.aload_n 0, 1) := dk_42 (dk_at dksX4_isNameTold_0 3 rfl rfl)
theorem dX4_isNameTold_4 : decode cX4_isNameTold 4 = .ok (.getfield 203, 3) := dk_180 0 203 (dk_at dksX4_isNameTold_0 4 rfl rfl)
theorem dX4_isNameTold_7 : decode cX4_isNameTold 7 = .ok (.if_icmp .ge 95, 3) := dk_162 0 95 (dk_at dksX4_isNameTold_0 7 rfl rfl)
theorem dX4_isNameTold_10 : decode cX4_isNameTold 10 = .ok (.aload_n 0, 1) := dk_42 (dk_at dksX4_isNameTold_0 10 rfl rfl)
theorem dX4_isNameTold_11 : decode cX4_isNameTold 11 = .ok (.getfield 29, 3) := dk_180 0 29 (dk_at dksX4_isNameTold_0 11 rfl rfl)
theorem dX4_isNameTold_14 : decode cX4_isNameTold 14 = .ok (.iload_n 1, 1) := dk_27 (dk_at dksX4_isNameTold_0 14 rfl rfl)
theorem dX4_isNameTold_15 : decode cX4_isNameTold 15 = .ok (.iaload, 1) := dk_46 (dk_at dksX4_isNameTold_0 15 rfl rfl)
theorem dX4_isNameTold_16 : decode cX4_isNameTold 16 = .ok (.aload_n 0, 1) := dk_42 (dk_at dksX4_isNameTold_0 16 rfl rfl)
theorem dX4_isNameTold_17 : decode cX4_isNameTold 17 = .ok (.getfield 29, 3) := dk_180 0 29 (dk_at dksX4_isNameTold_0 17 rfl rfl)
theorem dX4_isNameTold_20 : decode cX4_isNameTold 20 = .ok (.aload_n 0, 1) := dk_42 (dk_at dksX4_isNameTold_0 20 rfl rfl)
theorem dX4_isNameTold_21 : decode cX4_isNameTold 21 = .ok (.getfield 203, 3) := dk_180 0 203 (dk_at dksX4_isNameTold_0 21 rfl rfl)
theorem dX4_isNameTold_24 : decode cX4_isNameTold 24 = .ok (.iaload, 1) := dk_46 (dk_at dksX4_isNameTold_1 0 rfl rfl)
theorem dX4_isNameTold_25 : decode cX4_isNameTold 25 = .ok (.if_icmp .ne 7, 3) := dk_160 0 7 (dk_at dksX4_isNameTold_1 1 rfl rfl)
theorem dX4_isNameTold_28 : decode cX4_isNameTold 28 = .ok (.iconst 1, 1) := dk_4 (dk_at dksX4_isNameTold_1 4 rfl rfl)
theorem dX4_isNameTold_29 : decode cX4_isNameTold 29 = .ok (.goto 4, 3) := dk_167 0 4 (dk_at dksX4_isNameTold_1 5 rfl rfl)
theorem dX4_isNameTold_32 : decode cX4_isNameTold 32 = .ok (.iconst 0, 1) := dk_3 (dk_at dksX4_isNameTold_1 8 rfl rfl)
theorem dX4_isNameTold_33 : decode cX4_isNameTold 33 = .ok (.istore_n 2, 1) := dk_61 (dk_at dksX4_isNameTold_1 9 rfl rfl)
theorem dX4_isNameTold_34 : decode cX4_isNameTold 34 = .ok (.iconst 0, 1) := dk_3 (dk_at dksX4_isNameTold_1 10 rfl rfl)
theorem dX4_isNameTold_35 : decode cX4_isNameTold 35 = .ok (.istore_n 3, 1) := dk_62 (dk_at dksX4_isNameTold_1 11 rfl rfl)
theorem dX4_isNameTold_36 : decode cX4_isNameTold 36 = .ok (.iload_n 3, 1) := dk_29 (dk_at dksX4_isNameTold_1 12 rfl rfl)
theorem dX4_isNameTold_37 : decode cX4_isNameTold 37 = .ok (.aload_n 0, 1) := dk_42 (dk_at dksX4_isNameTold_1 13 rfl rfl)
theorem dX4_isNameTold_38 : decode cX4_isNameTold 38 = .ok (.getfield 29, 3) := dk_180 0 29 (dk_at dksX4_isNameTold_1 14 rfl rfl)
theorem dX4_isNameTold_41 : decode cX4_isNameTold 41 = .ok (.iload_n 1, 1) := dk_27 (dk_at dksX4_isNameTold_1 17 rfl rfl)
theorem dX4_isNameTold_42 : decode cX4_isNameTold 42 = .ok (.iaload, 1) := dk_46 (dk_at dksX4_isNameTold_1 18 rfl rfl)
theorem dX4_isNameTold_43 : decode cX4_isNameTold 43 = .ok (.if_icmp .ge 47, 3) := dk_162 0 47 (dk_at dksX4_isNameTold_1 19 rfl rfl)
theorem dX4_isNameTold_46 : decode cX4_isNameTold 46 = .ok (.iload_n 2, 1) := dk_28 (dk_at dksX4_isNameTold_1 22 rfl rfl)
theorem dX4_isNameTold_47 : decode cX4_isNameTold 47 = .ok (.ifCond .eq 43, 3) := dk_153 0 43 (dk_at dksX4_isNameTold_2 0 rfl rfl)
theorem dX4_isNameTold_50 : decode cX4_isNameTold 50 = .ok (.aload_n 0, 1) := dk_42 (dk_at dksX4_isNameTold_2 3 rfl rfl)
theorem dX4_isNameTold_51 : decode cX4_isNameTold 51 = .ok (.getfield 32, 3) := dk_180 0 32 (dk_at dksX4_isNameTold_2 4 rfl rfl)
theorem dX4_isNameTold_54 : decode cX4_isNameTold 54 = .ok (.bipush 7, 2) := dk_16 7 (dk_at dksX4_isNameTold_2 7 rfl rfl)
theorem dX4_isNameTold_56 : decode cX4_isNameTold 56 = .ok (.iload_n 1, 1) := dk_27 (dk_at dksX4_isNameTold_2 9 rfl rfl)
theorem dX4_isNameTold_57 : decode cX4_isNameTold 57 = .ok (.imul, 1) := dk_104 (dk_at dksX4_isNameTold_2 10 rfl rfl)
theorem dX4_isNameTold_58 : decode cX4_isNameTold 58 = .ok (.iload_n 3, 1) := dk_29 (dk_at dksX4_isNameTold_2 11 rfl rfl)
theorem dX4_isNameTold_59 : decode cX4_isNameTold 59 = .ok (.iadd, 1) := dk_96 (dk_at dksX4_isNameTold_2 12 rfl rfl)
theorem dX4_isNameTold_60 : decode cX4_isNameTold 60 = .ok (.iaload, 1) := dk_46 (dk_at dksX4_isNameTold_2 13 rfl rfl)
theorem dX4_isNameTold_61 : decode cX4_isNameTold 61 = .ok (.aload_n 0, 1) := dk_42 (dk_at dksX4_isNameTold_2 14 rfl rfl)
theorem dX4_isNameTold_62 : decode cX4_isNameTold 62 = .ok (.getfield 32, 3) := dk_180 0 32 (dk_at dksX4_isNameTold_2 15 rfl rfl)
theorem dX4_isNameTold_65 : decode cX4_isNameTold 65 = .ok (.bipush 7, 2) := dk_16 7 (dk_at dksX4_isNameTold_2 18 rfl rfl)
theorem dX4_isNameTold_67 : decode cX4_isNameTold 67 = .ok (.aload_n 0, 1) := dk_42 (dk_at dksX4_isNameTold_2 20 rfl rfl)
theorem dX4_isNameTold_68 : decode cX4_isNameTold 68 = .ok (.getfield 203, 3) := dk_180 0 203 (dk_at dksX4_isNameTold_2 21 rfl rfl)
theorem dX4_isNameTold_71 : decode cX4_isNameTold 71 = .ok (.imul, 1) := dk_104 (dk_at dksX4_isNameTold_3 0 rfl rfl)
theorem dX4_isNameTold_72 : decode cX4_isNameTold 72 = .ok (.iload_n 3, 1) := dk_29 (dk_at dksX4_isNameTold_3 1 rfl rfl)
theorem dX4_isNameTold_73 : decode cX4_isNameTold 73 = .ok (.iadd, 1) := dk_96 (dk_at dksX4_isNameTold_3 2 rfl rfl)
theorem dX4_isNameTold_74 : decode cX4_isNameTold 74 = .ok (.iaload, 1) := dk_46 (dk_at dksX4_isNameTold_3 3 rfl rfl)
theorem dX4_isNameTold_75 : decode cX4_isNameTold 75 = .ok (.if_icmp .ne 7, 3) := dk_160 0 7 (dk_at dksX4_isNameTold_3 4 rfl rfl)
theorem dX4_isNameTold_78 : decode cX4_isNameTold 78 = .ok (.iconst 1, 1) := dk_4 (dk_at dksX4_isNameTold_3 7 rfl rfl)
theorem dX4_isNameTold_79 : decode cX4_isNameTold 79 = .ok (.goto 4, 3) := dk_167 0 4 (dk_at dksX4_isNameTold_3 8 rfl rfl)
theorem dX4_isNameTold_82 : decode cX4_isNameTold 82 = .ok (.iconst 0, 1) := dk_3 (dk_at dksX4_isNameTold_3 11 rfl rfl)
theorem dX4_isNameTold_83 : decode cX4_isNameTold 83 = .ok (.istore_n 2, 1) := dk_61 (dk_at dksX4_isNameTold_3 12 rfl rfl)
theorem dX4_isNameTold_84 : decode cX4_isNameTold 84 = .ok (.iinc 3 1, 3) := dk_132 3 1 (dk_at dksX4_isNameTold_3 13 rfl rfl)
theorem dX4_isNameTold_87 : decode cX4_isNameTold 87 = .ok (.goto (-51), 3) := dk_167 255 205 (dk_at dksX4_isNameTold_3 16 rfl rfl)
theorem dX4_isNameTold_90 : decode cX4_isNameTold 90 = .ok (.iload_n 2, 1) := dk_28 (dk_at dksX4_isNameTold_3 19 rfl rfl)
theorem dX4_isNameTold_91 : decode cX4_isNameTold 91 = .ok (.ifCond .eq 5, 3) := dk_153 0 5 (dk_at dksX4_isNameTold_3 20 rfl rfl)
theorem dX4_isNameTold_94 : decode cX4_isNameTold 94 = .ok (.iconst 1, 1) := dk_4 (dk_at dksX4_isNameTold_3 23 rfl rfl)
theorem dX4_isNameTold_95 : decode cX4_isNameTold 95 = .ok (.ireturn, 1) := dk_172 (dk_at dksX4_isNameTold_4 0 rfl rfl)
theorem dX4_isNameTold_96 : decode cX4_isNameTold 96 = .ok (.iinc 1 1, 3) := dk_132 1 1 (dk_at dksX4_isNameTold_4 1 rfl rfl)
theorem dX4_isNameTold_99 : decode cX4_isNameTold 99 = .ok (.goto (-97), 3) := dk_167 255 159 (dk_at dksX4_isNameTold_4 4 rfl rfl)
theorem dX4_isNameTold_102 : decode cX4_isNameTold 102 = .ok (.iconst 0, 1) := dk_3 (dk_at dksX4_isNameTold_4 7 rfl rfl)
theorem dX4_isNameTold_103 : decode cX4_isNameTold 103 = .ok (.ireturn, 1) := dk_172 (dk_at dksX4_isNameTold_4 8 rfl rfl)
def dkwX4_undo_2 : List UInt8 := [96, 46, 79, 132, 1, 1, 167, 255, 225, 42, 3, 181, 0, 184, 42, 180, 0, 181, 172]
abbrev dktX4_undo_2 : List UInt8 := dkwX4_undo_2 ++ []
def dkwX4_undo_1 : List UInt8 := [17, 1, 204, 162, 0, 30, 42, 180, 0, 35, 27, 42, 180, 0, 38, 17, 1, 204, 42, 180, 0, 181, 104, 27]
abbrev dktX4_undo_1 : List UInt8 := dkwX4_undo_1 ++ dktX4_undo_2
def dkwX4_undo_0 : List UInt8 := [42, 180, 0, 181, 154, 0, 5, 2, 172, 42, 89, 180, 0, 181, 4, 100, 181, 0, 181, 3, 60, 27]
abbrev dktX4_undo_0 : List UInt8 := dkwX4_undo_0 ++ dktX4_undo_1
theorem dksX4_undo_0 : cX4_undo.data.toList.drop 0 = dktX4_undo_0 := by decide +kernel
theorem dksX4_undo_1 : cX4_undo.data.toList.drop 22 = dktX4_undo_1 := dk_seg dksX4_undo_0 22 rfl rfl
theorem dksX4_undo_2 : cX4_undo.data.toList.drop 46 = dktX4_undo_2 := dk_seg dksX4_undo_1 24 rfl rfl
theorem dX4_undo_0 : decode cX4_undo 0 = .ok (.aload_n 0, 1) := dk_42 (dk_at dksX4_undo_0 0 rfl rfl)
theorem dX4_undo_1 : decode cX4_undo 1 = .ok (.getfield 181, 3) := dk_180 0 181 (dk_at dksX4_undo_0 1 rfl rfl)
theorem dX4_undo_4 : decode cX4_undo 4 = .ok (.ifCond .ne 5, 3) := dk_154 0 5 (dk_at dksX4_undo_0 4 rfl rfl)
theorem dX4_undo_7 : decode cX4_undo 7 = .ok (.iconst (-1), 1) := dk_2 (dk_at dksX4_undo_0 7 rfl rfl)
theorem dX4_undo_8 : decode cX4_undo 8 = .ok (.ireturn, 1) := dk_172 (dk_at dksX4_undo_0 8 rfl rfl)
theorem dX4_undo_9 : decode cX4_undo 9 = .ok (.aload_n 0, 1) := dk_42 (dk_at dksX4_undo_0 9 rfl rfl)
theorem dX4_undo_10 : decode cX4_undo 10 = .ok (.dup, 1) := dk_89 (dk_at dksX4_undo_0 10 rfl rfl)
theorem dX4_undo_11 : decode cX4_undo 11 = .ok (.getfield 181, 3) := dk_180 0 181 (dk_at dksX4_undo_0 11 rfl rfl)
theorem dX4_undo_14 : decode cX4_undo 14 = .ok (.iconst 1, 1) := dk_4 (dk_at dksX4_undo_0 14 rfl rfl)
theorem dX4_undo_15 : decode cX4_undo 15 = .ok (.isub, 1) := dk_100 (dk_at dksX4_undo_0 15 rfl rfl)
theorem dX4_undo_16 : decode cX4_undo 16 = .ok (.putfield 181, 3) := dk_181 0 181 (dk_at dksX4_undo_0 16 rfl rfl)
theorem dX4_undo_19 : decode cX4_undo 19 = .ok (.iconst 0, 1) := dk_3 (dk_at dksX4_undo_0 19 rfl rfl)
theorem dX4_undo_20 : decode cX4_undo 20 = .ok (.istore_n 1, 1) := dk_60 (dk_at dksX4_undo_0 20 rfl rfl)
theorem dX4_undo_21 : decode cX4_undo 21 = .ok (.iload_n 1, 1) := dk_27 (dk_at dksX4_undo_0 21 rfl rfl)
theorem dX4_undo_22 : decode cX4_undo 22 = .ok (.sipush 460, 3) := dk_17 1 204 (dk_at dksX4_undo_1 0 rfl rfl)
theorem dX4_undo_25 : decode cX4_undo 25 = .ok (.if_icmp .ge 30, 3) := dk_162 0 30 (dk_at dksX4_undo_1 3 rfl rfl)
theorem dX4_undo_28 : decode cX4_undo 28 = .ok (.aload_n 0, 1) := dk_42 (dk_at dksX4_undo_1 6 rfl rfl)
theorem dX4_undo_29 : decode cX4_undo 29 = .ok (.getfield 35, 3) := dk_180 0 35 (dk_at dksX4_undo_1 7 rfl rfl)
theorem dX4_undo_32 : decode cX4_undo 32 = .ok (.iload_n 1, 1) := dk_27 (dk_at dksX4_undo_1 10 rfl rfl)
theorem dX4_undo_33 : decode cX4_undo 33 = .ok (.aload_n 0, 1) := dk_42 (dk_at dksX4_undo_1 11 rfl rfl)
theorem dX4_undo_34 : decode cX4_undo 34 = .ok (.getfield 38, 3) := dk_180 0 38 (dk_at dksX4_undo_1 12 rfl rfl)
theorem dX4_undo_37 : decode cX4_undo 37 = .ok (.sipush 460, 3) := dk_17 1 204 (dk_at dksX4_undo_1 15 rfl rfl)
theorem dX4_undo_40 : decode cX4_undo 40 = .ok (.aload_n 0, 1) := dk_42 (dk_at dksX4_undo_1 18 rfl rfl)
theorem dX4_undo_41 : decode cX4_undo 41 = .ok (.getfield 181, 3) := dk_180 0 181 (dk_at dksX4_undo_1 19 rfl rfl)
theorem dX4_undo_44 : decode cX4_undo 44 = .ok (.imul, 1) := dk_104 (dk_at dksX4_undo_1 22 rfl rfl)
theorem dX4_undo_45 : decode cX4_undo 45 = .ok (.iload_n 1, 1) := dk_27 (dk_at dksX4_undo_1 23 rfl rfl)
theorem dX4_undo_46 : decode cX4_undo 46 = .ok (.iadd, 1) := dk_96 (dk_at dksX4_undo_2 0 rfl rfl)
theorem dX4_undo_47 : decode cX4_undo 47 = .ok (.iaload, 1) := dk_46 (dk_at dksX4_undo_2 1 rfl rfl)
theorem dX4_undo_48 : decode cX4_undo 48 = .ok (.iastore, 1) := dk_79 (dk_at dksX4_undo_2 2 rfl rfl)
theorem dX4_undo_49 : decode cX4_undo 49 = .ok (.iinc 1 1, 3) := dk_132 1 1 (dk_at dksX4_undo_2 3 rfl rfl)
theorem dX4_undo_52 : decode cX4_undo 52 = .ok (.goto (-31), 3) := dk_167 255 225 (dk_at dksX4_undo_2 6 rfl rfl)
theorem dX4_undo_55 : decode cX4_undo 55 = .ok (.aload_n 0, 1) := dk_42 (dk_at dksX4_undo_2 9 rfl rfl)
theorem dX4_undo_56 : decode cX4_undo 56 = .ok (.iconst 0, 1) := dk_3 (dk_at dksX4_undo_2 10 rfl rfl)
theorem dX4_undo_57 : decode cX4_undo 57 = .ok (.putfield 184, 3) := dk_181 0 184 (dk_at dksX4_undo_2 11 rfl rfl)
theorem dX4_undo_60 : decode cX4_undo 60 = .ok (.aload_n 0, 1) := dk_42 (dk_at dksX4_undo_2 14 rfl rfl)
theorem dX4_undo_61 : decode cX4_undo 61 = .ok (.getfield 181, 3) := dk_180 0 181 (dk_at dksX4_undo_2 15 rfl rfl)
theorem dX4_undo_64 : decode cX4_undo 64 = .ok (.ireturn, 1) := dk_172 (dk_at dksX4_undo_2 18 rfl rfl)
def dkwX4_loose_0 : List UInt8 := [42, 3, 27, 3, 16, 25, 182, 0, 217, 172]
abbrev dktX4_loose_0 : List UInt8 := dkwX4_loose_0 ++ []
theorem dksX4_loose_0 : cX4_loose.data.toList.drop 0 = dktX4_loose_0 := by decide +kernel
theorem dX4_loose_0 : decode cX4_loose 0 = .ok (.aload_n 0, 1) := dk_42 (dk_at dksX4_loose_0 0 rfl rfl)
theorem dX4_loose_1 : decode cX4_loose 1 = .ok (.iconst 0, 1) := dk_3 (dk_at dksX4_loose_0 1 rfl rfl)
theorem dX4_loose_2 : decode cX4_loose 2 = .ok (.iload_n 1, 1) := dk_27 (dk_at dksX4_loose_0 2 rfl rfl)
theorem dX4_loose_3 : decode cX4_loose 3 = .ok (.iconst 0, 1) := dk_3 (dk_at dksX4_loose_0 3 rfl rfl)
theorem dX4_loose_4 : decode cX4_loose 4 = .ok (.bipush 25, 2) := dk_16 25 (dk_at dksX4_loose_0 4 rfl rfl)
theorem dX4_loose_6 : decode cX4_loose 6 = .ok (.invokevirtual 217, 3) := dk_182 0 217 (dk_at dksX4_loose_0 6 rfl rfl)
theorem dX4_loose_9 : decode cX4_loose 9 = .ok (.ireturn, 1) := dk_172 (dk_at dksX4_loose_0 9 rfl rfl)
def dkwX4_changes_1 : List UInt8 := [182, 0, 214, 42, 180, 0, 35, 27, 46, 54, 5, 42, 180, 0, 35, 27, 28, 79, 21, 5, 172]
abbrev dktX4_changes_1 : List UInt8 := dkwX4_changes_1 ++ []
def dkwX4_changes_0 : List UInt8 := [28, 29, 21, 4, 184, 0, 123, 153, 0, 13, 42, 180, 0, 35, 27, 46, 28, 160, 0, 5, 2, 172, 42]
abbrev dktX4_changes_0 : List UInt8 := dkwX4_changes_0 ++ dktX4_changes_1
theorem dksX4_changes_0 : cX4_changes.data.toList.drop 0 = dktX4_changes_0 := by decide +kernel
theorem dksX4_changes_1 : cX4_changes.data.toList.drop 23 = dktX4_changes_1 := dk_seg dksX4_changes_0 23 rfl rfl
theorem dX4_changes_0 : decode cX4_changes 0 = .ok (.iload_n 2, 1) := dk_28 (dk_at dksX4_changes_0 0 rfl rfl)
theorem dX4_changes_1 : decode cX4_changes 1 = .ok (.iload_n 3, 1) := dk_29 (dk_at dksX4_changes_0 1 rfl rfl)
theorem dX4_changes_2 : decode cX4_changes 2 = .ok (.iload 4, 2) := dk_21 4 (dk_at dksX4_changes_0 2 rfl rfl)
theorem dX4_changes_4 : decode cX4_changes 4 = .ok (.invokestatic 123, 3) := dk_184 0 123 (dk_at dksX4_changes_0 4 rfl rfl)
theorem dX4_changes_7 : decode cX4_changes 7 = .ok (.ifCond .eq 13, 3) := dk_153 0 13 (dk_at dksX4_changes_0 7 rfl rfl)
theorem dX4_changes_10 : decode cX4_changes 10 = .ok (.aload_n 0, 1) := dk_42 (dk_at dksX4_changes_0 10 rfl rfl)
theorem dX4_changes_11 : decode cX4_changes 11 = .ok (.getfield 35, 3) := dk_180 0 35 (dk_at dksX4_changes_0 11 rfl rfl)
theorem dX4_changes_14 : decode cX4_changes 14 = .ok (.iload_n 1, 1) := dk_27 (dk_at dksX4_changes_0 14 rfl rfl)
theorem dX4_changes_15 : decode cX4_changes 15 = .ok (.iaload, 1) := dk_46 (dk_at dksX4_changes_0 15 rfl rfl)
theorem dX4_changes_16 : decode cX4_changes 16 = .ok (.iload_n 2, 1) := dk_28 (dk_at dksX4_changes_0 16 rfl rfl)
theorem dX4_changes_17 : decode cX4_changes 17 = .ok (.if_icmp .ne 5, 3) := dk_160 0 5 (dk_at dksX4_changes_0 17 rfl rfl)
theorem dX4_changes_20 : decode cX4_changes 20 = .ok (.iconst (-1), 1) := dk_2 (dk_at dksX4_changes_0 20 rfl rfl)
theorem dX4_changes_21 : decode cX4_changes 21 = .ok (.ireturn, 1) := dk_172 (dk_at dksX4_changes_0 21 rfl rfl)
theorem dX4_changes_22 : decode cX4_changes 22 = .ok (.aload_n 0, 1) := dk_42 (dk_at dksX4_changes_0 22 rfl rfl)
theorem dX4_changes_23 : decode cX4_changes 23 = .ok (.invokevirtual 214, 3) := dk_182 0 214 (dk_at dksX4_changes_1 0 rfl rfl)
theorem dX4_changes_26 : decode cX4_changes 26 = .ok (.aload_n 0, 1) := dk_42 (dk_at dksX4_changes_1 3 rfl rfl)
theorem dX4_changes_27 : decode cX4_changes 27 = .ok (.getfield 35, 3) := dk_180 0 35 (dk_at dksX4_changes_1 4 rfl rfl)
theorem dX4_changes_30 : decode cX4_changes 30 = .ok (.iload_n 1, 1) := dk_27 (dk_at dksX4_changes_1 7 rfl rfl)
theorem dX4_changes_31 : decode cX4_changes 31 = .ok (.iaload, 1) := dk_46 (dk_at dksX4_changes_1 8 rfl rfl)
theorem dX4_changes_32 : decode cX4_changes 32 = .ok (.istore 5, 2) := dk_54 5 (dk_at dksX4_changes_1 9 rfl rfl)
theorem dX4_changes_34 : decode cX4_changes 34 = .ok (.aload_n 0, 1) := dk_42 (dk_at dksX4_changes_1 11 rfl rfl)
theorem dX4_changes_35 : decode cX4_changes 35 = .ok (.getfield 35, 3) := dk_180 0 35 (dk_at dksX4_changes_1 12 rfl rfl)
theorem dX4_changes_38 : decode cX4_changes 38 = .ok (.iload_n 1, 1) := dk_27 (dk_at dksX4_changes_1 15 rfl rfl)
theorem dX4_changes_39 : decode cX4_changes 39 = .ok (.iload_n 2, 1) := dk_28 (dk_at dksX4_changes_1 16 rfl rfl)
theorem dX4_changes_40 : decode cX4_changes 40 = .ok (.iastore, 1) := dk_79 (dk_at dksX4_changes_1 17 rfl rfl)
theorem dX4_changes_41 : decode cX4_changes 41 = .ok (.iload 5, 2) := dk_21 5 (dk_at dksX4_changes_1 18 rfl rfl)
theorem dX4_changes_43 : decode cX4_changes 43 = .ok (.ireturn, 1) := dk_172 (dk_at dksX4_changes_1 20 rfl rfl)
def dkwX4_remembers_4 : List UInt8 := [181, 0, 181, 42, 3, 181, 0, 184, 177]
abbrev dktX4_remembers_4 : List UInt8 := dkwX4_remembers_4 ++ []
def dkwX4_remembers_3 : List UInt8 := [104, 27, 96, 42, 180, 0, 35, 27, 46, 79, 132, 1, 1, 167, 255, 225, 42, 89, 180, 0, 181, 4, 96]
abbrev dktX4_remembers_3 : List UInt8 := dkwX4_remembers_3 ++ dktX4_remembers_4
def dkwX4_remembers_2 : List UInt8 := [100, 181, 0, 181, 3, 60, 27, 17, 1, 204, 162, 0, 30, 42, 180, 0, 38, 17, 1, 204, 42, 180, 0, 181]
abbrev dktX4_remembers_2 : List UInt8 := dkwX4_remembers_2 ++ dktX4_remembers_3
def dkwX4_remembers_1 : List UInt8 := [27, 17, 1, 204, 100, 42, 180, 0, 38, 27, 46, 79, 132, 1, 1, 167, 255, 230, 42, 89, 180, 0, 181, 4]
abbrev dktX4_remembers_1 : List UInt8 := dkwX4_remembers_1 ++ dktX4_remembers_2
def dkwX4_remembers_0 : List UInt8 := [42, 180, 0, 181, 16, 20, 160, 0, 46, 17, 1, 204, 60, 27, 17, 35, 240, 162, 0, 25, 42, 180, 0, 38]
abbrev dktX4_remembers_0 : List UInt8 := dkwX4_remembers_0 ++ dktX4_remembers_1
theorem dksX4_remembers_0 : cX4_remembers.data.toList.drop 0 = dktX4_remembers_0 := by decide +kernel
theorem dksX4_remembers_1 : cX4_remembers.data.toList.drop 24 = dktX4_remembers_1 := dk_seg dksX4_remembers_0 24 rfl rfl
theorem dksX4_remembers_2 : cX4_remembers.data.toList.drop 48 = dktX4_remembers_2 := dk_seg dksX4_remembers_1 24 rfl rfl
theorem dksX4_remembers_3 : cX4_remembers.data.toList.drop 72 = dktX4_remembers_3 := dk_seg dksX4_remembers_2 24 rfl rfl
theorem dksX4_remembers_4 : cX4_remembers.data.toList.drop 95 = dktX4_remembers_4 := dk_seg dksX4_remembers_3 23 rfl rfl
theorem dX4_remembers_0 : decode cX4_remembers 0 = .ok (.aload_n 0, 1) := dk_42 (dk_at dksX4_remembers_0 0 rfl rfl)
theorem dX4_remembers_1 : decode cX4_remembers 1 = .ok (.getfield 181, 3) := dk_180 0 181 (dk_at dksX4_remembers_0 1 rfl rfl)
theorem dX4_remembers_4 : decode cX4_remembers 4 = .ok (.bipush 20, 2) := dk_16 20 (dk_at dksX4_remembers_0 4 rfl rfl)
theorem dX4_remembers_6 : decode cX4_remembers 6 = .ok (.if_icmp .ne 46, 3) := dk_160 0 46 (dk_at dksX4_remembers_0 6 rfl rfl)
theorem dX4_remembers_9 : decode cX4_remembers 9 = .ok (.sipush 460, 3) := dk_17 1 204 (dk_at dksX4_remembers_0 9 rfl rfl)
theorem dX4_remembers_12 : decode cX4_remembers 12 = .ok (.istore_n 1, 1) := dk_60 (dk_at dksX4_remembers_0 12 rfl rfl)
theorem dX4_remembers_13 : decode cX4_remembers 13 = .ok (.iload_n 1, 1) := dk_27 (dk_at dksX4_remembers_0 13 rfl rfl)
theorem dX4_remembers_14 : decode cX4_remembers 14 = .ok (.sipush 9200, 3) := dk_17 35 240 (dk_at dksX4_remembers_0 14 rfl rfl)
theorem dX4_remembers_17 : decode cX4_remembers 17 = .ok (.if_icmp .ge 25, 3) := dk_162 0 25 (dk_at dksX4_remembers_0 17 rfl rfl)
theorem dX4_remembers_20 : decode cX4_remembers 20 = .ok (.aload_n 0, 1) := dk_42 (dk_at dksX4_remembers_0 20 rfl rfl)
theorem dX4_remembers_21 : decode cX4_remembers 21 = .ok (.getfield 38, 3) := dk_180 0 38 (dk_at dksX4_remembers_0 21 rfl rfl)
theorem dX4_remembers_24 : decode cX4_remembers 24 = .ok (.iload_n 1, 1) := dk_27 (dk_at dksX4_remembers_1 0 rfl rfl)
theorem dX4_remembers_25 : decode cX4_remembers 25 = .ok (.sipush 460, 3) := dk_17 1 204 (dk_at dksX4_remembers_1 1 rfl rfl)
theorem dX4_remembers_28 : decode cX4_remembers 28 = .ok (.isub, 1) := dk_100 (dk_at dksX4_remembers_1 4 rfl rfl)
theorem dX4_remembers_29 : decode cX4_remembers 29 = .ok (.aload_n 0, 1) := dk_42 (dk_at dksX4_remembers_1 5 rfl rfl)
theorem dX4_remembers_30 : decode cX4_remembers 30 = .ok (.getfield 38, 3) := dk_180 0 38 (dk_at dksX4_remembers_1 6 rfl rfl)
theorem dX4_remembers_33 : decode cX4_remembers 33 = .ok (.iload_n 1, 1) := dk_27 (dk_at dksX4_remembers_1 9 rfl rfl)
theorem dX4_remembers_34 : decode cX4_remembers 34 = .ok (.iaload, 1) := dk_46 (dk_at dksX4_remembers_1 10 rfl rfl)
theorem dX4_remembers_35 : decode cX4_remembers 35 = .ok (.iastore, 1) := dk_79 (dk_at dksX4_remembers_1 11 rfl rfl)
theorem dX4_remembers_36 : decode cX4_remembers 36 = .ok (.iinc 1 1, 3) := dk_132 1 1 (dk_at dksX4_remembers_1 12 rfl rfl)
theorem dX4_remembers_39 : decode cX4_remembers 39 = .ok (.goto (-26), 3) := dk_167 255 230 (dk_at dksX4_remembers_1 15 rfl rfl)
theorem dX4_remembers_42 : decode cX4_remembers 42 = .ok (.aload_n 0, 1) := dk_42 (dk_at dksX4_remembers_1 18 rfl rfl)
theorem dX4_remembers_43 : decode cX4_remembers 43 = .ok (.dup, 1) := dk_89 (dk_at dksX4_remembers_1 19 rfl rfl)
theorem dX4_remembers_44 : decode cX4_remembers 44 = .ok (.getfield 181, 3) := dk_180 0 181 (dk_at dksX4_remembers_1 20 rfl rfl)
theorem dX4_remembers_47 : decode cX4_remembers 47 = .ok (.iconst 1, 1) := dk_4 (dk_at dksX4_remembers_1 23 rfl rfl)
theorem dX4_remembers_48 : decode cX4_remembers 48 = .ok (.isub, 1) := dk_100 (dk_at dksX4_remembers_2 0 rfl rfl)
theorem dX4_remembers_49 : decode cX4_remembers 49 = .ok (.putfield 181, 3) := dk_181 0 181 (dk_at dksX4_remembers_2 1 rfl rfl)
theorem dX4_remembers_52 : decode cX4_remembers 52 = .ok (.iconst 0, 1) := dk_3 (dk_at dksX4_remembers_2 4 rfl rfl)
theorem dX4_remembers_53 : decode cX4_remembers 53 = .ok (.istore_n 1, 1) := dk_60 (dk_at dksX4_remembers_2 5 rfl rfl)
theorem dX4_remembers_54 : decode cX4_remembers 54 = .ok (.iload_n 1, 1) := dk_27 (dk_at dksX4_remembers_2 6 rfl rfl)
theorem dX4_remembers_55 : decode cX4_remembers 55 = .ok (.sipush 460, 3) := dk_17 1 204 (dk_at dksX4_remembers_2 7 rfl rfl)
theorem dX4_remembers_58 : decode cX4_remembers 58 = .ok (.if_icmp .ge 30, 3) := dk_162 0 30 (dk_at dksX4_remembers_2 10 rfl rfl)
theorem dX4_remembers_61 : decode cX4_remembers 61 = .ok (.aload_n 0, 1) := dk_42 (dk_at dksX4_remembers_2 13 rfl rfl)
theorem dX4_remembers_62 : decode cX4_remembers 62 = .ok (.getfield 38, 3) := dk_180 0 38 (dk_at dksX4_remembers_2 14 rfl rfl)
theorem dX4_remembers_65 : decode cX4_remembers 65 = .ok (.sipush 460, 3) := dk_17 1 204 (dk_at dksX4_remembers_2 17 rfl rfl)
theorem dX4_remembers_68 : decode cX4_remembers 68 = .ok (.aload_n 0, 1) := dk_42 (dk_at dksX4_remembers_2 20 rfl rfl)
theorem dX4_remembers_69 : decode cX4_remembers 69 = .ok (.getfield 181, 3) := dk_180 0 181 (dk_at dksX4_remembers_2 21 rfl rfl)
theorem dX4_remembers_72 : decode cX4_remembers 72 = .ok (.imul, 1) := dk_104 (dk_at dksX4_remembers_3 0 rfl rfl)
theorem dX4_remembers_73 : decode cX4_remembers 73 = .ok (.iload_n 1, 1) := dk_27 (dk_at dksX4_remembers_3 1 rfl rfl)
theorem dX4_remembers_74 : decode cX4_remembers 74 = .ok (.iadd, 1) := dk_96 (dk_at dksX4_remembers_3 2 rfl rfl)
theorem dX4_remembers_75 : decode cX4_remembers 75 = .ok (.aload_n 0, 1) := dk_42 (dk_at dksX4_remembers_3 3 rfl rfl)
theorem dX4_remembers_76 : decode cX4_remembers 76 = .ok (.getfield 35, 3) := dk_180 0 35 (dk_at dksX4_remembers_3 4 rfl rfl)
theorem dX4_remembers_79 : decode cX4_remembers 79 = .ok (.iload_n 1, 1) := dk_27 (dk_at dksX4_remembers_3 7 rfl rfl)
theorem dX4_remembers_80 : decode cX4_remembers 80 = .ok (.iaload, 1) := dk_46 (dk_at dksX4_remembers_3 8 rfl rfl)
theorem dX4_remembers_81 : decode cX4_remembers 81 = .ok (.iastore, 1) := dk_79 (dk_at dksX4_remembers_3 9 rfl rfl)
theorem dX4_remembers_82 : decode cX4_remembers 82 = .ok (.iinc 1 1, 3) := dk_132 1 1 (dk_at dksX4_remembers_3 10 rfl rfl)
theorem dX4_remembers_85 : decode cX4_remembers 85 = .ok (.goto (-31), 3) := dk_167 255 225 (dk_at dksX4_remembers_3 13 rfl rfl)
theorem dX4_remembers_88 : decode cX4_remembers 88 = .ok (.aload_n 0, 1) := dk_42 (dk_at dksX4_remembers_3 16 rfl rfl)
theorem dX4_remembers_89 : decode cX4_remembers 89 = .ok (.dup, 1) := dk_89 (dk_at dksX4_remembers_3 17 rfl rfl)
theorem dX4_remembers_90 : decode cX4_remembers 90 = .ok (.getfield 181, 3) := dk_180 0 181 (dk_at dksX4_remembers_3 18 rfl rfl)
theorem dX4_remembers_93 : decode cX4_remembers 93 = .ok (.iconst 1, 1) := dk_4 (dk_at dksX4_remembers_3 21 rfl rfl)
theorem dX4_remembers_94 : decode cX4_remembers 94 = .ok (.iadd, 1) := dk_96 (dk_at dksX4_remembers_3 22 rfl rfl)
theorem dX4_remembers_95 : decode cX4_remembers 95 = .ok (.putfield 181, 3) := dk_181 0 181 (dk_at dksX4_remembers_4 0 rfl rfl)
theorem dX4_remembers_98 : decode cX4_remembers 98 = .ok (.aload_n 0, 1) := dk_42 (dk_at dksX4_remembers_4 3 rfl rfl)
theorem dX4_remembers_99 : decode cX4_remembers 99 = .ok (.iconst 0, 1) := dk_3 (dk_at dksX4_remembers_4 4 rfl rfl)
theorem dX4_remembers_100 : decode cX4_remembers 100 = .ok (.putfield 184, 3) := dk_181 0 184 (dk_at dksX4_remembers_4 5 rfl rfl)
theorem dX4_remembers_103 : decode cX4_remembers 103 = .ok (.return_, 1) := dk_177 (dk_at dksX4_remembers_4 8 rfl rfl)
def dkwX4_way_0 : List UInt8 := [42, 4, 27, 3, 6, 182, 0, 217, 172]
abbrev dktX4_way_0 : List UInt8 := dkwX4_way_0 ++ []
theorem dksX4_way_0 : cX4_way.data.toList.drop 0 = dktX4_way_0 := by decide +kernel
theorem dX4_way_0 : decode cX4_way 0 = .ok (.aload_n 0, 1) := dk_42 (dk_at dksX4_way_0 0 rfl rfl)
theorem dX4_way_1 : decode cX4_way 1 = .ok (.iconst 1, 1) := dk_4 (dk_at dksX4_way_0 1 rfl rfl)
theorem dX4_way_2 : decode cX4_way 2 = .ok (.iload_n 1, 1) := dk_27 (dk_at dksX4_way_0 2 rfl rfl)
theorem dX4_way_3 : decode cX4_way 3 = .ok (.iconst 0, 1) := dk_3 (dk_at dksX4_way_0 3 rfl rfl)
theorem dX4_way_4 : decode cX4_way 4 = .ok (.iconst 3, 1) := dk_6 (dk_at dksX4_way_0 4 rfl rfl)
theorem dX4_way_5 : decode cX4_way 5 = .ok (.invokevirtual 217, 3) := dk_182 0 217 (dk_at dksX4_way_0 5 rfl rfl)
theorem dX4_way_8 : decode cX4_way 8 = .ok (.ireturn, 1) := dk_172 (dk_at dksX4_way_0 8 rfl rfl)
def dkwX4_rise_0 : List UInt8 := [42, 5, 27, 4, 16, 9, 182, 0, 217, 172]
abbrev dktX4_rise_0 : List UInt8 := dkwX4_rise_0 ++ []
theorem dksX4_rise_0 : cX4_rise.data.toList.drop 0 = dktX4_rise_0 := by decide +kernel
theorem dX4_rise_0 : decode cX4_rise 0 = .ok (.aload_n 0, 1) := dk_42 (dk_at dksX4_rise_0 0 rfl rfl)
theorem dX4_rise_1 : decode cX4_rise 1 = .ok (.iconst 2, 1) := dk_5 (dk_at dksX4_rise_0 1 rfl rfl)
theorem dX4_rise_2 : decode cX4_rise 2 = .ok (.iload_n 1, 1) := dk_27 (dk_at dksX4_rise_0 2 rfl rfl)
theorem dX4_rise_3 : decode cX4_rise 3 = .ok (.iconst 1, 1) := dk_4 (dk_at dksX4_rise_0 3 rfl rfl)
theorem dX4_rise_4 : decode cX4_rise 4 = .ok (.bipush 9, 2) := dk_16 9 (dk_at dksX4_rise_0 4 rfl rfl)
theorem dX4_rise_6 : decode cX4_rise 6 = .ok (.invokevirtual 217, 3) := dk_182 0 217 (dk_at dksX4_rise_0 6 rfl rfl)
theorem dX4_rise_9 : decode cX4_rise 9 = .ok (.ireturn, 1) := dk_172 (dk_at dksX4_rise_0 9 rfl rfl)
def dkwX4_alike_0 : List UInt8 := [42, 27, 28, 4, 29, 182, 0, 231, 172]
abbrev dktX4_alike_0 : List UInt8 := dkwX4_alike_0 ++ []
theorem dksX4_alike_0 : cX4_alike.data.toList.drop 0 = dktX4_alike_0 := by decide +kernel
theorem dX4_alike_0 : decode cX4_alike 0 = .ok (.aload_n 0, 1) := dk_42 (dk_at dksX4_alike_0 0 rfl rfl)
theorem dX4_alike_1 : decode cX4_alike 1 = .ok (.iload_n 1, 1) := dk_27 (dk_at dksX4_alike_0 1 rfl rfl)
theorem dX4_alike_2 : decode cX4_alike 2 = .ok (.iload_n 2, 1) := dk_28 (dk_at dksX4_alike_0 2 rfl rfl)
theorem dX4_alike_3 : decode cX4_alike 3 = .ok (.iconst 1, 1) := dk_4 (dk_at dksX4_alike_0 3 rfl rfl)
theorem dX4_alike_4 : decode cX4_alike 4 = .ok (.iload_n 3, 1) := dk_29 (dk_at dksX4_alike_0 4 rfl rfl)
theorem dX4_alike_5 : decode cX4_alike 5 = .ok (.invokevirtual 231, 3) := dk_182 0 231 (dk_at dksX4_alike_0 5 rfl rfl)
theorem dX4_alike_8 : decode cX4_alike 8 = .ok (.ireturn, 1) := dk_172 (dk_at dksX4_alike_0 8 rfl rfl)
def dkwX4_tellsTwo_3 : List UInt8 := [79, 4, 172]
abbrev dktX4_tellsTwo_3 : List UInt8 := dkwX4_tellsTwo_3 ++ []
def dkwX4_tellsTwo_2 : List UInt8 := [172, 42, 182, 0, 214, 42, 180, 0, 35, 27, 28, 184, 0, 228, 21, 4, 153, 0, 7, 29, 167, 0, 4, 3]
abbrev dktX4_tellsTwo_2 : List UInt8 := dkwX4_tellsTwo_2 ++ dktX4_tellsTwo_3
def dkwX4_tellsTwo_1 : List UInt8 := [180, 0, 35, 27, 28, 184, 0, 228, 46, 29, 160, 0, 7, 4, 167, 0, 4, 3, 21, 4, 160, 0, 5, 3]
abbrev dktX4_tellsTwo_1 : List UInt8 := dkwX4_tellsTwo_1 ++ dktX4_tellsTwo_2
def dkwX4_tellsTwo_0 : List UInt8 := [42, 27, 182, 0, 224, 153, 0, 40, 42, 28, 182, 0, 224, 153, 0, 32, 27, 28, 159, 0, 27, 42]
abbrev dktX4_tellsTwo_0 : List UInt8 := dkwX4_tellsTwo_0 ++ dktX4_tellsTwo_1
theorem dksX4_tellsTwo_0 : cX4_tellsTwo.data.toList.drop 0 = dktX4_tellsTwo_0 := by decide +kernel
theorem dksX4_tellsTwo_1 : cX4_tellsTwo.data.toList.drop 22 = dktX4_tellsTwo_1 := dk_seg dksX4_tellsTwo_0 22 rfl rfl
theorem dksX4_tellsTwo_2 : cX4_tellsTwo.data.toList.drop 46 = dktX4_tellsTwo_2 := dk_seg dksX4_tellsTwo_1 24 rfl rfl
theorem dksX4_tellsTwo_3 : cX4_tellsTwo.data.toList.drop 70 = dktX4_tellsTwo_3 := dk_seg dksX4_tellsTwo_2 24 rfl rfl
theorem dX4_tellsTwo_0 : decode cX4_tellsTwo 0 = .ok (.aload_n 0, 1) := dk_42 (dk_at dksX4_tellsTwo_0 0 rfl rfl)
theorem dX4_tellsTwo_1 : decode cX4_tellsTwo 1 = .ok (.iload_n 1, 1) := dk_27 (dk_at dksX4_tellsTwo_0 1 rfl rfl)
theorem dX4_tellsTwo_2 : decode cX4_tellsTwo 2 = .ok (.invokevirtual 224, 3) := dk_182 0 224 (dk_at dksX4_tellsTwo_0 2 rfl rfl)
theorem dX4_tellsTwo_5 : decode cX4_tellsTwo 5 = .ok (.ifCond .eq 40, 3) := dk_153 0 40 (dk_at dksX4_tellsTwo_0 5 rfl rfl)
theorem dX4_tellsTwo_8 : decode cX4_tellsTwo 8 = .ok (.aload_n 0, 1) := dk_42 (dk_at dksX4_tellsTwo_0 8 rfl rfl)
theorem dX4_tellsTwo_9 : decode cX4_tellsTwo 9 = .ok (.iload_n 2, 1) := dk_28 (dk_at dksX4_tellsTwo_0 9 rfl rfl)
theorem dX4_tellsTwo_10 : decode cX4_tellsTwo 10 = .ok (.invokevirtual 224, 3) := dk_182 0 224 (dk_at dksX4_tellsTwo_0 10 rfl rfl)
theorem dX4_tellsTwo_13 : decode cX4_tellsTwo 13 = .ok (.ifCond .eq 32, 3) := dk_153 0 32 (dk_at dksX4_tellsTwo_0 13 rfl rfl)
theorem dX4_tellsTwo_16 : decode cX4_tellsTwo 16 = .ok (.iload_n 1, 1) := dk_27 (dk_at dksX4_tellsTwo_0 16 rfl rfl)
theorem dX4_tellsTwo_17 : decode cX4_tellsTwo 17 = .ok (.iload_n 2, 1) := dk_28 (dk_at dksX4_tellsTwo_0 17 rfl rfl)
theorem dX4_tellsTwo_18 : decode cX4_tellsTwo 18 = .ok (.if_icmp .eq 27, 3) := dk_159 0 27 (dk_at dksX4_tellsTwo_0 18 rfl rfl)
theorem dX4_tellsTwo_21 : decode cX4_tellsTwo 21 = .ok (.aload_n 0, 1) := dk_42 (dk_at dksX4_tellsTwo_0 21 rfl rfl)
theorem dX4_tellsTwo_22 : decode cX4_tellsTwo 22 = .ok (.getfield 35, 3) := dk_180 0 35 (dk_at dksX4_tellsTwo_1 0 rfl rfl)
theorem dX4_tellsTwo_25 : decode cX4_tellsTwo 25 = .ok (.iload_n 1, 1) := dk_27 (dk_at dksX4_tellsTwo_1 3 rfl rfl)
theorem dX4_tellsTwo_26 : decode cX4_tellsTwo 26 = .ok (.iload_n 2, 1) := dk_28 (dk_at dksX4_tellsTwo_1 4 rfl rfl)
theorem dX4_tellsTwo_27 : decode cX4_tellsTwo 27 = .ok (.invokestatic 228, 3) := dk_184 0 228 (dk_at dksX4_tellsTwo_1 5 rfl rfl)
theorem dX4_tellsTwo_30 : decode cX4_tellsTwo 30 = .ok (.iaload, 1) := dk_46 (dk_at dksX4_tellsTwo_1 8 rfl rfl)
theorem dX4_tellsTwo_31 : decode cX4_tellsTwo 31 = .ok (.iload_n 3, 1) := dk_29 (dk_at dksX4_tellsTwo_1 9 rfl rfl)
theorem dX4_tellsTwo_32 : decode cX4_tellsTwo 32 = .ok (.if_icmp .ne 7, 3) := dk_160 0 7 (dk_at dksX4_tellsTwo_1 10 rfl rfl)
theorem dX4_tellsTwo_35 : decode cX4_tellsTwo 35 = .ok (.iconst 1, 1) := dk_4 (dk_at dksX4_tellsTwo_1 13 rfl rfl)
theorem dX4_tellsTwo_36 : decode cX4_tellsTwo 36 = .ok (.goto 4, 3) := dk_167 0 4 (dk_at dksX4_tellsTwo_1 14 rfl rfl)
theorem dX4_tellsTwo_39 : decode cX4_tellsTwo 39 = .ok (.iconst 0, 1) := dk_3 (dk_at dksX4_tellsTwo_1 17 rfl rfl)
theorem dX4_tellsTwo_40 : decode cX4_tellsTwo 40 = .ok (.iload 4, 2) := dk_21 4 (dk_at dksX4_tellsTwo_1 18 rfl rfl)
theorem dX4_tellsTwo_42 : decode cX4_tellsTwo 42 = .ok (.if_icmp .ne 5, 3) := dk_160 0 5 (dk_at dksX4_tellsTwo_1 20 rfl rfl)
theorem dX4_tellsTwo_45 : decode cX4_tellsTwo 45 = .ok (.iconst 0, 1) := dk_3 (dk_at dksX4_tellsTwo_1 23 rfl rfl)
theorem dX4_tellsTwo_46 : decode cX4_tellsTwo 46 = .ok (.ireturn, 1) := dk_172 (dk_at dksX4_tellsTwo_2 0 rfl rfl)
theorem dX4_tellsTwo_47 : decode cX4_tellsTwo 47 = .ok (.aload_n 0, 1) := dk_42 (dk_at dksX4_tellsTwo_2 1 rfl rfl)
theorem dX4_tellsTwo_48 : decode cX4_tellsTwo 48 = .ok (.invokevirtual 214, 3) := dk_182 0 214 (dk_at dksX4_tellsTwo_2 2 rfl rfl)
theorem dX4_tellsTwo_51 : decode cX4_tellsTwo 51 = .ok (.aload_n 0, 1) := dk_42 (dk_at dksX4_tellsTwo_2 5 rfl rfl)
theorem dX4_tellsTwo_52 : decode cX4_tellsTwo 52 = .ok (.getfield 35, 3) := dk_180 0 35 (dk_at dksX4_tellsTwo_2 6 rfl rfl)
theorem dX4_tellsTwo_55 : decode cX4_tellsTwo 55 = .ok (.iload_n 1, 1) := dk_27 (dk_at dksX4_tellsTwo_2 9 rfl rfl)
theorem dX4_tellsTwo_56 : decode cX4_tellsTwo 56 = .ok (.iload_n 2, 1) := dk_28 (dk_at dksX4_tellsTwo_2 10 rfl rfl)
theorem dX4_tellsTwo_57 : decode cX4_tellsTwo 57 = .ok (.invokestatic 228, 3) := dk_184 0 228 (dk_at dksX4_tellsTwo_2 11 rfl rfl)
theorem dX4_tellsTwo_60 : decode cX4_tellsTwo 60 = .ok (.iload 4, 2) := dk_21 4 (dk_at dksX4_tellsTwo_2 14 rfl rfl)
theorem dX4_tellsTwo_62 : decode cX4_tellsTwo 62 = .ok (.ifCond .eq 7, 3) := dk_153 0 7 (dk_at dksX4_tellsTwo_2 16 rfl rfl)
theorem dX4_tellsTwo_65 : decode cX4_tellsTwo 65 = .ok (.iload_n 3, 1) := dk_29 (dk_at dksX4_tellsTwo_2 19 rfl rfl)
theorem dX4_tellsTwo_66 : decode cX4_tellsTwo 66 = .ok (.goto 4, 3) := dk_167 0 4 (dk_at dksX4_tellsTwo_2 20 rfl rfl)
theorem dX4_tellsTwo_69 : decode cX4_tellsTwo 69 = .ok (.iconst 0, 1) := dk_3 (dk_at dksX4_tellsTwo_2 23 rfl rfl)
theorem dX4_tellsTwo_70 : decode cX4_tellsTwo 70 = .ok (.iastore, 1) := dk_79 (dk_at dksX4_tellsTwo_3 0 rfl rfl)
theorem dX4_tellsTwo_71 : decode cX4_tellsTwo 71 = .ok (.iconst 1, 1) := dk_4 (dk_at dksX4_tellsTwo_3 1 rfl rfl)
theorem dX4_tellsTwo_72 : decode cX4_tellsTwo 72 = .ok (.ireturn, 1) := dk_172 (dk_at dksX4_tellsTwo_3 2 rfl rfl)
def dkwX4_isForm_0 : List UInt8 := [27, 3, 42, 180, 0, 162, 4, 100, 184, 0, 123, 172]
abbrev dktX4_isForm_0 : List UInt8 := dkwX4_isForm_0 ++ []
theorem dksX4_isForm_0 : cX4_isForm.data.toList.drop 0 = dktX4_isForm_0 := by decide +kernel
theorem dX4_isForm_0 : decode cX4_isForm 0 = .ok (.iload_n 1, 1) := dk_27 (dk_at dksX4_isForm_0 0 rfl rfl)
theorem dX4_isForm_1 : decode cX4_isForm 1 = .ok (.iconst 0, 1) := dk_3 (dk_at dksX4_isForm_0 1 rfl rfl)
theorem dX4_isForm_2 : decode cX4_isForm 2 = .ok (.aload_n 0, 1) := dk_42 (dk_at dksX4_isForm_0 2 rfl rfl)
theorem dX4_isForm_3 : decode cX4_isForm 3 = .ok (.getfield 162, 3) := dk_180 0 162 (dk_at dksX4_isForm_0 3 rfl rfl)
theorem dX4_isForm_6 : decode cX4_isForm 6 = .ok (.iconst 1, 1) := dk_4 (dk_at dksX4_isForm_0 6 rfl rfl)
theorem dX4_isForm_7 : decode cX4_isForm 7 = .ok (.isub, 1) := dk_100 (dk_at dksX4_isForm_0 7 rfl rfl)
theorem dX4_isForm_8 : decode cX4_isForm 8 = .ok (.invokestatic 123, 3) := dk_184 0 123 (dk_at dksX4_isForm_0 8 rfl rfl)
theorem dX4_isForm_11 : decode cX4_isForm 11 = .ok (.ireturn, 1) := dk_172 (dk_at dksX4_isForm_0 11 rfl rfl)
def dkwX4_twoAt_0 : List UInt8 := [16, 24, 16, 20, 26, 27, 184, 0, 138, 104, 96, 26, 27, 184, 0, 221, 96, 172]
abbrev dktX4_twoAt_0 : List UInt8 := dkwX4_twoAt_0 ++ []
theorem dksX4_twoAt_0 : cX4_twoAt.data.toList.drop 0 = dktX4_twoAt_0 := by decide +kernel
theorem dX4_twoAt_0 : decode cX4_twoAt 0 = .ok (.bipush 24, 2) := dk_16 24 (dk_at dksX4_twoAt_0 0 rfl rfl)
theorem dX4_twoAt_2 : decode cX4_twoAt 2 = .ok (.bipush 20, 2) := dk_16 20 (dk_at dksX4_twoAt_0 2 rfl rfl)
theorem dX4_twoAt_4 : decode cX4_twoAt 4 = .ok (.iload_n 0, 1) := dk_26 (dk_at dksX4_twoAt_0 4 rfl rfl)
theorem dX4_twoAt_5 : decode cX4_twoAt 5 = .ok (.iload_n 1, 1) := dk_27 (dk_at dksX4_twoAt_0 5 rfl rfl)
theorem dX4_twoAt_6 : decode cX4_twoAt 6 = .ok (.invokestatic 138, 3) := dk_184 0 138 (dk_at dksX4_twoAt_0 6 rfl rfl)
theorem dX4_twoAt_9 : decode cX4_twoAt 9 = .ok (.imul, 1) := dk_104 (dk_at dksX4_twoAt_0 9 rfl rfl)
theorem dX4_twoAt_10 : decode cX4_twoAt 10 = .ok (.iadd, 1) := dk_96 (dk_at dksX4_twoAt_0 10 rfl rfl)
theorem dX4_twoAt_11 : decode cX4_twoAt 11 = .ok (.iload_n 0, 1) := dk_26 (dk_at dksX4_twoAt_0 11 rfl rfl)
theorem dX4_twoAt_12 : decode cX4_twoAt 12 = .ok (.iload_n 1, 1) := dk_27 (dk_at dksX4_twoAt_0 12 rfl rfl)
theorem dX4_twoAt_13 : decode cX4_twoAt 13 = .ok (.invokestatic 221, 3) := dk_184 0 221 (dk_at dksX4_twoAt_0 13 rfl rfl)
theorem dX4_twoAt_16 : decode cX4_twoAt 16 = .ok (.iadd, 1) := dk_96 (dk_at dksX4_twoAt_0 16 rfl rfl)
theorem dX4_twoAt_17 : decode cX4_twoAt 17 = .ok (.ireturn, 1) := dk_172 (dk_at dksX4_twoAt_0 17 rfl rfl)
def dkwX4_apart_0 : List UInt8 := [42, 27, 28, 5, 29, 182, 0, 231, 172]
abbrev dktX4_apart_0 : List UInt8 := dkwX4_apart_0 ++ []
theorem dksX4_apart_0 : cX4_apart.data.toList.drop 0 = dktX4_apart_0 := by decide +kernel
theorem dX4_apart_0 : decode cX4_apart 0 = .ok (.aload_n 0, 1) := dk_42 (dk_at dksX4_apart_0 0 rfl rfl)
theorem dX4_apart_1 : decode cX4_apart 1 = .ok (.iload_n 1, 1) := dk_27 (dk_at dksX4_apart_0 1 rfl rfl)
theorem dX4_apart_2 : decode cX4_apart 2 = .ok (.iload_n 2, 1) := dk_28 (dk_at dksX4_apart_0 2 rfl rfl)
theorem dX4_apart_3 : decode cX4_apart 3 = .ok (.iconst 2, 1) := dk_5 (dk_at dksX4_apart_0 3 rfl rfl)
theorem dX4_apart_4 : decode cX4_apart 4 = .ok (.iload_n 3, 1) := dk_29 (dk_at dksX4_apart_0 4 rfl rfl)
theorem dX4_apart_5 : decode cX4_apart 5 = .ok (.invokevirtual 231, 3) := dk_182 0 231 (dk_at dksX4_apart_0 5 rfl rfl)
theorem dX4_apart_8 : decode cX4_apart 8 = .ok (.ireturn, 1) := dk_172 (dk_at dksX4_apart_0 8 rfl rfl)
def dkwX4_clue_5 : List UInt8 := [96, 79, 42, 180, 0, 35, 6, 46, 172]
abbrev dktX4_clue_5 : List UInt8 := dkwX4_clue_5 ++ []
def dkwX4_clue_4 : List UInt8 := [96, 28, 79, 42, 180, 0, 35, 21, 4, 5, 96, 29, 184, 0, 177, 79, 42, 180, 0, 35, 6, 92, 46, 4]
abbrev dktX4_clue_4 : List UInt8 := dkwX4_clue_4 ++ dktX4_clue_5
def dkwX4_clue_3 : List UInt8 := [180, 0, 35, 6, 46, 104, 96, 54, 4, 42, 180, 0, 35, 21, 4, 27, 79, 42, 180, 0, 35, 21, 4, 4]
abbrev dktX4_clue_3 : List UInt8 := dkwX4_clue_3 ++ dktX4_clue_4
def dkwX4_clue_2 : List UInt8 := [42, 180, 0, 35, 6, 46, 16, 12, 160, 0, 5, 2, 172, 42, 182, 0, 214, 17, 1, 168, 6, 42]
abbrev dktX4_clue_2 : List UInt8 := dkwX4_clue_2 ++ dktX4_clue_3
def dkwX4_clue_1 : List UInt8 := [180, 0, 41, 27, 46, 42, 180, 0, 41, 28, 46, 159, 0, 24, 42, 27, 28, 29, 182, 0, 238, 154, 0, 14]
abbrev dktX4_clue_1 : List UInt8 := dkwX4_clue_1 ++ dktX4_clue_2
def dkwX4_clue_0 : List UInt8 := [42, 27, 182, 0, 224, 153, 0, 11, 42, 28, 182, 0, 224, 154, 0, 5, 2, 172, 42, 182, 0, 235, 42]
abbrev dktX4_clue_0 : List UInt8 := dkwX4_clue_0 ++ dktX4_clue_1
theorem dksX4_clue_0 : cX4_clue.data.toList.drop 0 = dktX4_clue_0 := by decide +kernel
theorem dksX4_clue_1 : cX4_clue.data.toList.drop 23 = dktX4_clue_1 := dk_seg dksX4_clue_0 23 rfl rfl
theorem dksX4_clue_2 : cX4_clue.data.toList.drop 47 = dktX4_clue_2 := dk_seg dksX4_clue_1 24 rfl rfl
theorem dksX4_clue_3 : cX4_clue.data.toList.drop 69 = dktX4_clue_3 := dk_seg dksX4_clue_2 22 rfl rfl
theorem dksX4_clue_4 : cX4_clue.data.toList.drop 93 = dktX4_clue_4 := dk_seg dksX4_clue_3 24 rfl rfl
theorem dksX4_clue_5 : cX4_clue.data.toList.drop 117 = dktX4_clue_5 := dk_seg dksX4_clue_4 24 rfl rfl
theorem dX4_clue_0 : decode cX4_clue 0 = .ok (.aload_n 0, 1) := dk_42 (dk_at dksX4_clue_0 0 rfl rfl)
theorem dX4_clue_1 : decode cX4_clue 1 = .ok (.iload_n 1, 1) := dk_27 (dk_at dksX4_clue_0 1 rfl rfl)
theorem dX4_clue_2 : decode cX4_clue 2 = .ok (.invokevirtual 224, 3) := dk_182 0 224 (dk_at dksX4_clue_0 2 rfl rfl)
theorem dX4_clue_5 : decode cX4_clue 5 = .ok (.ifCond .eq 11, 3) := dk_153 0 11 (dk_at dksX4_clue_0 5 rfl rfl)
theorem dX4_clue_8 : decode cX4_clue 8 = .ok (.aload_n 0, 1) := dk_42 (dk_at dksX4_clue_0 8 rfl rfl)
theorem dX4_clue_9 : decode cX4_clue 9 = .ok (.iload_n 2, 1) := dk_28 (dk_at dksX4_clue_0 9 rfl rfl)
theorem dX4_clue_10 : decode cX4_clue 10 = .ok (.invokevirtual 224, 3) := dk_182 0 224 (dk_at dksX4_clue_0 10 rfl rfl)
theorem dX4_clue_13 : decode cX4_clue 13 = .ok (.ifCond .ne 5, 3) := dk_154 0 5 (dk_at dksX4_clue_0 13 rfl rfl)
theorem dX4_clue_16 : decode cX4_clue 16 = .ok (.iconst (-1), 1) := dk_2 (dk_at dksX4_clue_0 16 rfl rfl)
theorem dX4_clue_17 : decode cX4_clue 17 = .ok (.ireturn, 1) := dk_172 (dk_at dksX4_clue_0 17 rfl rfl)
theorem dX4_clue_18 : decode cX4_clue 18 = .ok (.aload_n 0, 1) := dk_42 (dk_at dksX4_clue_0 18 rfl rfl)
theorem dX4_clue_19 : decode cX4_clue 19 = .ok (.invokevirtual 235, 3) := dk_182 0 235 (dk_at dksX4_clue_0 19 rfl rfl)
theorem dX4_clue_22 : decode cX4_clue 22 = .ok (.aload_n 0, 1) := dk_42 (dk_at dksX4_clue_0 22 rfl rfl)
theorem dX4_clue_23 : decode cX4_clue 23 = .ok (.getfield 41, 3) := dk_180 0 41 (dk_at dksX4_clue_1 0 rfl rfl)
theorem dX4_clue_26 : decode cX4_clue 26 = .ok (.iload_n 1, 1) := dk_27 (dk_at dksX4_clue_1 3 rfl rfl)
theorem dX4_clue_27 : decode cX4_clue 27 = .ok (.iaload, 1) := dk_46 (dk_at dksX4_clue_1 4 rfl rfl)
theorem dX4_clue_28 : decode cX4_clue 28 = .ok (.aload_n 0, 1) := dk_42 (dk_at dksX4_clue_1 5 rfl rfl)
theorem dX4_clue_29 : decode cX4_clue 29 = .ok (.getfield 41, 3) := dk_180 0 41 (dk_at dksX4_clue_1 6 rfl rfl)
theorem dX4_clue_32 : decode cX4_clue 32 = .ok (.iload_n 2, 1) := dk_28 (dk_at dksX4_clue_1 9 rfl rfl)
theorem dX4_clue_33 : decode cX4_clue 33 = .ok (.iaload, 1) := dk_46 (dk_at dksX4_clue_1 10 rfl rfl)
theorem dX4_clue_34 : decode cX4_clue 34 = .ok (.if_icmp .eq 24, 3) := dk_159 0 24 (dk_at dksX4_clue_1 11 rfl rfl)
theorem dX4_clue_37 : decode cX4_clue 37 = .ok (.aload_n 0, 1) := dk_42 (dk_at dksX4_clue_1 14 rfl rfl)
theorem dX4_clue_38 : decode cX4_clue 38 = .ok (.iload_n 1, 1) := dk_27 (dk_at dksX4_clue_1 15 rfl rfl)
theorem dX4_clue_39 : decode cX4_clue 39 = .ok (.iload_n 2, 1) := dk_28 (dk_at dksX4_clue_1 16 rfl rfl)
theorem dX4_clue_40 : decode cX4_clue 40 = .ok (.iload_n 3, 1) := dk_29 (dk_at dksX4_clue_1 17 rfl rfl)
theorem dX4_clue_41 : decode cX4_clue 41 = .ok (.invokevirtual 238, 3) := dk_182 0 238 (dk_at dksX4_clue_1 18 rfl rfl)
theorem dX4_clue_44 : decode cX4_clue 44 = .ok (.ifCond .ne 14, 3) := dk_154 0 14 (dk_at dksX4_clue_1 21 rfl rfl)
theorem dX4_clue_47 : decode cX4_clue 47 = .ok (.aload_n 0, 1) := dk_42 (dk_at dksX4_clue_2 0 rfl rfl)
theorem dX4_clue_48 : decode cX4_clue 48 = .ok (.getfield 35, 3) := dk_180 0 35 (dk_at dksX4_clue_2 1 rfl rfl)
theorem dX4_clue_51 : decode cX4_clue 51 = .ok (.iconst 3, 1) := dk_6 (dk_at dksX4_clue_2 4 rfl rfl)
theorem dX4_clue_52 : decode cX4_clue 52 = .ok (.iaload, 1) := dk_46 (dk_at dksX4_clue_2 5 rfl rfl)
theorem dX4_clue_53 : decode cX4_clue 53 = .ok (.bipush 12, 2) := dk_16 12 (dk_at dksX4_clue_2 6 rfl rfl)
theorem dX4_clue_55 : decode cX4_clue 55 = .ok (.if_icmp .ne 5, 3) := dk_160 0 5 (dk_at dksX4_clue_2 8 rfl rfl)
theorem dX4_clue_58 : decode cX4_clue 58 = .ok (.iconst (-1), 1) := dk_2 (dk_at dksX4_clue_2 11 rfl rfl)
theorem dX4_clue_59 : decode cX4_clue 59 = .ok (.ireturn, 1) := dk_172 (dk_at dksX4_clue_2 12 rfl rfl)
theorem dX4_clue_60 : decode cX4_clue 60 = .ok (.aload_n 0, 1) := dk_42 (dk_at dksX4_clue_2 13 rfl rfl)
theorem dX4_clue_61 : decode cX4_clue 61 = .ok (.invokevirtual 214, 3) := dk_182 0 214 (dk_at dksX4_clue_2 14 rfl rfl)
theorem dX4_clue_64 : decode cX4_clue 64 = .ok (.sipush 424, 3) := dk_17 1 168 (dk_at dksX4_clue_2 17 rfl rfl)
theorem dX4_clue_67 : decode cX4_clue 67 = .ok (.iconst 3, 1) := dk_6 (dk_at dksX4_clue_2 20 rfl rfl)
theorem dX4_clue_68 : decode cX4_clue 68 = .ok (.aload_n 0, 1) := dk_42 (dk_at dksX4_clue_2 21 rfl rfl)
theorem dX4_clue_69 : decode cX4_clue 69 = .ok (.getfield 35, 3) := dk_180 0 35 (dk_at dksX4_clue_3 0 rfl rfl)
theorem dX4_clue_72 : decode cX4_clue 72 = .ok (.iconst 3, 1) := dk_6 (dk_at dksX4_clue_3 3 rfl rfl)
theorem dX4_clue_73 : decode cX4_clue 73 = .ok (.iaload, 1) := dk_46 (dk_at dksX4_clue_3 4 rfl rfl)
theorem dX4_clue_74 : decode cX4_clue 74 = .ok (.imul, 1) := dk_104 (dk_at dksX4_clue_3 5 rfl rfl)
theorem dX4_clue_75 : decode cX4_clue 75 = .ok (.iadd, 1) := dk_96 (dk_at dksX4_clue_3 6 rfl rfl)
theorem dX4_clue_76 : decode cX4_clue 76 = .ok (.istore 4, 2) := dk_54 4 (dk_at dksX4_clue_3 7 rfl rfl)
theorem dX4_clue_78 : decode cX4_clue 78 = .ok (.aload_n 0, 1) := dk_42 (dk_at dksX4_clue_3 9 rfl rfl)
theorem dX4_clue_79 : decode cX4_clue 79 = .ok (.getfield 35, 3) := dk_180 0 35 (dk_at dksX4_clue_3 10 rfl rfl)
theorem dX4_clue_82 : decode cX4_clue 82 = .ok (.iload 4, 2) := dk_21 4 (dk_at dksX4_clue_3 13 rfl rfl)
theorem dX4_clue_84 : decode cX4_clue 84 = .ok (.iload_n 1, 1) := dk_27 (dk_at dksX4_clue_3 15 rfl rfl)
theorem dX4_clue_85 : decode cX4_clue 85 = .ok (.iastore, 1) := dk_79 (dk_at dksX4_clue_3 16 rfl rfl)
theorem dX4_clue_86 : decode cX4_clue 86 = .ok (.aload_n 0, 1) := dk_42 (dk_at dksX4_clue_3 17 rfl rfl)
theorem dX4_clue_87 : decode cX4_clue 87 = .ok (.getfield 35, 3) := dk_180 0 35 (dk_at dksX4_clue_3 18 rfl rfl)
theorem dX4_clue_90 : decode cX4_clue 90 = .ok (.iload 4, 2) := dk_21 4 (dk_at dksX4_clue_3 21 rfl rfl)
theorem dX4_clue_92 : decode cX4_clue 92 = .ok (.iconst 1, 1) := dk_4 (dk_at dksX4_clue_3 23 rfl rfl)
theorem dX4_clue_93 : decode cX4_clue 93 = .ok (.iadd, 1) := dk_96 (dk_at dksX4_clue_4 0 rfl rfl)
theorem dX4_clue_94 : decode cX4_clue 94 = .ok (.iload_n 2, 1) := dk_28 (dk_at dksX4_clue_4 1 rfl rfl)
theorem dX4_clue_95 : decode cX4_clue 95 = .ok (.iastore, 1) := dk_79 (dk_at dksX4_clue_4 2 rfl rfl)
theorem dX4_clue_96 : decode cX4_clue 96 = .ok (.aload_n 0, 1) := dk_42 (dk_at dksX4_clue_4 3 rfl rfl)
theorem dX4_clue_97 : decode cX4_clue 97 = .ok (.getfield 35, 3) := dk_180 0 35 (dk_at dksX4_clue_4 4 rfl rfl)
theorem dX4_clue_100 : decode cX4_clue 100 = .ok (.iload 4, 2) := dk_21 4 (dk_at dksX4_clue_4 7 rfl rfl)
theorem dX4_clue_102 : decode cX4_clue 102 = .ok (.iconst 2, 1) := dk_5 (dk_at dksX4_clue_4 9 rfl rfl)
theorem dX4_clue_103 : decode cX4_clue 103 = .ok (.iadd, 1) := dk_96 (dk_at dksX4_clue_4 10 rfl rfl)
theorem dX4_clue_104 : decode cX4_clue 104 = .ok (.iload_n 3, 1) := dk_29 (dk_at dksX4_clue_4 11 rfl rfl)
theorem dX4_clue_105 : decode cX4_clue 105 = .ok (.invokestatic 177, 3) := dk_184 0 177 (dk_at dksX4_clue_4 12 rfl rfl)
theorem dX4_clue_108 : decode cX4_clue 108 = .ok (.iastore, 1) := dk_79 (dk_at dksX4_clue_4 15 rfl rfl)
theorem dX4_clue_109 : decode cX4_clue 109 = .ok (.aload_n 0, 1) := dk_42 (dk_at dksX4_clue_4 16 rfl rfl)
theorem dX4_clue_110 : decode cX4_clue 110 = .ok (.getfield 35, 3) := dk_180 0 35 (dk_at dksX4_clue_4 17 rfl rfl)
theorem dX4_clue_113 : decode cX4_clue 113 = .ok (.iconst 3, 1) := dk_6 (dk_at dksX4_clue_4 20 rfl rfl)
theorem dX4_clue_114 : decode cX4_clue 114 = .ok (.dup2, 1) := dk_92 (dk_at dksX4_clue_4 21 rfl rfl)
theorem dX4_clue_115 : decode cX4_clue 115 = .ok (.iaload, 1) := dk_46 (dk_at dksX4_clue_4 22 rfl rfl)
theorem dX4_clue_116 : decode cX4_clue 116 = .ok (.iconst 1, 1) := dk_4 (dk_at dksX4_clue_4 23 rfl rfl)
theorem dX4_clue_117 : decode cX4_clue 117 = .ok (.iadd, 1) := dk_96 (dk_at dksX4_clue_5 0 rfl rfl)
theorem dX4_clue_118 : decode cX4_clue 118 = .ok (.iastore, 1) := dk_79 (dk_at dksX4_clue_5 1 rfl rfl)
theorem dX4_clue_119 : decode cX4_clue 119 = .ok (.aload_n 0, 1) := dk_42 (dk_at dksX4_clue_5 2 rfl rfl)
theorem dX4_clue_120 : decode cX4_clue 120 = .ok (.getfield 35, 3) := dk_180 0 35 (dk_at dksX4_clue_5 3 rfl rfl)
theorem dX4_clue_123 : decode cX4_clue 123 = .ok (.iconst 3, 1) := dk_6 (dk_at dksX4_clue_5 6 rfl rfl)
theorem dX4_clue_124 : decode cX4_clue 124 = .ok (.iaload, 1) := dk_46 (dk_at dksX4_clue_5 7 rfl rfl)
theorem dX4_clue_125 : decode cX4_clue 125 = .ok (.ireturn, 1) := dk_172 (dk_at dksX4_clue_5 8 rfl rfl)
def dkwX4_lays_1 : List UInt8 := [42, 182, 1, 161, 42, 4, 181, 0, 184, 177]
abbrev dktX4_lays_1 : List UInt8 := dkwX4_lays_1 ++ []
def dkwX4_lays_0 : List UInt8 := [42, 180, 0, 184, 153, 0, 4, 177, 42, 182, 1, 164, 42, 182, 1, 167, 42, 182, 1, 170, 42, 182, 1, 173]
abbrev dktX4_lays_0 : List UInt8 := dkwX4_lays_0 ++ dktX4_lays_1
theorem dksX4_lays_0 : cX4_lays.data.toList.drop 0 = dktX4_lays_0 := by decide +kernel
theorem dksX4_lays_1 : cX4_lays.data.toList.drop 24 = dktX4_lays_1 := dk_seg dksX4_lays_0 24 rfl rfl
theorem dX4_lays_0 : decode cX4_lays 0 = .ok (.aload_n 0, 1) := dk_42 (dk_at dksX4_lays_0 0 rfl rfl)
theorem dX4_lays_1 : decode cX4_lays 1 = .ok (.getfield 184, 3) := dk_180 0 184 (dk_at dksX4_lays_0 1 rfl rfl)
theorem dX4_lays_4 : decode cX4_lays 4 = .ok (.ifCond .eq 4, 3) := dk_153 0 4 (dk_at dksX4_lays_0 4 rfl rfl)
theorem dX4_lays_7 : decode cX4_lays 7 = .ok (.return_, 1) := dk_177 (dk_at dksX4_lays_0 7 rfl rfl)
theorem dX4_lays_8 : decode cX4_lays 8 = .ok (.aload_n 0, 1) := dk_42 (dk_at dksX4_lays_0 8 rfl rfl)
theorem dX4_lays_9 : decode cX4_lays 9 = .ok (.invokevirtual 420, 3) := dk_182 1 164 (dk_at dksX4_lays_0 9 rfl rfl)
theorem dX4_lays_12 : decode cX4_lays 12 = .ok (.aload_n 0, 1) := dk_42 (dk_at dksX4_lays_0 12 rfl rfl)
theorem dX4_lays_13 : decode cX4_lays 13 = .ok (.invokevirtual 423, 3) := dk_182 1 167 (dk_at dksX4_lays_0 13 rfl rfl)
theorem dX4_lays_16 : decode cX4_lays 16 = .ok (.aload_n 0, 1) := dk_42 (dk_at dksX4_lays_0 16 rfl rfl)
theorem dX4_lays_17 : decode cX4_lays 17 = .ok (.invokevirtual 426, 3) := dk_182 1 170 (dk_at dksX4_lays_0 17 rfl rfl)
theorem dX4_lays_20 : decode cX4_lays 20 = .ok (.aload_n 0, 1) := dk_42 (dk_at dksX4_lays_0 20 rfl rfl)
theorem dX4_lays_21 : decode cX4_lays 21 = .ok (.invokevirtual 429, 3) := dk_182 1 173 (dk_at dksX4_lays_0 21 rfl rfl)
theorem dX4_lays_24 : decode cX4_lays 24 = .ok (.aload_n 0, 1) := dk_42 (dk_at dksX4_lays_1 0 rfl rfl)
theorem dX4_lays_25 : decode cX4_lays 25 = .ok (.invokevirtual 417, 3) := dk_182 1 161 (dk_at dksX4_lays_1 1 rfl rfl)
theorem dX4_lays_28 : decode cX4_lays 28 = .ok (.aload_n 0, 1) := dk_42 (dk_at dksX4_lays_1 4 rfl rfl)
theorem dX4_lays_29 : decode cX4_lays 29 = .ok (.iconst 1, 1) := dk_4 (dk_at dksX4_lays_1 5 rfl rfl)
theorem dX4_lays_30 : decode cX4_lays 30 = .ok (.putfield 184, 3) := dk_181 0 184 (dk_at dksX4_lays_1 6 rfl rfl)
theorem dX4_lays_33 : decode cX4_lays 33 = .ok (.return_, 1) := dk_177 (dk_at dksX4_lays_1 9 rfl rfl)
