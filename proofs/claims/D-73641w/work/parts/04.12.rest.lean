set_option maxRecDepth 100000
theorem dL_law_1282 : decode cL_law 1282 = .ok (.iload_n 3, 1) := dk_29 (dk_at dksL_law_48 20 rfl rfl)
theorem dL_law_1283 : decode cL_law 1283 = .ok (.iconst 1, 1) := dk_4 (dk_at dksL_law_48 21 rfl rfl)
theorem dL_law_1284 : decode cL_law 1284 = .ok (.iadd, 1) := dk_96 (dk_at dksL_law_48 22 rfl rfl)
theorem dL_law_1285 : decode cL_law 1285 = .ok (.iaload, 1) := dk_46 (dk_at dksL_law_48 23 rfl rfl)
theorem dL_law_1286 : decode cL_law 1286 = .ok (.invokevirtual 173, 3) := dk_182 0 173 (dk_at dksL_law_49 0 rfl rfl)
theorem dL_law_1289 : decode cL_law 1289 = .ok (.if_icmp .eq 5, 3) := dk_159 0 5 (dk_at dksL_law_49 3 rfl rfl)
theorem dL_law_1292 : decode cL_law 1292 = .ok (.iconst 0, 1) := dk_3 (dk_at dksL_law_49 6 rfl rfl)
theorem dL_law_1293 : decode cL_law 1293 = .ok (.ireturn, 1) := dk_172 (dk_at dksL_law_49 7 rfl rfl)
theorem dL_law_1294 : decode cL_law 1294 = .ok (.iinc 3 6, 3) := dk_132 3 6 (dk_at dksL_law_49 8 rfl rfl)
theorem dL_law_1297 : decode cL_law 1297 = .ok (.goto (-1279), 3) := dk_167 251 1 (dk_at dksL_law_49 11 rfl rfl)
theorem dL_law_1300 : decode cL_law 1300 = .ok (.iconst 1, 1) := dk_4 (dk_at dksL_law_49 14 rfl rfl)
theorem dL_law_1301 : decode cL_law 1301 = .ok (.ireturn, 1) := dk_172 (dk_at dksL_law_49 15 rfl rfl)
def dkwX1_init_3 : List UInt8 := [27, 16, 20, 162, 0, 16, 42, 180, 0, 43, 27, 2, 79, 132, 1, 1, 167, 255, 240, 177]
abbrev dktX1_init_3 : List UInt8 := dkwX1_init_3 ++ []
def dkwX1_init_2 : List UInt8 := [188, 10, 181, 0, 34, 42, 16, 12, 189, 0, 37, 181, 0, 39, 42, 16, 20, 188, 10, 181, 0, 43, 3, 60]
abbrev dktX1_init_2 : List UInt8 := dkwX1_init_2 ++ dktX1_init_3
def dkwX1_init_1 : List UInt8 := [181, 0, 21, 42, 16, 6, 189, 0, 25, 181, 0, 27, 42, 16, 20, 188, 10, 181, 0, 31, 42, 16, 20]
abbrev dktX1_init_1 : List UInt8 := dkwX1_init_1 ++ dktX1_init_2
def dkwX1_init_0 : List UInt8 := [42, 183, 0, 3, 42, 5, 181, 0, 9, 42, 6, 181, 0, 15, 42, 5, 181, 0, 18, 42, 16, 20, 188, 10]
abbrev dktX1_init_0 : List UInt8 := dkwX1_init_0 ++ dktX1_init_1
theorem dksX1_init_0 : cX1_init.data.toList.drop 0 = dktX1_init_0 := by decide +kernel
theorem dksX1_init_1 : cX1_init.data.toList.drop 24 = dktX1_init_1 := dk_seg dksX1_init_0 24 rfl rfl
theorem dksX1_init_2 : cX1_init.data.toList.drop 47 = dktX1_init_2 := dk_seg dksX1_init_1 23 rfl rfl
theorem dksX1_init_3 : cX1_init.data.toList.drop 71 = dktX1_init_3 := dk_seg dksX1_init_2 24 rfl rfl
theorem dX1_init_0 : decode cX1_init 0 = .ok (.aload_n 0, 1) := dk_42 (dk_at dksX1_init_0 0 rfl rfl)
theorem dX1_init_1 : decode cX1_init 1 = .ok (.invokespecial 3, 3) := dk_183 0 3 (dk_at dksX1_init_0 1 rfl rfl)
theorem dX1_init_4 : decode cX1_init 4 = .ok (.aload_n 0, 1) := dk_42 (dk_at dksX1_init_0 4 rfl rfl)
theorem dX1_init_5 : decode cX1_init 5 = .ok (.iconst 2, 1) := dk_5 (dk_at dksX1_init_0 5 rfl rfl)
theorem dX1_init_6 : decode cX1_init 6 = .ok (.putfield 9, 3) := dk_181 0 9 (dk_at dksX1_init_0 6 rfl rfl)
theorem dX1_init_9 : decode cX1_init 9 = .ok (.aload_n 0, 1) := dk_42 (dk_at dksX1_init_0 9 rfl rfl)
theorem dX1_init_10 : decode cX1_init 10 = .ok (.iconst 3, 1) := dk_6 (dk_at dksX1_init_0 10 rfl rfl)
theorem dX1_init_11 : decode cX1_init 11 = .ok (.putfield 15, 3) := dk_181 0 15 (dk_at dksX1_init_0 11 rfl rfl)
theorem dX1_init_14 : decode cX1_init 14 = .ok (.aload_n 0, 1) := dk_42 (dk_at dksX1_init_0 14 rfl rfl)
theorem dX1_init_15 : decode cX1_init 15 = .ok (.iconst 2, 1) := dk_5 (dk_at dksX1_init_0 15 rfl rfl)
theorem dX1_init_16 : decode cX1_init 16 = .ok (.putfield 18, 3) := dk_181 0 18 (dk_at dksX1_init_0 16 rfl rfl)
theorem dX1_init_19 : decode cX1_init 19 = .ok (.aload_n 0, 1) := dk_42 (dk_at dksX1_init_0 19 rfl rfl)
theorem dX1_init_20 : decode cX1_init 20 = .ok (.bipush 20, 2) := dk_16 20 (dk_at dksX1_init_0 20 rfl rfl)
theorem dX1_init_22 : decode cX1_init 22 = .ok (.newarray .int, 2) := dk_188_10 (dk_at dksX1_init_0 22 rfl rfl)
theorem dX1_init_24 : decode cX1_init 24 = .ok (.putfield 21, 3) := dk_181 0 21 (dk_at dksX1_init_1 0 rfl rfl)
theorem dX1_init_27 : decode cX1_init 27 = .ok (.aload_n 0, 1) := dk_42 (dk_at dksX1_init_1 3 rfl rfl)
theorem dX1_init_28 : decode cX1_init 28 = .ok (.bipush 6, 2) := dk_16 6 (dk_at dksX1_init_1 4 rfl rfl)
theorem dX1_init_30 : decode cX1_init 30 = .ok (.anewarray 25, 3) := dk_189 0 25 (dk_at dksX1_init_1 6 rfl rfl)
theorem dX1_init_33 : decode cX1_init 33 = .ok (.putfield 27, 3) := dk_181 0 27 (dk_at dksX1_init_1 9 rfl rfl)
theorem dX1_init_36 : decode cX1_init 36 = .ok (.aload_n 0, 1) := dk_42 (dk_at dksX1_init_1 12 rfl rfl)
theorem dX1_init_37 : decode cX1_init 37 = .ok (.bipush 20, 2) := dk_16 20 (dk_at dksX1_init_1 13 rfl rfl)
theorem dX1_init_39 : decode cX1_init 39 = .ok (.newarray .int, 2) := dk_188_10 (dk_at dksX1_init_1 15 rfl rfl)
theorem dX1_init_41 : decode cX1_init 41 = .ok (.putfield 31, 3) := dk_181 0 31 (dk_at dksX1_init_1 17 rfl rfl)
theorem dX1_init_44 : decode cX1_init 44 = .ok (.aload_n 0, 1) := dk_42 (dk_at dksX1_init_1 20 rfl rfl)
theorem dX1_init_45 : decode cX1_init 45 = .ok (.bipush 20, 2) := dk_16 20 (dk_at dksX1_init_1 21 rfl rfl)
theorem dX1_init_47 : decode cX1_init 47 = .ok (.newarray .int, 2) := dk_188_10 (dk_at dksX1_init_2 0 rfl rfl)
theorem dX1_init_49 : decode cX1_init 49 = .ok (.putfield 34, 3) := dk_181 0 34 (dk_at dksX1_init_2 2 rfl rfl)
theorem dX1_init_52 : decode cX1_init 52 = .ok (.aload_n 0, 1) := dk_42 (dk_at dksX1_init_2 5 rfl rfl)
theorem dX1_init_53 : decode cX1_init 53 = .ok (.bipush 12, 2) := dk_16 12 (dk_at dksX1_init_2 6 rfl rfl)
theorem dX1_init_55 : decode cX1_init 55 = .ok (.anewarray 37, 3) := dk_189 0 37 (dk_at dksX1_init_2 8 rfl rfl)
theorem dX1_init_58 : decode cX1_init 58 = .ok (.putfield 39, 3) := dk_181 0 39 (dk_at dksX1_init_2 11 rfl rfl)
theorem dX1_init_61 : decode cX1_init 61 = .ok (.aload_n 0, 1) := dk_42 (dk_at dksX1_init_2 14 rfl rfl)
theorem dX1_init_62 : decode cX1_init 62 = .ok (.bipush 20, 2) := dk_16 20 (dk_at dksX1_init_2 15 rfl rfl)
theorem dX1_init_64 : decode cX1_init 64 = .ok (.newarray .int, 2) := dk_188_10 (dk_at dksX1_init_2 17 rfl rfl)
theorem dX1_init_66 : decode cX1_init 66 = .ok (.putfield 43, 3) := dk_181 0 43 (dk_at dksX1_init_2 19 rfl rfl)
theorem dX1_init_69 : decode cX1_init 69 = .ok (.iconst 0, 1) := dk_3 (dk_at dksX1_init_2 22 rfl rfl)
theorem dX1_init_70 : decode cX1_init 70 = .ok (.istore_n 1, 1) := dk_60 (dk_at dksX1_init_2 23 rfl rfl)
theorem dX1_init_71 : decode cX1_init 71 = .ok (.iload_n 1, 1) := dk_27 (dk_at dksX1_init_3 0 rfl rfl)
theorem dX1_init_72 : decode cX1_init 72 = .ok (.bipush 20, 2) := dk_16 20 (dk_at dksX1_init_3 1 rfl rfl)
theorem dX1_init_74 : decode cX1_init 74 = .ok (.if_icmp .ge 16, 3) := dk_162 0 16 (dk_at dksX1_init_3 3 rfl rfl)
theorem dX1_init_77 : decode cX1_init 77 = .ok (.aload_n 0, 1) := dk_42 (dk_at dksX1_init_3 6 rfl rfl)
theorem dX1_init_78 : decode cX1_init 78 = .ok (.getfield 43, 3) := dk_180 0 43 (dk_at dksX1_init_3 7 rfl rfl)
theorem dX1_init_81 : decode cX1_init 81 = .ok (.iload_n 1, 1) := dk_27 (dk_at dksX1_init_3 10 rfl rfl)
theorem dX1_init_82 : decode cX1_init 82 = .ok (.iconst (-1), 1) := dk_2 (dk_at dksX1_init_3 11 rfl rfl)
theorem dX1_init_83 : decode cX1_init 83 = .ok (.iastore, 1) := dk_79 (dk_at dksX1_init_3 12 rfl rfl)
theorem dX1_init_84 : decode cX1_init 84 = .ok (.iinc 1 1, 3) := dk_132 1 1 (dk_at dksX1_init_3 13 rfl rfl)
theorem dX1_init_87 : decode cX1_init 87 = .ok (.goto (-16), 3) := dk_167 255 240 (dk_at dksX1_init_3 16 rfl rfl)
theorem dX1_init_90 : decode cX1_init 90 = .ok (.return_, 1) := dk_177 (dk_at dksX1_init_3 19 rfl rfl)
def dkwX10_compare_0 : List UInt8 := [42, 43, 192, 0, 8, 44, 192, 0, 8, 182, 0, 16, 172]
abbrev dktX10_compare_0 : List UInt8 := dkwX10_compare_0 ++ []
theorem dksX10_compare_0 : cX10_compare.data.toList.drop 0 = dktX10_compare_0 := by decide +kernel
theorem dX10_compare_0 : decode cX10_compare 0 = .ok (.aload_n 0, 1) := dk_42 (dk_at dksX10_compare_0 0 rfl rfl)
theorem dX10_compare_1 : decode cX10_compare 1 = .ok (.aload_n 1, 1) := dk_43 (dk_at dksX10_compare_0 1 rfl rfl)
theorem dX10_compare_2 : decode cX10_compare 2 = .ok (.checkcast 8, 3) := dk_192 0 8 (dk_at dksX10_compare_0 2 rfl rfl)
theorem dX10_compare_5 : decode cX10_compare 5 = .ok (.aload_n 2, 1) := dk_44 (dk_at dksX10_compare_0 5 rfl rfl)
theorem dX10_compare_6 : decode cX10_compare 6 = .ok (.checkcast 8, 3) := dk_192 0 8 (dk_at dksX10_compare_0 6 rfl rfl)
theorem dX10_compare_9 : decode cX10_compare 9 = .ok (.invokevirtual 16, 3) := dk_182 0 16 (dk_at dksX10_compare_0 9 rfl rfl)
theorem dX10_compare_12 : decode cX10_compare 12 = .ok (.ireturn, 1) := dk_172 (dk_at dksX10_compare_0 12 rfl rfl)
def dkwX10_compare_2_2 : List UInt8 := [44, 180, 0, 13, 164, 0, 7, 4, 167, 0, 4, 3, 172]
abbrev dktX10_compare_2_2 : List UInt8 := dkwX10_compare_2_2 ++ []
def dkwX10_compare_2_1 : List UInt8 := [167, 0, 4, 4, 172, 43, 180, 0, 13, 44, 180, 0, 13, 162, 0, 7, 2, 167, 0, 19, 43, 180, 0, 13]
abbrev dktX10_compare_2_1 : List UInt8 := dkwX10_compare_2_1 ++ dktX10_compare_2_2
def dkwX10_compare_2_0 : List UInt8 := [43, 180, 0, 7, 44, 180, 0, 7, 159, 0, 20, 43, 180, 0, 7, 44, 180, 0, 7, 164, 0, 7, 2]
abbrev dktX10_compare_2_0 : List UInt8 := dkwX10_compare_2_0 ++ dktX10_compare_2_1
theorem dksX10_compare_2_0 : cX10_compare_2.data.toList.drop 0 = dktX10_compare_2_0 := by decide +kernel
theorem dksX10_compare_2_1 : cX10_compare_2.data.toList.drop 23 = dktX10_compare_2_1 := dk_seg dksX10_compare_2_0 23 rfl rfl
theorem dksX10_compare_2_2 : cX10_compare_2.data.toList.drop 47 = dktX10_compare_2_2 := dk_seg dksX10_compare_2_1 24 rfl rfl
theorem dX10_compare_2_0 : decode cX10_compare_2 0 = .ok (.aload_n 1, 1) := dk_43 (dk_at dksX10_compare_2_0 0 rfl rfl)
theorem dX10_compare_2_1 : decode cX10_compare_2 1 = .ok (.getfield 7, 3) := dk_180 0 7 (dk_at dksX10_compare_2_0 1 rfl rfl)
theorem dX10_compare_2_4 : decode cX10_compare_2 4 = .ok (.aload_n 2, 1) := dk_44 (dk_at dksX10_compare_2_0 4 rfl rfl)
theorem dX10_compare_2_5 : decode cX10_compare_2 5 = .ok (.getfield 7, 3) := dk_180 0 7 (dk_at dksX10_compare_2_0 5 rfl rfl)
theorem dX10_compare_2_8 : decode cX10_compare_2 8 = .ok (.if_icmp .eq 20, 3) := dk_159 0 20 (dk_at dksX10_compare_2_0 8 rfl rfl)
theorem dX10_compare_2_11 : decode cX10_compare_2 11 = .ok (.aload_n 1, 1) := dk_43 (dk_at dksX10_compare_2_0 11 rfl rfl)
theorem dX10_compare_2_12 : decode cX10_compare_2 12 = .ok (.getfield 7, 3) := dk_180 0 7 (dk_at dksX10_compare_2_0 12 rfl rfl)
theorem dX10_compare_2_15 : decode cX10_compare_2 15 = .ok (.aload_n 2, 1) := dk_44 (dk_at dksX10_compare_2_0 15 rfl rfl)
theorem dX10_compare_2_16 : decode cX10_compare_2 16 = .ok (.getfield 7, 3) := dk_180 0 7 (dk_at dksX10_compare_2_0 16 rfl rfl)
theorem dX10_compare_2_19 : decode cX10_compare_2 19 = .ok (.if_icmp .le 7, 3) := dk_164 0 7 (dk_at dksX10_compare_2_0 19 rfl rfl)
theorem dX10_compare_2_22 : decode cX10_compare_2 22 = .ok (.iconst (-1), 1) := dk_2 (dk_at dksX10_compare_2_0 22 rfl rfl)
theorem dX10_compare_2_23 : decode cX10_compare_2 23 = .ok (.goto 4, 3) := dk_167 0 4 (dk_at dksX10_compare_2_1 0 rfl rfl)
theorem dX10_compare_2_26 : decode cX10_compare_2 26 = .ok (.iconst 1, 1) := dk_4 (dk_at dksX10_compare_2_1 3 rfl rfl)
theorem dX10_compare_2_27 : decode cX10_compare_2 27 = .ok (.ireturn, 1) := dk_172 (dk_at dksX10_compare_2_1 4 rfl rfl)
theorem dX10_compare_2_28 : decode cX10_compare_2 28 = .ok (.aload_n 1, 1) := dk_43 (dk_at dksX10_compare_2_1 5 rfl rfl)
theorem dX10_compare_2_29 : decode cX10_compare_2 29 = .ok (.getfield 13, 3) := dk_180 0 13 (dk_at dksX10_compare_2_1 6 rfl rfl)
theorem dX10_compare_2_32 : decode cX10_compare_2 32 = .ok (.aload_n 2, 1) := dk_44 (dk_at dksX10_compare_2_1 9 rfl rfl)
theorem dX10_compare_2_33 : decode cX10_compare_2 33 = .ok (.getfield 13, 3) := dk_180 0 13 (dk_at dksX10_compare_2_1 10 rfl rfl)
theorem dX10_compare_2_36 : decode cX10_compare_2 36 = .ok (.if_icmp .ge 7, 3) := dk_162 0 7 (dk_at dksX10_compare_2_1 13 rfl rfl)
theorem dX10_compare_2_39 : decode cX10_compare_2 39 = .ok (.iconst (-1), 1) := dk_2 (dk_at dksX10_compare_2_1 16 rfl rfl)
theorem dX10_compare_2_40 : decode cX10_compare_2 40 = .ok (.goto 19, 3) := dk_167 0 19 (dk_at dksX10_compare_2_1 17 rfl rfl)
theorem dX10_compare_2_43 : decode cX10_compare_2 43 = .ok (.aload_n 1, 1) := dk_43 (dk_at dksX10_compare_2_1 20 rfl rfl)
theorem dX10_compare_2_44 : decode cX10_compare_2 44 = .ok (.getfield 13, 3) := dk_180 0 13 (dk_at dksX10_compare_2_1 21 rfl rfl)
theorem dX10_compare_2_47 : decode cX10_compare_2 47 = .ok (.aload_n 2, 1) := dk_44 (dk_at dksX10_compare_2_2 0 rfl rfl)
theorem dX10_compare_2_48 : decode cX10_compare_2 48 = .ok (.getfield 13, 3) := dk_180 0 13 (dk_at dksX10_compare_2_2 1 rfl rfl)
theorem dX10_compare_2_51 : decode cX10_compare_2 51 = .ok (.if_icmp .le 7, 3) := dk_164 0 7 (dk_at dksX10_compare_2_2 4 rfl rfl)
theorem dX10_compare_2_54 : decode cX10_compare_2 54 = .ok (.iconst 1, 1) := dk_4 (dk_at dksX10_compare_2_2 7 rfl rfl)
theorem dX10_compare_2_55 : decode cX10_compare_2 55 = .ok (.goto 4, 3) := dk_167 0 4 (dk_at dksX10_compare_2_2 8 rfl rfl)
theorem dX10_compare_2_58 : decode cX10_compare_2 58 = .ok (.iconst 0, 1) := dk_3 (dk_at dksX10_compare_2_2 11 rfl rfl)
theorem dX10_compare_2_59 : decode cX10_compare_2 59 = .ok (.ireturn, 1) := dk_172 (dk_at dksX10_compare_2_2 12 rfl rfl)
theorem dX10_init_0 : decode cX10_init 0 = .ok (.aload_n 0, 1) := by decide +kernel
theorem dX10_init_1 : decode cX10_init 1 = .ok (.invokespecial 1, 3) := by decide +kernel
theorem dX10_init_4 : decode cX10_init 4 = .ok (.return_, 1) := by decide +kernel
def dkwX11_init_0 : List UInt8 := [42, 183, 0, 1, 42, 43, 181, 0, 7, 177]
abbrev dktX11_init_0 : List UInt8 := dkwX11_init_0 ++ []
theorem dksX11_init_0 : cX11_init.data.toList.drop 0 = dktX11_init_0 := by decide +kernel
theorem dX11_init_0 : decode cX11_init 0 = .ok (.aload_n 0, 1) := dk_42 (dk_at dksX11_init_0 0 rfl rfl)
theorem dX11_init_1 : decode cX11_init 1 = .ok (.invokespecial 1, 3) := dk_183 0 1 (dk_at dksX11_init_0 1 rfl rfl)
theorem dX11_init_4 : decode cX11_init 4 = .ok (.aload_n 0, 1) := dk_42 (dk_at dksX11_init_0 4 rfl rfl)
theorem dX11_init_5 : decode cX11_init 5 = .ok (.aload_n 1, 1) := dk_43 (dk_at dksX11_init_0 5 rfl rfl)
theorem dX11_init_6 : decode cX11_init 6 = .ok (.putfield 7, 3) := dk_181 0 7 (dk_at dksX11_init_0 6 rfl rfl)
theorem dX11_init_9 : decode cX11_init 9 = .ok (.return_, 1) := dk_177 (dk_at dksX11_init_0 9 rfl rfl)
def dkwX12_isOf_1 : List UInt8 := [42, 180, 0, 7, 28, 160, 0, 15, 42, 180, 0, 13, 27, 160, 0, 7, 4, 167, 0, 4, 3, 172]
abbrev dktX12_isOf_1 : List UInt8 := dkwX12_isOf_1 ++ []
def dkwX12_isOf_0 : List UInt8 := [42, 180, 0, 16, 29, 160, 0, 39, 42, 180, 0, 7, 27, 160, 0, 11, 42, 180, 0, 13, 28, 159, 0, 19]
abbrev dktX12_isOf_0 : List UInt8 := dkwX12_isOf_0 ++ dktX12_isOf_1
theorem dksX12_isOf_0 : cX12_isOf.data.toList.drop 0 = dktX12_isOf_0 := by decide +kernel
theorem dksX12_isOf_1 : cX12_isOf.data.toList.drop 24 = dktX12_isOf_1 := dk_seg dksX12_isOf_0 24 rfl rfl
theorem dX12_isOf_0 : decode cX12_isOf 0 = .ok (.aload_n 0, 1) := dk_42 (dk_at dksX12_isOf_0 0 rfl rfl)
theorem dX12_isOf_1 : decode cX12_isOf 1 = .ok (.getfield 16, 3) := dk_180 0 16 (dk_at dksX12_isOf_0 1 rfl rfl)
theorem dX12_isOf_4 : decode cX12_isOf 4 = .ok (.iload_n 3, 1) := dk_29 (dk_at dksX12_isOf_0 4 rfl rfl)
theorem dX12_isOf_5 : decode cX12_isOf 5 = .ok (.if_icmp .ne 39, 3) := dk_160 0 39 (dk_at dksX12_isOf_0 5 rfl rfl)
theorem dX12_isOf_8 : decode cX12_isOf 8 = .ok (.aload_n 0, 1) := dk_42 (dk_at dksX12_isOf_0 8 rfl rfl)
theorem dX12_isOf_9 : decode cX12_isOf 9 = .ok (.getfield 7, 3) := dk_180 0 7 (dk_at dksX12_isOf_0 9 rfl rfl)
theorem dX12_isOf_12 : decode cX12_isOf 12 = .ok (.iload_n 1, 1) := dk_27 (dk_at dksX12_isOf_0 12 rfl rfl)
theorem dX12_isOf_13 : decode cX12_isOf 13 = .ok (.if_icmp .ne 11, 3) := dk_160 0 11 (dk_at dksX12_isOf_0 13 rfl rfl)
theorem dX12_isOf_16 : decode cX12_isOf 16 = .ok (.aload_n 0, 1) := dk_42 (dk_at dksX12_isOf_0 16 rfl rfl)
theorem dX12_isOf_17 : decode cX12_isOf 17 = .ok (.getfield 13, 3) := dk_180 0 13 (dk_at dksX12_isOf_0 17 rfl rfl)
theorem dX12_isOf_20 : decode cX12_isOf 20 = .ok (.iload_n 2, 1) := dk_28 (dk_at dksX12_isOf_0 20 rfl rfl)
theorem dX12_isOf_21 : decode cX12_isOf 21 = .ok (.if_icmp .eq 19, 3) := dk_159 0 19 (dk_at dksX12_isOf_0 21 rfl rfl)
theorem dX12_isOf_24 : decode cX12_isOf 24 = .ok (.aload_n 0, 1) := dk_42 (dk_at dksX12_isOf_1 0 rfl rfl)
theorem dX12_isOf_25 : decode cX12_isOf 25 = .ok (.getfield 7, 3) := dk_180 0 7 (dk_at dksX12_isOf_1 1 rfl rfl)
theorem dX12_isOf_28 : decode cX12_isOf 28 = .ok (.iload_n 2, 1) := dk_28 (dk_at dksX12_isOf_1 4 rfl rfl)
theorem dX12_isOf_29 : decode cX12_isOf 29 = .ok (.if_icmp .ne 15, 3) := dk_160 0 15 (dk_at dksX12_isOf_1 5 rfl rfl)
theorem dX12_isOf_32 : decode cX12_isOf 32 = .ok (.aload_n 0, 1) := dk_42 (dk_at dksX12_isOf_1 8 rfl rfl)
theorem dX12_isOf_33 : decode cX12_isOf 33 = .ok (.getfield 13, 3) := dk_180 0 13 (dk_at dksX12_isOf_1 9 rfl rfl)
theorem dX12_isOf_36 : decode cX12_isOf 36 = .ok (.iload_n 1, 1) := dk_27 (dk_at dksX12_isOf_1 12 rfl rfl)
theorem dX12_isOf_37 : decode cX12_isOf 37 = .ok (.if_icmp .ne 7, 3) := dk_160 0 7 (dk_at dksX12_isOf_1 13 rfl rfl)
theorem dX12_isOf_40 : decode cX12_isOf 40 = .ok (.iconst 1, 1) := dk_4 (dk_at dksX12_isOf_1 16 rfl rfl)
theorem dX12_isOf_41 : decode cX12_isOf 41 = .ok (.goto 4, 3) := dk_167 0 4 (dk_at dksX12_isOf_1 17 rfl rfl)
theorem dX12_isOf_44 : decode cX12_isOf 44 = .ok (.iconst 0, 1) := dk_3 (dk_at dksX12_isOf_1 20 rfl rfl)
theorem dX12_isOf_45 : decode cX12_isOf 45 = .ok (.ireturn, 1) := dk_172 (dk_at dksX12_isOf_1 21 rfl rfl)
def dkwX12_init_0 : List UInt8 := [42, 183, 0, 1, 42, 27, 181, 0, 7, 42, 28, 181, 0, 13, 42, 29, 181, 0, 16, 177]
abbrev dktX12_init_0 : List UInt8 := dkwX12_init_0 ++ []
theorem dksX12_init_0 : cX12_init.data.toList.drop 0 = dktX12_init_0 := by decide +kernel
theorem dX12_init_0 : decode cX12_init 0 = .ok (.aload_n 0, 1) := dk_42 (dk_at dksX12_init_0 0 rfl rfl)
theorem dX12_init_1 : decode cX12_init 1 = .ok (.invokespecial 1, 3) := dk_183 0 1 (dk_at dksX12_init_0 1 rfl rfl)
theorem dX12_init_4 : decode cX12_init 4 = .ok (.aload_n 0, 1) := dk_42 (dk_at dksX12_init_0 4 rfl rfl)
theorem dX12_init_5 : decode cX12_init 5 = .ok (.iload_n 1, 1) := dk_27 (dk_at dksX12_init_0 5 rfl rfl)
theorem dX12_init_6 : decode cX12_init 6 = .ok (.putfield 7, 3) := dk_181 0 7 (dk_at dksX12_init_0 6 rfl rfl)
theorem dX12_init_9 : decode cX12_init 9 = .ok (.aload_n 0, 1) := dk_42 (dk_at dksX12_init_0 9 rfl rfl)
theorem dX12_init_10 : decode cX12_init 10 = .ok (.iload_n 2, 1) := dk_28 (dk_at dksX12_init_0 10 rfl rfl)
theorem dX12_init_11 : decode cX12_init 11 = .ok (.putfield 13, 3) := dk_181 0 13 (dk_at dksX12_init_0 11 rfl rfl)
theorem dX12_init_14 : decode cX12_init 14 = .ok (.aload_n 0, 1) := dk_42 (dk_at dksX12_init_0 14 rfl rfl)
theorem dX12_init_15 : decode cX12_init 15 = .ok (.iload_n 3, 1) := dk_29 (dk_at dksX12_init_0 15 rfl rfl)
theorem dX12_init_16 : decode cX12_init 16 = .ok (.putfield 16, 3) := dk_181 0 16 (dk_at dksX12_init_0 16 rfl rfl)
theorem dX12_init_19 : decode cX12_init 19 = .ok (.return_, 1) := dk_177 (dk_at dksX12_init_0 19 rfl rfl)
def dkwX2_init_0 : List UInt8 := [42, 183, 0, 1, 42, 187, 0, 7, 89, 183, 0, 9, 181, 0, 10, 177]
abbrev dktX2_init_0 : List UInt8 := dkwX2_init_0 ++ []
theorem dksX2_init_0 : cX2_init.data.toList.drop 0 = dktX2_init_0 := by decide +kernel
theorem dX2_init_0 : decode cX2_init 0 = .ok (.aload_n 0, 1) := dk_42 (dk_at dksX2_init_0 0 rfl rfl)
theorem dX2_init_1 : decode cX2_init 1 = .ok (.invokespecial 1, 3) := dk_183 0 1 (dk_at dksX2_init_0 1 rfl rfl)
theorem dX2_init_4 : decode cX2_init 4 = .ok (.aload_n 0, 1) := dk_42 (dk_at dksX2_init_0 4 rfl rfl)
theorem dX2_init_5 : decode cX2_init 5 = .ok (.new 7, 3) := dk_187 0 7 (dk_at dksX2_init_0 5 rfl rfl)
theorem dX2_init_8 : decode cX2_init 8 = .ok (.dup, 1) := dk_89 (dk_at dksX2_init_0 8 rfl rfl)
theorem dX2_init_9 : decode cX2_init 9 = .ok (.invokespecial 9, 3) := dk_183 0 9 (dk_at dksX2_init_0 9 rfl rfl)
theorem dX2_init_12 : decode cX2_init 12 = .ok (.putfield 10, 3) := dk_181 0 10 (dk_at dksX2_init_0 12 rfl rfl)
theorem dX2_init_15 : decode cX2_init 15 = .ok (.return_, 1) := dk_177 (dk_at dksX2_init_0 15 rfl rfl)
def dkwX2_next_0 : List UInt8 := [42, 180, 0, 10, 182, 0, 16, 42, 180, 0, 20, 153, 0, 7, 4, 167, 0, 4, 3, 96, 172]
abbrev dktX2_next_0 : List UInt8 := dkwX2_next_0 ++ []
theorem dksX2_next_0 : cX2_next.data.toList.drop 0 = dktX2_next_0 := by decide +kernel
theorem dX2_next_0 : decode cX2_next 0 = .ok (.aload_n 0, 1) := dk_42 (dk_at dksX2_next_0 0 rfl rfl)
theorem dX2_next_1 : decode cX2_next 1 = .ok (.getfield 10, 3) := dk_180 0 10 (dk_at dksX2_next_0 1 rfl rfl)
theorem dX2_next_4 : decode cX2_next 4 = .ok (.invokevirtual 16, 3) := dk_182 0 16 (dk_at dksX2_next_0 4 rfl rfl)
theorem dX2_next_7 : decode cX2_next 7 = .ok (.aload_n 0, 1) := dk_42 (dk_at dksX2_next_0 7 rfl rfl)
theorem dX2_next_8 : decode cX2_next 8 = .ok (.getfield 20, 3) := dk_180 0 20 (dk_at dksX2_next_0 8 rfl rfl)
theorem dX2_next_11 : decode cX2_next 11 = .ok (.ifCond .eq 7, 3) := dk_153 0 7 (dk_at dksX2_next_0 11 rfl rfl)
theorem dX2_next_14 : decode cX2_next 14 = .ok (.iconst 1, 1) := dk_4 (dk_at dksX2_next_0 14 rfl rfl)
theorem dX2_next_15 : decode cX2_next 15 = .ok (.goto 4, 3) := dk_167 0 4 (dk_at dksX2_next_0 15 rfl rfl)
theorem dX2_next_18 : decode cX2_next 18 = .ok (.iconst 0, 1) := dk_3 (dk_at dksX2_next_0 18 rfl rfl)
theorem dX2_next_19 : decode cX2_next 19 = .ok (.iadd, 1) := dk_96 (dk_at dksX2_next_0 19 rfl rfl)
theorem dX2_next_20 : decode cX2_next 20 = .ok (.ireturn, 1) := dk_172 (dk_at dksX2_next_0 20 rfl rfl)
def dkwX3_init_0 : List UInt8 := [42, 183, 0, 1, 42, 43, 181, 0, 7, 177]
abbrev dktX3_init_0 : List UInt8 := dkwX3_init_0 ++ []
theorem dksX3_init_0 : cX3_init.data.toList.drop 0 = dktX3_init_0 := by decide +kernel
theorem dX3_init_0 : decode cX3_init 0 = .ok (.aload_n 0, 1) := dk_42 (dk_at dksX3_init_0 0 rfl rfl)
theorem dX3_init_1 : decode cX3_init 1 = .ok (.invokespecial 1, 3) := dk_183 0 1 (dk_at dksX3_init_0 1 rfl rfl)
theorem dX3_init_4 : decode cX3_init 4 = .ok (.aload_n 0, 1) := dk_42 (dk_at dksX3_init_0 4 rfl rfl)
theorem dX3_init_5 : decode cX3_init 5 = .ok (.aload_n 1, 1) := dk_43 (dk_at dksX3_init_0 5 rfl rfl)
theorem dX3_init_6 : decode cX3_init 6 = .ok (.putfield 7, 3) := dk_181 0 7 (dk_at dksX3_init_0 6 rfl rfl)
theorem dX3_init_9 : decode cX3_init 9 = .ok (.return_, 1) := dk_177 (dk_at dksX3_init_0 9 rfl rfl)
def dkwX3_sign_0 : List UInt8 := [42, 180, 0, 7, 27, 182, 0, 13, 16, 97, 100, 172]
abbrev dktX3_sign_0 : List UInt8 := dkwX3_sign_0 ++ []
theorem dksX3_sign_0 : cX3_sign.data.toList.drop 0 = dktX3_sign_0 := by decide +kernel
theorem dX3_sign_0 : decode cX3_sign 0 = .ok (.aload_n 0, 1) := dk_42 (dk_at dksX3_sign_0 0 rfl rfl)
theorem dX3_sign_1 : decode cX3_sign 1 = .ok (.getfield 7, 3) := dk_180 0 7 (dk_at dksX3_sign_0 1 rfl rfl)
theorem dX3_sign_4 : decode cX3_sign 4 = .ok (.iload_n 1, 1) := dk_27 (dk_at dksX3_sign_0 4 rfl rfl)
theorem dX3_sign_5 : decode cX3_sign 5 = .ok (.invokevirtual 13, 3) := dk_182 0 13 (dk_at dksX3_sign_0 5 rfl rfl)
theorem dX3_sign_8 : decode cX3_sign 8 = .ok (.bipush 97, 2) := dk_16 97 (dk_at dksX3_sign_0 8 rfl rfl)
theorem dX3_sign_10 : decode cX3_sign 10 = .ok (.isub, 1) := dk_100 (dk_at dksX3_sign_0 10 rfl rfl)
theorem dX3_sign_11 : decode cX3_sign 11 = .ok (.ireturn, 1) := dk_172 (dk_at dksX3_sign_0 11 rfl rfl)
def dkwX5_init_0 : List UInt8 := [42, 43, 181, 0, 3, 42, 183, 0, 9, 177]
abbrev dktX5_init_0 : List UInt8 := dkwX5_init_0 ++ []
theorem dksX5_init_0 : cX5_init.data.toList.drop 0 = dktX5_init_0 := by decide +kernel
theorem dX5_init_0 : decode cX5_init 0 = .ok (.aload_n 0, 1) := dk_42 (dk_at dksX5_init_0 0 rfl rfl)
theorem dX5_init_1 : decode cX5_init 1 = .ok (.aload_n 1, 1) := dk_43 (dk_at dksX5_init_0 1 rfl rfl)
theorem dX5_init_2 : decode cX5_init 2 = .ok (.putfield 3, 3) := dk_181 0 3 (dk_at dksX5_init_0 2 rfl rfl)
theorem dX5_init_5 : decode cX5_init 5 = .ok (.aload_n 0, 1) := dk_42 (dk_at dksX5_init_0 5 rfl rfl)
theorem dX5_init_6 : decode cX5_init 6 = .ok (.invokespecial 9, 3) := dk_183 0 9 (dk_at dksX5_init_0 6 rfl rfl)
theorem dX5_init_9 : decode cX5_init 9 = .ok (.return_, 1) := dk_177 (dk_at dksX5_init_0 9 rfl rfl)
def dkwX5_forms_1 : List UInt8 := [43, 176]
abbrev dktX5_forms_1 : List UInt8 := dkwX5_forms_1 ++ []
def dkwX5_forms_0 : List UInt8 := [187, 0, 60, 89, 183, 0, 68, 76, 42, 182, 0, 35, 2, 159, 0, 11, 42, 43, 182, 0, 69, 167, 255, 243]
abbrev dktX5_forms_0 : List UInt8 := dkwX5_forms_0 ++ dktX5_forms_1
theorem dksX5_forms_0 : cX5_forms.data.toList.drop 0 = dktX5_forms_0 := by decide +kernel
theorem dksX5_forms_1 : cX5_forms.data.toList.drop 24 = dktX5_forms_1 := dk_seg dksX5_forms_0 24 rfl rfl
theorem dX5_forms_0 : decode cX5_forms 0 = .ok (.new 60, 3) := dk_187 0 60 (dk_at dksX5_forms_0 0 rfl rfl)
theorem dX5_forms_3 : decode cX5_forms 3 = .ok (.dup, 1) := dk_89 (dk_at dksX5_forms_0 3 rfl rfl)
theorem dX5_forms_4 : decode cX5_forms 4 = .ok (.invokespecial 68, 3) := dk_183 0 68 (dk_at dksX5_forms_0 4 rfl rfl)
theorem dX5_forms_7 : decode cX5_forms 7 = .ok (.astore_n 1, 1) := dk_76 (dk_at dksX5_forms_0 7 rfl rfl)
theorem dX5_forms_8 : decode cX5_forms 8 = .ok (.aload_n 0, 1) := dk_42 (dk_at dksX5_forms_0 8 rfl rfl)
theorem dX5_forms_9 : decode cX5_forms 9 = .ok (.invokevirtual 35, 3) := dk_182 0 35 (dk_at dksX5_forms_0 9 rfl rfl)
theorem dX5_forms_12 : decode cX5_forms 12 = .ok (.iconst (-1), 1) := dk_2 (dk_at dksX5_forms_0 12 rfl rfl)
theorem dX5_forms_13 : decode cX5_forms 13 = .ok (.if_icmp .eq 11, 3) := dk_159 0 11 (dk_at dksX5_forms_0 13 rfl rfl)
theorem dX5_forms_16 : decode cX5_forms 16 = .ok (.aload_n 0, 1) := dk_42 (dk_at dksX5_forms_0 16 rfl rfl)
theorem dX5_forms_17 : decode cX5_forms 17 = .ok (.aload_n 1, 1) := dk_43 (dk_at dksX5_forms_0 17 rfl rfl)
theorem dX5_forms_18 : decode cX5_forms 18 = .ok (.invokevirtual 69, 3) := dk_182 0 69 (dk_at dksX5_forms_0 18 rfl rfl)
theorem dX5_forms_21 : decode cX5_forms 21 = .ok (.goto (-13), 3) := dk_167 255 243 (dk_at dksX5_forms_0 21 rfl rfl)
theorem dX5_forms_24 : decode cX5_forms 24 = .ok (.aload_n 1, 1) := dk_43 (dk_at dksX5_forms_1 0 rfl rfl)
theorem dX5_forms_25 : decode cX5_forms 25 = .ok (.areturn, 1) := dk_176 (dk_at dksX5_forms_1 1 rfl rfl)
def dkwX5_sees_1 : List UInt8 := [182, 0, 31, 172]
abbrev dktX5_sees_1 : List UInt8 := dkwX5_sees_1 ++ []
def dkwX5_sees_0 : List UInt8 := [42, 182, 0, 31, 16, 32, 160, 0, 16, 42, 89, 180, 0, 20, 4, 96, 181, 0, 20, 167, 255, 237, 42]
abbrev dktX5_sees_0 : List UInt8 := dkwX5_sees_0 ++ dktX5_sees_1
theorem dksX5_sees_0 : cX5_sees.data.toList.drop 0 = dktX5_sees_0 := by decide +kernel
theorem dksX5_sees_1 : cX5_sees.data.toList.drop 23 = dktX5_sees_1 := dk_seg dksX5_sees_0 23 rfl rfl
theorem dX5_sees_0 : decode cX5_sees 0 = .ok (.aload_n 0, 1) := dk_42 (dk_at dksX5_sees_0 0 rfl rfl)
theorem dX5_sees_1 : decode cX5_sees 1 = .ok (.invokevirtual 31, 3) := dk_182 0 31 (dk_at dksX5_sees_0 1 rfl rfl)
theorem dX5_sees_4 : decode cX5_sees 4 = .ok (.bipush 32, 2) := dk_16 32 (dk_at dksX5_sees_0 4 rfl rfl)
theorem dX5_sees_6 : decode cX5_sees 6 = .ok (.if_icmp .ne 16, 3) := dk_160 0 16 (dk_at dksX5_sees_0 6 rfl rfl)
theorem dX5_sees_9 : decode cX5_sees 9 = .ok (.aload_n 0, 1) := dk_42 (dk_at dksX5_sees_0 9 rfl rfl)
theorem dX5_sees_10 : decode cX5_sees 10 = .ok (.dup, 1) := dk_89 (dk_at dksX5_sees_0 10 rfl rfl)
theorem dX5_sees_11 : decode cX5_sees 11 = .ok (.getfield 20, 3) := dk_180 0 20 (dk_at dksX5_sees_0 11 rfl rfl)
theorem dX5_sees_14 : decode cX5_sees 14 = .ok (.iconst 1, 1) := dk_4 (dk_at dksX5_sees_0 14 rfl rfl)
theorem dX5_sees_15 : decode cX5_sees 15 = .ok (.iadd, 1) := dk_96 (dk_at dksX5_sees_0 15 rfl rfl)
theorem dX5_sees_16 : decode cX5_sees 16 = .ok (.putfield 20, 3) := dk_181 0 20 (dk_at dksX5_sees_0 16 rfl rfl)
theorem dX5_sees_19 : decode cX5_sees 19 = .ok (.goto (-19), 3) := dk_167 255 237 (dk_at dksX5_sees_0 19 rfl rfl)
theorem dX5_sees_22 : decode cX5_sees 22 = .ok (.aload_n 0, 1) := dk_42 (dk_at dksX5_sees_0 22 rfl rfl)
theorem dX5_sees_23 : decode cX5_sees 23 = .ok (.invokevirtual 31, 3) := dk_182 0 31 (dk_at dksX5_sees_1 0 rfl rfl)
theorem dX5_sees_26 : decode cX5_sees 26 = .ok (.ireturn, 1) := dk_172 (dk_at dksX5_sees_1 3 rfl rfl)
def dkwX5_here_1 : List UInt8 := [180, 0, 20, 51, 17, 0, 255, 126, 167, 0, 4, 2, 172]
abbrev dktX5_here_1 : List UInt8 := dkwX5_here_1 ++ []
def dkwX5_here_0 : List UInt8 := [42, 180, 0, 20, 42, 180, 0, 3, 180, 0, 24, 162, 0, 22, 42, 180, 0, 3, 180, 0, 27, 42]
abbrev dktX5_here_0 : List UInt8 := dkwX5_here_0 ++ dktX5_here_1
theorem dksX5_here_0 : cX5_here.data.toList.drop 0 = dktX5_here_0 := by decide +kernel
theorem dksX5_here_1 : cX5_here.data.toList.drop 22 = dktX5_here_1 := dk_seg dksX5_here_0 22 rfl rfl
theorem dX5_here_0 : decode cX5_here 0 = .ok (.aload_n 0, 1) := dk_42 (dk_at dksX5_here_0 0 rfl rfl)
theorem dX5_here_1 : decode cX5_here 1 = .ok (.getfield 20, 3) := dk_180 0 20 (dk_at dksX5_here_0 1 rfl rfl)
theorem dX5_here_4 : decode cX5_here 4 = .ok (.aload_n 0, 1) := dk_42 (dk_at dksX5_here_0 4 rfl rfl)
theorem dX5_here_5 : decode cX5_here 5 = .ok (.getfield 3, 3) := dk_180 0 3 (dk_at dksX5_here_0 5 rfl rfl)
theorem dX5_here_8 : decode cX5_here 8 = .ok (.getfield 24, 3) := dk_180 0 24 (dk_at dksX5_here_0 8 rfl rfl)
theorem dX5_here_11 : decode cX5_here 11 = .ok (.if_icmp .ge 22, 3) := dk_162 0 22 (dk_at dksX5_here_0 11 rfl rfl)
theorem dX5_here_14 : decode cX5_here 14 = .ok (.aload_n 0, 1) := dk_42 (dk_at dksX5_here_0 14 rfl rfl)
theorem dX5_here_15 : decode cX5_here 15 = .ok (.getfield 3, 3) := dk_180 0 3 (dk_at dksX5_here_0 15 rfl rfl)
theorem dX5_here_18 : decode cX5_here 18 = .ok (.getfield 27, 3) := dk_180 0 27 (dk_at dksX5_here_0 18 rfl rfl)
theorem dX5_here_21 : decode cX5_here 21 = .ok (.aload_n 0, 1) := dk_42 (dk_at dksX5_here_0 21 rfl rfl)
theorem dX5_here_22 : decode cX5_here 22 = .ok (.getfield 20, 3) := dk_180 0 20 (dk_at dksX5_here_1 0 rfl rfl)
theorem dX5_here_25 : decode cX5_here 25 = .ok (.baload, 1) := dk_51 (dk_at dksX5_here_1 3 rfl rfl)
theorem dX5_here_26 : decode cX5_here 26 = .ok (.sipush 255, 3) := dk_17 0 255 (dk_at dksX5_here_1 4 rfl rfl)
theorem dX5_here_29 : decode cX5_here 29 = .ok (.iand, 1) := dk_126 (dk_at dksX5_here_1 7 rfl rfl)
theorem dX5_here_30 : decode cX5_here 30 = .ok (.goto 4, 3) := dk_167 0 4 (dk_at dksX5_here_1 8 rfl rfl)
theorem dX5_here_33 : decode cX5_here 33 = .ok (.iconst (-1), 1) := dk_2 (dk_at dksX5_here_1 11 rfl rfl)
theorem dX5_here_34 : decode cX5_here 34 = .ok (.ireturn, 1) := dk_172 (dk_at dksX5_here_1 12 rfl rfl)
def dkwX5_formHere_7 : List UInt8 := [180, 0, 59, 4, 96, 181, 0, 59, 177]
abbrev dktX5_formHere_7 : List UInt8 := dkwX5_formHere_7 ++ []
def dkwX5_formHere_6 : List UInt8 := [28, 182, 0, 46, 132, 4, 1, 167, 255, 222, 43, 180, 0, 64, 43, 180, 0, 59, 29, 79, 43, 89]
abbrev dktX5_formHere_6 : List UInt8 := dkwX5_formHere_6 ++ dktX5_formHere_7
def dkwX5_formHere_5 : List UInt8 := [180, 0, 59, 162, 0, 31, 42, 43, 180, 0, 64, 21, 4, 46, 29, 159, 0, 7, 4, 167, 0, 4, 3, 7]
abbrev dktX5_formHere_5 : List UInt8 := dkwX5_formHere_5 ++ dktX5_formHere_6
def dkwX5_formHere_4 : List UInt8 := [180, 0, 20, 182, 0, 46, 42, 89, 180, 0, 20, 4, 96, 181, 0, 20, 3, 54, 4, 21, 4, 43]
abbrev dktX5_formHere_4 : List UInt8 := dkwX5_formHere_4 ++ dktX5_formHere_5
def dkwX5_formHere_3 : List UInt8 := [132, 4, 1, 167, 255, 238, 42, 42, 182, 0, 35, 16, 59, 160, 0, 7, 4, 167, 0, 4, 3, 4, 42]
abbrev dktX5_formHere_3 : List UInt8 := dkwX5_formHere_3 ++ dktX5_formHere_4
def dkwX5_formHere_2 : List UInt8 := [28, 182, 0, 46, 4, 54, 4, 21, 4, 8, 162, 0, 18, 29, 8, 120, 42, 182, 0, 56, 128, 62]
abbrev dktX5_formHere_2 : List UInt8 := dkwX5_formHere_2 ++ dktX5_formHere_3
def dkwX5_formHere_1 : List UInt8 := [182, 0, 46, 42, 182, 0, 56, 62, 42, 43, 180, 0, 59, 16, 20, 162, 0, 7, 4, 167, 0, 4, 3, 6]
abbrev dktX5_formHere_1 : List UInt8 := dkwX5_formHere_1 ++ dktX5_formHere_2
def dkwX5_formHere_0 : List UInt8 := [42, 180, 0, 20, 61, 42, 42, 182, 0, 31, 133, 20, 0, 38, 20, 0, 40, 184, 0, 42, 4, 28]
abbrev dktX5_formHere_0 : List UInt8 := dkwX5_formHere_0 ++ dktX5_formHere_1
theorem dksX5_formHere_0 : cX5_formHere.data.toList.drop 0 = dktX5_formHere_0 := by decide +kernel
theorem dksX5_formHere_1 : cX5_formHere.data.toList.drop 22 = dktX5_formHere_1 := dk_seg dksX5_formHere_0 22 rfl rfl
theorem dksX5_formHere_2 : cX5_formHere.data.toList.drop 46 = dktX5_formHere_2 := dk_seg dksX5_formHere_1 24 rfl rfl
theorem dksX5_formHere_3 : cX5_formHere.data.toList.drop 68 = dktX5_formHere_3 := dk_seg dksX5_formHere_2 22 rfl rfl
theorem dksX5_formHere_4 : cX5_formHere.data.toList.drop 91 = dktX5_formHere_4 := dk_seg dksX5_formHere_3 23 rfl rfl
theorem dksX5_formHere_5 : cX5_formHere.data.toList.drop 113 = dktX5_formHere_5 := dk_seg dksX5_formHere_4 22 rfl rfl
theorem dksX5_formHere_6 : cX5_formHere.data.toList.drop 137 = dktX5_formHere_6 := dk_seg dksX5_formHere_5 24 rfl rfl
theorem dksX5_formHere_7 : cX5_formHere.data.toList.drop 159 = dktX5_formHere_7 := dk_seg dksX5_formHere_6 22 rfl rfl
theorem dX5_formHere_0 : decode cX5_formHere 0 = .ok (.aload_n 0, 1) := dk_42 (dk_at dksX5_formHere_0 0 rfl rfl)
theorem dX5_formHere_1 : decode cX5_formHere 1 = .ok (.getfield 20, 3) := dk_180 0 20 (dk_at dksX5_formHere_0 1 rfl rfl)
theorem dX5_formHere_4 : decode cX5_formHere 4 = .ok (.istore_n 2, 1) := dk_61 (dk_at dksX5_formHere_0 4 rfl rfl)
theorem dX5_formHere_5 : decode cX5_formHere 5 = .ok (.aload_n 0, 1) := dk_42 (dk_at dksX5_formHere_0 5 rfl rfl)
theorem dX5_formHere_6 : decode cX5_formHere 6 = .ok (.aload_n 0, 1) := dk_42 (dk_at dksX5_formHere_0 6 rfl rfl)
theorem dX5_formHere_7 : decode cX5_formHere 7 = .ok (.invokevirtual 31, 3) := dk_182 0 31 (dk_at dksX5_formHere_0 7 rfl rfl)
theorem dX5_formHere_10 : decode cX5_formHere 10 = .ok (.i2l, 1) := dk_133 (dk_at dksX5_formHere_0 10 rfl rfl)
theorem dX5_formHere_11 : decode cX5_formHere 11 = .ok (.ldc2_w 38, 3) := dk_20 0 38 (dk_at dksX5_formHere_0 11 rfl rfl)
theorem dX5_formHere_14 : decode cX5_formHere 14 = .ok (.ldc2_w 40, 3) := dk_20 0 40 (dk_at dksX5_formHere_0 14 rfl rfl)
theorem dX5_formHere_17 : decode cX5_formHere 17 = .ok (.invokestatic 42, 3) := dk_184 0 42 (dk_at dksX5_formHere_0 17 rfl rfl)
theorem dX5_formHere_20 : decode cX5_formHere 20 = .ok (.iconst 1, 1) := dk_4 (dk_at dksX5_formHere_0 20 rfl rfl)
theorem dX5_formHere_21 : decode cX5_formHere 21 = .ok (.iload_n 2, 1) := dk_28 (dk_at dksX5_formHere_0 21 rfl rfl)
theorem dX5_formHere_22 : decode cX5_formHere 22 = .ok (.invokevirtual 46, 3) := dk_182 0 46 (dk_at dksX5_formHere_1 0 rfl rfl)
theorem dX5_formHere_25 : decode cX5_formHere 25 = .ok (.aload_n 0, 1) := dk_42 (dk_at dksX5_formHere_1 3 rfl rfl)
theorem dX5_formHere_26 : decode cX5_formHere 26 = .ok (.invokevirtual 56, 3) := dk_182 0 56 (dk_at dksX5_formHere_1 4 rfl rfl)
theorem dX5_formHere_29 : decode cX5_formHere 29 = .ok (.istore_n 3, 1) := dk_62 (dk_at dksX5_formHere_1 7 rfl rfl)
theorem dX5_formHere_30 : decode cX5_formHere 30 = .ok (.aload_n 0, 1) := dk_42 (dk_at dksX5_formHere_1 8 rfl rfl)
theorem dX5_formHere_31 : decode cX5_formHere 31 = .ok (.aload_n 1, 1) := dk_43 (dk_at dksX5_formHere_1 9 rfl rfl)
theorem dX5_formHere_32 : decode cX5_formHere 32 = .ok (.getfield 59, 3) := dk_180 0 59 (dk_at dksX5_formHere_1 10 rfl rfl)
theorem dX5_formHere_35 : decode cX5_formHere 35 = .ok (.bipush 20, 2) := dk_16 20 (dk_at dksX5_formHere_1 13 rfl rfl)
theorem dX5_formHere_37 : decode cX5_formHere 37 = .ok (.if_icmp .ge 7, 3) := dk_162 0 7 (dk_at dksX5_formHere_1 15 rfl rfl)
theorem dX5_formHere_40 : decode cX5_formHere 40 = .ok (.iconst 1, 1) := dk_4 (dk_at dksX5_formHere_1 18 rfl rfl)
theorem dX5_formHere_41 : decode cX5_formHere 41 = .ok (.goto 4, 3) := dk_167 0 4 (dk_at dksX5_formHere_1 19 rfl rfl)
theorem dX5_formHere_44 : decode cX5_formHere 44 = .ok (.iconst 0, 1) := dk_3 (dk_at dksX5_formHere_1 22 rfl rfl)
theorem dX5_formHere_45 : decode cX5_formHere 45 = .ok (.iconst 3, 1) := dk_6 (dk_at dksX5_formHere_1 23 rfl rfl)
theorem dX5_formHere_46 : decode cX5_formHere 46 = .ok (.iload_n 2, 1) := dk_28 (dk_at dksX5_formHere_2 0 rfl rfl)
theorem dX5_formHere_47 : decode cX5_formHere 47 = .ok (.invokevirtual 46, 3) := dk_182 0 46 (dk_at dksX5_formHere_2 1 rfl rfl)
theorem dX5_formHere_50 : decode cX5_formHere 50 = .ok (.iconst 1, 1) := dk_4 (dk_at dksX5_formHere_2 4 rfl rfl)
theorem dX5_formHere_51 : decode cX5_formHere 51 = .ok (.istore 4, 2) := dk_54 4 (dk_at dksX5_formHere_2 5 rfl rfl)
theorem dX5_formHere_53 : decode cX5_formHere 53 = .ok (.iload 4, 2) := dk_21 4 (dk_at dksX5_formHere_2 7 rfl rfl)
theorem dX5_formHere_55 : decode cX5_formHere 55 = .ok (.iconst 5, 1) := dk_8 (dk_at dksX5_formHere_2 9 rfl rfl)
theorem dX5_formHere_56 : decode cX5_formHere 56 = .ok (.if_icmp .ge 18, 3) := dk_162 0 18 (dk_at dksX5_formHere_2 10 rfl rfl)
theorem dX5_formHere_59 : decode cX5_formHere 59 = .ok (.iload_n 3, 1) := dk_29 (dk_at dksX5_formHere_2 13 rfl rfl)
theorem dX5_formHere_60 : decode cX5_formHere 60 = .ok (.iconst 5, 1) := dk_8 (dk_at dksX5_formHere_2 14 rfl rfl)
theorem dX5_formHere_61 : decode cX5_formHere 61 = .ok (.ishl, 1) := dk_120 (dk_at dksX5_formHere_2 15 rfl rfl)
theorem dX5_formHere_62 : decode cX5_formHere 62 = .ok (.aload_n 0, 1) := dk_42 (dk_at dksX5_formHere_2 16 rfl rfl)
theorem dX5_formHere_63 : decode cX5_formHere 63 = .ok (.invokevirtual 56, 3) := dk_182 0 56 (dk_at dksX5_formHere_2 17 rfl rfl)
theorem dX5_formHere_66 : decode cX5_formHere 66 = .ok (.ior, 1) := dk_128 (dk_at dksX5_formHere_2 20 rfl rfl)
theorem dX5_formHere_67 : decode cX5_formHere 67 = .ok (.istore_n 3, 1) := dk_62 (dk_at dksX5_formHere_2 21 rfl rfl)
theorem dX5_formHere_68 : decode cX5_formHere 68 = .ok (.iinc 4 1, 3) := dk_132 4 1 (dk_at dksX5_formHere_3 0 rfl rfl)
theorem dX5_formHere_71 : decode cX5_formHere 71 = .ok (.goto (-18), 3) := dk_167 255 238 (dk_at dksX5_formHere_3 3 rfl rfl)
theorem dX5_formHere_74 : decode cX5_formHere 74 = .ok (.aload_n 0, 1) := dk_42 (dk_at dksX5_formHere_3 6 rfl rfl)
theorem dX5_formHere_75 : decode cX5_formHere 75 = .ok (.aload_n 0, 1) := dk_42 (dk_at dksX5_formHere_3 7 rfl rfl)
theorem dX5_formHere_76 : decode cX5_formHere 76 = .ok (.invokevirtual 35, 3) := dk_182 0 35 (dk_at dksX5_formHere_3 8 rfl rfl)
theorem dX5_formHere_79 : decode cX5_formHere 79 = .ok (.bipush 59, 2) := dk_16 59 (dk_at dksX5_formHere_3 11 rfl rfl)
theorem dX5_formHere_81 : decode cX5_formHere 81 = .ok (.if_icmp .ne 7, 3) := dk_160 0 7 (dk_at dksX5_formHere_3 13 rfl rfl)
theorem dX5_formHere_84 : decode cX5_formHere 84 = .ok (.iconst 1, 1) := dk_4 (dk_at dksX5_formHere_3 16 rfl rfl)
theorem dX5_formHere_85 : decode cX5_formHere 85 = .ok (.goto 4, 3) := dk_167 0 4 (dk_at dksX5_formHere_3 17 rfl rfl)
theorem dX5_formHere_88 : decode cX5_formHere 88 = .ok (.iconst 0, 1) := dk_3 (dk_at dksX5_formHere_3 20 rfl rfl)
theorem dX5_formHere_89 : decode cX5_formHere 89 = .ok (.iconst 1, 1) := dk_4 (dk_at dksX5_formHere_3 21 rfl rfl)
theorem dX5_formHere_90 : decode cX5_formHere 90 = .ok (.aload_n 0, 1) := dk_42 (dk_at dksX5_formHere_3 22 rfl rfl)
theorem dX5_formHere_91 : decode cX5_formHere 91 = .ok (.getfield 20, 3) := dk_180 0 20 (dk_at dksX5_formHere_4 0 rfl rfl)
theorem dX5_formHere_94 : decode cX5_formHere 94 = .ok (.invokevirtual 46, 3) := dk_182 0 46 (dk_at dksX5_formHere_4 3 rfl rfl)
theorem dX5_formHere_97 : decode cX5_formHere 97 = .ok (.aload_n 0, 1) := dk_42 (dk_at dksX5_formHere_4 6 rfl rfl)
theorem dX5_formHere_98 : decode cX5_formHere 98 = .ok (.dup, 1) := dk_89 (dk_at dksX5_formHere_4 7 rfl rfl)
theorem dX5_formHere_99 : decode cX5_formHere 99 = .ok (.getfield 20, 3) := dk_180 0 20 (dk_at dksX5_formHere_4 8 rfl rfl)
theorem dX5_formHere_102 : decode cX5_formHere 102 = .ok (.iconst 1, 1) := dk_4 (dk_at dksX5_formHere_4 11 rfl rfl)
theorem dX5_formHere_103 : decode cX5_formHere 103 = .ok (.iadd, 1) := dk_96 (dk_at dksX5_formHere_4 12 rfl rfl)
theorem dX5_formHere_104 : decode cX5_formHere 104 = .ok (.putfield 20, 3) := dk_181 0 20 (dk_at dksX5_formHere_4 13 rfl rfl)
theorem dX5_formHere_107 : decode cX5_formHere 107 = .ok (.iconst 0, 1) := dk_3 (dk_at dksX5_formHere_4 16 rfl rfl)
theorem dX5_formHere_108 : decode cX5_formHere 108 = .ok (.istore 4, 2) := dk_54 4 (dk_at dksX5_formHere_4 17 rfl rfl)
theorem dX5_formHere_110 : decode cX5_formHere 110 = .ok (.iload 4, 2) := dk_21 4 (dk_at dksX5_formHere_4 19 rfl rfl)
theorem dX5_formHere_112 : decode cX5_formHere 112 = .ok (.aload_n 1, 1) := dk_43 (dk_at dksX5_formHere_4 21 rfl rfl)
theorem dX5_formHere_113 : decode cX5_formHere 113 = .ok (.getfield 59, 3) := dk_180 0 59 (dk_at dksX5_formHere_5 0 rfl rfl)
theorem dX5_formHere_116 : decode cX5_formHere 116 = .ok (.if_icmp .ge 31, 3) := dk_162 0 31 (dk_at dksX5_formHere_5 3 rfl rfl)
theorem dX5_formHere_119 : decode cX5_formHere 119 = .ok (.aload_n 0, 1) := dk_42 (dk_at dksX5_formHere_5 6 rfl rfl)
theorem dX5_formHere_120 : decode cX5_formHere 120 = .ok (.aload_n 1, 1) := dk_43 (dk_at dksX5_formHere_5 7 rfl rfl)
theorem dX5_formHere_121 : decode cX5_formHere 121 = .ok (.getfield 64, 3) := dk_180 0 64 (dk_at dksX5_formHere_5 8 rfl rfl)
theorem dX5_formHere_124 : decode cX5_formHere 124 = .ok (.iload 4, 2) := dk_21 4 (dk_at dksX5_formHere_5 11 rfl rfl)
theorem dX5_formHere_126 : decode cX5_formHere 126 = .ok (.iaload, 1) := dk_46 (dk_at dksX5_formHere_5 13 rfl rfl)
theorem dX5_formHere_127 : decode cX5_formHere 127 = .ok (.iload_n 3, 1) := dk_29 (dk_at dksX5_formHere_5 14 rfl rfl)
theorem dX5_formHere_128 : decode cX5_formHere 128 = .ok (.if_icmp .eq 7, 3) := dk_159 0 7 (dk_at dksX5_formHere_5 15 rfl rfl)
theorem dX5_formHere_131 : decode cX5_formHere 131 = .ok (.iconst 1, 1) := dk_4 (dk_at dksX5_formHere_5 18 rfl rfl)
theorem dX5_formHere_132 : decode cX5_formHere 132 = .ok (.goto 4, 3) := dk_167 0 4 (dk_at dksX5_formHere_5 19 rfl rfl)
theorem dX5_formHere_135 : decode cX5_formHere 135 = .ok (.iconst 0, 1) := dk_3 (dk_at dksX5_formHere_5 22 rfl rfl)
theorem dX5_formHere_136 : decode cX5_formHere 136 = .ok (.iconst 4, 1) := dk_7 (dk_at dksX5_formHere_5 23 rfl rfl)
theorem dX5_formHere_137 : decode cX5_formHere 137 = .ok (.iload_n 2, 1) := dk_28 (dk_at dksX5_formHere_6 0 rfl rfl)
theorem dX5_formHere_138 : decode cX5_formHere 138 = .ok (.invokevirtual 46, 3) := dk_182 0 46 (dk_at dksX5_formHere_6 1 rfl rfl)
theorem dX5_formHere_141 : decode cX5_formHere 141 = .ok (.iinc 4 1, 3) := dk_132 4 1 (dk_at dksX5_formHere_6 4 rfl rfl)
theorem dX5_formHere_144 : decode cX5_formHere 144 = .ok (.goto (-34), 3) := dk_167 255 222 (dk_at dksX5_formHere_6 7 rfl rfl)
theorem dX5_formHere_147 : decode cX5_formHere 147 = .ok (.aload_n 1, 1) := dk_43 (dk_at dksX5_formHere_6 10 rfl rfl)
theorem dX5_formHere_148 : decode cX5_formHere 148 = .ok (.getfield 64, 3) := dk_180 0 64 (dk_at dksX5_formHere_6 11 rfl rfl)
theorem dX5_formHere_151 : decode cX5_formHere 151 = .ok (.aload_n 1, 1) := dk_43 (dk_at dksX5_formHere_6 14 rfl rfl)
theorem dX5_formHere_152 : decode cX5_formHere 152 = .ok (.getfield 59, 3) := dk_180 0 59 (dk_at dksX5_formHere_6 15 rfl rfl)
theorem dX5_formHere_155 : decode cX5_formHere 155 = .ok (.iload_n 3, 1) := dk_29 (dk_at dksX5_formHere_6 18 rfl rfl)
theorem dX5_formHere_156 : decode cX5_formHere 156 = .ok (.iastore, 1) := dk_79 (dk_at dksX5_formHere_6 19 rfl rfl)
theorem dX5_formHere_157 : decode cX5_formHere 157 = .ok (.aload_n 1, 1) := dk_43 (dk_at dksX5_formHere_6 20 rfl rfl)
theorem dX5_formHere_158 : decode cX5_formHere 158 = .ok (.dup, 1) := dk_89 (dk_at dksX5_formHere_6 21 rfl rfl)
theorem dX5_formHere_159 : decode cX5_formHere 159 = .ok (.getfield 59, 3) := dk_180 0 59 (dk_at dksX5_formHere_7 0 rfl rfl)
theorem dX5_formHere_162 : decode cX5_formHere 162 = .ok (.iconst 1, 1) := dk_4 (dk_at dksX5_formHere_7 3 rfl rfl)
theorem dX5_formHere_163 : decode cX5_formHere 163 = .ok (.iadd, 1) := dk_96 (dk_at dksX5_formHere_7 4 rfl rfl)
theorem dX5_formHere_164 : decode cX5_formHere 164 = .ok (.putfield 59, 3) := dk_181 0 59 (dk_at dksX5_formHere_7 5 rfl rfl)
theorem dX5_formHere_167 : decode cX5_formHere 167 = .ok (.return_, 1) := dk_177 (dk_at dksX5_formHere_7 8 rfl rfl)
def dkwX5_demands_0 : List UInt8 := [27, 154, 0, 13, 187, 0, 15, 89, 28, 29, 183, 0, 17, 191, 177]
abbrev dktX5_demands_0 : List UInt8 := dkwX5_demands_0 ++ []
theorem dksX5_demands_0 : cX5_demands.data.toList.drop 0 = dktX5_demands_0 := by decide +kernel
theorem dX5_demands_0 : decode cX5_demands 0 = .ok (.iload_n 1, 1) := dk_27 (dk_at dksX5_demands_0 0 rfl rfl)
theorem dX5_demands_1 : decode cX5_demands 1 = .ok (.ifCond .ne 13, 3) := dk_154 0 13 (dk_at dksX5_demands_0 1 rfl rfl)
theorem dX5_demands_4 : decode cX5_demands 4 = .ok (.new 15, 3) := dk_187 0 15 (dk_at dksX5_demands_0 4 rfl rfl)
theorem dX5_demands_7 : decode cX5_demands 7 = .ok (.dup, 1) := dk_89 (dk_at dksX5_demands_0 7 rfl rfl)
theorem dX5_demands_8 : decode cX5_demands 8 = .ok (.iload_n 2, 1) := dk_28 (dk_at dksX5_demands_0 8 rfl rfl)
theorem dX5_demands_9 : decode cX5_demands 9 = .ok (.iload_n 3, 1) := dk_29 (dk_at dksX5_demands_0 9 rfl rfl)
theorem dX5_demands_10 : decode cX5_demands 10 = .ok (.invokespecial 17, 3) := dk_183 0 17 (dk_at dksX5_demands_0 10 rfl rfl)
theorem dX5_demands_13 : decode cX5_demands 13 = .ok (.athrow, 1) := dk_191 (dk_at dksX5_demands_0 13 rfl rfl)
theorem dX5_demands_14 : decode cX5_demands 14 = .ok (.return_, 1) := dk_177 (dk_at dksX5_demands_0 14 rfl rfl)
def dkwX5_numberHere_4 : List UInt8 := [28, 172]
abbrev dktX5_numberHere_4 : List UInt8 := dkwX5_numberHere_4 ++ []
def dkwX5_numberHere_3 : List UInt8 := [96, 181, 0, 20, 167, 255, 211, 42, 28, 16, 31, 163, 0, 7, 4, 167, 0, 4, 3, 5, 27, 182, 0, 46]
abbrev dktX5_numberHere_3 : List UInt8 := dkwX5_numberHere_3 ++ dktX5_numberHere_4
def dkwX5_numberHere_2 : List UInt8 := [16, 32, 16, 10, 28, 104, 42, 182, 0, 31, 96, 16, 48, 100, 184, 0, 50, 61, 42, 89, 180, 0, 20, 4]
abbrev dktX5_numberHere_2 : List UInt8 := dkwX5_numberHere_2 ++ dktX5_numberHere_3
def dkwX5_numberHere_1 : List UInt8 := [180, 0, 20, 60, 3, 61, 42, 182, 0, 31, 133, 20, 0, 38, 20, 0, 40, 184, 0, 42, 153, 0, 34]
abbrev dktX5_numberHere_1 : List UInt8 := dkwX5_numberHere_1 ++ dktX5_numberHere_2
def dkwX5_numberHere_0 : List UInt8 := [42, 42, 182, 0, 35, 133, 20, 0, 38, 20, 0, 40, 184, 0, 42, 4, 42, 180, 0, 20, 182, 0, 46, 42]
abbrev dktX5_numberHere_0 : List UInt8 := dkwX5_numberHere_0 ++ dktX5_numberHere_1
theorem dksX5_numberHere_0 : cX5_numberHere.data.toList.drop 0 = dktX5_numberHere_0 := by decide +kernel
theorem dksX5_numberHere_1 : cX5_numberHere.data.toList.drop 24 = dktX5_numberHere_1 := dk_seg dksX5_numberHere_0 24 rfl rfl
theorem dksX5_numberHere_2 : cX5_numberHere.data.toList.drop 47 = dktX5_numberHere_2 := dk_seg dksX5_numberHere_1 23 rfl rfl
theorem dksX5_numberHere_3 : cX5_numberHere.data.toList.drop 71 = dktX5_numberHere_3 := dk_seg dksX5_numberHere_2 24 rfl rfl
theorem dksX5_numberHere_4 : cX5_numberHere.data.toList.drop 95 = dktX5_numberHere_4 := dk_seg dksX5_numberHere_3 24 rfl rfl
theorem dX5_numberHere_0 : decode cX5_numberHere 0 = .ok (.aload_n 0, 1) := dk_42 (dk_at dksX5_numberHere_0 0 rfl rfl)
theorem dX5_numberHere_1 : decode cX5_numberHere 1 = .ok (.aload_n 0, 1) := dk_42 (dk_at dksX5_numberHere_0 1 rfl rfl)
theorem dX5_numberHere_2 : decode cX5_numberHere 2 = .ok (.invokevirtual 35, 3) := dk_182 0 35 (dk_at dksX5_numberHere_0 2 rfl rfl)
theorem dX5_numberHere_5 : decode cX5_numberHere 5 = .ok (.i2l, 1) := dk_133 (dk_at dksX5_numberHere_0 5 rfl rfl)
theorem dX5_numberHere_6 : decode cX5_numberHere 6 = .ok (.ldc2_w 38, 3) := dk_20 0 38 (dk_at dksX5_numberHere_0 6 rfl rfl)
theorem dX5_numberHere_9 : decode cX5_numberHere 9 = .ok (.ldc2_w 40, 3) := dk_20 0 40 (dk_at dksX5_numberHere_0 9 rfl rfl)
theorem dX5_numberHere_12 : decode cX5_numberHere 12 = .ok (.invokestatic 42, 3) := dk_184 0 42 (dk_at dksX5_numberHere_0 12 rfl rfl)
theorem dX5_numberHere_15 : decode cX5_numberHere 15 = .ok (.iconst 1, 1) := dk_4 (dk_at dksX5_numberHere_0 15 rfl rfl)
theorem dX5_numberHere_16 : decode cX5_numberHere 16 = .ok (.aload_n 0, 1) := dk_42 (dk_at dksX5_numberHere_0 16 rfl rfl)
theorem dX5_numberHere_17 : decode cX5_numberHere 17 = .ok (.getfield 20, 3) := dk_180 0 20 (dk_at dksX5_numberHere_0 17 rfl rfl)
theorem dX5_numberHere_20 : decode cX5_numberHere 20 = .ok (.invokevirtual 46, 3) := dk_182 0 46 (dk_at dksX5_numberHere_0 20 rfl rfl)
theorem dX5_numberHere_23 : decode cX5_numberHere 23 = .ok (.aload_n 0, 1) := dk_42 (dk_at dksX5_numberHere_0 23 rfl rfl)
theorem dX5_numberHere_24 : decode cX5_numberHere 24 = .ok (.getfield 20, 3) := dk_180 0 20 (dk_at dksX5_numberHere_1 0 rfl rfl)
theorem dX5_numberHere_27 : decode cX5_numberHere 27 = .ok (.istore_n 1, 1) := dk_60 (dk_at dksX5_numberHere_1 3 rfl rfl)
theorem dX5_numberHere_28 : decode cX5_numberHere 28 = .ok (.iconst 0, 1) := dk_3 (dk_at dksX5_numberHere_1 4 rfl rfl)
theorem dX5_numberHere_29 : decode cX5_numberHere 29 = .ok (.istore_n 2, 1) := dk_61 (dk_at dksX5_numberHere_1 5 rfl rfl)
theorem dX5_numberHere_30 : decode cX5_numberHere 30 = .ok (.aload_n 0, 1) := dk_42 (dk_at dksX5_numberHere_1 6 rfl rfl)
theorem dX5_numberHere_31 : decode cX5_numberHere 31 = .ok (.invokevirtual 31, 3) := dk_182 0 31 (dk_at dksX5_numberHere_1 7 rfl rfl)
theorem dX5_numberHere_34 : decode cX5_numberHere 34 = .ok (.i2l, 1) := dk_133 (dk_at dksX5_numberHere_1 10 rfl rfl)
theorem dX5_numberHere_35 : decode cX5_numberHere 35 = .ok (.ldc2_w 38, 3) := dk_20 0 38 (dk_at dksX5_numberHere_1 11 rfl rfl)
theorem dX5_numberHere_38 : decode cX5_numberHere 38 = .ok (.ldc2_w 40, 3) := dk_20 0 40 (dk_at dksX5_numberHere_1 14 rfl rfl)
theorem dX5_numberHere_41 : decode cX5_numberHere 41 = .ok (.invokestatic 42, 3) := dk_184 0 42 (dk_at dksX5_numberHere_1 17 rfl rfl)
theorem dX5_numberHere_44 : decode cX5_numberHere 44 = .ok (.ifCond .eq 34, 3) := dk_153 0 34 (dk_at dksX5_numberHere_1 20 rfl rfl)
theorem dX5_numberHere_47 : decode cX5_numberHere 47 = .ok (.bipush 32, 2) := dk_16 32 (dk_at dksX5_numberHere_2 0 rfl rfl)
theorem dX5_numberHere_49 : decode cX5_numberHere 49 = .ok (.bipush 10, 2) := dk_16 10 (dk_at dksX5_numberHere_2 2 rfl rfl)
theorem dX5_numberHere_51 : decode cX5_numberHere 51 = .ok (.iload_n 2, 1) := dk_28 (dk_at dksX5_numberHere_2 4 rfl rfl)
theorem dX5_numberHere_52 : decode cX5_numberHere 52 = .ok (.imul, 1) := dk_104 (dk_at dksX5_numberHere_2 5 rfl rfl)
theorem dX5_numberHere_53 : decode cX5_numberHere 53 = .ok (.aload_n 0, 1) := dk_42 (dk_at dksX5_numberHere_2 6 rfl rfl)
theorem dX5_numberHere_54 : decode cX5_numberHere 54 = .ok (.invokevirtual 31, 3) := dk_182 0 31 (dk_at dksX5_numberHere_2 7 rfl rfl)
theorem dX5_numberHere_57 : decode cX5_numberHere 57 = .ok (.iadd, 1) := dk_96 (dk_at dksX5_numberHere_2 10 rfl rfl)
theorem dX5_numberHere_58 : decode cX5_numberHere 58 = .ok (.bipush 48, 2) := dk_16 48 (dk_at dksX5_numberHere_2 11 rfl rfl)
theorem dX5_numberHere_60 : decode cX5_numberHere 60 = .ok (.isub, 1) := dk_100 (dk_at dksX5_numberHere_2 13 rfl rfl)
theorem dX5_numberHere_61 : decode cX5_numberHere 61 = .ok (.invokestatic 50, 3) := dk_184 0 50 (dk_at dksX5_numberHere_2 14 rfl rfl)
theorem dX5_numberHere_64 : decode cX5_numberHere 64 = .ok (.istore_n 2, 1) := dk_61 (dk_at dksX5_numberHere_2 17 rfl rfl)
theorem dX5_numberHere_65 : decode cX5_numberHere 65 = .ok (.aload_n 0, 1) := dk_42 (dk_at dksX5_numberHere_2 18 rfl rfl)
theorem dX5_numberHere_66 : decode cX5_numberHere 66 = .ok (.dup, 1) := dk_89 (dk_at dksX5_numberHere_2 19 rfl rfl)
theorem dX5_numberHere_67 : decode cX5_numberHere 67 = .ok (.getfield 20, 3) := dk_180 0 20 (dk_at dksX5_numberHere_2 20 rfl rfl)
theorem dX5_numberHere_70 : decode cX5_numberHere 70 = .ok (.iconst 1, 1) := dk_4 (dk_at dksX5_numberHere_2 23 rfl rfl)
theorem dX5_numberHere_71 : decode cX5_numberHere 71 = .ok (.iadd, 1) := dk_96 (dk_at dksX5_numberHere_3 0 rfl rfl)
theorem dX5_numberHere_72 : decode cX5_numberHere 72 = .ok (.putfield 20, 3) := dk_181 0 20 (dk_at dksX5_numberHere_3 1 rfl rfl)
theorem dX5_numberHere_75 : decode cX5_numberHere 75 = .ok (.goto (-45), 3) := dk_167 255 211 (dk_at dksX5_numberHere_3 4 rfl rfl)
theorem dX5_numberHere_78 : decode cX5_numberHere 78 = .ok (.aload_n 0, 1) := dk_42 (dk_at dksX5_numberHere_3 7 rfl rfl)
theorem dX5_numberHere_79 : decode cX5_numberHere 79 = .ok (.iload_n 2, 1) := dk_28 (dk_at dksX5_numberHere_3 8 rfl rfl)
theorem dX5_numberHere_80 : decode cX5_numberHere 80 = .ok (.bipush 31, 2) := dk_16 31 (dk_at dksX5_numberHere_3 9 rfl rfl)
theorem dX5_numberHere_82 : decode cX5_numberHere 82 = .ok (.if_icmp .gt 7, 3) := dk_163 0 7 (dk_at dksX5_numberHere_3 11 rfl rfl)
theorem dX5_numberHere_85 : decode cX5_numberHere 85 = .ok (.iconst 1, 1) := dk_4 (dk_at dksX5_numberHere_3 14 rfl rfl)
theorem dX5_numberHere_86 : decode cX5_numberHere 86 = .ok (.goto 4, 3) := dk_167 0 4 (dk_at dksX5_numberHere_3 15 rfl rfl)
theorem dX5_numberHere_89 : decode cX5_numberHere 89 = .ok (.iconst 0, 1) := dk_3 (dk_at dksX5_numberHere_3 18 rfl rfl)
theorem dX5_numberHere_90 : decode cX5_numberHere 90 = .ok (.iconst 2, 1) := dk_5 (dk_at dksX5_numberHere_3 19 rfl rfl)
theorem dX5_numberHere_91 : decode cX5_numberHere 91 = .ok (.iload_n 1, 1) := dk_27 (dk_at dksX5_numberHere_3 20 rfl rfl)
theorem dX5_numberHere_92 : decode cX5_numberHere 92 = .ok (.invokevirtual 46, 3) := dk_182 0 46 (dk_at dksX5_numberHere_3 21 rfl rfl)
theorem dX5_numberHere_95 : decode cX5_numberHere 95 = .ok (.iload_n 2, 1) := dk_28 (dk_at dksX5_numberHere_4 0 rfl rfl)
theorem dX5_numberHere_96 : decode cX5_numberHere 96 = .ok (.ireturn, 1) := dk_172 (dk_at dksX5_numberHere_4 1 rfl rfl)
def dkwX5_stone_1 : List UInt8 := [83, 43, 89, 180, 0, 94, 4, 96, 181, 0, 94, 42, 182, 0, 101, 154, 255, 225, 43, 176]
abbrev dktX5_stone_1 : List UInt8 := dkwX5_stone_1 ++ []
def dkwX5_stone_0 : List UInt8 := [187, 0, 87, 89, 183, 0, 89, 76, 43, 180, 0, 90, 43, 180, 0, 94, 42, 43, 180, 0, 94, 182, 0, 97]
abbrev dktX5_stone_0 : List UInt8 := dkwX5_stone_0 ++ dktX5_stone_1
theorem dksX5_stone_0 : cX5_stone.data.toList.drop 0 = dktX5_stone_0 := by decide +kernel
theorem dksX5_stone_1 : cX5_stone.data.toList.drop 24 = dktX5_stone_1 := dk_seg dksX5_stone_0 24 rfl rfl
theorem dX5_stone_0 : decode cX5_stone 0 = .ok (.new 87, 3) := dk_187 0 87 (dk_at dksX5_stone_0 0 rfl rfl)
theorem dX5_stone_3 : decode cX5_stone 3 = .ok (.dup, 1) := dk_89 (dk_at dksX5_stone_0 3 rfl rfl)
theorem dX5_stone_4 : decode cX5_stone 4 = .ok (.invokespecial 89, 3) := dk_183 0 89 (dk_at dksX5_stone_0 4 rfl rfl)
theorem dX5_stone_7 : decode cX5_stone 7 = .ok (.astore_n 1, 1) := dk_76 (dk_at dksX5_stone_0 7 rfl rfl)
theorem dX5_stone_8 : decode cX5_stone 8 = .ok (.aload_n 1, 1) := dk_43 (dk_at dksX5_stone_0 8 rfl rfl)
theorem dX5_stone_9 : decode cX5_stone 9 = .ok (.getfield 90, 3) := dk_180 0 90 (dk_at dksX5_stone_0 9 rfl rfl)
theorem dX5_stone_12 : decode cX5_stone 12 = .ok (.aload_n 1, 1) := dk_43 (dk_at dksX5_stone_0 12 rfl rfl)
theorem dX5_stone_13 : decode cX5_stone 13 = .ok (.getfield 94, 3) := dk_180 0 94 (dk_at dksX5_stone_0 13 rfl rfl)
theorem dX5_stone_16 : decode cX5_stone 16 = .ok (.aload_n 0, 1) := dk_42 (dk_at dksX5_stone_0 16 rfl rfl)
theorem dX5_stone_17 : decode cX5_stone 17 = .ok (.aload_n 1, 1) := dk_43 (dk_at dksX5_stone_0 17 rfl rfl)
theorem dX5_stone_18 : decode cX5_stone 18 = .ok (.getfield 94, 3) := dk_180 0 94 (dk_at dksX5_stone_0 18 rfl rfl)
theorem dX5_stone_21 : decode cX5_stone 21 = .ok (.invokevirtual 97, 3) := dk_182 0 97 (dk_at dksX5_stone_0 21 rfl rfl)
theorem dX5_stone_24 : decode cX5_stone 24 = .ok (.aastore, 1) := dk_83 (dk_at dksX5_stone_1 0 rfl rfl)
theorem dX5_stone_25 : decode cX5_stone 25 = .ok (.aload_n 1, 1) := dk_43 (dk_at dksX5_stone_1 1 rfl rfl)
theorem dX5_stone_26 : decode cX5_stone 26 = .ok (.dup, 1) := dk_89 (dk_at dksX5_stone_1 2 rfl rfl)
theorem dX5_stone_27 : decode cX5_stone 27 = .ok (.getfield 94, 3) := dk_180 0 94 (dk_at dksX5_stone_1 3 rfl rfl)
theorem dX5_stone_30 : decode cX5_stone 30 = .ok (.iconst 1, 1) := dk_4 (dk_at dksX5_stone_1 6 rfl rfl)
theorem dX5_stone_31 : decode cX5_stone 31 = .ok (.iadd, 1) := dk_96 (dk_at dksX5_stone_1 7 rfl rfl)
theorem dX5_stone_32 : decode cX5_stone 32 = .ok (.putfield 94, 3) := dk_181 0 94 (dk_at dksX5_stone_1 8 rfl rfl)
theorem dX5_stone_35 : decode cX5_stone 35 = .ok (.aload_n 0, 1) := dk_42 (dk_at dksX5_stone_1 11 rfl rfl)
theorem dX5_stone_36 : decode cX5_stone 36 = .ok (.invokevirtual 101, 3) := dk_182 0 101 (dk_at dksX5_stone_1 12 rfl rfl)
theorem dX5_stone_39 : decode cX5_stone 39 = .ok (.ifCond .ne (-31), 3) := dk_154 255 225 (dk_at dksX5_stone_1 15 rfl rfl)
theorem dX5_stone_42 : decode cX5_stone 42 = .ok (.aload_n 1, 1) := dk_43 (dk_at dksX5_stone_1 18 rfl rfl)
theorem dX5_stone_43 : decode cX5_stone 43 = .ok (.areturn, 1) := dk_176 (dk_at dksX5_stone_1 19 rfl rfl)
def dkwX5_rowHere_11 : List UInt8 := [25, 7, 3, 21, 4, 184, 0, 81, 25, 7, 176]
abbrev dktX5_rowHere_11 : List UInt8 := dkwX5_rowHere_11 ++ []
def dkwX5_rowHere_10 : List UInt8 := [158, 0, 7, 4, 167, 0, 4, 3, 4, 42, 180, 0, 20, 182, 0, 46, 21, 4, 188, 10, 58, 7, 45, 3]
abbrev dktX5_rowHere_10 : List UInt8 := dkwX5_rowHere_10 ++ dktX5_rowHere_11
def dkwX5_rowHere_9 : List UInt8 := [16, 97, 100, 79, 132, 4, 1, 42, 89, 180, 0, 20, 4, 96, 181, 0, 20, 167, 255, 45, 42, 21, 5]
abbrev dktX5_rowHere_9 : List UInt8 := dkwX5_rowHere_9 ++ dktX5_rowHere_10
def dkwX5_rowHere_8 : List UInt8 := [3, 167, 0, 4, 4, 96, 54, 5, 45, 21, 4, 21, 7, 16, 46, 160, 0, 7, 2, 167, 0, 8, 21, 7]
abbrev dktX5_rowHere_8 : List UInt8 := dkwX5_rowHere_8 ++ dktX5_rowHere_9
def dkwX5_rowHere_7 : List UInt8 := [160, 0, 12, 21, 5, 158, 0, 7, 4, 167, 0, 4, 3, 54, 6, 21, 5, 21, 7, 16, 46, 160, 0, 7]
abbrev dktX5_rowHere_7 : List UInt8 := dkwX5_rowHere_7 ++ dktX5_rowHere_8
def dkwX5_rowHere_6 : List UInt8 := [4, 167, 0, 4, 3, 6, 42, 180, 0, 20, 182, 0, 46, 21, 6, 154, 0, 15, 21, 7, 16, 46]
abbrev dktX5_rowHere_6 : List UInt8 := dkwX5_rowHere_6 ++ dktX5_rowHere_7
def dkwX5_rowHere_5 : List UInt8 := [182, 0, 46, 42, 21, 4, 16, 10, 162, 0, 20, 27, 7, 161, 0, 11, 42, 180, 0, 20, 28, 164, 0, 7]
abbrev dktX5_rowHere_5 : List UInt8 := dkwX5_rowHere_5 ++ dktX5_rowHere_6
def dkwX5_rowHere_4 : List UInt8 := [100, 42, 180, 0, 3, 180, 0, 77, 180, 0, 59, 162, 0, 7, 4, 167, 0, 4, 3, 5, 42, 180, 0, 20]
abbrev dktX5_rowHere_4 : List UInt8 := dkwX5_rowHere_4 ++ dktX5_rowHere_5
def dkwX5_rowHere_3 : List UInt8 := [167, 0, 4, 3, 4, 42, 180, 0, 20, 182, 0, 46, 42, 21, 7, 16, 46, 159, 0, 21, 21, 7, 16, 97]
abbrev dktX5_rowHere_3 : List UInt8 := dkwX5_rowHere_3 ++ dktX5_rowHere_4
def dkwX5_rowHere_2 : List UInt8 := [159, 0, 23, 21, 7, 133, 20, 0, 73, 20, 0, 75, 184, 0, 42, 153, 0, 12, 21, 6, 154, 0, 7, 4]
abbrev dktX5_rowHere_2 : List UInt8 := dkwX5_rowHere_2 ++ dktX5_rowHere_3
def dkwX5_rowHere_1 : List UInt8 := [159, 0, 209, 42, 182, 0, 31, 16, 47, 159, 0, 200, 42, 182, 0, 31, 54, 7, 42, 21, 7, 16, 46]
abbrev dktX5_rowHere_1 : List UInt8 := dkwX5_rowHere_1 ++ dktX5_rowHere_2
def dkwX5_rowHere_0 : List UInt8 := [42, 180, 0, 20, 61, 16, 10, 188, 10, 78, 3, 54, 4, 3, 54, 5, 3, 54, 6, 42, 182, 0, 31, 2]
abbrev dktX5_rowHere_0 : List UInt8 := dkwX5_rowHere_0 ++ dktX5_rowHere_1
theorem dksX5_rowHere_0 : cX5_rowHere.data.toList.drop 0 = dktX5_rowHere_0 := by decide +kernel
theorem dksX5_rowHere_1 : cX5_rowHere.data.toList.drop 24 = dktX5_rowHere_1 := dk_seg dksX5_rowHere_0 24 rfl rfl
theorem dksX5_rowHere_2 : cX5_rowHere.data.toList.drop 47 = dktX5_rowHere_2 := dk_seg dksX5_rowHere_1 23 rfl rfl
theorem dksX5_rowHere_3 : cX5_rowHere.data.toList.drop 71 = dktX5_rowHere_3 := dk_seg dksX5_rowHere_2 24 rfl rfl
theorem dksX5_rowHere_4 : cX5_rowHere.data.toList.drop 95 = dktX5_rowHere_4 := dk_seg dksX5_rowHere_3 24 rfl rfl
theorem dksX5_rowHere_5 : cX5_rowHere.data.toList.drop 119 = dktX5_rowHere_5 := dk_seg dksX5_rowHere_4 24 rfl rfl
theorem dksX5_rowHere_6 : cX5_rowHere.data.toList.drop 143 = dktX5_rowHere_6 := dk_seg dksX5_rowHere_5 24 rfl rfl
theorem dksX5_rowHere_7 : cX5_rowHere.data.toList.drop 165 = dktX5_rowHere_7 := dk_seg dksX5_rowHere_6 22 rfl rfl
theorem dksX5_rowHere_8 : cX5_rowHere.data.toList.drop 189 = dktX5_rowHere_8 := dk_seg dksX5_rowHere_7 24 rfl rfl
theorem dksX5_rowHere_9 : cX5_rowHere.data.toList.drop 213 = dktX5_rowHere_9 := dk_seg dksX5_rowHere_8 24 rfl rfl
theorem dksX5_rowHere_10 : cX5_rowHere.data.toList.drop 236 = dktX5_rowHere_10 := dk_seg dksX5_rowHere_9 23 rfl rfl
theorem dksX5_rowHere_11 : cX5_rowHere.data.toList.drop 260 = dktX5_rowHere_11 := dk_seg dksX5_rowHere_10 24 rfl rfl
theorem dX5_rowHere_0 : decode cX5_rowHere 0 = .ok (.aload_n 0, 1) := dk_42 (dk_at dksX5_rowHere_0 0 rfl rfl)
theorem dX5_rowHere_1 : decode cX5_rowHere 1 = .ok (.getfield 20, 3) := dk_180 0 20 (dk_at dksX5_rowHere_0 1 rfl rfl)
theorem dX5_rowHere_4 : decode cX5_rowHere 4 = .ok (.istore_n 2, 1) := dk_61 (dk_at dksX5_rowHere_0 4 rfl rfl)
theorem dX5_rowHere_5 : decode cX5_rowHere 5 = .ok (.bipush 10, 2) := dk_16 10 (dk_at dksX5_rowHere_0 5 rfl rfl)
theorem dX5_rowHere_7 : decode cX5_rowHere 7 = .ok (.newarray .int, 2) := dk_188_10 (dk_at dksX5_rowHere_0 7 rfl rfl)
theorem dX5_rowHere_9 : decode cX5_rowHere 9 = .ok (.astore_n 3, 1) := dk_78 (dk_at dksX5_rowHere_0 9 rfl rfl)
theorem dX5_rowHere_10 : decode cX5_rowHere 10 = .ok (.iconst 0, 1) := dk_3 (dk_at dksX5_rowHere_0 10 rfl rfl)
theorem dX5_rowHere_11 : decode cX5_rowHere 11 = .ok (.istore 4, 2) := dk_54 4 (dk_at dksX5_rowHere_0 11 rfl rfl)
theorem dX5_rowHere_13 : decode cX5_rowHere 13 = .ok (.iconst 0, 1) := dk_3 (dk_at dksX5_rowHere_0 13 rfl rfl)
theorem dX5_rowHere_14 : decode cX5_rowHere 14 = .ok (.istore 5, 2) := dk_54 5 (dk_at dksX5_rowHere_0 14 rfl rfl)
theorem dX5_rowHere_16 : decode cX5_rowHere 16 = .ok (.iconst 0, 1) := dk_3 (dk_at dksX5_rowHere_0 16 rfl rfl)
theorem dX5_rowHere_17 : decode cX5_rowHere 17 = .ok (.istore 6, 2) := dk_54 6 (dk_at dksX5_rowHere_0 17 rfl rfl)
theorem dX5_rowHere_19 : decode cX5_rowHere 19 = .ok (.aload_n 0, 1) := dk_42 (dk_at dksX5_rowHere_0 19 rfl rfl)
theorem dX5_rowHere_20 : decode cX5_rowHere 20 = .ok (.invokevirtual 31, 3) := dk_182 0 31 (dk_at dksX5_rowHere_0 20 rfl rfl)
theorem dX5_rowHere_23 : decode cX5_rowHere 23 = .ok (.iconst (-1), 1) := dk_2 (dk_at dksX5_rowHere_0 23 rfl rfl)
theorem dX5_rowHere_24 : decode cX5_rowHere 24 = .ok (.if_icmp .eq 209, 3) := dk_159 0 209 (dk_at dksX5_rowHere_1 0 rfl rfl)
theorem dX5_rowHere_27 : decode cX5_rowHere 27 = .ok (.aload_n 0, 1) := dk_42 (dk_at dksX5_rowHere_1 3 rfl rfl)
theorem dX5_rowHere_28 : decode cX5_rowHere 28 = .ok (.invokevirtual 31, 3) := dk_182 0 31 (dk_at dksX5_rowHere_1 4 rfl rfl)
theorem dX5_rowHere_31 : decode cX5_rowHere 31 = .ok (.bipush 47, 2) := dk_16 47 (dk_at dksX5_rowHere_1 7 rfl rfl)
theorem dX5_rowHere_33 : decode cX5_rowHere 33 = .ok (.if_icmp .eq 200, 3) := dk_159 0 200 (dk_at dksX5_rowHere_1 9 rfl rfl)
theorem dX5_rowHere_36 : decode cX5_rowHere 36 = .ok (.aload_n 0, 1) := dk_42 (dk_at dksX5_rowHere_1 12 rfl rfl)
theorem dX5_rowHere_37 : decode cX5_rowHere 37 = .ok (.invokevirtual 31, 3) := dk_182 0 31 (dk_at dksX5_rowHere_1 13 rfl rfl)
theorem dX5_rowHere_40 : decode cX5_rowHere 40 = .ok (.istore 7, 2) := dk_54 7 (dk_at dksX5_rowHere_1 16 rfl rfl)
theorem dX5_rowHere_42 : decode cX5_rowHere 42 = .ok (.aload_n 0, 1) := dk_42 (dk_at dksX5_rowHere_1 18 rfl rfl)
theorem dX5_rowHere_43 : decode cX5_rowHere 43 = .ok (.iload 7, 2) := dk_21 7 (dk_at dksX5_rowHere_1 19 rfl rfl)
theorem dX5_rowHere_45 : decode cX5_rowHere 45 = .ok (.bipush 46, 2) := dk_16 46 (dk_at dksX5_rowHere_1 21 rfl rfl)
theorem dX5_rowHere_47 : decode cX5_rowHere 47 = .ok (.if_icmp .eq 23, 3) := dk_159 0 23 (dk_at dksX5_rowHere_2 0 rfl rfl)
theorem dX5_rowHere_50 : decode cX5_rowHere 50 = .ok (.iload 7, 2) := dk_21 7 (dk_at dksX5_rowHere_2 3 rfl rfl)
theorem dX5_rowHere_52 : decode cX5_rowHere 52 = .ok (.i2l, 1) := dk_133 (dk_at dksX5_rowHere_2 5 rfl rfl)
theorem dX5_rowHere_53 : decode cX5_rowHere 53 = .ok (.ldc2_w 73, 3) := dk_20 0 73 (dk_at dksX5_rowHere_2 6 rfl rfl)
theorem dX5_rowHere_56 : decode cX5_rowHere 56 = .ok (.ldc2_w 75, 3) := dk_20 0 75 (dk_at dksX5_rowHere_2 9 rfl rfl)
theorem dX5_rowHere_59 : decode cX5_rowHere 59 = .ok (.invokestatic 42, 3) := dk_184 0 42 (dk_at dksX5_rowHere_2 12 rfl rfl)
theorem dX5_rowHere_62 : decode cX5_rowHere 62 = .ok (.ifCond .eq 12, 3) := dk_153 0 12 (dk_at dksX5_rowHere_2 15 rfl rfl)
theorem dX5_rowHere_65 : decode cX5_rowHere 65 = .ok (.iload 6, 2) := dk_21 6 (dk_at dksX5_rowHere_2 18 rfl rfl)
theorem dX5_rowHere_67 : decode cX5_rowHere 67 = .ok (.ifCond .ne 7, 3) := dk_154 0 7 (dk_at dksX5_rowHere_2 20 rfl rfl)
theorem dX5_rowHere_70 : decode cX5_rowHere 70 = .ok (.iconst 1, 1) := dk_4 (dk_at dksX5_rowHere_2 23 rfl rfl)
theorem dX5_rowHere_71 : decode cX5_rowHere 71 = .ok (.goto 4, 3) := dk_167 0 4 (dk_at dksX5_rowHere_3 0 rfl rfl)
theorem dX5_rowHere_74 : decode cX5_rowHere 74 = .ok (.iconst 0, 1) := dk_3 (dk_at dksX5_rowHere_3 3 rfl rfl)
theorem dX5_rowHere_75 : decode cX5_rowHere 75 = .ok (.iconst 1, 1) := dk_4 (dk_at dksX5_rowHere_3 4 rfl rfl)
theorem dX5_rowHere_76 : decode cX5_rowHere 76 = .ok (.aload_n 0, 1) := dk_42 (dk_at dksX5_rowHere_3 5 rfl rfl)
theorem dX5_rowHere_77 : decode cX5_rowHere 77 = .ok (.getfield 20, 3) := dk_180 0 20 (dk_at dksX5_rowHere_3 6 rfl rfl)
theorem dX5_rowHere_80 : decode cX5_rowHere 80 = .ok (.invokevirtual 46, 3) := dk_182 0 46 (dk_at dksX5_rowHere_3 9 rfl rfl)
theorem dX5_rowHere_83 : decode cX5_rowHere 83 = .ok (.aload_n 0, 1) := dk_42 (dk_at dksX5_rowHere_3 12 rfl rfl)
theorem dX5_rowHere_84 : decode cX5_rowHere 84 = .ok (.iload 7, 2) := dk_21 7 (dk_at dksX5_rowHere_3 13 rfl rfl)
theorem dX5_rowHere_86 : decode cX5_rowHere 86 = .ok (.bipush 46, 2) := dk_16 46 (dk_at dksX5_rowHere_3 15 rfl rfl)
theorem dX5_rowHere_88 : decode cX5_rowHere 88 = .ok (.if_icmp .eq 21, 3) := dk_159 0 21 (dk_at dksX5_rowHere_3 17 rfl rfl)
theorem dX5_rowHere_91 : decode cX5_rowHere 91 = .ok (.iload 7, 2) := dk_21 7 (dk_at dksX5_rowHere_3 20 rfl rfl)
theorem dX5_rowHere_93 : decode cX5_rowHere 93 = .ok (.bipush 97, 2) := dk_16 97 (dk_at dksX5_rowHere_3 22 rfl rfl)
theorem dX5_rowHere_95 : decode cX5_rowHere 95 = .ok (.isub, 1) := dk_100 (dk_at dksX5_rowHere_4 0 rfl rfl)
theorem dX5_rowHere_96 : decode cX5_rowHere 96 = .ok (.aload_n 0, 1) := dk_42 (dk_at dksX5_rowHere_4 1 rfl rfl)
theorem dX5_rowHere_97 : decode cX5_rowHere 97 = .ok (.getfield 3, 3) := dk_180 0 3 (dk_at dksX5_rowHere_4 2 rfl rfl)
theorem dX5_rowHere_100 : decode cX5_rowHere 100 = .ok (.getfield 77, 3) := dk_180 0 77 (dk_at dksX5_rowHere_4 5 rfl rfl)
theorem dX5_rowHere_103 : decode cX5_rowHere 103 = .ok (.getfield 59, 3) := dk_180 0 59 (dk_at dksX5_rowHere_4 8 rfl rfl)
theorem dX5_rowHere_106 : decode cX5_rowHere 106 = .ok (.if_icmp .ge 7, 3) := dk_162 0 7 (dk_at dksX5_rowHere_4 11 rfl rfl)
theorem dX5_rowHere_109 : decode cX5_rowHere 109 = .ok (.iconst 1, 1) := dk_4 (dk_at dksX5_rowHere_4 14 rfl rfl)
theorem dX5_rowHere_110 : decode cX5_rowHere 110 = .ok (.goto 4, 3) := dk_167 0 4 (dk_at dksX5_rowHere_4 15 rfl rfl)
theorem dX5_rowHere_113 : decode cX5_rowHere 113 = .ok (.iconst 0, 1) := dk_3 (dk_at dksX5_rowHere_4 18 rfl rfl)
theorem dX5_rowHere_114 : decode cX5_rowHere 114 = .ok (.iconst 2, 1) := dk_5 (dk_at dksX5_rowHere_4 19 rfl rfl)
theorem dX5_rowHere_115 : decode cX5_rowHere 115 = .ok (.aload_n 0, 1) := dk_42 (dk_at dksX5_rowHere_4 20 rfl rfl)
theorem dX5_rowHere_116 : decode cX5_rowHere 116 = .ok (.getfield 20, 3) := dk_180 0 20 (dk_at dksX5_rowHere_4 21 rfl rfl)
theorem dX5_rowHere_119 : decode cX5_rowHere 119 = .ok (.invokevirtual 46, 3) := dk_182 0 46 (dk_at dksX5_rowHere_5 0 rfl rfl)
theorem dX5_rowHere_122 : decode cX5_rowHere 122 = .ok (.aload_n 0, 1) := dk_42 (dk_at dksX5_rowHere_5 3 rfl rfl)
theorem dX5_rowHere_123 : decode cX5_rowHere 123 = .ok (.iload 4, 2) := dk_21 4 (dk_at dksX5_rowHere_5 4 rfl rfl)
theorem dX5_rowHere_125 : decode cX5_rowHere 125 = .ok (.bipush 10, 2) := dk_16 10 (dk_at dksX5_rowHere_5 6 rfl rfl)
theorem dX5_rowHere_127 : decode cX5_rowHere 127 = .ok (.if_icmp .ge 20, 3) := dk_162 0 20 (dk_at dksX5_rowHere_5 8 rfl rfl)
theorem dX5_rowHere_130 : decode cX5_rowHere 130 = .ok (.iload_n 1, 1) := dk_27 (dk_at dksX5_rowHere_5 11 rfl rfl)
theorem dX5_rowHere_131 : decode cX5_rowHere 131 = .ok (.iconst 4, 1) := dk_7 (dk_at dksX5_rowHere_5 12 rfl rfl)
theorem dX5_rowHere_132 : decode cX5_rowHere 132 = .ok (.if_icmp .lt 11, 3) := dk_161 0 11 (dk_at dksX5_rowHere_5 13 rfl rfl)
theorem dX5_rowHere_135 : decode cX5_rowHere 135 = .ok (.aload_n 0, 1) := dk_42 (dk_at dksX5_rowHere_5 16 rfl rfl)
theorem dX5_rowHere_136 : decode cX5_rowHere 136 = .ok (.getfield 20, 3) := dk_180 0 20 (dk_at dksX5_rowHere_5 17 rfl rfl)
theorem dX5_rowHere_139 : decode cX5_rowHere 139 = .ok (.iload_n 2, 1) := dk_28 (dk_at dksX5_rowHere_5 20 rfl rfl)
theorem dX5_rowHere_140 : decode cX5_rowHere 140 = .ok (.if_icmp .le 7, 3) := dk_164 0 7 (dk_at dksX5_rowHere_5 21 rfl rfl)
theorem dX5_rowHere_143 : decode cX5_rowHere 143 = .ok (.iconst 1, 1) := dk_4 (dk_at dksX5_rowHere_6 0 rfl rfl)
theorem dX5_rowHere_144 : decode cX5_rowHere 144 = .ok (.goto 4, 3) := dk_167 0 4 (dk_at dksX5_rowHere_6 1 rfl rfl)
theorem dX5_rowHere_147 : decode cX5_rowHere 147 = .ok (.iconst 0, 1) := dk_3 (dk_at dksX5_rowHere_6 4 rfl rfl)
theorem dX5_rowHere_148 : decode cX5_rowHere 148 = .ok (.iconst 3, 1) := dk_6 (dk_at dksX5_rowHere_6 5 rfl rfl)
theorem dX5_rowHere_149 : decode cX5_rowHere 149 = .ok (.aload_n 0, 1) := dk_42 (dk_at dksX5_rowHere_6 6 rfl rfl)
theorem dX5_rowHere_150 : decode cX5_rowHere 150 = .ok (.getfield 20, 3) := dk_180 0 20 (dk_at dksX5_rowHere_6 7 rfl rfl)
theorem dX5_rowHere_153 : decode cX5_rowHere 153 = .ok (.invokevirtual 46, 3) := dk_182 0 46 (dk_at dksX5_rowHere_6 10 rfl rfl)
theorem dX5_rowHere_156 : decode cX5_rowHere 156 = .ok (.iload 6, 2) := dk_21 6 (dk_at dksX5_rowHere_6 13 rfl rfl)
theorem dX5_rowHere_158 : decode cX5_rowHere 158 = .ok (.ifCond .ne 15, 3) := dk_154 0 15 (dk_at dksX5_rowHere_6 15 rfl rfl)
theorem dX5_rowHere_161 : decode cX5_rowHere 161 = .ok (.iload 7, 2) := dk_21 7 (dk_at dksX5_rowHere_6 18 rfl rfl)
theorem dX5_rowHere_163 : decode cX5_rowHere 163 = .ok (.bipush 46, 2) := dk_16 46 (dk_at dksX5_rowHere_6 20 rfl rfl)
theorem dX5_rowHere_165 : decode cX5_rowHere 165 = .ok (.if_icmp .ne 12, 3) := dk_160 0 12 (dk_at dksX5_rowHere_7 0 rfl rfl)
theorem dX5_rowHere_168 : decode cX5_rowHere 168 = .ok (.iload 5, 2) := dk_21 5 (dk_at dksX5_rowHere_7 3 rfl rfl)
theorem dX5_rowHere_170 : decode cX5_rowHere 170 = .ok (.ifCond .le 7, 3) := dk_158 0 7 (dk_at dksX5_rowHere_7 5 rfl rfl)
theorem dX5_rowHere_173 : decode cX5_rowHere 173 = .ok (.iconst 1, 1) := dk_4 (dk_at dksX5_rowHere_7 8 rfl rfl)
theorem dX5_rowHere_174 : decode cX5_rowHere 174 = .ok (.goto 4, 3) := dk_167 0 4 (dk_at dksX5_rowHere_7 9 rfl rfl)
theorem dX5_rowHere_177 : decode cX5_rowHere 177 = .ok (.iconst 0, 1) := dk_3 (dk_at dksX5_rowHere_7 12 rfl rfl)
theorem dX5_rowHere_178 : decode cX5_rowHere 178 = .ok (.istore 6, 2) := dk_54 6 (dk_at dksX5_rowHere_7 13 rfl rfl)
theorem dX5_rowHere_180 : decode cX5_rowHere 180 = .ok (.iload 5, 2) := dk_21 5 (dk_at dksX5_rowHere_7 15 rfl rfl)
theorem dX5_rowHere_182 : decode cX5_rowHere 182 = .ok (.iload 7, 2) := dk_21 7 (dk_at dksX5_rowHere_7 17 rfl rfl)
theorem dX5_rowHere_184 : decode cX5_rowHere 184 = .ok (.bipush 46, 2) := dk_16 46 (dk_at dksX5_rowHere_7 19 rfl rfl)
theorem dX5_rowHere_186 : decode cX5_rowHere 186 = .ok (.if_icmp .ne 7, 3) := dk_160 0 7 (dk_at dksX5_rowHere_7 21 rfl rfl)
theorem dX5_rowHere_189 : decode cX5_rowHere 189 = .ok (.iconst 0, 1) := dk_3 (dk_at dksX5_rowHere_8 0 rfl rfl)
theorem dX5_rowHere_190 : decode cX5_rowHere 190 = .ok (.goto 4, 3) := dk_167 0 4 (dk_at dksX5_rowHere_8 1 rfl rfl)
theorem dX5_rowHere_193 : decode cX5_rowHere 193 = .ok (.iconst 1, 1) := dk_4 (dk_at dksX5_rowHere_8 4 rfl rfl)
theorem dX5_rowHere_194 : decode cX5_rowHere 194 = .ok (.iadd, 1) := dk_96 (dk_at dksX5_rowHere_8 5 rfl rfl)
theorem dX5_rowHere_195 : decode cX5_rowHere 195 = .ok (.istore 5, 2) := dk_54 5 (dk_at dksX5_rowHere_8 6 rfl rfl)
theorem dX5_rowHere_197 : decode cX5_rowHere 197 = .ok (.aload_n 3, 1) := dk_45 (dk_at dksX5_rowHere_8 8 rfl rfl)
theorem dX5_rowHere_198 : decode cX5_rowHere 198 = .ok (.iload 4, 2) := dk_21 4 (dk_at dksX5_rowHere_8 9 rfl rfl)
theorem dX5_rowHere_200 : decode cX5_rowHere 200 = .ok (.iload 7, 2) := dk_21 7 (dk_at dksX5_rowHere_8 11 rfl rfl)
theorem dX5_rowHere_202 : decode cX5_rowHere 202 = .ok (.bipush 46, 2) := dk_16 46 (dk_at dksX5_rowHere_8 13 rfl rfl)
theorem dX5_rowHere_204 : decode cX5_rowHere 204 = .ok (.if_icmp .ne 7, 3) := dk_160 0 7 (dk_at dksX5_rowHere_8 15 rfl rfl)
theorem dX5_rowHere_207 : decode cX5_rowHere 207 = .ok (.iconst (-1), 1) := dk_2 (dk_at dksX5_rowHere_8 18 rfl rfl)
theorem dX5_rowHere_208 : decode cX5_rowHere 208 = .ok (.goto 8, 3) := dk_167 0 8 (dk_at dksX5_rowHere_8 19 rfl rfl)
theorem dX5_rowHere_211 : decode cX5_rowHere 211 = .ok (.iload 7, 2) := dk_21 7 (dk_at dksX5_rowHere_8 22 rfl rfl)
theorem dX5_rowHere_213 : decode cX5_rowHere 213 = .ok (.bipush 97, 2) := dk_16 97 (dk_at dksX5_rowHere_9 0 rfl rfl)
theorem dX5_rowHere_215 : decode cX5_rowHere 215 = .ok (.isub, 1) := dk_100 (dk_at dksX5_rowHere_9 2 rfl rfl)
theorem dX5_rowHere_216 : decode cX5_rowHere 216 = .ok (.iastore, 1) := dk_79 (dk_at dksX5_rowHere_9 3 rfl rfl)
theorem dX5_rowHere_217 : decode cX5_rowHere 217 = .ok (.iinc 4 1, 3) := dk_132 4 1 (dk_at dksX5_rowHere_9 4 rfl rfl)
theorem dX5_rowHere_220 : decode cX5_rowHere 220 = .ok (.aload_n 0, 1) := dk_42 (dk_at dksX5_rowHere_9 7 rfl rfl)
theorem dX5_rowHere_221 : decode cX5_rowHere 221 = .ok (.dup, 1) := dk_89 (dk_at dksX5_rowHere_9 8 rfl rfl)
theorem dX5_rowHere_222 : decode cX5_rowHere 222 = .ok (.getfield 20, 3) := dk_180 0 20 (dk_at dksX5_rowHere_9 9 rfl rfl)
theorem dX5_rowHere_225 : decode cX5_rowHere 225 = .ok (.iconst 1, 1) := dk_4 (dk_at dksX5_rowHere_9 12 rfl rfl)
theorem dX5_rowHere_226 : decode cX5_rowHere 226 = .ok (.iadd, 1) := dk_96 (dk_at dksX5_rowHere_9 13 rfl rfl)
theorem dX5_rowHere_227 : decode cX5_rowHere 227 = .ok (.putfield 20, 3) := dk_181 0 20 (dk_at dksX5_rowHere_9 14 rfl rfl)
theorem dX5_rowHere_230 : decode cX5_rowHere 230 = .ok (.goto (-211), 3) := dk_167 255 45 (dk_at dksX5_rowHere_9 17 rfl rfl)
theorem dX5_rowHere_233 : decode cX5_rowHere 233 = .ok (.aload_n 0, 1) := dk_42 (dk_at dksX5_rowHere_9 20 rfl rfl)
theorem dX5_rowHere_234 : decode cX5_rowHere 234 = .ok (.iload 5, 2) := dk_21 5 (dk_at dksX5_rowHere_9 21 rfl rfl)
theorem dX5_rowHere_236 : decode cX5_rowHere 236 = .ok (.ifCond .le 7, 3) := dk_158 0 7 (dk_at dksX5_rowHere_10 0 rfl rfl)
theorem dX5_rowHere_239 : decode cX5_rowHere 239 = .ok (.iconst 1, 1) := dk_4 (dk_at dksX5_rowHere_10 3 rfl rfl)
theorem dX5_rowHere_240 : decode cX5_rowHere 240 = .ok (.goto 4, 3) := dk_167 0 4 (dk_at dksX5_rowHere_10 4 rfl rfl)
theorem dX5_rowHere_243 : decode cX5_rowHere 243 = .ok (.iconst 0, 1) := dk_3 (dk_at dksX5_rowHere_10 7 rfl rfl)
theorem dX5_rowHere_244 : decode cX5_rowHere 244 = .ok (.iconst 1, 1) := dk_4 (dk_at dksX5_rowHere_10 8 rfl rfl)
theorem dX5_rowHere_245 : decode cX5_rowHere 245 = .ok (.aload_n 0, 1) := dk_42 (dk_at dksX5_rowHere_10 9 rfl rfl)
theorem dX5_rowHere_246 : decode cX5_rowHere 246 = .ok (.getfield 20, 3) := dk_180 0 20 (dk_at dksX5_rowHere_10 10 rfl rfl)
theorem dX5_rowHere_249 : decode cX5_rowHere 249 = .ok (.invokevirtual 46, 3) := dk_182 0 46 (dk_at dksX5_rowHere_10 13 rfl rfl)
theorem dX5_rowHere_252 : decode cX5_rowHere 252 = .ok (.iload 4, 2) := dk_21 4 (dk_at dksX5_rowHere_10 16 rfl rfl)
theorem dX5_rowHere_254 : decode cX5_rowHere 254 = .ok (.newarray .int, 2) := dk_188_10 (dk_at dksX5_rowHere_10 18 rfl rfl)
theorem dX5_rowHere_256 : decode cX5_rowHere 256 = .ok (.astore 7, 2) := dk_58 7 (dk_at dksX5_rowHere_10 20 rfl rfl)
theorem dX5_rowHere_258 : decode cX5_rowHere 258 = .ok (.aload_n 3, 1) := dk_45 (dk_at dksX5_rowHere_10 22 rfl rfl)
theorem dX5_rowHere_259 : decode cX5_rowHere 259 = .ok (.iconst 0, 1) := dk_3 (dk_at dksX5_rowHere_10 23 rfl rfl)
theorem dX5_rowHere_260 : decode cX5_rowHere 260 = .ok (.aload 7, 2) := dk_25 7 (dk_at dksX5_rowHere_11 0 rfl rfl)
theorem dX5_rowHere_262 : decode cX5_rowHere 262 = .ok (.iconst 0, 1) := dk_3 (dk_at dksX5_rowHere_11 2 rfl rfl)
theorem dX5_rowHere_263 : decode cX5_rowHere 263 = .ok (.iload 4, 2) := dk_21 4 (dk_at dksX5_rowHere_11 3 rfl rfl)
theorem dX5_rowHere_265 : decode cX5_rowHere 265 = .ok (.invokestatic 81, 3) := dk_184 0 81 (dk_at dksX5_rowHere_11 5 rfl rfl)
theorem dX5_rowHere_268 : decode cX5_rowHere 268 = .ok (.aload 7, 2) := dk_25 7 (dk_at dksX5_rowHere_11 8 rfl rfl)
theorem dX5_rowHere_270 : decode cX5_rowHere 270 = .ok (.areturn, 1) := dk_176 (dk_at dksX5_rowHere_11 10 rfl rfl)
def dkwX5_goesOn_1 : List UInt8 := [4, 167, 0, 4, 3, 96, 181, 0, 20, 27, 172]
abbrev dktX5_goesOn_1 : List UInt8 := dkwX5_goesOn_1 ++ []
def dkwX5_goesOn_0 : List UInt8 := [42, 182, 0, 31, 16, 47, 160, 0, 7, 4, 167, 0, 4, 3, 60, 42, 89, 180, 0, 20, 27, 153, 0, 7]
abbrev dktX5_goesOn_0 : List UInt8 := dkwX5_goesOn_0 ++ dktX5_goesOn_1
theorem dksX5_goesOn_0 : cX5_goesOn.data.toList.drop 0 = dktX5_goesOn_0 := by decide +kernel
theorem dksX5_goesOn_1 : cX5_goesOn.data.toList.drop 24 = dktX5_goesOn_1 := dk_seg dksX5_goesOn_0 24 rfl rfl
theorem dX5_goesOn_0 : decode cX5_goesOn 0 = .ok (.aload_n 0, 1) := dk_42 (dk_at dksX5_goesOn_0 0 rfl rfl)
theorem dX5_goesOn_1 : decode cX5_goesOn 1 = .ok (.invokevirtual 31, 3) := dk_182 0 31 (dk_at dksX5_goesOn_0 1 rfl rfl)
theorem dX5_goesOn_4 : decode cX5_goesOn 4 = .ok (.bipush 47, 2) := dk_16 47 (dk_at dksX5_goesOn_0 4 rfl rfl)
theorem dX5_goesOn_6 : decode cX5_goesOn 6 = .ok (.if_icmp .ne 7, 3) := dk_160 0 7 (dk_at dksX5_goesOn_0 6 rfl rfl)
theorem dX5_goesOn_9 : decode cX5_goesOn 9 = .ok (.iconst 1, 1) := dk_4 (dk_at dksX5_goesOn_0 9 rfl rfl)
theorem dX5_goesOn_10 : decode cX5_goesOn 10 = .ok (.goto 4, 3) := dk_167 0 4 (dk_at dksX5_goesOn_0 10 rfl rfl)
theorem dX5_goesOn_13 : decode cX5_goesOn 13 = .ok (.iconst 0, 1) := dk_3 (dk_at dksX5_goesOn_0 13 rfl rfl)
theorem dX5_goesOn_14 : decode cX5_goesOn 14 = .ok (.istore_n 1, 1) := dk_60 (dk_at dksX5_goesOn_0 14 rfl rfl)
theorem dX5_goesOn_15 : decode cX5_goesOn 15 = .ok (.aload_n 0, 1) := dk_42 (dk_at dksX5_goesOn_0 15 rfl rfl)
theorem dX5_goesOn_16 : decode cX5_goesOn 16 = .ok (.dup, 1) := dk_89 (dk_at dksX5_goesOn_0 16 rfl rfl)
theorem dX5_goesOn_17 : decode cX5_goesOn 17 = .ok (.getfield 20, 3) := dk_180 0 20 (dk_at dksX5_goesOn_0 17 rfl rfl)
theorem dX5_goesOn_20 : decode cX5_goesOn 20 = .ok (.iload_n 1, 1) := dk_27 (dk_at dksX5_goesOn_0 20 rfl rfl)
theorem dX5_goesOn_21 : decode cX5_goesOn 21 = .ok (.ifCond .eq 7, 3) := dk_153 0 7 (dk_at dksX5_goesOn_0 21 rfl rfl)
theorem dX5_goesOn_24 : decode cX5_goesOn 24 = .ok (.iconst 1, 1) := dk_4 (dk_at dksX5_goesOn_1 0 rfl rfl)
theorem dX5_goesOn_25 : decode cX5_goesOn 25 = .ok (.goto 4, 3) := dk_167 0 4 (dk_at dksX5_goesOn_1 1 rfl rfl)
theorem dX5_goesOn_28 : decode cX5_goesOn 28 = .ok (.iconst 0, 1) := dk_3 (dk_at dksX5_goesOn_1 4 rfl rfl)
theorem dX5_goesOn_29 : decode cX5_goesOn 29 = .ok (.iadd, 1) := dk_96 (dk_at dksX5_goesOn_1 5 rfl rfl)
theorem dX5_goesOn_30 : decode cX5_goesOn 30 = .ok (.putfield 20, 3) := dk_181 0 20 (dk_at dksX5_goesOn_1 6 rfl rfl)
theorem dX5_goesOn_33 : decode cX5_goesOn 33 = .ok (.iload_n 1, 1) := dk_27 (dk_at dksX5_goesOn_1 9 rfl rfl)
theorem dX5_goesOn_34 : decode cX5_goesOn 34 = .ok (.ireturn, 1) := dk_172 (dk_at dksX5_goesOn_1 10 rfl rfl)
def dkwX5_name_6 : List UInt8 := [132, 4, 1, 167, 255, 213, 45, 176]
abbrev dktX5_name_6 : List UInt8 := dkwX5_name_6 ++ []
def dkwX5_name_5 : List UInt8 := [180, 0, 122, 21, 4, 50, 184, 0, 125, 154, 0, 7, 4, 167, 0, 4, 3, 6, 3, 182, 0, 46]
abbrev dktX5_name_5 : List UInt8 := dkwX5_name_5 ++ dktX5_name_6
def dkwX5_name_4 : List UInt8 := [184, 0, 81, 3, 54, 4, 21, 4, 42, 180, 0, 3, 180, 0, 119, 162, 0, 37, 42, 45, 42, 180, 0, 3]
abbrev dktX5_name_4 : List UInt8 := dkwX5_name_4 ++ dktX5_name_5
def dkwX5_name_3 : List UInt8 := [28, 5, 161, 255, 191, 42, 182, 0, 31, 2, 160, 255, 183, 28, 188, 10, 78, 43, 3, 45, 3, 28]
abbrev dktX5_name_3 : List UInt8 := dkwX5_name_3 ++ dktX5_name_4
def dkwX5_name_2 : List UInt8 := [8, 29, 104, 42, 18, 117, 182, 0, 113, 96, 79, 42, 89, 180, 0, 20, 4, 96, 181, 0, 20, 132, 2, 1]
abbrev dktX5_name_2 : List UInt8 := dkwX5_name_2 ++ dktX5_name_3
def dkwX5_name_1 : List UInt8 := [167, 0, 4, 3, 5, 42, 180, 0, 20, 182, 0, 46, 42, 89, 180, 0, 20, 4, 96, 181, 0, 20, 43, 28]
abbrev dktX5_name_1 : List UInt8 := dkwX5_name_1 ++ dktX5_name_2
def dkwX5_name_0 : List UInt8 := [16, 7, 188, 10, 76, 3, 61, 42, 18, 111, 182, 0, 113, 62, 42, 28, 16, 7, 162, 0, 7, 4]
abbrev dktX5_name_0 : List UInt8 := dkwX5_name_0 ++ dktX5_name_1
theorem dksX5_name_0 : cX5_name.data.toList.drop 0 = dktX5_name_0 := by decide +kernel
theorem dksX5_name_1 : cX5_name.data.toList.drop 22 = dktX5_name_1 := dk_seg dksX5_name_0 22 rfl rfl
theorem dksX5_name_2 : cX5_name.data.toList.drop 46 = dktX5_name_2 := dk_seg dksX5_name_1 24 rfl rfl
theorem dksX5_name_3 : cX5_name.data.toList.drop 70 = dktX5_name_3 := dk_seg dksX5_name_2 24 rfl rfl
theorem dksX5_name_4 : cX5_name.data.toList.drop 92 = dktX5_name_4 := dk_seg dksX5_name_3 22 rfl rfl
theorem dksX5_name_5 : cX5_name.data.toList.drop 116 = dktX5_name_5 := dk_seg dksX5_name_4 24 rfl rfl
theorem dksX5_name_6 : cX5_name.data.toList.drop 138 = dktX5_name_6 := dk_seg dksX5_name_5 22 rfl rfl
theorem dX5_name_0 : decode cX5_name 0 = .ok (.bipush 7, 2) := dk_16 7 (dk_at dksX5_name_0 0 rfl rfl)
theorem dX5_name_2 : decode cX5_name 2 = .ok (.newarray .int, 2) := dk_188_10 (dk_at dksX5_name_0 2 rfl rfl)
theorem dX5_name_4 : decode cX5_name 4 = .ok (.astore_n 1, 1) := dk_76 (dk_at dksX5_name_0 4 rfl rfl)
theorem dX5_name_5 : decode cX5_name 5 = .ok (.iconst 0, 1) := dk_3 (dk_at dksX5_name_0 5 rfl rfl)
theorem dX5_name_6 : decode cX5_name 6 = .ok (.istore_n 2, 1) := dk_61 (dk_at dksX5_name_0 6 rfl rfl)
theorem dX5_name_7 : decode cX5_name 7 = .ok (.aload_n 0, 1) := dk_42 (dk_at dksX5_name_0 7 rfl rfl)
theorem dX5_name_8 : decode cX5_name 8 = .ok (.ldc 111, 2) := dk_18 111 (dk_at dksX5_name_0 8 rfl rfl)
theorem dX5_name_10 : decode cX5_name 10 = .ok (.invokevirtual 113, 3) := dk_182 0 113 (dk_at dksX5_name_0 10 rfl rfl)
theorem dX5_name_13 : decode cX5_name 13 = .ok (.istore_n 3, 1) := dk_62 (dk_at dksX5_name_0 13 rfl rfl)
theorem dX5_name_14 : decode cX5_name 14 = .ok (.aload_n 0, 1) := dk_42 (dk_at dksX5_name_0 14 rfl rfl)
theorem dX5_name_15 : decode cX5_name 15 = .ok (.iload_n 2, 1) := dk_28 (dk_at dksX5_name_0 15 rfl rfl)
theorem dX5_name_16 : decode cX5_name 16 = .ok (.bipush 7, 2) := dk_16 7 (dk_at dksX5_name_0 16 rfl rfl)
theorem dX5_name_18 : decode cX5_name 18 = .ok (.if_icmp .ge 7, 3) := dk_162 0 7 (dk_at dksX5_name_0 18 rfl rfl)
theorem dX5_name_21 : decode cX5_name 21 = .ok (.iconst 1, 1) := dk_4 (dk_at dksX5_name_0 21 rfl rfl)
theorem dX5_name_22 : decode cX5_name 22 = .ok (.goto 4, 3) := dk_167 0 4 (dk_at dksX5_name_1 0 rfl rfl)
theorem dX5_name_25 : decode cX5_name 25 = .ok (.iconst 0, 1) := dk_3 (dk_at dksX5_name_1 3 rfl rfl)
theorem dX5_name_26 : decode cX5_name 26 = .ok (.iconst 2, 1) := dk_5 (dk_at dksX5_name_1 4 rfl rfl)
theorem dX5_name_27 : decode cX5_name 27 = .ok (.aload_n 0, 1) := dk_42 (dk_at dksX5_name_1 5 rfl rfl)
theorem dX5_name_28 : decode cX5_name 28 = .ok (.getfield 20, 3) := dk_180 0 20 (dk_at dksX5_name_1 6 rfl rfl)
theorem dX5_name_31 : decode cX5_name 31 = .ok (.invokevirtual 46, 3) := dk_182 0 46 (dk_at dksX5_name_1 9 rfl rfl)
theorem dX5_name_34 : decode cX5_name 34 = .ok (.aload_n 0, 1) := dk_42 (dk_at dksX5_name_1 12 rfl rfl)
theorem dX5_name_35 : decode cX5_name 35 = .ok (.dup, 1) := dk_89 (dk_at dksX5_name_1 13 rfl rfl)
theorem dX5_name_36 : decode cX5_name 36 = .ok (.getfield 20, 3) := dk_180 0 20 (dk_at dksX5_name_1 14 rfl rfl)
theorem dX5_name_39 : decode cX5_name 39 = .ok (.iconst 1, 1) := dk_4 (dk_at dksX5_name_1 17 rfl rfl)
theorem dX5_name_40 : decode cX5_name 40 = .ok (.iadd, 1) := dk_96 (dk_at dksX5_name_1 18 rfl rfl)
theorem dX5_name_41 : decode cX5_name 41 = .ok (.putfield 20, 3) := dk_181 0 20 (dk_at dksX5_name_1 19 rfl rfl)
theorem dX5_name_44 : decode cX5_name 44 = .ok (.aload_n 1, 1) := dk_43 (dk_at dksX5_name_1 22 rfl rfl)
theorem dX5_name_45 : decode cX5_name 45 = .ok (.iload_n 2, 1) := dk_28 (dk_at dksX5_name_1 23 rfl rfl)
theorem dX5_name_46 : decode cX5_name 46 = .ok (.iconst 5, 1) := dk_8 (dk_at dksX5_name_2 0 rfl rfl)
theorem dX5_name_47 : decode cX5_name 47 = .ok (.iload_n 3, 1) := dk_29 (dk_at dksX5_name_2 1 rfl rfl)
theorem dX5_name_48 : decode cX5_name 48 = .ok (.imul, 1) := dk_104 (dk_at dksX5_name_2 2 rfl rfl)
theorem dX5_name_49 : decode cX5_name 49 = .ok (.aload_n 0, 1) := dk_42 (dk_at dksX5_name_2 3 rfl rfl)
theorem dX5_name_50 : decode cX5_name 50 = .ok (.ldc 117, 2) := dk_18 117 (dk_at dksX5_name_2 4 rfl rfl)
theorem dX5_name_52 : decode cX5_name 52 = .ok (.invokevirtual 113, 3) := dk_182 0 113 (dk_at dksX5_name_2 6 rfl rfl)
theorem dX5_name_55 : decode cX5_name 55 = .ok (.iadd, 1) := dk_96 (dk_at dksX5_name_2 9 rfl rfl)
theorem dX5_name_56 : decode cX5_name 56 = .ok (.iastore, 1) := dk_79 (dk_at dksX5_name_2 10 rfl rfl)
theorem dX5_name_57 : decode cX5_name 57 = .ok (.aload_n 0, 1) := dk_42 (dk_at dksX5_name_2 11 rfl rfl)
theorem dX5_name_58 : decode cX5_name 58 = .ok (.dup, 1) := dk_89 (dk_at dksX5_name_2 12 rfl rfl)
theorem dX5_name_59 : decode cX5_name 59 = .ok (.getfield 20, 3) := dk_180 0 20 (dk_at dksX5_name_2 13 rfl rfl)
theorem dX5_name_62 : decode cX5_name 62 = .ok (.iconst 1, 1) := dk_4 (dk_at dksX5_name_2 16 rfl rfl)
theorem dX5_name_63 : decode cX5_name 63 = .ok (.iadd, 1) := dk_96 (dk_at dksX5_name_2 17 rfl rfl)
theorem dX5_name_64 : decode cX5_name 64 = .ok (.putfield 20, 3) := dk_181 0 20 (dk_at dksX5_name_2 18 rfl rfl)
theorem dX5_name_67 : decode cX5_name 67 = .ok (.iinc 2 1, 3) := dk_132 2 1 (dk_at dksX5_name_2 21 rfl rfl)
theorem dX5_name_70 : decode cX5_name 70 = .ok (.iload_n 2, 1) := dk_28 (dk_at dksX5_name_3 0 rfl rfl)
theorem dX5_name_71 : decode cX5_name 71 = .ok (.iconst 2, 1) := dk_5 (dk_at dksX5_name_3 1 rfl rfl)
theorem dX5_name_72 : decode cX5_name 72 = .ok (.if_icmp .lt (-65), 3) := dk_161 255 191 (dk_at dksX5_name_3 2 rfl rfl)
theorem dX5_name_75 : decode cX5_name 75 = .ok (.aload_n 0, 1) := dk_42 (dk_at dksX5_name_3 5 rfl rfl)
theorem dX5_name_76 : decode cX5_name 76 = .ok (.invokevirtual 31, 3) := dk_182 0 31 (dk_at dksX5_name_3 6 rfl rfl)
theorem dX5_name_79 : decode cX5_name 79 = .ok (.iconst (-1), 1) := dk_2 (dk_at dksX5_name_3 9 rfl rfl)
theorem dX5_name_80 : decode cX5_name 80 = .ok (.if_icmp .ne (-73), 3) := dk_160 255 183 (dk_at dksX5_name_3 10 rfl rfl)
theorem dX5_name_83 : decode cX5_name 83 = .ok (.iload_n 2, 1) := dk_28 (dk_at dksX5_name_3 13 rfl rfl)
theorem dX5_name_84 : decode cX5_name 84 = .ok (.newarray .int, 2) := dk_188_10 (dk_at dksX5_name_3 14 rfl rfl)
theorem dX5_name_86 : decode cX5_name 86 = .ok (.astore_n 3, 1) := dk_78 (dk_at dksX5_name_3 16 rfl rfl)
theorem dX5_name_87 : decode cX5_name 87 = .ok (.aload_n 1, 1) := dk_43 (dk_at dksX5_name_3 17 rfl rfl)
theorem dX5_name_88 : decode cX5_name 88 = .ok (.iconst 0, 1) := dk_3 (dk_at dksX5_name_3 18 rfl rfl)
theorem dX5_name_89 : decode cX5_name 89 = .ok (.aload_n 3, 1) := dk_45 (dk_at dksX5_name_3 19 rfl rfl)
theorem dX5_name_90 : decode cX5_name 90 = .ok (.iconst 0, 1) := dk_3 (dk_at dksX5_name_3 20 rfl rfl)
theorem dX5_name_91 : decode cX5_name 91 = .ok (.iload_n 2, 1) := dk_28 (dk_at dksX5_name_3 21 rfl rfl)
theorem dX5_name_92 : decode cX5_name 92 = .ok (.invokestatic 81, 3) := dk_184 0 81 (dk_at dksX5_name_4 0 rfl rfl)
theorem dX5_name_95 : decode cX5_name 95 = .ok (.iconst 0, 1) := dk_3 (dk_at dksX5_name_4 3 rfl rfl)
theorem dX5_name_96 : decode cX5_name 96 = .ok (.istore 4, 2) := dk_54 4 (dk_at dksX5_name_4 4 rfl rfl)
theorem dX5_name_98 : decode cX5_name 98 = .ok (.iload 4, 2) := dk_21 4 (dk_at dksX5_name_4 6 rfl rfl)
theorem dX5_name_100 : decode cX5_name 100 = .ok (.aload_n 0, 1) := dk_42 (dk_at dksX5_name_4 8 rfl rfl)
theorem dX5_name_101 : decode cX5_name 101 = .ok (.getfield 3, 3) := dk_180 0 3 (dk_at dksX5_name_4 9 rfl rfl)
theorem dX5_name_104 : decode cX5_name 104 = .ok (.getfield 119, 3) := dk_180 0 119 (dk_at dksX5_name_4 12 rfl rfl)
theorem dX5_name_107 : decode cX5_name 107 = .ok (.if_icmp .ge 37, 3) := dk_162 0 37 (dk_at dksX5_name_4 15 rfl rfl)
theorem dX5_name_110 : decode cX5_name 110 = .ok (.aload_n 0, 1) := dk_42 (dk_at dksX5_name_4 18 rfl rfl)
theorem dX5_name_111 : decode cX5_name 111 = .ok (.aload_n 3, 1) := dk_45 (dk_at dksX5_name_4 19 rfl rfl)
theorem dX5_name_112 : decode cX5_name 112 = .ok (.aload_n 0, 1) := dk_42 (dk_at dksX5_name_4 20 rfl rfl)
theorem dX5_name_113 : decode cX5_name 113 = .ok (.getfield 3, 3) := dk_180 0 3 (dk_at dksX5_name_4 21 rfl rfl)
theorem dX5_name_116 : decode cX5_name 116 = .ok (.getfield 122, 3) := dk_180 0 122 (dk_at dksX5_name_5 0 rfl rfl)
theorem dX5_name_119 : decode cX5_name 119 = .ok (.iload 4, 2) := dk_21 4 (dk_at dksX5_name_5 3 rfl rfl)
theorem dX5_name_121 : decode cX5_name 121 = .ok (.aaload, 1) := dk_50 (dk_at dksX5_name_5 5 rfl rfl)
theorem dX5_name_122 : decode cX5_name 122 = .ok (.invokestatic 125, 3) := dk_184 0 125 (dk_at dksX5_name_5 6 rfl rfl)
theorem dX5_name_125 : decode cX5_name 125 = .ok (.ifCond .ne 7, 3) := dk_154 0 7 (dk_at dksX5_name_5 9 rfl rfl)
theorem dX5_name_128 : decode cX5_name 128 = .ok (.iconst 1, 1) := dk_4 (dk_at dksX5_name_5 12 rfl rfl)
theorem dX5_name_129 : decode cX5_name 129 = .ok (.goto 4, 3) := dk_167 0 4 (dk_at dksX5_name_5 13 rfl rfl)
theorem dX5_name_132 : decode cX5_name 132 = .ok (.iconst 0, 1) := dk_3 (dk_at dksX5_name_5 16 rfl rfl)
theorem dX5_name_133 : decode cX5_name 133 = .ok (.iconst 3, 1) := dk_6 (dk_at dksX5_name_5 17 rfl rfl)
theorem dX5_name_134 : decode cX5_name 134 = .ok (.iconst 0, 1) := dk_3 (dk_at dksX5_name_5 18 rfl rfl)
theorem dX5_name_135 : decode cX5_name 135 = .ok (.invokevirtual 46, 3) := dk_182 0 46 (dk_at dksX5_name_5 19 rfl rfl)
theorem dX5_name_138 : decode cX5_name 138 = .ok (.iinc 4 1, 3) := dk_132 4 1 (dk_at dksX5_name_6 0 rfl rfl)
theorem dX5_name_141 : decode cX5_name 141 = .ok (.goto (-43), 3) := dk_167 255 213 (dk_at dksX5_name_6 3 rfl rfl)
theorem dX5_name_144 : decode cX5_name 144 = .ok (.aload_n 3, 1) := dk_45 (dk_at dksX5_name_6 6 rfl rfl)
theorem dX5_name_145 : decode cX5_name 145 = .ok (.areturn, 1) := dk_176 (dk_at dksX5_name_6 7 rfl rfl)
def dkwX5_oneOf_1 : List UInt8 := [155, 0, 7, 4, 167, 0, 4, 3, 4, 42, 180, 0, 20, 182, 0, 46, 28, 172]
abbrev dktX5_oneOf_1 : List UInt8 := dkwX5_oneOf_1 ++ []
def dkwX5_oneOf_0 : List UInt8 := [42, 182, 0, 31, 2, 160, 0, 7, 2, 167, 0, 12, 43, 42, 182, 0, 31, 146, 182, 0, 105, 61, 42, 28]
abbrev dktX5_oneOf_0 : List UInt8 := dkwX5_oneOf_0 ++ dktX5_oneOf_1
theorem dksX5_oneOf_0 : cX5_oneOf.data.toList.drop 0 = dktX5_oneOf_0 := by decide +kernel
theorem dksX5_oneOf_1 : cX5_oneOf.data.toList.drop 24 = dktX5_oneOf_1 := dk_seg dksX5_oneOf_0 24 rfl rfl
theorem dX5_oneOf_0 : decode cX5_oneOf 0 = .ok (.aload_n 0, 1) := dk_42 (dk_at dksX5_oneOf_0 0 rfl rfl)
theorem dX5_oneOf_1 : decode cX5_oneOf 1 = .ok (.invokevirtual 31, 3) := dk_182 0 31 (dk_at dksX5_oneOf_0 1 rfl rfl)
theorem dX5_oneOf_4 : decode cX5_oneOf 4 = .ok (.iconst (-1), 1) := dk_2 (dk_at dksX5_oneOf_0 4 rfl rfl)
theorem dX5_oneOf_5 : decode cX5_oneOf 5 = .ok (.if_icmp .ne 7, 3) := dk_160 0 7 (dk_at dksX5_oneOf_0 5 rfl rfl)
theorem dX5_oneOf_8 : decode cX5_oneOf 8 = .ok (.iconst (-1), 1) := dk_2 (dk_at dksX5_oneOf_0 8 rfl rfl)
theorem dX5_oneOf_9 : decode cX5_oneOf 9 = .ok (.goto 12, 3) := dk_167 0 12 (dk_at dksX5_oneOf_0 9 rfl rfl)
theorem dX5_oneOf_12 : decode cX5_oneOf 12 = .ok (.aload_n 1, 1) := dk_43 (dk_at dksX5_oneOf_0 12 rfl rfl)
theorem dX5_oneOf_13 : decode cX5_oneOf 13 = .ok (.aload_n 0, 1) := dk_42 (dk_at dksX5_oneOf_0 13 rfl rfl)
theorem dX5_oneOf_14 : decode cX5_oneOf 14 = .ok (.invokevirtual 31, 3) := dk_182 0 31 (dk_at dksX5_oneOf_0 14 rfl rfl)
theorem dX5_oneOf_17 : decode cX5_oneOf 17 = .ok (.i2c, 1) := dk_146 (dk_at dksX5_oneOf_0 17 rfl rfl)
theorem dX5_oneOf_18 : decode cX5_oneOf 18 = .ok (.invokevirtual 105, 3) := dk_182 0 105 (dk_at dksX5_oneOf_0 18 rfl rfl)
theorem dX5_oneOf_21 : decode cX5_oneOf 21 = .ok (.istore_n 2, 1) := dk_61 (dk_at dksX5_oneOf_0 21 rfl rfl)
theorem dX5_oneOf_22 : decode cX5_oneOf 22 = .ok (.aload_n 0, 1) := dk_42 (dk_at dksX5_oneOf_0 22 rfl rfl)
theorem dX5_oneOf_23 : decode cX5_oneOf 23 = .ok (.iload_n 2, 1) := dk_28 (dk_at dksX5_oneOf_0 23 rfl rfl)
theorem dX5_oneOf_24 : decode cX5_oneOf 24 = .ok (.ifCond .lt 7, 3) := dk_155 0 7 (dk_at dksX5_oneOf_1 0 rfl rfl)
theorem dX5_oneOf_27 : decode cX5_oneOf 27 = .ok (.iconst 1, 1) := dk_4 (dk_at dksX5_oneOf_1 3 rfl rfl)
theorem dX5_oneOf_28 : decode cX5_oneOf 28 = .ok (.goto 4, 3) := dk_167 0 4 (dk_at dksX5_oneOf_1 4 rfl rfl)
theorem dX5_oneOf_31 : decode cX5_oneOf 31 = .ok (.iconst 0, 1) := dk_3 (dk_at dksX5_oneOf_1 7 rfl rfl)
theorem dX5_oneOf_32 : decode cX5_oneOf 32 = .ok (.iconst 1, 1) := dk_4 (dk_at dksX5_oneOf_1 8 rfl rfl)
theorem dX5_oneOf_33 : decode cX5_oneOf 33 = .ok (.aload_n 0, 1) := dk_42 (dk_at dksX5_oneOf_1 9 rfl rfl)
theorem dX5_oneOf_34 : decode cX5_oneOf 34 = .ok (.getfield 20, 3) := dk_180 0 20 (dk_at dksX5_oneOf_1 10 rfl rfl)
theorem dX5_oneOf_37 : decode cX5_oneOf 37 = .ok (.invokevirtual 46, 3) := dk_182 0 46 (dk_at dksX5_oneOf_1 13 rfl rfl)
theorem dX5_oneOf_40 : decode cX5_oneOf 40 = .ok (.iload_n 2, 1) := dk_28 (dk_at dksX5_oneOf_1 16 rfl rfl)
theorem dX5_oneOf_41 : decode cX5_oneOf 41 = .ok (.ireturn, 1) := dk_172 (dk_at dksX5_oneOf_1 17 rfl rfl)
def dkwX6_init_0 : List UInt8 := [42, 183, 0, 1, 42, 16, 8, 28, 104, 27, 96, 181, 0, 7, 177]
abbrev dktX6_init_0 : List UInt8 := dkwX6_init_0 ++ []
theorem dksX6_init_0 : cX6_init.data.toList.drop 0 = dktX6_init_0 := by decide +kernel
theorem dX6_init_0 : decode cX6_init 0 = .ok (.aload_n 0, 1) := dk_42 (dk_at dksX6_init_0 0 rfl rfl)
theorem dX6_init_1 : decode cX6_init 1 = .ok (.invokespecial 1, 3) := dk_183 0 1 (dk_at dksX6_init_0 1 rfl rfl)
theorem dX6_init_4 : decode cX6_init 4 = .ok (.aload_n 0, 1) := dk_42 (dk_at dksX6_init_0 4 rfl rfl)
theorem dX6_init_5 : decode cX6_init 5 = .ok (.bipush 8, 2) := dk_16 8 (dk_at dksX6_init_0 5 rfl rfl)
theorem dX6_init_7 : decode cX6_init 7 = .ok (.iload_n 2, 1) := dk_28 (dk_at dksX6_init_0 7 rfl rfl)
theorem dX6_init_8 : decode cX6_init 8 = .ok (.imul, 1) := dk_104 (dk_at dksX6_init_0 8 rfl rfl)
theorem dX6_init_9 : decode cX6_init 9 = .ok (.iload_n 1, 1) := dk_27 (dk_at dksX6_init_0 9 rfl rfl)
theorem dX6_init_10 : decode cX6_init 10 = .ok (.iadd, 1) := dk_96 (dk_at dksX6_init_0 10 rfl rfl)
theorem dX6_init_11 : decode cX6_init 11 = .ok (.putfield 7, 3) := dk_181 0 7 (dk_at dksX6_init_0 11 rfl rfl)
theorem dX6_init_14 : decode cX6_init 14 = .ok (.return_, 1) := dk_177 (dk_at dksX6_init_0 14 rfl rfl)
def dkwX7_compareTo_0 : List UInt8 := [42, 43, 192, 0, 8, 182, 0, 19, 172]
abbrev dktX7_compareTo_0 : List UInt8 := dkwX7_compareTo_0 ++ []
theorem dksX7_compareTo_0 : cX7_compareTo.data.toList.drop 0 = dktX7_compareTo_0 := by decide +kernel
theorem dX7_compareTo_0 : decode cX7_compareTo 0 = .ok (.aload_n 0, 1) := dk_42 (dk_at dksX7_compareTo_0 0 rfl rfl)
theorem dX7_compareTo_1 : decode cX7_compareTo 1 = .ok (.aload_n 1, 1) := dk_43 (dk_at dksX7_compareTo_0 1 rfl rfl)
theorem dX7_compareTo_2 : decode cX7_compareTo 2 = .ok (.checkcast 8, 3) := dk_192 0 8 (dk_at dksX7_compareTo_0 2 rfl rfl)
theorem dX7_compareTo_5 : decode cX7_compareTo 5 = .ok (.invokevirtual 19, 3) := dk_182 0 19 (dk_at dksX7_compareTo_0 5 rfl rfl)
theorem dX7_compareTo_8 : decode cX7_compareTo 8 = .ok (.ireturn, 1) := dk_172 (dk_at dksX7_compareTo_0 8 rfl rfl)
def dkwX7_compareTo_2_3 : List UInt8 := [42, 180, 0, 13, 43, 180, 0, 13, 164, 0, 7, 4, 167, 0, 4, 3, 172]
abbrev dktX7_compareTo_2_3 : List UInt8 := dkwX7_compareTo_2_3 ++ []
def dkwX7_compareTo_2_2 : List UInt8 := [162, 0, 7, 2, 167, 0, 4, 4, 172, 42, 180, 0, 13, 43, 180, 0, 13, 162, 0, 7, 2, 167, 0, 19]
abbrev dktX7_compareTo_2_2 : List UInt8 := dkwX7_compareTo_2_2 ++ dktX7_compareTo_2_3
def dkwX7_compareTo_2_1 : List UInt8 := [167, 0, 4, 4, 172, 42, 180, 0, 7, 43, 180, 0, 7, 159, 0, 20, 42, 180, 0, 7, 43, 180, 0, 7]
abbrev dktX7_compareTo_2_1 : List UInt8 := dkwX7_compareTo_2_1 ++ dktX7_compareTo_2_2
def dkwX7_compareTo_2_0 : List UInt8 := [42, 180, 0, 16, 43, 180, 0, 16, 159, 0, 20, 42, 180, 0, 16, 43, 180, 0, 16, 162, 0, 7, 2]
abbrev dktX7_compareTo_2_0 : List UInt8 := dkwX7_compareTo_2_0 ++ dktX7_compareTo_2_1
theorem dksX7_compareTo_2_0 : cX7_compareTo_2.data.toList.drop 0 = dktX7_compareTo_2_0 := by decide +kernel
theorem dksX7_compareTo_2_1 : cX7_compareTo_2.data.toList.drop 23 = dktX7_compareTo_2_1 := dk_seg dksX7_compareTo_2_0 23 rfl rfl
theorem dksX7_compareTo_2_2 : cX7_compareTo_2.data.toList.drop 47 = dktX7_compareTo_2_2 := dk_seg dksX7_compareTo_2_1 24 rfl rfl
theorem dksX7_compareTo_2_3 : cX7_compareTo_2.data.toList.drop 71 = dktX7_compareTo_2_3 := dk_seg dksX7_compareTo_2_2 24 rfl rfl
theorem dX7_compareTo_2_0 : decode cX7_compareTo_2 0 = .ok (.aload_n 0, 1) := dk_42 (dk_at dksX7_compareTo_2_0 0 rfl rfl)
theorem dX7_compareTo_2_1 : decode cX7_compareTo_2 1 = .ok (.getfield 16, 3) := dk_180 0 16 (dk_at dksX7_compareTo_2_0 1 rfl rfl)
theorem dX7_compareTo_2_4 : decode cX7_compareTo_2 4 = .ok (.aload_n 1, 1) := dk_43 (dk_at dksX7_compareTo_2_0 4 rfl rfl)
theorem dX7_compareTo_2_5 : decode cX7_compareTo_2 5 = .ok (.getfield 16, 3) := dk_180 0 16 (dk_at dksX7_compareTo_2_0 5 rfl rfl)
theorem dX7_compareTo_2_8 : decode cX7_compareTo_2 8 = .ok (.if_icmp .eq 20, 3) := dk_159 0 20 (dk_at dksX7_compareTo_2_0 8 rfl rfl)
theorem dX7_compareTo_2_11 : decode cX7_compareTo_2 11 = .ok (.aload_n 0, 1) := dk_42 (dk_at dksX7_compareTo_2_0 11 rfl rfl)
theorem dX7_compareTo_2_12 : decode cX7_compareTo_2 12 = .ok (.getfield 16, 3) := dk_180 0 16 (dk_at dksX7_compareTo_2_0 12 rfl rfl)
theorem dX7_compareTo_2_15 : decode cX7_compareTo_2 15 = .ok (.aload_n 1, 1) := dk_43 (dk_at dksX7_compareTo_2_0 15 rfl rfl)
theorem dX7_compareTo_2_16 : decode cX7_compareTo_2 16 = .ok (.getfield 16, 3) := dk_180 0 16 (dk_at dksX7_compareTo_2_0 16 rfl rfl)
theorem dX7_compareTo_2_19 : decode cX7_compareTo_2 19 = .ok (.if_icmp .ge 7, 3) := dk_162 0 7 (dk_at dksX7_compareTo_2_0 19 rfl rfl)
theorem dX7_compareTo_2_22 : decode cX7_compareTo_2 22 = .ok (.iconst (-1), 1) := dk_2 (dk_at dksX7_compareTo_2_0 22 rfl rfl)
theorem dX7_compareTo_2_23 : decode cX7_compareTo_2 23 = .ok (.goto 4, 3) := dk_167 0 4 (dk_at dksX7_compareTo_2_1 0 rfl rfl)
theorem dX7_compareTo_2_26 : decode cX7_compareTo_2 26 = .ok (.iconst 1, 1) := dk_4 (dk_at dksX7_compareTo_2_1 3 rfl rfl)
theorem dX7_compareTo_2_27 : decode cX7_compareTo_2 27 = .ok (.ireturn, 1) := dk_172 (dk_at dksX7_compareTo_2_1 4 rfl rfl)
theorem dX7_compareTo_2_28 : decode cX7_compareTo_2 28 = .ok (.aload_n 0, 1) := dk_42 (dk_at dksX7_compareTo_2_1 5 rfl rfl)
theorem dX7_compareTo_2_29 : decode cX7_compareTo_2 29 = .ok (.getfield 7, 3) := dk_180 0 7 (dk_at dksX7_compareTo_2_1 6 rfl rfl)
theorem dX7_compareTo_2_32 : decode cX7_compareTo_2 32 = .ok (.aload_n 1, 1) := dk_43 (dk_at dksX7_compareTo_2_1 9 rfl rfl)
theorem dX7_compareTo_2_33 : decode cX7_compareTo_2 33 = .ok (.getfield 7, 3) := dk_180 0 7 (dk_at dksX7_compareTo_2_1 10 rfl rfl)
theorem dX7_compareTo_2_36 : decode cX7_compareTo_2 36 = .ok (.if_icmp .eq 20, 3) := dk_159 0 20 (dk_at dksX7_compareTo_2_1 13 rfl rfl)
theorem dX7_compareTo_2_39 : decode cX7_compareTo_2 39 = .ok (.aload_n 0, 1) := dk_42 (dk_at dksX7_compareTo_2_1 16 rfl rfl)
theorem dX7_compareTo_2_40 : decode cX7_compareTo_2 40 = .ok (.getfield 7, 3) := dk_180 0 7 (dk_at dksX7_compareTo_2_1 17 rfl rfl)
theorem dX7_compareTo_2_43 : decode cX7_compareTo_2 43 = .ok (.aload_n 1, 1) := dk_43 (dk_at dksX7_compareTo_2_1 20 rfl rfl)
theorem dX7_compareTo_2_44 : decode cX7_compareTo_2 44 = .ok (.getfield 7, 3) := dk_180 0 7 (dk_at dksX7_compareTo_2_1 21 rfl rfl)
theorem dX7_compareTo_2_47 : decode cX7_compareTo_2 47 = .ok (.if_icmp .ge 7, 3) := dk_162 0 7 (dk_at dksX7_compareTo_2_2 0 rfl rfl)
theorem dX7_compareTo_2_50 : decode cX7_compareTo_2 50 = .ok (.iconst (-1), 1) := dk_2 (dk_at dksX7_compareTo_2_2 3 rfl rfl)
theorem dX7_compareTo_2_51 : decode cX7_compareTo_2 51 = .ok (.goto 4, 3) := dk_167 0 4 (dk_at dksX7_compareTo_2_2 4 rfl rfl)
theorem dX7_compareTo_2_54 : decode cX7_compareTo_2 54 = .ok (.iconst 1, 1) := dk_4 (dk_at dksX7_compareTo_2_2 7 rfl rfl)
theorem dX7_compareTo_2_55 : decode cX7_compareTo_2 55 = .ok (.ireturn, 1) := dk_172 (dk_at dksX7_compareTo_2_2 8 rfl rfl)
theorem dX7_compareTo_2_56 : decode cX7_compareTo_2 56 = .ok (.aload_n 0, 1) := dk_42 (dk_at dksX7_compareTo_2_2 9 rfl rfl)
theorem dX7_compareTo_2_57 : decode cX7_compareTo_2 57 = .ok (.getfield 13, 3) := dk_180 0 13 (dk_at dksX7_compareTo_2_2 10 rfl rfl)
theorem dX7_compareTo_2_60 : decode cX7_compareTo_2 60 = .ok (.aload_n 1, 1) := dk_43 (dk_at dksX7_compareTo_2_2 13 rfl rfl)
theorem dX7_compareTo_2_61 : decode cX7_compareTo_2 61 = .ok (.getfield 13, 3) := dk_180 0 13 (dk_at dksX7_compareTo_2_2 14 rfl rfl)
theorem dX7_compareTo_2_64 : decode cX7_compareTo_2 64 = .ok (.if_icmp .ge 7, 3) := dk_162 0 7 (dk_at dksX7_compareTo_2_2 17 rfl rfl)
theorem dX7_compareTo_2_67 : decode cX7_compareTo_2 67 = .ok (.iconst (-1), 1) := dk_2 (dk_at dksX7_compareTo_2_2 20 rfl rfl)
theorem dX7_compareTo_2_68 : decode cX7_compareTo_2 68 = .ok (.goto 19, 3) := dk_167 0 19 (dk_at dksX7_compareTo_2_2 21 rfl rfl)
theorem dX7_compareTo_2_71 : decode cX7_compareTo_2 71 = .ok (.aload_n 0, 1) := dk_42 (dk_at dksX7_compareTo_2_3 0 rfl rfl)
theorem dX7_compareTo_2_72 : decode cX7_compareTo_2 72 = .ok (.getfield 13, 3) := dk_180 0 13 (dk_at dksX7_compareTo_2_3 1 rfl rfl)
theorem dX7_compareTo_2_75 : decode cX7_compareTo_2 75 = .ok (.aload_n 1, 1) := dk_43 (dk_at dksX7_compareTo_2_3 4 rfl rfl)
theorem dX7_compareTo_2_76 : decode cX7_compareTo_2 76 = .ok (.getfield 13, 3) := dk_180 0 13 (dk_at dksX7_compareTo_2_3 5 rfl rfl)
theorem dX7_compareTo_2_79 : decode cX7_compareTo_2 79 = .ok (.if_icmp .le 7, 3) := dk_164 0 7 (dk_at dksX7_compareTo_2_3 8 rfl rfl)
theorem dX7_compareTo_2_82 : decode cX7_compareTo_2 82 = .ok (.iconst 1, 1) := dk_4 (dk_at dksX7_compareTo_2_3 11 rfl rfl)
theorem dX7_compareTo_2_83 : decode cX7_compareTo_2 83 = .ok (.goto 4, 3) := dk_167 0 4 (dk_at dksX7_compareTo_2_3 12 rfl rfl)
theorem dX7_compareTo_2_86 : decode cX7_compareTo_2 86 = .ok (.iconst 0, 1) := dk_3 (dk_at dksX7_compareTo_2_3 15 rfl rfl)
theorem dX7_compareTo_2_87 : decode cX7_compareTo_2 87 = .ok (.ireturn, 1) := dk_172 (dk_at dksX7_compareTo_2_3 16 rfl rfl)
def dkwX7_init_0 : List UInt8 := [42, 183, 0, 1, 42, 27, 181, 0, 7, 42, 28, 181, 0, 13, 42, 29, 181, 0, 16, 177]
abbrev dktX7_init_0 : List UInt8 := dkwX7_init_0 ++ []
theorem dksX7_init_0 : cX7_init.data.toList.drop 0 = dktX7_init_0 := by decide +kernel
theorem dX7_init_0 : decode cX7_init 0 = .ok (.aload_n 0, 1) := dk_42 (dk_at dksX7_init_0 0 rfl rfl)
theorem dX7_init_1 : decode cX7_init 1 = .ok (.invokespecial 1, 3) := dk_183 0 1 (dk_at dksX7_init_0 1 rfl rfl)
theorem dX7_init_4 : decode cX7_init 4 = .ok (.aload_n 0, 1) := dk_42 (dk_at dksX7_init_0 4 rfl rfl)
theorem dX7_init_5 : decode cX7_init 5 = .ok (.iload_n 1, 1) := dk_27 (dk_at dksX7_init_0 5 rfl rfl)
theorem dX7_init_6 : decode cX7_init 6 = .ok (.putfield 7, 3) := dk_181 0 7 (dk_at dksX7_init_0 6 rfl rfl)
theorem dX7_init_9 : decode cX7_init 9 = .ok (.aload_n 0, 1) := dk_42 (dk_at dksX7_init_0 9 rfl rfl)
theorem dX7_init_10 : decode cX7_init 10 = .ok (.iload_n 2, 1) := dk_28 (dk_at dksX7_init_0 10 rfl rfl)
theorem dX7_init_11 : decode cX7_init 11 = .ok (.putfield 13, 3) := dk_181 0 13 (dk_at dksX7_init_0 11 rfl rfl)
theorem dX7_init_14 : decode cX7_init 14 = .ok (.aload_n 0, 1) := dk_42 (dk_at dksX7_init_0 14 rfl rfl)
theorem dX7_init_15 : decode cX7_init 15 = .ok (.iload_n 3, 1) := dk_29 (dk_at dksX7_init_0 15 rfl rfl)
theorem dX7_init_16 : decode cX7_init 16 = .ok (.putfield 16, 3) := dk_181 0 16 (dk_at dksX7_init_0 16 rfl rfl)
theorem dX7_init_19 : decode cX7_init 19 = .ok (.return_, 1) := dk_177 (dk_at dksX7_init_0 19 rfl rfl)
def dkwX8_end_1 : List UInt8 := [182, 0, 17, 100, 167, 0, 9, 42, 27, 3, 182, 0, 17, 46, 172]
abbrev dktX8_end_1 : List UInt8 := dkwX8_end_1 ++ []
def dkwX8_end_0 : List UInt8 := [42, 180, 0, 11, 27, 50, 28, 153, 0, 22, 42, 180, 0, 11, 27, 50, 190, 4, 100, 42, 27, 4]
abbrev dktX8_end_0 : List UInt8 := dkwX8_end_0 ++ dktX8_end_1
theorem dksX8_end_0 : cX8_end.data.toList.drop 0 = dktX8_end_0 := by decide +kernel
theorem dksX8_end_1 : cX8_end.data.toList.drop 22 = dktX8_end_1 := dk_seg dksX8_end_0 22 rfl rfl
theorem dX8_end_0 : decode cX8_end 0 = .ok (.aload_n 0, 1) := dk_42 (dk_at dksX8_end_0 0 rfl rfl)
theorem dX8_end_1 : decode cX8_end 1 = .ok (.getfield 11, 3) := dk_180 0 11 (dk_at dksX8_end_0 1 rfl rfl)
theorem dX8_end_4 : decode cX8_end 4 = .ok (.iload_n 1, 1) := dk_27 (dk_at dksX8_end_0 4 rfl rfl)
theorem dX8_end_5 : decode cX8_end 5 = .ok (.aaload, 1) := dk_50 (dk_at dksX8_end_0 5 rfl rfl)
theorem dX8_end_6 : decode cX8_end 6 = .ok (.iload_n 2, 1) := dk_28 (dk_at dksX8_end_0 6 rfl rfl)
theorem dX8_end_7 : decode cX8_end 7 = .ok (.ifCond .eq 22, 3) := dk_153 0 22 (dk_at dksX8_end_0 7 rfl rfl)
theorem dX8_end_10 : decode cX8_end 10 = .ok (.aload_n 0, 1) := dk_42 (dk_at dksX8_end_0 10 rfl rfl)
theorem dX8_end_11 : decode cX8_end 11 = .ok (.getfield 11, 3) := dk_180 0 11 (dk_at dksX8_end_0 11 rfl rfl)
theorem dX8_end_14 : decode cX8_end 14 = .ok (.iload_n 1, 1) := dk_27 (dk_at dksX8_end_0 14 rfl rfl)
theorem dX8_end_15 : decode cX8_end 15 = .ok (.aaload, 1) := dk_50 (dk_at dksX8_end_0 15 rfl rfl)
theorem dX8_end_16 : decode cX8_end 16 = .ok (.arraylength, 1) := dk_190 (dk_at dksX8_end_0 16 rfl rfl)
theorem dX8_end_17 : decode cX8_end 17 = .ok (.iconst 1, 1) := dk_4 (dk_at dksX8_end_0 17 rfl rfl)
theorem dX8_end_18 : decode cX8_end 18 = .ok (.isub, 1) := dk_100 (dk_at dksX8_end_0 18 rfl rfl)
theorem dX8_end_19 : decode cX8_end 19 = .ok (.aload_n 0, 1) := dk_42 (dk_at dksX8_end_0 19 rfl rfl)
theorem dX8_end_20 : decode cX8_end 20 = .ok (.iload_n 1, 1) := dk_27 (dk_at dksX8_end_0 20 rfl rfl)
theorem dX8_end_21 : decode cX8_end 21 = .ok (.iconst 1, 1) := dk_4 (dk_at dksX8_end_0 21 rfl rfl)
theorem dX8_end_22 : decode cX8_end 22 = .ok (.invokevirtual 17, 3) := dk_182 0 17 (dk_at dksX8_end_1 0 rfl rfl)
theorem dX8_end_25 : decode cX8_end 25 = .ok (.isub, 1) := dk_100 (dk_at dksX8_end_1 3 rfl rfl)
theorem dX8_end_26 : decode cX8_end 26 = .ok (.goto 9, 3) := dk_167 0 9 (dk_at dksX8_end_1 4 rfl rfl)
theorem dX8_end_29 : decode cX8_end 29 = .ok (.aload_n 0, 1) := dk_42 (dk_at dksX8_end_1 7 rfl rfl)
theorem dX8_end_30 : decode cX8_end 30 = .ok (.iload_n 1, 1) := dk_27 (dk_at dksX8_end_1 8 rfl rfl)
theorem dX8_end_31 : decode cX8_end 31 = .ok (.iconst 0, 1) := dk_3 (dk_at dksX8_end_1 9 rfl rfl)
theorem dX8_end_32 : decode cX8_end 32 = .ok (.invokevirtual 17, 3) := dk_182 0 17 (dk_at dksX8_end_1 10 rfl rfl)
theorem dX8_end_35 : decode cX8_end 35 = .ok (.iaload, 1) := dk_46 (dk_at dksX8_end_1 13 rfl rfl)
theorem dX8_end_36 : decode cX8_end 36 = .ok (.ireturn, 1) := dk_172 (dk_at dksX8_end_1 14 rfl rfl)
def dkwX8_empty_1 : List UInt8 := [167, 0, 4, 29, 46, 2, 160, 0, 9, 132, 3, 1, 167, 255, 223, 29, 172]
abbrev dktX8_empty_1 : List UInt8 := dkwX8_empty_1 ++ []
def dkwX8_empty_0 : List UInt8 := [3, 62, 42, 180, 0, 11, 27, 50, 28, 153, 0, 17, 42, 180, 0, 11, 27, 50, 190, 4, 100, 29, 100]
abbrev dktX8_empty_0 : List UInt8 := dkwX8_empty_0 ++ dktX8_empty_1
theorem dksX8_empty_0 : cX8_empty.data.toList.drop 0 = dktX8_empty_0 := by decide +kernel
theorem dksX8_empty_1 : cX8_empty.data.toList.drop 23 = dktX8_empty_1 := dk_seg dksX8_empty_0 23 rfl rfl
theorem dX8_empty_0 : decode cX8_empty 0 = .ok (.iconst 0, 1) := dk_3 (dk_at dksX8_empty_0 0 rfl rfl)
theorem dX8_empty_1 : decode cX8_empty 1 = .ok (.istore_n 3, 1) := dk_62 (dk_at dksX8_empty_0 1 rfl rfl)
theorem dX8_empty_2 : decode cX8_empty 2 = .ok (.aload_n 0, 1) := dk_42 (dk_at dksX8_empty_0 2 rfl rfl)
theorem dX8_empty_3 : decode cX8_empty 3 = .ok (.getfield 11, 3) := dk_180 0 11 (dk_at dksX8_empty_0 3 rfl rfl)
theorem dX8_empty_6 : decode cX8_empty 6 = .ok (.iload_n 1, 1) := dk_27 (dk_at dksX8_empty_0 6 rfl rfl)
theorem dX8_empty_7 : decode cX8_empty 7 = .ok (.aaload, 1) := dk_50 (dk_at dksX8_empty_0 7 rfl rfl)
theorem dX8_empty_8 : decode cX8_empty 8 = .ok (.iload_n 2, 1) := dk_28 (dk_at dksX8_empty_0 8 rfl rfl)
theorem dX8_empty_9 : decode cX8_empty 9 = .ok (.ifCond .eq 17, 3) := dk_153 0 17 (dk_at dksX8_empty_0 9 rfl rfl)
theorem dX8_empty_12 : decode cX8_empty 12 = .ok (.aload_n 0, 1) := dk_42 (dk_at dksX8_empty_0 12 rfl rfl)
theorem dX8_empty_13 : decode cX8_empty 13 = .ok (.getfield 11, 3) := dk_180 0 11 (dk_at dksX8_empty_0 13 rfl rfl)
theorem dX8_empty_16 : decode cX8_empty 16 = .ok (.iload_n 1, 1) := dk_27 (dk_at dksX8_empty_0 16 rfl rfl)
theorem dX8_empty_17 : decode cX8_empty 17 = .ok (.aaload, 1) := dk_50 (dk_at dksX8_empty_0 17 rfl rfl)
theorem dX8_empty_18 : decode cX8_empty 18 = .ok (.arraylength, 1) := dk_190 (dk_at dksX8_empty_0 18 rfl rfl)
theorem dX8_empty_19 : decode cX8_empty 19 = .ok (.iconst 1, 1) := dk_4 (dk_at dksX8_empty_0 19 rfl rfl)
theorem dX8_empty_20 : decode cX8_empty 20 = .ok (.isub, 1) := dk_100 (dk_at dksX8_empty_0 20 rfl rfl)
theorem dX8_empty_21 : decode cX8_empty 21 = .ok (.iload_n 3, 1) := dk_29 (dk_at dksX8_empty_0 21 rfl rfl)
theorem dX8_empty_22 : decode cX8_empty 22 = .ok (.isub, 1) := dk_100 (dk_at dksX8_empty_0 22 rfl rfl)
theorem dX8_empty_23 : decode cX8_empty 23 = .ok (.goto 4, 3) := dk_167 0 4 (dk_at dksX8_empty_1 0 rfl rfl)
theorem dX8_empty_26 : decode cX8_empty 26 = .ok (.iload_n 3, 1) := dk_29 (dk_at dksX8_empty_1 3 rfl rfl)
theorem dX8_empty_27 : decode cX8_empty 27 = .ok (.iaload, 1) := dk_46 (dk_at dksX8_empty_1 4 rfl rfl)
theorem dX8_empty_28 : decode cX8_empty 28 = .ok (.iconst (-1), 1) := dk_2 (dk_at dksX8_empty_1 5 rfl rfl)
theorem dX8_empty_29 : decode cX8_empty 29 = .ok (.if_icmp .ne 9, 3) := dk_160 0 9 (dk_at dksX8_empty_1 6 rfl rfl)
theorem dX8_empty_32 : decode cX8_empty 32 = .ok (.iinc 3 1, 3) := dk_132 3 1 (dk_at dksX8_empty_1 9 rfl rfl)
theorem dX8_empty_35 : decode cX8_empty 35 = .ok (.goto (-33), 3) := dk_167 255 223 (dk_at dksX8_empty_1 12 rfl rfl)
theorem dX8_empty_38 : decode cX8_empty 38 = .ok (.iload_n 3, 1) := dk_29 (dk_at dksX8_empty_1 15 rfl rfl)
theorem dX8_empty_39 : decode cX8_empty 39 = .ok (.ireturn, 1) := dk_172 (dk_at dksX8_empty_1 16 rfl rfl)
def dkwX8_init_0 : List UInt8 := [42, 183, 0, 3, 42, 8, 189, 0, 9, 181, 0, 11, 177]
abbrev dktX8_init_0 : List UInt8 := dkwX8_init_0 ++ []
theorem dksX8_init_0 : cX8_init.data.toList.drop 0 = dktX8_init_0 := by decide +kernel
theorem dX8_init_0 : decode cX8_init 0 = .ok (.aload_n 0, 1) := dk_42 (dk_at dksX8_init_0 0 rfl rfl)
theorem dX8_init_1 : decode cX8_init 1 = .ok (.invokespecial 3, 3) := dk_183 0 3 (dk_at dksX8_init_0 1 rfl rfl)
theorem dX8_init_4 : decode cX8_init 4 = .ok (.aload_n 0, 1) := dk_42 (dk_at dksX8_init_0 4 rfl rfl)
theorem dX8_init_5 : decode cX8_init 5 = .ok (.iconst 5, 1) := dk_8 (dk_at dksX8_init_0 5 rfl rfl)
theorem dX8_init_6 : decode cX8_init 6 = .ok (.anewarray 9, 3) := dk_189 0 9 (dk_at dksX8_init_0 6 rfl rfl)
theorem dX8_init_9 : decode cX8_init 9 = .ok (.putfield 11, 3) := dk_181 0 11 (dk_at dksX8_init_0 9 rfl rfl)
theorem dX8_init_12 : decode cX8_init 12 = .ok (.return_, 1) := dk_177 (dk_at dksX8_init_0 12 rfl rfl)
def dkwX9_init_0 : List UInt8 := [42, 183, 0, 1, 42, 43, 181, 0, 7, 42, 28, 181, 0, 13, 177]
abbrev dktX9_init_0 : List UInt8 := dkwX9_init_0 ++ []
theorem dksX9_init_0 : cX9_init.data.toList.drop 0 = dktX9_init_0 := by decide +kernel
theorem dX9_init_0 : decode cX9_init 0 = .ok (.aload_n 0, 1) := dk_42 (dk_at dksX9_init_0 0 rfl rfl)
theorem dX9_init_1 : decode cX9_init 1 = .ok (.invokespecial 1, 3) := dk_183 0 1 (dk_at dksX9_init_0 1 rfl rfl)
theorem dX9_init_4 : decode cX9_init 4 = .ok (.aload_n 0, 1) := dk_42 (dk_at dksX9_init_0 4 rfl rfl)
theorem dX9_init_5 : decode cX9_init 5 = .ok (.aload_n 1, 1) := dk_43 (dk_at dksX9_init_0 5 rfl rfl)
theorem dX9_init_6 : decode cX9_init 6 = .ok (.putfield 7, 3) := dk_181 0 7 (dk_at dksX9_init_0 6 rfl rfl)
theorem dX9_init_9 : decode cX9_init 9 = .ok (.aload_n 0, 1) := dk_42 (dk_at dksX9_init_0 9 rfl rfl)
theorem dX9_init_10 : decode cX9_init 10 = .ok (.iload_n 2, 1) := dk_28 (dk_at dksX9_init_0 10 rfl rfl)
theorem dX9_init_11 : decode cX9_init 11 = .ok (.putfield 13, 3) := dk_181 0 13 (dk_at dksX9_init_0 11 rfl rfl)
theorem dX9_init_14 : decode cX9_init 14 = .ok (.return_, 1) := dk_177 (dk_at dksX9_init_0 14 rfl rfl)
