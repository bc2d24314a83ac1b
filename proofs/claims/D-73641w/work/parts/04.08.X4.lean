set_option maxRecDepth 100000
def dkwX4_clash_3 : List UInt8 := [42, 4, 28, 29, 182, 1, 106, 96, 172, 132, 3, 1, 167, 255, 203, 132, 2, 1, 167, 255, 185, 16, 254, 172]
abbrev dktX4_clash_3 : List UInt8 := dkwX4_clash_3 ++ []
def dkwX4_clash_2 : List UInt8 := [27, 154, 0, 7, 28, 167, 0, 27, 27, 4, 160, 0, 7, 29, 167, 0, 18, 42, 3, 28, 29, 182, 1, 106]
abbrev dktX4_clash_2 : List UInt8 := dkwX4_clash_2 ++ dktX4_clash_3
def dkwX4_clash_1 : List UInt8 := [162, 0, 69, 28, 4, 96, 62, 29, 42, 180, 0, 162, 162, 0, 51, 42, 28, 29, 182, 1, 103, 153, 0, 36]
abbrev dktX4_clash_1 : List UInt8 := dkwX4_clash_1 ++ dktX4_clash_2
def dkwX4_clash_0 : List UInt8 := [27, 3, 5, 184, 0, 123, 154, 0, 5, 2, 172, 42, 182, 0, 235, 3, 61, 28, 42, 180, 0, 162]
abbrev dktX4_clash_0 : List UInt8 := dkwX4_clash_0 ++ dktX4_clash_1
theorem dksX4_clash_0 : cX4_clash.data.toList.drop 0 = dktX4_clash_0 := by decide +kernel
theorem dksX4_clash_1 : cX4_clash.data.toList.drop 22 = dktX4_clash_1 := dk_seg dksX4_clash_0 22 rfl rfl
theorem dksX4_clash_2 : cX4_clash.data.toList.drop 46 = dktX4_clash_2 := dk_seg dksX4_clash_1 24 rfl rfl
theorem dksX4_clash_3 : cX4_clash.data.toList.drop 70 = dktX4_clash_3 := dk_seg dksX4_clash_2 24 rfl rfl
theorem dX4_clash_0 : decode cX4_clash 0 = .ok (.iload_n 1, 1) := dk_27 (dk_at dksX4_clash_0 0 rfl rfl)
theorem dX4_clash_1 : decode cX4_clash 1 = .ok (.iconst 0, 1) := dk_3 (dk_at dksX4_clash_0 1 rfl rfl)
theorem dX4_clash_2 : decode cX4_clash 2 = .ok (.iconst 2, 1) := dk_5 (dk_at dksX4_clash_0 2 rfl rfl)
theorem dX4_clash_3 : decode cX4_clash 3 = .ok (.invokestatic 123, 3) := dk_184 0 123 (dk_at dksX4_clash_0 3 rfl rfl)
theorem dX4_clash_6 : decode cX4_clash 6 = .ok (.ifCond .ne 5, 3) := dk_154 0 5 (dk_at dksX4_clash_0 6 rfl rfl)
theorem dX4_clash_9 : decode cX4_clash 9 = .ok (.iconst (-1), 1) := dk_2 (dk_at dksX4_clash_0 9 rfl rfl)
theorem dX4_clash_10 : decode cX4_clash 10 = .ok (.ireturn, 1) := dk_172 (dk_at dksX4_clash_0 10 rfl rfl)
theorem dX4_clash_11 : decode cX4_clash 11 = .ok (.aload_n 0, 1) := dk_42 (dk_at dksX4_clash_0 11 rfl rfl)
theorem dX4_clash_12 : decode cX4_clash 12 = .ok (.invokevirtual 235, 3) := dk_182 0 235 (dk_at dksX4_clash_0 12 rfl rfl)
theorem dX4_clash_15 : decode cX4_clash 15 = .ok (.iconst 0, 1) := dk_3 (dk_at dksX4_clash_0 15 rfl rfl)
theorem dX4_clash_16 : decode cX4_clash 16 = .ok (.istore_n 2, 1) := dk_61 (dk_at dksX4_clash_0 16 rfl rfl)
theorem dX4_clash_17 : decode cX4_clash 17 = .ok (.iload_n 2, 1) := dk_28 (dk_at dksX4_clash_0 17 rfl rfl)
theorem dX4_clash_18 : decode cX4_clash 18 = .ok (.aload_n 0, 1) := dk_42 (dk_at dksX4_clash_0 18 rfl rfl)
theorem dX4_clash_19 : decode cX4_clash 19 = .ok (.getfield 162, 3) := dk_180 0 162 (dk_at dksX4_clash_0 19 rfl rfl)
theorem dX4_clash_22 : decode cX4_clash 22 = .ok (.if_icmp .ge 69, 3) := dk_162 0 69 (dk_at dksX4_clash_1 0 rfl rfl)
theorem dX4_clash_25 : decode cX4_clash 25 = .ok (.iload_n 2, 1) := dk_28 (dk_at dksX4_clash_1 3 rfl rfl)
theorem dX4_clash_26 : decode cX4_clash 26 = .ok (.iconst 1, 1) := dk_4 (dk_at dksX4_clash_1 4 rfl rfl)
theorem dX4_clash_27 : decode cX4_clash 27 = .ok (.iadd, 1) := dk_96 (dk_at dksX4_clash_1 5 rfl rfl)
theorem dX4_clash_28 : decode cX4_clash 28 = .ok (.istore_n 3, 1) := dk_62 (dk_at dksX4_clash_1 6 rfl rfl)
theorem dX4_clash_29 : decode cX4_clash 29 = .ok (.iload_n 3, 1) := dk_29 (dk_at dksX4_clash_1 7 rfl rfl)
theorem dX4_clash_30 : decode cX4_clash 30 = .ok (.aload_n 0, 1) := dk_42 (dk_at dksX4_clash_1 8 rfl rfl)
theorem dX4_clash_31 : decode cX4_clash 31 = .ok (.getfield 162, 3) := dk_180 0 162 (dk_at dksX4_clash_1 9 rfl rfl)
theorem dX4_clash_34 : decode cX4_clash 34 = .ok (.if_icmp .ge 51, 3) := dk_162 0 51 (dk_at dksX4_clash_1 12 rfl rfl)
theorem dX4_clash_37 : decode cX4_clash 37 = .ok (.aload_n 0, 1) := dk_42 (dk_at dksX4_clash_1 15 rfl rfl)
theorem dX4_clash_38 : decode cX4_clash 38 = .ok (.iload_n 2, 1) := dk_28 (dk_at dksX4_clash_1 16 rfl rfl)
theorem dX4_clash_39 : decode cX4_clash 39 = .ok (.iload_n 3, 1) := dk_29 (dk_at dksX4_clash_1 17 rfl rfl)
theorem dX4_clash_40 : decode cX4_clash 40 = .ok (.invokevirtual 359, 3) := dk_182 1 103 (dk_at dksX4_clash_1 18 rfl rfl)
theorem dX4_clash_43 : decode cX4_clash 43 = .ok (.ifCond .eq 36, 3) := dk_153 0 36 (dk_at dksX4_clash_1 21 rfl rfl)
theorem dX4_clash_46 : decode cX4_clash 46 = .ok (.iload_n 1, 1) := dk_27 (dk_at dksX4_clash_2 0 rfl rfl)
theorem dX4_clash_47 : decode cX4_clash 47 = .ok (.ifCond .ne 7, 3) := dk_154 0 7 (dk_at dksX4_clash_2 1 rfl rfl)
theorem dX4_clash_50 : decode cX4_clash 50 = .ok (.iload_n 2, 1) := dk_28 (dk_at dksX4_clash_2 4 rfl rfl)
theorem dX4_clash_51 : decode cX4_clash 51 = .ok (.goto 27, 3) := dk_167 0 27 (dk_at dksX4_clash_2 5 rfl rfl)
theorem dX4_clash_54 : decode cX4_clash 54 = .ok (.iload_n 1, 1) := dk_27 (dk_at dksX4_clash_2 8 rfl rfl)
theorem dX4_clash_55 : decode cX4_clash 55 = .ok (.iconst 1, 1) := dk_4 (dk_at dksX4_clash_2 9 rfl rfl)
theorem dX4_clash_56 : decode cX4_clash 56 = .ok (.if_icmp .ne 7, 3) := dk_160 0 7 (dk_at dksX4_clash_2 10 rfl rfl)
theorem dX4_clash_59 : decode cX4_clash 59 = .ok (.iload_n 3, 1) := dk_29 (dk_at dksX4_clash_2 13 rfl rfl)
theorem dX4_clash_60 : decode cX4_clash 60 = .ok (.goto 18, 3) := dk_167 0 18 (dk_at dksX4_clash_2 14 rfl rfl)
theorem dX4_clash_63 : decode cX4_clash 63 = .ok (.aload_n 0, 1) := dk_42 (dk_at dksX4_clash_2 17 rfl rfl)
theorem dX4_clash_64 : decode cX4_clash 64 = .ok (.iconst 0, 1) := dk_3 (dk_at dksX4_clash_2 18 rfl rfl)
theorem dX4_clash_65 : decode cX4_clash 65 = .ok (.iload_n 2, 1) := dk_28 (dk_at dksX4_clash_2 19 rfl rfl)
theorem dX4_clash_66 : decode cX4_clash 66 = .ok (.iload_n 3, 1) := dk_29 (dk_at dksX4_clash_2 20 rfl rfl)
theorem dX4_clash_67 : decode cX4_clash 67 = .ok (.invokevirtual 362, 3) := dk_182 1 106 (dk_at dksX4_clash_2 21 rfl rfl)
theorem dX4_clash_70 : decode cX4_clash 70 = .ok (.aload_n 0, 1) := dk_42 (dk_at dksX4_clash_3 0 rfl rfl)
theorem dX4_clash_71 : decode cX4_clash 71 = .ok (.iconst 1, 1) := dk_4 (dk_at dksX4_clash_3 1 rfl rfl)
theorem dX4_clash_72 : decode cX4_clash 72 = .ok (.iload_n 2, 1) := dk_28 (dk_at dksX4_clash_3 2 rfl rfl)
theorem dX4_clash_73 : decode cX4_clash 73 = .ok (.iload_n 3, 1) := dk_29 (dk_at dksX4_clash_3 3 rfl rfl)
theorem dX4_clash_74 : decode cX4_clash 74 = .ok (.invokevirtual 362, 3) := dk_182 1 106 (dk_at dksX4_clash_3 4 rfl rfl)
theorem dX4_clash_77 : decode cX4_clash 77 = .ok (.iadd, 1) := dk_96 (dk_at dksX4_clash_3 7 rfl rfl)
theorem dX4_clash_78 : decode cX4_clash 78 = .ok (.ireturn, 1) := dk_172 (dk_at dksX4_clash_3 8 rfl rfl)
theorem dX4_clash_79 : decode cX4_clash 79 = .ok (.iinc 3 1, 3) := dk_132 3 1 (dk_at dksX4_clash_3 9 rfl rfl)
theorem dX4_clash_82 : decode cX4_clash 82 = .ok (.goto (-53), 3) := dk_167 255 203 (dk_at dksX4_clash_3 12 rfl rfl)
theorem dX4_clash_85 : decode cX4_clash 85 = .ok (.iinc 2 1, 3) := dk_132 2 1 (dk_at dksX4_clash_3 15 rfl rfl)
theorem dX4_clash_88 : decode cX4_clash 88 = .ok (.goto (-71), 3) := dk_167 255 185 (dk_at dksX4_clash_3 18 rfl rfl)
theorem dX4_clash_91 : decode cX4_clash 91 = .ok (.bipush (-2), 2) := dk_16 254 (dk_at dksX4_clash_3 21 rfl rfl)
theorem dX4_clash_93 : decode cX4_clash 93 = .ok (.ireturn, 1) := dk_172 (dk_at dksX4_clash_3 23 rfl rfl)
def dkwX4_doClash_2 : List UInt8 := [96, 46, 160, 0, 7, 4, 167, 0, 4, 3, 172]
abbrev dktX4_doClash_2 : List UInt8 := dkwX4_doClash_2 ++ []
def dkwX4_doClash_1 : List UInt8 := [180, 0, 78, 28, 46, 160, 0, 28, 42, 180, 0, 78, 16, 20, 27, 96, 46, 42, 180, 0, 78, 16, 20, 28]
abbrev dktX4_doClash_1 : List UInt8 := dkwX4_doClash_1 ++ dktX4_doClash_2
def dkwX4_doClash_0 : List UInt8 := [42, 27, 182, 1, 100, 153, 0, 51, 42, 28, 182, 1, 100, 153, 0, 43, 42, 180, 0, 78, 27, 46, 42]
abbrev dktX4_doClash_0 : List UInt8 := dkwX4_doClash_0 ++ dktX4_doClash_1
theorem dksX4_doClash_0 : cX4_doClash.data.toList.drop 0 = dktX4_doClash_0 := by decide +kernel
theorem dksX4_doClash_1 : cX4_doClash.data.toList.drop 23 = dktX4_doClash_1 := dk_seg dksX4_doClash_0 23 rfl rfl
theorem dksX4_doClash_2 : cX4_doClash.data.toList.drop 47 = dktX4_doClash_2 := dk_seg dksX4_doClash_1 24 rfl rfl
theorem dX4_doClash_0 : decode cX4_doClash 0 = .ok (.aload_n 0, 1) := dk_42 (dk_at dksX4_doClash_0 0 rfl rfl)
theorem dX4_doClash_1 : decode cX4_doClash 1 = .ok (.iload_n 1, 1) := dk_27 (dk_at dksX4_doClash_0 1 rfl rfl)
theorem dX4_doClash_2 : decode cX4_doClash 2 = .ok (.invokevirtual 356, 3) := dk_182 1 100 (dk_at dksX4_doClash_0 2 rfl rfl)
theorem dX4_doClash_5 : decode cX4_doClash 5 = .ok (.ifCond .eq 51, 3) := dk_153 0 51 (dk_at dksX4_doClash_0 5 rfl rfl)
theorem dX4_doClash_8 : decode cX4_doClash 8 = .ok (.aload_n 0, 1) := dk_42 (dk_at dksX4_doClash_0 8 rfl rfl)
theorem dX4_doClash_9 : decode cX4_doClash 9 = .ok (.iload_n 2, 1) := dk_28 (dk_at dksX4_doClash_0 9 rfl rfl)
theorem dX4_doClash_10 : decode cX4_doClash 10 = .ok (.invokevirtual 356, 3) := dk_182 1 100 (dk_at dksX4_doClash_0 10 rfl rfl)
theorem dX4_doClash_13 : decode cX4_doClash 13 = .ok (.ifCond .eq 43, 3) := dk_153 0 43 (dk_at dksX4_doClash_0 13 rfl rfl)
theorem dX4_doClash_16 : decode cX4_doClash 16 = .ok (.aload_n 0, 1) := dk_42 (dk_at dksX4_doClash_0 16 rfl rfl)
theorem dX4_doClash_17 : decode cX4_doClash 17 = .ok (.getfield 78, 3) := dk_180 0 78 (dk_at dksX4_doClash_0 17 rfl rfl)
theorem dX4_doClash_20 : decode cX4_doClash 20 = .ok (.iload_n 1, 1) := dk_27 (dk_at dksX4_doClash_0 20 rfl rfl)
theorem dX4_doClash_21 : decode cX4_doClash 21 = .ok (.iaload, 1) := dk_46 (dk_at dksX4_doClash_0 21 rfl rfl)
theorem dX4_doClash_22 : decode cX4_doClash 22 = .ok (.aload_n 0, 1) := dk_42 (dk_at dksX4_doClash_0 22 rfl rfl)
theorem dX4_doClash_23 : decode cX4_doClash 23 = .ok (.getfield 78, 3) := dk_180 0 78 (dk_at dksX4_doClash_1 0 rfl rfl)
theorem dX4_doClash_26 : decode cX4_doClash 26 = .ok (.iload_n 2, 1) := dk_28 (dk_at dksX4_doClash_1 3 rfl rfl)
theorem dX4_doClash_27 : decode cX4_doClash 27 = .ok (.iaload, 1) := dk_46 (dk_at dksX4_doClash_1 4 rfl rfl)
theorem dX4_doClash_28 : decode cX4_doClash 28 = .ok (.if_icmp .ne 28, 3) := dk_160 0 28 (dk_at dksX4_doClash_1 5 rfl rfl)
theorem dX4_doClash_31 : decode cX4_doClash 31 = .ok (.aload_n 0, 1) := dk_42 (dk_at dksX4_doClash_1 8 rfl rfl)
theorem dX4_doClash_32 : decode cX4_doClash 32 = .ok (.getfield 78, 3) := dk_180 0 78 (dk_at dksX4_doClash_1 9 rfl rfl)
theorem dX4_doClash_35 : decode cX4_doClash 35 = .ok (.bipush 20, 2) := dk_16 20 (dk_at dksX4_doClash_1 12 rfl rfl)
theorem dX4_doClash_37 : decode cX4_doClash 37 = .ok (.iload_n 1, 1) := dk_27 (dk_at dksX4_doClash_1 14 rfl rfl)
theorem dX4_doClash_38 : decode cX4_doClash 38 = .ok (.iadd, 1) := dk_96 (dk_at dksX4_doClash_1 15 rfl rfl)
theorem dX4_doClash_39 : decode cX4_doClash 39 = .ok (.iaload, 1) := dk_46 (dk_at dksX4_doClash_1 16 rfl rfl)
theorem dX4_doClash_40 : decode cX4_doClash 40 = .ok (.aload_n 0, 1) := dk_42 (dk_at dksX4_doClash_1 17 rfl rfl)
theorem dX4_doClash_41 : decode cX4_doClash 41 = .ok (.getfield 78, 3) := dk_180 0 78 (dk_at dksX4_doClash_1 18 rfl rfl)
theorem dX4_doClash_44 : decode cX4_doClash 44 = .ok (.bipush 20, 2) := dk_16 20 (dk_at dksX4_doClash_1 21 rfl rfl)
theorem dX4_doClash_46 : decode cX4_doClash 46 = .ok (.iload_n 2, 1) := dk_28 (dk_at dksX4_doClash_1 23 rfl rfl)
theorem dX4_doClash_47 : decode cX4_doClash 47 = .ok (.iadd, 1) := dk_96 (dk_at dksX4_doClash_2 0 rfl rfl)
theorem dX4_doClash_48 : decode cX4_doClash 48 = .ok (.iaload, 1) := dk_46 (dk_at dksX4_doClash_2 1 rfl rfl)
theorem dX4_doClash_49 : decode cX4_doClash 49 = .ok (.if_icmp .ne 7, 3) := dk_160 0 7 (dk_at dksX4_doClash_2 2 rfl rfl)
theorem dX4_doClash_52 : decode cX4_doClash 52 = .ok (.iconst 1, 1) := dk_4 (dk_at dksX4_doClash_2 5 rfl rfl)
theorem dX4_doClash_53 : decode cX4_doClash 53 = .ok (.goto 4, 3) := dk_167 0 4 (dk_at dksX4_doClash_2 6 rfl rfl)
theorem dX4_doClash_56 : decode cX4_doClash 56 = .ok (.iconst 0, 1) := dk_3 (dk_at dksX4_doClash_2 9 rfl rfl)
theorem dX4_doClash_57 : decode cX4_doClash 57 = .ok (.ireturn, 1) := dk_172 (dk_at dksX4_doClash_2 10 rfl rfl)
def dkwX4_fewest_6 : List UInt8 := [167, 255, 157, 42, 180, 0, 81, 29, 46, 172]
abbrev dktX4_fewest_6 : List UInt8 := dkwX4_fewest_6 ++ []
def dkwX4_fewest_5 : List UInt8 := [21, 6, 21, 4, 4, 96, 79, 132, 6, 1, 167, 255, 194, 132, 5, 1, 167, 255, 176, 132, 4, 1]
abbrev dktX4_fewest_5 : List UInt8 := dkwX4_fewest_5 ++ dktX4_fewest_6
def dkwX4_fewest_4 : List UInt8 := [160, 0, 30, 42, 180, 0, 74, 27, 21, 5, 21, 6, 184, 1, 84, 51, 153, 0, 14, 42, 180, 0, 81]
abbrev dktX4_fewest_4 : List UInt8 := dkwX4_fewest_4 ++ dktX4_fewest_5
def dkwX4_fewest_3 : List UInt8 := [162, 0, 59, 42, 180, 0, 81, 21, 5, 46, 21, 4, 160, 0, 41, 42, 180, 0, 81, 21, 6, 46, 2]
abbrev dktX4_fewest_3 : List UInt8 := dkwX4_fewest_3 ++ dktX4_fewest_4
def dkwX4_fewest_2 : List UInt8 := [160, 0, 95, 3, 54, 5, 21, 5, 42, 180, 0, 162, 162, 0, 77, 3, 54, 6, 21, 6, 42, 180, 0, 162]
abbrev dktX4_fewest_2 : List UInt8 := dkwX4_fewest_2 ++ dktX4_fewest_3
def dkwX4_fewest_1 : List UInt8 := [3, 167, 0, 4, 2, 79, 132, 4, 1, 167, 255, 226, 3, 54, 4, 42, 180, 0, 81, 29, 46, 2]
abbrev dktX4_fewest_1 : List UInt8 := dkwX4_fewest_1 ++ dktX4_fewest_2
def dkwX4_fewest_0 : List UInt8 := [3, 54, 4, 21, 4, 42, 180, 0, 162, 162, 0, 27, 42, 180, 0, 81, 21, 4, 21, 4, 28, 160, 0, 7]
abbrev dktX4_fewest_0 : List UInt8 := dkwX4_fewest_0 ++ dktX4_fewest_1
theorem dksX4_fewest_0 : cX4_fewest.data.toList.drop 0 = dktX4_fewest_0 := by decide +kernel
theorem dksX4_fewest_1 : cX4_fewest.data.toList.drop 24 = dktX4_fewest_1 := dk_seg dksX4_fewest_0 24 rfl rfl
theorem dksX4_fewest_2 : cX4_fewest.data.toList.drop 46 = dktX4_fewest_2 := dk_seg dksX4_fewest_1 22 rfl rfl
theorem dksX4_fewest_3 : cX4_fewest.data.toList.drop 70 = dktX4_fewest_3 := dk_seg dksX4_fewest_2 24 rfl rfl
theorem dksX4_fewest_4 : cX4_fewest.data.toList.drop 93 = dktX4_fewest_4 := dk_seg dksX4_fewest_3 23 rfl rfl
theorem dksX4_fewest_5 : cX4_fewest.data.toList.drop 116 = dktX4_fewest_5 := dk_seg dksX4_fewest_4 23 rfl rfl
theorem dksX4_fewest_6 : cX4_fewest.data.toList.drop 138 = dktX4_fewest_6 := dk_seg dksX4_fewest_5 22 rfl rfl
theorem dX4_fewest_0 : decode cX4_fewest 0 = .ok (.iconst 0, 1) := dk_3 (dk_at dksX4_fewest_0 0 rfl rfl)
theorem dX4_fewest_1 : decode cX4_fewest 1 = .ok (.istore 4, 2) := dk_54 4 (dk_at dksX4_fewest_0 1 rfl rfl)
theorem dX4_fewest_3 : decode cX4_fewest 3 = .ok (.iload 4, 2) := dk_21 4 (dk_at dksX4_fewest_0 3 rfl rfl)
theorem dX4_fewest_5 : decode cX4_fewest 5 = .ok (.aload_n 0, 1) := dk_42 (dk_at dksX4_fewest_0 5 rfl rfl)
theorem dX4_fewest_6 : decode cX4_fewest 6 = .ok (.getfield 162, 3) := dk_180 0 162 (dk_at dksX4_fewest_0 6 rfl rfl)
theorem dX4_fewest_9 : decode cX4_fewest 9 = .ok (.if_icmp .ge 27, 3) := dk_162 0 27 (dk_at dksX4_fewest_0 9 rfl rfl)
theorem dX4_fewest_12 : decode cX4_fewest 12 = .ok (.aload_n 0, 1) := dk_42 (dk_at dksX4_fewest_0 12 rfl rfl)
theorem dX4_fewest_13 : decode cX4_fewest 13 = .ok (.getfield 81, 3) := dk_180 0 81 (dk_at dksX4_fewest_0 13 rfl rfl)
theorem dX4_fewest_16 : decode cX4_fewest 16 = .ok (.iload 4, 2) := dk_21 4 (dk_at dksX4_fewest_0 16 rfl rfl)
theorem dX4_fewest_18 : decode cX4_fewest 18 = .ok (.iload 4, 2) := dk_21 4 (dk_at dksX4_fewest_0 18 rfl rfl)
theorem dX4_fewest_20 : decode cX4_fewest 20 = .ok (.iload_n 2, 1) := dk_28 (dk_at dksX4_fewest_0 20 rfl rfl)
theorem dX4_fewest_21 : decode cX4_fewest 21 = .ok (.if_icmp .ne 7, 3) := dk_160 0 7 (dk_at dksX4_fewest_0 21 rfl rfl)
theorem dX4_fewest_24 : decode cX4_fewest 24 = .ok (.iconst 0, 1) := dk_3 (dk_at dksX4_fewest_1 0 rfl rfl)
theorem dX4_fewest_25 : decode cX4_fewest 25 = .ok (.goto 4, 3) := dk_167 0 4 (dk_at dksX4_fewest_1 1 rfl rfl)
theorem dX4_fewest_28 : decode cX4_fewest 28 = .ok (.iconst (-1), 1) := dk_2 (dk_at dksX4_fewest_1 4 rfl rfl)
theorem dX4_fewest_29 : decode cX4_fewest 29 = .ok (.iastore, 1) := dk_79 (dk_at dksX4_fewest_1 5 rfl rfl)
theorem dX4_fewest_30 : decode cX4_fewest 30 = .ok (.iinc 4 1, 3) := dk_132 4 1 (dk_at dksX4_fewest_1 6 rfl rfl)
theorem dX4_fewest_33 : decode cX4_fewest 33 = .ok (.goto (-30), 3) := dk_167 255 226 (dk_at dksX4_fewest_1 9 rfl rfl)
theorem dX4_fewest_36 : decode cX4_fewest 36 = .ok (.iconst 0, 1) := dk_3 (dk_at dksX4_fewest_1 12 rfl rfl)
theorem dX4_fewest_37 : decode cX4_fewest 37 = .ok (.istore 4, 2) := dk_54 4 (dk_at dksX4_fewest_1 13 rfl rfl)
theorem dX4_fewest_39 : decode cX4_fewest 39 = .ok (.aload_n 0, 1) := dk_42 (dk_at dksX4_fewest_1 15 rfl rfl)
theorem dX4_fewest_40 : decode cX4_fewest 40 = .ok (.getfield 81, 3) := dk_180 0 81 (dk_at dksX4_fewest_1 16 rfl rfl)
theorem dX4_fewest_43 : decode cX4_fewest 43 = .ok (.iload_n 3, 1) := dk_29 (dk_at dksX4_fewest_1 19 rfl rfl)
theorem dX4_fewest_44 : decode cX4_fewest 44 = .ok (.iaload, 1) := dk_46 (dk_at dksX4_fewest_1 20 rfl rfl)
theorem dX4_fewest_45 : decode cX4_fewest 45 = .ok (.iconst (-1), 1) := dk_2 (dk_at dksX4_fewest_1 21 rfl rfl)
theorem dX4_fewest_46 : decode cX4_fewest 46 = .ok (.if_icmp .ne 95, 3) := dk_160 0 95 (dk_at dksX4_fewest_2 0 rfl rfl)
theorem dX4_fewest_49 : decode cX4_fewest 49 = .ok (.iconst 0, 1) := dk_3 (dk_at dksX4_fewest_2 3 rfl rfl)
theorem dX4_fewest_50 : decode cX4_fewest 50 = .ok (.istore 5, 2) := dk_54 5 (dk_at dksX4_fewest_2 4 rfl rfl)
theorem dX4_fewest_52 : decode cX4_fewest 52 = .ok (.iload 5, 2) := dk_21 5 (dk_at dksX4_fewest_2 6 rfl rfl)
theorem dX4_fewest_54 : decode cX4_fewest 54 = .ok (.aload_n 0, 1) := dk_42 (dk_at dksX4_fewest_2 8 rfl rfl)
theorem dX4_fewest_55 : decode cX4_fewest 55 = .ok (.getfield 162, 3) := dk_180 0 162 (dk_at dksX4_fewest_2 9 rfl rfl)
theorem dX4_fewest_58 : decode cX4_fewest 58 = .ok (.if_icmp .ge 77, 3) := dk_162 0 77 (dk_at dksX4_fewest_2 12 rfl rfl)
theorem dX4_fewest_61 : decode cX4_fewest 61 = .ok (.iconst 0, 1) := dk_3 (dk_at dksX4_fewest_2 15 rfl rfl)
theorem dX4_fewest_62 : decode cX4_fewest 62 = .ok (.istore 6, 2) := dk_54 6 (dk_at dksX4_fewest_2 16 rfl rfl)
theorem dX4_fewest_64 : decode cX4_fewest 64 = .ok (.iload 6, 2) := dk_21 6 (dk_at dksX4_fewest_2 18 rfl rfl)
theorem dX4_fewest_66 : decode cX4_fewest 66 = .ok (.aload_n 0, 1) := dk_42 (dk_at dksX4_fewest_2 20 rfl rfl)
theorem dX4_fewest_67 : decode cX4_fewest 67 = .ok (.getfield 162, 3) := dk_180 0 162 (dk_at dksX4_fewest_2 21 rfl rfl)
theorem dX4_fewest_70 : decode cX4_fewest 70 = .ok (.if_icmp .ge 59, 3) := dk_162 0 59 (dk_at dksX4_fewest_3 0 rfl rfl)
theorem dX4_fewest_73 : decode cX4_fewest 73 = .ok (.aload_n 0, 1) := dk_42 (dk_at dksX4_fewest_3 3 rfl rfl)
theorem dX4_fewest_74 : decode cX4_fewest 74 = .ok (.getfield 81, 3) := dk_180 0 81 (dk_at dksX4_fewest_3 4 rfl rfl)
theorem dX4_fewest_77 : decode cX4_fewest 77 = .ok (.iload 5, 2) := dk_21 5 (dk_at dksX4_fewest_3 7 rfl rfl)
theorem dX4_fewest_79 : decode cX4_fewest 79 = .ok (.iaload, 1) := dk_46 (dk_at dksX4_fewest_3 9 rfl rfl)
theorem dX4_fewest_80 : decode cX4_fewest 80 = .ok (.iload 4, 2) := dk_21 4 (dk_at dksX4_fewest_3 10 rfl rfl)
theorem dX4_fewest_82 : decode cX4_fewest 82 = .ok (.if_icmp .ne 41, 3) := dk_160 0 41 (dk_at dksX4_fewest_3 12 rfl rfl)
theorem dX4_fewest_85 : decode cX4_fewest 85 = .ok (.aload_n 0, 1) := dk_42 (dk_at dksX4_fewest_3 15 rfl rfl)
theorem dX4_fewest_86 : decode cX4_fewest 86 = .ok (.getfield 81, 3) := dk_180 0 81 (dk_at dksX4_fewest_3 16 rfl rfl)
theorem dX4_fewest_89 : decode cX4_fewest 89 = .ok (.iload 6, 2) := dk_21 6 (dk_at dksX4_fewest_3 19 rfl rfl)
theorem dX4_fewest_91 : decode cX4_fewest 91 = .ok (.iaload, 1) := dk_46 (dk_at dksX4_fewest_3 21 rfl rfl)
theorem dX4_fewest_92 : decode cX4_fewest 92 = .ok (.iconst (-1), 1) := dk_2 (dk_at dksX4_fewest_3 22 rfl rfl)
theorem dX4_fewest_93 : decode cX4_fewest 93 = .ok (.if_icmp .ne 30, 3) := dk_160 0 30 (dk_at dksX4_fewest_4 0 rfl rfl)
theorem dX4_fewest_96 : decode cX4_fewest 96 = .ok (.aload_n 0, 1) := dk_42 (dk_at dksX4_fewest_4 3 rfl rfl)
theorem dX4_fewest_97 : decode cX4_fewest 97 = .ok (.getfield 74, 3) := dk_180 0 74 (dk_at dksX4_fewest_4 4 rfl rfl)
theorem dX4_fewest_100 : decode cX4_fewest 100 = .ok (.iload_n 1, 1) := dk_27 (dk_at dksX4_fewest_4 7 rfl rfl)
theorem dX4_fewest_101 : decode cX4_fewest 101 = .ok (.iload 5, 2) := dk_21 5 (dk_at dksX4_fewest_4 8 rfl rfl)
theorem dX4_fewest_103 : decode cX4_fewest 103 = .ok (.iload 6, 2) := dk_21 6 (dk_at dksX4_fewest_4 10 rfl rfl)
theorem dX4_fewest_105 : decode cX4_fewest 105 = .ok (.invokestatic 340, 3) := dk_184 1 84 (dk_at dksX4_fewest_4 12 rfl rfl)
theorem dX4_fewest_108 : decode cX4_fewest 108 = .ok (.baload, 1) := dk_51 (dk_at dksX4_fewest_4 15 rfl rfl)
theorem dX4_fewest_109 : decode cX4_fewest 109 = .ok (.ifCond .eq 14, 3) := dk_153 0 14 (dk_at dksX4_fewest_4 16 rfl rfl)
theorem dX4_fewest_112 : decode cX4_fewest 112 = .ok (.aload_n 0, 1) := dk_42 (dk_at dksX4_fewest_4 19 rfl rfl)
theorem dX4_fewest_113 : decode cX4_fewest 113 = .ok (.getfield 81, 3) := dk_180 0 81 (dk_at dksX4_fewest_4 20 rfl rfl)
theorem dX4_fewest_116 : decode cX4_fewest 116 = .ok (.iload 6, 2) := dk_21 6 (dk_at dksX4_fewest_5 0 rfl rfl)
theorem dX4_fewest_118 : decode cX4_fewest 118 = .ok (.iload 4, 2) := dk_21 4 (dk_at dksX4_fewest_5 2 rfl rfl)
theorem dX4_fewest_120 : decode cX4_fewest 120 = .ok (.iconst 1, 1) := dk_4 (dk_at dksX4_fewest_5 4 rfl rfl)
theorem dX4_fewest_121 : decode cX4_fewest 121 = .ok (.iadd, 1) := dk_96 (dk_at dksX4_fewest_5 5 rfl rfl)
theorem dX4_fewest_122 : decode cX4_fewest 122 = .ok (.iastore, 1) := dk_79 (dk_at dksX4_fewest_5 6 rfl rfl)
theorem dX4_fewest_123 : decode cX4_fewest 123 = .ok (.iinc 6 1, 3) := dk_132 6 1 (dk_at dksX4_fewest_5 7 rfl rfl)
theorem dX4_fewest_126 : decode cX4_fewest 126 = .ok (.goto (-62), 3) := dk_167 255 194 (dk_at dksX4_fewest_5 10 rfl rfl)
theorem dX4_fewest_129 : decode cX4_fewest 129 = .ok (.iinc 5 1, 3) := dk_132 5 1 (dk_at dksX4_fewest_5 13 rfl rfl)
theorem dX4_fewest_132 : decode cX4_fewest 132 = .ok (.goto (-80), 3) := dk_167 255 176 (dk_at dksX4_fewest_5 16 rfl rfl)
theorem dX4_fewest_135 : decode cX4_fewest 135 = .ok (.iinc 4 1, 3) := dk_132 4 1 (dk_at dksX4_fewest_5 19 rfl rfl)
theorem dX4_fewest_138 : decode cX4_fewest 138 = .ok (.goto (-99), 3) := dk_167 255 157 (dk_at dksX4_fewest_6 0 rfl rfl)
theorem dX4_fewest_141 : decode cX4_fewest 141 = .ok (.aload_n 0, 1) := dk_42 (dk_at dksX4_fewest_6 3 rfl rfl)
theorem dX4_fewest_142 : decode cX4_fewest 142 = .ok (.getfield 81, 3) := dk_180 0 81 (dk_at dksX4_fewest_6 4 rfl rfl)
theorem dX4_fewest_145 : decode cX4_fewest 145 = .ok (.iload_n 3, 1) := dk_29 (dk_at dksX4_fewest_6 7 rfl rfl)
theorem dX4_fewest_146 : decode cX4_fewest 146 = .ok (.iaload, 1) := dk_46 (dk_at dksX4_fewest_6 8 rfl rfl)
theorem dX4_fewest_147 : decode cX4_fewest 147 = .ok (.ireturn, 1) := dk_172 (dk_at dksX4_fewest_6 9 rfl rfl)
def dkwX4_clashes_2 : List UInt8 := [132, 2, 1, 167, 255, 215, 27, 172]
abbrev dktX4_clashes_2 : List UInt8 := dkwX4_clashes_2 ++ []
def dkwX4_clashes_1 : List UInt8 := [180, 0, 162, 162, 0, 21, 27, 42, 28, 29, 182, 1, 103, 184, 0, 177, 96, 60, 132, 3, 1, 167, 255, 233]
abbrev dktX4_clashes_1 : List UInt8 := dkwX4_clashes_1 ++ dktX4_clashes_2
def dkwX4_clashes_0 : List UInt8 := [42, 182, 0, 235, 3, 60, 3, 61, 28, 42, 180, 0, 162, 162, 0, 39, 28, 4, 96, 62, 29, 42]
abbrev dktX4_clashes_0 : List UInt8 := dkwX4_clashes_0 ++ dktX4_clashes_1
theorem dksX4_clashes_0 : cX4_clashes.data.toList.drop 0 = dktX4_clashes_0 := by decide +kernel
theorem dksX4_clashes_1 : cX4_clashes.data.toList.drop 22 = dktX4_clashes_1 := dk_seg dksX4_clashes_0 22 rfl rfl
theorem dksX4_clashes_2 : cX4_clashes.data.toList.drop 46 = dktX4_clashes_2 := dk_seg dksX4_clashes_1 24 rfl rfl
theorem dX4_clashes_0 : decode cX4_clashes 0 = .ok (.aload_n 0, 1) := dk_42 (dk_at dksX4_clashes_0 0 rfl rfl)
theorem dX4_clashes_1 : decode cX4_clashes 1 = .ok (.invokevirtual 235, 3) := dk_182 0 235 (dk_at dksX4_clashes_0 1 rfl rfl)
theorem dX4_clashes_4 : decode cX4_clashes 4 = .ok (.iconst 0, 1) := dk_3 (dk_at dksX4_clashes_0 4 rfl rfl)
theorem dX4_clashes_5 : decode cX4_clashes 5 = .ok (.istore_n 1, 1) := dk_60 (dk_at dksX4_clashes_0 5 rfl rfl)
theorem dX4_clashes_6 : decode cX4_clashes 6 = .ok (.iconst 0, 1) := dk_3 (dk_at dksX4_clashes_0 6 rfl rfl)
theorem dX4_clashes_7 : decode cX4_clashes 7 = .ok (.istore_n 2, 1) := dk_61 (dk_at dksX4_clashes_0 7 rfl rfl)
theorem dX4_clashes_8 : decode cX4_clashes 8 = .ok (.iload_n 2, 1) := dk_28 (dk_at dksX4_clashes_0 8 rfl rfl)
theorem dX4_clashes_9 : decode cX4_clashes 9 = .ok (.aload_n 0, 1) := dk_42 (dk_at dksX4_clashes_0 9 rfl rfl)
theorem dX4_clashes_10 : decode cX4_clashes 10 = .ok (.getfield 162, 3) := dk_180 0 162 (dk_at dksX4_clashes_0 10 rfl rfl)
theorem dX4_clashes_13 : decode cX4_clashes 13 = .ok (.if_icmp .ge 39, 3) := dk_162 0 39 (dk_at dksX4_clashes_0 13 rfl rfl)
theorem dX4_clashes_16 : decode cX4_clashes 16 = .ok (.iload_n 2, 1) := dk_28 (dk_at dksX4_clashes_0 16 rfl rfl)
theorem dX4_clashes_17 : decode cX4_clashes 17 = .ok (.iconst 1, 1) := dk_4 (dk_at dksX4_clashes_0 17 rfl rfl)
theorem dX4_clashes_18 : decode cX4_clashes 18 = .ok (.iadd, 1) := dk_96 (dk_at dksX4_clashes_0 18 rfl rfl)
theorem dX4_clashes_19 : decode cX4_clashes 19 = .ok (.istore_n 3, 1) := dk_62 (dk_at dksX4_clashes_0 19 rfl rfl)
theorem dX4_clashes_20 : decode cX4_clashes 20 = .ok (.iload_n 3, 1) := dk_29 (dk_at dksX4_clashes_0 20 rfl rfl)
theorem dX4_clashes_21 : decode cX4_clashes 21 = .ok (.aload_n 0, 1) := dk_42 (dk_at dksX4_clashes_0 21 rfl rfl)
theorem dX4_clashes_22 : decode cX4_clashes 22 = .ok (.getfield 162, 3) := dk_180 0 162 (dk_at dksX4_clashes_1 0 rfl rfl)
theorem dX4_clashes_25 : decode cX4_clashes 25 = .ok (.if_icmp .ge 21, 3) := dk_162 0 21 (dk_at dksX4_clashes_1 3 rfl rfl)
theorem dX4_clashes_28 : decode cX4_clashes 28 = .ok (.iload_n 1, 1) := dk_27 (dk_at dksX4_clashes_1 6 rfl rfl)
theorem dX4_clashes_29 : decode cX4_clashes 29 = .ok (.aload_n 0, 1) := dk_42 (dk_at dksX4_clashes_1 7 rfl rfl)
theorem dX4_clashes_30 : decode cX4_clashes 30 = .ok (.iload_n 2, 1) := dk_28 (dk_at dksX4_clashes_1 8 rfl rfl)
theorem dX4_clashes_31 : decode cX4_clashes 31 = .ok (.iload_n 3, 1) := dk_29 (dk_at dksX4_clashes_1 9 rfl rfl)
theorem dX4_clashes_32 : decode cX4_clashes 32 = .ok (.invokevirtual 359, 3) := dk_182 1 103 (dk_at dksX4_clashes_1 10 rfl rfl)
theorem dX4_clashes_35 : decode cX4_clashes 35 = .ok (.invokestatic 177, 3) := dk_184 0 177 (dk_at dksX4_clashes_1 13 rfl rfl)
theorem dX4_clashes_38 : decode cX4_clashes 38 = .ok (.iadd, 1) := dk_96 (dk_at dksX4_clashes_1 16 rfl rfl)
theorem dX4_clashes_39 : decode cX4_clashes 39 = .ok (.istore_n 1, 1) := dk_60 (dk_at dksX4_clashes_1 17 rfl rfl)
theorem dX4_clashes_40 : decode cX4_clashes 40 = .ok (.iinc 3 1, 3) := dk_132 3 1 (dk_at dksX4_clashes_1 18 rfl rfl)
theorem dX4_clashes_43 : decode cX4_clashes 43 = .ok (.goto (-23), 3) := dk_167 255 233 (dk_at dksX4_clashes_1 21 rfl rfl)
theorem dX4_clashes_46 : decode cX4_clashes 46 = .ok (.iinc 2 1, 3) := dk_132 2 1 (dk_at dksX4_clashes_2 0 rfl rfl)
theorem dX4_clashes_49 : decode cX4_clashes 49 = .ok (.goto (-41), 3) := dk_167 255 215 (dk_at dksX4_clashes_2 3 rfl rfl)
theorem dX4_clashes_52 : decode cX4_clashes 52 = .ok (.iload_n 1, 1) := dk_27 (dk_at dksX4_clashes_2 6 rfl rfl)
theorem dX4_clashes_53 : decode cX4_clashes 53 = .ok (.ireturn, 1) := dk_172 (dk_at dksX4_clashes_2 7 rfl rfl)
def dkwX4_known_2 : List UInt8 := [96, 46, 172]
abbrev dktX4_known_2 : List UInt8 := dkwX4_known_2 ++ []
def dkwX4_known_1 : List UInt8 := [5, 160, 0, 14, 42, 27, 182, 1, 115, 184, 0, 177, 167, 0, 14, 42, 180, 0, 84, 16, 20, 28, 104, 27]
abbrev dktX4_known_1 : List UInt8 := dkwX4_known_1 ++ dktX4_known_2
def dkwX4_known_0 : List UInt8 := [42, 27, 182, 0, 224, 153, 0, 12, 28, 3, 5, 184, 0, 123, 154, 0, 5, 2, 172, 42, 182, 0, 235, 28]
abbrev dktX4_known_0 : List UInt8 := dkwX4_known_0 ++ dktX4_known_1
theorem dksX4_known_0 : cX4_known.data.toList.drop 0 = dktX4_known_0 := by decide +kernel
theorem dksX4_known_1 : cX4_known.data.toList.drop 24 = dktX4_known_1 := dk_seg dksX4_known_0 24 rfl rfl
theorem dksX4_known_2 : cX4_known.data.toList.drop 48 = dktX4_known_2 := dk_seg dksX4_known_1 24 rfl rfl
theorem dX4_known_0 : decode cX4_known 0 = .ok (.aload_n 0, 1) := dk_42 (dk_at dksX4_known_0 0 rfl rfl)
theorem dX4_known_1 : decode cX4_known 1 = .ok (.iload_n 1, 1) := dk_27 (dk_at dksX4_known_0 1 rfl rfl)
theorem dX4_known_2 : decode cX4_known 2 = .ok (.invokevirtual 224, 3) := dk_182 0 224 (dk_at dksX4_known_0 2 rfl rfl)
theorem dX4_known_5 : decode cX4_known 5 = .ok (.ifCond .eq 12, 3) := dk_153 0 12 (dk_at dksX4_known_0 5 rfl rfl)
theorem dX4_known_8 : decode cX4_known 8 = .ok (.iload_n 2, 1) := dk_28 (dk_at dksX4_known_0 8 rfl rfl)
theorem dX4_known_9 : decode cX4_known 9 = .ok (.iconst 0, 1) := dk_3 (dk_at dksX4_known_0 9 rfl rfl)
theorem dX4_known_10 : decode cX4_known 10 = .ok (.iconst 2, 1) := dk_5 (dk_at dksX4_known_0 10 rfl rfl)
theorem dX4_known_11 : decode cX4_known 11 = .ok (.invokestatic 123, 3) := dk_184 0 123 (dk_at dksX4_known_0 11 rfl rfl)
theorem dX4_known_14 : decode cX4_known 14 = .ok (.ifCond .ne 5, 3) := dk_154 0 5 (dk_at dksX4_known_0 14 rfl rfl)
theorem dX4_known_17 : decode cX4_known 17 = .ok (.iconst (-1), 1) := dk_2 (dk_at dksX4_known_0 17 rfl rfl)
theorem dX4_known_18 : decode cX4_known 18 = .ok (.ireturn, 1) := dk_172 (dk_at dksX4_known_0 18 rfl rfl)
theorem dX4_known_19 : decode cX4_known 19 = .ok (.aload_n 0, 1) := dk_42 (dk_at dksX4_known_0 19 rfl rfl)
theorem dX4_known_20 : decode cX4_known 20 = .ok (.invokevirtual 235, 3) := dk_182 0 235 (dk_at dksX4_known_0 20 rfl rfl)
theorem dX4_known_23 : decode cX4_known 23 = .ok (.iload_n 2, 1) := dk_28 (dk_at dksX4_known_0 23 rfl rfl)
theorem dX4_known_24 : decode cX4_known 24 = .ok (.iconst 2, 1) := dk_5 (dk_at dksX4_known_1 0 rfl rfl)
theorem dX4_known_25 : decode cX4_known 25 = .ok (.if_icmp .ne 14, 3) := dk_160 0 14 (dk_at dksX4_known_1 1 rfl rfl)
theorem dX4_known_28 : decode cX4_known 28 = .ok (.aload_n 0, 1) := dk_42 (dk_at dksX4_known_1 4 rfl rfl)
theorem dX4_known_29 : decode cX4_known 29 = .ok (.iload_n 1, 1) := dk_27 (dk_at dksX4_known_1 5 rfl rfl)
theorem dX4_known_30 : decode cX4_known 30 = .ok (.invokevirtual 371, 3) := dk_182 1 115 (dk_at dksX4_known_1 6 rfl rfl)
theorem dX4_known_33 : decode cX4_known 33 = .ok (.invokestatic 177, 3) := dk_184 0 177 (dk_at dksX4_known_1 9 rfl rfl)
theorem dX4_known_36 : decode cX4_known 36 = .ok (.goto 14, 3) := dk_167 0 14 (dk_at dksX4_known_1 12 rfl rfl)
theorem dX4_known_39 : decode cX4_known 39 = .ok (.aload_n 0, 1) := dk_42 (dk_at dksX4_known_1 15 rfl rfl)
theorem dX4_known_40 : decode cX4_known 40 = .ok (.getfield 84, 3) := dk_180 0 84 (dk_at dksX4_known_1 16 rfl rfl)
theorem dX4_known_43 : decode cX4_known 43 = .ok (.bipush 20, 2) := dk_16 20 (dk_at dksX4_known_1 19 rfl rfl)
theorem dX4_known_45 : decode cX4_known 45 = .ok (.iload_n 2, 1) := dk_28 (dk_at dksX4_known_1 21 rfl rfl)
theorem dX4_known_46 : decode cX4_known 46 = .ok (.imul, 1) := dk_104 (dk_at dksX4_known_1 22 rfl rfl)
theorem dX4_known_47 : decode cX4_known 47 = .ok (.iload_n 1, 1) := dk_27 (dk_at dksX4_known_1 23 rfl rfl)
theorem dX4_known_48 : decode cX4_known 48 = .ok (.iadd, 1) := dk_96 (dk_at dksX4_known_2 0 rfl rfl)
theorem dX4_known_49 : decode cX4_known 49 = .ok (.iaload, 1) := dk_46 (dk_at dksX4_known_2 1 rfl rfl)
theorem dX4_known_50 : decode cX4_known 50 = .ok (.ireturn, 1) := dk_172 (dk_at dksX4_known_2 2 rfl rfl)
def dkwX4_fits_3 : List UInt8 := [160, 0, 7, 29, 167, 0, 4, 2, 172]
abbrev dktX4_fits_3 : List UInt8 := dkwX4_fits_3 ++ []
def dkwX4_fits_2 : List UInt8 := [153, 0, 14, 29, 28, 160, 0, 6, 21, 4, 172, 132, 3, 1, 132, 4, 1, 167, 255, 223, 28, 2]
abbrev dktX4_fits_2 : List UInt8 := dkwX4_fits_2 ++ dktX4_fits_3
def dkwX4_fits_1 : List UInt8 := [182, 0, 235, 3, 62, 3, 54, 4, 21, 4, 42, 180, 1, 46, 162, 0, 30, 42, 21, 4, 27, 182, 1, 121]
abbrev dktX4_fits_1 : List UInt8 := dkwX4_fits_1 ++ dktX4_fits_2
def dkwX4_fits_0 : List UInt8 := [27, 3, 42, 180, 0, 203, 4, 100, 184, 0, 123, 153, 0, 8, 28, 2, 162, 0, 5, 2, 172, 42]
abbrev dktX4_fits_0 : List UInt8 := dkwX4_fits_0 ++ dktX4_fits_1
theorem dksX4_fits_0 : cX4_fits.data.toList.drop 0 = dktX4_fits_0 := by decide +kernel
theorem dksX4_fits_1 : cX4_fits.data.toList.drop 22 = dktX4_fits_1 := dk_seg dksX4_fits_0 22 rfl rfl
theorem dksX4_fits_2 : cX4_fits.data.toList.drop 46 = dktX4_fits_2 := dk_seg dksX4_fits_1 24 rfl rfl
theorem dksX4_fits_3 : cX4_fits.data.toList.drop 68 = dktX4_fits_3 := dk_seg dksX4_fits_2 22 rfl rfl
theorem dX4_fits_0 : decode cX4_fits 0 = .ok (.iload_n 1, 1) := dk_27 (dk_at dksX4_fits_0 0 rfl rfl)
theorem dX4_fits_1 : decode cX4_fits 1 = .ok (.iconst 0, 1) := dk_3 (dk_at dksX4_fits_0 1 rfl rfl)
theorem dX4_fits_2 : decode cX4_fits 2 = .ok (.aload_n 0, 1) := dk_42 (dk_at dksX4_fits_0 2 rfl rfl)
theorem dX4_fits_3 : decode cX4_fits 3 = .ok (.getfield 203, 3) := dk_180 0 203 (dk_at dksX4_fits_0 3 rfl rfl)
theorem dX4_fits_6 : decode cX4_fits 6 = .ok (.iconst 1, 1) := dk_4 (dk_at dksX4_fits_0 6 rfl rfl)
theorem dX4_fits_7 : decode cX4_fits 7 = .ok (.isub, 1) := dk_100 (dk_at dksX4_fits_0 7 rfl rfl)
theorem dX4_fits_8 : decode cX4_fits 8 = .ok (.invokestatic 123, 3) := dk_184 0 123 (dk_at dksX4_fits_0 8 rfl rfl)
theorem dX4_fits_11 : decode cX4_fits 11 = .ok (.ifCond .eq 8, 3) := dk_153 0 8 (dk_at dksX4_fits_0 11 rfl rfl)
theorem dX4_fits_14 : decode cX4_fits 14 = .ok (.iload_n 2, 1) := dk_28 (dk_at dksX4_fits_0 14 rfl rfl)
theorem dX4_fits_15 : decode cX4_fits 15 = .ok (.iconst (-1), 1) := dk_2 (dk_at dksX4_fits_0 15 rfl rfl)
theorem dX4_fits_16 : decode cX4_fits 16 = .ok (.if_icmp .ge 5, 3) := dk_162 0 5 (dk_at dksX4_fits_0 16 rfl rfl)
theorem dX4_fits_19 : decode cX4_fits 19 = .ok (.iconst (-1), 1) := dk_2 (dk_at dksX4_fits_0 19 rfl rfl)
theorem dX4_fits_20 : decode cX4_fits 20 = .ok (.ireturn, 1) := dk_172 (dk_at dksX4_fits_0 20 rfl rfl)
theorem dX4_fits_21 : decode cX4_fits 21 = .ok (.aload_n 0, 1) := dk_42 (dk_at dksX4_fits_0 21 rfl rfl)
theorem dX4_fits_22 : decode cX4_fits 22 = .ok (.invokevirtual 235, 3) := dk_182 0 235 (dk_at dksX4_fits_1 0 rfl rfl)
theorem dX4_fits_25 : decode cX4_fits 25 = .ok (.iconst 0, 1) := dk_3 (dk_at dksX4_fits_1 3 rfl rfl)
theorem dX4_fits_26 : decode cX4_fits 26 = .ok (.istore_n 3, 1) := dk_62 (dk_at dksX4_fits_1 4 rfl rfl)
theorem dX4_fits_27 : decode cX4_fits 27 = .ok (.iconst 0, 1) := dk_3 (dk_at dksX4_fits_1 5 rfl rfl)
theorem dX4_fits_28 : decode cX4_fits 28 = .ok (.istore 4, 2) := dk_54 4 (dk_at dksX4_fits_1 6 rfl rfl)
theorem dX4_fits_30 : decode cX4_fits 30 = .ok (.iload 4, 2) := dk_21 4 (dk_at dksX4_fits_1 8 rfl rfl)
theorem dX4_fits_32 : decode cX4_fits 32 = .ok (.aload_n 0, 1) := dk_42 (dk_at dksX4_fits_1 10 rfl rfl)
theorem dX4_fits_33 : decode cX4_fits 33 = .ok (.getfield 302, 3) := dk_180 1 46 (dk_at dksX4_fits_1 11 rfl rfl)
theorem dX4_fits_36 : decode cX4_fits 36 = .ok (.if_icmp .ge 30, 3) := dk_162 0 30 (dk_at dksX4_fits_1 14 rfl rfl)
theorem dX4_fits_39 : decode cX4_fits 39 = .ok (.aload_n 0, 1) := dk_42 (dk_at dksX4_fits_1 17 rfl rfl)
theorem dX4_fits_40 : decode cX4_fits 40 = .ok (.iload 4, 2) := dk_21 4 (dk_at dksX4_fits_1 18 rfl rfl)
theorem dX4_fits_42 : decode cX4_fits 42 = .ok (.iload_n 1, 1) := dk_27 (dk_at dksX4_fits_1 20 rfl rfl)
theorem dX4_fits_43 : decode cX4_fits 43 = .ok (.invokevirtual 377, 3) := dk_182 1 121 (dk_at dksX4_fits_1 21 rfl rfl)
theorem dX4_fits_46 : decode cX4_fits 46 = .ok (.ifCond .eq 14, 3) := dk_153 0 14 (dk_at dksX4_fits_2 0 rfl rfl)
theorem dX4_fits_49 : decode cX4_fits 49 = .ok (.iload_n 3, 1) := dk_29 (dk_at dksX4_fits_2 3 rfl rfl)
theorem dX4_fits_50 : decode cX4_fits 50 = .ok (.iload_n 2, 1) := dk_28 (dk_at dksX4_fits_2 4 rfl rfl)
theorem dX4_fits_51 : decode cX4_fits 51 = .ok (.if_icmp .ne 6, 3) := dk_160 0 6 (dk_at dksX4_fits_2 5 rfl rfl)
theorem dX4_fits_54 : decode cX4_fits 54 = .ok (.iload 4, 2) := dk_21 4 (dk_at dksX4_fits_2 8 rfl rfl)
theorem dX4_fits_56 : decode cX4_fits 56 = .ok (.ireturn, 1) := dk_172 (dk_at dksX4_fits_2 10 rfl rfl)
theorem dX4_fits_57 : decode cX4_fits 57 = .ok (.iinc 3 1, 3) := dk_132 3 1 (dk_at dksX4_fits_2 11 rfl rfl)
theorem dX4_fits_60 : decode cX4_fits 60 = .ok (.iinc 4 1, 3) := dk_132 4 1 (dk_at dksX4_fits_2 14 rfl rfl)
theorem dX4_fits_63 : decode cX4_fits 63 = .ok (.goto (-33), 3) := dk_167 255 223 (dk_at dksX4_fits_2 17 rfl rfl)
theorem dX4_fits_66 : decode cX4_fits 66 = .ok (.iload_n 2, 1) := dk_28 (dk_at dksX4_fits_2 20 rfl rfl)
theorem dX4_fits_67 : decode cX4_fits 67 = .ok (.iconst (-1), 1) := dk_2 (dk_at dksX4_fits_2 21 rfl rfl)
theorem dX4_fits_68 : decode cX4_fits 68 = .ok (.if_icmp .ne 7, 3) := dk_160 0 7 (dk_at dksX4_fits_3 0 rfl rfl)
theorem dX4_fits_71 : decode cX4_fits 71 = .ok (.iload_n 3, 1) := dk_29 (dk_at dksX4_fits_3 3 rfl rfl)
theorem dX4_fits_72 : decode cX4_fits 72 = .ok (.goto 4, 3) := dk_167 0 4 (dk_at dksX4_fits_3 4 rfl rfl)
theorem dX4_fits_75 : decode cX4_fits 75 = .ok (.iconst (-1), 1) := dk_2 (dk_at dksX4_fits_3 7 rfl rfl)
theorem dX4_fits_76 : decode cX4_fits 76 = .ok (.ireturn, 1) := dk_172 (dk_at dksX4_fits_3 8 rfl rfl)
def dkwX4_fitsName_7 : List UInt8 := [167, 255, 113, 4, 172]
abbrev dktX4_fitsName_7 : List UInt8 := dkwX4_fitsName_7 ++ []
def dkwX4_fitsName_6 : List UInt8 := [160, 0, 7, 4, 167, 0, 4, 3, 159, 0, 5, 3, 172, 132, 5, 1, 167, 255, 199, 132, 3, 1]
abbrev dktX4_fitsName_6 : List UInt8 := dkwX4_fitsName_6 ++ dktX4_fitsName_7
def dkwX4_fitsName_5 : List UInt8 := [160, 0, 7, 4, 167, 0, 4, 3, 42, 180, 0, 32, 16, 7, 28, 104, 21, 5, 96, 46, 21, 4]
abbrev dktX4_fitsName_5 : List UInt8 := dkwX4_fitsName_5 ++ dktX4_fitsName_6
def dkwX4_fitsName_4 : List UInt8 := [3, 54, 5, 21, 5, 29, 162, 0, 57, 42, 27, 21, 5, 182, 1, 118, 42, 27, 29, 182, 1, 118]
abbrev dktX4_fitsName_4 : List UInt8 := dkwX4_fitsName_4 ++ dktX4_fitsName_5
def dkwX4_fitsName_3 : List UInt8 := [2, 159, 0, 17, 21, 6, 21, 4, 21, 5, 184, 1, 109, 159, 0, 5, 3, 172, 132, 5, 1, 167, 255, 208]
abbrev dktX4_fitsName_3 : List UInt8 := dkwX4_fitsName_3 ++ dktX4_fitsName_4
def dkwX4_fitsName_2 : List UInt8 := [162, 0, 48, 42, 180, 0, 84, 16, 20, 21, 5, 104, 42, 27, 29, 182, 1, 118, 96, 46, 54, 6, 21, 6]
abbrev dktX4_fitsName_2 : List UInt8 := dkwX4_fitsName_2 ++ dktX4_fitsName_3
def dkwX4_fitsName_1 : List UInt8 := [28, 46, 162, 0, 139, 42, 180, 0, 32, 16, 7, 28, 104, 29, 96, 46, 54, 4, 3, 54, 5, 21, 5, 5]
abbrev dktX4_fitsName_1 : List UInt8 := dkwX4_fitsName_1 ++ dktX4_fitsName_2
def dkwX4_fitsName_0 : List UInt8 := [42, 180, 0, 56, 27, 46, 42, 180, 0, 29, 28, 46, 159, 0, 5, 3, 172, 3, 62, 29, 42, 180, 0, 29]
abbrev dktX4_fitsName_0 : List UInt8 := dkwX4_fitsName_0 ++ dktX4_fitsName_1
theorem dksX4_fitsName_0 : cX4_fitsName.data.toList.drop 0 = dktX4_fitsName_0 := by decide +kernel
theorem dksX4_fitsName_1 : cX4_fitsName.data.toList.drop 24 = dktX4_fitsName_1 := dk_seg dksX4_fitsName_0 24 rfl rfl
theorem dksX4_fitsName_2 : cX4_fitsName.data.toList.drop 48 = dktX4_fitsName_2 := dk_seg dksX4_fitsName_1 24 rfl rfl
theorem dksX4_fitsName_3 : cX4_fitsName.data.toList.drop 72 = dktX4_fitsName_3 := dk_seg dksX4_fitsName_2 24 rfl rfl
theorem dksX4_fitsName_4 : cX4_fitsName.data.toList.drop 96 = dktX4_fitsName_4 := dk_seg dksX4_fitsName_3 24 rfl rfl
theorem dksX4_fitsName_5 : cX4_fitsName.data.toList.drop 118 = dktX4_fitsName_5 := dk_seg dksX4_fitsName_4 22 rfl rfl
theorem dksX4_fitsName_6 : cX4_fitsName.data.toList.drop 140 = dktX4_fitsName_6 := dk_seg dksX4_fitsName_5 22 rfl rfl
theorem dksX4_fitsName_7 : cX4_fitsName.data.toList.drop 162 = dktX4_fitsName_7 := dk_seg dksX4_fitsName_6 22 rfl rfl
theorem dX4_fitsName_0 : decode cX4_fitsName 0 = .ok (.aload_n 0, 1) := dk_42 (dk_at dksX4_fitsName_0 0 rfl rfl)
theorem dX4_fitsName_1 : decode cX4_fitsName 1 = .ok (.getfield 56, 3) := dk_180 0 56 (dk_at dksX4_fitsName_0 1 rfl rfl)
theorem dX4_fitsName_4 : decode cX4_fitsName 4 = .ok (.iload_n 1, 1) := dk_27 (dk_at dksX4_fitsName_0 4 rfl rfl)
theorem dX4_fitsName_5 : decode cX4_fitsName 5 = .ok (.iaload, 1) := dk_46 (dk_at dksX4_fitsName_0 5 rfl rfl)
theorem dX4_fitsName_6 : decode cX4_fitsName 6 = .ok (.aload_n 0, 1) := dk_42 (dk_at dksX4_fitsName_0 6 rfl rfl)
theorem dX4_fitsName_7 : decode cX4_fitsName 7 = .ok (.getfield 29, 3) := dk_180 0 29 (dk_at dksX4_fitsName_0 7 rfl rfl)
theorem dX4_fitsName_10 : decode cX4_fitsName 10 = .ok (.iload_n 2, 1) := dk_28 (dk_at dksX4_fitsName_0 10 rfl rfl)
theorem dX4_fitsName_11 : decode cX4_fitsName 11 = .ok (.iaload, 1) := dk_46 (dk_at dksX4_fitsName_0 11 rfl rfl)
theorem dX4_fitsName_12 : decode cX4_fitsName 12 = .ok (.if_icmp .eq 5, 3) := dk_159 0 5 (dk_at dksX4_fitsName_0 12 rfl rfl)
theorem dX4_fitsName_15 : decode cX4_fitsName 15 = .ok (.iconst 0, 1) := dk_3 (dk_at dksX4_fitsName_0 15 rfl rfl)
theorem dX4_fitsName_16 : decode cX4_fitsName 16 = .ok (.ireturn, 1) := dk_172 (dk_at dksX4_fitsName_0 16 rfl rfl)
theorem dX4_fitsName_17 : decode cX4_fitsName 17 = .ok (.iconst 0, 1) := dk_3 (dk_at dksX4_fitsName_0 17 rfl rfl)
theorem dX4_fitsName_18 : decode cX4_fitsName 18 = .ok (.istore_n 3, 1) := dk_62 (dk_at dksX4_fitsName_0 18 rfl rfl)
theorem dX4_fitsName_19 : decode cX4_fitsName 19 = .ok (.iload_n 3, 1) := dk_29 (dk_at dksX4_fitsName_0 19 rfl rfl)
theorem dX4_fitsName_20 : decode cX4_fitsName 20 = .ok (.aload_n 0, 1) := dk_42 (dk_at dksX4_fitsName_0 20 rfl rfl)
theorem dX4_fitsName_21 : decode cX4_fitsName 21 = .ok (.getfield 29, 3) := dk_180 0 29 (dk_at dksX4_fitsName_0 21 rfl rfl)
theorem dX4_fitsName_24 : decode cX4_fitsName 24 = .ok (.iload_n 2, 1) := dk_28 (dk_at dksX4_fitsName_1 0 rfl rfl)
theorem dX4_fitsName_25 : decode cX4_fitsName 25 = .ok (.iaload, 1) := dk_46 (dk_at dksX4_fitsName_1 1 rfl rfl)
theorem dX4_fitsName_26 : decode cX4_fitsName 26 = .ok (.if_icmp .ge 139, 3) := dk_162 0 139 (dk_at dksX4_fitsName_1 2 rfl rfl)
theorem dX4_fitsName_29 : decode cX4_fitsName 29 = .ok (.aload_n 0, 1) := dk_42 (dk_at dksX4_fitsName_1 5 rfl rfl)
theorem dX4_fitsName_30 : decode cX4_fitsName 30 = .ok (.getfield 32, 3) := dk_180 0 32 (dk_at dksX4_fitsName_1 6 rfl rfl)
theorem dX4_fitsName_33 : decode cX4_fitsName 33 = .ok (.bipush 7, 2) := dk_16 7 (dk_at dksX4_fitsName_1 9 rfl rfl)
theorem dX4_fitsName_35 : decode cX4_fitsName 35 = .ok (.iload_n 2, 1) := dk_28 (dk_at dksX4_fitsName_1 11 rfl rfl)
theorem dX4_fitsName_36 : decode cX4_fitsName 36 = .ok (.imul, 1) := dk_104 (dk_at dksX4_fitsName_1 12 rfl rfl)
theorem dX4_fitsName_37 : decode cX4_fitsName 37 = .ok (.iload_n 3, 1) := dk_29 (dk_at dksX4_fitsName_1 13 rfl rfl)
theorem dX4_fitsName_38 : decode cX4_fitsName 38 = .ok (.iadd, 1) := dk_96 (dk_at dksX4_fitsName_1 14 rfl rfl)
theorem dX4_fitsName_39 : decode cX4_fitsName 39 = .ok (.iaload, 1) := dk_46 (dk_at dksX4_fitsName_1 15 rfl rfl)
theorem dX4_fitsName_40 : decode cX4_fitsName 40 = .ok (.istore 4, 2) := dk_54 4 (dk_at dksX4_fitsName_1 16 rfl rfl)
theorem dX4_fitsName_42 : decode cX4_fitsName 42 = .ok (.iconst 0, 1) := dk_3 (dk_at dksX4_fitsName_1 18 rfl rfl)
theorem dX4_fitsName_43 : decode cX4_fitsName 43 = .ok (.istore 5, 2) := dk_54 5 (dk_at dksX4_fitsName_1 19 rfl rfl)
theorem dX4_fitsName_45 : decode cX4_fitsName 45 = .ok (.iload 5, 2) := dk_21 5 (dk_at dksX4_fitsName_1 21 rfl rfl)
theorem dX4_fitsName_47 : decode cX4_fitsName 47 = .ok (.iconst 2, 1) := dk_5 (dk_at dksX4_fitsName_1 23 rfl rfl)
theorem dX4_fitsName_48 : decode cX4_fitsName 48 = .ok (.if_icmp .ge 48, 3) := dk_162 0 48 (dk_at dksX4_fitsName_2 0 rfl rfl)
theorem dX4_fitsName_51 : decode cX4_fitsName 51 = .ok (.aload_n 0, 1) := dk_42 (dk_at dksX4_fitsName_2 3 rfl rfl)
theorem dX4_fitsName_52 : decode cX4_fitsName 52 = .ok (.getfield 84, 3) := dk_180 0 84 (dk_at dksX4_fitsName_2 4 rfl rfl)
theorem dX4_fitsName_55 : decode cX4_fitsName 55 = .ok (.bipush 20, 2) := dk_16 20 (dk_at dksX4_fitsName_2 7 rfl rfl)
theorem dX4_fitsName_57 : decode cX4_fitsName 57 = .ok (.iload 5, 2) := dk_21 5 (dk_at dksX4_fitsName_2 9 rfl rfl)
theorem dX4_fitsName_59 : decode cX4_fitsName 59 = .ok (.imul, 1) := dk_104 (dk_at dksX4_fitsName_2 11 rfl rfl)
theorem dX4_fitsName_60 : decode cX4_fitsName 60 = .ok (.aload_n 0, 1) := dk_42 (dk_at dksX4_fitsName_2 12 rfl rfl)
theorem dX4_fitsName_61 : decode cX4_fitsName 61 = .ok (.iload_n 1, 1) := dk_27 (dk_at dksX4_fitsName_2 13 rfl rfl)
theorem dX4_fitsName_62 : decode cX4_fitsName 62 = .ok (.iload_n 3, 1) := dk_29 (dk_at dksX4_fitsName_2 14 rfl rfl)
theorem dX4_fitsName_63 : decode cX4_fitsName 63 = .ok (.invokevirtual 374, 3) := dk_182 1 118 (dk_at dksX4_fitsName_2 15 rfl rfl)
theorem dX4_fitsName_66 : decode cX4_fitsName 66 = .ok (.iadd, 1) := dk_96 (dk_at dksX4_fitsName_2 18 rfl rfl)
theorem dX4_fitsName_67 : decode cX4_fitsName 67 = .ok (.iaload, 1) := dk_46 (dk_at dksX4_fitsName_2 19 rfl rfl)
theorem dX4_fitsName_68 : decode cX4_fitsName 68 = .ok (.istore 6, 2) := dk_54 6 (dk_at dksX4_fitsName_2 20 rfl rfl)
theorem dX4_fitsName_70 : decode cX4_fitsName 70 = .ok (.iload 6, 2) := dk_21 6 (dk_at dksX4_fitsName_2 22 rfl rfl)
theorem dX4_fitsName_72 : decode cX4_fitsName 72 = .ok (.iconst (-1), 1) := dk_2 (dk_at dksX4_fitsName_3 0 rfl rfl)
theorem dX4_fitsName_73 : decode cX4_fitsName 73 = .ok (.if_icmp .eq 17, 3) := dk_159 0 17 (dk_at dksX4_fitsName_3 1 rfl rfl)
theorem dX4_fitsName_76 : decode cX4_fitsName 76 = .ok (.iload 6, 2) := dk_21 6 (dk_at dksX4_fitsName_3 4 rfl rfl)
theorem dX4_fitsName_78 : decode cX4_fitsName 78 = .ok (.iload 4, 2) := dk_21 4 (dk_at dksX4_fitsName_3 6 rfl rfl)
theorem dX4_fitsName_80 : decode cX4_fitsName 80 = .ok (.iload 5, 2) := dk_21 5 (dk_at dksX4_fitsName_3 8 rfl rfl)
theorem dX4_fitsName_82 : decode cX4_fitsName 82 = .ok (.invokestatic 365, 3) := dk_184 1 109 (dk_at dksX4_fitsName_3 10 rfl rfl)
theorem dX4_fitsName_85 : decode cX4_fitsName 85 = .ok (.if_icmp .eq 5, 3) := dk_159 0 5 (dk_at dksX4_fitsName_3 13 rfl rfl)
theorem dX4_fitsName_88 : decode cX4_fitsName 88 = .ok (.iconst 0, 1) := dk_3 (dk_at dksX4_fitsName_3 16 rfl rfl)
theorem dX4_fitsName_89 : decode cX4_fitsName 89 = .ok (.ireturn, 1) := dk_172 (dk_at dksX4_fitsName_3 17 rfl rfl)
theorem dX4_fitsName_90 : decode cX4_fitsName 90 = .ok (.iinc 5 1, 3) := dk_132 5 1 (dk_at dksX4_fitsName_3 18 rfl rfl)
theorem dX4_fitsName_93 : decode cX4_fitsName 93 = .ok (.goto (-48), 3) := dk_167 255 208 (dk_at dksX4_fitsName_3 21 rfl rfl)
theorem dX4_fitsName_96 : decode cX4_fitsName 96 = .ok (.iconst 0, 1) := dk_3 (dk_at dksX4_fitsName_4 0 rfl rfl)
theorem dX4_fitsName_97 : decode cX4_fitsName 97 = .ok (.istore 5, 2) := dk_54 5 (dk_at dksX4_fitsName_4 1 rfl rfl)
theorem dX4_fitsName_99 : decode cX4_fitsName 99 = .ok (.iload 5, 2) := dk_21 5 (dk_at dksX4_fitsName_4 3 rfl rfl)
theorem dX4_fitsName_101 : decode cX4_fitsName 101 = .ok (.iload_n 3, 1) := dk_29 (dk_at dksX4_fitsName_4 5 rfl rfl)
theorem dX4_fitsName_102 : decode cX4_fitsName 102 = .ok (.if_icmp .ge 57, 3) := dk_162 0 57 (dk_at dksX4_fitsName_4 6 rfl rfl)
theorem dX4_fitsName_105 : decode cX4_fitsName 105 = .ok (.aload_n 0, 1) := dk_42 (dk_at dksX4_fitsName_4 9 rfl rfl)
theorem dX4_fitsName_106 : decode cX4_fitsName 106 = .ok (.iload_n 1, 1) := dk_27 (dk_at dksX4_fitsName_4 10 rfl rfl)
theorem dX4_fitsName_107 : decode cX4_fitsName 107 = .ok (.iload 5, 2) := dk_21 5 (dk_at dksX4_fitsName_4 11 rfl rfl)
theorem dX4_fitsName_109 : decode cX4_fitsName 109 = .ok (.invokevirtual 374, 3) := dk_182 1 118 (dk_at dksX4_fitsName_4 13 rfl rfl)
theorem dX4_fitsName_112 : decode cX4_fitsName 112 = .ok (.aload_n 0, 1) := dk_42 (dk_at dksX4_fitsName_4 16 rfl rfl)
theorem dX4_fitsName_113 : decode cX4_fitsName 113 = .ok (.iload_n 1, 1) := dk_27 (dk_at dksX4_fitsName_4 17 rfl rfl)
theorem dX4_fitsName_114 : decode cX4_fitsName 114 = .ok (.iload_n 3, 1) := dk_29 (dk_at dksX4_fitsName_4 18 rfl rfl)
theorem dX4_fitsName_115 : decode cX4_fitsName 115 = .ok (.invokevirtual 374, 3) := dk_182 1 118 (dk_at dksX4_fitsName_4 19 rfl rfl)
theorem dX4_fitsName_118 : decode cX4_fitsName 118 = .ok (.if_icmp .ne 7, 3) := dk_160 0 7 (dk_at dksX4_fitsName_5 0 rfl rfl)
theorem dX4_fitsName_121 : decode cX4_fitsName 121 = .ok (.iconst 1, 1) := dk_4 (dk_at dksX4_fitsName_5 3 rfl rfl)
theorem dX4_fitsName_122 : decode cX4_fitsName 122 = .ok (.goto 4, 3) := dk_167 0 4 (dk_at dksX4_fitsName_5 4 rfl rfl)
theorem dX4_fitsName_125 : decode cX4_fitsName 125 = .ok (.iconst 0, 1) := dk_3 (dk_at dksX4_fitsName_5 7 rfl rfl)
theorem dX4_fitsName_126 : decode cX4_fitsName 126 = .ok (.aload_n 0, 1) := dk_42 (dk_at dksX4_fitsName_5 8 rfl rfl)
theorem dX4_fitsName_127 : decode cX4_fitsName 127 = .ok (.getfield 32, 3) := dk_180 0 32 (dk_at dksX4_fitsName_5 9 rfl rfl)
theorem dX4_fitsName_130 : decode cX4_fitsName 130 = .ok (.bipush 7, 2) := dk_16 7 (dk_at dksX4_fitsName_5 12 rfl rfl)
theorem dX4_fitsName_132 : decode cX4_fitsName 132 = .ok (.iload_n 2, 1) := dk_28 (dk_at dksX4_fitsName_5 14 rfl rfl)
theorem dX4_fitsName_133 : decode cX4_fitsName 133 = .ok (.imul, 1) := dk_104 (dk_at dksX4_fitsName_5 15 rfl rfl)
theorem dX4_fitsName_134 : decode cX4_fitsName 134 = .ok (.iload 5, 2) := dk_21 5 (dk_at dksX4_fitsName_5 16 rfl rfl)
theorem dX4_fitsName_136 : decode cX4_fitsName 136 = .ok (.iadd, 1) := dk_96 (dk_at dksX4_fitsName_5 18 rfl rfl)
theorem dX4_fitsName_137 : decode cX4_fitsName 137 = .ok (.iaload, 1) := dk_46 (dk_at dksX4_fitsName_5 19 rfl rfl)
theorem dX4_fitsName_138 : decode cX4_fitsName 138 = .ok (.iload 4, 2) := dk_21 4 (dk_at dksX4_fitsName_5 20 rfl rfl)
theorem dX4_fitsName_140 : decode cX4_fitsName 140 = .ok (.if_icmp .ne 7, 3) := dk_160 0 7 (dk_at dksX4_fitsName_6 0 rfl rfl)
theorem dX4_fitsName_143 : decode cX4_fitsName 143 = .ok (.iconst 1, 1) := dk_4 (dk_at dksX4_fitsName_6 3 rfl rfl)
theorem dX4_fitsName_144 : decode cX4_fitsName 144 = .ok (.goto 4, 3) := dk_167 0 4 (dk_at dksX4_fitsName_6 4 rfl rfl)
theorem dX4_fitsName_147 : decode cX4_fitsName 147 = .ok (.iconst 0, 1) := dk_3 (dk_at dksX4_fitsName_6 7 rfl rfl)
theorem dX4_fitsName_148 : decode cX4_fitsName 148 = .ok (.if_icmp .eq 5, 3) := dk_159 0 5 (dk_at dksX4_fitsName_6 8 rfl rfl)
theorem dX4_fitsName_151 : decode cX4_fitsName 151 = .ok (.iconst 0, 1) := dk_3 (dk_at dksX4_fitsName_6 11 rfl rfl)
theorem dX4_fitsName_152 : decode cX4_fitsName 152 = .ok (.ireturn, 1) := dk_172 (dk_at dksX4_fitsName_6 12 rfl rfl)
theorem dX4_fitsName_153 : decode cX4_fitsName 153 = .ok (.iinc 5 1, 3) := dk_132 5 1 (dk_at dksX4_fitsName_6 13 rfl rfl)
theorem dX4_fitsName_156 : decode cX4_fitsName 156 = .ok (.goto (-57), 3) := dk_167 255 199 (dk_at dksX4_fitsName_6 16 rfl rfl)
theorem dX4_fitsName_159 : decode cX4_fitsName 159 = .ok (.iinc 3 1, 3) := dk_132 3 1 (dk_at dksX4_fitsName_6 19 rfl rfl)
theorem dX4_fitsName_162 : decode cX4_fitsName 162 = .ok (.goto (-143), 3) := dk_167 255 113 (dk_at dksX4_fitsName_7 0 rfl rfl)
theorem dX4_fitsName_165 : decode cX4_fitsName 165 = .ok (.iconst 1, 1) := dk_4 (dk_at dksX4_fitsName_7 3 rfl rfl)
theorem dX4_fitsName_166 : decode cX4_fitsName 166 = .ok (.ireturn, 1) := dk_172 (dk_at dksX4_fitsName_7 4 rfl rfl)
def dkwX4_wordSign_0 : List UInt8 := [42, 180, 0, 59, 16, 7, 27, 104, 28, 96, 46, 172]
abbrev dktX4_wordSign_0 : List UInt8 := dkwX4_wordSign_0 ++ []
theorem dksX4_wordSign_0 : cX4_wordSign.data.toList.drop 0 = dktX4_wordSign_0 := by decide +kernel
theorem dX4_wordSign_0 : decode cX4_wordSign 0 = .ok (.aload_n 0, 1) := dk_42 (dk_at dksX4_wordSign_0 0 rfl rfl)
theorem dX4_wordSign_1 : decode cX4_wordSign 1 = .ok (.getfield 59, 3) := dk_180 0 59 (dk_at dksX4_wordSign_0 1 rfl rfl)
theorem dX4_wordSign_4 : decode cX4_wordSign 4 = .ok (.bipush 7, 2) := dk_16 7 (dk_at dksX4_wordSign_0 4 rfl rfl)
theorem dX4_wordSign_6 : decode cX4_wordSign 6 = .ok (.iload_n 1, 1) := dk_27 (dk_at dksX4_wordSign_0 6 rfl rfl)
theorem dX4_wordSign_7 : decode cX4_wordSign 7 = .ok (.imul, 1) := dk_104 (dk_at dksX4_wordSign_0 7 rfl rfl)
theorem dX4_wordSign_8 : decode cX4_wordSign 8 = .ok (.iload_n 2, 1) := dk_28 (dk_at dksX4_wordSign_0 8 rfl rfl)
theorem dX4_wordSign_9 : decode cX4_wordSign 9 = .ok (.iadd, 1) := dk_96 (dk_at dksX4_wordSign_0 9 rfl rfl)
theorem dX4_wordSign_10 : decode cX4_wordSign 10 = .ok (.iaload, 1) := dk_46 (dk_at dksX4_wordSign_0 10 rfl rfl)
theorem dX4_wordSign_11 : decode cX4_wordSign 11 = .ok (.ireturn, 1) := dk_172 (dk_at dksX4_wordSign_0 11 rfl rfl)
def dkwX4_hits_0 : List UInt8 := [42, 182, 0, 235, 42, 182, 1, 124, 172]
abbrev dktX4_hits_0 : List UInt8 := dkwX4_hits_0 ++ []
theorem dksX4_hits_0 : cX4_hits.data.toList.drop 0 = dktX4_hits_0 := by decide +kernel
theorem dX4_hits_0 : decode cX4_hits 0 = .ok (.aload_n 0, 1) := dk_42 (dk_at dksX4_hits_0 0 rfl rfl)
theorem dX4_hits_1 : decode cX4_hits 1 = .ok (.invokevirtual 235, 3) := dk_182 0 235 (dk_at dksX4_hits_0 1 rfl rfl)
theorem dX4_hits_4 : decode cX4_hits 4 = .ok (.aload_n 0, 1) := dk_42 (dk_at dksX4_hits_0 4 rfl rfl)
theorem dX4_hits_5 : decode cX4_hits 5 = .ok (.invokevirtual 380, 3) := dk_182 1 124 (dk_at dksX4_hits_0 5 rfl rfl)
theorem dX4_hits_8 : decode cX4_hits 8 = .ok (.ireturn, 1) := dk_172 (dk_at dksX4_hits_0 8 rfl rfl)
def dkwX4_hitsNow_4 : List UInt8 := [132, 4, 1, 167, 255, 219, 132, 2, 1, 167, 255, 156, 27, 172]
abbrev dktX4_hitsNow_4 : List UInt8 := dkwX4_hitsNow_4 ++ []
def dkwX4_hitsNow_3 : List UInt8 := [29, 153, 0, 17, 42, 28, 21, 4, 182, 1, 121, 153, 0, 7, 4, 167, 0, 4, 3, 184, 0, 177, 96, 60]
abbrev dktX4_hitsNow_3 : List UInt8 := dkwX4_hitsNow_3 ++ dktX4_hitsNow_4
def dkwX4_hitsNow_2 : List UInt8 := [167, 0, 4, 3, 62, 132, 4, 1, 167, 255, 218, 3, 54, 4, 21, 4, 42, 180, 0, 203, 162, 0, 34, 27]
abbrev dktX4_hitsNow_2 : List UInt8 := dkwX4_hitsNow_2 ++ dktX4_hitsNow_3
def dkwX4_hitsNow_1 : List UInt8 := [46, 162, 0, 33, 29, 153, 0, 21, 42, 42, 28, 21, 4, 182, 1, 118, 182, 1, 112, 153, 0, 7, 4]
abbrev dktX4_hitsNow_1 : List UInt8 := dkwX4_hitsNow_1 ++ dktX4_hitsNow_2
def dkwX4_hitsNow_0 : List UInt8 := [3, 60, 3, 61, 28, 42, 180, 1, 46, 162, 0, 98, 4, 62, 3, 54, 4, 21, 4, 42, 180, 0, 56, 28]
abbrev dktX4_hitsNow_0 : List UInt8 := dkwX4_hitsNow_0 ++ dktX4_hitsNow_1
theorem dksX4_hitsNow_0 : cX4_hitsNow.data.toList.drop 0 = dktX4_hitsNow_0 := by decide +kernel
theorem dksX4_hitsNow_1 : cX4_hitsNow.data.toList.drop 24 = dktX4_hitsNow_1 := dk_seg dksX4_hitsNow_0 24 rfl rfl
theorem dksX4_hitsNow_2 : cX4_hitsNow.data.toList.drop 47 = dktX4_hitsNow_2 := dk_seg dksX4_hitsNow_1 23 rfl rfl
theorem dksX4_hitsNow_3 : cX4_hitsNow.data.toList.drop 71 = dktX4_hitsNow_3 := dk_seg dksX4_hitsNow_2 24 rfl rfl
theorem dksX4_hitsNow_4 : cX4_hitsNow.data.toList.drop 95 = dktX4_hitsNow_4 := dk_seg dksX4_hitsNow_3 24 rfl rfl
theorem dX4_hitsNow_0 : decode cX4_hitsNow 0 = .ok (.iconst 0, 1) := dk_3 (dk_at dksX4_hitsNow_0 0 rfl rfl)
theorem dX4_hitsNow_1 : decode cX4_hitsNow 1 = .ok (.istore_n 1, 1) := dk_60 (dk_at dksX4_hitsNow_0 1 rfl rfl)
theorem dX4_hitsNow_2 : decode cX4_hitsNow 2 = .ok (.iconst 0, 1) := dk_3 (dk_at dksX4_hitsNow_0 2 rfl rfl)
theorem dX4_hitsNow_3 : decode cX4_hitsNow 3 = .ok (.istore_n 2, 1) := dk_61 (dk_at dksX4_hitsNow_0 3 rfl rfl)
theorem dX4_hitsNow_4 : decode cX4_hitsNow 4 = .ok (.iload_n 2, 1) := dk_28 (dk_at dksX4_hitsNow_0 4 rfl rfl)
theorem dX4_hitsNow_5 : decode cX4_hitsNow 5 = .ok (.aload_n 0, 1) := dk_42 (dk_at dksX4_hitsNow_0 5 rfl rfl)
theorem dX4_hitsNow_6 : decode cX4_hitsNow 6 = .ok (.getfield 302, 3) := dk_180 1 46 (dk_at dksX4_hitsNow_0 6 rfl rfl)
theorem dX4_hitsNow_9 : decode cX4_hitsNow 9 = .ok (.if_icmp .ge 98, 3) := dk_162 0 98 (dk_at dksX4_hitsNow_0 9 rfl rfl)
theorem dX4_hitsNow_12 : decode cX4_hitsNow 12 = .ok (.iconst 1, 1) := dk_4 (dk_at dksX4_hitsNow_0 12 rfl rfl)
theorem dX4_hitsNow_13 : decode cX4_hitsNow 13 = .ok (.istore_n 3, 1) := dk_62 (dk_at dksX4_hitsNow_0 13 rfl rfl)
theorem dX4_hitsNow_14 : decode cX4_hitsNow 14 = .ok (.iconst 0, 1) := dk_3 (dk_at dksX4_hitsNow_0 14 rfl rfl)
theorem dX4_hitsNow_15 : decode cX4_hitsNow 15 = .ok (.istore 4, 2) := dk_54 4 (dk_at dksX4_hitsNow_0 15 rfl rfl)
theorem dX4_hitsNow_17 : decode cX4_hitsNow 17 = .ok (.iload 4, 2) := dk_21 4 (dk_at dksX4_hitsNow_0 17 rfl rfl)
theorem dX4_hitsNow_19 : decode cX4_hitsNow 19 = .ok (.aload_n 0, 1) := dk_42 (dk_at dksX4_hitsNow_0 19 rfl rfl)
theorem dX4_hitsNow_20 : decode cX4_hitsNow 20 = .ok (.getfield 56, 3) := dk_180 0 56 (dk_at dksX4_hitsNow_0 20 rfl rfl)
theorem dX4_hitsNow_23 : decode cX4_hitsNow 23 = .ok (.iload_n 2, 1) := dk_28 (dk_at dksX4_hitsNow_0 23 rfl rfl)
theorem dX4_hitsNow_24 : decode cX4_hitsNow 24 = .ok (.iaload, 1) := dk_46 (dk_at dksX4_hitsNow_1 0 rfl rfl)
theorem dX4_hitsNow_25 : decode cX4_hitsNow 25 = .ok (.if_icmp .ge 33, 3) := dk_162 0 33 (dk_at dksX4_hitsNow_1 1 rfl rfl)
theorem dX4_hitsNow_28 : decode cX4_hitsNow 28 = .ok (.iload_n 3, 1) := dk_29 (dk_at dksX4_hitsNow_1 4 rfl rfl)
theorem dX4_hitsNow_29 : decode cX4_hitsNow 29 = .ok (.ifCond .eq 21, 3) := dk_153 0 21 (dk_at dksX4_hitsNow_1 5 rfl rfl)
theorem dX4_hitsNow_32 : decode cX4_hitsNow 32 = .ok (.aload_n 0, 1) := dk_42 (dk_at dksX4_hitsNow_1 8 rfl rfl)
theorem dX4_hitsNow_33 : decode cX4_hitsNow 33 = .ok (.aload_n 0, 1) := dk_42 (dk_at dksX4_hitsNow_1 9 rfl rfl)
theorem dX4_hitsNow_34 : decode cX4_hitsNow 34 = .ok (.iload_n 2, 1) := dk_28 (dk_at dksX4_hitsNow_1 10 rfl rfl)
theorem dX4_hitsNow_35 : decode cX4_hitsNow 35 = .ok (.iload 4, 2) := dk_21 4 (dk_at dksX4_hitsNow_1 11 rfl rfl)
theorem dX4_hitsNow_37 : decode cX4_hitsNow 37 = .ok (.invokevirtual 374, 3) := dk_182 1 118 (dk_at dksX4_hitsNow_1 13 rfl rfl)
theorem dX4_hitsNow_40 : decode cX4_hitsNow 40 = .ok (.invokevirtual 368, 3) := dk_182 1 112 (dk_at dksX4_hitsNow_1 16 rfl rfl)
theorem dX4_hitsNow_43 : decode cX4_hitsNow 43 = .ok (.ifCond .eq 7, 3) := dk_153 0 7 (dk_at dksX4_hitsNow_1 19 rfl rfl)
theorem dX4_hitsNow_46 : decode cX4_hitsNow 46 = .ok (.iconst 1, 1) := dk_4 (dk_at dksX4_hitsNow_1 22 rfl rfl)
theorem dX4_hitsNow_47 : decode cX4_hitsNow 47 = .ok (.goto 4, 3) := dk_167 0 4 (dk_at dksX4_hitsNow_2 0 rfl rfl)
theorem dX4_hitsNow_50 : decode cX4_hitsNow 50 = .ok (.iconst 0, 1) := dk_3 (dk_at dksX4_hitsNow_2 3 rfl rfl)
theorem dX4_hitsNow_51 : decode cX4_hitsNow 51 = .ok (.istore_n 3, 1) := dk_62 (dk_at dksX4_hitsNow_2 4 rfl rfl)
theorem dX4_hitsNow_52 : decode cX4_hitsNow 52 = .ok (.iinc 4 1, 3) := dk_132 4 1 (dk_at dksX4_hitsNow_2 5 rfl rfl)
theorem dX4_hitsNow_55 : decode cX4_hitsNow 55 = .ok (.goto (-38), 3) := dk_167 255 218 (dk_at dksX4_hitsNow_2 8 rfl rfl)
theorem dX4_hitsNow_58 : decode cX4_hitsNow 58 = .ok (.iconst 0, 1) := dk_3 (dk_at dksX4_hitsNow_2 11 rfl rfl)
theorem dX4_hitsNow_59 : decode cX4_hitsNow 59 = .ok (.istore 4, 2) := dk_54 4 (dk_at dksX4_hitsNow_2 12 rfl rfl)
theorem dX4_hitsNow_61 : decode cX4_hitsNow 61 = .ok (.iload 4, 2) := dk_21 4 (dk_at dksX4_hitsNow_2 14 rfl rfl)
theorem dX4_hitsNow_63 : decode cX4_hitsNow 63 = .ok (.aload_n 0, 1) := dk_42 (dk_at dksX4_hitsNow_2 16 rfl rfl)
theorem dX4_hitsNow_64 : decode cX4_hitsNow 64 = .ok (.getfield 203, 3) := dk_180 0 203 (dk_at dksX4_hitsNow_2 17 rfl rfl)
theorem dX4_hitsNow_67 : decode cX4_hitsNow 67 = .ok (.if_icmp .ge 34, 3) := dk_162 0 34 (dk_at dksX4_hitsNow_2 20 rfl rfl)
theorem dX4_hitsNow_70 : decode cX4_hitsNow 70 = .ok (.iload_n 1, 1) := dk_27 (dk_at dksX4_hitsNow_2 23 rfl rfl)
theorem dX4_hitsNow_71 : decode cX4_hitsNow 71 = .ok (.iload_n 3, 1) := dk_29 (dk_at dksX4_hitsNow_3 0 rfl rfl)
theorem dX4_hitsNow_72 : decode cX4_hitsNow 72 = .ok (.ifCond .eq 17, 3) := dk_153 0 17 (dk_at dksX4_hitsNow_3 1 rfl rfl)
theorem dX4_hitsNow_75 : decode cX4_hitsNow 75 = .ok (.aload_n 0, 1) := dk_42 (dk_at dksX4_hitsNow_3 4 rfl rfl)
theorem dX4_hitsNow_76 : decode cX4_hitsNow 76 = .ok (.iload_n 2, 1) := dk_28 (dk_at dksX4_hitsNow_3 5 rfl rfl)
theorem dX4_hitsNow_77 : decode cX4_hitsNow 77 = .ok (.iload 4, 2) := dk_21 4 (dk_at dksX4_hitsNow_3 6 rfl rfl)
theorem dX4_hitsNow_79 : decode cX4_hitsNow 79 = .ok (.invokevirtual 377, 3) := dk_182 1 121 (dk_at dksX4_hitsNow_3 8 rfl rfl)
theorem dX4_hitsNow_82 : decode cX4_hitsNow 82 = .ok (.ifCond .eq 7, 3) := dk_153 0 7 (dk_at dksX4_hitsNow_3 11 rfl rfl)
theorem dX4_hitsNow_85 : decode cX4_hitsNow 85 = .ok (.iconst 1, 1) := dk_4 (dk_at dksX4_hitsNow_3 14 rfl rfl)
theorem dX4_hitsNow_86 : decode cX4_hitsNow 86 = .ok (.goto 4, 3) := dk_167 0 4 (dk_at dksX4_hitsNow_3 15 rfl rfl)
theorem dX4_hitsNow_89 : decode cX4_hitsNow 89 = .ok (.iconst 0, 1) := dk_3 (dk_at dksX4_hitsNow_3 18 rfl rfl)
theorem dX4_hitsNow_90 : decode cX4_hitsNow 90 = .ok (.invokestatic 177, 3) := dk_184 0 177 (dk_at dksX4_hitsNow_3 19 rfl rfl)
theorem dX4_hitsNow_93 : decode cX4_hitsNow 93 = .ok (.iadd, 1) := dk_96 (dk_at dksX4_hitsNow_3 22 rfl rfl)
theorem dX4_hitsNow_94 : decode cX4_hitsNow 94 = .ok (.istore_n 1, 1) := dk_60 (dk_at dksX4_hitsNow_3 23 rfl rfl)
theorem dX4_hitsNow_95 : decode cX4_hitsNow 95 = .ok (.iinc 4 1, 3) := dk_132 4 1 (dk_at dksX4_hitsNow_4 0 rfl rfl)
theorem dX4_hitsNow_98 : decode cX4_hitsNow 98 = .ok (.goto (-37), 3) := dk_167 255 219 (dk_at dksX4_hitsNow_4 3 rfl rfl)
theorem dX4_hitsNow_101 : decode cX4_hitsNow 101 = .ok (.iinc 2 1, 3) := dk_132 2 1 (dk_at dksX4_hitsNow_4 6 rfl rfl)
theorem dX4_hitsNow_104 : decode cX4_hitsNow 104 = .ok (.goto (-100), 3) := dk_167 255 156 (dk_at dksX4_hitsNow_4 9 rfl rfl)
theorem dX4_hitsNow_107 : decode cX4_hitsNow 107 = .ok (.iload_n 1, 1) := dk_27 (dk_at dksX4_hitsNow_4 12 rfl rfl)
theorem dX4_hitsNow_108 : decode cX4_hitsNow 108 = .ok (.ireturn, 1) := dk_172 (dk_at dksX4_hitsNow_4 13 rfl rfl)
def dkwX4_ways_2 : List UInt8 := [42, 180, 0, 90, 27, 46, 172]
abbrev dktX4_ways_2 : List UInt8 := dkwX4_ways_2 ++ []
def dkwX4_ways_1 : List UInt8 := [27, 2, 160, 0, 10, 42, 180, 1, 130, 167, 0, 21, 42, 180, 1, 130, 154, 0, 8, 16, 254, 167, 0, 9]
abbrev dktX4_ways_1 : List UInt8 := dkwX4_ways_1 ++ dktX4_ways_2
def dkwX4_ways_0 : List UInt8 := [27, 2, 42, 180, 0, 203, 4, 100, 184, 0, 123, 154, 0, 5, 2, 172, 42, 182, 0, 235, 42, 182, 1, 139]
abbrev dktX4_ways_0 : List UInt8 := dkwX4_ways_0 ++ dktX4_ways_1
theorem dksX4_ways_0 : cX4_ways.data.toList.drop 0 = dktX4_ways_0 := by decide +kernel
theorem dksX4_ways_1 : cX4_ways.data.toList.drop 24 = dktX4_ways_1 := dk_seg dksX4_ways_0 24 rfl rfl
theorem dksX4_ways_2 : cX4_ways.data.toList.drop 48 = dktX4_ways_2 := dk_seg dksX4_ways_1 24 rfl rfl
theorem dX4_ways_0 : decode cX4_ways 0 = .ok (.iload_n 1, 1) := dk_27 (dk_at dksX4_ways_0 0 rfl rfl)
theorem dX4_ways_1 : decode cX4_ways 1 = .ok (.iconst (-1), 1) := dk_2 (dk_at dksX4_ways_0 1 rfl rfl)
theorem dX4_ways_2 : decode cX4_ways 2 = .ok (.aload_n 0, 1) := dk_42 (dk_at dksX4_ways_0 2 rfl rfl)
theorem dX4_ways_3 : decode cX4_ways 3 = .ok (.getfield 203, 3) := dk_180 0 203 (dk_at dksX4_ways_0 3 rfl rfl)
theorem dX4_ways_6 : decode cX4_ways 6 = .ok (.iconst 1, 1) := dk_4 (dk_at dksX4_ways_0 6 rfl rfl)
theorem dX4_ways_7 : decode cX4_ways 7 = .ok (.isub, 1) := dk_100 (dk_at dksX4_ways_0 7 rfl rfl)
theorem dX4_ways_8 : decode cX4_ways 8 = .ok (.invokestatic 123, 3) := dk_184 0 123 (dk_at dksX4_ways_0 8 rfl rfl)
theorem dX4_ways_11 : decode cX4_ways 11 = .ok (.ifCond .ne 5, 3) := dk_154 0 5 (dk_at dksX4_ways_0 11 rfl rfl)
theorem dX4_ways_14 : decode cX4_ways 14 = .ok (.iconst (-1), 1) := dk_2 (dk_at dksX4_ways_0 14 rfl rfl)
theorem dX4_ways_15 : decode cX4_ways 15 = .ok (.ireturn, 1) := dk_172 (dk_at dksX4_ways_0 15 rfl rfl)
theorem dX4_ways_16 : decode cX4_ways 16 = .ok (.aload_n 0, 1) := dk_42 (dk_at dksX4_ways_0 16 rfl rfl)
theorem dX4_ways_17 : decode cX4_ways 17 = .ok (.invokevirtual 235, 3) := dk_182 0 235 (dk_at dksX4_ways_0 17 rfl rfl)
theorem dX4_ways_20 : decode cX4_ways 20 = .ok (.aload_n 0, 1) := dk_42 (dk_at dksX4_ways_0 20 rfl rfl)
theorem dX4_ways_21 : decode cX4_ways 21 = .ok (.invokevirtual 395, 3) := dk_182 1 139 (dk_at dksX4_ways_0 21 rfl rfl)
theorem dX4_ways_24 : decode cX4_ways 24 = .ok (.iload_n 1, 1) := dk_27 (dk_at dksX4_ways_1 0 rfl rfl)
theorem dX4_ways_25 : decode cX4_ways 25 = .ok (.iconst (-1), 1) := dk_2 (dk_at dksX4_ways_1 1 rfl rfl)
theorem dX4_ways_26 : decode cX4_ways 26 = .ok (.if_icmp .ne 10, 3) := dk_160 0 10 (dk_at dksX4_ways_1 2 rfl rfl)
theorem dX4_ways_29 : decode cX4_ways 29 = .ok (.aload_n 0, 1) := dk_42 (dk_at dksX4_ways_1 5 rfl rfl)
theorem dX4_ways_30 : decode cX4_ways 30 = .ok (.getfield 386, 3) := dk_180 1 130 (dk_at dksX4_ways_1 6 rfl rfl)
theorem dX4_ways_33 : decode cX4_ways 33 = .ok (.goto 21, 3) := dk_167 0 21 (dk_at dksX4_ways_1 9 rfl rfl)
theorem dX4_ways_36 : decode cX4_ways 36 = .ok (.aload_n 0, 1) := dk_42 (dk_at dksX4_ways_1 12 rfl rfl)
theorem dX4_ways_37 : decode cX4_ways 37 = .ok (.getfield 386, 3) := dk_180 1 130 (dk_at dksX4_ways_1 13 rfl rfl)
theorem dX4_ways_40 : decode cX4_ways 40 = .ok (.ifCond .ne 8, 3) := dk_154 0 8 (dk_at dksX4_ways_1 16 rfl rfl)
theorem dX4_ways_43 : decode cX4_ways 43 = .ok (.bipush (-2), 2) := dk_16 254 (dk_at dksX4_ways_1 19 rfl rfl)
theorem dX4_ways_45 : decode cX4_ways 45 = .ok (.goto 9, 3) := dk_167 0 9 (dk_at dksX4_ways_1 21 rfl rfl)
theorem dX4_ways_48 : decode cX4_ways 48 = .ok (.aload_n 0, 1) := dk_42 (dk_at dksX4_ways_2 0 rfl rfl)
theorem dX4_ways_49 : decode cX4_ways 49 = .ok (.getfield 90, 3) := dk_180 0 90 (dk_at dksX4_ways_2 1 rfl rfl)
theorem dX4_ways_52 : decode cX4_ways 52 = .ok (.iload_n 1, 1) := dk_27 (dk_at dksX4_ways_2 4 rfl rfl)
theorem dX4_ways_53 : decode cX4_ways 53 = .ok (.iaload, 1) := dk_46 (dk_at dksX4_ways_2 5 rfl rfl)
theorem dX4_ways_54 : decode cX4_ways 54 = .ok (.ireturn, 1) := dk_172 (dk_at dksX4_ways_2 6 rfl rfl)
def dkwX4_laysWays_4 : List UInt8 := [132, 1, 1, 42, 180, 0, 87, 27, 2, 79, 167, 255, 178, 177]
abbrev dktX4_laysWays_4 : List UInt8 := dkwX4_laysWays_4 ++ []
def dkwX4_laysWays_3 : List UInt8 := [182, 1, 133, 153, 255, 208, 27, 42, 180, 0, 203, 4, 100, 160, 0, 10, 42, 182, 1, 136, 167, 255, 191]
abbrev dktX4_laysWays_3 : List UInt8 := dkwX4_laysWays_3 ++ dktX4_laysWays_4
def dkwX4_laysWays_2 : List UInt8 := [4, 96, 79, 42, 180, 0, 87, 27, 46, 42, 180, 1, 46, 161, 0, 9, 132, 1, 255, 167, 255, 216, 42, 27]
abbrev dktX4_laysWays_2 : List UInt8 := dkwX4_laysWays_2 ++ dktX4_laysWays_3
def dkwX4_laysWays_1 : List UInt8 := [3, 2, 79, 27, 155, 0, 80, 42, 180, 1, 130, 17, 3, 231, 162, 0, 70, 42, 180, 0, 87, 27, 92, 46]
abbrev dktX4_laysWays_1 : List UInt8 := dkwX4_laysWays_1 ++ dktX4_laysWays_2
def dkwX4_laysWays_0 : List UInt8 := [42, 3, 181, 1, 130, 42, 180, 0, 203, 154, 0, 9, 42, 4, 181, 1, 130, 177, 3, 60, 42, 180, 0, 87]
abbrev dktX4_laysWays_0 : List UInt8 := dkwX4_laysWays_0 ++ dktX4_laysWays_1
theorem dksX4_laysWays_0 : cX4_laysWays.data.toList.drop 0 = dktX4_laysWays_0 := by decide +kernel
theorem dksX4_laysWays_1 : cX4_laysWays.data.toList.drop 24 = dktX4_laysWays_1 := dk_seg dksX4_laysWays_0 24 rfl rfl
theorem dksX4_laysWays_2 : cX4_laysWays.data.toList.drop 48 = dktX4_laysWays_2 := dk_seg dksX4_laysWays_1 24 rfl rfl
theorem dksX4_laysWays_3 : cX4_laysWays.data.toList.drop 72 = dktX4_laysWays_3 := dk_seg dksX4_laysWays_2 24 rfl rfl
theorem dksX4_laysWays_4 : cX4_laysWays.data.toList.drop 95 = dktX4_laysWays_4 := dk_seg dksX4_laysWays_3 23 rfl rfl
theorem dX4_laysWays_0 : decode cX4_laysWays 0 = .ok (.aload_n 0, 1) := dk_42 (dk_at dksX4_laysWays_0 0 rfl rfl)
theorem dX4_laysWays_1 : decode cX4_laysWays 1 = .ok (.iconst 0, 1) := dk_3 (dk_at dksX4_laysWays_0 1 rfl rfl)
theorem dX4_laysWays_2 : decode cX4_laysWays 2 = .ok (.putfield 386, 3) := dk_181 1 130 (dk_at dksX4_laysWays_0 2 rfl rfl)
theorem dX4_laysWays_5 : decode cX4_laysWays 5 = .ok (.aload_n 0, 1) := dk_42 (dk_at dksX4_laysWays_0 5 rfl rfl)
theorem dX4_laysWays_6 : decode cX4_laysWays 6 = .ok (.getfield 203, 3) := dk_180 0 203 (dk_at dksX4_laysWays_0 6 rfl rfl)
theorem dX4_laysWays_9 : decode cX4_laysWays 9 = .ok (.ifCond .ne 9, 3) := dk_154 0 9 (dk_at dksX4_laysWays_0 9 rfl rfl)
theorem dX4_laysWays_12 : decode cX4_laysWays 12 = .ok (.aload_n 0, 1) := dk_42 (dk_at dksX4_laysWays_0 12 rfl rfl)
theorem dX4_laysWays_13 : decode cX4_laysWays 13 = .ok (.iconst 1, 1) := dk_4 (dk_at dksX4_laysWays_0 13 rfl rfl)
theorem dX4_laysWays_14 : decode cX4_laysWays 14 = .ok (.putfield 386, 3) := dk_181 1 130 (dk_at dksX4_laysWays_0 14 rfl rfl)
theorem dX4_laysWays_17 : decode cX4_laysWays 17 = .ok (.return_, 1) := dk_177 (dk_at dksX4_laysWays_0 17 rfl rfl)
theorem dX4_laysWays_18 : decode cX4_laysWays 18 = .ok (.iconst 0, 1) := dk_3 (dk_at dksX4_laysWays_0 18 rfl rfl)
theorem dX4_laysWays_19 : decode cX4_laysWays 19 = .ok (.istore_n 1, 1) := dk_60 (dk_at dksX4_laysWays_0 19 rfl rfl)
theorem dX4_laysWays_20 : decode cX4_laysWays 20 = .ok (.aload_n 0, 1) := dk_42 (dk_at dksX4_laysWays_0 20 rfl rfl)
theorem dX4_laysWays_21 : decode cX4_laysWays 21 = .ok (.getfield 87, 3) := dk_180 0 87 (dk_at dksX4_laysWays_0 21 rfl rfl)
theorem dX4_laysWays_24 : decode cX4_laysWays 24 = .ok (.iconst 0, 1) := dk_3 (dk_at dksX4_laysWays_1 0 rfl rfl)
theorem dX4_laysWays_25 : decode cX4_laysWays 25 = .ok (.iconst (-1), 1) := dk_2 (dk_at dksX4_laysWays_1 1 rfl rfl)
theorem dX4_laysWays_26 : decode cX4_laysWays 26 = .ok (.iastore, 1) := dk_79 (dk_at dksX4_laysWays_1 2 rfl rfl)
theorem dX4_laysWays_27 : decode cX4_laysWays 27 = .ok (.iload_n 1, 1) := dk_27 (dk_at dksX4_laysWays_1 3 rfl rfl)
theorem dX4_laysWays_28 : decode cX4_laysWays 28 = .ok (.ifCond .lt 80, 3) := dk_155 0 80 (dk_at dksX4_laysWays_1 4 rfl rfl)
theorem dX4_laysWays_31 : decode cX4_laysWays 31 = .ok (.aload_n 0, 1) := dk_42 (dk_at dksX4_laysWays_1 7 rfl rfl)
theorem dX4_laysWays_32 : decode cX4_laysWays 32 = .ok (.getfield 386, 3) := dk_180 1 130 (dk_at dksX4_laysWays_1 8 rfl rfl)
theorem dX4_laysWays_35 : decode cX4_laysWays 35 = .ok (.sipush 999, 3) := dk_17 3 231 (dk_at dksX4_laysWays_1 11 rfl rfl)
theorem dX4_laysWays_38 : decode cX4_laysWays 38 = .ok (.if_icmp .ge 70, 3) := dk_162 0 70 (dk_at dksX4_laysWays_1 14 rfl rfl)
theorem dX4_laysWays_41 : decode cX4_laysWays 41 = .ok (.aload_n 0, 1) := dk_42 (dk_at dksX4_laysWays_1 17 rfl rfl)
theorem dX4_laysWays_42 : decode cX4_laysWays 42 = .ok (.getfield 87, 3) := dk_180 0 87 (dk_at dksX4_laysWays_1 18 rfl rfl)
theorem dX4_laysWays_45 : decode cX4_laysWays 45 = .ok (.iload_n 1, 1) := dk_27 (dk_at dksX4_laysWays_1 21 rfl rfl)
theorem dX4_laysWays_46 : decode cX4_laysWays 46 = .ok (.dup2, 1) := dk_92 (dk_at dksX4_laysWays_1 22 rfl rfl)
theorem dX4_laysWays_47 : decode cX4_laysWays 47 = .ok (.iaload, 1) := dk_46 (dk_at dksX4_laysWays_1 23 rfl rfl)
theorem dX4_laysWays_48 : decode cX4_laysWays 48 = .ok (.iconst 1, 1) := dk_4 (dk_at dksX4_laysWays_2 0 rfl rfl)
theorem dX4_laysWays_49 : decode cX4_laysWays 49 = .ok (.iadd, 1) := dk_96 (dk_at dksX4_laysWays_2 1 rfl rfl)
theorem dX4_laysWays_50 : decode cX4_laysWays 50 = .ok (.iastore, 1) := dk_79 (dk_at dksX4_laysWays_2 2 rfl rfl)
theorem dX4_laysWays_51 : decode cX4_laysWays 51 = .ok (.aload_n 0, 1) := dk_42 (dk_at dksX4_laysWays_2 3 rfl rfl)
theorem dX4_laysWays_52 : decode cX4_laysWays 52 = .ok (.getfield 87, 3) := dk_180 0 87 (dk_at dksX4_laysWays_2 4 rfl rfl)
theorem dX4_laysWays_55 : decode cX4_laysWays 55 = .ok (.iload_n 1, 1) := dk_27 (dk_at dksX4_laysWays_2 7 rfl rfl)
theorem dX4_laysWays_56 : decode cX4_laysWays 56 = .ok (.iaload, 1) := dk_46 (dk_at dksX4_laysWays_2 8 rfl rfl)
theorem dX4_laysWays_57 : decode cX4_laysWays 57 = .ok (.aload_n 0, 1) := dk_42 (dk_at dksX4_laysWays_2 9 rfl rfl)
theorem dX4_laysWays_58 : decode cX4_laysWays 58 = .ok (.getfield 302, 3) := dk_180 1 46 (dk_at dksX4_laysWays_2 10 rfl rfl)
theorem dX4_laysWays_61 : decode cX4_laysWays 61 = .ok (.if_icmp .lt 9, 3) := dk_161 0 9 (dk_at dksX4_laysWays_2 13 rfl rfl)
theorem dX4_laysWays_64 : decode cX4_laysWays 64 = .ok (.iinc 1 (-1), 3) := dk_132 1 255 (dk_at dksX4_laysWays_2 16 rfl rfl)
theorem dX4_laysWays_67 : decode cX4_laysWays 67 = .ok (.goto (-40), 3) := dk_167 255 216 (dk_at dksX4_laysWays_2 19 rfl rfl)
theorem dX4_laysWays_70 : decode cX4_laysWays 70 = .ok (.aload_n 0, 1) := dk_42 (dk_at dksX4_laysWays_2 22 rfl rfl)
theorem dX4_laysWays_71 : decode cX4_laysWays 71 = .ok (.iload_n 1, 1) := dk_27 (dk_at dksX4_laysWays_2 23 rfl rfl)
theorem dX4_laysWays_72 : decode cX4_laysWays 72 = .ok (.invokevirtual 389, 3) := dk_182 1 133 (dk_at dksX4_laysWays_3 0 rfl rfl)
theorem dX4_laysWays_75 : decode cX4_laysWays 75 = .ok (.ifCond .eq (-48), 3) := dk_153 255 208 (dk_at dksX4_laysWays_3 3 rfl rfl)
theorem dX4_laysWays_78 : decode cX4_laysWays 78 = .ok (.iload_n 1, 1) := dk_27 (dk_at dksX4_laysWays_3 6 rfl rfl)
theorem dX4_laysWays_79 : decode cX4_laysWays 79 = .ok (.aload_n 0, 1) := dk_42 (dk_at dksX4_laysWays_3 7 rfl rfl)
theorem dX4_laysWays_80 : decode cX4_laysWays 80 = .ok (.getfield 203, 3) := dk_180 0 203 (dk_at dksX4_laysWays_3 8 rfl rfl)
theorem dX4_laysWays_83 : decode cX4_laysWays 83 = .ok (.iconst 1, 1) := dk_4 (dk_at dksX4_laysWays_3 11 rfl rfl)
theorem dX4_laysWays_84 : decode cX4_laysWays 84 = .ok (.isub, 1) := dk_100 (dk_at dksX4_laysWays_3 12 rfl rfl)
theorem dX4_laysWays_85 : decode cX4_laysWays 85 = .ok (.if_icmp .ne 10, 3) := dk_160 0 10 (dk_at dksX4_laysWays_3 13 rfl rfl)
theorem dX4_laysWays_88 : decode cX4_laysWays 88 = .ok (.aload_n 0, 1) := dk_42 (dk_at dksX4_laysWays_3 16 rfl rfl)
theorem dX4_laysWays_89 : decode cX4_laysWays 89 = .ok (.invokevirtual 392, 3) := dk_182 1 136 (dk_at dksX4_laysWays_3 17 rfl rfl)
theorem dX4_laysWays_92 : decode cX4_laysWays 92 = .ok (.goto (-65), 3) := dk_167 255 191 (dk_at dksX4_laysWays_3 20 rfl rfl)
theorem dX4_laysWays_95 : decode cX4_laysWays 95 = .ok (.iinc 1 1, 3) := dk_132 1 1 (dk_at dksX4_laysWays_4 0 rfl rfl)
theorem dX4_laysWays_98 : decode cX4_laysWays 98 = .ok (.aload_n 0, 1) := dk_42 (dk_at dksX4_laysWays_4 3 rfl rfl)
theorem dX4_laysWays_99 : decode cX4_laysWays 99 = .ok (.getfield 87, 3) := dk_180 0 87 (dk_at dksX4_laysWays_4 4 rfl rfl)
theorem dX4_laysWays_102 : decode cX4_laysWays 102 = .ok (.iload_n 1, 1) := dk_27 (dk_at dksX4_laysWays_4 7 rfl rfl)
theorem dX4_laysWays_103 : decode cX4_laysWays 103 = .ok (.iconst (-1), 1) := dk_2 (dk_at dksX4_laysWays_4 8 rfl rfl)
theorem dX4_laysWays_104 : decode cX4_laysWays 104 = .ok (.iastore, 1) := dk_79 (dk_at dksX4_laysWays_4 9 rfl rfl)
theorem dX4_laysWays_105 : decode cX4_laysWays 105 = .ok (.goto (-78), 3) := dk_167 255 178 (dk_at dksX4_laysWays_4 10 rfl rfl)
theorem dX4_laysWays_108 : decode cX4_laysWays 108 = .ok (.return_, 1) := dk_177 (dk_at dksX4_laysWays_4 13 rfl rfl)
def dkwX4_canBe_2 : List UInt8 := [182, 1, 127, 154, 0, 5, 3, 172, 132, 2, 1, 167, 255, 217, 4, 172]
abbrev dktX4_canBe_2 : List UInt8 := dkwX4_canBe_2 ++ []
def dkwX4_canBe_1 : List UInt8 := [27, 162, 0, 18, 42, 180, 0, 87, 28, 46, 42, 180, 0, 87, 27, 46, 159, 0, 12, 42, 27, 28]
abbrev dktX4_canBe_1 : List UInt8 := dkwX4_canBe_1 ++ dktX4_canBe_2
def dkwX4_canBe_0 : List UInt8 := [42, 42, 180, 0, 87, 27, 46, 27, 182, 1, 121, 154, 0, 5, 3, 172, 3, 61, 28, 27, 163, 0, 40, 28]
abbrev dktX4_canBe_0 : List UInt8 := dkwX4_canBe_0 ++ dktX4_canBe_1
theorem dksX4_canBe_0 : cX4_canBe.data.toList.drop 0 = dktX4_canBe_0 := by decide +kernel
theorem dksX4_canBe_1 : cX4_canBe.data.toList.drop 24 = dktX4_canBe_1 := dk_seg dksX4_canBe_0 24 rfl rfl
theorem dksX4_canBe_2 : cX4_canBe.data.toList.drop 46 = dktX4_canBe_2 := dk_seg dksX4_canBe_1 22 rfl rfl
theorem dX4_canBe_0 : decode cX4_canBe 0 = .ok (.aload_n 0, 1) := dk_42 (dk_at dksX4_canBe_0 0 rfl rfl)
theorem dX4_canBe_1 : decode cX4_canBe 1 = .ok (.aload_n 0, 1) := dk_42 (dk_at dksX4_canBe_0 1 rfl rfl)
theorem dX4_canBe_2 : decode cX4_canBe 2 = .ok (.getfield 87, 3) := dk_180 0 87 (dk_at dksX4_canBe_0 2 rfl rfl)
theorem dX4_canBe_5 : decode cX4_canBe 5 = .ok (.iload_n 1, 1) := dk_27 (dk_at dksX4_canBe_0 5 rfl rfl)
theorem dX4_canBe_6 : decode cX4_canBe 6 = .ok (.iaload, 1) := dk_46 (dk_at dksX4_canBe_0 6 rfl rfl)
theorem dX4_canBe_7 : decode cX4_canBe 7 = .ok (.iload_n 1, 1) := dk_27 (dk_at dksX4_canBe_0 7 rfl rfl)
theorem dX4_canBe_8 : decode cX4_canBe 8 = .ok (.invokevirtual 377, 3) := dk_182 1 121 (dk_at dksX4_canBe_0 8 rfl rfl)
theorem dX4_canBe_11 : decode cX4_canBe 11 = .ok (.ifCond .ne 5, 3) := dk_154 0 5 (dk_at dksX4_canBe_0 11 rfl rfl)
theorem dX4_canBe_14 : decode cX4_canBe 14 = .ok (.iconst 0, 1) := dk_3 (dk_at dksX4_canBe_0 14 rfl rfl)
theorem dX4_canBe_15 : decode cX4_canBe 15 = .ok (.ireturn, 1) := dk_172 (dk_at dksX4_canBe_0 15 rfl rfl)
theorem dX4_canBe_16 : decode cX4_canBe 16 = .ok (.iconst 0, 1) := dk_3 (dk_at dksX4_canBe_0 16 rfl rfl)
theorem dX4_canBe_17 : decode cX4_canBe 17 = .ok (.istore_n 2, 1) := dk_61 (dk_at dksX4_canBe_0 17 rfl rfl)
theorem dX4_canBe_18 : decode cX4_canBe 18 = .ok (.iload_n 2, 1) := dk_28 (dk_at dksX4_canBe_0 18 rfl rfl)
theorem dX4_canBe_19 : decode cX4_canBe 19 = .ok (.iload_n 1, 1) := dk_27 (dk_at dksX4_canBe_0 19 rfl rfl)
theorem dX4_canBe_20 : decode cX4_canBe 20 = .ok (.if_icmp .gt 40, 3) := dk_163 0 40 (dk_at dksX4_canBe_0 20 rfl rfl)
theorem dX4_canBe_23 : decode cX4_canBe 23 = .ok (.iload_n 2, 1) := dk_28 (dk_at dksX4_canBe_0 23 rfl rfl)
theorem dX4_canBe_24 : decode cX4_canBe 24 = .ok (.iload_n 1, 1) := dk_27 (dk_at dksX4_canBe_1 0 rfl rfl)
theorem dX4_canBe_25 : decode cX4_canBe 25 = .ok (.if_icmp .ge 18, 3) := dk_162 0 18 (dk_at dksX4_canBe_1 1 rfl rfl)
theorem dX4_canBe_28 : decode cX4_canBe 28 = .ok (.aload_n 0, 1) := dk_42 (dk_at dksX4_canBe_1 4 rfl rfl)
theorem dX4_canBe_29 : decode cX4_canBe 29 = .ok (.getfield 87, 3) := dk_180 0 87 (dk_at dksX4_canBe_1 5 rfl rfl)
theorem dX4_canBe_32 : decode cX4_canBe 32 = .ok (.iload_n 2, 1) := dk_28 (dk_at dksX4_canBe_1 8 rfl rfl)
theorem dX4_canBe_33 : decode cX4_canBe 33 = .ok (.iaload, 1) := dk_46 (dk_at dksX4_canBe_1 9 rfl rfl)
theorem dX4_canBe_34 : decode cX4_canBe 34 = .ok (.aload_n 0, 1) := dk_42 (dk_at dksX4_canBe_1 10 rfl rfl)
theorem dX4_canBe_35 : decode cX4_canBe 35 = .ok (.getfield 87, 3) := dk_180 0 87 (dk_at dksX4_canBe_1 11 rfl rfl)
theorem dX4_canBe_38 : decode cX4_canBe 38 = .ok (.iload_n 1, 1) := dk_27 (dk_at dksX4_canBe_1 14 rfl rfl)
theorem dX4_canBe_39 : decode cX4_canBe 39 = .ok (.iaload, 1) := dk_46 (dk_at dksX4_canBe_1 15 rfl rfl)
theorem dX4_canBe_40 : decode cX4_canBe 40 = .ok (.if_icmp .eq 12, 3) := dk_159 0 12 (dk_at dksX4_canBe_1 16 rfl rfl)
theorem dX4_canBe_43 : decode cX4_canBe 43 = .ok (.aload_n 0, 1) := dk_42 (dk_at dksX4_canBe_1 19 rfl rfl)
theorem dX4_canBe_44 : decode cX4_canBe 44 = .ok (.iload_n 1, 1) := dk_27 (dk_at dksX4_canBe_1 20 rfl rfl)
theorem dX4_canBe_45 : decode cX4_canBe 45 = .ok (.iload_n 2, 1) := dk_28 (dk_at dksX4_canBe_1 21 rfl rfl)
theorem dX4_canBe_46 : decode cX4_canBe 46 = .ok (.invokevirtual 383, 3) := dk_182 1 127 (dk_at dksX4_canBe_2 0 rfl rfl)
theorem dX4_canBe_49 : decode cX4_canBe 49 = .ok (.ifCond .ne 5, 3) := dk_154 0 5 (dk_at dksX4_canBe_2 3 rfl rfl)
theorem dX4_canBe_52 : decode cX4_canBe 52 = .ok (.iconst 0, 1) := dk_3 (dk_at dksX4_canBe_2 6 rfl rfl)
theorem dX4_canBe_53 : decode cX4_canBe 53 = .ok (.ireturn, 1) := dk_172 (dk_at dksX4_canBe_2 7 rfl rfl)
theorem dX4_canBe_54 : decode cX4_canBe 54 = .ok (.iinc 2 1, 3) := dk_132 2 1 (dk_at dksX4_canBe_2 8 rfl rfl)
theorem dX4_canBe_57 : decode cX4_canBe 57 = .ok (.goto (-39), 3) := dk_167 255 217 (dk_at dksX4_canBe_2 11 rfl rfl)
theorem dX4_canBe_60 : decode cX4_canBe 60 = .ok (.iconst 1, 1) := dk_4 (dk_at dksX4_canBe_2 14 rfl rfl)
theorem dX4_canBe_61 : decode cX4_canBe 61 = .ok (.ireturn, 1) := dk_172 (dk_at dksX4_canBe_2 15 rfl rfl)
def dkwX4_agree_7 : List UInt8 := [112, 159, 0, 5, 3, 172, 132, 4, 1, 167, 255, 97, 132, 3, 1, 167, 255, 78, 4, 172]
abbrev dktX4_agree_7 : List UInt8 := dkwX4_agree_7 ++ []
def dkwX4_agree_6 : List UInt8 := [21, 5, 96, 46, 42, 180, 0, 78, 16, 20, 21, 6, 96, 46, 160, 0, 16, 21, 7, 8, 112, 21, 8, 8]
abbrev dktX4_agree_6 : List UInt8 := dkwX4_agree_6 ++ dktX4_agree_7
def dkwX4_agree_5 : List UInt8 := [21, 6, 46, 160, 0, 14, 21, 7, 8, 108, 21, 8, 8, 108, 160, 0, 37, 42, 180, 0, 78, 16, 20]
abbrev dktX4_agree_5 : List UInt8 := dkwX4_agree_5 ++ dktX4_agree_6
def dkwX4_agree_4 : List UInt8 := [21, 8, 160, 0, 7, 4, 167, 0, 4, 3, 160, 0, 65, 42, 180, 0, 78, 21, 5, 46, 42, 180, 0, 78]
abbrev dktX4_agree_4 : List UInt8 := dkwX4_agree_4 ++ dktX4_agree_5
def dkwX4_agree_3 : List UInt8 := [16, 7, 28, 104, 21, 4, 96, 46, 54, 8, 21, 5, 21, 6, 160, 0, 7, 4, 167, 0, 4, 3, 21, 7]
abbrev dktX4_agree_3 : List UInt8 := dkwX4_agree_3 ++ dktX4_agree_4
def dkwX4_agree_2 : List UInt8 := [21, 4, 182, 1, 118, 54, 6, 42, 180, 0, 32, 16, 7, 27, 104, 29, 96, 46, 54, 7, 42, 180, 0, 32]
abbrev dktX4_agree_2 : List UInt8 := dkwX4_agree_2 ++ dktX4_agree_3
def dkwX4_agree_1 : List UInt8 := [162, 0, 154, 42, 42, 180, 0, 87, 27, 46, 29, 182, 1, 118, 54, 5, 42, 42, 180, 0, 87, 28, 46]
abbrev dktX4_agree_1 : List UInt8 := dkwX4_agree_1 ++ dktX4_agree_2
def dkwX4_agree_0 : List UInt8 := [3, 62, 29, 42, 180, 0, 29, 27, 46, 162, 0, 174, 3, 54, 4, 21, 4, 42, 180, 0, 29, 28, 46]
abbrev dktX4_agree_0 : List UInt8 := dkwX4_agree_0 ++ dktX4_agree_1
theorem dksX4_agree_0 : cX4_agree.data.toList.drop 0 = dktX4_agree_0 := by decide +kernel
theorem dksX4_agree_1 : cX4_agree.data.toList.drop 23 = dktX4_agree_1 := dk_seg dksX4_agree_0 23 rfl rfl
theorem dksX4_agree_2 : cX4_agree.data.toList.drop 46 = dktX4_agree_2 := dk_seg dksX4_agree_1 23 rfl rfl
theorem dksX4_agree_3 : cX4_agree.data.toList.drop 70 = dktX4_agree_3 := dk_seg dksX4_agree_2 24 rfl rfl
theorem dksX4_agree_4 : cX4_agree.data.toList.drop 94 = dktX4_agree_4 := dk_seg dksX4_agree_3 24 rfl rfl
theorem dksX4_agree_5 : cX4_agree.data.toList.drop 118 = dktX4_agree_5 := dk_seg dksX4_agree_4 24 rfl rfl
theorem dksX4_agree_6 : cX4_agree.data.toList.drop 141 = dktX4_agree_6 := dk_seg dksX4_agree_5 23 rfl rfl
theorem dksX4_agree_7 : cX4_agree.data.toList.drop 165 = dktX4_agree_7 := dk_seg dksX4_agree_6 24 rfl rfl
theorem dX4_agree_0 : decode cX4_agree 0 = .ok (.iconst 0, 1) := dk_3 (dk_at dksX4_agree_0 0 rfl rfl)
theorem dX4_agree_1 : decode cX4_agree 1 = .ok (.istore_n 3, 1) := dk_62 (dk_at dksX4_agree_0 1 rfl rfl)
theorem dX4_agree_2 : decode cX4_agree 2 = .ok (.iload_n 3, 1) := dk_29 (dk_at dksX4_agree_0 2 rfl rfl)
theorem dX4_agree_3 : decode cX4_agree 3 = .ok (.aload_n 0, 1) := dk_42 (dk_at dksX4_agree_0 3 rfl rfl)
theorem dX4_agree_4 : decode cX4_agree 4 = .ok (.getfield 29, 3) := dk_180 0 29 (dk_at dksX4_agree_0 4 rfl rfl)
theorem dX4_agree_7 : decode cX4_agree 7 = .ok (.iload_n 1, 1) := dk_27 (dk_at dksX4_agree_0 7 rfl rfl)
theorem dX4_agree_8 : decode cX4_agree 8 = .ok (.iaload, 1) := dk_46 (dk_at dksX4_agree_0 8 rfl rfl)
theorem dX4_agree_9 : decode cX4_agree 9 = .ok (.if_icmp .ge 174, 3) := dk_162 0 174 (dk_at dksX4_agree_0 9 rfl rfl)
theorem dX4_agree_12 : decode cX4_agree 12 = .ok (.iconst 0, 1) := dk_3 (dk_at dksX4_agree_0 12 rfl rfl)
theorem dX4_agree_13 : decode cX4_agree 13 = .ok (.istore 4, 2) := dk_54 4 (dk_at dksX4_agree_0 13 rfl rfl)
theorem dX4_agree_15 : decode cX4_agree 15 = .ok (.iload 4, 2) := dk_21 4 (dk_at dksX4_agree_0 15 rfl rfl)
theorem dX4_agree_17 : decode cX4_agree 17 = .ok (.aload_n 0, 1) := dk_42 (dk_at dksX4_agree_0 17 rfl rfl)
theorem dX4_agree_18 : decode cX4_agree 18 = .ok (.getfield 29, 3) := dk_180 0 29 (dk_at dksX4_agree_0 18 rfl rfl)
theorem dX4_agree_21 : decode cX4_agree 21 = .ok (.iload_n 2, 1) := dk_28 (dk_at dksX4_agree_0 21 rfl rfl)
theorem dX4_agree_22 : decode cX4_agree 22 = .ok (.iaload, 1) := dk_46 (dk_at dksX4_agree_0 22 rfl rfl)
theorem dX4_agree_23 : decode cX4_agree 23 = .ok (.if_icmp .ge 154, 3) := dk_162 0 154 (dk_at dksX4_agree_1 0 rfl rfl)
theorem dX4_agree_26 : decode cX4_agree 26 = .ok (.aload_n 0, 1) := dk_42 (dk_at dksX4_agree_1 3 rfl rfl)
theorem dX4_agree_27 : decode cX4_agree 27 = .ok (.aload_n 0, 1) := dk_42 (dk_at dksX4_agree_1 4 rfl rfl)
theorem dX4_agree_28 : decode cX4_agree 28 = .ok (.getfield 87, 3) := dk_180 0 87 (dk_at dksX4_agree_1 5 rfl rfl)
theorem dX4_agree_31 : decode cX4_agree 31 = .ok (.iload_n 1, 1) := dk_27 (dk_at dksX4_agree_1 8 rfl rfl)
theorem dX4_agree_32 : decode cX4_agree 32 = .ok (.iaload, 1) := dk_46 (dk_at dksX4_agree_1 9 rfl rfl)
theorem dX4_agree_33 : decode cX4_agree 33 = .ok (.iload_n 3, 1) := dk_29 (dk_at dksX4_agree_1 10 rfl rfl)
theorem dX4_agree_34 : decode cX4_agree 34 = .ok (.invokevirtual 374, 3) := dk_182 1 118 (dk_at dksX4_agree_1 11 rfl rfl)
theorem dX4_agree_37 : decode cX4_agree 37 = .ok (.istore 5, 2) := dk_54 5 (dk_at dksX4_agree_1 14 rfl rfl)
theorem dX4_agree_39 : decode cX4_agree 39 = .ok (.aload_n 0, 1) := dk_42 (dk_at dksX4_agree_1 16 rfl rfl)
theorem dX4_agree_40 : decode cX4_agree 40 = .ok (.aload_n 0, 1) := dk_42 (dk_at dksX4_agree_1 17 rfl rfl)
theorem dX4_agree_41 : decode cX4_agree 41 = .ok (.getfield 87, 3) := dk_180 0 87 (dk_at dksX4_agree_1 18 rfl rfl)
theorem dX4_agree_44 : decode cX4_agree 44 = .ok (.iload_n 2, 1) := dk_28 (dk_at dksX4_agree_1 21 rfl rfl)
theorem dX4_agree_45 : decode cX4_agree 45 = .ok (.iaload, 1) := dk_46 (dk_at dksX4_agree_1 22 rfl rfl)
theorem dX4_agree_46 : decode cX4_agree 46 = .ok (.iload 4, 2) := dk_21 4 (dk_at dksX4_agree_2 0 rfl rfl)
theorem dX4_agree_48 : decode cX4_agree 48 = .ok (.invokevirtual 374, 3) := dk_182 1 118 (dk_at dksX4_agree_2 2 rfl rfl)
theorem dX4_agree_51 : decode cX4_agree 51 = .ok (.istore 6, 2) := dk_54 6 (dk_at dksX4_agree_2 5 rfl rfl)
theorem dX4_agree_53 : decode cX4_agree 53 = .ok (.aload_n 0, 1) := dk_42 (dk_at dksX4_agree_2 7 rfl rfl)
theorem dX4_agree_54 : decode cX4_agree 54 = .ok (.getfield 32, 3) := dk_180 0 32 (dk_at dksX4_agree_2 8 rfl rfl)
theorem dX4_agree_57 : decode cX4_agree 57 = .ok (.bipush 7, 2) := dk_16 7 (dk_at dksX4_agree_2 11 rfl rfl)
theorem dX4_agree_59 : decode cX4_agree 59 = .ok (.iload_n 1, 1) := dk_27 (dk_at dksX4_agree_2 13 rfl rfl)
theorem dX4_agree_60 : decode cX4_agree 60 = .ok (.imul, 1) := dk_104 (dk_at dksX4_agree_2 14 rfl rfl)
theorem dX4_agree_61 : decode cX4_agree 61 = .ok (.iload_n 3, 1) := dk_29 (dk_at dksX4_agree_2 15 rfl rfl)
theorem dX4_agree_62 : decode cX4_agree 62 = .ok (.iadd, 1) := dk_96 (dk_at dksX4_agree_2 16 rfl rfl)
theorem dX4_agree_63 : decode cX4_agree 63 = .ok (.iaload, 1) := dk_46 (dk_at dksX4_agree_2 17 rfl rfl)
theorem dX4_agree_64 : decode cX4_agree 64 = .ok (.istore 7, 2) := dk_54 7 (dk_at dksX4_agree_2 18 rfl rfl)
theorem dX4_agree_66 : decode cX4_agree 66 = .ok (.aload_n 0, 1) := dk_42 (dk_at dksX4_agree_2 20 rfl rfl)
theorem dX4_agree_67 : decode cX4_agree 67 = .ok (.getfield 32, 3) := dk_180 0 32 (dk_at dksX4_agree_2 21 rfl rfl)
theorem dX4_agree_70 : decode cX4_agree 70 = .ok (.bipush 7, 2) := dk_16 7 (dk_at dksX4_agree_3 0 rfl rfl)
theorem dX4_agree_72 : decode cX4_agree 72 = .ok (.iload_n 2, 1) := dk_28 (dk_at dksX4_agree_3 2 rfl rfl)
theorem dX4_agree_73 : decode cX4_agree 73 = .ok (.imul, 1) := dk_104 (dk_at dksX4_agree_3 3 rfl rfl)
theorem dX4_agree_74 : decode cX4_agree 74 = .ok (.iload 4, 2) := dk_21 4 (dk_at dksX4_agree_3 4 rfl rfl)
theorem dX4_agree_76 : decode cX4_agree 76 = .ok (.iadd, 1) := dk_96 (dk_at dksX4_agree_3 6 rfl rfl)
theorem dX4_agree_77 : decode cX4_agree 77 = .ok (.iaload, 1) := dk_46 (dk_at dksX4_agree_3 7 rfl rfl)
theorem dX4_agree_78 : decode cX4_agree 78 = .ok (.istore 8, 2) := dk_54 8 (dk_at dksX4_agree_3 8 rfl rfl)
theorem dX4_agree_80 : decode cX4_agree 80 = .ok (.iload 5, 2) := dk_21 5 (dk_at dksX4_agree_3 10 rfl rfl)
theorem dX4_agree_82 : decode cX4_agree 82 = .ok (.iload 6, 2) := dk_21 6 (dk_at dksX4_agree_3 12 rfl rfl)
theorem dX4_agree_84 : decode cX4_agree 84 = .ok (.if_icmp .ne 7, 3) := dk_160 0 7 (dk_at dksX4_agree_3 14 rfl rfl)
theorem dX4_agree_87 : decode cX4_agree 87 = .ok (.iconst 1, 1) := dk_4 (dk_at dksX4_agree_3 17 rfl rfl)
theorem dX4_agree_88 : decode cX4_agree 88 = .ok (.goto 4, 3) := dk_167 0 4 (dk_at dksX4_agree_3 18 rfl rfl)
theorem dX4_agree_91 : decode cX4_agree 91 = .ok (.iconst 0, 1) := dk_3 (dk_at dksX4_agree_3 21 rfl rfl)
theorem dX4_agree_92 : decode cX4_agree 92 = .ok (.iload 7, 2) := dk_21 7 (dk_at dksX4_agree_3 22 rfl rfl)
theorem dX4_agree_94 : decode cX4_agree 94 = .ok (.iload 8, 2) := dk_21 8 (dk_at dksX4_agree_4 0 rfl rfl)
theorem dX4_agree_96 : decode cX4_agree 96 = .ok (.if_icmp .ne 7, 3) := dk_160 0 7 (dk_at dksX4_agree_4 2 rfl rfl)
theorem dX4_agree_99 : decode cX4_agree 99 = .ok (.iconst 1, 1) := dk_4 (dk_at dksX4_agree_4 5 rfl rfl)
theorem dX4_agree_100 : decode cX4_agree 100 = .ok (.goto 4, 3) := dk_167 0 4 (dk_at dksX4_agree_4 6 rfl rfl)
theorem dX4_agree_103 : decode cX4_agree 103 = .ok (.iconst 0, 1) := dk_3 (dk_at dksX4_agree_4 9 rfl rfl)
theorem dX4_agree_104 : decode cX4_agree 104 = .ok (.if_icmp .ne 65, 3) := dk_160 0 65 (dk_at dksX4_agree_4 10 rfl rfl)
theorem dX4_agree_107 : decode cX4_agree 107 = .ok (.aload_n 0, 1) := dk_42 (dk_at dksX4_agree_4 13 rfl rfl)
theorem dX4_agree_108 : decode cX4_agree 108 = .ok (.getfield 78, 3) := dk_180 0 78 (dk_at dksX4_agree_4 14 rfl rfl)
theorem dX4_agree_111 : decode cX4_agree 111 = .ok (.iload 5, 2) := dk_21 5 (dk_at dksX4_agree_4 17 rfl rfl)
theorem dX4_agree_113 : decode cX4_agree 113 = .ok (.iaload, 1) := dk_46 (dk_at dksX4_agree_4 19 rfl rfl)
theorem dX4_agree_114 : decode cX4_agree 114 = .ok (.aload_n 0, 1) := dk_42 (dk_at dksX4_agree_4 20 rfl rfl)
theorem dX4_agree_115 : decode cX4_agree 115 = .ok (.getfield 78, 3) := dk_180 0 78 (dk_at dksX4_agree_4 21 rfl rfl)
theorem dX4_agree_118 : decode cX4_agree 118 = .ok (.iload 6, 2) := dk_21 6 (dk_at dksX4_agree_5 0 rfl rfl)
theorem dX4_agree_120 : decode cX4_agree 120 = .ok (.iaload, 1) := dk_46 (dk_at dksX4_agree_5 2 rfl rfl)
theorem dX4_agree_121 : decode cX4_agree 121 = .ok (.if_icmp .ne 14, 3) := dk_160 0 14 (dk_at dksX4_agree_5 3 rfl rfl)
theorem dX4_agree_124 : decode cX4_agree 124 = .ok (.iload 7, 2) := dk_21 7 (dk_at dksX4_agree_5 6 rfl rfl)
theorem dX4_agree_126 : decode cX4_agree 126 = .ok (.iconst 5, 1) := dk_8 (dk_at dksX4_agree_5 8 rfl rfl)
theorem dX4_agree_127 : decode cX4_agree 127 = .ok (.idiv, 1) := dk_108 (dk_at dksX4_agree_5 9 rfl rfl)
theorem dX4_agree_128 : decode cX4_agree 128 = .ok (.iload 8, 2) := dk_21 8 (dk_at dksX4_agree_5 10 rfl rfl)
theorem dX4_agree_130 : decode cX4_agree 130 = .ok (.iconst 5, 1) := dk_8 (dk_at dksX4_agree_5 12 rfl rfl)
theorem dX4_agree_131 : decode cX4_agree 131 = .ok (.idiv, 1) := dk_108 (dk_at dksX4_agree_5 13 rfl rfl)
theorem dX4_agree_132 : decode cX4_agree 132 = .ok (.if_icmp .ne 37, 3) := dk_160 0 37 (dk_at dksX4_agree_5 14 rfl rfl)
theorem dX4_agree_135 : decode cX4_agree 135 = .ok (.aload_n 0, 1) := dk_42 (dk_at dksX4_agree_5 17 rfl rfl)
theorem dX4_agree_136 : decode cX4_agree 136 = .ok (.getfield 78, 3) := dk_180 0 78 (dk_at dksX4_agree_5 18 rfl rfl)
theorem dX4_agree_139 : decode cX4_agree 139 = .ok (.bipush 20, 2) := dk_16 20 (dk_at dksX4_agree_5 21 rfl rfl)
theorem dX4_agree_141 : decode cX4_agree 141 = .ok (.iload 5, 2) := dk_21 5 (dk_at dksX4_agree_6 0 rfl rfl)
theorem dX4_agree_143 : decode cX4_agree 143 = .ok (.iadd, 1) := dk_96 (dk_at dksX4_agree_6 2 rfl rfl)
theorem dX4_agree_144 : decode cX4_agree 144 = .ok (.iaload, 1) := dk_46 (dk_at dksX4_agree_6 3 rfl rfl)
theorem dX4_agree_145 : decode cX4_agree 145 = .ok (.aload_n 0, 1) := dk_42 (dk_at dksX4_agree_6 4 rfl rfl)
theorem dX4_agree_146 : decode cX4_agree 146 = .ok (.getfield 78, 3) := dk_180 0 78 (dk_at dksX4_agree_6 5 rfl rfl)
theorem dX4_agree_149 : decode cX4_agree 149 = .ok (.bipush 20, 2) := dk_16 20 (dk_at dksX4_agree_6 8 rfl rfl)
theorem dX4_agree_151 : decode cX4_agree 151 = .ok (.iload 6, 2) := dk_21 6 (dk_at dksX4_agree_6 10 rfl rfl)
theorem dX4_agree_153 : decode cX4_agree 153 = .ok (.iadd, 1) := dk_96 (dk_at dksX4_agree_6 12 rfl rfl)
theorem dX4_agree_154 : decode cX4_agree 154 = .ok (.iaload, 1) := dk_46 (dk_at dksX4_agree_6 13 rfl rfl)
theorem dX4_agree_155 : decode cX4_agree 155 = .ok (.if_icmp .ne 16, 3) := dk_160 0 16 (dk_at dksX4_agree_6 14 rfl rfl)
theorem dX4_agree_158 : decode cX4_agree 158 = .ok (.iload 7, 2) := dk_21 7 (dk_at dksX4_agree_6 17 rfl rfl)
theorem dX4_agree_160 : decode cX4_agree 160 = .ok (.iconst 5, 1) := dk_8 (dk_at dksX4_agree_6 19 rfl rfl)
theorem dX4_agree_161 : decode cX4_agree 161 = .ok (.irem, 1) := dk_112 (dk_at dksX4_agree_6 20 rfl rfl)
theorem dX4_agree_162 : decode cX4_agree 162 = .ok (.iload 8, 2) := dk_21 8 (dk_at dksX4_agree_6 21 rfl rfl)
theorem dX4_agree_164 : decode cX4_agree 164 = .ok (.iconst 5, 1) := dk_8 (dk_at dksX4_agree_6 23 rfl rfl)
theorem dX4_agree_165 : decode cX4_agree 165 = .ok (.irem, 1) := dk_112 (dk_at dksX4_agree_7 0 rfl rfl)
theorem dX4_agree_166 : decode cX4_agree 166 = .ok (.if_icmp .eq 5, 3) := dk_159 0 5 (dk_at dksX4_agree_7 1 rfl rfl)
theorem dX4_agree_169 : decode cX4_agree 169 = .ok (.iconst 0, 1) := dk_3 (dk_at dksX4_agree_7 4 rfl rfl)
theorem dX4_agree_170 : decode cX4_agree 170 = .ok (.ireturn, 1) := dk_172 (dk_at dksX4_agree_7 5 rfl rfl)
theorem dX4_agree_171 : decode cX4_agree 171 = .ok (.iinc 4 1, 3) := dk_132 4 1 (dk_at dksX4_agree_7 6 rfl rfl)
theorem dX4_agree_174 : decode cX4_agree 174 = .ok (.goto (-159), 3) := dk_167 255 97 (dk_at dksX4_agree_7 9 rfl rfl)
theorem dX4_agree_177 : decode cX4_agree 177 = .ok (.iinc 3 1, 3) := dk_132 3 1 (dk_at dksX4_agree_7 12 rfl rfl)
theorem dX4_agree_180 : decode cX4_agree 180 = .ok (.goto (-178), 3) := dk_167 255 78 (dk_at dksX4_agree_7 15 rfl rfl)
theorem dX4_agree_183 : decode cX4_agree 183 = .ok (.iconst 1, 1) := dk_4 (dk_at dksX4_agree_7 18 rfl rfl)
theorem dX4_agree_184 : decode cX4_agree 184 = .ok (.ireturn, 1) := dk_172 (dk_at dksX4_agree_7 19 rfl rfl)
def dkwX4_takesWay_1 : List UInt8 := [180, 0, 87, 27, 46, 79, 132, 1, 1, 167, 255, 226, 42, 89, 180, 1, 130, 4, 96, 181, 1, 130, 177]
abbrev dktX4_takesWay_1 : List UInt8 := dkwX4_takesWay_1 ++ []
def dkwX4_takesWay_0 : List UInt8 := [3, 60, 27, 42, 180, 0, 203, 162, 0, 28, 42, 180, 1, 130, 154, 0, 21, 42, 180, 0, 90, 27, 42]
abbrev dktX4_takesWay_0 : List UInt8 := dkwX4_takesWay_0 ++ dktX4_takesWay_1
theorem dksX4_takesWay_0 : cX4_takesWay.data.toList.drop 0 = dktX4_takesWay_0 := by decide +kernel
theorem dksX4_takesWay_1 : cX4_takesWay.data.toList.drop 23 = dktX4_takesWay_1 := dk_seg dksX4_takesWay_0 23 rfl rfl
theorem dX4_takesWay_0 : decode cX4_takesWay 0 = .ok (.iconst 0, 1) := dk_3 (dk_at dksX4_takesWay_0 0 rfl rfl)
theorem dX4_takesWay_1 : decode cX4_takesWay 1 = .ok (.istore_n 1, 1) := dk_60 (dk_at dksX4_takesWay_0 1 rfl rfl)
theorem dX4_takesWay_2 : decode cX4_takesWay 2 = .ok (.iload_n 1, 1) := dk_27 (dk_at dksX4_takesWay_0 2 rfl rfl)
theorem dX4_takesWay_3 : decode cX4_takesWay 3 = .ok (.aload_n 0, 1) := dk_42 (dk_at dksX4_takesWay_0 3 rfl rfl)
theorem dX4_takesWay_4 : decode cX4_takesWay 4 = .ok (.getfield 203, 3) := dk_180 0 203 (dk_at dksX4_takesWay_0 4 rfl rfl)
theorem dX4_takesWay_7 : decode cX4_takesWay 7 = .ok (.if_icmp .ge 28, 3) := dk_162 0 28 (dk_at dksX4_takesWay_0 7 rfl rfl)
theorem dX4_takesWay_10 : decode cX4_takesWay 10 = .ok (.aload_n 0, 1) := dk_42 (dk_at dksX4_takesWay_0 10 rfl rfl)
theorem dX4_takesWay_11 : decode cX4_takesWay 11 = .ok (.getfield 386, 3) := dk_180 1 130 (dk_at dksX4_takesWay_0 11 rfl rfl)
theorem dX4_takesWay_14 : decode cX4_takesWay 14 = .ok (.ifCond .ne 21, 3) := dk_154 0 21 (dk_at dksX4_takesWay_0 14 rfl rfl)
theorem dX4_takesWay_17 : decode cX4_takesWay 17 = .ok (.aload_n 0, 1) := dk_42 (dk_at dksX4_takesWay_0 17 rfl rfl)
theorem dX4_takesWay_18 : decode cX4_takesWay 18 = .ok (.getfield 90, 3) := dk_180 0 90 (dk_at dksX4_takesWay_0 18 rfl rfl)
theorem dX4_takesWay_21 : decode cX4_takesWay 21 = .ok (.iload_n 1, 1) := dk_27 (dk_at dksX4_takesWay_0 21 rfl rfl)
theorem dX4_takesWay_22 : decode cX4_takesWay 22 = .ok (.aload_n 0, 1) := dk_42 (dk_at dksX4_takesWay_0 22 rfl rfl)
theorem dX4_takesWay_23 : decode cX4_takesWay 23 = .ok (.getfield 87, 3) := dk_180 0 87 (dk_at dksX4_takesWay_1 0 rfl rfl)
theorem dX4_takesWay_26 : decode cX4_takesWay 26 = .ok (.iload_n 1, 1) := dk_27 (dk_at dksX4_takesWay_1 3 rfl rfl)
theorem dX4_takesWay_27 : decode cX4_takesWay 27 = .ok (.iaload, 1) := dk_46 (dk_at dksX4_takesWay_1 4 rfl rfl)
theorem dX4_takesWay_28 : decode cX4_takesWay 28 = .ok (.iastore, 1) := dk_79 (dk_at dksX4_takesWay_1 5 rfl rfl)
theorem dX4_takesWay_29 : decode cX4_takesWay 29 = .ok (.iinc 1 1, 3) := dk_132 1 1 (dk_at dksX4_takesWay_1 6 rfl rfl)
theorem dX4_takesWay_32 : decode cX4_takesWay 32 = .ok (.goto (-30), 3) := dk_167 255 226 (dk_at dksX4_takesWay_1 9 rfl rfl)
theorem dX4_takesWay_35 : decode cX4_takesWay 35 = .ok (.aload_n 0, 1) := dk_42 (dk_at dksX4_takesWay_1 12 rfl rfl)
theorem dX4_takesWay_36 : decode cX4_takesWay 36 = .ok (.dup, 1) := dk_89 (dk_at dksX4_takesWay_1 13 rfl rfl)
theorem dX4_takesWay_37 : decode cX4_takesWay 37 = .ok (.getfield 386, 3) := dk_180 1 130 (dk_at dksX4_takesWay_1 14 rfl rfl)
theorem dX4_takesWay_40 : decode cX4_takesWay 40 = .ok (.iconst 1, 1) := dk_4 (dk_at dksX4_takesWay_1 17 rfl rfl)
theorem dX4_takesWay_41 : decode cX4_takesWay 41 = .ok (.iadd, 1) := dk_96 (dk_at dksX4_takesWay_1 18 rfl rfl)
theorem dX4_takesWay_42 : decode cX4_takesWay 42 = .ok (.putfield 386, 3) := dk_181 1 130 (dk_at dksX4_takesWay_1 19 rfl rfl)
theorem dX4_takesWay_45 : decode cX4_takesWay 45 = .ok (.return_, 1) := dk_177 (dk_at dksX4_takesWay_1 22 rfl rfl)
def dkwX4_draws_0 : List UInt8 := [27, 156, 0, 5, 2, 172, 42, 180, 1, 142, 61, 42, 27, 181, 1, 142, 28, 172]
abbrev dktX4_draws_0 : List UInt8 := dkwX4_draws_0 ++ []
theorem dksX4_draws_0 : cX4_draws.data.toList.drop 0 = dktX4_draws_0 := by decide +kernel
theorem dX4_draws_0 : decode cX4_draws 0 = .ok (.iload_n 1, 1) := dk_27 (dk_at dksX4_draws_0 0 rfl rfl)
theorem dX4_draws_1 : decode cX4_draws 1 = .ok (.ifCond .ge 5, 3) := dk_156 0 5 (dk_at dksX4_draws_0 1 rfl rfl)
theorem dX4_draws_4 : decode cX4_draws 4 = .ok (.iconst (-1), 1) := dk_2 (dk_at dksX4_draws_0 4 rfl rfl)
theorem dX4_draws_5 : decode cX4_draws 5 = .ok (.ireturn, 1) := dk_172 (dk_at dksX4_draws_0 5 rfl rfl)
theorem dX4_draws_6 : decode cX4_draws 6 = .ok (.aload_n 0, 1) := dk_42 (dk_at dksX4_draws_0 6 rfl rfl)
theorem dX4_draws_7 : decode cX4_draws 7 = .ok (.getfield 398, 3) := dk_180 1 142 (dk_at dksX4_draws_0 7 rfl rfl)
theorem dX4_draws_10 : decode cX4_draws 10 = .ok (.istore_n 2, 1) := dk_61 (dk_at dksX4_draws_0 10 rfl rfl)
theorem dX4_draws_11 : decode cX4_draws 11 = .ok (.aload_n 0, 1) := dk_42 (dk_at dksX4_draws_0 11 rfl rfl)
theorem dX4_draws_12 : decode cX4_draws 12 = .ok (.iload_n 1, 1) := dk_27 (dk_at dksX4_draws_0 12 rfl rfl)
theorem dX4_draws_13 : decode cX4_draws 13 = .ok (.putfield 398, 3) := dk_181 1 142 (dk_at dksX4_draws_0 13 rfl rfl)
theorem dX4_draws_16 : decode cX4_draws 16 = .ok (.iload_n 2, 1) := dk_28 (dk_at dksX4_draws_0 16 rfl rfl)
theorem dX4_draws_17 : decode cX4_draws 17 = .ok (.ireturn, 1) := dk_172 (dk_at dksX4_draws_0 17 rfl rfl)
def dkwX4_test_3 : List UInt8 := [132, 6, 1, 167, 255, 221, 42, 21, 4, 181, 1, 142, 42, 182, 1, 161, 21, 5, 172]
abbrev dktX4_test_3 : List UInt8 := dkwX4_test_3 ++ []
def dkwX4_test_2 : List UInt8 := [182, 1, 158, 21, 5, 42, 182, 1, 124, 28, 161, 0, 7, 4, 167, 0, 4, 3, 184, 0, 177, 96, 54, 5]
abbrev dktX4_test_2 : List UInt8 := dkwX4_test_2 ++ dktX4_test_3
def dkwX4_test_1 : List UInt8 := [182, 1, 155, 62, 42, 180, 1, 142, 54, 4, 3, 54, 5, 3, 54, 6, 21, 6, 27, 162, 0, 35, 42, 29]
abbrev dktX4_test_1 : List UInt8 := dkwX4_test_1 ++ dktX4_test_2
def dkwX4_test_0 : List UInt8 := [27, 4, 16, 50, 184, 0, 123, 154, 0, 5, 2, 172, 42, 182, 0, 235, 42, 182, 1, 124, 61, 42]
abbrev dktX4_test_0 : List UInt8 := dkwX4_test_0 ++ dktX4_test_1
theorem dksX4_test_0 : cX4_test.data.toList.drop 0 = dktX4_test_0 := by decide +kernel
theorem dksX4_test_1 : cX4_test.data.toList.drop 22 = dktX4_test_1 := dk_seg dksX4_test_0 22 rfl rfl
theorem dksX4_test_2 : cX4_test.data.toList.drop 46 = dktX4_test_2 := dk_seg dksX4_test_1 24 rfl rfl
theorem dksX4_test_3 : cX4_test.data.toList.drop 70 = dktX4_test_3 := dk_seg dksX4_test_2 24 rfl rfl
theorem dX4_test_0 : decode cX4_test 0 = .ok (.iload_n 1, 1) := dk_27 (dk_at dksX4_test_0 0 rfl rfl)
theorem dX4_test_1 : decode cX4_test 1 = .ok (.iconst 1, 1) := dk_4 (dk_at dksX4_test_0 1 rfl rfl)
theorem dX4_test_2 : decode cX4_test 2 = .ok (.bipush 50, 2) := dk_16 50 (dk_at dksX4_test_0 2 rfl rfl)
theorem dX4_test_4 : decode cX4_test 4 = .ok (.invokestatic 123, 3) := dk_184 0 123 (dk_at dksX4_test_0 4 rfl rfl)
theorem dX4_test_7 : decode cX4_test 7 = .ok (.ifCond .ne 5, 3) := dk_154 0 5 (dk_at dksX4_test_0 7 rfl rfl)
theorem dX4_test_10 : decode cX4_test 10 = .ok (.iconst (-1), 1) := dk_2 (dk_at dksX4_test_0 10 rfl rfl)
theorem dX4_test_11 : decode cX4_test 11 = .ok (.ireturn, 1) := dk_172 (dk_at dksX4_test_0 11 rfl rfl)
theorem dX4_test_12 : decode cX4_test 12 = .ok (.aload_n 0, 1) := dk_42 (dk_at dksX4_test_0 12 rfl rfl)
theorem dX4_test_13 : decode cX4_test 13 = .ok (.invokevirtual 235, 3) := dk_182 0 235 (dk_at dksX4_test_0 13 rfl rfl)
theorem dX4_test_16 : decode cX4_test 16 = .ok (.aload_n 0, 1) := dk_42 (dk_at dksX4_test_0 16 rfl rfl)
theorem dX4_test_17 : decode cX4_test 17 = .ok (.invokevirtual 380, 3) := dk_182 1 124 (dk_at dksX4_test_0 17 rfl rfl)
theorem dX4_test_20 : decode cX4_test 20 = .ok (.istore_n 2, 1) := dk_61 (dk_at dksX4_test_0 20 rfl rfl)
theorem dX4_test_21 : decode cX4_test 21 = .ok (.aload_n 0, 1) := dk_42 (dk_at dksX4_test_0 21 rfl rfl)
theorem dX4_test_22 : decode cX4_test 22 = .ok (.invokevirtual 411, 3) := dk_182 1 155 (dk_at dksX4_test_1 0 rfl rfl)
theorem dX4_test_25 : decode cX4_test 25 = .ok (.istore_n 3, 1) := dk_62 (dk_at dksX4_test_1 3 rfl rfl)
theorem dX4_test_26 : decode cX4_test 26 = .ok (.aload_n 0, 1) := dk_42 (dk_at dksX4_test_1 4 rfl rfl)
theorem dX4_test_27 : decode cX4_test 27 = .ok (.getfield 398, 3) := dk_180 1 142 (dk_at dksX4_test_1 5 rfl rfl)
theorem dX4_test_30 : decode cX4_test 30 = .ok (.istore 4, 2) := dk_54 4 (dk_at dksX4_test_1 8 rfl rfl)
theorem dX4_test_32 : decode cX4_test 32 = .ok (.iconst 0, 1) := dk_3 (dk_at dksX4_test_1 10 rfl rfl)
theorem dX4_test_33 : decode cX4_test 33 = .ok (.istore 5, 2) := dk_54 5 (dk_at dksX4_test_1 11 rfl rfl)
theorem dX4_test_35 : decode cX4_test 35 = .ok (.iconst 0, 1) := dk_3 (dk_at dksX4_test_1 13 rfl rfl)
theorem dX4_test_36 : decode cX4_test 36 = .ok (.istore 6, 2) := dk_54 6 (dk_at dksX4_test_1 14 rfl rfl)
theorem dX4_test_38 : decode cX4_test 38 = .ok (.iload 6, 2) := dk_21 6 (dk_at dksX4_test_1 16 rfl rfl)
theorem dX4_test_40 : decode cX4_test 40 = .ok (.iload_n 1, 1) := dk_27 (dk_at dksX4_test_1 18 rfl rfl)
theorem dX4_test_41 : decode cX4_test 41 = .ok (.if_icmp .ge 35, 3) := dk_162 0 35 (dk_at dksX4_test_1 19 rfl rfl)
theorem dX4_test_44 : decode cX4_test 44 = .ok (.aload_n 0, 1) := dk_42 (dk_at dksX4_test_1 22 rfl rfl)
theorem dX4_test_45 : decode cX4_test 45 = .ok (.iload_n 3, 1) := dk_29 (dk_at dksX4_test_1 23 rfl rfl)
theorem dX4_test_46 : decode cX4_test 46 = .ok (.invokevirtual 414, 3) := dk_182 1 158 (dk_at dksX4_test_2 0 rfl rfl)
theorem dX4_test_49 : decode cX4_test 49 = .ok (.iload 5, 2) := dk_21 5 (dk_at dksX4_test_2 3 rfl rfl)
theorem dX4_test_51 : decode cX4_test 51 = .ok (.aload_n 0, 1) := dk_42 (dk_at dksX4_test_2 5 rfl rfl)
theorem dX4_test_52 : decode cX4_test 52 = .ok (.invokevirtual 380, 3) := dk_182 1 124 (dk_at dksX4_test_2 6 rfl rfl)
theorem dX4_test_55 : decode cX4_test 55 = .ok (.iload_n 2, 1) := dk_28 (dk_at dksX4_test_2 9 rfl rfl)
theorem dX4_test_56 : decode cX4_test 56 = .ok (.if_icmp .lt 7, 3) := dk_161 0 7 (dk_at dksX4_test_2 10 rfl rfl)
theorem dX4_test_59 : decode cX4_test 59 = .ok (.iconst 1, 1) := dk_4 (dk_at dksX4_test_2 13 rfl rfl)
theorem dX4_test_60 : decode cX4_test 60 = .ok (.goto 4, 3) := dk_167 0 4 (dk_at dksX4_test_2 14 rfl rfl)
theorem dX4_test_63 : decode cX4_test 63 = .ok (.iconst 0, 1) := dk_3 (dk_at dksX4_test_2 17 rfl rfl)
theorem dX4_test_64 : decode cX4_test 64 = .ok (.invokestatic 177, 3) := dk_184 0 177 (dk_at dksX4_test_2 18 rfl rfl)
theorem dX4_test_67 : decode cX4_test 67 = .ok (.iadd, 1) := dk_96 (dk_at dksX4_test_2 21 rfl rfl)
theorem dX4_test_68 : decode cX4_test 68 = .ok (.istore 5, 2) := dk_54 5 (dk_at dksX4_test_2 22 rfl rfl)
theorem dX4_test_70 : decode cX4_test 70 = .ok (.iinc 6 1, 3) := dk_132 6 1 (dk_at dksX4_test_3 0 rfl rfl)
theorem dX4_test_73 : decode cX4_test 73 = .ok (.goto (-35), 3) := dk_167 255 221 (dk_at dksX4_test_3 3 rfl rfl)
theorem dX4_test_76 : decode cX4_test 76 = .ok (.aload_n 0, 1) := dk_42 (dk_at dksX4_test_3 6 rfl rfl)
theorem dX4_test_77 : decode cX4_test 77 = .ok (.iload 4, 2) := dk_21 4 (dk_at dksX4_test_3 7 rfl rfl)
theorem dX4_test_79 : decode cX4_test 79 = .ok (.putfield 398, 3) := dk_181 1 142 (dk_at dksX4_test_3 9 rfl rfl)
theorem dX4_test_82 : decode cX4_test 82 = .ok (.aload_n 0, 1) := dk_42 (dk_at dksX4_test_3 12 rfl rfl)
theorem dX4_test_83 : decode cX4_test 83 = .ok (.invokevirtual 417, 3) := dk_182 1 161 (dk_at dksX4_test_3 13 rfl rfl)
theorem dX4_test_86 : decode cX4_test 86 = .ok (.iload 5, 2) := dk_21 5 (dk_at dksX4_test_3 16 rfl rfl)
theorem dX4_test_88 : decode cX4_test 88 = .ok (.ireturn, 1) := dk_172 (dk_at dksX4_test_3 18 rfl rfl)
def dkwX4_laysWhole_2 : List UInt8 := [46, 104, 42, 180, 0, 84, 16, 20, 28, 96, 46, 96, 79, 132, 1, 1, 132, 2, 1, 167, 255, 195, 27, 172]
abbrev dktX4_laysWhole_2 : List UInt8 := dkwX4_laysWhole_2 ++ []
def dkwX4_laysWhole_1 : List UInt8 := [182, 1, 112, 153, 0, 37, 42, 180, 0, 93, 27, 28, 79, 42, 180, 0, 96, 27, 8, 42, 180, 0, 84, 28]
abbrev dktX4_laysWhole_1 : List UInt8 := dkwX4_laysWhole_1 ++ dktX4_laysWhole_2
def dkwX4_laysWhole_0 : List UInt8 := [3, 60, 3, 61, 28, 42, 180, 0, 162, 162, 0, 59, 42, 28, 182, 1, 100, 153, 0, 45, 42, 28]
abbrev dktX4_laysWhole_0 : List UInt8 := dkwX4_laysWhole_0 ++ dktX4_laysWhole_1
theorem dksX4_laysWhole_0 : cX4_laysWhole.data.toList.drop 0 = dktX4_laysWhole_0 := by decide +kernel
theorem dksX4_laysWhole_1 : cX4_laysWhole.data.toList.drop 22 = dktX4_laysWhole_1 := dk_seg dksX4_laysWhole_0 22 rfl rfl
theorem dksX4_laysWhole_2 : cX4_laysWhole.data.toList.drop 46 = dktX4_laysWhole_2 := dk_seg dksX4_laysWhole_1 24 rfl rfl
theorem dX4_laysWhole_0 : decode cX4_laysWhole 0 = .ok (.iconst 0, 1) := dk_3 (dk_at dksX4_laysWhole_0 0 rfl rfl)
theorem dX4_laysWhole_1 : decode cX4_laysWhole 1 = .ok (.istore_n 1, 1) := dk_60 (dk_at dksX4_laysWhole_0 1 rfl rfl)
theorem dX4_laysWhole_2 : decode cX4_laysWhole 2 = .ok (.iconst 0, 1) := dk_3 (dk_at dksX4_laysWhole_0 2 rfl rfl)
theorem dX4_laysWhole_3 : decode cX4_laysWhole 3 = .ok (.istore_n 2, 1) := dk_61 (dk_at dksX4_laysWhole_0 3 rfl rfl)
theorem dX4_laysWhole_4 : decode cX4_laysWhole 4 = .ok (.iload_n 2, 1) := dk_28 (dk_at dksX4_laysWhole_0 4 rfl rfl)
theorem dX4_laysWhole_5 : decode cX4_laysWhole 5 = .ok (.aload_n 0, 1) := dk_42 (dk_at dksX4_laysWhole_0 5 rfl rfl)
theorem dX4_laysWhole_6 : decode cX4_laysWhole 6 = .ok (.getfield 162, 3) := dk_180 0 162 (dk_at dksX4_laysWhole_0 6 rfl rfl)
theorem dX4_laysWhole_9 : decode cX4_laysWhole 9 = .ok (.if_icmp .ge 59, 3) := dk_162 0 59 (dk_at dksX4_laysWhole_0 9 rfl rfl)
theorem dX4_laysWhole_12 : decode cX4_laysWhole 12 = .ok (.aload_n 0, 1) := dk_42 (dk_at dksX4_laysWhole_0 12 rfl rfl)
theorem dX4_laysWhole_13 : decode cX4_laysWhole 13 = .ok (.iload_n 2, 1) := dk_28 (dk_at dksX4_laysWhole_0 13 rfl rfl)
theorem dX4_laysWhole_14 : decode cX4_laysWhole 14 = .ok (.invokevirtual 356, 3) := dk_182 1 100 (dk_at dksX4_laysWhole_0 14 rfl rfl)
theorem dX4_laysWhole_17 : decode cX4_laysWhole 17 = .ok (.ifCond .eq 45, 3) := dk_153 0 45 (dk_at dksX4_laysWhole_0 17 rfl rfl)
theorem dX4_laysWhole_20 : decode cX4_laysWhole 20 = .ok (.aload_n 0, 1) := dk_42 (dk_at dksX4_laysWhole_0 20 rfl rfl)
theorem dX4_laysWhole_21 : decode cX4_laysWhole 21 = .ok (.iload_n 2, 1) := dk_28 (dk_at dksX4_laysWhole_0 21 rfl rfl)
theorem dX4_laysWhole_22 : decode cX4_laysWhole 22 = .ok (.invokevirtual 368, 3) := dk_182 1 112 (dk_at dksX4_laysWhole_1 0 rfl rfl)
theorem dX4_laysWhole_25 : decode cX4_laysWhole 25 = .ok (.ifCond .eq 37, 3) := dk_153 0 37 (dk_at dksX4_laysWhole_1 3 rfl rfl)
theorem dX4_laysWhole_28 : decode cX4_laysWhole 28 = .ok (.aload_n 0, 1) := dk_42 (dk_at dksX4_laysWhole_1 6 rfl rfl)
theorem dX4_laysWhole_29 : decode cX4_laysWhole 29 = .ok (.getfield 93, 3) := dk_180 0 93 (dk_at dksX4_laysWhole_1 7 rfl rfl)
theorem dX4_laysWhole_32 : decode cX4_laysWhole 32 = .ok (.iload_n 1, 1) := dk_27 (dk_at dksX4_laysWhole_1 10 rfl rfl)
theorem dX4_laysWhole_33 : decode cX4_laysWhole 33 = .ok (.iload_n 2, 1) := dk_28 (dk_at dksX4_laysWhole_1 11 rfl rfl)
theorem dX4_laysWhole_34 : decode cX4_laysWhole 34 = .ok (.iastore, 1) := dk_79 (dk_at dksX4_laysWhole_1 12 rfl rfl)
theorem dX4_laysWhole_35 : decode cX4_laysWhole 35 = .ok (.aload_n 0, 1) := dk_42 (dk_at dksX4_laysWhole_1 13 rfl rfl)
theorem dX4_laysWhole_36 : decode cX4_laysWhole 36 = .ok (.getfield 96, 3) := dk_180 0 96 (dk_at dksX4_laysWhole_1 14 rfl rfl)
theorem dX4_laysWhole_39 : decode cX4_laysWhole 39 = .ok (.iload_n 1, 1) := dk_27 (dk_at dksX4_laysWhole_1 17 rfl rfl)
theorem dX4_laysWhole_40 : decode cX4_laysWhole 40 = .ok (.iconst 5, 1) := dk_8 (dk_at dksX4_laysWhole_1 18 rfl rfl)
theorem dX4_laysWhole_41 : decode cX4_laysWhole 41 = .ok (.aload_n 0, 1) := dk_42 (dk_at dksX4_laysWhole_1 19 rfl rfl)
theorem dX4_laysWhole_42 : decode cX4_laysWhole 42 = .ok (.getfield 84, 3) := dk_180 0 84 (dk_at dksX4_laysWhole_1 20 rfl rfl)
theorem dX4_laysWhole_45 : decode cX4_laysWhole 45 = .ok (.iload_n 2, 1) := dk_28 (dk_at dksX4_laysWhole_1 23 rfl rfl)
theorem dX4_laysWhole_46 : decode cX4_laysWhole 46 = .ok (.iaload, 1) := dk_46 (dk_at dksX4_laysWhole_2 0 rfl rfl)
theorem dX4_laysWhole_47 : decode cX4_laysWhole 47 = .ok (.imul, 1) := dk_104 (dk_at dksX4_laysWhole_2 1 rfl rfl)
theorem dX4_laysWhole_48 : decode cX4_laysWhole 48 = .ok (.aload_n 0, 1) := dk_42 (dk_at dksX4_laysWhole_2 2 rfl rfl)
theorem dX4_laysWhole_49 : decode cX4_laysWhole 49 = .ok (.getfield 84, 3) := dk_180 0 84 (dk_at dksX4_laysWhole_2 3 rfl rfl)
theorem dX4_laysWhole_52 : decode cX4_laysWhole 52 = .ok (.bipush 20, 2) := dk_16 20 (dk_at dksX4_laysWhole_2 6 rfl rfl)
theorem dX4_laysWhole_54 : decode cX4_laysWhole 54 = .ok (.iload_n 2, 1) := dk_28 (dk_at dksX4_laysWhole_2 8 rfl rfl)
theorem dX4_laysWhole_55 : decode cX4_laysWhole 55 = .ok (.iadd, 1) := dk_96 (dk_at dksX4_laysWhole_2 9 rfl rfl)
theorem dX4_laysWhole_56 : decode cX4_laysWhole 56 = .ok (.iaload, 1) := dk_46 (dk_at dksX4_laysWhole_2 10 rfl rfl)
theorem dX4_laysWhole_57 : decode cX4_laysWhole 57 = .ok (.iadd, 1) := dk_96 (dk_at dksX4_laysWhole_2 11 rfl rfl)
theorem dX4_laysWhole_58 : decode cX4_laysWhole 58 = .ok (.iastore, 1) := dk_79 (dk_at dksX4_laysWhole_2 12 rfl rfl)
theorem dX4_laysWhole_59 : decode cX4_laysWhole 59 = .ok (.iinc 1 1, 3) := dk_132 1 1 (dk_at dksX4_laysWhole_2 13 rfl rfl)
theorem dX4_laysWhole_62 : decode cX4_laysWhole 62 = .ok (.iinc 2 1, 3) := dk_132 2 1 (dk_at dksX4_laysWhole_2 16 rfl rfl)
theorem dX4_laysWhole_65 : decode cX4_laysWhole 65 = .ok (.goto (-61), 3) := dk_167 255 195 (dk_at dksX4_laysWhole_2 19 rfl rfl)
theorem dX4_laysWhole_68 : decode cX4_laysWhole 68 = .ok (.iload_n 1, 1) := dk_27 (dk_at dksX4_laysWhole_2 22 rfl rfl)
theorem dX4_laysWhole_69 : decode cX4_laysWhole 69 = .ok (.ireturn, 1) := dk_172 (dk_at dksX4_laysWhole_2 23 rfl rfl)
def dkwX4_mixes_6 : List UInt8 := [8, 112, 79, 132, 2, 1, 167, 255, 207, 177]
abbrev dktX4_mixes_6 : List UInt8 := dkwX4_mixes_6 ++ []
def dkwX4_mixes_5 : List UInt8 := [28, 46, 8, 108, 79, 42, 180, 0, 84, 16, 20, 42, 180, 0, 93, 28, 46, 96, 42, 180, 0, 99, 28, 46]
abbrev dktX4_mixes_5 : List UInt8 := dkwX4_mixes_5 ++ dktX4_mixes_6
def dkwX4_mixes_4 : List UInt8 := [167, 255, 240, 3, 61, 28, 27, 162, 0, 50, 42, 180, 0, 84, 42, 180, 0, 93, 28, 46, 42, 180, 0, 99]
abbrev dktX4_mixes_4 : List UInt8 := dkwX4_mixes_4 ++ dktX4_mixes_5
def dkwX4_mixes_3 : List UInt8 := [132, 2, 255, 167, 255, 213, 3, 61, 28, 16, 40, 162, 0, 16, 42, 180, 0, 84, 28, 2, 79, 132, 2, 1]
abbrev dktX4_mixes_3 : List UInt8 := dkwX4_mixes_3 ++ dktX4_mixes_4
def dkwX4_mixes_2 : List UInt8 := [46, 54, 4, 42, 180, 0, 99, 28, 42, 180, 0, 99, 29, 46, 79, 42, 180, 0, 99, 29, 21, 4, 79]
abbrev dktX4_mixes_2 : List UInt8 := dkwX4_mixes_2 ++ dktX4_mixes_3
def dkwX4_mixes_1 : List UInt8 := [167, 255, 236, 27, 4, 100, 61, 28, 158, 0, 45, 42, 28, 4, 96, 182, 1, 152, 62, 42, 180, 0, 99, 28]
abbrev dktX4_mixes_1 : List UInt8 := dkwX4_mixes_1 ++ dktX4_mixes_2
def dkwX4_mixes_0 : List UInt8 := [3, 61, 28, 27, 162, 0, 21, 42, 180, 0, 99, 28, 42, 180, 0, 96, 28, 46, 79, 132, 2, 1]
abbrev dktX4_mixes_0 : List UInt8 := dkwX4_mixes_0 ++ dktX4_mixes_1
theorem dksX4_mixes_0 : cX4_mixes.data.toList.drop 0 = dktX4_mixes_0 := by decide +kernel
theorem dksX4_mixes_1 : cX4_mixes.data.toList.drop 22 = dktX4_mixes_1 := dk_seg dksX4_mixes_0 22 rfl rfl
theorem dksX4_mixes_2 : cX4_mixes.data.toList.drop 46 = dktX4_mixes_2 := dk_seg dksX4_mixes_1 24 rfl rfl
theorem dksX4_mixes_3 : cX4_mixes.data.toList.drop 69 = dktX4_mixes_3 := dk_seg dksX4_mixes_2 23 rfl rfl
theorem dksX4_mixes_4 : cX4_mixes.data.toList.drop 93 = dktX4_mixes_4 := dk_seg dksX4_mixes_3 24 rfl rfl
theorem dksX4_mixes_5 : cX4_mixes.data.toList.drop 117 = dktX4_mixes_5 := dk_seg dksX4_mixes_4 24 rfl rfl
theorem dksX4_mixes_6 : cX4_mixes.data.toList.drop 141 = dktX4_mixes_6 := dk_seg dksX4_mixes_5 24 rfl rfl
theorem dX4_mixes_0 : decode cX4_mixes 0 = .ok (.iconst 0, 1) := dk_3 (dk_at dksX4_mixes_0 0 rfl rfl)
theorem dX4_mixes_1 : decode cX4_mixes 1 = .ok (.istore_n 2, 1) := dk_61 (dk_at dksX4_mixes_0 1 rfl rfl)
theorem dX4_mixes_2 : decode cX4_mixes 2 = .ok (.iload_n 2, 1) := dk_28 (dk_at dksX4_mixes_0 2 rfl rfl)
theorem dX4_mixes_3 : decode cX4_mixes 3 = .ok (.iload_n 1, 1) := dk_27 (dk_at dksX4_mixes_0 3 rfl rfl)
theorem dX4_mixes_4 : decode cX4_mixes 4 = .ok (.if_icmp .ge 21, 3) := dk_162 0 21 (dk_at dksX4_mixes_0 4 rfl rfl)
theorem dX4_mixes_7 : decode cX4_mixes 7 = .ok (.aload_n 0, 1) := dk_42 (dk_at dksX4_mixes_0 7 rfl rfl)
theorem dX4_mixes_8 : decode cX4_mixes 8 = .ok (.getfield 99, 3) := dk_180 0 99 (dk_at dksX4_mixes_0 8 rfl rfl)
theorem dX4_mixes_11 : decode cX4_mixes 11 = .ok (.iload_n 2, 1) := dk_28 (dk_at dksX4_mixes_0 11 rfl rfl)
theorem dX4_mixes_12 : decode cX4_mixes 12 = .ok (.aload_n 0, 1) := dk_42 (dk_at dksX4_mixes_0 12 rfl rfl)
theorem dX4_mixes_13 : decode cX4_mixes 13 = .ok (.getfield 96, 3) := dk_180 0 96 (dk_at dksX4_mixes_0 13 rfl rfl)
theorem dX4_mixes_16 : decode cX4_mixes 16 = .ok (.iload_n 2, 1) := dk_28 (dk_at dksX4_mixes_0 16 rfl rfl)
theorem dX4_mixes_17 : decode cX4_mixes 17 = .ok (.iaload, 1) := dk_46 (dk_at dksX4_mixes_0 17 rfl rfl)
theorem dX4_mixes_18 : decode cX4_mixes 18 = .ok (.iastore, 1) := dk_79 (dk_at dksX4_mixes_0 18 rfl rfl)
theorem dX4_mixes_19 : decode cX4_mixes 19 = .ok (.iinc 2 1, 3) := dk_132 2 1 (dk_at dksX4_mixes_0 19 rfl rfl)
theorem dX4_mixes_22 : decode cX4_mixes 22 = .ok (.goto (-20), 3) := dk_167 255 236 (dk_at dksX4_mixes_1 0 rfl rfl)
theorem dX4_mixes_25 : decode cX4_mixes 25 = .ok (.iload_n 1, 1) := dk_27 (dk_at dksX4_mixes_1 3 rfl rfl)
theorem dX4_mixes_26 : decode cX4_mixes 26 = .ok (.iconst 1, 1) := dk_4 (dk_at dksX4_mixes_1 4 rfl rfl)
theorem dX4_mixes_27 : decode cX4_mixes 27 = .ok (.isub, 1) := dk_100 (dk_at dksX4_mixes_1 5 rfl rfl)
theorem dX4_mixes_28 : decode cX4_mixes 28 = .ok (.istore_n 2, 1) := dk_61 (dk_at dksX4_mixes_1 6 rfl rfl)
theorem dX4_mixes_29 : decode cX4_mixes 29 = .ok (.iload_n 2, 1) := dk_28 (dk_at dksX4_mixes_1 7 rfl rfl)
theorem dX4_mixes_30 : decode cX4_mixes 30 = .ok (.ifCond .le 45, 3) := dk_158 0 45 (dk_at dksX4_mixes_1 8 rfl rfl)
theorem dX4_mixes_33 : decode cX4_mixes 33 = .ok (.aload_n 0, 1) := dk_42 (dk_at dksX4_mixes_1 11 rfl rfl)
theorem dX4_mixes_34 : decode cX4_mixes 34 = .ok (.iload_n 2, 1) := dk_28 (dk_at dksX4_mixes_1 12 rfl rfl)
theorem dX4_mixes_35 : decode cX4_mixes 35 = .ok (.iconst 1, 1) := dk_4 (dk_at dksX4_mixes_1 13 rfl rfl)
theorem dX4_mixes_36 : decode cX4_mixes 36 = .ok (.iadd, 1) := dk_96 (dk_at dksX4_mixes_1 14 rfl rfl)
theorem dX4_mixes_37 : decode cX4_mixes 37 = .ok (.invokevirtual 408, 3) := dk_182 1 152 (dk_at dksX4_mixes_1 15 rfl rfl)
theorem dX4_mixes_40 : decode cX4_mixes 40 = .ok (.istore_n 3, 1) := dk_62 (dk_at dksX4_mixes_1 18 rfl rfl)
theorem dX4_mixes_41 : decode cX4_mixes 41 = .ok (.aload_n 0, 1) := dk_42 (dk_at dksX4_mixes_1 19 rfl rfl)
theorem dX4_mixes_42 : decode cX4_mixes 42 = .ok (.getfield 99, 3) := dk_180 0 99 (dk_at dksX4_mixes_1 20 rfl rfl)
theorem dX4_mixes_45 : decode cX4_mixes 45 = .ok (.iload_n 2, 1) := dk_28 (dk_at dksX4_mixes_1 23 rfl rfl)
theorem dX4_mixes_46 : decode cX4_mixes 46 = .ok (.iaload, 1) := dk_46 (dk_at dksX4_mixes_2 0 rfl rfl)
theorem dX4_mixes_47 : decode cX4_mixes 47 = .ok (.istore 4, 2) := dk_54 4 (dk_at dksX4_mixes_2 1 rfl rfl)
theorem dX4_mixes_49 : decode cX4_mixes 49 = .ok (.aload_n 0, 1) := dk_42 (dk_at dksX4_mixes_2 3 rfl rfl)
theorem dX4_mixes_50 : decode cX4_mixes 50 = .ok (.getfield 99, 3) := dk_180 0 99 (dk_at dksX4_mixes_2 4 rfl rfl)
theorem dX4_mixes_53 : decode cX4_mixes 53 = .ok (.iload_n 2, 1) := dk_28 (dk_at dksX4_mixes_2 7 rfl rfl)
theorem dX4_mixes_54 : decode cX4_mixes 54 = .ok (.aload_n 0, 1) := dk_42 (dk_at dksX4_mixes_2 8 rfl rfl)
theorem dX4_mixes_55 : decode cX4_mixes 55 = .ok (.getfield 99, 3) := dk_180 0 99 (dk_at dksX4_mixes_2 9 rfl rfl)
theorem dX4_mixes_58 : decode cX4_mixes 58 = .ok (.iload_n 3, 1) := dk_29 (dk_at dksX4_mixes_2 12 rfl rfl)
theorem dX4_mixes_59 : decode cX4_mixes 59 = .ok (.iaload, 1) := dk_46 (dk_at dksX4_mixes_2 13 rfl rfl)
theorem dX4_mixes_60 : decode cX4_mixes 60 = .ok (.iastore, 1) := dk_79 (dk_at dksX4_mixes_2 14 rfl rfl)
theorem dX4_mixes_61 : decode cX4_mixes 61 = .ok (.aload_n 0, 1) := dk_42 (dk_at dksX4_mixes_2 15 rfl rfl)
theorem dX4_mixes_62 : decode cX4_mixes 62 = .ok (.getfield 99, 3) := dk_180 0 99 (dk_at dksX4_mixes_2 16 rfl rfl)
theorem dX4_mixes_65 : decode cX4_mixes 65 = .ok (.iload_n 3, 1) := dk_29 (dk_at dksX4_mixes_2 19 rfl rfl)
theorem dX4_mixes_66 : decode cX4_mixes 66 = .ok (.iload 4, 2) := dk_21 4 (dk_at dksX4_mixes_2 20 rfl rfl)
theorem dX4_mixes_68 : decode cX4_mixes 68 = .ok (.iastore, 1) := dk_79 (dk_at dksX4_mixes_2 22 rfl rfl)
theorem dX4_mixes_69 : decode cX4_mixes 69 = .ok (.iinc 2 (-1), 3) := dk_132 2 255 (dk_at dksX4_mixes_3 0 rfl rfl)
theorem dX4_mixes_72 : decode cX4_mixes 72 = .ok (.goto (-43), 3) := dk_167 255 213 (dk_at dksX4_mixes_3 3 rfl rfl)
theorem dX4_mixes_75 : decode cX4_mixes 75 = .ok (.iconst 0, 1) := dk_3 (dk_at dksX4_mixes_3 6 rfl rfl)
theorem dX4_mixes_76 : decode cX4_mixes 76 = .ok (.istore_n 2, 1) := dk_61 (dk_at dksX4_mixes_3 7 rfl rfl)
theorem dX4_mixes_77 : decode cX4_mixes 77 = .ok (.iload_n 2, 1) := dk_28 (dk_at dksX4_mixes_3 8 rfl rfl)
theorem dX4_mixes_78 : decode cX4_mixes 78 = .ok (.bipush 40, 2) := dk_16 40 (dk_at dksX4_mixes_3 9 rfl rfl)
theorem dX4_mixes_80 : decode cX4_mixes 80 = .ok (.if_icmp .ge 16, 3) := dk_162 0 16 (dk_at dksX4_mixes_3 11 rfl rfl)
theorem dX4_mixes_83 : decode cX4_mixes 83 = .ok (.aload_n 0, 1) := dk_42 (dk_at dksX4_mixes_3 14 rfl rfl)
theorem dX4_mixes_84 : decode cX4_mixes 84 = .ok (.getfield 84, 3) := dk_180 0 84 (dk_at dksX4_mixes_3 15 rfl rfl)
theorem dX4_mixes_87 : decode cX4_mixes 87 = .ok (.iload_n 2, 1) := dk_28 (dk_at dksX4_mixes_3 18 rfl rfl)
theorem dX4_mixes_88 : decode cX4_mixes 88 = .ok (.iconst (-1), 1) := dk_2 (dk_at dksX4_mixes_3 19 rfl rfl)
theorem dX4_mixes_89 : decode cX4_mixes 89 = .ok (.iastore, 1) := dk_79 (dk_at dksX4_mixes_3 20 rfl rfl)
theorem dX4_mixes_90 : decode cX4_mixes 90 = .ok (.iinc 2 1, 3) := dk_132 2 1 (dk_at dksX4_mixes_3 21 rfl rfl)
theorem dX4_mixes_93 : decode cX4_mixes 93 = .ok (.goto (-16), 3) := dk_167 255 240 (dk_at dksX4_mixes_4 0 rfl rfl)
theorem dX4_mixes_96 : decode cX4_mixes 96 = .ok (.iconst 0, 1) := dk_3 (dk_at dksX4_mixes_4 3 rfl rfl)
theorem dX4_mixes_97 : decode cX4_mixes 97 = .ok (.istore_n 2, 1) := dk_61 (dk_at dksX4_mixes_4 4 rfl rfl)
theorem dX4_mixes_98 : decode cX4_mixes 98 = .ok (.iload_n 2, 1) := dk_28 (dk_at dksX4_mixes_4 5 rfl rfl)
theorem dX4_mixes_99 : decode cX4_mixes 99 = .ok (.iload_n 1, 1) := dk_27 (dk_at dksX4_mixes_4 6 rfl rfl)
theorem dX4_mixes_100 : decode cX4_mixes 100 = .ok (.if_icmp .ge 50, 3) := dk_162 0 50 (dk_at dksX4_mixes_4 7 rfl rfl)
theorem dX4_mixes_103 : decode cX4_mixes 103 = .ok (.aload_n 0, 1) := dk_42 (dk_at dksX4_mixes_4 10 rfl rfl)
theorem dX4_mixes_104 : decode cX4_mixes 104 = .ok (.getfield 84, 3) := dk_180 0 84 (dk_at dksX4_mixes_4 11 rfl rfl)
theorem dX4_mixes_107 : decode cX4_mixes 107 = .ok (.aload_n 0, 1) := dk_42 (dk_at dksX4_mixes_4 14 rfl rfl)
theorem dX4_mixes_108 : decode cX4_mixes 108 = .ok (.getfield 93, 3) := dk_180 0 93 (dk_at dksX4_mixes_4 15 rfl rfl)
theorem dX4_mixes_111 : decode cX4_mixes 111 = .ok (.iload_n 2, 1) := dk_28 (dk_at dksX4_mixes_4 18 rfl rfl)
theorem dX4_mixes_112 : decode cX4_mixes 112 = .ok (.iaload, 1) := dk_46 (dk_at dksX4_mixes_4 19 rfl rfl)
theorem dX4_mixes_113 : decode cX4_mixes 113 = .ok (.aload_n 0, 1) := dk_42 (dk_at dksX4_mixes_4 20 rfl rfl)
theorem dX4_mixes_114 : decode cX4_mixes 114 = .ok (.getfield 99, 3) := dk_180 0 99 (dk_at dksX4_mixes_4 21 rfl rfl)
theorem dX4_mixes_117 : decode cX4_mixes 117 = .ok (.iload_n 2, 1) := dk_28 (dk_at dksX4_mixes_5 0 rfl rfl)
theorem dX4_mixes_118 : decode cX4_mixes 118 = .ok (.iaload, 1) := dk_46 (dk_at dksX4_mixes_5 1 rfl rfl)
theorem dX4_mixes_119 : decode cX4_mixes 119 = .ok (.iconst 5, 1) := dk_8 (dk_at dksX4_mixes_5 2 rfl rfl)
theorem dX4_mixes_120 : decode cX4_mixes 120 = .ok (.idiv, 1) := dk_108 (dk_at dksX4_mixes_5 3 rfl rfl)
theorem dX4_mixes_121 : decode cX4_mixes 121 = .ok (.iastore, 1) := dk_79 (dk_at dksX4_mixes_5 4 rfl rfl)
theorem dX4_mixes_122 : decode cX4_mixes 122 = .ok (.aload_n 0, 1) := dk_42 (dk_at dksX4_mixes_5 5 rfl rfl)
theorem dX4_mixes_123 : decode cX4_mixes 123 = .ok (.getfield 84, 3) := dk_180 0 84 (dk_at dksX4_mixes_5 6 rfl rfl)
theorem dX4_mixes_126 : decode cX4_mixes 126 = .ok (.bipush 20, 2) := dk_16 20 (dk_at dksX4_mixes_5 9 rfl rfl)
theorem dX4_mixes_128 : decode cX4_mixes 128 = .ok (.aload_n 0, 1) := dk_42 (dk_at dksX4_mixes_5 11 rfl rfl)
theorem dX4_mixes_129 : decode cX4_mixes 129 = .ok (.getfield 93, 3) := dk_180 0 93 (dk_at dksX4_mixes_5 12 rfl rfl)
theorem dX4_mixes_132 : decode cX4_mixes 132 = .ok (.iload_n 2, 1) := dk_28 (dk_at dksX4_mixes_5 15 rfl rfl)
theorem dX4_mixes_133 : decode cX4_mixes 133 = .ok (.iaload, 1) := dk_46 (dk_at dksX4_mixes_5 16 rfl rfl)
theorem dX4_mixes_134 : decode cX4_mixes 134 = .ok (.iadd, 1) := dk_96 (dk_at dksX4_mixes_5 17 rfl rfl)
theorem dX4_mixes_135 : decode cX4_mixes 135 = .ok (.aload_n 0, 1) := dk_42 (dk_at dksX4_mixes_5 18 rfl rfl)
theorem dX4_mixes_136 : decode cX4_mixes 136 = .ok (.getfield 99, 3) := dk_180 0 99 (dk_at dksX4_mixes_5 19 rfl rfl)
theorem dX4_mixes_139 : decode cX4_mixes 139 = .ok (.iload_n 2, 1) := dk_28 (dk_at dksX4_mixes_5 22 rfl rfl)
theorem dX4_mixes_140 : decode cX4_mixes 140 = .ok (.iaload, 1) := dk_46 (dk_at dksX4_mixes_5 23 rfl rfl)
theorem dX4_mixes_141 : decode cX4_mixes 141 = .ok (.iconst 5, 1) := dk_8 (dk_at dksX4_mixes_6 0 rfl rfl)
theorem dX4_mixes_142 : decode cX4_mixes 142 = .ok (.irem, 1) := dk_112 (dk_at dksX4_mixes_6 1 rfl rfl)
theorem dX4_mixes_143 : decode cX4_mixes 143 = .ok (.iastore, 1) := dk_79 (dk_at dksX4_mixes_6 2 rfl rfl)
theorem dX4_mixes_144 : decode cX4_mixes 144 = .ok (.iinc 2 1, 3) := dk_132 2 1 (dk_at dksX4_mixes_6 3 rfl rfl)
theorem dX4_mixes_147 : decode cX4_mixes 147 = .ok (.goto (-49), 3) := dk_167 255 207 (dk_at dksX4_mixes_6 6 rfl rfl)
theorem dX4_mixes_150 : decode cX4_mixes 150 = .ok (.return_, 1) := dk_177 (dk_at dksX4_mixes_6 9 rfl rfl)
def dkwX4_drawn_1 : List UInt8 := [180, 1, 142, 19, 1, 151, 108, 27, 112, 172]
abbrev dktX4_drawn_1 : List UInt8 := dkwX4_drawn_1 ++ []
def dkwX4_drawn_0 : List UInt8 := [42, 42, 180, 1, 142, 133, 20, 1, 145, 105, 20, 1, 147, 97, 20, 1, 149, 113, 136, 181, 1, 142, 42]
abbrev dktX4_drawn_0 : List UInt8 := dkwX4_drawn_0 ++ dktX4_drawn_1
theorem dksX4_drawn_0 : cX4_drawn.data.toList.drop 0 = dktX4_drawn_0 := by decide +kernel
theorem dksX4_drawn_1 : cX4_drawn.data.toList.drop 23 = dktX4_drawn_1 := dk_seg dksX4_drawn_0 23 rfl rfl
theorem dX4_drawn_0 : decode cX4_drawn 0 = .ok (.aload_n 0, 1) := dk_42 (dk_at dksX4_drawn_0 0 rfl rfl)
theorem dX4_drawn_1 : decode cX4_drawn 1 = .ok (.aload_n 0, 1) := dk_42 (dk_at dksX4_drawn_0 1 rfl rfl)
theorem dX4_drawn_2 : decode cX4_drawn 2 = .ok (.getfield 398, 3) := dk_180 1 142 (dk_at dksX4_drawn_0 2 rfl rfl)
theorem dX4_drawn_5 : decode cX4_drawn 5 = .ok (.i2l, 1) := dk_133 (dk_at dksX4_drawn_0 5 rfl rfl)
theorem dX4_drawn_6 : decode cX4_drawn 6 = .ok (.ldc2_w 401, 3) := dk_20 1 145 (dk_at dksX4_drawn_0 6 rfl rfl)
theorem dX4_drawn_9 : decode cX4_drawn 9 = .ok (.lmul, 1) := dk_105 (dk_at dksX4_drawn_0 9 rfl rfl)
theorem dX4_drawn_10 : decode cX4_drawn 10 = .ok (.ldc2_w 403, 3) := dk_20 1 147 (dk_at dksX4_drawn_0 10 rfl rfl)
theorem dX4_drawn_13 : decode cX4_drawn 13 = .ok (.ladd, 1) := dk_97 (dk_at dksX4_drawn_0 13 rfl rfl)
theorem dX4_drawn_14 : decode cX4_drawn 14 = .ok (.ldc2_w 405, 3) := dk_20 1 149 (dk_at dksX4_drawn_0 14 rfl rfl)
theorem dX4_drawn_17 : decode cX4_drawn 17 = .ok (.lrem, 1) := dk_113 (dk_at dksX4_drawn_0 17 rfl rfl)
theorem dX4_drawn_18 : decode cX4_drawn 18 = .ok (.l2i, 1) := dk_136 (dk_at dksX4_drawn_0 18 rfl rfl)
theorem dX4_drawn_19 : decode cX4_drawn 19 = .ok (.putfield 398, 3) := dk_181 1 142 (dk_at dksX4_drawn_0 19 rfl rfl)
theorem dX4_drawn_22 : decode cX4_drawn 22 = .ok (.aload_n 0, 1) := dk_42 (dk_at dksX4_drawn_0 22 rfl rfl)
theorem dX4_drawn_23 : decode cX4_drawn 23 = .ok (.getfield 398, 3) := dk_180 1 142 (dk_at dksX4_drawn_1 0 rfl rfl)
theorem dX4_drawn_26 : decode cX4_drawn 26 = .ok (.ldc_w 407, 3) := dk_19 1 151 (dk_at dksX4_drawn_1 3 rfl rfl)
theorem dX4_drawn_29 : decode cX4_drawn 29 = .ok (.idiv, 1) := dk_108 (dk_at dksX4_drawn_1 6 rfl rfl)
theorem dX4_drawn_30 : decode cX4_drawn 30 = .ok (.iload_n 1, 1) := dk_27 (dk_at dksX4_drawn_1 7 rfl rfl)
theorem dX4_drawn_31 : decode cX4_drawn 31 = .ok (.irem, 1) := dk_112 (dk_at dksX4_drawn_1 8 rfl rfl)
theorem dX4_drawn_32 : decode cX4_drawn 32 = .ok (.ireturn, 1) := dk_172 (dk_at dksX4_drawn_1 9 rfl rfl)
def dkwX4_count_6 : List UInt8 := [180, 1, 142, 172, 42, 180, 0, 105, 172, 2, 172]
abbrev dktX4_count_6 : List UInt8 := dkwX4_count_6 ++ []
def dkwX4_count_5 : List UInt8 := [172, 42, 182, 0, 242, 172, 42, 182, 1, 179, 172, 42, 180, 0, 35, 6, 46, 172, 42, 180, 0, 181, 172, 42]
abbrev dktX4_count_5 : List UInt8 := dkwX4_count_5 ++ dktX4_count_6
def dkwX4_count_4 : List UInt8 := [172, 42, 180, 0, 35, 5, 46, 172, 42, 180, 0, 203, 172, 42, 3, 182, 1, 176, 172, 42, 4, 182, 1, 176]
abbrev dktX4_count_4 : List UInt8 := dkwX4_count_4 ++ dktX4_count_5
def dkwX4_count_3 : List UInt8 := [42, 180, 1, 27, 46, 172, 42, 180, 1, 55, 172, 42, 180, 0, 35, 3, 46, 172, 42, 180, 0, 35, 4, 46]
abbrev dktX4_count_3 : List UInt8 := dkwX4_count_3 ++ dktX4_count_4
def dkwX4_count_2 : List UInt8 := [42, 180, 0, 162, 172, 42, 180, 1, 3, 172, 42, 180, 0, 165, 172, 42, 180, 1, 27, 172, 42, 180, 0, 47]
abbrev dktX4_count_2 : List UInt8 := dkwX4_count_2 ++ dktX4_count_3
def dkwX4_count_1 : List UInt8 := [170, 0, 0, 0, 0, 0, 192, 0, 0, 0, 0, 0, 0, 0, 17, 0, 0, 0, 87, 0, 0, 0, 92, 0, 0, 0, 97, 0, 0, 0, 102, 0, 0, 0, 107, 0, 0, 0, 117, 0, 0, 0, 122, 0, 0, 0, 129, 0, 0, 0, 136, 0, 0, 0, 143, 0, 0, 0, 148, 0, 0, 0, 154, 0, 0, 0, 160, 0, 0, 0, 165, 0, 0, 0, 170, 0, 0, 0, 177, 0, 0, 0, 182, 0, 0, 0, 187]
abbrev dktX4_count_1 : List UInt8 := dkwX4_count_1 ++ dktX4_count_2
def dkwX4_count_0 : List UInt8 := [42, 182, 0, 235, 27]
abbrev dktX4_count_0 : List UInt8 := dkwX4_count_0 ++ dktX4_count_1
theorem dksX4_count_0 : cX4_count.data.toList.drop 0 = dktX4_count_0 := by decide +kernel
theorem dksX4_count_1 : cX4_count.data.toList.drop 5 = dktX4_count_1 := dk_seg dksX4_count_0 5 rfl rfl
theorem dksX4_count_2 : cX4_count.data.toList.drop 92 = dktX4_count_2 := dk_seg dksX4_count_1 87 rfl rfl
theorem dksX4_count_3 : cX4_count.data.toList.drop 116 = dktX4_count_3 := dk_seg dksX4_count_2 24 rfl rfl
theorem dksX4_count_4 : cX4_count.data.toList.drop 140 = dktX4_count_4 := dk_seg dksX4_count_3 24 rfl rfl
theorem dksX4_count_5 : cX4_count.data.toList.drop 164 = dktX4_count_5 := dk_seg dksX4_count_4 24 rfl rfl
theorem dksX4_count_6 : cX4_count.data.toList.drop 188 = dktX4_count_6 := dk_seg dksX4_count_5 24 rfl rfl
theorem dX4_count_0 : decode cX4_count 0 = .ok (.aload_n 0, 1) := dk_42 (dk_at dksX4_count_0 0 rfl rfl)
theorem dX4_count_1 : decode cX4_count 1 = .ok (.invokevirtual 235, 3) := dk_182 0 235 (dk_at dksX4_count_0 1 rfl rfl)
theorem dX4_count_4 : decode cX4_count 4 = .ok (.iload_n 1, 1) := dk_27 (dk_at dksX4_count_0 4 rfl rfl)
theorem dX4_count_5 : decode cX4_count 5 = .ok (.tableswitch 192 0 17 #[87, 92, 97, 102, 107, 117, 122, 129, 136, 143, 148, 154, 160, 165, 170, 177, 182, 187], 87) := by decide +kernel
theorem dX4_count_92 : decode cX4_count 92 = .ok (.aload_n 0, 1) := dk_42 (dk_at dksX4_count_2 0 rfl rfl)
theorem dX4_count_93 : decode cX4_count 93 = .ok (.getfield 162, 3) := dk_180 0 162 (dk_at dksX4_count_2 1 rfl rfl)
theorem dX4_count_96 : decode cX4_count 96 = .ok (.ireturn, 1) := dk_172 (dk_at dksX4_count_2 4 rfl rfl)
theorem dX4_count_97 : decode cX4_count 97 = .ok (.aload_n 0, 1) := dk_42 (dk_at dksX4_count_2 5 rfl rfl)
theorem dX4_count_98 : decode cX4_count 98 = .ok (.getfield 259, 3) := dk_180 1 3 (dk_at dksX4_count_2 6 rfl rfl)
theorem dX4_count_101 : decode cX4_count 101 = .ok (.ireturn, 1) := dk_172 (dk_at dksX4_count_2 9 rfl rfl)
theorem dX4_count_102 : decode cX4_count 102 = .ok (.aload_n 0, 1) := dk_42 (dk_at dksX4_count_2 10 rfl rfl)
theorem dX4_count_103 : decode cX4_count 103 = .ok (.getfield 165, 3) := dk_180 0 165 (dk_at dksX4_count_2 11 rfl rfl)
theorem dX4_count_106 : decode cX4_count 106 = .ok (.ireturn, 1) := dk_172 (dk_at dksX4_count_2 14 rfl rfl)
theorem dX4_count_107 : decode cX4_count 107 = .ok (.aload_n 0, 1) := dk_42 (dk_at dksX4_count_2 15 rfl rfl)
theorem dX4_count_108 : decode cX4_count 108 = .ok (.getfield 283, 3) := dk_180 1 27 (dk_at dksX4_count_2 16 rfl rfl)
theorem dX4_count_111 : decode cX4_count 111 = .ok (.ireturn, 1) := dk_172 (dk_at dksX4_count_2 19 rfl rfl)
theorem dX4_count_112 : decode cX4_count 112 = .ok (.aload_n 0, 1) := dk_42 (dk_at dksX4_count_2 20 rfl rfl)
theorem dX4_count_113 : decode cX4_count 113 = .ok (.getfield 47, 3) := dk_180 0 47 (dk_at dksX4_count_2 21 rfl rfl)
theorem dX4_count_116 : decode cX4_count 116 = .ok (.aload_n 0, 1) := dk_42 (dk_at dksX4_count_3 0 rfl rfl)
theorem dX4_count_117 : decode cX4_count 117 = .ok (.getfield 283, 3) := dk_180 1 27 (dk_at dksX4_count_3 1 rfl rfl)
theorem dX4_count_120 : decode cX4_count 120 = .ok (.iaload, 1) := dk_46 (dk_at dksX4_count_3 4 rfl rfl)
theorem dX4_count_121 : decode cX4_count 121 = .ok (.ireturn, 1) := dk_172 (dk_at dksX4_count_3 5 rfl rfl)
theorem dX4_count_122 : decode cX4_count 122 = .ok (.aload_n 0, 1) := dk_42 (dk_at dksX4_count_3 6 rfl rfl)
theorem dX4_count_123 : decode cX4_count 123 = .ok (.getfield 311, 3) := dk_180 1 55 (dk_at dksX4_count_3 7 rfl rfl)
theorem dX4_count_126 : decode cX4_count 126 = .ok (.ireturn, 1) := dk_172 (dk_at dksX4_count_3 10 rfl rfl)
theorem dX4_count_127 : decode cX4_count 127 = .ok (.aload_n 0, 1) := dk_42 (dk_at dksX4_count_3 11 rfl rfl)
theorem dX4_count_128 : decode cX4_count 128 = .ok (.getfield 35, 3) := dk_180 0 35 (dk_at dksX4_count_3 12 rfl rfl)
theorem dX4_count_131 : decode cX4_count 131 = .ok (.iconst 0, 1) := dk_3 (dk_at dksX4_count_3 15 rfl rfl)
theorem dX4_count_132 : decode cX4_count 132 = .ok (.iaload, 1) := dk_46 (dk_at dksX4_count_3 16 rfl rfl)
theorem dX4_count_133 : decode cX4_count 133 = .ok (.ireturn, 1) := dk_172 (dk_at dksX4_count_3 17 rfl rfl)
theorem dX4_count_134 : decode cX4_count 134 = .ok (.aload_n 0, 1) := dk_42 (dk_at dksX4_count_3 18 rfl rfl)
theorem dX4_count_135 : decode cX4_count 135 = .ok (.getfield 35, 3) := dk_180 0 35 (dk_at dksX4_count_3 19 rfl rfl)
theorem dX4_count_138 : decode cX4_count 138 = .ok (.iconst 1, 1) := dk_4 (dk_at dksX4_count_3 22 rfl rfl)
theorem dX4_count_139 : decode cX4_count 139 = .ok (.iaload, 1) := dk_46 (dk_at dksX4_count_3 23 rfl rfl)
theorem dX4_count_140 : decode cX4_count 140 = .ok (.ireturn, 1) := dk_172 (dk_at dksX4_count_4 0 rfl rfl)
theorem dX4_count_141 : decode cX4_count 141 = .ok (.aload_n 0, 1) := dk_42 (dk_at dksX4_count_4 1 rfl rfl)
theorem dX4_count_142 : decode cX4_count 142 = .ok (.getfield 35, 3) := dk_180 0 35 (dk_at dksX4_count_4 2 rfl rfl)
theorem dX4_count_145 : decode cX4_count 145 = .ok (.iconst 2, 1) := dk_5 (dk_at dksX4_count_4 5 rfl rfl)
theorem dX4_count_146 : decode cX4_count 146 = .ok (.iaload, 1) := dk_46 (dk_at dksX4_count_4 6 rfl rfl)
theorem dX4_count_147 : decode cX4_count 147 = .ok (.ireturn, 1) := dk_172 (dk_at dksX4_count_4 7 rfl rfl)
theorem dX4_count_148 : decode cX4_count 148 = .ok (.aload_n 0, 1) := dk_42 (dk_at dksX4_count_4 8 rfl rfl)
theorem dX4_count_149 : decode cX4_count 149 = .ok (.getfield 203, 3) := dk_180 0 203 (dk_at dksX4_count_4 9 rfl rfl)
theorem dX4_count_152 : decode cX4_count 152 = .ok (.ireturn, 1) := dk_172 (dk_at dksX4_count_4 12 rfl rfl)
theorem dX4_count_153 : decode cX4_count 153 = .ok (.aload_n 0, 1) := dk_42 (dk_at dksX4_count_4 13 rfl rfl)
theorem dX4_count_154 : decode cX4_count 154 = .ok (.iconst 0, 1) := dk_3 (dk_at dksX4_count_4 14 rfl rfl)
theorem dX4_count_155 : decode cX4_count 155 = .ok (.invokevirtual 432, 3) := dk_182 1 176 (dk_at dksX4_count_4 15 rfl rfl)
theorem dX4_count_158 : decode cX4_count 158 = .ok (.ireturn, 1) := dk_172 (dk_at dksX4_count_4 18 rfl rfl)
theorem dX4_count_159 : decode cX4_count 159 = .ok (.aload_n 0, 1) := dk_42 (dk_at dksX4_count_4 19 rfl rfl)
theorem dX4_count_160 : decode cX4_count 160 = .ok (.iconst 1, 1) := dk_4 (dk_at dksX4_count_4 20 rfl rfl)
theorem dX4_count_161 : decode cX4_count 161 = .ok (.invokevirtual 432, 3) := dk_182 1 176 (dk_at dksX4_count_4 21 rfl rfl)
theorem dX4_count_164 : decode cX4_count 164 = .ok (.ireturn, 1) := dk_172 (dk_at dksX4_count_5 0 rfl rfl)
theorem dX4_count_165 : decode cX4_count 165 = .ok (.aload_n 0, 1) := dk_42 (dk_at dksX4_count_5 1 rfl rfl)
theorem dX4_count_166 : decode cX4_count 166 = .ok (.invokevirtual 242, 3) := dk_182 0 242 (dk_at dksX4_count_5 2 rfl rfl)
theorem dX4_count_169 : decode cX4_count 169 = .ok (.ireturn, 1) := dk_172 (dk_at dksX4_count_5 5 rfl rfl)
theorem dX4_count_170 : decode cX4_count 170 = .ok (.aload_n 0, 1) := dk_42 (dk_at dksX4_count_5 6 rfl rfl)
theorem dX4_count_171 : decode cX4_count 171 = .ok (.invokevirtual 435, 3) := dk_182 1 179 (dk_at dksX4_count_5 7 rfl rfl)
theorem dX4_count_174 : decode cX4_count 174 = .ok (.ireturn, 1) := dk_172 (dk_at dksX4_count_5 10 rfl rfl)
theorem dX4_count_175 : decode cX4_count 175 = .ok (.aload_n 0, 1) := dk_42 (dk_at dksX4_count_5 11 rfl rfl)
theorem dX4_count_176 : decode cX4_count 176 = .ok (.getfield 35, 3) := dk_180 0 35 (dk_at dksX4_count_5 12 rfl rfl)
theorem dX4_count_179 : decode cX4_count 179 = .ok (.iconst 3, 1) := dk_6 (dk_at dksX4_count_5 15 rfl rfl)
theorem dX4_count_180 : decode cX4_count 180 = .ok (.iaload, 1) := dk_46 (dk_at dksX4_count_5 16 rfl rfl)
theorem dX4_count_181 : decode cX4_count 181 = .ok (.ireturn, 1) := dk_172 (dk_at dksX4_count_5 17 rfl rfl)
theorem dX4_count_182 : decode cX4_count 182 = .ok (.aload_n 0, 1) := dk_42 (dk_at dksX4_count_5 18 rfl rfl)
theorem dX4_count_183 : decode cX4_count 183 = .ok (.getfield 181, 3) := dk_180 0 181 (dk_at dksX4_count_5 19 rfl rfl)
theorem dX4_count_186 : decode cX4_count 186 = .ok (.ireturn, 1) := dk_172 (dk_at dksX4_count_5 22 rfl rfl)
theorem dX4_count_187 : decode cX4_count 187 = .ok (.aload_n 0, 1) := dk_42 (dk_at dksX4_count_5 23 rfl rfl)
theorem dX4_count_188 : decode cX4_count 188 = .ok (.getfield 398, 3) := dk_180 1 142 (dk_at dksX4_count_6 0 rfl rfl)
theorem dX4_count_191 : decode cX4_count 191 = .ok (.ireturn, 1) := dk_172 (dk_at dksX4_count_6 3 rfl rfl)
theorem dX4_count_192 : decode cX4_count 192 = .ok (.aload_n 0, 1) := dk_42 (dk_at dksX4_count_6 4 rfl rfl)
theorem dX4_count_193 : decode cX4_count 193 = .ok (.getfield 105, 3) := dk_180 0 105 (dk_at dksX4_count_6 5 rfl rfl)
theorem dX4_count_196 : decode cX4_count 196 = .ok (.ireturn, 1) := dk_172 (dk_at dksX4_count_6 8 rfl rfl)
theorem dX4_count_197 : decode cX4_count 197 = .ok (.iconst (-1), 1) := dk_2 (dk_at dksX4_count_6 9 rfl rfl)
theorem dX4_count_198 : decode cX4_count 198 = .ok (.ireturn, 1) := dk_172 (dk_at dksX4_count_6 10 rfl rfl)
def dkwX4_groups_1 : List UInt8 := [29, 160, 0, 7, 4, 167, 0, 4, 3, 184, 0, 177, 96, 61, 132, 3, 1, 167, 255, 219, 28, 172]
abbrev dktX4_groups_1 : List UInt8 := dkwX4_groups_1 ++ []
def dkwX4_groups_0 : List UInt8 := [3, 61, 3, 62, 29, 42, 180, 0, 162, 162, 0, 35, 28, 42, 180, 0, 78, 16, 20, 27, 104, 29, 96, 46]
abbrev dktX4_groups_0 : List UInt8 := dkwX4_groups_0 ++ dktX4_groups_1
theorem dksX4_groups_0 : cX4_groups.data.toList.drop 0 = dktX4_groups_0 := by decide +kernel
theorem dksX4_groups_1 : cX4_groups.data.toList.drop 24 = dktX4_groups_1 := dk_seg dksX4_groups_0 24 rfl rfl
theorem dX4_groups_0 : decode cX4_groups 0 = .ok (.iconst 0, 1) := dk_3 (dk_at dksX4_groups_0 0 rfl rfl)
theorem dX4_groups_1 : decode cX4_groups 1 = .ok (.istore_n 2, 1) := dk_61 (dk_at dksX4_groups_0 1 rfl rfl)
theorem dX4_groups_2 : decode cX4_groups 2 = .ok (.iconst 0, 1) := dk_3 (dk_at dksX4_groups_0 2 rfl rfl)
theorem dX4_groups_3 : decode cX4_groups 3 = .ok (.istore_n 3, 1) := dk_62 (dk_at dksX4_groups_0 3 rfl rfl)
theorem dX4_groups_4 : decode cX4_groups 4 = .ok (.iload_n 3, 1) := dk_29 (dk_at dksX4_groups_0 4 rfl rfl)
theorem dX4_groups_5 : decode cX4_groups 5 = .ok (.aload_n 0, 1) := dk_42 (dk_at dksX4_groups_0 5 rfl rfl)
theorem dX4_groups_6 : decode cX4_groups 6 = .ok (.getfield 162, 3) := dk_180 0 162 (dk_at dksX4_groups_0 6 rfl rfl)
theorem dX4_groups_9 : decode cX4_groups 9 = .ok (.if_icmp .ge 35, 3) := dk_162 0 35 (dk_at dksX4_groups_0 9 rfl rfl)
theorem dX4_groups_12 : decode cX4_groups 12 = .ok (.iload_n 2, 1) := dk_28 (dk_at dksX4_groups_0 12 rfl rfl)
theorem dX4_groups_13 : decode cX4_groups 13 = .ok (.aload_n 0, 1) := dk_42 (dk_at dksX4_groups_0 13 rfl rfl)
theorem dX4_groups_14 : decode cX4_groups 14 = .ok (.getfield 78, 3) := dk_180 0 78 (dk_at dksX4_groups_0 14 rfl rfl)
theorem dX4_groups_17 : decode cX4_groups 17 = .ok (.bipush 20, 2) := dk_16 20 (dk_at dksX4_groups_0 17 rfl rfl)
theorem dX4_groups_19 : decode cX4_groups 19 = .ok (.iload_n 1, 1) := dk_27 (dk_at dksX4_groups_0 19 rfl rfl)
theorem dX4_groups_20 : decode cX4_groups 20 = .ok (.imul, 1) := dk_104 (dk_at dksX4_groups_0 20 rfl rfl)
theorem dX4_groups_21 : decode cX4_groups 21 = .ok (.iload_n 3, 1) := dk_29 (dk_at dksX4_groups_0 21 rfl rfl)
theorem dX4_groups_22 : decode cX4_groups 22 = .ok (.iadd, 1) := dk_96 (dk_at dksX4_groups_0 22 rfl rfl)
theorem dX4_groups_23 : decode cX4_groups 23 = .ok (.iaload, 1) := dk_46 (dk_at dksX4_groups_0 23 rfl rfl)
theorem dX4_groups_24 : decode cX4_groups 24 = .ok (.iload_n 3, 1) := dk_29 (dk_at dksX4_groups_1 0 rfl rfl)
theorem dX4_groups_25 : decode cX4_groups 25 = .ok (.if_icmp .ne 7, 3) := dk_160 0 7 (dk_at dksX4_groups_1 1 rfl rfl)
theorem dX4_groups_28 : decode cX4_groups 28 = .ok (.iconst 1, 1) := dk_4 (dk_at dksX4_groups_1 4 rfl rfl)
theorem dX4_groups_29 : decode cX4_groups 29 = .ok (.goto 4, 3) := dk_167 0 4 (dk_at dksX4_groups_1 5 rfl rfl)
theorem dX4_groups_32 : decode cX4_groups 32 = .ok (.iconst 0, 1) := dk_3 (dk_at dksX4_groups_1 8 rfl rfl)
theorem dX4_groups_33 : decode cX4_groups 33 = .ok (.invokestatic 177, 3) := dk_184 0 177 (dk_at dksX4_groups_1 9 rfl rfl)
theorem dX4_groups_36 : decode cX4_groups 36 = .ok (.iadd, 1) := dk_96 (dk_at dksX4_groups_1 12 rfl rfl)
theorem dX4_groups_37 : decode cX4_groups 37 = .ok (.istore_n 2, 1) := dk_61 (dk_at dksX4_groups_1 13 rfl rfl)
theorem dX4_groups_38 : decode cX4_groups 38 = .ok (.iinc 3 1, 3) := dk_132 3 1 (dk_at dksX4_groups_1 14 rfl rfl)
theorem dX4_groups_41 : decode cX4_groups 41 = .ok (.goto (-37), 3) := dk_167 255 219 (dk_at dksX4_groups_1 17 rfl rfl)
theorem dX4_groups_44 : decode cX4_groups 44 = .ok (.iload_n 2, 1) := dk_28 (dk_at dksX4_groups_1 20 rfl rfl)
theorem dX4_groups_45 : decode cX4_groups 45 = .ok (.ireturn, 1) := dk_172 (dk_at dksX4_groups_1 21 rfl rfl)
def dkwX4_guesses_1 : List UInt8 := [159, 0, 7, 4, 167, 0, 4, 3, 184, 0, 177, 96, 60, 132, 2, 1, 167, 255, 222, 27, 172]
abbrev dktX4_guesses_1 : List UInt8 := dkwX4_guesses_1 ++ []
def dkwX4_guesses_0 : List UInt8 := [3, 60, 3, 61, 28, 42, 180, 0, 162, 162, 0, 32, 27, 42, 180, 0, 35, 7, 28, 96, 46, 2]
abbrev dktX4_guesses_0 : List UInt8 := dkwX4_guesses_0 ++ dktX4_guesses_1
theorem dksX4_guesses_0 : cX4_guesses.data.toList.drop 0 = dktX4_guesses_0 := by decide +kernel
theorem dksX4_guesses_1 : cX4_guesses.data.toList.drop 22 = dktX4_guesses_1 := dk_seg dksX4_guesses_0 22 rfl rfl
theorem dX4_guesses_0 : decode cX4_guesses 0 = .ok (.iconst 0, 1) := dk_3 (dk_at dksX4_guesses_0 0 rfl rfl)
theorem dX4_guesses_1 : decode cX4_guesses 1 = .ok (.istore_n 1, 1) := dk_60 (dk_at dksX4_guesses_0 1 rfl rfl)
theorem dX4_guesses_2 : decode cX4_guesses 2 = .ok (.iconst 0, 1) := dk_3 (dk_at dksX4_guesses_0 2 rfl rfl)
theorem dX4_guesses_3 : decode cX4_guesses 3 = .ok (.istore_n 2, 1) := dk_61 (dk_at dksX4_guesses_0 3 rfl rfl)
theorem dX4_guesses_4 : decode cX4_guesses 4 = .ok (.iload_n 2, 1) := dk_28 (dk_at dksX4_guesses_0 4 rfl rfl)
theorem dX4_guesses_5 : decode cX4_guesses 5 = .ok (.aload_n 0, 1) := dk_42 (dk_at dksX4_guesses_0 5 rfl rfl)
theorem dX4_guesses_6 : decode cX4_guesses 6 = .ok (.getfield 162, 3) := dk_180 0 162 (dk_at dksX4_guesses_0 6 rfl rfl)
theorem dX4_guesses_9 : decode cX4_guesses 9 = .ok (.if_icmp .ge 32, 3) := dk_162 0 32 (dk_at dksX4_guesses_0 9 rfl rfl)
theorem dX4_guesses_12 : decode cX4_guesses 12 = .ok (.iload_n 1, 1) := dk_27 (dk_at dksX4_guesses_0 12 rfl rfl)
theorem dX4_guesses_13 : decode cX4_guesses 13 = .ok (.aload_n 0, 1) := dk_42 (dk_at dksX4_guesses_0 13 rfl rfl)
theorem dX4_guesses_14 : decode cX4_guesses 14 = .ok (.getfield 35, 3) := dk_180 0 35 (dk_at dksX4_guesses_0 14 rfl rfl)
theorem dX4_guesses_17 : decode cX4_guesses 17 = .ok (.iconst 4, 1) := dk_7 (dk_at dksX4_guesses_0 17 rfl rfl)
theorem dX4_guesses_18 : decode cX4_guesses 18 = .ok (.iload_n 2, 1) := dk_28 (dk_at dksX4_guesses_0 18 rfl rfl)
theorem dX4_guesses_19 : decode cX4_guesses 19 = .ok (.iadd, 1) := dk_96 (dk_at dksX4_guesses_0 19 rfl rfl)
theorem dX4_guesses_20 : decode cX4_guesses 20 = .ok (.iaload, 1) := dk_46 (dk_at dksX4_guesses_0 20 rfl rfl)
theorem dX4_guesses_21 : decode cX4_guesses 21 = .ok (.iconst (-1), 1) := dk_2 (dk_at dksX4_guesses_0 21 rfl rfl)
theorem dX4_guesses_22 : decode cX4_guesses 22 = .ok (.if_icmp .eq 7, 3) := dk_159 0 7 (dk_at dksX4_guesses_1 0 rfl rfl)
theorem dX4_guesses_25 : decode cX4_guesses 25 = .ok (.iconst 1, 1) := dk_4 (dk_at dksX4_guesses_1 3 rfl rfl)
theorem dX4_guesses_26 : decode cX4_guesses 26 = .ok (.goto 4, 3) := dk_167 0 4 (dk_at dksX4_guesses_1 4 rfl rfl)
theorem dX4_guesses_29 : decode cX4_guesses 29 = .ok (.iconst 0, 1) := dk_3 (dk_at dksX4_guesses_1 7 rfl rfl)
theorem dX4_guesses_30 : decode cX4_guesses 30 = .ok (.invokestatic 177, 3) := dk_184 0 177 (dk_at dksX4_guesses_1 8 rfl rfl)
theorem dX4_guesses_33 : decode cX4_guesses 33 = .ok (.iadd, 1) := dk_96 (dk_at dksX4_guesses_1 11 rfl rfl)
theorem dX4_guesses_34 : decode cX4_guesses 34 = .ok (.istore_n 1, 1) := dk_60 (dk_at dksX4_guesses_1 12 rfl rfl)
theorem dX4_guesses_35 : decode cX4_guesses 35 = .ok (.iinc 2 1, 3) := dk_132 2 1 (dk_at dksX4_guesses_1 13 rfl rfl)
theorem dX4_guesses_38 : decode cX4_guesses 38 = .ok (.goto (-34), 3) := dk_167 255 222 (dk_at dksX4_guesses_1 16 rfl rfl)
theorem dX4_guesses_41 : decode cX4_guesses 41 = .ok (.iload_n 1, 1) := dk_27 (dk_at dksX4_guesses_1 19 rfl rfl)
theorem dX4_guesses_42 : decode cX4_guesses 42 = .ok (.ireturn, 1) := dk_172 (dk_at dksX4_guesses_1 20 rfl rfl)
