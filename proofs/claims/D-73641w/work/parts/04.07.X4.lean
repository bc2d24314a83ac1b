set_option maxRecDepth 100000
def dkwX4_isClueTold_4 : List UInt8 := [184, 0, 177, 160, 0, 5, 4, 172, 132, 4, 1, 167, 255, 154, 3, 172]
abbrev dktX4_isClueTold_4 : List UInt8 := dkwX4_isClueTold_4 ++ []
def dkwX4_isClueTold_3 : List UInt8 := [4, 167, 0, 4, 3, 54, 6, 21, 6, 153, 0, 21, 42, 180, 0, 35, 21, 5, 5, 96, 46, 29]
abbrev dktX4_isClueTold_3 : List UInt8 := dkwX4_isClueTold_3 ++ dktX4_isClueTold_4
def dkwX4_isClueTold_2 : List UInt8 := [42, 180, 0, 35, 21, 5, 46, 28, 160, 0, 20, 42, 180, 0, 35, 21, 5, 4, 96, 46, 27, 160, 0, 7]
abbrev dktX4_isClueTold_2 : List UInt8 := dkwX4_isClueTold_2 ++ dktX4_isClueTold_3
def dkwX4_isClueTold_1 : List UInt8 := [42, 180, 0, 35, 21, 5, 46, 27, 160, 0, 16, 42, 180, 0, 35, 21, 5, 4, 96, 46, 28, 159, 0, 27]
abbrev dktX4_isClueTold_1 : List UInt8 := dkwX4_isClueTold_1 ++ dktX4_isClueTold_2
def dkwX4_isClueTold_0 : List UInt8 := [3, 54, 4, 21, 4, 42, 180, 0, 35, 6, 46, 162, 0, 97, 17, 1, 168, 6, 21, 4, 104, 96, 54, 5]
abbrev dktX4_isClueTold_0 : List UInt8 := dkwX4_isClueTold_0 ++ dktX4_isClueTold_1
theorem dksX4_isClueTold_0 : cX4_isClueTold.data.toList.drop 0 = dktX4_isClueTold_0 := by decide +kernel
theorem dksX4_isClueTold_1 : cX4_isClueTold.data.toList.drop 24 = dktX4_isClueTold_1 := dk_seg dksX4_isClueTold_0 24 rfl rfl
theorem dksX4_isClueTold_2 : cX4_isClueTold.data.toList.drop 48 = dktX4_isClueTold_2 := dk_seg dksX4_isClueTold_1 24 rfl rfl
theorem dksX4_isClueTold_3 : cX4_isClueTold.data.toList.drop 72 = dktX4_isClueTold_3 := dk_seg dksX4_isClueTold_2 24 rfl rfl
theorem dksX4_isClueTold_4 : cX4_isClueTold.data.toList.drop 94 = dktX4_isClueTold_4 := dk_seg dksX4_isClueTold_3 22 rfl rfl
theorem dX4_isClueTold_0 : decode cX4_isClueTold 0 = .ok (.iconst 0, 1) := dk_3 (dk_at dksX4_isClueTold_0 0 rfl rfl)
theorem dX4_isClueTold_1 : decode cX4_isClueTold 1 = .ok (.istore 4, 2) := dk_54 4 (dk_at dksX4_isClueTold_0 1 rfl rfl)
theorem dX4_isClueTold_3 : decode cX4_isClueTold 3 = .ok (.iload 4, 2) := dk_21 4 (dk_at dksX4_isClueTold_0 3 rfl rfl)
theorem dX4_isClueTold_5 : decode cX4_isClueTold 5 = .ok (.aload_n 0, 1) := dk_42 (dk_at dksX4_isClueTold_0 5 rfl rfl)
theorem dX4_isClueTold_6 : decode cX4_isClueTold 6 = .ok (.getfield 35, 3) := dk_180 0 35 (dk_at dksX4_isClueTold_0 6 rfl rfl)
theorem dX4_isClueTold_9 : decode cX4_isClueTold 9 = .ok (.iconst 3, 1) := dk_6 (dk_at dksX4_isClueTold_0 9 rfl rfl)
theorem dX4_isClueTold_10 : decode cX4_isClueTold 10 = .ok (.iaload, 1) := dk_46 (dk_at dksX4_isClueTold_0 10 rfl rfl)
theorem dX4_isClueTold_11 : decode cX4_isClueTold 11 = .ok (.if_icmp .ge 97, 3) := dk_162 0 97 (dk_at dksX4_isClueTold_0 11 rfl rfl)
theorem dX4_isClueTold_14 : decode cX4_isClueTold 14 = .ok (.sipush 424, 3) := dk_17 1 168 (dk_at dksX4_isClueTold_0 14 rfl rfl)
theorem dX4_isClueTold_17 : decode cX4_isClueTold 17 = .ok (.iconst 3, 1) := dk_6 (dk_at dksX4_isClueTold_0 17 rfl rfl)
theorem dX4_isClueTold_18 : decode cX4_isClueTold 18 = .ok (.iload 4, 2) := dk_21 4 (dk_at dksX4_isClueTold_0 18 rfl rfl)
theorem dX4_isClueTold_20 : decode cX4_isClueTold 20 = .ok (.imul, 1) := dk_104 (dk_at dksX4_isClueTold_0 20 rfl rfl)
theorem dX4_isClueTold_21 : decode cX4_isClueTold 21 = .ok (.iadd, 1) := dk_96 (dk_at dksX4_isClueTold_0 21 rfl rfl)
theorem dX4_isClueTold_22 : decode cX4_isClueTold 22 = .ok (.istore 5, 2) := dk_54 5 (dk_at dksX4_isClueTold_0 22 rfl rfl)
theorem dX4_isClueTold_24 : decode cX4_isClueTold 24 = .ok (.aload_n 0, 1) := dk_42 (dk_at dksX4_isClueTold_1 0 rfl rfl)
theorem dX4_isClueTold_25 : decode cX4_isClueTold 25 = .ok (.getfield 35, 3) := dk_180 0 35 (dk_at dksX4_isClueTold_1 1 rfl rfl)
theorem dX4_isClueTold_28 : decode cX4_isClueTold 28 = .ok (.iload 5, 2) := dk_21 5 (dk_at dksX4_isClueTold_1 4 rfl rfl)
theorem dX4_isClueTold_30 : decode cX4_isClueTold 30 = .ok (.iaload, 1) := dk_46 (dk_at dksX4_isClueTold_1 6 rfl rfl)
theorem dX4_isClueTold_31 : decode cX4_isClueTold 31 = .ok (.iload_n 1, 1) := dk_27 (dk_at dksX4_isClueTold_1 7 rfl rfl)
theorem dX4_isClueTold_32 : decode cX4_isClueTold 32 = .ok (.if_icmp .ne 16, 3) := dk_160 0 16 (dk_at dksX4_isClueTold_1 8 rfl rfl)
theorem dX4_isClueTold_35 : decode cX4_isClueTold 35 = .ok (.aload_n 0, 1) := dk_42 (dk_at dksX4_isClueTold_1 11 rfl rfl)
theorem dX4_isClueTold_36 : decode cX4_isClueTold 36 = .ok (.getfield 35, 3) := dk_180 0 35 (dk_at dksX4_isClueTold_1 12 rfl rfl)
theorem dX4_isClueTold_39 : decode cX4_isClueTold 39 = .ok (.iload 5, 2) := dk_21 5 (dk_at dksX4_isClueTold_1 15 rfl rfl)
theorem dX4_isClueTold_41 : decode cX4_isClueTold 41 = .ok (.iconst 1, 1) := dk_4 (dk_at dksX4_isClueTold_1 17 rfl rfl)
theorem dX4_isClueTold_42 : decode cX4_isClueTold 42 = .ok (.iadd, 1) := dk_96 (dk_at dksX4_isClueTold_1 18 rfl rfl)
theorem dX4_isClueTold_43 : decode cX4_isClueTold 43 = .ok (.iaload, 1) := dk_46 (dk_at dksX4_isClueTold_1 19 rfl rfl)
theorem dX4_isClueTold_44 : decode cX4_isClueTold 44 = .ok (.iload_n 2, 1) := dk_28 (dk_at dksX4_isClueTold_1 20 rfl rfl)
theorem dX4_isClueTold_45 : decode cX4_isClueTold 45 = .ok (.if_icmp .eq 27, 3) := dk_159 0 27 (dk_at dksX4_isClueTold_1 21 rfl rfl)
theorem dX4_isClueTold_48 : decode cX4_isClueTold 48 = .ok (.aload_n 0, 1) := dk_42 (dk_at dksX4_isClueTold_2 0 rfl rfl)
theorem dX4_isClueTold_49 : decode cX4_isClueTold 49 = .ok (.getfield 35, 3) := dk_180 0 35 (dk_at dksX4_isClueTold_2 1 rfl rfl)
theorem dX4_isClueTold_52 : decode cX4_isClueTold 52 = .ok (.iload 5, 2) := dk_21 5 (dk_at dksX4_isClueTold_2 4 rfl rfl)
theorem dX4_isClueTold_54 : decode cX4_isClueTold 54 = .ok (.iaload, 1) := dk_46 (dk_at dksX4_isClueTold_2 6 rfl rfl)
theorem dX4_isClueTold_55 : decode cX4_isClueTold 55 = .ok (.iload_n 2, 1) := dk_28 (dk_at dksX4_isClueTold_2 7 rfl rfl)
theorem dX4_isClueTold_56 : decode cX4_isClueTold 56 = .ok (.if_icmp .ne 20, 3) := dk_160 0 20 (dk_at dksX4_isClueTold_2 8 rfl rfl)
theorem dX4_isClueTold_59 : decode cX4_isClueTold 59 = .ok (.aload_n 0, 1) := dk_42 (dk_at dksX4_isClueTold_2 11 rfl rfl)
theorem dX4_isClueTold_60 : decode cX4_isClueTold 60 = .ok (.getfield 35, 3) := dk_180 0 35 (dk_at dksX4_isClueTold_2 12 rfl rfl)
theorem dX4_isClueTold_63 : decode cX4_isClueTold 63 = .ok (.iload 5, 2) := dk_21 5 (dk_at dksX4_isClueTold_2 15 rfl rfl)
theorem dX4_isClueTold_65 : decode cX4_isClueTold 65 = .ok (.iconst 1, 1) := dk_4 (dk_at dksX4_isClueTold_2 17 rfl rfl)
theorem dX4_isClueTold_66 : decode cX4_isClueTold 66 = .ok (.iadd, 1) := dk_96 (dk_at dksX4_isClueTold_2 18 rfl rfl)
theorem dX4_isClueTold_67 : decode cX4_isClueTold 67 = .ok (.iaload, 1) := dk_46 (dk_at dksX4_isClueTold_2 19 rfl rfl)
theorem dX4_isClueTold_68 : decode cX4_isClueTold 68 = .ok (.iload_n 1, 1) := dk_27 (dk_at dksX4_isClueTold_2 20 rfl rfl)
theorem dX4_isClueTold_69 : decode cX4_isClueTold 69 = .ok (.if_icmp .ne 7, 3) := dk_160 0 7 (dk_at dksX4_isClueTold_2 21 rfl rfl)
theorem dX4_isClueTold_72 : decode cX4_isClueTold 72 = .ok (.iconst 1, 1) := dk_4 (dk_at dksX4_isClueTold_3 0 rfl rfl)
theorem dX4_isClueTold_73 : decode cX4_isClueTold 73 = .ok (.goto 4, 3) := dk_167 0 4 (dk_at dksX4_isClueTold_3 1 rfl rfl)
theorem dX4_isClueTold_76 : decode cX4_isClueTold 76 = .ok (.iconst 0, 1) := dk_3 (dk_at dksX4_isClueTold_3 4 rfl rfl)
theorem dX4_isClueTold_77 : decode cX4_isClueTold 77 = .ok (.istore 6, 2) := dk_54 6 (dk_at dksX4_isClueTold_3 5 rfl rfl)
theorem dX4_isClueTold_79 : decode cX4_isClueTold 79 = .ok (.iload 6, 2) := dk_21 6 (dk_at dksX4_isClueTold_3 7 rfl rfl)
theorem dX4_isClueTold_81 : decode cX4_isClueTold 81 = .ok (.ifCond .eq 21, 3) := dk_153 0 21 (dk_at dksX4_isClueTold_3 9 rfl rfl)
theorem dX4_isClueTold_84 : decode cX4_isClueTold 84 = .ok (.aload_n 0, 1) := dk_42 (dk_at dksX4_isClueTold_3 12 rfl rfl)
theorem dX4_isClueTold_85 : decode cX4_isClueTold 85 = .ok (.getfield 35, 3) := dk_180 0 35 (dk_at dksX4_isClueTold_3 13 rfl rfl)
theorem dX4_isClueTold_88 : decode cX4_isClueTold 88 = .ok (.iload 5, 2) := dk_21 5 (dk_at dksX4_isClueTold_3 16 rfl rfl)
theorem dX4_isClueTold_90 : decode cX4_isClueTold 90 = .ok (.iconst 2, 1) := dk_5 (dk_at dksX4_isClueTold_3 18 rfl rfl)
theorem dX4_isClueTold_91 : decode cX4_isClueTold 91 = .ok (.iadd, 1) := dk_96 (dk_at dksX4_isClueTold_3 19 rfl rfl)
theorem dX4_isClueTold_92 : decode cX4_isClueTold 92 = .ok (.iaload, 1) := dk_46 (dk_at dksX4_isClueTold_3 20 rfl rfl)
theorem dX4_isClueTold_93 : decode cX4_isClueTold 93 = .ok (.iload_n 3, 1) := dk_29 (dk_at dksX4_isClueTold_3 21 rfl rfl)
theorem dX4_isClueTold_94 : decode cX4_isClueTold 94 = .ok (.invokestatic 177, 3) := dk_184 0 177 (dk_at dksX4_isClueTold_4 0 rfl rfl)
theorem dX4_isClueTold_97 : decode cX4_isClueTold 97 = .ok (.if_icmp .ne 5, 3) := dk_160 0 5 (dk_at dksX4_isClueTold_4 3 rfl rfl)
theorem dX4_isClueTold_100 : decode cX4_isClueTold 100 = .ok (.iconst 1, 1) := dk_4 (dk_at dksX4_isClueTold_4 6 rfl rfl)
theorem dX4_isClueTold_101 : decode cX4_isClueTold 101 = .ok (.ireturn, 1) := dk_172 (dk_at dksX4_isClueTold_4 7 rfl rfl)
theorem dX4_isClueTold_102 : decode cX4_isClueTold 102 = .ok (.iinc 4 1, 3) := dk_132 4 1 (dk_at dksX4_isClueTold_4 8 rfl rfl)
theorem dX4_isClueTold_105 : decode cX4_isClueTold 105 = .ok (.goto (-102), 3) := dk_167 255 154 (dk_at dksX4_isClueTold_4 11 rfl rfl)
theorem dX4_isClueTold_108 : decode cX4_isClueTold 108 = .ok (.iconst 0, 1) := dk_3 (dk_at dksX4_isClueTold_4 14 rfl rfl)
theorem dX4_isClueTold_109 : decode cX4_isClueTold 109 = .ok (.ireturn, 1) := dk_172 (dk_at dksX4_isClueTold_4 15 rfl rfl)
def dkwX4_guess_4 : List UInt8 := [96, 21, 5, 79, 42, 182, 0, 235, 42, 182, 0, 242, 172]
abbrev dktX4_guess_4 : List UInt8 := dkwX4_guess_4 ++ []
def dkwX4_guess_3 : List UInt8 := [180, 0, 35, 7, 27, 96, 46, 21, 5, 160, 0, 5, 2, 172, 42, 182, 0, 214, 42, 180, 0, 35, 7, 27]
abbrev dktX4_guess_3 : List UInt8 := dkwX4_guess_3 ++ dktX4_guess_4
def dkwX4_guess_2 : List UInt8 := [154, 0, 5, 2, 172, 21, 4, 153, 0, 7, 2, 167, 0, 8, 8, 28, 104, 29, 96, 54, 5, 42]
abbrev dktX4_guess_2 : List UInt8 := dkwX4_guess_2 ++ dktX4_guess_3
def dkwX4_guess_1 : List UInt8 := [153, 0, 27, 21, 4, 154, 0, 24, 28, 3, 16, 9, 184, 0, 123, 153, 0, 12, 29, 3, 7, 184, 0, 123]
abbrev dktX4_guess_1 : List UInt8 := dkwX4_guess_1 ++ dktX4_guess_2
def dkwX4_guess_0 : List UInt8 := [28, 2, 160, 0, 12, 29, 2, 160, 0, 7, 4, 167, 0, 4, 3, 54, 4, 42, 27, 182, 0, 224]
abbrev dktX4_guess_0 : List UInt8 := dkwX4_guess_0 ++ dktX4_guess_1
theorem dksX4_guess_0 : cX4_guess.data.toList.drop 0 = dktX4_guess_0 := by decide +kernel
theorem dksX4_guess_1 : cX4_guess.data.toList.drop 22 = dktX4_guess_1 := dk_seg dksX4_guess_0 22 rfl rfl
theorem dksX4_guess_2 : cX4_guess.data.toList.drop 46 = dktX4_guess_2 := dk_seg dksX4_guess_1 24 rfl rfl
theorem dksX4_guess_3 : cX4_guess.data.toList.drop 68 = dktX4_guess_3 := dk_seg dksX4_guess_2 22 rfl rfl
theorem dksX4_guess_4 : cX4_guess.data.toList.drop 92 = dktX4_guess_4 := dk_seg dksX4_guess_3 24 rfl rfl
theorem dX4_guess_0 : decode cX4_guess 0 = .ok (.iload_n 2, 1) := dk_28 (dk_at dksX4_guess_0 0 rfl rfl)
theorem dX4_guess_1 : decode cX4_guess 1 = .ok (.iconst (-1), 1) := dk_2 (dk_at dksX4_guess_0 1 rfl rfl)
theorem dX4_guess_2 : decode cX4_guess 2 = .ok (.if_icmp .ne 12, 3) := dk_160 0 12 (dk_at dksX4_guess_0 2 rfl rfl)
theorem dX4_guess_5 : decode cX4_guess 5 = .ok (.iload_n 3, 1) := dk_29 (dk_at dksX4_guess_0 5 rfl rfl)
theorem dX4_guess_6 : decode cX4_guess 6 = .ok (.iconst (-1), 1) := dk_2 (dk_at dksX4_guess_0 6 rfl rfl)
theorem dX4_guess_7 : decode cX4_guess 7 = .ok (.if_icmp .ne 7, 3) := dk_160 0 7 (dk_at dksX4_guess_0 7 rfl rfl)
theorem dX4_guess_10 : decode cX4_guess 10 = .ok (.iconst 1, 1) := dk_4 (dk_at dksX4_guess_0 10 rfl rfl)
theorem dX4_guess_11 : decode cX4_guess 11 = .ok (.goto 4, 3) := dk_167 0 4 (dk_at dksX4_guess_0 11 rfl rfl)
theorem dX4_guess_14 : decode cX4_guess 14 = .ok (.iconst 0, 1) := dk_3 (dk_at dksX4_guess_0 14 rfl rfl)
theorem dX4_guess_15 : decode cX4_guess 15 = .ok (.istore 4, 2) := dk_54 4 (dk_at dksX4_guess_0 15 rfl rfl)
theorem dX4_guess_17 : decode cX4_guess 17 = .ok (.aload_n 0, 1) := dk_42 (dk_at dksX4_guess_0 17 rfl rfl)
theorem dX4_guess_18 : decode cX4_guess 18 = .ok (.iload_n 1, 1) := dk_27 (dk_at dksX4_guess_0 18 rfl rfl)
theorem dX4_guess_19 : decode cX4_guess 19 = .ok (.invokevirtual 224, 3) := dk_182 0 224 (dk_at dksX4_guess_0 19 rfl rfl)
theorem dX4_guess_22 : decode cX4_guess 22 = .ok (.ifCond .eq 27, 3) := dk_153 0 27 (dk_at dksX4_guess_1 0 rfl rfl)
theorem dX4_guess_25 : decode cX4_guess 25 = .ok (.iload 4, 2) := dk_21 4 (dk_at dksX4_guess_1 3 rfl rfl)
theorem dX4_guess_27 : decode cX4_guess 27 = .ok (.ifCond .ne 24, 3) := dk_154 0 24 (dk_at dksX4_guess_1 5 rfl rfl)
theorem dX4_guess_30 : decode cX4_guess 30 = .ok (.iload_n 2, 1) := dk_28 (dk_at dksX4_guess_1 8 rfl rfl)
theorem dX4_guess_31 : decode cX4_guess 31 = .ok (.iconst 0, 1) := dk_3 (dk_at dksX4_guess_1 9 rfl rfl)
theorem dX4_guess_32 : decode cX4_guess 32 = .ok (.bipush 9, 2) := dk_16 9 (dk_at dksX4_guess_1 10 rfl rfl)
theorem dX4_guess_34 : decode cX4_guess 34 = .ok (.invokestatic 123, 3) := dk_184 0 123 (dk_at dksX4_guess_1 12 rfl rfl)
theorem dX4_guess_37 : decode cX4_guess 37 = .ok (.ifCond .eq 12, 3) := dk_153 0 12 (dk_at dksX4_guess_1 15 rfl rfl)
theorem dX4_guess_40 : decode cX4_guess 40 = .ok (.iload_n 3, 1) := dk_29 (dk_at dksX4_guess_1 18 rfl rfl)
theorem dX4_guess_41 : decode cX4_guess 41 = .ok (.iconst 0, 1) := dk_3 (dk_at dksX4_guess_1 19 rfl rfl)
theorem dX4_guess_42 : decode cX4_guess 42 = .ok (.iconst 4, 1) := dk_7 (dk_at dksX4_guess_1 20 rfl rfl)
theorem dX4_guess_43 : decode cX4_guess 43 = .ok (.invokestatic 123, 3) := dk_184 0 123 (dk_at dksX4_guess_1 21 rfl rfl)
theorem dX4_guess_46 : decode cX4_guess 46 = .ok (.ifCond .ne 5, 3) := dk_154 0 5 (dk_at dksX4_guess_2 0 rfl rfl)
theorem dX4_guess_49 : decode cX4_guess 49 = .ok (.iconst (-1), 1) := dk_2 (dk_at dksX4_guess_2 3 rfl rfl)
theorem dX4_guess_50 : decode cX4_guess 50 = .ok (.ireturn, 1) := dk_172 (dk_at dksX4_guess_2 4 rfl rfl)
theorem dX4_guess_51 : decode cX4_guess 51 = .ok (.iload 4, 2) := dk_21 4 (dk_at dksX4_guess_2 5 rfl rfl)
theorem dX4_guess_53 : decode cX4_guess 53 = .ok (.ifCond .eq 7, 3) := dk_153 0 7 (dk_at dksX4_guess_2 7 rfl rfl)
theorem dX4_guess_56 : decode cX4_guess 56 = .ok (.iconst (-1), 1) := dk_2 (dk_at dksX4_guess_2 10 rfl rfl)
theorem dX4_guess_57 : decode cX4_guess 57 = .ok (.goto 8, 3) := dk_167 0 8 (dk_at dksX4_guess_2 11 rfl rfl)
theorem dX4_guess_60 : decode cX4_guess 60 = .ok (.iconst 5, 1) := dk_8 (dk_at dksX4_guess_2 14 rfl rfl)
theorem dX4_guess_61 : decode cX4_guess 61 = .ok (.iload_n 2, 1) := dk_28 (dk_at dksX4_guess_2 15 rfl rfl)
theorem dX4_guess_62 : decode cX4_guess 62 = .ok (.imul, 1) := dk_104 (dk_at dksX4_guess_2 16 rfl rfl)
theorem dX4_guess_63 : decode cX4_guess 63 = .ok (.iload_n 3, 1) := dk_29 (dk_at dksX4_guess_2 17 rfl rfl)
theorem dX4_guess_64 : decode cX4_guess 64 = .ok (.iadd, 1) := dk_96 (dk_at dksX4_guess_2 18 rfl rfl)
theorem dX4_guess_65 : decode cX4_guess 65 = .ok (.istore 5, 2) := dk_54 5 (dk_at dksX4_guess_2 19 rfl rfl)
theorem dX4_guess_67 : decode cX4_guess 67 = .ok (.aload_n 0, 1) := dk_42 (dk_at dksX4_guess_2 21 rfl rfl)
theorem dX4_guess_68 : decode cX4_guess 68 = .ok (.getfield 35, 3) := dk_180 0 35 (dk_at dksX4_guess_3 0 rfl rfl)
theorem dX4_guess_71 : decode cX4_guess 71 = .ok (.iconst 4, 1) := dk_7 (dk_at dksX4_guess_3 3 rfl rfl)
theorem dX4_guess_72 : decode cX4_guess 72 = .ok (.iload_n 1, 1) := dk_27 (dk_at dksX4_guess_3 4 rfl rfl)
theorem dX4_guess_73 : decode cX4_guess 73 = .ok (.iadd, 1) := dk_96 (dk_at dksX4_guess_3 5 rfl rfl)
theorem dX4_guess_74 : decode cX4_guess 74 = .ok (.iaload, 1) := dk_46 (dk_at dksX4_guess_3 6 rfl rfl)
theorem dX4_guess_75 : decode cX4_guess 75 = .ok (.iload 5, 2) := dk_21 5 (dk_at dksX4_guess_3 7 rfl rfl)
theorem dX4_guess_77 : decode cX4_guess 77 = .ok (.if_icmp .ne 5, 3) := dk_160 0 5 (dk_at dksX4_guess_3 9 rfl rfl)
theorem dX4_guess_80 : decode cX4_guess 80 = .ok (.iconst (-1), 1) := dk_2 (dk_at dksX4_guess_3 12 rfl rfl)
theorem dX4_guess_81 : decode cX4_guess 81 = .ok (.ireturn, 1) := dk_172 (dk_at dksX4_guess_3 13 rfl rfl)
theorem dX4_guess_82 : decode cX4_guess 82 = .ok (.aload_n 0, 1) := dk_42 (dk_at dksX4_guess_3 14 rfl rfl)
theorem dX4_guess_83 : decode cX4_guess 83 = .ok (.invokevirtual 214, 3) := dk_182 0 214 (dk_at dksX4_guess_3 15 rfl rfl)
theorem dX4_guess_86 : decode cX4_guess 86 = .ok (.aload_n 0, 1) := dk_42 (dk_at dksX4_guess_3 18 rfl rfl)
theorem dX4_guess_87 : decode cX4_guess 87 = .ok (.getfield 35, 3) := dk_180 0 35 (dk_at dksX4_guess_3 19 rfl rfl)
theorem dX4_guess_90 : decode cX4_guess 90 = .ok (.iconst 4, 1) := dk_7 (dk_at dksX4_guess_3 22 rfl rfl)
theorem dX4_guess_91 : decode cX4_guess 91 = .ok (.iload_n 1, 1) := dk_27 (dk_at dksX4_guess_3 23 rfl rfl)
theorem dX4_guess_92 : decode cX4_guess 92 = .ok (.iadd, 1) := dk_96 (dk_at dksX4_guess_4 0 rfl rfl)
theorem dX4_guess_93 : decode cX4_guess 93 = .ok (.iload 5, 2) := dk_21 5 (dk_at dksX4_guess_4 1 rfl rfl)
theorem dX4_guess_95 : decode cX4_guess 95 = .ok (.iastore, 1) := dk_79 (dk_at dksX4_guess_4 3 rfl rfl)
theorem dX4_guess_96 : decode cX4_guess 96 = .ok (.aload_n 0, 1) := dk_42 (dk_at dksX4_guess_4 4 rfl rfl)
theorem dX4_guess_97 : decode cX4_guess 97 = .ok (.invokevirtual 235, 3) := dk_182 0 235 (dk_at dksX4_guess_4 5 rfl rfl)
theorem dX4_guess_100 : decode cX4_guess 100 = .ok (.aload_n 0, 1) := dk_42 (dk_at dksX4_guess_4 8 rfl rfl)
theorem dX4_guess_101 : decode cX4_guess 101 = .ok (.invokevirtual 242, 3) := dk_182 0 242 (dk_at dksX4_guess_4 9 rfl rfl)
theorem dX4_guess_104 : decode cX4_guess 104 = .ok (.ireturn, 1) := dk_172 (dk_at dksX4_guess_4 12 rfl rfl)
def dkwX4_disputedMany_1 : List UInt8 := [182, 1, 115, 153, 0, 7, 4, 167, 0, 4, 3, 184, 0, 177, 96, 60, 132, 2, 1, 167, 255, 218, 27, 172]
abbrev dktX4_disputedMany_1 : List UInt8 := dkwX4_disputedMany_1 ++ []
def dkwX4_disputedMany_0 : List UInt8 := [3, 60, 3, 61, 28, 42, 180, 0, 162, 162, 0, 36, 27, 42, 28, 182, 1, 100, 153, 0, 15, 42, 28]
abbrev dktX4_disputedMany_0 : List UInt8 := dkwX4_disputedMany_0 ++ dktX4_disputedMany_1
theorem dksX4_disputedMany_0 : cX4_disputedMany.data.toList.drop 0 = dktX4_disputedMany_0 := by decide +kernel
theorem dksX4_disputedMany_1 : cX4_disputedMany.data.toList.drop 23 = dktX4_disputedMany_1 := dk_seg dksX4_disputedMany_0 23 rfl rfl
theorem dX4_disputedMany_0 : decode cX4_disputedMany 0 = .ok (.iconst 0, 1) := dk_3 (dk_at dksX4_disputedMany_0 0 rfl rfl)
theorem dX4_disputedMany_1 : decode cX4_disputedMany 1 = .ok (.istore_n 1, 1) := dk_60 (dk_at dksX4_disputedMany_0 1 rfl rfl)
theorem dX4_disputedMany_2 : decode cX4_disputedMany 2 = .ok (.iconst 0, 1) := dk_3 (dk_at dksX4_disputedMany_0 2 rfl rfl)
theorem dX4_disputedMany_3 : decode cX4_disputedMany 3 = .ok (.istore_n 2, 1) := dk_61 (dk_at dksX4_disputedMany_0 3 rfl rfl)
theorem dX4_disputedMany_4 : decode cX4_disputedMany 4 = .ok (.iload_n 2, 1) := dk_28 (dk_at dksX4_disputedMany_0 4 rfl rfl)
theorem dX4_disputedMany_5 : decode cX4_disputedMany 5 = .ok (.aload_n 0, 1) := dk_42 (dk_at dksX4_disputedMany_0 5 rfl rfl)
theorem dX4_disputedMany_6 : decode cX4_disputedMany 6 = .ok (.getfield 162, 3) := dk_180 0 162 (dk_at dksX4_disputedMany_0 6 rfl rfl)
theorem dX4_disputedMany_9 : decode cX4_disputedMany 9 = .ok (.if_icmp .ge 36, 3) := dk_162 0 36 (dk_at dksX4_disputedMany_0 9 rfl rfl)
theorem dX4_disputedMany_12 : decode cX4_disputedMany 12 = .ok (.iload_n 1, 1) := dk_27 (dk_at dksX4_disputedMany_0 12 rfl rfl)
theorem dX4_disputedMany_13 : decode cX4_disputedMany 13 = .ok (.aload_n 0, 1) := dk_42 (dk_at dksX4_disputedMany_0 13 rfl rfl)
theorem dX4_disputedMany_14 : decode cX4_disputedMany 14 = .ok (.iload_n 2, 1) := dk_28 (dk_at dksX4_disputedMany_0 14 rfl rfl)
theorem dX4_disputedMany_15 : decode cX4_disputedMany 15 = .ok (.invokevirtual 356, 3) := dk_182 1 100 (dk_at dksX4_disputedMany_0 15 rfl rfl)
theorem dX4_disputedMany_18 : decode cX4_disputedMany 18 = .ok (.ifCond .eq 15, 3) := dk_153 0 15 (dk_at dksX4_disputedMany_0 18 rfl rfl)
theorem dX4_disputedMany_21 : decode cX4_disputedMany 21 = .ok (.aload_n 0, 1) := dk_42 (dk_at dksX4_disputedMany_0 21 rfl rfl)
theorem dX4_disputedMany_22 : decode cX4_disputedMany 22 = .ok (.iload_n 2, 1) := dk_28 (dk_at dksX4_disputedMany_0 22 rfl rfl)
theorem dX4_disputedMany_23 : decode cX4_disputedMany 23 = .ok (.invokevirtual 371, 3) := dk_182 1 115 (dk_at dksX4_disputedMany_1 0 rfl rfl)
theorem dX4_disputedMany_26 : decode cX4_disputedMany 26 = .ok (.ifCond .eq 7, 3) := dk_153 0 7 (dk_at dksX4_disputedMany_1 3 rfl rfl)
theorem dX4_disputedMany_29 : decode cX4_disputedMany 29 = .ok (.iconst 1, 1) := dk_4 (dk_at dksX4_disputedMany_1 6 rfl rfl)
theorem dX4_disputedMany_30 : decode cX4_disputedMany 30 = .ok (.goto 4, 3) := dk_167 0 4 (dk_at dksX4_disputedMany_1 7 rfl rfl)
theorem dX4_disputedMany_33 : decode cX4_disputedMany 33 = .ok (.iconst 0, 1) := dk_3 (dk_at dksX4_disputedMany_1 10 rfl rfl)
theorem dX4_disputedMany_34 : decode cX4_disputedMany 34 = .ok (.invokestatic 177, 3) := dk_184 0 177 (dk_at dksX4_disputedMany_1 11 rfl rfl)
theorem dX4_disputedMany_37 : decode cX4_disputedMany 37 = .ok (.iadd, 1) := dk_96 (dk_at dksX4_disputedMany_1 14 rfl rfl)
theorem dX4_disputedMany_38 : decode cX4_disputedMany 38 = .ok (.istore_n 1, 1) := dk_60 (dk_at dksX4_disputedMany_1 15 rfl rfl)
theorem dX4_disputedMany_39 : decode cX4_disputedMany 39 = .ok (.iinc 2 1, 3) := dk_132 2 1 (dk_at dksX4_disputedMany_1 16 rfl rfl)
theorem dX4_disputedMany_42 : decode cX4_disputedMany 42 = .ok (.goto (-38), 3) := dk_167 255 218 (dk_at dksX4_disputedMany_1 19 rfl rfl)
theorem dX4_disputedMany_45 : decode cX4_disputedMany 45 = .ok (.iload_n 1, 1) := dk_27 (dk_at dksX4_disputedMany_1 22 rfl rfl)
theorem dX4_disputedMany_46 : decode cX4_disputedMany 46 = .ok (.ireturn, 1) := dk_172 (dk_at dksX4_disputedMany_1 23 rfl rfl)
def dkwX4_isSign_0 : List UInt8 := [42, 180, 0, 41, 27, 46, 27, 160, 0, 7, 4, 167, 0, 4, 3, 172]
abbrev dktX4_isSign_0 : List UInt8 := dkwX4_isSign_0 ++ []
theorem dksX4_isSign_0 : cX4_isSign.data.toList.drop 0 = dktX4_isSign_0 := by decide +kernel
theorem dX4_isSign_0 : decode cX4_isSign 0 = .ok (.aload_n 0, 1) := dk_42 (dk_at dksX4_isSign_0 0 rfl rfl)
theorem dX4_isSign_1 : decode cX4_isSign 1 = .ok (.getfield 41, 3) := dk_180 0 41 (dk_at dksX4_isSign_0 1 rfl rfl)
theorem dX4_isSign_4 : decode cX4_isSign 4 = .ok (.iload_n 1, 1) := dk_27 (dk_at dksX4_isSign_0 4 rfl rfl)
theorem dX4_isSign_5 : decode cX4_isSign 5 = .ok (.iaload, 1) := dk_46 (dk_at dksX4_isSign_0 5 rfl rfl)
theorem dX4_isSign_6 : decode cX4_isSign 6 = .ok (.iload_n 1, 1) := dk_27 (dk_at dksX4_isSign_0 6 rfl rfl)
theorem dX4_isSign_7 : decode cX4_isSign 7 = .ok (.if_icmp .ne 7, 3) := dk_160 0 7 (dk_at dksX4_isSign_0 7 rfl rfl)
theorem dX4_isSign_10 : decode cX4_isSign 10 = .ok (.iconst 1, 1) := dk_4 (dk_at dksX4_isSign_0 10 rfl rfl)
theorem dX4_isSign_11 : decode cX4_isSign 11 = .ok (.goto 4, 3) := dk_167 0 4 (dk_at dksX4_isSign_0 11 rfl rfl)
theorem dX4_isSign_14 : decode cX4_isSign 14 = .ok (.iconst 0, 1) := dk_3 (dk_at dksX4_isSign_0 14 rfl rfl)
theorem dX4_isSign_15 : decode cX4_isSign 15 = .ok (.ireturn, 1) := dk_172 (dk_at dksX4_isSign_0 15 rfl rfl)
def dkwX4_isDisputed_7 : List UInt8 := [160, 0, 5, 4, 172, 132, 2, 1, 167, 255, 86, 3, 172]
abbrev dktX4_isDisputed_7 : List UInt8 := dkwX4_isDisputed_7 ++ []
def dkwX4_isDisputed_6 : List UInt8 := [27, 46, 160, 0, 26, 42, 180, 0, 84, 16, 20, 28, 96, 46, 42, 180, 0, 84, 16, 20, 27, 96, 46]
abbrev dktX4_isDisputed_6 : List UInt8 := dkwX4_isDisputed_6 ++ dktX4_isDisputed_7
def dkwX4_isDisputed_5 : List UInt8 := [182, 1, 112, 153, 0, 49, 42, 28, 182, 1, 112, 153, 0, 41, 42, 180, 0, 84, 28, 46, 42, 180, 0, 84]
abbrev dktX4_isDisputed_5 : List UInt8 := dkwX4_isDisputed_5 ++ dktX4_isDisputed_6
def dkwX4_isDisputed_4 : List UInt8 := [132, 3, 1, 167, 255, 171, 42, 180, 0, 41, 28, 46, 42, 180, 0, 41, 27, 46, 159, 0, 57, 42, 27]
abbrev dktX4_isDisputed_4 : List UInt8 := dkwX4_isDisputed_4 ++ dktX4_isDisputed_5
def dkwX4_isDisputed_3 : List UInt8 := [96, 46, 29, 184, 1, 109, 42, 180, 0, 84, 16, 20, 29, 104, 27, 96, 46, 159, 0, 5, 4, 172]
abbrev dktX4_isDisputed_3 : List UInt8 := dkwX4_isDisputed_3 ++ dktX4_isDisputed_4
def dkwX4_isDisputed_2 : List UInt8 := [27, 96, 46, 160, 0, 7, 4, 167, 0, 4, 3, 54, 4, 21, 4, 153, 0, 31, 42, 180, 0, 35, 7, 28]
abbrev dktX4_isDisputed_2 : List UInt8 := dkwX4_isDisputed_2 ++ dktX4_isDisputed_3
def dkwX4_isDisputed_1 : List UInt8 := [46, 2, 159, 0, 32, 42, 180, 0, 78, 16, 20, 29, 104, 28, 96, 46, 42, 180, 0, 78, 16, 20, 29, 104]
abbrev dktX4_isDisputed_1 : List UInt8 := dkwX4_isDisputed_1 ++ dktX4_isDisputed_2
def dkwX4_isDisputed_0 : List UInt8 := [3, 61, 28, 42, 180, 0, 162, 162, 0, 168, 3, 62, 29, 5, 162, 0, 86, 42, 180, 0, 35, 7, 28, 96]
abbrev dktX4_isDisputed_0 : List UInt8 := dkwX4_isDisputed_0 ++ dktX4_isDisputed_1
theorem dksX4_isDisputed_0 : cX4_isDisputed.data.toList.drop 0 = dktX4_isDisputed_0 := by decide +kernel
theorem dksX4_isDisputed_1 : cX4_isDisputed.data.toList.drop 24 = dktX4_isDisputed_1 := dk_seg dksX4_isDisputed_0 24 rfl rfl
theorem dksX4_isDisputed_2 : cX4_isDisputed.data.toList.drop 48 = dktX4_isDisputed_2 := dk_seg dksX4_isDisputed_1 24 rfl rfl
theorem dksX4_isDisputed_3 : cX4_isDisputed.data.toList.drop 72 = dktX4_isDisputed_3 := dk_seg dksX4_isDisputed_2 24 rfl rfl
theorem dksX4_isDisputed_4 : cX4_isDisputed.data.toList.drop 94 = dktX4_isDisputed_4 := dk_seg dksX4_isDisputed_3 22 rfl rfl
theorem dksX4_isDisputed_5 : cX4_isDisputed.data.toList.drop 117 = dktX4_isDisputed_5 := dk_seg dksX4_isDisputed_4 23 rfl rfl
theorem dksX4_isDisputed_6 : cX4_isDisputed.data.toList.drop 141 = dktX4_isDisputed_6 := dk_seg dksX4_isDisputed_5 24 rfl rfl
theorem dksX4_isDisputed_7 : cX4_isDisputed.data.toList.drop 164 = dktX4_isDisputed_7 := dk_seg dksX4_isDisputed_6 23 rfl rfl
theorem dX4_isDisputed_0 : decode cX4_isDisputed 0 = .ok (.iconst 0, 1) := dk_3 (dk_at dksX4_isDisputed_0 0 rfl rfl)
theorem dX4_isDisputed_1 : decode cX4_isDisputed 1 = .ok (.istore_n 2, 1) := dk_61 (dk_at dksX4_isDisputed_0 1 rfl rfl)
theorem dX4_isDisputed_2 : decode cX4_isDisputed 2 = .ok (.iload_n 2, 1) := dk_28 (dk_at dksX4_isDisputed_0 2 rfl rfl)
theorem dX4_isDisputed_3 : decode cX4_isDisputed 3 = .ok (.aload_n 0, 1) := dk_42 (dk_at dksX4_isDisputed_0 3 rfl rfl)
theorem dX4_isDisputed_4 : decode cX4_isDisputed 4 = .ok (.getfield 162, 3) := dk_180 0 162 (dk_at dksX4_isDisputed_0 4 rfl rfl)
theorem dX4_isDisputed_7 : decode cX4_isDisputed 7 = .ok (.if_icmp .ge 168, 3) := dk_162 0 168 (dk_at dksX4_isDisputed_0 7 rfl rfl)
theorem dX4_isDisputed_10 : decode cX4_isDisputed 10 = .ok (.iconst 0, 1) := dk_3 (dk_at dksX4_isDisputed_0 10 rfl rfl)
theorem dX4_isDisputed_11 : decode cX4_isDisputed 11 = .ok (.istore_n 3, 1) := dk_62 (dk_at dksX4_isDisputed_0 11 rfl rfl)
theorem dX4_isDisputed_12 : decode cX4_isDisputed 12 = .ok (.iload_n 3, 1) := dk_29 (dk_at dksX4_isDisputed_0 12 rfl rfl)
theorem dX4_isDisputed_13 : decode cX4_isDisputed 13 = .ok (.iconst 2, 1) := dk_5 (dk_at dksX4_isDisputed_0 13 rfl rfl)
theorem dX4_isDisputed_14 : decode cX4_isDisputed 14 = .ok (.if_icmp .ge 86, 3) := dk_162 0 86 (dk_at dksX4_isDisputed_0 14 rfl rfl)
theorem dX4_isDisputed_17 : decode cX4_isDisputed 17 = .ok (.aload_n 0, 1) := dk_42 (dk_at dksX4_isDisputed_0 17 rfl rfl)
theorem dX4_isDisputed_18 : decode cX4_isDisputed 18 = .ok (.getfield 35, 3) := dk_180 0 35 (dk_at dksX4_isDisputed_0 18 rfl rfl)
theorem dX4_isDisputed_21 : decode cX4_isDisputed 21 = .ok (.iconst 4, 1) := dk_7 (dk_at dksX4_isDisputed_0 21 rfl rfl)
theorem dX4_isDisputed_22 : decode cX4_isDisputed 22 = .ok (.iload_n 2, 1) := dk_28 (dk_at dksX4_isDisputed_0 22 rfl rfl)
theorem dX4_isDisputed_23 : decode cX4_isDisputed 23 = .ok (.iadd, 1) := dk_96 (dk_at dksX4_isDisputed_0 23 rfl rfl)
theorem dX4_isDisputed_24 : decode cX4_isDisputed 24 = .ok (.iaload, 1) := dk_46 (dk_at dksX4_isDisputed_1 0 rfl rfl)
theorem dX4_isDisputed_25 : decode cX4_isDisputed 25 = .ok (.iconst (-1), 1) := dk_2 (dk_at dksX4_isDisputed_1 1 rfl rfl)
theorem dX4_isDisputed_26 : decode cX4_isDisputed 26 = .ok (.if_icmp .eq 32, 3) := dk_159 0 32 (dk_at dksX4_isDisputed_1 2 rfl rfl)
theorem dX4_isDisputed_29 : decode cX4_isDisputed 29 = .ok (.aload_n 0, 1) := dk_42 (dk_at dksX4_isDisputed_1 5 rfl rfl)
theorem dX4_isDisputed_30 : decode cX4_isDisputed 30 = .ok (.getfield 78, 3) := dk_180 0 78 (dk_at dksX4_isDisputed_1 6 rfl rfl)
theorem dX4_isDisputed_33 : decode cX4_isDisputed 33 = .ok (.bipush 20, 2) := dk_16 20 (dk_at dksX4_isDisputed_1 9 rfl rfl)
theorem dX4_isDisputed_35 : decode cX4_isDisputed 35 = .ok (.iload_n 3, 1) := dk_29 (dk_at dksX4_isDisputed_1 11 rfl rfl)
theorem dX4_isDisputed_36 : decode cX4_isDisputed 36 = .ok (.imul, 1) := dk_104 (dk_at dksX4_isDisputed_1 12 rfl rfl)
theorem dX4_isDisputed_37 : decode cX4_isDisputed 37 = .ok (.iload_n 2, 1) := dk_28 (dk_at dksX4_isDisputed_1 13 rfl rfl)
theorem dX4_isDisputed_38 : decode cX4_isDisputed 38 = .ok (.iadd, 1) := dk_96 (dk_at dksX4_isDisputed_1 14 rfl rfl)
theorem dX4_isDisputed_39 : decode cX4_isDisputed 39 = .ok (.iaload, 1) := dk_46 (dk_at dksX4_isDisputed_1 15 rfl rfl)
theorem dX4_isDisputed_40 : decode cX4_isDisputed 40 = .ok (.aload_n 0, 1) := dk_42 (dk_at dksX4_isDisputed_1 16 rfl rfl)
theorem dX4_isDisputed_41 : decode cX4_isDisputed 41 = .ok (.getfield 78, 3) := dk_180 0 78 (dk_at dksX4_isDisputed_1 17 rfl rfl)
theorem dX4_isDisputed_44 : decode cX4_isDisputed 44 = .ok (.bipush 20, 2) := dk_16 20 (dk_at dksX4_isDisputed_1 20 rfl rfl)
theorem dX4_isDisputed_46 : decode cX4_isDisputed 46 = .ok (.iload_n 3, 1) := dk_29 (dk_at dksX4_isDisputed_1 22 rfl rfl)
theorem dX4_isDisputed_47 : decode cX4_isDisputed 47 = .ok (.imul, 1) := dk_104 (dk_at dksX4_isDisputed_1 23 rfl rfl)
theorem dX4_isDisputed_48 : decode cX4_isDisputed 48 = .ok (.iload_n 1, 1) := dk_27 (dk_at dksX4_isDisputed_2 0 rfl rfl)
theorem dX4_isDisputed_49 : decode cX4_isDisputed 49 = .ok (.iadd, 1) := dk_96 (dk_at dksX4_isDisputed_2 1 rfl rfl)
theorem dX4_isDisputed_50 : decode cX4_isDisputed 50 = .ok (.iaload, 1) := dk_46 (dk_at dksX4_isDisputed_2 2 rfl rfl)
theorem dX4_isDisputed_51 : decode cX4_isDisputed 51 = .ok (.if_icmp .ne 7, 3) := dk_160 0 7 (dk_at dksX4_isDisputed_2 3 rfl rfl)
theorem dX4_isDisputed_54 : decode cX4_isDisputed 54 = .ok (.iconst 1, 1) := dk_4 (dk_at dksX4_isDisputed_2 6 rfl rfl)
theorem dX4_isDisputed_55 : decode cX4_isDisputed 55 = .ok (.goto 4, 3) := dk_167 0 4 (dk_at dksX4_isDisputed_2 7 rfl rfl)
theorem dX4_isDisputed_58 : decode cX4_isDisputed 58 = .ok (.iconst 0, 1) := dk_3 (dk_at dksX4_isDisputed_2 10 rfl rfl)
theorem dX4_isDisputed_59 : decode cX4_isDisputed 59 = .ok (.istore 4, 2) := dk_54 4 (dk_at dksX4_isDisputed_2 11 rfl rfl)
theorem dX4_isDisputed_61 : decode cX4_isDisputed 61 = .ok (.iload 4, 2) := dk_21 4 (dk_at dksX4_isDisputed_2 13 rfl rfl)
theorem dX4_isDisputed_63 : decode cX4_isDisputed 63 = .ok (.ifCond .eq 31, 3) := dk_153 0 31 (dk_at dksX4_isDisputed_2 15 rfl rfl)
theorem dX4_isDisputed_66 : decode cX4_isDisputed 66 = .ok (.aload_n 0, 1) := dk_42 (dk_at dksX4_isDisputed_2 18 rfl rfl)
theorem dX4_isDisputed_67 : decode cX4_isDisputed 67 = .ok (.getfield 35, 3) := dk_180 0 35 (dk_at dksX4_isDisputed_2 19 rfl rfl)
theorem dX4_isDisputed_70 : decode cX4_isDisputed 70 = .ok (.iconst 4, 1) := dk_7 (dk_at dksX4_isDisputed_2 22 rfl rfl)
theorem dX4_isDisputed_71 : decode cX4_isDisputed 71 = .ok (.iload_n 2, 1) := dk_28 (dk_at dksX4_isDisputed_2 23 rfl rfl)
theorem dX4_isDisputed_72 : decode cX4_isDisputed 72 = .ok (.iadd, 1) := dk_96 (dk_at dksX4_isDisputed_3 0 rfl rfl)
theorem dX4_isDisputed_73 : decode cX4_isDisputed 73 = .ok (.iaload, 1) := dk_46 (dk_at dksX4_isDisputed_3 1 rfl rfl)
theorem dX4_isDisputed_74 : decode cX4_isDisputed 74 = .ok (.iload_n 3, 1) := dk_29 (dk_at dksX4_isDisputed_3 2 rfl rfl)
theorem dX4_isDisputed_75 : decode cX4_isDisputed 75 = .ok (.invokestatic 365, 3) := dk_184 1 109 (dk_at dksX4_isDisputed_3 3 rfl rfl)
theorem dX4_isDisputed_78 : decode cX4_isDisputed 78 = .ok (.aload_n 0, 1) := dk_42 (dk_at dksX4_isDisputed_3 6 rfl rfl)
theorem dX4_isDisputed_79 : decode cX4_isDisputed 79 = .ok (.getfield 84, 3) := dk_180 0 84 (dk_at dksX4_isDisputed_3 7 rfl rfl)
theorem dX4_isDisputed_82 : decode cX4_isDisputed 82 = .ok (.bipush 20, 2) := dk_16 20 (dk_at dksX4_isDisputed_3 10 rfl rfl)
theorem dX4_isDisputed_84 : decode cX4_isDisputed 84 = .ok (.iload_n 3, 1) := dk_29 (dk_at dksX4_isDisputed_3 12 rfl rfl)
theorem dX4_isDisputed_85 : decode cX4_isDisputed 85 = .ok (.imul, 1) := dk_104 (dk_at dksX4_isDisputed_3 13 rfl rfl)
theorem dX4_isDisputed_86 : decode cX4_isDisputed 86 = .ok (.iload_n 1, 1) := dk_27 (dk_at dksX4_isDisputed_3 14 rfl rfl)
theorem dX4_isDisputed_87 : decode cX4_isDisputed 87 = .ok (.iadd, 1) := dk_96 (dk_at dksX4_isDisputed_3 15 rfl rfl)
theorem dX4_isDisputed_88 : decode cX4_isDisputed 88 = .ok (.iaload, 1) := dk_46 (dk_at dksX4_isDisputed_3 16 rfl rfl)
theorem dX4_isDisputed_89 : decode cX4_isDisputed 89 = .ok (.if_icmp .eq 5, 3) := dk_159 0 5 (dk_at dksX4_isDisputed_3 17 rfl rfl)
theorem dX4_isDisputed_92 : decode cX4_isDisputed 92 = .ok (.iconst 1, 1) := dk_4 (dk_at dksX4_isDisputed_3 20 rfl rfl)
theorem dX4_isDisputed_93 : decode cX4_isDisputed 93 = .ok (.ireturn, 1) := dk_172 (dk_at dksX4_isDisputed_3 21 rfl rfl)
theorem dX4_isDisputed_94 : decode cX4_isDisputed 94 = .ok (.iinc 3 1, 3) := dk_132 3 1 (dk_at dksX4_isDisputed_4 0 rfl rfl)
theorem dX4_isDisputed_97 : decode cX4_isDisputed 97 = .ok (.goto (-85), 3) := dk_167 255 171 (dk_at dksX4_isDisputed_4 3 rfl rfl)
theorem dX4_isDisputed_100 : decode cX4_isDisputed 100 = .ok (.aload_n 0, 1) := dk_42 (dk_at dksX4_isDisputed_4 6 rfl rfl)
theorem dX4_isDisputed_101 : decode cX4_isDisputed 101 = .ok (.getfield 41, 3) := dk_180 0 41 (dk_at dksX4_isDisputed_4 7 rfl rfl)
theorem dX4_isDisputed_104 : decode cX4_isDisputed 104 = .ok (.iload_n 2, 1) := dk_28 (dk_at dksX4_isDisputed_4 10 rfl rfl)
theorem dX4_isDisputed_105 : decode cX4_isDisputed 105 = .ok (.iaload, 1) := dk_46 (dk_at dksX4_isDisputed_4 11 rfl rfl)
theorem dX4_isDisputed_106 : decode cX4_isDisputed 106 = .ok (.aload_n 0, 1) := dk_42 (dk_at dksX4_isDisputed_4 12 rfl rfl)
theorem dX4_isDisputed_107 : decode cX4_isDisputed 107 = .ok (.getfield 41, 3) := dk_180 0 41 (dk_at dksX4_isDisputed_4 13 rfl rfl)
theorem dX4_isDisputed_110 : decode cX4_isDisputed 110 = .ok (.iload_n 1, 1) := dk_27 (dk_at dksX4_isDisputed_4 16 rfl rfl)
theorem dX4_isDisputed_111 : decode cX4_isDisputed 111 = .ok (.iaload, 1) := dk_46 (dk_at dksX4_isDisputed_4 17 rfl rfl)
theorem dX4_isDisputed_112 : decode cX4_isDisputed 112 = .ok (.if_icmp .eq 57, 3) := dk_159 0 57 (dk_at dksX4_isDisputed_4 18 rfl rfl)
theorem dX4_isDisputed_115 : decode cX4_isDisputed 115 = .ok (.aload_n 0, 1) := dk_42 (dk_at dksX4_isDisputed_4 21 rfl rfl)
theorem dX4_isDisputed_116 : decode cX4_isDisputed 116 = .ok (.iload_n 1, 1) := dk_27 (dk_at dksX4_isDisputed_4 22 rfl rfl)
theorem dX4_isDisputed_117 : decode cX4_isDisputed 117 = .ok (.invokevirtual 368, 3) := dk_182 1 112 (dk_at dksX4_isDisputed_5 0 rfl rfl)
theorem dX4_isDisputed_120 : decode cX4_isDisputed 120 = .ok (.ifCond .eq 49, 3) := dk_153 0 49 (dk_at dksX4_isDisputed_5 3 rfl rfl)
theorem dX4_isDisputed_123 : decode cX4_isDisputed 123 = .ok (.aload_n 0, 1) := dk_42 (dk_at dksX4_isDisputed_5 6 rfl rfl)
theorem dX4_isDisputed_124 : decode cX4_isDisputed 124 = .ok (.iload_n 2, 1) := dk_28 (dk_at dksX4_isDisputed_5 7 rfl rfl)
theorem dX4_isDisputed_125 : decode cX4_isDisputed 125 = .ok (.invokevirtual 368, 3) := dk_182 1 112 (dk_at dksX4_isDisputed_5 8 rfl rfl)
theorem dX4_isDisputed_128 : decode cX4_isDisputed 128 = .ok (.ifCond .eq 41, 3) := dk_153 0 41 (dk_at dksX4_isDisputed_5 11 rfl rfl)
theorem dX4_isDisputed_131 : decode cX4_isDisputed 131 = .ok (.aload_n 0, 1) := dk_42 (dk_at dksX4_isDisputed_5 14 rfl rfl)
theorem dX4_isDisputed_132 : decode cX4_isDisputed 132 = .ok (.getfield 84, 3) := dk_180 0 84 (dk_at dksX4_isDisputed_5 15 rfl rfl)
theorem dX4_isDisputed_135 : decode cX4_isDisputed 135 = .ok (.iload_n 2, 1) := dk_28 (dk_at dksX4_isDisputed_5 18 rfl rfl)
theorem dX4_isDisputed_136 : decode cX4_isDisputed 136 = .ok (.iaload, 1) := dk_46 (dk_at dksX4_isDisputed_5 19 rfl rfl)
theorem dX4_isDisputed_137 : decode cX4_isDisputed 137 = .ok (.aload_n 0, 1) := dk_42 (dk_at dksX4_isDisputed_5 20 rfl rfl)
theorem dX4_isDisputed_138 : decode cX4_isDisputed 138 = .ok (.getfield 84, 3) := dk_180 0 84 (dk_at dksX4_isDisputed_5 21 rfl rfl)
theorem dX4_isDisputed_141 : decode cX4_isDisputed 141 = .ok (.iload_n 1, 1) := dk_27 (dk_at dksX4_isDisputed_6 0 rfl rfl)
theorem dX4_isDisputed_142 : decode cX4_isDisputed 142 = .ok (.iaload, 1) := dk_46 (dk_at dksX4_isDisputed_6 1 rfl rfl)
theorem dX4_isDisputed_143 : decode cX4_isDisputed 143 = .ok (.if_icmp .ne 26, 3) := dk_160 0 26 (dk_at dksX4_isDisputed_6 2 rfl rfl)
theorem dX4_isDisputed_146 : decode cX4_isDisputed 146 = .ok (.aload_n 0, 1) := dk_42 (dk_at dksX4_isDisputed_6 5 rfl rfl)
theorem dX4_isDisputed_147 : decode cX4_isDisputed 147 = .ok (.getfield 84, 3) := dk_180 0 84 (dk_at dksX4_isDisputed_6 6 rfl rfl)
theorem dX4_isDisputed_150 : decode cX4_isDisputed 150 = .ok (.bipush 20, 2) := dk_16 20 (dk_at dksX4_isDisputed_6 9 rfl rfl)
theorem dX4_isDisputed_152 : decode cX4_isDisputed 152 = .ok (.iload_n 2, 1) := dk_28 (dk_at dksX4_isDisputed_6 11 rfl rfl)
theorem dX4_isDisputed_153 : decode cX4_isDisputed 153 = .ok (.iadd, 1) := dk_96 (dk_at dksX4_isDisputed_6 12 rfl rfl)
theorem dX4_isDisputed_154 : decode cX4_isDisputed 154 = .ok (.iaload, 1) := dk_46 (dk_at dksX4_isDisputed_6 13 rfl rfl)
theorem dX4_isDisputed_155 : decode cX4_isDisputed 155 = .ok (.aload_n 0, 1) := dk_42 (dk_at dksX4_isDisputed_6 14 rfl rfl)
theorem dX4_isDisputed_156 : decode cX4_isDisputed 156 = .ok (.getfield 84, 3) := dk_180 0 84 (dk_at dksX4_isDisputed_6 15 rfl rfl)
theorem dX4_isDisputed_159 : decode cX4_isDisputed 159 = .ok (.bipush 20, 2) := dk_16 20 (dk_at dksX4_isDisputed_6 18 rfl rfl)
theorem dX4_isDisputed_161 : decode cX4_isDisputed 161 = .ok (.iload_n 1, 1) := dk_27 (dk_at dksX4_isDisputed_6 20 rfl rfl)
theorem dX4_isDisputed_162 : decode cX4_isDisputed 162 = .ok (.iadd, 1) := dk_96 (dk_at dksX4_isDisputed_6 21 rfl rfl)
theorem dX4_isDisputed_163 : decode cX4_isDisputed 163 = .ok (.iaload, 1) := dk_46 (dk_at dksX4_isDisputed_6 22 rfl rfl)
theorem dX4_isDisputed_164 : decode cX4_isDisputed 164 = .ok (.if_icmp .ne 5, 3) := dk_160 0 5 (dk_at dksX4_isDisputed_7 0 rfl rfl)
theorem dX4_isDisputed_167 : decode cX4_isDisputed 167 = .ok (.iconst 1, 1) := dk_4 (dk_at dksX4_isDisputed_7 3 rfl rfl)
theorem dX4_isDisputed_168 : decode cX4_isDisputed 168 = .ok (.ireturn, 1) := dk_172 (dk_at dksX4_isDisputed_7 4 rfl rfl)
theorem dX4_isDisputed_169 : decode cX4_isDisputed 169 = .ok (.iinc 2 1, 3) := dk_132 2 1 (dk_at dksX4_isDisputed_7 5 rfl rfl)
theorem dX4_isDisputed_172 : decode cX4_isDisputed 172 = .ok (.goto (-170), 3) := dk_167 255 86 (dk_at dksX4_isDisputed_7 8 rfl rfl)
theorem dX4_isDisputed_175 : decode cX4_isDisputed 175 = .ok (.iconst 0, 1) := dk_3 (dk_at dksX4_isDisputed_7 11 rfl rfl)
theorem dX4_isDisputed_176 : decode cX4_isDisputed 176 = .ok (.ireturn, 1) := dk_172 (dk_at dksX4_isDisputed_7 12 rfl rfl)
def dkwX4_isWhole_1 : List UInt8 := [167, 0, 4, 3, 172]
abbrev dktX4_isWhole_1 : List UInt8 := dkwX4_isWhole_1 ++ []
def dkwX4_isWhole_0 : List UInt8 := [42, 180, 0, 84, 27, 46, 2, 159, 0, 20, 42, 180, 0, 84, 16, 20, 27, 96, 46, 2, 159, 0, 7, 4]
abbrev dktX4_isWhole_0 : List UInt8 := dkwX4_isWhole_0 ++ dktX4_isWhole_1
theorem dksX4_isWhole_0 : cX4_isWhole.data.toList.drop 0 = dktX4_isWhole_0 := by decide +kernel
theorem dksX4_isWhole_1 : cX4_isWhole.data.toList.drop 24 = dktX4_isWhole_1 := dk_seg dksX4_isWhole_0 24 rfl rfl
theorem dX4_isWhole_0 : decode cX4_isWhole 0 = .ok (.aload_n 0, 1) := dk_42 (dk_at dksX4_isWhole_0 0 rfl rfl)
theorem dX4_isWhole_1 : decode cX4_isWhole 1 = .ok (.getfield 84, 3) := dk_180 0 84 (dk_at dksX4_isWhole_0 1 rfl rfl)
theorem dX4_isWhole_4 : decode cX4_isWhole 4 = .ok (.iload_n 1, 1) := dk_27 (dk_at dksX4_isWhole_0 4 rfl rfl)
theorem dX4_isWhole_5 : decode cX4_isWhole 5 = .ok (.iaload, 1) := dk_46 (dk_at dksX4_isWhole_0 5 rfl rfl)
theorem dX4_isWhole_6 : decode cX4_isWhole 6 = .ok (.iconst (-1), 1) := dk_2 (dk_at dksX4_isWhole_0 6 rfl rfl)
theorem dX4_isWhole_7 : decode cX4_isWhole 7 = .ok (.if_icmp .eq 20, 3) := dk_159 0 20 (dk_at dksX4_isWhole_0 7 rfl rfl)
theorem dX4_isWhole_10 : decode cX4_isWhole 10 = .ok (.aload_n 0, 1) := dk_42 (dk_at dksX4_isWhole_0 10 rfl rfl)
theorem dX4_isWhole_11 : decode cX4_isWhole 11 = .ok (.getfield 84, 3) := dk_180 0 84 (dk_at dksX4_isWhole_0 11 rfl rfl)
theorem dX4_isWhole_14 : decode cX4_isWhole 14 = .ok (.bipush 20, 2) := dk_16 20 (dk_at dksX4_isWhole_0 14 rfl rfl)
theorem dX4_isWhole_16 : decode cX4_isWhole 16 = .ok (.iload_n 1, 1) := dk_27 (dk_at dksX4_isWhole_0 16 rfl rfl)
theorem dX4_isWhole_17 : decode cX4_isWhole 17 = .ok (.iadd, 1) := dk_96 (dk_at dksX4_isWhole_0 17 rfl rfl)
theorem dX4_isWhole_18 : decode cX4_isWhole 18 = .ok (.iaload, 1) := dk_46 (dk_at dksX4_isWhole_0 18 rfl rfl)
theorem dX4_isWhole_19 : decode cX4_isWhole 19 = .ok (.iconst (-1), 1) := dk_2 (dk_at dksX4_isWhole_0 19 rfl rfl)
theorem dX4_isWhole_20 : decode cX4_isWhole 20 = .ok (.if_icmp .eq 7, 3) := dk_159 0 7 (dk_at dksX4_isWhole_0 20 rfl rfl)
theorem dX4_isWhole_23 : decode cX4_isWhole 23 = .ok (.iconst 1, 1) := dk_4 (dk_at dksX4_isWhole_0 23 rfl rfl)
theorem dX4_isWhole_24 : decode cX4_isWhole 24 = .ok (.goto 4, 3) := dk_167 0 4 (dk_at dksX4_isWhole_1 0 rfl rfl)
theorem dX4_isWhole_27 : decode cX4_isWhole 27 = .ok (.iconst 0, 1) := dk_3 (dk_at dksX4_isWhole_1 3 rfl rfl)
theorem dX4_isWhole_28 : decode cX4_isWhole 28 = .ok (.ireturn, 1) := dk_172 (dk_at dksX4_isWhole_1 4 rfl rfl)
def dkwX4_unlike_1 : List UInt8 := [167, 0, 4, 2, 172]
abbrev dktX4_unlike_1 : List UInt8 := dkwX4_unlike_1 ++ []
def dkwX4_unlike_0 : List UInt8 := [42, 27, 182, 0, 224, 153, 0, 20, 42, 28, 182, 0, 224, 153, 0, 12, 42, 27, 28, 182, 0, 252]
abbrev dktX4_unlike_0 : List UInt8 := dkwX4_unlike_0 ++ dktX4_unlike_1
theorem dksX4_unlike_0 : cX4_unlike.data.toList.drop 0 = dktX4_unlike_0 := by decide +kernel
theorem dksX4_unlike_1 : cX4_unlike.data.toList.drop 22 = dktX4_unlike_1 := dk_seg dksX4_unlike_0 22 rfl rfl
theorem dX4_unlike_0 : decode cX4_unlike 0 = .ok (.aload_n 0, 1) := dk_42 (dk_at dksX4_unlike_0 0 rfl rfl)
theorem dX4_unlike_1 : decode cX4_unlike 1 = .ok (.iload_n 1, 1) := dk_27 (dk_at dksX4_unlike_0 1 rfl rfl)
theorem dX4_unlike_2 : decode cX4_unlike 2 = .ok (.invokevirtual 224, 3) := dk_182 0 224 (dk_at dksX4_unlike_0 2 rfl rfl)
theorem dX4_unlike_5 : decode cX4_unlike 5 = .ok (.ifCond .eq 20, 3) := dk_153 0 20 (dk_at dksX4_unlike_0 5 rfl rfl)
theorem dX4_unlike_8 : decode cX4_unlike 8 = .ok (.aload_n 0, 1) := dk_42 (dk_at dksX4_unlike_0 8 rfl rfl)
theorem dX4_unlike_9 : decode cX4_unlike 9 = .ok (.iload_n 2, 1) := dk_28 (dk_at dksX4_unlike_0 9 rfl rfl)
theorem dX4_unlike_10 : decode cX4_unlike 10 = .ok (.invokevirtual 224, 3) := dk_182 0 224 (dk_at dksX4_unlike_0 10 rfl rfl)
theorem dX4_unlike_13 : decode cX4_unlike 13 = .ok (.ifCond .eq 12, 3) := dk_153 0 12 (dk_at dksX4_unlike_0 13 rfl rfl)
theorem dX4_unlike_16 : decode cX4_unlike 16 = .ok (.aload_n 0, 1) := dk_42 (dk_at dksX4_unlike_0 16 rfl rfl)
theorem dX4_unlike_17 : decode cX4_unlike 17 = .ok (.iload_n 1, 1) := dk_27 (dk_at dksX4_unlike_0 17 rfl rfl)
theorem dX4_unlike_18 : decode cX4_unlike 18 = .ok (.iload_n 2, 1) := dk_28 (dk_at dksX4_unlike_0 18 rfl rfl)
theorem dX4_unlike_19 : decode cX4_unlike 19 = .ok (.invokevirtual 252, 3) := dk_182 0 252 (dk_at dksX4_unlike_0 19 rfl rfl)
theorem dX4_unlike_22 : decode cX4_unlike 22 = .ok (.goto 4, 3) := dk_167 0 4 (dk_at dksX4_unlike_1 0 rfl rfl)
theorem dX4_unlike_25 : decode cX4_unlike 25 = .ok (.iconst (-1), 1) := dk_2 (dk_at dksX4_unlike_1 3 rfl rfl)
theorem dX4_unlike_26 : decode cX4_unlike 26 = .ok (.ireturn, 1) := dk_172 (dk_at dksX4_unlike_1 4 rfl rfl)
def dkwX4_sign_2_0 : List UInt8 := [42, 27, 182, 0, 224, 154, 0, 5, 2, 172, 42, 182, 0, 235, 42, 180, 0, 41, 27, 46, 172]
abbrev dktX4_sign_2_0 : List UInt8 := dkwX4_sign_2_0 ++ []
theorem dksX4_sign_2_0 : cX4_sign_2.data.toList.drop 0 = dktX4_sign_2_0 := by decide +kernel
theorem dX4_sign_2_0 : decode cX4_sign_2 0 = .ok (.aload_n 0, 1) := dk_42 (dk_at dksX4_sign_2_0 0 rfl rfl)
theorem dX4_sign_2_1 : decode cX4_sign_2 1 = .ok (.iload_n 1, 1) := dk_27 (dk_at dksX4_sign_2_0 1 rfl rfl)
theorem dX4_sign_2_2 : decode cX4_sign_2 2 = .ok (.invokevirtual 224, 3) := dk_182 0 224 (dk_at dksX4_sign_2_0 2 rfl rfl)
theorem dX4_sign_2_5 : decode cX4_sign_2 5 = .ok (.ifCond .ne 5, 3) := dk_154 0 5 (dk_at dksX4_sign_2_0 5 rfl rfl)
theorem dX4_sign_2_8 : decode cX4_sign_2 8 = .ok (.iconst (-1), 1) := dk_2 (dk_at dksX4_sign_2_0 8 rfl rfl)
theorem dX4_sign_2_9 : decode cX4_sign_2 9 = .ok (.ireturn, 1) := dk_172 (dk_at dksX4_sign_2_0 9 rfl rfl)
theorem dX4_sign_2_10 : decode cX4_sign_2 10 = .ok (.aload_n 0, 1) := dk_42 (dk_at dksX4_sign_2_0 10 rfl rfl)
theorem dX4_sign_2_11 : decode cX4_sign_2 11 = .ok (.invokevirtual 235, 3) := dk_182 0 235 (dk_at dksX4_sign_2_0 11 rfl rfl)
theorem dX4_sign_2_14 : decode cX4_sign_2 14 = .ok (.aload_n 0, 1) := dk_42 (dk_at dksX4_sign_2_0 14 rfl rfl)
theorem dX4_sign_2_15 : decode cX4_sign_2 15 = .ok (.getfield 41, 3) := dk_180 0 41 (dk_at dksX4_sign_2_0 15 rfl rfl)
theorem dX4_sign_2_18 : decode cX4_sign_2 18 = .ok (.iload_n 1, 1) := dk_27 (dk_at dksX4_sign_2_0 18 rfl rfl)
theorem dX4_sign_2_19 : decode cX4_sign_2 19 = .ok (.iaload, 1) := dk_46 (dk_at dksX4_sign_2_0 19 rfl rfl)
theorem dX4_sign_2_20 : decode cX4_sign_2 20 = .ok (.ireturn, 1) := dk_172 (dk_at dksX4_sign_2_0 20 rfl rfl)
def dkwX4_size_2 : List UInt8 := [184, 0, 177, 96, 61, 132, 3, 1, 167, 255, 219, 28, 172]
abbrev dktX4_size_2 : List UInt8 := dkwX4_size_2 ++ []
def dkwX4_size_1 : List UInt8 := [162, 0, 35, 28, 42, 180, 0, 41, 29, 46, 42, 180, 0, 41, 27, 46, 160, 0, 7, 4, 167, 0, 4, 3]
abbrev dktX4_size_1 : List UInt8 := dkwX4_size_1 ++ dktX4_size_2
def dkwX4_size_0 : List UInt8 := [42, 27, 182, 0, 224, 154, 0, 5, 2, 172, 42, 182, 0, 235, 3, 61, 3, 62, 29, 42, 180, 0, 162]
abbrev dktX4_size_0 : List UInt8 := dkwX4_size_0 ++ dktX4_size_1
theorem dksX4_size_0 : cX4_size.data.toList.drop 0 = dktX4_size_0 := by decide +kernel
theorem dksX4_size_1 : cX4_size.data.toList.drop 23 = dktX4_size_1 := dk_seg dksX4_size_0 23 rfl rfl
theorem dksX4_size_2 : cX4_size.data.toList.drop 47 = dktX4_size_2 := dk_seg dksX4_size_1 24 rfl rfl
theorem dX4_size_0 : decode cX4_size 0 = .ok (.aload_n 0, 1) := dk_42 (dk_at dksX4_size_0 0 rfl rfl)
theorem dX4_size_1 : decode cX4_size 1 = .ok (.iload_n 1, 1) := dk_27 (dk_at dksX4_size_0 1 rfl rfl)
theorem dX4_size_2 : decode cX4_size 2 = .ok (.invokevirtual 224, 3) := dk_182 0 224 (dk_at dksX4_size_0 2 rfl rfl)
theorem dX4_size_5 : decode cX4_size 5 = .ok (.ifCond .ne 5, 3) := dk_154 0 5 (dk_at dksX4_size_0 5 rfl rfl)
theorem dX4_size_8 : decode cX4_size 8 = .ok (.iconst (-1), 1) := dk_2 (dk_at dksX4_size_0 8 rfl rfl)
theorem dX4_size_9 : decode cX4_size 9 = .ok (.ireturn, 1) := dk_172 (dk_at dksX4_size_0 9 rfl rfl)
theorem dX4_size_10 : decode cX4_size 10 = .ok (.aload_n 0, 1) := dk_42 (dk_at dksX4_size_0 10 rfl rfl)
theorem dX4_size_11 : decode cX4_size 11 = .ok (.invokevirtual 235, 3) := dk_182 0 235 (dk_at dksX4_size_0 11 rfl rfl)
theorem dX4_size_14 : decode cX4_size 14 = .ok (.iconst 0, 1) := dk_3 (dk_at dksX4_size_0 14 rfl rfl)
theorem dX4_size_15 : decode cX4_size 15 = .ok (.istore_n 2, 1) := dk_61 (dk_at dksX4_size_0 15 rfl rfl)
theorem dX4_size_16 : decode cX4_size 16 = .ok (.iconst 0, 1) := dk_3 (dk_at dksX4_size_0 16 rfl rfl)
theorem dX4_size_17 : decode cX4_size 17 = .ok (.istore_n 3, 1) := dk_62 (dk_at dksX4_size_0 17 rfl rfl)
theorem dX4_size_18 : decode cX4_size 18 = .ok (.iload_n 3, 1) := dk_29 (dk_at dksX4_size_0 18 rfl rfl)
theorem dX4_size_19 : decode cX4_size 19 = .ok (.aload_n 0, 1) := dk_42 (dk_at dksX4_size_0 19 rfl rfl)
theorem dX4_size_20 : decode cX4_size 20 = .ok (.getfield 162, 3) := dk_180 0 162 (dk_at dksX4_size_0 20 rfl rfl)
theorem dX4_size_23 : decode cX4_size 23 = .ok (.if_icmp .ge 35, 3) := dk_162 0 35 (dk_at dksX4_size_1 0 rfl rfl)
theorem dX4_size_26 : decode cX4_size 26 = .ok (.iload_n 2, 1) := dk_28 (dk_at dksX4_size_1 3 rfl rfl)
theorem dX4_size_27 : decode cX4_size 27 = .ok (.aload_n 0, 1) := dk_42 (dk_at dksX4_size_1 4 rfl rfl)
theorem dX4_size_28 : decode cX4_size 28 = .ok (.getfield 41, 3) := dk_180 0 41 (dk_at dksX4_size_1 5 rfl rfl)
theorem dX4_size_31 : decode cX4_size 31 = .ok (.iload_n 3, 1) := dk_29 (dk_at dksX4_size_1 8 rfl rfl)
theorem dX4_size_32 : decode cX4_size 32 = .ok (.iaload, 1) := dk_46 (dk_at dksX4_size_1 9 rfl rfl)
theorem dX4_size_33 : decode cX4_size 33 = .ok (.aload_n 0, 1) := dk_42 (dk_at dksX4_size_1 10 rfl rfl)
theorem dX4_size_34 : decode cX4_size 34 = .ok (.getfield 41, 3) := dk_180 0 41 (dk_at dksX4_size_1 11 rfl rfl)
theorem dX4_size_37 : decode cX4_size 37 = .ok (.iload_n 1, 1) := dk_27 (dk_at dksX4_size_1 14 rfl rfl)
theorem dX4_size_38 : decode cX4_size 38 = .ok (.iaload, 1) := dk_46 (dk_at dksX4_size_1 15 rfl rfl)
theorem dX4_size_39 : decode cX4_size 39 = .ok (.if_icmp .ne 7, 3) := dk_160 0 7 (dk_at dksX4_size_1 16 rfl rfl)
theorem dX4_size_42 : decode cX4_size 42 = .ok (.iconst 1, 1) := dk_4 (dk_at dksX4_size_1 19 rfl rfl)
theorem dX4_size_43 : decode cX4_size 43 = .ok (.goto 4, 3) := dk_167 0 4 (dk_at dksX4_size_1 20 rfl rfl)
theorem dX4_size_46 : decode cX4_size 46 = .ok (.iconst 0, 1) := dk_3 (dk_at dksX4_size_1 23 rfl rfl)
theorem dX4_size_47 : decode cX4_size 47 = .ok (.invokestatic 177, 3) := dk_184 0 177 (dk_at dksX4_size_2 0 rfl rfl)
theorem dX4_size_50 : decode cX4_size 50 = .ok (.iadd, 1) := dk_96 (dk_at dksX4_size_2 3 rfl rfl)
theorem dX4_size_51 : decode cX4_size 51 = .ok (.istore_n 2, 1) := dk_61 (dk_at dksX4_size_2 4 rfl rfl)
theorem dX4_size_52 : decode cX4_size 52 = .ok (.iinc 3 1, 3) := dk_132 3 1 (dk_at dksX4_size_2 5 rfl rfl)
theorem dX4_size_55 : decode cX4_size 55 = .ok (.goto (-37), 3) := dk_167 255 219 (dk_at dksX4_size_2 8 rfl rfl)
theorem dX4_size_58 : decode cX4_size 58 = .ok (.iload_n 2, 1) := dk_28 (dk_at dksX4_size_2 11 rfl rfl)
theorem dX4_size_59 : decode cX4_size 59 = .ok (.ireturn, 1) := dk_172 (dk_at dksX4_size_2 12 rfl rfl)
def dkwX4_tree_7 : List UInt8 := [182, 1, 6, 132, 6, 1, 167, 255, 163, 132, 5, 1, 167, 255, 142, 132, 4, 1, 167, 255, 126, 2, 172]
abbrev dktX4_tree_7 : List UInt8 := dkwX4_tree_7 ++ []
def dkwX4_tree_6 : List UInt8 := [167, 0, 5, 21, 6, 172, 132, 3, 1, 42, 42, 180, 0, 44, 21, 5, 46, 42, 180, 0, 44, 21, 6, 46]
abbrev dktX4_tree_6 : List UInt8 := dkwX4_tree_6 ++ dktX4_tree_7
def dkwX4_tree_5 : List UInt8 := [167, 0, 51, 29, 27, 160, 0, 25, 28, 154, 0, 8, 21, 4, 167, 0, 15, 28, 4, 160, 0, 8, 21, 5]
abbrev dktX4_tree_5 : List UInt8 := dkwX4_tree_5 ++ dktX4_tree_6
def dkwX4_tree_4 : List UInt8 := [180, 0, 44, 21, 6, 46, 159, 0, 67, 42, 21, 5, 21, 6, 182, 0, 252, 21, 4, 159, 0, 6]
abbrev dktX4_tree_4 : List UInt8 := dkwX4_tree_4 ++ dktX4_tree_5
def dkwX4_tree_3 : List UInt8 := [21, 5, 4, 96, 54, 6, 21, 6, 42, 180, 0, 162, 162, 0, 90, 42, 180, 0, 44, 21, 5, 46, 42]
abbrev dktX4_tree_3 : List UInt8 := dkwX4_tree_3 ++ dktX4_tree_4
def dkwX4_tree_2 : List UInt8 := [3, 62, 3, 54, 4, 21, 4, 16, 25, 163, 0, 129, 3, 54, 5, 21, 5, 42, 180, 0, 162, 162, 0, 111]
abbrev dktX4_tree_2 : List UInt8 := dkwX4_tree_2 ++ dktX4_tree_3
def dkwX4_tree_1 : List UInt8 := [172, 3, 62, 29, 42, 180, 0, 162, 162, 0, 16, 42, 180, 0, 44, 29, 29, 79, 132, 3, 1, 167, 255, 238]
abbrev dktX4_tree_1 : List UInt8 := dkwX4_tree_1 ++ dktX4_tree_2
def dkwX4_tree_0 : List UInt8 := [27, 3, 42, 180, 0, 162, 5, 100, 184, 0, 123, 153, 0, 12, 28, 3, 5, 184, 0, 123, 154, 0, 5, 2]
abbrev dktX4_tree_0 : List UInt8 := dkwX4_tree_0 ++ dktX4_tree_1
theorem dksX4_tree_0 : cX4_tree.data.toList.drop 0 = dktX4_tree_0 := by decide +kernel
theorem dksX4_tree_1 : cX4_tree.data.toList.drop 24 = dktX4_tree_1 := dk_seg dksX4_tree_0 24 rfl rfl
theorem dksX4_tree_2 : cX4_tree.data.toList.drop 48 = dktX4_tree_2 := dk_seg dksX4_tree_1 24 rfl rfl
theorem dksX4_tree_3 : cX4_tree.data.toList.drop 72 = dktX4_tree_3 := dk_seg dksX4_tree_2 24 rfl rfl
theorem dksX4_tree_4 : cX4_tree.data.toList.drop 95 = dktX4_tree_4 := dk_seg dksX4_tree_3 23 rfl rfl
theorem dksX4_tree_5 : cX4_tree.data.toList.drop 117 = dktX4_tree_5 := dk_seg dksX4_tree_4 22 rfl rfl
theorem dksX4_tree_6 : cX4_tree.data.toList.drop 141 = dktX4_tree_6 := dk_seg dksX4_tree_5 24 rfl rfl
theorem dksX4_tree_7 : cX4_tree.data.toList.drop 165 = dktX4_tree_7 := dk_seg dksX4_tree_6 24 rfl rfl
theorem dX4_tree_0 : decode cX4_tree 0 = .ok (.iload_n 1, 1) := dk_27 (dk_at dksX4_tree_0 0 rfl rfl)
theorem dX4_tree_1 : decode cX4_tree 1 = .ok (.iconst 0, 1) := dk_3 (dk_at dksX4_tree_0 1 rfl rfl)
theorem dX4_tree_2 : decode cX4_tree 2 = .ok (.aload_n 0, 1) := dk_42 (dk_at dksX4_tree_0 2 rfl rfl)
theorem dX4_tree_3 : decode cX4_tree 3 = .ok (.getfield 162, 3) := dk_180 0 162 (dk_at dksX4_tree_0 3 rfl rfl)
theorem dX4_tree_6 : decode cX4_tree 6 = .ok (.iconst 2, 1) := dk_5 (dk_at dksX4_tree_0 6 rfl rfl)
theorem dX4_tree_7 : decode cX4_tree 7 = .ok (.isub, 1) := dk_100 (dk_at dksX4_tree_0 7 rfl rfl)
theorem dX4_tree_8 : decode cX4_tree 8 = .ok (.invokestatic 123, 3) := dk_184 0 123 (dk_at dksX4_tree_0 8 rfl rfl)
theorem dX4_tree_11 : decode cX4_tree 11 = .ok (.ifCond .eq 12, 3) := dk_153 0 12 (dk_at dksX4_tree_0 11 rfl rfl)
theorem dX4_tree_14 : decode cX4_tree 14 = .ok (.iload_n 2, 1) := dk_28 (dk_at dksX4_tree_0 14 rfl rfl)
theorem dX4_tree_15 : decode cX4_tree 15 = .ok (.iconst 0, 1) := dk_3 (dk_at dksX4_tree_0 15 rfl rfl)
theorem dX4_tree_16 : decode cX4_tree 16 = .ok (.iconst 2, 1) := dk_5 (dk_at dksX4_tree_0 16 rfl rfl)
theorem dX4_tree_17 : decode cX4_tree 17 = .ok (.invokestatic 123, 3) := dk_184 0 123 (dk_at dksX4_tree_0 17 rfl rfl)
theorem dX4_tree_20 : decode cX4_tree 20 = .ok (.ifCond .ne 5, 3) := dk_154 0 5 (dk_at dksX4_tree_0 20 rfl rfl)
theorem dX4_tree_23 : decode cX4_tree 23 = .ok (.iconst (-1), 1) := dk_2 (dk_at dksX4_tree_0 23 rfl rfl)
theorem dX4_tree_24 : decode cX4_tree 24 = .ok (.ireturn, 1) := dk_172 (dk_at dksX4_tree_1 0 rfl rfl)
theorem dX4_tree_25 : decode cX4_tree 25 = .ok (.iconst 0, 1) := dk_3 (dk_at dksX4_tree_1 1 rfl rfl)
theorem dX4_tree_26 : decode cX4_tree 26 = .ok (.istore_n 3, 1) := dk_62 (dk_at dksX4_tree_1 2 rfl rfl)
theorem dX4_tree_27 : decode cX4_tree 27 = .ok (.iload_n 3, 1) := dk_29 (dk_at dksX4_tree_1 3 rfl rfl)
theorem dX4_tree_28 : decode cX4_tree 28 = .ok (.aload_n 0, 1) := dk_42 (dk_at dksX4_tree_1 4 rfl rfl)
theorem dX4_tree_29 : decode cX4_tree 29 = .ok (.getfield 162, 3) := dk_180 0 162 (dk_at dksX4_tree_1 5 rfl rfl)
theorem dX4_tree_32 : decode cX4_tree 32 = .ok (.if_icmp .ge 16, 3) := dk_162 0 16 (dk_at dksX4_tree_1 8 rfl rfl)
theorem dX4_tree_35 : decode cX4_tree 35 = .ok (.aload_n 0, 1) := dk_42 (dk_at dksX4_tree_1 11 rfl rfl)
theorem dX4_tree_36 : decode cX4_tree 36 = .ok (.getfield 44, 3) := dk_180 0 44 (dk_at dksX4_tree_1 12 rfl rfl)
theorem dX4_tree_39 : decode cX4_tree 39 = .ok (.iload_n 3, 1) := dk_29 (dk_at dksX4_tree_1 15 rfl rfl)
theorem dX4_tree_40 : decode cX4_tree 40 = .ok (.iload_n 3, 1) := dk_29 (dk_at dksX4_tree_1 16 rfl rfl)
theorem dX4_tree_41 : decode cX4_tree 41 = .ok (.iastore, 1) := dk_79 (dk_at dksX4_tree_1 17 rfl rfl)
theorem dX4_tree_42 : decode cX4_tree 42 = .ok (.iinc 3 1, 3) := dk_132 3 1 (dk_at dksX4_tree_1 18 rfl rfl)
theorem dX4_tree_45 : decode cX4_tree 45 = .ok (.goto (-18), 3) := dk_167 255 238 (dk_at dksX4_tree_1 21 rfl rfl)
theorem dX4_tree_48 : decode cX4_tree 48 = .ok (.iconst 0, 1) := dk_3 (dk_at dksX4_tree_2 0 rfl rfl)
theorem dX4_tree_49 : decode cX4_tree 49 = .ok (.istore_n 3, 1) := dk_62 (dk_at dksX4_tree_2 1 rfl rfl)
theorem dX4_tree_50 : decode cX4_tree 50 = .ok (.iconst 0, 1) := dk_3 (dk_at dksX4_tree_2 2 rfl rfl)
theorem dX4_tree_51 : decode cX4_tree 51 = .ok (.istore 4, 2) := dk_54 4 (dk_at dksX4_tree_2 3 rfl rfl)
theorem dX4_tree_53 : decode cX4_tree 53 = .ok (.iload 4, 2) := dk_21 4 (dk_at dksX4_tree_2 5 rfl rfl)
theorem dX4_tree_55 : decode cX4_tree 55 = .ok (.bipush 25, 2) := dk_16 25 (dk_at dksX4_tree_2 7 rfl rfl)
theorem dX4_tree_57 : decode cX4_tree 57 = .ok (.if_icmp .gt 129, 3) := dk_163 0 129 (dk_at dksX4_tree_2 9 rfl rfl)
theorem dX4_tree_60 : decode cX4_tree 60 = .ok (.iconst 0, 1) := dk_3 (dk_at dksX4_tree_2 12 rfl rfl)
theorem dX4_tree_61 : decode cX4_tree 61 = .ok (.istore 5, 2) := dk_54 5 (dk_at dksX4_tree_2 13 rfl rfl)
theorem dX4_tree_63 : decode cX4_tree 63 = .ok (.iload 5, 2) := dk_21 5 (dk_at dksX4_tree_2 15 rfl rfl)
theorem dX4_tree_65 : decode cX4_tree 65 = .ok (.aload_n 0, 1) := dk_42 (dk_at dksX4_tree_2 17 rfl rfl)
theorem dX4_tree_66 : decode cX4_tree 66 = .ok (.getfield 162, 3) := dk_180 0 162 (dk_at dksX4_tree_2 18 rfl rfl)
theorem dX4_tree_69 : decode cX4_tree 69 = .ok (.if_icmp .ge 111, 3) := dk_162 0 111 (dk_at dksX4_tree_2 21 rfl rfl)
theorem dX4_tree_72 : decode cX4_tree 72 = .ok (.iload 5, 2) := dk_21 5 (dk_at dksX4_tree_3 0 rfl rfl)
theorem dX4_tree_74 : decode cX4_tree 74 = .ok (.iconst 1, 1) := dk_4 (dk_at dksX4_tree_3 2 rfl rfl)
theorem dX4_tree_75 : decode cX4_tree 75 = .ok (.iadd, 1) := dk_96 (dk_at dksX4_tree_3 3 rfl rfl)
theorem dX4_tree_76 : decode cX4_tree 76 = .ok (.istore 6, 2) := dk_54 6 (dk_at dksX4_tree_3 4 rfl rfl)
theorem dX4_tree_78 : decode cX4_tree 78 = .ok (.iload 6, 2) := dk_21 6 (dk_at dksX4_tree_3 6 rfl rfl)
theorem dX4_tree_80 : decode cX4_tree 80 = .ok (.aload_n 0, 1) := dk_42 (dk_at dksX4_tree_3 8 rfl rfl)
theorem dX4_tree_81 : decode cX4_tree 81 = .ok (.getfield 162, 3) := dk_180 0 162 (dk_at dksX4_tree_3 9 rfl rfl)
theorem dX4_tree_84 : decode cX4_tree 84 = .ok (.if_icmp .ge 90, 3) := dk_162 0 90 (dk_at dksX4_tree_3 12 rfl rfl)
theorem dX4_tree_87 : decode cX4_tree 87 = .ok (.aload_n 0, 1) := dk_42 (dk_at dksX4_tree_3 15 rfl rfl)
theorem dX4_tree_88 : decode cX4_tree 88 = .ok (.getfield 44, 3) := dk_180 0 44 (dk_at dksX4_tree_3 16 rfl rfl)
theorem dX4_tree_91 : decode cX4_tree 91 = .ok (.iload 5, 2) := dk_21 5 (dk_at dksX4_tree_3 19 rfl rfl)
theorem dX4_tree_93 : decode cX4_tree 93 = .ok (.iaload, 1) := dk_46 (dk_at dksX4_tree_3 21 rfl rfl)
theorem dX4_tree_94 : decode cX4_tree 94 = .ok (.aload_n 0, 1) := dk_42 (dk_at dksX4_tree_3 22 rfl rfl)
theorem dX4_tree_95 : decode cX4_tree 95 = .ok (.getfield 44, 3) := dk_180 0 44 (dk_at dksX4_tree_4 0 rfl rfl)
theorem dX4_tree_98 : decode cX4_tree 98 = .ok (.iload 6, 2) := dk_21 6 (dk_at dksX4_tree_4 3 rfl rfl)
theorem dX4_tree_100 : decode cX4_tree 100 = .ok (.iaload, 1) := dk_46 (dk_at dksX4_tree_4 5 rfl rfl)
theorem dX4_tree_101 : decode cX4_tree 101 = .ok (.if_icmp .eq 67, 3) := dk_159 0 67 (dk_at dksX4_tree_4 6 rfl rfl)
theorem dX4_tree_104 : decode cX4_tree 104 = .ok (.aload_n 0, 1) := dk_42 (dk_at dksX4_tree_4 9 rfl rfl)
theorem dX4_tree_105 : decode cX4_tree 105 = .ok (.iload 5, 2) := dk_21 5 (dk_at dksX4_tree_4 10 rfl rfl)
theorem dX4_tree_107 : decode cX4_tree 107 = .ok (.iload 6, 2) := dk_21 6 (dk_at dksX4_tree_4 12 rfl rfl)
theorem dX4_tree_109 : decode cX4_tree 109 = .ok (.invokevirtual 252, 3) := dk_182 0 252 (dk_at dksX4_tree_4 14 rfl rfl)
theorem dX4_tree_112 : decode cX4_tree 112 = .ok (.iload 4, 2) := dk_21 4 (dk_at dksX4_tree_4 17 rfl rfl)
theorem dX4_tree_114 : decode cX4_tree 114 = .ok (.if_icmp .eq 6, 3) := dk_159 0 6 (dk_at dksX4_tree_4 19 rfl rfl)
theorem dX4_tree_117 : decode cX4_tree 117 = .ok (.goto 51, 3) := dk_167 0 51 (dk_at dksX4_tree_5 0 rfl rfl)
theorem dX4_tree_120 : decode cX4_tree 120 = .ok (.iload_n 3, 1) := dk_29 (dk_at dksX4_tree_5 3 rfl rfl)
theorem dX4_tree_121 : decode cX4_tree 121 = .ok (.iload_n 1, 1) := dk_27 (dk_at dksX4_tree_5 4 rfl rfl)
theorem dX4_tree_122 : decode cX4_tree 122 = .ok (.if_icmp .ne 25, 3) := dk_160 0 25 (dk_at dksX4_tree_5 5 rfl rfl)
theorem dX4_tree_125 : decode cX4_tree 125 = .ok (.iload_n 2, 1) := dk_28 (dk_at dksX4_tree_5 8 rfl rfl)
theorem dX4_tree_126 : decode cX4_tree 126 = .ok (.ifCond .ne 8, 3) := dk_154 0 8 (dk_at dksX4_tree_5 9 rfl rfl)
theorem dX4_tree_129 : decode cX4_tree 129 = .ok (.iload 4, 2) := dk_21 4 (dk_at dksX4_tree_5 12 rfl rfl)
theorem dX4_tree_131 : decode cX4_tree 131 = .ok (.goto 15, 3) := dk_167 0 15 (dk_at dksX4_tree_5 14 rfl rfl)
theorem dX4_tree_134 : decode cX4_tree 134 = .ok (.iload_n 2, 1) := dk_28 (dk_at dksX4_tree_5 17 rfl rfl)
theorem dX4_tree_135 : decode cX4_tree 135 = .ok (.iconst 1, 1) := dk_4 (dk_at dksX4_tree_5 18 rfl rfl)
theorem dX4_tree_136 : decode cX4_tree 136 = .ok (.if_icmp .ne 8, 3) := dk_160 0 8 (dk_at dksX4_tree_5 19 rfl rfl)
theorem dX4_tree_139 : decode cX4_tree 139 = .ok (.iload 5, 2) := dk_21 5 (dk_at dksX4_tree_5 22 rfl rfl)
theorem dX4_tree_141 : decode cX4_tree 141 = .ok (.goto 5, 3) := dk_167 0 5 (dk_at dksX4_tree_6 0 rfl rfl)
theorem dX4_tree_144 : decode cX4_tree 144 = .ok (.iload 6, 2) := dk_21 6 (dk_at dksX4_tree_6 3 rfl rfl)
theorem dX4_tree_146 : decode cX4_tree 146 = .ok (.ireturn, 1) := dk_172 (dk_at dksX4_tree_6 5 rfl rfl)
theorem dX4_tree_147 : decode cX4_tree 147 = .ok (.iinc 3 1, 3) := dk_132 3 1 (dk_at dksX4_tree_6 6 rfl rfl)
theorem dX4_tree_150 : decode cX4_tree 150 = .ok (.aload_n 0, 1) := dk_42 (dk_at dksX4_tree_6 9 rfl rfl)
theorem dX4_tree_151 : decode cX4_tree 151 = .ok (.aload_n 0, 1) := dk_42 (dk_at dksX4_tree_6 10 rfl rfl)
theorem dX4_tree_152 : decode cX4_tree 152 = .ok (.getfield 44, 3) := dk_180 0 44 (dk_at dksX4_tree_6 11 rfl rfl)
theorem dX4_tree_155 : decode cX4_tree 155 = .ok (.iload 5, 2) := dk_21 5 (dk_at dksX4_tree_6 14 rfl rfl)
theorem dX4_tree_157 : decode cX4_tree 157 = .ok (.iaload, 1) := dk_46 (dk_at dksX4_tree_6 16 rfl rfl)
theorem dX4_tree_158 : decode cX4_tree 158 = .ok (.aload_n 0, 1) := dk_42 (dk_at dksX4_tree_6 17 rfl rfl)
theorem dX4_tree_159 : decode cX4_tree 159 = .ok (.getfield 44, 3) := dk_180 0 44 (dk_at dksX4_tree_6 18 rfl rfl)
theorem dX4_tree_162 : decode cX4_tree 162 = .ok (.iload 6, 2) := dk_21 6 (dk_at dksX4_tree_6 21 rfl rfl)
theorem dX4_tree_164 : decode cX4_tree 164 = .ok (.iaload, 1) := dk_46 (dk_at dksX4_tree_6 23 rfl rfl)
theorem dX4_tree_165 : decode cX4_tree 165 = .ok (.invokevirtual 262, 3) := dk_182 1 6 (dk_at dksX4_tree_7 0 rfl rfl)
theorem dX4_tree_168 : decode cX4_tree 168 = .ok (.iinc 6 1, 3) := dk_132 6 1 (dk_at dksX4_tree_7 3 rfl rfl)
theorem dX4_tree_171 : decode cX4_tree 171 = .ok (.goto (-93), 3) := dk_167 255 163 (dk_at dksX4_tree_7 6 rfl rfl)
theorem dX4_tree_174 : decode cX4_tree 174 = .ok (.iinc 5 1, 3) := dk_132 5 1 (dk_at dksX4_tree_7 9 rfl rfl)
theorem dX4_tree_177 : decode cX4_tree 177 = .ok (.goto (-114), 3) := dk_167 255 142 (dk_at dksX4_tree_7 12 rfl rfl)
theorem dX4_tree_180 : decode cX4_tree 180 = .ok (.iinc 4 1, 3) := dk_132 4 1 (dk_at dksX4_tree_7 15 rfl rfl)
theorem dX4_tree_183 : decode cX4_tree 183 = .ok (.goto (-130), 3) := dk_167 255 126 (dk_at dksX4_tree_7 18 rfl rfl)
theorem dX4_tree_186 : decode cX4_tree 186 = .ok (.iconst (-1), 1) := dk_2 (dk_at dksX4_tree_7 21 rfl rfl)
theorem dX4_tree_187 : decode cX4_tree 187 = .ok (.ireturn, 1) := dk_172 (dk_at dksX4_tree_7 22 rfl rfl)
def dkwX4_joins_1 : List UInt8 := [160, 0, 7, 27, 167, 0, 9, 42, 180, 0, 44, 29, 46, 79, 132, 3, 1, 167, 255, 219, 177]
abbrev dktX4_joins_1 : List UInt8 := dkwX4_joins_1 ++ []
def dkwX4_joins_0 : List UInt8 := [3, 62, 29, 42, 180, 0, 162, 162, 0, 35, 42, 180, 0, 44, 29, 42, 180, 0, 44, 29, 46, 28]
abbrev dktX4_joins_0 : List UInt8 := dkwX4_joins_0 ++ dktX4_joins_1
theorem dksX4_joins_0 : cX4_joins.data.toList.drop 0 = dktX4_joins_0 := by decide +kernel
theorem dksX4_joins_1 : cX4_joins.data.toList.drop 22 = dktX4_joins_1 := dk_seg dksX4_joins_0 22 rfl rfl
theorem dX4_joins_0 : decode cX4_joins 0 = .ok (.iconst 0, 1) := dk_3 (dk_at dksX4_joins_0 0 rfl rfl)
theorem dX4_joins_1 : decode cX4_joins 1 = .ok (.istore_n 3, 1) := dk_62 (dk_at dksX4_joins_0 1 rfl rfl)
theorem dX4_joins_2 : decode cX4_joins 2 = .ok (.iload_n 3, 1) := dk_29 (dk_at dksX4_joins_0 2 rfl rfl)
theorem dX4_joins_3 : decode cX4_joins 3 = .ok (.aload_n 0, 1) := dk_42 (dk_at dksX4_joins_0 3 rfl rfl)
theorem dX4_joins_4 : decode cX4_joins 4 = .ok (.getfield 162, 3) := dk_180 0 162 (dk_at dksX4_joins_0 4 rfl rfl)
theorem dX4_joins_7 : decode cX4_joins 7 = .ok (.if_icmp .ge 35, 3) := dk_162 0 35 (dk_at dksX4_joins_0 7 rfl rfl)
theorem dX4_joins_10 : decode cX4_joins 10 = .ok (.aload_n 0, 1) := dk_42 (dk_at dksX4_joins_0 10 rfl rfl)
theorem dX4_joins_11 : decode cX4_joins 11 = .ok (.getfield 44, 3) := dk_180 0 44 (dk_at dksX4_joins_0 11 rfl rfl)
theorem dX4_joins_14 : decode cX4_joins 14 = .ok (.iload_n 3, 1) := dk_29 (dk_at dksX4_joins_0 14 rfl rfl)
theorem dX4_joins_15 : decode cX4_joins 15 = .ok (.aload_n 0, 1) := dk_42 (dk_at dksX4_joins_0 15 rfl rfl)
theorem dX4_joins_16 : decode cX4_joins 16 = .ok (.getfield 44, 3) := dk_180 0 44 (dk_at dksX4_joins_0 16 rfl rfl)
theorem dX4_joins_19 : decode cX4_joins 19 = .ok (.iload_n 3, 1) := dk_29 (dk_at dksX4_joins_0 19 rfl rfl)
theorem dX4_joins_20 : decode cX4_joins 20 = .ok (.iaload, 1) := dk_46 (dk_at dksX4_joins_0 20 rfl rfl)
theorem dX4_joins_21 : decode cX4_joins 21 = .ok (.iload_n 2, 1) := dk_28 (dk_at dksX4_joins_0 21 rfl rfl)
theorem dX4_joins_22 : decode cX4_joins 22 = .ok (.if_icmp .ne 7, 3) := dk_160 0 7 (dk_at dksX4_joins_1 0 rfl rfl)
theorem dX4_joins_25 : decode cX4_joins 25 = .ok (.iload_n 1, 1) := dk_27 (dk_at dksX4_joins_1 3 rfl rfl)
theorem dX4_joins_26 : decode cX4_joins 26 = .ok (.goto 9, 3) := dk_167 0 9 (dk_at dksX4_joins_1 4 rfl rfl)
theorem dX4_joins_29 : decode cX4_joins 29 = .ok (.aload_n 0, 1) := dk_42 (dk_at dksX4_joins_1 7 rfl rfl)
theorem dX4_joins_30 : decode cX4_joins 30 = .ok (.getfield 44, 3) := dk_180 0 44 (dk_at dksX4_joins_1 8 rfl rfl)
theorem dX4_joins_33 : decode cX4_joins 33 = .ok (.iload_n 3, 1) := dk_29 (dk_at dksX4_joins_1 11 rfl rfl)
theorem dX4_joins_34 : decode cX4_joins 34 = .ok (.iaload, 1) := dk_46 (dk_at dksX4_joins_1 12 rfl rfl)
theorem dX4_joins_35 : decode cX4_joins 35 = .ok (.iastore, 1) := dk_79 (dk_at dksX4_joins_1 13 rfl rfl)
theorem dX4_joins_36 : decode cX4_joins 36 = .ok (.iinc 3 1, 3) := dk_132 3 1 (dk_at dksX4_joins_1 14 rfl rfl)
theorem dX4_joins_39 : decode cX4_joins 39 = .ok (.goto (-37), 3) := dk_167 255 219 (dk_at dksX4_joins_1 17 rfl rfl)
theorem dX4_joins_42 : decode cX4_joins 42 = .ok (.return_, 1) := dk_177 (dk_at dksX4_joins_1 20 rfl rfl)
def dkwX4_judged_3 : List UInt8 := [4, 182, 1, 21, 172, 2, 172]
abbrev dktX4_judged_3 : List UInt8 := dkwX4_judged_3 ++ []
def dkwX4_judged_2 : List UInt8 := [42, 182, 1, 24, 172, 42, 3, 182, 1, 18, 172, 42, 4, 182, 1, 18, 172, 42, 3, 182, 1, 21, 172, 42]
abbrev dktX4_judged_2 : List UInt8 := dkwX4_judged_2 ++ dktX4_judged_3
def dkwX4_judged_1 : List UInt8 := [170, 0, 0, 0, 0, 0, 64, 0, 0, 0, 0, 0, 0, 0, 4, 0, 0, 0, 35, 0, 0, 0, 40, 0, 0, 0, 46, 0, 0, 0, 52, 0, 0, 0, 58]
abbrev dktX4_judged_1 : List UInt8 := dkwX4_judged_1 ++ dktX4_judged_2
def dkwX4_judged_0 : List UInt8 := [42, 182, 0, 235, 27]
abbrev dktX4_judged_0 : List UInt8 := dkwX4_judged_0 ++ dktX4_judged_1
theorem dksX4_judged_0 : cX4_judged.data.toList.drop 0 = dktX4_judged_0 := by decide +kernel
theorem dksX4_judged_1 : cX4_judged.data.toList.drop 5 = dktX4_judged_1 := dk_seg dksX4_judged_0 5 rfl rfl
theorem dksX4_judged_2 : cX4_judged.data.toList.drop 40 = dktX4_judged_2 := dk_seg dksX4_judged_1 35 rfl rfl
theorem dksX4_judged_3 : cX4_judged.data.toList.drop 64 = dktX4_judged_3 := dk_seg dksX4_judged_2 24 rfl rfl
theorem dX4_judged_0 : decode cX4_judged 0 = .ok (.aload_n 0, 1) := dk_42 (dk_at dksX4_judged_0 0 rfl rfl)
theorem dX4_judged_1 : decode cX4_judged 1 = .ok (.invokevirtual 235, 3) := dk_182 0 235 (dk_at dksX4_judged_0 1 rfl rfl)
theorem dX4_judged_4 : decode cX4_judged 4 = .ok (.iload_n 1, 1) := dk_27 (dk_at dksX4_judged_0 4 rfl rfl)
theorem dX4_judged_5 : decode cX4_judged 5 = .ok (.tableswitch 64 0 4 #[35, 40, 46, 52, 58], 35) := by decide +kernel
theorem dX4_judged_40 : decode cX4_judged 40 = .ok (.aload_n 0, 1) := dk_42 (dk_at dksX4_judged_2 0 rfl rfl)
theorem dX4_judged_41 : decode cX4_judged 41 = .ok (.invokevirtual 280, 3) := dk_182 1 24 (dk_at dksX4_judged_2 1 rfl rfl)
theorem dX4_judged_44 : decode cX4_judged 44 = .ok (.ireturn, 1) := dk_172 (dk_at dksX4_judged_2 4 rfl rfl)
theorem dX4_judged_45 : decode cX4_judged 45 = .ok (.aload_n 0, 1) := dk_42 (dk_at dksX4_judged_2 5 rfl rfl)
theorem dX4_judged_46 : decode cX4_judged 46 = .ok (.iconst 0, 1) := dk_3 (dk_at dksX4_judged_2 6 rfl rfl)
theorem dX4_judged_47 : decode cX4_judged 47 = .ok (.invokevirtual 274, 3) := dk_182 1 18 (dk_at dksX4_judged_2 7 rfl rfl)
theorem dX4_judged_50 : decode cX4_judged 50 = .ok (.ireturn, 1) := dk_172 (dk_at dksX4_judged_2 10 rfl rfl)
theorem dX4_judged_51 : decode cX4_judged 51 = .ok (.aload_n 0, 1) := dk_42 (dk_at dksX4_judged_2 11 rfl rfl)
theorem dX4_judged_52 : decode cX4_judged 52 = .ok (.iconst 1, 1) := dk_4 (dk_at dksX4_judged_2 12 rfl rfl)
theorem dX4_judged_53 : decode cX4_judged 53 = .ok (.invokevirtual 274, 3) := dk_182 1 18 (dk_at dksX4_judged_2 13 rfl rfl)
theorem dX4_judged_56 : decode cX4_judged 56 = .ok (.ireturn, 1) := dk_172 (dk_at dksX4_judged_2 16 rfl rfl)
theorem dX4_judged_57 : decode cX4_judged 57 = .ok (.aload_n 0, 1) := dk_42 (dk_at dksX4_judged_2 17 rfl rfl)
theorem dX4_judged_58 : decode cX4_judged 58 = .ok (.iconst 0, 1) := dk_3 (dk_at dksX4_judged_2 18 rfl rfl)
theorem dX4_judged_59 : decode cX4_judged 59 = .ok (.invokevirtual 277, 3) := dk_182 1 21 (dk_at dksX4_judged_2 19 rfl rfl)
theorem dX4_judged_62 : decode cX4_judged 62 = .ok (.ireturn, 1) := dk_172 (dk_at dksX4_judged_2 22 rfl rfl)
theorem dX4_judged_63 : decode cX4_judged 63 = .ok (.aload_n 0, 1) := dk_42 (dk_at dksX4_judged_2 23 rfl rfl)
theorem dX4_judged_64 : decode cX4_judged 64 = .ok (.iconst 1, 1) := dk_4 (dk_at dksX4_judged_3 0 rfl rfl)
theorem dX4_judged_65 : decode cX4_judged 65 = .ok (.invokevirtual 277, 3) := dk_182 1 21 (dk_at dksX4_judged_3 1 rfl rfl)
theorem dX4_judged_68 : decode cX4_judged 68 = .ok (.ireturn, 1) := dk_172 (dk_at dksX4_judged_3 4 rfl rfl)
theorem dX4_judged_69 : decode cX4_judged 69 = .ok (.iconst (-1), 1) := dk_2 (dk_at dksX4_judged_3 5 rfl rfl)
theorem dX4_judged_70 : decode cX4_judged 70 = .ok (.ireturn, 1) := dk_172 (dk_at dksX4_judged_3 6 rfl rfl)
def dkwX4_read_5 : List UInt8 := [167, 0, 4, 2, 172]
abbrev dktX4_read_5 : List UInt8 := dkwX4_read_5 ++ []
def dkwX4_read_4 : List UInt8 := [21, 5, 4, 100, 184, 0, 123, 153, 0, 20, 42, 180, 0, 50, 42, 180, 0, 47, 21, 4, 46, 29, 96, 46]
abbrev dktX4_read_4 : List UInt8 := dkwX4_read_4 ++ dktX4_read_5
def dkwX4_read_3 : List UInt8 := [4, 96, 46, 42, 180, 0, 47, 21, 4, 46, 100, 54, 5, 29, 2, 160, 0, 6, 21, 5, 172, 29, 3]
abbrev dktX4_read_3 : List UInt8 := dkwX4_read_3 ++ dktX4_read_4
def dkwX4_read_2 : List UInt8 := [21, 4, 42, 180, 0, 20, 21, 5, 46, 96, 54, 4, 132, 5, 1, 167, 255, 235, 42, 180, 0, 47, 21, 4]
abbrev dktX4_read_2 : List UInt8 := dkwX4_read_2 ++ dktX4_read_3
def dkwX4_read_1 : List UInt8 := [184, 0, 123, 154, 0, 5, 2, 172, 42, 182, 0, 235, 28, 54, 4, 3, 54, 5, 21, 5, 27, 162, 0, 21]
abbrev dktX4_read_1 : List UInt8 := dkwX4_read_1 ++ dktX4_read_2
def dkwX4_read_0 : List UInt8 := [27, 3, 42, 180, 0, 165, 4, 100, 184, 0, 123, 153, 0, 19, 28, 3, 42, 180, 0, 20, 27, 46, 4, 100]
abbrev dktX4_read_0 : List UInt8 := dkwX4_read_0 ++ dktX4_read_1
theorem dksX4_read_0 : cX4_read.data.toList.drop 0 = dktX4_read_0 := by decide +kernel
theorem dksX4_read_1 : cX4_read.data.toList.drop 24 = dktX4_read_1 := dk_seg dksX4_read_0 24 rfl rfl
theorem dksX4_read_2 : cX4_read.data.toList.drop 48 = dktX4_read_2 := dk_seg dksX4_read_1 24 rfl rfl
theorem dksX4_read_3 : cX4_read.data.toList.drop 72 = dktX4_read_3 := dk_seg dksX4_read_2 24 rfl rfl
theorem dksX4_read_4 : cX4_read.data.toList.drop 95 = dktX4_read_4 := dk_seg dksX4_read_3 23 rfl rfl
theorem dksX4_read_5 : cX4_read.data.toList.drop 119 = dktX4_read_5 := dk_seg dksX4_read_4 24 rfl rfl
theorem dX4_read_0 : decode cX4_read 0 = .ok (.iload_n 1, 1) := dk_27 (dk_at dksX4_read_0 0 rfl rfl)
theorem dX4_read_1 : decode cX4_read 1 = .ok (.iconst 0, 1) := dk_3 (dk_at dksX4_read_0 1 rfl rfl)
theorem dX4_read_2 : decode cX4_read 2 = .ok (.aload_n 0, 1) := dk_42 (dk_at dksX4_read_0 2 rfl rfl)
theorem dX4_read_3 : decode cX4_read 3 = .ok (.getfield 165, 3) := dk_180 0 165 (dk_at dksX4_read_0 3 rfl rfl)
theorem dX4_read_6 : decode cX4_read 6 = .ok (.iconst 1, 1) := dk_4 (dk_at dksX4_read_0 6 rfl rfl)
theorem dX4_read_7 : decode cX4_read 7 = .ok (.isub, 1) := dk_100 (dk_at dksX4_read_0 7 rfl rfl)
theorem dX4_read_8 : decode cX4_read 8 = .ok (.invokestatic 123, 3) := dk_184 0 123 (dk_at dksX4_read_0 8 rfl rfl)
theorem dX4_read_11 : decode cX4_read 11 = .ok (.ifCond .eq 19, 3) := dk_153 0 19 (dk_at dksX4_read_0 11 rfl rfl)
theorem dX4_read_14 : decode cX4_read 14 = .ok (.iload_n 2, 1) := dk_28 (dk_at dksX4_read_0 14 rfl rfl)
theorem dX4_read_15 : decode cX4_read 15 = .ok (.iconst 0, 1) := dk_3 (dk_at dksX4_read_0 15 rfl rfl)
theorem dX4_read_16 : decode cX4_read 16 = .ok (.aload_n 0, 1) := dk_42 (dk_at dksX4_read_0 16 rfl rfl)
theorem dX4_read_17 : decode cX4_read 17 = .ok (.getfield 20, 3) := dk_180 0 20 (dk_at dksX4_read_0 17 rfl rfl)
theorem dX4_read_20 : decode cX4_read 20 = .ok (.iload_n 1, 1) := dk_27 (dk_at dksX4_read_0 20 rfl rfl)
theorem dX4_read_21 : decode cX4_read 21 = .ok (.iaload, 1) := dk_46 (dk_at dksX4_read_0 21 rfl rfl)
theorem dX4_read_22 : decode cX4_read 22 = .ok (.iconst 1, 1) := dk_4 (dk_at dksX4_read_0 22 rfl rfl)
theorem dX4_read_23 : decode cX4_read 23 = .ok (.isub, 1) := dk_100 (dk_at dksX4_read_0 23 rfl rfl)
theorem dX4_read_24 : decode cX4_read 24 = .ok (.invokestatic 123, 3) := dk_184 0 123 (dk_at dksX4_read_1 0 rfl rfl)
theorem dX4_read_27 : decode cX4_read 27 = .ok (.ifCond .ne 5, 3) := dk_154 0 5 (dk_at dksX4_read_1 3 rfl rfl)
theorem dX4_read_30 : decode cX4_read 30 = .ok (.iconst (-1), 1) := dk_2 (dk_at dksX4_read_1 6 rfl rfl)
theorem dX4_read_31 : decode cX4_read 31 = .ok (.ireturn, 1) := dk_172 (dk_at dksX4_read_1 7 rfl rfl)
theorem dX4_read_32 : decode cX4_read 32 = .ok (.aload_n 0, 1) := dk_42 (dk_at dksX4_read_1 8 rfl rfl)
theorem dX4_read_33 : decode cX4_read 33 = .ok (.invokevirtual 235, 3) := dk_182 0 235 (dk_at dksX4_read_1 9 rfl rfl)
theorem dX4_read_36 : decode cX4_read 36 = .ok (.iload_n 2, 1) := dk_28 (dk_at dksX4_read_1 12 rfl rfl)
theorem dX4_read_37 : decode cX4_read 37 = .ok (.istore 4, 2) := dk_54 4 (dk_at dksX4_read_1 13 rfl rfl)
theorem dX4_read_39 : decode cX4_read 39 = .ok (.iconst 0, 1) := dk_3 (dk_at dksX4_read_1 15 rfl rfl)
theorem dX4_read_40 : decode cX4_read 40 = .ok (.istore 5, 2) := dk_54 5 (dk_at dksX4_read_1 16 rfl rfl)
theorem dX4_read_42 : decode cX4_read 42 = .ok (.iload 5, 2) := dk_21 5 (dk_at dksX4_read_1 18 rfl rfl)
theorem dX4_read_44 : decode cX4_read 44 = .ok (.iload_n 1, 1) := dk_27 (dk_at dksX4_read_1 20 rfl rfl)
theorem dX4_read_45 : decode cX4_read 45 = .ok (.if_icmp .ge 21, 3) := dk_162 0 21 (dk_at dksX4_read_1 21 rfl rfl)
theorem dX4_read_48 : decode cX4_read 48 = .ok (.iload 4, 2) := dk_21 4 (dk_at dksX4_read_2 0 rfl rfl)
theorem dX4_read_50 : decode cX4_read 50 = .ok (.aload_n 0, 1) := dk_42 (dk_at dksX4_read_2 2 rfl rfl)
theorem dX4_read_51 : decode cX4_read 51 = .ok (.getfield 20, 3) := dk_180 0 20 (dk_at dksX4_read_2 3 rfl rfl)
theorem dX4_read_54 : decode cX4_read 54 = .ok (.iload 5, 2) := dk_21 5 (dk_at dksX4_read_2 6 rfl rfl)
theorem dX4_read_56 : decode cX4_read 56 = .ok (.iaload, 1) := dk_46 (dk_at dksX4_read_2 8 rfl rfl)
theorem dX4_read_57 : decode cX4_read 57 = .ok (.iadd, 1) := dk_96 (dk_at dksX4_read_2 9 rfl rfl)
theorem dX4_read_58 : decode cX4_read 58 = .ok (.istore 4, 2) := dk_54 4 (dk_at dksX4_read_2 10 rfl rfl)
theorem dX4_read_60 : decode cX4_read 60 = .ok (.iinc 5 1, 3) := dk_132 5 1 (dk_at dksX4_read_2 12 rfl rfl)
theorem dX4_read_63 : decode cX4_read 63 = .ok (.goto (-21), 3) := dk_167 255 235 (dk_at dksX4_read_2 15 rfl rfl)
theorem dX4_read_66 : decode cX4_read 66 = .ok (.aload_n 0, 1) := dk_42 (dk_at dksX4_read_2 18 rfl rfl)
theorem dX4_read_67 : decode cX4_read 67 = .ok (.getfield 47, 3) := dk_180 0 47 (dk_at dksX4_read_2 19 rfl rfl)
theorem dX4_read_70 : decode cX4_read 70 = .ok (.iload 4, 2) := dk_21 4 (dk_at dksX4_read_2 22 rfl rfl)
theorem dX4_read_72 : decode cX4_read 72 = .ok (.iconst 1, 1) := dk_4 (dk_at dksX4_read_3 0 rfl rfl)
theorem dX4_read_73 : decode cX4_read 73 = .ok (.iadd, 1) := dk_96 (dk_at dksX4_read_3 1 rfl rfl)
theorem dX4_read_74 : decode cX4_read 74 = .ok (.iaload, 1) := dk_46 (dk_at dksX4_read_3 2 rfl rfl)
theorem dX4_read_75 : decode cX4_read 75 = .ok (.aload_n 0, 1) := dk_42 (dk_at dksX4_read_3 3 rfl rfl)
theorem dX4_read_76 : decode cX4_read 76 = .ok (.getfield 47, 3) := dk_180 0 47 (dk_at dksX4_read_3 4 rfl rfl)
theorem dX4_read_79 : decode cX4_read 79 = .ok (.iload 4, 2) := dk_21 4 (dk_at dksX4_read_3 7 rfl rfl)
theorem dX4_read_81 : decode cX4_read 81 = .ok (.iaload, 1) := dk_46 (dk_at dksX4_read_3 9 rfl rfl)
theorem dX4_read_82 : decode cX4_read 82 = .ok (.isub, 1) := dk_100 (dk_at dksX4_read_3 10 rfl rfl)
theorem dX4_read_83 : decode cX4_read 83 = .ok (.istore 5, 2) := dk_54 5 (dk_at dksX4_read_3 11 rfl rfl)
theorem dX4_read_85 : decode cX4_read 85 = .ok (.iload_n 3, 1) := dk_29 (dk_at dksX4_read_3 13 rfl rfl)
theorem dX4_read_86 : decode cX4_read 86 = .ok (.iconst (-1), 1) := dk_2 (dk_at dksX4_read_3 14 rfl rfl)
theorem dX4_read_87 : decode cX4_read 87 = .ok (.if_icmp .ne 6, 3) := dk_160 0 6 (dk_at dksX4_read_3 15 rfl rfl)
theorem dX4_read_90 : decode cX4_read 90 = .ok (.iload 5, 2) := dk_21 5 (dk_at dksX4_read_3 18 rfl rfl)
theorem dX4_read_92 : decode cX4_read 92 = .ok (.ireturn, 1) := dk_172 (dk_at dksX4_read_3 20 rfl rfl)
theorem dX4_read_93 : decode cX4_read 93 = .ok (.iload_n 3, 1) := dk_29 (dk_at dksX4_read_3 21 rfl rfl)
theorem dX4_read_94 : decode cX4_read 94 = .ok (.iconst 0, 1) := dk_3 (dk_at dksX4_read_3 22 rfl rfl)
theorem dX4_read_95 : decode cX4_read 95 = .ok (.iload 5, 2) := dk_21 5 (dk_at dksX4_read_4 0 rfl rfl)
theorem dX4_read_97 : decode cX4_read 97 = .ok (.iconst 1, 1) := dk_4 (dk_at dksX4_read_4 2 rfl rfl)
theorem dX4_read_98 : decode cX4_read 98 = .ok (.isub, 1) := dk_100 (dk_at dksX4_read_4 3 rfl rfl)
theorem dX4_read_99 : decode cX4_read 99 = .ok (.invokestatic 123, 3) := dk_184 0 123 (dk_at dksX4_read_4 4 rfl rfl)
theorem dX4_read_102 : decode cX4_read 102 = .ok (.ifCond .eq 20, 3) := dk_153 0 20 (dk_at dksX4_read_4 7 rfl rfl)
theorem dX4_read_105 : decode cX4_read 105 = .ok (.aload_n 0, 1) := dk_42 (dk_at dksX4_read_4 10 rfl rfl)
theorem dX4_read_106 : decode cX4_read 106 = .ok (.getfield 50, 3) := dk_180 0 50 (dk_at dksX4_read_4 11 rfl rfl)
theorem dX4_read_109 : decode cX4_read 109 = .ok (.aload_n 0, 1) := dk_42 (dk_at dksX4_read_4 14 rfl rfl)
theorem dX4_read_110 : decode cX4_read 110 = .ok (.getfield 47, 3) := dk_180 0 47 (dk_at dksX4_read_4 15 rfl rfl)
theorem dX4_read_113 : decode cX4_read 113 = .ok (.iload 4, 2) := dk_21 4 (dk_at dksX4_read_4 18 rfl rfl)
theorem dX4_read_115 : decode cX4_read 115 = .ok (.iaload, 1) := dk_46 (dk_at dksX4_read_4 20 rfl rfl)
theorem dX4_read_116 : decode cX4_read 116 = .ok (.iload_n 3, 1) := dk_29 (dk_at dksX4_read_4 21 rfl rfl)
theorem dX4_read_117 : decode cX4_read 117 = .ok (.iadd, 1) := dk_96 (dk_at dksX4_read_4 22 rfl rfl)
theorem dX4_read_118 : decode cX4_read 118 = .ok (.iaload, 1) := dk_46 (dk_at dksX4_read_4 23 rfl rfl)
theorem dX4_read_119 : decode cX4_read 119 = .ok (.goto 4, 3) := dk_167 0 4 (dk_at dksX4_read_5 0 rfl rfl)
theorem dX4_read_122 : decode cX4_read 122 = .ok (.iconst (-1), 1) := dk_2 (dk_at dksX4_read_5 3 rfl rfl)
theorem dX4_read_123 : decode cX4_read 123 = .ok (.ireturn, 1) := dk_172 (dk_at dksX4_read_5 4 rfl rfl)
def dkwX4_comes_0 : List UInt8 := [42, 182, 1, 37, 60, 27, 154, 0, 7, 2, 167, 0, 8, 42, 27, 182, 1, 40, 172]
abbrev dktX4_comes_0 : List UInt8 := dkwX4_comes_0 ++ []
theorem dksX4_comes_0 : cX4_comes.data.toList.drop 0 = dktX4_comes_0 := by decide +kernel
theorem dX4_comes_0 : decode cX4_comes 0 = .ok (.aload_n 0, 1) := dk_42 (dk_at dksX4_comes_0 0 rfl rfl)
theorem dX4_comes_1 : decode cX4_comes 1 = .ok (.invokevirtual 293, 3) := dk_182 1 37 (dk_at dksX4_comes_0 1 rfl rfl)
theorem dX4_comes_4 : decode cX4_comes 4 = .ok (.istore_n 1, 1) := dk_60 (dk_at dksX4_comes_0 4 rfl rfl)
theorem dX4_comes_5 : decode cX4_comes 5 = .ok (.iload_n 1, 1) := dk_27 (dk_at dksX4_comes_0 5 rfl rfl)
theorem dX4_comes_6 : decode cX4_comes 6 = .ok (.ifCond .ne 7, 3) := dk_154 0 7 (dk_at dksX4_comes_0 6 rfl rfl)
theorem dX4_comes_9 : decode cX4_comes 9 = .ok (.iconst (-1), 1) := dk_2 (dk_at dksX4_comes_0 9 rfl rfl)
theorem dX4_comes_10 : decode cX4_comes 10 = .ok (.goto 8, 3) := dk_167 0 8 (dk_at dksX4_comes_0 10 rfl rfl)
theorem dX4_comes_13 : decode cX4_comes 13 = .ok (.aload_n 0, 1) := dk_42 (dk_at dksX4_comes_0 13 rfl rfl)
theorem dX4_comes_14 : decode cX4_comes 14 = .ok (.iload_n 1, 1) := dk_27 (dk_at dksX4_comes_0 14 rfl rfl)
theorem dX4_comes_15 : decode cX4_comes 15 = .ok (.invokevirtual 296, 3) := dk_182 1 40 (dk_at dksX4_comes_0 15 rfl rfl)
theorem dX4_comes_18 : decode cX4_comes 18 = .ok (.ireturn, 1) := dk_172 (dk_at dksX4_comes_0 18 rfl rfl)
def dkwX4_pieceTold_4 : List UInt8 := [181, 0, 113, 167, 255, 182, 42, 3, 181, 0, 105, 28, 153, 0, 7, 27, 167, 0, 4, 3, 172]
abbrev dktX4_pieceTold_4 : List UInt8 := dkwX4_pieceTold_4 ++ []
def dkwX4_pieceTold_3 : List UInt8 := [180, 0, 113, 42, 180, 0, 41, 42, 182, 0, 119, 16, 97, 100, 46, 79, 42, 89, 180, 0, 113, 4, 96]
abbrev dktX4_pieceTold_3 : List UInt8 := dkwX4_pieceTold_3 ++ dktX4_pieceTold_4
def dkwX4_pieceTold_2 : List UInt8 := [100, 42, 180, 0, 162, 162, 0, 7, 4, 167, 0, 4, 3, 61, 28, 153, 0, 24, 42, 180, 0, 53, 42]
abbrev dktX4_pieceTold_2 : List UInt8 := dkwX4_pieceTold_2 ++ dktX4_pieceTold_3
def dkwX4_pieceTold_1 : List UInt8 := [153, 0, 76, 42, 180, 0, 113, 27, 162, 0, 68, 42, 182, 0, 168, 153, 0, 21, 42, 182, 0, 119, 16, 97]
abbrev dktX4_pieceTold_1 : List UInt8 := dkwX4_pieceTold_1 ++ dktX4_pieceTold_2
def dkwX4_pieceTold_0 : List UInt8 := [42, 182, 0, 235, 42, 182, 0, 156, 42, 180, 0, 105, 60, 27, 4, 16, 7, 184, 0, 123, 61, 28]
abbrev dktX4_pieceTold_0 : List UInt8 := dkwX4_pieceTold_0 ++ dktX4_pieceTold_1
theorem dksX4_pieceTold_0 : cX4_pieceTold.data.toList.drop 0 = dktX4_pieceTold_0 := by decide +kernel
theorem dksX4_pieceTold_1 : cX4_pieceTold.data.toList.drop 22 = dktX4_pieceTold_1 := dk_seg dksX4_pieceTold_0 22 rfl rfl
theorem dksX4_pieceTold_2 : cX4_pieceTold.data.toList.drop 46 = dktX4_pieceTold_2 := dk_seg dksX4_pieceTold_1 24 rfl rfl
theorem dksX4_pieceTold_3 : cX4_pieceTold.data.toList.drop 69 = dktX4_pieceTold_3 := dk_seg dksX4_pieceTold_2 23 rfl rfl
theorem dksX4_pieceTold_4 : cX4_pieceTold.data.toList.drop 92 = dktX4_pieceTold_4 := dk_seg dksX4_pieceTold_3 23 rfl rfl
theorem dX4_pieceTold_0 : decode cX4_pieceTold 0 = .ok (.aload_n 0, 1) := dk_42 (dk_at dksX4_pieceTold_0 0 rfl rfl)
theorem dX4_pieceTold_1 : decode cX4_pieceTold 1 = .ok (.invokevirtual 235, 3) := dk_182 0 235 (dk_at dksX4_pieceTold_0 1 rfl rfl)
theorem dX4_pieceTold_4 : decode cX4_pieceTold 4 = .ok (.aload_n 0, 1) := dk_42 (dk_at dksX4_pieceTold_0 4 rfl rfl)
theorem dX4_pieceTold_5 : decode cX4_pieceTold 5 = .ok (.invokevirtual 156, 3) := dk_182 0 156 (dk_at dksX4_pieceTold_0 5 rfl rfl)
theorem dX4_pieceTold_8 : decode cX4_pieceTold 8 = .ok (.aload_n 0, 1) := dk_42 (dk_at dksX4_pieceTold_0 8 rfl rfl)
theorem dX4_pieceTold_9 : decode cX4_pieceTold 9 = .ok (.getfield 105, 3) := dk_180 0 105 (dk_at dksX4_pieceTold_0 9 rfl rfl)
theorem dX4_pieceTold_12 : decode cX4_pieceTold 12 = .ok (.istore_n 1, 1) := dk_60 (dk_at dksX4_pieceTold_0 12 rfl rfl)
theorem dX4_pieceTold_13 : decode cX4_pieceTold 13 = .ok (.iload_n 1, 1) := dk_27 (dk_at dksX4_pieceTold_0 13 rfl rfl)
theorem dX4_pieceTold_14 : decode cX4_pieceTold 14 = .ok (.iconst 1, 1) := dk_4 (dk_at dksX4_pieceTold_0 14 rfl rfl)
theorem dX4_pieceTold_15 : decode cX4_pieceTold 15 = .ok (.bipush 7, 2) := dk_16 7 (dk_at dksX4_pieceTold_0 15 rfl rfl)
theorem dX4_pieceTold_17 : decode cX4_pieceTold 17 = .ok (.invokestatic 123, 3) := dk_184 0 123 (dk_at dksX4_pieceTold_0 17 rfl rfl)
theorem dX4_pieceTold_20 : decode cX4_pieceTold 20 = .ok (.istore_n 2, 1) := dk_61 (dk_at dksX4_pieceTold_0 20 rfl rfl)
theorem dX4_pieceTold_21 : decode cX4_pieceTold 21 = .ok (.iload_n 2, 1) := dk_28 (dk_at dksX4_pieceTold_0 21 rfl rfl)
theorem dX4_pieceTold_22 : decode cX4_pieceTold 22 = .ok (.ifCond .eq 76, 3) := dk_153 0 76 (dk_at dksX4_pieceTold_1 0 rfl rfl)
theorem dX4_pieceTold_25 : decode cX4_pieceTold 25 = .ok (.aload_n 0, 1) := dk_42 (dk_at dksX4_pieceTold_1 3 rfl rfl)
theorem dX4_pieceTold_26 : decode cX4_pieceTold 26 = .ok (.getfield 113, 3) := dk_180 0 113 (dk_at dksX4_pieceTold_1 4 rfl rfl)
theorem dX4_pieceTold_29 : decode cX4_pieceTold 29 = .ok (.iload_n 1, 1) := dk_27 (dk_at dksX4_pieceTold_1 7 rfl rfl)
theorem dX4_pieceTold_30 : decode cX4_pieceTold 30 = .ok (.if_icmp .ge 68, 3) := dk_162 0 68 (dk_at dksX4_pieceTold_1 8 rfl rfl)
theorem dX4_pieceTold_33 : decode cX4_pieceTold 33 = .ok (.aload_n 0, 1) := dk_42 (dk_at dksX4_pieceTold_1 11 rfl rfl)
theorem dX4_pieceTold_34 : decode cX4_pieceTold 34 = .ok (.invokevirtual 168, 3) := dk_182 0 168 (dk_at dksX4_pieceTold_1 12 rfl rfl)
theorem dX4_pieceTold_37 : decode cX4_pieceTold 37 = .ok (.ifCond .eq 21, 3) := dk_153 0 21 (dk_at dksX4_pieceTold_1 15 rfl rfl)
theorem dX4_pieceTold_40 : decode cX4_pieceTold 40 = .ok (.aload_n 0, 1) := dk_42 (dk_at dksX4_pieceTold_1 18 rfl rfl)
theorem dX4_pieceTold_41 : decode cX4_pieceTold 41 = .ok (.invokevirtual 119, 3) := dk_182 0 119 (dk_at dksX4_pieceTold_1 19 rfl rfl)
theorem dX4_pieceTold_44 : decode cX4_pieceTold 44 = .ok (.bipush 97, 2) := dk_16 97 (dk_at dksX4_pieceTold_1 22 rfl rfl)
theorem dX4_pieceTold_46 : decode cX4_pieceTold 46 = .ok (.isub, 1) := dk_100 (dk_at dksX4_pieceTold_2 0 rfl rfl)
theorem dX4_pieceTold_47 : decode cX4_pieceTold 47 = .ok (.aload_n 0, 1) := dk_42 (dk_at dksX4_pieceTold_2 1 rfl rfl)
theorem dX4_pieceTold_48 : decode cX4_pieceTold 48 = .ok (.getfield 162, 3) := dk_180 0 162 (dk_at dksX4_pieceTold_2 2 rfl rfl)
theorem dX4_pieceTold_51 : decode cX4_pieceTold 51 = .ok (.if_icmp .ge 7, 3) := dk_162 0 7 (dk_at dksX4_pieceTold_2 5 rfl rfl)
theorem dX4_pieceTold_54 : decode cX4_pieceTold 54 = .ok (.iconst 1, 1) := dk_4 (dk_at dksX4_pieceTold_2 8 rfl rfl)
theorem dX4_pieceTold_55 : decode cX4_pieceTold 55 = .ok (.goto 4, 3) := dk_167 0 4 (dk_at dksX4_pieceTold_2 9 rfl rfl)
theorem dX4_pieceTold_58 : decode cX4_pieceTold 58 = .ok (.iconst 0, 1) := dk_3 (dk_at dksX4_pieceTold_2 12 rfl rfl)
theorem dX4_pieceTold_59 : decode cX4_pieceTold 59 = .ok (.istore_n 2, 1) := dk_61 (dk_at dksX4_pieceTold_2 13 rfl rfl)
theorem dX4_pieceTold_60 : decode cX4_pieceTold 60 = .ok (.iload_n 2, 1) := dk_28 (dk_at dksX4_pieceTold_2 14 rfl rfl)
theorem dX4_pieceTold_61 : decode cX4_pieceTold 61 = .ok (.ifCond .eq 24, 3) := dk_153 0 24 (dk_at dksX4_pieceTold_2 15 rfl rfl)
theorem dX4_pieceTold_64 : decode cX4_pieceTold 64 = .ok (.aload_n 0, 1) := dk_42 (dk_at dksX4_pieceTold_2 18 rfl rfl)
theorem dX4_pieceTold_65 : decode cX4_pieceTold 65 = .ok (.getfield 53, 3) := dk_180 0 53 (dk_at dksX4_pieceTold_2 19 rfl rfl)
theorem dX4_pieceTold_68 : decode cX4_pieceTold 68 = .ok (.aload_n 0, 1) := dk_42 (dk_at dksX4_pieceTold_2 22 rfl rfl)
theorem dX4_pieceTold_69 : decode cX4_pieceTold 69 = .ok (.getfield 113, 3) := dk_180 0 113 (dk_at dksX4_pieceTold_3 0 rfl rfl)
theorem dX4_pieceTold_72 : decode cX4_pieceTold 72 = .ok (.aload_n 0, 1) := dk_42 (dk_at dksX4_pieceTold_3 3 rfl rfl)
theorem dX4_pieceTold_73 : decode cX4_pieceTold 73 = .ok (.getfield 41, 3) := dk_180 0 41 (dk_at dksX4_pieceTold_3 4 rfl rfl)
theorem dX4_pieceTold_76 : decode cX4_pieceTold 76 = .ok (.aload_n 0, 1) := dk_42 (dk_at dksX4_pieceTold_3 7 rfl rfl)
theorem dX4_pieceTold_77 : decode cX4_pieceTold 77 = .ok (.invokevirtual 119, 3) := dk_182 0 119 (dk_at dksX4_pieceTold_3 8 rfl rfl)
theorem dX4_pieceTold_80 : decode cX4_pieceTold 80 = .ok (.bipush 97, 2) := dk_16 97 (dk_at dksX4_pieceTold_3 11 rfl rfl)
theorem dX4_pieceTold_82 : decode cX4_pieceTold 82 = .ok (.isub, 1) := dk_100 (dk_at dksX4_pieceTold_3 13 rfl rfl)
theorem dX4_pieceTold_83 : decode cX4_pieceTold 83 = .ok (.iaload, 1) := dk_46 (dk_at dksX4_pieceTold_3 14 rfl rfl)
theorem dX4_pieceTold_84 : decode cX4_pieceTold 84 = .ok (.iastore, 1) := dk_79 (dk_at dksX4_pieceTold_3 15 rfl rfl)
theorem dX4_pieceTold_85 : decode cX4_pieceTold 85 = .ok (.aload_n 0, 1) := dk_42 (dk_at dksX4_pieceTold_3 16 rfl rfl)
theorem dX4_pieceTold_86 : decode cX4_pieceTold 86 = .ok (.dup, 1) := dk_89 (dk_at dksX4_pieceTold_3 17 rfl rfl)
theorem dX4_pieceTold_87 : decode cX4_pieceTold 87 = .ok (.getfield 113, 3) := dk_180 0 113 (dk_at dksX4_pieceTold_3 18 rfl rfl)
theorem dX4_pieceTold_90 : decode cX4_pieceTold 90 = .ok (.iconst 1, 1) := dk_4 (dk_at dksX4_pieceTold_3 21 rfl rfl)
theorem dX4_pieceTold_91 : decode cX4_pieceTold 91 = .ok (.iadd, 1) := dk_96 (dk_at dksX4_pieceTold_3 22 rfl rfl)
theorem dX4_pieceTold_92 : decode cX4_pieceTold 92 = .ok (.putfield 113, 3) := dk_181 0 113 (dk_at dksX4_pieceTold_4 0 rfl rfl)
theorem dX4_pieceTold_95 : decode cX4_pieceTold 95 = .ok (.goto (-74), 3) := dk_167 255 182 (dk_at dksX4_pieceTold_4 3 rfl rfl)
theorem dX4_pieceTold_98 : decode cX4_pieceTold 98 = .ok (.aload_n 0, 1) := dk_42 (dk_at dksX4_pieceTold_4 6 rfl rfl)
theorem dX4_pieceTold_99 : decode cX4_pieceTold 99 = .ok (.iconst 0, 1) := dk_3 (dk_at dksX4_pieceTold_4 7 rfl rfl)
theorem dX4_pieceTold_100 : decode cX4_pieceTold 100 = .ok (.putfield 105, 3) := dk_181 0 105 (dk_at dksX4_pieceTold_4 8 rfl rfl)
theorem dX4_pieceTold_103 : decode cX4_pieceTold 103 = .ok (.iload_n 2, 1) := dk_28 (dk_at dksX4_pieceTold_4 11 rfl rfl)
theorem dX4_pieceTold_104 : decode cX4_pieceTold 104 = .ok (.ifCond .eq 7, 3) := dk_153 0 7 (dk_at dksX4_pieceTold_4 12 rfl rfl)
theorem dX4_pieceTold_107 : decode cX4_pieceTold 107 = .ok (.iload_n 1, 1) := dk_27 (dk_at dksX4_pieceTold_4 15 rfl rfl)
theorem dX4_pieceTold_108 : decode cX4_pieceTold 108 = .ok (.goto 4, 3) := dk_167 0 4 (dk_at dksX4_pieceTold_4 16 rfl rfl)
theorem dX4_pieceTold_111 : decode cX4_pieceTold 111 = .ok (.iconst 0, 1) := dk_3 (dk_at dksX4_pieceTold_4 19 rfl rfl)
theorem dX4_pieceTold_112 : decode cX4_pieceTold 112 = .ok (.ireturn, 1) := dk_172 (dk_at dksX4_pieceTold_4 20 rfl rfl)
def dkwX4_comesOf_2 : List UInt8 := [182, 1, 34, 184, 0, 177, 96, 61, 132, 4, 1, 167, 255, 219, 132, 3, 1, 167, 255, 197, 28, 172]
abbrev dktX4_comesOf_2 : List UInt8 := dkwX4_comesOf_2 ++ []
def dkwX4_comesOf_1 : List UInt8 := [180, 0, 47, 29, 4, 96, 46, 162, 0, 30, 28, 42, 21, 4, 42, 180, 0, 47, 29, 4, 96, 46, 27]
abbrev dktX4_comesOf_1 : List UInt8 := dkwX4_comesOf_1 ++ dktX4_comesOf_2
def dkwX4_comesOf_0 : List UInt8 := [3, 61, 3, 62, 29, 42, 180, 1, 27, 162, 0, 57, 42, 180, 0, 47, 29, 46, 54, 4, 21, 4, 42]
abbrev dktX4_comesOf_0 : List UInt8 := dkwX4_comesOf_0 ++ dktX4_comesOf_1
theorem dksX4_comesOf_0 : cX4_comesOf.data.toList.drop 0 = dktX4_comesOf_0 := by decide +kernel
theorem dksX4_comesOf_1 : cX4_comesOf.data.toList.drop 23 = dktX4_comesOf_1 := dk_seg dksX4_comesOf_0 23 rfl rfl
theorem dksX4_comesOf_2 : cX4_comesOf.data.toList.drop 46 = dktX4_comesOf_2 := dk_seg dksX4_comesOf_1 23 rfl rfl
theorem dX4_comesOf_0 : decode cX4_comesOf 0 = .ok (.iconst 0, 1) := dk_3 (dk_at dksX4_comesOf_0 0 rfl rfl)
theorem dX4_comesOf_1 : decode cX4_comesOf 1 = .ok (.istore_n 2, 1) := dk_61 (dk_at dksX4_comesOf_0 1 rfl rfl)
theorem dX4_comesOf_2 : decode cX4_comesOf 2 = .ok (.iconst 0, 1) := dk_3 (dk_at dksX4_comesOf_0 2 rfl rfl)
theorem dX4_comesOf_3 : decode cX4_comesOf 3 = .ok (.istore_n 3, 1) := dk_62 (dk_at dksX4_comesOf_0 3 rfl rfl)
theorem dX4_comesOf_4 : decode cX4_comesOf 4 = .ok (.iload_n 3, 1) := dk_29 (dk_at dksX4_comesOf_0 4 rfl rfl)
theorem dX4_comesOf_5 : decode cX4_comesOf 5 = .ok (.aload_n 0, 1) := dk_42 (dk_at dksX4_comesOf_0 5 rfl rfl)
theorem dX4_comesOf_6 : decode cX4_comesOf 6 = .ok (.getfield 283, 3) := dk_180 1 27 (dk_at dksX4_comesOf_0 6 rfl rfl)
theorem dX4_comesOf_9 : decode cX4_comesOf 9 = .ok (.if_icmp .ge 57, 3) := dk_162 0 57 (dk_at dksX4_comesOf_0 9 rfl rfl)
theorem dX4_comesOf_12 : decode cX4_comesOf 12 = .ok (.aload_n 0, 1) := dk_42 (dk_at dksX4_comesOf_0 12 rfl rfl)
theorem dX4_comesOf_13 : decode cX4_comesOf 13 = .ok (.getfield 47, 3) := dk_180 0 47 (dk_at dksX4_comesOf_0 13 rfl rfl)
theorem dX4_comesOf_16 : decode cX4_comesOf 16 = .ok (.iload_n 3, 1) := dk_29 (dk_at dksX4_comesOf_0 16 rfl rfl)
theorem dX4_comesOf_17 : decode cX4_comesOf 17 = .ok (.iaload, 1) := dk_46 (dk_at dksX4_comesOf_0 17 rfl rfl)
theorem dX4_comesOf_18 : decode cX4_comesOf 18 = .ok (.istore 4, 2) := dk_54 4 (dk_at dksX4_comesOf_0 18 rfl rfl)
theorem dX4_comesOf_20 : decode cX4_comesOf 20 = .ok (.iload 4, 2) := dk_21 4 (dk_at dksX4_comesOf_0 20 rfl rfl)
theorem dX4_comesOf_22 : decode cX4_comesOf 22 = .ok (.aload_n 0, 1) := dk_42 (dk_at dksX4_comesOf_0 22 rfl rfl)
theorem dX4_comesOf_23 : decode cX4_comesOf 23 = .ok (.getfield 47, 3) := dk_180 0 47 (dk_at dksX4_comesOf_1 0 rfl rfl)
theorem dX4_comesOf_26 : decode cX4_comesOf 26 = .ok (.iload_n 3, 1) := dk_29 (dk_at dksX4_comesOf_1 3 rfl rfl)
theorem dX4_comesOf_27 : decode cX4_comesOf 27 = .ok (.iconst 1, 1) := dk_4 (dk_at dksX4_comesOf_1 4 rfl rfl)
theorem dX4_comesOf_28 : decode cX4_comesOf 28 = .ok (.iadd, 1) := dk_96 (dk_at dksX4_comesOf_1 5 rfl rfl)
theorem dX4_comesOf_29 : decode cX4_comesOf 29 = .ok (.iaload, 1) := dk_46 (dk_at dksX4_comesOf_1 6 rfl rfl)
theorem dX4_comesOf_30 : decode cX4_comesOf 30 = .ok (.if_icmp .ge 30, 3) := dk_162 0 30 (dk_at dksX4_comesOf_1 7 rfl rfl)
theorem dX4_comesOf_33 : decode cX4_comesOf 33 = .ok (.iload_n 2, 1) := dk_28 (dk_at dksX4_comesOf_1 10 rfl rfl)
theorem dX4_comesOf_34 : decode cX4_comesOf 34 = .ok (.aload_n 0, 1) := dk_42 (dk_at dksX4_comesOf_1 11 rfl rfl)
theorem dX4_comesOf_35 : decode cX4_comesOf 35 = .ok (.iload 4, 2) := dk_21 4 (dk_at dksX4_comesOf_1 12 rfl rfl)
theorem dX4_comesOf_37 : decode cX4_comesOf 37 = .ok (.aload_n 0, 1) := dk_42 (dk_at dksX4_comesOf_1 14 rfl rfl)
theorem dX4_comesOf_38 : decode cX4_comesOf 38 = .ok (.getfield 47, 3) := dk_180 0 47 (dk_at dksX4_comesOf_1 15 rfl rfl)
theorem dX4_comesOf_41 : decode cX4_comesOf 41 = .ok (.iload_n 3, 1) := dk_29 (dk_at dksX4_comesOf_1 18 rfl rfl)
theorem dX4_comesOf_42 : decode cX4_comesOf 42 = .ok (.iconst 1, 1) := dk_4 (dk_at dksX4_comesOf_1 19 rfl rfl)
theorem dX4_comesOf_43 : decode cX4_comesOf 43 = .ok (.iadd, 1) := dk_96 (dk_at dksX4_comesOf_1 20 rfl rfl)
theorem dX4_comesOf_44 : decode cX4_comesOf 44 = .ok (.iaload, 1) := dk_46 (dk_at dksX4_comesOf_1 21 rfl rfl)
theorem dX4_comesOf_45 : decode cX4_comesOf 45 = .ok (.iload_n 1, 1) := dk_27 (dk_at dksX4_comesOf_1 22 rfl rfl)
theorem dX4_comesOf_46 : decode cX4_comesOf 46 = .ok (.invokevirtual 290, 3) := dk_182 1 34 (dk_at dksX4_comesOf_2 0 rfl rfl)
theorem dX4_comesOf_49 : decode cX4_comesOf 49 = .ok (.invokestatic 177, 3) := dk_184 0 177 (dk_at dksX4_comesOf_2 3 rfl rfl)
theorem dX4_comesOf_52 : decode cX4_comesOf 52 = .ok (.iadd, 1) := dk_96 (dk_at dksX4_comesOf_2 6 rfl rfl)
theorem dX4_comesOf_53 : decode cX4_comesOf 53 = .ok (.istore_n 2, 1) := dk_61 (dk_at dksX4_comesOf_2 7 rfl rfl)
theorem dX4_comesOf_54 : decode cX4_comesOf 54 = .ok (.iinc 4 1, 3) := dk_132 4 1 (dk_at dksX4_comesOf_2 8 rfl rfl)
theorem dX4_comesOf_57 : decode cX4_comesOf 57 = .ok (.goto (-37), 3) := dk_167 255 219 (dk_at dksX4_comesOf_2 11 rfl rfl)
theorem dX4_comesOf_60 : decode cX4_comesOf 60 = .ok (.iinc 3 1, 3) := dk_132 3 1 (dk_at dksX4_comesOf_2 14 rfl rfl)
theorem dX4_comesOf_63 : decode cX4_comesOf 63 = .ok (.goto (-59), 3) := dk_167 255 197 (dk_at dksX4_comesOf_2 17 rfl rfl)
theorem dX4_comesOf_66 : decode cX4_comesOf 66 = .ok (.iload_n 2, 1) := dk_28 (dk_at dksX4_comesOf_2 20 rfl rfl)
theorem dX4_comesOf_67 : decode cX4_comesOf 67 = .ok (.ireturn, 1) := dk_172 (dk_at dksX4_comesOf_2 21 rfl rfl)
def dkwX4_next_0 : List UInt8 := [42, 182, 1, 37, 60, 27, 154, 0, 7, 2, 167, 0, 8, 42, 27, 182, 1, 43, 172]
abbrev dktX4_next_0 : List UInt8 := dkwX4_next_0 ++ []
theorem dksX4_next_0 : cX4_next.data.toList.drop 0 = dktX4_next_0 := by decide +kernel
theorem dX4_next_0 : decode cX4_next 0 = .ok (.aload_n 0, 1) := dk_42 (dk_at dksX4_next_0 0 rfl rfl)
theorem dX4_next_1 : decode cX4_next 1 = .ok (.invokevirtual 293, 3) := dk_182 1 37 (dk_at dksX4_next_0 1 rfl rfl)
theorem dX4_next_4 : decode cX4_next 4 = .ok (.istore_n 1, 1) := dk_60 (dk_at dksX4_next_0 4 rfl rfl)
theorem dX4_next_5 : decode cX4_next 5 = .ok (.iload_n 1, 1) := dk_27 (dk_at dksX4_next_0 5 rfl rfl)
theorem dX4_next_6 : decode cX4_next 6 = .ok (.ifCond .ne 7, 3) := dk_154 0 7 (dk_at dksX4_next_0 6 rfl rfl)
theorem dX4_next_9 : decode cX4_next 9 = .ok (.iconst (-1), 1) := dk_2 (dk_at dksX4_next_0 9 rfl rfl)
theorem dX4_next_10 : decode cX4_next 10 = .ok (.goto 8, 3) := dk_167 0 8 (dk_at dksX4_next_0 10 rfl rfl)
theorem dX4_next_13 : decode cX4_next 13 = .ok (.aload_n 0, 1) := dk_42 (dk_at dksX4_next_0 13 rfl rfl)
theorem dX4_next_14 : decode cX4_next 14 = .ok (.iload_n 1, 1) := dk_27 (dk_at dksX4_next_0 14 rfl rfl)
theorem dX4_next_15 : decode cX4_next 15 = .ok (.invokevirtual 299, 3) := dk_182 1 43 (dk_at dksX4_next_0 15 rfl rfl)
theorem dX4_next_18 : decode cX4_next 18 = .ok (.ireturn, 1) := dk_172 (dk_at dksX4_next_0 18 rfl rfl)
def dkwX4_words_0 : List UInt8 := [42, 182, 0, 235, 42, 180, 1, 46, 172]
abbrev dktX4_words_0 : List UInt8 := dkwX4_words_0 ++ []
theorem dksX4_words_0 : cX4_words.data.toList.drop 0 = dktX4_words_0 := by decide +kernel
theorem dX4_words_0 : decode cX4_words 0 = .ok (.aload_n 0, 1) := dk_42 (dk_at dksX4_words_0 0 rfl rfl)
theorem dX4_words_1 : decode cX4_words 1 = .ok (.invokevirtual 235, 3) := dk_182 0 235 (dk_at dksX4_words_0 1 rfl rfl)
theorem dX4_words_4 : decode cX4_words 4 = .ok (.aload_n 0, 1) := dk_42 (dk_at dksX4_words_0 4 rfl rfl)
theorem dX4_words_5 : decode cX4_words 5 = .ok (.getfield 302, 3) := dk_180 1 46 (dk_at dksX4_words_0 5 rfl rfl)
theorem dX4_words_8 : decode cX4_words 8 = .ok (.ireturn, 1) := dk_172 (dk_at dksX4_words_0 8 rfl rfl)
def dkwX4_word_3 : List UInt8 := [46, 172]
abbrev dktX4_word_3 : List UInt8 := dkwX4_word_3 ++ []
def dkwX4_word_2 : List UInt8 := [160, 0, 12, 42, 180, 0, 56, 27, 46, 167, 0, 16, 42, 180, 0, 59, 16, 7, 27, 104, 28, 96, 5, 100]
abbrev dktX4_word_2 : List UInt8 := dkwX4_word_2 ++ dktX4_word_3
def dkwX4_word_1 : List UInt8 := [184, 0, 123, 154, 0, 5, 2, 172, 28, 154, 0, 12, 42, 180, 0, 62, 27, 46, 167, 0, 30, 28, 4]
abbrev dktX4_word_1 : List UInt8 := dkwX4_word_1 ++ dktX4_word_2
def dkwX4_word_0 : List UInt8 := [42, 182, 0, 235, 27, 3, 42, 180, 1, 46, 4, 100, 184, 0, 123, 153, 0, 13, 28, 3, 16, 8]
abbrev dktX4_word_0 : List UInt8 := dkwX4_word_0 ++ dktX4_word_1
theorem dksX4_word_0 : cX4_word.data.toList.drop 0 = dktX4_word_0 := by decide +kernel
theorem dksX4_word_1 : cX4_word.data.toList.drop 22 = dktX4_word_1 := dk_seg dksX4_word_0 22 rfl rfl
theorem dksX4_word_2 : cX4_word.data.toList.drop 45 = dktX4_word_2 := dk_seg dksX4_word_1 23 rfl rfl
theorem dksX4_word_3 : cX4_word.data.toList.drop 69 = dktX4_word_3 := dk_seg dksX4_word_2 24 rfl rfl
theorem dX4_word_0 : decode cX4_word 0 = .ok (.aload_n 0, 1) := dk_42 (dk_at dksX4_word_0 0 rfl rfl)
theorem dX4_word_1 : decode cX4_word 1 = .ok (.invokevirtual 235, 3) := dk_182 0 235 (dk_at dksX4_word_0 1 rfl rfl)
theorem dX4_word_4 : decode cX4_word 4 = .ok (.iload_n 1, 1) := dk_27 (dk_at dksX4_word_0 4 rfl rfl)
theorem dX4_word_5 : decode cX4_word 5 = .ok (.iconst 0, 1) := dk_3 (dk_at dksX4_word_0 5 rfl rfl)
theorem dX4_word_6 : decode cX4_word 6 = .ok (.aload_n 0, 1) := dk_42 (dk_at dksX4_word_0 6 rfl rfl)
theorem dX4_word_7 : decode cX4_word 7 = .ok (.getfield 302, 3) := dk_180 1 46 (dk_at dksX4_word_0 7 rfl rfl)
theorem dX4_word_10 : decode cX4_word 10 = .ok (.iconst 1, 1) := dk_4 (dk_at dksX4_word_0 10 rfl rfl)
theorem dX4_word_11 : decode cX4_word 11 = .ok (.isub, 1) := dk_100 (dk_at dksX4_word_0 11 rfl rfl)
theorem dX4_word_12 : decode cX4_word 12 = .ok (.invokestatic 123, 3) := dk_184 0 123 (dk_at dksX4_word_0 12 rfl rfl)
theorem dX4_word_15 : decode cX4_word 15 = .ok (.ifCond .eq 13, 3) := dk_153 0 13 (dk_at dksX4_word_0 15 rfl rfl)
theorem dX4_word_18 : decode cX4_word 18 = .ok (.iload_n 2, 1) := dk_28 (dk_at dksX4_word_0 18 rfl rfl)
theorem dX4_word_19 : decode cX4_word 19 = .ok (.iconst 0, 1) := dk_3 (dk_at dksX4_word_0 19 rfl rfl)
theorem dX4_word_20 : decode cX4_word 20 = .ok (.bipush 8, 2) := dk_16 8 (dk_at dksX4_word_0 20 rfl rfl)
theorem dX4_word_22 : decode cX4_word 22 = .ok (.invokestatic 123, 3) := dk_184 0 123 (dk_at dksX4_word_1 0 rfl rfl)
theorem dX4_word_25 : decode cX4_word 25 = .ok (.ifCond .ne 5, 3) := dk_154 0 5 (dk_at dksX4_word_1 3 rfl rfl)
theorem dX4_word_28 : decode cX4_word 28 = .ok (.iconst (-1), 1) := dk_2 (dk_at dksX4_word_1 6 rfl rfl)
theorem dX4_word_29 : decode cX4_word 29 = .ok (.ireturn, 1) := dk_172 (dk_at dksX4_word_1 7 rfl rfl)
theorem dX4_word_30 : decode cX4_word 30 = .ok (.iload_n 2, 1) := dk_28 (dk_at dksX4_word_1 8 rfl rfl)
theorem dX4_word_31 : decode cX4_word 31 = .ok (.ifCond .ne 12, 3) := dk_154 0 12 (dk_at dksX4_word_1 9 rfl rfl)
theorem dX4_word_34 : decode cX4_word 34 = .ok (.aload_n 0, 1) := dk_42 (dk_at dksX4_word_1 12 rfl rfl)
theorem dX4_word_35 : decode cX4_word 35 = .ok (.getfield 62, 3) := dk_180 0 62 (dk_at dksX4_word_1 13 rfl rfl)
theorem dX4_word_38 : decode cX4_word 38 = .ok (.iload_n 1, 1) := dk_27 (dk_at dksX4_word_1 16 rfl rfl)
theorem dX4_word_39 : decode cX4_word 39 = .ok (.iaload, 1) := dk_46 (dk_at dksX4_word_1 17 rfl rfl)
theorem dX4_word_40 : decode cX4_word 40 = .ok (.goto 30, 3) := dk_167 0 30 (dk_at dksX4_word_1 18 rfl rfl)
theorem dX4_word_43 : decode cX4_word 43 = .ok (.iload_n 2, 1) := dk_28 (dk_at dksX4_word_1 21 rfl rfl)
theorem dX4_word_44 : decode cX4_word 44 = .ok (.iconst 1, 1) := dk_4 (dk_at dksX4_word_1 22 rfl rfl)
theorem dX4_word_45 : decode cX4_word 45 = .ok (.if_icmp .ne 12, 3) := dk_160 0 12 (dk_at dksX4_word_2 0 rfl rfl)
theorem dX4_word_48 : decode cX4_word 48 = .ok (.aload_n 0, 1) := dk_42 (dk_at dksX4_word_2 3 rfl rfl)
theorem dX4_word_49 : decode cX4_word 49 = .ok (.getfield 56, 3) := dk_180 0 56 (dk_at dksX4_word_2 4 rfl rfl)
theorem dX4_word_52 : decode cX4_word 52 = .ok (.iload_n 1, 1) := dk_27 (dk_at dksX4_word_2 7 rfl rfl)
theorem dX4_word_53 : decode cX4_word 53 = .ok (.iaload, 1) := dk_46 (dk_at dksX4_word_2 8 rfl rfl)
theorem dX4_word_54 : decode cX4_word 54 = .ok (.goto 16, 3) := dk_167 0 16 (dk_at dksX4_word_2 9 rfl rfl)
theorem dX4_word_57 : decode cX4_word 57 = .ok (.aload_n 0, 1) := dk_42 (dk_at dksX4_word_2 12 rfl rfl)
theorem dX4_word_58 : decode cX4_word 58 = .ok (.getfield 59, 3) := dk_180 0 59 (dk_at dksX4_word_2 13 rfl rfl)
theorem dX4_word_61 : decode cX4_word 61 = .ok (.bipush 7, 2) := dk_16 7 (dk_at dksX4_word_2 16 rfl rfl)
theorem dX4_word_63 : decode cX4_word 63 = .ok (.iload_n 1, 1) := dk_27 (dk_at dksX4_word_2 18 rfl rfl)
theorem dX4_word_64 : decode cX4_word 64 = .ok (.imul, 1) := dk_104 (dk_at dksX4_word_2 19 rfl rfl)
theorem dX4_word_65 : decode cX4_word 65 = .ok (.iload_n 2, 1) := dk_28 (dk_at dksX4_word_2 20 rfl rfl)
theorem dX4_word_66 : decode cX4_word 66 = .ok (.iadd, 1) := dk_96 (dk_at dksX4_word_2 21 rfl rfl)
theorem dX4_word_67 : decode cX4_word 67 = .ok (.iconst 2, 1) := dk_5 (dk_at dksX4_word_2 22 rfl rfl)
theorem dX4_word_68 : decode cX4_word 68 = .ok (.isub, 1) := dk_100 (dk_at dksX4_word_2 23 rfl rfl)
theorem dX4_word_69 : decode cX4_word 69 = .ok (.iaload, 1) := dk_46 (dk_at dksX4_word_3 0 rfl rfl)
theorem dX4_word_70 : decode cX4_word 70 = .ok (.ireturn, 1) := dk_172 (dk_at dksX4_word_3 1 rfl rfl)
def dkwX4_rank_4 : List UInt8 := [132, 2, 1, 167, 255, 169, 2, 172]
abbrev dktX4_rank_4 : List UInt8 := dkwX4_rank_4 ++ []
def dkwX4_rank_3 : List UInt8 := [167, 0, 4, 3, 184, 0, 177, 96, 62, 132, 4, 1, 167, 255, 195, 29, 27, 160, 0, 5, 28, 172]
abbrev dktX4_rank_3 : List UInt8 := dkwX4_rank_3 ++ dktX4_rank_4
def dkwX4_rank_2 : List UInt8 := [180, 0, 62, 21, 4, 46, 42, 180, 0, 62, 28, 46, 160, 0, 13, 21, 4, 28, 162, 0, 7, 4]
abbrev dktX4_rank_2 : List UInt8 := dkwX4_rank_2 ++ dktX4_rank_3
def dkwX4_rank_1 : List UInt8 := [180, 1, 46, 162, 0, 58, 29, 42, 180, 0, 62, 21, 4, 46, 42, 180, 0, 62, 28, 46, 163, 0, 25, 42]
abbrev dktX4_rank_1 : List UInt8 := dkwX4_rank_1 ++ dktX4_rank_2
def dkwX4_rank_0 : List UInt8 := [42, 182, 0, 235, 3, 61, 28, 42, 180, 1, 46, 162, 0, 85, 3, 62, 3, 54, 4, 21, 4, 42]
abbrev dktX4_rank_0 : List UInt8 := dkwX4_rank_0 ++ dktX4_rank_1
theorem dksX4_rank_0 : cX4_rank.data.toList.drop 0 = dktX4_rank_0 := by decide +kernel
theorem dksX4_rank_1 : cX4_rank.data.toList.drop 22 = dktX4_rank_1 := dk_seg dksX4_rank_0 22 rfl rfl
theorem dksX4_rank_2 : cX4_rank.data.toList.drop 46 = dktX4_rank_2 := dk_seg dksX4_rank_1 24 rfl rfl
theorem dksX4_rank_3 : cX4_rank.data.toList.drop 68 = dktX4_rank_3 := dk_seg dksX4_rank_2 22 rfl rfl
theorem dksX4_rank_4 : cX4_rank.data.toList.drop 90 = dktX4_rank_4 := dk_seg dksX4_rank_3 22 rfl rfl
theorem dX4_rank_0 : decode cX4_rank 0 = .ok (.aload_n 0, 1) := dk_42 (dk_at dksX4_rank_0 0 rfl rfl)
theorem dX4_rank_1 : decode cX4_rank 1 = .ok (.invokevirtual 235, 3) := dk_182 0 235 (dk_at dksX4_rank_0 1 rfl rfl)
theorem dX4_rank_4 : decode cX4_rank 4 = .ok (.iconst 0, 1) := dk_3 (dk_at dksX4_rank_0 4 rfl rfl)
theorem dX4_rank_5 : decode cX4_rank 5 = .ok (.istore_n 2, 1) := dk_61 (dk_at dksX4_rank_0 5 rfl rfl)
theorem dX4_rank_6 : decode cX4_rank 6 = .ok (.iload_n 2, 1) := dk_28 (dk_at dksX4_rank_0 6 rfl rfl)
theorem dX4_rank_7 : decode cX4_rank 7 = .ok (.aload_n 0, 1) := dk_42 (dk_at dksX4_rank_0 7 rfl rfl)
theorem dX4_rank_8 : decode cX4_rank 8 = .ok (.getfield 302, 3) := dk_180 1 46 (dk_at dksX4_rank_0 8 rfl rfl)
theorem dX4_rank_11 : decode cX4_rank 11 = .ok (.if_icmp .ge 85, 3) := dk_162 0 85 (dk_at dksX4_rank_0 11 rfl rfl)
theorem dX4_rank_14 : decode cX4_rank 14 = .ok (.iconst 0, 1) := dk_3 (dk_at dksX4_rank_0 14 rfl rfl)
theorem dX4_rank_15 : decode cX4_rank 15 = .ok (.istore_n 3, 1) := dk_62 (dk_at dksX4_rank_0 15 rfl rfl)
theorem dX4_rank_16 : decode cX4_rank 16 = .ok (.iconst 0, 1) := dk_3 (dk_at dksX4_rank_0 16 rfl rfl)
theorem dX4_rank_17 : decode cX4_rank 17 = .ok (.istore 4, 2) := dk_54 4 (dk_at dksX4_rank_0 17 rfl rfl)
theorem dX4_rank_19 : decode cX4_rank 19 = .ok (.iload 4, 2) := dk_21 4 (dk_at dksX4_rank_0 19 rfl rfl)
theorem dX4_rank_21 : decode cX4_rank 21 = .ok (.aload_n 0, 1) := dk_42 (dk_at dksX4_rank_0 21 rfl rfl)
theorem dX4_rank_22 : decode cX4_rank 22 = .ok (.getfield 302, 3) := dk_180 1 46 (dk_at dksX4_rank_1 0 rfl rfl)
theorem dX4_rank_25 : decode cX4_rank 25 = .ok (.if_icmp .ge 58, 3) := dk_162 0 58 (dk_at dksX4_rank_1 3 rfl rfl)
theorem dX4_rank_28 : decode cX4_rank 28 = .ok (.iload_n 3, 1) := dk_29 (dk_at dksX4_rank_1 6 rfl rfl)
theorem dX4_rank_29 : decode cX4_rank 29 = .ok (.aload_n 0, 1) := dk_42 (dk_at dksX4_rank_1 7 rfl rfl)
theorem dX4_rank_30 : decode cX4_rank 30 = .ok (.getfield 62, 3) := dk_180 0 62 (dk_at dksX4_rank_1 8 rfl rfl)
theorem dX4_rank_33 : decode cX4_rank 33 = .ok (.iload 4, 2) := dk_21 4 (dk_at dksX4_rank_1 11 rfl rfl)
theorem dX4_rank_35 : decode cX4_rank 35 = .ok (.iaload, 1) := dk_46 (dk_at dksX4_rank_1 13 rfl rfl)
theorem dX4_rank_36 : decode cX4_rank 36 = .ok (.aload_n 0, 1) := dk_42 (dk_at dksX4_rank_1 14 rfl rfl)
theorem dX4_rank_37 : decode cX4_rank 37 = .ok (.getfield 62, 3) := dk_180 0 62 (dk_at dksX4_rank_1 15 rfl rfl)
theorem dX4_rank_40 : decode cX4_rank 40 = .ok (.iload_n 2, 1) := dk_28 (dk_at dksX4_rank_1 18 rfl rfl)
theorem dX4_rank_41 : decode cX4_rank 41 = .ok (.iaload, 1) := dk_46 (dk_at dksX4_rank_1 19 rfl rfl)
theorem dX4_rank_42 : decode cX4_rank 42 = .ok (.if_icmp .gt 25, 3) := dk_163 0 25 (dk_at dksX4_rank_1 20 rfl rfl)
theorem dX4_rank_45 : decode cX4_rank 45 = .ok (.aload_n 0, 1) := dk_42 (dk_at dksX4_rank_1 23 rfl rfl)
theorem dX4_rank_46 : decode cX4_rank 46 = .ok (.getfield 62, 3) := dk_180 0 62 (dk_at dksX4_rank_2 0 rfl rfl)
theorem dX4_rank_49 : decode cX4_rank 49 = .ok (.iload 4, 2) := dk_21 4 (dk_at dksX4_rank_2 3 rfl rfl)
theorem dX4_rank_51 : decode cX4_rank 51 = .ok (.iaload, 1) := dk_46 (dk_at dksX4_rank_2 5 rfl rfl)
theorem dX4_rank_52 : decode cX4_rank 52 = .ok (.aload_n 0, 1) := dk_42 (dk_at dksX4_rank_2 6 rfl rfl)
theorem dX4_rank_53 : decode cX4_rank 53 = .ok (.getfield 62, 3) := dk_180 0 62 (dk_at dksX4_rank_2 7 rfl rfl)
theorem dX4_rank_56 : decode cX4_rank 56 = .ok (.iload_n 2, 1) := dk_28 (dk_at dksX4_rank_2 10 rfl rfl)
theorem dX4_rank_57 : decode cX4_rank 57 = .ok (.iaload, 1) := dk_46 (dk_at dksX4_rank_2 11 rfl rfl)
theorem dX4_rank_58 : decode cX4_rank 58 = .ok (.if_icmp .ne 13, 3) := dk_160 0 13 (dk_at dksX4_rank_2 12 rfl rfl)
theorem dX4_rank_61 : decode cX4_rank 61 = .ok (.iload 4, 2) := dk_21 4 (dk_at dksX4_rank_2 15 rfl rfl)
theorem dX4_rank_63 : decode cX4_rank 63 = .ok (.iload_n 2, 1) := dk_28 (dk_at dksX4_rank_2 17 rfl rfl)
theorem dX4_rank_64 : decode cX4_rank 64 = .ok (.if_icmp .ge 7, 3) := dk_162 0 7 (dk_at dksX4_rank_2 18 rfl rfl)
theorem dX4_rank_67 : decode cX4_rank 67 = .ok (.iconst 1, 1) := dk_4 (dk_at dksX4_rank_2 21 rfl rfl)
theorem dX4_rank_68 : decode cX4_rank 68 = .ok (.goto 4, 3) := dk_167 0 4 (dk_at dksX4_rank_3 0 rfl rfl)
theorem dX4_rank_71 : decode cX4_rank 71 = .ok (.iconst 0, 1) := dk_3 (dk_at dksX4_rank_3 3 rfl rfl)
theorem dX4_rank_72 : decode cX4_rank 72 = .ok (.invokestatic 177, 3) := dk_184 0 177 (dk_at dksX4_rank_3 4 rfl rfl)
theorem dX4_rank_75 : decode cX4_rank 75 = .ok (.iadd, 1) := dk_96 (dk_at dksX4_rank_3 7 rfl rfl)
theorem dX4_rank_76 : decode cX4_rank 76 = .ok (.istore_n 3, 1) := dk_62 (dk_at dksX4_rank_3 8 rfl rfl)
theorem dX4_rank_77 : decode cX4_rank 77 = .ok (.iinc 4 1, 3) := dk_132 4 1 (dk_at dksX4_rank_3 9 rfl rfl)
theorem dX4_rank_80 : decode cX4_rank 80 = .ok (.goto (-61), 3) := dk_167 255 195 (dk_at dksX4_rank_3 12 rfl rfl)
theorem dX4_rank_83 : decode cX4_rank 83 = .ok (.iload_n 3, 1) := dk_29 (dk_at dksX4_rank_3 15 rfl rfl)
theorem dX4_rank_84 : decode cX4_rank 84 = .ok (.iload_n 1, 1) := dk_27 (dk_at dksX4_rank_3 16 rfl rfl)
theorem dX4_rank_85 : decode cX4_rank 85 = .ok (.if_icmp .ne 5, 3) := dk_160 0 5 (dk_at dksX4_rank_3 17 rfl rfl)
theorem dX4_rank_88 : decode cX4_rank 88 = .ok (.iload_n 2, 1) := dk_28 (dk_at dksX4_rank_3 20 rfl rfl)
theorem dX4_rank_89 : decode cX4_rank 89 = .ok (.ireturn, 1) := dk_172 (dk_at dksX4_rank_3 21 rfl rfl)
theorem dX4_rank_90 : decode cX4_rank 90 = .ok (.iinc 2 1, 3) := dk_132 2 1 (dk_at dksX4_rank_4 0 rfl rfl)
theorem dX4_rank_93 : decode cX4_rank 93 = .ok (.goto (-87), 3) := dk_167 255 169 (dk_at dksX4_rank_4 3 rfl rfl)
theorem dX4_rank_96 : decode cX4_rank 96 = .ok (.iconst (-1), 1) := dk_2 (dk_at dksX4_rank_4 6 rfl rfl)
theorem dX4_rank_97 : decode cX4_rank 97 = .ok (.ireturn, 1) := dk_172 (dk_at dksX4_rank_4 7 rfl rfl)
def dkwX4_stands_2_6 : List UInt8 := [182, 1, 63, 172]
abbrev dktX4_stands_2_6 : List UInt8 := dkwX4_stands_2_6 ++ []
def dkwX4_stands_2_5 : List UInt8 := [167, 255, 215, 21, 4, 172, 42, 180, 0, 65, 29, 46, 172, 42, 180, 0, 68, 29, 46, 172, 42, 29]
abbrev dktX4_stands_2_5 : List UInt8 := dkwX4_stands_2_5 ++ dktX4_stands_2_6
def dkwX4_stands_2_4 : List UInt8 := [180, 0, 50, 21, 5, 46, 29, 160, 0, 7, 4, 167, 0, 4, 3, 184, 0, 177, 96, 54, 4, 132, 5, 1]
abbrev dktX4_stands_2_4 : List UInt8 := dkwX4_stands_2_4 ++ dktX4_stands_2_5
def dkwX4_stands_2_3 : List UInt8 := [3, 54, 4, 3, 54, 5, 21, 5, 42, 180, 0, 47, 42, 180, 1, 27, 46, 162, 0, 33, 21, 4, 42]
abbrev dktX4_stands_2_3 : List UInt8 := dkwX4_stands_2_3 ++ dktX4_stands_2_4
def dkwX4_stands_2_2 : List UInt8 := [170, 0, 0, 0, 92, 0, 0, 0, 0, 0, 0, 0, 2, 0, 0, 0, 25, 0, 0, 0, 78, 0, 0, 0, 85]
abbrev dktX4_stands_2_2 : List UInt8 := dkwX4_stands_2_2 ++ dktX4_stands_2_3
def dkwX4_stands_2_1 : List UInt8 := [180, 0, 41, 27, 46, 62, 28]
abbrev dktX4_stands_2_1 : List UInt8 := dkwX4_stands_2_1 ++ dktX4_stands_2_2
def dkwX4_stands_2_0 : List UInt8 := [42, 27, 182, 0, 224, 153, 0, 12, 28, 3, 6, 184, 0, 123, 154, 0, 5, 2, 172, 42, 182, 0, 235, 42]
abbrev dktX4_stands_2_0 : List UInt8 := dkwX4_stands_2_0 ++ dktX4_stands_2_1
theorem dksX4_stands_2_0 : cX4_stands_2.data.toList.drop 0 = dktX4_stands_2_0 := by decide +kernel
theorem dksX4_stands_2_1 : cX4_stands_2.data.toList.drop 24 = dktX4_stands_2_1 := dk_seg dksX4_stands_2_0 24 rfl rfl
theorem dksX4_stands_2_2 : cX4_stands_2.data.toList.drop 31 = dktX4_stands_2_2 := dk_seg dksX4_stands_2_1 7 rfl rfl
theorem dksX4_stands_2_3 : cX4_stands_2.data.toList.drop 56 = dktX4_stands_2_3 := dk_seg dksX4_stands_2_2 25 rfl rfl
theorem dksX4_stands_2_4 : cX4_stands_2.data.toList.drop 79 = dktX4_stands_2_4 := dk_seg dksX4_stands_2_3 23 rfl rfl
theorem dksX4_stands_2_5 : cX4_stands_2.data.toList.drop 103 = dktX4_stands_2_5 := dk_seg dksX4_stands_2_4 24 rfl rfl
theorem dksX4_stands_2_6 : cX4_stands_2.data.toList.drop 125 = dktX4_stands_2_6 := dk_seg dksX4_stands_2_5 22 rfl rfl
theorem dX4_stands_2_0 : decode cX4_stands_2 0 = .ok (.aload_n 0, 1) := dk_42 (dk_at dksX4_stands_2_0 0 rfl rfl)
theorem dX4_stands_2_1 : decode cX4_stands_2 1 = .ok (.iload_n 1, 1) := dk_27 (dk_at dksX4_stands_2_0 1 rfl rfl)
theorem dX4_stands_2_2 : decode cX4_stands_2 2 = .ok (.invokevirtual 224, 3) := dk_182 0 224 (dk_at dksX4_stands_2_0 2 rfl rfl)
theorem dX4_stands_2_5 : decode cX4_stands_2 5 = .ok (.ifCond .eq 12, 3) := dk_153 0 12 (dk_at dksX4_stands_2_0 5 rfl rfl)
theorem dX4_stands_2_8 : decode cX4_stands_2 8 = .ok (.iload_n 2, 1) := dk_28 (dk_at dksX4_stands_2_0 8 rfl rfl)
theorem dX4_stands_2_9 : decode cX4_stands_2 9 = .ok (.iconst 0, 1) := dk_3 (dk_at dksX4_stands_2_0 9 rfl rfl)
theorem dX4_stands_2_10 : decode cX4_stands_2 10 = .ok (.iconst 3, 1) := dk_6 (dk_at dksX4_stands_2_0 10 rfl rfl)
theorem dX4_stands_2_11 : decode cX4_stands_2 11 = .ok (.invokestatic 123, 3) := dk_184 0 123 (dk_at dksX4_stands_2_0 11 rfl rfl)
theorem dX4_stands_2_14 : decode cX4_stands_2 14 = .ok (.ifCond .ne 5, 3) := dk_154 0 5 (dk_at dksX4_stands_2_0 14 rfl rfl)
theorem dX4_stands_2_17 : decode cX4_stands_2 17 = .ok (.iconst (-1), 1) := dk_2 (dk_at dksX4_stands_2_0 17 rfl rfl)
theorem dX4_stands_2_18 : decode cX4_stands_2 18 = .ok (.ireturn, 1) := dk_172 (dk_at dksX4_stands_2_0 18 rfl rfl)
theorem dX4_stands_2_19 : decode cX4_stands_2 19 = .ok (.aload_n 0, 1) := dk_42 (dk_at dksX4_stands_2_0 19 rfl rfl)
theorem dX4_stands_2_20 : decode cX4_stands_2 20 = .ok (.invokevirtual 235, 3) := dk_182 0 235 (dk_at dksX4_stands_2_0 20 rfl rfl)
theorem dX4_stands_2_23 : decode cX4_stands_2 23 = .ok (.aload_n 0, 1) := dk_42 (dk_at dksX4_stands_2_0 23 rfl rfl)
theorem dX4_stands_2_24 : decode cX4_stands_2 24 = .ok (.getfield 41, 3) := dk_180 0 41 (dk_at dksX4_stands_2_1 0 rfl rfl)
theorem dX4_stands_2_27 : decode cX4_stands_2 27 = .ok (.iload_n 1, 1) := dk_27 (dk_at dksX4_stands_2_1 3 rfl rfl)
theorem dX4_stands_2_28 : decode cX4_stands_2 28 = .ok (.iaload, 1) := dk_46 (dk_at dksX4_stands_2_1 4 rfl rfl)
theorem dX4_stands_2_29 : decode cX4_stands_2 29 = .ok (.istore_n 3, 1) := dk_62 (dk_at dksX4_stands_2_1 5 rfl rfl)
theorem dX4_stands_2_30 : decode cX4_stands_2 30 = .ok (.iload_n 2, 1) := dk_28 (dk_at dksX4_stands_2_1 6 rfl rfl)
theorem dX4_stands_2_31 : decode cX4_stands_2 31 = .ok (.tableswitch 92 0 2 #[25, 78, 85], 25) := by decide +kernel
theorem dX4_stands_2_56 : decode cX4_stands_2 56 = .ok (.iconst 0, 1) := dk_3 (dk_at dksX4_stands_2_3 0 rfl rfl)
theorem dX4_stands_2_57 : decode cX4_stands_2 57 = .ok (.istore 4, 2) := dk_54 4 (dk_at dksX4_stands_2_3 1 rfl rfl)
theorem dX4_stands_2_59 : decode cX4_stands_2 59 = .ok (.iconst 0, 1) := dk_3 (dk_at dksX4_stands_2_3 3 rfl rfl)
theorem dX4_stands_2_60 : decode cX4_stands_2 60 = .ok (.istore 5, 2) := dk_54 5 (dk_at dksX4_stands_2_3 4 rfl rfl)
theorem dX4_stands_2_62 : decode cX4_stands_2 62 = .ok (.iload 5, 2) := dk_21 5 (dk_at dksX4_stands_2_3 6 rfl rfl)
theorem dX4_stands_2_64 : decode cX4_stands_2 64 = .ok (.aload_n 0, 1) := dk_42 (dk_at dksX4_stands_2_3 8 rfl rfl)
theorem dX4_stands_2_65 : decode cX4_stands_2 65 = .ok (.getfield 47, 3) := dk_180 0 47 (dk_at dksX4_stands_2_3 9 rfl rfl)
theorem dX4_stands_2_68 : decode cX4_stands_2 68 = .ok (.aload_n 0, 1) := dk_42 (dk_at dksX4_stands_2_3 12 rfl rfl)
theorem dX4_stands_2_69 : decode cX4_stands_2 69 = .ok (.getfield 283, 3) := dk_180 1 27 (dk_at dksX4_stands_2_3 13 rfl rfl)
theorem dX4_stands_2_72 : decode cX4_stands_2 72 = .ok (.iaload, 1) := dk_46 (dk_at dksX4_stands_2_3 16 rfl rfl)
theorem dX4_stands_2_73 : decode cX4_stands_2 73 = .ok (.if_icmp .ge 33, 3) := dk_162 0 33 (dk_at dksX4_stands_2_3 17 rfl rfl)
theorem dX4_stands_2_76 : decode cX4_stands_2 76 = .ok (.iload 4, 2) := dk_21 4 (dk_at dksX4_stands_2_3 20 rfl rfl)
theorem dX4_stands_2_78 : decode cX4_stands_2 78 = .ok (.aload_n 0, 1) := dk_42 (dk_at dksX4_stands_2_3 22 rfl rfl)
theorem dX4_stands_2_79 : decode cX4_stands_2 79 = .ok (.getfield 50, 3) := dk_180 0 50 (dk_at dksX4_stands_2_4 0 rfl rfl)
theorem dX4_stands_2_82 : decode cX4_stands_2 82 = .ok (.iload 5, 2) := dk_21 5 (dk_at dksX4_stands_2_4 3 rfl rfl)
theorem dX4_stands_2_84 : decode cX4_stands_2 84 = .ok (.iaload, 1) := dk_46 (dk_at dksX4_stands_2_4 5 rfl rfl)
theorem dX4_stands_2_85 : decode cX4_stands_2 85 = .ok (.iload_n 3, 1) := dk_29 (dk_at dksX4_stands_2_4 6 rfl rfl)
theorem dX4_stands_2_86 : decode cX4_stands_2 86 = .ok (.if_icmp .ne 7, 3) := dk_160 0 7 (dk_at dksX4_stands_2_4 7 rfl rfl)
theorem dX4_stands_2_89 : decode cX4_stands_2 89 = .ok (.iconst 1, 1) := dk_4 (dk_at dksX4_stands_2_4 10 rfl rfl)
theorem dX4_stands_2_90 : decode cX4_stands_2 90 = .ok (.goto 4, 3) := dk_167 0 4 (dk_at dksX4_stands_2_4 11 rfl rfl)
theorem dX4_stands_2_93 : decode cX4_stands_2 93 = .ok (.iconst 0, 1) := dk_3 (dk_at dksX4_stands_2_4 14 rfl rfl)
theorem dX4_stands_2_94 : decode cX4_stands_2 94 = .ok (.invokestatic 177, 3) := dk_184 0 177 (dk_at dksX4_stands_2_4 15 rfl rfl)
theorem dX4_stands_2_97 : decode cX4_stands_2 97 = .ok (.iadd, 1) := dk_96 (dk_at dksX4_stands_2_4 18 rfl rfl)
theorem dX4_stands_2_98 : decode cX4_stands_2 98 = .ok (.istore 4, 2) := dk_54 4 (dk_at dksX4_stands_2_4 19 rfl rfl)
theorem dX4_stands_2_100 : decode cX4_stands_2 100 = .ok (.iinc 5 1, 3) := dk_132 5 1 (dk_at dksX4_stands_2_4 21 rfl rfl)
theorem dX4_stands_2_103 : decode cX4_stands_2 103 = .ok (.goto (-41), 3) := dk_167 255 215 (dk_at dksX4_stands_2_5 0 rfl rfl)
theorem dX4_stands_2_106 : decode cX4_stands_2 106 = .ok (.iload 4, 2) := dk_21 4 (dk_at dksX4_stands_2_5 3 rfl rfl)
theorem dX4_stands_2_108 : decode cX4_stands_2 108 = .ok (.ireturn, 1) := dk_172 (dk_at dksX4_stands_2_5 5 rfl rfl)
theorem dX4_stands_2_109 : decode cX4_stands_2 109 = .ok (.aload_n 0, 1) := dk_42 (dk_at dksX4_stands_2_5 6 rfl rfl)
theorem dX4_stands_2_110 : decode cX4_stands_2 110 = .ok (.getfield 65, 3) := dk_180 0 65 (dk_at dksX4_stands_2_5 7 rfl rfl)
theorem dX4_stands_2_113 : decode cX4_stands_2 113 = .ok (.iload_n 3, 1) := dk_29 (dk_at dksX4_stands_2_5 10 rfl rfl)
theorem dX4_stands_2_114 : decode cX4_stands_2 114 = .ok (.iaload, 1) := dk_46 (dk_at dksX4_stands_2_5 11 rfl rfl)
theorem dX4_stands_2_115 : decode cX4_stands_2 115 = .ok (.ireturn, 1) := dk_172 (dk_at dksX4_stands_2_5 12 rfl rfl)
theorem dX4_stands_2_116 : decode cX4_stands_2 116 = .ok (.aload_n 0, 1) := dk_42 (dk_at dksX4_stands_2_5 13 rfl rfl)
theorem dX4_stands_2_117 : decode cX4_stands_2 117 = .ok (.getfield 68, 3) := dk_180 0 68 (dk_at dksX4_stands_2_5 14 rfl rfl)
theorem dX4_stands_2_120 : decode cX4_stands_2 120 = .ok (.iload_n 3, 1) := dk_29 (dk_at dksX4_stands_2_5 17 rfl rfl)
theorem dX4_stands_2_121 : decode cX4_stands_2 121 = .ok (.iaload, 1) := dk_46 (dk_at dksX4_stands_2_5 18 rfl rfl)
theorem dX4_stands_2_122 : decode cX4_stands_2 122 = .ok (.ireturn, 1) := dk_172 (dk_at dksX4_stands_2_5 19 rfl rfl)
theorem dX4_stands_2_123 : decode cX4_stands_2 123 = .ok (.aload_n 0, 1) := dk_42 (dk_at dksX4_stands_2_5 20 rfl rfl)
theorem dX4_stands_2_124 : decode cX4_stands_2 124 = .ok (.iload_n 3, 1) := dk_29 (dk_at dksX4_stands_2_5 21 rfl rfl)
theorem dX4_stands_2_125 : decode cX4_stands_2 125 = .ok (.invokevirtual 319, 3) := dk_182 1 63 (dk_at dksX4_stands_2_6 0 rfl rfl)
theorem dX4_stands_2_128 : decode cX4_stands_2 128 = .ok (.ireturn, 1) := dk_172 (dk_at dksX4_stands_2_6 3 rfl rfl)
def dkwX4_standsIn_3 : List UInt8 := [132, 3, 1, 167, 255, 186, 28, 172]
abbrev dktX4_standsIn_3 : List UInt8 := dkwX4_standsIn_3 ++ []
def dkwX4_standsIn_2 : List UInt8 := [160, 0, 7, 4, 167, 0, 4, 3, 54, 4, 132, 5, 1, 167, 255, 214, 28, 21, 4, 184, 0, 177, 96, 61]
abbrev dktX4_standsIn_2 : List UInt8 := dkwX4_standsIn_2 ++ dktX4_standsIn_3
def dkwX4_standsIn_1 : List UInt8 := [29, 46, 162, 0, 37, 21, 4, 154, 0, 19, 42, 180, 0, 59, 16, 7, 29, 104, 21, 5, 96, 46, 27]
abbrev dktX4_standsIn_1 : List UInt8 := dkwX4_standsIn_1 ++ dktX4_standsIn_2
def dkwX4_standsIn_0 : List UInt8 := [3, 61, 3, 62, 29, 42, 180, 1, 46, 162, 0, 68, 3, 54, 4, 3, 54, 5, 21, 5, 42, 180, 0, 56]
abbrev dktX4_standsIn_0 : List UInt8 := dkwX4_standsIn_0 ++ dktX4_standsIn_1
theorem dksX4_standsIn_0 : cX4_standsIn.data.toList.drop 0 = dktX4_standsIn_0 := by decide +kernel
theorem dksX4_standsIn_1 : cX4_standsIn.data.toList.drop 24 = dktX4_standsIn_1 := dk_seg dksX4_standsIn_0 24 rfl rfl
theorem dksX4_standsIn_2 : cX4_standsIn.data.toList.drop 47 = dktX4_standsIn_2 := dk_seg dksX4_standsIn_1 23 rfl rfl
theorem dksX4_standsIn_3 : cX4_standsIn.data.toList.drop 71 = dktX4_standsIn_3 := dk_seg dksX4_standsIn_2 24 rfl rfl
theorem dX4_standsIn_0 : decode cX4_standsIn 0 = .ok (.iconst 0, 1) := dk_3 (dk_at dksX4_standsIn_0 0 rfl rfl)
theorem dX4_standsIn_1 : decode cX4_standsIn 1 = .ok (.istore_n 2, 1) := dk_61 (dk_at dksX4_standsIn_0 1 rfl rfl)
theorem dX4_standsIn_2 : decode cX4_standsIn 2 = .ok (.iconst 0, 1) := dk_3 (dk_at dksX4_standsIn_0 2 rfl rfl)
theorem dX4_standsIn_3 : decode cX4_standsIn 3 = .ok (.istore_n 3, 1) := dk_62 (dk_at dksX4_standsIn_0 3 rfl rfl)
theorem dX4_standsIn_4 : decode cX4_standsIn 4 = .ok (.iload_n 3, 1) := dk_29 (dk_at dksX4_standsIn_0 4 rfl rfl)
theorem dX4_standsIn_5 : decode cX4_standsIn 5 = .ok (.aload_n 0, 1) := dk_42 (dk_at dksX4_standsIn_0 5 rfl rfl)
theorem dX4_standsIn_6 : decode cX4_standsIn 6 = .ok (.getfield 302, 3) := dk_180 1 46 (dk_at dksX4_standsIn_0 6 rfl rfl)
theorem dX4_standsIn_9 : decode cX4_standsIn 9 = .ok (.if_icmp .ge 68, 3) := dk_162 0 68 (dk_at dksX4_standsIn_0 9 rfl rfl)
theorem dX4_standsIn_12 : decode cX4_standsIn 12 = .ok (.iconst 0, 1) := dk_3 (dk_at dksX4_standsIn_0 12 rfl rfl)
theorem dX4_standsIn_13 : decode cX4_standsIn 13 = .ok (.istore 4, 2) := dk_54 4 (dk_at dksX4_standsIn_0 13 rfl rfl)
theorem dX4_standsIn_15 : decode cX4_standsIn 15 = .ok (.iconst 0, 1) := dk_3 (dk_at dksX4_standsIn_0 15 rfl rfl)
theorem dX4_standsIn_16 : decode cX4_standsIn 16 = .ok (.istore 5, 2) := dk_54 5 (dk_at dksX4_standsIn_0 16 rfl rfl)
theorem dX4_standsIn_18 : decode cX4_standsIn 18 = .ok (.iload 5, 2) := dk_21 5 (dk_at dksX4_standsIn_0 18 rfl rfl)
theorem dX4_standsIn_20 : decode cX4_standsIn 20 = .ok (.aload_n 0, 1) := dk_42 (dk_at dksX4_standsIn_0 20 rfl rfl)
theorem dX4_standsIn_21 : decode cX4_standsIn 21 = .ok (.getfield 56, 3) := dk_180 0 56 (dk_at dksX4_standsIn_0 21 rfl rfl)
theorem dX4_standsIn_24 : decode cX4_standsIn 24 = .ok (.iload_n 3, 1) := dk_29 (dk_at dksX4_standsIn_1 0 rfl rfl)
theorem dX4_standsIn_25 : decode cX4_standsIn 25 = .ok (.iaload, 1) := dk_46 (dk_at dksX4_standsIn_1 1 rfl rfl)
theorem dX4_standsIn_26 : decode cX4_standsIn 26 = .ok (.if_icmp .ge 37, 3) := dk_162 0 37 (dk_at dksX4_standsIn_1 2 rfl rfl)
theorem dX4_standsIn_29 : decode cX4_standsIn 29 = .ok (.iload 4, 2) := dk_21 4 (dk_at dksX4_standsIn_1 5 rfl rfl)
theorem dX4_standsIn_31 : decode cX4_standsIn 31 = .ok (.ifCond .ne 19, 3) := dk_154 0 19 (dk_at dksX4_standsIn_1 7 rfl rfl)
theorem dX4_standsIn_34 : decode cX4_standsIn 34 = .ok (.aload_n 0, 1) := dk_42 (dk_at dksX4_standsIn_1 10 rfl rfl)
theorem dX4_standsIn_35 : decode cX4_standsIn 35 = .ok (.getfield 59, 3) := dk_180 0 59 (dk_at dksX4_standsIn_1 11 rfl rfl)
theorem dX4_standsIn_38 : decode cX4_standsIn 38 = .ok (.bipush 7, 2) := dk_16 7 (dk_at dksX4_standsIn_1 14 rfl rfl)
theorem dX4_standsIn_40 : decode cX4_standsIn 40 = .ok (.iload_n 3, 1) := dk_29 (dk_at dksX4_standsIn_1 16 rfl rfl)
theorem dX4_standsIn_41 : decode cX4_standsIn 41 = .ok (.imul, 1) := dk_104 (dk_at dksX4_standsIn_1 17 rfl rfl)
theorem dX4_standsIn_42 : decode cX4_standsIn 42 = .ok (.iload 5, 2) := dk_21 5 (dk_at dksX4_standsIn_1 18 rfl rfl)
theorem dX4_standsIn_44 : decode cX4_standsIn 44 = .ok (.iadd, 1) := dk_96 (dk_at dksX4_standsIn_1 20 rfl rfl)
theorem dX4_standsIn_45 : decode cX4_standsIn 45 = .ok (.iaload, 1) := dk_46 (dk_at dksX4_standsIn_1 21 rfl rfl)
theorem dX4_standsIn_46 : decode cX4_standsIn 46 = .ok (.iload_n 1, 1) := dk_27 (dk_at dksX4_standsIn_1 22 rfl rfl)
theorem dX4_standsIn_47 : decode cX4_standsIn 47 = .ok (.if_icmp .ne 7, 3) := dk_160 0 7 (dk_at dksX4_standsIn_2 0 rfl rfl)
theorem dX4_standsIn_50 : decode cX4_standsIn 50 = .ok (.iconst 1, 1) := dk_4 (dk_at dksX4_standsIn_2 3 rfl rfl)
theorem dX4_standsIn_51 : decode cX4_standsIn 51 = .ok (.goto 4, 3) := dk_167 0 4 (dk_at dksX4_standsIn_2 4 rfl rfl)
theorem dX4_standsIn_54 : decode cX4_standsIn 54 = .ok (.iconst 0, 1) := dk_3 (dk_at dksX4_standsIn_2 7 rfl rfl)
theorem dX4_standsIn_55 : decode cX4_standsIn 55 = .ok (.istore 4, 2) := dk_54 4 (dk_at dksX4_standsIn_2 8 rfl rfl)
theorem dX4_standsIn_57 : decode cX4_standsIn 57 = .ok (.iinc 5 1, 3) := dk_132 5 1 (dk_at dksX4_standsIn_2 10 rfl rfl)
theorem dX4_standsIn_60 : decode cX4_standsIn 60 = .ok (.goto (-42), 3) := dk_167 255 214 (dk_at dksX4_standsIn_2 13 rfl rfl)
theorem dX4_standsIn_63 : decode cX4_standsIn 63 = .ok (.iload_n 2, 1) := dk_28 (dk_at dksX4_standsIn_2 16 rfl rfl)
theorem dX4_standsIn_64 : decode cX4_standsIn 64 = .ok (.iload 4, 2) := dk_21 4 (dk_at dksX4_standsIn_2 17 rfl rfl)
theorem dX4_standsIn_66 : decode cX4_standsIn 66 = .ok (.invokestatic 177, 3) := dk_184 0 177 (dk_at dksX4_standsIn_2 19 rfl rfl)
theorem dX4_standsIn_69 : decode cX4_standsIn 69 = .ok (.iadd, 1) := dk_96 (dk_at dksX4_standsIn_2 22 rfl rfl)
theorem dX4_standsIn_70 : decode cX4_standsIn 70 = .ok (.istore_n 2, 1) := dk_61 (dk_at dksX4_standsIn_2 23 rfl rfl)
theorem dX4_standsIn_71 : decode cX4_standsIn 71 = .ok (.iinc 3 1, 3) := dk_132 3 1 (dk_at dksX4_standsIn_3 0 rfl rfl)
theorem dX4_standsIn_74 : decode cX4_standsIn 74 = .ok (.goto (-70), 3) := dk_167 255 186 (dk_at dksX4_standsIn_3 3 rfl rfl)
theorem dX4_standsIn_77 : decode cX4_standsIn 77 = .ok (.iload_n 2, 1) := dk_28 (dk_at dksX4_standsIn_3 6 rfl rfl)
theorem dX4_standsIn_78 : decode cX4_standsIn 78 = .ok (.ireturn, 1) := dk_172 (dk_at dksX4_standsIn_3 7 rfl rfl)
def dkwX4_ahead_5 : List UInt8 := [167, 255, 168, 29, 172]
abbrev dktX4_ahead_5 : List UInt8 := dkwX4_ahead_5 ++ []
def dkwX4_ahead_4 : List UInt8 := [160, 0, 7, 4, 167, 0, 4, 3, 184, 0, 177, 96, 62, 132, 5, 1, 167, 255, 192, 132, 4, 1]
abbrev dktX4_ahead_4 : List UInt8 := dkwX4_ahead_4 ++ dktX4_ahead_5
def dkwX4_ahead_3 : List UInt8 := [180, 0, 41, 27, 46, 160, 0, 25, 42, 180, 0, 50, 21, 5, 4, 96, 46, 42, 180, 0, 41, 28, 46]
abbrev dktX4_ahead_3 : List UInt8 := dkwX4_ahead_3 ++ dktX4_ahead_4
def dkwX4_ahead_2 : List UInt8 := [96, 42, 180, 0, 47, 21, 4, 4, 96, 46, 162, 0, 54, 29, 42, 180, 0, 50, 21, 5, 46, 42]
abbrev dktX4_ahead_2 : List UInt8 := dkwX4_ahead_2 ++ dktX4_ahead_3
def dkwX4_ahead_1 : List UInt8 := [3, 54, 4, 21, 4, 42, 180, 1, 27, 162, 0, 85, 42, 180, 0, 47, 21, 4, 46, 54, 5, 21, 5, 4]
abbrev dktX4_ahead_1 : List UInt8 := dkwX4_ahead_1 ++ dktX4_ahead_2
def dkwX4_ahead_0 : List UInt8 := [42, 27, 182, 0, 224, 153, 0, 11, 42, 28, 182, 0, 224, 154, 0, 5, 2, 172, 42, 182, 0, 235, 3, 62]
abbrev dktX4_ahead_0 : List UInt8 := dkwX4_ahead_0 ++ dktX4_ahead_1
theorem dksX4_ahead_0 : cX4_ahead.data.toList.drop 0 = dktX4_ahead_0 := by decide +kernel
theorem dksX4_ahead_1 : cX4_ahead.data.toList.drop 24 = dktX4_ahead_1 := dk_seg dksX4_ahead_0 24 rfl rfl
theorem dksX4_ahead_2 : cX4_ahead.data.toList.drop 48 = dktX4_ahead_2 := dk_seg dksX4_ahead_1 24 rfl rfl
theorem dksX4_ahead_3 : cX4_ahead.data.toList.drop 70 = dktX4_ahead_3 := dk_seg dksX4_ahead_2 22 rfl rfl
theorem dksX4_ahead_4 : cX4_ahead.data.toList.drop 93 = dktX4_ahead_4 := dk_seg dksX4_ahead_3 23 rfl rfl
theorem dksX4_ahead_5 : cX4_ahead.data.toList.drop 115 = dktX4_ahead_5 := dk_seg dksX4_ahead_4 22 rfl rfl
theorem dX4_ahead_0 : decode cX4_ahead 0 = .ok (.aload_n 0, 1) := dk_42 (dk_at dksX4_ahead_0 0 rfl rfl)
theorem dX4_ahead_1 : decode cX4_ahead 1 = .ok (.iload_n 1, 1) := dk_27 (dk_at dksX4_ahead_0 1 rfl rfl)
theorem dX4_ahead_2 : decode cX4_ahead 2 = .ok (.invokevirtual 224, 3) := dk_182 0 224 (dk_at dksX4_ahead_0 2 rfl rfl)
theorem dX4_ahead_5 : decode cX4_ahead 5 = .ok (.ifCond .eq 11, 3) := dk_153 0 11 (dk_at dksX4_ahead_0 5 rfl rfl)
theorem dX4_ahead_8 : decode cX4_ahead 8 = .ok (.aload_n 0, 1) := dk_42 (dk_at dksX4_ahead_0 8 rfl rfl)
theorem dX4_ahead_9 : decode cX4_ahead 9 = .ok (.iload_n 2, 1) := dk_28 (dk_at dksX4_ahead_0 9 rfl rfl)
theorem dX4_ahead_10 : decode cX4_ahead 10 = .ok (.invokevirtual 224, 3) := dk_182 0 224 (dk_at dksX4_ahead_0 10 rfl rfl)
theorem dX4_ahead_13 : decode cX4_ahead 13 = .ok (.ifCond .ne 5, 3) := dk_154 0 5 (dk_at dksX4_ahead_0 13 rfl rfl)
theorem dX4_ahead_16 : decode cX4_ahead 16 = .ok (.iconst (-1), 1) := dk_2 (dk_at dksX4_ahead_0 16 rfl rfl)
theorem dX4_ahead_17 : decode cX4_ahead 17 = .ok (.ireturn, 1) := dk_172 (dk_at dksX4_ahead_0 17 rfl rfl)
theorem dX4_ahead_18 : decode cX4_ahead 18 = .ok (.aload_n 0, 1) := dk_42 (dk_at dksX4_ahead_0 18 rfl rfl)
theorem dX4_ahead_19 : decode cX4_ahead 19 = .ok (.invokevirtual 235, 3) := dk_182 0 235 (dk_at dksX4_ahead_0 19 rfl rfl)
theorem dX4_ahead_22 : decode cX4_ahead 22 = .ok (.iconst 0, 1) := dk_3 (dk_at dksX4_ahead_0 22 rfl rfl)
theorem dX4_ahead_23 : decode cX4_ahead 23 = .ok (.istore_n 3, 1) := dk_62 (dk_at dksX4_ahead_0 23 rfl rfl)
theorem dX4_ahead_24 : decode cX4_ahead 24 = .ok (.iconst 0, 1) := dk_3 (dk_at dksX4_ahead_1 0 rfl rfl)
theorem dX4_ahead_25 : decode cX4_ahead 25 = .ok (.istore 4, 2) := dk_54 4 (dk_at dksX4_ahead_1 1 rfl rfl)
theorem dX4_ahead_27 : decode cX4_ahead 27 = .ok (.iload 4, 2) := dk_21 4 (dk_at dksX4_ahead_1 3 rfl rfl)
theorem dX4_ahead_29 : decode cX4_ahead 29 = .ok (.aload_n 0, 1) := dk_42 (dk_at dksX4_ahead_1 5 rfl rfl)
theorem dX4_ahead_30 : decode cX4_ahead 30 = .ok (.getfield 283, 3) := dk_180 1 27 (dk_at dksX4_ahead_1 6 rfl rfl)
theorem dX4_ahead_33 : decode cX4_ahead 33 = .ok (.if_icmp .ge 85, 3) := dk_162 0 85 (dk_at dksX4_ahead_1 9 rfl rfl)
theorem dX4_ahead_36 : decode cX4_ahead 36 = .ok (.aload_n 0, 1) := dk_42 (dk_at dksX4_ahead_1 12 rfl rfl)
theorem dX4_ahead_37 : decode cX4_ahead 37 = .ok (.getfield 47, 3) := dk_180 0 47 (dk_at dksX4_ahead_1 13 rfl rfl)
theorem dX4_ahead_40 : decode cX4_ahead 40 = .ok (.iload 4, 2) := dk_21 4 (dk_at dksX4_ahead_1 16 rfl rfl)
theorem dX4_ahead_42 : decode cX4_ahead 42 = .ok (.iaload, 1) := dk_46 (dk_at dksX4_ahead_1 18 rfl rfl)
theorem dX4_ahead_43 : decode cX4_ahead 43 = .ok (.istore 5, 2) := dk_54 5 (dk_at dksX4_ahead_1 19 rfl rfl)
theorem dX4_ahead_45 : decode cX4_ahead 45 = .ok (.iload 5, 2) := dk_21 5 (dk_at dksX4_ahead_1 21 rfl rfl)
theorem dX4_ahead_47 : decode cX4_ahead 47 = .ok (.iconst 1, 1) := dk_4 (dk_at dksX4_ahead_1 23 rfl rfl)
theorem dX4_ahead_48 : decode cX4_ahead 48 = .ok (.iadd, 1) := dk_96 (dk_at dksX4_ahead_2 0 rfl rfl)
theorem dX4_ahead_49 : decode cX4_ahead 49 = .ok (.aload_n 0, 1) := dk_42 (dk_at dksX4_ahead_2 1 rfl rfl)
theorem dX4_ahead_50 : decode cX4_ahead 50 = .ok (.getfield 47, 3) := dk_180 0 47 (dk_at dksX4_ahead_2 2 rfl rfl)
theorem dX4_ahead_53 : decode cX4_ahead 53 = .ok (.iload 4, 2) := dk_21 4 (dk_at dksX4_ahead_2 5 rfl rfl)
theorem dX4_ahead_55 : decode cX4_ahead 55 = .ok (.iconst 1, 1) := dk_4 (dk_at dksX4_ahead_2 7 rfl rfl)
theorem dX4_ahead_56 : decode cX4_ahead 56 = .ok (.iadd, 1) := dk_96 (dk_at dksX4_ahead_2 8 rfl rfl)
theorem dX4_ahead_57 : decode cX4_ahead 57 = .ok (.iaload, 1) := dk_46 (dk_at dksX4_ahead_2 9 rfl rfl)
theorem dX4_ahead_58 : decode cX4_ahead 58 = .ok (.if_icmp .ge 54, 3) := dk_162 0 54 (dk_at dksX4_ahead_2 10 rfl rfl)
theorem dX4_ahead_61 : decode cX4_ahead 61 = .ok (.iload_n 3, 1) := dk_29 (dk_at dksX4_ahead_2 13 rfl rfl)
theorem dX4_ahead_62 : decode cX4_ahead 62 = .ok (.aload_n 0, 1) := dk_42 (dk_at dksX4_ahead_2 14 rfl rfl)
theorem dX4_ahead_63 : decode cX4_ahead 63 = .ok (.getfield 50, 3) := dk_180 0 50 (dk_at dksX4_ahead_2 15 rfl rfl)
theorem dX4_ahead_66 : decode cX4_ahead 66 = .ok (.iload 5, 2) := dk_21 5 (dk_at dksX4_ahead_2 18 rfl rfl)
theorem dX4_ahead_68 : decode cX4_ahead 68 = .ok (.iaload, 1) := dk_46 (dk_at dksX4_ahead_2 20 rfl rfl)
theorem dX4_ahead_69 : decode cX4_ahead 69 = .ok (.aload_n 0, 1) := dk_42 (dk_at dksX4_ahead_2 21 rfl rfl)
theorem dX4_ahead_70 : decode cX4_ahead 70 = .ok (.getfield 41, 3) := dk_180 0 41 (dk_at dksX4_ahead_3 0 rfl rfl)
theorem dX4_ahead_73 : decode cX4_ahead 73 = .ok (.iload_n 1, 1) := dk_27 (dk_at dksX4_ahead_3 3 rfl rfl)
theorem dX4_ahead_74 : decode cX4_ahead 74 = .ok (.iaload, 1) := dk_46 (dk_at dksX4_ahead_3 4 rfl rfl)
theorem dX4_ahead_75 : decode cX4_ahead 75 = .ok (.if_icmp .ne 25, 3) := dk_160 0 25 (dk_at dksX4_ahead_3 5 rfl rfl)
theorem dX4_ahead_78 : decode cX4_ahead 78 = .ok (.aload_n 0, 1) := dk_42 (dk_at dksX4_ahead_3 8 rfl rfl)
theorem dX4_ahead_79 : decode cX4_ahead 79 = .ok (.getfield 50, 3) := dk_180 0 50 (dk_at dksX4_ahead_3 9 rfl rfl)
theorem dX4_ahead_82 : decode cX4_ahead 82 = .ok (.iload 5, 2) := dk_21 5 (dk_at dksX4_ahead_3 12 rfl rfl)
theorem dX4_ahead_84 : decode cX4_ahead 84 = .ok (.iconst 1, 1) := dk_4 (dk_at dksX4_ahead_3 14 rfl rfl)
theorem dX4_ahead_85 : decode cX4_ahead 85 = .ok (.iadd, 1) := dk_96 (dk_at dksX4_ahead_3 15 rfl rfl)
theorem dX4_ahead_86 : decode cX4_ahead 86 = .ok (.iaload, 1) := dk_46 (dk_at dksX4_ahead_3 16 rfl rfl)
theorem dX4_ahead_87 : decode cX4_ahead 87 = .ok (.aload_n 0, 1) := dk_42 (dk_at dksX4_ahead_3 17 rfl rfl)
theorem dX4_ahead_88 : decode cX4_ahead 88 = .ok (.getfield 41, 3) := dk_180 0 41 (dk_at dksX4_ahead_3 18 rfl rfl)
theorem dX4_ahead_91 : decode cX4_ahead 91 = .ok (.iload_n 2, 1) := dk_28 (dk_at dksX4_ahead_3 21 rfl rfl)
theorem dX4_ahead_92 : decode cX4_ahead 92 = .ok (.iaload, 1) := dk_46 (dk_at dksX4_ahead_3 22 rfl rfl)
theorem dX4_ahead_93 : decode cX4_ahead 93 = .ok (.if_icmp .ne 7, 3) := dk_160 0 7 (dk_at dksX4_ahead_4 0 rfl rfl)
theorem dX4_ahead_96 : decode cX4_ahead 96 = .ok (.iconst 1, 1) := dk_4 (dk_at dksX4_ahead_4 3 rfl rfl)
theorem dX4_ahead_97 : decode cX4_ahead 97 = .ok (.goto 4, 3) := dk_167 0 4 (dk_at dksX4_ahead_4 4 rfl rfl)
theorem dX4_ahead_100 : decode cX4_ahead 100 = .ok (.iconst 0, 1) := dk_3 (dk_at dksX4_ahead_4 7 rfl rfl)
theorem dX4_ahead_101 : decode cX4_ahead 101 = .ok (.invokestatic 177, 3) := dk_184 0 177 (dk_at dksX4_ahead_4 8 rfl rfl)
theorem dX4_ahead_104 : decode cX4_ahead 104 = .ok (.iadd, 1) := dk_96 (dk_at dksX4_ahead_4 11 rfl rfl)
theorem dX4_ahead_105 : decode cX4_ahead 105 = .ok (.istore_n 3, 1) := dk_62 (dk_at dksX4_ahead_4 12 rfl rfl)
theorem dX4_ahead_106 : decode cX4_ahead 106 = .ok (.iinc 5 1, 3) := dk_132 5 1 (dk_at dksX4_ahead_4 13 rfl rfl)
theorem dX4_ahead_109 : decode cX4_ahead 109 = .ok (.goto (-64), 3) := dk_167 255 192 (dk_at dksX4_ahead_4 16 rfl rfl)
theorem dX4_ahead_112 : decode cX4_ahead 112 = .ok (.iinc 4 1, 3) := dk_132 4 1 (dk_at dksX4_ahead_4 19 rfl rfl)
theorem dX4_ahead_115 : decode cX4_ahead 115 = .ok (.goto (-88), 3) := dk_167 255 168 (dk_at dksX4_ahead_5 0 rfl rfl)
theorem dX4_ahead_118 : decode cX4_ahead 118 = .ok (.iload_n 3, 1) := dk_29 (dk_at dksX4_ahead_5 3 rfl rfl)
theorem dX4_ahead_119 : decode cX4_ahead 119 = .ok (.ireturn, 1) := dk_172 (dk_at dksX4_ahead_5 4 rfl rfl)
def dkwX4_stem_5 : List UInt8 := [180, 0, 53, 28, 6, 100, 46, 167, 0, 4, 2, 172]
abbrev dktX4_stem_5 : List UInt8 := dkwX4_stem_5 ++ []
def dkwX4_stem_4 : List UInt8 := [182, 1, 72, 172, 28, 5, 160, 0, 8, 21, 4, 167, 0, 23, 28, 6, 100, 21, 4, 162, 0, 14, 42]
abbrev dktX4_stem_4 : List UInt8 := dkwX4_stem_4 ++ dktX4_stem_5
def dkwX4_stem_3 : List UInt8 := [162, 0, 26, 28, 154, 0, 15, 42, 21, 4, 182, 1, 72, 184, 1, 12, 167, 0, 9, 42, 21, 4]
abbrev dktX4_stem_3 : List UInt8 := dkwX4_stem_3 ++ dktX4_stem_4
def dkwX4_stem_2 : List UInt8 := [27, 46, 62, 42, 180, 0, 56, 29, 46, 4, 100, 54, 4, 42, 29, 21, 4, 182, 1, 69, 28, 5]
abbrev dktX4_stem_2 : List UInt8 := dkwX4_stem_2 ++ dktX4_stem_3
def dkwX4_stem_1 : List UInt8 := [4, 100, 184, 0, 123, 153, 0, 13, 28, 3, 16, 8, 184, 0, 123, 154, 0, 5, 2, 172, 42, 180, 0, 71]
abbrev dktX4_stem_1 : List UInt8 := dkwX4_stem_1 ++ dktX4_stem_2
def dkwX4_stem_0 : List UInt8 := [42, 182, 0, 235, 42, 182, 1, 81, 27, 2, 160, 0, 8, 42, 180, 1, 66, 172, 27, 3, 42, 180, 1, 66]
abbrev dktX4_stem_0 : List UInt8 := dkwX4_stem_0 ++ dktX4_stem_1
theorem dksX4_stem_0 : cX4_stem.data.toList.drop 0 = dktX4_stem_0 := by decide +kernel
theorem dksX4_stem_1 : cX4_stem.data.toList.drop 24 = dktX4_stem_1 := dk_seg dksX4_stem_0 24 rfl rfl
theorem dksX4_stem_2 : cX4_stem.data.toList.drop 48 = dktX4_stem_2 := dk_seg dksX4_stem_1 24 rfl rfl
theorem dksX4_stem_3 : cX4_stem.data.toList.drop 70 = dktX4_stem_3 := dk_seg dksX4_stem_2 22 rfl rfl
theorem dksX4_stem_4 : cX4_stem.data.toList.drop 92 = dktX4_stem_4 := dk_seg dksX4_stem_3 22 rfl rfl
theorem dksX4_stem_5 : cX4_stem.data.toList.drop 115 = dktX4_stem_5 := dk_seg dksX4_stem_4 23 rfl rfl
theorem dX4_stem_0 : decode cX4_stem 0 = .ok (.aload_n 0, 1) := dk_42 (dk_at dksX4_stem_0 0 rfl rfl)
theorem dX4_stem_1 : decode cX4_stem 1 = .ok (.invokevirtual 235, 3) := dk_182 0 235 (dk_at dksX4_stem_0 1 rfl rfl)
theorem dX4_stem_4 : decode cX4_stem 4 = .ok (.aload_n 0, 1) := dk_42 (dk_at dksX4_stem_0 4 rfl rfl)
theorem dX4_stem_5 : decode cX4_stem 5 = .ok (.invokevirtual 337, 3) := dk_182 1 81 (dk_at dksX4_stem_0 5 rfl rfl)
theorem dX4_stem_8 : decode cX4_stem 8 = .ok (.iload_n 1, 1) := dk_27 (dk_at dksX4_stem_0 8 rfl rfl)
theorem dX4_stem_9 : decode cX4_stem 9 = .ok (.iconst (-1), 1) := dk_2 (dk_at dksX4_stem_0 9 rfl rfl)
theorem dX4_stem_10 : decode cX4_stem 10 = .ok (.if_icmp .ne 8, 3) := dk_160 0 8 (dk_at dksX4_stem_0 10 rfl rfl)
theorem dX4_stem_13 : decode cX4_stem 13 = .ok (.aload_n 0, 1) := dk_42 (dk_at dksX4_stem_0 13 rfl rfl)
theorem dX4_stem_14 : decode cX4_stem 14 = .ok (.getfield 322, 3) := dk_180 1 66 (dk_at dksX4_stem_0 14 rfl rfl)
theorem dX4_stem_17 : decode cX4_stem 17 = .ok (.ireturn, 1) := dk_172 (dk_at dksX4_stem_0 17 rfl rfl)
theorem dX4_stem_18 : decode cX4_stem 18 = .ok (.iload_n 1, 1) := dk_27 (dk_at dksX4_stem_0 18 rfl rfl)
theorem dX4_stem_19 : decode cX4_stem 19 = .ok (.iconst 0, 1) := dk_3 (dk_at dksX4_stem_0 19 rfl rfl)
theorem dX4_stem_20 : decode cX4_stem 20 = .ok (.aload_n 0, 1) := dk_42 (dk_at dksX4_stem_0 20 rfl rfl)
theorem dX4_stem_21 : decode cX4_stem 21 = .ok (.getfield 322, 3) := dk_180 1 66 (dk_at dksX4_stem_0 21 rfl rfl)
theorem dX4_stem_24 : decode cX4_stem 24 = .ok (.iconst 1, 1) := dk_4 (dk_at dksX4_stem_1 0 rfl rfl)
theorem dX4_stem_25 : decode cX4_stem 25 = .ok (.isub, 1) := dk_100 (dk_at dksX4_stem_1 1 rfl rfl)
theorem dX4_stem_26 : decode cX4_stem 26 = .ok (.invokestatic 123, 3) := dk_184 0 123 (dk_at dksX4_stem_1 2 rfl rfl)
theorem dX4_stem_29 : decode cX4_stem 29 = .ok (.ifCond .eq 13, 3) := dk_153 0 13 (dk_at dksX4_stem_1 5 rfl rfl)
theorem dX4_stem_32 : decode cX4_stem 32 = .ok (.iload_n 2, 1) := dk_28 (dk_at dksX4_stem_1 8 rfl rfl)
theorem dX4_stem_33 : decode cX4_stem 33 = .ok (.iconst 0, 1) := dk_3 (dk_at dksX4_stem_1 9 rfl rfl)
theorem dX4_stem_34 : decode cX4_stem 34 = .ok (.bipush 8, 2) := dk_16 8 (dk_at dksX4_stem_1 10 rfl rfl)
theorem dX4_stem_36 : decode cX4_stem 36 = .ok (.invokestatic 123, 3) := dk_184 0 123 (dk_at dksX4_stem_1 12 rfl rfl)
theorem dX4_stem_39 : decode cX4_stem 39 = .ok (.ifCond .ne 5, 3) := dk_154 0 5 (dk_at dksX4_stem_1 15 rfl rfl)
theorem dX4_stem_42 : decode cX4_stem 42 = .ok (.iconst (-1), 1) := dk_2 (dk_at dksX4_stem_1 18 rfl rfl)
theorem dX4_stem_43 : decode cX4_stem 43 = .ok (.ireturn, 1) := dk_172 (dk_at dksX4_stem_1 19 rfl rfl)
theorem dX4_stem_44 : decode cX4_stem 44 = .ok (.aload_n 0, 1) := dk_42 (dk_at dksX4_stem_1 20 rfl rfl)
theorem dX4_stem_45 : decode cX4_stem 45 = .ok (.getfield 71, 3) := dk_180 0 71 (dk_at dksX4_stem_1 21 rfl rfl)
theorem dX4_stem_48 : decode cX4_stem 48 = .ok (.iload_n 1, 1) := dk_27 (dk_at dksX4_stem_2 0 rfl rfl)
theorem dX4_stem_49 : decode cX4_stem 49 = .ok (.iaload, 1) := dk_46 (dk_at dksX4_stem_2 1 rfl rfl)
theorem dX4_stem_50 : decode cX4_stem 50 = .ok (.istore_n 3, 1) := dk_62 (dk_at dksX4_stem_2 2 rfl rfl)
theorem dX4_stem_51 : decode cX4_stem 51 = .ok (.aload_n 0, 1) := dk_42 (dk_at dksX4_stem_2 3 rfl rfl)
theorem dX4_stem_52 : decode cX4_stem 52 = .ok (.getfield 56, 3) := dk_180 0 56 (dk_at dksX4_stem_2 4 rfl rfl)
theorem dX4_stem_55 : decode cX4_stem 55 = .ok (.iload_n 3, 1) := dk_29 (dk_at dksX4_stem_2 7 rfl rfl)
theorem dX4_stem_56 : decode cX4_stem 56 = .ok (.iaload, 1) := dk_46 (dk_at dksX4_stem_2 8 rfl rfl)
theorem dX4_stem_57 : decode cX4_stem 57 = .ok (.iconst 1, 1) := dk_4 (dk_at dksX4_stem_2 9 rfl rfl)
theorem dX4_stem_58 : decode cX4_stem 58 = .ok (.isub, 1) := dk_100 (dk_at dksX4_stem_2 10 rfl rfl)
theorem dX4_stem_59 : decode cX4_stem 59 = .ok (.istore 4, 2) := dk_54 4 (dk_at dksX4_stem_2 11 rfl rfl)
theorem dX4_stem_61 : decode cX4_stem 61 = .ok (.aload_n 0, 1) := dk_42 (dk_at dksX4_stem_2 13 rfl rfl)
theorem dX4_stem_62 : decode cX4_stem 62 = .ok (.iload_n 3, 1) := dk_29 (dk_at dksX4_stem_2 14 rfl rfl)
theorem dX4_stem_63 : decode cX4_stem 63 = .ok (.iload 4, 2) := dk_21 4 (dk_at dksX4_stem_2 15 rfl rfl)
theorem dX4_stem_65 : decode cX4_stem 65 = .ok (.invokevirtual 325, 3) := dk_182 1 69 (dk_at dksX4_stem_2 17 rfl rfl)
theorem dX4_stem_68 : decode cX4_stem 68 = .ok (.iload_n 2, 1) := dk_28 (dk_at dksX4_stem_2 20 rfl rfl)
theorem dX4_stem_69 : decode cX4_stem 69 = .ok (.iconst 2, 1) := dk_5 (dk_at dksX4_stem_2 21 rfl rfl)
theorem dX4_stem_70 : decode cX4_stem 70 = .ok (.if_icmp .ge 26, 3) := dk_162 0 26 (dk_at dksX4_stem_3 0 rfl rfl)
theorem dX4_stem_73 : decode cX4_stem 73 = .ok (.iload_n 2, 1) := dk_28 (dk_at dksX4_stem_3 3 rfl rfl)
theorem dX4_stem_74 : decode cX4_stem 74 = .ok (.ifCond .ne 15, 3) := dk_154 0 15 (dk_at dksX4_stem_3 4 rfl rfl)
theorem dX4_stem_77 : decode cX4_stem 77 = .ok (.aload_n 0, 1) := dk_42 (dk_at dksX4_stem_3 7 rfl rfl)
theorem dX4_stem_78 : decode cX4_stem 78 = .ok (.iload 4, 2) := dk_21 4 (dk_at dksX4_stem_3 8 rfl rfl)
theorem dX4_stem_80 : decode cX4_stem 80 = .ok (.invokevirtual 328, 3) := dk_182 1 72 (dk_at dksX4_stem_3 10 rfl rfl)
theorem dX4_stem_83 : decode cX4_stem 83 = .ok (.invokestatic 268, 3) := dk_184 1 12 (dk_at dksX4_stem_3 13 rfl rfl)
theorem dX4_stem_86 : decode cX4_stem 86 = .ok (.goto 9, 3) := dk_167 0 9 (dk_at dksX4_stem_3 16 rfl rfl)
theorem dX4_stem_89 : decode cX4_stem 89 = .ok (.aload_n 0, 1) := dk_42 (dk_at dksX4_stem_3 19 rfl rfl)
theorem dX4_stem_90 : decode cX4_stem 90 = .ok (.iload 4, 2) := dk_21 4 (dk_at dksX4_stem_3 20 rfl rfl)
theorem dX4_stem_92 : decode cX4_stem 92 = .ok (.invokevirtual 328, 3) := dk_182 1 72 (dk_at dksX4_stem_4 0 rfl rfl)
theorem dX4_stem_95 : decode cX4_stem 95 = .ok (.ireturn, 1) := dk_172 (dk_at dksX4_stem_4 3 rfl rfl)
theorem dX4_stem_96 : decode cX4_stem 96 = .ok (.iload_n 2, 1) := dk_28 (dk_at dksX4_stem_4 4 rfl rfl)
theorem dX4_stem_97 : decode cX4_stem 97 = .ok (.iconst 2, 1) := dk_5 (dk_at dksX4_stem_4 5 rfl rfl)
theorem dX4_stem_98 : decode cX4_stem 98 = .ok (.if_icmp .ne 8, 3) := dk_160 0 8 (dk_at dksX4_stem_4 6 rfl rfl)
theorem dX4_stem_101 : decode cX4_stem 101 = .ok (.iload 4, 2) := dk_21 4 (dk_at dksX4_stem_4 9 rfl rfl)
theorem dX4_stem_103 : decode cX4_stem 103 = .ok (.goto 23, 3) := dk_167 0 23 (dk_at dksX4_stem_4 11 rfl rfl)
theorem dX4_stem_106 : decode cX4_stem 106 = .ok (.iload_n 2, 1) := dk_28 (dk_at dksX4_stem_4 14 rfl rfl)
theorem dX4_stem_107 : decode cX4_stem 107 = .ok (.iconst 3, 1) := dk_6 (dk_at dksX4_stem_4 15 rfl rfl)
theorem dX4_stem_108 : decode cX4_stem 108 = .ok (.isub, 1) := dk_100 (dk_at dksX4_stem_4 16 rfl rfl)
theorem dX4_stem_109 : decode cX4_stem 109 = .ok (.iload 4, 2) := dk_21 4 (dk_at dksX4_stem_4 17 rfl rfl)
theorem dX4_stem_111 : decode cX4_stem 111 = .ok (.if_icmp .ge 14, 3) := dk_162 0 14 (dk_at dksX4_stem_4 19 rfl rfl)
theorem dX4_stem_114 : decode cX4_stem 114 = .ok (.aload_n 0, 1) := dk_42 (dk_at dksX4_stem_4 22 rfl rfl)
theorem dX4_stem_115 : decode cX4_stem 115 = .ok (.getfield 53, 3) := dk_180 0 53 (dk_at dksX4_stem_5 0 rfl rfl)
theorem dX4_stem_118 : decode cX4_stem 118 = .ok (.iload_n 2, 1) := dk_28 (dk_at dksX4_stem_5 3 rfl rfl)
theorem dX4_stem_119 : decode cX4_stem 119 = .ok (.iconst 3, 1) := dk_6 (dk_at dksX4_stem_5 4 rfl rfl)
theorem dX4_stem_120 : decode cX4_stem 120 = .ok (.isub, 1) := dk_100 (dk_at dksX4_stem_5 5 rfl rfl)
theorem dX4_stem_121 : decode cX4_stem 121 = .ok (.iaload, 1) := dk_46 (dk_at dksX4_stem_5 6 rfl rfl)
theorem dX4_stem_122 : decode cX4_stem 122 = .ok (.goto 4, 3) := dk_167 0 4 (dk_at dksX4_stem_5 7 rfl rfl)
theorem dX4_stem_125 : decode cX4_stem 125 = .ok (.iconst (-1), 1) := dk_2 (dk_at dksX4_stem_5 10 rfl rfl)
theorem dX4_stem_126 : decode cX4_stem 126 = .ok (.ireturn, 1) := dk_172 (dk_at dksX4_stem_5 11 rfl rfl)
def dkwX4_laysStems_6 : List UInt8 := [181, 1, 66, 132, 1, 1, 167, 255, 118, 177]
abbrev dktX4_laysStems_6 : List UInt8 := dkwX4_laysStems_6 ++ []
def dkwX4_laysStems_5 : List UInt8 := [100, 46, 79, 132, 4, 255, 167, 255, 215, 42, 180, 0, 71, 21, 4, 27, 79, 42, 89, 180, 1, 66, 4, 96]
abbrev dktX4_laysStems_5 : List UInt8 := dkwX4_laysStems_5 ++ dktX4_laysStems_6
def dkwX4_laysStems_4 : List UInt8 := [21, 4, 4, 100, 46, 182, 1, 78, 153, 0, 25, 42, 180, 0, 71, 21, 4, 42, 180, 0, 71, 21, 4, 4]
abbrev dktX4_laysStems_4 : List UInt8 := dkwX4_laysStems_4 ++ dktX4_laysStems_5
def dkwX4_laysStems_3 : List UInt8 := [159, 0, 6, 167, 0, 71, 42, 180, 1, 66, 54, 4, 21, 4, 158, 0, 42, 42, 27, 42, 180, 0, 71]
abbrev dktX4_laysStems_3 : List UInt8 := dkwX4_laysStems_3 ++ dktX4_laysStems_4
def dkwX4_laysStems_2 : List UInt8 := [184, 1, 12, 5, 161, 0, 92, 29, 184, 1, 75, 42, 180, 0, 59, 16, 7, 27, 104, 28, 96, 46]
abbrev dktX4_laysStems_2 : List UInt8 := dkwX4_laysStems_2 ++ dktX4_laysStems_3
def dkwX4_laysStems_1 : List UInt8 := [42, 27, 28, 182, 1, 69, 28, 5, 162, 0, 7, 3, 167, 0, 8, 42, 28, 182, 1, 72, 62, 29]
abbrev dktX4_laysStems_1 : List UInt8 := dkwX4_laysStems_1 ++ dktX4_laysStems_2
def dkwX4_laysStems_0 : List UInt8 := [42, 3, 181, 1, 66, 3, 60, 27, 42, 180, 1, 46, 162, 0, 136, 42, 180, 0, 56, 27, 46, 4, 100, 61]
abbrev dktX4_laysStems_0 : List UInt8 := dkwX4_laysStems_0 ++ dktX4_laysStems_1
theorem dksX4_laysStems_0 : cX4_laysStems.data.toList.drop 0 = dktX4_laysStems_0 := by decide +kernel
theorem dksX4_laysStems_1 : cX4_laysStems.data.toList.drop 24 = dktX4_laysStems_1 := dk_seg dksX4_laysStems_0 24 rfl rfl
theorem dksX4_laysStems_2 : cX4_laysStems.data.toList.drop 46 = dktX4_laysStems_2 := dk_seg dksX4_laysStems_1 22 rfl rfl
theorem dksX4_laysStems_3 : cX4_laysStems.data.toList.drop 68 = dktX4_laysStems_3 := dk_seg dksX4_laysStems_2 22 rfl rfl
theorem dksX4_laysStems_4 : cX4_laysStems.data.toList.drop 91 = dktX4_laysStems_4 := dk_seg dksX4_laysStems_3 23 rfl rfl
theorem dksX4_laysStems_5 : cX4_laysStems.data.toList.drop 115 = dktX4_laysStems_5 := dk_seg dksX4_laysStems_4 24 rfl rfl
theorem dksX4_laysStems_6 : cX4_laysStems.data.toList.drop 139 = dktX4_laysStems_6 := dk_seg dksX4_laysStems_5 24 rfl rfl
theorem dX4_laysStems_0 : decode cX4_laysStems 0 = .ok (.aload_n 0, 1) := dk_42 (dk_at dksX4_laysStems_0 0 rfl rfl)
theorem dX4_laysStems_1 : decode cX4_laysStems 1 = .ok (.iconst 0, 1) := dk_3 (dk_at dksX4_laysStems_0 1 rfl rfl)
theorem dX4_laysStems_2 : decode cX4_laysStems 2 = .ok (.putfield 322, 3) := dk_181 1 66 (dk_at dksX4_laysStems_0 2 rfl rfl)
theorem dX4_laysStems_5 : decode cX4_laysStems 5 = .ok (.iconst 0, 1) := dk_3 (dk_at dksX4_laysStems_0 5 rfl rfl)
theorem dX4_laysStems_6 : decode cX4_laysStems 6 = .ok (.istore_n 1, 1) := dk_60 (dk_at dksX4_laysStems_0 6 rfl rfl)
theorem dX4_laysStems_7 : decode cX4_laysStems 7 = .ok (.iload_n 1, 1) := dk_27 (dk_at dksX4_laysStems_0 7 rfl rfl)
theorem dX4_laysStems_8 : decode cX4_laysStems 8 = .ok (.aload_n 0, 1) := dk_42 (dk_at dksX4_laysStems_0 8 rfl rfl)
theorem dX4_laysStems_9 : decode cX4_laysStems 9 = .ok (.getfield 302, 3) := dk_180 1 46 (dk_at dksX4_laysStems_0 9 rfl rfl)
theorem dX4_laysStems_12 : decode cX4_laysStems 12 = .ok (.if_icmp .ge 136, 3) := dk_162 0 136 (dk_at dksX4_laysStems_0 12 rfl rfl)
theorem dX4_laysStems_15 : decode cX4_laysStems 15 = .ok (.aload_n 0, 1) := dk_42 (dk_at dksX4_laysStems_0 15 rfl rfl)
theorem dX4_laysStems_16 : decode cX4_laysStems 16 = .ok (.getfield 56, 3) := dk_180 0 56 (dk_at dksX4_laysStems_0 16 rfl rfl)
theorem dX4_laysStems_19 : decode cX4_laysStems 19 = .ok (.iload_n 1, 1) := dk_27 (dk_at dksX4_laysStems_0 19 rfl rfl)
theorem dX4_laysStems_20 : decode cX4_laysStems 20 = .ok (.iaload, 1) := dk_46 (dk_at dksX4_laysStems_0 20 rfl rfl)
theorem dX4_laysStems_21 : decode cX4_laysStems 21 = .ok (.iconst 1, 1) := dk_4 (dk_at dksX4_laysStems_0 21 rfl rfl)
theorem dX4_laysStems_22 : decode cX4_laysStems 22 = .ok (.isub, 1) := dk_100 (dk_at dksX4_laysStems_0 22 rfl rfl)
theorem dX4_laysStems_23 : decode cX4_laysStems 23 = .ok (.istore_n 2, 1) := dk_61 (dk_at dksX4_laysStems_0 23 rfl rfl)
theorem dX4_laysStems_24 : decode cX4_laysStems 24 = .ok (.aload_n 0, 1) := dk_42 (dk_at dksX4_laysStems_1 0 rfl rfl)
theorem dX4_laysStems_25 : decode cX4_laysStems 25 = .ok (.iload_n 1, 1) := dk_27 (dk_at dksX4_laysStems_1 1 rfl rfl)
theorem dX4_laysStems_26 : decode cX4_laysStems 26 = .ok (.iload_n 2, 1) := dk_28 (dk_at dksX4_laysStems_1 2 rfl rfl)
theorem dX4_laysStems_27 : decode cX4_laysStems 27 = .ok (.invokevirtual 325, 3) := dk_182 1 69 (dk_at dksX4_laysStems_1 3 rfl rfl)
theorem dX4_laysStems_30 : decode cX4_laysStems 30 = .ok (.iload_n 2, 1) := dk_28 (dk_at dksX4_laysStems_1 6 rfl rfl)
theorem dX4_laysStems_31 : decode cX4_laysStems 31 = .ok (.iconst 2, 1) := dk_5 (dk_at dksX4_laysStems_1 7 rfl rfl)
theorem dX4_laysStems_32 : decode cX4_laysStems 32 = .ok (.if_icmp .ge 7, 3) := dk_162 0 7 (dk_at dksX4_laysStems_1 8 rfl rfl)
theorem dX4_laysStems_35 : decode cX4_laysStems 35 = .ok (.iconst 0, 1) := dk_3 (dk_at dksX4_laysStems_1 11 rfl rfl)
theorem dX4_laysStems_36 : decode cX4_laysStems 36 = .ok (.goto 8, 3) := dk_167 0 8 (dk_at dksX4_laysStems_1 12 rfl rfl)
theorem dX4_laysStems_39 : decode cX4_laysStems 39 = .ok (.aload_n 0, 1) := dk_42 (dk_at dksX4_laysStems_1 15 rfl rfl)
theorem dX4_laysStems_40 : decode cX4_laysStems 40 = .ok (.iload_n 2, 1) := dk_28 (dk_at dksX4_laysStems_1 16 rfl rfl)
theorem dX4_laysStems_41 : decode cX4_laysStems 41 = .ok (.invokevirtual 328, 3) := dk_182 1 72 (dk_at dksX4_laysStems_1 17 rfl rfl)
theorem dX4_laysStems_44 : decode cX4_laysStems 44 = .ok (.istore_n 3, 1) := dk_62 (dk_at dksX4_laysStems_1 20 rfl rfl)
theorem dX4_laysStems_45 : decode cX4_laysStems 45 = .ok (.iload_n 3, 1) := dk_29 (dk_at dksX4_laysStems_1 21 rfl rfl)
theorem dX4_laysStems_46 : decode cX4_laysStems 46 = .ok (.invokestatic 268, 3) := dk_184 1 12 (dk_at dksX4_laysStems_2 0 rfl rfl)
theorem dX4_laysStems_49 : decode cX4_laysStems 49 = .ok (.iconst 2, 1) := dk_5 (dk_at dksX4_laysStems_2 3 rfl rfl)
theorem dX4_laysStems_50 : decode cX4_laysStems 50 = .ok (.if_icmp .lt 92, 3) := dk_161 0 92 (dk_at dksX4_laysStems_2 4 rfl rfl)
theorem dX4_laysStems_53 : decode cX4_laysStems 53 = .ok (.iload_n 3, 1) := dk_29 (dk_at dksX4_laysStems_2 7 rfl rfl)
theorem dX4_laysStems_54 : decode cX4_laysStems 54 = .ok (.invokestatic 331, 3) := dk_184 1 75 (dk_at dksX4_laysStems_2 8 rfl rfl)
theorem dX4_laysStems_57 : decode cX4_laysStems 57 = .ok (.aload_n 0, 1) := dk_42 (dk_at dksX4_laysStems_2 11 rfl rfl)
theorem dX4_laysStems_58 : decode cX4_laysStems 58 = .ok (.getfield 59, 3) := dk_180 0 59 (dk_at dksX4_laysStems_2 12 rfl rfl)
theorem dX4_laysStems_61 : decode cX4_laysStems 61 = .ok (.bipush 7, 2) := dk_16 7 (dk_at dksX4_laysStems_2 15 rfl rfl)
theorem dX4_laysStems_63 : decode cX4_laysStems 63 = .ok (.iload_n 1, 1) := dk_27 (dk_at dksX4_laysStems_2 17 rfl rfl)
theorem dX4_laysStems_64 : decode cX4_laysStems 64 = .ok (.imul, 1) := dk_104 (dk_at dksX4_laysStems_2 18 rfl rfl)
theorem dX4_laysStems_65 : decode cX4_laysStems 65 = .ok (.iload_n 2, 1) := dk_28 (dk_at dksX4_laysStems_2 19 rfl rfl)
theorem dX4_laysStems_66 : decode cX4_laysStems 66 = .ok (.iadd, 1) := dk_96 (dk_at dksX4_laysStems_2 20 rfl rfl)
theorem dX4_laysStems_67 : decode cX4_laysStems 67 = .ok (.iaload, 1) := dk_46 (dk_at dksX4_laysStems_2 21 rfl rfl)
theorem dX4_laysStems_68 : decode cX4_laysStems 68 = .ok (.if_icmp .eq 6, 3) := dk_159 0 6 (dk_at dksX4_laysStems_3 0 rfl rfl)
theorem dX4_laysStems_71 : decode cX4_laysStems 71 = .ok (.goto 71, 3) := dk_167 0 71 (dk_at dksX4_laysStems_3 3 rfl rfl)
theorem dX4_laysStems_74 : decode cX4_laysStems 74 = .ok (.aload_n 0, 1) := dk_42 (dk_at dksX4_laysStems_3 6 rfl rfl)
theorem dX4_laysStems_75 : decode cX4_laysStems 75 = .ok (.getfield 322, 3) := dk_180 1 66 (dk_at dksX4_laysStems_3 7 rfl rfl)
theorem dX4_laysStems_78 : decode cX4_laysStems 78 = .ok (.istore 4, 2) := dk_54 4 (dk_at dksX4_laysStems_3 10 rfl rfl)
theorem dX4_laysStems_80 : decode cX4_laysStems 80 = .ok (.iload 4, 2) := dk_21 4 (dk_at dksX4_laysStems_3 12 rfl rfl)
theorem dX4_laysStems_82 : decode cX4_laysStems 82 = .ok (.ifCond .le 42, 3) := dk_158 0 42 (dk_at dksX4_laysStems_3 14 rfl rfl)
theorem dX4_laysStems_85 : decode cX4_laysStems 85 = .ok (.aload_n 0, 1) := dk_42 (dk_at dksX4_laysStems_3 17 rfl rfl)
theorem dX4_laysStems_86 : decode cX4_laysStems 86 = .ok (.iload_n 1, 1) := dk_27 (dk_at dksX4_laysStems_3 18 rfl rfl)
theorem dX4_laysStems_87 : decode cX4_laysStems 87 = .ok (.aload_n 0, 1) := dk_42 (dk_at dksX4_laysStems_3 19 rfl rfl)
theorem dX4_laysStems_88 : decode cX4_laysStems 88 = .ok (.getfield 71, 3) := dk_180 0 71 (dk_at dksX4_laysStems_3 20 rfl rfl)
theorem dX4_laysStems_91 : decode cX4_laysStems 91 = .ok (.iload 4, 2) := dk_21 4 (dk_at dksX4_laysStems_4 0 rfl rfl)
theorem dX4_laysStems_93 : decode cX4_laysStems 93 = .ok (.iconst 1, 1) := dk_4 (dk_at dksX4_laysStems_4 2 rfl rfl)
theorem dX4_laysStems_94 : decode cX4_laysStems 94 = .ok (.isub, 1) := dk_100 (dk_at dksX4_laysStems_4 3 rfl rfl)
theorem dX4_laysStems_95 : decode cX4_laysStems 95 = .ok (.iaload, 1) := dk_46 (dk_at dksX4_laysStems_4 4 rfl rfl)
theorem dX4_laysStems_96 : decode cX4_laysStems 96 = .ok (.invokevirtual 334, 3) := dk_182 1 78 (dk_at dksX4_laysStems_4 5 rfl rfl)
theorem dX4_laysStems_99 : decode cX4_laysStems 99 = .ok (.ifCond .eq 25, 3) := dk_153 0 25 (dk_at dksX4_laysStems_4 8 rfl rfl)
theorem dX4_laysStems_102 : decode cX4_laysStems 102 = .ok (.aload_n 0, 1) := dk_42 (dk_at dksX4_laysStems_4 11 rfl rfl)
theorem dX4_laysStems_103 : decode cX4_laysStems 103 = .ok (.getfield 71, 3) := dk_180 0 71 (dk_at dksX4_laysStems_4 12 rfl rfl)
theorem dX4_laysStems_106 : decode cX4_laysStems 106 = .ok (.iload 4, 2) := dk_21 4 (dk_at dksX4_laysStems_4 15 rfl rfl)
theorem dX4_laysStems_108 : decode cX4_laysStems 108 = .ok (.aload_n 0, 1) := dk_42 (dk_at dksX4_laysStems_4 17 rfl rfl)
theorem dX4_laysStems_109 : decode cX4_laysStems 109 = .ok (.getfield 71, 3) := dk_180 0 71 (dk_at dksX4_laysStems_4 18 rfl rfl)
theorem dX4_laysStems_112 : decode cX4_laysStems 112 = .ok (.iload 4, 2) := dk_21 4 (dk_at dksX4_laysStems_4 21 rfl rfl)
theorem dX4_laysStems_114 : decode cX4_laysStems 114 = .ok (.iconst 1, 1) := dk_4 (dk_at dksX4_laysStems_4 23 rfl rfl)
theorem dX4_laysStems_115 : decode cX4_laysStems 115 = .ok (.isub, 1) := dk_100 (dk_at dksX4_laysStems_5 0 rfl rfl)
theorem dX4_laysStems_116 : decode cX4_laysStems 116 = .ok (.iaload, 1) := dk_46 (dk_at dksX4_laysStems_5 1 rfl rfl)
theorem dX4_laysStems_117 : decode cX4_laysStems 117 = .ok (.iastore, 1) := dk_79 (dk_at dksX4_laysStems_5 2 rfl rfl)
theorem dX4_laysStems_118 : decode cX4_laysStems 118 = .ok (.iinc 4 (-1), 3) := dk_132 4 255 (dk_at dksX4_laysStems_5 3 rfl rfl)
theorem dX4_laysStems_121 : decode cX4_laysStems 121 = .ok (.goto (-41), 3) := dk_167 255 215 (dk_at dksX4_laysStems_5 6 rfl rfl)
theorem dX4_laysStems_124 : decode cX4_laysStems 124 = .ok (.aload_n 0, 1) := dk_42 (dk_at dksX4_laysStems_5 9 rfl rfl)
theorem dX4_laysStems_125 : decode cX4_laysStems 125 = .ok (.getfield 71, 3) := dk_180 0 71 (dk_at dksX4_laysStems_5 10 rfl rfl)
theorem dX4_laysStems_128 : decode cX4_laysStems 128 = .ok (.iload 4, 2) := dk_21 4 (dk_at dksX4_laysStems_5 13 rfl rfl)
theorem dX4_laysStems_130 : decode cX4_laysStems 130 = .ok (.iload_n 1, 1) := dk_27 (dk_at dksX4_laysStems_5 15 rfl rfl)
theorem dX4_laysStems_131 : decode cX4_laysStems 131 = .ok (.iastore, 1) := dk_79 (dk_at dksX4_laysStems_5 16 rfl rfl)
theorem dX4_laysStems_132 : decode cX4_laysStems 132 = .ok (.aload_n 0, 1) := dk_42 (dk_at dksX4_laysStems_5 17 rfl rfl)
theorem dX4_laysStems_133 : decode cX4_laysStems 133 = .ok (.dup, 1) := dk_89 (dk_at dksX4_laysStems_5 18 rfl rfl)
theorem dX4_laysStems_134 : decode cX4_laysStems 134 = .ok (.getfield 322, 3) := dk_180 1 66 (dk_at dksX4_laysStems_5 19 rfl rfl)
theorem dX4_laysStems_137 : decode cX4_laysStems 137 = .ok (.iconst 1, 1) := dk_4 (dk_at dksX4_laysStems_5 22 rfl rfl)
theorem dX4_laysStems_138 : decode cX4_laysStems 138 = .ok (.iadd, 1) := dk_96 (dk_at dksX4_laysStems_5 23 rfl rfl)
theorem dX4_laysStems_139 : decode cX4_laysStems 139 = .ok (.putfield 322, 3) := dk_181 1 66 (dk_at dksX4_laysStems_6 0 rfl rfl)
theorem dX4_laysStems_142 : decode cX4_laysStems 142 = .ok (.iinc 1 1, 3) := dk_132 1 1 (dk_at dksX4_laysStems_6 3 rfl rfl)
theorem dX4_laysStems_145 : decode cX4_laysStems 145 = .ok (.goto (-138), 3) := dk_167 255 118 (dk_at dksX4_laysStems_6 6 rfl rfl)
theorem dX4_laysStems_148 : decode cX4_laysStems 148 = .ok (.return_, 1) := dk_177 (dk_at dksX4_laysStems_6 9 rfl rfl)
def dkwX4_laysPiece_1 : List UInt8 := [132, 3, 1, 167, 255, 231, 177]
abbrev dktX4_laysPiece_1 : List UInt8 := dkwX4_laysPiece_1 ++ []
def dkwX4_laysPiece_0 : List UInt8 := [3, 62, 29, 28, 162, 0, 26, 42, 180, 0, 53, 29, 42, 180, 0, 59, 16, 7, 27, 104, 29, 96, 46, 79]
abbrev dktX4_laysPiece_0 : List UInt8 := dkwX4_laysPiece_0 ++ dktX4_laysPiece_1
theorem dksX4_laysPiece_0 : cX4_laysPiece.data.toList.drop 0 = dktX4_laysPiece_0 := by decide +kernel
theorem dksX4_laysPiece_1 : cX4_laysPiece.data.toList.drop 24 = dktX4_laysPiece_1 := dk_seg dksX4_laysPiece_0 24 rfl rfl
theorem dX4_laysPiece_0 : decode cX4_laysPiece 0 = .ok (.iconst 0, 1) := dk_3 (dk_at dksX4_laysPiece_0 0 rfl rfl)
theorem dX4_laysPiece_1 : decode cX4_laysPiece 1 = .ok (.istore_n 3, 1) := dk_62 (dk_at dksX4_laysPiece_0 1 rfl rfl)
theorem dX4_laysPiece_2 : decode cX4_laysPiece 2 = .ok (.iload_n 3, 1) := dk_29 (dk_at dksX4_laysPiece_0 2 rfl rfl)
theorem dX4_laysPiece_3 : decode cX4_laysPiece 3 = .ok (.iload_n 2, 1) := dk_28 (dk_at dksX4_laysPiece_0 3 rfl rfl)
theorem dX4_laysPiece_4 : decode cX4_laysPiece 4 = .ok (.if_icmp .ge 26, 3) := dk_162 0 26 (dk_at dksX4_laysPiece_0 4 rfl rfl)
theorem dX4_laysPiece_7 : decode cX4_laysPiece 7 = .ok (.aload_n 0, 1) := dk_42 (dk_at dksX4_laysPiece_0 7 rfl rfl)
theorem dX4_laysPiece_8 : decode cX4_laysPiece 8 = .ok (.getfield 53, 3) := dk_180 0 53 (dk_at dksX4_laysPiece_0 8 rfl rfl)
theorem dX4_laysPiece_11 : decode cX4_laysPiece 11 = .ok (.iload_n 3, 1) := dk_29 (dk_at dksX4_laysPiece_0 11 rfl rfl)
theorem dX4_laysPiece_12 : decode cX4_laysPiece 12 = .ok (.aload_n 0, 1) := dk_42 (dk_at dksX4_laysPiece_0 12 rfl rfl)
theorem dX4_laysPiece_13 : decode cX4_laysPiece 13 = .ok (.getfield 59, 3) := dk_180 0 59 (dk_at dksX4_laysPiece_0 13 rfl rfl)
theorem dX4_laysPiece_16 : decode cX4_laysPiece 16 = .ok (.bipush 7, 2) := dk_16 7 (dk_at dksX4_laysPiece_0 16 rfl rfl)
theorem dX4_laysPiece_18 : decode cX4_laysPiece 18 = .ok (.iload_n 1, 1) := dk_27 (dk_at dksX4_laysPiece_0 18 rfl rfl)
theorem dX4_laysPiece_19 : decode cX4_laysPiece 19 = .ok (.imul, 1) := dk_104 (dk_at dksX4_laysPiece_0 19 rfl rfl)
theorem dX4_laysPiece_20 : decode cX4_laysPiece 20 = .ok (.iload_n 3, 1) := dk_29 (dk_at dksX4_laysPiece_0 20 rfl rfl)
theorem dX4_laysPiece_21 : decode cX4_laysPiece 21 = .ok (.iadd, 1) := dk_96 (dk_at dksX4_laysPiece_0 21 rfl rfl)
theorem dX4_laysPiece_22 : decode cX4_laysPiece 22 = .ok (.iaload, 1) := dk_46 (dk_at dksX4_laysPiece_0 22 rfl rfl)
theorem dX4_laysPiece_23 : decode cX4_laysPiece 23 = .ok (.iastore, 1) := dk_79 (dk_at dksX4_laysPiece_0 23 rfl rfl)
theorem dX4_laysPiece_24 : decode cX4_laysPiece 24 = .ok (.iinc 3 1, 3) := dk_132 3 1 (dk_at dksX4_laysPiece_1 0 rfl rfl)
theorem dX4_laysPiece_27 : decode cX4_laysPiece 27 = .ok (.goto (-25), 3) := dk_167 255 231 (dk_at dksX4_laysPiece_1 3 rfl rfl)
theorem dX4_laysPiece_30 : decode cX4_laysPiece 30 = .ok (.return_, 1) := dk_177 (dk_at dksX4_laysPiece_1 6 rfl rfl)
def dkwX4_endingsOf_4 : List UInt8 := [16, 7, 29, 104, 27, 96, 46, 120, 167, 0, 4, 3, 128, 61, 132, 3, 1, 167, 255, 152, 28, 172]
abbrev dktX4_endingsOf_4 : List UInt8 := dkwX4_endingsOf_4 ++ []
def dkwX4_endingsOf_3 : List UInt8 := [167, 0, 4, 3, 54, 4, 132, 5, 1, 167, 255, 213, 28, 21, 4, 153, 0, 19, 4, 42, 180, 0, 59]
abbrev dktX4_endingsOf_3 : List UInt8 := dkwX4_endingsOf_3 ++ dktX4_endingsOf_4
def dkwX4_endingsOf_2 : List UInt8 := [180, 0, 59, 16, 7, 29, 104, 21, 5, 96, 46, 42, 180, 0, 53, 21, 5, 46, 160, 0, 7, 4]
abbrev dktX4_endingsOf_2 : List UInt8 := dkwX4_endingsOf_2 ++ dktX4_endingsOf_3
def dkwX4_endingsOf_1 : List UInt8 := [4, 167, 0, 4, 3, 54, 4, 3, 54, 5, 21, 5, 27, 162, 0, 43, 21, 4, 153, 0, 38, 42]
abbrev dktX4_endingsOf_1 : List UInt8 := dkwX4_endingsOf_1 ++ dktX4_endingsOf_2
def dkwX4_endingsOf_0 : List UInt8 := [3, 61, 3, 62, 29, 42, 180, 1, 46, 162, 0, 102, 42, 180, 0, 56, 29, 46, 27, 4, 96, 160, 0, 7]
abbrev dktX4_endingsOf_0 : List UInt8 := dkwX4_endingsOf_0 ++ dktX4_endingsOf_1
theorem dksX4_endingsOf_0 : cX4_endingsOf.data.toList.drop 0 = dktX4_endingsOf_0 := by decide +kernel
theorem dksX4_endingsOf_1 : cX4_endingsOf.data.toList.drop 24 = dktX4_endingsOf_1 := dk_seg dksX4_endingsOf_0 24 rfl rfl
theorem dksX4_endingsOf_2 : cX4_endingsOf.data.toList.drop 46 = dktX4_endingsOf_2 := dk_seg dksX4_endingsOf_1 22 rfl rfl
theorem dksX4_endingsOf_3 : cX4_endingsOf.data.toList.drop 68 = dktX4_endingsOf_3 := dk_seg dksX4_endingsOf_2 22 rfl rfl
theorem dksX4_endingsOf_4 : cX4_endingsOf.data.toList.drop 91 = dktX4_endingsOf_4 := dk_seg dksX4_endingsOf_3 23 rfl rfl
theorem dX4_endingsOf_0 : decode cX4_endingsOf 0 = .ok (.iconst 0, 1) := dk_3 (dk_at dksX4_endingsOf_0 0 rfl rfl)
theorem dX4_endingsOf_1 : decode cX4_endingsOf 1 = .ok (.istore_n 2, 1) := dk_61 (dk_at dksX4_endingsOf_0 1 rfl rfl)
theorem dX4_endingsOf_2 : decode cX4_endingsOf 2 = .ok (.iconst 0, 1) := dk_3 (dk_at dksX4_endingsOf_0 2 rfl rfl)
theorem dX4_endingsOf_3 : decode cX4_endingsOf 3 = .ok (.istore_n 3, 1) := dk_62 (dk_at dksX4_endingsOf_0 3 rfl rfl)
theorem dX4_endingsOf_4 : decode cX4_endingsOf 4 = .ok (.iload_n 3, 1) := dk_29 (dk_at dksX4_endingsOf_0 4 rfl rfl)
theorem dX4_endingsOf_5 : decode cX4_endingsOf 5 = .ok (.aload_n 0, 1) := dk_42 (dk_at dksX4_endingsOf_0 5 rfl rfl)
theorem dX4_endingsOf_6 : decode cX4_endingsOf 6 = .ok (.getfield 302, 3) := dk_180 1 46 (dk_at dksX4_endingsOf_0 6 rfl rfl)
theorem dX4_endingsOf_9 : decode cX4_endingsOf 9 = .ok (.if_icmp .ge 102, 3) := dk_162 0 102 (dk_at dksX4_endingsOf_0 9 rfl rfl)
theorem dX4_endingsOf_12 : decode cX4_endingsOf 12 = .ok (.aload_n 0, 1) := dk_42 (dk_at dksX4_endingsOf_0 12 rfl rfl)
theorem dX4_endingsOf_13 : decode cX4_endingsOf 13 = .ok (.getfield 56, 3) := dk_180 0 56 (dk_at dksX4_endingsOf_0 13 rfl rfl)
theorem dX4_endingsOf_16 : decode cX4_endingsOf 16 = .ok (.iload_n 3, 1) := dk_29 (dk_at dksX4_endingsOf_0 16 rfl rfl)
theorem dX4_endingsOf_17 : decode cX4_endingsOf 17 = .ok (.iaload, 1) := dk_46 (dk_at dksX4_endingsOf_0 17 rfl rfl)
theorem dX4_endingsOf_18 : decode cX4_endingsOf 18 = .ok (.iload_n 1, 1) := dk_27 (dk_at dksX4_endingsOf_0 18 rfl rfl)
theorem dX4_endingsOf_19 : decode cX4_endingsOf 19 = .ok (.iconst 1, 1) := dk_4 (dk_at dksX4_endingsOf_0 19 rfl rfl)
theorem dX4_endingsOf_20 : decode cX4_endingsOf 20 = .ok (.iadd, 1) := dk_96 (dk_at dksX4_endingsOf_0 20 rfl rfl)
theorem dX4_endingsOf_21 : decode cX4_endingsOf 21 = .ok (.if_icmp .ne 7, 3) := dk_160 0 7 (dk_at dksX4_endingsOf_0 21 rfl rfl)
theorem dX4_endingsOf_24 : decode cX4_endingsOf 24 = .ok (.iconst 1, 1) := dk_4 (dk_at dksX4_endingsOf_1 0 rfl rfl)
theorem dX4_endingsOf_25 : decode cX4_endingsOf 25 = .ok (.goto 4, 3) := dk_167 0 4 (dk_at dksX4_endingsOf_1 1 rfl rfl)
theorem dX4_endingsOf_28 : decode cX4_endingsOf 28 = .ok (.iconst 0, 1) := dk_3 (dk_at dksX4_endingsOf_1 4 rfl rfl)
theorem dX4_endingsOf_29 : decode cX4_endingsOf 29 = .ok (.istore 4, 2) := dk_54 4 (dk_at dksX4_endingsOf_1 5 rfl rfl)
theorem dX4_endingsOf_31 : decode cX4_endingsOf 31 = .ok (.iconst 0, 1) := dk_3 (dk_at dksX4_endingsOf_1 7 rfl rfl)
theorem dX4_endingsOf_32 : decode cX4_endingsOf 32 = .ok (.istore 5, 2) := dk_54 5 (dk_at dksX4_endingsOf_1 8 rfl rfl)
theorem dX4_endingsOf_34 : decode cX4_endingsOf 34 = .ok (.iload 5, 2) := dk_21 5 (dk_at dksX4_endingsOf_1 10 rfl rfl)
theorem dX4_endingsOf_36 : decode cX4_endingsOf 36 = .ok (.iload_n 1, 1) := dk_27 (dk_at dksX4_endingsOf_1 12 rfl rfl)
theorem dX4_endingsOf_37 : decode cX4_endingsOf 37 = .ok (.if_icmp .ge 43, 3) := dk_162 0 43 (dk_at dksX4_endingsOf_1 13 rfl rfl)
theorem dX4_endingsOf_40 : decode cX4_endingsOf 40 = .ok (.iload 4, 2) := dk_21 4 (dk_at dksX4_endingsOf_1 16 rfl rfl)
theorem dX4_endingsOf_42 : decode cX4_endingsOf 42 = .ok (.ifCond .eq 38, 3) := dk_153 0 38 (dk_at dksX4_endingsOf_1 18 rfl rfl)
theorem dX4_endingsOf_45 : decode cX4_endingsOf 45 = .ok (.aload_n 0, 1) := dk_42 (dk_at dksX4_endingsOf_1 21 rfl rfl)
theorem dX4_endingsOf_46 : decode cX4_endingsOf 46 = .ok (.getfield 59, 3) := dk_180 0 59 (dk_at dksX4_endingsOf_2 0 rfl rfl)
theorem dX4_endingsOf_49 : decode cX4_endingsOf 49 = .ok (.bipush 7, 2) := dk_16 7 (dk_at dksX4_endingsOf_2 3 rfl rfl)
theorem dX4_endingsOf_51 : decode cX4_endingsOf 51 = .ok (.iload_n 3, 1) := dk_29 (dk_at dksX4_endingsOf_2 5 rfl rfl)
theorem dX4_endingsOf_52 : decode cX4_endingsOf 52 = .ok (.imul, 1) := dk_104 (dk_at dksX4_endingsOf_2 6 rfl rfl)
theorem dX4_endingsOf_53 : decode cX4_endingsOf 53 = .ok (.iload 5, 2) := dk_21 5 (dk_at dksX4_endingsOf_2 7 rfl rfl)
theorem dX4_endingsOf_55 : decode cX4_endingsOf 55 = .ok (.iadd, 1) := dk_96 (dk_at dksX4_endingsOf_2 9 rfl rfl)
theorem dX4_endingsOf_56 : decode cX4_endingsOf 56 = .ok (.iaload, 1) := dk_46 (dk_at dksX4_endingsOf_2 10 rfl rfl)
theorem dX4_endingsOf_57 : decode cX4_endingsOf 57 = .ok (.aload_n 0, 1) := dk_42 (dk_at dksX4_endingsOf_2 11 rfl rfl)
theorem dX4_endingsOf_58 : decode cX4_endingsOf 58 = .ok (.getfield 53, 3) := dk_180 0 53 (dk_at dksX4_endingsOf_2 12 rfl rfl)
theorem dX4_endingsOf_61 : decode cX4_endingsOf 61 = .ok (.iload 5, 2) := dk_21 5 (dk_at dksX4_endingsOf_2 15 rfl rfl)
theorem dX4_endingsOf_63 : decode cX4_endingsOf 63 = .ok (.iaload, 1) := dk_46 (dk_at dksX4_endingsOf_2 17 rfl rfl)
theorem dX4_endingsOf_64 : decode cX4_endingsOf 64 = .ok (.if_icmp .ne 7, 3) := dk_160 0 7 (dk_at dksX4_endingsOf_2 18 rfl rfl)
theorem dX4_endingsOf_67 : decode cX4_endingsOf 67 = .ok (.iconst 1, 1) := dk_4 (dk_at dksX4_endingsOf_2 21 rfl rfl)
theorem dX4_endingsOf_68 : decode cX4_endingsOf 68 = .ok (.goto 4, 3) := dk_167 0 4 (dk_at dksX4_endingsOf_3 0 rfl rfl)
theorem dX4_endingsOf_71 : decode cX4_endingsOf 71 = .ok (.iconst 0, 1) := dk_3 (dk_at dksX4_endingsOf_3 3 rfl rfl)
theorem dX4_endingsOf_72 : decode cX4_endingsOf 72 = .ok (.istore 4, 2) := dk_54 4 (dk_at dksX4_endingsOf_3 4 rfl rfl)
theorem dX4_endingsOf_74 : decode cX4_endingsOf 74 = .ok (.iinc 5 1, 3) := dk_132 5 1 (dk_at dksX4_endingsOf_3 6 rfl rfl)
theorem dX4_endingsOf_77 : decode cX4_endingsOf 77 = .ok (.goto (-43), 3) := dk_167 255 213 (dk_at dksX4_endingsOf_3 9 rfl rfl)
theorem dX4_endingsOf_80 : decode cX4_endingsOf 80 = .ok (.iload_n 2, 1) := dk_28 (dk_at dksX4_endingsOf_3 12 rfl rfl)
theorem dX4_endingsOf_81 : decode cX4_endingsOf 81 = .ok (.iload 4, 2) := dk_21 4 (dk_at dksX4_endingsOf_3 13 rfl rfl)
theorem dX4_endingsOf_83 : decode cX4_endingsOf 83 = .ok (.ifCond .eq 19, 3) := dk_153 0 19 (dk_at dksX4_endingsOf_3 15 rfl rfl)
theorem dX4_endingsOf_86 : decode cX4_endingsOf 86 = .ok (.iconst 1, 1) := dk_4 (dk_at dksX4_endingsOf_3 18 rfl rfl)
theorem dX4_endingsOf_87 : decode cX4_endingsOf 87 = .ok (.aload_n 0, 1) := dk_42 (dk_at dksX4_endingsOf_3 19 rfl rfl)
theorem dX4_endingsOf_88 : decode cX4_endingsOf 88 = .ok (.getfield 59, 3) := dk_180 0 59 (dk_at dksX4_endingsOf_3 20 rfl rfl)
theorem dX4_endingsOf_91 : decode cX4_endingsOf 91 = .ok (.bipush 7, 2) := dk_16 7 (dk_at dksX4_endingsOf_4 0 rfl rfl)
theorem dX4_endingsOf_93 : decode cX4_endingsOf 93 = .ok (.iload_n 3, 1) := dk_29 (dk_at dksX4_endingsOf_4 2 rfl rfl)
theorem dX4_endingsOf_94 : decode cX4_endingsOf 94 = .ok (.imul, 1) := dk_104 (dk_at dksX4_endingsOf_4 3 rfl rfl)
theorem dX4_endingsOf_95 : decode cX4_endingsOf 95 = .ok (.iload_n 1, 1) := dk_27 (dk_at dksX4_endingsOf_4 4 rfl rfl)
theorem dX4_endingsOf_96 : decode cX4_endingsOf 96 = .ok (.iadd, 1) := dk_96 (dk_at dksX4_endingsOf_4 5 rfl rfl)
theorem dX4_endingsOf_97 : decode cX4_endingsOf 97 = .ok (.iaload, 1) := dk_46 (dk_at dksX4_endingsOf_4 6 rfl rfl)
theorem dX4_endingsOf_98 : decode cX4_endingsOf 98 = .ok (.ishl, 1) := dk_120 (dk_at dksX4_endingsOf_4 7 rfl rfl)
theorem dX4_endingsOf_99 : decode cX4_endingsOf 99 = .ok (.goto 4, 3) := dk_167 0 4 (dk_at dksX4_endingsOf_4 8 rfl rfl)
theorem dX4_endingsOf_102 : decode cX4_endingsOf 102 = .ok (.iconst 0, 1) := dk_3 (dk_at dksX4_endingsOf_4 11 rfl rfl)
theorem dX4_endingsOf_103 : decode cX4_endingsOf 103 = .ok (.ior, 1) := dk_128 (dk_at dksX4_endingsOf_4 12 rfl rfl)
theorem dX4_endingsOf_104 : decode cX4_endingsOf 104 = .ok (.istore_n 2, 1) := dk_61 (dk_at dksX4_endingsOf_4 13 rfl rfl)
theorem dX4_endingsOf_105 : decode cX4_endingsOf 105 = .ok (.iinc 3 1, 3) := dk_132 3 1 (dk_at dksX4_endingsOf_4 14 rfl rfl)
theorem dX4_endingsOf_108 : decode cX4_endingsOf 108 = .ok (.goto (-104), 3) := dk_167 255 152 (dk_at dksX4_endingsOf_4 17 rfl rfl)
theorem dX4_endingsOf_111 : decode cX4_endingsOf 111 = .ok (.iload_n 2, 1) := dk_28 (dk_at dksX4_endingsOf_4 20 rfl rfl)
theorem dX4_endingsOf_112 : decode cX4_endingsOf 112 = .ok (.ireturn, 1) := dk_172 (dk_at dksX4_endingsOf_4 21 rfl rfl)
def dkwX4_isAhead_3 : List UInt8 := [4, 167, 0, 4, 3, 172, 132, 5, 1, 167, 255, 197, 29, 21, 4, 162, 0, 7, 4, 167, 0, 4, 3, 172]
abbrev dktX4_isAhead_3 : List UInt8 := dkwX4_isAhead_3 ++ []
def dkwX4_isAhead_2 : List UInt8 := [180, 0, 59, 16, 7, 28, 104, 21, 5, 96, 46, 100, 54, 6, 21, 6, 153, 0, 14, 21, 6, 156, 0, 7]
abbrev dktX4_isAhead_2 : List UInt8 := dkwX4_isAhead_2 ++ dktX4_isAhead_3
def dkwX4_isAhead_1 : List UInt8 := [29, 162, 0, 59, 21, 5, 21, 4, 162, 0, 52, 42, 180, 0, 59, 16, 7, 27, 104, 21, 5, 96, 46, 42]
abbrev dktX4_isAhead_1 : List UInt8 := dkwX4_isAhead_1 ++ dktX4_isAhead_2
def dkwX4_isAhead_0 : List UInt8 := [42, 180, 0, 56, 27, 46, 4, 100, 62, 42, 180, 0, 56, 28, 46, 4, 100, 54, 4, 3, 54, 5, 21, 5]
abbrev dktX4_isAhead_0 : List UInt8 := dkwX4_isAhead_0 ++ dktX4_isAhead_1
theorem dksX4_isAhead_0 : cX4_isAhead.data.toList.drop 0 = dktX4_isAhead_0 := by decide +kernel
theorem dksX4_isAhead_1 : cX4_isAhead.data.toList.drop 24 = dktX4_isAhead_1 := dk_seg dksX4_isAhead_0 24 rfl rfl
theorem dksX4_isAhead_2 : cX4_isAhead.data.toList.drop 48 = dktX4_isAhead_2 := dk_seg dksX4_isAhead_1 24 rfl rfl
theorem dksX4_isAhead_3 : cX4_isAhead.data.toList.drop 72 = dktX4_isAhead_3 := dk_seg dksX4_isAhead_2 24 rfl rfl
theorem dX4_isAhead_0 : decode cX4_isAhead 0 = .ok (.aload_n 0, 1) := dk_42 (dk_at dksX4_isAhead_0 0 rfl rfl)
theorem dX4_isAhead_1 : decode cX4_isAhead 1 = .ok (.getfield 56, 3) := dk_180 0 56 (dk_at dksX4_isAhead_0 1 rfl rfl)
theorem dX4_isAhead_4 : decode cX4_isAhead 4 = .ok (.iload_n 1, 1) := dk_27 (dk_at dksX4_isAhead_0 4 rfl rfl)
theorem dX4_isAhead_5 : decode cX4_isAhead 5 = .ok (.iaload, 1) := dk_46 (dk_at dksX4_isAhead_0 5 rfl rfl)
theorem dX4_isAhead_6 : decode cX4_isAhead 6 = .ok (.iconst 1, 1) := dk_4 (dk_at dksX4_isAhead_0 6 rfl rfl)
theorem dX4_isAhead_7 : decode cX4_isAhead 7 = .ok (.isub, 1) := dk_100 (dk_at dksX4_isAhead_0 7 rfl rfl)
theorem dX4_isAhead_8 : decode cX4_isAhead 8 = .ok (.istore_n 3, 1) := dk_62 (dk_at dksX4_isAhead_0 8 rfl rfl)
theorem dX4_isAhead_9 : decode cX4_isAhead 9 = .ok (.aload_n 0, 1) := dk_42 (dk_at dksX4_isAhead_0 9 rfl rfl)
theorem dX4_isAhead_10 : decode cX4_isAhead 10 = .ok (.getfield 56, 3) := dk_180 0 56 (dk_at dksX4_isAhead_0 10 rfl rfl)
theorem dX4_isAhead_13 : decode cX4_isAhead 13 = .ok (.iload_n 2, 1) := dk_28 (dk_at dksX4_isAhead_0 13 rfl rfl)
theorem dX4_isAhead_14 : decode cX4_isAhead 14 = .ok (.iaload, 1) := dk_46 (dk_at dksX4_isAhead_0 14 rfl rfl)
theorem dX4_isAhead_15 : decode cX4_isAhead 15 = .ok (.iconst 1, 1) := dk_4 (dk_at dksX4_isAhead_0 15 rfl rfl)
theorem dX4_isAhead_16 : decode cX4_isAhead 16 = .ok (.isub, 1) := dk_100 (dk_at dksX4_isAhead_0 16 rfl rfl)
theorem dX4_isAhead_17 : decode cX4_isAhead 17 = .ok (.istore 4, 2) := dk_54 4 (dk_at dksX4_isAhead_0 17 rfl rfl)
theorem dX4_isAhead_19 : decode cX4_isAhead 19 = .ok (.iconst 0, 1) := dk_3 (dk_at dksX4_isAhead_0 19 rfl rfl)
theorem dX4_isAhead_20 : decode cX4_isAhead 20 = .ok (.istore 5, 2) := dk_54 5 (dk_at dksX4_isAhead_0 20 rfl rfl)
theorem dX4_isAhead_22 : decode cX4_isAhead 22 = .ok (.iload 5, 2) := dk_21 5 (dk_at dksX4_isAhead_0 22 rfl rfl)
theorem dX4_isAhead_24 : decode cX4_isAhead 24 = .ok (.iload_n 3, 1) := dk_29 (dk_at dksX4_isAhead_1 0 rfl rfl)
theorem dX4_isAhead_25 : decode cX4_isAhead 25 = .ok (.if_icmp .ge 59, 3) := dk_162 0 59 (dk_at dksX4_isAhead_1 1 rfl rfl)
theorem dX4_isAhead_28 : decode cX4_isAhead 28 = .ok (.iload 5, 2) := dk_21 5 (dk_at dksX4_isAhead_1 4 rfl rfl)
theorem dX4_isAhead_30 : decode cX4_isAhead 30 = .ok (.iload 4, 2) := dk_21 4 (dk_at dksX4_isAhead_1 6 rfl rfl)
theorem dX4_isAhead_32 : decode cX4_isAhead 32 = .ok (.if_icmp .ge 52, 3) := dk_162 0 52 (dk_at dksX4_isAhead_1 8 rfl rfl)
theorem dX4_isAhead_35 : decode cX4_isAhead 35 = .ok (.aload_n 0, 1) := dk_42 (dk_at dksX4_isAhead_1 11 rfl rfl)
theorem dX4_isAhead_36 : decode cX4_isAhead 36 = .ok (.getfield 59, 3) := dk_180 0 59 (dk_at dksX4_isAhead_1 12 rfl rfl)
theorem dX4_isAhead_39 : decode cX4_isAhead 39 = .ok (.bipush 7, 2) := dk_16 7 (dk_at dksX4_isAhead_1 15 rfl rfl)
theorem dX4_isAhead_41 : decode cX4_isAhead 41 = .ok (.iload_n 1, 1) := dk_27 (dk_at dksX4_isAhead_1 17 rfl rfl)
theorem dX4_isAhead_42 : decode cX4_isAhead 42 = .ok (.imul, 1) := dk_104 (dk_at dksX4_isAhead_1 18 rfl rfl)
theorem dX4_isAhead_43 : decode cX4_isAhead 43 = .ok (.iload 5, 2) := dk_21 5 (dk_at dksX4_isAhead_1 19 rfl rfl)
theorem dX4_isAhead_45 : decode cX4_isAhead 45 = .ok (.iadd, 1) := dk_96 (dk_at dksX4_isAhead_1 21 rfl rfl)
theorem dX4_isAhead_46 : decode cX4_isAhead 46 = .ok (.iaload, 1) := dk_46 (dk_at dksX4_isAhead_1 22 rfl rfl)
theorem dX4_isAhead_47 : decode cX4_isAhead 47 = .ok (.aload_n 0, 1) := dk_42 (dk_at dksX4_isAhead_1 23 rfl rfl)
theorem dX4_isAhead_48 : decode cX4_isAhead 48 = .ok (.getfield 59, 3) := dk_180 0 59 (dk_at dksX4_isAhead_2 0 rfl rfl)
theorem dX4_isAhead_51 : decode cX4_isAhead 51 = .ok (.bipush 7, 2) := dk_16 7 (dk_at dksX4_isAhead_2 3 rfl rfl)
theorem dX4_isAhead_53 : decode cX4_isAhead 53 = .ok (.iload_n 2, 1) := dk_28 (dk_at dksX4_isAhead_2 5 rfl rfl)
theorem dX4_isAhead_54 : decode cX4_isAhead 54 = .ok (.imul, 1) := dk_104 (dk_at dksX4_isAhead_2 6 rfl rfl)
theorem dX4_isAhead_55 : decode cX4_isAhead 55 = .ok (.iload 5, 2) := dk_21 5 (dk_at dksX4_isAhead_2 7 rfl rfl)
theorem dX4_isAhead_57 : decode cX4_isAhead 57 = .ok (.iadd, 1) := dk_96 (dk_at dksX4_isAhead_2 9 rfl rfl)
theorem dX4_isAhead_58 : decode cX4_isAhead 58 = .ok (.iaload, 1) := dk_46 (dk_at dksX4_isAhead_2 10 rfl rfl)
theorem dX4_isAhead_59 : decode cX4_isAhead 59 = .ok (.isub, 1) := dk_100 (dk_at dksX4_isAhead_2 11 rfl rfl)
theorem dX4_isAhead_60 : decode cX4_isAhead 60 = .ok (.istore 6, 2) := dk_54 6 (dk_at dksX4_isAhead_2 12 rfl rfl)
theorem dX4_isAhead_62 : decode cX4_isAhead 62 = .ok (.iload 6, 2) := dk_21 6 (dk_at dksX4_isAhead_2 14 rfl rfl)
theorem dX4_isAhead_64 : decode cX4_isAhead 64 = .ok (.ifCond .eq 14, 3) := dk_153 0 14 (dk_at dksX4_isAhead_2 16 rfl rfl)
theorem dX4_isAhead_67 : decode cX4_isAhead 67 = .ok (.iload 6, 2) := dk_21 6 (dk_at dksX4_isAhead_2 19 rfl rfl)
theorem dX4_isAhead_69 : decode cX4_isAhead 69 = .ok (.ifCond .ge 7, 3) := dk_156 0 7 (dk_at dksX4_isAhead_2 21 rfl rfl)
theorem dX4_isAhead_72 : decode cX4_isAhead 72 = .ok (.iconst 1, 1) := dk_4 (dk_at dksX4_isAhead_3 0 rfl rfl)
theorem dX4_isAhead_73 : decode cX4_isAhead 73 = .ok (.goto 4, 3) := dk_167 0 4 (dk_at dksX4_isAhead_3 1 rfl rfl)
theorem dX4_isAhead_76 : decode cX4_isAhead 76 = .ok (.iconst 0, 1) := dk_3 (dk_at dksX4_isAhead_3 4 rfl rfl)
theorem dX4_isAhead_77 : decode cX4_isAhead 77 = .ok (.ireturn, 1) := dk_172 (dk_at dksX4_isAhead_3 5 rfl rfl)
theorem dX4_isAhead_78 : decode cX4_isAhead 78 = .ok (.iinc 5 1, 3) := dk_132 5 1 (dk_at dksX4_isAhead_3 6 rfl rfl)
theorem dX4_isAhead_81 : decode cX4_isAhead 81 = .ok (.goto (-59), 3) := dk_167 255 197 (dk_at dksX4_isAhead_3 9 rfl rfl)
theorem dX4_isAhead_84 : decode cX4_isAhead 84 = .ok (.iload_n 3, 1) := dk_29 (dk_at dksX4_isAhead_3 12 rfl rfl)
theorem dX4_isAhead_85 : decode cX4_isAhead 85 = .ok (.iload 4, 2) := dk_21 4 (dk_at dksX4_isAhead_3 13 rfl rfl)
theorem dX4_isAhead_87 : decode cX4_isAhead 87 = .ok (.if_icmp .ge 7, 3) := dk_162 0 7 (dk_at dksX4_isAhead_3 15 rfl rfl)
theorem dX4_isAhead_90 : decode cX4_isAhead 90 = .ok (.iconst 1, 1) := dk_4 (dk_at dksX4_isAhead_3 18 rfl rfl)
theorem dX4_isAhead_91 : decode cX4_isAhead 91 = .ok (.goto 4, 3) := dk_167 0 4 (dk_at dksX4_isAhead_3 19 rfl rfl)
theorem dX4_isAhead_94 : decode cX4_isAhead 94 = .ok (.iconst 0, 1) := dk_3 (dk_at dksX4_isAhead_3 22 rfl rfl)
theorem dX4_isAhead_95 : decode cX4_isAhead 95 = .ok (.ireturn, 1) := dk_172 (dk_at dksX4_isAhead_3 23 rfl rfl)
def dkwX4_clues_2 : List UInt8 := [184, 0, 177, 96, 61, 132, 4, 1, 167, 255, 223, 132, 3, 1, 167, 255, 204, 28, 172]
abbrev dktX4_clues_2 : List UInt8 := dkwX4_clues_2 ++ []
def dkwX4_clues_1 : List UInt8 := [180, 0, 162, 162, 0, 30, 28, 42, 180, 0, 74, 27, 184, 0, 177, 29, 21, 4, 184, 1, 84, 51]
abbrev dktX4_clues_1 : List UInt8 := dkwX4_clues_1 ++ dktX4_clues_2
def dkwX4_clues_0 : List UInt8 := [42, 182, 0, 235, 3, 61, 3, 62, 29, 42, 180, 0, 162, 162, 0, 50, 29, 4, 96, 54, 4, 21, 4, 42]
abbrev dktX4_clues_0 : List UInt8 := dkwX4_clues_0 ++ dktX4_clues_1
theorem dksX4_clues_0 : cX4_clues.data.toList.drop 0 = dktX4_clues_0 := by decide +kernel
theorem dksX4_clues_1 : cX4_clues.data.toList.drop 24 = dktX4_clues_1 := dk_seg dksX4_clues_0 24 rfl rfl
theorem dksX4_clues_2 : cX4_clues.data.toList.drop 46 = dktX4_clues_2 := dk_seg dksX4_clues_1 22 rfl rfl
theorem dX4_clues_0 : decode cX4_clues 0 = .ok (.aload_n 0, 1) := dk_42 (dk_at dksX4_clues_0 0 rfl rfl)
theorem dX4_clues_1 : decode cX4_clues 1 = .ok (.invokevirtual 235, 3) := dk_182 0 235 (dk_at dksX4_clues_0 1 rfl rfl)
theorem dX4_clues_4 : decode cX4_clues 4 = .ok (.iconst 0, 1) := dk_3 (dk_at dksX4_clues_0 4 rfl rfl)
theorem dX4_clues_5 : decode cX4_clues 5 = .ok (.istore_n 2, 1) := dk_61 (dk_at dksX4_clues_0 5 rfl rfl)
theorem dX4_clues_6 : decode cX4_clues 6 = .ok (.iconst 0, 1) := dk_3 (dk_at dksX4_clues_0 6 rfl rfl)
theorem dX4_clues_7 : decode cX4_clues 7 = .ok (.istore_n 3, 1) := dk_62 (dk_at dksX4_clues_0 7 rfl rfl)
theorem dX4_clues_8 : decode cX4_clues 8 = .ok (.iload_n 3, 1) := dk_29 (dk_at dksX4_clues_0 8 rfl rfl)
theorem dX4_clues_9 : decode cX4_clues 9 = .ok (.aload_n 0, 1) := dk_42 (dk_at dksX4_clues_0 9 rfl rfl)
theorem dX4_clues_10 : decode cX4_clues 10 = .ok (.getfield 162, 3) := dk_180 0 162 (dk_at dksX4_clues_0 10 rfl rfl)
theorem dX4_clues_13 : decode cX4_clues 13 = .ok (.if_icmp .ge 50, 3) := dk_162 0 50 (dk_at dksX4_clues_0 13 rfl rfl)
theorem dX4_clues_16 : decode cX4_clues 16 = .ok (.iload_n 3, 1) := dk_29 (dk_at dksX4_clues_0 16 rfl rfl)
theorem dX4_clues_17 : decode cX4_clues 17 = .ok (.iconst 1, 1) := dk_4 (dk_at dksX4_clues_0 17 rfl rfl)
theorem dX4_clues_18 : decode cX4_clues 18 = .ok (.iadd, 1) := dk_96 (dk_at dksX4_clues_0 18 rfl rfl)
theorem dX4_clues_19 : decode cX4_clues 19 = .ok (.istore 4, 2) := dk_54 4 (dk_at dksX4_clues_0 19 rfl rfl)
theorem dX4_clues_21 : decode cX4_clues 21 = .ok (.iload 4, 2) := dk_21 4 (dk_at dksX4_clues_0 21 rfl rfl)
theorem dX4_clues_23 : decode cX4_clues 23 = .ok (.aload_n 0, 1) := dk_42 (dk_at dksX4_clues_0 23 rfl rfl)
theorem dX4_clues_24 : decode cX4_clues 24 = .ok (.getfield 162, 3) := dk_180 0 162 (dk_at dksX4_clues_1 0 rfl rfl)
theorem dX4_clues_27 : decode cX4_clues 27 = .ok (.if_icmp .ge 30, 3) := dk_162 0 30 (dk_at dksX4_clues_1 3 rfl rfl)
theorem dX4_clues_30 : decode cX4_clues 30 = .ok (.iload_n 2, 1) := dk_28 (dk_at dksX4_clues_1 6 rfl rfl)
theorem dX4_clues_31 : decode cX4_clues 31 = .ok (.aload_n 0, 1) := dk_42 (dk_at dksX4_clues_1 7 rfl rfl)
theorem dX4_clues_32 : decode cX4_clues 32 = .ok (.getfield 74, 3) := dk_180 0 74 (dk_at dksX4_clues_1 8 rfl rfl)
theorem dX4_clues_35 : decode cX4_clues 35 = .ok (.iload_n 1, 1) := dk_27 (dk_at dksX4_clues_1 11 rfl rfl)
theorem dX4_clues_36 : decode cX4_clues 36 = .ok (.invokestatic 177, 3) := dk_184 0 177 (dk_at dksX4_clues_1 12 rfl rfl)
theorem dX4_clues_39 : decode cX4_clues 39 = .ok (.iload_n 3, 1) := dk_29 (dk_at dksX4_clues_1 15 rfl rfl)
theorem dX4_clues_40 : decode cX4_clues 40 = .ok (.iload 4, 2) := dk_21 4 (dk_at dksX4_clues_1 16 rfl rfl)
theorem dX4_clues_42 : decode cX4_clues 42 = .ok (.invokestatic 340, 3) := dk_184 1 84 (dk_at dksX4_clues_1 18 rfl rfl)
theorem dX4_clues_45 : decode cX4_clues 45 = .ok (.baload, 1) := dk_51 (dk_at dksX4_clues_1 21 rfl rfl)
theorem dX4_clues_46 : decode cX4_clues 46 = .ok (.invokestatic 177, 3) := dk_184 0 177 (dk_at dksX4_clues_2 0 rfl rfl)
theorem dX4_clues_49 : decode cX4_clues 49 = .ok (.iadd, 1) := dk_96 (dk_at dksX4_clues_2 3 rfl rfl)
theorem dX4_clues_50 : decode cX4_clues 50 = .ok (.istore_n 2, 1) := dk_61 (dk_at dksX4_clues_2 4 rfl rfl)
theorem dX4_clues_51 : decode cX4_clues 51 = .ok (.iinc 4 1, 3) := dk_132 4 1 (dk_at dksX4_clues_2 5 rfl rfl)
theorem dX4_clues_54 : decode cX4_clues 54 = .ok (.goto (-33), 3) := dk_167 255 223 (dk_at dksX4_clues_2 8 rfl rfl)
theorem dX4_clues_57 : decode cX4_clues 57 = .ok (.iinc 3 1, 3) := dk_132 3 1 (dk_at dksX4_clues_2 11 rfl rfl)
theorem dX4_clues_60 : decode cX4_clues 60 = .ok (.goto (-52), 3) := dk_167 255 204 (dk_at dksX4_clues_2 14 rfl rfl)
theorem dX4_clues_63 : decode cX4_clues 63 = .ok (.iload_n 2, 1) := dk_28 (dk_at dksX4_clues_2 17 rfl rfl)
theorem dX4_clues_64 : decode cX4_clues 64 = .ok (.ireturn, 1) := dk_172 (dk_at dksX4_clues_2 18 rfl rfl)
def dkwX4_place_1 : List UInt8 := [104, 27, 96, 46, 172]
abbrev dktX4_place_1 : List UInt8 := dkwX4_place_1 ++ []
def dkwX4_place_0 : List UInt8 := [42, 27, 182, 0, 224, 154, 0, 5, 2, 172, 42, 182, 0, 235, 42, 180, 0, 78, 16, 20, 28, 184, 0, 177]
abbrev dktX4_place_0 : List UInt8 := dkwX4_place_0 ++ dktX4_place_1
theorem dksX4_place_0 : cX4_place.data.toList.drop 0 = dktX4_place_0 := by decide +kernel
theorem dksX4_place_1 : cX4_place.data.toList.drop 24 = dktX4_place_1 := dk_seg dksX4_place_0 24 rfl rfl
theorem dX4_place_0 : decode cX4_place 0 = .ok (.aload_n 0, 1) := dk_42 (dk_at dksX4_place_0 0 rfl rfl)
theorem dX4_place_1 : decode cX4_place 1 = .ok (.iload_n 1, 1) := dk_27 (dk_at dksX4_place_0 1 rfl rfl)
theorem dX4_place_2 : decode cX4_place 2 = .ok (.invokevirtual 224, 3) := dk_182 0 224 (dk_at dksX4_place_0 2 rfl rfl)
theorem dX4_place_5 : decode cX4_place 5 = .ok (.ifCond .ne 5, 3) := dk_154 0 5 (dk_at dksX4_place_0 5 rfl rfl)
theorem dX4_place_8 : decode cX4_place 8 = .ok (.iconst (-1), 1) := dk_2 (dk_at dksX4_place_0 8 rfl rfl)
theorem dX4_place_9 : decode cX4_place 9 = .ok (.ireturn, 1) := dk_172 (dk_at dksX4_place_0 9 rfl rfl)
theorem dX4_place_10 : decode cX4_place 10 = .ok (.aload_n 0, 1) := dk_42 (dk_at dksX4_place_0 10 rfl rfl)
theorem dX4_place_11 : decode cX4_place 11 = .ok (.invokevirtual 235, 3) := dk_182 0 235 (dk_at dksX4_place_0 11 rfl rfl)
theorem dX4_place_14 : decode cX4_place 14 = .ok (.aload_n 0, 1) := dk_42 (dk_at dksX4_place_0 14 rfl rfl)
theorem dX4_place_15 : decode cX4_place 15 = .ok (.getfield 78, 3) := dk_180 0 78 (dk_at dksX4_place_0 15 rfl rfl)
theorem dX4_place_18 : decode cX4_place 18 = .ok (.bipush 20, 2) := dk_16 20 (dk_at dksX4_place_0 18 rfl rfl)
theorem dX4_place_20 : decode cX4_place 20 = .ok (.iload_n 2, 1) := dk_28 (dk_at dksX4_place_0 20 rfl rfl)
theorem dX4_place_21 : decode cX4_place 21 = .ok (.invokestatic 177, 3) := dk_184 0 177 (dk_at dksX4_place_0 21 rfl rfl)
theorem dX4_place_24 : decode cX4_place 24 = .ok (.imul, 1) := dk_104 (dk_at dksX4_place_1 0 rfl rfl)
theorem dX4_place_25 : decode cX4_place 25 = .ok (.iload_n 1, 1) := dk_27 (dk_at dksX4_place_1 1 rfl rfl)
theorem dX4_place_26 : decode cX4_place 26 = .ok (.iadd, 1) := dk_96 (dk_at dksX4_place_1 2 rfl rfl)
theorem dX4_place_27 : decode cX4_place 27 = .ok (.iaload, 1) := dk_46 (dk_at dksX4_place_1 3 rfl rfl)
theorem dX4_place_28 : decode cX4_place 28 = .ok (.ireturn, 1) := dk_172 (dk_at dksX4_place_1 4 rfl rfl)
