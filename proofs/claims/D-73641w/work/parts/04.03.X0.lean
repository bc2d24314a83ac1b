set_option maxRecDepth 100000
def dkwX0_known_3 : List UInt8 := [153, 0, 7, 4, 167, 0, 4, 3, 172, 2, 172]
abbrev dktX0_known_3 : List UInt8 := dkwX0_known_3 ++ []
def dkwX0_known_2 : List UInt8 := [42, 180, 0, 75, 29, 46, 172, 42, 180, 0, 78, 29, 46, 172, 42, 180, 1, 157, 29, 184, 0, 152]
abbrev dktX0_known_2 : List UInt8 := dkwX0_known_2 ++ dktX0_known_3
def dkwX0_known_1 : List UInt8 := [170, 0, 0, 0, 0, 57, 0, 0, 0, 0, 0, 0, 0, 2, 0, 0, 0, 26, 0, 0, 0, 33, 0, 0, 0, 40]
abbrev dktX0_known_1 : List UInt8 := dkwX0_known_1 ++ dktX0_known_2
def dkwX0_known_0 : List UInt8 := [42, 27, 182, 0, 223, 154, 0, 5, 2, 172, 42, 180, 0, 36, 27, 46, 62, 28]
abbrev dktX0_known_0 : List UInt8 := dkwX0_known_0 ++ dktX0_known_1
theorem dksX0_known_0 : cX0_known.data.toList.drop 0 = dktX0_known_0 := by decide +kernel
theorem dksX0_known_1 : cX0_known.data.toList.drop 18 = dktX0_known_1 := dk_seg dksX0_known_0 18 rfl rfl
theorem dksX0_known_2 : cX0_known.data.toList.drop 44 = dktX0_known_2 := dk_seg dksX0_known_1 26 rfl rfl
theorem dksX0_known_3 : cX0_known.data.toList.drop 66 = dktX0_known_3 := dk_seg dksX0_known_2 22 rfl rfl
theorem dX0_known_0 : decode cX0_known 0 = .ok (.aload_n 0, 1) := dk_42 (dk_at dksX0_known_0 0 rfl rfl)
theorem dX0_known_1 : decode cX0_known 1 = .ok (.iload_n 1, 1) := dk_27 (dk_at dksX0_known_0 1 rfl rfl)
theorem dX0_known_2 : decode cX0_known 2 = .ok (.invokevirtual 223, 3) := dk_182 0 223 (dk_at dksX0_known_0 2 rfl rfl)
theorem dX0_known_5 : decode cX0_known 5 = .ok (.ifCond .ne 5, 3) := dk_154 0 5 (dk_at dksX0_known_0 5 rfl rfl)
theorem dX0_known_8 : decode cX0_known 8 = .ok (.iconst (-1), 1) := dk_2 (dk_at dksX0_known_0 8 rfl rfl)
theorem dX0_known_9 : decode cX0_known 9 = .ok (.ireturn, 1) := dk_172 (dk_at dksX0_known_0 9 rfl rfl)
theorem dX0_known_10 : decode cX0_known 10 = .ok (.aload_n 0, 1) := dk_42 (dk_at dksX0_known_0 10 rfl rfl)
theorem dX0_known_11 : decode cX0_known 11 = .ok (.getfield 36, 3) := dk_180 0 36 (dk_at dksX0_known_0 11 rfl rfl)
theorem dX0_known_14 : decode cX0_known 14 = .ok (.iload_n 1, 1) := dk_27 (dk_at dksX0_known_0 14 rfl rfl)
theorem dX0_known_15 : decode cX0_known 15 = .ok (.iaload, 1) := dk_46 (dk_at dksX0_known_0 15 rfl rfl)
theorem dX0_known_16 : decode cX0_known 16 = .ok (.istore_n 3, 1) := dk_62 (dk_at dksX0_known_0 16 rfl rfl)
theorem dX0_known_17 : decode cX0_known 17 = .ok (.iload_n 2, 1) := dk_28 (dk_at dksX0_known_0 17 rfl rfl)
theorem dX0_known_18 : decode cX0_known 18 = .ok (.tableswitch 57 0 2 #[26, 33, 40], 26) := by decide +kernel
theorem dX0_known_44 : decode cX0_known 44 = .ok (.aload_n 0, 1) := dk_42 (dk_at dksX0_known_2 0 rfl rfl)
theorem dX0_known_45 : decode cX0_known 45 = .ok (.getfield 75, 3) := dk_180 0 75 (dk_at dksX0_known_2 1 rfl rfl)
theorem dX0_known_48 : decode cX0_known 48 = .ok (.iload_n 3, 1) := dk_29 (dk_at dksX0_known_2 4 rfl rfl)
theorem dX0_known_49 : decode cX0_known 49 = .ok (.iaload, 1) := dk_46 (dk_at dksX0_known_2 5 rfl rfl)
theorem dX0_known_50 : decode cX0_known 50 = .ok (.ireturn, 1) := dk_172 (dk_at dksX0_known_2 6 rfl rfl)
theorem dX0_known_51 : decode cX0_known 51 = .ok (.aload_n 0, 1) := dk_42 (dk_at dksX0_known_2 7 rfl rfl)
theorem dX0_known_52 : decode cX0_known 52 = .ok (.getfield 78, 3) := dk_180 0 78 (dk_at dksX0_known_2 8 rfl rfl)
theorem dX0_known_55 : decode cX0_known 55 = .ok (.iload_n 3, 1) := dk_29 (dk_at dksX0_known_2 11 rfl rfl)
theorem dX0_known_56 : decode cX0_known 56 = .ok (.iaload, 1) := dk_46 (dk_at dksX0_known_2 12 rfl rfl)
theorem dX0_known_57 : decode cX0_known 57 = .ok (.ireturn, 1) := dk_172 (dk_at dksX0_known_2 13 rfl rfl)
theorem dX0_known_58 : decode cX0_known 58 = .ok (.aload_n 0, 1) := dk_42 (dk_at dksX0_known_2 14 rfl rfl)
theorem dX0_known_59 : decode cX0_known 59 = .ok (.getfield 413, 3) := dk_180 1 157 (dk_at dksX0_known_2 15 rfl rfl)
theorem dX0_known_62 : decode cX0_known 62 = .ok (.iload_n 3, 1) := dk_29 (dk_at dksX0_known_2 18 rfl rfl)
theorem dX0_known_63 : decode cX0_known 63 = .ok (.invokestatic 152, 3) := dk_184 0 152 (dk_at dksX0_known_2 19 rfl rfl)
theorem dX0_known_66 : decode cX0_known 66 = .ok (.ifCond .eq 7, 3) := dk_153 0 7 (dk_at dksX0_known_3 0 rfl rfl)
theorem dX0_known_69 : decode cX0_known 69 = .ok (.iconst 1, 1) := dk_4 (dk_at dksX0_known_3 3 rfl rfl)
theorem dX0_known_70 : decode cX0_known 70 = .ok (.goto 4, 3) := dk_167 0 4 (dk_at dksX0_known_3 4 rfl rfl)
theorem dX0_known_73 : decode cX0_known 73 = .ok (.iconst 0, 1) := dk_3 (dk_at dksX0_known_3 7 rfl rfl)
theorem dX0_known_74 : decode cX0_known 74 = .ok (.ireturn, 1) := dk_172 (dk_at dksX0_known_3 8 rfl rfl)
theorem dX0_known_75 : decode cX0_known 75 = .ok (.iconst (-1), 1) := dk_2 (dk_at dksX0_known_3 9 rfl rfl)
theorem dX0_known_76 : decode cX0_known 76 = .ok (.ireturn, 1) := dk_172 (dk_at dksX0_known_3 10 rfl rfl)
def dkwX0_loose_2 : List UInt8 := [186, 2, 0, 0, 0, 3, 182, 2, 4, 28, 172]
abbrev dktX0_loose_2 : List UInt8 := dkwX0_loose_2 ++ []
def dkwX0_loose_1 : List UInt8 := [172, 42, 180, 0, 16, 180, 0, 230, 61, 42, 180, 0, 16, 27, 181, 0, 230, 42, 42, 28]
abbrev dktX0_loose_1 : List UInt8 := dkwX0_loose_1 ++ dktX0_loose_2
def dkwX0_loose_0 : List UInt8 := [27, 133, 9, 20, 1, 254, 184, 0, 110, 153, 0, 14, 42, 180, 0, 16, 180, 0, 230, 27, 160, 0, 5, 2]
abbrev dktX0_loose_0 : List UInt8 := dkwX0_loose_0 ++ dktX0_loose_1
theorem dksX0_loose_0 : cX0_loose.data.toList.drop 0 = dktX0_loose_0 := by decide +kernel
theorem dksX0_loose_1 : cX0_loose.data.toList.drop 24 = dktX0_loose_1 := dk_seg dksX0_loose_0 24 rfl rfl
theorem dksX0_loose_2 : cX0_loose.data.toList.drop 44 = dktX0_loose_2 := dk_seg dksX0_loose_1 20 rfl rfl
theorem dX0_loose_0 : decode cX0_loose 0 = .ok (.iload_n 1, 1) := dk_27 (dk_at dksX0_loose_0 0 rfl rfl)
theorem dX0_loose_1 : decode cX0_loose 1 = .ok (.i2l, 1) := dk_133 (dk_at dksX0_loose_0 1 rfl rfl)
theorem dX0_loose_2 : decode cX0_loose 2 = .ok (.lconst 0, 1) := dk_9 (dk_at dksX0_loose_0 2 rfl rfl)
theorem dX0_loose_3 : decode cX0_loose 3 = .ok (.ldc2_w 510, 3) := dk_20 1 254 (dk_at dksX0_loose_0 3 rfl rfl)
theorem dX0_loose_6 : decode cX0_loose 6 = .ok (.invokestatic 110, 3) := dk_184 0 110 (dk_at dksX0_loose_0 6 rfl rfl)
theorem dX0_loose_9 : decode cX0_loose 9 = .ok (.ifCond .eq 14, 3) := dk_153 0 14 (dk_at dksX0_loose_0 9 rfl rfl)
theorem dX0_loose_12 : decode cX0_loose 12 = .ok (.aload_n 0, 1) := dk_42 (dk_at dksX0_loose_0 12 rfl rfl)
theorem dX0_loose_13 : decode cX0_loose 13 = .ok (.getfield 16, 3) := dk_180 0 16 (dk_at dksX0_loose_0 13 rfl rfl)
theorem dX0_loose_16 : decode cX0_loose 16 = .ok (.getfield 230, 3) := dk_180 0 230 (dk_at dksX0_loose_0 16 rfl rfl)
theorem dX0_loose_19 : decode cX0_loose 19 = .ok (.iload_n 1, 1) := dk_27 (dk_at dksX0_loose_0 19 rfl rfl)
theorem dX0_loose_20 : decode cX0_loose 20 = .ok (.if_icmp .ne 5, 3) := dk_160 0 5 (dk_at dksX0_loose_0 20 rfl rfl)
theorem dX0_loose_23 : decode cX0_loose 23 = .ok (.iconst (-1), 1) := dk_2 (dk_at dksX0_loose_0 23 rfl rfl)
theorem dX0_loose_24 : decode cX0_loose 24 = .ok (.ireturn, 1) := dk_172 (dk_at dksX0_loose_1 0 rfl rfl)
theorem dX0_loose_25 : decode cX0_loose 25 = .ok (.aload_n 0, 1) := dk_42 (dk_at dksX0_loose_1 1 rfl rfl)
theorem dX0_loose_26 : decode cX0_loose 26 = .ok (.getfield 16, 3) := dk_180 0 16 (dk_at dksX0_loose_1 2 rfl rfl)
theorem dX0_loose_29 : decode cX0_loose 29 = .ok (.getfield 230, 3) := dk_180 0 230 (dk_at dksX0_loose_1 5 rfl rfl)
theorem dX0_loose_32 : decode cX0_loose 32 = .ok (.istore_n 2, 1) := dk_61 (dk_at dksX0_loose_1 8 rfl rfl)
theorem dX0_loose_33 : decode cX0_loose 33 = .ok (.aload_n 0, 1) := dk_42 (dk_at dksX0_loose_1 9 rfl rfl)
theorem dX0_loose_34 : decode cX0_loose 34 = .ok (.getfield 16, 3) := dk_180 0 16 (dk_at dksX0_loose_1 10 rfl rfl)
theorem dX0_loose_37 : decode cX0_loose 37 = .ok (.iload_n 1, 1) := dk_27 (dk_at dksX0_loose_1 13 rfl rfl)
theorem dX0_loose_38 : decode cX0_loose 38 = .ok (.putfield 230, 3) := dk_181 0 230 (dk_at dksX0_loose_1 14 rfl rfl)
theorem dX0_loose_41 : decode cX0_loose 41 = .ok (.aload_n 0, 1) := dk_42 (dk_at dksX0_loose_1 17 rfl rfl)
theorem dX0_loose_42 : decode cX0_loose 42 = .ok (.aload_n 0, 1) := dk_42 (dk_at dksX0_loose_1 18 rfl rfl)
theorem dX0_loose_43 : decode cX0_loose 43 = .ok (.iload_n 2, 1) := dk_28 (dk_at dksX0_loose_1 19 rfl rfl)
theorem dX0_loose_44 : decode cX0_loose 44 = .ok (.invokedynamic 512, 5) := by decide +kernel
theorem dX0_loose_49 : decode cX0_loose 49 = .ok (.iconst 0, 1) := dk_3 (dk_at dksX0_loose_2 5 rfl rfl)
theorem dX0_loose_50 : decode cX0_loose 50 = .ok (.invokevirtual 516, 3) := dk_182 2 4 (dk_at dksX0_loose_2 6 rfl rfl)
theorem dX0_loose_53 : decode cX0_loose 53 = .ok (.iload_n 2, 1) := dk_28 (dk_at dksX0_loose_2 9 rfl rfl)
theorem dX0_loose_54 : decode cX0_loose 54 = .ok (.ireturn, 1) := dk_172 (dk_at dksX0_loose_2 10 rfl rfl)
def dkwX0_lambda_loose_1_0 : List UInt8 := [42, 180, 0, 16, 27, 181, 0, 230, 177]
abbrev dktX0_lambda_loose_1_0 : List UInt8 := dkwX0_lambda_loose_1_0 ++ []
theorem dksX0_lambda_loose_1_0 : cX0_lambda_loose_1.data.toList.drop 0 = dktX0_lambda_loose_1_0 := by decide +kernel
theorem dX0_lambda_loose_1_0 : decode cX0_lambda_loose_1 0 = .ok (.aload_n 0, 1) := dk_42 (dk_at dksX0_lambda_loose_1_0 0 rfl rfl)
theorem dX0_lambda_loose_1_1 : decode cX0_lambda_loose_1 1 = .ok (.getfield 16, 3) := dk_180 0 16 (dk_at dksX0_lambda_loose_1_0 1 rfl rfl)
theorem dX0_lambda_loose_1_4 : decode cX0_lambda_loose_1 4 = .ok (.iload_n 1, 1) := dk_27 (dk_at dksX0_lambda_loose_1_0 4 rfl rfl)
theorem dX0_lambda_loose_1_5 : decode cX0_lambda_loose_1 5 = .ok (.putfield 230, 3) := dk_181 0 230 (dk_at dksX0_lambda_loose_1_0 5 rfl rfl)
theorem dX0_lambda_loose_1_8 : decode cX0_lambda_loose_1 8 = .ok (.return_, 1) := dk_177 (dk_at dksX0_lambda_loose_1_0 8 rfl rfl)
def dkwX0_keeps_2 : List UInt8 := [183, 1, 251, 83, 42, 89, 180, 0, 128, 4, 96, 181, 0, 128, 42, 28, 182, 0, 99, 177]
abbrev dktX0_keeps_2 : List UInt8 := dkwX0_keeps_2 ++ []
def dkwX0_keeps_1 : List UInt8 := [42, 89, 180, 0, 128, 4, 100, 181, 0, 128, 42, 180, 0, 83, 42, 180, 0, 128, 187, 0, 81, 89, 43, 28]
abbrev dktX0_keeps_1 : List UInt8 := dkwX0_keeps_1 ++ dktX0_keeps_2
def dkwX0_keeps_0 : List UInt8 := [42, 180, 0, 128, 16, 20, 160, 0, 28, 42, 180, 0, 83, 4, 42, 180, 0, 83, 3, 16, 19, 184, 1, 245]
abbrev dktX0_keeps_0 : List UInt8 := dkwX0_keeps_0 ++ dktX0_keeps_1
theorem dksX0_keeps_0 : cX0_keeps.data.toList.drop 0 = dktX0_keeps_0 := by decide +kernel
theorem dksX0_keeps_1 : cX0_keeps.data.toList.drop 24 = dktX0_keeps_1 := dk_seg dksX0_keeps_0 24 rfl rfl
theorem dksX0_keeps_2 : cX0_keeps.data.toList.drop 48 = dktX0_keeps_2 := dk_seg dksX0_keeps_1 24 rfl rfl
theorem dX0_keeps_0 : decode cX0_keeps 0 = .ok (.aload_n 0, 1) := dk_42 (dk_at dksX0_keeps_0 0 rfl rfl)
theorem dX0_keeps_1 : decode cX0_keeps 1 = .ok (.getfield 128, 3) := dk_180 0 128 (dk_at dksX0_keeps_0 1 rfl rfl)
theorem dX0_keeps_4 : decode cX0_keeps 4 = .ok (.bipush 20, 2) := dk_16 20 (dk_at dksX0_keeps_0 4 rfl rfl)
theorem dX0_keeps_6 : decode cX0_keeps 6 = .ok (.if_icmp .ne 28, 3) := dk_160 0 28 (dk_at dksX0_keeps_0 6 rfl rfl)
theorem dX0_keeps_9 : decode cX0_keeps 9 = .ok (.aload_n 0, 1) := dk_42 (dk_at dksX0_keeps_0 9 rfl rfl)
theorem dX0_keeps_10 : decode cX0_keeps 10 = .ok (.getfield 83, 3) := dk_180 0 83 (dk_at dksX0_keeps_0 10 rfl rfl)
theorem dX0_keeps_13 : decode cX0_keeps 13 = .ok (.iconst 1, 1) := dk_4 (dk_at dksX0_keeps_0 13 rfl rfl)
theorem dX0_keeps_14 : decode cX0_keeps 14 = .ok (.aload_n 0, 1) := dk_42 (dk_at dksX0_keeps_0 14 rfl rfl)
theorem dX0_keeps_15 : decode cX0_keeps 15 = .ok (.getfield 83, 3) := dk_180 0 83 (dk_at dksX0_keeps_0 15 rfl rfl)
theorem dX0_keeps_18 : decode cX0_keeps 18 = .ok (.iconst 0, 1) := dk_3 (dk_at dksX0_keeps_0 18 rfl rfl)
theorem dX0_keeps_19 : decode cX0_keeps 19 = .ok (.bipush 19, 2) := dk_16 19 (dk_at dksX0_keeps_0 19 rfl rfl)
theorem dX0_keeps_21 : decode cX0_keeps 21 = .ok (.invokestatic 501, 3) := dk_184 1 245 (dk_at dksX0_keeps_0 21 rfl rfl)
theorem dX0_keeps_24 : decode cX0_keeps 24 = .ok (.aload_n 0, 1) := dk_42 (dk_at dksX0_keeps_1 0 rfl rfl)
theorem dX0_keeps_25 : decode cX0_keeps 25 = .ok (.dup, 1) := dk_89 (dk_at dksX0_keeps_1 1 rfl rfl)
theorem dX0_keeps_26 : decode cX0_keeps 26 = .ok (.getfield 128, 3) := dk_180 0 128 (dk_at dksX0_keeps_1 2 rfl rfl)
theorem dX0_keeps_29 : decode cX0_keeps 29 = .ok (.iconst 1, 1) := dk_4 (dk_at dksX0_keeps_1 5 rfl rfl)
theorem dX0_keeps_30 : decode cX0_keeps 30 = .ok (.isub, 1) := dk_100 (dk_at dksX0_keeps_1 6 rfl rfl)
theorem dX0_keeps_31 : decode cX0_keeps 31 = .ok (.putfield 128, 3) := dk_181 0 128 (dk_at dksX0_keeps_1 7 rfl rfl)
theorem dX0_keeps_34 : decode cX0_keeps 34 = .ok (.aload_n 0, 1) := dk_42 (dk_at dksX0_keeps_1 10 rfl rfl)
theorem dX0_keeps_35 : decode cX0_keeps 35 = .ok (.getfield 83, 3) := dk_180 0 83 (dk_at dksX0_keeps_1 11 rfl rfl)
theorem dX0_keeps_38 : decode cX0_keeps 38 = .ok (.aload_n 0, 1) := dk_42 (dk_at dksX0_keeps_1 14 rfl rfl)
theorem dX0_keeps_39 : decode cX0_keeps 39 = .ok (.getfield 128, 3) := dk_180 0 128 (dk_at dksX0_keeps_1 15 rfl rfl)
theorem dX0_keeps_42 : decode cX0_keeps 42 = .ok (.new 81, 3) := dk_187 0 81 (dk_at dksX0_keeps_1 18 rfl rfl)
theorem dX0_keeps_45 : decode cX0_keeps 45 = .ok (.dup, 1) := dk_89 (dk_at dksX0_keeps_1 21 rfl rfl)
theorem dX0_keeps_46 : decode cX0_keeps 46 = .ok (.aload_n 1, 1) := dk_43 (dk_at dksX0_keeps_1 22 rfl rfl)
theorem dX0_keeps_47 : decode cX0_keeps 47 = .ok (.iload_n 2, 1) := dk_28 (dk_at dksX0_keeps_1 23 rfl rfl)
theorem dX0_keeps_48 : decode cX0_keeps 48 = .ok (.invokespecial 507, 3) := dk_183 1 251 (dk_at dksX0_keeps_2 0 rfl rfl)
theorem dX0_keeps_51 : decode cX0_keeps 51 = .ok (.aastore, 1) := dk_83 (dk_at dksX0_keeps_2 3 rfl rfl)
theorem dX0_keeps_52 : decode cX0_keeps 52 = .ok (.aload_n 0, 1) := dk_42 (dk_at dksX0_keeps_2 4 rfl rfl)
theorem dX0_keeps_53 : decode cX0_keeps 53 = .ok (.dup, 1) := dk_89 (dk_at dksX0_keeps_2 5 rfl rfl)
theorem dX0_keeps_54 : decode cX0_keeps 54 = .ok (.getfield 128, 3) := dk_180 0 128 (dk_at dksX0_keeps_2 6 rfl rfl)
theorem dX0_keeps_57 : decode cX0_keeps 57 = .ok (.iconst 1, 1) := dk_4 (dk_at dksX0_keeps_2 9 rfl rfl)
theorem dX0_keeps_58 : decode cX0_keeps 58 = .ok (.iadd, 1) := dk_96 (dk_at dksX0_keeps_2 10 rfl rfl)
theorem dX0_keeps_59 : decode cX0_keeps 59 = .ok (.putfield 128, 3) := dk_181 0 128 (dk_at dksX0_keeps_2 11 rfl rfl)
theorem dX0_keeps_62 : decode cX0_keeps 62 = .ok (.aload_n 0, 1) := dk_42 (dk_at dksX0_keeps_2 14 rfl rfl)
theorem dX0_keeps_63 : decode cX0_keeps 63 = .ok (.iload_n 2, 1) := dk_28 (dk_at dksX0_keeps_2 15 rfl rfl)
theorem dX0_keeps_64 : decode cX0_keeps 64 = .ok (.invokevirtual 99, 3) := dk_182 0 99 (dk_at dksX0_keeps_2 16 rfl rfl)
theorem dX0_keeps_67 : decode cX0_keeps 67 = .ok (.return_, 1) := dk_177 (dk_at dksX0_keeps_2 19 rfl rfl)
def dkwX0_alike_0 : List UInt8 := [42, 42, 180, 0, 16, 180, 0, 227, 42, 180, 0, 16, 180, 0, 233, 27, 28, 29, 182, 2, 17, 172]
abbrev dktX0_alike_0 : List UInt8 := dkwX0_alike_0 ++ []
theorem dksX0_alike_0 : cX0_alike.data.toList.drop 0 = dktX0_alike_0 := by decide +kernel
theorem dX0_alike_0 : decode cX0_alike 0 = .ok (.aload_n 0, 1) := dk_42 (dk_at dksX0_alike_0 0 rfl rfl)
theorem dX0_alike_1 : decode cX0_alike 1 = .ok (.aload_n 0, 1) := dk_42 (dk_at dksX0_alike_0 1 rfl rfl)
theorem dX0_alike_2 : decode cX0_alike 2 = .ok (.getfield 16, 3) := dk_180 0 16 (dk_at dksX0_alike_0 2 rfl rfl)
theorem dX0_alike_5 : decode cX0_alike 5 = .ok (.getfield 227, 3) := dk_180 0 227 (dk_at dksX0_alike_0 5 rfl rfl)
theorem dX0_alike_8 : decode cX0_alike 8 = .ok (.aload_n 0, 1) := dk_42 (dk_at dksX0_alike_0 8 rfl rfl)
theorem dX0_alike_9 : decode cX0_alike 9 = .ok (.getfield 16, 3) := dk_180 0 16 (dk_at dksX0_alike_0 9 rfl rfl)
theorem dX0_alike_12 : decode cX0_alike 12 = .ok (.getfield 233, 3) := dk_180 0 233 (dk_at dksX0_alike_0 12 rfl rfl)
theorem dX0_alike_15 : decode cX0_alike 15 = .ok (.iload_n 1, 1) := dk_27 (dk_at dksX0_alike_0 15 rfl rfl)
theorem dX0_alike_16 : decode cX0_alike 16 = .ok (.iload_n 2, 1) := dk_28 (dk_at dksX0_alike_0 16 rfl rfl)
theorem dX0_alike_17 : decode cX0_alike 17 = .ok (.iload_n 3, 1) := dk_29 (dk_at dksX0_alike_0 17 rfl rfl)
theorem dX0_alike_18 : decode cX0_alike 18 = .ok (.invokevirtual 529, 3) := dk_182 2 17 (dk_at dksX0_alike_0 18 rfl rfl)
theorem dX0_alike_21 : decode cX0_alike 21 = .ok (.ireturn, 1) := dk_172 (dk_at dksX0_alike_0 21 rfl rfl)
def dkwX0_tellsTwo_3 : List UInt8 := [186, 2, 14, 0, 0, 3, 182, 2, 4, 4, 172]
abbrev dktX0_tellsTwo_3 : List UInt8 := dkwX0_tellsTwo_3 ++ []
def dkwX0_tellsTwo_2 : List UInt8 := [153, 0, 11, 44, 29, 21, 4, 3, 184, 2, 10, 42, 43, 29, 21, 4, 21, 5, 44, 21, 6]
abbrev dktX0_tellsTwo_2 : List UInt8 := dkwX0_tellsTwo_2 ++ dktX0_tellsTwo_3
def dkwX0_tellsTwo_1 : List UInt8 := [172, 44, 29, 46, 21, 4, 184, 0, 152, 54, 6, 43, 29, 21, 4, 21, 5, 184, 2, 10, 21, 5]
abbrev dktX0_tellsTwo_1 : List UInt8 := dkwX0_tellsTwo_1 ++ dktX0_tellsTwo_2
def dkwX0_tellsTwo_0 : List UInt8 := [42, 29, 21, 4, 182, 2, 7, 153, 0, 16, 43, 29, 46, 21, 4, 184, 0, 152, 21, 5, 160, 0, 5, 3]
abbrev dktX0_tellsTwo_0 : List UInt8 := dkwX0_tellsTwo_0 ++ dktX0_tellsTwo_1
theorem dksX0_tellsTwo_0 : cX0_tellsTwo.data.toList.drop 0 = dktX0_tellsTwo_0 := by decide +kernel
theorem dksX0_tellsTwo_1 : cX0_tellsTwo.data.toList.drop 24 = dktX0_tellsTwo_1 := dk_seg dksX0_tellsTwo_0 24 rfl rfl
theorem dksX0_tellsTwo_2 : cX0_tellsTwo.data.toList.drop 46 = dktX0_tellsTwo_2 := dk_seg dksX0_tellsTwo_1 22 rfl rfl
theorem dksX0_tellsTwo_3 : cX0_tellsTwo.data.toList.drop 67 = dktX0_tellsTwo_3 := dk_seg dksX0_tellsTwo_2 21 rfl rfl
theorem dX0_tellsTwo_0 : decode cX0_tellsTwo 0 = .ok (.aload_n 0, 1) := dk_42 (dk_at dksX0_tellsTwo_0 0 rfl rfl)
theorem dX0_tellsTwo_1 : decode cX0_tellsTwo 1 = .ok (.iload_n 3, 1) := dk_29 (dk_at dksX0_tellsTwo_0 1 rfl rfl)
theorem dX0_tellsTwo_2 : decode cX0_tellsTwo 2 = .ok (.iload 4, 2) := dk_21 4 (dk_at dksX0_tellsTwo_0 2 rfl rfl)
theorem dX0_tellsTwo_4 : decode cX0_tellsTwo 4 = .ok (.invokevirtual 519, 3) := dk_182 2 7 (dk_at dksX0_tellsTwo_0 4 rfl rfl)
theorem dX0_tellsTwo_7 : decode cX0_tellsTwo 7 = .ok (.ifCond .eq 16, 3) := dk_153 0 16 (dk_at dksX0_tellsTwo_0 7 rfl rfl)
theorem dX0_tellsTwo_10 : decode cX0_tellsTwo 10 = .ok (.aload_n 1, 1) := dk_43 (dk_at dksX0_tellsTwo_0 10 rfl rfl)
theorem dX0_tellsTwo_11 : decode cX0_tellsTwo 11 = .ok (.iload_n 3, 1) := dk_29 (dk_at dksX0_tellsTwo_0 11 rfl rfl)
theorem dX0_tellsTwo_12 : decode cX0_tellsTwo 12 = .ok (.iaload, 1) := dk_46 (dk_at dksX0_tellsTwo_0 12 rfl rfl)
theorem dX0_tellsTwo_13 : decode cX0_tellsTwo 13 = .ok (.iload 4, 2) := dk_21 4 (dk_at dksX0_tellsTwo_0 13 rfl rfl)
theorem dX0_tellsTwo_15 : decode cX0_tellsTwo 15 = .ok (.invokestatic 152, 3) := dk_184 0 152 (dk_at dksX0_tellsTwo_0 15 rfl rfl)
theorem dX0_tellsTwo_18 : decode cX0_tellsTwo 18 = .ok (.iload 5, 2) := dk_21 5 (dk_at dksX0_tellsTwo_0 18 rfl rfl)
theorem dX0_tellsTwo_20 : decode cX0_tellsTwo 20 = .ok (.if_icmp .ne 5, 3) := dk_160 0 5 (dk_at dksX0_tellsTwo_0 20 rfl rfl)
theorem dX0_tellsTwo_23 : decode cX0_tellsTwo 23 = .ok (.iconst 0, 1) := dk_3 (dk_at dksX0_tellsTwo_0 23 rfl rfl)
theorem dX0_tellsTwo_24 : decode cX0_tellsTwo 24 = .ok (.ireturn, 1) := dk_172 (dk_at dksX0_tellsTwo_1 0 rfl rfl)
theorem dX0_tellsTwo_25 : decode cX0_tellsTwo 25 = .ok (.aload_n 2, 1) := dk_44 (dk_at dksX0_tellsTwo_1 1 rfl rfl)
theorem dX0_tellsTwo_26 : decode cX0_tellsTwo 26 = .ok (.iload_n 3, 1) := dk_29 (dk_at dksX0_tellsTwo_1 2 rfl rfl)
theorem dX0_tellsTwo_27 : decode cX0_tellsTwo 27 = .ok (.iaload, 1) := dk_46 (dk_at dksX0_tellsTwo_1 3 rfl rfl)
theorem dX0_tellsTwo_28 : decode cX0_tellsTwo 28 = .ok (.iload 4, 2) := dk_21 4 (dk_at dksX0_tellsTwo_1 4 rfl rfl)
theorem dX0_tellsTwo_30 : decode cX0_tellsTwo 30 = .ok (.invokestatic 152, 3) := dk_184 0 152 (dk_at dksX0_tellsTwo_1 6 rfl rfl)
theorem dX0_tellsTwo_33 : decode cX0_tellsTwo 33 = .ok (.istore 6, 2) := dk_54 6 (dk_at dksX0_tellsTwo_1 9 rfl rfl)
theorem dX0_tellsTwo_35 : decode cX0_tellsTwo 35 = .ok (.aload_n 1, 1) := dk_43 (dk_at dksX0_tellsTwo_1 11 rfl rfl)
theorem dX0_tellsTwo_36 : decode cX0_tellsTwo 36 = .ok (.iload_n 3, 1) := dk_29 (dk_at dksX0_tellsTwo_1 12 rfl rfl)
theorem dX0_tellsTwo_37 : decode cX0_tellsTwo 37 = .ok (.iload 4, 2) := dk_21 4 (dk_at dksX0_tellsTwo_1 13 rfl rfl)
theorem dX0_tellsTwo_39 : decode cX0_tellsTwo 39 = .ok (.iload 5, 2) := dk_21 5 (dk_at dksX0_tellsTwo_1 15 rfl rfl)
theorem dX0_tellsTwo_41 : decode cX0_tellsTwo 41 = .ok (.invokestatic 522, 3) := dk_184 2 10 (dk_at dksX0_tellsTwo_1 17 rfl rfl)
theorem dX0_tellsTwo_44 : decode cX0_tellsTwo 44 = .ok (.iload 5, 2) := dk_21 5 (dk_at dksX0_tellsTwo_1 20 rfl rfl)
theorem dX0_tellsTwo_46 : decode cX0_tellsTwo 46 = .ok (.ifCond .eq 11, 3) := dk_153 0 11 (dk_at dksX0_tellsTwo_2 0 rfl rfl)
theorem dX0_tellsTwo_49 : decode cX0_tellsTwo 49 = .ok (.aload_n 2, 1) := dk_44 (dk_at dksX0_tellsTwo_2 3 rfl rfl)
theorem dX0_tellsTwo_50 : decode cX0_tellsTwo 50 = .ok (.iload_n 3, 1) := dk_29 (dk_at dksX0_tellsTwo_2 4 rfl rfl)
theorem dX0_tellsTwo_51 : decode cX0_tellsTwo 51 = .ok (.iload 4, 2) := dk_21 4 (dk_at dksX0_tellsTwo_2 5 rfl rfl)
theorem dX0_tellsTwo_53 : decode cX0_tellsTwo 53 = .ok (.iconst 0, 1) := dk_3 (dk_at dksX0_tellsTwo_2 7 rfl rfl)
theorem dX0_tellsTwo_54 : decode cX0_tellsTwo 54 = .ok (.invokestatic 522, 3) := dk_184 2 10 (dk_at dksX0_tellsTwo_2 8 rfl rfl)
theorem dX0_tellsTwo_57 : decode cX0_tellsTwo 57 = .ok (.aload_n 0, 1) := dk_42 (dk_at dksX0_tellsTwo_2 11 rfl rfl)
theorem dX0_tellsTwo_58 : decode cX0_tellsTwo 58 = .ok (.aload_n 1, 1) := dk_43 (dk_at dksX0_tellsTwo_2 12 rfl rfl)
theorem dX0_tellsTwo_59 : decode cX0_tellsTwo 59 = .ok (.iload_n 3, 1) := dk_29 (dk_at dksX0_tellsTwo_2 13 rfl rfl)
theorem dX0_tellsTwo_60 : decode cX0_tellsTwo 60 = .ok (.iload 4, 2) := dk_21 4 (dk_at dksX0_tellsTwo_2 14 rfl rfl)
theorem dX0_tellsTwo_62 : decode cX0_tellsTwo 62 = .ok (.iload 5, 2) := dk_21 5 (dk_at dksX0_tellsTwo_2 16 rfl rfl)
theorem dX0_tellsTwo_64 : decode cX0_tellsTwo 64 = .ok (.aload_n 2, 1) := dk_44 (dk_at dksX0_tellsTwo_2 18 rfl rfl)
theorem dX0_tellsTwo_65 : decode cX0_tellsTwo 65 = .ok (.iload 6, 2) := dk_21 6 (dk_at dksX0_tellsTwo_2 19 rfl rfl)
theorem dX0_tellsTwo_67 : decode cX0_tellsTwo 67 = .ok (.invokedynamic 526, 5) := by decide +kernel
theorem dX0_tellsTwo_72 : decode cX0_tellsTwo 72 = .ok (.iconst 0, 1) := dk_3 (dk_at dksX0_tellsTwo_3 5 rfl rfl)
theorem dX0_tellsTwo_73 : decode cX0_tellsTwo 73 = .ok (.invokevirtual 516, 3) := dk_182 2 4 (dk_at dksX0_tellsTwo_3 6 rfl rfl)
theorem dX0_tellsTwo_76 : decode cX0_tellsTwo 76 = .ok (.iconst 1, 1) := dk_4 (dk_at dksX0_tellsTwo_3 9 rfl rfl)
theorem dX0_tellsTwo_77 : decode cX0_tellsTwo 77 = .ok (.ireturn, 1) := dk_172 (dk_at dksX0_tellsTwo_3 10 rfl rfl)
def dkwX0_areTwo_1 : List UInt8 := [167, 0, 4, 3, 172]
abbrev dktX0_areTwo_1 : List UInt8 := dkwX0_areTwo_1 ++ []
def dkwX0_areTwo_0 : List UInt8 := [42, 27, 182, 0, 223, 153, 0, 20, 42, 28, 182, 0, 223, 153, 0, 12, 27, 28, 159, 0, 7, 4]
abbrev dktX0_areTwo_0 : List UInt8 := dkwX0_areTwo_0 ++ dktX0_areTwo_1
theorem dksX0_areTwo_0 : cX0_areTwo.data.toList.drop 0 = dktX0_areTwo_0 := by decide +kernel
theorem dksX0_areTwo_1 : cX0_areTwo.data.toList.drop 22 = dktX0_areTwo_1 := dk_seg dksX0_areTwo_0 22 rfl rfl
theorem dX0_areTwo_0 : decode cX0_areTwo 0 = .ok (.aload_n 0, 1) := dk_42 (dk_at dksX0_areTwo_0 0 rfl rfl)
theorem dX0_areTwo_1 : decode cX0_areTwo 1 = .ok (.iload_n 1, 1) := dk_27 (dk_at dksX0_areTwo_0 1 rfl rfl)
theorem dX0_areTwo_2 : decode cX0_areTwo 2 = .ok (.invokevirtual 223, 3) := dk_182 0 223 (dk_at dksX0_areTwo_0 2 rfl rfl)
theorem dX0_areTwo_5 : decode cX0_areTwo 5 = .ok (.ifCond .eq 20, 3) := dk_153 0 20 (dk_at dksX0_areTwo_0 5 rfl rfl)
theorem dX0_areTwo_8 : decode cX0_areTwo 8 = .ok (.aload_n 0, 1) := dk_42 (dk_at dksX0_areTwo_0 8 rfl rfl)
theorem dX0_areTwo_9 : decode cX0_areTwo 9 = .ok (.iload_n 2, 1) := dk_28 (dk_at dksX0_areTwo_0 9 rfl rfl)
theorem dX0_areTwo_10 : decode cX0_areTwo 10 = .ok (.invokevirtual 223, 3) := dk_182 0 223 (dk_at dksX0_areTwo_0 10 rfl rfl)
theorem dX0_areTwo_13 : decode cX0_areTwo 13 = .ok (.ifCond .eq 12, 3) := dk_153 0 12 (dk_at dksX0_areTwo_0 13 rfl rfl)
theorem dX0_areTwo_16 : decode cX0_areTwo 16 = .ok (.iload_n 1, 1) := dk_27 (dk_at dksX0_areTwo_0 16 rfl rfl)
theorem dX0_areTwo_17 : decode cX0_areTwo 17 = .ok (.iload_n 2, 1) := dk_28 (dk_at dksX0_areTwo_0 17 rfl rfl)
theorem dX0_areTwo_18 : decode cX0_areTwo 18 = .ok (.if_icmp .eq 7, 3) := dk_159 0 7 (dk_at dksX0_areTwo_0 18 rfl rfl)
theorem dX0_areTwo_21 : decode cX0_areTwo 21 = .ok (.iconst 1, 1) := dk_4 (dk_at dksX0_areTwo_0 21 rfl rfl)
theorem dX0_areTwo_22 : decode cX0_areTwo 22 = .ok (.goto 4, 3) := dk_167 0 4 (dk_at dksX0_areTwo_1 0 rfl rfl)
theorem dX0_areTwo_25 : decode cX0_areTwo 25 = .ok (.iconst 0, 1) := dk_3 (dk_at dksX0_areTwo_1 3 rfl rfl)
theorem dX0_areTwo_26 : decode cX0_areTwo 26 = .ok (.ireturn, 1) := dk_172 (dk_at dksX0_areTwo_1 4 rfl rfl)
def dkwX0_tells_2 : List UInt8 := [2, 130, 126, 79, 177]
abbrev dktX0_tells_2 : List UInt8 := dkwX0_tells_2 ++ []
def dkwX0_tells_1 : List UInt8 := [126, 79, 42, 28, 29, 153, 0, 13, 42, 28, 46, 4, 27, 120, 128, 167, 0, 12, 42, 28, 46, 4, 27, 120]
abbrev dktX0_tells_1 : List UInt8 := dkwX0_tells_1 ++ dktX0_tells_2
def dkwX0_tells_0 : List UInt8 := [42, 27, 29, 153, 0, 13, 42, 27, 46, 4, 28, 120, 128, 167, 0, 12, 42, 27, 46, 4, 28, 120, 2, 130]
abbrev dktX0_tells_0 : List UInt8 := dkwX0_tells_0 ++ dktX0_tells_1
theorem dksX0_tells_0 : cX0_tells.data.toList.drop 0 = dktX0_tells_0 := by decide +kernel
theorem dksX0_tells_1 : cX0_tells.data.toList.drop 24 = dktX0_tells_1 := dk_seg dksX0_tells_0 24 rfl rfl
theorem dksX0_tells_2 : cX0_tells.data.toList.drop 48 = dktX0_tells_2 := dk_seg dksX0_tells_1 24 rfl rfl
theorem dX0_tells_0 : decode cX0_tells 0 = .ok (.aload_n 0, 1) := dk_42 (dk_at dksX0_tells_0 0 rfl rfl)
theorem dX0_tells_1 : decode cX0_tells 1 = .ok (.iload_n 1, 1) := dk_27 (dk_at dksX0_tells_0 1 rfl rfl)
theorem dX0_tells_2 : decode cX0_tells 2 = .ok (.iload_n 3, 1) := dk_29 (dk_at dksX0_tells_0 2 rfl rfl)
theorem dX0_tells_3 : decode cX0_tells 3 = .ok (.ifCond .eq 13, 3) := dk_153 0 13 (dk_at dksX0_tells_0 3 rfl rfl)
theorem dX0_tells_6 : decode cX0_tells 6 = .ok (.aload_n 0, 1) := dk_42 (dk_at dksX0_tells_0 6 rfl rfl)
theorem dX0_tells_7 : decode cX0_tells 7 = .ok (.iload_n 1, 1) := dk_27 (dk_at dksX0_tells_0 7 rfl rfl)
theorem dX0_tells_8 : decode cX0_tells 8 = .ok (.iaload, 1) := dk_46 (dk_at dksX0_tells_0 8 rfl rfl)
theorem dX0_tells_9 : decode cX0_tells 9 = .ok (.iconst 1, 1) := dk_4 (dk_at dksX0_tells_0 9 rfl rfl)
theorem dX0_tells_10 : decode cX0_tells 10 = .ok (.iload_n 2, 1) := dk_28 (dk_at dksX0_tells_0 10 rfl rfl)
theorem dX0_tells_11 : decode cX0_tells 11 = .ok (.ishl, 1) := dk_120 (dk_at dksX0_tells_0 11 rfl rfl)
theorem dX0_tells_12 : decode cX0_tells 12 = .ok (.ior, 1) := dk_128 (dk_at dksX0_tells_0 12 rfl rfl)
theorem dX0_tells_13 : decode cX0_tells 13 = .ok (.goto 12, 3) := dk_167 0 12 (dk_at dksX0_tells_0 13 rfl rfl)
theorem dX0_tells_16 : decode cX0_tells 16 = .ok (.aload_n 0, 1) := dk_42 (dk_at dksX0_tells_0 16 rfl rfl)
theorem dX0_tells_17 : decode cX0_tells 17 = .ok (.iload_n 1, 1) := dk_27 (dk_at dksX0_tells_0 17 rfl rfl)
theorem dX0_tells_18 : decode cX0_tells 18 = .ok (.iaload, 1) := dk_46 (dk_at dksX0_tells_0 18 rfl rfl)
theorem dX0_tells_19 : decode cX0_tells 19 = .ok (.iconst 1, 1) := dk_4 (dk_at dksX0_tells_0 19 rfl rfl)
theorem dX0_tells_20 : decode cX0_tells 20 = .ok (.iload_n 2, 1) := dk_28 (dk_at dksX0_tells_0 20 rfl rfl)
theorem dX0_tells_21 : decode cX0_tells 21 = .ok (.ishl, 1) := dk_120 (dk_at dksX0_tells_0 21 rfl rfl)
theorem dX0_tells_22 : decode cX0_tells 22 = .ok (.iconst (-1), 1) := dk_2 (dk_at dksX0_tells_0 22 rfl rfl)
theorem dX0_tells_23 : decode cX0_tells 23 = .ok (.ixor, 1) := dk_130 (dk_at dksX0_tells_0 23 rfl rfl)
theorem dX0_tells_24 : decode cX0_tells 24 = .ok (.iand, 1) := dk_126 (dk_at dksX0_tells_1 0 rfl rfl)
theorem dX0_tells_25 : decode cX0_tells 25 = .ok (.iastore, 1) := dk_79 (dk_at dksX0_tells_1 1 rfl rfl)
theorem dX0_tells_26 : decode cX0_tells 26 = .ok (.aload_n 0, 1) := dk_42 (dk_at dksX0_tells_1 2 rfl rfl)
theorem dX0_tells_27 : decode cX0_tells 27 = .ok (.iload_n 2, 1) := dk_28 (dk_at dksX0_tells_1 3 rfl rfl)
theorem dX0_tells_28 : decode cX0_tells 28 = .ok (.iload_n 3, 1) := dk_29 (dk_at dksX0_tells_1 4 rfl rfl)
theorem dX0_tells_29 : decode cX0_tells 29 = .ok (.ifCond .eq 13, 3) := dk_153 0 13 (dk_at dksX0_tells_1 5 rfl rfl)
theorem dX0_tells_32 : decode cX0_tells 32 = .ok (.aload_n 0, 1) := dk_42 (dk_at dksX0_tells_1 8 rfl rfl)
theorem dX0_tells_33 : decode cX0_tells 33 = .ok (.iload_n 2, 1) := dk_28 (dk_at dksX0_tells_1 9 rfl rfl)
theorem dX0_tells_34 : decode cX0_tells 34 = .ok (.iaload, 1) := dk_46 (dk_at dksX0_tells_1 10 rfl rfl)
theorem dX0_tells_35 : decode cX0_tells 35 = .ok (.iconst 1, 1) := dk_4 (dk_at dksX0_tells_1 11 rfl rfl)
theorem dX0_tells_36 : decode cX0_tells 36 = .ok (.iload_n 1, 1) := dk_27 (dk_at dksX0_tells_1 12 rfl rfl)
theorem dX0_tells_37 : decode cX0_tells 37 = .ok (.ishl, 1) := dk_120 (dk_at dksX0_tells_1 13 rfl rfl)
theorem dX0_tells_38 : decode cX0_tells 38 = .ok (.ior, 1) := dk_128 (dk_at dksX0_tells_1 14 rfl rfl)
theorem dX0_tells_39 : decode cX0_tells 39 = .ok (.goto 12, 3) := dk_167 0 12 (dk_at dksX0_tells_1 15 rfl rfl)
theorem dX0_tells_42 : decode cX0_tells 42 = .ok (.aload_n 0, 1) := dk_42 (dk_at dksX0_tells_1 18 rfl rfl)
theorem dX0_tells_43 : decode cX0_tells 43 = .ok (.iload_n 2, 1) := dk_28 (dk_at dksX0_tells_1 19 rfl rfl)
theorem dX0_tells_44 : decode cX0_tells 44 = .ok (.iaload, 1) := dk_46 (dk_at dksX0_tells_1 20 rfl rfl)
theorem dX0_tells_45 : decode cX0_tells 45 = .ok (.iconst 1, 1) := dk_4 (dk_at dksX0_tells_1 21 rfl rfl)
theorem dX0_tells_46 : decode cX0_tells 46 = .ok (.iload_n 1, 1) := dk_27 (dk_at dksX0_tells_1 22 rfl rfl)
theorem dX0_tells_47 : decode cX0_tells 47 = .ok (.ishl, 1) := dk_120 (dk_at dksX0_tells_1 23 rfl rfl)
theorem dX0_tells_48 : decode cX0_tells 48 = .ok (.iconst (-1), 1) := dk_2 (dk_at dksX0_tells_2 0 rfl rfl)
theorem dX0_tells_49 : decode cX0_tells 49 = .ok (.ixor, 1) := dk_130 (dk_at dksX0_tells_2 1 rfl rfl)
theorem dX0_tells_50 : decode cX0_tells 50 = .ok (.iand, 1) := dk_126 (dk_at dksX0_tells_2 2 rfl rfl)
theorem dX0_tells_51 : decode cX0_tells 51 = .ok (.iastore, 1) := dk_79 (dk_at dksX0_tells_2 3 rfl rfl)
theorem dX0_tells_52 : decode cX0_tells 52 = .ok (.return_, 1) := dk_177 (dk_at dksX0_tells_2 4 rfl rfl)
def dkwX0_lambda_tellsTwo_2_1 : List UInt8 := [177]
abbrev dktX0_lambda_tellsTwo_2_1 : List UInt8 := dkwX0_lambda_tellsTwo_2_1 ++ []
def dkwX0_lambda_tellsTwo_2_0 : List UInt8 := [42, 27, 28, 29, 154, 0, 7, 4, 167, 0, 4, 3, 184, 2, 10, 25, 4, 27, 28, 21, 5, 184, 2, 10]
abbrev dktX0_lambda_tellsTwo_2_0 : List UInt8 := dkwX0_lambda_tellsTwo_2_0 ++ dktX0_lambda_tellsTwo_2_1
theorem dksX0_lambda_tellsTwo_2_0 : cX0_lambda_tellsTwo_2.data.toList.drop 0 = dktX0_lambda_tellsTwo_2_0 := by decide +kernel
theorem dksX0_lambda_tellsTwo_2_1 : cX0_lambda_tellsTwo_2.data.toList.drop 24 = dktX0_lambda_tellsTwo_2_1 := dk_seg dksX0_lambda_tellsTwo_2_0 24 rfl rfl
theorem dX0_lambda_tellsTwo_2_0 : decode cX0_lambda_tellsTwo_2 0 = .ok (.aload_n 0, 1) := dk_42 (dk_at dksX0_lambda_tellsTwo_2_0 0 rfl rfl)
theorem dX0_lambda_tellsTwo_2_1 : decode cX0_lambda_tellsTwo_2 1 = .ok (.iload_n 1, 1) := dk_27 (dk_at dksX0_lambda_tellsTwo_2_0 1 rfl rfl)
theorem dX0_lambda_tellsTwo_2_2 : decode cX0_lambda_tellsTwo_2 2 = .ok (.iload_n 2, 1) := dk_28 (dk_at dksX0_lambda_tellsTwo_2_0 2 rfl rfl)
theorem dX0_lambda_tellsTwo_2_3 : decode cX0_lambda_tellsTwo_2 3 = .ok (.iload_n 3, 1) := dk_29 (dk_at dksX0_lambda_tellsTwo_2_0 3 rfl rfl)
theorem dX0_lambda_tellsTwo_2_4 : decode cX0_lambda_tellsTwo_2 4 = .ok (.ifCond .ne 7, 3) := dk_154 0 7 (dk_at dksX0_lambda_tellsTwo_2_0 4 rfl rfl)
theorem dX0_lambda_tellsTwo_2_7 : decode cX0_lambda_tellsTwo_2 7 = .ok (.iconst 1, 1) := dk_4 (dk_at dksX0_lambda_tellsTwo_2_0 7 rfl rfl)
theorem dX0_lambda_tellsTwo_2_8 : decode cX0_lambda_tellsTwo_2 8 = .ok (.goto 4, 3) := dk_167 0 4 (dk_at dksX0_lambda_tellsTwo_2_0 8 rfl rfl)
theorem dX0_lambda_tellsTwo_2_11 : decode cX0_lambda_tellsTwo_2 11 = .ok (.iconst 0, 1) := dk_3 (dk_at dksX0_lambda_tellsTwo_2_0 11 rfl rfl)
theorem dX0_lambda_tellsTwo_2_12 : decode cX0_lambda_tellsTwo_2 12 = .ok (.invokestatic 522, 3) := dk_184 2 10 (dk_at dksX0_lambda_tellsTwo_2_0 12 rfl rfl)
theorem dX0_lambda_tellsTwo_2_15 : decode cX0_lambda_tellsTwo_2 15 = .ok (.aload 4, 2) := dk_25 4 (dk_at dksX0_lambda_tellsTwo_2_0 15 rfl rfl)
theorem dX0_lambda_tellsTwo_2_17 : decode cX0_lambda_tellsTwo_2 17 = .ok (.iload_n 1, 1) := dk_27 (dk_at dksX0_lambda_tellsTwo_2_0 17 rfl rfl)
theorem dX0_lambda_tellsTwo_2_18 : decode cX0_lambda_tellsTwo_2 18 = .ok (.iload_n 2, 1) := dk_28 (dk_at dksX0_lambda_tellsTwo_2_0 18 rfl rfl)
theorem dX0_lambda_tellsTwo_2_19 : decode cX0_lambda_tellsTwo_2 19 = .ok (.iload 5, 2) := dk_21 5 (dk_at dksX0_lambda_tellsTwo_2_0 19 rfl rfl)
theorem dX0_lambda_tellsTwo_2_21 : decode cX0_lambda_tellsTwo_2 21 = .ok (.invokestatic 522, 3) := dk_184 2 10 (dk_at dksX0_lambda_tellsTwo_2_0 21 rfl rfl)
theorem dX0_lambda_tellsTwo_2_24 : decode cX0_lambda_tellsTwo_2 24 = .ok (.return_, 1) := dk_177 (dk_at dksX0_lambda_tellsTwo_2_1 0 rfl rfl)
def dkwX0_apart_0 : List UInt8 := [42, 42, 180, 0, 16, 180, 0, 233, 42, 180, 0, 16, 180, 0, 227, 27, 28, 29, 182, 2, 17, 172]
abbrev dktX0_apart_0 : List UInt8 := dkwX0_apart_0 ++ []
theorem dksX0_apart_0 : cX0_apart.data.toList.drop 0 = dktX0_apart_0 := by decide +kernel
theorem dX0_apart_0 : decode cX0_apart 0 = .ok (.aload_n 0, 1) := dk_42 (dk_at dksX0_apart_0 0 rfl rfl)
theorem dX0_apart_1 : decode cX0_apart 1 = .ok (.aload_n 0, 1) := dk_42 (dk_at dksX0_apart_0 1 rfl rfl)
theorem dX0_apart_2 : decode cX0_apart 2 = .ok (.getfield 16, 3) := dk_180 0 16 (dk_at dksX0_apart_0 2 rfl rfl)
theorem dX0_apart_5 : decode cX0_apart 5 = .ok (.getfield 233, 3) := dk_180 0 233 (dk_at dksX0_apart_0 5 rfl rfl)
theorem dX0_apart_8 : decode cX0_apart 8 = .ok (.aload_n 0, 1) := dk_42 (dk_at dksX0_apart_0 8 rfl rfl)
theorem dX0_apart_9 : decode cX0_apart 9 = .ok (.getfield 16, 3) := dk_180 0 16 (dk_at dksX0_apart_0 9 rfl rfl)
theorem dX0_apart_12 : decode cX0_apart 12 = .ok (.getfield 227, 3) := dk_180 0 227 (dk_at dksX0_apart_0 12 rfl rfl)
theorem dX0_apart_15 : decode cX0_apart 15 = .ok (.iload_n 1, 1) := dk_27 (dk_at dksX0_apart_0 15 rfl rfl)
theorem dX0_apart_16 : decode cX0_apart 16 = .ok (.iload_n 2, 1) := dk_28 (dk_at dksX0_apart_0 16 rfl rfl)
theorem dX0_apart_17 : decode cX0_apart 17 = .ok (.iload_n 3, 1) := dk_29 (dk_at dksX0_apart_0 17 rfl rfl)
theorem dX0_apart_18 : decode cX0_apart 18 = .ok (.invokevirtual 529, 3) := dk_182 2 17 (dk_at dksX0_apart_0 18 rfl rfl)
theorem dX0_apart_21 : decode cX0_apart 21 = .ok (.ireturn, 1) := dk_172 (dk_at dksX0_apart_0 21 rfl rfl)
def dkwX0_way_2 : List UInt8 := [186, 2, 23, 0, 0, 3, 182, 2, 4, 28, 172]
abbrev dktX0_way_2 : List UInt8 := dkwX0_way_2 ++ []
def dkwX0_way_1 : List UInt8 := [172, 42, 180, 0, 16, 180, 0, 248, 61, 42, 180, 0, 16, 27, 181, 0, 248, 42, 42, 28]
abbrev dktX0_way_1 : List UInt8 := dkwX0_way_1 ++ dktX0_way_2
def dkwX0_way_0 : List UInt8 := [27, 133, 9, 20, 2, 21, 184, 0, 110, 153, 0, 14, 42, 180, 0, 16, 180, 0, 248, 27, 160, 0, 5, 2]
abbrev dktX0_way_0 : List UInt8 := dkwX0_way_0 ++ dktX0_way_1
theorem dksX0_way_0 : cX0_way.data.toList.drop 0 = dktX0_way_0 := by decide +kernel
theorem dksX0_way_1 : cX0_way.data.toList.drop 24 = dktX0_way_1 := dk_seg dksX0_way_0 24 rfl rfl
theorem dksX0_way_2 : cX0_way.data.toList.drop 44 = dktX0_way_2 := dk_seg dksX0_way_1 20 rfl rfl
theorem dX0_way_0 : decode cX0_way 0 = .ok (.iload_n 1, 1) := dk_27 (dk_at dksX0_way_0 0 rfl rfl)
theorem dX0_way_1 : decode cX0_way 1 = .ok (.i2l, 1) := dk_133 (dk_at dksX0_way_0 1 rfl rfl)
theorem dX0_way_2 : decode cX0_way 2 = .ok (.lconst 0, 1) := dk_9 (dk_at dksX0_way_0 2 rfl rfl)
theorem dX0_way_3 : decode cX0_way 3 = .ok (.ldc2_w 533, 3) := dk_20 2 21 (dk_at dksX0_way_0 3 rfl rfl)
theorem dX0_way_6 : decode cX0_way 6 = .ok (.invokestatic 110, 3) := dk_184 0 110 (dk_at dksX0_way_0 6 rfl rfl)
theorem dX0_way_9 : decode cX0_way 9 = .ok (.ifCond .eq 14, 3) := dk_153 0 14 (dk_at dksX0_way_0 9 rfl rfl)
theorem dX0_way_12 : decode cX0_way 12 = .ok (.aload_n 0, 1) := dk_42 (dk_at dksX0_way_0 12 rfl rfl)
theorem dX0_way_13 : decode cX0_way 13 = .ok (.getfield 16, 3) := dk_180 0 16 (dk_at dksX0_way_0 13 rfl rfl)
theorem dX0_way_16 : decode cX0_way 16 = .ok (.getfield 248, 3) := dk_180 0 248 (dk_at dksX0_way_0 16 rfl rfl)
theorem dX0_way_19 : decode cX0_way 19 = .ok (.iload_n 1, 1) := dk_27 (dk_at dksX0_way_0 19 rfl rfl)
theorem dX0_way_20 : decode cX0_way 20 = .ok (.if_icmp .ne 5, 3) := dk_160 0 5 (dk_at dksX0_way_0 20 rfl rfl)
theorem dX0_way_23 : decode cX0_way 23 = .ok (.iconst (-1), 1) := dk_2 (dk_at dksX0_way_0 23 rfl rfl)
theorem dX0_way_24 : decode cX0_way 24 = .ok (.ireturn, 1) := dk_172 (dk_at dksX0_way_1 0 rfl rfl)
theorem dX0_way_25 : decode cX0_way 25 = .ok (.aload_n 0, 1) := dk_42 (dk_at dksX0_way_1 1 rfl rfl)
theorem dX0_way_26 : decode cX0_way 26 = .ok (.getfield 16, 3) := dk_180 0 16 (dk_at dksX0_way_1 2 rfl rfl)
theorem dX0_way_29 : decode cX0_way 29 = .ok (.getfield 248, 3) := dk_180 0 248 (dk_at dksX0_way_1 5 rfl rfl)
theorem dX0_way_32 : decode cX0_way 32 = .ok (.istore_n 2, 1) := dk_61 (dk_at dksX0_way_1 8 rfl rfl)
theorem dX0_way_33 : decode cX0_way 33 = .ok (.aload_n 0, 1) := dk_42 (dk_at dksX0_way_1 9 rfl rfl)
theorem dX0_way_34 : decode cX0_way 34 = .ok (.getfield 16, 3) := dk_180 0 16 (dk_at dksX0_way_1 10 rfl rfl)
theorem dX0_way_37 : decode cX0_way 37 = .ok (.iload_n 1, 1) := dk_27 (dk_at dksX0_way_1 13 rfl rfl)
theorem dX0_way_38 : decode cX0_way 38 = .ok (.putfield 248, 3) := dk_181 0 248 (dk_at dksX0_way_1 14 rfl rfl)
theorem dX0_way_41 : decode cX0_way 41 = .ok (.aload_n 0, 1) := dk_42 (dk_at dksX0_way_1 17 rfl rfl)
theorem dX0_way_42 : decode cX0_way 42 = .ok (.aload_n 0, 1) := dk_42 (dk_at dksX0_way_1 18 rfl rfl)
theorem dX0_way_43 : decode cX0_way 43 = .ok (.iload_n 2, 1) := dk_28 (dk_at dksX0_way_1 19 rfl rfl)
theorem dX0_way_44 : decode cX0_way 44 = .ok (.invokedynamic 535, 5) := by decide +kernel
theorem dX0_way_49 : decode cX0_way 49 = .ok (.iconst 0, 1) := dk_3 (dk_at dksX0_way_2 5 rfl rfl)
theorem dX0_way_50 : decode cX0_way 50 = .ok (.invokevirtual 516, 3) := dk_182 2 4 (dk_at dksX0_way_2 6 rfl rfl)
theorem dX0_way_53 : decode cX0_way 53 = .ok (.iload_n 2, 1) := dk_28 (dk_at dksX0_way_2 9 rfl rfl)
theorem dX0_way_54 : decode cX0_way 54 = .ok (.ireturn, 1) := dk_172 (dk_at dksX0_way_2 10 rfl rfl)
def dkwX0_lambda_way_3_0 : List UInt8 := [42, 180, 0, 16, 27, 181, 0, 248, 177]
abbrev dktX0_lambda_way_3_0 : List UInt8 := dkwX0_lambda_way_3_0 ++ []
theorem dksX0_lambda_way_3_0 : cX0_lambda_way_3.data.toList.drop 0 = dktX0_lambda_way_3_0 := by decide +kernel
theorem dX0_lambda_way_3_0 : decode cX0_lambda_way_3 0 = .ok (.aload_n 0, 1) := dk_42 (dk_at dksX0_lambda_way_3_0 0 rfl rfl)
theorem dX0_lambda_way_3_1 : decode cX0_lambda_way_3 1 = .ok (.getfield 16, 3) := dk_180 0 16 (dk_at dksX0_lambda_way_3_0 1 rfl rfl)
theorem dX0_lambda_way_3_4 : decode cX0_lambda_way_3 4 = .ok (.iload_n 1, 1) := dk_27 (dk_at dksX0_lambda_way_3_0 4 rfl rfl)
theorem dX0_lambda_way_3_5 : decode cX0_lambda_way_3 5 = .ok (.putfield 248, 3) := dk_181 0 248 (dk_at dksX0_lambda_way_3_0 5 rfl rfl)
theorem dX0_lambda_way_3_8 : decode cX0_lambda_way_3 8 = .ok (.return_, 1) := dk_177 (dk_at dksX0_lambda_way_3_0 8 rfl rfl)
def dkwX0_rise_2 : List UInt8 := [186, 2, 26, 0, 0, 4, 182, 2, 4, 28, 172]
abbrev dktX0_rise_2 : List UInt8 := dkwX0_rise_2 ++ []
def dkwX0_rise_1 : List UInt8 := [172, 42, 180, 0, 16, 180, 1, 59, 61, 42, 180, 0, 16, 27, 181, 1, 59, 42, 42, 28]
abbrev dktX0_rise_1 : List UInt8 := dkwX0_rise_1 ++ dktX0_rise_2
def dkwX0_rise_0 : List UInt8 := [27, 133, 10, 20, 2, 24, 184, 0, 110, 153, 0, 14, 42, 180, 0, 16, 180, 1, 59, 27, 160, 0, 5, 2]
abbrev dktX0_rise_0 : List UInt8 := dkwX0_rise_0 ++ dktX0_rise_1
theorem dksX0_rise_0 : cX0_rise.data.toList.drop 0 = dktX0_rise_0 := by decide +kernel
theorem dksX0_rise_1 : cX0_rise.data.toList.drop 24 = dktX0_rise_1 := dk_seg dksX0_rise_0 24 rfl rfl
theorem dksX0_rise_2 : cX0_rise.data.toList.drop 44 = dktX0_rise_2 := dk_seg dksX0_rise_1 20 rfl rfl
theorem dX0_rise_0 : decode cX0_rise 0 = .ok (.iload_n 1, 1) := dk_27 (dk_at dksX0_rise_0 0 rfl rfl)
theorem dX0_rise_1 : decode cX0_rise 1 = .ok (.i2l, 1) := dk_133 (dk_at dksX0_rise_0 1 rfl rfl)
theorem dX0_rise_2 : decode cX0_rise 2 = .ok (.lconst 1, 1) := dk_10 (dk_at dksX0_rise_0 2 rfl rfl)
theorem dX0_rise_3 : decode cX0_rise 3 = .ok (.ldc2_w 536, 3) := dk_20 2 24 (dk_at dksX0_rise_0 3 rfl rfl)
theorem dX0_rise_6 : decode cX0_rise 6 = .ok (.invokestatic 110, 3) := dk_184 0 110 (dk_at dksX0_rise_0 6 rfl rfl)
theorem dX0_rise_9 : decode cX0_rise 9 = .ok (.ifCond .eq 14, 3) := dk_153 0 14 (dk_at dksX0_rise_0 9 rfl rfl)
theorem dX0_rise_12 : decode cX0_rise 12 = .ok (.aload_n 0, 1) := dk_42 (dk_at dksX0_rise_0 12 rfl rfl)
theorem dX0_rise_13 : decode cX0_rise 13 = .ok (.getfield 16, 3) := dk_180 0 16 (dk_at dksX0_rise_0 13 rfl rfl)
theorem dX0_rise_16 : decode cX0_rise 16 = .ok (.getfield 315, 3) := dk_180 1 59 (dk_at dksX0_rise_0 16 rfl rfl)
theorem dX0_rise_19 : decode cX0_rise 19 = .ok (.iload_n 1, 1) := dk_27 (dk_at dksX0_rise_0 19 rfl rfl)
theorem dX0_rise_20 : decode cX0_rise 20 = .ok (.if_icmp .ne 5, 3) := dk_160 0 5 (dk_at dksX0_rise_0 20 rfl rfl)
theorem dX0_rise_23 : decode cX0_rise 23 = .ok (.iconst (-1), 1) := dk_2 (dk_at dksX0_rise_0 23 rfl rfl)
theorem dX0_rise_24 : decode cX0_rise 24 = .ok (.ireturn, 1) := dk_172 (dk_at dksX0_rise_1 0 rfl rfl)
theorem dX0_rise_25 : decode cX0_rise 25 = .ok (.aload_n 0, 1) := dk_42 (dk_at dksX0_rise_1 1 rfl rfl)
theorem dX0_rise_26 : decode cX0_rise 26 = .ok (.getfield 16, 3) := dk_180 0 16 (dk_at dksX0_rise_1 2 rfl rfl)
theorem dX0_rise_29 : decode cX0_rise 29 = .ok (.getfield 315, 3) := dk_180 1 59 (dk_at dksX0_rise_1 5 rfl rfl)
theorem dX0_rise_32 : decode cX0_rise 32 = .ok (.istore_n 2, 1) := dk_61 (dk_at dksX0_rise_1 8 rfl rfl)
theorem dX0_rise_33 : decode cX0_rise 33 = .ok (.aload_n 0, 1) := dk_42 (dk_at dksX0_rise_1 9 rfl rfl)
theorem dX0_rise_34 : decode cX0_rise 34 = .ok (.getfield 16, 3) := dk_180 0 16 (dk_at dksX0_rise_1 10 rfl rfl)
theorem dX0_rise_37 : decode cX0_rise 37 = .ok (.iload_n 1, 1) := dk_27 (dk_at dksX0_rise_1 13 rfl rfl)
theorem dX0_rise_38 : decode cX0_rise 38 = .ok (.putfield 315, 3) := dk_181 1 59 (dk_at dksX0_rise_1 14 rfl rfl)
theorem dX0_rise_41 : decode cX0_rise 41 = .ok (.aload_n 0, 1) := dk_42 (dk_at dksX0_rise_1 17 rfl rfl)
theorem dX0_rise_42 : decode cX0_rise 42 = .ok (.aload_n 0, 1) := dk_42 (dk_at dksX0_rise_1 18 rfl rfl)
theorem dX0_rise_43 : decode cX0_rise 43 = .ok (.iload_n 2, 1) := dk_28 (dk_at dksX0_rise_1 19 rfl rfl)
theorem dX0_rise_44 : decode cX0_rise 44 = .ok (.invokedynamic 538, 5) := by decide +kernel
theorem dX0_rise_49 : decode cX0_rise 49 = .ok (.iconst 1, 1) := dk_4 (dk_at dksX0_rise_2 5 rfl rfl)
theorem dX0_rise_50 : decode cX0_rise 50 = .ok (.invokevirtual 516, 3) := dk_182 2 4 (dk_at dksX0_rise_2 6 rfl rfl)
theorem dX0_rise_53 : decode cX0_rise 53 = .ok (.iload_n 2, 1) := dk_28 (dk_at dksX0_rise_2 9 rfl rfl)
theorem dX0_rise_54 : decode cX0_rise 54 = .ok (.ireturn, 1) := dk_172 (dk_at dksX0_rise_2 10 rfl rfl)
def dkwX0_lambda_rise_4_0 : List UInt8 := [42, 180, 0, 16, 27, 181, 1, 59, 177]
abbrev dktX0_lambda_rise_4_0 : List UInt8 := dkwX0_lambda_rise_4_0 ++ []
theorem dksX0_lambda_rise_4_0 : cX0_lambda_rise_4.data.toList.drop 0 = dktX0_lambda_rise_4_0 := by decide +kernel
theorem dX0_lambda_rise_4_0 : decode cX0_lambda_rise_4 0 = .ok (.aload_n 0, 1) := dk_42 (dk_at dksX0_lambda_rise_4_0 0 rfl rfl)
theorem dX0_lambda_rise_4_1 : decode cX0_lambda_rise_4 1 = .ok (.getfield 16, 3) := dk_180 0 16 (dk_at dksX0_lambda_rise_4_0 1 rfl rfl)
theorem dX0_lambda_rise_4_4 : decode cX0_lambda_rise_4 4 = .ok (.iload_n 1, 1) := dk_27 (dk_at dksX0_lambda_rise_4_0 4 rfl rfl)
theorem dX0_lambda_rise_4_5 : decode cX0_lambda_rise_4 5 = .ok (.putfield 315, 3) := dk_181 1 59 (dk_at dksX0_lambda_rise_4_0 5 rfl rfl)
theorem dX0_lambda_rise_4_8 : decode cX0_lambda_rise_4 8 = .ok (.return_, 1) := dk_177 (dk_at dksX0_lambda_rise_4_0 8 rfl rfl)
def dkwX0_clue_5 : List UInt8 := [181, 1, 133, 42, 42, 186, 2, 34, 0, 0, 5, 182, 2, 4, 42, 180, 0, 16, 180, 1, 133, 172]
abbrev dktX0_clue_5 : List UInt8 := dkwX0_clue_5 ++ []
def dkwX0_clue_4 : List UInt8 := [180, 1, 133, 187, 1, 141, 89, 27, 28, 29, 183, 2, 31, 83, 42, 180, 0, 16, 89, 180, 1, 133, 4, 96]
abbrev dktX0_clue_4 : List UInt8 := dkwX0_clue_4 ++ dktX0_clue_5
def dkwX0_clue_3 : List UInt8 := [153, 0, 5, 2, 172, 132, 4, 1, 167, 255, 220, 42, 180, 0, 16, 180, 1, 136, 42, 180, 0, 16]
abbrev dktX0_clue_3 : List UInt8 := dkwX0_clue_3 ++ dktX0_clue_4
def dkwX0_clue_2 : List UInt8 := [180, 1, 133, 162, 0, 30, 42, 180, 0, 16, 180, 1, 136, 21, 4, 50, 27, 28, 29, 182, 2, 27]
abbrev dktX0_clue_2 : List UInt8 := dkwX0_clue_2 ++ dktX0_clue_3
def dkwX0_clue_1 : List UInt8 := [42, 180, 0, 16, 180, 1, 133, 16, 12, 160, 0, 5, 2, 172, 3, 54, 4, 21, 4, 42, 180, 0, 16]
abbrev dktX0_clue_1 : List UInt8 := dkwX0_clue_1 ++ dktX0_clue_2
def dkwX0_clue_0 : List UInt8 := [42, 27, 28, 182, 2, 7, 153, 0, 30, 42, 180, 0, 36, 27, 46, 42, 180, 0, 36, 28, 46, 159, 0, 15]
abbrev dktX0_clue_0 : List UInt8 := dkwX0_clue_0 ++ dktX0_clue_1
theorem dksX0_clue_0 : cX0_clue.data.toList.drop 0 = dktX0_clue_0 := by decide +kernel
theorem dksX0_clue_1 : cX0_clue.data.toList.drop 24 = dktX0_clue_1 := dk_seg dksX0_clue_0 24 rfl rfl
theorem dksX0_clue_2 : cX0_clue.data.toList.drop 47 = dktX0_clue_2 := dk_seg dksX0_clue_1 23 rfl rfl
theorem dksX0_clue_3 : cX0_clue.data.toList.drop 69 = dktX0_clue_3 := dk_seg dksX0_clue_2 22 rfl rfl
theorem dksX0_clue_4 : cX0_clue.data.toList.drop 91 = dktX0_clue_4 := dk_seg dksX0_clue_3 22 rfl rfl
theorem dksX0_clue_5 : cX0_clue.data.toList.drop 115 = dktX0_clue_5 := dk_seg dksX0_clue_4 24 rfl rfl
theorem dX0_clue_0 : decode cX0_clue 0 = .ok (.aload_n 0, 1) := dk_42 (dk_at dksX0_clue_0 0 rfl rfl)
theorem dX0_clue_1 : decode cX0_clue 1 = .ok (.iload_n 1, 1) := dk_27 (dk_at dksX0_clue_0 1 rfl rfl)
theorem dX0_clue_2 : decode cX0_clue 2 = .ok (.iload_n 2, 1) := dk_28 (dk_at dksX0_clue_0 2 rfl rfl)
theorem dX0_clue_3 : decode cX0_clue 3 = .ok (.invokevirtual 519, 3) := dk_182 2 7 (dk_at dksX0_clue_0 3 rfl rfl)
theorem dX0_clue_6 : decode cX0_clue 6 = .ok (.ifCond .eq 30, 3) := dk_153 0 30 (dk_at dksX0_clue_0 6 rfl rfl)
theorem dX0_clue_9 : decode cX0_clue 9 = .ok (.aload_n 0, 1) := dk_42 (dk_at dksX0_clue_0 9 rfl rfl)
theorem dX0_clue_10 : decode cX0_clue 10 = .ok (.getfield 36, 3) := dk_180 0 36 (dk_at dksX0_clue_0 10 rfl rfl)
theorem dX0_clue_13 : decode cX0_clue 13 = .ok (.iload_n 1, 1) := dk_27 (dk_at dksX0_clue_0 13 rfl rfl)
theorem dX0_clue_14 : decode cX0_clue 14 = .ok (.iaload, 1) := dk_46 (dk_at dksX0_clue_0 14 rfl rfl)
theorem dX0_clue_15 : decode cX0_clue 15 = .ok (.aload_n 0, 1) := dk_42 (dk_at dksX0_clue_0 15 rfl rfl)
theorem dX0_clue_16 : decode cX0_clue 16 = .ok (.getfield 36, 3) := dk_180 0 36 (dk_at dksX0_clue_0 16 rfl rfl)
theorem dX0_clue_19 : decode cX0_clue 19 = .ok (.iload_n 2, 1) := dk_28 (dk_at dksX0_clue_0 19 rfl rfl)
theorem dX0_clue_20 : decode cX0_clue 20 = .ok (.iaload, 1) := dk_46 (dk_at dksX0_clue_0 20 rfl rfl)
theorem dX0_clue_21 : decode cX0_clue 21 = .ok (.if_icmp .eq 15, 3) := dk_159 0 15 (dk_at dksX0_clue_0 21 rfl rfl)
theorem dX0_clue_24 : decode cX0_clue 24 = .ok (.aload_n 0, 1) := dk_42 (dk_at dksX0_clue_1 0 rfl rfl)
theorem dX0_clue_25 : decode cX0_clue 25 = .ok (.getfield 16, 3) := dk_180 0 16 (dk_at dksX0_clue_1 1 rfl rfl)
theorem dX0_clue_28 : decode cX0_clue 28 = .ok (.getfield 389, 3) := dk_180 1 133 (dk_at dksX0_clue_1 4 rfl rfl)
theorem dX0_clue_31 : decode cX0_clue 31 = .ok (.bipush 12, 2) := dk_16 12 (dk_at dksX0_clue_1 7 rfl rfl)
theorem dX0_clue_33 : decode cX0_clue 33 = .ok (.if_icmp .ne 5, 3) := dk_160 0 5 (dk_at dksX0_clue_1 9 rfl rfl)
theorem dX0_clue_36 : decode cX0_clue 36 = .ok (.iconst (-1), 1) := dk_2 (dk_at dksX0_clue_1 12 rfl rfl)
theorem dX0_clue_37 : decode cX0_clue 37 = .ok (.ireturn, 1) := dk_172 (dk_at dksX0_clue_1 13 rfl rfl)
theorem dX0_clue_38 : decode cX0_clue 38 = .ok (.iconst 0, 1) := dk_3 (dk_at dksX0_clue_1 14 rfl rfl)
theorem dX0_clue_39 : decode cX0_clue 39 = .ok (.istore 4, 2) := dk_54 4 (dk_at dksX0_clue_1 15 rfl rfl)
theorem dX0_clue_41 : decode cX0_clue 41 = .ok (.iload 4, 2) := dk_21 4 (dk_at dksX0_clue_1 17 rfl rfl)
theorem dX0_clue_43 : decode cX0_clue 43 = .ok (.aload_n 0, 1) := dk_42 (dk_at dksX0_clue_1 19 rfl rfl)
theorem dX0_clue_44 : decode cX0_clue 44 = .ok (.getfield 16, 3) := dk_180 0 16 (dk_at dksX0_clue_1 20 rfl rfl)
theorem dX0_clue_47 : decode cX0_clue 47 = .ok (.getfield 389, 3) := dk_180 1 133 (dk_at dksX0_clue_2 0 rfl rfl)
theorem dX0_clue_50 : decode cX0_clue 50 = .ok (.if_icmp .ge 30, 3) := dk_162 0 30 (dk_at dksX0_clue_2 3 rfl rfl)
theorem dX0_clue_53 : decode cX0_clue 53 = .ok (.aload_n 0, 1) := dk_42 (dk_at dksX0_clue_2 6 rfl rfl)
theorem dX0_clue_54 : decode cX0_clue 54 = .ok (.getfield 16, 3) := dk_180 0 16 (dk_at dksX0_clue_2 7 rfl rfl)
theorem dX0_clue_57 : decode cX0_clue 57 = .ok (.getfield 392, 3) := dk_180 1 136 (dk_at dksX0_clue_2 10 rfl rfl)
theorem dX0_clue_60 : decode cX0_clue 60 = .ok (.iload 4, 2) := dk_21 4 (dk_at dksX0_clue_2 13 rfl rfl)
theorem dX0_clue_62 : decode cX0_clue 62 = .ok (.aaload, 1) := dk_50 (dk_at dksX0_clue_2 15 rfl rfl)
theorem dX0_clue_63 : decode cX0_clue 63 = .ok (.iload_n 1, 1) := dk_27 (dk_at dksX0_clue_2 16 rfl rfl)
theorem dX0_clue_64 : decode cX0_clue 64 = .ok (.iload_n 2, 1) := dk_28 (dk_at dksX0_clue_2 17 rfl rfl)
theorem dX0_clue_65 : decode cX0_clue 65 = .ok (.iload_n 3, 1) := dk_29 (dk_at dksX0_clue_2 18 rfl rfl)
theorem dX0_clue_66 : decode cX0_clue 66 = .ok (.invokevirtual 539, 3) := dk_182 2 27 (dk_at dksX0_clue_2 19 rfl rfl)
theorem dX0_clue_69 : decode cX0_clue 69 = .ok (.ifCond .eq 5, 3) := dk_153 0 5 (dk_at dksX0_clue_3 0 rfl rfl)
theorem dX0_clue_72 : decode cX0_clue 72 = .ok (.iconst (-1), 1) := dk_2 (dk_at dksX0_clue_3 3 rfl rfl)
theorem dX0_clue_73 : decode cX0_clue 73 = .ok (.ireturn, 1) := dk_172 (dk_at dksX0_clue_3 4 rfl rfl)
theorem dX0_clue_74 : decode cX0_clue 74 = .ok (.iinc 4 1, 3) := dk_132 4 1 (dk_at dksX0_clue_3 5 rfl rfl)
theorem dX0_clue_77 : decode cX0_clue 77 = .ok (.goto (-36), 3) := dk_167 255 220 (dk_at dksX0_clue_3 8 rfl rfl)
theorem dX0_clue_80 : decode cX0_clue 80 = .ok (.aload_n 0, 1) := dk_42 (dk_at dksX0_clue_3 11 rfl rfl)
theorem dX0_clue_81 : decode cX0_clue 81 = .ok (.getfield 16, 3) := dk_180 0 16 (dk_at dksX0_clue_3 12 rfl rfl)
theorem dX0_clue_84 : decode cX0_clue 84 = .ok (.getfield 392, 3) := dk_180 1 136 (dk_at dksX0_clue_3 15 rfl rfl)
theorem dX0_clue_87 : decode cX0_clue 87 = .ok (.aload_n 0, 1) := dk_42 (dk_at dksX0_clue_3 18 rfl rfl)
theorem dX0_clue_88 : decode cX0_clue 88 = .ok (.getfield 16, 3) := dk_180 0 16 (dk_at dksX0_clue_3 19 rfl rfl)
theorem dX0_clue_91 : decode cX0_clue 91 = .ok (.getfield 389, 3) := dk_180 1 133 (dk_at dksX0_clue_4 0 rfl rfl)
theorem dX0_clue_94 : decode cX0_clue 94 = .ok (.new 397, 3) := dk_187 1 141 (dk_at dksX0_clue_4 3 rfl rfl)
theorem dX0_clue_97 : decode cX0_clue 97 = .ok (.dup, 1) := dk_89 (dk_at dksX0_clue_4 6 rfl rfl)
theorem dX0_clue_98 : decode cX0_clue 98 = .ok (.iload_n 1, 1) := dk_27 (dk_at dksX0_clue_4 7 rfl rfl)
theorem dX0_clue_99 : decode cX0_clue 99 = .ok (.iload_n 2, 1) := dk_28 (dk_at dksX0_clue_4 8 rfl rfl)
theorem dX0_clue_100 : decode cX0_clue 100 = .ok (.iload_n 3, 1) := dk_29 (dk_at dksX0_clue_4 9 rfl rfl)
theorem dX0_clue_101 : decode cX0_clue 101 = .ok (.invokespecial 543, 3) := dk_183 2 31 (dk_at dksX0_clue_4 10 rfl rfl)
theorem dX0_clue_104 : decode cX0_clue 104 = .ok (.aastore, 1) := dk_83 (dk_at dksX0_clue_4 13 rfl rfl)
theorem dX0_clue_105 : decode cX0_clue 105 = .ok (.aload_n 0, 1) := dk_42 (dk_at dksX0_clue_4 14 rfl rfl)
theorem dX0_clue_106 : decode cX0_clue 106 = .ok (.getfield 16, 3) := dk_180 0 16 (dk_at dksX0_clue_4 15 rfl rfl)
theorem dX0_clue_109 : decode cX0_clue 109 = .ok (.dup, 1) := dk_89 (dk_at dksX0_clue_4 18 rfl rfl)
theorem dX0_clue_110 : decode cX0_clue 110 = .ok (.getfield 389, 3) := dk_180 1 133 (dk_at dksX0_clue_4 19 rfl rfl)
theorem dX0_clue_113 : decode cX0_clue 113 = .ok (.iconst 1, 1) := dk_4 (dk_at dksX0_clue_4 22 rfl rfl)
theorem dX0_clue_114 : decode cX0_clue 114 = .ok (.iadd, 1) := dk_96 (dk_at dksX0_clue_4 23 rfl rfl)
theorem dX0_clue_115 : decode cX0_clue 115 = .ok (.putfield 389, 3) := dk_181 1 133 (dk_at dksX0_clue_5 0 rfl rfl)
theorem dX0_clue_118 : decode cX0_clue 118 = .ok (.aload_n 0, 1) := dk_42 (dk_at dksX0_clue_5 3 rfl rfl)
theorem dX0_clue_119 : decode cX0_clue 119 = .ok (.aload_n 0, 1) := dk_42 (dk_at dksX0_clue_5 4 rfl rfl)
theorem dX0_clue_120 : decode cX0_clue 120 = .ok (.invokedynamic 546, 5) := by decide +kernel
theorem dX0_clue_125 : decode cX0_clue 125 = .ok (.iconst 2, 1) := dk_5 (dk_at dksX0_clue_5 10 rfl rfl)
theorem dX0_clue_126 : decode cX0_clue 126 = .ok (.invokevirtual 516, 3) := dk_182 2 4 (dk_at dksX0_clue_5 11 rfl rfl)
theorem dX0_clue_129 : decode cX0_clue 129 = .ok (.aload_n 0, 1) := dk_42 (dk_at dksX0_clue_5 14 rfl rfl)
theorem dX0_clue_130 : decode cX0_clue 130 = .ok (.getfield 16, 3) := dk_180 0 16 (dk_at dksX0_clue_5 15 rfl rfl)
theorem dX0_clue_133 : decode cX0_clue 133 = .ok (.getfield 389, 3) := dk_180 1 133 (dk_at dksX0_clue_5 18 rfl rfl)
theorem dX0_clue_136 : decode cX0_clue 136 = .ok (.ireturn, 1) := dk_172 (dk_at dksX0_clue_5 21 rfl rfl)
def dkwX0_lambda_clue_5_0 : List UInt8 := [42, 180, 0, 16, 89, 180, 1, 133, 4, 100, 181, 1, 133, 177]
abbrev dktX0_lambda_clue_5_0 : List UInt8 := dkwX0_lambda_clue_5_0 ++ []
theorem dksX0_lambda_clue_5_0 : cX0_lambda_clue_5.data.toList.drop 0 = dktX0_lambda_clue_5_0 := by decide +kernel
theorem dX0_lambda_clue_5_0 : decode cX0_lambda_clue_5 0 = .ok (.aload_n 0, 1) := dk_42 (dk_at dksX0_lambda_clue_5_0 0 rfl rfl)
theorem dX0_lambda_clue_5_1 : decode cX0_lambda_clue_5 1 = .ok (.getfield 16, 3) := dk_180 0 16 (dk_at dksX0_lambda_clue_5_0 1 rfl rfl)
theorem dX0_lambda_clue_5_4 : decode cX0_lambda_clue_5 4 = .ok (.dup, 1) := dk_89 (dk_at dksX0_lambda_clue_5_0 4 rfl rfl)
theorem dX0_lambda_clue_5_5 : decode cX0_lambda_clue_5 5 = .ok (.getfield 389, 3) := dk_180 1 133 (dk_at dksX0_lambda_clue_5_0 5 rfl rfl)
theorem dX0_lambda_clue_5_8 : decode cX0_lambda_clue_5 8 = .ok (.iconst 1, 1) := dk_4 (dk_at dksX0_lambda_clue_5_0 8 rfl rfl)
theorem dX0_lambda_clue_5_9 : decode cX0_lambda_clue_5 9 = .ok (.isub, 1) := dk_100 (dk_at dksX0_lambda_clue_5_0 9 rfl rfl)
theorem dX0_lambda_clue_5_10 : decode cX0_lambda_clue_5 10 = .ok (.putfield 389, 3) := dk_181 1 133 (dk_at dksX0_lambda_clue_5_0 10 rfl rfl)
theorem dX0_lambda_clue_5_13 : decode cX0_lambda_clue_5 13 = .ok (.return_, 1) := dk_177 (dk_at dksX0_lambda_clue_5_0 13 rfl rfl)
def dkwX0_guess_5 : List UInt8 := [184, 0, 162, 172]
abbrev dktX0_guess_5 : List UInt8 := dkwX0_guess_5 ++ []
def dkwX0_guess_4 : List UInt8 := [27, 21, 5, 182, 2, 37, 42, 42, 27, 21, 6, 186, 2, 41, 0, 0, 6, 182, 2, 4, 42, 180, 1, 157]
abbrev dktX0_guess_4 : List UInt8 := dkwX0_guess_4 ++ dktX0_guess_5
def dkwX0_guess_3 : List UInt8 := [96, 54, 5, 42, 180, 0, 16, 180, 1, 154, 27, 46, 54, 6, 21, 5, 21, 6, 160, 0, 5, 2, 172, 42]
abbrev dktX0_guess_3 : List UInt8 := dkwX0_guess_3 ++ dktX0_guess_4
def dkwX0_guess_2 : List UInt8 := [20, 1, 190, 184, 0, 110, 154, 0, 5, 2, 172, 21, 4, 153, 0, 7, 2, 167, 0, 8, 8, 28, 104, 29]
abbrev dktX0_guess_2 : List UInt8 := dkwX0_guess_2 ++ dktX0_guess_3
def dkwX0_guess_1 : List UInt8 := [153, 0, 32, 21, 4, 154, 0, 29, 28, 133, 9, 20, 2, 24, 184, 0, 110, 153, 0, 15, 29, 133, 9]
abbrev dktX0_guess_1 : List UInt8 := dkwX0_guess_1 ++ dktX0_guess_2
def dkwX0_guess_0 : List UInt8 := [28, 2, 160, 0, 12, 29, 2, 160, 0, 7, 4, 167, 0, 4, 3, 54, 4, 42, 27, 182, 0, 223]
abbrev dktX0_guess_0 : List UInt8 := dkwX0_guess_0 ++ dktX0_guess_1
theorem dksX0_guess_0 : cX0_guess.data.toList.drop 0 = dktX0_guess_0 := by decide +kernel
theorem dksX0_guess_1 : cX0_guess.data.toList.drop 22 = dktX0_guess_1 := dk_seg dksX0_guess_0 22 rfl rfl
theorem dksX0_guess_2 : cX0_guess.data.toList.drop 45 = dktX0_guess_2 := dk_seg dksX0_guess_1 23 rfl rfl
theorem dksX0_guess_3 : cX0_guess.data.toList.drop 69 = dktX0_guess_3 := dk_seg dksX0_guess_2 24 rfl rfl
theorem dksX0_guess_4 : cX0_guess.data.toList.drop 93 = dktX0_guess_4 := dk_seg dksX0_guess_3 24 rfl rfl
theorem dksX0_guess_5 : cX0_guess.data.toList.drop 117 = dktX0_guess_5 := dk_seg dksX0_guess_4 24 rfl rfl
theorem dX0_guess_0 : decode cX0_guess 0 = .ok (.iload_n 2, 1) := dk_28 (dk_at dksX0_guess_0 0 rfl rfl)
theorem dX0_guess_1 : decode cX0_guess 1 = .ok (.iconst (-1), 1) := dk_2 (dk_at dksX0_guess_0 1 rfl rfl)
theorem dX0_guess_2 : decode cX0_guess 2 = .ok (.if_icmp .ne 12, 3) := dk_160 0 12 (dk_at dksX0_guess_0 2 rfl rfl)
theorem dX0_guess_5 : decode cX0_guess 5 = .ok (.iload_n 3, 1) := dk_29 (dk_at dksX0_guess_0 5 rfl rfl)
theorem dX0_guess_6 : decode cX0_guess 6 = .ok (.iconst (-1), 1) := dk_2 (dk_at dksX0_guess_0 6 rfl rfl)
theorem dX0_guess_7 : decode cX0_guess 7 = .ok (.if_icmp .ne 7, 3) := dk_160 0 7 (dk_at dksX0_guess_0 7 rfl rfl)
theorem dX0_guess_10 : decode cX0_guess 10 = .ok (.iconst 1, 1) := dk_4 (dk_at dksX0_guess_0 10 rfl rfl)
theorem dX0_guess_11 : decode cX0_guess 11 = .ok (.goto 4, 3) := dk_167 0 4 (dk_at dksX0_guess_0 11 rfl rfl)
theorem dX0_guess_14 : decode cX0_guess 14 = .ok (.iconst 0, 1) := dk_3 (dk_at dksX0_guess_0 14 rfl rfl)
theorem dX0_guess_15 : decode cX0_guess 15 = .ok (.istore 4, 2) := dk_54 4 (dk_at dksX0_guess_0 15 rfl rfl)
theorem dX0_guess_17 : decode cX0_guess 17 = .ok (.aload_n 0, 1) := dk_42 (dk_at dksX0_guess_0 17 rfl rfl)
theorem dX0_guess_18 : decode cX0_guess 18 = .ok (.iload_n 1, 1) := dk_27 (dk_at dksX0_guess_0 18 rfl rfl)
theorem dX0_guess_19 : decode cX0_guess 19 = .ok (.invokevirtual 223, 3) := dk_182 0 223 (dk_at dksX0_guess_0 19 rfl rfl)
theorem dX0_guess_22 : decode cX0_guess 22 = .ok (.ifCond .eq 32, 3) := dk_153 0 32 (dk_at dksX0_guess_1 0 rfl rfl)
theorem dX0_guess_25 : decode cX0_guess 25 = .ok (.iload 4, 2) := dk_21 4 (dk_at dksX0_guess_1 3 rfl rfl)
theorem dX0_guess_27 : decode cX0_guess 27 = .ok (.ifCond .ne 29, 3) := dk_154 0 29 (dk_at dksX0_guess_1 5 rfl rfl)
theorem dX0_guess_30 : decode cX0_guess 30 = .ok (.iload_n 2, 1) := dk_28 (dk_at dksX0_guess_1 8 rfl rfl)
theorem dX0_guess_31 : decode cX0_guess 31 = .ok (.i2l, 1) := dk_133 (dk_at dksX0_guess_1 9 rfl rfl)
theorem dX0_guess_32 : decode cX0_guess 32 = .ok (.lconst 0, 1) := dk_9 (dk_at dksX0_guess_1 10 rfl rfl)
theorem dX0_guess_33 : decode cX0_guess 33 = .ok (.ldc2_w 536, 3) := dk_20 2 24 (dk_at dksX0_guess_1 11 rfl rfl)
theorem dX0_guess_36 : decode cX0_guess 36 = .ok (.invokestatic 110, 3) := dk_184 0 110 (dk_at dksX0_guess_1 14 rfl rfl)
theorem dX0_guess_39 : decode cX0_guess 39 = .ok (.ifCond .eq 15, 3) := dk_153 0 15 (dk_at dksX0_guess_1 17 rfl rfl)
theorem dX0_guess_42 : decode cX0_guess 42 = .ok (.iload_n 3, 1) := dk_29 (dk_at dksX0_guess_1 20 rfl rfl)
theorem dX0_guess_43 : decode cX0_guess 43 = .ok (.i2l, 1) := dk_133 (dk_at dksX0_guess_1 21 rfl rfl)
theorem dX0_guess_44 : decode cX0_guess 44 = .ok (.lconst 0, 1) := dk_9 (dk_at dksX0_guess_1 22 rfl rfl)
theorem dX0_guess_45 : decode cX0_guess 45 = .ok (.ldc2_w 446, 3) := dk_20 1 190 (dk_at dksX0_guess_2 0 rfl rfl)
theorem dX0_guess_48 : decode cX0_guess 48 = .ok (.invokestatic 110, 3) := dk_184 0 110 (dk_at dksX0_guess_2 3 rfl rfl)
theorem dX0_guess_51 : decode cX0_guess 51 = .ok (.ifCond .ne 5, 3) := dk_154 0 5 (dk_at dksX0_guess_2 6 rfl rfl)
theorem dX0_guess_54 : decode cX0_guess 54 = .ok (.iconst (-1), 1) := dk_2 (dk_at dksX0_guess_2 9 rfl rfl)
theorem dX0_guess_55 : decode cX0_guess 55 = .ok (.ireturn, 1) := dk_172 (dk_at dksX0_guess_2 10 rfl rfl)
theorem dX0_guess_56 : decode cX0_guess 56 = .ok (.iload 4, 2) := dk_21 4 (dk_at dksX0_guess_2 11 rfl rfl)
theorem dX0_guess_58 : decode cX0_guess 58 = .ok (.ifCond .eq 7, 3) := dk_153 0 7 (dk_at dksX0_guess_2 13 rfl rfl)
theorem dX0_guess_61 : decode cX0_guess 61 = .ok (.iconst (-1), 1) := dk_2 (dk_at dksX0_guess_2 16 rfl rfl)
theorem dX0_guess_62 : decode cX0_guess 62 = .ok (.goto 8, 3) := dk_167 0 8 (dk_at dksX0_guess_2 17 rfl rfl)
theorem dX0_guess_65 : decode cX0_guess 65 = .ok (.iconst 5, 1) := dk_8 (dk_at dksX0_guess_2 20 rfl rfl)
theorem dX0_guess_66 : decode cX0_guess 66 = .ok (.iload_n 2, 1) := dk_28 (dk_at dksX0_guess_2 21 rfl rfl)
theorem dX0_guess_67 : decode cX0_guess 67 = .ok (.imul, 1) := dk_104 (dk_at dksX0_guess_2 22 rfl rfl)
theorem dX0_guess_68 : decode cX0_guess 68 = .ok (.iload_n 3, 1) := dk_29 (dk_at dksX0_guess_2 23 rfl rfl)
theorem dX0_guess_69 : decode cX0_guess 69 = .ok (.iadd, 1) := dk_96 (dk_at dksX0_guess_3 0 rfl rfl)
theorem dX0_guess_70 : decode cX0_guess 70 = .ok (.istore 5, 2) := dk_54 5 (dk_at dksX0_guess_3 1 rfl rfl)
theorem dX0_guess_72 : decode cX0_guess 72 = .ok (.aload_n 0, 1) := dk_42 (dk_at dksX0_guess_3 3 rfl rfl)
theorem dX0_guess_73 : decode cX0_guess 73 = .ok (.getfield 16, 3) := dk_180 0 16 (dk_at dksX0_guess_3 4 rfl rfl)
theorem dX0_guess_76 : decode cX0_guess 76 = .ok (.getfield 410, 3) := dk_180 1 154 (dk_at dksX0_guess_3 7 rfl rfl)
theorem dX0_guess_79 : decode cX0_guess 79 = .ok (.iload_n 1, 1) := dk_27 (dk_at dksX0_guess_3 10 rfl rfl)
theorem dX0_guess_80 : decode cX0_guess 80 = .ok (.iaload, 1) := dk_46 (dk_at dksX0_guess_3 11 rfl rfl)
theorem dX0_guess_81 : decode cX0_guess 81 = .ok (.istore 6, 2) := dk_54 6 (dk_at dksX0_guess_3 12 rfl rfl)
theorem dX0_guess_83 : decode cX0_guess 83 = .ok (.iload 5, 2) := dk_21 5 (dk_at dksX0_guess_3 14 rfl rfl)
theorem dX0_guess_85 : decode cX0_guess 85 = .ok (.iload 6, 2) := dk_21 6 (dk_at dksX0_guess_3 16 rfl rfl)
theorem dX0_guess_87 : decode cX0_guess 87 = .ok (.if_icmp .ne 5, 3) := dk_160 0 5 (dk_at dksX0_guess_3 18 rfl rfl)
theorem dX0_guess_90 : decode cX0_guess 90 = .ok (.iconst (-1), 1) := dk_2 (dk_at dksX0_guess_3 21 rfl rfl)
theorem dX0_guess_91 : decode cX0_guess 91 = .ok (.ireturn, 1) := dk_172 (dk_at dksX0_guess_3 22 rfl rfl)
theorem dX0_guess_92 : decode cX0_guess 92 = .ok (.aload_n 0, 1) := dk_42 (dk_at dksX0_guess_3 23 rfl rfl)
theorem dX0_guess_93 : decode cX0_guess 93 = .ok (.iload_n 1, 1) := dk_27 (dk_at dksX0_guess_4 0 rfl rfl)
theorem dX0_guess_94 : decode cX0_guess 94 = .ok (.iload 5, 2) := dk_21 5 (dk_at dksX0_guess_4 1 rfl rfl)
theorem dX0_guess_96 : decode cX0_guess 96 = .ok (.invokevirtual 549, 3) := dk_182 2 37 (dk_at dksX0_guess_4 3 rfl rfl)
theorem dX0_guess_99 : decode cX0_guess 99 = .ok (.aload_n 0, 1) := dk_42 (dk_at dksX0_guess_4 6 rfl rfl)
theorem dX0_guess_100 : decode cX0_guess 100 = .ok (.aload_n 0, 1) := dk_42 (dk_at dksX0_guess_4 7 rfl rfl)
theorem dX0_guess_101 : decode cX0_guess 101 = .ok (.iload_n 1, 1) := dk_27 (dk_at dksX0_guess_4 8 rfl rfl)
theorem dX0_guess_102 : decode cX0_guess 102 = .ok (.iload 6, 2) := dk_21 6 (dk_at dksX0_guess_4 9 rfl rfl)
theorem dX0_guess_104 : decode cX0_guess 104 = .ok (.invokedynamic 553, 5) := by decide +kernel
theorem dX0_guess_109 : decode cX0_guess 109 = .ok (.iconst 3, 1) := dk_6 (dk_at dksX0_guess_4 16 rfl rfl)
theorem dX0_guess_110 : decode cX0_guess 110 = .ok (.invokevirtual 516, 3) := dk_182 2 4 (dk_at dksX0_guess_4 17 rfl rfl)
theorem dX0_guess_113 : decode cX0_guess 113 = .ok (.aload_n 0, 1) := dk_42 (dk_at dksX0_guess_4 20 rfl rfl)
theorem dX0_guess_114 : decode cX0_guess 114 = .ok (.getfield 413, 3) := dk_180 1 157 (dk_at dksX0_guess_4 21 rfl rfl)
theorem dX0_guess_117 : decode cX0_guess 117 = .ok (.invokestatic 162, 3) := dk_184 0 162 (dk_at dksX0_guess_5 0 rfl rfl)
theorem dX0_guess_120 : decode cX0_guess 120 = .ok (.ireturn, 1) := dk_172 (dk_at dksX0_guess_5 3 rfl rfl)
def dkwX0_guesses_0 : List UInt8 := [42, 180, 0, 16, 180, 1, 154, 27, 28, 79, 177]
abbrev dktX0_guesses_0 : List UInt8 := dkwX0_guesses_0 ++ []
theorem dksX0_guesses_0 : cX0_guesses.data.toList.drop 0 = dktX0_guesses_0 := by decide +kernel
theorem dX0_guesses_0 : decode cX0_guesses 0 = .ok (.aload_n 0, 1) := dk_42 (dk_at dksX0_guesses_0 0 rfl rfl)
theorem dX0_guesses_1 : decode cX0_guesses 1 = .ok (.getfield 16, 3) := dk_180 0 16 (dk_at dksX0_guesses_0 1 rfl rfl)
theorem dX0_guesses_4 : decode cX0_guesses 4 = .ok (.getfield 410, 3) := dk_180 1 154 (dk_at dksX0_guesses_0 4 rfl rfl)
theorem dX0_guesses_7 : decode cX0_guesses 7 = .ok (.iload_n 1, 1) := dk_27 (dk_at dksX0_guesses_0 7 rfl rfl)
theorem dX0_guesses_8 : decode cX0_guesses 8 = .ok (.iload_n 2, 1) := dk_28 (dk_at dksX0_guesses_0 8 rfl rfl)
theorem dX0_guesses_9 : decode cX0_guesses 9 = .ok (.iastore, 1) := dk_79 (dk_at dksX0_guesses_0 9 rfl rfl)
theorem dX0_guesses_10 : decode cX0_guesses 10 = .ok (.return_, 1) := dk_177 (dk_at dksX0_guesses_0 10 rfl rfl)
def dkwX0_lambda_guess_6_0 : List UInt8 := [42, 27, 28, 182, 2, 37, 177]
abbrev dktX0_lambda_guess_6_0 : List UInt8 := dkwX0_lambda_guess_6_0 ++ []
theorem dksX0_lambda_guess_6_0 : cX0_lambda_guess_6.data.toList.drop 0 = dktX0_lambda_guess_6_0 := by decide +kernel
theorem dX0_lambda_guess_6_0 : decode cX0_lambda_guess_6 0 = .ok (.aload_n 0, 1) := dk_42 (dk_at dksX0_lambda_guess_6_0 0 rfl rfl)
theorem dX0_lambda_guess_6_1 : decode cX0_lambda_guess_6 1 = .ok (.iload_n 1, 1) := dk_27 (dk_at dksX0_lambda_guess_6_0 1 rfl rfl)
theorem dX0_lambda_guess_6_2 : decode cX0_lambda_guess_6 2 = .ok (.iload_n 2, 1) := dk_28 (dk_at dksX0_lambda_guess_6_0 2 rfl rfl)
theorem dX0_lambda_guess_6_3 : decode cX0_lambda_guess_6 3 = .ok (.invokevirtual 549, 3) := dk_182 2 37 (dk_at dksX0_lambda_guess_6_0 3 rfl rfl)
theorem dX0_lambda_guess_6_6 : decode cX0_lambda_guess_6 6 = .ok (.return_, 1) := dk_177 (dk_at dksX0_lambda_guess_6_0 6 rfl rfl)
def dkwX0_undo_2 : List UInt8 := [180, 2, 52, 182, 0, 99, 42, 180, 0, 128, 172]
abbrev dktX0_undo_2 : List UInt8 := dkwX0_undo_2 ++ []
def dkwX0_undo_1 : List UInt8 := [180, 0, 128, 50, 180, 2, 44, 185, 2, 48, 1, 0, 42, 42, 180, 0, 83, 42, 180, 0, 128, 50]
abbrev dktX0_undo_1 : List UInt8 := dkwX0_undo_1 ++ dktX0_undo_2
def dkwX0_undo_0 : List UInt8 := [42, 180, 0, 128, 154, 0, 5, 2, 172, 42, 89, 180, 0, 128, 4, 100, 181, 0, 128, 42, 180, 0, 83, 42]
abbrev dktX0_undo_0 : List UInt8 := dkwX0_undo_0 ++ dktX0_undo_1
theorem dksX0_undo_0 : cX0_undo.data.toList.drop 0 = dktX0_undo_0 := by decide +kernel
theorem dksX0_undo_1 : cX0_undo.data.toList.drop 24 = dktX0_undo_1 := dk_seg dksX0_undo_0 24 rfl rfl
theorem dksX0_undo_2 : cX0_undo.data.toList.drop 46 = dktX0_undo_2 := dk_seg dksX0_undo_1 22 rfl rfl
theorem dX0_undo_0 : decode cX0_undo 0 = .ok (.aload_n 0, 1) := dk_42 (dk_at dksX0_undo_0 0 rfl rfl)
theorem dX0_undo_1 : decode cX0_undo 1 = .ok (.getfield 128, 3) := dk_180 0 128 (dk_at dksX0_undo_0 1 rfl rfl)
theorem dX0_undo_4 : decode cX0_undo 4 = .ok (.ifCond .ne 5, 3) := dk_154 0 5 (dk_at dksX0_undo_0 4 rfl rfl)
theorem dX0_undo_7 : decode cX0_undo 7 = .ok (.iconst (-1), 1) := dk_2 (dk_at dksX0_undo_0 7 rfl rfl)
theorem dX0_undo_8 : decode cX0_undo 8 = .ok (.ireturn, 1) := dk_172 (dk_at dksX0_undo_0 8 rfl rfl)
theorem dX0_undo_9 : decode cX0_undo 9 = .ok (.aload_n 0, 1) := dk_42 (dk_at dksX0_undo_0 9 rfl rfl)
theorem dX0_undo_10 : decode cX0_undo 10 = .ok (.dup, 1) := dk_89 (dk_at dksX0_undo_0 10 rfl rfl)
theorem dX0_undo_11 : decode cX0_undo 11 = .ok (.getfield 128, 3) := dk_180 0 128 (dk_at dksX0_undo_0 11 rfl rfl)
theorem dX0_undo_14 : decode cX0_undo 14 = .ok (.iconst 1, 1) := dk_4 (dk_at dksX0_undo_0 14 rfl rfl)
theorem dX0_undo_15 : decode cX0_undo 15 = .ok (.isub, 1) := dk_100 (dk_at dksX0_undo_0 15 rfl rfl)
theorem dX0_undo_16 : decode cX0_undo 16 = .ok (.putfield 128, 3) := dk_181 0 128 (dk_at dksX0_undo_0 16 rfl rfl)
theorem dX0_undo_19 : decode cX0_undo 19 = .ok (.aload_n 0, 1) := dk_42 (dk_at dksX0_undo_0 19 rfl rfl)
theorem dX0_undo_20 : decode cX0_undo 20 = .ok (.getfield 83, 3) := dk_180 0 83 (dk_at dksX0_undo_0 20 rfl rfl)
theorem dX0_undo_23 : decode cX0_undo 23 = .ok (.aload_n 0, 1) := dk_42 (dk_at dksX0_undo_0 23 rfl rfl)
theorem dX0_undo_24 : decode cX0_undo 24 = .ok (.getfield 128, 3) := dk_180 0 128 (dk_at dksX0_undo_1 0 rfl rfl)
theorem dX0_undo_27 : decode cX0_undo 27 = .ok (.aaload, 1) := dk_50 (dk_at dksX0_undo_1 3 rfl rfl)
theorem dX0_undo_28 : decode cX0_undo 28 = .ok (.getfield 556, 3) := dk_180 2 44 (dk_at dksX0_undo_1 4 rfl rfl)
theorem dX0_undo_31 : decode cX0_undo 31 = .ok (.invokeinterface 560 1, 5) := by decide +kernel
theorem dX0_undo_36 : decode cX0_undo 36 = .ok (.aload_n 0, 1) := dk_42 (dk_at dksX0_undo_1 12 rfl rfl)
theorem dX0_undo_37 : decode cX0_undo 37 = .ok (.aload_n 0, 1) := dk_42 (dk_at dksX0_undo_1 13 rfl rfl)
theorem dX0_undo_38 : decode cX0_undo 38 = .ok (.getfield 83, 3) := dk_180 0 83 (dk_at dksX0_undo_1 14 rfl rfl)
theorem dX0_undo_41 : decode cX0_undo 41 = .ok (.aload_n 0, 1) := dk_42 (dk_at dksX0_undo_1 17 rfl rfl)
theorem dX0_undo_42 : decode cX0_undo 42 = .ok (.getfield 128, 3) := dk_180 0 128 (dk_at dksX0_undo_1 18 rfl rfl)
theorem dX0_undo_45 : decode cX0_undo 45 = .ok (.aaload, 1) := dk_50 (dk_at dksX0_undo_1 21 rfl rfl)
theorem dX0_undo_46 : decode cX0_undo 46 = .ok (.getfield 564, 3) := dk_180 2 52 (dk_at dksX0_undo_2 0 rfl rfl)
theorem dX0_undo_49 : decode cX0_undo 49 = .ok (.invokevirtual 99, 3) := dk_182 0 99 (dk_at dksX0_undo_2 3 rfl rfl)
theorem dX0_undo_52 : decode cX0_undo 52 = .ok (.aload_n 0, 1) := dk_42 (dk_at dksX0_undo_2 6 rfl rfl)
theorem dX0_undo_53 : decode cX0_undo 53 = .ok (.getfield 128, 3) := dk_180 0 128 (dk_at dksX0_undo_2 7 rfl rfl)
theorem dX0_undo_56 : decode cX0_undo 56 = .ok (.ireturn, 1) := dk_172 (dk_at dksX0_undo_2 10 rfl rfl)
def dkwX0_fits_4 : List UInt8 := [29, 167, 0, 4, 2, 172]
abbrev dktX0_fits_4 : List UInt8 := dkwX0_fits_4 ++ []
def dkwX0_fits_3 : List UInt8 := [28, 160, 0, 9, 25, 7, 180, 1, 112, 172, 132, 3, 1, 132, 6, 1, 167, 255, 207, 28, 2, 160, 0, 7]
abbrev dktX0_fits_3 : List UInt8 := dkwX0_fits_3 ++ dktX0_fits_4
def dkwX0_fits_2 : List UInt8 := [21, 6, 50, 58, 7, 42, 25, 7, 42, 180, 0, 22, 27, 50, 182, 2, 58, 154, 0, 6, 167, 0, 17, 29]
abbrev dktX0_fits_2 : List UInt8 := dkwX0_fits_2 ++ dktX0_fits_3
def dkwX0_fits_1 : List UInt8 := [62, 42, 180, 0, 65, 58, 4, 25, 4, 190, 54, 5, 3, 54, 6, 21, 6, 21, 5, 162, 0, 48, 25, 4]
abbrev dktX0_fits_1 : List UInt8 := dkwX0_fits_1 ++ dktX0_fits_2
def dkwX0_fits_0 : List UInt8 := [27, 133, 9, 42, 180, 0, 146, 4, 100, 133, 184, 0, 110, 153, 0, 8, 28, 2, 162, 0, 5, 2, 172, 3]
abbrev dktX0_fits_0 : List UInt8 := dkwX0_fits_0 ++ dktX0_fits_1
theorem dksX0_fits_0 : cX0_fits.data.toList.drop 0 = dktX0_fits_0 := by decide +kernel
theorem dksX0_fits_1 : cX0_fits.data.toList.drop 24 = dktX0_fits_1 := dk_seg dksX0_fits_0 24 rfl rfl
theorem dksX0_fits_2 : cX0_fits.data.toList.drop 48 = dktX0_fits_2 := dk_seg dksX0_fits_1 24 rfl rfl
theorem dksX0_fits_3 : cX0_fits.data.toList.drop 72 = dktX0_fits_3 := dk_seg dksX0_fits_2 24 rfl rfl
theorem dksX0_fits_4 : cX0_fits.data.toList.drop 96 = dktX0_fits_4 := dk_seg dksX0_fits_3 24 rfl rfl
theorem dX0_fits_0 : decode cX0_fits 0 = .ok (.iload_n 1, 1) := dk_27 (dk_at dksX0_fits_0 0 rfl rfl)
theorem dX0_fits_1 : decode cX0_fits 1 = .ok (.i2l, 1) := dk_133 (dk_at dksX0_fits_0 1 rfl rfl)
theorem dX0_fits_2 : decode cX0_fits 2 = .ok (.lconst 0, 1) := dk_9 (dk_at dksX0_fits_0 2 rfl rfl)
theorem dX0_fits_3 : decode cX0_fits 3 = .ok (.aload_n 0, 1) := dk_42 (dk_at dksX0_fits_0 3 rfl rfl)
theorem dX0_fits_4 : decode cX0_fits 4 = .ok (.getfield 146, 3) := dk_180 0 146 (dk_at dksX0_fits_0 4 rfl rfl)
theorem dX0_fits_7 : decode cX0_fits 7 = .ok (.iconst 1, 1) := dk_4 (dk_at dksX0_fits_0 7 rfl rfl)
theorem dX0_fits_8 : decode cX0_fits 8 = .ok (.isub, 1) := dk_100 (dk_at dksX0_fits_0 8 rfl rfl)
theorem dX0_fits_9 : decode cX0_fits 9 = .ok (.i2l, 1) := dk_133 (dk_at dksX0_fits_0 9 rfl rfl)
theorem dX0_fits_10 : decode cX0_fits 10 = .ok (.invokestatic 110, 3) := dk_184 0 110 (dk_at dksX0_fits_0 10 rfl rfl)
theorem dX0_fits_13 : decode cX0_fits 13 = .ok (.ifCond .eq 8, 3) := dk_153 0 8 (dk_at dksX0_fits_0 13 rfl rfl)
theorem dX0_fits_16 : decode cX0_fits 16 = .ok (.iload_n 2, 1) := dk_28 (dk_at dksX0_fits_0 16 rfl rfl)
theorem dX0_fits_17 : decode cX0_fits 17 = .ok (.iconst (-1), 1) := dk_2 (dk_at dksX0_fits_0 17 rfl rfl)
theorem dX0_fits_18 : decode cX0_fits 18 = .ok (.if_icmp .ge 5, 3) := dk_162 0 5 (dk_at dksX0_fits_0 18 rfl rfl)
theorem dX0_fits_21 : decode cX0_fits 21 = .ok (.iconst (-1), 1) := dk_2 (dk_at dksX0_fits_0 21 rfl rfl)
theorem dX0_fits_22 : decode cX0_fits 22 = .ok (.ireturn, 1) := dk_172 (dk_at dksX0_fits_0 22 rfl rfl)
theorem dX0_fits_23 : decode cX0_fits 23 = .ok (.iconst 0, 1) := dk_3 (dk_at dksX0_fits_0 23 rfl rfl)
theorem dX0_fits_24 : decode cX0_fits 24 = .ok (.istore_n 3, 1) := dk_62 (dk_at dksX0_fits_1 0 rfl rfl)
theorem dX0_fits_25 : decode cX0_fits 25 = .ok (.aload_n 0, 1) := dk_42 (dk_at dksX0_fits_1 1 rfl rfl)
theorem dX0_fits_26 : decode cX0_fits 26 = .ok (.getfield 65, 3) := dk_180 0 65 (dk_at dksX0_fits_1 2 rfl rfl)
theorem dX0_fits_29 : decode cX0_fits 29 = .ok (.astore 4, 2) := dk_58 4 (dk_at dksX0_fits_1 5 rfl rfl)
theorem dX0_fits_31 : decode cX0_fits 31 = .ok (.aload 4, 2) := dk_25 4 (dk_at dksX0_fits_1 7 rfl rfl)
theorem dX0_fits_33 : decode cX0_fits 33 = .ok (.arraylength, 1) := dk_190 (dk_at dksX0_fits_1 9 rfl rfl)
theorem dX0_fits_34 : decode cX0_fits 34 = .ok (.istore 5, 2) := dk_54 5 (dk_at dksX0_fits_1 10 rfl rfl)
theorem dX0_fits_36 : decode cX0_fits 36 = .ok (.iconst 0, 1) := dk_3 (dk_at dksX0_fits_1 12 rfl rfl)
theorem dX0_fits_37 : decode cX0_fits 37 = .ok (.istore 6, 2) := dk_54 6 (dk_at dksX0_fits_1 13 rfl rfl)
theorem dX0_fits_39 : decode cX0_fits 39 = .ok (.iload 6, 2) := dk_21 6 (dk_at dksX0_fits_1 15 rfl rfl)
theorem dX0_fits_41 : decode cX0_fits 41 = .ok (.iload 5, 2) := dk_21 5 (dk_at dksX0_fits_1 17 rfl rfl)
theorem dX0_fits_43 : decode cX0_fits 43 = .ok (.if_icmp .ge 48, 3) := dk_162 0 48 (dk_at dksX0_fits_1 19 rfl rfl)
theorem dX0_fits_46 : decode cX0_fits 46 = .ok (.aload 4, 2) := dk_25 4 (dk_at dksX0_fits_1 22 rfl rfl)
theorem dX0_fits_48 : decode cX0_fits 48 = .ok (.iload 6, 2) := dk_21 6 (dk_at dksX0_fits_2 0 rfl rfl)
theorem dX0_fits_50 : decode cX0_fits 50 = .ok (.aaload, 1) := dk_50 (dk_at dksX0_fits_2 2 rfl rfl)
theorem dX0_fits_51 : decode cX0_fits 51 = .ok (.astore 7, 2) := dk_58 7 (dk_at dksX0_fits_2 3 rfl rfl)
theorem dX0_fits_53 : decode cX0_fits 53 = .ok (.aload_n 0, 1) := dk_42 (dk_at dksX0_fits_2 5 rfl rfl)
theorem dX0_fits_54 : decode cX0_fits 54 = .ok (.aload 7, 2) := dk_25 7 (dk_at dksX0_fits_2 6 rfl rfl)
theorem dX0_fits_56 : decode cX0_fits 56 = .ok (.aload_n 0, 1) := dk_42 (dk_at dksX0_fits_2 8 rfl rfl)
theorem dX0_fits_57 : decode cX0_fits 57 = .ok (.getfield 22, 3) := dk_180 0 22 (dk_at dksX0_fits_2 9 rfl rfl)
theorem dX0_fits_60 : decode cX0_fits 60 = .ok (.iload_n 1, 1) := dk_27 (dk_at dksX0_fits_2 12 rfl rfl)
theorem dX0_fits_61 : decode cX0_fits 61 = .ok (.aaload, 1) := dk_50 (dk_at dksX0_fits_2 13 rfl rfl)
theorem dX0_fits_62 : decode cX0_fits 62 = .ok (.invokevirtual 570, 3) := dk_182 2 58 (dk_at dksX0_fits_2 14 rfl rfl)
theorem dX0_fits_65 : decode cX0_fits 65 = .ok (.ifCond .ne 6, 3) := dk_154 0 6 (dk_at dksX0_fits_2 17 rfl rfl)
theorem dX0_fits_68 : decode cX0_fits 68 = .ok (.goto 17, 3) := dk_167 0 17 (dk_at dksX0_fits_2 20 rfl rfl)
theorem dX0_fits_71 : decode cX0_fits 71 = .ok (.iload_n 3, 1) := dk_29 (dk_at dksX0_fits_2 23 rfl rfl)
theorem dX0_fits_72 : decode cX0_fits 72 = .ok (.iload_n 2, 1) := dk_28 (dk_at dksX0_fits_3 0 rfl rfl)
theorem dX0_fits_73 : decode cX0_fits 73 = .ok (.if_icmp .ne 9, 3) := dk_160 0 9 (dk_at dksX0_fits_3 1 rfl rfl)
theorem dX0_fits_76 : decode cX0_fits 76 = .ok (.aload 7, 2) := dk_25 7 (dk_at dksX0_fits_3 4 rfl rfl)
theorem dX0_fits_78 : decode cX0_fits 78 = .ok (.getfield 368, 3) := dk_180 1 112 (dk_at dksX0_fits_3 6 rfl rfl)
theorem dX0_fits_81 : decode cX0_fits 81 = .ok (.ireturn, 1) := dk_172 (dk_at dksX0_fits_3 9 rfl rfl)
theorem dX0_fits_82 : decode cX0_fits 82 = .ok (.iinc 3 1, 3) := dk_132 3 1 (dk_at dksX0_fits_3 10 rfl rfl)
theorem dX0_fits_85 : decode cX0_fits 85 = .ok (.iinc 6 1, 3) := dk_132 6 1 (dk_at dksX0_fits_3 13 rfl rfl)
theorem dX0_fits_88 : decode cX0_fits 88 = .ok (.goto (-49), 3) := dk_167 255 207 (dk_at dksX0_fits_3 16 rfl rfl)
theorem dX0_fits_91 : decode cX0_fits 91 = .ok (.iload_n 2, 1) := dk_28 (dk_at dksX0_fits_3 19 rfl rfl)
theorem dX0_fits_92 : decode cX0_fits 92 = .ok (.iconst (-1), 1) := dk_2 (dk_at dksX0_fits_3 20 rfl rfl)
theorem dX0_fits_93 : decode cX0_fits 93 = .ok (.if_icmp .ne 7, 3) := dk_160 0 7 (dk_at dksX0_fits_3 21 rfl rfl)
theorem dX0_fits_96 : decode cX0_fits 96 = .ok (.iload_n 3, 1) := dk_29 (dk_at dksX0_fits_4 0 rfl rfl)
theorem dX0_fits_97 : decode cX0_fits 97 = .ok (.goto 4, 3) := dk_167 0 4 (dk_at dksX0_fits_4 1 rfl rfl)
theorem dX0_fits_100 : decode cX0_fits 100 = .ok (.iconst (-1), 1) := dk_2 (dk_at dksX0_fits_4 4 rfl rfl)
theorem dX0_fits_101 : decode cX0_fits 101 = .ok (.ireturn, 1) := dk_172 (dk_at dksX0_fits_4 5 rfl rfl)
def dkwX0_doFit_4 : List UInt8 := [167, 255, 176, 4, 172]
abbrev dktX0_doFit_4 : List UInt8 := dkwX0_doFit_4 ++ []
def dkwX0_doFit_3 : List UInt8 := [29, 46, 160, 0, 7, 4, 167, 0, 4, 3, 159, 0, 5, 3, 172, 132, 4, 1, 167, 255, 208, 132, 3, 1]
abbrev dktX0_doFit_3 : List UInt8 := dkwX0_doFit_3 ++ dktX0_doFit_4
def dkwX0_doFit_2 : List UInt8 := [43, 21, 4, 182, 1, 118, 43, 29, 182, 1, 118, 160, 0, 7, 4, 167, 0, 4, 3, 44, 21, 4, 46, 44]
abbrev dktX0_doFit_2 : List UInt8 := dkwX0_doFit_2 ++ dktX0_doFit_3
def dkwX0_doFit_1 : List UInt8 := [29, 182, 1, 118, 44, 29, 46, 182, 2, 55, 154, 0, 5, 3, 172, 3, 54, 4, 21, 4, 29, 162, 0, 48]
abbrev dktX0_doFit_1 : List UInt8 := dkwX0_doFit_1 ++ dktX0_doFit_2
def dkwX0_doFit_0 : List UInt8 := [43, 180, 1, 115, 182, 1, 6, 44, 190, 159, 0, 5, 3, 172, 3, 62, 29, 44, 190, 162, 0, 80, 42, 43]
abbrev dktX0_doFit_0 : List UInt8 := dkwX0_doFit_0 ++ dktX0_doFit_1
theorem dksX0_doFit_0 : cX0_doFit.data.toList.drop 0 = dktX0_doFit_0 := by decide +kernel
theorem dksX0_doFit_1 : cX0_doFit.data.toList.drop 24 = dktX0_doFit_1 := dk_seg dksX0_doFit_0 24 rfl rfl
theorem dksX0_doFit_2 : cX0_doFit.data.toList.drop 48 = dktX0_doFit_2 := dk_seg dksX0_doFit_1 24 rfl rfl
theorem dksX0_doFit_3 : cX0_doFit.data.toList.drop 72 = dktX0_doFit_3 := dk_seg dksX0_doFit_2 24 rfl rfl
theorem dksX0_doFit_4 : cX0_doFit.data.toList.drop 96 = dktX0_doFit_4 := dk_seg dksX0_doFit_3 24 rfl rfl
theorem dX0_doFit_0 : decode cX0_doFit 0 = .ok (.aload_n 1, 1) := dk_43 (dk_at dksX0_doFit_0 0 rfl rfl)
theorem dX0_doFit_1 : decode cX0_doFit 1 = .ok (.getfield 371, 3) := dk_180 1 115 (dk_at dksX0_doFit_0 1 rfl rfl)
theorem dX0_doFit_4 : decode cX0_doFit 4 = .ok (.invokevirtual 262, 3) := dk_182 1 6 (dk_at dksX0_doFit_0 4 rfl rfl)
theorem dX0_doFit_7 : decode cX0_doFit 7 = .ok (.aload_n 2, 1) := dk_44 (dk_at dksX0_doFit_0 7 rfl rfl)
theorem dX0_doFit_8 : decode cX0_doFit 8 = .ok (.arraylength, 1) := dk_190 (dk_at dksX0_doFit_0 8 rfl rfl)
theorem dX0_doFit_9 : decode cX0_doFit 9 = .ok (.if_icmp .eq 5, 3) := dk_159 0 5 (dk_at dksX0_doFit_0 9 rfl rfl)
theorem dX0_doFit_12 : decode cX0_doFit 12 = .ok (.iconst 0, 1) := dk_3 (dk_at dksX0_doFit_0 12 rfl rfl)
theorem dX0_doFit_13 : decode cX0_doFit 13 = .ok (.ireturn, 1) := dk_172 (dk_at dksX0_doFit_0 13 rfl rfl)
theorem dX0_doFit_14 : decode cX0_doFit 14 = .ok (.iconst 0, 1) := dk_3 (dk_at dksX0_doFit_0 14 rfl rfl)
theorem dX0_doFit_15 : decode cX0_doFit 15 = .ok (.istore_n 3, 1) := dk_62 (dk_at dksX0_doFit_0 15 rfl rfl)
theorem dX0_doFit_16 : decode cX0_doFit 16 = .ok (.iload_n 3, 1) := dk_29 (dk_at dksX0_doFit_0 16 rfl rfl)
theorem dX0_doFit_17 : decode cX0_doFit 17 = .ok (.aload_n 2, 1) := dk_44 (dk_at dksX0_doFit_0 17 rfl rfl)
theorem dX0_doFit_18 : decode cX0_doFit 18 = .ok (.arraylength, 1) := dk_190 (dk_at dksX0_doFit_0 18 rfl rfl)
theorem dX0_doFit_19 : decode cX0_doFit 19 = .ok (.if_icmp .ge 80, 3) := dk_162 0 80 (dk_at dksX0_doFit_0 19 rfl rfl)
theorem dX0_doFit_22 : decode cX0_doFit 22 = .ok (.aload_n 0, 1) := dk_42 (dk_at dksX0_doFit_0 22 rfl rfl)
theorem dX0_doFit_23 : decode cX0_doFit 23 = .ok (.aload_n 1, 1) := dk_43 (dk_at dksX0_doFit_0 23 rfl rfl)
theorem dX0_doFit_24 : decode cX0_doFit 24 = .ok (.iload_n 3, 1) := dk_29 (dk_at dksX0_doFit_1 0 rfl rfl)
theorem dX0_doFit_25 : decode cX0_doFit 25 = .ok (.invokevirtual 374, 3) := dk_182 1 118 (dk_at dksX0_doFit_1 1 rfl rfl)
theorem dX0_doFit_28 : decode cX0_doFit 28 = .ok (.aload_n 2, 1) := dk_44 (dk_at dksX0_doFit_1 4 rfl rfl)
theorem dX0_doFit_29 : decode cX0_doFit 29 = .ok (.iload_n 3, 1) := dk_29 (dk_at dksX0_doFit_1 5 rfl rfl)
theorem dX0_doFit_30 : decode cX0_doFit 30 = .ok (.iaload, 1) := dk_46 (dk_at dksX0_doFit_1 6 rfl rfl)
theorem dX0_doFit_31 : decode cX0_doFit 31 = .ok (.invokevirtual 567, 3) := dk_182 2 55 (dk_at dksX0_doFit_1 7 rfl rfl)
theorem dX0_doFit_34 : decode cX0_doFit 34 = .ok (.ifCond .ne 5, 3) := dk_154 0 5 (dk_at dksX0_doFit_1 10 rfl rfl)
theorem dX0_doFit_37 : decode cX0_doFit 37 = .ok (.iconst 0, 1) := dk_3 (dk_at dksX0_doFit_1 13 rfl rfl)
theorem dX0_doFit_38 : decode cX0_doFit 38 = .ok (.ireturn, 1) := dk_172 (dk_at dksX0_doFit_1 14 rfl rfl)
theorem dX0_doFit_39 : decode cX0_doFit 39 = .ok (.iconst 0, 1) := dk_3 (dk_at dksX0_doFit_1 15 rfl rfl)
theorem dX0_doFit_40 : decode cX0_doFit 40 = .ok (.istore 4, 2) := dk_54 4 (dk_at dksX0_doFit_1 16 rfl rfl)
theorem dX0_doFit_42 : decode cX0_doFit 42 = .ok (.iload 4, 2) := dk_21 4 (dk_at dksX0_doFit_1 18 rfl rfl)
theorem dX0_doFit_44 : decode cX0_doFit 44 = .ok (.iload_n 3, 1) := dk_29 (dk_at dksX0_doFit_1 20 rfl rfl)
theorem dX0_doFit_45 : decode cX0_doFit 45 = .ok (.if_icmp .ge 48, 3) := dk_162 0 48 (dk_at dksX0_doFit_1 21 rfl rfl)
theorem dX0_doFit_48 : decode cX0_doFit 48 = .ok (.aload_n 1, 1) := dk_43 (dk_at dksX0_doFit_2 0 rfl rfl)
theorem dX0_doFit_49 : decode cX0_doFit 49 = .ok (.iload 4, 2) := dk_21 4 (dk_at dksX0_doFit_2 1 rfl rfl)
theorem dX0_doFit_51 : decode cX0_doFit 51 = .ok (.invokevirtual 374, 3) := dk_182 1 118 (dk_at dksX0_doFit_2 3 rfl rfl)
theorem dX0_doFit_54 : decode cX0_doFit 54 = .ok (.aload_n 1, 1) := dk_43 (dk_at dksX0_doFit_2 6 rfl rfl)
theorem dX0_doFit_55 : decode cX0_doFit 55 = .ok (.iload_n 3, 1) := dk_29 (dk_at dksX0_doFit_2 7 rfl rfl)
theorem dX0_doFit_56 : decode cX0_doFit 56 = .ok (.invokevirtual 374, 3) := dk_182 1 118 (dk_at dksX0_doFit_2 8 rfl rfl)
theorem dX0_doFit_59 : decode cX0_doFit 59 = .ok (.if_icmp .ne 7, 3) := dk_160 0 7 (dk_at dksX0_doFit_2 11 rfl rfl)
theorem dX0_doFit_62 : decode cX0_doFit 62 = .ok (.iconst 1, 1) := dk_4 (dk_at dksX0_doFit_2 14 rfl rfl)
theorem dX0_doFit_63 : decode cX0_doFit 63 = .ok (.goto 4, 3) := dk_167 0 4 (dk_at dksX0_doFit_2 15 rfl rfl)
theorem dX0_doFit_66 : decode cX0_doFit 66 = .ok (.iconst 0, 1) := dk_3 (dk_at dksX0_doFit_2 18 rfl rfl)
theorem dX0_doFit_67 : decode cX0_doFit 67 = .ok (.aload_n 2, 1) := dk_44 (dk_at dksX0_doFit_2 19 rfl rfl)
theorem dX0_doFit_68 : decode cX0_doFit 68 = .ok (.iload 4, 2) := dk_21 4 (dk_at dksX0_doFit_2 20 rfl rfl)
theorem dX0_doFit_70 : decode cX0_doFit 70 = .ok (.iaload, 1) := dk_46 (dk_at dksX0_doFit_2 22 rfl rfl)
theorem dX0_doFit_71 : decode cX0_doFit 71 = .ok (.aload_n 2, 1) := dk_44 (dk_at dksX0_doFit_2 23 rfl rfl)
theorem dX0_doFit_72 : decode cX0_doFit 72 = .ok (.iload_n 3, 1) := dk_29 (dk_at dksX0_doFit_3 0 rfl rfl)
theorem dX0_doFit_73 : decode cX0_doFit 73 = .ok (.iaload, 1) := dk_46 (dk_at dksX0_doFit_3 1 rfl rfl)
theorem dX0_doFit_74 : decode cX0_doFit 74 = .ok (.if_icmp .ne 7, 3) := dk_160 0 7 (dk_at dksX0_doFit_3 2 rfl rfl)
theorem dX0_doFit_77 : decode cX0_doFit 77 = .ok (.iconst 1, 1) := dk_4 (dk_at dksX0_doFit_3 5 rfl rfl)
theorem dX0_doFit_78 : decode cX0_doFit 78 = .ok (.goto 4, 3) := dk_167 0 4 (dk_at dksX0_doFit_3 6 rfl rfl)
theorem dX0_doFit_81 : decode cX0_doFit 81 = .ok (.iconst 0, 1) := dk_3 (dk_at dksX0_doFit_3 9 rfl rfl)
theorem dX0_doFit_82 : decode cX0_doFit 82 = .ok (.if_icmp .eq 5, 3) := dk_159 0 5 (dk_at dksX0_doFit_3 10 rfl rfl)
theorem dX0_doFit_85 : decode cX0_doFit 85 = .ok (.iconst 0, 1) := dk_3 (dk_at dksX0_doFit_3 13 rfl rfl)
theorem dX0_doFit_86 : decode cX0_doFit 86 = .ok (.ireturn, 1) := dk_172 (dk_at dksX0_doFit_3 14 rfl rfl)
theorem dX0_doFit_87 : decode cX0_doFit 87 = .ok (.iinc 4 1, 3) := dk_132 4 1 (dk_at dksX0_doFit_3 15 rfl rfl)
theorem dX0_doFit_90 : decode cX0_doFit 90 = .ok (.goto (-48), 3) := dk_167 255 208 (dk_at dksX0_doFit_3 18 rfl rfl)
theorem dX0_doFit_93 : decode cX0_doFit 93 = .ok (.iinc 3 1, 3) := dk_132 3 1 (dk_at dksX0_doFit_3 21 rfl rfl)
theorem dX0_doFit_96 : decode cX0_doFit 96 = .ok (.goto (-80), 3) := dk_167 255 176 (dk_at dksX0_doFit_4 0 rfl rfl)
theorem dX0_doFit_99 : decode cX0_doFit 99 = .ok (.iconst 1, 1) := dk_4 (dk_at dksX0_doFit_4 3 rfl rfl)
theorem dX0_doFit_100 : decode cX0_doFit 100 = .ok (.ireturn, 1) := dk_172 (dk_at dksX0_doFit_4 4 rfl rfl)
def dkwX0_may_2 : List UInt8 := [167, 0, 4, 3, 172]
abbrev dktX0_may_2 : List UInt8 := dkwX0_may_2 ++ []
def dkwX0_may_1 : List UInt8 := [180, 0, 78, 27, 46, 2, 159, 0, 15, 42, 180, 0, 78, 27, 46, 28, 8, 112, 160, 0, 7, 4]
abbrev dktX0_may_1 : List UInt8 := dkwX0_may_1 ++ dktX0_may_2
def dkwX0_may_0 : List UInt8 := [42, 180, 0, 75, 27, 46, 2, 159, 0, 15, 42, 180, 0, 75, 27, 46, 28, 8, 108, 160, 0, 29, 42]
abbrev dktX0_may_0 : List UInt8 := dkwX0_may_0 ++ dktX0_may_1
theorem dksX0_may_0 : cX0_may.data.toList.drop 0 = dktX0_may_0 := by decide +kernel
theorem dksX0_may_1 : cX0_may.data.toList.drop 23 = dktX0_may_1 := dk_seg dksX0_may_0 23 rfl rfl
theorem dksX0_may_2 : cX0_may.data.toList.drop 45 = dktX0_may_2 := dk_seg dksX0_may_1 22 rfl rfl
theorem dX0_may_0 : decode cX0_may 0 = .ok (.aload_n 0, 1) := dk_42 (dk_at dksX0_may_0 0 rfl rfl)
theorem dX0_may_1 : decode cX0_may 1 = .ok (.getfield 75, 3) := dk_180 0 75 (dk_at dksX0_may_0 1 rfl rfl)
theorem dX0_may_4 : decode cX0_may 4 = .ok (.iload_n 1, 1) := dk_27 (dk_at dksX0_may_0 4 rfl rfl)
theorem dX0_may_5 : decode cX0_may 5 = .ok (.iaload, 1) := dk_46 (dk_at dksX0_may_0 5 rfl rfl)
theorem dX0_may_6 : decode cX0_may 6 = .ok (.iconst (-1), 1) := dk_2 (dk_at dksX0_may_0 6 rfl rfl)
theorem dX0_may_7 : decode cX0_may 7 = .ok (.if_icmp .eq 15, 3) := dk_159 0 15 (dk_at dksX0_may_0 7 rfl rfl)
theorem dX0_may_10 : decode cX0_may 10 = .ok (.aload_n 0, 1) := dk_42 (dk_at dksX0_may_0 10 rfl rfl)
theorem dX0_may_11 : decode cX0_may 11 = .ok (.getfield 75, 3) := dk_180 0 75 (dk_at dksX0_may_0 11 rfl rfl)
theorem dX0_may_14 : decode cX0_may 14 = .ok (.iload_n 1, 1) := dk_27 (dk_at dksX0_may_0 14 rfl rfl)
theorem dX0_may_15 : decode cX0_may 15 = .ok (.iaload, 1) := dk_46 (dk_at dksX0_may_0 15 rfl rfl)
theorem dX0_may_16 : decode cX0_may 16 = .ok (.iload_n 2, 1) := dk_28 (dk_at dksX0_may_0 16 rfl rfl)
theorem dX0_may_17 : decode cX0_may 17 = .ok (.iconst 5, 1) := dk_8 (dk_at dksX0_may_0 17 rfl rfl)
theorem dX0_may_18 : decode cX0_may 18 = .ok (.idiv, 1) := dk_108 (dk_at dksX0_may_0 18 rfl rfl)
theorem dX0_may_19 : decode cX0_may 19 = .ok (.if_icmp .ne 29, 3) := dk_160 0 29 (dk_at dksX0_may_0 19 rfl rfl)
theorem dX0_may_22 : decode cX0_may 22 = .ok (.aload_n 0, 1) := dk_42 (dk_at dksX0_may_0 22 rfl rfl)
theorem dX0_may_23 : decode cX0_may 23 = .ok (.getfield 78, 3) := dk_180 0 78 (dk_at dksX0_may_1 0 rfl rfl)
theorem dX0_may_26 : decode cX0_may 26 = .ok (.iload_n 1, 1) := dk_27 (dk_at dksX0_may_1 3 rfl rfl)
theorem dX0_may_27 : decode cX0_may 27 = .ok (.iaload, 1) := dk_46 (dk_at dksX0_may_1 4 rfl rfl)
theorem dX0_may_28 : decode cX0_may 28 = .ok (.iconst (-1), 1) := dk_2 (dk_at dksX0_may_1 5 rfl rfl)
theorem dX0_may_29 : decode cX0_may 29 = .ok (.if_icmp .eq 15, 3) := dk_159 0 15 (dk_at dksX0_may_1 6 rfl rfl)
theorem dX0_may_32 : decode cX0_may 32 = .ok (.aload_n 0, 1) := dk_42 (dk_at dksX0_may_1 9 rfl rfl)
theorem dX0_may_33 : decode cX0_may 33 = .ok (.getfield 78, 3) := dk_180 0 78 (dk_at dksX0_may_1 10 rfl rfl)
theorem dX0_may_36 : decode cX0_may 36 = .ok (.iload_n 1, 1) := dk_27 (dk_at dksX0_may_1 13 rfl rfl)
theorem dX0_may_37 : decode cX0_may 37 = .ok (.iaload, 1) := dk_46 (dk_at dksX0_may_1 14 rfl rfl)
theorem dX0_may_38 : decode cX0_may 38 = .ok (.iload_n 2, 1) := dk_28 (dk_at dksX0_may_1 15 rfl rfl)
theorem dX0_may_39 : decode cX0_may 39 = .ok (.iconst 5, 1) := dk_8 (dk_at dksX0_may_1 16 rfl rfl)
theorem dX0_may_40 : decode cX0_may 40 = .ok (.irem, 1) := dk_112 (dk_at dksX0_may_1 17 rfl rfl)
theorem dX0_may_41 : decode cX0_may 41 = .ok (.if_icmp .ne 7, 3) := dk_160 0 7 (dk_at dksX0_may_1 18 rfl rfl)
theorem dX0_may_44 : decode cX0_may 44 = .ok (.iconst 1, 1) := dk_4 (dk_at dksX0_may_1 21 rfl rfl)
theorem dX0_may_45 : decode cX0_may 45 = .ok (.goto 4, 3) := dk_167 0 4 (dk_at dksX0_may_2 0 rfl rfl)
theorem dX0_may_48 : decode cX0_may 48 = .ok (.iconst 0, 1) := dk_3 (dk_at dksX0_may_2 3 rfl rfl)
theorem dX0_may_49 : decode cX0_may 49 = .ok (.ireturn, 1) := dk_172 (dk_at dksX0_may_2 4 rfl rfl)
theorem dX0_hits_0 : decode cX0_hits 0 = .ok (.aload_n 0, 1) := by decide +kernel
theorem dX0_hits_1 : decode cX0_hits 1 = .ok (.invokevirtual 578, 3) := by decide +kernel
theorem dX0_hits_4 : decode cX0_hits 4 = .ok (.ireturn, 1) := by decide +kernel
def dkwX0_hitsNow_3 : List UInt8 := [3, 96, 60, 132, 6, 1, 167, 255, 220, 132, 4, 1, 167, 255, 187, 27, 172]
abbrev dktX0_hitsNow_3 : List UInt8 := dkwX0_hitsNow_3 ++ []
def dkwX0_hitsNow_2 : List UInt8 := [162, 0, 33, 27, 42, 25, 5, 42, 180, 0, 22, 21, 6, 50, 182, 2, 58, 153, 0, 7, 4, 167, 0, 4]
abbrev dktX0_hitsNow_2 : List UInt8 := dkwX0_hitsNow_2 ++ dktX0_hitsNow_3
def dkwX0_hitsNow_1 : List UInt8 := [58, 5, 42, 25, 5, 182, 2, 62, 154, 0, 6, 167, 0, 45, 3, 54, 6, 21, 6, 42, 180, 0, 146]
abbrev dktX0_hitsNow_1 : List UInt8 := dkwX0_hitsNow_1 ++ dktX0_hitsNow_2
def dkwX0_hitsNow_0 : List UInt8 := [3, 60, 42, 180, 0, 65, 77, 44, 190, 62, 3, 54, 4, 21, 4, 29, 162, 0, 69, 44, 21, 4, 50]
abbrev dktX0_hitsNow_0 : List UInt8 := dkwX0_hitsNow_0 ++ dktX0_hitsNow_1
theorem dksX0_hitsNow_0 : cX0_hitsNow.data.toList.drop 0 = dktX0_hitsNow_0 := by decide +kernel
theorem dksX0_hitsNow_1 : cX0_hitsNow.data.toList.drop 23 = dktX0_hitsNow_1 := dk_seg dksX0_hitsNow_0 23 rfl rfl
theorem dksX0_hitsNow_2 : cX0_hitsNow.data.toList.drop 46 = dktX0_hitsNow_2 := dk_seg dksX0_hitsNow_1 23 rfl rfl
theorem dksX0_hitsNow_3 : cX0_hitsNow.data.toList.drop 70 = dktX0_hitsNow_3 := dk_seg dksX0_hitsNow_2 24 rfl rfl
theorem dX0_hitsNow_0 : decode cX0_hitsNow 0 = .ok (.iconst 0, 1) := dk_3 (dk_at dksX0_hitsNow_0 0 rfl rfl)
theorem dX0_hitsNow_1 : decode cX0_hitsNow 1 = .ok (.istore_n 1, 1) := dk_60 (dk_at dksX0_hitsNow_0 1 rfl rfl)
theorem dX0_hitsNow_2 : decode cX0_hitsNow 2 = .ok (.aload_n 0, 1) := dk_42 (dk_at dksX0_hitsNow_0 2 rfl rfl)
theorem dX0_hitsNow_3 : decode cX0_hitsNow 3 = .ok (.getfield 65, 3) := dk_180 0 65 (dk_at dksX0_hitsNow_0 3 rfl rfl)
theorem dX0_hitsNow_6 : decode cX0_hitsNow 6 = .ok (.astore_n 2, 1) := dk_77 (dk_at dksX0_hitsNow_0 6 rfl rfl)
theorem dX0_hitsNow_7 : decode cX0_hitsNow 7 = .ok (.aload_n 2, 1) := dk_44 (dk_at dksX0_hitsNow_0 7 rfl rfl)
theorem dX0_hitsNow_8 : decode cX0_hitsNow 8 = .ok (.arraylength, 1) := dk_190 (dk_at dksX0_hitsNow_0 8 rfl rfl)
theorem dX0_hitsNow_9 : decode cX0_hitsNow 9 = .ok (.istore_n 3, 1) := dk_62 (dk_at dksX0_hitsNow_0 9 rfl rfl)
theorem dX0_hitsNow_10 : decode cX0_hitsNow 10 = .ok (.iconst 0, 1) := dk_3 (dk_at dksX0_hitsNow_0 10 rfl rfl)
theorem dX0_hitsNow_11 : decode cX0_hitsNow 11 = .ok (.istore 4, 2) := dk_54 4 (dk_at dksX0_hitsNow_0 11 rfl rfl)
theorem dX0_hitsNow_13 : decode cX0_hitsNow 13 = .ok (.iload 4, 2) := dk_21 4 (dk_at dksX0_hitsNow_0 13 rfl rfl)
theorem dX0_hitsNow_15 : decode cX0_hitsNow 15 = .ok (.iload_n 3, 1) := dk_29 (dk_at dksX0_hitsNow_0 15 rfl rfl)
theorem dX0_hitsNow_16 : decode cX0_hitsNow 16 = .ok (.if_icmp .ge 69, 3) := dk_162 0 69 (dk_at dksX0_hitsNow_0 16 rfl rfl)
theorem dX0_hitsNow_19 : decode cX0_hitsNow 19 = .ok (.aload_n 2, 1) := dk_44 (dk_at dksX0_hitsNow_0 19 rfl rfl)
theorem dX0_hitsNow_20 : decode cX0_hitsNow 20 = .ok (.iload 4, 2) := dk_21 4 (dk_at dksX0_hitsNow_0 20 rfl rfl)
theorem dX0_hitsNow_22 : decode cX0_hitsNow 22 = .ok (.aaload, 1) := dk_50 (dk_at dksX0_hitsNow_0 22 rfl rfl)
theorem dX0_hitsNow_23 : decode cX0_hitsNow 23 = .ok (.astore 5, 2) := dk_58 5 (dk_at dksX0_hitsNow_1 0 rfl rfl)
theorem dX0_hitsNow_25 : decode cX0_hitsNow 25 = .ok (.aload_n 0, 1) := dk_42 (dk_at dksX0_hitsNow_1 2 rfl rfl)
theorem dX0_hitsNow_26 : decode cX0_hitsNow 26 = .ok (.aload 5, 2) := dk_25 5 (dk_at dksX0_hitsNow_1 3 rfl rfl)
theorem dX0_hitsNow_28 : decode cX0_hitsNow 28 = .ok (.invokevirtual 574, 3) := dk_182 2 62 (dk_at dksX0_hitsNow_1 5 rfl rfl)
theorem dX0_hitsNow_31 : decode cX0_hitsNow 31 = .ok (.ifCond .ne 6, 3) := dk_154 0 6 (dk_at dksX0_hitsNow_1 8 rfl rfl)
theorem dX0_hitsNow_34 : decode cX0_hitsNow 34 = .ok (.goto 45, 3) := dk_167 0 45 (dk_at dksX0_hitsNow_1 11 rfl rfl)
theorem dX0_hitsNow_37 : decode cX0_hitsNow 37 = .ok (.iconst 0, 1) := dk_3 (dk_at dksX0_hitsNow_1 14 rfl rfl)
theorem dX0_hitsNow_38 : decode cX0_hitsNow 38 = .ok (.istore 6, 2) := dk_54 6 (dk_at dksX0_hitsNow_1 15 rfl rfl)
theorem dX0_hitsNow_40 : decode cX0_hitsNow 40 = .ok (.iload 6, 2) := dk_21 6 (dk_at dksX0_hitsNow_1 17 rfl rfl)
theorem dX0_hitsNow_42 : decode cX0_hitsNow 42 = .ok (.aload_n 0, 1) := dk_42 (dk_at dksX0_hitsNow_1 19 rfl rfl)
theorem dX0_hitsNow_43 : decode cX0_hitsNow 43 = .ok (.getfield 146, 3) := dk_180 0 146 (dk_at dksX0_hitsNow_1 20 rfl rfl)
theorem dX0_hitsNow_46 : decode cX0_hitsNow 46 = .ok (.if_icmp .ge 33, 3) := dk_162 0 33 (dk_at dksX0_hitsNow_2 0 rfl rfl)
theorem dX0_hitsNow_49 : decode cX0_hitsNow 49 = .ok (.iload_n 1, 1) := dk_27 (dk_at dksX0_hitsNow_2 3 rfl rfl)
theorem dX0_hitsNow_50 : decode cX0_hitsNow 50 = .ok (.aload_n 0, 1) := dk_42 (dk_at dksX0_hitsNow_2 4 rfl rfl)
theorem dX0_hitsNow_51 : decode cX0_hitsNow 51 = .ok (.aload 5, 2) := dk_25 5 (dk_at dksX0_hitsNow_2 5 rfl rfl)
theorem dX0_hitsNow_53 : decode cX0_hitsNow 53 = .ok (.aload_n 0, 1) := dk_42 (dk_at dksX0_hitsNow_2 7 rfl rfl)
theorem dX0_hitsNow_54 : decode cX0_hitsNow 54 = .ok (.getfield 22, 3) := dk_180 0 22 (dk_at dksX0_hitsNow_2 8 rfl rfl)
theorem dX0_hitsNow_57 : decode cX0_hitsNow 57 = .ok (.iload 6, 2) := dk_21 6 (dk_at dksX0_hitsNow_2 11 rfl rfl)
theorem dX0_hitsNow_59 : decode cX0_hitsNow 59 = .ok (.aaload, 1) := dk_50 (dk_at dksX0_hitsNow_2 13 rfl rfl)
theorem dX0_hitsNow_60 : decode cX0_hitsNow 60 = .ok (.invokevirtual 570, 3) := dk_182 2 58 (dk_at dksX0_hitsNow_2 14 rfl rfl)
theorem dX0_hitsNow_63 : decode cX0_hitsNow 63 = .ok (.ifCond .eq 7, 3) := dk_153 0 7 (dk_at dksX0_hitsNow_2 17 rfl rfl)
theorem dX0_hitsNow_66 : decode cX0_hitsNow 66 = .ok (.iconst 1, 1) := dk_4 (dk_at dksX0_hitsNow_2 20 rfl rfl)
theorem dX0_hitsNow_67 : decode cX0_hitsNow 67 = .ok (.goto 4, 3) := dk_167 0 4 (dk_at dksX0_hitsNow_2 21 rfl rfl)
theorem dX0_hitsNow_70 : decode cX0_hitsNow 70 = .ok (.iconst 0, 1) := dk_3 (dk_at dksX0_hitsNow_3 0 rfl rfl)
theorem dX0_hitsNow_71 : decode cX0_hitsNow 71 = .ok (.iadd, 1) := dk_96 (dk_at dksX0_hitsNow_3 1 rfl rfl)
theorem dX0_hitsNow_72 : decode cX0_hitsNow 72 = .ok (.istore_n 1, 1) := dk_60 (dk_at dksX0_hitsNow_3 2 rfl rfl)
theorem dX0_hitsNow_73 : decode cX0_hitsNow 73 = .ok (.iinc 6 1, 3) := dk_132 6 1 (dk_at dksX0_hitsNow_3 3 rfl rfl)
theorem dX0_hitsNow_76 : decode cX0_hitsNow 76 = .ok (.goto (-36), 3) := dk_167 255 220 (dk_at dksX0_hitsNow_3 6 rfl rfl)
theorem dX0_hitsNow_79 : decode cX0_hitsNow 79 = .ok (.iinc 4 1, 3) := dk_132 4 1 (dk_at dksX0_hitsNow_3 9 rfl rfl)
theorem dX0_hitsNow_82 : decode cX0_hitsNow 82 = .ok (.goto (-69), 3) := dk_167 255 187 (dk_at dksX0_hitsNow_3 12 rfl rfl)
theorem dX0_hitsNow_85 : decode cX0_hitsNow 85 = .ok (.iload_n 1, 1) := dk_27 (dk_at dksX0_hitsNow_3 15 rfl rfl)
theorem dX0_hitsNow_86 : decode cX0_hitsNow 86 = .ok (.ireturn, 1) := dk_172 (dk_at dksX0_hitsNow_3 16 rfl rfl)
def dkwX0_isAllKnown_1 : List UInt8 := [182, 1, 118, 182, 1, 167, 153, 0, 7, 4, 167, 0, 4, 3, 61, 132, 3, 1, 167, 255, 220, 28, 172]
abbrev dktX0_isAllKnown_1 : List UInt8 := dkwX0_isAllKnown_1 ++ []
def dkwX0_isAllKnown_0 : List UInt8 := [4, 61, 3, 62, 29, 43, 180, 1, 115, 182, 1, 6, 162, 0, 31, 28, 153, 0, 19, 42, 43, 29]
abbrev dktX0_isAllKnown_0 : List UInt8 := dkwX0_isAllKnown_0 ++ dktX0_isAllKnown_1
theorem dksX0_isAllKnown_0 : cX0_isAllKnown.data.toList.drop 0 = dktX0_isAllKnown_0 := by decide +kernel
theorem dksX0_isAllKnown_1 : cX0_isAllKnown.data.toList.drop 22 = dktX0_isAllKnown_1 := dk_seg dksX0_isAllKnown_0 22 rfl rfl
theorem dX0_isAllKnown_0 : decode cX0_isAllKnown 0 = .ok (.iconst 1, 1) := dk_4 (dk_at dksX0_isAllKnown_0 0 rfl rfl)
theorem dX0_isAllKnown_1 : decode cX0_isAllKnown 1 = .ok (.istore_n 2, 1) := dk_61 (dk_at dksX0_isAllKnown_0 1 rfl rfl)
theorem dX0_isAllKnown_2 : decode cX0_isAllKnown 2 = .ok (.iconst 0, 1) := dk_3 (dk_at dksX0_isAllKnown_0 2 rfl rfl)
theorem dX0_isAllKnown_3 : decode cX0_isAllKnown 3 = .ok (.istore_n 3, 1) := dk_62 (dk_at dksX0_isAllKnown_0 3 rfl rfl)
theorem dX0_isAllKnown_4 : decode cX0_isAllKnown 4 = .ok (.iload_n 3, 1) := dk_29 (dk_at dksX0_isAllKnown_0 4 rfl rfl)
theorem dX0_isAllKnown_5 : decode cX0_isAllKnown 5 = .ok (.aload_n 1, 1) := dk_43 (dk_at dksX0_isAllKnown_0 5 rfl rfl)
theorem dX0_isAllKnown_6 : decode cX0_isAllKnown 6 = .ok (.getfield 371, 3) := dk_180 1 115 (dk_at dksX0_isAllKnown_0 6 rfl rfl)
theorem dX0_isAllKnown_9 : decode cX0_isAllKnown 9 = .ok (.invokevirtual 262, 3) := dk_182 1 6 (dk_at dksX0_isAllKnown_0 9 rfl rfl)
theorem dX0_isAllKnown_12 : decode cX0_isAllKnown 12 = .ok (.if_icmp .ge 31, 3) := dk_162 0 31 (dk_at dksX0_isAllKnown_0 12 rfl rfl)
theorem dX0_isAllKnown_15 : decode cX0_isAllKnown 15 = .ok (.iload_n 2, 1) := dk_28 (dk_at dksX0_isAllKnown_0 15 rfl rfl)
theorem dX0_isAllKnown_16 : decode cX0_isAllKnown 16 = .ok (.ifCond .eq 19, 3) := dk_153 0 19 (dk_at dksX0_isAllKnown_0 16 rfl rfl)
theorem dX0_isAllKnown_19 : decode cX0_isAllKnown 19 = .ok (.aload_n 0, 1) := dk_42 (dk_at dksX0_isAllKnown_0 19 rfl rfl)
theorem dX0_isAllKnown_20 : decode cX0_isAllKnown 20 = .ok (.aload_n 1, 1) := dk_43 (dk_at dksX0_isAllKnown_0 20 rfl rfl)
theorem dX0_isAllKnown_21 : decode cX0_isAllKnown 21 = .ok (.iload_n 3, 1) := dk_29 (dk_at dksX0_isAllKnown_0 21 rfl rfl)
theorem dX0_isAllKnown_22 : decode cX0_isAllKnown 22 = .ok (.invokevirtual 374, 3) := dk_182 1 118 (dk_at dksX0_isAllKnown_1 0 rfl rfl)
theorem dX0_isAllKnown_25 : decode cX0_isAllKnown 25 = .ok (.invokevirtual 423, 3) := dk_182 1 167 (dk_at dksX0_isAllKnown_1 3 rfl rfl)
theorem dX0_isAllKnown_28 : decode cX0_isAllKnown 28 = .ok (.ifCond .eq 7, 3) := dk_153 0 7 (dk_at dksX0_isAllKnown_1 6 rfl rfl)
theorem dX0_isAllKnown_31 : decode cX0_isAllKnown 31 = .ok (.iconst 1, 1) := dk_4 (dk_at dksX0_isAllKnown_1 9 rfl rfl)
theorem dX0_isAllKnown_32 : decode cX0_isAllKnown 32 = .ok (.goto 4, 3) := dk_167 0 4 (dk_at dksX0_isAllKnown_1 10 rfl rfl)
theorem dX0_isAllKnown_35 : decode cX0_isAllKnown 35 = .ok (.iconst 0, 1) := dk_3 (dk_at dksX0_isAllKnown_1 13 rfl rfl)
theorem dX0_isAllKnown_36 : decode cX0_isAllKnown 36 = .ok (.istore_n 2, 1) := dk_61 (dk_at dksX0_isAllKnown_1 14 rfl rfl)
theorem dX0_isAllKnown_37 : decode cX0_isAllKnown 37 = .ok (.iinc 3 1, 3) := dk_132 3 1 (dk_at dksX0_isAllKnown_1 15 rfl rfl)
theorem dX0_isAllKnown_40 : decode cX0_isAllKnown 40 = .ok (.goto (-36), 3) := dk_167 255 220 (dk_at dksX0_isAllKnown_1 18 rfl rfl)
theorem dX0_isAllKnown_43 : decode cX0_isAllKnown 43 = .ok (.iload_n 2, 1) := dk_28 (dk_at dksX0_isAllKnown_1 21 rfl rfl)
theorem dX0_isAllKnown_44 : decode cX0_isAllKnown 44 = .ok (.ireturn, 1) := dk_172 (dk_at dksX0_isAllKnown_1 22 rfl rfl)
def dkwX0_ways_3 : List UInt8 := [167, 0, 9, 42, 180, 0, 96, 27, 46, 172]
abbrev dktX0_ways_3 : List UInt8 := dkwX0_ways_3 ++ []
def dkwX0_ways_2 : List UInt8 := [3, 182, 2, 82, 27, 2, 160, 0, 8, 42, 180, 2, 72, 172, 42, 180, 2, 72, 154, 0, 8, 16, 254]
abbrev dktX0_ways_2 : List UInt8 := dkwX0_ways_2 ++ dktX0_ways_3
def dkwX0_ways_1 : List UInt8 := [16, 20, 162, 0, 16, 42, 180, 0, 90, 28, 3, 79, 132, 2, 1, 167, 255, 240, 42, 3, 181, 2, 72, 42]
abbrev dktX0_ways_1 : List UInt8 := dkwX0_ways_1 ++ dktX0_ways_2
def dkwX0_ways_0 : List UInt8 := [27, 133, 20, 2, 89, 42, 180, 0, 146, 4, 100, 133, 184, 0, 110, 154, 0, 5, 2, 172, 3, 61, 28]
abbrev dktX0_ways_0 : List UInt8 := dkwX0_ways_0 ++ dktX0_ways_1
theorem dksX0_ways_0 : cX0_ways.data.toList.drop 0 = dktX0_ways_0 := by decide +kernel
theorem dksX0_ways_1 : cX0_ways.data.toList.drop 23 = dktX0_ways_1 := dk_seg dksX0_ways_0 23 rfl rfl
theorem dksX0_ways_2 : cX0_ways.data.toList.drop 47 = dktX0_ways_2 := dk_seg dksX0_ways_1 24 rfl rfl
theorem dksX0_ways_3 : cX0_ways.data.toList.drop 70 = dktX0_ways_3 := dk_seg dksX0_ways_2 23 rfl rfl
theorem dX0_ways_0 : decode cX0_ways 0 = .ok (.iload_n 1, 1) := dk_27 (dk_at dksX0_ways_0 0 rfl rfl)
theorem dX0_ways_1 : decode cX0_ways 1 = .ok (.i2l, 1) := dk_133 (dk_at dksX0_ways_0 1 rfl rfl)
theorem dX0_ways_2 : decode cX0_ways 2 = .ok (.ldc2_w 601, 3) := dk_20 2 89 (dk_at dksX0_ways_0 2 rfl rfl)
theorem dX0_ways_5 : decode cX0_ways 5 = .ok (.aload_n 0, 1) := dk_42 (dk_at dksX0_ways_0 5 rfl rfl)
theorem dX0_ways_6 : decode cX0_ways 6 = .ok (.getfield 146, 3) := dk_180 0 146 (dk_at dksX0_ways_0 6 rfl rfl)
theorem dX0_ways_9 : decode cX0_ways 9 = .ok (.iconst 1, 1) := dk_4 (dk_at dksX0_ways_0 9 rfl rfl)
theorem dX0_ways_10 : decode cX0_ways 10 = .ok (.isub, 1) := dk_100 (dk_at dksX0_ways_0 10 rfl rfl)
theorem dX0_ways_11 : decode cX0_ways 11 = .ok (.i2l, 1) := dk_133 (dk_at dksX0_ways_0 11 rfl rfl)
theorem dX0_ways_12 : decode cX0_ways 12 = .ok (.invokestatic 110, 3) := dk_184 0 110 (dk_at dksX0_ways_0 12 rfl rfl)
theorem dX0_ways_15 : decode cX0_ways 15 = .ok (.ifCond .ne 5, 3) := dk_154 0 5 (dk_at dksX0_ways_0 15 rfl rfl)
theorem dX0_ways_18 : decode cX0_ways 18 = .ok (.iconst (-1), 1) := dk_2 (dk_at dksX0_ways_0 18 rfl rfl)
theorem dX0_ways_19 : decode cX0_ways 19 = .ok (.ireturn, 1) := dk_172 (dk_at dksX0_ways_0 19 rfl rfl)
theorem dX0_ways_20 : decode cX0_ways 20 = .ok (.iconst 0, 1) := dk_3 (dk_at dksX0_ways_0 20 rfl rfl)
theorem dX0_ways_21 : decode cX0_ways 21 = .ok (.istore_n 2, 1) := dk_61 (dk_at dksX0_ways_0 21 rfl rfl)
theorem dX0_ways_22 : decode cX0_ways 22 = .ok (.iload_n 2, 1) := dk_28 (dk_at dksX0_ways_0 22 rfl rfl)
theorem dX0_ways_23 : decode cX0_ways 23 = .ok (.bipush 20, 2) := dk_16 20 (dk_at dksX0_ways_1 0 rfl rfl)
theorem dX0_ways_25 : decode cX0_ways 25 = .ok (.if_icmp .ge 16, 3) := dk_162 0 16 (dk_at dksX0_ways_1 2 rfl rfl)
theorem dX0_ways_28 : decode cX0_ways 28 = .ok (.aload_n 0, 1) := dk_42 (dk_at dksX0_ways_1 5 rfl rfl)
theorem dX0_ways_29 : decode cX0_ways 29 = .ok (.getfield 90, 3) := dk_180 0 90 (dk_at dksX0_ways_1 6 rfl rfl)
theorem dX0_ways_32 : decode cX0_ways 32 = .ok (.iload_n 2, 1) := dk_28 (dk_at dksX0_ways_1 9 rfl rfl)
theorem dX0_ways_33 : decode cX0_ways 33 = .ok (.iconst 0, 1) := dk_3 (dk_at dksX0_ways_1 10 rfl rfl)
theorem dX0_ways_34 : decode cX0_ways 34 = .ok (.iastore, 1) := dk_79 (dk_at dksX0_ways_1 11 rfl rfl)
theorem dX0_ways_35 : decode cX0_ways 35 = .ok (.iinc 2 1, 3) := dk_132 2 1 (dk_at dksX0_ways_1 12 rfl rfl)
theorem dX0_ways_38 : decode cX0_ways 38 = .ok (.goto (-16), 3) := dk_167 255 240 (dk_at dksX0_ways_1 15 rfl rfl)
theorem dX0_ways_41 : decode cX0_ways 41 = .ok (.aload_n 0, 1) := dk_42 (dk_at dksX0_ways_1 18 rfl rfl)
theorem dX0_ways_42 : decode cX0_ways 42 = .ok (.iconst 0, 1) := dk_3 (dk_at dksX0_ways_1 19 rfl rfl)
theorem dX0_ways_43 : decode cX0_ways 43 = .ok (.putfield 584, 3) := dk_181 2 72 (dk_at dksX0_ways_1 20 rfl rfl)
theorem dX0_ways_46 : decode cX0_ways 46 = .ok (.aload_n 0, 1) := dk_42 (dk_at dksX0_ways_1 23 rfl rfl)
theorem dX0_ways_47 : decode cX0_ways 47 = .ok (.iconst 0, 1) := dk_3 (dk_at dksX0_ways_2 0 rfl rfl)
theorem dX0_ways_48 : decode cX0_ways 48 = .ok (.invokevirtual 594, 3) := dk_182 2 82 (dk_at dksX0_ways_2 1 rfl rfl)
theorem dX0_ways_51 : decode cX0_ways 51 = .ok (.iload_n 1, 1) := dk_27 (dk_at dksX0_ways_2 4 rfl rfl)
theorem dX0_ways_52 : decode cX0_ways 52 = .ok (.iconst (-1), 1) := dk_2 (dk_at dksX0_ways_2 5 rfl rfl)
theorem dX0_ways_53 : decode cX0_ways 53 = .ok (.if_icmp .ne 8, 3) := dk_160 0 8 (dk_at dksX0_ways_2 6 rfl rfl)
theorem dX0_ways_56 : decode cX0_ways 56 = .ok (.aload_n 0, 1) := dk_42 (dk_at dksX0_ways_2 9 rfl rfl)
theorem dX0_ways_57 : decode cX0_ways 57 = .ok (.getfield 584, 3) := dk_180 2 72 (dk_at dksX0_ways_2 10 rfl rfl)
theorem dX0_ways_60 : decode cX0_ways 60 = .ok (.ireturn, 1) := dk_172 (dk_at dksX0_ways_2 13 rfl rfl)
theorem dX0_ways_61 : decode cX0_ways 61 = .ok (.aload_n 0, 1) := dk_42 (dk_at dksX0_ways_2 14 rfl rfl)
theorem dX0_ways_62 : decode cX0_ways 62 = .ok (.getfield 584, 3) := dk_180 2 72 (dk_at dksX0_ways_2 15 rfl rfl)
theorem dX0_ways_65 : decode cX0_ways 65 = .ok (.ifCond .ne 8, 3) := dk_154 0 8 (dk_at dksX0_ways_2 18 rfl rfl)
theorem dX0_ways_68 : decode cX0_ways 68 = .ok (.bipush (-2), 2) := dk_16 254 (dk_at dksX0_ways_2 21 rfl rfl)
theorem dX0_ways_70 : decode cX0_ways 70 = .ok (.goto 9, 3) := dk_167 0 9 (dk_at dksX0_ways_3 0 rfl rfl)
theorem dX0_ways_73 : decode cX0_ways 73 = .ok (.aload_n 0, 1) := dk_42 (dk_at dksX0_ways_3 3 rfl rfl)
theorem dX0_ways_74 : decode cX0_ways 74 = .ok (.getfield 96, 3) := dk_180 0 96 (dk_at dksX0_ways_3 4 rfl rfl)
theorem dX0_ways_77 : decode cX0_ways 77 = .ok (.iload_n 1, 1) := dk_27 (dk_at dksX0_ways_3 7 rfl rfl)
theorem dX0_ways_78 : decode cX0_ways 78 = .ok (.iaload, 1) := dk_46 (dk_at dksX0_ways_3 8 rfl rfl)
theorem dX0_ways_79 : decode cX0_ways 79 = .ok (.ireturn, 1) := dk_172 (dk_at dksX0_ways_3 9 rfl rfl)
def dkwX0_waysFrom_6 : List UInt8 := [27, 4, 96, 182, 2, 82, 42, 25, 5, 21, 6, 182, 2, 85, 132, 4, 1, 167, 255, 158, 177]
abbrev dktX0_waysFrom_6 : List UInt8 := dkwX0_waysFrom_6 ++ []
def dkwX0_waysFrom_5 : List UInt8 := [42, 180, 0, 93, 27, 25, 5, 180, 1, 112, 79, 21, 6, 42, 180, 0, 22, 27, 50, 190, 160, 0, 10, 42]
abbrev dktX0_waysFrom_5 : List UInt8 := dkwX0_waysFrom_5 ++ dktX0_waysFrom_6
def dkwX0_waysFrom_4 : List UInt8 := [50, 182, 2, 58, 154, 0, 6, 167, 0, 55, 42, 25, 5, 42, 180, 0, 22, 27, 50, 182, 2, 78, 54, 6]
abbrev dktX0_waysFrom_4 : List UInt8 := dkwX0_waysFrom_4 ++ dktX0_waysFrom_5
def dkwX0_waysFrom_3 : List UInt8 := [50, 58, 5, 42, 27, 25, 5, 180, 1, 112, 182, 2, 75, 154, 0, 73, 42, 25, 5, 42, 180, 0, 22, 27]
abbrev dktX0_waysFrom_3 : List UInt8 := dkwX0_waysFrom_3 ++ dktX0_waysFrom_4
def dkwX0_waysFrom_2 : List UInt8 := [181, 2, 72, 177, 42, 180, 0, 65, 77, 44, 190, 62, 3, 54, 4, 21, 4, 29, 162, 0, 98, 44, 21, 4]
abbrev dktX0_waysFrom_2 : List UInt8 := dkwX0_waysFrom_2 ++ dktX0_waysFrom_3
def dkwX0_waysFrom_1 : List UInt8 := [154, 0, 17, 42, 180, 0, 93, 3, 42, 180, 0, 96, 3, 7, 184, 1, 245, 42, 89, 180, 2, 72, 4, 96]
abbrev dktX0_waysFrom_1 : List UInt8 := dkwX0_waysFrom_1 ++ dktX0_waysFrom_2
def dkwX0_waysFrom_0 : List UInt8 := [42, 180, 2, 72, 17, 3, 231, 160, 0, 4, 177, 27, 42, 180, 0, 146, 160, 0, 35, 42, 180, 2, 72]
abbrev dktX0_waysFrom_0 : List UInt8 := dkwX0_waysFrom_0 ++ dktX0_waysFrom_1
theorem dksX0_waysFrom_0 : cX0_waysFrom.data.toList.drop 0 = dktX0_waysFrom_0 := by decide +kernel
theorem dksX0_waysFrom_1 : cX0_waysFrom.data.toList.drop 23 = dktX0_waysFrom_1 := dk_seg dksX0_waysFrom_0 23 rfl rfl
theorem dksX0_waysFrom_2 : cX0_waysFrom.data.toList.drop 47 = dktX0_waysFrom_2 := dk_seg dksX0_waysFrom_1 24 rfl rfl
theorem dksX0_waysFrom_3 : cX0_waysFrom.data.toList.drop 71 = dktX0_waysFrom_3 := dk_seg dksX0_waysFrom_2 24 rfl rfl
theorem dksX0_waysFrom_4 : cX0_waysFrom.data.toList.drop 95 = dktX0_waysFrom_4 := dk_seg dksX0_waysFrom_3 24 rfl rfl
theorem dksX0_waysFrom_5 : cX0_waysFrom.data.toList.drop 119 = dktX0_waysFrom_5 := dk_seg dksX0_waysFrom_4 24 rfl rfl
theorem dksX0_waysFrom_6 : cX0_waysFrom.data.toList.drop 143 = dktX0_waysFrom_6 := dk_seg dksX0_waysFrom_5 24 rfl rfl
theorem dX0_waysFrom_0 : decode cX0_waysFrom 0 = .ok (.aload_n 0, 1) := dk_42 (dk_at dksX0_waysFrom_0 0 rfl rfl)
theorem dX0_waysFrom_1 : decode cX0_waysFrom 1 = .ok (.getfield 584, 3) := dk_180 2 72 (dk_at dksX0_waysFrom_0 1 rfl rfl)
theorem dX0_waysFrom_4 : decode cX0_waysFrom 4 = .ok (.sipush 999, 3) := dk_17 3 231 (dk_at dksX0_waysFrom_0 4 rfl rfl)
theorem dX0_waysFrom_7 : decode cX0_waysFrom 7 = .ok (.if_icmp .ne 4, 3) := dk_160 0 4 (dk_at dksX0_waysFrom_0 7 rfl rfl)
theorem dX0_waysFrom_10 : decode cX0_waysFrom 10 = .ok (.return_, 1) := dk_177 (dk_at dksX0_waysFrom_0 10 rfl rfl)
theorem dX0_waysFrom_11 : decode cX0_waysFrom 11 = .ok (.iload_n 1, 1) := dk_27 (dk_at dksX0_waysFrom_0 11 rfl rfl)
theorem dX0_waysFrom_12 : decode cX0_waysFrom 12 = .ok (.aload_n 0, 1) := dk_42 (dk_at dksX0_waysFrom_0 12 rfl rfl)
theorem dX0_waysFrom_13 : decode cX0_waysFrom 13 = .ok (.getfield 146, 3) := dk_180 0 146 (dk_at dksX0_waysFrom_0 13 rfl rfl)
theorem dX0_waysFrom_16 : decode cX0_waysFrom 16 = .ok (.if_icmp .ne 35, 3) := dk_160 0 35 (dk_at dksX0_waysFrom_0 16 rfl rfl)
theorem dX0_waysFrom_19 : decode cX0_waysFrom 19 = .ok (.aload_n 0, 1) := dk_42 (dk_at dksX0_waysFrom_0 19 rfl rfl)
theorem dX0_waysFrom_20 : decode cX0_waysFrom 20 = .ok (.getfield 584, 3) := dk_180 2 72 (dk_at dksX0_waysFrom_0 20 rfl rfl)
theorem dX0_waysFrom_23 : decode cX0_waysFrom 23 = .ok (.ifCond .ne 17, 3) := dk_154 0 17 (dk_at dksX0_waysFrom_1 0 rfl rfl)
theorem dX0_waysFrom_26 : decode cX0_waysFrom 26 = .ok (.aload_n 0, 1) := dk_42 (dk_at dksX0_waysFrom_1 3 rfl rfl)
theorem dX0_waysFrom_27 : decode cX0_waysFrom 27 = .ok (.getfield 93, 3) := dk_180 0 93 (dk_at dksX0_waysFrom_1 4 rfl rfl)
theorem dX0_waysFrom_30 : decode cX0_waysFrom 30 = .ok (.iconst 0, 1) := dk_3 (dk_at dksX0_waysFrom_1 7 rfl rfl)
theorem dX0_waysFrom_31 : decode cX0_waysFrom 31 = .ok (.aload_n 0, 1) := dk_42 (dk_at dksX0_waysFrom_1 8 rfl rfl)
theorem dX0_waysFrom_32 : decode cX0_waysFrom 32 = .ok (.getfield 96, 3) := dk_180 0 96 (dk_at dksX0_waysFrom_1 9 rfl rfl)
theorem dX0_waysFrom_35 : decode cX0_waysFrom 35 = .ok (.iconst 0, 1) := dk_3 (dk_at dksX0_waysFrom_1 12 rfl rfl)
theorem dX0_waysFrom_36 : decode cX0_waysFrom 36 = .ok (.iconst 4, 1) := dk_7 (dk_at dksX0_waysFrom_1 13 rfl rfl)
theorem dX0_waysFrom_37 : decode cX0_waysFrom 37 = .ok (.invokestatic 501, 3) := dk_184 1 245 (dk_at dksX0_waysFrom_1 14 rfl rfl)
theorem dX0_waysFrom_40 : decode cX0_waysFrom 40 = .ok (.aload_n 0, 1) := dk_42 (dk_at dksX0_waysFrom_1 17 rfl rfl)
theorem dX0_waysFrom_41 : decode cX0_waysFrom 41 = .ok (.dup, 1) := dk_89 (dk_at dksX0_waysFrom_1 18 rfl rfl)
theorem dX0_waysFrom_42 : decode cX0_waysFrom 42 = .ok (.getfield 584, 3) := dk_180 2 72 (dk_at dksX0_waysFrom_1 19 rfl rfl)
theorem dX0_waysFrom_45 : decode cX0_waysFrom 45 = .ok (.iconst 1, 1) := dk_4 (dk_at dksX0_waysFrom_1 22 rfl rfl)
theorem dX0_waysFrom_46 : decode cX0_waysFrom 46 = .ok (.iadd, 1) := dk_96 (dk_at dksX0_waysFrom_1 23 rfl rfl)
theorem dX0_waysFrom_47 : decode cX0_waysFrom 47 = .ok (.putfield 584, 3) := dk_181 2 72 (dk_at dksX0_waysFrom_2 0 rfl rfl)
theorem dX0_waysFrom_50 : decode cX0_waysFrom 50 = .ok (.return_, 1) := dk_177 (dk_at dksX0_waysFrom_2 3 rfl rfl)
theorem dX0_waysFrom_51 : decode cX0_waysFrom 51 = .ok (.aload_n 0, 1) := dk_42 (dk_at dksX0_waysFrom_2 4 rfl rfl)
theorem dX0_waysFrom_52 : decode cX0_waysFrom 52 = .ok (.getfield 65, 3) := dk_180 0 65 (dk_at dksX0_waysFrom_2 5 rfl rfl)
theorem dX0_waysFrom_55 : decode cX0_waysFrom 55 = .ok (.astore_n 2, 1) := dk_77 (dk_at dksX0_waysFrom_2 8 rfl rfl)
theorem dX0_waysFrom_56 : decode cX0_waysFrom 56 = .ok (.aload_n 2, 1) := dk_44 (dk_at dksX0_waysFrom_2 9 rfl rfl)
theorem dX0_waysFrom_57 : decode cX0_waysFrom 57 = .ok (.arraylength, 1) := dk_190 (dk_at dksX0_waysFrom_2 10 rfl rfl)
theorem dX0_waysFrom_58 : decode cX0_waysFrom 58 = .ok (.istore_n 3, 1) := dk_62 (dk_at dksX0_waysFrom_2 11 rfl rfl)
theorem dX0_waysFrom_59 : decode cX0_waysFrom 59 = .ok (.iconst 0, 1) := dk_3 (dk_at dksX0_waysFrom_2 12 rfl rfl)
theorem dX0_waysFrom_60 : decode cX0_waysFrom 60 = .ok (.istore 4, 2) := dk_54 4 (dk_at dksX0_waysFrom_2 13 rfl rfl)
theorem dX0_waysFrom_62 : decode cX0_waysFrom 62 = .ok (.iload 4, 2) := dk_21 4 (dk_at dksX0_waysFrom_2 15 rfl rfl)
theorem dX0_waysFrom_64 : decode cX0_waysFrom 64 = .ok (.iload_n 3, 1) := dk_29 (dk_at dksX0_waysFrom_2 17 rfl rfl)
theorem dX0_waysFrom_65 : decode cX0_waysFrom 65 = .ok (.if_icmp .ge 98, 3) := dk_162 0 98 (dk_at dksX0_waysFrom_2 18 rfl rfl)
theorem dX0_waysFrom_68 : decode cX0_waysFrom 68 = .ok (.aload_n 2, 1) := dk_44 (dk_at dksX0_waysFrom_2 21 rfl rfl)
theorem dX0_waysFrom_69 : decode cX0_waysFrom 69 = .ok (.iload 4, 2) := dk_21 4 (dk_at dksX0_waysFrom_2 22 rfl rfl)
theorem dX0_waysFrom_71 : decode cX0_waysFrom 71 = .ok (.aaload, 1) := dk_50 (dk_at dksX0_waysFrom_3 0 rfl rfl)
theorem dX0_waysFrom_72 : decode cX0_waysFrom 72 = .ok (.astore 5, 2) := dk_58 5 (dk_at dksX0_waysFrom_3 1 rfl rfl)
theorem dX0_waysFrom_74 : decode cX0_waysFrom 74 = .ok (.aload_n 0, 1) := dk_42 (dk_at dksX0_waysFrom_3 3 rfl rfl)
theorem dX0_waysFrom_75 : decode cX0_waysFrom 75 = .ok (.iload_n 1, 1) := dk_27 (dk_at dksX0_waysFrom_3 4 rfl rfl)
theorem dX0_waysFrom_76 : decode cX0_waysFrom 76 = .ok (.aload 5, 2) := dk_25 5 (dk_at dksX0_waysFrom_3 5 rfl rfl)
theorem dX0_waysFrom_78 : decode cX0_waysFrom 78 = .ok (.getfield 368, 3) := dk_180 1 112 (dk_at dksX0_waysFrom_3 7 rfl rfl)
theorem dX0_waysFrom_81 : decode cX0_waysFrom 81 = .ok (.invokevirtual 587, 3) := dk_182 2 75 (dk_at dksX0_waysFrom_3 10 rfl rfl)
theorem dX0_waysFrom_84 : decode cX0_waysFrom 84 = .ok (.ifCond .ne 73, 3) := dk_154 0 73 (dk_at dksX0_waysFrom_3 13 rfl rfl)
theorem dX0_waysFrom_87 : decode cX0_waysFrom 87 = .ok (.aload_n 0, 1) := dk_42 (dk_at dksX0_waysFrom_3 16 rfl rfl)
theorem dX0_waysFrom_88 : decode cX0_waysFrom 88 = .ok (.aload 5, 2) := dk_25 5 (dk_at dksX0_waysFrom_3 17 rfl rfl)
theorem dX0_waysFrom_90 : decode cX0_waysFrom 90 = .ok (.aload_n 0, 1) := dk_42 (dk_at dksX0_waysFrom_3 19 rfl rfl)
theorem dX0_waysFrom_91 : decode cX0_waysFrom 91 = .ok (.getfield 22, 3) := dk_180 0 22 (dk_at dksX0_waysFrom_3 20 rfl rfl)
theorem dX0_waysFrom_94 : decode cX0_waysFrom 94 = .ok (.iload_n 1, 1) := dk_27 (dk_at dksX0_waysFrom_3 23 rfl rfl)
theorem dX0_waysFrom_95 : decode cX0_waysFrom 95 = .ok (.aaload, 1) := dk_50 (dk_at dksX0_waysFrom_4 0 rfl rfl)
theorem dX0_waysFrom_96 : decode cX0_waysFrom 96 = .ok (.invokevirtual 570, 3) := dk_182 2 58 (dk_at dksX0_waysFrom_4 1 rfl rfl)
theorem dX0_waysFrom_99 : decode cX0_waysFrom 99 = .ok (.ifCond .ne 6, 3) := dk_154 0 6 (dk_at dksX0_waysFrom_4 4 rfl rfl)
theorem dX0_waysFrom_102 : decode cX0_waysFrom 102 = .ok (.goto 55, 3) := dk_167 0 55 (dk_at dksX0_waysFrom_4 7 rfl rfl)
theorem dX0_waysFrom_105 : decode cX0_waysFrom 105 = .ok (.aload_n 0, 1) := dk_42 (dk_at dksX0_waysFrom_4 10 rfl rfl)
theorem dX0_waysFrom_106 : decode cX0_waysFrom 106 = .ok (.aload 5, 2) := dk_25 5 (dk_at dksX0_waysFrom_4 11 rfl rfl)
theorem dX0_waysFrom_108 : decode cX0_waysFrom 108 = .ok (.aload_n 0, 1) := dk_42 (dk_at dksX0_waysFrom_4 13 rfl rfl)
theorem dX0_waysFrom_109 : decode cX0_waysFrom 109 = .ok (.getfield 22, 3) := dk_180 0 22 (dk_at dksX0_waysFrom_4 14 rfl rfl)
theorem dX0_waysFrom_112 : decode cX0_waysFrom 112 = .ok (.iload_n 1, 1) := dk_27 (dk_at dksX0_waysFrom_4 17 rfl rfl)
theorem dX0_waysFrom_113 : decode cX0_waysFrom 113 = .ok (.aaload, 1) := dk_50 (dk_at dksX0_waysFrom_4 18 rfl rfl)
theorem dX0_waysFrom_114 : decode cX0_waysFrom 114 = .ok (.invokevirtual 590, 3) := dk_182 2 78 (dk_at dksX0_waysFrom_4 19 rfl rfl)
theorem dX0_waysFrom_117 : decode cX0_waysFrom 117 = .ok (.istore 6, 2) := dk_54 6 (dk_at dksX0_waysFrom_4 22 rfl rfl)
theorem dX0_waysFrom_119 : decode cX0_waysFrom 119 = .ok (.aload_n 0, 1) := dk_42 (dk_at dksX0_waysFrom_5 0 rfl rfl)
theorem dX0_waysFrom_120 : decode cX0_waysFrom 120 = .ok (.getfield 93, 3) := dk_180 0 93 (dk_at dksX0_waysFrom_5 1 rfl rfl)
theorem dX0_waysFrom_123 : decode cX0_waysFrom 123 = .ok (.iload_n 1, 1) := dk_27 (dk_at dksX0_waysFrom_5 4 rfl rfl)
theorem dX0_waysFrom_124 : decode cX0_waysFrom 124 = .ok (.aload 5, 2) := dk_25 5 (dk_at dksX0_waysFrom_5 5 rfl rfl)
theorem dX0_waysFrom_126 : decode cX0_waysFrom 126 = .ok (.getfield 368, 3) := dk_180 1 112 (dk_at dksX0_waysFrom_5 7 rfl rfl)
theorem dX0_waysFrom_129 : decode cX0_waysFrom 129 = .ok (.iastore, 1) := dk_79 (dk_at dksX0_waysFrom_5 10 rfl rfl)
theorem dX0_waysFrom_130 : decode cX0_waysFrom 130 = .ok (.iload 6, 2) := dk_21 6 (dk_at dksX0_waysFrom_5 11 rfl rfl)
theorem dX0_waysFrom_132 : decode cX0_waysFrom 132 = .ok (.aload_n 0, 1) := dk_42 (dk_at dksX0_waysFrom_5 13 rfl rfl)
theorem dX0_waysFrom_133 : decode cX0_waysFrom 133 = .ok (.getfield 22, 3) := dk_180 0 22 (dk_at dksX0_waysFrom_5 14 rfl rfl)
theorem dX0_waysFrom_136 : decode cX0_waysFrom 136 = .ok (.iload_n 1, 1) := dk_27 (dk_at dksX0_waysFrom_5 17 rfl rfl)
theorem dX0_waysFrom_137 : decode cX0_waysFrom 137 = .ok (.aaload, 1) := dk_50 (dk_at dksX0_waysFrom_5 18 rfl rfl)
theorem dX0_waysFrom_138 : decode cX0_waysFrom 138 = .ok (.arraylength, 1) := dk_190 (dk_at dksX0_waysFrom_5 19 rfl rfl)
theorem dX0_waysFrom_139 : decode cX0_waysFrom 139 = .ok (.if_icmp .ne 10, 3) := dk_160 0 10 (dk_at dksX0_waysFrom_5 20 rfl rfl)
theorem dX0_waysFrom_142 : decode cX0_waysFrom 142 = .ok (.aload_n 0, 1) := dk_42 (dk_at dksX0_waysFrom_5 23 rfl rfl)
theorem dX0_waysFrom_143 : decode cX0_waysFrom 143 = .ok (.iload_n 1, 1) := dk_27 (dk_at dksX0_waysFrom_6 0 rfl rfl)
theorem dX0_waysFrom_144 : decode cX0_waysFrom 144 = .ok (.iconst 1, 1) := dk_4 (dk_at dksX0_waysFrom_6 1 rfl rfl)
theorem dX0_waysFrom_145 : decode cX0_waysFrom 145 = .ok (.iadd, 1) := dk_96 (dk_at dksX0_waysFrom_6 2 rfl rfl)
theorem dX0_waysFrom_146 : decode cX0_waysFrom 146 = .ok (.invokevirtual 594, 3) := dk_182 2 82 (dk_at dksX0_waysFrom_6 3 rfl rfl)
theorem dX0_waysFrom_149 : decode cX0_waysFrom 149 = .ok (.aload_n 0, 1) := dk_42 (dk_at dksX0_waysFrom_6 6 rfl rfl)
theorem dX0_waysFrom_150 : decode cX0_waysFrom 150 = .ok (.aload 5, 2) := dk_25 5 (dk_at dksX0_waysFrom_6 7 rfl rfl)
theorem dX0_waysFrom_152 : decode cX0_waysFrom 152 = .ok (.iload 6, 2) := dk_21 6 (dk_at dksX0_waysFrom_6 9 rfl rfl)
theorem dX0_waysFrom_154 : decode cX0_waysFrom 154 = .ok (.invokevirtual 597, 3) := dk_182 2 85 (dk_at dksX0_waysFrom_6 11 rfl rfl)
theorem dX0_waysFrom_157 : decode cX0_waysFrom 157 = .ok (.iinc 4 1, 3) := dk_132 4 1 (dk_at dksX0_waysFrom_6 14 rfl rfl)
theorem dX0_waysFrom_160 : decode cX0_waysFrom 160 = .ok (.goto (-98), 3) := dk_167 255 158 (dk_at dksX0_waysFrom_6 17 rfl rfl)
theorem dX0_waysFrom_163 : decode cX0_waysFrom 163 = .ok (.return_, 1) := dk_177 (dk_at dksX0_waysFrom_6 20 rfl rfl)
def dkwX0_isTaken_1 : List UInt8 := [167, 255, 236, 3, 172]
abbrev dktX0_isTaken_1 : List UInt8 := dkwX0_isTaken_1 ++ []
def dkwX0_isTaken_0 : List UInt8 := [3, 62, 29, 27, 162, 0, 21, 42, 180, 0, 93, 29, 46, 28, 160, 0, 5, 4, 172, 132, 3, 1]
abbrev dktX0_isTaken_0 : List UInt8 := dkwX0_isTaken_0 ++ dktX0_isTaken_1
theorem dksX0_isTaken_0 : cX0_isTaken.data.toList.drop 0 = dktX0_isTaken_0 := by decide +kernel
theorem dksX0_isTaken_1 : cX0_isTaken.data.toList.drop 22 = dktX0_isTaken_1 := dk_seg dksX0_isTaken_0 22 rfl rfl
theorem dX0_isTaken_0 : decode cX0_isTaken 0 = .ok (.iconst 0, 1) := dk_3 (dk_at dksX0_isTaken_0 0 rfl rfl)
theorem dX0_isTaken_1 : decode cX0_isTaken 1 = .ok (.istore_n 3, 1) := dk_62 (dk_at dksX0_isTaken_0 1 rfl rfl)
theorem dX0_isTaken_2 : decode cX0_isTaken 2 = .ok (.iload_n 3, 1) := dk_29 (dk_at dksX0_isTaken_0 2 rfl rfl)
theorem dX0_isTaken_3 : decode cX0_isTaken 3 = .ok (.iload_n 1, 1) := dk_27 (dk_at dksX0_isTaken_0 3 rfl rfl)
theorem dX0_isTaken_4 : decode cX0_isTaken 4 = .ok (.if_icmp .ge 21, 3) := dk_162 0 21 (dk_at dksX0_isTaken_0 4 rfl rfl)
theorem dX0_isTaken_7 : decode cX0_isTaken 7 = .ok (.aload_n 0, 1) := dk_42 (dk_at dksX0_isTaken_0 7 rfl rfl)
theorem dX0_isTaken_8 : decode cX0_isTaken 8 = .ok (.getfield 93, 3) := dk_180 0 93 (dk_at dksX0_isTaken_0 8 rfl rfl)
theorem dX0_isTaken_11 : decode cX0_isTaken 11 = .ok (.iload_n 3, 1) := dk_29 (dk_at dksX0_isTaken_0 11 rfl rfl)
theorem dX0_isTaken_12 : decode cX0_isTaken 12 = .ok (.iaload, 1) := dk_46 (dk_at dksX0_isTaken_0 12 rfl rfl)
theorem dX0_isTaken_13 : decode cX0_isTaken 13 = .ok (.iload_n 2, 1) := dk_28 (dk_at dksX0_isTaken_0 13 rfl rfl)
theorem dX0_isTaken_14 : decode cX0_isTaken 14 = .ok (.if_icmp .ne 5, 3) := dk_160 0 5 (dk_at dksX0_isTaken_0 14 rfl rfl)
theorem dX0_isTaken_17 : decode cX0_isTaken 17 = .ok (.iconst 1, 1) := dk_4 (dk_at dksX0_isTaken_0 17 rfl rfl)
theorem dX0_isTaken_18 : decode cX0_isTaken 18 = .ok (.ireturn, 1) := dk_172 (dk_at dksX0_isTaken_0 18 rfl rfl)
theorem dX0_isTaken_19 : decode cX0_isTaken 19 = .ok (.iinc 3 1, 3) := dk_132 3 1 (dk_at dksX0_isTaken_0 19 rfl rfl)
theorem dX0_isTaken_22 : decode cX0_isTaken 22 = .ok (.goto (-20), 3) := dk_167 255 236 (dk_at dksX0_isTaken_1 0 rfl rfl)
theorem dX0_isTaken_25 : decode cX0_isTaken 25 = .ok (.iconst 0, 1) := dk_3 (dk_at dksX0_isTaken_1 3 rfl rfl)
theorem dX0_isTaken_26 : decode cX0_isTaken 26 = .ok (.ireturn, 1) := dk_172 (dk_at dksX0_isTaken_1 4 rfl rfl)
def dkwX0_laysWord_2 : List UInt8 := [96, 79, 132, 3, 1, 167, 255, 205, 29, 172]
abbrev dktX0_laysWord_2 : List UInt8 := dkwX0_laysWord_2 ++ []
def dkwX0_laysWord_1 : List UInt8 := [180, 0, 87, 43, 29, 182, 1, 118, 44, 29, 46, 79, 42, 180, 0, 90, 43, 29, 182, 1, 118, 92, 46, 4]
abbrev dktX0_laysWord_1 : List UInt8 := dkwX0_laysWord_1 ++ dktX0_laysWord_2
def dkwX0_laysWord_0 : List UInt8 := [3, 62, 29, 44, 190, 162, 0, 51, 42, 43, 29, 182, 1, 118, 44, 29, 46, 182, 2, 69, 153, 0, 36, 42]
abbrev dktX0_laysWord_0 : List UInt8 := dkwX0_laysWord_0 ++ dktX0_laysWord_1
theorem dksX0_laysWord_0 : cX0_laysWord.data.toList.drop 0 = dktX0_laysWord_0 := by decide +kernel
theorem dksX0_laysWord_1 : cX0_laysWord.data.toList.drop 24 = dktX0_laysWord_1 := dk_seg dksX0_laysWord_0 24 rfl rfl
theorem dksX0_laysWord_2 : cX0_laysWord.data.toList.drop 48 = dktX0_laysWord_2 := dk_seg dksX0_laysWord_1 24 rfl rfl
theorem dX0_laysWord_0 : decode cX0_laysWord 0 = .ok (.iconst 0, 1) := dk_3 (dk_at dksX0_laysWord_0 0 rfl rfl)
theorem dX0_laysWord_1 : decode cX0_laysWord 1 = .ok (.istore_n 3, 1) := dk_62 (dk_at dksX0_laysWord_0 1 rfl rfl)
theorem dX0_laysWord_2 : decode cX0_laysWord 2 = .ok (.iload_n 3, 1) := dk_29 (dk_at dksX0_laysWord_0 2 rfl rfl)
theorem dX0_laysWord_3 : decode cX0_laysWord 3 = .ok (.aload_n 2, 1) := dk_44 (dk_at dksX0_laysWord_0 3 rfl rfl)
theorem dX0_laysWord_4 : decode cX0_laysWord 4 = .ok (.arraylength, 1) := dk_190 (dk_at dksX0_laysWord_0 4 rfl rfl)
theorem dX0_laysWord_5 : decode cX0_laysWord 5 = .ok (.if_icmp .ge 51, 3) := dk_162 0 51 (dk_at dksX0_laysWord_0 5 rfl rfl)
theorem dX0_laysWord_8 : decode cX0_laysWord 8 = .ok (.aload_n 0, 1) := dk_42 (dk_at dksX0_laysWord_0 8 rfl rfl)
theorem dX0_laysWord_9 : decode cX0_laysWord 9 = .ok (.aload_n 1, 1) := dk_43 (dk_at dksX0_laysWord_0 9 rfl rfl)
theorem dX0_laysWord_10 : decode cX0_laysWord 10 = .ok (.iload_n 3, 1) := dk_29 (dk_at dksX0_laysWord_0 10 rfl rfl)
theorem dX0_laysWord_11 : decode cX0_laysWord 11 = .ok (.invokevirtual 374, 3) := dk_182 1 118 (dk_at dksX0_laysWord_0 11 rfl rfl)
theorem dX0_laysWord_14 : decode cX0_laysWord 14 = .ok (.aload_n 2, 1) := dk_44 (dk_at dksX0_laysWord_0 14 rfl rfl)
theorem dX0_laysWord_15 : decode cX0_laysWord 15 = .ok (.iload_n 3, 1) := dk_29 (dk_at dksX0_laysWord_0 15 rfl rfl)
theorem dX0_laysWord_16 : decode cX0_laysWord 16 = .ok (.iaload, 1) := dk_46 (dk_at dksX0_laysWord_0 16 rfl rfl)
theorem dX0_laysWord_17 : decode cX0_laysWord 17 = .ok (.invokevirtual 581, 3) := dk_182 2 69 (dk_at dksX0_laysWord_0 17 rfl rfl)
theorem dX0_laysWord_20 : decode cX0_laysWord 20 = .ok (.ifCond .eq 36, 3) := dk_153 0 36 (dk_at dksX0_laysWord_0 20 rfl rfl)
theorem dX0_laysWord_23 : decode cX0_laysWord 23 = .ok (.aload_n 0, 1) := dk_42 (dk_at dksX0_laysWord_0 23 rfl rfl)
theorem dX0_laysWord_24 : decode cX0_laysWord 24 = .ok (.getfield 87, 3) := dk_180 0 87 (dk_at dksX0_laysWord_1 0 rfl rfl)
theorem dX0_laysWord_27 : decode cX0_laysWord 27 = .ok (.aload_n 1, 1) := dk_43 (dk_at dksX0_laysWord_1 3 rfl rfl)
theorem dX0_laysWord_28 : decode cX0_laysWord 28 = .ok (.iload_n 3, 1) := dk_29 (dk_at dksX0_laysWord_1 4 rfl rfl)
theorem dX0_laysWord_29 : decode cX0_laysWord 29 = .ok (.invokevirtual 374, 3) := dk_182 1 118 (dk_at dksX0_laysWord_1 5 rfl rfl)
theorem dX0_laysWord_32 : decode cX0_laysWord 32 = .ok (.aload_n 2, 1) := dk_44 (dk_at dksX0_laysWord_1 8 rfl rfl)
theorem dX0_laysWord_33 : decode cX0_laysWord 33 = .ok (.iload_n 3, 1) := dk_29 (dk_at dksX0_laysWord_1 9 rfl rfl)
theorem dX0_laysWord_34 : decode cX0_laysWord 34 = .ok (.iaload, 1) := dk_46 (dk_at dksX0_laysWord_1 10 rfl rfl)
theorem dX0_laysWord_35 : decode cX0_laysWord 35 = .ok (.iastore, 1) := dk_79 (dk_at dksX0_laysWord_1 11 rfl rfl)
theorem dX0_laysWord_36 : decode cX0_laysWord 36 = .ok (.aload_n 0, 1) := dk_42 (dk_at dksX0_laysWord_1 12 rfl rfl)
theorem dX0_laysWord_37 : decode cX0_laysWord 37 = .ok (.getfield 90, 3) := dk_180 0 90 (dk_at dksX0_laysWord_1 13 rfl rfl)
theorem dX0_laysWord_40 : decode cX0_laysWord 40 = .ok (.aload_n 1, 1) := dk_43 (dk_at dksX0_laysWord_1 16 rfl rfl)
theorem dX0_laysWord_41 : decode cX0_laysWord 41 = .ok (.iload_n 3, 1) := dk_29 (dk_at dksX0_laysWord_1 17 rfl rfl)
theorem dX0_laysWord_42 : decode cX0_laysWord 42 = .ok (.invokevirtual 374, 3) := dk_182 1 118 (dk_at dksX0_laysWord_1 18 rfl rfl)
theorem dX0_laysWord_45 : decode cX0_laysWord 45 = .ok (.dup2, 1) := dk_92 (dk_at dksX0_laysWord_1 21 rfl rfl)
theorem dX0_laysWord_46 : decode cX0_laysWord 46 = .ok (.iaload, 1) := dk_46 (dk_at dksX0_laysWord_1 22 rfl rfl)
theorem dX0_laysWord_47 : decode cX0_laysWord 47 = .ok (.iconst 1, 1) := dk_4 (dk_at dksX0_laysWord_1 23 rfl rfl)
theorem dX0_laysWord_48 : decode cX0_laysWord 48 = .ok (.iadd, 1) := dk_96 (dk_at dksX0_laysWord_2 0 rfl rfl)
theorem dX0_laysWord_49 : decode cX0_laysWord 49 = .ok (.iastore, 1) := dk_79 (dk_at dksX0_laysWord_2 1 rfl rfl)
theorem dX0_laysWord_50 : decode cX0_laysWord 50 = .ok (.iinc 3 1, 3) := dk_132 3 1 (dk_at dksX0_laysWord_2 2 rfl rfl)
theorem dX0_laysWord_53 : decode cX0_laysWord 53 = .ok (.goto (-51), 3) := dk_167 255 205 (dk_at dksX0_laysWord_2 5 rfl rfl)
theorem dX0_laysWord_56 : decode cX0_laysWord 56 = .ok (.iload_n 3, 1) := dk_29 (dk_at dksX0_laysWord_2 8 rfl rfl)
theorem dX0_laysWord_57 : decode cX0_laysWord 57 = .ok (.ireturn, 1) := dk_172 (dk_at dksX0_laysWord_2 9 rfl rfl)
def dkwX0_can_5 : List UInt8 := [172, 132, 3, 1, 167, 255, 160, 4, 172]
abbrev dktX0_can_5 : List UInt8 := dkwX0_can_5 ++ []
def dkwX0_can_4 : List UInt8 := [42, 180, 0, 42, 27, 46, 160, 0, 19, 42, 180, 0, 87, 29, 46, 8, 112, 28, 8, 112, 159, 0, 5, 3]
abbrev dktX0_can_4 : List UInt8 := dkwX0_can_4 ++ dktX0_can_5
def dkwX0_can_3 : List UInt8 := [46, 160, 0, 17, 42, 180, 0, 87, 29, 46, 8, 108, 28, 8, 108, 160, 0, 32, 42, 180, 0, 42, 29, 46]
abbrev dktX0_can_3 : List UInt8 := dkwX0_can_3 ++ dktX0_can_4
def dkwX0_can_2 : List UInt8 := [167, 0, 73, 42, 180, 0, 87, 29, 46, 28, 159, 0, 61, 42, 180, 0, 39, 29, 46, 42, 180, 0, 39, 27]
abbrev dktX0_can_2 : List UInt8 := dkwX0_can_2 ++ dktX0_can_3
def dkwX0_can_1 : List UInt8 := [172, 3, 62, 29, 42, 180, 0, 16, 180, 0, 134, 162, 0, 91, 42, 180, 0, 90, 29, 46, 154, 0, 6]
abbrev dktX0_can_1 : List UInt8 := dkwX0_can_1 ++ dktX0_can_2
def dkwX0_can_0 : List UInt8 := [42, 180, 0, 90, 27, 46, 158, 0, 19, 42, 180, 0, 87, 27, 46, 28, 160, 0, 7, 4, 167, 0, 4, 3]
abbrev dktX0_can_0 : List UInt8 := dkwX0_can_0 ++ dktX0_can_1
theorem dksX0_can_0 : cX0_can.data.toList.drop 0 = dktX0_can_0 := by decide +kernel
theorem dksX0_can_1 : cX0_can.data.toList.drop 24 = dktX0_can_1 := dk_seg dksX0_can_0 24 rfl rfl
theorem dksX0_can_2 : cX0_can.data.toList.drop 47 = dktX0_can_2 := dk_seg dksX0_can_1 23 rfl rfl
theorem dksX0_can_3 : cX0_can.data.toList.drop 71 = dktX0_can_3 := dk_seg dksX0_can_2 24 rfl rfl
theorem dksX0_can_4 : cX0_can.data.toList.drop 95 = dktX0_can_4 := dk_seg dksX0_can_3 24 rfl rfl
theorem dksX0_can_5 : cX0_can.data.toList.drop 119 = dktX0_can_5 := dk_seg dksX0_can_4 24 rfl rfl
theorem dX0_can_0 : decode cX0_can 0 = .ok (.aload_n 0, 1) := dk_42 (dk_at dksX0_can_0 0 rfl rfl)
theorem dX0_can_1 : decode cX0_can 1 = .ok (.getfield 90, 3) := dk_180 0 90 (dk_at dksX0_can_0 1 rfl rfl)
theorem dX0_can_4 : decode cX0_can 4 = .ok (.iload_n 1, 1) := dk_27 (dk_at dksX0_can_0 4 rfl rfl)
theorem dX0_can_5 : decode cX0_can 5 = .ok (.iaload, 1) := dk_46 (dk_at dksX0_can_0 5 rfl rfl)
theorem dX0_can_6 : decode cX0_can 6 = .ok (.ifCond .le 19, 3) := dk_158 0 19 (dk_at dksX0_can_0 6 rfl rfl)
theorem dX0_can_9 : decode cX0_can 9 = .ok (.aload_n 0, 1) := dk_42 (dk_at dksX0_can_0 9 rfl rfl)
theorem dX0_can_10 : decode cX0_can 10 = .ok (.getfield 87, 3) := dk_180 0 87 (dk_at dksX0_can_0 10 rfl rfl)
theorem dX0_can_13 : decode cX0_can 13 = .ok (.iload_n 1, 1) := dk_27 (dk_at dksX0_can_0 13 rfl rfl)
theorem dX0_can_14 : decode cX0_can 14 = .ok (.iaload, 1) := dk_46 (dk_at dksX0_can_0 14 rfl rfl)
theorem dX0_can_15 : decode cX0_can 15 = .ok (.iload_n 2, 1) := dk_28 (dk_at dksX0_can_0 15 rfl rfl)
theorem dX0_can_16 : decode cX0_can 16 = .ok (.if_icmp .ne 7, 3) := dk_160 0 7 (dk_at dksX0_can_0 16 rfl rfl)
theorem dX0_can_19 : decode cX0_can 19 = .ok (.iconst 1, 1) := dk_4 (dk_at dksX0_can_0 19 rfl rfl)
theorem dX0_can_20 : decode cX0_can 20 = .ok (.goto 4, 3) := dk_167 0 4 (dk_at dksX0_can_0 20 rfl rfl)
theorem dX0_can_23 : decode cX0_can 23 = .ok (.iconst 0, 1) := dk_3 (dk_at dksX0_can_0 23 rfl rfl)
theorem dX0_can_24 : decode cX0_can 24 = .ok (.ireturn, 1) := dk_172 (dk_at dksX0_can_1 0 rfl rfl)
theorem dX0_can_25 : decode cX0_can 25 = .ok (.iconst 0, 1) := dk_3 (dk_at dksX0_can_1 1 rfl rfl)
theorem dX0_can_26 : decode cX0_can 26 = .ok (.istore_n 3, 1) := dk_62 (dk_at dksX0_can_1 2 rfl rfl)
theorem dX0_can_27 : decode cX0_can 27 = .ok (.iload_n 3, 1) := dk_29 (dk_at dksX0_can_1 3 rfl rfl)
theorem dX0_can_28 : decode cX0_can 28 = .ok (.aload_n 0, 1) := dk_42 (dk_at dksX0_can_1 4 rfl rfl)
theorem dX0_can_29 : decode cX0_can 29 = .ok (.getfield 16, 3) := dk_180 0 16 (dk_at dksX0_can_1 5 rfl rfl)
theorem dX0_can_32 : decode cX0_can 32 = .ok (.getfield 134, 3) := dk_180 0 134 (dk_at dksX0_can_1 8 rfl rfl)
theorem dX0_can_35 : decode cX0_can 35 = .ok (.if_icmp .ge 91, 3) := dk_162 0 91 (dk_at dksX0_can_1 11 rfl rfl)
theorem dX0_can_38 : decode cX0_can 38 = .ok (.aload_n 0, 1) := dk_42 (dk_at dksX0_can_1 14 rfl rfl)
theorem dX0_can_39 : decode cX0_can 39 = .ok (.getfield 90, 3) := dk_180 0 90 (dk_at dksX0_can_1 15 rfl rfl)
theorem dX0_can_42 : decode cX0_can 42 = .ok (.iload_n 3, 1) := dk_29 (dk_at dksX0_can_1 18 rfl rfl)
theorem dX0_can_43 : decode cX0_can 43 = .ok (.iaload, 1) := dk_46 (dk_at dksX0_can_1 19 rfl rfl)
theorem dX0_can_44 : decode cX0_can 44 = .ok (.ifCond .ne 6, 3) := dk_154 0 6 (dk_at dksX0_can_1 20 rfl rfl)
theorem dX0_can_47 : decode cX0_can 47 = .ok (.goto 73, 3) := dk_167 0 73 (dk_at dksX0_can_2 0 rfl rfl)
theorem dX0_can_50 : decode cX0_can 50 = .ok (.aload_n 0, 1) := dk_42 (dk_at dksX0_can_2 3 rfl rfl)
theorem dX0_can_51 : decode cX0_can 51 = .ok (.getfield 87, 3) := dk_180 0 87 (dk_at dksX0_can_2 4 rfl rfl)
theorem dX0_can_54 : decode cX0_can 54 = .ok (.iload_n 3, 1) := dk_29 (dk_at dksX0_can_2 7 rfl rfl)
theorem dX0_can_55 : decode cX0_can 55 = .ok (.iaload, 1) := dk_46 (dk_at dksX0_can_2 8 rfl rfl)
theorem dX0_can_56 : decode cX0_can 56 = .ok (.iload_n 2, 1) := dk_28 (dk_at dksX0_can_2 9 rfl rfl)
theorem dX0_can_57 : decode cX0_can 57 = .ok (.if_icmp .eq 61, 3) := dk_159 0 61 (dk_at dksX0_can_2 10 rfl rfl)
theorem dX0_can_60 : decode cX0_can 60 = .ok (.aload_n 0, 1) := dk_42 (dk_at dksX0_can_2 13 rfl rfl)
theorem dX0_can_61 : decode cX0_can 61 = .ok (.getfield 39, 3) := dk_180 0 39 (dk_at dksX0_can_2 14 rfl rfl)
theorem dX0_can_64 : decode cX0_can 64 = .ok (.iload_n 3, 1) := dk_29 (dk_at dksX0_can_2 17 rfl rfl)
theorem dX0_can_65 : decode cX0_can 65 = .ok (.iaload, 1) := dk_46 (dk_at dksX0_can_2 18 rfl rfl)
theorem dX0_can_66 : decode cX0_can 66 = .ok (.aload_n 0, 1) := dk_42 (dk_at dksX0_can_2 19 rfl rfl)
theorem dX0_can_67 : decode cX0_can 67 = .ok (.getfield 39, 3) := dk_180 0 39 (dk_at dksX0_can_2 20 rfl rfl)
theorem dX0_can_70 : decode cX0_can 70 = .ok (.iload_n 1, 1) := dk_27 (dk_at dksX0_can_2 23 rfl rfl)
theorem dX0_can_71 : decode cX0_can 71 = .ok (.iaload, 1) := dk_46 (dk_at dksX0_can_3 0 rfl rfl)
theorem dX0_can_72 : decode cX0_can 72 = .ok (.if_icmp .ne 17, 3) := dk_160 0 17 (dk_at dksX0_can_3 1 rfl rfl)
theorem dX0_can_75 : decode cX0_can 75 = .ok (.aload_n 0, 1) := dk_42 (dk_at dksX0_can_3 4 rfl rfl)
theorem dX0_can_76 : decode cX0_can 76 = .ok (.getfield 87, 3) := dk_180 0 87 (dk_at dksX0_can_3 5 rfl rfl)
theorem dX0_can_79 : decode cX0_can 79 = .ok (.iload_n 3, 1) := dk_29 (dk_at dksX0_can_3 8 rfl rfl)
theorem dX0_can_80 : decode cX0_can 80 = .ok (.iaload, 1) := dk_46 (dk_at dksX0_can_3 9 rfl rfl)
theorem dX0_can_81 : decode cX0_can 81 = .ok (.iconst 5, 1) := dk_8 (dk_at dksX0_can_3 10 rfl rfl)
theorem dX0_can_82 : decode cX0_can 82 = .ok (.idiv, 1) := dk_108 (dk_at dksX0_can_3 11 rfl rfl)
theorem dX0_can_83 : decode cX0_can 83 = .ok (.iload_n 2, 1) := dk_28 (dk_at dksX0_can_3 12 rfl rfl)
theorem dX0_can_84 : decode cX0_can 84 = .ok (.iconst 5, 1) := dk_8 (dk_at dksX0_can_3 13 rfl rfl)
theorem dX0_can_85 : decode cX0_can 85 = .ok (.idiv, 1) := dk_108 (dk_at dksX0_can_3 14 rfl rfl)
theorem dX0_can_86 : decode cX0_can 86 = .ok (.if_icmp .ne 32, 3) := dk_160 0 32 (dk_at dksX0_can_3 15 rfl rfl)
theorem dX0_can_89 : decode cX0_can 89 = .ok (.aload_n 0, 1) := dk_42 (dk_at dksX0_can_3 18 rfl rfl)
theorem dX0_can_90 : decode cX0_can 90 = .ok (.getfield 42, 3) := dk_180 0 42 (dk_at dksX0_can_3 19 rfl rfl)
theorem dX0_can_93 : decode cX0_can 93 = .ok (.iload_n 3, 1) := dk_29 (dk_at dksX0_can_3 22 rfl rfl)
theorem dX0_can_94 : decode cX0_can 94 = .ok (.iaload, 1) := dk_46 (dk_at dksX0_can_3 23 rfl rfl)
theorem dX0_can_95 : decode cX0_can 95 = .ok (.aload_n 0, 1) := dk_42 (dk_at dksX0_can_4 0 rfl rfl)
theorem dX0_can_96 : decode cX0_can 96 = .ok (.getfield 42, 3) := dk_180 0 42 (dk_at dksX0_can_4 1 rfl rfl)
theorem dX0_can_99 : decode cX0_can 99 = .ok (.iload_n 1, 1) := dk_27 (dk_at dksX0_can_4 4 rfl rfl)
theorem dX0_can_100 : decode cX0_can 100 = .ok (.iaload, 1) := dk_46 (dk_at dksX0_can_4 5 rfl rfl)
theorem dX0_can_101 : decode cX0_can 101 = .ok (.if_icmp .ne 19, 3) := dk_160 0 19 (dk_at dksX0_can_4 6 rfl rfl)
theorem dX0_can_104 : decode cX0_can 104 = .ok (.aload_n 0, 1) := dk_42 (dk_at dksX0_can_4 9 rfl rfl)
theorem dX0_can_105 : decode cX0_can 105 = .ok (.getfield 87, 3) := dk_180 0 87 (dk_at dksX0_can_4 10 rfl rfl)
theorem dX0_can_108 : decode cX0_can 108 = .ok (.iload_n 3, 1) := dk_29 (dk_at dksX0_can_4 13 rfl rfl)
theorem dX0_can_109 : decode cX0_can 109 = .ok (.iaload, 1) := dk_46 (dk_at dksX0_can_4 14 rfl rfl)
theorem dX0_can_110 : decode cX0_can 110 = .ok (.iconst 5, 1) := dk_8 (dk_at dksX0_can_4 15 rfl rfl)
theorem dX0_can_111 : decode cX0_can 111 = .ok (.irem, 1) := dk_112 (dk_at dksX0_can_4 16 rfl rfl)
theorem dX0_can_112 : decode cX0_can 112 = .ok (.iload_n 2, 1) := dk_28 (dk_at dksX0_can_4 17 rfl rfl)
theorem dX0_can_113 : decode cX0_can 113 = .ok (.iconst 5, 1) := dk_8 (dk_at dksX0_can_4 18 rfl rfl)
theorem dX0_can_114 : decode cX0_can 114 = .ok (.irem, 1) := dk_112 (dk_at dksX0_can_4 19 rfl rfl)
theorem dX0_can_115 : decode cX0_can 115 = .ok (.if_icmp .eq 5, 3) := dk_159 0 5 (dk_at dksX0_can_4 20 rfl rfl)
theorem dX0_can_118 : decode cX0_can 118 = .ok (.iconst 0, 1) := dk_3 (dk_at dksX0_can_4 23 rfl rfl)
theorem dX0_can_119 : decode cX0_can 119 = .ok (.ireturn, 1) := dk_172 (dk_at dksX0_can_5 0 rfl rfl)
theorem dX0_can_120 : decode cX0_can 120 = .ok (.iinc 3 1, 3) := dk_132 3 1 (dk_at dksX0_can_5 1 rfl rfl)
theorem dX0_can_123 : decode cX0_can 123 = .ok (.goto (-96), 3) := dk_167 255 160 (dk_at dksX0_can_5 4 rfl rfl)
theorem dX0_can_126 : decode cX0_can 126 = .ok (.iconst 1, 1) := dk_4 (dk_at dksX0_can_5 7 rfl rfl)
theorem dX0_can_127 : decode cX0_can 127 = .ok (.ireturn, 1) := dk_172 (dk_at dksX0_can_5 8 rfl rfl)
def dkwX0_takesWord_1 : List UInt8 := [167, 255, 234, 177]
abbrev dktX0_takesWord_1 : List UInt8 := dkwX0_takesWord_1 ++ []
def dkwX0_takesWord_0 : List UInt8 := [3, 62, 29, 28, 162, 0, 23, 42, 180, 0, 90, 43, 29, 182, 1, 118, 92, 46, 4, 100, 79, 132, 3, 1]
abbrev dktX0_takesWord_0 : List UInt8 := dkwX0_takesWord_0 ++ dktX0_takesWord_1
theorem dksX0_takesWord_0 : cX0_takesWord.data.toList.drop 0 = dktX0_takesWord_0 := by decide +kernel
theorem dksX0_takesWord_1 : cX0_takesWord.data.toList.drop 24 = dktX0_takesWord_1 := dk_seg dksX0_takesWord_0 24 rfl rfl
theorem dX0_takesWord_0 : decode cX0_takesWord 0 = .ok (.iconst 0, 1) := dk_3 (dk_at dksX0_takesWord_0 0 rfl rfl)
theorem dX0_takesWord_1 : decode cX0_takesWord 1 = .ok (.istore_n 3, 1) := dk_62 (dk_at dksX0_takesWord_0 1 rfl rfl)
theorem dX0_takesWord_2 : decode cX0_takesWord 2 = .ok (.iload_n 3, 1) := dk_29 (dk_at dksX0_takesWord_0 2 rfl rfl)
theorem dX0_takesWord_3 : decode cX0_takesWord 3 = .ok (.iload_n 2, 1) := dk_28 (dk_at dksX0_takesWord_0 3 rfl rfl)
theorem dX0_takesWord_4 : decode cX0_takesWord 4 = .ok (.if_icmp .ge 23, 3) := dk_162 0 23 (dk_at dksX0_takesWord_0 4 rfl rfl)
theorem dX0_takesWord_7 : decode cX0_takesWord 7 = .ok (.aload_n 0, 1) := dk_42 (dk_at dksX0_takesWord_0 7 rfl rfl)
theorem dX0_takesWord_8 : decode cX0_takesWord 8 = .ok (.getfield 90, 3) := dk_180 0 90 (dk_at dksX0_takesWord_0 8 rfl rfl)
theorem dX0_takesWord_11 : decode cX0_takesWord 11 = .ok (.aload_n 1, 1) := dk_43 (dk_at dksX0_takesWord_0 11 rfl rfl)
theorem dX0_takesWord_12 : decode cX0_takesWord 12 = .ok (.iload_n 3, 1) := dk_29 (dk_at dksX0_takesWord_0 12 rfl rfl)
theorem dX0_takesWord_13 : decode cX0_takesWord 13 = .ok (.invokevirtual 374, 3) := dk_182 1 118 (dk_at dksX0_takesWord_0 13 rfl rfl)
theorem dX0_takesWord_16 : decode cX0_takesWord 16 = .ok (.dup2, 1) := dk_92 (dk_at dksX0_takesWord_0 16 rfl rfl)
theorem dX0_takesWord_17 : decode cX0_takesWord 17 = .ok (.iaload, 1) := dk_46 (dk_at dksX0_takesWord_0 17 rfl rfl)
theorem dX0_takesWord_18 : decode cX0_takesWord 18 = .ok (.iconst 1, 1) := dk_4 (dk_at dksX0_takesWord_0 18 rfl rfl)
theorem dX0_takesWord_19 : decode cX0_takesWord 19 = .ok (.isub, 1) := dk_100 (dk_at dksX0_takesWord_0 19 rfl rfl)
theorem dX0_takesWord_20 : decode cX0_takesWord 20 = .ok (.iastore, 1) := dk_79 (dk_at dksX0_takesWord_0 20 rfl rfl)
theorem dX0_takesWord_21 : decode cX0_takesWord 21 = .ok (.iinc 3 1, 3) := dk_132 3 1 (dk_at dksX0_takesWord_0 21 rfl rfl)
theorem dX0_takesWord_24 : decode cX0_takesWord 24 = .ok (.goto (-22), 3) := dk_167 255 234 (dk_at dksX0_takesWord_1 0 rfl rfl)
theorem dX0_takesWord_27 : decode cX0_takesWord 27 = .ok (.return_, 1) := dk_177 (dk_at dksX0_takesWord_1 3 rfl rfl)
def dkwX0_draws_0 : List UInt8 := [27, 156, 0, 5, 2, 172, 42, 180, 2, 91, 61, 42, 27, 181, 2, 91, 28, 172]
abbrev dktX0_draws_0 : List UInt8 := dkwX0_draws_0 ++ []
theorem dksX0_draws_0 : cX0_draws.data.toList.drop 0 = dktX0_draws_0 := by decide +kernel
theorem dX0_draws_0 : decode cX0_draws 0 = .ok (.iload_n 1, 1) := dk_27 (dk_at dksX0_draws_0 0 rfl rfl)
theorem dX0_draws_1 : decode cX0_draws 1 = .ok (.ifCond .ge 5, 3) := dk_156 0 5 (dk_at dksX0_draws_0 1 rfl rfl)
theorem dX0_draws_4 : decode cX0_draws 4 = .ok (.iconst (-1), 1) := dk_2 (dk_at dksX0_draws_0 4 rfl rfl)
theorem dX0_draws_5 : decode cX0_draws 5 = .ok (.ireturn, 1) := dk_172 (dk_at dksX0_draws_0 5 rfl rfl)
theorem dX0_draws_6 : decode cX0_draws 6 = .ok (.aload_n 0, 1) := dk_42 (dk_at dksX0_draws_0 6 rfl rfl)
theorem dX0_draws_7 : decode cX0_draws 7 = .ok (.getfield 603, 3) := dk_180 2 91 (dk_at dksX0_draws_0 7 rfl rfl)
theorem dX0_draws_10 : decode cX0_draws 10 = .ok (.istore_n 2, 1) := dk_61 (dk_at dksX0_draws_0 10 rfl rfl)
theorem dX0_draws_11 : decode cX0_draws 11 = .ok (.aload_n 0, 1) := dk_42 (dk_at dksX0_draws_0 11 rfl rfl)
theorem dX0_draws_12 : decode cX0_draws 12 = .ok (.iload_n 1, 1) := dk_27 (dk_at dksX0_draws_0 12 rfl rfl)
theorem dX0_draws_13 : decode cX0_draws 13 = .ok (.putfield 603, 3) := dk_181 2 91 (dk_at dksX0_draws_0 13 rfl rfl)
theorem dX0_draws_16 : decode cX0_draws 16 = .ok (.iload_n 2, 1) := dk_28 (dk_at dksX0_draws_0 16 rfl rfl)
theorem dX0_draws_17 : decode cX0_draws 17 = .ok (.ireturn, 1) := dk_172 (dk_at dksX0_draws_0 17 rfl rfl)
def dkwX0_test_9 : List UInt8 := [180, 0, 78, 3, 16, 20, 184, 1, 245, 132, 8, 1, 167, 255, 148, 21, 7, 172]
abbrev dktX0_test_9 : List UInt8 := dkwX0_test_9 ++ []
def dkwX0_test_8 : List UInt8 := [167, 0, 4, 3, 96, 54, 7, 25, 5, 3, 42, 180, 0, 75, 3, 16, 20, 184, 1, 245, 25, 6, 3, 42]
abbrev dktX0_test_8 : List UInt8 := dkwX0_test_8 ++ dktX0_test_9
def dkwX0_test_7 : List UInt8 := [21, 10, 184, 2, 114, 132, 9, 255, 167, 255, 210, 21, 7, 42, 182, 2, 66, 21, 4, 161, 0, 7, 4]
abbrev dktX0_test_7 : List UInt8 := dkwX0_test_7 ++ dktX0_test_8
def dkwX0_test_6 : List UInt8 := [54, 10, 42, 180, 0, 75, 44, 21, 9, 46, 21, 10, 184, 2, 114, 42, 180, 0, 78, 44, 21, 9, 46]
abbrev dktX0_test_6 : List UInt8 := dkwX0_test_6 ++ dktX0_test_7
def dkwX0_test_5 : List UInt8 := [162, 0, 108, 29, 4, 100, 54, 9, 21, 9, 158, 0, 47, 44, 42, 21, 9, 4, 96, 182, 2, 111, 46]
abbrev dktX0_test_5 : List UInt8 := dkwX0_test_5 ++ dktX0_test_6
def dkwX0_test_4 : List UInt8 := [192, 0, 20, 58, 6, 42, 42, 180, 2, 91, 133, 181, 2, 94, 3, 54, 7, 3, 54, 8, 21, 8, 27]
abbrev dktX0_test_4 : List UInt8 := dkwX0_test_4 ++ dktX0_test_5
def dkwX0_test_3 : List UInt8 := [182, 2, 66, 54, 4, 42, 180, 0, 75, 182, 2, 108, 192, 0, 20, 58, 5, 42, 180, 0, 78, 182, 2, 108]
abbrev dktX0_test_3 : List UInt8 := dkwX0_test_3 ++ dktX0_test_4
def dkwX0_test_2 : List UInt8 := [182, 1, 167, 154, 0, 6, 167, 0, 11, 44, 29, 21, 4, 79, 132, 3, 1, 132, 4, 1, 167, 255, 212, 42]
abbrev dktX0_test_2 : List UInt8 := dkwX0_test_2 ++ dktX0_test_3
def dkwX0_test_1 : List UInt8 := [21, 4, 42, 180, 0, 16, 180, 0, 134, 162, 0, 38, 42, 21, 4, 182, 1, 151, 153, 0, 23, 42, 21, 4]
abbrev dktX0_test_1 : List UInt8 := dkwX0_test_1 ++ dktX0_test_2
def dkwX0_test_0 : List UInt8 := [27, 133, 10, 20, 2, 106, 184, 0, 110, 154, 0, 5, 2, 172, 16, 20, 188, 10, 77, 3, 62, 3, 54, 4]
abbrev dktX0_test_0 : List UInt8 := dkwX0_test_0 ++ dktX0_test_1
theorem dksX0_test_0 : cX0_test.data.toList.drop 0 = dktX0_test_0 := by decide +kernel
theorem dksX0_test_1 : cX0_test.data.toList.drop 24 = dktX0_test_1 := dk_seg dksX0_test_0 24 rfl rfl
theorem dksX0_test_2 : cX0_test.data.toList.drop 48 = dktX0_test_2 := dk_seg dksX0_test_1 24 rfl rfl
theorem dksX0_test_3 : cX0_test.data.toList.drop 72 = dktX0_test_3 := dk_seg dksX0_test_2 24 rfl rfl
theorem dksX0_test_4 : cX0_test.data.toList.drop 96 = dktX0_test_4 := dk_seg dksX0_test_3 24 rfl rfl
theorem dksX0_test_5 : cX0_test.data.toList.drop 119 = dktX0_test_5 := dk_seg dksX0_test_4 23 rfl rfl
theorem dksX0_test_6 : cX0_test.data.toList.drop 142 = dktX0_test_6 := dk_seg dksX0_test_5 23 rfl rfl
theorem dksX0_test_7 : cX0_test.data.toList.drop 165 = dktX0_test_7 := dk_seg dksX0_test_6 23 rfl rfl
theorem dksX0_test_8 : cX0_test.data.toList.drop 188 = dktX0_test_8 := dk_seg dksX0_test_7 23 rfl rfl
theorem dksX0_test_9 : cX0_test.data.toList.drop 212 = dktX0_test_9 := dk_seg dksX0_test_8 24 rfl rfl
theorem dX0_test_0 : decode cX0_test 0 = .ok (.iload_n 1, 1) := dk_27 (dk_at dksX0_test_0 0 rfl rfl)
theorem dX0_test_1 : decode cX0_test 1 = .ok (.i2l, 1) := dk_133 (dk_at dksX0_test_0 1 rfl rfl)
theorem dX0_test_2 : decode cX0_test 2 = .ok (.lconst 1, 1) := dk_10 (dk_at dksX0_test_0 2 rfl rfl)
theorem dX0_test_3 : decode cX0_test 3 = .ok (.ldc2_w 618, 3) := dk_20 2 106 (dk_at dksX0_test_0 3 rfl rfl)
theorem dX0_test_6 : decode cX0_test 6 = .ok (.invokestatic 110, 3) := dk_184 0 110 (dk_at dksX0_test_0 6 rfl rfl)
theorem dX0_test_9 : decode cX0_test 9 = .ok (.ifCond .ne 5, 3) := dk_154 0 5 (dk_at dksX0_test_0 9 rfl rfl)
theorem dX0_test_12 : decode cX0_test 12 = .ok (.iconst (-1), 1) := dk_2 (dk_at dksX0_test_0 12 rfl rfl)
theorem dX0_test_13 : decode cX0_test 13 = .ok (.ireturn, 1) := dk_172 (dk_at dksX0_test_0 13 rfl rfl)
theorem dX0_test_14 : decode cX0_test 14 = .ok (.bipush 20, 2) := dk_16 20 (dk_at dksX0_test_0 14 rfl rfl)
theorem dX0_test_16 : decode cX0_test 16 = .ok (.newarray .int, 2) := dk_188_10 (dk_at dksX0_test_0 16 rfl rfl)
theorem dX0_test_18 : decode cX0_test 18 = .ok (.astore_n 2, 1) := dk_77 (dk_at dksX0_test_0 18 rfl rfl)
theorem dX0_test_19 : decode cX0_test 19 = .ok (.iconst 0, 1) := dk_3 (dk_at dksX0_test_0 19 rfl rfl)
theorem dX0_test_20 : decode cX0_test 20 = .ok (.istore_n 3, 1) := dk_62 (dk_at dksX0_test_0 20 rfl rfl)
theorem dX0_test_21 : decode cX0_test 21 = .ok (.iconst 0, 1) := dk_3 (dk_at dksX0_test_0 21 rfl rfl)
theorem dX0_test_22 : decode cX0_test 22 = .ok (.istore 4, 2) := dk_54 4 (dk_at dksX0_test_0 22 rfl rfl)
theorem dX0_test_24 : decode cX0_test 24 = .ok (.iload 4, 2) := dk_21 4 (dk_at dksX0_test_1 0 rfl rfl)
theorem dX0_test_26 : decode cX0_test 26 = .ok (.aload_n 0, 1) := dk_42 (dk_at dksX0_test_1 2 rfl rfl)
theorem dX0_test_27 : decode cX0_test 27 = .ok (.getfield 16, 3) := dk_180 0 16 (dk_at dksX0_test_1 3 rfl rfl)
theorem dX0_test_30 : decode cX0_test 30 = .ok (.getfield 134, 3) := dk_180 0 134 (dk_at dksX0_test_1 6 rfl rfl)
theorem dX0_test_33 : decode cX0_test 33 = .ok (.if_icmp .ge 38, 3) := dk_162 0 38 (dk_at dksX0_test_1 9 rfl rfl)
theorem dX0_test_36 : decode cX0_test 36 = .ok (.aload_n 0, 1) := dk_42 (dk_at dksX0_test_1 12 rfl rfl)
theorem dX0_test_37 : decode cX0_test 37 = .ok (.iload 4, 2) := dk_21 4 (dk_at dksX0_test_1 13 rfl rfl)
theorem dX0_test_39 : decode cX0_test 39 = .ok (.invokevirtual 407, 3) := dk_182 1 151 (dk_at dksX0_test_1 15 rfl rfl)
theorem dX0_test_42 : decode cX0_test 42 = .ok (.ifCond .eq 23, 3) := dk_153 0 23 (dk_at dksX0_test_1 18 rfl rfl)
theorem dX0_test_45 : decode cX0_test 45 = .ok (.aload_n 0, 1) := dk_42 (dk_at dksX0_test_1 21 rfl rfl)
theorem dX0_test_46 : decode cX0_test 46 = .ok (.iload 4, 2) := dk_21 4 (dk_at dksX0_test_1 22 rfl rfl)
theorem dX0_test_48 : decode cX0_test 48 = .ok (.invokevirtual 423, 3) := dk_182 1 167 (dk_at dksX0_test_2 0 rfl rfl)
theorem dX0_test_51 : decode cX0_test 51 = .ok (.ifCond .ne 6, 3) := dk_154 0 6 (dk_at dksX0_test_2 3 rfl rfl)
theorem dX0_test_54 : decode cX0_test 54 = .ok (.goto 11, 3) := dk_167 0 11 (dk_at dksX0_test_2 6 rfl rfl)
theorem dX0_test_57 : decode cX0_test 57 = .ok (.aload_n 2, 1) := dk_44 (dk_at dksX0_test_2 9 rfl rfl)
theorem dX0_test_58 : decode cX0_test 58 = .ok (.iload_n 3, 1) := dk_29 (dk_at dksX0_test_2 10 rfl rfl)
theorem dX0_test_59 : decode cX0_test 59 = .ok (.iload 4, 2) := dk_21 4 (dk_at dksX0_test_2 11 rfl rfl)
theorem dX0_test_61 : decode cX0_test 61 = .ok (.iastore, 1) := dk_79 (dk_at dksX0_test_2 13 rfl rfl)
theorem dX0_test_62 : decode cX0_test 62 = .ok (.iinc 3 1, 3) := dk_132 3 1 (dk_at dksX0_test_2 14 rfl rfl)
theorem dX0_test_65 : decode cX0_test 65 = .ok (.iinc 4 1, 3) := dk_132 4 1 (dk_at dksX0_test_2 17 rfl rfl)
theorem dX0_test_68 : decode cX0_test 68 = .ok (.goto (-44), 3) := dk_167 255 212 (dk_at dksX0_test_2 20 rfl rfl)
theorem dX0_test_71 : decode cX0_test 71 = .ok (.aload_n 0, 1) := dk_42 (dk_at dksX0_test_2 23 rfl rfl)
theorem dX0_test_72 : decode cX0_test 72 = .ok (.invokevirtual 578, 3) := dk_182 2 66 (dk_at dksX0_test_3 0 rfl rfl)
theorem dX0_test_75 : decode cX0_test 75 = .ok (.istore 4, 2) := dk_54 4 (dk_at dksX0_test_3 3 rfl rfl)
theorem dX0_test_77 : decode cX0_test 77 = .ok (.aload_n 0, 1) := dk_42 (dk_at dksX0_test_3 5 rfl rfl)
theorem dX0_test_78 : decode cX0_test 78 = .ok (.getfield 75, 3) := dk_180 0 75 (dk_at dksX0_test_3 6 rfl rfl)
theorem dX0_test_81 : decode cX0_test 81 = .ok (.invokevirtual 620, 3) := dk_182 2 108 (dk_at dksX0_test_3 9 rfl rfl)
theorem dX0_test_84 : decode cX0_test 84 = .ok (.checkcast 20, 3) := dk_192 0 20 (dk_at dksX0_test_3 12 rfl rfl)
theorem dX0_test_87 : decode cX0_test 87 = .ok (.astore 5, 2) := dk_58 5 (dk_at dksX0_test_3 15 rfl rfl)
theorem dX0_test_89 : decode cX0_test 89 = .ok (.aload_n 0, 1) := dk_42 (dk_at dksX0_test_3 17 rfl rfl)
theorem dX0_test_90 : decode cX0_test 90 = .ok (.getfield 78, 3) := dk_180 0 78 (dk_at dksX0_test_3 18 rfl rfl)
theorem dX0_test_93 : decode cX0_test 93 = .ok (.invokevirtual 620, 3) := dk_182 2 108 (dk_at dksX0_test_3 21 rfl rfl)
theorem dX0_test_96 : decode cX0_test 96 = .ok (.checkcast 20, 3) := dk_192 0 20 (dk_at dksX0_test_4 0 rfl rfl)
theorem dX0_test_99 : decode cX0_test 99 = .ok (.astore 6, 2) := dk_58 6 (dk_at dksX0_test_4 3 rfl rfl)
theorem dX0_test_101 : decode cX0_test 101 = .ok (.aload_n 0, 1) := dk_42 (dk_at dksX0_test_4 5 rfl rfl)
theorem dX0_test_102 : decode cX0_test 102 = .ok (.aload_n 0, 1) := dk_42 (dk_at dksX0_test_4 6 rfl rfl)
theorem dX0_test_103 : decode cX0_test 103 = .ok (.getfield 603, 3) := dk_180 2 91 (dk_at dksX0_test_4 7 rfl rfl)
theorem dX0_test_106 : decode cX0_test 106 = .ok (.i2l, 1) := dk_133 (dk_at dksX0_test_4 10 rfl rfl)
theorem dX0_test_107 : decode cX0_test 107 = .ok (.putfield 606, 3) := dk_181 2 94 (dk_at dksX0_test_4 11 rfl rfl)
theorem dX0_test_110 : decode cX0_test 110 = .ok (.iconst 0, 1) := dk_3 (dk_at dksX0_test_4 14 rfl rfl)
theorem dX0_test_111 : decode cX0_test 111 = .ok (.istore 7, 2) := dk_54 7 (dk_at dksX0_test_4 15 rfl rfl)
theorem dX0_test_113 : decode cX0_test 113 = .ok (.iconst 0, 1) := dk_3 (dk_at dksX0_test_4 17 rfl rfl)
theorem dX0_test_114 : decode cX0_test 114 = .ok (.istore 8, 2) := dk_54 8 (dk_at dksX0_test_4 18 rfl rfl)
theorem dX0_test_116 : decode cX0_test 116 = .ok (.iload 8, 2) := dk_21 8 (dk_at dksX0_test_4 20 rfl rfl)
theorem dX0_test_118 : decode cX0_test 118 = .ok (.iload_n 1, 1) := dk_27 (dk_at dksX0_test_4 22 rfl rfl)
theorem dX0_test_119 : decode cX0_test 119 = .ok (.if_icmp .ge 108, 3) := dk_162 0 108 (dk_at dksX0_test_5 0 rfl rfl)
theorem dX0_test_122 : decode cX0_test 122 = .ok (.iload_n 3, 1) := dk_29 (dk_at dksX0_test_5 3 rfl rfl)
theorem dX0_test_123 : decode cX0_test 123 = .ok (.iconst 1, 1) := dk_4 (dk_at dksX0_test_5 4 rfl rfl)
theorem dX0_test_124 : decode cX0_test 124 = .ok (.isub, 1) := dk_100 (dk_at dksX0_test_5 5 rfl rfl)
theorem dX0_test_125 : decode cX0_test 125 = .ok (.istore 9, 2) := dk_54 9 (dk_at dksX0_test_5 6 rfl rfl)
theorem dX0_test_127 : decode cX0_test 127 = .ok (.iload 9, 2) := dk_21 9 (dk_at dksX0_test_5 8 rfl rfl)
theorem dX0_test_129 : decode cX0_test 129 = .ok (.ifCond .le 47, 3) := dk_158 0 47 (dk_at dksX0_test_5 10 rfl rfl)
theorem dX0_test_132 : decode cX0_test 132 = .ok (.aload_n 2, 1) := dk_44 (dk_at dksX0_test_5 13 rfl rfl)
theorem dX0_test_133 : decode cX0_test 133 = .ok (.aload_n 0, 1) := dk_42 (dk_at dksX0_test_5 14 rfl rfl)
theorem dX0_test_134 : decode cX0_test 134 = .ok (.iload 9, 2) := dk_21 9 (dk_at dksX0_test_5 15 rfl rfl)
theorem dX0_test_136 : decode cX0_test 136 = .ok (.iconst 1, 1) := dk_4 (dk_at dksX0_test_5 17 rfl rfl)
theorem dX0_test_137 : decode cX0_test 137 = .ok (.iadd, 1) := dk_96 (dk_at dksX0_test_5 18 rfl rfl)
theorem dX0_test_138 : decode cX0_test 138 = .ok (.invokevirtual 623, 3) := dk_182 2 111 (dk_at dksX0_test_5 19 rfl rfl)
theorem dX0_test_141 : decode cX0_test 141 = .ok (.iaload, 1) := dk_46 (dk_at dksX0_test_5 22 rfl rfl)
theorem dX0_test_142 : decode cX0_test 142 = .ok (.istore 10, 2) := dk_54 10 (dk_at dksX0_test_6 0 rfl rfl)
theorem dX0_test_144 : decode cX0_test 144 = .ok (.aload_n 0, 1) := dk_42 (dk_at dksX0_test_6 2 rfl rfl)
theorem dX0_test_145 : decode cX0_test 145 = .ok (.getfield 75, 3) := dk_180 0 75 (dk_at dksX0_test_6 3 rfl rfl)
theorem dX0_test_148 : decode cX0_test 148 = .ok (.aload_n 2, 1) := dk_44 (dk_at dksX0_test_6 6 rfl rfl)
theorem dX0_test_149 : decode cX0_test 149 = .ok (.iload 9, 2) := dk_21 9 (dk_at dksX0_test_6 7 rfl rfl)
theorem dX0_test_151 : decode cX0_test 151 = .ok (.iaload, 1) := dk_46 (dk_at dksX0_test_6 9 rfl rfl)
theorem dX0_test_152 : decode cX0_test 152 = .ok (.iload 10, 2) := dk_21 10 (dk_at dksX0_test_6 10 rfl rfl)
theorem dX0_test_154 : decode cX0_test 154 = .ok (.invokestatic 626, 3) := dk_184 2 114 (dk_at dksX0_test_6 12 rfl rfl)
theorem dX0_test_157 : decode cX0_test 157 = .ok (.aload_n 0, 1) := dk_42 (dk_at dksX0_test_6 15 rfl rfl)
theorem dX0_test_158 : decode cX0_test 158 = .ok (.getfield 78, 3) := dk_180 0 78 (dk_at dksX0_test_6 16 rfl rfl)
theorem dX0_test_161 : decode cX0_test 161 = .ok (.aload_n 2, 1) := dk_44 (dk_at dksX0_test_6 19 rfl rfl)
theorem dX0_test_162 : decode cX0_test 162 = .ok (.iload 9, 2) := dk_21 9 (dk_at dksX0_test_6 20 rfl rfl)
theorem dX0_test_164 : decode cX0_test 164 = .ok (.iaload, 1) := dk_46 (dk_at dksX0_test_6 22 rfl rfl)
theorem dX0_test_165 : decode cX0_test 165 = .ok (.iload 10, 2) := dk_21 10 (dk_at dksX0_test_7 0 rfl rfl)
theorem dX0_test_167 : decode cX0_test 167 = .ok (.invokestatic 626, 3) := dk_184 2 114 (dk_at dksX0_test_7 2 rfl rfl)
theorem dX0_test_170 : decode cX0_test 170 = .ok (.iinc 9 (-1), 3) := dk_132 9 255 (dk_at dksX0_test_7 5 rfl rfl)
theorem dX0_test_173 : decode cX0_test 173 = .ok (.goto (-46), 3) := dk_167 255 210 (dk_at dksX0_test_7 8 rfl rfl)
theorem dX0_test_176 : decode cX0_test 176 = .ok (.iload 7, 2) := dk_21 7 (dk_at dksX0_test_7 11 rfl rfl)
theorem dX0_test_178 : decode cX0_test 178 = .ok (.aload_n 0, 1) := dk_42 (dk_at dksX0_test_7 13 rfl rfl)
theorem dX0_test_179 : decode cX0_test 179 = .ok (.invokevirtual 578, 3) := dk_182 2 66 (dk_at dksX0_test_7 14 rfl rfl)
theorem dX0_test_182 : decode cX0_test 182 = .ok (.iload 4, 2) := dk_21 4 (dk_at dksX0_test_7 17 rfl rfl)
theorem dX0_test_184 : decode cX0_test 184 = .ok (.if_icmp .lt 7, 3) := dk_161 0 7 (dk_at dksX0_test_7 19 rfl rfl)
theorem dX0_test_187 : decode cX0_test 187 = .ok (.iconst 1, 1) := dk_4 (dk_at dksX0_test_7 22 rfl rfl)
theorem dX0_test_188 : decode cX0_test 188 = .ok (.goto 4, 3) := dk_167 0 4 (dk_at dksX0_test_8 0 rfl rfl)
theorem dX0_test_191 : decode cX0_test 191 = .ok (.iconst 0, 1) := dk_3 (dk_at dksX0_test_8 3 rfl rfl)
theorem dX0_test_192 : decode cX0_test 192 = .ok (.iadd, 1) := dk_96 (dk_at dksX0_test_8 4 rfl rfl)
theorem dX0_test_193 : decode cX0_test 193 = .ok (.istore 7, 2) := dk_54 7 (dk_at dksX0_test_8 5 rfl rfl)
theorem dX0_test_195 : decode cX0_test 195 = .ok (.aload 5, 2) := dk_25 5 (dk_at dksX0_test_8 7 rfl rfl)
theorem dX0_test_197 : decode cX0_test 197 = .ok (.iconst 0, 1) := dk_3 (dk_at dksX0_test_8 9 rfl rfl)
theorem dX0_test_198 : decode cX0_test 198 = .ok (.aload_n 0, 1) := dk_42 (dk_at dksX0_test_8 10 rfl rfl)
theorem dX0_test_199 : decode cX0_test 199 = .ok (.getfield 75, 3) := dk_180 0 75 (dk_at dksX0_test_8 11 rfl rfl)
theorem dX0_test_202 : decode cX0_test 202 = .ok (.iconst 0, 1) := dk_3 (dk_at dksX0_test_8 14 rfl rfl)
theorem dX0_test_203 : decode cX0_test 203 = .ok (.bipush 20, 2) := dk_16 20 (dk_at dksX0_test_8 15 rfl rfl)
theorem dX0_test_205 : decode cX0_test 205 = .ok (.invokestatic 501, 3) := dk_184 1 245 (dk_at dksX0_test_8 17 rfl rfl)
theorem dX0_test_208 : decode cX0_test 208 = .ok (.aload 6, 2) := dk_25 6 (dk_at dksX0_test_8 20 rfl rfl)
theorem dX0_test_210 : decode cX0_test 210 = .ok (.iconst 0, 1) := dk_3 (dk_at dksX0_test_8 22 rfl rfl)
theorem dX0_test_211 : decode cX0_test 211 = .ok (.aload_n 0, 1) := dk_42 (dk_at dksX0_test_8 23 rfl rfl)
theorem dX0_test_212 : decode cX0_test 212 = .ok (.getfield 78, 3) := dk_180 0 78 (dk_at dksX0_test_9 0 rfl rfl)
theorem dX0_test_215 : decode cX0_test 215 = .ok (.iconst 0, 1) := dk_3 (dk_at dksX0_test_9 3 rfl rfl)
theorem dX0_test_216 : decode cX0_test 216 = .ok (.bipush 20, 2) := dk_16 20 (dk_at dksX0_test_9 4 rfl rfl)
theorem dX0_test_218 : decode cX0_test 218 = .ok (.invokestatic 501, 3) := dk_184 1 245 (dk_at dksX0_test_9 6 rfl rfl)
theorem dX0_test_221 : decode cX0_test 221 = .ok (.iinc 8 1, 3) := dk_132 8 1 (dk_at dksX0_test_9 9 rfl rfl)
theorem dX0_test_224 : decode cX0_test 224 = .ok (.goto (-108), 3) := dk_167 255 148 (dk_at dksX0_test_9 12 rfl rfl)
theorem dX0_test_227 : decode cX0_test 227 = .ok (.iload 7, 2) := dk_21 7 (dk_at dksX0_test_9 15 rfl rfl)
theorem dX0_test_229 : decode cX0_test 229 = .ok (.ireturn, 1) := dk_172 (dk_at dksX0_test_9 17 rfl rfl)
def dkwX0_draw_1 : List UInt8 := [20, 2, 104, 109, 27, 133, 113, 136, 172]
abbrev dktX0_draw_1 : List UInt8 := dkwX0_draw_1 ++ []
def dkwX0_draw_0 : List UInt8 := [42, 42, 180, 2, 94, 20, 2, 98, 105, 20, 2, 100, 97, 20, 2, 102, 113, 181, 2, 94, 42, 180, 2, 94]
abbrev dktX0_draw_0 : List UInt8 := dkwX0_draw_0 ++ dktX0_draw_1
theorem dksX0_draw_0 : cX0_draw.data.toList.drop 0 = dktX0_draw_0 := by decide +kernel
theorem dksX0_draw_1 : cX0_draw.data.toList.drop 24 = dktX0_draw_1 := dk_seg dksX0_draw_0 24 rfl rfl
theorem dX0_draw_0 : decode cX0_draw 0 = .ok (.aload_n 0, 1) := dk_42 (dk_at dksX0_draw_0 0 rfl rfl)
theorem dX0_draw_1 : decode cX0_draw 1 = .ok (.aload_n 0, 1) := dk_42 (dk_at dksX0_draw_0 1 rfl rfl)
theorem dX0_draw_2 : decode cX0_draw 2 = .ok (.getfield 606, 3) := dk_180 2 94 (dk_at dksX0_draw_0 2 rfl rfl)
theorem dX0_draw_5 : decode cX0_draw 5 = .ok (.ldc2_w 610, 3) := dk_20 2 98 (dk_at dksX0_draw_0 5 rfl rfl)
theorem dX0_draw_8 : decode cX0_draw 8 = .ok (.lmul, 1) := dk_105 (dk_at dksX0_draw_0 8 rfl rfl)
theorem dX0_draw_9 : decode cX0_draw 9 = .ok (.ldc2_w 612, 3) := dk_20 2 100 (dk_at dksX0_draw_0 9 rfl rfl)
theorem dX0_draw_12 : decode cX0_draw 12 = .ok (.ladd, 1) := dk_97 (dk_at dksX0_draw_0 12 rfl rfl)
theorem dX0_draw_13 : decode cX0_draw 13 = .ok (.ldc2_w 614, 3) := dk_20 2 102 (dk_at dksX0_draw_0 13 rfl rfl)
theorem dX0_draw_16 : decode cX0_draw 16 = .ok (.lrem, 1) := dk_113 (dk_at dksX0_draw_0 16 rfl rfl)
theorem dX0_draw_17 : decode cX0_draw 17 = .ok (.putfield 606, 3) := dk_181 2 94 (dk_at dksX0_draw_0 17 rfl rfl)
theorem dX0_draw_20 : decode cX0_draw 20 = .ok (.aload_n 0, 1) := dk_42 (dk_at dksX0_draw_0 20 rfl rfl)
theorem dX0_draw_21 : decode cX0_draw 21 = .ok (.getfield 606, 3) := dk_180 2 94 (dk_at dksX0_draw_0 21 rfl rfl)
theorem dX0_draw_24 : decode cX0_draw 24 = .ok (.ldc2_w 616, 3) := dk_20 2 104 (dk_at dksX0_draw_1 0 rfl rfl)
theorem dX0_draw_27 : decode cX0_draw 27 = .ok (.ldiv, 1) := dk_109 (dk_at dksX0_draw_1 3 rfl rfl)
theorem dX0_draw_28 : decode cX0_draw 28 = .ok (.iload_n 1, 1) := dk_27 (dk_at dksX0_draw_1 4 rfl rfl)
theorem dX0_draw_29 : decode cX0_draw 29 = .ok (.i2l, 1) := dk_133 (dk_at dksX0_draw_1 5 rfl rfl)
theorem dX0_draw_30 : decode cX0_draw 30 = .ok (.lrem, 1) := dk_113 (dk_at dksX0_draw_1 6 rfl rfl)
theorem dX0_draw_31 : decode cX0_draw 31 = .ok (.l2i, 1) := dk_136 (dk_at dksX0_draw_1 7 rfl rfl)
theorem dX0_draw_32 : decode cX0_draw 32 = .ok (.ireturn, 1) := dk_172 (dk_at dksX0_draw_1 8 rfl rfl)
def dkwX0_changes_0 : List UInt8 := [42, 27, 46, 62, 42, 27, 42, 28, 46, 79, 42, 28, 29, 79, 177]
abbrev dktX0_changes_0 : List UInt8 := dkwX0_changes_0 ++ []
theorem dksX0_changes_0 : cX0_changes.data.toList.drop 0 = dktX0_changes_0 := by decide +kernel
theorem dX0_changes_0 : decode cX0_changes 0 = .ok (.aload_n 0, 1) := dk_42 (dk_at dksX0_changes_0 0 rfl rfl)
theorem dX0_changes_1 : decode cX0_changes 1 = .ok (.iload_n 1, 1) := dk_27 (dk_at dksX0_changes_0 1 rfl rfl)
theorem dX0_changes_2 : decode cX0_changes 2 = .ok (.iaload, 1) := dk_46 (dk_at dksX0_changes_0 2 rfl rfl)
theorem dX0_changes_3 : decode cX0_changes 3 = .ok (.istore_n 3, 1) := dk_62 (dk_at dksX0_changes_0 3 rfl rfl)
theorem dX0_changes_4 : decode cX0_changes 4 = .ok (.aload_n 0, 1) := dk_42 (dk_at dksX0_changes_0 4 rfl rfl)
theorem dX0_changes_5 : decode cX0_changes 5 = .ok (.iload_n 1, 1) := dk_27 (dk_at dksX0_changes_0 5 rfl rfl)
theorem dX0_changes_6 : decode cX0_changes 6 = .ok (.aload_n 0, 1) := dk_42 (dk_at dksX0_changes_0 6 rfl rfl)
theorem dX0_changes_7 : decode cX0_changes 7 = .ok (.iload_n 2, 1) := dk_28 (dk_at dksX0_changes_0 7 rfl rfl)
theorem dX0_changes_8 : decode cX0_changes 8 = .ok (.iaload, 1) := dk_46 (dk_at dksX0_changes_0 8 rfl rfl)
theorem dX0_changes_9 : decode cX0_changes 9 = .ok (.iastore, 1) := dk_79 (dk_at dksX0_changes_0 9 rfl rfl)
theorem dX0_changes_10 : decode cX0_changes 10 = .ok (.aload_n 0, 1) := dk_42 (dk_at dksX0_changes_0 10 rfl rfl)
theorem dX0_changes_11 : decode cX0_changes 11 = .ok (.iload_n 2, 1) := dk_28 (dk_at dksX0_changes_0 11 rfl rfl)
theorem dX0_changes_12 : decode cX0_changes 12 = .ok (.iload_n 3, 1) := dk_29 (dk_at dksX0_changes_0 12 rfl rfl)
theorem dX0_changes_13 : decode cX0_changes 13 = .ok (.iastore, 1) := dk_79 (dk_at dksX0_changes_0 13 rfl rfl)
theorem dX0_changes_14 : decode cX0_changes 14 = .ok (.return_, 1) := dk_177 (dk_at dksX0_changes_0 14 rfl rfl)
def dkwX0_count_7 : List UInt8 := [180, 2, 91, 172, 42, 180, 0, 103, 172, 2, 172]
abbrev dktX0_count_7 : List UInt8 := dkwX0_count_7 ++ []
def dkwX0_count_6 : List UInt8 := [184, 0, 162, 172, 42, 182, 2, 124, 172, 42, 180, 0, 16, 180, 1, 133, 172, 42, 180, 0, 128, 172, 42]
abbrev dktX0_count_6 : List UInt8 := dkwX0_count_6 ++ dktX0_count_7
def dkwX0_count_5 : List UInt8 := [172, 42, 42, 180, 0, 39, 182, 2, 117, 172, 42, 42, 180, 0, 42, 182, 2, 117, 172, 42, 180, 1, 157]
abbrev dktX0_count_5 : List UInt8 := dkwX0_count_5 ++ dktX0_count_6
def dkwX0_count_4 : List UInt8 := [180, 0, 230, 172, 42, 180, 0, 16, 180, 0, 248, 172, 42, 180, 0, 16, 180, 1, 59, 172, 42, 180, 0, 146]
abbrev dktX0_count_4 : List UInt8 := dkwX0_count_4 ++ dktX0_count_5
def dkwX0_count_3 : List UInt8 := [172, 42, 3, 182, 2, 120, 172, 42, 4, 182, 2, 120, 172, 42, 180, 1, 72, 172, 42, 180, 0, 16]
abbrev dktX0_count_3 : List UInt8 := dkwX0_count_3 ++ dktX0_count_4
def dkwX0_count_2 : List UInt8 := [42, 180, 0, 16, 180, 0, 134, 172, 42, 42, 180, 0, 36, 182, 2, 117, 172, 42, 180, 0, 16, 180, 0, 136]
abbrev dktX0_count_2 : List UInt8 := dkwX0_count_2 ++ dktX0_count_3
def dkwX0_count_1 : List UInt8 := [170, 0, 0, 0, 0, 0, 212, 0, 0, 0, 0, 0, 0, 0, 17, 0, 0, 0, 87, 0, 0, 0, 95, 0, 0, 0, 104, 0, 0, 0, 112, 0, 0, 0, 118, 0, 0, 0, 124, 0, 0, 0, 129, 0, 0, 0, 137, 0, 0, 0, 145, 0, 0, 0, 153, 0, 0, 0, 158, 0, 0, 0, 167, 0, 0, 0, 176, 0, 0, 0, 184, 0, 0, 0, 189, 0, 0, 0, 197, 0, 0, 0, 202, 0, 0, 0, 207]
abbrev dktX0_count_1 : List UInt8 := dkwX0_count_1 ++ dktX0_count_2
def dkwX0_count_0 : List UInt8 := [27]
abbrev dktX0_count_0 : List UInt8 := dkwX0_count_0 ++ dktX0_count_1
theorem dksX0_count_0 : cX0_count.data.toList.drop 0 = dktX0_count_0 := by decide +kernel
theorem dksX0_count_1 : cX0_count.data.toList.drop 1 = dktX0_count_1 := dk_seg dksX0_count_0 1 rfl rfl
theorem dksX0_count_2 : cX0_count.data.toList.drop 88 = dktX0_count_2 := dk_seg dksX0_count_1 87 rfl rfl
theorem dksX0_count_3 : cX0_count.data.toList.drop 112 = dktX0_count_3 := dk_seg dksX0_count_2 24 rfl rfl
theorem dksX0_count_4 : cX0_count.data.toList.drop 134 = dktX0_count_4 := dk_seg dksX0_count_3 22 rfl rfl
theorem dksX0_count_5 : cX0_count.data.toList.drop 158 = dktX0_count_5 := dk_seg dksX0_count_4 24 rfl rfl
theorem dksX0_count_6 : cX0_count.data.toList.drop 181 = dktX0_count_6 := dk_seg dksX0_count_5 23 rfl rfl
theorem dksX0_count_7 : cX0_count.data.toList.drop 204 = dktX0_count_7 := dk_seg dksX0_count_6 23 rfl rfl
theorem dX0_count_0 : decode cX0_count 0 = .ok (.iload_n 1, 1) := dk_27 (dk_at dksX0_count_0 0 rfl rfl)
theorem dX0_count_1 : decode cX0_count 1 = .ok (.tableswitch 212 0 17 #[87, 95, 104, 112, 118, 124, 129, 137, 145, 153, 158, 167, 176, 184, 189, 197, 202, 207], 87) := by decide +kernel
theorem dX0_count_88 : decode cX0_count 88 = .ok (.aload_n 0, 1) := dk_42 (dk_at dksX0_count_2 0 rfl rfl)
theorem dX0_count_89 : decode cX0_count 89 = .ok (.getfield 16, 3) := dk_180 0 16 (dk_at dksX0_count_2 1 rfl rfl)
theorem dX0_count_92 : decode cX0_count 92 = .ok (.getfield 134, 3) := dk_180 0 134 (dk_at dksX0_count_2 4 rfl rfl)
theorem dX0_count_95 : decode cX0_count 95 = .ok (.ireturn, 1) := dk_172 (dk_at dksX0_count_2 7 rfl rfl)
theorem dX0_count_96 : decode cX0_count 96 = .ok (.aload_n 0, 1) := dk_42 (dk_at dksX0_count_2 8 rfl rfl)
theorem dX0_count_97 : decode cX0_count 97 = .ok (.aload_n 0, 1) := dk_42 (dk_at dksX0_count_2 9 rfl rfl)
theorem dX0_count_98 : decode cX0_count 98 = .ok (.getfield 36, 3) := dk_180 0 36 (dk_at dksX0_count_2 10 rfl rfl)
theorem dX0_count_101 : decode cX0_count 101 = .ok (.invokevirtual 629, 3) := dk_182 2 117 (dk_at dksX0_count_2 13 rfl rfl)
theorem dX0_count_104 : decode cX0_count 104 = .ok (.ireturn, 1) := dk_172 (dk_at dksX0_count_2 16 rfl rfl)
theorem dX0_count_105 : decode cX0_count 105 = .ok (.aload_n 0, 1) := dk_42 (dk_at dksX0_count_2 17 rfl rfl)
theorem dX0_count_106 : decode cX0_count 106 = .ok (.getfield 16, 3) := dk_180 0 16 (dk_at dksX0_count_2 18 rfl rfl)
theorem dX0_count_109 : decode cX0_count 109 = .ok (.getfield 136, 3) := dk_180 0 136 (dk_at dksX0_count_2 21 rfl rfl)
theorem dX0_count_112 : decode cX0_count 112 = .ok (.ireturn, 1) := dk_172 (dk_at dksX0_count_3 0 rfl rfl)
theorem dX0_count_113 : decode cX0_count 113 = .ok (.aload_n 0, 1) := dk_42 (dk_at dksX0_count_3 1 rfl rfl)
theorem dX0_count_114 : decode cX0_count 114 = .ok (.iconst 0, 1) := dk_3 (dk_at dksX0_count_3 2 rfl rfl)
theorem dX0_count_115 : decode cX0_count 115 = .ok (.invokevirtual 632, 3) := dk_182 2 120 (dk_at dksX0_count_3 3 rfl rfl)
theorem dX0_count_118 : decode cX0_count 118 = .ok (.ireturn, 1) := dk_172 (dk_at dksX0_count_3 6 rfl rfl)
theorem dX0_count_119 : decode cX0_count 119 = .ok (.aload_n 0, 1) := dk_42 (dk_at dksX0_count_3 7 rfl rfl)
theorem dX0_count_120 : decode cX0_count 120 = .ok (.iconst 1, 1) := dk_4 (dk_at dksX0_count_3 8 rfl rfl)
theorem dX0_count_121 : decode cX0_count 121 = .ok (.invokevirtual 632, 3) := dk_182 2 120 (dk_at dksX0_count_3 9 rfl rfl)
theorem dX0_count_124 : decode cX0_count 124 = .ok (.ireturn, 1) := dk_172 (dk_at dksX0_count_3 12 rfl rfl)
theorem dX0_count_125 : decode cX0_count 125 = .ok (.aload_n 0, 1) := dk_42 (dk_at dksX0_count_3 13 rfl rfl)
theorem dX0_count_126 : decode cX0_count 126 = .ok (.getfield 328, 3) := dk_180 1 72 (dk_at dksX0_count_3 14 rfl rfl)
theorem dX0_count_129 : decode cX0_count 129 = .ok (.ireturn, 1) := dk_172 (dk_at dksX0_count_3 17 rfl rfl)
theorem dX0_count_130 : decode cX0_count 130 = .ok (.aload_n 0, 1) := dk_42 (dk_at dksX0_count_3 18 rfl rfl)
theorem dX0_count_131 : decode cX0_count 131 = .ok (.getfield 16, 3) := dk_180 0 16 (dk_at dksX0_count_3 19 rfl rfl)
theorem dX0_count_134 : decode cX0_count 134 = .ok (.getfield 230, 3) := dk_180 0 230 (dk_at dksX0_count_4 0 rfl rfl)
theorem dX0_count_137 : decode cX0_count 137 = .ok (.ireturn, 1) := dk_172 (dk_at dksX0_count_4 3 rfl rfl)
theorem dX0_count_138 : decode cX0_count 138 = .ok (.aload_n 0, 1) := dk_42 (dk_at dksX0_count_4 4 rfl rfl)
theorem dX0_count_139 : decode cX0_count 139 = .ok (.getfield 16, 3) := dk_180 0 16 (dk_at dksX0_count_4 5 rfl rfl)
theorem dX0_count_142 : decode cX0_count 142 = .ok (.getfield 248, 3) := dk_180 0 248 (dk_at dksX0_count_4 8 rfl rfl)
theorem dX0_count_145 : decode cX0_count 145 = .ok (.ireturn, 1) := dk_172 (dk_at dksX0_count_4 11 rfl rfl)
theorem dX0_count_146 : decode cX0_count 146 = .ok (.aload_n 0, 1) := dk_42 (dk_at dksX0_count_4 12 rfl rfl)
theorem dX0_count_147 : decode cX0_count 147 = .ok (.getfield 16, 3) := dk_180 0 16 (dk_at dksX0_count_4 13 rfl rfl)
theorem dX0_count_150 : decode cX0_count 150 = .ok (.getfield 315, 3) := dk_180 1 59 (dk_at dksX0_count_4 16 rfl rfl)
theorem dX0_count_153 : decode cX0_count 153 = .ok (.ireturn, 1) := dk_172 (dk_at dksX0_count_4 19 rfl rfl)
theorem dX0_count_154 : decode cX0_count 154 = .ok (.aload_n 0, 1) := dk_42 (dk_at dksX0_count_4 20 rfl rfl)
theorem dX0_count_155 : decode cX0_count 155 = .ok (.getfield 146, 3) := dk_180 0 146 (dk_at dksX0_count_4 21 rfl rfl)
theorem dX0_count_158 : decode cX0_count 158 = .ok (.ireturn, 1) := dk_172 (dk_at dksX0_count_5 0 rfl rfl)
theorem dX0_count_159 : decode cX0_count 159 = .ok (.aload_n 0, 1) := dk_42 (dk_at dksX0_count_5 1 rfl rfl)
theorem dX0_count_160 : decode cX0_count 160 = .ok (.aload_n 0, 1) := dk_42 (dk_at dksX0_count_5 2 rfl rfl)
theorem dX0_count_161 : decode cX0_count 161 = .ok (.getfield 39, 3) := dk_180 0 39 (dk_at dksX0_count_5 3 rfl rfl)
theorem dX0_count_164 : decode cX0_count 164 = .ok (.invokevirtual 629, 3) := dk_182 2 117 (dk_at dksX0_count_5 6 rfl rfl)
theorem dX0_count_167 : decode cX0_count 167 = .ok (.ireturn, 1) := dk_172 (dk_at dksX0_count_5 9 rfl rfl)
theorem dX0_count_168 : decode cX0_count 168 = .ok (.aload_n 0, 1) := dk_42 (dk_at dksX0_count_5 10 rfl rfl)
theorem dX0_count_169 : decode cX0_count 169 = .ok (.aload_n 0, 1) := dk_42 (dk_at dksX0_count_5 11 rfl rfl)
theorem dX0_count_170 : decode cX0_count 170 = .ok (.getfield 42, 3) := dk_180 0 42 (dk_at dksX0_count_5 12 rfl rfl)
theorem dX0_count_173 : decode cX0_count 173 = .ok (.invokevirtual 629, 3) := dk_182 2 117 (dk_at dksX0_count_5 15 rfl rfl)
theorem dX0_count_176 : decode cX0_count 176 = .ok (.ireturn, 1) := dk_172 (dk_at dksX0_count_5 18 rfl rfl)
theorem dX0_count_177 : decode cX0_count 177 = .ok (.aload_n 0, 1) := dk_42 (dk_at dksX0_count_5 19 rfl rfl)
theorem dX0_count_178 : decode cX0_count 178 = .ok (.getfield 413, 3) := dk_180 1 157 (dk_at dksX0_count_5 20 rfl rfl)
theorem dX0_count_181 : decode cX0_count 181 = .ok (.invokestatic 162, 3) := dk_184 0 162 (dk_at dksX0_count_6 0 rfl rfl)
theorem dX0_count_184 : decode cX0_count 184 = .ok (.ireturn, 1) := dk_172 (dk_at dksX0_count_6 3 rfl rfl)
theorem dX0_count_185 : decode cX0_count 185 = .ok (.aload_n 0, 1) := dk_42 (dk_at dksX0_count_6 4 rfl rfl)
theorem dX0_count_186 : decode cX0_count 186 = .ok (.invokevirtual 636, 3) := dk_182 2 124 (dk_at dksX0_count_6 5 rfl rfl)
theorem dX0_count_189 : decode cX0_count 189 = .ok (.ireturn, 1) := dk_172 (dk_at dksX0_count_6 8 rfl rfl)
theorem dX0_count_190 : decode cX0_count 190 = .ok (.aload_n 0, 1) := dk_42 (dk_at dksX0_count_6 9 rfl rfl)
theorem dX0_count_191 : decode cX0_count 191 = .ok (.getfield 16, 3) := dk_180 0 16 (dk_at dksX0_count_6 10 rfl rfl)
theorem dX0_count_194 : decode cX0_count 194 = .ok (.getfield 389, 3) := dk_180 1 133 (dk_at dksX0_count_6 13 rfl rfl)
theorem dX0_count_197 : decode cX0_count 197 = .ok (.ireturn, 1) := dk_172 (dk_at dksX0_count_6 16 rfl rfl)
theorem dX0_count_198 : decode cX0_count 198 = .ok (.aload_n 0, 1) := dk_42 (dk_at dksX0_count_6 17 rfl rfl)
theorem dX0_count_199 : decode cX0_count 199 = .ok (.getfield 128, 3) := dk_180 0 128 (dk_at dksX0_count_6 18 rfl rfl)
theorem dX0_count_202 : decode cX0_count 202 = .ok (.ireturn, 1) := dk_172 (dk_at dksX0_count_6 21 rfl rfl)
theorem dX0_count_203 : decode cX0_count 203 = .ok (.aload_n 0, 1) := dk_42 (dk_at dksX0_count_6 22 rfl rfl)
theorem dX0_count_204 : decode cX0_count 204 = .ok (.getfield 603, 3) := dk_180 2 91 (dk_at dksX0_count_7 0 rfl rfl)
theorem dX0_count_207 : decode cX0_count 207 = .ok (.ireturn, 1) := dk_172 (dk_at dksX0_count_7 3 rfl rfl)
theorem dX0_count_208 : decode cX0_count 208 = .ok (.aload_n 0, 1) := dk_42 (dk_at dksX0_count_7 4 rfl rfl)
theorem dX0_count_209 : decode cX0_count 209 = .ok (.getfield 103, 3) := dk_180 0 103 (dk_at dksX0_count_7 5 rfl rfl)
theorem dX0_count_212 : decode cX0_count 212 = .ok (.ireturn, 1) := dk_172 (dk_at dksX0_count_7 8 rfl rfl)
theorem dX0_count_213 : decode cX0_count 213 = .ok (.iconst (-1), 1) := dk_2 (dk_at dksX0_count_7 9 rfl rfl)
theorem dX0_count_214 : decode cX0_count 214 = .ok (.ireturn, 1) := dk_172 (dk_at dksX0_count_7 10 rfl rfl)
def dkwX0_classesOf_1 : List UInt8 := [43, 29, 46, 29, 160, 0, 7, 4, 167, 0, 4, 3, 96, 61, 132, 3, 1, 167, 255, 219, 28, 172]
abbrev dktX0_classesOf_1 : List UInt8 := dkwX0_classesOf_1 ++ []
def dkwX0_classesOf_0 : List UInt8 := [3, 61, 3, 62, 29, 42, 180, 0, 16, 180, 0, 134, 162, 0, 32, 28, 42, 29, 182, 1, 151, 153, 0, 14]
abbrev dktX0_classesOf_0 : List UInt8 := dkwX0_classesOf_0 ++ dktX0_classesOf_1
theorem dksX0_classesOf_0 : cX0_classesOf.data.toList.drop 0 = dktX0_classesOf_0 := by decide +kernel
theorem dksX0_classesOf_1 : cX0_classesOf.data.toList.drop 24 = dktX0_classesOf_1 := dk_seg dksX0_classesOf_0 24 rfl rfl
theorem dX0_classesOf_0 : decode cX0_classesOf 0 = .ok (.iconst 0, 1) := dk_3 (dk_at dksX0_classesOf_0 0 rfl rfl)
theorem dX0_classesOf_1 : decode cX0_classesOf 1 = .ok (.istore_n 2, 1) := dk_61 (dk_at dksX0_classesOf_0 1 rfl rfl)
theorem dX0_classesOf_2 : decode cX0_classesOf 2 = .ok (.iconst 0, 1) := dk_3 (dk_at dksX0_classesOf_0 2 rfl rfl)
theorem dX0_classesOf_3 : decode cX0_classesOf 3 = .ok (.istore_n 3, 1) := dk_62 (dk_at dksX0_classesOf_0 3 rfl rfl)
theorem dX0_classesOf_4 : decode cX0_classesOf 4 = .ok (.iload_n 3, 1) := dk_29 (dk_at dksX0_classesOf_0 4 rfl rfl)
theorem dX0_classesOf_5 : decode cX0_classesOf 5 = .ok (.aload_n 0, 1) := dk_42 (dk_at dksX0_classesOf_0 5 rfl rfl)
theorem dX0_classesOf_6 : decode cX0_classesOf 6 = .ok (.getfield 16, 3) := dk_180 0 16 (dk_at dksX0_classesOf_0 6 rfl rfl)
theorem dX0_classesOf_9 : decode cX0_classesOf 9 = .ok (.getfield 134, 3) := dk_180 0 134 (dk_at dksX0_classesOf_0 9 rfl rfl)
theorem dX0_classesOf_12 : decode cX0_classesOf 12 = .ok (.if_icmp .ge 32, 3) := dk_162 0 32 (dk_at dksX0_classesOf_0 12 rfl rfl)
theorem dX0_classesOf_15 : decode cX0_classesOf 15 = .ok (.iload_n 2, 1) := dk_28 (dk_at dksX0_classesOf_0 15 rfl rfl)
theorem dX0_classesOf_16 : decode cX0_classesOf 16 = .ok (.aload_n 0, 1) := dk_42 (dk_at dksX0_classesOf_0 16 rfl rfl)
theorem dX0_classesOf_17 : decode cX0_classesOf 17 = .ok (.iload_n 3, 1) := dk_29 (dk_at dksX0_classesOf_0 17 rfl rfl)
theorem dX0_classesOf_18 : decode cX0_classesOf 18 = .ok (.invokevirtual 407, 3) := dk_182 1 151 (dk_at dksX0_classesOf_0 18 rfl rfl)
theorem dX0_classesOf_21 : decode cX0_classesOf 21 = .ok (.ifCond .eq 14, 3) := dk_153 0 14 (dk_at dksX0_classesOf_0 21 rfl rfl)
theorem dX0_classesOf_24 : decode cX0_classesOf 24 = .ok (.aload_n 1, 1) := dk_43 (dk_at dksX0_classesOf_1 0 rfl rfl)
theorem dX0_classesOf_25 : decode cX0_classesOf 25 = .ok (.iload_n 3, 1) := dk_29 (dk_at dksX0_classesOf_1 1 rfl rfl)
theorem dX0_classesOf_26 : decode cX0_classesOf 26 = .ok (.iaload, 1) := dk_46 (dk_at dksX0_classesOf_1 2 rfl rfl)
theorem dX0_classesOf_27 : decode cX0_classesOf 27 = .ok (.iload_n 3, 1) := dk_29 (dk_at dksX0_classesOf_1 3 rfl rfl)
theorem dX0_classesOf_28 : decode cX0_classesOf 28 = .ok (.if_icmp .ne 7, 3) := dk_160 0 7 (dk_at dksX0_classesOf_1 4 rfl rfl)
theorem dX0_classesOf_31 : decode cX0_classesOf 31 = .ok (.iconst 1, 1) := dk_4 (dk_at dksX0_classesOf_1 7 rfl rfl)
theorem dX0_classesOf_32 : decode cX0_classesOf 32 = .ok (.goto 4, 3) := dk_167 0 4 (dk_at dksX0_classesOf_1 8 rfl rfl)
theorem dX0_classesOf_35 : decode cX0_classesOf 35 = .ok (.iconst 0, 1) := dk_3 (dk_at dksX0_classesOf_1 11 rfl rfl)
theorem dX0_classesOf_36 : decode cX0_classesOf 36 = .ok (.iadd, 1) := dk_96 (dk_at dksX0_classesOf_1 12 rfl rfl)
theorem dX0_classesOf_37 : decode cX0_classesOf 37 = .ok (.istore_n 2, 1) := dk_61 (dk_at dksX0_classesOf_1 13 rfl rfl)
theorem dX0_classesOf_38 : decode cX0_classesOf 38 = .ok (.iinc 3 1, 3) := dk_132 3 1 (dk_at dksX0_classesOf_1 14 rfl rfl)
theorem dX0_classesOf_41 : decode cX0_classesOf 41 = .ok (.goto (-37), 3) := dk_167 255 219 (dk_at dksX0_classesOf_1 17 rfl rfl)
theorem dX0_classesOf_44 : decode cX0_classesOf 44 = .ok (.iload_n 2, 1) := dk_28 (dk_at dksX0_classesOf_1 20 rfl rfl)
theorem dX0_classesOf_45 : decode cX0_classesOf 45 = .ok (.ireturn, 1) := dk_172 (dk_at dksX0_classesOf_1 21 rfl rfl)
def dkwX0_rowsAll_2 : List UInt8 := [50, 182, 1, 6, 167, 0, 4, 4, 96, 61, 132, 4, 1, 167, 255, 213, 132, 3, 1, 167, 255, 193, 28, 172]
abbrev dktX0_rowsAll_2 : List UInt8 := dkwX0_rowsAll_2 ++ []
def dkwX0_rowsAll_1 : List UInt8 := [180, 0, 139, 29, 50, 180, 0, 236, 162, 0, 32, 28, 27, 153, 0, 18, 42, 180, 0, 47, 29, 50, 21, 4]
abbrev dktX0_rowsAll_1 : List UInt8 := dkwX0_rowsAll_1 ++ dktX0_rowsAll_2
def dkwX0_rowsAll_0 : List UInt8 := [3, 61, 3, 62, 29, 42, 180, 0, 16, 180, 0, 136, 162, 0, 58, 3, 54, 4, 21, 4, 42, 180, 0, 16]
abbrev dktX0_rowsAll_0 : List UInt8 := dkwX0_rowsAll_0 ++ dktX0_rowsAll_1
theorem dksX0_rowsAll_0 : cX0_rowsAll.data.toList.drop 0 = dktX0_rowsAll_0 := by decide +kernel
theorem dksX0_rowsAll_1 : cX0_rowsAll.data.toList.drop 24 = dktX0_rowsAll_1 := dk_seg dksX0_rowsAll_0 24 rfl rfl
theorem dksX0_rowsAll_2 : cX0_rowsAll.data.toList.drop 48 = dktX0_rowsAll_2 := dk_seg dksX0_rowsAll_1 24 rfl rfl
theorem dX0_rowsAll_0 : decode cX0_rowsAll 0 = .ok (.iconst 0, 1) := dk_3 (dk_at dksX0_rowsAll_0 0 rfl rfl)
theorem dX0_rowsAll_1 : decode cX0_rowsAll 1 = .ok (.istore_n 2, 1) := dk_61 (dk_at dksX0_rowsAll_0 1 rfl rfl)
theorem dX0_rowsAll_2 : decode cX0_rowsAll 2 = .ok (.iconst 0, 1) := dk_3 (dk_at dksX0_rowsAll_0 2 rfl rfl)
theorem dX0_rowsAll_3 : decode cX0_rowsAll 3 = .ok (.istore_n 3, 1) := dk_62 (dk_at dksX0_rowsAll_0 3 rfl rfl)
theorem dX0_rowsAll_4 : decode cX0_rowsAll 4 = .ok (.iload_n 3, 1) := dk_29 (dk_at dksX0_rowsAll_0 4 rfl rfl)
theorem dX0_rowsAll_5 : decode cX0_rowsAll 5 = .ok (.aload_n 0, 1) := dk_42 (dk_at dksX0_rowsAll_0 5 rfl rfl)
theorem dX0_rowsAll_6 : decode cX0_rowsAll 6 = .ok (.getfield 16, 3) := dk_180 0 16 (dk_at dksX0_rowsAll_0 6 rfl rfl)
theorem dX0_rowsAll_9 : decode cX0_rowsAll 9 = .ok (.getfield 136, 3) := dk_180 0 136 (dk_at dksX0_rowsAll_0 9 rfl rfl)
theorem dX0_rowsAll_12 : decode cX0_rowsAll 12 = .ok (.if_icmp .ge 58, 3) := dk_162 0 58 (dk_at dksX0_rowsAll_0 12 rfl rfl)
theorem dX0_rowsAll_15 : decode cX0_rowsAll 15 = .ok (.iconst 0, 1) := dk_3 (dk_at dksX0_rowsAll_0 15 rfl rfl)
theorem dX0_rowsAll_16 : decode cX0_rowsAll 16 = .ok (.istore 4, 2) := dk_54 4 (dk_at dksX0_rowsAll_0 16 rfl rfl)
theorem dX0_rowsAll_18 : decode cX0_rowsAll 18 = .ok (.iload 4, 2) := dk_21 4 (dk_at dksX0_rowsAll_0 18 rfl rfl)
theorem dX0_rowsAll_20 : decode cX0_rowsAll 20 = .ok (.aload_n 0, 1) := dk_42 (dk_at dksX0_rowsAll_0 20 rfl rfl)
theorem dX0_rowsAll_21 : decode cX0_rowsAll 21 = .ok (.getfield 16, 3) := dk_180 0 16 (dk_at dksX0_rowsAll_0 21 rfl rfl)
theorem dX0_rowsAll_24 : decode cX0_rowsAll 24 = .ok (.getfield 139, 3) := dk_180 0 139 (dk_at dksX0_rowsAll_1 0 rfl rfl)
theorem dX0_rowsAll_27 : decode cX0_rowsAll 27 = .ok (.iload_n 3, 1) := dk_29 (dk_at dksX0_rowsAll_1 3 rfl rfl)
theorem dX0_rowsAll_28 : decode cX0_rowsAll 28 = .ok (.aaload, 1) := dk_50 (dk_at dksX0_rowsAll_1 4 rfl rfl)
theorem dX0_rowsAll_29 : decode cX0_rowsAll 29 = .ok (.getfield 236, 3) := dk_180 0 236 (dk_at dksX0_rowsAll_1 5 rfl rfl)
theorem dX0_rowsAll_32 : decode cX0_rowsAll 32 = .ok (.if_icmp .ge 32, 3) := dk_162 0 32 (dk_at dksX0_rowsAll_1 8 rfl rfl)
theorem dX0_rowsAll_35 : decode cX0_rowsAll 35 = .ok (.iload_n 2, 1) := dk_28 (dk_at dksX0_rowsAll_1 11 rfl rfl)
theorem dX0_rowsAll_36 : decode cX0_rowsAll 36 = .ok (.iload_n 1, 1) := dk_27 (dk_at dksX0_rowsAll_1 12 rfl rfl)
theorem dX0_rowsAll_37 : decode cX0_rowsAll 37 = .ok (.ifCond .eq 18, 3) := dk_153 0 18 (dk_at dksX0_rowsAll_1 13 rfl rfl)
theorem dX0_rowsAll_40 : decode cX0_rowsAll 40 = .ok (.aload_n 0, 1) := dk_42 (dk_at dksX0_rowsAll_1 16 rfl rfl)
theorem dX0_rowsAll_41 : decode cX0_rowsAll 41 = .ok (.getfield 47, 3) := dk_180 0 47 (dk_at dksX0_rowsAll_1 17 rfl rfl)
theorem dX0_rowsAll_44 : decode cX0_rowsAll 44 = .ok (.iload_n 3, 1) := dk_29 (dk_at dksX0_rowsAll_1 20 rfl rfl)
theorem dX0_rowsAll_45 : decode cX0_rowsAll 45 = .ok (.aaload, 1) := dk_50 (dk_at dksX0_rowsAll_1 21 rfl rfl)
theorem dX0_rowsAll_46 : decode cX0_rowsAll 46 = .ok (.iload 4, 2) := dk_21 4 (dk_at dksX0_rowsAll_1 22 rfl rfl)
theorem dX0_rowsAll_48 : decode cX0_rowsAll 48 = .ok (.aaload, 1) := dk_50 (dk_at dksX0_rowsAll_2 0 rfl rfl)
theorem dX0_rowsAll_49 : decode cX0_rowsAll 49 = .ok (.invokevirtual 262, 3) := dk_182 1 6 (dk_at dksX0_rowsAll_2 1 rfl rfl)
theorem dX0_rowsAll_52 : decode cX0_rowsAll 52 = .ok (.goto 4, 3) := dk_167 0 4 (dk_at dksX0_rowsAll_2 4 rfl rfl)
theorem dX0_rowsAll_55 : decode cX0_rowsAll 55 = .ok (.iconst 1, 1) := dk_4 (dk_at dksX0_rowsAll_2 7 rfl rfl)
theorem dX0_rowsAll_56 : decode cX0_rowsAll 56 = .ok (.iadd, 1) := dk_96 (dk_at dksX0_rowsAll_2 8 rfl rfl)
theorem dX0_rowsAll_57 : decode cX0_rowsAll 57 = .ok (.istore_n 2, 1) := dk_61 (dk_at dksX0_rowsAll_2 9 rfl rfl)
theorem dX0_rowsAll_58 : decode cX0_rowsAll 58 = .ok (.iinc 4 1, 3) := dk_132 4 1 (dk_at dksX0_rowsAll_2 10 rfl rfl)
theorem dX0_rowsAll_61 : decode cX0_rowsAll 61 = .ok (.goto (-43), 3) := dk_167 255 213 (dk_at dksX0_rowsAll_2 13 rfl rfl)
theorem dX0_rowsAll_64 : decode cX0_rowsAll 64 = .ok (.iinc 3 1, 3) := dk_132 3 1 (dk_at dksX0_rowsAll_2 16 rfl rfl)
theorem dX0_rowsAll_67 : decode cX0_rowsAll 67 = .ok (.goto (-63), 3) := dk_167 255 193 (dk_at dksX0_rowsAll_2 19 rfl rfl)
theorem dX0_rowsAll_70 : decode cX0_rowsAll 70 = .ok (.iload_n 2, 1) := dk_28 (dk_at dksX0_rowsAll_2 22 rfl rfl)
theorem dX0_rowsAll_71 : decode cX0_rowsAll 71 = .ok (.ireturn, 1) := dk_172 (dk_at dksX0_rowsAll_2 23 rfl rfl)
