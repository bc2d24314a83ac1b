set_option maxRecDepth 100000
def dkwX0_feed_1 : List UInt8 := [182, 0, 107, 42, 21, 4, 182, 0, 107, 42, 21, 5, 182, 0, 107, 42, 180, 0, 103, 172]
abbrev dktX0_feed_1 : List UInt8 := dkwX0_feed_1 ++ []
def dkwX0_feed_0 : List UInt8 := [42, 180, 0, 103, 17, 1, 24, 164, 0, 5, 2, 172, 42, 27, 182, 0, 107, 42, 28, 182, 0, 107, 42, 29]
abbrev dktX0_feed_0 : List UInt8 := dkwX0_feed_0 ++ dktX0_feed_1
theorem dksX0_feed_0 : cX0_feed.data.toList.drop 0 = dktX0_feed_0 := by decide +kernel
theorem dksX0_feed_1 : cX0_feed.data.toList.drop 24 = dktX0_feed_1 := dk_seg dksX0_feed_0 24 rfl rfl
theorem dX0_feed_0 : decode cX0_feed 0 = .ok (.aload_n 0, 1) := dk_42 (dk_at dksX0_feed_0 0 rfl rfl)
theorem dX0_feed_1 : decode cX0_feed 1 = .ok (.getfield 103, 3) := dk_180 0 103 (dk_at dksX0_feed_0 1 rfl rfl)
theorem dX0_feed_4 : decode cX0_feed 4 = .ok (.sipush 280, 3) := dk_17 1 24 (dk_at dksX0_feed_0 4 rfl rfl)
theorem dX0_feed_7 : decode cX0_feed 7 = .ok (.if_icmp .le 5, 3) := dk_164 0 5 (dk_at dksX0_feed_0 7 rfl rfl)
theorem dX0_feed_10 : decode cX0_feed 10 = .ok (.iconst (-1), 1) := dk_2 (dk_at dksX0_feed_0 10 rfl rfl)
theorem dX0_feed_11 : decode cX0_feed 11 = .ok (.ireturn, 1) := dk_172 (dk_at dksX0_feed_0 11 rfl rfl)
theorem dX0_feed_12 : decode cX0_feed 12 = .ok (.aload_n 0, 1) := dk_42 (dk_at dksX0_feed_0 12 rfl rfl)
theorem dX0_feed_13 : decode cX0_feed 13 = .ok (.iload_n 1, 1) := dk_27 (dk_at dksX0_feed_0 13 rfl rfl)
theorem dX0_feed_14 : decode cX0_feed 14 = .ok (.invokevirtual 107, 3) := dk_182 0 107 (dk_at dksX0_feed_0 14 rfl rfl)
theorem dX0_feed_17 : decode cX0_feed 17 = .ok (.aload_n 0, 1) := dk_42 (dk_at dksX0_feed_0 17 rfl rfl)
theorem dX0_feed_18 : decode cX0_feed 18 = .ok (.iload_n 2, 1) := dk_28 (dk_at dksX0_feed_0 18 rfl rfl)
theorem dX0_feed_19 : decode cX0_feed 19 = .ok (.invokevirtual 107, 3) := dk_182 0 107 (dk_at dksX0_feed_0 19 rfl rfl)
theorem dX0_feed_22 : decode cX0_feed 22 = .ok (.aload_n 0, 1) := dk_42 (dk_at dksX0_feed_0 22 rfl rfl)
theorem dX0_feed_23 : decode cX0_feed 23 = .ok (.iload_n 3, 1) := dk_29 (dk_at dksX0_feed_0 23 rfl rfl)
theorem dX0_feed_24 : decode cX0_feed 24 = .ok (.invokevirtual 107, 3) := dk_182 0 107 (dk_at dksX0_feed_1 0 rfl rfl)
theorem dX0_feed_27 : decode cX0_feed 27 = .ok (.aload_n 0, 1) := dk_42 (dk_at dksX0_feed_1 3 rfl rfl)
theorem dX0_feed_28 : decode cX0_feed 28 = .ok (.iload 4, 2) := dk_21 4 (dk_at dksX0_feed_1 4 rfl rfl)
theorem dX0_feed_30 : decode cX0_feed 30 = .ok (.invokevirtual 107, 3) := dk_182 0 107 (dk_at dksX0_feed_1 6 rfl rfl)
theorem dX0_feed_33 : decode cX0_feed 33 = .ok (.aload_n 0, 1) := dk_42 (dk_at dksX0_feed_1 9 rfl rfl)
theorem dX0_feed_34 : decode cX0_feed 34 = .ok (.iload 5, 2) := dk_21 5 (dk_at dksX0_feed_1 10 rfl rfl)
theorem dX0_feed_36 : decode cX0_feed 36 = .ok (.invokevirtual 107, 3) := dk_182 0 107 (dk_at dksX0_feed_1 12 rfl rfl)
theorem dX0_feed_39 : decode cX0_feed 39 = .ok (.aload_n 0, 1) := dk_42 (dk_at dksX0_feed_1 15 rfl rfl)
theorem dX0_feed_40 : decode cX0_feed 40 = .ok (.getfield 103, 3) := dk_180 0 103 (dk_at dksX0_feed_1 16 rfl rfl)
theorem dX0_feed_43 : decode cX0_feed 43 = .ok (.ireturn, 1) := dk_172 (dk_at dksX0_feed_1 19 rfl rfl)
def dkwX0_lays_1 : List UInt8 := [180, 0, 103, 4, 96, 181, 0, 103, 132, 2, 248, 167, 255, 226, 177]
abbrev dktX0_lays_1 : List UInt8 := dkwX0_lays_1 ++ []
def dkwX0_lays_0 : List UInt8 := [16, 24, 61, 28, 155, 0, 32, 42, 180, 0, 9, 42, 180, 0, 103, 27, 28, 122, 145, 84, 42, 89]
abbrev dktX0_lays_0 : List UInt8 := dkwX0_lays_0 ++ dktX0_lays_1
theorem dksX0_lays_0 : cX0_lays.data.toList.drop 0 = dktX0_lays_0 := by decide +kernel
theorem dksX0_lays_1 : cX0_lays.data.toList.drop 22 = dktX0_lays_1 := dk_seg dksX0_lays_0 22 rfl rfl
theorem dX0_lays_0 : decode cX0_lays 0 = .ok (.bipush 24, 2) := dk_16 24 (dk_at dksX0_lays_0 0 rfl rfl)
theorem dX0_lays_2 : decode cX0_lays 2 = .ok (.istore_n 2, 1) := dk_61 (dk_at dksX0_lays_0 2 rfl rfl)
theorem dX0_lays_3 : decode cX0_lays 3 = .ok (.iload_n 2, 1) := dk_28 (dk_at dksX0_lays_0 3 rfl rfl)
theorem dX0_lays_4 : decode cX0_lays 4 = .ok (.ifCond .lt 32, 3) := dk_155 0 32 (dk_at dksX0_lays_0 4 rfl rfl)
theorem dX0_lays_7 : decode cX0_lays 7 = .ok (.aload_n 0, 1) := dk_42 (dk_at dksX0_lays_0 7 rfl rfl)
theorem dX0_lays_8 : decode cX0_lays 8 = .ok (.getfield 9, 3) := dk_180 0 9 (dk_at dksX0_lays_0 8 rfl rfl)
theorem dX0_lays_11 : decode cX0_lays 11 = .ok (.aload_n 0, 1) := dk_42 (dk_at dksX0_lays_0 11 rfl rfl)
theorem dX0_lays_12 : decode cX0_lays 12 = .ok (.getfield 103, 3) := dk_180 0 103 (dk_at dksX0_lays_0 12 rfl rfl)
theorem dX0_lays_15 : decode cX0_lays 15 = .ok (.iload_n 1, 1) := dk_27 (dk_at dksX0_lays_0 15 rfl rfl)
theorem dX0_lays_16 : decode cX0_lays 16 = .ok (.iload_n 2, 1) := dk_28 (dk_at dksX0_lays_0 16 rfl rfl)
theorem dX0_lays_17 : decode cX0_lays 17 = .ok (.ishr, 1) := dk_122 (dk_at dksX0_lays_0 17 rfl rfl)
theorem dX0_lays_18 : decode cX0_lays 18 = .ok (.i2b, 1) := dk_145 (dk_at dksX0_lays_0 18 rfl rfl)
theorem dX0_lays_19 : decode cX0_lays 19 = .ok (.bastore, 1) := dk_84 (dk_at dksX0_lays_0 19 rfl rfl)
theorem dX0_lays_20 : decode cX0_lays 20 = .ok (.aload_n 0, 1) := dk_42 (dk_at dksX0_lays_0 20 rfl rfl)
theorem dX0_lays_21 : decode cX0_lays 21 = .ok (.dup, 1) := dk_89 (dk_at dksX0_lays_0 21 rfl rfl)
theorem dX0_lays_22 : decode cX0_lays 22 = .ok (.getfield 103, 3) := dk_180 0 103 (dk_at dksX0_lays_1 0 rfl rfl)
theorem dX0_lays_25 : decode cX0_lays 25 = .ok (.iconst 1, 1) := dk_4 (dk_at dksX0_lays_1 3 rfl rfl)
theorem dX0_lays_26 : decode cX0_lays 26 = .ok (.iadd, 1) := dk_96 (dk_at dksX0_lays_1 4 rfl rfl)
theorem dX0_lays_27 : decode cX0_lays 27 = .ok (.putfield 103, 3) := dk_181 0 103 (dk_at dksX0_lays_1 5 rfl rfl)
theorem dX0_lays_30 : decode cX0_lays 30 = .ok (.iinc 2 (-8), 3) := dk_132 2 248 (dk_at dksX0_lays_1 8 rfl rfl)
theorem dX0_lays_33 : decode cX0_lays 33 = .ok (.goto (-30), 3) := dk_167 255 226 (dk_at dksX0_lays_1 11 rfl rfl)
theorem dX0_lays_36 : decode cX0_lays 36 = .ok (.return_, 1) := dk_177 (dk_at dksX0_lays_1 14 rfl rfl)
def dkwX0_end_0 : List UInt8 := [27, 133, 9, 42, 180, 0, 103, 133, 184, 0, 110, 154, 0, 5, 2, 172, 42, 27, 181, 0, 103, 27, 172]
abbrev dktX0_end_0 : List UInt8 := dkwX0_end_0 ++ []
theorem dksX0_end_0 : cX0_end.data.toList.drop 0 = dktX0_end_0 := by decide +kernel
theorem dX0_end_0 : decode cX0_end 0 = .ok (.iload_n 1, 1) := dk_27 (dk_at dksX0_end_0 0 rfl rfl)
theorem dX0_end_1 : decode cX0_end 1 = .ok (.i2l, 1) := dk_133 (dk_at dksX0_end_0 1 rfl rfl)
theorem dX0_end_2 : decode cX0_end 2 = .ok (.lconst 0, 1) := dk_9 (dk_at dksX0_end_0 2 rfl rfl)
theorem dX0_end_3 : decode cX0_end 3 = .ok (.aload_n 0, 1) := dk_42 (dk_at dksX0_end_0 3 rfl rfl)
theorem dX0_end_4 : decode cX0_end 4 = .ok (.getfield 103, 3) := dk_180 0 103 (dk_at dksX0_end_0 4 rfl rfl)
theorem dX0_end_7 : decode cX0_end 7 = .ok (.i2l, 1) := dk_133 (dk_at dksX0_end_0 7 rfl rfl)
theorem dX0_end_8 : decode cX0_end 8 = .ok (.invokestatic 110, 3) := dk_184 0 110 (dk_at dksX0_end_0 8 rfl rfl)
theorem dX0_end_11 : decode cX0_end 11 = .ok (.ifCond .ne 5, 3) := dk_154 0 5 (dk_at dksX0_end_0 11 rfl rfl)
theorem dX0_end_14 : decode cX0_end 14 = .ok (.iconst (-1), 1) := dk_2 (dk_at dksX0_end_0 14 rfl rfl)
theorem dX0_end_15 : decode cX0_end 15 = .ok (.ireturn, 1) := dk_172 (dk_at dksX0_end_0 15 rfl rfl)
theorem dX0_end_16 : decode cX0_end 16 = .ok (.aload_n 0, 1) := dk_42 (dk_at dksX0_end_0 16 rfl rfl)
theorem dX0_end_17 : decode cX0_end 17 = .ok (.iload_n 1, 1) := dk_27 (dk_at dksX0_end_0 17 rfl rfl)
theorem dX0_end_18 : decode cX0_end 18 = .ok (.putfield 103, 3) := dk_181 0 103 (dk_at dksX0_end_0 18 rfl rfl)
theorem dX0_end_21 : decode cX0_end 21 = .ok (.iload_n 1, 1) := dk_27 (dk_at dksX0_end_0 21 rfl rfl)
theorem dX0_end_22 : decode cX0_end 22 = .ok (.ireturn, 1) := dk_172 (dk_at dksX0_end_0 22 rfl rfl)
def dkwX0_forms_2 : List UInt8 := [3, 181, 0, 128, 42, 182, 0, 131, 42, 3, 182, 0, 99, 42, 180, 0, 16, 180, 0, 134, 172]
abbrev dktX0_forms_2 : List UInt8 := dkwX0_forms_2 ++ []
def dkwX0_forms_1 : List UInt8 := [16, 254, 43, 180, 0, 125, 100, 61, 42, 3, 181, 0, 103, 28, 172, 78, 42, 3, 181, 0, 103, 45, 191, 42]
abbrev dktX0_forms_1 : List UInt8 := dkwX0_forms_1 ++ dktX0_forms_2
def dkwX0_forms_0 : List UInt8 := [42, 187, 0, 114, 89, 42, 183, 0, 116, 182, 0, 119, 181, 0, 16, 42, 3, 181, 0, 103, 167, 0, 27, 76]
abbrev dktX0_forms_0 : List UInt8 := dkwX0_forms_0 ++ dktX0_forms_1
theorem dksX0_forms_0 : cX0_forms.data.toList.drop 0 = dktX0_forms_0 := by decide +kernel
theorem dksX0_forms_1 : cX0_forms.data.toList.drop 24 = dktX0_forms_1 := dk_seg dksX0_forms_0 24 rfl rfl
theorem dksX0_forms_2 : cX0_forms.data.toList.drop 48 = dktX0_forms_2 := dk_seg dksX0_forms_1 24 rfl rfl
theorem dX0_forms_0 : decode cX0_forms 0 = .ok (.aload_n 0, 1) := dk_42 (dk_at dksX0_forms_0 0 rfl rfl)
theorem dX0_forms_1 : decode cX0_forms 1 = .ok (.new 114, 3) := dk_187 0 114 (dk_at dksX0_forms_0 1 rfl rfl)
theorem dX0_forms_4 : decode cX0_forms 4 = .ok (.dup, 1) := dk_89 (dk_at dksX0_forms_0 4 rfl rfl)
theorem dX0_forms_5 : decode cX0_forms 5 = .ok (.aload_n 0, 1) := dk_42 (dk_at dksX0_forms_0 5 rfl rfl)
theorem dX0_forms_6 : decode cX0_forms 6 = .ok (.invokespecial 116, 3) := dk_183 0 116 (dk_at dksX0_forms_0 6 rfl rfl)
theorem dX0_forms_9 : decode cX0_forms 9 = .ok (.invokevirtual 119, 3) := dk_182 0 119 (dk_at dksX0_forms_0 9 rfl rfl)
theorem dX0_forms_12 : decode cX0_forms 12 = .ok (.putfield 16, 3) := dk_181 0 16 (dk_at dksX0_forms_0 12 rfl rfl)
theorem dX0_forms_15 : decode cX0_forms 15 = .ok (.aload_n 0, 1) := dk_42 (dk_at dksX0_forms_0 15 rfl rfl)
theorem dX0_forms_16 : decode cX0_forms 16 = .ok (.iconst 0, 1) := dk_3 (dk_at dksX0_forms_0 16 rfl rfl)
theorem dX0_forms_17 : decode cX0_forms 17 = .ok (.putfield 103, 3) := dk_181 0 103 (dk_at dksX0_forms_0 17 rfl rfl)
theorem dX0_forms_20 : decode cX0_forms 20 = .ok (.goto 27, 3) := dk_167 0 27 (dk_at dksX0_forms_0 20 rfl rfl)
theorem dX0_forms_23 : decode cX0_forms 23 = .ok (.astore_n 1, 1) := dk_76 (dk_at dksX0_forms_0 23 rfl rfl)
theorem dX0_forms_24 : decode cX0_forms 24 = .ok (.bipush (-2), 2) := dk_16 254 (dk_at dksX0_forms_1 0 rfl rfl)
theorem dX0_forms_26 : decode cX0_forms 26 = .ok (.aload_n 1, 1) := dk_43 (dk_at dksX0_forms_1 2 rfl rfl)
theorem dX0_forms_27 : decode cX0_forms 27 = .ok (.getfield 125, 3) := dk_180 0 125 (dk_at dksX0_forms_1 3 rfl rfl)
theorem dX0_forms_30 : decode cX0_forms 30 = .ok (.isub, 1) := dk_100 (dk_at dksX0_forms_1 6 rfl rfl)
theorem dX0_forms_31 : decode cX0_forms 31 = .ok (.istore_n 2, 1) := dk_61 (dk_at dksX0_forms_1 7 rfl rfl)
theorem dX0_forms_32 : decode cX0_forms 32 = .ok (.aload_n 0, 1) := dk_42 (dk_at dksX0_forms_1 8 rfl rfl)
theorem dX0_forms_33 : decode cX0_forms 33 = .ok (.iconst 0, 1) := dk_3 (dk_at dksX0_forms_1 9 rfl rfl)
theorem dX0_forms_34 : decode cX0_forms 34 = .ok (.putfield 103, 3) := dk_181 0 103 (dk_at dksX0_forms_1 10 rfl rfl)
theorem dX0_forms_37 : decode cX0_forms 37 = .ok (.iload_n 2, 1) := dk_28 (dk_at dksX0_forms_1 13 rfl rfl)
theorem dX0_forms_38 : decode cX0_forms 38 = .ok (.ireturn, 1) := dk_172 (dk_at dksX0_forms_1 14 rfl rfl)
theorem dX0_forms_39 : decode cX0_forms 39 = .ok (.astore_n 3, 1) := dk_78 (dk_at dksX0_forms_1 15 rfl rfl)
theorem dX0_forms_40 : decode cX0_forms 40 = .ok (.aload_n 0, 1) := dk_42 (dk_at dksX0_forms_1 16 rfl rfl)
theorem dX0_forms_41 : decode cX0_forms 41 = .ok (.iconst 0, 1) := dk_3 (dk_at dksX0_forms_1 17 rfl rfl)
theorem dX0_forms_42 : decode cX0_forms 42 = .ok (.putfield 103, 3) := dk_181 0 103 (dk_at dksX0_forms_1 18 rfl rfl)
theorem dX0_forms_45 : decode cX0_forms 45 = .ok (.aload_n 3, 1) := dk_45 (dk_at dksX0_forms_1 21 rfl rfl)
theorem dX0_forms_46 : decode cX0_forms 46 = .ok (.athrow, 1) := dk_191 (dk_at dksX0_forms_1 22 rfl rfl)
theorem dX0_forms_47 : decode cX0_forms 47 = .ok (.aload_n 0, 1) := dk_42 (dk_at dksX0_forms_1 23 rfl rfl)
theorem dX0_forms_48 : decode cX0_forms 48 = .ok (.iconst 0, 1) := dk_3 (dk_at dksX0_forms_2 0 rfl rfl)
theorem dX0_forms_49 : decode cX0_forms 49 = .ok (.putfield 128, 3) := dk_181 0 128 (dk_at dksX0_forms_2 1 rfl rfl)
theorem dX0_forms_52 : decode cX0_forms 52 = .ok (.aload_n 0, 1) := dk_42 (dk_at dksX0_forms_2 4 rfl rfl)
theorem dX0_forms_53 : decode cX0_forms 53 = .ok (.invokevirtual 131, 3) := dk_182 0 131 (dk_at dksX0_forms_2 5 rfl rfl)
theorem dX0_forms_56 : decode cX0_forms 56 = .ok (.aload_n 0, 1) := dk_42 (dk_at dksX0_forms_2 8 rfl rfl)
theorem dX0_forms_57 : decode cX0_forms 57 = .ok (.iconst 0, 1) := dk_3 (dk_at dksX0_forms_2 9 rfl rfl)
theorem dX0_forms_58 : decode cX0_forms 58 = .ok (.invokevirtual 99, 3) := dk_182 0 99 (dk_at dksX0_forms_2 10 rfl rfl)
theorem dX0_forms_61 : decode cX0_forms 61 = .ok (.aload_n 0, 1) := dk_42 (dk_at dksX0_forms_2 13 rfl rfl)
theorem dX0_forms_62 : decode cX0_forms 62 = .ok (.getfield 16, 3) := dk_180 0 16 (dk_at dksX0_forms_2 14 rfl rfl)
theorem dX0_forms_65 : decode cX0_forms 65 = .ok (.getfield 134, 3) := dk_180 0 134 (dk_at dksX0_forms_2 17 rfl rfl)
theorem dX0_forms_68 : decode cX0_forms 68 = .ok (.ireturn, 1) := dk_172 (dk_at dksX0_forms_2 20 rfl rfl)
def dkwX0_laysTree_7 : List UInt8 := [4, 96, 181, 0, 207, 43, 182, 0, 210, 192, 0, 30, 78, 167, 255, 206, 177]
abbrev dktX0_laysTree_7 : List UInt8 := dkwX0_laysTree_7 ++ []
def dkwX0_laysTree_6 : List UInt8 := [184, 0, 220, 154, 0, 6, 167, 0, 23, 42, 180, 0, 32, 42, 180, 0, 207, 45, 83, 42, 89, 180, 0, 207]
abbrev dktX0_laysTree_6 : List UInt8 := dkwX0_laysTree_6 ++ dktX0_laysTree_7
def dkwX0_laysTree_5 : List UInt8 := [181, 0, 207, 43, 182, 0, 210, 192, 0, 30, 78, 45, 198, 0, 52, 44, 45, 180, 0, 214, 45, 180, 0, 217]
abbrev dktX0_laysTree_5 : List UInt8 := dkwX0_laysTree_5 ++ dktX0_laysTree_6
def dkwX0_laysTree_4 : List UInt8 := [87, 132, 3, 1, 167, 255, 183, 132, 2, 1, 167, 255, 162, 16, 20, 188, 10, 77, 44, 184, 0, 203, 42, 3]
abbrev dktX0_laysTree_4 : List UInt8 := dkwX0_laysTree_4 ++ dktX0_laysTree_5
def dkwX0_laysTree_3 : List UInt8 := [180, 0, 27, 29, 50, 28, 21, 4, 79, 43, 187, 0, 30, 89, 28, 29, 21, 4, 183, 0, 196, 182, 0, 199]
abbrev dktX0_laysTree_3 : List UInt8 := dkwX0_laysTree_3 ++ dktX0_laysTree_4
def dkwX0_laysTree_2 : List UInt8 := [180, 0, 16, 180, 0, 190, 29, 46, 184, 0, 193, 54, 4, 42, 180, 0, 27, 28, 50, 29, 21, 4, 79, 42]
abbrev dktX0_laysTree_2 : List UInt8 := dkwX0_laysTree_2 ++ dktX0_laysTree_3
def dkwX0_laysTree_1 : List UInt8 := [62, 29, 42, 180, 0, 16, 180, 0, 134, 162, 0, 68, 42, 180, 0, 16, 180, 0, 190, 28, 46, 42]
abbrev dktX0_laysTree_1 : List UInt8 := dkwX0_laysTree_1 ++ dktX0_laysTree_2
def dkwX0_laysTree_0 : List UInt8 := [187, 0, 187, 89, 183, 0, 189, 76, 3, 61, 28, 42, 180, 0, 16, 180, 0, 134, 162, 0, 89, 28, 4, 96]
abbrev dktX0_laysTree_0 : List UInt8 := dkwX0_laysTree_0 ++ dktX0_laysTree_1
theorem dksX0_laysTree_0 : cX0_laysTree.data.toList.drop 0 = dktX0_laysTree_0 := by decide +kernel
theorem dksX0_laysTree_1 : cX0_laysTree.data.toList.drop 24 = dktX0_laysTree_1 := dk_seg dksX0_laysTree_0 24 rfl rfl
theorem dksX0_laysTree_2 : cX0_laysTree.data.toList.drop 46 = dktX0_laysTree_2 := dk_seg dksX0_laysTree_1 22 rfl rfl
theorem dksX0_laysTree_3 : cX0_laysTree.data.toList.drop 70 = dktX0_laysTree_3 := dk_seg dksX0_laysTree_2 24 rfl rfl
theorem dksX0_laysTree_4 : cX0_laysTree.data.toList.drop 94 = dktX0_laysTree_4 := dk_seg dksX0_laysTree_3 24 rfl rfl
theorem dksX0_laysTree_5 : cX0_laysTree.data.toList.drop 118 = dktX0_laysTree_5 := dk_seg dksX0_laysTree_4 24 rfl rfl
theorem dksX0_laysTree_6 : cX0_laysTree.data.toList.drop 142 = dktX0_laysTree_6 := dk_seg dksX0_laysTree_5 24 rfl rfl
theorem dksX0_laysTree_7 : cX0_laysTree.data.toList.drop 166 = dktX0_laysTree_7 := dk_seg dksX0_laysTree_6 24 rfl rfl
theorem dX0_laysTree_0 : decode cX0_laysTree 0 = .ok (.new 187, 3) := dk_187 0 187 (dk_at dksX0_laysTree_0 0 rfl rfl)
theorem dX0_laysTree_3 : decode cX0_laysTree 3 = .ok (.dup, 1) := dk_89 (dk_at dksX0_laysTree_0 3 rfl rfl)
theorem dX0_laysTree_4 : decode cX0_laysTree 4 = .ok (.invokespecial 189, 3) := dk_183 0 189 (dk_at dksX0_laysTree_0 4 rfl rfl)
theorem dX0_laysTree_7 : decode cX0_laysTree 7 = .ok (.astore_n 1, 1) := dk_76 (dk_at dksX0_laysTree_0 7 rfl rfl)
theorem dX0_laysTree_8 : decode cX0_laysTree 8 = .ok (.iconst 0, 1) := dk_3 (dk_at dksX0_laysTree_0 8 rfl rfl)
theorem dX0_laysTree_9 : decode cX0_laysTree 9 = .ok (.istore_n 2, 1) := dk_61 (dk_at dksX0_laysTree_0 9 rfl rfl)
theorem dX0_laysTree_10 : decode cX0_laysTree 10 = .ok (.iload_n 2, 1) := dk_28 (dk_at dksX0_laysTree_0 10 rfl rfl)
theorem dX0_laysTree_11 : decode cX0_laysTree 11 = .ok (.aload_n 0, 1) := dk_42 (dk_at dksX0_laysTree_0 11 rfl rfl)
theorem dX0_laysTree_12 : decode cX0_laysTree 12 = .ok (.getfield 16, 3) := dk_180 0 16 (dk_at dksX0_laysTree_0 12 rfl rfl)
theorem dX0_laysTree_15 : decode cX0_laysTree 15 = .ok (.getfield 134, 3) := dk_180 0 134 (dk_at dksX0_laysTree_0 15 rfl rfl)
theorem dX0_laysTree_18 : decode cX0_laysTree 18 = .ok (.if_icmp .ge 89, 3) := dk_162 0 89 (dk_at dksX0_laysTree_0 18 rfl rfl)
theorem dX0_laysTree_21 : decode cX0_laysTree 21 = .ok (.iload_n 2, 1) := dk_28 (dk_at dksX0_laysTree_0 21 rfl rfl)
theorem dX0_laysTree_22 : decode cX0_laysTree 22 = .ok (.iconst 1, 1) := dk_4 (dk_at dksX0_laysTree_0 22 rfl rfl)
theorem dX0_laysTree_23 : decode cX0_laysTree 23 = .ok (.iadd, 1) := dk_96 (dk_at dksX0_laysTree_0 23 rfl rfl)
theorem dX0_laysTree_24 : decode cX0_laysTree 24 = .ok (.istore_n 3, 1) := dk_62 (dk_at dksX0_laysTree_1 0 rfl rfl)
theorem dX0_laysTree_25 : decode cX0_laysTree 25 = .ok (.iload_n 3, 1) := dk_29 (dk_at dksX0_laysTree_1 1 rfl rfl)
theorem dX0_laysTree_26 : decode cX0_laysTree 26 = .ok (.aload_n 0, 1) := dk_42 (dk_at dksX0_laysTree_1 2 rfl rfl)
theorem dX0_laysTree_27 : decode cX0_laysTree 27 = .ok (.getfield 16, 3) := dk_180 0 16 (dk_at dksX0_laysTree_1 3 rfl rfl)
theorem dX0_laysTree_30 : decode cX0_laysTree 30 = .ok (.getfield 134, 3) := dk_180 0 134 (dk_at dksX0_laysTree_1 6 rfl rfl)
theorem dX0_laysTree_33 : decode cX0_laysTree 33 = .ok (.if_icmp .ge 68, 3) := dk_162 0 68 (dk_at dksX0_laysTree_1 9 rfl rfl)
theorem dX0_laysTree_36 : decode cX0_laysTree 36 = .ok (.aload_n 0, 1) := dk_42 (dk_at dksX0_laysTree_1 12 rfl rfl)
theorem dX0_laysTree_37 : decode cX0_laysTree 37 = .ok (.getfield 16, 3) := dk_180 0 16 (dk_at dksX0_laysTree_1 13 rfl rfl)
theorem dX0_laysTree_40 : decode cX0_laysTree 40 = .ok (.getfield 190, 3) := dk_180 0 190 (dk_at dksX0_laysTree_1 16 rfl rfl)
theorem dX0_laysTree_43 : decode cX0_laysTree 43 = .ok (.iload_n 2, 1) := dk_28 (dk_at dksX0_laysTree_1 19 rfl rfl)
theorem dX0_laysTree_44 : decode cX0_laysTree 44 = .ok (.iaload, 1) := dk_46 (dk_at dksX0_laysTree_1 20 rfl rfl)
theorem dX0_laysTree_45 : decode cX0_laysTree 45 = .ok (.aload_n 0, 1) := dk_42 (dk_at dksX0_laysTree_1 21 rfl rfl)
theorem dX0_laysTree_46 : decode cX0_laysTree 46 = .ok (.getfield 16, 3) := dk_180 0 16 (dk_at dksX0_laysTree_2 0 rfl rfl)
theorem dX0_laysTree_49 : decode cX0_laysTree 49 = .ok (.getfield 190, 3) := dk_180 0 190 (dk_at dksX0_laysTree_2 3 rfl rfl)
theorem dX0_laysTree_52 : decode cX0_laysTree 52 = .ok (.iload_n 3, 1) := dk_29 (dk_at dksX0_laysTree_2 6 rfl rfl)
theorem dX0_laysTree_53 : decode cX0_laysTree 53 = .ok (.iaload, 1) := dk_46 (dk_at dksX0_laysTree_2 7 rfl rfl)
theorem dX0_laysTree_54 : decode cX0_laysTree 54 = .ok (.invokestatic 193, 3) := dk_184 0 193 (dk_at dksX0_laysTree_2 8 rfl rfl)
theorem dX0_laysTree_57 : decode cX0_laysTree 57 = .ok (.istore 4, 2) := dk_54 4 (dk_at dksX0_laysTree_2 11 rfl rfl)
theorem dX0_laysTree_59 : decode cX0_laysTree 59 = .ok (.aload_n 0, 1) := dk_42 (dk_at dksX0_laysTree_2 13 rfl rfl)
theorem dX0_laysTree_60 : decode cX0_laysTree 60 = .ok (.getfield 27, 3) := dk_180 0 27 (dk_at dksX0_laysTree_2 14 rfl rfl)
theorem dX0_laysTree_63 : decode cX0_laysTree 63 = .ok (.iload_n 2, 1) := dk_28 (dk_at dksX0_laysTree_2 17 rfl rfl)
theorem dX0_laysTree_64 : decode cX0_laysTree 64 = .ok (.aaload, 1) := dk_50 (dk_at dksX0_laysTree_2 18 rfl rfl)
theorem dX0_laysTree_65 : decode cX0_laysTree 65 = .ok (.iload_n 3, 1) := dk_29 (dk_at dksX0_laysTree_2 19 rfl rfl)
theorem dX0_laysTree_66 : decode cX0_laysTree 66 = .ok (.iload 4, 2) := dk_21 4 (dk_at dksX0_laysTree_2 20 rfl rfl)
theorem dX0_laysTree_68 : decode cX0_laysTree 68 = .ok (.iastore, 1) := dk_79 (dk_at dksX0_laysTree_2 22 rfl rfl)
theorem dX0_laysTree_69 : decode cX0_laysTree 69 = .ok (.aload_n 0, 1) := dk_42 (dk_at dksX0_laysTree_2 23 rfl rfl)
theorem dX0_laysTree_70 : decode cX0_laysTree 70 = .ok (.getfield 27, 3) := dk_180 0 27 (dk_at dksX0_laysTree_3 0 rfl rfl)
theorem dX0_laysTree_73 : decode cX0_laysTree 73 = .ok (.iload_n 3, 1) := dk_29 (dk_at dksX0_laysTree_3 3 rfl rfl)
theorem dX0_laysTree_74 : decode cX0_laysTree 74 = .ok (.aaload, 1) := dk_50 (dk_at dksX0_laysTree_3 4 rfl rfl)
theorem dX0_laysTree_75 : decode cX0_laysTree 75 = .ok (.iload_n 2, 1) := dk_28 (dk_at dksX0_laysTree_3 5 rfl rfl)
theorem dX0_laysTree_76 : decode cX0_laysTree 76 = .ok (.iload 4, 2) := dk_21 4 (dk_at dksX0_laysTree_3 6 rfl rfl)
theorem dX0_laysTree_78 : decode cX0_laysTree 78 = .ok (.iastore, 1) := dk_79 (dk_at dksX0_laysTree_3 8 rfl rfl)
theorem dX0_laysTree_79 : decode cX0_laysTree 79 = .ok (.aload_n 1, 1) := dk_43 (dk_at dksX0_laysTree_3 9 rfl rfl)
theorem dX0_laysTree_80 : decode cX0_laysTree 80 = .ok (.new 30, 3) := dk_187 0 30 (dk_at dksX0_laysTree_3 10 rfl rfl)
theorem dX0_laysTree_83 : decode cX0_laysTree 83 = .ok (.dup, 1) := dk_89 (dk_at dksX0_laysTree_3 13 rfl rfl)
theorem dX0_laysTree_84 : decode cX0_laysTree 84 = .ok (.iload_n 2, 1) := dk_28 (dk_at dksX0_laysTree_3 14 rfl rfl)
theorem dX0_laysTree_85 : decode cX0_laysTree 85 = .ok (.iload_n 3, 1) := dk_29 (dk_at dksX0_laysTree_3 15 rfl rfl)
theorem dX0_laysTree_86 : decode cX0_laysTree 86 = .ok (.iload 4, 2) := dk_21 4 (dk_at dksX0_laysTree_3 16 rfl rfl)
theorem dX0_laysTree_88 : decode cX0_laysTree 88 = .ok (.invokespecial 196, 3) := dk_183 0 196 (dk_at dksX0_laysTree_3 18 rfl rfl)
theorem dX0_laysTree_91 : decode cX0_laysTree 91 = .ok (.invokevirtual 199, 3) := dk_182 0 199 (dk_at dksX0_laysTree_3 21 rfl rfl)
theorem dX0_laysTree_94 : decode cX0_laysTree 94 = .ok (.pop, 1) := dk_87 (dk_at dksX0_laysTree_4 0 rfl rfl)
theorem dX0_laysTree_95 : decode cX0_laysTree 95 = .ok (.iinc 3 1, 3) := dk_132 3 1 (dk_at dksX0_laysTree_4 1 rfl rfl)
theorem dX0_laysTree_98 : decode cX0_laysTree 98 = .ok (.goto (-73), 3) := dk_167 255 183 (dk_at dksX0_laysTree_4 4 rfl rfl)
theorem dX0_laysTree_101 : decode cX0_laysTree 101 = .ok (.iinc 2 1, 3) := dk_132 2 1 (dk_at dksX0_laysTree_4 7 rfl rfl)
theorem dX0_laysTree_104 : decode cX0_laysTree 104 = .ok (.goto (-94), 3) := dk_167 255 162 (dk_at dksX0_laysTree_4 10 rfl rfl)
theorem dX0_laysTree_107 : decode cX0_laysTree 107 = .ok (.bipush 20, 2) := dk_16 20 (dk_at dksX0_laysTree_4 13 rfl rfl)
theorem dX0_laysTree_109 : decode cX0_laysTree 109 = .ok (.newarray .int, 2) := dk_188_10 (dk_at dksX0_laysTree_4 15 rfl rfl)
theorem dX0_laysTree_111 : decode cX0_laysTree 111 = .ok (.astore_n 2, 1) := dk_77 (dk_at dksX0_laysTree_4 17 rfl rfl)
theorem dX0_laysTree_112 : decode cX0_laysTree 112 = .ok (.aload_n 2, 1) := dk_44 (dk_at dksX0_laysTree_4 18 rfl rfl)
theorem dX0_laysTree_113 : decode cX0_laysTree 113 = .ok (.invokestatic 203, 3) := dk_184 0 203 (dk_at dksX0_laysTree_4 19 rfl rfl)
theorem dX0_laysTree_116 : decode cX0_laysTree 116 = .ok (.aload_n 0, 1) := dk_42 (dk_at dksX0_laysTree_4 22 rfl rfl)
theorem dX0_laysTree_117 : decode cX0_laysTree 117 = .ok (.iconst 0, 1) := dk_3 (dk_at dksX0_laysTree_4 23 rfl rfl)
theorem dX0_laysTree_118 : decode cX0_laysTree 118 = .ok (.putfield 207, 3) := dk_181 0 207 (dk_at dksX0_laysTree_5 0 rfl rfl)
theorem dX0_laysTree_121 : decode cX0_laysTree 121 = .ok (.aload_n 1, 1) := dk_43 (dk_at dksX0_laysTree_5 3 rfl rfl)
theorem dX0_laysTree_122 : decode cX0_laysTree 122 = .ok (.invokevirtual 210, 3) := dk_182 0 210 (dk_at dksX0_laysTree_5 4 rfl rfl)
theorem dX0_laysTree_125 : decode cX0_laysTree 125 = .ok (.checkcast 30, 3) := dk_192 0 30 (dk_at dksX0_laysTree_5 7 rfl rfl)
theorem dX0_laysTree_128 : decode cX0_laysTree 128 = .ok (.astore_n 3, 1) := dk_78 (dk_at dksX0_laysTree_5 10 rfl rfl)
theorem dX0_laysTree_129 : decode cX0_laysTree 129 = .ok (.aload_n 3, 1) := dk_45 (dk_at dksX0_laysTree_5 11 rfl rfl)
theorem dX0_laysTree_130 : decode cX0_laysTree 130 = .ok (.ifnull 52, 3) := dk_198 0 52 (dk_at dksX0_laysTree_5 12 rfl rfl)
theorem dX0_laysTree_133 : decode cX0_laysTree 133 = .ok (.aload_n 2, 1) := dk_44 (dk_at dksX0_laysTree_5 15 rfl rfl)
theorem dX0_laysTree_134 : decode cX0_laysTree 134 = .ok (.aload_n 3, 1) := dk_45 (dk_at dksX0_laysTree_5 16 rfl rfl)
theorem dX0_laysTree_135 : decode cX0_laysTree 135 = .ok (.getfield 214, 3) := dk_180 0 214 (dk_at dksX0_laysTree_5 17 rfl rfl)
theorem dX0_laysTree_138 : decode cX0_laysTree 138 = .ok (.aload_n 3, 1) := dk_45 (dk_at dksX0_laysTree_5 20 rfl rfl)
theorem dX0_laysTree_139 : decode cX0_laysTree 139 = .ok (.getfield 217, 3) := dk_180 0 217 (dk_at dksX0_laysTree_5 21 rfl rfl)
theorem dX0_laysTree_142 : decode cX0_laysTree 142 = .ok (.invokestatic 220, 3) := dk_184 0 220 (dk_at dksX0_laysTree_6 0 rfl rfl)
theorem dX0_laysTree_145 : decode cX0_laysTree 145 = .ok (.ifCond .ne 6, 3) := dk_154 0 6 (dk_at dksX0_laysTree_6 3 rfl rfl)
theorem dX0_laysTree_148 : decode cX0_laysTree 148 = .ok (.goto 23, 3) := dk_167 0 23 (dk_at dksX0_laysTree_6 6 rfl rfl)
theorem dX0_laysTree_151 : decode cX0_laysTree 151 = .ok (.aload_n 0, 1) := dk_42 (dk_at dksX0_laysTree_6 9 rfl rfl)
theorem dX0_laysTree_152 : decode cX0_laysTree 152 = .ok (.getfield 32, 3) := dk_180 0 32 (dk_at dksX0_laysTree_6 10 rfl rfl)
theorem dX0_laysTree_155 : decode cX0_laysTree 155 = .ok (.aload_n 0, 1) := dk_42 (dk_at dksX0_laysTree_6 13 rfl rfl)
theorem dX0_laysTree_156 : decode cX0_laysTree 156 = .ok (.getfield 207, 3) := dk_180 0 207 (dk_at dksX0_laysTree_6 14 rfl rfl)
theorem dX0_laysTree_159 : decode cX0_laysTree 159 = .ok (.aload_n 3, 1) := dk_45 (dk_at dksX0_laysTree_6 17 rfl rfl)
theorem dX0_laysTree_160 : decode cX0_laysTree 160 = .ok (.aastore, 1) := dk_83 (dk_at dksX0_laysTree_6 18 rfl rfl)
theorem dX0_laysTree_161 : decode cX0_laysTree 161 = .ok (.aload_n 0, 1) := dk_42 (dk_at dksX0_laysTree_6 19 rfl rfl)
theorem dX0_laysTree_162 : decode cX0_laysTree 162 = .ok (.dup, 1) := dk_89 (dk_at dksX0_laysTree_6 20 rfl rfl)
theorem dX0_laysTree_163 : decode cX0_laysTree 163 = .ok (.getfield 207, 3) := dk_180 0 207 (dk_at dksX0_laysTree_6 21 rfl rfl)
theorem dX0_laysTree_166 : decode cX0_laysTree 166 = .ok (.iconst 1, 1) := dk_4 (dk_at dksX0_laysTree_7 0 rfl rfl)
theorem dX0_laysTree_167 : decode cX0_laysTree 167 = .ok (.iadd, 1) := dk_96 (dk_at dksX0_laysTree_7 1 rfl rfl)
theorem dX0_laysTree_168 : decode cX0_laysTree 168 = .ok (.putfield 207, 3) := dk_181 0 207 (dk_at dksX0_laysTree_7 2 rfl rfl)
theorem dX0_laysTree_171 : decode cX0_laysTree 171 = .ok (.aload_n 1, 1) := dk_43 (dk_at dksX0_laysTree_7 5 rfl rfl)
theorem dX0_laysTree_172 : decode cX0_laysTree 172 = .ok (.invokevirtual 210, 3) := dk_182 0 210 (dk_at dksX0_laysTree_7 6 rfl rfl)
theorem dX0_laysTree_175 : decode cX0_laysTree 175 = .ok (.checkcast 30, 3) := dk_192 0 30 (dk_at dksX0_laysTree_7 9 rfl rfl)
theorem dX0_laysTree_178 : decode cX0_laysTree 178 = .ok (.astore_n 3, 1) := dk_78 (dk_at dksX0_laysTree_7 12 rfl rfl)
theorem dX0_laysTree_179 : decode cX0_laysTree 179 = .ok (.goto (-50), 3) := dk_167 255 206 (dk_at dksX0_laysTree_7 13 rfl rfl)
theorem dX0_laysTree_182 : decode cX0_laysTree 182 = .ok (.return_, 1) := dk_177 (dk_at dksX0_laysTree_7 16 rfl rfl)
def dkwX0_unlikeOf_2 : List UInt8 := [132, 3, 1, 167, 255, 210, 28, 172]
abbrev dktX0_unlikeOf_2 : List UInt8 := dkwX0_unlikeOf_2 ++ []
def dkwX0_unlikeOf_1 : List UInt8 := [54, 6, 26, 27, 21, 5, 21, 6, 186, 0, 173, 0, 0, 28, 184, 0, 176, 61, 132, 4, 1, 167, 255, 224]
abbrev dktX0_unlikeOf_1 : List UInt8 := dkwX0_unlikeOf_1 ++ dktX0_unlikeOf_2
def dkwX0_unlikeOf_0 : List UInt8 := [16, 25, 61, 2, 62, 29, 4, 163, 0, 47, 2, 54, 4, 21, 4, 4, 163, 0, 32, 29, 54, 5, 21, 4]
abbrev dktX0_unlikeOf_0 : List UInt8 := dkwX0_unlikeOf_0 ++ dktX0_unlikeOf_1
theorem dksX0_unlikeOf_0 : cX0_unlikeOf.data.toList.drop 0 = dktX0_unlikeOf_0 := by decide +kernel
theorem dksX0_unlikeOf_1 : cX0_unlikeOf.data.toList.drop 24 = dktX0_unlikeOf_1 := dk_seg dksX0_unlikeOf_0 24 rfl rfl
theorem dksX0_unlikeOf_2 : cX0_unlikeOf.data.toList.drop 48 = dktX0_unlikeOf_2 := dk_seg dksX0_unlikeOf_1 24 rfl rfl
theorem dX0_unlikeOf_0 : decode cX0_unlikeOf 0 = .ok (.bipush 25, 2) := dk_16 25 (dk_at dksX0_unlikeOf_0 0 rfl rfl)
theorem dX0_unlikeOf_2 : decode cX0_unlikeOf 2 = .ok (.istore_n 2, 1) := dk_61 (dk_at dksX0_unlikeOf_0 2 rfl rfl)
theorem dX0_unlikeOf_3 : decode cX0_unlikeOf 3 = .ok (.iconst (-1), 1) := dk_2 (dk_at dksX0_unlikeOf_0 3 rfl rfl)
theorem dX0_unlikeOf_4 : decode cX0_unlikeOf 4 = .ok (.istore_n 3, 1) := dk_62 (dk_at dksX0_unlikeOf_0 4 rfl rfl)
theorem dX0_unlikeOf_5 : decode cX0_unlikeOf 5 = .ok (.iload_n 3, 1) := dk_29 (dk_at dksX0_unlikeOf_0 5 rfl rfl)
theorem dX0_unlikeOf_6 : decode cX0_unlikeOf 6 = .ok (.iconst 1, 1) := dk_4 (dk_at dksX0_unlikeOf_0 6 rfl rfl)
theorem dX0_unlikeOf_7 : decode cX0_unlikeOf 7 = .ok (.if_icmp .gt 47, 3) := dk_163 0 47 (dk_at dksX0_unlikeOf_0 7 rfl rfl)
theorem dX0_unlikeOf_10 : decode cX0_unlikeOf 10 = .ok (.iconst (-1), 1) := dk_2 (dk_at dksX0_unlikeOf_0 10 rfl rfl)
theorem dX0_unlikeOf_11 : decode cX0_unlikeOf 11 = .ok (.istore 4, 2) := dk_54 4 (dk_at dksX0_unlikeOf_0 11 rfl rfl)
theorem dX0_unlikeOf_13 : decode cX0_unlikeOf 13 = .ok (.iload 4, 2) := dk_21 4 (dk_at dksX0_unlikeOf_0 13 rfl rfl)
theorem dX0_unlikeOf_15 : decode cX0_unlikeOf 15 = .ok (.iconst 1, 1) := dk_4 (dk_at dksX0_unlikeOf_0 15 rfl rfl)
theorem dX0_unlikeOf_16 : decode cX0_unlikeOf 16 = .ok (.if_icmp .gt 32, 3) := dk_163 0 32 (dk_at dksX0_unlikeOf_0 16 rfl rfl)
theorem dX0_unlikeOf_19 : decode cX0_unlikeOf 19 = .ok (.iload_n 3, 1) := dk_29 (dk_at dksX0_unlikeOf_0 19 rfl rfl)
theorem dX0_unlikeOf_20 : decode cX0_unlikeOf 20 = .ok (.istore 5, 2) := dk_54 5 (dk_at dksX0_unlikeOf_0 20 rfl rfl)
theorem dX0_unlikeOf_22 : decode cX0_unlikeOf 22 = .ok (.iload 4, 2) := dk_21 4 (dk_at dksX0_unlikeOf_0 22 rfl rfl)
theorem dX0_unlikeOf_24 : decode cX0_unlikeOf 24 = .ok (.istore 6, 2) := dk_54 6 (dk_at dksX0_unlikeOf_1 0 rfl rfl)
theorem dX0_unlikeOf_26 : decode cX0_unlikeOf 26 = .ok (.iload_n 0, 1) := dk_26 (dk_at dksX0_unlikeOf_1 2 rfl rfl)
theorem dX0_unlikeOf_27 : decode cX0_unlikeOf 27 = .ok (.iload_n 1, 1) := dk_27 (dk_at dksX0_unlikeOf_1 3 rfl rfl)
theorem dX0_unlikeOf_28 : decode cX0_unlikeOf 28 = .ok (.iload 5, 2) := dk_21 5 (dk_at dksX0_unlikeOf_1 4 rfl rfl)
theorem dX0_unlikeOf_30 : decode cX0_unlikeOf 30 = .ok (.iload 6, 2) := dk_21 6 (dk_at dksX0_unlikeOf_1 6 rfl rfl)
theorem dX0_unlikeOf_32 : decode cX0_unlikeOf 32 = .ok (.invokedynamic 173, 5) := by decide +kernel
theorem dX0_unlikeOf_37 : decode cX0_unlikeOf 37 = .ok (.iload_n 2, 1) := dk_28 (dk_at dksX0_unlikeOf_1 13 rfl rfl)
theorem dX0_unlikeOf_38 : decode cX0_unlikeOf 38 = .ok (.invokestatic 176, 3) := dk_184 0 176 (dk_at dksX0_unlikeOf_1 14 rfl rfl)
theorem dX0_unlikeOf_41 : decode cX0_unlikeOf 41 = .ok (.istore_n 2, 1) := dk_61 (dk_at dksX0_unlikeOf_1 17 rfl rfl)
theorem dX0_unlikeOf_42 : decode cX0_unlikeOf 42 = .ok (.iinc 4 1, 3) := dk_132 4 1 (dk_at dksX0_unlikeOf_1 18 rfl rfl)
theorem dX0_unlikeOf_45 : decode cX0_unlikeOf 45 = .ok (.goto (-32), 3) := dk_167 255 224 (dk_at dksX0_unlikeOf_1 21 rfl rfl)
theorem dX0_unlikeOf_48 : decode cX0_unlikeOf 48 = .ok (.iinc 3 1, 3) := dk_132 3 1 (dk_at dksX0_unlikeOf_2 0 rfl rfl)
theorem dX0_unlikeOf_51 : decode cX0_unlikeOf 51 = .ok (.goto (-46), 3) := dk_167 255 210 (dk_at dksX0_unlikeOf_2 3 rfl rfl)
theorem dX0_unlikeOf_54 : decode cX0_unlikeOf 54 = .ok (.iload_n 2, 1) := dk_28 (dk_at dksX0_unlikeOf_2 6 rfl rfl)
theorem dX0_unlikeOf_55 : decode cX0_unlikeOf 55 = .ok (.ireturn, 1) := dk_172 (dk_at dksX0_unlikeOf_2 7 rfl rfl)
def dkwX0_lambda_unlikeOf_0_0 : List UInt8 := [28, 26, 27, 184, 2, 127, 172]
abbrev dktX0_lambda_unlikeOf_0_0 : List UInt8 := dkwX0_lambda_unlikeOf_0_0 ++ []
theorem dksX0_lambda_unlikeOf_0_0 : cX0_lambda_unlikeOf_0.data.toList.drop 0 = dktX0_lambda_unlikeOf_0_0 := by decide +kernel
theorem dX0_lambda_unlikeOf_0_0 : decode cX0_lambda_unlikeOf_0 0 = .ok (.iload_n 2, 1) := dk_28 (dk_at dksX0_lambda_unlikeOf_0_0 0 rfl rfl)
theorem dX0_lambda_unlikeOf_0_1 : decode cX0_lambda_unlikeOf_0 1 = .ok (.iload_n 0, 1) := dk_26 (dk_at dksX0_lambda_unlikeOf_0_0 1 rfl rfl)
theorem dX0_lambda_unlikeOf_0_2 : decode cX0_lambda_unlikeOf_0 2 = .ok (.iload_n 1, 1) := dk_27 (dk_at dksX0_lambda_unlikeOf_0_0 2 rfl rfl)
theorem dX0_lambda_unlikeOf_0_3 : decode cX0_lambda_unlikeOf_0 3 = .ok (.invokestatic 639, 3) := dk_184 2 127 (dk_at dksX0_lambda_unlikeOf_0_0 3 rfl rfl)
theorem dX0_lambda_unlikeOf_0_6 : decode cX0_lambda_unlikeOf_0 6 = .ok (.ireturn, 1) := dk_172 (dk_at dksX0_lambda_unlikeOf_0_0 6 rfl rfl)
def dkwX0_shifted_3 : List UInt8 := [132, 4, 1, 167, 255, 186, 29, 172]
abbrev dktX0_shifted_3 : List UInt8 := dkwX0_shifted_3 ++ []
def dkwX0_shifted_2 : List UInt8 := [184, 0, 152, 153, 0, 15, 29, 4, 8, 21, 7, 104, 21, 6, 96, 120, 128, 62, 132, 5, 1, 167, 255, 201]
abbrev dktX0_shifted_2 : List UInt8 := dkwX0_shifted_2 ++ dktX0_shifted_3
def dkwX0_shifted_1 : List UInt8 := [8, 96, 8, 112, 54, 6, 21, 4, 28, 96, 8, 96, 8, 112, 54, 7, 26, 8, 21, 4, 104, 21, 5, 96]
abbrev dktX0_shifted_1 : List UInt8 := dkwX0_shifted_1 ++ dktX0_shifted_2
def dkwX0_shifted_0 : List UInt8 := [3, 62, 3, 54, 4, 21, 4, 8, 162, 0, 70, 3, 54, 5, 21, 5, 8, 162, 0, 55, 21, 5, 27, 96]
abbrev dktX0_shifted_0 : List UInt8 := dkwX0_shifted_0 ++ dktX0_shifted_1
theorem dksX0_shifted_0 : cX0_shifted.data.toList.drop 0 = dktX0_shifted_0 := by decide +kernel
theorem dksX0_shifted_1 : cX0_shifted.data.toList.drop 24 = dktX0_shifted_1 := dk_seg dksX0_shifted_0 24 rfl rfl
theorem dksX0_shifted_2 : cX0_shifted.data.toList.drop 48 = dktX0_shifted_2 := dk_seg dksX0_shifted_1 24 rfl rfl
theorem dksX0_shifted_3 : cX0_shifted.data.toList.drop 72 = dktX0_shifted_3 := dk_seg dksX0_shifted_2 24 rfl rfl
theorem dX0_shifted_0 : decode cX0_shifted 0 = .ok (.iconst 0, 1) := dk_3 (dk_at dksX0_shifted_0 0 rfl rfl)
theorem dX0_shifted_1 : decode cX0_shifted 1 = .ok (.istore_n 3, 1) := dk_62 (dk_at dksX0_shifted_0 1 rfl rfl)
theorem dX0_shifted_2 : decode cX0_shifted 2 = .ok (.iconst 0, 1) := dk_3 (dk_at dksX0_shifted_0 2 rfl rfl)
theorem dX0_shifted_3 : decode cX0_shifted 3 = .ok (.istore 4, 2) := dk_54 4 (dk_at dksX0_shifted_0 3 rfl rfl)
theorem dX0_shifted_5 : decode cX0_shifted 5 = .ok (.iload 4, 2) := dk_21 4 (dk_at dksX0_shifted_0 5 rfl rfl)
theorem dX0_shifted_7 : decode cX0_shifted 7 = .ok (.iconst 5, 1) := dk_8 (dk_at dksX0_shifted_0 7 rfl rfl)
theorem dX0_shifted_8 : decode cX0_shifted 8 = .ok (.if_icmp .ge 70, 3) := dk_162 0 70 (dk_at dksX0_shifted_0 8 rfl rfl)
theorem dX0_shifted_11 : decode cX0_shifted 11 = .ok (.iconst 0, 1) := dk_3 (dk_at dksX0_shifted_0 11 rfl rfl)
theorem dX0_shifted_12 : decode cX0_shifted 12 = .ok (.istore 5, 2) := dk_54 5 (dk_at dksX0_shifted_0 12 rfl rfl)
theorem dX0_shifted_14 : decode cX0_shifted 14 = .ok (.iload 5, 2) := dk_21 5 (dk_at dksX0_shifted_0 14 rfl rfl)
theorem dX0_shifted_16 : decode cX0_shifted 16 = .ok (.iconst 5, 1) := dk_8 (dk_at dksX0_shifted_0 16 rfl rfl)
theorem dX0_shifted_17 : decode cX0_shifted 17 = .ok (.if_icmp .ge 55, 3) := dk_162 0 55 (dk_at dksX0_shifted_0 17 rfl rfl)
theorem dX0_shifted_20 : decode cX0_shifted 20 = .ok (.iload 5, 2) := dk_21 5 (dk_at dksX0_shifted_0 20 rfl rfl)
theorem dX0_shifted_22 : decode cX0_shifted 22 = .ok (.iload_n 1, 1) := dk_27 (dk_at dksX0_shifted_0 22 rfl rfl)
theorem dX0_shifted_23 : decode cX0_shifted 23 = .ok (.iadd, 1) := dk_96 (dk_at dksX0_shifted_0 23 rfl rfl)
theorem dX0_shifted_24 : decode cX0_shifted 24 = .ok (.iconst 5, 1) := dk_8 (dk_at dksX0_shifted_1 0 rfl rfl)
theorem dX0_shifted_25 : decode cX0_shifted 25 = .ok (.iadd, 1) := dk_96 (dk_at dksX0_shifted_1 1 rfl rfl)
theorem dX0_shifted_26 : decode cX0_shifted 26 = .ok (.iconst 5, 1) := dk_8 (dk_at dksX0_shifted_1 2 rfl rfl)
theorem dX0_shifted_27 : decode cX0_shifted 27 = .ok (.irem, 1) := dk_112 (dk_at dksX0_shifted_1 3 rfl rfl)
theorem dX0_shifted_28 : decode cX0_shifted 28 = .ok (.istore 6, 2) := dk_54 6 (dk_at dksX0_shifted_1 4 rfl rfl)
theorem dX0_shifted_30 : decode cX0_shifted 30 = .ok (.iload 4, 2) := dk_21 4 (dk_at dksX0_shifted_1 6 rfl rfl)
theorem dX0_shifted_32 : decode cX0_shifted 32 = .ok (.iload_n 2, 1) := dk_28 (dk_at dksX0_shifted_1 8 rfl rfl)
theorem dX0_shifted_33 : decode cX0_shifted 33 = .ok (.iadd, 1) := dk_96 (dk_at dksX0_shifted_1 9 rfl rfl)
theorem dX0_shifted_34 : decode cX0_shifted 34 = .ok (.iconst 5, 1) := dk_8 (dk_at dksX0_shifted_1 10 rfl rfl)
theorem dX0_shifted_35 : decode cX0_shifted 35 = .ok (.iadd, 1) := dk_96 (dk_at dksX0_shifted_1 11 rfl rfl)
theorem dX0_shifted_36 : decode cX0_shifted 36 = .ok (.iconst 5, 1) := dk_8 (dk_at dksX0_shifted_1 12 rfl rfl)
theorem dX0_shifted_37 : decode cX0_shifted 37 = .ok (.irem, 1) := dk_112 (dk_at dksX0_shifted_1 13 rfl rfl)
theorem dX0_shifted_38 : decode cX0_shifted 38 = .ok (.istore 7, 2) := dk_54 7 (dk_at dksX0_shifted_1 14 rfl rfl)
theorem dX0_shifted_40 : decode cX0_shifted 40 = .ok (.iload_n 0, 1) := dk_26 (dk_at dksX0_shifted_1 16 rfl rfl)
theorem dX0_shifted_41 : decode cX0_shifted 41 = .ok (.iconst 5, 1) := dk_8 (dk_at dksX0_shifted_1 17 rfl rfl)
theorem dX0_shifted_42 : decode cX0_shifted 42 = .ok (.iload 4, 2) := dk_21 4 (dk_at dksX0_shifted_1 18 rfl rfl)
theorem dX0_shifted_44 : decode cX0_shifted 44 = .ok (.imul, 1) := dk_104 (dk_at dksX0_shifted_1 20 rfl rfl)
theorem dX0_shifted_45 : decode cX0_shifted 45 = .ok (.iload 5, 2) := dk_21 5 (dk_at dksX0_shifted_1 21 rfl rfl)
theorem dX0_shifted_47 : decode cX0_shifted 47 = .ok (.iadd, 1) := dk_96 (dk_at dksX0_shifted_1 23 rfl rfl)
theorem dX0_shifted_48 : decode cX0_shifted 48 = .ok (.invokestatic 152, 3) := dk_184 0 152 (dk_at dksX0_shifted_2 0 rfl rfl)
theorem dX0_shifted_51 : decode cX0_shifted 51 = .ok (.ifCond .eq 15, 3) := dk_153 0 15 (dk_at dksX0_shifted_2 3 rfl rfl)
theorem dX0_shifted_54 : decode cX0_shifted 54 = .ok (.iload_n 3, 1) := dk_29 (dk_at dksX0_shifted_2 6 rfl rfl)
theorem dX0_shifted_55 : decode cX0_shifted 55 = .ok (.iconst 1, 1) := dk_4 (dk_at dksX0_shifted_2 7 rfl rfl)
theorem dX0_shifted_56 : decode cX0_shifted 56 = .ok (.iconst 5, 1) := dk_8 (dk_at dksX0_shifted_2 8 rfl rfl)
theorem dX0_shifted_57 : decode cX0_shifted 57 = .ok (.iload 7, 2) := dk_21 7 (dk_at dksX0_shifted_2 9 rfl rfl)
theorem dX0_shifted_59 : decode cX0_shifted 59 = .ok (.imul, 1) := dk_104 (dk_at dksX0_shifted_2 11 rfl rfl)
theorem dX0_shifted_60 : decode cX0_shifted 60 = .ok (.iload 6, 2) := dk_21 6 (dk_at dksX0_shifted_2 12 rfl rfl)
theorem dX0_shifted_62 : decode cX0_shifted 62 = .ok (.iadd, 1) := dk_96 (dk_at dksX0_shifted_2 14 rfl rfl)
theorem dX0_shifted_63 : decode cX0_shifted 63 = .ok (.ishl, 1) := dk_120 (dk_at dksX0_shifted_2 15 rfl rfl)
theorem dX0_shifted_64 : decode cX0_shifted 64 = .ok (.ior, 1) := dk_128 (dk_at dksX0_shifted_2 16 rfl rfl)
theorem dX0_shifted_65 : decode cX0_shifted 65 = .ok (.istore_n 3, 1) := dk_62 (dk_at dksX0_shifted_2 17 rfl rfl)
theorem dX0_shifted_66 : decode cX0_shifted 66 = .ok (.iinc 5 1, 3) := dk_132 5 1 (dk_at dksX0_shifted_2 18 rfl rfl)
theorem dX0_shifted_69 : decode cX0_shifted 69 = .ok (.goto (-55), 3) := dk_167 255 201 (dk_at dksX0_shifted_2 21 rfl rfl)
theorem dX0_shifted_72 : decode cX0_shifted 72 = .ok (.iinc 4 1, 3) := dk_132 4 1 (dk_at dksX0_shifted_3 0 rfl rfl)
theorem dX0_shifted_75 : decode cX0_shifted 75 = .ok (.goto (-70), 3) := dk_167 255 186 (dk_at dksX0_shifted_3 3 rfl rfl)
theorem dX0_shifted_78 : decode cX0_shifted 78 = .ok (.iload_n 3, 1) := dk_29 (dk_at dksX0_shifted_3 6 rfl rfl)
theorem dX0_shifted_79 : decode cX0_shifted 79 = .ok (.ireturn, 1) := dk_172 (dk_at dksX0_shifted_3 7 rfl rfl)
def dkwX0_leastBy_0 : List UInt8 := [29, 44, 26, 185, 0, 156, 2, 0, 27, 130, 184, 0, 162, 184, 0, 167, 172]
abbrev dktX0_leastBy_0 : List UInt8 := dkwX0_leastBy_0 ++ []
theorem dksX0_leastBy_0 : cX0_leastBy.data.toList.drop 0 = dktX0_leastBy_0 := by decide +kernel
theorem dX0_leastBy_0 : decode cX0_leastBy 0 = .ok (.iload_n 3, 1) := dk_29 (dk_at dksX0_leastBy_0 0 rfl rfl)
theorem dX0_leastBy_1 : decode cX0_leastBy 1 = .ok (.aload_n 2, 1) := dk_44 (dk_at dksX0_leastBy_0 1 rfl rfl)
theorem dX0_leastBy_2 : decode cX0_leastBy 2 = .ok (.iload_n 0, 1) := dk_26 (dk_at dksX0_leastBy_0 2 rfl rfl)
theorem dX0_leastBy_3 : decode cX0_leastBy 3 = .ok (.invokeinterface 156 2, 5) := by decide +kernel
theorem dX0_leastBy_8 : decode cX0_leastBy 8 = .ok (.iload_n 1, 1) := dk_27 (dk_at dksX0_leastBy_0 8 rfl rfl)
theorem dX0_leastBy_9 : decode cX0_leastBy 9 = .ok (.ixor, 1) := dk_130 (dk_at dksX0_leastBy_0 9 rfl rfl)
theorem dX0_leastBy_10 : decode cX0_leastBy 10 = .ok (.invokestatic 162, 3) := dk_184 0 162 (dk_at dksX0_leastBy_0 10 rfl rfl)
theorem dX0_leastBy_13 : decode cX0_leastBy 13 = .ok (.invokestatic 167, 3) := dk_184 0 167 (dk_at dksX0_leastBy_0 13 rfl rfl)
theorem dX0_leastBy_16 : decode cX0_leastBy 16 = .ok (.ireturn, 1) := dk_172 (dk_at dksX0_leastBy_0 16 rfl rfl)
def dkwX0_stone_4 : List UInt8 := [3, 182, 0, 99, 42, 180, 0, 16, 180, 0, 136, 4, 100, 172]
abbrev dktX0_stone_4 : List UInt8 := dkwX0_stone_4 ++ []
def dkwX0_stone_3 : List UInt8 := [181, 0, 103, 45, 191, 42, 180, 0, 16, 89, 180, 0, 136, 4, 96, 181, 0, 136, 42, 3, 181, 0, 128, 42]
abbrev dktX0_stone_3 : List UInt8 := dkwX0_stone_3 ++ dktX0_stone_4
def dkwX0_stone_2 : List UInt8 := [167, 0, 27, 76, 16, 254, 43, 180, 0, 125, 100, 61, 42, 3, 181, 0, 103, 28, 172, 78, 42, 3]
abbrev dktX0_stone_2 : List UInt8 := dkwX0_stone_2 ++ dktX0_stone_3
def dkwX0_stone_1 : List UInt8 := [180, 0, 16, 180, 0, 136, 187, 0, 114, 89, 42, 183, 0, 116, 182, 0, 143, 83, 42, 3, 181, 0, 103]
abbrev dktX0_stone_1 : List UInt8 := dkwX0_stone_1 ++ dktX0_stone_2
def dkwX0_stone_0 : List UInt8 := [42, 180, 0, 16, 180, 0, 136, 16, 6, 160, 0, 5, 2, 172, 42, 180, 0, 16, 180, 0, 139, 42]
abbrev dktX0_stone_0 : List UInt8 := dkwX0_stone_0 ++ dktX0_stone_1
theorem dksX0_stone_0 : cX0_stone.data.toList.drop 0 = dktX0_stone_0 := by decide +kernel
theorem dksX0_stone_1 : cX0_stone.data.toList.drop 22 = dktX0_stone_1 := dk_seg dksX0_stone_0 22 rfl rfl
theorem dksX0_stone_2 : cX0_stone.data.toList.drop 45 = dktX0_stone_2 := dk_seg dksX0_stone_1 23 rfl rfl
theorem dksX0_stone_3 : cX0_stone.data.toList.drop 67 = dktX0_stone_3 := dk_seg dksX0_stone_2 22 rfl rfl
theorem dksX0_stone_4 : cX0_stone.data.toList.drop 91 = dktX0_stone_4 := dk_seg dksX0_stone_3 24 rfl rfl
theorem dX0_stone_0 : decode cX0_stone 0 = .ok (.aload_n 0, 1) := dk_42 (dk_at dksX0_stone_0 0 rfl rfl)
theorem dX0_stone_1 : decode cX0_stone 1 = .ok (.getfield 16, 3) := dk_180 0 16 (dk_at dksX0_stone_0 1 rfl rfl)
theorem dX0_stone_4 : decode cX0_stone 4 = .ok (.getfield 136, 3) := dk_180 0 136 (dk_at dksX0_stone_0 4 rfl rfl)
theorem dX0_stone_7 : decode cX0_stone 7 = .ok (.bipush 6, 2) := dk_16 6 (dk_at dksX0_stone_0 7 rfl rfl)
theorem dX0_stone_9 : decode cX0_stone 9 = .ok (.if_icmp .ne 5, 3) := dk_160 0 5 (dk_at dksX0_stone_0 9 rfl rfl)
theorem dX0_stone_12 : decode cX0_stone 12 = .ok (.iconst (-1), 1) := dk_2 (dk_at dksX0_stone_0 12 rfl rfl)
theorem dX0_stone_13 : decode cX0_stone 13 = .ok (.ireturn, 1) := dk_172 (dk_at dksX0_stone_0 13 rfl rfl)
theorem dX0_stone_14 : decode cX0_stone 14 = .ok (.aload_n 0, 1) := dk_42 (dk_at dksX0_stone_0 14 rfl rfl)
theorem dX0_stone_15 : decode cX0_stone 15 = .ok (.getfield 16, 3) := dk_180 0 16 (dk_at dksX0_stone_0 15 rfl rfl)
theorem dX0_stone_18 : decode cX0_stone 18 = .ok (.getfield 139, 3) := dk_180 0 139 (dk_at dksX0_stone_0 18 rfl rfl)
theorem dX0_stone_21 : decode cX0_stone 21 = .ok (.aload_n 0, 1) := dk_42 (dk_at dksX0_stone_0 21 rfl rfl)
theorem dX0_stone_22 : decode cX0_stone 22 = .ok (.getfield 16, 3) := dk_180 0 16 (dk_at dksX0_stone_1 0 rfl rfl)
theorem dX0_stone_25 : decode cX0_stone 25 = .ok (.getfield 136, 3) := dk_180 0 136 (dk_at dksX0_stone_1 3 rfl rfl)
theorem dX0_stone_28 : decode cX0_stone 28 = .ok (.new 114, 3) := dk_187 0 114 (dk_at dksX0_stone_1 6 rfl rfl)
theorem dX0_stone_31 : decode cX0_stone 31 = .ok (.dup, 1) := dk_89 (dk_at dksX0_stone_1 9 rfl rfl)
theorem dX0_stone_32 : decode cX0_stone 32 = .ok (.aload_n 0, 1) := dk_42 (dk_at dksX0_stone_1 10 rfl rfl)
theorem dX0_stone_33 : decode cX0_stone 33 = .ok (.invokespecial 116, 3) := dk_183 0 116 (dk_at dksX0_stone_1 11 rfl rfl)
theorem dX0_stone_36 : decode cX0_stone 36 = .ok (.invokevirtual 143, 3) := dk_182 0 143 (dk_at dksX0_stone_1 14 rfl rfl)
theorem dX0_stone_39 : decode cX0_stone 39 = .ok (.aastore, 1) := dk_83 (dk_at dksX0_stone_1 17 rfl rfl)
theorem dX0_stone_40 : decode cX0_stone 40 = .ok (.aload_n 0, 1) := dk_42 (dk_at dksX0_stone_1 18 rfl rfl)
theorem dX0_stone_41 : decode cX0_stone 41 = .ok (.iconst 0, 1) := dk_3 (dk_at dksX0_stone_1 19 rfl rfl)
theorem dX0_stone_42 : decode cX0_stone 42 = .ok (.putfield 103, 3) := dk_181 0 103 (dk_at dksX0_stone_1 20 rfl rfl)
theorem dX0_stone_45 : decode cX0_stone 45 = .ok (.goto 27, 3) := dk_167 0 27 (dk_at dksX0_stone_2 0 rfl rfl)
theorem dX0_stone_48 : decode cX0_stone 48 = .ok (.astore_n 1, 1) := dk_76 (dk_at dksX0_stone_2 3 rfl rfl)
theorem dX0_stone_49 : decode cX0_stone 49 = .ok (.bipush (-2), 2) := dk_16 254 (dk_at dksX0_stone_2 4 rfl rfl)
theorem dX0_stone_51 : decode cX0_stone 51 = .ok (.aload_n 1, 1) := dk_43 (dk_at dksX0_stone_2 6 rfl rfl)
theorem dX0_stone_52 : decode cX0_stone 52 = .ok (.getfield 125, 3) := dk_180 0 125 (dk_at dksX0_stone_2 7 rfl rfl)
theorem dX0_stone_55 : decode cX0_stone 55 = .ok (.isub, 1) := dk_100 (dk_at dksX0_stone_2 10 rfl rfl)
theorem dX0_stone_56 : decode cX0_stone 56 = .ok (.istore_n 2, 1) := dk_61 (dk_at dksX0_stone_2 11 rfl rfl)
theorem dX0_stone_57 : decode cX0_stone 57 = .ok (.aload_n 0, 1) := dk_42 (dk_at dksX0_stone_2 12 rfl rfl)
theorem dX0_stone_58 : decode cX0_stone 58 = .ok (.iconst 0, 1) := dk_3 (dk_at dksX0_stone_2 13 rfl rfl)
theorem dX0_stone_59 : decode cX0_stone 59 = .ok (.putfield 103, 3) := dk_181 0 103 (dk_at dksX0_stone_2 14 rfl rfl)
theorem dX0_stone_62 : decode cX0_stone 62 = .ok (.iload_n 2, 1) := dk_28 (dk_at dksX0_stone_2 17 rfl rfl)
theorem dX0_stone_63 : decode cX0_stone 63 = .ok (.ireturn, 1) := dk_172 (dk_at dksX0_stone_2 18 rfl rfl)
theorem dX0_stone_64 : decode cX0_stone 64 = .ok (.astore_n 3, 1) := dk_78 (dk_at dksX0_stone_2 19 rfl rfl)
theorem dX0_stone_65 : decode cX0_stone 65 = .ok (.aload_n 0, 1) := dk_42 (dk_at dksX0_stone_2 20 rfl rfl)
theorem dX0_stone_66 : decode cX0_stone 66 = .ok (.iconst 0, 1) := dk_3 (dk_at dksX0_stone_2 21 rfl rfl)
theorem dX0_stone_67 : decode cX0_stone 67 = .ok (.putfield 103, 3) := dk_181 0 103 (dk_at dksX0_stone_3 0 rfl rfl)
theorem dX0_stone_70 : decode cX0_stone 70 = .ok (.aload_n 3, 1) := dk_45 (dk_at dksX0_stone_3 3 rfl rfl)
theorem dX0_stone_71 : decode cX0_stone 71 = .ok (.athrow, 1) := dk_191 (dk_at dksX0_stone_3 4 rfl rfl)
theorem dX0_stone_72 : decode cX0_stone 72 = .ok (.aload_n 0, 1) := dk_42 (dk_at dksX0_stone_3 5 rfl rfl)
theorem dX0_stone_73 : decode cX0_stone 73 = .ok (.getfield 16, 3) := dk_180 0 16 (dk_at dksX0_stone_3 6 rfl rfl)
theorem dX0_stone_76 : decode cX0_stone 76 = .ok (.dup, 1) := dk_89 (dk_at dksX0_stone_3 9 rfl rfl)
theorem dX0_stone_77 : decode cX0_stone 77 = .ok (.getfield 136, 3) := dk_180 0 136 (dk_at dksX0_stone_3 10 rfl rfl)
theorem dX0_stone_80 : decode cX0_stone 80 = .ok (.iconst 1, 1) := dk_4 (dk_at dksX0_stone_3 13 rfl rfl)
theorem dX0_stone_81 : decode cX0_stone 81 = .ok (.iadd, 1) := dk_96 (dk_at dksX0_stone_3 14 rfl rfl)
theorem dX0_stone_82 : decode cX0_stone 82 = .ok (.putfield 136, 3) := dk_181 0 136 (dk_at dksX0_stone_3 15 rfl rfl)
theorem dX0_stone_85 : decode cX0_stone 85 = .ok (.aload_n 0, 1) := dk_42 (dk_at dksX0_stone_3 18 rfl rfl)
theorem dX0_stone_86 : decode cX0_stone 86 = .ok (.iconst 0, 1) := dk_3 (dk_at dksX0_stone_3 19 rfl rfl)
theorem dX0_stone_87 : decode cX0_stone 87 = .ok (.putfield 128, 3) := dk_181 0 128 (dk_at dksX0_stone_3 20 rfl rfl)
theorem dX0_stone_90 : decode cX0_stone 90 = .ok (.aload_n 0, 1) := dk_42 (dk_at dksX0_stone_3 23 rfl rfl)
theorem dX0_stone_91 : decode cX0_stone 91 = .ok (.iconst 0, 1) := dk_3 (dk_at dksX0_stone_4 0 rfl rfl)
theorem dX0_stone_92 : decode cX0_stone 92 = .ok (.invokevirtual 99, 3) := dk_182 0 99 (dk_at dksX0_stone_4 1 rfl rfl)
theorem dX0_stone_95 : decode cX0_stone 95 = .ok (.aload_n 0, 1) := dk_42 (dk_at dksX0_stone_4 4 rfl rfl)
theorem dX0_stone_96 : decode cX0_stone 96 = .ok (.getfield 16, 3) := dk_180 0 16 (dk_at dksX0_stone_4 5 rfl rfl)
theorem dX0_stone_99 : decode cX0_stone 99 = .ok (.getfield 136, 3) := dk_180 0 136 (dk_at dksX0_stone_4 8 rfl rfl)
theorem dX0_stone_102 : decode cX0_stone 102 = .ok (.iconst 1, 1) := dk_4 (dk_at dksX0_stone_4 11 rfl rfl)
theorem dX0_stone_103 : decode cX0_stone 103 = .ok (.isub, 1) := dk_100 (dk_at dksX0_stone_4 12 rfl rfl)
theorem dX0_stone_104 : decode cX0_stone 104 = .ok (.ireturn, 1) := dk_172 (dk_at dksX0_stone_4 13 rfl rfl)
def dkwX0_name_3 : List UInt8 := [181, 0, 146, 42, 180, 0, 146, 4, 100, 172]
abbrev dktX0_name_3 : List UInt8 := dkwX0_name_3 ++ []
def dkwX0_name_2 : List UInt8 := [42, 3, 181, 0, 103, 28, 172, 78, 42, 3, 181, 0, 103, 45, 191, 42, 89, 180, 0, 146, 4, 96]
abbrev dktX0_name_2 : List UInt8 := dkwX0_name_2 ++ dktX0_name_3
def dkwX0_name_1 : List UInt8 := [183, 0, 116, 182, 0, 149, 83, 42, 3, 181, 0, 103, 167, 0, 27, 76, 16, 254, 43, 180, 0, 125, 100, 61]
abbrev dktX0_name_1 : List UInt8 := dkwX0_name_1 ++ dktX0_name_2
def dkwX0_name_0 : List UInt8 := [42, 180, 0, 146, 7, 160, 0, 5, 2, 172, 42, 180, 0, 22, 42, 180, 0, 146, 187, 0, 114, 89, 42]
abbrev dktX0_name_0 : List UInt8 := dkwX0_name_0 ++ dktX0_name_1
theorem dksX0_name_0 : cX0_name.data.toList.drop 0 = dktX0_name_0 := by decide +kernel
theorem dksX0_name_1 : cX0_name.data.toList.drop 23 = dktX0_name_1 := dk_seg dksX0_name_0 23 rfl rfl
theorem dksX0_name_2 : cX0_name.data.toList.drop 47 = dktX0_name_2 := dk_seg dksX0_name_1 24 rfl rfl
theorem dksX0_name_3 : cX0_name.data.toList.drop 69 = dktX0_name_3 := dk_seg dksX0_name_2 22 rfl rfl
theorem dX0_name_0 : decode cX0_name 0 = .ok (.aload_n 0, 1) := dk_42 (dk_at dksX0_name_0 0 rfl rfl)
theorem dX0_name_1 : decode cX0_name 1 = .ok (.getfield 146, 3) := dk_180 0 146 (dk_at dksX0_name_0 1 rfl rfl)
theorem dX0_name_4 : decode cX0_name 4 = .ok (.iconst 4, 1) := dk_7 (dk_at dksX0_name_0 4 rfl rfl)
theorem dX0_name_5 : decode cX0_name 5 = .ok (.if_icmp .ne 5, 3) := dk_160 0 5 (dk_at dksX0_name_0 5 rfl rfl)
theorem dX0_name_8 : decode cX0_name 8 = .ok (.iconst (-1), 1) := dk_2 (dk_at dksX0_name_0 8 rfl rfl)
theorem dX0_name_9 : decode cX0_name 9 = .ok (.ireturn, 1) := dk_172 (dk_at dksX0_name_0 9 rfl rfl)
theorem dX0_name_10 : decode cX0_name 10 = .ok (.aload_n 0, 1) := dk_42 (dk_at dksX0_name_0 10 rfl rfl)
theorem dX0_name_11 : decode cX0_name 11 = .ok (.getfield 22, 3) := dk_180 0 22 (dk_at dksX0_name_0 11 rfl rfl)
theorem dX0_name_14 : decode cX0_name 14 = .ok (.aload_n 0, 1) := dk_42 (dk_at dksX0_name_0 14 rfl rfl)
theorem dX0_name_15 : decode cX0_name 15 = .ok (.getfield 146, 3) := dk_180 0 146 (dk_at dksX0_name_0 15 rfl rfl)
theorem dX0_name_18 : decode cX0_name 18 = .ok (.new 114, 3) := dk_187 0 114 (dk_at dksX0_name_0 18 rfl rfl)
theorem dX0_name_21 : decode cX0_name 21 = .ok (.dup, 1) := dk_89 (dk_at dksX0_name_0 21 rfl rfl)
theorem dX0_name_22 : decode cX0_name 22 = .ok (.aload_n 0, 1) := dk_42 (dk_at dksX0_name_0 22 rfl rfl)
theorem dX0_name_23 : decode cX0_name 23 = .ok (.invokespecial 116, 3) := dk_183 0 116 (dk_at dksX0_name_1 0 rfl rfl)
theorem dX0_name_26 : decode cX0_name 26 = .ok (.invokevirtual 149, 3) := dk_182 0 149 (dk_at dksX0_name_1 3 rfl rfl)
theorem dX0_name_29 : decode cX0_name 29 = .ok (.aastore, 1) := dk_83 (dk_at dksX0_name_1 6 rfl rfl)
theorem dX0_name_30 : decode cX0_name 30 = .ok (.aload_n 0, 1) := dk_42 (dk_at dksX0_name_1 7 rfl rfl)
theorem dX0_name_31 : decode cX0_name 31 = .ok (.iconst 0, 1) := dk_3 (dk_at dksX0_name_1 8 rfl rfl)
theorem dX0_name_32 : decode cX0_name 32 = .ok (.putfield 103, 3) := dk_181 0 103 (dk_at dksX0_name_1 9 rfl rfl)
theorem dX0_name_35 : decode cX0_name 35 = .ok (.goto 27, 3) := dk_167 0 27 (dk_at dksX0_name_1 12 rfl rfl)
theorem dX0_name_38 : decode cX0_name 38 = .ok (.astore_n 1, 1) := dk_76 (dk_at dksX0_name_1 15 rfl rfl)
theorem dX0_name_39 : decode cX0_name 39 = .ok (.bipush (-2), 2) := dk_16 254 (dk_at dksX0_name_1 16 rfl rfl)
theorem dX0_name_41 : decode cX0_name 41 = .ok (.aload_n 1, 1) := dk_43 (dk_at dksX0_name_1 18 rfl rfl)
theorem dX0_name_42 : decode cX0_name 42 = .ok (.getfield 125, 3) := dk_180 0 125 (dk_at dksX0_name_1 19 rfl rfl)
theorem dX0_name_45 : decode cX0_name 45 = .ok (.isub, 1) := dk_100 (dk_at dksX0_name_1 22 rfl rfl)
theorem dX0_name_46 : decode cX0_name 46 = .ok (.istore_n 2, 1) := dk_61 (dk_at dksX0_name_1 23 rfl rfl)
theorem dX0_name_47 : decode cX0_name 47 = .ok (.aload_n 0, 1) := dk_42 (dk_at dksX0_name_2 0 rfl rfl)
theorem dX0_name_48 : decode cX0_name 48 = .ok (.iconst 0, 1) := dk_3 (dk_at dksX0_name_2 1 rfl rfl)
theorem dX0_name_49 : decode cX0_name 49 = .ok (.putfield 103, 3) := dk_181 0 103 (dk_at dksX0_name_2 2 rfl rfl)
theorem dX0_name_52 : decode cX0_name 52 = .ok (.iload_n 2, 1) := dk_28 (dk_at dksX0_name_2 5 rfl rfl)
theorem dX0_name_53 : decode cX0_name 53 = .ok (.ireturn, 1) := dk_172 (dk_at dksX0_name_2 6 rfl rfl)
theorem dX0_name_54 : decode cX0_name 54 = .ok (.astore_n 3, 1) := dk_78 (dk_at dksX0_name_2 7 rfl rfl)
theorem dX0_name_55 : decode cX0_name 55 = .ok (.aload_n 0, 1) := dk_42 (dk_at dksX0_name_2 8 rfl rfl)
theorem dX0_name_56 : decode cX0_name 56 = .ok (.iconst 0, 1) := dk_3 (dk_at dksX0_name_2 9 rfl rfl)
theorem dX0_name_57 : decode cX0_name 57 = .ok (.putfield 103, 3) := dk_181 0 103 (dk_at dksX0_name_2 10 rfl rfl)
theorem dX0_name_60 : decode cX0_name 60 = .ok (.aload_n 3, 1) := dk_45 (dk_at dksX0_name_2 13 rfl rfl)
theorem dX0_name_61 : decode cX0_name 61 = .ok (.athrow, 1) := dk_191 (dk_at dksX0_name_2 14 rfl rfl)
theorem dX0_name_62 : decode cX0_name 62 = .ok (.aload_n 0, 1) := dk_42 (dk_at dksX0_name_2 15 rfl rfl)
theorem dX0_name_63 : decode cX0_name 63 = .ok (.dup, 1) := dk_89 (dk_at dksX0_name_2 16 rfl rfl)
theorem dX0_name_64 : decode cX0_name 64 = .ok (.getfield 146, 3) := dk_180 0 146 (dk_at dksX0_name_2 17 rfl rfl)
theorem dX0_name_67 : decode cX0_name 67 = .ok (.iconst 1, 1) := dk_4 (dk_at dksX0_name_2 20 rfl rfl)
theorem dX0_name_68 : decode cX0_name 68 = .ok (.iadd, 1) := dk_96 (dk_at dksX0_name_2 21 rfl rfl)
theorem dX0_name_69 : decode cX0_name 69 = .ok (.putfield 146, 3) := dk_181 0 146 (dk_at dksX0_name_3 0 rfl rfl)
theorem dX0_name_72 : decode cX0_name 72 = .ok (.aload_n 0, 1) := dk_42 (dk_at dksX0_name_3 3 rfl rfl)
theorem dX0_name_73 : decode cX0_name 73 = .ok (.getfield 146, 3) := dk_180 0 146 (dk_at dksX0_name_3 4 rfl rfl)
theorem dX0_name_76 : decode cX0_name 76 = .ok (.iconst 1, 1) := dk_4 (dk_at dksX0_name_3 7 rfl rfl)
theorem dX0_name_77 : decode cX0_name 77 = .ok (.isub, 1) := dk_100 (dk_at dksX0_name_3 8 rfl rfl)
theorem dX0_name_78 : decode cX0_name 78 = .ok (.ireturn, 1) := dk_172 (dk_at dksX0_name_3 9 rfl rfl)
def dkwX0_isLike_2 : List UInt8 := [28, 172]
abbrev dktX0_isLike_2 : List UInt8 := dkwX0_isLike_2 ++ []
def dkwX0_isLike_1 : List UInt8 := [162, 0, 24, 42, 29, 46, 43, 29, 46, 160, 0, 7, 4, 167, 0, 4, 3, 61, 132, 3, 1, 167, 255, 228]
abbrev dktX0_isLike_1 : List UInt8 := dkwX0_isLike_1 ++ dktX0_isLike_2
def dkwX0_isLike_0 : List UInt8 := [42, 190, 43, 190, 160, 0, 7, 4, 167, 0, 4, 3, 61, 3, 62, 28, 153, 0, 30, 29, 42, 190]
abbrev dktX0_isLike_0 : List UInt8 := dkwX0_isLike_0 ++ dktX0_isLike_1
theorem dksX0_isLike_0 : cX0_isLike.data.toList.drop 0 = dktX0_isLike_0 := by decide +kernel
theorem dksX0_isLike_1 : cX0_isLike.data.toList.drop 22 = dktX0_isLike_1 := dk_seg dksX0_isLike_0 22 rfl rfl
theorem dksX0_isLike_2 : cX0_isLike.data.toList.drop 46 = dktX0_isLike_2 := dk_seg dksX0_isLike_1 24 rfl rfl
theorem dX0_isLike_0 : decode cX0_isLike 0 = .ok (.aload_n 0, 1) := dk_42 (dk_at dksX0_isLike_0 0 rfl rfl)
theorem dX0_isLike_1 : decode cX0_isLike 1 = .ok (.arraylength, 1) := dk_190 (dk_at dksX0_isLike_0 1 rfl rfl)
theorem dX0_isLike_2 : decode cX0_isLike 2 = .ok (.aload_n 1, 1) := dk_43 (dk_at dksX0_isLike_0 2 rfl rfl)
theorem dX0_isLike_3 : decode cX0_isLike 3 = .ok (.arraylength, 1) := dk_190 (dk_at dksX0_isLike_0 3 rfl rfl)
theorem dX0_isLike_4 : decode cX0_isLike 4 = .ok (.if_icmp .ne 7, 3) := dk_160 0 7 (dk_at dksX0_isLike_0 4 rfl rfl)
theorem dX0_isLike_7 : decode cX0_isLike 7 = .ok (.iconst 1, 1) := dk_4 (dk_at dksX0_isLike_0 7 rfl rfl)
theorem dX0_isLike_8 : decode cX0_isLike 8 = .ok (.goto 4, 3) := dk_167 0 4 (dk_at dksX0_isLike_0 8 rfl rfl)
theorem dX0_isLike_11 : decode cX0_isLike 11 = .ok (.iconst 0, 1) := dk_3 (dk_at dksX0_isLike_0 11 rfl rfl)
theorem dX0_isLike_12 : decode cX0_isLike 12 = .ok (.istore_n 2, 1) := dk_61 (dk_at dksX0_isLike_0 12 rfl rfl)
theorem dX0_isLike_13 : decode cX0_isLike 13 = .ok (.iconst 0, 1) := dk_3 (dk_at dksX0_isLike_0 13 rfl rfl)
theorem dX0_isLike_14 : decode cX0_isLike 14 = .ok (.istore_n 3, 1) := dk_62 (dk_at dksX0_isLike_0 14 rfl rfl)
theorem dX0_isLike_15 : decode cX0_isLike 15 = .ok (.iload_n 2, 1) := dk_28 (dk_at dksX0_isLike_0 15 rfl rfl)
theorem dX0_isLike_16 : decode cX0_isLike 16 = .ok (.ifCond .eq 30, 3) := dk_153 0 30 (dk_at dksX0_isLike_0 16 rfl rfl)
theorem dX0_isLike_19 : decode cX0_isLike 19 = .ok (.iload_n 3, 1) := dk_29 (dk_at dksX0_isLike_0 19 rfl rfl)
theorem dX0_isLike_20 : decode cX0_isLike 20 = .ok (.aload_n 0, 1) := dk_42 (dk_at dksX0_isLike_0 20 rfl rfl)
theorem dX0_isLike_21 : decode cX0_isLike 21 = .ok (.arraylength, 1) := dk_190 (dk_at dksX0_isLike_0 21 rfl rfl)
theorem dX0_isLike_22 : decode cX0_isLike 22 = .ok (.if_icmp .ge 24, 3) := dk_162 0 24 (dk_at dksX0_isLike_1 0 rfl rfl)
theorem dX0_isLike_25 : decode cX0_isLike 25 = .ok (.aload_n 0, 1) := dk_42 (dk_at dksX0_isLike_1 3 rfl rfl)
theorem dX0_isLike_26 : decode cX0_isLike 26 = .ok (.iload_n 3, 1) := dk_29 (dk_at dksX0_isLike_1 4 rfl rfl)
theorem dX0_isLike_27 : decode cX0_isLike 27 = .ok (.iaload, 1) := dk_46 (dk_at dksX0_isLike_1 5 rfl rfl)
theorem dX0_isLike_28 : decode cX0_isLike 28 = .ok (.aload_n 1, 1) := dk_43 (dk_at dksX0_isLike_1 6 rfl rfl)
theorem dX0_isLike_29 : decode cX0_isLike 29 = .ok (.iload_n 3, 1) := dk_29 (dk_at dksX0_isLike_1 7 rfl rfl)
theorem dX0_isLike_30 : decode cX0_isLike 30 = .ok (.iaload, 1) := dk_46 (dk_at dksX0_isLike_1 8 rfl rfl)
theorem dX0_isLike_31 : decode cX0_isLike 31 = .ok (.if_icmp .ne 7, 3) := dk_160 0 7 (dk_at dksX0_isLike_1 9 rfl rfl)
theorem dX0_isLike_34 : decode cX0_isLike 34 = .ok (.iconst 1, 1) := dk_4 (dk_at dksX0_isLike_1 12 rfl rfl)
theorem dX0_isLike_35 : decode cX0_isLike 35 = .ok (.goto 4, 3) := dk_167 0 4 (dk_at dksX0_isLike_1 13 rfl rfl)
theorem dX0_isLike_38 : decode cX0_isLike 38 = .ok (.iconst 0, 1) := dk_3 (dk_at dksX0_isLike_1 16 rfl rfl)
theorem dX0_isLike_39 : decode cX0_isLike 39 = .ok (.istore_n 2, 1) := dk_61 (dk_at dksX0_isLike_1 17 rfl rfl)
theorem dX0_isLike_40 : decode cX0_isLike 40 = .ok (.iinc 3 1, 3) := dk_132 3 1 (dk_at dksX0_isLike_1 18 rfl rfl)
theorem dX0_isLike_43 : decode cX0_isLike 43 = .ok (.goto (-28), 3) := dk_167 255 228 (dk_at dksX0_isLike_1 21 rfl rfl)
theorem dX0_isLike_46 : decode cX0_isLike 46 = .ok (.iload_n 2, 1) := dk_28 (dk_at dksX0_isLike_2 0 rfl rfl)
theorem dX0_isLike_47 : decode cX0_isLike 47 = .ok (.ireturn, 1) := dk_172 (dk_at dksX0_isLike_2 1 rfl rfl)
def dkwX0_unlike_1 : List UInt8 := [167, 0, 15, 42, 180, 0, 27, 27, 50, 28, 46, 167, 0, 4, 2, 172]
abbrev dktX0_unlike_1 : List UInt8 := dkwX0_unlike_1 ++ []
def dkwX0_unlike_0 : List UInt8 := [42, 27, 182, 0, 223, 153, 0, 31, 42, 28, 182, 0, 223, 153, 0, 23, 27, 28, 160, 0, 7, 3]
abbrev dktX0_unlike_0 : List UInt8 := dkwX0_unlike_0 ++ dktX0_unlike_1
theorem dksX0_unlike_0 : cX0_unlike.data.toList.drop 0 = dktX0_unlike_0 := by decide +kernel
theorem dksX0_unlike_1 : cX0_unlike.data.toList.drop 22 = dktX0_unlike_1 := dk_seg dksX0_unlike_0 22 rfl rfl
theorem dX0_unlike_0 : decode cX0_unlike 0 = .ok (.aload_n 0, 1) := dk_42 (dk_at dksX0_unlike_0 0 rfl rfl)
theorem dX0_unlike_1 : decode cX0_unlike 1 = .ok (.iload_n 1, 1) := dk_27 (dk_at dksX0_unlike_0 1 rfl rfl)
theorem dX0_unlike_2 : decode cX0_unlike 2 = .ok (.invokevirtual 223, 3) := dk_182 0 223 (dk_at dksX0_unlike_0 2 rfl rfl)
theorem dX0_unlike_5 : decode cX0_unlike 5 = .ok (.ifCond .eq 31, 3) := dk_153 0 31 (dk_at dksX0_unlike_0 5 rfl rfl)
theorem dX0_unlike_8 : decode cX0_unlike 8 = .ok (.aload_n 0, 1) := dk_42 (dk_at dksX0_unlike_0 8 rfl rfl)
theorem dX0_unlike_9 : decode cX0_unlike 9 = .ok (.iload_n 2, 1) := dk_28 (dk_at dksX0_unlike_0 9 rfl rfl)
theorem dX0_unlike_10 : decode cX0_unlike 10 = .ok (.invokevirtual 223, 3) := dk_182 0 223 (dk_at dksX0_unlike_0 10 rfl rfl)
theorem dX0_unlike_13 : decode cX0_unlike 13 = .ok (.ifCond .eq 23, 3) := dk_153 0 23 (dk_at dksX0_unlike_0 13 rfl rfl)
theorem dX0_unlike_16 : decode cX0_unlike 16 = .ok (.iload_n 1, 1) := dk_27 (dk_at dksX0_unlike_0 16 rfl rfl)
theorem dX0_unlike_17 : decode cX0_unlike 17 = .ok (.iload_n 2, 1) := dk_28 (dk_at dksX0_unlike_0 17 rfl rfl)
theorem dX0_unlike_18 : decode cX0_unlike 18 = .ok (.if_icmp .ne 7, 3) := dk_160 0 7 (dk_at dksX0_unlike_0 18 rfl rfl)
theorem dX0_unlike_21 : decode cX0_unlike 21 = .ok (.iconst 0, 1) := dk_3 (dk_at dksX0_unlike_0 21 rfl rfl)
theorem dX0_unlike_22 : decode cX0_unlike 22 = .ok (.goto 15, 3) := dk_167 0 15 (dk_at dksX0_unlike_1 0 rfl rfl)
theorem dX0_unlike_25 : decode cX0_unlike 25 = .ok (.aload_n 0, 1) := dk_42 (dk_at dksX0_unlike_1 3 rfl rfl)
theorem dX0_unlike_26 : decode cX0_unlike 26 = .ok (.getfield 27, 3) := dk_180 0 27 (dk_at dksX0_unlike_1 4 rfl rfl)
theorem dX0_unlike_29 : decode cX0_unlike 29 = .ok (.iload_n 1, 1) := dk_27 (dk_at dksX0_unlike_1 7 rfl rfl)
theorem dX0_unlike_30 : decode cX0_unlike 30 = .ok (.aaload, 1) := dk_50 (dk_at dksX0_unlike_1 8 rfl rfl)
theorem dX0_unlike_31 : decode cX0_unlike 31 = .ok (.iload_n 2, 1) := dk_28 (dk_at dksX0_unlike_1 9 rfl rfl)
theorem dX0_unlike_32 : decode cX0_unlike 32 = .ok (.iaload, 1) := dk_46 (dk_at dksX0_unlike_1 10 rfl rfl)
theorem dX0_unlike_33 : decode cX0_unlike 33 = .ok (.goto 4, 3) := dk_167 0 4 (dk_at dksX0_unlike_1 11 rfl rfl)
theorem dX0_unlike_36 : decode cX0_unlike 36 = .ok (.iconst (-1), 1) := dk_2 (dk_at dksX0_unlike_1 14 rfl rfl)
theorem dX0_unlike_37 : decode cX0_unlike 37 = .ok (.ireturn, 1) := dk_172 (dk_at dksX0_unlike_1 15 rfl rfl)
def dkwX0_sign_0 : List UInt8 := [42, 27, 182, 0, 223, 153, 0, 12, 42, 180, 0, 36, 27, 46, 167, 0, 4, 2, 172]
abbrev dktX0_sign_0 : List UInt8 := dkwX0_sign_0 ++ []
theorem dksX0_sign_0 : cX0_sign.data.toList.drop 0 = dktX0_sign_0 := by decide +kernel
theorem dX0_sign_0 : decode cX0_sign 0 = .ok (.aload_n 0, 1) := dk_42 (dk_at dksX0_sign_0 0 rfl rfl)
theorem dX0_sign_1 : decode cX0_sign 1 = .ok (.iload_n 1, 1) := dk_27 (dk_at dksX0_sign_0 1 rfl rfl)
theorem dX0_sign_2 : decode cX0_sign 2 = .ok (.invokevirtual 223, 3) := dk_182 0 223 (dk_at dksX0_sign_0 2 rfl rfl)
theorem dX0_sign_5 : decode cX0_sign 5 = .ok (.ifCond .eq 12, 3) := dk_153 0 12 (dk_at dksX0_sign_0 5 rfl rfl)
theorem dX0_sign_8 : decode cX0_sign 8 = .ok (.aload_n 0, 1) := dk_42 (dk_at dksX0_sign_0 8 rfl rfl)
theorem dX0_sign_9 : decode cX0_sign 9 = .ok (.getfield 36, 3) := dk_180 0 36 (dk_at dksX0_sign_0 9 rfl rfl)
theorem dX0_sign_12 : decode cX0_sign 12 = .ok (.iload_n 1, 1) := dk_27 (dk_at dksX0_sign_0 12 rfl rfl)
theorem dX0_sign_13 : decode cX0_sign 13 = .ok (.iaload, 1) := dk_46 (dk_at dksX0_sign_0 13 rfl rfl)
theorem dX0_sign_14 : decode cX0_sign 14 = .ok (.goto 4, 3) := dk_167 0 4 (dk_at dksX0_sign_0 14 rfl rfl)
theorem dX0_sign_17 : decode cX0_sign 17 = .ok (.iconst (-1), 1) := dk_2 (dk_at dksX0_sign_0 17 rfl rfl)
theorem dX0_sign_18 : decode cX0_sign 18 = .ok (.ireturn, 1) := dk_172 (dk_at dksX0_sign_0 18 rfl rfl)
def dkwX0_size_2 : List UInt8 := [96, 61, 132, 3, 1, 167, 255, 219, 28, 172]
abbrev dktX0_size_2 : List UInt8 := dkwX0_size_2 ++ []
def dkwX0_size_1 : List UInt8 := [162, 0, 32, 28, 42, 180, 0, 36, 29, 46, 42, 180, 0, 36, 27, 46, 160, 0, 7, 4, 167, 0, 4, 3]
abbrev dktX0_size_1 : List UInt8 := dkwX0_size_1 ++ dktX0_size_2
def dkwX0_size_0 : List UInt8 := [42, 27, 182, 0, 223, 154, 0, 5, 2, 172, 3, 61, 3, 62, 29, 42, 180, 0, 16, 180, 0, 134]
abbrev dktX0_size_0 : List UInt8 := dkwX0_size_0 ++ dktX0_size_1
theorem dksX0_size_0 : cX0_size.data.toList.drop 0 = dktX0_size_0 := by decide +kernel
theorem dksX0_size_1 : cX0_size.data.toList.drop 22 = dktX0_size_1 := dk_seg dksX0_size_0 22 rfl rfl
theorem dksX0_size_2 : cX0_size.data.toList.drop 46 = dktX0_size_2 := dk_seg dksX0_size_1 24 rfl rfl
theorem dX0_size_0 : decode cX0_size 0 = .ok (.aload_n 0, 1) := dk_42 (dk_at dksX0_size_0 0 rfl rfl)
theorem dX0_size_1 : decode cX0_size 1 = .ok (.iload_n 1, 1) := dk_27 (dk_at dksX0_size_0 1 rfl rfl)
theorem dX0_size_2 : decode cX0_size 2 = .ok (.invokevirtual 223, 3) := dk_182 0 223 (dk_at dksX0_size_0 2 rfl rfl)
theorem dX0_size_5 : decode cX0_size 5 = .ok (.ifCond .ne 5, 3) := dk_154 0 5 (dk_at dksX0_size_0 5 rfl rfl)
theorem dX0_size_8 : decode cX0_size 8 = .ok (.iconst (-1), 1) := dk_2 (dk_at dksX0_size_0 8 rfl rfl)
theorem dX0_size_9 : decode cX0_size 9 = .ok (.ireturn, 1) := dk_172 (dk_at dksX0_size_0 9 rfl rfl)
theorem dX0_size_10 : decode cX0_size 10 = .ok (.iconst 0, 1) := dk_3 (dk_at dksX0_size_0 10 rfl rfl)
theorem dX0_size_11 : decode cX0_size 11 = .ok (.istore_n 2, 1) := dk_61 (dk_at dksX0_size_0 11 rfl rfl)
theorem dX0_size_12 : decode cX0_size 12 = .ok (.iconst 0, 1) := dk_3 (dk_at dksX0_size_0 12 rfl rfl)
theorem dX0_size_13 : decode cX0_size 13 = .ok (.istore_n 3, 1) := dk_62 (dk_at dksX0_size_0 13 rfl rfl)
theorem dX0_size_14 : decode cX0_size 14 = .ok (.iload_n 3, 1) := dk_29 (dk_at dksX0_size_0 14 rfl rfl)
theorem dX0_size_15 : decode cX0_size 15 = .ok (.aload_n 0, 1) := dk_42 (dk_at dksX0_size_0 15 rfl rfl)
theorem dX0_size_16 : decode cX0_size 16 = .ok (.getfield 16, 3) := dk_180 0 16 (dk_at dksX0_size_0 16 rfl rfl)
theorem dX0_size_19 : decode cX0_size 19 = .ok (.getfield 134, 3) := dk_180 0 134 (dk_at dksX0_size_0 19 rfl rfl)
theorem dX0_size_22 : decode cX0_size 22 = .ok (.if_icmp .ge 32, 3) := dk_162 0 32 (dk_at dksX0_size_1 0 rfl rfl)
theorem dX0_size_25 : decode cX0_size 25 = .ok (.iload_n 2, 1) := dk_28 (dk_at dksX0_size_1 3 rfl rfl)
theorem dX0_size_26 : decode cX0_size 26 = .ok (.aload_n 0, 1) := dk_42 (dk_at dksX0_size_1 4 rfl rfl)
theorem dX0_size_27 : decode cX0_size 27 = .ok (.getfield 36, 3) := dk_180 0 36 (dk_at dksX0_size_1 5 rfl rfl)
theorem dX0_size_30 : decode cX0_size 30 = .ok (.iload_n 3, 1) := dk_29 (dk_at dksX0_size_1 8 rfl rfl)
theorem dX0_size_31 : decode cX0_size 31 = .ok (.iaload, 1) := dk_46 (dk_at dksX0_size_1 9 rfl rfl)
theorem dX0_size_32 : decode cX0_size 32 = .ok (.aload_n 0, 1) := dk_42 (dk_at dksX0_size_1 10 rfl rfl)
theorem dX0_size_33 : decode cX0_size 33 = .ok (.getfield 36, 3) := dk_180 0 36 (dk_at dksX0_size_1 11 rfl rfl)
theorem dX0_size_36 : decode cX0_size 36 = .ok (.iload_n 1, 1) := dk_27 (dk_at dksX0_size_1 14 rfl rfl)
theorem dX0_size_37 : decode cX0_size 37 = .ok (.iaload, 1) := dk_46 (dk_at dksX0_size_1 15 rfl rfl)
theorem dX0_size_38 : decode cX0_size 38 = .ok (.if_icmp .ne 7, 3) := dk_160 0 7 (dk_at dksX0_size_1 16 rfl rfl)
theorem dX0_size_41 : decode cX0_size 41 = .ok (.iconst 1, 1) := dk_4 (dk_at dksX0_size_1 19 rfl rfl)
theorem dX0_size_42 : decode cX0_size 42 = .ok (.goto 4, 3) := dk_167 0 4 (dk_at dksX0_size_1 20 rfl rfl)
theorem dX0_size_45 : decode cX0_size 45 = .ok (.iconst 0, 1) := dk_3 (dk_at dksX0_size_1 23 rfl rfl)
theorem dX0_size_46 : decode cX0_size 46 = .ok (.iadd, 1) := dk_96 (dk_at dksX0_size_2 0 rfl rfl)
theorem dX0_size_47 : decode cX0_size 47 = .ok (.istore_n 2, 1) := dk_61 (dk_at dksX0_size_2 1 rfl rfl)
theorem dX0_size_48 : decode cX0_size 48 = .ok (.iinc 3 1, 3) := dk_132 3 1 (dk_at dksX0_size_2 2 rfl rfl)
theorem dX0_size_51 : decode cX0_size 51 = .ok (.goto (-37), 3) := dk_167 255 219 (dk_at dksX0_size_2 5 rfl rfl)
theorem dX0_size_54 : decode cX0_size 54 = .ok (.iload_n 2, 1) := dk_28 (dk_at dksX0_size_2 8 rfl rfl)
theorem dX0_size_55 : decode cX0_size 55 = .ok (.ireturn, 1) := dk_172 (dk_at dksX0_size_2 9 rfl rfl)
def dkwX0_tree_3 : List UInt8 := [27, 50, 180, 0, 217, 172, 2, 172]
abbrev dktX0_tree_3 : List UInt8 := dkwX0_tree_3 ++ []
def dkwX0_tree_2 : List UInt8 := [42, 180, 0, 32, 27, 50, 180, 1, 188, 172, 42, 180, 0, 32, 27, 50, 180, 0, 214, 172, 42, 180, 0, 32]
abbrev dktX0_tree_2 : List UInt8 := dkwX0_tree_2 ++ dktX0_tree_3
def dkwX0_tree_1 : List UInt8 := [170, 0, 0, 0, 55, 0, 0, 0, 0, 0, 0, 0, 2, 0, 0, 0, 25, 0, 0, 0, 35, 0, 0, 0, 45]
abbrev dktX0_tree_1 : List UInt8 := dkwX0_tree_1 ++ dktX0_tree_2
def dkwX0_tree_0 : List UInt8 := [27, 133, 9, 42, 180, 0, 207, 4, 100, 133, 184, 0, 110, 154, 0, 5, 2, 172, 28]
abbrev dktX0_tree_0 : List UInt8 := dkwX0_tree_0 ++ dktX0_tree_1
theorem dksX0_tree_0 : cX0_tree.data.toList.drop 0 = dktX0_tree_0 := by decide +kernel
theorem dksX0_tree_1 : cX0_tree.data.toList.drop 19 = dktX0_tree_1 := dk_seg dksX0_tree_0 19 rfl rfl
theorem dksX0_tree_2 : cX0_tree.data.toList.drop 44 = dktX0_tree_2 := dk_seg dksX0_tree_1 25 rfl rfl
theorem dksX0_tree_3 : cX0_tree.data.toList.drop 68 = dktX0_tree_3 := dk_seg dksX0_tree_2 24 rfl rfl
theorem dX0_tree_0 : decode cX0_tree 0 = .ok (.iload_n 1, 1) := dk_27 (dk_at dksX0_tree_0 0 rfl rfl)
theorem dX0_tree_1 : decode cX0_tree 1 = .ok (.i2l, 1) := dk_133 (dk_at dksX0_tree_0 1 rfl rfl)
theorem dX0_tree_2 : decode cX0_tree 2 = .ok (.lconst 0, 1) := dk_9 (dk_at dksX0_tree_0 2 rfl rfl)
theorem dX0_tree_3 : decode cX0_tree 3 = .ok (.aload_n 0, 1) := dk_42 (dk_at dksX0_tree_0 3 rfl rfl)
theorem dX0_tree_4 : decode cX0_tree 4 = .ok (.getfield 207, 3) := dk_180 0 207 (dk_at dksX0_tree_0 4 rfl rfl)
theorem dX0_tree_7 : decode cX0_tree 7 = .ok (.iconst 1, 1) := dk_4 (dk_at dksX0_tree_0 7 rfl rfl)
theorem dX0_tree_8 : decode cX0_tree 8 = .ok (.isub, 1) := dk_100 (dk_at dksX0_tree_0 8 rfl rfl)
theorem dX0_tree_9 : decode cX0_tree 9 = .ok (.i2l, 1) := dk_133 (dk_at dksX0_tree_0 9 rfl rfl)
theorem dX0_tree_10 : decode cX0_tree 10 = .ok (.invokestatic 110, 3) := dk_184 0 110 (dk_at dksX0_tree_0 10 rfl rfl)
theorem dX0_tree_13 : decode cX0_tree 13 = .ok (.ifCond .ne 5, 3) := dk_154 0 5 (dk_at dksX0_tree_0 13 rfl rfl)
theorem dX0_tree_16 : decode cX0_tree 16 = .ok (.iconst (-1), 1) := dk_2 (dk_at dksX0_tree_0 16 rfl rfl)
theorem dX0_tree_17 : decode cX0_tree 17 = .ok (.ireturn, 1) := dk_172 (dk_at dksX0_tree_0 17 rfl rfl)
theorem dX0_tree_18 : decode cX0_tree 18 = .ok (.iload_n 2, 1) := dk_28 (dk_at dksX0_tree_0 18 rfl rfl)
theorem dX0_tree_19 : decode cX0_tree 19 = .ok (.tableswitch 55 0 2 #[25, 35, 45], 25) := by decide +kernel
theorem dX0_tree_44 : decode cX0_tree 44 = .ok (.aload_n 0, 1) := dk_42 (dk_at dksX0_tree_2 0 rfl rfl)
theorem dX0_tree_45 : decode cX0_tree 45 = .ok (.getfield 32, 3) := dk_180 0 32 (dk_at dksX0_tree_2 1 rfl rfl)
theorem dX0_tree_48 : decode cX0_tree 48 = .ok (.iload_n 1, 1) := dk_27 (dk_at dksX0_tree_2 4 rfl rfl)
theorem dX0_tree_49 : decode cX0_tree 49 = .ok (.aaload, 1) := dk_50 (dk_at dksX0_tree_2 5 rfl rfl)
theorem dX0_tree_50 : decode cX0_tree 50 = .ok (.getfield 444, 3) := dk_180 1 188 (dk_at dksX0_tree_2 6 rfl rfl)
theorem dX0_tree_53 : decode cX0_tree 53 = .ok (.ireturn, 1) := dk_172 (dk_at dksX0_tree_2 9 rfl rfl)
theorem dX0_tree_54 : decode cX0_tree 54 = .ok (.aload_n 0, 1) := dk_42 (dk_at dksX0_tree_2 10 rfl rfl)
theorem dX0_tree_55 : decode cX0_tree 55 = .ok (.getfield 32, 3) := dk_180 0 32 (dk_at dksX0_tree_2 11 rfl rfl)
theorem dX0_tree_58 : decode cX0_tree 58 = .ok (.iload_n 1, 1) := dk_27 (dk_at dksX0_tree_2 14 rfl rfl)
theorem dX0_tree_59 : decode cX0_tree 59 = .ok (.aaload, 1) := dk_50 (dk_at dksX0_tree_2 15 rfl rfl)
theorem dX0_tree_60 : decode cX0_tree 60 = .ok (.getfield 214, 3) := dk_180 0 214 (dk_at dksX0_tree_2 16 rfl rfl)
theorem dX0_tree_63 : decode cX0_tree 63 = .ok (.ireturn, 1) := dk_172 (dk_at dksX0_tree_2 19 rfl rfl)
theorem dX0_tree_64 : decode cX0_tree 64 = .ok (.aload_n 0, 1) := dk_42 (dk_at dksX0_tree_2 20 rfl rfl)
theorem dX0_tree_65 : decode cX0_tree 65 = .ok (.getfield 32, 3) := dk_180 0 32 (dk_at dksX0_tree_2 21 rfl rfl)
theorem dX0_tree_68 : decode cX0_tree 68 = .ok (.iload_n 1, 1) := dk_27 (dk_at dksX0_tree_3 0 rfl rfl)
theorem dX0_tree_69 : decode cX0_tree 69 = .ok (.aaload, 1) := dk_50 (dk_at dksX0_tree_3 1 rfl rfl)
theorem dX0_tree_70 : decode cX0_tree 70 = .ok (.getfield 217, 3) := dk_180 0 217 (dk_at dksX0_tree_3 2 rfl rfl)
theorem dX0_tree_73 : decode cX0_tree 73 = .ok (.ireturn, 1) := dk_172 (dk_at dksX0_tree_3 5 rfl rfl)
theorem dX0_tree_74 : decode cX0_tree 74 = .ok (.iconst (-1), 1) := dk_2 (dk_at dksX0_tree_3 6 rfl rfl)
theorem dX0_tree_75 : decode cX0_tree 75 = .ok (.ireturn, 1) := dk_172 (dk_at dksX0_tree_3 7 rfl rfl)
def dkwX0_judged_0 : List UInt8 := [27, 133, 9, 20, 1, 190, 184, 0, 110, 153, 0, 12, 42, 180, 0, 50, 27, 46, 167, 0, 4, 2, 172]
abbrev dktX0_judged_0 : List UInt8 := dkwX0_judged_0 ++ []
theorem dksX0_judged_0 : cX0_judged.data.toList.drop 0 = dktX0_judged_0 := by decide +kernel
theorem dX0_judged_0 : decode cX0_judged 0 = .ok (.iload_n 1, 1) := dk_27 (dk_at dksX0_judged_0 0 rfl rfl)
theorem dX0_judged_1 : decode cX0_judged 1 = .ok (.i2l, 1) := dk_133 (dk_at dksX0_judged_0 1 rfl rfl)
theorem dX0_judged_2 : decode cX0_judged 2 = .ok (.lconst 0, 1) := dk_9 (dk_at dksX0_judged_0 2 rfl rfl)
theorem dX0_judged_3 : decode cX0_judged 3 = .ok (.ldc2_w 446, 3) := dk_20 1 190 (dk_at dksX0_judged_0 3 rfl rfl)
theorem dX0_judged_6 : decode cX0_judged 6 = .ok (.invokestatic 110, 3) := dk_184 0 110 (dk_at dksX0_judged_0 6 rfl rfl)
theorem dX0_judged_9 : decode cX0_judged 9 = .ok (.ifCond .eq 12, 3) := dk_153 0 12 (dk_at dksX0_judged_0 9 rfl rfl)
theorem dX0_judged_12 : decode cX0_judged 12 = .ok (.aload_n 0, 1) := dk_42 (dk_at dksX0_judged_0 12 rfl rfl)
theorem dX0_judged_13 : decode cX0_judged 13 = .ok (.getfield 50, 3) := dk_180 0 50 (dk_at dksX0_judged_0 13 rfl rfl)
theorem dX0_judged_16 : decode cX0_judged 16 = .ok (.iload_n 1, 1) := dk_27 (dk_at dksX0_judged_0 16 rfl rfl)
theorem dX0_judged_17 : decode cX0_judged 17 = .ok (.iaload, 1) := dk_46 (dk_at dksX0_judged_0 17 rfl rfl)
theorem dX0_judged_18 : decode cX0_judged 18 = .ok (.goto 4, 3) := dk_167 0 4 (dk_at dksX0_judged_0 18 rfl rfl)
theorem dX0_judged_21 : decode cX0_judged 21 = .ok (.iconst (-1), 1) := dk_2 (dk_at dksX0_judged_0 21 rfl rfl)
theorem dX0_judged_22 : decode cX0_judged 22 = .ok (.ireturn, 1) := dk_172 (dk_at dksX0_judged_0 22 rfl rfl)
def dkwX0_read_4 : List UInt8 := [167, 0, 4, 2, 172]
abbrev dktX0_read_4 : List UInt8 := dkwX0_read_4 ++ []
def dkwX0_read_3 : List UInt8 := [25, 4, 182, 1, 6, 4, 100, 133, 184, 0, 110, 153, 0, 15, 25, 4, 29, 182, 1, 41, 16, 97, 100]
abbrev dktX0_read_3 : List UInt8 := dkwX0_read_3 ++ dktX0_read_4
def dkwX0_read_2 : List UInt8 := [180, 0, 47, 27, 50, 28, 50, 58, 4, 29, 2, 160, 0, 9, 25, 4, 182, 1, 6, 172, 29, 133, 9]
abbrev dktX0_read_2 : List UInt8 := dkwX0_read_2 ++ dktX0_read_3
def dkwX0_read_1 : List UInt8 := [180, 0, 16, 180, 0, 139, 27, 50, 180, 0, 236, 4, 100, 133, 184, 0, 110, 154, 0, 5, 2, 172, 42]
abbrev dktX0_read_1 : List UInt8 := dkwX0_read_1 ++ dktX0_read_2
def dkwX0_read_0 : List UInt8 := [27, 133, 9, 42, 180, 0, 16, 180, 0, 136, 4, 100, 133, 184, 0, 110, 153, 0, 27, 28, 133, 9, 42]
abbrev dktX0_read_0 : List UInt8 := dkwX0_read_0 ++ dktX0_read_1
theorem dksX0_read_0 : cX0_read.data.toList.drop 0 = dktX0_read_0 := by decide +kernel
theorem dksX0_read_1 : cX0_read.data.toList.drop 23 = dktX0_read_1 := dk_seg dksX0_read_0 23 rfl rfl
theorem dksX0_read_2 : cX0_read.data.toList.drop 46 = dktX0_read_2 := dk_seg dksX0_read_1 23 rfl rfl
theorem dksX0_read_3 : cX0_read.data.toList.drop 69 = dktX0_read_3 := dk_seg dksX0_read_2 23 rfl rfl
theorem dksX0_read_4 : cX0_read.data.toList.drop 92 = dktX0_read_4 := dk_seg dksX0_read_3 23 rfl rfl
theorem dX0_read_0 : decode cX0_read 0 = .ok (.iload_n 1, 1) := dk_27 (dk_at dksX0_read_0 0 rfl rfl)
theorem dX0_read_1 : decode cX0_read 1 = .ok (.i2l, 1) := dk_133 (dk_at dksX0_read_0 1 rfl rfl)
theorem dX0_read_2 : decode cX0_read 2 = .ok (.lconst 0, 1) := dk_9 (dk_at dksX0_read_0 2 rfl rfl)
theorem dX0_read_3 : decode cX0_read 3 = .ok (.aload_n 0, 1) := dk_42 (dk_at dksX0_read_0 3 rfl rfl)
theorem dX0_read_4 : decode cX0_read 4 = .ok (.getfield 16, 3) := dk_180 0 16 (dk_at dksX0_read_0 4 rfl rfl)
theorem dX0_read_7 : decode cX0_read 7 = .ok (.getfield 136, 3) := dk_180 0 136 (dk_at dksX0_read_0 7 rfl rfl)
theorem dX0_read_10 : decode cX0_read 10 = .ok (.iconst 1, 1) := dk_4 (dk_at dksX0_read_0 10 rfl rfl)
theorem dX0_read_11 : decode cX0_read 11 = .ok (.isub, 1) := dk_100 (dk_at dksX0_read_0 11 rfl rfl)
theorem dX0_read_12 : decode cX0_read 12 = .ok (.i2l, 1) := dk_133 (dk_at dksX0_read_0 12 rfl rfl)
theorem dX0_read_13 : decode cX0_read 13 = .ok (.invokestatic 110, 3) := dk_184 0 110 (dk_at dksX0_read_0 13 rfl rfl)
theorem dX0_read_16 : decode cX0_read 16 = .ok (.ifCond .eq 27, 3) := dk_153 0 27 (dk_at dksX0_read_0 16 rfl rfl)
theorem dX0_read_19 : decode cX0_read 19 = .ok (.iload_n 2, 1) := dk_28 (dk_at dksX0_read_0 19 rfl rfl)
theorem dX0_read_20 : decode cX0_read 20 = .ok (.i2l, 1) := dk_133 (dk_at dksX0_read_0 20 rfl rfl)
theorem dX0_read_21 : decode cX0_read 21 = .ok (.lconst 0, 1) := dk_9 (dk_at dksX0_read_0 21 rfl rfl)
theorem dX0_read_22 : decode cX0_read 22 = .ok (.aload_n 0, 1) := dk_42 (dk_at dksX0_read_0 22 rfl rfl)
theorem dX0_read_23 : decode cX0_read 23 = .ok (.getfield 16, 3) := dk_180 0 16 (dk_at dksX0_read_1 0 rfl rfl)
theorem dX0_read_26 : decode cX0_read 26 = .ok (.getfield 139, 3) := dk_180 0 139 (dk_at dksX0_read_1 3 rfl rfl)
theorem dX0_read_29 : decode cX0_read 29 = .ok (.iload_n 1, 1) := dk_27 (dk_at dksX0_read_1 6 rfl rfl)
theorem dX0_read_30 : decode cX0_read 30 = .ok (.aaload, 1) := dk_50 (dk_at dksX0_read_1 7 rfl rfl)
theorem dX0_read_31 : decode cX0_read 31 = .ok (.getfield 236, 3) := dk_180 0 236 (dk_at dksX0_read_1 8 rfl rfl)
theorem dX0_read_34 : decode cX0_read 34 = .ok (.iconst 1, 1) := dk_4 (dk_at dksX0_read_1 11 rfl rfl)
theorem dX0_read_35 : decode cX0_read 35 = .ok (.isub, 1) := dk_100 (dk_at dksX0_read_1 12 rfl rfl)
theorem dX0_read_36 : decode cX0_read 36 = .ok (.i2l, 1) := dk_133 (dk_at dksX0_read_1 13 rfl rfl)
theorem dX0_read_37 : decode cX0_read 37 = .ok (.invokestatic 110, 3) := dk_184 0 110 (dk_at dksX0_read_1 14 rfl rfl)
theorem dX0_read_40 : decode cX0_read 40 = .ok (.ifCond .ne 5, 3) := dk_154 0 5 (dk_at dksX0_read_1 17 rfl rfl)
theorem dX0_read_43 : decode cX0_read 43 = .ok (.iconst (-1), 1) := dk_2 (dk_at dksX0_read_1 20 rfl rfl)
theorem dX0_read_44 : decode cX0_read 44 = .ok (.ireturn, 1) := dk_172 (dk_at dksX0_read_1 21 rfl rfl)
theorem dX0_read_45 : decode cX0_read 45 = .ok (.aload_n 0, 1) := dk_42 (dk_at dksX0_read_1 22 rfl rfl)
theorem dX0_read_46 : decode cX0_read 46 = .ok (.getfield 47, 3) := dk_180 0 47 (dk_at dksX0_read_2 0 rfl rfl)
theorem dX0_read_49 : decode cX0_read 49 = .ok (.iload_n 1, 1) := dk_27 (dk_at dksX0_read_2 3 rfl rfl)
theorem dX0_read_50 : decode cX0_read 50 = .ok (.aaload, 1) := dk_50 (dk_at dksX0_read_2 4 rfl rfl)
theorem dX0_read_51 : decode cX0_read 51 = .ok (.iload_n 2, 1) := dk_28 (dk_at dksX0_read_2 5 rfl rfl)
theorem dX0_read_52 : decode cX0_read 52 = .ok (.aaload, 1) := dk_50 (dk_at dksX0_read_2 6 rfl rfl)
theorem dX0_read_53 : decode cX0_read 53 = .ok (.astore 4, 2) := dk_58 4 (dk_at dksX0_read_2 7 rfl rfl)
theorem dX0_read_55 : decode cX0_read 55 = .ok (.iload_n 3, 1) := dk_29 (dk_at dksX0_read_2 9 rfl rfl)
theorem dX0_read_56 : decode cX0_read 56 = .ok (.iconst (-1), 1) := dk_2 (dk_at dksX0_read_2 10 rfl rfl)
theorem dX0_read_57 : decode cX0_read 57 = .ok (.if_icmp .ne 9, 3) := dk_160 0 9 (dk_at dksX0_read_2 11 rfl rfl)
theorem dX0_read_60 : decode cX0_read 60 = .ok (.aload 4, 2) := dk_25 4 (dk_at dksX0_read_2 14 rfl rfl)
theorem dX0_read_62 : decode cX0_read 62 = .ok (.invokevirtual 262, 3) := dk_182 1 6 (dk_at dksX0_read_2 16 rfl rfl)
theorem dX0_read_65 : decode cX0_read 65 = .ok (.ireturn, 1) := dk_172 (dk_at dksX0_read_2 19 rfl rfl)
theorem dX0_read_66 : decode cX0_read 66 = .ok (.iload_n 3, 1) := dk_29 (dk_at dksX0_read_2 20 rfl rfl)
theorem dX0_read_67 : decode cX0_read 67 = .ok (.i2l, 1) := dk_133 (dk_at dksX0_read_2 21 rfl rfl)
theorem dX0_read_68 : decode cX0_read 68 = .ok (.lconst 0, 1) := dk_9 (dk_at dksX0_read_2 22 rfl rfl)
theorem dX0_read_69 : decode cX0_read 69 = .ok (.aload 4, 2) := dk_25 4 (dk_at dksX0_read_3 0 rfl rfl)
theorem dX0_read_71 : decode cX0_read 71 = .ok (.invokevirtual 262, 3) := dk_182 1 6 (dk_at dksX0_read_3 2 rfl rfl)
theorem dX0_read_74 : decode cX0_read 74 = .ok (.iconst 1, 1) := dk_4 (dk_at dksX0_read_3 5 rfl rfl)
theorem dX0_read_75 : decode cX0_read 75 = .ok (.isub, 1) := dk_100 (dk_at dksX0_read_3 6 rfl rfl)
theorem dX0_read_76 : decode cX0_read 76 = .ok (.i2l, 1) := dk_133 (dk_at dksX0_read_3 7 rfl rfl)
theorem dX0_read_77 : decode cX0_read 77 = .ok (.invokestatic 110, 3) := dk_184 0 110 (dk_at dksX0_read_3 8 rfl rfl)
theorem dX0_read_80 : decode cX0_read 80 = .ok (.ifCond .eq 15, 3) := dk_153 0 15 (dk_at dksX0_read_3 11 rfl rfl)
theorem dX0_read_83 : decode cX0_read 83 = .ok (.aload 4, 2) := dk_25 4 (dk_at dksX0_read_3 14 rfl rfl)
theorem dX0_read_85 : decode cX0_read 85 = .ok (.iload_n 3, 1) := dk_29 (dk_at dksX0_read_3 16 rfl rfl)
theorem dX0_read_86 : decode cX0_read 86 = .ok (.invokevirtual 297, 3) := dk_182 1 41 (dk_at dksX0_read_3 17 rfl rfl)
theorem dX0_read_89 : decode cX0_read 89 = .ok (.bipush 97, 2) := dk_16 97 (dk_at dksX0_read_3 20 rfl rfl)
theorem dX0_read_91 : decode cX0_read 91 = .ok (.isub, 1) := dk_100 (dk_at dksX0_read_3 22 rfl rfl)
theorem dX0_read_92 : decode cX0_read 92 = .ok (.goto 4, 3) := dk_167 0 4 (dk_at dksX0_read_4 0 rfl rfl)
theorem dX0_read_95 : decode cX0_read 95 = .ok (.iconst (-1), 1) := dk_2 (dk_at dksX0_read_4 3 rfl rfl)
theorem dX0_read_96 : decode cX0_read 96 = .ok (.ireturn, 1) := dk_172 (dk_at dksX0_read_4 4 rfl rfl)
def dkwX0_comes_1 : List UInt8 := [199, 0, 7, 3, 167, 0, 7, 44, 180, 1, 30, 172]
abbrev dktX0_comes_1 : List UInt8 := dkwX0_comes_1 ++ []
def dkwX0_comes_0 : List UInt8 := [42, 182, 1, 194, 76, 43, 199, 0, 5, 2, 172, 42, 180, 0, 56, 43, 182, 1, 26, 192, 1, 19, 77, 44]
abbrev dktX0_comes_0 : List UInt8 := dkwX0_comes_0 ++ dktX0_comes_1
theorem dksX0_comes_0 : cX0_comes.data.toList.drop 0 = dktX0_comes_0 := by decide +kernel
theorem dksX0_comes_1 : cX0_comes.data.toList.drop 24 = dktX0_comes_1 := dk_seg dksX0_comes_0 24 rfl rfl
theorem dX0_comes_0 : decode cX0_comes 0 = .ok (.aload_n 0, 1) := dk_42 (dk_at dksX0_comes_0 0 rfl rfl)
theorem dX0_comes_1 : decode cX0_comes 1 = .ok (.invokevirtual 450, 3) := dk_182 1 194 (dk_at dksX0_comes_0 1 rfl rfl)
theorem dX0_comes_4 : decode cX0_comes 4 = .ok (.astore_n 1, 1) := dk_76 (dk_at dksX0_comes_0 4 rfl rfl)
theorem dX0_comes_5 : decode cX0_comes 5 = .ok (.aload_n 1, 1) := dk_43 (dk_at dksX0_comes_0 5 rfl rfl)
theorem dX0_comes_6 : decode cX0_comes 6 = .ok (.ifnonnull 5, 3) := dk_199 0 5 (dk_at dksX0_comes_0 6 rfl rfl)
theorem dX0_comes_9 : decode cX0_comes 9 = .ok (.iconst (-1), 1) := dk_2 (dk_at dksX0_comes_0 9 rfl rfl)
theorem dX0_comes_10 : decode cX0_comes 10 = .ok (.ireturn, 1) := dk_172 (dk_at dksX0_comes_0 10 rfl rfl)
theorem dX0_comes_11 : decode cX0_comes 11 = .ok (.aload_n 0, 1) := dk_42 (dk_at dksX0_comes_0 11 rfl rfl)
theorem dX0_comes_12 : decode cX0_comes 12 = .ok (.getfield 56, 3) := dk_180 0 56 (dk_at dksX0_comes_0 12 rfl rfl)
theorem dX0_comes_15 : decode cX0_comes 15 = .ok (.aload_n 1, 1) := dk_43 (dk_at dksX0_comes_0 15 rfl rfl)
theorem dX0_comes_16 : decode cX0_comes 16 = .ok (.invokevirtual 282, 3) := dk_182 1 26 (dk_at dksX0_comes_0 16 rfl rfl)
theorem dX0_comes_19 : decode cX0_comes 19 = .ok (.checkcast 275, 3) := dk_192 1 19 (dk_at dksX0_comes_0 19 rfl rfl)
theorem dX0_comes_22 : decode cX0_comes 22 = .ok (.astore_n 2, 1) := dk_77 (dk_at dksX0_comes_0 22 rfl rfl)
theorem dX0_comes_23 : decode cX0_comes 23 = .ok (.aload_n 2, 1) := dk_44 (dk_at dksX0_comes_0 23 rfl rfl)
theorem dX0_comes_24 : decode cX0_comes 24 = .ok (.ifnonnull 7, 3) := dk_199 0 7 (dk_at dksX0_comes_1 0 rfl rfl)
theorem dX0_comes_27 : decode cX0_comes 27 = .ok (.iconst 0, 1) := dk_3 (dk_at dksX0_comes_1 3 rfl rfl)
theorem dX0_comes_28 : decode cX0_comes 28 = .ok (.goto 7, 3) := dk_167 0 7 (dk_at dksX0_comes_1 4 rfl rfl)
theorem dX0_comes_31 : decode cX0_comes 31 = .ok (.aload_n 2, 1) := dk_44 (dk_at dksX0_comes_1 7 rfl rfl)
theorem dX0_comes_32 : decode cX0_comes 32 = .ok (.getfield 286, 3) := dk_180 1 30 (dk_at dksX0_comes_1 8 rfl rfl)
theorem dX0_comes_35 : decode cX0_comes 35 = .ok (.ireturn, 1) := dk_172 (dk_at dksX0_comes_1 11 rfl rfl)
def dkwX0_pieceTold_3 : List UInt8 := [100, 46, 96, 146, 182, 0, 254, 87, 132, 3, 1, 167, 255, 207, 44, 182, 1, 2, 176]
abbrev dktX0_pieceTold_3 : List UInt8 := dkwX0_pieceTold_3 ++ []
def dkwX0_pieceTold_2 : List UInt8 := [100, 182, 0, 223, 154, 0, 5, 1, 176, 44, 16, 97, 42, 180, 0, 36, 42, 180, 0, 9, 29, 51, 16, 97]
abbrev dktX0_pieceTold_2 : List UInt8 := dkwX0_pieceTold_2 ++ dktX0_pieceTold_3
def dkwX0_pieceTold_1 : List UInt8 := [187, 0, 251, 89, 183, 0, 253, 77, 3, 62, 29, 27, 162, 0, 50, 42, 42, 180, 0, 9, 29, 51, 16, 97]
abbrev dktX0_pieceTold_1 : List UInt8 := dkwX0_pieceTold_1 ++ dktX0_pieceTold_2
def dkwX0_pieceTold_0 : List UInt8 := [42, 180, 0, 103, 60, 42, 3, 181, 0, 103, 27, 133, 10, 20, 1, 192, 184, 0, 110, 154, 0, 5, 1, 176]
abbrev dktX0_pieceTold_0 : List UInt8 := dkwX0_pieceTold_0 ++ dktX0_pieceTold_1
theorem dksX0_pieceTold_0 : cX0_pieceTold.data.toList.drop 0 = dktX0_pieceTold_0 := by decide +kernel
theorem dksX0_pieceTold_1 : cX0_pieceTold.data.toList.drop 24 = dktX0_pieceTold_1 := dk_seg dksX0_pieceTold_0 24 rfl rfl
theorem dksX0_pieceTold_2 : cX0_pieceTold.data.toList.drop 48 = dktX0_pieceTold_2 := dk_seg dksX0_pieceTold_1 24 rfl rfl
theorem dksX0_pieceTold_3 : cX0_pieceTold.data.toList.drop 72 = dktX0_pieceTold_3 := dk_seg dksX0_pieceTold_2 24 rfl rfl
theorem dX0_pieceTold_0 : decode cX0_pieceTold 0 = .ok (.aload_n 0, 1) := dk_42 (dk_at dksX0_pieceTold_0 0 rfl rfl)
theorem dX0_pieceTold_1 : decode cX0_pieceTold 1 = .ok (.getfield 103, 3) := dk_180 0 103 (dk_at dksX0_pieceTold_0 1 rfl rfl)
theorem dX0_pieceTold_4 : decode cX0_pieceTold 4 = .ok (.istore_n 1, 1) := dk_60 (dk_at dksX0_pieceTold_0 4 rfl rfl)
theorem dX0_pieceTold_5 : decode cX0_pieceTold 5 = .ok (.aload_n 0, 1) := dk_42 (dk_at dksX0_pieceTold_0 5 rfl rfl)
theorem dX0_pieceTold_6 : decode cX0_pieceTold 6 = .ok (.iconst 0, 1) := dk_3 (dk_at dksX0_pieceTold_0 6 rfl rfl)
theorem dX0_pieceTold_7 : decode cX0_pieceTold 7 = .ok (.putfield 103, 3) := dk_181 0 103 (dk_at dksX0_pieceTold_0 7 rfl rfl)
theorem dX0_pieceTold_10 : decode cX0_pieceTold 10 = .ok (.iload_n 1, 1) := dk_27 (dk_at dksX0_pieceTold_0 10 rfl rfl)
theorem dX0_pieceTold_11 : decode cX0_pieceTold 11 = .ok (.i2l, 1) := dk_133 (dk_at dksX0_pieceTold_0 11 rfl rfl)
theorem dX0_pieceTold_12 : decode cX0_pieceTold 12 = .ok (.lconst 1, 1) := dk_10 (dk_at dksX0_pieceTold_0 12 rfl rfl)
theorem dX0_pieceTold_13 : decode cX0_pieceTold 13 = .ok (.ldc2_w 448, 3) := dk_20 1 192 (dk_at dksX0_pieceTold_0 13 rfl rfl)
theorem dX0_pieceTold_16 : decode cX0_pieceTold 16 = .ok (.invokestatic 110, 3) := dk_184 0 110 (dk_at dksX0_pieceTold_0 16 rfl rfl)
theorem dX0_pieceTold_19 : decode cX0_pieceTold 19 = .ok (.ifCond .ne 5, 3) := dk_154 0 5 (dk_at dksX0_pieceTold_0 19 rfl rfl)
theorem dX0_pieceTold_22 : decode cX0_pieceTold 22 = .ok (.aconst_null, 1) := dk_1 (dk_at dksX0_pieceTold_0 22 rfl rfl)
theorem dX0_pieceTold_23 : decode cX0_pieceTold 23 = .ok (.areturn, 1) := dk_176 (dk_at dksX0_pieceTold_0 23 rfl rfl)
theorem dX0_pieceTold_24 : decode cX0_pieceTold 24 = .ok (.new 251, 3) := dk_187 0 251 (dk_at dksX0_pieceTold_1 0 rfl rfl)
theorem dX0_pieceTold_27 : decode cX0_pieceTold 27 = .ok (.dup, 1) := dk_89 (dk_at dksX0_pieceTold_1 3 rfl rfl)
theorem dX0_pieceTold_28 : decode cX0_pieceTold 28 = .ok (.invokespecial 253, 3) := dk_183 0 253 (dk_at dksX0_pieceTold_1 4 rfl rfl)
theorem dX0_pieceTold_31 : decode cX0_pieceTold 31 = .ok (.astore_n 2, 1) := dk_77 (dk_at dksX0_pieceTold_1 7 rfl rfl)
theorem dX0_pieceTold_32 : decode cX0_pieceTold 32 = .ok (.iconst 0, 1) := dk_3 (dk_at dksX0_pieceTold_1 8 rfl rfl)
theorem dX0_pieceTold_33 : decode cX0_pieceTold 33 = .ok (.istore_n 3, 1) := dk_62 (dk_at dksX0_pieceTold_1 9 rfl rfl)
theorem dX0_pieceTold_34 : decode cX0_pieceTold 34 = .ok (.iload_n 3, 1) := dk_29 (dk_at dksX0_pieceTold_1 10 rfl rfl)
theorem dX0_pieceTold_35 : decode cX0_pieceTold 35 = .ok (.iload_n 1, 1) := dk_27 (dk_at dksX0_pieceTold_1 11 rfl rfl)
theorem dX0_pieceTold_36 : decode cX0_pieceTold 36 = .ok (.if_icmp .ge 50, 3) := dk_162 0 50 (dk_at dksX0_pieceTold_1 12 rfl rfl)
theorem dX0_pieceTold_39 : decode cX0_pieceTold 39 = .ok (.aload_n 0, 1) := dk_42 (dk_at dksX0_pieceTold_1 15 rfl rfl)
theorem dX0_pieceTold_40 : decode cX0_pieceTold 40 = .ok (.aload_n 0, 1) := dk_42 (dk_at dksX0_pieceTold_1 16 rfl rfl)
theorem dX0_pieceTold_41 : decode cX0_pieceTold 41 = .ok (.getfield 9, 3) := dk_180 0 9 (dk_at dksX0_pieceTold_1 17 rfl rfl)
theorem dX0_pieceTold_44 : decode cX0_pieceTold 44 = .ok (.iload_n 3, 1) := dk_29 (dk_at dksX0_pieceTold_1 20 rfl rfl)
theorem dX0_pieceTold_45 : decode cX0_pieceTold 45 = .ok (.baload, 1) := dk_51 (dk_at dksX0_pieceTold_1 21 rfl rfl)
theorem dX0_pieceTold_46 : decode cX0_pieceTold 46 = .ok (.bipush 97, 2) := dk_16 97 (dk_at dksX0_pieceTold_1 22 rfl rfl)
theorem dX0_pieceTold_48 : decode cX0_pieceTold 48 = .ok (.isub, 1) := dk_100 (dk_at dksX0_pieceTold_2 0 rfl rfl)
theorem dX0_pieceTold_49 : decode cX0_pieceTold 49 = .ok (.invokevirtual 223, 3) := dk_182 0 223 (dk_at dksX0_pieceTold_2 1 rfl rfl)
theorem dX0_pieceTold_52 : decode cX0_pieceTold 52 = .ok (.ifCond .ne 5, 3) := dk_154 0 5 (dk_at dksX0_pieceTold_2 4 rfl rfl)
theorem dX0_pieceTold_55 : decode cX0_pieceTold 55 = .ok (.aconst_null, 1) := dk_1 (dk_at dksX0_pieceTold_2 7 rfl rfl)
theorem dX0_pieceTold_56 : decode cX0_pieceTold 56 = .ok (.areturn, 1) := dk_176 (dk_at dksX0_pieceTold_2 8 rfl rfl)
theorem dX0_pieceTold_57 : decode cX0_pieceTold 57 = .ok (.aload_n 2, 1) := dk_44 (dk_at dksX0_pieceTold_2 9 rfl rfl)
theorem dX0_pieceTold_58 : decode cX0_pieceTold 58 = .ok (.bipush 97, 2) := dk_16 97 (dk_at dksX0_pieceTold_2 10 rfl rfl)
theorem dX0_pieceTold_60 : decode cX0_pieceTold 60 = .ok (.aload_n 0, 1) := dk_42 (dk_at dksX0_pieceTold_2 12 rfl rfl)
theorem dX0_pieceTold_61 : decode cX0_pieceTold 61 = .ok (.getfield 36, 3) := dk_180 0 36 (dk_at dksX0_pieceTold_2 13 rfl rfl)
theorem dX0_pieceTold_64 : decode cX0_pieceTold 64 = .ok (.aload_n 0, 1) := dk_42 (dk_at dksX0_pieceTold_2 16 rfl rfl)
theorem dX0_pieceTold_65 : decode cX0_pieceTold 65 = .ok (.getfield 9, 3) := dk_180 0 9 (dk_at dksX0_pieceTold_2 17 rfl rfl)
theorem dX0_pieceTold_68 : decode cX0_pieceTold 68 = .ok (.iload_n 3, 1) := dk_29 (dk_at dksX0_pieceTold_2 20 rfl rfl)
theorem dX0_pieceTold_69 : decode cX0_pieceTold 69 = .ok (.baload, 1) := dk_51 (dk_at dksX0_pieceTold_2 21 rfl rfl)
theorem dX0_pieceTold_70 : decode cX0_pieceTold 70 = .ok (.bipush 97, 2) := dk_16 97 (dk_at dksX0_pieceTold_2 22 rfl rfl)
theorem dX0_pieceTold_72 : decode cX0_pieceTold 72 = .ok (.isub, 1) := dk_100 (dk_at dksX0_pieceTold_3 0 rfl rfl)
theorem dX0_pieceTold_73 : decode cX0_pieceTold 73 = .ok (.iaload, 1) := dk_46 (dk_at dksX0_pieceTold_3 1 rfl rfl)
theorem dX0_pieceTold_74 : decode cX0_pieceTold 74 = .ok (.iadd, 1) := dk_96 (dk_at dksX0_pieceTold_3 2 rfl rfl)
theorem dX0_pieceTold_75 : decode cX0_pieceTold 75 = .ok (.i2c, 1) := dk_146 (dk_at dksX0_pieceTold_3 3 rfl rfl)
theorem dX0_pieceTold_76 : decode cX0_pieceTold 76 = .ok (.invokevirtual 254, 3) := dk_182 0 254 (dk_at dksX0_pieceTold_3 4 rfl rfl)
theorem dX0_pieceTold_79 : decode cX0_pieceTold 79 = .ok (.pop, 1) := dk_87 (dk_at dksX0_pieceTold_3 7 rfl rfl)
theorem dX0_pieceTold_80 : decode cX0_pieceTold 80 = .ok (.iinc 3 1, 3) := dk_132 3 1 (dk_at dksX0_pieceTold_3 8 rfl rfl)
theorem dX0_pieceTold_83 : decode cX0_pieceTold 83 = .ok (.goto (-49), 3) := dk_167 255 207 (dk_at dksX0_pieceTold_3 11 rfl rfl)
theorem dX0_pieceTold_86 : decode cX0_pieceTold 86 = .ok (.aload_n 2, 1) := dk_44 (dk_at dksX0_pieceTold_3 14 rfl rfl)
theorem dX0_pieceTold_87 : decode cX0_pieceTold 87 = .ok (.invokevirtual 258, 3) := dk_182 1 2 (dk_at dksX0_pieceTold_3 15 rfl rfl)
theorem dX0_pieceTold_90 : decode cX0_pieceTold 90 = .ok (.areturn, 1) := dk_176 (dk_at dksX0_pieceTold_3 18 rfl rfl)
def dkwX0_next_0 : List UInt8 := [42, 182, 1, 194, 76, 43, 199, 0, 7, 2, 167, 0, 8, 42, 43, 182, 1, 55, 172]
abbrev dktX0_next_0 : List UInt8 := dkwX0_next_0 ++ []
theorem dksX0_next_0 : cX0_next.data.toList.drop 0 = dktX0_next_0 := by decide +kernel
theorem dX0_next_0 : decode cX0_next 0 = .ok (.aload_n 0, 1) := dk_42 (dk_at dksX0_next_0 0 rfl rfl)
theorem dX0_next_1 : decode cX0_next 1 = .ok (.invokevirtual 450, 3) := dk_182 1 194 (dk_at dksX0_next_0 1 rfl rfl)
theorem dX0_next_4 : decode cX0_next 4 = .ok (.astore_n 1, 1) := dk_76 (dk_at dksX0_next_0 4 rfl rfl)
theorem dX0_next_5 : decode cX0_next 5 = .ok (.aload_n 1, 1) := dk_43 (dk_at dksX0_next_0 5 rfl rfl)
theorem dX0_next_6 : decode cX0_next 6 = .ok (.ifnonnull 7, 3) := dk_199 0 7 (dk_at dksX0_next_0 6 rfl rfl)
theorem dX0_next_9 : decode cX0_next 9 = .ok (.iconst (-1), 1) := dk_2 (dk_at dksX0_next_0 9 rfl rfl)
theorem dX0_next_10 : decode cX0_next 10 = .ok (.goto 8, 3) := dk_167 0 8 (dk_at dksX0_next_0 10 rfl rfl)
theorem dX0_next_13 : decode cX0_next 13 = .ok (.aload_n 0, 1) := dk_42 (dk_at dksX0_next_0 13 rfl rfl)
theorem dX0_next_14 : decode cX0_next 14 = .ok (.aload_n 1, 1) := dk_43 (dk_at dksX0_next_0 14 rfl rfl)
theorem dX0_next_15 : decode cX0_next 15 = .ok (.invokevirtual 311, 3) := dk_182 1 55 (dk_at dksX0_next_0 15 rfl rfl)
theorem dX0_next_18 : decode cX0_next 18 = .ok (.ireturn, 1) := dk_172 (dk_at dksX0_next_0 18 rfl rfl)
def dkwX0_words_0 : List UInt8 := [42, 180, 0, 65, 190, 172]
abbrev dktX0_words_0 : List UInt8 := dkwX0_words_0 ++ []
theorem dksX0_words_0 : cX0_words.data.toList.drop 0 = dktX0_words_0 := by decide +kernel
theorem dX0_words_0 : decode cX0_words 0 = .ok (.aload_n 0, 1) := dk_42 (dk_at dksX0_words_0 0 rfl rfl)
theorem dX0_words_1 : decode cX0_words 1 = .ok (.getfield 65, 3) := dk_180 0 65 (dk_at dksX0_words_0 1 rfl rfl)
theorem dX0_words_4 : decode cX0_words 4 = .ok (.arraylength, 1) := dk_190 (dk_at dksX0_words_0 4 rfl rfl)
theorem dX0_words_5 : decode cX0_words 5 = .ok (.ireturn, 1) := dk_172 (dk_at dksX0_words_0 5 rfl rfl)
def dkwX0_word_3 : List UInt8 := [182, 1, 118, 167, 0, 4, 2, 172]
abbrev dktX0_word_3 : List UInt8 := dkwX0_word_3 ++ []
def dkwX0_word_2 : List UInt8 := [180, 1, 115, 182, 1, 6, 172, 28, 5, 100, 45, 180, 1, 115, 182, 1, 6, 162, 0, 13, 45, 28, 5, 100]
abbrev dktX0_word_2 : List UInt8 := dkwX0_word_2 ++ dktX0_word_3
def dkwX0_word_1 : List UInt8 := [180, 0, 65, 27, 50, 78, 28, 5, 162, 0, 22, 28, 154, 0, 10, 45, 180, 1, 69, 167, 0, 10, 45]
abbrev dktX0_word_1 : List UInt8 := dkwX0_word_1 ++ dktX0_word_2
def dkwX0_word_0 : List UInt8 := [42, 27, 182, 1, 197, 153, 0, 15, 28, 133, 9, 20, 1, 200, 184, 0, 110, 154, 0, 5, 2, 172, 42]
abbrev dktX0_word_0 : List UInt8 := dkwX0_word_0 ++ dktX0_word_1
theorem dksX0_word_0 : cX0_word.data.toList.drop 0 = dktX0_word_0 := by decide +kernel
theorem dksX0_word_1 : cX0_word.data.toList.drop 23 = dktX0_word_1 := dk_seg dksX0_word_0 23 rfl rfl
theorem dksX0_word_2 : cX0_word.data.toList.drop 46 = dktX0_word_2 := dk_seg dksX0_word_1 23 rfl rfl
theorem dksX0_word_3 : cX0_word.data.toList.drop 70 = dktX0_word_3 := dk_seg dksX0_word_2 24 rfl rfl
theorem dX0_word_0 : decode cX0_word 0 = .ok (.aload_n 0, 1) := dk_42 (dk_at dksX0_word_0 0 rfl rfl)
theorem dX0_word_1 : decode cX0_word 1 = .ok (.iload_n 1, 1) := dk_27 (dk_at dksX0_word_0 1 rfl rfl)
theorem dX0_word_2 : decode cX0_word 2 = .ok (.invokevirtual 453, 3) := dk_182 1 197 (dk_at dksX0_word_0 2 rfl rfl)
theorem dX0_word_5 : decode cX0_word 5 = .ok (.ifCond .eq 15, 3) := dk_153 0 15 (dk_at dksX0_word_0 5 rfl rfl)
theorem dX0_word_8 : decode cX0_word 8 = .ok (.iload_n 2, 1) := dk_28 (dk_at dksX0_word_0 8 rfl rfl)
theorem dX0_word_9 : decode cX0_word 9 = .ok (.i2l, 1) := dk_133 (dk_at dksX0_word_0 9 rfl rfl)
theorem dX0_word_10 : decode cX0_word 10 = .ok (.lconst 0, 1) := dk_9 (dk_at dksX0_word_0 10 rfl rfl)
theorem dX0_word_11 : decode cX0_word 11 = .ok (.ldc2_w 456, 3) := dk_20 1 200 (dk_at dksX0_word_0 11 rfl rfl)
theorem dX0_word_14 : decode cX0_word 14 = .ok (.invokestatic 110, 3) := dk_184 0 110 (dk_at dksX0_word_0 14 rfl rfl)
theorem dX0_word_17 : decode cX0_word 17 = .ok (.ifCond .ne 5, 3) := dk_154 0 5 (dk_at dksX0_word_0 17 rfl rfl)
theorem dX0_word_20 : decode cX0_word 20 = .ok (.iconst (-1), 1) := dk_2 (dk_at dksX0_word_0 20 rfl rfl)
theorem dX0_word_21 : decode cX0_word 21 = .ok (.ireturn, 1) := dk_172 (dk_at dksX0_word_0 21 rfl rfl)
theorem dX0_word_22 : decode cX0_word 22 = .ok (.aload_n 0, 1) := dk_42 (dk_at dksX0_word_0 22 rfl rfl)
theorem dX0_word_23 : decode cX0_word 23 = .ok (.getfield 65, 3) := dk_180 0 65 (dk_at dksX0_word_1 0 rfl rfl)
theorem dX0_word_26 : decode cX0_word 26 = .ok (.iload_n 1, 1) := dk_27 (dk_at dksX0_word_1 3 rfl rfl)
theorem dX0_word_27 : decode cX0_word 27 = .ok (.aaload, 1) := dk_50 (dk_at dksX0_word_1 4 rfl rfl)
theorem dX0_word_28 : decode cX0_word 28 = .ok (.astore_n 3, 1) := dk_78 (dk_at dksX0_word_1 5 rfl rfl)
theorem dX0_word_29 : decode cX0_word 29 = .ok (.iload_n 2, 1) := dk_28 (dk_at dksX0_word_1 6 rfl rfl)
theorem dX0_word_30 : decode cX0_word 30 = .ok (.iconst 2, 1) := dk_5 (dk_at dksX0_word_1 7 rfl rfl)
theorem dX0_word_31 : decode cX0_word 31 = .ok (.if_icmp .ge 22, 3) := dk_162 0 22 (dk_at dksX0_word_1 8 rfl rfl)
theorem dX0_word_34 : decode cX0_word 34 = .ok (.iload_n 2, 1) := dk_28 (dk_at dksX0_word_1 11 rfl rfl)
theorem dX0_word_35 : decode cX0_word 35 = .ok (.ifCond .ne 10, 3) := dk_154 0 10 (dk_at dksX0_word_1 12 rfl rfl)
theorem dX0_word_38 : decode cX0_word 38 = .ok (.aload_n 3, 1) := dk_45 (dk_at dksX0_word_1 15 rfl rfl)
theorem dX0_word_39 : decode cX0_word 39 = .ok (.getfield 325, 3) := dk_180 1 69 (dk_at dksX0_word_1 16 rfl rfl)
theorem dX0_word_42 : decode cX0_word 42 = .ok (.goto 10, 3) := dk_167 0 10 (dk_at dksX0_word_1 19 rfl rfl)
theorem dX0_word_45 : decode cX0_word 45 = .ok (.aload_n 3, 1) := dk_45 (dk_at dksX0_word_1 22 rfl rfl)
theorem dX0_word_46 : decode cX0_word 46 = .ok (.getfield 371, 3) := dk_180 1 115 (dk_at dksX0_word_2 0 rfl rfl)
theorem dX0_word_49 : decode cX0_word 49 = .ok (.invokevirtual 262, 3) := dk_182 1 6 (dk_at dksX0_word_2 3 rfl rfl)
theorem dX0_word_52 : decode cX0_word 52 = .ok (.ireturn, 1) := dk_172 (dk_at dksX0_word_2 6 rfl rfl)
theorem dX0_word_53 : decode cX0_word 53 = .ok (.iload_n 2, 1) := dk_28 (dk_at dksX0_word_2 7 rfl rfl)
theorem dX0_word_54 : decode cX0_word 54 = .ok (.iconst 2, 1) := dk_5 (dk_at dksX0_word_2 8 rfl rfl)
theorem dX0_word_55 : decode cX0_word 55 = .ok (.isub, 1) := dk_100 (dk_at dksX0_word_2 9 rfl rfl)
theorem dX0_word_56 : decode cX0_word 56 = .ok (.aload_n 3, 1) := dk_45 (dk_at dksX0_word_2 10 rfl rfl)
theorem dX0_word_57 : decode cX0_word 57 = .ok (.getfield 371, 3) := dk_180 1 115 (dk_at dksX0_word_2 11 rfl rfl)
theorem dX0_word_60 : decode cX0_word 60 = .ok (.invokevirtual 262, 3) := dk_182 1 6 (dk_at dksX0_word_2 14 rfl rfl)
theorem dX0_word_63 : decode cX0_word 63 = .ok (.if_icmp .ge 13, 3) := dk_162 0 13 (dk_at dksX0_word_2 17 rfl rfl)
theorem dX0_word_66 : decode cX0_word 66 = .ok (.aload_n 3, 1) := dk_45 (dk_at dksX0_word_2 20 rfl rfl)
theorem dX0_word_67 : decode cX0_word 67 = .ok (.iload_n 2, 1) := dk_28 (dk_at dksX0_word_2 21 rfl rfl)
theorem dX0_word_68 : decode cX0_word 68 = .ok (.iconst 2, 1) := dk_5 (dk_at dksX0_word_2 22 rfl rfl)
theorem dX0_word_69 : decode cX0_word 69 = .ok (.isub, 1) := dk_100 (dk_at dksX0_word_2 23 rfl rfl)
theorem dX0_word_70 : decode cX0_word 70 = .ok (.invokevirtual 374, 3) := dk_182 1 118 (dk_at dksX0_word_3 0 rfl rfl)
theorem dX0_word_73 : decode cX0_word 73 = .ok (.goto 4, 3) := dk_167 0 4 (dk_at dksX0_word_3 3 rfl rfl)
theorem dX0_word_76 : decode cX0_word 76 = .ok (.iconst (-1), 1) := dk_2 (dk_at dksX0_word_3 6 rfl rfl)
theorem dX0_word_77 : decode cX0_word 77 = .ok (.ireturn, 1) := dk_172 (dk_at dksX0_word_3 7 rfl rfl)
def dkwX0_isWord_0 : List UInt8 := [27, 133, 9, 42, 180, 0, 65, 190, 4, 100, 133, 184, 0, 110, 172]
abbrev dktX0_isWord_0 : List UInt8 := dkwX0_isWord_0 ++ []
theorem dksX0_isWord_0 : cX0_isWord.data.toList.drop 0 = dktX0_isWord_0 := by decide +kernel
theorem dX0_isWord_0 : decode cX0_isWord 0 = .ok (.iload_n 1, 1) := dk_27 (dk_at dksX0_isWord_0 0 rfl rfl)
theorem dX0_isWord_1 : decode cX0_isWord 1 = .ok (.i2l, 1) := dk_133 (dk_at dksX0_isWord_0 1 rfl rfl)
theorem dX0_isWord_2 : decode cX0_isWord 2 = .ok (.lconst 0, 1) := dk_9 (dk_at dksX0_isWord_0 2 rfl rfl)
theorem dX0_isWord_3 : decode cX0_isWord 3 = .ok (.aload_n 0, 1) := dk_42 (dk_at dksX0_isWord_0 3 rfl rfl)
theorem dX0_isWord_4 : decode cX0_isWord 4 = .ok (.getfield 65, 3) := dk_180 0 65 (dk_at dksX0_isWord_0 4 rfl rfl)
theorem dX0_isWord_7 : decode cX0_isWord 7 = .ok (.arraylength, 1) := dk_190 (dk_at dksX0_isWord_0 7 rfl rfl)
theorem dX0_isWord_8 : decode cX0_isWord 8 = .ok (.iconst 1, 1) := dk_4 (dk_at dksX0_isWord_0 8 rfl rfl)
theorem dX0_isWord_9 : decode cX0_isWord 9 = .ok (.isub, 1) := dk_100 (dk_at dksX0_isWord_0 9 rfl rfl)
theorem dX0_isWord_10 : decode cX0_isWord 10 = .ok (.i2l, 1) := dk_133 (dk_at dksX0_isWord_0 10 rfl rfl)
theorem dX0_isWord_11 : decode cX0_isWord 11 = .ok (.invokestatic 110, 3) := dk_184 0 110 (dk_at dksX0_isWord_0 11 rfl rfl)
theorem dX0_isWord_14 : decode cX0_isWord 14 = .ok (.ireturn, 1) := dk_172 (dk_at dksX0_isWord_0 14 rfl rfl)
def dkwX0_rank_4 : List UInt8 := [172]
abbrev dktX0_rank_4 : List UInt8 := dkwX0_rank_4 ++ []
def dkwX0_rank_3 : List UInt8 := [162, 0, 14, 44, 182, 0, 210, 87, 132, 3, 1, 167, 255, 243, 44, 182, 0, 210, 192, 0, 63, 180, 1, 112]
abbrev dktX0_rank_3 : List UInt8 := dkwX0_rank_3 ++ dktX0_rank_4
def dkwX0_rank_2 : List UInt8 := [21, 5, 50, 58, 6, 44, 25, 6, 182, 0, 199, 87, 132, 5, 1, 167, 255, 233, 3, 62, 29, 27]
abbrev dktX0_rank_2 : List UInt8 := dkwX0_rank_2 ++ dktX0_rank_3
def dkwX0_rank_1 : List UInt8 := [183, 1, 205, 77, 42, 180, 0, 65, 78, 45, 190, 54, 4, 3, 54, 5, 21, 5, 21, 4, 162, 0, 22, 45]
abbrev dktX0_rank_1 : List UInt8 := dkwX0_rank_1 ++ dktX0_rank_2
def dkwX0_rank_0 : List UInt8 := [42, 27, 182, 1, 197, 154, 0, 5, 2, 172, 187, 0, 187, 89, 16, 16, 187, 1, 202, 89, 183, 1, 204]
abbrev dktX0_rank_0 : List UInt8 := dkwX0_rank_0 ++ dktX0_rank_1
theorem dksX0_rank_0 : cX0_rank.data.toList.drop 0 = dktX0_rank_0 := by decide +kernel
theorem dksX0_rank_1 : cX0_rank.data.toList.drop 23 = dktX0_rank_1 := dk_seg dksX0_rank_0 23 rfl rfl
theorem dksX0_rank_2 : cX0_rank.data.toList.drop 47 = dktX0_rank_2 := dk_seg dksX0_rank_1 24 rfl rfl
theorem dksX0_rank_3 : cX0_rank.data.toList.drop 69 = dktX0_rank_3 := dk_seg dksX0_rank_2 22 rfl rfl
theorem dksX0_rank_4 : cX0_rank.data.toList.drop 93 = dktX0_rank_4 := dk_seg dksX0_rank_3 24 rfl rfl
theorem dX0_rank_0 : decode cX0_rank 0 = .ok (.aload_n 0, 1) := dk_42 (dk_at dksX0_rank_0 0 rfl rfl)
theorem dX0_rank_1 : decode cX0_rank 1 = .ok (.iload_n 1, 1) := dk_27 (dk_at dksX0_rank_0 1 rfl rfl)
theorem dX0_rank_2 : decode cX0_rank 2 = .ok (.invokevirtual 453, 3) := dk_182 1 197 (dk_at dksX0_rank_0 2 rfl rfl)
theorem dX0_rank_5 : decode cX0_rank 5 = .ok (.ifCond .ne 5, 3) := dk_154 0 5 (dk_at dksX0_rank_0 5 rfl rfl)
theorem dX0_rank_8 : decode cX0_rank 8 = .ok (.iconst (-1), 1) := dk_2 (dk_at dksX0_rank_0 8 rfl rfl)
theorem dX0_rank_9 : decode cX0_rank 9 = .ok (.ireturn, 1) := dk_172 (dk_at dksX0_rank_0 9 rfl rfl)
theorem dX0_rank_10 : decode cX0_rank 10 = .ok (.new 187, 3) := dk_187 0 187 (dk_at dksX0_rank_0 10 rfl rfl)
theorem dX0_rank_13 : decode cX0_rank 13 = .ok (.dup, 1) := dk_89 (dk_at dksX0_rank_0 13 rfl rfl)
theorem dX0_rank_14 : decode cX0_rank 14 = .ok (.bipush 16, 2) := dk_16 16 (dk_at dksX0_rank_0 14 rfl rfl)
theorem dX0_rank_16 : decode cX0_rank 16 = .ok (.new 458, 3) := dk_187 1 202 (dk_at dksX0_rank_0 16 rfl rfl)
theorem dX0_rank_19 : decode cX0_rank 19 = .ok (.dup, 1) := dk_89 (dk_at dksX0_rank_0 19 rfl rfl)
theorem dX0_rank_20 : decode cX0_rank 20 = .ok (.invokespecial 460, 3) := dk_183 1 204 (dk_at dksX0_rank_0 20 rfl rfl)
theorem dX0_rank_23 : decode cX0_rank 23 = .ok (.invokespecial 461, 3) := dk_183 1 205 (dk_at dksX0_rank_1 0 rfl rfl)
theorem dX0_rank_26 : decode cX0_rank 26 = .ok (.astore_n 2, 1) := dk_77 (dk_at dksX0_rank_1 3 rfl rfl)
theorem dX0_rank_27 : decode cX0_rank 27 = .ok (.aload_n 0, 1) := dk_42 (dk_at dksX0_rank_1 4 rfl rfl)
theorem dX0_rank_28 : decode cX0_rank 28 = .ok (.getfield 65, 3) := dk_180 0 65 (dk_at dksX0_rank_1 5 rfl rfl)
theorem dX0_rank_31 : decode cX0_rank 31 = .ok (.astore_n 3, 1) := dk_78 (dk_at dksX0_rank_1 8 rfl rfl)
theorem dX0_rank_32 : decode cX0_rank 32 = .ok (.aload_n 3, 1) := dk_45 (dk_at dksX0_rank_1 9 rfl rfl)
theorem dX0_rank_33 : decode cX0_rank 33 = .ok (.arraylength, 1) := dk_190 (dk_at dksX0_rank_1 10 rfl rfl)
theorem dX0_rank_34 : decode cX0_rank 34 = .ok (.istore 4, 2) := dk_54 4 (dk_at dksX0_rank_1 11 rfl rfl)
theorem dX0_rank_36 : decode cX0_rank 36 = .ok (.iconst 0, 1) := dk_3 (dk_at dksX0_rank_1 13 rfl rfl)
theorem dX0_rank_37 : decode cX0_rank 37 = .ok (.istore 5, 2) := dk_54 5 (dk_at dksX0_rank_1 14 rfl rfl)
theorem dX0_rank_39 : decode cX0_rank 39 = .ok (.iload 5, 2) := dk_21 5 (dk_at dksX0_rank_1 16 rfl rfl)
theorem dX0_rank_41 : decode cX0_rank 41 = .ok (.iload 4, 2) := dk_21 4 (dk_at dksX0_rank_1 18 rfl rfl)
theorem dX0_rank_43 : decode cX0_rank 43 = .ok (.if_icmp .ge 22, 3) := dk_162 0 22 (dk_at dksX0_rank_1 20 rfl rfl)
theorem dX0_rank_46 : decode cX0_rank 46 = .ok (.aload_n 3, 1) := dk_45 (dk_at dksX0_rank_1 23 rfl rfl)
theorem dX0_rank_47 : decode cX0_rank 47 = .ok (.iload 5, 2) := dk_21 5 (dk_at dksX0_rank_2 0 rfl rfl)
theorem dX0_rank_49 : decode cX0_rank 49 = .ok (.aaload, 1) := dk_50 (dk_at dksX0_rank_2 2 rfl rfl)
theorem dX0_rank_50 : decode cX0_rank 50 = .ok (.astore 6, 2) := dk_58 6 (dk_at dksX0_rank_2 3 rfl rfl)
theorem dX0_rank_52 : decode cX0_rank 52 = .ok (.aload_n 2, 1) := dk_44 (dk_at dksX0_rank_2 5 rfl rfl)
theorem dX0_rank_53 : decode cX0_rank 53 = .ok (.aload 6, 2) := dk_25 6 (dk_at dksX0_rank_2 6 rfl rfl)
theorem dX0_rank_55 : decode cX0_rank 55 = .ok (.invokevirtual 199, 3) := dk_182 0 199 (dk_at dksX0_rank_2 8 rfl rfl)
theorem dX0_rank_58 : decode cX0_rank 58 = .ok (.pop, 1) := dk_87 (dk_at dksX0_rank_2 11 rfl rfl)
theorem dX0_rank_59 : decode cX0_rank 59 = .ok (.iinc 5 1, 3) := dk_132 5 1 (dk_at dksX0_rank_2 12 rfl rfl)
theorem dX0_rank_62 : decode cX0_rank 62 = .ok (.goto (-23), 3) := dk_167 255 233 (dk_at dksX0_rank_2 15 rfl rfl)
theorem dX0_rank_65 : decode cX0_rank 65 = .ok (.iconst 0, 1) := dk_3 (dk_at dksX0_rank_2 18 rfl rfl)
theorem dX0_rank_66 : decode cX0_rank 66 = .ok (.istore_n 3, 1) := dk_62 (dk_at dksX0_rank_2 19 rfl rfl)
theorem dX0_rank_67 : decode cX0_rank 67 = .ok (.iload_n 3, 1) := dk_29 (dk_at dksX0_rank_2 20 rfl rfl)
theorem dX0_rank_68 : decode cX0_rank 68 = .ok (.iload_n 1, 1) := dk_27 (dk_at dksX0_rank_2 21 rfl rfl)
theorem dX0_rank_69 : decode cX0_rank 69 = .ok (.if_icmp .ge 14, 3) := dk_162 0 14 (dk_at dksX0_rank_3 0 rfl rfl)
theorem dX0_rank_72 : decode cX0_rank 72 = .ok (.aload_n 2, 1) := dk_44 (dk_at dksX0_rank_3 3 rfl rfl)
theorem dX0_rank_73 : decode cX0_rank 73 = .ok (.invokevirtual 210, 3) := dk_182 0 210 (dk_at dksX0_rank_3 4 rfl rfl)
theorem dX0_rank_76 : decode cX0_rank 76 = .ok (.pop, 1) := dk_87 (dk_at dksX0_rank_3 7 rfl rfl)
theorem dX0_rank_77 : decode cX0_rank 77 = .ok (.iinc 3 1, 3) := dk_132 3 1 (dk_at dksX0_rank_3 8 rfl rfl)
theorem dX0_rank_80 : decode cX0_rank 80 = .ok (.goto (-13), 3) := dk_167 255 243 (dk_at dksX0_rank_3 11 rfl rfl)
theorem dX0_rank_83 : decode cX0_rank 83 = .ok (.aload_n 2, 1) := dk_44 (dk_at dksX0_rank_3 14 rfl rfl)
theorem dX0_rank_84 : decode cX0_rank 84 = .ok (.invokevirtual 210, 3) := dk_182 0 210 (dk_at dksX0_rank_3 15 rfl rfl)
theorem dX0_rank_87 : decode cX0_rank 87 = .ok (.checkcast 63, 3) := dk_192 0 63 (dk_at dksX0_rank_3 18 rfl rfl)
theorem dX0_rank_90 : decode cX0_rank 90 = .ok (.getfield 368, 3) := dk_180 1 112 (dk_at dksX0_rank_3 21 rfl rfl)
theorem dX0_rank_93 : decode cX0_rank 93 = .ok (.ireturn, 1) := dk_172 (dk_at dksX0_rank_4 0 rfl rfl)
def dkwX0_stands_3 : List UInt8 := [182, 1, 215, 172, 42, 29, 4, 182, 1, 215, 172, 42, 29, 182, 1, 218, 172, 2, 172]
abbrev dktX0_stands_3 : List UInt8 := dkwX0_stands_3 ++ []
def dkwX0_stands_2 : List UInt8 := [42, 187, 0, 251, 89, 183, 0, 253, 16, 97, 29, 96, 146, 182, 0, 254, 182, 1, 211, 172, 42, 29, 3]
abbrev dktX0_stands_2 : List UInt8 := dkwX0_stands_2 ++ dktX0_stands_3
def dkwX0_stands_1 : List UInt8 := [170, 0, 0, 0, 0, 70, 0, 0, 0, 0, 0, 0, 0, 3, 0, 0, 0, 30, 0, 0, 0, 50, 0, 0, 0, 57, 0, 0, 0, 64]
abbrev dktX0_stands_1 : List UInt8 := dkwX0_stands_1 ++ dktX0_stands_2
def dkwX0_stands_0 : List UInt8 := [42, 27, 182, 0, 223, 154, 0, 5, 2, 172, 42, 180, 0, 36, 27, 46, 62, 28]
abbrev dktX0_stands_0 : List UInt8 := dkwX0_stands_0 ++ dktX0_stands_1
theorem dksX0_stands_0 : cX0_stands.data.toList.drop 0 = dktX0_stands_0 := by decide +kernel
theorem dksX0_stands_1 : cX0_stands.data.toList.drop 18 = dktX0_stands_1 := dk_seg dksX0_stands_0 18 rfl rfl
theorem dksX0_stands_2 : cX0_stands.data.toList.drop 48 = dktX0_stands_2 := dk_seg dksX0_stands_1 30 rfl rfl
theorem dksX0_stands_3 : cX0_stands.data.toList.drop 71 = dktX0_stands_3 := dk_seg dksX0_stands_2 23 rfl rfl
theorem dX0_stands_0 : decode cX0_stands 0 = .ok (.aload_n 0, 1) := dk_42 (dk_at dksX0_stands_0 0 rfl rfl)
theorem dX0_stands_1 : decode cX0_stands 1 = .ok (.iload_n 1, 1) := dk_27 (dk_at dksX0_stands_0 1 rfl rfl)
theorem dX0_stands_2 : decode cX0_stands 2 = .ok (.invokevirtual 223, 3) := dk_182 0 223 (dk_at dksX0_stands_0 2 rfl rfl)
theorem dX0_stands_5 : decode cX0_stands 5 = .ok (.ifCond .ne 5, 3) := dk_154 0 5 (dk_at dksX0_stands_0 5 rfl rfl)
theorem dX0_stands_8 : decode cX0_stands 8 = .ok (.iconst (-1), 1) := dk_2 (dk_at dksX0_stands_0 8 rfl rfl)
theorem dX0_stands_9 : decode cX0_stands 9 = .ok (.ireturn, 1) := dk_172 (dk_at dksX0_stands_0 9 rfl rfl)
theorem dX0_stands_10 : decode cX0_stands 10 = .ok (.aload_n 0, 1) := dk_42 (dk_at dksX0_stands_0 10 rfl rfl)
theorem dX0_stands_11 : decode cX0_stands 11 = .ok (.getfield 36, 3) := dk_180 0 36 (dk_at dksX0_stands_0 11 rfl rfl)
theorem dX0_stands_14 : decode cX0_stands 14 = .ok (.iload_n 1, 1) := dk_27 (dk_at dksX0_stands_0 14 rfl rfl)
theorem dX0_stands_15 : decode cX0_stands 15 = .ok (.iaload, 1) := dk_46 (dk_at dksX0_stands_0 15 rfl rfl)
theorem dX0_stands_16 : decode cX0_stands 16 = .ok (.istore_n 3, 1) := dk_62 (dk_at dksX0_stands_0 16 rfl rfl)
theorem dX0_stands_17 : decode cX0_stands 17 = .ok (.iload_n 2, 1) := dk_28 (dk_at dksX0_stands_0 17 rfl rfl)
theorem dX0_stands_18 : decode cX0_stands 18 = .ok (.tableswitch 70 0 3 #[30, 50, 57, 64], 30) := by decide +kernel
theorem dX0_stands_48 : decode cX0_stands 48 = .ok (.aload_n 0, 1) := dk_42 (dk_at dksX0_stands_2 0 rfl rfl)
theorem dX0_stands_49 : decode cX0_stands 49 = .ok (.new 251, 3) := dk_187 0 251 (dk_at dksX0_stands_2 1 rfl rfl)
theorem dX0_stands_52 : decode cX0_stands 52 = .ok (.dup, 1) := dk_89 (dk_at dksX0_stands_2 4 rfl rfl)
theorem dX0_stands_53 : decode cX0_stands 53 = .ok (.invokespecial 253, 3) := dk_183 0 253 (dk_at dksX0_stands_2 5 rfl rfl)
theorem dX0_stands_56 : decode cX0_stands 56 = .ok (.bipush 97, 2) := dk_16 97 (dk_at dksX0_stands_2 8 rfl rfl)
theorem dX0_stands_58 : decode cX0_stands 58 = .ok (.iload_n 3, 1) := dk_29 (dk_at dksX0_stands_2 10 rfl rfl)
theorem dX0_stands_59 : decode cX0_stands 59 = .ok (.iadd, 1) := dk_96 (dk_at dksX0_stands_2 11 rfl rfl)
theorem dX0_stands_60 : decode cX0_stands 60 = .ok (.i2c, 1) := dk_146 (dk_at dksX0_stands_2 12 rfl rfl)
theorem dX0_stands_61 : decode cX0_stands 61 = .ok (.invokevirtual 254, 3) := dk_182 0 254 (dk_at dksX0_stands_2 13 rfl rfl)
theorem dX0_stands_64 : decode cX0_stands 64 = .ok (.invokevirtual 467, 3) := dk_182 1 211 (dk_at dksX0_stands_2 16 rfl rfl)
theorem dX0_stands_67 : decode cX0_stands 67 = .ok (.ireturn, 1) := dk_172 (dk_at dksX0_stands_2 19 rfl rfl)
theorem dX0_stands_68 : decode cX0_stands 68 = .ok (.aload_n 0, 1) := dk_42 (dk_at dksX0_stands_2 20 rfl rfl)
theorem dX0_stands_69 : decode cX0_stands 69 = .ok (.iload_n 3, 1) := dk_29 (dk_at dksX0_stands_2 21 rfl rfl)
theorem dX0_stands_70 : decode cX0_stands 70 = .ok (.iconst 0, 1) := dk_3 (dk_at dksX0_stands_2 22 rfl rfl)
theorem dX0_stands_71 : decode cX0_stands 71 = .ok (.invokevirtual 471, 3) := dk_182 1 215 (dk_at dksX0_stands_3 0 rfl rfl)
theorem dX0_stands_74 : decode cX0_stands 74 = .ok (.ireturn, 1) := dk_172 (dk_at dksX0_stands_3 3 rfl rfl)
theorem dX0_stands_75 : decode cX0_stands 75 = .ok (.aload_n 0, 1) := dk_42 (dk_at dksX0_stands_3 4 rfl rfl)
theorem dX0_stands_76 : decode cX0_stands 76 = .ok (.iload_n 3, 1) := dk_29 (dk_at dksX0_stands_3 5 rfl rfl)
theorem dX0_stands_77 : decode cX0_stands 77 = .ok (.iconst 1, 1) := dk_4 (dk_at dksX0_stands_3 6 rfl rfl)
theorem dX0_stands_78 : decode cX0_stands 78 = .ok (.invokevirtual 471, 3) := dk_182 1 215 (dk_at dksX0_stands_3 7 rfl rfl)
theorem dX0_stands_81 : decode cX0_stands 81 = .ok (.ireturn, 1) := dk_172 (dk_at dksX0_stands_3 10 rfl rfl)
theorem dX0_stands_82 : decode cX0_stands 82 = .ok (.aload_n 0, 1) := dk_42 (dk_at dksX0_stands_3 11 rfl rfl)
theorem dX0_stands_83 : decode cX0_stands 83 = .ok (.iload_n 3, 1) := dk_29 (dk_at dksX0_stands_3 12 rfl rfl)
theorem dX0_stands_84 : decode cX0_stands 84 = .ok (.invokevirtual 474, 3) := dk_182 1 218 (dk_at dksX0_stands_3 13 rfl rfl)
theorem dX0_stands_87 : decode cX0_stands 87 = .ok (.ireturn, 1) := dk_172 (dk_at dksX0_stands_3 16 rfl rfl)
theorem dX0_stands_88 : decode cX0_stands 88 = .ok (.iconst (-1), 1) := dk_2 (dk_at dksX0_stands_3 17 rfl rfl)
theorem dX0_stands_89 : decode cX0_stands 89 = .ok (.ireturn, 1) := dk_172 (dk_at dksX0_stands_3 18 rfl rfl)
def dkwX0_comesAs_1 : List UInt8 := [180, 1, 30, 172]
abbrev dktX0_comesAs_1 : List UInt8 := dkwX0_comesAs_1 ++ []
def dkwX0_comesAs_0 : List UInt8 := [42, 180, 0, 56, 43, 182, 1, 2, 182, 1, 26, 192, 1, 19, 77, 44, 199, 0, 7, 3, 167, 0, 7, 44]
abbrev dktX0_comesAs_0 : List UInt8 := dkwX0_comesAs_0 ++ dktX0_comesAs_1
theorem dksX0_comesAs_0 : cX0_comesAs.data.toList.drop 0 = dktX0_comesAs_0 := by decide +kernel
theorem dksX0_comesAs_1 : cX0_comesAs.data.toList.drop 24 = dktX0_comesAs_1 := dk_seg dksX0_comesAs_0 24 rfl rfl
theorem dX0_comesAs_0 : decode cX0_comesAs 0 = .ok (.aload_n 0, 1) := dk_42 (dk_at dksX0_comesAs_0 0 rfl rfl)
theorem dX0_comesAs_1 : decode cX0_comesAs 1 = .ok (.getfield 56, 3) := dk_180 0 56 (dk_at dksX0_comesAs_0 1 rfl rfl)
theorem dX0_comesAs_4 : decode cX0_comesAs 4 = .ok (.aload_n 1, 1) := dk_43 (dk_at dksX0_comesAs_0 4 rfl rfl)
theorem dX0_comesAs_5 : decode cX0_comesAs 5 = .ok (.invokevirtual 258, 3) := dk_182 1 2 (dk_at dksX0_comesAs_0 5 rfl rfl)
theorem dX0_comesAs_8 : decode cX0_comesAs 8 = .ok (.invokevirtual 282, 3) := dk_182 1 26 (dk_at dksX0_comesAs_0 8 rfl rfl)
theorem dX0_comesAs_11 : decode cX0_comesAs 11 = .ok (.checkcast 275, 3) := dk_192 1 19 (dk_at dksX0_comesAs_0 11 rfl rfl)
theorem dX0_comesAs_14 : decode cX0_comesAs 14 = .ok (.astore_n 2, 1) := dk_77 (dk_at dksX0_comesAs_0 14 rfl rfl)
theorem dX0_comesAs_15 : decode cX0_comesAs 15 = .ok (.aload_n 2, 1) := dk_44 (dk_at dksX0_comesAs_0 15 rfl rfl)
theorem dX0_comesAs_16 : decode cX0_comesAs 16 = .ok (.ifnonnull 7, 3) := dk_199 0 7 (dk_at dksX0_comesAs_0 16 rfl rfl)
theorem dX0_comesAs_19 : decode cX0_comesAs 19 = .ok (.iconst 0, 1) := dk_3 (dk_at dksX0_comesAs_0 19 rfl rfl)
theorem dX0_comesAs_20 : decode cX0_comesAs 20 = .ok (.goto 7, 3) := dk_167 0 7 (dk_at dksX0_comesAs_0 20 rfl rfl)
theorem dX0_comesAs_23 : decode cX0_comesAs 23 = .ok (.aload_n 2, 1) := dk_44 (dk_at dksX0_comesAs_0 23 rfl rfl)
theorem dX0_comesAs_24 : decode cX0_comesAs 24 = .ok (.getfield 286, 3) := dk_180 1 30 (dk_at dksX0_comesAs_1 0 rfl rfl)
theorem dX0_comesAs_27 : decode cX0_comesAs 27 = .ok (.ireturn, 1) := dk_172 (dk_at dksX0_comesAs_1 3 rfl rfl)
def dkwX0_atEnds_3 : List UInt8 := [132, 6, 1, 167, 255, 200, 29, 172]
abbrev dktX0_atEnds_3 : List UInt8 := dkwX0_atEnds_3 ++ []
def dkwX0_atEnds_2 : List UInt8 := [167, 0, 4, 3, 182, 1, 118, 27, 160, 0, 11, 25, 7, 180, 1, 69, 167, 0, 4, 3, 96, 62]
abbrev dktX0_atEnds_2 : List UInt8 := dkwX0_atEnds_2 ++ dktX0_atEnds_3
def dkwX0_atEnds_1 : List UInt8 := [25, 4, 21, 6, 50, 58, 7, 29, 25, 7, 28, 153, 0, 16, 25, 7, 180, 1, 115, 182, 1, 6, 4, 100]
abbrev dktX0_atEnds_1 : List UInt8 := dkwX0_atEnds_1 ++ dktX0_atEnds_2
def dkwX0_atEnds_0 : List UInt8 := [3, 62, 42, 180, 0, 65, 58, 4, 25, 4, 190, 54, 5, 3, 54, 6, 21, 6, 21, 5, 162, 0, 55]
abbrev dktX0_atEnds_0 : List UInt8 := dkwX0_atEnds_0 ++ dktX0_atEnds_1
theorem dksX0_atEnds_0 : cX0_atEnds.data.toList.drop 0 = dktX0_atEnds_0 := by decide +kernel
theorem dksX0_atEnds_1 : cX0_atEnds.data.toList.drop 23 = dktX0_atEnds_1 := dk_seg dksX0_atEnds_0 23 rfl rfl
theorem dksX0_atEnds_2 : cX0_atEnds.data.toList.drop 47 = dktX0_atEnds_2 := dk_seg dksX0_atEnds_1 24 rfl rfl
theorem dksX0_atEnds_3 : cX0_atEnds.data.toList.drop 69 = dktX0_atEnds_3 := dk_seg dksX0_atEnds_2 22 rfl rfl
theorem dX0_atEnds_0 : decode cX0_atEnds 0 = .ok (.iconst 0, 1) := dk_3 (dk_at dksX0_atEnds_0 0 rfl rfl)
theorem dX0_atEnds_1 : decode cX0_atEnds 1 = .ok (.istore_n 3, 1) := dk_62 (dk_at dksX0_atEnds_0 1 rfl rfl)
theorem dX0_atEnds_2 : decode cX0_atEnds 2 = .ok (.aload_n 0, 1) := dk_42 (dk_at dksX0_atEnds_0 2 rfl rfl)
theorem dX0_atEnds_3 : decode cX0_atEnds 3 = .ok (.getfield 65, 3) := dk_180 0 65 (dk_at dksX0_atEnds_0 3 rfl rfl)
theorem dX0_atEnds_6 : decode cX0_atEnds 6 = .ok (.astore 4, 2) := dk_58 4 (dk_at dksX0_atEnds_0 6 rfl rfl)
theorem dX0_atEnds_8 : decode cX0_atEnds 8 = .ok (.aload 4, 2) := dk_25 4 (dk_at dksX0_atEnds_0 8 rfl rfl)
theorem dX0_atEnds_10 : decode cX0_atEnds 10 = .ok (.arraylength, 1) := dk_190 (dk_at dksX0_atEnds_0 10 rfl rfl)
theorem dX0_atEnds_11 : decode cX0_atEnds 11 = .ok (.istore 5, 2) := dk_54 5 (dk_at dksX0_atEnds_0 11 rfl rfl)
theorem dX0_atEnds_13 : decode cX0_atEnds 13 = .ok (.iconst 0, 1) := dk_3 (dk_at dksX0_atEnds_0 13 rfl rfl)
theorem dX0_atEnds_14 : decode cX0_atEnds 14 = .ok (.istore 6, 2) := dk_54 6 (dk_at dksX0_atEnds_0 14 rfl rfl)
theorem dX0_atEnds_16 : decode cX0_atEnds 16 = .ok (.iload 6, 2) := dk_21 6 (dk_at dksX0_atEnds_0 16 rfl rfl)
theorem dX0_atEnds_18 : decode cX0_atEnds 18 = .ok (.iload 5, 2) := dk_21 5 (dk_at dksX0_atEnds_0 18 rfl rfl)
theorem dX0_atEnds_20 : decode cX0_atEnds 20 = .ok (.if_icmp .ge 55, 3) := dk_162 0 55 (dk_at dksX0_atEnds_0 20 rfl rfl)
theorem dX0_atEnds_23 : decode cX0_atEnds 23 = .ok (.aload 4, 2) := dk_25 4 (dk_at dksX0_atEnds_1 0 rfl rfl)
theorem dX0_atEnds_25 : decode cX0_atEnds 25 = .ok (.iload 6, 2) := dk_21 6 (dk_at dksX0_atEnds_1 2 rfl rfl)
theorem dX0_atEnds_27 : decode cX0_atEnds 27 = .ok (.aaload, 1) := dk_50 (dk_at dksX0_atEnds_1 4 rfl rfl)
theorem dX0_atEnds_28 : decode cX0_atEnds 28 = .ok (.astore 7, 2) := dk_58 7 (dk_at dksX0_atEnds_1 5 rfl rfl)
theorem dX0_atEnds_30 : decode cX0_atEnds 30 = .ok (.iload_n 3, 1) := dk_29 (dk_at dksX0_atEnds_1 7 rfl rfl)
theorem dX0_atEnds_31 : decode cX0_atEnds 31 = .ok (.aload 7, 2) := dk_25 7 (dk_at dksX0_atEnds_1 8 rfl rfl)
theorem dX0_atEnds_33 : decode cX0_atEnds 33 = .ok (.iload_n 2, 1) := dk_28 (dk_at dksX0_atEnds_1 10 rfl rfl)
theorem dX0_atEnds_34 : decode cX0_atEnds 34 = .ok (.ifCond .eq 16, 3) := dk_153 0 16 (dk_at dksX0_atEnds_1 11 rfl rfl)
theorem dX0_atEnds_37 : decode cX0_atEnds 37 = .ok (.aload 7, 2) := dk_25 7 (dk_at dksX0_atEnds_1 14 rfl rfl)
theorem dX0_atEnds_39 : decode cX0_atEnds 39 = .ok (.getfield 371, 3) := dk_180 1 115 (dk_at dksX0_atEnds_1 16 rfl rfl)
theorem dX0_atEnds_42 : decode cX0_atEnds 42 = .ok (.invokevirtual 262, 3) := dk_182 1 6 (dk_at dksX0_atEnds_1 19 rfl rfl)
theorem dX0_atEnds_45 : decode cX0_atEnds 45 = .ok (.iconst 1, 1) := dk_4 (dk_at dksX0_atEnds_1 22 rfl rfl)
theorem dX0_atEnds_46 : decode cX0_atEnds 46 = .ok (.isub, 1) := dk_100 (dk_at dksX0_atEnds_1 23 rfl rfl)
theorem dX0_atEnds_47 : decode cX0_atEnds 47 = .ok (.goto 4, 3) := dk_167 0 4 (dk_at dksX0_atEnds_2 0 rfl rfl)
theorem dX0_atEnds_50 : decode cX0_atEnds 50 = .ok (.iconst 0, 1) := dk_3 (dk_at dksX0_atEnds_2 3 rfl rfl)
theorem dX0_atEnds_51 : decode cX0_atEnds 51 = .ok (.invokevirtual 374, 3) := dk_182 1 118 (dk_at dksX0_atEnds_2 4 rfl rfl)
theorem dX0_atEnds_54 : decode cX0_atEnds 54 = .ok (.iload_n 1, 1) := dk_27 (dk_at dksX0_atEnds_2 7 rfl rfl)
theorem dX0_atEnds_55 : decode cX0_atEnds 55 = .ok (.if_icmp .ne 11, 3) := dk_160 0 11 (dk_at dksX0_atEnds_2 8 rfl rfl)
theorem dX0_atEnds_58 : decode cX0_atEnds 58 = .ok (.aload 7, 2) := dk_25 7 (dk_at dksX0_atEnds_2 11 rfl rfl)
theorem dX0_atEnds_60 : decode cX0_atEnds 60 = .ok (.getfield 325, 3) := dk_180 1 69 (dk_at dksX0_atEnds_2 13 rfl rfl)
theorem dX0_atEnds_63 : decode cX0_atEnds 63 = .ok (.goto 4, 3) := dk_167 0 4 (dk_at dksX0_atEnds_2 16 rfl rfl)
theorem dX0_atEnds_66 : decode cX0_atEnds 66 = .ok (.iconst 0, 1) := dk_3 (dk_at dksX0_atEnds_2 19 rfl rfl)
theorem dX0_atEnds_67 : decode cX0_atEnds 67 = .ok (.iadd, 1) := dk_96 (dk_at dksX0_atEnds_2 20 rfl rfl)
theorem dX0_atEnds_68 : decode cX0_atEnds 68 = .ok (.istore_n 3, 1) := dk_62 (dk_at dksX0_atEnds_2 21 rfl rfl)
theorem dX0_atEnds_69 : decode cX0_atEnds 69 = .ok (.iinc 6 1, 3) := dk_132 6 1 (dk_at dksX0_atEnds_3 0 rfl rfl)
theorem dX0_atEnds_72 : decode cX0_atEnds 72 = .ok (.goto (-56), 3) := dk_167 255 200 (dk_at dksX0_atEnds_3 3 rfl rfl)
theorem dX0_atEnds_75 : decode cX0_atEnds 75 = .ok (.iload_n 3, 1) := dk_29 (dk_at dksX0_atEnds_3 6 rfl rfl)
theorem dX0_atEnds_76 : decode cX0_atEnds 76 = .ok (.ireturn, 1) := dk_172 (dk_at dksX0_atEnds_3 7 rfl rfl)
def dkwX0_inWords_2 : List UInt8 := [96, 61, 132, 5, 1, 167, 255, 217, 28, 172]
abbrev dktX0_inWords_2 : List UInt8 := dkwX0_inWords_2 ++ []
def dkwX0_inWords_1 : List UInt8 := [50, 58, 6, 28, 25, 6, 180, 1, 115, 16, 97, 27, 96, 182, 1, 208, 155, 0, 7, 4, 167, 0, 4, 3]
abbrev dktX0_inWords_1 : List UInt8 := dkwX0_inWords_1 ++ dktX0_inWords_2
def dkwX0_inWords_0 : List UInt8 := [3, 61, 42, 180, 0, 65, 78, 45, 190, 54, 4, 3, 54, 5, 21, 5, 21, 4, 162, 0, 38, 45, 21, 5]
abbrev dktX0_inWords_0 : List UInt8 := dkwX0_inWords_0 ++ dktX0_inWords_1
theorem dksX0_inWords_0 : cX0_inWords.data.toList.drop 0 = dktX0_inWords_0 := by decide +kernel
theorem dksX0_inWords_1 : cX0_inWords.data.toList.drop 24 = dktX0_inWords_1 := dk_seg dksX0_inWords_0 24 rfl rfl
theorem dksX0_inWords_2 : cX0_inWords.data.toList.drop 48 = dktX0_inWords_2 := dk_seg dksX0_inWords_1 24 rfl rfl
theorem dX0_inWords_0 : decode cX0_inWords 0 = .ok (.iconst 0, 1) := dk_3 (dk_at dksX0_inWords_0 0 rfl rfl)
theorem dX0_inWords_1 : decode cX0_inWords 1 = .ok (.istore_n 2, 1) := dk_61 (dk_at dksX0_inWords_0 1 rfl rfl)
theorem dX0_inWords_2 : decode cX0_inWords 2 = .ok (.aload_n 0, 1) := dk_42 (dk_at dksX0_inWords_0 2 rfl rfl)
theorem dX0_inWords_3 : decode cX0_inWords 3 = .ok (.getfield 65, 3) := dk_180 0 65 (dk_at dksX0_inWords_0 3 rfl rfl)
theorem dX0_inWords_6 : decode cX0_inWords 6 = .ok (.astore_n 3, 1) := dk_78 (dk_at dksX0_inWords_0 6 rfl rfl)
theorem dX0_inWords_7 : decode cX0_inWords 7 = .ok (.aload_n 3, 1) := dk_45 (dk_at dksX0_inWords_0 7 rfl rfl)
theorem dX0_inWords_8 : decode cX0_inWords 8 = .ok (.arraylength, 1) := dk_190 (dk_at dksX0_inWords_0 8 rfl rfl)
theorem dX0_inWords_9 : decode cX0_inWords 9 = .ok (.istore 4, 2) := dk_54 4 (dk_at dksX0_inWords_0 9 rfl rfl)
theorem dX0_inWords_11 : decode cX0_inWords 11 = .ok (.iconst 0, 1) := dk_3 (dk_at dksX0_inWords_0 11 rfl rfl)
theorem dX0_inWords_12 : decode cX0_inWords 12 = .ok (.istore 5, 2) := dk_54 5 (dk_at dksX0_inWords_0 12 rfl rfl)
theorem dX0_inWords_14 : decode cX0_inWords 14 = .ok (.iload 5, 2) := dk_21 5 (dk_at dksX0_inWords_0 14 rfl rfl)
theorem dX0_inWords_16 : decode cX0_inWords 16 = .ok (.iload 4, 2) := dk_21 4 (dk_at dksX0_inWords_0 16 rfl rfl)
theorem dX0_inWords_18 : decode cX0_inWords 18 = .ok (.if_icmp .ge 38, 3) := dk_162 0 38 (dk_at dksX0_inWords_0 18 rfl rfl)
theorem dX0_inWords_21 : decode cX0_inWords 21 = .ok (.aload_n 3, 1) := dk_45 (dk_at dksX0_inWords_0 21 rfl rfl)
theorem dX0_inWords_22 : decode cX0_inWords 22 = .ok (.iload 5, 2) := dk_21 5 (dk_at dksX0_inWords_0 22 rfl rfl)
theorem dX0_inWords_24 : decode cX0_inWords 24 = .ok (.aaload, 1) := dk_50 (dk_at dksX0_inWords_1 0 rfl rfl)
theorem dX0_inWords_25 : decode cX0_inWords 25 = .ok (.astore 6, 2) := dk_58 6 (dk_at dksX0_inWords_1 1 rfl rfl)
theorem dX0_inWords_27 : decode cX0_inWords 27 = .ok (.iload_n 2, 1) := dk_28 (dk_at dksX0_inWords_1 3 rfl rfl)
theorem dX0_inWords_28 : decode cX0_inWords 28 = .ok (.aload 6, 2) := dk_25 6 (dk_at dksX0_inWords_1 4 rfl rfl)
theorem dX0_inWords_30 : decode cX0_inWords 30 = .ok (.getfield 371, 3) := dk_180 1 115 (dk_at dksX0_inWords_1 6 rfl rfl)
theorem dX0_inWords_33 : decode cX0_inWords 33 = .ok (.bipush 97, 2) := dk_16 97 (dk_at dksX0_inWords_1 9 rfl rfl)
theorem dX0_inWords_35 : decode cX0_inWords 35 = .ok (.iload_n 1, 1) := dk_27 (dk_at dksX0_inWords_1 11 rfl rfl)
theorem dX0_inWords_36 : decode cX0_inWords 36 = .ok (.iadd, 1) := dk_96 (dk_at dksX0_inWords_1 12 rfl rfl)
theorem dX0_inWords_37 : decode cX0_inWords 37 = .ok (.invokevirtual 464, 3) := dk_182 1 208 (dk_at dksX0_inWords_1 13 rfl rfl)
theorem dX0_inWords_40 : decode cX0_inWords 40 = .ok (.ifCond .lt 7, 3) := dk_155 0 7 (dk_at dksX0_inWords_1 16 rfl rfl)
theorem dX0_inWords_43 : decode cX0_inWords 43 = .ok (.iconst 1, 1) := dk_4 (dk_at dksX0_inWords_1 19 rfl rfl)
theorem dX0_inWords_44 : decode cX0_inWords 44 = .ok (.goto 4, 3) := dk_167 0 4 (dk_at dksX0_inWords_1 20 rfl rfl)
theorem dX0_inWords_47 : decode cX0_inWords 47 = .ok (.iconst 0, 1) := dk_3 (dk_at dksX0_inWords_1 23 rfl rfl)
theorem dX0_inWords_48 : decode cX0_inWords 48 = .ok (.iadd, 1) := dk_96 (dk_at dksX0_inWords_2 0 rfl rfl)
theorem dX0_inWords_49 : decode cX0_inWords 49 = .ok (.istore_n 2, 1) := dk_61 (dk_at dksX0_inWords_2 1 rfl rfl)
theorem dX0_inWords_50 : decode cX0_inWords 50 = .ok (.iinc 5 1, 3) := dk_132 5 1 (dk_at dksX0_inWords_2 2 rfl rfl)
theorem dX0_inWords_53 : decode cX0_inWords 53 = .ok (.goto (-39), 3) := dk_167 255 217 (dk_at dksX0_inWords_2 5 rfl rfl)
theorem dX0_inWords_56 : decode cX0_inWords 56 = .ok (.iload_n 2, 1) := dk_28 (dk_at dksX0_inWords_2 8 rfl rfl)
theorem dX0_inWords_57 : decode cX0_inWords 57 = .ok (.ireturn, 1) := dk_172 (dk_at dksX0_inWords_2 9 rfl rfl)
def dkwX0_ahead_2 : List UInt8 := [96, 146, 182, 0, 254, 182, 1, 211, 172]
abbrev dktX0_ahead_2 : List UInt8 := dkwX0_ahead_2 ++ []
def dkwX0_ahead_1 : List UInt8 := [183, 0, 253, 16, 97, 42, 180, 0, 36, 27, 46, 96, 146, 182, 0, 254, 16, 97, 42, 180, 0, 36, 28, 46]
abbrev dktX0_ahead_1 : List UInt8 := dkwX0_ahead_1 ++ dktX0_ahead_2
def dkwX0_ahead_0 : List UInt8 := [42, 27, 182, 0, 223, 153, 0, 11, 42, 28, 182, 0, 223, 154, 0, 5, 2, 172, 42, 187, 0, 251, 89]
abbrev dktX0_ahead_0 : List UInt8 := dkwX0_ahead_0 ++ dktX0_ahead_1
theorem dksX0_ahead_0 : cX0_ahead.data.toList.drop 0 = dktX0_ahead_0 := by decide +kernel
theorem dksX0_ahead_1 : cX0_ahead.data.toList.drop 23 = dktX0_ahead_1 := dk_seg dksX0_ahead_0 23 rfl rfl
theorem dksX0_ahead_2 : cX0_ahead.data.toList.drop 47 = dktX0_ahead_2 := dk_seg dksX0_ahead_1 24 rfl rfl
theorem dX0_ahead_0 : decode cX0_ahead 0 = .ok (.aload_n 0, 1) := dk_42 (dk_at dksX0_ahead_0 0 rfl rfl)
theorem dX0_ahead_1 : decode cX0_ahead 1 = .ok (.iload_n 1, 1) := dk_27 (dk_at dksX0_ahead_0 1 rfl rfl)
theorem dX0_ahead_2 : decode cX0_ahead 2 = .ok (.invokevirtual 223, 3) := dk_182 0 223 (dk_at dksX0_ahead_0 2 rfl rfl)
theorem dX0_ahead_5 : decode cX0_ahead 5 = .ok (.ifCond .eq 11, 3) := dk_153 0 11 (dk_at dksX0_ahead_0 5 rfl rfl)
theorem dX0_ahead_8 : decode cX0_ahead 8 = .ok (.aload_n 0, 1) := dk_42 (dk_at dksX0_ahead_0 8 rfl rfl)
theorem dX0_ahead_9 : decode cX0_ahead 9 = .ok (.iload_n 2, 1) := dk_28 (dk_at dksX0_ahead_0 9 rfl rfl)
theorem dX0_ahead_10 : decode cX0_ahead 10 = .ok (.invokevirtual 223, 3) := dk_182 0 223 (dk_at dksX0_ahead_0 10 rfl rfl)
theorem dX0_ahead_13 : decode cX0_ahead 13 = .ok (.ifCond .ne 5, 3) := dk_154 0 5 (dk_at dksX0_ahead_0 13 rfl rfl)
theorem dX0_ahead_16 : decode cX0_ahead 16 = .ok (.iconst (-1), 1) := dk_2 (dk_at dksX0_ahead_0 16 rfl rfl)
theorem dX0_ahead_17 : decode cX0_ahead 17 = .ok (.ireturn, 1) := dk_172 (dk_at dksX0_ahead_0 17 rfl rfl)
theorem dX0_ahead_18 : decode cX0_ahead 18 = .ok (.aload_n 0, 1) := dk_42 (dk_at dksX0_ahead_0 18 rfl rfl)
theorem dX0_ahead_19 : decode cX0_ahead 19 = .ok (.new 251, 3) := dk_187 0 251 (dk_at dksX0_ahead_0 19 rfl rfl)
theorem dX0_ahead_22 : decode cX0_ahead 22 = .ok (.dup, 1) := dk_89 (dk_at dksX0_ahead_0 22 rfl rfl)
theorem dX0_ahead_23 : decode cX0_ahead 23 = .ok (.invokespecial 253, 3) := dk_183 0 253 (dk_at dksX0_ahead_1 0 rfl rfl)
theorem dX0_ahead_26 : decode cX0_ahead 26 = .ok (.bipush 97, 2) := dk_16 97 (dk_at dksX0_ahead_1 3 rfl rfl)
theorem dX0_ahead_28 : decode cX0_ahead 28 = .ok (.aload_n 0, 1) := dk_42 (dk_at dksX0_ahead_1 5 rfl rfl)
theorem dX0_ahead_29 : decode cX0_ahead 29 = .ok (.getfield 36, 3) := dk_180 0 36 (dk_at dksX0_ahead_1 6 rfl rfl)
theorem dX0_ahead_32 : decode cX0_ahead 32 = .ok (.iload_n 1, 1) := dk_27 (dk_at dksX0_ahead_1 9 rfl rfl)
theorem dX0_ahead_33 : decode cX0_ahead 33 = .ok (.iaload, 1) := dk_46 (dk_at dksX0_ahead_1 10 rfl rfl)
theorem dX0_ahead_34 : decode cX0_ahead 34 = .ok (.iadd, 1) := dk_96 (dk_at dksX0_ahead_1 11 rfl rfl)
theorem dX0_ahead_35 : decode cX0_ahead 35 = .ok (.i2c, 1) := dk_146 (dk_at dksX0_ahead_1 12 rfl rfl)
theorem dX0_ahead_36 : decode cX0_ahead 36 = .ok (.invokevirtual 254, 3) := dk_182 0 254 (dk_at dksX0_ahead_1 13 rfl rfl)
theorem dX0_ahead_39 : decode cX0_ahead 39 = .ok (.bipush 97, 2) := dk_16 97 (dk_at dksX0_ahead_1 16 rfl rfl)
theorem dX0_ahead_41 : decode cX0_ahead 41 = .ok (.aload_n 0, 1) := dk_42 (dk_at dksX0_ahead_1 18 rfl rfl)
theorem dX0_ahead_42 : decode cX0_ahead 42 = .ok (.getfield 36, 3) := dk_180 0 36 (dk_at dksX0_ahead_1 19 rfl rfl)
theorem dX0_ahead_45 : decode cX0_ahead 45 = .ok (.iload_n 2, 1) := dk_28 (dk_at dksX0_ahead_1 22 rfl rfl)
theorem dX0_ahead_46 : decode cX0_ahead 46 = .ok (.iaload, 1) := dk_46 (dk_at dksX0_ahead_1 23 rfl rfl)
theorem dX0_ahead_47 : decode cX0_ahead 47 = .ok (.iadd, 1) := dk_96 (dk_at dksX0_ahead_2 0 rfl rfl)
theorem dX0_ahead_48 : decode cX0_ahead 48 = .ok (.i2c, 1) := dk_146 (dk_at dksX0_ahead_2 1 rfl rfl)
theorem dX0_ahead_49 : decode cX0_ahead 49 = .ok (.invokevirtual 254, 3) := dk_182 0 254 (dk_at dksX0_ahead_2 2 rfl rfl)
theorem dX0_ahead_52 : decode cX0_ahead 52 = .ok (.invokevirtual 467, 3) := dk_182 1 211 (dk_at dksX0_ahead_2 5 rfl rfl)
theorem dX0_ahead_55 : decode cX0_ahead 55 = .ok (.ireturn, 1) := dk_172 (dk_at dksX0_ahead_2 8 rfl rfl)
def dkwX0_stem_7 : List UInt8 := [29, 167, 0, 4, 2, 172]
abbrev dktX0_stem_7 : List UInt8 := dkwX0_stem_7 ++ []
def dkwX0_stem_6 : List UInt8 := [6, 100, 182, 1, 41, 16, 97, 100, 167, 0, 4, 2, 172, 132, 3, 1, 167, 255, 136, 27, 2, 160, 0, 7]
abbrev dktX0_stem_6 : List UInt8 := dkwX0_stem_6 ++ dktX0_stem_7
def dkwX0_stem_5 : List UInt8 := [182, 1, 6, 172, 28, 6, 100, 25, 5, 180, 1, 231, 182, 1, 6, 162, 0, 20, 25, 5, 180, 1, 231, 28]
abbrev dktX0_stem_5 : List UInt8 := dkwX0_stem_5 ++ dktX0_stem_6
def dkwX0_stem_4 : List UInt8 := [184, 0, 162, 167, 0, 24, 28, 4, 160, 0, 11, 25, 5, 180, 1, 224, 167, 0, 11, 25, 5, 180, 1, 231]
abbrev dktX0_stem_4 : List UInt8 := dkwX0_stem_4 ++ dktX0_stem_5
def dkwX0_stem_3 : List UInt8 := [167, 255, 222, 29, 27, 160, 0, 78, 28, 6, 162, 0, 40, 28, 154, 0, 14, 25, 5, 180, 1, 224]
abbrev dktX0_stem_3 : List UInt8 := dkwX0_stem_3 ++ dktX0_stem_4
def dkwX0_stem_2 : List UInt8 := [25, 4, 185, 1, 110, 1, 0, 192, 1, 221, 58, 5, 25, 5, 180, 1, 224, 184, 0, 162, 5, 162, 0, 6]
abbrev dktX0_stem_2 : List UInt8 := dkwX0_stem_2 ++ dktX0_stem_3
def dkwX0_stem_1 : List UInt8 := [182, 1, 227, 182, 1, 94, 185, 1, 98, 1, 0, 58, 4, 25, 4, 185, 1, 104, 1, 0, 153, 0, 116]
abbrev dktX0_stem_1 : List UInt8 := dkwX0_stem_1 ++ dktX0_stem_2
def dkwX0_stem_0 : List UInt8 := [27, 2, 159, 0, 17, 28, 133, 9, 20, 1, 200, 184, 0, 110, 154, 0, 5, 2, 172, 3, 62, 42]
abbrev dktX0_stem_0 : List UInt8 := dkwX0_stem_0 ++ dktX0_stem_1
theorem dksX0_stem_0 : cX0_stem.data.toList.drop 0 = dktX0_stem_0 := by decide +kernel
theorem dksX0_stem_1 : cX0_stem.data.toList.drop 22 = dktX0_stem_1 := dk_seg dksX0_stem_0 22 rfl rfl
theorem dksX0_stem_2 : cX0_stem.data.toList.drop 45 = dktX0_stem_2 := dk_seg dksX0_stem_1 23 rfl rfl
theorem dksX0_stem_3 : cX0_stem.data.toList.drop 69 = dktX0_stem_3 := dk_seg dksX0_stem_2 24 rfl rfl
theorem dksX0_stem_4 : cX0_stem.data.toList.drop 91 = dktX0_stem_4 := dk_seg dksX0_stem_3 22 rfl rfl
theorem dksX0_stem_5 : cX0_stem.data.toList.drop 115 = dktX0_stem_5 := dk_seg dksX0_stem_4 24 rfl rfl
theorem dksX0_stem_6 : cX0_stem.data.toList.drop 139 = dktX0_stem_6 := dk_seg dksX0_stem_5 24 rfl rfl
theorem dksX0_stem_7 : cX0_stem.data.toList.drop 163 = dktX0_stem_7 := dk_seg dksX0_stem_6 24 rfl rfl
theorem dX0_stem_0 : decode cX0_stem 0 = .ok (.iload_n 1, 1) := dk_27 (dk_at dksX0_stem_0 0 rfl rfl)
theorem dX0_stem_1 : decode cX0_stem 1 = .ok (.iconst (-1), 1) := dk_2 (dk_at dksX0_stem_0 1 rfl rfl)
theorem dX0_stem_2 : decode cX0_stem 2 = .ok (.if_icmp .eq 17, 3) := dk_159 0 17 (dk_at dksX0_stem_0 2 rfl rfl)
theorem dX0_stem_5 : decode cX0_stem 5 = .ok (.iload_n 2, 1) := dk_28 (dk_at dksX0_stem_0 5 rfl rfl)
theorem dX0_stem_6 : decode cX0_stem 6 = .ok (.i2l, 1) := dk_133 (dk_at dksX0_stem_0 6 rfl rfl)
theorem dX0_stem_7 : decode cX0_stem 7 = .ok (.lconst 0, 1) := dk_9 (dk_at dksX0_stem_0 7 rfl rfl)
theorem dX0_stem_8 : decode cX0_stem 8 = .ok (.ldc2_w 456, 3) := dk_20 1 200 (dk_at dksX0_stem_0 8 rfl rfl)
theorem dX0_stem_11 : decode cX0_stem 11 = .ok (.invokestatic 110, 3) := dk_184 0 110 (dk_at dksX0_stem_0 11 rfl rfl)
theorem dX0_stem_14 : decode cX0_stem 14 = .ok (.ifCond .ne 5, 3) := dk_154 0 5 (dk_at dksX0_stem_0 14 rfl rfl)
theorem dX0_stem_17 : decode cX0_stem 17 = .ok (.iconst (-1), 1) := dk_2 (dk_at dksX0_stem_0 17 rfl rfl)
theorem dX0_stem_18 : decode cX0_stem 18 = .ok (.ireturn, 1) := dk_172 (dk_at dksX0_stem_0 18 rfl rfl)
theorem dX0_stem_19 : decode cX0_stem 19 = .ok (.iconst 0, 1) := dk_3 (dk_at dksX0_stem_0 19 rfl rfl)
theorem dX0_stem_20 : decode cX0_stem 20 = .ok (.istore_n 3, 1) := dk_62 (dk_at dksX0_stem_0 20 rfl rfl)
theorem dX0_stem_21 : decode cX0_stem 21 = .ok (.aload_n 0, 1) := dk_42 (dk_at dksX0_stem_0 21 rfl rfl)
theorem dX0_stem_22 : decode cX0_stem 22 = .ok (.invokevirtual 483, 3) := dk_182 1 227 (dk_at dksX0_stem_1 0 rfl rfl)
theorem dX0_stem_25 : decode cX0_stem 25 = .ok (.invokevirtual 350, 3) := dk_182 1 94 (dk_at dksX0_stem_1 3 rfl rfl)
theorem dX0_stem_28 : decode cX0_stem 28 = .ok (.invokeinterface 354 1, 5) := by decide +kernel
theorem dX0_stem_33 : decode cX0_stem 33 = .ok (.astore 4, 2) := dk_58 4 (dk_at dksX0_stem_1 11 rfl rfl)
theorem dX0_stem_35 : decode cX0_stem 35 = .ok (.aload 4, 2) := dk_25 4 (dk_at dksX0_stem_1 13 rfl rfl)
theorem dX0_stem_37 : decode cX0_stem 37 = .ok (.invokeinterface 360 1, 5) := by decide +kernel
theorem dX0_stem_42 : decode cX0_stem 42 = .ok (.ifCond .eq 116, 3) := dk_153 0 116 (dk_at dksX0_stem_1 20 rfl rfl)
theorem dX0_stem_45 : decode cX0_stem 45 = .ok (.aload 4, 2) := dk_25 4 (dk_at dksX0_stem_2 0 rfl rfl)
theorem dX0_stem_47 : decode cX0_stem 47 = .ok (.invokeinterface 366 1, 5) := by decide +kernel
theorem dX0_stem_52 : decode cX0_stem 52 = .ok (.checkcast 477, 3) := dk_192 1 221 (dk_at dksX0_stem_2 7 rfl rfl)
theorem dX0_stem_55 : decode cX0_stem 55 = .ok (.astore 5, 2) := dk_58 5 (dk_at dksX0_stem_2 10 rfl rfl)
theorem dX0_stem_57 : decode cX0_stem 57 = .ok (.aload 5, 2) := dk_25 5 (dk_at dksX0_stem_2 12 rfl rfl)
theorem dX0_stem_59 : decode cX0_stem 59 = .ok (.getfield 480, 3) := dk_180 1 224 (dk_at dksX0_stem_2 14 rfl rfl)
theorem dX0_stem_62 : decode cX0_stem 62 = .ok (.invokestatic 162, 3) := dk_184 0 162 (dk_at dksX0_stem_2 17 rfl rfl)
theorem dX0_stem_65 : decode cX0_stem 65 = .ok (.iconst 2, 1) := dk_5 (dk_at dksX0_stem_2 20 rfl rfl)
theorem dX0_stem_66 : decode cX0_stem 66 = .ok (.if_icmp .ge 6, 3) := dk_162 0 6 (dk_at dksX0_stem_2 21 rfl rfl)
theorem dX0_stem_69 : decode cX0_stem 69 = .ok (.goto (-34), 3) := dk_167 255 222 (dk_at dksX0_stem_3 0 rfl rfl)
theorem dX0_stem_72 : decode cX0_stem 72 = .ok (.iload_n 3, 1) := dk_29 (dk_at dksX0_stem_3 3 rfl rfl)
theorem dX0_stem_73 : decode cX0_stem 73 = .ok (.iload_n 1, 1) := dk_27 (dk_at dksX0_stem_3 4 rfl rfl)
theorem dX0_stem_74 : decode cX0_stem 74 = .ok (.if_icmp .ne 78, 3) := dk_160 0 78 (dk_at dksX0_stem_3 5 rfl rfl)
theorem dX0_stem_77 : decode cX0_stem 77 = .ok (.iload_n 2, 1) := dk_28 (dk_at dksX0_stem_3 8 rfl rfl)
theorem dX0_stem_78 : decode cX0_stem 78 = .ok (.iconst 3, 1) := dk_6 (dk_at dksX0_stem_3 9 rfl rfl)
theorem dX0_stem_79 : decode cX0_stem 79 = .ok (.if_icmp .ge 40, 3) := dk_162 0 40 (dk_at dksX0_stem_3 10 rfl rfl)
theorem dX0_stem_82 : decode cX0_stem 82 = .ok (.iload_n 2, 1) := dk_28 (dk_at dksX0_stem_3 13 rfl rfl)
theorem dX0_stem_83 : decode cX0_stem 83 = .ok (.ifCond .ne 14, 3) := dk_154 0 14 (dk_at dksX0_stem_3 14 rfl rfl)
theorem dX0_stem_86 : decode cX0_stem 86 = .ok (.aload 5, 2) := dk_25 5 (dk_at dksX0_stem_3 17 rfl rfl)
theorem dX0_stem_88 : decode cX0_stem 88 = .ok (.getfield 480, 3) := dk_180 1 224 (dk_at dksX0_stem_3 19 rfl rfl)
theorem dX0_stem_91 : decode cX0_stem 91 = .ok (.invokestatic 162, 3) := dk_184 0 162 (dk_at dksX0_stem_4 0 rfl rfl)
theorem dX0_stem_94 : decode cX0_stem 94 = .ok (.goto 24, 3) := dk_167 0 24 (dk_at dksX0_stem_4 3 rfl rfl)
theorem dX0_stem_97 : decode cX0_stem 97 = .ok (.iload_n 2, 1) := dk_28 (dk_at dksX0_stem_4 6 rfl rfl)
theorem dX0_stem_98 : decode cX0_stem 98 = .ok (.iconst 1, 1) := dk_4 (dk_at dksX0_stem_4 7 rfl rfl)
theorem dX0_stem_99 : decode cX0_stem 99 = .ok (.if_icmp .ne 11, 3) := dk_160 0 11 (dk_at dksX0_stem_4 8 rfl rfl)
theorem dX0_stem_102 : decode cX0_stem 102 = .ok (.aload 5, 2) := dk_25 5 (dk_at dksX0_stem_4 11 rfl rfl)
theorem dX0_stem_104 : decode cX0_stem 104 = .ok (.getfield 480, 3) := dk_180 1 224 (dk_at dksX0_stem_4 13 rfl rfl)
theorem dX0_stem_107 : decode cX0_stem 107 = .ok (.goto 11, 3) := dk_167 0 11 (dk_at dksX0_stem_4 16 rfl rfl)
theorem dX0_stem_110 : decode cX0_stem 110 = .ok (.aload 5, 2) := dk_25 5 (dk_at dksX0_stem_4 19 rfl rfl)
theorem dX0_stem_112 : decode cX0_stem 112 = .ok (.getfield 487, 3) := dk_180 1 231 (dk_at dksX0_stem_4 21 rfl rfl)
theorem dX0_stem_115 : decode cX0_stem 115 = .ok (.invokevirtual 262, 3) := dk_182 1 6 (dk_at dksX0_stem_5 0 rfl rfl)
theorem dX0_stem_118 : decode cX0_stem 118 = .ok (.ireturn, 1) := dk_172 (dk_at dksX0_stem_5 3 rfl rfl)
theorem dX0_stem_119 : decode cX0_stem 119 = .ok (.iload_n 2, 1) := dk_28 (dk_at dksX0_stem_5 4 rfl rfl)
theorem dX0_stem_120 : decode cX0_stem 120 = .ok (.iconst 3, 1) := dk_6 (dk_at dksX0_stem_5 5 rfl rfl)
theorem dX0_stem_121 : decode cX0_stem 121 = .ok (.isub, 1) := dk_100 (dk_at dksX0_stem_5 6 rfl rfl)
theorem dX0_stem_122 : decode cX0_stem 122 = .ok (.aload 5, 2) := dk_25 5 (dk_at dksX0_stem_5 7 rfl rfl)
theorem dX0_stem_124 : decode cX0_stem 124 = .ok (.getfield 487, 3) := dk_180 1 231 (dk_at dksX0_stem_5 9 rfl rfl)
theorem dX0_stem_127 : decode cX0_stem 127 = .ok (.invokevirtual 262, 3) := dk_182 1 6 (dk_at dksX0_stem_5 12 rfl rfl)
theorem dX0_stem_130 : decode cX0_stem 130 = .ok (.if_icmp .ge 20, 3) := dk_162 0 20 (dk_at dksX0_stem_5 15 rfl rfl)
theorem dX0_stem_133 : decode cX0_stem 133 = .ok (.aload 5, 2) := dk_25 5 (dk_at dksX0_stem_5 18 rfl rfl)
theorem dX0_stem_135 : decode cX0_stem 135 = .ok (.getfield 487, 3) := dk_180 1 231 (dk_at dksX0_stem_5 20 rfl rfl)
theorem dX0_stem_138 : decode cX0_stem 138 = .ok (.iload_n 2, 1) := dk_28 (dk_at dksX0_stem_5 23 rfl rfl)
theorem dX0_stem_139 : decode cX0_stem 139 = .ok (.iconst 3, 1) := dk_6 (dk_at dksX0_stem_6 0 rfl rfl)
theorem dX0_stem_140 : decode cX0_stem 140 = .ok (.isub, 1) := dk_100 (dk_at dksX0_stem_6 1 rfl rfl)
theorem dX0_stem_141 : decode cX0_stem 141 = .ok (.invokevirtual 297, 3) := dk_182 1 41 (dk_at dksX0_stem_6 2 rfl rfl)
theorem dX0_stem_144 : decode cX0_stem 144 = .ok (.bipush 97, 2) := dk_16 97 (dk_at dksX0_stem_6 5 rfl rfl)
theorem dX0_stem_146 : decode cX0_stem 146 = .ok (.isub, 1) := dk_100 (dk_at dksX0_stem_6 7 rfl rfl)
theorem dX0_stem_147 : decode cX0_stem 147 = .ok (.goto 4, 3) := dk_167 0 4 (dk_at dksX0_stem_6 8 rfl rfl)
theorem dX0_stem_150 : decode cX0_stem 150 = .ok (.iconst (-1), 1) := dk_2 (dk_at dksX0_stem_6 11 rfl rfl)
theorem dX0_stem_151 : decode cX0_stem 151 = .ok (.ireturn, 1) := dk_172 (dk_at dksX0_stem_6 12 rfl rfl)
theorem dX0_stem_152 : decode cX0_stem 152 = .ok (.iinc 3 1, 3) := dk_132 3 1 (dk_at dksX0_stem_6 13 rfl rfl)
theorem dX0_stem_155 : decode cX0_stem 155 = .ok (.goto (-120), 3) := dk_167 255 136 (dk_at dksX0_stem_6 16 rfl rfl)
theorem dX0_stem_158 : decode cX0_stem 158 = .ok (.iload_n 1, 1) := dk_27 (dk_at dksX0_stem_6 19 rfl rfl)
theorem dX0_stem_159 : decode cX0_stem 159 = .ok (.iconst (-1), 1) := dk_2 (dk_at dksX0_stem_6 20 rfl rfl)
theorem dX0_stem_160 : decode cX0_stem 160 = .ok (.if_icmp .ne 7, 3) := dk_160 0 7 (dk_at dksX0_stem_6 21 rfl rfl)
theorem dX0_stem_163 : decode cX0_stem 163 = .ok (.iload_n 3, 1) := dk_29 (dk_at dksX0_stem_7 0 rfl rfl)
theorem dX0_stem_164 : decode cX0_stem 164 = .ok (.goto 4, 3) := dk_167 0 4 (dk_at dksX0_stem_7 1 rfl rfl)
theorem dX0_stem_167 : decode cX0_stem 167 = .ok (.iconst (-1), 1) := dk_2 (dk_at dksX0_stem_7 4 rfl rfl)
theorem dX0_stem_168 : decode cX0_stem 168 = .ok (.ireturn, 1) := dk_172 (dk_at dksX0_stem_7 5 rfl rfl)
def dkwX0_stemsNow_5 : List UInt8 := [181, 1, 224, 132, 4, 1, 167, 255, 156, 43, 176]
abbrev dktX0_stemsNow_5 : List UInt8 := dkwX0_stemsNow_5 ++ []
def dkwX0_stemsNow_4 : List UInt8 := [25, 7, 182, 1, 26, 192, 1, 221, 89, 180, 1, 224, 4, 25, 5, 21, 6, 182, 1, 118, 120, 128]
abbrev dktX0_stemsNow_4 : List UInt8 := dkwX0_stemsNow_4 ++ dktX0_stemsNow_5
def dkwX0_stemsNow_3 : List UInt8 := [182, 1, 16, 154, 0, 19, 43, 25, 7, 187, 1, 221, 89, 25, 7, 183, 1, 223, 182, 1, 22, 87, 43]
abbrev dktX0_stemsNow_3 : List UInt8 := dkwX0_stemsNow_3 ++ dktX0_stemsNow_4
def dkwX0_stemsNow_2 : List UInt8 := [162, 0, 6, 167, 0, 67, 25, 5, 180, 1, 115, 3, 21, 6, 182, 1, 12, 58, 7, 43, 25, 7]
abbrev dktX0_stemsNow_2 : List UInt8 := dkwX0_stemsNow_2 ++ dktX0_stemsNow_3
def dkwX0_stemsNow_1 : List UInt8 := [162, 0, 100, 44, 21, 4, 50, 58, 5, 25, 5, 180, 1, 115, 182, 1, 6, 4, 100, 54, 6, 21, 6, 5]
abbrev dktX0_stemsNow_1 : List UInt8 := dkwX0_stemsNow_1 ++ dktX0_stemsNow_2
def dkwX0_stemsNow_0 : List UInt8 := [187, 0, 53, 89, 183, 0, 55, 76, 42, 180, 0, 65, 77, 44, 190, 62, 3, 54, 4, 21, 4, 29]
abbrev dktX0_stemsNow_0 : List UInt8 := dkwX0_stemsNow_0 ++ dktX0_stemsNow_1
theorem dksX0_stemsNow_0 : cX0_stemsNow.data.toList.drop 0 = dktX0_stemsNow_0 := by decide +kernel
theorem dksX0_stemsNow_1 : cX0_stemsNow.data.toList.drop 22 = dktX0_stemsNow_1 := dk_seg dksX0_stemsNow_0 22 rfl rfl
theorem dksX0_stemsNow_2 : cX0_stemsNow.data.toList.drop 46 = dktX0_stemsNow_2 := dk_seg dksX0_stemsNow_1 24 rfl rfl
theorem dksX0_stemsNow_3 : cX0_stemsNow.data.toList.drop 68 = dktX0_stemsNow_3 := dk_seg dksX0_stemsNow_2 22 rfl rfl
theorem dksX0_stemsNow_4 : cX0_stemsNow.data.toList.drop 91 = dktX0_stemsNow_4 := dk_seg dksX0_stemsNow_3 23 rfl rfl
theorem dksX0_stemsNow_5 : cX0_stemsNow.data.toList.drop 113 = dktX0_stemsNow_5 := dk_seg dksX0_stemsNow_4 22 rfl rfl
theorem dX0_stemsNow_0 : decode cX0_stemsNow 0 = .ok (.new 53, 3) := dk_187 0 53 (dk_at dksX0_stemsNow_0 0 rfl rfl)
theorem dX0_stemsNow_3 : decode cX0_stemsNow 3 = .ok (.dup, 1) := dk_89 (dk_at dksX0_stemsNow_0 3 rfl rfl)
theorem dX0_stemsNow_4 : decode cX0_stemsNow 4 = .ok (.invokespecial 55, 3) := dk_183 0 55 (dk_at dksX0_stemsNow_0 4 rfl rfl)
theorem dX0_stemsNow_7 : decode cX0_stemsNow 7 = .ok (.astore_n 1, 1) := dk_76 (dk_at dksX0_stemsNow_0 7 rfl rfl)
theorem dX0_stemsNow_8 : decode cX0_stemsNow 8 = .ok (.aload_n 0, 1) := dk_42 (dk_at dksX0_stemsNow_0 8 rfl rfl)
theorem dX0_stemsNow_9 : decode cX0_stemsNow 9 = .ok (.getfield 65, 3) := dk_180 0 65 (dk_at dksX0_stemsNow_0 9 rfl rfl)
theorem dX0_stemsNow_12 : decode cX0_stemsNow 12 = .ok (.astore_n 2, 1) := dk_77 (dk_at dksX0_stemsNow_0 12 rfl rfl)
theorem dX0_stemsNow_13 : decode cX0_stemsNow 13 = .ok (.aload_n 2, 1) := dk_44 (dk_at dksX0_stemsNow_0 13 rfl rfl)
theorem dX0_stemsNow_14 : decode cX0_stemsNow 14 = .ok (.arraylength, 1) := dk_190 (dk_at dksX0_stemsNow_0 14 rfl rfl)
theorem dX0_stemsNow_15 : decode cX0_stemsNow 15 = .ok (.istore_n 3, 1) := dk_62 (dk_at dksX0_stemsNow_0 15 rfl rfl)
theorem dX0_stemsNow_16 : decode cX0_stemsNow 16 = .ok (.iconst 0, 1) := dk_3 (dk_at dksX0_stemsNow_0 16 rfl rfl)
theorem dX0_stemsNow_17 : decode cX0_stemsNow 17 = .ok (.istore 4, 2) := dk_54 4 (dk_at dksX0_stemsNow_0 17 rfl rfl)
theorem dX0_stemsNow_19 : decode cX0_stemsNow 19 = .ok (.iload 4, 2) := dk_21 4 (dk_at dksX0_stemsNow_0 19 rfl rfl)
theorem dX0_stemsNow_21 : decode cX0_stemsNow 21 = .ok (.iload_n 3, 1) := dk_29 (dk_at dksX0_stemsNow_0 21 rfl rfl)
theorem dX0_stemsNow_22 : decode cX0_stemsNow 22 = .ok (.if_icmp .ge 100, 3) := dk_162 0 100 (dk_at dksX0_stemsNow_1 0 rfl rfl)
theorem dX0_stemsNow_25 : decode cX0_stemsNow 25 = .ok (.aload_n 2, 1) := dk_44 (dk_at dksX0_stemsNow_1 3 rfl rfl)
theorem dX0_stemsNow_26 : decode cX0_stemsNow 26 = .ok (.iload 4, 2) := dk_21 4 (dk_at dksX0_stemsNow_1 4 rfl rfl)
theorem dX0_stemsNow_28 : decode cX0_stemsNow 28 = .ok (.aaload, 1) := dk_50 (dk_at dksX0_stemsNow_1 6 rfl rfl)
theorem dX0_stemsNow_29 : decode cX0_stemsNow 29 = .ok (.astore 5, 2) := dk_58 5 (dk_at dksX0_stemsNow_1 7 rfl rfl)
theorem dX0_stemsNow_31 : decode cX0_stemsNow 31 = .ok (.aload 5, 2) := dk_25 5 (dk_at dksX0_stemsNow_1 9 rfl rfl)
theorem dX0_stemsNow_33 : decode cX0_stemsNow 33 = .ok (.getfield 371, 3) := dk_180 1 115 (dk_at dksX0_stemsNow_1 11 rfl rfl)
theorem dX0_stemsNow_36 : decode cX0_stemsNow 36 = .ok (.invokevirtual 262, 3) := dk_182 1 6 (dk_at dksX0_stemsNow_1 14 rfl rfl)
theorem dX0_stemsNow_39 : decode cX0_stemsNow 39 = .ok (.iconst 1, 1) := dk_4 (dk_at dksX0_stemsNow_1 17 rfl rfl)
theorem dX0_stemsNow_40 : decode cX0_stemsNow 40 = .ok (.isub, 1) := dk_100 (dk_at dksX0_stemsNow_1 18 rfl rfl)
theorem dX0_stemsNow_41 : decode cX0_stemsNow 41 = .ok (.istore 6, 2) := dk_54 6 (dk_at dksX0_stemsNow_1 19 rfl rfl)
theorem dX0_stemsNow_43 : decode cX0_stemsNow 43 = .ok (.iload 6, 2) := dk_21 6 (dk_at dksX0_stemsNow_1 21 rfl rfl)
theorem dX0_stemsNow_45 : decode cX0_stemsNow 45 = .ok (.iconst 2, 1) := dk_5 (dk_at dksX0_stemsNow_1 23 rfl rfl)
theorem dX0_stemsNow_46 : decode cX0_stemsNow 46 = .ok (.if_icmp .ge 6, 3) := dk_162 0 6 (dk_at dksX0_stemsNow_2 0 rfl rfl)
theorem dX0_stemsNow_49 : decode cX0_stemsNow 49 = .ok (.goto 67, 3) := dk_167 0 67 (dk_at dksX0_stemsNow_2 3 rfl rfl)
theorem dX0_stemsNow_52 : decode cX0_stemsNow 52 = .ok (.aload 5, 2) := dk_25 5 (dk_at dksX0_stemsNow_2 6 rfl rfl)
theorem dX0_stemsNow_54 : decode cX0_stemsNow 54 = .ok (.getfield 371, 3) := dk_180 1 115 (dk_at dksX0_stemsNow_2 8 rfl rfl)
theorem dX0_stemsNow_57 : decode cX0_stemsNow 57 = .ok (.iconst 0, 1) := dk_3 (dk_at dksX0_stemsNow_2 11 rfl rfl)
theorem dX0_stemsNow_58 : decode cX0_stemsNow 58 = .ok (.iload 6, 2) := dk_21 6 (dk_at dksX0_stemsNow_2 12 rfl rfl)
theorem dX0_stemsNow_60 : decode cX0_stemsNow 60 = .ok (.invokevirtual 268, 3) := dk_182 1 12 (dk_at dksX0_stemsNow_2 14 rfl rfl)
theorem dX0_stemsNow_63 : decode cX0_stemsNow 63 = .ok (.astore 7, 2) := dk_58 7 (dk_at dksX0_stemsNow_2 17 rfl rfl)
theorem dX0_stemsNow_65 : decode cX0_stemsNow 65 = .ok (.aload_n 1, 1) := dk_43 (dk_at dksX0_stemsNow_2 19 rfl rfl)
theorem dX0_stemsNow_66 : decode cX0_stemsNow 66 = .ok (.aload 7, 2) := dk_25 7 (dk_at dksX0_stemsNow_2 20 rfl rfl)
theorem dX0_stemsNow_68 : decode cX0_stemsNow 68 = .ok (.invokevirtual 272, 3) := dk_182 1 16 (dk_at dksX0_stemsNow_3 0 rfl rfl)
theorem dX0_stemsNow_71 : decode cX0_stemsNow 71 = .ok (.ifCond .ne 19, 3) := dk_154 0 19 (dk_at dksX0_stemsNow_3 3 rfl rfl)
theorem dX0_stemsNow_74 : decode cX0_stemsNow 74 = .ok (.aload_n 1, 1) := dk_43 (dk_at dksX0_stemsNow_3 6 rfl rfl)
theorem dX0_stemsNow_75 : decode cX0_stemsNow 75 = .ok (.aload 7, 2) := dk_25 7 (dk_at dksX0_stemsNow_3 7 rfl rfl)
theorem dX0_stemsNow_77 : decode cX0_stemsNow 77 = .ok (.new 477, 3) := dk_187 1 221 (dk_at dksX0_stemsNow_3 9 rfl rfl)
theorem dX0_stemsNow_80 : decode cX0_stemsNow 80 = .ok (.dup, 1) := dk_89 (dk_at dksX0_stemsNow_3 12 rfl rfl)
theorem dX0_stemsNow_81 : decode cX0_stemsNow 81 = .ok (.aload 7, 2) := dk_25 7 (dk_at dksX0_stemsNow_3 13 rfl rfl)
theorem dX0_stemsNow_83 : decode cX0_stemsNow 83 = .ok (.invokespecial 479, 3) := dk_183 1 223 (dk_at dksX0_stemsNow_3 15 rfl rfl)
theorem dX0_stemsNow_86 : decode cX0_stemsNow 86 = .ok (.invokevirtual 278, 3) := dk_182 1 22 (dk_at dksX0_stemsNow_3 18 rfl rfl)
theorem dX0_stemsNow_89 : decode cX0_stemsNow 89 = .ok (.pop, 1) := dk_87 (dk_at dksX0_stemsNow_3 21 rfl rfl)
theorem dX0_stemsNow_90 : decode cX0_stemsNow 90 = .ok (.aload_n 1, 1) := dk_43 (dk_at dksX0_stemsNow_3 22 rfl rfl)
theorem dX0_stemsNow_91 : decode cX0_stemsNow 91 = .ok (.aload 7, 2) := dk_25 7 (dk_at dksX0_stemsNow_4 0 rfl rfl)
theorem dX0_stemsNow_93 : decode cX0_stemsNow 93 = .ok (.invokevirtual 282, 3) := dk_182 1 26 (dk_at dksX0_stemsNow_4 2 rfl rfl)
theorem dX0_stemsNow_96 : decode cX0_stemsNow 96 = .ok (.checkcast 477, 3) := dk_192 1 221 (dk_at dksX0_stemsNow_4 5 rfl rfl)
theorem dX0_stemsNow_99 : decode cX0_stemsNow 99 = .ok (.dup, 1) := dk_89 (dk_at dksX0_stemsNow_4 8 rfl rfl)
theorem dX0_stemsNow_100 : decode cX0_stemsNow 100 = .ok (.getfield 480, 3) := dk_180 1 224 (dk_at dksX0_stemsNow_4 9 rfl rfl)
theorem dX0_stemsNow_103 : decode cX0_stemsNow 103 = .ok (.iconst 1, 1) := dk_4 (dk_at dksX0_stemsNow_4 12 rfl rfl)
theorem dX0_stemsNow_104 : decode cX0_stemsNow 104 = .ok (.aload 5, 2) := dk_25 5 (dk_at dksX0_stemsNow_4 13 rfl rfl)
theorem dX0_stemsNow_106 : decode cX0_stemsNow 106 = .ok (.iload 6, 2) := dk_21 6 (dk_at dksX0_stemsNow_4 15 rfl rfl)
theorem dX0_stemsNow_108 : decode cX0_stemsNow 108 = .ok (.invokevirtual 374, 3) := dk_182 1 118 (dk_at dksX0_stemsNow_4 17 rfl rfl)
theorem dX0_stemsNow_111 : decode cX0_stemsNow 111 = .ok (.ishl, 1) := dk_120 (dk_at dksX0_stemsNow_4 20 rfl rfl)
theorem dX0_stemsNow_112 : decode cX0_stemsNow 112 = .ok (.ior, 1) := dk_128 (dk_at dksX0_stemsNow_4 21 rfl rfl)
theorem dX0_stemsNow_113 : decode cX0_stemsNow 113 = .ok (.putfield 480, 3) := dk_181 1 224 (dk_at dksX0_stemsNow_5 0 rfl rfl)
theorem dX0_stemsNow_116 : decode cX0_stemsNow 116 = .ok (.iinc 4 1, 3) := dk_132 4 1 (dk_at dksX0_stemsNow_5 3 rfl rfl)
theorem dX0_stemsNow_119 : decode cX0_stemsNow 119 = .ok (.goto (-100), 3) := dk_167 255 156 (dk_at dksX0_stemsNow_5 6 rfl rfl)
theorem dX0_stemsNow_122 : decode cX0_stemsNow 122 = .ok (.aload_n 1, 1) := dk_43 (dk_at dksX0_stemsNow_5 9 rfl rfl)
theorem dX0_stemsNow_123 : decode cX0_stemsNow 123 = .ok (.areturn, 1) := dk_176 (dk_at dksX0_stemsNow_5 10 rfl rfl)
def dkwX0_clues_0 : List UInt8 := [42, 27, 153, 0, 10, 42, 180, 0, 72, 167, 0, 7, 42, 180, 0, 69, 182, 1, 232, 5, 108, 172]
abbrev dktX0_clues_0 : List UInt8 := dkwX0_clues_0 ++ []
theorem dksX0_clues_0 : cX0_clues.data.toList.drop 0 = dktX0_clues_0 := by decide +kernel
theorem dX0_clues_0 : decode cX0_clues 0 = .ok (.aload_n 0, 1) := dk_42 (dk_at dksX0_clues_0 0 rfl rfl)
theorem dX0_clues_1 : decode cX0_clues 1 = .ok (.iload_n 1, 1) := dk_27 (dk_at dksX0_clues_0 1 rfl rfl)
theorem dX0_clues_2 : decode cX0_clues 2 = .ok (.ifCond .eq 10, 3) := dk_153 0 10 (dk_at dksX0_clues_0 2 rfl rfl)
theorem dX0_clues_5 : decode cX0_clues 5 = .ok (.aload_n 0, 1) := dk_42 (dk_at dksX0_clues_0 5 rfl rfl)
theorem dX0_clues_6 : decode cX0_clues 6 = .ok (.getfield 72, 3) := dk_180 0 72 (dk_at dksX0_clues_0 6 rfl rfl)
theorem dX0_clues_9 : decode cX0_clues 9 = .ok (.goto 7, 3) := dk_167 0 7 (dk_at dksX0_clues_0 9 rfl rfl)
theorem dX0_clues_12 : decode cX0_clues 12 = .ok (.aload_n 0, 1) := dk_42 (dk_at dksX0_clues_0 12 rfl rfl)
theorem dX0_clues_13 : decode cX0_clues 13 = .ok (.getfield 69, 3) := dk_180 0 69 (dk_at dksX0_clues_0 13 rfl rfl)
theorem dX0_clues_16 : decode cX0_clues 16 = .ok (.invokevirtual 488, 3) := dk_182 1 232 (dk_at dksX0_clues_0 16 rfl rfl)
theorem dX0_clues_19 : decode cX0_clues 19 = .ok (.iconst 2, 1) := dk_5 (dk_at dksX0_clues_0 19 rfl rfl)
theorem dX0_clues_20 : decode cX0_clues 20 = .ok (.idiv, 1) := dk_108 (dk_at dksX0_clues_0 20 rfl rfl)
theorem dX0_clues_21 : decode cX0_clues 21 = .ok (.ireturn, 1) := dk_172 (dk_at dksX0_clues_0 21 rfl rfl)
def dkwX0_bitsOf_1 : List UInt8 := [167, 255, 238, 28, 172]
abbrev dktX0_bitsOf_1 : List UInt8 := dkwX0_bitsOf_1 ++ []
def dkwX0_bitsOf_0 : List UInt8 := [3, 61, 3, 62, 29, 16, 20, 162, 0, 18, 28, 43, 29, 46, 184, 0, 162, 96, 61, 132, 3, 1]
abbrev dktX0_bitsOf_0 : List UInt8 := dkwX0_bitsOf_0 ++ dktX0_bitsOf_1
theorem dksX0_bitsOf_0 : cX0_bitsOf.data.toList.drop 0 = dktX0_bitsOf_0 := by decide +kernel
theorem dksX0_bitsOf_1 : cX0_bitsOf.data.toList.drop 22 = dktX0_bitsOf_1 := dk_seg dksX0_bitsOf_0 22 rfl rfl
theorem dX0_bitsOf_0 : decode cX0_bitsOf 0 = .ok (.iconst 0, 1) := dk_3 (dk_at dksX0_bitsOf_0 0 rfl rfl)
theorem dX0_bitsOf_1 : decode cX0_bitsOf 1 = .ok (.istore_n 2, 1) := dk_61 (dk_at dksX0_bitsOf_0 1 rfl rfl)
theorem dX0_bitsOf_2 : decode cX0_bitsOf 2 = .ok (.iconst 0, 1) := dk_3 (dk_at dksX0_bitsOf_0 2 rfl rfl)
theorem dX0_bitsOf_3 : decode cX0_bitsOf 3 = .ok (.istore_n 3, 1) := dk_62 (dk_at dksX0_bitsOf_0 3 rfl rfl)
theorem dX0_bitsOf_4 : decode cX0_bitsOf 4 = .ok (.iload_n 3, 1) := dk_29 (dk_at dksX0_bitsOf_0 4 rfl rfl)
theorem dX0_bitsOf_5 : decode cX0_bitsOf 5 = .ok (.bipush 20, 2) := dk_16 20 (dk_at dksX0_bitsOf_0 5 rfl rfl)
theorem dX0_bitsOf_7 : decode cX0_bitsOf 7 = .ok (.if_icmp .ge 18, 3) := dk_162 0 18 (dk_at dksX0_bitsOf_0 7 rfl rfl)
theorem dX0_bitsOf_10 : decode cX0_bitsOf 10 = .ok (.iload_n 2, 1) := dk_28 (dk_at dksX0_bitsOf_0 10 rfl rfl)
theorem dX0_bitsOf_11 : decode cX0_bitsOf 11 = .ok (.aload_n 1, 1) := dk_43 (dk_at dksX0_bitsOf_0 11 rfl rfl)
theorem dX0_bitsOf_12 : decode cX0_bitsOf 12 = .ok (.iload_n 3, 1) := dk_29 (dk_at dksX0_bitsOf_0 12 rfl rfl)
theorem dX0_bitsOf_13 : decode cX0_bitsOf 13 = .ok (.iaload, 1) := dk_46 (dk_at dksX0_bitsOf_0 13 rfl rfl)
theorem dX0_bitsOf_14 : decode cX0_bitsOf 14 = .ok (.invokestatic 162, 3) := dk_184 0 162 (dk_at dksX0_bitsOf_0 14 rfl rfl)
theorem dX0_bitsOf_17 : decode cX0_bitsOf 17 = .ok (.iadd, 1) := dk_96 (dk_at dksX0_bitsOf_0 17 rfl rfl)
theorem dX0_bitsOf_18 : decode cX0_bitsOf 18 = .ok (.istore_n 2, 1) := dk_61 (dk_at dksX0_bitsOf_0 18 rfl rfl)
theorem dX0_bitsOf_19 : decode cX0_bitsOf 19 = .ok (.iinc 3 1, 3) := dk_132 3 1 (dk_at dksX0_bitsOf_0 19 rfl rfl)
theorem dX0_bitsOf_22 : decode cX0_bitsOf 22 = .ok (.goto (-18), 3) := dk_167 255 238 (dk_at dksX0_bitsOf_1 0 rfl rfl)
theorem dX0_bitsOf_25 : decode cX0_bitsOf 25 = .ok (.iload_n 2, 1) := dk_28 (dk_at dksX0_bitsOf_1 3 rfl rfl)
theorem dX0_bitsOf_26 : decode cX0_bitsOf 26 = .ok (.ireturn, 1) := dk_172 (dk_at dksX0_bitsOf_1 4 rfl rfl)
def dkwX0_place_1 : List UInt8 := [180, 0, 36, 27, 46, 46, 167, 0, 4, 2, 172]
abbrev dktX0_place_1 : List UInt8 := dkwX0_place_1 ++ []
def dkwX0_place_0 : List UInt8 := [42, 27, 182, 0, 223, 153, 0, 28, 28, 153, 0, 10, 42, 180, 0, 42, 167, 0, 7, 42, 180, 0, 39, 42]
abbrev dktX0_place_0 : List UInt8 := dkwX0_place_0 ++ dktX0_place_1
theorem dksX0_place_0 : cX0_place.data.toList.drop 0 = dktX0_place_0 := by decide +kernel
theorem dksX0_place_1 : cX0_place.data.toList.drop 24 = dktX0_place_1 := dk_seg dksX0_place_0 24 rfl rfl
theorem dX0_place_0 : decode cX0_place 0 = .ok (.aload_n 0, 1) := dk_42 (dk_at dksX0_place_0 0 rfl rfl)
theorem dX0_place_1 : decode cX0_place 1 = .ok (.iload_n 1, 1) := dk_27 (dk_at dksX0_place_0 1 rfl rfl)
theorem dX0_place_2 : decode cX0_place 2 = .ok (.invokevirtual 223, 3) := dk_182 0 223 (dk_at dksX0_place_0 2 rfl rfl)
theorem dX0_place_5 : decode cX0_place 5 = .ok (.ifCond .eq 28, 3) := dk_153 0 28 (dk_at dksX0_place_0 5 rfl rfl)
theorem dX0_place_8 : decode cX0_place 8 = .ok (.iload_n 2, 1) := dk_28 (dk_at dksX0_place_0 8 rfl rfl)
theorem dX0_place_9 : decode cX0_place 9 = .ok (.ifCond .eq 10, 3) := dk_153 0 10 (dk_at dksX0_place_0 9 rfl rfl)
theorem dX0_place_12 : decode cX0_place 12 = .ok (.aload_n 0, 1) := dk_42 (dk_at dksX0_place_0 12 rfl rfl)
theorem dX0_place_13 : decode cX0_place 13 = .ok (.getfield 42, 3) := dk_180 0 42 (dk_at dksX0_place_0 13 rfl rfl)
theorem dX0_place_16 : decode cX0_place 16 = .ok (.goto 7, 3) := dk_167 0 7 (dk_at dksX0_place_0 16 rfl rfl)
theorem dX0_place_19 : decode cX0_place 19 = .ok (.aload_n 0, 1) := dk_42 (dk_at dksX0_place_0 19 rfl rfl)
theorem dX0_place_20 : decode cX0_place 20 = .ok (.getfield 39, 3) := dk_180 0 39 (dk_at dksX0_place_0 20 rfl rfl)
theorem dX0_place_23 : decode cX0_place 23 = .ok (.aload_n 0, 1) := dk_42 (dk_at dksX0_place_0 23 rfl rfl)
theorem dX0_place_24 : decode cX0_place 24 = .ok (.getfield 36, 3) := dk_180 0 36 (dk_at dksX0_place_1 0 rfl rfl)
theorem dX0_place_27 : decode cX0_place 27 = .ok (.iload_n 1, 1) := dk_27 (dk_at dksX0_place_1 3 rfl rfl)
theorem dX0_place_28 : decode cX0_place 28 = .ok (.iaload, 1) := dk_46 (dk_at dksX0_place_1 4 rfl rfl)
theorem dX0_place_29 : decode cX0_place 29 = .ok (.iaload, 1) := dk_46 (dk_at dksX0_place_1 5 rfl rfl)
theorem dX0_place_30 : decode cX0_place 30 = .ok (.goto 4, 3) := dk_167 0 4 (dk_at dksX0_place_1 6 rfl rfl)
theorem dX0_place_33 : decode cX0_place 33 = .ok (.iconst (-1), 1) := dk_2 (dk_at dksX0_place_1 9 rfl rfl)
theorem dX0_place_34 : decode cX0_place 34 = .ok (.ireturn, 1) := dk_172 (dk_at dksX0_place_1 10 rfl rfl)
def dkwX0_clash_4 : List UInt8 := [167, 255, 193, 132, 2, 1, 167, 255, 172, 16, 254, 172]
abbrev dktX0_clash_4 : List UInt8 := dkwX0_clash_4 ++ []
def dkwX0_clash_3 : List UInt8 := [180, 0, 69, 28, 29, 184, 1, 241, 42, 180, 0, 72, 28, 29, 184, 1, 241, 96, 172, 132, 3, 1]
abbrev dktX0_clash_3 : List UInt8 := dkwX0_clash_3 ++ dktX0_clash_4
def dkwX0_clash_2 : List UInt8 := [154, 0, 6, 167, 0, 40, 27, 154, 0, 7, 28, 167, 0, 31, 27, 4, 160, 0, 7, 29, 167, 0, 22, 42]
abbrev dktX0_clash_2 : List UInt8 := dkwX0_clash_2 ++ dktX0_clash_3
def dkwX0_clash_1 : List UInt8 := [162, 0, 79, 28, 4, 96, 62, 29, 42, 180, 0, 16, 180, 0, 134, 162, 0, 58, 42, 28, 29, 182, 1, 238]
abbrev dktX0_clash_1 : List UInt8 := dkwX0_clash_1 ++ dktX0_clash_2
def dkwX0_clash_0 : List UInt8 := [27, 133, 9, 20, 1, 236, 184, 0, 110, 154, 0, 5, 2, 172, 3, 61, 28, 42, 180, 0, 16, 180, 0, 134]
abbrev dktX0_clash_0 : List UInt8 := dkwX0_clash_0 ++ dktX0_clash_1
theorem dksX0_clash_0 : cX0_clash.data.toList.drop 0 = dktX0_clash_0 := by decide +kernel
theorem dksX0_clash_1 : cX0_clash.data.toList.drop 24 = dktX0_clash_1 := dk_seg dksX0_clash_0 24 rfl rfl
theorem dksX0_clash_2 : cX0_clash.data.toList.drop 48 = dktX0_clash_2 := dk_seg dksX0_clash_1 24 rfl rfl
theorem dksX0_clash_3 : cX0_clash.data.toList.drop 72 = dktX0_clash_3 := dk_seg dksX0_clash_2 24 rfl rfl
theorem dksX0_clash_4 : cX0_clash.data.toList.drop 94 = dktX0_clash_4 := dk_seg dksX0_clash_3 22 rfl rfl
theorem dX0_clash_0 : decode cX0_clash 0 = .ok (.iload_n 1, 1) := dk_27 (dk_at dksX0_clash_0 0 rfl rfl)
theorem dX0_clash_1 : decode cX0_clash 1 = .ok (.i2l, 1) := dk_133 (dk_at dksX0_clash_0 1 rfl rfl)
theorem dX0_clash_2 : decode cX0_clash 2 = .ok (.lconst 0, 1) := dk_9 (dk_at dksX0_clash_0 2 rfl rfl)
theorem dX0_clash_3 : decode cX0_clash 3 = .ok (.ldc2_w 492, 3) := dk_20 1 236 (dk_at dksX0_clash_0 3 rfl rfl)
theorem dX0_clash_6 : decode cX0_clash 6 = .ok (.invokestatic 110, 3) := dk_184 0 110 (dk_at dksX0_clash_0 6 rfl rfl)
theorem dX0_clash_9 : decode cX0_clash 9 = .ok (.ifCond .ne 5, 3) := dk_154 0 5 (dk_at dksX0_clash_0 9 rfl rfl)
theorem dX0_clash_12 : decode cX0_clash 12 = .ok (.iconst (-1), 1) := dk_2 (dk_at dksX0_clash_0 12 rfl rfl)
theorem dX0_clash_13 : decode cX0_clash 13 = .ok (.ireturn, 1) := dk_172 (dk_at dksX0_clash_0 13 rfl rfl)
theorem dX0_clash_14 : decode cX0_clash 14 = .ok (.iconst 0, 1) := dk_3 (dk_at dksX0_clash_0 14 rfl rfl)
theorem dX0_clash_15 : decode cX0_clash 15 = .ok (.istore_n 2, 1) := dk_61 (dk_at dksX0_clash_0 15 rfl rfl)
theorem dX0_clash_16 : decode cX0_clash 16 = .ok (.iload_n 2, 1) := dk_28 (dk_at dksX0_clash_0 16 rfl rfl)
theorem dX0_clash_17 : decode cX0_clash 17 = .ok (.aload_n 0, 1) := dk_42 (dk_at dksX0_clash_0 17 rfl rfl)
theorem dX0_clash_18 : decode cX0_clash 18 = .ok (.getfield 16, 3) := dk_180 0 16 (dk_at dksX0_clash_0 18 rfl rfl)
theorem dX0_clash_21 : decode cX0_clash 21 = .ok (.getfield 134, 3) := dk_180 0 134 (dk_at dksX0_clash_0 21 rfl rfl)
theorem dX0_clash_24 : decode cX0_clash 24 = .ok (.if_icmp .ge 79, 3) := dk_162 0 79 (dk_at dksX0_clash_1 0 rfl rfl)
theorem dX0_clash_27 : decode cX0_clash 27 = .ok (.iload_n 2, 1) := dk_28 (dk_at dksX0_clash_1 3 rfl rfl)
theorem dX0_clash_28 : decode cX0_clash 28 = .ok (.iconst 1, 1) := dk_4 (dk_at dksX0_clash_1 4 rfl rfl)
theorem dX0_clash_29 : decode cX0_clash 29 = .ok (.iadd, 1) := dk_96 (dk_at dksX0_clash_1 5 rfl rfl)
theorem dX0_clash_30 : decode cX0_clash 30 = .ok (.istore_n 3, 1) := dk_62 (dk_at dksX0_clash_1 6 rfl rfl)
theorem dX0_clash_31 : decode cX0_clash 31 = .ok (.iload_n 3, 1) := dk_29 (dk_at dksX0_clash_1 7 rfl rfl)
theorem dX0_clash_32 : decode cX0_clash 32 = .ok (.aload_n 0, 1) := dk_42 (dk_at dksX0_clash_1 8 rfl rfl)
theorem dX0_clash_33 : decode cX0_clash 33 = .ok (.getfield 16, 3) := dk_180 0 16 (dk_at dksX0_clash_1 9 rfl rfl)
theorem dX0_clash_36 : decode cX0_clash 36 = .ok (.getfield 134, 3) := dk_180 0 134 (dk_at dksX0_clash_1 12 rfl rfl)
theorem dX0_clash_39 : decode cX0_clash 39 = .ok (.if_icmp .ge 58, 3) := dk_162 0 58 (dk_at dksX0_clash_1 15 rfl rfl)
theorem dX0_clash_42 : decode cX0_clash 42 = .ok (.aload_n 0, 1) := dk_42 (dk_at dksX0_clash_1 18 rfl rfl)
theorem dX0_clash_43 : decode cX0_clash 43 = .ok (.iload_n 2, 1) := dk_28 (dk_at dksX0_clash_1 19 rfl rfl)
theorem dX0_clash_44 : decode cX0_clash 44 = .ok (.iload_n 3, 1) := dk_29 (dk_at dksX0_clash_1 20 rfl rfl)
theorem dX0_clash_45 : decode cX0_clash 45 = .ok (.invokevirtual 494, 3) := dk_182 1 238 (dk_at dksX0_clash_1 21 rfl rfl)
theorem dX0_clash_48 : decode cX0_clash 48 = .ok (.ifCond .ne 6, 3) := dk_154 0 6 (dk_at dksX0_clash_2 0 rfl rfl)
theorem dX0_clash_51 : decode cX0_clash 51 = .ok (.goto 40, 3) := dk_167 0 40 (dk_at dksX0_clash_2 3 rfl rfl)
theorem dX0_clash_54 : decode cX0_clash 54 = .ok (.iload_n 1, 1) := dk_27 (dk_at dksX0_clash_2 6 rfl rfl)
theorem dX0_clash_55 : decode cX0_clash 55 = .ok (.ifCond .ne 7, 3) := dk_154 0 7 (dk_at dksX0_clash_2 7 rfl rfl)
theorem dX0_clash_58 : decode cX0_clash 58 = .ok (.iload_n 2, 1) := dk_28 (dk_at dksX0_clash_2 10 rfl rfl)
theorem dX0_clash_59 : decode cX0_clash 59 = .ok (.goto 31, 3) := dk_167 0 31 (dk_at dksX0_clash_2 11 rfl rfl)
theorem dX0_clash_62 : decode cX0_clash 62 = .ok (.iload_n 1, 1) := dk_27 (dk_at dksX0_clash_2 14 rfl rfl)
theorem dX0_clash_63 : decode cX0_clash 63 = .ok (.iconst 1, 1) := dk_4 (dk_at dksX0_clash_2 15 rfl rfl)
theorem dX0_clash_64 : decode cX0_clash 64 = .ok (.if_icmp .ne 7, 3) := dk_160 0 7 (dk_at dksX0_clash_2 16 rfl rfl)
theorem dX0_clash_67 : decode cX0_clash 67 = .ok (.iload_n 3, 1) := dk_29 (dk_at dksX0_clash_2 19 rfl rfl)
theorem dX0_clash_68 : decode cX0_clash 68 = .ok (.goto 22, 3) := dk_167 0 22 (dk_at dksX0_clash_2 20 rfl rfl)
theorem dX0_clash_71 : decode cX0_clash 71 = .ok (.aload_n 0, 1) := dk_42 (dk_at dksX0_clash_2 23 rfl rfl)
theorem dX0_clash_72 : decode cX0_clash 72 = .ok (.getfield 69, 3) := dk_180 0 69 (dk_at dksX0_clash_3 0 rfl rfl)
theorem dX0_clash_75 : decode cX0_clash 75 = .ok (.iload_n 2, 1) := dk_28 (dk_at dksX0_clash_3 3 rfl rfl)
theorem dX0_clash_76 : decode cX0_clash 76 = .ok (.iload_n 3, 1) := dk_29 (dk_at dksX0_clash_3 4 rfl rfl)
theorem dX0_clash_77 : decode cX0_clash 77 = .ok (.invokestatic 497, 3) := dk_184 1 241 (dk_at dksX0_clash_3 5 rfl rfl)
theorem dX0_clash_80 : decode cX0_clash 80 = .ok (.aload_n 0, 1) := dk_42 (dk_at dksX0_clash_3 8 rfl rfl)
theorem dX0_clash_81 : decode cX0_clash 81 = .ok (.getfield 72, 3) := dk_180 0 72 (dk_at dksX0_clash_3 9 rfl rfl)
theorem dX0_clash_84 : decode cX0_clash 84 = .ok (.iload_n 2, 1) := dk_28 (dk_at dksX0_clash_3 12 rfl rfl)
theorem dX0_clash_85 : decode cX0_clash 85 = .ok (.iload_n 3, 1) := dk_29 (dk_at dksX0_clash_3 13 rfl rfl)
theorem dX0_clash_86 : decode cX0_clash 86 = .ok (.invokestatic 497, 3) := dk_184 1 241 (dk_at dksX0_clash_3 14 rfl rfl)
theorem dX0_clash_89 : decode cX0_clash 89 = .ok (.iadd, 1) := dk_96 (dk_at dksX0_clash_3 17 rfl rfl)
theorem dX0_clash_90 : decode cX0_clash 90 = .ok (.ireturn, 1) := dk_172 (dk_at dksX0_clash_3 18 rfl rfl)
theorem dX0_clash_91 : decode cX0_clash 91 = .ok (.iinc 3 1, 3) := dk_132 3 1 (dk_at dksX0_clash_3 19 rfl rfl)
theorem dX0_clash_94 : decode cX0_clash 94 = .ok (.goto (-63), 3) := dk_167 255 193 (dk_at dksX0_clash_4 0 rfl rfl)
theorem dX0_clash_97 : decode cX0_clash 97 = .ok (.iinc 2 1, 3) := dk_132 2 1 (dk_at dksX0_clash_4 3 rfl rfl)
theorem dX0_clash_100 : decode cX0_clash 100 = .ok (.goto (-84), 3) := dk_167 255 172 (dk_at dksX0_clash_4 6 rfl rfl)
theorem dX0_clash_103 : decode cX0_clash 103 = .ok (.bipush (-2), 2) := dk_16 254 (dk_at dksX0_clash_4 9 rfl rfl)
theorem dX0_clash_105 : decode cX0_clash 105 = .ok (.ireturn, 1) := dk_172 (dk_at dksX0_clash_4 11 rfl rfl)
def dkwX0_doClash_2 : List UInt8 := [28, 46, 160, 0, 7, 4, 167, 0, 4, 3, 172]
abbrev dktX0_doClash_2 : List UInt8 := dkwX0_doClash_2 ++ []
def dkwX0_doClash_1 : List UInt8 := [180, 0, 39, 27, 46, 42, 180, 0, 39, 28, 46, 160, 0, 22, 42, 180, 0, 42, 27, 46, 42, 180, 0, 42]
abbrev dktX0_doClash_1 : List UInt8 := dkwX0_doClash_1 ++ dktX0_doClash_2
def dkwX0_doClash_0 : List UInt8 := [42, 27, 182, 1, 151, 153, 0, 50, 42, 28, 182, 1, 151, 153, 0, 42, 27, 28, 159, 0, 37, 42]
abbrev dktX0_doClash_0 : List UInt8 := dkwX0_doClash_0 ++ dktX0_doClash_1
theorem dksX0_doClash_0 : cX0_doClash.data.toList.drop 0 = dktX0_doClash_0 := by decide +kernel
theorem dksX0_doClash_1 : cX0_doClash.data.toList.drop 22 = dktX0_doClash_1 := dk_seg dksX0_doClash_0 22 rfl rfl
theorem dksX0_doClash_2 : cX0_doClash.data.toList.drop 46 = dktX0_doClash_2 := dk_seg dksX0_doClash_1 24 rfl rfl
theorem dX0_doClash_0 : decode cX0_doClash 0 = .ok (.aload_n 0, 1) := dk_42 (dk_at dksX0_doClash_0 0 rfl rfl)
theorem dX0_doClash_1 : decode cX0_doClash 1 = .ok (.iload_n 1, 1) := dk_27 (dk_at dksX0_doClash_0 1 rfl rfl)
theorem dX0_doClash_2 : decode cX0_doClash 2 = .ok (.invokevirtual 407, 3) := dk_182 1 151 (dk_at dksX0_doClash_0 2 rfl rfl)
theorem dX0_doClash_5 : decode cX0_doClash 5 = .ok (.ifCond .eq 50, 3) := dk_153 0 50 (dk_at dksX0_doClash_0 5 rfl rfl)
theorem dX0_doClash_8 : decode cX0_doClash 8 = .ok (.aload_n 0, 1) := dk_42 (dk_at dksX0_doClash_0 8 rfl rfl)
theorem dX0_doClash_9 : decode cX0_doClash 9 = .ok (.iload_n 2, 1) := dk_28 (dk_at dksX0_doClash_0 9 rfl rfl)
theorem dX0_doClash_10 : decode cX0_doClash 10 = .ok (.invokevirtual 407, 3) := dk_182 1 151 (dk_at dksX0_doClash_0 10 rfl rfl)
theorem dX0_doClash_13 : decode cX0_doClash 13 = .ok (.ifCond .eq 42, 3) := dk_153 0 42 (dk_at dksX0_doClash_0 13 rfl rfl)
theorem dX0_doClash_16 : decode cX0_doClash 16 = .ok (.iload_n 1, 1) := dk_27 (dk_at dksX0_doClash_0 16 rfl rfl)
theorem dX0_doClash_17 : decode cX0_doClash 17 = .ok (.iload_n 2, 1) := dk_28 (dk_at dksX0_doClash_0 17 rfl rfl)
theorem dX0_doClash_18 : decode cX0_doClash 18 = .ok (.if_icmp .eq 37, 3) := dk_159 0 37 (dk_at dksX0_doClash_0 18 rfl rfl)
theorem dX0_doClash_21 : decode cX0_doClash 21 = .ok (.aload_n 0, 1) := dk_42 (dk_at dksX0_doClash_0 21 rfl rfl)
theorem dX0_doClash_22 : decode cX0_doClash 22 = .ok (.getfield 39, 3) := dk_180 0 39 (dk_at dksX0_doClash_1 0 rfl rfl)
theorem dX0_doClash_25 : decode cX0_doClash 25 = .ok (.iload_n 1, 1) := dk_27 (dk_at dksX0_doClash_1 3 rfl rfl)
theorem dX0_doClash_26 : decode cX0_doClash 26 = .ok (.iaload, 1) := dk_46 (dk_at dksX0_doClash_1 4 rfl rfl)
theorem dX0_doClash_27 : decode cX0_doClash 27 = .ok (.aload_n 0, 1) := dk_42 (dk_at dksX0_doClash_1 5 rfl rfl)
theorem dX0_doClash_28 : decode cX0_doClash 28 = .ok (.getfield 39, 3) := dk_180 0 39 (dk_at dksX0_doClash_1 6 rfl rfl)
theorem dX0_doClash_31 : decode cX0_doClash 31 = .ok (.iload_n 2, 1) := dk_28 (dk_at dksX0_doClash_1 9 rfl rfl)
theorem dX0_doClash_32 : decode cX0_doClash 32 = .ok (.iaload, 1) := dk_46 (dk_at dksX0_doClash_1 10 rfl rfl)
theorem dX0_doClash_33 : decode cX0_doClash 33 = .ok (.if_icmp .ne 22, 3) := dk_160 0 22 (dk_at dksX0_doClash_1 11 rfl rfl)
theorem dX0_doClash_36 : decode cX0_doClash 36 = .ok (.aload_n 0, 1) := dk_42 (dk_at dksX0_doClash_1 14 rfl rfl)
theorem dX0_doClash_37 : decode cX0_doClash 37 = .ok (.getfield 42, 3) := dk_180 0 42 (dk_at dksX0_doClash_1 15 rfl rfl)
theorem dX0_doClash_40 : decode cX0_doClash 40 = .ok (.iload_n 1, 1) := dk_27 (dk_at dksX0_doClash_1 18 rfl rfl)
theorem dX0_doClash_41 : decode cX0_doClash 41 = .ok (.iaload, 1) := dk_46 (dk_at dksX0_doClash_1 19 rfl rfl)
theorem dX0_doClash_42 : decode cX0_doClash 42 = .ok (.aload_n 0, 1) := dk_42 (dk_at dksX0_doClash_1 20 rfl rfl)
theorem dX0_doClash_43 : decode cX0_doClash 43 = .ok (.getfield 42, 3) := dk_180 0 42 (dk_at dksX0_doClash_1 21 rfl rfl)
theorem dX0_doClash_46 : decode cX0_doClash 46 = .ok (.iload_n 2, 1) := dk_28 (dk_at dksX0_doClash_2 0 rfl rfl)
theorem dX0_doClash_47 : decode cX0_doClash 47 = .ok (.iaload, 1) := dk_46 (dk_at dksX0_doClash_2 1 rfl rfl)
theorem dX0_doClash_48 : decode cX0_doClash 48 = .ok (.if_icmp .ne 7, 3) := dk_160 0 7 (dk_at dksX0_doClash_2 2 rfl rfl)
theorem dX0_doClash_51 : decode cX0_doClash 51 = .ok (.iconst 1, 1) := dk_4 (dk_at dksX0_doClash_2 5 rfl rfl)
theorem dX0_doClash_52 : decode cX0_doClash 52 = .ok (.goto 4, 3) := dk_167 0 4 (dk_at dksX0_doClash_2 6 rfl rfl)
theorem dX0_doClash_55 : decode cX0_doClash 55 = .ok (.iconst 0, 1) := dk_3 (dk_at dksX0_doClash_2 9 rfl rfl)
theorem dX0_doClash_56 : decode cX0_doClash 56 = .ok (.ireturn, 1) := dk_172 (dk_at dksX0_doClash_2 10 rfl rfl)
def dkwX0_steps_2 : List UInt8 := [132, 6, 1, 167, 255, 228, 21, 5, 62, 132, 4, 1, 167, 255, 205, 21, 4, 172]
abbrev dktX0_steps_2 : List UInt8 := dkwX0_steps_2 ++ []
def dkwX0_steps_1 : List UInt8 := [16, 20, 162, 0, 27, 29, 21, 6, 184, 0, 152, 153, 0, 12, 21, 5, 42, 21, 6, 46, 128, 54, 5]
abbrev dktX0_steps_1 : List UInt8 := dkwX0_steps_1 ++ dktX0_steps_2
def dkwX0_steps_0 : List UInt8 := [4, 27, 120, 62, 3, 54, 4, 29, 28, 184, 0, 152, 154, 0, 49, 29, 54, 5, 3, 54, 6, 21, 6]
abbrev dktX0_steps_0 : List UInt8 := dkwX0_steps_0 ++ dktX0_steps_1
theorem dksX0_steps_0 : cX0_steps.data.toList.drop 0 = dktX0_steps_0 := by decide +kernel
theorem dksX0_steps_1 : cX0_steps.data.toList.drop 23 = dktX0_steps_1 := dk_seg dksX0_steps_0 23 rfl rfl
theorem dksX0_steps_2 : cX0_steps.data.toList.drop 46 = dktX0_steps_2 := dk_seg dksX0_steps_1 23 rfl rfl
theorem dX0_steps_0 : decode cX0_steps 0 = .ok (.iconst 1, 1) := dk_4 (dk_at dksX0_steps_0 0 rfl rfl)
theorem dX0_steps_1 : decode cX0_steps 1 = .ok (.iload_n 1, 1) := dk_27 (dk_at dksX0_steps_0 1 rfl rfl)
theorem dX0_steps_2 : decode cX0_steps 2 = .ok (.ishl, 1) := dk_120 (dk_at dksX0_steps_0 2 rfl rfl)
theorem dX0_steps_3 : decode cX0_steps 3 = .ok (.istore_n 3, 1) := dk_62 (dk_at dksX0_steps_0 3 rfl rfl)
theorem dX0_steps_4 : decode cX0_steps 4 = .ok (.iconst 0, 1) := dk_3 (dk_at dksX0_steps_0 4 rfl rfl)
theorem dX0_steps_5 : decode cX0_steps 5 = .ok (.istore 4, 2) := dk_54 4 (dk_at dksX0_steps_0 5 rfl rfl)
theorem dX0_steps_7 : decode cX0_steps 7 = .ok (.iload_n 3, 1) := dk_29 (dk_at dksX0_steps_0 7 rfl rfl)
theorem dX0_steps_8 : decode cX0_steps 8 = .ok (.iload_n 2, 1) := dk_28 (dk_at dksX0_steps_0 8 rfl rfl)
theorem dX0_steps_9 : decode cX0_steps 9 = .ok (.invokestatic 152, 3) := dk_184 0 152 (dk_at dksX0_steps_0 9 rfl rfl)
theorem dX0_steps_12 : decode cX0_steps 12 = .ok (.ifCond .ne 49, 3) := dk_154 0 49 (dk_at dksX0_steps_0 12 rfl rfl)
theorem dX0_steps_15 : decode cX0_steps 15 = .ok (.iload_n 3, 1) := dk_29 (dk_at dksX0_steps_0 15 rfl rfl)
theorem dX0_steps_16 : decode cX0_steps 16 = .ok (.istore 5, 2) := dk_54 5 (dk_at dksX0_steps_0 16 rfl rfl)
theorem dX0_steps_18 : decode cX0_steps 18 = .ok (.iconst 0, 1) := dk_3 (dk_at dksX0_steps_0 18 rfl rfl)
theorem dX0_steps_19 : decode cX0_steps 19 = .ok (.istore 6, 2) := dk_54 6 (dk_at dksX0_steps_0 19 rfl rfl)
theorem dX0_steps_21 : decode cX0_steps 21 = .ok (.iload 6, 2) := dk_21 6 (dk_at dksX0_steps_0 21 rfl rfl)
theorem dX0_steps_23 : decode cX0_steps 23 = .ok (.bipush 20, 2) := dk_16 20 (dk_at dksX0_steps_1 0 rfl rfl)
theorem dX0_steps_25 : decode cX0_steps 25 = .ok (.if_icmp .ge 27, 3) := dk_162 0 27 (dk_at dksX0_steps_1 2 rfl rfl)
theorem dX0_steps_28 : decode cX0_steps 28 = .ok (.iload_n 3, 1) := dk_29 (dk_at dksX0_steps_1 5 rfl rfl)
theorem dX0_steps_29 : decode cX0_steps 29 = .ok (.iload 6, 2) := dk_21 6 (dk_at dksX0_steps_1 6 rfl rfl)
theorem dX0_steps_31 : decode cX0_steps 31 = .ok (.invokestatic 152, 3) := dk_184 0 152 (dk_at dksX0_steps_1 8 rfl rfl)
theorem dX0_steps_34 : decode cX0_steps 34 = .ok (.ifCond .eq 12, 3) := dk_153 0 12 (dk_at dksX0_steps_1 11 rfl rfl)
theorem dX0_steps_37 : decode cX0_steps 37 = .ok (.iload 5, 2) := dk_21 5 (dk_at dksX0_steps_1 14 rfl rfl)
theorem dX0_steps_39 : decode cX0_steps 39 = .ok (.aload_n 0, 1) := dk_42 (dk_at dksX0_steps_1 16 rfl rfl)
theorem dX0_steps_40 : decode cX0_steps 40 = .ok (.iload 6, 2) := dk_21 6 (dk_at dksX0_steps_1 17 rfl rfl)
theorem dX0_steps_42 : decode cX0_steps 42 = .ok (.iaload, 1) := dk_46 (dk_at dksX0_steps_1 19 rfl rfl)
theorem dX0_steps_43 : decode cX0_steps 43 = .ok (.ior, 1) := dk_128 (dk_at dksX0_steps_1 20 rfl rfl)
theorem dX0_steps_44 : decode cX0_steps 44 = .ok (.istore 5, 2) := dk_54 5 (dk_at dksX0_steps_1 21 rfl rfl)
theorem dX0_steps_46 : decode cX0_steps 46 = .ok (.iinc 6 1, 3) := dk_132 6 1 (dk_at dksX0_steps_2 0 rfl rfl)
theorem dX0_steps_49 : decode cX0_steps 49 = .ok (.goto (-28), 3) := dk_167 255 228 (dk_at dksX0_steps_2 3 rfl rfl)
theorem dX0_steps_52 : decode cX0_steps 52 = .ok (.iload 5, 2) := dk_21 5 (dk_at dksX0_steps_2 6 rfl rfl)
theorem dX0_steps_54 : decode cX0_steps 54 = .ok (.istore_n 3, 1) := dk_62 (dk_at dksX0_steps_2 8 rfl rfl)
theorem dX0_steps_55 : decode cX0_steps 55 = .ok (.iinc 4 1, 3) := dk_132 4 1 (dk_at dksX0_steps_2 9 rfl rfl)
theorem dX0_steps_58 : decode cX0_steps 58 = .ok (.goto (-51), 3) := dk_167 255 205 (dk_at dksX0_steps_2 12 rfl rfl)
theorem dX0_steps_61 : decode cX0_steps 61 = .ok (.iload 4, 2) := dk_21 4 (dk_at dksX0_steps_2 15 rfl rfl)
theorem dX0_steps_63 : decode cX0_steps 63 = .ok (.ireturn, 1) := dk_172 (dk_at dksX0_steps_2 17 rfl rfl)
def dkwX0_clashes_2 : List UInt8 := [132, 3, 1, 167, 255, 225, 132, 2, 1, 167, 255, 204, 27, 172]
abbrev dktX0_clashes_2 : List UInt8 := dkwX0_clashes_2 ++ []
def dkwX0_clashes_1 : List UInt8 := [180, 0, 134, 162, 0, 26, 27, 42, 28, 29, 182, 1, 238, 153, 0, 7, 4, 167, 0, 4, 3, 96, 60]
abbrev dktX0_clashes_1 : List UInt8 := dkwX0_clashes_1 ++ dktX0_clashes_2
def dkwX0_clashes_0 : List UInt8 := [3, 60, 3, 61, 28, 42, 180, 0, 16, 180, 0, 134, 162, 0, 47, 28, 4, 96, 62, 29, 42, 180, 0, 16]
abbrev dktX0_clashes_0 : List UInt8 := dkwX0_clashes_0 ++ dktX0_clashes_1
theorem dksX0_clashes_0 : cX0_clashes.data.toList.drop 0 = dktX0_clashes_0 := by decide +kernel
theorem dksX0_clashes_1 : cX0_clashes.data.toList.drop 24 = dktX0_clashes_1 := dk_seg dksX0_clashes_0 24 rfl rfl
theorem dksX0_clashes_2 : cX0_clashes.data.toList.drop 47 = dktX0_clashes_2 := dk_seg dksX0_clashes_1 23 rfl rfl
theorem dX0_clashes_0 : decode cX0_clashes 0 = .ok (.iconst 0, 1) := dk_3 (dk_at dksX0_clashes_0 0 rfl rfl)
theorem dX0_clashes_1 : decode cX0_clashes 1 = .ok (.istore_n 1, 1) := dk_60 (dk_at dksX0_clashes_0 1 rfl rfl)
theorem dX0_clashes_2 : decode cX0_clashes 2 = .ok (.iconst 0, 1) := dk_3 (dk_at dksX0_clashes_0 2 rfl rfl)
theorem dX0_clashes_3 : decode cX0_clashes 3 = .ok (.istore_n 2, 1) := dk_61 (dk_at dksX0_clashes_0 3 rfl rfl)
theorem dX0_clashes_4 : decode cX0_clashes 4 = .ok (.iload_n 2, 1) := dk_28 (dk_at dksX0_clashes_0 4 rfl rfl)
theorem dX0_clashes_5 : decode cX0_clashes 5 = .ok (.aload_n 0, 1) := dk_42 (dk_at dksX0_clashes_0 5 rfl rfl)
theorem dX0_clashes_6 : decode cX0_clashes 6 = .ok (.getfield 16, 3) := dk_180 0 16 (dk_at dksX0_clashes_0 6 rfl rfl)
theorem dX0_clashes_9 : decode cX0_clashes 9 = .ok (.getfield 134, 3) := dk_180 0 134 (dk_at dksX0_clashes_0 9 rfl rfl)
theorem dX0_clashes_12 : decode cX0_clashes 12 = .ok (.if_icmp .ge 47, 3) := dk_162 0 47 (dk_at dksX0_clashes_0 12 rfl rfl)
theorem dX0_clashes_15 : decode cX0_clashes 15 = .ok (.iload_n 2, 1) := dk_28 (dk_at dksX0_clashes_0 15 rfl rfl)
theorem dX0_clashes_16 : decode cX0_clashes 16 = .ok (.iconst 1, 1) := dk_4 (dk_at dksX0_clashes_0 16 rfl rfl)
theorem dX0_clashes_17 : decode cX0_clashes 17 = .ok (.iadd, 1) := dk_96 (dk_at dksX0_clashes_0 17 rfl rfl)
theorem dX0_clashes_18 : decode cX0_clashes 18 = .ok (.istore_n 3, 1) := dk_62 (dk_at dksX0_clashes_0 18 rfl rfl)
theorem dX0_clashes_19 : decode cX0_clashes 19 = .ok (.iload_n 3, 1) := dk_29 (dk_at dksX0_clashes_0 19 rfl rfl)
theorem dX0_clashes_20 : decode cX0_clashes 20 = .ok (.aload_n 0, 1) := dk_42 (dk_at dksX0_clashes_0 20 rfl rfl)
theorem dX0_clashes_21 : decode cX0_clashes 21 = .ok (.getfield 16, 3) := dk_180 0 16 (dk_at dksX0_clashes_0 21 rfl rfl)
theorem dX0_clashes_24 : decode cX0_clashes 24 = .ok (.getfield 134, 3) := dk_180 0 134 (dk_at dksX0_clashes_1 0 rfl rfl)
theorem dX0_clashes_27 : decode cX0_clashes 27 = .ok (.if_icmp .ge 26, 3) := dk_162 0 26 (dk_at dksX0_clashes_1 3 rfl rfl)
theorem dX0_clashes_30 : decode cX0_clashes 30 = .ok (.iload_n 1, 1) := dk_27 (dk_at dksX0_clashes_1 6 rfl rfl)
theorem dX0_clashes_31 : decode cX0_clashes 31 = .ok (.aload_n 0, 1) := dk_42 (dk_at dksX0_clashes_1 7 rfl rfl)
theorem dX0_clashes_32 : decode cX0_clashes 32 = .ok (.iload_n 2, 1) := dk_28 (dk_at dksX0_clashes_1 8 rfl rfl)
theorem dX0_clashes_33 : decode cX0_clashes 33 = .ok (.iload_n 3, 1) := dk_29 (dk_at dksX0_clashes_1 9 rfl rfl)
theorem dX0_clashes_34 : decode cX0_clashes 34 = .ok (.invokevirtual 494, 3) := dk_182 1 238 (dk_at dksX0_clashes_1 10 rfl rfl)
theorem dX0_clashes_37 : decode cX0_clashes 37 = .ok (.ifCond .eq 7, 3) := dk_153 0 7 (dk_at dksX0_clashes_1 13 rfl rfl)
theorem dX0_clashes_40 : decode cX0_clashes 40 = .ok (.iconst 1, 1) := dk_4 (dk_at dksX0_clashes_1 16 rfl rfl)
theorem dX0_clashes_41 : decode cX0_clashes 41 = .ok (.goto 4, 3) := dk_167 0 4 (dk_at dksX0_clashes_1 17 rfl rfl)
theorem dX0_clashes_44 : decode cX0_clashes 44 = .ok (.iconst 0, 1) := dk_3 (dk_at dksX0_clashes_1 20 rfl rfl)
theorem dX0_clashes_45 : decode cX0_clashes 45 = .ok (.iadd, 1) := dk_96 (dk_at dksX0_clashes_1 21 rfl rfl)
theorem dX0_clashes_46 : decode cX0_clashes 46 = .ok (.istore_n 1, 1) := dk_60 (dk_at dksX0_clashes_1 22 rfl rfl)
theorem dX0_clashes_47 : decode cX0_clashes 47 = .ok (.iinc 3 1, 3) := dk_132 3 1 (dk_at dksX0_clashes_2 0 rfl rfl)
theorem dX0_clashes_50 : decode cX0_clashes 50 = .ok (.goto (-31), 3) := dk_167 255 225 (dk_at dksX0_clashes_2 3 rfl rfl)
theorem dX0_clashes_53 : decode cX0_clashes 53 = .ok (.iinc 2 1, 3) := dk_132 2 1 (dk_at dksX0_clashes_2 6 rfl rfl)
theorem dX0_clashes_56 : decode cX0_clashes 56 = .ok (.goto (-52), 3) := dk_167 255 204 (dk_at dksX0_clashes_2 9 rfl rfl)
theorem dX0_clashes_59 : decode cX0_clashes 59 = .ok (.iload_n 1, 1) := dk_27 (dk_at dksX0_clashes_2 12 rfl rfl)
theorem dX0_clashes_60 : decode cX0_clashes 60 = .ok (.ireturn, 1) := dk_172 (dk_at dksX0_clashes_2 13 rfl rfl)
