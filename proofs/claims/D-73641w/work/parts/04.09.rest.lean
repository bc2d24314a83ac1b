set_option maxRecDepth 100000
theorem dJ0_init_0 : decode cJ0_init 0 = .ok (.aload_n 0, 1) := by decide +kernel
theorem dJ0_init_1 : decode cJ0_init 1 = .ok (.invokespecial 1, 3) := by decide +kernel
theorem dJ0_init_4 : decode cJ0_init 4 = .ok (.return_, 1) := by decide +kernel
def dkwJ1_init_0 : List UInt8 := [42, 183, 0, 1, 42, 3, 181, 0, 7, 42, 3, 181, 0, 13, 42, 1, 181, 0, 16, 177]
abbrev dktJ1_init_0 : List UInt8 := dkwJ1_init_0 ++ []
theorem dksJ1_init_0 : cJ1_init.data.toList.drop 0 = dktJ1_init_0 := by decide +kernel
theorem dJ1_init_0 : decode cJ1_init 0 = .ok (.aload_n 0, 1) := dk_42 (dk_at dksJ1_init_0 0 rfl rfl)
theorem dJ1_init_1 : decode cJ1_init 1 = .ok (.invokespecial 1, 3) := dk_183 0 1 (dk_at dksJ1_init_0 1 rfl rfl)
theorem dJ1_init_4 : decode cJ1_init 4 = .ok (.aload_n 0, 1) := dk_42 (dk_at dksJ1_init_0 4 rfl rfl)
theorem dJ1_init_5 : decode cJ1_init 5 = .ok (.iconst 0, 1) := dk_3 (dk_at dksJ1_init_0 5 rfl rfl)
theorem dJ1_init_6 : decode cJ1_init 6 = .ok (.putfield 7, 3) := dk_181 0 7 (dk_at dksJ1_init_0 6 rfl rfl)
theorem dJ1_init_9 : decode cJ1_init 9 = .ok (.aload_n 0, 1) := dk_42 (dk_at dksJ1_init_0 9 rfl rfl)
theorem dJ1_init_10 : decode cJ1_init 10 = .ok (.iconst 0, 1) := dk_3 (dk_at dksJ1_init_0 10 rfl rfl)
theorem dJ1_init_11 : decode cJ1_init 11 = .ok (.putfield 13, 3) := dk_181 0 13 (dk_at dksJ1_init_0 11 rfl rfl)
theorem dJ1_init_14 : decode cJ1_init 14 = .ok (.aload_n 0, 1) := dk_42 (dk_at dksJ1_init_0 14 rfl rfl)
theorem dJ1_init_15 : decode cJ1_init 15 = .ok (.aconst_null, 1) := dk_1 (dk_at dksJ1_init_0 15 rfl rfl)
theorem dJ1_init_16 : decode cJ1_init 16 = .ok (.putfield 16, 3) := dk_181 0 16 (dk_at dksJ1_init_0 16 rfl rfl)
theorem dJ1_init_19 : decode cJ1_init 19 = .ok (.return_, 1) := dk_177 (dk_at dksJ1_init_0 19 rfl rfl)
def dkwJ1_containsKey_0 : List UInt8 := [42, 43, 182, 0, 50, 198, 0, 7, 4, 167, 0, 4, 3, 172]
abbrev dktJ1_containsKey_0 : List UInt8 := dkwJ1_containsKey_0 ++ []
theorem dksJ1_containsKey_0 : cJ1_containsKey.data.toList.drop 0 = dktJ1_containsKey_0 := by decide +kernel
theorem dJ1_containsKey_0 : decode cJ1_containsKey 0 = .ok (.aload_n 0, 1) := dk_42 (dk_at dksJ1_containsKey_0 0 rfl rfl)
theorem dJ1_containsKey_1 : decode cJ1_containsKey 1 = .ok (.aload_n 1, 1) := dk_43 (dk_at dksJ1_containsKey_0 1 rfl rfl)
theorem dJ1_containsKey_2 : decode cJ1_containsKey 2 = .ok (.invokevirtual 50, 3) := dk_182 0 50 (dk_at dksJ1_containsKey_0 2 rfl rfl)
theorem dJ1_containsKey_5 : decode cJ1_containsKey 5 = .ok (.ifnull 7, 3) := dk_198 0 7 (dk_at dksJ1_containsKey_0 5 rfl rfl)
theorem dJ1_containsKey_8 : decode cJ1_containsKey 8 = .ok (.iconst 1, 1) := dk_4 (dk_at dksJ1_containsKey_0 8 rfl rfl)
theorem dJ1_containsKey_9 : decode cJ1_containsKey 9 = .ok (.goto 4, 3) := dk_167 0 4 (dk_at dksJ1_containsKey_0 9 rfl rfl)
theorem dJ1_containsKey_12 : decode cJ1_containsKey 12 = .ok (.iconst 0, 1) := dk_3 (dk_at dksJ1_containsKey_0 12 rfl rfl)
theorem dJ1_containsKey_13 : decode cJ1_containsKey 13 = .ok (.ireturn, 1) := dk_172 (dk_at dksJ1_containsKey_0 13 rfl rfl)
def dkwJ1_getEntry_3 : List UInt8 := [45, 176, 167, 255, 212, 1, 176]
abbrev dktJ1_getEntry_3 : List UInt8 := dkwJ1_getEntry_3 ++ []
def dkwJ1_getEntry_2 : List UInt8 := [156, 0, 11, 45, 180, 0, 111, 78, 167, 0, 18, 21, 4, 158, 0, 11, 45, 180, 0, 114, 78, 167, 0, 5]
abbrev dktJ1_getEntry_2 : List UInt8 := dkwJ1_getEntry_2 ++ dktJ1_getEntry_3
def dkwJ1_getEntry_1 : List UInt8 := [180, 0, 101, 78, 45, 198, 0, 46, 44, 45, 180, 0, 105, 185, 0, 107, 2, 0, 54, 4, 21, 4]
abbrev dktJ1_getEntry_1 : List UInt8 := dkwJ1_getEntry_1 ++ dktJ1_getEntry_2
def dkwJ1_getEntry_0 : List UInt8 := [42, 180, 0, 16, 198, 0, 9, 42, 43, 182, 0, 92, 176, 43, 184, 0, 95, 87, 43, 192, 0, 99, 77, 42]
abbrev dktJ1_getEntry_0 : List UInt8 := dkwJ1_getEntry_0 ++ dktJ1_getEntry_1
theorem dksJ1_getEntry_0 : cJ1_getEntry.data.toList.drop 0 = dktJ1_getEntry_0 := by decide +kernel
theorem dksJ1_getEntry_1 : cJ1_getEntry.data.toList.drop 24 = dktJ1_getEntry_1 := dk_seg dksJ1_getEntry_0 24 rfl rfl
theorem dksJ1_getEntry_2 : cJ1_getEntry.data.toList.drop 46 = dktJ1_getEntry_2 := dk_seg dksJ1_getEntry_1 22 rfl rfl
theorem dksJ1_getEntry_3 : cJ1_getEntry.data.toList.drop 70 = dktJ1_getEntry_3 := dk_seg dksJ1_getEntry_2 24 rfl rfl
theorem dJ1_getEntry_0 : decode cJ1_getEntry 0 = .ok (.aload_n 0, 1) := dk_42 (dk_at dksJ1_getEntry_0 0 rfl rfl)
theorem dJ1_getEntry_1 : decode cJ1_getEntry 1 = .ok (.getfield 16, 3) := dk_180 0 16 (dk_at dksJ1_getEntry_0 1 rfl rfl)
theorem dJ1_getEntry_4 : decode cJ1_getEntry 4 = .ok (.ifnull 9, 3) := dk_198 0 9 (dk_at dksJ1_getEntry_0 4 rfl rfl)
theorem dJ1_getEntry_7 : decode cJ1_getEntry 7 = .ok (.aload_n 0, 1) := dk_42 (dk_at dksJ1_getEntry_0 7 rfl rfl)
theorem dJ1_getEntry_8 : decode cJ1_getEntry 8 = .ok (.aload_n 1, 1) := dk_43 (dk_at dksJ1_getEntry_0 8 rfl rfl)
theorem dJ1_getEntry_9 : decode cJ1_getEntry 9 = .ok (.invokevirtual 92, 3) := dk_182 0 92 (dk_at dksJ1_getEntry_0 9 rfl rfl)
theorem dJ1_getEntry_12 : decode cJ1_getEntry 12 = .ok (.areturn, 1) := dk_176 (dk_at dksJ1_getEntry_0 12 rfl rfl)
theorem dJ1_getEntry_13 : decode cJ1_getEntry 13 = .ok (.aload_n 1, 1) := dk_43 (dk_at dksJ1_getEntry_0 13 rfl rfl)
theorem dJ1_getEntry_14 : decode cJ1_getEntry 14 = .ok (.invokestatic 95, 3) := dk_184 0 95 (dk_at dksJ1_getEntry_0 14 rfl rfl)
theorem dJ1_getEntry_17 : decode cJ1_getEntry 17 = .ok (.pop, 1) := dk_87 (dk_at dksJ1_getEntry_0 17 rfl rfl)
theorem dJ1_getEntry_18 : decode cJ1_getEntry 18 = .ok (.aload_n 1, 1) := dk_43 (dk_at dksJ1_getEntry_0 18 rfl rfl)
theorem dJ1_getEntry_19 : decode cJ1_getEntry 19 = .ok (.checkcast 99, 3) := dk_192 0 99 (dk_at dksJ1_getEntry_0 19 rfl rfl)
theorem dJ1_getEntry_22 : decode cJ1_getEntry 22 = .ok (.astore_n 2, 1) := dk_77 (dk_at dksJ1_getEntry_0 22 rfl rfl)
theorem dJ1_getEntry_23 : decode cJ1_getEntry 23 = .ok (.aload_n 0, 1) := dk_42 (dk_at dksJ1_getEntry_0 23 rfl rfl)
theorem dJ1_getEntry_24 : decode cJ1_getEntry 24 = .ok (.getfield 101, 3) := dk_180 0 101 (dk_at dksJ1_getEntry_1 0 rfl rfl)
theorem dJ1_getEntry_27 : decode cJ1_getEntry 27 = .ok (.astore_n 3, 1) := dk_78 (dk_at dksJ1_getEntry_1 3 rfl rfl)
theorem dJ1_getEntry_28 : decode cJ1_getEntry 28 = .ok (.aload_n 3, 1) := dk_45 (dk_at dksJ1_getEntry_1 4 rfl rfl)
theorem dJ1_getEntry_29 : decode cJ1_getEntry 29 = .ok (.ifnull 46, 3) := dk_198 0 46 (dk_at dksJ1_getEntry_1 5 rfl rfl)
theorem dJ1_getEntry_32 : decode cJ1_getEntry 32 = .ok (.aload_n 2, 1) := dk_44 (dk_at dksJ1_getEntry_1 8 rfl rfl)
theorem dJ1_getEntry_33 : decode cJ1_getEntry 33 = .ok (.aload_n 3, 1) := dk_45 (dk_at dksJ1_getEntry_1 9 rfl rfl)
theorem dJ1_getEntry_34 : decode cJ1_getEntry 34 = .ok (.getfield 105, 3) := dk_180 0 105 (dk_at dksJ1_getEntry_1 10 rfl rfl)
theorem dJ1_getEntry_37 : decode cJ1_getEntry 37 = .ok (.invokeinterface 107 2, 5) := by decide +kernel
theorem dJ1_getEntry_42 : decode cJ1_getEntry 42 = .ok (.istore 4, 2) := dk_54 4 (dk_at dksJ1_getEntry_1 18 rfl rfl)
theorem dJ1_getEntry_44 : decode cJ1_getEntry 44 = .ok (.iload 4, 2) := dk_21 4 (dk_at dksJ1_getEntry_1 20 rfl rfl)
theorem dJ1_getEntry_46 : decode cJ1_getEntry 46 = .ok (.ifCond .ge 11, 3) := dk_156 0 11 (dk_at dksJ1_getEntry_2 0 rfl rfl)
theorem dJ1_getEntry_49 : decode cJ1_getEntry 49 = .ok (.aload_n 3, 1) := dk_45 (dk_at dksJ1_getEntry_2 3 rfl rfl)
theorem dJ1_getEntry_50 : decode cJ1_getEntry 50 = .ok (.getfield 111, 3) := dk_180 0 111 (dk_at dksJ1_getEntry_2 4 rfl rfl)
theorem dJ1_getEntry_53 : decode cJ1_getEntry 53 = .ok (.astore_n 3, 1) := dk_78 (dk_at dksJ1_getEntry_2 7 rfl rfl)
theorem dJ1_getEntry_54 : decode cJ1_getEntry 54 = .ok (.goto 18, 3) := dk_167 0 18 (dk_at dksJ1_getEntry_2 8 rfl rfl)
theorem dJ1_getEntry_57 : decode cJ1_getEntry 57 = .ok (.iload 4, 2) := dk_21 4 (dk_at dksJ1_getEntry_2 11 rfl rfl)
theorem dJ1_getEntry_59 : decode cJ1_getEntry 59 = .ok (.ifCond .le 11, 3) := dk_158 0 11 (dk_at dksJ1_getEntry_2 13 rfl rfl)
theorem dJ1_getEntry_62 : decode cJ1_getEntry 62 = .ok (.aload_n 3, 1) := dk_45 (dk_at dksJ1_getEntry_2 16 rfl rfl)
theorem dJ1_getEntry_63 : decode cJ1_getEntry 63 = .ok (.getfield 114, 3) := dk_180 0 114 (dk_at dksJ1_getEntry_2 17 rfl rfl)
theorem dJ1_getEntry_66 : decode cJ1_getEntry 66 = .ok (.astore_n 3, 1) := dk_78 (dk_at dksJ1_getEntry_2 20 rfl rfl)
theorem dJ1_getEntry_67 : decode cJ1_getEntry 67 = .ok (.goto 5, 3) := dk_167 0 5 (dk_at dksJ1_getEntry_2 21 rfl rfl)
theorem dJ1_getEntry_70 : decode cJ1_getEntry 70 = .ok (.aload_n 3, 1) := dk_45 (dk_at dksJ1_getEntry_3 0 rfl rfl)
theorem dJ1_getEntry_71 : decode cJ1_getEntry 71 = .ok (.areturn, 1) := dk_176 (dk_at dksJ1_getEntry_3 1 rfl rfl)
theorem dJ1_getEntry_72 : decode cJ1_getEntry 72 = .ok (.goto (-44), 3) := dk_167 255 212 (dk_at dksJ1_getEntry_3 2 rfl rfl)
theorem dJ1_getEntry_75 : decode cJ1_getEntry 75 = .ok (.aconst_null, 1) := dk_1 (dk_at dksJ1_getEntry_3 5 rfl rfl)
theorem dJ1_getEntry_76 : decode cJ1_getEntry 76 = .ok (.areturn, 1) := dk_176 (dk_at dksJ1_getEntry_3 6 rfl rfl)
def dkwJ1_getEntryUsingComparator_3 : List UInt8 := [1, 176]
abbrev dktJ1_getEntryUsingComparator_3 : List UInt8 := dkwJ1_getEntryUsingComparator_3 ++ []
def dkwJ1_getEntryUsingComparator_2 : List UInt8 := [167, 0, 21, 21, 5, 158, 0, 13, 25, 4, 180, 0, 114, 58, 4, 167, 0, 6, 25, 4, 176, 167, 255, 204]
abbrev dktJ1_getEntryUsingComparator_2 : List UInt8 := dkwJ1_getEntryUsingComparator_2 ++ dktJ1_getEntryUsingComparator_3
def dkwJ1_getEntryUsingComparator_1 : List UInt8 := [25, 4, 180, 0, 105, 185, 0, 117, 3, 0, 54, 5, 21, 5, 156, 0, 13, 25, 4, 180, 0, 111, 58, 4]
abbrev dktJ1_getEntryUsingComparator_1 : List UInt8 := dkwJ1_getEntryUsingComparator_1 ++ dktJ1_getEntryUsingComparator_2
def dkwJ1_getEntryUsingComparator_0 : List UInt8 := [43, 77, 42, 180, 0, 16, 78, 45, 198, 0, 64, 42, 180, 0, 101, 58, 4, 25, 4, 198, 0, 53, 45, 44]
abbrev dktJ1_getEntryUsingComparator_0 : List UInt8 := dkwJ1_getEntryUsingComparator_0 ++ dktJ1_getEntryUsingComparator_1
theorem dksJ1_getEntryUsingComparator_0 : cJ1_getEntryUsingComparator.data.toList.drop 0 = dktJ1_getEntryUsingComparator_0 := by decide +kernel
theorem dksJ1_getEntryUsingComparator_1 : cJ1_getEntryUsingComparator.data.toList.drop 24 = dktJ1_getEntryUsingComparator_1 := dk_seg dksJ1_getEntryUsingComparator_0 24 rfl rfl
theorem dksJ1_getEntryUsingComparator_2 : cJ1_getEntryUsingComparator.data.toList.drop 48 = dktJ1_getEntryUsingComparator_2 := dk_seg dksJ1_getEntryUsingComparator_1 24 rfl rfl
theorem dksJ1_getEntryUsingComparator_3 : cJ1_getEntryUsingComparator.data.toList.drop 72 = dktJ1_getEntryUsingComparator_3 := dk_seg dksJ1_getEntryUsingComparator_2 24 rfl rfl
theorem dJ1_getEntryUsingComparator_0 : decode cJ1_getEntryUsingComparator 0 = .ok (.aload_n 1, 1) := dk_43 (dk_at dksJ1_getEntryUsingComparator_0 0 rfl rfl)
theorem dJ1_getEntryUsingComparator_1 : decode cJ1_getEntryUsingComparator 1 = .ok (.astore_n 2, 1) := dk_77 (dk_at dksJ1_getEntryUsingComparator_0 1 rfl rfl)
theorem dJ1_getEntryUsingComparator_2 : decode cJ1_getEntryUsingComparator 2 = .ok (.aload_n 0, 1) := dk_42 (dk_at dksJ1_getEntryUsingComparator_0 2 rfl rfl)
theorem dJ1_getEntryUsingComparator_3 : decode cJ1_getEntryUsingComparator 3 = .ok (.getfield 16, 3) := dk_180 0 16 (dk_at dksJ1_getEntryUsingComparator_0 3 rfl rfl)
theorem dJ1_getEntryUsingComparator_6 : decode cJ1_getEntryUsingComparator 6 = .ok (.astore_n 3, 1) := dk_78 (dk_at dksJ1_getEntryUsingComparator_0 6 rfl rfl)
theorem dJ1_getEntryUsingComparator_7 : decode cJ1_getEntryUsingComparator 7 = .ok (.aload_n 3, 1) := dk_45 (dk_at dksJ1_getEntryUsingComparator_0 7 rfl rfl)
theorem dJ1_getEntryUsingComparator_8 : decode cJ1_getEntryUsingComparator 8 = .ok (.ifnull 64, 3) := dk_198 0 64 (dk_at dksJ1_getEntryUsingComparator_0 8 rfl rfl)
theorem dJ1_getEntryUsingComparator_11 : decode cJ1_getEntryUsingComparator 11 = .ok (.aload_n 0, 1) := dk_42 (dk_at dksJ1_getEntryUsingComparator_0 11 rfl rfl)
theorem dJ1_getEntryUsingComparator_12 : decode cJ1_getEntryUsingComparator 12 = .ok (.getfield 101, 3) := dk_180 0 101 (dk_at dksJ1_getEntryUsingComparator_0 12 rfl rfl)
theorem dJ1_getEntryUsingComparator_15 : decode cJ1_getEntryUsingComparator 15 = .ok (.astore 4, 2) := dk_58 4 (dk_at dksJ1_getEntryUsingComparator_0 15 rfl rfl)
theorem dJ1_getEntryUsingComparator_17 : decode cJ1_getEntryUsingComparator 17 = .ok (.aload 4, 2) := dk_25 4 (dk_at dksJ1_getEntryUsingComparator_0 17 rfl rfl)
theorem dJ1_getEntryUsingComparator_19 : decode cJ1_getEntryUsingComparator 19 = .ok (.ifnull 53, 3) := dk_198 0 53 (dk_at dksJ1_getEntryUsingComparator_0 19 rfl rfl)
theorem dJ1_getEntryUsingComparator_22 : decode cJ1_getEntryUsingComparator 22 = .ok (.aload_n 3, 1) := dk_45 (dk_at dksJ1_getEntryUsingComparator_0 22 rfl rfl)
theorem dJ1_getEntryUsingComparator_23 : decode cJ1_getEntryUsingComparator 23 = .ok (.aload_n 2, 1) := dk_44 (dk_at dksJ1_getEntryUsingComparator_0 23 rfl rfl)
theorem dJ1_getEntryUsingComparator_24 : decode cJ1_getEntryUsingComparator 24 = .ok (.aload 4, 2) := dk_25 4 (dk_at dksJ1_getEntryUsingComparator_1 0 rfl rfl)
theorem dJ1_getEntryUsingComparator_26 : decode cJ1_getEntryUsingComparator 26 = .ok (.getfield 105, 3) := dk_180 0 105 (dk_at dksJ1_getEntryUsingComparator_1 2 rfl rfl)
theorem dJ1_getEntryUsingComparator_29 : decode cJ1_getEntryUsingComparator 29 = .ok (.invokeinterface 117 3, 5) := by decide +kernel
theorem dJ1_getEntryUsingComparator_34 : decode cJ1_getEntryUsingComparator 34 = .ok (.istore 5, 2) := dk_54 5 (dk_at dksJ1_getEntryUsingComparator_1 10 rfl rfl)
theorem dJ1_getEntryUsingComparator_36 : decode cJ1_getEntryUsingComparator 36 = .ok (.iload 5, 2) := dk_21 5 (dk_at dksJ1_getEntryUsingComparator_1 12 rfl rfl)
theorem dJ1_getEntryUsingComparator_38 : decode cJ1_getEntryUsingComparator 38 = .ok (.ifCond .ge 13, 3) := dk_156 0 13 (dk_at dksJ1_getEntryUsingComparator_1 14 rfl rfl)
theorem dJ1_getEntryUsingComparator_41 : decode cJ1_getEntryUsingComparator 41 = .ok (.aload 4, 2) := dk_25 4 (dk_at dksJ1_getEntryUsingComparator_1 17 rfl rfl)
theorem dJ1_getEntryUsingComparator_43 : decode cJ1_getEntryUsingComparator 43 = .ok (.getfield 111, 3) := dk_180 0 111 (dk_at dksJ1_getEntryUsingComparator_1 19 rfl rfl)
theorem dJ1_getEntryUsingComparator_46 : decode cJ1_getEntryUsingComparator 46 = .ok (.astore 4, 2) := dk_58 4 (dk_at dksJ1_getEntryUsingComparator_1 22 rfl rfl)
theorem dJ1_getEntryUsingComparator_48 : decode cJ1_getEntryUsingComparator 48 = .ok (.goto 21, 3) := dk_167 0 21 (dk_at dksJ1_getEntryUsingComparator_2 0 rfl rfl)
theorem dJ1_getEntryUsingComparator_51 : decode cJ1_getEntryUsingComparator 51 = .ok (.iload 5, 2) := dk_21 5 (dk_at dksJ1_getEntryUsingComparator_2 3 rfl rfl)
theorem dJ1_getEntryUsingComparator_53 : decode cJ1_getEntryUsingComparator 53 = .ok (.ifCond .le 13, 3) := dk_158 0 13 (dk_at dksJ1_getEntryUsingComparator_2 5 rfl rfl)
theorem dJ1_getEntryUsingComparator_56 : decode cJ1_getEntryUsingComparator 56 = .ok (.aload 4, 2) := dk_25 4 (dk_at dksJ1_getEntryUsingComparator_2 8 rfl rfl)
theorem dJ1_getEntryUsingComparator_58 : decode cJ1_getEntryUsingComparator 58 = .ok (.getfield 114, 3) := dk_180 0 114 (dk_at dksJ1_getEntryUsingComparator_2 10 rfl rfl)
theorem dJ1_getEntryUsingComparator_61 : decode cJ1_getEntryUsingComparator 61 = .ok (.astore 4, 2) := dk_58 4 (dk_at dksJ1_getEntryUsingComparator_2 13 rfl rfl)
theorem dJ1_getEntryUsingComparator_63 : decode cJ1_getEntryUsingComparator 63 = .ok (.goto 6, 3) := dk_167 0 6 (dk_at dksJ1_getEntryUsingComparator_2 15 rfl rfl)
theorem dJ1_getEntryUsingComparator_66 : decode cJ1_getEntryUsingComparator 66 = .ok (.aload 4, 2) := dk_25 4 (dk_at dksJ1_getEntryUsingComparator_2 18 rfl rfl)
theorem dJ1_getEntryUsingComparator_68 : decode cJ1_getEntryUsingComparator 68 = .ok (.areturn, 1) := dk_176 (dk_at dksJ1_getEntryUsingComparator_2 20 rfl rfl)
theorem dJ1_getEntryUsingComparator_69 : decode cJ1_getEntryUsingComparator 69 = .ok (.goto (-52), 3) := dk_167 255 204 (dk_at dksJ1_getEntryUsingComparator_2 21 rfl rfl)
theorem dJ1_getEntryUsingComparator_72 : decode cJ1_getEntryUsingComparator 72 = .ok (.aconst_null, 1) := dk_1 (dk_at dksJ1_getEntryUsingComparator_3 0 rfl rfl)
theorem dJ1_getEntryUsingComparator_73 : decode cJ1_getEntryUsingComparator 73 = .ok (.areturn, 1) := dk_176 (dk_at dksJ1_getEntryUsingComparator_3 1 rfl rfl)
def dkwJ1_put_0 : List UInt8 := [42, 43, 44, 4, 182, 0, 127, 176]
abbrev dktJ1_put_0 : List UInt8 := dkwJ1_put_0 ++ []
theorem dksJ1_put_0 : cJ1_put.data.toList.drop 0 = dktJ1_put_0 := by decide +kernel
theorem dJ1_put_0 : decode cJ1_put 0 = .ok (.aload_n 0, 1) := dk_42 (dk_at dksJ1_put_0 0 rfl rfl)
theorem dJ1_put_1 : decode cJ1_put 1 = .ok (.aload_n 1, 1) := dk_43 (dk_at dksJ1_put_0 1 rfl rfl)
theorem dJ1_put_2 : decode cJ1_put 2 = .ok (.aload_n 2, 1) := dk_44 (dk_at dksJ1_put_0 2 rfl rfl)
theorem dJ1_put_3 : decode cJ1_put 3 = .ok (.iconst 1, 1) := dk_4 (dk_at dksJ1_put_0 3 rfl rfl)
theorem dJ1_put_4 : decode cJ1_put 4 = .ok (.invokevirtual 127, 3) := dk_182 0 127 (dk_at dksJ1_put_0 4 rfl rfl)
theorem dJ1_put_7 : decode cJ1_put 7 = .ok (.areturn, 1) := dk_176 (dk_at dksJ1_put_0 7 rfl rfl)
def dkwJ1_put_2_9 : List UInt8 := [4, 167, 0, 4, 3, 182, 0, 139, 1, 176]
abbrev dktJ1_put_2_9 : List UInt8 := dkwJ1_put_2_9 ++ []
def dkwJ1_put_2_8 : List UInt8 := [25, 4, 44, 181, 0, 58, 25, 9, 176, 25, 4, 199, 255, 181, 42, 43, 44, 25, 6, 21, 5, 156, 0, 7]
abbrev dktJ1_put_2_8 : List UInt8 := dkwJ1_put_2_8 ++ dktJ1_put_2_9
def dkwJ1_put_2_7 : List UInt8 := [180, 0, 114, 58, 4, 167, 0, 28, 25, 4, 180, 0, 58, 58, 9, 29, 154, 0, 8, 25, 9, 199, 0, 9]
abbrev dktJ1_put_2_7 : List UInt8 := dkwJ1_put_2_7 ++ dktJ1_put_2_8
def dkwJ1_put_2_6 : List UInt8 := [21, 5, 156, 0, 13, 25, 4, 180, 0, 111, 58, 4, 167, 0, 43, 21, 5, 158, 0, 13, 25, 4]
abbrev dktJ1_put_2_6 : List UInt8 := dkwJ1_put_2_6 ++ dktJ1_put_2_7
def dkwJ1_put_2_5 : List UInt8 := [192, 0, 99, 58, 8, 25, 4, 58, 6, 25, 8, 25, 4, 180, 0, 105, 185, 0, 107, 2, 0, 54, 5]
abbrev dktJ1_put_2_5 : List UInt8 := dkwJ1_put_2_5 ++ dktJ1_put_2_6
def dkwJ1_put_2_4 : List UInt8 := [25, 4, 44, 181, 0, 58, 25, 8, 176, 25, 4, 199, 255, 180, 167, 0, 92, 43, 184, 0, 95, 87, 43]
abbrev dktJ1_put_2_4 : List UInt8 := dkwJ1_put_2_4 ++ dktJ1_put_2_5
def dkwJ1_put_2_3 : List UInt8 := [180, 0, 114, 58, 4, 167, 0, 28, 25, 4, 180, 0, 58, 58, 8, 29, 154, 0, 8, 25, 8, 199, 0, 9]
abbrev dktJ1_put_2_3 : List UInt8 := dkwJ1_put_2_3 ++ dktJ1_put_2_4
def dkwJ1_put_2_2 : List UInt8 := [54, 5, 21, 5, 156, 0, 13, 25, 4, 180, 0, 111, 58, 4, 167, 0, 43, 21, 5, 158, 0, 13, 25, 4]
abbrev dktJ1_put_2_2 : List UInt8 := dkwJ1_put_2_2 ++ dktJ1_put_2_3
def dkwJ1_put_2_1 : List UInt8 := [58, 7, 25, 7, 198, 0, 85, 25, 4, 58, 6, 25, 7, 43, 25, 4, 180, 0, 105, 185, 0, 117, 3, 0]
abbrev dktJ1_put_2_1 : List UInt8 := dkwJ1_put_2_1 ++ dktJ1_put_2_2
def dkwJ1_put_2_0 : List UInt8 := [42, 180, 0, 101, 58, 4, 25, 4, 199, 0, 11, 42, 43, 44, 182, 0, 135, 1, 176, 42, 180, 0, 16]
abbrev dktJ1_put_2_0 : List UInt8 := dkwJ1_put_2_0 ++ dktJ1_put_2_1
theorem dksJ1_put_2_0 : cJ1_put_2.data.toList.drop 0 = dktJ1_put_2_0 := by decide +kernel
theorem dksJ1_put_2_1 : cJ1_put_2.data.toList.drop 23 = dktJ1_put_2_1 := dk_seg dksJ1_put_2_0 23 rfl rfl
theorem dksJ1_put_2_2 : cJ1_put_2.data.toList.drop 47 = dktJ1_put_2_2 := dk_seg dksJ1_put_2_1 24 rfl rfl
theorem dksJ1_put_2_3 : cJ1_put_2.data.toList.drop 71 = dktJ1_put_2_3 := dk_seg dksJ1_put_2_2 24 rfl rfl
theorem dksJ1_put_2_4 : cJ1_put_2.data.toList.drop 95 = dktJ1_put_2_4 := dk_seg dksJ1_put_2_3 24 rfl rfl
theorem dksJ1_put_2_5 : cJ1_put_2.data.toList.drop 118 = dktJ1_put_2_5 := dk_seg dksJ1_put_2_4 23 rfl rfl
theorem dksJ1_put_2_6 : cJ1_put_2.data.toList.drop 141 = dktJ1_put_2_6 := dk_seg dksJ1_put_2_5 23 rfl rfl
theorem dksJ1_put_2_7 : cJ1_put_2.data.toList.drop 163 = dktJ1_put_2_7 := dk_seg dksJ1_put_2_6 22 rfl rfl
theorem dksJ1_put_2_8 : cJ1_put_2.data.toList.drop 187 = dktJ1_put_2_8 := dk_seg dksJ1_put_2_7 24 rfl rfl
theorem dksJ1_put_2_9 : cJ1_put_2.data.toList.drop 211 = dktJ1_put_2_9 := dk_seg dksJ1_put_2_8 24 rfl rfl
theorem dJ1_put_2_0 : decode cJ1_put_2 0 = .ok (.aload_n 0, 1) := dk_42 (dk_at dksJ1_put_2_0 0 rfl rfl)
theorem dJ1_put_2_1 : decode cJ1_put_2 1 = .ok (.getfield 101, 3) := dk_180 0 101 (dk_at dksJ1_put_2_0 1 rfl rfl)
theorem dJ1_put_2_4 : decode cJ1_put_2 4 = .ok (.astore 4, 2) := dk_58 4 (dk_at dksJ1_put_2_0 4 rfl rfl)
theorem dJ1_put_2_6 : decode cJ1_put_2 6 = .ok (.aload 4, 2) := dk_25 4 (dk_at dksJ1_put_2_0 6 rfl rfl)
theorem dJ1_put_2_8 : decode cJ1_put_2 8 = .ok (.ifnonnull 11, 3) := dk_199 0 11 (dk_at dksJ1_put_2_0 8 rfl rfl)
theorem dJ1_put_2_11 : decode cJ1_put_2 11 = .ok (.aload_n 0, 1) := dk_42 (dk_at dksJ1_put_2_0 11 rfl rfl)
theorem dJ1_put_2_12 : decode cJ1_put_2 12 = .ok (.aload_n 1, 1) := dk_43 (dk_at dksJ1_put_2_0 12 rfl rfl)
theorem dJ1_put_2_13 : decode cJ1_put_2 13 = .ok (.aload_n 2, 1) := dk_44 (dk_at dksJ1_put_2_0 13 rfl rfl)
theorem dJ1_put_2_14 : decode cJ1_put_2 14 = .ok (.invokevirtual 135, 3) := dk_182 0 135 (dk_at dksJ1_put_2_0 14 rfl rfl)
theorem dJ1_put_2_17 : decode cJ1_put_2 17 = .ok (.aconst_null, 1) := dk_1 (dk_at dksJ1_put_2_0 17 rfl rfl)
theorem dJ1_put_2_18 : decode cJ1_put_2 18 = .ok (.areturn, 1) := dk_176 (dk_at dksJ1_put_2_0 18 rfl rfl)
theorem dJ1_put_2_19 : decode cJ1_put_2 19 = .ok (.aload_n 0, 1) := dk_42 (dk_at dksJ1_put_2_0 19 rfl rfl)
theorem dJ1_put_2_20 : decode cJ1_put_2 20 = .ok (.getfield 16, 3) := dk_180 0 16 (dk_at dksJ1_put_2_0 20 rfl rfl)
theorem dJ1_put_2_23 : decode cJ1_put_2 23 = .ok (.astore 7, 2) := dk_58 7 (dk_at dksJ1_put_2_1 0 rfl rfl)
theorem dJ1_put_2_25 : decode cJ1_put_2 25 = .ok (.aload 7, 2) := dk_25 7 (dk_at dksJ1_put_2_1 2 rfl rfl)
theorem dJ1_put_2_27 : decode cJ1_put_2 27 = .ok (.ifnull 85, 3) := dk_198 0 85 (dk_at dksJ1_put_2_1 4 rfl rfl)
theorem dJ1_put_2_30 : decode cJ1_put_2 30 = .ok (.aload 4, 2) := dk_25 4 (dk_at dksJ1_put_2_1 7 rfl rfl)
theorem dJ1_put_2_32 : decode cJ1_put_2 32 = .ok (.astore 6, 2) := dk_58 6 (dk_at dksJ1_put_2_1 9 rfl rfl)
theorem dJ1_put_2_34 : decode cJ1_put_2 34 = .ok (.aload 7, 2) := dk_25 7 (dk_at dksJ1_put_2_1 11 rfl rfl)
theorem dJ1_put_2_36 : decode cJ1_put_2 36 = .ok (.aload_n 1, 1) := dk_43 (dk_at dksJ1_put_2_1 13 rfl rfl)
theorem dJ1_put_2_37 : decode cJ1_put_2 37 = .ok (.aload 4, 2) := dk_25 4 (dk_at dksJ1_put_2_1 14 rfl rfl)
theorem dJ1_put_2_39 : decode cJ1_put_2 39 = .ok (.getfield 105, 3) := dk_180 0 105 (dk_at dksJ1_put_2_1 16 rfl rfl)
theorem dJ1_put_2_42 : decode cJ1_put_2 42 = .ok (.invokeinterface 117 3, 5) := by decide +kernel
theorem dJ1_put_2_47 : decode cJ1_put_2 47 = .ok (.istore 5, 2) := dk_54 5 (dk_at dksJ1_put_2_2 0 rfl rfl)
theorem dJ1_put_2_49 : decode cJ1_put_2 49 = .ok (.iload 5, 2) := dk_21 5 (dk_at dksJ1_put_2_2 2 rfl rfl)
theorem dJ1_put_2_51 : decode cJ1_put_2 51 = .ok (.ifCond .ge 13, 3) := dk_156 0 13 (dk_at dksJ1_put_2_2 4 rfl rfl)
theorem dJ1_put_2_54 : decode cJ1_put_2 54 = .ok (.aload 4, 2) := dk_25 4 (dk_at dksJ1_put_2_2 7 rfl rfl)
theorem dJ1_put_2_56 : decode cJ1_put_2 56 = .ok (.getfield 111, 3) := dk_180 0 111 (dk_at dksJ1_put_2_2 9 rfl rfl)
theorem dJ1_put_2_59 : decode cJ1_put_2 59 = .ok (.astore 4, 2) := dk_58 4 (dk_at dksJ1_put_2_2 12 rfl rfl)
theorem dJ1_put_2_61 : decode cJ1_put_2 61 = .ok (.goto 43, 3) := dk_167 0 43 (dk_at dksJ1_put_2_2 14 rfl rfl)
theorem dJ1_put_2_64 : decode cJ1_put_2 64 = .ok (.iload 5, 2) := dk_21 5 (dk_at dksJ1_put_2_2 17 rfl rfl)
theorem dJ1_put_2_66 : decode cJ1_put_2 66 = .ok (.ifCond .le 13, 3) := dk_158 0 13 (dk_at dksJ1_put_2_2 19 rfl rfl)
theorem dJ1_put_2_69 : decode cJ1_put_2 69 = .ok (.aload 4, 2) := dk_25 4 (dk_at dksJ1_put_2_2 22 rfl rfl)
theorem dJ1_put_2_71 : decode cJ1_put_2 71 = .ok (.getfield 114, 3) := dk_180 0 114 (dk_at dksJ1_put_2_3 0 rfl rfl)
theorem dJ1_put_2_74 : decode cJ1_put_2 74 = .ok (.astore 4, 2) := dk_58 4 (dk_at dksJ1_put_2_3 3 rfl rfl)
theorem dJ1_put_2_76 : decode cJ1_put_2 76 = .ok (.goto 28, 3) := dk_167 0 28 (dk_at dksJ1_put_2_3 5 rfl rfl)
theorem dJ1_put_2_79 : decode cJ1_put_2 79 = .ok (.aload 4, 2) := dk_25 4 (dk_at dksJ1_put_2_3 8 rfl rfl)
theorem dJ1_put_2_81 : decode cJ1_put_2 81 = .ok (.getfield 58, 3) := dk_180 0 58 (dk_at dksJ1_put_2_3 10 rfl rfl)
theorem dJ1_put_2_84 : decode cJ1_put_2 84 = .ok (.astore 8, 2) := dk_58 8 (dk_at dksJ1_put_2_3 13 rfl rfl)
theorem dJ1_put_2_86 : decode cJ1_put_2 86 = .ok (.iload_n 3, 1) := dk_29 (dk_at dksJ1_put_2_3 15 rfl rfl)
theorem dJ1_put_2_87 : decode cJ1_put_2 87 = .ok (.ifCond .ne 8, 3) := dk_154 0 8 (dk_at dksJ1_put_2_3 16 rfl rfl)
theorem dJ1_put_2_90 : decode cJ1_put_2 90 = .ok (.aload 8, 2) := dk_25 8 (dk_at dksJ1_put_2_3 19 rfl rfl)
theorem dJ1_put_2_92 : decode cJ1_put_2 92 = .ok (.ifnonnull 9, 3) := dk_199 0 9 (dk_at dksJ1_put_2_3 21 rfl rfl)
theorem dJ1_put_2_95 : decode cJ1_put_2 95 = .ok (.aload 4, 2) := dk_25 4 (dk_at dksJ1_put_2_4 0 rfl rfl)
theorem dJ1_put_2_97 : decode cJ1_put_2 97 = .ok (.aload_n 2, 1) := dk_44 (dk_at dksJ1_put_2_4 2 rfl rfl)
theorem dJ1_put_2_98 : decode cJ1_put_2 98 = .ok (.putfield 58, 3) := dk_181 0 58 (dk_at dksJ1_put_2_4 3 rfl rfl)
theorem dJ1_put_2_101 : decode cJ1_put_2 101 = .ok (.aload 8, 2) := dk_25 8 (dk_at dksJ1_put_2_4 6 rfl rfl)
theorem dJ1_put_2_103 : decode cJ1_put_2 103 = .ok (.areturn, 1) := dk_176 (dk_at dksJ1_put_2_4 8 rfl rfl)
theorem dJ1_put_2_104 : decode cJ1_put_2 104 = .ok (.aload 4, 2) := dk_25 4 (dk_at dksJ1_put_2_4 9 rfl rfl)
theorem dJ1_put_2_106 : decode cJ1_put_2 106 = .ok (.ifnonnull (-76), 3) := dk_199 255 180 (dk_at dksJ1_put_2_4 11 rfl rfl)
theorem dJ1_put_2_109 : decode cJ1_put_2 109 = .ok (.goto 92, 3) := dk_167 0 92 (dk_at dksJ1_put_2_4 14 rfl rfl)
theorem dJ1_put_2_112 : decode cJ1_put_2 112 = .ok (.aload_n 1, 1) := dk_43 (dk_at dksJ1_put_2_4 17 rfl rfl)
theorem dJ1_put_2_113 : decode cJ1_put_2 113 = .ok (.invokestatic 95, 3) := dk_184 0 95 (dk_at dksJ1_put_2_4 18 rfl rfl)
theorem dJ1_put_2_116 : decode cJ1_put_2 116 = .ok (.pop, 1) := dk_87 (dk_at dksJ1_put_2_4 21 rfl rfl)
theorem dJ1_put_2_117 : decode cJ1_put_2 117 = .ok (.aload_n 1, 1) := dk_43 (dk_at dksJ1_put_2_4 22 rfl rfl)
theorem dJ1_put_2_118 : decode cJ1_put_2 118 = .ok (.checkcast 99, 3) := dk_192 0 99 (dk_at dksJ1_put_2_5 0 rfl rfl)
theorem dJ1_put_2_121 : decode cJ1_put_2 121 = .ok (.astore 8, 2) := dk_58 8 (dk_at dksJ1_put_2_5 3 rfl rfl)
theorem dJ1_put_2_123 : decode cJ1_put_2 123 = .ok (.aload 4, 2) := dk_25 4 (dk_at dksJ1_put_2_5 5 rfl rfl)
theorem dJ1_put_2_125 : decode cJ1_put_2 125 = .ok (.astore 6, 2) := dk_58 6 (dk_at dksJ1_put_2_5 7 rfl rfl)
theorem dJ1_put_2_127 : decode cJ1_put_2 127 = .ok (.aload 8, 2) := dk_25 8 (dk_at dksJ1_put_2_5 9 rfl rfl)
theorem dJ1_put_2_129 : decode cJ1_put_2 129 = .ok (.aload 4, 2) := dk_25 4 (dk_at dksJ1_put_2_5 11 rfl rfl)
theorem dJ1_put_2_131 : decode cJ1_put_2 131 = .ok (.getfield 105, 3) := dk_180 0 105 (dk_at dksJ1_put_2_5 13 rfl rfl)
theorem dJ1_put_2_134 : decode cJ1_put_2 134 = .ok (.invokeinterface 107 2, 5) := by decide +kernel
theorem dJ1_put_2_139 : decode cJ1_put_2 139 = .ok (.istore 5, 2) := dk_54 5 (dk_at dksJ1_put_2_5 21 rfl rfl)
theorem dJ1_put_2_141 : decode cJ1_put_2 141 = .ok (.iload 5, 2) := dk_21 5 (dk_at dksJ1_put_2_6 0 rfl rfl)
theorem dJ1_put_2_143 : decode cJ1_put_2 143 = .ok (.ifCond .ge 13, 3) := dk_156 0 13 (dk_at dksJ1_put_2_6 2 rfl rfl)
theorem dJ1_put_2_146 : decode cJ1_put_2 146 = .ok (.aload 4, 2) := dk_25 4 (dk_at dksJ1_put_2_6 5 rfl rfl)
theorem dJ1_put_2_148 : decode cJ1_put_2 148 = .ok (.getfield 111, 3) := dk_180 0 111 (dk_at dksJ1_put_2_6 7 rfl rfl)
theorem dJ1_put_2_151 : decode cJ1_put_2 151 = .ok (.astore 4, 2) := dk_58 4 (dk_at dksJ1_put_2_6 10 rfl rfl)
theorem dJ1_put_2_153 : decode cJ1_put_2 153 = .ok (.goto 43, 3) := dk_167 0 43 (dk_at dksJ1_put_2_6 12 rfl rfl)
theorem dJ1_put_2_156 : decode cJ1_put_2 156 = .ok (.iload 5, 2) := dk_21 5 (dk_at dksJ1_put_2_6 15 rfl rfl)
theorem dJ1_put_2_158 : decode cJ1_put_2 158 = .ok (.ifCond .le 13, 3) := dk_158 0 13 (dk_at dksJ1_put_2_6 17 rfl rfl)
theorem dJ1_put_2_161 : decode cJ1_put_2 161 = .ok (.aload 4, 2) := dk_25 4 (dk_at dksJ1_put_2_6 20 rfl rfl)
theorem dJ1_put_2_163 : decode cJ1_put_2 163 = .ok (.getfield 114, 3) := dk_180 0 114 (dk_at dksJ1_put_2_7 0 rfl rfl)
theorem dJ1_put_2_166 : decode cJ1_put_2 166 = .ok (.astore 4, 2) := dk_58 4 (dk_at dksJ1_put_2_7 3 rfl rfl)
theorem dJ1_put_2_168 : decode cJ1_put_2 168 = .ok (.goto 28, 3) := dk_167 0 28 (dk_at dksJ1_put_2_7 5 rfl rfl)
theorem dJ1_put_2_171 : decode cJ1_put_2 171 = .ok (.aload 4, 2) := dk_25 4 (dk_at dksJ1_put_2_7 8 rfl rfl)
theorem dJ1_put_2_173 : decode cJ1_put_2 173 = .ok (.getfield 58, 3) := dk_180 0 58 (dk_at dksJ1_put_2_7 10 rfl rfl)
theorem dJ1_put_2_176 : decode cJ1_put_2 176 = .ok (.astore 9, 2) := dk_58 9 (dk_at dksJ1_put_2_7 13 rfl rfl)
theorem dJ1_put_2_178 : decode cJ1_put_2 178 = .ok (.iload_n 3, 1) := dk_29 (dk_at dksJ1_put_2_7 15 rfl rfl)
theorem dJ1_put_2_179 : decode cJ1_put_2 179 = .ok (.ifCond .ne 8, 3) := dk_154 0 8 (dk_at dksJ1_put_2_7 16 rfl rfl)
theorem dJ1_put_2_182 : decode cJ1_put_2 182 = .ok (.aload 9, 2) := dk_25 9 (dk_at dksJ1_put_2_7 19 rfl rfl)
theorem dJ1_put_2_184 : decode cJ1_put_2 184 = .ok (.ifnonnull 9, 3) := dk_199 0 9 (dk_at dksJ1_put_2_7 21 rfl rfl)
theorem dJ1_put_2_187 : decode cJ1_put_2 187 = .ok (.aload 4, 2) := dk_25 4 (dk_at dksJ1_put_2_8 0 rfl rfl)
theorem dJ1_put_2_189 : decode cJ1_put_2 189 = .ok (.aload_n 2, 1) := dk_44 (dk_at dksJ1_put_2_8 2 rfl rfl)
theorem dJ1_put_2_190 : decode cJ1_put_2 190 = .ok (.putfield 58, 3) := dk_181 0 58 (dk_at dksJ1_put_2_8 3 rfl rfl)
theorem dJ1_put_2_193 : decode cJ1_put_2 193 = .ok (.aload 9, 2) := dk_25 9 (dk_at dksJ1_put_2_8 6 rfl rfl)
theorem dJ1_put_2_195 : decode cJ1_put_2 195 = .ok (.areturn, 1) := dk_176 (dk_at dksJ1_put_2_8 8 rfl rfl)
theorem dJ1_put_2_196 : decode cJ1_put_2 196 = .ok (.aload 4, 2) := dk_25 4 (dk_at dksJ1_put_2_8 9 rfl rfl)
theorem dJ1_put_2_198 : decode cJ1_put_2 198 = .ok (.ifnonnull (-75), 3) := dk_199 255 181 (dk_at dksJ1_put_2_8 11 rfl rfl)
theorem dJ1_put_2_201 : decode cJ1_put_2 201 = .ok (.aload_n 0, 1) := dk_42 (dk_at dksJ1_put_2_8 14 rfl rfl)
theorem dJ1_put_2_202 : decode cJ1_put_2 202 = .ok (.aload_n 1, 1) := dk_43 (dk_at dksJ1_put_2_8 15 rfl rfl)
theorem dJ1_put_2_203 : decode cJ1_put_2 203 = .ok (.aload_n 2, 1) := dk_44 (dk_at dksJ1_put_2_8 16 rfl rfl)
theorem dJ1_put_2_204 : decode cJ1_put_2 204 = .ok (.aload 6, 2) := dk_25 6 (dk_at dksJ1_put_2_8 17 rfl rfl)
theorem dJ1_put_2_206 : decode cJ1_put_2 206 = .ok (.iload 5, 2) := dk_21 5 (dk_at dksJ1_put_2_8 19 rfl rfl)
theorem dJ1_put_2_208 : decode cJ1_put_2 208 = .ok (.ifCond .ge 7, 3) := dk_156 0 7 (dk_at dksJ1_put_2_8 21 rfl rfl)
theorem dJ1_put_2_211 : decode cJ1_put_2 211 = .ok (.iconst 1, 1) := dk_4 (dk_at dksJ1_put_2_9 0 rfl rfl)
theorem dJ1_put_2_212 : decode cJ1_put_2 212 = .ok (.goto 4, 3) := dk_167 0 4 (dk_at dksJ1_put_2_9 1 rfl rfl)
theorem dJ1_put_2_215 : decode cJ1_put_2 215 = .ok (.iconst 0, 1) := dk_3 (dk_at dksJ1_put_2_9 4 rfl rfl)
theorem dJ1_put_2_216 : decode cJ1_put_2 216 = .ok (.invokevirtual 139, 3) := dk_182 0 139 (dk_at dksJ1_put_2_9 5 rfl rfl)
theorem dJ1_put_2_219 : decode cJ1_put_2 219 = .ok (.aconst_null, 1) := dk_1 (dk_at dksJ1_put_2_9 8 rfl rfl)
theorem dJ1_put_2_220 : decode cJ1_put_2 220 = .ok (.areturn, 1) := dk_176 (dk_at dksJ1_put_2_9 9 rfl rfl)
def dkwJ1_addEntryToEmptyMap_1 : List UInt8 := [181, 0, 7, 42, 89, 180, 0, 13, 4, 96, 181, 0, 13, 177]
abbrev dktJ1_addEntryToEmptyMap_1 : List UInt8 := dkwJ1_addEntryToEmptyMap_1 ++ []
def dkwJ1_addEntryToEmptyMap_0 : List UInt8 := [42, 43, 43, 182, 0, 123, 87, 42, 187, 0, 59, 89, 43, 44, 1, 183, 0, 167, 181, 0, 101, 42, 4]
abbrev dktJ1_addEntryToEmptyMap_0 : List UInt8 := dkwJ1_addEntryToEmptyMap_0 ++ dktJ1_addEntryToEmptyMap_1
theorem dksJ1_addEntryToEmptyMap_0 : cJ1_addEntryToEmptyMap.data.toList.drop 0 = dktJ1_addEntryToEmptyMap_0 := by decide +kernel
theorem dksJ1_addEntryToEmptyMap_1 : cJ1_addEntryToEmptyMap.data.toList.drop 23 = dktJ1_addEntryToEmptyMap_1 := dk_seg dksJ1_addEntryToEmptyMap_0 23 rfl rfl
theorem dJ1_addEntryToEmptyMap_0 : decode cJ1_addEntryToEmptyMap 0 = .ok (.aload_n 0, 1) := dk_42 (dk_at dksJ1_addEntryToEmptyMap_0 0 rfl rfl)
theorem dJ1_addEntryToEmptyMap_1 : decode cJ1_addEntryToEmptyMap 1 = .ok (.aload_n 1, 1) := dk_43 (dk_at dksJ1_addEntryToEmptyMap_0 1 rfl rfl)
theorem dJ1_addEntryToEmptyMap_2 : decode cJ1_addEntryToEmptyMap 2 = .ok (.aload_n 1, 1) := dk_43 (dk_at dksJ1_addEntryToEmptyMap_0 2 rfl rfl)
theorem dJ1_addEntryToEmptyMap_3 : decode cJ1_addEntryToEmptyMap 3 = .ok (.invokevirtual 123, 3) := dk_182 0 123 (dk_at dksJ1_addEntryToEmptyMap_0 3 rfl rfl)
theorem dJ1_addEntryToEmptyMap_6 : decode cJ1_addEntryToEmptyMap 6 = .ok (.pop, 1) := dk_87 (dk_at dksJ1_addEntryToEmptyMap_0 6 rfl rfl)
theorem dJ1_addEntryToEmptyMap_7 : decode cJ1_addEntryToEmptyMap 7 = .ok (.aload_n 0, 1) := dk_42 (dk_at dksJ1_addEntryToEmptyMap_0 7 rfl rfl)
theorem dJ1_addEntryToEmptyMap_8 : decode cJ1_addEntryToEmptyMap 8 = .ok (.new 59, 3) := dk_187 0 59 (dk_at dksJ1_addEntryToEmptyMap_0 8 rfl rfl)
theorem dJ1_addEntryToEmptyMap_11 : decode cJ1_addEntryToEmptyMap 11 = .ok (.dup, 1) := dk_89 (dk_at dksJ1_addEntryToEmptyMap_0 11 rfl rfl)
theorem dJ1_addEntryToEmptyMap_12 : decode cJ1_addEntryToEmptyMap 12 = .ok (.aload_n 1, 1) := dk_43 (dk_at dksJ1_addEntryToEmptyMap_0 12 rfl rfl)
theorem dJ1_addEntryToEmptyMap_13 : decode cJ1_addEntryToEmptyMap 13 = .ok (.aload_n 2, 1) := dk_44 (dk_at dksJ1_addEntryToEmptyMap_0 13 rfl rfl)
theorem dJ1_addEntryToEmptyMap_14 : decode cJ1_addEntryToEmptyMap 14 = .ok (.aconst_null, 1) := dk_1 (dk_at dksJ1_addEntryToEmptyMap_0 14 rfl rfl)
theorem dJ1_addEntryToEmptyMap_15 : decode cJ1_addEntryToEmptyMap 15 = .ok (.invokespecial 167, 3) := dk_183 0 167 (dk_at dksJ1_addEntryToEmptyMap_0 15 rfl rfl)
theorem dJ1_addEntryToEmptyMap_18 : decode cJ1_addEntryToEmptyMap 18 = .ok (.putfield 101, 3) := dk_181 0 101 (dk_at dksJ1_addEntryToEmptyMap_0 18 rfl rfl)
theorem dJ1_addEntryToEmptyMap_21 : decode cJ1_addEntryToEmptyMap 21 = .ok (.aload_n 0, 1) := dk_42 (dk_at dksJ1_addEntryToEmptyMap_0 21 rfl rfl)
theorem dJ1_addEntryToEmptyMap_22 : decode cJ1_addEntryToEmptyMap 22 = .ok (.iconst 1, 1) := dk_4 (dk_at dksJ1_addEntryToEmptyMap_0 22 rfl rfl)
theorem dJ1_addEntryToEmptyMap_23 : decode cJ1_addEntryToEmptyMap 23 = .ok (.putfield 7, 3) := dk_181 0 7 (dk_at dksJ1_addEntryToEmptyMap_1 0 rfl rfl)
theorem dJ1_addEntryToEmptyMap_26 : decode cJ1_addEntryToEmptyMap 26 = .ok (.aload_n 0, 1) := dk_42 (dk_at dksJ1_addEntryToEmptyMap_1 3 rfl rfl)
theorem dJ1_addEntryToEmptyMap_27 : decode cJ1_addEntryToEmptyMap 27 = .ok (.dup, 1) := dk_89 (dk_at dksJ1_addEntryToEmptyMap_1 4 rfl rfl)
theorem dJ1_addEntryToEmptyMap_28 : decode cJ1_addEntryToEmptyMap 28 = .ok (.getfield 13, 3) := dk_180 0 13 (dk_at dksJ1_addEntryToEmptyMap_1 5 rfl rfl)
theorem dJ1_addEntryToEmptyMap_31 : decode cJ1_addEntryToEmptyMap 31 = .ok (.iconst 1, 1) := dk_4 (dk_at dksJ1_addEntryToEmptyMap_1 8 rfl rfl)
theorem dJ1_addEntryToEmptyMap_32 : decode cJ1_addEntryToEmptyMap 32 = .ok (.iadd, 1) := dk_96 (dk_at dksJ1_addEntryToEmptyMap_1 9 rfl rfl)
theorem dJ1_addEntryToEmptyMap_33 : decode cJ1_addEntryToEmptyMap 33 = .ok (.putfield 13, 3) := dk_181 0 13 (dk_at dksJ1_addEntryToEmptyMap_1 10 rfl rfl)
theorem dJ1_addEntryToEmptyMap_36 : decode cJ1_addEntryToEmptyMap 36 = .ok (.return_, 1) := dk_177 (dk_at dksJ1_addEntryToEmptyMap_1 13 rfl rfl)
def dkwJ1_compare_1 : List UInt8 := [43, 44, 185, 0, 117, 3, 0, 172]
abbrev dktJ1_compare_1 : List UInt8 := dkwJ1_compare_1 ++ []
def dkwJ1_compare_0 : List UInt8 := [42, 180, 0, 16, 199, 0, 16, 43, 192, 0, 99, 44, 185, 0, 107, 2, 0, 167, 0, 14, 42, 180, 0, 16]
abbrev dktJ1_compare_0 : List UInt8 := dkwJ1_compare_0 ++ dktJ1_compare_1
theorem dksJ1_compare_0 : cJ1_compare.data.toList.drop 0 = dktJ1_compare_0 := by decide +kernel
theorem dksJ1_compare_1 : cJ1_compare.data.toList.drop 24 = dktJ1_compare_1 := dk_seg dksJ1_compare_0 24 rfl rfl
theorem dJ1_compare_0 : decode cJ1_compare 0 = .ok (.aload_n 0, 1) := dk_42 (dk_at dksJ1_compare_0 0 rfl rfl)
theorem dJ1_compare_1 : decode cJ1_compare 1 = .ok (.getfield 16, 3) := dk_180 0 16 (dk_at dksJ1_compare_0 1 rfl rfl)
theorem dJ1_compare_4 : decode cJ1_compare 4 = .ok (.ifnonnull 16, 3) := dk_199 0 16 (dk_at dksJ1_compare_0 4 rfl rfl)
theorem dJ1_compare_7 : decode cJ1_compare 7 = .ok (.aload_n 1, 1) := dk_43 (dk_at dksJ1_compare_0 7 rfl rfl)
theorem dJ1_compare_8 : decode cJ1_compare 8 = .ok (.checkcast 99, 3) := dk_192 0 99 (dk_at dksJ1_compare_0 8 rfl rfl)
theorem dJ1_compare_11 : decode cJ1_compare 11 = .ok (.aload_n 2, 1) := dk_44 (dk_at dksJ1_compare_0 11 rfl rfl)
theorem dJ1_compare_12 : decode cJ1_compare 12 = .ok (.invokeinterface 107 2, 5) := by decide +kernel
theorem dJ1_compare_17 : decode cJ1_compare 17 = .ok (.goto 14, 3) := dk_167 0 14 (dk_at dksJ1_compare_0 17 rfl rfl)
theorem dJ1_compare_20 : decode cJ1_compare 20 = .ok (.aload_n 0, 1) := dk_42 (dk_at dksJ1_compare_0 20 rfl rfl)
theorem dJ1_compare_21 : decode cJ1_compare 21 = .ok (.getfield 16, 3) := dk_180 0 16 (dk_at dksJ1_compare_0 21 rfl rfl)
theorem dJ1_compare_24 : decode cJ1_compare 24 = .ok (.aload_n 1, 1) := dk_43 (dk_at dksJ1_compare_1 0 rfl rfl)
theorem dJ1_compare_25 : decode cJ1_compare 25 = .ok (.aload_n 2, 1) := dk_44 (dk_at dksJ1_compare_1 1 rfl rfl)
theorem dJ1_compare_26 : decode cJ1_compare 26 = .ok (.invokeinterface 117 3, 5) := by decide +kernel
theorem dJ1_compare_31 : decode cJ1_compare 31 = .ok (.ireturn, 1) := dk_172 (dk_at dksJ1_compare_1 7 rfl rfl)
def dkwJ1_addEntry_2 : List UInt8 := [181, 0, 7, 42, 89, 180, 0, 13, 4, 96, 181, 0, 13, 177]
abbrev dktJ1_addEntry_2 : List UInt8 := dkwJ1_addEntry_2 ++ []
def dkwJ1_addEntry_1 : List UInt8 := [167, 0, 9, 45, 25, 5, 181, 0, 114, 42, 25, 5, 182, 0, 170, 42, 89, 180, 0, 7, 4, 96]
abbrev dktJ1_addEntry_1 : List UInt8 := dkwJ1_addEntry_1 ++ dktJ1_addEntry_2
def dkwJ1_addEntry_0 : List UInt8 := [187, 0, 59, 89, 43, 44, 45, 183, 0, 167, 58, 5, 21, 4, 153, 0, 12, 45, 25, 5, 181, 0, 111]
abbrev dktJ1_addEntry_0 : List UInt8 := dkwJ1_addEntry_0 ++ dktJ1_addEntry_1
theorem dksJ1_addEntry_0 : cJ1_addEntry.data.toList.drop 0 = dktJ1_addEntry_0 := by decide +kernel
theorem dksJ1_addEntry_1 : cJ1_addEntry.data.toList.drop 23 = dktJ1_addEntry_1 := dk_seg dksJ1_addEntry_0 23 rfl rfl
theorem dksJ1_addEntry_2 : cJ1_addEntry.data.toList.drop 45 = dktJ1_addEntry_2 := dk_seg dksJ1_addEntry_1 22 rfl rfl
theorem dJ1_addEntry_0 : decode cJ1_addEntry 0 = .ok (.new 59, 3) := dk_187 0 59 (dk_at dksJ1_addEntry_0 0 rfl rfl)
theorem dJ1_addEntry_3 : decode cJ1_addEntry 3 = .ok (.dup, 1) := dk_89 (dk_at dksJ1_addEntry_0 3 rfl rfl)
theorem dJ1_addEntry_4 : decode cJ1_addEntry 4 = .ok (.aload_n 1, 1) := dk_43 (dk_at dksJ1_addEntry_0 4 rfl rfl)
theorem dJ1_addEntry_5 : decode cJ1_addEntry 5 = .ok (.aload_n 2, 1) := dk_44 (dk_at dksJ1_addEntry_0 5 rfl rfl)
theorem dJ1_addEntry_6 : decode cJ1_addEntry 6 = .ok (.aload_n 3, 1) := dk_45 (dk_at dksJ1_addEntry_0 6 rfl rfl)
theorem dJ1_addEntry_7 : decode cJ1_addEntry 7 = .ok (.invokespecial 167, 3) := dk_183 0 167 (dk_at dksJ1_addEntry_0 7 rfl rfl)
theorem dJ1_addEntry_10 : decode cJ1_addEntry 10 = .ok (.astore 5, 2) := dk_58 5 (dk_at dksJ1_addEntry_0 10 rfl rfl)
theorem dJ1_addEntry_12 : decode cJ1_addEntry 12 = .ok (.iload 4, 2) := dk_21 4 (dk_at dksJ1_addEntry_0 12 rfl rfl)
theorem dJ1_addEntry_14 : decode cJ1_addEntry 14 = .ok (.ifCond .eq 12, 3) := dk_153 0 12 (dk_at dksJ1_addEntry_0 14 rfl rfl)
theorem dJ1_addEntry_17 : decode cJ1_addEntry 17 = .ok (.aload_n 3, 1) := dk_45 (dk_at dksJ1_addEntry_0 17 rfl rfl)
theorem dJ1_addEntry_18 : decode cJ1_addEntry 18 = .ok (.aload 5, 2) := dk_25 5 (dk_at dksJ1_addEntry_0 18 rfl rfl)
theorem dJ1_addEntry_20 : decode cJ1_addEntry 20 = .ok (.putfield 111, 3) := dk_181 0 111 (dk_at dksJ1_addEntry_0 20 rfl rfl)
theorem dJ1_addEntry_23 : decode cJ1_addEntry 23 = .ok (.goto 9, 3) := dk_167 0 9 (dk_at dksJ1_addEntry_1 0 rfl rfl)
theorem dJ1_addEntry_26 : decode cJ1_addEntry 26 = .ok (.aload_n 3, 1) := dk_45 (dk_at dksJ1_addEntry_1 3 rfl rfl)
theorem dJ1_addEntry_27 : decode cJ1_addEntry 27 = .ok (.aload 5, 2) := dk_25 5 (dk_at dksJ1_addEntry_1 4 rfl rfl)
theorem dJ1_addEntry_29 : decode cJ1_addEntry 29 = .ok (.putfield 114, 3) := dk_181 0 114 (dk_at dksJ1_addEntry_1 6 rfl rfl)
theorem dJ1_addEntry_32 : decode cJ1_addEntry 32 = .ok (.aload_n 0, 1) := dk_42 (dk_at dksJ1_addEntry_1 9 rfl rfl)
theorem dJ1_addEntry_33 : decode cJ1_addEntry 33 = .ok (.aload 5, 2) := dk_25 5 (dk_at dksJ1_addEntry_1 10 rfl rfl)
theorem dJ1_addEntry_35 : decode cJ1_addEntry 35 = .ok (.invokevirtual 170, 3) := dk_182 0 170 (dk_at dksJ1_addEntry_1 12 rfl rfl)
theorem dJ1_addEntry_38 : decode cJ1_addEntry 38 = .ok (.aload_n 0, 1) := dk_42 (dk_at dksJ1_addEntry_1 15 rfl rfl)
theorem dJ1_addEntry_39 : decode cJ1_addEntry 39 = .ok (.dup, 1) := dk_89 (dk_at dksJ1_addEntry_1 16 rfl rfl)
theorem dJ1_addEntry_40 : decode cJ1_addEntry 40 = .ok (.getfield 7, 3) := dk_180 0 7 (dk_at dksJ1_addEntry_1 17 rfl rfl)
theorem dJ1_addEntry_43 : decode cJ1_addEntry 43 = .ok (.iconst 1, 1) := dk_4 (dk_at dksJ1_addEntry_1 20 rfl rfl)
theorem dJ1_addEntry_44 : decode cJ1_addEntry 44 = .ok (.iadd, 1) := dk_96 (dk_at dksJ1_addEntry_1 21 rfl rfl)
theorem dJ1_addEntry_45 : decode cJ1_addEntry 45 = .ok (.putfield 7, 3) := dk_181 0 7 (dk_at dksJ1_addEntry_2 0 rfl rfl)
theorem dJ1_addEntry_48 : decode cJ1_addEntry 48 = .ok (.aload_n 0, 1) := dk_42 (dk_at dksJ1_addEntry_2 3 rfl rfl)
theorem dJ1_addEntry_49 : decode cJ1_addEntry 49 = .ok (.dup, 1) := dk_89 (dk_at dksJ1_addEntry_2 4 rfl rfl)
theorem dJ1_addEntry_50 : decode cJ1_addEntry 50 = .ok (.getfield 13, 3) := dk_180 0 13 (dk_at dksJ1_addEntry_2 5 rfl rfl)
theorem dJ1_addEntry_53 : decode cJ1_addEntry 53 = .ok (.iconst 1, 1) := dk_4 (dk_at dksJ1_addEntry_2 8 rfl rfl)
theorem dJ1_addEntry_54 : decode cJ1_addEntry 54 = .ok (.iadd, 1) := dk_96 (dk_at dksJ1_addEntry_2 9 rfl rfl)
theorem dJ1_addEntry_55 : decode cJ1_addEntry 55 = .ok (.putfield 13, 3) := dk_181 0 13 (dk_at dksJ1_addEntry_2 10 rfl rfl)
theorem dJ1_addEntry_58 : decode cJ1_addEntry 58 = .ok (.return_, 1) := dk_177 (dk_at dksJ1_addEntry_2 13 rfl rfl)
def dkwJ1_fixAfterInsertion_11 : List UInt8 := [42, 180, 0, 101, 4, 181, 1, 34, 177]
abbrev dktJ1_fixAfterInsertion_11 : List UInt8 := dkwJ1_fixAfterInsertion_11 ++ []
def dkwJ1_fixAfterInsertion_10 : List UInt8 := [184, 1, 38, 184, 1, 38, 3, 184, 1, 51, 42, 43, 184, 1, 38, 184, 1, 38, 182, 1, 55, 167, 255, 6]
abbrev dktJ1_fixAfterInsertion_10 : List UInt8 := dkwJ1_fixAfterInsertion_10 ++ dktJ1_fixAfterInsertion_11
def dkwJ1_fixAfterInsertion_9 : List UInt8 := [166, 0, 13, 43, 184, 1, 38, 76, 42, 43, 182, 1, 58, 43, 184, 1, 38, 4, 184, 1, 51, 43]
abbrev dktJ1_fixAfterInsertion_9 : List UInt8 := dkwJ1_fixAfterInsertion_9 ++ dktJ1_fixAfterInsertion_10
def dkwJ1_fixAfterInsertion_8 : List UInt8 := [184, 1, 51, 43, 184, 1, 38, 184, 1, 38, 76, 167, 0, 54, 43, 43, 184, 1, 38, 184, 1, 41]
abbrev dktJ1_fixAfterInsertion_8 : List UInt8 := dkwJ1_fixAfterInsertion_8 ++ dktJ1_fixAfterInsertion_9
def dkwJ1_fixAfterInsertion_7 : List UInt8 := [154, 0, 38, 43, 184, 1, 38, 4, 184, 1, 51, 44, 4, 184, 1, 51, 43, 184, 1, 38, 184, 1, 38, 3]
abbrev dktJ1_fixAfterInsertion_7 : List UInt8 := dkwJ1_fixAfterInsertion_7 ++ dktJ1_fixAfterInsertion_8
def dkwJ1_fixAfterInsertion_6 : List UInt8 := [184, 1, 38, 182, 1, 58, 167, 255, 113, 43, 184, 1, 38, 184, 1, 38, 184, 1, 41, 77, 44, 184, 1, 47]
abbrev dktJ1_fixAfterInsertion_6 : List UInt8 := dkwJ1_fixAfterInsertion_6 ++ dktJ1_fixAfterInsertion_7
def dkwJ1_fixAfterInsertion_5 : List UInt8 := [43, 184, 1, 38, 4, 184, 1, 51, 43, 184, 1, 38, 184, 1, 38, 3, 184, 1, 51, 42, 43, 184, 1, 38]
abbrev dktJ1_fixAfterInsertion_5 : List UInt8 := dkwJ1_fixAfterInsertion_5 ++ dktJ1_fixAfterInsertion_6
def dkwJ1_fixAfterInsertion_4 : List UInt8 := [167, 0, 54, 43, 43, 184, 1, 38, 184, 1, 44, 166, 0, 13, 43, 184, 1, 38, 76, 42, 43, 182, 1, 55]
abbrev dktJ1_fixAfterInsertion_4 : List UInt8 := dkwJ1_fixAfterInsertion_4 ++ dktJ1_fixAfterInsertion_5
def dkwJ1_fixAfterInsertion_3 : List UInt8 := [184, 1, 51, 43, 184, 1, 38, 184, 1, 38, 3, 184, 1, 51, 43, 184, 1, 38, 184, 1, 38, 76]
abbrev dktJ1_fixAfterInsertion_3 : List UInt8 := dkwJ1_fixAfterInsertion_3 ++ dktJ1_fixAfterInsertion_4
def dkwJ1_fixAfterInsertion_2 : List UInt8 := [184, 1, 38, 184, 1, 44, 77, 44, 184, 1, 47, 154, 0, 38, 43, 184, 1, 38, 4, 184, 1, 51, 44, 4]
abbrev dktJ1_fixAfterInsertion_2 : List UInt8 := dkwJ1_fixAfterInsertion_2 ++ dktJ1_fixAfterInsertion_3
def dkwJ1_fixAfterInsertion_1 : List UInt8 := [154, 0, 234, 43, 184, 1, 38, 43, 184, 1, 38, 184, 1, 38, 184, 1, 41, 166, 0, 110, 43, 184, 1, 38]
abbrev dktJ1_fixAfterInsertion_1 : List UInt8 := dkwJ1_fixAfterInsertion_1 ++ dktJ1_fixAfterInsertion_2
def dkwJ1_fixAfterInsertion_0 : List UInt8 := [43, 3, 181, 1, 34, 43, 198, 0, 252, 43, 42, 180, 0, 101, 165, 0, 244, 43, 180, 0, 124, 180, 1, 34]
abbrev dktJ1_fixAfterInsertion_0 : List UInt8 := dkwJ1_fixAfterInsertion_0 ++ dktJ1_fixAfterInsertion_1
theorem dksJ1_fixAfterInsertion_0 : cJ1_fixAfterInsertion.data.toList.drop 0 = dktJ1_fixAfterInsertion_0 := by decide +kernel
theorem dksJ1_fixAfterInsertion_1 : cJ1_fixAfterInsertion.data.toList.drop 24 = dktJ1_fixAfterInsertion_1 := dk_seg dksJ1_fixAfterInsertion_0 24 rfl rfl
theorem dksJ1_fixAfterInsertion_2 : cJ1_fixAfterInsertion.data.toList.drop 48 = dktJ1_fixAfterInsertion_2 := dk_seg dksJ1_fixAfterInsertion_1 24 rfl rfl
theorem dksJ1_fixAfterInsertion_3 : cJ1_fixAfterInsertion.data.toList.drop 72 = dktJ1_fixAfterInsertion_3 := dk_seg dksJ1_fixAfterInsertion_2 24 rfl rfl
theorem dksJ1_fixAfterInsertion_4 : cJ1_fixAfterInsertion.data.toList.drop 94 = dktJ1_fixAfterInsertion_4 := dk_seg dksJ1_fixAfterInsertion_3 22 rfl rfl
theorem dksJ1_fixAfterInsertion_5 : cJ1_fixAfterInsertion.data.toList.drop 118 = dktJ1_fixAfterInsertion_5 := dk_seg dksJ1_fixAfterInsertion_4 24 rfl rfl
theorem dksJ1_fixAfterInsertion_6 : cJ1_fixAfterInsertion.data.toList.drop 142 = dktJ1_fixAfterInsertion_6 := dk_seg dksJ1_fixAfterInsertion_5 24 rfl rfl
theorem dksJ1_fixAfterInsertion_7 : cJ1_fixAfterInsertion.data.toList.drop 166 = dktJ1_fixAfterInsertion_7 := dk_seg dksJ1_fixAfterInsertion_6 24 rfl rfl
theorem dksJ1_fixAfterInsertion_8 : cJ1_fixAfterInsertion.data.toList.drop 190 = dktJ1_fixAfterInsertion_8 := dk_seg dksJ1_fixAfterInsertion_7 24 rfl rfl
theorem dksJ1_fixAfterInsertion_9 : cJ1_fixAfterInsertion.data.toList.drop 212 = dktJ1_fixAfterInsertion_9 := dk_seg dksJ1_fixAfterInsertion_8 22 rfl rfl
theorem dksJ1_fixAfterInsertion_10 : cJ1_fixAfterInsertion.data.toList.drop 234 = dktJ1_fixAfterInsertion_10 := dk_seg dksJ1_fixAfterInsertion_9 22 rfl rfl
theorem dksJ1_fixAfterInsertion_11 : cJ1_fixAfterInsertion.data.toList.drop 258 = dktJ1_fixAfterInsertion_11 := dk_seg dksJ1_fixAfterInsertion_10 24 rfl rfl
theorem dJ1_fixAfterInsertion_0 : decode cJ1_fixAfterInsertion 0 = .ok (.aload_n 1, 1) := dk_43 (dk_at dksJ1_fixAfterInsertion_0 0 rfl rfl)
theorem dJ1_fixAfterInsertion_1 : decode cJ1_fixAfterInsertion 1 = .ok (.iconst 0, 1) := dk_3 (dk_at dksJ1_fixAfterInsertion_0 1 rfl rfl)
theorem dJ1_fixAfterInsertion_2 : decode cJ1_fixAfterInsertion 2 = .ok (.putfield 290, 3) := dk_181 1 34 (dk_at dksJ1_fixAfterInsertion_0 2 rfl rfl)
theorem dJ1_fixAfterInsertion_5 : decode cJ1_fixAfterInsertion 5 = .ok (.aload_n 1, 1) := dk_43 (dk_at dksJ1_fixAfterInsertion_0 5 rfl rfl)
theorem dJ1_fixAfterInsertion_6 : decode cJ1_fixAfterInsertion 6 = .ok (.ifnull 252, 3) := dk_198 0 252 (dk_at dksJ1_fixAfterInsertion_0 6 rfl rfl)
theorem dJ1_fixAfterInsertion_9 : decode cJ1_fixAfterInsertion 9 = .ok (.aload_n 1, 1) := dk_43 (dk_at dksJ1_fixAfterInsertion_0 9 rfl rfl)
theorem dJ1_fixAfterInsertion_10 : decode cJ1_fixAfterInsertion 10 = .ok (.aload_n 0, 1) := dk_42 (dk_at dksJ1_fixAfterInsertion_0 10 rfl rfl)
theorem dJ1_fixAfterInsertion_11 : decode cJ1_fixAfterInsertion 11 = .ok (.getfield 101, 3) := dk_180 0 101 (dk_at dksJ1_fixAfterInsertion_0 11 rfl rfl)
theorem dJ1_fixAfterInsertion_14 : decode cJ1_fixAfterInsertion 14 = .ok (.if_acmp .eq 244, 3) := dk_165 0 244 (dk_at dksJ1_fixAfterInsertion_0 14 rfl rfl)
theorem dJ1_fixAfterInsertion_17 : decode cJ1_fixAfterInsertion 17 = .ok (.aload_n 1, 1) := dk_43 (dk_at dksJ1_fixAfterInsertion_0 17 rfl rfl)
theorem dJ1_fixAfterInsertion_18 : decode cJ1_fixAfterInsertion 18 = .ok (.getfield 124, 3) := dk_180 0 124 (dk_at dksJ1_fixAfterInsertion_0 18 rfl rfl)
theorem dJ1_fixAfterInsertion_21 : decode cJ1_fixAfterInsertion 21 = .ok (.getfield 290, 3) := dk_180 1 34 (dk_at dksJ1_fixAfterInsertion_0 21 rfl rfl)
theorem dJ1_fixAfterInsertion_24 : decode cJ1_fixAfterInsertion 24 = .ok (.ifCond .ne 234, 3) := dk_154 0 234 (dk_at dksJ1_fixAfterInsertion_1 0 rfl rfl)
theorem dJ1_fixAfterInsertion_27 : decode cJ1_fixAfterInsertion 27 = .ok (.aload_n 1, 1) := dk_43 (dk_at dksJ1_fixAfterInsertion_1 3 rfl rfl)
theorem dJ1_fixAfterInsertion_28 : decode cJ1_fixAfterInsertion 28 = .ok (.invokestatic 294, 3) := dk_184 1 38 (dk_at dksJ1_fixAfterInsertion_1 4 rfl rfl)
theorem dJ1_fixAfterInsertion_31 : decode cJ1_fixAfterInsertion 31 = .ok (.aload_n 1, 1) := dk_43 (dk_at dksJ1_fixAfterInsertion_1 7 rfl rfl)
theorem dJ1_fixAfterInsertion_32 : decode cJ1_fixAfterInsertion 32 = .ok (.invokestatic 294, 3) := dk_184 1 38 (dk_at dksJ1_fixAfterInsertion_1 8 rfl rfl)
theorem dJ1_fixAfterInsertion_35 : decode cJ1_fixAfterInsertion 35 = .ok (.invokestatic 294, 3) := dk_184 1 38 (dk_at dksJ1_fixAfterInsertion_1 11 rfl rfl)
theorem dJ1_fixAfterInsertion_38 : decode cJ1_fixAfterInsertion 38 = .ok (.invokestatic 297, 3) := dk_184 1 41 (dk_at dksJ1_fixAfterInsertion_1 14 rfl rfl)
theorem dJ1_fixAfterInsertion_41 : decode cJ1_fixAfterInsertion 41 = .ok (.if_acmp .ne 110, 3) := dk_166 0 110 (dk_at dksJ1_fixAfterInsertion_1 17 rfl rfl)
theorem dJ1_fixAfterInsertion_44 : decode cJ1_fixAfterInsertion 44 = .ok (.aload_n 1, 1) := dk_43 (dk_at dksJ1_fixAfterInsertion_1 20 rfl rfl)
theorem dJ1_fixAfterInsertion_45 : decode cJ1_fixAfterInsertion 45 = .ok (.invokestatic 294, 3) := dk_184 1 38 (dk_at dksJ1_fixAfterInsertion_1 21 rfl rfl)
theorem dJ1_fixAfterInsertion_48 : decode cJ1_fixAfterInsertion 48 = .ok (.invokestatic 294, 3) := dk_184 1 38 (dk_at dksJ1_fixAfterInsertion_2 0 rfl rfl)
theorem dJ1_fixAfterInsertion_51 : decode cJ1_fixAfterInsertion 51 = .ok (.invokestatic 300, 3) := dk_184 1 44 (dk_at dksJ1_fixAfterInsertion_2 3 rfl rfl)
theorem dJ1_fixAfterInsertion_54 : decode cJ1_fixAfterInsertion 54 = .ok (.astore_n 2, 1) := dk_77 (dk_at dksJ1_fixAfterInsertion_2 6 rfl rfl)
theorem dJ1_fixAfterInsertion_55 : decode cJ1_fixAfterInsertion 55 = .ok (.aload_n 2, 1) := dk_44 (dk_at dksJ1_fixAfterInsertion_2 7 rfl rfl)
theorem dJ1_fixAfterInsertion_56 : decode cJ1_fixAfterInsertion 56 = .ok (.invokestatic 303, 3) := dk_184 1 47 (dk_at dksJ1_fixAfterInsertion_2 8 rfl rfl)
theorem dJ1_fixAfterInsertion_59 : decode cJ1_fixAfterInsertion 59 = .ok (.ifCond .ne 38, 3) := dk_154 0 38 (dk_at dksJ1_fixAfterInsertion_2 11 rfl rfl)
theorem dJ1_fixAfterInsertion_62 : decode cJ1_fixAfterInsertion 62 = .ok (.aload_n 1, 1) := dk_43 (dk_at dksJ1_fixAfterInsertion_2 14 rfl rfl)
theorem dJ1_fixAfterInsertion_63 : decode cJ1_fixAfterInsertion 63 = .ok (.invokestatic 294, 3) := dk_184 1 38 (dk_at dksJ1_fixAfterInsertion_2 15 rfl rfl)
theorem dJ1_fixAfterInsertion_66 : decode cJ1_fixAfterInsertion 66 = .ok (.iconst 1, 1) := dk_4 (dk_at dksJ1_fixAfterInsertion_2 18 rfl rfl)
theorem dJ1_fixAfterInsertion_67 : decode cJ1_fixAfterInsertion 67 = .ok (.invokestatic 307, 3) := dk_184 1 51 (dk_at dksJ1_fixAfterInsertion_2 19 rfl rfl)
theorem dJ1_fixAfterInsertion_70 : decode cJ1_fixAfterInsertion 70 = .ok (.aload_n 2, 1) := dk_44 (dk_at dksJ1_fixAfterInsertion_2 22 rfl rfl)
theorem dJ1_fixAfterInsertion_71 : decode cJ1_fixAfterInsertion 71 = .ok (.iconst 1, 1) := dk_4 (dk_at dksJ1_fixAfterInsertion_2 23 rfl rfl)
theorem dJ1_fixAfterInsertion_72 : decode cJ1_fixAfterInsertion 72 = .ok (.invokestatic 307, 3) := dk_184 1 51 (dk_at dksJ1_fixAfterInsertion_3 0 rfl rfl)
theorem dJ1_fixAfterInsertion_75 : decode cJ1_fixAfterInsertion 75 = .ok (.aload_n 1, 1) := dk_43 (dk_at dksJ1_fixAfterInsertion_3 3 rfl rfl)
theorem dJ1_fixAfterInsertion_76 : decode cJ1_fixAfterInsertion 76 = .ok (.invokestatic 294, 3) := dk_184 1 38 (dk_at dksJ1_fixAfterInsertion_3 4 rfl rfl)
theorem dJ1_fixAfterInsertion_79 : decode cJ1_fixAfterInsertion 79 = .ok (.invokestatic 294, 3) := dk_184 1 38 (dk_at dksJ1_fixAfterInsertion_3 7 rfl rfl)
theorem dJ1_fixAfterInsertion_82 : decode cJ1_fixAfterInsertion 82 = .ok (.iconst 0, 1) := dk_3 (dk_at dksJ1_fixAfterInsertion_3 10 rfl rfl)
theorem dJ1_fixAfterInsertion_83 : decode cJ1_fixAfterInsertion 83 = .ok (.invokestatic 307, 3) := dk_184 1 51 (dk_at dksJ1_fixAfterInsertion_3 11 rfl rfl)
theorem dJ1_fixAfterInsertion_86 : decode cJ1_fixAfterInsertion 86 = .ok (.aload_n 1, 1) := dk_43 (dk_at dksJ1_fixAfterInsertion_3 14 rfl rfl)
theorem dJ1_fixAfterInsertion_87 : decode cJ1_fixAfterInsertion 87 = .ok (.invokestatic 294, 3) := dk_184 1 38 (dk_at dksJ1_fixAfterInsertion_3 15 rfl rfl)
theorem dJ1_fixAfterInsertion_90 : decode cJ1_fixAfterInsertion 90 = .ok (.invokestatic 294, 3) := dk_184 1 38 (dk_at dksJ1_fixAfterInsertion_3 18 rfl rfl)
theorem dJ1_fixAfterInsertion_93 : decode cJ1_fixAfterInsertion 93 = .ok (.astore_n 1, 1) := dk_76 (dk_at dksJ1_fixAfterInsertion_3 21 rfl rfl)
theorem dJ1_fixAfterInsertion_94 : decode cJ1_fixAfterInsertion 94 = .ok (.goto 54, 3) := dk_167 0 54 (dk_at dksJ1_fixAfterInsertion_4 0 rfl rfl)
theorem dJ1_fixAfterInsertion_97 : decode cJ1_fixAfterInsertion 97 = .ok (.aload_n 1, 1) := dk_43 (dk_at dksJ1_fixAfterInsertion_4 3 rfl rfl)
theorem dJ1_fixAfterInsertion_98 : decode cJ1_fixAfterInsertion 98 = .ok (.aload_n 1, 1) := dk_43 (dk_at dksJ1_fixAfterInsertion_4 4 rfl rfl)
theorem dJ1_fixAfterInsertion_99 : decode cJ1_fixAfterInsertion 99 = .ok (.invokestatic 294, 3) := dk_184 1 38 (dk_at dksJ1_fixAfterInsertion_4 5 rfl rfl)
theorem dJ1_fixAfterInsertion_102 : decode cJ1_fixAfterInsertion 102 = .ok (.invokestatic 300, 3) := dk_184 1 44 (dk_at dksJ1_fixAfterInsertion_4 8 rfl rfl)
theorem dJ1_fixAfterInsertion_105 : decode cJ1_fixAfterInsertion 105 = .ok (.if_acmp .ne 13, 3) := dk_166 0 13 (dk_at dksJ1_fixAfterInsertion_4 11 rfl rfl)
theorem dJ1_fixAfterInsertion_108 : decode cJ1_fixAfterInsertion 108 = .ok (.aload_n 1, 1) := dk_43 (dk_at dksJ1_fixAfterInsertion_4 14 rfl rfl)
theorem dJ1_fixAfterInsertion_109 : decode cJ1_fixAfterInsertion 109 = .ok (.invokestatic 294, 3) := dk_184 1 38 (dk_at dksJ1_fixAfterInsertion_4 15 rfl rfl)
theorem dJ1_fixAfterInsertion_112 : decode cJ1_fixAfterInsertion 112 = .ok (.astore_n 1, 1) := dk_76 (dk_at dksJ1_fixAfterInsertion_4 18 rfl rfl)
theorem dJ1_fixAfterInsertion_113 : decode cJ1_fixAfterInsertion 113 = .ok (.aload_n 0, 1) := dk_42 (dk_at dksJ1_fixAfterInsertion_4 19 rfl rfl)
theorem dJ1_fixAfterInsertion_114 : decode cJ1_fixAfterInsertion 114 = .ok (.aload_n 1, 1) := dk_43 (dk_at dksJ1_fixAfterInsertion_4 20 rfl rfl)
theorem dJ1_fixAfterInsertion_115 : decode cJ1_fixAfterInsertion 115 = .ok (.invokevirtual 311, 3) := dk_182 1 55 (dk_at dksJ1_fixAfterInsertion_4 21 rfl rfl)
theorem dJ1_fixAfterInsertion_118 : decode cJ1_fixAfterInsertion 118 = .ok (.aload_n 1, 1) := dk_43 (dk_at dksJ1_fixAfterInsertion_5 0 rfl rfl)
theorem dJ1_fixAfterInsertion_119 : decode cJ1_fixAfterInsertion 119 = .ok (.invokestatic 294, 3) := dk_184 1 38 (dk_at dksJ1_fixAfterInsertion_5 1 rfl rfl)
theorem dJ1_fixAfterInsertion_122 : decode cJ1_fixAfterInsertion 122 = .ok (.iconst 1, 1) := dk_4 (dk_at dksJ1_fixAfterInsertion_5 4 rfl rfl)
theorem dJ1_fixAfterInsertion_123 : decode cJ1_fixAfterInsertion 123 = .ok (.invokestatic 307, 3) := dk_184 1 51 (dk_at dksJ1_fixAfterInsertion_5 5 rfl rfl)
theorem dJ1_fixAfterInsertion_126 : decode cJ1_fixAfterInsertion 126 = .ok (.aload_n 1, 1) := dk_43 (dk_at dksJ1_fixAfterInsertion_5 8 rfl rfl)
theorem dJ1_fixAfterInsertion_127 : decode cJ1_fixAfterInsertion 127 = .ok (.invokestatic 294, 3) := dk_184 1 38 (dk_at dksJ1_fixAfterInsertion_5 9 rfl rfl)
theorem dJ1_fixAfterInsertion_130 : decode cJ1_fixAfterInsertion 130 = .ok (.invokestatic 294, 3) := dk_184 1 38 (dk_at dksJ1_fixAfterInsertion_5 12 rfl rfl)
theorem dJ1_fixAfterInsertion_133 : decode cJ1_fixAfterInsertion 133 = .ok (.iconst 0, 1) := dk_3 (dk_at dksJ1_fixAfterInsertion_5 15 rfl rfl)
theorem dJ1_fixAfterInsertion_134 : decode cJ1_fixAfterInsertion 134 = .ok (.invokestatic 307, 3) := dk_184 1 51 (dk_at dksJ1_fixAfterInsertion_5 16 rfl rfl)
theorem dJ1_fixAfterInsertion_137 : decode cJ1_fixAfterInsertion 137 = .ok (.aload_n 0, 1) := dk_42 (dk_at dksJ1_fixAfterInsertion_5 19 rfl rfl)
theorem dJ1_fixAfterInsertion_138 : decode cJ1_fixAfterInsertion 138 = .ok (.aload_n 1, 1) := dk_43 (dk_at dksJ1_fixAfterInsertion_5 20 rfl rfl)
theorem dJ1_fixAfterInsertion_139 : decode cJ1_fixAfterInsertion 139 = .ok (.invokestatic 294, 3) := dk_184 1 38 (dk_at dksJ1_fixAfterInsertion_5 21 rfl rfl)
theorem dJ1_fixAfterInsertion_142 : decode cJ1_fixAfterInsertion 142 = .ok (.invokestatic 294, 3) := dk_184 1 38 (dk_at dksJ1_fixAfterInsertion_6 0 rfl rfl)
theorem dJ1_fixAfterInsertion_145 : decode cJ1_fixAfterInsertion 145 = .ok (.invokevirtual 314, 3) := dk_182 1 58 (dk_at dksJ1_fixAfterInsertion_6 3 rfl rfl)
theorem dJ1_fixAfterInsertion_148 : decode cJ1_fixAfterInsertion 148 = .ok (.goto (-143), 3) := dk_167 255 113 (dk_at dksJ1_fixAfterInsertion_6 6 rfl rfl)
theorem dJ1_fixAfterInsertion_151 : decode cJ1_fixAfterInsertion 151 = .ok (.aload_n 1, 1) := dk_43 (dk_at dksJ1_fixAfterInsertion_6 9 rfl rfl)
theorem dJ1_fixAfterInsertion_152 : decode cJ1_fixAfterInsertion 152 = .ok (.invokestatic 294, 3) := dk_184 1 38 (dk_at dksJ1_fixAfterInsertion_6 10 rfl rfl)
theorem dJ1_fixAfterInsertion_155 : decode cJ1_fixAfterInsertion 155 = .ok (.invokestatic 294, 3) := dk_184 1 38 (dk_at dksJ1_fixAfterInsertion_6 13 rfl rfl)
theorem dJ1_fixAfterInsertion_158 : decode cJ1_fixAfterInsertion 158 = .ok (.invokestatic 297, 3) := dk_184 1 41 (dk_at dksJ1_fixAfterInsertion_6 16 rfl rfl)
theorem dJ1_fixAfterInsertion_161 : decode cJ1_fixAfterInsertion 161 = .ok (.astore_n 2, 1) := dk_77 (dk_at dksJ1_fixAfterInsertion_6 19 rfl rfl)
theorem dJ1_fixAfterInsertion_162 : decode cJ1_fixAfterInsertion 162 = .ok (.aload_n 2, 1) := dk_44 (dk_at dksJ1_fixAfterInsertion_6 20 rfl rfl)
theorem dJ1_fixAfterInsertion_163 : decode cJ1_fixAfterInsertion 163 = .ok (.invokestatic 303, 3) := dk_184 1 47 (dk_at dksJ1_fixAfterInsertion_6 21 rfl rfl)
theorem dJ1_fixAfterInsertion_166 : decode cJ1_fixAfterInsertion 166 = .ok (.ifCond .ne 38, 3) := dk_154 0 38 (dk_at dksJ1_fixAfterInsertion_7 0 rfl rfl)
theorem dJ1_fixAfterInsertion_169 : decode cJ1_fixAfterInsertion 169 = .ok (.aload_n 1, 1) := dk_43 (dk_at dksJ1_fixAfterInsertion_7 3 rfl rfl)
theorem dJ1_fixAfterInsertion_170 : decode cJ1_fixAfterInsertion 170 = .ok (.invokestatic 294, 3) := dk_184 1 38 (dk_at dksJ1_fixAfterInsertion_7 4 rfl rfl)
theorem dJ1_fixAfterInsertion_173 : decode cJ1_fixAfterInsertion 173 = .ok (.iconst 1, 1) := dk_4 (dk_at dksJ1_fixAfterInsertion_7 7 rfl rfl)
theorem dJ1_fixAfterInsertion_174 : decode cJ1_fixAfterInsertion 174 = .ok (.invokestatic 307, 3) := dk_184 1 51 (dk_at dksJ1_fixAfterInsertion_7 8 rfl rfl)
theorem dJ1_fixAfterInsertion_177 : decode cJ1_fixAfterInsertion 177 = .ok (.aload_n 2, 1) := dk_44 (dk_at dksJ1_fixAfterInsertion_7 11 rfl rfl)
theorem dJ1_fixAfterInsertion_178 : decode cJ1_fixAfterInsertion 178 = .ok (.iconst 1, 1) := dk_4 (dk_at dksJ1_fixAfterInsertion_7 12 rfl rfl)
theorem dJ1_fixAfterInsertion_179 : decode cJ1_fixAfterInsertion 179 = .ok (.invokestatic 307, 3) := dk_184 1 51 (dk_at dksJ1_fixAfterInsertion_7 13 rfl rfl)
theorem dJ1_fixAfterInsertion_182 : decode cJ1_fixAfterInsertion 182 = .ok (.aload_n 1, 1) := dk_43 (dk_at dksJ1_fixAfterInsertion_7 16 rfl rfl)
theorem dJ1_fixAfterInsertion_183 : decode cJ1_fixAfterInsertion 183 = .ok (.invokestatic 294, 3) := dk_184 1 38 (dk_at dksJ1_fixAfterInsertion_7 17 rfl rfl)
theorem dJ1_fixAfterInsertion_186 : decode cJ1_fixAfterInsertion 186 = .ok (.invokestatic 294, 3) := dk_184 1 38 (dk_at dksJ1_fixAfterInsertion_7 20 rfl rfl)
theorem dJ1_fixAfterInsertion_189 : decode cJ1_fixAfterInsertion 189 = .ok (.iconst 0, 1) := dk_3 (dk_at dksJ1_fixAfterInsertion_7 23 rfl rfl)
theorem dJ1_fixAfterInsertion_190 : decode cJ1_fixAfterInsertion 190 = .ok (.invokestatic 307, 3) := dk_184 1 51 (dk_at dksJ1_fixAfterInsertion_8 0 rfl rfl)
theorem dJ1_fixAfterInsertion_193 : decode cJ1_fixAfterInsertion 193 = .ok (.aload_n 1, 1) := dk_43 (dk_at dksJ1_fixAfterInsertion_8 3 rfl rfl)
theorem dJ1_fixAfterInsertion_194 : decode cJ1_fixAfterInsertion 194 = .ok (.invokestatic 294, 3) := dk_184 1 38 (dk_at dksJ1_fixAfterInsertion_8 4 rfl rfl)
theorem dJ1_fixAfterInsertion_197 : decode cJ1_fixAfterInsertion 197 = .ok (.invokestatic 294, 3) := dk_184 1 38 (dk_at dksJ1_fixAfterInsertion_8 7 rfl rfl)
theorem dJ1_fixAfterInsertion_200 : decode cJ1_fixAfterInsertion 200 = .ok (.astore_n 1, 1) := dk_76 (dk_at dksJ1_fixAfterInsertion_8 10 rfl rfl)
theorem dJ1_fixAfterInsertion_201 : decode cJ1_fixAfterInsertion 201 = .ok (.goto 54, 3) := dk_167 0 54 (dk_at dksJ1_fixAfterInsertion_8 11 rfl rfl)
theorem dJ1_fixAfterInsertion_204 : decode cJ1_fixAfterInsertion 204 = .ok (.aload_n 1, 1) := dk_43 (dk_at dksJ1_fixAfterInsertion_8 14 rfl rfl)
theorem dJ1_fixAfterInsertion_205 : decode cJ1_fixAfterInsertion 205 = .ok (.aload_n 1, 1) := dk_43 (dk_at dksJ1_fixAfterInsertion_8 15 rfl rfl)
theorem dJ1_fixAfterInsertion_206 : decode cJ1_fixAfterInsertion 206 = .ok (.invokestatic 294, 3) := dk_184 1 38 (dk_at dksJ1_fixAfterInsertion_8 16 rfl rfl)
theorem dJ1_fixAfterInsertion_209 : decode cJ1_fixAfterInsertion 209 = .ok (.invokestatic 297, 3) := dk_184 1 41 (dk_at dksJ1_fixAfterInsertion_8 19 rfl rfl)
theorem dJ1_fixAfterInsertion_212 : decode cJ1_fixAfterInsertion 212 = .ok (.if_acmp .ne 13, 3) := dk_166 0 13 (dk_at dksJ1_fixAfterInsertion_9 0 rfl rfl)
theorem dJ1_fixAfterInsertion_215 : decode cJ1_fixAfterInsertion 215 = .ok (.aload_n 1, 1) := dk_43 (dk_at dksJ1_fixAfterInsertion_9 3 rfl rfl)
theorem dJ1_fixAfterInsertion_216 : decode cJ1_fixAfterInsertion 216 = .ok (.invokestatic 294, 3) := dk_184 1 38 (dk_at dksJ1_fixAfterInsertion_9 4 rfl rfl)
theorem dJ1_fixAfterInsertion_219 : decode cJ1_fixAfterInsertion 219 = .ok (.astore_n 1, 1) := dk_76 (dk_at dksJ1_fixAfterInsertion_9 7 rfl rfl)
theorem dJ1_fixAfterInsertion_220 : decode cJ1_fixAfterInsertion 220 = .ok (.aload_n 0, 1) := dk_42 (dk_at dksJ1_fixAfterInsertion_9 8 rfl rfl)
theorem dJ1_fixAfterInsertion_221 : decode cJ1_fixAfterInsertion 221 = .ok (.aload_n 1, 1) := dk_43 (dk_at dksJ1_fixAfterInsertion_9 9 rfl rfl)
theorem dJ1_fixAfterInsertion_222 : decode cJ1_fixAfterInsertion 222 = .ok (.invokevirtual 314, 3) := dk_182 1 58 (dk_at dksJ1_fixAfterInsertion_9 10 rfl rfl)
theorem dJ1_fixAfterInsertion_225 : decode cJ1_fixAfterInsertion 225 = .ok (.aload_n 1, 1) := dk_43 (dk_at dksJ1_fixAfterInsertion_9 13 rfl rfl)
theorem dJ1_fixAfterInsertion_226 : decode cJ1_fixAfterInsertion 226 = .ok (.invokestatic 294, 3) := dk_184 1 38 (dk_at dksJ1_fixAfterInsertion_9 14 rfl rfl)
theorem dJ1_fixAfterInsertion_229 : decode cJ1_fixAfterInsertion 229 = .ok (.iconst 1, 1) := dk_4 (dk_at dksJ1_fixAfterInsertion_9 17 rfl rfl)
theorem dJ1_fixAfterInsertion_230 : decode cJ1_fixAfterInsertion 230 = .ok (.invokestatic 307, 3) := dk_184 1 51 (dk_at dksJ1_fixAfterInsertion_9 18 rfl rfl)
theorem dJ1_fixAfterInsertion_233 : decode cJ1_fixAfterInsertion 233 = .ok (.aload_n 1, 1) := dk_43 (dk_at dksJ1_fixAfterInsertion_9 21 rfl rfl)
theorem dJ1_fixAfterInsertion_234 : decode cJ1_fixAfterInsertion 234 = .ok (.invokestatic 294, 3) := dk_184 1 38 (dk_at dksJ1_fixAfterInsertion_10 0 rfl rfl)
theorem dJ1_fixAfterInsertion_237 : decode cJ1_fixAfterInsertion 237 = .ok (.invokestatic 294, 3) := dk_184 1 38 (dk_at dksJ1_fixAfterInsertion_10 3 rfl rfl)
theorem dJ1_fixAfterInsertion_240 : decode cJ1_fixAfterInsertion 240 = .ok (.iconst 0, 1) := dk_3 (dk_at dksJ1_fixAfterInsertion_10 6 rfl rfl)
theorem dJ1_fixAfterInsertion_241 : decode cJ1_fixAfterInsertion 241 = .ok (.invokestatic 307, 3) := dk_184 1 51 (dk_at dksJ1_fixAfterInsertion_10 7 rfl rfl)
theorem dJ1_fixAfterInsertion_244 : decode cJ1_fixAfterInsertion 244 = .ok (.aload_n 0, 1) := dk_42 (dk_at dksJ1_fixAfterInsertion_10 10 rfl rfl)
theorem dJ1_fixAfterInsertion_245 : decode cJ1_fixAfterInsertion 245 = .ok (.aload_n 1, 1) := dk_43 (dk_at dksJ1_fixAfterInsertion_10 11 rfl rfl)
theorem dJ1_fixAfterInsertion_246 : decode cJ1_fixAfterInsertion 246 = .ok (.invokestatic 294, 3) := dk_184 1 38 (dk_at dksJ1_fixAfterInsertion_10 12 rfl rfl)
theorem dJ1_fixAfterInsertion_249 : decode cJ1_fixAfterInsertion 249 = .ok (.invokestatic 294, 3) := dk_184 1 38 (dk_at dksJ1_fixAfterInsertion_10 15 rfl rfl)
theorem dJ1_fixAfterInsertion_252 : decode cJ1_fixAfterInsertion 252 = .ok (.invokevirtual 311, 3) := dk_182 1 55 (dk_at dksJ1_fixAfterInsertion_10 18 rfl rfl)
theorem dJ1_fixAfterInsertion_255 : decode cJ1_fixAfterInsertion 255 = .ok (.goto (-250), 3) := dk_167 255 6 (dk_at dksJ1_fixAfterInsertion_10 21 rfl rfl)
theorem dJ1_fixAfterInsertion_258 : decode cJ1_fixAfterInsertion 258 = .ok (.aload_n 0, 1) := dk_42 (dk_at dksJ1_fixAfterInsertion_11 0 rfl rfl)
theorem dJ1_fixAfterInsertion_259 : decode cJ1_fixAfterInsertion 259 = .ok (.getfield 101, 3) := dk_180 0 101 (dk_at dksJ1_fixAfterInsertion_11 1 rfl rfl)
theorem dJ1_fixAfterInsertion_262 : decode cJ1_fixAfterInsertion 262 = .ok (.iconst 1, 1) := dk_4 (dk_at dksJ1_fixAfterInsertion_11 4 rfl rfl)
theorem dJ1_fixAfterInsertion_263 : decode cJ1_fixAfterInsertion 263 = .ok (.putfield 290, 3) := dk_181 1 34 (dk_at dksJ1_fixAfterInsertion_11 5 rfl rfl)
theorem dJ1_fixAfterInsertion_266 : decode cJ1_fixAfterInsertion 266 = .ok (.return_, 1) := dk_177 (dk_at dksJ1_fixAfterInsertion_11 8 rfl rfl)
def dkwJ1_parentOf_0 : List UInt8 := [42, 199, 0, 7, 1, 167, 0, 7, 42, 180, 0, 124, 176]
abbrev dktJ1_parentOf_0 : List UInt8 := dkwJ1_parentOf_0 ++ []
theorem dksJ1_parentOf_0 : cJ1_parentOf.data.toList.drop 0 = dktJ1_parentOf_0 := by decide +kernel
theorem dJ1_parentOf_0 : decode cJ1_parentOf 0 = .ok (.aload_n 0, 1) := dk_42 (dk_at dksJ1_parentOf_0 0 rfl rfl)
theorem dJ1_parentOf_1 : decode cJ1_parentOf 1 = .ok (.ifnonnull 7, 3) := dk_199 0 7 (dk_at dksJ1_parentOf_0 1 rfl rfl)
theorem dJ1_parentOf_4 : decode cJ1_parentOf 4 = .ok (.aconst_null, 1) := dk_1 (dk_at dksJ1_parentOf_0 4 rfl rfl)
theorem dJ1_parentOf_5 : decode cJ1_parentOf 5 = .ok (.goto 7, 3) := dk_167 0 7 (dk_at dksJ1_parentOf_0 5 rfl rfl)
theorem dJ1_parentOf_8 : decode cJ1_parentOf 8 = .ok (.aload_n 0, 1) := dk_42 (dk_at dksJ1_parentOf_0 8 rfl rfl)
theorem dJ1_parentOf_9 : decode cJ1_parentOf 9 = .ok (.getfield 124, 3) := dk_180 0 124 (dk_at dksJ1_parentOf_0 9 rfl rfl)
theorem dJ1_parentOf_12 : decode cJ1_parentOf 12 = .ok (.areturn, 1) := dk_176 (dk_at dksJ1_parentOf_0 12 rfl rfl)
def dkwJ1_leftOf_0 : List UInt8 := [42, 199, 0, 7, 1, 167, 0, 7, 42, 180, 0, 111, 176]
abbrev dktJ1_leftOf_0 : List UInt8 := dkwJ1_leftOf_0 ++ []
theorem dksJ1_leftOf_0 : cJ1_leftOf.data.toList.drop 0 = dktJ1_leftOf_0 := by decide +kernel
theorem dJ1_leftOf_0 : decode cJ1_leftOf 0 = .ok (.aload_n 0, 1) := dk_42 (dk_at dksJ1_leftOf_0 0 rfl rfl)
theorem dJ1_leftOf_1 : decode cJ1_leftOf 1 = .ok (.ifnonnull 7, 3) := dk_199 0 7 (dk_at dksJ1_leftOf_0 1 rfl rfl)
theorem dJ1_leftOf_4 : decode cJ1_leftOf 4 = .ok (.aconst_null, 1) := dk_1 (dk_at dksJ1_leftOf_0 4 rfl rfl)
theorem dJ1_leftOf_5 : decode cJ1_leftOf 5 = .ok (.goto 7, 3) := dk_167 0 7 (dk_at dksJ1_leftOf_0 5 rfl rfl)
theorem dJ1_leftOf_8 : decode cJ1_leftOf 8 = .ok (.aload_n 0, 1) := dk_42 (dk_at dksJ1_leftOf_0 8 rfl rfl)
theorem dJ1_leftOf_9 : decode cJ1_leftOf 9 = .ok (.getfield 111, 3) := dk_180 0 111 (dk_at dksJ1_leftOf_0 9 rfl rfl)
theorem dJ1_leftOf_12 : decode cJ1_leftOf 12 = .ok (.areturn, 1) := dk_176 (dk_at dksJ1_leftOf_0 12 rfl rfl)
def dkwJ1_rightOf_0 : List UInt8 := [42, 199, 0, 7, 1, 167, 0, 7, 42, 180, 0, 114, 176]
abbrev dktJ1_rightOf_0 : List UInt8 := dkwJ1_rightOf_0 ++ []
theorem dksJ1_rightOf_0 : cJ1_rightOf.data.toList.drop 0 = dktJ1_rightOf_0 := by decide +kernel
theorem dJ1_rightOf_0 : decode cJ1_rightOf 0 = .ok (.aload_n 0, 1) := dk_42 (dk_at dksJ1_rightOf_0 0 rfl rfl)
theorem dJ1_rightOf_1 : decode cJ1_rightOf 1 = .ok (.ifnonnull 7, 3) := dk_199 0 7 (dk_at dksJ1_rightOf_0 1 rfl rfl)
theorem dJ1_rightOf_4 : decode cJ1_rightOf 4 = .ok (.aconst_null, 1) := dk_1 (dk_at dksJ1_rightOf_0 4 rfl rfl)
theorem dJ1_rightOf_5 : decode cJ1_rightOf 5 = .ok (.goto 7, 3) := dk_167 0 7 (dk_at dksJ1_rightOf_0 5 rfl rfl)
theorem dJ1_rightOf_8 : decode cJ1_rightOf 8 = .ok (.aload_n 0, 1) := dk_42 (dk_at dksJ1_rightOf_0 8 rfl rfl)
theorem dJ1_rightOf_9 : decode cJ1_rightOf 9 = .ok (.getfield 114, 3) := dk_180 0 114 (dk_at dksJ1_rightOf_0 9 rfl rfl)
theorem dJ1_rightOf_12 : decode cJ1_rightOf 12 = .ok (.areturn, 1) := dk_176 (dk_at dksJ1_rightOf_0 12 rfl rfl)
def dkwJ1_colorOf_0 : List UInt8 := [42, 199, 0, 7, 4, 167, 0, 7, 42, 180, 1, 34, 172]
abbrev dktJ1_colorOf_0 : List UInt8 := dkwJ1_colorOf_0 ++ []
theorem dksJ1_colorOf_0 : cJ1_colorOf.data.toList.drop 0 = dktJ1_colorOf_0 := by decide +kernel
theorem dJ1_colorOf_0 : decode cJ1_colorOf 0 = .ok (.aload_n 0, 1) := dk_42 (dk_at dksJ1_colorOf_0 0 rfl rfl)
theorem dJ1_colorOf_1 : decode cJ1_colorOf 1 = .ok (.ifnonnull 7, 3) := dk_199 0 7 (dk_at dksJ1_colorOf_0 1 rfl rfl)
theorem dJ1_colorOf_4 : decode cJ1_colorOf 4 = .ok (.iconst 1, 1) := dk_4 (dk_at dksJ1_colorOf_0 4 rfl rfl)
theorem dJ1_colorOf_5 : decode cJ1_colorOf 5 = .ok (.goto 7, 3) := dk_167 0 7 (dk_at dksJ1_colorOf_0 5 rfl rfl)
theorem dJ1_colorOf_8 : decode cJ1_colorOf 8 = .ok (.aload_n 0, 1) := dk_42 (dk_at dksJ1_colorOf_0 8 rfl rfl)
theorem dJ1_colorOf_9 : decode cJ1_colorOf 9 = .ok (.getfield 290, 3) := dk_180 1 34 (dk_at dksJ1_colorOf_0 9 rfl rfl)
theorem dJ1_colorOf_12 : decode cJ1_colorOf 12 = .ok (.ireturn, 1) := dk_172 (dk_at dksJ1_colorOf_0 12 rfl rfl)
def dkwJ1_setColor_0 : List UInt8 := [42, 198, 0, 8, 42, 27, 181, 1, 34, 177]
abbrev dktJ1_setColor_0 : List UInt8 := dkwJ1_setColor_0 ++ []
theorem dksJ1_setColor_0 : cJ1_setColor.data.toList.drop 0 = dktJ1_setColor_0 := by decide +kernel
theorem dJ1_setColor_0 : decode cJ1_setColor 0 = .ok (.aload_n 0, 1) := dk_42 (dk_at dksJ1_setColor_0 0 rfl rfl)
theorem dJ1_setColor_1 : decode cJ1_setColor 1 = .ok (.ifnull 8, 3) := dk_198 0 8 (dk_at dksJ1_setColor_0 1 rfl rfl)
theorem dJ1_setColor_4 : decode cJ1_setColor 4 = .ok (.aload_n 0, 1) := dk_42 (dk_at dksJ1_setColor_0 4 rfl rfl)
theorem dJ1_setColor_5 : decode cJ1_setColor 5 = .ok (.iload_n 1, 1) := dk_27 (dk_at dksJ1_setColor_0 5 rfl rfl)
theorem dJ1_setColor_6 : decode cJ1_setColor 6 = .ok (.putfield 290, 3) := dk_181 1 34 (dk_at dksJ1_setColor_0 6 rfl rfl)
theorem dJ1_setColor_9 : decode cJ1_setColor 9 = .ok (.return_, 1) := dk_177 (dk_at dksJ1_setColor_0 9 rfl rfl)
def dkwJ1_rotateLeft_4 : List UInt8 := [177]
abbrev dktJ1_rotateLeft_4 : List UInt8 := dkwJ1_rotateLeft_4 ++ []
def dkwJ1_rotateLeft_3 : List UInt8 := [181, 0, 111, 167, 0, 11, 43, 180, 0, 124, 44, 181, 0, 114, 44, 43, 181, 0, 111, 43, 44, 181, 0, 124]
abbrev dktJ1_rotateLeft_3 : List UInt8 := dkwJ1_rotateLeft_3 ++ dktJ1_rotateLeft_4
def dkwJ1_rotateLeft_2 : List UInt8 := [44, 181, 0, 101, 167, 0, 33, 43, 180, 0, 124, 180, 0, 111, 43, 166, 0, 14, 43, 180, 0, 124, 44]
abbrev dktJ1_rotateLeft_2 : List UInt8 := dkwJ1_rotateLeft_2 ++ dktJ1_rotateLeft_3
def dkwJ1_rotateLeft_1 : List UInt8 := [44, 180, 0, 111, 43, 181, 0, 124, 44, 43, 180, 0, 124, 181, 0, 124, 43, 180, 0, 124, 199, 0, 11, 42]
abbrev dktJ1_rotateLeft_1 : List UInt8 := dkwJ1_rotateLeft_1 ++ dktJ1_rotateLeft_2
def dkwJ1_rotateLeft_0 : List UInt8 := [43, 198, 0, 94, 43, 180, 0, 114, 77, 43, 44, 180, 0, 111, 181, 0, 114, 44, 180, 0, 111, 198, 0, 11]
abbrev dktJ1_rotateLeft_0 : List UInt8 := dkwJ1_rotateLeft_0 ++ dktJ1_rotateLeft_1
theorem dksJ1_rotateLeft_0 : cJ1_rotateLeft.data.toList.drop 0 = dktJ1_rotateLeft_0 := by decide +kernel
theorem dksJ1_rotateLeft_1 : cJ1_rotateLeft.data.toList.drop 24 = dktJ1_rotateLeft_1 := dk_seg dksJ1_rotateLeft_0 24 rfl rfl
theorem dksJ1_rotateLeft_2 : cJ1_rotateLeft.data.toList.drop 48 = dktJ1_rotateLeft_2 := dk_seg dksJ1_rotateLeft_1 24 rfl rfl
theorem dksJ1_rotateLeft_3 : cJ1_rotateLeft.data.toList.drop 71 = dktJ1_rotateLeft_3 := dk_seg dksJ1_rotateLeft_2 23 rfl rfl
theorem dksJ1_rotateLeft_4 : cJ1_rotateLeft.data.toList.drop 95 = dktJ1_rotateLeft_4 := dk_seg dksJ1_rotateLeft_3 24 rfl rfl
theorem dJ1_rotateLeft_0 : decode cJ1_rotateLeft 0 = .ok (.aload_n 1, 1) := dk_43 (dk_at dksJ1_rotateLeft_0 0 rfl rfl)
theorem dJ1_rotateLeft_1 : decode cJ1_rotateLeft 1 = .ok (.ifnull 94, 3) := dk_198 0 94 (dk_at dksJ1_rotateLeft_0 1 rfl rfl)
theorem dJ1_rotateLeft_4 : decode cJ1_rotateLeft 4 = .ok (.aload_n 1, 1) := dk_43 (dk_at dksJ1_rotateLeft_0 4 rfl rfl)
theorem dJ1_rotateLeft_5 : decode cJ1_rotateLeft 5 = .ok (.getfield 114, 3) := dk_180 0 114 (dk_at dksJ1_rotateLeft_0 5 rfl rfl)
theorem dJ1_rotateLeft_8 : decode cJ1_rotateLeft 8 = .ok (.astore_n 2, 1) := dk_77 (dk_at dksJ1_rotateLeft_0 8 rfl rfl)
theorem dJ1_rotateLeft_9 : decode cJ1_rotateLeft 9 = .ok (.aload_n 1, 1) := dk_43 (dk_at dksJ1_rotateLeft_0 9 rfl rfl)
theorem dJ1_rotateLeft_10 : decode cJ1_rotateLeft 10 = .ok (.aload_n 2, 1) := dk_44 (dk_at dksJ1_rotateLeft_0 10 rfl rfl)
theorem dJ1_rotateLeft_11 : decode cJ1_rotateLeft 11 = .ok (.getfield 111, 3) := dk_180 0 111 (dk_at dksJ1_rotateLeft_0 11 rfl rfl)
theorem dJ1_rotateLeft_14 : decode cJ1_rotateLeft 14 = .ok (.putfield 114, 3) := dk_181 0 114 (dk_at dksJ1_rotateLeft_0 14 rfl rfl)
theorem dJ1_rotateLeft_17 : decode cJ1_rotateLeft 17 = .ok (.aload_n 2, 1) := dk_44 (dk_at dksJ1_rotateLeft_0 17 rfl rfl)
theorem dJ1_rotateLeft_18 : decode cJ1_rotateLeft 18 = .ok (.getfield 111, 3) := dk_180 0 111 (dk_at dksJ1_rotateLeft_0 18 rfl rfl)
theorem dJ1_rotateLeft_21 : decode cJ1_rotateLeft 21 = .ok (.ifnull 11, 3) := dk_198 0 11 (dk_at dksJ1_rotateLeft_0 21 rfl rfl)
theorem dJ1_rotateLeft_24 : decode cJ1_rotateLeft 24 = .ok (.aload_n 2, 1) := dk_44 (dk_at dksJ1_rotateLeft_1 0 rfl rfl)
theorem dJ1_rotateLeft_25 : decode cJ1_rotateLeft 25 = .ok (.getfield 111, 3) := dk_180 0 111 (dk_at dksJ1_rotateLeft_1 1 rfl rfl)
theorem dJ1_rotateLeft_28 : decode cJ1_rotateLeft 28 = .ok (.aload_n 1, 1) := dk_43 (dk_at dksJ1_rotateLeft_1 4 rfl rfl)
theorem dJ1_rotateLeft_29 : decode cJ1_rotateLeft 29 = .ok (.putfield 124, 3) := dk_181 0 124 (dk_at dksJ1_rotateLeft_1 5 rfl rfl)
theorem dJ1_rotateLeft_32 : decode cJ1_rotateLeft 32 = .ok (.aload_n 2, 1) := dk_44 (dk_at dksJ1_rotateLeft_1 8 rfl rfl)
theorem dJ1_rotateLeft_33 : decode cJ1_rotateLeft 33 = .ok (.aload_n 1, 1) := dk_43 (dk_at dksJ1_rotateLeft_1 9 rfl rfl)
theorem dJ1_rotateLeft_34 : decode cJ1_rotateLeft 34 = .ok (.getfield 124, 3) := dk_180 0 124 (dk_at dksJ1_rotateLeft_1 10 rfl rfl)
theorem dJ1_rotateLeft_37 : decode cJ1_rotateLeft 37 = .ok (.putfield 124, 3) := dk_181 0 124 (dk_at dksJ1_rotateLeft_1 13 rfl rfl)
theorem dJ1_rotateLeft_40 : decode cJ1_rotateLeft 40 = .ok (.aload_n 1, 1) := dk_43 (dk_at dksJ1_rotateLeft_1 16 rfl rfl)
theorem dJ1_rotateLeft_41 : decode cJ1_rotateLeft 41 = .ok (.getfield 124, 3) := dk_180 0 124 (dk_at dksJ1_rotateLeft_1 17 rfl rfl)
theorem dJ1_rotateLeft_44 : decode cJ1_rotateLeft 44 = .ok (.ifnonnull 11, 3) := dk_199 0 11 (dk_at dksJ1_rotateLeft_1 20 rfl rfl)
theorem dJ1_rotateLeft_47 : decode cJ1_rotateLeft 47 = .ok (.aload_n 0, 1) := dk_42 (dk_at dksJ1_rotateLeft_1 23 rfl rfl)
theorem dJ1_rotateLeft_48 : decode cJ1_rotateLeft 48 = .ok (.aload_n 2, 1) := dk_44 (dk_at dksJ1_rotateLeft_2 0 rfl rfl)
theorem dJ1_rotateLeft_49 : decode cJ1_rotateLeft 49 = .ok (.putfield 101, 3) := dk_181 0 101 (dk_at dksJ1_rotateLeft_2 1 rfl rfl)
theorem dJ1_rotateLeft_52 : decode cJ1_rotateLeft 52 = .ok (.goto 33, 3) := dk_167 0 33 (dk_at dksJ1_rotateLeft_2 4 rfl rfl)
theorem dJ1_rotateLeft_55 : decode cJ1_rotateLeft 55 = .ok (.aload_n 1, 1) := dk_43 (dk_at dksJ1_rotateLeft_2 7 rfl rfl)
theorem dJ1_rotateLeft_56 : decode cJ1_rotateLeft 56 = .ok (.getfield 124, 3) := dk_180 0 124 (dk_at dksJ1_rotateLeft_2 8 rfl rfl)
theorem dJ1_rotateLeft_59 : decode cJ1_rotateLeft 59 = .ok (.getfield 111, 3) := dk_180 0 111 (dk_at dksJ1_rotateLeft_2 11 rfl rfl)
theorem dJ1_rotateLeft_62 : decode cJ1_rotateLeft 62 = .ok (.aload_n 1, 1) := dk_43 (dk_at dksJ1_rotateLeft_2 14 rfl rfl)
theorem dJ1_rotateLeft_63 : decode cJ1_rotateLeft 63 = .ok (.if_acmp .ne 14, 3) := dk_166 0 14 (dk_at dksJ1_rotateLeft_2 15 rfl rfl)
theorem dJ1_rotateLeft_66 : decode cJ1_rotateLeft 66 = .ok (.aload_n 1, 1) := dk_43 (dk_at dksJ1_rotateLeft_2 18 rfl rfl)
theorem dJ1_rotateLeft_67 : decode cJ1_rotateLeft 67 = .ok (.getfield 124, 3) := dk_180 0 124 (dk_at dksJ1_rotateLeft_2 19 rfl rfl)
theorem dJ1_rotateLeft_70 : decode cJ1_rotateLeft 70 = .ok (.aload_n 2, 1) := dk_44 (dk_at dksJ1_rotateLeft_2 22 rfl rfl)
theorem dJ1_rotateLeft_71 : decode cJ1_rotateLeft 71 = .ok (.putfield 111, 3) := dk_181 0 111 (dk_at dksJ1_rotateLeft_3 0 rfl rfl)
theorem dJ1_rotateLeft_74 : decode cJ1_rotateLeft 74 = .ok (.goto 11, 3) := dk_167 0 11 (dk_at dksJ1_rotateLeft_3 3 rfl rfl)
theorem dJ1_rotateLeft_77 : decode cJ1_rotateLeft 77 = .ok (.aload_n 1, 1) := dk_43 (dk_at dksJ1_rotateLeft_3 6 rfl rfl)
theorem dJ1_rotateLeft_78 : decode cJ1_rotateLeft 78 = .ok (.getfield 124, 3) := dk_180 0 124 (dk_at dksJ1_rotateLeft_3 7 rfl rfl)
theorem dJ1_rotateLeft_81 : decode cJ1_rotateLeft 81 = .ok (.aload_n 2, 1) := dk_44 (dk_at dksJ1_rotateLeft_3 10 rfl rfl)
theorem dJ1_rotateLeft_82 : decode cJ1_rotateLeft 82 = .ok (.putfield 114, 3) := dk_181 0 114 (dk_at dksJ1_rotateLeft_3 11 rfl rfl)
theorem dJ1_rotateLeft_85 : decode cJ1_rotateLeft 85 = .ok (.aload_n 2, 1) := dk_44 (dk_at dksJ1_rotateLeft_3 14 rfl rfl)
theorem dJ1_rotateLeft_86 : decode cJ1_rotateLeft 86 = .ok (.aload_n 1, 1) := dk_43 (dk_at dksJ1_rotateLeft_3 15 rfl rfl)
theorem dJ1_rotateLeft_87 : decode cJ1_rotateLeft 87 = .ok (.putfield 111, 3) := dk_181 0 111 (dk_at dksJ1_rotateLeft_3 16 rfl rfl)
theorem dJ1_rotateLeft_90 : decode cJ1_rotateLeft 90 = .ok (.aload_n 1, 1) := dk_43 (dk_at dksJ1_rotateLeft_3 19 rfl rfl)
theorem dJ1_rotateLeft_91 : decode cJ1_rotateLeft 91 = .ok (.aload_n 2, 1) := dk_44 (dk_at dksJ1_rotateLeft_3 20 rfl rfl)
theorem dJ1_rotateLeft_92 : decode cJ1_rotateLeft 92 = .ok (.putfield 124, 3) := dk_181 0 124 (dk_at dksJ1_rotateLeft_3 21 rfl rfl)
theorem dJ1_rotateLeft_95 : decode cJ1_rotateLeft 95 = .ok (.return_, 1) := dk_177 (dk_at dksJ1_rotateLeft_4 0 rfl rfl)
def dkwJ1_rotateRight_4 : List UInt8 := [177]
abbrev dktJ1_rotateRight_4 : List UInt8 := dkwJ1_rotateRight_4 ++ []
def dkwJ1_rotateRight_3 : List UInt8 := [181, 0, 114, 167, 0, 11, 43, 180, 0, 124, 44, 181, 0, 111, 44, 43, 181, 0, 114, 43, 44, 181, 0, 124]
abbrev dktJ1_rotateRight_3 : List UInt8 := dkwJ1_rotateRight_3 ++ dktJ1_rotateRight_4
def dkwJ1_rotateRight_2 : List UInt8 := [44, 181, 0, 101, 167, 0, 33, 43, 180, 0, 124, 180, 0, 114, 43, 166, 0, 14, 43, 180, 0, 124, 44]
abbrev dktJ1_rotateRight_2 : List UInt8 := dkwJ1_rotateRight_2 ++ dktJ1_rotateRight_3
def dkwJ1_rotateRight_1 : List UInt8 := [44, 180, 0, 114, 43, 181, 0, 124, 44, 43, 180, 0, 124, 181, 0, 124, 43, 180, 0, 124, 199, 0, 11, 42]
abbrev dktJ1_rotateRight_1 : List UInt8 := dkwJ1_rotateRight_1 ++ dktJ1_rotateRight_2
def dkwJ1_rotateRight_0 : List UInt8 := [43, 198, 0, 94, 43, 180, 0, 111, 77, 43, 44, 180, 0, 114, 181, 0, 111, 44, 180, 0, 114, 198, 0, 11]
abbrev dktJ1_rotateRight_0 : List UInt8 := dkwJ1_rotateRight_0 ++ dktJ1_rotateRight_1
theorem dksJ1_rotateRight_0 : cJ1_rotateRight.data.toList.drop 0 = dktJ1_rotateRight_0 := by decide +kernel
theorem dksJ1_rotateRight_1 : cJ1_rotateRight.data.toList.drop 24 = dktJ1_rotateRight_1 := dk_seg dksJ1_rotateRight_0 24 rfl rfl
theorem dksJ1_rotateRight_2 : cJ1_rotateRight.data.toList.drop 48 = dktJ1_rotateRight_2 := dk_seg dksJ1_rotateRight_1 24 rfl rfl
theorem dksJ1_rotateRight_3 : cJ1_rotateRight.data.toList.drop 71 = dktJ1_rotateRight_3 := dk_seg dksJ1_rotateRight_2 23 rfl rfl
theorem dksJ1_rotateRight_4 : cJ1_rotateRight.data.toList.drop 95 = dktJ1_rotateRight_4 := dk_seg dksJ1_rotateRight_3 24 rfl rfl
theorem dJ1_rotateRight_0 : decode cJ1_rotateRight 0 = .ok (.aload_n 1, 1) := dk_43 (dk_at dksJ1_rotateRight_0 0 rfl rfl)
theorem dJ1_rotateRight_1 : decode cJ1_rotateRight 1 = .ok (.ifnull 94, 3) := dk_198 0 94 (dk_at dksJ1_rotateRight_0 1 rfl rfl)
theorem dJ1_rotateRight_4 : decode cJ1_rotateRight 4 = .ok (.aload_n 1, 1) := dk_43 (dk_at dksJ1_rotateRight_0 4 rfl rfl)
theorem dJ1_rotateRight_5 : decode cJ1_rotateRight 5 = .ok (.getfield 111, 3) := dk_180 0 111 (dk_at dksJ1_rotateRight_0 5 rfl rfl)
theorem dJ1_rotateRight_8 : decode cJ1_rotateRight 8 = .ok (.astore_n 2, 1) := dk_77 (dk_at dksJ1_rotateRight_0 8 rfl rfl)
theorem dJ1_rotateRight_9 : decode cJ1_rotateRight 9 = .ok (.aload_n 1, 1) := dk_43 (dk_at dksJ1_rotateRight_0 9 rfl rfl)
theorem dJ1_rotateRight_10 : decode cJ1_rotateRight 10 = .ok (.aload_n 2, 1) := dk_44 (dk_at dksJ1_rotateRight_0 10 rfl rfl)
theorem dJ1_rotateRight_11 : decode cJ1_rotateRight 11 = .ok (.getfield 114, 3) := dk_180 0 114 (dk_at dksJ1_rotateRight_0 11 rfl rfl)
theorem dJ1_rotateRight_14 : decode cJ1_rotateRight 14 = .ok (.putfield 111, 3) := dk_181 0 111 (dk_at dksJ1_rotateRight_0 14 rfl rfl)
theorem dJ1_rotateRight_17 : decode cJ1_rotateRight 17 = .ok (.aload_n 2, 1) := dk_44 (dk_at dksJ1_rotateRight_0 17 rfl rfl)
theorem dJ1_rotateRight_18 : decode cJ1_rotateRight 18 = .ok (.getfield 114, 3) := dk_180 0 114 (dk_at dksJ1_rotateRight_0 18 rfl rfl)
theorem dJ1_rotateRight_21 : decode cJ1_rotateRight 21 = .ok (.ifnull 11, 3) := dk_198 0 11 (dk_at dksJ1_rotateRight_0 21 rfl rfl)
theorem dJ1_rotateRight_24 : decode cJ1_rotateRight 24 = .ok (.aload_n 2, 1) := dk_44 (dk_at dksJ1_rotateRight_1 0 rfl rfl)
theorem dJ1_rotateRight_25 : decode cJ1_rotateRight 25 = .ok (.getfield 114, 3) := dk_180 0 114 (dk_at dksJ1_rotateRight_1 1 rfl rfl)
theorem dJ1_rotateRight_28 : decode cJ1_rotateRight 28 = .ok (.aload_n 1, 1) := dk_43 (dk_at dksJ1_rotateRight_1 4 rfl rfl)
theorem dJ1_rotateRight_29 : decode cJ1_rotateRight 29 = .ok (.putfield 124, 3) := dk_181 0 124 (dk_at dksJ1_rotateRight_1 5 rfl rfl)
theorem dJ1_rotateRight_32 : decode cJ1_rotateRight 32 = .ok (.aload_n 2, 1) := dk_44 (dk_at dksJ1_rotateRight_1 8 rfl rfl)
theorem dJ1_rotateRight_33 : decode cJ1_rotateRight 33 = .ok (.aload_n 1, 1) := dk_43 (dk_at dksJ1_rotateRight_1 9 rfl rfl)
theorem dJ1_rotateRight_34 : decode cJ1_rotateRight 34 = .ok (.getfield 124, 3) := dk_180 0 124 (dk_at dksJ1_rotateRight_1 10 rfl rfl)
theorem dJ1_rotateRight_37 : decode cJ1_rotateRight 37 = .ok (.putfield 124, 3) := dk_181 0 124 (dk_at dksJ1_rotateRight_1 13 rfl rfl)
theorem dJ1_rotateRight_40 : decode cJ1_rotateRight 40 = .ok (.aload_n 1, 1) := dk_43 (dk_at dksJ1_rotateRight_1 16 rfl rfl)
theorem dJ1_rotateRight_41 : decode cJ1_rotateRight 41 = .ok (.getfield 124, 3) := dk_180 0 124 (dk_at dksJ1_rotateRight_1 17 rfl rfl)
theorem dJ1_rotateRight_44 : decode cJ1_rotateRight 44 = .ok (.ifnonnull 11, 3) := dk_199 0 11 (dk_at dksJ1_rotateRight_1 20 rfl rfl)
theorem dJ1_rotateRight_47 : decode cJ1_rotateRight 47 = .ok (.aload_n 0, 1) := dk_42 (dk_at dksJ1_rotateRight_1 23 rfl rfl)
theorem dJ1_rotateRight_48 : decode cJ1_rotateRight 48 = .ok (.aload_n 2, 1) := dk_44 (dk_at dksJ1_rotateRight_2 0 rfl rfl)
theorem dJ1_rotateRight_49 : decode cJ1_rotateRight 49 = .ok (.putfield 101, 3) := dk_181 0 101 (dk_at dksJ1_rotateRight_2 1 rfl rfl)
theorem dJ1_rotateRight_52 : decode cJ1_rotateRight 52 = .ok (.goto 33, 3) := dk_167 0 33 (dk_at dksJ1_rotateRight_2 4 rfl rfl)
theorem dJ1_rotateRight_55 : decode cJ1_rotateRight 55 = .ok (.aload_n 1, 1) := dk_43 (dk_at dksJ1_rotateRight_2 7 rfl rfl)
theorem dJ1_rotateRight_56 : decode cJ1_rotateRight 56 = .ok (.getfield 124, 3) := dk_180 0 124 (dk_at dksJ1_rotateRight_2 8 rfl rfl)
theorem dJ1_rotateRight_59 : decode cJ1_rotateRight 59 = .ok (.getfield 114, 3) := dk_180 0 114 (dk_at dksJ1_rotateRight_2 11 rfl rfl)
theorem dJ1_rotateRight_62 : decode cJ1_rotateRight 62 = .ok (.aload_n 1, 1) := dk_43 (dk_at dksJ1_rotateRight_2 14 rfl rfl)
theorem dJ1_rotateRight_63 : decode cJ1_rotateRight 63 = .ok (.if_acmp .ne 14, 3) := dk_166 0 14 (dk_at dksJ1_rotateRight_2 15 rfl rfl)
theorem dJ1_rotateRight_66 : decode cJ1_rotateRight 66 = .ok (.aload_n 1, 1) := dk_43 (dk_at dksJ1_rotateRight_2 18 rfl rfl)
theorem dJ1_rotateRight_67 : decode cJ1_rotateRight 67 = .ok (.getfield 124, 3) := dk_180 0 124 (dk_at dksJ1_rotateRight_2 19 rfl rfl)
theorem dJ1_rotateRight_70 : decode cJ1_rotateRight 70 = .ok (.aload_n 2, 1) := dk_44 (dk_at dksJ1_rotateRight_2 22 rfl rfl)
theorem dJ1_rotateRight_71 : decode cJ1_rotateRight 71 = .ok (.putfield 114, 3) := dk_181 0 114 (dk_at dksJ1_rotateRight_3 0 rfl rfl)
theorem dJ1_rotateRight_74 : decode cJ1_rotateRight 74 = .ok (.goto 11, 3) := dk_167 0 11 (dk_at dksJ1_rotateRight_3 3 rfl rfl)
theorem dJ1_rotateRight_77 : decode cJ1_rotateRight 77 = .ok (.aload_n 1, 1) := dk_43 (dk_at dksJ1_rotateRight_3 6 rfl rfl)
theorem dJ1_rotateRight_78 : decode cJ1_rotateRight 78 = .ok (.getfield 124, 3) := dk_180 0 124 (dk_at dksJ1_rotateRight_3 7 rfl rfl)
theorem dJ1_rotateRight_81 : decode cJ1_rotateRight 81 = .ok (.aload_n 2, 1) := dk_44 (dk_at dksJ1_rotateRight_3 10 rfl rfl)
theorem dJ1_rotateRight_82 : decode cJ1_rotateRight 82 = .ok (.putfield 111, 3) := dk_181 0 111 (dk_at dksJ1_rotateRight_3 11 rfl rfl)
theorem dJ1_rotateRight_85 : decode cJ1_rotateRight 85 = .ok (.aload_n 2, 1) := dk_44 (dk_at dksJ1_rotateRight_3 14 rfl rfl)
theorem dJ1_rotateRight_86 : decode cJ1_rotateRight 86 = .ok (.aload_n 1, 1) := dk_43 (dk_at dksJ1_rotateRight_3 15 rfl rfl)
theorem dJ1_rotateRight_87 : decode cJ1_rotateRight 87 = .ok (.putfield 114, 3) := dk_181 0 114 (dk_at dksJ1_rotateRight_3 16 rfl rfl)
theorem dJ1_rotateRight_90 : decode cJ1_rotateRight 90 = .ok (.aload_n 1, 1) := dk_43 (dk_at dksJ1_rotateRight_3 19 rfl rfl)
theorem dJ1_rotateRight_91 : decode cJ1_rotateRight 91 = .ok (.aload_n 2, 1) := dk_44 (dk_at dksJ1_rotateRight_3 20 rfl rfl)
theorem dJ1_rotateRight_92 : decode cJ1_rotateRight 92 = .ok (.putfield 124, 3) := dk_181 0 124 (dk_at dksJ1_rotateRight_3 21 rfl rfl)
theorem dJ1_rotateRight_95 : decode cJ1_rotateRight 95 = .ok (.return_, 1) := dk_177 (dk_at dksJ1_rotateRight_4 0 rfl rfl)
def dkwJ1_get_0 : List UInt8 := [42, 43, 182, 0, 50, 77, 44, 199, 0, 7, 1, 167, 0, 7, 44, 180, 0, 58, 176]
abbrev dktJ1_get_0 : List UInt8 := dkwJ1_get_0 ++ []
theorem dksJ1_get_0 : cJ1_get.data.toList.drop 0 = dktJ1_get_0 := by decide +kernel
theorem dJ1_get_0 : decode cJ1_get 0 = .ok (.aload_n 0, 1) := dk_42 (dk_at dksJ1_get_0 0 rfl rfl)
theorem dJ1_get_1 : decode cJ1_get 1 = .ok (.aload_n 1, 1) := dk_43 (dk_at dksJ1_get_0 1 rfl rfl)
theorem dJ1_get_2 : decode cJ1_get 2 = .ok (.invokevirtual 50, 3) := dk_182 0 50 (dk_at dksJ1_get_0 2 rfl rfl)
theorem dJ1_get_5 : decode cJ1_get 5 = .ok (.astore_n 2, 1) := dk_77 (dk_at dksJ1_get_0 5 rfl rfl)
theorem dJ1_get_6 : decode cJ1_get 6 = .ok (.aload_n 2, 1) := dk_44 (dk_at dksJ1_get_0 6 rfl rfl)
theorem dJ1_get_7 : decode cJ1_get 7 = .ok (.ifnonnull 7, 3) := dk_199 0 7 (dk_at dksJ1_get_0 7 rfl rfl)
theorem dJ1_get_10 : decode cJ1_get 10 = .ok (.aconst_null, 1) := dk_1 (dk_at dksJ1_get_0 10 rfl rfl)
theorem dJ1_get_11 : decode cJ1_get 11 = .ok (.goto 7, 3) := dk_167 0 7 (dk_at dksJ1_get_0 11 rfl rfl)
theorem dJ1_get_14 : decode cJ1_get 14 = .ok (.aload_n 2, 1) := dk_44 (dk_at dksJ1_get_0 14 rfl rfl)
theorem dJ1_get_15 : decode cJ1_get 15 = .ok (.getfield 58, 3) := dk_180 0 58 (dk_at dksJ1_get_0 15 rfl rfl)
theorem dJ1_get_18 : decode cJ1_get 18 = .ok (.areturn, 1) := dk_176 (dk_at dksJ1_get_0 18 rfl rfl)
theorem dJ1_size_0 : decode cJ1_size 0 = .ok (.aload_n 0, 1) := by decide +kernel
theorem dJ1_size_1 : decode cJ1_size 1 = .ok (.getfield 7, 3) := by decide +kernel
theorem dJ1_size_4 : decode cJ1_size 4 = .ok (.ireturn, 1) := by decide +kernel
def dkwJ1_values_1 : List UInt8 := [176]
abbrev dktJ1_values_1 : List UInt8 := dkwJ1_values_1 ++ []
def dkwJ1_values_0 : List UInt8 := [42, 180, 0, 233, 76, 43, 199, 0, 17, 187, 0, 237, 89, 42, 183, 0, 239, 76, 42, 43, 181, 0, 233, 43]
abbrev dktJ1_values_0 : List UInt8 := dkwJ1_values_0 ++ dktJ1_values_1
theorem dksJ1_values_0 : cJ1_values.data.toList.drop 0 = dktJ1_values_0 := by decide +kernel
theorem dksJ1_values_1 : cJ1_values.data.toList.drop 24 = dktJ1_values_1 := dk_seg dksJ1_values_0 24 rfl rfl
theorem dJ1_values_0 : decode cJ1_values 0 = .ok (.aload_n 0, 1) := dk_42 (dk_at dksJ1_values_0 0 rfl rfl)
theorem dJ1_values_1 : decode cJ1_values 1 = .ok (.getfield 233, 3) := dk_180 0 233 (dk_at dksJ1_values_0 1 rfl rfl)
theorem dJ1_values_4 : decode cJ1_values 4 = .ok (.astore_n 1, 1) := dk_76 (dk_at dksJ1_values_0 4 rfl rfl)
theorem dJ1_values_5 : decode cJ1_values 5 = .ok (.aload_n 1, 1) := dk_43 (dk_at dksJ1_values_0 5 rfl rfl)
theorem dJ1_values_6 : decode cJ1_values 6 = .ok (.ifnonnull 17, 3) := dk_199 0 17 (dk_at dksJ1_values_0 6 rfl rfl)
theorem dJ1_values_9 : decode cJ1_values 9 = .ok (.new 237, 3) := dk_187 0 237 (dk_at dksJ1_values_0 9 rfl rfl)
theorem dJ1_values_12 : decode cJ1_values 12 = .ok (.dup, 1) := dk_89 (dk_at dksJ1_values_0 12 rfl rfl)
theorem dJ1_values_13 : decode cJ1_values 13 = .ok (.aload_n 0, 1) := dk_42 (dk_at dksJ1_values_0 13 rfl rfl)
theorem dJ1_values_14 : decode cJ1_values 14 = .ok (.invokespecial 239, 3) := dk_183 0 239 (dk_at dksJ1_values_0 14 rfl rfl)
theorem dJ1_values_17 : decode cJ1_values 17 = .ok (.astore_n 1, 1) := dk_76 (dk_at dksJ1_values_0 17 rfl rfl)
theorem dJ1_values_18 : decode cJ1_values 18 = .ok (.aload_n 0, 1) := dk_42 (dk_at dksJ1_values_0 18 rfl rfl)
theorem dJ1_values_19 : decode cJ1_values 19 = .ok (.aload_n 1, 1) := dk_43 (dk_at dksJ1_values_0 19 rfl rfl)
theorem dJ1_values_20 : decode cJ1_values 20 = .ok (.putfield 233, 3) := dk_181 0 233 (dk_at dksJ1_values_0 20 rfl rfl)
theorem dJ1_values_23 : decode cJ1_values 23 = .ok (.aload_n 1, 1) := dk_43 (dk_at dksJ1_values_0 23 rfl rfl)
theorem dJ1_values_24 : decode cJ1_values 24 = .ok (.areturn, 1) := dk_176 (dk_at dksJ1_values_1 0 rfl rfl)
def dkwJ1_keyIterator_0 : List UInt8 := [187, 1, 13, 89, 42, 42, 182, 0, 54, 183, 1, 15, 176]
abbrev dktJ1_keyIterator_0 : List UInt8 := dkwJ1_keyIterator_0 ++ []
theorem dksJ1_keyIterator_0 : cJ1_keyIterator.data.toList.drop 0 = dktJ1_keyIterator_0 := by decide +kernel
theorem dJ1_keyIterator_0 : decode cJ1_keyIterator 0 = .ok (.new 269, 3) := dk_187 1 13 (dk_at dksJ1_keyIterator_0 0 rfl rfl)
theorem dJ1_keyIterator_3 : decode cJ1_keyIterator 3 = .ok (.dup, 1) := dk_89 (dk_at dksJ1_keyIterator_0 3 rfl rfl)
theorem dJ1_keyIterator_4 : decode cJ1_keyIterator 4 = .ok (.aload_n 0, 1) := dk_42 (dk_at dksJ1_keyIterator_0 4 rfl rfl)
theorem dJ1_keyIterator_5 : decode cJ1_keyIterator 5 = .ok (.aload_n 0, 1) := dk_42 (dk_at dksJ1_keyIterator_0 5 rfl rfl)
theorem dJ1_keyIterator_6 : decode cJ1_keyIterator 6 = .ok (.invokevirtual 54, 3) := dk_182 0 54 (dk_at dksJ1_keyIterator_0 6 rfl rfl)
theorem dJ1_keyIterator_9 : decode cJ1_keyIterator 9 = .ok (.invokespecial 271, 3) := dk_183 1 15 (dk_at dksJ1_keyIterator_0 9 rfl rfl)
theorem dJ1_keyIterator_12 : decode cJ1_keyIterator 12 = .ok (.areturn, 1) := dk_176 (dk_at dksJ1_keyIterator_0 12 rfl rfl)
def dkwJ1_getFirstEntry_1 : List UInt8 := [43, 176]
abbrev dktJ1_getFirstEntry_1 : List UInt8 := dkwJ1_getFirstEntry_1 ++ []
def dkwJ1_getFirstEntry_0 : List UInt8 := [42, 180, 0, 101, 76, 43, 198, 0, 18, 43, 180, 0, 111, 198, 0, 11, 43, 180, 0, 111, 76, 167, 255, 244]
abbrev dktJ1_getFirstEntry_0 : List UInt8 := dkwJ1_getFirstEntry_0 ++ dktJ1_getFirstEntry_1
theorem dksJ1_getFirstEntry_0 : cJ1_getFirstEntry.data.toList.drop 0 = dktJ1_getFirstEntry_0 := by decide +kernel
theorem dksJ1_getFirstEntry_1 : cJ1_getFirstEntry.data.toList.drop 24 = dktJ1_getFirstEntry_1 := dk_seg dksJ1_getFirstEntry_0 24 rfl rfl
theorem dJ1_getFirstEntry_0 : decode cJ1_getFirstEntry 0 = .ok (.aload_n 0, 1) := dk_42 (dk_at dksJ1_getFirstEntry_0 0 rfl rfl)
theorem dJ1_getFirstEntry_1 : decode cJ1_getFirstEntry 1 = .ok (.getfield 101, 3) := dk_180 0 101 (dk_at dksJ1_getFirstEntry_0 1 rfl rfl)
theorem dJ1_getFirstEntry_4 : decode cJ1_getFirstEntry 4 = .ok (.astore_n 1, 1) := dk_76 (dk_at dksJ1_getFirstEntry_0 4 rfl rfl)
theorem dJ1_getFirstEntry_5 : decode cJ1_getFirstEntry 5 = .ok (.aload_n 1, 1) := dk_43 (dk_at dksJ1_getFirstEntry_0 5 rfl rfl)
theorem dJ1_getFirstEntry_6 : decode cJ1_getFirstEntry 6 = .ok (.ifnull 18, 3) := dk_198 0 18 (dk_at dksJ1_getFirstEntry_0 6 rfl rfl)
theorem dJ1_getFirstEntry_9 : decode cJ1_getFirstEntry 9 = .ok (.aload_n 1, 1) := dk_43 (dk_at dksJ1_getFirstEntry_0 9 rfl rfl)
theorem dJ1_getFirstEntry_10 : decode cJ1_getFirstEntry 10 = .ok (.getfield 111, 3) := dk_180 0 111 (dk_at dksJ1_getFirstEntry_0 10 rfl rfl)
theorem dJ1_getFirstEntry_13 : decode cJ1_getFirstEntry 13 = .ok (.ifnull 11, 3) := dk_198 0 11 (dk_at dksJ1_getFirstEntry_0 13 rfl rfl)
theorem dJ1_getFirstEntry_16 : decode cJ1_getFirstEntry 16 = .ok (.aload_n 1, 1) := dk_43 (dk_at dksJ1_getFirstEntry_0 16 rfl rfl)
theorem dJ1_getFirstEntry_17 : decode cJ1_getFirstEntry 17 = .ok (.getfield 111, 3) := dk_180 0 111 (dk_at dksJ1_getFirstEntry_0 17 rfl rfl)
theorem dJ1_getFirstEntry_20 : decode cJ1_getFirstEntry 20 = .ok (.astore_n 1, 1) := dk_76 (dk_at dksJ1_getFirstEntry_0 20 rfl rfl)
theorem dJ1_getFirstEntry_21 : decode cJ1_getFirstEntry 21 = .ok (.goto (-12), 3) := dk_167 255 244 (dk_at dksJ1_getFirstEntry_0 21 rfl rfl)
theorem dJ1_getFirstEntry_24 : decode cJ1_getFirstEntry 24 = .ok (.aload_n 1, 1) := dk_43 (dk_at dksJ1_getFirstEntry_1 0 rfl rfl)
theorem dJ1_getFirstEntry_25 : decode cJ1_getFirstEntry 25 = .ok (.areturn, 1) := dk_176 (dk_at dksJ1_getFirstEntry_1 1 rfl rfl)
def dkwJ1_navigableKeySet_1 : List UInt8 := [181, 0, 191, 176]
abbrev dktJ1_navigableKeySet_1 : List UInt8 := dkwJ1_navigableKeySet_1 ++ []
def dkwJ1_navigableKeySet_0 : List UInt8 := [42, 180, 0, 191, 76, 43, 198, 0, 7, 43, 167, 0, 16, 42, 187, 0, 222, 89, 42, 183, 0, 224, 90]
abbrev dktJ1_navigableKeySet_0 : List UInt8 := dkwJ1_navigableKeySet_0 ++ dktJ1_navigableKeySet_1
theorem dksJ1_navigableKeySet_0 : cJ1_navigableKeySet.data.toList.drop 0 = dktJ1_navigableKeySet_0 := by decide +kernel
theorem dksJ1_navigableKeySet_1 : cJ1_navigableKeySet.data.toList.drop 23 = dktJ1_navigableKeySet_1 := dk_seg dksJ1_navigableKeySet_0 23 rfl rfl
theorem dJ1_navigableKeySet_0 : decode cJ1_navigableKeySet 0 = .ok (.aload_n 0, 1) := dk_42 (dk_at dksJ1_navigableKeySet_0 0 rfl rfl)
theorem dJ1_navigableKeySet_1 : decode cJ1_navigableKeySet 1 = .ok (.getfield 191, 3) := dk_180 0 191 (dk_at dksJ1_navigableKeySet_0 1 rfl rfl)
theorem dJ1_navigableKeySet_4 : decode cJ1_navigableKeySet 4 = .ok (.astore_n 1, 1) := dk_76 (dk_at dksJ1_navigableKeySet_0 4 rfl rfl)
theorem dJ1_navigableKeySet_5 : decode cJ1_navigableKeySet 5 = .ok (.aload_n 1, 1) := dk_43 (dk_at dksJ1_navigableKeySet_0 5 rfl rfl)
theorem dJ1_navigableKeySet_6 : decode cJ1_navigableKeySet 6 = .ok (.ifnull 7, 3) := dk_198 0 7 (dk_at dksJ1_navigableKeySet_0 6 rfl rfl)
theorem dJ1_navigableKeySet_9 : decode cJ1_navigableKeySet 9 = .ok (.aload_n 1, 1) := dk_43 (dk_at dksJ1_navigableKeySet_0 9 rfl rfl)
theorem dJ1_navigableKeySet_10 : decode cJ1_navigableKeySet 10 = .ok (.goto 16, 3) := dk_167 0 16 (dk_at dksJ1_navigableKeySet_0 10 rfl rfl)
theorem dJ1_navigableKeySet_13 : decode cJ1_navigableKeySet 13 = .ok (.aload_n 0, 1) := dk_42 (dk_at dksJ1_navigableKeySet_0 13 rfl rfl)
theorem dJ1_navigableKeySet_14 : decode cJ1_navigableKeySet 14 = .ok (.new 222, 3) := dk_187 0 222 (dk_at dksJ1_navigableKeySet_0 14 rfl rfl)
theorem dJ1_navigableKeySet_17 : decode cJ1_navigableKeySet 17 = .ok (.dup, 1) := dk_89 (dk_at dksJ1_navigableKeySet_0 17 rfl rfl)
theorem dJ1_navigableKeySet_18 : decode cJ1_navigableKeySet 18 = .ok (.aload_n 0, 1) := dk_42 (dk_at dksJ1_navigableKeySet_0 18 rfl rfl)
theorem dJ1_navigableKeySet_19 : decode cJ1_navigableKeySet 19 = .ok (.invokespecial 224, 3) := dk_183 0 224 (dk_at dksJ1_navigableKeySet_0 19 rfl rfl)
theorem dJ1_navigableKeySet_22 : decode cJ1_navigableKeySet 22 = .ok (.dup_x1, 1) := dk_90 (dk_at dksJ1_navigableKeySet_0 22 rfl rfl)
theorem dJ1_navigableKeySet_23 : decode cJ1_navigableKeySet 23 = .ok (.putfield 191, 3) := dk_181 0 191 (dk_at dksJ1_navigableKeySet_1 0 rfl rfl)
theorem dJ1_navigableKeySet_26 : decode cJ1_navigableKeySet 26 = .ok (.areturn, 1) := dk_176 (dk_at dksJ1_navigableKeySet_1 3 rfl rfl)
def dkwJ1_successor_2 : List UInt8 := [44, 43, 180, 0, 114, 166, 0, 13, 43, 77, 43, 180, 0, 124, 76, 167, 255, 237, 43, 176]
abbrev dktJ1_successor_2 : List UInt8 := dkwJ1_successor_2 ++ []
def dkwJ1_successor_1 : List UInt8 := [198, 0, 11, 43, 180, 0, 111, 76, 167, 255, 244, 43, 176, 42, 180, 0, 124, 76, 42, 77, 43, 198, 0, 21]
abbrev dktJ1_successor_1 : List UInt8 := dkwJ1_successor_1 ++ dktJ1_successor_2
def dkwJ1_successor_0 : List UInt8 := [42, 199, 0, 5, 1, 176, 42, 180, 0, 114, 198, 0, 25, 42, 180, 0, 114, 76, 43, 180, 0, 111]
abbrev dktJ1_successor_0 : List UInt8 := dkwJ1_successor_0 ++ dktJ1_successor_1
theorem dksJ1_successor_0 : cJ1_successor.data.toList.drop 0 = dktJ1_successor_0 := by decide +kernel
theorem dksJ1_successor_1 : cJ1_successor.data.toList.drop 22 = dktJ1_successor_1 := dk_seg dksJ1_successor_0 22 rfl rfl
theorem dksJ1_successor_2 : cJ1_successor.data.toList.drop 46 = dktJ1_successor_2 := dk_seg dksJ1_successor_1 24 rfl rfl
theorem dJ1_successor_0 : decode cJ1_successor 0 = .ok (.aload_n 0, 1) := dk_42 (dk_at dksJ1_successor_0 0 rfl rfl)
theorem dJ1_successor_1 : decode cJ1_successor 1 = .ok (.ifnonnull 5, 3) := dk_199 0 5 (dk_at dksJ1_successor_0 1 rfl rfl)
theorem dJ1_successor_4 : decode cJ1_successor 4 = .ok (.aconst_null, 1) := dk_1 (dk_at dksJ1_successor_0 4 rfl rfl)
theorem dJ1_successor_5 : decode cJ1_successor 5 = .ok (.areturn, 1) := dk_176 (dk_at dksJ1_successor_0 5 rfl rfl)
theorem dJ1_successor_6 : decode cJ1_successor 6 = .ok (.aload_n 0, 1) := dk_42 (dk_at dksJ1_successor_0 6 rfl rfl)
theorem dJ1_successor_7 : decode cJ1_successor 7 = .ok (.getfield 114, 3) := dk_180 0 114 (dk_at dksJ1_successor_0 7 rfl rfl)
theorem dJ1_successor_10 : decode cJ1_successor 10 = .ok (.ifnull 25, 3) := dk_198 0 25 (dk_at dksJ1_successor_0 10 rfl rfl)
theorem dJ1_successor_13 : decode cJ1_successor 13 = .ok (.aload_n 0, 1) := dk_42 (dk_at dksJ1_successor_0 13 rfl rfl)
theorem dJ1_successor_14 : decode cJ1_successor 14 = .ok (.getfield 114, 3) := dk_180 0 114 (dk_at dksJ1_successor_0 14 rfl rfl)
theorem dJ1_successor_17 : decode cJ1_successor 17 = .ok (.astore_n 1, 1) := dk_76 (dk_at dksJ1_successor_0 17 rfl rfl)
theorem dJ1_successor_18 : decode cJ1_successor 18 = .ok (.aload_n 1, 1) := dk_43 (dk_at dksJ1_successor_0 18 rfl rfl)
theorem dJ1_successor_19 : decode cJ1_successor 19 = .ok (.getfield 111, 3) := dk_180 0 111 (dk_at dksJ1_successor_0 19 rfl rfl)
theorem dJ1_successor_22 : decode cJ1_successor 22 = .ok (.ifnull 11, 3) := dk_198 0 11 (dk_at dksJ1_successor_1 0 rfl rfl)
theorem dJ1_successor_25 : decode cJ1_successor 25 = .ok (.aload_n 1, 1) := dk_43 (dk_at dksJ1_successor_1 3 rfl rfl)
theorem dJ1_successor_26 : decode cJ1_successor 26 = .ok (.getfield 111, 3) := dk_180 0 111 (dk_at dksJ1_successor_1 4 rfl rfl)
theorem dJ1_successor_29 : decode cJ1_successor 29 = .ok (.astore_n 1, 1) := dk_76 (dk_at dksJ1_successor_1 7 rfl rfl)
theorem dJ1_successor_30 : decode cJ1_successor 30 = .ok (.goto (-12), 3) := dk_167 255 244 (dk_at dksJ1_successor_1 8 rfl rfl)
theorem dJ1_successor_33 : decode cJ1_successor 33 = .ok (.aload_n 1, 1) := dk_43 (dk_at dksJ1_successor_1 11 rfl rfl)
theorem dJ1_successor_34 : decode cJ1_successor 34 = .ok (.areturn, 1) := dk_176 (dk_at dksJ1_successor_1 12 rfl rfl)
theorem dJ1_successor_35 : decode cJ1_successor 35 = .ok (.aload_n 0, 1) := dk_42 (dk_at dksJ1_successor_1 13 rfl rfl)
theorem dJ1_successor_36 : decode cJ1_successor 36 = .ok (.getfield 124, 3) := dk_180 0 124 (dk_at dksJ1_successor_1 14 rfl rfl)
theorem dJ1_successor_39 : decode cJ1_successor 39 = .ok (.astore_n 1, 1) := dk_76 (dk_at dksJ1_successor_1 17 rfl rfl)
theorem dJ1_successor_40 : decode cJ1_successor 40 = .ok (.aload_n 0, 1) := dk_42 (dk_at dksJ1_successor_1 18 rfl rfl)
theorem dJ1_successor_41 : decode cJ1_successor 41 = .ok (.astore_n 2, 1) := dk_77 (dk_at dksJ1_successor_1 19 rfl rfl)
theorem dJ1_successor_42 : decode cJ1_successor 42 = .ok (.aload_n 1, 1) := dk_43 (dk_at dksJ1_successor_1 20 rfl rfl)
theorem dJ1_successor_43 : decode cJ1_successor 43 = .ok (.ifnull 21, 3) := dk_198 0 21 (dk_at dksJ1_successor_1 21 rfl rfl)
theorem dJ1_successor_46 : decode cJ1_successor 46 = .ok (.aload_n 2, 1) := dk_44 (dk_at dksJ1_successor_2 0 rfl rfl)
theorem dJ1_successor_47 : decode cJ1_successor 47 = .ok (.aload_n 1, 1) := dk_43 (dk_at dksJ1_successor_2 1 rfl rfl)
theorem dJ1_successor_48 : decode cJ1_successor 48 = .ok (.getfield 114, 3) := dk_180 0 114 (dk_at dksJ1_successor_2 2 rfl rfl)
theorem dJ1_successor_51 : decode cJ1_successor 51 = .ok (.if_acmp .ne 13, 3) := dk_166 0 13 (dk_at dksJ1_successor_2 5 rfl rfl)
theorem dJ1_successor_54 : decode cJ1_successor 54 = .ok (.aload_n 1, 1) := dk_43 (dk_at dksJ1_successor_2 8 rfl rfl)
theorem dJ1_successor_55 : decode cJ1_successor 55 = .ok (.astore_n 2, 1) := dk_77 (dk_at dksJ1_successor_2 9 rfl rfl)
theorem dJ1_successor_56 : decode cJ1_successor 56 = .ok (.aload_n 1, 1) := dk_43 (dk_at dksJ1_successor_2 10 rfl rfl)
theorem dJ1_successor_57 : decode cJ1_successor 57 = .ok (.getfield 124, 3) := dk_180 0 124 (dk_at dksJ1_successor_2 11 rfl rfl)
theorem dJ1_successor_60 : decode cJ1_successor 60 = .ok (.astore_n 1, 1) := dk_76 (dk_at dksJ1_successor_2 14 rfl rfl)
theorem dJ1_successor_61 : decode cJ1_successor 61 = .ok (.goto (-19), 3) := dk_167 255 237 (dk_at dksJ1_successor_2 15 rfl rfl)
theorem dJ1_successor_64 : decode cJ1_successor 64 = .ok (.aload_n 1, 1) := dk_43 (dk_at dksJ1_successor_2 18 rfl rfl)
theorem dJ1_successor_65 : decode cJ1_successor 65 = .ok (.areturn, 1) := dk_176 (dk_at dksJ1_successor_2 19 rfl rfl)
def dkwJ10_copyOf_1 : List UInt8 := [27, 184, 1, 48, 184, 0, 150, 44, 176]
abbrev dktJ10_copyOf_1 : List UInt8 := dkwJ10_copyOf_1 ++ []
def dkwJ10_copyOf_0 : List UInt8 := [27, 42, 190, 160, 0, 11, 42, 182, 1, 54, 192, 1, 55, 176, 27, 188, 8, 77, 42, 3, 44, 3, 42, 190]
abbrev dktJ10_copyOf_0 : List UInt8 := dkwJ10_copyOf_0 ++ dktJ10_copyOf_1
theorem dksJ10_copyOf_0 : cJ10_copyOf.data.toList.drop 0 = dktJ10_copyOf_0 := by decide +kernel
theorem dksJ10_copyOf_1 : cJ10_copyOf.data.toList.drop 24 = dktJ10_copyOf_1 := dk_seg dksJ10_copyOf_0 24 rfl rfl
theorem dJ10_copyOf_0 : decode cJ10_copyOf 0 = .ok (.iload_n 1, 1) := dk_27 (dk_at dksJ10_copyOf_0 0 rfl rfl)
theorem dJ10_copyOf_1 : decode cJ10_copyOf 1 = .ok (.aload_n 0, 1) := dk_42 (dk_at dksJ10_copyOf_0 1 rfl rfl)
theorem dJ10_copyOf_2 : decode cJ10_copyOf 2 = .ok (.arraylength, 1) := dk_190 (dk_at dksJ10_copyOf_0 2 rfl rfl)
theorem dJ10_copyOf_3 : decode cJ10_copyOf 3 = .ok (.if_icmp .ne 11, 3) := dk_160 0 11 (dk_at dksJ10_copyOf_0 3 rfl rfl)
theorem dJ10_copyOf_6 : decode cJ10_copyOf 6 = .ok (.aload_n 0, 1) := dk_42 (dk_at dksJ10_copyOf_0 6 rfl rfl)
theorem dJ10_copyOf_7 : decode cJ10_copyOf 7 = .ok (.invokevirtual 310, 3) := dk_182 1 54 (dk_at dksJ10_copyOf_0 7 rfl rfl)
theorem dJ10_copyOf_10 : decode cJ10_copyOf 10 = .ok (.checkcast 311, 3) := dk_192 1 55 (dk_at dksJ10_copyOf_0 10 rfl rfl)
theorem dJ10_copyOf_13 : decode cJ10_copyOf 13 = .ok (.areturn, 1) := dk_176 (dk_at dksJ10_copyOf_0 13 rfl rfl)
theorem dJ10_copyOf_14 : decode cJ10_copyOf 14 = .ok (.iload_n 1, 1) := dk_27 (dk_at dksJ10_copyOf_0 14 rfl rfl)
theorem dJ10_copyOf_15 : decode cJ10_copyOf 15 = .ok (.newarray .byte, 2) := dk_188_8 (dk_at dksJ10_copyOf_0 15 rfl rfl)
theorem dJ10_copyOf_17 : decode cJ10_copyOf 17 = .ok (.astore_n 2, 1) := dk_77 (dk_at dksJ10_copyOf_0 17 rfl rfl)
theorem dJ10_copyOf_18 : decode cJ10_copyOf 18 = .ok (.aload_n 0, 1) := dk_42 (dk_at dksJ10_copyOf_0 18 rfl rfl)
theorem dJ10_copyOf_19 : decode cJ10_copyOf 19 = .ok (.iconst 0, 1) := dk_3 (dk_at dksJ10_copyOf_0 19 rfl rfl)
theorem dJ10_copyOf_20 : decode cJ10_copyOf 20 = .ok (.aload_n 2, 1) := dk_44 (dk_at dksJ10_copyOf_0 20 rfl rfl)
theorem dJ10_copyOf_21 : decode cJ10_copyOf 21 = .ok (.iconst 0, 1) := dk_3 (dk_at dksJ10_copyOf_0 21 rfl rfl)
theorem dJ10_copyOf_22 : decode cJ10_copyOf 22 = .ok (.aload_n 0, 1) := dk_42 (dk_at dksJ10_copyOf_0 22 rfl rfl)
theorem dJ10_copyOf_23 : decode cJ10_copyOf 23 = .ok (.arraylength, 1) := dk_190 (dk_at dksJ10_copyOf_0 23 rfl rfl)
theorem dJ10_copyOf_24 : decode cJ10_copyOf 24 = .ok (.iload_n 1, 1) := dk_27 (dk_at dksJ10_copyOf_1 0 rfl rfl)
theorem dJ10_copyOf_25 : decode cJ10_copyOf 25 = .ok (.invokestatic 304, 3) := dk_184 1 48 (dk_at dksJ10_copyOf_1 1 rfl rfl)
theorem dJ10_copyOf_28 : decode cJ10_copyOf 28 = .ok (.invokestatic 150, 3) := dk_184 0 150 (dk_at dksJ10_copyOf_1 4 rfl rfl)
theorem dJ10_copyOf_31 : decode cJ10_copyOf 31 = .ok (.aload_n 2, 1) := dk_44 (dk_at dksJ10_copyOf_1 7 rfl rfl)
theorem dJ10_copyOf_32 : decode cJ10_copyOf 32 = .ok (.areturn, 1) := dk_176 (dk_at dksJ10_copyOf_1 8 rfl rfl)
def dkwJ10_copyOfRange_1 : List UInt8 := [176]
abbrev dktJ10_copyOfRange_1 : List UInt8 := dkwJ10_copyOfRange_1 ++ []
def dkwJ10_copyOfRange_0 : List UInt8 := [27, 154, 0, 9, 28, 42, 190, 159, 0, 10, 42, 27, 28, 184, 1, 83, 176, 42, 182, 1, 54, 192, 1, 55]
abbrev dktJ10_copyOfRange_0 : List UInt8 := dkwJ10_copyOfRange_0 ++ dktJ10_copyOfRange_1
theorem dksJ10_copyOfRange_0 : cJ10_copyOfRange.data.toList.drop 0 = dktJ10_copyOfRange_0 := by decide +kernel
theorem dksJ10_copyOfRange_1 : cJ10_copyOfRange.data.toList.drop 24 = dktJ10_copyOfRange_1 := dk_seg dksJ10_copyOfRange_0 24 rfl rfl
theorem dJ10_copyOfRange_0 : decode cJ10_copyOfRange 0 = .ok (.iload_n 1, 1) := dk_27 (dk_at dksJ10_copyOfRange_0 0 rfl rfl)
theorem dJ10_copyOfRange_1 : decode cJ10_copyOfRange 1 = .ok (.ifCond .ne 9, 3) := dk_154 0 9 (dk_at dksJ10_copyOfRange_0 1 rfl rfl)
theorem dJ10_copyOfRange_4 : decode cJ10_copyOfRange 4 = .ok (.iload_n 2, 1) := dk_28 (dk_at dksJ10_copyOfRange_0 4 rfl rfl)
theorem dJ10_copyOfRange_5 : decode cJ10_copyOfRange 5 = .ok (.aload_n 0, 1) := dk_42 (dk_at dksJ10_copyOfRange_0 5 rfl rfl)
theorem dJ10_copyOfRange_6 : decode cJ10_copyOfRange 6 = .ok (.arraylength, 1) := dk_190 (dk_at dksJ10_copyOfRange_0 6 rfl rfl)
theorem dJ10_copyOfRange_7 : decode cJ10_copyOfRange 7 = .ok (.if_icmp .eq 10, 3) := dk_159 0 10 (dk_at dksJ10_copyOfRange_0 7 rfl rfl)
theorem dJ10_copyOfRange_10 : decode cJ10_copyOfRange 10 = .ok (.aload_n 0, 1) := dk_42 (dk_at dksJ10_copyOfRange_0 10 rfl rfl)
theorem dJ10_copyOfRange_11 : decode cJ10_copyOfRange 11 = .ok (.iload_n 1, 1) := dk_27 (dk_at dksJ10_copyOfRange_0 11 rfl rfl)
theorem dJ10_copyOfRange_12 : decode cJ10_copyOfRange 12 = .ok (.iload_n 2, 1) := dk_28 (dk_at dksJ10_copyOfRange_0 12 rfl rfl)
theorem dJ10_copyOfRange_13 : decode cJ10_copyOfRange 13 = .ok (.invokestatic 339, 3) := dk_184 1 83 (dk_at dksJ10_copyOfRange_0 13 rfl rfl)
theorem dJ10_copyOfRange_16 : decode cJ10_copyOfRange 16 = .ok (.areturn, 1) := dk_176 (dk_at dksJ10_copyOfRange_0 16 rfl rfl)
theorem dJ10_copyOfRange_17 : decode cJ10_copyOfRange 17 = .ok (.aload_n 0, 1) := dk_42 (dk_at dksJ10_copyOfRange_0 17 rfl rfl)
theorem dJ10_copyOfRange_18 : decode cJ10_copyOfRange 18 = .ok (.invokevirtual 310, 3) := dk_182 1 54 (dk_at dksJ10_copyOfRange_0 18 rfl rfl)
theorem dJ10_copyOfRange_21 : decode cJ10_copyOfRange 21 = .ok (.checkcast 311, 3) := dk_192 1 55 (dk_at dksJ10_copyOfRange_0 21 rfl rfl)
theorem dJ10_copyOfRange_24 : decode cJ10_copyOfRange 24 = .ok (.areturn, 1) := dk_176 (dk_at dksJ10_copyOfRange_1 0 rfl rfl)
def dkwJ10_copyOfRangeByte_1 : List UInt8 := [184, 1, 48, 184, 0, 150, 25, 4, 176]
abbrev dktJ10_copyOfRangeByte_1 : List UInt8 := dkwJ10_copyOfRangeByte_1 ++ []
def dkwJ10_copyOfRangeByte_0 : List UInt8 := [27, 28, 184, 1, 87, 28, 27, 100, 62, 29, 188, 8, 58, 4, 42, 27, 25, 4, 3, 42, 190, 27, 100, 29]
abbrev dktJ10_copyOfRangeByte_0 : List UInt8 := dkwJ10_copyOfRangeByte_0 ++ dktJ10_copyOfRangeByte_1
theorem dksJ10_copyOfRangeByte_0 : cJ10_copyOfRangeByte.data.toList.drop 0 = dktJ10_copyOfRangeByte_0 := by decide +kernel
theorem dksJ10_copyOfRangeByte_1 : cJ10_copyOfRangeByte.data.toList.drop 24 = dktJ10_copyOfRangeByte_1 := dk_seg dksJ10_copyOfRangeByte_0 24 rfl rfl
theorem dJ10_copyOfRangeByte_0 : decode cJ10_copyOfRangeByte 0 = .ok (.iload_n 1, 1) := dk_27 (dk_at dksJ10_copyOfRangeByte_0 0 rfl rfl)
theorem dJ10_copyOfRangeByte_1 : decode cJ10_copyOfRangeByte 1 = .ok (.iload_n 2, 1) := dk_28 (dk_at dksJ10_copyOfRangeByte_0 1 rfl rfl)
theorem dJ10_copyOfRangeByte_2 : decode cJ10_copyOfRangeByte 2 = .ok (.invokestatic 343, 3) := dk_184 1 87 (dk_at dksJ10_copyOfRangeByte_0 2 rfl rfl)
theorem dJ10_copyOfRangeByte_5 : decode cJ10_copyOfRangeByte 5 = .ok (.iload_n 2, 1) := dk_28 (dk_at dksJ10_copyOfRangeByte_0 5 rfl rfl)
theorem dJ10_copyOfRangeByte_6 : decode cJ10_copyOfRangeByte 6 = .ok (.iload_n 1, 1) := dk_27 (dk_at dksJ10_copyOfRangeByte_0 6 rfl rfl)
theorem dJ10_copyOfRangeByte_7 : decode cJ10_copyOfRangeByte 7 = .ok (.isub, 1) := dk_100 (dk_at dksJ10_copyOfRangeByte_0 7 rfl rfl)
theorem dJ10_copyOfRangeByte_8 : decode cJ10_copyOfRangeByte 8 = .ok (.istore_n 3, 1) := dk_62 (dk_at dksJ10_copyOfRangeByte_0 8 rfl rfl)
theorem dJ10_copyOfRangeByte_9 : decode cJ10_copyOfRangeByte 9 = .ok (.iload_n 3, 1) := dk_29 (dk_at dksJ10_copyOfRangeByte_0 9 rfl rfl)
theorem dJ10_copyOfRangeByte_10 : decode cJ10_copyOfRangeByte 10 = .ok (.newarray .byte, 2) := dk_188_8 (dk_at dksJ10_copyOfRangeByte_0 10 rfl rfl)
theorem dJ10_copyOfRangeByte_12 : decode cJ10_copyOfRangeByte 12 = .ok (.astore 4, 2) := dk_58 4 (dk_at dksJ10_copyOfRangeByte_0 12 rfl rfl)
theorem dJ10_copyOfRangeByte_14 : decode cJ10_copyOfRangeByte 14 = .ok (.aload_n 0, 1) := dk_42 (dk_at dksJ10_copyOfRangeByte_0 14 rfl rfl)
theorem dJ10_copyOfRangeByte_15 : decode cJ10_copyOfRangeByte 15 = .ok (.iload_n 1, 1) := dk_27 (dk_at dksJ10_copyOfRangeByte_0 15 rfl rfl)
theorem dJ10_copyOfRangeByte_16 : decode cJ10_copyOfRangeByte 16 = .ok (.aload 4, 2) := dk_25 4 (dk_at dksJ10_copyOfRangeByte_0 16 rfl rfl)
theorem dJ10_copyOfRangeByte_18 : decode cJ10_copyOfRangeByte 18 = .ok (.iconst 0, 1) := dk_3 (dk_at dksJ10_copyOfRangeByte_0 18 rfl rfl)
theorem dJ10_copyOfRangeByte_19 : decode cJ10_copyOfRangeByte 19 = .ok (.aload_n 0, 1) := dk_42 (dk_at dksJ10_copyOfRangeByte_0 19 rfl rfl)
theorem dJ10_copyOfRangeByte_20 : decode cJ10_copyOfRangeByte 20 = .ok (.arraylength, 1) := dk_190 (dk_at dksJ10_copyOfRangeByte_0 20 rfl rfl)
theorem dJ10_copyOfRangeByte_21 : decode cJ10_copyOfRangeByte 21 = .ok (.iload_n 1, 1) := dk_27 (dk_at dksJ10_copyOfRangeByte_0 21 rfl rfl)
theorem dJ10_copyOfRangeByte_22 : decode cJ10_copyOfRangeByte 22 = .ok (.isub, 1) := dk_100 (dk_at dksJ10_copyOfRangeByte_0 22 rfl rfl)
theorem dJ10_copyOfRangeByte_23 : decode cJ10_copyOfRangeByte 23 = .ok (.iload_n 3, 1) := dk_29 (dk_at dksJ10_copyOfRangeByte_0 23 rfl rfl)
theorem dJ10_copyOfRangeByte_24 : decode cJ10_copyOfRangeByte 24 = .ok (.invokestatic 304, 3) := dk_184 1 48 (dk_at dksJ10_copyOfRangeByte_1 0 rfl rfl)
theorem dJ10_copyOfRangeByte_27 : decode cJ10_copyOfRangeByte 27 = .ok (.invokestatic 150, 3) := dk_184 0 150 (dk_at dksJ10_copyOfRangeByte_1 3 rfl rfl)
theorem dJ10_copyOfRangeByte_30 : decode cJ10_copyOfRangeByte 30 = .ok (.aload 4, 2) := dk_25 4 (dk_at dksJ10_copyOfRangeByte_1 6 rfl rfl)
theorem dJ10_copyOfRangeByte_32 : decode cJ10_copyOfRangeByte 32 = .ok (.areturn, 1) := dk_176 (dk_at dksJ10_copyOfRangeByte_1 8 rfl rfl)
def dkwJ10_checkLength_1 : List UInt8 := [182, 0, 50, 27, 182, 0, 54, 182, 0, 61, 183, 0, 65, 191, 177]
abbrev dktJ10_checkLength_1 : List UInt8 := dkwJ10_checkLength_1 ++ []
def dkwJ10_checkLength_0 : List UInt8 := [27, 26, 162, 0, 35, 187, 0, 43, 89, 187, 0, 45, 89, 183, 0, 47, 26, 182, 0, 54, 19, 1, 81]
abbrev dktJ10_checkLength_0 : List UInt8 := dkwJ10_checkLength_0 ++ dktJ10_checkLength_1
theorem dksJ10_checkLength_0 : cJ10_checkLength.data.toList.drop 0 = dktJ10_checkLength_0 := by decide +kernel
theorem dksJ10_checkLength_1 : cJ10_checkLength.data.toList.drop 23 = dktJ10_checkLength_1 := dk_seg dksJ10_checkLength_0 23 rfl rfl
theorem dJ10_checkLength_0 : decode cJ10_checkLength 0 = .ok (.iload_n 1, 1) := dk_27 (dk_at dksJ10_checkLength_0 0 rfl rfl)
theorem dJ10_checkLength_1 : decode cJ10_checkLength 1 = .ok (.iload_n 0, 1) := dk_26 (dk_at dksJ10_checkLength_0 1 rfl rfl)
theorem dJ10_checkLength_2 : decode cJ10_checkLength 2 = .ok (.if_icmp .ge 35, 3) := dk_162 0 35 (dk_at dksJ10_checkLength_0 2 rfl rfl)
theorem dJ10_checkLength_5 : decode cJ10_checkLength 5 = .ok (.new 43, 3) := dk_187 0 43 (dk_at dksJ10_checkLength_0 5 rfl rfl)
theorem dJ10_checkLength_8 : decode cJ10_checkLength 8 = .ok (.dup, 1) := dk_89 (dk_at dksJ10_checkLength_0 8 rfl rfl)
theorem dJ10_checkLength_9 : decode cJ10_checkLength 9 = .ok (.new 45, 3) := dk_187 0 45 (dk_at dksJ10_checkLength_0 9 rfl rfl)
theorem dJ10_checkLength_12 : decode cJ10_checkLength 12 = .ok (.dup, 1) := dk_89 (dk_at dksJ10_checkLength_0 12 rfl rfl)
theorem dJ10_checkLength_13 : decode cJ10_checkLength 13 = .ok (.invokespecial 47, 3) := dk_183 0 47 (dk_at dksJ10_checkLength_0 13 rfl rfl)
theorem dJ10_checkLength_16 : decode cJ10_checkLength 16 = .ok (.iload_n 0, 1) := dk_26 (dk_at dksJ10_checkLength_0 16 rfl rfl)
theorem dJ10_checkLength_17 : decode cJ10_checkLength 17 = .ok (.invokevirtual 54, 3) := dk_182 0 54 (dk_at dksJ10_checkLength_0 17 rfl rfl)
theorem dJ10_checkLength_20 : decode cJ10_checkLength 20 = .ok (.ldc_w 337, 3) := dk_19 1 81 (dk_at dksJ10_checkLength_0 20 rfl rfl)
theorem dJ10_checkLength_23 : decode cJ10_checkLength 23 = .ok (.invokevirtual 50, 3) := dk_182 0 50 (dk_at dksJ10_checkLength_1 0 rfl rfl)
theorem dJ10_checkLength_26 : decode cJ10_checkLength 26 = .ok (.iload_n 1, 1) := dk_27 (dk_at dksJ10_checkLength_1 3 rfl rfl)
theorem dJ10_checkLength_27 : decode cJ10_checkLength 27 = .ok (.invokevirtual 54, 3) := dk_182 0 54 (dk_at dksJ10_checkLength_1 4 rfl rfl)
theorem dJ10_checkLength_30 : decode cJ10_checkLength 30 = .ok (.invokevirtual 61, 3) := dk_182 0 61 (dk_at dksJ10_checkLength_1 7 rfl rfl)
theorem dJ10_checkLength_33 : decode cJ10_checkLength 33 = .ok (.invokespecial 65, 3) := dk_183 0 65 (dk_at dksJ10_checkLength_1 10 rfl rfl)
theorem dJ10_checkLength_36 : decode cJ10_checkLength 36 = .ok (.athrow, 1) := dk_191 (dk_at dksJ10_checkLength_1 13 rfl rfl)
theorem dJ10_checkLength_37 : decode cJ10_checkLength 37 = .ok (.return_, 1) := dk_177 (dk_at dksJ10_checkLength_1 14 rfl rfl)
def dkwJ10_copyOf_2_0 : List UInt8 := [42, 27, 42, 182, 0, 86, 184, 1, 44, 176]
abbrev dktJ10_copyOf_2_0 : List UInt8 := dkwJ10_copyOf_2_0 ++ []
theorem dksJ10_copyOf_2_0 : cJ10_copyOf_2.data.toList.drop 0 = dktJ10_copyOf_2_0 := by decide +kernel
theorem dJ10_copyOf_2_0 : decode cJ10_copyOf_2 0 = .ok (.aload_n 0, 1) := dk_42 (dk_at dksJ10_copyOf_2_0 0 rfl rfl)
theorem dJ10_copyOf_2_1 : decode cJ10_copyOf_2 1 = .ok (.iload_n 1, 1) := dk_27 (dk_at dksJ10_copyOf_2_0 1 rfl rfl)
theorem dJ10_copyOf_2_2 : decode cJ10_copyOf_2 2 = .ok (.aload_n 0, 1) := dk_42 (dk_at dksJ10_copyOf_2_0 2 rfl rfl)
theorem dJ10_copyOf_2_3 : decode cJ10_copyOf_2 3 = .ok (.invokevirtual 86, 3) := dk_182 0 86 (dk_at dksJ10_copyOf_2_0 3 rfl rfl)
theorem dJ10_copyOf_2_6 : decode cJ10_copyOf_2 6 = .ok (.invokestatic 300, 3) := dk_184 1 44 (dk_at dksJ10_copyOf_2_0 6 rfl rfl)
theorem dJ10_copyOf_2_9 : decode cJ10_copyOf_2 9 = .ok (.areturn, 1) := dk_176 (dk_at dksJ10_copyOf_2_0 9 rfl rfl)
def dkwJ10_copyOf_3_1 : List UInt8 := [78, 42, 3, 45, 3, 42, 190, 27, 184, 1, 48, 184, 0, 150, 45, 176]
abbrev dktJ10_copyOf_3_1 : List UInt8 := dkwJ10_copyOf_3_1 ++ []
def dkwJ10_copyOf_3_0 : List UInt8 := [44, 18, 110, 166, 0, 10, 27, 189, 0, 2, 167, 0, 14, 44, 182, 0, 90, 27, 184, 0, 95, 192, 0, 110]
abbrev dktJ10_copyOf_3_0 : List UInt8 := dkwJ10_copyOf_3_0 ++ dktJ10_copyOf_3_1
theorem dksJ10_copyOf_3_0 : cJ10_copyOf_3.data.toList.drop 0 = dktJ10_copyOf_3_0 := by decide +kernel
theorem dksJ10_copyOf_3_1 : cJ10_copyOf_3.data.toList.drop 24 = dktJ10_copyOf_3_1 := dk_seg dksJ10_copyOf_3_0 24 rfl rfl
theorem dJ10_copyOf_3_0 : decode cJ10_copyOf_3 0 = .ok (.aload_n 2, 1) := dk_44 (dk_at dksJ10_copyOf_3_0 0 rfl rfl)
theorem dJ10_copyOf_3_1 : decode cJ10_copyOf_3 1 = .ok (.ldc 110, 2) := dk_18 110 (dk_at dksJ10_copyOf_3_0 1 rfl rfl)
theorem dJ10_copyOf_3_3 : decode cJ10_copyOf_3 3 = .ok (.if_acmp .ne 10, 3) := dk_166 0 10 (dk_at dksJ10_copyOf_3_0 3 rfl rfl)
theorem dJ10_copyOf_3_6 : decode cJ10_copyOf_3 6 = .ok (.iload_n 1, 1) := dk_27 (dk_at dksJ10_copyOf_3_0 6 rfl rfl)
theorem dJ10_copyOf_3_7 : decode cJ10_copyOf_3 7 = .ok (.anewarray 2, 3) := dk_189 0 2 (dk_at dksJ10_copyOf_3_0 7 rfl rfl)
theorem dJ10_copyOf_3_10 : decode cJ10_copyOf_3 10 = .ok (.goto 14, 3) := dk_167 0 14 (dk_at dksJ10_copyOf_3_0 10 rfl rfl)
theorem dJ10_copyOf_3_13 : decode cJ10_copyOf_3 13 = .ok (.aload_n 2, 1) := dk_44 (dk_at dksJ10_copyOf_3_0 13 rfl rfl)
theorem dJ10_copyOf_3_14 : decode cJ10_copyOf_3 14 = .ok (.invokevirtual 90, 3) := dk_182 0 90 (dk_at dksJ10_copyOf_3_0 14 rfl rfl)
theorem dJ10_copyOf_3_17 : decode cJ10_copyOf_3 17 = .ok (.iload_n 1, 1) := dk_27 (dk_at dksJ10_copyOf_3_0 17 rfl rfl)
theorem dJ10_copyOf_3_18 : decode cJ10_copyOf_3 18 = .ok (.invokestatic 95, 3) := dk_184 0 95 (dk_at dksJ10_copyOf_3_0 18 rfl rfl)
theorem dJ10_copyOf_3_21 : decode cJ10_copyOf_3 21 = .ok (.checkcast 110, 3) := dk_192 0 110 (dk_at dksJ10_copyOf_3_0 21 rfl rfl)
theorem dJ10_copyOf_3_24 : decode cJ10_copyOf_3 24 = .ok (.astore_n 3, 1) := dk_78 (dk_at dksJ10_copyOf_3_1 0 rfl rfl)
theorem dJ10_copyOf_3_25 : decode cJ10_copyOf_3 25 = .ok (.aload_n 0, 1) := dk_42 (dk_at dksJ10_copyOf_3_1 1 rfl rfl)
theorem dJ10_copyOf_3_26 : decode cJ10_copyOf_3 26 = .ok (.iconst 0, 1) := dk_3 (dk_at dksJ10_copyOf_3_1 2 rfl rfl)
theorem dJ10_copyOf_3_27 : decode cJ10_copyOf_3 27 = .ok (.aload_n 3, 1) := dk_45 (dk_at dksJ10_copyOf_3_1 3 rfl rfl)
theorem dJ10_copyOf_3_28 : decode cJ10_copyOf_3 28 = .ok (.iconst 0, 1) := dk_3 (dk_at dksJ10_copyOf_3_1 4 rfl rfl)
theorem dJ10_copyOf_3_29 : decode cJ10_copyOf_3 29 = .ok (.aload_n 0, 1) := dk_42 (dk_at dksJ10_copyOf_3_1 5 rfl rfl)
theorem dJ10_copyOf_3_30 : decode cJ10_copyOf_3 30 = .ok (.arraylength, 1) := dk_190 (dk_at dksJ10_copyOf_3_1 6 rfl rfl)
theorem dJ10_copyOf_3_31 : decode cJ10_copyOf_3 31 = .ok (.iload_n 1, 1) := dk_27 (dk_at dksJ10_copyOf_3_1 7 rfl rfl)
theorem dJ10_copyOf_3_32 : decode cJ10_copyOf_3 32 = .ok (.invokestatic 304, 3) := dk_184 1 48 (dk_at dksJ10_copyOf_3_1 8 rfl rfl)
theorem dJ10_copyOf_3_35 : decode cJ10_copyOf_3 35 = .ok (.invokestatic 150, 3) := dk_184 0 150 (dk_at dksJ10_copyOf_3_1 11 rfl rfl)
theorem dJ10_copyOf_3_38 : decode cJ10_copyOf_3 38 = .ok (.aload_n 3, 1) := dk_45 (dk_at dksJ10_copyOf_3_1 14 rfl rfl)
theorem dJ10_copyOf_3_39 : decode cJ10_copyOf_3 39 = .ok (.areturn, 1) := dk_176 (dk_at dksJ10_copyOf_3_1 15 rfl rfl)
def dkwJ11_canEncode_0 : List UInt8 := [26, 17, 0, 255, 163, 0, 7, 4, 167, 0, 4, 3, 172]
abbrev dktJ11_canEncode_0 : List UInt8 := dkwJ11_canEncode_0 ++ []
theorem dksJ11_canEncode_0 : cJ11_canEncode.data.toList.drop 0 = dktJ11_canEncode_0 := by decide +kernel
theorem dJ11_canEncode_0 : decode cJ11_canEncode 0 = .ok (.iload_n 0, 1) := dk_26 (dk_at dksJ11_canEncode_0 0 rfl rfl)
theorem dJ11_canEncode_1 : decode cJ11_canEncode 1 = .ok (.sipush 255, 3) := dk_17 0 255 (dk_at dksJ11_canEncode_0 1 rfl rfl)
theorem dJ11_canEncode_4 : decode cJ11_canEncode 4 = .ok (.if_icmp .gt 7, 3) := dk_163 0 7 (dk_at dksJ11_canEncode_0 4 rfl rfl)
theorem dJ11_canEncode_7 : decode cJ11_canEncode 7 = .ok (.iconst 1, 1) := dk_4 (dk_at dksJ11_canEncode_0 7 rfl rfl)
theorem dJ11_canEncode_8 : decode cJ11_canEncode 8 = .ok (.goto 4, 3) := dk_167 0 4 (dk_at dksJ11_canEncode_0 8 rfl rfl)
theorem dJ11_canEncode_11 : decode cJ11_canEncode 11 = .ok (.iconst 0, 1) := dk_3 (dk_at dksJ11_canEncode_0 11 rfl rfl)
theorem dJ11_canEncode_12 : decode cJ11_canEncode 12 = .ok (.ireturn, 1) := dk_172 (dk_at dksJ11_canEncode_0 12 rfl rfl)
def dkwJ11_inflate_0 : List UInt8 := [42, 27, 44, 29, 21, 4, 184, 0, 240, 177]
abbrev dktJ11_inflate_0 : List UInt8 := dkwJ11_inflate_0 ++ []
theorem dksJ11_inflate_0 : cJ11_inflate.data.toList.drop 0 = dktJ11_inflate_0 := by decide +kernel
theorem dJ11_inflate_0 : decode cJ11_inflate 0 = .ok (.aload_n 0, 1) := dk_42 (dk_at dksJ11_inflate_0 0 rfl rfl)
theorem dJ11_inflate_1 : decode cJ11_inflate 1 = .ok (.iload_n 1, 1) := dk_27 (dk_at dksJ11_inflate_0 1 rfl rfl)
theorem dJ11_inflate_2 : decode cJ11_inflate 2 = .ok (.aload_n 2, 1) := dk_44 (dk_at dksJ11_inflate_0 2 rfl rfl)
theorem dJ11_inflate_3 : decode cJ11_inflate 3 = .ok (.iload_n 3, 1) := dk_29 (dk_at dksJ11_inflate_0 3 rfl rfl)
theorem dJ11_inflate_4 : decode cJ11_inflate 4 = .ok (.iload 4, 2) := dk_21 4 (dk_at dksJ11_inflate_0 4 rfl rfl)
theorem dJ11_inflate_6 : decode cJ11_inflate 6 = .ok (.invokestatic 240, 3) := dk_184 0 240 (dk_at dksJ11_inflate_0 6 rfl rfl)
theorem dJ11_inflate_9 : decode cJ11_inflate 9 = .ok (.return_, 1) := dk_177 (dk_at dksJ11_inflate_0 9 rfl rfl)
def dkwJ11_newString_0 : List UInt8 := [28, 154, 0, 6, 18, 151, 176, 187, 0, 1, 89, 42, 27, 27, 28, 96, 184, 0, 232, 3, 183, 0, 112, 176]
abbrev dktJ11_newString_0 : List UInt8 := dkwJ11_newString_0 ++ []
theorem dksJ11_newString_0 : cJ11_newString.data.toList.drop 0 = dktJ11_newString_0 := by decide +kernel
theorem dJ11_newString_0 : decode cJ11_newString 0 = .ok (.iload_n 2, 1) := dk_28 (dk_at dksJ11_newString_0 0 rfl rfl)
theorem dJ11_newString_1 : decode cJ11_newString 1 = .ok (.ifCond .ne 6, 3) := dk_154 0 6 (dk_at dksJ11_newString_0 1 rfl rfl)
theorem dJ11_newString_4 : decode cJ11_newString 4 = .ok (.ldc 151, 2) := dk_18 151 (dk_at dksJ11_newString_0 4 rfl rfl)
theorem dJ11_newString_6 : decode cJ11_newString 6 = .ok (.areturn, 1) := dk_176 (dk_at dksJ11_newString_0 6 rfl rfl)
theorem dJ11_newString_7 : decode cJ11_newString 7 = .ok (.new 1, 3) := dk_187 0 1 (dk_at dksJ11_newString_0 7 rfl rfl)
theorem dJ11_newString_10 : decode cJ11_newString 10 = .ok (.dup, 1) := dk_89 (dk_at dksJ11_newString_0 10 rfl rfl)
theorem dJ11_newString_11 : decode cJ11_newString 11 = .ok (.aload_n 0, 1) := dk_42 (dk_at dksJ11_newString_0 11 rfl rfl)
theorem dJ11_newString_12 : decode cJ11_newString 12 = .ok (.iload_n 1, 1) := dk_27 (dk_at dksJ11_newString_0 12 rfl rfl)
theorem dJ11_newString_13 : decode cJ11_newString 13 = .ok (.iload_n 1, 1) := dk_27 (dk_at dksJ11_newString_0 13 rfl rfl)
theorem dJ11_newString_14 : decode cJ11_newString 14 = .ok (.iload_n 2, 1) := dk_28 (dk_at dksJ11_newString_0 14 rfl rfl)
theorem dJ11_newString_15 : decode cJ11_newString 15 = .ok (.iadd, 1) := dk_96 (dk_at dksJ11_newString_0 15 rfl rfl)
theorem dJ11_newString_16 : decode cJ11_newString 16 = .ok (.invokestatic 232, 3) := dk_184 0 232 (dk_at dksJ11_newString_0 16 rfl rfl)
theorem dJ11_newString_19 : decode cJ11_newString 19 = .ok (.iconst 0, 1) := dk_3 (dk_at dksJ11_newString_0 19 rfl rfl)
theorem dJ11_newString_20 : decode cJ11_newString 20 = .ok (.invokespecial 112, 3) := dk_183 0 112 (dk_at dksJ11_newString_0 20 rfl rfl)
theorem dJ11_newString_23 : decode cJ11_newString 23 = .ok (.areturn, 1) := dk_176 (dk_at dksJ11_newString_0 23 rfl rfl)
def dkwJ11_compareTo_0 : List UInt8 := [42, 190, 61, 43, 190, 62, 42, 43, 28, 29, 184, 0, 34, 172]
abbrev dktJ11_compareTo_0 : List UInt8 := dkwJ11_compareTo_0 ++ []
theorem dksJ11_compareTo_0 : cJ11_compareTo.data.toList.drop 0 = dktJ11_compareTo_0 := by decide +kernel
theorem dJ11_compareTo_0 : decode cJ11_compareTo 0 = .ok (.aload_n 0, 1) := dk_42 (dk_at dksJ11_compareTo_0 0 rfl rfl)
theorem dJ11_compareTo_1 : decode cJ11_compareTo 1 = .ok (.arraylength, 1) := dk_190 (dk_at dksJ11_compareTo_0 1 rfl rfl)
theorem dJ11_compareTo_2 : decode cJ11_compareTo 2 = .ok (.istore_n 2, 1) := dk_61 (dk_at dksJ11_compareTo_0 2 rfl rfl)
theorem dJ11_compareTo_3 : decode cJ11_compareTo 3 = .ok (.aload_n 1, 1) := dk_43 (dk_at dksJ11_compareTo_0 3 rfl rfl)
theorem dJ11_compareTo_4 : decode cJ11_compareTo 4 = .ok (.arraylength, 1) := dk_190 (dk_at dksJ11_compareTo_0 4 rfl rfl)
theorem dJ11_compareTo_5 : decode cJ11_compareTo 5 = .ok (.istore_n 3, 1) := dk_62 (dk_at dksJ11_compareTo_0 5 rfl rfl)
theorem dJ11_compareTo_6 : decode cJ11_compareTo 6 = .ok (.aload_n 0, 1) := dk_42 (dk_at dksJ11_compareTo_0 6 rfl rfl)
theorem dJ11_compareTo_7 : decode cJ11_compareTo 7 = .ok (.aload_n 1, 1) := dk_43 (dk_at dksJ11_compareTo_0 7 rfl rfl)
theorem dJ11_compareTo_8 : decode cJ11_compareTo 8 = .ok (.iload_n 2, 1) := dk_28 (dk_at dksJ11_compareTo_0 8 rfl rfl)
theorem dJ11_compareTo_9 : decode cJ11_compareTo 9 = .ok (.iload_n 3, 1) := dk_29 (dk_at dksJ11_compareTo_0 9 rfl rfl)
theorem dJ11_compareTo_10 : decode cJ11_compareTo 10 = .ok (.invokestatic 34, 3) := dk_184 0 34 (dk_at dksJ11_compareTo_0 10 rfl rfl)
theorem dJ11_compareTo_13 : decode cJ11_compareTo 13 = .ok (.ireturn, 1) := dk_172 (dk_at dksJ11_compareTo_0 13 rfl rfl)
def dkwJ11_compareTo_2_1 : List UInt8 := [167, 0, 16, 42, 21, 5, 184, 0, 50, 43, 21, 5, 184, 0, 50, 100, 172]
abbrev dktJ11_compareTo_2_1 : List UInt8 := dkwJ11_compareTo_2_1 ++ []
def dkwJ11_compareTo_2_0 : List UInt8 := [28, 29, 184, 0, 38, 54, 4, 42, 43, 21, 4, 184, 0, 44, 54, 5, 21, 5, 156, 0, 9, 28, 29, 100]
abbrev dktJ11_compareTo_2_0 : List UInt8 := dkwJ11_compareTo_2_0 ++ dktJ11_compareTo_2_1
theorem dksJ11_compareTo_2_0 : cJ11_compareTo_2.data.toList.drop 0 = dktJ11_compareTo_2_0 := by decide +kernel
theorem dksJ11_compareTo_2_1 : cJ11_compareTo_2.data.toList.drop 24 = dktJ11_compareTo_2_1 := dk_seg dksJ11_compareTo_2_0 24 rfl rfl
theorem dJ11_compareTo_2_0 : decode cJ11_compareTo_2 0 = .ok (.iload_n 2, 1) := dk_28 (dk_at dksJ11_compareTo_2_0 0 rfl rfl)
theorem dJ11_compareTo_2_1 : decode cJ11_compareTo_2 1 = .ok (.iload_n 3, 1) := dk_29 (dk_at dksJ11_compareTo_2_0 1 rfl rfl)
theorem dJ11_compareTo_2_2 : decode cJ11_compareTo_2 2 = .ok (.invokestatic 38, 3) := dk_184 0 38 (dk_at dksJ11_compareTo_2_0 2 rfl rfl)
theorem dJ11_compareTo_2_5 : decode cJ11_compareTo_2 5 = .ok (.istore 4, 2) := dk_54 4 (dk_at dksJ11_compareTo_2_0 5 rfl rfl)
theorem dJ11_compareTo_2_7 : decode cJ11_compareTo_2 7 = .ok (.aload_n 0, 1) := dk_42 (dk_at dksJ11_compareTo_2_0 7 rfl rfl)
theorem dJ11_compareTo_2_8 : decode cJ11_compareTo_2 8 = .ok (.aload_n 1, 1) := dk_43 (dk_at dksJ11_compareTo_2_0 8 rfl rfl)
theorem dJ11_compareTo_2_9 : decode cJ11_compareTo_2 9 = .ok (.iload 4, 2) := dk_21 4 (dk_at dksJ11_compareTo_2_0 9 rfl rfl)
theorem dJ11_compareTo_2_11 : decode cJ11_compareTo_2 11 = .ok (.invokestatic 44, 3) := dk_184 0 44 (dk_at dksJ11_compareTo_2_0 11 rfl rfl)
theorem dJ11_compareTo_2_14 : decode cJ11_compareTo_2 14 = .ok (.istore 5, 2) := dk_54 5 (dk_at dksJ11_compareTo_2_0 14 rfl rfl)
theorem dJ11_compareTo_2_16 : decode cJ11_compareTo_2 16 = .ok (.iload 5, 2) := dk_21 5 (dk_at dksJ11_compareTo_2_0 16 rfl rfl)
theorem dJ11_compareTo_2_18 : decode cJ11_compareTo_2 18 = .ok (.ifCond .ge 9, 3) := dk_156 0 9 (dk_at dksJ11_compareTo_2_0 18 rfl rfl)
theorem dJ11_compareTo_2_21 : decode cJ11_compareTo_2 21 = .ok (.iload_n 2, 1) := dk_28 (dk_at dksJ11_compareTo_2_0 21 rfl rfl)
theorem dJ11_compareTo_2_22 : decode cJ11_compareTo_2 22 = .ok (.iload_n 3, 1) := dk_29 (dk_at dksJ11_compareTo_2_0 22 rfl rfl)
theorem dJ11_compareTo_2_23 : decode cJ11_compareTo_2 23 = .ok (.isub, 1) := dk_100 (dk_at dksJ11_compareTo_2_0 23 rfl rfl)
theorem dJ11_compareTo_2_24 : decode cJ11_compareTo_2 24 = .ok (.goto 16, 3) := dk_167 0 16 (dk_at dksJ11_compareTo_2_1 0 rfl rfl)
theorem dJ11_compareTo_2_27 : decode cJ11_compareTo_2 27 = .ok (.aload_n 0, 1) := dk_42 (dk_at dksJ11_compareTo_2_1 3 rfl rfl)
theorem dJ11_compareTo_2_28 : decode cJ11_compareTo_2 28 = .ok (.iload 5, 2) := dk_21 5 (dk_at dksJ11_compareTo_2_1 4 rfl rfl)
theorem dJ11_compareTo_2_30 : decode cJ11_compareTo_2 30 = .ok (.invokestatic 50, 3) := dk_184 0 50 (dk_at dksJ11_compareTo_2_1 6 rfl rfl)
theorem dJ11_compareTo_2_33 : decode cJ11_compareTo_2 33 = .ok (.aload_n 1, 1) := dk_43 (dk_at dksJ11_compareTo_2_1 9 rfl rfl)
theorem dJ11_compareTo_2_34 : decode cJ11_compareTo_2 34 = .ok (.iload 5, 2) := dk_21 5 (dk_at dksJ11_compareTo_2_1 10 rfl rfl)
theorem dJ11_compareTo_2_36 : decode cJ11_compareTo_2 36 = .ok (.invokestatic 50, 3) := dk_184 0 50 (dk_at dksJ11_compareTo_2_1 12 rfl rfl)
theorem dJ11_compareTo_2_39 : decode cJ11_compareTo_2 39 = .ok (.isub, 1) := dk_100 (dk_at dksJ11_compareTo_2_1 15 rfl rfl)
theorem dJ11_compareTo_2_40 : decode cJ11_compareTo_2 40 = .ok (.ireturn, 1) := dk_172 (dk_at dksJ11_compareTo_2_1 16 rfl rfl)
def dkwJ11_getChar_0 : List UInt8 := [42, 27, 51, 17, 0, 255, 126, 146, 172]
abbrev dktJ11_getChar_0 : List UInt8 := dkwJ11_getChar_0 ++ []
theorem dksJ11_getChar_0 : cJ11_getChar.data.toList.drop 0 = dktJ11_getChar_0 := by decide +kernel
theorem dJ11_getChar_0 : decode cJ11_getChar 0 = .ok (.aload_n 0, 1) := dk_42 (dk_at dksJ11_getChar_0 0 rfl rfl)
theorem dJ11_getChar_1 : decode cJ11_getChar 1 = .ok (.iload_n 1, 1) := dk_27 (dk_at dksJ11_getChar_0 1 rfl rfl)
theorem dJ11_getChar_2 : decode cJ11_getChar 2 = .ok (.baload, 1) := dk_51 (dk_at dksJ11_getChar_0 2 rfl rfl)
theorem dJ11_getChar_3 : decode cJ11_getChar 3 = .ok (.sipush 255, 3) := dk_17 0 255 (dk_at dksJ11_getChar_0 3 rfl rfl)
theorem dJ11_getChar_6 : decode cJ11_getChar 6 = .ok (.iand, 1) := dk_126 (dk_at dksJ11_getChar_0 6 rfl rfl)
theorem dJ11_getChar_7 : decode cJ11_getChar 7 = .ok (.i2c, 1) := dk_146 (dk_at dksJ11_getChar_0 7 rfl rfl)
theorem dJ11_getChar_8 : decode cJ11_getChar 8 = .ok (.ireturn, 1) := dk_172 (dk_at dksJ11_getChar_0 8 rfl rfl)
def dkwJ11_compareToUTF16_0 : List UInt8 := [42, 184, 0, 54, 61, 43, 184, 0, 58, 62, 42, 43, 28, 29, 184, 0, 59, 172]
abbrev dktJ11_compareToUTF16_0 : List UInt8 := dkwJ11_compareToUTF16_0 ++ []
theorem dksJ11_compareToUTF16_0 : cJ11_compareToUTF16.data.toList.drop 0 = dktJ11_compareToUTF16_0 := by decide +kernel
theorem dJ11_compareToUTF16_0 : decode cJ11_compareToUTF16 0 = .ok (.aload_n 0, 1) := dk_42 (dk_at dksJ11_compareToUTF16_0 0 rfl rfl)
theorem dJ11_compareToUTF16_1 : decode cJ11_compareToUTF16 1 = .ok (.invokestatic 54, 3) := dk_184 0 54 (dk_at dksJ11_compareToUTF16_0 1 rfl rfl)
theorem dJ11_compareToUTF16_4 : decode cJ11_compareToUTF16 4 = .ok (.istore_n 2, 1) := dk_61 (dk_at dksJ11_compareToUTF16_0 4 rfl rfl)
theorem dJ11_compareToUTF16_5 : decode cJ11_compareToUTF16 5 = .ok (.aload_n 1, 1) := dk_43 (dk_at dksJ11_compareToUTF16_0 5 rfl rfl)
theorem dJ11_compareToUTF16_6 : decode cJ11_compareToUTF16 6 = .ok (.invokestatic 58, 3) := dk_184 0 58 (dk_at dksJ11_compareToUTF16_0 6 rfl rfl)
theorem dJ11_compareToUTF16_9 : decode cJ11_compareToUTF16 9 = .ok (.istore_n 3, 1) := dk_62 (dk_at dksJ11_compareToUTF16_0 9 rfl rfl)
theorem dJ11_compareToUTF16_10 : decode cJ11_compareToUTF16 10 = .ok (.aload_n 0, 1) := dk_42 (dk_at dksJ11_compareToUTF16_0 10 rfl rfl)
theorem dJ11_compareToUTF16_11 : decode cJ11_compareToUTF16 11 = .ok (.aload_n 1, 1) := dk_43 (dk_at dksJ11_compareToUTF16_0 11 rfl rfl)
theorem dJ11_compareToUTF16_12 : decode cJ11_compareToUTF16 12 = .ok (.iload_n 2, 1) := dk_28 (dk_at dksJ11_compareToUTF16_0 12 rfl rfl)
theorem dJ11_compareToUTF16_13 : decode cJ11_compareToUTF16 13 = .ok (.iload_n 3, 1) := dk_29 (dk_at dksJ11_compareToUTF16_0 13 rfl rfl)
theorem dJ11_compareToUTF16_14 : decode cJ11_compareToUTF16 14 = .ok (.invokestatic 59, 3) := dk_184 0 59 (dk_at dksJ11_compareToUTF16_0 14 rfl rfl)
theorem dJ11_compareToUTF16_17 : decode cJ11_compareToUTF16 17 = .ok (.ireturn, 1) := dk_172 (dk_at dksJ11_compareToUTF16_0 17 rfl rfl)
theorem dJ11_length_0 : decode cJ11_length 0 = .ok (.aload_n 0, 1) := by decide +kernel
theorem dJ11_length_1 : decode cJ11_length 1 = .ok (.arraylength, 1) := by decide +kernel
theorem dJ11_length_2 : decode cJ11_length 2 = .ok (.ireturn, 1) := by decide +kernel
def dkwJ11_compareToUTF16Values_2 : List UInt8 := [132, 5, 1, 167, 255, 217, 28, 29, 100, 172]
abbrev dktJ11_compareToUTF16Values_2 : List UInt8 := dkwJ11_compareToUTF16Values_2 ++ []
def dkwJ11_compareToUTF16Values_1 : List UInt8 := [54, 6, 43, 21, 5, 184, 0, 65, 54, 7, 21, 6, 21, 7, 159, 0, 9, 21, 6, 21, 7, 100, 172]
abbrev dktJ11_compareToUTF16Values_1 : List UInt8 := dkwJ11_compareToUTF16Values_1 ++ dktJ11_compareToUTF16Values_2
def dkwJ11_compareToUTF16Values_0 : List UInt8 := [28, 29, 184, 0, 38, 54, 4, 3, 54, 5, 21, 5, 21, 4, 162, 0, 38, 42, 21, 5, 184, 0, 50]
abbrev dktJ11_compareToUTF16Values_0 : List UInt8 := dkwJ11_compareToUTF16Values_0 ++ dktJ11_compareToUTF16Values_1
theorem dksJ11_compareToUTF16Values_0 : cJ11_compareToUTF16Values.data.toList.drop 0 = dktJ11_compareToUTF16Values_0 := by decide +kernel
theorem dksJ11_compareToUTF16Values_1 : cJ11_compareToUTF16Values.data.toList.drop 23 = dktJ11_compareToUTF16Values_1 := dk_seg dksJ11_compareToUTF16Values_0 23 rfl rfl
theorem dksJ11_compareToUTF16Values_2 : cJ11_compareToUTF16Values.data.toList.drop 46 = dktJ11_compareToUTF16Values_2 := dk_seg dksJ11_compareToUTF16Values_1 23 rfl rfl
theorem dJ11_compareToUTF16Values_0 : decode cJ11_compareToUTF16Values 0 = .ok (.iload_n 2, 1) := dk_28 (dk_at dksJ11_compareToUTF16Values_0 0 rfl rfl)
theorem dJ11_compareToUTF16Values_1 : decode cJ11_compareToUTF16Values 1 = .ok (.iload_n 3, 1) := dk_29 (dk_at dksJ11_compareToUTF16Values_0 1 rfl rfl)
theorem dJ11_compareToUTF16Values_2 : decode cJ11_compareToUTF16Values 2 = .ok (.invokestatic 38, 3) := dk_184 0 38 (dk_at dksJ11_compareToUTF16Values_0 2 rfl rfl)
theorem dJ11_compareToUTF16Values_5 : decode cJ11_compareToUTF16Values 5 = .ok (.istore 4, 2) := dk_54 4 (dk_at dksJ11_compareToUTF16Values_0 5 rfl rfl)
theorem dJ11_compareToUTF16Values_7 : decode cJ11_compareToUTF16Values 7 = .ok (.iconst 0, 1) := dk_3 (dk_at dksJ11_compareToUTF16Values_0 7 rfl rfl)
theorem dJ11_compareToUTF16Values_8 : decode cJ11_compareToUTF16Values 8 = .ok (.istore 5, 2) := dk_54 5 (dk_at dksJ11_compareToUTF16Values_0 8 rfl rfl)
theorem dJ11_compareToUTF16Values_10 : decode cJ11_compareToUTF16Values 10 = .ok (.iload 5, 2) := dk_21 5 (dk_at dksJ11_compareToUTF16Values_0 10 rfl rfl)
theorem dJ11_compareToUTF16Values_12 : decode cJ11_compareToUTF16Values 12 = .ok (.iload 4, 2) := dk_21 4 (dk_at dksJ11_compareToUTF16Values_0 12 rfl rfl)
theorem dJ11_compareToUTF16Values_14 : decode cJ11_compareToUTF16Values 14 = .ok (.if_icmp .ge 38, 3) := dk_162 0 38 (dk_at dksJ11_compareToUTF16Values_0 14 rfl rfl)
theorem dJ11_compareToUTF16Values_17 : decode cJ11_compareToUTF16Values 17 = .ok (.aload_n 0, 1) := dk_42 (dk_at dksJ11_compareToUTF16Values_0 17 rfl rfl)
theorem dJ11_compareToUTF16Values_18 : decode cJ11_compareToUTF16Values 18 = .ok (.iload 5, 2) := dk_21 5 (dk_at dksJ11_compareToUTF16Values_0 18 rfl rfl)
theorem dJ11_compareToUTF16Values_20 : decode cJ11_compareToUTF16Values 20 = .ok (.invokestatic 50, 3) := dk_184 0 50 (dk_at dksJ11_compareToUTF16Values_0 20 rfl rfl)
theorem dJ11_compareToUTF16Values_23 : decode cJ11_compareToUTF16Values 23 = .ok (.istore 6, 2) := dk_54 6 (dk_at dksJ11_compareToUTF16Values_1 0 rfl rfl)
theorem dJ11_compareToUTF16Values_25 : decode cJ11_compareToUTF16Values 25 = .ok (.aload_n 1, 1) := dk_43 (dk_at dksJ11_compareToUTF16Values_1 2 rfl rfl)
theorem dJ11_compareToUTF16Values_26 : decode cJ11_compareToUTF16Values 26 = .ok (.iload 5, 2) := dk_21 5 (dk_at dksJ11_compareToUTF16Values_1 3 rfl rfl)
theorem dJ11_compareToUTF16Values_28 : decode cJ11_compareToUTF16Values 28 = .ok (.invokestatic 65, 3) := dk_184 0 65 (dk_at dksJ11_compareToUTF16Values_1 5 rfl rfl)
theorem dJ11_compareToUTF16Values_31 : decode cJ11_compareToUTF16Values 31 = .ok (.istore 7, 2) := dk_54 7 (dk_at dksJ11_compareToUTF16Values_1 8 rfl rfl)
theorem dJ11_compareToUTF16Values_33 : decode cJ11_compareToUTF16Values 33 = .ok (.iload 6, 2) := dk_21 6 (dk_at dksJ11_compareToUTF16Values_1 10 rfl rfl)
theorem dJ11_compareToUTF16Values_35 : decode cJ11_compareToUTF16Values 35 = .ok (.iload 7, 2) := dk_21 7 (dk_at dksJ11_compareToUTF16Values_1 12 rfl rfl)
theorem dJ11_compareToUTF16Values_37 : decode cJ11_compareToUTF16Values 37 = .ok (.if_icmp .eq 9, 3) := dk_159 0 9 (dk_at dksJ11_compareToUTF16Values_1 14 rfl rfl)
theorem dJ11_compareToUTF16Values_40 : decode cJ11_compareToUTF16Values 40 = .ok (.iload 6, 2) := dk_21 6 (dk_at dksJ11_compareToUTF16Values_1 17 rfl rfl)
theorem dJ11_compareToUTF16Values_42 : decode cJ11_compareToUTF16Values 42 = .ok (.iload 7, 2) := dk_21 7 (dk_at dksJ11_compareToUTF16Values_1 19 rfl rfl)
theorem dJ11_compareToUTF16Values_44 : decode cJ11_compareToUTF16Values 44 = .ok (.isub, 1) := dk_100 (dk_at dksJ11_compareToUTF16Values_1 21 rfl rfl)
theorem dJ11_compareToUTF16Values_45 : decode cJ11_compareToUTF16Values 45 = .ok (.ireturn, 1) := dk_172 (dk_at dksJ11_compareToUTF16Values_1 22 rfl rfl)
theorem dJ11_compareToUTF16Values_46 : decode cJ11_compareToUTF16Values 46 = .ok (.iinc 5 1, 3) := dk_132 5 1 (dk_at dksJ11_compareToUTF16Values_2 0 rfl rfl)
theorem dJ11_compareToUTF16Values_49 : decode cJ11_compareToUTF16Values 49 = .ok (.goto (-39), 3) := dk_167 255 217 (dk_at dksJ11_compareToUTF16Values_2 3 rfl rfl)
theorem dJ11_compareToUTF16Values_52 : decode cJ11_compareToUTF16Values 52 = .ok (.iload_n 2, 1) := dk_28 (dk_at dksJ11_compareToUTF16Values_2 6 rfl rfl)
theorem dJ11_compareToUTF16Values_53 : decode cJ11_compareToUTF16Values 53 = .ok (.iload_n 3, 1) := dk_29 (dk_at dksJ11_compareToUTF16Values_2 7 rfl rfl)
theorem dJ11_compareToUTF16Values_54 : decode cJ11_compareToUTF16Values 54 = .ok (.isub, 1) := dk_100 (dk_at dksJ11_compareToUTF16Values_2 8 rfl rfl)
theorem dJ11_compareToUTF16Values_55 : decode cJ11_compareToUTF16Values 55 = .ok (.ireturn, 1) := dk_172 (dk_at dksJ11_compareToUTF16Values_2 9 rfl rfl)
def dkwJ11_compareToUTF16_2_0 : List UInt8 := [28, 42, 184, 0, 54, 184, 0, 62, 29, 43, 184, 0, 58, 184, 0, 62, 42, 43, 28, 29, 184, 0, 59, 172]
abbrev dktJ11_compareToUTF16_2_0 : List UInt8 := dkwJ11_compareToUTF16_2_0 ++ []
theorem dksJ11_compareToUTF16_2_0 : cJ11_compareToUTF16_2.data.toList.drop 0 = dktJ11_compareToUTF16_2_0 := by decide +kernel
theorem dJ11_compareToUTF16_2_0 : decode cJ11_compareToUTF16_2 0 = .ok (.iload_n 2, 1) := dk_28 (dk_at dksJ11_compareToUTF16_2_0 0 rfl rfl)
theorem dJ11_compareToUTF16_2_1 : decode cJ11_compareToUTF16_2 1 = .ok (.aload_n 0, 1) := dk_42 (dk_at dksJ11_compareToUTF16_2_0 1 rfl rfl)
theorem dJ11_compareToUTF16_2_2 : decode cJ11_compareToUTF16_2 2 = .ok (.invokestatic 54, 3) := dk_184 0 54 (dk_at dksJ11_compareToUTF16_2_0 2 rfl rfl)
theorem dJ11_compareToUTF16_2_5 : decode cJ11_compareToUTF16_2 5 = .ok (.invokestatic 62, 3) := dk_184 0 62 (dk_at dksJ11_compareToUTF16_2_0 5 rfl rfl)
theorem dJ11_compareToUTF16_2_8 : decode cJ11_compareToUTF16_2 8 = .ok (.iload_n 3, 1) := dk_29 (dk_at dksJ11_compareToUTF16_2_0 8 rfl rfl)
theorem dJ11_compareToUTF16_2_9 : decode cJ11_compareToUTF16_2 9 = .ok (.aload_n 1, 1) := dk_43 (dk_at dksJ11_compareToUTF16_2_0 9 rfl rfl)
theorem dJ11_compareToUTF16_2_10 : decode cJ11_compareToUTF16_2 10 = .ok (.invokestatic 58, 3) := dk_184 0 58 (dk_at dksJ11_compareToUTF16_2_0 10 rfl rfl)
theorem dJ11_compareToUTF16_2_13 : decode cJ11_compareToUTF16_2 13 = .ok (.invokestatic 62, 3) := dk_184 0 62 (dk_at dksJ11_compareToUTF16_2_0 13 rfl rfl)
theorem dJ11_compareToUTF16_2_16 : decode cJ11_compareToUTF16_2 16 = .ok (.aload_n 0, 1) := dk_42 (dk_at dksJ11_compareToUTF16_2_0 16 rfl rfl)
theorem dJ11_compareToUTF16_2_17 : decode cJ11_compareToUTF16_2 17 = .ok (.aload_n 1, 1) := dk_43 (dk_at dksJ11_compareToUTF16_2_0 17 rfl rfl)
theorem dJ11_compareToUTF16_2_18 : decode cJ11_compareToUTF16_2 18 = .ok (.iload_n 2, 1) := dk_28 (dk_at dksJ11_compareToUTF16_2_0 18 rfl rfl)
theorem dJ11_compareToUTF16_2_19 : decode cJ11_compareToUTF16_2 19 = .ok (.iload_n 3, 1) := dk_29 (dk_at dksJ11_compareToUTF16_2_0 19 rfl rfl)
theorem dJ11_compareToUTF16_2_20 : decode cJ11_compareToUTF16_2 20 = .ok (.invokestatic 59, 3) := dk_184 0 59 (dk_at dksJ11_compareToUTF16_2_0 20 rfl rfl)
theorem dJ11_compareToUTF16_2_23 : decode cJ11_compareToUTF16_2 23 = .ok (.ireturn, 1) := dk_172 (dk_at dksJ11_compareToUTF16_2_0 23 rfl rfl)
def dkwJ11_charAt_0 : List UInt8 := [27, 42, 190, 184, 0, 9, 42, 27, 51, 17, 0, 255, 126, 146, 172]
abbrev dktJ11_charAt_0 : List UInt8 := dkwJ11_charAt_0 ++ []
theorem dksJ11_charAt_0 : cJ11_charAt.data.toList.drop 0 = dktJ11_charAt_0 := by decide +kernel
theorem dJ11_charAt_0 : decode cJ11_charAt 0 = .ok (.iload_n 1, 1) := dk_27 (dk_at dksJ11_charAt_0 0 rfl rfl)
theorem dJ11_charAt_1 : decode cJ11_charAt 1 = .ok (.aload_n 0, 1) := dk_42 (dk_at dksJ11_charAt_0 1 rfl rfl)
theorem dJ11_charAt_2 : decode cJ11_charAt 2 = .ok (.arraylength, 1) := dk_190 (dk_at dksJ11_charAt_0 2 rfl rfl)
theorem dJ11_charAt_3 : decode cJ11_charAt 3 = .ok (.invokestatic 9, 3) := dk_184 0 9 (dk_at dksJ11_charAt_0 3 rfl rfl)
theorem dJ11_charAt_6 : decode cJ11_charAt 6 = .ok (.aload_n 0, 1) := dk_42 (dk_at dksJ11_charAt_0 6 rfl rfl)
theorem dJ11_charAt_7 : decode cJ11_charAt 7 = .ok (.iload_n 1, 1) := dk_27 (dk_at dksJ11_charAt_0 7 rfl rfl)
theorem dJ11_charAt_8 : decode cJ11_charAt 8 = .ok (.baload, 1) := dk_51 (dk_at dksJ11_charAt_0 8 rfl rfl)
theorem dJ11_charAt_9 : decode cJ11_charAt 9 = .ok (.sipush 255, 3) := dk_17 0 255 (dk_at dksJ11_charAt_0 9 rfl rfl)
theorem dJ11_charAt_12 : decode cJ11_charAt 12 = .ok (.iand, 1) := dk_126 (dk_at dksJ11_charAt_0 12 rfl rfl)
theorem dJ11_charAt_13 : decode cJ11_charAt 13 = .ok (.i2c, 1) := dk_146 (dk_at dksJ11_charAt_0 13 rfl rfl)
theorem dJ11_charAt_14 : decode cJ11_charAt 14 = .ok (.ireturn, 1) := dk_172 (dk_at dksJ11_charAt_0 14 rfl rfl)
def dkwJ11_indexOf_1 : List UInt8 := [161, 0, 5, 2, 172, 42, 27, 28, 29, 184, 0, 95, 172]
abbrev dktJ11_indexOf_1 : List UInt8 := dkwJ11_indexOf_1 ++ []
def dkwJ11_indexOf_0 : List UInt8 := [27, 184, 0, 88, 154, 0, 5, 2, 172, 28, 3, 184, 0, 92, 61, 29, 42, 190, 184, 0, 38, 62, 28, 29]
abbrev dktJ11_indexOf_0 : List UInt8 := dkwJ11_indexOf_0 ++ dktJ11_indexOf_1
theorem dksJ11_indexOf_0 : cJ11_indexOf.data.toList.drop 0 = dktJ11_indexOf_0 := by decide +kernel
theorem dksJ11_indexOf_1 : cJ11_indexOf.data.toList.drop 24 = dktJ11_indexOf_1 := dk_seg dksJ11_indexOf_0 24 rfl rfl
theorem dJ11_indexOf_0 : decode cJ11_indexOf 0 = .ok (.iload_n 1, 1) := dk_27 (dk_at dksJ11_indexOf_0 0 rfl rfl)
theorem dJ11_indexOf_1 : decode cJ11_indexOf 1 = .ok (.invokestatic 88, 3) := dk_184 0 88 (dk_at dksJ11_indexOf_0 1 rfl rfl)
theorem dJ11_indexOf_4 : decode cJ11_indexOf 4 = .ok (.ifCond .ne 5, 3) := dk_154 0 5 (dk_at dksJ11_indexOf_0 4 rfl rfl)
theorem dJ11_indexOf_7 : decode cJ11_indexOf 7 = .ok (.iconst (-1), 1) := dk_2 (dk_at dksJ11_indexOf_0 7 rfl rfl)
theorem dJ11_indexOf_8 : decode cJ11_indexOf 8 = .ok (.ireturn, 1) := dk_172 (dk_at dksJ11_indexOf_0 8 rfl rfl)
theorem dJ11_indexOf_9 : decode cJ11_indexOf 9 = .ok (.iload_n 2, 1) := dk_28 (dk_at dksJ11_indexOf_0 9 rfl rfl)
theorem dJ11_indexOf_10 : decode cJ11_indexOf 10 = .ok (.iconst 0, 1) := dk_3 (dk_at dksJ11_indexOf_0 10 rfl rfl)
theorem dJ11_indexOf_11 : decode cJ11_indexOf 11 = .ok (.invokestatic 92, 3) := dk_184 0 92 (dk_at dksJ11_indexOf_0 11 rfl rfl)
theorem dJ11_indexOf_14 : decode cJ11_indexOf 14 = .ok (.istore_n 2, 1) := dk_61 (dk_at dksJ11_indexOf_0 14 rfl rfl)
theorem dJ11_indexOf_15 : decode cJ11_indexOf 15 = .ok (.iload_n 3, 1) := dk_29 (dk_at dksJ11_indexOf_0 15 rfl rfl)
theorem dJ11_indexOf_16 : decode cJ11_indexOf 16 = .ok (.aload_n 0, 1) := dk_42 (dk_at dksJ11_indexOf_0 16 rfl rfl)
theorem dJ11_indexOf_17 : decode cJ11_indexOf 17 = .ok (.arraylength, 1) := dk_190 (dk_at dksJ11_indexOf_0 17 rfl rfl)
theorem dJ11_indexOf_18 : decode cJ11_indexOf 18 = .ok (.invokestatic 38, 3) := dk_184 0 38 (dk_at dksJ11_indexOf_0 18 rfl rfl)
theorem dJ11_indexOf_21 : decode cJ11_indexOf 21 = .ok (.istore_n 3, 1) := dk_62 (dk_at dksJ11_indexOf_0 21 rfl rfl)
theorem dJ11_indexOf_22 : decode cJ11_indexOf 22 = .ok (.iload_n 2, 1) := dk_28 (dk_at dksJ11_indexOf_0 22 rfl rfl)
theorem dJ11_indexOf_23 : decode cJ11_indexOf 23 = .ok (.iload_n 3, 1) := dk_29 (dk_at dksJ11_indexOf_0 23 rfl rfl)
theorem dJ11_indexOf_24 : decode cJ11_indexOf 24 = .ok (.if_icmp .lt 5, 3) := dk_161 0 5 (dk_at dksJ11_indexOf_1 0 rfl rfl)
theorem dJ11_indexOf_27 : decode cJ11_indexOf 27 = .ok (.iconst (-1), 1) := dk_2 (dk_at dksJ11_indexOf_1 3 rfl rfl)
theorem dJ11_indexOf_28 : decode cJ11_indexOf 28 = .ok (.ireturn, 1) := dk_172 (dk_at dksJ11_indexOf_1 4 rfl rfl)
theorem dJ11_indexOf_29 : decode cJ11_indexOf 29 = .ok (.aload_n 0, 1) := dk_42 (dk_at dksJ11_indexOf_1 5 rfl rfl)
theorem dJ11_indexOf_30 : decode cJ11_indexOf 30 = .ok (.iload_n 1, 1) := dk_27 (dk_at dksJ11_indexOf_1 6 rfl rfl)
theorem dJ11_indexOf_31 : decode cJ11_indexOf 31 = .ok (.iload_n 2, 1) := dk_28 (dk_at dksJ11_indexOf_1 7 rfl rfl)
theorem dJ11_indexOf_32 : decode cJ11_indexOf 32 = .ok (.iload_n 3, 1) := dk_29 (dk_at dksJ11_indexOf_1 8 rfl rfl)
theorem dJ11_indexOf_33 : decode cJ11_indexOf 33 = .ok (.invokestatic 95, 3) := dk_184 0 95 (dk_at dksJ11_indexOf_1 9 rfl rfl)
theorem dJ11_indexOf_36 : decode cJ11_indexOf 36 = .ok (.ireturn, 1) := dk_172 (dk_at dksJ11_indexOf_1 12 rfl rfl)
def dkwJ11_canEncode_2_0 : List UInt8 := [26, 155, 0, 14, 26, 17, 0, 255, 163, 0, 7, 4, 167, 0, 4, 3, 172]
abbrev dktJ11_canEncode_2_0 : List UInt8 := dkwJ11_canEncode_2_0 ++ []
theorem dksJ11_canEncode_2_0 : cJ11_canEncode_2.data.toList.drop 0 = dktJ11_canEncode_2_0 := by decide +kernel
theorem dJ11_canEncode_2_0 : decode cJ11_canEncode_2 0 = .ok (.iload_n 0, 1) := dk_26 (dk_at dksJ11_canEncode_2_0 0 rfl rfl)
theorem dJ11_canEncode_2_1 : decode cJ11_canEncode_2 1 = .ok (.ifCond .lt 14, 3) := dk_155 0 14 (dk_at dksJ11_canEncode_2_0 1 rfl rfl)
theorem dJ11_canEncode_2_4 : decode cJ11_canEncode_2 4 = .ok (.iload_n 0, 1) := dk_26 (dk_at dksJ11_canEncode_2_0 4 rfl rfl)
theorem dJ11_canEncode_2_5 : decode cJ11_canEncode_2 5 = .ok (.sipush 255, 3) := dk_17 0 255 (dk_at dksJ11_canEncode_2_0 5 rfl rfl)
theorem dJ11_canEncode_2_8 : decode cJ11_canEncode_2 8 = .ok (.if_icmp .gt 7, 3) := dk_163 0 7 (dk_at dksJ11_canEncode_2_0 8 rfl rfl)
theorem dJ11_canEncode_2_11 : decode cJ11_canEncode_2 11 = .ok (.iconst 1, 1) := dk_4 (dk_at dksJ11_canEncode_2_0 11 rfl rfl)
theorem dJ11_canEncode_2_12 : decode cJ11_canEncode_2 12 = .ok (.goto 4, 3) := dk_167 0 4 (dk_at dksJ11_canEncode_2_0 12 rfl rfl)
theorem dJ11_canEncode_2_15 : decode cJ11_canEncode_2 15 = .ok (.iconst 0, 1) := dk_3 (dk_at dksJ11_canEncode_2_0 15 rfl rfl)
theorem dJ11_canEncode_2_16 : decode cJ11_canEncode_2 16 = .ok (.ireturn, 1) := dk_172 (dk_at dksJ11_canEncode_2_0 16 rfl rfl)
def dkwJ11_indexOfChar_1 : List UInt8 := [172, 132, 5, 1, 167, 255, 235, 2, 172]
abbrev dktJ11_indexOfChar_1 : List UInt8 := dkwJ11_indexOfChar_1 ++ []
def dkwJ11_indexOfChar_0 : List UInt8 := [27, 145, 54, 4, 28, 54, 5, 21, 5, 29, 162, 0, 21, 42, 21, 5, 51, 21, 4, 160, 0, 6, 21, 5]
abbrev dktJ11_indexOfChar_0 : List UInt8 := dkwJ11_indexOfChar_0 ++ dktJ11_indexOfChar_1
theorem dksJ11_indexOfChar_0 : cJ11_indexOfChar.data.toList.drop 0 = dktJ11_indexOfChar_0 := by decide +kernel
theorem dksJ11_indexOfChar_1 : cJ11_indexOfChar.data.toList.drop 24 = dktJ11_indexOfChar_1 := dk_seg dksJ11_indexOfChar_0 24 rfl rfl
theorem dJ11_indexOfChar_0 : decode cJ11_indexOfChar 0 = .ok (.iload_n 1, 1) := dk_27 (dk_at dksJ11_indexOfChar_0 0 rfl rfl)
theorem dJ11_indexOfChar_1 : decode cJ11_indexOfChar 1 = .ok (.i2b, 1) := dk_145 (dk_at dksJ11_indexOfChar_0 1 rfl rfl)
theorem dJ11_indexOfChar_2 : decode cJ11_indexOfChar 2 = .ok (.istore 4, 2) := dk_54 4 (dk_at dksJ11_indexOfChar_0 2 rfl rfl)
theorem dJ11_indexOfChar_4 : decode cJ11_indexOfChar 4 = .ok (.iload_n 2, 1) := dk_28 (dk_at dksJ11_indexOfChar_0 4 rfl rfl)
theorem dJ11_indexOfChar_5 : decode cJ11_indexOfChar 5 = .ok (.istore 5, 2) := dk_54 5 (dk_at dksJ11_indexOfChar_0 5 rfl rfl)
theorem dJ11_indexOfChar_7 : decode cJ11_indexOfChar 7 = .ok (.iload 5, 2) := dk_21 5 (dk_at dksJ11_indexOfChar_0 7 rfl rfl)
theorem dJ11_indexOfChar_9 : decode cJ11_indexOfChar 9 = .ok (.iload_n 3, 1) := dk_29 (dk_at dksJ11_indexOfChar_0 9 rfl rfl)
theorem dJ11_indexOfChar_10 : decode cJ11_indexOfChar 10 = .ok (.if_icmp .ge 21, 3) := dk_162 0 21 (dk_at dksJ11_indexOfChar_0 10 rfl rfl)
theorem dJ11_indexOfChar_13 : decode cJ11_indexOfChar 13 = .ok (.aload_n 0, 1) := dk_42 (dk_at dksJ11_indexOfChar_0 13 rfl rfl)
theorem dJ11_indexOfChar_14 : decode cJ11_indexOfChar 14 = .ok (.iload 5, 2) := dk_21 5 (dk_at dksJ11_indexOfChar_0 14 rfl rfl)
theorem dJ11_indexOfChar_16 : decode cJ11_indexOfChar 16 = .ok (.baload, 1) := dk_51 (dk_at dksJ11_indexOfChar_0 16 rfl rfl)
theorem dJ11_indexOfChar_17 : decode cJ11_indexOfChar 17 = .ok (.iload 4, 2) := dk_21 4 (dk_at dksJ11_indexOfChar_0 17 rfl rfl)
theorem dJ11_indexOfChar_19 : decode cJ11_indexOfChar 19 = .ok (.if_icmp .ne 6, 3) := dk_160 0 6 (dk_at dksJ11_indexOfChar_0 19 rfl rfl)
theorem dJ11_indexOfChar_22 : decode cJ11_indexOfChar 22 = .ok (.iload 5, 2) := dk_21 5 (dk_at dksJ11_indexOfChar_0 22 rfl rfl)
theorem dJ11_indexOfChar_24 : decode cJ11_indexOfChar 24 = .ok (.ireturn, 1) := dk_172 (dk_at dksJ11_indexOfChar_1 0 rfl rfl)
theorem dJ11_indexOfChar_25 : decode cJ11_indexOfChar 25 = .ok (.iinc 5 1, 3) := dk_132 5 1 (dk_at dksJ11_indexOfChar_1 1 rfl rfl)
theorem dJ11_indexOfChar_28 : decode cJ11_indexOfChar 28 = .ok (.goto (-21), 3) := dk_167 255 235 (dk_at dksJ11_indexOfChar_1 4 rfl rfl)
theorem dJ11_indexOfChar_31 : decode cJ11_indexOfChar 31 = .ok (.iconst (-1), 1) := dk_2 (dk_at dksJ11_indexOfChar_1 7 rfl rfl)
theorem dJ11_indexOfChar_32 : decode cJ11_indexOfChar 32 = .ok (.ireturn, 1) := dk_172 (dk_at dksJ11_indexOfChar_1 8 rfl rfl)
def dkwJ12_checkFromIndexSize_1 : List UInt8 := [172]
abbrev dktJ12_checkFromIndexSize_1 : List UInt8 := dkwJ12_checkFromIndexSize_1 ++ []
def dkwJ12_checkFromIndexSize_0 : List UInt8 := [28, 26, 128, 27, 128, 155, 0, 10, 27, 28, 26, 100, 164, 0, 11, 45, 26, 27, 28, 184, 0, 103, 191, 26]
abbrev dktJ12_checkFromIndexSize_0 : List UInt8 := dkwJ12_checkFromIndexSize_0 ++ dktJ12_checkFromIndexSize_1
theorem dksJ12_checkFromIndexSize_0 : cJ12_checkFromIndexSize.data.toList.drop 0 = dktJ12_checkFromIndexSize_0 := by decide +kernel
theorem dksJ12_checkFromIndexSize_1 : cJ12_checkFromIndexSize.data.toList.drop 24 = dktJ12_checkFromIndexSize_1 := dk_seg dksJ12_checkFromIndexSize_0 24 rfl rfl
theorem dJ12_checkFromIndexSize_0 : decode cJ12_checkFromIndexSize 0 = .ok (.iload_n 2, 1) := dk_28 (dk_at dksJ12_checkFromIndexSize_0 0 rfl rfl)
theorem dJ12_checkFromIndexSize_1 : decode cJ12_checkFromIndexSize 1 = .ok (.iload_n 0, 1) := dk_26 (dk_at dksJ12_checkFromIndexSize_0 1 rfl rfl)
theorem dJ12_checkFromIndexSize_2 : decode cJ12_checkFromIndexSize 2 = .ok (.ior, 1) := dk_128 (dk_at dksJ12_checkFromIndexSize_0 2 rfl rfl)
theorem dJ12_checkFromIndexSize_3 : decode cJ12_checkFromIndexSize 3 = .ok (.iload_n 1, 1) := dk_27 (dk_at dksJ12_checkFromIndexSize_0 3 rfl rfl)
theorem dJ12_checkFromIndexSize_4 : decode cJ12_checkFromIndexSize 4 = .ok (.ior, 1) := dk_128 (dk_at dksJ12_checkFromIndexSize_0 4 rfl rfl)
theorem dJ12_checkFromIndexSize_5 : decode cJ12_checkFromIndexSize 5 = .ok (.ifCond .lt 10, 3) := dk_155 0 10 (dk_at dksJ12_checkFromIndexSize_0 5 rfl rfl)
theorem dJ12_checkFromIndexSize_8 : decode cJ12_checkFromIndexSize 8 = .ok (.iload_n 1, 1) := dk_27 (dk_at dksJ12_checkFromIndexSize_0 8 rfl rfl)
theorem dJ12_checkFromIndexSize_9 : decode cJ12_checkFromIndexSize 9 = .ok (.iload_n 2, 1) := dk_28 (dk_at dksJ12_checkFromIndexSize_0 9 rfl rfl)
theorem dJ12_checkFromIndexSize_10 : decode cJ12_checkFromIndexSize 10 = .ok (.iload_n 0, 1) := dk_26 (dk_at dksJ12_checkFromIndexSize_0 10 rfl rfl)
theorem dJ12_checkFromIndexSize_11 : decode cJ12_checkFromIndexSize 11 = .ok (.isub, 1) := dk_100 (dk_at dksJ12_checkFromIndexSize_0 11 rfl rfl)
theorem dJ12_checkFromIndexSize_12 : decode cJ12_checkFromIndexSize 12 = .ok (.if_icmp .le 11, 3) := dk_164 0 11 (dk_at dksJ12_checkFromIndexSize_0 12 rfl rfl)
theorem dJ12_checkFromIndexSize_15 : decode cJ12_checkFromIndexSize 15 = .ok (.aload_n 3, 1) := dk_45 (dk_at dksJ12_checkFromIndexSize_0 15 rfl rfl)
theorem dJ12_checkFromIndexSize_16 : decode cJ12_checkFromIndexSize 16 = .ok (.iload_n 0, 1) := dk_26 (dk_at dksJ12_checkFromIndexSize_0 16 rfl rfl)
theorem dJ12_checkFromIndexSize_17 : decode cJ12_checkFromIndexSize 17 = .ok (.iload_n 1, 1) := dk_27 (dk_at dksJ12_checkFromIndexSize_0 17 rfl rfl)
theorem dJ12_checkFromIndexSize_18 : decode cJ12_checkFromIndexSize 18 = .ok (.iload_n 2, 1) := dk_28 (dk_at dksJ12_checkFromIndexSize_0 18 rfl rfl)
theorem dJ12_checkFromIndexSize_19 : decode cJ12_checkFromIndexSize 19 = .ok (.invokestatic 103, 3) := dk_184 0 103 (dk_at dksJ12_checkFromIndexSize_0 19 rfl rfl)
theorem dJ12_checkFromIndexSize_22 : decode cJ12_checkFromIndexSize 22 = .ok (.athrow, 1) := dk_191 (dk_at dksJ12_checkFromIndexSize_0 22 rfl rfl)
theorem dJ12_checkFromIndexSize_23 : decode cJ12_checkFromIndexSize 23 = .ok (.iload_n 0, 1) := dk_26 (dk_at dksJ12_checkFromIndexSize_0 23 rfl rfl)
theorem dJ12_checkFromIndexSize_24 : decode cJ12_checkFromIndexSize 24 = .ok (.ireturn, 1) := dk_172 (dk_at dksJ12_checkFromIndexSize_1 0 rfl rfl)
def dkwJ12_checkIndex_0 : List UInt8 := [26, 155, 0, 8, 26, 27, 161, 0, 10, 44, 26, 27, 184, 0, 95, 191, 26, 172]
abbrev dktJ12_checkIndex_0 : List UInt8 := dkwJ12_checkIndex_0 ++ []
theorem dksJ12_checkIndex_0 : cJ12_checkIndex.data.toList.drop 0 = dktJ12_checkIndex_0 := by decide +kernel
theorem dJ12_checkIndex_0 : decode cJ12_checkIndex 0 = .ok (.iload_n 0, 1) := dk_26 (dk_at dksJ12_checkIndex_0 0 rfl rfl)
theorem dJ12_checkIndex_1 : decode cJ12_checkIndex 1 = .ok (.ifCond .lt 8, 3) := dk_155 0 8 (dk_at dksJ12_checkIndex_0 1 rfl rfl)
theorem dJ12_checkIndex_4 : decode cJ12_checkIndex 4 = .ok (.iload_n 0, 1) := dk_26 (dk_at dksJ12_checkIndex_0 4 rfl rfl)
theorem dJ12_checkIndex_5 : decode cJ12_checkIndex 5 = .ok (.iload_n 1, 1) := dk_27 (dk_at dksJ12_checkIndex_0 5 rfl rfl)
theorem dJ12_checkIndex_6 : decode cJ12_checkIndex 6 = .ok (.if_icmp .lt 10, 3) := dk_161 0 10 (dk_at dksJ12_checkIndex_0 6 rfl rfl)
theorem dJ12_checkIndex_9 : decode cJ12_checkIndex 9 = .ok (.aload_n 2, 1) := dk_44 (dk_at dksJ12_checkIndex_0 9 rfl rfl)
theorem dJ12_checkIndex_10 : decode cJ12_checkIndex 10 = .ok (.iload_n 0, 1) := dk_26 (dk_at dksJ12_checkIndex_0 10 rfl rfl)
theorem dJ12_checkIndex_11 : decode cJ12_checkIndex 11 = .ok (.iload_n 1, 1) := dk_27 (dk_at dksJ12_checkIndex_0 11 rfl rfl)
theorem dJ12_checkIndex_12 : decode cJ12_checkIndex 12 = .ok (.invokestatic 95, 3) := dk_184 0 95 (dk_at dksJ12_checkIndex_0 12 rfl rfl)
theorem dJ12_checkIndex_15 : decode cJ12_checkIndex 15 = .ok (.athrow, 1) := dk_191 (dk_at dksJ12_checkIndex_0 15 rfl rfl)
theorem dJ12_checkIndex_16 : decode cJ12_checkIndex 16 = .ok (.iload_n 0, 1) := dk_26 (dk_at dksJ12_checkIndex_0 16 rfl rfl)
theorem dJ12_checkIndex_17 : decode cJ12_checkIndex 17 = .ok (.ireturn, 1) := dk_172 (dk_at dksJ12_checkIndex_0 17 rfl rfl)
def dkwJ12_checkFromToIndex_0 : List UInt8 := [26, 155, 0, 13, 26, 27, 163, 0, 8, 27, 28, 164, 0, 11, 45, 26, 27, 28, 184, 0, 99, 191, 26, 172]
abbrev dktJ12_checkFromToIndex_0 : List UInt8 := dkwJ12_checkFromToIndex_0 ++ []
theorem dksJ12_checkFromToIndex_0 : cJ12_checkFromToIndex.data.toList.drop 0 = dktJ12_checkFromToIndex_0 := by decide +kernel
theorem dJ12_checkFromToIndex_0 : decode cJ12_checkFromToIndex 0 = .ok (.iload_n 0, 1) := dk_26 (dk_at dksJ12_checkFromToIndex_0 0 rfl rfl)
theorem dJ12_checkFromToIndex_1 : decode cJ12_checkFromToIndex 1 = .ok (.ifCond .lt 13, 3) := dk_155 0 13 (dk_at dksJ12_checkFromToIndex_0 1 rfl rfl)
theorem dJ12_checkFromToIndex_4 : decode cJ12_checkFromToIndex 4 = .ok (.iload_n 0, 1) := dk_26 (dk_at dksJ12_checkFromToIndex_0 4 rfl rfl)
theorem dJ12_checkFromToIndex_5 : decode cJ12_checkFromToIndex 5 = .ok (.iload_n 1, 1) := dk_27 (dk_at dksJ12_checkFromToIndex_0 5 rfl rfl)
theorem dJ12_checkFromToIndex_6 : decode cJ12_checkFromToIndex 6 = .ok (.if_icmp .gt 8, 3) := dk_163 0 8 (dk_at dksJ12_checkFromToIndex_0 6 rfl rfl)
theorem dJ12_checkFromToIndex_9 : decode cJ12_checkFromToIndex 9 = .ok (.iload_n 1, 1) := dk_27 (dk_at dksJ12_checkFromToIndex_0 9 rfl rfl)
theorem dJ12_checkFromToIndex_10 : decode cJ12_checkFromToIndex 10 = .ok (.iload_n 2, 1) := dk_28 (dk_at dksJ12_checkFromToIndex_0 10 rfl rfl)
theorem dJ12_checkFromToIndex_11 : decode cJ12_checkFromToIndex 11 = .ok (.if_icmp .le 11, 3) := dk_164 0 11 (dk_at dksJ12_checkFromToIndex_0 11 rfl rfl)
theorem dJ12_checkFromToIndex_14 : decode cJ12_checkFromToIndex 14 = .ok (.aload_n 3, 1) := dk_45 (dk_at dksJ12_checkFromToIndex_0 14 rfl rfl)
theorem dJ12_checkFromToIndex_15 : decode cJ12_checkFromToIndex 15 = .ok (.iload_n 0, 1) := dk_26 (dk_at dksJ12_checkFromToIndex_0 15 rfl rfl)
theorem dJ12_checkFromToIndex_16 : decode cJ12_checkFromToIndex 16 = .ok (.iload_n 1, 1) := dk_27 (dk_at dksJ12_checkFromToIndex_0 16 rfl rfl)
theorem dJ12_checkFromToIndex_17 : decode cJ12_checkFromToIndex 17 = .ok (.iload_n 2, 1) := dk_28 (dk_at dksJ12_checkFromToIndex_0 17 rfl rfl)
theorem dJ12_checkFromToIndex_18 : decode cJ12_checkFromToIndex 18 = .ok (.invokestatic 99, 3) := dk_184 0 99 (dk_at dksJ12_checkFromToIndex_0 18 rfl rfl)
theorem dJ12_checkFromToIndex_21 : decode cJ12_checkFromToIndex 21 = .ok (.athrow, 1) := dk_191 (dk_at dksJ12_checkFromToIndex_0 21 rfl rfl)
theorem dJ12_checkFromToIndex_22 : decode cJ12_checkFromToIndex 22 = .ok (.iload_n 0, 1) := dk_26 (dk_at dksJ12_checkFromToIndex_0 22 rfl rfl)
theorem dJ12_checkFromToIndex_23 : decode cJ12_checkFromToIndex 23 = .ok (.ireturn, 1) := dk_172 (dk_at dksJ12_checkFromToIndex_0 23 rfl rfl)
def dkwJ13_requireNonNull_0 : List UInt8 := [42, 199, 0, 11, 187, 0, 84, 89, 183, 0, 86, 191, 42, 176]
abbrev dktJ13_requireNonNull_0 : List UInt8 := dkwJ13_requireNonNull_0 ++ []
theorem dksJ13_requireNonNull_0 : cJ13_requireNonNull.data.toList.drop 0 = dktJ13_requireNonNull_0 := by decide +kernel
theorem dJ13_requireNonNull_0 : decode cJ13_requireNonNull 0 = .ok (.aload_n 0, 1) := dk_42 (dk_at dksJ13_requireNonNull_0 0 rfl rfl)
theorem dJ13_requireNonNull_1 : decode cJ13_requireNonNull 1 = .ok (.ifnonnull 11, 3) := dk_199 0 11 (dk_at dksJ13_requireNonNull_0 1 rfl rfl)
theorem dJ13_requireNonNull_4 : decode cJ13_requireNonNull 4 = .ok (.new 84, 3) := dk_187 0 84 (dk_at dksJ13_requireNonNull_0 4 rfl rfl)
theorem dJ13_requireNonNull_7 : decode cJ13_requireNonNull 7 = .ok (.dup, 1) := dk_89 (dk_at dksJ13_requireNonNull_0 7 rfl rfl)
theorem dJ13_requireNonNull_8 : decode cJ13_requireNonNull 8 = .ok (.invokespecial 86, 3) := dk_183 0 86 (dk_at dksJ13_requireNonNull_0 8 rfl rfl)
theorem dJ13_requireNonNull_11 : decode cJ13_requireNonNull 11 = .ok (.athrow, 1) := dk_191 (dk_at dksJ13_requireNonNull_0 11 rfl rfl)
theorem dJ13_requireNonNull_12 : decode cJ13_requireNonNull 12 = .ok (.aload_n 0, 1) := dk_42 (dk_at dksJ13_requireNonNull_0 12 rfl rfl)
theorem dJ13_requireNonNull_13 : decode cJ13_requireNonNull 13 = .ok (.areturn, 1) := dk_176 (dk_at dksJ13_requireNonNull_0 13 rfl rfl)
def dkwJ14_getLongUnaligned_7 : List UInt8 := [182, 0, 39, 184, 2, 197, 173]
abbrev dktJ14_getLongUnaligned_7 : List UInt8 := dkwJ14_getLongUnaligned_7 ++ []
def dkwJ14_getLongUnaligned_6 : List UInt8 := [20, 2, 195, 97, 182, 0, 39, 42, 43, 32, 20, 2, 190, 97, 182, 0, 39, 42, 43, 32, 20, 2, 184, 97]
abbrev dktJ14_getLongUnaligned_6 : List UInt8 := dkwJ14_getLongUnaligned_6 ++ dktJ14_getLongUnaligned_7
def dkwJ14_getLongUnaligned_5 : List UInt8 := [43, 32, 20, 1, 93, 97, 182, 0, 39, 42, 43, 32, 20, 0, 205, 97, 182, 0, 39, 42, 43, 32]
abbrev dktJ14_getLongUnaligned_5 : List UInt8 := dkwJ14_getLongUnaligned_5 ++ dktJ14_getLongUnaligned_6
def dkwJ14_getLongUnaligned_4 : List UInt8 := [43, 32, 182, 0, 39, 42, 43, 32, 10, 97, 182, 0, 39, 42, 43, 32, 20, 0, 203, 97, 182, 0, 39, 42]
abbrev dktJ14_getLongUnaligned_4 : List UInt8 := dkwJ14_getLongUnaligned_4 ++ dktJ14_getLongUnaligned_5
def dkwJ14_getLongUnaligned_3 : List UInt8 := [43, 32, 20, 0, 205, 97, 182, 0, 47, 42, 43, 32, 20, 2, 190, 97, 182, 0, 47, 184, 2, 192, 173, 42]
abbrev dktJ14_getLongUnaligned_3 : List UInt8 := dkwJ14_getLongUnaligned_3 ++ dktJ14_getLongUnaligned_4
def dkwJ14_getLongUnaligned_2 : List UInt8 := [10, 127, 9, 148, 154, 0, 43, 42, 43, 32, 182, 0, 47, 42, 43, 32, 20, 0, 203, 97, 182, 0, 47, 42]
abbrev dktJ14_getLongUnaligned_2 : List UInt8 := dkwJ14_getLongUnaligned_2 ++ dktJ14_getLongUnaligned_3
def dkwJ14_getLongUnaligned_1 : List UInt8 := [154, 0, 23, 42, 43, 32, 182, 0, 17, 42, 43, 32, 20, 0, 205, 97, 182, 0, 17, 184, 2, 186, 173, 32]
abbrev dktJ14_getLongUnaligned_1 : List UInt8 := dkwJ14_getLongUnaligned_1 ++ dktJ14_getLongUnaligned_2
def dkwJ14_getLongUnaligned_0 : List UInt8 := [32, 20, 2, 184, 127, 9, 148, 154, 0, 10, 42, 43, 32, 182, 0, 27, 173, 32, 20, 1, 93, 127, 9, 148]
abbrev dktJ14_getLongUnaligned_0 : List UInt8 := dkwJ14_getLongUnaligned_0 ++ dktJ14_getLongUnaligned_1
theorem dksJ14_getLongUnaligned_0 : cJ14_getLongUnaligned.data.toList.drop 0 = dktJ14_getLongUnaligned_0 := by decide +kernel
theorem dksJ14_getLongUnaligned_1 : cJ14_getLongUnaligned.data.toList.drop 24 = dktJ14_getLongUnaligned_1 := dk_seg dksJ14_getLongUnaligned_0 24 rfl rfl
theorem dksJ14_getLongUnaligned_2 : cJ14_getLongUnaligned.data.toList.drop 48 = dktJ14_getLongUnaligned_2 := dk_seg dksJ14_getLongUnaligned_1 24 rfl rfl
theorem dksJ14_getLongUnaligned_3 : cJ14_getLongUnaligned.data.toList.drop 72 = dktJ14_getLongUnaligned_3 := dk_seg dksJ14_getLongUnaligned_2 24 rfl rfl
theorem dksJ14_getLongUnaligned_4 : cJ14_getLongUnaligned.data.toList.drop 96 = dktJ14_getLongUnaligned_4 := dk_seg dksJ14_getLongUnaligned_3 24 rfl rfl
theorem dksJ14_getLongUnaligned_5 : cJ14_getLongUnaligned.data.toList.drop 120 = dktJ14_getLongUnaligned_5 := dk_seg dksJ14_getLongUnaligned_4 24 rfl rfl
theorem dksJ14_getLongUnaligned_6 : cJ14_getLongUnaligned.data.toList.drop 142 = dktJ14_getLongUnaligned_6 := dk_seg dksJ14_getLongUnaligned_5 22 rfl rfl
theorem dksJ14_getLongUnaligned_7 : cJ14_getLongUnaligned.data.toList.drop 166 = dktJ14_getLongUnaligned_7 := dk_seg dksJ14_getLongUnaligned_6 24 rfl rfl
theorem dJ14_getLongUnaligned_0 : decode cJ14_getLongUnaligned 0 = .ok (.lload_n 2, 1) := dk_32 (dk_at dksJ14_getLongUnaligned_0 0 rfl rfl)
theorem dJ14_getLongUnaligned_1 : decode cJ14_getLongUnaligned 1 = .ok (.ldc2_w 696, 3) := dk_20 2 184 (dk_at dksJ14_getLongUnaligned_0 1 rfl rfl)
theorem dJ14_getLongUnaligned_4 : decode cJ14_getLongUnaligned 4 = .ok (.land, 1) := dk_127 (dk_at dksJ14_getLongUnaligned_0 4 rfl rfl)
theorem dJ14_getLongUnaligned_5 : decode cJ14_getLongUnaligned 5 = .ok (.lconst 0, 1) := dk_9 (dk_at dksJ14_getLongUnaligned_0 5 rfl rfl)
theorem dJ14_getLongUnaligned_6 : decode cJ14_getLongUnaligned 6 = .ok (.lcmp, 1) := dk_148 (dk_at dksJ14_getLongUnaligned_0 6 rfl rfl)
theorem dJ14_getLongUnaligned_7 : decode cJ14_getLongUnaligned 7 = .ok (.ifCond .ne 10, 3) := dk_154 0 10 (dk_at dksJ14_getLongUnaligned_0 7 rfl rfl)
theorem dJ14_getLongUnaligned_10 : decode cJ14_getLongUnaligned 10 = .ok (.aload_n 0, 1) := dk_42 (dk_at dksJ14_getLongUnaligned_0 10 rfl rfl)
theorem dJ14_getLongUnaligned_11 : decode cJ14_getLongUnaligned 11 = .ok (.aload_n 1, 1) := dk_43 (dk_at dksJ14_getLongUnaligned_0 11 rfl rfl)
theorem dJ14_getLongUnaligned_12 : decode cJ14_getLongUnaligned 12 = .ok (.lload_n 2, 1) := dk_32 (dk_at dksJ14_getLongUnaligned_0 12 rfl rfl)
theorem dJ14_getLongUnaligned_13 : decode cJ14_getLongUnaligned 13 = .ok (.invokevirtual 27, 3) := dk_182 0 27 (dk_at dksJ14_getLongUnaligned_0 13 rfl rfl)
theorem dJ14_getLongUnaligned_16 : decode cJ14_getLongUnaligned 16 = .ok (.lreturn, 1) := dk_173 (dk_at dksJ14_getLongUnaligned_0 16 rfl rfl)
theorem dJ14_getLongUnaligned_17 : decode cJ14_getLongUnaligned 17 = .ok (.lload_n 2, 1) := dk_32 (dk_at dksJ14_getLongUnaligned_0 17 rfl rfl)
theorem dJ14_getLongUnaligned_18 : decode cJ14_getLongUnaligned 18 = .ok (.ldc2_w 349, 3) := dk_20 1 93 (dk_at dksJ14_getLongUnaligned_0 18 rfl rfl)
theorem dJ14_getLongUnaligned_21 : decode cJ14_getLongUnaligned 21 = .ok (.land, 1) := dk_127 (dk_at dksJ14_getLongUnaligned_0 21 rfl rfl)
theorem dJ14_getLongUnaligned_22 : decode cJ14_getLongUnaligned 22 = .ok (.lconst 0, 1) := dk_9 (dk_at dksJ14_getLongUnaligned_0 22 rfl rfl)
theorem dJ14_getLongUnaligned_23 : decode cJ14_getLongUnaligned 23 = .ok (.lcmp, 1) := dk_148 (dk_at dksJ14_getLongUnaligned_0 23 rfl rfl)
theorem dJ14_getLongUnaligned_24 : decode cJ14_getLongUnaligned 24 = .ok (.ifCond .ne 23, 3) := dk_154 0 23 (dk_at dksJ14_getLongUnaligned_1 0 rfl rfl)
theorem dJ14_getLongUnaligned_27 : decode cJ14_getLongUnaligned 27 = .ok (.aload_n 0, 1) := dk_42 (dk_at dksJ14_getLongUnaligned_1 3 rfl rfl)
theorem dJ14_getLongUnaligned_28 : decode cJ14_getLongUnaligned 28 = .ok (.aload_n 1, 1) := dk_43 (dk_at dksJ14_getLongUnaligned_1 4 rfl rfl)
theorem dJ14_getLongUnaligned_29 : decode cJ14_getLongUnaligned 29 = .ok (.lload_n 2, 1) := dk_32 (dk_at dksJ14_getLongUnaligned_1 5 rfl rfl)
theorem dJ14_getLongUnaligned_30 : decode cJ14_getLongUnaligned 30 = .ok (.invokevirtual 17, 3) := dk_182 0 17 (dk_at dksJ14_getLongUnaligned_1 6 rfl rfl)
theorem dJ14_getLongUnaligned_33 : decode cJ14_getLongUnaligned 33 = .ok (.aload_n 0, 1) := dk_42 (dk_at dksJ14_getLongUnaligned_1 9 rfl rfl)
theorem dJ14_getLongUnaligned_34 : decode cJ14_getLongUnaligned 34 = .ok (.aload_n 1, 1) := dk_43 (dk_at dksJ14_getLongUnaligned_1 10 rfl rfl)
theorem dJ14_getLongUnaligned_35 : decode cJ14_getLongUnaligned 35 = .ok (.lload_n 2, 1) := dk_32 (dk_at dksJ14_getLongUnaligned_1 11 rfl rfl)
theorem dJ14_getLongUnaligned_36 : decode cJ14_getLongUnaligned 36 = .ok (.ldc2_w 205, 3) := dk_20 0 205 (dk_at dksJ14_getLongUnaligned_1 12 rfl rfl)
theorem dJ14_getLongUnaligned_39 : decode cJ14_getLongUnaligned 39 = .ok (.ladd, 1) := dk_97 (dk_at dksJ14_getLongUnaligned_1 15 rfl rfl)
theorem dJ14_getLongUnaligned_40 : decode cJ14_getLongUnaligned 40 = .ok (.invokevirtual 17, 3) := dk_182 0 17 (dk_at dksJ14_getLongUnaligned_1 16 rfl rfl)
theorem dJ14_getLongUnaligned_43 : decode cJ14_getLongUnaligned 43 = .ok (.invokestatic 698, 3) := dk_184 2 186 (dk_at dksJ14_getLongUnaligned_1 19 rfl rfl)
theorem dJ14_getLongUnaligned_46 : decode cJ14_getLongUnaligned 46 = .ok (.lreturn, 1) := dk_173 (dk_at dksJ14_getLongUnaligned_1 22 rfl rfl)
theorem dJ14_getLongUnaligned_47 : decode cJ14_getLongUnaligned 47 = .ok (.lload_n 2, 1) := dk_32 (dk_at dksJ14_getLongUnaligned_1 23 rfl rfl)
theorem dJ14_getLongUnaligned_48 : decode cJ14_getLongUnaligned 48 = .ok (.lconst 1, 1) := dk_10 (dk_at dksJ14_getLongUnaligned_2 0 rfl rfl)
theorem dJ14_getLongUnaligned_49 : decode cJ14_getLongUnaligned 49 = .ok (.land, 1) := dk_127 (dk_at dksJ14_getLongUnaligned_2 1 rfl rfl)
theorem dJ14_getLongUnaligned_50 : decode cJ14_getLongUnaligned 50 = .ok (.lconst 0, 1) := dk_9 (dk_at dksJ14_getLongUnaligned_2 2 rfl rfl)
theorem dJ14_getLongUnaligned_51 : decode cJ14_getLongUnaligned 51 = .ok (.lcmp, 1) := dk_148 (dk_at dksJ14_getLongUnaligned_2 3 rfl rfl)
theorem dJ14_getLongUnaligned_52 : decode cJ14_getLongUnaligned 52 = .ok (.ifCond .ne 43, 3) := dk_154 0 43 (dk_at dksJ14_getLongUnaligned_2 4 rfl rfl)
theorem dJ14_getLongUnaligned_55 : decode cJ14_getLongUnaligned 55 = .ok (.aload_n 0, 1) := dk_42 (dk_at dksJ14_getLongUnaligned_2 7 rfl rfl)
theorem dJ14_getLongUnaligned_56 : decode cJ14_getLongUnaligned 56 = .ok (.aload_n 1, 1) := dk_43 (dk_at dksJ14_getLongUnaligned_2 8 rfl rfl)
theorem dJ14_getLongUnaligned_57 : decode cJ14_getLongUnaligned 57 = .ok (.lload_n 2, 1) := dk_32 (dk_at dksJ14_getLongUnaligned_2 9 rfl rfl)
theorem dJ14_getLongUnaligned_58 : decode cJ14_getLongUnaligned 58 = .ok (.invokevirtual 47, 3) := dk_182 0 47 (dk_at dksJ14_getLongUnaligned_2 10 rfl rfl)
theorem dJ14_getLongUnaligned_61 : decode cJ14_getLongUnaligned 61 = .ok (.aload_n 0, 1) := dk_42 (dk_at dksJ14_getLongUnaligned_2 13 rfl rfl)
theorem dJ14_getLongUnaligned_62 : decode cJ14_getLongUnaligned 62 = .ok (.aload_n 1, 1) := dk_43 (dk_at dksJ14_getLongUnaligned_2 14 rfl rfl)
theorem dJ14_getLongUnaligned_63 : decode cJ14_getLongUnaligned 63 = .ok (.lload_n 2, 1) := dk_32 (dk_at dksJ14_getLongUnaligned_2 15 rfl rfl)
theorem dJ14_getLongUnaligned_64 : decode cJ14_getLongUnaligned 64 = .ok (.ldc2_w 203, 3) := dk_20 0 203 (dk_at dksJ14_getLongUnaligned_2 16 rfl rfl)
theorem dJ14_getLongUnaligned_67 : decode cJ14_getLongUnaligned 67 = .ok (.ladd, 1) := dk_97 (dk_at dksJ14_getLongUnaligned_2 19 rfl rfl)
theorem dJ14_getLongUnaligned_68 : decode cJ14_getLongUnaligned 68 = .ok (.invokevirtual 47, 3) := dk_182 0 47 (dk_at dksJ14_getLongUnaligned_2 20 rfl rfl)
theorem dJ14_getLongUnaligned_71 : decode cJ14_getLongUnaligned 71 = .ok (.aload_n 0, 1) := dk_42 (dk_at dksJ14_getLongUnaligned_2 23 rfl rfl)
theorem dJ14_getLongUnaligned_72 : decode cJ14_getLongUnaligned 72 = .ok (.aload_n 1, 1) := dk_43 (dk_at dksJ14_getLongUnaligned_3 0 rfl rfl)
theorem dJ14_getLongUnaligned_73 : decode cJ14_getLongUnaligned 73 = .ok (.lload_n 2, 1) := dk_32 (dk_at dksJ14_getLongUnaligned_3 1 rfl rfl)
theorem dJ14_getLongUnaligned_74 : decode cJ14_getLongUnaligned 74 = .ok (.ldc2_w 205, 3) := dk_20 0 205 (dk_at dksJ14_getLongUnaligned_3 2 rfl rfl)
theorem dJ14_getLongUnaligned_77 : decode cJ14_getLongUnaligned 77 = .ok (.ladd, 1) := dk_97 (dk_at dksJ14_getLongUnaligned_3 5 rfl rfl)
theorem dJ14_getLongUnaligned_78 : decode cJ14_getLongUnaligned 78 = .ok (.invokevirtual 47, 3) := dk_182 0 47 (dk_at dksJ14_getLongUnaligned_3 6 rfl rfl)
theorem dJ14_getLongUnaligned_81 : decode cJ14_getLongUnaligned 81 = .ok (.aload_n 0, 1) := dk_42 (dk_at dksJ14_getLongUnaligned_3 9 rfl rfl)
theorem dJ14_getLongUnaligned_82 : decode cJ14_getLongUnaligned 82 = .ok (.aload_n 1, 1) := dk_43 (dk_at dksJ14_getLongUnaligned_3 10 rfl rfl)
theorem dJ14_getLongUnaligned_83 : decode cJ14_getLongUnaligned 83 = .ok (.lload_n 2, 1) := dk_32 (dk_at dksJ14_getLongUnaligned_3 11 rfl rfl)
theorem dJ14_getLongUnaligned_84 : decode cJ14_getLongUnaligned 84 = .ok (.ldc2_w 702, 3) := dk_20 2 190 (dk_at dksJ14_getLongUnaligned_3 12 rfl rfl)
theorem dJ14_getLongUnaligned_87 : decode cJ14_getLongUnaligned 87 = .ok (.ladd, 1) := dk_97 (dk_at dksJ14_getLongUnaligned_3 15 rfl rfl)
theorem dJ14_getLongUnaligned_88 : decode cJ14_getLongUnaligned 88 = .ok (.invokevirtual 47, 3) := dk_182 0 47 (dk_at dksJ14_getLongUnaligned_3 16 rfl rfl)
theorem dJ14_getLongUnaligned_91 : decode cJ14_getLongUnaligned 91 = .ok (.invokestatic 704, 3) := dk_184 2 192 (dk_at dksJ14_getLongUnaligned_3 19 rfl rfl)
theorem dJ14_getLongUnaligned_94 : decode cJ14_getLongUnaligned 94 = .ok (.lreturn, 1) := dk_173 (dk_at dksJ14_getLongUnaligned_3 22 rfl rfl)
theorem dJ14_getLongUnaligned_95 : decode cJ14_getLongUnaligned 95 = .ok (.aload_n 0, 1) := dk_42 (dk_at dksJ14_getLongUnaligned_3 23 rfl rfl)
theorem dJ14_getLongUnaligned_96 : decode cJ14_getLongUnaligned 96 = .ok (.aload_n 1, 1) := dk_43 (dk_at dksJ14_getLongUnaligned_4 0 rfl rfl)
theorem dJ14_getLongUnaligned_97 : decode cJ14_getLongUnaligned 97 = .ok (.lload_n 2, 1) := dk_32 (dk_at dksJ14_getLongUnaligned_4 1 rfl rfl)
theorem dJ14_getLongUnaligned_98 : decode cJ14_getLongUnaligned 98 = .ok (.invokevirtual 39, 3) := dk_182 0 39 (dk_at dksJ14_getLongUnaligned_4 2 rfl rfl)
theorem dJ14_getLongUnaligned_101 : decode cJ14_getLongUnaligned 101 = .ok (.aload_n 0, 1) := dk_42 (dk_at dksJ14_getLongUnaligned_4 5 rfl rfl)
theorem dJ14_getLongUnaligned_102 : decode cJ14_getLongUnaligned 102 = .ok (.aload_n 1, 1) := dk_43 (dk_at dksJ14_getLongUnaligned_4 6 rfl rfl)
theorem dJ14_getLongUnaligned_103 : decode cJ14_getLongUnaligned 103 = .ok (.lload_n 2, 1) := dk_32 (dk_at dksJ14_getLongUnaligned_4 7 rfl rfl)
theorem dJ14_getLongUnaligned_104 : decode cJ14_getLongUnaligned 104 = .ok (.lconst 1, 1) := dk_10 (dk_at dksJ14_getLongUnaligned_4 8 rfl rfl)
theorem dJ14_getLongUnaligned_105 : decode cJ14_getLongUnaligned 105 = .ok (.ladd, 1) := dk_97 (dk_at dksJ14_getLongUnaligned_4 9 rfl rfl)
theorem dJ14_getLongUnaligned_106 : decode cJ14_getLongUnaligned 106 = .ok (.invokevirtual 39, 3) := dk_182 0 39 (dk_at dksJ14_getLongUnaligned_4 10 rfl rfl)
theorem dJ14_getLongUnaligned_109 : decode cJ14_getLongUnaligned 109 = .ok (.aload_n 0, 1) := dk_42 (dk_at dksJ14_getLongUnaligned_4 13 rfl rfl)
theorem dJ14_getLongUnaligned_110 : decode cJ14_getLongUnaligned 110 = .ok (.aload_n 1, 1) := dk_43 (dk_at dksJ14_getLongUnaligned_4 14 rfl rfl)
theorem dJ14_getLongUnaligned_111 : decode cJ14_getLongUnaligned 111 = .ok (.lload_n 2, 1) := dk_32 (dk_at dksJ14_getLongUnaligned_4 15 rfl rfl)
theorem dJ14_getLongUnaligned_112 : decode cJ14_getLongUnaligned 112 = .ok (.ldc2_w 203, 3) := dk_20 0 203 (dk_at dksJ14_getLongUnaligned_4 16 rfl rfl)
theorem dJ14_getLongUnaligned_115 : decode cJ14_getLongUnaligned 115 = .ok (.ladd, 1) := dk_97 (dk_at dksJ14_getLongUnaligned_4 19 rfl rfl)
theorem dJ14_getLongUnaligned_116 : decode cJ14_getLongUnaligned 116 = .ok (.invokevirtual 39, 3) := dk_182 0 39 (dk_at dksJ14_getLongUnaligned_4 20 rfl rfl)
theorem dJ14_getLongUnaligned_119 : decode cJ14_getLongUnaligned 119 = .ok (.aload_n 0, 1) := dk_42 (dk_at dksJ14_getLongUnaligned_4 23 rfl rfl)
theorem dJ14_getLongUnaligned_120 : decode cJ14_getLongUnaligned 120 = .ok (.aload_n 1, 1) := dk_43 (dk_at dksJ14_getLongUnaligned_5 0 rfl rfl)
theorem dJ14_getLongUnaligned_121 : decode cJ14_getLongUnaligned 121 = .ok (.lload_n 2, 1) := dk_32 (dk_at dksJ14_getLongUnaligned_5 1 rfl rfl)
theorem dJ14_getLongUnaligned_122 : decode cJ14_getLongUnaligned 122 = .ok (.ldc2_w 349, 3) := dk_20 1 93 (dk_at dksJ14_getLongUnaligned_5 2 rfl rfl)
theorem dJ14_getLongUnaligned_125 : decode cJ14_getLongUnaligned 125 = .ok (.ladd, 1) := dk_97 (dk_at dksJ14_getLongUnaligned_5 5 rfl rfl)
theorem dJ14_getLongUnaligned_126 : decode cJ14_getLongUnaligned 126 = .ok (.invokevirtual 39, 3) := dk_182 0 39 (dk_at dksJ14_getLongUnaligned_5 6 rfl rfl)
theorem dJ14_getLongUnaligned_129 : decode cJ14_getLongUnaligned 129 = .ok (.aload_n 0, 1) := dk_42 (dk_at dksJ14_getLongUnaligned_5 9 rfl rfl)
theorem dJ14_getLongUnaligned_130 : decode cJ14_getLongUnaligned 130 = .ok (.aload_n 1, 1) := dk_43 (dk_at dksJ14_getLongUnaligned_5 10 rfl rfl)
theorem dJ14_getLongUnaligned_131 : decode cJ14_getLongUnaligned 131 = .ok (.lload_n 2, 1) := dk_32 (dk_at dksJ14_getLongUnaligned_5 11 rfl rfl)
theorem dJ14_getLongUnaligned_132 : decode cJ14_getLongUnaligned 132 = .ok (.ldc2_w 205, 3) := dk_20 0 205 (dk_at dksJ14_getLongUnaligned_5 12 rfl rfl)
theorem dJ14_getLongUnaligned_135 : decode cJ14_getLongUnaligned 135 = .ok (.ladd, 1) := dk_97 (dk_at dksJ14_getLongUnaligned_5 15 rfl rfl)
theorem dJ14_getLongUnaligned_136 : decode cJ14_getLongUnaligned 136 = .ok (.invokevirtual 39, 3) := dk_182 0 39 (dk_at dksJ14_getLongUnaligned_5 16 rfl rfl)
theorem dJ14_getLongUnaligned_139 : decode cJ14_getLongUnaligned 139 = .ok (.aload_n 0, 1) := dk_42 (dk_at dksJ14_getLongUnaligned_5 19 rfl rfl)
theorem dJ14_getLongUnaligned_140 : decode cJ14_getLongUnaligned 140 = .ok (.aload_n 1, 1) := dk_43 (dk_at dksJ14_getLongUnaligned_5 20 rfl rfl)
theorem dJ14_getLongUnaligned_141 : decode cJ14_getLongUnaligned 141 = .ok (.lload_n 2, 1) := dk_32 (dk_at dksJ14_getLongUnaligned_5 21 rfl rfl)
theorem dJ14_getLongUnaligned_142 : decode cJ14_getLongUnaligned 142 = .ok (.ldc2_w 707, 3) := dk_20 2 195 (dk_at dksJ14_getLongUnaligned_6 0 rfl rfl)
theorem dJ14_getLongUnaligned_145 : decode cJ14_getLongUnaligned 145 = .ok (.ladd, 1) := dk_97 (dk_at dksJ14_getLongUnaligned_6 3 rfl rfl)
theorem dJ14_getLongUnaligned_146 : decode cJ14_getLongUnaligned 146 = .ok (.invokevirtual 39, 3) := dk_182 0 39 (dk_at dksJ14_getLongUnaligned_6 4 rfl rfl)
theorem dJ14_getLongUnaligned_149 : decode cJ14_getLongUnaligned 149 = .ok (.aload_n 0, 1) := dk_42 (dk_at dksJ14_getLongUnaligned_6 7 rfl rfl)
theorem dJ14_getLongUnaligned_150 : decode cJ14_getLongUnaligned 150 = .ok (.aload_n 1, 1) := dk_43 (dk_at dksJ14_getLongUnaligned_6 8 rfl rfl)
theorem dJ14_getLongUnaligned_151 : decode cJ14_getLongUnaligned 151 = .ok (.lload_n 2, 1) := dk_32 (dk_at dksJ14_getLongUnaligned_6 9 rfl rfl)
theorem dJ14_getLongUnaligned_152 : decode cJ14_getLongUnaligned 152 = .ok (.ldc2_w 702, 3) := dk_20 2 190 (dk_at dksJ14_getLongUnaligned_6 10 rfl rfl)
theorem dJ14_getLongUnaligned_155 : decode cJ14_getLongUnaligned 155 = .ok (.ladd, 1) := dk_97 (dk_at dksJ14_getLongUnaligned_6 13 rfl rfl)
theorem dJ14_getLongUnaligned_156 : decode cJ14_getLongUnaligned 156 = .ok (.invokevirtual 39, 3) := dk_182 0 39 (dk_at dksJ14_getLongUnaligned_6 14 rfl rfl)
theorem dJ14_getLongUnaligned_159 : decode cJ14_getLongUnaligned 159 = .ok (.aload_n 0, 1) := dk_42 (dk_at dksJ14_getLongUnaligned_6 17 rfl rfl)
theorem dJ14_getLongUnaligned_160 : decode cJ14_getLongUnaligned 160 = .ok (.aload_n 1, 1) := dk_43 (dk_at dksJ14_getLongUnaligned_6 18 rfl rfl)
theorem dJ14_getLongUnaligned_161 : decode cJ14_getLongUnaligned 161 = .ok (.lload_n 2, 1) := dk_32 (dk_at dksJ14_getLongUnaligned_6 19 rfl rfl)
theorem dJ14_getLongUnaligned_162 : decode cJ14_getLongUnaligned 162 = .ok (.ldc2_w 696, 3) := dk_20 2 184 (dk_at dksJ14_getLongUnaligned_6 20 rfl rfl)
theorem dJ14_getLongUnaligned_165 : decode cJ14_getLongUnaligned 165 = .ok (.ladd, 1) := dk_97 (dk_at dksJ14_getLongUnaligned_6 23 rfl rfl)
theorem dJ14_getLongUnaligned_166 : decode cJ14_getLongUnaligned 166 = .ok (.invokevirtual 39, 3) := dk_182 0 39 (dk_at dksJ14_getLongUnaligned_7 0 rfl rfl)
theorem dJ14_getLongUnaligned_169 : decode cJ14_getLongUnaligned 169 = .ok (.invokestatic 709, 3) := dk_184 2 197 (dk_at dksJ14_getLongUnaligned_7 3 rfl rfl)
theorem dJ14_getLongUnaligned_172 : decode cJ14_getLongUnaligned 172 = .ok (.lreturn, 1) := dk_173 (dk_at dksJ14_getLongUnaligned_7 6 rfl rfl)
def dkwJ14_makeLong_1 : List UInt8 := [173]
abbrev dktJ14_makeLong_1 : List UInt8 := dkwJ14_makeLong_1 ++ []
def dkwJ14_makeLong_0 : List UInt8 := [26, 184, 3, 23, 16, 32, 3, 184, 3, 16, 121, 27, 184, 3, 23, 16, 32, 16, 32, 184, 3, 16, 121, 129]
abbrev dktJ14_makeLong_0 : List UInt8 := dkwJ14_makeLong_0 ++ dktJ14_makeLong_1
theorem dksJ14_makeLong_0 : cJ14_makeLong.data.toList.drop 0 = dktJ14_makeLong_0 := by decide +kernel
theorem dksJ14_makeLong_1 : cJ14_makeLong.data.toList.drop 24 = dktJ14_makeLong_1 := dk_seg dksJ14_makeLong_0 24 rfl rfl
theorem dJ14_makeLong_0 : decode cJ14_makeLong 0 = .ok (.iload_n 0, 1) := dk_26 (dk_at dksJ14_makeLong_0 0 rfl rfl)
theorem dJ14_makeLong_1 : decode cJ14_makeLong 1 = .ok (.invokestatic 791, 3) := dk_184 3 23 (dk_at dksJ14_makeLong_0 1 rfl rfl)
theorem dJ14_makeLong_4 : decode cJ14_makeLong 4 = .ok (.bipush 32, 2) := dk_16 32 (dk_at dksJ14_makeLong_0 4 rfl rfl)
theorem dJ14_makeLong_6 : decode cJ14_makeLong 6 = .ok (.iconst 0, 1) := dk_3 (dk_at dksJ14_makeLong_0 6 rfl rfl)
theorem dJ14_makeLong_7 : decode cJ14_makeLong 7 = .ok (.invokestatic 784, 3) := dk_184 3 16 (dk_at dksJ14_makeLong_0 7 rfl rfl)
theorem dJ14_makeLong_10 : decode cJ14_makeLong 10 = .ok (.lshl, 1) := dk_121 (dk_at dksJ14_makeLong_0 10 rfl rfl)
theorem dJ14_makeLong_11 : decode cJ14_makeLong 11 = .ok (.iload_n 1, 1) := dk_27 (dk_at dksJ14_makeLong_0 11 rfl rfl)
theorem dJ14_makeLong_12 : decode cJ14_makeLong 12 = .ok (.invokestatic 791, 3) := dk_184 3 23 (dk_at dksJ14_makeLong_0 12 rfl rfl)
theorem dJ14_makeLong_15 : decode cJ14_makeLong 15 = .ok (.bipush 32, 2) := dk_16 32 (dk_at dksJ14_makeLong_0 15 rfl rfl)
theorem dJ14_makeLong_17 : decode cJ14_makeLong 17 = .ok (.bipush 32, 2) := dk_16 32 (dk_at dksJ14_makeLong_0 17 rfl rfl)
theorem dJ14_makeLong_19 : decode cJ14_makeLong 19 = .ok (.invokestatic 784, 3) := dk_184 3 16 (dk_at dksJ14_makeLong_0 19 rfl rfl)
theorem dJ14_makeLong_22 : decode cJ14_makeLong 22 = .ok (.lshl, 1) := dk_121 (dk_at dksJ14_makeLong_0 22 rfl rfl)
theorem dJ14_makeLong_23 : decode cJ14_makeLong 23 = .ok (.lor, 1) := dk_129 (dk_at dksJ14_makeLong_0 23 rfl rfl)
theorem dJ14_makeLong_24 : decode cJ14_makeLong 24 = .ok (.lreturn, 1) := dk_173 (dk_at dksJ14_makeLong_1 0 rfl rfl)
def dkwJ14_toUnsignedLong_0 : List UInt8 := [26, 133, 20, 3, 44, 127, 173]
abbrev dktJ14_toUnsignedLong_0 : List UInt8 := dkwJ14_toUnsignedLong_0 ++ []
theorem dksJ14_toUnsignedLong_0 : cJ14_toUnsignedLong.data.toList.drop 0 = dktJ14_toUnsignedLong_0 := by decide +kernel
theorem dJ14_toUnsignedLong_0 : decode cJ14_toUnsignedLong 0 = .ok (.iload_n 0, 1) := dk_26 (dk_at dksJ14_toUnsignedLong_0 0 rfl rfl)
theorem dJ14_toUnsignedLong_1 : decode cJ14_toUnsignedLong 1 = .ok (.i2l, 1) := dk_133 (dk_at dksJ14_toUnsignedLong_0 1 rfl rfl)
theorem dJ14_toUnsignedLong_2 : decode cJ14_toUnsignedLong 2 = .ok (.ldc2_w 812, 3) := dk_20 3 44 (dk_at dksJ14_toUnsignedLong_0 2 rfl rfl)
theorem dJ14_toUnsignedLong_5 : decode cJ14_toUnsignedLong 5 = .ok (.land, 1) := dk_127 (dk_at dksJ14_toUnsignedLong_0 5 rfl rfl)
theorem dJ14_toUnsignedLong_6 : decode cJ14_toUnsignedLong 6 = .ok (.lreturn, 1) := dk_173 (dk_at dksJ14_toUnsignedLong_0 6 rfl rfl)
def dkwJ14_pickPos_0 : List UInt8 := [178, 1, 95, 153, 0, 9, 26, 27, 100, 167, 0, 4, 27, 172]
abbrev dktJ14_pickPos_0 : List UInt8 := dkwJ14_pickPos_0 ++ []
theorem dksJ14_pickPos_0 : cJ14_pickPos.data.toList.drop 0 = dktJ14_pickPos_0 := by decide +kernel
theorem dJ14_pickPos_0 : decode cJ14_pickPos 0 = .ok (.getstatic 351, 3) := dk_178 1 95 (dk_at dksJ14_pickPos_0 0 rfl rfl)
theorem dJ14_pickPos_3 : decode cJ14_pickPos 3 = .ok (.ifCond .eq 9, 3) := dk_153 0 9 (dk_at dksJ14_pickPos_0 3 rfl rfl)
theorem dJ14_pickPos_6 : decode cJ14_pickPos 6 = .ok (.iload_n 0, 1) := dk_26 (dk_at dksJ14_pickPos_0 6 rfl rfl)
theorem dJ14_pickPos_7 : decode cJ14_pickPos 7 = .ok (.iload_n 1, 1) := dk_27 (dk_at dksJ14_pickPos_0 7 rfl rfl)
theorem dJ14_pickPos_8 : decode cJ14_pickPos 8 = .ok (.isub, 1) := dk_100 (dk_at dksJ14_pickPos_0 8 rfl rfl)
theorem dJ14_pickPos_9 : decode cJ14_pickPos 9 = .ok (.goto 4, 3) := dk_167 0 4 (dk_at dksJ14_pickPos_0 9 rfl rfl)
theorem dJ14_pickPos_12 : decode cJ14_pickPos 12 = .ok (.iload_n 1, 1) := dk_27 (dk_at dksJ14_pickPos_0 12 rfl rfl)
theorem dJ14_pickPos_13 : decode cJ14_pickPos 13 = .ok (.ireturn, 1) := dk_172 (dk_at dksJ14_pickPos_0 13 rfl rfl)
def dkwJ14_makeLong_2_2 : List UInt8 := [121, 129, 173]
abbrev dktJ14_makeLong_2_2 : List UInt8 := dkwJ14_makeLong_2_2 ++ []
def dkwJ14_makeLong_2_1 : List UInt8 := [28, 184, 3, 20, 16, 48, 16, 32, 184, 3, 16, 121, 129, 29, 184, 3, 20, 16, 48, 16, 48, 184, 3, 16]
abbrev dktJ14_makeLong_2_1 : List UInt8 := dkwJ14_makeLong_2_1 ++ dktJ14_makeLong_2_2
def dkwJ14_makeLong_2_0 : List UInt8 := [26, 184, 3, 20, 16, 48, 3, 184, 3, 16, 121, 27, 184, 3, 20, 16, 48, 16, 16, 184, 3, 16, 121, 129]
abbrev dktJ14_makeLong_2_0 : List UInt8 := dkwJ14_makeLong_2_0 ++ dktJ14_makeLong_2_1
theorem dksJ14_makeLong_2_0 : cJ14_makeLong_2.data.toList.drop 0 = dktJ14_makeLong_2_0 := by decide +kernel
theorem dksJ14_makeLong_2_1 : cJ14_makeLong_2.data.toList.drop 24 = dktJ14_makeLong_2_1 := dk_seg dksJ14_makeLong_2_0 24 rfl rfl
theorem dksJ14_makeLong_2_2 : cJ14_makeLong_2.data.toList.drop 48 = dktJ14_makeLong_2_2 := dk_seg dksJ14_makeLong_2_1 24 rfl rfl
theorem dJ14_makeLong_2_0 : decode cJ14_makeLong_2 0 = .ok (.iload_n 0, 1) := dk_26 (dk_at dksJ14_makeLong_2_0 0 rfl rfl)
theorem dJ14_makeLong_2_1 : decode cJ14_makeLong_2 1 = .ok (.invokestatic 788, 3) := dk_184 3 20 (dk_at dksJ14_makeLong_2_0 1 rfl rfl)
theorem dJ14_makeLong_2_4 : decode cJ14_makeLong_2 4 = .ok (.bipush 48, 2) := dk_16 48 (dk_at dksJ14_makeLong_2_0 4 rfl rfl)
theorem dJ14_makeLong_2_6 : decode cJ14_makeLong_2 6 = .ok (.iconst 0, 1) := dk_3 (dk_at dksJ14_makeLong_2_0 6 rfl rfl)
theorem dJ14_makeLong_2_7 : decode cJ14_makeLong_2 7 = .ok (.invokestatic 784, 3) := dk_184 3 16 (dk_at dksJ14_makeLong_2_0 7 rfl rfl)
theorem dJ14_makeLong_2_10 : decode cJ14_makeLong_2 10 = .ok (.lshl, 1) := dk_121 (dk_at dksJ14_makeLong_2_0 10 rfl rfl)
theorem dJ14_makeLong_2_11 : decode cJ14_makeLong_2 11 = .ok (.iload_n 1, 1) := dk_27 (dk_at dksJ14_makeLong_2_0 11 rfl rfl)
theorem dJ14_makeLong_2_12 : decode cJ14_makeLong_2 12 = .ok (.invokestatic 788, 3) := dk_184 3 20 (dk_at dksJ14_makeLong_2_0 12 rfl rfl)
theorem dJ14_makeLong_2_15 : decode cJ14_makeLong_2 15 = .ok (.bipush 48, 2) := dk_16 48 (dk_at dksJ14_makeLong_2_0 15 rfl rfl)
theorem dJ14_makeLong_2_17 : decode cJ14_makeLong_2 17 = .ok (.bipush 16, 2) := dk_16 16 (dk_at dksJ14_makeLong_2_0 17 rfl rfl)
theorem dJ14_makeLong_2_19 : decode cJ14_makeLong_2 19 = .ok (.invokestatic 784, 3) := dk_184 3 16 (dk_at dksJ14_makeLong_2_0 19 rfl rfl)
theorem dJ14_makeLong_2_22 : decode cJ14_makeLong_2 22 = .ok (.lshl, 1) := dk_121 (dk_at dksJ14_makeLong_2_0 22 rfl rfl)
theorem dJ14_makeLong_2_23 : decode cJ14_makeLong_2 23 = .ok (.lor, 1) := dk_129 (dk_at dksJ14_makeLong_2_0 23 rfl rfl)
theorem dJ14_makeLong_2_24 : decode cJ14_makeLong_2 24 = .ok (.iload_n 2, 1) := dk_28 (dk_at dksJ14_makeLong_2_1 0 rfl rfl)
theorem dJ14_makeLong_2_25 : decode cJ14_makeLong_2 25 = .ok (.invokestatic 788, 3) := dk_184 3 20 (dk_at dksJ14_makeLong_2_1 1 rfl rfl)
theorem dJ14_makeLong_2_28 : decode cJ14_makeLong_2 28 = .ok (.bipush 48, 2) := dk_16 48 (dk_at dksJ14_makeLong_2_1 4 rfl rfl)
theorem dJ14_makeLong_2_30 : decode cJ14_makeLong_2 30 = .ok (.bipush 32, 2) := dk_16 32 (dk_at dksJ14_makeLong_2_1 6 rfl rfl)
theorem dJ14_makeLong_2_32 : decode cJ14_makeLong_2 32 = .ok (.invokestatic 784, 3) := dk_184 3 16 (dk_at dksJ14_makeLong_2_1 8 rfl rfl)
theorem dJ14_makeLong_2_35 : decode cJ14_makeLong_2 35 = .ok (.lshl, 1) := dk_121 (dk_at dksJ14_makeLong_2_1 11 rfl rfl)
theorem dJ14_makeLong_2_36 : decode cJ14_makeLong_2 36 = .ok (.lor, 1) := dk_129 (dk_at dksJ14_makeLong_2_1 12 rfl rfl)
theorem dJ14_makeLong_2_37 : decode cJ14_makeLong_2 37 = .ok (.iload_n 3, 1) := dk_29 (dk_at dksJ14_makeLong_2_1 13 rfl rfl)
theorem dJ14_makeLong_2_38 : decode cJ14_makeLong_2 38 = .ok (.invokestatic 788, 3) := dk_184 3 20 (dk_at dksJ14_makeLong_2_1 14 rfl rfl)
theorem dJ14_makeLong_2_41 : decode cJ14_makeLong_2 41 = .ok (.bipush 48, 2) := dk_16 48 (dk_at dksJ14_makeLong_2_1 17 rfl rfl)
theorem dJ14_makeLong_2_43 : decode cJ14_makeLong_2 43 = .ok (.bipush 48, 2) := dk_16 48 (dk_at dksJ14_makeLong_2_1 19 rfl rfl)
theorem dJ14_makeLong_2_45 : decode cJ14_makeLong_2 45 = .ok (.invokestatic 784, 3) := dk_184 3 16 (dk_at dksJ14_makeLong_2_1 21 rfl rfl)
theorem dJ14_makeLong_2_48 : decode cJ14_makeLong_2 48 = .ok (.lshl, 1) := dk_121 (dk_at dksJ14_makeLong_2_2 0 rfl rfl)
theorem dJ14_makeLong_2_49 : decode cJ14_makeLong_2 49 = .ok (.lor, 1) := dk_129 (dk_at dksJ14_makeLong_2_2 1 rfl rfl)
theorem dJ14_makeLong_2_50 : decode cJ14_makeLong_2 50 = .ok (.lreturn, 1) := dk_173 (dk_at dksJ14_makeLong_2_2 2 rfl rfl)
def dkwJ14_toUnsignedLong_2_0 : List UInt8 := [26, 133, 20, 3, 42, 127, 173]
abbrev dktJ14_toUnsignedLong_2_0 : List UInt8 := dkwJ14_toUnsignedLong_2_0 ++ []
theorem dksJ14_toUnsignedLong_2_0 : cJ14_toUnsignedLong_2.data.toList.drop 0 = dktJ14_toUnsignedLong_2_0 := by decide +kernel
theorem dJ14_toUnsignedLong_2_0 : decode cJ14_toUnsignedLong_2 0 = .ok (.iload_n 0, 1) := dk_26 (dk_at dksJ14_toUnsignedLong_2_0 0 rfl rfl)
theorem dJ14_toUnsignedLong_2_1 : decode cJ14_toUnsignedLong_2 1 = .ok (.i2l, 1) := dk_133 (dk_at dksJ14_toUnsignedLong_2_0 1 rfl rfl)
theorem dJ14_toUnsignedLong_2_2 : decode cJ14_toUnsignedLong_2 2 = .ok (.ldc2_w 810, 3) := dk_20 3 42 (dk_at dksJ14_toUnsignedLong_2_0 2 rfl rfl)
theorem dJ14_toUnsignedLong_2_5 : decode cJ14_toUnsignedLong_2 5 = .ok (.land, 1) := dk_127 (dk_at dksJ14_toUnsignedLong_2_0 5 rfl rfl)
theorem dJ14_toUnsignedLong_2_6 : decode cJ14_toUnsignedLong_2 6 = .ok (.lreturn, 1) := dk_173 (dk_at dksJ14_toUnsignedLong_2_0 6 rfl rfl)
def dkwJ14_makeLong_3_4 : List UInt8 := [184, 3, 13, 16, 56, 16, 56, 184, 3, 16, 121, 129, 173]
abbrev dktJ14_makeLong_3_4 : List UInt8 := dkwJ14_makeLong_3_4 ++ []
def dkwJ14_makeLong_3_3 : List UInt8 := [16, 40, 184, 3, 16, 121, 129, 21, 6, 184, 3, 13, 16, 56, 16, 48, 184, 3, 16, 121, 129, 21, 7]
abbrev dktJ14_makeLong_3_3 : List UInt8 := dkwJ14_makeLong_3_3 ++ dktJ14_makeLong_3_4
def dkwJ14_makeLong_3_2 : List UInt8 := [121, 129, 21, 4, 184, 3, 13, 16, 56, 16, 32, 184, 3, 16, 121, 129, 21, 5, 184, 3, 13, 16, 56]
abbrev dktJ14_makeLong_3_2 : List UInt8 := dkwJ14_makeLong_3_2 ++ dktJ14_makeLong_3_3
def dkwJ14_makeLong_3_1 : List UInt8 := [28, 184, 3, 13, 16, 56, 16, 16, 184, 3, 16, 121, 129, 29, 184, 3, 13, 16, 56, 16, 24, 184, 3, 16]
abbrev dktJ14_makeLong_3_1 : List UInt8 := dkwJ14_makeLong_3_1 ++ dktJ14_makeLong_3_2
def dkwJ14_makeLong_3_0 : List UInt8 := [26, 184, 3, 13, 16, 56, 3, 184, 3, 16, 121, 27, 184, 3, 13, 16, 56, 16, 8, 184, 3, 16, 121, 129]
abbrev dktJ14_makeLong_3_0 : List UInt8 := dkwJ14_makeLong_3_0 ++ dktJ14_makeLong_3_1
theorem dksJ14_makeLong_3_0 : cJ14_makeLong_3.data.toList.drop 0 = dktJ14_makeLong_3_0 := by decide +kernel
theorem dksJ14_makeLong_3_1 : cJ14_makeLong_3.data.toList.drop 24 = dktJ14_makeLong_3_1 := dk_seg dksJ14_makeLong_3_0 24 rfl rfl
theorem dksJ14_makeLong_3_2 : cJ14_makeLong_3.data.toList.drop 48 = dktJ14_makeLong_3_2 := dk_seg dksJ14_makeLong_3_1 24 rfl rfl
theorem dksJ14_makeLong_3_3 : cJ14_makeLong_3.data.toList.drop 71 = dktJ14_makeLong_3_3 := dk_seg dksJ14_makeLong_3_2 23 rfl rfl
theorem dksJ14_makeLong_3_4 : cJ14_makeLong_3.data.toList.drop 94 = dktJ14_makeLong_3_4 := dk_seg dksJ14_makeLong_3_3 23 rfl rfl
theorem dJ14_makeLong_3_0 : decode cJ14_makeLong_3 0 = .ok (.iload_n 0, 1) := dk_26 (dk_at dksJ14_makeLong_3_0 0 rfl rfl)
theorem dJ14_makeLong_3_1 : decode cJ14_makeLong_3 1 = .ok (.invokestatic 781, 3) := dk_184 3 13 (dk_at dksJ14_makeLong_3_0 1 rfl rfl)
theorem dJ14_makeLong_3_4 : decode cJ14_makeLong_3 4 = .ok (.bipush 56, 2) := dk_16 56 (dk_at dksJ14_makeLong_3_0 4 rfl rfl)
theorem dJ14_makeLong_3_6 : decode cJ14_makeLong_3 6 = .ok (.iconst 0, 1) := dk_3 (dk_at dksJ14_makeLong_3_0 6 rfl rfl)
theorem dJ14_makeLong_3_7 : decode cJ14_makeLong_3 7 = .ok (.invokestatic 784, 3) := dk_184 3 16 (dk_at dksJ14_makeLong_3_0 7 rfl rfl)
theorem dJ14_makeLong_3_10 : decode cJ14_makeLong_3 10 = .ok (.lshl, 1) := dk_121 (dk_at dksJ14_makeLong_3_0 10 rfl rfl)
theorem dJ14_makeLong_3_11 : decode cJ14_makeLong_3 11 = .ok (.iload_n 1, 1) := dk_27 (dk_at dksJ14_makeLong_3_0 11 rfl rfl)
theorem dJ14_makeLong_3_12 : decode cJ14_makeLong_3 12 = .ok (.invokestatic 781, 3) := dk_184 3 13 (dk_at dksJ14_makeLong_3_0 12 rfl rfl)
theorem dJ14_makeLong_3_15 : decode cJ14_makeLong_3 15 = .ok (.bipush 56, 2) := dk_16 56 (dk_at dksJ14_makeLong_3_0 15 rfl rfl)
theorem dJ14_makeLong_3_17 : decode cJ14_makeLong_3 17 = .ok (.bipush 8, 2) := dk_16 8 (dk_at dksJ14_makeLong_3_0 17 rfl rfl)
theorem dJ14_makeLong_3_19 : decode cJ14_makeLong_3 19 = .ok (.invokestatic 784, 3) := dk_184 3 16 (dk_at dksJ14_makeLong_3_0 19 rfl rfl)
theorem dJ14_makeLong_3_22 : decode cJ14_makeLong_3 22 = .ok (.lshl, 1) := dk_121 (dk_at dksJ14_makeLong_3_0 22 rfl rfl)
theorem dJ14_makeLong_3_23 : decode cJ14_makeLong_3 23 = .ok (.lor, 1) := dk_129 (dk_at dksJ14_makeLong_3_0 23 rfl rfl)
theorem dJ14_makeLong_3_24 : decode cJ14_makeLong_3 24 = .ok (.iload_n 2, 1) := dk_28 (dk_at dksJ14_makeLong_3_1 0 rfl rfl)
theorem dJ14_makeLong_3_25 : decode cJ14_makeLong_3 25 = .ok (.invokestatic 781, 3) := dk_184 3 13 (dk_at dksJ14_makeLong_3_1 1 rfl rfl)
theorem dJ14_makeLong_3_28 : decode cJ14_makeLong_3 28 = .ok (.bipush 56, 2) := dk_16 56 (dk_at dksJ14_makeLong_3_1 4 rfl rfl)
theorem dJ14_makeLong_3_30 : decode cJ14_makeLong_3 30 = .ok (.bipush 16, 2) := dk_16 16 (dk_at dksJ14_makeLong_3_1 6 rfl rfl)
theorem dJ14_makeLong_3_32 : decode cJ14_makeLong_3 32 = .ok (.invokestatic 784, 3) := dk_184 3 16 (dk_at dksJ14_makeLong_3_1 8 rfl rfl)
theorem dJ14_makeLong_3_35 : decode cJ14_makeLong_3 35 = .ok (.lshl, 1) := dk_121 (dk_at dksJ14_makeLong_3_1 11 rfl rfl)
theorem dJ14_makeLong_3_36 : decode cJ14_makeLong_3 36 = .ok (.lor, 1) := dk_129 (dk_at dksJ14_makeLong_3_1 12 rfl rfl)
theorem dJ14_makeLong_3_37 : decode cJ14_makeLong_3 37 = .ok (.iload_n 3, 1) := dk_29 (dk_at dksJ14_makeLong_3_1 13 rfl rfl)
theorem dJ14_makeLong_3_38 : decode cJ14_makeLong_3 38 = .ok (.invokestatic 781, 3) := dk_184 3 13 (dk_at dksJ14_makeLong_3_1 14 rfl rfl)
theorem dJ14_makeLong_3_41 : decode cJ14_makeLong_3 41 = .ok (.bipush 56, 2) := dk_16 56 (dk_at dksJ14_makeLong_3_1 17 rfl rfl)
theorem dJ14_makeLong_3_43 : decode cJ14_makeLong_3 43 = .ok (.bipush 24, 2) := dk_16 24 (dk_at dksJ14_makeLong_3_1 19 rfl rfl)
theorem dJ14_makeLong_3_45 : decode cJ14_makeLong_3 45 = .ok (.invokestatic 784, 3) := dk_184 3 16 (dk_at dksJ14_makeLong_3_1 21 rfl rfl)
theorem dJ14_makeLong_3_48 : decode cJ14_makeLong_3 48 = .ok (.lshl, 1) := dk_121 (dk_at dksJ14_makeLong_3_2 0 rfl rfl)
theorem dJ14_makeLong_3_49 : decode cJ14_makeLong_3 49 = .ok (.lor, 1) := dk_129 (dk_at dksJ14_makeLong_3_2 1 rfl rfl)
theorem dJ14_makeLong_3_50 : decode cJ14_makeLong_3 50 = .ok (.iload 4, 2) := dk_21 4 (dk_at dksJ14_makeLong_3_2 2 rfl rfl)
theorem dJ14_makeLong_3_52 : decode cJ14_makeLong_3 52 = .ok (.invokestatic 781, 3) := dk_184 3 13 (dk_at dksJ14_makeLong_3_2 4 rfl rfl)
theorem dJ14_makeLong_3_55 : decode cJ14_makeLong_3 55 = .ok (.bipush 56, 2) := dk_16 56 (dk_at dksJ14_makeLong_3_2 7 rfl rfl)
theorem dJ14_makeLong_3_57 : decode cJ14_makeLong_3 57 = .ok (.bipush 32, 2) := dk_16 32 (dk_at dksJ14_makeLong_3_2 9 rfl rfl)
theorem dJ14_makeLong_3_59 : decode cJ14_makeLong_3 59 = .ok (.invokestatic 784, 3) := dk_184 3 16 (dk_at dksJ14_makeLong_3_2 11 rfl rfl)
theorem dJ14_makeLong_3_62 : decode cJ14_makeLong_3 62 = .ok (.lshl, 1) := dk_121 (dk_at dksJ14_makeLong_3_2 14 rfl rfl)
theorem dJ14_makeLong_3_63 : decode cJ14_makeLong_3 63 = .ok (.lor, 1) := dk_129 (dk_at dksJ14_makeLong_3_2 15 rfl rfl)
theorem dJ14_makeLong_3_64 : decode cJ14_makeLong_3 64 = .ok (.iload 5, 2) := dk_21 5 (dk_at dksJ14_makeLong_3_2 16 rfl rfl)
theorem dJ14_makeLong_3_66 : decode cJ14_makeLong_3 66 = .ok (.invokestatic 781, 3) := dk_184 3 13 (dk_at dksJ14_makeLong_3_2 18 rfl rfl)
theorem dJ14_makeLong_3_69 : decode cJ14_makeLong_3 69 = .ok (.bipush 56, 2) := dk_16 56 (dk_at dksJ14_makeLong_3_2 21 rfl rfl)
theorem dJ14_makeLong_3_71 : decode cJ14_makeLong_3 71 = .ok (.bipush 40, 2) := dk_16 40 (dk_at dksJ14_makeLong_3_3 0 rfl rfl)
theorem dJ14_makeLong_3_73 : decode cJ14_makeLong_3 73 = .ok (.invokestatic 784, 3) := dk_184 3 16 (dk_at dksJ14_makeLong_3_3 2 rfl rfl)
theorem dJ14_makeLong_3_76 : decode cJ14_makeLong_3 76 = .ok (.lshl, 1) := dk_121 (dk_at dksJ14_makeLong_3_3 5 rfl rfl)
theorem dJ14_makeLong_3_77 : decode cJ14_makeLong_3 77 = .ok (.lor, 1) := dk_129 (dk_at dksJ14_makeLong_3_3 6 rfl rfl)
theorem dJ14_makeLong_3_78 : decode cJ14_makeLong_3 78 = .ok (.iload 6, 2) := dk_21 6 (dk_at dksJ14_makeLong_3_3 7 rfl rfl)
theorem dJ14_makeLong_3_80 : decode cJ14_makeLong_3 80 = .ok (.invokestatic 781, 3) := dk_184 3 13 (dk_at dksJ14_makeLong_3_3 9 rfl rfl)
theorem dJ14_makeLong_3_83 : decode cJ14_makeLong_3 83 = .ok (.bipush 56, 2) := dk_16 56 (dk_at dksJ14_makeLong_3_3 12 rfl rfl)
theorem dJ14_makeLong_3_85 : decode cJ14_makeLong_3 85 = .ok (.bipush 48, 2) := dk_16 48 (dk_at dksJ14_makeLong_3_3 14 rfl rfl)
theorem dJ14_makeLong_3_87 : decode cJ14_makeLong_3 87 = .ok (.invokestatic 784, 3) := dk_184 3 16 (dk_at dksJ14_makeLong_3_3 16 rfl rfl)
theorem dJ14_makeLong_3_90 : decode cJ14_makeLong_3 90 = .ok (.lshl, 1) := dk_121 (dk_at dksJ14_makeLong_3_3 19 rfl rfl)
theorem dJ14_makeLong_3_91 : decode cJ14_makeLong_3 91 = .ok (.lor, 1) := dk_129 (dk_at dksJ14_makeLong_3_3 20 rfl rfl)
theorem dJ14_makeLong_3_92 : decode cJ14_makeLong_3 92 = .ok (.iload 7, 2) := dk_21 7 (dk_at dksJ14_makeLong_3_3 21 rfl rfl)
theorem dJ14_makeLong_3_94 : decode cJ14_makeLong_3 94 = .ok (.invokestatic 781, 3) := dk_184 3 13 (dk_at dksJ14_makeLong_3_4 0 rfl rfl)
theorem dJ14_makeLong_3_97 : decode cJ14_makeLong_3 97 = .ok (.bipush 56, 2) := dk_16 56 (dk_at dksJ14_makeLong_3_4 3 rfl rfl)
theorem dJ14_makeLong_3_99 : decode cJ14_makeLong_3 99 = .ok (.bipush 56, 2) := dk_16 56 (dk_at dksJ14_makeLong_3_4 5 rfl rfl)
theorem dJ14_makeLong_3_101 : decode cJ14_makeLong_3 101 = .ok (.invokestatic 784, 3) := dk_184 3 16 (dk_at dksJ14_makeLong_3_4 7 rfl rfl)
theorem dJ14_makeLong_3_104 : decode cJ14_makeLong_3 104 = .ok (.lshl, 1) := dk_121 (dk_at dksJ14_makeLong_3_4 10 rfl rfl)
theorem dJ14_makeLong_3_105 : decode cJ14_makeLong_3 105 = .ok (.lor, 1) := dk_129 (dk_at dksJ14_makeLong_3_4 11 rfl rfl)
theorem dJ14_makeLong_3_106 : decode cJ14_makeLong_3 106 = .ok (.lreturn, 1) := dk_173 (dk_at dksJ14_makeLong_3_4 12 rfl rfl)
def dkwJ14_toUnsignedLong_3_0 : List UInt8 := [26, 133, 20, 3, 40, 127, 173]
abbrev dktJ14_toUnsignedLong_3_0 : List UInt8 := dkwJ14_toUnsignedLong_3_0 ++ []
theorem dksJ14_toUnsignedLong_3_0 : cJ14_toUnsignedLong_3.data.toList.drop 0 = dktJ14_toUnsignedLong_3_0 := by decide +kernel
theorem dJ14_toUnsignedLong_3_0 : decode cJ14_toUnsignedLong_3 0 = .ok (.iload_n 0, 1) := dk_26 (dk_at dksJ14_toUnsignedLong_3_0 0 rfl rfl)
theorem dJ14_toUnsignedLong_3_1 : decode cJ14_toUnsignedLong_3 1 = .ok (.i2l, 1) := dk_133 (dk_at dksJ14_toUnsignedLong_3_0 1 rfl rfl)
theorem dJ14_toUnsignedLong_3_2 : decode cJ14_toUnsignedLong_3 2 = .ok (.ldc2_w 808, 3) := dk_20 3 40 (dk_at dksJ14_toUnsignedLong_3_0 2 rfl rfl)
theorem dJ14_toUnsignedLong_3_5 : decode cJ14_toUnsignedLong_3 5 = .ok (.land, 1) := dk_127 (dk_at dksJ14_toUnsignedLong_3_0 5 rfl rfl)
theorem dJ14_toUnsignedLong_3_6 : decode cJ14_toUnsignedLong_3 6 = .ok (.lreturn, 1) := dk_173 (dk_at dksJ14_toUnsignedLong_3_0 6 rfl rfl)
def dkwJ14_getIntUnaligned_3 : List UInt8 := [43, 32, 20, 1, 93, 97, 182, 0, 39, 184, 2, 211, 172]
abbrev dktJ14_getIntUnaligned_3 : List UInt8 := dkwJ14_getIntUnaligned_3 ++ []
def dkwJ14_getIntUnaligned_2 : List UInt8 := [43, 32, 182, 0, 39, 42, 43, 32, 10, 97, 182, 0, 39, 42, 43, 32, 20, 0, 203, 97, 182, 0, 39, 42]
abbrev dktJ14_getIntUnaligned_2 : List UInt8 := dkwJ14_getIntUnaligned_2 ++ dktJ14_getIntUnaligned_3
def dkwJ14_getIntUnaligned_1 : List UInt8 := [154, 0, 23, 42, 43, 32, 182, 0, 47, 42, 43, 32, 20, 0, 203, 97, 182, 0, 47, 184, 2, 207, 172, 42]
abbrev dktJ14_getIntUnaligned_1 : List UInt8 := dkwJ14_getIntUnaligned_1 ++ dktJ14_getIntUnaligned_2
def dkwJ14_getIntUnaligned_0 : List UInt8 := [32, 20, 1, 93, 127, 9, 148, 154, 0, 10, 42, 43, 32, 182, 0, 17, 172, 32, 10, 127, 9, 148]
abbrev dktJ14_getIntUnaligned_0 : List UInt8 := dkwJ14_getIntUnaligned_0 ++ dktJ14_getIntUnaligned_1
theorem dksJ14_getIntUnaligned_0 : cJ14_getIntUnaligned.data.toList.drop 0 = dktJ14_getIntUnaligned_0 := by decide +kernel
theorem dksJ14_getIntUnaligned_1 : cJ14_getIntUnaligned.data.toList.drop 22 = dktJ14_getIntUnaligned_1 := dk_seg dksJ14_getIntUnaligned_0 22 rfl rfl
theorem dksJ14_getIntUnaligned_2 : cJ14_getIntUnaligned.data.toList.drop 46 = dktJ14_getIntUnaligned_2 := dk_seg dksJ14_getIntUnaligned_1 24 rfl rfl
theorem dksJ14_getIntUnaligned_3 : cJ14_getIntUnaligned.data.toList.drop 70 = dktJ14_getIntUnaligned_3 := dk_seg dksJ14_getIntUnaligned_2 24 rfl rfl
theorem dJ14_getIntUnaligned_0 : decode cJ14_getIntUnaligned 0 = .ok (.lload_n 2, 1) := dk_32 (dk_at dksJ14_getIntUnaligned_0 0 rfl rfl)
theorem dJ14_getIntUnaligned_1 : decode cJ14_getIntUnaligned 1 = .ok (.ldc2_w 349, 3) := dk_20 1 93 (dk_at dksJ14_getIntUnaligned_0 1 rfl rfl)
theorem dJ14_getIntUnaligned_4 : decode cJ14_getIntUnaligned 4 = .ok (.land, 1) := dk_127 (dk_at dksJ14_getIntUnaligned_0 4 rfl rfl)
theorem dJ14_getIntUnaligned_5 : decode cJ14_getIntUnaligned 5 = .ok (.lconst 0, 1) := dk_9 (dk_at dksJ14_getIntUnaligned_0 5 rfl rfl)
theorem dJ14_getIntUnaligned_6 : decode cJ14_getIntUnaligned 6 = .ok (.lcmp, 1) := dk_148 (dk_at dksJ14_getIntUnaligned_0 6 rfl rfl)
theorem dJ14_getIntUnaligned_7 : decode cJ14_getIntUnaligned 7 = .ok (.ifCond .ne 10, 3) := dk_154 0 10 (dk_at dksJ14_getIntUnaligned_0 7 rfl rfl)
theorem dJ14_getIntUnaligned_10 : decode cJ14_getIntUnaligned 10 = .ok (.aload_n 0, 1) := dk_42 (dk_at dksJ14_getIntUnaligned_0 10 rfl rfl)
theorem dJ14_getIntUnaligned_11 : decode cJ14_getIntUnaligned 11 = .ok (.aload_n 1, 1) := dk_43 (dk_at dksJ14_getIntUnaligned_0 11 rfl rfl)
theorem dJ14_getIntUnaligned_12 : decode cJ14_getIntUnaligned 12 = .ok (.lload_n 2, 1) := dk_32 (dk_at dksJ14_getIntUnaligned_0 12 rfl rfl)
theorem dJ14_getIntUnaligned_13 : decode cJ14_getIntUnaligned 13 = .ok (.invokevirtual 17, 3) := dk_182 0 17 (dk_at dksJ14_getIntUnaligned_0 13 rfl rfl)
theorem dJ14_getIntUnaligned_16 : decode cJ14_getIntUnaligned 16 = .ok (.ireturn, 1) := dk_172 (dk_at dksJ14_getIntUnaligned_0 16 rfl rfl)
theorem dJ14_getIntUnaligned_17 : decode cJ14_getIntUnaligned 17 = .ok (.lload_n 2, 1) := dk_32 (dk_at dksJ14_getIntUnaligned_0 17 rfl rfl)
theorem dJ14_getIntUnaligned_18 : decode cJ14_getIntUnaligned 18 = .ok (.lconst 1, 1) := dk_10 (dk_at dksJ14_getIntUnaligned_0 18 rfl rfl)
theorem dJ14_getIntUnaligned_19 : decode cJ14_getIntUnaligned 19 = .ok (.land, 1) := dk_127 (dk_at dksJ14_getIntUnaligned_0 19 rfl rfl)
theorem dJ14_getIntUnaligned_20 : decode cJ14_getIntUnaligned 20 = .ok (.lconst 0, 1) := dk_9 (dk_at dksJ14_getIntUnaligned_0 20 rfl rfl)
theorem dJ14_getIntUnaligned_21 : decode cJ14_getIntUnaligned 21 = .ok (.lcmp, 1) := dk_148 (dk_at dksJ14_getIntUnaligned_0 21 rfl rfl)
theorem dJ14_getIntUnaligned_22 : decode cJ14_getIntUnaligned 22 = .ok (.ifCond .ne 23, 3) := dk_154 0 23 (dk_at dksJ14_getIntUnaligned_1 0 rfl rfl)
theorem dJ14_getIntUnaligned_25 : decode cJ14_getIntUnaligned 25 = .ok (.aload_n 0, 1) := dk_42 (dk_at dksJ14_getIntUnaligned_1 3 rfl rfl)
theorem dJ14_getIntUnaligned_26 : decode cJ14_getIntUnaligned 26 = .ok (.aload_n 1, 1) := dk_43 (dk_at dksJ14_getIntUnaligned_1 4 rfl rfl)
theorem dJ14_getIntUnaligned_27 : decode cJ14_getIntUnaligned 27 = .ok (.lload_n 2, 1) := dk_32 (dk_at dksJ14_getIntUnaligned_1 5 rfl rfl)
theorem dJ14_getIntUnaligned_28 : decode cJ14_getIntUnaligned 28 = .ok (.invokevirtual 47, 3) := dk_182 0 47 (dk_at dksJ14_getIntUnaligned_1 6 rfl rfl)
theorem dJ14_getIntUnaligned_31 : decode cJ14_getIntUnaligned 31 = .ok (.aload_n 0, 1) := dk_42 (dk_at dksJ14_getIntUnaligned_1 9 rfl rfl)
theorem dJ14_getIntUnaligned_32 : decode cJ14_getIntUnaligned 32 = .ok (.aload_n 1, 1) := dk_43 (dk_at dksJ14_getIntUnaligned_1 10 rfl rfl)
theorem dJ14_getIntUnaligned_33 : decode cJ14_getIntUnaligned 33 = .ok (.lload_n 2, 1) := dk_32 (dk_at dksJ14_getIntUnaligned_1 11 rfl rfl)
theorem dJ14_getIntUnaligned_34 : decode cJ14_getIntUnaligned 34 = .ok (.ldc2_w 203, 3) := dk_20 0 203 (dk_at dksJ14_getIntUnaligned_1 12 rfl rfl)
theorem dJ14_getIntUnaligned_37 : decode cJ14_getIntUnaligned 37 = .ok (.ladd, 1) := dk_97 (dk_at dksJ14_getIntUnaligned_1 15 rfl rfl)
theorem dJ14_getIntUnaligned_38 : decode cJ14_getIntUnaligned 38 = .ok (.invokevirtual 47, 3) := dk_182 0 47 (dk_at dksJ14_getIntUnaligned_1 16 rfl rfl)
theorem dJ14_getIntUnaligned_41 : decode cJ14_getIntUnaligned 41 = .ok (.invokestatic 719, 3) := dk_184 2 207 (dk_at dksJ14_getIntUnaligned_1 19 rfl rfl)
theorem dJ14_getIntUnaligned_44 : decode cJ14_getIntUnaligned 44 = .ok (.ireturn, 1) := dk_172 (dk_at dksJ14_getIntUnaligned_1 22 rfl rfl)
theorem dJ14_getIntUnaligned_45 : decode cJ14_getIntUnaligned 45 = .ok (.aload_n 0, 1) := dk_42 (dk_at dksJ14_getIntUnaligned_1 23 rfl rfl)
theorem dJ14_getIntUnaligned_46 : decode cJ14_getIntUnaligned 46 = .ok (.aload_n 1, 1) := dk_43 (dk_at dksJ14_getIntUnaligned_2 0 rfl rfl)
theorem dJ14_getIntUnaligned_47 : decode cJ14_getIntUnaligned 47 = .ok (.lload_n 2, 1) := dk_32 (dk_at dksJ14_getIntUnaligned_2 1 rfl rfl)
theorem dJ14_getIntUnaligned_48 : decode cJ14_getIntUnaligned 48 = .ok (.invokevirtual 39, 3) := dk_182 0 39 (dk_at dksJ14_getIntUnaligned_2 2 rfl rfl)
theorem dJ14_getIntUnaligned_51 : decode cJ14_getIntUnaligned 51 = .ok (.aload_n 0, 1) := dk_42 (dk_at dksJ14_getIntUnaligned_2 5 rfl rfl)
theorem dJ14_getIntUnaligned_52 : decode cJ14_getIntUnaligned 52 = .ok (.aload_n 1, 1) := dk_43 (dk_at dksJ14_getIntUnaligned_2 6 rfl rfl)
theorem dJ14_getIntUnaligned_53 : decode cJ14_getIntUnaligned 53 = .ok (.lload_n 2, 1) := dk_32 (dk_at dksJ14_getIntUnaligned_2 7 rfl rfl)
theorem dJ14_getIntUnaligned_54 : decode cJ14_getIntUnaligned 54 = .ok (.lconst 1, 1) := dk_10 (dk_at dksJ14_getIntUnaligned_2 8 rfl rfl)
theorem dJ14_getIntUnaligned_55 : decode cJ14_getIntUnaligned 55 = .ok (.ladd, 1) := dk_97 (dk_at dksJ14_getIntUnaligned_2 9 rfl rfl)
theorem dJ14_getIntUnaligned_56 : decode cJ14_getIntUnaligned 56 = .ok (.invokevirtual 39, 3) := dk_182 0 39 (dk_at dksJ14_getIntUnaligned_2 10 rfl rfl)
theorem dJ14_getIntUnaligned_59 : decode cJ14_getIntUnaligned 59 = .ok (.aload_n 0, 1) := dk_42 (dk_at dksJ14_getIntUnaligned_2 13 rfl rfl)
theorem dJ14_getIntUnaligned_60 : decode cJ14_getIntUnaligned 60 = .ok (.aload_n 1, 1) := dk_43 (dk_at dksJ14_getIntUnaligned_2 14 rfl rfl)
theorem dJ14_getIntUnaligned_61 : decode cJ14_getIntUnaligned 61 = .ok (.lload_n 2, 1) := dk_32 (dk_at dksJ14_getIntUnaligned_2 15 rfl rfl)
theorem dJ14_getIntUnaligned_62 : decode cJ14_getIntUnaligned 62 = .ok (.ldc2_w 203, 3) := dk_20 0 203 (dk_at dksJ14_getIntUnaligned_2 16 rfl rfl)
theorem dJ14_getIntUnaligned_65 : decode cJ14_getIntUnaligned 65 = .ok (.ladd, 1) := dk_97 (dk_at dksJ14_getIntUnaligned_2 19 rfl rfl)
theorem dJ14_getIntUnaligned_66 : decode cJ14_getIntUnaligned 66 = .ok (.invokevirtual 39, 3) := dk_182 0 39 (dk_at dksJ14_getIntUnaligned_2 20 rfl rfl)
theorem dJ14_getIntUnaligned_69 : decode cJ14_getIntUnaligned 69 = .ok (.aload_n 0, 1) := dk_42 (dk_at dksJ14_getIntUnaligned_2 23 rfl rfl)
theorem dJ14_getIntUnaligned_70 : decode cJ14_getIntUnaligned 70 = .ok (.aload_n 1, 1) := dk_43 (dk_at dksJ14_getIntUnaligned_3 0 rfl rfl)
theorem dJ14_getIntUnaligned_71 : decode cJ14_getIntUnaligned 71 = .ok (.lload_n 2, 1) := dk_32 (dk_at dksJ14_getIntUnaligned_3 1 rfl rfl)
theorem dJ14_getIntUnaligned_72 : decode cJ14_getIntUnaligned 72 = .ok (.ldc2_w 349, 3) := dk_20 1 93 (dk_at dksJ14_getIntUnaligned_3 2 rfl rfl)
theorem dJ14_getIntUnaligned_75 : decode cJ14_getIntUnaligned 75 = .ok (.ladd, 1) := dk_97 (dk_at dksJ14_getIntUnaligned_3 5 rfl rfl)
theorem dJ14_getIntUnaligned_76 : decode cJ14_getIntUnaligned 76 = .ok (.invokevirtual 39, 3) := dk_182 0 39 (dk_at dksJ14_getIntUnaligned_3 6 rfl rfl)
theorem dJ14_getIntUnaligned_79 : decode cJ14_getIntUnaligned 79 = .ok (.invokestatic 723, 3) := dk_184 2 211 (dk_at dksJ14_getIntUnaligned_3 9 rfl rfl)
theorem dJ14_getIntUnaligned_82 : decode cJ14_getIntUnaligned 82 = .ok (.ireturn, 1) := dk_172 (dk_at dksJ14_getIntUnaligned_3 12 rfl rfl)
def dkwJ14_makeInt_1 : List UInt8 := [172]
abbrev dktJ14_makeInt_1 : List UInt8 := dkwJ14_makeInt_1 ++ []
def dkwJ14_makeInt_0 : List UInt8 := [26, 184, 3, 24, 16, 16, 3, 184, 3, 16, 120, 27, 184, 3, 24, 16, 16, 16, 16, 184, 3, 16, 120, 128]
abbrev dktJ14_makeInt_0 : List UInt8 := dkwJ14_makeInt_0 ++ dktJ14_makeInt_1
theorem dksJ14_makeInt_0 : cJ14_makeInt.data.toList.drop 0 = dktJ14_makeInt_0 := by decide +kernel
theorem dksJ14_makeInt_1 : cJ14_makeInt.data.toList.drop 24 = dktJ14_makeInt_1 := dk_seg dksJ14_makeInt_0 24 rfl rfl
theorem dJ14_makeInt_0 : decode cJ14_makeInt 0 = .ok (.iload_n 0, 1) := dk_26 (dk_at dksJ14_makeInt_0 0 rfl rfl)
theorem dJ14_makeInt_1 : decode cJ14_makeInt 1 = .ok (.invokestatic 792, 3) := dk_184 3 24 (dk_at dksJ14_makeInt_0 1 rfl rfl)
theorem dJ14_makeInt_4 : decode cJ14_makeInt 4 = .ok (.bipush 16, 2) := dk_16 16 (dk_at dksJ14_makeInt_0 4 rfl rfl)
theorem dJ14_makeInt_6 : decode cJ14_makeInt 6 = .ok (.iconst 0, 1) := dk_3 (dk_at dksJ14_makeInt_0 6 rfl rfl)
theorem dJ14_makeInt_7 : decode cJ14_makeInt 7 = .ok (.invokestatic 784, 3) := dk_184 3 16 (dk_at dksJ14_makeInt_0 7 rfl rfl)
theorem dJ14_makeInt_10 : decode cJ14_makeInt 10 = .ok (.ishl, 1) := dk_120 (dk_at dksJ14_makeInt_0 10 rfl rfl)
theorem dJ14_makeInt_11 : decode cJ14_makeInt 11 = .ok (.iload_n 1, 1) := dk_27 (dk_at dksJ14_makeInt_0 11 rfl rfl)
theorem dJ14_makeInt_12 : decode cJ14_makeInt 12 = .ok (.invokestatic 792, 3) := dk_184 3 24 (dk_at dksJ14_makeInt_0 12 rfl rfl)
theorem dJ14_makeInt_15 : decode cJ14_makeInt 15 = .ok (.bipush 16, 2) := dk_16 16 (dk_at dksJ14_makeInt_0 15 rfl rfl)
theorem dJ14_makeInt_17 : decode cJ14_makeInt 17 = .ok (.bipush 16, 2) := dk_16 16 (dk_at dksJ14_makeInt_0 17 rfl rfl)
theorem dJ14_makeInt_19 : decode cJ14_makeInt 19 = .ok (.invokestatic 784, 3) := dk_184 3 16 (dk_at dksJ14_makeInt_0 19 rfl rfl)
theorem dJ14_makeInt_22 : decode cJ14_makeInt 22 = .ok (.ishl, 1) := dk_120 (dk_at dksJ14_makeInt_0 22 rfl rfl)
theorem dJ14_makeInt_23 : decode cJ14_makeInt 23 = .ok (.ior, 1) := dk_128 (dk_at dksJ14_makeInt_0 23 rfl rfl)
theorem dJ14_makeInt_24 : decode cJ14_makeInt 24 = .ok (.ireturn, 1) := dk_172 (dk_at dksJ14_makeInt_1 0 rfl rfl)
def dkwJ14_toUnsignedInt_0 : List UInt8 := [26, 19, 1, 118, 126, 172]
abbrev dktJ14_toUnsignedInt_0 : List UInt8 := dkwJ14_toUnsignedInt_0 ++ []
theorem dksJ14_toUnsignedInt_0 : cJ14_toUnsignedInt.data.toList.drop 0 = dktJ14_toUnsignedInt_0 := by decide +kernel
theorem dJ14_toUnsignedInt_0 : decode cJ14_toUnsignedInt 0 = .ok (.iload_n 0, 1) := dk_26 (dk_at dksJ14_toUnsignedInt_0 0 rfl rfl)
theorem dJ14_toUnsignedInt_1 : decode cJ14_toUnsignedInt 1 = .ok (.ldc_w 374, 3) := dk_19 1 118 (dk_at dksJ14_toUnsignedInt_0 1 rfl rfl)
theorem dJ14_toUnsignedInt_4 : decode cJ14_toUnsignedInt 4 = .ok (.iand, 1) := dk_126 (dk_at dksJ14_toUnsignedInt_0 4 rfl rfl)
theorem dJ14_toUnsignedInt_5 : decode cJ14_toUnsignedInt 5 = .ok (.ireturn, 1) := dk_172 (dk_at dksJ14_toUnsignedInt_0 5 rfl rfl)
def dkwJ14_makeInt_2_2 : List UInt8 := [120, 128, 172]
abbrev dktJ14_makeInt_2_2 : List UInt8 := dkwJ14_makeInt_2_2 ++ []
def dkwJ14_makeInt_2_1 : List UInt8 := [28, 184, 3, 28, 16, 24, 16, 16, 184, 3, 16, 120, 128, 29, 184, 3, 28, 16, 24, 16, 24, 184, 3, 16]
abbrev dktJ14_makeInt_2_1 : List UInt8 := dkwJ14_makeInt_2_1 ++ dktJ14_makeInt_2_2
def dkwJ14_makeInt_2_0 : List UInt8 := [26, 184, 3, 28, 16, 24, 3, 184, 3, 16, 120, 27, 184, 3, 28, 16, 24, 16, 8, 184, 3, 16, 120, 128]
abbrev dktJ14_makeInt_2_0 : List UInt8 := dkwJ14_makeInt_2_0 ++ dktJ14_makeInt_2_1
theorem dksJ14_makeInt_2_0 : cJ14_makeInt_2.data.toList.drop 0 = dktJ14_makeInt_2_0 := by decide +kernel
theorem dksJ14_makeInt_2_1 : cJ14_makeInt_2.data.toList.drop 24 = dktJ14_makeInt_2_1 := dk_seg dksJ14_makeInt_2_0 24 rfl rfl
theorem dksJ14_makeInt_2_2 : cJ14_makeInt_2.data.toList.drop 48 = dktJ14_makeInt_2_2 := dk_seg dksJ14_makeInt_2_1 24 rfl rfl
theorem dJ14_makeInt_2_0 : decode cJ14_makeInt_2 0 = .ok (.iload_n 0, 1) := dk_26 (dk_at dksJ14_makeInt_2_0 0 rfl rfl)
theorem dJ14_makeInt_2_1 : decode cJ14_makeInt_2 1 = .ok (.invokestatic 796, 3) := dk_184 3 28 (dk_at dksJ14_makeInt_2_0 1 rfl rfl)
theorem dJ14_makeInt_2_4 : decode cJ14_makeInt_2 4 = .ok (.bipush 24, 2) := dk_16 24 (dk_at dksJ14_makeInt_2_0 4 rfl rfl)
theorem dJ14_makeInt_2_6 : decode cJ14_makeInt_2 6 = .ok (.iconst 0, 1) := dk_3 (dk_at dksJ14_makeInt_2_0 6 rfl rfl)
theorem dJ14_makeInt_2_7 : decode cJ14_makeInt_2 7 = .ok (.invokestatic 784, 3) := dk_184 3 16 (dk_at dksJ14_makeInt_2_0 7 rfl rfl)
theorem dJ14_makeInt_2_10 : decode cJ14_makeInt_2 10 = .ok (.ishl, 1) := dk_120 (dk_at dksJ14_makeInt_2_0 10 rfl rfl)
theorem dJ14_makeInt_2_11 : decode cJ14_makeInt_2 11 = .ok (.iload_n 1, 1) := dk_27 (dk_at dksJ14_makeInt_2_0 11 rfl rfl)
theorem dJ14_makeInt_2_12 : decode cJ14_makeInt_2 12 = .ok (.invokestatic 796, 3) := dk_184 3 28 (dk_at dksJ14_makeInt_2_0 12 rfl rfl)
theorem dJ14_makeInt_2_15 : decode cJ14_makeInt_2 15 = .ok (.bipush 24, 2) := dk_16 24 (dk_at dksJ14_makeInt_2_0 15 rfl rfl)
theorem dJ14_makeInt_2_17 : decode cJ14_makeInt_2 17 = .ok (.bipush 8, 2) := dk_16 8 (dk_at dksJ14_makeInt_2_0 17 rfl rfl)
theorem dJ14_makeInt_2_19 : decode cJ14_makeInt_2 19 = .ok (.invokestatic 784, 3) := dk_184 3 16 (dk_at dksJ14_makeInt_2_0 19 rfl rfl)
theorem dJ14_makeInt_2_22 : decode cJ14_makeInt_2 22 = .ok (.ishl, 1) := dk_120 (dk_at dksJ14_makeInt_2_0 22 rfl rfl)
theorem dJ14_makeInt_2_23 : decode cJ14_makeInt_2 23 = .ok (.ior, 1) := dk_128 (dk_at dksJ14_makeInt_2_0 23 rfl rfl)
theorem dJ14_makeInt_2_24 : decode cJ14_makeInt_2 24 = .ok (.iload_n 2, 1) := dk_28 (dk_at dksJ14_makeInt_2_1 0 rfl rfl)
theorem dJ14_makeInt_2_25 : decode cJ14_makeInt_2 25 = .ok (.invokestatic 796, 3) := dk_184 3 28 (dk_at dksJ14_makeInt_2_1 1 rfl rfl)
theorem dJ14_makeInt_2_28 : decode cJ14_makeInt_2 28 = .ok (.bipush 24, 2) := dk_16 24 (dk_at dksJ14_makeInt_2_1 4 rfl rfl)
theorem dJ14_makeInt_2_30 : decode cJ14_makeInt_2 30 = .ok (.bipush 16, 2) := dk_16 16 (dk_at dksJ14_makeInt_2_1 6 rfl rfl)
theorem dJ14_makeInt_2_32 : decode cJ14_makeInt_2 32 = .ok (.invokestatic 784, 3) := dk_184 3 16 (dk_at dksJ14_makeInt_2_1 8 rfl rfl)
theorem dJ14_makeInt_2_35 : decode cJ14_makeInt_2 35 = .ok (.ishl, 1) := dk_120 (dk_at dksJ14_makeInt_2_1 11 rfl rfl)
theorem dJ14_makeInt_2_36 : decode cJ14_makeInt_2 36 = .ok (.ior, 1) := dk_128 (dk_at dksJ14_makeInt_2_1 12 rfl rfl)
theorem dJ14_makeInt_2_37 : decode cJ14_makeInt_2 37 = .ok (.iload_n 3, 1) := dk_29 (dk_at dksJ14_makeInt_2_1 13 rfl rfl)
theorem dJ14_makeInt_2_38 : decode cJ14_makeInt_2 38 = .ok (.invokestatic 796, 3) := dk_184 3 28 (dk_at dksJ14_makeInt_2_1 14 rfl rfl)
theorem dJ14_makeInt_2_41 : decode cJ14_makeInt_2 41 = .ok (.bipush 24, 2) := dk_16 24 (dk_at dksJ14_makeInt_2_1 17 rfl rfl)
theorem dJ14_makeInt_2_43 : decode cJ14_makeInt_2 43 = .ok (.bipush 24, 2) := dk_16 24 (dk_at dksJ14_makeInt_2_1 19 rfl rfl)
theorem dJ14_makeInt_2_45 : decode cJ14_makeInt_2 45 = .ok (.invokestatic 784, 3) := dk_184 3 16 (dk_at dksJ14_makeInt_2_1 21 rfl rfl)
theorem dJ14_makeInt_2_48 : decode cJ14_makeInt_2 48 = .ok (.ishl, 1) := dk_120 (dk_at dksJ14_makeInt_2_2 0 rfl rfl)
theorem dJ14_makeInt_2_49 : decode cJ14_makeInt_2 49 = .ok (.ior, 1) := dk_128 (dk_at dksJ14_makeInt_2_2 1 rfl rfl)
theorem dJ14_makeInt_2_50 : decode cJ14_makeInt_2 50 = .ok (.ireturn, 1) := dk_172 (dk_at dksJ14_makeInt_2_2 2 rfl rfl)
def dkwJ14_toUnsignedInt_2_0 : List UInt8 := [26, 17, 0, 255, 126, 172]
abbrev dktJ14_toUnsignedInt_2_0 : List UInt8 := dkwJ14_toUnsignedInt_2_0 ++ []
theorem dksJ14_toUnsignedInt_2_0 : cJ14_toUnsignedInt_2.data.toList.drop 0 = dktJ14_toUnsignedInt_2_0 := by decide +kernel
theorem dJ14_toUnsignedInt_2_0 : decode cJ14_toUnsignedInt_2 0 = .ok (.iload_n 0, 1) := dk_26 (dk_at dksJ14_toUnsignedInt_2_0 0 rfl rfl)
theorem dJ14_toUnsignedInt_2_1 : decode cJ14_toUnsignedInt_2 1 = .ok (.sipush 255, 3) := dk_17 0 255 (dk_at dksJ14_toUnsignedInt_2_0 1 rfl rfl)
theorem dJ14_toUnsignedInt_2_4 : decode cJ14_toUnsignedInt_2 4 = .ok (.iand, 1) := dk_126 (dk_at dksJ14_toUnsignedInt_2_0 4 rfl rfl)
theorem dJ14_toUnsignedInt_2_5 : decode cJ14_toUnsignedInt_2 5 = .ok (.ireturn, 1) := dk_172 (dk_at dksJ14_toUnsignedInt_2_0 5 rfl rfl)
def dkwJ15_numberOfLeadingZeros_1 : List UInt8 := [184, 1, 52, 172]
abbrev dktJ15_numberOfLeadingZeros_1 : List UInt8 := dkwJ15_numberOfLeadingZeros_1 ++ []
def dkwJ15_numberOfLeadingZeros_0 : List UInt8 := [30, 16, 32, 125, 136, 61, 28, 154, 0, 14, 16, 32, 30, 136, 184, 1, 52, 96, 167, 0, 7, 28]
abbrev dktJ15_numberOfLeadingZeros_0 : List UInt8 := dkwJ15_numberOfLeadingZeros_0 ++ dktJ15_numberOfLeadingZeros_1
theorem dksJ15_numberOfLeadingZeros_0 : cJ15_numberOfLeadingZeros.data.toList.drop 0 = dktJ15_numberOfLeadingZeros_0 := by decide +kernel
theorem dksJ15_numberOfLeadingZeros_1 : cJ15_numberOfLeadingZeros.data.toList.drop 22 = dktJ15_numberOfLeadingZeros_1 := dk_seg dksJ15_numberOfLeadingZeros_0 22 rfl rfl
theorem dJ15_numberOfLeadingZeros_0 : decode cJ15_numberOfLeadingZeros 0 = .ok (.lload_n 0, 1) := dk_30 (dk_at dksJ15_numberOfLeadingZeros_0 0 rfl rfl)
theorem dJ15_numberOfLeadingZeros_1 : decode cJ15_numberOfLeadingZeros 1 = .ok (.bipush 32, 2) := dk_16 32 (dk_at dksJ15_numberOfLeadingZeros_0 1 rfl rfl)
theorem dJ15_numberOfLeadingZeros_3 : decode cJ15_numberOfLeadingZeros 3 = .ok (.lushr, 1) := dk_125 (dk_at dksJ15_numberOfLeadingZeros_0 3 rfl rfl)
theorem dJ15_numberOfLeadingZeros_4 : decode cJ15_numberOfLeadingZeros 4 = .ok (.l2i, 1) := dk_136 (dk_at dksJ15_numberOfLeadingZeros_0 4 rfl rfl)
theorem dJ15_numberOfLeadingZeros_5 : decode cJ15_numberOfLeadingZeros 5 = .ok (.istore_n 2, 1) := dk_61 (dk_at dksJ15_numberOfLeadingZeros_0 5 rfl rfl)
theorem dJ15_numberOfLeadingZeros_6 : decode cJ15_numberOfLeadingZeros 6 = .ok (.iload_n 2, 1) := dk_28 (dk_at dksJ15_numberOfLeadingZeros_0 6 rfl rfl)
theorem dJ15_numberOfLeadingZeros_7 : decode cJ15_numberOfLeadingZeros 7 = .ok (.ifCond .ne 14, 3) := dk_154 0 14 (dk_at dksJ15_numberOfLeadingZeros_0 7 rfl rfl)
theorem dJ15_numberOfLeadingZeros_10 : decode cJ15_numberOfLeadingZeros 10 = .ok (.bipush 32, 2) := dk_16 32 (dk_at dksJ15_numberOfLeadingZeros_0 10 rfl rfl)
theorem dJ15_numberOfLeadingZeros_12 : decode cJ15_numberOfLeadingZeros 12 = .ok (.lload_n 0, 1) := dk_30 (dk_at dksJ15_numberOfLeadingZeros_0 12 rfl rfl)
theorem dJ15_numberOfLeadingZeros_13 : decode cJ15_numberOfLeadingZeros 13 = .ok (.l2i, 1) := dk_136 (dk_at dksJ15_numberOfLeadingZeros_0 13 rfl rfl)
theorem dJ15_numberOfLeadingZeros_14 : decode cJ15_numberOfLeadingZeros 14 = .ok (.invokestatic 308, 3) := dk_184 1 52 (dk_at dksJ15_numberOfLeadingZeros_0 14 rfl rfl)
theorem dJ15_numberOfLeadingZeros_17 : decode cJ15_numberOfLeadingZeros 17 = .ok (.iadd, 1) := dk_96 (dk_at dksJ15_numberOfLeadingZeros_0 17 rfl rfl)
theorem dJ15_numberOfLeadingZeros_18 : decode cJ15_numberOfLeadingZeros 18 = .ok (.goto 7, 3) := dk_167 0 7 (dk_at dksJ15_numberOfLeadingZeros_0 18 rfl rfl)
theorem dJ15_numberOfLeadingZeros_21 : decode cJ15_numberOfLeadingZeros 21 = .ok (.iload_n 2, 1) := dk_28 (dk_at dksJ15_numberOfLeadingZeros_0 21 rfl rfl)
theorem dJ15_numberOfLeadingZeros_22 : decode cJ15_numberOfLeadingZeros 22 = .ok (.invokestatic 308, 3) := dk_184 1 52 (dk_at dksJ15_numberOfLeadingZeros_1 0 rfl rfl)
theorem dJ15_numberOfLeadingZeros_25 : decode cJ15_numberOfLeadingZeros 25 = .ok (.ireturn, 1) := dk_172 (dk_at dksJ15_numberOfLeadingZeros_1 3 rfl rfl)
def dkwJ15_numberOfTrailingZeros_1 : List UInt8 := [184, 1, 55, 172]
abbrev dktJ15_numberOfTrailingZeros_1 : List UInt8 := dkwJ15_numberOfTrailingZeros_1 ++ []
def dkwJ15_numberOfTrailingZeros_0 : List UInt8 := [30, 136, 61, 28, 154, 0, 17, 16, 32, 30, 16, 32, 125, 136, 184, 1, 55, 96, 167, 0, 7, 28]
abbrev dktJ15_numberOfTrailingZeros_0 : List UInt8 := dkwJ15_numberOfTrailingZeros_0 ++ dktJ15_numberOfTrailingZeros_1
theorem dksJ15_numberOfTrailingZeros_0 : cJ15_numberOfTrailingZeros.data.toList.drop 0 = dktJ15_numberOfTrailingZeros_0 := by decide +kernel
theorem dksJ15_numberOfTrailingZeros_1 : cJ15_numberOfTrailingZeros.data.toList.drop 22 = dktJ15_numberOfTrailingZeros_1 := dk_seg dksJ15_numberOfTrailingZeros_0 22 rfl rfl
theorem dJ15_numberOfTrailingZeros_0 : decode cJ15_numberOfTrailingZeros 0 = .ok (.lload_n 0, 1) := dk_30 (dk_at dksJ15_numberOfTrailingZeros_0 0 rfl rfl)
theorem dJ15_numberOfTrailingZeros_1 : decode cJ15_numberOfTrailingZeros 1 = .ok (.l2i, 1) := dk_136 (dk_at dksJ15_numberOfTrailingZeros_0 1 rfl rfl)
theorem dJ15_numberOfTrailingZeros_2 : decode cJ15_numberOfTrailingZeros 2 = .ok (.istore_n 2, 1) := dk_61 (dk_at dksJ15_numberOfTrailingZeros_0 2 rfl rfl)
theorem dJ15_numberOfTrailingZeros_3 : decode cJ15_numberOfTrailingZeros 3 = .ok (.iload_n 2, 1) := dk_28 (dk_at dksJ15_numberOfTrailingZeros_0 3 rfl rfl)
theorem dJ15_numberOfTrailingZeros_4 : decode cJ15_numberOfTrailingZeros 4 = .ok (.ifCond .ne 17, 3) := dk_154 0 17 (dk_at dksJ15_numberOfTrailingZeros_0 4 rfl rfl)
theorem dJ15_numberOfTrailingZeros_7 : decode cJ15_numberOfTrailingZeros 7 = .ok (.bipush 32, 2) := dk_16 32 (dk_at dksJ15_numberOfTrailingZeros_0 7 rfl rfl)
theorem dJ15_numberOfTrailingZeros_9 : decode cJ15_numberOfTrailingZeros 9 = .ok (.lload_n 0, 1) := dk_30 (dk_at dksJ15_numberOfTrailingZeros_0 9 rfl rfl)
theorem dJ15_numberOfTrailingZeros_10 : decode cJ15_numberOfTrailingZeros 10 = .ok (.bipush 32, 2) := dk_16 32 (dk_at dksJ15_numberOfTrailingZeros_0 10 rfl rfl)
theorem dJ15_numberOfTrailingZeros_12 : decode cJ15_numberOfTrailingZeros 12 = .ok (.lushr, 1) := dk_125 (dk_at dksJ15_numberOfTrailingZeros_0 12 rfl rfl)
theorem dJ15_numberOfTrailingZeros_13 : decode cJ15_numberOfTrailingZeros 13 = .ok (.l2i, 1) := dk_136 (dk_at dksJ15_numberOfTrailingZeros_0 13 rfl rfl)
theorem dJ15_numberOfTrailingZeros_14 : decode cJ15_numberOfTrailingZeros 14 = .ok (.invokestatic 311, 3) := dk_184 1 55 (dk_at dksJ15_numberOfTrailingZeros_0 14 rfl rfl)
theorem dJ15_numberOfTrailingZeros_17 : decode cJ15_numberOfTrailingZeros 17 = .ok (.iadd, 1) := dk_96 (dk_at dksJ15_numberOfTrailingZeros_0 17 rfl rfl)
theorem dJ15_numberOfTrailingZeros_18 : decode cJ15_numberOfTrailingZeros 18 = .ok (.goto 7, 3) := dk_167 0 7 (dk_at dksJ15_numberOfTrailingZeros_0 18 rfl rfl)
theorem dJ15_numberOfTrailingZeros_21 : decode cJ15_numberOfTrailingZeros 21 = .ok (.iload_n 2, 1) := dk_28 (dk_at dksJ15_numberOfTrailingZeros_0 21 rfl rfl)
theorem dJ15_numberOfTrailingZeros_22 : decode cJ15_numberOfTrailingZeros 22 = .ok (.invokestatic 311, 3) := dk_184 1 55 (dk_at dksJ15_numberOfTrailingZeros_1 0 rfl rfl)
theorem dJ15_numberOfTrailingZeros_25 : decode cJ15_numberOfTrailingZeros 25 = .ok (.ireturn, 1) := dk_172 (dk_at dksJ15_numberOfTrailingZeros_1 3 rfl rfl)
theorem dJ16_init_0 : decode cJ16_init 0 = .ok (.aload_n 0, 1) := by decide +kernel
theorem dJ16_init_1 : decode cJ16_init 1 = .ok (.invokespecial 1, 3) := by decide +kernel
theorem dJ16_init_4 : decode cJ16_init 4 = .ok (.return_, 1) := by decide +kernel
theorem dJ17_init_0 : decode cJ17_init 0 = .ok (.aload_n 0, 1) := by decide +kernel
theorem dJ17_init_1 : decode cJ17_init 1 = .ok (.invokespecial 1, 3) := by decide +kernel
theorem dJ17_init_4 : decode cJ17_init 4 = .ok (.return_, 1) := by decide +kernel
def dkwJ18_init_0 : List UInt8 := [42, 187, 0, 13, 89, 183, 0, 15, 183, 0, 16, 177]
abbrev dktJ18_init_0 : List UInt8 := dkwJ18_init_0 ++ []
theorem dksJ18_init_0 : cJ18_init.data.toList.drop 0 = dktJ18_init_0 := by decide +kernel
theorem dJ18_init_0 : decode cJ18_init 0 = .ok (.aload_n 0, 1) := dk_42 (dk_at dksJ18_init_0 0 rfl rfl)
theorem dJ18_init_1 : decode cJ18_init 1 = .ok (.new 13, 3) := dk_187 0 13 (dk_at dksJ18_init_0 1 rfl rfl)
theorem dJ18_init_4 : decode cJ18_init 4 = .ok (.dup, 1) := dk_89 (dk_at dksJ18_init_0 4 rfl rfl)
theorem dJ18_init_5 : decode cJ18_init 5 = .ok (.invokespecial 15, 3) := dk_183 0 15 (dk_at dksJ18_init_0 5 rfl rfl)
theorem dJ18_init_8 : decode cJ18_init 8 = .ok (.invokespecial 16, 3) := dk_183 0 16 (dk_at dksJ18_init_0 8 rfl rfl)
theorem dJ18_init_11 : decode cJ18_init 11 = .ok (.return_, 1) := dk_177 (dk_at dksJ18_init_0 11 rfl rfl)
def dkwJ18_init_2_0 : List UInt8 := [42, 183, 0, 1, 42, 43, 181, 0, 7, 177]
abbrev dktJ18_init_2_0 : List UInt8 := dkwJ18_init_2_0 ++ []
theorem dksJ18_init_2_0 : cJ18_init_2.data.toList.drop 0 = dktJ18_init_2_0 := by decide +kernel
theorem dJ18_init_2_0 : decode cJ18_init_2 0 = .ok (.aload_n 0, 1) := dk_42 (dk_at dksJ18_init_2_0 0 rfl rfl)
theorem dJ18_init_2_1 : decode cJ18_init_2 1 = .ok (.invokespecial 1, 3) := dk_183 0 1 (dk_at dksJ18_init_2_0 1 rfl rfl)
theorem dJ18_init_2_4 : decode cJ18_init_2 4 = .ok (.aload_n 0, 1) := dk_42 (dk_at dksJ18_init_2_0 4 rfl rfl)
theorem dJ18_init_2_5 : decode cJ18_init_2 5 = .ok (.aload_n 1, 1) := dk_43 (dk_at dksJ18_init_2_0 5 rfl rfl)
theorem dJ18_init_2_6 : decode cJ18_init_2 6 = .ok (.putfield 7, 3) := dk_181 0 7 (dk_at dksJ18_init_2_0 6 rfl rfl)
theorem dJ18_init_2_9 : decode cJ18_init_2 9 = .ok (.return_, 1) := dk_177 (dk_at dksJ18_init_2_0 9 rfl rfl)
def dkwJ18_add_0 : List UInt8 := [42, 180, 0, 7, 43, 178, 0, 65, 185, 0, 69, 3, 0, 199, 0, 7, 4, 167, 0, 4, 3, 172]
abbrev dktJ18_add_0 : List UInt8 := dkwJ18_add_0 ++ []
theorem dksJ18_add_0 : cJ18_add.data.toList.drop 0 = dktJ18_add_0 := by decide +kernel
theorem dJ18_add_0 : decode cJ18_add 0 = .ok (.aload_n 0, 1) := dk_42 (dk_at dksJ18_add_0 0 rfl rfl)
theorem dJ18_add_1 : decode cJ18_add 1 = .ok (.getfield 7, 3) := dk_180 0 7 (dk_at dksJ18_add_0 1 rfl rfl)
theorem dJ18_add_4 : decode cJ18_add 4 = .ok (.aload_n 1, 1) := dk_43 (dk_at dksJ18_add_0 4 rfl rfl)
theorem dJ18_add_5 : decode cJ18_add 5 = .ok (.getstatic 65, 3) := dk_178 0 65 (dk_at dksJ18_add_0 5 rfl rfl)
theorem dJ18_add_8 : decode cJ18_add 8 = .ok (.invokeinterface 69 3, 5) := by decide +kernel
theorem dJ18_add_13 : decode cJ18_add 13 = .ok (.ifnonnull 7, 3) := dk_199 0 7 (dk_at dksJ18_add_0 13 rfl rfl)
theorem dJ18_add_16 : decode cJ18_add 16 = .ok (.iconst 1, 1) := dk_4 (dk_at dksJ18_add_0 16 rfl rfl)
theorem dJ18_add_17 : decode cJ18_add 17 = .ok (.goto 4, 3) := dk_167 0 4 (dk_at dksJ18_add_0 17 rfl rfl)
