set_option maxRecDepth 100000
theorem dJ18_add_20 : decode cJ18_add 20 = .ok (.iconst 0, 1) := dk_3 (dk_at dksJ18_add_0 20 rfl rfl)
theorem dJ18_add_21 : decode cJ18_add 21 = .ok (.ireturn, 1) := dk_172 (dk_at dksJ18_add_0 21 rfl rfl)
def dkwJ18_size_0 : List UInt8 := [42, 180, 0, 7, 185, 0, 53, 1, 0, 172]
abbrev dktJ18_size_0 : List UInt8 := dkwJ18_size_0 ++ []
theorem dksJ18_size_0 : cJ18_size.data.toList.drop 0 = dktJ18_size_0 := by decide +kernel
theorem dJ18_size_0 : decode cJ18_size 0 = .ok (.aload_n 0, 1) := dk_42 (dk_at dksJ18_size_0 0 rfl rfl)
theorem dJ18_size_1 : decode cJ18_size 1 = .ok (.getfield 7, 3) := dk_180 0 7 (dk_at dksJ18_size_0 1 rfl rfl)
theorem dJ18_size_4 : decode cJ18_size 4 = .ok (.invokeinterface 53 1, 5) := by decide +kernel
theorem dJ18_size_9 : decode cJ18_size 9 = .ok (.ireturn, 1) := dk_172 (dk_at dksJ18_size_0 9 rfl rfl)
def dkwJ18_iterator_0 : List UInt8 := [42, 180, 0, 7, 185, 0, 34, 1, 0, 185, 0, 40, 1, 0, 176]
abbrev dktJ18_iterator_0 : List UInt8 := dkwJ18_iterator_0 ++ []
theorem dksJ18_iterator_0 : cJ18_iterator.data.toList.drop 0 = dktJ18_iterator_0 := by decide +kernel
theorem dJ18_iterator_0 : decode cJ18_iterator 0 = .ok (.aload_n 0, 1) := dk_42 (dk_at dksJ18_iterator_0 0 rfl rfl)
theorem dJ18_iterator_1 : decode cJ18_iterator 1 = .ok (.getfield 7, 3) := dk_180 0 7 (dk_at dksJ18_iterator_0 1 rfl rfl)
theorem dJ18_iterator_4 : decode cJ18_iterator 4 = .ok (.invokeinterface 34 1, 5) := by decide +kernel
theorem dJ18_iterator_9 : decode cJ18_iterator 9 = .ok (.invokeinterface 40 1, 5) := by decide +kernel
theorem dJ18_iterator_14 : decode cJ18_iterator 14 = .ok (.areturn, 1) := dk_176 (dk_at dksJ18_iterator_0 14 rfl rfl)
def dkwJ19_init_1 : List UInt8 := [177]
abbrev dktJ19_init_1 : List UInt8 := dkwJ19_init_1 ++ []
def dkwJ19_init_0 : List UInt8 := [42, 183, 0, 3, 42, 4, 181, 0, 9, 42, 43, 181, 0, 15, 42, 44, 181, 0, 19, 42, 45, 181, 0, 22]
abbrev dktJ19_init_0 : List UInt8 := dkwJ19_init_0 ++ dktJ19_init_1
theorem dksJ19_init_0 : cJ19_init.data.toList.drop 0 = dktJ19_init_0 := by decide +kernel
theorem dksJ19_init_1 : cJ19_init.data.toList.drop 24 = dktJ19_init_1 := dk_seg dksJ19_init_0 24 rfl rfl
theorem dJ19_init_0 : decode cJ19_init 0 = .ok (.aload_n 0, 1) := dk_42 (dk_at dksJ19_init_0 0 rfl rfl)
theorem dJ19_init_1 : decode cJ19_init 1 = .ok (.invokespecial 3, 3) := dk_183 0 3 (dk_at dksJ19_init_0 1 rfl rfl)
theorem dJ19_init_4 : decode cJ19_init 4 = .ok (.aload_n 0, 1) := dk_42 (dk_at dksJ19_init_0 4 rfl rfl)
theorem dJ19_init_5 : decode cJ19_init 5 = .ok (.iconst 1, 1) := dk_4 (dk_at dksJ19_init_0 5 rfl rfl)
theorem dJ19_init_6 : decode cJ19_init 6 = .ok (.putfield 9, 3) := dk_181 0 9 (dk_at dksJ19_init_0 6 rfl rfl)
theorem dJ19_init_9 : decode cJ19_init 9 = .ok (.aload_n 0, 1) := dk_42 (dk_at dksJ19_init_0 9 rfl rfl)
theorem dJ19_init_10 : decode cJ19_init 10 = .ok (.aload_n 1, 1) := dk_43 (dk_at dksJ19_init_0 10 rfl rfl)
theorem dJ19_init_11 : decode cJ19_init 11 = .ok (.putfield 15, 3) := dk_181 0 15 (dk_at dksJ19_init_0 11 rfl rfl)
theorem dJ19_init_14 : decode cJ19_init 14 = .ok (.aload_n 0, 1) := dk_42 (dk_at dksJ19_init_0 14 rfl rfl)
theorem dJ19_init_15 : decode cJ19_init 15 = .ok (.aload_n 2, 1) := dk_44 (dk_at dksJ19_init_0 15 rfl rfl)
theorem dJ19_init_16 : decode cJ19_init 16 = .ok (.putfield 19, 3) := dk_181 0 19 (dk_at dksJ19_init_0 16 rfl rfl)
theorem dJ19_init_19 : decode cJ19_init 19 = .ok (.aload_n 0, 1) := dk_42 (dk_at dksJ19_init_0 19 rfl rfl)
theorem dJ19_init_20 : decode cJ19_init 20 = .ok (.aload_n 3, 1) := dk_45 (dk_at dksJ19_init_0 20 rfl rfl)
theorem dJ19_init_21 : decode cJ19_init 21 = .ok (.putfield 22, 3) := dk_181 0 22 (dk_at dksJ19_init_0 21 rfl rfl)
theorem dJ19_init_24 : decode cJ19_init 24 = .ok (.return_, 1) := dk_177 (dk_at dksJ19_init_1 0 rfl rfl)
def dkwJ2_max_0 : List UInt8 := [26, 27, 161, 0, 7, 26, 167, 0, 4, 27, 172]
abbrev dktJ2_max_0 : List UInt8 := dkwJ2_max_0 ++ []
theorem dksJ2_max_0 : cJ2_max.data.toList.drop 0 = dktJ2_max_0 := by decide +kernel
theorem dJ2_max_0 : decode cJ2_max 0 = .ok (.iload_n 0, 1) := dk_26 (dk_at dksJ2_max_0 0 rfl rfl)
theorem dJ2_max_1 : decode cJ2_max 1 = .ok (.iload_n 1, 1) := dk_27 (dk_at dksJ2_max_0 1 rfl rfl)
theorem dJ2_max_2 : decode cJ2_max 2 = .ok (.if_icmp .lt 7, 3) := dk_161 0 7 (dk_at dksJ2_max_0 2 rfl rfl)
theorem dJ2_max_5 : decode cJ2_max 5 = .ok (.iload_n 0, 1) := dk_26 (dk_at dksJ2_max_0 5 rfl rfl)
theorem dJ2_max_6 : decode cJ2_max 6 = .ok (.goto 4, 3) := dk_167 0 4 (dk_at dksJ2_max_0 6 rfl rfl)
theorem dJ2_max_9 : decode cJ2_max 9 = .ok (.iload_n 1, 1) := dk_27 (dk_at dksJ2_max_0 9 rfl rfl)
theorem dJ2_max_10 : decode cJ2_max 10 = .ok (.ireturn, 1) := dk_172 (dk_at dksJ2_max_0 10 rfl rfl)
def dkwJ2_min_0 : List UInt8 := [26, 27, 163, 0, 7, 26, 167, 0, 4, 27, 172]
abbrev dktJ2_min_0 : List UInt8 := dkwJ2_min_0 ++ []
theorem dksJ2_min_0 : cJ2_min.data.toList.drop 0 = dktJ2_min_0 := by decide +kernel
theorem dJ2_min_0 : decode cJ2_min 0 = .ok (.iload_n 0, 1) := dk_26 (dk_at dksJ2_min_0 0 rfl rfl)
theorem dJ2_min_1 : decode cJ2_min 1 = .ok (.iload_n 1, 1) := dk_27 (dk_at dksJ2_min_0 1 rfl rfl)
theorem dJ2_min_2 : decode cJ2_min 2 = .ok (.if_icmp .gt 7, 3) := dk_163 0 7 (dk_at dksJ2_min_0 2 rfl rfl)
theorem dJ2_min_5 : decode cJ2_min 5 = .ok (.iload_n 0, 1) := dk_26 (dk_at dksJ2_min_0 5 rfl rfl)
theorem dJ2_min_6 : decode cJ2_min 6 = .ok (.goto 4, 3) := dk_167 0 4 (dk_at dksJ2_min_0 6 rfl rfl)
theorem dJ2_min_9 : decode cJ2_min 9 = .ok (.iload_n 1, 1) := dk_27 (dk_at dksJ2_min_0 9 rfl rfl)
theorem dJ2_min_10 : decode cJ2_min 10 = .ok (.ireturn, 1) := dk_172 (dk_at dksJ2_min_0 10 rfl rfl)
def dkwJ20_init_0 : List UInt8 := [42, 43, 181, 0, 1, 42, 183, 0, 7, 177]
abbrev dktJ20_init_0 : List UInt8 := dkwJ20_init_0 ++ []
theorem dksJ20_init_0 : cJ20_init.data.toList.drop 0 = dktJ20_init_0 := by decide +kernel
theorem dJ20_init_0 : decode cJ20_init 0 = .ok (.aload_n 0, 1) := dk_42 (dk_at dksJ20_init_0 0 rfl rfl)
theorem dJ20_init_1 : decode cJ20_init 1 = .ok (.aload_n 1, 1) := dk_43 (dk_at dksJ20_init_0 1 rfl rfl)
theorem dJ20_init_2 : decode cJ20_init 2 = .ok (.putfield 1, 3) := dk_181 0 1 (dk_at dksJ20_init_0 2 rfl rfl)
theorem dJ20_init_5 : decode cJ20_init 5 = .ok (.aload_n 0, 1) := dk_42 (dk_at dksJ20_init_0 5 rfl rfl)
theorem dJ20_init_6 : decode cJ20_init 6 = .ok (.invokespecial 7, 3) := dk_183 0 7 (dk_at dksJ20_init_0 6 rfl rfl)
theorem dJ20_init_9 : decode cJ20_init 9 = .ok (.return_, 1) := dk_177 (dk_at dksJ20_init_0 9 rfl rfl)
def dkwJ20_iterator_0 : List UInt8 := [187, 0, 13, 89, 42, 180, 0, 1, 42, 180, 0, 1, 182, 0, 15, 183, 0, 21, 176]
abbrev dktJ20_iterator_0 : List UInt8 := dkwJ20_iterator_0 ++ []
theorem dksJ20_iterator_0 : cJ20_iterator.data.toList.drop 0 = dktJ20_iterator_0 := by decide +kernel
theorem dJ20_iterator_0 : decode cJ20_iterator 0 = .ok (.new 13, 3) := dk_187 0 13 (dk_at dksJ20_iterator_0 0 rfl rfl)
theorem dJ20_iterator_3 : decode cJ20_iterator 3 = .ok (.dup, 1) := dk_89 (dk_at dksJ20_iterator_0 3 rfl rfl)
theorem dJ20_iterator_4 : decode cJ20_iterator 4 = .ok (.aload_n 0, 1) := dk_42 (dk_at dksJ20_iterator_0 4 rfl rfl)
theorem dJ20_iterator_5 : decode cJ20_iterator 5 = .ok (.getfield 1, 3) := dk_180 0 1 (dk_at dksJ20_iterator_0 5 rfl rfl)
theorem dJ20_iterator_8 : decode cJ20_iterator 8 = .ok (.aload_n 0, 1) := dk_42 (dk_at dksJ20_iterator_0 8 rfl rfl)
theorem dJ20_iterator_9 : decode cJ20_iterator 9 = .ok (.getfield 1, 3) := dk_180 0 1 (dk_at dksJ20_iterator_0 9 rfl rfl)
theorem dJ20_iterator_12 : decode cJ20_iterator 12 = .ok (.invokevirtual 15, 3) := dk_182 0 15 (dk_at dksJ20_iterator_0 12 rfl rfl)
theorem dJ20_iterator_15 : decode cJ20_iterator 15 = .ok (.invokespecial 21, 3) := dk_183 0 21 (dk_at dksJ20_iterator_0 15 rfl rfl)
theorem dJ20_iterator_18 : decode cJ20_iterator 18 = .ok (.areturn, 1) := dk_176 (dk_at dksJ20_iterator_0 18 rfl rfl)
def dkwJ21_init_1 : List UInt8 := [181, 0, 22, 177]
abbrev dktJ21_init_1 : List UInt8 := dkwJ21_init_1 ++ []
def dkwJ21_init_0 : List UInt8 := [42, 43, 181, 0, 1, 42, 183, 0, 7, 42, 2, 181, 0, 13, 42, 42, 180, 0, 1, 180, 0, 17]
abbrev dktJ21_init_0 : List UInt8 := dkwJ21_init_0 ++ dktJ21_init_1
theorem dksJ21_init_0 : cJ21_init.data.toList.drop 0 = dktJ21_init_0 := by decide +kernel
theorem dksJ21_init_1 : cJ21_init.data.toList.drop 22 = dktJ21_init_1 := dk_seg dksJ21_init_0 22 rfl rfl
theorem dJ21_init_0 : decode cJ21_init 0 = .ok (.aload_n 0, 1) := dk_42 (dk_at dksJ21_init_0 0 rfl rfl)
theorem dJ21_init_1 : decode cJ21_init 1 = .ok (.aload_n 1, 1) := dk_43 (dk_at dksJ21_init_0 1 rfl rfl)
theorem dJ21_init_2 : decode cJ21_init 2 = .ok (.putfield 1, 3) := dk_181 0 1 (dk_at dksJ21_init_0 2 rfl rfl)
theorem dJ21_init_5 : decode cJ21_init 5 = .ok (.aload_n 0, 1) := dk_42 (dk_at dksJ21_init_0 5 rfl rfl)
theorem dJ21_init_6 : decode cJ21_init 6 = .ok (.invokespecial 7, 3) := dk_183 0 7 (dk_at dksJ21_init_0 6 rfl rfl)
theorem dJ21_init_9 : decode cJ21_init 9 = .ok (.aload_n 0, 1) := dk_42 (dk_at dksJ21_init_0 9 rfl rfl)
theorem dJ21_init_10 : decode cJ21_init 10 = .ok (.iconst (-1), 1) := dk_2 (dk_at dksJ21_init_0 10 rfl rfl)
theorem dJ21_init_11 : decode cJ21_init 11 = .ok (.putfield 13, 3) := dk_181 0 13 (dk_at dksJ21_init_0 11 rfl rfl)
theorem dJ21_init_14 : decode cJ21_init 14 = .ok (.aload_n 0, 1) := dk_42 (dk_at dksJ21_init_0 14 rfl rfl)
theorem dJ21_init_15 : decode cJ21_init 15 = .ok (.aload_n 0, 1) := dk_42 (dk_at dksJ21_init_0 15 rfl rfl)
theorem dJ21_init_16 : decode cJ21_init 16 = .ok (.getfield 1, 3) := dk_180 0 1 (dk_at dksJ21_init_0 16 rfl rfl)
theorem dJ21_init_19 : decode cJ21_init 19 = .ok (.getfield 17, 3) := dk_180 0 17 (dk_at dksJ21_init_0 19 rfl rfl)
theorem dJ21_init_22 : decode cJ21_init 22 = .ok (.putfield 22, 3) := dk_181 0 22 (dk_at dksJ21_init_1 0 rfl rfl)
theorem dJ21_init_25 : decode cJ21_init 25 = .ok (.return_, 1) := dk_177 (dk_at dksJ21_init_1 3 rfl rfl)
def dkwJ21_hasNext_1 : List UInt8 := [180, 0, 31, 182, 0, 35, 154, 0, 7, 4, 167, 0, 4, 3, 172]
abbrev dktJ21_hasNext_1 : List UInt8 := dkwJ21_hasNext_1 ++ []
def dkwJ21_hasNext_0 : List UInt8 := [42, 180, 0, 25, 42, 180, 0, 1, 180, 0, 28, 161, 0, 20, 42, 180, 0, 31, 198, 0, 17, 42]
abbrev dktJ21_hasNext_0 : List UInt8 := dkwJ21_hasNext_0 ++ dktJ21_hasNext_1
theorem dksJ21_hasNext_0 : cJ21_hasNext.data.toList.drop 0 = dktJ21_hasNext_0 := by decide +kernel
theorem dksJ21_hasNext_1 : cJ21_hasNext.data.toList.drop 22 = dktJ21_hasNext_1 := dk_seg dksJ21_hasNext_0 22 rfl rfl
theorem dJ21_hasNext_0 : decode cJ21_hasNext 0 = .ok (.aload_n 0, 1) := dk_42 (dk_at dksJ21_hasNext_0 0 rfl rfl)
theorem dJ21_hasNext_1 : decode cJ21_hasNext 1 = .ok (.getfield 25, 3) := dk_180 0 25 (dk_at dksJ21_hasNext_0 1 rfl rfl)
theorem dJ21_hasNext_4 : decode cJ21_hasNext 4 = .ok (.aload_n 0, 1) := dk_42 (dk_at dksJ21_hasNext_0 4 rfl rfl)
theorem dJ21_hasNext_5 : decode cJ21_hasNext 5 = .ok (.getfield 1, 3) := dk_180 0 1 (dk_at dksJ21_hasNext_0 5 rfl rfl)
theorem dJ21_hasNext_8 : decode cJ21_hasNext 8 = .ok (.getfield 28, 3) := dk_180 0 28 (dk_at dksJ21_hasNext_0 8 rfl rfl)
theorem dJ21_hasNext_11 : decode cJ21_hasNext 11 = .ok (.if_icmp .lt 20, 3) := dk_161 0 20 (dk_at dksJ21_hasNext_0 11 rfl rfl)
theorem dJ21_hasNext_14 : decode cJ21_hasNext 14 = .ok (.aload_n 0, 1) := dk_42 (dk_at dksJ21_hasNext_0 14 rfl rfl)
theorem dJ21_hasNext_15 : decode cJ21_hasNext 15 = .ok (.getfield 31, 3) := dk_180 0 31 (dk_at dksJ21_hasNext_0 15 rfl rfl)
theorem dJ21_hasNext_18 : decode cJ21_hasNext 18 = .ok (.ifnull 17, 3) := dk_198 0 17 (dk_at dksJ21_hasNext_0 18 rfl rfl)
theorem dJ21_hasNext_21 : decode cJ21_hasNext 21 = .ok (.aload_n 0, 1) := dk_42 (dk_at dksJ21_hasNext_0 21 rfl rfl)
theorem dJ21_hasNext_22 : decode cJ21_hasNext 22 = .ok (.getfield 31, 3) := dk_180 0 31 (dk_at dksJ21_hasNext_1 0 rfl rfl)
theorem dJ21_hasNext_25 : decode cJ21_hasNext 25 = .ok (.invokevirtual 35, 3) := dk_182 0 35 (dk_at dksJ21_hasNext_1 3 rfl rfl)
theorem dJ21_hasNext_28 : decode cJ21_hasNext 28 = .ok (.ifCond .ne 7, 3) := dk_154 0 7 (dk_at dksJ21_hasNext_1 6 rfl rfl)
theorem dJ21_hasNext_31 : decode cJ21_hasNext 31 = .ok (.iconst 1, 1) := dk_4 (dk_at dksJ21_hasNext_1 9 rfl rfl)
theorem dJ21_hasNext_32 : decode cJ21_hasNext 32 = .ok (.goto 4, 3) := dk_167 0 4 (dk_at dksJ21_hasNext_1 10 rfl rfl)
theorem dJ21_hasNext_35 : decode cJ21_hasNext 35 = .ok (.iconst 0, 1) := dk_3 (dk_at dksJ21_hasNext_1 13 rfl rfl)
theorem dJ21_hasNext_36 : decode cJ21_hasNext 36 = .ok (.ireturn, 1) := dk_172 (dk_at dksJ21_hasNext_1 14 rfl rfl)
def dkwJ21_next_4 : List UInt8 := [180, 0, 52, 176, 187, 0, 56, 89, 183, 0, 58, 191]
abbrev dktJ21_next_4 : List UInt8 := dkwJ21_next_4 ++ []
def dkwJ21_next_3 : List UInt8 := [181, 0, 13, 42, 42, 180, 0, 31, 182, 0, 48, 181, 0, 52, 42, 180, 0, 52, 198, 0, 8, 42]
abbrev dktJ21_next_3 : List UInt8 := dkwJ21_next_3 ++ dktJ21_next_4
def dkwJ21_next_2 : List UInt8 := [180, 0, 25, 90, 4, 96, 181, 0, 25, 90, 181, 0, 13, 50, 176, 42, 180, 0, 31, 198, 0, 31, 42, 2]
abbrev dktJ21_next_2 : List UInt8 := dkwJ21_next_2 ++ dktJ21_next_3
def dkwJ21_next_1 : List UInt8 := [180, 0, 25, 42, 180, 0, 1, 180, 0, 28, 162, 0, 28, 42, 180, 0, 1, 180, 0, 44, 42, 42, 89]
abbrev dktJ21_next_1 : List UInt8 := dkwJ21_next_1 ++ dktJ21_next_2
def dkwJ21_next_0 : List UInt8 := [42, 180, 0, 22, 42, 180, 0, 1, 180, 0, 17, 159, 0, 11, 187, 0, 41, 89, 183, 0, 43, 191, 42]
abbrev dktJ21_next_0 : List UInt8 := dkwJ21_next_0 ++ dktJ21_next_1
theorem dksJ21_next_0 : cJ21_next.data.toList.drop 0 = dktJ21_next_0 := by decide +kernel
theorem dksJ21_next_1 : cJ21_next.data.toList.drop 23 = dktJ21_next_1 := dk_seg dksJ21_next_0 23 rfl rfl
theorem dksJ21_next_2 : cJ21_next.data.toList.drop 46 = dktJ21_next_2 := dk_seg dksJ21_next_1 23 rfl rfl
theorem dksJ21_next_3 : cJ21_next.data.toList.drop 70 = dktJ21_next_3 := dk_seg dksJ21_next_2 24 rfl rfl
theorem dksJ21_next_4 : cJ21_next.data.toList.drop 92 = dktJ21_next_4 := dk_seg dksJ21_next_3 22 rfl rfl
theorem dJ21_next_0 : decode cJ21_next 0 = .ok (.aload_n 0, 1) := dk_42 (dk_at dksJ21_next_0 0 rfl rfl)
theorem dJ21_next_1 : decode cJ21_next 1 = .ok (.getfield 22, 3) := dk_180 0 22 (dk_at dksJ21_next_0 1 rfl rfl)
theorem dJ21_next_4 : decode cJ21_next 4 = .ok (.aload_n 0, 1) := dk_42 (dk_at dksJ21_next_0 4 rfl rfl)
theorem dJ21_next_5 : decode cJ21_next 5 = .ok (.getfield 1, 3) := dk_180 0 1 (dk_at dksJ21_next_0 5 rfl rfl)
theorem dJ21_next_8 : decode cJ21_next 8 = .ok (.getfield 17, 3) := dk_180 0 17 (dk_at dksJ21_next_0 8 rfl rfl)
theorem dJ21_next_11 : decode cJ21_next 11 = .ok (.if_icmp .eq 11, 3) := dk_159 0 11 (dk_at dksJ21_next_0 11 rfl rfl)
theorem dJ21_next_14 : decode cJ21_next 14 = .ok (.new 41, 3) := dk_187 0 41 (dk_at dksJ21_next_0 14 rfl rfl)
theorem dJ21_next_17 : decode cJ21_next 17 = .ok (.dup, 1) := dk_89 (dk_at dksJ21_next_0 17 rfl rfl)
theorem dJ21_next_18 : decode cJ21_next 18 = .ok (.invokespecial 43, 3) := dk_183 0 43 (dk_at dksJ21_next_0 18 rfl rfl)
theorem dJ21_next_21 : decode cJ21_next 21 = .ok (.athrow, 1) := dk_191 (dk_at dksJ21_next_0 21 rfl rfl)
theorem dJ21_next_22 : decode cJ21_next 22 = .ok (.aload_n 0, 1) := dk_42 (dk_at dksJ21_next_0 22 rfl rfl)
theorem dJ21_next_23 : decode cJ21_next 23 = .ok (.getfield 25, 3) := dk_180 0 25 (dk_at dksJ21_next_1 0 rfl rfl)
theorem dJ21_next_26 : decode cJ21_next 26 = .ok (.aload_n 0, 1) := dk_42 (dk_at dksJ21_next_1 3 rfl rfl)
theorem dJ21_next_27 : decode cJ21_next 27 = .ok (.getfield 1, 3) := dk_180 0 1 (dk_at dksJ21_next_1 4 rfl rfl)
theorem dJ21_next_30 : decode cJ21_next 30 = .ok (.getfield 28, 3) := dk_180 0 28 (dk_at dksJ21_next_1 7 rfl rfl)
theorem dJ21_next_33 : decode cJ21_next 33 = .ok (.if_icmp .ge 28, 3) := dk_162 0 28 (dk_at dksJ21_next_1 10 rfl rfl)
theorem dJ21_next_36 : decode cJ21_next 36 = .ok (.aload_n 0, 1) := dk_42 (dk_at dksJ21_next_1 13 rfl rfl)
theorem dJ21_next_37 : decode cJ21_next 37 = .ok (.getfield 1, 3) := dk_180 0 1 (dk_at dksJ21_next_1 14 rfl rfl)
theorem dJ21_next_40 : decode cJ21_next 40 = .ok (.getfield 44, 3) := dk_180 0 44 (dk_at dksJ21_next_1 17 rfl rfl)
theorem dJ21_next_43 : decode cJ21_next 43 = .ok (.aload_n 0, 1) := dk_42 (dk_at dksJ21_next_1 20 rfl rfl)
theorem dJ21_next_44 : decode cJ21_next 44 = .ok (.aload_n 0, 1) := dk_42 (dk_at dksJ21_next_1 21 rfl rfl)
theorem dJ21_next_45 : decode cJ21_next 45 = .ok (.dup, 1) := dk_89 (dk_at dksJ21_next_1 22 rfl rfl)
theorem dJ21_next_46 : decode cJ21_next 46 = .ok (.getfield 25, 3) := dk_180 0 25 (dk_at dksJ21_next_2 0 rfl rfl)
theorem dJ21_next_49 : decode cJ21_next 49 = .ok (.dup_x1, 1) := dk_90 (dk_at dksJ21_next_2 3 rfl rfl)
theorem dJ21_next_50 : decode cJ21_next 50 = .ok (.iconst 1, 1) := dk_4 (dk_at dksJ21_next_2 4 rfl rfl)
theorem dJ21_next_51 : decode cJ21_next 51 = .ok (.iadd, 1) := dk_96 (dk_at dksJ21_next_2 5 rfl rfl)
theorem dJ21_next_52 : decode cJ21_next 52 = .ok (.putfield 25, 3) := dk_181 0 25 (dk_at dksJ21_next_2 6 rfl rfl)
theorem dJ21_next_55 : decode cJ21_next 55 = .ok (.dup_x1, 1) := dk_90 (dk_at dksJ21_next_2 9 rfl rfl)
theorem dJ21_next_56 : decode cJ21_next 56 = .ok (.putfield 13, 3) := dk_181 0 13 (dk_at dksJ21_next_2 10 rfl rfl)
theorem dJ21_next_59 : decode cJ21_next 59 = .ok (.aaload, 1) := dk_50 (dk_at dksJ21_next_2 13 rfl rfl)
theorem dJ21_next_60 : decode cJ21_next 60 = .ok (.areturn, 1) := dk_176 (dk_at dksJ21_next_2 14 rfl rfl)
theorem dJ21_next_61 : decode cJ21_next 61 = .ok (.aload_n 0, 1) := dk_42 (dk_at dksJ21_next_2 15 rfl rfl)
theorem dJ21_next_62 : decode cJ21_next 62 = .ok (.getfield 31, 3) := dk_180 0 31 (dk_at dksJ21_next_2 16 rfl rfl)
theorem dJ21_next_65 : decode cJ21_next 65 = .ok (.ifnull 31, 3) := dk_198 0 31 (dk_at dksJ21_next_2 19 rfl rfl)
theorem dJ21_next_68 : decode cJ21_next 68 = .ok (.aload_n 0, 1) := dk_42 (dk_at dksJ21_next_2 22 rfl rfl)
theorem dJ21_next_69 : decode cJ21_next 69 = .ok (.iconst (-1), 1) := dk_2 (dk_at dksJ21_next_2 23 rfl rfl)
theorem dJ21_next_70 : decode cJ21_next 70 = .ok (.putfield 13, 3) := dk_181 0 13 (dk_at dksJ21_next_3 0 rfl rfl)
theorem dJ21_next_73 : decode cJ21_next 73 = .ok (.aload_n 0, 1) := dk_42 (dk_at dksJ21_next_3 3 rfl rfl)
theorem dJ21_next_74 : decode cJ21_next 74 = .ok (.aload_n 0, 1) := dk_42 (dk_at dksJ21_next_3 4 rfl rfl)
theorem dJ21_next_75 : decode cJ21_next 75 = .ok (.getfield 31, 3) := dk_180 0 31 (dk_at dksJ21_next_3 5 rfl rfl)
theorem dJ21_next_78 : decode cJ21_next 78 = .ok (.invokevirtual 48, 3) := dk_182 0 48 (dk_at dksJ21_next_3 8 rfl rfl)
theorem dJ21_next_81 : decode cJ21_next 81 = .ok (.putfield 52, 3) := dk_181 0 52 (dk_at dksJ21_next_3 11 rfl rfl)
theorem dJ21_next_84 : decode cJ21_next 84 = .ok (.aload_n 0, 1) := dk_42 (dk_at dksJ21_next_3 14 rfl rfl)
theorem dJ21_next_85 : decode cJ21_next 85 = .ok (.getfield 52, 3) := dk_180 0 52 (dk_at dksJ21_next_3 15 rfl rfl)
theorem dJ21_next_88 : decode cJ21_next 88 = .ok (.ifnull 8, 3) := dk_198 0 8 (dk_at dksJ21_next_3 18 rfl rfl)
theorem dJ21_next_91 : decode cJ21_next 91 = .ok (.aload_n 0, 1) := dk_42 (dk_at dksJ21_next_3 21 rfl rfl)
theorem dJ21_next_92 : decode cJ21_next 92 = .ok (.getfield 52, 3) := dk_180 0 52 (dk_at dksJ21_next_4 0 rfl rfl)
theorem dJ21_next_95 : decode cJ21_next 95 = .ok (.areturn, 1) := dk_176 (dk_at dksJ21_next_4 3 rfl rfl)
theorem dJ21_next_96 : decode cJ21_next 96 = .ok (.new 56, 3) := dk_187 0 56 (dk_at dksJ21_next_4 4 rfl rfl)
theorem dJ21_next_99 : decode cJ21_next 99 = .ok (.dup, 1) := dk_89 (dk_at dksJ21_next_4 7 rfl rfl)
theorem dJ21_next_100 : decode cJ21_next 100 = .ok (.invokespecial 58, 3) := dk_183 0 58 (dk_at dksJ21_next_4 8 rfl rfl)
theorem dJ21_next_103 : decode cJ21_next 103 = .ok (.athrow, 1) := dk_191 (dk_at dksJ21_next_4 11 rfl rfl)
def dkwJ22_init_1 : List UInt8 := [181, 0, 26, 177]
abbrev dktJ22_init_1 : List UInt8 := dkwJ22_init_1 ++ []
def dkwJ22_init_0 : List UInt8 := [42, 43, 181, 0, 1, 42, 183, 0, 7, 42, 43, 180, 0, 13, 181, 0, 19, 42, 1, 181, 0, 22, 42, 44]
abbrev dktJ22_init_0 : List UInt8 := dkwJ22_init_0 ++ dktJ22_init_1
theorem dksJ22_init_0 : cJ22_init.data.toList.drop 0 = dktJ22_init_0 := by decide +kernel
theorem dksJ22_init_1 : cJ22_init.data.toList.drop 24 = dktJ22_init_1 := dk_seg dksJ22_init_0 24 rfl rfl
theorem dJ22_init_0 : decode cJ22_init 0 = .ok (.aload_n 0, 1) := dk_42 (dk_at dksJ22_init_0 0 rfl rfl)
theorem dJ22_init_1 : decode cJ22_init 1 = .ok (.aload_n 1, 1) := dk_43 (dk_at dksJ22_init_0 1 rfl rfl)
theorem dJ22_init_2 : decode cJ22_init 2 = .ok (.putfield 1, 3) := dk_181 0 1 (dk_at dksJ22_init_0 2 rfl rfl)
theorem dJ22_init_5 : decode cJ22_init 5 = .ok (.aload_n 0, 1) := dk_42 (dk_at dksJ22_init_0 5 rfl rfl)
theorem dJ22_init_6 : decode cJ22_init 6 = .ok (.invokespecial 7, 3) := dk_183 0 7 (dk_at dksJ22_init_0 6 rfl rfl)
theorem dJ22_init_9 : decode cJ22_init 9 = .ok (.aload_n 0, 1) := dk_42 (dk_at dksJ22_init_0 9 rfl rfl)
theorem dJ22_init_10 : decode cJ22_init 10 = .ok (.aload_n 1, 1) := dk_43 (dk_at dksJ22_init_0 10 rfl rfl)
theorem dJ22_init_11 : decode cJ22_init 11 = .ok (.getfield 13, 3) := dk_180 0 13 (dk_at dksJ22_init_0 11 rfl rfl)
theorem dJ22_init_14 : decode cJ22_init 14 = .ok (.putfield 19, 3) := dk_181 0 19 (dk_at dksJ22_init_0 14 rfl rfl)
theorem dJ22_init_17 : decode cJ22_init 17 = .ok (.aload_n 0, 1) := dk_42 (dk_at dksJ22_init_0 17 rfl rfl)
theorem dJ22_init_18 : decode cJ22_init 18 = .ok (.aconst_null, 1) := dk_1 (dk_at dksJ22_init_0 18 rfl rfl)
theorem dJ22_init_19 : decode cJ22_init 19 = .ok (.putfield 22, 3) := dk_181 0 22 (dk_at dksJ22_init_0 19 rfl rfl)
theorem dJ22_init_22 : decode cJ22_init 22 = .ok (.aload_n 0, 1) := dk_42 (dk_at dksJ22_init_0 22 rfl rfl)
theorem dJ22_init_23 : decode cJ22_init 23 = .ok (.aload_n 2, 1) := dk_44 (dk_at dksJ22_init_0 23 rfl rfl)
theorem dJ22_init_24 : decode cJ22_init 24 = .ok (.putfield 26, 3) := dk_181 0 26 (dk_at dksJ22_init_1 0 rfl rfl)
theorem dJ22_init_27 : decode cJ22_init 27 = .ok (.return_, 1) := dk_177 (dk_at dksJ22_init_1 3 rfl rfl)
def dkwJ22_hasNext_0 : List UInt8 := [42, 180, 0, 26, 198, 0, 7, 4, 167, 0, 4, 3, 172]
abbrev dktJ22_hasNext_0 : List UInt8 := dkwJ22_hasNext_0 ++ []
theorem dksJ22_hasNext_0 : cJ22_hasNext.data.toList.drop 0 = dktJ22_hasNext_0 := by decide +kernel
theorem dJ22_hasNext_0 : decode cJ22_hasNext 0 = .ok (.aload_n 0, 1) := dk_42 (dk_at dksJ22_hasNext_0 0 rfl rfl)
theorem dJ22_hasNext_1 : decode cJ22_hasNext 1 = .ok (.getfield 26, 3) := dk_180 0 26 (dk_at dksJ22_hasNext_0 1 rfl rfl)
theorem dJ22_hasNext_4 : decode cJ22_hasNext 4 = .ok (.ifnull 7, 3) := dk_198 0 7 (dk_at dksJ22_hasNext_0 4 rfl rfl)
theorem dJ22_hasNext_7 : decode cJ22_hasNext 7 = .ok (.iconst 1, 1) := dk_4 (dk_at dksJ22_hasNext_0 7 rfl rfl)
theorem dJ22_hasNext_8 : decode cJ22_hasNext 8 = .ok (.goto 4, 3) := dk_167 0 4 (dk_at dksJ22_hasNext_0 8 rfl rfl)
theorem dJ22_hasNext_11 : decode cJ22_hasNext 11 = .ok (.iconst 0, 1) := dk_3 (dk_at dksJ22_hasNext_0 11 rfl rfl)
theorem dJ22_hasNext_12 : decode cJ22_hasNext 12 = .ok (.ireturn, 1) := dk_172 (dk_at dksJ22_hasNext_0 12 rfl rfl)
def dkwJ22_nextEntry_2 : List UInt8 := [43, 181, 0, 22, 43, 176]
abbrev dktJ22_nextEntry_2 : List UInt8 := dkwJ22_nextEntry_2 ++ []
def dkwJ22_nextEntry_1 : List UInt8 := [42, 180, 0, 19, 159, 0, 11, 187, 0, 32, 89, 183, 0, 34, 191, 42, 43, 184, 0, 35, 181, 0, 26, 42]
abbrev dktJ22_nextEntry_1 : List UInt8 := dkwJ22_nextEntry_1 ++ dktJ22_nextEntry_2
def dkwJ22_nextEntry_0 : List UInt8 := [42, 180, 0, 26, 76, 43, 199, 0, 11, 187, 0, 29, 89, 183, 0, 31, 191, 42, 180, 0, 1, 180, 0, 13]
abbrev dktJ22_nextEntry_0 : List UInt8 := dkwJ22_nextEntry_0 ++ dktJ22_nextEntry_1
theorem dksJ22_nextEntry_0 : cJ22_nextEntry.data.toList.drop 0 = dktJ22_nextEntry_0 := by decide +kernel
theorem dksJ22_nextEntry_1 : cJ22_nextEntry.data.toList.drop 24 = dktJ22_nextEntry_1 := dk_seg dksJ22_nextEntry_0 24 rfl rfl
theorem dksJ22_nextEntry_2 : cJ22_nextEntry.data.toList.drop 48 = dktJ22_nextEntry_2 := dk_seg dksJ22_nextEntry_1 24 rfl rfl
theorem dJ22_nextEntry_0 : decode cJ22_nextEntry 0 = .ok (.aload_n 0, 1) := dk_42 (dk_at dksJ22_nextEntry_0 0 rfl rfl)
theorem dJ22_nextEntry_1 : decode cJ22_nextEntry 1 = .ok (.getfield 26, 3) := dk_180 0 26 (dk_at dksJ22_nextEntry_0 1 rfl rfl)
theorem dJ22_nextEntry_4 : decode cJ22_nextEntry 4 = .ok (.astore_n 1, 1) := dk_76 (dk_at dksJ22_nextEntry_0 4 rfl rfl)
theorem dJ22_nextEntry_5 : decode cJ22_nextEntry 5 = .ok (.aload_n 1, 1) := dk_43 (dk_at dksJ22_nextEntry_0 5 rfl rfl)
theorem dJ22_nextEntry_6 : decode cJ22_nextEntry 6 = .ok (.ifnonnull 11, 3) := dk_199 0 11 (dk_at dksJ22_nextEntry_0 6 rfl rfl)
theorem dJ22_nextEntry_9 : decode cJ22_nextEntry 9 = .ok (.new 29, 3) := dk_187 0 29 (dk_at dksJ22_nextEntry_0 9 rfl rfl)
theorem dJ22_nextEntry_12 : decode cJ22_nextEntry 12 = .ok (.dup, 1) := dk_89 (dk_at dksJ22_nextEntry_0 12 rfl rfl)
theorem dJ22_nextEntry_13 : decode cJ22_nextEntry 13 = .ok (.invokespecial 31, 3) := dk_183 0 31 (dk_at dksJ22_nextEntry_0 13 rfl rfl)
theorem dJ22_nextEntry_16 : decode cJ22_nextEntry 16 = .ok (.athrow, 1) := dk_191 (dk_at dksJ22_nextEntry_0 16 rfl rfl)
theorem dJ22_nextEntry_17 : decode cJ22_nextEntry 17 = .ok (.aload_n 0, 1) := dk_42 (dk_at dksJ22_nextEntry_0 17 rfl rfl)
theorem dJ22_nextEntry_18 : decode cJ22_nextEntry 18 = .ok (.getfield 1, 3) := dk_180 0 1 (dk_at dksJ22_nextEntry_0 18 rfl rfl)
theorem dJ22_nextEntry_21 : decode cJ22_nextEntry 21 = .ok (.getfield 13, 3) := dk_180 0 13 (dk_at dksJ22_nextEntry_0 21 rfl rfl)
theorem dJ22_nextEntry_24 : decode cJ22_nextEntry 24 = .ok (.aload_n 0, 1) := dk_42 (dk_at dksJ22_nextEntry_1 0 rfl rfl)
theorem dJ22_nextEntry_25 : decode cJ22_nextEntry 25 = .ok (.getfield 19, 3) := dk_180 0 19 (dk_at dksJ22_nextEntry_1 1 rfl rfl)
theorem dJ22_nextEntry_28 : decode cJ22_nextEntry 28 = .ok (.if_icmp .eq 11, 3) := dk_159 0 11 (dk_at dksJ22_nextEntry_1 4 rfl rfl)
theorem dJ22_nextEntry_31 : decode cJ22_nextEntry 31 = .ok (.new 32, 3) := dk_187 0 32 (dk_at dksJ22_nextEntry_1 7 rfl rfl)
theorem dJ22_nextEntry_34 : decode cJ22_nextEntry 34 = .ok (.dup, 1) := dk_89 (dk_at dksJ22_nextEntry_1 10 rfl rfl)
theorem dJ22_nextEntry_35 : decode cJ22_nextEntry 35 = .ok (.invokespecial 34, 3) := dk_183 0 34 (dk_at dksJ22_nextEntry_1 11 rfl rfl)
theorem dJ22_nextEntry_38 : decode cJ22_nextEntry 38 = .ok (.athrow, 1) := dk_191 (dk_at dksJ22_nextEntry_1 14 rfl rfl)
theorem dJ22_nextEntry_39 : decode cJ22_nextEntry 39 = .ok (.aload_n 0, 1) := dk_42 (dk_at dksJ22_nextEntry_1 15 rfl rfl)
theorem dJ22_nextEntry_40 : decode cJ22_nextEntry 40 = .ok (.aload_n 1, 1) := dk_43 (dk_at dksJ22_nextEntry_1 16 rfl rfl)
theorem dJ22_nextEntry_41 : decode cJ22_nextEntry 41 = .ok (.invokestatic 35, 3) := dk_184 0 35 (dk_at dksJ22_nextEntry_1 17 rfl rfl)
theorem dJ22_nextEntry_44 : decode cJ22_nextEntry 44 = .ok (.putfield 26, 3) := dk_181 0 26 (dk_at dksJ22_nextEntry_1 20 rfl rfl)
theorem dJ22_nextEntry_47 : decode cJ22_nextEntry 47 = .ok (.aload_n 0, 1) := dk_42 (dk_at dksJ22_nextEntry_1 23 rfl rfl)
theorem dJ22_nextEntry_48 : decode cJ22_nextEntry 48 = .ok (.aload_n 1, 1) := dk_43 (dk_at dksJ22_nextEntry_2 0 rfl rfl)
theorem dJ22_nextEntry_49 : decode cJ22_nextEntry 49 = .ok (.putfield 22, 3) := dk_181 0 22 (dk_at dksJ22_nextEntry_2 1 rfl rfl)
theorem dJ22_nextEntry_52 : decode cJ22_nextEntry 52 = .ok (.aload_n 1, 1) := dk_43 (dk_at dksJ22_nextEntry_2 4 rfl rfl)
theorem dJ22_nextEntry_53 : decode cJ22_nextEntry 53 = .ok (.areturn, 1) := dk_176 (dk_at dksJ22_nextEntry_2 5 rfl rfl)
def dkwJ23_init_0 : List UInt8 := [42, 43, 44, 183, 0, 1, 177]
abbrev dktJ23_init_0 : List UInt8 := dkwJ23_init_0 ++ []
theorem dksJ23_init_0 : cJ23_init.data.toList.drop 0 = dktJ23_init_0 := by decide +kernel
theorem dJ23_init_0 : decode cJ23_init 0 = .ok (.aload_n 0, 1) := dk_42 (dk_at dksJ23_init_0 0 rfl rfl)
theorem dJ23_init_1 : decode cJ23_init 1 = .ok (.aload_n 1, 1) := dk_43 (dk_at dksJ23_init_0 1 rfl rfl)
theorem dJ23_init_2 : decode cJ23_init 2 = .ok (.aload_n 2, 1) := dk_44 (dk_at dksJ23_init_0 2 rfl rfl)
theorem dJ23_init_3 : decode cJ23_init 3 = .ok (.invokespecial 1, 3) := dk_183 0 1 (dk_at dksJ23_init_0 3 rfl rfl)
theorem dJ23_init_6 : decode cJ23_init 6 = .ok (.return_, 1) := dk_177 (dk_at dksJ23_init_0 6 rfl rfl)
def dkwJ23_next_0 : List UInt8 := [42, 182, 0, 7, 180, 0, 13, 176]
abbrev dktJ23_next_0 : List UInt8 := dkwJ23_next_0 ++ []
theorem dksJ23_next_0 : cJ23_next.data.toList.drop 0 = dktJ23_next_0 := by decide +kernel
theorem dJ23_next_0 : decode cJ23_next 0 = .ok (.aload_n 0, 1) := dk_42 (dk_at dksJ23_next_0 0 rfl rfl)
theorem dJ23_next_1 : decode cJ23_next 1 = .ok (.invokevirtual 7, 3) := dk_182 0 7 (dk_at dksJ23_next_0 1 rfl rfl)
theorem dJ23_next_4 : decode cJ23_next 4 = .ok (.getfield 13, 3) := dk_180 0 13 (dk_at dksJ23_next_0 4 rfl rfl)
theorem dJ23_next_7 : decode cJ23_next 7 = .ok (.areturn, 1) := dk_176 (dk_at dksJ23_next_0 7 rfl rfl)
def dkwJ24_init_0 : List UInt8 := [42, 43, 44, 183, 0, 1, 177]
abbrev dktJ24_init_0 : List UInt8 := dkwJ24_init_0 ++ []
theorem dksJ24_init_0 : cJ24_init.data.toList.drop 0 = dktJ24_init_0 := by decide +kernel
theorem dJ24_init_0 : decode cJ24_init 0 = .ok (.aload_n 0, 1) := dk_42 (dk_at dksJ24_init_0 0 rfl rfl)
theorem dJ24_init_1 : decode cJ24_init 1 = .ok (.aload_n 1, 1) := dk_43 (dk_at dksJ24_init_0 1 rfl rfl)
theorem dJ24_init_2 : decode cJ24_init 2 = .ok (.aload_n 2, 1) := dk_44 (dk_at dksJ24_init_0 2 rfl rfl)
theorem dJ24_init_3 : decode cJ24_init 3 = .ok (.invokespecial 1, 3) := dk_183 0 1 (dk_at dksJ24_init_0 3 rfl rfl)
theorem dJ24_init_6 : decode cJ24_init 6 = .ok (.return_, 1) := dk_177 (dk_at dksJ24_init_0 6 rfl rfl)
def dkwJ24_next_0 : List UInt8 := [42, 182, 0, 7, 180, 0, 13, 176]
abbrev dktJ24_next_0 : List UInt8 := dkwJ24_next_0 ++ []
theorem dksJ24_next_0 : cJ24_next.data.toList.drop 0 = dktJ24_next_0 := by decide +kernel
theorem dJ24_next_0 : decode cJ24_next 0 = .ok (.aload_n 0, 1) := dk_42 (dk_at dksJ24_next_0 0 rfl rfl)
theorem dJ24_next_1 : decode cJ24_next 1 = .ok (.invokevirtual 7, 3) := dk_182 0 7 (dk_at dksJ24_next_0 1 rfl rfl)
theorem dJ24_next_4 : decode cJ24_next 4 = .ok (.getfield 13, 3) := dk_180 0 13 (dk_at dksJ24_next_0 4 rfl rfl)
theorem dJ24_next_7 : decode cJ24_next 7 = .ok (.areturn, 1) := dk_176 (dk_at dksJ24_next_0 7 rfl rfl)
def dkwJ25_iterator_1 : List UInt8 := [180, 0, 7, 192, 0, 19, 182, 0, 21, 176]
abbrev dktJ25_iterator_1 : List UInt8 := dkwJ25_iterator_1 ++ []
def dkwJ25_iterator_0 : List UInt8 := [42, 180, 0, 7, 193, 0, 13, 153, 0, 14, 42, 180, 0, 7, 192, 0, 13, 182, 0, 15, 176, 42]
abbrev dktJ25_iterator_0 : List UInt8 := dkwJ25_iterator_0 ++ dktJ25_iterator_1
theorem dksJ25_iterator_0 : cJ25_iterator.data.toList.drop 0 = dktJ25_iterator_0 := by decide +kernel
theorem dksJ25_iterator_1 : cJ25_iterator.data.toList.drop 22 = dktJ25_iterator_1 := dk_seg dksJ25_iterator_0 22 rfl rfl
theorem dJ25_iterator_0 : decode cJ25_iterator 0 = .ok (.aload_n 0, 1) := dk_42 (dk_at dksJ25_iterator_0 0 rfl rfl)
theorem dJ25_iterator_1 : decode cJ25_iterator 1 = .ok (.getfield 7, 3) := dk_180 0 7 (dk_at dksJ25_iterator_0 1 rfl rfl)
theorem dJ25_iterator_4 : decode cJ25_iterator 4 = .ok (.instanceof 13, 3) := dk_193 0 13 (dk_at dksJ25_iterator_0 4 rfl rfl)
theorem dJ25_iterator_7 : decode cJ25_iterator 7 = .ok (.ifCond .eq 14, 3) := dk_153 0 14 (dk_at dksJ25_iterator_0 7 rfl rfl)
theorem dJ25_iterator_10 : decode cJ25_iterator 10 = .ok (.aload_n 0, 1) := dk_42 (dk_at dksJ25_iterator_0 10 rfl rfl)
theorem dJ25_iterator_11 : decode cJ25_iterator 11 = .ok (.getfield 7, 3) := dk_180 0 7 (dk_at dksJ25_iterator_0 11 rfl rfl)
theorem dJ25_iterator_14 : decode cJ25_iterator 14 = .ok (.checkcast 13, 3) := dk_192 0 13 (dk_at dksJ25_iterator_0 14 rfl rfl)
theorem dJ25_iterator_17 : decode cJ25_iterator 17 = .ok (.invokevirtual 15, 3) := dk_182 0 15 (dk_at dksJ25_iterator_0 17 rfl rfl)
theorem dJ25_iterator_20 : decode cJ25_iterator 20 = .ok (.areturn, 1) := dk_176 (dk_at dksJ25_iterator_0 20 rfl rfl)
theorem dJ25_iterator_21 : decode cJ25_iterator 21 = .ok (.aload_n 0, 1) := dk_42 (dk_at dksJ25_iterator_0 21 rfl rfl)
theorem dJ25_iterator_22 : decode cJ25_iterator 22 = .ok (.getfield 7, 3) := dk_180 0 7 (dk_at dksJ25_iterator_1 0 rfl rfl)
theorem dJ25_iterator_25 : decode cJ25_iterator 25 = .ok (.checkcast 19, 3) := dk_192 0 19 (dk_at dksJ25_iterator_1 3 rfl rfl)
theorem dJ25_iterator_28 : decode cJ25_iterator 28 = .ok (.invokevirtual 21, 3) := dk_182 0 21 (dk_at dksJ25_iterator_1 6 rfl rfl)
theorem dJ25_iterator_31 : decode cJ25_iterator 31 = .ok (.areturn, 1) := dk_176 (dk_at dksJ25_iterator_1 9 rfl rfl)
def dkwJ25_init_0 : List UInt8 := [42, 183, 0, 1, 42, 43, 181, 0, 7, 177]
abbrev dktJ25_init_0 : List UInt8 := dkwJ25_init_0 ++ []
theorem dksJ25_init_0 : cJ25_init.data.toList.drop 0 = dktJ25_init_0 := by decide +kernel
theorem dJ25_init_0 : decode cJ25_init 0 = .ok (.aload_n 0, 1) := dk_42 (dk_at dksJ25_init_0 0 rfl rfl)
theorem dJ25_init_1 : decode cJ25_init 1 = .ok (.invokespecial 1, 3) := dk_183 0 1 (dk_at dksJ25_init_0 1 rfl rfl)
theorem dJ25_init_4 : decode cJ25_init 4 = .ok (.aload_n 0, 1) := dk_42 (dk_at dksJ25_init_0 4 rfl rfl)
theorem dJ25_init_5 : decode cJ25_init 5 = .ok (.aload_n 1, 1) := dk_43 (dk_at dksJ25_init_0 5 rfl rfl)
theorem dJ25_init_6 : decode cJ25_init 6 = .ok (.putfield 7, 3) := dk_181 0 7 (dk_at dksJ25_init_0 6 rfl rfl)
theorem dJ25_init_9 : decode cJ25_init 9 = .ok (.return_, 1) := dk_177 (dk_at dksJ25_init_0 9 rfl rfl)
def dkwJ26_isEmpty_0 : List UInt8 := [42, 180, 0, 24, 42, 180, 0, 20, 160, 0, 7, 4, 167, 0, 4, 3, 172]
abbrev dktJ26_isEmpty_0 : List UInt8 := dkwJ26_isEmpty_0 ++ []
theorem dksJ26_isEmpty_0 : cJ26_isEmpty.data.toList.drop 0 = dktJ26_isEmpty_0 := by decide +kernel
theorem dJ26_isEmpty_0 : decode cJ26_isEmpty 0 = .ok (.aload_n 0, 1) := dk_42 (dk_at dksJ26_isEmpty_0 0 rfl rfl)
theorem dJ26_isEmpty_1 : decode cJ26_isEmpty 1 = .ok (.getfield 24, 3) := dk_180 0 24 (dk_at dksJ26_isEmpty_0 1 rfl rfl)
theorem dJ26_isEmpty_4 : decode cJ26_isEmpty 4 = .ok (.aload_n 0, 1) := dk_42 (dk_at dksJ26_isEmpty_0 4 rfl rfl)
theorem dJ26_isEmpty_5 : decode cJ26_isEmpty 5 = .ok (.getfield 20, 3) := dk_180 0 20 (dk_at dksJ26_isEmpty_0 5 rfl rfl)
theorem dJ26_isEmpty_8 : decode cJ26_isEmpty 8 = .ok (.if_icmp .ne 7, 3) := dk_160 0 7 (dk_at dksJ26_isEmpty_0 8 rfl rfl)
theorem dJ26_isEmpty_11 : decode cJ26_isEmpty 11 = .ok (.iconst 1, 1) := dk_4 (dk_at dksJ26_isEmpty_0 11 rfl rfl)
theorem dJ26_isEmpty_12 : decode cJ26_isEmpty 12 = .ok (.goto 4, 3) := dk_167 0 4 (dk_at dksJ26_isEmpty_0 12 rfl rfl)
theorem dJ26_isEmpty_15 : decode cJ26_isEmpty 15 = .ok (.iconst 0, 1) := dk_3 (dk_at dksJ26_isEmpty_0 15 rfl rfl)
theorem dJ26_isEmpty_16 : decode cJ26_isEmpty 16 = .ok (.ireturn, 1) := dk_172 (dk_at dksJ26_isEmpty_0 16 rfl rfl)
theorem dJ26_poll_0 : decode cJ26_poll 0 = .ok (.aload_n 0, 1) := by decide +kernel
theorem dJ26_poll_1 : decode cJ26_poll 1 = .ok (.invokevirtual 93, 3) := by decide +kernel
theorem dJ26_poll_4 : decode cJ26_poll 4 = .ok (.areturn, 1) := by decide +kernel
def dkwJ26_pollFirst_1 : List UInt8 := [42, 28, 43, 190, 184, 0, 74, 181, 0, 24, 45, 176]
abbrev dktJ26_pollFirst_1 : List UInt8 := dkwJ26_pollFirst_1 ++ []
def dkwJ26_pollFirst_0 : List UInt8 := [42, 180, 0, 3, 89, 76, 42, 180, 0, 24, 89, 61, 184, 0, 103, 78, 45, 198, 0, 17, 43, 28, 1, 83]
abbrev dktJ26_pollFirst_0 : List UInt8 := dkwJ26_pollFirst_0 ++ dktJ26_pollFirst_1
theorem dksJ26_pollFirst_0 : cJ26_pollFirst.data.toList.drop 0 = dktJ26_pollFirst_0 := by decide +kernel
theorem dksJ26_pollFirst_1 : cJ26_pollFirst.data.toList.drop 24 = dktJ26_pollFirst_1 := dk_seg dksJ26_pollFirst_0 24 rfl rfl
theorem dJ26_pollFirst_0 : decode cJ26_pollFirst 0 = .ok (.aload_n 0, 1) := dk_42 (dk_at dksJ26_pollFirst_0 0 rfl rfl)
theorem dJ26_pollFirst_1 : decode cJ26_pollFirst 1 = .ok (.getfield 3, 3) := dk_180 0 3 (dk_at dksJ26_pollFirst_0 1 rfl rfl)
theorem dJ26_pollFirst_4 : decode cJ26_pollFirst 4 = .ok (.dup, 1) := dk_89 (dk_at dksJ26_pollFirst_0 4 rfl rfl)
theorem dJ26_pollFirst_5 : decode cJ26_pollFirst 5 = .ok (.astore_n 1, 1) := dk_76 (dk_at dksJ26_pollFirst_0 5 rfl rfl)
theorem dJ26_pollFirst_6 : decode cJ26_pollFirst 6 = .ok (.aload_n 0, 1) := dk_42 (dk_at dksJ26_pollFirst_0 6 rfl rfl)
theorem dJ26_pollFirst_7 : decode cJ26_pollFirst 7 = .ok (.getfield 24, 3) := dk_180 0 24 (dk_at dksJ26_pollFirst_0 7 rfl rfl)
theorem dJ26_pollFirst_10 : decode cJ26_pollFirst 10 = .ok (.dup, 1) := dk_89 (dk_at dksJ26_pollFirst_0 10 rfl rfl)
theorem dJ26_pollFirst_11 : decode cJ26_pollFirst 11 = .ok (.istore_n 2, 1) := dk_61 (dk_at dksJ26_pollFirst_0 11 rfl rfl)
theorem dJ26_pollFirst_12 : decode cJ26_pollFirst 12 = .ok (.invokestatic 103, 3) := dk_184 0 103 (dk_at dksJ26_pollFirst_0 12 rfl rfl)
theorem dJ26_pollFirst_15 : decode cJ26_pollFirst 15 = .ok (.astore_n 3, 1) := dk_78 (dk_at dksJ26_pollFirst_0 15 rfl rfl)
theorem dJ26_pollFirst_16 : decode cJ26_pollFirst 16 = .ok (.aload_n 3, 1) := dk_45 (dk_at dksJ26_pollFirst_0 16 rfl rfl)
theorem dJ26_pollFirst_17 : decode cJ26_pollFirst 17 = .ok (.ifnull 17, 3) := dk_198 0 17 (dk_at dksJ26_pollFirst_0 17 rfl rfl)
theorem dJ26_pollFirst_20 : decode cJ26_pollFirst 20 = .ok (.aload_n 1, 1) := dk_43 (dk_at dksJ26_pollFirst_0 20 rfl rfl)
theorem dJ26_pollFirst_21 : decode cJ26_pollFirst 21 = .ok (.iload_n 2, 1) := dk_28 (dk_at dksJ26_pollFirst_0 21 rfl rfl)
theorem dJ26_pollFirst_22 : decode cJ26_pollFirst 22 = .ok (.aconst_null, 1) := dk_1 (dk_at dksJ26_pollFirst_0 22 rfl rfl)
theorem dJ26_pollFirst_23 : decode cJ26_pollFirst 23 = .ok (.aastore, 1) := dk_83 (dk_at dksJ26_pollFirst_0 23 rfl rfl)
theorem dJ26_pollFirst_24 : decode cJ26_pollFirst 24 = .ok (.aload_n 0, 1) := dk_42 (dk_at dksJ26_pollFirst_1 0 rfl rfl)
theorem dJ26_pollFirst_25 : decode cJ26_pollFirst 25 = .ok (.iload_n 2, 1) := dk_28 (dk_at dksJ26_pollFirst_1 1 rfl rfl)
theorem dJ26_pollFirst_26 : decode cJ26_pollFirst 26 = .ok (.aload_n 1, 1) := dk_43 (dk_at dksJ26_pollFirst_1 2 rfl rfl)
theorem dJ26_pollFirst_27 : decode cJ26_pollFirst 27 = .ok (.arraylength, 1) := dk_190 (dk_at dksJ26_pollFirst_1 3 rfl rfl)
theorem dJ26_pollFirst_28 : decode cJ26_pollFirst 28 = .ok (.invokestatic 74, 3) := dk_184 0 74 (dk_at dksJ26_pollFirst_1 4 rfl rfl)
theorem dJ26_pollFirst_31 : decode cJ26_pollFirst 31 = .ok (.putfield 24, 3) := dk_181 0 24 (dk_at dksJ26_pollFirst_1 7 rfl rfl)
theorem dJ26_pollFirst_34 : decode cJ26_pollFirst 34 = .ok (.aload_n 3, 1) := dk_45 (dk_at dksJ26_pollFirst_1 10 rfl rfl)
theorem dJ26_pollFirst_35 : decode cJ26_pollFirst 35 = .ok (.areturn, 1) := dk_176 (dk_at dksJ26_pollFirst_1 11 rfl rfl)
def dkwJ26_elementAt_0 : List UInt8 := [42, 27, 50, 176]
abbrev dktJ26_elementAt_0 : List UInt8 := dkwJ26_elementAt_0 ++ []
theorem dksJ26_elementAt_0 : cJ26_elementAt.data.toList.drop 0 = dktJ26_elementAt_0 := by decide +kernel
theorem dJ26_elementAt_0 : decode cJ26_elementAt 0 = .ok (.aload_n 0, 1) := dk_42 (dk_at dksJ26_elementAt_0 0 rfl rfl)
theorem dJ26_elementAt_1 : decode cJ26_elementAt 1 = .ok (.iload_n 1, 1) := dk_27 (dk_at dksJ26_elementAt_0 1 rfl rfl)
theorem dJ26_elementAt_2 : decode cJ26_elementAt 2 = .ok (.aaload, 1) := dk_50 (dk_at dksJ26_elementAt_0 2 rfl rfl)
theorem dJ26_elementAt_3 : decode cJ26_elementAt 3 = .ok (.areturn, 1) := dk_176 (dk_at dksJ26_elementAt_0 3 rfl rfl)
def dkwJ26_inc_0 : List UInt8 := [132, 0, 1, 26, 27, 161, 0, 5, 3, 59, 26, 172]
abbrev dktJ26_inc_0 : List UInt8 := dkwJ26_inc_0 ++ []
theorem dksJ26_inc_0 : cJ26_inc.data.toList.drop 0 = dktJ26_inc_0 := by decide +kernel
theorem dJ26_inc_0 : decode cJ26_inc 0 = .ok (.iinc 0 1, 3) := dk_132 0 1 (dk_at dksJ26_inc_0 0 rfl rfl)
theorem dJ26_inc_3 : decode cJ26_inc 3 = .ok (.iload_n 0, 1) := dk_26 (dk_at dksJ26_inc_0 3 rfl rfl)
theorem dJ26_inc_4 : decode cJ26_inc 4 = .ok (.iload_n 1, 1) := dk_27 (dk_at dksJ26_inc_0 4 rfl rfl)
theorem dJ26_inc_5 : decode cJ26_inc 5 = .ok (.if_icmp .lt 5, 3) := dk_161 0 5 (dk_at dksJ26_inc_0 5 rfl rfl)
theorem dJ26_inc_8 : decode cJ26_inc 8 = .ok (.iconst 0, 1) := dk_3 (dk_at dksJ26_inc_0 8 rfl rfl)
theorem dJ26_inc_9 : decode cJ26_inc 9 = .ok (.istore_n 0, 1) := dk_59 (dk_at dksJ26_inc_0 9 rfl rfl)
theorem dJ26_inc_10 : decode cJ26_inc 10 = .ok (.iload_n 0, 1) := dk_26 (dk_at dksJ26_inc_0 10 rfl rfl)
theorem dJ26_inc_11 : decode cJ26_inc 11 = .ok (.ireturn, 1) := dk_172 (dk_at dksJ26_inc_0 11 rfl rfl)
def dkwJ27_init_1 : List UInt8 := [182, 0, 27, 87, 177]
abbrev dktJ27_init_1 : List UInt8 := dkwJ27_init_1 ++ []
def dkwJ27_init_0 : List UInt8 := [42, 183, 0, 1, 42, 42, 181, 0, 7, 42, 178, 0, 13, 181, 0, 17, 42, 178, 0, 20, 181, 0, 24, 42]
abbrev dktJ27_init_0 : List UInt8 := dkwJ27_init_0 ++ dktJ27_init_1
theorem dksJ27_init_0 : cJ27_init.data.toList.drop 0 = dktJ27_init_0 := by decide +kernel
theorem dksJ27_init_1 : cJ27_init.data.toList.drop 24 = dktJ27_init_1 := dk_seg dksJ27_init_0 24 rfl rfl
theorem dJ27_init_0 : decode cJ27_init 0 = .ok (.aload_n 0, 1) := dk_42 (dk_at dksJ27_init_0 0 rfl rfl)
theorem dJ27_init_1 : decode cJ27_init 1 = .ok (.invokespecial 1, 3) := dk_183 0 1 (dk_at dksJ27_init_0 1 rfl rfl)
theorem dJ27_init_4 : decode cJ27_init 4 = .ok (.aload_n 0, 1) := dk_42 (dk_at dksJ27_init_0 4 rfl rfl)
theorem dJ27_init_5 : decode cJ27_init 5 = .ok (.aload_n 0, 1) := dk_42 (dk_at dksJ27_init_0 5 rfl rfl)
theorem dJ27_init_6 : decode cJ27_init 6 = .ok (.putfield 7, 3) := dk_181 0 7 (dk_at dksJ27_init_0 6 rfl rfl)
theorem dJ27_init_9 : decode cJ27_init 9 = .ok (.aload_n 0, 1) := dk_42 (dk_at dksJ27_init_0 9 rfl rfl)
theorem dJ27_init_10 : decode cJ27_init 10 = .ok (.getstatic 13, 3) := dk_178 0 13 (dk_at dksJ27_init_0 10 rfl rfl)
theorem dJ27_init_13 : decode cJ27_init 13 = .ok (.putfield 17, 3) := dk_181 0 17 (dk_at dksJ27_init_0 13 rfl rfl)
theorem dJ27_init_16 : decode cJ27_init 16 = .ok (.aload_n 0, 1) := dk_42 (dk_at dksJ27_init_0 16 rfl rfl)
theorem dJ27_init_17 : decode cJ27_init 17 = .ok (.getstatic 20, 3) := dk_178 0 20 (dk_at dksJ27_init_0 17 rfl rfl)
theorem dJ27_init_20 : decode cJ27_init 20 = .ok (.putfield 24, 3) := dk_181 0 24 (dk_at dksJ27_init_0 20 rfl rfl)
theorem dJ27_init_23 : decode cJ27_init 23 = .ok (.aload_n 0, 1) := dk_42 (dk_at dksJ27_init_0 23 rfl rfl)
theorem dJ27_init_24 : decode cJ27_init 24 = .ok (.invokevirtual 27, 3) := dk_182 0 27 (dk_at dksJ27_init_1 0 rfl rfl)
theorem dJ27_init_27 : decode cJ27_init 27 = .ok (.pop, 1) := dk_87 (dk_at dksJ27_init_1 3 rfl rfl)
theorem dJ27_init_28 : decode cJ27_init 28 = .ok (.return_, 1) := dk_177 (dk_at dksJ27_init_1 4 rfl rfl)
theorem dJ28_init_0 : decode cJ28_init 0 = .ok (.aload_n 0, 1) := by decide +kernel
theorem dJ28_init_1 : decode cJ28_init 1 = .ok (.invokespecial 1, 3) := by decide +kernel
theorem dJ28_init_4 : decode cJ28_init 4 = .ok (.return_, 1) := by decide +kernel
theorem dJ29_init_0 : decode cJ29_init 0 = .ok (.aload_n 0, 1) := by decide +kernel
theorem dJ29_init_1 : decode cJ29_init 1 = .ok (.invokespecial 1, 3) := by decide +kernel
theorem dJ29_init_4 : decode cJ29_init 4 = .ok (.return_, 1) := by decide +kernel
theorem dJ3_init_0 : decode cJ3_init 0 = .ok (.aload_n 0, 1) := by decide +kernel
theorem dJ3_init_1 : decode cJ3_init 1 = .ok (.invokespecial 1, 3) := by decide +kernel
theorem dJ3_init_4 : decode cJ3_init 4 = .ok (.return_, 1) := by decide +kernel
def dkwJ30_iterator_0 : List UInt8 := [187, 0, 121, 89, 42, 183, 0, 123, 176]
abbrev dktJ30_iterator_0 : List UInt8 := dkwJ30_iterator_0 ++ []
theorem dksJ30_iterator_0 : cJ30_iterator.data.toList.drop 0 = dktJ30_iterator_0 := by decide +kernel
theorem dJ30_iterator_0 : decode cJ30_iterator 0 = .ok (.new 121, 3) := dk_187 0 121 (dk_at dksJ30_iterator_0 0 rfl rfl)
theorem dJ30_iterator_3 : decode cJ30_iterator 3 = .ok (.dup, 1) := dk_89 (dk_at dksJ30_iterator_0 3 rfl rfl)
theorem dJ30_iterator_4 : decode cJ30_iterator 4 = .ok (.aload_n 0, 1) := dk_42 (dk_at dksJ30_iterator_0 4 rfl rfl)
theorem dJ30_iterator_5 : decode cJ30_iterator 5 = .ok (.invokespecial 123, 3) := dk_183 0 123 (dk_at dksJ30_iterator_0 5 rfl rfl)
theorem dJ30_iterator_8 : decode cJ30_iterator 8 = .ok (.areturn, 1) := dk_176 (dk_at dksJ30_iterator_0 8 rfl rfl)
def dkwJ30_init_0 : List UInt8 := [42, 16, 11, 1, 183, 0, 3, 177]
abbrev dktJ30_init_0 : List UInt8 := dkwJ30_init_0 ++ []
theorem dksJ30_init_0 : cJ30_init.data.toList.drop 0 = dktJ30_init_0 := by decide +kernel
theorem dJ30_init_0 : decode cJ30_init 0 = .ok (.aload_n 0, 1) := dk_42 (dk_at dksJ30_init_0 0 rfl rfl)
theorem dJ30_init_1 : decode cJ30_init 1 = .ok (.bipush 11, 2) := dk_16 11 (dk_at dksJ30_init_0 1 rfl rfl)
theorem dJ30_init_3 : decode cJ30_init 3 = .ok (.aconst_null, 1) := dk_1 (dk_at dksJ30_init_0 3 rfl rfl)
theorem dJ30_init_4 : decode cJ30_init 4 = .ok (.invokespecial 3, 3) := dk_183 0 3 (dk_at dksJ30_init_0 4 rfl rfl)
theorem dJ30_init_7 : decode cJ30_init 7 = .ok (.return_, 1) := dk_177 (dk_at dksJ30_init_0 7 rfl rfl)
def dkwJ30_init_2_1 : List UInt8 := [181, 0, 17, 42, 44, 181, 0, 21, 177]
abbrev dktJ30_init_2_1 : List UInt8 := dkwJ30_init_2_1 ++ []
def dkwJ30_init_2_0 : List UInt8 := [42, 183, 0, 7, 27, 4, 162, 0, 11, 187, 0, 12, 89, 183, 0, 14, 191, 42, 27, 189, 0, 15]
abbrev dktJ30_init_2_0 : List UInt8 := dkwJ30_init_2_0 ++ dktJ30_init_2_1
theorem dksJ30_init_2_0 : cJ30_init_2.data.toList.drop 0 = dktJ30_init_2_0 := by decide +kernel
theorem dksJ30_init_2_1 : cJ30_init_2.data.toList.drop 22 = dktJ30_init_2_1 := dk_seg dksJ30_init_2_0 22 rfl rfl
theorem dJ30_init_2_0 : decode cJ30_init_2 0 = .ok (.aload_n 0, 1) := dk_42 (dk_at dksJ30_init_2_0 0 rfl rfl)
theorem dJ30_init_2_1 : decode cJ30_init_2 1 = .ok (.invokespecial 7, 3) := dk_183 0 7 (dk_at dksJ30_init_2_0 1 rfl rfl)
theorem dJ30_init_2_4 : decode cJ30_init_2 4 = .ok (.iload_n 1, 1) := dk_27 (dk_at dksJ30_init_2_0 4 rfl rfl)
theorem dJ30_init_2_5 : decode cJ30_init_2 5 = .ok (.iconst 1, 1) := dk_4 (dk_at dksJ30_init_2_0 5 rfl rfl)
theorem dJ30_init_2_6 : decode cJ30_init_2 6 = .ok (.if_icmp .ge 11, 3) := dk_162 0 11 (dk_at dksJ30_init_2_0 6 rfl rfl)
theorem dJ30_init_2_9 : decode cJ30_init_2 9 = .ok (.new 12, 3) := dk_187 0 12 (dk_at dksJ30_init_2_0 9 rfl rfl)
theorem dJ30_init_2_12 : decode cJ30_init_2 12 = .ok (.dup, 1) := dk_89 (dk_at dksJ30_init_2_0 12 rfl rfl)
theorem dJ30_init_2_13 : decode cJ30_init_2 13 = .ok (.invokespecial 14, 3) := dk_183 0 14 (dk_at dksJ30_init_2_0 13 rfl rfl)
theorem dJ30_init_2_16 : decode cJ30_init_2 16 = .ok (.athrow, 1) := dk_191 (dk_at dksJ30_init_2_0 16 rfl rfl)
theorem dJ30_init_2_17 : decode cJ30_init_2 17 = .ok (.aload_n 0, 1) := dk_42 (dk_at dksJ30_init_2_0 17 rfl rfl)
theorem dJ30_init_2_18 : decode cJ30_init_2 18 = .ok (.iload_n 1, 1) := dk_27 (dk_at dksJ30_init_2_0 18 rfl rfl)
theorem dJ30_init_2_19 : decode cJ30_init_2 19 = .ok (.anewarray 15, 3) := dk_189 0 15 (dk_at dksJ30_init_2_0 19 rfl rfl)
theorem dJ30_init_2_22 : decode cJ30_init_2 22 = .ok (.putfield 17, 3) := dk_181 0 17 (dk_at dksJ30_init_2_1 0 rfl rfl)
theorem dJ30_init_2_25 : decode cJ30_init_2 25 = .ok (.aload_n 0, 1) := dk_42 (dk_at dksJ30_init_2_1 3 rfl rfl)
theorem dJ30_init_2_26 : decode cJ30_init_2 26 = .ok (.aload_n 2, 1) := dk_44 (dk_at dksJ30_init_2_1 4 rfl rfl)
theorem dJ30_init_2_27 : decode cJ30_init_2 27 = .ok (.putfield 21, 3) := dk_181 0 21 (dk_at dksJ30_init_2_1 5 rfl rfl)
theorem dJ30_init_2_30 : decode cJ30_init_2 30 = .ok (.return_, 1) := dk_177 (dk_at dksJ30_init_2_1 8 rfl rfl)
def dkwJ30_add_0 : List UInt8 := [42, 43, 182, 0, 89, 172]
abbrev dktJ30_add_0 : List UInt8 := dkwJ30_add_0 ++ []
theorem dksJ30_add_0 : cJ30_add.data.toList.drop 0 = dktJ30_add_0 := by decide +kernel
theorem dJ30_add_0 : decode cJ30_add 0 = .ok (.aload_n 0, 1) := dk_42 (dk_at dksJ30_add_0 0 rfl rfl)
theorem dJ30_add_1 : decode cJ30_add 1 = .ok (.aload_n 1, 1) := dk_43 (dk_at dksJ30_add_0 1 rfl rfl)
theorem dJ30_add_2 : decode cJ30_add 2 = .ok (.invokevirtual 89, 3) := dk_182 0 89 (dk_at dksJ30_add_0 2 rfl rfl)
theorem dJ30_add_5 : decode cJ30_add 5 = .ok (.ireturn, 1) := dk_172 (dk_at dksJ30_add_0 5 rfl rfl)
def dkwJ30_offer_2 : List UInt8 := [182, 0, 100, 42, 28, 4, 96, 181, 0, 58, 4, 172]
abbrev dktJ30_offer_2 : List UInt8 := dkwJ30_offer_2 ++ []
def dkwJ30_offer_1 : List UInt8 := [180, 0, 58, 61, 28, 42, 180, 0, 17, 190, 161, 0, 10, 42, 28, 4, 96, 182, 0, 96, 42, 28, 43]
abbrev dktJ30_offer_1 : List UInt8 := dkwJ30_offer_1 ++ dktJ30_offer_2
def dkwJ30_offer_0 : List UInt8 := [43, 199, 0, 11, 187, 0, 74, 89, 183, 0, 76, 191, 42, 89, 180, 0, 93, 4, 96, 181, 0, 93, 42]
abbrev dktJ30_offer_0 : List UInt8 := dkwJ30_offer_0 ++ dktJ30_offer_1
theorem dksJ30_offer_0 : cJ30_offer.data.toList.drop 0 = dktJ30_offer_0 := by decide +kernel
theorem dksJ30_offer_1 : cJ30_offer.data.toList.drop 23 = dktJ30_offer_1 := dk_seg dksJ30_offer_0 23 rfl rfl
theorem dksJ30_offer_2 : cJ30_offer.data.toList.drop 46 = dktJ30_offer_2 := dk_seg dksJ30_offer_1 23 rfl rfl
theorem dJ30_offer_0 : decode cJ30_offer 0 = .ok (.aload_n 1, 1) := dk_43 (dk_at dksJ30_offer_0 0 rfl rfl)
theorem dJ30_offer_1 : decode cJ30_offer 1 = .ok (.ifnonnull 11, 3) := dk_199 0 11 (dk_at dksJ30_offer_0 1 rfl rfl)
theorem dJ30_offer_4 : decode cJ30_offer 4 = .ok (.new 74, 3) := dk_187 0 74 (dk_at dksJ30_offer_0 4 rfl rfl)
theorem dJ30_offer_7 : decode cJ30_offer 7 = .ok (.dup, 1) := dk_89 (dk_at dksJ30_offer_0 7 rfl rfl)
theorem dJ30_offer_8 : decode cJ30_offer 8 = .ok (.invokespecial 76, 3) := dk_183 0 76 (dk_at dksJ30_offer_0 8 rfl rfl)
theorem dJ30_offer_11 : decode cJ30_offer 11 = .ok (.athrow, 1) := dk_191 (dk_at dksJ30_offer_0 11 rfl rfl)
theorem dJ30_offer_12 : decode cJ30_offer 12 = .ok (.aload_n 0, 1) := dk_42 (dk_at dksJ30_offer_0 12 rfl rfl)
theorem dJ30_offer_13 : decode cJ30_offer 13 = .ok (.dup, 1) := dk_89 (dk_at dksJ30_offer_0 13 rfl rfl)
theorem dJ30_offer_14 : decode cJ30_offer 14 = .ok (.getfield 93, 3) := dk_180 0 93 (dk_at dksJ30_offer_0 14 rfl rfl)
theorem dJ30_offer_17 : decode cJ30_offer 17 = .ok (.iconst 1, 1) := dk_4 (dk_at dksJ30_offer_0 17 rfl rfl)
theorem dJ30_offer_18 : decode cJ30_offer 18 = .ok (.iadd, 1) := dk_96 (dk_at dksJ30_offer_0 18 rfl rfl)
theorem dJ30_offer_19 : decode cJ30_offer 19 = .ok (.putfield 93, 3) := dk_181 0 93 (dk_at dksJ30_offer_0 19 rfl rfl)
theorem dJ30_offer_22 : decode cJ30_offer 22 = .ok (.aload_n 0, 1) := dk_42 (dk_at dksJ30_offer_0 22 rfl rfl)
theorem dJ30_offer_23 : decode cJ30_offer 23 = .ok (.getfield 58, 3) := dk_180 0 58 (dk_at dksJ30_offer_1 0 rfl rfl)
theorem dJ30_offer_26 : decode cJ30_offer 26 = .ok (.istore_n 2, 1) := dk_61 (dk_at dksJ30_offer_1 3 rfl rfl)
theorem dJ30_offer_27 : decode cJ30_offer 27 = .ok (.iload_n 2, 1) := dk_28 (dk_at dksJ30_offer_1 4 rfl rfl)
theorem dJ30_offer_28 : decode cJ30_offer 28 = .ok (.aload_n 0, 1) := dk_42 (dk_at dksJ30_offer_1 5 rfl rfl)
theorem dJ30_offer_29 : decode cJ30_offer 29 = .ok (.getfield 17, 3) := dk_180 0 17 (dk_at dksJ30_offer_1 6 rfl rfl)
theorem dJ30_offer_32 : decode cJ30_offer 32 = .ok (.arraylength, 1) := dk_190 (dk_at dksJ30_offer_1 9 rfl rfl)
theorem dJ30_offer_33 : decode cJ30_offer 33 = .ok (.if_icmp .lt 10, 3) := dk_161 0 10 (dk_at dksJ30_offer_1 10 rfl rfl)
theorem dJ30_offer_36 : decode cJ30_offer 36 = .ok (.aload_n 0, 1) := dk_42 (dk_at dksJ30_offer_1 13 rfl rfl)
theorem dJ30_offer_37 : decode cJ30_offer 37 = .ok (.iload_n 2, 1) := dk_28 (dk_at dksJ30_offer_1 14 rfl rfl)
theorem dJ30_offer_38 : decode cJ30_offer 38 = .ok (.iconst 1, 1) := dk_4 (dk_at dksJ30_offer_1 15 rfl rfl)
theorem dJ30_offer_39 : decode cJ30_offer 39 = .ok (.iadd, 1) := dk_96 (dk_at dksJ30_offer_1 16 rfl rfl)
theorem dJ30_offer_40 : decode cJ30_offer 40 = .ok (.invokevirtual 96, 3) := dk_182 0 96 (dk_at dksJ30_offer_1 17 rfl rfl)
theorem dJ30_offer_43 : decode cJ30_offer 43 = .ok (.aload_n 0, 1) := dk_42 (dk_at dksJ30_offer_1 20 rfl rfl)
theorem dJ30_offer_44 : decode cJ30_offer 44 = .ok (.iload_n 2, 1) := dk_28 (dk_at dksJ30_offer_1 21 rfl rfl)
theorem dJ30_offer_45 : decode cJ30_offer 45 = .ok (.aload_n 1, 1) := dk_43 (dk_at dksJ30_offer_1 22 rfl rfl)
theorem dJ30_offer_46 : decode cJ30_offer 46 = .ok (.invokevirtual 100, 3) := dk_182 0 100 (dk_at dksJ30_offer_2 0 rfl rfl)
theorem dJ30_offer_49 : decode cJ30_offer 49 = .ok (.aload_n 0, 1) := dk_42 (dk_at dksJ30_offer_2 3 rfl rfl)
theorem dJ30_offer_50 : decode cJ30_offer 50 = .ok (.iload_n 2, 1) := dk_28 (dk_at dksJ30_offer_2 4 rfl rfl)
theorem dJ30_offer_51 : decode cJ30_offer 51 = .ok (.iconst 1, 1) := dk_4 (dk_at dksJ30_offer_2 5 rfl rfl)
theorem dJ30_offer_52 : decode cJ30_offer 52 = .ok (.iadd, 1) := dk_96 (dk_at dksJ30_offer_2 6 rfl rfl)
theorem dJ30_offer_53 : decode cJ30_offer 53 = .ok (.putfield 58, 3) := dk_181 0 58 (dk_at dksJ30_offer_2 7 rfl rfl)
theorem dJ30_offer_56 : decode cJ30_offer 56 = .ok (.iconst 1, 1) := dk_4 (dk_at dksJ30_offer_2 10 rfl rfl)
theorem dJ30_offer_57 : decode cJ30_offer 57 = .ok (.ireturn, 1) := dk_172 (dk_at dksJ30_offer_2 11 rfl rfl)
def dkwJ30_grow_1 : List UInt8 := [122, 184, 0, 80, 62, 42, 42, 180, 0, 17, 29, 184, 0, 86, 181, 0, 17, 177]
abbrev dktJ30_grow_1 : List UInt8 := dkwJ30_grow_1 ++ []
def dkwJ30_grow_0 : List UInt8 := [42, 180, 0, 17, 190, 61, 28, 27, 28, 100, 28, 16, 64, 162, 0, 9, 28, 5, 96, 167, 0, 6, 28, 4]
abbrev dktJ30_grow_0 : List UInt8 := dkwJ30_grow_0 ++ dktJ30_grow_1
theorem dksJ30_grow_0 : cJ30_grow.data.toList.drop 0 = dktJ30_grow_0 := by decide +kernel
theorem dksJ30_grow_1 : cJ30_grow.data.toList.drop 24 = dktJ30_grow_1 := dk_seg dksJ30_grow_0 24 rfl rfl
theorem dJ30_grow_0 : decode cJ30_grow 0 = .ok (.aload_n 0, 1) := dk_42 (dk_at dksJ30_grow_0 0 rfl rfl)
theorem dJ30_grow_1 : decode cJ30_grow 1 = .ok (.getfield 17, 3) := dk_180 0 17 (dk_at dksJ30_grow_0 1 rfl rfl)
theorem dJ30_grow_4 : decode cJ30_grow 4 = .ok (.arraylength, 1) := dk_190 (dk_at dksJ30_grow_0 4 rfl rfl)
theorem dJ30_grow_5 : decode cJ30_grow 5 = .ok (.istore_n 2, 1) := dk_61 (dk_at dksJ30_grow_0 5 rfl rfl)
theorem dJ30_grow_6 : decode cJ30_grow 6 = .ok (.iload_n 2, 1) := dk_28 (dk_at dksJ30_grow_0 6 rfl rfl)
theorem dJ30_grow_7 : decode cJ30_grow 7 = .ok (.iload_n 1, 1) := dk_27 (dk_at dksJ30_grow_0 7 rfl rfl)
theorem dJ30_grow_8 : decode cJ30_grow 8 = .ok (.iload_n 2, 1) := dk_28 (dk_at dksJ30_grow_0 8 rfl rfl)
theorem dJ30_grow_9 : decode cJ30_grow 9 = .ok (.isub, 1) := dk_100 (dk_at dksJ30_grow_0 9 rfl rfl)
theorem dJ30_grow_10 : decode cJ30_grow 10 = .ok (.iload_n 2, 1) := dk_28 (dk_at dksJ30_grow_0 10 rfl rfl)
theorem dJ30_grow_11 : decode cJ30_grow 11 = .ok (.bipush 64, 2) := dk_16 64 (dk_at dksJ30_grow_0 11 rfl rfl)
theorem dJ30_grow_13 : decode cJ30_grow 13 = .ok (.if_icmp .ge 9, 3) := dk_162 0 9 (dk_at dksJ30_grow_0 13 rfl rfl)
theorem dJ30_grow_16 : decode cJ30_grow 16 = .ok (.iload_n 2, 1) := dk_28 (dk_at dksJ30_grow_0 16 rfl rfl)
theorem dJ30_grow_17 : decode cJ30_grow 17 = .ok (.iconst 2, 1) := dk_5 (dk_at dksJ30_grow_0 17 rfl rfl)
theorem dJ30_grow_18 : decode cJ30_grow 18 = .ok (.iadd, 1) := dk_96 (dk_at dksJ30_grow_0 18 rfl rfl)
theorem dJ30_grow_19 : decode cJ30_grow 19 = .ok (.goto 6, 3) := dk_167 0 6 (dk_at dksJ30_grow_0 19 rfl rfl)
theorem dJ30_grow_22 : decode cJ30_grow 22 = .ok (.iload_n 2, 1) := dk_28 (dk_at dksJ30_grow_0 22 rfl rfl)
theorem dJ30_grow_23 : decode cJ30_grow 23 = .ok (.iconst 1, 1) := dk_4 (dk_at dksJ30_grow_0 23 rfl rfl)
theorem dJ30_grow_24 : decode cJ30_grow 24 = .ok (.ishr, 1) := dk_122 (dk_at dksJ30_grow_1 0 rfl rfl)
theorem dJ30_grow_25 : decode cJ30_grow 25 = .ok (.invokestatic 80, 3) := dk_184 0 80 (dk_at dksJ30_grow_1 1 rfl rfl)
theorem dJ30_grow_28 : decode cJ30_grow 28 = .ok (.istore_n 3, 1) := dk_62 (dk_at dksJ30_grow_1 4 rfl rfl)
theorem dJ30_grow_29 : decode cJ30_grow 29 = .ok (.aload_n 0, 1) := dk_42 (dk_at dksJ30_grow_1 5 rfl rfl)
theorem dJ30_grow_30 : decode cJ30_grow 30 = .ok (.aload_n 0, 1) := dk_42 (dk_at dksJ30_grow_1 6 rfl rfl)
theorem dJ30_grow_31 : decode cJ30_grow 31 = .ok (.getfield 17, 3) := dk_180 0 17 (dk_at dksJ30_grow_1 7 rfl rfl)
theorem dJ30_grow_34 : decode cJ30_grow 34 = .ok (.iload_n 3, 1) := dk_29 (dk_at dksJ30_grow_1 10 rfl rfl)
theorem dJ30_grow_35 : decode cJ30_grow 35 = .ok (.invokestatic 86, 3) := dk_184 0 86 (dk_at dksJ30_grow_1 11 rfl rfl)
theorem dJ30_grow_38 : decode cJ30_grow 38 = .ok (.putfield 17, 3) := dk_181 0 17 (dk_at dksJ30_grow_1 14 rfl rfl)
theorem dJ30_grow_41 : decode cJ30_grow 41 = .ok (.return_, 1) := dk_177 (dk_at dksJ30_grow_1 17 rfl rfl)
def dkwJ30_siftUp_1 : List UInt8 := [44, 42, 180, 0, 17, 184, 0, 140, 177]
abbrev dktJ30_siftUp_1 : List UInt8 := dkwJ30_siftUp_1 ++ []
def dkwJ30_siftUp_0 : List UInt8 := [42, 180, 0, 21, 198, 0, 19, 27, 44, 42, 180, 0, 17, 42, 180, 0, 21, 184, 0, 136, 167, 0, 12, 27]
abbrev dktJ30_siftUp_0 : List UInt8 := dkwJ30_siftUp_0 ++ dktJ30_siftUp_1
theorem dksJ30_siftUp_0 : cJ30_siftUp.data.toList.drop 0 = dktJ30_siftUp_0 := by decide +kernel
theorem dksJ30_siftUp_1 : cJ30_siftUp.data.toList.drop 24 = dktJ30_siftUp_1 := dk_seg dksJ30_siftUp_0 24 rfl rfl
theorem dJ30_siftUp_0 : decode cJ30_siftUp 0 = .ok (.aload_n 0, 1) := dk_42 (dk_at dksJ30_siftUp_0 0 rfl rfl)
theorem dJ30_siftUp_1 : decode cJ30_siftUp 1 = .ok (.getfield 21, 3) := dk_180 0 21 (dk_at dksJ30_siftUp_0 1 rfl rfl)
theorem dJ30_siftUp_4 : decode cJ30_siftUp 4 = .ok (.ifnull 19, 3) := dk_198 0 19 (dk_at dksJ30_siftUp_0 4 rfl rfl)
theorem dJ30_siftUp_7 : decode cJ30_siftUp 7 = .ok (.iload_n 1, 1) := dk_27 (dk_at dksJ30_siftUp_0 7 rfl rfl)
theorem dJ30_siftUp_8 : decode cJ30_siftUp 8 = .ok (.aload_n 2, 1) := dk_44 (dk_at dksJ30_siftUp_0 8 rfl rfl)
theorem dJ30_siftUp_9 : decode cJ30_siftUp 9 = .ok (.aload_n 0, 1) := dk_42 (dk_at dksJ30_siftUp_0 9 rfl rfl)
theorem dJ30_siftUp_10 : decode cJ30_siftUp 10 = .ok (.getfield 17, 3) := dk_180 0 17 (dk_at dksJ30_siftUp_0 10 rfl rfl)
theorem dJ30_siftUp_13 : decode cJ30_siftUp 13 = .ok (.aload_n 0, 1) := dk_42 (dk_at dksJ30_siftUp_0 13 rfl rfl)
theorem dJ30_siftUp_14 : decode cJ30_siftUp 14 = .ok (.getfield 21, 3) := dk_180 0 21 (dk_at dksJ30_siftUp_0 14 rfl rfl)
theorem dJ30_siftUp_17 : decode cJ30_siftUp 17 = .ok (.invokestatic 136, 3) := dk_184 0 136 (dk_at dksJ30_siftUp_0 17 rfl rfl)
theorem dJ30_siftUp_20 : decode cJ30_siftUp 20 = .ok (.goto 12, 3) := dk_167 0 12 (dk_at dksJ30_siftUp_0 20 rfl rfl)
theorem dJ30_siftUp_23 : decode cJ30_siftUp 23 = .ok (.iload_n 1, 1) := dk_27 (dk_at dksJ30_siftUp_0 23 rfl rfl)
theorem dJ30_siftUp_24 : decode cJ30_siftUp 24 = .ok (.aload_n 2, 1) := dk_44 (dk_at dksJ30_siftUp_1 0 rfl rfl)
theorem dJ30_siftUp_25 : decode cJ30_siftUp 25 = .ok (.aload_n 0, 1) := dk_42 (dk_at dksJ30_siftUp_1 1 rfl rfl)
theorem dJ30_siftUp_26 : decode cJ30_siftUp 26 = .ok (.getfield 17, 3) := dk_180 0 17 (dk_at dksJ30_siftUp_1 2 rfl rfl)
theorem dJ30_siftUp_29 : decode cJ30_siftUp 29 = .ok (.invokestatic 140, 3) := dk_184 0 140 (dk_at dksJ30_siftUp_1 5 rfl rfl)
theorem dJ30_siftUp_32 : decode cJ30_siftUp 32 = .ok (.return_, 1) := dk_177 (dk_at dksJ30_siftUp_1 8 rfl rfl)
def dkwJ30_siftUpUsingComparator_2 : List UInt8 := [43, 83, 177]
abbrev dktJ30_siftUpUsingComparator_2 : List UInt8 := dkwJ30_siftUpUsingComparator_2 ++ []
def dkwJ30_siftUpUsingComparator_1 : List UInt8 := [185, 0, 149, 3, 0, 155, 0, 6, 167, 0, 14, 44, 26, 25, 5, 83, 21, 4, 59, 167, 255, 216, 44, 26]
abbrev dktJ30_siftUpUsingComparator_1 : List UInt8 := dkwJ30_siftUpUsingComparator_1 ++ dktJ30_siftUpUsingComparator_2
def dkwJ30_siftUpUsingComparator_0 : List UInt8 := [26, 158, 0, 42, 26, 4, 100, 4, 124, 54, 4, 44, 21, 4, 50, 58, 5, 45, 43, 25, 5]
abbrev dktJ30_siftUpUsingComparator_0 : List UInt8 := dkwJ30_siftUpUsingComparator_0 ++ dktJ30_siftUpUsingComparator_1
theorem dksJ30_siftUpUsingComparator_0 : cJ30_siftUpUsingComparator.data.toList.drop 0 = dktJ30_siftUpUsingComparator_0 := by decide +kernel
theorem dksJ30_siftUpUsingComparator_1 : cJ30_siftUpUsingComparator.data.toList.drop 21 = dktJ30_siftUpUsingComparator_1 := dk_seg dksJ30_siftUpUsingComparator_0 21 rfl rfl
theorem dksJ30_siftUpUsingComparator_2 : cJ30_siftUpUsingComparator.data.toList.drop 45 = dktJ30_siftUpUsingComparator_2 := dk_seg dksJ30_siftUpUsingComparator_1 24 rfl rfl
theorem dJ30_siftUpUsingComparator_0 : decode cJ30_siftUpUsingComparator 0 = .ok (.iload_n 0, 1) := dk_26 (dk_at dksJ30_siftUpUsingComparator_0 0 rfl rfl)
theorem dJ30_siftUpUsingComparator_1 : decode cJ30_siftUpUsingComparator 1 = .ok (.ifCond .le 42, 3) := dk_158 0 42 (dk_at dksJ30_siftUpUsingComparator_0 1 rfl rfl)
theorem dJ30_siftUpUsingComparator_4 : decode cJ30_siftUpUsingComparator 4 = .ok (.iload_n 0, 1) := dk_26 (dk_at dksJ30_siftUpUsingComparator_0 4 rfl rfl)
theorem dJ30_siftUpUsingComparator_5 : decode cJ30_siftUpUsingComparator 5 = .ok (.iconst 1, 1) := dk_4 (dk_at dksJ30_siftUpUsingComparator_0 5 rfl rfl)
theorem dJ30_siftUpUsingComparator_6 : decode cJ30_siftUpUsingComparator 6 = .ok (.isub, 1) := dk_100 (dk_at dksJ30_siftUpUsingComparator_0 6 rfl rfl)
theorem dJ30_siftUpUsingComparator_7 : decode cJ30_siftUpUsingComparator 7 = .ok (.iconst 1, 1) := dk_4 (dk_at dksJ30_siftUpUsingComparator_0 7 rfl rfl)
theorem dJ30_siftUpUsingComparator_8 : decode cJ30_siftUpUsingComparator 8 = .ok (.iushr, 1) := dk_124 (dk_at dksJ30_siftUpUsingComparator_0 8 rfl rfl)
theorem dJ30_siftUpUsingComparator_9 : decode cJ30_siftUpUsingComparator 9 = .ok (.istore 4, 2) := dk_54 4 (dk_at dksJ30_siftUpUsingComparator_0 9 rfl rfl)
theorem dJ30_siftUpUsingComparator_11 : decode cJ30_siftUpUsingComparator 11 = .ok (.aload_n 2, 1) := dk_44 (dk_at dksJ30_siftUpUsingComparator_0 11 rfl rfl)
theorem dJ30_siftUpUsingComparator_12 : decode cJ30_siftUpUsingComparator 12 = .ok (.iload 4, 2) := dk_21 4 (dk_at dksJ30_siftUpUsingComparator_0 12 rfl rfl)
theorem dJ30_siftUpUsingComparator_14 : decode cJ30_siftUpUsingComparator 14 = .ok (.aaload, 1) := dk_50 (dk_at dksJ30_siftUpUsingComparator_0 14 rfl rfl)
theorem dJ30_siftUpUsingComparator_15 : decode cJ30_siftUpUsingComparator 15 = .ok (.astore 5, 2) := dk_58 5 (dk_at dksJ30_siftUpUsingComparator_0 15 rfl rfl)
theorem dJ30_siftUpUsingComparator_17 : decode cJ30_siftUpUsingComparator 17 = .ok (.aload_n 3, 1) := dk_45 (dk_at dksJ30_siftUpUsingComparator_0 17 rfl rfl)
theorem dJ30_siftUpUsingComparator_18 : decode cJ30_siftUpUsingComparator 18 = .ok (.aload_n 1, 1) := dk_43 (dk_at dksJ30_siftUpUsingComparator_0 18 rfl rfl)
theorem dJ30_siftUpUsingComparator_19 : decode cJ30_siftUpUsingComparator 19 = .ok (.aload 5, 2) := dk_25 5 (dk_at dksJ30_siftUpUsingComparator_0 19 rfl rfl)
theorem dJ30_siftUpUsingComparator_21 : decode cJ30_siftUpUsingComparator 21 = .ok (.invokeinterface 149 3, 5) := by decide +kernel
theorem dJ30_siftUpUsingComparator_26 : decode cJ30_siftUpUsingComparator 26 = .ok (.ifCond .lt 6, 3) := dk_155 0 6 (dk_at dksJ30_siftUpUsingComparator_1 5 rfl rfl)
theorem dJ30_siftUpUsingComparator_29 : decode cJ30_siftUpUsingComparator 29 = .ok (.goto 14, 3) := dk_167 0 14 (dk_at dksJ30_siftUpUsingComparator_1 8 rfl rfl)
theorem dJ30_siftUpUsingComparator_32 : decode cJ30_siftUpUsingComparator 32 = .ok (.aload_n 2, 1) := dk_44 (dk_at dksJ30_siftUpUsingComparator_1 11 rfl rfl)
theorem dJ30_siftUpUsingComparator_33 : decode cJ30_siftUpUsingComparator 33 = .ok (.iload_n 0, 1) := dk_26 (dk_at dksJ30_siftUpUsingComparator_1 12 rfl rfl)
theorem dJ30_siftUpUsingComparator_34 : decode cJ30_siftUpUsingComparator 34 = .ok (.aload 5, 2) := dk_25 5 (dk_at dksJ30_siftUpUsingComparator_1 13 rfl rfl)
theorem dJ30_siftUpUsingComparator_36 : decode cJ30_siftUpUsingComparator 36 = .ok (.aastore, 1) := dk_83 (dk_at dksJ30_siftUpUsingComparator_1 15 rfl rfl)
theorem dJ30_siftUpUsingComparator_37 : decode cJ30_siftUpUsingComparator 37 = .ok (.iload 4, 2) := dk_21 4 (dk_at dksJ30_siftUpUsingComparator_1 16 rfl rfl)
theorem dJ30_siftUpUsingComparator_39 : decode cJ30_siftUpUsingComparator 39 = .ok (.istore_n 0, 1) := dk_59 (dk_at dksJ30_siftUpUsingComparator_1 18 rfl rfl)
theorem dJ30_siftUpUsingComparator_40 : decode cJ30_siftUpUsingComparator 40 = .ok (.goto (-40), 3) := dk_167 255 216 (dk_at dksJ30_siftUpUsingComparator_1 19 rfl rfl)
theorem dJ30_siftUpUsingComparator_43 : decode cJ30_siftUpUsingComparator 43 = .ok (.aload_n 2, 1) := dk_44 (dk_at dksJ30_siftUpUsingComparator_1 22 rfl rfl)
theorem dJ30_siftUpUsingComparator_44 : decode cJ30_siftUpUsingComparator 44 = .ok (.iload_n 0, 1) := dk_26 (dk_at dksJ30_siftUpUsingComparator_1 23 rfl rfl)
theorem dJ30_siftUpUsingComparator_45 : decode cJ30_siftUpUsingComparator 45 = .ok (.aload_n 1, 1) := dk_43 (dk_at dksJ30_siftUpUsingComparator_2 0 rfl rfl)
theorem dJ30_siftUpUsingComparator_46 : decode cJ30_siftUpUsingComparator 46 = .ok (.aastore, 1) := dk_83 (dk_at dksJ30_siftUpUsingComparator_2 1 rfl rfl)
theorem dJ30_siftUpUsingComparator_47 : decode cJ30_siftUpUsingComparator 47 = .ok (.return_, 1) := dk_177 (dk_at dksJ30_siftUpUsingComparator_2 2 rfl rfl)
def dkwJ30_siftUpComparable_2 : List UInt8 := [44, 26, 45, 83, 177]
abbrev dktJ30_siftUpComparable_2 : List UInt8 := dkwJ30_siftUpComparable_2 ++ []
def dkwJ30_siftUpComparable_1 : List UInt8 := [25, 5, 185, 0, 146, 2, 0, 155, 0, 6, 167, 0, 14, 44, 26, 25, 5, 83, 21, 4, 59, 167, 255, 217]
abbrev dktJ30_siftUpComparable_1 : List UInt8 := dkwJ30_siftUpComparable_1 ++ dktJ30_siftUpComparable_2
def dkwJ30_siftUpComparable_0 : List UInt8 := [43, 192, 0, 144, 78, 26, 158, 0, 41, 26, 4, 100, 4, 124, 54, 4, 44, 21, 4, 50, 58, 5, 45]
abbrev dktJ30_siftUpComparable_0 : List UInt8 := dkwJ30_siftUpComparable_0 ++ dktJ30_siftUpComparable_1
theorem dksJ30_siftUpComparable_0 : cJ30_siftUpComparable.data.toList.drop 0 = dktJ30_siftUpComparable_0 := by decide +kernel
theorem dksJ30_siftUpComparable_1 : cJ30_siftUpComparable.data.toList.drop 23 = dktJ30_siftUpComparable_1 := dk_seg dksJ30_siftUpComparable_0 23 rfl rfl
theorem dksJ30_siftUpComparable_2 : cJ30_siftUpComparable.data.toList.drop 47 = dktJ30_siftUpComparable_2 := dk_seg dksJ30_siftUpComparable_1 24 rfl rfl
theorem dJ30_siftUpComparable_0 : decode cJ30_siftUpComparable 0 = .ok (.aload_n 1, 1) := dk_43 (dk_at dksJ30_siftUpComparable_0 0 rfl rfl)
theorem dJ30_siftUpComparable_1 : decode cJ30_siftUpComparable 1 = .ok (.checkcast 144, 3) := dk_192 0 144 (dk_at dksJ30_siftUpComparable_0 1 rfl rfl)
theorem dJ30_siftUpComparable_4 : decode cJ30_siftUpComparable 4 = .ok (.astore_n 3, 1) := dk_78 (dk_at dksJ30_siftUpComparable_0 4 rfl rfl)
theorem dJ30_siftUpComparable_5 : decode cJ30_siftUpComparable 5 = .ok (.iload_n 0, 1) := dk_26 (dk_at dksJ30_siftUpComparable_0 5 rfl rfl)
theorem dJ30_siftUpComparable_6 : decode cJ30_siftUpComparable 6 = .ok (.ifCond .le 41, 3) := dk_158 0 41 (dk_at dksJ30_siftUpComparable_0 6 rfl rfl)
theorem dJ30_siftUpComparable_9 : decode cJ30_siftUpComparable 9 = .ok (.iload_n 0, 1) := dk_26 (dk_at dksJ30_siftUpComparable_0 9 rfl rfl)
theorem dJ30_siftUpComparable_10 : decode cJ30_siftUpComparable 10 = .ok (.iconst 1, 1) := dk_4 (dk_at dksJ30_siftUpComparable_0 10 rfl rfl)
theorem dJ30_siftUpComparable_11 : decode cJ30_siftUpComparable 11 = .ok (.isub, 1) := dk_100 (dk_at dksJ30_siftUpComparable_0 11 rfl rfl)
theorem dJ30_siftUpComparable_12 : decode cJ30_siftUpComparable 12 = .ok (.iconst 1, 1) := dk_4 (dk_at dksJ30_siftUpComparable_0 12 rfl rfl)
theorem dJ30_siftUpComparable_13 : decode cJ30_siftUpComparable 13 = .ok (.iushr, 1) := dk_124 (dk_at dksJ30_siftUpComparable_0 13 rfl rfl)
theorem dJ30_siftUpComparable_14 : decode cJ30_siftUpComparable 14 = .ok (.istore 4, 2) := dk_54 4 (dk_at dksJ30_siftUpComparable_0 14 rfl rfl)
theorem dJ30_siftUpComparable_16 : decode cJ30_siftUpComparable 16 = .ok (.aload_n 2, 1) := dk_44 (dk_at dksJ30_siftUpComparable_0 16 rfl rfl)
theorem dJ30_siftUpComparable_17 : decode cJ30_siftUpComparable 17 = .ok (.iload 4, 2) := dk_21 4 (dk_at dksJ30_siftUpComparable_0 17 rfl rfl)
theorem dJ30_siftUpComparable_19 : decode cJ30_siftUpComparable 19 = .ok (.aaload, 1) := dk_50 (dk_at dksJ30_siftUpComparable_0 19 rfl rfl)
theorem dJ30_siftUpComparable_20 : decode cJ30_siftUpComparable 20 = .ok (.astore 5, 2) := dk_58 5 (dk_at dksJ30_siftUpComparable_0 20 rfl rfl)
theorem dJ30_siftUpComparable_22 : decode cJ30_siftUpComparable 22 = .ok (.aload_n 3, 1) := dk_45 (dk_at dksJ30_siftUpComparable_0 22 rfl rfl)
theorem dJ30_siftUpComparable_23 : decode cJ30_siftUpComparable 23 = .ok (.aload 5, 2) := dk_25 5 (dk_at dksJ30_siftUpComparable_1 0 rfl rfl)
theorem dJ30_siftUpComparable_25 : decode cJ30_siftUpComparable 25 = .ok (.invokeinterface 146 2, 5) := by decide +kernel
theorem dJ30_siftUpComparable_30 : decode cJ30_siftUpComparable 30 = .ok (.ifCond .lt 6, 3) := dk_155 0 6 (dk_at dksJ30_siftUpComparable_1 7 rfl rfl)
theorem dJ30_siftUpComparable_33 : decode cJ30_siftUpComparable 33 = .ok (.goto 14, 3) := dk_167 0 14 (dk_at dksJ30_siftUpComparable_1 10 rfl rfl)
theorem dJ30_siftUpComparable_36 : decode cJ30_siftUpComparable 36 = .ok (.aload_n 2, 1) := dk_44 (dk_at dksJ30_siftUpComparable_1 13 rfl rfl)
theorem dJ30_siftUpComparable_37 : decode cJ30_siftUpComparable 37 = .ok (.iload_n 0, 1) := dk_26 (dk_at dksJ30_siftUpComparable_1 14 rfl rfl)
theorem dJ30_siftUpComparable_38 : decode cJ30_siftUpComparable 38 = .ok (.aload 5, 2) := dk_25 5 (dk_at dksJ30_siftUpComparable_1 15 rfl rfl)
theorem dJ30_siftUpComparable_40 : decode cJ30_siftUpComparable 40 = .ok (.aastore, 1) := dk_83 (dk_at dksJ30_siftUpComparable_1 17 rfl rfl)
theorem dJ30_siftUpComparable_41 : decode cJ30_siftUpComparable 41 = .ok (.iload 4, 2) := dk_21 4 (dk_at dksJ30_siftUpComparable_1 18 rfl rfl)
theorem dJ30_siftUpComparable_43 : decode cJ30_siftUpComparable 43 = .ok (.istore_n 0, 1) := dk_59 (dk_at dksJ30_siftUpComparable_1 20 rfl rfl)
theorem dJ30_siftUpComparable_44 : decode cJ30_siftUpComparable 44 = .ok (.goto (-39), 3) := dk_167 255 217 (dk_at dksJ30_siftUpComparable_1 21 rfl rfl)
theorem dJ30_siftUpComparable_47 : decode cJ30_siftUpComparable 47 = .ok (.aload_n 2, 1) := dk_44 (dk_at dksJ30_siftUpComparable_2 0 rfl rfl)
theorem dJ30_siftUpComparable_48 : decode cJ30_siftUpComparable 48 = .ok (.iload_n 0, 1) := dk_26 (dk_at dksJ30_siftUpComparable_2 1 rfl rfl)
theorem dJ30_siftUpComparable_49 : decode cJ30_siftUpComparable 49 = .ok (.aload_n 3, 1) := dk_45 (dk_at dksJ30_siftUpComparable_2 2 rfl rfl)
theorem dJ30_siftUpComparable_50 : decode cJ30_siftUpComparable 50 = .ok (.aastore, 1) := dk_83 (dk_at dksJ30_siftUpComparable_2 3 rfl rfl)
theorem dJ30_siftUpComparable_51 : decode cJ30_siftUpComparable 51 = .ok (.return_, 1) := dk_177 (dk_at dksJ30_siftUpComparable_2 4 rfl rfl)
def dkwJ30_poll_3 : List UInt8 := [43, 29, 25, 5, 184, 0, 129, 44, 176]
abbrev dktJ30_poll_3 : List UInt8 := dkwJ30_poll_3 ++ []
def dkwJ30_poll_2 : List UInt8 := [42, 180, 0, 21, 89, 58, 5, 199, 0, 14, 3, 25, 4, 43, 29, 184, 0, 125, 167, 0, 13, 3, 25, 4]
abbrev dktJ30_poll_2 : List UInt8 := dkwJ30_poll_2 ++ dktJ30_poll_3
def dkwJ30_poll_1 : List UInt8 := [42, 89, 180, 0, 58, 4, 100, 90, 181, 0, 58, 89, 62, 50, 58, 4, 43, 29, 1, 83, 29, 158, 0, 34]
abbrev dktJ30_poll_1 : List UInt8 := dkwJ30_poll_1 ++ dktJ30_poll_2
def dkwJ30_poll_0 : List UInt8 := [42, 180, 0, 17, 89, 76, 3, 50, 89, 77, 198, 0, 69, 42, 89, 180, 0, 93, 4, 96, 181, 0, 93, 43]
abbrev dktJ30_poll_0 : List UInt8 := dkwJ30_poll_0 ++ dktJ30_poll_1
theorem dksJ30_poll_0 : cJ30_poll.data.toList.drop 0 = dktJ30_poll_0 := by decide +kernel
theorem dksJ30_poll_1 : cJ30_poll.data.toList.drop 24 = dktJ30_poll_1 := dk_seg dksJ30_poll_0 24 rfl rfl
theorem dksJ30_poll_2 : cJ30_poll.data.toList.drop 48 = dktJ30_poll_2 := dk_seg dksJ30_poll_1 24 rfl rfl
theorem dksJ30_poll_3 : cJ30_poll.data.toList.drop 72 = dktJ30_poll_3 := dk_seg dksJ30_poll_2 24 rfl rfl
theorem dJ30_poll_0 : decode cJ30_poll 0 = .ok (.aload_n 0, 1) := dk_42 (dk_at dksJ30_poll_0 0 rfl rfl)
theorem dJ30_poll_1 : decode cJ30_poll 1 = .ok (.getfield 17, 3) := dk_180 0 17 (dk_at dksJ30_poll_0 1 rfl rfl)
theorem dJ30_poll_4 : decode cJ30_poll 4 = .ok (.dup, 1) := dk_89 (dk_at dksJ30_poll_0 4 rfl rfl)
theorem dJ30_poll_5 : decode cJ30_poll 5 = .ok (.astore_n 1, 1) := dk_76 (dk_at dksJ30_poll_0 5 rfl rfl)
theorem dJ30_poll_6 : decode cJ30_poll 6 = .ok (.iconst 0, 1) := dk_3 (dk_at dksJ30_poll_0 6 rfl rfl)
theorem dJ30_poll_7 : decode cJ30_poll 7 = .ok (.aaload, 1) := dk_50 (dk_at dksJ30_poll_0 7 rfl rfl)
theorem dJ30_poll_8 : decode cJ30_poll 8 = .ok (.dup, 1) := dk_89 (dk_at dksJ30_poll_0 8 rfl rfl)
theorem dJ30_poll_9 : decode cJ30_poll 9 = .ok (.astore_n 2, 1) := dk_77 (dk_at dksJ30_poll_0 9 rfl rfl)
theorem dJ30_poll_10 : decode cJ30_poll 10 = .ok (.ifnull 69, 3) := dk_198 0 69 (dk_at dksJ30_poll_0 10 rfl rfl)
theorem dJ30_poll_13 : decode cJ30_poll 13 = .ok (.aload_n 0, 1) := dk_42 (dk_at dksJ30_poll_0 13 rfl rfl)
theorem dJ30_poll_14 : decode cJ30_poll 14 = .ok (.dup, 1) := dk_89 (dk_at dksJ30_poll_0 14 rfl rfl)
theorem dJ30_poll_15 : decode cJ30_poll 15 = .ok (.getfield 93, 3) := dk_180 0 93 (dk_at dksJ30_poll_0 15 rfl rfl)
theorem dJ30_poll_18 : decode cJ30_poll 18 = .ok (.iconst 1, 1) := dk_4 (dk_at dksJ30_poll_0 18 rfl rfl)
theorem dJ30_poll_19 : decode cJ30_poll 19 = .ok (.iadd, 1) := dk_96 (dk_at dksJ30_poll_0 19 rfl rfl)
theorem dJ30_poll_20 : decode cJ30_poll 20 = .ok (.putfield 93, 3) := dk_181 0 93 (dk_at dksJ30_poll_0 20 rfl rfl)
theorem dJ30_poll_23 : decode cJ30_poll 23 = .ok (.aload_n 1, 1) := dk_43 (dk_at dksJ30_poll_0 23 rfl rfl)
theorem dJ30_poll_24 : decode cJ30_poll 24 = .ok (.aload_n 0, 1) := dk_42 (dk_at dksJ30_poll_1 0 rfl rfl)
theorem dJ30_poll_25 : decode cJ30_poll 25 = .ok (.dup, 1) := dk_89 (dk_at dksJ30_poll_1 1 rfl rfl)
theorem dJ30_poll_26 : decode cJ30_poll 26 = .ok (.getfield 58, 3) := dk_180 0 58 (dk_at dksJ30_poll_1 2 rfl rfl)
theorem dJ30_poll_29 : decode cJ30_poll 29 = .ok (.iconst 1, 1) := dk_4 (dk_at dksJ30_poll_1 5 rfl rfl)
theorem dJ30_poll_30 : decode cJ30_poll 30 = .ok (.isub, 1) := dk_100 (dk_at dksJ30_poll_1 6 rfl rfl)
theorem dJ30_poll_31 : decode cJ30_poll 31 = .ok (.dup_x1, 1) := dk_90 (dk_at dksJ30_poll_1 7 rfl rfl)
theorem dJ30_poll_32 : decode cJ30_poll 32 = .ok (.putfield 58, 3) := dk_181 0 58 (dk_at dksJ30_poll_1 8 rfl rfl)
theorem dJ30_poll_35 : decode cJ30_poll 35 = .ok (.dup, 1) := dk_89 (dk_at dksJ30_poll_1 11 rfl rfl)
theorem dJ30_poll_36 : decode cJ30_poll 36 = .ok (.istore_n 3, 1) := dk_62 (dk_at dksJ30_poll_1 12 rfl rfl)
theorem dJ30_poll_37 : decode cJ30_poll 37 = .ok (.aaload, 1) := dk_50 (dk_at dksJ30_poll_1 13 rfl rfl)
theorem dJ30_poll_38 : decode cJ30_poll 38 = .ok (.astore 4, 2) := dk_58 4 (dk_at dksJ30_poll_1 14 rfl rfl)
theorem dJ30_poll_40 : decode cJ30_poll 40 = .ok (.aload_n 1, 1) := dk_43 (dk_at dksJ30_poll_1 16 rfl rfl)
theorem dJ30_poll_41 : decode cJ30_poll 41 = .ok (.iload_n 3, 1) := dk_29 (dk_at dksJ30_poll_1 17 rfl rfl)
theorem dJ30_poll_42 : decode cJ30_poll 42 = .ok (.aconst_null, 1) := dk_1 (dk_at dksJ30_poll_1 18 rfl rfl)
theorem dJ30_poll_43 : decode cJ30_poll 43 = .ok (.aastore, 1) := dk_83 (dk_at dksJ30_poll_1 19 rfl rfl)
theorem dJ30_poll_44 : decode cJ30_poll 44 = .ok (.iload_n 3, 1) := dk_29 (dk_at dksJ30_poll_1 20 rfl rfl)
theorem dJ30_poll_45 : decode cJ30_poll 45 = .ok (.ifCond .le 34, 3) := dk_158 0 34 (dk_at dksJ30_poll_1 21 rfl rfl)
theorem dJ30_poll_48 : decode cJ30_poll 48 = .ok (.aload_n 0, 1) := dk_42 (dk_at dksJ30_poll_2 0 rfl rfl)
theorem dJ30_poll_49 : decode cJ30_poll 49 = .ok (.getfield 21, 3) := dk_180 0 21 (dk_at dksJ30_poll_2 1 rfl rfl)
theorem dJ30_poll_52 : decode cJ30_poll 52 = .ok (.dup, 1) := dk_89 (dk_at dksJ30_poll_2 4 rfl rfl)
theorem dJ30_poll_53 : decode cJ30_poll 53 = .ok (.astore 5, 2) := dk_58 5 (dk_at dksJ30_poll_2 5 rfl rfl)
theorem dJ30_poll_55 : decode cJ30_poll 55 = .ok (.ifnonnull 14, 3) := dk_199 0 14 (dk_at dksJ30_poll_2 7 rfl rfl)
theorem dJ30_poll_58 : decode cJ30_poll 58 = .ok (.iconst 0, 1) := dk_3 (dk_at dksJ30_poll_2 10 rfl rfl)
theorem dJ30_poll_59 : decode cJ30_poll 59 = .ok (.aload 4, 2) := dk_25 4 (dk_at dksJ30_poll_2 11 rfl rfl)
theorem dJ30_poll_61 : decode cJ30_poll 61 = .ok (.aload_n 1, 1) := dk_43 (dk_at dksJ30_poll_2 13 rfl rfl)
theorem dJ30_poll_62 : decode cJ30_poll 62 = .ok (.iload_n 3, 1) := dk_29 (dk_at dksJ30_poll_2 14 rfl rfl)
theorem dJ30_poll_63 : decode cJ30_poll 63 = .ok (.invokestatic 125, 3) := dk_184 0 125 (dk_at dksJ30_poll_2 15 rfl rfl)
theorem dJ30_poll_66 : decode cJ30_poll 66 = .ok (.goto 13, 3) := dk_167 0 13 (dk_at dksJ30_poll_2 18 rfl rfl)
theorem dJ30_poll_69 : decode cJ30_poll 69 = .ok (.iconst 0, 1) := dk_3 (dk_at dksJ30_poll_2 21 rfl rfl)
theorem dJ30_poll_70 : decode cJ30_poll 70 = .ok (.aload 4, 2) := dk_25 4 (dk_at dksJ30_poll_2 22 rfl rfl)
theorem dJ30_poll_72 : decode cJ30_poll 72 = .ok (.aload_n 1, 1) := dk_43 (dk_at dksJ30_poll_3 0 rfl rfl)
theorem dJ30_poll_73 : decode cJ30_poll 73 = .ok (.iload_n 3, 1) := dk_29 (dk_at dksJ30_poll_3 1 rfl rfl)
theorem dJ30_poll_74 : decode cJ30_poll 74 = .ok (.aload 5, 2) := dk_25 5 (dk_at dksJ30_poll_3 2 rfl rfl)
theorem dJ30_poll_76 : decode cJ30_poll 76 = .ok (.invokestatic 129, 3) := dk_184 0 129 (dk_at dksJ30_poll_3 4 rfl rfl)
theorem dJ30_poll_79 : decode cJ30_poll 79 = .ok (.aload_n 2, 1) := dk_44 (dk_at dksJ30_poll_3 7 rfl rfl)
theorem dJ30_poll_80 : decode cJ30_poll 80 = .ok (.areturn, 1) := dk_176 (dk_at dksJ30_poll_3 8 rfl rfl)
def dkwJ30_siftDownComparable_4 : List UInt8 := [25, 4, 83, 177]
abbrev dktJ30_siftDownComparable_4 : List UInt8 := dkwJ30_siftDownComparable_4 ++ []
def dkwJ30_siftDownComparable_3 : List UInt8 := [185, 0, 146, 2, 0, 157, 0, 6, 167, 0, 14, 44, 26, 25, 7, 83, 21, 6, 59, 167, 255, 176, 44, 26]
abbrev dktJ30_siftDownComparable_3 : List UInt8 := dkwJ30_siftDownComparable_3 ++ dktJ30_siftDownComparable_4
def dkwJ30_siftDownComparable_2 : List UInt8 := [21, 8, 50, 185, 0, 146, 2, 0, 158, 0, 12, 44, 21, 8, 89, 54, 6, 50, 58, 7, 25, 4, 25, 7]
abbrev dktJ30_siftDownComparable_2 : List UInt8 := dkwJ30_siftDownComparable_2 ++ dktJ30_siftDownComparable_3
def dkwJ30_siftDownComparable_1 : List UInt8 := [44, 21, 6, 50, 58, 7, 21, 6, 4, 96, 54, 8, 21, 8, 29, 162, 0, 29, 25, 7, 192, 0, 144, 44]
abbrev dktJ30_siftDownComparable_1 : List UInt8 := dkwJ30_siftDownComparable_1 ++ dktJ30_siftDownComparable_2
def dkwJ30_siftDownComparable_0 : List UInt8 := [43, 192, 0, 144, 58, 4, 29, 4, 124, 54, 5, 26, 21, 5, 162, 0, 80, 26, 4, 120, 4, 96, 54, 6]
abbrev dktJ30_siftDownComparable_0 : List UInt8 := dkwJ30_siftDownComparable_0 ++ dktJ30_siftDownComparable_1
theorem dksJ30_siftDownComparable_0 : cJ30_siftDownComparable.data.toList.drop 0 = dktJ30_siftDownComparable_0 := by decide +kernel
theorem dksJ30_siftDownComparable_1 : cJ30_siftDownComparable.data.toList.drop 24 = dktJ30_siftDownComparable_1 := dk_seg dksJ30_siftDownComparable_0 24 rfl rfl
theorem dksJ30_siftDownComparable_2 : cJ30_siftDownComparable.data.toList.drop 48 = dktJ30_siftDownComparable_2 := dk_seg dksJ30_siftDownComparable_1 24 rfl rfl
theorem dksJ30_siftDownComparable_3 : cJ30_siftDownComparable.data.toList.drop 72 = dktJ30_siftDownComparable_3 := dk_seg dksJ30_siftDownComparable_2 24 rfl rfl
theorem dksJ30_siftDownComparable_4 : cJ30_siftDownComparable.data.toList.drop 96 = dktJ30_siftDownComparable_4 := dk_seg dksJ30_siftDownComparable_3 24 rfl rfl
theorem dJ30_siftDownComparable_0 : decode cJ30_siftDownComparable 0 = .ok (.aload_n 1, 1) := dk_43 (dk_at dksJ30_siftDownComparable_0 0 rfl rfl)
theorem dJ30_siftDownComparable_1 : decode cJ30_siftDownComparable 1 = .ok (.checkcast 144, 3) := dk_192 0 144 (dk_at dksJ30_siftDownComparable_0 1 rfl rfl)
theorem dJ30_siftDownComparable_4 : decode cJ30_siftDownComparable 4 = .ok (.astore 4, 2) := dk_58 4 (dk_at dksJ30_siftDownComparable_0 4 rfl rfl)
theorem dJ30_siftDownComparable_6 : decode cJ30_siftDownComparable 6 = .ok (.iload_n 3, 1) := dk_29 (dk_at dksJ30_siftDownComparable_0 6 rfl rfl)
theorem dJ30_siftDownComparable_7 : decode cJ30_siftDownComparable 7 = .ok (.iconst 1, 1) := dk_4 (dk_at dksJ30_siftDownComparable_0 7 rfl rfl)
theorem dJ30_siftDownComparable_8 : decode cJ30_siftDownComparable 8 = .ok (.iushr, 1) := dk_124 (dk_at dksJ30_siftDownComparable_0 8 rfl rfl)
theorem dJ30_siftDownComparable_9 : decode cJ30_siftDownComparable 9 = .ok (.istore 5, 2) := dk_54 5 (dk_at dksJ30_siftDownComparable_0 9 rfl rfl)
theorem dJ30_siftDownComparable_11 : decode cJ30_siftDownComparable 11 = .ok (.iload_n 0, 1) := dk_26 (dk_at dksJ30_siftDownComparable_0 11 rfl rfl)
theorem dJ30_siftDownComparable_12 : decode cJ30_siftDownComparable 12 = .ok (.iload 5, 2) := dk_21 5 (dk_at dksJ30_siftDownComparable_0 12 rfl rfl)
theorem dJ30_siftDownComparable_14 : decode cJ30_siftDownComparable 14 = .ok (.if_icmp .ge 80, 3) := dk_162 0 80 (dk_at dksJ30_siftDownComparable_0 14 rfl rfl)
theorem dJ30_siftDownComparable_17 : decode cJ30_siftDownComparable 17 = .ok (.iload_n 0, 1) := dk_26 (dk_at dksJ30_siftDownComparable_0 17 rfl rfl)
theorem dJ30_siftDownComparable_18 : decode cJ30_siftDownComparable 18 = .ok (.iconst 1, 1) := dk_4 (dk_at dksJ30_siftDownComparable_0 18 rfl rfl)
theorem dJ30_siftDownComparable_19 : decode cJ30_siftDownComparable 19 = .ok (.ishl, 1) := dk_120 (dk_at dksJ30_siftDownComparable_0 19 rfl rfl)
theorem dJ30_siftDownComparable_20 : decode cJ30_siftDownComparable 20 = .ok (.iconst 1, 1) := dk_4 (dk_at dksJ30_siftDownComparable_0 20 rfl rfl)
theorem dJ30_siftDownComparable_21 : decode cJ30_siftDownComparable 21 = .ok (.iadd, 1) := dk_96 (dk_at dksJ30_siftDownComparable_0 21 rfl rfl)
theorem dJ30_siftDownComparable_22 : decode cJ30_siftDownComparable 22 = .ok (.istore 6, 2) := dk_54 6 (dk_at dksJ30_siftDownComparable_0 22 rfl rfl)
theorem dJ30_siftDownComparable_24 : decode cJ30_siftDownComparable 24 = .ok (.aload_n 2, 1) := dk_44 (dk_at dksJ30_siftDownComparable_1 0 rfl rfl)
theorem dJ30_siftDownComparable_25 : decode cJ30_siftDownComparable 25 = .ok (.iload 6, 2) := dk_21 6 (dk_at dksJ30_siftDownComparable_1 1 rfl rfl)
theorem dJ30_siftDownComparable_27 : decode cJ30_siftDownComparable 27 = .ok (.aaload, 1) := dk_50 (dk_at dksJ30_siftDownComparable_1 3 rfl rfl)
theorem dJ30_siftDownComparable_28 : decode cJ30_siftDownComparable 28 = .ok (.astore 7, 2) := dk_58 7 (dk_at dksJ30_siftDownComparable_1 4 rfl rfl)
theorem dJ30_siftDownComparable_30 : decode cJ30_siftDownComparable 30 = .ok (.iload 6, 2) := dk_21 6 (dk_at dksJ30_siftDownComparable_1 6 rfl rfl)
theorem dJ30_siftDownComparable_32 : decode cJ30_siftDownComparable 32 = .ok (.iconst 1, 1) := dk_4 (dk_at dksJ30_siftDownComparable_1 8 rfl rfl)
theorem dJ30_siftDownComparable_33 : decode cJ30_siftDownComparable 33 = .ok (.iadd, 1) := dk_96 (dk_at dksJ30_siftDownComparable_1 9 rfl rfl)
theorem dJ30_siftDownComparable_34 : decode cJ30_siftDownComparable 34 = .ok (.istore 8, 2) := dk_54 8 (dk_at dksJ30_siftDownComparable_1 10 rfl rfl)
theorem dJ30_siftDownComparable_36 : decode cJ30_siftDownComparable 36 = .ok (.iload 8, 2) := dk_21 8 (dk_at dksJ30_siftDownComparable_1 12 rfl rfl)
theorem dJ30_siftDownComparable_38 : decode cJ30_siftDownComparable 38 = .ok (.iload_n 3, 1) := dk_29 (dk_at dksJ30_siftDownComparable_1 14 rfl rfl)
theorem dJ30_siftDownComparable_39 : decode cJ30_siftDownComparable 39 = .ok (.if_icmp .ge 29, 3) := dk_162 0 29 (dk_at dksJ30_siftDownComparable_1 15 rfl rfl)
theorem dJ30_siftDownComparable_42 : decode cJ30_siftDownComparable 42 = .ok (.aload 7, 2) := dk_25 7 (dk_at dksJ30_siftDownComparable_1 18 rfl rfl)
theorem dJ30_siftDownComparable_44 : decode cJ30_siftDownComparable 44 = .ok (.checkcast 144, 3) := dk_192 0 144 (dk_at dksJ30_siftDownComparable_1 20 rfl rfl)
theorem dJ30_siftDownComparable_47 : decode cJ30_siftDownComparable 47 = .ok (.aload_n 2, 1) := dk_44 (dk_at dksJ30_siftDownComparable_1 23 rfl rfl)
theorem dJ30_siftDownComparable_48 : decode cJ30_siftDownComparable 48 = .ok (.iload 8, 2) := dk_21 8 (dk_at dksJ30_siftDownComparable_2 0 rfl rfl)
theorem dJ30_siftDownComparable_50 : decode cJ30_siftDownComparable 50 = .ok (.aaload, 1) := dk_50 (dk_at dksJ30_siftDownComparable_2 2 rfl rfl)
theorem dJ30_siftDownComparable_51 : decode cJ30_siftDownComparable 51 = .ok (.invokeinterface 146 2, 5) := by decide +kernel
theorem dJ30_siftDownComparable_56 : decode cJ30_siftDownComparable 56 = .ok (.ifCond .le 12, 3) := dk_158 0 12 (dk_at dksJ30_siftDownComparable_2 8 rfl rfl)
theorem dJ30_siftDownComparable_59 : decode cJ30_siftDownComparable 59 = .ok (.aload_n 2, 1) := dk_44 (dk_at dksJ30_siftDownComparable_2 11 rfl rfl)
theorem dJ30_siftDownComparable_60 : decode cJ30_siftDownComparable 60 = .ok (.iload 8, 2) := dk_21 8 (dk_at dksJ30_siftDownComparable_2 12 rfl rfl)
theorem dJ30_siftDownComparable_62 : decode cJ30_siftDownComparable 62 = .ok (.dup, 1) := dk_89 (dk_at dksJ30_siftDownComparable_2 14 rfl rfl)
theorem dJ30_siftDownComparable_63 : decode cJ30_siftDownComparable 63 = .ok (.istore 6, 2) := dk_54 6 (dk_at dksJ30_siftDownComparable_2 15 rfl rfl)
theorem dJ30_siftDownComparable_65 : decode cJ30_siftDownComparable 65 = .ok (.aaload, 1) := dk_50 (dk_at dksJ30_siftDownComparable_2 17 rfl rfl)
theorem dJ30_siftDownComparable_66 : decode cJ30_siftDownComparable 66 = .ok (.astore 7, 2) := dk_58 7 (dk_at dksJ30_siftDownComparable_2 18 rfl rfl)
theorem dJ30_siftDownComparable_68 : decode cJ30_siftDownComparable 68 = .ok (.aload 4, 2) := dk_25 4 (dk_at dksJ30_siftDownComparable_2 20 rfl rfl)
theorem dJ30_siftDownComparable_70 : decode cJ30_siftDownComparable 70 = .ok (.aload 7, 2) := dk_25 7 (dk_at dksJ30_siftDownComparable_2 22 rfl rfl)
theorem dJ30_siftDownComparable_72 : decode cJ30_siftDownComparable 72 = .ok (.invokeinterface 146 2, 5) := by decide +kernel
theorem dJ30_siftDownComparable_77 : decode cJ30_siftDownComparable 77 = .ok (.ifCond .gt 6, 3) := dk_157 0 6 (dk_at dksJ30_siftDownComparable_3 5 rfl rfl)
theorem dJ30_siftDownComparable_80 : decode cJ30_siftDownComparable 80 = .ok (.goto 14, 3) := dk_167 0 14 (dk_at dksJ30_siftDownComparable_3 8 rfl rfl)
theorem dJ30_siftDownComparable_83 : decode cJ30_siftDownComparable 83 = .ok (.aload_n 2, 1) := dk_44 (dk_at dksJ30_siftDownComparable_3 11 rfl rfl)
theorem dJ30_siftDownComparable_84 : decode cJ30_siftDownComparable 84 = .ok (.iload_n 0, 1) := dk_26 (dk_at dksJ30_siftDownComparable_3 12 rfl rfl)
theorem dJ30_siftDownComparable_85 : decode cJ30_siftDownComparable 85 = .ok (.aload 7, 2) := dk_25 7 (dk_at dksJ30_siftDownComparable_3 13 rfl rfl)
theorem dJ30_siftDownComparable_87 : decode cJ30_siftDownComparable 87 = .ok (.aastore, 1) := dk_83 (dk_at dksJ30_siftDownComparable_3 15 rfl rfl)
theorem dJ30_siftDownComparable_88 : decode cJ30_siftDownComparable 88 = .ok (.iload 6, 2) := dk_21 6 (dk_at dksJ30_siftDownComparable_3 16 rfl rfl)
theorem dJ30_siftDownComparable_90 : decode cJ30_siftDownComparable 90 = .ok (.istore_n 0, 1) := dk_59 (dk_at dksJ30_siftDownComparable_3 18 rfl rfl)
theorem dJ30_siftDownComparable_91 : decode cJ30_siftDownComparable 91 = .ok (.goto (-80), 3) := dk_167 255 176 (dk_at dksJ30_siftDownComparable_3 19 rfl rfl)
theorem dJ30_siftDownComparable_94 : decode cJ30_siftDownComparable 94 = .ok (.aload_n 2, 1) := dk_44 (dk_at dksJ30_siftDownComparable_3 22 rfl rfl)
theorem dJ30_siftDownComparable_95 : decode cJ30_siftDownComparable 95 = .ok (.iload_n 0, 1) := dk_26 (dk_at dksJ30_siftDownComparable_3 23 rfl rfl)
theorem dJ30_siftDownComparable_96 : decode cJ30_siftDownComparable 96 = .ok (.aload 4, 2) := dk_25 4 (dk_at dksJ30_siftDownComparable_4 0 rfl rfl)
theorem dJ30_siftDownComparable_98 : decode cJ30_siftDownComparable 98 = .ok (.aastore, 1) := dk_83 (dk_at dksJ30_siftDownComparable_4 2 rfl rfl)
theorem dJ30_siftDownComparable_99 : decode cJ30_siftDownComparable 99 = .ok (.return_, 1) := dk_177 (dk_at dksJ30_siftDownComparable_4 3 rfl rfl)
def dkwJ30_siftDownUsingComparator_4 : List UInt8 := [43, 83, 177]
abbrev dktJ30_siftDownUsingComparator_4 : List UInt8 := dkwJ30_siftDownUsingComparator_4 ++ []
def dkwJ30_siftDownUsingComparator_3 : List UInt8 := [185, 0, 149, 3, 0, 157, 0, 6, 167, 0, 14, 44, 26, 25, 7, 83, 21, 6, 59, 167, 255, 176, 44, 26]
abbrev dktJ30_siftDownUsingComparator_3 : List UInt8 := dkwJ30_siftDownUsingComparator_3 ++ dktJ30_siftDownUsingComparator_4
def dkwJ30_siftDownUsingComparator_2 : List UInt8 := [185, 0, 149, 3, 0, 158, 0, 12, 44, 21, 8, 89, 54, 6, 50, 58, 7, 25, 4, 43, 25, 7]
abbrev dktJ30_siftDownUsingComparator_2 : List UInt8 := dkwJ30_siftDownUsingComparator_2 ++ dktJ30_siftDownUsingComparator_3
def dkwJ30_siftDownUsingComparator_1 : List UInt8 := [21, 6, 4, 96, 54, 8, 21, 8, 29, 162, 0, 28, 25, 4, 25, 7, 44, 21, 8, 50]
abbrev dktJ30_siftDownUsingComparator_1 : List UInt8 := dkwJ30_siftDownUsingComparator_1 ++ dktJ30_siftDownUsingComparator_2
def dkwJ30_siftDownUsingComparator_0 : List UInt8 := [29, 4, 124, 54, 5, 26, 21, 5, 162, 0, 80, 26, 4, 120, 4, 96, 54, 6, 44, 21, 6, 50, 58, 7]
abbrev dktJ30_siftDownUsingComparator_0 : List UInt8 := dkwJ30_siftDownUsingComparator_0 ++ dktJ30_siftDownUsingComparator_1
theorem dksJ30_siftDownUsingComparator_0 : cJ30_siftDownUsingComparator.data.toList.drop 0 = dktJ30_siftDownUsingComparator_0 := by decide +kernel
theorem dksJ30_siftDownUsingComparator_1 : cJ30_siftDownUsingComparator.data.toList.drop 24 = dktJ30_siftDownUsingComparator_1 := dk_seg dksJ30_siftDownUsingComparator_0 24 rfl rfl
theorem dksJ30_siftDownUsingComparator_2 : cJ30_siftDownUsingComparator.data.toList.drop 44 = dktJ30_siftDownUsingComparator_2 := dk_seg dksJ30_siftDownUsingComparator_1 20 rfl rfl
theorem dksJ30_siftDownUsingComparator_3 : cJ30_siftDownUsingComparator.data.toList.drop 66 = dktJ30_siftDownUsingComparator_3 := dk_seg dksJ30_siftDownUsingComparator_2 22 rfl rfl
theorem dksJ30_siftDownUsingComparator_4 : cJ30_siftDownUsingComparator.data.toList.drop 90 = dktJ30_siftDownUsingComparator_4 := dk_seg dksJ30_siftDownUsingComparator_3 24 rfl rfl
theorem dJ30_siftDownUsingComparator_0 : decode cJ30_siftDownUsingComparator 0 = .ok (.iload_n 3, 1) := dk_29 (dk_at dksJ30_siftDownUsingComparator_0 0 rfl rfl)
theorem dJ30_siftDownUsingComparator_1 : decode cJ30_siftDownUsingComparator 1 = .ok (.iconst 1, 1) := dk_4 (dk_at dksJ30_siftDownUsingComparator_0 1 rfl rfl)
theorem dJ30_siftDownUsingComparator_2 : decode cJ30_siftDownUsingComparator 2 = .ok (.iushr, 1) := dk_124 (dk_at dksJ30_siftDownUsingComparator_0 2 rfl rfl)
theorem dJ30_siftDownUsingComparator_3 : decode cJ30_siftDownUsingComparator 3 = .ok (.istore 5, 2) := dk_54 5 (dk_at dksJ30_siftDownUsingComparator_0 3 rfl rfl)
theorem dJ30_siftDownUsingComparator_5 : decode cJ30_siftDownUsingComparator 5 = .ok (.iload_n 0, 1) := dk_26 (dk_at dksJ30_siftDownUsingComparator_0 5 rfl rfl)
theorem dJ30_siftDownUsingComparator_6 : decode cJ30_siftDownUsingComparator 6 = .ok (.iload 5, 2) := dk_21 5 (dk_at dksJ30_siftDownUsingComparator_0 6 rfl rfl)
theorem dJ30_siftDownUsingComparator_8 : decode cJ30_siftDownUsingComparator 8 = .ok (.if_icmp .ge 80, 3) := dk_162 0 80 (dk_at dksJ30_siftDownUsingComparator_0 8 rfl rfl)
theorem dJ30_siftDownUsingComparator_11 : decode cJ30_siftDownUsingComparator 11 = .ok (.iload_n 0, 1) := dk_26 (dk_at dksJ30_siftDownUsingComparator_0 11 rfl rfl)
theorem dJ30_siftDownUsingComparator_12 : decode cJ30_siftDownUsingComparator 12 = .ok (.iconst 1, 1) := dk_4 (dk_at dksJ30_siftDownUsingComparator_0 12 rfl rfl)
theorem dJ30_siftDownUsingComparator_13 : decode cJ30_siftDownUsingComparator 13 = .ok (.ishl, 1) := dk_120 (dk_at dksJ30_siftDownUsingComparator_0 13 rfl rfl)
theorem dJ30_siftDownUsingComparator_14 : decode cJ30_siftDownUsingComparator 14 = .ok (.iconst 1, 1) := dk_4 (dk_at dksJ30_siftDownUsingComparator_0 14 rfl rfl)
theorem dJ30_siftDownUsingComparator_15 : decode cJ30_siftDownUsingComparator 15 = .ok (.iadd, 1) := dk_96 (dk_at dksJ30_siftDownUsingComparator_0 15 rfl rfl)
theorem dJ30_siftDownUsingComparator_16 : decode cJ30_siftDownUsingComparator 16 = .ok (.istore 6, 2) := dk_54 6 (dk_at dksJ30_siftDownUsingComparator_0 16 rfl rfl)
theorem dJ30_siftDownUsingComparator_18 : decode cJ30_siftDownUsingComparator 18 = .ok (.aload_n 2, 1) := dk_44 (dk_at dksJ30_siftDownUsingComparator_0 18 rfl rfl)
theorem dJ30_siftDownUsingComparator_19 : decode cJ30_siftDownUsingComparator 19 = .ok (.iload 6, 2) := dk_21 6 (dk_at dksJ30_siftDownUsingComparator_0 19 rfl rfl)
theorem dJ30_siftDownUsingComparator_21 : decode cJ30_siftDownUsingComparator 21 = .ok (.aaload, 1) := dk_50 (dk_at dksJ30_siftDownUsingComparator_0 21 rfl rfl)
theorem dJ30_siftDownUsingComparator_22 : decode cJ30_siftDownUsingComparator 22 = .ok (.astore 7, 2) := dk_58 7 (dk_at dksJ30_siftDownUsingComparator_0 22 rfl rfl)
theorem dJ30_siftDownUsingComparator_24 : decode cJ30_siftDownUsingComparator 24 = .ok (.iload 6, 2) := dk_21 6 (dk_at dksJ30_siftDownUsingComparator_1 0 rfl rfl)
theorem dJ30_siftDownUsingComparator_26 : decode cJ30_siftDownUsingComparator 26 = .ok (.iconst 1, 1) := dk_4 (dk_at dksJ30_siftDownUsingComparator_1 2 rfl rfl)
theorem dJ30_siftDownUsingComparator_27 : decode cJ30_siftDownUsingComparator 27 = .ok (.iadd, 1) := dk_96 (dk_at dksJ30_siftDownUsingComparator_1 3 rfl rfl)
theorem dJ30_siftDownUsingComparator_28 : decode cJ30_siftDownUsingComparator 28 = .ok (.istore 8, 2) := dk_54 8 (dk_at dksJ30_siftDownUsingComparator_1 4 rfl rfl)
theorem dJ30_siftDownUsingComparator_30 : decode cJ30_siftDownUsingComparator 30 = .ok (.iload 8, 2) := dk_21 8 (dk_at dksJ30_siftDownUsingComparator_1 6 rfl rfl)
theorem dJ30_siftDownUsingComparator_32 : decode cJ30_siftDownUsingComparator 32 = .ok (.iload_n 3, 1) := dk_29 (dk_at dksJ30_siftDownUsingComparator_1 8 rfl rfl)
theorem dJ30_siftDownUsingComparator_33 : decode cJ30_siftDownUsingComparator 33 = .ok (.if_icmp .ge 28, 3) := dk_162 0 28 (dk_at dksJ30_siftDownUsingComparator_1 9 rfl rfl)
theorem dJ30_siftDownUsingComparator_36 : decode cJ30_siftDownUsingComparator 36 = .ok (.aload 4, 2) := dk_25 4 (dk_at dksJ30_siftDownUsingComparator_1 12 rfl rfl)
theorem dJ30_siftDownUsingComparator_38 : decode cJ30_siftDownUsingComparator 38 = .ok (.aload 7, 2) := dk_25 7 (dk_at dksJ30_siftDownUsingComparator_1 14 rfl rfl)
theorem dJ30_siftDownUsingComparator_40 : decode cJ30_siftDownUsingComparator 40 = .ok (.aload_n 2, 1) := dk_44 (dk_at dksJ30_siftDownUsingComparator_1 16 rfl rfl)
theorem dJ30_siftDownUsingComparator_41 : decode cJ30_siftDownUsingComparator 41 = .ok (.iload 8, 2) := dk_21 8 (dk_at dksJ30_siftDownUsingComparator_1 17 rfl rfl)
theorem dJ30_siftDownUsingComparator_43 : decode cJ30_siftDownUsingComparator 43 = .ok (.aaload, 1) := dk_50 (dk_at dksJ30_siftDownUsingComparator_1 19 rfl rfl)
theorem dJ30_siftDownUsingComparator_44 : decode cJ30_siftDownUsingComparator 44 = .ok (.invokeinterface 149 3, 5) := by decide +kernel
theorem dJ30_siftDownUsingComparator_49 : decode cJ30_siftDownUsingComparator 49 = .ok (.ifCond .le 12, 3) := dk_158 0 12 (dk_at dksJ30_siftDownUsingComparator_2 5 rfl rfl)
theorem dJ30_siftDownUsingComparator_52 : decode cJ30_siftDownUsingComparator 52 = .ok (.aload_n 2, 1) := dk_44 (dk_at dksJ30_siftDownUsingComparator_2 8 rfl rfl)
theorem dJ30_siftDownUsingComparator_53 : decode cJ30_siftDownUsingComparator 53 = .ok (.iload 8, 2) := dk_21 8 (dk_at dksJ30_siftDownUsingComparator_2 9 rfl rfl)
theorem dJ30_siftDownUsingComparator_55 : decode cJ30_siftDownUsingComparator 55 = .ok (.dup, 1) := dk_89 (dk_at dksJ30_siftDownUsingComparator_2 11 rfl rfl)
theorem dJ30_siftDownUsingComparator_56 : decode cJ30_siftDownUsingComparator 56 = .ok (.istore 6, 2) := dk_54 6 (dk_at dksJ30_siftDownUsingComparator_2 12 rfl rfl)
theorem dJ30_siftDownUsingComparator_58 : decode cJ30_siftDownUsingComparator 58 = .ok (.aaload, 1) := dk_50 (dk_at dksJ30_siftDownUsingComparator_2 14 rfl rfl)
theorem dJ30_siftDownUsingComparator_59 : decode cJ30_siftDownUsingComparator 59 = .ok (.astore 7, 2) := dk_58 7 (dk_at dksJ30_siftDownUsingComparator_2 15 rfl rfl)
theorem dJ30_siftDownUsingComparator_61 : decode cJ30_siftDownUsingComparator 61 = .ok (.aload 4, 2) := dk_25 4 (dk_at dksJ30_siftDownUsingComparator_2 17 rfl rfl)
theorem dJ30_siftDownUsingComparator_63 : decode cJ30_siftDownUsingComparator 63 = .ok (.aload_n 1, 1) := dk_43 (dk_at dksJ30_siftDownUsingComparator_2 19 rfl rfl)
theorem dJ30_siftDownUsingComparator_64 : decode cJ30_siftDownUsingComparator 64 = .ok (.aload 7, 2) := dk_25 7 (dk_at dksJ30_siftDownUsingComparator_2 20 rfl rfl)
theorem dJ30_siftDownUsingComparator_66 : decode cJ30_siftDownUsingComparator 66 = .ok (.invokeinterface 149 3, 5) := by decide +kernel
theorem dJ30_siftDownUsingComparator_71 : decode cJ30_siftDownUsingComparator 71 = .ok (.ifCond .gt 6, 3) := dk_157 0 6 (dk_at dksJ30_siftDownUsingComparator_3 5 rfl rfl)
theorem dJ30_siftDownUsingComparator_74 : decode cJ30_siftDownUsingComparator 74 = .ok (.goto 14, 3) := dk_167 0 14 (dk_at dksJ30_siftDownUsingComparator_3 8 rfl rfl)
theorem dJ30_siftDownUsingComparator_77 : decode cJ30_siftDownUsingComparator 77 = .ok (.aload_n 2, 1) := dk_44 (dk_at dksJ30_siftDownUsingComparator_3 11 rfl rfl)
theorem dJ30_siftDownUsingComparator_78 : decode cJ30_siftDownUsingComparator 78 = .ok (.iload_n 0, 1) := dk_26 (dk_at dksJ30_siftDownUsingComparator_3 12 rfl rfl)
theorem dJ30_siftDownUsingComparator_79 : decode cJ30_siftDownUsingComparator 79 = .ok (.aload 7, 2) := dk_25 7 (dk_at dksJ30_siftDownUsingComparator_3 13 rfl rfl)
theorem dJ30_siftDownUsingComparator_81 : decode cJ30_siftDownUsingComparator 81 = .ok (.aastore, 1) := dk_83 (dk_at dksJ30_siftDownUsingComparator_3 15 rfl rfl)
theorem dJ30_siftDownUsingComparator_82 : decode cJ30_siftDownUsingComparator 82 = .ok (.iload 6, 2) := dk_21 6 (dk_at dksJ30_siftDownUsingComparator_3 16 rfl rfl)
theorem dJ30_siftDownUsingComparator_84 : decode cJ30_siftDownUsingComparator 84 = .ok (.istore_n 0, 1) := dk_59 (dk_at dksJ30_siftDownUsingComparator_3 18 rfl rfl)
theorem dJ30_siftDownUsingComparator_85 : decode cJ30_siftDownUsingComparator 85 = .ok (.goto (-80), 3) := dk_167 255 176 (dk_at dksJ30_siftDownUsingComparator_3 19 rfl rfl)
theorem dJ30_siftDownUsingComparator_88 : decode cJ30_siftDownUsingComparator 88 = .ok (.aload_n 2, 1) := dk_44 (dk_at dksJ30_siftDownUsingComparator_3 22 rfl rfl)
theorem dJ30_siftDownUsingComparator_89 : decode cJ30_siftDownUsingComparator 89 = .ok (.iload_n 0, 1) := dk_26 (dk_at dksJ30_siftDownUsingComparator_3 23 rfl rfl)
theorem dJ30_siftDownUsingComparator_90 : decode cJ30_siftDownUsingComparator 90 = .ok (.aload_n 1, 1) := dk_43 (dk_at dksJ30_siftDownUsingComparator_4 0 rfl rfl)
theorem dJ30_siftDownUsingComparator_91 : decode cJ30_siftDownUsingComparator 91 = .ok (.aastore, 1) := dk_83 (dk_at dksJ30_siftDownUsingComparator_4 1 rfl rfl)
theorem dJ30_siftDownUsingComparator_92 : decode cJ30_siftDownUsingComparator 92 = .ok (.return_, 1) := dk_177 (dk_at dksJ30_siftDownUsingComparator_4 2 rfl rfl)
def dkwJ31_isValidCodePoint_0 : List UInt8 := [26, 16, 16, 124, 60, 27, 16, 17, 162, 0, 7, 4, 167, 0, 4, 3, 172]
abbrev dktJ31_isValidCodePoint_0 : List UInt8 := dkwJ31_isValidCodePoint_0 ++ []
theorem dksJ31_isValidCodePoint_0 : cJ31_isValidCodePoint.data.toList.drop 0 = dktJ31_isValidCodePoint_0 := by decide +kernel
theorem dJ31_isValidCodePoint_0 : decode cJ31_isValidCodePoint 0 = .ok (.iload_n 0, 1) := dk_26 (dk_at dksJ31_isValidCodePoint_0 0 rfl rfl)
theorem dJ31_isValidCodePoint_1 : decode cJ31_isValidCodePoint 1 = .ok (.bipush 16, 2) := dk_16 16 (dk_at dksJ31_isValidCodePoint_0 1 rfl rfl)
theorem dJ31_isValidCodePoint_3 : decode cJ31_isValidCodePoint 3 = .ok (.iushr, 1) := dk_124 (dk_at dksJ31_isValidCodePoint_0 3 rfl rfl)
theorem dJ31_isValidCodePoint_4 : decode cJ31_isValidCodePoint 4 = .ok (.istore_n 1, 1) := dk_60 (dk_at dksJ31_isValidCodePoint_0 4 rfl rfl)
theorem dJ31_isValidCodePoint_5 : decode cJ31_isValidCodePoint 5 = .ok (.iload_n 1, 1) := dk_27 (dk_at dksJ31_isValidCodePoint_0 5 rfl rfl)
theorem dJ31_isValidCodePoint_6 : decode cJ31_isValidCodePoint 6 = .ok (.bipush 17, 2) := dk_16 17 (dk_at dksJ31_isValidCodePoint_0 6 rfl rfl)
theorem dJ31_isValidCodePoint_8 : decode cJ31_isValidCodePoint 8 = .ok (.if_icmp .ge 7, 3) := dk_162 0 7 (dk_at dksJ31_isValidCodePoint_0 8 rfl rfl)
theorem dJ31_isValidCodePoint_11 : decode cJ31_isValidCodePoint 11 = .ok (.iconst 1, 1) := dk_4 (dk_at dksJ31_isValidCodePoint_0 11 rfl rfl)
theorem dJ31_isValidCodePoint_12 : decode cJ31_isValidCodePoint 12 = .ok (.goto 4, 3) := dk_167 0 4 (dk_at dksJ31_isValidCodePoint_0 12 rfl rfl)
theorem dJ31_isValidCodePoint_15 : decode cJ31_isValidCodePoint 15 = .ok (.iconst 0, 1) := dk_3 (dk_at dksJ31_isValidCodePoint_0 15 rfl rfl)
theorem dJ31_isValidCodePoint_16 : decode cJ31_isValidCodePoint 16 = .ok (.ireturn, 1) := dk_172 (dk_at dksJ31_isValidCodePoint_0 16 rfl rfl)
def dkwJ31_highSurrogate_0 : List UInt8 := [26, 16, 10, 124, 18, 110, 96, 146, 172]
abbrev dktJ31_highSurrogate_0 : List UInt8 := dkwJ31_highSurrogate_0 ++ []
theorem dksJ31_highSurrogate_0 : cJ31_highSurrogate.data.toList.drop 0 = dktJ31_highSurrogate_0 := by decide +kernel
theorem dJ31_highSurrogate_0 : decode cJ31_highSurrogate 0 = .ok (.iload_n 0, 1) := dk_26 (dk_at dksJ31_highSurrogate_0 0 rfl rfl)
theorem dJ31_highSurrogate_1 : decode cJ31_highSurrogate 1 = .ok (.bipush 10, 2) := dk_16 10 (dk_at dksJ31_highSurrogate_0 1 rfl rfl)
theorem dJ31_highSurrogate_3 : decode cJ31_highSurrogate 3 = .ok (.iushr, 1) := dk_124 (dk_at dksJ31_highSurrogate_0 3 rfl rfl)
theorem dJ31_highSurrogate_4 : decode cJ31_highSurrogate 4 = .ok (.ldc 110, 2) := dk_18 110 (dk_at dksJ31_highSurrogate_0 4 rfl rfl)
theorem dJ31_highSurrogate_6 : decode cJ31_highSurrogate 6 = .ok (.iadd, 1) := dk_96 (dk_at dksJ31_highSurrogate_0 6 rfl rfl)
theorem dJ31_highSurrogate_7 : decode cJ31_highSurrogate 7 = .ok (.i2c, 1) := dk_146 (dk_at dksJ31_highSurrogate_0 7 rfl rfl)
theorem dJ31_highSurrogate_8 : decode cJ31_highSurrogate 8 = .ok (.ireturn, 1) := dk_172 (dk_at dksJ31_highSurrogate_0 8 rfl rfl)
def dkwJ31_lowSurrogate_0 : List UInt8 := [26, 17, 3, 255, 126, 18, 76, 96, 146, 172]
abbrev dktJ31_lowSurrogate_0 : List UInt8 := dkwJ31_lowSurrogate_0 ++ []
theorem dksJ31_lowSurrogate_0 : cJ31_lowSurrogate.data.toList.drop 0 = dktJ31_lowSurrogate_0 := by decide +kernel
theorem dJ31_lowSurrogate_0 : decode cJ31_lowSurrogate 0 = .ok (.iload_n 0, 1) := dk_26 (dk_at dksJ31_lowSurrogate_0 0 rfl rfl)
theorem dJ31_lowSurrogate_1 : decode cJ31_lowSurrogate 1 = .ok (.sipush 1023, 3) := dk_17 3 255 (dk_at dksJ31_lowSurrogate_0 1 rfl rfl)
theorem dJ31_lowSurrogate_4 : decode cJ31_lowSurrogate 4 = .ok (.iand, 1) := dk_126 (dk_at dksJ31_lowSurrogate_0 4 rfl rfl)
theorem dJ31_lowSurrogate_5 : decode cJ31_lowSurrogate 5 = .ok (.ldc 76, 2) := dk_18 76 (dk_at dksJ31_lowSurrogate_0 5 rfl rfl)
theorem dJ31_lowSurrogate_7 : decode cJ31_lowSurrogate 7 = .ok (.iadd, 1) := dk_96 (dk_at dksJ31_lowSurrogate_0 7 rfl rfl)
theorem dJ31_lowSurrogate_8 : decode cJ31_lowSurrogate 8 = .ok (.i2c, 1) := dk_146 (dk_at dksJ31_lowSurrogate_0 8 rfl rfl)
theorem dJ31_lowSurrogate_9 : decode cJ31_lowSurrogate 9 = .ok (.ireturn, 1) := dk_172 (dk_at dksJ31_lowSurrogate_0 9 rfl rfl)
theorem dJ32_init_0 : decode cJ32_init 0 = .ok (.return_, 1) := by decide +kernel
def dkwJ4_bitCount_2 : List UInt8 := [26, 16, 63, 126, 172]
abbrev dktJ4_bitCount_2 : List UInt8 := dkwJ4_bitCount_2 ++ []
def dkwJ4_bitCount_1 : List UInt8 := [26, 26, 7, 124, 96, 19, 1, 11, 126, 59, 26, 26, 16, 8, 124, 96, 59, 26, 26, 16, 16, 124, 96, 59]
abbrev dktJ4_bitCount_1 : List UInt8 := dkwJ4_bitCount_1 ++ dktJ4_bitCount_2
def dkwJ4_bitCount_0 : List UInt8 := [26, 26, 4, 124, 19, 1, 9, 126, 100, 59, 26, 19, 1, 10, 126, 26, 5, 124, 19, 1, 10, 126, 96, 59]
abbrev dktJ4_bitCount_0 : List UInt8 := dkwJ4_bitCount_0 ++ dktJ4_bitCount_1
theorem dksJ4_bitCount_0 : cJ4_bitCount.data.toList.drop 0 = dktJ4_bitCount_0 := by decide +kernel
theorem dksJ4_bitCount_1 : cJ4_bitCount.data.toList.drop 24 = dktJ4_bitCount_1 := dk_seg dksJ4_bitCount_0 24 rfl rfl
theorem dksJ4_bitCount_2 : cJ4_bitCount.data.toList.drop 48 = dktJ4_bitCount_2 := dk_seg dksJ4_bitCount_1 24 rfl rfl
theorem dJ4_bitCount_0 : decode cJ4_bitCount 0 = .ok (.iload_n 0, 1) := dk_26 (dk_at dksJ4_bitCount_0 0 rfl rfl)
theorem dJ4_bitCount_1 : decode cJ4_bitCount 1 = .ok (.iload_n 0, 1) := dk_26 (dk_at dksJ4_bitCount_0 1 rfl rfl)
theorem dJ4_bitCount_2 : decode cJ4_bitCount 2 = .ok (.iconst 1, 1) := dk_4 (dk_at dksJ4_bitCount_0 2 rfl rfl)
theorem dJ4_bitCount_3 : decode cJ4_bitCount 3 = .ok (.iushr, 1) := dk_124 (dk_at dksJ4_bitCount_0 3 rfl rfl)
theorem dJ4_bitCount_4 : decode cJ4_bitCount 4 = .ok (.ldc_w 265, 3) := dk_19 1 9 (dk_at dksJ4_bitCount_0 4 rfl rfl)
theorem dJ4_bitCount_7 : decode cJ4_bitCount 7 = .ok (.iand, 1) := dk_126 (dk_at dksJ4_bitCount_0 7 rfl rfl)
theorem dJ4_bitCount_8 : decode cJ4_bitCount 8 = .ok (.isub, 1) := dk_100 (dk_at dksJ4_bitCount_0 8 rfl rfl)
theorem dJ4_bitCount_9 : decode cJ4_bitCount 9 = .ok (.istore_n 0, 1) := dk_59 (dk_at dksJ4_bitCount_0 9 rfl rfl)
theorem dJ4_bitCount_10 : decode cJ4_bitCount 10 = .ok (.iload_n 0, 1) := dk_26 (dk_at dksJ4_bitCount_0 10 rfl rfl)
theorem dJ4_bitCount_11 : decode cJ4_bitCount 11 = .ok (.ldc_w 266, 3) := dk_19 1 10 (dk_at dksJ4_bitCount_0 11 rfl rfl)
theorem dJ4_bitCount_14 : decode cJ4_bitCount 14 = .ok (.iand, 1) := dk_126 (dk_at dksJ4_bitCount_0 14 rfl rfl)
theorem dJ4_bitCount_15 : decode cJ4_bitCount 15 = .ok (.iload_n 0, 1) := dk_26 (dk_at dksJ4_bitCount_0 15 rfl rfl)
theorem dJ4_bitCount_16 : decode cJ4_bitCount 16 = .ok (.iconst 2, 1) := dk_5 (dk_at dksJ4_bitCount_0 16 rfl rfl)
theorem dJ4_bitCount_17 : decode cJ4_bitCount 17 = .ok (.iushr, 1) := dk_124 (dk_at dksJ4_bitCount_0 17 rfl rfl)
theorem dJ4_bitCount_18 : decode cJ4_bitCount 18 = .ok (.ldc_w 266, 3) := dk_19 1 10 (dk_at dksJ4_bitCount_0 18 rfl rfl)
theorem dJ4_bitCount_21 : decode cJ4_bitCount 21 = .ok (.iand, 1) := dk_126 (dk_at dksJ4_bitCount_0 21 rfl rfl)
theorem dJ4_bitCount_22 : decode cJ4_bitCount 22 = .ok (.iadd, 1) := dk_96 (dk_at dksJ4_bitCount_0 22 rfl rfl)
theorem dJ4_bitCount_23 : decode cJ4_bitCount 23 = .ok (.istore_n 0, 1) := dk_59 (dk_at dksJ4_bitCount_0 23 rfl rfl)
theorem dJ4_bitCount_24 : decode cJ4_bitCount 24 = .ok (.iload_n 0, 1) := dk_26 (dk_at dksJ4_bitCount_1 0 rfl rfl)
theorem dJ4_bitCount_25 : decode cJ4_bitCount 25 = .ok (.iload_n 0, 1) := dk_26 (dk_at dksJ4_bitCount_1 1 rfl rfl)
theorem dJ4_bitCount_26 : decode cJ4_bitCount 26 = .ok (.iconst 4, 1) := dk_7 (dk_at dksJ4_bitCount_1 2 rfl rfl)
theorem dJ4_bitCount_27 : decode cJ4_bitCount 27 = .ok (.iushr, 1) := dk_124 (dk_at dksJ4_bitCount_1 3 rfl rfl)
theorem dJ4_bitCount_28 : decode cJ4_bitCount 28 = .ok (.iadd, 1) := dk_96 (dk_at dksJ4_bitCount_1 4 rfl rfl)
theorem dJ4_bitCount_29 : decode cJ4_bitCount 29 = .ok (.ldc_w 267, 3) := dk_19 1 11 (dk_at dksJ4_bitCount_1 5 rfl rfl)
theorem dJ4_bitCount_32 : decode cJ4_bitCount 32 = .ok (.iand, 1) := dk_126 (dk_at dksJ4_bitCount_1 8 rfl rfl)
theorem dJ4_bitCount_33 : decode cJ4_bitCount 33 = .ok (.istore_n 0, 1) := dk_59 (dk_at dksJ4_bitCount_1 9 rfl rfl)
theorem dJ4_bitCount_34 : decode cJ4_bitCount 34 = .ok (.iload_n 0, 1) := dk_26 (dk_at dksJ4_bitCount_1 10 rfl rfl)
theorem dJ4_bitCount_35 : decode cJ4_bitCount 35 = .ok (.iload_n 0, 1) := dk_26 (dk_at dksJ4_bitCount_1 11 rfl rfl)
theorem dJ4_bitCount_36 : decode cJ4_bitCount 36 = .ok (.bipush 8, 2) := dk_16 8 (dk_at dksJ4_bitCount_1 12 rfl rfl)
theorem dJ4_bitCount_38 : decode cJ4_bitCount 38 = .ok (.iushr, 1) := dk_124 (dk_at dksJ4_bitCount_1 14 rfl rfl)
theorem dJ4_bitCount_39 : decode cJ4_bitCount 39 = .ok (.iadd, 1) := dk_96 (dk_at dksJ4_bitCount_1 15 rfl rfl)
theorem dJ4_bitCount_40 : decode cJ4_bitCount 40 = .ok (.istore_n 0, 1) := dk_59 (dk_at dksJ4_bitCount_1 16 rfl rfl)
theorem dJ4_bitCount_41 : decode cJ4_bitCount 41 = .ok (.iload_n 0, 1) := dk_26 (dk_at dksJ4_bitCount_1 17 rfl rfl)
theorem dJ4_bitCount_42 : decode cJ4_bitCount 42 = .ok (.iload_n 0, 1) := dk_26 (dk_at dksJ4_bitCount_1 18 rfl rfl)
theorem dJ4_bitCount_43 : decode cJ4_bitCount 43 = .ok (.bipush 16, 2) := dk_16 16 (dk_at dksJ4_bitCount_1 19 rfl rfl)
theorem dJ4_bitCount_45 : decode cJ4_bitCount 45 = .ok (.iushr, 1) := dk_124 (dk_at dksJ4_bitCount_1 21 rfl rfl)
theorem dJ4_bitCount_46 : decode cJ4_bitCount 46 = .ok (.iadd, 1) := dk_96 (dk_at dksJ4_bitCount_1 22 rfl rfl)
theorem dJ4_bitCount_47 : decode cJ4_bitCount 47 = .ok (.istore_n 0, 1) := dk_59 (dk_at dksJ4_bitCount_1 23 rfl rfl)
theorem dJ4_bitCount_48 : decode cJ4_bitCount 48 = .ok (.iload_n 0, 1) := dk_26 (dk_at dksJ4_bitCount_2 0 rfl rfl)
theorem dJ4_bitCount_49 : decode cJ4_bitCount 49 = .ok (.bipush 63, 2) := dk_16 63 (dk_at dksJ4_bitCount_2 1 rfl rfl)
theorem dJ4_bitCount_51 : decode cJ4_bitCount 51 = .ok (.iand, 1) := dk_126 (dk_at dksJ4_bitCount_2 3 rfl rfl)
theorem dJ4_bitCount_52 : decode cJ4_bitCount 52 = .ok (.ireturn, 1) := dk_172 (dk_at dksJ4_bitCount_2 4 rfl rfl)
def dkwJ4_compareTo_0 : List UInt8 := [42, 43, 192, 0, 1, 182, 1, 28, 172]
abbrev dktJ4_compareTo_0 : List UInt8 := dkwJ4_compareTo_0 ++ []
theorem dksJ4_compareTo_0 : cJ4_compareTo.data.toList.drop 0 = dktJ4_compareTo_0 := by decide +kernel
theorem dJ4_compareTo_0 : decode cJ4_compareTo 0 = .ok (.aload_n 0, 1) := dk_42 (dk_at dksJ4_compareTo_0 0 rfl rfl)
theorem dJ4_compareTo_1 : decode cJ4_compareTo 1 = .ok (.aload_n 1, 1) := dk_43 (dk_at dksJ4_compareTo_0 1 rfl rfl)
theorem dJ4_compareTo_2 : decode cJ4_compareTo 2 = .ok (.checkcast 1, 3) := dk_192 0 1 (dk_at dksJ4_compareTo_0 2 rfl rfl)
theorem dJ4_compareTo_5 : decode cJ4_compareTo 5 = .ok (.invokevirtual 284, 3) := dk_182 1 28 (dk_at dksJ4_compareTo_0 5 rfl rfl)
theorem dJ4_compareTo_8 : decode cJ4_compareTo 8 = .ok (.ireturn, 1) := dk_172 (dk_at dksJ4_compareTo_0 8 rfl rfl)
def dkwJ4_compareTo_2_0 : List UInt8 := [42, 180, 0, 205, 43, 180, 0, 205, 184, 1, 3, 172]
abbrev dktJ4_compareTo_2_0 : List UInt8 := dkwJ4_compareTo_2_0 ++ []
theorem dksJ4_compareTo_2_0 : cJ4_compareTo_2.data.toList.drop 0 = dktJ4_compareTo_2_0 := by decide +kernel
theorem dJ4_compareTo_2_0 : decode cJ4_compareTo_2 0 = .ok (.aload_n 0, 1) := dk_42 (dk_at dksJ4_compareTo_2_0 0 rfl rfl)
theorem dJ4_compareTo_2_1 : decode cJ4_compareTo_2 1 = .ok (.getfield 205, 3) := dk_180 0 205 (dk_at dksJ4_compareTo_2_0 1 rfl rfl)
theorem dJ4_compareTo_2_4 : decode cJ4_compareTo_2 4 = .ok (.aload_n 1, 1) := dk_43 (dk_at dksJ4_compareTo_2_0 4 rfl rfl)
theorem dJ4_compareTo_2_5 : decode cJ4_compareTo_2 5 = .ok (.getfield 205, 3) := dk_180 0 205 (dk_at dksJ4_compareTo_2_0 5 rfl rfl)
theorem dJ4_compareTo_2_8 : decode cJ4_compareTo_2 8 = .ok (.invokestatic 259, 3) := dk_184 1 3 (dk_at dksJ4_compareTo_2_0 8 rfl rfl)
theorem dJ4_compareTo_2_11 : decode cJ4_compareTo_2 11 = .ok (.ireturn, 1) := dk_172 (dk_at dksJ4_compareTo_2_0 11 rfl rfl)
def dkwJ4_compare_0 : List UInt8 := [26, 27, 162, 0, 7, 2, 167, 0, 13, 26, 27, 160, 0, 7, 3, 167, 0, 4, 4, 172]
abbrev dktJ4_compare_0 : List UInt8 := dkwJ4_compare_0 ++ []
theorem dksJ4_compare_0 : cJ4_compare.data.toList.drop 0 = dktJ4_compare_0 := by decide +kernel
theorem dJ4_compare_0 : decode cJ4_compare 0 = .ok (.iload_n 0, 1) := dk_26 (dk_at dksJ4_compare_0 0 rfl rfl)
theorem dJ4_compare_1 : decode cJ4_compare 1 = .ok (.iload_n 1, 1) := dk_27 (dk_at dksJ4_compare_0 1 rfl rfl)
theorem dJ4_compare_2 : decode cJ4_compare 2 = .ok (.if_icmp .ge 7, 3) := dk_162 0 7 (dk_at dksJ4_compare_0 2 rfl rfl)
theorem dJ4_compare_5 : decode cJ4_compare 5 = .ok (.iconst (-1), 1) := dk_2 (dk_at dksJ4_compare_0 5 rfl rfl)
theorem dJ4_compare_6 : decode cJ4_compare 6 = .ok (.goto 13, 3) := dk_167 0 13 (dk_at dksJ4_compare_0 6 rfl rfl)
theorem dJ4_compare_9 : decode cJ4_compare 9 = .ok (.iload_n 0, 1) := dk_26 (dk_at dksJ4_compare_0 9 rfl rfl)
theorem dJ4_compare_10 : decode cJ4_compare 10 = .ok (.iload_n 1, 1) := dk_27 (dk_at dksJ4_compare_0 10 rfl rfl)
theorem dJ4_compare_11 : decode cJ4_compare 11 = .ok (.if_icmp .ne 7, 3) := dk_160 0 7 (dk_at dksJ4_compare_0 11 rfl rfl)
theorem dJ4_compare_14 : decode cJ4_compare 14 = .ok (.iconst 0, 1) := dk_3 (dk_at dksJ4_compare_0 14 rfl rfl)
theorem dJ4_compare_15 : decode cJ4_compare 15 = .ok (.goto 4, 3) := dk_167 0 4 (dk_at dksJ4_compare_0 15 rfl rfl)
theorem dJ4_compare_18 : decode cJ4_compare 18 = .ok (.iconst 1, 1) := dk_4 (dk_at dksJ4_compare_0 18 rfl rfl)
theorem dJ4_compare_19 : decode cJ4_compare 19 = .ok (.ireturn, 1) := dk_172 (dk_at dksJ4_compare_0 19 rfl rfl)
def dkwJ4_numberOfLeadingZeros_3 : List UInt8 := [5, 124, 59, 27, 26, 4, 124, 100, 172]
abbrev dktJ4_numberOfLeadingZeros_3 : List UInt8 := dkwJ4_numberOfLeadingZeros_3 ++ []
def dkwJ4_numberOfLeadingZeros_2 : List UInt8 := [124, 59, 26, 16, 16, 161, 0, 10, 132, 1, 252, 26, 7, 124, 59, 26, 7, 161, 0, 10, 132, 1, 254, 26]
abbrev dktJ4_numberOfLeadingZeros_2 : List UInt8 := dkwJ4_numberOfLeadingZeros_2 ++ dktJ4_numberOfLeadingZeros_3
def dkwJ4_numberOfLeadingZeros_1 : List UInt8 := [161, 0, 11, 132, 1, 240, 26, 16, 16, 124, 59, 26, 17, 1, 0, 161, 0, 11, 132, 1, 248, 26, 16, 8]
abbrev dktJ4_numberOfLeadingZeros_1 : List UInt8 := dkwJ4_numberOfLeadingZeros_1 ++ dktJ4_numberOfLeadingZeros_2
def dkwJ4_numberOfLeadingZeros_0 : List UInt8 := [26, 157, 0, 14, 26, 154, 0, 8, 16, 32, 167, 0, 4, 3, 172, 16, 31, 60, 26, 19, 1, 8]
abbrev dktJ4_numberOfLeadingZeros_0 : List UInt8 := dkwJ4_numberOfLeadingZeros_0 ++ dktJ4_numberOfLeadingZeros_1
theorem dksJ4_numberOfLeadingZeros_0 : cJ4_numberOfLeadingZeros.data.toList.drop 0 = dktJ4_numberOfLeadingZeros_0 := by decide +kernel
theorem dksJ4_numberOfLeadingZeros_1 : cJ4_numberOfLeadingZeros.data.toList.drop 22 = dktJ4_numberOfLeadingZeros_1 := dk_seg dksJ4_numberOfLeadingZeros_0 22 rfl rfl
theorem dksJ4_numberOfLeadingZeros_2 : cJ4_numberOfLeadingZeros.data.toList.drop 46 = dktJ4_numberOfLeadingZeros_2 := dk_seg dksJ4_numberOfLeadingZeros_1 24 rfl rfl
theorem dksJ4_numberOfLeadingZeros_3 : cJ4_numberOfLeadingZeros.data.toList.drop 70 = dktJ4_numberOfLeadingZeros_3 := dk_seg dksJ4_numberOfLeadingZeros_2 24 rfl rfl
theorem dJ4_numberOfLeadingZeros_0 : decode cJ4_numberOfLeadingZeros 0 = .ok (.iload_n 0, 1) := dk_26 (dk_at dksJ4_numberOfLeadingZeros_0 0 rfl rfl)
theorem dJ4_numberOfLeadingZeros_1 : decode cJ4_numberOfLeadingZeros 1 = .ok (.ifCond .gt 14, 3) := dk_157 0 14 (dk_at dksJ4_numberOfLeadingZeros_0 1 rfl rfl)
theorem dJ4_numberOfLeadingZeros_4 : decode cJ4_numberOfLeadingZeros 4 = .ok (.iload_n 0, 1) := dk_26 (dk_at dksJ4_numberOfLeadingZeros_0 4 rfl rfl)
theorem dJ4_numberOfLeadingZeros_5 : decode cJ4_numberOfLeadingZeros 5 = .ok (.ifCond .ne 8, 3) := dk_154 0 8 (dk_at dksJ4_numberOfLeadingZeros_0 5 rfl rfl)
theorem dJ4_numberOfLeadingZeros_8 : decode cJ4_numberOfLeadingZeros 8 = .ok (.bipush 32, 2) := dk_16 32 (dk_at dksJ4_numberOfLeadingZeros_0 8 rfl rfl)
theorem dJ4_numberOfLeadingZeros_10 : decode cJ4_numberOfLeadingZeros 10 = .ok (.goto 4, 3) := dk_167 0 4 (dk_at dksJ4_numberOfLeadingZeros_0 10 rfl rfl)
theorem dJ4_numberOfLeadingZeros_13 : decode cJ4_numberOfLeadingZeros 13 = .ok (.iconst 0, 1) := dk_3 (dk_at dksJ4_numberOfLeadingZeros_0 13 rfl rfl)
theorem dJ4_numberOfLeadingZeros_14 : decode cJ4_numberOfLeadingZeros 14 = .ok (.ireturn, 1) := dk_172 (dk_at dksJ4_numberOfLeadingZeros_0 14 rfl rfl)
theorem dJ4_numberOfLeadingZeros_15 : decode cJ4_numberOfLeadingZeros 15 = .ok (.bipush 31, 2) := dk_16 31 (dk_at dksJ4_numberOfLeadingZeros_0 15 rfl rfl)
theorem dJ4_numberOfLeadingZeros_17 : decode cJ4_numberOfLeadingZeros 17 = .ok (.istore_n 1, 1) := dk_60 (dk_at dksJ4_numberOfLeadingZeros_0 17 rfl rfl)
theorem dJ4_numberOfLeadingZeros_18 : decode cJ4_numberOfLeadingZeros 18 = .ok (.iload_n 0, 1) := dk_26 (dk_at dksJ4_numberOfLeadingZeros_0 18 rfl rfl)
theorem dJ4_numberOfLeadingZeros_19 : decode cJ4_numberOfLeadingZeros 19 = .ok (.ldc_w 264, 3) := dk_19 1 8 (dk_at dksJ4_numberOfLeadingZeros_0 19 rfl rfl)
theorem dJ4_numberOfLeadingZeros_22 : decode cJ4_numberOfLeadingZeros 22 = .ok (.if_icmp .lt 11, 3) := dk_161 0 11 (dk_at dksJ4_numberOfLeadingZeros_1 0 rfl rfl)
theorem dJ4_numberOfLeadingZeros_25 : decode cJ4_numberOfLeadingZeros 25 = .ok (.iinc 1 (-16), 3) := dk_132 1 240 (dk_at dksJ4_numberOfLeadingZeros_1 3 rfl rfl)
theorem dJ4_numberOfLeadingZeros_28 : decode cJ4_numberOfLeadingZeros 28 = .ok (.iload_n 0, 1) := dk_26 (dk_at dksJ4_numberOfLeadingZeros_1 6 rfl rfl)
theorem dJ4_numberOfLeadingZeros_29 : decode cJ4_numberOfLeadingZeros 29 = .ok (.bipush 16, 2) := dk_16 16 (dk_at dksJ4_numberOfLeadingZeros_1 7 rfl rfl)
theorem dJ4_numberOfLeadingZeros_31 : decode cJ4_numberOfLeadingZeros 31 = .ok (.iushr, 1) := dk_124 (dk_at dksJ4_numberOfLeadingZeros_1 9 rfl rfl)
theorem dJ4_numberOfLeadingZeros_32 : decode cJ4_numberOfLeadingZeros 32 = .ok (.istore_n 0, 1) := dk_59 (dk_at dksJ4_numberOfLeadingZeros_1 10 rfl rfl)
theorem dJ4_numberOfLeadingZeros_33 : decode cJ4_numberOfLeadingZeros 33 = .ok (.iload_n 0, 1) := dk_26 (dk_at dksJ4_numberOfLeadingZeros_1 11 rfl rfl)
theorem dJ4_numberOfLeadingZeros_34 : decode cJ4_numberOfLeadingZeros 34 = .ok (.sipush 256, 3) := dk_17 1 0 (dk_at dksJ4_numberOfLeadingZeros_1 12 rfl rfl)
theorem dJ4_numberOfLeadingZeros_37 : decode cJ4_numberOfLeadingZeros 37 = .ok (.if_icmp .lt 11, 3) := dk_161 0 11 (dk_at dksJ4_numberOfLeadingZeros_1 15 rfl rfl)
theorem dJ4_numberOfLeadingZeros_40 : decode cJ4_numberOfLeadingZeros 40 = .ok (.iinc 1 (-8), 3) := dk_132 1 248 (dk_at dksJ4_numberOfLeadingZeros_1 18 rfl rfl)
theorem dJ4_numberOfLeadingZeros_43 : decode cJ4_numberOfLeadingZeros 43 = .ok (.iload_n 0, 1) := dk_26 (dk_at dksJ4_numberOfLeadingZeros_1 21 rfl rfl)
theorem dJ4_numberOfLeadingZeros_44 : decode cJ4_numberOfLeadingZeros 44 = .ok (.bipush 8, 2) := dk_16 8 (dk_at dksJ4_numberOfLeadingZeros_1 22 rfl rfl)
theorem dJ4_numberOfLeadingZeros_46 : decode cJ4_numberOfLeadingZeros 46 = .ok (.iushr, 1) := dk_124 (dk_at dksJ4_numberOfLeadingZeros_2 0 rfl rfl)
theorem dJ4_numberOfLeadingZeros_47 : decode cJ4_numberOfLeadingZeros 47 = .ok (.istore_n 0, 1) := dk_59 (dk_at dksJ4_numberOfLeadingZeros_2 1 rfl rfl)
theorem dJ4_numberOfLeadingZeros_48 : decode cJ4_numberOfLeadingZeros 48 = .ok (.iload_n 0, 1) := dk_26 (dk_at dksJ4_numberOfLeadingZeros_2 2 rfl rfl)
theorem dJ4_numberOfLeadingZeros_49 : decode cJ4_numberOfLeadingZeros 49 = .ok (.bipush 16, 2) := dk_16 16 (dk_at dksJ4_numberOfLeadingZeros_2 3 rfl rfl)
theorem dJ4_numberOfLeadingZeros_51 : decode cJ4_numberOfLeadingZeros 51 = .ok (.if_icmp .lt 10, 3) := dk_161 0 10 (dk_at dksJ4_numberOfLeadingZeros_2 5 rfl rfl)
theorem dJ4_numberOfLeadingZeros_54 : decode cJ4_numberOfLeadingZeros 54 = .ok (.iinc 1 (-4), 3) := dk_132 1 252 (dk_at dksJ4_numberOfLeadingZeros_2 8 rfl rfl)
theorem dJ4_numberOfLeadingZeros_57 : decode cJ4_numberOfLeadingZeros 57 = .ok (.iload_n 0, 1) := dk_26 (dk_at dksJ4_numberOfLeadingZeros_2 11 rfl rfl)
theorem dJ4_numberOfLeadingZeros_58 : decode cJ4_numberOfLeadingZeros 58 = .ok (.iconst 4, 1) := dk_7 (dk_at dksJ4_numberOfLeadingZeros_2 12 rfl rfl)
theorem dJ4_numberOfLeadingZeros_59 : decode cJ4_numberOfLeadingZeros 59 = .ok (.iushr, 1) := dk_124 (dk_at dksJ4_numberOfLeadingZeros_2 13 rfl rfl)
theorem dJ4_numberOfLeadingZeros_60 : decode cJ4_numberOfLeadingZeros 60 = .ok (.istore_n 0, 1) := dk_59 (dk_at dksJ4_numberOfLeadingZeros_2 14 rfl rfl)
theorem dJ4_numberOfLeadingZeros_61 : decode cJ4_numberOfLeadingZeros 61 = .ok (.iload_n 0, 1) := dk_26 (dk_at dksJ4_numberOfLeadingZeros_2 15 rfl rfl)
theorem dJ4_numberOfLeadingZeros_62 : decode cJ4_numberOfLeadingZeros 62 = .ok (.iconst 4, 1) := dk_7 (dk_at dksJ4_numberOfLeadingZeros_2 16 rfl rfl)
theorem dJ4_numberOfLeadingZeros_63 : decode cJ4_numberOfLeadingZeros 63 = .ok (.if_icmp .lt 10, 3) := dk_161 0 10 (dk_at dksJ4_numberOfLeadingZeros_2 17 rfl rfl)
theorem dJ4_numberOfLeadingZeros_66 : decode cJ4_numberOfLeadingZeros 66 = .ok (.iinc 1 (-2), 3) := dk_132 1 254 (dk_at dksJ4_numberOfLeadingZeros_2 20 rfl rfl)
theorem dJ4_numberOfLeadingZeros_69 : decode cJ4_numberOfLeadingZeros 69 = .ok (.iload_n 0, 1) := dk_26 (dk_at dksJ4_numberOfLeadingZeros_2 23 rfl rfl)
theorem dJ4_numberOfLeadingZeros_70 : decode cJ4_numberOfLeadingZeros 70 = .ok (.iconst 2, 1) := dk_5 (dk_at dksJ4_numberOfLeadingZeros_3 0 rfl rfl)
theorem dJ4_numberOfLeadingZeros_71 : decode cJ4_numberOfLeadingZeros 71 = .ok (.iushr, 1) := dk_124 (dk_at dksJ4_numberOfLeadingZeros_3 1 rfl rfl)
theorem dJ4_numberOfLeadingZeros_72 : decode cJ4_numberOfLeadingZeros 72 = .ok (.istore_n 0, 1) := dk_59 (dk_at dksJ4_numberOfLeadingZeros_3 2 rfl rfl)
theorem dJ4_numberOfLeadingZeros_73 : decode cJ4_numberOfLeadingZeros 73 = .ok (.iload_n 1, 1) := dk_27 (dk_at dksJ4_numberOfLeadingZeros_3 3 rfl rfl)
theorem dJ4_numberOfLeadingZeros_74 : decode cJ4_numberOfLeadingZeros 74 = .ok (.iload_n 0, 1) := dk_26 (dk_at dksJ4_numberOfLeadingZeros_3 4 rfl rfl)
theorem dJ4_numberOfLeadingZeros_75 : decode cJ4_numberOfLeadingZeros 75 = .ok (.iconst 1, 1) := dk_4 (dk_at dksJ4_numberOfLeadingZeros_3 5 rfl rfl)
theorem dJ4_numberOfLeadingZeros_76 : decode cJ4_numberOfLeadingZeros 76 = .ok (.iushr, 1) := dk_124 (dk_at dksJ4_numberOfLeadingZeros_3 6 rfl rfl)
theorem dJ4_numberOfLeadingZeros_77 : decode cJ4_numberOfLeadingZeros 77 = .ok (.isub, 1) := dk_100 (dk_at dksJ4_numberOfLeadingZeros_3 7 rfl rfl)
theorem dJ4_numberOfLeadingZeros_78 : decode cJ4_numberOfLeadingZeros 78 = .ok (.ireturn, 1) := dk_172 (dk_at dksJ4_numberOfLeadingZeros_3 8 rfl rfl)
def dkwJ4_numberOfTrailingZeros_3 : List UInt8 := [5, 124, 59, 27, 26, 4, 124, 96, 172]
abbrev dktJ4_numberOfTrailingZeros_3 : List UInt8 := dkwJ4_numberOfTrailingZeros_3 ++ []
def dkwJ4_numberOfTrailingZeros_2 : List UInt8 := [124, 59, 26, 16, 16, 164, 0, 10, 132, 1, 4, 26, 7, 124, 59, 26, 7, 164, 0, 10, 132, 1, 2, 26]
abbrev dktJ4_numberOfTrailingZeros_2 : List UInt8 := dkwJ4_numberOfTrailingZeros_2 ++ dktJ4_numberOfTrailingZeros_3
def dkwJ4_numberOfTrailingZeros_1 : List UInt8 := [164, 0, 11, 132, 1, 16, 26, 16, 16, 124, 59, 26, 17, 1, 0, 164, 0, 11, 132, 1, 8, 26, 16, 8]
abbrev dktJ4_numberOfTrailingZeros_1 : List UInt8 := dkwJ4_numberOfTrailingZeros_1 ++ dktJ4_numberOfTrailingZeros_2
def dkwJ4_numberOfTrailingZeros_0 : List UInt8 := [26, 2, 130, 26, 4, 100, 126, 59, 26, 157, 0, 8, 26, 16, 32, 126, 172, 4, 60, 26, 19, 1, 8]
abbrev dktJ4_numberOfTrailingZeros_0 : List UInt8 := dkwJ4_numberOfTrailingZeros_0 ++ dktJ4_numberOfTrailingZeros_1
theorem dksJ4_numberOfTrailingZeros_0 : cJ4_numberOfTrailingZeros.data.toList.drop 0 = dktJ4_numberOfTrailingZeros_0 := by decide +kernel
theorem dksJ4_numberOfTrailingZeros_1 : cJ4_numberOfTrailingZeros.data.toList.drop 23 = dktJ4_numberOfTrailingZeros_1 := dk_seg dksJ4_numberOfTrailingZeros_0 23 rfl rfl
theorem dksJ4_numberOfTrailingZeros_2 : cJ4_numberOfTrailingZeros.data.toList.drop 47 = dktJ4_numberOfTrailingZeros_2 := dk_seg dksJ4_numberOfTrailingZeros_1 24 rfl rfl
theorem dksJ4_numberOfTrailingZeros_3 : cJ4_numberOfTrailingZeros.data.toList.drop 71 = dktJ4_numberOfTrailingZeros_3 := dk_seg dksJ4_numberOfTrailingZeros_2 24 rfl rfl
theorem dJ4_numberOfTrailingZeros_0 : decode cJ4_numberOfTrailingZeros 0 = .ok (.iload_n 0, 1) := dk_26 (dk_at dksJ4_numberOfTrailingZeros_0 0 rfl rfl)
theorem dJ4_numberOfTrailingZeros_1 : decode cJ4_numberOfTrailingZeros 1 = .ok (.iconst (-1), 1) := dk_2 (dk_at dksJ4_numberOfTrailingZeros_0 1 rfl rfl)
theorem dJ4_numberOfTrailingZeros_2 : decode cJ4_numberOfTrailingZeros 2 = .ok (.ixor, 1) := dk_130 (dk_at dksJ4_numberOfTrailingZeros_0 2 rfl rfl)
theorem dJ4_numberOfTrailingZeros_3 : decode cJ4_numberOfTrailingZeros 3 = .ok (.iload_n 0, 1) := dk_26 (dk_at dksJ4_numberOfTrailingZeros_0 3 rfl rfl)
theorem dJ4_numberOfTrailingZeros_4 : decode cJ4_numberOfTrailingZeros 4 = .ok (.iconst 1, 1) := dk_4 (dk_at dksJ4_numberOfTrailingZeros_0 4 rfl rfl)
theorem dJ4_numberOfTrailingZeros_5 : decode cJ4_numberOfTrailingZeros 5 = .ok (.isub, 1) := dk_100 (dk_at dksJ4_numberOfTrailingZeros_0 5 rfl rfl)
theorem dJ4_numberOfTrailingZeros_6 : decode cJ4_numberOfTrailingZeros 6 = .ok (.iand, 1) := dk_126 (dk_at dksJ4_numberOfTrailingZeros_0 6 rfl rfl)
theorem dJ4_numberOfTrailingZeros_7 : decode cJ4_numberOfTrailingZeros 7 = .ok (.istore_n 0, 1) := dk_59 (dk_at dksJ4_numberOfTrailingZeros_0 7 rfl rfl)
theorem dJ4_numberOfTrailingZeros_8 : decode cJ4_numberOfTrailingZeros 8 = .ok (.iload_n 0, 1) := dk_26 (dk_at dksJ4_numberOfTrailingZeros_0 8 rfl rfl)
theorem dJ4_numberOfTrailingZeros_9 : decode cJ4_numberOfTrailingZeros 9 = .ok (.ifCond .gt 8, 3) := dk_157 0 8 (dk_at dksJ4_numberOfTrailingZeros_0 9 rfl rfl)
theorem dJ4_numberOfTrailingZeros_12 : decode cJ4_numberOfTrailingZeros 12 = .ok (.iload_n 0, 1) := dk_26 (dk_at dksJ4_numberOfTrailingZeros_0 12 rfl rfl)
theorem dJ4_numberOfTrailingZeros_13 : decode cJ4_numberOfTrailingZeros 13 = .ok (.bipush 32, 2) := dk_16 32 (dk_at dksJ4_numberOfTrailingZeros_0 13 rfl rfl)
theorem dJ4_numberOfTrailingZeros_15 : decode cJ4_numberOfTrailingZeros 15 = .ok (.iand, 1) := dk_126 (dk_at dksJ4_numberOfTrailingZeros_0 15 rfl rfl)
theorem dJ4_numberOfTrailingZeros_16 : decode cJ4_numberOfTrailingZeros 16 = .ok (.ireturn, 1) := dk_172 (dk_at dksJ4_numberOfTrailingZeros_0 16 rfl rfl)
theorem dJ4_numberOfTrailingZeros_17 : decode cJ4_numberOfTrailingZeros 17 = .ok (.iconst 1, 1) := dk_4 (dk_at dksJ4_numberOfTrailingZeros_0 17 rfl rfl)
theorem dJ4_numberOfTrailingZeros_18 : decode cJ4_numberOfTrailingZeros 18 = .ok (.istore_n 1, 1) := dk_60 (dk_at dksJ4_numberOfTrailingZeros_0 18 rfl rfl)
theorem dJ4_numberOfTrailingZeros_19 : decode cJ4_numberOfTrailingZeros 19 = .ok (.iload_n 0, 1) := dk_26 (dk_at dksJ4_numberOfTrailingZeros_0 19 rfl rfl)
theorem dJ4_numberOfTrailingZeros_20 : decode cJ4_numberOfTrailingZeros 20 = .ok (.ldc_w 264, 3) := dk_19 1 8 (dk_at dksJ4_numberOfTrailingZeros_0 20 rfl rfl)
theorem dJ4_numberOfTrailingZeros_23 : decode cJ4_numberOfTrailingZeros 23 = .ok (.if_icmp .le 11, 3) := dk_164 0 11 (dk_at dksJ4_numberOfTrailingZeros_1 0 rfl rfl)
theorem dJ4_numberOfTrailingZeros_26 : decode cJ4_numberOfTrailingZeros 26 = .ok (.iinc 1 16, 3) := dk_132 1 16 (dk_at dksJ4_numberOfTrailingZeros_1 3 rfl rfl)
theorem dJ4_numberOfTrailingZeros_29 : decode cJ4_numberOfTrailingZeros 29 = .ok (.iload_n 0, 1) := dk_26 (dk_at dksJ4_numberOfTrailingZeros_1 6 rfl rfl)
theorem dJ4_numberOfTrailingZeros_30 : decode cJ4_numberOfTrailingZeros 30 = .ok (.bipush 16, 2) := dk_16 16 (dk_at dksJ4_numberOfTrailingZeros_1 7 rfl rfl)
theorem dJ4_numberOfTrailingZeros_32 : decode cJ4_numberOfTrailingZeros 32 = .ok (.iushr, 1) := dk_124 (dk_at dksJ4_numberOfTrailingZeros_1 9 rfl rfl)
theorem dJ4_numberOfTrailingZeros_33 : decode cJ4_numberOfTrailingZeros 33 = .ok (.istore_n 0, 1) := dk_59 (dk_at dksJ4_numberOfTrailingZeros_1 10 rfl rfl)
theorem dJ4_numberOfTrailingZeros_34 : decode cJ4_numberOfTrailingZeros 34 = .ok (.iload_n 0, 1) := dk_26 (dk_at dksJ4_numberOfTrailingZeros_1 11 rfl rfl)
theorem dJ4_numberOfTrailingZeros_35 : decode cJ4_numberOfTrailingZeros 35 = .ok (.sipush 256, 3) := dk_17 1 0 (dk_at dksJ4_numberOfTrailingZeros_1 12 rfl rfl)
theorem dJ4_numberOfTrailingZeros_38 : decode cJ4_numberOfTrailingZeros 38 = .ok (.if_icmp .le 11, 3) := dk_164 0 11 (dk_at dksJ4_numberOfTrailingZeros_1 15 rfl rfl)
theorem dJ4_numberOfTrailingZeros_41 : decode cJ4_numberOfTrailingZeros 41 = .ok (.iinc 1 8, 3) := dk_132 1 8 (dk_at dksJ4_numberOfTrailingZeros_1 18 rfl rfl)
theorem dJ4_numberOfTrailingZeros_44 : decode cJ4_numberOfTrailingZeros 44 = .ok (.iload_n 0, 1) := dk_26 (dk_at dksJ4_numberOfTrailingZeros_1 21 rfl rfl)
theorem dJ4_numberOfTrailingZeros_45 : decode cJ4_numberOfTrailingZeros 45 = .ok (.bipush 8, 2) := dk_16 8 (dk_at dksJ4_numberOfTrailingZeros_1 22 rfl rfl)
theorem dJ4_numberOfTrailingZeros_47 : decode cJ4_numberOfTrailingZeros 47 = .ok (.iushr, 1) := dk_124 (dk_at dksJ4_numberOfTrailingZeros_2 0 rfl rfl)
theorem dJ4_numberOfTrailingZeros_48 : decode cJ4_numberOfTrailingZeros 48 = .ok (.istore_n 0, 1) := dk_59 (dk_at dksJ4_numberOfTrailingZeros_2 1 rfl rfl)
theorem dJ4_numberOfTrailingZeros_49 : decode cJ4_numberOfTrailingZeros 49 = .ok (.iload_n 0, 1) := dk_26 (dk_at dksJ4_numberOfTrailingZeros_2 2 rfl rfl)
theorem dJ4_numberOfTrailingZeros_50 : decode cJ4_numberOfTrailingZeros 50 = .ok (.bipush 16, 2) := dk_16 16 (dk_at dksJ4_numberOfTrailingZeros_2 3 rfl rfl)
theorem dJ4_numberOfTrailingZeros_52 : decode cJ4_numberOfTrailingZeros 52 = .ok (.if_icmp .le 10, 3) := dk_164 0 10 (dk_at dksJ4_numberOfTrailingZeros_2 5 rfl rfl)
theorem dJ4_numberOfTrailingZeros_55 : decode cJ4_numberOfTrailingZeros 55 = .ok (.iinc 1 4, 3) := dk_132 1 4 (dk_at dksJ4_numberOfTrailingZeros_2 8 rfl rfl)
theorem dJ4_numberOfTrailingZeros_58 : decode cJ4_numberOfTrailingZeros 58 = .ok (.iload_n 0, 1) := dk_26 (dk_at dksJ4_numberOfTrailingZeros_2 11 rfl rfl)
theorem dJ4_numberOfTrailingZeros_59 : decode cJ4_numberOfTrailingZeros 59 = .ok (.iconst 4, 1) := dk_7 (dk_at dksJ4_numberOfTrailingZeros_2 12 rfl rfl)
theorem dJ4_numberOfTrailingZeros_60 : decode cJ4_numberOfTrailingZeros 60 = .ok (.iushr, 1) := dk_124 (dk_at dksJ4_numberOfTrailingZeros_2 13 rfl rfl)
theorem dJ4_numberOfTrailingZeros_61 : decode cJ4_numberOfTrailingZeros 61 = .ok (.istore_n 0, 1) := dk_59 (dk_at dksJ4_numberOfTrailingZeros_2 14 rfl rfl)
theorem dJ4_numberOfTrailingZeros_62 : decode cJ4_numberOfTrailingZeros 62 = .ok (.iload_n 0, 1) := dk_26 (dk_at dksJ4_numberOfTrailingZeros_2 15 rfl rfl)
theorem dJ4_numberOfTrailingZeros_63 : decode cJ4_numberOfTrailingZeros 63 = .ok (.iconst 4, 1) := dk_7 (dk_at dksJ4_numberOfTrailingZeros_2 16 rfl rfl)
theorem dJ4_numberOfTrailingZeros_64 : decode cJ4_numberOfTrailingZeros 64 = .ok (.if_icmp .le 10, 3) := dk_164 0 10 (dk_at dksJ4_numberOfTrailingZeros_2 17 rfl rfl)
theorem dJ4_numberOfTrailingZeros_67 : decode cJ4_numberOfTrailingZeros 67 = .ok (.iinc 1 2, 3) := dk_132 1 2 (dk_at dksJ4_numberOfTrailingZeros_2 20 rfl rfl)
theorem dJ4_numberOfTrailingZeros_70 : decode cJ4_numberOfTrailingZeros 70 = .ok (.iload_n 0, 1) := dk_26 (dk_at dksJ4_numberOfTrailingZeros_2 23 rfl rfl)
theorem dJ4_numberOfTrailingZeros_71 : decode cJ4_numberOfTrailingZeros 71 = .ok (.iconst 2, 1) := dk_5 (dk_at dksJ4_numberOfTrailingZeros_3 0 rfl rfl)
theorem dJ4_numberOfTrailingZeros_72 : decode cJ4_numberOfTrailingZeros 72 = .ok (.iushr, 1) := dk_124 (dk_at dksJ4_numberOfTrailingZeros_3 1 rfl rfl)
theorem dJ4_numberOfTrailingZeros_73 : decode cJ4_numberOfTrailingZeros 73 = .ok (.istore_n 0, 1) := dk_59 (dk_at dksJ4_numberOfTrailingZeros_3 2 rfl rfl)
theorem dJ4_numberOfTrailingZeros_74 : decode cJ4_numberOfTrailingZeros 74 = .ok (.iload_n 1, 1) := dk_27 (dk_at dksJ4_numberOfTrailingZeros_3 3 rfl rfl)
theorem dJ4_numberOfTrailingZeros_75 : decode cJ4_numberOfTrailingZeros 75 = .ok (.iload_n 0, 1) := dk_26 (dk_at dksJ4_numberOfTrailingZeros_3 4 rfl rfl)
theorem dJ4_numberOfTrailingZeros_76 : decode cJ4_numberOfTrailingZeros 76 = .ok (.iconst 1, 1) := dk_4 (dk_at dksJ4_numberOfTrailingZeros_3 5 rfl rfl)
theorem dJ4_numberOfTrailingZeros_77 : decode cJ4_numberOfTrailingZeros 77 = .ok (.iushr, 1) := dk_124 (dk_at dksJ4_numberOfTrailingZeros_3 6 rfl rfl)
theorem dJ4_numberOfTrailingZeros_78 : decode cJ4_numberOfTrailingZeros 78 = .ok (.iadd, 1) := dk_96 (dk_at dksJ4_numberOfTrailingZeros_3 7 rfl rfl)
theorem dJ4_numberOfTrailingZeros_79 : decode cJ4_numberOfTrailingZeros 79 = .ok (.ireturn, 1) := dk_172 (dk_at dksJ4_numberOfTrailingZeros_3 8 rfl rfl)
def dkwJ4_valueOf_1 : List UInt8 := [187, 0, 1, 89, 26, 183, 0, 199, 176]
abbrev dktJ4_valueOf_1 : List UInt8 := dkwJ4_valueOf_1 ++ []
def dkwJ4_valueOf_0 : List UInt8 := [26, 16, 128, 161, 0, 20, 26, 178, 0, 191, 163, 0, 13, 178, 0, 195, 26, 17, 0, 128, 96, 50, 176]
abbrev dktJ4_valueOf_0 : List UInt8 := dkwJ4_valueOf_0 ++ dktJ4_valueOf_1
theorem dksJ4_valueOf_0 : cJ4_valueOf.data.toList.drop 0 = dktJ4_valueOf_0 := by decide +kernel
theorem dksJ4_valueOf_1 : cJ4_valueOf.data.toList.drop 23 = dktJ4_valueOf_1 := dk_seg dksJ4_valueOf_0 23 rfl rfl
theorem dJ4_valueOf_0 : decode cJ4_valueOf 0 = .ok (.iload_n 0, 1) := dk_26 (dk_at dksJ4_valueOf_0 0 rfl rfl)
theorem dJ4_valueOf_1 : decode cJ4_valueOf 1 = .ok (.bipush (-128), 2) := dk_16 128 (dk_at dksJ4_valueOf_0 1 rfl rfl)
theorem dJ4_valueOf_3 : decode cJ4_valueOf 3 = .ok (.if_icmp .lt 20, 3) := dk_161 0 20 (dk_at dksJ4_valueOf_0 3 rfl rfl)
theorem dJ4_valueOf_6 : decode cJ4_valueOf 6 = .ok (.iload_n 0, 1) := dk_26 (dk_at dksJ4_valueOf_0 6 rfl rfl)
theorem dJ4_valueOf_7 : decode cJ4_valueOf 7 = .ok (.getstatic 191, 3) := dk_178 0 191 (dk_at dksJ4_valueOf_0 7 rfl rfl)
theorem dJ4_valueOf_10 : decode cJ4_valueOf 10 = .ok (.if_icmp .gt 13, 3) := dk_163 0 13 (dk_at dksJ4_valueOf_0 10 rfl rfl)
theorem dJ4_valueOf_13 : decode cJ4_valueOf 13 = .ok (.getstatic 195, 3) := dk_178 0 195 (dk_at dksJ4_valueOf_0 13 rfl rfl)
theorem dJ4_valueOf_16 : decode cJ4_valueOf 16 = .ok (.iload_n 0, 1) := dk_26 (dk_at dksJ4_valueOf_0 16 rfl rfl)
theorem dJ4_valueOf_17 : decode cJ4_valueOf 17 = .ok (.sipush 128, 3) := dk_17 0 128 (dk_at dksJ4_valueOf_0 17 rfl rfl)
theorem dJ4_valueOf_20 : decode cJ4_valueOf 20 = .ok (.iadd, 1) := dk_96 (dk_at dksJ4_valueOf_0 20 rfl rfl)
theorem dJ4_valueOf_21 : decode cJ4_valueOf 21 = .ok (.aaload, 1) := dk_50 (dk_at dksJ4_valueOf_0 21 rfl rfl)
theorem dJ4_valueOf_22 : decode cJ4_valueOf 22 = .ok (.areturn, 1) := dk_176 (dk_at dksJ4_valueOf_0 22 rfl rfl)
theorem dJ4_valueOf_23 : decode cJ4_valueOf 23 = .ok (.new 1, 3) := dk_187 0 1 (dk_at dksJ4_valueOf_1 0 rfl rfl)
theorem dJ4_valueOf_26 : decode cJ4_valueOf 26 = .ok (.dup, 1) := dk_89 (dk_at dksJ4_valueOf_1 3 rfl rfl)
theorem dJ4_valueOf_27 : decode cJ4_valueOf 27 = .ok (.iload_n 0, 1) := dk_26 (dk_at dksJ4_valueOf_1 4 rfl rfl)
theorem dJ4_valueOf_28 : decode cJ4_valueOf 28 = .ok (.invokespecial 199, 3) := dk_183 0 199 (dk_at dksJ4_valueOf_1 5 rfl rfl)
theorem dJ4_valueOf_31 : decode cJ4_valueOf 31 = .ok (.areturn, 1) := dk_176 (dk_at dksJ4_valueOf_1 8 rfl rfl)
def dkwJ4_init_0 : List UInt8 := [42, 183, 0, 202, 42, 27, 181, 0, 205, 177]
abbrev dktJ4_init_0 : List UInt8 := dkwJ4_init_0 ++ []
theorem dksJ4_init_0 : cJ4_init.data.toList.drop 0 = dktJ4_init_0 := by decide +kernel
theorem dJ4_init_0 : decode cJ4_init 0 = .ok (.aload_n 0, 1) := dk_42 (dk_at dksJ4_init_0 0 rfl rfl)
theorem dJ4_init_1 : decode cJ4_init 1 = .ok (.invokespecial 202, 3) := dk_183 0 202 (dk_at dksJ4_init_0 1 rfl rfl)
theorem dJ4_init_4 : decode cJ4_init 4 = .ok (.aload_n 0, 1) := dk_42 (dk_at dksJ4_init_0 4 rfl rfl)
theorem dJ4_init_5 : decode cJ4_init 5 = .ok (.iload_n 1, 1) := dk_27 (dk_at dksJ4_init_0 5 rfl rfl)
theorem dJ4_init_6 : decode cJ4_init 6 = .ok (.putfield 205, 3) := dk_181 0 205 (dk_at dksJ4_init_0 6 rfl rfl)
theorem dJ4_init_9 : decode cJ4_init 9 = .ok (.return_, 1) := dk_177 (dk_at dksJ4_init_0 9 rfl rfl)
def dkwJ5_init_1 : List UInt8 := [167, 0, 16, 42, 27, 184, 0, 26, 181, 0, 15, 42, 4, 181, 0, 22, 177]
abbrev dktJ5_init_1 : List UInt8 := dkwJ5_init_1 ++ []
def dkwJ5_init_0 : List UInt8 := [42, 183, 0, 3, 178, 0, 18, 153, 0, 18, 42, 27, 188, 8, 181, 0, 15, 42, 3, 181, 0, 22]
abbrev dktJ5_init_0 : List UInt8 := dkwJ5_init_0 ++ dktJ5_init_1
theorem dksJ5_init_0 : cJ5_init.data.toList.drop 0 = dktJ5_init_0 := by decide +kernel
theorem dksJ5_init_1 : cJ5_init.data.toList.drop 22 = dktJ5_init_1 := dk_seg dksJ5_init_0 22 rfl rfl
theorem dJ5_init_0 : decode cJ5_init 0 = .ok (.aload_n 0, 1) := dk_42 (dk_at dksJ5_init_0 0 rfl rfl)
theorem dJ5_init_1 : decode cJ5_init 1 = .ok (.invokespecial 3, 3) := dk_183 0 3 (dk_at dksJ5_init_0 1 rfl rfl)
theorem dJ5_init_4 : decode cJ5_init 4 = .ok (.getstatic 18, 3) := dk_178 0 18 (dk_at dksJ5_init_0 4 rfl rfl)
theorem dJ5_init_7 : decode cJ5_init 7 = .ok (.ifCond .eq 18, 3) := dk_153 0 18 (dk_at dksJ5_init_0 7 rfl rfl)
theorem dJ5_init_10 : decode cJ5_init 10 = .ok (.aload_n 0, 1) := dk_42 (dk_at dksJ5_init_0 10 rfl rfl)
theorem dJ5_init_11 : decode cJ5_init 11 = .ok (.iload_n 1, 1) := dk_27 (dk_at dksJ5_init_0 11 rfl rfl)
theorem dJ5_init_12 : decode cJ5_init 12 = .ok (.newarray .byte, 2) := dk_188_8 (dk_at dksJ5_init_0 12 rfl rfl)
theorem dJ5_init_14 : decode cJ5_init 14 = .ok (.putfield 15, 3) := dk_181 0 15 (dk_at dksJ5_init_0 14 rfl rfl)
theorem dJ5_init_17 : decode cJ5_init 17 = .ok (.aload_n 0, 1) := dk_42 (dk_at dksJ5_init_0 17 rfl rfl)
theorem dJ5_init_18 : decode cJ5_init 18 = .ok (.iconst 0, 1) := dk_3 (dk_at dksJ5_init_0 18 rfl rfl)
theorem dJ5_init_19 : decode cJ5_init 19 = .ok (.putfield 22, 3) := dk_181 0 22 (dk_at dksJ5_init_0 19 rfl rfl)
theorem dJ5_init_22 : decode cJ5_init 22 = .ok (.goto 16, 3) := dk_167 0 16 (dk_at dksJ5_init_1 0 rfl rfl)
theorem dJ5_init_25 : decode cJ5_init 25 = .ok (.aload_n 0, 1) := dk_42 (dk_at dksJ5_init_1 3 rfl rfl)
theorem dJ5_init_26 : decode cJ5_init 26 = .ok (.iload_n 1, 1) := dk_27 (dk_at dksJ5_init_1 4 rfl rfl)
theorem dJ5_init_27 : decode cJ5_init 27 = .ok (.invokestatic 26, 3) := dk_184 0 26 (dk_at dksJ5_init_1 5 rfl rfl)
theorem dJ5_init_30 : decode cJ5_init 30 = .ok (.putfield 15, 3) := dk_181 0 15 (dk_at dksJ5_init_1 8 rfl rfl)
theorem dJ5_init_33 : decode cJ5_init 33 = .ok (.aload_n 0, 1) := dk_42 (dk_at dksJ5_init_1 11 rfl rfl)
theorem dJ5_init_34 : decode cJ5_init 34 = .ok (.iconst 1, 1) := dk_4 (dk_at dksJ5_init_1 12 rfl rfl)
theorem dJ5_init_35 : decode cJ5_init 35 = .ok (.putfield 22, 3) := dk_181 0 22 (dk_at dksJ5_init_1 13 rfl rfl)
theorem dJ5_init_38 : decode cJ5_init 38 = .ok (.return_, 1) := dk_177 (dk_at dksJ5_init_1 16 rfl rfl)
def dkwJ5_append_3 : List UInt8 := [181, 0, 79, 27, 184, 0, 197, 42, 176]
abbrev dktJ5_append_3 : List UInt8 := dkwJ5_append_3 ++ []
def dkwJ5_append_2 : List UInt8 := [182, 0, 83, 153, 0, 7, 42, 182, 0, 195, 42, 180, 0, 15, 42, 89, 180, 0, 79, 90, 4, 96]
abbrev dktJ5_append_2 : List UInt8 := dkwJ5_append_2 ++ dktJ5_append_3
def dkwJ5_append_1 : List UInt8 := [42, 180, 0, 15, 42, 89, 180, 0, 79, 90, 4, 96, 181, 0, 79, 27, 145, 84, 167, 0, 33, 42]
abbrev dktJ5_append_1 : List UInt8 := dkwJ5_append_1 ++ dktJ5_append_2
def dkwJ5_append_0 : List UInt8 := [42, 42, 180, 0, 79, 4, 96, 182, 0, 100, 42, 182, 0, 83, 153, 0, 31, 27, 184, 0, 191, 153, 0, 24]
abbrev dktJ5_append_0 : List UInt8 := dkwJ5_append_0 ++ dktJ5_append_1
theorem dksJ5_append_0 : cJ5_append.data.toList.drop 0 = dktJ5_append_0 := by decide +kernel
theorem dksJ5_append_1 : cJ5_append.data.toList.drop 24 = dktJ5_append_1 := dk_seg dksJ5_append_0 24 rfl rfl
theorem dksJ5_append_2 : cJ5_append.data.toList.drop 46 = dktJ5_append_2 := dk_seg dksJ5_append_1 22 rfl rfl
theorem dksJ5_append_3 : cJ5_append.data.toList.drop 68 = dktJ5_append_3 := dk_seg dksJ5_append_2 22 rfl rfl
theorem dJ5_append_0 : decode cJ5_append 0 = .ok (.aload_n 0, 1) := dk_42 (dk_at dksJ5_append_0 0 rfl rfl)
theorem dJ5_append_1 : decode cJ5_append 1 = .ok (.aload_n 0, 1) := dk_42 (dk_at dksJ5_append_0 1 rfl rfl)
theorem dJ5_append_2 : decode cJ5_append 2 = .ok (.getfield 79, 3) := dk_180 0 79 (dk_at dksJ5_append_0 2 rfl rfl)
theorem dJ5_append_5 : decode cJ5_append 5 = .ok (.iconst 1, 1) := dk_4 (dk_at dksJ5_append_0 5 rfl rfl)
theorem dJ5_append_6 : decode cJ5_append 6 = .ok (.iadd, 1) := dk_96 (dk_at dksJ5_append_0 6 rfl rfl)
theorem dJ5_append_7 : decode cJ5_append 7 = .ok (.invokevirtual 100, 3) := dk_182 0 100 (dk_at dksJ5_append_0 7 rfl rfl)
theorem dJ5_append_10 : decode cJ5_append 10 = .ok (.aload_n 0, 1) := dk_42 (dk_at dksJ5_append_0 10 rfl rfl)
theorem dJ5_append_11 : decode cJ5_append 11 = .ok (.invokevirtual 83, 3) := dk_182 0 83 (dk_at dksJ5_append_0 11 rfl rfl)
theorem dJ5_append_14 : decode cJ5_append 14 = .ok (.ifCond .eq 31, 3) := dk_153 0 31 (dk_at dksJ5_append_0 14 rfl rfl)
theorem dJ5_append_17 : decode cJ5_append 17 = .ok (.iload_n 1, 1) := dk_27 (dk_at dksJ5_append_0 17 rfl rfl)
theorem dJ5_append_18 : decode cJ5_append 18 = .ok (.invokestatic 191, 3) := dk_184 0 191 (dk_at dksJ5_append_0 18 rfl rfl)
theorem dJ5_append_21 : decode cJ5_append 21 = .ok (.ifCond .eq 24, 3) := dk_153 0 24 (dk_at dksJ5_append_0 21 rfl rfl)
theorem dJ5_append_24 : decode cJ5_append 24 = .ok (.aload_n 0, 1) := dk_42 (dk_at dksJ5_append_1 0 rfl rfl)
theorem dJ5_append_25 : decode cJ5_append 25 = .ok (.getfield 15, 3) := dk_180 0 15 (dk_at dksJ5_append_1 1 rfl rfl)
theorem dJ5_append_28 : decode cJ5_append 28 = .ok (.aload_n 0, 1) := dk_42 (dk_at dksJ5_append_1 4 rfl rfl)
theorem dJ5_append_29 : decode cJ5_append 29 = .ok (.dup, 1) := dk_89 (dk_at dksJ5_append_1 5 rfl rfl)
theorem dJ5_append_30 : decode cJ5_append 30 = .ok (.getfield 79, 3) := dk_180 0 79 (dk_at dksJ5_append_1 6 rfl rfl)
theorem dJ5_append_33 : decode cJ5_append 33 = .ok (.dup_x1, 1) := dk_90 (dk_at dksJ5_append_1 9 rfl rfl)
theorem dJ5_append_34 : decode cJ5_append 34 = .ok (.iconst 1, 1) := dk_4 (dk_at dksJ5_append_1 10 rfl rfl)
theorem dJ5_append_35 : decode cJ5_append 35 = .ok (.iadd, 1) := dk_96 (dk_at dksJ5_append_1 11 rfl rfl)
theorem dJ5_append_36 : decode cJ5_append 36 = .ok (.putfield 79, 3) := dk_181 0 79 (dk_at dksJ5_append_1 12 rfl rfl)
theorem dJ5_append_39 : decode cJ5_append 39 = .ok (.iload_n 1, 1) := dk_27 (dk_at dksJ5_append_1 15 rfl rfl)
theorem dJ5_append_40 : decode cJ5_append 40 = .ok (.i2b, 1) := dk_145 (dk_at dksJ5_append_1 16 rfl rfl)
theorem dJ5_append_41 : decode cJ5_append 41 = .ok (.bastore, 1) := dk_84 (dk_at dksJ5_append_1 17 rfl rfl)
theorem dJ5_append_42 : decode cJ5_append 42 = .ok (.goto 33, 3) := dk_167 0 33 (dk_at dksJ5_append_1 18 rfl rfl)
theorem dJ5_append_45 : decode cJ5_append 45 = .ok (.aload_n 0, 1) := dk_42 (dk_at dksJ5_append_1 21 rfl rfl)
theorem dJ5_append_46 : decode cJ5_append 46 = .ok (.invokevirtual 83, 3) := dk_182 0 83 (dk_at dksJ5_append_2 0 rfl rfl)
theorem dJ5_append_49 : decode cJ5_append 49 = .ok (.ifCond .eq 7, 3) := dk_153 0 7 (dk_at dksJ5_append_2 3 rfl rfl)
theorem dJ5_append_52 : decode cJ5_append 52 = .ok (.aload_n 0, 1) := dk_42 (dk_at dksJ5_append_2 6 rfl rfl)
theorem dJ5_append_53 : decode cJ5_append 53 = .ok (.invokevirtual 195, 3) := dk_182 0 195 (dk_at dksJ5_append_2 7 rfl rfl)
theorem dJ5_append_56 : decode cJ5_append 56 = .ok (.aload_n 0, 1) := dk_42 (dk_at dksJ5_append_2 10 rfl rfl)
theorem dJ5_append_57 : decode cJ5_append 57 = .ok (.getfield 15, 3) := dk_180 0 15 (dk_at dksJ5_append_2 11 rfl rfl)
theorem dJ5_append_60 : decode cJ5_append 60 = .ok (.aload_n 0, 1) := dk_42 (dk_at dksJ5_append_2 14 rfl rfl)
theorem dJ5_append_61 : decode cJ5_append 61 = .ok (.dup, 1) := dk_89 (dk_at dksJ5_append_2 15 rfl rfl)
theorem dJ5_append_62 : decode cJ5_append 62 = .ok (.getfield 79, 3) := dk_180 0 79 (dk_at dksJ5_append_2 16 rfl rfl)
theorem dJ5_append_65 : decode cJ5_append 65 = .ok (.dup_x1, 1) := dk_90 (dk_at dksJ5_append_2 19 rfl rfl)
theorem dJ5_append_66 : decode cJ5_append 66 = .ok (.iconst 1, 1) := dk_4 (dk_at dksJ5_append_2 20 rfl rfl)
theorem dJ5_append_67 : decode cJ5_append 67 = .ok (.iadd, 1) := dk_96 (dk_at dksJ5_append_2 21 rfl rfl)
theorem dJ5_append_68 : decode cJ5_append 68 = .ok (.putfield 79, 3) := dk_181 0 79 (dk_at dksJ5_append_3 0 rfl rfl)
theorem dJ5_append_71 : decode cJ5_append 71 = .ok (.iload_n 1, 1) := dk_27 (dk_at dksJ5_append_3 3 rfl rfl)
theorem dJ5_append_72 : decode cJ5_append 72 = .ok (.invokestatic 197, 3) := dk_184 0 197 (dk_at dksJ5_append_3 4 rfl rfl)
theorem dJ5_append_75 : decode cJ5_append 75 = .ok (.aload_n 0, 1) := dk_42 (dk_at dksJ5_append_3 7 rfl rfl)
theorem dJ5_append_76 : decode cJ5_append 76 = .ok (.areturn, 1) := dk_176 (dk_at dksJ5_append_3 8 rfl rfl)
def dkwJ5_ensureCapacityInternal_1 : List UInt8 := [182, 0, 104, 42, 180, 0, 22, 120, 184, 0, 108, 181, 0, 15, 177]
abbrev dktJ5_ensureCapacityInternal_1 : List UInt8 := dkwJ5_ensureCapacityInternal_1 ++ []
def dkwJ5_ensureCapacityInternal_0 : List UInt8 := [42, 180, 0, 15, 190, 42, 180, 0, 22, 122, 61, 27, 28, 100, 158, 0, 24, 42, 42, 180, 0, 15, 42, 27]
abbrev dktJ5_ensureCapacityInternal_0 : List UInt8 := dkwJ5_ensureCapacityInternal_0 ++ dktJ5_ensureCapacityInternal_1
theorem dksJ5_ensureCapacityInternal_0 : cJ5_ensureCapacityInternal.data.toList.drop 0 = dktJ5_ensureCapacityInternal_0 := by decide +kernel
theorem dksJ5_ensureCapacityInternal_1 : cJ5_ensureCapacityInternal.data.toList.drop 24 = dktJ5_ensureCapacityInternal_1 := dk_seg dksJ5_ensureCapacityInternal_0 24 rfl rfl
theorem dJ5_ensureCapacityInternal_0 : decode cJ5_ensureCapacityInternal 0 = .ok (.aload_n 0, 1) := dk_42 (dk_at dksJ5_ensureCapacityInternal_0 0 rfl rfl)
theorem dJ5_ensureCapacityInternal_1 : decode cJ5_ensureCapacityInternal 1 = .ok (.getfield 15, 3) := dk_180 0 15 (dk_at dksJ5_ensureCapacityInternal_0 1 rfl rfl)
theorem dJ5_ensureCapacityInternal_4 : decode cJ5_ensureCapacityInternal 4 = .ok (.arraylength, 1) := dk_190 (dk_at dksJ5_ensureCapacityInternal_0 4 rfl rfl)
theorem dJ5_ensureCapacityInternal_5 : decode cJ5_ensureCapacityInternal 5 = .ok (.aload_n 0, 1) := dk_42 (dk_at dksJ5_ensureCapacityInternal_0 5 rfl rfl)
theorem dJ5_ensureCapacityInternal_6 : decode cJ5_ensureCapacityInternal 6 = .ok (.getfield 22, 3) := dk_180 0 22 (dk_at dksJ5_ensureCapacityInternal_0 6 rfl rfl)
theorem dJ5_ensureCapacityInternal_9 : decode cJ5_ensureCapacityInternal 9 = .ok (.ishr, 1) := dk_122 (dk_at dksJ5_ensureCapacityInternal_0 9 rfl rfl)
theorem dJ5_ensureCapacityInternal_10 : decode cJ5_ensureCapacityInternal 10 = .ok (.istore_n 2, 1) := dk_61 (dk_at dksJ5_ensureCapacityInternal_0 10 rfl rfl)
theorem dJ5_ensureCapacityInternal_11 : decode cJ5_ensureCapacityInternal 11 = .ok (.iload_n 1, 1) := dk_27 (dk_at dksJ5_ensureCapacityInternal_0 11 rfl rfl)
theorem dJ5_ensureCapacityInternal_12 : decode cJ5_ensureCapacityInternal 12 = .ok (.iload_n 2, 1) := dk_28 (dk_at dksJ5_ensureCapacityInternal_0 12 rfl rfl)
theorem dJ5_ensureCapacityInternal_13 : decode cJ5_ensureCapacityInternal 13 = .ok (.isub, 1) := dk_100 (dk_at dksJ5_ensureCapacityInternal_0 13 rfl rfl)
theorem dJ5_ensureCapacityInternal_14 : decode cJ5_ensureCapacityInternal 14 = .ok (.ifCond .le 24, 3) := dk_158 0 24 (dk_at dksJ5_ensureCapacityInternal_0 14 rfl rfl)
theorem dJ5_ensureCapacityInternal_17 : decode cJ5_ensureCapacityInternal 17 = .ok (.aload_n 0, 1) := dk_42 (dk_at dksJ5_ensureCapacityInternal_0 17 rfl rfl)
theorem dJ5_ensureCapacityInternal_18 : decode cJ5_ensureCapacityInternal 18 = .ok (.aload_n 0, 1) := dk_42 (dk_at dksJ5_ensureCapacityInternal_0 18 rfl rfl)
theorem dJ5_ensureCapacityInternal_19 : decode cJ5_ensureCapacityInternal 19 = .ok (.getfield 15, 3) := dk_180 0 15 (dk_at dksJ5_ensureCapacityInternal_0 19 rfl rfl)
theorem dJ5_ensureCapacityInternal_22 : decode cJ5_ensureCapacityInternal 22 = .ok (.aload_n 0, 1) := dk_42 (dk_at dksJ5_ensureCapacityInternal_0 22 rfl rfl)
theorem dJ5_ensureCapacityInternal_23 : decode cJ5_ensureCapacityInternal 23 = .ok (.iload_n 1, 1) := dk_27 (dk_at dksJ5_ensureCapacityInternal_0 23 rfl rfl)
theorem dJ5_ensureCapacityInternal_24 : decode cJ5_ensureCapacityInternal 24 = .ok (.invokevirtual 104, 3) := dk_182 0 104 (dk_at dksJ5_ensureCapacityInternal_1 0 rfl rfl)
theorem dJ5_ensureCapacityInternal_27 : decode cJ5_ensureCapacityInternal 27 = .ok (.aload_n 0, 1) := dk_42 (dk_at dksJ5_ensureCapacityInternal_1 3 rfl rfl)
theorem dJ5_ensureCapacityInternal_28 : decode cJ5_ensureCapacityInternal 28 = .ok (.getfield 22, 3) := dk_180 0 22 (dk_at dksJ5_ensureCapacityInternal_1 4 rfl rfl)
theorem dJ5_ensureCapacityInternal_31 : decode cJ5_ensureCapacityInternal 31 = .ok (.ishl, 1) := dk_120 (dk_at dksJ5_ensureCapacityInternal_1 7 rfl rfl)
theorem dJ5_ensureCapacityInternal_32 : decode cJ5_ensureCapacityInternal 32 = .ok (.invokestatic 108, 3) := dk_184 0 108 (dk_at dksJ5_ensureCapacityInternal_1 8 rfl rfl)
theorem dJ5_ensureCapacityInternal_35 : decode cJ5_ensureCapacityInternal 35 = .ok (.putfield 15, 3) := dk_181 0 15 (dk_at dksJ5_ensureCapacityInternal_1 11 rfl rfl)
theorem dJ5_ensureCapacityInternal_38 : decode cJ5_ensureCapacityInternal 38 = .ok (.return_, 1) := dk_177 (dk_at dksJ5_ensureCapacityInternal_1 14 rfl rfl)
def dkwJ5_newCapacity_2 : List UInt8 := [183, 0, 124, 191, 21, 5, 42, 180, 0, 22, 122, 172]
abbrev dktJ5_newCapacity_2 : List UInt8 := dkwJ5_newCapacity_2 ++ []
def dkwJ5_newCapacity_1 : List UInt8 := [180, 0, 22, 120, 96, 184, 0, 114, 54, 5, 21, 5, 18, 39, 160, 0, 13, 187, 0, 120, 89, 18, 122]
abbrev dktJ5_newCapacity_1 : List UInt8 := dkwJ5_newCapacity_1 ++ dktJ5_newCapacity_2
def dkwJ5_newCapacity_0 : List UInt8 := [42, 180, 0, 15, 190, 61, 27, 42, 180, 0, 22, 120, 62, 29, 28, 100, 54, 4, 28, 21, 4, 28, 5, 42]
abbrev dktJ5_newCapacity_0 : List UInt8 := dkwJ5_newCapacity_0 ++ dktJ5_newCapacity_1
theorem dksJ5_newCapacity_0 : cJ5_newCapacity.data.toList.drop 0 = dktJ5_newCapacity_0 := by decide +kernel
theorem dksJ5_newCapacity_1 : cJ5_newCapacity.data.toList.drop 24 = dktJ5_newCapacity_1 := dk_seg dksJ5_newCapacity_0 24 rfl rfl
theorem dksJ5_newCapacity_2 : cJ5_newCapacity.data.toList.drop 47 = dktJ5_newCapacity_2 := dk_seg dksJ5_newCapacity_1 23 rfl rfl
theorem dJ5_newCapacity_0 : decode cJ5_newCapacity 0 = .ok (.aload_n 0, 1) := dk_42 (dk_at dksJ5_newCapacity_0 0 rfl rfl)
theorem dJ5_newCapacity_1 : decode cJ5_newCapacity 1 = .ok (.getfield 15, 3) := dk_180 0 15 (dk_at dksJ5_newCapacity_0 1 rfl rfl)
theorem dJ5_newCapacity_4 : decode cJ5_newCapacity 4 = .ok (.arraylength, 1) := dk_190 (dk_at dksJ5_newCapacity_0 4 rfl rfl)
theorem dJ5_newCapacity_5 : decode cJ5_newCapacity 5 = .ok (.istore_n 2, 1) := dk_61 (dk_at dksJ5_newCapacity_0 5 rfl rfl)
theorem dJ5_newCapacity_6 : decode cJ5_newCapacity 6 = .ok (.iload_n 1, 1) := dk_27 (dk_at dksJ5_newCapacity_0 6 rfl rfl)
theorem dJ5_newCapacity_7 : decode cJ5_newCapacity 7 = .ok (.aload_n 0, 1) := dk_42 (dk_at dksJ5_newCapacity_0 7 rfl rfl)
theorem dJ5_newCapacity_8 : decode cJ5_newCapacity 8 = .ok (.getfield 22, 3) := dk_180 0 22 (dk_at dksJ5_newCapacity_0 8 rfl rfl)
theorem dJ5_newCapacity_11 : decode cJ5_newCapacity 11 = .ok (.ishl, 1) := dk_120 (dk_at dksJ5_newCapacity_0 11 rfl rfl)
theorem dJ5_newCapacity_12 : decode cJ5_newCapacity 12 = .ok (.istore_n 3, 1) := dk_62 (dk_at dksJ5_newCapacity_0 12 rfl rfl)
theorem dJ5_newCapacity_13 : decode cJ5_newCapacity 13 = .ok (.iload_n 3, 1) := dk_29 (dk_at dksJ5_newCapacity_0 13 rfl rfl)
theorem dJ5_newCapacity_14 : decode cJ5_newCapacity 14 = .ok (.iload_n 2, 1) := dk_28 (dk_at dksJ5_newCapacity_0 14 rfl rfl)
theorem dJ5_newCapacity_15 : decode cJ5_newCapacity 15 = .ok (.isub, 1) := dk_100 (dk_at dksJ5_newCapacity_0 15 rfl rfl)
theorem dJ5_newCapacity_16 : decode cJ5_newCapacity 16 = .ok (.istore 4, 2) := dk_54 4 (dk_at dksJ5_newCapacity_0 16 rfl rfl)
theorem dJ5_newCapacity_18 : decode cJ5_newCapacity 18 = .ok (.iload_n 2, 1) := dk_28 (dk_at dksJ5_newCapacity_0 18 rfl rfl)
theorem dJ5_newCapacity_19 : decode cJ5_newCapacity 19 = .ok (.iload 4, 2) := dk_21 4 (dk_at dksJ5_newCapacity_0 19 rfl rfl)
theorem dJ5_newCapacity_21 : decode cJ5_newCapacity 21 = .ok (.iload_n 2, 1) := dk_28 (dk_at dksJ5_newCapacity_0 21 rfl rfl)
theorem dJ5_newCapacity_22 : decode cJ5_newCapacity 22 = .ok (.iconst 2, 1) := dk_5 (dk_at dksJ5_newCapacity_0 22 rfl rfl)
theorem dJ5_newCapacity_23 : decode cJ5_newCapacity 23 = .ok (.aload_n 0, 1) := dk_42 (dk_at dksJ5_newCapacity_0 23 rfl rfl)
theorem dJ5_newCapacity_24 : decode cJ5_newCapacity 24 = .ok (.getfield 22, 3) := dk_180 0 22 (dk_at dksJ5_newCapacity_1 0 rfl rfl)
theorem dJ5_newCapacity_27 : decode cJ5_newCapacity 27 = .ok (.ishl, 1) := dk_120 (dk_at dksJ5_newCapacity_1 3 rfl rfl)
theorem dJ5_newCapacity_28 : decode cJ5_newCapacity 28 = .ok (.iadd, 1) := dk_96 (dk_at dksJ5_newCapacity_1 4 rfl rfl)
theorem dJ5_newCapacity_29 : decode cJ5_newCapacity 29 = .ok (.invokestatic 114, 3) := dk_184 0 114 (dk_at dksJ5_newCapacity_1 5 rfl rfl)
theorem dJ5_newCapacity_32 : decode cJ5_newCapacity 32 = .ok (.istore 5, 2) := dk_54 5 (dk_at dksJ5_newCapacity_1 8 rfl rfl)
theorem dJ5_newCapacity_34 : decode cJ5_newCapacity 34 = .ok (.iload 5, 2) := dk_21 5 (dk_at dksJ5_newCapacity_1 10 rfl rfl)
theorem dJ5_newCapacity_36 : decode cJ5_newCapacity 36 = .ok (.ldc 39, 2) := dk_18 39 (dk_at dksJ5_newCapacity_1 12 rfl rfl)
theorem dJ5_newCapacity_38 : decode cJ5_newCapacity 38 = .ok (.if_icmp .ne 13, 3) := dk_160 0 13 (dk_at dksJ5_newCapacity_1 14 rfl rfl)
theorem dJ5_newCapacity_41 : decode cJ5_newCapacity 41 = .ok (.new 120, 3) := dk_187 0 120 (dk_at dksJ5_newCapacity_1 17 rfl rfl)
theorem dJ5_newCapacity_44 : decode cJ5_newCapacity 44 = .ok (.dup, 1) := dk_89 (dk_at dksJ5_newCapacity_1 20 rfl rfl)
theorem dJ5_newCapacity_45 : decode cJ5_newCapacity 45 = .ok (.ldc 122, 2) := dk_18 122 (dk_at dksJ5_newCapacity_1 21 rfl rfl)
theorem dJ5_newCapacity_47 : decode cJ5_newCapacity 47 = .ok (.invokespecial 124, 3) := dk_183 0 124 (dk_at dksJ5_newCapacity_2 0 rfl rfl)
theorem dJ5_newCapacity_50 : decode cJ5_newCapacity 50 = .ok (.athrow, 1) := dk_191 (dk_at dksJ5_newCapacity_2 3 rfl rfl)
theorem dJ5_newCapacity_51 : decode cJ5_newCapacity 51 = .ok (.iload 5, 2) := dk_21 5 (dk_at dksJ5_newCapacity_2 4 rfl rfl)
theorem dJ5_newCapacity_53 : decode cJ5_newCapacity 53 = .ok (.aload_n 0, 1) := dk_42 (dk_at dksJ5_newCapacity_2 6 rfl rfl)
theorem dJ5_newCapacity_54 : decode cJ5_newCapacity 54 = .ok (.getfield 22, 3) := dk_180 0 22 (dk_at dksJ5_newCapacity_2 7 rfl rfl)
theorem dJ5_newCapacity_57 : decode cJ5_newCapacity 57 = .ok (.ishr, 1) := dk_122 (dk_at dksJ5_newCapacity_2 10 rfl rfl)
theorem dJ5_newCapacity_58 : decode cJ5_newCapacity 58 = .ok (.ireturn, 1) := dk_172 (dk_at dksJ5_newCapacity_2 11 rfl rfl)
def dkwJ5_isLatin1_0 : List UInt8 := [178, 0, 18, 153, 0, 14, 42, 180, 0, 22, 154, 0, 7, 4, 167, 0, 4, 3, 172]
abbrev dktJ5_isLatin1_0 : List UInt8 := dkwJ5_isLatin1_0 ++ []
theorem dksJ5_isLatin1_0 : cJ5_isLatin1.data.toList.drop 0 = dktJ5_isLatin1_0 := by decide +kernel
theorem dJ5_isLatin1_0 : decode cJ5_isLatin1 0 = .ok (.getstatic 18, 3) := dk_178 0 18 (dk_at dksJ5_isLatin1_0 0 rfl rfl)
theorem dJ5_isLatin1_3 : decode cJ5_isLatin1 3 = .ok (.ifCond .eq 14, 3) := dk_153 0 14 (dk_at dksJ5_isLatin1_0 3 rfl rfl)
theorem dJ5_isLatin1_6 : decode cJ5_isLatin1 6 = .ok (.aload_n 0, 1) := dk_42 (dk_at dksJ5_isLatin1_0 6 rfl rfl)
theorem dJ5_isLatin1_7 : decode cJ5_isLatin1 7 = .ok (.getfield 22, 3) := dk_180 0 22 (dk_at dksJ5_isLatin1_0 7 rfl rfl)
theorem dJ5_isLatin1_10 : decode cJ5_isLatin1 10 = .ok (.ifCond .ne 7, 3) := dk_154 0 7 (dk_at dksJ5_isLatin1_0 10 rfl rfl)
theorem dJ5_isLatin1_13 : decode cJ5_isLatin1 13 = .ok (.iconst 1, 1) := dk_4 (dk_at dksJ5_isLatin1_0 13 rfl rfl)
theorem dJ5_isLatin1_14 : decode cJ5_isLatin1 14 = .ok (.goto 4, 3) := dk_167 0 4 (dk_at dksJ5_isLatin1_0 14 rfl rfl)
theorem dJ5_isLatin1_17 : decode cJ5_isLatin1 17 = .ok (.iconst 0, 1) := dk_3 (dk_at dksJ5_isLatin1_0 17 rfl rfl)
theorem dJ5_isLatin1_18 : decode cJ5_isLatin1 18 = .ok (.ireturn, 1) := dk_172 (dk_at dksJ5_isLatin1_0 18 rfl rfl)
def dkwJ5_inflate_1 : List UInt8 := [42, 180, 0, 79, 184, 0, 125, 42, 43, 181, 0, 15, 42, 4, 181, 0, 22, 177]
abbrev dktJ5_inflate_1 : List UInt8 := dkwJ5_inflate_1 ++ []
def dkwJ5_inflate_0 : List UInt8 := [42, 182, 0, 83, 154, 0, 4, 177, 42, 180, 0, 15, 190, 184, 0, 26, 76, 42, 180, 0, 15, 3, 43, 3]
abbrev dktJ5_inflate_0 : List UInt8 := dkwJ5_inflate_0 ++ dktJ5_inflate_1
theorem dksJ5_inflate_0 : cJ5_inflate.data.toList.drop 0 = dktJ5_inflate_0 := by decide +kernel
theorem dksJ5_inflate_1 : cJ5_inflate.data.toList.drop 24 = dktJ5_inflate_1 := dk_seg dksJ5_inflate_0 24 rfl rfl
theorem dJ5_inflate_0 : decode cJ5_inflate 0 = .ok (.aload_n 0, 1) := dk_42 (dk_at dksJ5_inflate_0 0 rfl rfl)
theorem dJ5_inflate_1 : decode cJ5_inflate 1 = .ok (.invokevirtual 83, 3) := dk_182 0 83 (dk_at dksJ5_inflate_0 1 rfl rfl)
theorem dJ5_inflate_4 : decode cJ5_inflate 4 = .ok (.ifCond .ne 4, 3) := dk_154 0 4 (dk_at dksJ5_inflate_0 4 rfl rfl)
theorem dJ5_inflate_7 : decode cJ5_inflate 7 = .ok (.return_, 1) := dk_177 (dk_at dksJ5_inflate_0 7 rfl rfl)
theorem dJ5_inflate_8 : decode cJ5_inflate 8 = .ok (.aload_n 0, 1) := dk_42 (dk_at dksJ5_inflate_0 8 rfl rfl)
theorem dJ5_inflate_9 : decode cJ5_inflate 9 = .ok (.getfield 15, 3) := dk_180 0 15 (dk_at dksJ5_inflate_0 9 rfl rfl)
theorem dJ5_inflate_12 : decode cJ5_inflate 12 = .ok (.arraylength, 1) := dk_190 (dk_at dksJ5_inflate_0 12 rfl rfl)
theorem dJ5_inflate_13 : decode cJ5_inflate 13 = .ok (.invokestatic 26, 3) := dk_184 0 26 (dk_at dksJ5_inflate_0 13 rfl rfl)
theorem dJ5_inflate_16 : decode cJ5_inflate 16 = .ok (.astore_n 1, 1) := dk_76 (dk_at dksJ5_inflate_0 16 rfl rfl)
theorem dJ5_inflate_17 : decode cJ5_inflate 17 = .ok (.aload_n 0, 1) := dk_42 (dk_at dksJ5_inflate_0 17 rfl rfl)
theorem dJ5_inflate_18 : decode cJ5_inflate 18 = .ok (.getfield 15, 3) := dk_180 0 15 (dk_at dksJ5_inflate_0 18 rfl rfl)
theorem dJ5_inflate_21 : decode cJ5_inflate 21 = .ok (.iconst 0, 1) := dk_3 (dk_at dksJ5_inflate_0 21 rfl rfl)
theorem dJ5_inflate_22 : decode cJ5_inflate 22 = .ok (.aload_n 1, 1) := dk_43 (dk_at dksJ5_inflate_0 22 rfl rfl)
theorem dJ5_inflate_23 : decode cJ5_inflate 23 = .ok (.iconst 0, 1) := dk_3 (dk_at dksJ5_inflate_0 23 rfl rfl)
theorem dJ5_inflate_24 : decode cJ5_inflate 24 = .ok (.aload_n 0, 1) := dk_42 (dk_at dksJ5_inflate_1 0 rfl rfl)
theorem dJ5_inflate_25 : decode cJ5_inflate 25 = .ok (.getfield 79, 3) := dk_180 0 79 (dk_at dksJ5_inflate_1 1 rfl rfl)
theorem dJ5_inflate_28 : decode cJ5_inflate 28 = .ok (.invokestatic 125, 3) := dk_184 0 125 (dk_at dksJ5_inflate_1 4 rfl rfl)
theorem dJ5_inflate_31 : decode cJ5_inflate 31 = .ok (.aload_n 0, 1) := dk_42 (dk_at dksJ5_inflate_1 7 rfl rfl)
theorem dJ5_inflate_32 : decode cJ5_inflate 32 = .ok (.aload_n 1, 1) := dk_43 (dk_at dksJ5_inflate_1 8 rfl rfl)
theorem dJ5_inflate_33 : decode cJ5_inflate 33 = .ok (.putfield 15, 3) := dk_181 0 15 (dk_at dksJ5_inflate_1 9 rfl rfl)
theorem dJ5_inflate_36 : decode cJ5_inflate 36 = .ok (.aload_n 0, 1) := dk_42 (dk_at dksJ5_inflate_1 12 rfl rfl)
theorem dJ5_inflate_37 : decode cJ5_inflate 37 = .ok (.iconst 1, 1) := dk_4 (dk_at dksJ5_inflate_1 13 rfl rfl)
theorem dJ5_inflate_38 : decode cJ5_inflate 38 = .ok (.putfield 22, 3) := dk_181 0 22 (dk_at dksJ5_inflate_1 14 rfl rfl)
theorem dJ5_inflate_41 : decode cJ5_inflate 41 = .ok (.return_, 1) := dk_177 (dk_at dksJ5_inflate_1 17 rfl rfl)
theorem dJ5_getValue_0 : decode cJ5_getValue 0 = .ok (.aload_n 0, 1) := by decide +kernel
theorem dJ5_getValue_1 : decode cJ5_getValue 1 = .ok (.getfield 15, 3) := by decide +kernel
theorem dJ5_getValue_4 : decode cJ5_getValue 4 = .ok (.areturn, 1) := by decide +kernel
theorem dJ5_length_0 : decode cJ5_length 0 = .ok (.aload_n 0, 1) := by decide +kernel
theorem dJ5_length_1 : decode cJ5_length 1 = .ok (.getfield 79, 3) := by decide +kernel
theorem dJ5_length_4 : decode cJ5_length 4 = .ok (.ireturn, 1) := by decide +kernel
def dkwJ5_compareTo_4 : List UInt8 := [184, 0, 97, 172]
abbrev dktJ5_compareTo_4 : List UInt8 := dkwJ5_compareTo_4 ++ []
def dkwJ5_compareTo_3 : List UInt8 := [182, 0, 83, 153, 0, 15, 44, 45, 21, 4, 21, 5, 184, 0, 94, 167, 0, 12, 44, 45, 21, 4, 21, 5]
abbrev dktJ5_compareTo_3 : List UInt8 := dkwJ5_compareTo_3 ++ dktJ5_compareTo_4
def dkwJ5_compareTo_2 : List UInt8 := [45, 21, 4, 21, 5, 184, 0, 87, 167, 0, 12, 44, 45, 21, 4, 21, 5, 184, 0, 93, 172, 42]
abbrev dktJ5_compareTo_2 : List UInt8 := dkwJ5_compareTo_2 ++ dktJ5_compareTo_3
def dkwJ5_compareTo_1 : List UInt8 := [180, 0, 79, 54, 5, 42, 180, 0, 22, 43, 180, 0, 22, 160, 0, 32, 42, 182, 0, 83, 153, 0, 15, 44]
abbrev dktJ5_compareTo_1 : List UInt8 := dkwJ5_compareTo_1 ++ dktJ5_compareTo_2
def dkwJ5_compareTo_0 : List UInt8 := [42, 43, 166, 0, 5, 3, 172, 42, 180, 0, 15, 77, 43, 180, 0, 15, 78, 42, 180, 0, 79, 54, 4, 43]
abbrev dktJ5_compareTo_0 : List UInt8 := dkwJ5_compareTo_0 ++ dktJ5_compareTo_1
theorem dksJ5_compareTo_0 : cJ5_compareTo.data.toList.drop 0 = dktJ5_compareTo_0 := by decide +kernel
theorem dksJ5_compareTo_1 : cJ5_compareTo.data.toList.drop 24 = dktJ5_compareTo_1 := dk_seg dksJ5_compareTo_0 24 rfl rfl
theorem dksJ5_compareTo_2 : cJ5_compareTo.data.toList.drop 48 = dktJ5_compareTo_2 := dk_seg dksJ5_compareTo_1 24 rfl rfl
theorem dksJ5_compareTo_3 : cJ5_compareTo.data.toList.drop 70 = dktJ5_compareTo_3 := dk_seg dksJ5_compareTo_2 22 rfl rfl
theorem dksJ5_compareTo_4 : cJ5_compareTo.data.toList.drop 94 = dktJ5_compareTo_4 := dk_seg dksJ5_compareTo_3 24 rfl rfl
theorem dJ5_compareTo_0 : decode cJ5_compareTo 0 = .ok (.aload_n 0, 1) := dk_42 (dk_at dksJ5_compareTo_0 0 rfl rfl)
theorem dJ5_compareTo_1 : decode cJ5_compareTo 1 = .ok (.aload_n 1, 1) := dk_43 (dk_at dksJ5_compareTo_0 1 rfl rfl)
theorem dJ5_compareTo_2 : decode cJ5_compareTo 2 = .ok (.if_acmp .ne 5, 3) := dk_166 0 5 (dk_at dksJ5_compareTo_0 2 rfl rfl)
theorem dJ5_compareTo_5 : decode cJ5_compareTo 5 = .ok (.iconst 0, 1) := dk_3 (dk_at dksJ5_compareTo_0 5 rfl rfl)
theorem dJ5_compareTo_6 : decode cJ5_compareTo 6 = .ok (.ireturn, 1) := dk_172 (dk_at dksJ5_compareTo_0 6 rfl rfl)
theorem dJ5_compareTo_7 : decode cJ5_compareTo 7 = .ok (.aload_n 0, 1) := dk_42 (dk_at dksJ5_compareTo_0 7 rfl rfl)
theorem dJ5_compareTo_8 : decode cJ5_compareTo 8 = .ok (.getfield 15, 3) := dk_180 0 15 (dk_at dksJ5_compareTo_0 8 rfl rfl)
theorem dJ5_compareTo_11 : decode cJ5_compareTo 11 = .ok (.astore_n 2, 1) := dk_77 (dk_at dksJ5_compareTo_0 11 rfl rfl)
theorem dJ5_compareTo_12 : decode cJ5_compareTo 12 = .ok (.aload_n 1, 1) := dk_43 (dk_at dksJ5_compareTo_0 12 rfl rfl)
theorem dJ5_compareTo_13 : decode cJ5_compareTo 13 = .ok (.getfield 15, 3) := dk_180 0 15 (dk_at dksJ5_compareTo_0 13 rfl rfl)
theorem dJ5_compareTo_16 : decode cJ5_compareTo 16 = .ok (.astore_n 3, 1) := dk_78 (dk_at dksJ5_compareTo_0 16 rfl rfl)
theorem dJ5_compareTo_17 : decode cJ5_compareTo 17 = .ok (.aload_n 0, 1) := dk_42 (dk_at dksJ5_compareTo_0 17 rfl rfl)
theorem dJ5_compareTo_18 : decode cJ5_compareTo 18 = .ok (.getfield 79, 3) := dk_180 0 79 (dk_at dksJ5_compareTo_0 18 rfl rfl)
theorem dJ5_compareTo_21 : decode cJ5_compareTo 21 = .ok (.istore 4, 2) := dk_54 4 (dk_at dksJ5_compareTo_0 21 rfl rfl)
theorem dJ5_compareTo_23 : decode cJ5_compareTo 23 = .ok (.aload_n 1, 1) := dk_43 (dk_at dksJ5_compareTo_0 23 rfl rfl)
theorem dJ5_compareTo_24 : decode cJ5_compareTo 24 = .ok (.getfield 79, 3) := dk_180 0 79 (dk_at dksJ5_compareTo_1 0 rfl rfl)
theorem dJ5_compareTo_27 : decode cJ5_compareTo 27 = .ok (.istore 5, 2) := dk_54 5 (dk_at dksJ5_compareTo_1 3 rfl rfl)
theorem dJ5_compareTo_29 : decode cJ5_compareTo 29 = .ok (.aload_n 0, 1) := dk_42 (dk_at dksJ5_compareTo_1 5 rfl rfl)
theorem dJ5_compareTo_30 : decode cJ5_compareTo 30 = .ok (.getfield 22, 3) := dk_180 0 22 (dk_at dksJ5_compareTo_1 6 rfl rfl)
theorem dJ5_compareTo_33 : decode cJ5_compareTo 33 = .ok (.aload_n 1, 1) := dk_43 (dk_at dksJ5_compareTo_1 9 rfl rfl)
theorem dJ5_compareTo_34 : decode cJ5_compareTo 34 = .ok (.getfield 22, 3) := dk_180 0 22 (dk_at dksJ5_compareTo_1 10 rfl rfl)
theorem dJ5_compareTo_37 : decode cJ5_compareTo 37 = .ok (.if_icmp .ne 32, 3) := dk_160 0 32 (dk_at dksJ5_compareTo_1 13 rfl rfl)
theorem dJ5_compareTo_40 : decode cJ5_compareTo 40 = .ok (.aload_n 0, 1) := dk_42 (dk_at dksJ5_compareTo_1 16 rfl rfl)
theorem dJ5_compareTo_41 : decode cJ5_compareTo 41 = .ok (.invokevirtual 83, 3) := dk_182 0 83 (dk_at dksJ5_compareTo_1 17 rfl rfl)
theorem dJ5_compareTo_44 : decode cJ5_compareTo 44 = .ok (.ifCond .eq 15, 3) := dk_153 0 15 (dk_at dksJ5_compareTo_1 20 rfl rfl)
theorem dJ5_compareTo_47 : decode cJ5_compareTo 47 = .ok (.aload_n 2, 1) := dk_44 (dk_at dksJ5_compareTo_1 23 rfl rfl)
theorem dJ5_compareTo_48 : decode cJ5_compareTo 48 = .ok (.aload_n 3, 1) := dk_45 (dk_at dksJ5_compareTo_2 0 rfl rfl)
theorem dJ5_compareTo_49 : decode cJ5_compareTo 49 = .ok (.iload 4, 2) := dk_21 4 (dk_at dksJ5_compareTo_2 1 rfl rfl)
theorem dJ5_compareTo_51 : decode cJ5_compareTo 51 = .ok (.iload 5, 2) := dk_21 5 (dk_at dksJ5_compareTo_2 3 rfl rfl)
theorem dJ5_compareTo_53 : decode cJ5_compareTo 53 = .ok (.invokestatic 87, 3) := dk_184 0 87 (dk_at dksJ5_compareTo_2 5 rfl rfl)
theorem dJ5_compareTo_56 : decode cJ5_compareTo 56 = .ok (.goto 12, 3) := dk_167 0 12 (dk_at dksJ5_compareTo_2 8 rfl rfl)
theorem dJ5_compareTo_59 : decode cJ5_compareTo 59 = .ok (.aload_n 2, 1) := dk_44 (dk_at dksJ5_compareTo_2 11 rfl rfl)
theorem dJ5_compareTo_60 : decode cJ5_compareTo 60 = .ok (.aload_n 3, 1) := dk_45 (dk_at dksJ5_compareTo_2 12 rfl rfl)
theorem dJ5_compareTo_61 : decode cJ5_compareTo 61 = .ok (.iload 4, 2) := dk_21 4 (dk_at dksJ5_compareTo_2 13 rfl rfl)
theorem dJ5_compareTo_63 : decode cJ5_compareTo 63 = .ok (.iload 5, 2) := dk_21 5 (dk_at dksJ5_compareTo_2 15 rfl rfl)
theorem dJ5_compareTo_65 : decode cJ5_compareTo 65 = .ok (.invokestatic 93, 3) := dk_184 0 93 (dk_at dksJ5_compareTo_2 17 rfl rfl)
theorem dJ5_compareTo_68 : decode cJ5_compareTo 68 = .ok (.ireturn, 1) := dk_172 (dk_at dksJ5_compareTo_2 20 rfl rfl)
theorem dJ5_compareTo_69 : decode cJ5_compareTo 69 = .ok (.aload_n 0, 1) := dk_42 (dk_at dksJ5_compareTo_2 21 rfl rfl)
theorem dJ5_compareTo_70 : decode cJ5_compareTo 70 = .ok (.invokevirtual 83, 3) := dk_182 0 83 (dk_at dksJ5_compareTo_3 0 rfl rfl)
theorem dJ5_compareTo_73 : decode cJ5_compareTo 73 = .ok (.ifCond .eq 15, 3) := dk_153 0 15 (dk_at dksJ5_compareTo_3 3 rfl rfl)
theorem dJ5_compareTo_76 : decode cJ5_compareTo 76 = .ok (.aload_n 2, 1) := dk_44 (dk_at dksJ5_compareTo_3 6 rfl rfl)
theorem dJ5_compareTo_77 : decode cJ5_compareTo 77 = .ok (.aload_n 3, 1) := dk_45 (dk_at dksJ5_compareTo_3 7 rfl rfl)
theorem dJ5_compareTo_78 : decode cJ5_compareTo 78 = .ok (.iload 4, 2) := dk_21 4 (dk_at dksJ5_compareTo_3 8 rfl rfl)
theorem dJ5_compareTo_80 : decode cJ5_compareTo 80 = .ok (.iload 5, 2) := dk_21 5 (dk_at dksJ5_compareTo_3 10 rfl rfl)
theorem dJ5_compareTo_82 : decode cJ5_compareTo 82 = .ok (.invokestatic 94, 3) := dk_184 0 94 (dk_at dksJ5_compareTo_3 12 rfl rfl)
theorem dJ5_compareTo_85 : decode cJ5_compareTo 85 = .ok (.goto 12, 3) := dk_167 0 12 (dk_at dksJ5_compareTo_3 15 rfl rfl)
theorem dJ5_compareTo_88 : decode cJ5_compareTo 88 = .ok (.aload_n 2, 1) := dk_44 (dk_at dksJ5_compareTo_3 18 rfl rfl)
theorem dJ5_compareTo_89 : decode cJ5_compareTo 89 = .ok (.aload_n 3, 1) := dk_45 (dk_at dksJ5_compareTo_3 19 rfl rfl)
theorem dJ5_compareTo_90 : decode cJ5_compareTo 90 = .ok (.iload 4, 2) := dk_21 4 (dk_at dksJ5_compareTo_3 20 rfl rfl)
theorem dJ5_compareTo_92 : decode cJ5_compareTo 92 = .ok (.iload 5, 2) := dk_21 5 (dk_at dksJ5_compareTo_3 22 rfl rfl)
theorem dJ5_compareTo_94 : decode cJ5_compareTo 94 = .ok (.invokestatic 97, 3) := dk_184 0 97 (dk_at dksJ5_compareTo_4 0 rfl rfl)
theorem dJ5_compareTo_97 : decode cJ5_compareTo 97 = .ok (.ireturn, 1) := dk_172 (dk_at dksJ5_compareTo_4 3 rfl rfl)
def dkwJ6_init_0 : List UInt8 := [42, 16, 16, 183, 0, 1, 177]
abbrev dktJ6_init_0 : List UInt8 := dkwJ6_init_0 ++ []
theorem dksJ6_init_0 : cJ6_init.data.toList.drop 0 = dktJ6_init_0 := by decide +kernel
theorem dJ6_init_0 : decode cJ6_init 0 = .ok (.aload_n 0, 1) := dk_42 (dk_at dksJ6_init_0 0 rfl rfl)
theorem dJ6_init_1 : decode cJ6_init 1 = .ok (.bipush 16, 2) := dk_16 16 (dk_at dksJ6_init_0 1 rfl rfl)
theorem dJ6_init_3 : decode cJ6_init 3 = .ok (.invokespecial 1, 3) := dk_183 0 1 (dk_at dksJ6_init_0 3 rfl rfl)
theorem dJ6_init_6 : decode cJ6_init 6 = .ok (.return_, 1) := dk_177 (dk_at dksJ6_init_0 6 rfl rfl)
def dkwJ6_append_0 : List UInt8 := [42, 27, 183, 0, 50, 87, 42, 176]
abbrev dktJ6_append_0 : List UInt8 := dkwJ6_append_0 ++ []
theorem dksJ6_append_0 : cJ6_append.data.toList.drop 0 = dktJ6_append_0 := by decide +kernel
theorem dJ6_append_0 : decode cJ6_append 0 = .ok (.aload_n 0, 1) := dk_42 (dk_at dksJ6_append_0 0 rfl rfl)
theorem dJ6_append_1 : decode cJ6_append 1 = .ok (.iload_n 1, 1) := dk_27 (dk_at dksJ6_append_0 1 rfl rfl)
theorem dJ6_append_2 : decode cJ6_append 2 = .ok (.invokespecial 50, 3) := dk_183 0 50 (dk_at dksJ6_append_0 2 rfl rfl)
theorem dJ6_append_5 : decode cJ6_append 5 = .ok (.pop, 1) := dk_87 (dk_at dksJ6_append_0 5 rfl rfl)
theorem dJ6_append_6 : decode cJ6_append 6 = .ok (.aload_n 0, 1) := dk_42 (dk_at dksJ6_append_0 6 rfl rfl)
theorem dJ6_append_7 : decode cJ6_append 7 = .ok (.areturn, 1) := dk_176 (dk_at dksJ6_append_0 7 rfl rfl)
def dkwJ6_toString_0 : List UInt8 := [187, 0, 18, 89, 42, 183, 0, 137, 176]
abbrev dktJ6_toString_0 : List UInt8 := dkwJ6_toString_0 ++ []
theorem dksJ6_toString_0 : cJ6_toString.data.toList.drop 0 = dktJ6_toString_0 := by decide +kernel
theorem dJ6_toString_0 : decode cJ6_toString 0 = .ok (.new 18, 3) := dk_187 0 18 (dk_at dksJ6_toString_0 0 rfl rfl)
theorem dJ6_toString_3 : decode cJ6_toString 3 = .ok (.dup, 1) := dk_89 (dk_at dksJ6_toString_0 3 rfl rfl)
theorem dJ6_toString_4 : decode cJ6_toString 4 = .ok (.aload_n 0, 1) := dk_42 (dk_at dksJ6_toString_0 4 rfl rfl)
theorem dJ6_toString_5 : decode cJ6_toString 5 = .ok (.invokespecial 137, 3) := dk_183 0 137 (dk_at dksJ6_toString_0 5 rfl rfl)
theorem dJ6_toString_8 : decode cJ6_toString 8 = .ok (.areturn, 1) := dk_176 (dk_at dksJ6_toString_0 8 rfl rfl)
theorem dJ6_length_0 : decode cJ6_length 0 = .ok (.aload_n 0, 1) := by decide +kernel
theorem dJ6_length_1 : decode cJ6_length 1 = .ok (.invokespecial 343, 3) := by decide +kernel
theorem dJ6_length_4 : decode cJ6_length 4 = .ok (.ireturn, 1) := by decide +kernel
def dkwJ6_compareTo_0 : List UInt8 := [42, 43, 192, 0, 24, 182, 1, 90, 172]
abbrev dktJ6_compareTo_0 : List UInt8 := dkwJ6_compareTo_0 ++ []
theorem dksJ6_compareTo_0 : cJ6_compareTo.data.toList.drop 0 = dktJ6_compareTo_0 := by decide +kernel
theorem dJ6_compareTo_0 : decode cJ6_compareTo 0 = .ok (.aload_n 0, 1) := dk_42 (dk_at dksJ6_compareTo_0 0 rfl rfl)
theorem dJ6_compareTo_1 : decode cJ6_compareTo 1 = .ok (.aload_n 1, 1) := dk_43 (dk_at dksJ6_compareTo_0 1 rfl rfl)
theorem dJ6_compareTo_2 : decode cJ6_compareTo 2 = .ok (.checkcast 24, 3) := dk_192 0 24 (dk_at dksJ6_compareTo_0 2 rfl rfl)
theorem dJ6_compareTo_5 : decode cJ6_compareTo 5 = .ok (.invokevirtual 346, 3) := dk_182 1 90 (dk_at dksJ6_compareTo_0 5 rfl rfl)
theorem dJ6_compareTo_8 : decode cJ6_compareTo 8 = .ok (.ireturn, 1) := dk_172 (dk_at dksJ6_compareTo_0 8 rfl rfl)
def dkwJ6_compareTo_2_0 : List UInt8 := [42, 43, 183, 0, 13, 172]
abbrev dktJ6_compareTo_2_0 : List UInt8 := dkwJ6_compareTo_2_0 ++ []
theorem dksJ6_compareTo_2_0 : cJ6_compareTo_2.data.toList.drop 0 = dktJ6_compareTo_2_0 := by decide +kernel
theorem dJ6_compareTo_2_0 : decode cJ6_compareTo_2 0 = .ok (.aload_n 0, 1) := dk_42 (dk_at dksJ6_compareTo_2_0 0 rfl rfl)
theorem dJ6_compareTo_2_1 : decode cJ6_compareTo_2 1 = .ok (.aload_n 1, 1) := dk_43 (dk_at dksJ6_compareTo_2_0 1 rfl rfl)
theorem dJ6_compareTo_2_2 : decode cJ6_compareTo_2 2 = .ok (.invokespecial 13, 3) := dk_183 0 13 (dk_at dksJ6_compareTo_2_0 2 rfl rfl)
theorem dJ6_compareTo_2_5 : decode cJ6_compareTo_2 5 = .ok (.ireturn, 1) := dk_172 (dk_at dksJ6_compareTo_2_0 5 rfl rfl)
def dkwJ7_checkBoundsOffCount_0 : List UInt8 := [26, 27, 28, 178, 4, 29, 184, 4, 41, 172]
abbrev dktJ7_checkBoundsOffCount_0 : List UInt8 := dkwJ7_checkBoundsOffCount_0 ++ []
theorem dksJ7_checkBoundsOffCount_0 : cJ7_checkBoundsOffCount.data.toList.drop 0 = dktJ7_checkBoundsOffCount_0 := by decide +kernel
theorem dJ7_checkBoundsOffCount_0 : decode cJ7_checkBoundsOffCount 0 = .ok (.iload_n 0, 1) := dk_26 (dk_at dksJ7_checkBoundsOffCount_0 0 rfl rfl)
theorem dJ7_checkBoundsOffCount_1 : decode cJ7_checkBoundsOffCount 1 = .ok (.iload_n 1, 1) := dk_27 (dk_at dksJ7_checkBoundsOffCount_0 1 rfl rfl)
theorem dJ7_checkBoundsOffCount_2 : decode cJ7_checkBoundsOffCount 2 = .ok (.iload_n 2, 1) := dk_28 (dk_at dksJ7_checkBoundsOffCount_0 2 rfl rfl)
theorem dJ7_checkBoundsOffCount_3 : decode cJ7_checkBoundsOffCount 3 = .ok (.getstatic 1053, 3) := dk_178 4 29 (dk_at dksJ7_checkBoundsOffCount_0 3 rfl rfl)
theorem dJ7_checkBoundsOffCount_6 : decode cJ7_checkBoundsOffCount 6 = .ok (.invokestatic 1065, 3) := dk_184 4 41 (dk_at dksJ7_checkBoundsOffCount_0 6 rfl rfl)
theorem dJ7_checkBoundsOffCount_9 : decode cJ7_checkBoundsOffCount 9 = .ok (.ireturn, 1) := dk_172 (dk_at dksJ7_checkBoundsOffCount_0 9 rfl rfl)
def dkwJ7_checkIndex_0 : List UInt8 := [26, 27, 178, 4, 29, 184, 4, 35, 87, 177]
abbrev dktJ7_checkIndex_0 : List UInt8 := dkwJ7_checkIndex_0 ++ []
theorem dksJ7_checkIndex_0 : cJ7_checkIndex.data.toList.drop 0 = dktJ7_checkIndex_0 := by decide +kernel
theorem dJ7_checkIndex_0 : decode cJ7_checkIndex 0 = .ok (.iload_n 0, 1) := dk_26 (dk_at dksJ7_checkIndex_0 0 rfl rfl)
theorem dJ7_checkIndex_1 : decode cJ7_checkIndex 1 = .ok (.iload_n 1, 1) := dk_27 (dk_at dksJ7_checkIndex_0 1 rfl rfl)
theorem dJ7_checkIndex_2 : decode cJ7_checkIndex 2 = .ok (.getstatic 1053, 3) := dk_178 4 29 (dk_at dksJ7_checkIndex_0 2 rfl rfl)
theorem dJ7_checkIndex_5 : decode cJ7_checkIndex 5 = .ok (.invokestatic 1059, 3) := dk_184 4 35 (dk_at dksJ7_checkIndex_0 5 rfl rfl)
theorem dJ7_checkIndex_8 : decode cJ7_checkIndex 8 = .ok (.pop, 1) := dk_87 (dk_at dksJ7_checkIndex_0 8 rfl rfl)
theorem dJ7_checkIndex_9 : decode cJ7_checkIndex 9 = .ok (.return_, 1) := dk_177 (dk_at dksJ7_checkIndex_0 9 rfl rfl)
def dkwJ7_init_0 : List UInt8 := [42, 43, 1, 183, 1, 233, 177]
abbrev dktJ7_init_0 : List UInt8 := dkwJ7_init_0 ++ []
theorem dksJ7_init_0 : cJ7_init.data.toList.drop 0 = dktJ7_init_0 := by decide +kernel
theorem dJ7_init_0 : decode cJ7_init 0 = .ok (.aload_n 0, 1) := dk_42 (dk_at dksJ7_init_0 0 rfl rfl)
theorem dJ7_init_1 : decode cJ7_init 1 = .ok (.aload_n 1, 1) := dk_43 (dk_at dksJ7_init_0 1 rfl rfl)
theorem dJ7_init_2 : decode cJ7_init 2 = .ok (.aconst_null, 1) := dk_1 (dk_at dksJ7_init_0 2 rfl rfl)
theorem dJ7_init_3 : decode cJ7_init 3 = .ok (.invokespecial 489, 3) := dk_183 1 233 (dk_at dksJ7_init_0 3 rfl rfl)
theorem dJ7_init_6 : decode cJ7_init 6 = .ok (.return_, 1) := dk_177 (dk_at dksJ7_init_0 6 rfl rfl)
def dkwJ7_init_2_4 : List UInt8 := [181, 0, 9, 177]
abbrev dktJ7_init_2_4 : List UInt8 := dkwJ7_init_2_4 ++ []
def dkwJ7_init_2_3 : List UInt8 := [184, 0, 47, 181, 0, 15, 177, 42, 4, 181, 0, 15, 42, 45, 3, 21, 4, 4, 120, 184, 0, 54]
abbrev dktJ7_init_2_3 : List UInt8 := dkwJ7_init_2_3 ++ dktJ7_init_2_4
def dkwJ7_init_2_2 : List UInt8 := [180, 4, 24, 153, 0, 28, 42, 45, 3, 21, 4, 184, 4, 27, 181, 0, 9, 42, 42, 180, 0, 9, 21, 4]
abbrev dktJ7_init_2_2 : List UInt8 := dkwJ7_init_2_2 ++ dktJ7_init_2_3
def dkwJ7_init_2_1 : List UInt8 := [181, 0, 15, 42, 45, 3, 21, 4, 184, 0, 54, 181, 0, 9, 167, 0, 59, 178, 0, 38, 153, 0, 35, 43]
abbrev dktJ7_init_2_1 : List UInt8 := dkwJ7_init_2_1 ++ dktJ7_init_2_2
def dkwJ7_init_2_0 : List UInt8 := [42, 183, 0, 1, 43, 182, 2, 40, 78, 43, 182, 2, 37, 54, 4, 43, 182, 4, 23, 153, 0, 22, 42, 3]
abbrev dktJ7_init_2_0 : List UInt8 := dkwJ7_init_2_0 ++ dktJ7_init_2_1
theorem dksJ7_init_2_0 : cJ7_init_2.data.toList.drop 0 = dktJ7_init_2_0 := by decide +kernel
theorem dksJ7_init_2_1 : cJ7_init_2.data.toList.drop 24 = dktJ7_init_2_1 := dk_seg dksJ7_init_2_0 24 rfl rfl
theorem dksJ7_init_2_2 : cJ7_init_2.data.toList.drop 48 = dktJ7_init_2_2 := dk_seg dksJ7_init_2_1 24 rfl rfl
theorem dksJ7_init_2_3 : cJ7_init_2.data.toList.drop 72 = dktJ7_init_2_3 := dk_seg dksJ7_init_2_2 24 rfl rfl
theorem dksJ7_init_2_4 : cJ7_init_2.data.toList.drop 94 = dktJ7_init_2_4 := dk_seg dksJ7_init_2_3 22 rfl rfl
theorem dJ7_init_2_0 : decode cJ7_init_2 0 = .ok (.aload_n 0, 1) := dk_42 (dk_at dksJ7_init_2_0 0 rfl rfl)
theorem dJ7_init_2_1 : decode cJ7_init_2 1 = .ok (.invokespecial 1, 3) := dk_183 0 1 (dk_at dksJ7_init_2_0 1 rfl rfl)
theorem dJ7_init_2_4 : decode cJ7_init_2 4 = .ok (.aload_n 1, 1) := dk_43 (dk_at dksJ7_init_2_0 4 rfl rfl)
theorem dJ7_init_2_5 : decode cJ7_init_2 5 = .ok (.invokevirtual 552, 3) := dk_182 2 40 (dk_at dksJ7_init_2_0 5 rfl rfl)
theorem dJ7_init_2_8 : decode cJ7_init_2 8 = .ok (.astore_n 3, 1) := dk_78 (dk_at dksJ7_init_2_0 8 rfl rfl)
theorem dJ7_init_2_9 : decode cJ7_init_2 9 = .ok (.aload_n 1, 1) := dk_43 (dk_at dksJ7_init_2_0 9 rfl rfl)
theorem dJ7_init_2_10 : decode cJ7_init_2 10 = .ok (.invokevirtual 549, 3) := dk_182 2 37 (dk_at dksJ7_init_2_0 10 rfl rfl)
theorem dJ7_init_2_13 : decode cJ7_init_2 13 = .ok (.istore 4, 2) := dk_54 4 (dk_at dksJ7_init_2_0 13 rfl rfl)
theorem dJ7_init_2_15 : decode cJ7_init_2 15 = .ok (.aload_n 1, 1) := dk_43 (dk_at dksJ7_init_2_0 15 rfl rfl)
theorem dJ7_init_2_16 : decode cJ7_init_2 16 = .ok (.invokevirtual 1047, 3) := dk_182 4 23 (dk_at dksJ7_init_2_0 16 rfl rfl)
theorem dJ7_init_2_19 : decode cJ7_init_2 19 = .ok (.ifCond .eq 22, 3) := dk_153 0 22 (dk_at dksJ7_init_2_0 19 rfl rfl)
theorem dJ7_init_2_22 : decode cJ7_init_2 22 = .ok (.aload_n 0, 1) := dk_42 (dk_at dksJ7_init_2_0 22 rfl rfl)
theorem dJ7_init_2_23 : decode cJ7_init_2 23 = .ok (.iconst 0, 1) := dk_3 (dk_at dksJ7_init_2_0 23 rfl rfl)
theorem dJ7_init_2_24 : decode cJ7_init_2 24 = .ok (.putfield 15, 3) := dk_181 0 15 (dk_at dksJ7_init_2_1 0 rfl rfl)
theorem dJ7_init_2_27 : decode cJ7_init_2 27 = .ok (.aload_n 0, 1) := dk_42 (dk_at dksJ7_init_2_1 3 rfl rfl)
theorem dJ7_init_2_28 : decode cJ7_init_2 28 = .ok (.aload_n 3, 1) := dk_45 (dk_at dksJ7_init_2_1 4 rfl rfl)
theorem dJ7_init_2_29 : decode cJ7_init_2 29 = .ok (.iconst 0, 1) := dk_3 (dk_at dksJ7_init_2_1 5 rfl rfl)
theorem dJ7_init_2_30 : decode cJ7_init_2 30 = .ok (.iload 4, 2) := dk_21 4 (dk_at dksJ7_init_2_1 6 rfl rfl)
theorem dJ7_init_2_32 : decode cJ7_init_2 32 = .ok (.invokestatic 54, 3) := dk_184 0 54 (dk_at dksJ7_init_2_1 8 rfl rfl)
theorem dJ7_init_2_35 : decode cJ7_init_2 35 = .ok (.putfield 9, 3) := dk_181 0 9 (dk_at dksJ7_init_2_1 11 rfl rfl)
theorem dJ7_init_2_38 : decode cJ7_init_2 38 = .ok (.goto 59, 3) := dk_167 0 59 (dk_at dksJ7_init_2_1 14 rfl rfl)
theorem dJ7_init_2_41 : decode cJ7_init_2 41 = .ok (.getstatic 38, 3) := dk_178 0 38 (dk_at dksJ7_init_2_1 17 rfl rfl)
theorem dJ7_init_2_44 : decode cJ7_init_2 44 = .ok (.ifCond .eq 35, 3) := dk_153 0 35 (dk_at dksJ7_init_2_1 20 rfl rfl)
theorem dJ7_init_2_47 : decode cJ7_init_2 47 = .ok (.aload_n 1, 1) := dk_43 (dk_at dksJ7_init_2_1 23 rfl rfl)
theorem dJ7_init_2_48 : decode cJ7_init_2 48 = .ok (.getfield 1048, 3) := dk_180 4 24 (dk_at dksJ7_init_2_2 0 rfl rfl)
theorem dJ7_init_2_51 : decode cJ7_init_2 51 = .ok (.ifCond .eq 28, 3) := dk_153 0 28 (dk_at dksJ7_init_2_2 3 rfl rfl)
theorem dJ7_init_2_54 : decode cJ7_init_2 54 = .ok (.aload_n 0, 1) := dk_42 (dk_at dksJ7_init_2_2 6 rfl rfl)
theorem dJ7_init_2_55 : decode cJ7_init_2 55 = .ok (.aload_n 3, 1) := dk_45 (dk_at dksJ7_init_2_2 7 rfl rfl)
theorem dJ7_init_2_56 : decode cJ7_init_2 56 = .ok (.iconst 0, 1) := dk_3 (dk_at dksJ7_init_2_2 8 rfl rfl)
theorem dJ7_init_2_57 : decode cJ7_init_2 57 = .ok (.iload 4, 2) := dk_21 4 (dk_at dksJ7_init_2_2 9 rfl rfl)
theorem dJ7_init_2_59 : decode cJ7_init_2 59 = .ok (.invokestatic 1051, 3) := dk_184 4 27 (dk_at dksJ7_init_2_2 11 rfl rfl)
theorem dJ7_init_2_62 : decode cJ7_init_2 62 = .ok (.putfield 9, 3) := dk_181 0 9 (dk_at dksJ7_init_2_2 14 rfl rfl)
theorem dJ7_init_2_65 : decode cJ7_init_2 65 = .ok (.aload_n 0, 1) := dk_42 (dk_at dksJ7_init_2_2 17 rfl rfl)
theorem dJ7_init_2_66 : decode cJ7_init_2 66 = .ok (.aload_n 0, 1) := dk_42 (dk_at dksJ7_init_2_2 18 rfl rfl)
theorem dJ7_init_2_67 : decode cJ7_init_2 67 = .ok (.getfield 9, 3) := dk_180 0 9 (dk_at dksJ7_init_2_2 19 rfl rfl)
theorem dJ7_init_2_70 : decode cJ7_init_2 70 = .ok (.iload 4, 2) := dk_21 4 (dk_at dksJ7_init_2_2 22 rfl rfl)
theorem dJ7_init_2_72 : decode cJ7_init_2 72 = .ok (.invokestatic 47, 3) := dk_184 0 47 (dk_at dksJ7_init_2_3 0 rfl rfl)
theorem dJ7_init_2_75 : decode cJ7_init_2 75 = .ok (.putfield 15, 3) := dk_181 0 15 (dk_at dksJ7_init_2_3 3 rfl rfl)
theorem dJ7_init_2_78 : decode cJ7_init_2 78 = .ok (.return_, 1) := dk_177 (dk_at dksJ7_init_2_3 6 rfl rfl)
theorem dJ7_init_2_79 : decode cJ7_init_2 79 = .ok (.aload_n 0, 1) := dk_42 (dk_at dksJ7_init_2_3 7 rfl rfl)
theorem dJ7_init_2_80 : decode cJ7_init_2 80 = .ok (.iconst 1, 1) := dk_4 (dk_at dksJ7_init_2_3 8 rfl rfl)
theorem dJ7_init_2_81 : decode cJ7_init_2 81 = .ok (.putfield 15, 3) := dk_181 0 15 (dk_at dksJ7_init_2_3 9 rfl rfl)
theorem dJ7_init_2_84 : decode cJ7_init_2 84 = .ok (.aload_n 0, 1) := dk_42 (dk_at dksJ7_init_2_3 12 rfl rfl)
theorem dJ7_init_2_85 : decode cJ7_init_2 85 = .ok (.aload_n 3, 1) := dk_45 (dk_at dksJ7_init_2_3 13 rfl rfl)
theorem dJ7_init_2_86 : decode cJ7_init_2 86 = .ok (.iconst 0, 1) := dk_3 (dk_at dksJ7_init_2_3 14 rfl rfl)
theorem dJ7_init_2_87 : decode cJ7_init_2 87 = .ok (.iload 4, 2) := dk_21 4 (dk_at dksJ7_init_2_3 15 rfl rfl)
theorem dJ7_init_2_89 : decode cJ7_init_2 89 = .ok (.iconst 1, 1) := dk_4 (dk_at dksJ7_init_2_3 17 rfl rfl)
theorem dJ7_init_2_90 : decode cJ7_init_2 90 = .ok (.ishl, 1) := dk_120 (dk_at dksJ7_init_2_3 18 rfl rfl)
theorem dJ7_init_2_91 : decode cJ7_init_2 91 = .ok (.invokestatic 54, 3) := dk_184 0 54 (dk_at dksJ7_init_2_3 19 rfl rfl)
theorem dJ7_init_2_94 : decode cJ7_init_2 94 = .ok (.putfield 9, 3) := dk_181 0 9 (dk_at dksJ7_init_2_4 0 rfl rfl)
theorem dJ7_init_2_97 : decode cJ7_init_2 97 = .ok (.return_, 1) := dk_177 (dk_at dksJ7_init_2_4 3 rfl rfl)
def dkwJ7_length_0 : List UInt8 := [42, 180, 0, 9, 190, 42, 182, 1, 79, 122, 172]
abbrev dktJ7_length_0 : List UInt8 := dkwJ7_length_0 ++ []
theorem dksJ7_length_0 : cJ7_length.data.toList.drop 0 = dktJ7_length_0 := by decide +kernel
theorem dJ7_length_0 : decode cJ7_length 0 = .ok (.aload_n 0, 1) := dk_42 (dk_at dksJ7_length_0 0 rfl rfl)
theorem dJ7_length_1 : decode cJ7_length 1 = .ok (.getfield 9, 3) := dk_180 0 9 (dk_at dksJ7_length_0 1 rfl rfl)
theorem dJ7_length_4 : decode cJ7_length 4 = .ok (.arraylength, 1) := dk_190 (dk_at dksJ7_length_0 4 rfl rfl)
theorem dJ7_length_5 : decode cJ7_length 5 = .ok (.aload_n 0, 1) := dk_42 (dk_at dksJ7_length_0 5 rfl rfl)
theorem dJ7_length_6 : decode cJ7_length 6 = .ok (.invokevirtual 335, 3) := dk_182 1 79 (dk_at dksJ7_length_0 6 rfl rfl)
theorem dJ7_length_9 : decode cJ7_length 9 = .ok (.ishr, 1) := dk_122 (dk_at dksJ7_length_0 9 rfl rfl)
theorem dJ7_length_10 : decode cJ7_length 10 = .ok (.ireturn, 1) := dk_172 (dk_at dksJ7_length_0 10 rfl rfl)
def dkwJ7_coder_0 : List UInt8 := [178, 0, 38, 153, 0, 10, 42, 180, 0, 15, 167, 0, 4, 4, 172]
abbrev dktJ7_coder_0 : List UInt8 := dkwJ7_coder_0 ++ []
theorem dksJ7_coder_0 : cJ7_coder.data.toList.drop 0 = dktJ7_coder_0 := by decide +kernel
theorem dJ7_coder_0 : decode cJ7_coder 0 = .ok (.getstatic 38, 3) := dk_178 0 38 (dk_at dksJ7_coder_0 0 rfl rfl)
theorem dJ7_coder_3 : decode cJ7_coder 3 = .ok (.ifCond .eq 10, 3) := dk_153 0 10 (dk_at dksJ7_coder_0 3 rfl rfl)
theorem dJ7_coder_6 : decode cJ7_coder 6 = .ok (.aload_n 0, 1) := dk_42 (dk_at dksJ7_coder_0 6 rfl rfl)
theorem dJ7_coder_7 : decode cJ7_coder 7 = .ok (.getfield 15, 3) := dk_180 0 15 (dk_at dksJ7_coder_0 7 rfl rfl)
theorem dJ7_coder_10 : decode cJ7_coder 10 = .ok (.goto 4, 3) := dk_167 0 4 (dk_at dksJ7_coder_0 10 rfl rfl)
theorem dJ7_coder_13 : decode cJ7_coder 13 = .ok (.iconst 1, 1) := dk_4 (dk_at dksJ7_coder_0 13 rfl rfl)
theorem dJ7_coder_14 : decode cJ7_coder 14 = .ok (.ireturn, 1) := dk_172 (dk_at dksJ7_coder_0 14 rfl rfl)
def dkwJ7_substring_2 : List UInt8 := [180, 0, 9, 27, 21, 4, 184, 2, 177, 176]
abbrev dktJ7_substring_2 : List UInt8 := dkwJ7_substring_2 ++ []
def dkwJ7_substring_1 : List UInt8 := [100, 54, 4, 42, 182, 1, 236, 153, 0, 16, 42, 180, 0, 9, 27, 21, 4, 184, 2, 173, 167, 0, 13, 42]
abbrev dktJ7_substring_1 : List UInt8 := dkwJ7_substring_1 ++ dktJ7_substring_2
def dkwJ7_substring_0 : List UInt8 := [42, 182, 1, 249, 62, 27, 28, 29, 184, 2, 9, 27, 154, 0, 10, 28, 29, 160, 0, 5, 42, 176, 28, 27]
abbrev dktJ7_substring_0 : List UInt8 := dkwJ7_substring_0 ++ dktJ7_substring_1
theorem dksJ7_substring_0 : cJ7_substring.data.toList.drop 0 = dktJ7_substring_0 := by decide +kernel
theorem dksJ7_substring_1 : cJ7_substring.data.toList.drop 24 = dktJ7_substring_1 := dk_seg dksJ7_substring_0 24 rfl rfl
theorem dksJ7_substring_2 : cJ7_substring.data.toList.drop 48 = dktJ7_substring_2 := dk_seg dksJ7_substring_1 24 rfl rfl
theorem dJ7_substring_0 : decode cJ7_substring 0 = .ok (.aload_n 0, 1) := dk_42 (dk_at dksJ7_substring_0 0 rfl rfl)
theorem dJ7_substring_1 : decode cJ7_substring 1 = .ok (.invokevirtual 505, 3) := dk_182 1 249 (dk_at dksJ7_substring_0 1 rfl rfl)
theorem dJ7_substring_4 : decode cJ7_substring 4 = .ok (.istore_n 3, 1) := dk_62 (dk_at dksJ7_substring_0 4 rfl rfl)
theorem dJ7_substring_5 : decode cJ7_substring 5 = .ok (.iload_n 1, 1) := dk_27 (dk_at dksJ7_substring_0 5 rfl rfl)
theorem dJ7_substring_6 : decode cJ7_substring 6 = .ok (.iload_n 2, 1) := dk_28 (dk_at dksJ7_substring_0 6 rfl rfl)
theorem dJ7_substring_7 : decode cJ7_substring 7 = .ok (.iload_n 3, 1) := dk_29 (dk_at dksJ7_substring_0 7 rfl rfl)
theorem dJ7_substring_8 : decode cJ7_substring 8 = .ok (.invokestatic 521, 3) := dk_184 2 9 (dk_at dksJ7_substring_0 8 rfl rfl)
theorem dJ7_substring_11 : decode cJ7_substring 11 = .ok (.iload_n 1, 1) := dk_27 (dk_at dksJ7_substring_0 11 rfl rfl)
theorem dJ7_substring_12 : decode cJ7_substring 12 = .ok (.ifCond .ne 10, 3) := dk_154 0 10 (dk_at dksJ7_substring_0 12 rfl rfl)
theorem dJ7_substring_15 : decode cJ7_substring 15 = .ok (.iload_n 2, 1) := dk_28 (dk_at dksJ7_substring_0 15 rfl rfl)
theorem dJ7_substring_16 : decode cJ7_substring 16 = .ok (.iload_n 3, 1) := dk_29 (dk_at dksJ7_substring_0 16 rfl rfl)
theorem dJ7_substring_17 : decode cJ7_substring 17 = .ok (.if_icmp .ne 5, 3) := dk_160 0 5 (dk_at dksJ7_substring_0 17 rfl rfl)
theorem dJ7_substring_20 : decode cJ7_substring 20 = .ok (.aload_n 0, 1) := dk_42 (dk_at dksJ7_substring_0 20 rfl rfl)
theorem dJ7_substring_21 : decode cJ7_substring 21 = .ok (.areturn, 1) := dk_176 (dk_at dksJ7_substring_0 21 rfl rfl)
theorem dJ7_substring_22 : decode cJ7_substring 22 = .ok (.iload_n 2, 1) := dk_28 (dk_at dksJ7_substring_0 22 rfl rfl)
theorem dJ7_substring_23 : decode cJ7_substring 23 = .ok (.iload_n 1, 1) := dk_27 (dk_at dksJ7_substring_0 23 rfl rfl)
theorem dJ7_substring_24 : decode cJ7_substring 24 = .ok (.isub, 1) := dk_100 (dk_at dksJ7_substring_1 0 rfl rfl)
theorem dJ7_substring_25 : decode cJ7_substring 25 = .ok (.istore 4, 2) := dk_54 4 (dk_at dksJ7_substring_1 1 rfl rfl)
theorem dJ7_substring_27 : decode cJ7_substring 27 = .ok (.aload_n 0, 1) := dk_42 (dk_at dksJ7_substring_1 3 rfl rfl)
theorem dJ7_substring_28 : decode cJ7_substring 28 = .ok (.invokevirtual 492, 3) := dk_182 1 236 (dk_at dksJ7_substring_1 4 rfl rfl)
theorem dJ7_substring_31 : decode cJ7_substring 31 = .ok (.ifCond .eq 16, 3) := dk_153 0 16 (dk_at dksJ7_substring_1 7 rfl rfl)
theorem dJ7_substring_34 : decode cJ7_substring 34 = .ok (.aload_n 0, 1) := dk_42 (dk_at dksJ7_substring_1 10 rfl rfl)
theorem dJ7_substring_35 : decode cJ7_substring 35 = .ok (.getfield 9, 3) := dk_180 0 9 (dk_at dksJ7_substring_1 11 rfl rfl)
theorem dJ7_substring_38 : decode cJ7_substring 38 = .ok (.iload_n 1, 1) := dk_27 (dk_at dksJ7_substring_1 14 rfl rfl)
theorem dJ7_substring_39 : decode cJ7_substring 39 = .ok (.iload 4, 2) := dk_21 4 (dk_at dksJ7_substring_1 15 rfl rfl)
theorem dJ7_substring_41 : decode cJ7_substring 41 = .ok (.invokestatic 685, 3) := dk_184 2 173 (dk_at dksJ7_substring_1 17 rfl rfl)
theorem dJ7_substring_44 : decode cJ7_substring 44 = .ok (.goto 13, 3) := dk_167 0 13 (dk_at dksJ7_substring_1 20 rfl rfl)
theorem dJ7_substring_47 : decode cJ7_substring 47 = .ok (.aload_n 0, 1) := dk_42 (dk_at dksJ7_substring_1 23 rfl rfl)
theorem dJ7_substring_48 : decode cJ7_substring 48 = .ok (.getfield 9, 3) := dk_180 0 9 (dk_at dksJ7_substring_2 0 rfl rfl)
theorem dJ7_substring_51 : decode cJ7_substring 51 = .ok (.iload_n 1, 1) := dk_27 (dk_at dksJ7_substring_2 3 rfl rfl)
theorem dJ7_substring_52 : decode cJ7_substring 52 = .ok (.iload 4, 2) := dk_21 4 (dk_at dksJ7_substring_2 4 rfl rfl)
theorem dJ7_substring_54 : decode cJ7_substring 54 = .ok (.invokestatic 689, 3) := dk_184 2 177 (dk_at dksJ7_substring_2 6 rfl rfl)
theorem dJ7_substring_57 : decode cJ7_substring 57 = .ok (.areturn, 1) := dk_176 (dk_at dksJ7_substring_2 9 rfl rfl)
def dkwJ7_checkBoundsBeginEnd_0 : List UInt8 := [26, 27, 28, 178, 4, 29, 184, 4, 38, 87, 177]
abbrev dktJ7_checkBoundsBeginEnd_0 : List UInt8 := dkwJ7_checkBoundsBeginEnd_0 ++ []
theorem dksJ7_checkBoundsBeginEnd_0 : cJ7_checkBoundsBeginEnd.data.toList.drop 0 = dktJ7_checkBoundsBeginEnd_0 := by decide +kernel
theorem dJ7_checkBoundsBeginEnd_0 : decode cJ7_checkBoundsBeginEnd 0 = .ok (.iload_n 0, 1) := dk_26 (dk_at dksJ7_checkBoundsBeginEnd_0 0 rfl rfl)
theorem dJ7_checkBoundsBeginEnd_1 : decode cJ7_checkBoundsBeginEnd 1 = .ok (.iload_n 1, 1) := dk_27 (dk_at dksJ7_checkBoundsBeginEnd_0 1 rfl rfl)
theorem dJ7_checkBoundsBeginEnd_2 : decode cJ7_checkBoundsBeginEnd 2 = .ok (.iload_n 2, 1) := dk_28 (dk_at dksJ7_checkBoundsBeginEnd_0 2 rfl rfl)
theorem dJ7_checkBoundsBeginEnd_3 : decode cJ7_checkBoundsBeginEnd 3 = .ok (.getstatic 1053, 3) := dk_178 4 29 (dk_at dksJ7_checkBoundsBeginEnd_0 3 rfl rfl)
theorem dJ7_checkBoundsBeginEnd_6 : decode cJ7_checkBoundsBeginEnd 6 = .ok (.invokestatic 1062, 3) := dk_184 4 38 (dk_at dksJ7_checkBoundsBeginEnd_0 6 rfl rfl)
theorem dJ7_checkBoundsBeginEnd_9 : decode cJ7_checkBoundsBeginEnd 9 = .ok (.pop, 1) := dk_87 (dk_at dksJ7_checkBoundsBeginEnd_0 9 rfl rfl)
theorem dJ7_checkBoundsBeginEnd_10 : decode cJ7_checkBoundsBeginEnd 10 = .ok (.return_, 1) := dk_177 (dk_at dksJ7_checkBoundsBeginEnd_0 10 rfl rfl)
def dkwJ7_isLatin1_0 : List UInt8 := [178, 0, 38, 153, 0, 14, 42, 180, 0, 15, 154, 0, 7, 4, 167, 0, 4, 3, 172]
abbrev dktJ7_isLatin1_0 : List UInt8 := dkwJ7_isLatin1_0 ++ []
theorem dksJ7_isLatin1_0 : cJ7_isLatin1.data.toList.drop 0 = dktJ7_isLatin1_0 := by decide +kernel
theorem dJ7_isLatin1_0 : decode cJ7_isLatin1 0 = .ok (.getstatic 38, 3) := dk_178 0 38 (dk_at dksJ7_isLatin1_0 0 rfl rfl)
theorem dJ7_isLatin1_3 : decode cJ7_isLatin1 3 = .ok (.ifCond .eq 14, 3) := dk_153 0 14 (dk_at dksJ7_isLatin1_0 3 rfl rfl)
theorem dJ7_isLatin1_6 : decode cJ7_isLatin1 6 = .ok (.aload_n 0, 1) := dk_42 (dk_at dksJ7_isLatin1_0 6 rfl rfl)
theorem dJ7_isLatin1_7 : decode cJ7_isLatin1 7 = .ok (.getfield 15, 3) := dk_180 0 15 (dk_at dksJ7_isLatin1_0 7 rfl rfl)
theorem dJ7_isLatin1_10 : decode cJ7_isLatin1 10 = .ok (.ifCond .ne 7, 3) := dk_154 0 7 (dk_at dksJ7_isLatin1_0 10 rfl rfl)
theorem dJ7_isLatin1_13 : decode cJ7_isLatin1 13 = .ok (.iconst 1, 1) := dk_4 (dk_at dksJ7_isLatin1_0 13 rfl rfl)
theorem dJ7_isLatin1_14 : decode cJ7_isLatin1 14 = .ok (.goto 4, 3) := dk_167 0 4 (dk_at dksJ7_isLatin1_0 14 rfl rfl)
theorem dJ7_isLatin1_17 : decode cJ7_isLatin1 17 = .ok (.iconst 0, 1) := dk_3 (dk_at dksJ7_isLatin1_0 17 rfl rfl)
theorem dJ7_isLatin1_18 : decode cJ7_isLatin1 18 = .ok (.ireturn, 1) := dk_172 (dk_at dksJ7_isLatin1_0 18 rfl rfl)
def dkwJ7_init_3_0 : List UInt8 := [42, 183, 0, 1, 42, 43, 181, 0, 9, 42, 28, 181, 0, 15, 177]
abbrev dktJ7_init_3_0 : List UInt8 := dkwJ7_init_3_0 ++ []
theorem dksJ7_init_3_0 : cJ7_init_3.data.toList.drop 0 = dktJ7_init_3_0 := by decide +kernel
theorem dJ7_init_3_0 : decode cJ7_init_3 0 = .ok (.aload_n 0, 1) := dk_42 (dk_at dksJ7_init_3_0 0 rfl rfl)
theorem dJ7_init_3_1 : decode cJ7_init_3 1 = .ok (.invokespecial 1, 3) := dk_183 0 1 (dk_at dksJ7_init_3_0 1 rfl rfl)
theorem dJ7_init_3_4 : decode cJ7_init_3 4 = .ok (.aload_n 0, 1) := dk_42 (dk_at dksJ7_init_3_0 4 rfl rfl)
theorem dJ7_init_3_5 : decode cJ7_init_3 5 = .ok (.aload_n 1, 1) := dk_43 (dk_at dksJ7_init_3_0 5 rfl rfl)
theorem dJ7_init_3_6 : decode cJ7_init_3 6 = .ok (.putfield 9, 3) := dk_181 0 9 (dk_at dksJ7_init_3_0 6 rfl rfl)
theorem dJ7_init_3_9 : decode cJ7_init_3 9 = .ok (.aload_n 0, 1) := dk_42 (dk_at dksJ7_init_3_0 9 rfl rfl)
theorem dJ7_init_3_10 : decode cJ7_init_3 10 = .ok (.iload_n 2, 1) := dk_28 (dk_at dksJ7_init_3_0 10 rfl rfl)
theorem dJ7_init_3_11 : decode cJ7_init_3 11 = .ok (.putfield 15, 3) := dk_181 0 15 (dk_at dksJ7_init_3_0 11 rfl rfl)
theorem dJ7_init_3_14 : decode cJ7_init_3 14 = .ok (.return_, 1) := dk_177 (dk_at dksJ7_init_3_0 14 rfl rfl)
def dkwJ7_compareTo_0 : List UInt8 := [42, 43, 192, 0, 10, 182, 4, 60, 172]
abbrev dktJ7_compareTo_0 : List UInt8 := dkwJ7_compareTo_0 ++ []
theorem dksJ7_compareTo_0 : cJ7_compareTo.data.toList.drop 0 = dktJ7_compareTo_0 := by decide +kernel
theorem dJ7_compareTo_0 : decode cJ7_compareTo 0 = .ok (.aload_n 0, 1) := dk_42 (dk_at dksJ7_compareTo_0 0 rfl rfl)
theorem dJ7_compareTo_1 : decode cJ7_compareTo 1 = .ok (.aload_n 1, 1) := dk_43 (dk_at dksJ7_compareTo_0 1 rfl rfl)
theorem dJ7_compareTo_2 : decode cJ7_compareTo 2 = .ok (.checkcast 10, 3) := dk_192 0 10 (dk_at dksJ7_compareTo_0 2 rfl rfl)
theorem dJ7_compareTo_5 : decode cJ7_compareTo 5 = .ok (.invokevirtual 1084, 3) := dk_182 4 60 (dk_at dksJ7_compareTo_0 5 rfl rfl)
theorem dJ7_compareTo_8 : decode cJ7_compareTo 8 = .ok (.ireturn, 1) := dk_172 (dk_at dksJ7_compareTo_0 8 rfl rfl)
def dkwJ7_compareTo_2_2 : List UInt8 := [154, 0, 11, 44, 45, 184, 2, 79, 167, 0, 8, 44, 45, 184, 2, 82, 172]
abbrev dktJ7_compareTo_2_2 : List UInt8 := dkwJ7_compareTo_2_2 ++ []
def dkwJ7_compareTo_2_1 : List UInt8 := [160, 0, 22, 21, 4, 154, 0, 11, 44, 45, 184, 2, 74, 167, 0, 8, 44, 45, 184, 2, 78, 172, 21, 4]
abbrev dktJ7_compareTo_2_1 : List UInt8 := dkwJ7_compareTo_2_1 ++ dktJ7_compareTo_2_2
def dkwJ7_compareTo_2_0 : List UInt8 := [42, 180, 0, 9, 77, 43, 180, 0, 9, 78, 42, 182, 1, 79, 54, 4, 21, 4, 43, 182, 1, 79]
abbrev dktJ7_compareTo_2_0 : List UInt8 := dkwJ7_compareTo_2_0 ++ dktJ7_compareTo_2_1
theorem dksJ7_compareTo_2_0 : cJ7_compareTo_2.data.toList.drop 0 = dktJ7_compareTo_2_0 := by decide +kernel
theorem dksJ7_compareTo_2_1 : cJ7_compareTo_2.data.toList.drop 22 = dktJ7_compareTo_2_1 := dk_seg dksJ7_compareTo_2_0 22 rfl rfl
theorem dksJ7_compareTo_2_2 : cJ7_compareTo_2.data.toList.drop 46 = dktJ7_compareTo_2_2 := dk_seg dksJ7_compareTo_2_1 24 rfl rfl
theorem dJ7_compareTo_2_0 : decode cJ7_compareTo_2 0 = .ok (.aload_n 0, 1) := dk_42 (dk_at dksJ7_compareTo_2_0 0 rfl rfl)
theorem dJ7_compareTo_2_1 : decode cJ7_compareTo_2 1 = .ok (.getfield 9, 3) := dk_180 0 9 (dk_at dksJ7_compareTo_2_0 1 rfl rfl)
theorem dJ7_compareTo_2_4 : decode cJ7_compareTo_2 4 = .ok (.astore_n 2, 1) := dk_77 (dk_at dksJ7_compareTo_2_0 4 rfl rfl)
theorem dJ7_compareTo_2_5 : decode cJ7_compareTo_2 5 = .ok (.aload_n 1, 1) := dk_43 (dk_at dksJ7_compareTo_2_0 5 rfl rfl)
theorem dJ7_compareTo_2_6 : decode cJ7_compareTo_2 6 = .ok (.getfield 9, 3) := dk_180 0 9 (dk_at dksJ7_compareTo_2_0 6 rfl rfl)
theorem dJ7_compareTo_2_9 : decode cJ7_compareTo_2 9 = .ok (.astore_n 3, 1) := dk_78 (dk_at dksJ7_compareTo_2_0 9 rfl rfl)
theorem dJ7_compareTo_2_10 : decode cJ7_compareTo_2 10 = .ok (.aload_n 0, 1) := dk_42 (dk_at dksJ7_compareTo_2_0 10 rfl rfl)
theorem dJ7_compareTo_2_11 : decode cJ7_compareTo_2 11 = .ok (.invokevirtual 335, 3) := dk_182 1 79 (dk_at dksJ7_compareTo_2_0 11 rfl rfl)
theorem dJ7_compareTo_2_14 : decode cJ7_compareTo_2 14 = .ok (.istore 4, 2) := dk_54 4 (dk_at dksJ7_compareTo_2_0 14 rfl rfl)
theorem dJ7_compareTo_2_16 : decode cJ7_compareTo_2 16 = .ok (.iload 4, 2) := dk_21 4 (dk_at dksJ7_compareTo_2_0 16 rfl rfl)
theorem dJ7_compareTo_2_18 : decode cJ7_compareTo_2 18 = .ok (.aload_n 1, 1) := dk_43 (dk_at dksJ7_compareTo_2_0 18 rfl rfl)
theorem dJ7_compareTo_2_19 : decode cJ7_compareTo_2 19 = .ok (.invokevirtual 335, 3) := dk_182 1 79 (dk_at dksJ7_compareTo_2_0 19 rfl rfl)
theorem dJ7_compareTo_2_22 : decode cJ7_compareTo_2 22 = .ok (.if_icmp .ne 22, 3) := dk_160 0 22 (dk_at dksJ7_compareTo_2_1 0 rfl rfl)
theorem dJ7_compareTo_2_25 : decode cJ7_compareTo_2 25 = .ok (.iload 4, 2) := dk_21 4 (dk_at dksJ7_compareTo_2_1 3 rfl rfl)
theorem dJ7_compareTo_2_27 : decode cJ7_compareTo_2 27 = .ok (.ifCond .ne 11, 3) := dk_154 0 11 (dk_at dksJ7_compareTo_2_1 5 rfl rfl)
theorem dJ7_compareTo_2_30 : decode cJ7_compareTo_2 30 = .ok (.aload_n 2, 1) := dk_44 (dk_at dksJ7_compareTo_2_1 8 rfl rfl)
theorem dJ7_compareTo_2_31 : decode cJ7_compareTo_2 31 = .ok (.aload_n 3, 1) := dk_45 (dk_at dksJ7_compareTo_2_1 9 rfl rfl)
theorem dJ7_compareTo_2_32 : decode cJ7_compareTo_2 32 = .ok (.invokestatic 586, 3) := dk_184 2 74 (dk_at dksJ7_compareTo_2_1 10 rfl rfl)
theorem dJ7_compareTo_2_35 : decode cJ7_compareTo_2 35 = .ok (.goto 8, 3) := dk_167 0 8 (dk_at dksJ7_compareTo_2_1 13 rfl rfl)
theorem dJ7_compareTo_2_38 : decode cJ7_compareTo_2 38 = .ok (.aload_n 2, 1) := dk_44 (dk_at dksJ7_compareTo_2_1 16 rfl rfl)
theorem dJ7_compareTo_2_39 : decode cJ7_compareTo_2 39 = .ok (.aload_n 3, 1) := dk_45 (dk_at dksJ7_compareTo_2_1 17 rfl rfl)
theorem dJ7_compareTo_2_40 : decode cJ7_compareTo_2 40 = .ok (.invokestatic 590, 3) := dk_184 2 78 (dk_at dksJ7_compareTo_2_1 18 rfl rfl)
theorem dJ7_compareTo_2_43 : decode cJ7_compareTo_2 43 = .ok (.ireturn, 1) := dk_172 (dk_at dksJ7_compareTo_2_1 21 rfl rfl)
theorem dJ7_compareTo_2_44 : decode cJ7_compareTo_2 44 = .ok (.iload 4, 2) := dk_21 4 (dk_at dksJ7_compareTo_2_1 22 rfl rfl)
theorem dJ7_compareTo_2_46 : decode cJ7_compareTo_2 46 = .ok (.ifCond .ne 11, 3) := dk_154 0 11 (dk_at dksJ7_compareTo_2_2 0 rfl rfl)
theorem dJ7_compareTo_2_49 : decode cJ7_compareTo_2 49 = .ok (.aload_n 2, 1) := dk_44 (dk_at dksJ7_compareTo_2_2 3 rfl rfl)
theorem dJ7_compareTo_2_50 : decode cJ7_compareTo_2 50 = .ok (.aload_n 3, 1) := dk_45 (dk_at dksJ7_compareTo_2_2 4 rfl rfl)
theorem dJ7_compareTo_2_51 : decode cJ7_compareTo_2 51 = .ok (.invokestatic 591, 3) := dk_184 2 79 (dk_at dksJ7_compareTo_2_2 5 rfl rfl)
theorem dJ7_compareTo_2_54 : decode cJ7_compareTo_2 54 = .ok (.goto 8, 3) := dk_167 0 8 (dk_at dksJ7_compareTo_2_2 8 rfl rfl)
theorem dJ7_compareTo_2_57 : decode cJ7_compareTo_2 57 = .ok (.aload_n 2, 1) := dk_44 (dk_at dksJ7_compareTo_2_2 11 rfl rfl)
theorem dJ7_compareTo_2_58 : decode cJ7_compareTo_2 58 = .ok (.aload_n 3, 1) := dk_45 (dk_at dksJ7_compareTo_2_2 12 rfl rfl)
theorem dJ7_compareTo_2_59 : decode cJ7_compareTo_2 59 = .ok (.invokestatic 594, 3) := dk_184 2 82 (dk_at dksJ7_compareTo_2_2 13 rfl rfl)
theorem dJ7_compareTo_2_62 : decode cJ7_compareTo_2 62 = .ok (.ireturn, 1) := dk_172 (dk_at dksJ7_compareTo_2_2 16 rfl rfl)
def dkwJ7_checkOffset_0 : List UInt8 := [26, 27, 27, 178, 4, 29, 184, 4, 38, 87, 177]
abbrev dktJ7_checkOffset_0 : List UInt8 := dkwJ7_checkOffset_0 ++ []
theorem dksJ7_checkOffset_0 : cJ7_checkOffset.data.toList.drop 0 = dktJ7_checkOffset_0 := by decide +kernel
theorem dJ7_checkOffset_0 : decode cJ7_checkOffset 0 = .ok (.iload_n 0, 1) := dk_26 (dk_at dksJ7_checkOffset_0 0 rfl rfl)
theorem dJ7_checkOffset_1 : decode cJ7_checkOffset 1 = .ok (.iload_n 1, 1) := dk_27 (dk_at dksJ7_checkOffset_0 1 rfl rfl)
theorem dJ7_checkOffset_2 : decode cJ7_checkOffset 2 = .ok (.iload_n 1, 1) := dk_27 (dk_at dksJ7_checkOffset_0 2 rfl rfl)
theorem dJ7_checkOffset_3 : decode cJ7_checkOffset 3 = .ok (.getstatic 1053, 3) := dk_178 4 29 (dk_at dksJ7_checkOffset_0 3 rfl rfl)
theorem dJ7_checkOffset_6 : decode cJ7_checkOffset 6 = .ok (.invokestatic 1062, 3) := dk_184 4 38 (dk_at dksJ7_checkOffset_0 6 rfl rfl)
theorem dJ7_checkOffset_9 : decode cJ7_checkOffset 9 = .ok (.pop, 1) := dk_87 (dk_at dksJ7_checkOffset_0 9 rfl rfl)
theorem dJ7_checkOffset_10 : decode cJ7_checkOffset 10 = .ok (.return_, 1) := dk_177 (dk_at dksJ7_checkOffset_0 10 rfl rfl)
def dkwJ7_charAt_1 : List UInt8 := [172]
abbrev dktJ7_charAt_1 : List UInt8 := dkwJ7_charAt_1 ++ []
def dkwJ7_charAt_0 : List UInt8 := [42, 182, 1, 236, 153, 0, 12, 42, 180, 0, 9, 27, 184, 1, 239, 172, 42, 180, 0, 9, 27, 184, 1, 242]
abbrev dktJ7_charAt_0 : List UInt8 := dkwJ7_charAt_0 ++ dktJ7_charAt_1
theorem dksJ7_charAt_0 : cJ7_charAt.data.toList.drop 0 = dktJ7_charAt_0 := by decide +kernel
theorem dksJ7_charAt_1 : cJ7_charAt.data.toList.drop 24 = dktJ7_charAt_1 := dk_seg dksJ7_charAt_0 24 rfl rfl
theorem dJ7_charAt_0 : decode cJ7_charAt 0 = .ok (.aload_n 0, 1) := dk_42 (dk_at dksJ7_charAt_0 0 rfl rfl)
theorem dJ7_charAt_1 : decode cJ7_charAt 1 = .ok (.invokevirtual 492, 3) := dk_182 1 236 (dk_at dksJ7_charAt_0 1 rfl rfl)
theorem dJ7_charAt_4 : decode cJ7_charAt 4 = .ok (.ifCond .eq 12, 3) := dk_153 0 12 (dk_at dksJ7_charAt_0 4 rfl rfl)
theorem dJ7_charAt_7 : decode cJ7_charAt 7 = .ok (.aload_n 0, 1) := dk_42 (dk_at dksJ7_charAt_0 7 rfl rfl)
theorem dJ7_charAt_8 : decode cJ7_charAt 8 = .ok (.getfield 9, 3) := dk_180 0 9 (dk_at dksJ7_charAt_0 8 rfl rfl)
theorem dJ7_charAt_11 : decode cJ7_charAt 11 = .ok (.iload_n 1, 1) := dk_27 (dk_at dksJ7_charAt_0 11 rfl rfl)
theorem dJ7_charAt_12 : decode cJ7_charAt 12 = .ok (.invokestatic 495, 3) := dk_184 1 239 (dk_at dksJ7_charAt_0 12 rfl rfl)
theorem dJ7_charAt_15 : decode cJ7_charAt 15 = .ok (.ireturn, 1) := dk_172 (dk_at dksJ7_charAt_0 15 rfl rfl)
theorem dJ7_charAt_16 : decode cJ7_charAt 16 = .ok (.aload_n 0, 1) := dk_42 (dk_at dksJ7_charAt_0 16 rfl rfl)
theorem dJ7_charAt_17 : decode cJ7_charAt 17 = .ok (.getfield 9, 3) := dk_180 0 9 (dk_at dksJ7_charAt_0 17 rfl rfl)
theorem dJ7_charAt_20 : decode cJ7_charAt 20 = .ok (.iload_n 1, 1) := dk_27 (dk_at dksJ7_charAt_0 20 rfl rfl)
theorem dJ7_charAt_21 : decode cJ7_charAt 21 = .ok (.invokestatic 498, 3) := dk_184 1 242 (dk_at dksJ7_charAt_0 21 rfl rfl)
theorem dJ7_charAt_24 : decode cJ7_charAt 24 = .ok (.ireturn, 1) := dk_172 (dk_at dksJ7_charAt_1 0 rfl rfl)
def dkwJ7_indexOf_0 : List UInt8 := [42, 27, 3, 182, 2, 121, 172]
abbrev dktJ7_indexOf_0 : List UInt8 := dkwJ7_indexOf_0 ++ []
theorem dksJ7_indexOf_0 : cJ7_indexOf.data.toList.drop 0 = dktJ7_indexOf_0 := by decide +kernel
theorem dJ7_indexOf_0 : decode cJ7_indexOf 0 = .ok (.aload_n 0, 1) := dk_42 (dk_at dksJ7_indexOf_0 0 rfl rfl)
theorem dJ7_indexOf_1 : decode cJ7_indexOf 1 = .ok (.iload_n 1, 1) := dk_27 (dk_at dksJ7_indexOf_0 1 rfl rfl)
theorem dJ7_indexOf_2 : decode cJ7_indexOf 2 = .ok (.iconst 0, 1) := dk_3 (dk_at dksJ7_indexOf_0 2 rfl rfl)
theorem dJ7_indexOf_3 : decode cJ7_indexOf 3 = .ok (.invokevirtual 633, 3) := dk_182 2 121 (dk_at dksJ7_indexOf_0 3 rfl rfl)
theorem dJ7_indexOf_6 : decode cJ7_indexOf 6 = .ok (.ireturn, 1) := dk_172 (dk_at dksJ7_indexOf_0 6 rfl rfl)
def dkwJ7_indexOf_2_1 : List UInt8 := [180, 0, 9, 27, 28, 42, 182, 1, 249, 184, 2, 128, 172]
abbrev dktJ7_indexOf_2_1 : List UInt8 := dkwJ7_indexOf_2_1 ++ []
def dkwJ7_indexOf_2_0 : List UInt8 := [42, 182, 1, 236, 153, 0, 19, 42, 180, 0, 9, 27, 28, 42, 182, 1, 249, 184, 2, 125, 167, 0, 16, 42]
abbrev dktJ7_indexOf_2_0 : List UInt8 := dkwJ7_indexOf_2_0 ++ dktJ7_indexOf_2_1
theorem dksJ7_indexOf_2_0 : cJ7_indexOf_2.data.toList.drop 0 = dktJ7_indexOf_2_0 := by decide +kernel
theorem dksJ7_indexOf_2_1 : cJ7_indexOf_2.data.toList.drop 24 = dktJ7_indexOf_2_1 := dk_seg dksJ7_indexOf_2_0 24 rfl rfl
theorem dJ7_indexOf_2_0 : decode cJ7_indexOf_2 0 = .ok (.aload_n 0, 1) := dk_42 (dk_at dksJ7_indexOf_2_0 0 rfl rfl)
theorem dJ7_indexOf_2_1 : decode cJ7_indexOf_2 1 = .ok (.invokevirtual 492, 3) := dk_182 1 236 (dk_at dksJ7_indexOf_2_0 1 rfl rfl)
theorem dJ7_indexOf_2_4 : decode cJ7_indexOf_2 4 = .ok (.ifCond .eq 19, 3) := dk_153 0 19 (dk_at dksJ7_indexOf_2_0 4 rfl rfl)
theorem dJ7_indexOf_2_7 : decode cJ7_indexOf_2 7 = .ok (.aload_n 0, 1) := dk_42 (dk_at dksJ7_indexOf_2_0 7 rfl rfl)
theorem dJ7_indexOf_2_8 : decode cJ7_indexOf_2 8 = .ok (.getfield 9, 3) := dk_180 0 9 (dk_at dksJ7_indexOf_2_0 8 rfl rfl)
theorem dJ7_indexOf_2_11 : decode cJ7_indexOf_2 11 = .ok (.iload_n 1, 1) := dk_27 (dk_at dksJ7_indexOf_2_0 11 rfl rfl)
theorem dJ7_indexOf_2_12 : decode cJ7_indexOf_2 12 = .ok (.iload_n 2, 1) := dk_28 (dk_at dksJ7_indexOf_2_0 12 rfl rfl)
theorem dJ7_indexOf_2_13 : decode cJ7_indexOf_2 13 = .ok (.aload_n 0, 1) := dk_42 (dk_at dksJ7_indexOf_2_0 13 rfl rfl)
theorem dJ7_indexOf_2_14 : decode cJ7_indexOf_2 14 = .ok (.invokevirtual 505, 3) := dk_182 1 249 (dk_at dksJ7_indexOf_2_0 14 rfl rfl)
theorem dJ7_indexOf_2_17 : decode cJ7_indexOf_2 17 = .ok (.invokestatic 637, 3) := dk_184 2 125 (dk_at dksJ7_indexOf_2_0 17 rfl rfl)
theorem dJ7_indexOf_2_20 : decode cJ7_indexOf_2 20 = .ok (.goto 16, 3) := dk_167 0 16 (dk_at dksJ7_indexOf_2_0 20 rfl rfl)
theorem dJ7_indexOf_2_23 : decode cJ7_indexOf_2 23 = .ok (.aload_n 0, 1) := dk_42 (dk_at dksJ7_indexOf_2_0 23 rfl rfl)
theorem dJ7_indexOf_2_24 : decode cJ7_indexOf_2 24 = .ok (.getfield 9, 3) := dk_180 0 9 (dk_at dksJ7_indexOf_2_1 0 rfl rfl)
theorem dJ7_indexOf_2_27 : decode cJ7_indexOf_2 27 = .ok (.iload_n 1, 1) := dk_27 (dk_at dksJ7_indexOf_2_1 3 rfl rfl)
theorem dJ7_indexOf_2_28 : decode cJ7_indexOf_2 28 = .ok (.iload_n 2, 1) := dk_28 (dk_at dksJ7_indexOf_2_1 4 rfl rfl)
theorem dJ7_indexOf_2_29 : decode cJ7_indexOf_2 29 = .ok (.aload_n 0, 1) := dk_42 (dk_at dksJ7_indexOf_2_1 5 rfl rfl)
theorem dJ7_indexOf_2_30 : decode cJ7_indexOf_2 30 = .ok (.invokevirtual 505, 3) := dk_182 1 249 (dk_at dksJ7_indexOf_2_1 6 rfl rfl)
theorem dJ7_indexOf_2_33 : decode cJ7_indexOf_2 33 = .ok (.invokestatic 640, 3) := dk_184 2 128 (dk_at dksJ7_indexOf_2_1 9 rfl rfl)
theorem dJ7_indexOf_2_36 : decode cJ7_indexOf_2 36 = .ok (.ireturn, 1) := dk_172 (dk_at dksJ7_indexOf_2_1 12 rfl rfl)
def dkwJ8_newBytesFor_0 : List UInt8 := [26, 184, 0, 11, 188, 8, 176]
abbrev dktJ8_newBytesFor_0 : List UInt8 := dkwJ8_newBytesFor_0 ++ []
theorem dksJ8_newBytesFor_0 : cJ8_newBytesFor.data.toList.drop 0 = dktJ8_newBytesFor_0 := by decide +kernel
theorem dJ8_newBytesFor_0 : decode cJ8_newBytesFor 0 = .ok (.iload_n 0, 1) := dk_26 (dk_at dksJ8_newBytesFor_0 0 rfl rfl)
theorem dJ8_newBytesFor_1 : decode cJ8_newBytesFor 1 = .ok (.invokestatic 11, 3) := dk_184 0 11 (dk_at dksJ8_newBytesFor_0 1 rfl rfl)
theorem dJ8_newBytesFor_4 : decode cJ8_newBytesFor 4 = .ok (.newarray .byte, 2) := dk_188_8 (dk_at dksJ8_newBytesFor_0 4 rfl rfl)
theorem dJ8_newBytesFor_6 : decode cJ8_newBytesFor 6 = .ok (.areturn, 1) := dk_176 (dk_at dksJ8_newBytesFor_0 6 rfl rfl)
def dkwJ8_newBytesLength_2 : List UInt8 := [182, 0, 32, 182, 0, 37, 183, 0, 41, 191, 26, 4, 120, 172]
abbrev dktJ8_newBytesLength_2 : List UInt8 := dkwJ8_newBytesLength_2 ++ []
def dkwJ8_newBytesLength_1 : List UInt8 := [187, 0, 23, 89, 183, 0, 25, 18, 26, 182, 0, 28, 26, 182, 0, 32, 18, 35, 182, 0, 28, 18, 20]
abbrev dktJ8_newBytesLength_1 : List UInt8 := dkwJ8_newBytesLength_1 ++ dktJ8_newBytesLength_2
def dkwJ8_newBytesLength_0 : List UInt8 := [26, 156, 0, 11, 187, 0, 17, 89, 183, 0, 19, 191, 26, 18, 20, 161, 0, 40, 187, 0, 21, 89]
abbrev dktJ8_newBytesLength_0 : List UInt8 := dkwJ8_newBytesLength_0 ++ dktJ8_newBytesLength_1
theorem dksJ8_newBytesLength_0 : cJ8_newBytesLength.data.toList.drop 0 = dktJ8_newBytesLength_0 := by decide +kernel
theorem dksJ8_newBytesLength_1 : cJ8_newBytesLength.data.toList.drop 22 = dktJ8_newBytesLength_1 := dk_seg dksJ8_newBytesLength_0 22 rfl rfl
theorem dksJ8_newBytesLength_2 : cJ8_newBytesLength.data.toList.drop 45 = dktJ8_newBytesLength_2 := dk_seg dksJ8_newBytesLength_1 23 rfl rfl
theorem dJ8_newBytesLength_0 : decode cJ8_newBytesLength 0 = .ok (.iload_n 0, 1) := dk_26 (dk_at dksJ8_newBytesLength_0 0 rfl rfl)
theorem dJ8_newBytesLength_1 : decode cJ8_newBytesLength 1 = .ok (.ifCond .ge 11, 3) := dk_156 0 11 (dk_at dksJ8_newBytesLength_0 1 rfl rfl)
theorem dJ8_newBytesLength_4 : decode cJ8_newBytesLength 4 = .ok (.new 17, 3) := dk_187 0 17 (dk_at dksJ8_newBytesLength_0 4 rfl rfl)
theorem dJ8_newBytesLength_7 : decode cJ8_newBytesLength 7 = .ok (.dup, 1) := dk_89 (dk_at dksJ8_newBytesLength_0 7 rfl rfl)
theorem dJ8_newBytesLength_8 : decode cJ8_newBytesLength 8 = .ok (.invokespecial 19, 3) := dk_183 0 19 (dk_at dksJ8_newBytesLength_0 8 rfl rfl)
theorem dJ8_newBytesLength_11 : decode cJ8_newBytesLength 11 = .ok (.athrow, 1) := dk_191 (dk_at dksJ8_newBytesLength_0 11 rfl rfl)
theorem dJ8_newBytesLength_12 : decode cJ8_newBytesLength 12 = .ok (.iload_n 0, 1) := dk_26 (dk_at dksJ8_newBytesLength_0 12 rfl rfl)
theorem dJ8_newBytesLength_13 : decode cJ8_newBytesLength 13 = .ok (.ldc 20, 2) := dk_18 20 (dk_at dksJ8_newBytesLength_0 13 rfl rfl)
theorem dJ8_newBytesLength_15 : decode cJ8_newBytesLength 15 = .ok (.if_icmp .lt 40, 3) := dk_161 0 40 (dk_at dksJ8_newBytesLength_0 15 rfl rfl)
theorem dJ8_newBytesLength_18 : decode cJ8_newBytesLength 18 = .ok (.new 21, 3) := dk_187 0 21 (dk_at dksJ8_newBytesLength_0 18 rfl rfl)
theorem dJ8_newBytesLength_21 : decode cJ8_newBytesLength 21 = .ok (.dup, 1) := dk_89 (dk_at dksJ8_newBytesLength_0 21 rfl rfl)
theorem dJ8_newBytesLength_22 : decode cJ8_newBytesLength 22 = .ok (.new 23, 3) := dk_187 0 23 (dk_at dksJ8_newBytesLength_1 0 rfl rfl)
theorem dJ8_newBytesLength_25 : decode cJ8_newBytesLength 25 = .ok (.dup, 1) := dk_89 (dk_at dksJ8_newBytesLength_1 3 rfl rfl)
theorem dJ8_newBytesLength_26 : decode cJ8_newBytesLength 26 = .ok (.invokespecial 25, 3) := dk_183 0 25 (dk_at dksJ8_newBytesLength_1 4 rfl rfl)
theorem dJ8_newBytesLength_29 : decode cJ8_newBytesLength 29 = .ok (.ldc 26, 2) := dk_18 26 (dk_at dksJ8_newBytesLength_1 7 rfl rfl)
theorem dJ8_newBytesLength_31 : decode cJ8_newBytesLength 31 = .ok (.invokevirtual 28, 3) := dk_182 0 28 (dk_at dksJ8_newBytesLength_1 9 rfl rfl)
theorem dJ8_newBytesLength_34 : decode cJ8_newBytesLength 34 = .ok (.iload_n 0, 1) := dk_26 (dk_at dksJ8_newBytesLength_1 12 rfl rfl)
theorem dJ8_newBytesLength_35 : decode cJ8_newBytesLength 35 = .ok (.invokevirtual 32, 3) := dk_182 0 32 (dk_at dksJ8_newBytesLength_1 13 rfl rfl)
theorem dJ8_newBytesLength_38 : decode cJ8_newBytesLength 38 = .ok (.ldc 35, 2) := dk_18 35 (dk_at dksJ8_newBytesLength_1 16 rfl rfl)
theorem dJ8_newBytesLength_40 : decode cJ8_newBytesLength 40 = .ok (.invokevirtual 28, 3) := dk_182 0 28 (dk_at dksJ8_newBytesLength_1 18 rfl rfl)
theorem dJ8_newBytesLength_43 : decode cJ8_newBytesLength 43 = .ok (.ldc 20, 2) := dk_18 20 (dk_at dksJ8_newBytesLength_1 21 rfl rfl)
theorem dJ8_newBytesLength_45 : decode cJ8_newBytesLength 45 = .ok (.invokevirtual 32, 3) := dk_182 0 32 (dk_at dksJ8_newBytesLength_2 0 rfl rfl)
theorem dJ8_newBytesLength_48 : decode cJ8_newBytesLength 48 = .ok (.invokevirtual 37, 3) := dk_182 0 37 (dk_at dksJ8_newBytesLength_2 3 rfl rfl)
theorem dJ8_newBytesLength_51 : decode cJ8_newBytesLength 51 = .ok (.invokespecial 41, 3) := dk_183 0 41 (dk_at dksJ8_newBytesLength_2 6 rfl rfl)
theorem dJ8_newBytesLength_54 : decode cJ8_newBytesLength 54 = .ok (.athrow, 1) := dk_191 (dk_at dksJ8_newBytesLength_2 9 rfl rfl)
theorem dJ8_newBytesLength_55 : decode cJ8_newBytesLength 55 = .ok (.iload_n 0, 1) := dk_26 (dk_at dksJ8_newBytesLength_2 10 rfl rfl)
theorem dJ8_newBytesLength_56 : decode cJ8_newBytesLength 56 = .ok (.iconst 1, 1) := dk_4 (dk_at dksJ8_newBytesLength_2 11 rfl rfl)
theorem dJ8_newBytesLength_57 : decode cJ8_newBytesLength 57 = .ok (.ishl, 1) := dk_120 (dk_at dksJ8_newBytesLength_2 12 rfl rfl)
theorem dJ8_newBytesLength_58 : decode cJ8_newBytesLength 58 = .ok (.ireturn, 1) := dk_172 (dk_at dksJ8_newBytesLength_2 13 rfl rfl)
def dkwJ8_inflate_1 : List UInt8 := [132, 1, 1, 51, 17, 0, 255, 126, 184, 0, 111, 132, 5, 1, 167, 255, 228, 177]
abbrev dktJ8_inflate_1 : List UInt8 := dkwJ8_inflate_1 ++ []
def dkwJ8_inflate_0 : List UInt8 := [29, 21, 4, 44, 184, 0, 173, 3, 54, 5, 21, 5, 21, 4, 162, 0, 27, 44, 29, 132, 3, 1, 42, 27]
abbrev dktJ8_inflate_0 : List UInt8 := dkwJ8_inflate_0 ++ dktJ8_inflate_1
theorem dksJ8_inflate_0 : cJ8_inflate.data.toList.drop 0 = dktJ8_inflate_0 := by decide +kernel
theorem dksJ8_inflate_1 : cJ8_inflate.data.toList.drop 24 = dktJ8_inflate_1 := dk_seg dksJ8_inflate_0 24 rfl rfl
theorem dJ8_inflate_0 : decode cJ8_inflate 0 = .ok (.iload_n 3, 1) := dk_29 (dk_at dksJ8_inflate_0 0 rfl rfl)
theorem dJ8_inflate_1 : decode cJ8_inflate 1 = .ok (.iload 4, 2) := dk_21 4 (dk_at dksJ8_inflate_0 1 rfl rfl)
theorem dJ8_inflate_3 : decode cJ8_inflate 3 = .ok (.aload_n 2, 1) := dk_44 (dk_at dksJ8_inflate_0 3 rfl rfl)
theorem dJ8_inflate_4 : decode cJ8_inflate 4 = .ok (.invokestatic 173, 3) := dk_184 0 173 (dk_at dksJ8_inflate_0 4 rfl rfl)
theorem dJ8_inflate_7 : decode cJ8_inflate 7 = .ok (.iconst 0, 1) := dk_3 (dk_at dksJ8_inflate_0 7 rfl rfl)
theorem dJ8_inflate_8 : decode cJ8_inflate 8 = .ok (.istore 5, 2) := dk_54 5 (dk_at dksJ8_inflate_0 8 rfl rfl)
theorem dJ8_inflate_10 : decode cJ8_inflate 10 = .ok (.iload 5, 2) := dk_21 5 (dk_at dksJ8_inflate_0 10 rfl rfl)
theorem dJ8_inflate_12 : decode cJ8_inflate 12 = .ok (.iload 4, 2) := dk_21 4 (dk_at dksJ8_inflate_0 12 rfl rfl)
theorem dJ8_inflate_14 : decode cJ8_inflate 14 = .ok (.if_icmp .ge 27, 3) := dk_162 0 27 (dk_at dksJ8_inflate_0 14 rfl rfl)
theorem dJ8_inflate_17 : decode cJ8_inflate 17 = .ok (.aload_n 2, 1) := dk_44 (dk_at dksJ8_inflate_0 17 rfl rfl)
theorem dJ8_inflate_18 : decode cJ8_inflate 18 = .ok (.iload_n 3, 1) := dk_29 (dk_at dksJ8_inflate_0 18 rfl rfl)
theorem dJ8_inflate_19 : decode cJ8_inflate 19 = .ok (.iinc 3 1, 3) := dk_132 3 1 (dk_at dksJ8_inflate_0 19 rfl rfl)
theorem dJ8_inflate_22 : decode cJ8_inflate 22 = .ok (.aload_n 0, 1) := dk_42 (dk_at dksJ8_inflate_0 22 rfl rfl)
theorem dJ8_inflate_23 : decode cJ8_inflate 23 = .ok (.iload_n 1, 1) := dk_27 (dk_at dksJ8_inflate_0 23 rfl rfl)
theorem dJ8_inflate_24 : decode cJ8_inflate 24 = .ok (.iinc 1 1, 3) := dk_132 1 1 (dk_at dksJ8_inflate_1 0 rfl rfl)
theorem dJ8_inflate_27 : decode cJ8_inflate 27 = .ok (.baload, 1) := dk_51 (dk_at dksJ8_inflate_1 3 rfl rfl)
theorem dJ8_inflate_28 : decode cJ8_inflate 28 = .ok (.sipush 255, 3) := dk_17 0 255 (dk_at dksJ8_inflate_1 4 rfl rfl)
theorem dJ8_inflate_31 : decode cJ8_inflate 31 = .ok (.iand, 1) := dk_126 (dk_at dksJ8_inflate_1 7 rfl rfl)
