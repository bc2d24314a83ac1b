set_option maxRecDepth 100000
def dkwX0_guessed_1 : List UInt8 := [46, 2, 160, 0, 7, 3, 167, 0, 4, 4, 96, 60, 132, 2, 1, 167, 255, 221, 27, 172]
abbrev dktX0_guessed_1 : List UInt8 := dkwX0_guessed_1 ++ []
def dkwX0_guessed_0 : List UInt8 := [3, 60, 3, 61, 28, 42, 180, 0, 16, 180, 0, 134, 162, 0, 30, 27, 42, 180, 0, 16, 180, 1, 154, 28]
abbrev dktX0_guessed_0 : List UInt8 := dkwX0_guessed_0 ++ dktX0_guessed_1
theorem dksX0_guessed_0 : cX0_guessed.data.toList.drop 0 = dktX0_guessed_0 := by decide +kernel
theorem dksX0_guessed_1 : cX0_guessed.data.toList.drop 24 = dktX0_guessed_1 := dk_seg dksX0_guessed_0 24 rfl rfl
theorem dX0_guessed_0 : decode cX0_guessed 0 = .ok (.iconst 0, 1) := dk_3 (dk_at dksX0_guessed_0 0 rfl rfl)
theorem dX0_guessed_1 : decode cX0_guessed 1 = .ok (.istore_n 1, 1) := dk_60 (dk_at dksX0_guessed_0 1 rfl rfl)
theorem dX0_guessed_2 : decode cX0_guessed 2 = .ok (.iconst 0, 1) := dk_3 (dk_at dksX0_guessed_0 2 rfl rfl)
theorem dX0_guessed_3 : decode cX0_guessed 3 = .ok (.istore_n 2, 1) := dk_61 (dk_at dksX0_guessed_0 3 rfl rfl)
theorem dX0_guessed_4 : decode cX0_guessed 4 = .ok (.iload_n 2, 1) := dk_28 (dk_at dksX0_guessed_0 4 rfl rfl)
theorem dX0_guessed_5 : decode cX0_guessed 5 = .ok (.aload_n 0, 1) := dk_42 (dk_at dksX0_guessed_0 5 rfl rfl)
theorem dX0_guessed_6 : decode cX0_guessed 6 = .ok (.getfield 16, 3) := dk_180 0 16 (dk_at dksX0_guessed_0 6 rfl rfl)
theorem dX0_guessed_9 : decode cX0_guessed 9 = .ok (.getfield 134, 3) := dk_180 0 134 (dk_at dksX0_guessed_0 9 rfl rfl)
theorem dX0_guessed_12 : decode cX0_guessed 12 = .ok (.if_icmp .ge 30, 3) := dk_162 0 30 (dk_at dksX0_guessed_0 12 rfl rfl)
theorem dX0_guessed_15 : decode cX0_guessed 15 = .ok (.iload_n 1, 1) := dk_27 (dk_at dksX0_guessed_0 15 rfl rfl)
theorem dX0_guessed_16 : decode cX0_guessed 16 = .ok (.aload_n 0, 1) := dk_42 (dk_at dksX0_guessed_0 16 rfl rfl)
theorem dX0_guessed_17 : decode cX0_guessed 17 = .ok (.getfield 16, 3) := dk_180 0 16 (dk_at dksX0_guessed_0 17 rfl rfl)
theorem dX0_guessed_20 : decode cX0_guessed 20 = .ok (.getfield 410, 3) := dk_180 1 154 (dk_at dksX0_guessed_0 20 rfl rfl)
theorem dX0_guessed_23 : decode cX0_guessed 23 = .ok (.iload_n 2, 1) := dk_28 (dk_at dksX0_guessed_0 23 rfl rfl)
theorem dX0_guessed_24 : decode cX0_guessed 24 = .ok (.iaload, 1) := dk_46 (dk_at dksX0_guessed_1 0 rfl rfl)
theorem dX0_guessed_25 : decode cX0_guessed 25 = .ok (.iconst (-1), 1) := dk_2 (dk_at dksX0_guessed_1 1 rfl rfl)
theorem dX0_guessed_26 : decode cX0_guessed 26 = .ok (.if_icmp .ne 7, 3) := dk_160 0 7 (dk_at dksX0_guessed_1 2 rfl rfl)
theorem dX0_guessed_29 : decode cX0_guessed 29 = .ok (.iconst 0, 1) := dk_3 (dk_at dksX0_guessed_1 5 rfl rfl)
theorem dX0_guessed_30 : decode cX0_guessed 30 = .ok (.goto 4, 3) := dk_167 0 4 (dk_at dksX0_guessed_1 6 rfl rfl)
theorem dX0_guessed_33 : decode cX0_guessed 33 = .ok (.iconst 1, 1) := dk_4 (dk_at dksX0_guessed_1 9 rfl rfl)
theorem dX0_guessed_34 : decode cX0_guessed 34 = .ok (.iadd, 1) := dk_96 (dk_at dksX0_guessed_1 10 rfl rfl)
theorem dX0_guessed_35 : decode cX0_guessed 35 = .ok (.istore_n 1, 1) := dk_60 (dk_at dksX0_guessed_1 11 rfl rfl)
theorem dX0_guessed_36 : decode cX0_guessed 36 = .ok (.iinc 2 1, 3) := dk_132 2 1 (dk_at dksX0_guessed_1 12 rfl rfl)
theorem dX0_guessed_39 : decode cX0_guessed 39 = .ok (.goto (-35), 3) := dk_167 255 221 (dk_at dksX0_guessed_1 15 rfl rfl)
theorem dX0_guessed_42 : decode cX0_guessed 42 = .ok (.iload_n 1, 1) := dk_27 (dk_at dksX0_guessed_1 18 rfl rfl)
theorem dX0_guessed_43 : decode cX0_guessed 43 = .ok (.ireturn, 1) := dk_172 (dk_at dksX0_guessed_1 19 rfl rfl)
