set_option maxRecDepth 100000
/-! Integer.numberOfTrailingZeros -/
theorem nat_low {N t : Nat} (h : ∀ j, j < t → N.testBit j = false) (ht : N.testBit t = true) : ∃ m, N = 2 ^ (t + 1) * m + 2 ^ t := by
  have h1 : N % 2 ^ t = 0 := by
    apply Nat.eq_of_testBit_eq
    intro i
    rw [Nat.testBit_mod_two_pow, Nat.zero_testBit]
    by_cases e : i < t
    · simp [e, h i e]
    · simp [e]
  have h2 : N / 2 ^ t % 2 = 1 := by
    rw [Nat.testBit_eq_decide_div_mod_eq] at ht
    simpa using ht
  refine ⟨N / 2 ^ t / 2, ?_⟩
  have h3 := Nat.div_add_mod N (2 ^ t)
  have h4 := Nat.div_add_mod (N / 2 ^ t) 2
  rw [h1] at h3
  rw [h2] at h4
  rw [Nat.pow_succ]
  generalize N / 2 ^ t = q at *
  generalize 2 ^ t = b at *
  rw [← h3, ← h4]
  generalize q / 2 = m at *
  simp [Nat.mul_add, Nat.mul_assoc]
  rw [show (2 * m + 1) / 2 = m by omega]
theorem nat_ntz {N t : Nat} (hN : N < 2 ^ 32) (h : ∀ j, j < t → N.testBit j = false) (ht : N.testBit t = true) : (2 ^ 32 - 1 - N) &&& (N - 1) = 2 ^ t - 1 := by
  obtain ⟨m, hm⟩ := nat_low h ht
  apply Nat.eq_of_testBit_eq
  intro i
  have hp : 0 < 2 ^ t := Nat.two_pow_pos t
  have e1 : N - 1 = 2 ^ (t + 1) * m + (2 ^ t - 1) := by omega
  have hlt : 2 ^ t - 1 < 2 ^ (t + 1) := by rw [Nat.pow_succ]; omega
  have hlt2 : 2 ^ t < 2 ^ (t + 1) := by rw [Nat.pow_succ]; omega
  rw [Nat.testBit_and, e1, Nat.testBit_two_pow_mul_add m hlt, Nat.testBit_two_pow_sub_one]
  rw [show 2 ^ 32 - 1 - N = 2 ^ 32 - (N + 1) by omega, Nat.testBit_two_pow_sub_succ hN]
  rw [hm, Nat.testBit_two_pow_mul_add m hlt2, Nat.testBit_two_pow]
  by_cases e : i < t
  · have ht32 : t < 32 := by
      rcases Nat.lt_or_ge t 32 with z | z
      · exact z
      · have := Nat.testBit_lt_two_pow (x := N) (i := t) (Nat.lt_of_lt_of_le hN (Nat.pow_le_pow_right (by omega) z))
        rw [this] at ht; simp at ht
    simp [e, show i < t + 1 by omega, show i < 32 by omega, show ¬ t = i by omega]
  · by_cases e2 : i = t
    · subst e2; simp
    · simp [e, show ¬ i < t + 1 by omega]
def nt0 (z : Int) : Int := rr_and (rr_xor z (-1)) (z - 1)
theorem nt0_eq {z : Int} {t : Nat} (ht : t < 31) (h : tb z t) (hl : ∀ j : Nat, j < t → ¬ tb z j) : nt0 z = 2 ^ t - 1 := by
  unfold tb at h hl
  have hN : (Int32.ofInt z).toBitVec.toNat < 2 ^ 32 := (Int32.ofInt z).toBitVec.isLt
  have h1 : (Int32.ofInt z).toBitVec.toNat.testBit t = true := by simpa [BitVec.getLsbD] using h
  have h2 : ∀ j, j < t → (Int32.ofInt z).toBitVec.toNat.testBit j = false := fun j hj => by
    have := hl j hj
    simpa [BitVec.getLsbD] using this
  have key := nat_ntz hN h2 h1
  have hpos : 1 ≤ (Int32.ofInt z).toBitVec.toNat := by
    rcases Nat.eq_zero_or_pos (Int32.ofInt z).toBitVec.toNat with q | q
    · rw [q] at h1; simp at h1
    · exact q
  unfold nt0 rr_and rr_xor
  rw [rr_oi, show Int32.ofInt (z - 1) = Int32.ofInt z - 1 from by rw [Int32.ofInt_sub]; rfl]
  generalize Int32.ofInt z = X at *
  have hb : ((X ^^^ Int32.ofInt (-1)) &&& (X - 1)).toBitVec.toNat = 2 ^ t - 1 := by
    rw [Int32.toBitVec_and, BitVec.toNat_and, Int32.toBitVec_xor, Int32.toBitVec_sub]
    rw [show (Int32.ofInt (-1)).toBitVec = BitVec.allOnes 32 from by decide, show (1 : Int32).toBitVec = 1#32 from rfl]
    rw [show X.toBitVec ^^^ BitVec.allOnes 32 = ~~~X.toBitVec from by rw [BitVec.xor_allOnes]]
    rw [BitVec.toNat_not, show (X.toBitVec - 1#32).toNat = X.toBitVec.toNat - 1 from by rw [BitVec.toNat_sub]; simp; omega]
    exact key
  have hp31 : 2 ^ t < 2 ^ 31 := Nat.pow_lt_pow_right (by omega) ht
  have h0 : 0 < 2 ^ t := Nat.two_pow_pos t
  rw [← Int32.toInt_toBitVec, BitVec.toInt_eq_toNat_of_lt (by rw [hb]; omega), hb]
  have e : ((2 ^ t : Nat) : Int) = (2 : Int) ^ t := by simp
  rw [← e]
  omega
theorem xc_ntz {z : Int} {t : Nat} (ht : t < 20) (h : tb z t) (hl : ∀ j : Nat, j < t → ¬ tb z j) : xC yJ4_numberOfTrailingZeros cJ4_numberOfTrailingZeros 2 (some FieldType.int) 0 [vI z] (some (vI (t : Int))) := by
  have e := nt0_eq (by omega) h hl
  clear h hl
  refine xC.of (by decide) rfl (Nat.le_of_ble_eq_true rfl) (fun G h nx => ?_)
  refine x_ls (ls2 := [some (vI z), none]) rfl ?_
  refine x_iload_n dJ4_numberOfTrailingZeros_0 rfl ?_
  refine x_iconst dJ4_numberOfTrailingZeros_1 ?_
  refine x_ixor dJ4_numberOfTrailingZeros_2 ?_
  refine x_iload_n dJ4_numberOfTrailingZeros_3 rfl ?_
  refine x_iconst dJ4_numberOfTrailingZeros_4 ?_
  refine x_isub dJ4_numberOfTrailingZeros_5 ?_
  refine x_iand dJ4_numberOfTrailingZeros_6 ?_
  refine x_top (nt0 z) rfl ?_
  rw [e]
  refine x_istore_n dJ4_numberOfTrailingZeros_7 (by decide) ?_
  clear e
  obtain rfl | rfl | rfl | rfl | rfl | rfl | rfl | rfl | rfl | rfl | rfl | rfl | rfl | rfl | rfl | rfl | rfl | rfl | rfl | rfl : t = 0 ∨ t = 1 ∨ t = 2 ∨ t = 3 ∨ t = 4 ∨ t = 5 ∨ t = 6 ∨ t = 7 ∨ t = 8 ∨ t = 9 ∨ t = 10 ∨ t = 11 ∨ t = 12 ∨ t = 13 ∨ t = 14 ∨ t = 15 ∨ t = 16 ∨ t = 17 ∨ t = 18 ∨ t = 19 := by omega
  · rw [show ((2 : Int) ^ 0 - 1) = 0 from by decide]
    refine x_ls (ls2 := [some (vI 0), none]) rfl ?_
    refine x_iload_n dJ4_numberOfTrailingZeros_8 rfl ?_
    refine x_if_gt (t := 17) dJ4_numberOfTrailingZeros_9 (by decide) (by omega) (fun c_9 => absurd c_9 (by decide)) (fun c_9 => ?_)
    refine x_iload_n dJ4_numberOfTrailingZeros_12 rfl ?_
    refine x_bipush dJ4_numberOfTrailingZeros_13 (by decide) ?_
    refine x_iand dJ4_numberOfTrailingZeros_15 ?_
    refine x_top 0 (by decide) ?_
    refine x_iret rfl dJ4_numberOfTrailingZeros_16 (Nat.le_refl _) (Nat.le_refl _) ?_
    exact ⟨rfl, rfl, rfl⟩
  · rw [show ((2 : Int) ^ 1 - 1) = 1 from by decide]
    refine x_ls (ls2 := [some (vI 1), none]) rfl ?_
    refine x_iload_n dJ4_numberOfTrailingZeros_8 rfl ?_
    refine x_if_gt (t := 17) dJ4_numberOfTrailingZeros_9 (by decide) (by omega) (fun c_9 => ?_) (fun c_9 => absurd (by decide) c_9)
    refine x_iconst dJ4_numberOfTrailingZeros_17 ?_
    refine x_istore_n dJ4_numberOfTrailingZeros_18 (by decide) ?_
    refine x_iload_n dJ4_numberOfTrailingZeros_19 rfl ?_
    refine x_ldcw (z := 65536) q744 dJ4_numberOfTrailingZeros_20 (by decide) ?_
    refine x_icmp_le (t := 34) dJ4_numberOfTrailingZeros_23 (by decide) (by omega) (fun c_23 => ?_) (fun c_23 => absurd (by decide) c_23)
    refine x_iload_n dJ4_numberOfTrailingZeros_34 rfl ?_
    refine x_sipush dJ4_numberOfTrailingZeros_35 (by decide) ?_
    refine x_icmp_le (t := 49) dJ4_numberOfTrailingZeros_38 (by decide) (by omega) (fun c_38 => ?_) (fun c_38 => absurd (by decide) c_38)
    refine x_iload_n dJ4_numberOfTrailingZeros_49 rfl ?_
    refine x_bipush dJ4_numberOfTrailingZeros_50 (by decide) ?_
    refine x_icmp_le (t := 62) dJ4_numberOfTrailingZeros_52 (by decide) (by omega) (fun c_52 => ?_) (fun c_52 => absurd (by decide) c_52)
    refine x_iload_n dJ4_numberOfTrailingZeros_62 rfl ?_
    refine x_iconst dJ4_numberOfTrailingZeros_63 ?_
    refine x_icmp_le (t := 74) dJ4_numberOfTrailingZeros_64 (by decide) (by omega) (fun c_64 => ?_) (fun c_64 => absurd (by decide) c_64)
    refine x_iload_n dJ4_numberOfTrailingZeros_74 rfl ?_
    refine x_iload_n dJ4_numberOfTrailingZeros_75 rfl ?_
    refine x_iconst dJ4_numberOfTrailingZeros_76 ?_
    refine x_iushr dJ4_numberOfTrailingZeros_77 ?_
    refine x_top 0 (by decide) ?_
    refine x_iadd dJ4_numberOfTrailingZeros_78 ?_
    refine x_top 1 (by decide) ?_
    refine x_iret rfl dJ4_numberOfTrailingZeros_79 (Nat.le_refl _) (Nat.le_refl _) ?_
    exact ⟨rfl, rfl, rfl⟩
  · rw [show ((2 : Int) ^ 2 - 1) = 3 from by decide]
    refine x_ls (ls2 := [some (vI 3), none]) rfl ?_
    refine x_iload_n dJ4_numberOfTrailingZeros_8 rfl ?_
    refine x_if_gt (t := 17) dJ4_numberOfTrailingZeros_9 (by decide) (by omega) (fun c_9 => ?_) (fun c_9 => absurd (by decide) c_9)
    refine x_iconst dJ4_numberOfTrailingZeros_17 ?_
    refine x_istore_n dJ4_numberOfTrailingZeros_18 (by decide) ?_
    refine x_iload_n dJ4_numberOfTrailingZeros_19 rfl ?_
    refine x_ldcw (z := 65536) q744 dJ4_numberOfTrailingZeros_20 (by decide) ?_
    refine x_icmp_le (t := 34) dJ4_numberOfTrailingZeros_23 (by decide) (by omega) (fun c_23 => ?_) (fun c_23 => absurd (by decide) c_23)
    refine x_iload_n dJ4_numberOfTrailingZeros_34 rfl ?_
    refine x_sipush dJ4_numberOfTrailingZeros_35 (by decide) ?_
    refine x_icmp_le (t := 49) dJ4_numberOfTrailingZeros_38 (by decide) (by omega) (fun c_38 => ?_) (fun c_38 => absurd (by decide) c_38)
    refine x_iload_n dJ4_numberOfTrailingZeros_49 rfl ?_
    refine x_bipush dJ4_numberOfTrailingZeros_50 (by decide) ?_
    refine x_icmp_le (t := 62) dJ4_numberOfTrailingZeros_52 (by decide) (by omega) (fun c_52 => ?_) (fun c_52 => absurd (by decide) c_52)
    refine x_iload_n dJ4_numberOfTrailingZeros_62 rfl ?_
    refine x_iconst dJ4_numberOfTrailingZeros_63 ?_
    refine x_icmp_le (t := 74) dJ4_numberOfTrailingZeros_64 (by decide) (by omega) (fun c_64 => ?_) (fun c_64 => absurd (by decide) c_64)
    refine x_iload_n dJ4_numberOfTrailingZeros_74 rfl ?_
    refine x_iload_n dJ4_numberOfTrailingZeros_75 rfl ?_
    refine x_iconst dJ4_numberOfTrailingZeros_76 ?_
    refine x_iushr dJ4_numberOfTrailingZeros_77 ?_
    refine x_top 1 (by decide) ?_
    refine x_iadd dJ4_numberOfTrailingZeros_78 ?_
    refine x_top 2 (by decide) ?_
    refine x_iret rfl dJ4_numberOfTrailingZeros_79 (Nat.le_refl _) (Nat.le_refl _) ?_
    exact ⟨rfl, rfl, rfl⟩
  · rw [show ((2 : Int) ^ 3 - 1) = 7 from by decide]
    refine x_ls (ls2 := [some (vI 7), none]) rfl ?_
    refine x_iload_n dJ4_numberOfTrailingZeros_8 rfl ?_
    refine x_if_gt (t := 17) dJ4_numberOfTrailingZeros_9 (by decide) (by omega) (fun c_9 => ?_) (fun c_9 => absurd (by decide) c_9)
    refine x_iconst dJ4_numberOfTrailingZeros_17 ?_
    refine x_istore_n dJ4_numberOfTrailingZeros_18 (by decide) ?_
    refine x_iload_n dJ4_numberOfTrailingZeros_19 rfl ?_
    refine x_ldcw (z := 65536) q744 dJ4_numberOfTrailingZeros_20 (by decide) ?_
    refine x_icmp_le (t := 34) dJ4_numberOfTrailingZeros_23 (by decide) (by omega) (fun c_23 => ?_) (fun c_23 => absurd (by decide) c_23)
    refine x_iload_n dJ4_numberOfTrailingZeros_34 rfl ?_
    refine x_sipush dJ4_numberOfTrailingZeros_35 (by decide) ?_
    refine x_icmp_le (t := 49) dJ4_numberOfTrailingZeros_38 (by decide) (by omega) (fun c_38 => ?_) (fun c_38 => absurd (by decide) c_38)
    refine x_iload_n dJ4_numberOfTrailingZeros_49 rfl ?_
    refine x_bipush dJ4_numberOfTrailingZeros_50 (by decide) ?_
    refine x_icmp_le (t := 62) dJ4_numberOfTrailingZeros_52 (by decide) (by omega) (fun c_52 => ?_) (fun c_52 => absurd (by decide) c_52)
    refine x_iload_n dJ4_numberOfTrailingZeros_62 rfl ?_
    refine x_iconst dJ4_numberOfTrailingZeros_63 ?_
    refine x_icmp_le (t := 74) dJ4_numberOfTrailingZeros_64 (by decide) (by omega) (fun c_64 => absurd c_64 (by decide)) (fun c_64 => ?_)
    refine x_iinc dJ4_numberOfTrailingZeros_67 rfl (by decide) ?_
    refine x_iload_n dJ4_numberOfTrailingZeros_70 rfl ?_
    refine x_iconst dJ4_numberOfTrailingZeros_71 ?_
    refine x_iushr dJ4_numberOfTrailingZeros_72 ?_
    refine x_top 1 (by decide) ?_
    refine x_istore_n dJ4_numberOfTrailingZeros_73 (by decide) ?_
    refine x_iload_n dJ4_numberOfTrailingZeros_74 rfl ?_
    refine x_iload_n dJ4_numberOfTrailingZeros_75 rfl ?_
    refine x_iconst dJ4_numberOfTrailingZeros_76 ?_
    refine x_iushr dJ4_numberOfTrailingZeros_77 ?_
    refine x_top 0 (by decide) ?_
    refine x_iadd dJ4_numberOfTrailingZeros_78 ?_
    refine x_top 3 (by decide) ?_
    refine x_iret rfl dJ4_numberOfTrailingZeros_79 (Nat.le_refl _) (Nat.le_refl _) ?_
    exact ⟨rfl, rfl, rfl⟩
  · rw [show ((2 : Int) ^ 4 - 1) = 15 from by decide]
    refine x_ls (ls2 := [some (vI 15), none]) rfl ?_
    refine x_iload_n dJ4_numberOfTrailingZeros_8 rfl ?_
    refine x_if_gt (t := 17) dJ4_numberOfTrailingZeros_9 (by decide) (by omega) (fun c_9 => ?_) (fun c_9 => absurd (by decide) c_9)
    refine x_iconst dJ4_numberOfTrailingZeros_17 ?_
    refine x_istore_n dJ4_numberOfTrailingZeros_18 (by decide) ?_
    refine x_iload_n dJ4_numberOfTrailingZeros_19 rfl ?_
    refine x_ldcw (z := 65536) q744 dJ4_numberOfTrailingZeros_20 (by decide) ?_
    refine x_icmp_le (t := 34) dJ4_numberOfTrailingZeros_23 (by decide) (by omega) (fun c_23 => ?_) (fun c_23 => absurd (by decide) c_23)
    refine x_iload_n dJ4_numberOfTrailingZeros_34 rfl ?_
    refine x_sipush dJ4_numberOfTrailingZeros_35 (by decide) ?_
    refine x_icmp_le (t := 49) dJ4_numberOfTrailingZeros_38 (by decide) (by omega) (fun c_38 => ?_) (fun c_38 => absurd (by decide) c_38)
    refine x_iload_n dJ4_numberOfTrailingZeros_49 rfl ?_
    refine x_bipush dJ4_numberOfTrailingZeros_50 (by decide) ?_
    refine x_icmp_le (t := 62) dJ4_numberOfTrailingZeros_52 (by decide) (by omega) (fun c_52 => ?_) (fun c_52 => absurd (by decide) c_52)
    refine x_iload_n dJ4_numberOfTrailingZeros_62 rfl ?_
    refine x_iconst dJ4_numberOfTrailingZeros_63 ?_
    refine x_icmp_le (t := 74) dJ4_numberOfTrailingZeros_64 (by decide) (by omega) (fun c_64 => absurd c_64 (by decide)) (fun c_64 => ?_)
    refine x_iinc dJ4_numberOfTrailingZeros_67 rfl (by decide) ?_
    refine x_iload_n dJ4_numberOfTrailingZeros_70 rfl ?_
    refine x_iconst dJ4_numberOfTrailingZeros_71 ?_
    refine x_iushr dJ4_numberOfTrailingZeros_72 ?_
    refine x_top 3 (by decide) ?_
    refine x_istore_n dJ4_numberOfTrailingZeros_73 (by decide) ?_
    refine x_iload_n dJ4_numberOfTrailingZeros_74 rfl ?_
    refine x_iload_n dJ4_numberOfTrailingZeros_75 rfl ?_
    refine x_iconst dJ4_numberOfTrailingZeros_76 ?_
    refine x_iushr dJ4_numberOfTrailingZeros_77 ?_
    refine x_top 1 (by decide) ?_
    refine x_iadd dJ4_numberOfTrailingZeros_78 ?_
    refine x_top 4 (by decide) ?_
    refine x_iret rfl dJ4_numberOfTrailingZeros_79 (Nat.le_refl _) (Nat.le_refl _) ?_
    exact ⟨rfl, rfl, rfl⟩
  · rw [show ((2 : Int) ^ 5 - 1) = 31 from by decide]
    refine x_ls (ls2 := [some (vI 31), none]) rfl ?_
    refine x_iload_n dJ4_numberOfTrailingZeros_8 rfl ?_
    refine x_if_gt (t := 17) dJ4_numberOfTrailingZeros_9 (by decide) (by omega) (fun c_9 => ?_) (fun c_9 => absurd (by decide) c_9)
    refine x_iconst dJ4_numberOfTrailingZeros_17 ?_
    refine x_istore_n dJ4_numberOfTrailingZeros_18 (by decide) ?_
    refine x_iload_n dJ4_numberOfTrailingZeros_19 rfl ?_
    refine x_ldcw (z := 65536) q744 dJ4_numberOfTrailingZeros_20 (by decide) ?_
    refine x_icmp_le (t := 34) dJ4_numberOfTrailingZeros_23 (by decide) (by omega) (fun c_23 => ?_) (fun c_23 => absurd (by decide) c_23)
    refine x_iload_n dJ4_numberOfTrailingZeros_34 rfl ?_
    refine x_sipush dJ4_numberOfTrailingZeros_35 (by decide) ?_
    refine x_icmp_le (t := 49) dJ4_numberOfTrailingZeros_38 (by decide) (by omega) (fun c_38 => ?_) (fun c_38 => absurd (by decide) c_38)
    refine x_iload_n dJ4_numberOfTrailingZeros_49 rfl ?_
    refine x_bipush dJ4_numberOfTrailingZeros_50 (by decide) ?_
    refine x_icmp_le (t := 62) dJ4_numberOfTrailingZeros_52 (by decide) (by omega) (fun c_52 => absurd c_52 (by decide)) (fun c_52 => ?_)
    refine x_iinc dJ4_numberOfTrailingZeros_55 rfl (by decide) ?_
    refine x_iload_n dJ4_numberOfTrailingZeros_58 rfl ?_
    refine x_iconst dJ4_numberOfTrailingZeros_59 ?_
    refine x_iushr dJ4_numberOfTrailingZeros_60 ?_
    refine x_top 1 (by decide) ?_
    refine x_istore_n dJ4_numberOfTrailingZeros_61 (by decide) ?_
    refine x_iload_n dJ4_numberOfTrailingZeros_62 rfl ?_
    refine x_iconst dJ4_numberOfTrailingZeros_63 ?_
    refine x_icmp_le (t := 74) dJ4_numberOfTrailingZeros_64 (by decide) (by omega) (fun c_64 => ?_) (fun c_64 => absurd (by decide) c_64)
    refine x_iload_n dJ4_numberOfTrailingZeros_74 rfl ?_
    refine x_iload_n dJ4_numberOfTrailingZeros_75 rfl ?_
    refine x_iconst dJ4_numberOfTrailingZeros_76 ?_
    refine x_iushr dJ4_numberOfTrailingZeros_77 ?_
    refine x_top 0 (by decide) ?_
    refine x_iadd dJ4_numberOfTrailingZeros_78 ?_
    refine x_top 5 (by decide) ?_
    refine x_iret rfl dJ4_numberOfTrailingZeros_79 (Nat.le_refl _) (Nat.le_refl _) ?_
    exact ⟨rfl, rfl, rfl⟩
  · rw [show ((2 : Int) ^ 6 - 1) = 63 from by decide]
    refine x_ls (ls2 := [some (vI 63), none]) rfl ?_
    refine x_iload_n dJ4_numberOfTrailingZeros_8 rfl ?_
    refine x_if_gt (t := 17) dJ4_numberOfTrailingZeros_9 (by decide) (by omega) (fun c_9 => ?_) (fun c_9 => absurd (by decide) c_9)
    refine x_iconst dJ4_numberOfTrailingZeros_17 ?_
    refine x_istore_n dJ4_numberOfTrailingZeros_18 (by decide) ?_
    refine x_iload_n dJ4_numberOfTrailingZeros_19 rfl ?_
    refine x_ldcw (z := 65536) q744 dJ4_numberOfTrailingZeros_20 (by decide) ?_
    refine x_icmp_le (t := 34) dJ4_numberOfTrailingZeros_23 (by decide) (by omega) (fun c_23 => ?_) (fun c_23 => absurd (by decide) c_23)
    refine x_iload_n dJ4_numberOfTrailingZeros_34 rfl ?_
    refine x_sipush dJ4_numberOfTrailingZeros_35 (by decide) ?_
    refine x_icmp_le (t := 49) dJ4_numberOfTrailingZeros_38 (by decide) (by omega) (fun c_38 => ?_) (fun c_38 => absurd (by decide) c_38)
    refine x_iload_n dJ4_numberOfTrailingZeros_49 rfl ?_
    refine x_bipush dJ4_numberOfTrailingZeros_50 (by decide) ?_
    refine x_icmp_le (t := 62) dJ4_numberOfTrailingZeros_52 (by decide) (by omega) (fun c_52 => absurd c_52 (by decide)) (fun c_52 => ?_)
    refine x_iinc dJ4_numberOfTrailingZeros_55 rfl (by decide) ?_
    refine x_iload_n dJ4_numberOfTrailingZeros_58 rfl ?_
    refine x_iconst dJ4_numberOfTrailingZeros_59 ?_
    refine x_iushr dJ4_numberOfTrailingZeros_60 ?_
    refine x_top 3 (by decide) ?_
    refine x_istore_n dJ4_numberOfTrailingZeros_61 (by decide) ?_
    refine x_iload_n dJ4_numberOfTrailingZeros_62 rfl ?_
    refine x_iconst dJ4_numberOfTrailingZeros_63 ?_
    refine x_icmp_le (t := 74) dJ4_numberOfTrailingZeros_64 (by decide) (by omega) (fun c_64 => ?_) (fun c_64 => absurd (by decide) c_64)
    refine x_iload_n dJ4_numberOfTrailingZeros_74 rfl ?_
    refine x_iload_n dJ4_numberOfTrailingZeros_75 rfl ?_
    refine x_iconst dJ4_numberOfTrailingZeros_76 ?_
    refine x_iushr dJ4_numberOfTrailingZeros_77 ?_
    refine x_top 1 (by decide) ?_
    refine x_iadd dJ4_numberOfTrailingZeros_78 ?_
    refine x_top 6 (by decide) ?_
    refine x_iret rfl dJ4_numberOfTrailingZeros_79 (Nat.le_refl _) (Nat.le_refl _) ?_
    exact ⟨rfl, rfl, rfl⟩
  · rw [show ((2 : Int) ^ 7 - 1) = 127 from by decide]
    refine x_ls (ls2 := [some (vI 127), none]) rfl ?_
    refine x_iload_n dJ4_numberOfTrailingZeros_8 rfl ?_
    refine x_if_gt (t := 17) dJ4_numberOfTrailingZeros_9 (by decide) (by omega) (fun c_9 => ?_) (fun c_9 => absurd (by decide) c_9)
    refine x_iconst dJ4_numberOfTrailingZeros_17 ?_
    refine x_istore_n dJ4_numberOfTrailingZeros_18 (by decide) ?_
    refine x_iload_n dJ4_numberOfTrailingZeros_19 rfl ?_
    refine x_ldcw (z := 65536) q744 dJ4_numberOfTrailingZeros_20 (by decide) ?_
    refine x_icmp_le (t := 34) dJ4_numberOfTrailingZeros_23 (by decide) (by omega) (fun c_23 => ?_) (fun c_23 => absurd (by decide) c_23)
    refine x_iload_n dJ4_numberOfTrailingZeros_34 rfl ?_
    refine x_sipush dJ4_numberOfTrailingZeros_35 (by decide) ?_
    refine x_icmp_le (t := 49) dJ4_numberOfTrailingZeros_38 (by decide) (by omega) (fun c_38 => ?_) (fun c_38 => absurd (by decide) c_38)
    refine x_iload_n dJ4_numberOfTrailingZeros_49 rfl ?_
    refine x_bipush dJ4_numberOfTrailingZeros_50 (by decide) ?_
    refine x_icmp_le (t := 62) dJ4_numberOfTrailingZeros_52 (by decide) (by omega) (fun c_52 => absurd c_52 (by decide)) (fun c_52 => ?_)
    refine x_iinc dJ4_numberOfTrailingZeros_55 rfl (by decide) ?_
    refine x_iload_n dJ4_numberOfTrailingZeros_58 rfl ?_
    refine x_iconst dJ4_numberOfTrailingZeros_59 ?_
    refine x_iushr dJ4_numberOfTrailingZeros_60 ?_
    refine x_top 7 (by decide) ?_
    refine x_istore_n dJ4_numberOfTrailingZeros_61 (by decide) ?_
    refine x_iload_n dJ4_numberOfTrailingZeros_62 rfl ?_
    refine x_iconst dJ4_numberOfTrailingZeros_63 ?_
    refine x_icmp_le (t := 74) dJ4_numberOfTrailingZeros_64 (by decide) (by omega) (fun c_64 => absurd c_64 (by decide)) (fun c_64 => ?_)
    refine x_iinc dJ4_numberOfTrailingZeros_67 rfl (by decide) ?_
    refine x_iload_n dJ4_numberOfTrailingZeros_70 rfl ?_
    refine x_iconst dJ4_numberOfTrailingZeros_71 ?_
    refine x_iushr dJ4_numberOfTrailingZeros_72 ?_
    refine x_top 1 (by decide) ?_
    refine x_istore_n dJ4_numberOfTrailingZeros_73 (by decide) ?_
    refine x_iload_n dJ4_numberOfTrailingZeros_74 rfl ?_
    refine x_iload_n dJ4_numberOfTrailingZeros_75 rfl ?_
    refine x_iconst dJ4_numberOfTrailingZeros_76 ?_
    refine x_iushr dJ4_numberOfTrailingZeros_77 ?_
    refine x_top 0 (by decide) ?_
    refine x_iadd dJ4_numberOfTrailingZeros_78 ?_
    refine x_top 7 (by decide) ?_
    refine x_iret rfl dJ4_numberOfTrailingZeros_79 (Nat.le_refl _) (Nat.le_refl _) ?_
    exact ⟨rfl, rfl, rfl⟩
  · rw [show ((2 : Int) ^ 8 - 1) = 255 from by decide]
    refine x_ls (ls2 := [some (vI 255), none]) rfl ?_
    refine x_iload_n dJ4_numberOfTrailingZeros_8 rfl ?_
    refine x_if_gt (t := 17) dJ4_numberOfTrailingZeros_9 (by decide) (by omega) (fun c_9 => ?_) (fun c_9 => absurd (by decide) c_9)
    refine x_iconst dJ4_numberOfTrailingZeros_17 ?_
    refine x_istore_n dJ4_numberOfTrailingZeros_18 (by decide) ?_
    refine x_iload_n dJ4_numberOfTrailingZeros_19 rfl ?_
    refine x_ldcw (z := 65536) q744 dJ4_numberOfTrailingZeros_20 (by decide) ?_
    refine x_icmp_le (t := 34) dJ4_numberOfTrailingZeros_23 (by decide) (by omega) (fun c_23 => ?_) (fun c_23 => absurd (by decide) c_23)
    refine x_iload_n dJ4_numberOfTrailingZeros_34 rfl ?_
    refine x_sipush dJ4_numberOfTrailingZeros_35 (by decide) ?_
    refine x_icmp_le (t := 49) dJ4_numberOfTrailingZeros_38 (by decide) (by omega) (fun c_38 => ?_) (fun c_38 => absurd (by decide) c_38)
    refine x_iload_n dJ4_numberOfTrailingZeros_49 rfl ?_
    refine x_bipush dJ4_numberOfTrailingZeros_50 (by decide) ?_
    refine x_icmp_le (t := 62) dJ4_numberOfTrailingZeros_52 (by decide) (by omega) (fun c_52 => absurd c_52 (by decide)) (fun c_52 => ?_)
    refine x_iinc dJ4_numberOfTrailingZeros_55 rfl (by decide) ?_
    refine x_iload_n dJ4_numberOfTrailingZeros_58 rfl ?_
    refine x_iconst dJ4_numberOfTrailingZeros_59 ?_
    refine x_iushr dJ4_numberOfTrailingZeros_60 ?_
    refine x_top 15 (by decide) ?_
    refine x_istore_n dJ4_numberOfTrailingZeros_61 (by decide) ?_
    refine x_iload_n dJ4_numberOfTrailingZeros_62 rfl ?_
    refine x_iconst dJ4_numberOfTrailingZeros_63 ?_
    refine x_icmp_le (t := 74) dJ4_numberOfTrailingZeros_64 (by decide) (by omega) (fun c_64 => absurd c_64 (by decide)) (fun c_64 => ?_)
    refine x_iinc dJ4_numberOfTrailingZeros_67 rfl (by decide) ?_
    refine x_iload_n dJ4_numberOfTrailingZeros_70 rfl ?_
    refine x_iconst dJ4_numberOfTrailingZeros_71 ?_
    refine x_iushr dJ4_numberOfTrailingZeros_72 ?_
    refine x_top 3 (by decide) ?_
    refine x_istore_n dJ4_numberOfTrailingZeros_73 (by decide) ?_
    refine x_iload_n dJ4_numberOfTrailingZeros_74 rfl ?_
    refine x_iload_n dJ4_numberOfTrailingZeros_75 rfl ?_
    refine x_iconst dJ4_numberOfTrailingZeros_76 ?_
    refine x_iushr dJ4_numberOfTrailingZeros_77 ?_
    refine x_top 1 (by decide) ?_
    refine x_iadd dJ4_numberOfTrailingZeros_78 ?_
    refine x_top 8 (by decide) ?_
    refine x_iret rfl dJ4_numberOfTrailingZeros_79 (Nat.le_refl _) (Nat.le_refl _) ?_
    exact ⟨rfl, rfl, rfl⟩
  · rw [show ((2 : Int) ^ 9 - 1) = 511 from by decide]
    refine x_ls (ls2 := [some (vI 511), none]) rfl ?_
    refine x_iload_n dJ4_numberOfTrailingZeros_8 rfl ?_
    refine x_if_gt (t := 17) dJ4_numberOfTrailingZeros_9 (by decide) (by omega) (fun c_9 => ?_) (fun c_9 => absurd (by decide) c_9)
    refine x_iconst dJ4_numberOfTrailingZeros_17 ?_
    refine x_istore_n dJ4_numberOfTrailingZeros_18 (by decide) ?_
    refine x_iload_n dJ4_numberOfTrailingZeros_19 rfl ?_
    refine x_ldcw (z := 65536) q744 dJ4_numberOfTrailingZeros_20 (by decide) ?_
    refine x_icmp_le (t := 34) dJ4_numberOfTrailingZeros_23 (by decide) (by omega) (fun c_23 => ?_) (fun c_23 => absurd (by decide) c_23)
    refine x_iload_n dJ4_numberOfTrailingZeros_34 rfl ?_
    refine x_sipush dJ4_numberOfTrailingZeros_35 (by decide) ?_
    refine x_icmp_le (t := 49) dJ4_numberOfTrailingZeros_38 (by decide) (by omega) (fun c_38 => absurd c_38 (by decide)) (fun c_38 => ?_)
    refine x_iinc dJ4_numberOfTrailingZeros_41 rfl (by decide) ?_
    refine x_iload_n dJ4_numberOfTrailingZeros_44 rfl ?_
    refine x_bipush dJ4_numberOfTrailingZeros_45 (by decide) ?_
    refine x_iushr dJ4_numberOfTrailingZeros_47 ?_
    refine x_top 1 (by decide) ?_
    refine x_istore_n dJ4_numberOfTrailingZeros_48 (by decide) ?_
    refine x_iload_n dJ4_numberOfTrailingZeros_49 rfl ?_
    refine x_bipush dJ4_numberOfTrailingZeros_50 (by decide) ?_
    refine x_icmp_le (t := 62) dJ4_numberOfTrailingZeros_52 (by decide) (by omega) (fun c_52 => ?_) (fun c_52 => absurd (by decide) c_52)
    refine x_iload_n dJ4_numberOfTrailingZeros_62 rfl ?_
    refine x_iconst dJ4_numberOfTrailingZeros_63 ?_
    refine x_icmp_le (t := 74) dJ4_numberOfTrailingZeros_64 (by decide) (by omega) (fun c_64 => ?_) (fun c_64 => absurd (by decide) c_64)
    refine x_iload_n dJ4_numberOfTrailingZeros_74 rfl ?_
    refine x_iload_n dJ4_numberOfTrailingZeros_75 rfl ?_
    refine x_iconst dJ4_numberOfTrailingZeros_76 ?_
    refine x_iushr dJ4_numberOfTrailingZeros_77 ?_
    refine x_top 0 (by decide) ?_
    refine x_iadd dJ4_numberOfTrailingZeros_78 ?_
    refine x_top 9 (by decide) ?_
    refine x_iret rfl dJ4_numberOfTrailingZeros_79 (Nat.le_refl _) (Nat.le_refl _) ?_
    exact ⟨rfl, rfl, rfl⟩
  · rw [show ((2 : Int) ^ 10 - 1) = 1023 from by decide]
    refine x_ls (ls2 := [some (vI 1023), none]) rfl ?_
    refine x_iload_n dJ4_numberOfTrailingZeros_8 rfl ?_
    refine x_if_gt (t := 17) dJ4_numberOfTrailingZeros_9 (by decide) (by omega) (fun c_9 => ?_) (fun c_9 => absurd (by decide) c_9)
    refine x_iconst dJ4_numberOfTrailingZeros_17 ?_
    refine x_istore_n dJ4_numberOfTrailingZeros_18 (by decide) ?_
    refine x_iload_n dJ4_numberOfTrailingZeros_19 rfl ?_
    refine x_ldcw (z := 65536) q744 dJ4_numberOfTrailingZeros_20 (by decide) ?_
    refine x_icmp_le (t := 34) dJ4_numberOfTrailingZeros_23 (by decide) (by omega) (fun c_23 => ?_) (fun c_23 => absurd (by decide) c_23)
    refine x_iload_n dJ4_numberOfTrailingZeros_34 rfl ?_
    refine x_sipush dJ4_numberOfTrailingZeros_35 (by decide) ?_
    refine x_icmp_le (t := 49) dJ4_numberOfTrailingZeros_38 (by decide) (by omega) (fun c_38 => absurd c_38 (by decide)) (fun c_38 => ?_)
    refine x_iinc dJ4_numberOfTrailingZeros_41 rfl (by decide) ?_
    refine x_iload_n dJ4_numberOfTrailingZeros_44 rfl ?_
    refine x_bipush dJ4_numberOfTrailingZeros_45 (by decide) ?_
    refine x_iushr dJ4_numberOfTrailingZeros_47 ?_
    refine x_top 3 (by decide) ?_
    refine x_istore_n dJ4_numberOfTrailingZeros_48 (by decide) ?_
    refine x_iload_n dJ4_numberOfTrailingZeros_49 rfl ?_
    refine x_bipush dJ4_numberOfTrailingZeros_50 (by decide) ?_
    refine x_icmp_le (t := 62) dJ4_numberOfTrailingZeros_52 (by decide) (by omega) (fun c_52 => ?_) (fun c_52 => absurd (by decide) c_52)
    refine x_iload_n dJ4_numberOfTrailingZeros_62 rfl ?_
    refine x_iconst dJ4_numberOfTrailingZeros_63 ?_
    refine x_icmp_le (t := 74) dJ4_numberOfTrailingZeros_64 (by decide) (by omega) (fun c_64 => ?_) (fun c_64 => absurd (by decide) c_64)
    refine x_iload_n dJ4_numberOfTrailingZeros_74 rfl ?_
    refine x_iload_n dJ4_numberOfTrailingZeros_75 rfl ?_
    refine x_iconst dJ4_numberOfTrailingZeros_76 ?_
    refine x_iushr dJ4_numberOfTrailingZeros_77 ?_
    refine x_top 1 (by decide) ?_
    refine x_iadd dJ4_numberOfTrailingZeros_78 ?_
    refine x_top 10 (by decide) ?_
    refine x_iret rfl dJ4_numberOfTrailingZeros_79 (Nat.le_refl _) (Nat.le_refl _) ?_
    exact ⟨rfl, rfl, rfl⟩
  · rw [show ((2 : Int) ^ 11 - 1) = 2047 from by decide]
    refine x_ls (ls2 := [some (vI 2047), none]) rfl ?_
    refine x_iload_n dJ4_numberOfTrailingZeros_8 rfl ?_
    refine x_if_gt (t := 17) dJ4_numberOfTrailingZeros_9 (by decide) (by omega) (fun c_9 => ?_) (fun c_9 => absurd (by decide) c_9)
    refine x_iconst dJ4_numberOfTrailingZeros_17 ?_
    refine x_istore_n dJ4_numberOfTrailingZeros_18 (by decide) ?_
    refine x_iload_n dJ4_numberOfTrailingZeros_19 rfl ?_
    refine x_ldcw (z := 65536) q744 dJ4_numberOfTrailingZeros_20 (by decide) ?_
    refine x_icmp_le (t := 34) dJ4_numberOfTrailingZeros_23 (by decide) (by omega) (fun c_23 => ?_) (fun c_23 => absurd (by decide) c_23)
    refine x_iload_n dJ4_numberOfTrailingZeros_34 rfl ?_
    refine x_sipush dJ4_numberOfTrailingZeros_35 (by decide) ?_
    refine x_icmp_le (t := 49) dJ4_numberOfTrailingZeros_38 (by decide) (by omega) (fun c_38 => absurd c_38 (by decide)) (fun c_38 => ?_)
    refine x_iinc dJ4_numberOfTrailingZeros_41 rfl (by decide) ?_
    refine x_iload_n dJ4_numberOfTrailingZeros_44 rfl ?_
    refine x_bipush dJ4_numberOfTrailingZeros_45 (by decide) ?_
    refine x_iushr dJ4_numberOfTrailingZeros_47 ?_
    refine x_top 7 (by decide) ?_
    refine x_istore_n dJ4_numberOfTrailingZeros_48 (by decide) ?_
    refine x_iload_n dJ4_numberOfTrailingZeros_49 rfl ?_
    refine x_bipush dJ4_numberOfTrailingZeros_50 (by decide) ?_
    refine x_icmp_le (t := 62) dJ4_numberOfTrailingZeros_52 (by decide) (by omega) (fun c_52 => ?_) (fun c_52 => absurd (by decide) c_52)
    refine x_iload_n dJ4_numberOfTrailingZeros_62 rfl ?_
    refine x_iconst dJ4_numberOfTrailingZeros_63 ?_
    refine x_icmp_le (t := 74) dJ4_numberOfTrailingZeros_64 (by decide) (by omega) (fun c_64 => absurd c_64 (by decide)) (fun c_64 => ?_)
    refine x_iinc dJ4_numberOfTrailingZeros_67 rfl (by decide) ?_
    refine x_iload_n dJ4_numberOfTrailingZeros_70 rfl ?_
    refine x_iconst dJ4_numberOfTrailingZeros_71 ?_
    refine x_iushr dJ4_numberOfTrailingZeros_72 ?_
    refine x_top 1 (by decide) ?_
    refine x_istore_n dJ4_numberOfTrailingZeros_73 (by decide) ?_
    refine x_iload_n dJ4_numberOfTrailingZeros_74 rfl ?_
    refine x_iload_n dJ4_numberOfTrailingZeros_75 rfl ?_
    refine x_iconst dJ4_numberOfTrailingZeros_76 ?_
    refine x_iushr dJ4_numberOfTrailingZeros_77 ?_
    refine x_top 0 (by decide) ?_
    refine x_iadd dJ4_numberOfTrailingZeros_78 ?_
    refine x_top 11 (by decide) ?_
    refine x_iret rfl dJ4_numberOfTrailingZeros_79 (Nat.le_refl _) (Nat.le_refl _) ?_
    exact ⟨rfl, rfl, rfl⟩
  · rw [show ((2 : Int) ^ 12 - 1) = 4095 from by decide]
    refine x_ls (ls2 := [some (vI 4095), none]) rfl ?_
    refine x_iload_n dJ4_numberOfTrailingZeros_8 rfl ?_
    refine x_if_gt (t := 17) dJ4_numberOfTrailingZeros_9 (by decide) (by omega) (fun c_9 => ?_) (fun c_9 => absurd (by decide) c_9)
    refine x_iconst dJ4_numberOfTrailingZeros_17 ?_
    refine x_istore_n dJ4_numberOfTrailingZeros_18 (by decide) ?_
    refine x_iload_n dJ4_numberOfTrailingZeros_19 rfl ?_
    refine x_ldcw (z := 65536) q744 dJ4_numberOfTrailingZeros_20 (by decide) ?_
    refine x_icmp_le (t := 34) dJ4_numberOfTrailingZeros_23 (by decide) (by omega) (fun c_23 => ?_) (fun c_23 => absurd (by decide) c_23)
    refine x_iload_n dJ4_numberOfTrailingZeros_34 rfl ?_
    refine x_sipush dJ4_numberOfTrailingZeros_35 (by decide) ?_
    refine x_icmp_le (t := 49) dJ4_numberOfTrailingZeros_38 (by decide) (by omega) (fun c_38 => absurd c_38 (by decide)) (fun c_38 => ?_)
    refine x_iinc dJ4_numberOfTrailingZeros_41 rfl (by decide) ?_
    refine x_iload_n dJ4_numberOfTrailingZeros_44 rfl ?_
    refine x_bipush dJ4_numberOfTrailingZeros_45 (by decide) ?_
    refine x_iushr dJ4_numberOfTrailingZeros_47 ?_
    refine x_top 15 (by decide) ?_
    refine x_istore_n dJ4_numberOfTrailingZeros_48 (by decide) ?_
    refine x_iload_n dJ4_numberOfTrailingZeros_49 rfl ?_
    refine x_bipush dJ4_numberOfTrailingZeros_50 (by decide) ?_
    refine x_icmp_le (t := 62) dJ4_numberOfTrailingZeros_52 (by decide) (by omega) (fun c_52 => ?_) (fun c_52 => absurd (by decide) c_52)
    refine x_iload_n dJ4_numberOfTrailingZeros_62 rfl ?_
    refine x_iconst dJ4_numberOfTrailingZeros_63 ?_
    refine x_icmp_le (t := 74) dJ4_numberOfTrailingZeros_64 (by decide) (by omega) (fun c_64 => absurd c_64 (by decide)) (fun c_64 => ?_)
    refine x_iinc dJ4_numberOfTrailingZeros_67 rfl (by decide) ?_
    refine x_iload_n dJ4_numberOfTrailingZeros_70 rfl ?_
    refine x_iconst dJ4_numberOfTrailingZeros_71 ?_
    refine x_iushr dJ4_numberOfTrailingZeros_72 ?_
    refine x_top 3 (by decide) ?_
    refine x_istore_n dJ4_numberOfTrailingZeros_73 (by decide) ?_
    refine x_iload_n dJ4_numberOfTrailingZeros_74 rfl ?_
    refine x_iload_n dJ4_numberOfTrailingZeros_75 rfl ?_
    refine x_iconst dJ4_numberOfTrailingZeros_76 ?_
    refine x_iushr dJ4_numberOfTrailingZeros_77 ?_
    refine x_top 1 (by decide) ?_
    refine x_iadd dJ4_numberOfTrailingZeros_78 ?_
    refine x_top 12 (by decide) ?_
    refine x_iret rfl dJ4_numberOfTrailingZeros_79 (Nat.le_refl _) (Nat.le_refl _) ?_
    exact ⟨rfl, rfl, rfl⟩
  · rw [show ((2 : Int) ^ 13 - 1) = 8191 from by decide]
    refine x_ls (ls2 := [some (vI 8191), none]) rfl ?_
    refine x_iload_n dJ4_numberOfTrailingZeros_8 rfl ?_
    refine x_if_gt (t := 17) dJ4_numberOfTrailingZeros_9 (by decide) (by omega) (fun c_9 => ?_) (fun c_9 => absurd (by decide) c_9)
    refine x_iconst dJ4_numberOfTrailingZeros_17 ?_
    refine x_istore_n dJ4_numberOfTrailingZeros_18 (by decide) ?_
    refine x_iload_n dJ4_numberOfTrailingZeros_19 rfl ?_
    refine x_ldcw (z := 65536) q744 dJ4_numberOfTrailingZeros_20 (by decide) ?_
    refine x_icmp_le (t := 34) dJ4_numberOfTrailingZeros_23 (by decide) (by omega) (fun c_23 => ?_) (fun c_23 => absurd (by decide) c_23)
    refine x_iload_n dJ4_numberOfTrailingZeros_34 rfl ?_
    refine x_sipush dJ4_numberOfTrailingZeros_35 (by decide) ?_
    refine x_icmp_le (t := 49) dJ4_numberOfTrailingZeros_38 (by decide) (by omega) (fun c_38 => absurd c_38 (by decide)) (fun c_38 => ?_)
    refine x_iinc dJ4_numberOfTrailingZeros_41 rfl (by decide) ?_
    refine x_iload_n dJ4_numberOfTrailingZeros_44 rfl ?_
    refine x_bipush dJ4_numberOfTrailingZeros_45 (by decide) ?_
    refine x_iushr dJ4_numberOfTrailingZeros_47 ?_
    refine x_top 31 (by decide) ?_
    refine x_istore_n dJ4_numberOfTrailingZeros_48 (by decide) ?_
    refine x_iload_n dJ4_numberOfTrailingZeros_49 rfl ?_
    refine x_bipush dJ4_numberOfTrailingZeros_50 (by decide) ?_
    refine x_icmp_le (t := 62) dJ4_numberOfTrailingZeros_52 (by decide) (by omega) (fun c_52 => absurd c_52 (by decide)) (fun c_52 => ?_)
    refine x_iinc dJ4_numberOfTrailingZeros_55 rfl (by decide) ?_
    refine x_iload_n dJ4_numberOfTrailingZeros_58 rfl ?_
    refine x_iconst dJ4_numberOfTrailingZeros_59 ?_
    refine x_iushr dJ4_numberOfTrailingZeros_60 ?_
    refine x_top 1 (by decide) ?_
    refine x_istore_n dJ4_numberOfTrailingZeros_61 (by decide) ?_
    refine x_iload_n dJ4_numberOfTrailingZeros_62 rfl ?_
    refine x_iconst dJ4_numberOfTrailingZeros_63 ?_
    refine x_icmp_le (t := 74) dJ4_numberOfTrailingZeros_64 (by decide) (by omega) (fun c_64 => ?_) (fun c_64 => absurd (by decide) c_64)
    refine x_iload_n dJ4_numberOfTrailingZeros_74 rfl ?_
    refine x_iload_n dJ4_numberOfTrailingZeros_75 rfl ?_
    refine x_iconst dJ4_numberOfTrailingZeros_76 ?_
    refine x_iushr dJ4_numberOfTrailingZeros_77 ?_
    refine x_top 0 (by decide) ?_
    refine x_iadd dJ4_numberOfTrailingZeros_78 ?_
    refine x_top 13 (by decide) ?_
    refine x_iret rfl dJ4_numberOfTrailingZeros_79 (Nat.le_refl _) (Nat.le_refl _) ?_
    exact ⟨rfl, rfl, rfl⟩
  · rw [show ((2 : Int) ^ 14 - 1) = 16383 from by decide]
    refine x_ls (ls2 := [some (vI 16383), none]) rfl ?_
    refine x_iload_n dJ4_numberOfTrailingZeros_8 rfl ?_
    refine x_if_gt (t := 17) dJ4_numberOfTrailingZeros_9 (by decide) (by omega) (fun c_9 => ?_) (fun c_9 => absurd (by decide) c_9)
    refine x_iconst dJ4_numberOfTrailingZeros_17 ?_
    refine x_istore_n dJ4_numberOfTrailingZeros_18 (by decide) ?_
    refine x_iload_n dJ4_numberOfTrailingZeros_19 rfl ?_
    refine x_ldcw (z := 65536) q744 dJ4_numberOfTrailingZeros_20 (by decide) ?_
    refine x_icmp_le (t := 34) dJ4_numberOfTrailingZeros_23 (by decide) (by omega) (fun c_23 => ?_) (fun c_23 => absurd (by decide) c_23)
    refine x_iload_n dJ4_numberOfTrailingZeros_34 rfl ?_
    refine x_sipush dJ4_numberOfTrailingZeros_35 (by decide) ?_
    refine x_icmp_le (t := 49) dJ4_numberOfTrailingZeros_38 (by decide) (by omega) (fun c_38 => absurd c_38 (by decide)) (fun c_38 => ?_)
    refine x_iinc dJ4_numberOfTrailingZeros_41 rfl (by decide) ?_
    refine x_iload_n dJ4_numberOfTrailingZeros_44 rfl ?_
    refine x_bipush dJ4_numberOfTrailingZeros_45 (by decide) ?_
    refine x_iushr dJ4_numberOfTrailingZeros_47 ?_
    refine x_top 63 (by decide) ?_
    refine x_istore_n dJ4_numberOfTrailingZeros_48 (by decide) ?_
    refine x_iload_n dJ4_numberOfTrailingZeros_49 rfl ?_
    refine x_bipush dJ4_numberOfTrailingZeros_50 (by decide) ?_
    refine x_icmp_le (t := 62) dJ4_numberOfTrailingZeros_52 (by decide) (by omega) (fun c_52 => absurd c_52 (by decide)) (fun c_52 => ?_)
    refine x_iinc dJ4_numberOfTrailingZeros_55 rfl (by decide) ?_
    refine x_iload_n dJ4_numberOfTrailingZeros_58 rfl ?_
    refine x_iconst dJ4_numberOfTrailingZeros_59 ?_
    refine x_iushr dJ4_numberOfTrailingZeros_60 ?_
    refine x_top 3 (by decide) ?_
    refine x_istore_n dJ4_numberOfTrailingZeros_61 (by decide) ?_
    refine x_iload_n dJ4_numberOfTrailingZeros_62 rfl ?_
    refine x_iconst dJ4_numberOfTrailingZeros_63 ?_
    refine x_icmp_le (t := 74) dJ4_numberOfTrailingZeros_64 (by decide) (by omega) (fun c_64 => ?_) (fun c_64 => absurd (by decide) c_64)
    refine x_iload_n dJ4_numberOfTrailingZeros_74 rfl ?_
    refine x_iload_n dJ4_numberOfTrailingZeros_75 rfl ?_
    refine x_iconst dJ4_numberOfTrailingZeros_76 ?_
    refine x_iushr dJ4_numberOfTrailingZeros_77 ?_
    refine x_top 1 (by decide) ?_
    refine x_iadd dJ4_numberOfTrailingZeros_78 ?_
    refine x_top 14 (by decide) ?_
    refine x_iret rfl dJ4_numberOfTrailingZeros_79 (Nat.le_refl _) (Nat.le_refl _) ?_
    exact ⟨rfl, rfl, rfl⟩
  · rw [show ((2 : Int) ^ 15 - 1) = 32767 from by decide]
    refine x_ls (ls2 := [some (vI 32767), none]) rfl ?_
    refine x_iload_n dJ4_numberOfTrailingZeros_8 rfl ?_
    refine x_if_gt (t := 17) dJ4_numberOfTrailingZeros_9 (by decide) (by omega) (fun c_9 => ?_) (fun c_9 => absurd (by decide) c_9)
    refine x_iconst dJ4_numberOfTrailingZeros_17 ?_
    refine x_istore_n dJ4_numberOfTrailingZeros_18 (by decide) ?_
    refine x_iload_n dJ4_numberOfTrailingZeros_19 rfl ?_
    refine x_ldcw (z := 65536) q744 dJ4_numberOfTrailingZeros_20 (by decide) ?_
    refine x_icmp_le (t := 34) dJ4_numberOfTrailingZeros_23 (by decide) (by omega) (fun c_23 => ?_) (fun c_23 => absurd (by decide) c_23)
    refine x_iload_n dJ4_numberOfTrailingZeros_34 rfl ?_
    refine x_sipush dJ4_numberOfTrailingZeros_35 (by decide) ?_
    refine x_icmp_le (t := 49) dJ4_numberOfTrailingZeros_38 (by decide) (by omega) (fun c_38 => absurd c_38 (by decide)) (fun c_38 => ?_)
    refine x_iinc dJ4_numberOfTrailingZeros_41 rfl (by decide) ?_
    refine x_iload_n dJ4_numberOfTrailingZeros_44 rfl ?_
    refine x_bipush dJ4_numberOfTrailingZeros_45 (by decide) ?_
    refine x_iushr dJ4_numberOfTrailingZeros_47 ?_
    refine x_top 127 (by decide) ?_
    refine x_istore_n dJ4_numberOfTrailingZeros_48 (by decide) ?_
    refine x_iload_n dJ4_numberOfTrailingZeros_49 rfl ?_
    refine x_bipush dJ4_numberOfTrailingZeros_50 (by decide) ?_
    refine x_icmp_le (t := 62) dJ4_numberOfTrailingZeros_52 (by decide) (by omega) (fun c_52 => absurd c_52 (by decide)) (fun c_52 => ?_)
    refine x_iinc dJ4_numberOfTrailingZeros_55 rfl (by decide) ?_
    refine x_iload_n dJ4_numberOfTrailingZeros_58 rfl ?_
    refine x_iconst dJ4_numberOfTrailingZeros_59 ?_
    refine x_iushr dJ4_numberOfTrailingZeros_60 ?_
    refine x_top 7 (by decide) ?_
    refine x_istore_n dJ4_numberOfTrailingZeros_61 (by decide) ?_
    refine x_iload_n dJ4_numberOfTrailingZeros_62 rfl ?_
    refine x_iconst dJ4_numberOfTrailingZeros_63 ?_
    refine x_icmp_le (t := 74) dJ4_numberOfTrailingZeros_64 (by decide) (by omega) (fun c_64 => absurd c_64 (by decide)) (fun c_64 => ?_)
    refine x_iinc dJ4_numberOfTrailingZeros_67 rfl (by decide) ?_
    refine x_iload_n dJ4_numberOfTrailingZeros_70 rfl ?_
    refine x_iconst dJ4_numberOfTrailingZeros_71 ?_
    refine x_iushr dJ4_numberOfTrailingZeros_72 ?_
    refine x_top 1 (by decide) ?_
    refine x_istore_n dJ4_numberOfTrailingZeros_73 (by decide) ?_
    refine x_iload_n dJ4_numberOfTrailingZeros_74 rfl ?_
    refine x_iload_n dJ4_numberOfTrailingZeros_75 rfl ?_
    refine x_iconst dJ4_numberOfTrailingZeros_76 ?_
    refine x_iushr dJ4_numberOfTrailingZeros_77 ?_
    refine x_top 0 (by decide) ?_
    refine x_iadd dJ4_numberOfTrailingZeros_78 ?_
    refine x_top 15 (by decide) ?_
    refine x_iret rfl dJ4_numberOfTrailingZeros_79 (Nat.le_refl _) (Nat.le_refl _) ?_
    exact ⟨rfl, rfl, rfl⟩
  · rw [show ((2 : Int) ^ 16 - 1) = 65535 from by decide]
    refine x_ls (ls2 := [some (vI 65535), none]) rfl ?_
    refine x_iload_n dJ4_numberOfTrailingZeros_8 rfl ?_
    refine x_if_gt (t := 17) dJ4_numberOfTrailingZeros_9 (by decide) (by omega) (fun c_9 => ?_) (fun c_9 => absurd (by decide) c_9)
    refine x_iconst dJ4_numberOfTrailingZeros_17 ?_
    refine x_istore_n dJ4_numberOfTrailingZeros_18 (by decide) ?_
    refine x_iload_n dJ4_numberOfTrailingZeros_19 rfl ?_
    refine x_ldcw (z := 65536) q744 dJ4_numberOfTrailingZeros_20 (by decide) ?_
    refine x_icmp_le (t := 34) dJ4_numberOfTrailingZeros_23 (by decide) (by omega) (fun c_23 => ?_) (fun c_23 => absurd (by decide) c_23)
    refine x_iload_n dJ4_numberOfTrailingZeros_34 rfl ?_
    refine x_sipush dJ4_numberOfTrailingZeros_35 (by decide) ?_
    refine x_icmp_le (t := 49) dJ4_numberOfTrailingZeros_38 (by decide) (by omega) (fun c_38 => absurd c_38 (by decide)) (fun c_38 => ?_)
    refine x_iinc dJ4_numberOfTrailingZeros_41 rfl (by decide) ?_
    refine x_iload_n dJ4_numberOfTrailingZeros_44 rfl ?_
    refine x_bipush dJ4_numberOfTrailingZeros_45 (by decide) ?_
    refine x_iushr dJ4_numberOfTrailingZeros_47 ?_
    refine x_top 255 (by decide) ?_
    refine x_istore_n dJ4_numberOfTrailingZeros_48 (by decide) ?_
    refine x_iload_n dJ4_numberOfTrailingZeros_49 rfl ?_
    refine x_bipush dJ4_numberOfTrailingZeros_50 (by decide) ?_
    refine x_icmp_le (t := 62) dJ4_numberOfTrailingZeros_52 (by decide) (by omega) (fun c_52 => absurd c_52 (by decide)) (fun c_52 => ?_)
    refine x_iinc dJ4_numberOfTrailingZeros_55 rfl (by decide) ?_
    refine x_iload_n dJ4_numberOfTrailingZeros_58 rfl ?_
    refine x_iconst dJ4_numberOfTrailingZeros_59 ?_
    refine x_iushr dJ4_numberOfTrailingZeros_60 ?_
    refine x_top 15 (by decide) ?_
    refine x_istore_n dJ4_numberOfTrailingZeros_61 (by decide) ?_
    refine x_iload_n dJ4_numberOfTrailingZeros_62 rfl ?_
    refine x_iconst dJ4_numberOfTrailingZeros_63 ?_
    refine x_icmp_le (t := 74) dJ4_numberOfTrailingZeros_64 (by decide) (by omega) (fun c_64 => absurd c_64 (by decide)) (fun c_64 => ?_)
    refine x_iinc dJ4_numberOfTrailingZeros_67 rfl (by decide) ?_
    refine x_iload_n dJ4_numberOfTrailingZeros_70 rfl ?_
    refine x_iconst dJ4_numberOfTrailingZeros_71 ?_
    refine x_iushr dJ4_numberOfTrailingZeros_72 ?_
    refine x_top 3 (by decide) ?_
    refine x_istore_n dJ4_numberOfTrailingZeros_73 (by decide) ?_
    refine x_iload_n dJ4_numberOfTrailingZeros_74 rfl ?_
    refine x_iload_n dJ4_numberOfTrailingZeros_75 rfl ?_
    refine x_iconst dJ4_numberOfTrailingZeros_76 ?_
    refine x_iushr dJ4_numberOfTrailingZeros_77 ?_
    refine x_top 1 (by decide) ?_
    refine x_iadd dJ4_numberOfTrailingZeros_78 ?_
    refine x_top 16 (by decide) ?_
    refine x_iret rfl dJ4_numberOfTrailingZeros_79 (Nat.le_refl _) (Nat.le_refl _) ?_
    exact ⟨rfl, rfl, rfl⟩
  · rw [show ((2 : Int) ^ 17 - 1) = 131071 from by decide]
    refine x_ls (ls2 := [some (vI 131071), none]) rfl ?_
    refine x_iload_n dJ4_numberOfTrailingZeros_8 rfl ?_
    refine x_if_gt (t := 17) dJ4_numberOfTrailingZeros_9 (by decide) (by omega) (fun c_9 => ?_) (fun c_9 => absurd (by decide) c_9)
    refine x_iconst dJ4_numberOfTrailingZeros_17 ?_
    refine x_istore_n dJ4_numberOfTrailingZeros_18 (by decide) ?_
    refine x_iload_n dJ4_numberOfTrailingZeros_19 rfl ?_
    refine x_ldcw (z := 65536) q744 dJ4_numberOfTrailingZeros_20 (by decide) ?_
    refine x_icmp_le (t := 34) dJ4_numberOfTrailingZeros_23 (by decide) (by omega) (fun c_23 => absurd c_23 (by decide)) (fun c_23 => ?_)
    refine x_iinc dJ4_numberOfTrailingZeros_26 rfl (by decide) ?_
    refine x_iload_n dJ4_numberOfTrailingZeros_29 rfl ?_
    refine x_bipush dJ4_numberOfTrailingZeros_30 (by decide) ?_
    refine x_iushr dJ4_numberOfTrailingZeros_32 ?_
    refine x_top 1 (by decide) ?_
    refine x_istore_n dJ4_numberOfTrailingZeros_33 (by decide) ?_
    refine x_iload_n dJ4_numberOfTrailingZeros_34 rfl ?_
    refine x_sipush dJ4_numberOfTrailingZeros_35 (by decide) ?_
    refine x_icmp_le (t := 49) dJ4_numberOfTrailingZeros_38 (by decide) (by omega) (fun c_38 => ?_) (fun c_38 => absurd (by decide) c_38)
    refine x_iload_n dJ4_numberOfTrailingZeros_49 rfl ?_
    refine x_bipush dJ4_numberOfTrailingZeros_50 (by decide) ?_
    refine x_icmp_le (t := 62) dJ4_numberOfTrailingZeros_52 (by decide) (by omega) (fun c_52 => ?_) (fun c_52 => absurd (by decide) c_52)
    refine x_iload_n dJ4_numberOfTrailingZeros_62 rfl ?_
    refine x_iconst dJ4_numberOfTrailingZeros_63 ?_
    refine x_icmp_le (t := 74) dJ4_numberOfTrailingZeros_64 (by decide) (by omega) (fun c_64 => ?_) (fun c_64 => absurd (by decide) c_64)
    refine x_iload_n dJ4_numberOfTrailingZeros_74 rfl ?_
    refine x_iload_n dJ4_numberOfTrailingZeros_75 rfl ?_
    refine x_iconst dJ4_numberOfTrailingZeros_76 ?_
    refine x_iushr dJ4_numberOfTrailingZeros_77 ?_
    refine x_top 0 (by decide) ?_
    refine x_iadd dJ4_numberOfTrailingZeros_78 ?_
    refine x_top 17 (by decide) ?_
    refine x_iret rfl dJ4_numberOfTrailingZeros_79 (Nat.le_refl _) (Nat.le_refl _) ?_
    exact ⟨rfl, rfl, rfl⟩
  · rw [show ((2 : Int) ^ 18 - 1) = 262143 from by decide]
    refine x_ls (ls2 := [some (vI 262143), none]) rfl ?_
    refine x_iload_n dJ4_numberOfTrailingZeros_8 rfl ?_
    refine x_if_gt (t := 17) dJ4_numberOfTrailingZeros_9 (by decide) (by omega) (fun c_9 => ?_) (fun c_9 => absurd (by decide) c_9)
    refine x_iconst dJ4_numberOfTrailingZeros_17 ?_
    refine x_istore_n dJ4_numberOfTrailingZeros_18 (by decide) ?_
    refine x_iload_n dJ4_numberOfTrailingZeros_19 rfl ?_
    refine x_ldcw (z := 65536) q744 dJ4_numberOfTrailingZeros_20 (by decide) ?_
    refine x_icmp_le (t := 34) dJ4_numberOfTrailingZeros_23 (by decide) (by omega) (fun c_23 => absurd c_23 (by decide)) (fun c_23 => ?_)
    refine x_iinc dJ4_numberOfTrailingZeros_26 rfl (by decide) ?_
    refine x_iload_n dJ4_numberOfTrailingZeros_29 rfl ?_
    refine x_bipush dJ4_numberOfTrailingZeros_30 (by decide) ?_
    refine x_iushr dJ4_numberOfTrailingZeros_32 ?_
    refine x_top 3 (by decide) ?_
    refine x_istore_n dJ4_numberOfTrailingZeros_33 (by decide) ?_
    refine x_iload_n dJ4_numberOfTrailingZeros_34 rfl ?_
    refine x_sipush dJ4_numberOfTrailingZeros_35 (by decide) ?_
    refine x_icmp_le (t := 49) dJ4_numberOfTrailingZeros_38 (by decide) (by omega) (fun c_38 => ?_) (fun c_38 => absurd (by decide) c_38)
    refine x_iload_n dJ4_numberOfTrailingZeros_49 rfl ?_
    refine x_bipush dJ4_numberOfTrailingZeros_50 (by decide) ?_
    refine x_icmp_le (t := 62) dJ4_numberOfTrailingZeros_52 (by decide) (by omega) (fun c_52 => ?_) (fun c_52 => absurd (by decide) c_52)
    refine x_iload_n dJ4_numberOfTrailingZeros_62 rfl ?_
    refine x_iconst dJ4_numberOfTrailingZeros_63 ?_
    refine x_icmp_le (t := 74) dJ4_numberOfTrailingZeros_64 (by decide) (by omega) (fun c_64 => ?_) (fun c_64 => absurd (by decide) c_64)
    refine x_iload_n dJ4_numberOfTrailingZeros_74 rfl ?_
    refine x_iload_n dJ4_numberOfTrailingZeros_75 rfl ?_
    refine x_iconst dJ4_numberOfTrailingZeros_76 ?_
    refine x_iushr dJ4_numberOfTrailingZeros_77 ?_
    refine x_top 1 (by decide) ?_
    refine x_iadd dJ4_numberOfTrailingZeros_78 ?_
    refine x_top 18 (by decide) ?_
    refine x_iret rfl dJ4_numberOfTrailingZeros_79 (Nat.le_refl _) (Nat.le_refl _) ?_
    exact ⟨rfl, rfl, rfl⟩
  · rw [show ((2 : Int) ^ 19 - 1) = 524287 from by decide]
    refine x_ls (ls2 := [some (vI 524287), none]) rfl ?_
    refine x_iload_n dJ4_numberOfTrailingZeros_8 rfl ?_
    refine x_if_gt (t := 17) dJ4_numberOfTrailingZeros_9 (by decide) (by omega) (fun c_9 => ?_) (fun c_9 => absurd (by decide) c_9)
    refine x_iconst dJ4_numberOfTrailingZeros_17 ?_
    refine x_istore_n dJ4_numberOfTrailingZeros_18 (by decide) ?_
    refine x_iload_n dJ4_numberOfTrailingZeros_19 rfl ?_
    refine x_ldcw (z := 65536) q744 dJ4_numberOfTrailingZeros_20 (by decide) ?_
    refine x_icmp_le (t := 34) dJ4_numberOfTrailingZeros_23 (by decide) (by omega) (fun c_23 => absurd c_23 (by decide)) (fun c_23 => ?_)
    refine x_iinc dJ4_numberOfTrailingZeros_26 rfl (by decide) ?_
    refine x_iload_n dJ4_numberOfTrailingZeros_29 rfl ?_
    refine x_bipush dJ4_numberOfTrailingZeros_30 (by decide) ?_
    refine x_iushr dJ4_numberOfTrailingZeros_32 ?_
    refine x_top 7 (by decide) ?_
    refine x_istore_n dJ4_numberOfTrailingZeros_33 (by decide) ?_
    refine x_iload_n dJ4_numberOfTrailingZeros_34 rfl ?_
    refine x_sipush dJ4_numberOfTrailingZeros_35 (by decide) ?_
    refine x_icmp_le (t := 49) dJ4_numberOfTrailingZeros_38 (by decide) (by omega) (fun c_38 => ?_) (fun c_38 => absurd (by decide) c_38)
    refine x_iload_n dJ4_numberOfTrailingZeros_49 rfl ?_
    refine x_bipush dJ4_numberOfTrailingZeros_50 (by decide) ?_
    refine x_icmp_le (t := 62) dJ4_numberOfTrailingZeros_52 (by decide) (by omega) (fun c_52 => ?_) (fun c_52 => absurd (by decide) c_52)
    refine x_iload_n dJ4_numberOfTrailingZeros_62 rfl ?_
    refine x_iconst dJ4_numberOfTrailingZeros_63 ?_
    refine x_icmp_le (t := 74) dJ4_numberOfTrailingZeros_64 (by decide) (by omega) (fun c_64 => absurd c_64 (by decide)) (fun c_64 => ?_)
    refine x_iinc dJ4_numberOfTrailingZeros_67 rfl (by decide) ?_
    refine x_iload_n dJ4_numberOfTrailingZeros_70 rfl ?_
    refine x_iconst dJ4_numberOfTrailingZeros_71 ?_
    refine x_iushr dJ4_numberOfTrailingZeros_72 ?_
    refine x_top 1 (by decide) ?_
    refine x_istore_n dJ4_numberOfTrailingZeros_73 (by decide) ?_
    refine x_iload_n dJ4_numberOfTrailingZeros_74 rfl ?_
    refine x_iload_n dJ4_numberOfTrailingZeros_75 rfl ?_
    refine x_iconst dJ4_numberOfTrailingZeros_76 ?_
    refine x_iushr dJ4_numberOfTrailingZeros_77 ?_
    refine x_top 0 (by decide) ?_
    refine x_iadd dJ4_numberOfTrailingZeros_78 ?_
    refine x_top 19 (by decide) ?_
    refine x_iret rfl dJ4_numberOfTrailingZeros_79 (Nat.le_refl _) (Nat.le_refl _) ?_
    exact ⟨rfl, rfl, rfl⟩
