set_option maxRecDepth 100000
/-! Integer.bitCount counts bits -/
def nn (z : Int) : Nat := (Int32.ofInt z).toBitVec.toNat
theorem nn_lt (z : Int) : nn z < 2 ^ 32 := (Int32.ofInt z).toBitVec.isLt
theorem nn_and (a b : Int) : nn (rr_and a b) = nn a &&& nn b := by
  unfold nn rr_and
  rw [rr_oi, Int32.toBitVec_and, BitVec.toNat_and]
theorem nn_add (a b : Int) : nn (a + b) = (nn a + nn b) % 2 ^ 32 := by
  unfold nn
  rw [Int32.ofInt_add, Int32.toBitVec_add, BitVec.toNat_add]
theorem nn_sub (a b : Int) : nn (a - b) = (2 ^ 32 - nn b + nn a) % 2 ^ 32 := by
  unfold nn
  rw [Int32.ofInt_sub, Int32.toBitVec_sub, BitVec.toNat_sub]
theorem nn_ushr {a : Int} {k : Nat} (hk : k = 1 ∨ k = 2 ∨ k = 4 ∨ k = 8 ∨ k = 16) : nn (rr_ushr a k) = nn a >>> k := by
  unfold nn rr_ushr
  rw [rr_oi]
  rcases hk with rfl | rfl | rfl | rfl | rfl <;> rfl
theorem nn_lit {k : Nat} (h : k < 2 ^ 31) : nn (k : Int) = k := by
  unfold nn
  rw [Int32.toBitVec_ofInt]
  simp
  omega
theorem nn_toInt {z : Int} (h : nn z < 2 ^ 31) : (Int32.ofInt z).toInt = nn z := by
  rw [← Int32.toInt_toBitVec, BitVec.toInt_eq_toNat_of_lt (by unfold nn at h; omega)]
  rfl
theorem bcx_nat (z : Int) : bcx z = (pc8 (nn z % 256) + pc8 (nn z / 256 % 256) + pc8 (nn z / 65536 % 256) + pc8 (nn z / 16777216) : Nat) := by
  have hN := nn_lt z
  have p8 : ∀ x : Fin 256, pc8 x.val ≤ 8 := fun x => (b3_eq x 0).2.2
  obtain ⟨s1, s2, s3, s4, s5⟩ := st4 (a := nn z % 256) (b := nn z / 256 % 256) (c := nn z / 65536 % 256) (d := nn z / 16777216) (by omega) (by omega) (by omega) (by omega) (nn z) _ _ _ (by omega) rfl rfl rfl
  have pa := p8 ⟨nn z % 256, by omega⟩
  have pb := p8 ⟨nn z / 256 % 256, by omega⟩
  have pc := p8 ⟨nn z / 65536 % 256, by omega⟩
  have pd := p8 ⟨nn z / 16777216, by omega⟩
  simp only at pa pb pc pd
  have e1 : nn (bc1 z) = nn z - ((nn z >>> 1) &&& 1431655765) := by
    unfold bc1
    rw [nn_sub, nn_and, show ((1 : Int)) = ((1 : Nat) : Int) from rfl, nn_ushr (by omega), show (1431655765 : Int) = ((1431655765 : Nat) : Int) from rfl, nn_lit (by omega)]
    omega
  rw [← e1] at s2 s3 s4 s5
  have e2 : nn (bc2 z) = (nn (bc1 z) &&& 858993459) + ((nn (bc1 z) >>> 2) &&& 858993459) := by
    unfold bc2
    rw [nn_add, nn_and, nn_and, show ((2 : Int)) = ((2 : Nat) : Int) from rfl, nn_ushr (by omega), show (858993459 : Int) = ((858993459 : Nat) : Int) from rfl, nn_lit (by omega)]
    omega
  rw [← e2] at s3 s4 s5
  have e3 : nn (bc3 z) = (nn (bc2 z) + (nn (bc2 z) >>> 4)) &&& 252645135 := by
    unfold bc3
    rw [nn_and, nn_add, show ((4 : Int)) = ((4 : Nat) : Int) from rfl, nn_ushr (by omega), show (252645135 : Int) = ((252645135 : Nat) : Int) from rfl, nn_lit (by omega), Nat.mod_eq_of_lt s4]
  rw [← e3] at s5
  have e4 : nn (bc4 z) = nn (bc3 z) + nn (bc3 z) / 256 := by
    unfold bc4
    rw [nn_add, show ((8 : Int)) = ((8 : Nat) : Int) from rfl, nn_ushr (by omega), Nat.shiftRight_eq_div_pow]
    omega
  have e5 : nn (bc5 z) = nn (bc4 z) + nn (bc4 z) / 65536 := by
    unfold bc5
    rw [nn_add, show ((16 : Int)) = ((16 : Nat) : Int) from rfl, nn_ushr (by omega), Nat.shiftRight_eq_div_pow]
    omega
  have e6 : nn (rr_and (bc5 z) 63) = nn (bc5 z) % 64 := by
    rw [nn_and, show (63 : Int) = ((63 : Nat) : Int) from rfl, nn_lit (by omega)]
    exact Nat.and_two_pow_sub_one_eq_mod (nn (bc5 z)) 6
  generalize pc8 (nn z % 256) = pa' at *
  generalize pc8 (nn z / 256 % 256) = pb' at *
  generalize pc8 (nn z / 65536 % 256) = pc' at *
  generalize pc8 (nn z / 16777216) = pd' at *
  have f3 : nn (bc3 z) / 256 = 256 * (256 * pd' + pc') + pb' := by omega
  have f4 : nn (bc4 z) / 65536 = 256 * pd' + (pc' + pd') := by omega
  have f5 : nn (bc5 z) = 64 * (262144 * pd' + 1024 * (pc' + pd') + 4 * (pb' + pc' + pd')) + (pa' + pb' + pc' + pd') := by omega
  have f6 : nn (bc5 z) % 64 = pa' + pb' + pc' + pd' := by rw [f5]; omega
  have hi : bcx z = (Int32.ofInt (bcx z)).toInt := by unfold bcx rr_and; rw [rr_oi]
  have hlt : nn (bcx z) < 2 ^ 31 := by unfold bcx; rw [e6]; omega
  rw [hi, nn_toInt hlt]
  unfold bcx
  rw [e6, f6]
theorem tb_nat {z : Int} {k : Nat} : bi (tb z k) = (nn z / 2 ^ k % 2 : Nat) := by
  have h : tb z k ↔ nn z / 2 ^ k % 2 = 1 := by
    unfold tb nn
    rw [show ((k : Nat) : Int).toNat = k by omega]
    simp only [BitVec.getLsbD, Nat.testBit_eq_decide_div_mod_eq, decide_eq_true_eq]
  by_cases e : tb z k
  · rw [bi_t e, h.mp e]; rfl
  · rw [bi_f e]
    have h1 : ¬ nn z / 2 ^ k % 2 = 1 := fun q => e (h.mpr q)
    have h2 : nn z / 2 ^ k % 2 < 2 := Nat.mod_lt _ (by decide)
    generalize nn z / 2 ^ k % 2 = r at *
    omega
noncomputable def smP (P : Int → Prop) : Nat → Int
  | 0 => 0
  | k + 1 => smP P k + bi (P k)
theorem cnt_smP (P : Int → Prop) (n : Nat) : cnt P n = smP P n := by
  induction n with
  | zero => exact cnt_0 P
  | succ n ih => rw [show ((n + 1 : Nat) : Int) = (n : Int) + 1 by omega, cnt_up P (by omega), ih]; rfl
theorem smP_8 {P : Int → Prop} {N : Nat} (m : Nat) (h : ∀ k : Nat, bi (P k) = (N / 2 ^ k % 2 : Nat)) : smP P (m + 8) = smP P m + (pc8 (N / 2 ^ m % 256) : Nat) := by
  have e : ∀ j, N / 2 ^ (m + j) = N / 2 ^ m / 2 ^ j := fun j => by rw [Nat.pow_add, Nat.div_div_eq_div_mul]
  have h0 := h m
  have h1 := h (m + 1)
  have h2 := h (m + 2)
  have h3 := h (m + 3)
  have h4 := h (m + 4)
  have h5 := h (m + 5)
  have h6 := h (m + 6)
  have h7 := h (m + 7)
  rw [e] at h1 h2 h3 h4 h5 h6 h7
  have hs : smP P (m + 8) = smP P m + bi (P (m : Nat)) + bi (P (m + 1 : Nat)) + bi (P (m + 2 : Nat)) + bi (P (m + 3 : Nat)) + bi (P (m + 4 : Nat)) + bi (P (m + 5 : Nat)) + bi (P (m + 6 : Nat)) + bi (P (m + 7 : Nat)) := rfl
  rw [hs, h0, h1, h2, h3, h4, h5, h6, h7]
  generalize N / 2 ^ m = x
  unfold pc8
  simp only [Nat.reducePow, Nat.pow_one]
  omega
theorem bcx_cnt2 (z : Int) : bcx z = cnt (tb z) 32 := by
  have hN := nn_lt z
  have hb : ∀ k : Nat, bi (tb z k) = (nn z / 2 ^ k % 2 : Nat) := fun k => tb_nat
  rw [bcx_nat, show (32 : Int) = ((32 : Nat) : Int) from rfl, cnt_smP]
  have a0 := smP_8 0 hb
  have a1 := smP_8 8 hb
  have a2 := smP_8 16 hb
  have a3 := smP_8 24 hb
  have z0 : smP (tb z) 0 = 0 := rfl
  simp only [Nat.reduceAdd, Nat.zero_add, Nat.reducePow, Nat.pow_zero, Nat.div_one] at a0 a1 a2 a3
  rw [Nat.mod_eq_of_lt (show nn z / 16777216 < 256 by omega)] at a3
  rw [a3, a2, a1, a0, z0]
  omega
