set_option maxRecDepth 100000
/-! bits by bytes -/
theorem by_and (a x c M : Nat) (ha : a < 256) (hc : c < 256) : (256 * x + a) &&& (256 * M + c) = 256 * (x &&& M) + (a &&& c) := by
  apply Nat.eq_of_testBit_eq
  intro j
  have hac : a &&& c < 2 ^ 8 := Nat.lt_of_le_of_lt Nat.and_le_left ha
  rw [show (256 : Nat) = 2 ^ 8 from rfl] at *
  rw [Nat.testBit_and, Nat.testBit_two_pow_mul_add _ ha, Nat.testBit_two_pow_mul_add _ hc, Nat.testBit_two_pow_mul_add _ hac]
  split
  · rw [Nat.testBit_and]
  · rw [Nat.testBit_and]
theorem by_shr (a x k : Nat) (ha : a < 256) (hk : k ≤ 8) : (256 * x + a) >>> k = 256 * (x >>> k) + ((x % 2 ^ k) * 2 ^ (8 - k) + a >>> k) := by
  have h1 := Nat.div_add_mod x (2 ^ k)
  rw [Nat.shiftRight_eq_div_pow, Nat.shiftRight_eq_div_pow, Nat.shiftRight_eq_div_pow]
  have h2 : 256 * x + a = 2 ^ k * (256 * (x / 2 ^ k) + (x % 2 ^ k) * 2 ^ (8 - k)) + a := by
    have : (256 : Nat) = 2 ^ k * 2 ^ (8 - k) := by rw [← Nat.pow_add, show k + (8 - k) = 8 by omega]
    conv => lhs; rw [← h1]
    rw [this, Nat.mul_add, Nat.mul_add]
    simp [Nat.mul_comm, Nat.mul_left_comm, Nat.mul_assoc]
  rw [h2, Nat.mul_add_div (Nat.two_pow_pos k)]
  omega
def b1 (a : Nat) : Nat := (a >>> 1) &&& 85
def b2 (a : Nat) : Nat := (a &&& 51) + ((a >>> 2) &&& 51)
def b3 (a : Nat) : Nat := ((a &&& 15) + (a >>> 4))
theorem b1_le : ∀ a : Fin 256, b1 a.val ≤ a.val ∧ b1 a.val < 256 ∧ ∀ x : Fin 2, (x.val * 128 + a.val >>> 1) &&& 85 = b1 a.val := by decide +kernel
theorem b2_le : ∀ a : Fin 256, b2 (a.val - b1 a.val) < 256 ∧ (b2 (a.val - b1 a.val)) % 16 ≤ 4 ∧ b2 (a.val - b1 a.val) / 16 ≤ 4 ∧ ∀ x : Fin 4, (x.val * 64 + (a.val - b1 a.val) >>> 2) &&& 51 = ((a.val - b1 a.val) >>> 2) &&& 51 := by decide +kernel
/-- the bits of a byte -/
def pc8 (a : Nat) : Nat := a % 2 + a / 2 % 2 + a / 4 % 2 + a / 8 % 2 + a / 16 % 2 + a / 32 % 2 + a / 64 % 2 + a / 128 % 2
theorem b3_eq : ∀ a : Fin 256, ∀ x : Fin 5, (b2 (a.val - b1 a.val) + (x.val * 16 + b2 (a.val - b1 a.val) >>> 4)) &&& 15 = pc8 a.val ∧ b2 (a.val - b1 a.val) + (x.val * 16 + b2 (a.val - b1 a.val) >>> 4) < 256 ∧ pc8 a.val ≤ 8 := by decide +kernel
/-- the three stages, a byte taken off below -/
theorem st1 (x M a : Nat) (ha : a < 256) (hx : (x >>> 1) &&& M ≤ x) : ((256 * x + a) >>> 1) &&& (256 * M + 85) = 256 * ((x >>> 1) &&& M) + b1 a ∧ (256 * x + a) - (((256 * x + a) >>> 1) &&& (256 * M + 85)) = 256 * (x - ((x >>> 1) &&& M)) + (a - b1 a) := by
  obtain ⟨h1, h2, h3⟩ := b1_le ⟨a, ha⟩
  simp only at h1 h2 h3
  have e : ((256 * x + a) >>> 1) &&& (256 * M + 85) = 256 * ((x >>> 1) &&& M) + b1 a := by
    rw [by_shr a x 1 ha (by omega)]
    have hlt : x % 2 ^ 1 * 2 ^ (8 - 1) + a >>> 1 < 256 := by
      rw [Nat.shiftRight_eq_div_pow]
      have : x % 2 ^ 1 < 2 := Nat.mod_lt _ (by decide)
      simp only [Nat.reducePow, Nat.reduceSub] at *
      omega
    rw [by_and _ _ _ _ hlt (by omega)]
    have := h3 ⟨x % 2 ^ 1, Nat.mod_lt _ (by decide)⟩
    simp only [Nat.reduceSub, Nat.reducePow] at this ⊢
    rw [this]
  refine ⟨e, ?_⟩
  rw [e]
  omega
theorem st2 (x M a : Nat) (ha : a < 256) : ((256 * x + (a - b1 a)) &&& (256 * M + 51)) + (((256 * x + (a - b1 a)) >>> 2) &&& (256 * M + 51)) = 256 * ((x &&& M) + ((x >>> 2) &&& M)) + b2 (a - b1 a) := by
  obtain ⟨h1, h2, h4, h3⟩ := b2_le ⟨a, ha⟩
  simp only at h1 h2 h3 h4
  have hlt : a - b1 a < 256 := by omega
  rw [by_shr (a - b1 a) x 2 hlt (by omega)]
  have hlt2 : x % 2 ^ 2 * 2 ^ (8 - 2) + (a - b1 a) >>> 2 < 256 := by
    rw [Nat.shiftRight_eq_div_pow]
    have : x % 2 ^ 2 < 4 := Nat.mod_lt _ (by decide)
    simp only [Nat.reducePow, Nat.reduceSub] at *
    omega
  rw [by_and _ _ _ _ hlt2 (by omega), by_and _ _ _ _ hlt (by omega)]
  have := h3 ⟨x % 2 ^ 2, Nat.mod_lt _ (by decide)⟩
  simp only [Nat.reduceSub, Nat.reducePow] at this ⊢
  rw [this]
  unfold b2
  omega
theorem st3 (x M a : Nat) (ha : a < 256) (hx : x % 16 ≤ 4) : ((256 * x + b2 (a - b1 a)) + ((256 * x + b2 (a - b1 a)) >>> 4)) &&& (256 * M + 15) = 256 * ((x + x >>> 4) &&& M) + pc8 a := by
  obtain ⟨h1, h2, h4, -⟩ := b2_le ⟨a, ha⟩
  simp only at h1 h2 h4
  rw [by_shr _ x 4 h1 (by omega)]
  have h5 := b3_eq ⟨a, ha⟩ ⟨x % 16, by omega⟩
  simp only at h5
  simp only [Nat.reduceSub, Nat.reducePow]
  rw [show 256 * x + b2 (a - b1 a) + (256 * (x >>> 4) + (x % 16 * 16 + b2 (a - b1 a) >>> 4)) = 256 * (x + x >>> 4) + (b2 (a - b1 a) + (x % 16 * 16 + b2 (a - b1 a) >>> 4)) by omega]
  rw [by_and _ _ _ _ h5.2.1 (by omega), h5.1]
theorem st4 {a b c d : Nat} (ha : a < 256) (hb : b < 256) (hc : c < 256) (hd : d < 256) (N N1 N2 N3 : Nat) (h : N = 256 * (256 * (256 * d + c) + b) + a) (h1 : N1 = N - ((N >>> 1) &&& 1431655765)) (h2 : N2 = (N1 &&& 858993459) + ((N1 >>> 2) &&& 858993459)) (h3 : N3 = (N2 + (N2 >>> 4)) &&& 252645135) :
    ((N >>> 1) &&& 1431655765 ≤ N) ∧ N1 < 2 ^ 32 ∧ N2 < 2 ^ 31 ∧ N2 + (N2 >>> 4) < 2 ^ 32 ∧ N3 = 256 * (256 * (256 * pc8 d + pc8 c) + pc8 b) + pc8 a := by
  have la := b1_le ⟨a, ha⟩
  have lb := b1_le ⟨b, hb⟩
  have lc := b1_le ⟨c, hc⟩
  have ld := b1_le ⟨d, hd⟩
  have ka := b2_le ⟨a, ha⟩
  have kb := b2_le ⟨b, hb⟩
  have kc := b2_le ⟨c, hc⟩
  have kd := b2_le ⟨d, hd⟩
  simp only at la lb lc ld ka kb kc kd
  have d1 := st1 0 0 d hd (by simp)
  simp only [Nat.mul_zero, Nat.zero_add, Nat.zero_shiftRight, Nat.zero_and, Nat.sub_zero] at d1
  have c1 := st1 d 85 c hc (by rw [d1.1]; omega)
  rw [d1.2, d1.1] at c1
  have b1' := st1 (256 * d + c) (256 * 85 + 85) b hb (by rw [c1.1]; omega)
  rw [c1.2, c1.1] at b1'
  have a1' := st1 (256 * (256 * d + c) + b) (256 * (256 * 85 + 85) + 85) a ha (by rw [b1'.1]; omega)
  rw [b1'.2, b1'.1] at a1'
  rw [← h, show 256 * (256 * (256 * 85 + 85) + 85) + 85 = 1431655765 from rfl] at a1'
  have hN1 : N1 = 256 * (256 * (256 * (d - b1 d) + (c - b1 c)) + (b - b1 b)) + (a - b1 a) := by rw [h1]; exact a1'.2
  have d2 := st2 0 0 d hd
  simp only [Nat.mul_zero, Nat.zero_add, Nat.zero_shiftRight, Nat.zero_and] at d2
  have c2 := st2 (d - b1 d) 51 c hc
  rw [d2] at c2
  have b2' := st2 (256 * (d - b1 d) + (c - b1 c)) (256 * 51 + 51) b hb
  rw [c2] at b2'
  have a2' := st2 (256 * (256 * (d - b1 d) + (c - b1 c)) + (b - b1 b)) (256 * (256 * 51 + 51) + 51) a ha
  rw [b2', ← hN1, show 256 * (256 * (256 * 51 + 51) + 51) + 51 = 858993459 from rfl] at a2'
  have hN2 : N2 = 256 * (256 * (256 * b2 (d - b1 d) + b2 (c - b1 c)) + b2 (b - b1 b)) + b2 (a - b1 a) := by rw [h2]; exact a2'
  have d3 := st3 0 0 d hd (by simp)
  simp only [Nat.mul_zero, Nat.zero_add, Nat.zero_shiftRight, Nat.zero_and] at d3
  have c3 := st3 (b2 (d - b1 d)) 15 c hc (by omega)
  rw [d3] at c3
  have b3' := st3 (256 * b2 (d - b1 d) + b2 (c - b1 c)) (256 * 15 + 15) b hb (by omega)
  rw [c3] at b3'
  have a3' := st3 (256 * (256 * b2 (d - b1 d) + b2 (c - b1 c)) + b2 (b - b1 b)) (256 * (256 * 15 + 15) + 15) a ha (by omega)
  rw [b3', ← hN2, show 256 * (256 * (256 * 15 + 15) + 15) + 15 = 252645135 from rfl] at a3'
  refine ⟨by rw [a1'.1]; omega, by omega, by omega, ?_, by rw [h3]; exact a3'⟩
  rw [Nat.shiftRight_eq_div_pow]
  omega
