set_option maxRecDepth 100000
/-! bits of a number -/
def tb (z k : Int) : Prop := (Int32.ofInt z).toBitVec.getLsbD k.toNat = true
theorem tb_0 (k : Int) : ¬ tb 0 k := by
  unfold tb
  rw [show (Int32.ofInt 0).toBitVec = 0#32 by decide]
  simp
theorem tb_or (a b k : Int) : tb (rr_or a b) k ↔ tb a k ∨ tb b k := by
  unfold tb rr_or
  rw [rr_oi, Int32.toBitVec_or, BitVec.getLsbD_or]
  simp
theorem tb_and (a b k : Int) : tb (rr_and a b) k ↔ tb a k ∧ tb b k := by
  unfold tb rr_and
  rw [rr_oi, Int32.toBitVec_and, BitVec.getLsbD_and]
  simp
theorem tb_shl1F : ∀ c : Fin 32, ∀ k : Fin 32, ((Int32.ofInt 1) <<< (Int32.ofInt (c.val : Int) &&& 31)).toBitVec.getLsbD k.val = decide (k.val = c.val) := by decide +kernel
theorem tb_shl1 {c k : Int} (hc : 0 ≤ c ∧ c < 32) (hk : 0 ≤ k ∧ k < 32) : tb (rr_shl 1 c) k ↔ k = c := by
  unfold tb rr_shl
  rw [rr_oi]
  have h := tb_shl1F ⟨c.toNat, by omega⟩ ⟨k.toNat, by omega⟩
  simp only at h
  rw [show ((c.toNat : Nat) : Int) = c by omega] at h
  rw [h, decide_eq_true_eq]
  omega
theorem tb_big {z k : Int} (h : 32 ≤ k) : ¬ tb z k := by
  unfold tb
  rw [BitVec.getLsbD_of_ge _ _ (by omega)]
  simp
