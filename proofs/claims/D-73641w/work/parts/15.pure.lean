set_option maxRecDepth 100000
/-! static methods of whole numbers alone: the heap stays -/
def xC (y : MethodName) (cc : ByteArray) (nL : Nat) (ret : Option FieldType) (d : Nat) (as : List rr_V) (r : Option rr_V) : Prop :=
  ∀ (G : rr_G) (h : rr_H) (nx : Nat), rr_Cn G y cc nL ret d 0 0 as h nx (fun r2 h2 n2 => r2 = r ∧ h2 = h ∧ n2 = nx)
theorem xC.of {y : MethodName} {cc : ByteArray} {nL : Nat} {ret : Option FieldType} {d : Nat} {as : List rr_V} {r : Option rr_V} (hy : plainName y.cls = true) (ha : (as.map some).all rr_nj = true) (hn : as.length ≤ nL)
    (k : ∀ (G : rr_G) (h : rr_H) (nx : Nat), rr_R G y cc nL ret d 0 0 (rr_N G 0 0 (fun r2 h2 n2 => r2 = r ∧ h2 = h ∧ n2 = nx)) 0 (as.map some ++ List.replicate (nL - as.length) none) [] h nx 0 0) : xC y cc nL ret d as r := fun G h nx => rr_entry hy ha hn (k G h nx)
section MATH
variable {G : rr_G} {y : MethodName} {cc : ByteArray} {nL : Nat} {ret : Option FieldType} {d mc ms : Nat} {Q : List Frame → Array Value → State → State → Prop} {pc : Nat} {ls : List (Option rr_V)} {st : List rr_V} {h : rr_H} {nx cu su : Nat}
theorem x_mmin {a b : Int} {idx : Nat} (hab : (-2147483648 ≤ a ∧ a < 2147483648) ∧ -2147483648 ≤ b ∧ b < 2147483648) (hq : Cond.methodLink y.cls idx yJ2_min ∈ lw_all) (hd : 1 ≤ d) (hw : rr_wd st ≤ 8) (dg : decode cc pc = .ok (.invokestatic idx, 3)) (k : rr_R G y cc nL ret d mc ms Q (pc + 3) ls (vI (min a b) :: st) h nx cu su) (hc : cu ≤ mc := by exact Nat.le_refl _) (hs : su ≤ ms := by exact Nat.le_refl _) : rr_R G y cc nL ret d mc ms Q pc ls (vI b :: vI a :: st) h nx cu su := by
  intro p e s m args below meth c H locs la hC hr hS hL
  have hts := hC.2.2.2.2.2.1
  have kk := k p e s m args below meth c H locs la hC hr hS hL
  have hm : min a b = if b < a then b else a := by split <;> omega
  refine va_mmin hC.1 hC.2.1 (by rw [hC.2.2.2.1]; exact hL.1.1.symm) hC.2.2.2.2.1 (hts _ hq) (hts _ fJ2_min.1) (hts _ fJ2_min.2.1) (hts _ fJ2_min.2.2.1) (by unfold rr_rm; dsimp only; split <;> omega) (by rw [rr_wd_eq]; unfold rr_rm; dsimp only; omega) hc hs dg ?_
  rw [show (if Int32.ofInt b < Int32.ofInt a then Int32.ofInt b else Int32.ofInt a) = Int32.ofInt (min a b) by
    rw [hm]
    by_cases q : b < a
    · rw [if_pos q, if_pos ((rr_lt_iff hab.2 hab.1).mpr q)]
    · rw [if_neg q, if_neg (fun z => q ((rr_lt_iff hab.2 hab.1).mp z))]]
  exact kk
theorem x_mmax {a b : Int} {idx : Nat} (hab : (-2147483648 ≤ a ∧ a < 2147483648) ∧ -2147483648 ≤ b ∧ b < 2147483648) (hq : Cond.methodLink y.cls idx yJ2_max ∈ lw_all) (hd : 1 ≤ d) (hw : rr_wd st ≤ 8) (dg : decode cc pc = .ok (.invokestatic idx, 3)) (k : rr_R G y cc nL ret d mc ms Q (pc + 3) ls (vI (max a b) :: st) h nx cu su) (hc : cu ≤ mc := by exact Nat.le_refl _) (hs : su ≤ ms := by exact Nat.le_refl _) : rr_R G y cc nL ret d mc ms Q pc ls (vI b :: vI a :: st) h nx cu su := by
  intro p e s m args below meth c H locs la hC hr hS hL
  have hts := hC.2.2.2.2.2.1
  have kk := k p e s m args below meth c H locs la hC hr hS hL
  have hm : max a b = if a < b then b else a := by split <;> omega
  refine va_mmax hC.1 hC.2.1 (by rw [hC.2.2.2.1]; exact hL.1.1.symm) hC.2.2.2.2.1 (hts _ hq) (hts _ fJ2_max.1) (hts _ fJ2_max.2.1) (hts _ fJ2_max.2.2.1) (by unfold rr_rm; dsimp only; split <;> omega) (by rw [rr_wd_eq]; unfold rr_rm; dsimp only; omega) hc hs dg ?_
  rw [show (if Int32.ofInt a < Int32.ofInt b then Int32.ofInt b else Int32.ofInt a) = Int32.ofInt (max a b) by
    rw [hm]
    by_cases q : a < b
    · rw [if_pos q, if_pos ((rr_lt_iff hab.1 hab.2).mpr q)]
    · rw [if_neg q, if_neg (fun z => q ((rr_lt_iff hab.1 hab.2).mp z))]]
  exact kk
end MATH
